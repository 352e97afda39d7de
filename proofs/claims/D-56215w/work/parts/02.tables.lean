set_option maxRecDepth 100000
def RX0 : String := "ColourOfficeLaw"
def RX1 : String := "ColourOffice"
def TX1 : u_T := fun k => match k with
  | 0 => ("ColourOffice", "office", "LColourOffice$Office;", false)
  | 1 => ("ColourOffice", "snapshot", "LColourOffice$Office;", false)
  | 2 => ("ColourOffice", "past", "LColourOffice$Past;", true)
  | 3 => ("ColourOffice", "script", "Ljava/lang/StringBuilder;", true)
  | 4 => ("ColourOffice", "errorPosition", "I", false)
  | 5 => ("ColourOffice", "failedCommand", "I", false)
  | 6 => ("ColourOffice", "failureKind", "C", false)
  | _ => ("ColourOffice", "output", "Ljava/lang/String;", false)
def tyX1 : Nat → FieldType := fun k => match k with
  | 0 => .object "ColourOffice$Office"
  | 1 => .object "ColourOffice$Office"
  | 2 => .object "ColourOffice$Past"
  | 3 => .object "java/lang/StringBuilder"
  | 4 => .int
  | 5 => .int
  | 6 => .char
  | _ => .object "java/lang/String"
abbrev wsX10 : List Cond := u_ws RX1 TX1 8
theorem nmX1 : ∀ a, a < 8 → ∀ b, b < 8 → a ≠ b → (TX1 a).2.1 ≠ (TX1 b).2.1 := by decide +kernel
theorem tyX1_ok : ∀ k, k < 8 → parseFieldDescriptor (TX1 k).2.2.1 = some (tyX1 k) := by decide +kernel
def RX2 : String := "ColourOffice$Office"
def TX2 : u_T := fun k => match k with
  | 0 => ("ColourOffice$Office", "shelf", "LColourOffice$Shelf;", false)
  | 1 => ("ColourOffice$Office", "reports", "Ljava/util/List;", true)
  | 2 => ("ColourOffice$Office", "metric", "C", false)
  | 3 => ("ColourOffice$Office", "nextColour", "I", false)
  | 4 => ("ColourOffice$Office", "nextReport", "I", false)
  | 5 => ("ColourOffice$Office", "day", "I", false)
  | 6 => ("ColourOffice$Office", "coins", "I", false)
  | 7 => ("ColourOffice$Office", "rewards", "I", false)
  | 8 => ("ColourOffice$Office", "discarded", "I", false)
  | _ => ("ColourOffice$Office", "returned", "I", false)
def tyX2 : Nat → FieldType := fun k => match k with
  | 0 => .object "ColourOffice$Shelf"
  | 1 => .object "java/util/List"
  | 2 => .char
  | 3 => .int
  | 4 => .int
  | 5 => .int
  | 6 => .int
  | 7 => .int
  | 8 => .int
  | _ => .int
abbrev wsX20 : List Cond := u_ws RX2 TX2 10
theorem nmX2 : ∀ a, a < 10 → ∀ b, b < 10 → a ≠ b → (TX2 a).2.1 ≠ (TX2 b).2.1 := by decide +kernel
theorem tyX2_ok : ∀ k, k < 10 → parseFieldDescriptor (TX2 k).2.2.1 = some (tyX2 k) := by decide +kernel
def RX3 : String := "ColourOffice$Shelf"
def TX3 : u_T := fun k => match k with
  | 0 => ("ColourOffice$Shelf", "places", "[LColourOffice$Found;", true)
  | _ => ("ColourOffice$Shelf", "count", "I", false)
def tyX3 : Nat → FieldType := fun k => match k with
  | 0 => .array (.object "ColourOffice$Found")
  | _ => .int
abbrev wsX30 : List Cond := u_ws RX3 TX3 2
theorem nmX3 : ∀ a, a < 2 → ∀ b, b < 2 → a ≠ b → (TX3 a).2.1 ≠ (TX3 b).2.1 := by decide +kernel
theorem tyX3_ok : ∀ k, k < 2 → parseFieldDescriptor (TX3 k).2.2.1 = some (tyX3 k) := by decide +kernel
def RJ0 : String := "java/util/AbstractCollection"
def RJ1 : String := "java/util/AbstractList"
def RJ2 : String := "java/util/ArrayList"
def TJ2 : u_T := fun k => match k with
  | 0 => ("java/util/AbstractList", "modCount", "I", false)
  | 1 => ("java/util/ArrayList", "elementData", "[Ljava/lang/Object;", false)
  | _ => ("java/util/ArrayList", "size", "I", false)
def tyJ2 : Nat → FieldType := fun k => match k with
  | 0 => .int
  | 1 => .array (.object "java/lang/Object")
  | _ => .int
abbrev wsJ20 : List Cond := u_ws RJ2 TJ2 3
theorem nmJ2 : ∀ a, a < 3 → ∀ b, b < 3 → a ≠ b → (TJ2 a).2.1 ≠ (TJ2 b).2.1 := by decide +kernel
theorem tyJ2_ok : ∀ k, k < 3 → parseFieldDescriptor (TJ2 k).2.2.1 = some (tyJ2 k) := by decide +kernel
def RX4 : String := "ColourOffice$Past"
def TX4 : u_T := fun k => match k with
  | _ => ("ColourOffice$Past", "offices", "Ljava/util/LinkedList;", true)
def tyX4 : Nat → FieldType := fun k => match k with
  | _ => .object "java/util/LinkedList"
abbrev wsX40 : List Cond := u_ws RX4 TX4 1
theorem nmX4 : ∀ a, a < 1 → ∀ b, b < 1 → a ≠ b → (TX4 a).2.1 ≠ (TX4 b).2.1 := by decide +kernel
theorem tyX4_ok : ∀ k, k < 1 → parseFieldDescriptor (TX4 k).2.2.1 = some (tyX4 k) := by decide +kernel
def RJ3 : String := "java/util/AbstractSequentialList"
def RJ4 : String := "java/util/LinkedList"
def TJ4 : u_T := fun k => match k with
  | 0 => ("java/util/AbstractList", "modCount", "I", false)
  | 1 => ("java/util/LinkedList", "size", "I", false)
  | 2 => ("java/util/LinkedList", "first", "Ljava/util/LinkedList$Node;", false)
  | _ => ("java/util/LinkedList", "last", "Ljava/util/LinkedList$Node;", false)
def tyJ4 : Nat → FieldType := fun k => match k with
  | 0 => .int
  | 1 => .int
  | 2 => .object "java/util/LinkedList$Node"
  | _ => .object "java/util/LinkedList$Node"
abbrev wsJ40 : List Cond := u_ws RJ4 TJ4 4
theorem nmJ4 : ∀ a, a < 4 → ∀ b, b < 4 → a ≠ b → (TJ4 a).2.1 ≠ (TJ4 b).2.1 := by decide +kernel
theorem tyJ4_ok : ∀ k, k < 4 → parseFieldDescriptor (TJ4 k).2.2.1 = some (tyJ4 k) := by decide +kernel
def RJ5 : String := "java/lang/AbstractStringBuilder"
def RJ6 : String := "java/lang/StringBuilder"
def TJ6 : u_T := fun k => match k with
  | 0 => ("java/lang/AbstractStringBuilder", "value", "[B", false)
  | 1 => ("java/lang/AbstractStringBuilder", "coder", "B", false)
  | 2 => ("java/lang/AbstractStringBuilder", "maybeLatin1", "Z", false)
  | _ => ("java/lang/AbstractStringBuilder", "count", "I", false)
def tyJ6 : Nat → FieldType := fun k => match k with
  | 0 => .array .byte
  | 1 => .byte
  | 2 => .boolean
  | _ => .int
abbrev wsJ60 : List Cond := u_ws RJ6 TJ6 4
theorem nmJ6 : ∀ a, a < 4 → ∀ b, b < 4 → a ≠ b → (TJ6 a).2.1 ≠ (TJ6 b).2.1 := by decide +kernel
theorem tyJ6_ok : ∀ k, k < 4 → parseFieldDescriptor (TJ6 k).2.2.1 = some (tyJ6 k) := by decide +kernel
def RJ7 : String := "java/lang/String"
def TJ7 : u_T := fun k => match k with
  | 0 => ("java/lang/String", "value", "[B", true)
  | 1 => ("java/lang/String", "coder", "B", true)
  | 2 => ("java/lang/String", "hash", "I", false)
  | _ => ("java/lang/String", "hashIsZero", "Z", false)
def tyJ7 : Nat → FieldType := fun k => match k with
  | 0 => .array .byte
  | 1 => .byte
  | 2 => .int
  | _ => .boolean
abbrev wsJ70 : List Cond := u_ws RJ7 TJ7 4
theorem nmJ7 : ∀ a, a < 4 → ∀ b, b < 4 → a ≠ b → (TJ7 a).2.1 ≠ (TJ7 b).2.1 := by decide +kernel
theorem tyJ7_ok : ∀ k, k < 4 → parseFieldDescriptor (TJ7 k).2.2.1 = some (tyJ7 k) := by decide +kernel
def RJ8 : String := "java/lang/StringUTF16"
def RX5 : String := "ColourOfficeModel"
def TX5 : u_T := fun k => match k with
  | 0 => ("ColourOfficeModel", "now", "[I", true)
  | 1 => ("ColourOfficeModel", "before", "[I", true)
  | 2 => ("ColourOfficeModel", "saved", "[I", true)
  | 3 => ("ColourOfficeModel", "history", "[I", true)
  | 4 => ("ColourOfficeModel", "best", "[I", true)
  | 5 => ("ColourOfficeModel", "thrown", "I", false)
  | 6 => ("ColourOfficeModel", "depth", "I", false)
  | 7 => ("ColourOfficeModel", "wrongAt", "I", false)
  | 8 => ("ColourOfficeModel", "failedAt", "I", false)
  | 9 => ("ColourOfficeModel", "failure", "I", false)
  | 10 => ("ColourOfficeModel", "isSaved", "Z", false)
  | 11 => ("ColourOfficeModel", "givenReports", "[I", true)
  | 12 => ("ColourOfficeModel", "givenColours", "[I", true)
  | 13 => ("ColourOfficeModel", "output", "[I", true)
  | 14 => ("ColourOfficeModel", "outputLength", "I", false)
  | 15 => ("ColourOfficeModel", "input", "[I", true)
  | 16 => ("ColourOfficeModel", "kinds", "[I", true)
  | 17 => ("ColourOfficeModel", "arguments", "[I", true)
  | 18 => ("ColourOfficeModel", "length", "I", false)
  | 19 => ("ColourOfficeModel", "scriptLength", "I", false)
  | 20 => ("ColourOfficeModel", "at", "I", false)
  | 21 => ("ColourOfficeModel", "commands", "I", false)
  | _ => ("ColourOfficeModel", "isWrong", "Z", false)
def tyX5 : Nat → FieldType := fun k => match k with
  | 0 => .array .int
  | 1 => .array .int
  | 2 => .array .int
  | 3 => .array .int
  | 4 => .array .int
  | 5 => .int
  | 6 => .int
  | 7 => .int
  | 8 => .int
  | 9 => .int
  | 10 => .boolean
  | 11 => .array .int
  | 12 => .array .int
  | 13 => .array .int
  | 14 => .int
  | 15 => .array .int
  | 16 => .array .int
  | 17 => .array .int
  | 18 => .int
  | 19 => .int
  | 20 => .int
  | 21 => .int
  | _ => .boolean
abbrev wsX50 : List Cond := u_ws RX5 TX5 23
theorem nmX5 : ∀ a, a < 23 → ∀ b, b < 23 → a ≠ b → (TX5 a).2.1 ≠ (TX5 b).2.1 := by decide +kernel
theorem tyX5_ok : ∀ k, k < 23 → parseFieldDescriptor (TX5 k).2.2.1 = some (tyX5 k) := by decide +kernel
def RX6 : String := "ColourOffice$Shelf$Walk"
def TX6 : u_T := fun k => match k with
  | 0 => ("ColourOffice$Shelf$Walk", "next", "I", false)
  | _ => ("ColourOffice$Shelf$Walk", "this$0", "LColourOffice$Shelf;", true)
def tyX6 : Nat → FieldType := fun k => match k with
  | 0 => .int
  | _ => .object "ColourOffice$Shelf"
abbrev wsX60 : List Cond := u_ws RX6 TX6 2
theorem nmX6 : ∀ a, a < 2 → ∀ b, b < 2 → a ≠ b → (TX6 a).2.1 ≠ (TX6 b).2.1 := by decide +kernel
theorem tyX6_ok : ∀ k, k < 2 → parseFieldDescriptor (TX6 k).2.2.1 = some (tyX6 k) := by decide +kernel
def RJ9 : String := "java/lang/Throwable"
def TJ9 : u_T := fun k => match k with
  | 0 => ("java/lang/Throwable", "cause", "Ljava/lang/Throwable;", false)
  | 1 => ("java/lang/Throwable", "stackTrace", "[Ljava/lang/StackTraceElement;", false)
  | 2 => ("java/lang/Throwable", "suppressedExceptions", "Ljava/util/List;", false)
  | 3 => ("java/lang/Throwable", "detailMessage", "Ljava/lang/String;", false)
  | _ => ("java/lang/Throwable", "backtrace", "Ljava/lang/Object;", false)
def tyJ9 : Nat → FieldType := fun k => match k with
  | 0 => .object "java/lang/Throwable"
  | 1 => .array (.object "java/lang/StackTraceElement")
  | 2 => .object "java/util/List"
  | 3 => .object "java/lang/String"
  | _ => .object "java/lang/Object"
abbrev wsJ90 : List Cond := u_ws RJ9 TJ9 5
theorem nmJ9 : ∀ a, a < 5 → ∀ b, b < 5 → a ≠ b → (TJ9 a).2.1 ≠ (TJ9 b).2.1 := by decide +kernel
theorem tyJ9_ok : ∀ k, k < 5 → parseFieldDescriptor (TJ9 k).2.2.1 = some (tyJ9 k) := by decide +kernel
def RJ10 : String := "java/lang/Exception"
def RJ11 : String := "java/lang/RuntimeException"
def RJ12 : String := "java/util/NoSuchElementException"
def TJ12 : u_T := fun k => match k with
  | 0 => ("java/lang/Throwable", "cause", "Ljava/lang/Throwable;", false)
  | 1 => ("java/lang/Throwable", "stackTrace", "[Ljava/lang/StackTraceElement;", false)
  | 2 => ("java/lang/Throwable", "suppressedExceptions", "Ljava/util/List;", false)
  | 3 => ("java/lang/Throwable", "detailMessage", "Ljava/lang/String;", false)
  | 4 => ("java/lang/Throwable", "backtrace", "Ljava/lang/Object;", false)
  | _ => ("java/lang/Throwable", "depth", "I", false)
def tyJ12 : Nat → FieldType := fun k => match k with
  | 0 => .object "java/lang/Throwable"
  | 1 => .array (.object "java/lang/StackTraceElement")
  | 2 => .object "java/util/List"
  | 3 => .object "java/lang/String"
  | 4 => .object "java/lang/Object"
  | _ => .int
abbrev wsJ120 : List Cond := u_ws RJ12 TJ12 6
theorem nmJ12 : ∀ a, a < 6 → ∀ b, b < 6 → a ≠ b → (TJ12 a).2.1 ≠ (TJ12 b).2.1 := by decide +kernel
theorem tyJ12_ok : ∀ k, k < 6 → parseFieldDescriptor (TJ12 k).2.2.1 = some (tyJ12 k) := by decide +kernel
def RX7 : String := "ColourOffice$Found"
def TX7 : u_T := fun k => match k with
  | 0 => ("ColourOffice$Found", "id", "I", true)
  | 1 => ("ColourOffice$Found", "fastness", "I", true)
  | 2 => ("ColourOffice$Found", "tint", "LColourOffice$Tint;", false)
  | _ => ("ColourOffice$Found", "age", "I", false)
def tyX7 : Nat → FieldType := fun k => match k with
  | 0 => .int
  | 1 => .int
  | 2 => .object "ColourOffice$Tint"
  | _ => .int
abbrev wsX70 : List Cond := u_ws RX7 TX7 4
theorem nmX7 : ∀ a, a < 4 → ∀ b, b < 4 → a ≠ b → (TX7 a).2.1 ≠ (TX7 b).2.1 := by decide +kernel
theorem tyX7_ok : ∀ k, k < 4 → parseFieldDescriptor (TX7 k).2.2.1 = some (tyX7 k) := by decide +kernel
def RJ13 : String := "java/util/Objects"
def RJ14 : String := "jdk/internal/util/Preconditions"
def RJ15 : String := "java/lang/IndexOutOfBoundsException"
def TJ15 : u_T := fun k => match k with
  | 0 => ("java/lang/Throwable", "cause", "Ljava/lang/Throwable;", false)
  | 1 => ("java/lang/Throwable", "stackTrace", "[Ljava/lang/StackTraceElement;", false)
  | 2 => ("java/lang/Throwable", "suppressedExceptions", "Ljava/util/List;", false)
  | 3 => ("java/lang/Throwable", "detailMessage", "Ljava/lang/String;", false)
  | 4 => ("java/lang/Throwable", "backtrace", "Ljava/lang/Object;", false)
  | _ => ("java/lang/Throwable", "depth", "I", false)
def tyJ15 : Nat → FieldType := fun k => match k with
  | 0 => .object "java/lang/Throwable"
  | 1 => .array (.object "java/lang/StackTraceElement")
  | 2 => .object "java/util/List"
  | 3 => .object "java/lang/String"
  | 4 => .object "java/lang/Object"
  | _ => .int
abbrev wsJ150 : List Cond := u_ws RJ15 TJ15 6
theorem nmJ15 : ∀ a, a < 6 → ∀ b, b < 6 → a ≠ b → (TJ15 a).2.1 ≠ (TJ15 b).2.1 := by decide +kernel
theorem tyJ15_ok : ∀ k, k < 6 → parseFieldDescriptor (TJ15 k).2.2.1 = some (tyJ15 k) := by decide +kernel
def RJ16 : String := "jdk/internal/util/ArraysSupport"
def RJ17 : String := "java/lang/Math"
def RJ18 : String := "java/util/Arrays"
def RJ19 : String := "java/lang/StringLatin1"
def RJ20 : String := "java/lang/Integer"
def RJ21 : String := "java/lang/IllegalArgumentException"
def TJ21 : u_T := fun k => match k with
  | 0 => ("java/lang/Throwable", "cause", "Ljava/lang/Throwable;", false)
  | 1 => ("java/lang/Throwable", "stackTrace", "[Ljava/lang/StackTraceElement;", false)
  | 2 => ("java/lang/Throwable", "suppressedExceptions", "Ljava/util/List;", false)
  | 3 => ("java/lang/Throwable", "detailMessage", "Ljava/lang/String;", false)
  | 4 => ("java/lang/Throwable", "backtrace", "Ljava/lang/Object;", false)
  | _ => ("java/lang/Throwable", "depth", "I", false)
def tyJ21 : Nat → FieldType := fun k => match k with
  | 0 => .object "java/lang/Throwable"
  | 1 => .array (.object "java/lang/StackTraceElement")
  | 2 => .object "java/util/List"
  | 3 => .object "java/lang/String"
  | 4 => .object "java/lang/Object"
  | _ => .int
abbrev wsJ210 : List Cond := u_ws RJ21 TJ21 6
theorem nmJ21 : ∀ a, a < 6 → ∀ b, b < 6 → a ≠ b → (TJ21 a).2.1 ≠ (TJ21 b).2.1 := by decide +kernel
theorem tyJ21_ok : ∀ k, k < 6 → parseFieldDescriptor (TJ21 k).2.2.1 = some (tyJ21 k) := by decide +kernel
def RJ22 : String := "java/util/LinkedList$Node"
def TJ22 : u_T := fun k => match k with
  | 0 => ("java/util/LinkedList$Node", "item", "Ljava/lang/Object;", false)
  | 1 => ("java/util/LinkedList$Node", "next", "Ljava/util/LinkedList$Node;", false)
  | _ => ("java/util/LinkedList$Node", "prev", "Ljava/util/LinkedList$Node;", false)
def tyJ22 : Nat → FieldType := fun k => match k with
  | 0 => .object "java/lang/Object"
  | 1 => .object "java/util/LinkedList$Node"
  | _ => .object "java/util/LinkedList$Node"
abbrev wsJ220 : List Cond := u_ws RJ22 TJ22 3
theorem nmJ22 : ∀ a, a < 3 → ∀ b, b < 3 → a ≠ b → (TJ22 a).2.1 ≠ (TJ22 b).2.1 := by decide +kernel
theorem tyJ22_ok : ∀ k, k < 3 → parseFieldDescriptor (TJ22 k).2.2.1 = some (tyJ22 k) := by decide +kernel
def RX8 : String := "ColourOffice$Command"
def TX8 : u_T := fun k => match k with
  | 0 => ("ColourOffice$Command", "word", "Ljava/lang/String;", true)
  | _ => ("ColourOffice$Command", "arguments", "[I", true)
def tyX8 : Nat → FieldType := fun k => match k with
  | 0 => .object "java/lang/String"
  | _ => .array .int
abbrev wsX80 : List Cond := u_ws RX8 TX8 2
theorem nmX8 : ∀ a, a < 2 → ∀ b, b < 2 → a ≠ b → (TX8 a).2.1 ≠ (TX8 b).2.1 := by decide +kernel
theorem tyX8_ok : ∀ k, k < 2 → parseFieldDescriptor (TX8 k).2.2.1 = some (tyX8 k) := by decide +kernel
def RX9 : String := "ColourOffice$Failure"
def RX10 : String := "ColourOffice$ConditionFailure"
def TX10 : u_T := fun k => match k with
  | 0 => ("java/lang/Throwable", "cause", "Ljava/lang/Throwable;", false)
  | 1 => ("java/lang/Throwable", "stackTrace", "[Ljava/lang/StackTraceElement;", false)
  | 2 => ("java/lang/Throwable", "suppressedExceptions", "Ljava/util/List;", false)
  | 3 => ("java/lang/Throwable", "detailMessage", "Ljava/lang/String;", false)
  | 4 => ("java/lang/Throwable", "backtrace", "Ljava/lang/Object;", false)
  | 5 => ("java/lang/Throwable", "depth", "I", false)
  | _ => ("ColourOffice$ConditionFailure", "kind", "C", true)
def tyX10 : Nat → FieldType := fun k => match k with
  | 0 => .object "java/lang/Throwable"
  | 1 => .array (.object "java/lang/StackTraceElement")
  | 2 => .object "java/util/List"
  | 3 => .object "java/lang/String"
  | 4 => .object "java/lang/Object"
  | 5 => .int
  | _ => .char
abbrev wsX100 : List Cond := u_ws RX10 TX10 7
theorem nmX10 : ∀ a, a < 7 → ∀ b, b < 7 → a ≠ b → (TX10 a).2.1 ≠ (TX10 b).2.1 := by decide +kernel
theorem tyX10_ok : ∀ k, k < 7 → parseFieldDescriptor (TX10 k).2.2.1 = some (tyX10 k) := by decide +kernel
def RX11 : String := "ColourOffice$Tint"
def TX11 : u_T := fun k => match k with
  | _ => ("ColourOffice$Tint", "parts", "[I", true)
def tyX11 : Nat → FieldType := fun k => match k with
  | _ => .array .int
abbrev wsX110 : List Cond := u_ws RX11 TX11 1
theorem nmX11 : ∀ a, a < 1 → ∀ b, b < 1 → a ≠ b → (TX11 a).2.1 ≠ (TX11 b).2.1 := by decide +kernel
theorem tyX11_ok : ∀ k, k < 1 → parseFieldDescriptor (TX11 k).2.2.1 = some (tyX11 k) := by decide +kernel
def RX12 : String := "ColourOffice$Report"
def TX12 : u_T := fun k => match k with
  | 0 => ("ColourOffice$Report", "id", "I", true)
  | 1 => ("ColourOffice$Report", "tint", "LColourOffice$Tint;", true)
  | 2 => ("ColourOffice$Report", "tolerance", "I", true)
  | _ => ("ColourOffice$Report", "reward", "I", true)
def tyX12 : Nat → FieldType := fun k => match k with
  | 0 => .int
  | 1 => .object "ColourOffice$Tint"
  | 2 => .int
  | _ => .int
abbrev wsX120 : List Cond := u_ws RX12 TX12 4
theorem nmX12 : ∀ a, a < 4 → ∀ b, b < 4 → a ≠ b → (TX12 a).2.1 ≠ (TX12 b).2.1 := by decide +kernel
theorem tyX12_ok : ∀ k, k < 4 → parseFieldDescriptor (TX12 k).2.2.1 = some (tyX12 k) := by decide +kernel
def RJ23 : String := "java/lang/Character"
def RX13 : String := "ColourOffice$Tree"
def TX13 : u_T := fun k => match k with
  | 0 => ("ColourOffice$Tree", "metric", "LColourOffice$Metric;", true)
  | 1 => ("ColourOffice$Tree", "shelf", "LColourOffice$Shelf;", true)
  | _ => ("ColourOffice$Tree", "root", "LColourOffice$Tree$Node;", true)
def tyX13 : Nat → FieldType := fun k => match k with
  | 0 => .object "ColourOffice$Metric"
  | 1 => .object "ColourOffice$Shelf"
  | _ => .object "ColourOffice$Tree$Node"
abbrev wsX130 : List Cond := u_ws RX13 TX13 3
theorem nmX13 : ∀ a, a < 3 → ∀ b, b < 3 → a ≠ b → (TX13 a).2.1 ≠ (TX13 b).2.1 := by decide +kernel
theorem tyX13_ok : ∀ k, k < 3 → parseFieldDescriptor (TX13 k).2.2.1 = some (tyX13 k) := by decide +kernel
def RX14 : String := "ColourOffice$Tree$Node"
def TX14 : u_T := fun k => match k with
  | 0 => ("ColourOffice$Tree$Node", "found", "LColourOffice$Found;", true)
  | 1 => ("ColourOffice$Tree$Node", "axis", "I", true)
  | 2 => ("ColourOffice$Tree$Node", "left", "LColourOffice$Tree$Node;", false)
  | 3 => ("ColourOffice$Tree$Node", "right", "LColourOffice$Tree$Node;", false)
  | _ => ("ColourOffice$Tree$Node", "this$0", "LColourOffice$Tree;", true)
def tyX14 : Nat → FieldType := fun k => match k with
  | 0 => .object "ColourOffice$Found"
  | 1 => .int
  | 2 => .object "ColourOffice$Tree$Node"
  | 3 => .object "ColourOffice$Tree$Node"
  | _ => .object "ColourOffice$Tree"
abbrev wsX140 : List Cond := u_ws RX14 TX14 5
theorem nmX14 : ∀ a, a < 5 → ∀ b, b < 5 → a ≠ b → (TX14 a).2.1 ≠ (TX14 b).2.1 := by decide +kernel
theorem tyX14_ok : ∀ k, k < 5 → parseFieldDescriptor (TX14 k).2.2.1 = some (tyX14 k) := by decide +kernel
def RJ24 : String := "java/util/Optional"
def TJ24 : u_T := fun k => match k with
  | _ => ("java/util/Optional", "value", "Ljava/lang/Object;", true)
def tyJ24 : Nat → FieldType := fun k => match k with
  | _ => .object "java/lang/Object"
abbrev wsJ240 : List Cond := u_ws RJ24 TJ24 1
theorem nmJ24 : ∀ a, a < 1 → ∀ b, b < 1 → a ≠ b → (TJ24 a).2.1 ≠ (TJ24 b).2.1 := by decide +kernel
theorem tyJ24_ok : ∀ k, k < 1 → parseFieldDescriptor (TJ24 k).2.2.1 = some (tyJ24 k) := by decide +kernel
def RX15 : String := "ColourOffice$Settlement"
def TX15 : u_T := fun k => match k with
  | 0 => ("ColourOffice$Settlement", "reports", "I", true)
  | 1 => ("ColourOffice$Settlement", "colours", "I", true)
  | 2 => ("ColourOffice$Settlement", "rewards", "[I", true)
  | _ => ("ColourOffice$Settlement", "distances", "[I", true)
def tyX15 : Nat → FieldType := fun k => match k with
  | 0 => .int
  | 1 => .int
  | 2 => .array .int
  | _ => .array .int
abbrev wsX150 : List Cond := u_ws RX15 TX15 4
theorem nmX15 : ∀ a, a < 4 → ∀ b, b < 4 → a ≠ b → (TX15 a).2.1 ≠ (TX15 b).2.1 := by decide +kernel
theorem tyX15_ok : ∀ k, k < 4 → parseFieldDescriptor (TX15 k).2.2.1 = some (tyX15 k) := by decide +kernel
def RJ25 : String := "java/lang/IllegalStateException"
def TJ25 : u_T := fun k => match k with
  | 0 => ("java/lang/Throwable", "cause", "Ljava/lang/Throwable;", false)
  | 1 => ("java/lang/Throwable", "stackTrace", "[Ljava/lang/StackTraceElement;", false)
  | 2 => ("java/lang/Throwable", "suppressedExceptions", "Ljava/util/List;", false)
  | 3 => ("java/lang/Throwable", "detailMessage", "Ljava/lang/String;", false)
  | 4 => ("java/lang/Throwable", "backtrace", "Ljava/lang/Object;", false)
  | _ => ("java/lang/Throwable", "depth", "I", false)
def tyJ25 : Nat → FieldType := fun k => match k with
  | 0 => .object "java/lang/Throwable"
  | 1 => .array (.object "java/lang/StackTraceElement")
  | 2 => .object "java/util/List"
  | 3 => .object "java/lang/String"
  | 4 => .object "java/lang/Object"
  | _ => .int
abbrev wsJ250 : List Cond := u_ws RJ25 TJ25 6
theorem nmJ25 : ∀ a, a < 6 → ∀ b, b < 6 → a ≠ b → (TJ25 a).2.1 ≠ (TJ25 b).2.1 := by decide +kernel
theorem tyJ25_ok : ∀ k, k < 6 → parseFieldDescriptor (TJ25 k).2.2.1 = some (tyJ25 k) := by decide +kernel
def RJ26 : String := "java/lang/UnsupportedOperationException"
def TJ26 : u_T := fun k => match k with
  | 0 => ("java/lang/Throwable", "cause", "Ljava/lang/Throwable;", false)
  | 1 => ("java/lang/Throwable", "stackTrace", "[Ljava/lang/StackTraceElement;", false)
  | 2 => ("java/lang/Throwable", "suppressedExceptions", "Ljava/util/List;", false)
  | 3 => ("java/lang/Throwable", "detailMessage", "Ljava/lang/String;", false)
  | 4 => ("java/lang/Throwable", "backtrace", "Ljava/lang/Object;", false)
  | _ => ("java/lang/Throwable", "depth", "I", false)
def tyJ26 : Nat → FieldType := fun k => match k with
  | 0 => .object "java/lang/Throwable"
  | 1 => .array (.object "java/lang/StackTraceElement")
  | 2 => .object "java/util/List"
  | 3 => .object "java/lang/String"
  | 4 => .object "java/lang/Object"
  | _ => .int
abbrev wsJ260 : List Cond := u_ws RJ26 TJ26 6
theorem nmJ26 : ∀ a, a < 6 → ∀ b, b < 6 → a ≠ b → (TJ26 a).2.1 ≠ (TJ26 b).2.1 := by decide +kernel
theorem tyJ26_ok : ∀ k, k < 6 → parseFieldDescriptor (TJ26 k).2.2.1 = some (tyJ26 k) := by decide +kernel
def RX16 : String := "ColourOffice$Office$1Sorted"
def TX16 : u_T := fun k => match k with
  | 0 => ("ColourOffice$Office$1Sorted", "tints", "Ljava/util/List;", true)
  | _ => ("ColourOffice$Office$1Sorted", "this$0", "LColourOffice$Office;", true)
def tyX16 : Nat → FieldType := fun k => match k with
  | 0 => .object "java/util/List"
  | _ => .object "ColourOffice$Office"
abbrev wsX160 : List Cond := u_ws RX16 TX16 2
theorem nmX16 : ∀ a, a < 2 → ∀ b, b < 2 → a ≠ b → (TX16 a).2.1 ≠ (TX16 b).2.1 := by decide +kernel
theorem tyX16_ok : ∀ k, k < 2 → parseFieldDescriptor (TX16 k).2.2.1 = some (tyX16 k) := by decide +kernel
def RX17 : String := "ColourOffice$Palettes"
def TX17 : u_T := fun k => match k with
  | 0 => ("ColourOffice$Palettes", "count", "I", true)
  | 1 => ("ColourOffice$Palettes", "distances", "[I", true)
  | _ => ("ColourOffice$Palettes", "least", "I", false)
def tyX17 : Nat → FieldType := fun k => match k with
  | 0 => .int
  | 1 => .array .int
  | _ => .int
abbrev wsX170 : List Cond := u_ws RX17 TX17 3
theorem nmX17 : ∀ a, a < 3 → ∀ b, b < 3 → a ≠ b → (TX17 a).2.1 ≠ (TX17 b).2.1 := by decide +kernel
theorem tyX17_ok : ∀ k, k < 3 → parseFieldDescriptor (TX17 k).2.2.1 = some (tyX17 k) := by decide +kernel
def RJ27 : String := "java/lang/ArithmeticException"
def TJ27 : u_T := fun k => match k with
  | 0 => ("java/lang/Throwable", "backtrace", "Ljava/lang/Object;", false)
  | 1 => ("java/lang/Throwable", "detailMessage", "Ljava/lang/String;", false)
  | 2 => ("java/lang/Throwable", "cause", "Ljava/lang/Throwable;", false)
  | 3 => ("java/lang/Throwable", "stackTrace", "[Ljava/lang/StackTraceElement;", false)
  | 4 => ("java/lang/Throwable", "depth", "I", false)
  | _ => ("java/lang/Throwable", "suppressedExceptions", "Ljava/util/List;", false)
def tyJ27 : Nat → FieldType := fun k => match k with
  | 0 => .object "java/lang/Object"
  | 1 => .object "java/lang/String"
  | 2 => .object "java/lang/Throwable"
  | 3 => .array (.object "java/lang/StackTraceElement")
  | 4 => .int
  | _ => .object "java/util/List"
abbrev wsJ270 : List Cond := u_ws RJ27 TJ27 6
theorem nmJ27 : ∀ a, a < 6 → ∀ b, b < 6 → a ≠ b → (TJ27 a).2.1 ≠ (TJ27 b).2.1 := by decide +kernel
theorem tyJ27_ok : ∀ k, k < 6 → parseFieldDescriptor (TJ27 k).2.2.1 = some (tyJ27 k) := by decide +kernel
def RJ28 : String := "java/lang/ArrayIndexOutOfBoundsException"
def TJ28 : u_T := fun k => match k with
  | 0 => ("java/lang/Throwable", "backtrace", "Ljava/lang/Object;", false)
  | 1 => ("java/lang/Throwable", "detailMessage", "Ljava/lang/String;", false)
  | 2 => ("java/lang/Throwable", "cause", "Ljava/lang/Throwable;", false)
  | 3 => ("java/lang/Throwable", "stackTrace", "[Ljava/lang/StackTraceElement;", false)
  | 4 => ("java/lang/Throwable", "depth", "I", false)
  | _ => ("java/lang/Throwable", "suppressedExceptions", "Ljava/util/List;", false)
def tyJ28 : Nat → FieldType := fun k => match k with
  | 0 => .object "java/lang/Object"
  | 1 => .object "java/lang/String"
  | 2 => .object "java/lang/Throwable"
  | 3 => .array (.object "java/lang/StackTraceElement")
  | 4 => .int
  | _ => .object "java/util/List"
abbrev wsJ280 : List Cond := u_ws RJ28 TJ28 6
theorem nmJ28 : ∀ a, a < 6 → ∀ b, b < 6 → a ≠ b → (TJ28 a).2.1 ≠ (TJ28 b).2.1 := by decide +kernel
theorem tyJ28_ok : ∀ k, k < 6 → parseFieldDescriptor (TJ28 k).2.2.1 = some (tyJ28 k) := by decide +kernel
def RX18 : String := "ColourOffice$Parser"
def TX18 : u_T := fun k => match k with
  | 0 => ("ColourOffice$Parser", "text", "Ljava/lang/String;", true)
  | _ => ("ColourOffice$Parser", "at", "I", false)
def tyX18 : Nat → FieldType := fun k => match k with
  | 0 => .object "java/lang/String"
  | _ => .int
abbrev wsX180 : List Cond := u_ws RX18 TX18 2
theorem nmX18 : ∀ a, a < 2 → ∀ b, b < 2 → a ≠ b → (TX18 a).2.1 ≠ (TX18 b).2.1 := by decide +kernel
theorem tyX18_ok : ∀ k, k < 2 → parseFieldDescriptor (TX18 k).2.2.1 = some (tyX18 k) := by decide +kernel
def RX19 : String := "ColourOffice$SyntaxFailure"
def TX19 : u_T := fun k => match k with
  | 0 => ("java/lang/Throwable", "cause", "Ljava/lang/Throwable;", false)
  | 1 => ("java/lang/Throwable", "stackTrace", "[Ljava/lang/StackTraceElement;", false)
  | 2 => ("java/lang/Throwable", "suppressedExceptions", "Ljava/util/List;", false)
  | 3 => ("java/lang/Throwable", "detailMessage", "Ljava/lang/String;", false)
  | 4 => ("java/lang/Throwable", "backtrace", "Ljava/lang/Object;", false)
  | 5 => ("java/lang/Throwable", "depth", "I", false)
  | _ => ("ColourOffice$SyntaxFailure", "position", "I", true)
def tyX19 : Nat → FieldType := fun k => match k with
  | 0 => .object "java/lang/Throwable"
  | 1 => .array (.object "java/lang/StackTraceElement")
  | 2 => .object "java/util/List"
  | 3 => .object "java/lang/String"
  | 4 => .object "java/lang/Object"
  | 5 => .int
  | _ => .int
abbrev wsX190 : List Cond := u_ws RX19 TX19 7
theorem nmX19 : ∀ a, a < 7 → ∀ b, b < 7 → a ≠ b → (TX19 a).2.1 ≠ (TX19 b).2.1 := by decide +kernel
theorem tyX19_ok : ∀ k, k < 7 → parseFieldDescriptor (TX19 k).2.2.1 = some (tyX19 k) := by decide +kernel
def RX20 : String := "ColourOffice$CommandFailure"
def TX20 : u_T := fun k => match k with
  | 0 => ("java/lang/Throwable", "cause", "Ljava/lang/Throwable;", false)
  | 1 => ("java/lang/Throwable", "stackTrace", "[Ljava/lang/StackTraceElement;", false)
  | 2 => ("java/lang/Throwable", "suppressedExceptions", "Ljava/util/List;", false)
  | 3 => ("java/lang/Throwable", "detailMessage", "Ljava/lang/String;", false)
  | 4 => ("java/lang/Throwable", "backtrace", "Ljava/lang/Object;", false)
  | 5 => ("java/lang/Throwable", "depth", "I", false)
  | _ => ("ColourOffice$CommandFailure", "index", "I", true)
def tyX20 : Nat → FieldType := fun k => match k with
  | 0 => .object "java/lang/Throwable"
  | 1 => .array (.object "java/lang/StackTraceElement")
  | 2 => .object "java/util/List"
  | 3 => .object "java/lang/String"
  | 4 => .object "java/lang/Object"
  | 5 => .int
  | _ => .int
abbrev wsX200 : List Cond := u_ws RX20 TX20 7
theorem nmX20 : ∀ a, a < 7 → ∀ b, b < 7 → a ≠ b → (TX20 a).2.1 ≠ (TX20 b).2.1 := by decide +kernel
theorem tyX20_ok : ∀ k, k < 7 → parseFieldDescriptor (TX20 k).2.2.1 = some (tyX20 k) := by decide +kernel
def RJ29 : String := "java/lang/StringIndexOutOfBoundsException"
def TJ29 : u_T := fun k => match k with
  | 0 => ("java/lang/Throwable", "backtrace", "Ljava/lang/Object;", false)
  | 1 => ("java/lang/Throwable", "detailMessage", "Ljava/lang/String;", false)
  | 2 => ("java/lang/Throwable", "cause", "Ljava/lang/Throwable;", false)
  | 3 => ("java/lang/Throwable", "stackTrace", "[Ljava/lang/StackTraceElement;", false)
  | 4 => ("java/lang/Throwable", "depth", "I", false)
  | _ => ("java/lang/Throwable", "suppressedExceptions", "Ljava/util/List;", false)
def tyJ29 : Nat → FieldType := fun k => match k with
  | 0 => .object "java/lang/Object"
  | 1 => .object "java/lang/String"
  | 2 => .object "java/lang/Throwable"
  | 3 => .array (.object "java/lang/StackTraceElement")
  | 4 => .int
  | _ => .object "java/util/List"
abbrev wsJ290 : List Cond := u_ws RJ29 TJ29 6
theorem nmJ29 : ∀ a, a < 6 → ∀ b, b < 6 → a ≠ b → (TJ29 a).2.1 ≠ (TJ29 b).2.1 := by decide +kernel
theorem tyJ29_ok : ∀ k, k < 6 → parseFieldDescriptor (TJ29 k).2.2.1 = some (tyJ29 k) := by decide +kernel
def RJ30 : String := "java/lang/Object"
def RJ31 : String := "java/lang/System$2"
abbrev cX0_addColour : ByteArray := method_3_code
def yX0_addColour : MethodName := ⟨RX0, "addColour", "(LColourOffice;IIII[J)I"⟩
abbrev cX0_report : ByteArray := method_4_code
def yX0_report : MethodName := ⟨RX0, "report", "(LColourOffice;IIIII[J)I"⟩
abbrev cX0_withdraw : ByteArray := method_5_code
def yX0_withdraw : MethodName := ⟨RX0, "withdraw", "(LColourOffice;I[J)I"⟩
abbrev cX0_discard : ByteArray := method_6_code
def yX0_discard : MethodName := ⟨RX0, "discard", "(LColourOffice;I[J)I"⟩
abbrev cX0_setMetric : ByteArray := method_7_code
def yX0_setMetric : MethodName := ⟨RX0, "setMetric", "(LColourOffice;C[J)I"⟩
abbrev cX0_giveBack : ByteArray := method_8_code
def yX0_giveBack : MethodName := ⟨RX0, "giveBack", "(LColourOffice;II[J)I"⟩
abbrev cX0_mix : ByteArray := method_9_code
def yX0_mix : MethodName := ⟨RX0, "mix", "(LColourOffice;II[J)I"⟩
abbrev cX0_passDays : ByteArray := method_10_code
def yX0_passDays : MethodName := ⟨RX0, "passDays", "(LColourOffice;I[J)I"⟩
abbrev cX0_colourAt : ByteArray := method_11_code
def yX0_colourAt : MethodName := ⟨RX0, "colourAt", "(LColourOffice;I[J)I"⟩
abbrev cX0_red : ByteArray := method_12_code
def yX0_red : MethodName := ⟨RX0, "red", "(LColourOffice;I[J)I"⟩
abbrev cX0_green : ByteArray := method_13_code
def yX0_green : MethodName := ⟨RX0, "green", "(LColourOffice;I[J)I"⟩
abbrev cX0_blue : ByteArray := method_14_code
def yX0_blue : MethodName := ⟨RX0, "blue", "(LColourOffice;I[J)I"⟩
abbrev cX0_fastness : ByteArray := method_15_code
def yX0_fastness : MethodName := ⟨RX0, "fastness", "(LColourOffice;I[J)I"⟩
abbrev cX0_age : ByteArray := method_16_code
def yX0_age : MethodName := ⟨RX0, "age", "(LColourOffice;I[J)I"⟩
abbrev cX0_daysUntilGrey : ByteArray := method_17_code
def yX0_daysUntilGrey : MethodName := ⟨RX0, "daysUntilGrey", "(LColourOffice;I[J)I"⟩
abbrev cX0_colourByBrightness : ByteArray := method_18_code
def yX0_colourByBrightness : MethodName := ⟨RX0, "colourByBrightness", "(LColourOffice;I[J)I"⟩
abbrev cX0_reportAt : ByteArray := method_19_code
def yX0_reportAt : MethodName := ⟨RX0, "reportAt", "(LColourOffice;I[J)I"⟩
abbrev cX0_toleranceOf : ByteArray := method_20_code
def yX0_toleranceOf : MethodName := ⟨RX0, "toleranceOf", "(LColourOffice;I[J)I"⟩
abbrev cX0_rewardOf : ByteArray := method_21_code
def yX0_rewardOf : MethodName := ⟨RX0, "rewardOf", "(LColourOffice;I[J)I"⟩
abbrev cX0_distanceFor : ByteArray := method_22_code
def yX0_distanceFor : MethodName := ⟨RX0, "distanceFor", "(LColourOffice;II[J)I"⟩
abbrev cX0_fits : ByteArray := method_23_code
def yX0_fits : MethodName := ⟨RX0, "fits", "(LColourOffice;II[J)I"⟩
abbrev cX0_nearestFor : ByteArray := method_24_code
def yX0_nearestFor : MethodName := ⟨RX0, "nearestFor", "(LColourOffice;I[J)I"⟩
abbrev cX0_distance : ByteArray := method_25_code
def yX0_distance : MethodName := ⟨RX0, "distance", "(LColourOffice;II[J)I"⟩
abbrev cX0_nearest : ByteArray := method_26_code
def yX0_nearest : MethodName := ⟨RX0, "nearest", "(LColourOffice;III[J)I"⟩
abbrev cX0_nearestByLooking : ByteArray := method_27_code
def yX0_nearestByLooking : MethodName := ⟨RX0, "nearestByLooking", "(LColourOffice;III[J)I"⟩
abbrev cX0_closestDistance : ByteArray := method_28_code
def yX0_closestDistance : MethodName := ⟨RX0, "closestDistance", "(LColourOffice;[J)I"⟩
abbrev cX0_closestDistanceBySorting : ByteArray := method_29_code
def yX0_closestDistanceBySorting : MethodName := ⟨RX0, "closestDistanceBySorting", "(LColourOffice;[J)I"⟩
abbrev cX0_settlementFor : ByteArray := method_30_code
def yX0_settlementFor : MethodName := ⟨RX0, "settlementFor", "(LColourOffice;I[J)I"⟩
abbrev cX0_paletteError : ByteArray := method_31_code
def yX0_paletteError : MethodName := ⟨RX0, "paletteError", "(LColourOffice;I[J)I"⟩
abbrev cX0_paletteErrorBySearch : ByteArray := method_32_code
def yX0_paletteErrorBySearch : MethodName := ⟨RX0, "paletteErrorBySearch", "(LColourOffice;I[J)I"⟩
abbrev cX0_paletteColour : ByteArray := method_33_code
def yX0_paletteColour : MethodName := ⟨RX0, "paletteColour", "(LColourOffice;II[J)I"⟩
abbrev cX0_meanBrightness : ByteArray := method_34_code
def yX0_meanBrightness : MethodName := ⟨RX0, "meanBrightness", "(LColourOffice;[D)I"⟩
abbrev cX0_greyShare : ByteArray := method_35_code
def yX0_greyShare : MethodName := ⟨RX0, "greyShare", "(LColourOffice;[D)I"⟩
abbrev cX0_renderColour : ByteArray := method_36_code
def yX0_renderColour : MethodName := ⟨RX0, "renderColour", "(LColourOffice;I[J)I"⟩
abbrev cX0_renderReport : ByteArray := method_37_code
def yX0_renderReport : MethodName := ⟨RX0, "renderReport", "(LColourOffice;I[J)I"⟩
abbrev cX0_outputAt : ByteArray := method_38_code
def yX0_outputAt : MethodName := ⟨RX0, "outputAt", "(LColourOffice;I[J)I"⟩
abbrev cX0_type : ByteArray := method_39_code
def yX0_type : MethodName := ⟨RX0, "type", "(LColourOffice;C[J)I"⟩
abbrev cX0_runScript : ByteArray := method_40_code
def yX0_runScript : MethodName := ⟨RX0, "runScript", "(LColourOffice;[J)I"⟩
abbrev cX0_errorPosition : ByteArray := method_41_code
def yX0_errorPosition : MethodName := ⟨RX0, "errorPosition", "(LColourOffice;[J)I"⟩
abbrev cX0_failedCommand : ByteArray := method_42_code
def yX0_failedCommand : MethodName := ⟨RX0, "failedCommand", "(LColourOffice;[J)I"⟩
abbrev cX0_failureKind : ByteArray := method_43_code
def yX0_failureKind : MethodName := ⟨RX0, "failureKind", "(LColourOffice;[J)I"⟩
abbrev cX0_undo : ByteArray := method_44_code
def yX0_undo : MethodName := ⟨RX0, "undo", "(LColourOffice;[J)I"⟩
abbrev cX0_restore : ByteArray := method_45_code
def yX0_restore : MethodName := ⟨RX0, "restore", "(LColourOffice;[J)I"⟩
abbrev cX1_init : ByteArray := prog_1_method_6_code
def yX1_init : MethodName := ⟨RX1, "<init>", "()V"⟩
abbrev cX1_settle : ByteArray := prog_1_method_15_code
def yX1_settle : MethodName := ⟨RX1, "settle", "()I"⟩
abbrev cX1_change : ByteArray := prog_1_method_8_code
def yX1_change : MethodName := ⟨RX1, "change", "(Ljava/lang/String;[I)I"⟩
abbrev cX1_areParts : ByteArray := prog_1_method_3_code
def yX1_areParts : MethodName := ⟨RX1, "areParts", "([I)Z"⟩
abbrev cX1_isBetween : ByteArray := prog_1_method_2_code
def yX1_isBetween : MethodName := ⟨RX1, "isBetween", "(III)Z"⟩
abbrev cX1_demand : ByteArray := prog_1_method_1_code
def yX1_demand : MethodName := ⟨RX1, "demand", "(ZC)V"⟩
abbrev cX1_metricOf : ByteArray := prog_1_method_4_code
def yX1_metricOf : MethodName := ⟨RX1, "metricOf", "(C)LColourOffice$Metric;"⟩
abbrev cX1_lambda_metricOf_0 : ByteArray := prog_1_method_80_code
def yX1_lambda_metricOf_0 : MethodName := ⟨RX1, "lambda$metricOf$0", "(III)I"⟩
abbrev cX1_lambda_metricOf_1 : ByteArray := prog_1_method_79_code
def yX1_lambda_metricOf_1 : MethodName := ⟨RX1, "lambda$metricOf$1", "(III)I"⟩
abbrev cX1_lambda_metricOf_2 : ByteArray := prog_1_method_78_code
def yX1_lambda_metricOf_2 : MethodName := ⟨RX1, "lambda$metricOf$2", "(III)I"⟩
abbrev cX1_distance : ByteArray := prog_1_method_5_code
def yX1_distance : MethodName := ⟨RX1, "distance", "(LColourOffice$Metric;LColourOffice$Tint;LColourOffice$Tint;)I"⟩
abbrev cX1_commit : ByteArray := prog_1_method_7_code
def yX1_commit : MethodName := ⟨RX1, "commit", "(LColourOffice$Office;I)I"⟩
abbrev cX1_colourCount : ByteArray := prog_1_method_24_code
def yX1_colourCount : MethodName := ⟨RX1, "colourCount", "()I"⟩
abbrev cX1_reportCount : ByteArray := prog_1_method_34_code
def yX1_reportCount : MethodName := ⟨RX1, "reportCount", "()I"⟩
abbrev cX1_bestReward : ByteArray := prog_1_method_47_code
def yX1_bestReward : MethodName := ⟨RX1, "bestReward", "()I"⟩
abbrev cX1_bestRewardByTrying : ByteArray := prog_1_method_48_code
def yX1_bestRewardByTrying : MethodName := ⟨RX1, "bestRewardByTrying", "()I"⟩
abbrev cX1_bestDifference : ByteArray := prog_1_method_49_code
def yX1_bestDifference : MethodName := ⟨RX1, "bestDifference", "()I"⟩
abbrev cX1_day : ByteArray := prog_1_method_55_code
def yX1_day : MethodName := ⟨RX1, "day", "()I"⟩
abbrev cX1_metric : ByteArray := prog_1_method_56_code
def yX1_metric : MethodName := ⟨RX1, "metric", "()C"⟩
abbrev cX1_coins : ByteArray := prog_1_method_57_code
def yX1_coins : MethodName := ⟨RX1, "coins", "()I"⟩
abbrev cX1_coinsByAccounts : ByteArray := prog_1_method_58_code
def yX1_coinsByAccounts : MethodName := ⟨RX1, "coinsByAccounts", "()I"⟩
abbrev cX1_returnedTotal : ByteArray := prog_1_method_59_code
def yX1_returnedTotal : MethodName := ⟨RX1, "returnedTotal", "()I"⟩
abbrev cX1_isConsistent : ByteArray := prog_1_method_63_code
def yX1_isConsistent : MethodName := ⟨RX1, "isConsistent", "()Z"⟩
abbrev cX1_save : ByteArray := prog_1_method_76_code
def yX1_save : MethodName := ⟨RX1, "save", "()I"⟩
abbrev cX1_addColour : ByteArray := prog_1_method_9_code
def yX1_addColour : MethodName := ⟨RX1, "addColour", "(IIII)I"⟩
abbrev cX1_report : ByteArray := prog_1_method_10_code
def yX1_report : MethodName := ⟨RX1, "report", "(IIIII)I"⟩
abbrev cX1_withdraw : ByteArray := prog_1_method_11_code
def yX1_withdraw : MethodName := ⟨RX1, "withdraw", "(I)I"⟩
abbrev cX1_discard : ByteArray := prog_1_method_12_code
def yX1_discard : MethodName := ⟨RX1, "discard", "(I)I"⟩
abbrev cX1_setMetric : ByteArray := prog_1_method_13_code
def yX1_setMetric : MethodName := ⟨RX1, "setMetric", "(C)C"⟩
abbrev cX1_giveBack : ByteArray := prog_1_method_14_code
def yX1_giveBack : MethodName := ⟨RX1, "giveBack", "(II)I"⟩
abbrev cX1_mix : ByteArray := prog_1_method_16_code
def yX1_mix : MethodName := ⟨RX1, "mix", "(II)I"⟩
abbrev cX1_passDays : ByteArray := prog_1_method_17_code
def yX1_passDays : MethodName := ⟨RX1, "passDays", "(I)I"⟩
abbrev cX1_colourAt : ByteArray := prog_1_method_25_code
def yX1_colourAt : MethodName := ⟨RX1, "colourAt", "(I)I"⟩
abbrev cX1_checkElement : ByteArray := prog_1_method_20_code
def yX1_checkElement : MethodName := ⟨RX1, "checkElement", "(Z)V"⟩
abbrev cX1_red : ByteArray := prog_1_method_26_code
def yX1_red : MethodName := ⟨RX1, "red", "(I)I"⟩
abbrev cX1_colourWith : ByteArray := prog_1_method_23_code
def yX1_colourWith : MethodName := ⟨RX1, "colourWith", "(I)LColourOffice$Found;"⟩
abbrev cX1_green : ByteArray := prog_1_method_27_code
def yX1_green : MethodName := ⟨RX1, "green", "(I)I"⟩
abbrev cX1_blue : ByteArray := prog_1_method_28_code
def yX1_blue : MethodName := ⟨RX1, "blue", "(I)I"⟩
abbrev cX1_fastness : ByteArray := prog_1_method_29_code
def yX1_fastness : MethodName := ⟨RX1, "fastness", "(I)I"⟩
abbrev cX1_age : ByteArray := prog_1_method_30_code
def yX1_age : MethodName := ⟨RX1, "age", "(I)I"⟩
abbrev cX1_daysUntilGrey : ByteArray := prog_1_method_31_code
def yX1_daysUntilGrey : MethodName := ⟨RX1, "daysUntilGrey", "(I)I"⟩
abbrev cX1_colourByBrightness : ByteArray := prog_1_method_32_code
def yX1_colourByBrightness : MethodName := ⟨RX1, "colourByBrightness", "(I)I"⟩
abbrev cX1_found : ByteArray := prog_1_method_22_code
def yX1_found : MethodName := ⟨RX1, "found", "(I)I"⟩
abbrev cX1_reportAt : ByteArray := prog_1_method_35_code
def yX1_reportAt : MethodName := ⟨RX1, "reportAt", "(I)I"⟩
abbrev cX1_toleranceOf : ByteArray := prog_1_method_36_code
def yX1_toleranceOf : MethodName := ⟨RX1, "toleranceOf", "(I)I"⟩
abbrev cX1_reportWith : ByteArray := prog_1_method_33_code
def yX1_reportWith : MethodName := ⟨RX1, "reportWith", "(I)LColourOffice$Report;"⟩
abbrev cX1_rewardOf : ByteArray := prog_1_method_37_code
def yX1_rewardOf : MethodName := ⟨RX1, "rewardOf", "(I)I"⟩
abbrev cX1_distanceFor : ByteArray := prog_1_method_38_code
def yX1_distanceFor : MethodName := ⟨RX1, "distanceFor", "(II)I"⟩
abbrev cX1_fits : ByteArray := prog_1_method_39_code
def yX1_fits : MethodName := ⟨RX1, "fits", "(II)Z"⟩
abbrev cX1_nearestFor : ByteArray := prog_1_method_41_code
def yX1_nearestFor : MethodName := ⟨RX1, "nearestFor", "(I)I"⟩
abbrev cX1_idOf : ByteArray := prog_1_method_40_code
def yX1_idOf : MethodName := ⟨RX1, "idOf", "(Ljava/util/Optional;)I"⟩
abbrev cX1_distance_2 : ByteArray := prog_1_method_42_code
def yX1_distance_2 : MethodName := ⟨RX1, "distance", "(II)I"⟩
abbrev cX1_nearest : ByteArray := prog_1_method_43_code
def yX1_nearest : MethodName := ⟨RX1, "nearest", "(III)I"⟩
abbrev cX1_checkArgument : ByteArray := prog_1_method_19_code
def yX1_checkArgument : MethodName := ⟨RX1, "checkArgument", "(Z)V"⟩
abbrev cX1_nearestByLooking : ByteArray := prog_1_method_44_code
def yX1_nearestByLooking : MethodName := ⟨RX1, "nearestByLooking", "(III)I"⟩
abbrev cX1_closestDistance : ByteArray := prog_1_method_45_code
def yX1_closestDistance : MethodName := ⟨RX1, "closestDistance", "()I"⟩
abbrev cX1_closestDistanceBySorting : ByteArray := prog_1_method_46_code
def yX1_closestDistanceBySorting : MethodName := ⟨RX1, "closestDistanceBySorting", "()I"⟩
abbrev cX1_settlementFor : ByteArray := prog_1_method_50_code
def yX1_settlementFor : MethodName := ⟨RX1, "settlementFor", "(I)I"⟩
abbrev cX1_paletteError : ByteArray := prog_1_method_52_code
def yX1_paletteError : MethodName := ⟨RX1, "paletteError", "(I)I"⟩
abbrev cX1_palettes : ByteArray := prog_1_method_51_code
def yX1_palettes : MethodName := ⟨RX1, "palettes", "(I)LColourOffice$Palettes;"⟩
abbrev cX1_paletteErrorBySearch : ByteArray := prog_1_method_53_code
def yX1_paletteErrorBySearch : MethodName := ⟨RX1, "paletteErrorBySearch", "(I)I"⟩
abbrev cX1_paletteColour : ByteArray := prog_1_method_54_code
def yX1_paletteColour : MethodName := ⟨RX1, "paletteColour", "(II)I"⟩
abbrev cX1_meanBrightness : ByteArray := prog_1_method_61_code
def yX1_meanBrightness : MethodName := ⟨RX1, "meanBrightness", "()D"⟩
abbrev cX1_coloursAsDivisor : ByteArray := prog_1_method_60_code
def yX1_coloursAsDivisor : MethodName := ⟨RX1, "coloursAsDivisor", "()I"⟩
abbrev cX1_greyShare : ByteArray := prog_1_method_62_code
def yX1_greyShare : MethodName := ⟨RX1, "greyShare", "()F"⟩
abbrev cX1_renderColour : ByteArray := prog_1_method_65_code
def yX1_renderColour : MethodName := ⟨RX1, "renderColour", "(I)I"⟩
abbrev cX1_write : ByteArray := prog_1_method_64_code
def yX1_write : MethodName := ⟨RX1, "write", "(Ljava/lang/String;)I"⟩
abbrev cX1_renderReport : ByteArray := prog_1_method_66_code
def yX1_renderReport : MethodName := ⟨RX1, "renderReport", "(I)I"⟩
abbrev cX1_outputAt : ByteArray := prog_1_method_67_code
def yX1_outputAt : MethodName := ⟨RX1, "outputAt", "(I)C"⟩
abbrev cX1_checkIndex : ByteArray := prog_1_method_18_code
def yX1_checkIndex : MethodName := ⟨RX1, "checkIndex", "(Z)V"⟩
abbrev cX1_type : ByteArray := prog_1_method_68_code
def yX1_type : MethodName := ⟨RX1, "type", "(C)I"⟩
abbrev cX1_checkState : ByteArray := prog_1_method_21_code
def yX1_checkState : MethodName := ⟨RX1, "checkState", "(Z)V"⟩
abbrev cX1_runScript : ByteArray := prog_1_method_71_code
def yX1_runScript : MethodName := ⟨RX1, "runScript", "()I"⟩
abbrev cX1_execute : ByteArray := prog_1_method_69_code
def yX1_execute : MethodName := ⟨RX1, "execute", "(Ljava/util/List;)I"⟩
abbrev cX1_note : ByteArray := prog_1_method_70_code
def yX1_note : MethodName := ⟨RX1, "note", "(LColourOffice$Failure;)V"⟩
abbrev cX1_errorPosition : ByteArray := prog_1_method_72_code
def yX1_errorPosition : MethodName := ⟨RX1, "errorPosition", "()I"⟩
abbrev cX1_failedCommand : ByteArray := prog_1_method_73_code
def yX1_failedCommand : MethodName := ⟨RX1, "failedCommand", "()I"⟩
abbrev cX1_failureKind : ByteArray := prog_1_method_74_code
def yX1_failureKind : MethodName := ⟨RX1, "failureKind", "()C"⟩
abbrev cX1_undo : ByteArray := prog_1_method_75_code
def yX1_undo : MethodName := ⟨RX1, "undo", "()I"⟩
abbrev cX1_restore : ByteArray := prog_1_method_77_code
def yX1_restore : MethodName := ⟨RX1, "restore", "()I"⟩
abbrev cX2_init : ByteArray := prog_8_method_1_code
def yX2_init : MethodName := ⟨RX2, "<init>", "()V"⟩
abbrev cX2_copy : ByteArray := prog_8_method_2_code
def yX2_copy : MethodName := ⟨RX2, "copy", "()LColourOffice$Office;"⟩
abbrev cX2_addColour : ByteArray := prog_8_method_13_code
def yX2_addColour : MethodName := ⟨RX2, "addColour", "(IIII)I"⟩
abbrev cX2_add : ByteArray := prog_8_method_12_code
def yX2_add : MethodName := ⟨RX2, "add", "(LColourOffice$Tint;I)I"⟩
abbrev cX2_addReport : ByteArray := prog_8_method_14_code
def yX2_addReport : MethodName := ⟨RX2, "addReport", "(LColourOffice$Tint;II)I"⟩
abbrev cX2_withdraw : ByteArray := prog_8_method_15_code
def yX2_withdraw : MethodName := ⟨RX2, "withdraw", "(I)I"⟩
abbrev cX2_hasReport : ByteArray := prog_8_method_7_code
def yX2_hasReport : MethodName := ⟨RX2, "hasReport", "(I)Z"⟩
abbrev cX2_placeOfReport : ByteArray := prog_8_method_6_code
def yX2_placeOfReport : MethodName := ⟨RX2, "placeOfReport", "(I)I"⟩
abbrev cX2_discard : ByteArray := prog_8_method_16_code
def yX2_discard : MethodName := ⟨RX2, "discard", "(I)I"⟩
abbrev cX2_hasColour : ByteArray := prog_8_method_4_code
def yX2_hasColour : MethodName := ⟨RX2, "hasColour", "(I)Z"⟩
abbrev cX2_setMetric : ByteArray := prog_8_method_17_code
def yX2_setMetric : MethodName := ⟨RX2, "setMetric", "(C)I"⟩
abbrev cX2_giveBack : ByteArray := prog_8_method_19_code
def yX2_giveBack : MethodName := ⟨RX2, "giveBack", "(II)I"⟩
abbrev cX2_tree : ByteArray := prog_8_method_9_code
def yX2_tree : MethodName := ⟨RX2, "tree", "()LColourOffice$Tree;"⟩
abbrev cX2_metric : ByteArray := prog_8_method_3_code
def yX2_metric : MethodName := ⟨RX2, "metric", "()LColourOffice$Metric;"⟩
abbrev cX2_report : ByteArray := prog_8_method_8_code
def yX2_report : MethodName := ⟨RX2, "report", "(I)LColourOffice$Report;"⟩
abbrev cX2_fits : ByteArray := prog_8_method_11_code
def yX2_fits : MethodName := ⟨RX2, "fits", "(II)Z"⟩
abbrev cX2_distanceFor : ByteArray := prog_8_method_10_code
def yX2_distanceFor : MethodName := ⟨RX2, "distanceFor", "(II)I"⟩
abbrev cX2_colour : ByteArray := prog_8_method_5_code
def yX2_colour : MethodName := ⟨RX2, "colour", "(I)LColourOffice$Found;"⟩
abbrev cX2_handOver : ByteArray := prog_8_method_18_code
def yX2_handOver : MethodName := ⟨RX2, "handOver", "(II)I"⟩
abbrev cX2_settle : ByteArray := prog_8_method_21_code
def yX2_settle : MethodName := ⟨RX2, "settle", "()I"⟩
abbrev cX2_settlement : ByteArray := prog_8_method_20_code
def yX2_settlement : MethodName := ⟨RX2, "settlement", "()LColourOffice$Settlement;"⟩
abbrev cX2_mix : ByteArray := prog_8_method_22_code
def yX2_mix : MethodName := ⟨RX2, "mix", "(II)I"⟩
abbrev cX2_passDays : ByteArray := prog_8_method_23_code
def yX2_passDays : MethodName := ⟨RX2, "passDays", "(I)I"⟩
abbrev cX2_greyCount : ByteArray := prog_8_method_24_code
def yX2_greyCount : MethodName := ⟨RX2, "greyCount", "()I"⟩
abbrev cX2_coinsByAccounts : ByteArray := prog_8_method_31_code
def yX2_coinsByAccounts : MethodName := ⟨RX2, "coinsByAccounts", "()I"⟩
abbrev cX2_isConsistent : ByteArray := prog_8_method_34_code
def yX2_isConsistent : MethodName := ⟨RX2, "isConsistent", "()Z"⟩
abbrev cX2_areNearestAlike : ByteArray := prog_8_method_32_code
def yX2_areNearestAlike : MethodName := ⟨RX2, "areNearestAlike", "()Z"⟩
abbrev cX2_arePalettesAlike : ByteArray := prog_8_method_33_code
def yX2_arePalettesAlike : MethodName := ⟨RX2, "arePalettesAlike", "()Z"⟩
abbrev cX2_closestDistance : ByteArray := prog_8_method_27_code
def yX2_closestDistance : MethodName := ⟨RX2, "closestDistance", "()I"⟩
abbrev cX2_closestDistanceBySorting : ByteArray := prog_8_method_28_code
def yX2_closestDistanceBySorting : MethodName := ⟨RX2, "closestDistanceBySorting", "()I"⟩
abbrev cX2_sortedByRed : ByteArray := prog_8_method_30_code
def yX2_sortedByRed : MethodName := ⟨RX2, "sortedByRed", "()Ljava/util/List;"⟩
abbrev cX2_redBound : ByteArray := prog_8_method_29_code
def yX2_redBound : MethodName := ⟨RX2, "redBound", "(LColourOffice$Metric;LColourOffice$Tint;LColourOffice$Tint;)I"⟩
abbrev cX2_colourAt : ByteArray := prog_8_method_26_code
def yX2_colourAt : MethodName := ⟨RX2, "colourAt", "(I)I"⟩
abbrev cX2_brightness : ByteArray := prog_8_method_25_code
def yX2_brightness : MethodName := ⟨RX2, "brightness", "()I"⟩
abbrev cX3_init : ByteArray := prog_15_method_1_code
def yX3_init : MethodName := ⟨RX3, "<init>", "()V"⟩
abbrev cX3_copy : ByteArray := prog_15_method_8_code
def yX3_copy : MethodName := ⟨RX3, "copy", "()LColourOffice$Shelf;"⟩
abbrev cX3_iterator : ByteArray := prog_15_method_2_code
def yX3_iterator : MethodName := ⟨RX3, "iterator", "()Ljava/util/Iterator;"⟩
abbrev cX3_add : ByteArray := prog_15_method_5_code
def yX3_add : MethodName := ⟨RX3, "add", "(LColourOffice$Found;)V"⟩
abbrev cX3_count : ByteArray := prog_15_method_3_code
def yX3_count : MethodName := ⟨RX3, "count", "()I"⟩
abbrev cX3_placeOf : ByteArray := prog_15_method_6_code
def yX3_placeOf : MethodName := ⟨RX3, "placeOf", "(I)I"⟩
abbrev cX3_remove : ByteArray := prog_15_method_7_code
def yX3_remove : MethodName := ⟨RX3, "remove", "(I)V"⟩
abbrev cX3_at : ByteArray := prog_15_method_4_code
def yX3_at : MethodName := ⟨RX3, "at", "(I)LColourOffice$Found;"⟩
abbrev cJ0_init : ByteArray := prog_54_method_1_code
def yJ0_init : MethodName := ⟨RJ0, "<init>", "()V"⟩
abbrev cJ1_init : ByteArray := prog_55_method_1_code
def yJ1_init : MethodName := ⟨RJ1, "<init>", "()V"⟩
abbrev cJ2_init : ByteArray := prog_57_method_2_code
def yJ2_init : MethodName := ⟨RJ2, "<init>", "()V"⟩
abbrev cJ2_size : ByteArray := prog_57_method_8_code
def yJ2_size : MethodName := ⟨RJ2, "size", "()I"⟩
abbrev cJ2_get : ByteArray := prog_57_method_20_code
def yJ2_get : MethodName := ⟨RJ2, "get", "(I)Ljava/lang/Object;"⟩
abbrev cJ2_elementData : ByteArray := prog_57_method_18_code
def yJ2_elementData : MethodName := ⟨RJ2, "elementData", "(I)Ljava/lang/Object;"⟩
abbrev cJ2_add : ByteArray := prog_57_method_25_code
def yJ2_add : MethodName := ⟨RJ2, "add", "(Ljava/lang/Object;)Z"⟩
abbrev cJ2_add_2 : ByteArray := prog_57_method_24_code
def yJ2_add_2 : MethodName := ⟨RJ2, "add", "(Ljava/lang/Object;[Ljava/lang/Object;I)V"⟩
abbrev cJ2_grow : ByteArray := prog_57_method_7_code
def yJ2_grow : MethodName := ⟨RJ2, "grow", "()[Ljava/lang/Object;"⟩
abbrev cJ2_grow_2 : ByteArray := prog_57_method_6_code
def yJ2_grow_2 : MethodName := ⟨RJ2, "grow", "(I)[Ljava/lang/Object;"⟩
abbrev cJ2_remove : ByteArray := prog_57_method_29_code
def yJ2_remove : MethodName := ⟨RJ2, "remove", "(I)Ljava/lang/Object;"⟩
abbrev cJ2_fastRemove : ByteArray := prog_57_method_39_code
def yJ2_fastRemove : MethodName := ⟨RJ2, "fastRemove", "([Ljava/lang/Object;I)V"⟩
abbrev cJ2_add_3 : ByteArray := prog_57_method_26_code
def yJ2_add_3 : MethodName := ⟨RJ2, "add", "(ILjava/lang/Object;)V"⟩
abbrev cJ2_rangeCheckForAdd : ByteArray := prog_57_method_45_code
def yJ2_rangeCheckForAdd : MethodName := ⟨RJ2, "rangeCheckForAdd", "(I)V"⟩
abbrev cJ2_outOfBoundsMsg : ByteArray := prog_57_method_46_code
def yJ2_outOfBoundsMsg : MethodName := ⟨RJ2, "outOfBoundsMsg", "(I)Ljava/lang/String;"⟩
abbrev cX4_init : ByteArray := prog_12_method_1_code
def yX4_init : MethodName := ⟨RX4, "<init>", "()V"⟩
abbrev cJ3_init : ByteArray := prog_56_method_1_code
def yJ3_init : MethodName := ⟨RJ3, "<init>", "()V"⟩
abbrev cJ4_init : ByteArray := prog_62_method_1_code
def yJ4_init : MethodName := ⟨RJ4, "<init>", "()V"⟩
abbrev cJ4_size : ByteArray := prog_62_method_16_code
def yJ4_size : MethodName := ⟨RJ4, "size", "()I"⟩
abbrev cJ4_get : ByteArray := prog_62_method_22_code
def yJ4_get : MethodName := ⟨RJ4, "get", "(I)Ljava/lang/Object;"⟩
abbrev cJ4_checkElementIndex : ByteArray := prog_62_method_29_code
def yJ4_checkElementIndex : MethodName := ⟨RJ4, "checkElementIndex", "(I)V"⟩
abbrev cJ4_isElementIndex : ByteArray := prog_62_method_26_code
def yJ4_isElementIndex : MethodName := ⟨RJ4, "isElementIndex", "(I)Z"⟩
abbrev cJ4_outOfBoundsMsg : ByteArray := prog_62_method_28_code
def yJ4_outOfBoundsMsg : MethodName := ⟨RJ4, "outOfBoundsMsg", "(I)Ljava/lang/String;"⟩
abbrev cJ4_node : ByteArray := prog_62_method_31_code
def yJ4_node : MethodName := ⟨RJ4, "node", "(I)Ljava/util/LinkedList$Node;"⟩
abbrev cJ4_add : ByteArray := prog_62_method_17_code
def yJ4_add : MethodName := ⟨RJ4, "add", "(Ljava/lang/Object;)Z"⟩
abbrev cJ4_linkLast : ByteArray := prog_62_method_4_code
def yJ4_linkLast : MethodName := ⟨RJ4, "linkLast", "(Ljava/lang/Object;)V"⟩
abbrev cJ4_remove : ByteArray := prog_62_method_25_code
def yJ4_remove : MethodName := ⟨RJ4, "remove", "(I)Ljava/lang/Object;"⟩
abbrev cJ4_unlink : ByteArray := prog_62_method_8_code
def yJ4_unlink : MethodName := ⟨RJ4, "unlink", "(Ljava/util/LinkedList$Node;)Ljava/lang/Object;"⟩
abbrev cJ4_removeFirst : ByteArray := prog_62_method_11_code
def yJ4_removeFirst : MethodName := ⟨RJ4, "removeFirst", "()Ljava/lang/Object;"⟩
abbrev cJ4_unlinkFirst : ByteArray := prog_62_method_6_code
def yJ4_unlinkFirst : MethodName := ⟨RJ4, "unlinkFirst", "(Ljava/util/LinkedList$Node;)Ljava/lang/Object;"⟩
abbrev cJ4_addLast : ByteArray := prog_62_method_14_code
def yJ4_addLast : MethodName := ⟨RJ4, "addLast", "(Ljava/lang/Object;)V"⟩
abbrev cJ4_add_2 : ByteArray := prog_62_method_24_code
def yJ4_add_2 : MethodName := ⟨RJ4, "add", "(ILjava/lang/Object;)V"⟩
abbrev cJ4_checkPositionIndex : ByteArray := prog_62_method_30_code
def yJ4_checkPositionIndex : MethodName := ⟨RJ4, "checkPositionIndex", "(I)V"⟩
abbrev cJ4_isPositionIndex : ByteArray := prog_62_method_27_code
def yJ4_isPositionIndex : MethodName := ⟨RJ4, "isPositionIndex", "(I)Z"⟩
abbrev cJ4_linkBefore : ByteArray := prog_62_method_5_code
def yJ4_linkBefore : MethodName := ⟨RJ4, "linkBefore", "(Ljava/lang/Object;Ljava/util/LinkedList$Node;)V"⟩
abbrev cJ4_removeLast : ByteArray := prog_62_method_12_code
def yJ4_removeLast : MethodName := ⟨RJ4, "removeLast", "()Ljava/lang/Object;"⟩
abbrev cJ4_unlinkLast : ByteArray := prog_62_method_7_code
def yJ4_unlinkLast : MethodName := ⟨RJ4, "unlinkLast", "(Ljava/util/LinkedList$Node;)Ljava/lang/Object;"⟩
abbrev cJ4_clear : ByteArray := prog_62_method_21_code
def yJ4_clear : MethodName := ⟨RJ4, "clear", "()V"⟩
abbrev cJ5_init : ByteArray := prog_24_method_2_code
def yJ5_init : MethodName := ⟨RJ5, "<init>", "(I)V"⟩
abbrev cJ5_append : ByteArray := prog_24_method_22_code
def yJ5_append : MethodName := ⟨RJ5, "append", "(Ljava/lang/String;)Ljava/lang/AbstractStringBuilder;"⟩
abbrev cJ5_appendNull : ByteArray := prog_24_method_26_code
def yJ5_appendNull : MethodName := ⟨RJ5, "appendNull", "()Ljava/lang/AbstractStringBuilder;"⟩
abbrev cJ5_ensureCapacityInternal : ByteArray := prog_24_method_9_code
def yJ5_ensureCapacityInternal : MethodName := ⟨RJ5, "ensureCapacityInternal", "(I)V"⟩
abbrev cJ5_newCapacity : ByteArray := prog_24_method_10_code
def yJ5_newCapacity : MethodName := ⟨RJ5, "newCapacity", "(I)I"⟩
abbrev cJ5_isLatin1 : ByteArray := prog_24_method_68_code
def yJ5_isLatin1 : MethodName := ⟨RJ5, "isLatin1", "()Z"⟩
abbrev cJ5_putStringAt : ByteArray := prog_24_method_73_code
def yJ5_putStringAt : MethodName := ⟨RJ5, "putStringAt", "(ILjava/lang/String;)V"⟩
abbrev cJ5_inflateIfNeededFor : ByteArray := prog_24_method_71_code
def yJ5_inflateIfNeededFor : MethodName := ⟨RJ5, "inflateIfNeededFor", "(Ljava/lang/String;)V"⟩
abbrev cJ5_inflate : ByteArray := prog_24_method_11_code
def yJ5_inflate : MethodName := ⟨RJ5, "inflate", "()V"⟩
abbrev cJ5_append_2 : ByteArray := prog_24_method_32_code
def yJ5_append_2 : MethodName := ⟨RJ5, "append", "(I)Ljava/lang/AbstractStringBuilder;"⟩
abbrev cJ5_getValue : ByteArray := prog_24_method_64_code
def yJ5_getValue : MethodName := ⟨RJ5, "getValue", "()[B"⟩
abbrev cJ5_length : ByteArray := prog_24_method_6_code
def yJ5_length : MethodName := ⟨RJ5, "length", "()I"⟩
abbrev cJ5_append_3 : ByteArray := prog_24_method_31_code
def yJ5_append_3 : MethodName := ⟨RJ5, "append", "(C)Ljava/lang/AbstractStringBuilder;"⟩
abbrev cJ5_setLength : ByteArray := prog_24_method_13_code
def yJ5_setLength : MethodName := ⟨RJ5, "setLength", "(I)V"⟩
abbrev cJ6_init : ByteArray := prog_43_method_1_code
def yJ6_init : MethodName := ⟨RJ6, "<init>", "()V"⟩
abbrev cJ6_append : ByteArray := prog_43_method_7_code
def yJ6_append : MethodName := ⟨RJ6, "append", "(Ljava/lang/String;)Ljava/lang/StringBuilder;"⟩
abbrev cJ6_append_2 : ByteArray := prog_43_method_15_code
def yJ6_append_2 : MethodName := ⟨RJ6, "append", "(I)Ljava/lang/StringBuilder;"⟩
abbrev cJ6_toString : ByteArray := prog_43_method_42_code
def yJ6_toString : MethodName := ⟨RJ6, "toString", "()Ljava/lang/String;"⟩
abbrev cJ6_length : ByteArray := prog_43_method_93_code
def yJ6_length : MethodName := ⟨RJ6, "length", "()I"⟩
abbrev cJ6_append_3 : ByteArray := prog_43_method_14_code
def yJ6_append_3 : MethodName := ⟨RJ6, "append", "(C)Ljava/lang/StringBuilder;"⟩
abbrev cJ6_append_4 : ByteArray := prog_43_method_6_code
def yJ6_append_4 : MethodName := ⟨RJ6, "append", "(Ljava/lang/Object;)Ljava/lang/StringBuilder;"⟩
abbrev cJ6_setLength : ByteArray := prog_43_method_89_code
def yJ6_setLength : MethodName := ⟨RJ6, "setLength", "(I)V"⟩
abbrev cJ7_checkBoundsBeginEnd : ByteArray := prog_42_method_158_code
def yJ7_checkBoundsBeginEnd : MethodName := ⟨RJ7, "checkBoundsBeginEnd", "(III)V"⟩
abbrev cJ7_length : ByteArray := prog_42_method_54_code
def yJ7_length : MethodName := ⟨RJ7, "length", "()I"⟩
abbrev cJ7_coder : ByteArray := prog_42_method_152_code
def yJ7_coder : MethodName := ⟨RJ7, "coder", "()B"⟩
abbrev cJ7_checkBoundsOffCount : ByteArray := prog_42_method_157_code
def yJ7_checkBoundsOffCount : MethodName := ⟨RJ7, "checkBoundsOffCount", "(III)I"⟩
abbrev cJ7_getBytes : ByteArray := prog_42_method_147_code
def yJ7_getBytes : MethodName := ⟨RJ7, "getBytes", "([BIB)V"⟩
abbrev cJ7_init : ByteArray := prog_42_method_53_code
def yJ7_init : MethodName := ⟨RJ7, "<init>", "(Ljava/lang/StringBuilder;)V"⟩
abbrev cJ7_init_2 : ByteArray := prog_42_method_150_code
def yJ7_init_2 : MethodName := ⟨RJ7, "<init>", "(Ljava/lang/AbstractStringBuilder;Ljava/lang/Void;)V"⟩
abbrev cJ7_hashCode : ByteArray := prog_42_method_78_code
def yJ7_hashCode : MethodName := ⟨RJ7, "hashCode", "()I"⟩
abbrev cJ7_isLatin1 : ByteArray := prog_42_method_154_code
def yJ7_isLatin1 : MethodName := ⟨RJ7, "isLatin1", "()Z"⟩
abbrev cJ7_equals : ByteArray := prog_42_method_66_code
def yJ7_equals : MethodName := ⟨RJ7, "equals", "(Ljava/lang/Object;)Z"⟩
abbrev cJ7_indexOf : ByteArray := prog_42_method_79_code
def yJ7_indexOf : MethodName := ⟨RJ7, "indexOf", "(I)I"⟩
abbrev cJ7_indexOf_2 : ByteArray := prog_42_method_80_code
def yJ7_indexOf_2 : MethodName := ⟨RJ7, "indexOf", "(II)I"⟩
abbrev cJ7_charAt : ByteArray := prog_42_method_56_code
def yJ7_charAt : MethodName := ⟨RJ7, "charAt", "(I)C"⟩
abbrev cJ7_checkIndex : ByteArray := prog_42_method_155_code
def yJ7_checkIndex : MethodName := ⟨RJ7, "checkIndex", "(II)V"⟩
abbrev cJ7_valueOf : ByteArray := prog_42_method_133_code
def yJ7_valueOf : MethodName := ⟨RJ7, "valueOf", "(Ljava/lang/Object;)Ljava/lang/String;"⟩
abbrev cJ7_toString : ByteArray := prog_42_method_126_code
def yJ7_toString : MethodName := ⟨RJ7, "toString", "()Ljava/lang/String;"⟩
abbrev cJ7_contains : ByteArray := prog_42_method_97_code
def yJ7_contains : MethodName := ⟨RJ7, "contains", "(Ljava/lang/CharSequence;)Z"⟩
abbrev cJ7_indexOf_3 : ByteArray := prog_42_method_84_code
def yJ7_indexOf_3 : MethodName := ⟨RJ7, "indexOf", "(Ljava/lang/String;)I"⟩
abbrev cJ8_newBytesFor : ByteArray := prog_46_method_2_code
def yJ8_newBytesFor : MethodName := ⟨RJ8, "newBytesFor", "(I)[B"⟩
abbrev cJ8_newBytesLength : ByteArray := prog_46_method_3_code
def yJ8_newBytesLength : MethodName := ⟨RJ8, "newBytesLength", "(I)I"⟩
abbrev cJ8_putCharsAt : ByteArray := prog_46_method_81_code
def yJ8_putCharsAt : MethodName := ⟨RJ8, "putCharsAt", "([BICCCC)I"⟩
abbrev cJ8_checkBoundsBeginEnd : ByteArray := prog_46_method_93_code
def yJ8_checkBoundsBeginEnd : MethodName := ⟨RJ8, "checkBoundsBeginEnd", "(II[B)V"⟩
abbrev cJ8_length : ByteArray := prog_46_method_6_code
def yJ8_length : MethodName := ⟨RJ8, "length", "([B)I"⟩
abbrev cJ8_putChar : ByteArray := prog_46_method_4_code
def yJ8_putChar : MethodName := ⟨RJ8, "putChar", "([BII)V"⟩
abbrev cJ8_inflate : ByteArray := prog_46_method_86_code
def yJ8_inflate : MethodName := ⟨RJ8, "inflate", "([BI[BII)V"⟩
abbrev cJ8_checkBoundsOffCount : ByteArray := prog_46_method_94_code
def yJ8_checkBoundsOffCount : MethodName := ⟨RJ8, "checkBoundsOffCount", "(II[B)V"⟩
abbrev cJ8_getChars : ByteArray := prog_46_method_77_code
def yJ8_getChars : MethodName := ⟨RJ8, "getChars", "(III[B)I"⟩
abbrev cJ8_getChars_2 : ByteArray := prog_46_method_89_code
def yJ8_getChars_2 : MethodName := ⟨RJ8, "getChars", "(II[B)I"⟩
abbrev cJ8_compress : ByteArray := prog_46_method_17_code
def yJ8_compress : MethodName := ⟨RJ8, "compress", "([BII)[B"⟩
abbrev cJ8_compress_2 : ByteArray := prog_46_method_22_code
def yJ8_compress_2 : MethodName := ⟨RJ8, "compress", "([BI[BII)I"⟩
abbrev cJ8_getChar : ByteArray := prog_46_method_5_code
def yJ8_getChar : MethodName := ⟨RJ8, "getChar", "([BI)C"⟩
abbrev cJ8_coderFromArrayLen : ByteArray := prog_46_method_15_code
def yJ8_coderFromArrayLen : MethodName := ⟨RJ8, "coderFromArrayLen", "([BI)B"⟩
abbrev cJ8_hashCode : ByteArray := prog_46_method_39_code
def yJ8_hashCode : MethodName := ⟨RJ8, "hashCode", "([B)I"⟩
abbrev cJ8_indexOf : ByteArray := prog_46_method_40_code
def yJ8_indexOf : MethodName := ⟨RJ8, "indexOf", "([BIII)I"⟩
abbrev cJ8_indexOfChar : ByteArray := prog_46_method_47_code
def yJ8_indexOfChar : MethodName := ⟨RJ8, "indexOfChar", "([BIII)I"⟩
abbrev cJ8_indexOfCharUnsafe : ByteArray := prog_46_method_48_code
def yJ8_indexOfCharUnsafe : MethodName := ⟨RJ8, "indexOfCharUnsafe", "([BIII)I"⟩
abbrev cJ8_indexOfSupplementary : ByteArray := prog_46_method_49_code
def yJ8_indexOfSupplementary : MethodName := ⟨RJ8, "indexOfSupplementary", "([BIII)I"⟩
abbrev cJ8_charAt : ByteArray := prog_46_method_83_code
def yJ8_charAt : MethodName := ⟨RJ8, "charAt", "([BI)C"⟩
abbrev cJ8_checkIndex : ByteArray := prog_46_method_91_code
def yJ8_checkIndex : MethodName := ⟨RJ8, "checkIndex", "(I[B)V"⟩
abbrev cJ8_putCharSB : ByteArray := prog_46_method_71_code
def yJ8_putCharSB : MethodName := ⟨RJ8, "putCharSB", "([BII)V"⟩
abbrev cJ8_indexOf_2 : ByteArray := prog_46_method_41_code
def yJ8_indexOf_2 : MethodName := ⟨RJ8, "indexOf", "([B[B)I"⟩
abbrev cJ8_indexOfUnsafe : ByteArray := prog_46_method_43_code
def yJ8_indexOfUnsafe : MethodName := ⟨RJ8, "indexOfUnsafe", "([BI[BII)I"⟩
abbrev cJ8_indexOfLatin1 : ByteArray := prog_46_method_44_code
def yJ8_indexOfLatin1 : MethodName := ⟨RJ8, "indexOfLatin1", "([B[B)I"⟩
abbrev cJ8_indexOfLatin1Unsafe : ByteArray := prog_46_method_46_code
def yJ8_indexOfLatin1Unsafe : MethodName := ⟨RJ8, "indexOfLatin1Unsafe", "([BI[BII)I"⟩
abbrev cJ8_fillNull : ByteArray := prog_46_method_70_code
def yJ8_fillNull : MethodName := ⟨RJ8, "fillNull", "([BII)V"⟩
abbrev cX5_init : ByteArray := prog_22_method_1_code
def yX5_init : MethodName := ⟨RX5, "<init>", "()V"⟩
abbrev cX5_thrown : ByteArray := prog_22_method_2_code
def yX5_thrown : MethodName := ⟨RX5, "thrown", "()I"⟩
abbrev cX5_addColour : ByteArray := prog_22_method_26_code
def yX5_addColour : MethodName := ⟨RX5, "addColour", "(IIII)I"⟩
abbrev cX5_begin : ByteArray := prog_22_method_6_code
def yX5_begin : MethodName := ⟨RX5, "begin", "()V"⟩
abbrev cX5_copy : ByteArray := prog_22_method_4_code
def yX5_copy : MethodName := ⟨RX5, "copy", "([II[II)V"⟩
abbrev cX5_cannotAdd : ByteArray := prog_22_method_24_code
def yX5_cannotAdd : MethodName := ⟨RX5, "cannotAdd", "(IIII)I"⟩
abbrev cX5_areParts : ByteArray := prog_22_method_22_code
def yX5_areParts : MethodName := ⟨RX5, "areParts", "(III)Z"⟩
abbrev cX5_in : ByteArray := prog_22_method_3_code
def yX5_in : MethodName := ⟨RX5, "in", "(III)Z"⟩
abbrev cX5_fail : ByteArray := prog_22_method_5_code
def yX5_fail : MethodName := ⟨RX5, "fail", "(I)I"⟩
abbrev cX5_adds : ByteArray := prog_22_method_25_code
def yX5_adds : MethodName := ⟨RX5, "adds", "(IIII)I"⟩
abbrev cX5_colourRow : ByteArray := prog_22_method_8_code
def yX5_colourRow : MethodName := ⟨RX5, "colourRow", "(I)I"⟩
abbrev cX5_lay : ByteArray := prog_22_method_23_code
def yX5_lay : MethodName := ⟨RX5, "lay", "(IIIIIII)V"⟩
abbrev cX5_commit : ByteArray := prog_22_method_7_code
def yX5_commit : MethodName := ⟨RX5, "commit", "(I)I"⟩
abbrev cX5_report : ByteArray := prog_22_method_29_code
def yX5_report : MethodName := ⟨RX5, "report", "(IIIII)I"⟩
abbrev cX5_cannotReport : ByteArray := prog_22_method_27_code
def yX5_cannotReport : MethodName := ⟨RX5, "cannotReport", "(IIIII)I"⟩
abbrev cX5_reports : ByteArray := prog_22_method_28_code
def yX5_reports : MethodName := ⟨RX5, "reports", "(IIIII)I"⟩
abbrev cX5_reportRow : ByteArray := prog_22_method_9_code
def yX5_reportRow : MethodName := ⟨RX5, "reportRow", "(I)I"⟩
abbrev cX5_withdraw : ByteArray := prog_22_method_31_code
def yX5_withdraw : MethodName := ⟨RX5, "withdraw", "(I)I"⟩
abbrev cX5_openReport : ByteArray := prog_22_method_13_code
def yX5_openReport : MethodName := ⟨RX5, "openReport", "(I)I"⟩
abbrev cX5_r : ByteArray := prog_22_method_11_code
def yX5_r : MethodName := ⟨RX5, "r", "(II)I"⟩
abbrev cX5_withdraws : ByteArray := prog_22_method_30_code
def yX5_withdraws : MethodName := ⟨RX5, "withdraws", "(I)I"⟩
abbrev cX5_removeReport : ByteArray := prog_22_method_16_code
def yX5_removeReport : MethodName := ⟨RX5, "removeReport", "(I)V"⟩
abbrev cX5_close : ByteArray := prog_22_method_14_code
def yX5_close : MethodName := ⟨RX5, "close", "(III)V"⟩
abbrev cX5_discard : ByteArray := prog_22_method_33_code
def yX5_discard : MethodName := ⟨RX5, "discard", "(I)I"⟩
abbrev cX5_colour : ByteArray := prog_22_method_12_code
def yX5_colour : MethodName := ⟨RX5, "colour", "(I)I"⟩
abbrev cX5_c : ByteArray := prog_22_method_10_code
def yX5_c : MethodName := ⟨RX5, "c", "(II)I"⟩
abbrev cX5_discards : ByteArray := prog_22_method_32_code
def yX5_discards : MethodName := ⟨RX5, "discards", "(I)I"⟩
abbrev cX5_removeColour : ByteArray := prog_22_method_15_code
def yX5_removeColour : MethodName := ⟨RX5, "removeColour", "(I)V"⟩
abbrev cX5_setMetric : ByteArray := prog_22_method_36_code
def yX5_setMetric : MethodName := ⟨RX5, "setMetric", "(C)C"⟩
abbrev cX5_isMetric : ByteArray := prog_22_method_34_code
def yX5_isMetric : MethodName := ⟨RX5, "isMetric", "(I)Z"⟩
abbrev cX5_measures : ByteArray := prog_22_method_35_code
def yX5_measures : MethodName := ⟨RX5, "measures", "(I)I"⟩
abbrev cX5_giveBack : ByteArray := prog_22_method_39_code
def yX5_giveBack : MethodName := ⟨RX5, "giveBack", "(II)I"⟩
abbrev cX5_cannotGive : ByteArray := prog_22_method_37_code
def yX5_cannotGive : MethodName := ⟨RX5, "cannotGive", "(II)I"⟩
abbrev cX5_nearestTo : ByteArray := prog_22_method_21_code
def yX5_nearestTo : MethodName := ⟨RX5, "nearestTo", "(I)I"⟩
abbrev cX5_apart : ByteArray := prog_22_method_18_code
def yX5_apart : MethodName := ⟨RX5, "apart", "(II)I"⟩
abbrev cX5_size : ByteArray := prog_22_method_17_code
def yX5_size : MethodName := ⟨RX5, "size", "(I)I"⟩
abbrev cX5_isFit : ByteArray := prog_22_method_20_code
def yX5_isFit : MethodName := ⟨RX5, "isFit", "(II)Z"⟩
abbrev cX5_apartFor : ByteArray := prog_22_method_19_code
def yX5_apartFor : MethodName := ⟨RX5, "apartFor", "(II)I"⟩
abbrev cX5_gives : ByteArray := prog_22_method_38_code
def yX5_gives : MethodName := ⟨RX5, "gives", "(II)I"⟩
abbrev cX5_settle : ByteArray := prog_22_method_40_code
def yX5_settle : MethodName := ⟨RX5, "settle", "()I"⟩
abbrev cX5_settleAll : ByteArray := prog_22_method_41_code
def yX5_settleAll : MethodName := ⟨RX5, "settleAll", "()I"⟩
abbrev cX5_settling : ByteArray := prog_22_method_82_code
def yX5_settling : MethodName := ⟨RX5, "settling", "()I"⟩
abbrev cX5_gain : ByteArray := prog_22_method_81_code
def yX5_gain : MethodName := ⟨RX5, "gain", "(II)I"⟩
abbrev cX5_settled : ByteArray := prog_22_method_84_code
def yX5_settled : MethodName := ⟨RX5, "settled", "(I)I"⟩
abbrev cX5_choice : ByteArray := prog_22_method_83_code
def yX5_choice : MethodName := ⟨RX5, "choice", "(II)I"⟩
abbrev cX5_mix : ByteArray := prog_22_method_44_code
def yX5_mix : MethodName := ⟨RX5, "mix", "(II)I"⟩
abbrev cX5_cannotMix : ByteArray := prog_22_method_42_code
def yX5_cannotMix : MethodName := ⟨RX5, "cannotMix", "(II)I"⟩
abbrev cX5_mixes : ByteArray := prog_22_method_43_code
def yX5_mixes : MethodName := ⟨RX5, "mixes", "(II)I"⟩
abbrev cX5_passDays : ByteArray := prog_22_method_50_code
def yX5_passDays : MethodName := ⟨RX5, "passDays", "(I)I"⟩
abbrev cX5_passes : ByteArray := prog_22_method_47_code
def yX5_passes : MethodName := ⟨RX5, "passes", "(I)I"⟩
abbrev cX5_ageAt : ByteArray := prog_22_method_46_code
def yX5_ageAt : MethodName := ⟨RX5, "ageAt", "(I)I"⟩
abbrev cX5_faded : ByteArray := prog_22_method_45_code
def yX5_faded : MethodName := ⟨RX5, "faded", "(I)I"⟩
abbrev cX5_greys : ByteArray := prog_22_method_49_code
def yX5_greys : MethodName := ⟨RX5, "greys", "()I"⟩
abbrev cX5_fadesLeft : ByteArray := prog_22_method_48_code
def yX5_fadesLeft : MethodName := ⟨RX5, "fadesLeft", "(I)I"⟩
abbrev cX5_colourCount : ByteArray := prog_22_method_53_code
def yX5_colourCount : MethodName := ⟨RX5, "colourCount", "()I"⟩
abbrev cX5_plain : ByteArray := prog_22_method_51_code
def yX5_plain : MethodName := ⟨RX5, "plain", "(I)I"⟩
abbrev cX5_colourAt : ByteArray := prog_22_method_54_code
def yX5_colourAt : MethodName := ⟨RX5, "colourAt", "(I)I"⟩
abbrev cX5_checked : ByteArray := prog_22_method_52_code
def yX5_checked : MethodName := ⟨RX5, "checked", "(Z)I"⟩
abbrev cX5_red : ByteArray := prog_22_method_56_code
def yX5_red : MethodName := ⟨RX5, "red", "(I)I"⟩
abbrev cX5_ofColour : ByteArray := prog_22_method_55_code
def yX5_ofColour : MethodName := ⟨RX5, "ofColour", "(II)I"⟩
abbrev cX5_green : ByteArray := prog_22_method_57_code
def yX5_green : MethodName := ⟨RX5, "green", "(I)I"⟩
abbrev cX5_blue : ByteArray := prog_22_method_58_code
def yX5_blue : MethodName := ⟨RX5, "blue", "(I)I"⟩
abbrev cX5_fastness : ByteArray := prog_22_method_59_code
def yX5_fastness : MethodName := ⟨RX5, "fastness", "(I)I"⟩
abbrev cX5_age : ByteArray := prog_22_method_60_code
def yX5_age : MethodName := ⟨RX5, "age", "(I)I"⟩
abbrev cX5_daysUntilGrey : ByteArray := prog_22_method_61_code
def yX5_daysUntilGrey : MethodName := ⟨RX5, "daysUntilGrey", "(I)I"⟩
abbrev cX5_colourByBrightness : ByteArray := prog_22_method_63_code
def yX5_colourByBrightness : MethodName := ⟨RX5, "colourByBrightness", "(I)I"⟩
abbrev cX5_brightness : ByteArray := prog_22_method_62_code
def yX5_brightness : MethodName := ⟨RX5, "brightness", "(I)I"⟩
abbrev cX5_reportCount : ByteArray := prog_22_method_64_code
def yX5_reportCount : MethodName := ⟨RX5, "reportCount", "()I"⟩
abbrev cX5_reportAt : ByteArray := prog_22_method_65_code
def yX5_reportAt : MethodName := ⟨RX5, "reportAt", "(I)I"⟩
abbrev cX5_toleranceOf : ByteArray := prog_22_method_67_code
def yX5_toleranceOf : MethodName := ⟨RX5, "toleranceOf", "(I)I"⟩
abbrev cX5_ofReport : ByteArray := prog_22_method_66_code
def yX5_ofReport : MethodName := ⟨RX5, "ofReport", "(II)I"⟩
abbrev cX5_rewardOf : ByteArray := prog_22_method_68_code
def yX5_rewardOf : MethodName := ⟨RX5, "rewardOf", "(I)I"⟩
abbrev cX5_distanceFor : ByteArray := prog_22_method_70_code
def yX5_distanceFor : MethodName := ⟨RX5, "distanceFor", "(II)I"⟩
abbrev cX5_areBoth : ByteArray := prog_22_method_69_code
def yX5_areBoth : MethodName := ⟨RX5, "areBoth", "(II)Z"⟩
abbrev cX5_fits : ByteArray := prog_22_method_71_code
def yX5_fits : MethodName := ⟨RX5, "fits", "(II)Z"⟩
abbrev cX5_nearestFor : ByteArray := prog_22_method_72_code
def yX5_nearestFor : MethodName := ⟨RX5, "nearestFor", "(I)I"⟩
abbrev cX5_distance : ByteArray := prog_22_method_73_code
def yX5_distance : MethodName := ⟨RX5, "distance", "(II)I"⟩
abbrev cX5_nearest : ByteArray := prog_22_method_76_code
def yX5_nearest : MethodName := ⟨RX5, "nearest", "(III)I"⟩
abbrev cX5_near : ByteArray := prog_22_method_74_code
def yX5_near : MethodName := ⟨RX5, "near", "(III)I"⟩
abbrev cX5_farFrom : ByteArray := prog_22_method_75_code
def yX5_farFrom : MethodName := ⟨RX5, "farFrom", "(IIII)I"⟩
abbrev cX5_nearestByLooking : ByteArray := prog_22_method_77_code
def yX5_nearestByLooking : MethodName := ⟨RX5, "nearestByLooking", "(III)I"⟩
abbrev cX5_closestDistance : ByteArray := prog_22_method_79_code
def yX5_closestDistance : MethodName := ⟨RX5, "closestDistance", "()I"⟩
abbrev cX5_closest : ByteArray := prog_22_method_78_code
def yX5_closest : MethodName := ⟨RX5, "closest", "()I"⟩
abbrev cX5_closestDistanceBySorting : ByteArray := prog_22_method_80_code
def yX5_closestDistanceBySorting : MethodName := ⟨RX5, "closestDistanceBySorting", "()I"⟩
abbrev cX5_bestReward : ByteArray := prog_22_method_86_code
def yX5_bestReward : MethodName := ⟨RX5, "bestReward", "()I"⟩
abbrev cX5_rewards : ByteArray := prog_22_method_85_code
def yX5_rewards : MethodName := ⟨RX5, "rewards", "()I"⟩
abbrev cX5_bestRewardByTrying : ByteArray := prog_22_method_87_code
def yX5_bestRewardByTrying : MethodName := ⟨RX5, "bestRewardByTrying", "()I"⟩
abbrev cX5_bestDifference : ByteArray := prog_22_method_88_code
def yX5_bestDifference : MethodName := ⟨RX5, "bestDifference", "()I"⟩
abbrev cX5_settlementFor : ByteArray := prog_22_method_89_code
def yX5_settlementFor : MethodName := ⟨RX5, "settlementFor", "(I)I"⟩
abbrev cX5_paletteError : ByteArray := prog_22_method_95_code
def yX5_paletteError : MethodName := ⟨RX5, "paletteError", "(I)I"⟩
abbrev cX5_errorOf : ByteArray := prog_22_method_94_code
def yX5_errorOf : MethodName := ⟨RX5, "errorOf", "(I)I"⟩
abbrev cX5_palette : ByteArray := prog_22_method_93_code
def yX5_palette : MethodName := ⟨RX5, "palette", "(I)I"⟩
abbrev cX5_many : ByteArray := prog_22_method_90_code
def yX5_many : MethodName := ⟨RX5, "many", "(I)I"⟩
abbrev cX5_error : ByteArray := prog_22_method_91_code
def yX5_error : MethodName := ⟨RX5, "error", "(I)I"⟩
abbrev cX5_hasLowest : ByteArray := prog_22_method_92_code
def yX5_hasLowest : MethodName := ⟨RX5, "hasLowest", "(II)Z"⟩
abbrev cX5_paletteErrorBySearch : ByteArray := prog_22_method_96_code
def yX5_paletteErrorBySearch : MethodName := ⟨RX5, "paletteErrorBySearch", "(I)I"⟩
abbrev cX5_paletteColour : ByteArray := prog_22_method_97_code
def yX5_paletteColour : MethodName := ⟨RX5, "paletteColour", "(II)I"⟩
abbrev cX5_day : ByteArray := prog_22_method_98_code
def yX5_day : MethodName := ⟨RX5, "day", "()I"⟩
abbrev cX5_metric : ByteArray := prog_22_method_99_code
def yX5_metric : MethodName := ⟨RX5, "metric", "()C"⟩
abbrev cX5_coins : ByteArray := prog_22_method_100_code
def yX5_coins : MethodName := ⟨RX5, "coins", "()I"⟩
abbrev cX5_coinsByAccounts : ByteArray := prog_22_method_101_code
def yX5_coinsByAccounts : MethodName := ⟨RX5, "coinsByAccounts", "()I"⟩
abbrev cX5_returnedTotal : ByteArray := prog_22_method_102_code
def yX5_returnedTotal : MethodName := ⟨RX5, "returnedTotal", "()I"⟩
abbrev cX5_meanBrightness : ByteArray := prog_22_method_103_code
def yX5_meanBrightness : MethodName := ⟨RX5, "meanBrightness", "()D"⟩
abbrev cX5_greyShare : ByteArray := prog_22_method_104_code
def yX5_greyShare : MethodName := ⟨RX5, "greyShare", "()F"⟩
abbrev cX5_isConsistent : ByteArray := prog_22_method_105_code
def yX5_isConsistent : MethodName := ⟨RX5, "isConsistent", "()Z"⟩
abbrev cX5_renderColour : ByteArray := prog_22_method_109_code
def yX5_renderColour : MethodName := ⟨RX5, "renderColour", "(I)I"⟩
abbrev cX5_writeNumber : ByteArray := prog_22_method_107_code
def yX5_writeNumber : MethodName := ⟨RX5, "writeNumber", "(I)V"⟩
abbrev cX5_write : ByteArray := prog_22_method_106_code
def yX5_write : MethodName := ⟨RX5, "write", "(I)V"⟩
abbrev cX5_writeParts : ByteArray := prog_22_method_108_code
def yX5_writeParts : MethodName := ⟨RX5, "writeParts", "(I)V"⟩
abbrev cX5_renderReport : ByteArray := prog_22_method_110_code
def yX5_renderReport : MethodName := ⟨RX5, "renderReport", "(I)I"⟩
abbrev cX5_outputAt : ByteArray := prog_22_method_111_code
def yX5_outputAt : MethodName := ⟨RX5, "outputAt", "(I)C"⟩
abbrev cX5_type : ByteArray := prog_22_method_112_code
def yX5_type : MethodName := ⟨RX5, "type", "(C)I"⟩
abbrev cX5_runScript : ByteArray := prog_22_method_127_code
def yX5_runScript : MethodName := ⟨RX5, "runScript", "()I"⟩
abbrev cX5_parse : ByteArray := prog_22_method_123_code
def yX5_parse : MethodName := ⟨RX5, "parse", "()V"⟩
abbrev cX5_command : ByteArray := prog_22_method_122_code
def yX5_command : MethodName := ⟨RX5, "command", "()V"⟩
abbrev cX5_word : ByteArray := prog_22_method_120_code
def yX5_word : MethodName := ⟨RX5, "word", "()I"⟩
abbrev cX5_spelled : ByteArray := prog_22_method_119_code
def yX5_spelled : MethodName := ⟨RX5, "spelled", "(II)I"⟩
abbrev cX5_pick : ByteArray := prog_22_method_118_code
def yX5_pick : MethodName := ⟨RX5, "pick", "(IIIIIIII)I"⟩
abbrev cX5_readsArguments : ByteArray := prog_22_method_121_code
def yX5_readsArguments : MethodName := ⟨RX5, "readsArguments", "(I)V"⟩
abbrev cX5_readsColour : ByteArray := prog_22_method_116_code
def yX5_readsColour : MethodName := ⟨RX5, "readsColour", "()V"⟩
abbrev cX5_reads : ByteArray := prog_22_method_115_code
def yX5_reads : MethodName := ⟨RX5, "reads", "(II)V"⟩
abbrev cX5_mark : ByteArray := prog_22_method_113_code
def yX5_mark : MethodName := ⟨RX5, "mark", "()I"⟩
abbrev cX5_number : ByteArray := prog_22_method_114_code
def yX5_number : MethodName := ⟨RX5, "number", "()I"⟩
abbrev cX5_readsMetric : ByteArray := prog_22_method_117_code
def yX5_readsMetric : MethodName := ⟨RX5, "readsMetric", "()V"⟩
abbrev cX5_why : ByteArray := prog_22_method_125_code
def yX5_why : MethodName := ⟨RX5, "why", "(IIIIII)I"⟩
abbrev cX5_kindOf : ByteArray := prog_22_method_124_code
def yX5_kindOf : MethodName := ⟨RX5, "kindOf", "(III)I"⟩
abbrev cX5_does : ByteArray := prog_22_method_126_code
def yX5_does : MethodName := ⟨RX5, "does", "(IIIIII)I"⟩
abbrev cX5_errorPosition : ByteArray := prog_22_method_129_code
def yX5_errorPosition : MethodName := ⟨RX5, "errorPosition", "()I"⟩
abbrev cX5_present : ByteArray := prog_22_method_128_code
def yX5_present : MethodName := ⟨RX5, "present", "(I)I"⟩
abbrev cX5_failedCommand : ByteArray := prog_22_method_130_code
def yX5_failedCommand : MethodName := ⟨RX5, "failedCommand", "()I"⟩
abbrev cX5_failureKind : ByteArray := prog_22_method_131_code
def yX5_failureKind : MethodName := ⟨RX5, "failureKind", "()C"⟩
abbrev cX5_undo : ByteArray := prog_22_method_132_code
def yX5_undo : MethodName := ⟨RX5, "undo", "()I"⟩
abbrev cX5_save : ByteArray := prog_22_method_133_code
def yX5_save : MethodName := ⟨RX5, "save", "()I"⟩
abbrev cX5_restore : ByteArray := prog_22_method_134_code
def yX5_restore : MethodName := ⟨RX5, "restore", "()I"⟩
abbrev cX6_init : ByteArray := prog_16_method_1_code
def yX6_init : MethodName := ⟨RX6, "<init>", "(LColourOffice$Shelf;)V"⟩
abbrev cX6_hasNext : ByteArray := prog_16_method_2_code
def yX6_hasNext : MethodName := ⟨RX6, "hasNext", "()Z"⟩
abbrev cX6_next : ByteArray := prog_16_method_4_code
def yX6_next : MethodName := ⟨RX6, "next", "()Ljava/lang/Object;"⟩
abbrev cX6_next_2 : ByteArray := prog_16_method_3_code
def yX6_next_2 : MethodName := ⟨RX6, "next", "()LColourOffice$Found;"⟩
abbrev cJ9_init : ByteArray := prog_49_method_1_code
def yJ9_init : MethodName := ⟨RJ9, "<init>", "()V"⟩
abbrev cJ9_init_2 : ByteArray := prog_49_method_2_code
def yJ9_init_2 : MethodName := ⟨RJ9, "<init>", "(Ljava/lang/String;)V"⟩
abbrev cJ9_init_3 : ByteArray := prog_49_method_3_code
def yJ9_init_3 : MethodName := ⟨RJ9, "<init>", "(Ljava/lang/String;Ljava/lang/Throwable;)V"⟩
abbrev cJ9_toString : ByteArray := prog_49_method_11_code
def yJ9_toString : MethodName := ⟨RJ9, "toString", "()Ljava/lang/String;"⟩
abbrev cJ9_getLocalizedMessage : ByteArray := prog_49_method_7_code
def yJ9_getLocalizedMessage : MethodName := ⟨RJ9, "getLocalizedMessage", "()Ljava/lang/String;"⟩
abbrev cJ9_getMessage : ByteArray := prog_49_method_6_code
def yJ9_getMessage : MethodName := ⟨RJ9, "getMessage", "()Ljava/lang/String;"⟩
abbrev cJ10_init : ByteArray := prog_33_method_1_code
def yJ10_init : MethodName := ⟨RJ10, "<init>", "()V"⟩
abbrev cJ10_init_2 : ByteArray := prog_33_method_2_code
def yJ10_init_2 : MethodName := ⟨RJ10, "<init>", "(Ljava/lang/String;)V"⟩
abbrev cJ10_init_3 : ByteArray := prog_33_method_3_code
def yJ10_init_3 : MethodName := ⟨RJ10, "<init>", "(Ljava/lang/String;Ljava/lang/Throwable;)V"⟩
abbrev cJ11_init : ByteArray := prog_41_method_1_code
def yJ11_init : MethodName := ⟨RJ11, "<init>", "()V"⟩
abbrev cJ11_init_2 : ByteArray := prog_41_method_2_code
def yJ11_init_2 : MethodName := ⟨RJ11, "<init>", "(Ljava/lang/String;)V"⟩
abbrev cJ12_init : ByteArray := prog_65_method_1_code
def yJ12_init : MethodName := ⟨RJ12, "<init>", "()V"⟩
abbrev cJ12_init_2 : ByteArray := prog_65_method_4_code
def yJ12_init_2 : MethodName := ⟨RJ12, "<init>", "(Ljava/lang/String;)V"⟩
abbrev cX7_copy : ByteArray := prog_6_method_3_code
def yX7_copy : MethodName := ⟨RX7, "copy", "()LColourOffice$Found;"⟩
abbrev cX7_init : ByteArray := prog_6_method_2_code
def yX7_init : MethodName := ⟨RX7, "<init>", "(ILColourOffice$Tint;II)V"⟩
abbrev cX7_init_2 : ByteArray := prog_6_method_1_code
def yX7_init_2 : MethodName := ⟨RX7, "<init>", "(ILColourOffice$Tint;I)V"⟩
abbrev cX7_passDay : ByteArray := prog_6_method_4_code
def yX7_passDay : MethodName := ⟨RX7, "passDay", "()V"⟩
abbrev cX7_daysUntilGrey : ByteArray := prog_6_method_5_code
def yX7_daysUntilGrey : MethodName := ⟨RX7, "daysUntilGrey", "()I"⟩
abbrev cX7_toString : ByteArray := prog_6_method_6_code
def yX7_toString : MethodName := ⟨RX7, "toString", "()Ljava/lang/String;"⟩
abbrev cJ13_checkIndex : ByteArray := prog_66_method_17_code
def yJ13_checkIndex : MethodName := ⟨RJ13, "checkIndex", "(II)I"⟩
abbrev cJ13_requireNonNull : ByteArray := prog_66_method_10_code
def yJ13_requireNonNull : MethodName := ⟨RJ13, "requireNonNull", "(Ljava/lang/Object;)Ljava/lang/Object;"⟩
abbrev cJ14_checkIndex : ByteArray := prog_73_method_11_code
def yJ14_checkIndex : MethodName := ⟨RJ14, "checkIndex", "(IILjava/util/function/BiFunction;)I"⟩
abbrev cJ14_checkFromToIndex : ByteArray := prog_73_method_12_code
def yJ14_checkFromToIndex : MethodName := ⟨RJ14, "checkFromToIndex", "(IIILjava/util/function/BiFunction;)I"⟩
abbrev cJ14_checkFromIndexSize : ByteArray := prog_73_method_13_code
def yJ14_checkFromIndexSize : MethodName := ⟨RJ14, "checkFromIndexSize", "(IIILjava/util/function/BiFunction;)I"⟩
abbrev cJ15_init : ByteArray := prog_36_method_2_code
def yJ15_init : MethodName := ⟨RJ15, "<init>", "(Ljava/lang/String;)V"⟩
abbrev cJ15_init_2 : ByteArray := prog_36_method_1_code
def yJ15_init_2 : MethodName := ⟨RJ15, "<init>", "()V"⟩
abbrev cJ16_newLength : ByteArray := prog_72_method_27_code
def yJ16_newLength : MethodName := ⟨RJ16, "newLength", "(III)I"⟩
abbrev cJ16_hugeLength : ByteArray := prog_72_method_28_code
def yJ16_hugeLength : MethodName := ⟨RJ16, "hugeLength", "(II)I"⟩
abbrev cJ16_vectorizedHashCode : ByteArray := prog_72_method_4_code
def yJ16_vectorizedHashCode : MethodName := ⟨RJ16, "vectorizedHashCode", "(Ljava/lang/Object;IIII)I"⟩
abbrev cJ16_signedHashCode : ByteArray := prog_72_method_5_code
def yJ16_signedHashCode : MethodName := ⟨RJ16, "signedHashCode", "(I[BII)I"⟩
abbrev cJ16_utf16hashCode : ByteArray := prog_72_method_10_code
def yJ16_utf16hashCode : MethodName := ⟨RJ16, "utf16hashCode", "(I[BII)I"⟩
abbrev cJ16_hashCode : ByteArray := prog_72_method_7_code
def yJ16_hashCode : MethodName := ⟨RJ16, "hashCode", "(I[CII)I"⟩
abbrev cJ16_hashCode_2 : ByteArray := prog_72_method_6_code
def yJ16_hashCode_2 : MethodName := ⟨RJ16, "hashCode", "(I[BII)I"⟩
abbrev cJ16_hashCode_3 : ByteArray := prog_72_method_8_code
def yJ16_hashCode_3 : MethodName := ⟨RJ16, "hashCode", "(I[SII)I"⟩
abbrev cJ16_hashCode_4 : ByteArray := prog_72_method_9_code
def yJ16_hashCode_4 : MethodName := ⟨RJ16, "hashCode", "(I[III)I"⟩
abbrev cJ17_max : ByteArray := prog_39_method_65_code
def yJ17_max : MethodName := ⟨RJ17, "max", "(II)I"⟩
abbrev cJ17_min : ByteArray := prog_39_method_69_code
def yJ17_min : MethodName := ⟨RJ17, "min", "(II)I"⟩
abbrev cJ17_abs : ByteArray := prog_39_method_59_code
def yJ17_abs : MethodName := ⟨RJ17, "abs", "(I)I"⟩
abbrev cJ17_max_2 : ByteArray := prog_39_method_66_code
def yJ17_max_2 : MethodName := ⟨RJ17, "max", "(JJ)J"⟩
abbrev cJ18_copyOf : ByteArray := prog_58_method_121_code
def yJ18_copyOf : MethodName := ⟨RJ18, "copyOf", "([BI)[B"⟩
abbrev cJ18_copyOfRange : ByteArray := prog_58_method_132_code
def yJ18_copyOfRange : MethodName := ⟨RJ18, "copyOfRange", "([BII)[B"⟩
abbrev cJ18_copyOfRangeByte : ByteArray := prog_58_method_133_code
def yJ18_copyOfRangeByte : MethodName := ⟨RJ18, "copyOfRangeByte", "([BII)[B"⟩
abbrev cJ18_checkLength : ByteArray := prog_58_method_131_code
def yJ18_checkLength : MethodName := ⟨RJ18, "checkLength", "(II)V"⟩
abbrev cJ18_copyOf_2 : ByteArray := prog_58_method_119_code
def yJ18_copyOf_2 : MethodName := ⟨RJ18, "copyOf", "([Ljava/lang/Object;I)[Ljava/lang/Object;"⟩
abbrev cJ18_copyOf_3 : ByteArray := prog_58_method_120_code
def yJ18_copyOf_3 : MethodName := ⟨RJ18, "copyOf", "([Ljava/lang/Object;ILjava/lang/Class;)[Ljava/lang/Object;"⟩
abbrev cJ18_fill : ByteArray := prog_58_method_110_code
def yJ18_fill : MethodName := ⟨RJ18, "fill", "([BIIB)V"⟩
abbrev cJ18_rangeCheck : ByteArray := prog_58_method_30_code
def yJ18_rangeCheck : MethodName := ⟨RJ18, "rangeCheck", "(III)V"⟩
abbrev cJ19_inflate : ByteArray := prog_45_method_50_code
def yJ19_inflate : MethodName := ⟨RJ19, "inflate", "([BI[BII)V"⟩
abbrev cJ19_hashCode : ByteArray := prog_45_method_21_code
def yJ19_hashCode : MethodName := ⟨RJ19, "hashCode", "([B)I"⟩
abbrev cJ19_equals : ByteArray := prog_45_method_13_code
def yJ19_equals : MethodName := ⟨RJ19, "equals", "([B[B)Z"⟩
abbrev cJ19_indexOf : ByteArray := prog_45_method_22_code
def yJ19_indexOf : MethodName := ⟨RJ19, "indexOf", "([BIII)I"⟩
abbrev cJ19_canEncode : ByteArray := prog_45_method_4_code
def yJ19_canEncode : MethodName := ⟨RJ19, "canEncode", "(I)Z"⟩
abbrev cJ19_indexOfChar : ByteArray := prog_45_method_23_code
def yJ19_indexOfChar : MethodName := ⟨RJ19, "indexOfChar", "([BIII)I"⟩
abbrev cJ19_charAt : ByteArray := prog_45_method_2_code
def yJ19_charAt : MethodName := ⟨RJ19, "charAt", "([BI)C"⟩
abbrev cJ19_canEncode_2 : ByteArray := prog_45_method_3_code
def yJ19_canEncode_2 : MethodName := ⟨RJ19, "canEncode", "(C)Z"⟩
abbrev cJ19_indexOf_2 : ByteArray := prog_45_method_24_code
def yJ19_indexOf_2 : MethodName := ⟨RJ19, "indexOf", "([B[B)I"⟩
abbrev cJ19_indexOf_3 : ByteArray := prog_45_method_25_code
def yJ19_indexOf_3 : MethodName := ⟨RJ19, "indexOf", "([BI[BII)I"⟩
abbrev cJ19_fillNull : ByteArray := prog_45_method_48_code
def yJ19_fillNull : MethodName := ⟨RJ19, "fillNull", "([BII)V"⟩
abbrev cJ20_stringSize : ByteArray := prog_37_method_13_code
def yJ20_stringSize : MethodName := ⟨RJ20, "stringSize", "(I)I"⟩
abbrev cJ20_getChars : ByteArray := prog_37_method_12_code
def yJ20_getChars : MethodName := ⟨RJ20, "getChars", "(II[B)I"⟩
abbrev cJ21_init : ByteArray := prog_34_method_2_code
def yJ21_init : MethodName := ⟨RJ21, "<init>", "(Ljava/lang/String;)V"⟩
abbrev cJ21_init_2 : ByteArray := prog_34_method_1_code
def yJ21_init_2 : MethodName := ⟨RJ21, "<init>", "()V"⟩
abbrev cJ22_init : ByteArray := prog_63_method_1_code
def yJ22_init : MethodName := ⟨RJ22, "<init>", "(Ljava/util/LinkedList$Node;Ljava/lang/Object;Ljava/util/LinkedList$Node;)V"⟩
abbrev cX8_init : ByteArray := prog_2_method_1_code
def yX8_init : MethodName := ⟨RX8, "<init>", "(Ljava/lang/String;[I)V"⟩
abbrev cX8_applyTo : ByteArray := prog_2_method_3_code
def yX8_applyTo : MethodName := ⟨RX8, "applyTo", "(LColourOffice$Office;)I"⟩
abbrev cX8_at : ByteArray := prog_2_method_2_code
def yX8_at : MethodName := ⟨RX8, "at", "(I)I"⟩
abbrev cX9_init : ByteArray := prog_5_method_1_code
def yX9_init : MethodName := ⟨RX9, "<init>", "(LColourOffice$Failure;)V"⟩
abbrev cX10_init : ByteArray := prog_4_method_1_code
def yX10_init : MethodName := ⟨RX10, "<init>", "(C)V"⟩
abbrev cX10_asPublicException : ByteArray := prog_4_method_3_code
def yX10_asPublicException : MethodName := ⟨RX10, "asPublicException", "()Ljava/lang/RuntimeException;"⟩
abbrev cX10_kind : ByteArray := prog_4_method_2_code
def yX10_kind : MethodName := ⟨RX10, "kind", "()C"⟩
abbrev cX11_init : ByteArray := prog_18_method_1_code
def yX11_init : MethodName := ⟨RX11, "<init>", "([I)V"⟩
abbrev cX11_part : ByteArray := prog_18_method_2_code
def yX11_part : MethodName := ⟨RX11, "part", "(I)I"⟩
abbrev cX11_difference : ByteArray := prog_18_method_5_code
def yX11_difference : MethodName := ⟨RX11, "difference", "(LColourOffice$Tint;I)I"⟩
abbrev cX11_mixedWith : ByteArray := prog_18_method_9_code
def yX11_mixedWith : MethodName := ⟨RX11, "mixedWith", "(LColourOffice$Tint;)LColourOffice$Tint;"⟩
abbrev cX11_isGrey : ByteArray := prog_18_method_4_code
def yX11_isGrey : MethodName := ⟨RX11, "isGrey", "()Z"⟩
abbrev cX11_faded : ByteArray := prog_18_method_8_code
def yX11_faded : MethodName := ⟨RX11, "faded", "()LColourOffice$Tint;"⟩
abbrev cX11_faded_2 : ByteArray := prog_18_method_7_code
def yX11_faded_2 : MethodName := ⟨RX11, "faded", "(I)I"⟩
abbrev cX11_stepsToGrey : ByteArray := prog_18_method_6_code
def yX11_stepsToGrey : MethodName := ⟨RX11, "stepsToGrey", "()I"⟩
abbrev cX11_sum : ByteArray := prog_18_method_3_code
def yX11_sum : MethodName := ⟨RX11, "sum", "()I"⟩
abbrev cX11_toString : ByteArray := prog_18_method_10_code
def yX11_toString : MethodName := ⟨RX11, "toString", "()Ljava/lang/String;"⟩
abbrev cX12_init : ByteArray := prog_13_method_1_code
def yX12_init : MethodName := ⟨RX12, "<init>", "(ILColourOffice$Tint;II)V"⟩
abbrev cX12_toString : ByteArray := prog_13_method_2_code
def yX12_toString : MethodName := ⟨RX12, "toString", "()Ljava/lang/String;"⟩
abbrev cJ23_isValidCodePoint : ByteArray := prog_29_method_11_code
def yJ23_isValidCodePoint : MethodName := ⟨RJ23, "isValidCodePoint", "(I)Z"⟩
abbrev cJ23_highSurrogate : ByteArray := prog_29_method_28_code
def yJ23_highSurrogate : MethodName := ⟨RJ23, "highSurrogate", "(I)C"⟩
abbrev cJ23_lowSurrogate : ByteArray := prog_29_method_29_code
def yJ23_lowSurrogate : MethodName := ⟨RJ23, "lowSurrogate", "(I)C"⟩
abbrev cX13_init : ByteArray := prog_19_method_1_code
def yX13_init : MethodName := ⟨RX13, "<init>", "(LColourOffice$Shelf;LColourOffice$Metric;)V"⟩
abbrev cX13_nearest : ByteArray := prog_19_method_3_code
def yX13_nearest : MethodName := ⟨RX13, "nearest", "(LColourOffice$Tint;)Ljava/util/Optional;"⟩
abbrev cX13_isNearer : ByteArray := prog_19_method_2_code
def yX13_isNearer : MethodName := ⟨RX13, "isNearer", "(LColourOffice$Found;LColourOffice$Found;LColourOffice$Tint;)Z"⟩
abbrev cX13_nearestByLooking : ByteArray := prog_19_method_4_code
def yX13_nearestByLooking : MethodName := ⟨RX13, "nearestByLooking", "(LColourOffice$Tint;)Ljava/util/Optional;"⟩
abbrev cX14_init : ByteArray := prog_20_method_1_code
def yX14_init : MethodName := ⟨RX14, "<init>", "(LColourOffice$Tree;LColourOffice$Found;I)V"⟩
abbrev cX14_insert : ByteArray := prog_20_method_3_code
def yX14_insert : MethodName := ⟨RX14, "insert", "(LColourOffice$Found;)V"⟩
abbrev cX14_isLeft : ByteArray := prog_20_method_2_code
def yX14_isLeft : MethodName := ⟨RX14, "isLeft", "(LColourOffice$Tint;)Z"⟩
abbrev cX14_nearer : ByteArray := prog_20_method_5_code
def yX14_nearer : MethodName := ⟨RX14, "nearer", "(LColourOffice$Found;LColourOffice$Tint;)LColourOffice$Found;"⟩
abbrev cX14_bound : ByteArray := prog_20_method_4_code
def yX14_bound : MethodName := ⟨RX14, "bound", "(LColourOffice$Tint;)I"⟩
abbrev cJ24_empty : ByteArray := prog_67_method_1_code
def yJ24_empty : MethodName := ⟨RJ24, "empty", "()Ljava/util/Optional;"⟩
abbrev cJ24_of : ByteArray := prog_67_method_3_code
def yJ24_of : MethodName := ⟨RJ24, "of", "(Ljava/lang/Object;)Ljava/util/Optional;"⟩
abbrev cJ24_init : ByteArray := prog_67_method_2_code
def yJ24_init : MethodName := ⟨RJ24, "<init>", "(Ljava/lang/Object;)V"⟩
abbrev cJ24_get : ByteArray := prog_67_method_5_code
def yJ24_get : MethodName := ⟨RJ24, "get", "()Ljava/lang/Object;"⟩
abbrev cJ24_isPresent : ByteArray := prog_67_method_6_code
def yJ24_isPresent : MethodName := ⟨RJ24, "isPresent", "()Z"⟩
abbrev cX15_init : ByteArray := prog_14_method_1_code
def yX15_init : MethodName := ⟨RX15, "<init>", "(Ljava/util/List;LColourOffice$Shelf;LColourOffice$Metric;)V"⟩
abbrev cX15_colours : ByteArray := prog_14_method_10_code
def yX15_colours : MethodName := ⟨RX15, "colours", "()[I"⟩
abbrev cX15_best : ByteArray := prog_14_method_6_code
def yX15_best : MethodName := ⟨RX15, "best", "()J"⟩
abbrev cX15_worthsFrom : ByteArray := prog_14_method_4_code
def yX15_worthsFrom : MethodName := ⟨RX15, "worthsFrom", "(I)[J"⟩
abbrev cX15_bestWith : ByteArray := prog_14_method_5_code
def yX15_bestWith : MethodName := ⟨RX15, "bestWith", "([JII)J"⟩
abbrev cX15_fits : ByteArray := prog_14_method_2_code
def yX15_fits : MethodName := ⟨RX15, "fits", "(II)Z"⟩
abbrev cX15_worth : ByteArray := prog_14_method_3_code
def yX15_worth : MethodName := ⟨RX15, "worth", "(II)J"⟩
abbrev cX15_rewardOf : ByteArray := prog_14_method_8_code
def yX15_rewardOf : MethodName := ⟨RX15, "rewardOf", "(J)I"⟩
abbrev cX15_bestByTrying : ByteArray := prog_14_method_7_code
def yX15_bestByTrying : MethodName := ⟨RX15, "bestByTrying", "(II)J"⟩
abbrev cX15_differenceOf : ByteArray := prog_14_method_9_code
def yX15_differenceOf : MethodName := ⟨RX15, "differenceOf", "(J)I"⟩
abbrev cJ25_init : ByteArray := prog_35_method_1_code
def yJ25_init : MethodName := ⟨RJ25, "<init>", "()V"⟩
abbrev cJ26_init : ByteArray := prog_50_method_1_code
def yJ26_init : MethodName := ⟨RJ26, "<init>", "()V"⟩
abbrev cX16_init : ByteArray := prog_9_method_1_code
def yX16_init : MethodName := ⟨RX16, "<init>", "(LColourOffice$Office;)V"⟩
abbrev cX16_insert : ByteArray := prog_9_method_2_code
def yX16_insert : MethodName := ⟨RX16, "insert", "(LColourOffice$Tint;)V"⟩
abbrev cX17_init : ByteArray := prog_10_method_1_code
def yX17_init : MethodName := ⟨RX17, "<init>", "(LColourOffice$Shelf;LColourOffice$Metric;)V"⟩
abbrev cX17_best : ByteArray := prog_10_method_5_code
def yX17_best : MethodName := ⟨RX17, "best", "(I)I"⟩
abbrev cX17_error : ByteArray := prog_10_method_3_code
def yX17_error : MethodName := ⟨RX17, "error", "(I)I"⟩
abbrev cX17_distanceTo : ByteArray := prog_10_method_2_code
def yX17_distanceTo : MethodName := ⟨RX17, "distanceTo", "(II)I"⟩
abbrev cX17_hasLowest : ByteArray := prog_10_method_4_code
def yX17_hasLowest : MethodName := ⟨RX17, "hasLowest", "(II)Z"⟩
abbrev cX17_leastError : ByteArray := prog_10_method_6_code
def yX17_leastError : MethodName := ⟨RX17, "leastError", "(I)I"⟩
abbrev cX17_search : ByteArray := prog_10_method_7_code
def yX17_search : MethodName := ⟨RX17, "search", "(III)V"⟩
abbrev cX17_bound : ByteArray := prog_10_method_8_code
def yX17_bound : MethodName := ⟨RX17, "bound", "(II)I"⟩
abbrev cJ27_init : ByteArray := prog_26_method_2_code
def yJ27_init : MethodName := ⟨RJ27, "<init>", "(Ljava/lang/String;)V"⟩
abbrev cJ27_init_2 : ByteArray := prog_26_method_1_code
def yJ27_init_2 : MethodName := ⟨RJ27, "<init>", "()V"⟩
abbrev cJ28_init : ByteArray := prog_27_method_2_code
def yJ28_init : MethodName := ⟨RJ28, "<init>", "(Ljava/lang/String;)V"⟩
abbrev cJ28_init_2 : ByteArray := prog_27_method_3_code
def yJ28_init_2 : MethodName := ⟨RJ28, "<init>", "(I)V"⟩
abbrev cX18_init : ByteArray := prog_11_method_1_code
def yX18_init : MethodName := ⟨RX18, "<init>", "(Ljava/lang/String;)V"⟩
abbrev cX18_commands : ByteArray := prog_11_method_10_code
def yX18_commands : MethodName := ⟨RX18, "commands", "()Ljava/util/List;"⟩
abbrev cX18_command : ByteArray := prog_11_method_9_code
def yX18_command : MethodName := ⟨RX18, "command", "()LColourOffice$Command;"⟩
abbrev cX18_word : ByteArray := prog_11_method_8_code
def yX18_word : MethodName := ⟨RX18, "word", "()Ljava/lang/String;"⟩
abbrev cX18_current : ByteArray := prog_11_method_2_code
def yX18_current : MethodName := ⟨RX18, "current", "()C"⟩
abbrev cX18_require : ByteArray := prog_11_method_3_code
def yX18_require : MethodName := ⟨RX18, "require", "(Z)V"⟩
abbrev cX18_colour : ByteArray := prog_11_method_6_code
def yX18_colour : MethodName := ⟨RX18, "colour", "()[I"⟩
abbrev cX18_numberAfter : ByteArray := prog_11_method_5_code
def yX18_numberAfter : MethodName := ⟨RX18, "numberAfter", "(C)I"⟩
abbrev cX18_isAtDigit : ByteArray := prog_11_method_4_code
def yX18_isAtDigit : MethodName := ⟨RX18, "isAtDigit", "()Z"⟩
abbrev cX18_metricName : ByteArray := prog_11_method_7_code
def yX18_metricName : MethodName := ⟨RX18, "metricName", "()I"⟩
abbrev cX19_init : ByteArray := prog_17_method_1_code
def yX19_init : MethodName := ⟨RX19, "<init>", "(I)V"⟩
abbrev cX19_position : ByteArray := prog_17_method_2_code
def yX19_position : MethodName := ⟨RX19, "position", "()I"⟩
abbrev cX19_asPublicException : ByteArray := prog_17_method_3_code
def yX19_asPublicException : MethodName := ⟨RX19, "asPublicException", "()Ljava/lang/RuntimeException;"⟩
abbrev cX20_init : ByteArray := prog_3_method_1_code
def yX20_init : MethodName := ⟨RX20, "<init>", "(ILColourOffice$ConditionFailure;)V"⟩
abbrev cX20_index : ByteArray := prog_3_method_2_code
def yX20_index : MethodName := ⟨RX20, "index", "()I"⟩
abbrev cX20_kind : ByteArray := prog_3_method_3_code
def yX20_kind : MethodName := ⟨RX20, "kind", "()C"⟩
abbrev cX20_asPublicException : ByteArray := prog_3_method_4_code
def yX20_asPublicException : MethodName := ⟨RX20, "asPublicException", "()Ljava/lang/RuntimeException;"⟩
abbrev cJ29_init : ByteArray := prog_44_method_3_code
def yJ29_init : MethodName := ⟨RJ29, "<init>", "(I)V"⟩
abbrev cJ30_init : ByteArray := object_method_1_code
def yJ30_init : MethodName := ⟨RJ30, "<init>", "()V"⟩
abbrev cJ31_getUTF16Char : ByteArray := prog_48_method_45_code
def yJ31_getUTF16Char : MethodName := ⟨RJ31, "getUTF16Char", "([BI)C"⟩
abbrev cL_law : ByteArray := code
theorem q110 : (Jvm.Cond.initialized "ColourOfficeLaw") ∈ lw_all := lw_g (lw_at lw_m1 0 rfl) rfl
theorem q164 : (Jvm.Cond.classLink "ColourOfficeLaw" (8 : Nat) "ColourOffice") ∈ lw_all := lw_g (lw_at lw_m1 54 rfl) rfl
theorem q166 : (Jvm.Cond.methodLink "ColourOfficeLaw" (163 : Nat) ({ cls := "ColourOffice", name := "<init>", desc := "()V" } : Jvm.MethodName)) ∈ lw_all := lw_g (lw_at lw_m1 56 rfl) rfl
theorem q349 : (Jvm.Cond.methodLink "ColourOfficeLaw" (195 : Nat) ({ cls := "ColourOffice", name := "settle", desc := "()I" } : Jvm.MethodName)) ∈ lw_all := lw_g (lw_at lw_m1 239 rfl) rfl
theorem q1582 : (Jvm.Cond.methodLink "ColourOfficeLaw" (205 : Nat) ({ cls := "ColourOffice", name := "colourCount", desc := "()I" } : Jvm.MethodName)) ∈ lw_all := lw_g (lw_at lw_m7 32 rfl) rfl
theorem q1587 : (Jvm.Cond.methodLink "ColourOfficeLaw" (233 : Nat) ({ cls := "ColourOffice", name := "reportCount", desc := "()I" } : Jvm.MethodName)) ∈ lw_all := lw_g (lw_at lw_m7 37 rfl) rfl
theorem q1593 : (Jvm.Cond.methodLink "ColourOfficeLaw" (272 : Nat) ({ cls := "ColourOffice", name := "bestReward", desc := "()I" } : Jvm.MethodName)) ∈ lw_all := lw_g (lw_at lw_m7 43 rfl) rfl
theorem q1602 : (Jvm.Cond.methodLink "ColourOfficeLaw" (276 : Nat) ({ cls := "ColourOffice", name := "bestRewardByTrying", desc := "()I" } : Jvm.MethodName)) ∈ lw_all := lw_g (lw_at lw_m7 52 rfl) rfl
theorem q1611 : (Jvm.Cond.methodLink "ColourOfficeLaw" (280 : Nat) ({ cls := "ColourOffice", name := "bestDifference", desc := "()I" } : Jvm.MethodName)) ∈ lw_all := lw_g (lw_at lw_m7 61 rfl) rfl
theorem q1619 : (Jvm.Cond.methodLink "ColourOfficeLaw" (296 : Nat) ({ cls := "ColourOffice", name := "day", desc := "()I" } : Jvm.MethodName)) ∈ lw_all := lw_g (lw_at lw_m7 69 rfl) rfl
theorem q1623 : (Jvm.Cond.methodLink "ColourOfficeLaw" (300 : Nat) ({ cls := "ColourOffice", name := "metric", desc := "()C" } : Jvm.MethodName)) ∈ lw_all := lw_g (lw_at lw_m7 73 rfl) rfl
theorem q1627 : (Jvm.Cond.methodLink "ColourOfficeLaw" (304 : Nat) ({ cls := "ColourOffice", name := "coins", desc := "()I" } : Jvm.MethodName)) ∈ lw_all := lw_g (lw_at lw_m7 77 rfl) rfl
theorem q1631 : (Jvm.Cond.methodLink "ColourOfficeLaw" (308 : Nat) ({ cls := "ColourOffice", name := "coinsByAccounts", desc := "()I" } : Jvm.MethodName)) ∈ lw_all := lw_g (lw_at lw_m7 81 rfl) rfl
theorem q1639 : (Jvm.Cond.methodLink "ColourOfficeLaw" (312 : Nat) ({ cls := "ColourOffice", name := "returnedTotal", desc := "()I" } : Jvm.MethodName)) ∈ lw_all := lw_g (lw_at lw_m7 89 rfl) rfl
theorem q1643 : (Jvm.Cond.methodLink "ColourOfficeLaw" (323 : Nat) ({ cls := "ColourOffice", name := "isConsistent", desc := "()Z" } : Jvm.MethodName)) ∈ lw_all := lw_g (lw_at lw_m7 93 rfl) rfl
theorem q1811 : (Jvm.Cond.methodLink "ColourOfficeLaw" (355 : Nat) ({ cls := "ColourOffice", name := "save", desc := "()I" } : Jvm.MethodName)) ∈ lw_all := lw_g (lw_at lw_m8 21 rfl) rfl
theorem q1816 : (Jvm.Cond.methodLink "ColourOfficeLaw" (167 : Nat) ({ cls := "ColourOfficeLaw", name := "addColour", desc := "(LColourOffice;IIII[J)I" } : Jvm.MethodName)) ∈ lw_all := lw_g (lw_at lw_m8 26 rfl) rfl
theorem q1817 : (Jvm.Cond.static ({ cls := "ColourOfficeLaw", name := "addColour", desc := "(LColourOffice;IIII[J)I" } : Jvm.MethodName)) ∈ lw_all := lw_g (lw_at lw_m8 27 rfl) rfl
theorem q1818 : (Jvm.Cond.codeWith ({ cls := "ColourOfficeLaw", name := "addColour", desc := "(LColourOffice;IIII[J)I" } : Jvm.MethodName) method_3_code (7 : Nat) (Option.some Jvm.ClassFile.FieldType.int) [((0 : Nat), (14 : Nat), (17 : Nat), (13 : Nat)), ((0 : Nat), (14 : Nat), (21 : Nat), (15 : Nat))]) ∈ lw_all := lw_g (lw_at lw_m8 28 rfl) rfl
theorem q1819 : (Jvm.Cond.classLink "ColourOfficeLaw" (13 : Nat) "java/lang/IllegalArgumentException") ∈ lw_all := lw_g (lw_at lw_m8 29 rfl) rfl
theorem q1820 : (Jvm.Cond.classLink "ColourOfficeLaw" (15 : Nat) "java/lang/IllegalStateException") ∈ lw_all := lw_g (lw_at lw_m8 30 rfl) rfl
theorem q1821 : (Jvm.Cond.methodLink "ColourOfficeLaw" (7 : Nat) ({ cls := "ColourOffice", name := "addColour", desc := "(IIII)I" } : Jvm.MethodName)) ∈ lw_all := lw_g (lw_at lw_m8 31 rfl) rfl
theorem q1826 : (Jvm.Cond.methodLink "ColourOfficeLaw" (176 : Nat) ({ cls := "ColourOfficeLaw", name := "report", desc := "(LColourOffice;IIIII[J)I" } : Jvm.MethodName)) ∈ lw_all := lw_g (lw_at lw_m8 36 rfl) rfl
theorem q1827 : (Jvm.Cond.static ({ cls := "ColourOfficeLaw", name := "report", desc := "(LColourOffice;IIIII[J)I" } : Jvm.MethodName)) ∈ lw_all := lw_g (lw_at lw_m8 37 rfl) rfl
theorem q1828 : (Jvm.Cond.codeWith ({ cls := "ColourOfficeLaw", name := "report", desc := "(LColourOffice;IIIII[J)I" } : Jvm.MethodName) method_4_code (8 : Nat) (Option.some Jvm.ClassFile.FieldType.int) [((0 : Nat), (16 : Nat), (19 : Nat), (13 : Nat)), ((0 : Nat), (16 : Nat), (23 : Nat), (15 : Nat))]) ∈ lw_all := lw_g (lw_at lw_m8 38 rfl) rfl
theorem q1829 : (Jvm.Cond.methodLink "ColourOfficeLaw" (17 : Nat) ({ cls := "ColourOffice", name := "report", desc := "(IIIII)I" } : Jvm.MethodName)) ∈ lw_all := lw_g (lw_at lw_m8 39 rfl) rfl
theorem q1834 : (Jvm.Cond.methodLink "ColourOfficeLaw" (180 : Nat) ({ cls := "ColourOfficeLaw", name := "withdraw", desc := "(LColourOffice;I[J)I" } : Jvm.MethodName)) ∈ lw_all := lw_g (lw_at lw_m8 44 rfl) rfl
theorem q1835 : (Jvm.Cond.static ({ cls := "ColourOfficeLaw", name := "withdraw", desc := "(LColourOffice;I[J)I" } : Jvm.MethodName)) ∈ lw_all := lw_g (lw_at lw_m8 45 rfl) rfl
theorem q1836 : (Jvm.Cond.codeWith ({ cls := "ColourOfficeLaw", name := "withdraw", desc := "(LColourOffice;I[J)I" } : Jvm.MethodName) method_5_code (4 : Nat) (Option.some Jvm.ClassFile.FieldType.int) [((0 : Nat), (9 : Nat), (12 : Nat), (25 : Nat))]) ∈ lw_all := lw_g (lw_at lw_m8 46 rfl) rfl
theorem q1837 : (Jvm.Cond.classLink "ColourOfficeLaw" (25 : Nat) "java/util/NoSuchElementException") ∈ lw_all := lw_g (lw_at lw_m8 47 rfl) rfl
theorem q1838 : (Jvm.Cond.methodLink "ColourOfficeLaw" (21 : Nat) ({ cls := "ColourOffice", name := "withdraw", desc := "(I)I" } : Jvm.MethodName)) ∈ lw_all := lw_g (lw_at lw_m8 48 rfl) rfl
theorem q1843 : (Jvm.Cond.methodLink "ColourOfficeLaw" (184 : Nat) ({ cls := "ColourOfficeLaw", name := "discard", desc := "(LColourOffice;I[J)I" } : Jvm.MethodName)) ∈ lw_all := lw_g (lw_at lw_m8 53 rfl) rfl
theorem q1844 : (Jvm.Cond.static ({ cls := "ColourOfficeLaw", name := "discard", desc := "(LColourOffice;I[J)I" } : Jvm.MethodName)) ∈ lw_all := lw_g (lw_at lw_m8 54 rfl) rfl
theorem q1845 : (Jvm.Cond.codeWith ({ cls := "ColourOfficeLaw", name := "discard", desc := "(LColourOffice;I[J)I" } : Jvm.MethodName) method_6_code (4 : Nat) (Option.some Jvm.ClassFile.FieldType.int) [((0 : Nat), (9 : Nat), (12 : Nat), (25 : Nat))]) ∈ lw_all := lw_g (lw_at lw_m8 55 rfl) rfl
theorem q1846 : (Jvm.Cond.methodLink "ColourOfficeLaw" (27 : Nat) ({ cls := "ColourOffice", name := "discard", desc := "(I)I" } : Jvm.MethodName)) ∈ lw_all := lw_g (lw_at lw_m8 56 rfl) rfl
theorem q1851 : (Jvm.Cond.methodLink "ColourOfficeLaw" (187 : Nat) ({ cls := "ColourOfficeLaw", name := "setMetric", desc := "(LColourOffice;C[J)I" } : Jvm.MethodName)) ∈ lw_all := lw_g (lw_at lw_m8 61 rfl) rfl
theorem q1852 : (Jvm.Cond.static ({ cls := "ColourOfficeLaw", name := "setMetric", desc := "(LColourOffice;C[J)I" } : Jvm.MethodName)) ∈ lw_all := lw_g (lw_at lw_m8 62 rfl) rfl
theorem q1853 : (Jvm.Cond.codeWith ({ cls := "ColourOfficeLaw", name := "setMetric", desc := "(LColourOffice;C[J)I" } : Jvm.MethodName) method_7_code (4 : Nat) (Option.some Jvm.ClassFile.FieldType.int) [((0 : Nat), (9 : Nat), (12 : Nat), (13 : Nat))]) ∈ lw_all := lw_g (lw_at lw_m8 63 rfl) rfl
theorem q1854 : (Jvm.Cond.methodLink "ColourOfficeLaw" (30 : Nat) ({ cls := "ColourOffice", name := "setMetric", desc := "(C)C" } : Jvm.MethodName)) ∈ lw_all := lw_g (lw_at lw_m8 64 rfl) rfl
theorem q1859 : (Jvm.Cond.methodLink "ColourOfficeLaw" (191 : Nat) ({ cls := "ColourOfficeLaw", name := "giveBack", desc := "(LColourOffice;II[J)I" } : Jvm.MethodName)) ∈ lw_all := lw_g (lw_at lw_m8 69 rfl) rfl
theorem q1860 : (Jvm.Cond.static ({ cls := "ColourOfficeLaw", name := "giveBack", desc := "(LColourOffice;II[J)I" } : Jvm.MethodName)) ∈ lw_all := lw_g (lw_at lw_m8 70 rfl) rfl
theorem q1861 : (Jvm.Cond.codeWith ({ cls := "ColourOfficeLaw", name := "giveBack", desc := "(LColourOffice;II[J)I" } : Jvm.MethodName) method_8_code (5 : Nat) (Option.some Jvm.ClassFile.FieldType.int) [((0 : Nat), (10 : Nat), (13 : Nat), (25 : Nat)), ((0 : Nat), (10 : Nat), (17 : Nat), (38 : Nat))]) ∈ lw_all := lw_g (lw_at lw_m8 71 rfl) rfl
theorem q1862 : (Jvm.Cond.classLink "ColourOfficeLaw" (38 : Nat) "java/lang/UnsupportedOperationException") ∈ lw_all := lw_g (lw_at lw_m8 72 rfl) rfl
theorem q1863 : (Jvm.Cond.methodLink "ColourOfficeLaw" (34 : Nat) ({ cls := "ColourOffice", name := "giveBack", desc := "(II)I" } : Jvm.MethodName)) ∈ lw_all := lw_g (lw_at lw_m8 73 rfl) rfl
theorem q1868 : (Jvm.Cond.methodLink "ColourOfficeLaw" (199 : Nat) ({ cls := "ColourOfficeLaw", name := "mix", desc := "(LColourOffice;II[J)I" } : Jvm.MethodName)) ∈ lw_all := lw_g (lw_at lw_m8 78 rfl) rfl
theorem q1869 : (Jvm.Cond.static ({ cls := "ColourOfficeLaw", name := "mix", desc := "(LColourOffice;II[J)I" } : Jvm.MethodName)) ∈ lw_all := lw_g (lw_at lw_m8 79 rfl) rfl
theorem q1870 : (Jvm.Cond.codeWith ({ cls := "ColourOfficeLaw", name := "mix", desc := "(LColourOffice;II[J)I" } : Jvm.MethodName) method_9_code (5 : Nat) (Option.some Jvm.ClassFile.FieldType.int) [((0 : Nat), (10 : Nat), (13 : Nat), (25 : Nat)), ((0 : Nat), (10 : Nat), (17 : Nat), (13 : Nat))]) ∈ lw_all := lw_g (lw_at lw_m8 80 rfl) rfl
theorem q1871 : (Jvm.Cond.methodLink "ColourOfficeLaw" (40 : Nat) ({ cls := "ColourOffice", name := "mix", desc := "(II)I" } : Jvm.MethodName)) ∈ lw_all := lw_g (lw_at lw_m8 81 rfl) rfl
theorem q1876 : (Jvm.Cond.methodLink "ColourOfficeLaw" (202 : Nat) ({ cls := "ColourOfficeLaw", name := "passDays", desc := "(LColourOffice;I[J)I" } : Jvm.MethodName)) ∈ lw_all := lw_g (lw_at lw_m8 86 rfl) rfl
theorem q1877 : (Jvm.Cond.static ({ cls := "ColourOfficeLaw", name := "passDays", desc := "(LColourOffice;I[J)I" } : Jvm.MethodName)) ∈ lw_all := lw_g (lw_at lw_m8 87 rfl) rfl
theorem q1878 : (Jvm.Cond.codeWith ({ cls := "ColourOfficeLaw", name := "passDays", desc := "(LColourOffice;I[J)I" } : Jvm.MethodName) method_10_code (4 : Nat) (Option.some Jvm.ClassFile.FieldType.int) [((0 : Nat), (9 : Nat), (12 : Nat), (13 : Nat))]) ∈ lw_all := lw_g (lw_at lw_m8 88 rfl) rfl
theorem q1879 : (Jvm.Cond.methodLink "ColourOfficeLaw" (43 : Nat) ({ cls := "ColourOffice", name := "passDays", desc := "(I)I" } : Jvm.MethodName)) ∈ lw_all := lw_g (lw_at lw_m8 89 rfl) rfl
theorem q1884 : (Jvm.Cond.methodLink "ColourOfficeLaw" (209 : Nat) ({ cls := "ColourOfficeLaw", name := "colourAt", desc := "(LColourOffice;I[J)I" } : Jvm.MethodName)) ∈ lw_all := lw_g (lw_at lw_m8 94 rfl) rfl
theorem q1885 : (Jvm.Cond.static ({ cls := "ColourOfficeLaw", name := "colourAt", desc := "(LColourOffice;I[J)I" } : Jvm.MethodName)) ∈ lw_all := lw_g (lw_at lw_m8 95 rfl) rfl
theorem q1886 : (Jvm.Cond.codeWith ({ cls := "ColourOfficeLaw", name := "colourAt", desc := "(LColourOffice;I[J)I" } : Jvm.MethodName) method_11_code (4 : Nat) (Option.some Jvm.ClassFile.FieldType.int) [((0 : Nat), (9 : Nat), (12 : Nat), (25 : Nat))]) ∈ lw_all := lw_g (lw_at lw_m8 96 rfl) rfl
theorem q1887 : (Jvm.Cond.methodLink "ColourOfficeLaw" (46 : Nat) ({ cls := "ColourOffice", name := "colourAt", desc := "(I)I" } : Jvm.MethodName)) ∈ lw_all := lw_g (lw_at lw_m8 97 rfl) rfl
theorem q1897 : (Jvm.Cond.methodLink "ColourOfficeLaw" (212 : Nat) ({ cls := "ColourOfficeLaw", name := "red", desc := "(LColourOffice;I[J)I" } : Jvm.MethodName)) ∈ lw_all := lw_g (lw_at lw_m8 107 rfl) rfl
theorem q1898 : (Jvm.Cond.static ({ cls := "ColourOfficeLaw", name := "red", desc := "(LColourOffice;I[J)I" } : Jvm.MethodName)) ∈ lw_all := lw_g (lw_at lw_m8 108 rfl) rfl
theorem q1899 : (Jvm.Cond.codeWith ({ cls := "ColourOfficeLaw", name := "red", desc := "(LColourOffice;I[J)I" } : Jvm.MethodName) method_12_code (4 : Nat) (Option.some Jvm.ClassFile.FieldType.int) [((0 : Nat), (9 : Nat), (12 : Nat), (25 : Nat))]) ∈ lw_all := lw_g (lw_at lw_m8 109 rfl) rfl
theorem q1900 : (Jvm.Cond.methodLink "ColourOfficeLaw" (49 : Nat) ({ cls := "ColourOffice", name := "red", desc := "(I)I" } : Jvm.MethodName)) ∈ lw_all := lw_g (lw_at lw_m8 110 rfl) rfl
theorem q1911 : (Jvm.Cond.methodLink "ColourOfficeLaw" (215 : Nat) ({ cls := "ColourOfficeLaw", name := "green", desc := "(LColourOffice;I[J)I" } : Jvm.MethodName)) ∈ lw_all := lw_g (lw_at lw_m8 121 rfl) rfl
theorem q1912 : (Jvm.Cond.static ({ cls := "ColourOfficeLaw", name := "green", desc := "(LColourOffice;I[J)I" } : Jvm.MethodName)) ∈ lw_all := lw_g (lw_at lw_m8 122 rfl) rfl
theorem q1913 : (Jvm.Cond.codeWith ({ cls := "ColourOfficeLaw", name := "green", desc := "(LColourOffice;I[J)I" } : Jvm.MethodName) method_13_code (4 : Nat) (Option.some Jvm.ClassFile.FieldType.int) [((0 : Nat), (9 : Nat), (12 : Nat), (25 : Nat))]) ∈ lw_all := lw_g (lw_at lw_m8 123 rfl) rfl
theorem q1914 : (Jvm.Cond.methodLink "ColourOfficeLaw" (52 : Nat) ({ cls := "ColourOffice", name := "green", desc := "(I)I" } : Jvm.MethodName)) ∈ lw_all := lw_g (lw_at lw_m8 124 rfl) rfl
theorem q1918 : (Jvm.Cond.methodLink "ColourOfficeLaw" (218 : Nat) ({ cls := "ColourOfficeLaw", name := "blue", desc := "(LColourOffice;I[J)I" } : Jvm.MethodName)) ∈ lw_all := lw_g (lw_at lw_m8 128 rfl) rfl
theorem q1919 : (Jvm.Cond.static ({ cls := "ColourOfficeLaw", name := "blue", desc := "(LColourOffice;I[J)I" } : Jvm.MethodName)) ∈ lw_all := lw_g (lw_at lw_m8 129 rfl) rfl
theorem q1920 : (Jvm.Cond.codeWith ({ cls := "ColourOfficeLaw", name := "blue", desc := "(LColourOffice;I[J)I" } : Jvm.MethodName) method_14_code (4 : Nat) (Option.some Jvm.ClassFile.FieldType.int) [((0 : Nat), (9 : Nat), (12 : Nat), (25 : Nat))]) ∈ lw_all := lw_g (lw_at lw_m8 130 rfl) rfl
theorem q1921 : (Jvm.Cond.methodLink "ColourOfficeLaw" (55 : Nat) ({ cls := "ColourOffice", name := "blue", desc := "(I)I" } : Jvm.MethodName)) ∈ lw_all := lw_g (lw_at lw_m8 131 rfl) rfl
theorem q1925 : (Jvm.Cond.methodLink "ColourOfficeLaw" (221 : Nat) ({ cls := "ColourOfficeLaw", name := "fastness", desc := "(LColourOffice;I[J)I" } : Jvm.MethodName)) ∈ lw_all := lw_g (lw_at lw_m8 135 rfl) rfl
theorem q1926 : (Jvm.Cond.static ({ cls := "ColourOfficeLaw", name := "fastness", desc := "(LColourOffice;I[J)I" } : Jvm.MethodName)) ∈ lw_all := lw_g (lw_at lw_m8 136 rfl) rfl
theorem q1927 : (Jvm.Cond.codeWith ({ cls := "ColourOfficeLaw", name := "fastness", desc := "(LColourOffice;I[J)I" } : Jvm.MethodName) method_15_code (4 : Nat) (Option.some Jvm.ClassFile.FieldType.int) [((0 : Nat), (9 : Nat), (12 : Nat), (25 : Nat))]) ∈ lw_all := lw_g (lw_at lw_m8 137 rfl) rfl
theorem q1928 : (Jvm.Cond.methodLink "ColourOfficeLaw" (58 : Nat) ({ cls := "ColourOffice", name := "fastness", desc := "(I)I" } : Jvm.MethodName)) ∈ lw_all := lw_g (lw_at lw_m8 138 rfl) rfl
theorem q1932 : (Jvm.Cond.methodLink "ColourOfficeLaw" (224 : Nat) ({ cls := "ColourOfficeLaw", name := "age", desc := "(LColourOffice;I[J)I" } : Jvm.MethodName)) ∈ lw_all := lw_g (lw_at lw_m8 142 rfl) rfl
theorem q1933 : (Jvm.Cond.static ({ cls := "ColourOfficeLaw", name := "age", desc := "(LColourOffice;I[J)I" } : Jvm.MethodName)) ∈ lw_all := lw_g (lw_at lw_m8 143 rfl) rfl
theorem q1934 : (Jvm.Cond.codeWith ({ cls := "ColourOfficeLaw", name := "age", desc := "(LColourOffice;I[J)I" } : Jvm.MethodName) method_16_code (4 : Nat) (Option.some Jvm.ClassFile.FieldType.int) [((0 : Nat), (9 : Nat), (12 : Nat), (25 : Nat))]) ∈ lw_all := lw_g (lw_at lw_m8 144 rfl) rfl
theorem q1935 : (Jvm.Cond.methodLink "ColourOfficeLaw" (61 : Nat) ({ cls := "ColourOffice", name := "age", desc := "(I)I" } : Jvm.MethodName)) ∈ lw_all := lw_g (lw_at lw_m8 145 rfl) rfl
theorem q1939 : (Jvm.Cond.methodLink "ColourOfficeLaw" (227 : Nat) ({ cls := "ColourOfficeLaw", name := "daysUntilGrey", desc := "(LColourOffice;I[J)I" } : Jvm.MethodName)) ∈ lw_all := lw_g (lw_at lw_m8 149 rfl) rfl
theorem q1940 : (Jvm.Cond.static ({ cls := "ColourOfficeLaw", name := "daysUntilGrey", desc := "(LColourOffice;I[J)I" } : Jvm.MethodName)) ∈ lw_all := lw_g (lw_at lw_m8 150 rfl) rfl
theorem q1941 : (Jvm.Cond.codeWith ({ cls := "ColourOfficeLaw", name := "daysUntilGrey", desc := "(LColourOffice;I[J)I" } : Jvm.MethodName) method_17_code (4 : Nat) (Option.some Jvm.ClassFile.FieldType.int) [((0 : Nat), (9 : Nat), (12 : Nat), (25 : Nat))]) ∈ lw_all := lw_g (lw_at lw_m8 151 rfl) rfl
theorem q1942 : (Jvm.Cond.methodLink "ColourOfficeLaw" (64 : Nat) ({ cls := "ColourOffice", name := "daysUntilGrey", desc := "(I)I" } : Jvm.MethodName)) ∈ lw_all := lw_g (lw_at lw_m8 152 rfl) rfl
theorem q1955 : (Jvm.Cond.methodLink "ColourOfficeLaw" (230 : Nat) ({ cls := "ColourOfficeLaw", name := "colourByBrightness", desc := "(LColourOffice;I[J)I" } : Jvm.MethodName)) ∈ lw_all := lw_g (lw_at lw_m8 165 rfl) rfl
theorem q1956 : (Jvm.Cond.static ({ cls := "ColourOfficeLaw", name := "colourByBrightness", desc := "(LColourOffice;I[J)I" } : Jvm.MethodName)) ∈ lw_all := lw_g (lw_at lw_m8 166 rfl) rfl
theorem q1957 : (Jvm.Cond.codeWith ({ cls := "ColourOfficeLaw", name := "colourByBrightness", desc := "(LColourOffice;I[J)I" } : Jvm.MethodName) method_18_code (4 : Nat) (Option.some Jvm.ClassFile.FieldType.int) [((0 : Nat), (9 : Nat), (12 : Nat), (25 : Nat))]) ∈ lw_all := lw_g (lw_at lw_m8 167 rfl) rfl
theorem q1958 : (Jvm.Cond.methodLink "ColourOfficeLaw" (67 : Nat) ({ cls := "ColourOffice", name := "colourByBrightness", desc := "(I)I" } : Jvm.MethodName)) ∈ lw_all := lw_g (lw_at lw_m8 168 rfl) rfl
theorem q1973 : (Jvm.Cond.methodLink "ColourOfficeLaw" (237 : Nat) ({ cls := "ColourOfficeLaw", name := "reportAt", desc := "(LColourOffice;I[J)I" } : Jvm.MethodName)) ∈ lw_all := lw_g (lw_at lw_m8 183 rfl) rfl
theorem q1974 : (Jvm.Cond.static ({ cls := "ColourOfficeLaw", name := "reportAt", desc := "(LColourOffice;I[J)I" } : Jvm.MethodName)) ∈ lw_all := lw_g (lw_at lw_m8 184 rfl) rfl
theorem q1975 : (Jvm.Cond.codeWith ({ cls := "ColourOfficeLaw", name := "reportAt", desc := "(LColourOffice;I[J)I" } : Jvm.MethodName) method_19_code (4 : Nat) (Option.some Jvm.ClassFile.FieldType.int) [((0 : Nat), (9 : Nat), (12 : Nat), (25 : Nat))]) ∈ lw_all := lw_g (lw_at lw_m8 185 rfl) rfl
theorem q1976 : (Jvm.Cond.methodLink "ColourOfficeLaw" (70 : Nat) ({ cls := "ColourOffice", name := "reportAt", desc := "(I)I" } : Jvm.MethodName)) ∈ lw_all := lw_g (lw_at lw_m8 186 rfl) rfl
theorem q1984 : (Jvm.Cond.methodLink "ColourOfficeLaw" (240 : Nat) ({ cls := "ColourOfficeLaw", name := "toleranceOf", desc := "(LColourOffice;I[J)I" } : Jvm.MethodName)) ∈ lw_all := lw_g (lw_at lw_m8 194 rfl) rfl
theorem q1985 : (Jvm.Cond.static ({ cls := "ColourOfficeLaw", name := "toleranceOf", desc := "(LColourOffice;I[J)I" } : Jvm.MethodName)) ∈ lw_all := lw_g (lw_at lw_m8 195 rfl) rfl
theorem q1986 : (Jvm.Cond.codeWith ({ cls := "ColourOfficeLaw", name := "toleranceOf", desc := "(LColourOffice;I[J)I" } : Jvm.MethodName) method_20_code (4 : Nat) (Option.some Jvm.ClassFile.FieldType.int) [((0 : Nat), (9 : Nat), (12 : Nat), (25 : Nat))]) ∈ lw_all := lw_g (lw_at lw_m8 196 rfl) rfl
theorem q1987 : (Jvm.Cond.methodLink "ColourOfficeLaw" (73 : Nat) ({ cls := "ColourOffice", name := "toleranceOf", desc := "(I)I" } : Jvm.MethodName)) ∈ lw_all := lw_g (lw_at lw_m8 197 rfl) rfl
theorem q1997 : (Jvm.Cond.methodLink "ColourOfficeLaw" (243 : Nat) ({ cls := "ColourOfficeLaw", name := "rewardOf", desc := "(LColourOffice;I[J)I" } : Jvm.MethodName)) ∈ lw_all := lw_g (lw_at lw_m8 207 rfl) rfl
theorem q1998 : (Jvm.Cond.static ({ cls := "ColourOfficeLaw", name := "rewardOf", desc := "(LColourOffice;I[J)I" } : Jvm.MethodName)) ∈ lw_all := lw_g (lw_at lw_m8 208 rfl) rfl
theorem q1999 : (Jvm.Cond.codeWith ({ cls := "ColourOfficeLaw", name := "rewardOf", desc := "(LColourOffice;I[J)I" } : Jvm.MethodName) method_21_code (4 : Nat) (Option.some Jvm.ClassFile.FieldType.int) [((0 : Nat), (9 : Nat), (12 : Nat), (25 : Nat))]) ∈ lw_all := lw_g (lw_at lw_m8 209 rfl) rfl
theorem q2000 : (Jvm.Cond.methodLink "ColourOfficeLaw" (76 : Nat) ({ cls := "ColourOffice", name := "rewardOf", desc := "(I)I" } : Jvm.MethodName)) ∈ lw_all := lw_g (lw_at lw_m8 210 rfl) rfl
theorem q2004 : (Jvm.Cond.methodLink "ColourOfficeLaw" (246 : Nat) ({ cls := "ColourOfficeLaw", name := "distanceFor", desc := "(LColourOffice;II[J)I" } : Jvm.MethodName)) ∈ lw_all := lw_g (lw_at lw_m8 214 rfl) rfl
theorem q2005 : (Jvm.Cond.static ({ cls := "ColourOfficeLaw", name := "distanceFor", desc := "(LColourOffice;II[J)I" } : Jvm.MethodName)) ∈ lw_all := lw_g (lw_at lw_m8 215 rfl) rfl
theorem q2006 : (Jvm.Cond.codeWith ({ cls := "ColourOfficeLaw", name := "distanceFor", desc := "(LColourOffice;II[J)I" } : Jvm.MethodName) method_22_code (5 : Nat) (Option.some Jvm.ClassFile.FieldType.int) [((0 : Nat), (10 : Nat), (13 : Nat), (25 : Nat))]) ∈ lw_all := lw_g (lw_at lw_m8 216 rfl) rfl
theorem q2007 : (Jvm.Cond.methodLink "ColourOfficeLaw" (79 : Nat) ({ cls := "ColourOffice", name := "distanceFor", desc := "(II)I" } : Jvm.MethodName)) ∈ lw_all := lw_g (lw_at lw_m8 217 rfl) rfl
theorem q2012 : (Jvm.Cond.methodLink "ColourOfficeLaw" (249 : Nat) ({ cls := "ColourOfficeLaw", name := "fits", desc := "(LColourOffice;II[J)I" } : Jvm.MethodName)) ∈ lw_all := lw_g (lw_at lw_m8 222 rfl) rfl
theorem q2013 : (Jvm.Cond.static ({ cls := "ColourOfficeLaw", name := "fits", desc := "(LColourOffice;II[J)I" } : Jvm.MethodName)) ∈ lw_all := lw_g (lw_at lw_m8 223 rfl) rfl
theorem q2014 : (Jvm.Cond.codeWith ({ cls := "ColourOfficeLaw", name := "fits", desc := "(LColourOffice;II[J)I" } : Jvm.MethodName) method_23_code (5 : Nat) (Option.some Jvm.ClassFile.FieldType.int) [((0 : Nat), (17 : Nat), (20 : Nat), (25 : Nat))]) ∈ lw_all := lw_g (lw_at lw_m8 224 rfl) rfl
theorem q2015 : (Jvm.Cond.methodLink "ColourOfficeLaw" (82 : Nat) ({ cls := "ColourOffice", name := "fits", desc := "(II)Z" } : Jvm.MethodName)) ∈ lw_all := lw_g (lw_at lw_m8 225 rfl) rfl
theorem q2020 : (Jvm.Cond.methodLink "ColourOfficeLaw" (252 : Nat) ({ cls := "ColourOfficeLaw", name := "nearestFor", desc := "(LColourOffice;I[J)I" } : Jvm.MethodName)) ∈ lw_all := lw_g (lw_at lw_m8 230 rfl) rfl
theorem q2021 : (Jvm.Cond.static ({ cls := "ColourOfficeLaw", name := "nearestFor", desc := "(LColourOffice;I[J)I" } : Jvm.MethodName)) ∈ lw_all := lw_g (lw_at lw_m8 231 rfl) rfl
theorem q2022 : (Jvm.Cond.codeWith ({ cls := "ColourOfficeLaw", name := "nearestFor", desc := "(LColourOffice;I[J)I" } : Jvm.MethodName) method_24_code (4 : Nat) (Option.some Jvm.ClassFile.FieldType.int) [((0 : Nat), (9 : Nat), (12 : Nat), (25 : Nat))]) ∈ lw_all := lw_g (lw_at lw_m8 232 rfl) rfl
theorem q2023 : (Jvm.Cond.methodLink "ColourOfficeLaw" (86 : Nat) ({ cls := "ColourOffice", name := "nearestFor", desc := "(I)I" } : Jvm.MethodName)) ∈ lw_all := lw_g (lw_at lw_m8 233 rfl) rfl
theorem q2035 : (Jvm.Cond.methodLink "ColourOfficeLaw" (255 : Nat) ({ cls := "ColourOfficeLaw", name := "distance", desc := "(LColourOffice;II[J)I" } : Jvm.MethodName)) ∈ lw_all := lw_g (lw_at lw_m9 5 rfl) rfl
theorem q2036 : (Jvm.Cond.static ({ cls := "ColourOfficeLaw", name := "distance", desc := "(LColourOffice;II[J)I" } : Jvm.MethodName)) ∈ lw_all := lw_g (lw_at lw_m9 6 rfl) rfl
theorem q2037 : (Jvm.Cond.codeWith ({ cls := "ColourOfficeLaw", name := "distance", desc := "(LColourOffice;II[J)I" } : Jvm.MethodName) method_25_code (5 : Nat) (Option.some Jvm.ClassFile.FieldType.int) [((0 : Nat), (10 : Nat), (13 : Nat), (25 : Nat))]) ∈ lw_all := lw_g (lw_at lw_m9 7 rfl) rfl
theorem q2038 : (Jvm.Cond.methodLink "ColourOfficeLaw" (89 : Nat) ({ cls := "ColourOffice", name := "distance", desc := "(II)I" } : Jvm.MethodName)) ∈ lw_all := lw_g (lw_at lw_m9 8 rfl) rfl
theorem q2044 : (Jvm.Cond.methodLink "ColourOfficeLaw" (258 : Nat) ({ cls := "ColourOfficeLaw", name := "nearest", desc := "(LColourOffice;III[J)I" } : Jvm.MethodName)) ∈ lw_all := lw_g (lw_at lw_m9 14 rfl) rfl
theorem q2045 : (Jvm.Cond.static ({ cls := "ColourOfficeLaw", name := "nearest", desc := "(LColourOffice;III[J)I" } : Jvm.MethodName)) ∈ lw_all := lw_g (lw_at lw_m9 15 rfl) rfl
theorem q2046 : (Jvm.Cond.codeWith ({ cls := "ColourOfficeLaw", name := "nearest", desc := "(LColourOffice;III[J)I" } : Jvm.MethodName) method_26_code (6 : Nat) (Option.some Jvm.ClassFile.FieldType.int) [((0 : Nat), (12 : Nat), (15 : Nat), (13 : Nat)), ((0 : Nat), (12 : Nat), (19 : Nat), (25 : Nat))]) ∈ lw_all := lw_g (lw_at lw_m9 16 rfl) rfl
theorem q2047 : (Jvm.Cond.methodLink "ColourOfficeLaw" (92 : Nat) ({ cls := "ColourOffice", name := "nearest", desc := "(III)I" } : Jvm.MethodName)) ∈ lw_all := lw_g (lw_at lw_m9 17 rfl) rfl
theorem q2059 : (Jvm.Cond.methodLink "ColourOfficeLaw" (262 : Nat) ({ cls := "ColourOfficeLaw", name := "nearestByLooking", desc := "(LColourOffice;III[J)I" } : Jvm.MethodName)) ∈ lw_all := lw_g (lw_at lw_m9 29 rfl) rfl
theorem q2060 : (Jvm.Cond.static ({ cls := "ColourOfficeLaw", name := "nearestByLooking", desc := "(LColourOffice;III[J)I" } : Jvm.MethodName)) ∈ lw_all := lw_g (lw_at lw_m9 30 rfl) rfl
theorem q2061 : (Jvm.Cond.codeWith ({ cls := "ColourOfficeLaw", name := "nearestByLooking", desc := "(LColourOffice;III[J)I" } : Jvm.MethodName) method_27_code (6 : Nat) (Option.some Jvm.ClassFile.FieldType.int) [((0 : Nat), (12 : Nat), (15 : Nat), (13 : Nat)), ((0 : Nat), (12 : Nat), (19 : Nat), (25 : Nat))]) ∈ lw_all := lw_g (lw_at lw_m9 31 rfl) rfl
theorem q2062 : (Jvm.Cond.methodLink "ColourOfficeLaw" (96 : Nat) ({ cls := "ColourOffice", name := "nearestByLooking", desc := "(III)I" } : Jvm.MethodName)) ∈ lw_all := lw_g (lw_at lw_m9 32 rfl) rfl
theorem q2067 : (Jvm.Cond.methodLink "ColourOfficeLaw" (265 : Nat) ({ cls := "ColourOfficeLaw", name := "closestDistance", desc := "(LColourOffice;[J)I" } : Jvm.MethodName)) ∈ lw_all := lw_g (lw_at lw_m9 37 rfl) rfl
theorem q2068 : (Jvm.Cond.static ({ cls := "ColourOfficeLaw", name := "closestDistance", desc := "(LColourOffice;[J)I" } : Jvm.MethodName)) ∈ lw_all := lw_g (lw_at lw_m9 38 rfl) rfl
theorem q2069 : (Jvm.Cond.codeWith ({ cls := "ColourOfficeLaw", name := "closestDistance", desc := "(LColourOffice;[J)I" } : Jvm.MethodName) method_28_code (3 : Nat) (Option.some Jvm.ClassFile.FieldType.int) [((0 : Nat), (8 : Nat), (11 : Nat), (25 : Nat))]) ∈ lw_all := lw_g (lw_at lw_m9 39 rfl) rfl
theorem q2070 : (Jvm.Cond.methodLink "ColourOfficeLaw" (99 : Nat) ({ cls := "ColourOffice", name := "closestDistance", desc := "()I" } : Jvm.MethodName)) ∈ lw_all := lw_g (lw_at lw_m9 40 rfl) rfl
theorem q2075 : (Jvm.Cond.methodLink "ColourOfficeLaw" (269 : Nat) ({ cls := "ColourOfficeLaw", name := "closestDistanceBySorting", desc := "(LColourOffice;[J)I" } : Jvm.MethodName)) ∈ lw_all := lw_g (lw_at lw_m9 45 rfl) rfl
theorem q2076 : (Jvm.Cond.static ({ cls := "ColourOfficeLaw", name := "closestDistanceBySorting", desc := "(LColourOffice;[J)I" } : Jvm.MethodName)) ∈ lw_all := lw_g (lw_at lw_m9 46 rfl) rfl
theorem q2077 : (Jvm.Cond.codeWith ({ cls := "ColourOfficeLaw", name := "closestDistanceBySorting", desc := "(LColourOffice;[J)I" } : Jvm.MethodName) method_29_code (3 : Nat) (Option.some Jvm.ClassFile.FieldType.int) [((0 : Nat), (8 : Nat), (11 : Nat), (25 : Nat))]) ∈ lw_all := lw_g (lw_at lw_m9 47 rfl) rfl
theorem q2078 : (Jvm.Cond.methodLink "ColourOfficeLaw" (103 : Nat) ({ cls := "ColourOffice", name := "closestDistanceBySorting", desc := "()I" } : Jvm.MethodName)) ∈ lw_all := lw_g (lw_at lw_m9 48 rfl) rfl
theorem q2083 : (Jvm.Cond.methodLink "ColourOfficeLaw" (284 : Nat) ({ cls := "ColourOfficeLaw", name := "settlementFor", desc := "(LColourOffice;I[J)I" } : Jvm.MethodName)) ∈ lw_all := lw_g (lw_at lw_m9 53 rfl) rfl
theorem q2084 : (Jvm.Cond.static ({ cls := "ColourOfficeLaw", name := "settlementFor", desc := "(LColourOffice;I[J)I" } : Jvm.MethodName)) ∈ lw_all := lw_g (lw_at lw_m9 54 rfl) rfl
theorem q2085 : (Jvm.Cond.codeWith ({ cls := "ColourOfficeLaw", name := "settlementFor", desc := "(LColourOffice;I[J)I" } : Jvm.MethodName) method_30_code (4 : Nat) (Option.some Jvm.ClassFile.FieldType.int) [((0 : Nat), (9 : Nat), (12 : Nat), (25 : Nat))]) ∈ lw_all := lw_g (lw_at lw_m9 55 rfl) rfl
theorem q2086 : (Jvm.Cond.methodLink "ColourOfficeLaw" (106 : Nat) ({ cls := "ColourOffice", name := "settlementFor", desc := "(I)I" } : Jvm.MethodName)) ∈ lw_all := lw_g (lw_at lw_m9 56 rfl) rfl
theorem q2092 : (Jvm.Cond.methodLink "ColourOfficeLaw" (287 : Nat) ({ cls := "ColourOfficeLaw", name := "paletteError", desc := "(LColourOffice;I[J)I" } : Jvm.MethodName)) ∈ lw_all := lw_g (lw_at lw_m9 62 rfl) rfl
theorem q2093 : (Jvm.Cond.static ({ cls := "ColourOfficeLaw", name := "paletteError", desc := "(LColourOffice;I[J)I" } : Jvm.MethodName)) ∈ lw_all := lw_g (lw_at lw_m9 63 rfl) rfl
theorem q2094 : (Jvm.Cond.codeWith ({ cls := "ColourOfficeLaw", name := "paletteError", desc := "(LColourOffice;I[J)I" } : Jvm.MethodName) method_31_code (4 : Nat) (Option.some Jvm.ClassFile.FieldType.int) [((0 : Nat), (9 : Nat), (12 : Nat), (13 : Nat))]) ∈ lw_all := lw_g (lw_at lw_m9 64 rfl) rfl
theorem q2095 : (Jvm.Cond.methodLink "ColourOfficeLaw" (109 : Nat) ({ cls := "ColourOffice", name := "paletteError", desc := "(I)I" } : Jvm.MethodName)) ∈ lw_all := lw_g (lw_at lw_m9 65 rfl) rfl
theorem q2107 : (Jvm.Cond.methodLink "ColourOfficeLaw" (290 : Nat) ({ cls := "ColourOfficeLaw", name := "paletteErrorBySearch", desc := "(LColourOffice;I[J)I" } : Jvm.MethodName)) ∈ lw_all := lw_g (lw_at lw_m9 77 rfl) rfl
theorem q2108 : (Jvm.Cond.static ({ cls := "ColourOfficeLaw", name := "paletteErrorBySearch", desc := "(LColourOffice;I[J)I" } : Jvm.MethodName)) ∈ lw_all := lw_g (lw_at lw_m9 78 rfl) rfl
theorem q2109 : (Jvm.Cond.codeWith ({ cls := "ColourOfficeLaw", name := "paletteErrorBySearch", desc := "(LColourOffice;I[J)I" } : Jvm.MethodName) method_32_code (4 : Nat) (Option.some Jvm.ClassFile.FieldType.int) [((0 : Nat), (9 : Nat), (12 : Nat), (13 : Nat))]) ∈ lw_all := lw_g (lw_at lw_m9 79 rfl) rfl
theorem q2110 : (Jvm.Cond.methodLink "ColourOfficeLaw" (112 : Nat) ({ cls := "ColourOffice", name := "paletteErrorBySearch", desc := "(I)I" } : Jvm.MethodName)) ∈ lw_all := lw_g (lw_at lw_m9 80 rfl) rfl
theorem q2115 : (Jvm.Cond.methodLink "ColourOfficeLaw" (293 : Nat) ({ cls := "ColourOfficeLaw", name := "paletteColour", desc := "(LColourOffice;II[J)I" } : Jvm.MethodName)) ∈ lw_all := lw_g (lw_at lw_m9 85 rfl) rfl
theorem q2116 : (Jvm.Cond.static ({ cls := "ColourOfficeLaw", name := "paletteColour", desc := "(LColourOffice;II[J)I" } : Jvm.MethodName)) ∈ lw_all := lw_g (lw_at lw_m9 86 rfl) rfl
theorem q2117 : (Jvm.Cond.codeWith ({ cls := "ColourOfficeLaw", name := "paletteColour", desc := "(LColourOffice;II[J)I" } : Jvm.MethodName) method_33_code (5 : Nat) (Option.some Jvm.ClassFile.FieldType.int) [((0 : Nat), (10 : Nat), (13 : Nat), (13 : Nat)), ((0 : Nat), (10 : Nat), (17 : Nat), (25 : Nat))]) ∈ lw_all := lw_g (lw_at lw_m9 87 rfl) rfl
theorem q2118 : (Jvm.Cond.methodLink "ColourOfficeLaw" (115 : Nat) ({ cls := "ColourOffice", name := "paletteColour", desc := "(II)I" } : Jvm.MethodName)) ∈ lw_all := lw_g (lw_at lw_m9 88 rfl) rfl
theorem q2122 : (Jvm.Cond.methodLink "ColourOfficeLaw" (316 : Nat) ({ cls := "ColourOfficeLaw", name := "meanBrightness", desc := "(LColourOffice;[D)I" } : Jvm.MethodName)) ∈ lw_all := lw_g (lw_at lw_m9 92 rfl) rfl
theorem q2123 : (Jvm.Cond.static ({ cls := "ColourOfficeLaw", name := "meanBrightness", desc := "(LColourOffice;[D)I" } : Jvm.MethodName)) ∈ lw_all := lw_g (lw_at lw_m9 93 rfl) rfl
theorem q2124 : (Jvm.Cond.codeWith ({ cls := "ColourOfficeLaw", name := "meanBrightness", desc := "(LColourOffice;[D)I" } : Jvm.MethodName) method_34_code (3 : Nat) (Option.some Jvm.ClassFile.FieldType.int) [((0 : Nat), (7 : Nat), (10 : Nat), (122 : Nat))]) ∈ lw_all := lw_g (lw_at lw_m9 94 rfl) rfl
theorem q2125 : (Jvm.Cond.classLink "ColourOfficeLaw" (122 : Nat) "java/lang/ArithmeticException") ∈ lw_all := lw_g (lw_at lw_m9 95 rfl) rfl
theorem q2139 : (Jvm.Cond.methodLink "ColourOfficeLaw" (118 : Nat) ({ cls := "ColourOffice", name := "meanBrightness", desc := "()D" } : Jvm.MethodName)) ∈ lw_all := lw_g (lw_at lw_m9 109 rfl) rfl
theorem q2156 : (Jvm.Cond.methodLink "ColourOfficeLaw" (320 : Nat) ({ cls := "ColourOfficeLaw", name := "greyShare", desc := "(LColourOffice;[D)I" } : Jvm.MethodName)) ∈ lw_all := lw_g (lw_at lw_m9 126 rfl) rfl
theorem q2157 : (Jvm.Cond.static ({ cls := "ColourOfficeLaw", name := "greyShare", desc := "(LColourOffice;[D)I" } : Jvm.MethodName)) ∈ lw_all := lw_g (lw_at lw_m9 127 rfl) rfl
theorem q2158 : (Jvm.Cond.codeWith ({ cls := "ColourOfficeLaw", name := "greyShare", desc := "(LColourOffice;[D)I" } : Jvm.MethodName) method_35_code (3 : Nat) (Option.some Jvm.ClassFile.FieldType.int) [((0 : Nat), (8 : Nat), (11 : Nat), (122 : Nat))]) ∈ lw_all := lw_g (lw_at lw_m9 128 rfl) rfl
theorem q2159 : (Jvm.Cond.methodLink "ColourOfficeLaw" (124 : Nat) ({ cls := "ColourOffice", name := "greyShare", desc := "()F" } : Jvm.MethodName)) ∈ lw_all := lw_g (lw_at lw_m9 129 rfl) rfl
theorem q2164 : (Jvm.Cond.methodLink "ColourOfficeLaw" (328 : Nat) ({ cls := "ColourOfficeLaw", name := "renderColour", desc := "(LColourOffice;I[J)I" } : Jvm.MethodName)) ∈ lw_all := lw_g (lw_at lw_m9 134 rfl) rfl
theorem q2165 : (Jvm.Cond.static ({ cls := "ColourOfficeLaw", name := "renderColour", desc := "(LColourOffice;I[J)I" } : Jvm.MethodName)) ∈ lw_all := lw_g (lw_at lw_m9 135 rfl) rfl
theorem q2166 : (Jvm.Cond.codeWith ({ cls := "ColourOfficeLaw", name := "renderColour", desc := "(LColourOffice;I[J)I" } : Jvm.MethodName) method_36_code (4 : Nat) (Option.some Jvm.ClassFile.FieldType.int) [((0 : Nat), (9 : Nat), (12 : Nat), (25 : Nat))]) ∈ lw_all := lw_g (lw_at lw_m9 136 rfl) rfl
theorem q2167 : (Jvm.Cond.methodLink "ColourOfficeLaw" (128 : Nat) ({ cls := "ColourOffice", name := "renderColour", desc := "(I)I" } : Jvm.MethodName)) ∈ lw_all := lw_g (lw_at lw_m9 137 rfl) rfl
theorem q2200 : (Jvm.Cond.methodLink "ColourOfficeLaw" (331 : Nat) ({ cls := "ColourOfficeLaw", name := "renderReport", desc := "(LColourOffice;I[J)I" } : Jvm.MethodName)) ∈ lw_all := lw_g (lw_at lw_m9 170 rfl) rfl
theorem q2201 : (Jvm.Cond.static ({ cls := "ColourOfficeLaw", name := "renderReport", desc := "(LColourOffice;I[J)I" } : Jvm.MethodName)) ∈ lw_all := lw_g (lw_at lw_m9 171 rfl) rfl
theorem q2202 : (Jvm.Cond.codeWith ({ cls := "ColourOfficeLaw", name := "renderReport", desc := "(LColourOffice;I[J)I" } : Jvm.MethodName) method_37_code (4 : Nat) (Option.some Jvm.ClassFile.FieldType.int) [((0 : Nat), (9 : Nat), (12 : Nat), (25 : Nat))]) ∈ lw_all := lw_g (lw_at lw_m9 172 rfl) rfl
theorem q2203 : (Jvm.Cond.methodLink "ColourOfficeLaw" (131 : Nat) ({ cls := "ColourOffice", name := "renderReport", desc := "(I)I" } : Jvm.MethodName)) ∈ lw_all := lw_g (lw_at lw_m9 173 rfl) rfl
theorem q2220 : (Jvm.Cond.methodLink "ColourOfficeLaw" (334 : Nat) ({ cls := "ColourOfficeLaw", name := "outputAt", desc := "(LColourOffice;I[J)I" } : Jvm.MethodName)) ∈ lw_all := lw_g (lw_at lw_m9 190 rfl) rfl
theorem q2221 : (Jvm.Cond.static ({ cls := "ColourOfficeLaw", name := "outputAt", desc := "(LColourOffice;I[J)I" } : Jvm.MethodName)) ∈ lw_all := lw_g (lw_at lw_m9 191 rfl) rfl
theorem q2222 : (Jvm.Cond.codeWith ({ cls := "ColourOfficeLaw", name := "outputAt", desc := "(LColourOffice;I[J)I" } : Jvm.MethodName) method_38_code (4 : Nat) (Option.some Jvm.ClassFile.FieldType.int) [((0 : Nat), (9 : Nat), (12 : Nat), (138 : Nat))]) ∈ lw_all := lw_g (lw_at lw_m9 192 rfl) rfl
theorem q2223 : (Jvm.Cond.classLink "ColourOfficeLaw" (138 : Nat) "java/lang/IndexOutOfBoundsException") ∈ lw_all := lw_g (lw_at lw_m9 193 rfl) rfl
theorem q2239 : (Jvm.Cond.methodLink "ColourOfficeLaw" (134 : Nat) ({ cls := "ColourOffice", name := "outputAt", desc := "(I)C" } : Jvm.MethodName)) ∈ lw_all := lw_g (lw_at lw_m9 209 rfl) rfl
theorem q2269 : (Jvm.Cond.methodLink "ColourOfficeLaw" (337 : Nat) ({ cls := "ColourOfficeLaw", name := "type", desc := "(LColourOffice;C[J)I" } : Jvm.MethodName)) ∈ lw_all := lw_g (lw_at lw_m9 239 rfl) rfl
theorem q2270 : (Jvm.Cond.static ({ cls := "ColourOfficeLaw", name := "type", desc := "(LColourOffice;C[J)I" } : Jvm.MethodName)) ∈ lw_all := lw_g (lw_at lw_m10 0 rfl) rfl
theorem q2271 : (Jvm.Cond.codeWith ({ cls := "ColourOfficeLaw", name := "type", desc := "(LColourOffice;C[J)I" } : Jvm.MethodName) method_39_code (4 : Nat) (Option.some Jvm.ClassFile.FieldType.int) [((0 : Nat), (9 : Nat), (12 : Nat), (13 : Nat)), ((0 : Nat), (9 : Nat), (15 : Nat), (15 : Nat))]) ∈ lw_all := lw_g (lw_at lw_m10 1 rfl) rfl
theorem q2272 : (Jvm.Cond.methodLink "ColourOfficeLaw" (140 : Nat) ({ cls := "ColourOffice", name := "type", desc := "(C)I" } : Jvm.MethodName)) ∈ lw_all := lw_g (lw_at lw_m10 2 rfl) rfl
theorem q2295 : (Jvm.Cond.methodLink "ColourOfficeLaw" (340 : Nat) ({ cls := "ColourOfficeLaw", name := "runScript", desc := "(LColourOffice;[J)I" } : Jvm.MethodName)) ∈ lw_all := lw_g (lw_at lw_m10 25 rfl) rfl
theorem q2296 : (Jvm.Cond.static ({ cls := "ColourOfficeLaw", name := "runScript", desc := "(LColourOffice;[J)I" } : Jvm.MethodName)) ∈ lw_all := lw_g (lw_at lw_m10 26 rfl) rfl
theorem q2297 : (Jvm.Cond.codeWith ({ cls := "ColourOfficeLaw", name := "runScript", desc := "(LColourOffice;[J)I" } : Jvm.MethodName) method_40_code (3 : Nat) (Option.some Jvm.ClassFile.FieldType.int) [((0 : Nat), (8 : Nat), (11 : Nat), (13 : Nat)), ((0 : Nat), (8 : Nat), (14 : Nat), (15 : Nat))]) ∈ lw_all := lw_g (lw_at lw_m10 27 rfl) rfl
theorem q2298 : (Jvm.Cond.methodLink "ColourOfficeLaw" (144 : Nat) ({ cls := "ColourOffice", name := "runScript", desc := "()I" } : Jvm.MethodName)) ∈ lw_all := lw_g (lw_at lw_m10 28 rfl) rfl
theorem q2633 : (Jvm.Cond.methodLink "ColourOfficeLaw" (343 : Nat) ({ cls := "ColourOfficeLaw", name := "errorPosition", desc := "(LColourOffice;[J)I" } : Jvm.MethodName)) ∈ lw_all := lw_g (lw_at lw_m11 123 rfl) rfl
theorem q2634 : (Jvm.Cond.static ({ cls := "ColourOfficeLaw", name := "errorPosition", desc := "(LColourOffice;[J)I" } : Jvm.MethodName)) ∈ lw_all := lw_g (lw_at lw_m11 124 rfl) rfl
theorem q2635 : (Jvm.Cond.codeWith ({ cls := "ColourOfficeLaw", name := "errorPosition", desc := "(LColourOffice;[J)I" } : Jvm.MethodName) method_41_code (3 : Nat) (Option.some Jvm.ClassFile.FieldType.int) [((0 : Nat), (8 : Nat), (11 : Nat), (25 : Nat))]) ∈ lw_all := lw_g (lw_at lw_m11 125 rfl) rfl
theorem q2636 : (Jvm.Cond.methodLink "ColourOfficeLaw" (147 : Nat) ({ cls := "ColourOffice", name := "errorPosition", desc := "()I" } : Jvm.MethodName)) ∈ lw_all := lw_g (lw_at lw_m11 126 rfl) rfl
theorem q2640 : (Jvm.Cond.methodLink "ColourOfficeLaw" (346 : Nat) ({ cls := "ColourOfficeLaw", name := "failedCommand", desc := "(LColourOffice;[J)I" } : Jvm.MethodName)) ∈ lw_all := lw_g (lw_at lw_m11 130 rfl) rfl
theorem q2641 : (Jvm.Cond.static ({ cls := "ColourOfficeLaw", name := "failedCommand", desc := "(LColourOffice;[J)I" } : Jvm.MethodName)) ∈ lw_all := lw_g (lw_at lw_m11 131 rfl) rfl
theorem q2642 : (Jvm.Cond.codeWith ({ cls := "ColourOfficeLaw", name := "failedCommand", desc := "(LColourOffice;[J)I" } : Jvm.MethodName) method_42_code (3 : Nat) (Option.some Jvm.ClassFile.FieldType.int) [((0 : Nat), (8 : Nat), (11 : Nat), (25 : Nat))]) ∈ lw_all := lw_g (lw_at lw_m11 132 rfl) rfl
theorem q2643 : (Jvm.Cond.methodLink "ColourOfficeLaw" (150 : Nat) ({ cls := "ColourOffice", name := "failedCommand", desc := "()I" } : Jvm.MethodName)) ∈ lw_all := lw_g (lw_at lw_m11 133 rfl) rfl
theorem q2647 : (Jvm.Cond.methodLink "ColourOfficeLaw" (349 : Nat) ({ cls := "ColourOfficeLaw", name := "failureKind", desc := "(LColourOffice;[J)I" } : Jvm.MethodName)) ∈ lw_all := lw_g (lw_at lw_m11 137 rfl) rfl
theorem q2648 : (Jvm.Cond.static ({ cls := "ColourOfficeLaw", name := "failureKind", desc := "(LColourOffice;[J)I" } : Jvm.MethodName)) ∈ lw_all := lw_g (lw_at lw_m11 138 rfl) rfl
theorem q2649 : (Jvm.Cond.codeWith ({ cls := "ColourOfficeLaw", name := "failureKind", desc := "(LColourOffice;[J)I" } : Jvm.MethodName) method_43_code (3 : Nat) (Option.some Jvm.ClassFile.FieldType.int) [((0 : Nat), (8 : Nat), (11 : Nat), (25 : Nat))]) ∈ lw_all := lw_g (lw_at lw_m11 139 rfl) rfl
theorem q2650 : (Jvm.Cond.methodLink "ColourOfficeLaw" (153 : Nat) ({ cls := "ColourOffice", name := "failureKind", desc := "()C" } : Jvm.MethodName)) ∈ lw_all := lw_g (lw_at lw_m11 140 rfl) rfl
theorem q2654 : (Jvm.Cond.methodLink "ColourOfficeLaw" (352 : Nat) ({ cls := "ColourOfficeLaw", name := "undo", desc := "(LColourOffice;[J)I" } : Jvm.MethodName)) ∈ lw_all := lw_g (lw_at lw_m11 144 rfl) rfl
theorem q2655 : (Jvm.Cond.static ({ cls := "ColourOfficeLaw", name := "undo", desc := "(LColourOffice;[J)I" } : Jvm.MethodName)) ∈ lw_all := lw_g (lw_at lw_m11 145 rfl) rfl
theorem q2656 : (Jvm.Cond.codeWith ({ cls := "ColourOfficeLaw", name := "undo", desc := "(LColourOffice;[J)I" } : Jvm.MethodName) method_44_code (3 : Nat) (Option.some Jvm.ClassFile.FieldType.int) [((0 : Nat), (8 : Nat), (11 : Nat), (25 : Nat))]) ∈ lw_all := lw_g (lw_at lw_m11 146 rfl) rfl
theorem q2657 : (Jvm.Cond.methodLink "ColourOfficeLaw" (157 : Nat) ({ cls := "ColourOffice", name := "undo", desc := "()I" } : Jvm.MethodName)) ∈ lw_all := lw_g (lw_at lw_m11 147 rfl) rfl
theorem q2678 : (Jvm.Cond.methodLink "ColourOfficeLaw" (359 : Nat) ({ cls := "ColourOfficeLaw", name := "restore", desc := "(LColourOffice;[J)I" } : Jvm.MethodName)) ∈ lw_all := lw_g (lw_at lw_m11 168 rfl) rfl
theorem q2679 : (Jvm.Cond.static ({ cls := "ColourOfficeLaw", name := "restore", desc := "(LColourOffice;[J)I" } : Jvm.MethodName)) ∈ lw_all := lw_g (lw_at lw_m11 169 rfl) rfl
theorem q2680 : (Jvm.Cond.codeWith ({ cls := "ColourOfficeLaw", name := "restore", desc := "(LColourOffice;[J)I" } : Jvm.MethodName) method_45_code (3 : Nat) (Option.some Jvm.ClassFile.FieldType.int) [((0 : Nat), (8 : Nat), (11 : Nat), (15 : Nat))]) ∈ lw_all := lw_g (lw_at lw_m11 170 rfl) rfl
theorem q2681 : (Jvm.Cond.methodLink "ColourOfficeLaw" (160 : Nat) ({ cls := "ColourOffice", name := "restore", desc := "()I" } : Jvm.MethodName)) ∈ lw_all := lw_g (lw_at lw_m11 171 rfl) rfl
theorem q2693 : (Jvm.Cond.classLink "ColourOfficeLaw" (164 : Nat) "ColourOfficeModel") ∈ lw_all := lw_g (lw_at lw_m11 183 rfl) rfl
theorem q2695 : (Jvm.Cond.methodLink "ColourOfficeLaw" (166 : Nat) ({ cls := "ColourOfficeModel", name := "<init>", desc := "()V" } : Jvm.MethodName)) ∈ lw_all := lw_g (lw_at lw_m11 185 rfl) rfl
theorem q2769 : (Jvm.Cond.methodLink "ColourOfficeLaw" (173 : Nat) ({ cls := "ColourOfficeModel", name := "thrown", desc := "()I" } : Jvm.MethodName)) ∈ lw_all := lw_g (lw_at lw_m12 19 rfl) rfl
theorem q2773 : (Jvm.Cond.methodLink "ColourOfficeLaw" (172 : Nat) ({ cls := "ColourOfficeModel", name := "addColour", desc := "(IIII)I" } : Jvm.MethodName)) ∈ lw_all := lw_g (lw_at lw_m12 23 rfl) rfl
theorem q2813 : (Jvm.Cond.methodLink "ColourOfficeLaw" (179 : Nat) ({ cls := "ColourOfficeModel", name := "report", desc := "(IIIII)I" } : Jvm.MethodName)) ∈ lw_all := lw_g (lw_at lw_m12 63 rfl) rfl
theorem q2828 : (Jvm.Cond.methodLink "ColourOfficeLaw" (183 : Nat) ({ cls := "ColourOfficeModel", name := "withdraw", desc := "(I)I" } : Jvm.MethodName)) ∈ lw_all := lw_g (lw_at lw_m12 78 rfl) rfl
theorem q2852 : (Jvm.Cond.methodLink "ColourOfficeLaw" (186 : Nat) ({ cls := "ColourOfficeModel", name := "discard", desc := "(I)I" } : Jvm.MethodName)) ∈ lw_all := lw_g (lw_at lw_m12 102 rfl) rfl
theorem q2872 : (Jvm.Cond.methodLink "ColourOfficeLaw" (190 : Nat) ({ cls := "ColourOfficeModel", name := "setMetric", desc := "(C)C" } : Jvm.MethodName)) ∈ lw_all := lw_g (lw_at lw_m12 122 rfl) rfl
theorem q2883 : (Jvm.Cond.methodLink "ColourOfficeLaw" (194 : Nat) ({ cls := "ColourOfficeModel", name := "giveBack", desc := "(II)I" } : Jvm.MethodName)) ∈ lw_all := lw_g (lw_at lw_m12 133 rfl) rfl
theorem q2914 : (Jvm.Cond.methodLink "ColourOfficeLaw" (198 : Nat) ({ cls := "ColourOfficeModel", name := "settle", desc := "()I" } : Jvm.MethodName)) ∈ lw_all := lw_g (lw_at lw_m12 164 rfl) rfl
theorem q2939 : (Jvm.Cond.methodLink "ColourOfficeLaw" (201 : Nat) ({ cls := "ColourOfficeModel", name := "mix", desc := "(II)I" } : Jvm.MethodName)) ∈ lw_all := lw_g (lw_at lw_m12 189 rfl) rfl
theorem q2951 : (Jvm.Cond.methodLink "ColourOfficeLaw" (204 : Nat) ({ cls := "ColourOfficeModel", name := "passDays", desc := "(I)I" } : Jvm.MethodName)) ∈ lw_all := lw_g (lw_at lw_m12 201 rfl) rfl
theorem q2974 : (Jvm.Cond.methodLink "ColourOfficeLaw" (208 : Nat) ({ cls := "ColourOfficeModel", name := "colourCount", desc := "()I" } : Jvm.MethodName)) ∈ lw_all := lw_g (lw_at lw_m12 224 rfl) rfl
theorem q2982 : (Jvm.Cond.methodLink "ColourOfficeLaw" (211 : Nat) ({ cls := "ColourOfficeModel", name := "colourAt", desc := "(I)I" } : Jvm.MethodName)) ∈ lw_all := lw_g (lw_at lw_m12 232 rfl) rfl
theorem q2990 : (Jvm.Cond.methodLink "ColourOfficeLaw" (214 : Nat) ({ cls := "ColourOfficeModel", name := "red", desc := "(I)I" } : Jvm.MethodName)) ∈ lw_all := lw_g (lw_at lw_m13 0 rfl) rfl
theorem q2998 : (Jvm.Cond.methodLink "ColourOfficeLaw" (217 : Nat) ({ cls := "ColourOfficeModel", name := "green", desc := "(I)I" } : Jvm.MethodName)) ∈ lw_all := lw_g (lw_at lw_m13 8 rfl) rfl
theorem q3002 : (Jvm.Cond.methodLink "ColourOfficeLaw" (220 : Nat) ({ cls := "ColourOfficeModel", name := "blue", desc := "(I)I" } : Jvm.MethodName)) ∈ lw_all := lw_g (lw_at lw_m13 12 rfl) rfl
theorem q3006 : (Jvm.Cond.methodLink "ColourOfficeLaw" (223 : Nat) ({ cls := "ColourOfficeModel", name := "fastness", desc := "(I)I" } : Jvm.MethodName)) ∈ lw_all := lw_g (lw_at lw_m13 16 rfl) rfl
theorem q3010 : (Jvm.Cond.methodLink "ColourOfficeLaw" (226 : Nat) ({ cls := "ColourOfficeModel", name := "age", desc := "(I)I" } : Jvm.MethodName)) ∈ lw_all := lw_g (lw_at lw_m13 20 rfl) rfl
theorem q3014 : (Jvm.Cond.methodLink "ColourOfficeLaw" (229 : Nat) ({ cls := "ColourOfficeModel", name := "daysUntilGrey", desc := "(I)I" } : Jvm.MethodName)) ∈ lw_all := lw_g (lw_at lw_m13 24 rfl) rfl
theorem q3018 : (Jvm.Cond.methodLink "ColourOfficeLaw" (232 : Nat) ({ cls := "ColourOfficeModel", name := "colourByBrightness", desc := "(I)I" } : Jvm.MethodName)) ∈ lw_all := lw_g (lw_at lw_m13 28 rfl) rfl
theorem q3026 : (Jvm.Cond.methodLink "ColourOfficeLaw" (236 : Nat) ({ cls := "ColourOfficeModel", name := "reportCount", desc := "()I" } : Jvm.MethodName)) ∈ lw_all := lw_g (lw_at lw_m13 36 rfl) rfl
theorem q3030 : (Jvm.Cond.methodLink "ColourOfficeLaw" (239 : Nat) ({ cls := "ColourOfficeModel", name := "reportAt", desc := "(I)I" } : Jvm.MethodName)) ∈ lw_all := lw_g (lw_at lw_m13 40 rfl) rfl
theorem q3034 : (Jvm.Cond.methodLink "ColourOfficeLaw" (242 : Nat) ({ cls := "ColourOfficeModel", name := "toleranceOf", desc := "(I)I" } : Jvm.MethodName)) ∈ lw_all := lw_g (lw_at lw_m13 44 rfl) rfl
theorem q3042 : (Jvm.Cond.methodLink "ColourOfficeLaw" (245 : Nat) ({ cls := "ColourOfficeModel", name := "rewardOf", desc := "(I)I" } : Jvm.MethodName)) ∈ lw_all := lw_g (lw_at lw_m13 52 rfl) rfl
theorem q3046 : (Jvm.Cond.methodLink "ColourOfficeLaw" (248 : Nat) ({ cls := "ColourOfficeModel", name := "distanceFor", desc := "(II)I" } : Jvm.MethodName)) ∈ lw_all := lw_g (lw_at lw_m13 56 rfl) rfl
theorem q3054 : (Jvm.Cond.methodLink "ColourOfficeLaw" (251 : Nat) ({ cls := "ColourOfficeModel", name := "fits", desc := "(II)Z" } : Jvm.MethodName)) ∈ lw_all := lw_g (lw_at lw_m13 64 rfl) rfl
theorem q3058 : (Jvm.Cond.methodLink "ColourOfficeLaw" (254 : Nat) ({ cls := "ColourOfficeModel", name := "nearestFor", desc := "(I)I" } : Jvm.MethodName)) ∈ lw_all := lw_g (lw_at lw_m13 68 rfl) rfl
theorem q3062 : (Jvm.Cond.methodLink "ColourOfficeLaw" (257 : Nat) ({ cls := "ColourOfficeModel", name := "distance", desc := "(II)I" } : Jvm.MethodName)) ∈ lw_all := lw_g (lw_at lw_m13 72 rfl) rfl
theorem q3066 : (Jvm.Cond.methodLink "ColourOfficeLaw" (261 : Nat) ({ cls := "ColourOfficeModel", name := "nearest", desc := "(III)I" } : Jvm.MethodName)) ∈ lw_all := lw_g (lw_at lw_m13 76 rfl) rfl
theorem q3079 : (Jvm.Cond.methodLink "ColourOfficeLaw" (264 : Nat) ({ cls := "ColourOfficeModel", name := "nearestByLooking", desc := "(III)I" } : Jvm.MethodName)) ∈ lw_all := lw_g (lw_at lw_m13 89 rfl) rfl
theorem q3083 : (Jvm.Cond.methodLink "ColourOfficeLaw" (268 : Nat) ({ cls := "ColourOfficeModel", name := "closestDistance", desc := "()I" } : Jvm.MethodName)) ∈ lw_all := lw_g (lw_at lw_m13 93 rfl) rfl
theorem q3091 : (Jvm.Cond.methodLink "ColourOfficeLaw" (271 : Nat) ({ cls := "ColourOfficeModel", name := "closestDistanceBySorting", desc := "()I" } : Jvm.MethodName)) ∈ lw_all := lw_g (lw_at lw_m13 101 rfl) rfl
theorem q3095 : (Jvm.Cond.methodLink "ColourOfficeLaw" (275 : Nat) ({ cls := "ColourOfficeModel", name := "bestReward", desc := "()I" } : Jvm.MethodName)) ∈ lw_all := lw_g (lw_at lw_m13 105 rfl) rfl
theorem q3103 : (Jvm.Cond.methodLink "ColourOfficeLaw" (279 : Nat) ({ cls := "ColourOfficeModel", name := "bestRewardByTrying", desc := "()I" } : Jvm.MethodName)) ∈ lw_all := lw_g (lw_at lw_m13 113 rfl) rfl
theorem q3107 : (Jvm.Cond.methodLink "ColourOfficeLaw" (283 : Nat) ({ cls := "ColourOfficeModel", name := "bestDifference", desc := "()I" } : Jvm.MethodName)) ∈ lw_all := lw_g (lw_at lw_m13 117 rfl) rfl
theorem q3111 : (Jvm.Cond.methodLink "ColourOfficeLaw" (286 : Nat) ({ cls := "ColourOfficeModel", name := "settlementFor", desc := "(I)I" } : Jvm.MethodName)) ∈ lw_all := lw_g (lw_at lw_m13 121 rfl) rfl
theorem q3115 : (Jvm.Cond.methodLink "ColourOfficeLaw" (289 : Nat) ({ cls := "ColourOfficeModel", name := "paletteError", desc := "(I)I" } : Jvm.MethodName)) ∈ lw_all := lw_g (lw_at lw_m13 125 rfl) rfl
theorem q3137 : (Jvm.Cond.methodLink "ColourOfficeLaw" (292 : Nat) ({ cls := "ColourOfficeModel", name := "paletteErrorBySearch", desc := "(I)I" } : Jvm.MethodName)) ∈ lw_all := lw_g (lw_at lw_m13 147 rfl) rfl
theorem q3141 : (Jvm.Cond.methodLink "ColourOfficeLaw" (295 : Nat) ({ cls := "ColourOfficeModel", name := "paletteColour", desc := "(II)I" } : Jvm.MethodName)) ∈ lw_all := lw_g (lw_at lw_m13 151 rfl) rfl
theorem q3145 : (Jvm.Cond.methodLink "ColourOfficeLaw" (299 : Nat) ({ cls := "ColourOfficeModel", name := "day", desc := "()I" } : Jvm.MethodName)) ∈ lw_all := lw_g (lw_at lw_m13 155 rfl) rfl
theorem q3149 : (Jvm.Cond.methodLink "ColourOfficeLaw" (303 : Nat) ({ cls := "ColourOfficeModel", name := "metric", desc := "()C" } : Jvm.MethodName)) ∈ lw_all := lw_g (lw_at lw_m13 159 rfl) rfl
theorem q3153 : (Jvm.Cond.methodLink "ColourOfficeLaw" (307 : Nat) ({ cls := "ColourOfficeModel", name := "coins", desc := "()I" } : Jvm.MethodName)) ∈ lw_all := lw_g (lw_at lw_m13 163 rfl) rfl
theorem q3157 : (Jvm.Cond.methodLink "ColourOfficeLaw" (311 : Nat) ({ cls := "ColourOfficeModel", name := "coinsByAccounts", desc := "()I" } : Jvm.MethodName)) ∈ lw_all := lw_g (lw_at lw_m13 167 rfl) rfl
theorem q3161 : (Jvm.Cond.methodLink "ColourOfficeLaw" (315 : Nat) ({ cls := "ColourOfficeModel", name := "returnedTotal", desc := "()I" } : Jvm.MethodName)) ∈ lw_all := lw_g (lw_at lw_m13 171 rfl) rfl
theorem q3165 : (Jvm.Cond.methodLink "ColourOfficeLaw" (319 : Nat) ({ cls := "ColourOfficeModel", name := "meanBrightness", desc := "()D" } : Jvm.MethodName)) ∈ lw_all := lw_g (lw_at lw_m13 175 rfl) rfl
theorem q3169 : (Jvm.Cond.methodLink "ColourOfficeLaw" (322 : Nat) ({ cls := "ColourOfficeModel", name := "greyShare", desc := "()F" } : Jvm.MethodName)) ∈ lw_all := lw_g (lw_at lw_m13 179 rfl) rfl
theorem q3173 : (Jvm.Cond.methodLink "ColourOfficeLaw" (327 : Nat) ({ cls := "ColourOfficeModel", name := "isConsistent", desc := "()Z" } : Jvm.MethodName)) ∈ lw_all := lw_g (lw_at lw_m13 183 rfl) rfl
theorem q3177 : (Jvm.Cond.methodLink "ColourOfficeLaw" (330 : Nat) ({ cls := "ColourOfficeModel", name := "renderColour", desc := "(I)I" } : Jvm.MethodName)) ∈ lw_all := lw_g (lw_at lw_m13 187 rfl) rfl
theorem q3193 : (Jvm.Cond.methodLink "ColourOfficeLaw" (333 : Nat) ({ cls := "ColourOfficeModel", name := "renderReport", desc := "(I)I" } : Jvm.MethodName)) ∈ lw_all := lw_g (lw_at lw_m13 203 rfl) rfl
theorem q3197 : (Jvm.Cond.methodLink "ColourOfficeLaw" (336 : Nat) ({ cls := "ColourOfficeModel", name := "outputAt", desc := "(I)C" } : Jvm.MethodName)) ∈ lw_all := lw_g (lw_at lw_m13 207 rfl) rfl
theorem q3201 : (Jvm.Cond.methodLink "ColourOfficeLaw" (339 : Nat) ({ cls := "ColourOfficeModel", name := "type", desc := "(C)I" } : Jvm.MethodName)) ∈ lw_all := lw_g (lw_at lw_m13 211 rfl) rfl
theorem q3205 : (Jvm.Cond.methodLink "ColourOfficeLaw" (342 : Nat) ({ cls := "ColourOfficeModel", name := "runScript", desc := "()I" } : Jvm.MethodName)) ∈ lw_all := lw_g (lw_at lw_m13 215 rfl) rfl
theorem q3262 : (Jvm.Cond.methodLink "ColourOfficeLaw" (345 : Nat) ({ cls := "ColourOfficeModel", name := "errorPosition", desc := "()I" } : Jvm.MethodName)) ∈ lw_all := lw_g (lw_at lw_m14 32 rfl) rfl
theorem q3270 : (Jvm.Cond.methodLink "ColourOfficeLaw" (348 : Nat) ({ cls := "ColourOfficeModel", name := "failedCommand", desc := "()I" } : Jvm.MethodName)) ∈ lw_all := lw_g (lw_at lw_m14 40 rfl) rfl
theorem q3274 : (Jvm.Cond.methodLink "ColourOfficeLaw" (351 : Nat) ({ cls := "ColourOfficeModel", name := "failureKind", desc := "()C" } : Jvm.MethodName)) ∈ lw_all := lw_g (lw_at lw_m14 44 rfl) rfl
theorem q3278 : (Jvm.Cond.methodLink "ColourOfficeLaw" (354 : Nat) ({ cls := "ColourOfficeModel", name := "undo", desc := "()I" } : Jvm.MethodName)) ∈ lw_all := lw_g (lw_at lw_m14 48 rfl) rfl
theorem q3282 : (Jvm.Cond.methodLink "ColourOfficeLaw" (358 : Nat) ({ cls := "ColourOfficeModel", name := "save", desc := "()I" } : Jvm.MethodName)) ∈ lw_all := lw_g (lw_at lw_m14 52 rfl) rfl
theorem q3286 : (Jvm.Cond.methodLink "ColourOfficeLaw" (361 : Nat) ({ cls := "ColourOfficeModel", name := "restore", desc := "()I" } : Jvm.MethodName)) ∈ lw_all := lw_g (lw_at lw_m14 56 rfl) rfl
theorem q111 : (Jvm.Cond.initialized "ColourOffice") ∈ lw_all := lw_g (lw_at lw_m1 1 rfl) rfl
theorem q165 : (Jvm.Cond.instantiable "ColourOffice" (8 : Nat)) ∈ lw_all := lw_g (lw_at lw_m1 55 rfl) rfl
theorem q167 : (Jvm.Cond.instanceMethod ({ cls := "ColourOffice", name := "<init>", desc := "()V" } : Jvm.MethodName)) ∈ lw_all := lw_g (lw_at lw_m1 57 rfl) rfl
theorem q168 : (Jvm.Cond.code ({ cls := "ColourOffice", name := "<init>", desc := "()V" } : Jvm.MethodName) prog_1_method_6_code (1 : Nat) (Option.none : Option Jvm.ClassFile.FieldType)) ∈ lw_all := lw_g (lw_at lw_m1 58 rfl) rfl
theorem q169 : (Jvm.Cond.methodLink "ColourOffice" (30 : Nat) ({ cls := "java/lang/Object", name := "<init>", desc := "()V" } : Jvm.MethodName)) ∈ lw_all := lw_g (lw_at lw_m1 59 rfl) rfl
theorem q172 : (Jvm.Cond.classLink "ColourOffice" (35 : Nat) "ColourOffice$Office") ∈ lw_all := lw_g (lw_at lw_m1 62 rfl) rfl
theorem q174 : (Jvm.Cond.methodLinkNest "ColourOffice" (37 : Nat) ({ cls := "ColourOffice$Office", name := "<init>", desc := "()V" } : Jvm.MethodName) "ColourOffice") ∈ lw_tbl := lw_at lw_m1 64 rfl
theorem q224 : (Jvm.Cond.fieldLinkNest "ColourOffice" (140 : Nat) "ColourOffice$Office" "shelf" "LColourOffice$Shelf;" "ColourOffice") ∈ lw_tbl := lw_at lw_m1 114 rfl
theorem q226 : (Jvm.Cond.fieldLinkNest "ColourOffice" (193 : Nat) "ColourOffice$Office" "reports" "Ljava/util/List;" "ColourOffice") ∈ lw_tbl := lw_at lw_m1 116 rfl
theorem q228 : (Jvm.Cond.fieldLinkNest "ColourOffice" (325 : Nat) "ColourOffice$Office" "metric" "C" "ColourOffice") ∈ lw_tbl := lw_at lw_m1 118 rfl
theorem q232 : (Jvm.Cond.fieldLinkNest "ColourOffice" (323 : Nat) "ColourOffice$Office" "day" "I" "ColourOffice") ∈ lw_tbl := lw_at lw_m1 122 rfl
theorem q234 : (Jvm.Cond.fieldLinkNest "ColourOffice" (328 : Nat) "ColourOffice$Office" "coins" "I" "ColourOffice") ∈ lw_tbl := lw_at lw_m1 124 rfl
theorem q238 : (Jvm.Cond.fieldLinkNest "ColourOffice" (334 : Nat) "ColourOffice$Office" "returned" "I" "ColourOffice") ∈ lw_tbl := lw_at lw_m1 128 rfl
theorem q260 : (Jvm.Cond.classLink "ColourOffice" (42 : Nat) "ColourOffice$Past") ∈ lw_all := lw_g (lw_at lw_m1 150 rfl) rfl
theorem q262 : (Jvm.Cond.methodLinkNest "ColourOffice" (44 : Nat) ({ cls := "ColourOffice$Past", name := "<init>", desc := "()V" } : Jvm.MethodName) "ColourOffice") ∈ lw_tbl := lw_at lw_m1 152 rfl
theorem q290 : (Jvm.Cond.classLink "ColourOffice" (49 : Nat) "java/lang/StringBuilder") ∈ lw_all := lw_g (lw_at lw_m1 180 rfl) rfl
theorem q292 : (Jvm.Cond.methodLink "ColourOffice" (51 : Nat) ({ cls := "java/lang/StringBuilder", name := "<init>", desc := "()V" } : Jvm.MethodName)) ∈ lw_all := lw_g (lw_at lw_m1 182 rfl) rfl
theorem q323 : (Jvm.Cond.stringRef "ColourOffice" (63 : Nat) "") ∈ lw_tbl := lw_at lw_m1 213 rfl
theorem q324 : (Jvm.Cond.fieldLink "ColourOffice" (38 : Nat) "ColourOffice" "office" "LColourOffice$Office;") ∈ lw_all := lw_g (lw_at lw_m1 214 rfl) rfl
theorem q325 : (Jvm.Cond.fieldLink "ColourOffice" (430 : Nat) "ColourOffice" "snapshot" "LColourOffice$Office;") ∈ lw_all := lw_g (lw_at lw_m1 215 rfl) rfl
theorem q326 : (Jvm.Cond.fieldLink "ColourOffice" (45 : Nat) "ColourOffice" "past" "LColourOffice$Past;") ∈ lw_all := lw_g (lw_at lw_m1 216 rfl) rfl
theorem q327 : (Jvm.Cond.fieldLink "ColourOffice" (52 : Nat) "ColourOffice" "script" "Ljava/lang/StringBuilder;") ∈ lw_all := lw_g (lw_at lw_m1 217 rfl) rfl
theorem q328 : (Jvm.Cond.fieldLink "ColourOffice" (56 : Nat) "ColourOffice" "errorPosition" "I") ∈ lw_all := lw_g (lw_at lw_m1 218 rfl) rfl
theorem q329 : (Jvm.Cond.fieldLink "ColourOffice" (60 : Nat) "ColourOffice" "failedCommand" "I") ∈ lw_all := lw_g (lw_at lw_m1 219 rfl) rfl
theorem q330 : (Jvm.Cond.fieldLink "ColourOffice" (398 : Nat) "ColourOffice" "failureKind" "C") ∈ lw_all := lw_g (lw_at lw_m1 220 rfl) rfl
theorem q331 : (Jvm.Cond.fieldLink "ColourOffice" (65 : Nat) "ColourOffice" "output" "Ljava/lang/String;") ∈ lw_all := lw_g (lw_at lw_m1 221 rfl) rfl
theorem q332 : (Jvm.Cond.lays "ColourOffice" "ColourOffice" "office" "LColourOffice$Office;") ∈ lw_all := lw_g (lw_at lw_m1 222 rfl) rfl
theorem q333 : (Jvm.Cond.soleField "ColourOffice" "office") ∈ lw_all := lw_g (lw_at lw_m1 223 rfl) rfl
theorem q334 : (Jvm.Cond.lays "ColourOffice" "ColourOffice" "snapshot" "LColourOffice$Office;") ∈ lw_all := lw_g (lw_at lw_m1 224 rfl) rfl
theorem q335 : (Jvm.Cond.soleField "ColourOffice" "snapshot") ∈ lw_all := lw_g (lw_at lw_m1 225 rfl) rfl
theorem q336 : (Jvm.Cond.laysFinal "ColourOffice" "ColourOffice" "past" "LColourOffice$Past;") ∈ lw_all := lw_g (lw_at lw_m1 226 rfl) rfl
theorem q337 : (Jvm.Cond.soleField "ColourOffice" "past") ∈ lw_all := lw_g (lw_at lw_m1 227 rfl) rfl
theorem q338 : (Jvm.Cond.laysFinal "ColourOffice" "ColourOffice" "script" "Ljava/lang/StringBuilder;") ∈ lw_all := lw_g (lw_at lw_m1 228 rfl) rfl
theorem q339 : (Jvm.Cond.soleField "ColourOffice" "script") ∈ lw_all := lw_g (lw_at lw_m1 229 rfl) rfl
theorem q340 : (Jvm.Cond.lays "ColourOffice" "ColourOffice" "errorPosition" "I") ∈ lw_all := lw_g (lw_at lw_m1 230 rfl) rfl
theorem q341 : (Jvm.Cond.soleField "ColourOffice" "errorPosition") ∈ lw_all := lw_g (lw_at lw_m1 231 rfl) rfl
theorem q342 : (Jvm.Cond.lays "ColourOffice" "ColourOffice" "failedCommand" "I") ∈ lw_all := lw_g (lw_at lw_m1 232 rfl) rfl
theorem q343 : (Jvm.Cond.soleField "ColourOffice" "failedCommand") ∈ lw_all := lw_g (lw_at lw_m1 233 rfl) rfl
theorem q344 : (Jvm.Cond.lays "ColourOffice" "ColourOffice" "failureKind" "C") ∈ lw_all := lw_g (lw_at lw_m1 234 rfl) rfl
theorem q345 : (Jvm.Cond.soleField "ColourOffice" "failureKind") ∈ lw_all := lw_g (lw_at lw_m1 235 rfl) rfl
theorem q346 : (Jvm.Cond.lays "ColourOffice" "ColourOffice" "output" "Ljava/lang/String;") ∈ lw_all := lw_g (lw_at lw_m1 236 rfl) rfl
theorem q347 : (Jvm.Cond.soleField "ColourOffice" "output") ∈ lw_all := lw_g (lw_at lw_m1 237 rfl) rfl
theorem q348 : (Jvm.Cond.superclass "ColourOffice" "java/lang/Object") ∈ lw_all := lw_g (lw_at lw_m1 238 rfl) rfl
theorem q350 : (Jvm.Cond.instanceMethod ({ cls := "ColourOffice", name := "settle", desc := "()I" } : Jvm.MethodName)) ∈ lw_all := lw_g (lw_at lw_m2 0 rfl) rfl
theorem q351 : (Jvm.Cond.selects "ColourOffice" ({ cls := "ColourOffice", name := "settle", desc := "()I" } : Jvm.MethodName) ({ cls := "ColourOffice", name := "settle", desc := "()I" } : Jvm.MethodName)) ∈ lw_all := lw_g (lw_at lw_m2 1 rfl) rfl
theorem q352 : (Jvm.Cond.code ({ cls := "ColourOffice", name := "settle", desc := "()I" } : Jvm.MethodName) prog_1_method_15_code (1 : Nat) (Option.some Jvm.ClassFile.FieldType.int)) ∈ lw_all := lw_g (lw_at lw_m2 2 rfl) rfl
theorem q353 : (Jvm.Cond.stringRef "ColourOffice" (110 : Nat) "settle") ∈ lw_tbl := lw_at lw_m2 3 rfl
theorem q354 : (Jvm.Cond.methodLink "ColourOffice" (96 : Nat) ({ cls := "ColourOffice", name := "change", desc := "(Ljava/lang/String;[I)I" } : Jvm.MethodName)) ∈ lw_all := lw_g (lw_at lw_m2 4 rfl) rfl
theorem q355 : (Jvm.Cond.privateMethod ({ cls := "ColourOffice", name := "change", desc := "(Ljava/lang/String;[I)I" } : Jvm.MethodName)) ∈ lw_tbl := lw_at lw_m2 5 rfl
theorem q356 : (Jvm.Cond.instanceMethod ({ cls := "ColourOffice", name := "change", desc := "(Ljava/lang/String;[I)I" } : Jvm.MethodName)) ∈ lw_all := lw_g (lw_at lw_m2 6 rfl) rfl
theorem q357 : (Jvm.Cond.codeWith ({ cls := "ColourOffice", name := "change", desc := "(Ljava/lang/String;[I)I" } : Jvm.MethodName) prog_1_method_8_code (5 : Nat) (Option.some Jvm.ClassFile.FieldType.int) [((8 : Nat), (26 : Nat), (27 : Nat), (1 : Nat))]) ∈ lw_all := lw_g (lw_at lw_m2 7 rfl) rfl
theorem q358 : (Jvm.Cond.classLink "ColourOffice" (1 : Nat) "ColourOffice$ConditionFailure") ∈ lw_all := lw_g (lw_at lw_m2 8 rfl) rfl
theorem q359 : (Jvm.Cond.methodLink "ColourOffice" (73 : Nat) ({ cls := "ColourOffice$Office", name := "copy", desc := "()LColourOffice$Office;" } : Jvm.MethodName)) ∈ lw_all := lw_g (lw_at lw_m2 9 rfl) rfl
theorem q499 : (Jvm.Cond.fieldLinkNest "ColourOffice" (156 : Nat) "ColourOffice$Found" "id" "I" "ColourOffice") ∈ lw_tbl := lw_at lw_m2 149 rfl
theorem q502 : (Jvm.Cond.fieldLinkNest "ColourOffice" (172 : Nat) "ColourOffice$Found" "fastness" "I" "ColourOffice") ∈ lw_tbl := lw_at lw_m2 152 rfl
theorem q509 : (Jvm.Cond.fieldLinkNest "ColourOffice" (164 : Nat) "ColourOffice$Found" "tint" "LColourOffice$Tint;" "ColourOffice") ∈ lw_tbl := lw_at lw_m2 159 rfl
theorem q511 : (Jvm.Cond.fieldLinkNest "ColourOffice" (175 : Nat) "ColourOffice$Found" "age" "I" "ColourOffice") ∈ lw_tbl := lw_at lw_m2 161 rfl
theorem q865 : (Jvm.Cond.selects "ColourOffice" ({ cls := "java/lang/Object", name := "getClass", desc := "()Ljava/lang/Class;" } : Jvm.MethodName) ({ cls := "java/lang/Object", name := "getClass", desc := "()Ljava/lang/Class;" } : Jvm.MethodName)) ∈ lw_all := lw_g (lw_at lw_m4 35 rfl) rfl
theorem q936 : (Jvm.Cond.classLink "ColourOffice" (77 : Nat) "ColourOffice$Command") ∈ lw_all := lw_g (lw_at lw_m4 106 rfl) rfl
theorem q938 : (Jvm.Cond.methodLink "ColourOffice" (79 : Nat) ({ cls := "ColourOffice$Command", name := "<init>", desc := "(Ljava/lang/String;[I)V" } : Jvm.MethodName)) ∈ lw_all := lw_g (lw_at lw_m4 108 rfl) rfl
theorem q949 : (Jvm.Cond.methodLink "ColourOffice" (82 : Nat) ({ cls := "ColourOffice$Command", name := "applyTo", desc := "(LColourOffice$Office;)I" } : Jvm.MethodName)) ∈ lw_all := lw_g (lw_at lw_m4 119 rfl) rfl
theorem q1039 : (Jvm.Cond.static ({ cls := "ColourOffice", name := "areParts", desc := "([I)Z" } : Jvm.MethodName)) ∈ lw_all := lw_g (lw_at lw_m4 209 rfl) rfl
theorem q1040 : (Jvm.Cond.code ({ cls := "ColourOffice", name := "areParts", desc := "([I)Z" } : Jvm.MethodName) prog_1_method_3_code (6 : Nat) (Option.some Jvm.ClassFile.FieldType.boolean)) ∈ lw_all := lw_g (lw_at lw_m4 210 rfl) rfl
theorem q1041 : (Jvm.Cond.methodLink "ColourOffice" (9 : Nat) ({ cls := "ColourOffice", name := "isBetween", desc := "(III)Z" } : Jvm.MethodName)) ∈ lw_all := lw_g (lw_at lw_m4 211 rfl) rfl
theorem q1042 : (Jvm.Cond.static ({ cls := "ColourOffice", name := "isBetween", desc := "(III)Z" } : Jvm.MethodName)) ∈ lw_all := lw_g (lw_at lw_m4 212 rfl) rfl
theorem q1043 : (Jvm.Cond.code ({ cls := "ColourOffice", name := "isBetween", desc := "(III)Z" } : Jvm.MethodName) prog_1_method_2_code (3 : Nat) (Option.some Jvm.ClassFile.FieldType.boolean)) ∈ lw_all := lw_g (lw_at lw_m4 213 rfl) rfl
theorem q1046 : (Jvm.Cond.static ({ cls := "ColourOffice", name := "demand", desc := "(ZC)V" } : Jvm.MethodName)) ∈ lw_all := lw_g (lw_at lw_m4 216 rfl) rfl
theorem q1047 : (Jvm.Cond.code ({ cls := "ColourOffice", name := "demand", desc := "(ZC)V" } : Jvm.MethodName) prog_1_method_1_code (2 : Nat) (Option.none : Option Jvm.ClassFile.FieldType)) ∈ lw_all := lw_g (lw_at lw_m4 217 rfl) rfl
theorem q1056 : (Jvm.Cond.methodLink "ColourOffice" (3 : Nat) ({ cls := "ColourOffice$ConditionFailure", name := "<init>", desc := "(C)V" } : Jvm.MethodName)) ∈ lw_all := lw_g (lw_at lw_m4 226 rfl) rfl
theorem q1113 : (Jvm.Cond.fieldLinkNest "ColourOffice" (211 : Nat) "ColourOffice$Report" "id" "I" "ColourOffice") ∈ lw_tbl := lw_at lw_m5 43 rfl
theorem q1117 : (Jvm.Cond.fieldLinkNest "ColourOffice" (242 : Nat) "ColourOffice$Report" "tint" "LColourOffice$Tint;" "ColourOffice") ∈ lw_tbl := lw_at lw_m5 47 rfl
theorem q1121 : (Jvm.Cond.fieldLinkNest "ColourOffice" (215 : Nat) "ColourOffice$Report" "tolerance" "I" "ColourOffice") ∈ lw_tbl := lw_at lw_m5 51 rfl
theorem q1125 : (Jvm.Cond.fieldLinkNest "ColourOffice" (218 : Nat) "ColourOffice$Report" "reward" "I" "ColourOffice") ∈ lw_tbl := lw_at lw_m5 55 rfl
theorem q1253 : (Jvm.Cond.static ({ cls := "ColourOffice", name := "metricOf", desc := "(C)LColourOffice$Metric;" } : Jvm.MethodName)) ∈ lw_all := lw_g (lw_at lw_m5 183 rfl) rfl
theorem q1254 : (Jvm.Cond.code ({ cls := "ColourOffice", name := "metricOf", desc := "(C)LColourOffice$Metric;" } : Jvm.MethodName) prog_1_method_4_code (1 : Nat) (Option.some (Jvm.ClassFile.FieldType.object "ColourOffice$Metric"))) ∈ lw_all := lw_g (lw_at lw_m5 184 rfl) rfl
theorem q1255 : (Jvm.Cond.static ({ cls := "ColourOffice", name := "lambda$metricOf$0", desc := "(III)I" } : Jvm.MethodName)) ∈ lw_all := lw_g (lw_at lw_m5 185 rfl) rfl
theorem q1256 : (Jvm.Cond.code ({ cls := "ColourOffice", name := "lambda$metricOf$0", desc := "(III)I" } : Jvm.MethodName) prog_1_method_80_code (3 : Nat) (Option.some Jvm.ClassFile.FieldType.int)) ∈ lw_all := lw_g (lw_at lw_m5 186 rfl) rfl
theorem q1257 : (Jvm.Cond.static ({ cls := "ColourOffice", name := "lambda$metricOf$1", desc := "(III)I" } : Jvm.MethodName)) ∈ lw_all := lw_g (lw_at lw_m5 187 rfl) rfl
theorem q1258 : (Jvm.Cond.code ({ cls := "ColourOffice", name := "lambda$metricOf$1", desc := "(III)I" } : Jvm.MethodName) prog_1_method_79_code (3 : Nat) (Option.some Jvm.ClassFile.FieldType.int)) ∈ lw_all := lw_g (lw_at lw_m5 188 rfl) rfl
theorem q1259 : (Jvm.Cond.static ({ cls := "ColourOffice", name := "lambda$metricOf$2", desc := "(III)I" } : Jvm.MethodName)) ∈ lw_all := lw_g (lw_at lw_m5 189 rfl) rfl
theorem q1260 : (Jvm.Cond.code ({ cls := "ColourOffice", name := "lambda$metricOf$2", desc := "(III)I" } : Jvm.MethodName) prog_1_method_78_code (3 : Nat) (Option.some Jvm.ClassFile.FieldType.int)) ∈ lw_all := lw_g (lw_at lw_m5 190 rfl) rfl
theorem q1261 : (Jvm.Cond.methodLink "ColourOffice" (436 : Nat) ({ cls := "java/lang/Math", name := "max", desc := "(II)I" } : Jvm.MethodName)) ∈ lw_all := lw_g (lw_at lw_m5 191 rfl) rfl
theorem q1340 : (Jvm.Cond.static ({ cls := "ColourOffice", name := "distance", desc := "(LColourOffice$Metric;LColourOffice$Tint;LColourOffice$Tint;)I" } : Jvm.MethodName)) ∈ lw_all := lw_g (lw_at lw_m6 30 rfl) rfl
theorem q1341 : (Jvm.Cond.code ({ cls := "ColourOffice", name := "distance", desc := "(LColourOffice$Metric;LColourOffice$Tint;LColourOffice$Tint;)I" } : Jvm.MethodName) prog_1_method_5_code (3 : Nat) (Option.some Jvm.ClassFile.FieldType.int)) ∈ lw_all := lw_g (lw_at lw_m6 31 rfl) rfl
theorem q1342 : (Jvm.Cond.methodLink "ColourOffice" (19 : Nat) ({ cls := "ColourOffice$Tint", name := "difference", desc := "(LColourOffice$Tint;I)I" } : Jvm.MethodName)) ∈ lw_all := lw_g (lw_at lw_m6 32 rfl) rfl
theorem q1349 : (Jvm.Cond.interfaceEntry "ColourOffice" (25 : Nat)) ∈ lw_tbl := lw_at lw_m6 39 rfl
theorem q1350 : (Jvm.Cond.methodLink "ColourOffice" (25 : Nat) ({ cls := "ColourOffice$Metric", name := "combine", desc := "(III)I" } : Jvm.MethodName)) ∈ lw_all := lw_g (lw_at lw_m6 40 rfl) rfl
theorem q1517 : (Jvm.Cond.methodLink "ColourOffice" (86 : Nat) ({ cls := "ColourOffice", name := "commit", desc := "(LColourOffice$Office;I)I" } : Jvm.MethodName)) ∈ lw_all := lw_g (lw_at lw_m6 207 rfl) rfl
theorem q1518 : (Jvm.Cond.privateMethod ({ cls := "ColourOffice", name := "commit", desc := "(LColourOffice$Office;I)I" } : Jvm.MethodName)) ∈ lw_tbl := lw_at lw_m6 208 rfl
theorem q1519 : (Jvm.Cond.instanceMethod ({ cls := "ColourOffice", name := "commit", desc := "(LColourOffice$Office;I)I" } : Jvm.MethodName)) ∈ lw_all := lw_g (lw_at lw_m6 209 rfl) rfl
theorem q1520 : (Jvm.Cond.code ({ cls := "ColourOffice", name := "commit", desc := "(LColourOffice$Office;I)I" } : Jvm.MethodName) prog_1_method_7_code (3 : Nat) (Option.some Jvm.ClassFile.FieldType.int)) ∈ lw_all := lw_g (lw_at lw_m6 210 rfl) rfl
theorem q1521 : (Jvm.Cond.methodLink "ColourOffice" (69 : Nat) ({ cls := "ColourOffice$Past", name := "add", desc := "(LColourOffice$Office;)V" } : Jvm.MethodName)) ∈ lw_all := lw_g (lw_at lw_m6 211 rfl) rfl
theorem q1540 : (Jvm.Cond.methodLink "ColourOffice" (90 : Nat) ({ cls := "ColourOffice$ConditionFailure", name := "asPublicException", desc := "()Ljava/lang/RuntimeException;" } : Jvm.MethodName)) ∈ lw_all := lw_g (lw_at lw_m6 230 rfl) rfl
theorem q1583 : (Jvm.Cond.instanceMethod ({ cls := "ColourOffice", name := "colourCount", desc := "()I" } : Jvm.MethodName)) ∈ lw_all := lw_g (lw_at lw_m7 33 rfl) rfl
theorem q1584 : (Jvm.Cond.selects "ColourOffice" ({ cls := "ColourOffice", name := "colourCount", desc := "()I" } : Jvm.MethodName) ({ cls := "ColourOffice", name := "colourCount", desc := "()I" } : Jvm.MethodName)) ∈ lw_all := lw_g (lw_at lw_m7 34 rfl) rfl
theorem q1585 : (Jvm.Cond.code ({ cls := "ColourOffice", name := "colourCount", desc := "()I" } : Jvm.MethodName) prog_1_method_24_code (1 : Nat) (Option.some Jvm.ClassFile.FieldType.int)) ∈ lw_all := lw_g (lw_at lw_m7 35 rfl) rfl
theorem q1586 : (Jvm.Cond.methodLink "ColourOffice" (144 : Nat) ({ cls := "ColourOffice$Shelf", name := "count", desc := "()I" } : Jvm.MethodName)) ∈ lw_all := lw_g (lw_at lw_m7 36 rfl) rfl
theorem q1588 : (Jvm.Cond.instanceMethod ({ cls := "ColourOffice", name := "reportCount", desc := "()I" } : Jvm.MethodName)) ∈ lw_all := lw_g (lw_at lw_m7 38 rfl) rfl
theorem q1589 : (Jvm.Cond.selects "ColourOffice" ({ cls := "ColourOffice", name := "reportCount", desc := "()I" } : Jvm.MethodName) ({ cls := "ColourOffice", name := "reportCount", desc := "()I" } : Jvm.MethodName)) ∈ lw_all := lw_g (lw_at lw_m7 39 rfl) rfl
theorem q1590 : (Jvm.Cond.code ({ cls := "ColourOffice", name := "reportCount", desc := "()I" } : Jvm.MethodName) prog_1_method_34_code (1 : Nat) (Option.some Jvm.ClassFile.FieldType.int)) ∈ lw_all := lw_g (lw_at lw_m7 40 rfl) rfl
theorem q1591 : (Jvm.Cond.interfaceEntry "ColourOffice" (197 : Nat)) ∈ lw_tbl := lw_at lw_m7 41 rfl
theorem q1592 : (Jvm.Cond.methodLink "ColourOffice" (197 : Nat) ({ cls := "java/util/List", name := "size", desc := "()I" } : Jvm.MethodName)) ∈ lw_all := lw_g (lw_at lw_m7 42 rfl) rfl
theorem q1594 : (Jvm.Cond.instanceMethod ({ cls := "ColourOffice", name := "bestReward", desc := "()I" } : Jvm.MethodName)) ∈ lw_all := lw_g (lw_at lw_m7 44 rfl) rfl
theorem q1595 : (Jvm.Cond.selects "ColourOffice" ({ cls := "ColourOffice", name := "bestReward", desc := "()I" } : Jvm.MethodName) ({ cls := "ColourOffice", name := "bestReward", desc := "()I" } : Jvm.MethodName)) ∈ lw_all := lw_g (lw_at lw_m7 45 rfl) rfl
theorem q1596 : (Jvm.Cond.code ({ cls := "ColourOffice", name := "bestReward", desc := "()I" } : Jvm.MethodName) prog_1_method_47_code (1 : Nat) (Option.some Jvm.ClassFile.FieldType.int)) ∈ lw_all := lw_g (lw_at lw_m7 46 rfl) rfl
theorem q1597 : (Jvm.Cond.methodLink "ColourOffice" (278 : Nat) ({ cls := "ColourOffice$Office", name := "settlement", desc := "()LColourOffice$Settlement;" } : Jvm.MethodName)) ∈ lw_all := lw_g (lw_at lw_m7 47 rfl) rfl
theorem q1598 : (Jvm.Cond.methodLink "ColourOffice" (282 : Nat) ({ cls := "ColourOffice$Settlement", name := "best", desc := "()J" } : Jvm.MethodName)) ∈ lw_all := lw_g (lw_at lw_m7 48 rfl) rfl
theorem q1599 : (Jvm.Cond.methodLink "ColourOffice" (288 : Nat) ({ cls := "ColourOffice$Settlement", name := "rewardOf", desc := "(J)I" } : Jvm.MethodName)) ∈ lw_all := lw_g (lw_at lw_m7 49 rfl) rfl
theorem q1603 : (Jvm.Cond.instanceMethod ({ cls := "ColourOffice", name := "bestRewardByTrying", desc := "()I" } : Jvm.MethodName)) ∈ lw_all := lw_g (lw_at lw_m7 53 rfl) rfl
theorem q1604 : (Jvm.Cond.selects "ColourOffice" ({ cls := "ColourOffice", name := "bestRewardByTrying", desc := "()I" } : Jvm.MethodName) ({ cls := "ColourOffice", name := "bestRewardByTrying", desc := "()I" } : Jvm.MethodName)) ∈ lw_all := lw_g (lw_at lw_m7 54 rfl) rfl
theorem q1605 : (Jvm.Cond.code ({ cls := "ColourOffice", name := "bestRewardByTrying", desc := "()I" } : Jvm.MethodName) prog_1_method_48_code (1 : Nat) (Option.some Jvm.ClassFile.FieldType.int)) ∈ lw_all := lw_g (lw_at lw_m7 55 rfl) rfl
theorem q1606 : (Jvm.Cond.methodLink "ColourOffice" (292 : Nat) ({ cls := "ColourOffice$Settlement", name := "bestByTrying", desc := "(II)J" } : Jvm.MethodName)) ∈ lw_all := lw_g (lw_at lw_m7 56 rfl) rfl
theorem q1612 : (Jvm.Cond.instanceMethod ({ cls := "ColourOffice", name := "bestDifference", desc := "()I" } : Jvm.MethodName)) ∈ lw_all := lw_g (lw_at lw_m7 62 rfl) rfl
theorem q1613 : (Jvm.Cond.selects "ColourOffice" ({ cls := "ColourOffice", name := "bestDifference", desc := "()I" } : Jvm.MethodName) ({ cls := "ColourOffice", name := "bestDifference", desc := "()I" } : Jvm.MethodName)) ∈ lw_all := lw_g (lw_at lw_m7 63 rfl) rfl
theorem q1614 : (Jvm.Cond.code ({ cls := "ColourOffice", name := "bestDifference", desc := "()I" } : Jvm.MethodName) prog_1_method_49_code (1 : Nat) (Option.some Jvm.ClassFile.FieldType.int)) ∈ lw_all := lw_g (lw_at lw_m7 64 rfl) rfl
theorem q1615 : (Jvm.Cond.methodLink "ColourOffice" (296 : Nat) ({ cls := "ColourOffice$Settlement", name := "differenceOf", desc := "(J)I" } : Jvm.MethodName)) ∈ lw_all := lw_g (lw_at lw_m7 65 rfl) rfl
theorem q1620 : (Jvm.Cond.instanceMethod ({ cls := "ColourOffice", name := "day", desc := "()I" } : Jvm.MethodName)) ∈ lw_all := lw_g (lw_at lw_m7 70 rfl) rfl
theorem q1621 : (Jvm.Cond.selects "ColourOffice" ({ cls := "ColourOffice", name := "day", desc := "()I" } : Jvm.MethodName) ({ cls := "ColourOffice", name := "day", desc := "()I" } : Jvm.MethodName)) ∈ lw_all := lw_g (lw_at lw_m7 71 rfl) rfl
theorem q1622 : (Jvm.Cond.code ({ cls := "ColourOffice", name := "day", desc := "()I" } : Jvm.MethodName) prog_1_method_55_code (1 : Nat) (Option.some Jvm.ClassFile.FieldType.int)) ∈ lw_all := lw_g (lw_at lw_m7 72 rfl) rfl
theorem q1624 : (Jvm.Cond.instanceMethod ({ cls := "ColourOffice", name := "metric", desc := "()C" } : Jvm.MethodName)) ∈ lw_all := lw_g (lw_at lw_m7 74 rfl) rfl
theorem q1625 : (Jvm.Cond.selects "ColourOffice" ({ cls := "ColourOffice", name := "metric", desc := "()C" } : Jvm.MethodName) ({ cls := "ColourOffice", name := "metric", desc := "()C" } : Jvm.MethodName)) ∈ lw_all := lw_g (lw_at lw_m7 75 rfl) rfl
theorem q1626 : (Jvm.Cond.code ({ cls := "ColourOffice", name := "metric", desc := "()C" } : Jvm.MethodName) prog_1_method_56_code (1 : Nat) (Option.some Jvm.ClassFile.FieldType.char)) ∈ lw_all := lw_g (lw_at lw_m7 76 rfl) rfl
theorem q1628 : (Jvm.Cond.instanceMethod ({ cls := "ColourOffice", name := "coins", desc := "()I" } : Jvm.MethodName)) ∈ lw_all := lw_g (lw_at lw_m7 78 rfl) rfl
theorem q1629 : (Jvm.Cond.selects "ColourOffice" ({ cls := "ColourOffice", name := "coins", desc := "()I" } : Jvm.MethodName) ({ cls := "ColourOffice", name := "coins", desc := "()I" } : Jvm.MethodName)) ∈ lw_all := lw_g (lw_at lw_m7 79 rfl) rfl
theorem q1630 : (Jvm.Cond.code ({ cls := "ColourOffice", name := "coins", desc := "()I" } : Jvm.MethodName) prog_1_method_57_code (1 : Nat) (Option.some Jvm.ClassFile.FieldType.int)) ∈ lw_all := lw_g (lw_at lw_m7 80 rfl) rfl
theorem q1632 : (Jvm.Cond.instanceMethod ({ cls := "ColourOffice", name := "coinsByAccounts", desc := "()I" } : Jvm.MethodName)) ∈ lw_all := lw_g (lw_at lw_m7 82 rfl) rfl
theorem q1633 : (Jvm.Cond.selects "ColourOffice" ({ cls := "ColourOffice", name := "coinsByAccounts", desc := "()I" } : Jvm.MethodName) ({ cls := "ColourOffice", name := "coinsByAccounts", desc := "()I" } : Jvm.MethodName)) ∈ lw_all := lw_g (lw_at lw_m7 83 rfl) rfl
theorem q1634 : (Jvm.Cond.code ({ cls := "ColourOffice", name := "coinsByAccounts", desc := "()I" } : Jvm.MethodName) prog_1_method_58_code (1 : Nat) (Option.some Jvm.ClassFile.FieldType.int)) ∈ lw_all := lw_g (lw_at lw_m7 84 rfl) rfl
theorem q1635 : (Jvm.Cond.methodLink "ColourOffice" (331 : Nat) ({ cls := "ColourOffice$Office", name := "coinsByAccounts", desc := "()I" } : Jvm.MethodName)) ∈ lw_all := lw_g (lw_at lw_m7 85 rfl) rfl
theorem q1640 : (Jvm.Cond.instanceMethod ({ cls := "ColourOffice", name := "returnedTotal", desc := "()I" } : Jvm.MethodName)) ∈ lw_all := lw_g (lw_at lw_m7 90 rfl) rfl
theorem q1641 : (Jvm.Cond.selects "ColourOffice" ({ cls := "ColourOffice", name := "returnedTotal", desc := "()I" } : Jvm.MethodName) ({ cls := "ColourOffice", name := "returnedTotal", desc := "()I" } : Jvm.MethodName)) ∈ lw_all := lw_g (lw_at lw_m7 91 rfl) rfl
theorem q1642 : (Jvm.Cond.code ({ cls := "ColourOffice", name := "returnedTotal", desc := "()I" } : Jvm.MethodName) prog_1_method_59_code (1 : Nat) (Option.some Jvm.ClassFile.FieldType.int)) ∈ lw_all := lw_g (lw_at lw_m7 92 rfl) rfl
theorem q1644 : (Jvm.Cond.instanceMethod ({ cls := "ColourOffice", name := "isConsistent", desc := "()Z" } : Jvm.MethodName)) ∈ lw_all := lw_g (lw_at lw_m7 94 rfl) rfl
theorem q1645 : (Jvm.Cond.selects "ColourOffice" ({ cls := "ColourOffice", name := "isConsistent", desc := "()Z" } : Jvm.MethodName) ({ cls := "ColourOffice", name := "isConsistent", desc := "()Z" } : Jvm.MethodName)) ∈ lw_all := lw_g (lw_at lw_m7 95 rfl) rfl
theorem q1646 : (Jvm.Cond.code ({ cls := "ColourOffice", name := "isConsistent", desc := "()Z" } : Jvm.MethodName) prog_1_method_63_code (1 : Nat) (Option.some Jvm.ClassFile.FieldType.boolean)) ∈ lw_all := lw_g (lw_at lw_m7 96 rfl) rfl
theorem q1647 : (Jvm.Cond.methodLink "ColourOffice" (349 : Nat) ({ cls := "ColourOffice$Office", name := "isConsistent", desc := "()Z" } : Jvm.MethodName)) ∈ lw_all := lw_g (lw_at lw_m7 97 rfl) rfl
theorem q1694 : (Jvm.Cond.laysStatic "ColourOffice" "SIZES" "[I") ∈ lw_tbl := lw_at lw_m7 144 rfl
theorem q1812 : (Jvm.Cond.instanceMethod ({ cls := "ColourOffice", name := "save", desc := "()I" } : Jvm.MethodName)) ∈ lw_all := lw_g (lw_at lw_m8 22 rfl) rfl
theorem q1813 : (Jvm.Cond.selects "ColourOffice" ({ cls := "ColourOffice", name := "save", desc := "()I" } : Jvm.MethodName) ({ cls := "ColourOffice", name := "save", desc := "()I" } : Jvm.MethodName)) ∈ lw_all := lw_g (lw_at lw_m8 23 rfl) rfl
theorem q1814 : (Jvm.Cond.code ({ cls := "ColourOffice", name := "save", desc := "()I" } : Jvm.MethodName) prog_1_method_76_code (1 : Nat) (Option.some Jvm.ClassFile.FieldType.int)) ∈ lw_all := lw_g (lw_at lw_m8 24 rfl) rfl
theorem q1815 : (Jvm.Cond.methodLink "ColourOffice" (150 : Nat) ({ cls := "ColourOffice", name := "colourCount", desc := "()I" } : Jvm.MethodName)) ∈ lw_all := lw_g (lw_at lw_m8 25 rfl) rfl
theorem q1822 : (Jvm.Cond.instanceMethod ({ cls := "ColourOffice", name := "addColour", desc := "(IIII)I" } : Jvm.MethodName)) ∈ lw_all := lw_g (lw_at lw_m8 32 rfl) rfl
theorem q1823 : (Jvm.Cond.selects "ColourOffice" ({ cls := "ColourOffice", name := "addColour", desc := "(IIII)I" } : Jvm.MethodName) ({ cls := "ColourOffice", name := "addColour", desc := "(IIII)I" } : Jvm.MethodName)) ∈ lw_all := lw_g (lw_at lw_m8 33 rfl) rfl
theorem q1824 : (Jvm.Cond.code ({ cls := "ColourOffice", name := "addColour", desc := "(IIII)I" } : Jvm.MethodName) prog_1_method_9_code (5 : Nat) (Option.some Jvm.ClassFile.FieldType.int)) ∈ lw_all := lw_g (lw_at lw_m8 34 rfl) rfl
theorem q1825 : (Jvm.Cond.stringRef "ColourOffice" (94 : Nat) "find") ∈ lw_tbl := lw_at lw_m8 35 rfl
theorem q1830 : (Jvm.Cond.instanceMethod ({ cls := "ColourOffice", name := "report", desc := "(IIIII)I" } : Jvm.MethodName)) ∈ lw_all := lw_g (lw_at lw_m8 40 rfl) rfl
theorem q1831 : (Jvm.Cond.selects "ColourOffice" ({ cls := "ColourOffice", name := "report", desc := "(IIIII)I" } : Jvm.MethodName) ({ cls := "ColourOffice", name := "report", desc := "(IIIII)I" } : Jvm.MethodName)) ∈ lw_all := lw_g (lw_at lw_m8 41 rfl) rfl
theorem q1832 : (Jvm.Cond.code ({ cls := "ColourOffice", name := "report", desc := "(IIIII)I" } : Jvm.MethodName) prog_1_method_10_code (6 : Nat) (Option.some Jvm.ClassFile.FieldType.int)) ∈ lw_all := lw_g (lw_at lw_m8 42 rfl) rfl
theorem q1833 : (Jvm.Cond.stringRef "ColourOffice" (100 : Nat) "report") ∈ lw_tbl := lw_at lw_m8 43 rfl
theorem q1839 : (Jvm.Cond.instanceMethod ({ cls := "ColourOffice", name := "withdraw", desc := "(I)I" } : Jvm.MethodName)) ∈ lw_all := lw_g (lw_at lw_m8 49 rfl) rfl
theorem q1840 : (Jvm.Cond.selects "ColourOffice" ({ cls := "ColourOffice", name := "withdraw", desc := "(I)I" } : Jvm.MethodName) ({ cls := "ColourOffice", name := "withdraw", desc := "(I)I" } : Jvm.MethodName)) ∈ lw_all := lw_g (lw_at lw_m8 50 rfl) rfl
theorem q1841 : (Jvm.Cond.code ({ cls := "ColourOffice", name := "withdraw", desc := "(I)I" } : Jvm.MethodName) prog_1_method_11_code (2 : Nat) (Option.some Jvm.ClassFile.FieldType.int)) ∈ lw_all := lw_g (lw_at lw_m8 51 rfl) rfl
theorem q1842 : (Jvm.Cond.stringRef "ColourOffice" (102 : Nat) "drop") ∈ lw_tbl := lw_at lw_m8 52 rfl
theorem q1847 : (Jvm.Cond.instanceMethod ({ cls := "ColourOffice", name := "discard", desc := "(I)I" } : Jvm.MethodName)) ∈ lw_all := lw_g (lw_at lw_m8 57 rfl) rfl
theorem q1848 : (Jvm.Cond.selects "ColourOffice" ({ cls := "ColourOffice", name := "discard", desc := "(I)I" } : Jvm.MethodName) ({ cls := "ColourOffice", name := "discard", desc := "(I)I" } : Jvm.MethodName)) ∈ lw_all := lw_g (lw_at lw_m8 58 rfl) rfl
theorem q1849 : (Jvm.Cond.code ({ cls := "ColourOffice", name := "discard", desc := "(I)I" } : Jvm.MethodName) prog_1_method_12_code (2 : Nat) (Option.some Jvm.ClassFile.FieldType.int)) ∈ lw_all := lw_g (lw_at lw_m8 59 rfl) rfl
theorem q1850 : (Jvm.Cond.stringRef "ColourOffice" (104 : Nat) "discard") ∈ lw_tbl := lw_at lw_m8 60 rfl
theorem q1855 : (Jvm.Cond.instanceMethod ({ cls := "ColourOffice", name := "setMetric", desc := "(C)C" } : Jvm.MethodName)) ∈ lw_all := lw_g (lw_at lw_m8 65 rfl) rfl
theorem q1856 : (Jvm.Cond.selects "ColourOffice" ({ cls := "ColourOffice", name := "setMetric", desc := "(C)C" } : Jvm.MethodName) ({ cls := "ColourOffice", name := "setMetric", desc := "(C)C" } : Jvm.MethodName)) ∈ lw_all := lw_g (lw_at lw_m8 66 rfl) rfl
theorem q1857 : (Jvm.Cond.code ({ cls := "ColourOffice", name := "setMetric", desc := "(C)C" } : Jvm.MethodName) prog_1_method_13_code (2 : Nat) (Option.some Jvm.ClassFile.FieldType.char)) ∈ lw_all := lw_g (lw_at lw_m8 67 rfl) rfl
theorem q1858 : (Jvm.Cond.stringRef "ColourOffice" (106 : Nat) "metric") ∈ lw_tbl := lw_at lw_m8 68 rfl
theorem q1864 : (Jvm.Cond.instanceMethod ({ cls := "ColourOffice", name := "giveBack", desc := "(II)I" } : Jvm.MethodName)) ∈ lw_all := lw_g (lw_at lw_m8 74 rfl) rfl
theorem q1865 : (Jvm.Cond.selects "ColourOffice" ({ cls := "ColourOffice", name := "giveBack", desc := "(II)I" } : Jvm.MethodName) ({ cls := "ColourOffice", name := "giveBack", desc := "(II)I" } : Jvm.MethodName)) ∈ lw_all := lw_g (lw_at lw_m8 75 rfl) rfl
theorem q1866 : (Jvm.Cond.code ({ cls := "ColourOffice", name := "giveBack", desc := "(II)I" } : Jvm.MethodName) prog_1_method_14_code (3 : Nat) (Option.some Jvm.ClassFile.FieldType.int)) ∈ lw_all := lw_g (lw_at lw_m8 76 rfl) rfl
theorem q1867 : (Jvm.Cond.stringRef "ColourOffice" (108 : Nat) "return") ∈ lw_tbl := lw_at lw_m8 77 rfl
theorem q1872 : (Jvm.Cond.instanceMethod ({ cls := "ColourOffice", name := "mix", desc := "(II)I" } : Jvm.MethodName)) ∈ lw_all := lw_g (lw_at lw_m8 82 rfl) rfl
theorem q1873 : (Jvm.Cond.selects "ColourOffice" ({ cls := "ColourOffice", name := "mix", desc := "(II)I" } : Jvm.MethodName) ({ cls := "ColourOffice", name := "mix", desc := "(II)I" } : Jvm.MethodName)) ∈ lw_all := lw_g (lw_at lw_m8 83 rfl) rfl
theorem q1874 : (Jvm.Cond.code ({ cls := "ColourOffice", name := "mix", desc := "(II)I" } : Jvm.MethodName) prog_1_method_16_code (3 : Nat) (Option.some Jvm.ClassFile.FieldType.int)) ∈ lw_all := lw_g (lw_at lw_m8 84 rfl) rfl
theorem q1875 : (Jvm.Cond.stringRef "ColourOffice" (112 : Nat) "mix") ∈ lw_tbl := lw_at lw_m8 85 rfl
theorem q1880 : (Jvm.Cond.instanceMethod ({ cls := "ColourOffice", name := "passDays", desc := "(I)I" } : Jvm.MethodName)) ∈ lw_all := lw_g (lw_at lw_m8 90 rfl) rfl
theorem q1881 : (Jvm.Cond.selects "ColourOffice" ({ cls := "ColourOffice", name := "passDays", desc := "(I)I" } : Jvm.MethodName) ({ cls := "ColourOffice", name := "passDays", desc := "(I)I" } : Jvm.MethodName)) ∈ lw_all := lw_g (lw_at lw_m8 91 rfl) rfl
theorem q1882 : (Jvm.Cond.code ({ cls := "ColourOffice", name := "passDays", desc := "(I)I" } : Jvm.MethodName) prog_1_method_17_code (2 : Nat) (Option.some Jvm.ClassFile.FieldType.int)) ∈ lw_all := lw_g (lw_at lw_m8 92 rfl) rfl
theorem q1883 : (Jvm.Cond.stringRef "ColourOffice" (114 : Nat) "day") ∈ lw_tbl := lw_at lw_m8 93 rfl
theorem q1888 : (Jvm.Cond.instanceMethod ({ cls := "ColourOffice", name := "colourAt", desc := "(I)I" } : Jvm.MethodName)) ∈ lw_all := lw_g (lw_at lw_m8 98 rfl) rfl
theorem q1889 : (Jvm.Cond.selects "ColourOffice" ({ cls := "ColourOffice", name := "colourAt", desc := "(I)I" } : Jvm.MethodName) ({ cls := "ColourOffice", name := "colourAt", desc := "(I)I" } : Jvm.MethodName)) ∈ lw_all := lw_g (lw_at lw_m8 99 rfl) rfl
theorem q1890 : (Jvm.Cond.code ({ cls := "ColourOffice", name := "colourAt", desc := "(I)I" } : Jvm.MethodName) prog_1_method_25_code (2 : Nat) (Option.some Jvm.ClassFile.FieldType.int)) ∈ lw_all := lw_g (lw_at lw_m8 100 rfl) rfl
theorem q1891 : (Jvm.Cond.methodLink "ColourOffice" (128 : Nat) ({ cls := "ColourOffice", name := "checkElement", desc := "(Z)V" } : Jvm.MethodName)) ∈ lw_all := lw_g (lw_at lw_m8 101 rfl) rfl
theorem q1892 : (Jvm.Cond.static ({ cls := "ColourOffice", name := "checkElement", desc := "(Z)V" } : Jvm.MethodName)) ∈ lw_all := lw_g (lw_at lw_m8 102 rfl) rfl
theorem q1893 : (Jvm.Cond.code ({ cls := "ColourOffice", name := "checkElement", desc := "(Z)V" } : Jvm.MethodName) prog_1_method_20_code (1 : Nat) (Option.none : Option Jvm.ClassFile.FieldType)) ∈ lw_all := lw_g (lw_at lw_m8 103 rfl) rfl
theorem q1894 : (Jvm.Cond.classLink "ColourOffice" (122 : Nat) "java/util/NoSuchElementException") ∈ lw_all := lw_g (lw_at lw_m8 104 rfl) rfl
theorem q1895 : (Jvm.Cond.methodLink "ColourOffice" (124 : Nat) ({ cls := "java/util/NoSuchElementException", name := "<init>", desc := "()V" } : Jvm.MethodName)) ∈ lw_all := lw_g (lw_at lw_m8 105 rfl) rfl
theorem q1896 : (Jvm.Cond.methodLink "ColourOffice" (153 : Nat) ({ cls := "ColourOffice$Shelf", name := "at", desc := "(I)LColourOffice$Found;" } : Jvm.MethodName)) ∈ lw_all := lw_g (lw_at lw_m8 106 rfl) rfl
theorem q1901 : (Jvm.Cond.instanceMethod ({ cls := "ColourOffice", name := "red", desc := "(I)I" } : Jvm.MethodName)) ∈ lw_all := lw_g (lw_at lw_m8 111 rfl) rfl
theorem q1902 : (Jvm.Cond.selects "ColourOffice" ({ cls := "ColourOffice", name := "red", desc := "(I)I" } : Jvm.MethodName) ({ cls := "ColourOffice", name := "red", desc := "(I)I" } : Jvm.MethodName)) ∈ lw_all := lw_g (lw_at lw_m8 112 rfl) rfl
theorem q1903 : (Jvm.Cond.code ({ cls := "ColourOffice", name := "red", desc := "(I)I" } : Jvm.MethodName) prog_1_method_26_code (2 : Nat) (Option.some Jvm.ClassFile.FieldType.int)) ∈ lw_all := lw_g (lw_at lw_m8 113 rfl) rfl
theorem q1904 : (Jvm.Cond.methodLink "ColourOffice" (161 : Nat) ({ cls := "ColourOffice", name := "colourWith", desc := "(I)LColourOffice$Found;" } : Jvm.MethodName)) ∈ lw_all := lw_g (lw_at lw_m8 114 rfl) rfl
theorem q1905 : (Jvm.Cond.privateMethod ({ cls := "ColourOffice", name := "colourWith", desc := "(I)LColourOffice$Found;" } : Jvm.MethodName)) ∈ lw_tbl := lw_at lw_m8 115 rfl
theorem q1906 : (Jvm.Cond.instanceMethod ({ cls := "ColourOffice", name := "colourWith", desc := "(I)LColourOffice$Found;" } : Jvm.MethodName)) ∈ lw_all := lw_g (lw_at lw_m8 116 rfl) rfl
theorem q1907 : (Jvm.Cond.code ({ cls := "ColourOffice", name := "colourWith", desc := "(I)LColourOffice$Found;" } : Jvm.MethodName) prog_1_method_23_code (2 : Nat) (Option.some (Jvm.ClassFile.FieldType.object "ColourOffice$Found"))) ∈ lw_all := lw_g (lw_at lw_m8 117 rfl) rfl
theorem q1908 : (Jvm.Cond.methodLink "ColourOffice" (132 : Nat) ({ cls := "ColourOffice$Office", name := "hasColour", desc := "(I)Z" } : Jvm.MethodName)) ∈ lw_all := lw_g (lw_at lw_m8 118 rfl) rfl
theorem q1909 : (Jvm.Cond.methodLink "ColourOffice" (136 : Nat) ({ cls := "ColourOffice$Office", name := "colour", desc := "(I)LColourOffice$Found;" } : Jvm.MethodName)) ∈ lw_all := lw_g (lw_at lw_m8 119 rfl) rfl
theorem q1910 : (Jvm.Cond.methodLink "ColourOffice" (168 : Nat) ({ cls := "ColourOffice$Tint", name := "part", desc := "(I)I" } : Jvm.MethodName)) ∈ lw_all := lw_g (lw_at lw_m8 120 rfl) rfl
theorem q1915 : (Jvm.Cond.instanceMethod ({ cls := "ColourOffice", name := "green", desc := "(I)I" } : Jvm.MethodName)) ∈ lw_all := lw_g (lw_at lw_m8 125 rfl) rfl
theorem q1916 : (Jvm.Cond.selects "ColourOffice" ({ cls := "ColourOffice", name := "green", desc := "(I)I" } : Jvm.MethodName) ({ cls := "ColourOffice", name := "green", desc := "(I)I" } : Jvm.MethodName)) ∈ lw_all := lw_g (lw_at lw_m8 126 rfl) rfl
theorem q1917 : (Jvm.Cond.code ({ cls := "ColourOffice", name := "green", desc := "(I)I" } : Jvm.MethodName) prog_1_method_27_code (2 : Nat) (Option.some Jvm.ClassFile.FieldType.int)) ∈ lw_all := lw_g (lw_at lw_m8 127 rfl) rfl
theorem q1922 : (Jvm.Cond.instanceMethod ({ cls := "ColourOffice", name := "blue", desc := "(I)I" } : Jvm.MethodName)) ∈ lw_all := lw_g (lw_at lw_m8 132 rfl) rfl
theorem q1923 : (Jvm.Cond.selects "ColourOffice" ({ cls := "ColourOffice", name := "blue", desc := "(I)I" } : Jvm.MethodName) ({ cls := "ColourOffice", name := "blue", desc := "(I)I" } : Jvm.MethodName)) ∈ lw_all := lw_g (lw_at lw_m8 133 rfl) rfl
theorem q1924 : (Jvm.Cond.code ({ cls := "ColourOffice", name := "blue", desc := "(I)I" } : Jvm.MethodName) prog_1_method_28_code (2 : Nat) (Option.some Jvm.ClassFile.FieldType.int)) ∈ lw_all := lw_g (lw_at lw_m8 134 rfl) rfl
theorem q1929 : (Jvm.Cond.instanceMethod ({ cls := "ColourOffice", name := "fastness", desc := "(I)I" } : Jvm.MethodName)) ∈ lw_all := lw_g (lw_at lw_m8 139 rfl) rfl
theorem q1930 : (Jvm.Cond.selects "ColourOffice" ({ cls := "ColourOffice", name := "fastness", desc := "(I)I" } : Jvm.MethodName) ({ cls := "ColourOffice", name := "fastness", desc := "(I)I" } : Jvm.MethodName)) ∈ lw_all := lw_g (lw_at lw_m8 140 rfl) rfl
theorem q1931 : (Jvm.Cond.code ({ cls := "ColourOffice", name := "fastness", desc := "(I)I" } : Jvm.MethodName) prog_1_method_29_code (2 : Nat) (Option.some Jvm.ClassFile.FieldType.int)) ∈ lw_all := lw_g (lw_at lw_m8 141 rfl) rfl
theorem q1936 : (Jvm.Cond.instanceMethod ({ cls := "ColourOffice", name := "age", desc := "(I)I" } : Jvm.MethodName)) ∈ lw_all := lw_g (lw_at lw_m8 146 rfl) rfl
theorem q1937 : (Jvm.Cond.selects "ColourOffice" ({ cls := "ColourOffice", name := "age", desc := "(I)I" } : Jvm.MethodName) ({ cls := "ColourOffice", name := "age", desc := "(I)I" } : Jvm.MethodName)) ∈ lw_all := lw_g (lw_at lw_m8 147 rfl) rfl
theorem q1938 : (Jvm.Cond.code ({ cls := "ColourOffice", name := "age", desc := "(I)I" } : Jvm.MethodName) prog_1_method_30_code (2 : Nat) (Option.some Jvm.ClassFile.FieldType.int)) ∈ lw_all := lw_g (lw_at lw_m8 148 rfl) rfl
theorem q1943 : (Jvm.Cond.instanceMethod ({ cls := "ColourOffice", name := "daysUntilGrey", desc := "(I)I" } : Jvm.MethodName)) ∈ lw_all := lw_g (lw_at lw_m8 153 rfl) rfl
theorem q1944 : (Jvm.Cond.selects "ColourOffice" ({ cls := "ColourOffice", name := "daysUntilGrey", desc := "(I)I" } : Jvm.MethodName) ({ cls := "ColourOffice", name := "daysUntilGrey", desc := "(I)I" } : Jvm.MethodName)) ∈ lw_all := lw_g (lw_at lw_m8 154 rfl) rfl
theorem q1945 : (Jvm.Cond.code ({ cls := "ColourOffice", name := "daysUntilGrey", desc := "(I)I" } : Jvm.MethodName) prog_1_method_31_code (2 : Nat) (Option.some Jvm.ClassFile.FieldType.int)) ∈ lw_all := lw_g (lw_at lw_m8 155 rfl) rfl
theorem q1946 : (Jvm.Cond.methodLink "ColourOffice" (178 : Nat) ({ cls := "ColourOffice$Found", name := "daysUntilGrey", desc := "()I" } : Jvm.MethodName)) ∈ lw_all := lw_g (lw_at lw_m8 156 rfl) rfl
theorem q1959 : (Jvm.Cond.instanceMethod ({ cls := "ColourOffice", name := "colourByBrightness", desc := "(I)I" } : Jvm.MethodName)) ∈ lw_all := lw_g (lw_at lw_m8 169 rfl) rfl
theorem q1960 : (Jvm.Cond.selects "ColourOffice" ({ cls := "ColourOffice", name := "colourByBrightness", desc := "(I)I" } : Jvm.MethodName) ({ cls := "ColourOffice", name := "colourByBrightness", desc := "(I)I" } : Jvm.MethodName)) ∈ lw_all := lw_g (lw_at lw_m8 170 rfl) rfl
theorem q1961 : (Jvm.Cond.code ({ cls := "ColourOffice", name := "colourByBrightness", desc := "(I)I" } : Jvm.MethodName) prog_1_method_32_code (2 : Nat) (Option.some Jvm.ClassFile.FieldType.int)) ∈ lw_all := lw_g (lw_at lw_m8 171 rfl) rfl
theorem q1962 : (Jvm.Cond.methodLink "ColourOffice" (181 : Nat) ({ cls := "ColourOffice$Office", name := "colourAt", desc := "(I)I" } : Jvm.MethodName)) ∈ lw_all := lw_g (lw_at lw_m8 172 rfl) rfl
theorem q1970 : (Jvm.Cond.methodLink "ColourOffice" (184 : Nat) ({ cls := "ColourOffice", name := "found", desc := "(I)I" } : Jvm.MethodName)) ∈ lw_all := lw_g (lw_at lw_m8 180 rfl) rfl
theorem q1971 : (Jvm.Cond.static ({ cls := "ColourOffice", name := "found", desc := "(I)I" } : Jvm.MethodName)) ∈ lw_all := lw_g (lw_at lw_m8 181 rfl) rfl
theorem q1972 : (Jvm.Cond.code ({ cls := "ColourOffice", name := "found", desc := "(I)I" } : Jvm.MethodName) prog_1_method_22_code (1 : Nat) (Option.some Jvm.ClassFile.FieldType.int)) ∈ lw_all := lw_g (lw_at lw_m8 182 rfl) rfl
theorem q1977 : (Jvm.Cond.instanceMethod ({ cls := "ColourOffice", name := "reportAt", desc := "(I)I" } : Jvm.MethodName)) ∈ lw_all := lw_g (lw_at lw_m8 187 rfl) rfl
theorem q1978 : (Jvm.Cond.selects "ColourOffice" ({ cls := "ColourOffice", name := "reportAt", desc := "(I)I" } : Jvm.MethodName) ({ cls := "ColourOffice", name := "reportAt", desc := "(I)I" } : Jvm.MethodName)) ∈ lw_all := lw_g (lw_at lw_m8 188 rfl) rfl
theorem q1979 : (Jvm.Cond.code ({ cls := "ColourOffice", name := "reportAt", desc := "(I)I" } : Jvm.MethodName) prog_1_method_35_code (2 : Nat) (Option.some Jvm.ClassFile.FieldType.int)) ∈ lw_all := lw_g (lw_at lw_m8 189 rfl) rfl
theorem q1980 : (Jvm.Cond.methodLink "ColourOffice" (202 : Nat) ({ cls := "ColourOffice", name := "reportCount", desc := "()I" } : Jvm.MethodName)) ∈ lw_all := lw_g (lw_at lw_m8 190 rfl) rfl
theorem q1981 : (Jvm.Cond.interfaceEntry "ColourOffice" (205 : Nat)) ∈ lw_tbl := lw_at lw_m8 191 rfl
theorem q1982 : (Jvm.Cond.methodLink "ColourOffice" (205 : Nat) ({ cls := "java/util/List", name := "get", desc := "(I)Ljava/lang/Object;" } : Jvm.MethodName)) ∈ lw_all := lw_g (lw_at lw_m8 192 rfl) rfl
theorem q1983 : (Jvm.Cond.classLink "ColourOffice" (209 : Nat) "ColourOffice$Report") ∈ lw_all := lw_g (lw_at lw_m8 193 rfl) rfl
theorem q1988 : (Jvm.Cond.instanceMethod ({ cls := "ColourOffice", name := "toleranceOf", desc := "(I)I" } : Jvm.MethodName)) ∈ lw_all := lw_g (lw_at lw_m8 198 rfl) rfl
theorem q1989 : (Jvm.Cond.selects "ColourOffice" ({ cls := "ColourOffice", name := "toleranceOf", desc := "(I)I" } : Jvm.MethodName) ({ cls := "ColourOffice", name := "toleranceOf", desc := "(I)I" } : Jvm.MethodName)) ∈ lw_all := lw_g (lw_at lw_m8 199 rfl) rfl
theorem q1990 : (Jvm.Cond.code ({ cls := "ColourOffice", name := "toleranceOf", desc := "(I)I" } : Jvm.MethodName) prog_1_method_36_code (2 : Nat) (Option.some Jvm.ClassFile.FieldType.int)) ∈ lw_all := lw_g (lw_at lw_m8 200 rfl) rfl
theorem q1991 : (Jvm.Cond.methodLink "ColourOffice" (212 : Nat) ({ cls := "ColourOffice", name := "reportWith", desc := "(I)LColourOffice$Report;" } : Jvm.MethodName)) ∈ lw_all := lw_g (lw_at lw_m8 201 rfl) rfl
theorem q1992 : (Jvm.Cond.privateMethod ({ cls := "ColourOffice", name := "reportWith", desc := "(I)LColourOffice$Report;" } : Jvm.MethodName)) ∈ lw_tbl := lw_at lw_m8 202 rfl
theorem q1993 : (Jvm.Cond.instanceMethod ({ cls := "ColourOffice", name := "reportWith", desc := "(I)LColourOffice$Report;" } : Jvm.MethodName)) ∈ lw_all := lw_g (lw_at lw_m8 203 rfl) rfl
theorem q1994 : (Jvm.Cond.code ({ cls := "ColourOffice", name := "reportWith", desc := "(I)LColourOffice$Report;" } : Jvm.MethodName) prog_1_method_33_code (2 : Nat) (Option.some (Jvm.ClassFile.FieldType.object "ColourOffice$Report"))) ∈ lw_all := lw_g (lw_at lw_m8 204 rfl) rfl
theorem q1995 : (Jvm.Cond.methodLink "ColourOffice" (187 : Nat) ({ cls := "ColourOffice$Office", name := "hasReport", desc := "(I)Z" } : Jvm.MethodName)) ∈ lw_all := lw_g (lw_at lw_m8 205 rfl) rfl
theorem q1996 : (Jvm.Cond.methodLink "ColourOffice" (190 : Nat) ({ cls := "ColourOffice$Office", name := "report", desc := "(I)LColourOffice$Report;" } : Jvm.MethodName)) ∈ lw_all := lw_g (lw_at lw_m8 206 rfl) rfl
theorem q2001 : (Jvm.Cond.instanceMethod ({ cls := "ColourOffice", name := "rewardOf", desc := "(I)I" } : Jvm.MethodName)) ∈ lw_all := lw_g (lw_at lw_m8 211 rfl) rfl
theorem q2002 : (Jvm.Cond.selects "ColourOffice" ({ cls := "ColourOffice", name := "rewardOf", desc := "(I)I" } : Jvm.MethodName) ({ cls := "ColourOffice", name := "rewardOf", desc := "(I)I" } : Jvm.MethodName)) ∈ lw_all := lw_g (lw_at lw_m8 212 rfl) rfl
theorem q2003 : (Jvm.Cond.code ({ cls := "ColourOffice", name := "rewardOf", desc := "(I)I" } : Jvm.MethodName) prog_1_method_37_code (2 : Nat) (Option.some Jvm.ClassFile.FieldType.int)) ∈ lw_all := lw_g (lw_at lw_m8 213 rfl) rfl
theorem q2008 : (Jvm.Cond.instanceMethod ({ cls := "ColourOffice", name := "distanceFor", desc := "(II)I" } : Jvm.MethodName)) ∈ lw_all := lw_g (lw_at lw_m8 218 rfl) rfl
theorem q2009 : (Jvm.Cond.selects "ColourOffice" ({ cls := "ColourOffice", name := "distanceFor", desc := "(II)I" } : Jvm.MethodName) ({ cls := "ColourOffice", name := "distanceFor", desc := "(II)I" } : Jvm.MethodName)) ∈ lw_all := lw_g (lw_at lw_m8 219 rfl) rfl
theorem q2010 : (Jvm.Cond.code ({ cls := "ColourOffice", name := "distanceFor", desc := "(II)I" } : Jvm.MethodName) prog_1_method_38_code (3 : Nat) (Option.some Jvm.ClassFile.FieldType.int)) ∈ lw_all := lw_g (lw_at lw_m8 220 rfl) rfl
theorem q2011 : (Jvm.Cond.methodLink "ColourOffice" (221 : Nat) ({ cls := "ColourOffice$Office", name := "distanceFor", desc := "(II)I" } : Jvm.MethodName)) ∈ lw_all := lw_g (lw_at lw_m8 221 rfl) rfl
theorem q2016 : (Jvm.Cond.instanceMethod ({ cls := "ColourOffice", name := "fits", desc := "(II)Z" } : Jvm.MethodName)) ∈ lw_all := lw_g (lw_at lw_m8 226 rfl) rfl
theorem q2017 : (Jvm.Cond.selects "ColourOffice" ({ cls := "ColourOffice", name := "fits", desc := "(II)Z" } : Jvm.MethodName) ({ cls := "ColourOffice", name := "fits", desc := "(II)Z" } : Jvm.MethodName)) ∈ lw_all := lw_g (lw_at lw_m8 227 rfl) rfl
theorem q2018 : (Jvm.Cond.code ({ cls := "ColourOffice", name := "fits", desc := "(II)Z" } : Jvm.MethodName) prog_1_method_39_code (3 : Nat) (Option.some Jvm.ClassFile.FieldType.boolean)) ∈ lw_all := lw_g (lw_at lw_m8 228 rfl) rfl
theorem q2019 : (Jvm.Cond.methodLink "ColourOffice" (225 : Nat) ({ cls := "ColourOffice$Office", name := "fits", desc := "(II)Z" } : Jvm.MethodName)) ∈ lw_all := lw_g (lw_at lw_m8 229 rfl) rfl
theorem q2024 : (Jvm.Cond.instanceMethod ({ cls := "ColourOffice", name := "nearestFor", desc := "(I)I" } : Jvm.MethodName)) ∈ lw_all := lw_g (lw_at lw_m8 234 rfl) rfl
theorem q2025 : (Jvm.Cond.selects "ColourOffice" ({ cls := "ColourOffice", name := "nearestFor", desc := "(I)I" } : Jvm.MethodName) ({ cls := "ColourOffice", name := "nearestFor", desc := "(I)I" } : Jvm.MethodName)) ∈ lw_all := lw_g (lw_at lw_m8 235 rfl) rfl
theorem q2026 : (Jvm.Cond.code ({ cls := "ColourOffice", name := "nearestFor", desc := "(I)I" } : Jvm.MethodName) prog_1_method_41_code (2 : Nat) (Option.some Jvm.ClassFile.FieldType.int)) ∈ lw_all := lw_g (lw_at lw_m8 236 rfl) rfl
theorem q2027 : (Jvm.Cond.methodLink "ColourOffice" (238 : Nat) ({ cls := "ColourOffice$Office", name := "tree", desc := "()LColourOffice$Tree;" } : Jvm.MethodName)) ∈ lw_all := lw_g (lw_at lw_m8 237 rfl) rfl
theorem q2028 : (Jvm.Cond.methodLink "ColourOffice" (243 : Nat) ({ cls := "ColourOffice$Tree", name := "nearest", desc := "(LColourOffice$Tint;)Ljava/util/Optional;" } : Jvm.MethodName)) ∈ lw_all := lw_g (lw_at lw_m8 238 rfl) rfl
theorem q2029 : (Jvm.Cond.methodLink "ColourOffice" (249 : Nat) ({ cls := "ColourOffice", name := "idOf", desc := "(Ljava/util/Optional;)I" } : Jvm.MethodName)) ∈ lw_all := lw_g (lw_at lw_m8 239 rfl) rfl
theorem q2030 : (Jvm.Cond.static ({ cls := "ColourOffice", name := "idOf", desc := "(Ljava/util/Optional;)I" } : Jvm.MethodName)) ∈ lw_all := lw_g (lw_at lw_m9 0 rfl) rfl
theorem q2031 : (Jvm.Cond.code ({ cls := "ColourOffice", name := "idOf", desc := "(Ljava/util/Optional;)I" } : Jvm.MethodName) prog_1_method_40_code (1 : Nat) (Option.some Jvm.ClassFile.FieldType.int)) ∈ lw_all := lw_g (lw_at lw_m9 1 rfl) rfl
theorem q2032 : (Jvm.Cond.methodLink "ColourOffice" (229 : Nat) ({ cls := "java/util/Optional", name := "isPresent", desc := "()Z" } : Jvm.MethodName)) ∈ lw_all := lw_g (lw_at lw_m9 2 rfl) rfl
theorem q2033 : (Jvm.Cond.methodLink "ColourOffice" (235 : Nat) ({ cls := "java/util/Optional", name := "get", desc := "()Ljava/lang/Object;" } : Jvm.MethodName)) ∈ lw_all := lw_g (lw_at lw_m9 3 rfl) rfl
theorem q2034 : (Jvm.Cond.classLink "ColourOffice" (157 : Nat) "ColourOffice$Found") ∈ lw_all := lw_g (lw_at lw_m9 4 rfl) rfl
theorem q2039 : (Jvm.Cond.instanceMethod ({ cls := "ColourOffice", name := "distance", desc := "(II)I" } : Jvm.MethodName)) ∈ lw_all := lw_g (lw_at lw_m9 9 rfl) rfl
theorem q2040 : (Jvm.Cond.selects "ColourOffice" ({ cls := "ColourOffice", name := "distance", desc := "(II)I" } : Jvm.MethodName) ({ cls := "ColourOffice", name := "distance", desc := "(II)I" } : Jvm.MethodName)) ∈ lw_all := lw_g (lw_at lw_m9 10 rfl) rfl
theorem q2041 : (Jvm.Cond.code ({ cls := "ColourOffice", name := "distance", desc := "(II)I" } : Jvm.MethodName) prog_1_method_42_code (3 : Nat) (Option.some Jvm.ClassFile.FieldType.int)) ∈ lw_all := lw_g (lw_at lw_m9 11 rfl) rfl
theorem q2042 : (Jvm.Cond.methodLink "ColourOffice" (253 : Nat) ({ cls := "ColourOffice$Office", name := "metric", desc := "()LColourOffice$Metric;" } : Jvm.MethodName)) ∈ lw_all := lw_g (lw_at lw_m9 12 rfl) rfl
theorem q2043 : (Jvm.Cond.methodLink "ColourOffice" (255 : Nat) ({ cls := "ColourOffice", name := "distance", desc := "(LColourOffice$Metric;LColourOffice$Tint;LColourOffice$Tint;)I" } : Jvm.MethodName)) ∈ lw_all := lw_g (lw_at lw_m9 13 rfl) rfl
theorem q2048 : (Jvm.Cond.instanceMethod ({ cls := "ColourOffice", name := "nearest", desc := "(III)I" } : Jvm.MethodName)) ∈ lw_all := lw_g (lw_at lw_m9 18 rfl) rfl
theorem q2049 : (Jvm.Cond.selects "ColourOffice" ({ cls := "ColourOffice", name := "nearest", desc := "(III)I" } : Jvm.MethodName) ({ cls := "ColourOffice", name := "nearest", desc := "(III)I" } : Jvm.MethodName)) ∈ lw_all := lw_g (lw_at lw_m9 19 rfl) rfl
theorem q2050 : (Jvm.Cond.code ({ cls := "ColourOffice", name := "nearest", desc := "(III)I" } : Jvm.MethodName) prog_1_method_43_code (4 : Nat) (Option.some Jvm.ClassFile.FieldType.int)) ∈ lw_all := lw_g (lw_at lw_m9 20 rfl) rfl
theorem q2051 : (Jvm.Cond.methodLink "ColourOffice" (259 : Nat) ({ cls := "ColourOffice", name := "areParts", desc := "([I)Z" } : Jvm.MethodName)) ∈ lw_all := lw_g (lw_at lw_m9 21 rfl) rfl
theorem q2052 : (Jvm.Cond.methodLink "ColourOffice" (263 : Nat) ({ cls := "ColourOffice", name := "checkArgument", desc := "(Z)V" } : Jvm.MethodName)) ∈ lw_all := lw_g (lw_at lw_m9 22 rfl) rfl
theorem q2053 : (Jvm.Cond.static ({ cls := "ColourOffice", name := "checkArgument", desc := "(Z)V" } : Jvm.MethodName)) ∈ lw_all := lw_g (lw_at lw_m9 23 rfl) rfl
theorem q2054 : (Jvm.Cond.code ({ cls := "ColourOffice", name := "checkArgument", desc := "(Z)V" } : Jvm.MethodName) prog_1_method_19_code (1 : Nat) (Option.none : Option Jvm.ClassFile.FieldType)) ∈ lw_all := lw_g (lw_at lw_m9 24 rfl) rfl
theorem q2055 : (Jvm.Cond.classLink "ColourOffice" (119 : Nat) "java/lang/IllegalArgumentException") ∈ lw_all := lw_g (lw_at lw_m9 25 rfl) rfl
theorem q2056 : (Jvm.Cond.methodLink "ColourOffice" (121 : Nat) ({ cls := "java/lang/IllegalArgumentException", name := "<init>", desc := "()V" } : Jvm.MethodName)) ∈ lw_all := lw_g (lw_at lw_m9 26 rfl) rfl
theorem q2057 : (Jvm.Cond.classLink "ColourOffice" (20 : Nat) "ColourOffice$Tint") ∈ lw_all := lw_g (lw_at lw_m9 27 rfl) rfl
theorem q2058 : (Jvm.Cond.methodLink "ColourOffice" (266 : Nat) ({ cls := "ColourOffice$Tint", name := "<init>", desc := "([I)V" } : Jvm.MethodName)) ∈ lw_all := lw_g (lw_at lw_m9 28 rfl) rfl
theorem q2063 : (Jvm.Cond.instanceMethod ({ cls := "ColourOffice", name := "nearestByLooking", desc := "(III)I" } : Jvm.MethodName)) ∈ lw_all := lw_g (lw_at lw_m9 33 rfl) rfl
theorem q2064 : (Jvm.Cond.selects "ColourOffice" ({ cls := "ColourOffice", name := "nearestByLooking", desc := "(III)I" } : Jvm.MethodName) ({ cls := "ColourOffice", name := "nearestByLooking", desc := "(III)I" } : Jvm.MethodName)) ∈ lw_all := lw_g (lw_at lw_m9 34 rfl) rfl
theorem q2065 : (Jvm.Cond.code ({ cls := "ColourOffice", name := "nearestByLooking", desc := "(III)I" } : Jvm.MethodName) prog_1_method_44_code (4 : Nat) (Option.some Jvm.ClassFile.FieldType.int)) ∈ lw_all := lw_g (lw_at lw_m9 35 rfl) rfl
theorem q2066 : (Jvm.Cond.methodLink "ColourOffice" (269 : Nat) ({ cls := "ColourOffice$Tree", name := "nearestByLooking", desc := "(LColourOffice$Tint;)Ljava/util/Optional;" } : Jvm.MethodName)) ∈ lw_all := lw_g (lw_at lw_m9 36 rfl) rfl
theorem q2071 : (Jvm.Cond.instanceMethod ({ cls := "ColourOffice", name := "closestDistance", desc := "()I" } : Jvm.MethodName)) ∈ lw_all := lw_g (lw_at lw_m9 41 rfl) rfl
theorem q2072 : (Jvm.Cond.selects "ColourOffice" ({ cls := "ColourOffice", name := "closestDistance", desc := "()I" } : Jvm.MethodName) ({ cls := "ColourOffice", name := "closestDistance", desc := "()I" } : Jvm.MethodName)) ∈ lw_all := lw_g (lw_at lw_m9 42 rfl) rfl
theorem q2073 : (Jvm.Cond.code ({ cls := "ColourOffice", name := "closestDistance", desc := "()I" } : Jvm.MethodName) prog_1_method_45_code (1 : Nat) (Option.some Jvm.ClassFile.FieldType.int)) ∈ lw_all := lw_g (lw_at lw_m9 43 rfl) rfl
theorem q2074 : (Jvm.Cond.methodLink "ColourOffice" (272 : Nat) ({ cls := "ColourOffice$Office", name := "closestDistance", desc := "()I" } : Jvm.MethodName)) ∈ lw_all := lw_g (lw_at lw_m9 44 rfl) rfl
theorem q2079 : (Jvm.Cond.instanceMethod ({ cls := "ColourOffice", name := "closestDistanceBySorting", desc := "()I" } : Jvm.MethodName)) ∈ lw_all := lw_g (lw_at lw_m9 49 rfl) rfl
theorem q2080 : (Jvm.Cond.selects "ColourOffice" ({ cls := "ColourOffice", name := "closestDistanceBySorting", desc := "()I" } : Jvm.MethodName) ({ cls := "ColourOffice", name := "closestDistanceBySorting", desc := "()I" } : Jvm.MethodName)) ∈ lw_all := lw_g (lw_at lw_m9 50 rfl) rfl
theorem q2081 : (Jvm.Cond.code ({ cls := "ColourOffice", name := "closestDistanceBySorting", desc := "()I" } : Jvm.MethodName) prog_1_method_46_code (1 : Nat) (Option.some Jvm.ClassFile.FieldType.int)) ∈ lw_all := lw_g (lw_at lw_m9 51 rfl) rfl
theorem q2082 : (Jvm.Cond.methodLink "ColourOffice" (275 : Nat) ({ cls := "ColourOffice$Office", name := "closestDistanceBySorting", desc := "()I" } : Jvm.MethodName)) ∈ lw_all := lw_g (lw_at lw_m9 52 rfl) rfl
theorem q2087 : (Jvm.Cond.instanceMethod ({ cls := "ColourOffice", name := "settlementFor", desc := "(I)I" } : Jvm.MethodName)) ∈ lw_all := lw_g (lw_at lw_m9 57 rfl) rfl
theorem q2088 : (Jvm.Cond.selects "ColourOffice" ({ cls := "ColourOffice", name := "settlementFor", desc := "(I)I" } : Jvm.MethodName) ({ cls := "ColourOffice", name := "settlementFor", desc := "(I)I" } : Jvm.MethodName)) ∈ lw_all := lw_g (lw_at lw_m9 58 rfl) rfl
theorem q2089 : (Jvm.Cond.code ({ cls := "ColourOffice", name := "settlementFor", desc := "(I)I" } : Jvm.MethodName) prog_1_method_50_code (3 : Nat) (Option.some Jvm.ClassFile.FieldType.int)) ∈ lw_all := lw_g (lw_at lw_m9 59 rfl) rfl
theorem q2090 : (Jvm.Cond.methodLink "ColourOffice" (299 : Nat) ({ cls := "ColourOffice$Settlement", name := "colours", desc := "()[I" } : Jvm.MethodName)) ∈ lw_all := lw_g (lw_at lw_m9 60 rfl) rfl
theorem q2091 : (Jvm.Cond.methodLink "ColourOffice" (303 : Nat) ({ cls := "ColourOffice$Office", name := "placeOfReport", desc := "(I)I" } : Jvm.MethodName)) ∈ lw_all := lw_g (lw_at lw_m9 61 rfl) rfl
theorem q2096 : (Jvm.Cond.instanceMethod ({ cls := "ColourOffice", name := "paletteError", desc := "(I)I" } : Jvm.MethodName)) ∈ lw_all := lw_g (lw_at lw_m9 66 rfl) rfl
theorem q2097 : (Jvm.Cond.selects "ColourOffice" ({ cls := "ColourOffice", name := "paletteError", desc := "(I)I" } : Jvm.MethodName) ({ cls := "ColourOffice", name := "paletteError", desc := "(I)I" } : Jvm.MethodName)) ∈ lw_all := lw_g (lw_at lw_m9 67 rfl) rfl
theorem q2098 : (Jvm.Cond.code ({ cls := "ColourOffice", name := "paletteError", desc := "(I)I" } : Jvm.MethodName) prog_1_method_52_code (3 : Nat) (Option.some Jvm.ClassFile.FieldType.int)) ∈ lw_all := lw_g (lw_at lw_m9 68 rfl) rfl
theorem q2099 : (Jvm.Cond.methodLink "ColourOffice" (311 : Nat) ({ cls := "ColourOffice", name := "palettes", desc := "(I)LColourOffice$Palettes;" } : Jvm.MethodName)) ∈ lw_all := lw_g (lw_at lw_m9 69 rfl) rfl
theorem q2100 : (Jvm.Cond.privateMethod ({ cls := "ColourOffice", name := "palettes", desc := "(I)LColourOffice$Palettes;" } : Jvm.MethodName)) ∈ lw_tbl := lw_at lw_m9 70 rfl
theorem q2101 : (Jvm.Cond.instanceMethod ({ cls := "ColourOffice", name := "palettes", desc := "(I)LColourOffice$Palettes;" } : Jvm.MethodName)) ∈ lw_all := lw_g (lw_at lw_m9 71 rfl) rfl
theorem q2102 : (Jvm.Cond.code ({ cls := "ColourOffice", name := "palettes", desc := "(I)LColourOffice$Palettes;" } : Jvm.MethodName) prog_1_method_51_code (2 : Nat) (Option.some (Jvm.ClassFile.FieldType.object "ColourOffice$Palettes"))) ∈ lw_all := lw_g (lw_at lw_m9 72 rfl) rfl
theorem q2103 : (Jvm.Cond.classLink "ColourOffice" (306 : Nat) "ColourOffice$Palettes") ∈ lw_all := lw_g (lw_at lw_m9 73 rfl) rfl
theorem q2104 : (Jvm.Cond.methodLink "ColourOffice" (308 : Nat) ({ cls := "ColourOffice$Palettes", name := "<init>", desc := "(LColourOffice$Shelf;LColourOffice$Metric;)V" } : Jvm.MethodName)) ∈ lw_all := lw_g (lw_at lw_m9 74 rfl) rfl
theorem q2105 : (Jvm.Cond.methodLink "ColourOffice" (315 : Nat) ({ cls := "ColourOffice$Palettes", name := "best", desc := "(I)I" } : Jvm.MethodName)) ∈ lw_all := lw_g (lw_at lw_m9 75 rfl) rfl
theorem q2106 : (Jvm.Cond.methodLink "ColourOffice" (317 : Nat) ({ cls := "ColourOffice$Palettes", name := "error", desc := "(I)I" } : Jvm.MethodName)) ∈ lw_all := lw_g (lw_at lw_m9 76 rfl) rfl
theorem q2111 : (Jvm.Cond.instanceMethod ({ cls := "ColourOffice", name := "paletteErrorBySearch", desc := "(I)I" } : Jvm.MethodName)) ∈ lw_all := lw_g (lw_at lw_m9 81 rfl) rfl
theorem q2112 : (Jvm.Cond.selects "ColourOffice" ({ cls := "ColourOffice", name := "paletteErrorBySearch", desc := "(I)I" } : Jvm.MethodName) ({ cls := "ColourOffice", name := "paletteErrorBySearch", desc := "(I)I" } : Jvm.MethodName)) ∈ lw_all := lw_g (lw_at lw_m9 82 rfl) rfl
theorem q2113 : (Jvm.Cond.code ({ cls := "ColourOffice", name := "paletteErrorBySearch", desc := "(I)I" } : Jvm.MethodName) prog_1_method_53_code (2 : Nat) (Option.some Jvm.ClassFile.FieldType.int)) ∈ lw_all := lw_g (lw_at lw_m9 83 rfl) rfl
theorem q2114 : (Jvm.Cond.methodLink "ColourOffice" (320 : Nat) ({ cls := "ColourOffice$Palettes", name := "leastError", desc := "(I)I" } : Jvm.MethodName)) ∈ lw_all := lw_g (lw_at lw_m9 84 rfl) rfl
theorem q2119 : (Jvm.Cond.instanceMethod ({ cls := "ColourOffice", name := "paletteColour", desc := "(II)I" } : Jvm.MethodName)) ∈ lw_all := lw_g (lw_at lw_m9 89 rfl) rfl
theorem q2120 : (Jvm.Cond.selects "ColourOffice" ({ cls := "ColourOffice", name := "paletteColour", desc := "(II)I" } : Jvm.MethodName) ({ cls := "ColourOffice", name := "paletteColour", desc := "(II)I" } : Jvm.MethodName)) ∈ lw_all := lw_g (lw_at lw_m9 90 rfl) rfl
theorem q2121 : (Jvm.Cond.code ({ cls := "ColourOffice", name := "paletteColour", desc := "(II)I" } : Jvm.MethodName) prog_1_method_54_code (6 : Nat) (Option.some Jvm.ClassFile.FieldType.int)) ∈ lw_all := lw_g (lw_at lw_m9 91 rfl) rfl
theorem q2140 : (Jvm.Cond.instanceMethod ({ cls := "ColourOffice", name := "meanBrightness", desc := "()D" } : Jvm.MethodName)) ∈ lw_all := lw_g (lw_at lw_m9 110 rfl) rfl
theorem q2141 : (Jvm.Cond.selects "ColourOffice" ({ cls := "ColourOffice", name := "meanBrightness", desc := "()D" } : Jvm.MethodName) ({ cls := "ColourOffice", name := "meanBrightness", desc := "()D" } : Jvm.MethodName)) ∈ lw_all := lw_g (lw_at lw_m9 111 rfl) rfl
theorem q2142 : (Jvm.Cond.code ({ cls := "ColourOffice", name := "meanBrightness", desc := "()D" } : Jvm.MethodName) prog_1_method_61_code (2 : Nat) (Option.some Jvm.ClassFile.FieldType.double)) ∈ lw_all := lw_g (lw_at lw_m9 112 rfl) rfl
theorem q2143 : (Jvm.Cond.methodLink "ColourOffice" (340 : Nat) ({ cls := "ColourOffice", name := "coloursAsDivisor", desc := "()I" } : Jvm.MethodName)) ∈ lw_all := lw_g (lw_at lw_m9 113 rfl) rfl
theorem q2144 : (Jvm.Cond.privateMethod ({ cls := "ColourOffice", name := "coloursAsDivisor", desc := "()I" } : Jvm.MethodName)) ∈ lw_tbl := lw_at lw_m9 114 rfl
theorem q2145 : (Jvm.Cond.instanceMethod ({ cls := "ColourOffice", name := "coloursAsDivisor", desc := "()I" } : Jvm.MethodName)) ∈ lw_all := lw_g (lw_at lw_m9 115 rfl) rfl
theorem q2146 : (Jvm.Cond.code ({ cls := "ColourOffice", name := "coloursAsDivisor", desc := "()I" } : Jvm.MethodName) prog_1_method_60_code (1 : Nat) (Option.some Jvm.ClassFile.FieldType.int)) ∈ lw_all := lw_g (lw_at lw_m9 116 rfl) rfl
theorem q2147 : (Jvm.Cond.classLink "ColourOffice" (337 : Nat) "java/lang/ArithmeticException") ∈ lw_all := lw_g (lw_at lw_m9 117 rfl) rfl
theorem q2148 : (Jvm.Cond.methodLink "ColourOffice" (339 : Nat) ({ cls := "java/lang/ArithmeticException", name := "<init>", desc := "()V" } : Jvm.MethodName)) ∈ lw_all := lw_g (lw_at lw_m9 118 rfl) rfl
theorem q2152 : (Jvm.Cond.methodLink "ColourOffice" (343 : Nat) ({ cls := "ColourOffice$Office", name := "brightness", desc := "()I" } : Jvm.MethodName)) ∈ lw_all := lw_g (lw_at lw_m9 122 rfl) rfl
theorem q2160 : (Jvm.Cond.instanceMethod ({ cls := "ColourOffice", name := "greyShare", desc := "()F" } : Jvm.MethodName)) ∈ lw_all := lw_g (lw_at lw_m9 130 rfl) rfl
theorem q2161 : (Jvm.Cond.selects "ColourOffice" ({ cls := "ColourOffice", name := "greyShare", desc := "()F" } : Jvm.MethodName) ({ cls := "ColourOffice", name := "greyShare", desc := "()F" } : Jvm.MethodName)) ∈ lw_all := lw_g (lw_at lw_m9 131 rfl) rfl
theorem q2162 : (Jvm.Cond.code ({ cls := "ColourOffice", name := "greyShare", desc := "()F" } : Jvm.MethodName) prog_1_method_62_code (2 : Nat) (Option.some Jvm.ClassFile.FieldType.float)) ∈ lw_all := lw_g (lw_at lw_m9 132 rfl) rfl
theorem q2163 : (Jvm.Cond.methodLink "ColourOffice" (346 : Nat) ({ cls := "ColourOffice$Office", name := "greyCount", desc := "()I" } : Jvm.MethodName)) ∈ lw_all := lw_g (lw_at lw_m9 133 rfl) rfl
theorem q2168 : (Jvm.Cond.instanceMethod ({ cls := "ColourOffice", name := "renderColour", desc := "(I)I" } : Jvm.MethodName)) ∈ lw_all := lw_g (lw_at lw_m9 138 rfl) rfl
theorem q2169 : (Jvm.Cond.selects "ColourOffice" ({ cls := "ColourOffice", name := "renderColour", desc := "(I)I" } : Jvm.MethodName) ({ cls := "ColourOffice", name := "renderColour", desc := "(I)I" } : Jvm.MethodName)) ∈ lw_all := lw_g (lw_at lw_m9 139 rfl) rfl
theorem q2170 : (Jvm.Cond.code ({ cls := "ColourOffice", name := "renderColour", desc := "(I)I" } : Jvm.MethodName) prog_1_method_65_code (2 : Nat) (Option.some Jvm.ClassFile.FieldType.int)) ∈ lw_all := lw_g (lw_at lw_m9 140 rfl) rfl
theorem q2171 : (Jvm.Cond.methodLink "ColourOffice" (357 : Nat) ({ cls := "ColourOffice$Found", name := "toString", desc := "()Ljava/lang/String;" } : Jvm.MethodName)) ∈ lw_all := lw_g (lw_at lw_m9 141 rfl) rfl
theorem q2195 : (Jvm.Cond.methodLink "ColourOffice" (361 : Nat) ({ cls := "ColourOffice", name := "write", desc := "(Ljava/lang/String;)I" } : Jvm.MethodName)) ∈ lw_all := lw_g (lw_at lw_m9 165 rfl) rfl
theorem q2196 : (Jvm.Cond.privateMethod ({ cls := "ColourOffice", name := "write", desc := "(Ljava/lang/String;)I" } : Jvm.MethodName)) ∈ lw_tbl := lw_at lw_m9 166 rfl
theorem q2197 : (Jvm.Cond.instanceMethod ({ cls := "ColourOffice", name := "write", desc := "(Ljava/lang/String;)I" } : Jvm.MethodName)) ∈ lw_all := lw_g (lw_at lw_m9 167 rfl) rfl
theorem q2198 : (Jvm.Cond.code ({ cls := "ColourOffice", name := "write", desc := "(Ljava/lang/String;)I" } : Jvm.MethodName) prog_1_method_64_code (2 : Nat) (Option.some Jvm.ClassFile.FieldType.int)) ∈ lw_all := lw_g (lw_at lw_m9 168 rfl) rfl
theorem q2199 : (Jvm.Cond.methodLink "ColourOffice" (352 : Nat) ({ cls := "java/lang/String", name := "length", desc := "()I" } : Jvm.MethodName)) ∈ lw_all := lw_g (lw_at lw_m9 169 rfl) rfl
theorem q2204 : (Jvm.Cond.instanceMethod ({ cls := "ColourOffice", name := "renderReport", desc := "(I)I" } : Jvm.MethodName)) ∈ lw_all := lw_g (lw_at lw_m9 174 rfl) rfl
theorem q2205 : (Jvm.Cond.selects "ColourOffice" ({ cls := "ColourOffice", name := "renderReport", desc := "(I)I" } : Jvm.MethodName) ({ cls := "ColourOffice", name := "renderReport", desc := "(I)I" } : Jvm.MethodName)) ∈ lw_all := lw_g (lw_at lw_m9 175 rfl) rfl
theorem q2206 : (Jvm.Cond.code ({ cls := "ColourOffice", name := "renderReport", desc := "(I)I" } : Jvm.MethodName) prog_1_method_66_code (2 : Nat) (Option.some Jvm.ClassFile.FieldType.int)) ∈ lw_all := lw_g (lw_at lw_m9 176 rfl) rfl
theorem q2207 : (Jvm.Cond.methodLink "ColourOffice" (365 : Nat) ({ cls := "ColourOffice$Report", name := "toString", desc := "()Ljava/lang/String;" } : Jvm.MethodName)) ∈ lw_all := lw_g (lw_at lw_m9 177 rfl) rfl
theorem q2240 : (Jvm.Cond.instanceMethod ({ cls := "ColourOffice", name := "outputAt", desc := "(I)C" } : Jvm.MethodName)) ∈ lw_all := lw_g (lw_at lw_m9 210 rfl) rfl
theorem q2241 : (Jvm.Cond.selects "ColourOffice" ({ cls := "ColourOffice", name := "outputAt", desc := "(I)C" } : Jvm.MethodName) ({ cls := "ColourOffice", name := "outputAt", desc := "(I)C" } : Jvm.MethodName)) ∈ lw_all := lw_g (lw_at lw_m9 211 rfl) rfl
theorem q2242 : (Jvm.Cond.code ({ cls := "ColourOffice", name := "outputAt", desc := "(I)C" } : Jvm.MethodName) prog_1_method_67_code (2 : Nat) (Option.some Jvm.ClassFile.FieldType.char)) ∈ lw_all := lw_g (lw_at lw_m9 212 rfl) rfl
theorem q2243 : (Jvm.Cond.methodLink "ColourOffice" (366 : Nat) ({ cls := "ColourOffice", name := "checkIndex", desc := "(Z)V" } : Jvm.MethodName)) ∈ lw_all := lw_g (lw_at lw_m9 213 rfl) rfl
theorem q2244 : (Jvm.Cond.static ({ cls := "ColourOffice", name := "checkIndex", desc := "(Z)V" } : Jvm.MethodName)) ∈ lw_all := lw_g (lw_at lw_m9 214 rfl) rfl
theorem q2245 : (Jvm.Cond.code ({ cls := "ColourOffice", name := "checkIndex", desc := "(Z)V" } : Jvm.MethodName) prog_1_method_18_code (1 : Nat) (Option.none : Option Jvm.ClassFile.FieldType)) ∈ lw_all := lw_g (lw_at lw_m9 215 rfl) rfl
theorem q2246 : (Jvm.Cond.classLink "ColourOffice" (116 : Nat) "java/lang/IndexOutOfBoundsException") ∈ lw_all := lw_g (lw_at lw_m9 216 rfl) rfl
theorem q2247 : (Jvm.Cond.methodLink "ColourOffice" (118 : Nat) ({ cls := "java/lang/IndexOutOfBoundsException", name := "<init>", desc := "()V" } : Jvm.MethodName)) ∈ lw_all := lw_g (lw_at lw_m9 217 rfl) rfl
theorem q2251 : (Jvm.Cond.methodLink "ColourOffice" (369 : Nat) ({ cls := "java/lang/String", name := "charAt", desc := "(I)C" } : Jvm.MethodName)) ∈ lw_all := lw_g (lw_at lw_m9 221 rfl) rfl
theorem q2273 : (Jvm.Cond.instanceMethod ({ cls := "ColourOffice", name := "type", desc := "(C)I" } : Jvm.MethodName)) ∈ lw_all := lw_g (lw_at lw_m10 3 rfl) rfl
theorem q2274 : (Jvm.Cond.selects "ColourOffice" ({ cls := "ColourOffice", name := "type", desc := "(C)I" } : Jvm.MethodName) ({ cls := "ColourOffice", name := "type", desc := "(C)I" } : Jvm.MethodName)) ∈ lw_all := lw_g (lw_at lw_m10 4 rfl) rfl
theorem q2275 : (Jvm.Cond.code ({ cls := "ColourOffice", name := "type", desc := "(C)I" } : Jvm.MethodName) prog_1_method_68_code (2 : Nat) (Option.some Jvm.ClassFile.FieldType.int)) ∈ lw_all := lw_g (lw_at lw_m10 5 rfl) rfl
theorem q2276 : (Jvm.Cond.methodLink "ColourOffice" (373 : Nat) ({ cls := "java/lang/StringBuilder", name := "length", desc := "()I" } : Jvm.MethodName)) ∈ lw_all := lw_g (lw_at lw_m10 6 rfl) rfl
theorem q2277 : (Jvm.Cond.methodLink "ColourOffice" (374 : Nat) ({ cls := "ColourOffice", name := "checkState", desc := "(Z)V" } : Jvm.MethodName)) ∈ lw_all := lw_g (lw_at lw_m10 7 rfl) rfl
theorem q2278 : (Jvm.Cond.static ({ cls := "ColourOffice", name := "checkState", desc := "(Z)V" } : Jvm.MethodName)) ∈ lw_all := lw_g (lw_at lw_m10 8 rfl) rfl
theorem q2279 : (Jvm.Cond.code ({ cls := "ColourOffice", name := "checkState", desc := "(Z)V" } : Jvm.MethodName) prog_1_method_21_code (1 : Nat) (Option.none : Option Jvm.ClassFile.FieldType)) ∈ lw_all := lw_g (lw_at lw_m10 9 rfl) rfl
theorem q2280 : (Jvm.Cond.classLink "ColourOffice" (125 : Nat) "java/lang/IllegalStateException") ∈ lw_all := lw_g (lw_at lw_m10 10 rfl) rfl
theorem q2281 : (Jvm.Cond.methodLink "ColourOffice" (127 : Nat) ({ cls := "java/lang/IllegalStateException", name := "<init>", desc := "()V" } : Jvm.MethodName)) ∈ lw_all := lw_g (lw_at lw_m10 11 rfl) rfl
theorem q2282 : (Jvm.Cond.methodLink "ColourOffice" (377 : Nat) ({ cls := "java/lang/StringBuilder", name := "append", desc := "(C)Ljava/lang/StringBuilder;" } : Jvm.MethodName)) ∈ lw_all := lw_g (lw_at lw_m10 12 rfl) rfl
theorem q2299 : (Jvm.Cond.instanceMethod ({ cls := "ColourOffice", name := "runScript", desc := "()I" } : Jvm.MethodName)) ∈ lw_all := lw_g (lw_at lw_m10 29 rfl) rfl
theorem q2300 : (Jvm.Cond.selects "ColourOffice" ({ cls := "ColourOffice", name := "runScript", desc := "()I" } : Jvm.MethodName) ({ cls := "ColourOffice", name := "runScript", desc := "()I" } : Jvm.MethodName)) ∈ lw_all := lw_g (lw_at lw_m10 30 rfl) rfl
theorem q2301 : (Jvm.Cond.codeWith ({ cls := "ColourOffice", name := "runScript", desc := "()I" } : Jvm.MethodName) prog_1_method_71_code (4 : Nat) (Option.some Jvm.ClassFile.FieldType.int) [((8 : Nat), (24 : Nat), (34 : Nat), (386 : Nat)), ((8 : Nat), (24 : Nat), (34 : Nat), (381 : Nat)), ((8 : Nat), (24 : Nat), (45 : Nat), (0 : Nat)), ((34 : Nat), (46 : Nat), (45 : Nat), (0 : Nat))]) ∈ lw_all := lw_g (lw_at lw_m10 31 rfl) rfl
theorem q2302 : (Jvm.Cond.classLink "ColourOffice" (386 : Nat) "ColourOffice$SyntaxFailure") ∈ lw_all := lw_g (lw_at lw_m10 32 rfl) rfl
theorem q2303 : (Jvm.Cond.classLink "ColourOffice" (381 : Nat) "ColourOffice$CommandFailure") ∈ lw_all := lw_g (lw_at lw_m10 33 rfl) rfl
theorem q2304 : (Jvm.Cond.methodLink "ColourOffice" (401 : Nat) ({ cls := "java/lang/StringBuilder", name := "toString", desc := "()Ljava/lang/String;" } : Jvm.MethodName)) ∈ lw_all := lw_g (lw_at lw_m10 34 rfl) rfl
theorem q2305 : (Jvm.Cond.classLink "ColourOffice" (402 : Nat) "ColourOffice$Parser") ∈ lw_all := lw_g (lw_at lw_m10 35 rfl) rfl
theorem q2307 : (Jvm.Cond.methodLink "ColourOffice" (404 : Nat) ({ cls := "ColourOffice$Parser", name := "<init>", desc := "(Ljava/lang/String;)V" } : Jvm.MethodName)) ∈ lw_all := lw_g (lw_at lw_m10 37 rfl) rfl
theorem q2318 : (Jvm.Cond.methodLink "ColourOffice" (407 : Nat) ({ cls := "ColourOffice$Parser", name := "commands", desc := "()Ljava/util/List;" } : Jvm.MethodName)) ∈ lw_all := lw_g (lw_at lw_m10 48 rfl) rfl
theorem q2355 : (Jvm.Cond.selects "ColourOffice" ({ cls := "java/lang/Object", name := "toString", desc := "()Ljava/lang/String;" } : Jvm.MethodName) ({ cls := "java/lang/Object", name := "toString", desc := "()Ljava/lang/String;" } : Jvm.MethodName)) ∈ lw_all := lw_g (lw_at lw_m10 85 rfl) rfl
theorem q2519 : (Jvm.Cond.methodLink "ColourOffice" (411 : Nat) ({ cls := "ColourOffice", name := "execute", desc := "(Ljava/util/List;)I" } : Jvm.MethodName)) ∈ lw_all := lw_g (lw_at lw_m11 9 rfl) rfl
theorem q2520 : (Jvm.Cond.privateMethod ({ cls := "ColourOffice", name := "execute", desc := "(Ljava/util/List;)I" } : Jvm.MethodName)) ∈ lw_tbl := lw_at lw_m11 10 rfl
theorem q2521 : (Jvm.Cond.instanceMethod ({ cls := "ColourOffice", name := "execute", desc := "(Ljava/util/List;)I" } : Jvm.MethodName)) ∈ lw_all := lw_g (lw_at lw_m11 11 rfl) rfl
theorem q2522 : (Jvm.Cond.codeWith ({ cls := "ColourOffice", name := "execute", desc := "(Ljava/util/List;)I" } : Jvm.MethodName) prog_1_method_69_code (5 : Nat) (Option.some Jvm.ClassFile.FieldType.int) [((20 : Nat), (35 : Nat), (38 : Nat), (1 : Nat))]) ∈ lw_all := lw_g (lw_at lw_m11 12 rfl) rfl
theorem q2531 : (Jvm.Cond.methodLink "ColourOffice" (383 : Nat) ({ cls := "ColourOffice$CommandFailure", name := "<init>", desc := "(ILColourOffice$ConditionFailure;)V" } : Jvm.MethodName)) ∈ lw_all := lw_g (lw_at lw_m11 21 rfl) rfl
theorem q2540 : (Jvm.Cond.methodLink "ColourOffice" (415 : Nat) ({ cls := "java/lang/StringBuilder", name := "setLength", desc := "(I)V" } : Jvm.MethodName)) ∈ lw_all := lw_g (lw_at lw_m11 30 rfl) rfl
theorem q2592 : (Jvm.Cond.methodLink "ColourOffice" (419 : Nat) ({ cls := "ColourOffice", name := "note", desc := "(LColourOffice$Failure;)V" } : Jvm.MethodName)) ∈ lw_all := lw_g (lw_at lw_m11 82 rfl) rfl
theorem q2593 : (Jvm.Cond.privateMethod ({ cls := "ColourOffice", name := "note", desc := "(LColourOffice$Failure;)V" } : Jvm.MethodName)) ∈ lw_tbl := lw_at lw_m11 83 rfl
theorem q2594 : (Jvm.Cond.instanceMethod ({ cls := "ColourOffice", name := "note", desc := "(LColourOffice$Failure;)V" } : Jvm.MethodName)) ∈ lw_all := lw_g (lw_at lw_m11 84 rfl) rfl
theorem q2595 : (Jvm.Cond.code ({ cls := "ColourOffice", name := "note", desc := "(LColourOffice$Failure;)V" } : Jvm.MethodName) prog_1_method_70_code (4 : Nat) (Option.none : Option Jvm.ClassFile.FieldType)) ∈ lw_all := lw_g (lw_at lw_m11 85 rfl) rfl
theorem q2596 : (Jvm.Cond.methodLink "ColourOffice" (388 : Nat) ({ cls := "ColourOffice$SyntaxFailure", name := "position", desc := "()I" } : Jvm.MethodName)) ∈ lw_all := lw_g (lw_at lw_m11 86 rfl) rfl
theorem q2600 : (Jvm.Cond.methodLink "ColourOffice" (391 : Nat) ({ cls := "ColourOffice$CommandFailure", name := "index", desc := "()I" } : Jvm.MethodName)) ∈ lw_all := lw_g (lw_at lw_m11 90 rfl) rfl
theorem q2604 : (Jvm.Cond.methodLink "ColourOffice" (394 : Nat) ({ cls := "ColourOffice$CommandFailure", name := "kind", desc := "()C" } : Jvm.MethodName)) ∈ lw_all := lw_g (lw_at lw_m11 94 rfl) rfl
theorem q2619 : (Jvm.Cond.methodLink "ColourOffice" (423 : Nat) ({ cls := "ColourOffice$Failure", name := "asPublicException", desc := "()Ljava/lang/RuntimeException;" } : Jvm.MethodName)) ∈ lw_all := lw_g (lw_at lw_m11 109 rfl) rfl
theorem q2637 : (Jvm.Cond.instanceMethod ({ cls := "ColourOffice", name := "errorPosition", desc := "()I" } : Jvm.MethodName)) ∈ lw_all := lw_g (lw_at lw_m11 127 rfl) rfl
theorem q2638 : (Jvm.Cond.selects "ColourOffice" ({ cls := "ColourOffice", name := "errorPosition", desc := "()I" } : Jvm.MethodName) ({ cls := "ColourOffice", name := "errorPosition", desc := "()I" } : Jvm.MethodName)) ∈ lw_all := lw_g (lw_at lw_m11 128 rfl) rfl
theorem q2639 : (Jvm.Cond.code ({ cls := "ColourOffice", name := "errorPosition", desc := "()I" } : Jvm.MethodName) prog_1_method_72_code (1 : Nat) (Option.some Jvm.ClassFile.FieldType.int)) ∈ lw_all := lw_g (lw_at lw_m11 129 rfl) rfl
theorem q2644 : (Jvm.Cond.instanceMethod ({ cls := "ColourOffice", name := "failedCommand", desc := "()I" } : Jvm.MethodName)) ∈ lw_all := lw_g (lw_at lw_m11 134 rfl) rfl
theorem q2645 : (Jvm.Cond.selects "ColourOffice" ({ cls := "ColourOffice", name := "failedCommand", desc := "()I" } : Jvm.MethodName) ({ cls := "ColourOffice", name := "failedCommand", desc := "()I" } : Jvm.MethodName)) ∈ lw_all := lw_g (lw_at lw_m11 135 rfl) rfl
theorem q2646 : (Jvm.Cond.code ({ cls := "ColourOffice", name := "failedCommand", desc := "()I" } : Jvm.MethodName) prog_1_method_73_code (1 : Nat) (Option.some Jvm.ClassFile.FieldType.int)) ∈ lw_all := lw_g (lw_at lw_m11 136 rfl) rfl
theorem q2651 : (Jvm.Cond.instanceMethod ({ cls := "ColourOffice", name := "failureKind", desc := "()C" } : Jvm.MethodName)) ∈ lw_all := lw_g (lw_at lw_m11 141 rfl) rfl
theorem q2652 : (Jvm.Cond.selects "ColourOffice" ({ cls := "ColourOffice", name := "failureKind", desc := "()C" } : Jvm.MethodName) ({ cls := "ColourOffice", name := "failureKind", desc := "()C" } : Jvm.MethodName)) ∈ lw_all := lw_g (lw_at lw_m11 142 rfl) rfl
theorem q2653 : (Jvm.Cond.code ({ cls := "ColourOffice", name := "failureKind", desc := "()C" } : Jvm.MethodName) prog_1_method_74_code (1 : Nat) (Option.some Jvm.ClassFile.FieldType.char)) ∈ lw_all := lw_g (lw_at lw_m11 143 rfl) rfl
theorem q2658 : (Jvm.Cond.instanceMethod ({ cls := "ColourOffice", name := "undo", desc := "()I" } : Jvm.MethodName)) ∈ lw_all := lw_g (lw_at lw_m11 148 rfl) rfl
theorem q2659 : (Jvm.Cond.selects "ColourOffice" ({ cls := "ColourOffice", name := "undo", desc := "()I" } : Jvm.MethodName) ({ cls := "ColourOffice", name := "undo", desc := "()I" } : Jvm.MethodName)) ∈ lw_all := lw_g (lw_at lw_m11 149 rfl) rfl
theorem q2660 : (Jvm.Cond.code ({ cls := "ColourOffice", name := "undo", desc := "()I" } : Jvm.MethodName) prog_1_method_75_code (1 : Nat) (Option.some Jvm.ClassFile.FieldType.int)) ∈ lw_all := lw_g (lw_at lw_m11 150 rfl) rfl
theorem q2661 : (Jvm.Cond.methodLink "ColourOffice" (426 : Nat) ({ cls := "ColourOffice$Past", name := "count", desc := "()I" } : Jvm.MethodName)) ∈ lw_all := lw_g (lw_at lw_m11 151 rfl) rfl
theorem q2665 : (Jvm.Cond.methodLink "ColourOffice" (427 : Nat) ({ cls := "ColourOffice$Past", name := "takeLatest", desc := "()LColourOffice$Office;" } : Jvm.MethodName)) ∈ lw_all := lw_g (lw_at lw_m11 155 rfl) rfl
theorem q2682 : (Jvm.Cond.instanceMethod ({ cls := "ColourOffice", name := "restore", desc := "()I" } : Jvm.MethodName)) ∈ lw_all := lw_g (lw_at lw_m11 172 rfl) rfl
theorem q2683 : (Jvm.Cond.selects "ColourOffice" ({ cls := "ColourOffice", name := "restore", desc := "()I" } : Jvm.MethodName) ({ cls := "ColourOffice", name := "restore", desc := "()I" } : Jvm.MethodName)) ∈ lw_all := lw_g (lw_at lw_m11 173 rfl) rfl
theorem q2684 : (Jvm.Cond.code ({ cls := "ColourOffice", name := "restore", desc := "()I" } : Jvm.MethodName) prog_1_method_77_code (1 : Nat) (Option.some Jvm.ClassFile.FieldType.int)) ∈ lw_all := lw_g (lw_at lw_m11 174 rfl) rfl
theorem q2685 : (Jvm.Cond.methodLink "ColourOffice" (433 : Nat) ({ cls := "ColourOffice$Past", name := "forget", desc := "()V" } : Jvm.MethodName)) ∈ lw_all := lw_g (lw_at lw_m11 175 rfl) rfl
theorem q3309 : (Jvm.Cond.castable "ColourOffice" "java/lang/Object") ∈ lw_tbl := lw_at lw_m14 79 rfl
theorem q112 : (Jvm.Cond.initialized "ColourOffice$Office") ∈ lw_all := lw_g (lw_at lw_m1 2 rfl) rfl
theorem q173 : (Jvm.Cond.instantiable "ColourOffice$Office" (10 : Nat)) ∈ lw_all := lw_g (lw_at lw_m1 63 rfl) rfl
theorem q175 : (Jvm.Cond.instanceMethod ({ cls := "ColourOffice$Office", name := "<init>", desc := "()V" } : Jvm.MethodName)) ∈ lw_all := lw_g (lw_at lw_m1 65 rfl) rfl
theorem q176 : (Jvm.Cond.code ({ cls := "ColourOffice$Office", name := "<init>", desc := "()V" } : Jvm.MethodName) prog_8_method_1_code (1 : Nat) (Option.none : Option Jvm.ClassFile.FieldType)) ∈ lw_all := lw_g (lw_at lw_m1 66 rfl) rfl
theorem q177 : (Jvm.Cond.methodLink "ColourOffice$Office" (3 : Nat) ({ cls := "java/lang/Object", name := "<init>", desc := "()V" } : Jvm.MethodName)) ∈ lw_all := lw_g (lw_at lw_m1 67 rfl) rfl
theorem q178 : (Jvm.Cond.classLink "ColourOffice$Office" (9 : Nat) "ColourOffice$Shelf") ∈ lw_all := lw_g (lw_at lw_m1 68 rfl) rfl
theorem q180 : (Jvm.Cond.methodLinkNest "ColourOffice$Office" (11 : Nat) ({ cls := "ColourOffice$Shelf", name := "<init>", desc := "()V" } : Jvm.MethodName) "ColourOffice") ∈ lw_tbl := lw_at lw_m1 70 rfl
theorem q195 : (Jvm.Cond.classLink "ColourOffice$Office" (18 : Nat) "java/util/ArrayList") ∈ lw_all := lw_g (lw_at lw_m1 85 rfl) rfl
theorem q197 : (Jvm.Cond.methodLink "ColourOffice$Office" (20 : Nat) ({ cls := "java/util/ArrayList", name := "<init>", desc := "()V" } : Jvm.MethodName)) ∈ lw_all := lw_g (lw_at lw_m1 87 rfl) rfl
theorem q223 : (Jvm.Cond.fieldLink "ColourOffice$Office" (12 : Nat) "ColourOffice$Office" "shelf" "LColourOffice$Shelf;") ∈ lw_all := lw_g (lw_at lw_m1 113 rfl) rfl
theorem q225 : (Jvm.Cond.fieldLink "ColourOffice$Office" (21 : Nat) "ColourOffice$Office" "reports" "Ljava/util/List;") ∈ lw_all := lw_g (lw_at lw_m1 115 rfl) rfl
theorem q227 : (Jvm.Cond.fieldLink "ColourOffice$Office" (25 : Nat) "ColourOffice$Office" "metric" "C") ∈ lw_all := lw_g (lw_at lw_m1 117 rfl) rfl
theorem q229 : (Jvm.Cond.fieldLink "ColourOffice$Office" (50 : Nat) "ColourOffice$Office" "nextColour" "I") ∈ lw_all := lw_g (lw_at lw_m1 119 rfl) rfl
theorem q230 : (Jvm.Cond.fieldLink "ColourOffice$Office" (54 : Nat) "ColourOffice$Office" "nextReport" "I") ∈ lw_all := lw_g (lw_at lw_m1 120 rfl) rfl
theorem q231 : (Jvm.Cond.fieldLink "ColourOffice$Office" (57 : Nat) "ColourOffice$Office" "day" "I") ∈ lw_all := lw_g (lw_at lw_m1 121 rfl) rfl
theorem q233 : (Jvm.Cond.fieldLink "ColourOffice$Office" (60 : Nat) "ColourOffice$Office" "coins" "I") ∈ lw_all := lw_g (lw_at lw_m1 123 rfl) rfl
theorem q235 : (Jvm.Cond.fieldLink "ColourOffice$Office" (63 : Nat) "ColourOffice$Office" "rewards" "I") ∈ lw_all := lw_g (lw_at lw_m1 125 rfl) rfl
theorem q236 : (Jvm.Cond.fieldLink "ColourOffice$Office" (66 : Nat) "ColourOffice$Office" "discarded" "I") ∈ lw_all := lw_g (lw_at lw_m1 126 rfl) rfl
theorem q237 : (Jvm.Cond.fieldLink "ColourOffice$Office" (69 : Nat) "ColourOffice$Office" "returned" "I") ∈ lw_all := lw_g (lw_at lw_m1 127 rfl) rfl
theorem q239 : (Jvm.Cond.lays "ColourOffice$Office" "ColourOffice$Office" "shelf" "LColourOffice$Shelf;") ∈ lw_all := lw_g (lw_at lw_m1 129 rfl) rfl
theorem q240 : (Jvm.Cond.soleField "ColourOffice$Office" "shelf") ∈ lw_all := lw_g (lw_at lw_m1 130 rfl) rfl
theorem q241 : (Jvm.Cond.laysFinal "ColourOffice$Office" "ColourOffice$Office" "reports" "Ljava/util/List;") ∈ lw_all := lw_g (lw_at lw_m1 131 rfl) rfl
theorem q242 : (Jvm.Cond.soleField "ColourOffice$Office" "reports") ∈ lw_all := lw_g (lw_at lw_m1 132 rfl) rfl
theorem q243 : (Jvm.Cond.lays "ColourOffice$Office" "ColourOffice$Office" "metric" "C") ∈ lw_all := lw_g (lw_at lw_m1 133 rfl) rfl
theorem q244 : (Jvm.Cond.soleField "ColourOffice$Office" "metric") ∈ lw_all := lw_g (lw_at lw_m1 134 rfl) rfl
theorem q245 : (Jvm.Cond.lays "ColourOffice$Office" "ColourOffice$Office" "nextColour" "I") ∈ lw_all := lw_g (lw_at lw_m1 135 rfl) rfl
theorem q246 : (Jvm.Cond.soleField "ColourOffice$Office" "nextColour") ∈ lw_all := lw_g (lw_at lw_m1 136 rfl) rfl
theorem q247 : (Jvm.Cond.lays "ColourOffice$Office" "ColourOffice$Office" "nextReport" "I") ∈ lw_all := lw_g (lw_at lw_m1 137 rfl) rfl
theorem q248 : (Jvm.Cond.soleField "ColourOffice$Office" "nextReport") ∈ lw_all := lw_g (lw_at lw_m1 138 rfl) rfl
theorem q249 : (Jvm.Cond.lays "ColourOffice$Office" "ColourOffice$Office" "day" "I") ∈ lw_all := lw_g (lw_at lw_m1 139 rfl) rfl
theorem q250 : (Jvm.Cond.soleField "ColourOffice$Office" "day") ∈ lw_all := lw_g (lw_at lw_m1 140 rfl) rfl
theorem q251 : (Jvm.Cond.lays "ColourOffice$Office" "ColourOffice$Office" "coins" "I") ∈ lw_all := lw_g (lw_at lw_m1 141 rfl) rfl
theorem q252 : (Jvm.Cond.soleField "ColourOffice$Office" "coins") ∈ lw_all := lw_g (lw_at lw_m1 142 rfl) rfl
theorem q253 : (Jvm.Cond.lays "ColourOffice$Office" "ColourOffice$Office" "rewards" "I") ∈ lw_all := lw_g (lw_at lw_m1 143 rfl) rfl
theorem q254 : (Jvm.Cond.soleField "ColourOffice$Office" "rewards") ∈ lw_all := lw_g (lw_at lw_m1 144 rfl) rfl
theorem q255 : (Jvm.Cond.lays "ColourOffice$Office" "ColourOffice$Office" "discarded" "I") ∈ lw_all := lw_g (lw_at lw_m1 145 rfl) rfl
theorem q256 : (Jvm.Cond.soleField "ColourOffice$Office" "discarded") ∈ lw_all := lw_g (lw_at lw_m1 146 rfl) rfl
theorem q257 : (Jvm.Cond.lays "ColourOffice$Office" "ColourOffice$Office" "returned" "I") ∈ lw_all := lw_g (lw_at lw_m1 147 rfl) rfl
theorem q258 : (Jvm.Cond.soleField "ColourOffice$Office" "returned") ∈ lw_all := lw_g (lw_at lw_m1 148 rfl) rfl
theorem q259 : (Jvm.Cond.superclass "ColourOffice$Office" "java/lang/Object") ∈ lw_all := lw_g (lw_at lw_m1 149 rfl) rfl
theorem q360 : (Jvm.Cond.instanceMethod ({ cls := "ColourOffice$Office", name := "copy", desc := "()LColourOffice$Office;" } : Jvm.MethodName)) ∈ lw_all := lw_g (lw_at lw_m2 10 rfl) rfl
theorem q361 : (Jvm.Cond.selects "ColourOffice$Office" ({ cls := "ColourOffice$Office", name := "copy", desc := "()LColourOffice$Office;" } : Jvm.MethodName) ({ cls := "ColourOffice$Office", name := "copy", desc := "()LColourOffice$Office;" } : Jvm.MethodName)) ∈ lw_all := lw_g (lw_at lw_m2 11 rfl) rfl
theorem q362 : (Jvm.Cond.code ({ cls := "ColourOffice$Office", name := "copy", desc := "()LColourOffice$Office;" } : Jvm.MethodName) prog_8_method_2_code (3 : Nat) (Option.some (Jvm.ClassFile.FieldType.object "ColourOffice$Office"))) ∈ lw_all := lw_g (lw_at lw_m2 12 rfl) rfl
theorem q363 : (Jvm.Cond.classLink "ColourOffice$Office" (13 : Nat) "ColourOffice$Office") ∈ lw_all := lw_g (lw_at lw_m2 13 rfl) rfl
theorem q364 : (Jvm.Cond.methodLink "ColourOffice$Office" (29 : Nat) ({ cls := "ColourOffice$Office", name := "<init>", desc := "()V" } : Jvm.MethodName)) ∈ lw_all := lw_g (lw_at lw_m2 14 rfl) rfl
theorem q365 : (Jvm.Cond.methodLink "ColourOffice$Office" (30 : Nat) ({ cls := "ColourOffice$Shelf", name := "copy", desc := "()LColourOffice$Shelf;" } : Jvm.MethodName)) ∈ lw_all := lw_g (lw_at lw_m2 15 rfl) rfl
theorem q498 : (Jvm.Cond.fieldLinkNest "ColourOffice$Office" (194 : Nat) "ColourOffice$Found" "id" "I" "ColourOffice") ∈ lw_tbl := lw_at lw_m2 148 rfl
theorem q501 : (Jvm.Cond.fieldLinkNest "ColourOffice$Office" (219 : Nat) "ColourOffice$Found" "fastness" "I" "ColourOffice") ∈ lw_tbl := lw_at lw_m2 151 rfl
theorem q508 : (Jvm.Cond.fieldLinkNest "ColourOffice$Office" (109 : Nat) "ColourOffice$Found" "tint" "LColourOffice$Tint;" "ColourOffice") ∈ lw_tbl := lw_at lw_m2 158 rfl
theorem q525 : (Jvm.Cond.interfaceEntry "ColourOffice$Office" (34 : Nat)) ∈ lw_tbl := lw_at lw_m2 175 rfl
theorem q526 : (Jvm.Cond.methodLink "ColourOffice$Office" (34 : Nat) ({ cls := "java/util/List", name := "size", desc := "()I" } : Jvm.MethodName)) ∈ lw_all := lw_g (lw_at lw_m2 176 rfl) rfl
theorem q541 : (Jvm.Cond.interfaceEntry "ColourOffice$Office" (40 : Nat)) ∈ lw_tbl := lw_at lw_m2 191 rfl
theorem q542 : (Jvm.Cond.methodLink "ColourOffice$Office" (40 : Nat) ({ cls := "java/util/List", name := "get", desc := "(I)Ljava/lang/Object;" } : Jvm.MethodName)) ∈ lw_all := lw_g (lw_at lw_m2 192 rfl) rfl
theorem q836 : (Jvm.Cond.classLink "ColourOffice$Office" (44 : Nat) "ColourOffice$Report") ∈ lw_all := lw_g (lw_at lw_m4 6 rfl) rfl
theorem q837 : (Jvm.Cond.interfaceEntry "ColourOffice$Office" (46 : Nat)) ∈ lw_tbl := lw_at lw_m4 7 rfl
theorem q838 : (Jvm.Cond.methodLink "ColourOffice$Office" (46 : Nat) ({ cls := "java/util/List", name := "add", desc := "(Ljava/lang/Object;)Z" } : Jvm.MethodName)) ∈ lw_all := lw_g (lw_at lw_m4 8 rfl) rfl
theorem q870 : (Jvm.Cond.selects "ColourOffice$Office" ({ cls := "java/lang/Object", name := "getClass", desc := "()Ljava/lang/Class;" } : Jvm.MethodName) ({ cls := "java/lang/Object", name := "getClass", desc := "()Ljava/lang/Class;" } : Jvm.MethodName)) ∈ lw_all := lw_g (lw_at lw_m4 40 rfl) rfl
theorem q1035 : (Jvm.Cond.instanceMethod ({ cls := "ColourOffice$Office", name := "addColour", desc := "(IIII)I" } : Jvm.MethodName)) ∈ lw_all := lw_g (lw_at lw_m4 205 rfl) rfl
theorem q1036 : (Jvm.Cond.selects "ColourOffice$Office" ({ cls := "ColourOffice$Office", name := "addColour", desc := "(IIII)I" } : Jvm.MethodName) ({ cls := "ColourOffice$Office", name := "addColour", desc := "(IIII)I" } : Jvm.MethodName)) ∈ lw_all := lw_g (lw_at lw_m4 206 rfl) rfl
theorem q1037 : (Jvm.Cond.code ({ cls := "ColourOffice$Office", name := "addColour", desc := "(IIII)I" } : Jvm.MethodName) prog_8_method_13_code (5 : Nat) (Option.some Jvm.ClassFile.FieldType.int)) ∈ lw_all := lw_g (lw_at lw_m4 207 rfl) rfl
theorem q1038 : (Jvm.Cond.methodLinkNest "ColourOffice$Office" (129 : Nat) ({ cls := "ColourOffice", name := "areParts", desc := "([I)Z" } : Jvm.MethodName) "ColourOffice") ∈ lw_tbl := lw_at lw_m4 208 rfl
theorem q1044 : (Jvm.Cond.methodLinkNest "ColourOffice$Office" (133 : Nat) ({ cls := "ColourOffice", name := "isBetween", desc := "(III)Z" } : Jvm.MethodName) "ColourOffice") ∈ lw_tbl := lw_at lw_m4 214 rfl
theorem q1045 : (Jvm.Cond.methodLinkNest "ColourOffice$Office" (137 : Nat) ({ cls := "ColourOffice", name := "demand", desc := "(ZC)V" } : Jvm.MethodName) "ColourOffice") ∈ lw_tbl := lw_at lw_m4 215 rfl
theorem q1073 : (Jvm.Cond.methodLink "ColourOffice$Office" (141 : Nat) ({ cls := "ColourOffice$Shelf", name := "count", desc := "()I" } : Jvm.MethodName)) ∈ lw_all := lw_g (lw_at lw_m5 3 rfl) rfl
theorem q1077 : (Jvm.Cond.classLink "ColourOffice$Office" (144 : Nat) "ColourOffice$Tint") ∈ lw_all := lw_g (lw_at lw_m5 7 rfl) rfl
theorem q1079 : (Jvm.Cond.methodLink "ColourOffice$Office" (146 : Nat) ({ cls := "ColourOffice$Tint", name := "<init>", desc := "([I)V" } : Jvm.MethodName)) ∈ lw_all := lw_g (lw_at lw_m5 9 rfl) rfl
theorem q1087 : (Jvm.Cond.methodLink "ColourOffice$Office" (149 : Nat) ({ cls := "ColourOffice$Office", name := "add", desc := "(LColourOffice$Tint;I)I" } : Jvm.MethodName)) ∈ lw_all := lw_g (lw_at lw_m5 17 rfl) rfl
theorem q1088 : (Jvm.Cond.privateMethod ({ cls := "ColourOffice$Office", name := "add", desc := "(LColourOffice$Tint;I)I" } : Jvm.MethodName)) ∈ lw_tbl := lw_at lw_m5 18 rfl
theorem q1089 : (Jvm.Cond.instanceMethod ({ cls := "ColourOffice$Office", name := "add", desc := "(LColourOffice$Tint;I)I" } : Jvm.MethodName)) ∈ lw_all := lw_g (lw_at lw_m5 19 rfl) rfl
theorem q1090 : (Jvm.Cond.code ({ cls := "ColourOffice$Office", name := "add", desc := "(LColourOffice$Tint;I)I" } : Jvm.MethodName) prog_8_method_12_code (3 : Nat) (Option.some Jvm.ClassFile.FieldType.int)) ∈ lw_all := lw_g (lw_at lw_m5 20 rfl) rfl
theorem q1091 : (Jvm.Cond.classLink "ColourOffice$Office" (110 : Nat) "ColourOffice$Found") ∈ lw_all := lw_g (lw_at lw_m5 21 rfl) rfl
theorem q1092 : (Jvm.Cond.methodLink "ColourOffice$Office" (123 : Nat) ({ cls := "ColourOffice$Found", name := "<init>", desc := "(ILColourOffice$Tint;I)V" } : Jvm.MethodName)) ∈ lw_all := lw_g (lw_at lw_m5 22 rfl) rfl
theorem q1095 : (Jvm.Cond.methodLink "ColourOffice$Office" (126 : Nat) ({ cls := "ColourOffice$Shelf", name := "add", desc := "(LColourOffice$Found;)V" } : Jvm.MethodName)) ∈ lw_all := lw_g (lw_at lw_m5 25 rfl) rfl
theorem q1099 : (Jvm.Cond.instanceMethod ({ cls := "ColourOffice$Office", name := "addReport", desc := "(LColourOffice$Tint;II)I" } : Jvm.MethodName)) ∈ lw_all := lw_g (lw_at lw_m5 29 rfl) rfl
theorem q1100 : (Jvm.Cond.selects "ColourOffice$Office" ({ cls := "ColourOffice$Office", name := "addReport", desc := "(LColourOffice$Tint;II)I" } : Jvm.MethodName) ({ cls := "ColourOffice$Office", name := "addReport", desc := "(LColourOffice$Tint;II)I" } : Jvm.MethodName)) ∈ lw_all := lw_g (lw_at lw_m5 30 rfl) rfl
theorem q1101 : (Jvm.Cond.code ({ cls := "ColourOffice$Office", name := "addReport", desc := "(LColourOffice$Tint;II)I" } : Jvm.MethodName) prog_8_method_14_code (4 : Nat) (Option.some Jvm.ClassFile.FieldType.int)) ∈ lw_all := lw_g (lw_at lw_m5 31 rfl) rfl
theorem q1102 : (Jvm.Cond.methodLink "ColourOffice$Office" (152 : Nat) ({ cls := "ColourOffice$Tint", name := "part", desc := "(I)I" } : Jvm.MethodName)) ∈ lw_all := lw_g (lw_at lw_m5 32 rfl) rfl
theorem q1107 : (Jvm.Cond.methodLink "ColourOffice$Office" (155 : Nat) ({ cls := "ColourOffice$Report", name := "<init>", desc := "(ILColourOffice$Tint;II)V" } : Jvm.MethodName)) ∈ lw_all := lw_g (lw_at lw_m5 37 rfl) rfl
theorem q1112 : (Jvm.Cond.fieldLinkNest "ColourOffice$Office" (84 : Nat) "ColourOffice$Report" "id" "I" "ColourOffice") ∈ lw_tbl := lw_at lw_m5 42 rfl
theorem q1116 : (Jvm.Cond.fieldLinkNest "ColourOffice$Office" (102 : Nat) "ColourOffice$Report" "tint" "LColourOffice$Tint;" "ColourOffice") ∈ lw_tbl := lw_at lw_m5 46 rfl
theorem q1120 : (Jvm.Cond.fieldLinkNest "ColourOffice$Office" (120 : Nat) "ColourOffice$Report" "tolerance" "I" "ColourOffice") ∈ lw_tbl := lw_at lw_m5 50 rfl
theorem q1124 : (Jvm.Cond.fieldLinkNest "ColourOffice$Office" (178 : Nat) "ColourOffice$Report" "reward" "I" "ColourOffice") ∈ lw_tbl := lw_at lw_m5 54 rfl
theorem q1136 : (Jvm.Cond.instanceMethod ({ cls := "ColourOffice$Office", name := "withdraw", desc := "(I)I" } : Jvm.MethodName)) ∈ lw_all := lw_g (lw_at lw_m5 66 rfl) rfl
theorem q1137 : (Jvm.Cond.selects "ColourOffice$Office" ({ cls := "ColourOffice$Office", name := "withdraw", desc := "(I)I" } : Jvm.MethodName) ({ cls := "ColourOffice$Office", name := "withdraw", desc := "(I)I" } : Jvm.MethodName)) ∈ lw_all := lw_g (lw_at lw_m5 67 rfl) rfl
theorem q1138 : (Jvm.Cond.code ({ cls := "ColourOffice$Office", name := "withdraw", desc := "(I)I" } : Jvm.MethodName) prog_8_method_15_code (2 : Nat) (Option.some Jvm.ClassFile.FieldType.int)) ∈ lw_all := lw_g (lw_at lw_m5 68 rfl) rfl
theorem q1139 : (Jvm.Cond.methodLink "ColourOffice$Office" (158 : Nat) ({ cls := "ColourOffice$Office", name := "hasReport", desc := "(I)Z" } : Jvm.MethodName)) ∈ lw_all := lw_g (lw_at lw_m5 69 rfl) rfl
theorem q1140 : (Jvm.Cond.instanceMethod ({ cls := "ColourOffice$Office", name := "hasReport", desc := "(I)Z" } : Jvm.MethodName)) ∈ lw_all := lw_g (lw_at lw_m5 70 rfl) rfl
theorem q1141 : (Jvm.Cond.selects "ColourOffice$Office" ({ cls := "ColourOffice$Office", name := "hasReport", desc := "(I)Z" } : Jvm.MethodName) ({ cls := "ColourOffice$Office", name := "hasReport", desc := "(I)Z" } : Jvm.MethodName)) ∈ lw_all := lw_g (lw_at lw_m5 71 rfl) rfl
theorem q1142 : (Jvm.Cond.code ({ cls := "ColourOffice$Office", name := "hasReport", desc := "(I)Z" } : Jvm.MethodName) prog_8_method_7_code (2 : Nat) (Option.some Jvm.ClassFile.FieldType.boolean)) ∈ lw_all := lw_g (lw_at lw_m5 72 rfl) rfl
theorem q1143 : (Jvm.Cond.methodLink "ColourOffice$Office" (87 : Nat) ({ cls := "ColourOffice$Office", name := "placeOfReport", desc := "(I)I" } : Jvm.MethodName)) ∈ lw_all := lw_g (lw_at lw_m5 73 rfl) rfl
theorem q1144 : (Jvm.Cond.instanceMethod ({ cls := "ColourOffice$Office", name := "placeOfReport", desc := "(I)I" } : Jvm.MethodName)) ∈ lw_all := lw_g (lw_at lw_m5 74 rfl) rfl
theorem q1145 : (Jvm.Cond.selects "ColourOffice$Office" ({ cls := "ColourOffice$Office", name := "placeOfReport", desc := "(I)I" } : Jvm.MethodName) ({ cls := "ColourOffice$Office", name := "placeOfReport", desc := "(I)I" } : Jvm.MethodName)) ∈ lw_all := lw_g (lw_at lw_m5 75 rfl) rfl
theorem q1146 : (Jvm.Cond.code ({ cls := "ColourOffice$Office", name := "placeOfReport", desc := "(I)I" } : Jvm.MethodName) prog_8_method_6_code (4 : Nat) (Option.some Jvm.ClassFile.FieldType.int)) ∈ lw_all := lw_g (lw_at lw_m5 76 rfl) rfl
theorem q1147 : (Jvm.Cond.interfaceEntry "ColourOffice$Office" (162 : Nat)) ∈ lw_tbl := lw_at lw_m5 77 rfl
theorem q1148 : (Jvm.Cond.methodLink "ColourOffice$Office" (162 : Nat) ({ cls := "java/util/List", name := "remove", desc := "(I)Ljava/lang/Object;" } : Jvm.MethodName)) ∈ lw_all := lw_g (lw_at lw_m5 78 rfl) rfl
theorem q1171 : (Jvm.Cond.instanceMethod ({ cls := "ColourOffice$Office", name := "discard", desc := "(I)I" } : Jvm.MethodName)) ∈ lw_all := lw_g (lw_at lw_m5 101 rfl) rfl
theorem q1172 : (Jvm.Cond.selects "ColourOffice$Office" ({ cls := "ColourOffice$Office", name := "discard", desc := "(I)I" } : Jvm.MethodName) ({ cls := "ColourOffice$Office", name := "discard", desc := "(I)I" } : Jvm.MethodName)) ∈ lw_all := lw_g (lw_at lw_m5 102 rfl) rfl
theorem q1173 : (Jvm.Cond.code ({ cls := "ColourOffice$Office", name := "discard", desc := "(I)I" } : Jvm.MethodName) prog_8_method_16_code (2 : Nat) (Option.some Jvm.ClassFile.FieldType.int)) ∈ lw_all := lw_g (lw_at lw_m5 103 rfl) rfl
theorem q1174 : (Jvm.Cond.methodLink "ColourOffice$Office" (165 : Nat) ({ cls := "ColourOffice$Office", name := "hasColour", desc := "(I)Z" } : Jvm.MethodName)) ∈ lw_all := lw_g (lw_at lw_m5 104 rfl) rfl
theorem q1175 : (Jvm.Cond.instanceMethod ({ cls := "ColourOffice$Office", name := "hasColour", desc := "(I)Z" } : Jvm.MethodName)) ∈ lw_all := lw_g (lw_at lw_m5 105 rfl) rfl
theorem q1176 : (Jvm.Cond.selects "ColourOffice$Office" ({ cls := "ColourOffice$Office", name := "hasColour", desc := "(I)Z" } : Jvm.MethodName) ({ cls := "ColourOffice$Office", name := "hasColour", desc := "(I)Z" } : Jvm.MethodName)) ∈ lw_all := lw_g (lw_at lw_m5 106 rfl) rfl
theorem q1177 : (Jvm.Cond.code ({ cls := "ColourOffice$Office", name := "hasColour", desc := "(I)Z" } : Jvm.MethodName) prog_8_method_4_code (2 : Nat) (Option.some Jvm.ClassFile.FieldType.boolean)) ∈ lw_all := lw_g (lw_at lw_m5 107 rfl) rfl
theorem q1178 : (Jvm.Cond.methodLink "ColourOffice$Office" (76 : Nat) ({ cls := "ColourOffice$Shelf", name := "placeOf", desc := "(I)I" } : Jvm.MethodName)) ∈ lw_all := lw_g (lw_at lw_m5 108 rfl) rfl
theorem q1182 : (Jvm.Cond.methodLink "ColourOffice$Office" (168 : Nat) ({ cls := "ColourOffice$Shelf", name := "remove", desc := "(I)V" } : Jvm.MethodName)) ∈ lw_all := lw_g (lw_at lw_m5 112 rfl) rfl
theorem q1188 : (Jvm.Cond.instanceMethod ({ cls := "ColourOffice$Office", name := "setMetric", desc := "(C)I" } : Jvm.MethodName)) ∈ lw_all := lw_g (lw_at lw_m5 118 rfl) rfl
theorem q1189 : (Jvm.Cond.selects "ColourOffice$Office" ({ cls := "ColourOffice$Office", name := "setMetric", desc := "(C)I" } : Jvm.MethodName) ({ cls := "ColourOffice$Office", name := "setMetric", desc := "(C)I" } : Jvm.MethodName)) ∈ lw_all := lw_g (lw_at lw_m5 119 rfl) rfl
theorem q1190 : (Jvm.Cond.code ({ cls := "ColourOffice$Office", name := "setMetric", desc := "(C)I" } : Jvm.MethodName) prog_8_method_17_code (3 : Nat) (Option.some Jvm.ClassFile.FieldType.int)) ∈ lw_all := lw_g (lw_at lw_m5 120 rfl) rfl
theorem q1191 : (Jvm.Cond.stringRef "ColourOffice$Office" (171 : Nat) "msg") ∈ lw_tbl := lw_at lw_m5 121 rfl
theorem q1192 : (Jvm.Cond.methodLink "ColourOffice$Office" (173 : Nat) ({ cls := "java/lang/String", name := "indexOf", desc := "(I)I" } : Jvm.MethodName)) ∈ lw_all := lw_g (lw_at lw_m5 122 rfl) rfl
theorem q1239 : (Jvm.Cond.instanceMethod ({ cls := "ColourOffice$Office", name := "giveBack", desc := "(II)I" } : Jvm.MethodName)) ∈ lw_all := lw_g (lw_at lw_m5 169 rfl) rfl
theorem q1240 : (Jvm.Cond.selects "ColourOffice$Office" ({ cls := "ColourOffice$Office", name := "giveBack", desc := "(II)I" } : Jvm.MethodName) ({ cls := "ColourOffice$Office", name := "giveBack", desc := "(II)I" } : Jvm.MethodName)) ∈ lw_all := lw_g (lw_at lw_m5 170 rfl) rfl
theorem q1241 : (Jvm.Cond.code ({ cls := "ColourOffice$Office", name := "giveBack", desc := "(II)I" } : Jvm.MethodName) prog_8_method_19_code (4 : Nat) (Option.some Jvm.ClassFile.FieldType.int)) ∈ lw_all := lw_g (lw_at lw_m5 171 rfl) rfl
theorem q1242 : (Jvm.Cond.methodLink "ColourOffice$Office" (181 : Nat) ({ cls := "ColourOffice$Office", name := "tree", desc := "()LColourOffice$Tree;" } : Jvm.MethodName)) ∈ lw_all := lw_g (lw_at lw_m5 172 rfl) rfl
theorem q1243 : (Jvm.Cond.instanceMethod ({ cls := "ColourOffice$Office", name := "tree", desc := "()LColourOffice$Tree;" } : Jvm.MethodName)) ∈ lw_all := lw_g (lw_at lw_m5 173 rfl) rfl
theorem q1244 : (Jvm.Cond.selects "ColourOffice$Office" ({ cls := "ColourOffice$Office", name := "tree", desc := "()LColourOffice$Tree;" } : Jvm.MethodName) ({ cls := "ColourOffice$Office", name := "tree", desc := "()LColourOffice$Tree;" } : Jvm.MethodName)) ∈ lw_all := lw_g (lw_at lw_m5 174 rfl) rfl
theorem q1245 : (Jvm.Cond.code ({ cls := "ColourOffice$Office", name := "tree", desc := "()LColourOffice$Tree;" } : Jvm.MethodName) prog_8_method_9_code (1 : Nat) (Option.some (Jvm.ClassFile.FieldType.object "ColourOffice$Tree"))) ∈ lw_all := lw_g (lw_at lw_m5 175 rfl) rfl
theorem q1246 : (Jvm.Cond.classLink "ColourOffice$Office" (90 : Nat) "ColourOffice$Tree") ∈ lw_all := lw_g (lw_at lw_m5 176 rfl) rfl
theorem q1248 : (Jvm.Cond.methodLink "ColourOffice$Office" (92 : Nat) ({ cls := "ColourOffice$Office", name := "metric", desc := "()LColourOffice$Metric;" } : Jvm.MethodName)) ∈ lw_all := lw_g (lw_at lw_m5 178 rfl) rfl
theorem q1249 : (Jvm.Cond.instanceMethod ({ cls := "ColourOffice$Office", name := "metric", desc := "()LColourOffice$Metric;" } : Jvm.MethodName)) ∈ lw_all := lw_g (lw_at lw_m5 179 rfl) rfl
theorem q1250 : (Jvm.Cond.selects "ColourOffice$Office" ({ cls := "ColourOffice$Office", name := "metric", desc := "()LColourOffice$Metric;" } : Jvm.MethodName) ({ cls := "ColourOffice$Office", name := "metric", desc := "()LColourOffice$Metric;" } : Jvm.MethodName)) ∈ lw_all := lw_g (lw_at lw_m5 180 rfl) rfl
theorem q1251 : (Jvm.Cond.code ({ cls := "ColourOffice$Office", name := "metric", desc := "()LColourOffice$Metric;" } : Jvm.MethodName) prog_8_method_3_code (1 : Nat) (Option.some (Jvm.ClassFile.FieldType.object "ColourOffice$Metric"))) ∈ lw_all := lw_g (lw_at lw_m5 181 rfl) rfl
theorem q1252 : (Jvm.Cond.methodLinkNest "ColourOffice$Office" (72 : Nat) ({ cls := "ColourOffice", name := "metricOf", desc := "(C)LColourOffice$Metric;" } : Jvm.MethodName) "ColourOffice") ∈ lw_tbl := lw_at lw_m5 182 rfl
theorem q1262 : (Jvm.Cond.methodLink "ColourOffice$Office" (95 : Nat) ({ cls := "ColourOffice$Tree", name := "<init>", desc := "(LColourOffice$Shelf;LColourOffice$Metric;)V" } : Jvm.MethodName)) ∈ lw_all := lw_g (lw_at lw_m5 192 rfl) rfl
theorem q1318 : (Jvm.Cond.methodLink "ColourOffice$Office" (98 : Nat) ({ cls := "ColourOffice$Office", name := "report", desc := "(I)LColourOffice$Report;" } : Jvm.MethodName)) ∈ lw_all := lw_g (lw_at lw_m6 8 rfl) rfl
theorem q1319 : (Jvm.Cond.instanceMethod ({ cls := "ColourOffice$Office", name := "report", desc := "(I)LColourOffice$Report;" } : Jvm.MethodName)) ∈ lw_all := lw_g (lw_at lw_m6 9 rfl) rfl
theorem q1320 : (Jvm.Cond.selects "ColourOffice$Office" ({ cls := "ColourOffice$Office", name := "report", desc := "(I)LColourOffice$Report;" } : Jvm.MethodName) ({ cls := "ColourOffice$Office", name := "report", desc := "(I)LColourOffice$Report;" } : Jvm.MethodName)) ∈ lw_all := lw_g (lw_at lw_m6 10 rfl) rfl
theorem q1321 : (Jvm.Cond.code ({ cls := "ColourOffice$Office", name := "report", desc := "(I)LColourOffice$Report;" } : Jvm.MethodName) prog_8_method_8_code (2 : Nat) (Option.some (Jvm.ClassFile.FieldType.object "ColourOffice$Report"))) ∈ lw_all := lw_g (lw_at lw_m6 11 rfl) rfl
theorem q1322 : (Jvm.Cond.methodLink "ColourOffice$Office" (185 : Nat) ({ cls := "ColourOffice$Tree", name := "nearest", desc := "(LColourOffice$Tint;)Ljava/util/Optional;" } : Jvm.MethodName)) ∈ lw_all := lw_g (lw_at lw_m6 12 rfl) rfl
theorem q1378 : (Jvm.Cond.methodLink "ColourOffice$Office" (189 : Nat) ({ cls := "java/util/Optional", name := "get", desc := "()Ljava/lang/Object;" } : Jvm.MethodName)) ∈ lw_all := lw_g (lw_at lw_m6 68 rfl) rfl
theorem q1388 : (Jvm.Cond.methodLink "ColourOffice$Office" (195 : Nat) ({ cls := "ColourOffice$Office", name := "fits", desc := "(II)Z" } : Jvm.MethodName)) ∈ lw_all := lw_g (lw_at lw_m6 78 rfl) rfl
theorem q1389 : (Jvm.Cond.instanceMethod ({ cls := "ColourOffice$Office", name := "fits", desc := "(II)Z" } : Jvm.MethodName)) ∈ lw_all := lw_g (lw_at lw_m6 79 rfl) rfl
theorem q1390 : (Jvm.Cond.selects "ColourOffice$Office" ({ cls := "ColourOffice$Office", name := "fits", desc := "(II)Z" } : Jvm.MethodName) ({ cls := "ColourOffice$Office", name := "fits", desc := "(II)Z" } : Jvm.MethodName)) ∈ lw_all := lw_g (lw_at lw_m6 80 rfl) rfl
theorem q1391 : (Jvm.Cond.code ({ cls := "ColourOffice$Office", name := "fits", desc := "(II)Z" } : Jvm.MethodName) prog_8_method_11_code (3 : Nat) (Option.some Jvm.ClassFile.FieldType.boolean)) ∈ lw_all := lw_g (lw_at lw_m6 81 rfl) rfl
theorem q1392 : (Jvm.Cond.methodLink "ColourOffice$Office" (116 : Nat) ({ cls := "ColourOffice$Office", name := "distanceFor", desc := "(II)I" } : Jvm.MethodName)) ∈ lw_all := lw_g (lw_at lw_m6 82 rfl) rfl
theorem q1393 : (Jvm.Cond.instanceMethod ({ cls := "ColourOffice$Office", name := "distanceFor", desc := "(II)I" } : Jvm.MethodName)) ∈ lw_all := lw_g (lw_at lw_m6 83 rfl) rfl
theorem q1394 : (Jvm.Cond.selects "ColourOffice$Office" ({ cls := "ColourOffice$Office", name := "distanceFor", desc := "(II)I" } : Jvm.MethodName) ({ cls := "ColourOffice$Office", name := "distanceFor", desc := "(II)I" } : Jvm.MethodName)) ∈ lw_all := lw_g (lw_at lw_m6 84 rfl) rfl
theorem q1395 : (Jvm.Cond.code ({ cls := "ColourOffice$Office", name := "distanceFor", desc := "(II)I" } : Jvm.MethodName) prog_8_method_10_code (3 : Nat) (Option.some Jvm.ClassFile.FieldType.int)) ∈ lw_all := lw_g (lw_at lw_m6 85 rfl) rfl
theorem q1396 : (Jvm.Cond.methodLink "ColourOffice$Office" (106 : Nat) ({ cls := "ColourOffice$Office", name := "colour", desc := "(I)LColourOffice$Found;" } : Jvm.MethodName)) ∈ lw_all := lw_g (lw_at lw_m6 86 rfl) rfl
theorem q1397 : (Jvm.Cond.instanceMethod ({ cls := "ColourOffice$Office", name := "colour", desc := "(I)LColourOffice$Found;" } : Jvm.MethodName)) ∈ lw_all := lw_g (lw_at lw_m6 87 rfl) rfl
theorem q1398 : (Jvm.Cond.selects "ColourOffice$Office" ({ cls := "ColourOffice$Office", name := "colour", desc := "(I)LColourOffice$Found;" } : Jvm.MethodName) ({ cls := "ColourOffice$Office", name := "colour", desc := "(I)LColourOffice$Found;" } : Jvm.MethodName)) ∈ lw_all := lw_g (lw_at lw_m6 88 rfl) rfl
theorem q1399 : (Jvm.Cond.code ({ cls := "ColourOffice$Office", name := "colour", desc := "(I)LColourOffice$Found;" } : Jvm.MethodName) prog_8_method_5_code (2 : Nat) (Option.some (Jvm.ClassFile.FieldType.object "ColourOffice$Found"))) ∈ lw_all := lw_g (lw_at lw_m6 89 rfl) rfl
theorem q1400 : (Jvm.Cond.methodLink "ColourOffice$Office" (80 : Nat) ({ cls := "ColourOffice$Shelf", name := "at", desc := "(I)LColourOffice$Found;" } : Jvm.MethodName)) ∈ lw_all := lw_g (lw_at lw_m6 90 rfl) rfl
theorem q1404 : (Jvm.Cond.methodLinkNest "ColourOffice$Office" (112 : Nat) ({ cls := "ColourOffice", name := "distance", desc := "(LColourOffice$Metric;LColourOffice$Tint;LColourOffice$Tint;)I" } : Jvm.MethodName) "ColourOffice") ∈ lw_tbl := lw_at lw_m6 94 rfl
theorem q1405 : (Jvm.Cond.methodLink "ColourOffice$Office" (199 : Nat) ({ cls := "ColourOffice$Office", name := "handOver", desc := "(II)I" } : Jvm.MethodName)) ∈ lw_all := lw_g (lw_at lw_m6 95 rfl) rfl
theorem q1406 : (Jvm.Cond.privateMethod ({ cls := "ColourOffice$Office", name := "handOver", desc := "(II)I" } : Jvm.MethodName)) ∈ lw_tbl := lw_at lw_m6 96 rfl
theorem q1407 : (Jvm.Cond.instanceMethod ({ cls := "ColourOffice$Office", name := "handOver", desc := "(II)I" } : Jvm.MethodName)) ∈ lw_all := lw_g (lw_at lw_m6 97 rfl) rfl
theorem q1408 : (Jvm.Cond.code ({ cls := "ColourOffice$Office", name := "handOver", desc := "(II)I" } : Jvm.MethodName) prog_8_method_18_code (4 : Nat) (Option.some Jvm.ClassFile.FieldType.int)) ∈ lw_all := lw_g (lw_at lw_m6 98 rfl) rfl
theorem q1410 : (Jvm.Cond.instanceMethod ({ cls := "ColourOffice$Office", name := "settle", desc := "()I" } : Jvm.MethodName)) ∈ lw_all := lw_g (lw_at lw_m6 100 rfl) rfl
theorem q1411 : (Jvm.Cond.selects "ColourOffice$Office" ({ cls := "ColourOffice$Office", name := "settle", desc := "()I" } : Jvm.MethodName) ({ cls := "ColourOffice$Office", name := "settle", desc := "()I" } : Jvm.MethodName)) ∈ lw_all := lw_g (lw_at lw_m6 101 rfl) rfl
theorem q1412 : (Jvm.Cond.code ({ cls := "ColourOffice$Office", name := "settle", desc := "()I" } : Jvm.MethodName) prog_8_method_21_code (5 : Nat) (Option.some Jvm.ClassFile.FieldType.int)) ∈ lw_all := lw_g (lw_at lw_m6 102 rfl) rfl
theorem q1413 : (Jvm.Cond.methodLink "ColourOffice$Office" (207 : Nat) ({ cls := "ColourOffice$Office", name := "settlement", desc := "()LColourOffice$Settlement;" } : Jvm.MethodName)) ∈ lw_all := lw_g (lw_at lw_m6 103 rfl) rfl
theorem q1414 : (Jvm.Cond.instanceMethod ({ cls := "ColourOffice$Office", name := "settlement", desc := "()LColourOffice$Settlement;" } : Jvm.MethodName)) ∈ lw_all := lw_g (lw_at lw_m6 104 rfl) rfl
theorem q1415 : (Jvm.Cond.selects "ColourOffice$Office" ({ cls := "ColourOffice$Office", name := "settlement", desc := "()LColourOffice$Settlement;" } : Jvm.MethodName) ({ cls := "ColourOffice$Office", name := "settlement", desc := "()LColourOffice$Settlement;" } : Jvm.MethodName)) ∈ lw_all := lw_g (lw_at lw_m6 105 rfl) rfl
theorem q1416 : (Jvm.Cond.code ({ cls := "ColourOffice$Office", name := "settlement", desc := "()LColourOffice$Settlement;" } : Jvm.MethodName) prog_8_method_20_code (1 : Nat) (Option.some (Jvm.ClassFile.FieldType.object "ColourOffice$Settlement"))) ∈ lw_all := lw_g (lw_at lw_m6 106 rfl) rfl
theorem q1417 : (Jvm.Cond.classLink "ColourOffice$Office" (202 : Nat) "ColourOffice$Settlement") ∈ lw_all := lw_g (lw_at lw_m6 107 rfl) rfl
theorem q1419 : (Jvm.Cond.methodLink "ColourOffice$Office" (204 : Nat) ({ cls := "ColourOffice$Settlement", name := "<init>", desc := "(Ljava/util/List;LColourOffice$Shelf;LColourOffice$Metric;)V" } : Jvm.MethodName)) ∈ lw_all := lw_g (lw_at lw_m6 109 rfl) rfl
theorem q1444 : (Jvm.Cond.methodLink "ColourOffice$Office" (211 : Nat) ({ cls := "ColourOffice$Settlement", name := "colours", desc := "()[I" } : Jvm.MethodName)) ∈ lw_all := lw_g (lw_at lw_m6 134 rfl) rfl
theorem q1473 : (Jvm.Cond.instanceMethod ({ cls := "ColourOffice$Office", name := "mix", desc := "(II)I" } : Jvm.MethodName)) ∈ lw_all := lw_g (lw_at lw_m6 163 rfl) rfl
theorem q1474 : (Jvm.Cond.selects "ColourOffice$Office" ({ cls := "ColourOffice$Office", name := "mix", desc := "(II)I" } : Jvm.MethodName) ({ cls := "ColourOffice$Office", name := "mix", desc := "(II)I" } : Jvm.MethodName)) ∈ lw_all := lw_g (lw_at lw_m6 164 rfl) rfl
theorem q1475 : (Jvm.Cond.code ({ cls := "ColourOffice$Office", name := "mix", desc := "(II)I" } : Jvm.MethodName) prog_8_method_22_code (5 : Nat) (Option.some Jvm.ClassFile.FieldType.int)) ∈ lw_all := lw_g (lw_at lw_m6 165 rfl) rfl
theorem q1476 : (Jvm.Cond.methodLink "ColourOffice$Office" (215 : Nat) ({ cls := "ColourOffice$Tint", name := "mixedWith", desc := "(LColourOffice$Tint;)LColourOffice$Tint;" } : Jvm.MethodName)) ∈ lw_all := lw_g (lw_at lw_m6 166 rfl) rfl
theorem q1487 : (Jvm.Cond.methodLink "ColourOffice$Office" (222 : Nat) ({ cls := "java/lang/Math", name := "min", desc := "(II)I" } : Jvm.MethodName)) ∈ lw_all := lw_g (lw_at lw_m6 177 rfl) rfl
theorem q1489 : (Jvm.Cond.instanceMethod ({ cls := "ColourOffice$Office", name := "passDays", desc := "(I)I" } : Jvm.MethodName)) ∈ lw_all := lw_g (lw_at lw_m6 179 rfl) rfl
theorem q1490 : (Jvm.Cond.selects "ColourOffice$Office" ({ cls := "ColourOffice$Office", name := "passDays", desc := "(I)I" } : Jvm.MethodName) ({ cls := "ColourOffice$Office", name := "passDays", desc := "(I)I" } : Jvm.MethodName)) ∈ lw_all := lw_g (lw_at lw_m6 180 rfl) rfl
theorem q1491 : (Jvm.Cond.code ({ cls := "ColourOffice$Office", name := "passDays", desc := "(I)I" } : Jvm.MethodName) prog_8_method_23_code (4 : Nat) (Option.some Jvm.ClassFile.FieldType.int)) ∈ lw_all := lw_g (lw_at lw_m6 181 rfl) rfl
theorem q1492 : (Jvm.Cond.methodLink "ColourOffice$Office" (227 : Nat) ({ cls := "ColourOffice$Found", name := "passDay", desc := "()V" } : Jvm.MethodName)) ∈ lw_all := lw_g (lw_at lw_m6 182 rfl) rfl
theorem q1507 : (Jvm.Cond.methodLink "ColourOffice$Office" (230 : Nat) ({ cls := "ColourOffice$Office", name := "greyCount", desc := "()I" } : Jvm.MethodName)) ∈ lw_all := lw_g (lw_at lw_m6 197 rfl) rfl
theorem q1508 : (Jvm.Cond.instanceMethod ({ cls := "ColourOffice$Office", name := "greyCount", desc := "()I" } : Jvm.MethodName)) ∈ lw_all := lw_g (lw_at lw_m6 198 rfl) rfl
theorem q1509 : (Jvm.Cond.selects "ColourOffice$Office" ({ cls := "ColourOffice$Office", name := "greyCount", desc := "()I" } : Jvm.MethodName) ({ cls := "ColourOffice$Office", name := "greyCount", desc := "()I" } : Jvm.MethodName)) ∈ lw_all := lw_g (lw_at lw_m6 199 rfl) rfl
theorem q1510 : (Jvm.Cond.code ({ cls := "ColourOffice$Office", name := "greyCount", desc := "()I" } : Jvm.MethodName) prog_8_method_24_code (4 : Nat) (Option.some Jvm.ClassFile.FieldType.int)) ∈ lw_all := lw_g (lw_at lw_m6 200 rfl) rfl
theorem q1511 : (Jvm.Cond.methodLink "ColourOffice$Office" (233 : Nat) ({ cls := "ColourOffice$Shelf", name := "iterator", desc := "()Ljava/util/Iterator;" } : Jvm.MethodName)) ∈ lw_all := lw_g (lw_at lw_m6 201 rfl) rfl
theorem q1512 : (Jvm.Cond.interfaceEntry "ColourOffice$Office" (237 : Nat)) ∈ lw_tbl := lw_at lw_m6 202 rfl
theorem q1513 : (Jvm.Cond.methodLink "ColourOffice$Office" (237 : Nat) ({ cls := "java/util/Iterator", name := "hasNext", desc := "()Z" } : Jvm.MethodName)) ∈ lw_all := lw_g (lw_at lw_m6 203 rfl) rfl
theorem q1514 : (Jvm.Cond.interfaceEntry "ColourOffice$Office" (243 : Nat)) ∈ lw_tbl := lw_at lw_m6 204 rfl
theorem q1515 : (Jvm.Cond.methodLink "ColourOffice$Office" (243 : Nat) ({ cls := "java/util/Iterator", name := "next", desc := "()Ljava/lang/Object;" } : Jvm.MethodName)) ∈ lw_all := lw_g (lw_at lw_m6 205 rfl) rfl
theorem q1516 : (Jvm.Cond.methodLink "ColourOffice$Office" (246 : Nat) ({ cls := "ColourOffice$Tint", name := "isGrey", desc := "()Z" } : Jvm.MethodName)) ∈ lw_all := lw_g (lw_at lw_m6 206 rfl) rfl
theorem q1636 : (Jvm.Cond.instanceMethod ({ cls := "ColourOffice$Office", name := "coinsByAccounts", desc := "()I" } : Jvm.MethodName)) ∈ lw_all := lw_g (lw_at lw_m7 86 rfl) rfl
theorem q1637 : (Jvm.Cond.selects "ColourOffice$Office" ({ cls := "ColourOffice$Office", name := "coinsByAccounts", desc := "()I" } : Jvm.MethodName) ({ cls := "ColourOffice$Office", name := "coinsByAccounts", desc := "()I" } : Jvm.MethodName)) ∈ lw_all := lw_g (lw_at lw_m7 87 rfl) rfl
theorem q1638 : (Jvm.Cond.code ({ cls := "ColourOffice$Office", name := "coinsByAccounts", desc := "()I" } : Jvm.MethodName) prog_8_method_31_code (1 : Nat) (Option.some Jvm.ClassFile.FieldType.int)) ∈ lw_all := lw_g (lw_at lw_m7 88 rfl) rfl
theorem q1648 : (Jvm.Cond.instanceMethod ({ cls := "ColourOffice$Office", name := "isConsistent", desc := "()Z" } : Jvm.MethodName)) ∈ lw_all := lw_g (lw_at lw_m7 98 rfl) rfl
theorem q1649 : (Jvm.Cond.selects "ColourOffice$Office" ({ cls := "ColourOffice$Office", name := "isConsistent", desc := "()Z" } : Jvm.MethodName) ({ cls := "ColourOffice$Office", name := "isConsistent", desc := "()Z" } : Jvm.MethodName)) ∈ lw_all := lw_g (lw_at lw_m7 99 rfl) rfl
theorem q1650 : (Jvm.Cond.code ({ cls := "ColourOffice$Office", name := "isConsistent", desc := "()Z" } : Jvm.MethodName) prog_8_method_34_code (3 : Nat) (Option.some Jvm.ClassFile.FieldType.boolean)) ∈ lw_all := lw_g (lw_at lw_m7 100 rfl) rfl
theorem q1651 : (Jvm.Cond.methodLink "ColourOffice$Office" (296 : Nat) ({ cls := "ColourOffice$Office", name := "areNearestAlike", desc := "()Z" } : Jvm.MethodName)) ∈ lw_all := lw_g (lw_at lw_m7 101 rfl) rfl
theorem q1652 : (Jvm.Cond.privateMethod ({ cls := "ColourOffice$Office", name := "areNearestAlike", desc := "()Z" } : Jvm.MethodName)) ∈ lw_tbl := lw_at lw_m7 102 rfl
theorem q1653 : (Jvm.Cond.instanceMethod ({ cls := "ColourOffice$Office", name := "areNearestAlike", desc := "()Z" } : Jvm.MethodName)) ∈ lw_all := lw_g (lw_at lw_m7 103 rfl) rfl
theorem q1654 : (Jvm.Cond.code ({ cls := "ColourOffice$Office", name := "areNearestAlike", desc := "()Z" } : Jvm.MethodName) prog_8_method_32_code (5 : Nat) (Option.some Jvm.ClassFile.FieldType.boolean)) ∈ lw_all := lw_g (lw_at lw_m7 104 rfl) rfl
theorem q1655 : (Jvm.Cond.methodLink "ColourOffice$Office" (281 : Nat) ({ cls := "ColourOffice$Tree", name := "nearestByLooking", desc := "(LColourOffice$Tint;)Ljava/util/Optional;" } : Jvm.MethodName)) ∈ lw_all := lw_g (lw_at lw_m7 105 rfl) rfl
theorem q1665 : (Jvm.Cond.methodLink "ColourOffice$Office" (299 : Nat) ({ cls := "ColourOffice$Office", name := "arePalettesAlike", desc := "()Z" } : Jvm.MethodName)) ∈ lw_all := lw_g (lw_at lw_m7 115 rfl) rfl
theorem q1666 : (Jvm.Cond.privateMethod ({ cls := "ColourOffice$Office", name := "arePalettesAlike", desc := "()Z" } : Jvm.MethodName)) ∈ lw_tbl := lw_at lw_m7 116 rfl
theorem q1667 : (Jvm.Cond.instanceMethod ({ cls := "ColourOffice$Office", name := "arePalettesAlike", desc := "()Z" } : Jvm.MethodName)) ∈ lw_all := lw_g (lw_at lw_m7 117 rfl) rfl
theorem q1668 : (Jvm.Cond.code ({ cls := "ColourOffice$Office", name := "arePalettesAlike", desc := "()Z" } : Jvm.MethodName) prog_8_method_33_code (4 : Nat) (Option.some Jvm.ClassFile.FieldType.boolean)) ∈ lw_all := lw_g (lw_at lw_m7 118 rfl) rfl
theorem q1669 : (Jvm.Cond.classLink "ColourOffice$Office" (284 : Nat) "ColourOffice$Palettes") ∈ lw_all := lw_g (lw_at lw_m7 119 rfl) rfl
theorem q1671 : (Jvm.Cond.methodLink "ColourOffice$Office" (286 : Nat) ({ cls := "ColourOffice$Palettes", name := "<init>", desc := "(LColourOffice$Shelf;LColourOffice$Metric;)V" } : Jvm.MethodName)) ∈ lw_all := lw_g (lw_at lw_m7 121 rfl) rfl
theorem q1688 : (Jvm.Cond.methodLink "ColourOffice$Office" (287 : Nat) ({ cls := "ColourOffice$Palettes", name := "best", desc := "(I)I" } : Jvm.MethodName)) ∈ lw_all := lw_g (lw_at lw_m7 138 rfl) rfl
theorem q1707 : (Jvm.Cond.methodLink "ColourOffice$Office" (290 : Nat) ({ cls := "ColourOffice$Palettes", name := "error", desc := "(I)I" } : Jvm.MethodName)) ∈ lw_all := lw_g (lw_at lw_m7 157 rfl) rfl
theorem q1708 : (Jvm.Cond.methodLink "ColourOffice$Office" (293 : Nat) ({ cls := "ColourOffice$Palettes", name := "leastError", desc := "(I)I" } : Jvm.MethodName)) ∈ lw_all := lw_g (lw_at lw_m7 158 rfl) rfl
theorem q1720 : (Jvm.Cond.methodLink "ColourOffice$Office" (302 : Nat) ({ cls := "ColourOffice$Office", name := "coinsByAccounts", desc := "()I" } : Jvm.MethodName)) ∈ lw_all := lw_g (lw_at lw_m7 170 rfl) rfl
theorem q1721 : (Jvm.Cond.methodLink "ColourOffice$Office" (305 : Nat) ({ cls := "ColourOffice$Office", name := "closestDistance", desc := "()I" } : Jvm.MethodName)) ∈ lw_all := lw_g (lw_at lw_m7 171 rfl) rfl
theorem q1722 : (Jvm.Cond.instanceMethod ({ cls := "ColourOffice$Office", name := "closestDistance", desc := "()I" } : Jvm.MethodName)) ∈ lw_all := lw_g (lw_at lw_m7 172 rfl) rfl
theorem q1723 : (Jvm.Cond.selects "ColourOffice$Office" ({ cls := "ColourOffice$Office", name := "closestDistance", desc := "()I" } : Jvm.MethodName) ({ cls := "ColourOffice$Office", name := "closestDistance", desc := "()I" } : Jvm.MethodName)) ∈ lw_all := lw_g (lw_at lw_m7 173 rfl) rfl
theorem q1724 : (Jvm.Cond.code ({ cls := "ColourOffice$Office", name := "closestDistance", desc := "()I" } : Jvm.MethodName) prog_8_method_27_code (5 : Nat) (Option.some Jvm.ClassFile.FieldType.int)) ∈ lw_all := lw_g (lw_at lw_m7 174 rfl) rfl
theorem q1725 : (Jvm.Cond.constant "ColourOffice$Office" (252 : Nat) (1000000 : Int32)) ∈ lw_all := lw_g (lw_at lw_m7 175 rfl) rfl
theorem q1726 : (Jvm.Cond.methodLink "ColourOffice$Office" (308 : Nat) ({ cls := "ColourOffice$Office", name := "closestDistanceBySorting", desc := "()I" } : Jvm.MethodName)) ∈ lw_all := lw_g (lw_at lw_m7 176 rfl) rfl
theorem q1727 : (Jvm.Cond.instanceMethod ({ cls := "ColourOffice$Office", name := "closestDistanceBySorting", desc := "()I" } : Jvm.MethodName)) ∈ lw_all := lw_g (lw_at lw_m7 177 rfl) rfl
theorem q1728 : (Jvm.Cond.selects "ColourOffice$Office" ({ cls := "ColourOffice$Office", name := "closestDistanceBySorting", desc := "()I" } : Jvm.MethodName) ({ cls := "ColourOffice$Office", name := "closestDistanceBySorting", desc := "()I" } : Jvm.MethodName)) ∈ lw_all := lw_g (lw_at lw_m7 178 rfl) rfl
theorem q1729 : (Jvm.Cond.code ({ cls := "ColourOffice$Office", name := "closestDistanceBySorting", desc := "()I" } : Jvm.MethodName) prog_8_method_28_code (6 : Nat) (Option.some Jvm.ClassFile.FieldType.int)) ∈ lw_all := lw_g (lw_at lw_m7 179 rfl) rfl
theorem q1730 : (Jvm.Cond.methodLink "ColourOffice$Office" (253 : Nat) ({ cls := "ColourOffice$Office", name := "sortedByRed", desc := "()Ljava/util/List;" } : Jvm.MethodName)) ∈ lw_all := lw_g (lw_at lw_m7 180 rfl) rfl
theorem q1731 : (Jvm.Cond.privateMethod ({ cls := "ColourOffice$Office", name := "sortedByRed", desc := "()Ljava/util/List;" } : Jvm.MethodName)) ∈ lw_tbl := lw_at lw_m7 181 rfl
theorem q1732 : (Jvm.Cond.instanceMethod ({ cls := "ColourOffice$Office", name := "sortedByRed", desc := "()Ljava/util/List;" } : Jvm.MethodName)) ∈ lw_all := lw_g (lw_at lw_m7 182 rfl) rfl
theorem q1733 : (Jvm.Cond.code ({ cls := "ColourOffice$Office", name := "sortedByRed", desc := "()Ljava/util/List;" } : Jvm.MethodName) prog_8_method_30_code (4 : Nat) (Option.some (Jvm.ClassFile.FieldType.object "java/util/List"))) ∈ lw_all := lw_g (lw_at lw_m7 183 rfl) rfl
theorem q1734 : (Jvm.Cond.classLink "ColourOffice$Office" (269 : Nat) "ColourOffice$Office$1Sorted") ∈ lw_all := lw_g (lw_at lw_m7 184 rfl) rfl
theorem q1736 : (Jvm.Cond.methodLink "ColourOffice$Office" (271 : Nat) ({ cls := "ColourOffice$Office$1Sorted", name := "<init>", desc := "(LColourOffice$Office;)V" } : Jvm.MethodName)) ∈ lw_all := lw_g (lw_at lw_m7 186 rfl) rfl
theorem q1743 : (Jvm.Cond.fieldLinkNest "ColourOffice$Office" (278 : Nat) "ColourOffice$Office$1Sorted" "tints" "Ljava/util/List;" "ColourOffice") ∈ lw_tbl := lw_at lw_m7 193 rfl
theorem q1750 : (Jvm.Cond.methodLink "ColourOffice$Office" (274 : Nat) ({ cls := "ColourOffice$Office$1Sorted", name := "insert", desc := "(LColourOffice$Tint;)V" } : Jvm.MethodName)) ∈ lw_all := lw_g (lw_at lw_m7 200 rfl) rfl
theorem q1803 : (Jvm.Cond.methodLink "ColourOffice$Office" (257 : Nat) ({ cls := "ColourOffice$Office", name := "redBound", desc := "(LColourOffice$Metric;LColourOffice$Tint;LColourOffice$Tint;)I" } : Jvm.MethodName)) ∈ lw_all := lw_g (lw_at lw_m8 13 rfl) rfl
theorem q1804 : (Jvm.Cond.static ({ cls := "ColourOffice$Office", name := "redBound", desc := "(LColourOffice$Metric;LColourOffice$Tint;LColourOffice$Tint;)I" } : Jvm.MethodName)) ∈ lw_all := lw_g (lw_at lw_m8 14 rfl) rfl
theorem q1805 : (Jvm.Cond.code ({ cls := "ColourOffice$Office", name := "redBound", desc := "(LColourOffice$Metric;LColourOffice$Tint;LColourOffice$Tint;)I" } : Jvm.MethodName) prog_8_method_29_code (3 : Nat) (Option.some Jvm.ClassFile.FieldType.int)) ∈ lw_all := lw_g (lw_at lw_m8 15 rfl) rfl
theorem q1806 : (Jvm.Cond.methodLink "ColourOffice$Office" (260 : Nat) ({ cls := "ColourOffice$Tint", name := "difference", desc := "(LColourOffice$Tint;I)I" } : Jvm.MethodName)) ∈ lw_all := lw_g (lw_at lw_m8 16 rfl) rfl
theorem q1807 : (Jvm.Cond.interfaceEntry "ColourOffice$Office" (263 : Nat)) ∈ lw_tbl := lw_at lw_m8 17 rfl
theorem q1808 : (Jvm.Cond.methodLink "ColourOffice$Office" (263 : Nat) ({ cls := "ColourOffice$Metric", name := "combine", desc := "(III)I" } : Jvm.MethodName)) ∈ lw_all := lw_g (lw_at lw_m8 18 rfl) rfl
theorem q1809 : (Jvm.Cond.methodLink "ColourOffice$Office" (311 : Nat) ({ cls := "ColourOffice$Settlement", name := "best", desc := "()J" } : Jvm.MethodName)) ∈ lw_all := lw_g (lw_at lw_m8 19 rfl) rfl
theorem q1810 : (Jvm.Cond.methodLink "ColourOffice$Office" (314 : Nat) ({ cls := "ColourOffice$Settlement", name := "bestByTrying", desc := "(II)J" } : Jvm.MethodName)) ∈ lw_all := lw_g (lw_at lw_m8 20 rfl) rfl
theorem q1963 : (Jvm.Cond.instanceMethod ({ cls := "ColourOffice$Office", name := "colourAt", desc := "(I)I" } : Jvm.MethodName)) ∈ lw_all := lw_g (lw_at lw_m8 173 rfl) rfl
theorem q1964 : (Jvm.Cond.selects "ColourOffice$Office" ({ cls := "ColourOffice$Office", name := "colourAt", desc := "(I)I" } : Jvm.MethodName) ({ cls := "ColourOffice$Office", name := "colourAt", desc := "(I)I" } : Jvm.MethodName)) ∈ lw_all := lw_g (lw_at lw_m8 174 rfl) rfl
theorem q1965 : (Jvm.Cond.code ({ cls := "ColourOffice$Office", name := "colourAt", desc := "(I)I" } : Jvm.MethodName) prog_8_method_26_code (8 : Nat) (Option.some Jvm.ClassFile.FieldType.int)) ∈ lw_all := lw_g (lw_at lw_m8 175 rfl) rfl
theorem q1966 : (Jvm.Cond.methodLink "ColourOffice$Office" (249 : Nat) ({ cls := "ColourOffice$Tint", name := "sum", desc := "()I" } : Jvm.MethodName)) ∈ lw_all := lw_g (lw_at lw_m8 176 rfl) rfl
theorem q2153 : (Jvm.Cond.instanceMethod ({ cls := "ColourOffice$Office", name := "brightness", desc := "()I" } : Jvm.MethodName)) ∈ lw_all := lw_g (lw_at lw_m9 123 rfl) rfl
theorem q2154 : (Jvm.Cond.selects "ColourOffice$Office" ({ cls := "ColourOffice$Office", name := "brightness", desc := "()I" } : Jvm.MethodName) ({ cls := "ColourOffice$Office", name := "brightness", desc := "()I" } : Jvm.MethodName)) ∈ lw_all := lw_g (lw_at lw_m9 124 rfl) rfl
theorem q2155 : (Jvm.Cond.code ({ cls := "ColourOffice$Office", name := "brightness", desc := "()I" } : Jvm.MethodName) prog_8_method_25_code (4 : Nat) (Option.some Jvm.ClassFile.FieldType.int)) ∈ lw_all := lw_g (lw_at lw_m9 125 rfl) rfl
theorem q2398 : (Jvm.Cond.selects "ColourOffice$Office" ({ cls := "java/lang/Object", name := "toString", desc := "()Ljava/lang/String;" } : Jvm.MethodName) ({ cls := "java/lang/Object", name := "toString", desc := "()Ljava/lang/String;" } : Jvm.MethodName)) ∈ lw_all := lw_g (lw_at lw_m10 128 rfl) rfl
theorem q3310 : (Jvm.Cond.castable "ColourOffice$Office" "java/lang/Object") ∈ lw_tbl := lw_at lw_m14 80 rfl
theorem q113 : (Jvm.Cond.initialized "ColourOffice$Shelf") ∈ lw_all := lw_g (lw_at lw_m1 3 rfl) rfl
theorem q179 : (Jvm.Cond.instantiable "ColourOffice$Shelf" (2 : Nat)) ∈ lw_all := lw_g (lw_at lw_m1 69 rfl) rfl
theorem q181 : (Jvm.Cond.instanceMethod ({ cls := "ColourOffice$Shelf", name := "<init>", desc := "()V" } : Jvm.MethodName)) ∈ lw_all := lw_g (lw_at lw_m1 71 rfl) rfl
theorem q182 : (Jvm.Cond.code ({ cls := "ColourOffice$Shelf", name := "<init>", desc := "()V" } : Jvm.MethodName) prog_15_method_1_code (1 : Nat) (Option.none : Option Jvm.ClassFile.FieldType)) ∈ lw_all := lw_g (lw_at lw_m1 72 rfl) rfl
theorem q183 : (Jvm.Cond.methodLink "ColourOffice$Shelf" (3 : Nat) ({ cls := "java/lang/Object", name := "<init>", desc := "()V" } : Jvm.MethodName)) ∈ lw_all := lw_g (lw_at lw_m1 73 rfl) rfl
theorem q184 : (Jvm.Cond.classLink "ColourOffice$Shelf" (9 : Nat) "ColourOffice$Found") ∈ lw_all := lw_g (lw_at lw_m1 74 rfl) rfl
theorem q186 : (Jvm.Cond.fieldLink "ColourOffice$Shelf" (11 : Nat) "ColourOffice$Shelf" "places" "[LColourOffice$Found;") ∈ lw_all := lw_g (lw_at lw_m1 76 rfl) rfl
theorem q189 : (Jvm.Cond.fieldLink "ColourOffice$Shelf" (22 : Nat) "ColourOffice$Shelf" "count" "I") ∈ lw_all := lw_g (lw_at lw_m1 79 rfl) rfl
theorem q190 : (Jvm.Cond.laysFinal "ColourOffice$Shelf" "ColourOffice$Shelf" "places" "[LColourOffice$Found;") ∈ lw_all := lw_g (lw_at lw_m1 80 rfl) rfl
theorem q191 : (Jvm.Cond.soleField "ColourOffice$Shelf" "places") ∈ lw_all := lw_g (lw_at lw_m1 81 rfl) rfl
theorem q192 : (Jvm.Cond.lays "ColourOffice$Shelf" "ColourOffice$Shelf" "count" "I") ∈ lw_all := lw_g (lw_at lw_m1 82 rfl) rfl
theorem q193 : (Jvm.Cond.soleField "ColourOffice$Shelf" "count") ∈ lw_all := lw_g (lw_at lw_m1 83 rfl) rfl
theorem q194 : (Jvm.Cond.superclass "ColourOffice$Shelf" "java/lang/Object") ∈ lw_all := lw_g (lw_at lw_m1 84 rfl) rfl
theorem q366 : (Jvm.Cond.instanceMethod ({ cls := "ColourOffice$Shelf", name := "copy", desc := "()LColourOffice$Shelf;" } : Jvm.MethodName)) ∈ lw_all := lw_g (lw_at lw_m2 16 rfl) rfl
theorem q367 : (Jvm.Cond.selects "ColourOffice$Shelf" ({ cls := "ColourOffice$Shelf", name := "copy", desc := "()LColourOffice$Shelf;" } : Jvm.MethodName) ({ cls := "ColourOffice$Shelf", name := "copy", desc := "()LColourOffice$Shelf;" } : Jvm.MethodName)) ∈ lw_all := lw_g (lw_at lw_m2 17 rfl) rfl
theorem q368 : (Jvm.Cond.code ({ cls := "ColourOffice$Shelf", name := "copy", desc := "()LColourOffice$Shelf;" } : Jvm.MethodName) prog_15_method_8_code (4 : Nat) (Option.some (Jvm.ClassFile.FieldType.object "ColourOffice$Shelf"))) ∈ lw_all := lw_g (lw_at lw_m2 18 rfl) rfl
theorem q369 : (Jvm.Cond.classLink "ColourOffice$Shelf" (12 : Nat) "ColourOffice$Shelf") ∈ lw_all := lw_g (lw_at lw_m2 19 rfl) rfl
theorem q370 : (Jvm.Cond.methodLink "ColourOffice$Shelf" (33 : Nat) ({ cls := "ColourOffice$Shelf", name := "<init>", desc := "()V" } : Jvm.MethodName)) ∈ lw_all := lw_g (lw_at lw_m2 20 rfl) rfl
theorem q371 : (Jvm.Cond.methodLink "ColourOffice$Shelf" (34 : Nat) ({ cls := "ColourOffice$Shelf", name := "iterator", desc := "()Ljava/util/Iterator;" } : Jvm.MethodName)) ∈ lw_all := lw_g (lw_at lw_m2 21 rfl) rfl
theorem q372 : (Jvm.Cond.instanceMethod ({ cls := "ColourOffice$Shelf", name := "iterator", desc := "()Ljava/util/Iterator;" } : Jvm.MethodName)) ∈ lw_all := lw_g (lw_at lw_m2 22 rfl) rfl
theorem q373 : (Jvm.Cond.selects "ColourOffice$Shelf" ({ cls := "ColourOffice$Shelf", name := "iterator", desc := "()Ljava/util/Iterator;" } : Jvm.MethodName) ({ cls := "ColourOffice$Shelf", name := "iterator", desc := "()Ljava/util/Iterator;" } : Jvm.MethodName)) ∈ lw_all := lw_g (lw_at lw_m2 23 rfl) rfl
theorem q374 : (Jvm.Cond.code ({ cls := "ColourOffice$Shelf", name := "iterator", desc := "()Ljava/util/Iterator;" } : Jvm.MethodName) prog_15_method_2_code (1 : Nat) (Option.some (Jvm.ClassFile.FieldType.object "java/util/Iterator"))) ∈ lw_all := lw_g (lw_at lw_m2 24 rfl) rfl
theorem q375 : (Jvm.Cond.classLink "ColourOffice$Shelf" (17 : Nat) "ColourOffice$Shelf$Walk") ∈ lw_all := lw_g (lw_at lw_m2 25 rfl) rfl
theorem q377 : (Jvm.Cond.methodLinkNest "ColourOffice$Shelf" (19 : Nat) ({ cls := "ColourOffice$Shelf$Walk", name := "<init>", desc := "(LColourOffice$Shelf;)V" } : Jvm.MethodName) "ColourOffice") ∈ lw_tbl := lw_at lw_m2 27 rfl
theorem q389 : (Jvm.Cond.interfaceEntry "ColourOffice$Shelf" (38 : Nat)) ∈ lw_tbl := lw_at lw_m2 39 rfl
theorem q390 : (Jvm.Cond.methodLink "ColourOffice$Shelf" (38 : Nat) ({ cls := "java/util/Iterator", name := "hasNext", desc := "()Z" } : Jvm.MethodName)) ∈ lw_all := lw_g (lw_at lw_m2 40 rfl) rfl
theorem q399 : (Jvm.Cond.interfaceEntry "ColourOffice$Shelf" (44 : Nat)) ∈ lw_tbl := lw_at lw_m2 49 rfl
theorem q400 : (Jvm.Cond.methodLink "ColourOffice$Shelf" (44 : Nat) ({ cls := "java/util/Iterator", name := "next", desc := "()Ljava/lang/Object;" } : Jvm.MethodName)) ∈ lw_all := lw_g (lw_at lw_m2 50 rfl) rfl
theorem q485 : (Jvm.Cond.methodLink "ColourOffice$Shelf" (48 : Nat) ({ cls := "ColourOffice$Found", name := "copy", desc := "()LColourOffice$Found;" } : Jvm.MethodName)) ∈ lw_all := lw_g (lw_at lw_m2 135 rfl) rfl
theorem q497 : (Jvm.Cond.fieldLinkNest "ColourOffice$Shelf" (26 : Nat) "ColourOffice$Found" "id" "I" "ColourOffice") ∈ lw_tbl := lw_at lw_m2 147 rfl
theorem q521 : (Jvm.Cond.methodLink "ColourOffice$Shelf" (52 : Nat) ({ cls := "ColourOffice$Shelf", name := "add", desc := "(LColourOffice$Found;)V" } : Jvm.MethodName)) ∈ lw_all := lw_g (lw_at lw_m2 171 rfl) rfl
theorem q522 : (Jvm.Cond.instanceMethod ({ cls := "ColourOffice$Shelf", name := "add", desc := "(LColourOffice$Found;)V" } : Jvm.MethodName)) ∈ lw_all := lw_g (lw_at lw_m2 172 rfl) rfl
theorem q523 : (Jvm.Cond.selects "ColourOffice$Shelf" ({ cls := "ColourOffice$Shelf", name := "add", desc := "(LColourOffice$Found;)V" } : Jvm.MethodName) ({ cls := "ColourOffice$Shelf", name := "add", desc := "(LColourOffice$Found;)V" } : Jvm.MethodName)) ∈ lw_all := lw_g (lw_at lw_m2 173 rfl) rfl
theorem q524 : (Jvm.Cond.code ({ cls := "ColourOffice$Shelf", name := "add", desc := "(LColourOffice$Found;)V" } : Jvm.MethodName) prog_15_method_5_code (2 : Nat) (Option.none : Option Jvm.ClassFile.FieldType)) ∈ lw_all := lw_g (lw_at lw_m2 174 rfl) rfl
theorem q877 : (Jvm.Cond.selects "ColourOffice$Shelf" ({ cls := "java/lang/Object", name := "getClass", desc := "()Ljava/lang/Class;" } : Jvm.MethodName) ({ cls := "java/lang/Object", name := "getClass", desc := "()Ljava/lang/Class;" } : Jvm.MethodName)) ∈ lw_all := lw_g (lw_at lw_m4 47 rfl) rfl
theorem q1074 : (Jvm.Cond.instanceMethod ({ cls := "ColourOffice$Shelf", name := "count", desc := "()I" } : Jvm.MethodName)) ∈ lw_all := lw_g (lw_at lw_m5 4 rfl) rfl
theorem q1075 : (Jvm.Cond.selects "ColourOffice$Shelf" ({ cls := "ColourOffice$Shelf", name := "count", desc := "()I" } : Jvm.MethodName) ({ cls := "ColourOffice$Shelf", name := "count", desc := "()I" } : Jvm.MethodName)) ∈ lw_all := lw_g (lw_at lw_m5 5 rfl) rfl
theorem q1076 : (Jvm.Cond.code ({ cls := "ColourOffice$Shelf", name := "count", desc := "()I" } : Jvm.MethodName) prog_15_method_3_code (1 : Nat) (Option.some Jvm.ClassFile.FieldType.int)) ∈ lw_all := lw_g (lw_at lw_m5 6 rfl) rfl
theorem q1179 : (Jvm.Cond.instanceMethod ({ cls := "ColourOffice$Shelf", name := "placeOf", desc := "(I)I" } : Jvm.MethodName)) ∈ lw_all := lw_g (lw_at lw_m5 109 rfl) rfl
theorem q1180 : (Jvm.Cond.selects "ColourOffice$Shelf" ({ cls := "ColourOffice$Shelf", name := "placeOf", desc := "(I)I" } : Jvm.MethodName) ({ cls := "ColourOffice$Shelf", name := "placeOf", desc := "(I)I" } : Jvm.MethodName)) ∈ lw_all := lw_g (lw_at lw_m5 110 rfl) rfl
theorem q1181 : (Jvm.Cond.code ({ cls := "ColourOffice$Shelf", name := "placeOf", desc := "(I)I" } : Jvm.MethodName) prog_15_method_6_code (4 : Nat) (Option.some Jvm.ClassFile.FieldType.int)) ∈ lw_all := lw_g (lw_at lw_m5 111 rfl) rfl
theorem q1183 : (Jvm.Cond.instanceMethod ({ cls := "ColourOffice$Shelf", name := "remove", desc := "(I)V" } : Jvm.MethodName)) ∈ lw_all := lw_g (lw_at lw_m5 113 rfl) rfl
theorem q1184 : (Jvm.Cond.selects "ColourOffice$Shelf" ({ cls := "ColourOffice$Shelf", name := "remove", desc := "(I)V" } : Jvm.MethodName) ({ cls := "ColourOffice$Shelf", name := "remove", desc := "(I)V" } : Jvm.MethodName)) ∈ lw_all := lw_g (lw_at lw_m5 114 rfl) rfl
theorem q1185 : (Jvm.Cond.code ({ cls := "ColourOffice$Shelf", name := "remove", desc := "(I)V" } : Jvm.MethodName) prog_15_method_7_code (3 : Nat) (Option.none : Option Jvm.ClassFile.FieldType)) ∈ lw_all := lw_g (lw_at lw_m5 115 rfl) rfl
theorem q1186 : (Jvm.Cond.methodLink "ColourOffice$Shelf" (29 : Nat) ({ cls := "ColourOffice$Shelf", name := "placeOf", desc := "(I)I" } : Jvm.MethodName)) ∈ lw_all := lw_g (lw_at lw_m5 116 rfl) rfl
theorem q1401 : (Jvm.Cond.instanceMethod ({ cls := "ColourOffice$Shelf", name := "at", desc := "(I)LColourOffice$Found;" } : Jvm.MethodName)) ∈ lw_all := lw_g (lw_at lw_m6 91 rfl) rfl
theorem q1402 : (Jvm.Cond.selects "ColourOffice$Shelf" ({ cls := "ColourOffice$Shelf", name := "at", desc := "(I)LColourOffice$Found;" } : Jvm.MethodName) ({ cls := "ColourOffice$Shelf", name := "at", desc := "(I)LColourOffice$Found;" } : Jvm.MethodName)) ∈ lw_all := lw_g (lw_at lw_m6 92 rfl) rfl
theorem q1403 : (Jvm.Cond.code ({ cls := "ColourOffice$Shelf", name := "at", desc := "(I)LColourOffice$Found;" } : Jvm.MethodName) prog_15_method_4_code (2 : Nat) (Option.some (Jvm.ClassFile.FieldType.object "ColourOffice$Found"))) ∈ lw_all := lw_g (lw_at lw_m6 93 rfl) rfl
theorem q2405 : (Jvm.Cond.selects "ColourOffice$Shelf" ({ cls := "java/lang/Object", name := "toString", desc := "()Ljava/lang/String;" } : Jvm.MethodName) ({ cls := "java/lang/Object", name := "toString", desc := "()Ljava/lang/String;" } : Jvm.MethodName)) ∈ lw_all := lw_g (lw_at lw_m10 135 rfl) rfl
theorem q3311 : (Jvm.Cond.castable "ColourOffice$Shelf" "java/lang/Object") ∈ lw_tbl := lw_at lw_m14 81 rfl
theorem q114 : (Jvm.Cond.initialized "java/util/AbstractCollection") ∈ lw_all := lw_g (lw_at lw_m1 4 rfl) rfl
theorem q204 : (Jvm.Cond.instanceMethod ({ cls := "java/util/AbstractCollection", name := "<init>", desc := "()V" } : Jvm.MethodName)) ∈ lw_all := lw_g (lw_at lw_m1 94 rfl) rfl
theorem q205 : (Jvm.Cond.code ({ cls := "java/util/AbstractCollection", name := "<init>", desc := "()V" } : Jvm.MethodName) prog_54_method_1_code (1 : Nat) (Option.none : Option Jvm.ClassFile.FieldType)) ∈ lw_all := lw_g (lw_at lw_m1 95 rfl) rfl
theorem q206 : (Jvm.Cond.methodLink "java/util/AbstractCollection" (1 : Nat) ({ cls := "java/lang/Object", name := "<init>", desc := "()V" } : Jvm.MethodName)) ∈ lw_all := lw_g (lw_at lw_m1 96 rfl) rfl
theorem q115 : (Jvm.Cond.initialized "java/util/AbstractList") ∈ lw_all := lw_g (lw_at lw_m1 5 rfl) rfl
theorem q201 : (Jvm.Cond.instanceMethod ({ cls := "java/util/AbstractList", name := "<init>", desc := "()V" } : Jvm.MethodName)) ∈ lw_all := lw_g (lw_at lw_m1 91 rfl) rfl
theorem q202 : (Jvm.Cond.code ({ cls := "java/util/AbstractList", name := "<init>", desc := "()V" } : Jvm.MethodName) prog_55_method_1_code (1 : Nat) (Option.none : Option Jvm.ClassFile.FieldType)) ∈ lw_all := lw_g (lw_at lw_m1 92 rfl) rfl
theorem q203 : (Jvm.Cond.methodLink "java/util/AbstractList" (1 : Nat) ({ cls := "java/util/AbstractCollection", name := "<init>", desc := "()V" } : Jvm.MethodName)) ∈ lw_all := lw_g (lw_at lw_m1 93 rfl) rfl
theorem q211 : (Jvm.Cond.fieldLink "java/util/AbstractList" (7 : Nat) "java/util/AbstractList" "modCount" "I") ∈ lw_all := lw_g (lw_at lw_m1 101 rfl) rfl
theorem q221 : (Jvm.Cond.soleField "java/util/AbstractList" "modCount") ∈ lw_all := lw_g (lw_at lw_m1 111 rfl) rfl
theorem q116 : (Jvm.Cond.initialized "java/util/ArrayList") ∈ lw_all := lw_g (lw_at lw_m1 6 rfl) rfl
theorem q196 : (Jvm.Cond.instantiable "java/util/ArrayList" (3 : Nat)) ∈ lw_all := lw_g (lw_at lw_m1 86 rfl) rfl
theorem q198 : (Jvm.Cond.instanceMethod ({ cls := "java/util/ArrayList", name := "<init>", desc := "()V" } : Jvm.MethodName)) ∈ lw_all := lw_g (lw_at lw_m1 88 rfl) rfl
theorem q199 : (Jvm.Cond.code ({ cls := "java/util/ArrayList", name := "<init>", desc := "()V" } : Jvm.MethodName) prog_57_method_2_code (1 : Nat) (Option.none : Option Jvm.ClassFile.FieldType)) ∈ lw_all := lw_g (lw_at lw_m1 89 rfl) rfl
theorem q200 : (Jvm.Cond.methodLink "java/util/ArrayList" (1 : Nat) ({ cls := "java/util/AbstractList", name := "<init>", desc := "()V" } : Jvm.MethodName)) ∈ lw_all := lw_g (lw_at lw_m1 90 rfl) rfl
theorem q207 : (Jvm.Cond.fieldLink "java/util/ArrayList" (39 : Nat) "java/util/ArrayList" "DEFAULTCAPACITY_EMPTY_ELEMENTDATA" "[Ljava/lang/Object;") ∈ lw_all := lw_g (lw_at lw_m1 97 rfl) rfl
theorem q208 : (Jvm.Cond.laysStatic "java/util/ArrayList" "DEFAULTCAPACITY_EMPTY_ELEMENTDATA" "[Ljava/lang/Object;") ∈ lw_tbl := lw_at lw_m1 98 rfl
theorem q209 : (Jvm.Cond.fieldLink "java/util/ArrayList" (9 : Nat) "java/util/ArrayList" "elementData" "[Ljava/lang/Object;") ∈ lw_all := lw_g (lw_at lw_m1 99 rfl) rfl
theorem q210 : (Jvm.Cond.fieldLink "java/util/ArrayList" (48 : Nat) "java/util/ArrayList" "size" "I") ∈ lw_all := lw_g (lw_at lw_m1 100 rfl) rfl
theorem q214 : (Jvm.Cond.fieldLink "java/util/ArrayList" (63 : Nat) "java/util/ArrayList" "modCount" "I") ∈ lw_all := lw_g (lw_at lw_m1 104 rfl) rfl
theorem q215 : (Jvm.Cond.sameField "java/util/ArrayList" "java/util/AbstractList" "modCount" "I") ∈ lw_all := lw_g (lw_at lw_m1 105 rfl) rfl
theorem q216 : (Jvm.Cond.lays "java/util/ArrayList" "java/util/ArrayList" "elementData" "[Ljava/lang/Object;") ∈ lw_all := lw_g (lw_at lw_m1 106 rfl) rfl
theorem q217 : (Jvm.Cond.soleField "java/util/ArrayList" "elementData") ∈ lw_all := lw_g (lw_at lw_m1 107 rfl) rfl
theorem q218 : (Jvm.Cond.lays "java/util/ArrayList" "java/util/ArrayList" "size" "I") ∈ lw_all := lw_g (lw_at lw_m1 108 rfl) rfl
theorem q219 : (Jvm.Cond.soleField "java/util/ArrayList" "size") ∈ lw_all := lw_g (lw_at lw_m1 109 rfl) rfl
theorem q220 : (Jvm.Cond.lays "java/util/ArrayList" "java/util/AbstractList" "modCount" "I") ∈ lw_all := lw_g (lw_at lw_m1 110 rfl) rfl
theorem q222 : (Jvm.Cond.superclass "java/util/ArrayList" "java/util/AbstractList") ∈ lw_all := lw_g (lw_at lw_m1 112 rfl) rfl
theorem q529 : (Jvm.Cond.castable "java/util/ArrayList" "java/util/List") ∈ lw_tbl := lw_at lw_m2 179 rfl
theorem q530 : (Jvm.Cond.selects "java/util/ArrayList" ({ cls := "java/util/List", name := "size", desc := "()I" } : Jvm.MethodName) ({ cls := "java/util/ArrayList", name := "size", desc := "()I" } : Jvm.MethodName)) ∈ lw_all := lw_g (lw_at lw_m2 180 rfl) rfl
theorem q531 : (Jvm.Cond.unhidden "java/util/ArrayList" "size" "()I") ∈ lw_tbl := lw_at lw_m2 181 rfl
theorem q532 : (Jvm.Cond.instanceMethod ({ cls := "java/util/ArrayList", name := "size", desc := "()I" } : Jvm.MethodName)) ∈ lw_all := lw_g (lw_at lw_m2 182 rfl) rfl
theorem q533 : (Jvm.Cond.publicMethod ({ cls := "java/util/ArrayList", name := "size", desc := "()I" } : Jvm.MethodName)) ∈ lw_tbl := lw_at lw_m2 183 rfl
theorem q534 : (Jvm.Cond.code ({ cls := "java/util/ArrayList", name := "size", desc := "()I" } : Jvm.MethodName) prog_57_method_8_code (1 : Nat) (Option.some Jvm.ClassFile.FieldType.int)) ∈ lw_all := lw_g (lw_at lw_m2 184 rfl) rfl
theorem q545 : (Jvm.Cond.selects "java/util/ArrayList" ({ cls := "java/util/List", name := "get", desc := "(I)Ljava/lang/Object;" } : Jvm.MethodName) ({ cls := "java/util/ArrayList", name := "get", desc := "(I)Ljava/lang/Object;" } : Jvm.MethodName)) ∈ lw_all := lw_g (lw_at lw_m2 195 rfl) rfl
theorem q546 : (Jvm.Cond.unhidden "java/util/ArrayList" "get" "(I)Ljava/lang/Object;") ∈ lw_tbl := lw_at lw_m2 196 rfl
theorem q547 : (Jvm.Cond.instanceMethod ({ cls := "java/util/ArrayList", name := "get", desc := "(I)Ljava/lang/Object;" } : Jvm.MethodName)) ∈ lw_all := lw_g (lw_at lw_m2 197 rfl) rfl
theorem q548 : (Jvm.Cond.publicMethod ({ cls := "java/util/ArrayList", name := "get", desc := "(I)Ljava/lang/Object;" } : Jvm.MethodName)) ∈ lw_tbl := lw_at lw_m2 198 rfl
theorem q549 : (Jvm.Cond.code ({ cls := "java/util/ArrayList", name := "get", desc := "(I)Ljava/lang/Object;" } : Jvm.MethodName) prog_57_method_20_code (2 : Nat) (Option.some (Jvm.ClassFile.FieldType.object "java/lang/Object"))) ∈ lw_all := lw_g (lw_at lw_m2 199 rfl) rfl
theorem q550 : (Jvm.Cond.methodLink "java/util/ArrayList" (118 : Nat) ({ cls := "java/util/Objects", name := "checkIndex", desc := "(II)I" } : Jvm.MethodName)) ∈ lw_all := lw_g (lw_at lw_m2 200 rfl) rfl
theorem q556 : (Jvm.Cond.methodLink "java/util/ArrayList" (123 : Nat) ({ cls := "java/util/ArrayList", name := "elementData", desc := "(I)Ljava/lang/Object;" } : Jvm.MethodName)) ∈ lw_all := lw_g (lw_at lw_m2 206 rfl) rfl
theorem q557 : (Jvm.Cond.instanceMethod ({ cls := "java/util/ArrayList", name := "elementData", desc := "(I)Ljava/lang/Object;" } : Jvm.MethodName)) ∈ lw_all := lw_g (lw_at lw_m2 207 rfl) rfl
theorem q558 : (Jvm.Cond.selects "java/util/ArrayList" ({ cls := "java/util/ArrayList", name := "elementData", desc := "(I)Ljava/lang/Object;" } : Jvm.MethodName) ({ cls := "java/util/ArrayList", name := "elementData", desc := "(I)Ljava/lang/Object;" } : Jvm.MethodName)) ∈ lw_all := lw_g (lw_at lw_m2 208 rfl) rfl
theorem q559 : (Jvm.Cond.code ({ cls := "java/util/ArrayList", name := "elementData", desc := "(I)Ljava/lang/Object;" } : Jvm.MethodName) prog_57_method_18_code (2 : Nat) (Option.some (Jvm.ClassFile.FieldType.object "java/lang/Object"))) ∈ lw_all := lw_g (lw_at lw_m2 209 rfl) rfl
theorem q841 : (Jvm.Cond.selects "java/util/ArrayList" ({ cls := "java/util/List", name := "add", desc := "(Ljava/lang/Object;)Z" } : Jvm.MethodName) ({ cls := "java/util/ArrayList", name := "add", desc := "(Ljava/lang/Object;)Z" } : Jvm.MethodName)) ∈ lw_all := lw_g (lw_at lw_m4 11 rfl) rfl
theorem q842 : (Jvm.Cond.unhidden "java/util/ArrayList" "add" "(Ljava/lang/Object;)Z") ∈ lw_tbl := lw_at lw_m4 12 rfl
theorem q843 : (Jvm.Cond.instanceMethod ({ cls := "java/util/ArrayList", name := "add", desc := "(Ljava/lang/Object;)Z" } : Jvm.MethodName)) ∈ lw_all := lw_g (lw_at lw_m4 13 rfl) rfl
theorem q844 : (Jvm.Cond.publicMethod ({ cls := "java/util/ArrayList", name := "add", desc := "(Ljava/lang/Object;)Z" } : Jvm.MethodName)) ∈ lw_tbl := lw_at lw_m4 14 rfl
theorem q845 : (Jvm.Cond.code ({ cls := "java/util/ArrayList", name := "add", desc := "(Ljava/lang/Object;)Z" } : Jvm.MethodName) prog_57_method_25_code (2 : Nat) (Option.some Jvm.ClassFile.FieldType.boolean)) ∈ lw_all := lw_g (lw_at lw_m4 15 rfl) rfl
theorem q846 : (Jvm.Cond.methodLink "java/util/ArrayList" (131 : Nat) ({ cls := "java/util/ArrayList", name := "add", desc := "(Ljava/lang/Object;[Ljava/lang/Object;I)V" } : Jvm.MethodName)) ∈ lw_all := lw_g (lw_at lw_m4 16 rfl) rfl
theorem q847 : (Jvm.Cond.privateMethod ({ cls := "java/util/ArrayList", name := "add", desc := "(Ljava/lang/Object;[Ljava/lang/Object;I)V" } : Jvm.MethodName)) ∈ lw_tbl := lw_at lw_m4 17 rfl
theorem q848 : (Jvm.Cond.instanceMethod ({ cls := "java/util/ArrayList", name := "add", desc := "(Ljava/lang/Object;[Ljava/lang/Object;I)V" } : Jvm.MethodName)) ∈ lw_all := lw_g (lw_at lw_m4 18 rfl) rfl
theorem q849 : (Jvm.Cond.code ({ cls := "java/util/ArrayList", name := "add", desc := "(Ljava/lang/Object;[Ljava/lang/Object;I)V" } : Jvm.MethodName) prog_57_method_24_code (4 : Nat) (Option.none : Option Jvm.ClassFile.FieldType)) ∈ lw_all := lw_g (lw_at lw_m4 19 rfl) rfl
theorem q850 : (Jvm.Cond.methodLink "java/util/ArrayList" (129 : Nat) ({ cls := "java/util/ArrayList", name := "grow", desc := "()[Ljava/lang/Object;" } : Jvm.MethodName)) ∈ lw_all := lw_g (lw_at lw_m4 20 rfl) rfl
theorem q851 : (Jvm.Cond.privateMethod ({ cls := "java/util/ArrayList", name := "grow", desc := "()[Ljava/lang/Object;" } : Jvm.MethodName)) ∈ lw_tbl := lw_at lw_m4 21 rfl
theorem q852 : (Jvm.Cond.instanceMethod ({ cls := "java/util/ArrayList", name := "grow", desc := "()[Ljava/lang/Object;" } : Jvm.MethodName)) ∈ lw_all := lw_g (lw_at lw_m4 22 rfl) rfl
theorem q853 : (Jvm.Cond.code ({ cls := "java/util/ArrayList", name := "grow", desc := "()[Ljava/lang/Object;" } : Jvm.MethodName) prog_57_method_7_code (1 : Nat) (Option.some (Jvm.ClassFile.FieldType.array (Jvm.ClassFile.FieldType.object "java/lang/Object")))) ∈ lw_all := lw_g (lw_at lw_m4 23 rfl) rfl
theorem q854 : (Jvm.Cond.methodLink "java/util/ArrayList" (69 : Nat) ({ cls := "java/util/ArrayList", name := "grow", desc := "(I)[Ljava/lang/Object;" } : Jvm.MethodName)) ∈ lw_all := lw_g (lw_at lw_m4 24 rfl) rfl
theorem q855 : (Jvm.Cond.privateMethod ({ cls := "java/util/ArrayList", name := "grow", desc := "(I)[Ljava/lang/Object;" } : Jvm.MethodName)) ∈ lw_tbl := lw_at lw_m4 25 rfl
theorem q856 : (Jvm.Cond.instanceMethod ({ cls := "java/util/ArrayList", name := "grow", desc := "(I)[Ljava/lang/Object;" } : Jvm.MethodName)) ∈ lw_all := lw_g (lw_at lw_m4 26 rfl) rfl
theorem q857 : (Jvm.Cond.code ({ cls := "java/util/ArrayList", name := "grow", desc := "(I)[Ljava/lang/Object;" } : Jvm.MethodName) prog_57_method_6_code (4 : Nat) (Option.some (Jvm.ClassFile.FieldType.array (Jvm.ClassFile.FieldType.object "java/lang/Object")))) ∈ lw_all := lw_g (lw_at lw_m4 27 rfl) rfl
theorem q858 : (Jvm.Cond.methodLink "java/util/ArrayList" (73 : Nat) ({ cls := "jdk/internal/util/ArraysSupport", name := "newLength", desc := "(III)I" } : Jvm.MethodName)) ∈ lw_all := lw_g (lw_at lw_m4 28 rfl) rfl
theorem q859 : (Jvm.Cond.methodLink "java/util/ArrayList" (66 : Nat) ({ cls := "java/util/Arrays", name := "copyOf", desc := "([Ljava/lang/Object;I)[Ljava/lang/Object;" } : Jvm.MethodName)) ∈ lw_all := lw_g (lw_at lw_m4 29 rfl) rfl
theorem q894 : (Jvm.Cond.selects "java/util/ArrayList" ({ cls := "java/lang/Object", name := "getClass", desc := "()Ljava/lang/Class;" } : Jvm.MethodName) ({ cls := "java/lang/Object", name := "getClass", desc := "()Ljava/lang/Class;" } : Jvm.MethodName)) ∈ lw_all := lw_g (lw_at lw_m4 64 rfl) rfl
theorem q906 : (Jvm.Cond.methodLink "java/util/ArrayList" (79 : Nat) ({ cls := "java/lang/Math", name := "max", desc := "(II)I" } : Jvm.MethodName)) ∈ lw_all := lw_g (lw_at lw_m4 76 rfl) rfl
theorem q907 : (Jvm.Cond.classLink "java/util/ArrayList" (7 : Nat) "java/lang/Object") ∈ lw_all := lw_g (lw_at lw_m4 77 rfl) rfl
theorem q1151 : (Jvm.Cond.selects "java/util/ArrayList" ({ cls := "java/util/List", name := "remove", desc := "(I)Ljava/lang/Object;" } : Jvm.MethodName) ({ cls := "java/util/ArrayList", name := "remove", desc := "(I)Ljava/lang/Object;" } : Jvm.MethodName)) ∈ lw_all := lw_g (lw_at lw_m5 81 rfl) rfl
theorem q1152 : (Jvm.Cond.unhidden "java/util/ArrayList" "remove" "(I)Ljava/lang/Object;") ∈ lw_tbl := lw_at lw_m5 82 rfl
theorem q1153 : (Jvm.Cond.instanceMethod ({ cls := "java/util/ArrayList", name := "remove", desc := "(I)Ljava/lang/Object;" } : Jvm.MethodName)) ∈ lw_all := lw_g (lw_at lw_m5 83 rfl) rfl
theorem q1154 : (Jvm.Cond.publicMethod ({ cls := "java/util/ArrayList", name := "remove", desc := "(I)Ljava/lang/Object;" } : Jvm.MethodName)) ∈ lw_tbl := lw_at lw_m5 84 rfl
theorem q1155 : (Jvm.Cond.code ({ cls := "java/util/ArrayList", name := "remove", desc := "(I)Ljava/lang/Object;" } : Jvm.MethodName) prog_57_method_29_code (4 : Nat) (Option.some (Jvm.ClassFile.FieldType.object "java/lang/Object"))) ∈ lw_all := lw_g (lw_at lw_m5 85 rfl) rfl
theorem q1156 : (Jvm.Cond.methodLink "java/util/ArrayList" (144 : Nat) ({ cls := "java/util/ArrayList", name := "fastRemove", desc := "([Ljava/lang/Object;I)V" } : Jvm.MethodName)) ∈ lw_all := lw_g (lw_at lw_m5 86 rfl) rfl
theorem q1157 : (Jvm.Cond.privateMethod ({ cls := "java/util/ArrayList", name := "fastRemove", desc := "([Ljava/lang/Object;I)V" } : Jvm.MethodName)) ∈ lw_tbl := lw_at lw_m5 87 rfl
theorem q1158 : (Jvm.Cond.instanceMethod ({ cls := "java/util/ArrayList", name := "fastRemove", desc := "([Ljava/lang/Object;I)V" } : Jvm.MethodName)) ∈ lw_all := lw_g (lw_at lw_m5 88 rfl) rfl
theorem q1159 : (Jvm.Cond.code ({ cls := "java/util/ArrayList", name := "fastRemove", desc := "([Ljava/lang/Object;I)V" } : Jvm.MethodName) prog_57_method_39_code (4 : Nat) (Option.none : Option Jvm.ClassFile.FieldType)) ∈ lw_all := lw_g (lw_at lw_m5 89 rfl) rfl
theorem q1160 : (Jvm.Cond.methodLink "java/util/ArrayList" (112 : Nat) ({ cls := "java/lang/System", name := "arraycopy", desc := "(Ljava/lang/Object;ILjava/lang/Object;II)V" } : Jvm.MethodName)) ∈ lw_all := lw_g (lw_at lw_m5 90 rfl) rfl
theorem q1764 : (Jvm.Cond.selects "java/util/ArrayList" ({ cls := "java/util/List", name := "add", desc := "(ILjava/lang/Object;)V" } : Jvm.MethodName) ({ cls := "java/util/ArrayList", name := "add", desc := "(ILjava/lang/Object;)V" } : Jvm.MethodName)) ∈ lw_all := lw_g (lw_at lw_m7 214 rfl) rfl
theorem q1765 : (Jvm.Cond.unhidden "java/util/ArrayList" "add" "(ILjava/lang/Object;)V") ∈ lw_tbl := lw_at lw_m7 215 rfl
theorem q1766 : (Jvm.Cond.instanceMethod ({ cls := "java/util/ArrayList", name := "add", desc := "(ILjava/lang/Object;)V" } : Jvm.MethodName)) ∈ lw_all := lw_g (lw_at lw_m7 216 rfl) rfl
theorem q1767 : (Jvm.Cond.publicMethod ({ cls := "java/util/ArrayList", name := "add", desc := "(ILjava/lang/Object;)V" } : Jvm.MethodName)) ∈ lw_tbl := lw_at lw_m7 217 rfl
theorem q1768 : (Jvm.Cond.code ({ cls := "java/util/ArrayList", name := "add", desc := "(ILjava/lang/Object;)V" } : Jvm.MethodName) prog_57_method_26_code (5 : Nat) (Option.none : Option Jvm.ClassFile.FieldType)) ∈ lw_all := lw_g (lw_at lw_m7 218 rfl) rfl
theorem q1769 : (Jvm.Cond.methodLink "java/util/ArrayList" (135 : Nat) ({ cls := "java/util/ArrayList", name := "rangeCheckForAdd", desc := "(I)V" } : Jvm.MethodName)) ∈ lw_all := lw_g (lw_at lw_m7 219 rfl) rfl
theorem q1770 : (Jvm.Cond.privateMethod ({ cls := "java/util/ArrayList", name := "rangeCheckForAdd", desc := "(I)V" } : Jvm.MethodName)) ∈ lw_tbl := lw_at lw_m7 220 rfl
theorem q1771 : (Jvm.Cond.instanceMethod ({ cls := "java/util/ArrayList", name := "rangeCheckForAdd", desc := "(I)V" } : Jvm.MethodName)) ∈ lw_all := lw_g (lw_at lw_m7 221 rfl) rfl
theorem q1772 : (Jvm.Cond.code ({ cls := "java/util/ArrayList", name := "rangeCheckForAdd", desc := "(I)V" } : Jvm.MethodName) prog_57_method_45_code (2 : Nat) (Option.none : Option Jvm.ClassFile.FieldType)) ∈ lw_all := lw_g (lw_at lw_m7 222 rfl) rfl
theorem q1773 : (Jvm.Cond.classLink "java/util/ArrayList" (187 : Nat) "java/lang/IndexOutOfBoundsException") ∈ lw_all := lw_g (lw_at lw_m7 223 rfl) rfl
theorem q1774 : (Jvm.Cond.methodLink "java/util/ArrayList" (198 : Nat) ({ cls := "java/util/ArrayList", name := "outOfBoundsMsg", desc := "(I)Ljava/lang/String;" } : Jvm.MethodName)) ∈ lw_all := lw_g (lw_at lw_m7 224 rfl) rfl
theorem q1775 : (Jvm.Cond.privateMethod ({ cls := "java/util/ArrayList", name := "outOfBoundsMsg", desc := "(I)Ljava/lang/String;" } : Jvm.MethodName)) ∈ lw_tbl := lw_at lw_m7 225 rfl
theorem q1776 : (Jvm.Cond.instanceMethod ({ cls := "java/util/ArrayList", name := "outOfBoundsMsg", desc := "(I)Ljava/lang/String;" } : Jvm.MethodName)) ∈ lw_all := lw_g (lw_at lw_m7 226 rfl) rfl
theorem q1777 : (Jvm.Cond.code ({ cls := "java/util/ArrayList", name := "outOfBoundsMsg", desc := "(I)Ljava/lang/String;" } : Jvm.MethodName) prog_57_method_46_code (2 : Nat) (Option.some (Jvm.ClassFile.FieldType.object "java/lang/String"))) ∈ lw_all := lw_g (lw_at lw_m7 227 rfl) rfl
theorem q1778 : (Jvm.Cond.classLink "java/util/ArrayList" (20 : Nat) "java/lang/StringBuilder") ∈ lw_all := lw_g (lw_at lw_m7 228 rfl) rfl
theorem q1779 : (Jvm.Cond.methodLink "java/util/ArrayList" (22 : Nat) ({ cls := "java/lang/StringBuilder", name := "<init>", desc := "()V" } : Jvm.MethodName)) ∈ lw_all := lw_g (lw_at lw_m7 229 rfl) rfl
theorem q1780 : (Jvm.Cond.stringRef "java/util/ArrayList" (201 : Nat) "Index: ") ∈ lw_tbl := lw_at lw_m7 230 rfl
theorem q1781 : (Jvm.Cond.methodLink "java/util/ArrayList" (25 : Nat) ({ cls := "java/lang/StringBuilder", name := "append", desc := "(Ljava/lang/String;)Ljava/lang/StringBuilder;" } : Jvm.MethodName)) ∈ lw_all := lw_g (lw_at lw_m7 231 rfl) rfl
theorem q1782 : (Jvm.Cond.methodLink "java/util/ArrayList" (29 : Nat) ({ cls := "java/lang/StringBuilder", name := "append", desc := "(I)Ljava/lang/StringBuilder;" } : Jvm.MethodName)) ∈ lw_all := lw_g (lw_at lw_m7 232 rfl) rfl
theorem q1783 : (Jvm.Cond.stringRef "java/util/ArrayList" (203 : Nat) ", Size: ") ∈ lw_tbl := lw_at lw_m7 233 rfl
theorem q1784 : (Jvm.Cond.methodLink "java/util/ArrayList" (32 : Nat) ({ cls := "java/lang/StringBuilder", name := "toString", desc := "()Ljava/lang/String;" } : Jvm.MethodName)) ∈ lw_all := lw_g (lw_at lw_m7 234 rfl) rfl
theorem q1785 : (Jvm.Cond.methodLink "java/util/ArrayList" (193 : Nat) ({ cls := "java/lang/IndexOutOfBoundsException", name := "<init>", desc := "(Ljava/lang/String;)V" } : Jvm.MethodName)) ∈ lw_all := lw_g (lw_at lw_m7 235 rfl) rfl
theorem q3312 : (Jvm.Cond.castable "java/util/ArrayList" "java/lang/Object") ∈ lw_tbl := lw_at lw_m14 82 rfl
theorem q117 : (Jvm.Cond.initialized "ColourOffice$Past") ∈ lw_all := lw_g (lw_at lw_m1 7 rfl) rfl
theorem q261 : (Jvm.Cond.instantiable "ColourOffice$Past" (1 : Nat)) ∈ lw_all := lw_g (lw_at lw_m1 151 rfl) rfl
theorem q263 : (Jvm.Cond.instanceMethod ({ cls := "ColourOffice$Past", name := "<init>", desc := "()V" } : Jvm.MethodName)) ∈ lw_all := lw_g (lw_at lw_m1 153 rfl) rfl
theorem q264 : (Jvm.Cond.code ({ cls := "ColourOffice$Past", name := "<init>", desc := "()V" } : Jvm.MethodName) prog_12_method_1_code (1 : Nat) (Option.none : Option Jvm.ClassFile.FieldType)) ∈ lw_all := lw_g (lw_at lw_m1 154 rfl) rfl
theorem q265 : (Jvm.Cond.methodLink "ColourOffice$Past" (3 : Nat) ({ cls := "java/lang/Object", name := "<init>", desc := "()V" } : Jvm.MethodName)) ∈ lw_all := lw_g (lw_at lw_m1 155 rfl) rfl
theorem q266 : (Jvm.Cond.classLink "ColourOffice$Past" (9 : Nat) "java/util/LinkedList") ∈ lw_all := lw_g (lw_at lw_m1 156 rfl) rfl
theorem q268 : (Jvm.Cond.methodLink "ColourOffice$Past" (11 : Nat) ({ cls := "java/util/LinkedList", name := "<init>", desc := "()V" } : Jvm.MethodName)) ∈ lw_all := lw_g (lw_at lw_m1 158 rfl) rfl
theorem q286 : (Jvm.Cond.fieldLink "ColourOffice$Past" (12 : Nat) "ColourOffice$Past" "offices" "Ljava/util/LinkedList;") ∈ lw_all := lw_g (lw_at lw_m1 176 rfl) rfl
theorem q287 : (Jvm.Cond.laysFinal "ColourOffice$Past" "ColourOffice$Past" "offices" "Ljava/util/LinkedList;") ∈ lw_all := lw_g (lw_at lw_m1 177 rfl) rfl
theorem q288 : (Jvm.Cond.soleField "ColourOffice$Past" "offices") ∈ lw_all := lw_g (lw_at lw_m1 178 rfl) rfl
theorem q289 : (Jvm.Cond.superclass "ColourOffice$Past" "java/lang/Object") ∈ lw_all := lw_g (lw_at lw_m1 179 rfl) rfl
theorem q874 : (Jvm.Cond.selects "ColourOffice$Past" ({ cls := "java/lang/Object", name := "getClass", desc := "()Ljava/lang/Class;" } : Jvm.MethodName) ({ cls := "java/lang/Object", name := "getClass", desc := "()Ljava/lang/Class;" } : Jvm.MethodName)) ∈ lw_all := lw_g (lw_at lw_m4 44 rfl) rfl
theorem q1522 : (Jvm.Cond.instanceMethod ({ cls := "ColourOffice$Past", name := "add", desc := "(LColourOffice$Office;)V" } : Jvm.MethodName)) ∈ lw_all := lw_g (lw_at lw_m6 212 rfl) rfl
theorem q1523 : (Jvm.Cond.selects "ColourOffice$Past" ({ cls := "ColourOffice$Past", name := "add", desc := "(LColourOffice$Office;)V" } : Jvm.MethodName) ({ cls := "ColourOffice$Past", name := "add", desc := "(LColourOffice$Office;)V" } : Jvm.MethodName)) ∈ lw_all := lw_g (lw_at lw_m6 213 rfl) rfl
theorem q1524 : (Jvm.Cond.codeSync ({ cls := "ColourOffice$Past", name := "add", desc := "(LColourOffice$Office;)V" } : Jvm.MethodName) prog_12_method_2_code (2 : Nat) (Option.none : Option Jvm.ClassFile.FieldType)) ∈ lw_all := lw_g (lw_at lw_m6 214 rfl) rfl
theorem q1525 : (Jvm.Cond.methodLink "ColourOffice$Past" (18 : Nat) ({ cls := "java/util/LinkedList", name := "size", desc := "()I" } : Jvm.MethodName)) ∈ lw_all := lw_g (lw_at lw_m6 215 rfl) rfl
theorem q1526 : (Jvm.Cond.methodLink "ColourOffice$Past" (22 : Nat) ({ cls := "java/util/LinkedList", name := "removeFirst", desc := "()Ljava/lang/Object;" } : Jvm.MethodName)) ∈ lw_all := lw_g (lw_at lw_m6 216 rfl) rfl
theorem q1536 : (Jvm.Cond.methodLink "ColourOffice$Past" (26 : Nat) ({ cls := "java/util/LinkedList", name := "addLast", desc := "(Ljava/lang/Object;)V" } : Jvm.MethodName)) ∈ lw_all := lw_g (lw_at lw_m6 226 rfl) rfl
theorem q2402 : (Jvm.Cond.selects "ColourOffice$Past" ({ cls := "java/lang/Object", name := "toString", desc := "()Ljava/lang/String;" } : Jvm.MethodName) ({ cls := "java/lang/Object", name := "toString", desc := "()Ljava/lang/String;" } : Jvm.MethodName)) ∈ lw_all := lw_g (lw_at lw_m10 132 rfl) rfl
theorem q2662 : (Jvm.Cond.instanceMethod ({ cls := "ColourOffice$Past", name := "count", desc := "()I" } : Jvm.MethodName)) ∈ lw_all := lw_g (lw_at lw_m11 152 rfl) rfl
theorem q2663 : (Jvm.Cond.selects "ColourOffice$Past" ({ cls := "ColourOffice$Past", name := "count", desc := "()I" } : Jvm.MethodName) ({ cls := "ColourOffice$Past", name := "count", desc := "()I" } : Jvm.MethodName)) ∈ lw_all := lw_g (lw_at lw_m11 153 rfl) rfl
theorem q2664 : (Jvm.Cond.codeSync ({ cls := "ColourOffice$Past", name := "count", desc := "()I" } : Jvm.MethodName) prog_12_method_4_code (1 : Nat) (Option.some Jvm.ClassFile.FieldType.int)) ∈ lw_all := lw_g (lw_at lw_m11 154 rfl) rfl
theorem q2666 : (Jvm.Cond.instanceMethod ({ cls := "ColourOffice$Past", name := "takeLatest", desc := "()LColourOffice$Office;" } : Jvm.MethodName)) ∈ lw_all := lw_g (lw_at lw_m11 156 rfl) rfl
theorem q2667 : (Jvm.Cond.selects "ColourOffice$Past" ({ cls := "ColourOffice$Past", name := "takeLatest", desc := "()LColourOffice$Office;" } : Jvm.MethodName) ({ cls := "ColourOffice$Past", name := "takeLatest", desc := "()LColourOffice$Office;" } : Jvm.MethodName)) ∈ lw_all := lw_g (lw_at lw_m11 157 rfl) rfl
theorem q2668 : (Jvm.Cond.codeSync ({ cls := "ColourOffice$Past", name := "takeLatest", desc := "()LColourOffice$Office;" } : Jvm.MethodName) prog_12_method_3_code (1 : Nat) (Option.some (Jvm.ClassFile.FieldType.object "ColourOffice$Office"))) ∈ lw_all := lw_g (lw_at lw_m11 158 rfl) rfl
theorem q2669 : (Jvm.Cond.methodLink "ColourOffice$Past" (30 : Nat) ({ cls := "java/util/LinkedList", name := "removeLast", desc := "()Ljava/lang/Object;" } : Jvm.MethodName)) ∈ lw_all := lw_g (lw_at lw_m11 159 rfl) rfl
theorem q2677 : (Jvm.Cond.classLink "ColourOffice$Past" (33 : Nat) "ColourOffice$Office") ∈ lw_all := lw_g (lw_at lw_m11 167 rfl) rfl
theorem q2686 : (Jvm.Cond.instanceMethod ({ cls := "ColourOffice$Past", name := "forget", desc := "()V" } : Jvm.MethodName)) ∈ lw_all := lw_g (lw_at lw_m11 176 rfl) rfl
theorem q2687 : (Jvm.Cond.selects "ColourOffice$Past" ({ cls := "ColourOffice$Past", name := "forget", desc := "()V" } : Jvm.MethodName) ({ cls := "ColourOffice$Past", name := "forget", desc := "()V" } : Jvm.MethodName)) ∈ lw_all := lw_g (lw_at lw_m11 177 rfl) rfl
theorem q2688 : (Jvm.Cond.codeSync ({ cls := "ColourOffice$Past", name := "forget", desc := "()V" } : Jvm.MethodName) prog_12_method_5_code (1 : Nat) (Option.none : Option Jvm.ClassFile.FieldType)) ∈ lw_all := lw_g (lw_at lw_m11 178 rfl) rfl
theorem q2689 : (Jvm.Cond.methodLink "ColourOffice$Past" (35 : Nat) ({ cls := "java/util/LinkedList", name := "clear", desc := "()V" } : Jvm.MethodName)) ∈ lw_all := lw_g (lw_at lw_m11 179 rfl) rfl
theorem q3313 : (Jvm.Cond.castable "ColourOffice$Past" "java/lang/Object") ∈ lw_tbl := lw_at lw_m14 83 rfl
theorem q118 : (Jvm.Cond.initialized "java/util/AbstractSequentialList") ∈ lw_all := lw_g (lw_at lw_m1 8 rfl) rfl
theorem q272 : (Jvm.Cond.instanceMethod ({ cls := "java/util/AbstractSequentialList", name := "<init>", desc := "()V" } : Jvm.MethodName)) ∈ lw_all := lw_g (lw_at lw_m1 162 rfl) rfl
theorem q273 : (Jvm.Cond.code ({ cls := "java/util/AbstractSequentialList", name := "<init>", desc := "()V" } : Jvm.MethodName) prog_56_method_1_code (1 : Nat) (Option.none : Option Jvm.ClassFile.FieldType)) ∈ lw_all := lw_g (lw_at lw_m1 163 rfl) rfl
theorem q274 : (Jvm.Cond.methodLink "java/util/AbstractSequentialList" (1 : Nat) ({ cls := "java/util/AbstractList", name := "<init>", desc := "()V" } : Jvm.MethodName)) ∈ lw_all := lw_g (lw_at lw_m1 164 rfl) rfl
theorem q119 : (Jvm.Cond.initialized "java/util/LinkedList") ∈ lw_all := lw_g (lw_at lw_m1 9 rfl) rfl
theorem q212 : (Jvm.Cond.fieldLink "java/util/LinkedList" (33 : Nat) "java/util/LinkedList" "modCount" "I") ∈ lw_all := lw_g (lw_at lw_m1 102 rfl) rfl
theorem q213 : (Jvm.Cond.sameField "java/util/LinkedList" "java/util/AbstractList" "modCount" "I") ∈ lw_all := lw_g (lw_at lw_m1 103 rfl) rfl
theorem q267 : (Jvm.Cond.instantiable "java/util/LinkedList" (4 : Nat)) ∈ lw_all := lw_g (lw_at lw_m1 157 rfl) rfl
theorem q269 : (Jvm.Cond.instanceMethod ({ cls := "java/util/LinkedList", name := "<init>", desc := "()V" } : Jvm.MethodName)) ∈ lw_all := lw_g (lw_at lw_m1 159 rfl) rfl
theorem q270 : (Jvm.Cond.code ({ cls := "java/util/LinkedList", name := "<init>", desc := "()V" } : Jvm.MethodName) prog_62_method_1_code (1 : Nat) (Option.none : Option Jvm.ClassFile.FieldType)) ∈ lw_all := lw_g (lw_at lw_m1 160 rfl) rfl
theorem q271 : (Jvm.Cond.methodLink "java/util/LinkedList" (1 : Nat) ({ cls := "java/util/AbstractSequentialList", name := "<init>", desc := "()V" } : Jvm.MethodName)) ∈ lw_all := lw_g (lw_at lw_m1 161 rfl) rfl
theorem q275 : (Jvm.Cond.fieldLink "java/util/LinkedList" (7 : Nat) "java/util/LinkedList" "size" "I") ∈ lw_all := lw_g (lw_at lw_m1 165 rfl) rfl
theorem q276 : (Jvm.Cond.fieldLink "java/util/LinkedList" (18 : Nat) "java/util/LinkedList" "first" "Ljava/util/LinkedList$Node;") ∈ lw_all := lw_g (lw_at lw_m1 166 rfl) rfl
theorem q277 : (Jvm.Cond.fieldLink "java/util/LinkedList" (27 : Nat) "java/util/LinkedList" "last" "Ljava/util/LinkedList$Node;") ∈ lw_all := lw_g (lw_at lw_m1 167 rfl) rfl
theorem q278 : (Jvm.Cond.lays "java/util/LinkedList" "java/util/LinkedList" "size" "I") ∈ lw_all := lw_g (lw_at lw_m1 168 rfl) rfl
theorem q279 : (Jvm.Cond.soleField "java/util/LinkedList" "size") ∈ lw_all := lw_g (lw_at lw_m1 169 rfl) rfl
theorem q280 : (Jvm.Cond.lays "java/util/LinkedList" "java/util/LinkedList" "first" "Ljava/util/LinkedList$Node;") ∈ lw_all := lw_g (lw_at lw_m1 170 rfl) rfl
theorem q281 : (Jvm.Cond.soleField "java/util/LinkedList" "first") ∈ lw_all := lw_g (lw_at lw_m1 171 rfl) rfl
theorem q282 : (Jvm.Cond.lays "java/util/LinkedList" "java/util/LinkedList" "last" "Ljava/util/LinkedList$Node;") ∈ lw_all := lw_g (lw_at lw_m1 172 rfl) rfl
theorem q283 : (Jvm.Cond.soleField "java/util/LinkedList" "last") ∈ lw_all := lw_g (lw_at lw_m1 173 rfl) rfl
theorem q284 : (Jvm.Cond.lays "java/util/LinkedList" "java/util/AbstractList" "modCount" "I") ∈ lw_all := lw_g (lw_at lw_m1 174 rfl) rfl
theorem q285 : (Jvm.Cond.superclass "java/util/LinkedList" "java/util/AbstractSequentialList") ∈ lw_all := lw_g (lw_at lw_m1 175 rfl) rfl
theorem q535 : (Jvm.Cond.castable "java/util/LinkedList" "java/util/List") ∈ lw_tbl := lw_at lw_m2 185 rfl
theorem q536 : (Jvm.Cond.selects "java/util/LinkedList" ({ cls := "java/util/List", name := "size", desc := "()I" } : Jvm.MethodName) ({ cls := "java/util/LinkedList", name := "size", desc := "()I" } : Jvm.MethodName)) ∈ lw_all := lw_g (lw_at lw_m2 186 rfl) rfl
theorem q537 : (Jvm.Cond.unhidden "java/util/LinkedList" "size" "()I") ∈ lw_tbl := lw_at lw_m2 187 rfl
theorem q538 : (Jvm.Cond.instanceMethod ({ cls := "java/util/LinkedList", name := "size", desc := "()I" } : Jvm.MethodName)) ∈ lw_all := lw_g (lw_at lw_m2 188 rfl) rfl
theorem q539 : (Jvm.Cond.publicMethod ({ cls := "java/util/LinkedList", name := "size", desc := "()I" } : Jvm.MethodName)) ∈ lw_tbl := lw_at lw_m2 189 rfl
theorem q540 : (Jvm.Cond.code ({ cls := "java/util/LinkedList", name := "size", desc := "()I" } : Jvm.MethodName) prog_62_method_16_code (1 : Nat) (Option.some Jvm.ClassFile.FieldType.int)) ∈ lw_all := lw_g (lw_at lw_m2 190 rfl) rfl
theorem q560 : (Jvm.Cond.selects "java/util/LinkedList" ({ cls := "java/util/List", name := "get", desc := "(I)Ljava/lang/Object;" } : Jvm.MethodName) ({ cls := "java/util/LinkedList", name := "get", desc := "(I)Ljava/lang/Object;" } : Jvm.MethodName)) ∈ lw_all := lw_g (lw_at lw_m2 210 rfl) rfl
theorem q561 : (Jvm.Cond.unhidden "java/util/LinkedList" "get" "(I)Ljava/lang/Object;") ∈ lw_tbl := lw_at lw_m2 211 rfl
theorem q562 : (Jvm.Cond.instanceMethod ({ cls := "java/util/LinkedList", name := "get", desc := "(I)Ljava/lang/Object;" } : Jvm.MethodName)) ∈ lw_all := lw_g (lw_at lw_m2 212 rfl) rfl
theorem q563 : (Jvm.Cond.publicMethod ({ cls := "java/util/LinkedList", name := "get", desc := "(I)Ljava/lang/Object;" } : Jvm.MethodName)) ∈ lw_tbl := lw_at lw_m2 213 rfl
theorem q564 : (Jvm.Cond.code ({ cls := "java/util/LinkedList", name := "get", desc := "(I)Ljava/lang/Object;" } : Jvm.MethodName) prog_62_method_22_code (2 : Nat) (Option.some (Jvm.ClassFile.FieldType.object "java/lang/Object"))) ∈ lw_all := lw_g (lw_at lw_m2 214 rfl) rfl
theorem q565 : (Jvm.Cond.methodLink "java/util/LinkedList" (90 : Nat) ({ cls := "java/util/LinkedList", name := "checkElementIndex", desc := "(I)V" } : Jvm.MethodName)) ∈ lw_all := lw_g (lw_at lw_m2 215 rfl) rfl
theorem q566 : (Jvm.Cond.privateMethod ({ cls := "java/util/LinkedList", name := "checkElementIndex", desc := "(I)V" } : Jvm.MethodName)) ∈ lw_tbl := lw_at lw_m2 216 rfl
theorem q567 : (Jvm.Cond.instanceMethod ({ cls := "java/util/LinkedList", name := "checkElementIndex", desc := "(I)V" } : Jvm.MethodName)) ∈ lw_all := lw_g (lw_at lw_m2 217 rfl) rfl
theorem q568 : (Jvm.Cond.code ({ cls := "java/util/LinkedList", name := "checkElementIndex", desc := "(I)V" } : Jvm.MethodName) prog_62_method_29_code (2 : Nat) (Option.none : Option Jvm.ClassFile.FieldType)) ∈ lw_all := lw_g (lw_at lw_m2 218 rfl) rfl
theorem q569 : (Jvm.Cond.methodLink "java/util/LinkedList" (115 : Nat) ({ cls := "java/util/LinkedList", name := "isElementIndex", desc := "(I)Z" } : Jvm.MethodName)) ∈ lw_all := lw_g (lw_at lw_m2 219 rfl) rfl
theorem q570 : (Jvm.Cond.privateMethod ({ cls := "java/util/LinkedList", name := "isElementIndex", desc := "(I)Z" } : Jvm.MethodName)) ∈ lw_tbl := lw_at lw_m2 220 rfl
theorem q571 : (Jvm.Cond.instanceMethod ({ cls := "java/util/LinkedList", name := "isElementIndex", desc := "(I)Z" } : Jvm.MethodName)) ∈ lw_all := lw_g (lw_at lw_m2 221 rfl) rfl
theorem q572 : (Jvm.Cond.code ({ cls := "java/util/LinkedList", name := "isElementIndex", desc := "(I)Z" } : Jvm.MethodName) prog_62_method_26_code (2 : Nat) (Option.some Jvm.ClassFile.FieldType.boolean)) ∈ lw_all := lw_g (lw_at lw_m2 222 rfl) rfl
theorem q573 : (Jvm.Cond.classLink "java/util/LinkedList" (119 : Nat) "java/lang/IndexOutOfBoundsException") ∈ lw_all := lw_g (lw_at lw_m2 223 rfl) rfl
theorem q582 : (Jvm.Cond.methodLink "java/util/LinkedList" (121 : Nat) ({ cls := "java/util/LinkedList", name := "outOfBoundsMsg", desc := "(I)Ljava/lang/String;" } : Jvm.MethodName)) ∈ lw_all := lw_g (lw_at lw_m2 232 rfl) rfl
theorem q583 : (Jvm.Cond.privateMethod ({ cls := "java/util/LinkedList", name := "outOfBoundsMsg", desc := "(I)Ljava/lang/String;" } : Jvm.MethodName)) ∈ lw_tbl := lw_at lw_m2 233 rfl
theorem q584 : (Jvm.Cond.instanceMethod ({ cls := "java/util/LinkedList", name := "outOfBoundsMsg", desc := "(I)Ljava/lang/String;" } : Jvm.MethodName)) ∈ lw_all := lw_g (lw_at lw_m2 234 rfl) rfl
theorem q585 : (Jvm.Cond.code ({ cls := "java/util/LinkedList", name := "outOfBoundsMsg", desc := "(I)Ljava/lang/String;" } : Jvm.MethodName) prog_62_method_28_code (2 : Nat) (Option.some (Jvm.ClassFile.FieldType.object "java/lang/String"))) ∈ lw_all := lw_g (lw_at lw_m2 235 rfl) rfl
theorem q586 : (Jvm.Cond.classLink "java/util/LinkedList" (97 : Nat) "java/lang/StringBuilder") ∈ lw_all := lw_g (lw_at lw_m2 236 rfl) rfl
theorem q587 : (Jvm.Cond.methodLink "java/util/LinkedList" (99 : Nat) ({ cls := "java/lang/StringBuilder", name := "<init>", desc := "()V" } : Jvm.MethodName)) ∈ lw_all := lw_g (lw_at lw_m2 237 rfl) rfl
theorem q588 : (Jvm.Cond.stringRef "java/util/LinkedList" (100 : Nat) "Index: ") ∈ lw_tbl := lw_at lw_m2 238 rfl
theorem q589 : (Jvm.Cond.methodLink "java/util/LinkedList" (102 : Nat) ({ cls := "java/lang/StringBuilder", name := "append", desc := "(Ljava/lang/String;)Ljava/lang/StringBuilder;" } : Jvm.MethodName)) ∈ lw_all := lw_g (lw_at lw_m2 239 rfl) rfl
theorem q709 : (Jvm.Cond.methodLink "java/util/LinkedList" (106 : Nat) ({ cls := "java/lang/StringBuilder", name := "append", desc := "(I)Ljava/lang/StringBuilder;" } : Jvm.MethodName)) ∈ lw_all := lw_g (lw_at lw_m3 119 rfl) rfl
theorem q734 : (Jvm.Cond.stringRef "java/util/LinkedList" (109 : Nat) ", Size: ") ∈ lw_tbl := lw_at lw_m3 144 rfl
theorem q735 : (Jvm.Cond.methodLink "java/util/LinkedList" (111 : Nat) ({ cls := "java/lang/StringBuilder", name := "toString", desc := "()Ljava/lang/String;" } : Jvm.MethodName)) ∈ lw_all := lw_g (lw_at lw_m3 145 rfl) rfl
theorem q826 : (Jvm.Cond.methodLink "java/util/LinkedList" (125 : Nat) ({ cls := "java/lang/IndexOutOfBoundsException", name := "<init>", desc := "(Ljava/lang/String;)V" } : Jvm.MethodName)) ∈ lw_all := lw_g (lw_at lw_m3 236 rfl) rfl
theorem q832 : (Jvm.Cond.methodLink "java/util/LinkedList" (86 : Nat) ({ cls := "java/util/LinkedList", name := "node", desc := "(I)Ljava/util/LinkedList$Node;" } : Jvm.MethodName)) ∈ lw_all := lw_g (lw_at lw_m4 2 rfl) rfl
theorem q833 : (Jvm.Cond.instanceMethod ({ cls := "java/util/LinkedList", name := "node", desc := "(I)Ljava/util/LinkedList$Node;" } : Jvm.MethodName)) ∈ lw_all := lw_g (lw_at lw_m4 3 rfl) rfl
theorem q834 : (Jvm.Cond.selects "java/util/LinkedList" ({ cls := "java/util/LinkedList", name := "node", desc := "(I)Ljava/util/LinkedList$Node;" } : Jvm.MethodName) ({ cls := "java/util/LinkedList", name := "node", desc := "(I)Ljava/util/LinkedList$Node;" } : Jvm.MethodName)) ∈ lw_all := lw_g (lw_at lw_m4 4 rfl) rfl
theorem q835 : (Jvm.Cond.code ({ cls := "java/util/LinkedList", name := "node", desc := "(I)Ljava/util/LinkedList$Node;" } : Jvm.MethodName) prog_62_method_31_code (4 : Nat) (Option.some (Jvm.ClassFile.FieldType.object "java/util/LinkedList$Node"))) ∈ lw_all := lw_g (lw_at lw_m4 5 rfl) rfl
theorem q895 : (Jvm.Cond.selects "java/util/LinkedList" ({ cls := "java/lang/Object", name := "getClass", desc := "()Ljava/lang/Class;" } : Jvm.MethodName) ({ cls := "java/lang/Object", name := "getClass", desc := "()Ljava/lang/Class;" } : Jvm.MethodName)) ∈ lw_all := lw_g (lw_at lw_m4 65 rfl) rfl
theorem q908 : (Jvm.Cond.selects "java/util/LinkedList" ({ cls := "java/util/List", name := "add", desc := "(Ljava/lang/Object;)Z" } : Jvm.MethodName) ({ cls := "java/util/LinkedList", name := "add", desc := "(Ljava/lang/Object;)Z" } : Jvm.MethodName)) ∈ lw_all := lw_g (lw_at lw_m4 78 rfl) rfl
theorem q909 : (Jvm.Cond.unhidden "java/util/LinkedList" "add" "(Ljava/lang/Object;)Z") ∈ lw_tbl := lw_at lw_m4 79 rfl
theorem q910 : (Jvm.Cond.instanceMethod ({ cls := "java/util/LinkedList", name := "add", desc := "(Ljava/lang/Object;)Z" } : Jvm.MethodName)) ∈ lw_all := lw_g (lw_at lw_m4 80 rfl) rfl
theorem q911 : (Jvm.Cond.publicMethod ({ cls := "java/util/LinkedList", name := "add", desc := "(Ljava/lang/Object;)Z" } : Jvm.MethodName)) ∈ lw_tbl := lw_at lw_m4 81 rfl
theorem q912 : (Jvm.Cond.code ({ cls := "java/util/LinkedList", name := "add", desc := "(Ljava/lang/Object;)Z" } : Jvm.MethodName) prog_62_method_17_code (2 : Nat) (Option.some Jvm.ClassFile.FieldType.boolean)) ∈ lw_all := lw_g (lw_at lw_m4 82 rfl) rfl
theorem q913 : (Jvm.Cond.methodLink "java/util/LinkedList" (57 : Nat) ({ cls := "java/util/LinkedList", name := "linkLast", desc := "(Ljava/lang/Object;)V" } : Jvm.MethodName)) ∈ lw_all := lw_g (lw_at lw_m4 83 rfl) rfl
theorem q914 : (Jvm.Cond.instanceMethod ({ cls := "java/util/LinkedList", name := "linkLast", desc := "(Ljava/lang/Object;)V" } : Jvm.MethodName)) ∈ lw_all := lw_g (lw_at lw_m4 84 rfl) rfl
theorem q915 : (Jvm.Cond.selects "java/util/LinkedList" ({ cls := "java/util/LinkedList", name := "linkLast", desc := "(Ljava/lang/Object;)V" } : Jvm.MethodName) ({ cls := "java/util/LinkedList", name := "linkLast", desc := "(Ljava/lang/Object;)V" } : Jvm.MethodName)) ∈ lw_all := lw_g (lw_at lw_m4 85 rfl) rfl
theorem q916 : (Jvm.Cond.code ({ cls := "java/util/LinkedList", name := "linkLast", desc := "(Ljava/lang/Object;)V" } : Jvm.MethodName) prog_62_method_4_code (4 : Nat) (Option.none : Option Jvm.ClassFile.FieldType)) ∈ lw_all := lw_g (lw_at lw_m4 86 rfl) rfl
theorem q917 : (Jvm.Cond.classLink "java/util/LinkedList" (22 : Nat) "java/util/LinkedList$Node") ∈ lw_all := lw_g (lw_at lw_m4 87 rfl) rfl
theorem q919 : (Jvm.Cond.methodLink "java/util/LinkedList" (24 : Nat) ({ cls := "java/util/LinkedList$Node", name := "<init>", desc := "(Ljava/util/LinkedList$Node;Ljava/lang/Object;Ljava/util/LinkedList$Node;)V" } : Jvm.MethodName)) ∈ lw_all := lw_g (lw_at lw_m4 89 rfl) rfl
theorem q924 : (Jvm.Cond.fieldLink "java/util/LinkedList" (39 : Nat) "java/util/LinkedList$Node" "item" "Ljava/lang/Object;") ∈ lw_all := lw_g (lw_at lw_m4 94 rfl) rfl
theorem q926 : (Jvm.Cond.fieldLink "java/util/LinkedList" (36 : Nat) "java/util/LinkedList$Node" "next" "Ljava/util/LinkedList$Node;") ∈ lw_all := lw_g (lw_at lw_m4 96 rfl) rfl
theorem q928 : (Jvm.Cond.fieldLink "java/util/LinkedList" (30 : Nat) "java/util/LinkedList$Node" "prev" "Ljava/util/LinkedList$Node;") ∈ lw_all := lw_g (lw_at lw_m4 98 rfl) rfl
theorem q1161 : (Jvm.Cond.selects "java/util/LinkedList" ({ cls := "java/util/List", name := "remove", desc := "(I)Ljava/lang/Object;" } : Jvm.MethodName) ({ cls := "java/util/LinkedList", name := "remove", desc := "(I)Ljava/lang/Object;" } : Jvm.MethodName)) ∈ lw_all := lw_g (lw_at lw_m5 91 rfl) rfl
theorem q1162 : (Jvm.Cond.unhidden "java/util/LinkedList" "remove" "(I)Ljava/lang/Object;") ∈ lw_tbl := lw_at lw_m5 92 rfl
theorem q1163 : (Jvm.Cond.instanceMethod ({ cls := "java/util/LinkedList", name := "remove", desc := "(I)Ljava/lang/Object;" } : Jvm.MethodName)) ∈ lw_all := lw_g (lw_at lw_m5 93 rfl) rfl
theorem q1164 : (Jvm.Cond.publicMethod ({ cls := "java/util/LinkedList", name := "remove", desc := "(I)Ljava/lang/Object;" } : Jvm.MethodName)) ∈ lw_tbl := lw_at lw_m5 94 rfl
theorem q1165 : (Jvm.Cond.code ({ cls := "java/util/LinkedList", name := "remove", desc := "(I)Ljava/lang/Object;" } : Jvm.MethodName) prog_62_method_25_code (2 : Nat) (Option.some (Jvm.ClassFile.FieldType.object "java/lang/Object"))) ∈ lw_all := lw_g (lw_at lw_m5 95 rfl) rfl
theorem q1166 : (Jvm.Cond.methodLink "java/util/LinkedList" (64 : Nat) ({ cls := "java/util/LinkedList", name := "unlink", desc := "(Ljava/util/LinkedList$Node;)Ljava/lang/Object;" } : Jvm.MethodName)) ∈ lw_all := lw_g (lw_at lw_m5 96 rfl) rfl
theorem q1167 : (Jvm.Cond.instanceMethod ({ cls := "java/util/LinkedList", name := "unlink", desc := "(Ljava/util/LinkedList$Node;)Ljava/lang/Object;" } : Jvm.MethodName)) ∈ lw_all := lw_g (lw_at lw_m5 97 rfl) rfl
theorem q1168 : (Jvm.Cond.selects "java/util/LinkedList" ({ cls := "java/util/LinkedList", name := "unlink", desc := "(Ljava/util/LinkedList$Node;)Ljava/lang/Object;" } : Jvm.MethodName) ({ cls := "java/util/LinkedList", name := "unlink", desc := "(Ljava/util/LinkedList$Node;)Ljava/lang/Object;" } : Jvm.MethodName)) ∈ lw_all := lw_g (lw_at lw_m5 98 rfl) rfl
theorem q1169 : (Jvm.Cond.code ({ cls := "java/util/LinkedList", name := "unlink", desc := "(Ljava/util/LinkedList$Node;)Ljava/lang/Object;" } : Jvm.MethodName) prog_62_method_8_code (5 : Nat) (Option.some (Jvm.ClassFile.FieldType.object "java/lang/Object"))) ∈ lw_all := lw_g (lw_at lw_m5 99 rfl) rfl
theorem q1527 : (Jvm.Cond.instanceMethod ({ cls := "java/util/LinkedList", name := "removeFirst", desc := "()Ljava/lang/Object;" } : Jvm.MethodName)) ∈ lw_all := lw_g (lw_at lw_m6 217 rfl) rfl
theorem q1528 : (Jvm.Cond.selects "java/util/LinkedList" ({ cls := "java/util/LinkedList", name := "removeFirst", desc := "()Ljava/lang/Object;" } : Jvm.MethodName) ({ cls := "java/util/LinkedList", name := "removeFirst", desc := "()Ljava/lang/Object;" } : Jvm.MethodName)) ∈ lw_all := lw_g (lw_at lw_m6 218 rfl) rfl
theorem q1529 : (Jvm.Cond.code ({ cls := "java/util/LinkedList", name := "removeFirst", desc := "()Ljava/lang/Object;" } : Jvm.MethodName) prog_62_method_11_code (2 : Nat) (Option.some (Jvm.ClassFile.FieldType.object "java/lang/Object"))) ∈ lw_all := lw_g (lw_at lw_m6 219 rfl) rfl
theorem q1530 : (Jvm.Cond.classLink "java/util/LinkedList" (43 : Nat) "java/util/NoSuchElementException") ∈ lw_all := lw_g (lw_at lw_m6 220 rfl) rfl
theorem q1531 : (Jvm.Cond.methodLink "java/util/LinkedList" (45 : Nat) ({ cls := "java/util/NoSuchElementException", name := "<init>", desc := "()V" } : Jvm.MethodName)) ∈ lw_all := lw_g (lw_at lw_m6 221 rfl) rfl
theorem q1532 : (Jvm.Cond.methodLink "java/util/LinkedList" (46 : Nat) ({ cls := "java/util/LinkedList", name := "unlinkFirst", desc := "(Ljava/util/LinkedList$Node;)Ljava/lang/Object;" } : Jvm.MethodName)) ∈ lw_all := lw_g (lw_at lw_m6 222 rfl) rfl
theorem q1533 : (Jvm.Cond.privateMethod ({ cls := "java/util/LinkedList", name := "unlinkFirst", desc := "(Ljava/util/LinkedList$Node;)Ljava/lang/Object;" } : Jvm.MethodName)) ∈ lw_tbl := lw_at lw_m6 223 rfl
theorem q1534 : (Jvm.Cond.instanceMethod ({ cls := "java/util/LinkedList", name := "unlinkFirst", desc := "(Ljava/util/LinkedList$Node;)Ljava/lang/Object;" } : Jvm.MethodName)) ∈ lw_all := lw_g (lw_at lw_m6 224 rfl) rfl
theorem q1535 : (Jvm.Cond.code ({ cls := "java/util/LinkedList", name := "unlinkFirst", desc := "(Ljava/util/LinkedList$Node;)Ljava/lang/Object;" } : Jvm.MethodName) prog_62_method_6_code (4 : Nat) (Option.some (Jvm.ClassFile.FieldType.object "java/lang/Object"))) ∈ lw_all := lw_g (lw_at lw_m6 225 rfl) rfl
theorem q1537 : (Jvm.Cond.instanceMethod ({ cls := "java/util/LinkedList", name := "addLast", desc := "(Ljava/lang/Object;)V" } : Jvm.MethodName)) ∈ lw_all := lw_g (lw_at lw_m6 227 rfl) rfl
theorem q1538 : (Jvm.Cond.selects "java/util/LinkedList" ({ cls := "java/util/LinkedList", name := "addLast", desc := "(Ljava/lang/Object;)V" } : Jvm.MethodName) ({ cls := "java/util/LinkedList", name := "addLast", desc := "(Ljava/lang/Object;)V" } : Jvm.MethodName)) ∈ lw_all := lw_g (lw_at lw_m6 228 rfl) rfl
theorem q1539 : (Jvm.Cond.code ({ cls := "java/util/LinkedList", name := "addLast", desc := "(Ljava/lang/Object;)V" } : Jvm.MethodName) prog_62_method_14_code (2 : Nat) (Option.none : Option Jvm.ClassFile.FieldType)) ∈ lw_all := lw_g (lw_at lw_m6 229 rfl) rfl
theorem q1786 : (Jvm.Cond.selects "java/util/LinkedList" ({ cls := "java/util/List", name := "add", desc := "(ILjava/lang/Object;)V" } : Jvm.MethodName) ({ cls := "java/util/LinkedList", name := "add", desc := "(ILjava/lang/Object;)V" } : Jvm.MethodName)) ∈ lw_all := lw_g (lw_at lw_m7 236 rfl) rfl
theorem q1787 : (Jvm.Cond.unhidden "java/util/LinkedList" "add" "(ILjava/lang/Object;)V") ∈ lw_tbl := lw_at lw_m7 237 rfl
theorem q1788 : (Jvm.Cond.instanceMethod ({ cls := "java/util/LinkedList", name := "add", desc := "(ILjava/lang/Object;)V" } : Jvm.MethodName)) ∈ lw_all := lw_g (lw_at lw_m7 238 rfl) rfl
theorem q1789 : (Jvm.Cond.publicMethod ({ cls := "java/util/LinkedList", name := "add", desc := "(ILjava/lang/Object;)V" } : Jvm.MethodName)) ∈ lw_tbl := lw_at lw_m7 239 rfl
theorem q1790 : (Jvm.Cond.code ({ cls := "java/util/LinkedList", name := "add", desc := "(ILjava/lang/Object;)V" } : Jvm.MethodName) prog_62_method_24_code (3 : Nat) (Option.none : Option Jvm.ClassFile.FieldType)) ∈ lw_all := lw_g (lw_at lw_m8 0 rfl) rfl
theorem q1791 : (Jvm.Cond.methodLink "java/util/LinkedList" (76 : Nat) ({ cls := "java/util/LinkedList", name := "checkPositionIndex", desc := "(I)V" } : Jvm.MethodName)) ∈ lw_all := lw_g (lw_at lw_m8 1 rfl) rfl
theorem q1792 : (Jvm.Cond.privateMethod ({ cls := "java/util/LinkedList", name := "checkPositionIndex", desc := "(I)V" } : Jvm.MethodName)) ∈ lw_tbl := lw_at lw_m8 2 rfl
theorem q1793 : (Jvm.Cond.instanceMethod ({ cls := "java/util/LinkedList", name := "checkPositionIndex", desc := "(I)V" } : Jvm.MethodName)) ∈ lw_all := lw_g (lw_at lw_m8 3 rfl) rfl
theorem q1794 : (Jvm.Cond.code ({ cls := "java/util/LinkedList", name := "checkPositionIndex", desc := "(I)V" } : Jvm.MethodName) prog_62_method_30_code (2 : Nat) (Option.none : Option Jvm.ClassFile.FieldType)) ∈ lw_all := lw_g (lw_at lw_m8 4 rfl) rfl
theorem q1795 : (Jvm.Cond.methodLink "java/util/LinkedList" (128 : Nat) ({ cls := "java/util/LinkedList", name := "isPositionIndex", desc := "(I)Z" } : Jvm.MethodName)) ∈ lw_all := lw_g (lw_at lw_m8 5 rfl) rfl
theorem q1796 : (Jvm.Cond.privateMethod ({ cls := "java/util/LinkedList", name := "isPositionIndex", desc := "(I)Z" } : Jvm.MethodName)) ∈ lw_tbl := lw_at lw_m8 6 rfl
theorem q1797 : (Jvm.Cond.instanceMethod ({ cls := "java/util/LinkedList", name := "isPositionIndex", desc := "(I)Z" } : Jvm.MethodName)) ∈ lw_all := lw_g (lw_at lw_m8 7 rfl) rfl
theorem q1798 : (Jvm.Cond.code ({ cls := "java/util/LinkedList", name := "isPositionIndex", desc := "(I)Z" } : Jvm.MethodName) prog_62_method_27_code (2 : Nat) (Option.some Jvm.ClassFile.FieldType.boolean)) ∈ lw_all := lw_g (lw_at lw_m8 8 rfl) rfl
theorem q1799 : (Jvm.Cond.methodLink "java/util/LinkedList" (93 : Nat) ({ cls := "java/util/LinkedList", name := "linkBefore", desc := "(Ljava/lang/Object;Ljava/util/LinkedList$Node;)V" } : Jvm.MethodName)) ∈ lw_all := lw_g (lw_at lw_m8 9 rfl) rfl
theorem q1800 : (Jvm.Cond.instanceMethod ({ cls := "java/util/LinkedList", name := "linkBefore", desc := "(Ljava/lang/Object;Ljava/util/LinkedList$Node;)V" } : Jvm.MethodName)) ∈ lw_all := lw_g (lw_at lw_m8 10 rfl) rfl
theorem q1801 : (Jvm.Cond.selects "java/util/LinkedList" ({ cls := "java/util/LinkedList", name := "linkBefore", desc := "(Ljava/lang/Object;Ljava/util/LinkedList$Node;)V" } : Jvm.MethodName) ({ cls := "java/util/LinkedList", name := "linkBefore", desc := "(Ljava/lang/Object;Ljava/util/LinkedList$Node;)V" } : Jvm.MethodName)) ∈ lw_all := lw_g (lw_at lw_m8 11 rfl) rfl
theorem q1802 : (Jvm.Cond.code ({ cls := "java/util/LinkedList", name := "linkBefore", desc := "(Ljava/lang/Object;Ljava/util/LinkedList$Node;)V" } : Jvm.MethodName) prog_62_method_5_code (5 : Nat) (Option.none : Option Jvm.ClassFile.FieldType)) ∈ lw_all := lw_g (lw_at lw_m8 12 rfl) rfl
theorem q2670 : (Jvm.Cond.instanceMethod ({ cls := "java/util/LinkedList", name := "removeLast", desc := "()Ljava/lang/Object;" } : Jvm.MethodName)) ∈ lw_all := lw_g (lw_at lw_m11 160 rfl) rfl
theorem q2671 : (Jvm.Cond.selects "java/util/LinkedList" ({ cls := "java/util/LinkedList", name := "removeLast", desc := "()Ljava/lang/Object;" } : Jvm.MethodName) ({ cls := "java/util/LinkedList", name := "removeLast", desc := "()Ljava/lang/Object;" } : Jvm.MethodName)) ∈ lw_all := lw_g (lw_at lw_m11 161 rfl) rfl
theorem q2672 : (Jvm.Cond.code ({ cls := "java/util/LinkedList", name := "removeLast", desc := "()Ljava/lang/Object;" } : Jvm.MethodName) prog_62_method_12_code (2 : Nat) (Option.some (Jvm.ClassFile.FieldType.object "java/lang/Object"))) ∈ lw_all := lw_g (lw_at lw_m11 162 rfl) rfl
theorem q2673 : (Jvm.Cond.methodLink "java/util/LinkedList" (50 : Nat) ({ cls := "java/util/LinkedList", name := "unlinkLast", desc := "(Ljava/util/LinkedList$Node;)Ljava/lang/Object;" } : Jvm.MethodName)) ∈ lw_all := lw_g (lw_at lw_m11 163 rfl) rfl
theorem q2674 : (Jvm.Cond.privateMethod ({ cls := "java/util/LinkedList", name := "unlinkLast", desc := "(Ljava/util/LinkedList$Node;)Ljava/lang/Object;" } : Jvm.MethodName)) ∈ lw_tbl := lw_at lw_m11 164 rfl
theorem q2675 : (Jvm.Cond.instanceMethod ({ cls := "java/util/LinkedList", name := "unlinkLast", desc := "(Ljava/util/LinkedList$Node;)Ljava/lang/Object;" } : Jvm.MethodName)) ∈ lw_all := lw_g (lw_at lw_m11 165 rfl) rfl
theorem q2676 : (Jvm.Cond.code ({ cls := "java/util/LinkedList", name := "unlinkLast", desc := "(Ljava/util/LinkedList$Node;)Ljava/lang/Object;" } : Jvm.MethodName) prog_62_method_7_code (4 : Nat) (Option.some (Jvm.ClassFile.FieldType.object "java/lang/Object"))) ∈ lw_all := lw_g (lw_at lw_m11 166 rfl) rfl
theorem q2690 : (Jvm.Cond.instanceMethod ({ cls := "java/util/LinkedList", name := "clear", desc := "()V" } : Jvm.MethodName)) ∈ lw_all := lw_g (lw_at lw_m11 180 rfl) rfl
theorem q2691 : (Jvm.Cond.selects "java/util/LinkedList" ({ cls := "java/util/LinkedList", name := "clear", desc := "()V" } : Jvm.MethodName) ({ cls := "java/util/LinkedList", name := "clear", desc := "()V" } : Jvm.MethodName)) ∈ lw_all := lw_g (lw_at lw_m11 181 rfl) rfl
theorem q2692 : (Jvm.Cond.code ({ cls := "java/util/LinkedList", name := "clear", desc := "()V" } : Jvm.MethodName) prog_62_method_21_code (3 : Nat) (Option.none : Option Jvm.ClassFile.FieldType)) ∈ lw_all := lw_g (lw_at lw_m11 182 rfl) rfl
theorem q3301 : (Jvm.Cond.selects "java/util/LinkedList" ({ cls := "java/util/LinkedList", name := "size", desc := "()I" } : Jvm.MethodName) ({ cls := "java/util/LinkedList", name := "size", desc := "()I" } : Jvm.MethodName)) ∈ lw_all := lw_g (lw_at lw_m14 71 rfl) rfl
theorem q3314 : (Jvm.Cond.castable "java/util/LinkedList" "java/lang/Object") ∈ lw_tbl := lw_at lw_m14 84 rfl
theorem q120 : (Jvm.Cond.initialized "java/lang/AbstractStringBuilder") ∈ lw_all := lw_g (lw_at lw_m1 10 rfl) rfl
theorem q296 : (Jvm.Cond.instanceMethod ({ cls := "java/lang/AbstractStringBuilder", name := "<init>", desc := "(I)V" } : Jvm.MethodName)) ∈ lw_all := lw_g (lw_at lw_m1 186 rfl) rfl
theorem q297 : (Jvm.Cond.code ({ cls := "java/lang/AbstractStringBuilder", name := "<init>", desc := "(I)V" } : Jvm.MethodName) prog_24_method_2_code (2 : Nat) (Option.none : Option Jvm.ClassFile.FieldType)) ∈ lw_all := lw_g (lw_at lw_m1 187 rfl) rfl
theorem q298 : (Jvm.Cond.methodLink "java/lang/AbstractStringBuilder" (3 : Nat) ({ cls := "java/lang/Object", name := "<init>", desc := "()V" } : Jvm.MethodName)) ∈ lw_all := lw_g (lw_at lw_m1 188 rfl) rfl
theorem q299 : (Jvm.Cond.fieldLink "java/lang/AbstractStringBuilder" (18 : Nat) "java/lang/String" "COMPACT_STRINGS" "Z") ∈ lw_all := lw_g (lw_at lw_m1 189 rfl) rfl
theorem q301 : (Jvm.Cond.methodLink "java/lang/AbstractStringBuilder" (26 : Nat) ({ cls := "java/lang/StringUTF16", name := "newBytesFor", desc := "(I)[B" } : Jvm.MethodName)) ∈ lw_all := lw_g (lw_at lw_m1 191 rfl) rfl
theorem q308 : (Jvm.Cond.fieldLink "java/lang/AbstractStringBuilder" (15 : Nat) "java/lang/AbstractStringBuilder" "value" "[B") ∈ lw_all := lw_g (lw_at lw_m1 198 rfl) rfl
theorem q309 : (Jvm.Cond.fieldLink "java/lang/AbstractStringBuilder" (22 : Nat) "java/lang/AbstractStringBuilder" "coder" "B") ∈ lw_all := lw_g (lw_at lw_m1 199 rfl) rfl
theorem q310 : (Jvm.Cond.fieldLink "java/lang/AbstractStringBuilder" (73 : Nat) "java/lang/AbstractStringBuilder" "maybeLatin1" "Z") ∈ lw_all := lw_g (lw_at lw_m1 200 rfl) rfl
theorem q312 : (Jvm.Cond.fieldLink "java/lang/AbstractStringBuilder" (79 : Nat) "java/lang/AbstractStringBuilder" "count" "I") ∈ lw_all := lw_g (lw_at lw_m1 202 rfl) rfl
theorem q314 : (Jvm.Cond.soleField "java/lang/AbstractStringBuilder" "value") ∈ lw_all := lw_g (lw_at lw_m1 204 rfl) rfl
theorem q316 : (Jvm.Cond.soleField "java/lang/AbstractStringBuilder" "coder") ∈ lw_all := lw_g (lw_at lw_m1 206 rfl) rfl
theorem q318 : (Jvm.Cond.soleField "java/lang/AbstractStringBuilder" "maybeLatin1") ∈ lw_all := lw_g (lw_at lw_m1 208 rfl) rfl
theorem q320 : (Jvm.Cond.soleField "java/lang/AbstractStringBuilder" "count") ∈ lw_all := lw_g (lw_at lw_m1 210 rfl) rfl
theorem q594 : (Jvm.Cond.instanceMethod ({ cls := "java/lang/AbstractStringBuilder", name := "append", desc := "(Ljava/lang/String;)Ljava/lang/AbstractStringBuilder;" } : Jvm.MethodName)) ∈ lw_all := lw_g (lw_at lw_m3 4 rfl) rfl
theorem q595 : (Jvm.Cond.code ({ cls := "java/lang/AbstractStringBuilder", name := "append", desc := "(Ljava/lang/String;)Ljava/lang/AbstractStringBuilder;" } : Jvm.MethodName) prog_24_method_22_code (3 : Nat) (Option.some (Jvm.ClassFile.FieldType.object "java/lang/AbstractStringBuilder"))) ∈ lw_all := lw_g (lw_at lw_m3 5 rfl) rfl
theorem q596 : (Jvm.Cond.methodLink "java/lang/AbstractStringBuilder" (204 : Nat) ({ cls := "java/lang/AbstractStringBuilder", name := "appendNull", desc := "()Ljava/lang/AbstractStringBuilder;" } : Jvm.MethodName)) ∈ lw_all := lw_g (lw_at lw_m3 6 rfl) rfl
theorem q597 : (Jvm.Cond.privateMethod ({ cls := "java/lang/AbstractStringBuilder", name := "appendNull", desc := "()Ljava/lang/AbstractStringBuilder;" } : Jvm.MethodName)) ∈ lw_tbl := lw_at lw_m3 7 rfl
theorem q598 : (Jvm.Cond.instanceMethod ({ cls := "java/lang/AbstractStringBuilder", name := "appendNull", desc := "()Ljava/lang/AbstractStringBuilder;" } : Jvm.MethodName)) ∈ lw_all := lw_g (lw_at lw_m3 8 rfl) rfl
theorem q599 : (Jvm.Cond.code ({ cls := "java/lang/AbstractStringBuilder", name := "appendNull", desc := "()Ljava/lang/AbstractStringBuilder;" } : Jvm.MethodName) prog_24_method_26_code (3 : Nat) (Option.some (Jvm.ClassFile.FieldType.object "java/lang/AbstractStringBuilder"))) ∈ lw_all := lw_g (lw_at lw_m3 9 rfl) rfl
theorem q600 : (Jvm.Cond.methodLink "java/lang/AbstractStringBuilder" (100 : Nat) ({ cls := "java/lang/AbstractStringBuilder", name := "ensureCapacityInternal", desc := "(I)V" } : Jvm.MethodName)) ∈ lw_all := lw_g (lw_at lw_m3 10 rfl) rfl
theorem q601 : (Jvm.Cond.privateMethod ({ cls := "java/lang/AbstractStringBuilder", name := "ensureCapacityInternal", desc := "(I)V" } : Jvm.MethodName)) ∈ lw_tbl := lw_at lw_m3 11 rfl
theorem q602 : (Jvm.Cond.instanceMethod ({ cls := "java/lang/AbstractStringBuilder", name := "ensureCapacityInternal", desc := "(I)V" } : Jvm.MethodName)) ∈ lw_all := lw_g (lw_at lw_m3 12 rfl) rfl
theorem q603 : (Jvm.Cond.code ({ cls := "java/lang/AbstractStringBuilder", name := "ensureCapacityInternal", desc := "(I)V" } : Jvm.MethodName) prog_24_method_9_code (3 : Nat) (Option.none : Option Jvm.ClassFile.FieldType)) ∈ lw_all := lw_g (lw_at lw_m3 13 rfl) rfl
theorem q604 : (Jvm.Cond.methodLink "java/lang/AbstractStringBuilder" (104 : Nat) ({ cls := "java/lang/AbstractStringBuilder", name := "newCapacity", desc := "(I)I" } : Jvm.MethodName)) ∈ lw_all := lw_g (lw_at lw_m3 14 rfl) rfl
theorem q605 : (Jvm.Cond.privateMethod ({ cls := "java/lang/AbstractStringBuilder", name := "newCapacity", desc := "(I)I" } : Jvm.MethodName)) ∈ lw_tbl := lw_at lw_m3 15 rfl
theorem q606 : (Jvm.Cond.instanceMethod ({ cls := "java/lang/AbstractStringBuilder", name := "newCapacity", desc := "(I)I" } : Jvm.MethodName)) ∈ lw_all := lw_g (lw_at lw_m3 16 rfl) rfl
theorem q607 : (Jvm.Cond.code ({ cls := "java/lang/AbstractStringBuilder", name := "newCapacity", desc := "(I)I" } : Jvm.MethodName) prog_24_method_10_code (6 : Nat) (Option.some Jvm.ClassFile.FieldType.int)) ∈ lw_all := lw_g (lw_at lw_m3 17 rfl) rfl
theorem q608 : (Jvm.Cond.methodLink "java/lang/AbstractStringBuilder" (114 : Nat) ({ cls := "jdk/internal/util/ArraysSupport", name := "newLength", desc := "(III)I" } : Jvm.MethodName)) ∈ lw_all := lw_g (lw_at lw_m3 18 rfl) rfl
theorem q618 : (Jvm.Cond.constant "java/lang/AbstractStringBuilder" (39 : Nat) (2147483647 : Int32)) ∈ lw_all := lw_g (lw_at lw_m3 28 rfl) rfl
theorem q619 : (Jvm.Cond.methodLink "java/lang/AbstractStringBuilder" (108 : Nat) ({ cls := "java/util/Arrays", name := "copyOf", desc := "([BI)[B" } : Jvm.MethodName)) ∈ lw_all := lw_g (lw_at lw_m3 29 rfl) rfl
theorem q635 : (Jvm.Cond.methodLink "java/lang/AbstractStringBuilder" (83 : Nat) ({ cls := "java/lang/AbstractStringBuilder", name := "isLatin1", desc := "()Z" } : Jvm.MethodName)) ∈ lw_all := lw_g (lw_at lw_m3 45 rfl) rfl
theorem q636 : (Jvm.Cond.instanceMethod ({ cls := "java/lang/AbstractStringBuilder", name := "isLatin1", desc := "()Z" } : Jvm.MethodName)) ∈ lw_all := lw_g (lw_at lw_m3 46 rfl) rfl
theorem q637 : (Jvm.Cond.sameMethod "java/lang/AbstractStringBuilder" "java/lang/AbstractStringBuilder" "isLatin1" "()Z") ∈ lw_all := lw_g (lw_at lw_m3 47 rfl) rfl
theorem q639 : (Jvm.Cond.code ({ cls := "java/lang/AbstractStringBuilder", name := "isLatin1", desc := "()Z" } : Jvm.MethodName) prog_24_method_68_code (1 : Nat) (Option.some Jvm.ClassFile.FieldType.boolean)) ∈ lw_all := lw_g (lw_at lw_m3 49 rfl) rfl
theorem q640 : (Jvm.Cond.methodLink "java/lang/AbstractStringBuilder" (226 : Nat) ({ cls := "java/lang/StringUTF16", name := "putCharsAt", desc := "([BICCCC)I" } : Jvm.MethodName)) ∈ lw_all := lw_g (lw_at lw_m3 50 rfl) rfl
theorem q666 : (Jvm.Cond.methodLink "java/lang/AbstractStringBuilder" (32 : Nat) ({ cls := "java/lang/String", name := "length", desc := "()I" } : Jvm.MethodName)) ∈ lw_all := lw_g (lw_at lw_m3 76 rfl) rfl
theorem q675 : (Jvm.Cond.methodLink "java/lang/AbstractStringBuilder" (208 : Nat) ({ cls := "java/lang/AbstractStringBuilder", name := "putStringAt", desc := "(ILjava/lang/String;)V" } : Jvm.MethodName)) ∈ lw_all := lw_g (lw_at lw_m3 85 rfl) rfl
theorem q676 : (Jvm.Cond.privateMethod ({ cls := "java/lang/AbstractStringBuilder", name := "putStringAt", desc := "(ILjava/lang/String;)V" } : Jvm.MethodName)) ∈ lw_tbl := lw_at lw_m3 86 rfl
theorem q677 : (Jvm.Cond.instanceMethod ({ cls := "java/lang/AbstractStringBuilder", name := "putStringAt", desc := "(ILjava/lang/String;)V" } : Jvm.MethodName)) ∈ lw_all := lw_g (lw_at lw_m3 87 rfl) rfl
theorem q678 : (Jvm.Cond.code ({ cls := "java/lang/AbstractStringBuilder", name := "putStringAt", desc := "(ILjava/lang/String;)V" } : Jvm.MethodName) prog_24_method_73_code (3 : Nat) (Option.none : Option Jvm.ClassFile.FieldType)) ∈ lw_all := lw_g (lw_at lw_m3 88 rfl) rfl
theorem q679 : (Jvm.Cond.methodLink "java/lang/AbstractStringBuilder" (397 : Nat) ({ cls := "java/lang/AbstractStringBuilder", name := "inflateIfNeededFor", desc := "(Ljava/lang/String;)V" } : Jvm.MethodName)) ∈ lw_all := lw_g (lw_at lw_m3 89 rfl) rfl
theorem q680 : (Jvm.Cond.privateMethod ({ cls := "java/lang/AbstractStringBuilder", name := "inflateIfNeededFor", desc := "(Ljava/lang/String;)V" } : Jvm.MethodName)) ∈ lw_tbl := lw_at lw_m3 90 rfl
theorem q681 : (Jvm.Cond.instanceMethod ({ cls := "java/lang/AbstractStringBuilder", name := "inflateIfNeededFor", desc := "(Ljava/lang/String;)V" } : Jvm.MethodName)) ∈ lw_all := lw_g (lw_at lw_m3 91 rfl) rfl
theorem q682 : (Jvm.Cond.code ({ cls := "java/lang/AbstractStringBuilder", name := "inflateIfNeededFor", desc := "(Ljava/lang/String;)V" } : Jvm.MethodName) prog_24_method_71_code (2 : Nat) (Option.none : Option Jvm.ClassFile.FieldType)) ∈ lw_all := lw_g (lw_at lw_m3 92 rfl) rfl
theorem q683 : (Jvm.Cond.methodLink "java/lang/AbstractStringBuilder" (40 : Nat) ({ cls := "java/lang/String", name := "coder", desc := "()B" } : Jvm.MethodName)) ∈ lw_all := lw_g (lw_at lw_m3 93 rfl) rfl
theorem q684 : (Jvm.Cond.methodLink "java/lang/AbstractStringBuilder" (195 : Nat) ({ cls := "java/lang/AbstractStringBuilder", name := "inflate", desc := "()V" } : Jvm.MethodName)) ∈ lw_all := lw_g (lw_at lw_m3 94 rfl) rfl
theorem q685 : (Jvm.Cond.privateMethod ({ cls := "java/lang/AbstractStringBuilder", name := "inflate", desc := "()V" } : Jvm.MethodName)) ∈ lw_tbl := lw_at lw_m3 95 rfl
theorem q686 : (Jvm.Cond.instanceMethod ({ cls := "java/lang/AbstractStringBuilder", name := "inflate", desc := "()V" } : Jvm.MethodName)) ∈ lw_all := lw_g (lw_at lw_m3 96 rfl) rfl
theorem q687 : (Jvm.Cond.code ({ cls := "java/lang/AbstractStringBuilder", name := "inflate", desc := "()V" } : Jvm.MethodName) prog_24_method_11_code (2 : Nat) (Option.none : Option Jvm.ClassFile.FieldType)) ∈ lw_all := lw_g (lw_at lw_m3 97 rfl) rfl
theorem q688 : (Jvm.Cond.methodLink "java/lang/AbstractStringBuilder" (125 : Nat) ({ cls := "java/lang/StringLatin1", name := "inflate", desc := "([BI[BII)V" } : Jvm.MethodName)) ∈ lw_all := lw_g (lw_at lw_m3 98 rfl) rfl
theorem q703 : (Jvm.Cond.methodLink "java/lang/AbstractStringBuilder" (399 : Nat) ({ cls := "java/lang/String", name := "getBytes", desc := "([BIB)V" } : Jvm.MethodName)) ∈ lw_all := lw_g (lw_at lw_m3 113 rfl) rfl
theorem q714 : (Jvm.Cond.instanceMethod ({ cls := "java/lang/AbstractStringBuilder", name := "append", desc := "(I)Ljava/lang/AbstractStringBuilder;" } : Jvm.MethodName)) ∈ lw_all := lw_g (lw_at lw_m3 124 rfl) rfl
theorem q715 : (Jvm.Cond.code ({ cls := "java/lang/AbstractStringBuilder", name := "append", desc := "(I)Ljava/lang/AbstractStringBuilder;" } : Jvm.MethodName) prog_24_method_32_code (4 : Nat) (Option.some (Jvm.ClassFile.FieldType.object "java/lang/AbstractStringBuilder"))) ∈ lw_all := lw_g (lw_at lw_m3 125 rfl) rfl
theorem q716 : (Jvm.Cond.methodLink "java/lang/AbstractStringBuilder" (245 : Nat) ({ cls := "java/lang/Integer", name := "stringSize", desc := "(I)I" } : Jvm.MethodName)) ∈ lw_all := lw_g (lw_at lw_m3 126 rfl) rfl
theorem q719 : (Jvm.Cond.methodLink "java/lang/AbstractStringBuilder" (248 : Nat) ({ cls := "java/lang/Integer", name := "getChars", desc := "(II[B)I" } : Jvm.MethodName)) ∈ lw_all := lw_g (lw_at lw_m3 129 rfl) rfl
theorem q726 : (Jvm.Cond.methodLink "java/lang/AbstractStringBuilder" (251 : Nat) ({ cls := "java/lang/StringUTF16", name := "getChars", desc := "(III[B)I" } : Jvm.MethodName)) ∈ lw_all := lw_g (lw_at lw_m3 136 rfl) rfl
theorem q749 : (Jvm.Cond.instanceMethod ({ cls := "java/lang/AbstractStringBuilder", name := "getValue", desc := "()[B" } : Jvm.MethodName)) ∈ lw_all := lw_g (lw_at lw_m3 159 rfl) rfl
theorem q750 : (Jvm.Cond.sameMethod "java/lang/AbstractStringBuilder" "java/lang/AbstractStringBuilder" "getValue" "()[B") ∈ lw_all := lw_g (lw_at lw_m3 160 rfl) rfl
theorem q752 : (Jvm.Cond.code ({ cls := "java/lang/AbstractStringBuilder", name := "getValue", desc := "()[B" } : Jvm.MethodName) prog_24_method_64_code (1 : Nat) (Option.some (Jvm.ClassFile.FieldType.array Jvm.ClassFile.FieldType.byte))) ∈ lw_all := lw_g (lw_at lw_m3 162 rfl) rfl
theorem q754 : (Jvm.Cond.instanceMethod ({ cls := "java/lang/AbstractStringBuilder", name := "length", desc := "()I" } : Jvm.MethodName)) ∈ lw_all := lw_g (lw_at lw_m3 164 rfl) rfl
theorem q755 : (Jvm.Cond.sameMethod "java/lang/AbstractStringBuilder" "java/lang/AbstractStringBuilder" "length" "()I") ∈ lw_all := lw_g (lw_at lw_m3 165 rfl) rfl
theorem q760 : (Jvm.Cond.code ({ cls := "java/lang/AbstractStringBuilder", name := "length", desc := "()I" } : Jvm.MethodName) prog_24_method_6_code (1 : Nat) (Option.some Jvm.ClassFile.FieldType.int)) ∈ lw_all := lw_g (lw_at lw_m3 170 rfl) rfl
theorem q2287 : (Jvm.Cond.instanceMethod ({ cls := "java/lang/AbstractStringBuilder", name := "append", desc := "(C)Ljava/lang/AbstractStringBuilder;" } : Jvm.MethodName)) ∈ lw_all := lw_g (lw_at lw_m10 17 rfl) rfl
theorem q2288 : (Jvm.Cond.code ({ cls := "java/lang/AbstractStringBuilder", name := "append", desc := "(C)Ljava/lang/AbstractStringBuilder;" } : Jvm.MethodName) prog_24_method_31_code (2 : Nat) (Option.some (Jvm.ClassFile.FieldType.object "java/lang/AbstractStringBuilder"))) ∈ lw_all := lw_g (lw_at lw_m10 18 rfl) rfl
theorem q2289 : (Jvm.Cond.methodLink "java/lang/AbstractStringBuilder" (191 : Nat) ({ cls := "java/lang/StringLatin1", name := "canEncode", desc := "(C)Z" } : Jvm.MethodName)) ∈ lw_all := lw_g (lw_at lw_m10 19 rfl) rfl
theorem q2292 : (Jvm.Cond.methodLink "java/lang/AbstractStringBuilder" (197 : Nat) ({ cls := "java/lang/StringUTF16", name := "putCharSB", desc := "([BII)V" } : Jvm.MethodName)) ∈ lw_all := lw_g (lw_at lw_m10 22 rfl) rfl
theorem q2545 : (Jvm.Cond.instanceMethod ({ cls := "java/lang/AbstractStringBuilder", name := "setLength", desc := "(I)V" } : Jvm.MethodName)) ∈ lw_all := lw_g (lw_at lw_m11 35 rfl) rfl
theorem q2546 : (Jvm.Cond.code ({ cls := "java/lang/AbstractStringBuilder", name := "setLength", desc := "(I)V" } : Jvm.MethodName) prog_24_method_13_code (2 : Nat) (Option.none : Option Jvm.ClassFile.FieldType)) ∈ lw_all := lw_g (lw_at lw_m11 36 rfl) rfl
theorem q2547 : (Jvm.Cond.classLink "java/lang/AbstractStringBuilder" (129 : Nat) "java/lang/StringIndexOutOfBoundsException") ∈ lw_all := lw_g (lw_at lw_m11 37 rfl) rfl
theorem q2549 : (Jvm.Cond.methodLink "java/lang/AbstractStringBuilder" (131 : Nat) ({ cls := "java/lang/StringIndexOutOfBoundsException", name := "<init>", desc := "(I)V" } : Jvm.MethodName)) ∈ lw_all := lw_g (lw_at lw_m11 39 rfl) rfl
theorem q2566 : (Jvm.Cond.methodLink "java/lang/AbstractStringBuilder" (133 : Nat) ({ cls := "java/lang/StringLatin1", name := "fillNull", desc := "([BII)V" } : Jvm.MethodName)) ∈ lw_all := lw_g (lw_at lw_m11 56 rfl) rfl
theorem q2588 : (Jvm.Cond.methodLink "java/lang/AbstractStringBuilder" (137 : Nat) ({ cls := "java/lang/StringUTF16", name := "fillNull", desc := "([BII)V" } : Jvm.MethodName)) ∈ lw_all := lw_g (lw_at lw_m11 78 rfl) rfl
theorem q3293 : (Jvm.Cond.sameMethod "java/lang/AbstractStringBuilder" "java/lang/AbstractStringBuilder" "append" "(Ljava/lang/String;)Ljava/lang/AbstractStringBuilder;") ∈ lw_all := lw_g (lw_at lw_m14 63 rfl) rfl
theorem q3294 : (Jvm.Cond.sameMethod "java/lang/AbstractStringBuilder" "java/lang/AbstractStringBuilder" "appendNull" "()Ljava/lang/AbstractStringBuilder;") ∈ lw_all := lw_g (lw_at lw_m14 64 rfl) rfl
theorem q3295 : (Jvm.Cond.sameMethod "java/lang/AbstractStringBuilder" "java/lang/AbstractStringBuilder" "ensureCapacityInternal" "(I)V") ∈ lw_all := lw_g (lw_at lw_m14 65 rfl) rfl
theorem q3296 : (Jvm.Cond.sameMethod "java/lang/AbstractStringBuilder" "java/lang/AbstractStringBuilder" "newCapacity" "(I)I") ∈ lw_all := lw_g (lw_at lw_m14 66 rfl) rfl
theorem q3297 : (Jvm.Cond.sameMethod "java/lang/AbstractStringBuilder" "java/lang/AbstractStringBuilder" "putStringAt" "(ILjava/lang/String;)V") ∈ lw_all := lw_g (lw_at lw_m14 67 rfl) rfl
theorem q3298 : (Jvm.Cond.sameMethod "java/lang/AbstractStringBuilder" "java/lang/AbstractStringBuilder" "inflateIfNeededFor" "(Ljava/lang/String;)V") ∈ lw_all := lw_g (lw_at lw_m14 68 rfl) rfl
theorem q3299 : (Jvm.Cond.sameMethod "java/lang/AbstractStringBuilder" "java/lang/AbstractStringBuilder" "inflate" "()V") ∈ lw_all := lw_g (lw_at lw_m14 69 rfl) rfl
theorem q3300 : (Jvm.Cond.sameMethod "java/lang/AbstractStringBuilder" "java/lang/AbstractStringBuilder" "append" "(I)Ljava/lang/AbstractStringBuilder;") ∈ lw_all := lw_g (lw_at lw_m14 70 rfl) rfl
theorem q3303 : (Jvm.Cond.sameMethod "java/lang/AbstractStringBuilder" "java/lang/AbstractStringBuilder" "append" "(C)Ljava/lang/AbstractStringBuilder;") ∈ lw_all := lw_g (lw_at lw_m14 73 rfl) rfl
theorem q3304 : (Jvm.Cond.sameMethod "java/lang/AbstractStringBuilder" "java/lang/AbstractStringBuilder" "setLength" "(I)V") ∈ lw_all := lw_g (lw_at lw_m14 74 rfl) rfl
theorem q121 : (Jvm.Cond.initialized "java/lang/StringBuilder") ∈ lw_all := lw_g (lw_at lw_m1 11 rfl) rfl
theorem q291 : (Jvm.Cond.instantiable "java/lang/StringBuilder" (4 : Nat)) ∈ lw_all := lw_g (lw_at lw_m1 181 rfl) rfl
theorem q293 : (Jvm.Cond.instanceMethod ({ cls := "java/lang/StringBuilder", name := "<init>", desc := "()V" } : Jvm.MethodName)) ∈ lw_all := lw_g (lw_at lw_m1 183 rfl) rfl
theorem q294 : (Jvm.Cond.code ({ cls := "java/lang/StringBuilder", name := "<init>", desc := "()V" } : Jvm.MethodName) prog_43_method_1_code (1 : Nat) (Option.none : Option Jvm.ClassFile.FieldType)) ∈ lw_all := lw_g (lw_at lw_m1 184 rfl) rfl
theorem q295 : (Jvm.Cond.methodLink "java/lang/StringBuilder" (1 : Nat) ({ cls := "java/lang/AbstractStringBuilder", name := "<init>", desc := "(I)V" } : Jvm.MethodName)) ∈ lw_all := lw_g (lw_at lw_m1 185 rfl) rfl
theorem q313 : (Jvm.Cond.lays "java/lang/StringBuilder" "java/lang/AbstractStringBuilder" "value" "[B") ∈ lw_all := lw_g (lw_at lw_m1 203 rfl) rfl
theorem q315 : (Jvm.Cond.lays "java/lang/StringBuilder" "java/lang/AbstractStringBuilder" "coder" "B") ∈ lw_all := lw_g (lw_at lw_m1 205 rfl) rfl
theorem q317 : (Jvm.Cond.lays "java/lang/StringBuilder" "java/lang/AbstractStringBuilder" "maybeLatin1" "Z") ∈ lw_all := lw_g (lw_at lw_m1 207 rfl) rfl
theorem q319 : (Jvm.Cond.lays "java/lang/StringBuilder" "java/lang/AbstractStringBuilder" "count" "I") ∈ lw_all := lw_g (lw_at lw_m1 209 rfl) rfl
theorem q321 : (Jvm.Cond.superclass "java/lang/StringBuilder" "java/lang/AbstractStringBuilder") ∈ lw_all := lw_g (lw_at lw_m1 211 rfl) rfl
theorem q590 : (Jvm.Cond.instanceMethod ({ cls := "java/lang/StringBuilder", name := "append", desc := "(Ljava/lang/String;)Ljava/lang/StringBuilder;" } : Jvm.MethodName)) ∈ lw_all := lw_g (lw_at lw_m3 0 rfl) rfl
theorem q591 : (Jvm.Cond.selects "java/lang/StringBuilder" ({ cls := "java/lang/StringBuilder", name := "append", desc := "(Ljava/lang/String;)Ljava/lang/StringBuilder;" } : Jvm.MethodName) ({ cls := "java/lang/StringBuilder", name := "append", desc := "(Ljava/lang/String;)Ljava/lang/StringBuilder;" } : Jvm.MethodName)) ∈ lw_all := lw_g (lw_at lw_m3 1 rfl) rfl
theorem q592 : (Jvm.Cond.code ({ cls := "java/lang/StringBuilder", name := "append", desc := "(Ljava/lang/String;)Ljava/lang/StringBuilder;" } : Jvm.MethodName) prog_43_method_7_code (2 : Nat) (Option.some (Jvm.ClassFile.FieldType.object "java/lang/StringBuilder"))) ∈ lw_all := lw_g (lw_at lw_m3 2 rfl) rfl
theorem q593 : (Jvm.Cond.methodLink "java/lang/StringBuilder" (29 : Nat) ({ cls := "java/lang/AbstractStringBuilder", name := "append", desc := "(Ljava/lang/String;)Ljava/lang/AbstractStringBuilder;" } : Jvm.MethodName)) ∈ lw_all := lw_g (lw_at lw_m3 3 rfl) rfl
theorem q638 : (Jvm.Cond.selects "java/lang/StringBuilder" ({ cls := "java/lang/AbstractStringBuilder", name := "isLatin1", desc := "()Z" } : Jvm.MethodName) ({ cls := "java/lang/AbstractStringBuilder", name := "isLatin1", desc := "()Z" } : Jvm.MethodName)) ∈ lw_all := lw_g (lw_at lw_m3 48 rfl) rfl
theorem q710 : (Jvm.Cond.instanceMethod ({ cls := "java/lang/StringBuilder", name := "append", desc := "(I)Ljava/lang/StringBuilder;" } : Jvm.MethodName)) ∈ lw_all := lw_g (lw_at lw_m3 120 rfl) rfl
theorem q711 : (Jvm.Cond.selects "java/lang/StringBuilder" ({ cls := "java/lang/StringBuilder", name := "append", desc := "(I)Ljava/lang/StringBuilder;" } : Jvm.MethodName) ({ cls := "java/lang/StringBuilder", name := "append", desc := "(I)Ljava/lang/StringBuilder;" } : Jvm.MethodName)) ∈ lw_all := lw_g (lw_at lw_m3 121 rfl) rfl
theorem q712 : (Jvm.Cond.code ({ cls := "java/lang/StringBuilder", name := "append", desc := "(I)Ljava/lang/StringBuilder;" } : Jvm.MethodName) prog_43_method_15_code (2 : Nat) (Option.some (Jvm.ClassFile.FieldType.object "java/lang/StringBuilder"))) ∈ lw_all := lw_g (lw_at lw_m3 122 rfl) rfl
theorem q713 : (Jvm.Cond.methodLink "java/lang/StringBuilder" (53 : Nat) ({ cls := "java/lang/AbstractStringBuilder", name := "append", desc := "(I)Ljava/lang/AbstractStringBuilder;" } : Jvm.MethodName)) ∈ lw_all := lw_g (lw_at lw_m3 123 rfl) rfl
theorem q736 : (Jvm.Cond.instanceMethod ({ cls := "java/lang/StringBuilder", name := "toString", desc := "()Ljava/lang/String;" } : Jvm.MethodName)) ∈ lw_all := lw_g (lw_at lw_m3 146 rfl) rfl
theorem q737 : (Jvm.Cond.selects "java/lang/StringBuilder" ({ cls := "java/lang/StringBuilder", name := "toString", desc := "()Ljava/lang/String;" } : Jvm.MethodName) ({ cls := "java/lang/StringBuilder", name := "toString", desc := "()Ljava/lang/String;" } : Jvm.MethodName)) ∈ lw_all := lw_g (lw_at lw_m3 147 rfl) rfl
theorem q738 : (Jvm.Cond.code ({ cls := "java/lang/StringBuilder", name := "toString", desc := "()Ljava/lang/String;" } : Jvm.MethodName) prog_43_method_42_code (1 : Nat) (Option.some (Jvm.ClassFile.FieldType.object "java/lang/String"))) ∈ lw_all := lw_g (lw_at lw_m3 148 rfl) rfl
theorem q739 : (Jvm.Cond.classLink "java/lang/StringBuilder" (18 : Nat) "java/lang/String") ∈ lw_all := lw_g (lw_at lw_m3 149 rfl) rfl
theorem q741 : (Jvm.Cond.methodLink "java/lang/StringBuilder" (137 : Nat) ({ cls := "java/lang/String", name := "<init>", desc := "(Ljava/lang/StringBuilder;)V" } : Jvm.MethodName)) ∈ lw_all := lw_g (lw_at lw_m3 151 rfl) rfl
theorem q751 : (Jvm.Cond.selects "java/lang/StringBuilder" ({ cls := "java/lang/AbstractStringBuilder", name := "getValue", desc := "()[B" } : Jvm.MethodName) ({ cls := "java/lang/AbstractStringBuilder", name := "getValue", desc := "()[B" } : Jvm.MethodName)) ∈ lw_all := lw_g (lw_at lw_m3 161 rfl) rfl
theorem q756 : (Jvm.Cond.selects "java/lang/StringBuilder" ({ cls := "java/lang/AbstractStringBuilder", name := "length", desc := "()I" } : Jvm.MethodName) ({ cls := "java/lang/StringBuilder", name := "length", desc := "()I" } : Jvm.MethodName)) ∈ lw_all := lw_g (lw_at lw_m3 166 rfl) rfl
theorem q757 : (Jvm.Cond.instanceMethod ({ cls := "java/lang/StringBuilder", name := "length", desc := "()I" } : Jvm.MethodName)) ∈ lw_all := lw_g (lw_at lw_m3 167 rfl) rfl
theorem q758 : (Jvm.Cond.code ({ cls := "java/lang/StringBuilder", name := "length", desc := "()I" } : Jvm.MethodName) prog_43_method_93_code (1 : Nat) (Option.some Jvm.ClassFile.FieldType.int)) ∈ lw_all := lw_g (lw_at lw_m3 168 rfl) rfl
theorem q759 : (Jvm.Cond.methodLink "java/lang/StringBuilder" (343 : Nat) ({ cls := "java/lang/AbstractStringBuilder", name := "length", desc := "()I" } : Jvm.MethodName)) ∈ lw_all := lw_g (lw_at lw_m3 169 rfl) rfl
theorem q890 : (Jvm.Cond.selects "java/lang/StringBuilder" ({ cls := "java/lang/Object", name := "getClass", desc := "()Ljava/lang/Class;" } : Jvm.MethodName) ({ cls := "java/lang/Object", name := "getClass", desc := "()Ljava/lang/Class;" } : Jvm.MethodName)) ∈ lw_all := lw_g (lw_at lw_m4 60 rfl) rfl
theorem q2283 : (Jvm.Cond.instanceMethod ({ cls := "java/lang/StringBuilder", name := "append", desc := "(C)Ljava/lang/StringBuilder;" } : Jvm.MethodName)) ∈ lw_all := lw_g (lw_at lw_m10 13 rfl) rfl
theorem q2284 : (Jvm.Cond.selects "java/lang/StringBuilder" ({ cls := "java/lang/StringBuilder", name := "append", desc := "(C)Ljava/lang/StringBuilder;" } : Jvm.MethodName) ({ cls := "java/lang/StringBuilder", name := "append", desc := "(C)Ljava/lang/StringBuilder;" } : Jvm.MethodName)) ∈ lw_all := lw_g (lw_at lw_m10 14 rfl) rfl
theorem q2285 : (Jvm.Cond.code ({ cls := "java/lang/StringBuilder", name := "append", desc := "(C)Ljava/lang/StringBuilder;" } : Jvm.MethodName) prog_43_method_14_code (2 : Nat) (Option.some (Jvm.ClassFile.FieldType.object "java/lang/StringBuilder"))) ∈ lw_all := lw_g (lw_at lw_m10 15 rfl) rfl
theorem q2286 : (Jvm.Cond.methodLink "java/lang/StringBuilder" (50 : Nat) ({ cls := "java/lang/AbstractStringBuilder", name := "append", desc := "(C)Ljava/lang/AbstractStringBuilder;" } : Jvm.MethodName)) ∈ lw_all := lw_g (lw_at lw_m10 16 rfl) rfl
theorem q2344 : (Jvm.Cond.instanceMethod ({ cls := "java/lang/StringBuilder", name := "append", desc := "(Ljava/lang/Object;)Ljava/lang/StringBuilder;" } : Jvm.MethodName)) ∈ lw_all := lw_g (lw_at lw_m10 74 rfl) rfl
theorem q2345 : (Jvm.Cond.selects "java/lang/StringBuilder" ({ cls := "java/lang/StringBuilder", name := "append", desc := "(Ljava/lang/Object;)Ljava/lang/StringBuilder;" } : Jvm.MethodName) ({ cls := "java/lang/StringBuilder", name := "append", desc := "(Ljava/lang/Object;)Ljava/lang/StringBuilder;" } : Jvm.MethodName)) ∈ lw_all := lw_g (lw_at lw_m10 75 rfl) rfl
theorem q2346 : (Jvm.Cond.code ({ cls := "java/lang/StringBuilder", name := "append", desc := "(Ljava/lang/Object;)Ljava/lang/StringBuilder;" } : Jvm.MethodName) prog_43_method_6_code (2 : Nat) (Option.some (Jvm.ClassFile.FieldType.object "java/lang/StringBuilder"))) ∈ lw_all := lw_g (lw_at lw_m10 76 rfl) rfl
theorem q2347 : (Jvm.Cond.methodLink "java/lang/StringBuilder" (17 : Nat) ({ cls := "java/lang/String", name := "valueOf", desc := "(Ljava/lang/Object;)Ljava/lang/String;" } : Jvm.MethodName)) ∈ lw_all := lw_g (lw_at lw_m10 77 rfl) rfl
theorem q2420 : (Jvm.Cond.selects "java/lang/StringBuilder" ({ cls := "java/lang/Object", name := "toString", desc := "()Ljava/lang/String;" } : Jvm.MethodName) ({ cls := "java/lang/StringBuilder", name := "toString", desc := "()Ljava/lang/String;" } : Jvm.MethodName)) ∈ lw_all := lw_g (lw_at lw_m10 150 rfl) rfl
theorem q2424 : (Jvm.Cond.methodLink "java/lang/StringBuilder" (23 : Nat) ({ cls := "java/lang/StringBuilder", name := "append", desc := "(Ljava/lang/String;)Ljava/lang/StringBuilder;" } : Jvm.MethodName)) ∈ lw_all := lw_g (lw_at lw_m10 154 rfl) rfl
theorem q2439 : (Jvm.Cond.castable "java/lang/StringBuilder" "java/lang/CharSequence") ∈ lw_tbl := lw_at lw_m10 169 rfl
theorem q2440 : (Jvm.Cond.selects "java/lang/StringBuilder" ({ cls := "java/lang/CharSequence", name := "toString", desc := "()Ljava/lang/String;" } : Jvm.MethodName) ({ cls := "java/lang/StringBuilder", name := "toString", desc := "()Ljava/lang/String;" } : Jvm.MethodName)) ∈ lw_all := lw_g (lw_at lw_m10 170 rfl) rfl
theorem q2441 : (Jvm.Cond.unhidden "java/lang/StringBuilder" "toString" "()Ljava/lang/String;") ∈ lw_tbl := lw_at lw_m10 171 rfl
theorem q2442 : (Jvm.Cond.publicMethod ({ cls := "java/lang/StringBuilder", name := "toString", desc := "()Ljava/lang/String;" } : Jvm.MethodName)) ∈ lw_tbl := lw_at lw_m10 172 rfl
theorem q2541 : (Jvm.Cond.instanceMethod ({ cls := "java/lang/StringBuilder", name := "setLength", desc := "(I)V" } : Jvm.MethodName)) ∈ lw_all := lw_g (lw_at lw_m11 31 rfl) rfl
theorem q2542 : (Jvm.Cond.selects "java/lang/StringBuilder" ({ cls := "java/lang/StringBuilder", name := "setLength", desc := "(I)V" } : Jvm.MethodName) ({ cls := "java/lang/StringBuilder", name := "setLength", desc := "(I)V" } : Jvm.MethodName)) ∈ lw_all := lw_g (lw_at lw_m11 32 rfl) rfl
theorem q2543 : (Jvm.Cond.code ({ cls := "java/lang/StringBuilder", name := "setLength", desc := "(I)V" } : Jvm.MethodName) prog_43_method_89_code (2 : Nat) (Option.none : Option Jvm.ClassFile.FieldType)) ∈ lw_all := lw_g (lw_at lw_m11 33 rfl) rfl
theorem q2544 : (Jvm.Cond.methodLink "java/lang/StringBuilder" (333 : Nat) ({ cls := "java/lang/AbstractStringBuilder", name := "setLength", desc := "(I)V" } : Jvm.MethodName)) ∈ lw_all := lw_g (lw_at lw_m11 34 rfl) rfl
theorem q3302 : (Jvm.Cond.selects "java/lang/StringBuilder" ({ cls := "java/lang/StringBuilder", name := "length", desc := "()I" } : Jvm.MethodName) ({ cls := "java/lang/StringBuilder", name := "length", desc := "()I" } : Jvm.MethodName)) ∈ lw_all := lw_g (lw_at lw_m14 72 rfl) rfl
theorem q3315 : (Jvm.Cond.castable "java/lang/StringBuilder" "java/lang/Object") ∈ lw_tbl := lw_at lw_m14 85 rfl
theorem q122 : (Jvm.Cond.initialized "java/lang/String") ∈ lw_all := lw_g (lw_at lw_m1 12 rfl) rfl
theorem q300 : (Jvm.Cond.laysStatic "java/lang/String" "COMPACT_STRINGS" "Z") ∈ lw_tbl := lw_at lw_m1 190 rfl
theorem q311 : (Jvm.Cond.fieldLink "java/lang/String" (1048 : Nat) "java/lang/AbstractStringBuilder" "maybeLatin1" "Z") ∈ lw_all := lw_g (lw_at lw_m1 201 rfl) rfl
theorem q650 : (Jvm.Cond.static ({ cls := "java/lang/String", name := "checkBoundsBeginEnd", desc := "(III)V" } : Jvm.MethodName)) ∈ lw_all := lw_g (lw_at lw_m3 60 rfl) rfl
theorem q651 : (Jvm.Cond.code ({ cls := "java/lang/String", name := "checkBoundsBeginEnd", desc := "(III)V" } : Jvm.MethodName) prog_42_method_158_code (3 : Nat) (Option.none : Option Jvm.ClassFile.FieldType)) ∈ lw_all := lw_g (lw_at lw_m3 61 rfl) rfl
theorem q652 : (Jvm.Cond.fieldLink "java/lang/String" (1053 : Nat) "jdk/internal/util/Preconditions" "SIOOBE_FORMATTER" "Ljava/util/function/BiFunction;") ∈ lw_all := lw_g (lw_at lw_m3 62 rfl) rfl
theorem q654 : (Jvm.Cond.methodLink "java/lang/String" (1062 : Nat) ({ cls := "jdk/internal/util/Preconditions", name := "checkFromToIndex", desc := "(IIILjava/util/function/BiFunction;)I" } : Jvm.MethodName)) ∈ lw_all := lw_g (lw_at lw_m3 64 rfl) rfl
theorem q667 : (Jvm.Cond.instanceMethod ({ cls := "java/lang/String", name := "length", desc := "()I" } : Jvm.MethodName)) ∈ lw_all := lw_g (lw_at lw_m3 77 rfl) rfl
theorem q668 : (Jvm.Cond.selects "java/lang/String" ({ cls := "java/lang/String", name := "length", desc := "()I" } : Jvm.MethodName) ({ cls := "java/lang/String", name := "length", desc := "()I" } : Jvm.MethodName)) ∈ lw_all := lw_g (lw_at lw_m3 78 rfl) rfl
theorem q669 : (Jvm.Cond.code ({ cls := "java/lang/String", name := "length", desc := "()I" } : Jvm.MethodName) prog_42_method_54_code (1 : Nat) (Option.some Jvm.ClassFile.FieldType.int)) ∈ lw_all := lw_g (lw_at lw_m3 79 rfl) rfl
theorem q670 : (Jvm.Cond.methodLink "java/lang/String" (335 : Nat) ({ cls := "java/lang/String", name := "coder", desc := "()B" } : Jvm.MethodName)) ∈ lw_all := lw_g (lw_at lw_m3 80 rfl) rfl
theorem q671 : (Jvm.Cond.instanceMethod ({ cls := "java/lang/String", name := "coder", desc := "()B" } : Jvm.MethodName)) ∈ lw_all := lw_g (lw_at lw_m3 81 rfl) rfl
theorem q672 : (Jvm.Cond.selects "java/lang/String" ({ cls := "java/lang/String", name := "coder", desc := "()B" } : Jvm.MethodName) ({ cls := "java/lang/String", name := "coder", desc := "()B" } : Jvm.MethodName)) ∈ lw_all := lw_g (lw_at lw_m3 82 rfl) rfl
theorem q673 : (Jvm.Cond.code ({ cls := "java/lang/String", name := "coder", desc := "()B" } : Jvm.MethodName) prog_42_method_152_code (1 : Nat) (Option.some Jvm.ClassFile.FieldType.byte)) ∈ lw_all := lw_g (lw_at lw_m3 83 rfl) rfl
theorem q674 : (Jvm.Cond.fieldLink "java/lang/String" (38 : Nat) "java/lang/String" "COMPACT_STRINGS" "Z") ∈ lw_all := lw_g (lw_at lw_m3 84 rfl) rfl
theorem q698 : (Jvm.Cond.static ({ cls := "java/lang/String", name := "checkBoundsOffCount", desc := "(III)I" } : Jvm.MethodName)) ∈ lw_all := lw_g (lw_at lw_m3 108 rfl) rfl
theorem q699 : (Jvm.Cond.code ({ cls := "java/lang/String", name := "checkBoundsOffCount", desc := "(III)I" } : Jvm.MethodName) prog_42_method_157_code (3 : Nat) (Option.some Jvm.ClassFile.FieldType.int)) ∈ lw_all := lw_g (lw_at lw_m3 109 rfl) rfl
theorem q700 : (Jvm.Cond.methodLink "java/lang/String" (1065 : Nat) ({ cls := "jdk/internal/util/Preconditions", name := "checkFromIndexSize", desc := "(IIILjava/util/function/BiFunction;)I" } : Jvm.MethodName)) ∈ lw_all := lw_g (lw_at lw_m3 110 rfl) rfl
theorem q704 : (Jvm.Cond.instanceMethod ({ cls := "java/lang/String", name := "getBytes", desc := "([BIB)V" } : Jvm.MethodName)) ∈ lw_all := lw_g (lw_at lw_m3 114 rfl) rfl
theorem q705 : (Jvm.Cond.selects "java/lang/String" ({ cls := "java/lang/String", name := "getBytes", desc := "([BIB)V" } : Jvm.MethodName) ({ cls := "java/lang/String", name := "getBytes", desc := "([BIB)V" } : Jvm.MethodName)) ∈ lw_all := lw_g (lw_at lw_m3 115 rfl) rfl
theorem q706 : (Jvm.Cond.code ({ cls := "java/lang/String", name := "getBytes", desc := "([BIB)V" } : Jvm.MethodName) prog_42_method_147_code (4 : Nat) (Option.none : Option Jvm.ClassFile.FieldType)) ∈ lw_all := lw_g (lw_at lw_m3 116 rfl) rfl
theorem q707 : (Jvm.Cond.methodLink "java/lang/String" (212 : Nat) ({ cls := "java/lang/System", name := "arraycopy", desc := "(Ljava/lang/Object;ILjava/lang/Object;II)V" } : Jvm.MethodName)) ∈ lw_all := lw_g (lw_at lw_m3 117 rfl) rfl
theorem q708 : (Jvm.Cond.methodLink "java/lang/String" (106 : Nat) ({ cls := "java/lang/StringLatin1", name := "inflate", desc := "([BI[BII)V" } : Jvm.MethodName)) ∈ lw_all := lw_g (lw_at lw_m3 118 rfl) rfl
theorem q740 : (Jvm.Cond.instantiable "java/lang/String" (4 : Nat)) ∈ lw_all := lw_g (lw_at lw_m3 150 rfl) rfl
theorem q742 : (Jvm.Cond.instanceMethod ({ cls := "java/lang/String", name := "<init>", desc := "(Ljava/lang/StringBuilder;)V" } : Jvm.MethodName)) ∈ lw_all := lw_g (lw_at lw_m3 152 rfl) rfl
theorem q743 : (Jvm.Cond.code ({ cls := "java/lang/String", name := "<init>", desc := "(Ljava/lang/StringBuilder;)V" } : Jvm.MethodName) prog_42_method_53_code (2 : Nat) (Option.none : Option Jvm.ClassFile.FieldType)) ∈ lw_all := lw_g (lw_at lw_m3 153 rfl) rfl
theorem q744 : (Jvm.Cond.methodLink "java/lang/String" (489 : Nat) ({ cls := "java/lang/String", name := "<init>", desc := "(Ljava/lang/AbstractStringBuilder;Ljava/lang/Void;)V" } : Jvm.MethodName)) ∈ lw_all := lw_g (lw_at lw_m3 154 rfl) rfl
theorem q745 : (Jvm.Cond.instanceMethod ({ cls := "java/lang/String", name := "<init>", desc := "(Ljava/lang/AbstractStringBuilder;Ljava/lang/Void;)V" } : Jvm.MethodName)) ∈ lw_all := lw_g (lw_at lw_m3 155 rfl) rfl
theorem q746 : (Jvm.Cond.code ({ cls := "java/lang/String", name := "<init>", desc := "(Ljava/lang/AbstractStringBuilder;Ljava/lang/Void;)V" } : Jvm.MethodName) prog_42_method_150_code (5 : Nat) (Option.none : Option Jvm.ClassFile.FieldType)) ∈ lw_all := lw_g (lw_at lw_m3 156 rfl) rfl
theorem q747 : (Jvm.Cond.methodLink "java/lang/String" (1 : Nat) ({ cls := "java/lang/Object", name := "<init>", desc := "()V" } : Jvm.MethodName)) ∈ lw_all := lw_g (lw_at lw_m3 157 rfl) rfl
theorem q748 : (Jvm.Cond.methodLink "java/lang/String" (552 : Nat) ({ cls := "java/lang/AbstractStringBuilder", name := "getValue", desc := "()[B" } : Jvm.MethodName)) ∈ lw_all := lw_g (lw_at lw_m3 158 rfl) rfl
theorem q753 : (Jvm.Cond.methodLink "java/lang/String" (549 : Nat) ({ cls := "java/lang/AbstractStringBuilder", name := "length", desc := "()I" } : Jvm.MethodName)) ∈ lw_all := lw_g (lw_at lw_m3 163 rfl) rfl
theorem q761 : (Jvm.Cond.methodLink "java/lang/String" (1047 : Nat) ({ cls := "java/lang/AbstractStringBuilder", name := "isLatin1", desc := "()Z" } : Jvm.MethodName)) ∈ lw_all := lw_g (lw_at lw_m3 171 rfl) rfl
theorem q762 : (Jvm.Cond.methodLink "java/lang/String" (54 : Nat) ({ cls := "java/util/Arrays", name := "copyOfRange", desc := "([BII)[B" } : Jvm.MethodName)) ∈ lw_all := lw_g (lw_at lw_m3 172 rfl) rfl
theorem q800 : (Jvm.Cond.methodLink "java/lang/String" (1051 : Nat) ({ cls := "java/lang/StringUTF16", name := "compress", desc := "([BII)[B" } : Jvm.MethodName)) ∈ lw_all := lw_g (lw_at lw_m3 210 rfl) rfl
theorem q810 : (Jvm.Cond.methodLink "java/lang/String" (47 : Nat) ({ cls := "java/lang/StringUTF16", name := "coderFromArrayLen", desc := "([BI)B" } : Jvm.MethodName)) ∈ lw_all := lw_g (lw_at lw_m3 220 rfl) rfl
theorem q813 : (Jvm.Cond.fieldLink "java/lang/String" (9 : Nat) "java/lang/String" "value" "[B") ∈ lw_all := lw_g (lw_at lw_m3 223 rfl) rfl
theorem q814 : (Jvm.Cond.fieldLink "java/lang/String" (15 : Nat) "java/lang/String" "coder" "B") ∈ lw_all := lw_g (lw_at lw_m3 224 rfl) rfl
theorem q815 : (Jvm.Cond.fieldLink "java/lang/String" (19 : Nat) "java/lang/String" "hash" "I") ∈ lw_all := lw_g (lw_at lw_m3 225 rfl) rfl
theorem q816 : (Jvm.Cond.fieldLink "java/lang/String" (23 : Nat) "java/lang/String" "hashIsZero" "Z") ∈ lw_all := lw_g (lw_at lw_m3 226 rfl) rfl
theorem q817 : (Jvm.Cond.laysFinal "java/lang/String" "java/lang/String" "value" "[B") ∈ lw_all := lw_g (lw_at lw_m3 227 rfl) rfl
theorem q818 : (Jvm.Cond.soleField "java/lang/String" "value") ∈ lw_all := lw_g (lw_at lw_m3 228 rfl) rfl
theorem q819 : (Jvm.Cond.laysFinal "java/lang/String" "java/lang/String" "coder" "B") ∈ lw_all := lw_g (lw_at lw_m3 229 rfl) rfl
theorem q820 : (Jvm.Cond.soleField "java/lang/String" "coder") ∈ lw_all := lw_g (lw_at lw_m3 230 rfl) rfl
theorem q821 : (Jvm.Cond.lays "java/lang/String" "java/lang/String" "hash" "I") ∈ lw_all := lw_g (lw_at lw_m3 231 rfl) rfl
theorem q822 : (Jvm.Cond.soleField "java/lang/String" "hash") ∈ lw_all := lw_g (lw_at lw_m3 232 rfl) rfl
theorem q823 : (Jvm.Cond.lays "java/lang/String" "java/lang/String" "hashIsZero" "Z") ∈ lw_all := lw_g (lw_at lw_m3 233 rfl) rfl
theorem q824 : (Jvm.Cond.soleField "java/lang/String" "hashIsZero") ∈ lw_all := lw_g (lw_at lw_m3 234 rfl) rfl
theorem q825 : (Jvm.Cond.superclass "java/lang/String" "java/lang/Object") ∈ lw_all := lw_g (lw_at lw_m3 235 rfl) rfl
theorem q889 : (Jvm.Cond.selects "java/lang/String" ({ cls := "java/lang/Object", name := "getClass", desc := "()Ljava/lang/Class;" } : Jvm.MethodName) ({ cls := "java/lang/Object", name := "getClass", desc := "()Ljava/lang/Class;" } : Jvm.MethodName)) ∈ lw_all := lw_g (lw_at lw_m4 59 rfl) rfl
theorem q954 : (Jvm.Cond.instanceMethod ({ cls := "java/lang/String", name := "hashCode", desc := "()I" } : Jvm.MethodName)) ∈ lw_all := lw_g (lw_at lw_m4 124 rfl) rfl
theorem q955 : (Jvm.Cond.selects "java/lang/String" ({ cls := "java/lang/String", name := "hashCode", desc := "()I" } : Jvm.MethodName) ({ cls := "java/lang/String", name := "hashCode", desc := "()I" } : Jvm.MethodName)) ∈ lw_all := lw_g (lw_at lw_m4 125 rfl) rfl
theorem q956 : (Jvm.Cond.code ({ cls := "java/lang/String", name := "hashCode", desc := "()I" } : Jvm.MethodName) prog_42_method_78_code (2 : Nat) (Option.some Jvm.ClassFile.FieldType.int)) ∈ lw_all := lw_g (lw_at lw_m4 126 rfl) rfl
theorem q957 : (Jvm.Cond.methodLink "java/lang/String" (492 : Nat) ({ cls := "java/lang/String", name := "isLatin1", desc := "()Z" } : Jvm.MethodName)) ∈ lw_all := lw_g (lw_at lw_m4 127 rfl) rfl
theorem q958 : (Jvm.Cond.instanceMethod ({ cls := "java/lang/String", name := "isLatin1", desc := "()Z" } : Jvm.MethodName)) ∈ lw_all := lw_g (lw_at lw_m4 128 rfl) rfl
theorem q959 : (Jvm.Cond.selects "java/lang/String" ({ cls := "java/lang/String", name := "isLatin1", desc := "()Z" } : Jvm.MethodName) ({ cls := "java/lang/String", name := "isLatin1", desc := "()Z" } : Jvm.MethodName)) ∈ lw_all := lw_g (lw_at lw_m4 129 rfl) rfl
theorem q960 : (Jvm.Cond.code ({ cls := "java/lang/String", name := "isLatin1", desc := "()Z" } : Jvm.MethodName) prog_42_method_154_code (1 : Nat) (Option.some Jvm.ClassFile.FieldType.boolean)) ∈ lw_all := lw_g (lw_at lw_m4 130 rfl) rfl
theorem q961 : (Jvm.Cond.methodLink "java/lang/String" (628 : Nat) ({ cls := "java/lang/StringLatin1", name := "hashCode", desc := "([B)I" } : Jvm.MethodName)) ∈ lw_all := lw_g (lw_at lw_m4 131 rfl) rfl
theorem q1010 : (Jvm.Cond.methodLink "java/lang/String" (632 : Nat) ({ cls := "java/lang/StringUTF16", name := "hashCode", desc := "([B)I" } : Jvm.MethodName)) ∈ lw_all := lw_g (lw_at lw_m4 180 rfl) rfl
theorem q1016 : (Jvm.Cond.instanceMethod ({ cls := "java/lang/String", name := "equals", desc := "(Ljava/lang/Object;)Z" } : Jvm.MethodName)) ∈ lw_all := lw_g (lw_at lw_m4 186 rfl) rfl
theorem q1017 : (Jvm.Cond.selects "java/lang/String" ({ cls := "java/lang/String", name := "equals", desc := "(Ljava/lang/Object;)Z" } : Jvm.MethodName) ({ cls := "java/lang/String", name := "equals", desc := "(Ljava/lang/Object;)Z" } : Jvm.MethodName)) ∈ lw_all := lw_g (lw_at lw_m4 187 rfl) rfl
theorem q1018 : (Jvm.Cond.code ({ cls := "java/lang/String", name := "equals", desc := "(Ljava/lang/Object;)Z" } : Jvm.MethodName) prog_42_method_66_code (3 : Nat) (Option.some Jvm.ClassFile.FieldType.boolean)) ∈ lw_all := lw_g (lw_at lw_m4 188 rfl) rfl
theorem q1019 : (Jvm.Cond.classLink "java/lang/String" (10 : Nat) "java/lang/String") ∈ lw_all := lw_g (lw_at lw_m4 189 rfl) rfl
theorem q1020 : (Jvm.Cond.methodLink "java/lang/String" (541 : Nat) ({ cls := "java/lang/StringLatin1", name := "equals", desc := "([B[B)Z" } : Jvm.MethodName)) ∈ lw_all := lw_g (lw_at lw_m4 190 rfl) rfl
theorem q1193 : (Jvm.Cond.instanceMethod ({ cls := "java/lang/String", name := "indexOf", desc := "(I)I" } : Jvm.MethodName)) ∈ lw_all := lw_g (lw_at lw_m5 123 rfl) rfl
theorem q1194 : (Jvm.Cond.selects "java/lang/String" ({ cls := "java/lang/String", name := "indexOf", desc := "(I)I" } : Jvm.MethodName) ({ cls := "java/lang/String", name := "indexOf", desc := "(I)I" } : Jvm.MethodName)) ∈ lw_all := lw_g (lw_at lw_m5 124 rfl) rfl
theorem q1195 : (Jvm.Cond.code ({ cls := "java/lang/String", name := "indexOf", desc := "(I)I" } : Jvm.MethodName) prog_42_method_79_code (2 : Nat) (Option.some Jvm.ClassFile.FieldType.int)) ∈ lw_all := lw_g (lw_at lw_m5 125 rfl) rfl
theorem q1196 : (Jvm.Cond.methodLink "java/lang/String" (633 : Nat) ({ cls := "java/lang/String", name := "indexOf", desc := "(II)I" } : Jvm.MethodName)) ∈ lw_all := lw_g (lw_at lw_m5 126 rfl) rfl
theorem q1197 : (Jvm.Cond.instanceMethod ({ cls := "java/lang/String", name := "indexOf", desc := "(II)I" } : Jvm.MethodName)) ∈ lw_all := lw_g (lw_at lw_m5 127 rfl) rfl
theorem q1198 : (Jvm.Cond.selects "java/lang/String" ({ cls := "java/lang/String", name := "indexOf", desc := "(II)I" } : Jvm.MethodName) ({ cls := "java/lang/String", name := "indexOf", desc := "(II)I" } : Jvm.MethodName)) ∈ lw_all := lw_g (lw_at lw_m5 128 rfl) rfl
theorem q1199 : (Jvm.Cond.code ({ cls := "java/lang/String", name := "indexOf", desc := "(II)I" } : Jvm.MethodName) prog_42_method_80_code (3 : Nat) (Option.some Jvm.ClassFile.FieldType.int)) ∈ lw_all := lw_g (lw_at lw_m5 129 rfl) rfl
theorem q1200 : (Jvm.Cond.methodLink "java/lang/String" (505 : Nat) ({ cls := "java/lang/String", name := "length", desc := "()I" } : Jvm.MethodName)) ∈ lw_all := lw_g (lw_at lw_m5 130 rfl) rfl
theorem q1201 : (Jvm.Cond.methodLink "java/lang/String" (637 : Nat) ({ cls := "java/lang/StringLatin1", name := "indexOf", desc := "([BIII)I" } : Jvm.MethodName)) ∈ lw_all := lw_g (lw_at lw_m5 131 rfl) rfl
theorem q1212 : (Jvm.Cond.methodLink "java/lang/String" (640 : Nat) ({ cls := "java/lang/StringUTF16", name := "indexOf", desc := "([BIII)I" } : Jvm.MethodName)) ∈ lw_all := lw_g (lw_at lw_m5 142 rfl) rfl
theorem q2252 : (Jvm.Cond.instanceMethod ({ cls := "java/lang/String", name := "charAt", desc := "(I)C" } : Jvm.MethodName)) ∈ lw_all := lw_g (lw_at lw_m9 222 rfl) rfl
theorem q2253 : (Jvm.Cond.selects "java/lang/String" ({ cls := "java/lang/String", name := "charAt", desc := "(I)C" } : Jvm.MethodName) ({ cls := "java/lang/String", name := "charAt", desc := "(I)C" } : Jvm.MethodName)) ∈ lw_all := lw_g (lw_at lw_m9 223 rfl) rfl
theorem q2254 : (Jvm.Cond.code ({ cls := "java/lang/String", name := "charAt", desc := "(I)C" } : Jvm.MethodName) prog_42_method_56_code (2 : Nat) (Option.some Jvm.ClassFile.FieldType.char)) ∈ lw_all := lw_g (lw_at lw_m9 224 rfl) rfl
theorem q2255 : (Jvm.Cond.methodLink "java/lang/String" (495 : Nat) ({ cls := "java/lang/StringLatin1", name := "charAt", desc := "([BI)C" } : Jvm.MethodName)) ∈ lw_all := lw_g (lw_at lw_m9 225 rfl) rfl
theorem q2259 : (Jvm.Cond.static ({ cls := "java/lang/String", name := "checkIndex", desc := "(II)V" } : Jvm.MethodName)) ∈ lw_all := lw_g (lw_at lw_m9 229 rfl) rfl
theorem q2260 : (Jvm.Cond.code ({ cls := "java/lang/String", name := "checkIndex", desc := "(II)V" } : Jvm.MethodName) prog_42_method_155_code (2 : Nat) (Option.none : Option Jvm.ClassFile.FieldType)) ∈ lw_all := lw_g (lw_at lw_m9 230 rfl) rfl
theorem q2261 : (Jvm.Cond.methodLink "java/lang/String" (1059 : Nat) ({ cls := "jdk/internal/util/Preconditions", name := "checkIndex", desc := "(IILjava/util/function/BiFunction;)I" } : Jvm.MethodName)) ∈ lw_all := lw_g (lw_at lw_m9 231 rfl) rfl
theorem q2262 : (Jvm.Cond.methodLink "java/lang/String" (498 : Nat) ({ cls := "java/lang/StringUTF16", name := "charAt", desc := "([BI)C" } : Jvm.MethodName)) ∈ lw_all := lw_g (lw_at lw_m9 232 rfl) rfl
theorem q2348 : (Jvm.Cond.static ({ cls := "java/lang/String", name := "valueOf", desc := "(Ljava/lang/Object;)Ljava/lang/String;" } : Jvm.MethodName)) ∈ lw_all := lw_g (lw_at lw_m10 78 rfl) rfl
theorem q2349 : (Jvm.Cond.code ({ cls := "java/lang/String", name := "valueOf", desc := "(Ljava/lang/Object;)Ljava/lang/String;" } : Jvm.MethodName) prog_42_method_133_code (1 : Nat) (Option.some (Jvm.ClassFile.FieldType.object "java/lang/String"))) ∈ lw_all := lw_g (lw_at lw_m10 79 rfl) rfl
theorem q2350 : (Jvm.Cond.stringRef "java/lang/String" (1005 : Nat) "null") ∈ lw_tbl := lw_at lw_m10 80 rfl
theorem q2352 : (Jvm.Cond.methodLink "java/lang/String" (1007 : Nat) ({ cls := "java/lang/Object", name := "toString", desc := "()Ljava/lang/String;" } : Jvm.MethodName)) ∈ lw_all := lw_g (lw_at lw_m10 82 rfl) rfl
theorem q2417 : (Jvm.Cond.selects "java/lang/String" ({ cls := "java/lang/Object", name := "toString", desc := "()Ljava/lang/String;" } : Jvm.MethodName) ({ cls := "java/lang/String", name := "toString", desc := "()Ljava/lang/String;" } : Jvm.MethodName)) ∈ lw_all := lw_g (lw_at lw_m10 147 rfl) rfl
theorem q2418 : (Jvm.Cond.instanceMethod ({ cls := "java/lang/String", name := "toString", desc := "()Ljava/lang/String;" } : Jvm.MethodName)) ∈ lw_all := lw_g (lw_at lw_m10 148 rfl) rfl
theorem q2419 : (Jvm.Cond.code ({ cls := "java/lang/String", name := "toString", desc := "()Ljava/lang/String;" } : Jvm.MethodName) prog_42_method_126_code (1 : Nat) (Option.some (Jvm.ClassFile.FieldType.object "java/lang/String"))) ∈ lw_all := lw_g (lw_at lw_m10 149 rfl) rfl
theorem q2428 : (Jvm.Cond.instanceMethod ({ cls := "java/lang/String", name := "contains", desc := "(Ljava/lang/CharSequence;)Z" } : Jvm.MethodName)) ∈ lw_all := lw_g (lw_at lw_m10 158 rfl) rfl
theorem q2429 : (Jvm.Cond.selects "java/lang/String" ({ cls := "java/lang/String", name := "contains", desc := "(Ljava/lang/CharSequence;)Z" } : Jvm.MethodName) ({ cls := "java/lang/String", name := "contains", desc := "(Ljava/lang/CharSequence;)Z" } : Jvm.MethodName)) ∈ lw_all := lw_g (lw_at lw_m10 159 rfl) rfl
theorem q2430 : (Jvm.Cond.code ({ cls := "java/lang/String", name := "contains", desc := "(Ljava/lang/CharSequence;)Z" } : Jvm.MethodName) prog_42_method_97_code (2 : Nat) (Option.some Jvm.ClassFile.FieldType.boolean)) ∈ lw_all := lw_g (lw_at lw_m10 160 rfl) rfl
theorem q2431 : (Jvm.Cond.interfaceEntry "java/lang/String" (710 : Nat)) ∈ lw_tbl := lw_at lw_m10 161 rfl
theorem q2432 : (Jvm.Cond.methodLink "java/lang/String" (710 : Nat) ({ cls := "java/lang/CharSequence", name := "toString", desc := "()Ljava/lang/String;" } : Jvm.MethodName)) ∈ lw_all := lw_g (lw_at lw_m10 162 rfl) rfl
theorem q2435 : (Jvm.Cond.castable "java/lang/String" "java/lang/CharSequence") ∈ lw_tbl := lw_at lw_m10 165 rfl
theorem q2436 : (Jvm.Cond.selects "java/lang/String" ({ cls := "java/lang/CharSequence", name := "toString", desc := "()Ljava/lang/String;" } : Jvm.MethodName) ({ cls := "java/lang/String", name := "toString", desc := "()Ljava/lang/String;" } : Jvm.MethodName)) ∈ lw_all := lw_g (lw_at lw_m10 166 rfl) rfl
theorem q2437 : (Jvm.Cond.unhidden "java/lang/String" "toString" "()Ljava/lang/String;") ∈ lw_tbl := lw_at lw_m10 167 rfl
theorem q2438 : (Jvm.Cond.publicMethod ({ cls := "java/lang/String", name := "toString", desc := "()Ljava/lang/String;" } : Jvm.MethodName)) ∈ lw_tbl := lw_at lw_m10 168 rfl
theorem q2443 : (Jvm.Cond.methodLink "java/lang/String" (711 : Nat) ({ cls := "java/lang/String", name := "indexOf", desc := "(Ljava/lang/String;)I" } : Jvm.MethodName)) ∈ lw_all := lw_g (lw_at lw_m10 173 rfl) rfl
theorem q2444 : (Jvm.Cond.instanceMethod ({ cls := "java/lang/String", name := "indexOf", desc := "(Ljava/lang/String;)I" } : Jvm.MethodName)) ∈ lw_all := lw_g (lw_at lw_m10 174 rfl) rfl
theorem q2445 : (Jvm.Cond.selects "java/lang/String" ({ cls := "java/lang/String", name := "indexOf", desc := "(Ljava/lang/String;)I" } : Jvm.MethodName) ({ cls := "java/lang/String", name := "indexOf", desc := "(Ljava/lang/String;)I" } : Jvm.MethodName)) ∈ lw_all := lw_g (lw_at lw_m10 175 rfl) rfl
theorem q2446 : (Jvm.Cond.code ({ cls := "java/lang/String", name := "indexOf", desc := "(Ljava/lang/String;)I" } : Jvm.MethodName) prog_42_method_84_code (3 : Nat) (Option.some Jvm.ClassFile.FieldType.int)) ∈ lw_all := lw_g (lw_at lw_m10 176 rfl) rfl
theorem q2447 : (Jvm.Cond.methodLink "java/lang/String" (647 : Nat) ({ cls := "java/lang/StringLatin1", name := "indexOf", desc := "([B[B)I" } : Jvm.MethodName)) ∈ lw_all := lw_g (lw_at lw_m10 177 rfl) rfl
theorem q2453 : (Jvm.Cond.methodLink "java/lang/String" (649 : Nat) ({ cls := "java/lang/StringUTF16", name := "indexOf", desc := "([B[B)I" } : Jvm.MethodName)) ∈ lw_all := lw_g (lw_at lw_m10 183 rfl) rfl
theorem q2459 : (Jvm.Cond.methodLink "java/lang/String" (650 : Nat) ({ cls := "java/lang/StringUTF16", name := "indexOfLatin1", desc := "([B[B)I" } : Jvm.MethodName)) ∈ lw_all := lw_g (lw_at lw_m10 189 rfl) rfl
theorem q3320 : (Jvm.Cond.castable "java/lang/String" "java/lang/Object") ∈ lw_tbl := lw_at lw_m14 90 rfl
theorem q123 : (Jvm.Cond.initialized "java/lang/StringUTF16") ∈ lw_all := lw_g (lw_at lw_m1 13 rfl) rfl
theorem q302 : (Jvm.Cond.static ({ cls := "java/lang/StringUTF16", name := "newBytesFor", desc := "(I)[B" } : Jvm.MethodName)) ∈ lw_all := lw_g (lw_at lw_m1 192 rfl) rfl
theorem q303 : (Jvm.Cond.code ({ cls := "java/lang/StringUTF16", name := "newBytesFor", desc := "(I)[B" } : Jvm.MethodName) prog_46_method_2_code (1 : Nat) (Option.some (Jvm.ClassFile.FieldType.array Jvm.ClassFile.FieldType.byte))) ∈ lw_all := lw_g (lw_at lw_m1 193 rfl) rfl
theorem q304 : (Jvm.Cond.methodLink "java/lang/StringUTF16" (11 : Nat) ({ cls := "java/lang/StringUTF16", name := "newBytesLength", desc := "(I)I" } : Jvm.MethodName)) ∈ lw_all := lw_g (lw_at lw_m1 194 rfl) rfl
theorem q305 : (Jvm.Cond.static ({ cls := "java/lang/StringUTF16", name := "newBytesLength", desc := "(I)I" } : Jvm.MethodName)) ∈ lw_all := lw_g (lw_at lw_m1 195 rfl) rfl
theorem q306 : (Jvm.Cond.code ({ cls := "java/lang/StringUTF16", name := "newBytesLength", desc := "(I)I" } : Jvm.MethodName) prog_46_method_3_code (1 : Nat) (Option.some Jvm.ClassFile.FieldType.int)) ∈ lw_all := lw_g (lw_at lw_m1 196 rfl) rfl
theorem q307 : (Jvm.Cond.constant "java/lang/StringUTF16" (20 : Nat) (1073741823 : Int32)) ∈ lw_all := lw_g (lw_at lw_m1 197 rfl) rfl
theorem q641 : (Jvm.Cond.static ({ cls := "java/lang/StringUTF16", name := "putCharsAt", desc := "([BICCCC)I" } : Jvm.MethodName)) ∈ lw_all := lw_g (lw_at lw_m3 51 rfl) rfl
theorem q642 : (Jvm.Cond.code ({ cls := "java/lang/StringUTF16", name := "putCharsAt", desc := "([BICCCC)I" } : Jvm.MethodName) prog_46_method_81_code (7 : Nat) (Option.some Jvm.ClassFile.FieldType.int)) ∈ lw_all := lw_g (lw_at lw_m3 52 rfl) rfl
theorem q643 : (Jvm.Cond.methodLink "java/lang/StringUTF16" (96 : Nat) ({ cls := "java/lang/StringUTF16", name := "checkBoundsBeginEnd", desc := "(II[B)V" } : Jvm.MethodName)) ∈ lw_all := lw_g (lw_at lw_m3 53 rfl) rfl
theorem q644 : (Jvm.Cond.static ({ cls := "java/lang/StringUTF16", name := "checkBoundsBeginEnd", desc := "(II[B)V" } : Jvm.MethodName)) ∈ lw_all := lw_g (lw_at lw_m3 54 rfl) rfl
theorem q645 : (Jvm.Cond.code ({ cls := "java/lang/StringUTF16", name := "checkBoundsBeginEnd", desc := "(II[B)V" } : Jvm.MethodName) prog_46_method_93_code (3 : Nat) (Option.none : Option Jvm.ClassFile.FieldType)) ∈ lw_all := lw_g (lw_at lw_m3 55 rfl) rfl
theorem q646 : (Jvm.Cond.methodLink "java/lang/StringUTF16" (48 : Nat) ({ cls := "java/lang/StringUTF16", name := "length", desc := "([B)I" } : Jvm.MethodName)) ∈ lw_all := lw_g (lw_at lw_m3 56 rfl) rfl
theorem q647 : (Jvm.Cond.static ({ cls := "java/lang/StringUTF16", name := "length", desc := "([B)I" } : Jvm.MethodName)) ∈ lw_all := lw_g (lw_at lw_m3 57 rfl) rfl
theorem q648 : (Jvm.Cond.code ({ cls := "java/lang/StringUTF16", name := "length", desc := "([B)I" } : Jvm.MethodName) prog_46_method_6_code (1 : Nat) (Option.some Jvm.ClassFile.FieldType.int)) ∈ lw_all := lw_g (lw_at lw_m3 58 rfl) rfl
theorem q649 : (Jvm.Cond.methodLink "java/lang/StringUTF16" (241 : Nat) ({ cls := "java/lang/String", name := "checkBoundsBeginEnd", desc := "(III)V" } : Jvm.MethodName)) ∈ lw_all := lw_g (lw_at lw_m3 59 rfl) rfl
theorem q657 : (Jvm.Cond.methodLink "java/lang/StringUTF16" (111 : Nat) ({ cls := "java/lang/StringUTF16", name := "putChar", desc := "([BII)V" } : Jvm.MethodName)) ∈ lw_all := lw_g (lw_at lw_m3 67 rfl) rfl
theorem q658 : (Jvm.Cond.static ({ cls := "java/lang/StringUTF16", name := "putChar", desc := "([BII)V" } : Jvm.MethodName)) ∈ lw_all := lw_g (lw_at lw_m3 68 rfl) rfl
theorem q659 : (Jvm.Cond.code ({ cls := "java/lang/StringUTF16", name := "putChar", desc := "([BII)V" } : Jvm.MethodName) prog_46_method_4_code (3 : Nat) (Option.none : Option Jvm.ClassFile.FieldType)) ∈ lw_all := lw_g (lw_at lw_m3 69 rfl) rfl
theorem q660 : (Jvm.Cond.fieldLink "java/lang/StringUTF16" (44 : Nat) "java/lang/StringUTF16" "$assertionsDisabled" "Z") ∈ lw_all := lw_g (lw_at lw_m3 70 rfl) rfl
theorem q661 : (Jvm.Cond.laysStatic "java/lang/StringUTF16" "$assertionsDisabled" "Z") ∈ lw_tbl := lw_at lw_m3 71 rfl
theorem q662 : (Jvm.Cond.fieldLink "java/lang/StringUTF16" (59 : Nat) "java/lang/StringUTF16" "HI_BYTE_SHIFT" "I") ∈ lw_all := lw_g (lw_at lw_m3 72 rfl) rfl
theorem q663 : (Jvm.Cond.laysStatic "java/lang/StringUTF16" "HI_BYTE_SHIFT" "I") ∈ lw_tbl := lw_at lw_m3 73 rfl
theorem q664 : (Jvm.Cond.fieldLink "java/lang/StringUTF16" (63 : Nat) "java/lang/StringUTF16" "LO_BYTE_SHIFT" "I") ∈ lw_all := lw_g (lw_at lw_m3 74 rfl) rfl
theorem q665 : (Jvm.Cond.laysStatic "java/lang/StringUTF16" "LO_BYTE_SHIFT" "I") ∈ lw_tbl := lw_at lw_m3 75 rfl
theorem q692 : (Jvm.Cond.static ({ cls := "java/lang/StringUTF16", name := "inflate", desc := "([BI[BII)V" } : Jvm.MethodName)) ∈ lw_all := lw_g (lw_at lw_m3 102 rfl) rfl
theorem q693 : (Jvm.Cond.code ({ cls := "java/lang/StringUTF16", name := "inflate", desc := "([BI[BII)V" } : Jvm.MethodName) prog_46_method_86_code (6 : Nat) (Option.none : Option Jvm.ClassFile.FieldType)) ∈ lw_all := lw_g (lw_at lw_m3 103 rfl) rfl
theorem q694 : (Jvm.Cond.methodLink "java/lang/StringUTF16" (173 : Nat) ({ cls := "java/lang/StringUTF16", name := "checkBoundsOffCount", desc := "(II[B)V" } : Jvm.MethodName)) ∈ lw_all := lw_g (lw_at lw_m3 104 rfl) rfl
theorem q695 : (Jvm.Cond.static ({ cls := "java/lang/StringUTF16", name := "checkBoundsOffCount", desc := "(II[B)V" } : Jvm.MethodName)) ∈ lw_all := lw_g (lw_at lw_m3 105 rfl) rfl
theorem q696 : (Jvm.Cond.code ({ cls := "java/lang/StringUTF16", name := "checkBoundsOffCount", desc := "(II[B)V" } : Jvm.MethodName) prog_46_method_94_code (3 : Nat) (Option.none : Option Jvm.ClassFile.FieldType)) ∈ lw_all := lw_g (lw_at lw_m3 106 rfl) rfl
theorem q697 : (Jvm.Cond.methodLink "java/lang/StringUTF16" (419 : Nat) ({ cls := "java/lang/String", name := "checkBoundsOffCount", desc := "(III)I" } : Jvm.MethodName)) ∈ lw_all := lw_g (lw_at lw_m3 107 rfl) rfl
theorem q727 : (Jvm.Cond.static ({ cls := "java/lang/StringUTF16", name := "getChars", desc := "(III[B)I" } : Jvm.MethodName)) ∈ lw_all := lw_g (lw_at lw_m3 137 rfl) rfl
theorem q728 : (Jvm.Cond.code ({ cls := "java/lang/StringUTF16", name := "getChars", desc := "(III[B)I" } : Jvm.MethodName) prog_46_method_77_code (5 : Nat) (Option.some Jvm.ClassFile.FieldType.int)) ∈ lw_all := lw_g (lw_at lw_m3 138 rfl) rfl
theorem q729 : (Jvm.Cond.methodLink "java/lang/StringUTF16" (393 : Nat) ({ cls := "java/lang/StringUTF16", name := "getChars", desc := "(II[B)I" } : Jvm.MethodName)) ∈ lw_all := lw_g (lw_at lw_m3 139 rfl) rfl
theorem q730 : (Jvm.Cond.static ({ cls := "java/lang/StringUTF16", name := "getChars", desc := "(II[B)I" } : Jvm.MethodName)) ∈ lw_all := lw_g (lw_at lw_m3 140 rfl) rfl
theorem q731 : (Jvm.Cond.code ({ cls := "java/lang/StringUTF16", name := "getChars", desc := "(II[B)I" } : Jvm.MethodName) prog_46_method_89_code (7 : Nat) (Option.some Jvm.ClassFile.FieldType.int)) ∈ lw_all := lw_g (lw_at lw_m3 141 rfl) rfl
theorem q732 : (Jvm.Cond.fieldLink "java/lang/StringUTF16" (403 : Nat) "java/lang/Integer" "DigitOnes" "[B") ∈ lw_all := lw_g (lw_at lw_m3 142 rfl) rfl
theorem q733 : (Jvm.Cond.fieldLink "java/lang/StringUTF16" (407 : Nat) "java/lang/Integer" "DigitTens" "[B") ∈ lw_all := lw_g (lw_at lw_m3 143 rfl) rfl
theorem q801 : (Jvm.Cond.static ({ cls := "java/lang/StringUTF16", name := "compress", desc := "([BII)[B" } : Jvm.MethodName)) ∈ lw_all := lw_g (lw_at lw_m3 211 rfl) rfl
theorem q802 : (Jvm.Cond.code ({ cls := "java/lang/StringUTF16", name := "compress", desc := "([BII)[B" } : Jvm.MethodName) prog_46_method_17_code (6 : Nat) (Option.some (Jvm.ClassFile.FieldType.array Jvm.ClassFile.FieldType.byte))) ∈ lw_all := lw_g (lw_at lw_m3 212 rfl) rfl
theorem q803 : (Jvm.Cond.methodLink "java/lang/StringUTF16" (123 : Nat) ({ cls := "java/lang/StringUTF16", name := "compress", desc := "([BI[BII)I" } : Jvm.MethodName)) ∈ lw_all := lw_g (lw_at lw_m3 213 rfl) rfl
theorem q804 : (Jvm.Cond.static ({ cls := "java/lang/StringUTF16", name := "compress", desc := "([BI[BII)I" } : Jvm.MethodName)) ∈ lw_all := lw_g (lw_at lw_m3 214 rfl) rfl
theorem q805 : (Jvm.Cond.code ({ cls := "java/lang/StringUTF16", name := "compress", desc := "([BI[BII)I" } : Jvm.MethodName) prog_46_method_22_code (7 : Nat) (Option.some Jvm.ClassFile.FieldType.int)) ∈ lw_all := lw_g (lw_at lw_m3 215 rfl) rfl
theorem q806 : (Jvm.Cond.methodLink "java/lang/StringUTF16" (71 : Nat) ({ cls := "java/lang/StringUTF16", name := "getChar", desc := "([BI)C" } : Jvm.MethodName)) ∈ lw_all := lw_g (lw_at lw_m3 216 rfl) rfl
theorem q807 : (Jvm.Cond.static ({ cls := "java/lang/StringUTF16", name := "getChar", desc := "([BI)C" } : Jvm.MethodName)) ∈ lw_all := lw_g (lw_at lw_m3 217 rfl) rfl
theorem q808 : (Jvm.Cond.code ({ cls := "java/lang/StringUTF16", name := "getChar", desc := "([BI)C" } : Jvm.MethodName) prog_46_method_5_code (2 : Nat) (Option.some Jvm.ClassFile.FieldType.char)) ∈ lw_all := lw_g (lw_at lw_m3 218 rfl) rfl
theorem q809 : (Jvm.Cond.methodLink "java/lang/StringUTF16" (126 : Nat) ({ cls := "java/util/Arrays", name := "copyOfRange", desc := "([BII)[B" } : Jvm.MethodName)) ∈ lw_all := lw_g (lw_at lw_m3 219 rfl) rfl
theorem q811 : (Jvm.Cond.static ({ cls := "java/lang/StringUTF16", name := "coderFromArrayLen", desc := "([BI)B" } : Jvm.MethodName)) ∈ lw_all := lw_g (lw_at lw_m3 221 rfl) rfl
theorem q812 : (Jvm.Cond.code ({ cls := "java/lang/StringUTF16", name := "coderFromArrayLen", desc := "([BI)B" } : Jvm.MethodName) prog_46_method_15_code (2 : Nat) (Option.some Jvm.ClassFile.FieldType.byte)) ∈ lw_all := lw_g (lw_at lw_m3 222 rfl) rfl
theorem q1011 : (Jvm.Cond.static ({ cls := "java/lang/StringUTF16", name := "hashCode", desc := "([B)I" } : Jvm.MethodName)) ∈ lw_all := lw_g (lw_at lw_m4 181 rfl) rfl
theorem q1012 : (Jvm.Cond.code ({ cls := "java/lang/StringUTF16", name := "hashCode", desc := "([B)I" } : Jvm.MethodName) prog_46_method_39_code (1 : Nat) (Option.some Jvm.ClassFile.FieldType.int)) ∈ lw_all := lw_g (lw_at lw_m4 182 rfl) rfl
theorem q1013 : (Jvm.Cond.methodLink "java/lang/StringUTF16" (220 : Nat) ({ cls := "jdk/internal/util/ArraysSupport", name := "vectorizedHashCode", desc := "(Ljava/lang/Object;IIII)I" } : Jvm.MethodName)) ∈ lw_all := lw_g (lw_at lw_m4 183 rfl) rfl
theorem q1213 : (Jvm.Cond.static ({ cls := "java/lang/StringUTF16", name := "indexOf", desc := "([BIII)I" } : Jvm.MethodName)) ∈ lw_all := lw_g (lw_at lw_m5 143 rfl) rfl
theorem q1214 : (Jvm.Cond.code ({ cls := "java/lang/StringUTF16", name := "indexOf", desc := "([BIII)I" } : Jvm.MethodName) prog_46_method_40_code (4 : Nat) (Option.some Jvm.ClassFile.FieldType.int)) ∈ lw_all := lw_g (lw_at lw_m5 144 rfl) rfl
theorem q1215 : (Jvm.Cond.methodLink "java/lang/StringUTF16" (224 : Nat) ({ cls := "java/lang/Math", name := "max", desc := "(II)I" } : Jvm.MethodName)) ∈ lw_all := lw_g (lw_at lw_m5 145 rfl) rfl
theorem q1216 : (Jvm.Cond.methodLink "java/lang/StringUTF16" (183 : Nat) ({ cls := "java/lang/Math", name := "min", desc := "(II)I" } : Jvm.MethodName)) ∈ lw_all := lw_g (lw_at lw_m5 146 rfl) rfl
theorem q1217 : (Jvm.Cond.constant "java/lang/StringUTF16" (227 : Nat) (65536 : Int32)) ∈ lw_all := lw_g (lw_at lw_m5 147 rfl) rfl
theorem q1218 : (Jvm.Cond.methodLink "java/lang/StringUTF16" (228 : Nat) ({ cls := "java/lang/StringUTF16", name := "indexOfChar", desc := "([BIII)I" } : Jvm.MethodName)) ∈ lw_all := lw_g (lw_at lw_m5 148 rfl) rfl
theorem q1219 : (Jvm.Cond.static ({ cls := "java/lang/StringUTF16", name := "indexOfChar", desc := "([BIII)I" } : Jvm.MethodName)) ∈ lw_all := lw_g (lw_at lw_m5 149 rfl) rfl
theorem q1220 : (Jvm.Cond.code ({ cls := "java/lang/StringUTF16", name := "indexOfChar", desc := "([BIII)I" } : Jvm.MethodName) prog_46_method_47_code (4 : Nat) (Option.some Jvm.ClassFile.FieldType.int)) ∈ lw_all := lw_g (lw_at lw_m5 150 rfl) rfl
theorem q1221 : (Jvm.Cond.methodLink "java/lang/StringUTF16" (244 : Nat) ({ cls := "java/lang/StringUTF16", name := "indexOfCharUnsafe", desc := "([BIII)I" } : Jvm.MethodName)) ∈ lw_all := lw_g (lw_at lw_m5 151 rfl) rfl
theorem q1222 : (Jvm.Cond.static ({ cls := "java/lang/StringUTF16", name := "indexOfCharUnsafe", desc := "([BIII)I" } : Jvm.MethodName)) ∈ lw_all := lw_g (lw_at lw_m5 152 rfl) rfl
theorem q1223 : (Jvm.Cond.code ({ cls := "java/lang/StringUTF16", name := "indexOfCharUnsafe", desc := "([BIII)I" } : Jvm.MethodName) prog_46_method_48_code (5 : Nat) (Option.some Jvm.ClassFile.FieldType.int)) ∈ lw_all := lw_g (lw_at lw_m5 153 rfl) rfl
theorem q1224 : (Jvm.Cond.methodLink "java/lang/StringUTF16" (232 : Nat) ({ cls := "java/lang/StringUTF16", name := "indexOfSupplementary", desc := "([BIII)I" } : Jvm.MethodName)) ∈ lw_all := lw_g (lw_at lw_m5 154 rfl) rfl
theorem q1225 : (Jvm.Cond.static ({ cls := "java/lang/StringUTF16", name := "indexOfSupplementary", desc := "([BIII)I" } : Jvm.MethodName)) ∈ lw_all := lw_g (lw_at lw_m5 155 rfl) rfl
theorem q1226 : (Jvm.Cond.code ({ cls := "java/lang/StringUTF16", name := "indexOfSupplementary", desc := "([BIII)I" } : Jvm.MethodName) prog_46_method_49_code (7 : Nat) (Option.some Jvm.ClassFile.FieldType.int)) ∈ lw_all := lw_g (lw_at lw_m5 156 rfl) rfl
theorem q1227 : (Jvm.Cond.methodLink "java/lang/StringUTF16" (164 : Nat) ({ cls := "java/lang/Character", name := "isValidCodePoint", desc := "(I)Z" } : Jvm.MethodName)) ∈ lw_all := lw_g (lw_at lw_m5 157 rfl) rfl
theorem q1230 : (Jvm.Cond.methodLink "java/lang/StringUTF16" (157 : Nat) ({ cls := "java/lang/Character", name := "highSurrogate", desc := "(I)C" } : Jvm.MethodName)) ∈ lw_all := lw_g (lw_at lw_m5 160 rfl) rfl
theorem q1234 : (Jvm.Cond.methodLink "java/lang/StringUTF16" (161 : Nat) ({ cls := "java/lang/Character", name := "lowSurrogate", desc := "(I)C" } : Jvm.MethodName)) ∈ lw_all := lw_g (lw_at lw_m5 164 rfl) rfl
theorem q2263 : (Jvm.Cond.static ({ cls := "java/lang/StringUTF16", name := "charAt", desc := "([BI)C" } : Jvm.MethodName)) ∈ lw_all := lw_g (lw_at lw_m9 233 rfl) rfl
theorem q2264 : (Jvm.Cond.code ({ cls := "java/lang/StringUTF16", name := "charAt", desc := "([BI)C" } : Jvm.MethodName) prog_46_method_83_code (2 : Nat) (Option.some Jvm.ClassFile.FieldType.char)) ∈ lw_all := lw_g (lw_at lw_m9 234 rfl) rfl
theorem q2265 : (Jvm.Cond.methodLink "java/lang/StringUTF16" (67 : Nat) ({ cls := "java/lang/StringUTF16", name := "checkIndex", desc := "(I[B)V" } : Jvm.MethodName)) ∈ lw_all := lw_g (lw_at lw_m9 235 rfl) rfl
theorem q2266 : (Jvm.Cond.static ({ cls := "java/lang/StringUTF16", name := "checkIndex", desc := "(I[B)V" } : Jvm.MethodName)) ∈ lw_all := lw_g (lw_at lw_m9 236 rfl) rfl
theorem q2267 : (Jvm.Cond.code ({ cls := "java/lang/StringUTF16", name := "checkIndex", desc := "(I[B)V" } : Jvm.MethodName) prog_46_method_91_code (2 : Nat) (Option.none : Option Jvm.ClassFile.FieldType)) ∈ lw_all := lw_g (lw_at lw_m9 237 rfl) rfl
theorem q2268 : (Jvm.Cond.methodLink "java/lang/StringUTF16" (414 : Nat) ({ cls := "java/lang/String", name := "checkIndex", desc := "(II)V" } : Jvm.MethodName)) ∈ lw_all := lw_g (lw_at lw_m9 238 rfl) rfl
theorem q2293 : (Jvm.Cond.static ({ cls := "java/lang/StringUTF16", name := "putCharSB", desc := "([BII)V" } : Jvm.MethodName)) ∈ lw_all := lw_g (lw_at lw_m10 23 rfl) rfl
theorem q2294 : (Jvm.Cond.code ({ cls := "java/lang/StringUTF16", name := "putCharSB", desc := "([BII)V" } : Jvm.MethodName) prog_46_method_71_code (3 : Nat) (Option.none : Option Jvm.ClassFile.FieldType)) ∈ lw_all := lw_g (lw_at lw_m10 24 rfl) rfl
theorem q2454 : (Jvm.Cond.static ({ cls := "java/lang/StringUTF16", name := "indexOf", desc := "([B[B)I" } : Jvm.MethodName)) ∈ lw_all := lw_g (lw_at lw_m10 184 rfl) rfl
theorem q2455 : (Jvm.Cond.code ({ cls := "java/lang/StringUTF16", name := "indexOf", desc := "([B[B)I" } : Jvm.MethodName) prog_46_method_41_code (2 : Nat) (Option.some Jvm.ClassFile.FieldType.int)) ∈ lw_all := lw_g (lw_at lw_m10 185 rfl) rfl
theorem q2456 : (Jvm.Cond.methodLink "java/lang/StringUTF16" (235 : Nat) ({ cls := "java/lang/StringUTF16", name := "indexOfUnsafe", desc := "([BI[BII)I" } : Jvm.MethodName)) ∈ lw_all := lw_g (lw_at lw_m10 186 rfl) rfl
theorem q2457 : (Jvm.Cond.static ({ cls := "java/lang/StringUTF16", name := "indexOfUnsafe", desc := "([BI[BII)I" } : Jvm.MethodName)) ∈ lw_all := lw_g (lw_at lw_m10 187 rfl) rfl
theorem q2458 : (Jvm.Cond.code ({ cls := "java/lang/StringUTF16", name := "indexOfUnsafe", desc := "([BI[BII)I" } : Jvm.MethodName) prog_46_method_43_code (11 : Nat) (Option.some Jvm.ClassFile.FieldType.int)) ∈ lw_all := lw_g (lw_at lw_m10 188 rfl) rfl
theorem q2460 : (Jvm.Cond.static ({ cls := "java/lang/StringUTF16", name := "indexOfLatin1", desc := "([B[B)I" } : Jvm.MethodName)) ∈ lw_all := lw_g (lw_at lw_m10 190 rfl) rfl
theorem q2461 : (Jvm.Cond.code ({ cls := "java/lang/StringUTF16", name := "indexOfLatin1", desc := "([B[B)I" } : Jvm.MethodName) prog_46_method_44_code (2 : Nat) (Option.some Jvm.ClassFile.FieldType.int)) ∈ lw_all := lw_g (lw_at lw_m10 191 rfl) rfl
theorem q2462 : (Jvm.Cond.methodLink "java/lang/StringUTF16" (238 : Nat) ({ cls := "java/lang/StringUTF16", name := "indexOfLatin1Unsafe", desc := "([BI[BII)I" } : Jvm.MethodName)) ∈ lw_all := lw_g (lw_at lw_m10 192 rfl) rfl
theorem q2463 : (Jvm.Cond.static ({ cls := "java/lang/StringUTF16", name := "indexOfLatin1Unsafe", desc := "([BI[BII)I" } : Jvm.MethodName)) ∈ lw_all := lw_g (lw_at lw_m10 193 rfl) rfl
theorem q2464 : (Jvm.Cond.code ({ cls := "java/lang/StringUTF16", name := "indexOfLatin1Unsafe", desc := "([BI[BII)I" } : Jvm.MethodName) prog_46_method_46_code (11 : Nat) (Option.some Jvm.ClassFile.FieldType.int)) ∈ lw_all := lw_g (lw_at lw_m10 194 rfl) rfl
theorem q2589 : (Jvm.Cond.static ({ cls := "java/lang/StringUTF16", name := "fillNull", desc := "([BII)V" } : Jvm.MethodName)) ∈ lw_all := lw_g (lw_at lw_m11 79 rfl) rfl
theorem q2590 : (Jvm.Cond.code ({ cls := "java/lang/StringUTF16", name := "fillNull", desc := "([BII)V" } : Jvm.MethodName) prog_46_method_70_code (3 : Nat) (Option.none : Option Jvm.ClassFile.FieldType)) ∈ lw_all := lw_g (lw_at lw_m11 80 rfl) rfl
theorem q2591 : (Jvm.Cond.methodLink "java/lang/StringUTF16" (380 : Nat) ({ cls := "java/util/Arrays", name := "fill", desc := "([BIIB)V" } : Jvm.MethodName)) ∈ lw_all := lw_g (lw_at lw_m11 81 rfl) rfl
theorem q124 : (Jvm.Cond.initialized "ColourOfficeModel") ∈ lw_all := lw_g (lw_at lw_m1 14 rfl) rfl
theorem q883 : (Jvm.Cond.selects "ColourOfficeModel" ({ cls := "java/lang/Object", name := "getClass", desc := "()Ljava/lang/Class;" } : Jvm.MethodName) ({ cls := "java/lang/Object", name := "getClass", desc := "()Ljava/lang/Class;" } : Jvm.MethodName)) ∈ lw_all := lw_g (lw_at lw_m4 53 rfl) rfl
theorem q2411 : (Jvm.Cond.selects "ColourOfficeModel" ({ cls := "java/lang/Object", name := "toString", desc := "()Ljava/lang/String;" } : Jvm.MethodName) ({ cls := "java/lang/Object", name := "toString", desc := "()Ljava/lang/String;" } : Jvm.MethodName)) ∈ lw_all := lw_g (lw_at lw_m10 141 rfl) rfl
theorem q2694 : (Jvm.Cond.instantiable "ColourOfficeModel" (23 : Nat)) ∈ lw_all := lw_g (lw_at lw_m11 184 rfl) rfl
theorem q2696 : (Jvm.Cond.instanceMethod ({ cls := "ColourOfficeModel", name := "<init>", desc := "()V" } : Jvm.MethodName)) ∈ lw_all := lw_g (lw_at lw_m11 186 rfl) rfl
theorem q2697 : (Jvm.Cond.code ({ cls := "ColourOfficeModel", name := "<init>", desc := "()V" } : Jvm.MethodName) prog_22_method_1_code (1 : Nat) (Option.none : Option Jvm.ClassFile.FieldType)) ∈ lw_all := lw_g (lw_at lw_m11 187 rfl) rfl
theorem q2698 : (Jvm.Cond.methodLink "ColourOfficeModel" (1 : Nat) ({ cls := "java/lang/Object", name := "<init>", desc := "()V" } : Jvm.MethodName)) ∈ lw_all := lw_g (lw_at lw_m11 188 rfl) rfl
theorem q2699 : (Jvm.Cond.fieldLink "ColourOfficeModel" (7 : Nat) "ColourOfficeModel" "now" "[I") ∈ lw_all := lw_g (lw_at lw_m11 189 rfl) rfl
theorem q2700 : (Jvm.Cond.fieldLink "ColourOfficeModel" (13 : Nat) "ColourOfficeModel" "before" "[I") ∈ lw_all := lw_g (lw_at lw_m11 190 rfl) rfl
theorem q2701 : (Jvm.Cond.fieldLink "ColourOfficeModel" (16 : Nat) "ColourOfficeModel" "saved" "[I") ∈ lw_all := lw_g (lw_at lw_m11 191 rfl) rfl
theorem q2702 : (Jvm.Cond.fieldLink "ColourOfficeModel" (19 : Nat) "ColourOfficeModel" "history" "[I") ∈ lw_all := lw_g (lw_at lw_m11 192 rfl) rfl
theorem q2703 : (Jvm.Cond.fieldLink "ColourOfficeModel" (22 : Nat) "ColourOfficeModel" "best" "[I") ∈ lw_all := lw_g (lw_at lw_m11 193 rfl) rfl
theorem q2704 : (Jvm.Cond.fieldLink "ColourOfficeModel" (25 : Nat) "ColourOfficeModel" "thrown" "I") ∈ lw_all := lw_g (lw_at lw_m11 194 rfl) rfl
theorem q2705 : (Jvm.Cond.fieldLink "ColourOfficeModel" (29 : Nat) "ColourOfficeModel" "depth" "I") ∈ lw_all := lw_g (lw_at lw_m11 195 rfl) rfl
theorem q2706 : (Jvm.Cond.fieldLink "ColourOfficeModel" (32 : Nat) "ColourOfficeModel" "wrongAt" "I") ∈ lw_all := lw_g (lw_at lw_m11 196 rfl) rfl
theorem q2707 : (Jvm.Cond.fieldLink "ColourOfficeModel" (35 : Nat) "ColourOfficeModel" "failedAt" "I") ∈ lw_all := lw_g (lw_at lw_m11 197 rfl) rfl
theorem q2708 : (Jvm.Cond.fieldLink "ColourOfficeModel" (38 : Nat) "ColourOfficeModel" "failure" "I") ∈ lw_all := lw_g (lw_at lw_m11 198 rfl) rfl
theorem q2709 : (Jvm.Cond.fieldLink "ColourOfficeModel" (41 : Nat) "ColourOfficeModel" "isSaved" "Z") ∈ lw_all := lw_g (lw_at lw_m11 199 rfl) rfl
theorem q2710 : (Jvm.Cond.fieldLink "ColourOfficeModel" (45 : Nat) "ColourOfficeModel" "givenReports" "[I") ∈ lw_all := lw_g (lw_at lw_m11 200 rfl) rfl
theorem q2711 : (Jvm.Cond.fieldLink "ColourOfficeModel" (48 : Nat) "ColourOfficeModel" "givenColours" "[I") ∈ lw_all := lw_g (lw_at lw_m11 201 rfl) rfl
theorem q2712 : (Jvm.Cond.fieldLink "ColourOfficeModel" (51 : Nat) "ColourOfficeModel" "output" "[I") ∈ lw_all := lw_g (lw_at lw_m11 202 rfl) rfl
theorem q2713 : (Jvm.Cond.fieldLink "ColourOfficeModel" (54 : Nat) "ColourOfficeModel" "outputLength" "I") ∈ lw_all := lw_g (lw_at lw_m11 203 rfl) rfl
theorem q2714 : (Jvm.Cond.fieldLink "ColourOfficeModel" (57 : Nat) "ColourOfficeModel" "input" "[I") ∈ lw_all := lw_g (lw_at lw_m11 204 rfl) rfl
theorem q2715 : (Jvm.Cond.fieldLink "ColourOfficeModel" (60 : Nat) "ColourOfficeModel" "kinds" "[I") ∈ lw_all := lw_g (lw_at lw_m11 205 rfl) rfl
theorem q2716 : (Jvm.Cond.fieldLink "ColourOfficeModel" (63 : Nat) "ColourOfficeModel" "arguments" "[I") ∈ lw_all := lw_g (lw_at lw_m11 206 rfl) rfl
theorem q2717 : (Jvm.Cond.fieldLink "ColourOfficeModel" (66 : Nat) "ColourOfficeModel" "length" "I") ∈ lw_all := lw_g (lw_at lw_m11 207 rfl) rfl
theorem q2718 : (Jvm.Cond.fieldLink "ColourOfficeModel" (69 : Nat) "ColourOfficeModel" "scriptLength" "I") ∈ lw_all := lw_g (lw_at lw_m11 208 rfl) rfl
theorem q2719 : (Jvm.Cond.fieldLink "ColourOfficeModel" (72 : Nat) "ColourOfficeModel" "at" "I") ∈ lw_all := lw_g (lw_at lw_m11 209 rfl) rfl
theorem q2720 : (Jvm.Cond.fieldLink "ColourOfficeModel" (75 : Nat) "ColourOfficeModel" "commands" "I") ∈ lw_all := lw_g (lw_at lw_m11 210 rfl) rfl
theorem q2721 : (Jvm.Cond.fieldLink "ColourOfficeModel" (78 : Nat) "ColourOfficeModel" "isWrong" "Z") ∈ lw_all := lw_g (lw_at lw_m11 211 rfl) rfl
theorem q2722 : (Jvm.Cond.laysFinal "ColourOfficeModel" "ColourOfficeModel" "now" "[I") ∈ lw_all := lw_g (lw_at lw_m11 212 rfl) rfl
theorem q2723 : (Jvm.Cond.soleField "ColourOfficeModel" "now") ∈ lw_all := lw_g (lw_at lw_m11 213 rfl) rfl
theorem q2724 : (Jvm.Cond.laysFinal "ColourOfficeModel" "ColourOfficeModel" "before" "[I") ∈ lw_all := lw_g (lw_at lw_m11 214 rfl) rfl
theorem q2725 : (Jvm.Cond.soleField "ColourOfficeModel" "before") ∈ lw_all := lw_g (lw_at lw_m11 215 rfl) rfl
theorem q2726 : (Jvm.Cond.laysFinal "ColourOfficeModel" "ColourOfficeModel" "saved" "[I") ∈ lw_all := lw_g (lw_at lw_m11 216 rfl) rfl
theorem q2727 : (Jvm.Cond.soleField "ColourOfficeModel" "saved") ∈ lw_all := lw_g (lw_at lw_m11 217 rfl) rfl
theorem q2728 : (Jvm.Cond.laysFinal "ColourOfficeModel" "ColourOfficeModel" "history" "[I") ∈ lw_all := lw_g (lw_at lw_m11 218 rfl) rfl
theorem q2729 : (Jvm.Cond.soleField "ColourOfficeModel" "history") ∈ lw_all := lw_g (lw_at lw_m11 219 rfl) rfl
theorem q2730 : (Jvm.Cond.laysFinal "ColourOfficeModel" "ColourOfficeModel" "best" "[I") ∈ lw_all := lw_g (lw_at lw_m11 220 rfl) rfl
theorem q2731 : (Jvm.Cond.soleField "ColourOfficeModel" "best") ∈ lw_all := lw_g (lw_at lw_m11 221 rfl) rfl
theorem q2732 : (Jvm.Cond.lays "ColourOfficeModel" "ColourOfficeModel" "thrown" "I") ∈ lw_all := lw_g (lw_at lw_m11 222 rfl) rfl
theorem q2733 : (Jvm.Cond.soleField "ColourOfficeModel" "thrown") ∈ lw_all := lw_g (lw_at lw_m11 223 rfl) rfl
theorem q2734 : (Jvm.Cond.lays "ColourOfficeModel" "ColourOfficeModel" "depth" "I") ∈ lw_all := lw_g (lw_at lw_m11 224 rfl) rfl
theorem q2735 : (Jvm.Cond.soleField "ColourOfficeModel" "depth") ∈ lw_all := lw_g (lw_at lw_m11 225 rfl) rfl
theorem q2736 : (Jvm.Cond.lays "ColourOfficeModel" "ColourOfficeModel" "wrongAt" "I") ∈ lw_all := lw_g (lw_at lw_m11 226 rfl) rfl
theorem q2737 : (Jvm.Cond.soleField "ColourOfficeModel" "wrongAt") ∈ lw_all := lw_g (lw_at lw_m11 227 rfl) rfl
theorem q2738 : (Jvm.Cond.lays "ColourOfficeModel" "ColourOfficeModel" "failedAt" "I") ∈ lw_all := lw_g (lw_at lw_m11 228 rfl) rfl
theorem q2739 : (Jvm.Cond.soleField "ColourOfficeModel" "failedAt") ∈ lw_all := lw_g (lw_at lw_m11 229 rfl) rfl
theorem q2740 : (Jvm.Cond.lays "ColourOfficeModel" "ColourOfficeModel" "failure" "I") ∈ lw_all := lw_g (lw_at lw_m11 230 rfl) rfl
theorem q2741 : (Jvm.Cond.soleField "ColourOfficeModel" "failure") ∈ lw_all := lw_g (lw_at lw_m11 231 rfl) rfl
theorem q2742 : (Jvm.Cond.lays "ColourOfficeModel" "ColourOfficeModel" "isSaved" "Z") ∈ lw_all := lw_g (lw_at lw_m11 232 rfl) rfl
theorem q2743 : (Jvm.Cond.soleField "ColourOfficeModel" "isSaved") ∈ lw_all := lw_g (lw_at lw_m11 233 rfl) rfl
theorem q2744 : (Jvm.Cond.laysFinal "ColourOfficeModel" "ColourOfficeModel" "givenReports" "[I") ∈ lw_all := lw_g (lw_at lw_m11 234 rfl) rfl
theorem q2745 : (Jvm.Cond.soleField "ColourOfficeModel" "givenReports") ∈ lw_all := lw_g (lw_at lw_m11 235 rfl) rfl
theorem q2746 : (Jvm.Cond.laysFinal "ColourOfficeModel" "ColourOfficeModel" "givenColours" "[I") ∈ lw_all := lw_g (lw_at lw_m11 236 rfl) rfl
theorem q2747 : (Jvm.Cond.soleField "ColourOfficeModel" "givenColours") ∈ lw_all := lw_g (lw_at lw_m11 237 rfl) rfl
theorem q2748 : (Jvm.Cond.laysFinal "ColourOfficeModel" "ColourOfficeModel" "output" "[I") ∈ lw_all := lw_g (lw_at lw_m11 238 rfl) rfl
theorem q2749 : (Jvm.Cond.soleField "ColourOfficeModel" "output") ∈ lw_all := lw_g (lw_at lw_m11 239 rfl) rfl
theorem q2750 : (Jvm.Cond.lays "ColourOfficeModel" "ColourOfficeModel" "outputLength" "I") ∈ lw_all := lw_g (lw_at lw_m12 0 rfl) rfl
theorem q2751 : (Jvm.Cond.soleField "ColourOfficeModel" "outputLength") ∈ lw_all := lw_g (lw_at lw_m12 1 rfl) rfl
theorem q2752 : (Jvm.Cond.laysFinal "ColourOfficeModel" "ColourOfficeModel" "input" "[I") ∈ lw_all := lw_g (lw_at lw_m12 2 rfl) rfl
theorem q2753 : (Jvm.Cond.soleField "ColourOfficeModel" "input") ∈ lw_all := lw_g (lw_at lw_m12 3 rfl) rfl
theorem q2754 : (Jvm.Cond.laysFinal "ColourOfficeModel" "ColourOfficeModel" "kinds" "[I") ∈ lw_all := lw_g (lw_at lw_m12 4 rfl) rfl
theorem q2755 : (Jvm.Cond.soleField "ColourOfficeModel" "kinds") ∈ lw_all := lw_g (lw_at lw_m12 5 rfl) rfl
theorem q2756 : (Jvm.Cond.laysFinal "ColourOfficeModel" "ColourOfficeModel" "arguments" "[I") ∈ lw_all := lw_g (lw_at lw_m12 6 rfl) rfl
theorem q2757 : (Jvm.Cond.soleField "ColourOfficeModel" "arguments") ∈ lw_all := lw_g (lw_at lw_m12 7 rfl) rfl
theorem q2758 : (Jvm.Cond.lays "ColourOfficeModel" "ColourOfficeModel" "length" "I") ∈ lw_all := lw_g (lw_at lw_m12 8 rfl) rfl
theorem q2759 : (Jvm.Cond.soleField "ColourOfficeModel" "length") ∈ lw_all := lw_g (lw_at lw_m12 9 rfl) rfl
theorem q2760 : (Jvm.Cond.lays "ColourOfficeModel" "ColourOfficeModel" "scriptLength" "I") ∈ lw_all := lw_g (lw_at lw_m12 10 rfl) rfl
theorem q2761 : (Jvm.Cond.soleField "ColourOfficeModel" "scriptLength") ∈ lw_all := lw_g (lw_at lw_m12 11 rfl) rfl
theorem q2762 : (Jvm.Cond.lays "ColourOfficeModel" "ColourOfficeModel" "at" "I") ∈ lw_all := lw_g (lw_at lw_m12 12 rfl) rfl
theorem q2763 : (Jvm.Cond.soleField "ColourOfficeModel" "at") ∈ lw_all := lw_g (lw_at lw_m12 13 rfl) rfl
theorem q2764 : (Jvm.Cond.lays "ColourOfficeModel" "ColourOfficeModel" "commands" "I") ∈ lw_all := lw_g (lw_at lw_m12 14 rfl) rfl
theorem q2765 : (Jvm.Cond.soleField "ColourOfficeModel" "commands") ∈ lw_all := lw_g (lw_at lw_m12 15 rfl) rfl
theorem q2766 : (Jvm.Cond.lays "ColourOfficeModel" "ColourOfficeModel" "isWrong" "Z") ∈ lw_all := lw_g (lw_at lw_m12 16 rfl) rfl
theorem q2767 : (Jvm.Cond.soleField "ColourOfficeModel" "isWrong") ∈ lw_all := lw_g (lw_at lw_m12 17 rfl) rfl
theorem q2768 : (Jvm.Cond.superclass "ColourOfficeModel" "java/lang/Object") ∈ lw_all := lw_g (lw_at lw_m12 18 rfl) rfl
theorem q2770 : (Jvm.Cond.instanceMethod ({ cls := "ColourOfficeModel", name := "thrown", desc := "()I" } : Jvm.MethodName)) ∈ lw_all := lw_g (lw_at lw_m12 20 rfl) rfl
theorem q2771 : (Jvm.Cond.selects "ColourOfficeModel" ({ cls := "ColourOfficeModel", name := "thrown", desc := "()I" } : Jvm.MethodName) ({ cls := "ColourOfficeModel", name := "thrown", desc := "()I" } : Jvm.MethodName)) ∈ lw_all := lw_g (lw_at lw_m12 21 rfl) rfl
theorem q2772 : (Jvm.Cond.code ({ cls := "ColourOfficeModel", name := "thrown", desc := "()I" } : Jvm.MethodName) prog_22_method_2_code (1 : Nat) (Option.some Jvm.ClassFile.FieldType.int)) ∈ lw_all := lw_g (lw_at lw_m12 22 rfl) rfl
theorem q2774 : (Jvm.Cond.instanceMethod ({ cls := "ColourOfficeModel", name := "addColour", desc := "(IIII)I" } : Jvm.MethodName)) ∈ lw_all := lw_g (lw_at lw_m12 24 rfl) rfl
theorem q2775 : (Jvm.Cond.selects "ColourOfficeModel" ({ cls := "ColourOfficeModel", name := "addColour", desc := "(IIII)I" } : Jvm.MethodName) ({ cls := "ColourOfficeModel", name := "addColour", desc := "(IIII)I" } : Jvm.MethodName)) ∈ lw_all := lw_g (lw_at lw_m12 25 rfl) rfl
theorem q2776 : (Jvm.Cond.code ({ cls := "ColourOfficeModel", name := "addColour", desc := "(IIII)I" } : Jvm.MethodName) prog_22_method_26_code (6 : Nat) (Option.some Jvm.ClassFile.FieldType.int)) ∈ lw_all := lw_g (lw_at lw_m12 26 rfl) rfl
theorem q2777 : (Jvm.Cond.methodLink "ColourOfficeModel" (123 : Nat) ({ cls := "ColourOfficeModel", name := "begin", desc := "()V" } : Jvm.MethodName)) ∈ lw_all := lw_g (lw_at lw_m12 27 rfl) rfl
theorem q2778 : (Jvm.Cond.privateMethod ({ cls := "ColourOfficeModel", name := "begin", desc := "()V" } : Jvm.MethodName)) ∈ lw_tbl := lw_at lw_m12 28 rfl
theorem q2779 : (Jvm.Cond.instanceMethod ({ cls := "ColourOfficeModel", name := "begin", desc := "()V" } : Jvm.MethodName)) ∈ lw_all := lw_g (lw_at lw_m12 29 rfl) rfl
theorem q2780 : (Jvm.Cond.code ({ cls := "ColourOfficeModel", name := "begin", desc := "()V" } : Jvm.MethodName) prog_22_method_6_code (1 : Nat) (Option.none : Option Jvm.ClassFile.FieldType)) ∈ lw_all := lw_g (lw_at lw_m12 30 rfl) rfl
theorem q2781 : (Jvm.Cond.methodLink "ColourOfficeModel" (81 : Nat) ({ cls := "ColourOfficeModel", name := "copy", desc := "([II[II)V" } : Jvm.MethodName)) ∈ lw_all := lw_g (lw_at lw_m12 31 rfl) rfl
theorem q2782 : (Jvm.Cond.static ({ cls := "ColourOfficeModel", name := "copy", desc := "([II[II)V" } : Jvm.MethodName)) ∈ lw_all := lw_g (lw_at lw_m12 32 rfl) rfl
theorem q2783 : (Jvm.Cond.code ({ cls := "ColourOfficeModel", name := "copy", desc := "([II[II)V" } : Jvm.MethodName) prog_22_method_4_code (5 : Nat) (Option.none : Option Jvm.ClassFile.FieldType)) ∈ lw_all := lw_g (lw_at lw_m12 33 rfl) rfl
theorem q2784 : (Jvm.Cond.methodLink "ColourOfficeModel" (126 : Nat) ({ cls := "ColourOfficeModel", name := "cannotAdd", desc := "(IIII)I" } : Jvm.MethodName)) ∈ lw_all := lw_g (lw_at lw_m12 34 rfl) rfl
theorem q2785 : (Jvm.Cond.privateMethod ({ cls := "ColourOfficeModel", name := "cannotAdd", desc := "(IIII)I" } : Jvm.MethodName)) ∈ lw_tbl := lw_at lw_m12 35 rfl
theorem q2786 : (Jvm.Cond.instanceMethod ({ cls := "ColourOfficeModel", name := "cannotAdd", desc := "(IIII)I" } : Jvm.MethodName)) ∈ lw_all := lw_g (lw_at lw_m12 36 rfl) rfl
theorem q2787 : (Jvm.Cond.code ({ cls := "ColourOfficeModel", name := "cannotAdd", desc := "(IIII)I" } : Jvm.MethodName) prog_22_method_24_code (5 : Nat) (Option.some Jvm.ClassFile.FieldType.int)) ∈ lw_all := lw_g (lw_at lw_m12 37 rfl) rfl
theorem q2788 : (Jvm.Cond.methodLink "ColourOfficeModel" (116 : Nat) ({ cls := "ColourOfficeModel", name := "areParts", desc := "(III)Z" } : Jvm.MethodName)) ∈ lw_all := lw_g (lw_at lw_m12 38 rfl) rfl
theorem q2789 : (Jvm.Cond.static ({ cls := "ColourOfficeModel", name := "areParts", desc := "(III)Z" } : Jvm.MethodName)) ∈ lw_all := lw_g (lw_at lw_m12 39 rfl) rfl
theorem q2790 : (Jvm.Cond.code ({ cls := "ColourOfficeModel", name := "areParts", desc := "(III)Z" } : Jvm.MethodName) prog_22_method_22_code (3 : Nat) (Option.some Jvm.ClassFile.FieldType.boolean)) ∈ lw_all := lw_g (lw_at lw_m12 40 rfl) rfl
theorem q2791 : (Jvm.Cond.methodLink "ColourOfficeModel" (112 : Nat) ({ cls := "ColourOfficeModel", name := "in", desc := "(III)Z" } : Jvm.MethodName)) ∈ lw_all := lw_g (lw_at lw_m12 41 rfl) rfl
theorem q2792 : (Jvm.Cond.static ({ cls := "ColourOfficeModel", name := "in", desc := "(III)Z" } : Jvm.MethodName)) ∈ lw_all := lw_g (lw_at lw_m12 42 rfl) rfl
theorem q2793 : (Jvm.Cond.code ({ cls := "ColourOfficeModel", name := "in", desc := "(III)Z" } : Jvm.MethodName) prog_22_method_3_code (3 : Nat) (Option.some Jvm.ClassFile.FieldType.boolean)) ∈ lw_all := lw_g (lw_at lw_m12 43 rfl) rfl
theorem q2794 : (Jvm.Cond.methodLink "ColourOfficeModel" (130 : Nat) ({ cls := "ColourOfficeModel", name := "fail", desc := "(I)I" } : Jvm.MethodName)) ∈ lw_all := lw_g (lw_at lw_m12 44 rfl) rfl
theorem q2795 : (Jvm.Cond.privateMethod ({ cls := "ColourOfficeModel", name := "fail", desc := "(I)I" } : Jvm.MethodName)) ∈ lw_tbl := lw_at lw_m12 45 rfl
theorem q2796 : (Jvm.Cond.instanceMethod ({ cls := "ColourOfficeModel", name := "fail", desc := "(I)I" } : Jvm.MethodName)) ∈ lw_all := lw_g (lw_at lw_m12 46 rfl) rfl
theorem q2797 : (Jvm.Cond.code ({ cls := "ColourOfficeModel", name := "fail", desc := "(I)I" } : Jvm.MethodName) prog_22_method_5_code (2 : Nat) (Option.some Jvm.ClassFile.FieldType.int)) ∈ lw_all := lw_g (lw_at lw_m12 47 rfl) rfl
theorem q2798 : (Jvm.Cond.methodLink "ColourOfficeModel" (133 : Nat) ({ cls := "ColourOfficeModel", name := "adds", desc := "(IIII)I" } : Jvm.MethodName)) ∈ lw_all := lw_g (lw_at lw_m12 48 rfl) rfl
theorem q2799 : (Jvm.Cond.privateMethod ({ cls := "ColourOfficeModel", name := "adds", desc := "(IIII)I" } : Jvm.MethodName)) ∈ lw_tbl := lw_at lw_m12 49 rfl
theorem q2800 : (Jvm.Cond.instanceMethod ({ cls := "ColourOfficeModel", name := "adds", desc := "(IIII)I" } : Jvm.MethodName)) ∈ lw_all := lw_g (lw_at lw_m12 50 rfl) rfl
theorem q2801 : (Jvm.Cond.code ({ cls := "ColourOfficeModel", name := "adds", desc := "(IIII)I" } : Jvm.MethodName) prog_22_method_25_code (5 : Nat) (Option.some Jvm.ClassFile.FieldType.int)) ∈ lw_all := lw_g (lw_at lw_m12 51 rfl) rfl
theorem q2802 : (Jvm.Cond.methodLink "ColourOfficeModel" (85 : Nat) ({ cls := "ColourOfficeModel", name := "colourRow", desc := "(I)I" } : Jvm.MethodName)) ∈ lw_all := lw_g (lw_at lw_m12 52 rfl) rfl
theorem q2803 : (Jvm.Cond.static ({ cls := "ColourOfficeModel", name := "colourRow", desc := "(I)I" } : Jvm.MethodName)) ∈ lw_all := lw_g (lw_at lw_m12 53 rfl) rfl
theorem q2804 : (Jvm.Cond.code ({ cls := "ColourOfficeModel", name := "colourRow", desc := "(I)I" } : Jvm.MethodName) prog_22_method_8_code (1 : Nat) (Option.some Jvm.ClassFile.FieldType.int)) ∈ lw_all := lw_g (lw_at lw_m12 54 rfl) rfl
theorem q2805 : (Jvm.Cond.methodLink "ColourOfficeModel" (119 : Nat) ({ cls := "ColourOfficeModel", name := "lay", desc := "(IIIIIII)V" } : Jvm.MethodName)) ∈ lw_all := lw_g (lw_at lw_m12 55 rfl) rfl
theorem q2806 : (Jvm.Cond.privateMethod ({ cls := "ColourOfficeModel", name := "lay", desc := "(IIIIIII)V" } : Jvm.MethodName)) ∈ lw_tbl := lw_at lw_m12 56 rfl
theorem q2807 : (Jvm.Cond.instanceMethod ({ cls := "ColourOfficeModel", name := "lay", desc := "(IIIIIII)V" } : Jvm.MethodName)) ∈ lw_all := lw_g (lw_at lw_m12 57 rfl) rfl
theorem q2808 : (Jvm.Cond.code ({ cls := "ColourOfficeModel", name := "lay", desc := "(IIIIIII)V" } : Jvm.MethodName) prog_22_method_23_code (8 : Nat) (Option.none : Option Jvm.ClassFile.FieldType)) ∈ lw_all := lw_g (lw_at lw_m12 58 rfl) rfl
theorem q2809 : (Jvm.Cond.methodLink "ColourOfficeModel" (136 : Nat) ({ cls := "ColourOfficeModel", name := "commit", desc := "(I)I" } : Jvm.MethodName)) ∈ lw_all := lw_g (lw_at lw_m12 59 rfl) rfl
theorem q2810 : (Jvm.Cond.privateMethod ({ cls := "ColourOfficeModel", name := "commit", desc := "(I)I" } : Jvm.MethodName)) ∈ lw_tbl := lw_at lw_m12 60 rfl
theorem q2811 : (Jvm.Cond.instanceMethod ({ cls := "ColourOfficeModel", name := "commit", desc := "(I)I" } : Jvm.MethodName)) ∈ lw_all := lw_g (lw_at lw_m12 61 rfl) rfl
theorem q2812 : (Jvm.Cond.code ({ cls := "ColourOfficeModel", name := "commit", desc := "(I)I" } : Jvm.MethodName) prog_22_method_7_code (3 : Nat) (Option.some Jvm.ClassFile.FieldType.int)) ∈ lw_all := lw_g (lw_at lw_m12 62 rfl) rfl
theorem q2814 : (Jvm.Cond.instanceMethod ({ cls := "ColourOfficeModel", name := "report", desc := "(IIIII)I" } : Jvm.MethodName)) ∈ lw_all := lw_g (lw_at lw_m12 64 rfl) rfl
theorem q2815 : (Jvm.Cond.selects "ColourOfficeModel" ({ cls := "ColourOfficeModel", name := "report", desc := "(IIIII)I" } : Jvm.MethodName) ({ cls := "ColourOfficeModel", name := "report", desc := "(IIIII)I" } : Jvm.MethodName)) ∈ lw_all := lw_g (lw_at lw_m12 65 rfl) rfl
theorem q2816 : (Jvm.Cond.code ({ cls := "ColourOfficeModel", name := "report", desc := "(IIIII)I" } : Jvm.MethodName) prog_22_method_29_code (7 : Nat) (Option.some Jvm.ClassFile.FieldType.int)) ∈ lw_all := lw_g (lw_at lw_m12 66 rfl) rfl
theorem q2817 : (Jvm.Cond.methodLink "ColourOfficeModel" (139 : Nat) ({ cls := "ColourOfficeModel", name := "cannotReport", desc := "(IIIII)I" } : Jvm.MethodName)) ∈ lw_all := lw_g (lw_at lw_m12 67 rfl) rfl
theorem q2818 : (Jvm.Cond.privateMethod ({ cls := "ColourOfficeModel", name := "cannotReport", desc := "(IIIII)I" } : Jvm.MethodName)) ∈ lw_tbl := lw_at lw_m12 68 rfl
theorem q2819 : (Jvm.Cond.instanceMethod ({ cls := "ColourOfficeModel", name := "cannotReport", desc := "(IIIII)I" } : Jvm.MethodName)) ∈ lw_all := lw_g (lw_at lw_m12 69 rfl) rfl
theorem q2820 : (Jvm.Cond.code ({ cls := "ColourOfficeModel", name := "cannotReport", desc := "(IIIII)I" } : Jvm.MethodName) prog_22_method_27_code (6 : Nat) (Option.some Jvm.ClassFile.FieldType.int)) ∈ lw_all := lw_g (lw_at lw_m12 70 rfl) rfl
theorem q2821 : (Jvm.Cond.methodLink "ColourOfficeModel" (143 : Nat) ({ cls := "ColourOfficeModel", name := "reports", desc := "(IIIII)I" } : Jvm.MethodName)) ∈ lw_all := lw_g (lw_at lw_m12 71 rfl) rfl
theorem q2822 : (Jvm.Cond.privateMethod ({ cls := "ColourOfficeModel", name := "reports", desc := "(IIIII)I" } : Jvm.MethodName)) ∈ lw_tbl := lw_at lw_m12 72 rfl
theorem q2823 : (Jvm.Cond.instanceMethod ({ cls := "ColourOfficeModel", name := "reports", desc := "(IIIII)I" } : Jvm.MethodName)) ∈ lw_all := lw_g (lw_at lw_m12 73 rfl) rfl
theorem q2824 : (Jvm.Cond.code ({ cls := "ColourOfficeModel", name := "reports", desc := "(IIIII)I" } : Jvm.MethodName) prog_22_method_28_code (6 : Nat) (Option.some Jvm.ClassFile.FieldType.int)) ∈ lw_all := lw_g (lw_at lw_m12 74 rfl) rfl
theorem q2825 : (Jvm.Cond.methodLink "ColourOfficeModel" (89 : Nat) ({ cls := "ColourOfficeModel", name := "reportRow", desc := "(I)I" } : Jvm.MethodName)) ∈ lw_all := lw_g (lw_at lw_m12 75 rfl) rfl
theorem q2826 : (Jvm.Cond.static ({ cls := "ColourOfficeModel", name := "reportRow", desc := "(I)I" } : Jvm.MethodName)) ∈ lw_all := lw_g (lw_at lw_m12 76 rfl) rfl
theorem q2827 : (Jvm.Cond.code ({ cls := "ColourOfficeModel", name := "reportRow", desc := "(I)I" } : Jvm.MethodName) prog_22_method_9_code (1 : Nat) (Option.some Jvm.ClassFile.FieldType.int)) ∈ lw_all := lw_g (lw_at lw_m12 77 rfl) rfl
theorem q2829 : (Jvm.Cond.instanceMethod ({ cls := "ColourOfficeModel", name := "withdraw", desc := "(I)I" } : Jvm.MethodName)) ∈ lw_all := lw_g (lw_at lw_m12 79 rfl) rfl
theorem q2830 : (Jvm.Cond.selects "ColourOfficeModel" ({ cls := "ColourOfficeModel", name := "withdraw", desc := "(I)I" } : Jvm.MethodName) ({ cls := "ColourOfficeModel", name := "withdraw", desc := "(I)I" } : Jvm.MethodName)) ∈ lw_all := lw_g (lw_at lw_m12 80 rfl) rfl
theorem q2831 : (Jvm.Cond.code ({ cls := "ColourOfficeModel", name := "withdraw", desc := "(I)I" } : Jvm.MethodName) prog_22_method_31_code (2 : Nat) (Option.some Jvm.ClassFile.FieldType.int)) ∈ lw_all := lw_g (lw_at lw_m12 81 rfl) rfl
theorem q2832 : (Jvm.Cond.methodLink "ColourOfficeModel" (146 : Nat) ({ cls := "ColourOfficeModel", name := "openReport", desc := "(I)I" } : Jvm.MethodName)) ∈ lw_all := lw_g (lw_at lw_m12 82 rfl) rfl
theorem q2833 : (Jvm.Cond.privateMethod ({ cls := "ColourOfficeModel", name := "openReport", desc := "(I)I" } : Jvm.MethodName)) ∈ lw_tbl := lw_at lw_m12 83 rfl
theorem q2834 : (Jvm.Cond.instanceMethod ({ cls := "ColourOfficeModel", name := "openReport", desc := "(I)I" } : Jvm.MethodName)) ∈ lw_all := lw_g (lw_at lw_m12 84 rfl) rfl
theorem q2835 : (Jvm.Cond.code ({ cls := "ColourOfficeModel", name := "openReport", desc := "(I)I" } : Jvm.MethodName) prog_22_method_13_code (3 : Nat) (Option.some Jvm.ClassFile.FieldType.int)) ∈ lw_all := lw_g (lw_at lw_m12 85 rfl) rfl
theorem q2836 : (Jvm.Cond.methodLink "ColourOfficeModel" (96 : Nat) ({ cls := "ColourOfficeModel", name := "r", desc := "(II)I" } : Jvm.MethodName)) ∈ lw_all := lw_g (lw_at lw_m12 86 rfl) rfl
theorem q2837 : (Jvm.Cond.privateMethod ({ cls := "ColourOfficeModel", name := "r", desc := "(II)I" } : Jvm.MethodName)) ∈ lw_tbl := lw_at lw_m12 87 rfl
theorem q2838 : (Jvm.Cond.instanceMethod ({ cls := "ColourOfficeModel", name := "r", desc := "(II)I" } : Jvm.MethodName)) ∈ lw_all := lw_g (lw_at lw_m12 88 rfl) rfl
theorem q2839 : (Jvm.Cond.code ({ cls := "ColourOfficeModel", name := "r", desc := "(II)I" } : Jvm.MethodName) prog_22_method_11_code (3 : Nat) (Option.some Jvm.ClassFile.FieldType.int)) ∈ lw_all := lw_g (lw_at lw_m12 89 rfl) rfl
theorem q2840 : (Jvm.Cond.methodLink "ColourOfficeModel" (153 : Nat) ({ cls := "ColourOfficeModel", name := "withdraws", desc := "(I)I" } : Jvm.MethodName)) ∈ lw_all := lw_g (lw_at lw_m12 90 rfl) rfl
theorem q2841 : (Jvm.Cond.privateMethod ({ cls := "ColourOfficeModel", name := "withdraws", desc := "(I)I" } : Jvm.MethodName)) ∈ lw_tbl := lw_at lw_m12 91 rfl
theorem q2842 : (Jvm.Cond.instanceMethod ({ cls := "ColourOfficeModel", name := "withdraws", desc := "(I)I" } : Jvm.MethodName)) ∈ lw_all := lw_g (lw_at lw_m12 92 rfl) rfl
theorem q2843 : (Jvm.Cond.code ({ cls := "ColourOfficeModel", name := "withdraws", desc := "(I)I" } : Jvm.MethodName) prog_22_method_30_code (2 : Nat) (Option.some Jvm.ClassFile.FieldType.int)) ∈ lw_all := lw_g (lw_at lw_m12 93 rfl) rfl
theorem q2844 : (Jvm.Cond.methodLink "ColourOfficeModel" (149 : Nat) ({ cls := "ColourOfficeModel", name := "removeReport", desc := "(I)V" } : Jvm.MethodName)) ∈ lw_all := lw_g (lw_at lw_m12 94 rfl) rfl
theorem q2845 : (Jvm.Cond.privateMethod ({ cls := "ColourOfficeModel", name := "removeReport", desc := "(I)V" } : Jvm.MethodName)) ∈ lw_tbl := lw_at lw_m12 95 rfl
theorem q2846 : (Jvm.Cond.instanceMethod ({ cls := "ColourOfficeModel", name := "removeReport", desc := "(I)V" } : Jvm.MethodName)) ∈ lw_all := lw_g (lw_at lw_m12 96 rfl) rfl
theorem q2847 : (Jvm.Cond.code ({ cls := "ColourOfficeModel", name := "removeReport", desc := "(I)V" } : Jvm.MethodName) prog_22_method_16_code (2 : Nat) (Option.none : Option Jvm.ClassFile.FieldType)) ∈ lw_all := lw_g (lw_at lw_m12 97 rfl) rfl
theorem q2848 : (Jvm.Cond.methodLink "ColourOfficeModel" (99 : Nat) ({ cls := "ColourOfficeModel", name := "close", desc := "(III)V" } : Jvm.MethodName)) ∈ lw_all := lw_g (lw_at lw_m12 98 rfl) rfl
theorem q2849 : (Jvm.Cond.privateMethod ({ cls := "ColourOfficeModel", name := "close", desc := "(III)V" } : Jvm.MethodName)) ∈ lw_tbl := lw_at lw_m12 99 rfl
theorem q2850 : (Jvm.Cond.instanceMethod ({ cls := "ColourOfficeModel", name := "close", desc := "(III)V" } : Jvm.MethodName)) ∈ lw_all := lw_g (lw_at lw_m12 100 rfl) rfl
theorem q2851 : (Jvm.Cond.code ({ cls := "ColourOfficeModel", name := "close", desc := "(III)V" } : Jvm.MethodName) prog_22_method_14_code (5 : Nat) (Option.none : Option Jvm.ClassFile.FieldType)) ∈ lw_all := lw_g (lw_at lw_m12 101 rfl) rfl
theorem q2853 : (Jvm.Cond.instanceMethod ({ cls := "ColourOfficeModel", name := "discard", desc := "(I)I" } : Jvm.MethodName)) ∈ lw_all := lw_g (lw_at lw_m12 103 rfl) rfl
theorem q2854 : (Jvm.Cond.selects "ColourOfficeModel" ({ cls := "ColourOfficeModel", name := "discard", desc := "(I)I" } : Jvm.MethodName) ({ cls := "ColourOfficeModel", name := "discard", desc := "(I)I" } : Jvm.MethodName)) ∈ lw_all := lw_g (lw_at lw_m12 104 rfl) rfl
theorem q2855 : (Jvm.Cond.code ({ cls := "ColourOfficeModel", name := "discard", desc := "(I)I" } : Jvm.MethodName) prog_22_method_33_code (2 : Nat) (Option.some Jvm.ClassFile.FieldType.int)) ∈ lw_all := lw_g (lw_at lw_m12 105 rfl) rfl
theorem q2856 : (Jvm.Cond.methodLink "ColourOfficeModel" (156 : Nat) ({ cls := "ColourOfficeModel", name := "colour", desc := "(I)I" } : Jvm.MethodName)) ∈ lw_all := lw_g (lw_at lw_m12 106 rfl) rfl
theorem q2857 : (Jvm.Cond.privateMethod ({ cls := "ColourOfficeModel", name := "colour", desc := "(I)I" } : Jvm.MethodName)) ∈ lw_tbl := lw_at lw_m12 107 rfl
theorem q2858 : (Jvm.Cond.instanceMethod ({ cls := "ColourOfficeModel", name := "colour", desc := "(I)I" } : Jvm.MethodName)) ∈ lw_all := lw_g (lw_at lw_m12 108 rfl) rfl
theorem q2859 : (Jvm.Cond.code ({ cls := "ColourOfficeModel", name := "colour", desc := "(I)I" } : Jvm.MethodName) prog_22_method_12_code (3 : Nat) (Option.some Jvm.ClassFile.FieldType.int)) ∈ lw_all := lw_g (lw_at lw_m12 109 rfl) rfl
theorem q2860 : (Jvm.Cond.methodLink "ColourOfficeModel" (92 : Nat) ({ cls := "ColourOfficeModel", name := "c", desc := "(II)I" } : Jvm.MethodName)) ∈ lw_all := lw_g (lw_at lw_m12 110 rfl) rfl
theorem q2861 : (Jvm.Cond.privateMethod ({ cls := "ColourOfficeModel", name := "c", desc := "(II)I" } : Jvm.MethodName)) ∈ lw_tbl := lw_at lw_m12 111 rfl
theorem q2862 : (Jvm.Cond.instanceMethod ({ cls := "ColourOfficeModel", name := "c", desc := "(II)I" } : Jvm.MethodName)) ∈ lw_all := lw_g (lw_at lw_m12 112 rfl) rfl
theorem q2863 : (Jvm.Cond.code ({ cls := "ColourOfficeModel", name := "c", desc := "(II)I" } : Jvm.MethodName) prog_22_method_10_code (3 : Nat) (Option.some Jvm.ClassFile.FieldType.int)) ∈ lw_all := lw_g (lw_at lw_m12 113 rfl) rfl
theorem q2864 : (Jvm.Cond.methodLink "ColourOfficeModel" (162 : Nat) ({ cls := "ColourOfficeModel", name := "discards", desc := "(I)I" } : Jvm.MethodName)) ∈ lw_all := lw_g (lw_at lw_m12 114 rfl) rfl
theorem q2865 : (Jvm.Cond.privateMethod ({ cls := "ColourOfficeModel", name := "discards", desc := "(I)I" } : Jvm.MethodName)) ∈ lw_tbl := lw_at lw_m12 115 rfl
theorem q2866 : (Jvm.Cond.instanceMethod ({ cls := "ColourOfficeModel", name := "discards", desc := "(I)I" } : Jvm.MethodName)) ∈ lw_all := lw_g (lw_at lw_m12 116 rfl) rfl
theorem q2867 : (Jvm.Cond.code ({ cls := "ColourOfficeModel", name := "discards", desc := "(I)I" } : Jvm.MethodName) prog_22_method_32_code (2 : Nat) (Option.some Jvm.ClassFile.FieldType.int)) ∈ lw_all := lw_g (lw_at lw_m12 117 rfl) rfl
theorem q2868 : (Jvm.Cond.methodLink "ColourOfficeModel" (159 : Nat) ({ cls := "ColourOfficeModel", name := "removeColour", desc := "(I)V" } : Jvm.MethodName)) ∈ lw_all := lw_g (lw_at lw_m12 118 rfl) rfl
theorem q2869 : (Jvm.Cond.privateMethod ({ cls := "ColourOfficeModel", name := "removeColour", desc := "(I)V" } : Jvm.MethodName)) ∈ lw_tbl := lw_at lw_m12 119 rfl
theorem q2870 : (Jvm.Cond.instanceMethod ({ cls := "ColourOfficeModel", name := "removeColour", desc := "(I)V" } : Jvm.MethodName)) ∈ lw_all := lw_g (lw_at lw_m12 120 rfl) rfl
theorem q2871 : (Jvm.Cond.code ({ cls := "ColourOfficeModel", name := "removeColour", desc := "(I)V" } : Jvm.MethodName) prog_22_method_15_code (2 : Nat) (Option.none : Option Jvm.ClassFile.FieldType)) ∈ lw_all := lw_g (lw_at lw_m12 121 rfl) rfl
theorem q2873 : (Jvm.Cond.instanceMethod ({ cls := "ColourOfficeModel", name := "setMetric", desc := "(C)C" } : Jvm.MethodName)) ∈ lw_all := lw_g (lw_at lw_m12 123 rfl) rfl
theorem q2874 : (Jvm.Cond.selects "ColourOfficeModel" ({ cls := "ColourOfficeModel", name := "setMetric", desc := "(C)C" } : Jvm.MethodName) ({ cls := "ColourOfficeModel", name := "setMetric", desc := "(C)C" } : Jvm.MethodName)) ∈ lw_all := lw_g (lw_at lw_m12 124 rfl) rfl
theorem q2875 : (Jvm.Cond.code ({ cls := "ColourOfficeModel", name := "setMetric", desc := "(C)C" } : Jvm.MethodName) prog_22_method_36_code (2 : Nat) (Option.some Jvm.ClassFile.FieldType.char)) ∈ lw_all := lw_g (lw_at lw_m12 125 rfl) rfl
theorem q2876 : (Jvm.Cond.methodLink "ColourOfficeModel" (165 : Nat) ({ cls := "ColourOfficeModel", name := "isMetric", desc := "(I)Z" } : Jvm.MethodName)) ∈ lw_all := lw_g (lw_at lw_m12 126 rfl) rfl
theorem q2877 : (Jvm.Cond.static ({ cls := "ColourOfficeModel", name := "isMetric", desc := "(I)Z" } : Jvm.MethodName)) ∈ lw_all := lw_g (lw_at lw_m12 127 rfl) rfl
theorem q2878 : (Jvm.Cond.code ({ cls := "ColourOfficeModel", name := "isMetric", desc := "(I)Z" } : Jvm.MethodName) prog_22_method_34_code (1 : Nat) (Option.some Jvm.ClassFile.FieldType.boolean)) ∈ lw_all := lw_g (lw_at lw_m12 128 rfl) rfl
theorem q2879 : (Jvm.Cond.methodLink "ColourOfficeModel" (169 : Nat) ({ cls := "ColourOfficeModel", name := "measures", desc := "(I)I" } : Jvm.MethodName)) ∈ lw_all := lw_g (lw_at lw_m12 129 rfl) rfl
theorem q2880 : (Jvm.Cond.privateMethod ({ cls := "ColourOfficeModel", name := "measures", desc := "(I)I" } : Jvm.MethodName)) ∈ lw_tbl := lw_at lw_m12 130 rfl
theorem q2881 : (Jvm.Cond.instanceMethod ({ cls := "ColourOfficeModel", name := "measures", desc := "(I)I" } : Jvm.MethodName)) ∈ lw_all := lw_g (lw_at lw_m12 131 rfl) rfl
theorem q2882 : (Jvm.Cond.code ({ cls := "ColourOfficeModel", name := "measures", desc := "(I)I" } : Jvm.MethodName) prog_22_method_35_code (3 : Nat) (Option.some Jvm.ClassFile.FieldType.int)) ∈ lw_all := lw_g (lw_at lw_m12 132 rfl) rfl
theorem q2884 : (Jvm.Cond.instanceMethod ({ cls := "ColourOfficeModel", name := "giveBack", desc := "(II)I" } : Jvm.MethodName)) ∈ lw_all := lw_g (lw_at lw_m12 134 rfl) rfl
theorem q2885 : (Jvm.Cond.selects "ColourOfficeModel" ({ cls := "ColourOfficeModel", name := "giveBack", desc := "(II)I" } : Jvm.MethodName) ({ cls := "ColourOfficeModel", name := "giveBack", desc := "(II)I" } : Jvm.MethodName)) ∈ lw_all := lw_g (lw_at lw_m12 135 rfl) rfl
theorem q2886 : (Jvm.Cond.code ({ cls := "ColourOfficeModel", name := "giveBack", desc := "(II)I" } : Jvm.MethodName) prog_22_method_39_code (4 : Nat) (Option.some Jvm.ClassFile.FieldType.int)) ∈ lw_all := lw_g (lw_at lw_m12 136 rfl) rfl
theorem q2887 : (Jvm.Cond.methodLink "ColourOfficeModel" (179 : Nat) ({ cls := "ColourOfficeModel", name := "cannotGive", desc := "(II)I" } : Jvm.MethodName)) ∈ lw_all := lw_g (lw_at lw_m12 137 rfl) rfl
theorem q2888 : (Jvm.Cond.privateMethod ({ cls := "ColourOfficeModel", name := "cannotGive", desc := "(II)I" } : Jvm.MethodName)) ∈ lw_tbl := lw_at lw_m12 138 rfl
theorem q2889 : (Jvm.Cond.instanceMethod ({ cls := "ColourOfficeModel", name := "cannotGive", desc := "(II)I" } : Jvm.MethodName)) ∈ lw_all := lw_g (lw_at lw_m12 139 rfl) rfl
theorem q2890 : (Jvm.Cond.code ({ cls := "ColourOfficeModel", name := "cannotGive", desc := "(II)I" } : Jvm.MethodName) prog_22_method_37_code (4 : Nat) (Option.some Jvm.ClassFile.FieldType.int)) ∈ lw_all := lw_g (lw_at lw_m12 140 rfl) rfl
theorem q2891 : (Jvm.Cond.methodLink "ColourOfficeModel" (172 : Nat) ({ cls := "ColourOfficeModel", name := "nearestTo", desc := "(I)I" } : Jvm.MethodName)) ∈ lw_all := lw_g (lw_at lw_m12 141 rfl) rfl
theorem q2892 : (Jvm.Cond.privateMethod ({ cls := "ColourOfficeModel", name := "nearestTo", desc := "(I)I" } : Jvm.MethodName)) ∈ lw_tbl := lw_at lw_m12 142 rfl
theorem q2893 : (Jvm.Cond.instanceMethod ({ cls := "ColourOfficeModel", name := "nearestTo", desc := "(I)I" } : Jvm.MethodName)) ∈ lw_all := lw_g (lw_at lw_m12 143 rfl) rfl
theorem q2894 : (Jvm.Cond.code ({ cls := "ColourOfficeModel", name := "nearestTo", desc := "(I)I" } : Jvm.MethodName) prog_22_method_21_code (4 : Nat) (Option.some Jvm.ClassFile.FieldType.int)) ∈ lw_all := lw_g (lw_at lw_m12 144 rfl) rfl
theorem q2895 : (Jvm.Cond.methodLink "ColourOfficeModel" (106 : Nat) ({ cls := "ColourOfficeModel", name := "apart", desc := "(II)I" } : Jvm.MethodName)) ∈ lw_all := lw_g (lw_at lw_m12 145 rfl) rfl
theorem q2896 : (Jvm.Cond.privateMethod ({ cls := "ColourOfficeModel", name := "apart", desc := "(II)I" } : Jvm.MethodName)) ∈ lw_tbl := lw_at lw_m12 146 rfl
theorem q2897 : (Jvm.Cond.instanceMethod ({ cls := "ColourOfficeModel", name := "apart", desc := "(II)I" } : Jvm.MethodName)) ∈ lw_all := lw_g (lw_at lw_m12 147 rfl) rfl
theorem q2898 : (Jvm.Cond.code ({ cls := "ColourOfficeModel", name := "apart", desc := "(II)I" } : Jvm.MethodName) prog_22_method_18_code (7 : Nat) (Option.some Jvm.ClassFile.FieldType.int)) ∈ lw_all := lw_g (lw_at lw_m12 148 rfl) rfl
theorem q2899 : (Jvm.Cond.methodLink "ColourOfficeModel" (103 : Nat) ({ cls := "ColourOfficeModel", name := "size", desc := "(I)I" } : Jvm.MethodName)) ∈ lw_all := lw_g (lw_at lw_m12 149 rfl) rfl
theorem q2900 : (Jvm.Cond.static ({ cls := "ColourOfficeModel", name := "size", desc := "(I)I" } : Jvm.MethodName)) ∈ lw_all := lw_g (lw_at lw_m12 150 rfl) rfl
theorem q2901 : (Jvm.Cond.code ({ cls := "ColourOfficeModel", name := "size", desc := "(I)I" } : Jvm.MethodName) prog_22_method_17_code (1 : Nat) (Option.some Jvm.ClassFile.FieldType.int)) ∈ lw_all := lw_g (lw_at lw_m12 151 rfl) rfl
theorem q2902 : (Jvm.Cond.methodLink "ColourOfficeModel" (175 : Nat) ({ cls := "ColourOfficeModel", name := "isFit", desc := "(II)Z" } : Jvm.MethodName)) ∈ lw_all := lw_g (lw_at lw_m12 152 rfl) rfl
theorem q2903 : (Jvm.Cond.privateMethod ({ cls := "ColourOfficeModel", name := "isFit", desc := "(II)Z" } : Jvm.MethodName)) ∈ lw_tbl := lw_at lw_m12 153 rfl
theorem q2904 : (Jvm.Cond.instanceMethod ({ cls := "ColourOfficeModel", name := "isFit", desc := "(II)Z" } : Jvm.MethodName)) ∈ lw_all := lw_g (lw_at lw_m12 154 rfl) rfl
theorem q2905 : (Jvm.Cond.code ({ cls := "ColourOfficeModel", name := "isFit", desc := "(II)Z" } : Jvm.MethodName) prog_22_method_20_code (3 : Nat) (Option.some Jvm.ClassFile.FieldType.boolean)) ∈ lw_all := lw_g (lw_at lw_m12 155 rfl) rfl
theorem q2906 : (Jvm.Cond.methodLink "ColourOfficeModel" (109 : Nat) ({ cls := "ColourOfficeModel", name := "apartFor", desc := "(II)I" } : Jvm.MethodName)) ∈ lw_all := lw_g (lw_at lw_m12 156 rfl) rfl
theorem q2907 : (Jvm.Cond.privateMethod ({ cls := "ColourOfficeModel", name := "apartFor", desc := "(II)I" } : Jvm.MethodName)) ∈ lw_tbl := lw_at lw_m12 157 rfl
theorem q2908 : (Jvm.Cond.instanceMethod ({ cls := "ColourOfficeModel", name := "apartFor", desc := "(II)I" } : Jvm.MethodName)) ∈ lw_all := lw_g (lw_at lw_m12 158 rfl) rfl
theorem q2909 : (Jvm.Cond.code ({ cls := "ColourOfficeModel", name := "apartFor", desc := "(II)I" } : Jvm.MethodName) prog_22_method_19_code (3 : Nat) (Option.some Jvm.ClassFile.FieldType.int)) ∈ lw_all := lw_g (lw_at lw_m12 159 rfl) rfl
theorem q2910 : (Jvm.Cond.methodLink "ColourOfficeModel" (182 : Nat) ({ cls := "ColourOfficeModel", name := "gives", desc := "(II)I" } : Jvm.MethodName)) ∈ lw_all := lw_g (lw_at lw_m12 160 rfl) rfl
theorem q2911 : (Jvm.Cond.privateMethod ({ cls := "ColourOfficeModel", name := "gives", desc := "(II)I" } : Jvm.MethodName)) ∈ lw_tbl := lw_at lw_m12 161 rfl
theorem q2912 : (Jvm.Cond.instanceMethod ({ cls := "ColourOfficeModel", name := "gives", desc := "(II)I" } : Jvm.MethodName)) ∈ lw_all := lw_g (lw_at lw_m12 162 rfl) rfl
theorem q2913 : (Jvm.Cond.code ({ cls := "ColourOfficeModel", name := "gives", desc := "(II)I" } : Jvm.MethodName) prog_22_method_38_code (5 : Nat) (Option.some Jvm.ClassFile.FieldType.int)) ∈ lw_all := lw_g (lw_at lw_m12 163 rfl) rfl
theorem q2915 : (Jvm.Cond.instanceMethod ({ cls := "ColourOfficeModel", name := "settle", desc := "()I" } : Jvm.MethodName)) ∈ lw_all := lw_g (lw_at lw_m12 165 rfl) rfl
theorem q2916 : (Jvm.Cond.selects "ColourOfficeModel" ({ cls := "ColourOfficeModel", name := "settle", desc := "()I" } : Jvm.MethodName) ({ cls := "ColourOfficeModel", name := "settle", desc := "()I" } : Jvm.MethodName)) ∈ lw_all := lw_g (lw_at lw_m12 166 rfl) rfl
theorem q2917 : (Jvm.Cond.code ({ cls := "ColourOfficeModel", name := "settle", desc := "()I" } : Jvm.MethodName) prog_22_method_40_code (1 : Nat) (Option.some Jvm.ClassFile.FieldType.int)) ∈ lw_all := lw_g (lw_at lw_m12 167 rfl) rfl
theorem q2918 : (Jvm.Cond.methodLink "ColourOfficeModel" (185 : Nat) ({ cls := "ColourOfficeModel", name := "settleAll", desc := "()I" } : Jvm.MethodName)) ∈ lw_all := lw_g (lw_at lw_m12 168 rfl) rfl
theorem q2919 : (Jvm.Cond.privateMethod ({ cls := "ColourOfficeModel", name := "settleAll", desc := "()I" } : Jvm.MethodName)) ∈ lw_tbl := lw_at lw_m12 169 rfl
theorem q2920 : (Jvm.Cond.instanceMethod ({ cls := "ColourOfficeModel", name := "settleAll", desc := "()I" } : Jvm.MethodName)) ∈ lw_all := lw_g (lw_at lw_m12 170 rfl) rfl
theorem q2921 : (Jvm.Cond.code ({ cls := "ColourOfficeModel", name := "settleAll", desc := "()I" } : Jvm.MethodName) prog_22_method_41_code (4 : Nat) (Option.some Jvm.ClassFile.FieldType.int)) ∈ lw_all := lw_g (lw_at lw_m12 171 rfl) rfl
theorem q2922 : (Jvm.Cond.methodLink "ColourOfficeModel" (189 : Nat) ({ cls := "ColourOfficeModel", name := "settling", desc := "()I" } : Jvm.MethodName)) ∈ lw_all := lw_g (lw_at lw_m12 172 rfl) rfl
theorem q2923 : (Jvm.Cond.privateMethod ({ cls := "ColourOfficeModel", name := "settling", desc := "()I" } : Jvm.MethodName)) ∈ lw_tbl := lw_at lw_m12 173 rfl
theorem q2924 : (Jvm.Cond.instanceMethod ({ cls := "ColourOfficeModel", name := "settling", desc := "()I" } : Jvm.MethodName)) ∈ lw_all := lw_g (lw_at lw_m12 174 rfl) rfl
theorem q2925 : (Jvm.Cond.code ({ cls := "ColourOfficeModel", name := "settling", desc := "()I" } : Jvm.MethodName) prog_22_method_82_code (6 : Nat) (Option.some Jvm.ClassFile.FieldType.int)) ∈ lw_all := lw_g (lw_at lw_m12 175 rfl) rfl
theorem q2926 : (Jvm.Cond.methodLink "ColourOfficeModel" (247 : Nat) ({ cls := "ColourOfficeModel", name := "gain", desc := "(II)I" } : Jvm.MethodName)) ∈ lw_all := lw_g (lw_at lw_m12 176 rfl) rfl
theorem q2927 : (Jvm.Cond.privateMethod ({ cls := "ColourOfficeModel", name := "gain", desc := "(II)I" } : Jvm.MethodName)) ∈ lw_tbl := lw_at lw_m12 177 rfl
theorem q2928 : (Jvm.Cond.instanceMethod ({ cls := "ColourOfficeModel", name := "gain", desc := "(II)I" } : Jvm.MethodName)) ∈ lw_all := lw_g (lw_at lw_m12 178 rfl) rfl
theorem q2929 : (Jvm.Cond.code ({ cls := "ColourOfficeModel", name := "gain", desc := "(II)I" } : Jvm.MethodName) prog_22_method_81_code (3 : Nat) (Option.some Jvm.ClassFile.FieldType.int)) ∈ lw_all := lw_g (lw_at lw_m12 179 rfl) rfl
theorem q2930 : (Jvm.Cond.constant "ColourOfficeModel" (246 : Nat) (200000 : Int32)) ∈ lw_all := lw_g (lw_at lw_m12 180 rfl) rfl
theorem q2931 : (Jvm.Cond.methodLink "ColourOfficeModel" (192 : Nat) ({ cls := "ColourOfficeModel", name := "settled", desc := "(I)I" } : Jvm.MethodName)) ∈ lw_all := lw_g (lw_at lw_m12 181 rfl) rfl
theorem q2932 : (Jvm.Cond.privateMethod ({ cls := "ColourOfficeModel", name := "settled", desc := "(I)I" } : Jvm.MethodName)) ∈ lw_tbl := lw_at lw_m12 182 rfl
theorem q2933 : (Jvm.Cond.instanceMethod ({ cls := "ColourOfficeModel", name := "settled", desc := "(I)I" } : Jvm.MethodName)) ∈ lw_all := lw_g (lw_at lw_m12 183 rfl) rfl
theorem q2934 : (Jvm.Cond.code ({ cls := "ColourOfficeModel", name := "settled", desc := "(I)I" } : Jvm.MethodName) prog_22_method_84_code (4 : Nat) (Option.some Jvm.ClassFile.FieldType.int)) ∈ lw_all := lw_g (lw_at lw_m12 184 rfl) rfl
theorem q2935 : (Jvm.Cond.methodLink "ColourOfficeModel" (250 : Nat) ({ cls := "ColourOfficeModel", name := "choice", desc := "(II)I" } : Jvm.MethodName)) ∈ lw_all := lw_g (lw_at lw_m12 185 rfl) rfl
theorem q2936 : (Jvm.Cond.privateMethod ({ cls := "ColourOfficeModel", name := "choice", desc := "(II)I" } : Jvm.MethodName)) ∈ lw_tbl := lw_at lw_m12 186 rfl
theorem q2937 : (Jvm.Cond.instanceMethod ({ cls := "ColourOfficeModel", name := "choice", desc := "(II)I" } : Jvm.MethodName)) ∈ lw_all := lw_g (lw_at lw_m12 187 rfl) rfl
theorem q2938 : (Jvm.Cond.code ({ cls := "ColourOfficeModel", name := "choice", desc := "(II)I" } : Jvm.MethodName) prog_22_method_83_code (4 : Nat) (Option.some Jvm.ClassFile.FieldType.int)) ∈ lw_all := lw_g (lw_at lw_m12 188 rfl) rfl
theorem q2940 : (Jvm.Cond.instanceMethod ({ cls := "ColourOfficeModel", name := "mix", desc := "(II)I" } : Jvm.MethodName)) ∈ lw_all := lw_g (lw_at lw_m12 190 rfl) rfl
theorem q2941 : (Jvm.Cond.selects "ColourOfficeModel" ({ cls := "ColourOfficeModel", name := "mix", desc := "(II)I" } : Jvm.MethodName) ({ cls := "ColourOfficeModel", name := "mix", desc := "(II)I" } : Jvm.MethodName)) ∈ lw_all := lw_g (lw_at lw_m12 191 rfl) rfl
theorem q2942 : (Jvm.Cond.code ({ cls := "ColourOfficeModel", name := "mix", desc := "(II)I" } : Jvm.MethodName) prog_22_method_44_code (4 : Nat) (Option.some Jvm.ClassFile.FieldType.int)) ∈ lw_all := lw_g (lw_at lw_m12 192 rfl) rfl
theorem q2943 : (Jvm.Cond.methodLink "ColourOfficeModel" (195 : Nat) ({ cls := "ColourOfficeModel", name := "cannotMix", desc := "(II)I" } : Jvm.MethodName)) ∈ lw_all := lw_g (lw_at lw_m12 193 rfl) rfl
theorem q2944 : (Jvm.Cond.privateMethod ({ cls := "ColourOfficeModel", name := "cannotMix", desc := "(II)I" } : Jvm.MethodName)) ∈ lw_tbl := lw_at lw_m12 194 rfl
theorem q2945 : (Jvm.Cond.instanceMethod ({ cls := "ColourOfficeModel", name := "cannotMix", desc := "(II)I" } : Jvm.MethodName)) ∈ lw_all := lw_g (lw_at lw_m12 195 rfl) rfl
theorem q2946 : (Jvm.Cond.code ({ cls := "ColourOfficeModel", name := "cannotMix", desc := "(II)I" } : Jvm.MethodName) prog_22_method_42_code (3 : Nat) (Option.some Jvm.ClassFile.FieldType.int)) ∈ lw_all := lw_g (lw_at lw_m12 196 rfl) rfl
theorem q2947 : (Jvm.Cond.methodLink "ColourOfficeModel" (198 : Nat) ({ cls := "ColourOfficeModel", name := "mixes", desc := "(II)I" } : Jvm.MethodName)) ∈ lw_all := lw_g (lw_at lw_m12 197 rfl) rfl
theorem q2948 : (Jvm.Cond.privateMethod ({ cls := "ColourOfficeModel", name := "mixes", desc := "(II)I" } : Jvm.MethodName)) ∈ lw_tbl := lw_at lw_m12 198 rfl
theorem q2949 : (Jvm.Cond.instanceMethod ({ cls := "ColourOfficeModel", name := "mixes", desc := "(II)I" } : Jvm.MethodName)) ∈ lw_all := lw_g (lw_at lw_m12 199 rfl) rfl
theorem q2950 : (Jvm.Cond.code ({ cls := "ColourOfficeModel", name := "mixes", desc := "(II)I" } : Jvm.MethodName) prog_22_method_43_code (9 : Nat) (Option.some Jvm.ClassFile.FieldType.int)) ∈ lw_all := lw_g (lw_at lw_m12 200 rfl) rfl
theorem q2952 : (Jvm.Cond.instanceMethod ({ cls := "ColourOfficeModel", name := "passDays", desc := "(I)I" } : Jvm.MethodName)) ∈ lw_all := lw_g (lw_at lw_m12 202 rfl) rfl
theorem q2953 : (Jvm.Cond.selects "ColourOfficeModel" ({ cls := "ColourOfficeModel", name := "passDays", desc := "(I)I" } : Jvm.MethodName) ({ cls := "ColourOfficeModel", name := "passDays", desc := "(I)I" } : Jvm.MethodName)) ∈ lw_all := lw_g (lw_at lw_m12 203 rfl) rfl
theorem q2954 : (Jvm.Cond.code ({ cls := "ColourOfficeModel", name := "passDays", desc := "(I)I" } : Jvm.MethodName) prog_22_method_50_code (2 : Nat) (Option.some Jvm.ClassFile.FieldType.int)) ∈ lw_all := lw_g (lw_at lw_m12 204 rfl) rfl
theorem q2955 : (Jvm.Cond.methodLink "ColourOfficeModel" (213 : Nat) ({ cls := "ColourOfficeModel", name := "passes", desc := "(I)I" } : Jvm.MethodName)) ∈ lw_all := lw_g (lw_at lw_m12 205 rfl) rfl
theorem q2956 : (Jvm.Cond.privateMethod ({ cls := "ColourOfficeModel", name := "passes", desc := "(I)I" } : Jvm.MethodName)) ∈ lw_tbl := lw_at lw_m12 206 rfl
theorem q2957 : (Jvm.Cond.instanceMethod ({ cls := "ColourOfficeModel", name := "passes", desc := "(I)I" } : Jvm.MethodName)) ∈ lw_all := lw_g (lw_at lw_m12 207 rfl) rfl
theorem q2958 : (Jvm.Cond.code ({ cls := "ColourOfficeModel", name := "passes", desc := "(I)I" } : Jvm.MethodName) prog_22_method_47_code (5 : Nat) (Option.some Jvm.ClassFile.FieldType.int)) ∈ lw_all := lw_g (lw_at lw_m12 208 rfl) rfl
theorem q2959 : (Jvm.Cond.methodLink "ColourOfficeModel" (201 : Nat) ({ cls := "ColourOfficeModel", name := "ageAt", desc := "(I)I" } : Jvm.MethodName)) ∈ lw_all := lw_g (lw_at lw_m12 209 rfl) rfl
theorem q2960 : (Jvm.Cond.privateMethod ({ cls := "ColourOfficeModel", name := "ageAt", desc := "(I)I" } : Jvm.MethodName)) ∈ lw_tbl := lw_at lw_m12 210 rfl
theorem q2961 : (Jvm.Cond.instanceMethod ({ cls := "ColourOfficeModel", name := "ageAt", desc := "(I)I" } : Jvm.MethodName)) ∈ lw_all := lw_g (lw_at lw_m12 211 rfl) rfl
theorem q2962 : (Jvm.Cond.code ({ cls := "ColourOfficeModel", name := "ageAt", desc := "(I)I" } : Jvm.MethodName) prog_22_method_46_code (2 : Nat) (Option.some Jvm.ClassFile.FieldType.int)) ∈ lw_all := lw_g (lw_at lw_m12 212 rfl) rfl
theorem q2963 : (Jvm.Cond.methodLink "ColourOfficeModel" (204 : Nat) ({ cls := "ColourOfficeModel", name := "faded", desc := "(I)I" } : Jvm.MethodName)) ∈ lw_all := lw_g (lw_at lw_m12 213 rfl) rfl
theorem q2964 : (Jvm.Cond.static ({ cls := "ColourOfficeModel", name := "faded", desc := "(I)I" } : Jvm.MethodName)) ∈ lw_all := lw_g (lw_at lw_m12 214 rfl) rfl
theorem q2965 : (Jvm.Cond.code ({ cls := "ColourOfficeModel", name := "faded", desc := "(I)I" } : Jvm.MethodName) prog_22_method_45_code (1 : Nat) (Option.some Jvm.ClassFile.FieldType.int)) ∈ lw_all := lw_g (lw_at lw_m12 215 rfl) rfl
theorem q2966 : (Jvm.Cond.methodLink "ColourOfficeModel" (207 : Nat) ({ cls := "ColourOfficeModel", name := "greys", desc := "()I" } : Jvm.MethodName)) ∈ lw_all := lw_g (lw_at lw_m12 216 rfl) rfl
theorem q2967 : (Jvm.Cond.privateMethod ({ cls := "ColourOfficeModel", name := "greys", desc := "()I" } : Jvm.MethodName)) ∈ lw_tbl := lw_at lw_m12 217 rfl
theorem q2968 : (Jvm.Cond.instanceMethod ({ cls := "ColourOfficeModel", name := "greys", desc := "()I" } : Jvm.MethodName)) ∈ lw_all := lw_g (lw_at lw_m12 218 rfl) rfl
theorem q2969 : (Jvm.Cond.code ({ cls := "ColourOfficeModel", name := "greys", desc := "()I" } : Jvm.MethodName) prog_22_method_49_code (3 : Nat) (Option.some Jvm.ClassFile.FieldType.int)) ∈ lw_all := lw_g (lw_at lw_m12 219 rfl) rfl
theorem q2970 : (Jvm.Cond.methodLink "ColourOfficeModel" (210 : Nat) ({ cls := "ColourOfficeModel", name := "fadesLeft", desc := "(I)I" } : Jvm.MethodName)) ∈ lw_all := lw_g (lw_at lw_m12 220 rfl) rfl
theorem q2971 : (Jvm.Cond.privateMethod ({ cls := "ColourOfficeModel", name := "fadesLeft", desc := "(I)I" } : Jvm.MethodName)) ∈ lw_tbl := lw_at lw_m12 221 rfl
theorem q2972 : (Jvm.Cond.instanceMethod ({ cls := "ColourOfficeModel", name := "fadesLeft", desc := "(I)I" } : Jvm.MethodName)) ∈ lw_all := lw_g (lw_at lw_m12 222 rfl) rfl
theorem q2973 : (Jvm.Cond.code ({ cls := "ColourOfficeModel", name := "fadesLeft", desc := "(I)I" } : Jvm.MethodName) prog_22_method_48_code (4 : Nat) (Option.some Jvm.ClassFile.FieldType.int)) ∈ lw_all := lw_g (lw_at lw_m12 223 rfl) rfl
theorem q2975 : (Jvm.Cond.instanceMethod ({ cls := "ColourOfficeModel", name := "colourCount", desc := "()I" } : Jvm.MethodName)) ∈ lw_all := lw_g (lw_at lw_m12 225 rfl) rfl
theorem q2976 : (Jvm.Cond.selects "ColourOfficeModel" ({ cls := "ColourOfficeModel", name := "colourCount", desc := "()I" } : Jvm.MethodName) ({ cls := "ColourOfficeModel", name := "colourCount", desc := "()I" } : Jvm.MethodName)) ∈ lw_all := lw_g (lw_at lw_m12 226 rfl) rfl
theorem q2977 : (Jvm.Cond.code ({ cls := "ColourOfficeModel", name := "colourCount", desc := "()I" } : Jvm.MethodName) prog_22_method_53_code (1 : Nat) (Option.some Jvm.ClassFile.FieldType.int)) ∈ lw_all := lw_g (lw_at lw_m12 227 rfl) rfl
theorem q2978 : (Jvm.Cond.methodLink "ColourOfficeModel" (216 : Nat) ({ cls := "ColourOfficeModel", name := "plain", desc := "(I)I" } : Jvm.MethodName)) ∈ lw_all := lw_g (lw_at lw_m12 228 rfl) rfl
theorem q2979 : (Jvm.Cond.privateMethod ({ cls := "ColourOfficeModel", name := "plain", desc := "(I)I" } : Jvm.MethodName)) ∈ lw_tbl := lw_at lw_m12 229 rfl
theorem q2980 : (Jvm.Cond.instanceMethod ({ cls := "ColourOfficeModel", name := "plain", desc := "(I)I" } : Jvm.MethodName)) ∈ lw_all := lw_g (lw_at lw_m12 230 rfl) rfl
theorem q2981 : (Jvm.Cond.code ({ cls := "ColourOfficeModel", name := "plain", desc := "(I)I" } : Jvm.MethodName) prog_22_method_51_code (2 : Nat) (Option.some Jvm.ClassFile.FieldType.int)) ∈ lw_all := lw_g (lw_at lw_m12 231 rfl) rfl
theorem q2983 : (Jvm.Cond.instanceMethod ({ cls := "ColourOfficeModel", name := "colourAt", desc := "(I)I" } : Jvm.MethodName)) ∈ lw_all := lw_g (lw_at lw_m12 233 rfl) rfl
theorem q2984 : (Jvm.Cond.selects "ColourOfficeModel" ({ cls := "ColourOfficeModel", name := "colourAt", desc := "(I)I" } : Jvm.MethodName) ({ cls := "ColourOfficeModel", name := "colourAt", desc := "(I)I" } : Jvm.MethodName)) ∈ lw_all := lw_g (lw_at lw_m12 234 rfl) rfl
theorem q2985 : (Jvm.Cond.code ({ cls := "ColourOfficeModel", name := "colourAt", desc := "(I)I" } : Jvm.MethodName) prog_22_method_54_code (2 : Nat) (Option.some Jvm.ClassFile.FieldType.int)) ∈ lw_all := lw_g (lw_at lw_m12 235 rfl) rfl
theorem q2986 : (Jvm.Cond.methodLink "ColourOfficeModel" (219 : Nat) ({ cls := "ColourOfficeModel", name := "checked", desc := "(Z)I" } : Jvm.MethodName)) ∈ lw_all := lw_g (lw_at lw_m12 236 rfl) rfl
theorem q2987 : (Jvm.Cond.privateMethod ({ cls := "ColourOfficeModel", name := "checked", desc := "(Z)I" } : Jvm.MethodName)) ∈ lw_tbl := lw_at lw_m12 237 rfl
theorem q2988 : (Jvm.Cond.instanceMethod ({ cls := "ColourOfficeModel", name := "checked", desc := "(Z)I" } : Jvm.MethodName)) ∈ lw_all := lw_g (lw_at lw_m12 238 rfl) rfl
theorem q2989 : (Jvm.Cond.code ({ cls := "ColourOfficeModel", name := "checked", desc := "(Z)I" } : Jvm.MethodName) prog_22_method_52_code (2 : Nat) (Option.some Jvm.ClassFile.FieldType.int)) ∈ lw_all := lw_g (lw_at lw_m12 239 rfl) rfl
theorem q2991 : (Jvm.Cond.instanceMethod ({ cls := "ColourOfficeModel", name := "red", desc := "(I)I" } : Jvm.MethodName)) ∈ lw_all := lw_g (lw_at lw_m13 1 rfl) rfl
theorem q2992 : (Jvm.Cond.selects "ColourOfficeModel" ({ cls := "ColourOfficeModel", name := "red", desc := "(I)I" } : Jvm.MethodName) ({ cls := "ColourOfficeModel", name := "red", desc := "(I)I" } : Jvm.MethodName)) ∈ lw_all := lw_g (lw_at lw_m13 2 rfl) rfl
theorem q2993 : (Jvm.Cond.code ({ cls := "ColourOfficeModel", name := "red", desc := "(I)I" } : Jvm.MethodName) prog_22_method_56_code (2 : Nat) (Option.some Jvm.ClassFile.FieldType.int)) ∈ lw_all := lw_g (lw_at lw_m13 3 rfl) rfl
theorem q2994 : (Jvm.Cond.methodLink "ColourOfficeModel" (223 : Nat) ({ cls := "ColourOfficeModel", name := "ofColour", desc := "(II)I" } : Jvm.MethodName)) ∈ lw_all := lw_g (lw_at lw_m13 4 rfl) rfl
theorem q2995 : (Jvm.Cond.privateMethod ({ cls := "ColourOfficeModel", name := "ofColour", desc := "(II)I" } : Jvm.MethodName)) ∈ lw_tbl := lw_at lw_m13 5 rfl
theorem q2996 : (Jvm.Cond.instanceMethod ({ cls := "ColourOfficeModel", name := "ofColour", desc := "(II)I" } : Jvm.MethodName)) ∈ lw_all := lw_g (lw_at lw_m13 6 rfl) rfl
theorem q2997 : (Jvm.Cond.code ({ cls := "ColourOfficeModel", name := "ofColour", desc := "(II)I" } : Jvm.MethodName) prog_22_method_55_code (3 : Nat) (Option.some Jvm.ClassFile.FieldType.int)) ∈ lw_all := lw_g (lw_at lw_m13 7 rfl) rfl
theorem q2999 : (Jvm.Cond.instanceMethod ({ cls := "ColourOfficeModel", name := "green", desc := "(I)I" } : Jvm.MethodName)) ∈ lw_all := lw_g (lw_at lw_m13 9 rfl) rfl
theorem q3000 : (Jvm.Cond.selects "ColourOfficeModel" ({ cls := "ColourOfficeModel", name := "green", desc := "(I)I" } : Jvm.MethodName) ({ cls := "ColourOfficeModel", name := "green", desc := "(I)I" } : Jvm.MethodName)) ∈ lw_all := lw_g (lw_at lw_m13 10 rfl) rfl
theorem q3001 : (Jvm.Cond.code ({ cls := "ColourOfficeModel", name := "green", desc := "(I)I" } : Jvm.MethodName) prog_22_method_57_code (2 : Nat) (Option.some Jvm.ClassFile.FieldType.int)) ∈ lw_all := lw_g (lw_at lw_m13 11 rfl) rfl
theorem q3003 : (Jvm.Cond.instanceMethod ({ cls := "ColourOfficeModel", name := "blue", desc := "(I)I" } : Jvm.MethodName)) ∈ lw_all := lw_g (lw_at lw_m13 13 rfl) rfl
theorem q3004 : (Jvm.Cond.selects "ColourOfficeModel" ({ cls := "ColourOfficeModel", name := "blue", desc := "(I)I" } : Jvm.MethodName) ({ cls := "ColourOfficeModel", name := "blue", desc := "(I)I" } : Jvm.MethodName)) ∈ lw_all := lw_g (lw_at lw_m13 14 rfl) rfl
theorem q3005 : (Jvm.Cond.code ({ cls := "ColourOfficeModel", name := "blue", desc := "(I)I" } : Jvm.MethodName) prog_22_method_58_code (2 : Nat) (Option.some Jvm.ClassFile.FieldType.int)) ∈ lw_all := lw_g (lw_at lw_m13 15 rfl) rfl
theorem q3007 : (Jvm.Cond.instanceMethod ({ cls := "ColourOfficeModel", name := "fastness", desc := "(I)I" } : Jvm.MethodName)) ∈ lw_all := lw_g (lw_at lw_m13 17 rfl) rfl
theorem q3008 : (Jvm.Cond.selects "ColourOfficeModel" ({ cls := "ColourOfficeModel", name := "fastness", desc := "(I)I" } : Jvm.MethodName) ({ cls := "ColourOfficeModel", name := "fastness", desc := "(I)I" } : Jvm.MethodName)) ∈ lw_all := lw_g (lw_at lw_m13 18 rfl) rfl
theorem q3009 : (Jvm.Cond.code ({ cls := "ColourOfficeModel", name := "fastness", desc := "(I)I" } : Jvm.MethodName) prog_22_method_59_code (2 : Nat) (Option.some Jvm.ClassFile.FieldType.int)) ∈ lw_all := lw_g (lw_at lw_m13 19 rfl) rfl
theorem q3011 : (Jvm.Cond.instanceMethod ({ cls := "ColourOfficeModel", name := "age", desc := "(I)I" } : Jvm.MethodName)) ∈ lw_all := lw_g (lw_at lw_m13 21 rfl) rfl
theorem q3012 : (Jvm.Cond.selects "ColourOfficeModel" ({ cls := "ColourOfficeModel", name := "age", desc := "(I)I" } : Jvm.MethodName) ({ cls := "ColourOfficeModel", name := "age", desc := "(I)I" } : Jvm.MethodName)) ∈ lw_all := lw_g (lw_at lw_m13 22 rfl) rfl
theorem q3013 : (Jvm.Cond.code ({ cls := "ColourOfficeModel", name := "age", desc := "(I)I" } : Jvm.MethodName) prog_22_method_60_code (2 : Nat) (Option.some Jvm.ClassFile.FieldType.int)) ∈ lw_all := lw_g (lw_at lw_m13 23 rfl) rfl
theorem q3015 : (Jvm.Cond.instanceMethod ({ cls := "ColourOfficeModel", name := "daysUntilGrey", desc := "(I)I" } : Jvm.MethodName)) ∈ lw_all := lw_g (lw_at lw_m13 25 rfl) rfl
theorem q3016 : (Jvm.Cond.selects "ColourOfficeModel" ({ cls := "ColourOfficeModel", name := "daysUntilGrey", desc := "(I)I" } : Jvm.MethodName) ({ cls := "ColourOfficeModel", name := "daysUntilGrey", desc := "(I)I" } : Jvm.MethodName)) ∈ lw_all := lw_g (lw_at lw_m13 26 rfl) rfl
theorem q3017 : (Jvm.Cond.code ({ cls := "ColourOfficeModel", name := "daysUntilGrey", desc := "(I)I" } : Jvm.MethodName) prog_22_method_61_code (4 : Nat) (Option.some Jvm.ClassFile.FieldType.int)) ∈ lw_all := lw_g (lw_at lw_m13 27 rfl) rfl
theorem q3019 : (Jvm.Cond.instanceMethod ({ cls := "ColourOfficeModel", name := "colourByBrightness", desc := "(I)I" } : Jvm.MethodName)) ∈ lw_all := lw_g (lw_at lw_m13 29 rfl) rfl
theorem q3020 : (Jvm.Cond.selects "ColourOfficeModel" ({ cls := "ColourOfficeModel", name := "colourByBrightness", desc := "(I)I" } : Jvm.MethodName) ({ cls := "ColourOfficeModel", name := "colourByBrightness", desc := "(I)I" } : Jvm.MethodName)) ∈ lw_all := lw_g (lw_at lw_m13 30 rfl) rfl
theorem q3021 : (Jvm.Cond.code ({ cls := "ColourOfficeModel", name := "colourByBrightness", desc := "(I)I" } : Jvm.MethodName) prog_22_method_63_code (5 : Nat) (Option.some Jvm.ClassFile.FieldType.int)) ∈ lw_all := lw_g (lw_at lw_m13 31 rfl) rfl
theorem q3022 : (Jvm.Cond.methodLink "ColourOfficeModel" (226 : Nat) ({ cls := "ColourOfficeModel", name := "brightness", desc := "(I)I" } : Jvm.MethodName)) ∈ lw_all := lw_g (lw_at lw_m13 32 rfl) rfl
theorem q3023 : (Jvm.Cond.privateMethod ({ cls := "ColourOfficeModel", name := "brightness", desc := "(I)I" } : Jvm.MethodName)) ∈ lw_tbl := lw_at lw_m13 33 rfl
theorem q3024 : (Jvm.Cond.instanceMethod ({ cls := "ColourOfficeModel", name := "brightness", desc := "(I)I" } : Jvm.MethodName)) ∈ lw_all := lw_g (lw_at lw_m13 34 rfl) rfl
theorem q3025 : (Jvm.Cond.code ({ cls := "ColourOfficeModel", name := "brightness", desc := "(I)I" } : Jvm.MethodName) prog_22_method_62_code (2 : Nat) (Option.some Jvm.ClassFile.FieldType.int)) ∈ lw_all := lw_g (lw_at lw_m13 35 rfl) rfl
theorem q3027 : (Jvm.Cond.instanceMethod ({ cls := "ColourOfficeModel", name := "reportCount", desc := "()I" } : Jvm.MethodName)) ∈ lw_all := lw_g (lw_at lw_m13 37 rfl) rfl
theorem q3028 : (Jvm.Cond.selects "ColourOfficeModel" ({ cls := "ColourOfficeModel", name := "reportCount", desc := "()I" } : Jvm.MethodName) ({ cls := "ColourOfficeModel", name := "reportCount", desc := "()I" } : Jvm.MethodName)) ∈ lw_all := lw_g (lw_at lw_m13 38 rfl) rfl
theorem q3029 : (Jvm.Cond.code ({ cls := "ColourOfficeModel", name := "reportCount", desc := "()I" } : Jvm.MethodName) prog_22_method_64_code (1 : Nat) (Option.some Jvm.ClassFile.FieldType.int)) ∈ lw_all := lw_g (lw_at lw_m13 39 rfl) rfl
theorem q3031 : (Jvm.Cond.instanceMethod ({ cls := "ColourOfficeModel", name := "reportAt", desc := "(I)I" } : Jvm.MethodName)) ∈ lw_all := lw_g (lw_at lw_m13 41 rfl) rfl
theorem q3032 : (Jvm.Cond.selects "ColourOfficeModel" ({ cls := "ColourOfficeModel", name := "reportAt", desc := "(I)I" } : Jvm.MethodName) ({ cls := "ColourOfficeModel", name := "reportAt", desc := "(I)I" } : Jvm.MethodName)) ∈ lw_all := lw_g (lw_at lw_m13 42 rfl) rfl
theorem q3033 : (Jvm.Cond.code ({ cls := "ColourOfficeModel", name := "reportAt", desc := "(I)I" } : Jvm.MethodName) prog_22_method_65_code (2 : Nat) (Option.some Jvm.ClassFile.FieldType.int)) ∈ lw_all := lw_g (lw_at lw_m13 43 rfl) rfl
theorem q3035 : (Jvm.Cond.instanceMethod ({ cls := "ColourOfficeModel", name := "toleranceOf", desc := "(I)I" } : Jvm.MethodName)) ∈ lw_all := lw_g (lw_at lw_m13 45 rfl) rfl
theorem q3036 : (Jvm.Cond.selects "ColourOfficeModel" ({ cls := "ColourOfficeModel", name := "toleranceOf", desc := "(I)I" } : Jvm.MethodName) ({ cls := "ColourOfficeModel", name := "toleranceOf", desc := "(I)I" } : Jvm.MethodName)) ∈ lw_all := lw_g (lw_at lw_m13 46 rfl) rfl
theorem q3037 : (Jvm.Cond.code ({ cls := "ColourOfficeModel", name := "toleranceOf", desc := "(I)I" } : Jvm.MethodName) prog_22_method_67_code (2 : Nat) (Option.some Jvm.ClassFile.FieldType.int)) ∈ lw_all := lw_g (lw_at lw_m13 47 rfl) rfl
theorem q3038 : (Jvm.Cond.methodLink "ColourOfficeModel" (229 : Nat) ({ cls := "ColourOfficeModel", name := "ofReport", desc := "(II)I" } : Jvm.MethodName)) ∈ lw_all := lw_g (lw_at lw_m13 48 rfl) rfl
theorem q3039 : (Jvm.Cond.privateMethod ({ cls := "ColourOfficeModel", name := "ofReport", desc := "(II)I" } : Jvm.MethodName)) ∈ lw_tbl := lw_at lw_m13 49 rfl
theorem q3040 : (Jvm.Cond.instanceMethod ({ cls := "ColourOfficeModel", name := "ofReport", desc := "(II)I" } : Jvm.MethodName)) ∈ lw_all := lw_g (lw_at lw_m13 50 rfl) rfl
theorem q3041 : (Jvm.Cond.code ({ cls := "ColourOfficeModel", name := "ofReport", desc := "(II)I" } : Jvm.MethodName) prog_22_method_66_code (3 : Nat) (Option.some Jvm.ClassFile.FieldType.int)) ∈ lw_all := lw_g (lw_at lw_m13 51 rfl) rfl
theorem q3043 : (Jvm.Cond.instanceMethod ({ cls := "ColourOfficeModel", name := "rewardOf", desc := "(I)I" } : Jvm.MethodName)) ∈ lw_all := lw_g (lw_at lw_m13 53 rfl) rfl
theorem q3044 : (Jvm.Cond.selects "ColourOfficeModel" ({ cls := "ColourOfficeModel", name := "rewardOf", desc := "(I)I" } : Jvm.MethodName) ({ cls := "ColourOfficeModel", name := "rewardOf", desc := "(I)I" } : Jvm.MethodName)) ∈ lw_all := lw_g (lw_at lw_m13 54 rfl) rfl
theorem q3045 : (Jvm.Cond.code ({ cls := "ColourOfficeModel", name := "rewardOf", desc := "(I)I" } : Jvm.MethodName) prog_22_method_68_code (2 : Nat) (Option.some Jvm.ClassFile.FieldType.int)) ∈ lw_all := lw_g (lw_at lw_m13 55 rfl) rfl
theorem q3047 : (Jvm.Cond.instanceMethod ({ cls := "ColourOfficeModel", name := "distanceFor", desc := "(II)I" } : Jvm.MethodName)) ∈ lw_all := lw_g (lw_at lw_m13 57 rfl) rfl
theorem q3048 : (Jvm.Cond.selects "ColourOfficeModel" ({ cls := "ColourOfficeModel", name := "distanceFor", desc := "(II)I" } : Jvm.MethodName) ({ cls := "ColourOfficeModel", name := "distanceFor", desc := "(II)I" } : Jvm.MethodName)) ∈ lw_all := lw_g (lw_at lw_m13 58 rfl) rfl
theorem q3049 : (Jvm.Cond.code ({ cls := "ColourOfficeModel", name := "distanceFor", desc := "(II)I" } : Jvm.MethodName) prog_22_method_70_code (3 : Nat) (Option.some Jvm.ClassFile.FieldType.int)) ∈ lw_all := lw_g (lw_at lw_m13 59 rfl) rfl
theorem q3050 : (Jvm.Cond.methodLink "ColourOfficeModel" (232 : Nat) ({ cls := "ColourOfficeModel", name := "areBoth", desc := "(II)Z" } : Jvm.MethodName)) ∈ lw_all := lw_g (lw_at lw_m13 60 rfl) rfl
theorem q3051 : (Jvm.Cond.privateMethod ({ cls := "ColourOfficeModel", name := "areBoth", desc := "(II)Z" } : Jvm.MethodName)) ∈ lw_tbl := lw_at lw_m13 61 rfl
theorem q3052 : (Jvm.Cond.instanceMethod ({ cls := "ColourOfficeModel", name := "areBoth", desc := "(II)Z" } : Jvm.MethodName)) ∈ lw_all := lw_g (lw_at lw_m13 62 rfl) rfl
theorem q3053 : (Jvm.Cond.code ({ cls := "ColourOfficeModel", name := "areBoth", desc := "(II)Z" } : Jvm.MethodName) prog_22_method_69_code (3 : Nat) (Option.some Jvm.ClassFile.FieldType.boolean)) ∈ lw_all := lw_g (lw_at lw_m13 63 rfl) rfl
theorem q3055 : (Jvm.Cond.instanceMethod ({ cls := "ColourOfficeModel", name := "fits", desc := "(II)Z" } : Jvm.MethodName)) ∈ lw_all := lw_g (lw_at lw_m13 65 rfl) rfl
theorem q3056 : (Jvm.Cond.selects "ColourOfficeModel" ({ cls := "ColourOfficeModel", name := "fits", desc := "(II)Z" } : Jvm.MethodName) ({ cls := "ColourOfficeModel", name := "fits", desc := "(II)Z" } : Jvm.MethodName)) ∈ lw_all := lw_g (lw_at lw_m13 66 rfl) rfl
theorem q3057 : (Jvm.Cond.code ({ cls := "ColourOfficeModel", name := "fits", desc := "(II)Z" } : Jvm.MethodName) prog_22_method_71_code (3 : Nat) (Option.some Jvm.ClassFile.FieldType.boolean)) ∈ lw_all := lw_g (lw_at lw_m13 67 rfl) rfl
theorem q3059 : (Jvm.Cond.instanceMethod ({ cls := "ColourOfficeModel", name := "nearestFor", desc := "(I)I" } : Jvm.MethodName)) ∈ lw_all := lw_g (lw_at lw_m13 69 rfl) rfl
theorem q3060 : (Jvm.Cond.selects "ColourOfficeModel" ({ cls := "ColourOfficeModel", name := "nearestFor", desc := "(I)I" } : Jvm.MethodName) ({ cls := "ColourOfficeModel", name := "nearestFor", desc := "(I)I" } : Jvm.MethodName)) ∈ lw_all := lw_g (lw_at lw_m13 70 rfl) rfl
theorem q3061 : (Jvm.Cond.code ({ cls := "ColourOfficeModel", name := "nearestFor", desc := "(I)I" } : Jvm.MethodName) prog_22_method_72_code (2 : Nat) (Option.some Jvm.ClassFile.FieldType.int)) ∈ lw_all := lw_g (lw_at lw_m13 71 rfl) rfl
theorem q3063 : (Jvm.Cond.instanceMethod ({ cls := "ColourOfficeModel", name := "distance", desc := "(II)I" } : Jvm.MethodName)) ∈ lw_all := lw_g (lw_at lw_m13 73 rfl) rfl
theorem q3064 : (Jvm.Cond.selects "ColourOfficeModel" ({ cls := "ColourOfficeModel", name := "distance", desc := "(II)I" } : Jvm.MethodName) ({ cls := "ColourOfficeModel", name := "distance", desc := "(II)I" } : Jvm.MethodName)) ∈ lw_all := lw_g (lw_at lw_m13 74 rfl) rfl
theorem q3065 : (Jvm.Cond.code ({ cls := "ColourOfficeModel", name := "distance", desc := "(II)I" } : Jvm.MethodName) prog_22_method_73_code (3 : Nat) (Option.some Jvm.ClassFile.FieldType.int)) ∈ lw_all := lw_g (lw_at lw_m13 75 rfl) rfl
theorem q3067 : (Jvm.Cond.instanceMethod ({ cls := "ColourOfficeModel", name := "nearest", desc := "(III)I" } : Jvm.MethodName)) ∈ lw_all := lw_g (lw_at lw_m13 77 rfl) rfl
theorem q3068 : (Jvm.Cond.selects "ColourOfficeModel" ({ cls := "ColourOfficeModel", name := "nearest", desc := "(III)I" } : Jvm.MethodName) ({ cls := "ColourOfficeModel", name := "nearest", desc := "(III)I" } : Jvm.MethodName)) ∈ lw_all := lw_g (lw_at lw_m13 78 rfl) rfl
theorem q3069 : (Jvm.Cond.code ({ cls := "ColourOfficeModel", name := "nearest", desc := "(III)I" } : Jvm.MethodName) prog_22_method_76_code (4 : Nat) (Option.some Jvm.ClassFile.FieldType.int)) ∈ lw_all := lw_g (lw_at lw_m13 79 rfl) rfl
theorem q3070 : (Jvm.Cond.methodLink "ColourOfficeModel" (239 : Nat) ({ cls := "ColourOfficeModel", name := "near", desc := "(III)I" } : Jvm.MethodName)) ∈ lw_all := lw_g (lw_at lw_m13 80 rfl) rfl
theorem q3071 : (Jvm.Cond.privateMethod ({ cls := "ColourOfficeModel", name := "near", desc := "(III)I" } : Jvm.MethodName)) ∈ lw_tbl := lw_at lw_m13 81 rfl
theorem q3072 : (Jvm.Cond.instanceMethod ({ cls := "ColourOfficeModel", name := "near", desc := "(III)I" } : Jvm.MethodName)) ∈ lw_all := lw_g (lw_at lw_m13 82 rfl) rfl
theorem q3073 : (Jvm.Cond.code ({ cls := "ColourOfficeModel", name := "near", desc := "(III)I" } : Jvm.MethodName) prog_22_method_74_code (8 : Nat) (Option.some Jvm.ClassFile.FieldType.int)) ∈ lw_all := lw_g (lw_at lw_m13 83 rfl) rfl
theorem q3074 : (Jvm.Cond.constant "ColourOfficeModel" (235 : Nat) (1000000000 : Int32)) ∈ lw_all := lw_g (lw_at lw_m13 84 rfl) rfl
theorem q3075 : (Jvm.Cond.methodLink "ColourOfficeModel" (236 : Nat) ({ cls := "ColourOfficeModel", name := "farFrom", desc := "(IIII)I" } : Jvm.MethodName)) ∈ lw_all := lw_g (lw_at lw_m13 85 rfl) rfl
theorem q3076 : (Jvm.Cond.privateMethod ({ cls := "ColourOfficeModel", name := "farFrom", desc := "(IIII)I" } : Jvm.MethodName)) ∈ lw_tbl := lw_at lw_m13 86 rfl
theorem q3077 : (Jvm.Cond.instanceMethod ({ cls := "ColourOfficeModel", name := "farFrom", desc := "(IIII)I" } : Jvm.MethodName)) ∈ lw_all := lw_g (lw_at lw_m13 87 rfl) rfl
theorem q3078 : (Jvm.Cond.code ({ cls := "ColourOfficeModel", name := "farFrom", desc := "(IIII)I" } : Jvm.MethodName) prog_22_method_75_code (8 : Nat) (Option.some Jvm.ClassFile.FieldType.int)) ∈ lw_all := lw_g (lw_at lw_m13 88 rfl) rfl
theorem q3080 : (Jvm.Cond.instanceMethod ({ cls := "ColourOfficeModel", name := "nearestByLooking", desc := "(III)I" } : Jvm.MethodName)) ∈ lw_all := lw_g (lw_at lw_m13 90 rfl) rfl
theorem q3081 : (Jvm.Cond.selects "ColourOfficeModel" ({ cls := "ColourOfficeModel", name := "nearestByLooking", desc := "(III)I" } : Jvm.MethodName) ({ cls := "ColourOfficeModel", name := "nearestByLooking", desc := "(III)I" } : Jvm.MethodName)) ∈ lw_all := lw_g (lw_at lw_m13 91 rfl) rfl
theorem q3082 : (Jvm.Cond.code ({ cls := "ColourOfficeModel", name := "nearestByLooking", desc := "(III)I" } : Jvm.MethodName) prog_22_method_77_code (4 : Nat) (Option.some Jvm.ClassFile.FieldType.int)) ∈ lw_all := lw_g (lw_at lw_m13 92 rfl) rfl
theorem q3084 : (Jvm.Cond.instanceMethod ({ cls := "ColourOfficeModel", name := "closestDistance", desc := "()I" } : Jvm.MethodName)) ∈ lw_all := lw_g (lw_at lw_m13 94 rfl) rfl
theorem q3085 : (Jvm.Cond.selects "ColourOfficeModel" ({ cls := "ColourOfficeModel", name := "closestDistance", desc := "()I" } : Jvm.MethodName) ({ cls := "ColourOfficeModel", name := "closestDistance", desc := "()I" } : Jvm.MethodName)) ∈ lw_all := lw_g (lw_at lw_m13 95 rfl) rfl
theorem q3086 : (Jvm.Cond.code ({ cls := "ColourOfficeModel", name := "closestDistance", desc := "()I" } : Jvm.MethodName) prog_22_method_79_code (1 : Nat) (Option.some Jvm.ClassFile.FieldType.int)) ∈ lw_all := lw_g (lw_at lw_m13 96 rfl) rfl
theorem q3087 : (Jvm.Cond.methodLink "ColourOfficeModel" (243 : Nat) ({ cls := "ColourOfficeModel", name := "closest", desc := "()I" } : Jvm.MethodName)) ∈ lw_all := lw_g (lw_at lw_m13 97 rfl) rfl
theorem q3088 : (Jvm.Cond.privateMethod ({ cls := "ColourOfficeModel", name := "closest", desc := "()I" } : Jvm.MethodName)) ∈ lw_tbl := lw_at lw_m13 98 rfl
theorem q3089 : (Jvm.Cond.instanceMethod ({ cls := "ColourOfficeModel", name := "closest", desc := "()I" } : Jvm.MethodName)) ∈ lw_all := lw_g (lw_at lw_m13 99 rfl) rfl
theorem q3090 : (Jvm.Cond.code ({ cls := "ColourOfficeModel", name := "closest", desc := "()I" } : Jvm.MethodName) prog_22_method_78_code (4 : Nat) (Option.some Jvm.ClassFile.FieldType.int)) ∈ lw_all := lw_g (lw_at lw_m13 100 rfl) rfl
theorem q3092 : (Jvm.Cond.instanceMethod ({ cls := "ColourOfficeModel", name := "closestDistanceBySorting", desc := "()I" } : Jvm.MethodName)) ∈ lw_all := lw_g (lw_at lw_m13 102 rfl) rfl
theorem q3093 : (Jvm.Cond.selects "ColourOfficeModel" ({ cls := "ColourOfficeModel", name := "closestDistanceBySorting", desc := "()I" } : Jvm.MethodName) ({ cls := "ColourOfficeModel", name := "closestDistanceBySorting", desc := "()I" } : Jvm.MethodName)) ∈ lw_all := lw_g (lw_at lw_m13 103 rfl) rfl
theorem q3094 : (Jvm.Cond.code ({ cls := "ColourOfficeModel", name := "closestDistanceBySorting", desc := "()I" } : Jvm.MethodName) prog_22_method_80_code (1 : Nat) (Option.some Jvm.ClassFile.FieldType.int)) ∈ lw_all := lw_g (lw_at lw_m13 104 rfl) rfl
theorem q3096 : (Jvm.Cond.instanceMethod ({ cls := "ColourOfficeModel", name := "bestReward", desc := "()I" } : Jvm.MethodName)) ∈ lw_all := lw_g (lw_at lw_m13 106 rfl) rfl
theorem q3097 : (Jvm.Cond.selects "ColourOfficeModel" ({ cls := "ColourOfficeModel", name := "bestReward", desc := "()I" } : Jvm.MethodName) ({ cls := "ColourOfficeModel", name := "bestReward", desc := "()I" } : Jvm.MethodName)) ∈ lw_all := lw_g (lw_at lw_m13 107 rfl) rfl
theorem q3098 : (Jvm.Cond.code ({ cls := "ColourOfficeModel", name := "bestReward", desc := "()I" } : Jvm.MethodName) prog_22_method_86_code (1 : Nat) (Option.some Jvm.ClassFile.FieldType.int)) ∈ lw_all := lw_g (lw_at lw_m13 108 rfl) rfl
theorem q3099 : (Jvm.Cond.methodLink "ColourOfficeModel" (253 : Nat) ({ cls := "ColourOfficeModel", name := "rewards", desc := "()I" } : Jvm.MethodName)) ∈ lw_all := lw_g (lw_at lw_m13 109 rfl) rfl
theorem q3100 : (Jvm.Cond.privateMethod ({ cls := "ColourOfficeModel", name := "rewards", desc := "()I" } : Jvm.MethodName)) ∈ lw_tbl := lw_at lw_m13 110 rfl
theorem q3101 : (Jvm.Cond.instanceMethod ({ cls := "ColourOfficeModel", name := "rewards", desc := "()I" } : Jvm.MethodName)) ∈ lw_all := lw_g (lw_at lw_m13 111 rfl) rfl
theorem q3102 : (Jvm.Cond.code ({ cls := "ColourOfficeModel", name := "rewards", desc := "()I" } : Jvm.MethodName) prog_22_method_85_code (1 : Nat) (Option.some Jvm.ClassFile.FieldType.int)) ∈ lw_all := lw_g (lw_at lw_m13 112 rfl) rfl
theorem q3104 : (Jvm.Cond.instanceMethod ({ cls := "ColourOfficeModel", name := "bestRewardByTrying", desc := "()I" } : Jvm.MethodName)) ∈ lw_all := lw_g (lw_at lw_m13 114 rfl) rfl
theorem q3105 : (Jvm.Cond.selects "ColourOfficeModel" ({ cls := "ColourOfficeModel", name := "bestRewardByTrying", desc := "()I" } : Jvm.MethodName) ({ cls := "ColourOfficeModel", name := "bestRewardByTrying", desc := "()I" } : Jvm.MethodName)) ∈ lw_all := lw_g (lw_at lw_m13 115 rfl) rfl
theorem q3106 : (Jvm.Cond.code ({ cls := "ColourOfficeModel", name := "bestRewardByTrying", desc := "()I" } : Jvm.MethodName) prog_22_method_87_code (1 : Nat) (Option.some Jvm.ClassFile.FieldType.int)) ∈ lw_all := lw_g (lw_at lw_m13 116 rfl) rfl
theorem q3108 : (Jvm.Cond.instanceMethod ({ cls := "ColourOfficeModel", name := "bestDifference", desc := "()I" } : Jvm.MethodName)) ∈ lw_all := lw_g (lw_at lw_m13 118 rfl) rfl
theorem q3109 : (Jvm.Cond.selects "ColourOfficeModel" ({ cls := "ColourOfficeModel", name := "bestDifference", desc := "()I" } : Jvm.MethodName) ({ cls := "ColourOfficeModel", name := "bestDifference", desc := "()I" } : Jvm.MethodName)) ∈ lw_all := lw_g (lw_at lw_m13 119 rfl) rfl
theorem q3110 : (Jvm.Cond.code ({ cls := "ColourOfficeModel", name := "bestDifference", desc := "()I" } : Jvm.MethodName) prog_22_method_88_code (1 : Nat) (Option.some Jvm.ClassFile.FieldType.int)) ∈ lw_all := lw_g (lw_at lw_m13 120 rfl) rfl
theorem q3112 : (Jvm.Cond.instanceMethod ({ cls := "ColourOfficeModel", name := "settlementFor", desc := "(I)I" } : Jvm.MethodName)) ∈ lw_all := lw_g (lw_at lw_m13 122 rfl) rfl
theorem q3113 : (Jvm.Cond.selects "ColourOfficeModel" ({ cls := "ColourOfficeModel", name := "settlementFor", desc := "(I)I" } : Jvm.MethodName) ({ cls := "ColourOfficeModel", name := "settlementFor", desc := "(I)I" } : Jvm.MethodName)) ∈ lw_all := lw_g (lw_at lw_m13 123 rfl) rfl
theorem q3114 : (Jvm.Cond.code ({ cls := "ColourOfficeModel", name := "settlementFor", desc := "(I)I" } : Jvm.MethodName) prog_22_method_89_code (4 : Nat) (Option.some Jvm.ClassFile.FieldType.int)) ∈ lw_all := lw_g (lw_at lw_m13 124 rfl) rfl
theorem q3116 : (Jvm.Cond.instanceMethod ({ cls := "ColourOfficeModel", name := "paletteError", desc := "(I)I" } : Jvm.MethodName)) ∈ lw_all := lw_g (lw_at lw_m13 126 rfl) rfl
theorem q3117 : (Jvm.Cond.selects "ColourOfficeModel" ({ cls := "ColourOfficeModel", name := "paletteError", desc := "(I)I" } : Jvm.MethodName) ({ cls := "ColourOfficeModel", name := "paletteError", desc := "(I)I" } : Jvm.MethodName)) ∈ lw_all := lw_g (lw_at lw_m13 127 rfl) rfl
theorem q3118 : (Jvm.Cond.code ({ cls := "ColourOfficeModel", name := "paletteError", desc := "(I)I" } : Jvm.MethodName) prog_22_method_95_code (2 : Nat) (Option.some Jvm.ClassFile.FieldType.int)) ∈ lw_all := lw_g (lw_at lw_m13 128 rfl) rfl
theorem q3119 : (Jvm.Cond.methodLink "ColourOfficeModel" (268 : Nat) ({ cls := "ColourOfficeModel", name := "errorOf", desc := "(I)I" } : Jvm.MethodName)) ∈ lw_all := lw_g (lw_at lw_m13 129 rfl) rfl
theorem q3120 : (Jvm.Cond.privateMethod ({ cls := "ColourOfficeModel", name := "errorOf", desc := "(I)I" } : Jvm.MethodName)) ∈ lw_tbl := lw_at lw_m13 130 rfl
theorem q3121 : (Jvm.Cond.instanceMethod ({ cls := "ColourOfficeModel", name := "errorOf", desc := "(I)I" } : Jvm.MethodName)) ∈ lw_all := lw_g (lw_at lw_m13 131 rfl) rfl
theorem q3122 : (Jvm.Cond.code ({ cls := "ColourOfficeModel", name := "errorOf", desc := "(I)I" } : Jvm.MethodName) prog_22_method_94_code (2 : Nat) (Option.some Jvm.ClassFile.FieldType.int)) ∈ lw_all := lw_g (lw_at lw_m13 132 rfl) rfl
theorem q3123 : (Jvm.Cond.methodLink "ColourOfficeModel" (265 : Nat) ({ cls := "ColourOfficeModel", name := "palette", desc := "(I)I" } : Jvm.MethodName)) ∈ lw_all := lw_g (lw_at lw_m13 133 rfl) rfl
theorem q3124 : (Jvm.Cond.privateMethod ({ cls := "ColourOfficeModel", name := "palette", desc := "(I)I" } : Jvm.MethodName)) ∈ lw_tbl := lw_at lw_m13 134 rfl
theorem q3125 : (Jvm.Cond.instanceMethod ({ cls := "ColourOfficeModel", name := "palette", desc := "(I)I" } : Jvm.MethodName)) ∈ lw_all := lw_g (lw_at lw_m13 135 rfl) rfl
theorem q3126 : (Jvm.Cond.code ({ cls := "ColourOfficeModel", name := "palette", desc := "(I)I" } : Jvm.MethodName) prog_22_method_93_code (4 : Nat) (Option.some Jvm.ClassFile.FieldType.int)) ∈ lw_all := lw_g (lw_at lw_m13 136 rfl) rfl
theorem q3127 : (Jvm.Cond.methodLink "ColourOfficeModel" (256 : Nat) ({ cls := "ColourOfficeModel", name := "many", desc := "(I)I" } : Jvm.MethodName)) ∈ lw_all := lw_g (lw_at lw_m13 137 rfl) rfl
theorem q3128 : (Jvm.Cond.static ({ cls := "ColourOfficeModel", name := "many", desc := "(I)I" } : Jvm.MethodName)) ∈ lw_all := lw_g (lw_at lw_m13 138 rfl) rfl
theorem q3129 : (Jvm.Cond.code ({ cls := "ColourOfficeModel", name := "many", desc := "(I)I" } : Jvm.MethodName) prog_22_method_90_code (3 : Nat) (Option.some Jvm.ClassFile.FieldType.int)) ∈ lw_all := lw_g (lw_at lw_m13 139 rfl) rfl
theorem q3130 : (Jvm.Cond.methodLink "ColourOfficeModel" (259 : Nat) ({ cls := "ColourOfficeModel", name := "error", desc := "(I)I" } : Jvm.MethodName)) ∈ lw_all := lw_g (lw_at lw_m13 140 rfl) rfl
theorem q3131 : (Jvm.Cond.privateMethod ({ cls := "ColourOfficeModel", name := "error", desc := "(I)I" } : Jvm.MethodName)) ∈ lw_tbl := lw_at lw_m13 141 rfl
theorem q3132 : (Jvm.Cond.instanceMethod ({ cls := "ColourOfficeModel", name := "error", desc := "(I)I" } : Jvm.MethodName)) ∈ lw_all := lw_g (lw_at lw_m13 142 rfl) rfl
theorem q3133 : (Jvm.Cond.code ({ cls := "ColourOfficeModel", name := "error", desc := "(I)I" } : Jvm.MethodName) prog_22_method_91_code (7 : Nat) (Option.some Jvm.ClassFile.FieldType.int)) ∈ lw_all := lw_g (lw_at lw_m13 143 rfl) rfl
theorem q3134 : (Jvm.Cond.methodLink "ColourOfficeModel" (262 : Nat) ({ cls := "ColourOfficeModel", name := "hasLowest", desc := "(II)Z" } : Jvm.MethodName)) ∈ lw_all := lw_g (lw_at lw_m13 144 rfl) rfl
theorem q3135 : (Jvm.Cond.static ({ cls := "ColourOfficeModel", name := "hasLowest", desc := "(II)Z" } : Jvm.MethodName)) ∈ lw_all := lw_g (lw_at lw_m13 145 rfl) rfl
theorem q3136 : (Jvm.Cond.code ({ cls := "ColourOfficeModel", name := "hasLowest", desc := "(II)Z" } : Jvm.MethodName) prog_22_method_92_code (3 : Nat) (Option.some Jvm.ClassFile.FieldType.boolean)) ∈ lw_all := lw_g (lw_at lw_m13 146 rfl) rfl
theorem q3138 : (Jvm.Cond.instanceMethod ({ cls := "ColourOfficeModel", name := "paletteErrorBySearch", desc := "(I)I" } : Jvm.MethodName)) ∈ lw_all := lw_g (lw_at lw_m13 148 rfl) rfl
theorem q3139 : (Jvm.Cond.selects "ColourOfficeModel" ({ cls := "ColourOfficeModel", name := "paletteErrorBySearch", desc := "(I)I" } : Jvm.MethodName) ({ cls := "ColourOfficeModel", name := "paletteErrorBySearch", desc := "(I)I" } : Jvm.MethodName)) ∈ lw_all := lw_g (lw_at lw_m13 149 rfl) rfl
theorem q3140 : (Jvm.Cond.code ({ cls := "ColourOfficeModel", name := "paletteErrorBySearch", desc := "(I)I" } : Jvm.MethodName) prog_22_method_96_code (2 : Nat) (Option.some Jvm.ClassFile.FieldType.int)) ∈ lw_all := lw_g (lw_at lw_m13 150 rfl) rfl
theorem q3142 : (Jvm.Cond.instanceMethod ({ cls := "ColourOfficeModel", name := "paletteColour", desc := "(II)I" } : Jvm.MethodName)) ∈ lw_all := lw_g (lw_at lw_m13 152 rfl) rfl
theorem q3143 : (Jvm.Cond.selects "ColourOfficeModel" ({ cls := "ColourOfficeModel", name := "paletteColour", desc := "(II)I" } : Jvm.MethodName) ({ cls := "ColourOfficeModel", name := "paletteColour", desc := "(II)I" } : Jvm.MethodName)) ∈ lw_all := lw_g (lw_at lw_m13 153 rfl) rfl
theorem q3144 : (Jvm.Cond.code ({ cls := "ColourOfficeModel", name := "paletteColour", desc := "(II)I" } : Jvm.MethodName) prog_22_method_97_code (6 : Nat) (Option.some Jvm.ClassFile.FieldType.int)) ∈ lw_all := lw_g (lw_at lw_m13 154 rfl) rfl
theorem q3146 : (Jvm.Cond.instanceMethod ({ cls := "ColourOfficeModel", name := "day", desc := "()I" } : Jvm.MethodName)) ∈ lw_all := lw_g (lw_at lw_m13 156 rfl) rfl
theorem q3147 : (Jvm.Cond.selects "ColourOfficeModel" ({ cls := "ColourOfficeModel", name := "day", desc := "()I" } : Jvm.MethodName) ({ cls := "ColourOfficeModel", name := "day", desc := "()I" } : Jvm.MethodName)) ∈ lw_all := lw_g (lw_at lw_m13 157 rfl) rfl
theorem q3148 : (Jvm.Cond.code ({ cls := "ColourOfficeModel", name := "day", desc := "()I" } : Jvm.MethodName) prog_22_method_98_code (1 : Nat) (Option.some Jvm.ClassFile.FieldType.int)) ∈ lw_all := lw_g (lw_at lw_m13 158 rfl) rfl
theorem q3150 : (Jvm.Cond.instanceMethod ({ cls := "ColourOfficeModel", name := "metric", desc := "()C" } : Jvm.MethodName)) ∈ lw_all := lw_g (lw_at lw_m13 160 rfl) rfl
theorem q3151 : (Jvm.Cond.selects "ColourOfficeModel" ({ cls := "ColourOfficeModel", name := "metric", desc := "()C" } : Jvm.MethodName) ({ cls := "ColourOfficeModel", name := "metric", desc := "()C" } : Jvm.MethodName)) ∈ lw_all := lw_g (lw_at lw_m13 161 rfl) rfl
theorem q3152 : (Jvm.Cond.code ({ cls := "ColourOfficeModel", name := "metric", desc := "()C" } : Jvm.MethodName) prog_22_method_99_code (1 : Nat) (Option.some Jvm.ClassFile.FieldType.char)) ∈ lw_all := lw_g (lw_at lw_m13 162 rfl) rfl
theorem q3154 : (Jvm.Cond.instanceMethod ({ cls := "ColourOfficeModel", name := "coins", desc := "()I" } : Jvm.MethodName)) ∈ lw_all := lw_g (lw_at lw_m13 164 rfl) rfl
theorem q3155 : (Jvm.Cond.selects "ColourOfficeModel" ({ cls := "ColourOfficeModel", name := "coins", desc := "()I" } : Jvm.MethodName) ({ cls := "ColourOfficeModel", name := "coins", desc := "()I" } : Jvm.MethodName)) ∈ lw_all := lw_g (lw_at lw_m13 165 rfl) rfl
theorem q3156 : (Jvm.Cond.code ({ cls := "ColourOfficeModel", name := "coins", desc := "()I" } : Jvm.MethodName) prog_22_method_100_code (1 : Nat) (Option.some Jvm.ClassFile.FieldType.int)) ∈ lw_all := lw_g (lw_at lw_m13 166 rfl) rfl
theorem q3158 : (Jvm.Cond.instanceMethod ({ cls := "ColourOfficeModel", name := "coinsByAccounts", desc := "()I" } : Jvm.MethodName)) ∈ lw_all := lw_g (lw_at lw_m13 168 rfl) rfl
theorem q3159 : (Jvm.Cond.selects "ColourOfficeModel" ({ cls := "ColourOfficeModel", name := "coinsByAccounts", desc := "()I" } : Jvm.MethodName) ({ cls := "ColourOfficeModel", name := "coinsByAccounts", desc := "()I" } : Jvm.MethodName)) ∈ lw_all := lw_g (lw_at lw_m13 169 rfl) rfl
theorem q3160 : (Jvm.Cond.code ({ cls := "ColourOfficeModel", name := "coinsByAccounts", desc := "()I" } : Jvm.MethodName) prog_22_method_101_code (1 : Nat) (Option.some Jvm.ClassFile.FieldType.int)) ∈ lw_all := lw_g (lw_at lw_m13 170 rfl) rfl
theorem q3162 : (Jvm.Cond.instanceMethod ({ cls := "ColourOfficeModel", name := "returnedTotal", desc := "()I" } : Jvm.MethodName)) ∈ lw_all := lw_g (lw_at lw_m13 172 rfl) rfl
theorem q3163 : (Jvm.Cond.selects "ColourOfficeModel" ({ cls := "ColourOfficeModel", name := "returnedTotal", desc := "()I" } : Jvm.MethodName) ({ cls := "ColourOfficeModel", name := "returnedTotal", desc := "()I" } : Jvm.MethodName)) ∈ lw_all := lw_g (lw_at lw_m13 173 rfl) rfl
theorem q3164 : (Jvm.Cond.code ({ cls := "ColourOfficeModel", name := "returnedTotal", desc := "()I" } : Jvm.MethodName) prog_22_method_102_code (1 : Nat) (Option.some Jvm.ClassFile.FieldType.int)) ∈ lw_all := lw_g (lw_at lw_m13 174 rfl) rfl
theorem q3166 : (Jvm.Cond.instanceMethod ({ cls := "ColourOfficeModel", name := "meanBrightness", desc := "()D" } : Jvm.MethodName)) ∈ lw_all := lw_g (lw_at lw_m13 176 rfl) rfl
theorem q3167 : (Jvm.Cond.selects "ColourOfficeModel" ({ cls := "ColourOfficeModel", name := "meanBrightness", desc := "()D" } : Jvm.MethodName) ({ cls := "ColourOfficeModel", name := "meanBrightness", desc := "()D" } : Jvm.MethodName)) ∈ lw_all := lw_g (lw_at lw_m13 177 rfl) rfl
theorem q3168 : (Jvm.Cond.code ({ cls := "ColourOfficeModel", name := "meanBrightness", desc := "()D" } : Jvm.MethodName) prog_22_method_103_code (3 : Nat) (Option.some Jvm.ClassFile.FieldType.double)) ∈ lw_all := lw_g (lw_at lw_m13 178 rfl) rfl
theorem q3170 : (Jvm.Cond.instanceMethod ({ cls := "ColourOfficeModel", name := "greyShare", desc := "()F" } : Jvm.MethodName)) ∈ lw_all := lw_g (lw_at lw_m13 180 rfl) rfl
theorem q3171 : (Jvm.Cond.selects "ColourOfficeModel" ({ cls := "ColourOfficeModel", name := "greyShare", desc := "()F" } : Jvm.MethodName) ({ cls := "ColourOfficeModel", name := "greyShare", desc := "()F" } : Jvm.MethodName)) ∈ lw_all := lw_g (lw_at lw_m13 181 rfl) rfl
theorem q3172 : (Jvm.Cond.code ({ cls := "ColourOfficeModel", name := "greyShare", desc := "()F" } : Jvm.MethodName) prog_22_method_104_code (1 : Nat) (Option.some Jvm.ClassFile.FieldType.float)) ∈ lw_all := lw_g (lw_at lw_m13 182 rfl) rfl
theorem q3174 : (Jvm.Cond.instanceMethod ({ cls := "ColourOfficeModel", name := "isConsistent", desc := "()Z" } : Jvm.MethodName)) ∈ lw_all := lw_g (lw_at lw_m13 184 rfl) rfl
theorem q3175 : (Jvm.Cond.selects "ColourOfficeModel" ({ cls := "ColourOfficeModel", name := "isConsistent", desc := "()Z" } : Jvm.MethodName) ({ cls := "ColourOfficeModel", name := "isConsistent", desc := "()Z" } : Jvm.MethodName)) ∈ lw_all := lw_g (lw_at lw_m13 185 rfl) rfl
theorem q3176 : (Jvm.Cond.code ({ cls := "ColourOfficeModel", name := "isConsistent", desc := "()Z" } : Jvm.MethodName) prog_22_method_105_code (1 : Nat) (Option.some Jvm.ClassFile.FieldType.boolean)) ∈ lw_all := lw_g (lw_at lw_m13 186 rfl) rfl
theorem q3178 : (Jvm.Cond.instanceMethod ({ cls := "ColourOfficeModel", name := "renderColour", desc := "(I)I" } : Jvm.MethodName)) ∈ lw_all := lw_g (lw_at lw_m13 188 rfl) rfl
theorem q3179 : (Jvm.Cond.selects "ColourOfficeModel" ({ cls := "ColourOfficeModel", name := "renderColour", desc := "(I)I" } : Jvm.MethodName) ({ cls := "ColourOfficeModel", name := "renderColour", desc := "(I)I" } : Jvm.MethodName)) ∈ lw_all := lw_g (lw_at lw_m13 189 rfl) rfl
theorem q3180 : (Jvm.Cond.code ({ cls := "ColourOfficeModel", name := "renderColour", desc := "(I)I" } : Jvm.MethodName) prog_22_method_109_code (3 : Nat) (Option.some Jvm.ClassFile.FieldType.int)) ∈ lw_all := lw_g (lw_at lw_m13 190 rfl) rfl
theorem q3181 : (Jvm.Cond.methodLink "ColourOfficeModel" (274 : Nat) ({ cls := "ColourOfficeModel", name := "writeNumber", desc := "(I)V" } : Jvm.MethodName)) ∈ lw_all := lw_g (lw_at lw_m13 191 rfl) rfl
theorem q3182 : (Jvm.Cond.privateMethod ({ cls := "ColourOfficeModel", name := "writeNumber", desc := "(I)V" } : Jvm.MethodName)) ∈ lw_tbl := lw_at lw_m13 192 rfl
theorem q3183 : (Jvm.Cond.instanceMethod ({ cls := "ColourOfficeModel", name := "writeNumber", desc := "(I)V" } : Jvm.MethodName)) ∈ lw_all := lw_g (lw_at lw_m13 193 rfl) rfl
theorem q3184 : (Jvm.Cond.code ({ cls := "ColourOfficeModel", name := "writeNumber", desc := "(I)V" } : Jvm.MethodName) prog_22_method_107_code (3 : Nat) (Option.none : Option Jvm.ClassFile.FieldType)) ∈ lw_all := lw_g (lw_at lw_m13 194 rfl) rfl
theorem q3185 : (Jvm.Cond.methodLink "ColourOfficeModel" (271 : Nat) ({ cls := "ColourOfficeModel", name := "write", desc := "(I)V" } : Jvm.MethodName)) ∈ lw_all := lw_g (lw_at lw_m13 195 rfl) rfl
theorem q3186 : (Jvm.Cond.privateMethod ({ cls := "ColourOfficeModel", name := "write", desc := "(I)V" } : Jvm.MethodName)) ∈ lw_tbl := lw_at lw_m13 196 rfl
theorem q3187 : (Jvm.Cond.instanceMethod ({ cls := "ColourOfficeModel", name := "write", desc := "(I)V" } : Jvm.MethodName)) ∈ lw_all := lw_g (lw_at lw_m13 197 rfl) rfl
theorem q3188 : (Jvm.Cond.code ({ cls := "ColourOfficeModel", name := "write", desc := "(I)V" } : Jvm.MethodName) prog_22_method_106_code (2 : Nat) (Option.none : Option Jvm.ClassFile.FieldType)) ∈ lw_all := lw_g (lw_at lw_m13 198 rfl) rfl
theorem q3189 : (Jvm.Cond.methodLink "ColourOfficeModel" (277 : Nat) ({ cls := "ColourOfficeModel", name := "writeParts", desc := "(I)V" } : Jvm.MethodName)) ∈ lw_all := lw_g (lw_at lw_m13 199 rfl) rfl
theorem q3190 : (Jvm.Cond.privateMethod ({ cls := "ColourOfficeModel", name := "writeParts", desc := "(I)V" } : Jvm.MethodName)) ∈ lw_tbl := lw_at lw_m13 200 rfl
theorem q3191 : (Jvm.Cond.instanceMethod ({ cls := "ColourOfficeModel", name := "writeParts", desc := "(I)V" } : Jvm.MethodName)) ∈ lw_all := lw_g (lw_at lw_m13 201 rfl) rfl
theorem q3192 : (Jvm.Cond.code ({ cls := "ColourOfficeModel", name := "writeParts", desc := "(I)V" } : Jvm.MethodName) prog_22_method_108_code (3 : Nat) (Option.none : Option Jvm.ClassFile.FieldType)) ∈ lw_all := lw_g (lw_at lw_m13 202 rfl) rfl
theorem q3194 : (Jvm.Cond.instanceMethod ({ cls := "ColourOfficeModel", name := "renderReport", desc := "(I)I" } : Jvm.MethodName)) ∈ lw_all := lw_g (lw_at lw_m13 204 rfl) rfl
theorem q3195 : (Jvm.Cond.selects "ColourOfficeModel" ({ cls := "ColourOfficeModel", name := "renderReport", desc := "(I)I" } : Jvm.MethodName) ({ cls := "ColourOfficeModel", name := "renderReport", desc := "(I)I" } : Jvm.MethodName)) ∈ lw_all := lw_g (lw_at lw_m13 205 rfl) rfl
theorem q3196 : (Jvm.Cond.code ({ cls := "ColourOfficeModel", name := "renderReport", desc := "(I)I" } : Jvm.MethodName) prog_22_method_110_code (3 : Nat) (Option.some Jvm.ClassFile.FieldType.int)) ∈ lw_all := lw_g (lw_at lw_m13 206 rfl) rfl
theorem q3198 : (Jvm.Cond.instanceMethod ({ cls := "ColourOfficeModel", name := "outputAt", desc := "(I)C" } : Jvm.MethodName)) ∈ lw_all := lw_g (lw_at lw_m13 208 rfl) rfl
theorem q3199 : (Jvm.Cond.selects "ColourOfficeModel" ({ cls := "ColourOfficeModel", name := "outputAt", desc := "(I)C" } : Jvm.MethodName) ({ cls := "ColourOfficeModel", name := "outputAt", desc := "(I)C" } : Jvm.MethodName)) ∈ lw_all := lw_g (lw_at lw_m13 209 rfl) rfl
theorem q3200 : (Jvm.Cond.code ({ cls := "ColourOfficeModel", name := "outputAt", desc := "(I)C" } : Jvm.MethodName) prog_22_method_111_code (2 : Nat) (Option.some Jvm.ClassFile.FieldType.char)) ∈ lw_all := lw_g (lw_at lw_m13 210 rfl) rfl
theorem q3202 : (Jvm.Cond.instanceMethod ({ cls := "ColourOfficeModel", name := "type", desc := "(C)I" } : Jvm.MethodName)) ∈ lw_all := lw_g (lw_at lw_m13 212 rfl) rfl
theorem q3203 : (Jvm.Cond.selects "ColourOfficeModel" ({ cls := "ColourOfficeModel", name := "type", desc := "(C)I" } : Jvm.MethodName) ({ cls := "ColourOfficeModel", name := "type", desc := "(C)I" } : Jvm.MethodName)) ∈ lw_all := lw_g (lw_at lw_m13 213 rfl) rfl
theorem q3204 : (Jvm.Cond.code ({ cls := "ColourOfficeModel", name := "type", desc := "(C)I" } : Jvm.MethodName) prog_22_method_112_code (2 : Nat) (Option.some Jvm.ClassFile.FieldType.int)) ∈ lw_all := lw_g (lw_at lw_m13 214 rfl) rfl
theorem q3206 : (Jvm.Cond.instanceMethod ({ cls := "ColourOfficeModel", name := "runScript", desc := "()I" } : Jvm.MethodName)) ∈ lw_all := lw_g (lw_at lw_m13 216 rfl) rfl
theorem q3207 : (Jvm.Cond.selects "ColourOfficeModel" ({ cls := "ColourOfficeModel", name := "runScript", desc := "()I" } : Jvm.MethodName) ({ cls := "ColourOfficeModel", name := "runScript", desc := "()I" } : Jvm.MethodName)) ∈ lw_all := lw_g (lw_at lw_m13 217 rfl) rfl
theorem q3208 : (Jvm.Cond.code ({ cls := "ColourOfficeModel", name := "runScript", desc := "()I" } : Jvm.MethodName) prog_22_method_127_code (5 : Nat) (Option.some Jvm.ClassFile.FieldType.int)) ∈ lw_all := lw_g (lw_at lw_m13 218 rfl) rfl
theorem q3209 : (Jvm.Cond.methodLink "ColourOfficeModel" (315 : Nat) ({ cls := "ColourOfficeModel", name := "parse", desc := "()V" } : Jvm.MethodName)) ∈ lw_all := lw_g (lw_at lw_m13 219 rfl) rfl
theorem q3210 : (Jvm.Cond.privateMethod ({ cls := "ColourOfficeModel", name := "parse", desc := "()V" } : Jvm.MethodName)) ∈ lw_tbl := lw_at lw_m13 220 rfl
theorem q3211 : (Jvm.Cond.instanceMethod ({ cls := "ColourOfficeModel", name := "parse", desc := "()V" } : Jvm.MethodName)) ∈ lw_all := lw_g (lw_at lw_m13 221 rfl) rfl
theorem q3212 : (Jvm.Cond.code ({ cls := "ColourOfficeModel", name := "parse", desc := "()V" } : Jvm.MethodName) prog_22_method_123_code (1 : Nat) (Option.none : Option Jvm.ClassFile.FieldType)) ∈ lw_all := lw_g (lw_at lw_m13 222 rfl) rfl
theorem q3213 : (Jvm.Cond.methodLink "ColourOfficeModel" (309 : Nat) ({ cls := "ColourOfficeModel", name := "command", desc := "()V" } : Jvm.MethodName)) ∈ lw_all := lw_g (lw_at lw_m13 223 rfl) rfl
theorem q3214 : (Jvm.Cond.privateMethod ({ cls := "ColourOfficeModel", name := "command", desc := "()V" } : Jvm.MethodName)) ∈ lw_tbl := lw_at lw_m13 224 rfl
theorem q3215 : (Jvm.Cond.instanceMethod ({ cls := "ColourOfficeModel", name := "command", desc := "()V" } : Jvm.MethodName)) ∈ lw_all := lw_g (lw_at lw_m13 225 rfl) rfl
theorem q3216 : (Jvm.Cond.code ({ cls := "ColourOfficeModel", name := "command", desc := "()V" } : Jvm.MethodName) prog_22_method_122_code (2 : Nat) (Option.none : Option Jvm.ClassFile.FieldType)) ∈ lw_all := lw_g (lw_at lw_m13 226 rfl) rfl
theorem q3217 : (Jvm.Cond.methodLink "ColourOfficeModel" (303 : Nat) ({ cls := "ColourOfficeModel", name := "word", desc := "()I" } : Jvm.MethodName)) ∈ lw_all := lw_g (lw_at lw_m13 227 rfl) rfl
theorem q3218 : (Jvm.Cond.privateMethod ({ cls := "ColourOfficeModel", name := "word", desc := "()I" } : Jvm.MethodName)) ∈ lw_tbl := lw_at lw_m13 228 rfl
theorem q3219 : (Jvm.Cond.instanceMethod ({ cls := "ColourOfficeModel", name := "word", desc := "()I" } : Jvm.MethodName)) ∈ lw_all := lw_g (lw_at lw_m13 229 rfl) rfl
theorem q3220 : (Jvm.Cond.code ({ cls := "ColourOfficeModel", name := "word", desc := "()I" } : Jvm.MethodName) prog_22_method_120_code (4 : Nat) (Option.some Jvm.ClassFile.FieldType.int)) ∈ lw_all := lw_g (lw_at lw_m13 230 rfl) rfl
theorem q3221 : (Jvm.Cond.methodLink "ColourOfficeModel" (294 : Nat) ({ cls := "ColourOfficeModel", name := "spelled", desc := "(II)I" } : Jvm.MethodName)) ∈ lw_all := lw_g (lw_at lw_m13 231 rfl) rfl
theorem q3222 : (Jvm.Cond.static ({ cls := "ColourOfficeModel", name := "spelled", desc := "(II)I" } : Jvm.MethodName)) ∈ lw_all := lw_g (lw_at lw_m13 232 rfl) rfl
theorem q3223 : (Jvm.Cond.code ({ cls := "ColourOfficeModel", name := "spelled", desc := "(II)I" } : Jvm.MethodName) prog_22_method_119_code (2 : Nat) (Option.some Jvm.ClassFile.FieldType.int)) ∈ lw_all := lw_g (lw_at lw_m13 233 rfl) rfl
theorem q3224 : (Jvm.Cond.methodLink "ColourOfficeModel" (290 : Nat) ({ cls := "ColourOfficeModel", name := "pick", desc := "(IIIIIIII)I" } : Jvm.MethodName)) ∈ lw_all := lw_g (lw_at lw_m13 234 rfl) rfl
theorem q3225 : (Jvm.Cond.static ({ cls := "ColourOfficeModel", name := "pick", desc := "(IIIIIIII)I" } : Jvm.MethodName)) ∈ lw_all := lw_g (lw_at lw_m13 235 rfl) rfl
theorem q3226 : (Jvm.Cond.code ({ cls := "ColourOfficeModel", name := "pick", desc := "(IIIIIIII)I" } : Jvm.MethodName) prog_22_method_118_code (8 : Nat) (Option.some Jvm.ClassFile.FieldType.int)) ∈ lw_all := lw_g (lw_at lw_m13 236 rfl) rfl
theorem q3227 : (Jvm.Cond.methodLink "ColourOfficeModel" (306 : Nat) ({ cls := "ColourOfficeModel", name := "readsArguments", desc := "(I)V" } : Jvm.MethodName)) ∈ lw_all := lw_g (lw_at lw_m13 237 rfl) rfl
theorem q3228 : (Jvm.Cond.privateMethod ({ cls := "ColourOfficeModel", name := "readsArguments", desc := "(I)V" } : Jvm.MethodName)) ∈ lw_tbl := lw_at lw_m13 238 rfl
theorem q3229 : (Jvm.Cond.instanceMethod ({ cls := "ColourOfficeModel", name := "readsArguments", desc := "(I)V" } : Jvm.MethodName)) ∈ lw_all := lw_g (lw_at lw_m13 239 rfl) rfl
theorem q3230 : (Jvm.Cond.code ({ cls := "ColourOfficeModel", name := "readsArguments", desc := "(I)V" } : Jvm.MethodName) prog_22_method_121_code (2 : Nat) (Option.none : Option Jvm.ClassFile.FieldType)) ∈ lw_all := lw_g (lw_at lw_m14 0 rfl) rfl
theorem q3231 : (Jvm.Cond.methodLink "ColourOfficeModel" (297 : Nat) ({ cls := "ColourOfficeModel", name := "readsColour", desc := "()V" } : Jvm.MethodName)) ∈ lw_all := lw_g (lw_at lw_m14 1 rfl) rfl
theorem q3232 : (Jvm.Cond.privateMethod ({ cls := "ColourOfficeModel", name := "readsColour", desc := "()V" } : Jvm.MethodName)) ∈ lw_tbl := lw_at lw_m14 2 rfl
theorem q3233 : (Jvm.Cond.instanceMethod ({ cls := "ColourOfficeModel", name := "readsColour", desc := "()V" } : Jvm.MethodName)) ∈ lw_all := lw_g (lw_at lw_m14 3 rfl) rfl
theorem q3234 : (Jvm.Cond.code ({ cls := "ColourOfficeModel", name := "readsColour", desc := "()V" } : Jvm.MethodName) prog_22_method_116_code (1 : Nat) (Option.none : Option Jvm.ClassFile.FieldType)) ∈ lw_all := lw_g (lw_at lw_m14 4 rfl) rfl
theorem q3235 : (Jvm.Cond.methodLink "ColourOfficeModel" (286 : Nat) ({ cls := "ColourOfficeModel", name := "reads", desc := "(II)V" } : Jvm.MethodName)) ∈ lw_all := lw_g (lw_at lw_m14 5 rfl) rfl
theorem q3236 : (Jvm.Cond.privateMethod ({ cls := "ColourOfficeModel", name := "reads", desc := "(II)V" } : Jvm.MethodName)) ∈ lw_tbl := lw_at lw_m14 6 rfl
theorem q3237 : (Jvm.Cond.instanceMethod ({ cls := "ColourOfficeModel", name := "reads", desc := "(II)V" } : Jvm.MethodName)) ∈ lw_all := lw_g (lw_at lw_m14 7 rfl) rfl
theorem q3238 : (Jvm.Cond.code ({ cls := "ColourOfficeModel", name := "reads", desc := "(II)V" } : Jvm.MethodName) prog_22_method_115_code (3 : Nat) (Option.none : Option Jvm.ClassFile.FieldType)) ∈ lw_all := lw_g (lw_at lw_m14 8 rfl) rfl
theorem q3239 : (Jvm.Cond.methodLink "ColourOfficeModel" (280 : Nat) ({ cls := "ColourOfficeModel", name := "mark", desc := "()I" } : Jvm.MethodName)) ∈ lw_all := lw_g (lw_at lw_m14 9 rfl) rfl
theorem q3240 : (Jvm.Cond.privateMethod ({ cls := "ColourOfficeModel", name := "mark", desc := "()I" } : Jvm.MethodName)) ∈ lw_tbl := lw_at lw_m14 10 rfl
theorem q3241 : (Jvm.Cond.instanceMethod ({ cls := "ColourOfficeModel", name := "mark", desc := "()I" } : Jvm.MethodName)) ∈ lw_all := lw_g (lw_at lw_m14 11 rfl) rfl
theorem q3242 : (Jvm.Cond.code ({ cls := "ColourOfficeModel", name := "mark", desc := "()I" } : Jvm.MethodName) prog_22_method_113_code (1 : Nat) (Option.some Jvm.ClassFile.FieldType.int)) ∈ lw_all := lw_g (lw_at lw_m14 12 rfl) rfl
theorem q3243 : (Jvm.Cond.methodLink "ColourOfficeModel" (283 : Nat) ({ cls := "ColourOfficeModel", name := "number", desc := "()I" } : Jvm.MethodName)) ∈ lw_all := lw_g (lw_at lw_m14 13 rfl) rfl
theorem q3244 : (Jvm.Cond.privateMethod ({ cls := "ColourOfficeModel", name := "number", desc := "()I" } : Jvm.MethodName)) ∈ lw_tbl := lw_at lw_m14 14 rfl
theorem q3245 : (Jvm.Cond.instanceMethod ({ cls := "ColourOfficeModel", name := "number", desc := "()I" } : Jvm.MethodName)) ∈ lw_all := lw_g (lw_at lw_m14 15 rfl) rfl
theorem q3246 : (Jvm.Cond.code ({ cls := "ColourOfficeModel", name := "number", desc := "()I" } : Jvm.MethodName) prog_22_method_114_code (3 : Nat) (Option.some Jvm.ClassFile.FieldType.int)) ∈ lw_all := lw_g (lw_at lw_m14 16 rfl) rfl
theorem q3247 : (Jvm.Cond.methodLink "ColourOfficeModel" (300 : Nat) ({ cls := "ColourOfficeModel", name := "readsMetric", desc := "()V" } : Jvm.MethodName)) ∈ lw_all := lw_g (lw_at lw_m14 17 rfl) rfl
theorem q3248 : (Jvm.Cond.privateMethod ({ cls := "ColourOfficeModel", name := "readsMetric", desc := "()V" } : Jvm.MethodName)) ∈ lw_tbl := lw_at lw_m14 18 rfl
theorem q3249 : (Jvm.Cond.instanceMethod ({ cls := "ColourOfficeModel", name := "readsMetric", desc := "()V" } : Jvm.MethodName)) ∈ lw_all := lw_g (lw_at lw_m14 19 rfl) rfl
theorem q3250 : (Jvm.Cond.code ({ cls := "ColourOfficeModel", name := "readsMetric", desc := "()V" } : Jvm.MethodName) prog_22_method_117_code (1 : Nat) (Option.none : Option Jvm.ClassFile.FieldType)) ∈ lw_all := lw_g (lw_at lw_m14 20 rfl) rfl
theorem q3251 : (Jvm.Cond.methodLink "ColourOfficeModel" (318 : Nat) ({ cls := "ColourOfficeModel", name := "why", desc := "(IIIIII)I" } : Jvm.MethodName)) ∈ lw_all := lw_g (lw_at lw_m14 21 rfl) rfl
theorem q3252 : (Jvm.Cond.privateMethod ({ cls := "ColourOfficeModel", name := "why", desc := "(IIIIII)I" } : Jvm.MethodName)) ∈ lw_tbl := lw_at lw_m14 22 rfl
theorem q3253 : (Jvm.Cond.instanceMethod ({ cls := "ColourOfficeModel", name := "why", desc := "(IIIIII)I" } : Jvm.MethodName)) ∈ lw_all := lw_g (lw_at lw_m14 23 rfl) rfl
theorem q3254 : (Jvm.Cond.code ({ cls := "ColourOfficeModel", name := "why", desc := "(IIIIII)I" } : Jvm.MethodName) prog_22_method_125_code (7 : Nat) (Option.some Jvm.ClassFile.FieldType.int)) ∈ lw_all := lw_g (lw_at lw_m14 24 rfl) rfl
theorem q3255 : (Jvm.Cond.methodLink "ColourOfficeModel" (312 : Nat) ({ cls := "ColourOfficeModel", name := "kindOf", desc := "(III)I" } : Jvm.MethodName)) ∈ lw_all := lw_g (lw_at lw_m14 25 rfl) rfl
theorem q3256 : (Jvm.Cond.static ({ cls := "ColourOfficeModel", name := "kindOf", desc := "(III)I" } : Jvm.MethodName)) ∈ lw_all := lw_g (lw_at lw_m14 26 rfl) rfl
theorem q3257 : (Jvm.Cond.code ({ cls := "ColourOfficeModel", name := "kindOf", desc := "(III)I" } : Jvm.MethodName) prog_22_method_124_code (3 : Nat) (Option.some Jvm.ClassFile.FieldType.int)) ∈ lw_all := lw_g (lw_at lw_m14 27 rfl) rfl
theorem q3258 : (Jvm.Cond.methodLink "ColourOfficeModel" (322 : Nat) ({ cls := "ColourOfficeModel", name := "does", desc := "(IIIIII)I" } : Jvm.MethodName)) ∈ lw_all := lw_g (lw_at lw_m14 28 rfl) rfl
theorem q3259 : (Jvm.Cond.privateMethod ({ cls := "ColourOfficeModel", name := "does", desc := "(IIIIII)I" } : Jvm.MethodName)) ∈ lw_tbl := lw_at lw_m14 29 rfl
theorem q3260 : (Jvm.Cond.instanceMethod ({ cls := "ColourOfficeModel", name := "does", desc := "(IIIIII)I" } : Jvm.MethodName)) ∈ lw_all := lw_g (lw_at lw_m14 30 rfl) rfl
theorem q3261 : (Jvm.Cond.code ({ cls := "ColourOfficeModel", name := "does", desc := "(IIIIII)I" } : Jvm.MethodName) prog_22_method_126_code (7 : Nat) (Option.some Jvm.ClassFile.FieldType.int)) ∈ lw_all := lw_g (lw_at lw_m14 31 rfl) rfl
theorem q3263 : (Jvm.Cond.instanceMethod ({ cls := "ColourOfficeModel", name := "errorPosition", desc := "()I" } : Jvm.MethodName)) ∈ lw_all := lw_g (lw_at lw_m14 33 rfl) rfl
theorem q3264 : (Jvm.Cond.selects "ColourOfficeModel" ({ cls := "ColourOfficeModel", name := "errorPosition", desc := "()I" } : Jvm.MethodName) ({ cls := "ColourOfficeModel", name := "errorPosition", desc := "()I" } : Jvm.MethodName)) ∈ lw_all := lw_g (lw_at lw_m14 34 rfl) rfl
theorem q3265 : (Jvm.Cond.code ({ cls := "ColourOfficeModel", name := "errorPosition", desc := "()I" } : Jvm.MethodName) prog_22_method_129_code (1 : Nat) (Option.some Jvm.ClassFile.FieldType.int)) ∈ lw_all := lw_g (lw_at lw_m14 35 rfl) rfl
theorem q3266 : (Jvm.Cond.methodLink "ColourOfficeModel" (325 : Nat) ({ cls := "ColourOfficeModel", name := "present", desc := "(I)I" } : Jvm.MethodName)) ∈ lw_all := lw_g (lw_at lw_m14 36 rfl) rfl
theorem q3267 : (Jvm.Cond.privateMethod ({ cls := "ColourOfficeModel", name := "present", desc := "(I)I" } : Jvm.MethodName)) ∈ lw_tbl := lw_at lw_m14 37 rfl
theorem q3268 : (Jvm.Cond.instanceMethod ({ cls := "ColourOfficeModel", name := "present", desc := "(I)I" } : Jvm.MethodName)) ∈ lw_all := lw_g (lw_at lw_m14 38 rfl) rfl
theorem q3269 : (Jvm.Cond.code ({ cls := "ColourOfficeModel", name := "present", desc := "(I)I" } : Jvm.MethodName) prog_22_method_128_code (2 : Nat) (Option.some Jvm.ClassFile.FieldType.int)) ∈ lw_all := lw_g (lw_at lw_m14 39 rfl) rfl
theorem q3271 : (Jvm.Cond.instanceMethod ({ cls := "ColourOfficeModel", name := "failedCommand", desc := "()I" } : Jvm.MethodName)) ∈ lw_all := lw_g (lw_at lw_m14 41 rfl) rfl
theorem q3272 : (Jvm.Cond.selects "ColourOfficeModel" ({ cls := "ColourOfficeModel", name := "failedCommand", desc := "()I" } : Jvm.MethodName) ({ cls := "ColourOfficeModel", name := "failedCommand", desc := "()I" } : Jvm.MethodName)) ∈ lw_all := lw_g (lw_at lw_m14 42 rfl) rfl
theorem q3273 : (Jvm.Cond.code ({ cls := "ColourOfficeModel", name := "failedCommand", desc := "()I" } : Jvm.MethodName) prog_22_method_130_code (1 : Nat) (Option.some Jvm.ClassFile.FieldType.int)) ∈ lw_all := lw_g (lw_at lw_m14 43 rfl) rfl
theorem q3275 : (Jvm.Cond.instanceMethod ({ cls := "ColourOfficeModel", name := "failureKind", desc := "()C" } : Jvm.MethodName)) ∈ lw_all := lw_g (lw_at lw_m14 45 rfl) rfl
theorem q3276 : (Jvm.Cond.selects "ColourOfficeModel" ({ cls := "ColourOfficeModel", name := "failureKind", desc := "()C" } : Jvm.MethodName) ({ cls := "ColourOfficeModel", name := "failureKind", desc := "()C" } : Jvm.MethodName)) ∈ lw_all := lw_g (lw_at lw_m14 46 rfl) rfl
theorem q3277 : (Jvm.Cond.code ({ cls := "ColourOfficeModel", name := "failureKind", desc := "()C" } : Jvm.MethodName) prog_22_method_131_code (1 : Nat) (Option.some Jvm.ClassFile.FieldType.char)) ∈ lw_all := lw_g (lw_at lw_m14 47 rfl) rfl
theorem q3279 : (Jvm.Cond.instanceMethod ({ cls := "ColourOfficeModel", name := "undo", desc := "()I" } : Jvm.MethodName)) ∈ lw_all := lw_g (lw_at lw_m14 49 rfl) rfl
theorem q3280 : (Jvm.Cond.selects "ColourOfficeModel" ({ cls := "ColourOfficeModel", name := "undo", desc := "()I" } : Jvm.MethodName) ({ cls := "ColourOfficeModel", name := "undo", desc := "()I" } : Jvm.MethodName)) ∈ lw_all := lw_g (lw_at lw_m14 50 rfl) rfl
theorem q3281 : (Jvm.Cond.code ({ cls := "ColourOfficeModel", name := "undo", desc := "()I" } : Jvm.MethodName) prog_22_method_132_code (1 : Nat) (Option.some Jvm.ClassFile.FieldType.int)) ∈ lw_all := lw_g (lw_at lw_m14 51 rfl) rfl
theorem q3283 : (Jvm.Cond.instanceMethod ({ cls := "ColourOfficeModel", name := "save", desc := "()I" } : Jvm.MethodName)) ∈ lw_all := lw_g (lw_at lw_m14 53 rfl) rfl
theorem q3284 : (Jvm.Cond.selects "ColourOfficeModel" ({ cls := "ColourOfficeModel", name := "save", desc := "()I" } : Jvm.MethodName) ({ cls := "ColourOfficeModel", name := "save", desc := "()I" } : Jvm.MethodName)) ∈ lw_all := lw_g (lw_at lw_m14 54 rfl) rfl
theorem q3285 : (Jvm.Cond.code ({ cls := "ColourOfficeModel", name := "save", desc := "()I" } : Jvm.MethodName) prog_22_method_133_code (1 : Nat) (Option.some Jvm.ClassFile.FieldType.int)) ∈ lw_all := lw_g (lw_at lw_m14 55 rfl) rfl
theorem q3287 : (Jvm.Cond.instanceMethod ({ cls := "ColourOfficeModel", name := "restore", desc := "()I" } : Jvm.MethodName)) ∈ lw_all := lw_g (lw_at lw_m14 57 rfl) rfl
theorem q3288 : (Jvm.Cond.selects "ColourOfficeModel" ({ cls := "ColourOfficeModel", name := "restore", desc := "()I" } : Jvm.MethodName) ({ cls := "ColourOfficeModel", name := "restore", desc := "()I" } : Jvm.MethodName)) ∈ lw_all := lw_g (lw_at lw_m14 58 rfl) rfl
theorem q3289 : (Jvm.Cond.code ({ cls := "ColourOfficeModel", name := "restore", desc := "()I" } : Jvm.MethodName) prog_22_method_134_code (1 : Nat) (Option.some Jvm.ClassFile.FieldType.int)) ∈ lw_all := lw_g (lw_at lw_m14 59 rfl) rfl
theorem q3316 : (Jvm.Cond.castable "ColourOfficeModel" "java/lang/Object") ∈ lw_tbl := lw_at lw_m14 86 rfl
theorem q125 : (Jvm.Cond.initialized "ColourOffice$Shelf$Walk") ∈ lw_all := lw_g (lw_at lw_m1 15 rfl) rfl
theorem q187 : (Jvm.Cond.fieldLinkNest "ColourOffice$Shelf$Walk" (29 : Nat) "ColourOffice$Shelf" "places" "[LColourOffice$Found;" "ColourOffice") ∈ lw_tbl := lw_at lw_m1 77 rfl
theorem q188 : (Jvm.Cond.fieldLinkNest "ColourOffice$Shelf$Walk" (17 : Nat) "ColourOffice$Shelf" "count" "I" "ColourOffice") ∈ lw_tbl := lw_at lw_m1 78 rfl
theorem q376 : (Jvm.Cond.instantiable "ColourOffice$Shelf$Walk" (2 : Nat)) ∈ lw_all := lw_g (lw_at lw_m2 26 rfl) rfl
theorem q378 : (Jvm.Cond.instanceMethod ({ cls := "ColourOffice$Shelf$Walk", name := "<init>", desc := "(LColourOffice$Shelf;)V" } : Jvm.MethodName)) ∈ lw_all := lw_g (lw_at lw_m2 28 rfl) rfl
theorem q379 : (Jvm.Cond.code ({ cls := "ColourOffice$Shelf$Walk", name := "<init>", desc := "(LColourOffice$Shelf;)V" } : Jvm.MethodName) prog_16_method_1_code (2 : Nat) (Option.none : Option Jvm.ClassFile.FieldType)) ∈ lw_all := lw_g (lw_at lw_m2 29 rfl) rfl
theorem q380 : (Jvm.Cond.methodLink "ColourOffice$Shelf$Walk" (7 : Nat) ({ cls := "java/lang/Object", name := "<init>", desc := "()V" } : Jvm.MethodName)) ∈ lw_all := lw_g (lw_at lw_m2 30 rfl) rfl
theorem q381 : (Jvm.Cond.fieldLink "ColourOffice$Shelf$Walk" (13 : Nat) "ColourOffice$Shelf$Walk" "next" "I") ∈ lw_all := lw_g (lw_at lw_m2 31 rfl) rfl
theorem q382 : (Jvm.Cond.fieldLink "ColourOffice$Shelf$Walk" (1 : Nat) "ColourOffice$Shelf$Walk" "this$0" "LColourOffice$Shelf;") ∈ lw_all := lw_g (lw_at lw_m2 32 rfl) rfl
theorem q383 : (Jvm.Cond.lays "ColourOffice$Shelf$Walk" "ColourOffice$Shelf$Walk" "next" "I") ∈ lw_all := lw_g (lw_at lw_m2 33 rfl) rfl
theorem q384 : (Jvm.Cond.soleField "ColourOffice$Shelf$Walk" "next") ∈ lw_all := lw_g (lw_at lw_m2 34 rfl) rfl
theorem q385 : (Jvm.Cond.laysFinal "ColourOffice$Shelf$Walk" "ColourOffice$Shelf$Walk" "this$0" "LColourOffice$Shelf;") ∈ lw_all := lw_g (lw_at lw_m2 35 rfl) rfl
theorem q386 : (Jvm.Cond.soleField "ColourOffice$Shelf$Walk" "this$0") ∈ lw_all := lw_g (lw_at lw_m2 36 rfl) rfl
theorem q387 : (Jvm.Cond.superclass "ColourOffice$Shelf$Walk" "java/lang/Object") ∈ lw_all := lw_g (lw_at lw_m2 37 rfl) rfl
theorem q393 : (Jvm.Cond.castable "ColourOffice$Shelf$Walk" "java/util/Iterator") ∈ lw_tbl := lw_at lw_m2 43 rfl
theorem q394 : (Jvm.Cond.selects "ColourOffice$Shelf$Walk" ({ cls := "java/util/Iterator", name := "hasNext", desc := "()Z" } : Jvm.MethodName) ({ cls := "ColourOffice$Shelf$Walk", name := "hasNext", desc := "()Z" } : Jvm.MethodName)) ∈ lw_all := lw_g (lw_at lw_m2 44 rfl) rfl
theorem q395 : (Jvm.Cond.unhidden "ColourOffice$Shelf$Walk" "hasNext" "()Z") ∈ lw_tbl := lw_at lw_m2 45 rfl
theorem q396 : (Jvm.Cond.instanceMethod ({ cls := "ColourOffice$Shelf$Walk", name := "hasNext", desc := "()Z" } : Jvm.MethodName)) ∈ lw_all := lw_g (lw_at lw_m2 46 rfl) rfl
theorem q397 : (Jvm.Cond.publicMethod ({ cls := "ColourOffice$Shelf$Walk", name := "hasNext", desc := "()Z" } : Jvm.MethodName)) ∈ lw_tbl := lw_at lw_m2 47 rfl
theorem q398 : (Jvm.Cond.code ({ cls := "ColourOffice$Shelf$Walk", name := "hasNext", desc := "()Z" } : Jvm.MethodName) prog_16_method_2_code (1 : Nat) (Option.some Jvm.ClassFile.FieldType.boolean)) ∈ lw_all := lw_g (lw_at lw_m2 48 rfl) rfl
theorem q403 : (Jvm.Cond.selects "ColourOffice$Shelf$Walk" ({ cls := "java/util/Iterator", name := "next", desc := "()Ljava/lang/Object;" } : Jvm.MethodName) ({ cls := "ColourOffice$Shelf$Walk", name := "next", desc := "()Ljava/lang/Object;" } : Jvm.MethodName)) ∈ lw_all := lw_g (lw_at lw_m2 53 rfl) rfl
theorem q404 : (Jvm.Cond.unhidden "ColourOffice$Shelf$Walk" "next" "()Ljava/lang/Object;") ∈ lw_tbl := lw_at lw_m2 54 rfl
theorem q405 : (Jvm.Cond.instanceMethod ({ cls := "ColourOffice$Shelf$Walk", name := "next", desc := "()Ljava/lang/Object;" } : Jvm.MethodName)) ∈ lw_all := lw_g (lw_at lw_m2 55 rfl) rfl
theorem q406 : (Jvm.Cond.publicMethod ({ cls := "ColourOffice$Shelf$Walk", name := "next", desc := "()Ljava/lang/Object;" } : Jvm.MethodName)) ∈ lw_tbl := lw_at lw_m2 56 rfl
theorem q407 : (Jvm.Cond.code ({ cls := "ColourOffice$Shelf$Walk", name := "next", desc := "()Ljava/lang/Object;" } : Jvm.MethodName) prog_16_method_4_code (1 : Nat) (Option.some (Jvm.ClassFile.FieldType.object "java/lang/Object"))) ∈ lw_all := lw_g (lw_at lw_m2 57 rfl) rfl
theorem q408 : (Jvm.Cond.methodLink "ColourOffice$Shelf$Walk" (33 : Nat) ({ cls := "ColourOffice$Shelf$Walk", name := "next", desc := "()LColourOffice$Found;" } : Jvm.MethodName)) ∈ lw_all := lw_g (lw_at lw_m2 58 rfl) rfl
theorem q409 : (Jvm.Cond.instanceMethod ({ cls := "ColourOffice$Shelf$Walk", name := "next", desc := "()LColourOffice$Found;" } : Jvm.MethodName)) ∈ lw_all := lw_g (lw_at lw_m2 59 rfl) rfl
theorem q410 : (Jvm.Cond.selects "ColourOffice$Shelf$Walk" ({ cls := "ColourOffice$Shelf$Walk", name := "next", desc := "()LColourOffice$Found;" } : Jvm.MethodName) ({ cls := "ColourOffice$Shelf$Walk", name := "next", desc := "()LColourOffice$Found;" } : Jvm.MethodName)) ∈ lw_all := lw_g (lw_at lw_m2 60 rfl) rfl
theorem q411 : (Jvm.Cond.code ({ cls := "ColourOffice$Shelf$Walk", name := "next", desc := "()LColourOffice$Found;" } : Jvm.MethodName) prog_16_method_3_code (1 : Nat) (Option.some (Jvm.ClassFile.FieldType.object "ColourOffice$Found"))) ∈ lw_all := lw_g (lw_at lw_m2 61 rfl) rfl
theorem q412 : (Jvm.Cond.methodLink "ColourOffice$Shelf$Walk" (22 : Nat) ({ cls := "ColourOffice$Shelf$Walk", name := "hasNext", desc := "()Z" } : Jvm.MethodName)) ∈ lw_all := lw_g (lw_at lw_m2 62 rfl) rfl
theorem q413 : (Jvm.Cond.classLink "ColourOffice$Shelf$Walk" (26 : Nat) "java/util/NoSuchElementException") ∈ lw_all := lw_g (lw_at lw_m2 63 rfl) rfl
theorem q462 : (Jvm.Cond.methodLink "ColourOffice$Shelf$Walk" (28 : Nat) ({ cls := "java/util/NoSuchElementException", name := "<init>", desc := "()V" } : Jvm.MethodName)) ∈ lw_all := lw_g (lw_at lw_m2 112 rfl) rfl
theorem q878 : (Jvm.Cond.selects "ColourOffice$Shelf$Walk" ({ cls := "java/lang/Object", name := "getClass", desc := "()Ljava/lang/Class;" } : Jvm.MethodName) ({ cls := "java/lang/Object", name := "getClass", desc := "()Ljava/lang/Class;" } : Jvm.MethodName)) ∈ lw_all := lw_g (lw_at lw_m4 48 rfl) rfl
theorem q2406 : (Jvm.Cond.selects "ColourOffice$Shelf$Walk" ({ cls := "java/lang/Object", name := "toString", desc := "()Ljava/lang/String;" } : Jvm.MethodName) ({ cls := "java/lang/Object", name := "toString", desc := "()Ljava/lang/String;" } : Jvm.MethodName)) ∈ lw_all := lw_g (lw_at lw_m10 136 rfl) rfl
theorem q3291 : (Jvm.Cond.selects "ColourOffice$Shelf$Walk" ({ cls := "ColourOffice$Shelf$Walk", name := "hasNext", desc := "()Z" } : Jvm.MethodName) ({ cls := "ColourOffice$Shelf$Walk", name := "hasNext", desc := "()Z" } : Jvm.MethodName)) ∈ lw_all := lw_g (lw_at lw_m14 61 rfl) rfl
theorem q3317 : (Jvm.Cond.castable "ColourOffice$Shelf$Walk" "java/lang/Object") ∈ lw_tbl := lw_at lw_m14 87 rfl
theorem q126 : (Jvm.Cond.initialized "java/lang/Throwable") ∈ lw_all := lw_g (lw_at lw_m1 16 rfl) rfl
theorem q420 : (Jvm.Cond.declares ({ cls := "java/lang/Throwable", name := "<init>", desc := "()V" } : Jvm.MethodName)) ∈ lw_tbl := lw_at lw_m2 70 rfl
theorem q421 : (Jvm.Cond.declares ({ cls := "java/lang/Throwable", name := "<init>", desc := "(Ljava/lang/String;)V" } : Jvm.MethodName)) ∈ lw_tbl := lw_at lw_m2 71 rfl
theorem q425 : (Jvm.Cond.lays "java/lang/Throwable" "java/lang/Throwable" "cause" "Ljava/lang/Throwable;") ∈ lw_all := lw_g (lw_at lw_m2 75 rfl) rfl
theorem q427 : (Jvm.Cond.lays "java/lang/Throwable" "java/lang/Throwable" "stackTrace" "[Ljava/lang/StackTraceElement;") ∈ lw_all := lw_g (lw_at lw_m2 77 rfl) rfl
theorem q429 : (Jvm.Cond.lays "java/lang/Throwable" "java/lang/Throwable" "suppressedExceptions" "Ljava/util/List;") ∈ lw_all := lw_g (lw_at lw_m2 79 rfl) rfl
theorem q431 : (Jvm.Cond.lays "java/lang/Throwable" "java/lang/Throwable" "detailMessage" "Ljava/lang/String;") ∈ lw_all := lw_g (lw_at lw_m2 81 rfl) rfl
theorem q433 : (Jvm.Cond.lays "java/lang/Throwable" "java/lang/Throwable" "backtrace" "Ljava/lang/Object;") ∈ lw_all := lw_g (lw_at lw_m2 83 rfl) rfl
theorem q434 : (Jvm.Cond.fieldLink "java/lang/Throwable" (198 : Nat) "java/lang/Throwable" "backtrace" "Ljava/lang/Object;") ∈ lw_all := lw_g (lw_at lw_m2 84 rfl) rfl
theorem q435 : (Jvm.Cond.superclass "java/lang/Throwable" "java/lang/Object") ∈ lw_all := lw_g (lw_at lw_m2 85 rfl) rfl
theorem q436 : (Jvm.Cond.instanceMethod ({ cls := "java/lang/Throwable", name := "<init>", desc := "()V" } : Jvm.MethodName)) ∈ lw_all := lw_g (lw_at lw_m2 86 rfl) rfl
theorem q437 : (Jvm.Cond.code ({ cls := "java/lang/Throwable", name := "<init>", desc := "()V" } : Jvm.MethodName) prog_49_method_1_code (1 : Nat) (Option.none : Option Jvm.ClassFile.FieldType)) ∈ lw_all := lw_g (lw_at lw_m2 87 rfl) rfl
theorem q438 : (Jvm.Cond.methodLink "java/lang/Throwable" (1 : Nat) ({ cls := "java/lang/Object", name := "<init>", desc := "()V" } : Jvm.MethodName)) ∈ lw_all := lw_g (lw_at lw_m2 88 rfl) rfl
theorem q439 : (Jvm.Cond.fieldLink "java/lang/Throwable" (13 : Nat) "java/lang/Throwable" "UNASSIGNED_STACK" "[Ljava/lang/StackTraceElement;") ∈ lw_all := lw_g (lw_at lw_m2 89 rfl) rfl
theorem q440 : (Jvm.Cond.laysStatic "java/lang/Throwable" "UNASSIGNED_STACK" "[Ljava/lang/StackTraceElement;") ∈ lw_tbl := lw_at lw_m2 90 rfl
theorem q441 : (Jvm.Cond.fieldLink "java/lang/Throwable" (20 : Nat) "java/lang/Throwable" "SUPPRESSED_SENTINEL" "Ljava/util/List;") ∈ lw_all := lw_g (lw_at lw_m2 91 rfl) rfl
theorem q442 : (Jvm.Cond.laysStatic "java/lang/Throwable" "SUPPRESSED_SENTINEL" "Ljava/util/List;") ∈ lw_tbl := lw_at lw_m2 92 rfl
theorem q443 : (Jvm.Cond.methodLink "java/lang/Throwable" (27 : Nat) ({ cls := "java/lang/Throwable", name := "fillInStackTrace", desc := "()Ljava/lang/Throwable;" } : Jvm.MethodName)) ∈ lw_all := lw_g (lw_at lw_m2 93 rfl) rfl
theorem q444 : (Jvm.Cond.instanceMethod ({ cls := "java/lang/Throwable", name := "fillInStackTrace", desc := "()Ljava/lang/Throwable;" } : Jvm.MethodName)) ∈ lw_all := lw_g (lw_at lw_m2 94 rfl) rfl
theorem q445 : (Jvm.Cond.sameMethod "java/lang/Throwable" "java/lang/Throwable" "fillInStackTrace" "()Ljava/lang/Throwable;") ∈ lw_all := lw_g (lw_at lw_m2 95 rfl) rfl
theorem q456 : (Jvm.Cond.codeSync ({ cls := "java/lang/Throwable", name := "fillInStackTrace", desc := "()Ljava/lang/Throwable;" } : Jvm.MethodName) prog_49_method_18_code (1 : Nat) (Option.some (Jvm.ClassFile.FieldType.object "java/lang/Throwable"))) ∈ lw_all := lw_g (lw_at lw_m2 106 rfl) rfl
theorem q457 : (Jvm.Cond.methodLink "java/lang/Throwable" (202 : Nat) ({ cls := "java/lang/Throwable", name := "fillInStackTrace", desc := "(I)Ljava/lang/Throwable;" } : Jvm.MethodName)) ∈ lw_all := lw_g (lw_at lw_m2 107 rfl) rfl
theorem q458 : (Jvm.Cond.privateMethod ({ cls := "java/lang/Throwable", name := "fillInStackTrace", desc := "(I)Ljava/lang/Throwable;" } : Jvm.MethodName)) ∈ lw_tbl := lw_at lw_m2 108 rfl
theorem q459 : (Jvm.Cond.instanceMethod ({ cls := "java/lang/Throwable", name := "fillInStackTrace", desc := "(I)Ljava/lang/Throwable;" } : Jvm.MethodName)) ∈ lw_all := lw_g (lw_at lw_m2 109 rfl) rfl
theorem q460 : (Jvm.Cond.instantiable "java/lang/Throwable" (6 : Nat)) ∈ lw_all := lw_g (lw_at lw_m2 110 rfl) rfl
theorem q461 : (Jvm.Cond.native ({ cls := "java/lang/Throwable", name := "fillInStackTrace", desc := "(I)Ljava/lang/Throwable;" } : Jvm.MethodName)) ∈ lw_all := lw_g (lw_at lw_m2 111 rfl) rfl
theorem q472 : (Jvm.Cond.fieldLink "java/lang/Throwable" (198 : Nat) "java/lang/Throwable" "backtrace" "Ljava/lang/Object;") ∈ lw_all := lw_g (lw_at lw_m2 122 rfl) rfl
theorem q473 : (Jvm.Cond.fieldLink "java/lang/Throwable" (31 : Nat) "java/lang/Throwable" "detailMessage" "Ljava/lang/String;") ∈ lw_all := lw_g (lw_at lw_m2 123 rfl) rfl
theorem q474 : (Jvm.Cond.fieldLink "java/lang/Throwable" (7 : Nat) "java/lang/Throwable" "cause" "Ljava/lang/Throwable;") ∈ lw_all := lw_g (lw_at lw_m2 124 rfl) rfl
theorem q475 : (Jvm.Cond.fieldLink "java/lang/Throwable" (17 : Nat) "java/lang/Throwable" "stackTrace" "[Ljava/lang/StackTraceElement;") ∈ lw_all := lw_g (lw_at lw_m2 125 rfl) rfl
theorem q476 : (Jvm.Cond.fieldLink "java/lang/Throwable" (24 : Nat) "java/lang/Throwable" "suppressedExceptions" "Ljava/util/List;") ∈ lw_all := lw_g (lw_at lw_m2 126 rfl) rfl
theorem q477 : (Jvm.Cond.soleField "java/lang/Throwable" "backtrace") ∈ lw_all := lw_g (lw_at lw_m2 127 rfl) rfl
theorem q478 : (Jvm.Cond.soleField "java/lang/Throwable" "detailMessage") ∈ lw_all := lw_g (lw_at lw_m2 128 rfl) rfl
theorem q479 : (Jvm.Cond.soleField "java/lang/Throwable" "cause") ∈ lw_all := lw_g (lw_at lw_m2 129 rfl) rfl
theorem q480 : (Jvm.Cond.soleField "java/lang/Throwable" "stackTrace") ∈ lw_all := lw_g (lw_at lw_m2 130 rfl) rfl
theorem q482 : (Jvm.Cond.soleField "java/lang/Throwable" "depth") ∈ lw_all := lw_g (lw_at lw_m2 132 rfl) rfl
theorem q483 : (Jvm.Cond.soleField "java/lang/Throwable" "suppressedExceptions") ∈ lw_all := lw_g (lw_at lw_m2 133 rfl) rfl
theorem q796 : (Jvm.Cond.instanceMethod ({ cls := "java/lang/Throwable", name := "<init>", desc := "(Ljava/lang/String;)V" } : Jvm.MethodName)) ∈ lw_all := lw_g (lw_at lw_m3 206 rfl) rfl
theorem q797 : (Jvm.Cond.code ({ cls := "java/lang/Throwable", name := "<init>", desc := "(Ljava/lang/String;)V" } : Jvm.MethodName) prog_49_method_2_code (2 : Nat) (Option.none : Option Jvm.ClassFile.FieldType)) ∈ lw_all := lw_g (lw_at lw_m3 207 rfl) rfl
theorem q1066 : (Jvm.Cond.instanceMethod ({ cls := "java/lang/Throwable", name := "<init>", desc := "(Ljava/lang/String;Ljava/lang/Throwable;)V" } : Jvm.MethodName)) ∈ lw_all := lw_g (lw_at lw_m4 236 rfl) rfl
theorem q1067 : (Jvm.Cond.code ({ cls := "java/lang/Throwable", name := "<init>", desc := "(Ljava/lang/String;Ljava/lang/Throwable;)V" } : Jvm.MethodName) prog_49_method_3_code (3 : Nat) (Option.none : Option Jvm.ClassFile.FieldType)) ∈ lw_all := lw_g (lw_at lw_m4 237 rfl) rfl
theorem q2358 : (Jvm.Cond.instanceMethod ({ cls := "java/lang/Throwable", name := "toString", desc := "()Ljava/lang/String;" } : Jvm.MethodName)) ∈ lw_all := lw_g (lw_at lw_m10 88 rfl) rfl
theorem q2359 : (Jvm.Cond.code ({ cls := "java/lang/Throwable", name := "toString", desc := "()Ljava/lang/String;" } : Jvm.MethodName) prog_49_method_11_code (3 : Nat) (Option.some (Jvm.ClassFile.FieldType.object "java/lang/String"))) ∈ lw_all := lw_g (lw_at lw_m10 89 rfl) rfl
theorem q2360 : (Jvm.Cond.methodLink "java/lang/Throwable" (69 : Nat) ({ cls := "java/lang/Object", name := "getClass", desc := "()Ljava/lang/Class;" } : Jvm.MethodName)) ∈ lw_all := lw_g (lw_at lw_m10 90 rfl) rfl
theorem q2361 : (Jvm.Cond.methodLink "java/lang/Throwable" (78 : Nat) ({ cls := "java/lang/Throwable", name := "getLocalizedMessage", desc := "()Ljava/lang/String;" } : Jvm.MethodName)) ∈ lw_all := lw_g (lw_at lw_m10 91 rfl) rfl
theorem q2362 : (Jvm.Cond.instanceMethod ({ cls := "java/lang/Throwable", name := "getLocalizedMessage", desc := "()Ljava/lang/String;" } : Jvm.MethodName)) ∈ lw_all := lw_g (lw_at lw_m10 92 rfl) rfl
theorem q2363 : (Jvm.Cond.sameMethod "java/lang/Throwable" "java/lang/Throwable" "getLocalizedMessage" "()Ljava/lang/String;") ∈ lw_all := lw_g (lw_at lw_m10 93 rfl) rfl
theorem q2375 : (Jvm.Cond.code ({ cls := "java/lang/Throwable", name := "getLocalizedMessage", desc := "()Ljava/lang/String;" } : Jvm.MethodName) prog_49_method_7_code (1 : Nat) (Option.some (Jvm.ClassFile.FieldType.object "java/lang/String"))) ∈ lw_all := lw_g (lw_at lw_m10 105 rfl) rfl
theorem q2376 : (Jvm.Cond.methodLink "java/lang/Throwable" (39 : Nat) ({ cls := "java/lang/Throwable", name := "getMessage", desc := "()Ljava/lang/String;" } : Jvm.MethodName)) ∈ lw_all := lw_g (lw_at lw_m10 106 rfl) rfl
theorem q2377 : (Jvm.Cond.instanceMethod ({ cls := "java/lang/Throwable", name := "getMessage", desc := "()Ljava/lang/String;" } : Jvm.MethodName)) ∈ lw_all := lw_g (lw_at lw_m10 107 rfl) rfl
theorem q2378 : (Jvm.Cond.sameMethod "java/lang/Throwable" "java/lang/Throwable" "getMessage" "()Ljava/lang/String;") ∈ lw_all := lw_g (lw_at lw_m10 108 rfl) rfl
theorem q2390 : (Jvm.Cond.code ({ cls := "java/lang/Throwable", name := "getMessage", desc := "()Ljava/lang/String;" } : Jvm.MethodName) prog_49_method_6_code (1 : Nat) (Option.some (Jvm.ClassFile.FieldType.object "java/lang/String"))) ∈ lw_all := lw_g (lw_at lw_m10 120 rfl) rfl
theorem q2391 : (Jvm.Cond.classLink "java/lang/Throwable" (44 : Nat) "java/lang/StringBuilder") ∈ lw_all := lw_g (lw_at lw_m10 121 rfl) rfl
theorem q2392 : (Jvm.Cond.methodLink "java/lang/Throwable" (46 : Nat) ({ cls := "java/lang/StringBuilder", name := "<init>", desc := "()V" } : Jvm.MethodName)) ∈ lw_all := lw_g (lw_at lw_m10 122 rfl) rfl
theorem q2393 : (Jvm.Cond.methodLink "java/lang/Throwable" (49 : Nat) ({ cls := "java/lang/StringBuilder", name := "append", desc := "(Ljava/lang/String;)Ljava/lang/StringBuilder;" } : Jvm.MethodName)) ∈ lw_all := lw_g (lw_at lw_m10 123 rfl) rfl
theorem q2394 : (Jvm.Cond.stringRef "java/lang/Throwable" (81 : Nat) ": ") ∈ lw_tbl := lw_at lw_m10 124 rfl
theorem q2395 : (Jvm.Cond.methodLink "java/lang/Throwable" (60 : Nat) ({ cls := "java/lang/StringBuilder", name := "toString", desc := "()Ljava/lang/String;" } : Jvm.MethodName)) ∈ lw_all := lw_g (lw_at lw_m10 125 rfl) rfl
theorem q2610 : (Jvm.Cond.declares ({ cls := "java/lang/Throwable", name := "getCause", desc := "()Ljava/lang/Throwable;" } : Jvm.MethodName)) ∈ lw_tbl := lw_at lw_m11 100 rfl
theorem q2612 : (Jvm.Cond.instanceMethod ({ cls := "java/lang/Throwable", name := "getCause", desc := "()Ljava/lang/Throwable;" } : Jvm.MethodName)) ∈ lw_all := lw_g (lw_at lw_m11 102 rfl) rfl
theorem q2613 : (Jvm.Cond.codeSync ({ cls := "java/lang/Throwable", name := "getCause", desc := "()Ljava/lang/Throwable;" } : Jvm.MethodName) prog_49_method_8_code (1 : Nat) (Option.some (Jvm.ClassFile.FieldType.object "java/lang/Throwable"))) ∈ lw_all := lw_g (lw_at lw_m11 103 rfl) rfl
theorem q3292 : (Jvm.Cond.sameMethod "java/lang/Throwable" "java/lang/Throwable" "fillInStackTrace" "(I)Ljava/lang/Throwable;") ∈ lw_all := lw_g (lw_at lw_m14 62 rfl) rfl
theorem q3342 : (Jvm.Cond.castable "java/lang/Throwable" "java/lang/Object") ∈ lw_tbl := lw_at lw_m14 112 rfl
theorem q127 : (Jvm.Cond.initialized "java/lang/Exception") ∈ lw_all := lw_g (lw_at lw_m1 17 rfl) rfl
theorem q418 : (Jvm.Cond.declares ({ cls := "java/lang/Exception", name := "<init>", desc := "()V" } : Jvm.MethodName)) ∈ lw_tbl := lw_at lw_m2 68 rfl
theorem q419 : (Jvm.Cond.declares ({ cls := "java/lang/Exception", name := "<init>", desc := "(Ljava/lang/String;)V" } : Jvm.MethodName)) ∈ lw_tbl := lw_at lw_m2 69 rfl
theorem q469 : (Jvm.Cond.instanceMethod ({ cls := "java/lang/Exception", name := "<init>", desc := "()V" } : Jvm.MethodName)) ∈ lw_all := lw_g (lw_at lw_m2 119 rfl) rfl
theorem q470 : (Jvm.Cond.code ({ cls := "java/lang/Exception", name := "<init>", desc := "()V" } : Jvm.MethodName) prog_33_method_1_code (1 : Nat) (Option.none : Option Jvm.ClassFile.FieldType)) ∈ lw_all := lw_g (lw_at lw_m2 120 rfl) rfl
theorem q471 : (Jvm.Cond.methodLink "java/lang/Exception" (1 : Nat) ({ cls := "java/lang/Throwable", name := "<init>", desc := "()V" } : Jvm.MethodName)) ∈ lw_all := lw_g (lw_at lw_m2 121 rfl) rfl
theorem q793 : (Jvm.Cond.instanceMethod ({ cls := "java/lang/Exception", name := "<init>", desc := "(Ljava/lang/String;)V" } : Jvm.MethodName)) ∈ lw_all := lw_g (lw_at lw_m3 203 rfl) rfl
theorem q794 : (Jvm.Cond.code ({ cls := "java/lang/Exception", name := "<init>", desc := "(Ljava/lang/String;)V" } : Jvm.MethodName) prog_33_method_2_code (2 : Nat) (Option.none : Option Jvm.ClassFile.FieldType)) ∈ lw_all := lw_g (lw_at lw_m3 204 rfl) rfl
theorem q795 : (Jvm.Cond.methodLink "java/lang/Exception" (7 : Nat) ({ cls := "java/lang/Throwable", name := "<init>", desc := "(Ljava/lang/String;)V" } : Jvm.MethodName)) ∈ lw_all := lw_g (lw_at lw_m3 205 rfl) rfl
theorem q1063 : (Jvm.Cond.instanceMethod ({ cls := "java/lang/Exception", name := "<init>", desc := "(Ljava/lang/String;Ljava/lang/Throwable;)V" } : Jvm.MethodName)) ∈ lw_all := lw_g (lw_at lw_m4 233 rfl) rfl
theorem q1064 : (Jvm.Cond.code ({ cls := "java/lang/Exception", name := "<init>", desc := "(Ljava/lang/String;Ljava/lang/Throwable;)V" } : Jvm.MethodName) prog_33_method_3_code (3 : Nat) (Option.none : Option Jvm.ClassFile.FieldType)) ∈ lw_all := lw_g (lw_at lw_m4 234 rfl) rfl
theorem q1065 : (Jvm.Cond.methodLink "java/lang/Exception" (10 : Nat) ({ cls := "java/lang/Throwable", name := "<init>", desc := "(Ljava/lang/String;Ljava/lang/Throwable;)V" } : Jvm.MethodName)) ∈ lw_all := lw_g (lw_at lw_m4 235 rfl) rfl
theorem q128 : (Jvm.Cond.initialized "java/lang/RuntimeException") ∈ lw_all := lw_g (lw_at lw_m1 18 rfl) rfl
theorem q416 : (Jvm.Cond.declares ({ cls := "java/lang/RuntimeException", name := "<init>", desc := "()V" } : Jvm.MethodName)) ∈ lw_tbl := lw_at lw_m2 66 rfl
theorem q417 : (Jvm.Cond.declares ({ cls := "java/lang/RuntimeException", name := "<init>", desc := "(Ljava/lang/String;)V" } : Jvm.MethodName)) ∈ lw_tbl := lw_at lw_m2 67 rfl
theorem q466 : (Jvm.Cond.instanceMethod ({ cls := "java/lang/RuntimeException", name := "<init>", desc := "()V" } : Jvm.MethodName)) ∈ lw_all := lw_g (lw_at lw_m2 116 rfl) rfl
theorem q467 : (Jvm.Cond.code ({ cls := "java/lang/RuntimeException", name := "<init>", desc := "()V" } : Jvm.MethodName) prog_41_method_1_code (1 : Nat) (Option.none : Option Jvm.ClassFile.FieldType)) ∈ lw_all := lw_g (lw_at lw_m2 117 rfl) rfl
theorem q468 : (Jvm.Cond.methodLink "java/lang/RuntimeException" (1 : Nat) ({ cls := "java/lang/Exception", name := "<init>", desc := "()V" } : Jvm.MethodName)) ∈ lw_all := lw_g (lw_at lw_m2 118 rfl) rfl
theorem q790 : (Jvm.Cond.instanceMethod ({ cls := "java/lang/RuntimeException", name := "<init>", desc := "(Ljava/lang/String;)V" } : Jvm.MethodName)) ∈ lw_all := lw_g (lw_at lw_m3 200 rfl) rfl
theorem q791 : (Jvm.Cond.code ({ cls := "java/lang/RuntimeException", name := "<init>", desc := "(Ljava/lang/String;)V" } : Jvm.MethodName) prog_41_method_2_code (2 : Nat) (Option.none : Option Jvm.ClassFile.FieldType)) ∈ lw_all := lw_g (lw_at lw_m3 201 rfl) rfl
theorem q792 : (Jvm.Cond.methodLink "java/lang/RuntimeException" (7 : Nat) ({ cls := "java/lang/Exception", name := "<init>", desc := "(Ljava/lang/String;)V" } : Jvm.MethodName)) ∈ lw_all := lw_g (lw_at lw_m3 202 rfl) rfl
theorem q129 : (Jvm.Cond.initialized "java/util/NoSuchElementException") ∈ lw_all := lw_g (lw_at lw_m1 19 rfl) rfl
theorem q414 : (Jvm.Cond.instantiable "java/util/NoSuchElementException" (6 : Nat)) ∈ lw_all := lw_g (lw_at lw_m2 64 rfl) rfl
theorem q415 : (Jvm.Cond.castable "java/util/NoSuchElementException" "java/util/NoSuchElementException") ∈ lw_tbl := lw_at lw_m2 65 rfl
theorem q422 : (Jvm.Cond.selects "java/util/NoSuchElementException" ({ cls := "java/lang/Throwable", name := "fillInStackTrace", desc := "(I)Ljava/lang/Throwable;" } : Jvm.MethodName) ({ cls := "java/lang/Throwable", name := "fillInStackTrace", desc := "(I)Ljava/lang/Throwable;" } : Jvm.MethodName)) ∈ lw_all := lw_g (lw_at lw_m2 72 rfl) rfl
theorem q423 : (Jvm.Cond.selects "java/util/NoSuchElementException" ({ cls := "java/lang/Throwable", name := "fillInStackTrace", desc := "()Ljava/lang/Throwable;" } : Jvm.MethodName) ({ cls := "java/lang/Throwable", name := "fillInStackTrace", desc := "()Ljava/lang/Throwable;" } : Jvm.MethodName)) ∈ lw_all := lw_g (lw_at lw_m2 73 rfl) rfl
theorem q424 : (Jvm.Cond.lays "java/util/NoSuchElementException" "java/lang/Throwable" "cause" "Ljava/lang/Throwable;") ∈ lw_all := lw_g (lw_at lw_m2 74 rfl) rfl
theorem q426 : (Jvm.Cond.lays "java/util/NoSuchElementException" "java/lang/Throwable" "stackTrace" "[Ljava/lang/StackTraceElement;") ∈ lw_all := lw_g (lw_at lw_m2 76 rfl) rfl
theorem q428 : (Jvm.Cond.lays "java/util/NoSuchElementException" "java/lang/Throwable" "suppressedExceptions" "Ljava/util/List;") ∈ lw_all := lw_g (lw_at lw_m2 78 rfl) rfl
theorem q430 : (Jvm.Cond.lays "java/util/NoSuchElementException" "java/lang/Throwable" "detailMessage" "Ljava/lang/String;") ∈ lw_all := lw_g (lw_at lw_m2 80 rfl) rfl
theorem q432 : (Jvm.Cond.lays "java/util/NoSuchElementException" "java/lang/Throwable" "backtrace" "Ljava/lang/Object;") ∈ lw_all := lw_g (lw_at lw_m2 82 rfl) rfl
theorem q463 : (Jvm.Cond.instanceMethod ({ cls := "java/util/NoSuchElementException", name := "<init>", desc := "()V" } : Jvm.MethodName)) ∈ lw_all := lw_g (lw_at lw_m2 113 rfl) rfl
theorem q464 : (Jvm.Cond.code ({ cls := "java/util/NoSuchElementException", name := "<init>", desc := "()V" } : Jvm.MethodName) prog_65_method_1_code (1 : Nat) (Option.none : Option Jvm.ClassFile.FieldType)) ∈ lw_all := lw_g (lw_at lw_m2 114 rfl) rfl
theorem q465 : (Jvm.Cond.methodLink "java/util/NoSuchElementException" (1 : Nat) ({ cls := "java/lang/RuntimeException", name := "<init>", desc := "()V" } : Jvm.MethodName)) ∈ lw_all := lw_g (lw_at lw_m2 115 rfl) rfl
theorem q481 : (Jvm.Cond.lays "java/util/NoSuchElementException" "java/lang/Throwable" "depth" "I") ∈ lw_all := lw_g (lw_at lw_m2 131 rfl) rfl
theorem q484 : (Jvm.Cond.superclass "java/util/NoSuchElementException" "java/lang/RuntimeException") ∈ lw_all := lw_g (lw_at lw_m2 134 rfl) rfl
theorem q897 : (Jvm.Cond.selects "java/util/NoSuchElementException" ({ cls := "java/lang/Object", name := "getClass", desc := "()Ljava/lang/Class;" } : Jvm.MethodName) ({ cls := "java/lang/Object", name := "getClass", desc := "()Ljava/lang/Class;" } : Jvm.MethodName)) ∈ lw_all := lw_g (lw_at lw_m4 67 rfl) rfl
theorem q1385 : (Jvm.Cond.instanceMethod ({ cls := "java/util/NoSuchElementException", name := "<init>", desc := "(Ljava/lang/String;)V" } : Jvm.MethodName)) ∈ lw_all := lw_g (lw_at lw_m6 75 rfl) rfl
theorem q1386 : (Jvm.Cond.code ({ cls := "java/util/NoSuchElementException", name := "<init>", desc := "(Ljava/lang/String;)V" } : Jvm.MethodName) prog_65_method_4_code (2 : Nat) (Option.none : Option Jvm.ClassFile.FieldType)) ∈ lw_all := lw_g (lw_at lw_m6 76 rfl) rfl
theorem q1387 : (Jvm.Cond.methodLink "java/util/NoSuchElementException" (13 : Nat) ({ cls := "java/lang/RuntimeException", name := "<init>", desc := "(Ljava/lang/String;)V" } : Jvm.MethodName)) ∈ lw_all := lw_g (lw_at lw_m6 77 rfl) rfl
theorem q2374 : (Jvm.Cond.selects "java/util/NoSuchElementException" ({ cls := "java/lang/Throwable", name := "getLocalizedMessage", desc := "()Ljava/lang/String;" } : Jvm.MethodName) ({ cls := "java/lang/Throwable", name := "getLocalizedMessage", desc := "()Ljava/lang/String;" } : Jvm.MethodName)) ∈ lw_all := lw_g (lw_at lw_m10 104 rfl) rfl
theorem q2389 : (Jvm.Cond.selects "java/util/NoSuchElementException" ({ cls := "java/lang/Throwable", name := "getMessage", desc := "()Ljava/lang/String;" } : Jvm.MethodName) ({ cls := "java/lang/Throwable", name := "getMessage", desc := "()Ljava/lang/String;" } : Jvm.MethodName)) ∈ lw_all := lw_g (lw_at lw_m10 119 rfl) rfl
theorem q3318 : (Jvm.Cond.castable "java/util/NoSuchElementException" "java/lang/Object") ∈ lw_tbl := lw_at lw_m14 88 rfl
theorem q130 : (Jvm.Cond.initialized "ColourOffice$Found") ∈ lw_all := lw_g (lw_at lw_m1 20 rfl) rfl
theorem q486 : (Jvm.Cond.instanceMethod ({ cls := "ColourOffice$Found", name := "copy", desc := "()LColourOffice$Found;" } : Jvm.MethodName)) ∈ lw_all := lw_g (lw_at lw_m2 136 rfl) rfl
theorem q487 : (Jvm.Cond.selects "ColourOffice$Found" ({ cls := "ColourOffice$Found", name := "copy", desc := "()LColourOffice$Found;" } : Jvm.MethodName) ({ cls := "ColourOffice$Found", name := "copy", desc := "()LColourOffice$Found;" } : Jvm.MethodName)) ∈ lw_all := lw_g (lw_at lw_m2 137 rfl) rfl
theorem q488 : (Jvm.Cond.code ({ cls := "ColourOffice$Found", name := "copy", desc := "()LColourOffice$Found;" } : Jvm.MethodName) prog_6_method_3_code (1 : Nat) (Option.some (Jvm.ClassFile.FieldType.object "ColourOffice$Found"))) ∈ lw_all := lw_g (lw_at lw_m2 138 rfl) rfl
theorem q489 : (Jvm.Cond.classLink "ColourOffice$Found" (2 : Nat) "ColourOffice$Found") ∈ lw_all := lw_g (lw_at lw_m2 139 rfl) rfl
theorem q490 : (Jvm.Cond.instantiable "ColourOffice$Found" (4 : Nat)) ∈ lw_all := lw_g (lw_at lw_m2 140 rfl) rfl
theorem q491 : (Jvm.Cond.methodLink "ColourOffice$Found" (1 : Nat) ({ cls := "ColourOffice$Found", name := "<init>", desc := "(ILColourOffice$Tint;II)V" } : Jvm.MethodName)) ∈ lw_all := lw_g (lw_at lw_m2 141 rfl) rfl
theorem q492 : (Jvm.Cond.instanceMethod ({ cls := "ColourOffice$Found", name := "<init>", desc := "(ILColourOffice$Tint;II)V" } : Jvm.MethodName)) ∈ lw_all := lw_g (lw_at lw_m2 142 rfl) rfl
theorem q493 : (Jvm.Cond.code ({ cls := "ColourOffice$Found", name := "<init>", desc := "(ILColourOffice$Tint;II)V" } : Jvm.MethodName) prog_6_method_2_code (5 : Nat) (Option.none : Option Jvm.ClassFile.FieldType)) ∈ lw_all := lw_g (lw_at lw_m2 143 rfl) rfl
theorem q494 : (Jvm.Cond.methodLink "ColourOffice$Found" (7 : Nat) ({ cls := "java/lang/Object", name := "<init>", desc := "()V" } : Jvm.MethodName)) ∈ lw_all := lw_g (lw_at lw_m2 144 rfl) rfl
theorem q495 : (Jvm.Cond.fieldLink "ColourOffice$Found" (12 : Nat) "ColourOffice$Found" "id" "I") ∈ lw_all := lw_g (lw_at lw_m2 145 rfl) rfl
theorem q500 : (Jvm.Cond.fieldLink "ColourOffice$Found" (20 : Nat) "ColourOffice$Found" "fastness" "I") ∈ lw_all := lw_g (lw_at lw_m2 150 rfl) rfl
theorem q506 : (Jvm.Cond.fieldLink "ColourOffice$Found" (16 : Nat) "ColourOffice$Found" "tint" "LColourOffice$Tint;") ∈ lw_all := lw_g (lw_at lw_m2 156 rfl) rfl
theorem q510 : (Jvm.Cond.fieldLink "ColourOffice$Found" (23 : Nat) "ColourOffice$Found" "age" "I") ∈ lw_all := lw_g (lw_at lw_m2 160 rfl) rfl
theorem q512 : (Jvm.Cond.laysFinal "ColourOffice$Found" "ColourOffice$Found" "id" "I") ∈ lw_all := lw_g (lw_at lw_m2 162 rfl) rfl
theorem q513 : (Jvm.Cond.soleField "ColourOffice$Found" "id") ∈ lw_all := lw_g (lw_at lw_m2 163 rfl) rfl
theorem q514 : (Jvm.Cond.laysFinal "ColourOffice$Found" "ColourOffice$Found" "fastness" "I") ∈ lw_all := lw_g (lw_at lw_m2 164 rfl) rfl
theorem q515 : (Jvm.Cond.soleField "ColourOffice$Found" "fastness") ∈ lw_all := lw_g (lw_at lw_m2 165 rfl) rfl
theorem q516 : (Jvm.Cond.lays "ColourOffice$Found" "ColourOffice$Found" "tint" "LColourOffice$Tint;") ∈ lw_all := lw_g (lw_at lw_m2 166 rfl) rfl
theorem q517 : (Jvm.Cond.soleField "ColourOffice$Found" "tint") ∈ lw_all := lw_g (lw_at lw_m2 167 rfl) rfl
theorem q518 : (Jvm.Cond.lays "ColourOffice$Found" "ColourOffice$Found" "age" "I") ∈ lw_all := lw_g (lw_at lw_m2 168 rfl) rfl
theorem q519 : (Jvm.Cond.soleField "ColourOffice$Found" "age") ∈ lw_all := lw_g (lw_at lw_m2 169 rfl) rfl
theorem q520 : (Jvm.Cond.superclass "ColourOffice$Found" "java/lang/Object") ∈ lw_all := lw_g (lw_at lw_m2 170 rfl) rfl
theorem q869 : (Jvm.Cond.selects "ColourOffice$Found" ({ cls := "java/lang/Object", name := "getClass", desc := "()Ljava/lang/Class;" } : Jvm.MethodName) ({ cls := "java/lang/Object", name := "getClass", desc := "()Ljava/lang/Class;" } : Jvm.MethodName)) ∈ lw_all := lw_g (lw_at lw_m4 39 rfl) rfl
theorem q1093 : (Jvm.Cond.instanceMethod ({ cls := "ColourOffice$Found", name := "<init>", desc := "(ILColourOffice$Tint;I)V" } : Jvm.MethodName)) ∈ lw_all := lw_g (lw_at lw_m5 23 rfl) rfl
theorem q1094 : (Jvm.Cond.code ({ cls := "ColourOffice$Found", name := "<init>", desc := "(ILColourOffice$Tint;I)V" } : Jvm.MethodName) prog_6_method_1_code (4 : Nat) (Option.none : Option Jvm.ClassFile.FieldType)) ∈ lw_all := lw_g (lw_at lw_m5 24 rfl) rfl
theorem q1493 : (Jvm.Cond.instanceMethod ({ cls := "ColourOffice$Found", name := "passDay", desc := "()V" } : Jvm.MethodName)) ∈ lw_all := lw_g (lw_at lw_m6 183 rfl) rfl
theorem q1494 : (Jvm.Cond.selects "ColourOffice$Found" ({ cls := "ColourOffice$Found", name := "passDay", desc := "()V" } : Jvm.MethodName) ({ cls := "ColourOffice$Found", name := "passDay", desc := "()V" } : Jvm.MethodName)) ∈ lw_all := lw_g (lw_at lw_m6 184 rfl) rfl
theorem q1495 : (Jvm.Cond.code ({ cls := "ColourOffice$Found", name := "passDay", desc := "()V" } : Jvm.MethodName) prog_6_method_4_code (1 : Nat) (Option.none : Option Jvm.ClassFile.FieldType)) ∈ lw_all := lw_g (lw_at lw_m6 185 rfl) rfl
theorem q1496 : (Jvm.Cond.methodLink "ColourOffice$Found" (26 : Nat) ({ cls := "ColourOffice$Tint", name := "isGrey", desc := "()Z" } : Jvm.MethodName)) ∈ lw_all := lw_g (lw_at lw_m6 186 rfl) rfl
theorem q1500 : (Jvm.Cond.methodLink "ColourOffice$Found" (32 : Nat) ({ cls := "ColourOffice$Tint", name := "faded", desc := "()LColourOffice$Tint;" } : Jvm.MethodName)) ∈ lw_all := lw_g (lw_at lw_m6 190 rfl) rfl
theorem q1947 : (Jvm.Cond.instanceMethod ({ cls := "ColourOffice$Found", name := "daysUntilGrey", desc := "()I" } : Jvm.MethodName)) ∈ lw_all := lw_g (lw_at lw_m8 157 rfl) rfl
theorem q1948 : (Jvm.Cond.selects "ColourOffice$Found" ({ cls := "ColourOffice$Found", name := "daysUntilGrey", desc := "()I" } : Jvm.MethodName) ({ cls := "ColourOffice$Found", name := "daysUntilGrey", desc := "()I" } : Jvm.MethodName)) ∈ lw_all := lw_g (lw_at lw_m8 158 rfl) rfl
theorem q1949 : (Jvm.Cond.code ({ cls := "ColourOffice$Found", name := "daysUntilGrey", desc := "()I" } : Jvm.MethodName) prog_6_method_5_code (2 : Nat) (Option.some Jvm.ClassFile.FieldType.int)) ∈ lw_all := lw_g (lw_at lw_m8 159 rfl) rfl
theorem q1950 : (Jvm.Cond.methodLink "ColourOffice$Found" (36 : Nat) ({ cls := "ColourOffice$Tint", name := "stepsToGrey", desc := "()I" } : Jvm.MethodName)) ∈ lw_all := lw_g (lw_at lw_m8 160 rfl) rfl
theorem q2172 : (Jvm.Cond.instanceMethod ({ cls := "ColourOffice$Found", name := "toString", desc := "()Ljava/lang/String;" } : Jvm.MethodName)) ∈ lw_all := lw_g (lw_at lw_m9 142 rfl) rfl
theorem q2173 : (Jvm.Cond.selects "ColourOffice$Found" ({ cls := "ColourOffice$Found", name := "toString", desc := "()Ljava/lang/String;" } : Jvm.MethodName) ({ cls := "ColourOffice$Found", name := "toString", desc := "()Ljava/lang/String;" } : Jvm.MethodName)) ∈ lw_all := lw_g (lw_at lw_m9 143 rfl) rfl
theorem q2174 : (Jvm.Cond.code ({ cls := "ColourOffice$Found", name := "toString", desc := "()Ljava/lang/String;" } : Jvm.MethodName) prog_6_method_6_code (1 : Nat) (Option.some (Jvm.ClassFile.FieldType.object "java/lang/String"))) ∈ lw_all := lw_g (lw_at lw_m9 144 rfl) rfl
theorem q2175 : (Jvm.Cond.classLink "ColourOffice$Found" (40 : Nat) "java/lang/StringBuilder") ∈ lw_all := lw_g (lw_at lw_m9 145 rfl) rfl
theorem q2176 : (Jvm.Cond.methodLink "ColourOffice$Found" (42 : Nat) ({ cls := "java/lang/StringBuilder", name := "<init>", desc := "()V" } : Jvm.MethodName)) ∈ lw_all := lw_g (lw_at lw_m9 146 rfl) rfl
theorem q2177 : (Jvm.Cond.methodLink "ColourOffice$Found" (43 : Nat) ({ cls := "java/lang/StringBuilder", name := "append", desc := "(I)Ljava/lang/StringBuilder;" } : Jvm.MethodName)) ∈ lw_all := lw_g (lw_at lw_m9 147 rfl) rfl
theorem q2178 : (Jvm.Cond.stringRef "ColourOffice$Found" (47 : Nat) "#") ∈ lw_tbl := lw_at lw_m9 148 rfl
theorem q2179 : (Jvm.Cond.methodLink "ColourOffice$Found" (49 : Nat) ({ cls := "java/lang/StringBuilder", name := "append", desc := "(Ljava/lang/String;)Ljava/lang/StringBuilder;" } : Jvm.MethodName)) ∈ lw_all := lw_g (lw_at lw_m9 149 rfl) rfl
theorem q2180 : (Jvm.Cond.methodLink "ColourOffice$Found" (52 : Nat) ({ cls := "ColourOffice$Tint", name := "toString", desc := "()Ljava/lang/String;" } : Jvm.MethodName)) ∈ lw_all := lw_g (lw_at lw_m9 150 rfl) rfl
theorem q2190 : (Jvm.Cond.stringRef "ColourOffice$Found" (56 : Nat) "f") ∈ lw_tbl := lw_at lw_m9 160 rfl
theorem q2191 : (Jvm.Cond.stringRef "ColourOffice$Found" (58 : Nat) "d") ∈ lw_tbl := lw_at lw_m9 161 rfl
theorem q2192 : (Jvm.Cond.stringRef "ColourOffice$Found" (60 : Nat) "g") ∈ lw_tbl := lw_at lw_m9 162 rfl
theorem q2193 : (Jvm.Cond.stringRef "ColourOffice$Found" (62 : Nat) "") ∈ lw_tbl := lw_at lw_m9 163 rfl
theorem q2194 : (Jvm.Cond.methodLink "ColourOffice$Found" (64 : Nat) ({ cls := "java/lang/StringBuilder", name := "toString", desc := "()Ljava/lang/String;" } : Jvm.MethodName)) ∈ lw_all := lw_g (lw_at lw_m9 164 rfl) rfl
theorem q2397 : (Jvm.Cond.selects "ColourOffice$Found" ({ cls := "java/lang/Object", name := "toString", desc := "()Ljava/lang/String;" } : Jvm.MethodName) ({ cls := "ColourOffice$Found", name := "toString", desc := "()Ljava/lang/String;" } : Jvm.MethodName)) ∈ lw_all := lw_g (lw_at lw_m10 127 rfl) rfl
theorem q3308 : (Jvm.Cond.castable "ColourOffice$Found" "java/lang/Object") ∈ lw_tbl := lw_at lw_m14 78 rfl
theorem q131 : (Jvm.Cond.initialized "java/util/Objects") ∈ lw_all := lw_g (lw_at lw_m1 21 rfl) rfl
theorem q551 : (Jvm.Cond.static ({ cls := "java/util/Objects", name := "checkIndex", desc := "(II)I" } : Jvm.MethodName)) ∈ lw_all := lw_g (lw_at lw_m2 201 rfl) rfl
theorem q552 : (Jvm.Cond.code ({ cls := "java/util/Objects", name := "checkIndex", desc := "(II)I" } : Jvm.MethodName) prog_66_method_17_code (2 : Nat) (Option.some Jvm.ClassFile.FieldType.int)) ∈ lw_all := lw_g (lw_at lw_m2 202 rfl) rfl
theorem q553 : (Jvm.Cond.methodLink "java/util/Objects" (105 : Nat) ({ cls := "jdk/internal/util/Preconditions", name := "checkIndex", desc := "(IILjava/util/function/BiFunction;)I" } : Jvm.MethodName)) ∈ lw_all := lw_g (lw_at lw_m2 203 rfl) rfl
theorem q1368 : (Jvm.Cond.static ({ cls := "java/util/Objects", name := "requireNonNull", desc := "(Ljava/lang/Object;)Ljava/lang/Object;" } : Jvm.MethodName)) ∈ lw_all := lw_g (lw_at lw_m6 58 rfl) rfl
theorem q1369 : (Jvm.Cond.code ({ cls := "java/util/Objects", name := "requireNonNull", desc := "(Ljava/lang/Object;)Ljava/lang/Object;" } : Jvm.MethodName) prog_66_method_10_code (1 : Nat) (Option.some (Jvm.ClassFile.FieldType.object "java/lang/Object"))) ∈ lw_all := lw_g (lw_at lw_m6 59 rfl) rfl
theorem q132 : (Jvm.Cond.initialized "jdk/internal/util/Preconditions") ∈ lw_all := lw_g (lw_at lw_m1 22 rfl) rfl
theorem q554 : (Jvm.Cond.static ({ cls := "jdk/internal/util/Preconditions", name := "checkIndex", desc := "(IILjava/util/function/BiFunction;)I" } : Jvm.MethodName)) ∈ lw_all := lw_g (lw_at lw_m2 204 rfl) rfl
theorem q555 : (Jvm.Cond.code ({ cls := "jdk/internal/util/Preconditions", name := "checkIndex", desc := "(IILjava/util/function/BiFunction;)I" } : Jvm.MethodName) prog_73_method_11_code (3 : Nat) (Option.some Jvm.ClassFile.FieldType.int)) ∈ lw_all := lw_g (lw_at lw_m2 205 rfl) rfl
theorem q653 : (Jvm.Cond.laysStatic "jdk/internal/util/Preconditions" "SIOOBE_FORMATTER" "Ljava/util/function/BiFunction;") ∈ lw_tbl := lw_at lw_m3 63 rfl
theorem q655 : (Jvm.Cond.static ({ cls := "jdk/internal/util/Preconditions", name := "checkFromToIndex", desc := "(IIILjava/util/function/BiFunction;)I" } : Jvm.MethodName)) ∈ lw_all := lw_g (lw_at lw_m3 65 rfl) rfl
theorem q656 : (Jvm.Cond.code ({ cls := "jdk/internal/util/Preconditions", name := "checkFromToIndex", desc := "(IIILjava/util/function/BiFunction;)I" } : Jvm.MethodName) prog_73_method_12_code (4 : Nat) (Option.some Jvm.ClassFile.FieldType.int)) ∈ lw_all := lw_g (lw_at lw_m3 66 rfl) rfl
theorem q701 : (Jvm.Cond.static ({ cls := "jdk/internal/util/Preconditions", name := "checkFromIndexSize", desc := "(IIILjava/util/function/BiFunction;)I" } : Jvm.MethodName)) ∈ lw_all := lw_g (lw_at lw_m3 111 rfl) rfl
theorem q702 : (Jvm.Cond.code ({ cls := "jdk/internal/util/Preconditions", name := "checkFromIndexSize", desc := "(IIILjava/util/function/BiFunction;)I" } : Jvm.MethodName) prog_73_method_13_code (4 : Nat) (Option.some Jvm.ClassFile.FieldType.int)) ∈ lw_all := lw_g (lw_at lw_m3 112 rfl) rfl
theorem q133 : (Jvm.Cond.initialized "java/lang/IndexOutOfBoundsException") ∈ lw_all := lw_g (lw_at lw_m1 23 rfl) rfl
theorem q453 : (Jvm.Cond.selects "java/lang/IndexOutOfBoundsException" ({ cls := "java/lang/Throwable", name := "fillInStackTrace", desc := "()Ljava/lang/Throwable;" } : Jvm.MethodName) ({ cls := "java/lang/Throwable", name := "fillInStackTrace", desc := "()Ljava/lang/Throwable;" } : Jvm.MethodName)) ∈ lw_all := lw_g (lw_at lw_m2 103 rfl) rfl
theorem q574 : (Jvm.Cond.instantiable "java/lang/IndexOutOfBoundsException" (6 : Nat)) ∈ lw_all := lw_g (lw_at lw_m2 224 rfl) rfl
theorem q575 : (Jvm.Cond.castable "java/lang/IndexOutOfBoundsException" "java/lang/IndexOutOfBoundsException") ∈ lw_tbl := lw_at lw_m2 225 rfl
theorem q576 : (Jvm.Cond.selects "java/lang/IndexOutOfBoundsException" ({ cls := "java/lang/Throwable", name := "fillInStackTrace", desc := "(I)Ljava/lang/Throwable;" } : Jvm.MethodName) ({ cls := "java/lang/Throwable", name := "fillInStackTrace", desc := "(I)Ljava/lang/Throwable;" } : Jvm.MethodName)) ∈ lw_all := lw_g (lw_at lw_m2 226 rfl) rfl
theorem q577 : (Jvm.Cond.lays "java/lang/IndexOutOfBoundsException" "java/lang/Throwable" "cause" "Ljava/lang/Throwable;") ∈ lw_all := lw_g (lw_at lw_m2 227 rfl) rfl
theorem q578 : (Jvm.Cond.lays "java/lang/IndexOutOfBoundsException" "java/lang/Throwable" "stackTrace" "[Ljava/lang/StackTraceElement;") ∈ lw_all := lw_g (lw_at lw_m2 228 rfl) rfl
theorem q579 : (Jvm.Cond.lays "java/lang/IndexOutOfBoundsException" "java/lang/Throwable" "suppressedExceptions" "Ljava/util/List;") ∈ lw_all := lw_g (lw_at lw_m2 229 rfl) rfl
theorem q580 : (Jvm.Cond.lays "java/lang/IndexOutOfBoundsException" "java/lang/Throwable" "detailMessage" "Ljava/lang/String;") ∈ lw_all := lw_g (lw_at lw_m2 230 rfl) rfl
theorem q581 : (Jvm.Cond.lays "java/lang/IndexOutOfBoundsException" "java/lang/Throwable" "backtrace" "Ljava/lang/Object;") ∈ lw_all := lw_g (lw_at lw_m2 231 rfl) rfl
theorem q827 : (Jvm.Cond.instanceMethod ({ cls := "java/lang/IndexOutOfBoundsException", name := "<init>", desc := "(Ljava/lang/String;)V" } : Jvm.MethodName)) ∈ lw_all := lw_g (lw_at lw_m3 237 rfl) rfl
theorem q828 : (Jvm.Cond.code ({ cls := "java/lang/IndexOutOfBoundsException", name := "<init>", desc := "(Ljava/lang/String;)V" } : Jvm.MethodName) prog_36_method_2_code (2 : Nat) (Option.none : Option Jvm.ClassFile.FieldType)) ∈ lw_all := lw_g (lw_at lw_m3 238 rfl) rfl
theorem q829 : (Jvm.Cond.methodLink "java/lang/IndexOutOfBoundsException" (7 : Nat) ({ cls := "java/lang/RuntimeException", name := "<init>", desc := "(Ljava/lang/String;)V" } : Jvm.MethodName)) ∈ lw_all := lw_g (lw_at lw_m3 239 rfl) rfl
theorem q830 : (Jvm.Cond.lays "java/lang/IndexOutOfBoundsException" "java/lang/Throwable" "depth" "I") ∈ lw_all := lw_g (lw_at lw_m4 0 rfl) rfl
theorem q831 : (Jvm.Cond.superclass "java/lang/IndexOutOfBoundsException" "java/lang/RuntimeException") ∈ lw_all := lw_g (lw_at lw_m4 1 rfl) rfl
theorem q888 : (Jvm.Cond.selects "java/lang/IndexOutOfBoundsException" ({ cls := "java/lang/Object", name := "getClass", desc := "()Ljava/lang/Class;" } : Jvm.MethodName) ({ cls := "java/lang/Object", name := "getClass", desc := "()Ljava/lang/Class;" } : Jvm.MethodName)) ∈ lw_all := lw_g (lw_at lw_m4 58 rfl) rfl
theorem q2236 : (Jvm.Cond.declares ({ cls := "java/lang/IndexOutOfBoundsException", name := "<init>", desc := "()V" } : Jvm.MethodName)) ∈ lw_tbl := lw_at lw_m9 206 rfl
theorem q2237 : (Jvm.Cond.declares ({ cls := "java/lang/IndexOutOfBoundsException", name := "<init>", desc := "(Ljava/lang/String;)V" } : Jvm.MethodName)) ∈ lw_tbl := lw_at lw_m9 207 rfl
theorem q2248 : (Jvm.Cond.instanceMethod ({ cls := "java/lang/IndexOutOfBoundsException", name := "<init>", desc := "()V" } : Jvm.MethodName)) ∈ lw_all := lw_g (lw_at lw_m9 218 rfl) rfl
theorem q2249 : (Jvm.Cond.code ({ cls := "java/lang/IndexOutOfBoundsException", name := "<init>", desc := "()V" } : Jvm.MethodName) prog_36_method_1_code (1 : Nat) (Option.none : Option Jvm.ClassFile.FieldType)) ∈ lw_all := lw_g (lw_at lw_m9 219 rfl) rfl
theorem q2250 : (Jvm.Cond.methodLink "java/lang/IndexOutOfBoundsException" (1 : Nat) ({ cls := "java/lang/RuntimeException", name := "<init>", desc := "()V" } : Jvm.MethodName)) ∈ lw_all := lw_g (lw_at lw_m9 220 rfl) rfl
theorem q2371 : (Jvm.Cond.selects "java/lang/IndexOutOfBoundsException" ({ cls := "java/lang/Throwable", name := "getLocalizedMessage", desc := "()Ljava/lang/String;" } : Jvm.MethodName) ({ cls := "java/lang/Throwable", name := "getLocalizedMessage", desc := "()Ljava/lang/String;" } : Jvm.MethodName)) ∈ lw_all := lw_g (lw_at lw_m10 101 rfl) rfl
theorem q2386 : (Jvm.Cond.selects "java/lang/IndexOutOfBoundsException" ({ cls := "java/lang/Throwable", name := "getMessage", desc := "()Ljava/lang/String;" } : Jvm.MethodName) ({ cls := "java/lang/Throwable", name := "getMessage", desc := "()Ljava/lang/String;" } : Jvm.MethodName)) ∈ lw_all := lw_g (lw_at lw_m10 116 rfl) rfl
theorem q2416 : (Jvm.Cond.selects "java/lang/IndexOutOfBoundsException" ({ cls := "java/lang/Object", name := "toString", desc := "()Ljava/lang/String;" } : Jvm.MethodName) ({ cls := "java/lang/Throwable", name := "toString", desc := "()Ljava/lang/String;" } : Jvm.MethodName)) ∈ lw_all := lw_g (lw_at lw_m10 146 rfl) rfl
theorem q3319 : (Jvm.Cond.castable "java/lang/IndexOutOfBoundsException" "java/lang/Object") ∈ lw_tbl := lw_at lw_m14 89 rfl
theorem q134 : (Jvm.Cond.initialized "jdk/internal/util/ArraysSupport") ∈ lw_all := lw_g (lw_at lw_m1 24 rfl) rfl
theorem q609 : (Jvm.Cond.static ({ cls := "jdk/internal/util/ArraysSupport", name := "newLength", desc := "(III)I" } : Jvm.MethodName)) ∈ lw_all := lw_g (lw_at lw_m3 19 rfl) rfl
theorem q610 : (Jvm.Cond.code ({ cls := "jdk/internal/util/ArraysSupport", name := "newLength", desc := "(III)I" } : Jvm.MethodName) prog_72_method_27_code (4 : Nat) (Option.some Jvm.ClassFile.FieldType.int)) ∈ lw_all := lw_g (lw_at lw_m3 20 rfl) rfl
theorem q611 : (Jvm.Cond.methodLink "jdk/internal/util/ArraysSupport" (194 : Nat) ({ cls := "java/lang/Math", name := "max", desc := "(II)I" } : Jvm.MethodName)) ∈ lw_all := lw_g (lw_at lw_m3 21 rfl) rfl
theorem q614 : (Jvm.Cond.constant "jdk/internal/util/ArraysSupport" (200 : Nat) (2147483639 : Int32)) ∈ lw_all := lw_g (lw_at lw_m3 24 rfl) rfl
theorem q615 : (Jvm.Cond.methodLink "jdk/internal/util/ArraysSupport" (201 : Nat) ({ cls := "jdk/internal/util/ArraysSupport", name := "hugeLength", desc := "(II)I" } : Jvm.MethodName)) ∈ lw_all := lw_g (lw_at lw_m3 25 rfl) rfl
theorem q616 : (Jvm.Cond.static ({ cls := "jdk/internal/util/ArraysSupport", name := "hugeLength", desc := "(II)I" } : Jvm.MethodName)) ∈ lw_all := lw_g (lw_at lw_m3 26 rfl) rfl
theorem q617 : (Jvm.Cond.code ({ cls := "jdk/internal/util/ArraysSupport", name := "hugeLength", desc := "(II)I" } : Jvm.MethodName) prog_72_method_28_code (3 : Nat) (Option.some Jvm.ClassFile.FieldType.int)) ∈ lw_all := lw_g (lw_at lw_m3 27 rfl) rfl
theorem q965 : (Jvm.Cond.static ({ cls := "jdk/internal/util/ArraysSupport", name := "vectorizedHashCode", desc := "(Ljava/lang/Object;IIII)I" } : Jvm.MethodName)) ∈ lw_all := lw_g (lw_at lw_m4 135 rfl) rfl
theorem q966 : (Jvm.Cond.code ({ cls := "jdk/internal/util/ArraysSupport", name := "vectorizedHashCode", desc := "(Ljava/lang/Object;IIII)I" } : Jvm.MethodName) prog_72_method_4_code (5 : Nat) (Option.some Jvm.ClassFile.FieldType.int)) ∈ lw_all := lw_g (lw_at lw_m4 136 rfl) rfl
theorem q967 : (Jvm.Cond.classLink "jdk/internal/util/ArraysSupport" (60 : Nat) "[B") ∈ lw_all := lw_g (lw_at lw_m4 137 rfl) rfl
theorem q968 : (Jvm.Cond.methodLink "jdk/internal/util/ArraysSupport" (62 : Nat) ({ cls := "jdk/internal/util/ArraysSupport", name := "signedHashCode", desc := "(I[BII)I" } : Jvm.MethodName)) ∈ lw_all := lw_g (lw_at lw_m4 138 rfl) rfl
theorem q969 : (Jvm.Cond.static ({ cls := "jdk/internal/util/ArraysSupport", name := "signedHashCode", desc := "(I[BII)I" } : Jvm.MethodName)) ∈ lw_all := lw_g (lw_at lw_m4 139 rfl) rfl
theorem q970 : (Jvm.Cond.code ({ cls := "jdk/internal/util/ArraysSupport", name := "signedHashCode", desc := "(I[BII)I" } : Jvm.MethodName) prog_72_method_5_code (6 : Nat) (Option.some Jvm.ClassFile.FieldType.int)) ∈ lw_all := lw_g (lw_at lw_m4 140 rfl) rfl
theorem q971 : (Jvm.Cond.methodLink "jdk/internal/util/ArraysSupport" (66 : Nat) ({ cls := "jdk/internal/util/ArraysSupport", name := "utf16hashCode", desc := "(I[BII)I" } : Jvm.MethodName)) ∈ lw_all := lw_g (lw_at lw_m4 141 rfl) rfl
theorem q972 : (Jvm.Cond.static ({ cls := "jdk/internal/util/ArraysSupport", name := "utf16hashCode", desc := "(I[BII)I" } : Jvm.MethodName)) ∈ lw_all := lw_g (lw_at lw_m4 142 rfl) rfl
theorem q973 : (Jvm.Cond.code ({ cls := "jdk/internal/util/ArraysSupport", name := "utf16hashCode", desc := "(I[BII)I" } : Jvm.MethodName) prog_72_method_10_code (6 : Nat) (Option.some Jvm.ClassFile.FieldType.int)) ∈ lw_all := lw_g (lw_at lw_m4 143 rfl) rfl
theorem q974 : (Jvm.Cond.fieldLink "jdk/internal/util/ArraysSupport" (106 : Nat) "jdk/internal/util/ArraysSupport" "JLA" "Ljdk/internal/access/JavaLangAccess;") ∈ lw_all := lw_g (lw_at lw_m4 144 rfl) rfl
theorem q975 : (Jvm.Cond.laysStatic "jdk/internal/util/ArraysSupport" "JLA" "Ljdk/internal/access/JavaLangAccess;") ∈ lw_tbl := lw_at lw_m4 145 rfl
theorem q976 : (Jvm.Cond.interfaceEntry "jdk/internal/util/ArraysSupport" (110 : Nat)) ∈ lw_tbl := lw_at lw_m4 146 rfl
theorem q977 : (Jvm.Cond.methodLink "jdk/internal/util/ArraysSupport" (110 : Nat) ({ cls := "jdk/internal/access/JavaLangAccess", name := "getUTF16Char", desc := "([BI)C" } : Jvm.MethodName)) ∈ lw_all := lw_g (lw_at lw_m4 147 rfl) rfl
theorem q987 : (Jvm.Cond.classLink "jdk/internal/util/ArraysSupport" (69 : Nat) "[C") ∈ lw_all := lw_g (lw_at lw_m4 157 rfl) rfl
theorem q988 : (Jvm.Cond.methodLink "jdk/internal/util/ArraysSupport" (71 : Nat) ({ cls := "jdk/internal/util/ArraysSupport", name := "hashCode", desc := "(I[CII)I" } : Jvm.MethodName)) ∈ lw_all := lw_g (lw_at lw_m4 158 rfl) rfl
theorem q989 : (Jvm.Cond.static ({ cls := "jdk/internal/util/ArraysSupport", name := "hashCode", desc := "(I[CII)I" } : Jvm.MethodName)) ∈ lw_all := lw_g (lw_at lw_m4 159 rfl) rfl
theorem q990 : (Jvm.Cond.code ({ cls := "jdk/internal/util/ArraysSupport", name := "hashCode", desc := "(I[CII)I" } : Jvm.MethodName) prog_72_method_7_code (6 : Nat) (Option.some Jvm.ClassFile.FieldType.int)) ∈ lw_all := lw_g (lw_at lw_m4 160 rfl) rfl
theorem q991 : (Jvm.Cond.methodLink "jdk/internal/util/ArraysSupport" (75 : Nat) ({ cls := "jdk/internal/util/ArraysSupport", name := "hashCode", desc := "(I[BII)I" } : Jvm.MethodName)) ∈ lw_all := lw_g (lw_at lw_m4 161 rfl) rfl
theorem q992 : (Jvm.Cond.static ({ cls := "jdk/internal/util/ArraysSupport", name := "hashCode", desc := "(I[BII)I" } : Jvm.MethodName)) ∈ lw_all := lw_g (lw_at lw_m4 162 rfl) rfl
theorem q993 : (Jvm.Cond.code ({ cls := "jdk/internal/util/ArraysSupport", name := "hashCode", desc := "(I[BII)I" } : Jvm.MethodName) prog_72_method_6_code (6 : Nat) (Option.some Jvm.ClassFile.FieldType.int)) ∈ lw_all := lw_g (lw_at lw_m4 163 rfl) rfl
theorem q994 : (Jvm.Cond.classLink "jdk/internal/util/ArraysSupport" (77 : Nat) "[S") ∈ lw_all := lw_g (lw_at lw_m4 164 rfl) rfl
theorem q995 : (Jvm.Cond.methodLink "jdk/internal/util/ArraysSupport" (79 : Nat) ({ cls := "jdk/internal/util/ArraysSupport", name := "hashCode", desc := "(I[SII)I" } : Jvm.MethodName)) ∈ lw_all := lw_g (lw_at lw_m4 165 rfl) rfl
theorem q996 : (Jvm.Cond.static ({ cls := "jdk/internal/util/ArraysSupport", name := "hashCode", desc := "(I[SII)I" } : Jvm.MethodName)) ∈ lw_all := lw_g (lw_at lw_m4 166 rfl) rfl
theorem q997 : (Jvm.Cond.code ({ cls := "jdk/internal/util/ArraysSupport", name := "hashCode", desc := "(I[SII)I" } : Jvm.MethodName) prog_72_method_8_code (6 : Nat) (Option.some Jvm.ClassFile.FieldType.int)) ∈ lw_all := lw_g (lw_at lw_m4 167 rfl) rfl
theorem q998 : (Jvm.Cond.classLink "jdk/internal/util/ArraysSupport" (82 : Nat) "[I") ∈ lw_all := lw_g (lw_at lw_m4 168 rfl) rfl
theorem q999 : (Jvm.Cond.methodLink "jdk/internal/util/ArraysSupport" (84 : Nat) ({ cls := "jdk/internal/util/ArraysSupport", name := "hashCode", desc := "(I[III)I" } : Jvm.MethodName)) ∈ lw_all := lw_g (lw_at lw_m4 169 rfl) rfl
theorem q1000 : (Jvm.Cond.static ({ cls := "jdk/internal/util/ArraysSupport", name := "hashCode", desc := "(I[III)I" } : Jvm.MethodName)) ∈ lw_all := lw_g (lw_at lw_m4 170 rfl) rfl
theorem q1001 : (Jvm.Cond.code ({ cls := "jdk/internal/util/ArraysSupport", name := "hashCode", desc := "(I[III)I" } : Jvm.MethodName) prog_72_method_9_code (6 : Nat) (Option.some Jvm.ClassFile.FieldType.int)) ∈ lw_all := lw_g (lw_at lw_m4 171 rfl) rfl
theorem q1002 : (Jvm.Cond.classLink "jdk/internal/util/ArraysSupport" (87 : Nat) "java/lang/IllegalArgumentException") ∈ lw_all := lw_g (lw_at lw_m4 172 rfl) rfl
theorem q1003 : (Jvm.Cond.classLink "jdk/internal/util/ArraysSupport" (89 : Nat) "java/lang/StringBuilder") ∈ lw_all := lw_g (lw_at lw_m4 173 rfl) rfl
theorem q1004 : (Jvm.Cond.methodLink "jdk/internal/util/ArraysSupport" (91 : Nat) ({ cls := "java/lang/StringBuilder", name := "<init>", desc := "()V" } : Jvm.MethodName)) ∈ lw_all := lw_g (lw_at lw_m4 174 rfl) rfl
theorem q1005 : (Jvm.Cond.stringRef "jdk/internal/util/ArraysSupport" (92 : Nat) "unrecognized basic type: ") ∈ lw_tbl := lw_at lw_m4 175 rfl
theorem q1006 : (Jvm.Cond.methodLink "jdk/internal/util/ArraysSupport" (94 : Nat) ({ cls := "java/lang/StringBuilder", name := "append", desc := "(Ljava/lang/String;)Ljava/lang/StringBuilder;" } : Jvm.MethodName)) ∈ lw_all := lw_g (lw_at lw_m4 176 rfl) rfl
theorem q1007 : (Jvm.Cond.methodLink "jdk/internal/util/ArraysSupport" (98 : Nat) ({ cls := "java/lang/StringBuilder", name := "append", desc := "(I)Ljava/lang/StringBuilder;" } : Jvm.MethodName)) ∈ lw_all := lw_g (lw_at lw_m4 177 rfl) rfl
theorem q1008 : (Jvm.Cond.methodLink "jdk/internal/util/ArraysSupport" (101 : Nat) ({ cls := "java/lang/StringBuilder", name := "toString", desc := "()Ljava/lang/String;" } : Jvm.MethodName)) ∈ lw_all := lw_g (lw_at lw_m4 178 rfl) rfl
theorem q1009 : (Jvm.Cond.methodLink "jdk/internal/util/ArraysSupport" (105 : Nat) ({ cls := "java/lang/IllegalArgumentException", name := "<init>", desc := "(Ljava/lang/String;)V" } : Jvm.MethodName)) ∈ lw_all := lw_g (lw_at lw_m4 179 rfl) rfl
theorem q135 : (Jvm.Cond.initialized "java/lang/Math") ∈ lw_all := lw_g (lw_at lw_m1 25 rfl) rfl
theorem q612 : (Jvm.Cond.static ({ cls := "java/lang/Math", name := "max", desc := "(II)I" } : Jvm.MethodName)) ∈ lw_all := lw_g (lw_at lw_m3 22 rfl) rfl
theorem q613 : (Jvm.Cond.code ({ cls := "java/lang/Math", name := "max", desc := "(II)I" } : Jvm.MethodName) prog_39_method_65_code (2 : Nat) (Option.some Jvm.ClassFile.FieldType.int)) ∈ lw_all := lw_g (lw_at lw_m3 23 rfl) rfl
theorem q630 : (Jvm.Cond.static ({ cls := "java/lang/Math", name := "min", desc := "(II)I" } : Jvm.MethodName)) ∈ lw_all := lw_g (lw_at lw_m3 40 rfl) rfl
theorem q631 : (Jvm.Cond.code ({ cls := "java/lang/Math", name := "min", desc := "(II)I" } : Jvm.MethodName) prog_39_method_69_code (2 : Nat) (Option.some Jvm.ClassFile.FieldType.int)) ∈ lw_all := lw_g (lw_at lw_m3 41 rfl) rfl
theorem q1347 : (Jvm.Cond.static ({ cls := "java/lang/Math", name := "abs", desc := "(I)I" } : Jvm.MethodName)) ∈ lw_all := lw_g (lw_at lw_m6 37 rfl) rfl
theorem q1348 : (Jvm.Cond.code ({ cls := "java/lang/Math", name := "abs", desc := "(I)I" } : Jvm.MethodName) prog_39_method_59_code (1 : Nat) (Option.some Jvm.ClassFile.FieldType.int)) ∈ lw_all := lw_g (lw_at lw_m6 38 rfl) rfl
theorem q1470 : (Jvm.Cond.static ({ cls := "java/lang/Math", name := "max", desc := "(JJ)J" } : Jvm.MethodName)) ∈ lw_all := lw_g (lw_at lw_m6 160 rfl) rfl
theorem q1471 : (Jvm.Cond.code ({ cls := "java/lang/Math", name := "max", desc := "(JJ)J" } : Jvm.MethodName) prog_39_method_66_code (4 : Nat) (Option.some Jvm.ClassFile.FieldType.long)) ∈ lw_all := lw_g (lw_at lw_m6 161 rfl) rfl
theorem q136 : (Jvm.Cond.initialized "java/util/Arrays") ∈ lw_all := lw_g (lw_at lw_m1 26 rfl) rfl
theorem q620 : (Jvm.Cond.static ({ cls := "java/util/Arrays", name := "copyOf", desc := "([BI)[B" } : Jvm.MethodName)) ∈ lw_all := lw_g (lw_at lw_m3 30 rfl) rfl
theorem q621 : (Jvm.Cond.code ({ cls := "java/util/Arrays", name := "copyOf", desc := "([BI)[B" } : Jvm.MethodName) prog_58_method_121_code (3 : Nat) (Option.some (Jvm.ClassFile.FieldType.array Jvm.ClassFile.FieldType.byte))) ∈ lw_all := lw_g (lw_at lw_m3 31 rfl) rfl
theorem q622 : (Jvm.Cond.methodLink "java/util/Arrays" (310 : Nat) ({ cls := "[B", name := "clone", desc := "()Ljava/lang/Object;" } : Jvm.MethodName)) ∈ lw_all := lw_g (lw_at lw_m3 32 rfl) rfl
theorem q628 : (Jvm.Cond.classLink "java/util/Arrays" (311 : Nat) "[B") ∈ lw_all := lw_g (lw_at lw_m3 38 rfl) rfl
theorem q629 : (Jvm.Cond.methodLink "java/util/Arrays" (304 : Nat) ({ cls := "java/lang/Math", name := "min", desc := "(II)I" } : Jvm.MethodName)) ∈ lw_all := lw_g (lw_at lw_m3 39 rfl) rfl
theorem q632 : (Jvm.Cond.methodLink "java/util/Arrays" (150 : Nat) ({ cls := "java/lang/System", name := "arraycopy", desc := "(Ljava/lang/Object;ILjava/lang/Object;II)V" } : Jvm.MethodName)) ∈ lw_all := lw_g (lw_at lw_m3 42 rfl) rfl
theorem q763 : (Jvm.Cond.static ({ cls := "java/util/Arrays", name := "copyOfRange", desc := "([BII)[B" } : Jvm.MethodName)) ∈ lw_all := lw_g (lw_at lw_m3 173 rfl) rfl
theorem q764 : (Jvm.Cond.code ({ cls := "java/util/Arrays", name := "copyOfRange", desc := "([BII)[B" } : Jvm.MethodName) prog_58_method_132_code (3 : Nat) (Option.some (Jvm.ClassFile.FieldType.array Jvm.ClassFile.FieldType.byte))) ∈ lw_all := lw_g (lw_at lw_m3 174 rfl) rfl
theorem q765 : (Jvm.Cond.methodLink "java/util/Arrays" (339 : Nat) ({ cls := "java/util/Arrays", name := "copyOfRangeByte", desc := "([BII)[B" } : Jvm.MethodName)) ∈ lw_all := lw_g (lw_at lw_m3 175 rfl) rfl
theorem q766 : (Jvm.Cond.static ({ cls := "java/util/Arrays", name := "copyOfRangeByte", desc := "([BII)[B" } : Jvm.MethodName)) ∈ lw_all := lw_g (lw_at lw_m3 176 rfl) rfl
theorem q767 : (Jvm.Cond.code ({ cls := "java/util/Arrays", name := "copyOfRangeByte", desc := "([BII)[B" } : Jvm.MethodName) prog_58_method_133_code (5 : Nat) (Option.some (Jvm.ClassFile.FieldType.array Jvm.ClassFile.FieldType.byte))) ∈ lw_all := lw_g (lw_at lw_m3 177 rfl) rfl
theorem q768 : (Jvm.Cond.methodLink "java/util/Arrays" (343 : Nat) ({ cls := "java/util/Arrays", name := "checkLength", desc := "(II)V" } : Jvm.MethodName)) ∈ lw_all := lw_g (lw_at lw_m3 178 rfl) rfl
theorem q769 : (Jvm.Cond.static ({ cls := "java/util/Arrays", name := "checkLength", desc := "(II)V" } : Jvm.MethodName)) ∈ lw_all := lw_g (lw_at lw_m3 179 rfl) rfl
theorem q770 : (Jvm.Cond.code ({ cls := "java/util/Arrays", name := "checkLength", desc := "(II)V" } : Jvm.MethodName) prog_58_method_131_code (2 : Nat) (Option.none : Option Jvm.ClassFile.FieldType)) ∈ lw_all := lw_g (lw_at lw_m3 180 rfl) rfl
theorem q771 : (Jvm.Cond.classLink "java/util/Arrays" (43 : Nat) "java/lang/IllegalArgumentException") ∈ lw_all := lw_g (lw_at lw_m3 181 rfl) rfl
theorem q780 : (Jvm.Cond.classLink "java/util/Arrays" (45 : Nat) "java/lang/StringBuilder") ∈ lw_all := lw_g (lw_at lw_m3 190 rfl) rfl
theorem q781 : (Jvm.Cond.methodLink "java/util/Arrays" (47 : Nat) ({ cls := "java/lang/StringBuilder", name := "<init>", desc := "()V" } : Jvm.MethodName)) ∈ lw_all := lw_g (lw_at lw_m3 191 rfl) rfl
theorem q782 : (Jvm.Cond.methodLink "java/util/Arrays" (54 : Nat) ({ cls := "java/lang/StringBuilder", name := "append", desc := "(I)Ljava/lang/StringBuilder;" } : Jvm.MethodName)) ∈ lw_all := lw_g (lw_at lw_m3 192 rfl) rfl
theorem q783 : (Jvm.Cond.stringRef "java/util/Arrays" (337 : Nat) " > ") ∈ lw_tbl := lw_at lw_m3 193 rfl
theorem q784 : (Jvm.Cond.methodLink "java/util/Arrays" (50 : Nat) ({ cls := "java/lang/StringBuilder", name := "append", desc := "(Ljava/lang/String;)Ljava/lang/StringBuilder;" } : Jvm.MethodName)) ∈ lw_all := lw_g (lw_at lw_m3 194 rfl) rfl
theorem q785 : (Jvm.Cond.methodLink "java/util/Arrays" (61 : Nat) ({ cls := "java/lang/StringBuilder", name := "toString", desc := "()Ljava/lang/String;" } : Jvm.MethodName)) ∈ lw_all := lw_g (lw_at lw_m3 195 rfl) rfl
theorem q786 : (Jvm.Cond.methodLink "java/util/Arrays" (65 : Nat) ({ cls := "java/lang/IllegalArgumentException", name := "<init>", desc := "(Ljava/lang/String;)V" } : Jvm.MethodName)) ∈ lw_all := lw_g (lw_at lw_m3 196 rfl) rfl
theorem q860 : (Jvm.Cond.static ({ cls := "java/util/Arrays", name := "copyOf", desc := "([Ljava/lang/Object;I)[Ljava/lang/Object;" } : Jvm.MethodName)) ∈ lw_all := lw_g (lw_at lw_m4 30 rfl) rfl
theorem q861 : (Jvm.Cond.code ({ cls := "java/util/Arrays", name := "copyOf", desc := "([Ljava/lang/Object;I)[Ljava/lang/Object;" } : Jvm.MethodName) prog_58_method_119_code (2 : Nat) (Option.some (Jvm.ClassFile.FieldType.array (Jvm.ClassFile.FieldType.object "java/lang/Object")))) ∈ lw_all := lw_g (lw_at lw_m4 31 rfl) rfl
theorem q862 : (Jvm.Cond.methodLink "java/util/Arrays" (86 : Nat) ({ cls := "java/lang/Object", name := "getClass", desc := "()Ljava/lang/Class;" } : Jvm.MethodName)) ∈ lw_all := lw_g (lw_at lw_m4 32 rfl) rfl
theorem q900 : (Jvm.Cond.methodLink "java/util/Arrays" (300 : Nat) ({ cls := "java/util/Arrays", name := "copyOf", desc := "([Ljava/lang/Object;ILjava/lang/Class;)[Ljava/lang/Object;" } : Jvm.MethodName)) ∈ lw_all := lw_g (lw_at lw_m4 70 rfl) rfl
theorem q901 : (Jvm.Cond.static ({ cls := "java/util/Arrays", name := "copyOf", desc := "([Ljava/lang/Object;ILjava/lang/Class;)[Ljava/lang/Object;" } : Jvm.MethodName)) ∈ lw_all := lw_g (lw_at lw_m4 71 rfl) rfl
theorem q902 : (Jvm.Cond.code ({ cls := "java/util/Arrays", name := "copyOf", desc := "([Ljava/lang/Object;ILjava/lang/Class;)[Ljava/lang/Object;" } : Jvm.MethodName) prog_58_method_120_code (4 : Nat) (Option.some (Jvm.ClassFile.FieldType.array (Jvm.ClassFile.FieldType.object "java/lang/Object")))) ∈ lw_all := lw_g (lw_at lw_m4 72 rfl) rfl
theorem q903 : (Jvm.Cond.classLink "java/util/Arrays" (110 : Nat) "[Ljava/lang/Object;") ∈ lw_all := lw_g (lw_at lw_m4 73 rfl) rfl
theorem q905 : (Jvm.Cond.classLink "java/util/Arrays" (2 : Nat) "java/lang/Object") ∈ lw_all := lw_g (lw_at lw_m4 75 rfl) rfl
theorem q2570 : (Jvm.Cond.static ({ cls := "java/util/Arrays", name := "fill", desc := "([BIIB)V" } : Jvm.MethodName)) ∈ lw_all := lw_g (lw_at lw_m11 60 rfl) rfl
theorem q2571 : (Jvm.Cond.code ({ cls := "java/util/Arrays", name := "fill", desc := "([BIIB)V" } : Jvm.MethodName) prog_58_method_110_code (5 : Nat) (Option.none : Option Jvm.ClassFile.FieldType)) ∈ lw_all := lw_g (lw_at lw_m11 61 rfl) rfl
theorem q2572 : (Jvm.Cond.methodLink "java/util/Arrays" (13 : Nat) ({ cls := "java/util/Arrays", name := "rangeCheck", desc := "(III)V" } : Jvm.MethodName)) ∈ lw_all := lw_g (lw_at lw_m11 62 rfl) rfl
theorem q2573 : (Jvm.Cond.static ({ cls := "java/util/Arrays", name := "rangeCheck", desc := "(III)V" } : Jvm.MethodName)) ∈ lw_all := lw_g (lw_at lw_m11 63 rfl) rfl
theorem q2574 : (Jvm.Cond.code ({ cls := "java/util/Arrays", name := "rangeCheck", desc := "(III)V" } : Jvm.MethodName) prog_58_method_30_code (3 : Nat) (Option.none : Option Jvm.ClassFile.FieldType)) ∈ lw_all := lw_g (lw_at lw_m11 64 rfl) rfl
theorem q2575 : (Jvm.Cond.stringRef "java/util/Arrays" (48 : Nat) "fromIndex(") ∈ lw_tbl := lw_at lw_m11 65 rfl
theorem q2576 : (Jvm.Cond.stringRef "java/util/Arrays" (57 : Nat) ") > toIndex(") ∈ lw_tbl := lw_at lw_m11 66 rfl
theorem q2577 : (Jvm.Cond.stringRef "java/util/Arrays" (59 : Nat) ")") ∈ lw_tbl := lw_at lw_m11 67 rfl
theorem q2578 : (Jvm.Cond.classLink "java/util/Arrays" (68 : Nat) "java/lang/ArrayIndexOutOfBoundsException") ∈ lw_all := lw_g (lw_at lw_m11 68 rfl) rfl
theorem q2579 : (Jvm.Cond.methodLink "java/util/Arrays" (70 : Nat) ({ cls := "java/lang/ArrayIndexOutOfBoundsException", name := "<init>", desc := "(I)V" } : Jvm.MethodName)) ∈ lw_all := lw_g (lw_at lw_m11 69 rfl) rfl
theorem q138 : (Jvm.Cond.initialized "java/lang/StringLatin1") ∈ lw_all := lw_g (lw_at lw_m1 28 rfl) rfl
theorem q689 : (Jvm.Cond.static ({ cls := "java/lang/StringLatin1", name := "inflate", desc := "([BI[BII)V" } : Jvm.MethodName)) ∈ lw_all := lw_g (lw_at lw_m3 99 rfl) rfl
theorem q690 : (Jvm.Cond.code ({ cls := "java/lang/StringLatin1", name := "inflate", desc := "([BI[BII)V" } : Jvm.MethodName) prog_45_method_50_code (5 : Nat) (Option.none : Option Jvm.ClassFile.FieldType)) ∈ lw_all := lw_g (lw_at lw_m3 100 rfl) rfl
theorem q691 : (Jvm.Cond.methodLink "java/lang/StringLatin1" (240 : Nat) ({ cls := "java/lang/StringUTF16", name := "inflate", desc := "([BI[BII)V" } : Jvm.MethodName)) ∈ lw_all := lw_g (lw_at lw_m3 101 rfl) rfl
theorem q962 : (Jvm.Cond.static ({ cls := "java/lang/StringLatin1", name := "hashCode", desc := "([B)I" } : Jvm.MethodName)) ∈ lw_all := lw_g (lw_at lw_m4 132 rfl) rfl
theorem q963 : (Jvm.Cond.code ({ cls := "java/lang/StringLatin1", name := "hashCode", desc := "([B)I" } : Jvm.MethodName) prog_45_method_21_code (1 : Nat) (Option.some Jvm.ClassFile.FieldType.int)) ∈ lw_all := lw_g (lw_at lw_m4 133 rfl) rfl
theorem q964 : (Jvm.Cond.methodLink "java/lang/StringLatin1" (84 : Nat) ({ cls := "jdk/internal/util/ArraysSupport", name := "vectorizedHashCode", desc := "(Ljava/lang/Object;IIII)I" } : Jvm.MethodName)) ∈ lw_all := lw_g (lw_at lw_m4 134 rfl) rfl
theorem q1021 : (Jvm.Cond.static ({ cls := "java/lang/StringLatin1", name := "equals", desc := "([B[B)Z" } : Jvm.MethodName)) ∈ lw_all := lw_g (lw_at lw_m4 191 rfl) rfl
theorem q1022 : (Jvm.Cond.code ({ cls := "java/lang/StringLatin1", name := "equals", desc := "([B[B)Z" } : Jvm.MethodName) prog_45_method_13_code (3 : Nat) (Option.some Jvm.ClassFile.FieldType.boolean)) ∈ lw_all := lw_g (lw_at lw_m4 192 rfl) rfl
theorem q1202 : (Jvm.Cond.static ({ cls := "java/lang/StringLatin1", name := "indexOf", desc := "([BIII)I" } : Jvm.MethodName)) ∈ lw_all := lw_g (lw_at lw_m5 132 rfl) rfl
theorem q1203 : (Jvm.Cond.code ({ cls := "java/lang/StringLatin1", name := "indexOf", desc := "([BIII)I" } : Jvm.MethodName) prog_45_method_22_code (4 : Nat) (Option.some Jvm.ClassFile.FieldType.int)) ∈ lw_all := lw_g (lw_at lw_m5 133 rfl) rfl
theorem q1204 : (Jvm.Cond.methodLink "java/lang/StringLatin1" (88 : Nat) ({ cls := "java/lang/StringLatin1", name := "canEncode", desc := "(I)Z" } : Jvm.MethodName)) ∈ lw_all := lw_g (lw_at lw_m5 134 rfl) rfl
theorem q1205 : (Jvm.Cond.static ({ cls := "java/lang/StringLatin1", name := "canEncode", desc := "(I)Z" } : Jvm.MethodName)) ∈ lw_all := lw_g (lw_at lw_m5 135 rfl) rfl
theorem q1206 : (Jvm.Cond.code ({ cls := "java/lang/StringLatin1", name := "canEncode", desc := "(I)Z" } : Jvm.MethodName) prog_45_method_4_code (1 : Nat) (Option.some Jvm.ClassFile.FieldType.boolean)) ∈ lw_all := lw_g (lw_at lw_m5 136 rfl) rfl
theorem q1207 : (Jvm.Cond.methodLink "java/lang/StringLatin1" (92 : Nat) ({ cls := "java/lang/Math", name := "max", desc := "(II)I" } : Jvm.MethodName)) ∈ lw_all := lw_g (lw_at lw_m5 137 rfl) rfl
theorem q1208 : (Jvm.Cond.methodLink "java/lang/StringLatin1" (38 : Nat) ({ cls := "java/lang/Math", name := "min", desc := "(II)I" } : Jvm.MethodName)) ∈ lw_all := lw_g (lw_at lw_m5 138 rfl) rfl
theorem q1209 : (Jvm.Cond.methodLink "java/lang/StringLatin1" (95 : Nat) ({ cls := "java/lang/StringLatin1", name := "indexOfChar", desc := "([BIII)I" } : Jvm.MethodName)) ∈ lw_all := lw_g (lw_at lw_m5 139 rfl) rfl
theorem q1210 : (Jvm.Cond.static ({ cls := "java/lang/StringLatin1", name := "indexOfChar", desc := "([BIII)I" } : Jvm.MethodName)) ∈ lw_all := lw_g (lw_at lw_m5 140 rfl) rfl
theorem q1211 : (Jvm.Cond.code ({ cls := "java/lang/StringLatin1", name := "indexOfChar", desc := "([BIII)I" } : Jvm.MethodName) prog_45_method_23_code (6 : Nat) (Option.some Jvm.ClassFile.FieldType.int)) ∈ lw_all := lw_g (lw_at lw_m5 141 rfl) rfl
theorem q2256 : (Jvm.Cond.static ({ cls := "java/lang/StringLatin1", name := "charAt", desc := "([BI)C" } : Jvm.MethodName)) ∈ lw_all := lw_g (lw_at lw_m9 226 rfl) rfl
theorem q2257 : (Jvm.Cond.code ({ cls := "java/lang/StringLatin1", name := "charAt", desc := "([BI)C" } : Jvm.MethodName) prog_45_method_2_code (2 : Nat) (Option.some Jvm.ClassFile.FieldType.char)) ∈ lw_all := lw_g (lw_at lw_m9 227 rfl) rfl
theorem q2258 : (Jvm.Cond.methodLink "java/lang/StringLatin1" (9 : Nat) ({ cls := "java/lang/String", name := "checkIndex", desc := "(II)V" } : Jvm.MethodName)) ∈ lw_all := lw_g (lw_at lw_m9 228 rfl) rfl
theorem q2290 : (Jvm.Cond.static ({ cls := "java/lang/StringLatin1", name := "canEncode", desc := "(C)Z" } : Jvm.MethodName)) ∈ lw_all := lw_g (lw_at lw_m10 20 rfl) rfl
theorem q2291 : (Jvm.Cond.code ({ cls := "java/lang/StringLatin1", name := "canEncode", desc := "(C)Z" } : Jvm.MethodName) prog_45_method_3_code (1 : Nat) (Option.some Jvm.ClassFile.FieldType.boolean)) ∈ lw_all := lw_g (lw_at lw_m10 21 rfl) rfl
theorem q2448 : (Jvm.Cond.static ({ cls := "java/lang/StringLatin1", name := "indexOf", desc := "([B[B)I" } : Jvm.MethodName)) ∈ lw_all := lw_g (lw_at lw_m10 178 rfl) rfl
theorem q2449 : (Jvm.Cond.code ({ cls := "java/lang/StringLatin1", name := "indexOf", desc := "([B[B)I" } : Jvm.MethodName) prog_45_method_24_code (2 : Nat) (Option.some Jvm.ClassFile.FieldType.int)) ∈ lw_all := lw_g (lw_at lw_m10 179 rfl) rfl
theorem q2450 : (Jvm.Cond.methodLink "java/lang/StringLatin1" (99 : Nat) ({ cls := "java/lang/StringLatin1", name := "indexOf", desc := "([BI[BII)I" } : Jvm.MethodName)) ∈ lw_all := lw_g (lw_at lw_m10 180 rfl) rfl
theorem q2451 : (Jvm.Cond.static ({ cls := "java/lang/StringLatin1", name := "indexOf", desc := "([BI[BII)I" } : Jvm.MethodName)) ∈ lw_all := lw_g (lw_at lw_m10 181 rfl) rfl
theorem q2452 : (Jvm.Cond.code ({ cls := "java/lang/StringLatin1", name := "indexOf", desc := "([BI[BII)I" } : Jvm.MethodName) prog_45_method_25_code (11 : Nat) (Option.some Jvm.ClassFile.FieldType.int)) ∈ lw_all := lw_g (lw_at lw_m10 182 rfl) rfl
theorem q2567 : (Jvm.Cond.static ({ cls := "java/lang/StringLatin1", name := "fillNull", desc := "([BII)V" } : Jvm.MethodName)) ∈ lw_all := lw_g (lw_at lw_m11 57 rfl) rfl
theorem q2568 : (Jvm.Cond.code ({ cls := "java/lang/StringLatin1", name := "fillNull", desc := "([BII)V" } : Jvm.MethodName) prog_45_method_48_code (3 : Nat) (Option.none : Option Jvm.ClassFile.FieldType)) ∈ lw_all := lw_g (lw_at lw_m11 58 rfl) rfl
theorem q2569 : (Jvm.Cond.methodLink "java/lang/StringLatin1" (236 : Nat) ({ cls := "java/util/Arrays", name := "fill", desc := "([BIIB)V" } : Jvm.MethodName)) ∈ lw_all := lw_g (lw_at lw_m11 59 rfl) rfl
theorem q140 : (Jvm.Cond.initialized "java/lang/Integer") ∈ lw_all := lw_g (lw_at lw_m1 30 rfl) rfl
theorem q717 : (Jvm.Cond.static ({ cls := "java/lang/Integer", name := "stringSize", desc := "(I)I" } : Jvm.MethodName)) ∈ lw_all := lw_g (lw_at lw_m3 127 rfl) rfl
theorem q718 : (Jvm.Cond.code ({ cls := "java/lang/Integer", name := "stringSize", desc := "(I)I" } : Jvm.MethodName) prog_37_method_13_code (4 : Nat) (Option.some Jvm.ClassFile.FieldType.int)) ∈ lw_all := lw_g (lw_at lw_m3 128 rfl) rfl
theorem q720 : (Jvm.Cond.static ({ cls := "java/lang/Integer", name := "getChars", desc := "(II[B)I" } : Jvm.MethodName)) ∈ lw_all := lw_g (lw_at lw_m3 130 rfl) rfl
theorem q721 : (Jvm.Cond.code ({ cls := "java/lang/Integer", name := "getChars", desc := "(II[B)I" } : Jvm.MethodName) prog_37_method_12_code (7 : Nat) (Option.some Jvm.ClassFile.FieldType.int)) ∈ lw_all := lw_g (lw_at lw_m3 131 rfl) rfl
theorem q722 : (Jvm.Cond.fieldLink "java/lang/Integer" (83 : Nat) "java/lang/Integer" "DigitOnes" "[B") ∈ lw_all := lw_g (lw_at lw_m3 132 rfl) rfl
theorem q723 : (Jvm.Cond.laysStatic "java/lang/Integer" "DigitOnes" "[B") ∈ lw_tbl := lw_at lw_m3 133 rfl
theorem q724 : (Jvm.Cond.fieldLink "java/lang/Integer" (87 : Nat) "java/lang/Integer" "DigitTens" "[B") ∈ lw_all := lw_g (lw_at lw_m3 134 rfl) rfl
theorem q725 : (Jvm.Cond.laysStatic "java/lang/Integer" "DigitTens" "[B") ∈ lw_tbl := lw_at lw_m3 135 rfl
theorem q141 : (Jvm.Cond.initialized "java/lang/IllegalArgumentException") ∈ lw_all := lw_g (lw_at lw_m1 31 rfl) rfl
theorem q451 : (Jvm.Cond.selects "java/lang/IllegalArgumentException" ({ cls := "java/lang/Throwable", name := "fillInStackTrace", desc := "()Ljava/lang/Throwable;" } : Jvm.MethodName) ({ cls := "java/lang/Throwable", name := "fillInStackTrace", desc := "()Ljava/lang/Throwable;" } : Jvm.MethodName)) ∈ lw_all := lw_g (lw_at lw_m2 101 rfl) rfl
theorem q772 : (Jvm.Cond.instantiable "java/lang/IllegalArgumentException" (6 : Nat)) ∈ lw_all := lw_g (lw_at lw_m3 182 rfl) rfl
theorem q773 : (Jvm.Cond.castable "java/lang/IllegalArgumentException" "java/lang/IllegalArgumentException") ∈ lw_tbl := lw_at lw_m3 183 rfl
theorem q774 : (Jvm.Cond.selects "java/lang/IllegalArgumentException" ({ cls := "java/lang/Throwable", name := "fillInStackTrace", desc := "(I)Ljava/lang/Throwable;" } : Jvm.MethodName) ({ cls := "java/lang/Throwable", name := "fillInStackTrace", desc := "(I)Ljava/lang/Throwable;" } : Jvm.MethodName)) ∈ lw_all := lw_g (lw_at lw_m3 184 rfl) rfl
theorem q775 : (Jvm.Cond.lays "java/lang/IllegalArgumentException" "java/lang/Throwable" "cause" "Ljava/lang/Throwable;") ∈ lw_all := lw_g (lw_at lw_m3 185 rfl) rfl
theorem q776 : (Jvm.Cond.lays "java/lang/IllegalArgumentException" "java/lang/Throwable" "stackTrace" "[Ljava/lang/StackTraceElement;") ∈ lw_all := lw_g (lw_at lw_m3 186 rfl) rfl
theorem q777 : (Jvm.Cond.lays "java/lang/IllegalArgumentException" "java/lang/Throwable" "suppressedExceptions" "Ljava/util/List;") ∈ lw_all := lw_g (lw_at lw_m3 187 rfl) rfl
theorem q778 : (Jvm.Cond.lays "java/lang/IllegalArgumentException" "java/lang/Throwable" "detailMessage" "Ljava/lang/String;") ∈ lw_all := lw_g (lw_at lw_m3 188 rfl) rfl
theorem q779 : (Jvm.Cond.lays "java/lang/IllegalArgumentException" "java/lang/Throwable" "backtrace" "Ljava/lang/Object;") ∈ lw_all := lw_g (lw_at lw_m3 189 rfl) rfl
theorem q787 : (Jvm.Cond.instanceMethod ({ cls := "java/lang/IllegalArgumentException", name := "<init>", desc := "(Ljava/lang/String;)V" } : Jvm.MethodName)) ∈ lw_all := lw_g (lw_at lw_m3 197 rfl) rfl
theorem q788 : (Jvm.Cond.code ({ cls := "java/lang/IllegalArgumentException", name := "<init>", desc := "(Ljava/lang/String;)V" } : Jvm.MethodName) prog_34_method_2_code (2 : Nat) (Option.none : Option Jvm.ClassFile.FieldType)) ∈ lw_all := lw_g (lw_at lw_m3 198 rfl) rfl
theorem q789 : (Jvm.Cond.methodLink "java/lang/IllegalArgumentException" (7 : Nat) ({ cls := "java/lang/RuntimeException", name := "<init>", desc := "(Ljava/lang/String;)V" } : Jvm.MethodName)) ∈ lw_all := lw_g (lw_at lw_m3 199 rfl) rfl
theorem q798 : (Jvm.Cond.lays "java/lang/IllegalArgumentException" "java/lang/Throwable" "depth" "I") ∈ lw_all := lw_g (lw_at lw_m3 208 rfl) rfl
theorem q799 : (Jvm.Cond.superclass "java/lang/IllegalArgumentException" "java/lang/RuntimeException") ∈ lw_all := lw_g (lw_at lw_m3 209 rfl) rfl
theorem q886 : (Jvm.Cond.selects "java/lang/IllegalArgumentException" ({ cls := "java/lang/Object", name := "getClass", desc := "()Ljava/lang/Class;" } : Jvm.MethodName) ({ cls := "java/lang/Object", name := "getClass", desc := "()Ljava/lang/Class;" } : Jvm.MethodName)) ∈ lw_all := lw_g (lw_at lw_m4 56 rfl) rfl
theorem q1546 : (Jvm.Cond.instanceMethod ({ cls := "java/lang/IllegalArgumentException", name := "<init>", desc := "()V" } : Jvm.MethodName)) ∈ lw_all := lw_g (lw_at lw_m6 236 rfl) rfl
theorem q1547 : (Jvm.Cond.code ({ cls := "java/lang/IllegalArgumentException", name := "<init>", desc := "()V" } : Jvm.MethodName) prog_34_method_1_code (1 : Nat) (Option.none : Option Jvm.ClassFile.FieldType)) ∈ lw_all := lw_g (lw_at lw_m6 237 rfl) rfl
theorem q1548 : (Jvm.Cond.methodLink "java/lang/IllegalArgumentException" (1 : Nat) ({ cls := "java/lang/RuntimeException", name := "<init>", desc := "()V" } : Jvm.MethodName)) ∈ lw_all := lw_g (lw_at lw_m6 238 rfl) rfl
theorem q2369 : (Jvm.Cond.selects "java/lang/IllegalArgumentException" ({ cls := "java/lang/Throwable", name := "getLocalizedMessage", desc := "()Ljava/lang/String;" } : Jvm.MethodName) ({ cls := "java/lang/Throwable", name := "getLocalizedMessage", desc := "()Ljava/lang/String;" } : Jvm.MethodName)) ∈ lw_all := lw_g (lw_at lw_m10 99 rfl) rfl
theorem q2384 : (Jvm.Cond.selects "java/lang/IllegalArgumentException" ({ cls := "java/lang/Throwable", name := "getMessage", desc := "()Ljava/lang/String;" } : Jvm.MethodName) ({ cls := "java/lang/Throwable", name := "getMessage", desc := "()Ljava/lang/String;" } : Jvm.MethodName)) ∈ lw_all := lw_g (lw_at lw_m10 114 rfl) rfl
theorem q2414 : (Jvm.Cond.selects "java/lang/IllegalArgumentException" ({ cls := "java/lang/Object", name := "toString", desc := "()Ljava/lang/String;" } : Jvm.MethodName) ({ cls := "java/lang/Throwable", name := "toString", desc := "()Ljava/lang/String;" } : Jvm.MethodName)) ∈ lw_all := lw_g (lw_at lw_m10 144 rfl) rfl
theorem q3321 : (Jvm.Cond.castable "java/lang/IllegalArgumentException" "java/lang/Object") ∈ lw_tbl := lw_at lw_m14 91 rfl
theorem q143 : (Jvm.Cond.initialized "java/util/LinkedList$Node") ∈ lw_all := lw_g (lw_at lw_m1 33 rfl) rfl
theorem q896 : (Jvm.Cond.selects "java/util/LinkedList$Node" ({ cls := "java/lang/Object", name := "getClass", desc := "()Ljava/lang/Class;" } : Jvm.MethodName) ({ cls := "java/lang/Object", name := "getClass", desc := "()Ljava/lang/Class;" } : Jvm.MethodName)) ∈ lw_all := lw_g (lw_at lw_m4 66 rfl) rfl
theorem q918 : (Jvm.Cond.instantiable "java/util/LinkedList$Node" (3 : Nat)) ∈ lw_all := lw_g (lw_at lw_m4 88 rfl) rfl
theorem q920 : (Jvm.Cond.instanceMethod ({ cls := "java/util/LinkedList$Node", name := "<init>", desc := "(Ljava/util/LinkedList$Node;Ljava/lang/Object;Ljava/util/LinkedList$Node;)V" } : Jvm.MethodName)) ∈ lw_all := lw_g (lw_at lw_m4 90 rfl) rfl
theorem q921 : (Jvm.Cond.code ({ cls := "java/util/LinkedList$Node", name := "<init>", desc := "(Ljava/util/LinkedList$Node;Ljava/lang/Object;Ljava/util/LinkedList$Node;)V" } : Jvm.MethodName) prog_63_method_1_code (4 : Nat) (Option.none : Option Jvm.ClassFile.FieldType)) ∈ lw_all := lw_g (lw_at lw_m4 91 rfl) rfl
theorem q922 : (Jvm.Cond.methodLink "java/util/LinkedList$Node" (1 : Nat) ({ cls := "java/lang/Object", name := "<init>", desc := "()V" } : Jvm.MethodName)) ∈ lw_all := lw_g (lw_at lw_m4 92 rfl) rfl
theorem q923 : (Jvm.Cond.fieldLink "java/util/LinkedList$Node" (7 : Nat) "java/util/LinkedList$Node" "item" "Ljava/lang/Object;") ∈ lw_all := lw_g (lw_at lw_m4 93 rfl) rfl
theorem q925 : (Jvm.Cond.fieldLink "java/util/LinkedList$Node" (13 : Nat) "java/util/LinkedList$Node" "next" "Ljava/util/LinkedList$Node;") ∈ lw_all := lw_g (lw_at lw_m4 95 rfl) rfl
theorem q927 : (Jvm.Cond.fieldLink "java/util/LinkedList$Node" (17 : Nat) "java/util/LinkedList$Node" "prev" "Ljava/util/LinkedList$Node;") ∈ lw_all := lw_g (lw_at lw_m4 97 rfl) rfl
theorem q929 : (Jvm.Cond.lays "java/util/LinkedList$Node" "java/util/LinkedList$Node" "item" "Ljava/lang/Object;") ∈ lw_all := lw_g (lw_at lw_m4 99 rfl) rfl
theorem q930 : (Jvm.Cond.soleField "java/util/LinkedList$Node" "item") ∈ lw_all := lw_g (lw_at lw_m4 100 rfl) rfl
theorem q931 : (Jvm.Cond.lays "java/util/LinkedList$Node" "java/util/LinkedList$Node" "next" "Ljava/util/LinkedList$Node;") ∈ lw_all := lw_g (lw_at lw_m4 101 rfl) rfl
theorem q932 : (Jvm.Cond.soleField "java/util/LinkedList$Node" "next") ∈ lw_all := lw_g (lw_at lw_m4 102 rfl) rfl
theorem q933 : (Jvm.Cond.lays "java/util/LinkedList$Node" "java/util/LinkedList$Node" "prev" "Ljava/util/LinkedList$Node;") ∈ lw_all := lw_g (lw_at lw_m4 103 rfl) rfl
theorem q934 : (Jvm.Cond.soleField "java/util/LinkedList$Node" "prev") ∈ lw_all := lw_g (lw_at lw_m4 104 rfl) rfl
theorem q935 : (Jvm.Cond.superclass "java/util/LinkedList$Node" "java/lang/Object") ∈ lw_all := lw_g (lw_at lw_m4 105 rfl) rfl
theorem q3322 : (Jvm.Cond.castable "java/util/LinkedList$Node" "java/lang/Object") ∈ lw_tbl := lw_at lw_m14 92 rfl
theorem q144 : (Jvm.Cond.initialized "ColourOffice$Command") ∈ lw_all := lw_g (lw_at lw_m1 34 rfl) rfl
theorem q866 : (Jvm.Cond.selects "ColourOffice$Command" ({ cls := "java/lang/Object", name := "getClass", desc := "()Ljava/lang/Class;" } : Jvm.MethodName) ({ cls := "java/lang/Object", name := "getClass", desc := "()Ljava/lang/Class;" } : Jvm.MethodName)) ∈ lw_all := lw_g (lw_at lw_m4 36 rfl) rfl
theorem q937 : (Jvm.Cond.instantiable "ColourOffice$Command" (2 : Nat)) ∈ lw_all := lw_g (lw_at lw_m4 107 rfl) rfl
theorem q939 : (Jvm.Cond.instanceMethod ({ cls := "ColourOffice$Command", name := "<init>", desc := "(Ljava/lang/String;[I)V" } : Jvm.MethodName)) ∈ lw_all := lw_g (lw_at lw_m4 109 rfl) rfl
theorem q940 : (Jvm.Cond.code ({ cls := "ColourOffice$Command", name := "<init>", desc := "(Ljava/lang/String;[I)V" } : Jvm.MethodName) prog_2_method_1_code (3 : Nat) (Option.none : Option Jvm.ClassFile.FieldType)) ∈ lw_all := lw_g (lw_at lw_m4 110 rfl) rfl
theorem q941 : (Jvm.Cond.methodLink "ColourOffice$Command" (1 : Nat) ({ cls := "java/lang/Object", name := "<init>", desc := "()V" } : Jvm.MethodName)) ∈ lw_all := lw_g (lw_at lw_m4 111 rfl) rfl
theorem q942 : (Jvm.Cond.fieldLink "ColourOffice$Command" (7 : Nat) "ColourOffice$Command" "word" "Ljava/lang/String;") ∈ lw_all := lw_g (lw_at lw_m4 112 rfl) rfl
theorem q943 : (Jvm.Cond.fieldLink "ColourOffice$Command" (13 : Nat) "ColourOffice$Command" "arguments" "[I") ∈ lw_all := lw_g (lw_at lw_m4 113 rfl) rfl
theorem q944 : (Jvm.Cond.laysFinal "ColourOffice$Command" "ColourOffice$Command" "word" "Ljava/lang/String;") ∈ lw_all := lw_g (lw_at lw_m4 114 rfl) rfl
theorem q945 : (Jvm.Cond.soleField "ColourOffice$Command" "word") ∈ lw_all := lw_g (lw_at lw_m4 115 rfl) rfl
theorem q946 : (Jvm.Cond.laysFinal "ColourOffice$Command" "ColourOffice$Command" "arguments" "[I") ∈ lw_all := lw_g (lw_at lw_m4 116 rfl) rfl
theorem q947 : (Jvm.Cond.soleField "ColourOffice$Command" "arguments") ∈ lw_all := lw_g (lw_at lw_m4 117 rfl) rfl
theorem q948 : (Jvm.Cond.superclass "ColourOffice$Command" "java/lang/Object") ∈ lw_all := lw_g (lw_at lw_m4 118 rfl) rfl
theorem q950 : (Jvm.Cond.instanceMethod ({ cls := "ColourOffice$Command", name := "applyTo", desc := "(LColourOffice$Office;)I" } : Jvm.MethodName)) ∈ lw_all := lw_g (lw_at lw_m4 120 rfl) rfl
theorem q951 : (Jvm.Cond.selects "ColourOffice$Command" ({ cls := "ColourOffice$Command", name := "applyTo", desc := "(LColourOffice$Office;)I" } : Jvm.MethodName) ({ cls := "ColourOffice$Command", name := "applyTo", desc := "(LColourOffice$Office;)I" } : Jvm.MethodName)) ∈ lw_all := lw_g (lw_at lw_m4 121 rfl) rfl
theorem q952 : (Jvm.Cond.code ({ cls := "ColourOffice$Command", name := "applyTo", desc := "(LColourOffice$Office;)I" } : Jvm.MethodName) prog_2_method_3_code (4 : Nat) (Option.some Jvm.ClassFile.FieldType.int)) ∈ lw_all := lw_g (lw_at lw_m4 122 rfl) rfl
theorem q953 : (Jvm.Cond.methodLink "ColourOffice$Command" (17 : Nat) ({ cls := "java/lang/String", name := "hashCode", desc := "()I" } : Jvm.MethodName)) ∈ lw_all := lw_g (lw_at lw_m4 123 rfl) rfl
theorem q1014 : (Jvm.Cond.stringRef "ColourOffice$Command" (23 : Nat) "find") ∈ lw_tbl := lw_at lw_m4 184 rfl
theorem q1015 : (Jvm.Cond.methodLink "ColourOffice$Command" (25 : Nat) ({ cls := "java/lang/String", name := "equals", desc := "(Ljava/lang/Object;)Z" } : Jvm.MethodName)) ∈ lw_all := lw_g (lw_at lw_m4 185 rfl) rfl
theorem q1023 : (Jvm.Cond.stringRef "ColourOffice$Command" (29 : Nat) "report") ∈ lw_tbl := lw_at lw_m4 193 rfl
theorem q1024 : (Jvm.Cond.stringRef "ColourOffice$Command" (31 : Nat) "drop") ∈ lw_tbl := lw_at lw_m4 194 rfl
theorem q1025 : (Jvm.Cond.stringRef "ColourOffice$Command" (33 : Nat) "discard") ∈ lw_tbl := lw_at lw_m4 195 rfl
theorem q1026 : (Jvm.Cond.stringRef "ColourOffice$Command" (35 : Nat) "metric") ∈ lw_tbl := lw_at lw_m4 196 rfl
theorem q1027 : (Jvm.Cond.stringRef "ColourOffice$Command" (37 : Nat) "return") ∈ lw_tbl := lw_at lw_m4 197 rfl
theorem q1028 : (Jvm.Cond.stringRef "ColourOffice$Command" (39 : Nat) "settle") ∈ lw_tbl := lw_at lw_m4 198 rfl
theorem q1029 : (Jvm.Cond.stringRef "ColourOffice$Command" (41 : Nat) "mix") ∈ lw_tbl := lw_at lw_m4 199 rfl
theorem q1030 : (Jvm.Cond.methodLink "ColourOffice$Command" (43 : Nat) ({ cls := "ColourOffice$Command", name := "at", desc := "(I)I" } : Jvm.MethodName)) ∈ lw_all := lw_g (lw_at lw_m4 200 rfl) rfl
theorem q1031 : (Jvm.Cond.privateMethod ({ cls := "ColourOffice$Command", name := "at", desc := "(I)I" } : Jvm.MethodName)) ∈ lw_tbl := lw_at lw_m4 201 rfl
theorem q1032 : (Jvm.Cond.instanceMethod ({ cls := "ColourOffice$Command", name := "at", desc := "(I)I" } : Jvm.MethodName)) ∈ lw_all := lw_g (lw_at lw_m4 202 rfl) rfl
theorem q1033 : (Jvm.Cond.code ({ cls := "ColourOffice$Command", name := "at", desc := "(I)I" } : Jvm.MethodName) prog_2_method_2_code (2 : Nat) (Option.some Jvm.ClassFile.FieldType.int)) ∈ lw_all := lw_g (lw_at lw_m4 203 rfl) rfl
theorem q1034 : (Jvm.Cond.methodLink "ColourOffice$Command" (47 : Nat) ({ cls := "ColourOffice$Office", name := "addColour", desc := "(IIII)I" } : Jvm.MethodName)) ∈ lw_all := lw_g (lw_at lw_m4 204 rfl) rfl
theorem q1096 : (Jvm.Cond.classLink "ColourOffice$Command" (53 : Nat) "ColourOffice$Tint") ∈ lw_all := lw_g (lw_at lw_m5 26 rfl) rfl
theorem q1097 : (Jvm.Cond.methodLink "ColourOffice$Command" (55 : Nat) ({ cls := "ColourOffice$Tint", name := "<init>", desc := "([I)V" } : Jvm.MethodName)) ∈ lw_all := lw_g (lw_at lw_m5 27 rfl) rfl
theorem q1098 : (Jvm.Cond.methodLink "ColourOffice$Command" (58 : Nat) ({ cls := "ColourOffice$Office", name := "addReport", desc := "(LColourOffice$Tint;II)I" } : Jvm.MethodName)) ∈ lw_all := lw_g (lw_at lw_m5 28 rfl) rfl
theorem q1135 : (Jvm.Cond.methodLink "ColourOffice$Command" (62 : Nat) ({ cls := "ColourOffice$Office", name := "withdraw", desc := "(I)I" } : Jvm.MethodName)) ∈ lw_all := lw_g (lw_at lw_m5 65 rfl) rfl
theorem q1170 : (Jvm.Cond.methodLink "ColourOffice$Command" (65 : Nat) ({ cls := "ColourOffice$Office", name := "discard", desc := "(I)I" } : Jvm.MethodName)) ∈ lw_all := lw_g (lw_at lw_m5 100 rfl) rfl
theorem q1187 : (Jvm.Cond.methodLink "ColourOffice$Command" (67 : Nat) ({ cls := "ColourOffice$Office", name := "setMetric", desc := "(C)I" } : Jvm.MethodName)) ∈ lw_all := lw_g (lw_at lw_m5 117 rfl) rfl
theorem q1238 : (Jvm.Cond.methodLink "ColourOffice$Command" (71 : Nat) ({ cls := "ColourOffice$Office", name := "giveBack", desc := "(II)I" } : Jvm.MethodName)) ∈ lw_all := lw_g (lw_at lw_m5 168 rfl) rfl
theorem q1409 : (Jvm.Cond.methodLink "ColourOffice$Command" (75 : Nat) ({ cls := "ColourOffice$Office", name := "settle", desc := "()I" } : Jvm.MethodName)) ∈ lw_all := lw_g (lw_at lw_m6 99 rfl) rfl
theorem q1472 : (Jvm.Cond.methodLink "ColourOffice$Command" (77 : Nat) ({ cls := "ColourOffice$Office", name := "mix", desc := "(II)I" } : Jvm.MethodName)) ∈ lw_all := lw_g (lw_at lw_m6 162 rfl) rfl
theorem q1488 : (Jvm.Cond.methodLink "ColourOffice$Command" (79 : Nat) ({ cls := "ColourOffice$Office", name := "passDays", desc := "(I)I" } : Jvm.MethodName)) ∈ lw_all := lw_g (lw_at lw_m6 178 rfl) rfl
theorem q2356 : (Jvm.Cond.selects "ColourOffice$Command" ({ cls := "java/lang/Object", name := "toString", desc := "()Ljava/lang/String;" } : Jvm.MethodName) ({ cls := "java/lang/Object", name := "toString", desc := "()Ljava/lang/String;" } : Jvm.MethodName)) ∈ lw_all := lw_g (lw_at lw_m10 86 rfl) rfl
theorem q3323 : (Jvm.Cond.castable "ColourOffice$Command" "java/lang/Object") ∈ lw_tbl := lw_at lw_m14 93 rfl
theorem q145 : (Jvm.Cond.initialized "ColourOffice$Failure") ∈ lw_all := lw_g (lw_at lw_m1 35 rfl) rfl
theorem q1060 : (Jvm.Cond.instanceMethod ({ cls := "ColourOffice$Failure", name := "<init>", desc := "(LColourOffice$Failure;)V" } : Jvm.MethodName)) ∈ lw_all := lw_g (lw_at lw_m4 230 rfl) rfl
theorem q1061 : (Jvm.Cond.code ({ cls := "ColourOffice$Failure", name := "<init>", desc := "(LColourOffice$Failure;)V" } : Jvm.MethodName) prog_5_method_1_code (2 : Nat) (Option.none : Option Jvm.ClassFile.FieldType)) ∈ lw_all := lw_g (lw_at lw_m4 231 rfl) rfl
theorem q1062 : (Jvm.Cond.methodLink "ColourOffice$Failure" (1 : Nat) ({ cls := "java/lang/Exception", name := "<init>", desc := "(Ljava/lang/String;Ljava/lang/Throwable;)V" } : Jvm.MethodName)) ∈ lw_all := lw_g (lw_at lw_m4 232 rfl) rfl
theorem q2620 : (Jvm.Cond.declares ({ cls := "ColourOffice$Failure", name := "asPublicException", desc := "()Ljava/lang/RuntimeException;" } : Jvm.MethodName)) ∈ lw_tbl := lw_at lw_m11 110 rfl
theorem q2621 : (Jvm.Cond.sameMethod "ColourOffice$Failure" "ColourOffice$Failure" "asPublicException" "()Ljava/lang/RuntimeException;") ∈ lw_all := lw_g (lw_at lw_m11 111 rfl) rfl
theorem q146 : (Jvm.Cond.initialized "ColourOffice$ConditionFailure") ∈ lw_all := lw_g (lw_at lw_m1 36 rfl) rfl
theorem q447 : (Jvm.Cond.selects "ColourOffice$ConditionFailure" ({ cls := "java/lang/Throwable", name := "fillInStackTrace", desc := "()Ljava/lang/Throwable;" } : Jvm.MethodName) ({ cls := "java/lang/Throwable", name := "fillInStackTrace", desc := "()Ljava/lang/Throwable;" } : Jvm.MethodName)) ∈ lw_all := lw_g (lw_at lw_m2 97 rfl) rfl
theorem q868 : (Jvm.Cond.selects "ColourOffice$ConditionFailure" ({ cls := "java/lang/Object", name := "getClass", desc := "()Ljava/lang/Class;" } : Jvm.MethodName) ({ cls := "java/lang/Object", name := "getClass", desc := "()Ljava/lang/Class;" } : Jvm.MethodName)) ∈ lw_all := lw_g (lw_at lw_m4 38 rfl) rfl
theorem q1048 : (Jvm.Cond.instantiable "ColourOffice$ConditionFailure" (7 : Nat)) ∈ lw_all := lw_g (lw_at lw_m4 218 rfl) rfl
theorem q1049 : (Jvm.Cond.castable "ColourOffice$ConditionFailure" "ColourOffice$ConditionFailure") ∈ lw_tbl := lw_at lw_m4 219 rfl
theorem q1050 : (Jvm.Cond.selects "ColourOffice$ConditionFailure" ({ cls := "java/lang/Throwable", name := "fillInStackTrace", desc := "(I)Ljava/lang/Throwable;" } : Jvm.MethodName) ({ cls := "java/lang/Throwable", name := "fillInStackTrace", desc := "(I)Ljava/lang/Throwable;" } : Jvm.MethodName)) ∈ lw_all := lw_g (lw_at lw_m4 220 rfl) rfl
theorem q1051 : (Jvm.Cond.lays "ColourOffice$ConditionFailure" "java/lang/Throwable" "cause" "Ljava/lang/Throwable;") ∈ lw_all := lw_g (lw_at lw_m4 221 rfl) rfl
theorem q1052 : (Jvm.Cond.lays "ColourOffice$ConditionFailure" "java/lang/Throwable" "stackTrace" "[Ljava/lang/StackTraceElement;") ∈ lw_all := lw_g (lw_at lw_m4 222 rfl) rfl
theorem q1053 : (Jvm.Cond.lays "ColourOffice$ConditionFailure" "java/lang/Throwable" "suppressedExceptions" "Ljava/util/List;") ∈ lw_all := lw_g (lw_at lw_m4 223 rfl) rfl
theorem q1054 : (Jvm.Cond.lays "ColourOffice$ConditionFailure" "java/lang/Throwable" "detailMessage" "Ljava/lang/String;") ∈ lw_all := lw_g (lw_at lw_m4 224 rfl) rfl
theorem q1055 : (Jvm.Cond.lays "ColourOffice$ConditionFailure" "java/lang/Throwable" "backtrace" "Ljava/lang/Object;") ∈ lw_all := lw_g (lw_at lw_m4 225 rfl) rfl
theorem q1057 : (Jvm.Cond.instanceMethod ({ cls := "ColourOffice$ConditionFailure", name := "<init>", desc := "(C)V" } : Jvm.MethodName)) ∈ lw_all := lw_g (lw_at lw_m4 227 rfl) rfl
theorem q1058 : (Jvm.Cond.code ({ cls := "ColourOffice$ConditionFailure", name := "<init>", desc := "(C)V" } : Jvm.MethodName) prog_4_method_1_code (2 : Nat) (Option.none : Option Jvm.ClassFile.FieldType)) ∈ lw_all := lw_g (lw_at lw_m4 228 rfl) rfl
theorem q1059 : (Jvm.Cond.methodLink "ColourOffice$ConditionFailure" (1 : Nat) ({ cls := "ColourOffice$Failure", name := "<init>", desc := "(LColourOffice$Failure;)V" } : Jvm.MethodName)) ∈ lw_all := lw_g (lw_at lw_m4 229 rfl) rfl
theorem q1068 : (Jvm.Cond.fieldLink "ColourOffice$ConditionFailure" (7 : Nat) "ColourOffice$ConditionFailure" "kind" "C") ∈ lw_all := lw_g (lw_at lw_m4 238 rfl) rfl
theorem q1069 : (Jvm.Cond.laysFinal "ColourOffice$ConditionFailure" "ColourOffice$ConditionFailure" "kind" "C") ∈ lw_all := lw_g (lw_at lw_m4 239 rfl) rfl
theorem q1070 : (Jvm.Cond.soleField "ColourOffice$ConditionFailure" "kind") ∈ lw_all := lw_g (lw_at lw_m5 0 rfl) rfl
theorem q1071 : (Jvm.Cond.lays "ColourOffice$ConditionFailure" "java/lang/Throwable" "depth" "I") ∈ lw_all := lw_g (lw_at lw_m5 1 rfl) rfl
theorem q1072 : (Jvm.Cond.superclass "ColourOffice$ConditionFailure" "ColourOffice$Failure") ∈ lw_all := lw_g (lw_at lw_m5 2 rfl) rfl
theorem q1541 : (Jvm.Cond.instanceMethod ({ cls := "ColourOffice$ConditionFailure", name := "asPublicException", desc := "()Ljava/lang/RuntimeException;" } : Jvm.MethodName)) ∈ lw_all := lw_g (lw_at lw_m6 231 rfl) rfl
theorem q1542 : (Jvm.Cond.selects "ColourOffice$ConditionFailure" ({ cls := "ColourOffice$ConditionFailure", name := "asPublicException", desc := "()Ljava/lang/RuntimeException;" } : Jvm.MethodName) ({ cls := "ColourOffice$ConditionFailure", name := "asPublicException", desc := "()Ljava/lang/RuntimeException;" } : Jvm.MethodName)) ∈ lw_all := lw_g (lw_at lw_m6 232 rfl) rfl
theorem q1543 : (Jvm.Cond.code ({ cls := "ColourOffice$ConditionFailure", name := "asPublicException", desc := "()Ljava/lang/RuntimeException;" } : Jvm.MethodName) prog_4_method_3_code (1 : Nat) (Option.some (Jvm.ClassFile.FieldType.object "java/lang/RuntimeException"))) ∈ lw_all := lw_g (lw_at lw_m6 233 rfl) rfl
theorem q1544 : (Jvm.Cond.classLink "ColourOffice$ConditionFailure" (13 : Nat) "java/lang/IllegalArgumentException") ∈ lw_all := lw_g (lw_at lw_m6 234 rfl) rfl
theorem q1545 : (Jvm.Cond.methodLink "ColourOffice$ConditionFailure" (15 : Nat) ({ cls := "java/lang/IllegalArgumentException", name := "<init>", desc := "()V" } : Jvm.MethodName)) ∈ lw_all := lw_g (lw_at lw_m6 235 rfl) rfl
theorem q1549 : (Jvm.Cond.classLink "ColourOffice$ConditionFailure" (18 : Nat) "java/lang/IllegalStateException") ∈ lw_all := lw_g (lw_at lw_m6 239 rfl) rfl
theorem q1558 : (Jvm.Cond.methodLink "ColourOffice$ConditionFailure" (20 : Nat) ({ cls := "java/lang/IllegalStateException", name := "<init>", desc := "()V" } : Jvm.MethodName)) ∈ lw_all := lw_g (lw_at lw_m7 8 rfl) rfl
theorem q1565 : (Jvm.Cond.classLink "ColourOffice$ConditionFailure" (21 : Nat) "java/util/NoSuchElementException") ∈ lw_all := lw_g (lw_at lw_m7 15 rfl) rfl
theorem q1566 : (Jvm.Cond.methodLink "ColourOffice$ConditionFailure" (23 : Nat) ({ cls := "java/util/NoSuchElementException", name := "<init>", desc := "()V" } : Jvm.MethodName)) ∈ lw_all := lw_g (lw_at lw_m7 16 rfl) rfl
theorem q1567 : (Jvm.Cond.classLink "ColourOffice$ConditionFailure" (24 : Nat) "java/lang/UnsupportedOperationException") ∈ lw_all := lw_g (lw_at lw_m7 17 rfl) rfl
theorem q1576 : (Jvm.Cond.methodLink "ColourOffice$ConditionFailure" (26 : Nat) ({ cls := "java/lang/UnsupportedOperationException", name := "<init>", desc := "()V" } : Jvm.MethodName)) ∈ lw_all := lw_g (lw_at lw_m7 26 rfl) rfl
theorem q2365 : (Jvm.Cond.selects "ColourOffice$ConditionFailure" ({ cls := "java/lang/Throwable", name := "getLocalizedMessage", desc := "()Ljava/lang/String;" } : Jvm.MethodName) ({ cls := "java/lang/Throwable", name := "getLocalizedMessage", desc := "()Ljava/lang/String;" } : Jvm.MethodName)) ∈ lw_all := lw_g (lw_at lw_m10 95 rfl) rfl
theorem q2380 : (Jvm.Cond.selects "ColourOffice$ConditionFailure" ({ cls := "java/lang/Throwable", name := "getMessage", desc := "()Ljava/lang/String;" } : Jvm.MethodName) ({ cls := "java/lang/Throwable", name := "getMessage", desc := "()Ljava/lang/String;" } : Jvm.MethodName)) ∈ lw_all := lw_g (lw_at lw_m10 110 rfl) rfl
theorem q2396 : (Jvm.Cond.selects "ColourOffice$ConditionFailure" ({ cls := "java/lang/Object", name := "toString", desc := "()Ljava/lang/String;" } : Jvm.MethodName) ({ cls := "java/lang/Throwable", name := "toString", desc := "()Ljava/lang/String;" } : Jvm.MethodName)) ∈ lw_all := lw_g (lw_at lw_m10 126 rfl) rfl
theorem q2616 : (Jvm.Cond.instanceMethod ({ cls := "ColourOffice$ConditionFailure", name := "kind", desc := "()C" } : Jvm.MethodName)) ∈ lw_all := lw_g (lw_at lw_m11 106 rfl) rfl
theorem q2617 : (Jvm.Cond.selects "ColourOffice$ConditionFailure" ({ cls := "ColourOffice$ConditionFailure", name := "kind", desc := "()C" } : Jvm.MethodName) ({ cls := "ColourOffice$ConditionFailure", name := "kind", desc := "()C" } : Jvm.MethodName)) ∈ lw_all := lw_g (lw_at lw_m11 107 rfl) rfl
theorem q2618 : (Jvm.Cond.code ({ cls := "ColourOffice$ConditionFailure", name := "kind", desc := "()C" } : Jvm.MethodName) prog_4_method_2_code (1 : Nat) (Option.some Jvm.ClassFile.FieldType.char)) ∈ lw_all := lw_g (lw_at lw_m11 108 rfl) rfl
theorem q2627 : (Jvm.Cond.selects "ColourOffice$ConditionFailure" ({ cls := "ColourOffice$Failure", name := "asPublicException", desc := "()Ljava/lang/RuntimeException;" } : Jvm.MethodName) ({ cls := "ColourOffice$ConditionFailure", name := "asPublicException", desc := "()Ljava/lang/RuntimeException;" } : Jvm.MethodName)) ∈ lw_all := lw_g (lw_at lw_m11 117 rfl) rfl
theorem q3325 : (Jvm.Cond.castable "ColourOffice$ConditionFailure" "java/lang/Object") ∈ lw_tbl := lw_at lw_m14 95 rfl
theorem q147 : (Jvm.Cond.initialized "ColourOffice$Tint") ∈ lw_all := lw_g (lw_at lw_m1 37 rfl) rfl
theorem q880 : (Jvm.Cond.selects "ColourOffice$Tint" ({ cls := "java/lang/Object", name := "getClass", desc := "()Ljava/lang/Class;" } : Jvm.MethodName) ({ cls := "java/lang/Object", name := "getClass", desc := "()Ljava/lang/Class;" } : Jvm.MethodName)) ∈ lw_all := lw_g (lw_at lw_m4 50 rfl) rfl
theorem q1078 : (Jvm.Cond.instantiable "ColourOffice$Tint" (1 : Nat)) ∈ lw_all := lw_g (lw_at lw_m5 8 rfl) rfl
theorem q1080 : (Jvm.Cond.instanceMethod ({ cls := "ColourOffice$Tint", name := "<init>", desc := "([I)V" } : Jvm.MethodName)) ∈ lw_all := lw_g (lw_at lw_m5 10 rfl) rfl
theorem q1081 : (Jvm.Cond.code ({ cls := "ColourOffice$Tint", name := "<init>", desc := "([I)V" } : Jvm.MethodName) prog_18_method_1_code (2 : Nat) (Option.none : Option Jvm.ClassFile.FieldType)) ∈ lw_all := lw_g (lw_at lw_m5 11 rfl) rfl
theorem q1082 : (Jvm.Cond.methodLink "ColourOffice$Tint" (3 : Nat) ({ cls := "java/lang/Object", name := "<init>", desc := "()V" } : Jvm.MethodName)) ∈ lw_all := lw_g (lw_at lw_m5 12 rfl) rfl
theorem q1083 : (Jvm.Cond.fieldLink "ColourOffice$Tint" (9 : Nat) "ColourOffice$Tint" "parts" "[I") ∈ lw_all := lw_g (lw_at lw_m5 13 rfl) rfl
theorem q1084 : (Jvm.Cond.laysFinal "ColourOffice$Tint" "ColourOffice$Tint" "parts" "[I") ∈ lw_all := lw_g (lw_at lw_m5 14 rfl) rfl
theorem q1085 : (Jvm.Cond.soleField "ColourOffice$Tint" "parts") ∈ lw_all := lw_g (lw_at lw_m5 15 rfl) rfl
theorem q1086 : (Jvm.Cond.superclass "ColourOffice$Tint" "java/lang/Object") ∈ lw_all := lw_g (lw_at lw_m5 16 rfl) rfl
theorem q1103 : (Jvm.Cond.instanceMethod ({ cls := "ColourOffice$Tint", name := "part", desc := "(I)I" } : Jvm.MethodName)) ∈ lw_all := lw_g (lw_at lw_m5 33 rfl) rfl
theorem q1104 : (Jvm.Cond.selects "ColourOffice$Tint" ({ cls := "ColourOffice$Tint", name := "part", desc := "(I)I" } : Jvm.MethodName) ({ cls := "ColourOffice$Tint", name := "part", desc := "(I)I" } : Jvm.MethodName)) ∈ lw_all := lw_g (lw_at lw_m5 34 rfl) rfl
theorem q1105 : (Jvm.Cond.code ({ cls := "ColourOffice$Tint", name := "part", desc := "(I)I" } : Jvm.MethodName) prog_18_method_2_code (2 : Nat) (Option.some Jvm.ClassFile.FieldType.int)) ∈ lw_all := lw_g (lw_at lw_m5 35 rfl) rfl
theorem q1343 : (Jvm.Cond.instanceMethod ({ cls := "ColourOffice$Tint", name := "difference", desc := "(LColourOffice$Tint;I)I" } : Jvm.MethodName)) ∈ lw_all := lw_g (lw_at lw_m6 33 rfl) rfl
theorem q1344 : (Jvm.Cond.selects "ColourOffice$Tint" ({ cls := "ColourOffice$Tint", name := "difference", desc := "(LColourOffice$Tint;I)I" } : Jvm.MethodName) ({ cls := "ColourOffice$Tint", name := "difference", desc := "(LColourOffice$Tint;I)I" } : Jvm.MethodName)) ∈ lw_all := lw_g (lw_at lw_m6 34 rfl) rfl
theorem q1345 : (Jvm.Cond.code ({ cls := "ColourOffice$Tint", name := "difference", desc := "(LColourOffice$Tint;I)I" } : Jvm.MethodName) prog_18_method_5_code (3 : Nat) (Option.some Jvm.ClassFile.FieldType.int)) ∈ lw_all := lw_g (lw_at lw_m6 35 rfl) rfl
theorem q1346 : (Jvm.Cond.methodLink "ColourOffice$Tint" (15 : Nat) ({ cls := "java/lang/Math", name := "abs", desc := "(I)I" } : Jvm.MethodName)) ∈ lw_all := lw_g (lw_at lw_m6 36 rfl) rfl
theorem q1477 : (Jvm.Cond.instanceMethod ({ cls := "ColourOffice$Tint", name := "mixedWith", desc := "(LColourOffice$Tint;)LColourOffice$Tint;" } : Jvm.MethodName)) ∈ lw_all := lw_g (lw_at lw_m6 167 rfl) rfl
theorem q1478 : (Jvm.Cond.selects "ColourOffice$Tint" ({ cls := "ColourOffice$Tint", name := "mixedWith", desc := "(LColourOffice$Tint;)LColourOffice$Tint;" } : Jvm.MethodName) ({ cls := "ColourOffice$Tint", name := "mixedWith", desc := "(LColourOffice$Tint;)LColourOffice$Tint;" } : Jvm.MethodName)) ∈ lw_all := lw_g (lw_at lw_m6 168 rfl) rfl
theorem q1479 : (Jvm.Cond.code ({ cls := "ColourOffice$Tint", name := "mixedWith", desc := "(LColourOffice$Tint;)LColourOffice$Tint;" } : Jvm.MethodName) prog_18_method_9_code (4 : Nat) (Option.some (Jvm.ClassFile.FieldType.object "ColourOffice$Tint"))) ∈ lw_all := lw_g (lw_at lw_m6 169 rfl) rfl
theorem q1480 : (Jvm.Cond.methodLink "ColourOffice$Tint" (31 : Nat) ({ cls := "[I", name := "clone", desc := "()Ljava/lang/Object;" } : Jvm.MethodName)) ∈ lw_all := lw_g (lw_at lw_m6 170 rfl) rfl
theorem q1484 : (Jvm.Cond.classLink "ColourOffice$Tint" (32 : Nat) "[I") ∈ lw_all := lw_g (lw_at lw_m6 174 rfl) rfl
theorem q1485 : (Jvm.Cond.classLink "ColourOffice$Tint" (10 : Nat) "ColourOffice$Tint") ∈ lw_all := lw_g (lw_at lw_m6 175 rfl) rfl
theorem q1486 : (Jvm.Cond.methodLink "ColourOffice$Tint" (28 : Nat) ({ cls := "ColourOffice$Tint", name := "<init>", desc := "([I)V" } : Jvm.MethodName)) ∈ lw_all := lw_g (lw_at lw_m6 176 rfl) rfl
theorem q1497 : (Jvm.Cond.instanceMethod ({ cls := "ColourOffice$Tint", name := "isGrey", desc := "()Z" } : Jvm.MethodName)) ∈ lw_all := lw_g (lw_at lw_m6 187 rfl) rfl
theorem q1498 : (Jvm.Cond.selects "ColourOffice$Tint" ({ cls := "ColourOffice$Tint", name := "isGrey", desc := "()Z" } : Jvm.MethodName) ({ cls := "ColourOffice$Tint", name := "isGrey", desc := "()Z" } : Jvm.MethodName)) ∈ lw_all := lw_g (lw_at lw_m6 188 rfl) rfl
theorem q1499 : (Jvm.Cond.code ({ cls := "ColourOffice$Tint", name := "isGrey", desc := "()Z" } : Jvm.MethodName) prog_18_method_4_code (1 : Nat) (Option.some Jvm.ClassFile.FieldType.boolean)) ∈ lw_all := lw_g (lw_at lw_m6 189 rfl) rfl
theorem q1501 : (Jvm.Cond.instanceMethod ({ cls := "ColourOffice$Tint", name := "faded", desc := "()LColourOffice$Tint;" } : Jvm.MethodName)) ∈ lw_all := lw_g (lw_at lw_m6 191 rfl) rfl
theorem q1502 : (Jvm.Cond.selects "ColourOffice$Tint" ({ cls := "ColourOffice$Tint", name := "faded", desc := "()LColourOffice$Tint;" } : Jvm.MethodName) ({ cls := "ColourOffice$Tint", name := "faded", desc := "()LColourOffice$Tint;" } : Jvm.MethodName)) ∈ lw_all := lw_g (lw_at lw_m6 192 rfl) rfl
theorem q1503 : (Jvm.Cond.code ({ cls := "ColourOffice$Tint", name := "faded", desc := "()LColourOffice$Tint;" } : Jvm.MethodName) prog_18_method_8_code (1 : Nat) (Option.some (Jvm.ClassFile.FieldType.object "ColourOffice$Tint"))) ∈ lw_all := lw_g (lw_at lw_m6 193 rfl) rfl
theorem q1504 : (Jvm.Cond.methodLink "ColourOffice$Tint" (25 : Nat) ({ cls := "ColourOffice$Tint", name := "faded", desc := "(I)I" } : Jvm.MethodName)) ∈ lw_all := lw_g (lw_at lw_m6 194 rfl) rfl
theorem q1505 : (Jvm.Cond.static ({ cls := "ColourOffice$Tint", name := "faded", desc := "(I)I" } : Jvm.MethodName)) ∈ lw_all := lw_g (lw_at lw_m6 195 rfl) rfl
theorem q1506 : (Jvm.Cond.code ({ cls := "ColourOffice$Tint", name := "faded", desc := "(I)I" } : Jvm.MethodName) prog_18_method_7_code (1 : Nat) (Option.some Jvm.ClassFile.FieldType.int)) ∈ lw_all := lw_g (lw_at lw_m6 196 rfl) rfl
theorem q1951 : (Jvm.Cond.instanceMethod ({ cls := "ColourOffice$Tint", name := "stepsToGrey", desc := "()I" } : Jvm.MethodName)) ∈ lw_all := lw_g (lw_at lw_m8 161 rfl) rfl
theorem q1952 : (Jvm.Cond.selects "ColourOffice$Tint" ({ cls := "ColourOffice$Tint", name := "stepsToGrey", desc := "()I" } : Jvm.MethodName) ({ cls := "ColourOffice$Tint", name := "stepsToGrey", desc := "()I" } : Jvm.MethodName)) ∈ lw_all := lw_g (lw_at lw_m8 162 rfl) rfl
theorem q1953 : (Jvm.Cond.code ({ cls := "ColourOffice$Tint", name := "stepsToGrey", desc := "()I" } : Jvm.MethodName) prog_18_method_6_code (6 : Nat) (Option.some Jvm.ClassFile.FieldType.int)) ∈ lw_all := lw_g (lw_at lw_m8 163 rfl) rfl
theorem q1954 : (Jvm.Cond.methodLink "ColourOffice$Tint" (21 : Nat) ({ cls := "java/lang/Math", name := "max", desc := "(II)I" } : Jvm.MethodName)) ∈ lw_all := lw_g (lw_at lw_m8 164 rfl) rfl
theorem q1967 : (Jvm.Cond.instanceMethod ({ cls := "ColourOffice$Tint", name := "sum", desc := "()I" } : Jvm.MethodName)) ∈ lw_all := lw_g (lw_at lw_m8 177 rfl) rfl
theorem q1968 : (Jvm.Cond.selects "ColourOffice$Tint" ({ cls := "ColourOffice$Tint", name := "sum", desc := "()I" } : Jvm.MethodName) ({ cls := "ColourOffice$Tint", name := "sum", desc := "()I" } : Jvm.MethodName)) ∈ lw_all := lw_g (lw_at lw_m8 178 rfl) rfl
theorem q1969 : (Jvm.Cond.code ({ cls := "ColourOffice$Tint", name := "sum", desc := "()I" } : Jvm.MethodName) prog_18_method_3_code (1 : Nat) (Option.some Jvm.ClassFile.FieldType.int)) ∈ lw_all := lw_g (lw_at lw_m8 179 rfl) rfl
theorem q2181 : (Jvm.Cond.instanceMethod ({ cls := "ColourOffice$Tint", name := "toString", desc := "()Ljava/lang/String;" } : Jvm.MethodName)) ∈ lw_all := lw_g (lw_at lw_m9 151 rfl) rfl
theorem q2182 : (Jvm.Cond.selects "ColourOffice$Tint" ({ cls := "ColourOffice$Tint", name := "toString", desc := "()Ljava/lang/String;" } : Jvm.MethodName) ({ cls := "ColourOffice$Tint", name := "toString", desc := "()Ljava/lang/String;" } : Jvm.MethodName)) ∈ lw_all := lw_g (lw_at lw_m9 152 rfl) rfl
theorem q2183 : (Jvm.Cond.code ({ cls := "ColourOffice$Tint", name := "toString", desc := "()Ljava/lang/String;" } : Jvm.MethodName) prog_18_method_10_code (1 : Nat) (Option.some (Jvm.ClassFile.FieldType.object "java/lang/String"))) ∈ lw_all := lw_g (lw_at lw_m9 153 rfl) rfl
theorem q2184 : (Jvm.Cond.classLink "ColourOffice$Tint" (36 : Nat) "java/lang/StringBuilder") ∈ lw_all := lw_g (lw_at lw_m9 154 rfl) rfl
theorem q2185 : (Jvm.Cond.methodLink "ColourOffice$Tint" (38 : Nat) ({ cls := "java/lang/StringBuilder", name := "<init>", desc := "()V" } : Jvm.MethodName)) ∈ lw_all := lw_g (lw_at lw_m9 155 rfl) rfl
theorem q2186 : (Jvm.Cond.methodLink "ColourOffice$Tint" (39 : Nat) ({ cls := "java/lang/StringBuilder", name := "append", desc := "(I)Ljava/lang/StringBuilder;" } : Jvm.MethodName)) ∈ lw_all := lw_g (lw_at lw_m9 156 rfl) rfl
theorem q2187 : (Jvm.Cond.stringRef "ColourOffice$Tint" (43 : Nat) "/") ∈ lw_tbl := lw_at lw_m9 157 rfl
theorem q2188 : (Jvm.Cond.methodLink "ColourOffice$Tint" (45 : Nat) ({ cls := "java/lang/StringBuilder", name := "append", desc := "(Ljava/lang/String;)Ljava/lang/StringBuilder;" } : Jvm.MethodName)) ∈ lw_all := lw_g (lw_at lw_m9 158 rfl) rfl
theorem q2189 : (Jvm.Cond.methodLink "ColourOffice$Tint" (48 : Nat) ({ cls := "java/lang/StringBuilder", name := "toString", desc := "()Ljava/lang/String;" } : Jvm.MethodName)) ∈ lw_all := lw_g (lw_at lw_m9 159 rfl) rfl
theorem q2408 : (Jvm.Cond.selects "ColourOffice$Tint" ({ cls := "java/lang/Object", name := "toString", desc := "()Ljava/lang/String;" } : Jvm.MethodName) ({ cls := "ColourOffice$Tint", name := "toString", desc := "()Ljava/lang/String;" } : Jvm.MethodName)) ∈ lw_all := lw_g (lw_at lw_m10 138 rfl) rfl
theorem q3326 : (Jvm.Cond.castable "ColourOffice$Tint" "java/lang/Object") ∈ lw_tbl := lw_at lw_m14 96 rfl
theorem q148 : (Jvm.Cond.initialized "ColourOffice$Report") ∈ lw_all := lw_g (lw_at lw_m1 38 rfl) rfl
theorem q875 : (Jvm.Cond.selects "ColourOffice$Report" ({ cls := "java/lang/Object", name := "getClass", desc := "()Ljava/lang/Class;" } : Jvm.MethodName) ({ cls := "java/lang/Object", name := "getClass", desc := "()Ljava/lang/Class;" } : Jvm.MethodName)) ∈ lw_all := lw_g (lw_at lw_m4 45 rfl) rfl
theorem q1106 : (Jvm.Cond.instantiable "ColourOffice$Report" (4 : Nat)) ∈ lw_all := lw_g (lw_at lw_m5 36 rfl) rfl
theorem q1108 : (Jvm.Cond.instanceMethod ({ cls := "ColourOffice$Report", name := "<init>", desc := "(ILColourOffice$Tint;II)V" } : Jvm.MethodName)) ∈ lw_all := lw_g (lw_at lw_m5 38 rfl) rfl
theorem q1109 : (Jvm.Cond.code ({ cls := "ColourOffice$Report", name := "<init>", desc := "(ILColourOffice$Tint;II)V" } : Jvm.MethodName) prog_13_method_1_code (5 : Nat) (Option.none : Option Jvm.ClassFile.FieldType)) ∈ lw_all := lw_g (lw_at lw_m5 39 rfl) rfl
theorem q1110 : (Jvm.Cond.methodLink "ColourOffice$Report" (1 : Nat) ({ cls := "java/lang/Object", name := "<init>", desc := "()V" } : Jvm.MethodName)) ∈ lw_all := lw_g (lw_at lw_m5 40 rfl) rfl
theorem q1111 : (Jvm.Cond.fieldLink "ColourOffice$Report" (7 : Nat) "ColourOffice$Report" "id" "I") ∈ lw_all := lw_g (lw_at lw_m5 41 rfl) rfl
theorem q1114 : (Jvm.Cond.fieldLink "ColourOffice$Report" (13 : Nat) "ColourOffice$Report" "tint" "LColourOffice$Tint;") ∈ lw_all := lw_g (lw_at lw_m5 44 rfl) rfl
theorem q1118 : (Jvm.Cond.fieldLink "ColourOffice$Report" (17 : Nat) "ColourOffice$Report" "tolerance" "I") ∈ lw_all := lw_g (lw_at lw_m5 48 rfl) rfl
theorem q1122 : (Jvm.Cond.fieldLink "ColourOffice$Report" (20 : Nat) "ColourOffice$Report" "reward" "I") ∈ lw_all := lw_g (lw_at lw_m5 52 rfl) rfl
theorem q1126 : (Jvm.Cond.laysFinal "ColourOffice$Report" "ColourOffice$Report" "id" "I") ∈ lw_all := lw_g (lw_at lw_m5 56 rfl) rfl
theorem q1127 : (Jvm.Cond.soleField "ColourOffice$Report" "id") ∈ lw_all := lw_g (lw_at lw_m5 57 rfl) rfl
theorem q1128 : (Jvm.Cond.laysFinal "ColourOffice$Report" "ColourOffice$Report" "tint" "LColourOffice$Tint;") ∈ lw_all := lw_g (lw_at lw_m5 58 rfl) rfl
theorem q1129 : (Jvm.Cond.soleField "ColourOffice$Report" "tint") ∈ lw_all := lw_g (lw_at lw_m5 59 rfl) rfl
theorem q1130 : (Jvm.Cond.laysFinal "ColourOffice$Report" "ColourOffice$Report" "tolerance" "I") ∈ lw_all := lw_g (lw_at lw_m5 60 rfl) rfl
theorem q1131 : (Jvm.Cond.soleField "ColourOffice$Report" "tolerance") ∈ lw_all := lw_g (lw_at lw_m5 61 rfl) rfl
theorem q1132 : (Jvm.Cond.laysFinal "ColourOffice$Report" "ColourOffice$Report" "reward" "I") ∈ lw_all := lw_g (lw_at lw_m5 62 rfl) rfl
theorem q1133 : (Jvm.Cond.soleField "ColourOffice$Report" "reward") ∈ lw_all := lw_g (lw_at lw_m5 63 rfl) rfl
theorem q1134 : (Jvm.Cond.superclass "ColourOffice$Report" "java/lang/Object") ∈ lw_all := lw_g (lw_at lw_m5 64 rfl) rfl
theorem q2208 : (Jvm.Cond.instanceMethod ({ cls := "ColourOffice$Report", name := "toString", desc := "()Ljava/lang/String;" } : Jvm.MethodName)) ∈ lw_all := lw_g (lw_at lw_m9 178 rfl) rfl
theorem q2209 : (Jvm.Cond.selects "ColourOffice$Report" ({ cls := "ColourOffice$Report", name := "toString", desc := "()Ljava/lang/String;" } : Jvm.MethodName) ({ cls := "ColourOffice$Report", name := "toString", desc := "()Ljava/lang/String;" } : Jvm.MethodName)) ∈ lw_all := lw_g (lw_at lw_m9 179 rfl) rfl
theorem q2210 : (Jvm.Cond.code ({ cls := "ColourOffice$Report", name := "toString", desc := "()Ljava/lang/String;" } : Jvm.MethodName) prog_13_method_2_code (1 : Nat) (Option.some (Jvm.ClassFile.FieldType.object "java/lang/String"))) ∈ lw_all := lw_g (lw_at lw_m9 180 rfl) rfl
theorem q2211 : (Jvm.Cond.classLink "ColourOffice$Report" (23 : Nat) "java/lang/StringBuilder") ∈ lw_all := lw_g (lw_at lw_m9 181 rfl) rfl
theorem q2212 : (Jvm.Cond.methodLink "ColourOffice$Report" (25 : Nat) ({ cls := "java/lang/StringBuilder", name := "<init>", desc := "()V" } : Jvm.MethodName)) ∈ lw_all := lw_g (lw_at lw_m9 182 rfl) rfl
theorem q2213 : (Jvm.Cond.methodLink "ColourOffice$Report" (26 : Nat) ({ cls := "java/lang/StringBuilder", name := "append", desc := "(I)Ljava/lang/StringBuilder;" } : Jvm.MethodName)) ∈ lw_all := lw_g (lw_at lw_m9 183 rfl) rfl
theorem q2214 : (Jvm.Cond.stringRef "ColourOffice$Report" (30 : Nat) "?") ∈ lw_tbl := lw_at lw_m9 184 rfl
theorem q2215 : (Jvm.Cond.methodLink "ColourOffice$Report" (32 : Nat) ({ cls := "java/lang/StringBuilder", name := "append", desc := "(Ljava/lang/String;)Ljava/lang/StringBuilder;" } : Jvm.MethodName)) ∈ lw_all := lw_g (lw_at lw_m9 185 rfl) rfl
theorem q2216 : (Jvm.Cond.methodLink "ColourOffice$Report" (35 : Nat) ({ cls := "ColourOffice$Tint", name := "toString", desc := "()Ljava/lang/String;" } : Jvm.MethodName)) ∈ lw_all := lw_g (lw_at lw_m9 186 rfl) rfl
theorem q2217 : (Jvm.Cond.stringRef "ColourOffice$Report" (41 : Nat) "~") ∈ lw_tbl := lw_at lw_m9 187 rfl
theorem q2218 : (Jvm.Cond.stringRef "ColourOffice$Report" (43 : Nat) "+") ∈ lw_tbl := lw_at lw_m9 188 rfl
theorem q2219 : (Jvm.Cond.methodLink "ColourOffice$Report" (45 : Nat) ({ cls := "java/lang/StringBuilder", name := "toString", desc := "()Ljava/lang/String;" } : Jvm.MethodName)) ∈ lw_all := lw_g (lw_at lw_m9 189 rfl) rfl
theorem q2403 : (Jvm.Cond.selects "ColourOffice$Report" ({ cls := "java/lang/Object", name := "toString", desc := "()Ljava/lang/String;" } : Jvm.MethodName) ({ cls := "ColourOffice$Report", name := "toString", desc := "()Ljava/lang/String;" } : Jvm.MethodName)) ∈ lw_all := lw_g (lw_at lw_m10 133 rfl) rfl
theorem q3327 : (Jvm.Cond.castable "ColourOffice$Report" "java/lang/Object") ∈ lw_tbl := lw_at lw_m14 97 rfl
theorem q149 : (Jvm.Cond.initialized "java/lang/Character") ∈ lw_all := lw_g (lw_at lw_m1 39 rfl) rfl
theorem q1228 : (Jvm.Cond.static ({ cls := "java/lang/Character", name := "isValidCodePoint", desc := "(I)Z" } : Jvm.MethodName)) ∈ lw_all := lw_g (lw_at lw_m5 158 rfl) rfl
theorem q1229 : (Jvm.Cond.code ({ cls := "java/lang/Character", name := "isValidCodePoint", desc := "(I)Z" } : Jvm.MethodName) prog_29_method_11_code (2 : Nat) (Option.some Jvm.ClassFile.FieldType.boolean)) ∈ lw_all := lw_g (lw_at lw_m5 159 rfl) rfl
theorem q1231 : (Jvm.Cond.static ({ cls := "java/lang/Character", name := "highSurrogate", desc := "(I)C" } : Jvm.MethodName)) ∈ lw_all := lw_g (lw_at lw_m5 161 rfl) rfl
theorem q1232 : (Jvm.Cond.code ({ cls := "java/lang/Character", name := "highSurrogate", desc := "(I)C" } : Jvm.MethodName) prog_29_method_28_code (1 : Nat) (Option.some Jvm.ClassFile.FieldType.char)) ∈ lw_all := lw_g (lw_at lw_m5 162 rfl) rfl
theorem q1233 : (Jvm.Cond.constant "java/lang/Character" (110 : Nat) (55232 : Int32)) ∈ lw_all := lw_g (lw_at lw_m5 163 rfl) rfl
theorem q1235 : (Jvm.Cond.static ({ cls := "java/lang/Character", name := "lowSurrogate", desc := "(I)C" } : Jvm.MethodName)) ∈ lw_all := lw_g (lw_at lw_m5 165 rfl) rfl
theorem q1236 : (Jvm.Cond.code ({ cls := "java/lang/Character", name := "lowSurrogate", desc := "(I)C" } : Jvm.MethodName) prog_29_method_29_code (1 : Nat) (Option.some Jvm.ClassFile.FieldType.char)) ∈ lw_all := lw_g (lw_at lw_m5 166 rfl) rfl
theorem q1237 : (Jvm.Cond.constant "java/lang/Character" (76 : Nat) (56320 : Int32)) ∈ lw_all := lw_g (lw_at lw_m5 167 rfl) rfl
theorem q150 : (Jvm.Cond.initialized "ColourOffice$Tree") ∈ lw_all := lw_g (lw_at lw_m1 40 rfl) rfl
theorem q496 : (Jvm.Cond.fieldLinkNest "ColourOffice$Tree" (58 : Nat) "ColourOffice$Found" "id" "I" "ColourOffice") ∈ lw_tbl := lw_at lw_m2 146 rfl
theorem q505 : (Jvm.Cond.fieldLinkNest "ColourOffice$Tree" (48 : Nat) "ColourOffice$Found" "tint" "LColourOffice$Tint;" "ColourOffice") ∈ lw_tbl := lw_at lw_m2 155 rfl
theorem q881 : (Jvm.Cond.selects "ColourOffice$Tree" ({ cls := "java/lang/Object", name := "getClass", desc := "()Ljava/lang/Class;" } : Jvm.MethodName) ({ cls := "java/lang/Object", name := "getClass", desc := "()Ljava/lang/Class;" } : Jvm.MethodName)) ∈ lw_all := lw_g (lw_at lw_m4 51 rfl) rfl
theorem q1247 : (Jvm.Cond.instantiable "ColourOffice$Tree" (3 : Nat)) ∈ lw_all := lw_g (lw_at lw_m5 177 rfl) rfl
theorem q1263 : (Jvm.Cond.instanceMethod ({ cls := "ColourOffice$Tree", name := "<init>", desc := "(LColourOffice$Shelf;LColourOffice$Metric;)V" } : Jvm.MethodName)) ∈ lw_all := lw_g (lw_at lw_m5 193 rfl) rfl
theorem q1264 : (Jvm.Cond.code ({ cls := "ColourOffice$Tree", name := "<init>", desc := "(LColourOffice$Shelf;LColourOffice$Metric;)V" } : Jvm.MethodName) prog_19_method_1_code (6 : Nat) (Option.none : Option Jvm.ClassFile.FieldType)) ∈ lw_all := lw_g (lw_at lw_m5 194 rfl) rfl
theorem q1265 : (Jvm.Cond.methodLink "ColourOffice$Tree" (1 : Nat) ({ cls := "java/lang/Object", name := "<init>", desc := "()V" } : Jvm.MethodName)) ∈ lw_all := lw_g (lw_at lw_m5 195 rfl) rfl
theorem q1266 : (Jvm.Cond.methodLink "ColourOffice$Tree" (17 : Nat) ({ cls := "ColourOffice$Shelf", name := "iterator", desc := "()Ljava/util/Iterator;" } : Jvm.MethodName)) ∈ lw_all := lw_g (lw_at lw_m5 196 rfl) rfl
theorem q1267 : (Jvm.Cond.interfaceEntry "ColourOffice$Tree" (23 : Nat)) ∈ lw_tbl := lw_at lw_m5 197 rfl
theorem q1268 : (Jvm.Cond.methodLink "ColourOffice$Tree" (23 : Nat) ({ cls := "java/util/Iterator", name := "hasNext", desc := "()Z" } : Jvm.MethodName)) ∈ lw_all := lw_g (lw_at lw_m5 198 rfl) rfl
theorem q1269 : (Jvm.Cond.interfaceEntry "ColourOffice$Tree" (29 : Nat)) ∈ lw_tbl := lw_at lw_m5 199 rfl
theorem q1270 : (Jvm.Cond.methodLink "ColourOffice$Tree" (29 : Nat) ({ cls := "java/util/Iterator", name := "next", desc := "()Ljava/lang/Object;" } : Jvm.MethodName)) ∈ lw_all := lw_g (lw_at lw_m5 200 rfl) rfl
theorem q1271 : (Jvm.Cond.classLink "ColourOffice$Tree" (33 : Nat) "ColourOffice$Found") ∈ lw_all := lw_g (lw_at lw_m5 201 rfl) rfl
theorem q1272 : (Jvm.Cond.classLink "ColourOffice$Tree" (35 : Nat) "ColourOffice$Tree$Node") ∈ lw_all := lw_g (lw_at lw_m5 202 rfl) rfl
theorem q1274 : (Jvm.Cond.methodLink "ColourOffice$Tree" (37 : Nat) ({ cls := "ColourOffice$Tree$Node", name := "<init>", desc := "(LColourOffice$Tree;LColourOffice$Found;I)V" } : Jvm.MethodName)) ∈ lw_all := lw_g (lw_at lw_m5 204 rfl) rfl
theorem q1279 : (Jvm.Cond.fieldLinkNest "ColourOffice$Tree" (68 : Nat) "ColourOffice$Tree$Node" "found" "LColourOffice$Found;" "ColourOffice") ∈ lw_tbl := lw_at lw_m5 209 rfl
theorem q1295 : (Jvm.Cond.methodLink "ColourOffice$Tree" (40 : Nat) ({ cls := "ColourOffice$Tree$Node", name := "insert", desc := "(LColourOffice$Found;)V" } : Jvm.MethodName)) ∈ lw_all := lw_g (lw_at lw_m5 225 rfl) rfl
theorem q1307 : (Jvm.Cond.fieldLink "ColourOffice$Tree" (13 : Nat) "ColourOffice$Tree" "metric" "LColourOffice$Metric;") ∈ lw_all := lw_g (lw_at lw_m5 237 rfl) rfl
theorem q1309 : (Jvm.Cond.fieldLink "ColourOffice$Tree" (7 : Nat) "ColourOffice$Tree" "shelf" "LColourOffice$Shelf;") ∈ lw_all := lw_g (lw_at lw_m5 239 rfl) rfl
theorem q1310 : (Jvm.Cond.fieldLink "ColourOffice$Tree" (44 : Nat) "ColourOffice$Tree" "root" "LColourOffice$Tree$Node;") ∈ lw_all := lw_g (lw_at lw_m6 0 rfl) rfl
theorem q1311 : (Jvm.Cond.laysFinal "ColourOffice$Tree" "ColourOffice$Tree" "metric" "LColourOffice$Metric;") ∈ lw_all := lw_g (lw_at lw_m6 1 rfl) rfl
theorem q1312 : (Jvm.Cond.soleField "ColourOffice$Tree" "metric") ∈ lw_all := lw_g (lw_at lw_m6 2 rfl) rfl
theorem q1313 : (Jvm.Cond.laysFinal "ColourOffice$Tree" "ColourOffice$Tree" "shelf" "LColourOffice$Shelf;") ∈ lw_all := lw_g (lw_at lw_m6 3 rfl) rfl
theorem q1314 : (Jvm.Cond.soleField "ColourOffice$Tree" "shelf") ∈ lw_all := lw_g (lw_at lw_m6 4 rfl) rfl
theorem q1315 : (Jvm.Cond.laysFinal "ColourOffice$Tree" "ColourOffice$Tree" "root" "LColourOffice$Tree$Node;") ∈ lw_all := lw_g (lw_at lw_m6 5 rfl) rfl
theorem q1316 : (Jvm.Cond.soleField "ColourOffice$Tree" "root") ∈ lw_all := lw_g (lw_at lw_m6 6 rfl) rfl
theorem q1317 : (Jvm.Cond.superclass "ColourOffice$Tree" "java/lang/Object") ∈ lw_all := lw_g (lw_at lw_m6 7 rfl) rfl
theorem q1323 : (Jvm.Cond.instanceMethod ({ cls := "ColourOffice$Tree", name := "nearest", desc := "(LColourOffice$Tint;)Ljava/util/Optional;" } : Jvm.MethodName)) ∈ lw_all := lw_g (lw_at lw_m6 13 rfl) rfl
theorem q1324 : (Jvm.Cond.selects "ColourOffice$Tree" ({ cls := "ColourOffice$Tree", name := "nearest", desc := "(LColourOffice$Tint;)Ljava/util/Optional;" } : Jvm.MethodName) ({ cls := "ColourOffice$Tree", name := "nearest", desc := "(LColourOffice$Tint;)Ljava/util/Optional;" } : Jvm.MethodName)) ∈ lw_all := lw_g (lw_at lw_m6 14 rfl) rfl
theorem q1325 : (Jvm.Cond.code ({ cls := "ColourOffice$Tree", name := "nearest", desc := "(LColourOffice$Tint;)Ljava/util/Optional;" } : Jvm.MethodName) prog_19_method_3_code (2 : Nat) (Option.some (Jvm.ClassFile.FieldType.object "java/util/Optional"))) ∈ lw_all := lw_g (lw_at lw_m6 15 rfl) rfl
theorem q1326 : (Jvm.Cond.methodLink "ColourOffice$Tree" (62 : Nat) ({ cls := "java/util/Optional", name := "empty", desc := "()Ljava/util/Optional;" } : Jvm.MethodName)) ∈ lw_all := lw_g (lw_at lw_m6 16 rfl) rfl
theorem q1331 : (Jvm.Cond.methodLink "ColourOffice$Tree" (72 : Nat) ({ cls := "ColourOffice$Tree$Node", name := "nearer", desc := "(LColourOffice$Found;LColourOffice$Tint;)LColourOffice$Found;" } : Jvm.MethodName)) ∈ lw_all := lw_g (lw_at lw_m6 21 rfl) rfl
theorem q1336 : (Jvm.Cond.privateMethod ({ cls := "ColourOffice$Tree", name := "isNearer", desc := "(LColourOffice$Found;LColourOffice$Found;LColourOffice$Tint;)Z" } : Jvm.MethodName)) ∈ lw_tbl := lw_at lw_m6 26 rfl
theorem q1337 : (Jvm.Cond.instanceMethod ({ cls := "ColourOffice$Tree", name := "isNearer", desc := "(LColourOffice$Found;LColourOffice$Found;LColourOffice$Tint;)Z" } : Jvm.MethodName)) ∈ lw_all := lw_g (lw_at lw_m6 27 rfl) rfl
theorem q1338 : (Jvm.Cond.code ({ cls := "ColourOffice$Tree", name := "isNearer", desc := "(LColourOffice$Found;LColourOffice$Found;LColourOffice$Tint;)Z" } : Jvm.MethodName) prog_19_method_2_code (5 : Nat) (Option.some Jvm.ClassFile.FieldType.boolean)) ∈ lw_all := lw_g (lw_at lw_m6 28 rfl) rfl
theorem q1339 : (Jvm.Cond.methodLinkNest "ColourOffice$Tree" (52 : Nat) ({ cls := "ColourOffice", name := "distance", desc := "(LColourOffice$Metric;LColourOffice$Tint;LColourOffice$Tint;)I" } : Jvm.MethodName) "ColourOffice") ∈ lw_tbl := lw_at lw_m6 29 rfl
theorem q1362 : (Jvm.Cond.methodLink "ColourOffice$Tree" (76 : Nat) ({ cls := "java/util/Optional", name := "of", desc := "(Ljava/lang/Object;)Ljava/util/Optional;" } : Jvm.MethodName)) ∈ lw_all := lw_g (lw_at lw_m6 52 rfl) rfl
theorem q1656 : (Jvm.Cond.instanceMethod ({ cls := "ColourOffice$Tree", name := "nearestByLooking", desc := "(LColourOffice$Tint;)Ljava/util/Optional;" } : Jvm.MethodName)) ∈ lw_all := lw_g (lw_at lw_m7 106 rfl) rfl
theorem q1657 : (Jvm.Cond.selects "ColourOffice$Tree" ({ cls := "ColourOffice$Tree", name := "nearestByLooking", desc := "(LColourOffice$Tint;)Ljava/util/Optional;" } : Jvm.MethodName) ({ cls := "ColourOffice$Tree", name := "nearestByLooking", desc := "(LColourOffice$Tint;)Ljava/util/Optional;" } : Jvm.MethodName)) ∈ lw_all := lw_g (lw_at lw_m7 107 rfl) rfl
theorem q1658 : (Jvm.Cond.code ({ cls := "ColourOffice$Tree", name := "nearestByLooking", desc := "(LColourOffice$Tint;)Ljava/util/Optional;" } : Jvm.MethodName) prog_19_method_4_code (5 : Nat) (Option.some (Jvm.ClassFile.FieldType.object "java/util/Optional"))) ∈ lw_all := lw_g (lw_at lw_m7 108 rfl) rfl
theorem q1659 : (Jvm.Cond.methodLink "ColourOffice$Tree" (80 : Nat) ({ cls := "java/util/Optional", name := "isPresent", desc := "()Z" } : Jvm.MethodName)) ∈ lw_all := lw_g (lw_at lw_m7 109 rfl) rfl
theorem q1663 : (Jvm.Cond.methodLink "ColourOffice$Tree" (83 : Nat) ({ cls := "java/util/Optional", name := "get", desc := "()Ljava/lang/Object;" } : Jvm.MethodName)) ∈ lw_all := lw_g (lw_at lw_m7 113 rfl) rfl
theorem q1664 : (Jvm.Cond.methodLink "ColourOffice$Tree" (86 : Nat) ({ cls := "ColourOffice$Tree", name := "isNearer", desc := "(LColourOffice$Found;LColourOffice$Found;LColourOffice$Tint;)Z" } : Jvm.MethodName)) ∈ lw_all := lw_g (lw_at lw_m7 114 rfl) rfl
theorem q2409 : (Jvm.Cond.selects "ColourOffice$Tree" ({ cls := "java/lang/Object", name := "toString", desc := "()Ljava/lang/String;" } : Jvm.MethodName) ({ cls := "java/lang/Object", name := "toString", desc := "()Ljava/lang/String;" } : Jvm.MethodName)) ∈ lw_all := lw_g (lw_at lw_m10 139 rfl) rfl
theorem q3328 : (Jvm.Cond.castable "ColourOffice$Tree" "java/lang/Object") ∈ lw_tbl := lw_at lw_m14 98 rfl
theorem q151 : (Jvm.Cond.initialized "ColourOffice$Tree$Node") ∈ lw_all := lw_g (lw_at lw_m1 41 rfl) rfl
theorem q507 : (Jvm.Cond.fieldLinkNest "ColourOffice$Tree$Node" (27 : Nat) "ColourOffice$Found" "tint" "LColourOffice$Tint;" "ColourOffice") ∈ lw_tbl := lw_at lw_m2 157 rfl
theorem q882 : (Jvm.Cond.selects "ColourOffice$Tree$Node" ({ cls := "java/lang/Object", name := "getClass", desc := "()Ljava/lang/Class;" } : Jvm.MethodName) ({ cls := "java/lang/Object", name := "getClass", desc := "()Ljava/lang/Class;" } : Jvm.MethodName)) ∈ lw_all := lw_g (lw_at lw_m4 52 rfl) rfl
theorem q1273 : (Jvm.Cond.instantiable "ColourOffice$Tree$Node" (5 : Nat)) ∈ lw_all := lw_g (lw_at lw_m5 203 rfl) rfl
theorem q1275 : (Jvm.Cond.instanceMethod ({ cls := "ColourOffice$Tree$Node", name := "<init>", desc := "(LColourOffice$Tree;LColourOffice$Found;I)V" } : Jvm.MethodName)) ∈ lw_all := lw_g (lw_at lw_m5 205 rfl) rfl
theorem q1276 : (Jvm.Cond.code ({ cls := "ColourOffice$Tree$Node", name := "<init>", desc := "(LColourOffice$Tree;LColourOffice$Found;I)V" } : Jvm.MethodName) prog_20_method_1_code (4 : Nat) (Option.none : Option Jvm.ClassFile.FieldType)) ∈ lw_all := lw_g (lw_at lw_m5 206 rfl) rfl
theorem q1277 : (Jvm.Cond.methodLink "ColourOffice$Tree$Node" (7 : Nat) ({ cls := "java/lang/Object", name := "<init>", desc := "()V" } : Jvm.MethodName)) ∈ lw_all := lw_g (lw_at lw_m5 207 rfl) rfl
theorem q1278 : (Jvm.Cond.fieldLink "ColourOffice$Tree$Node" (13 : Nat) "ColourOffice$Tree$Node" "found" "LColourOffice$Found;") ∈ lw_all := lw_g (lw_at lw_m5 208 rfl) rfl
theorem q1280 : (Jvm.Cond.fieldLink "ColourOffice$Tree$Node" (17 : Nat) "ColourOffice$Tree$Node" "axis" "I") ∈ lw_all := lw_g (lw_at lw_m5 210 rfl) rfl
theorem q1281 : (Jvm.Cond.fieldLink "ColourOffice$Tree$Node" (37 : Nat) "ColourOffice$Tree$Node" "left" "LColourOffice$Tree$Node;") ∈ lw_all := lw_g (lw_at lw_m5 211 rfl) rfl
theorem q1282 : (Jvm.Cond.fieldLink "ColourOffice$Tree$Node" (41 : Nat) "ColourOffice$Tree$Node" "right" "LColourOffice$Tree$Node;") ∈ lw_all := lw_g (lw_at lw_m5 212 rfl) rfl
theorem q1283 : (Jvm.Cond.fieldLink "ColourOffice$Tree$Node" (1 : Nat) "ColourOffice$Tree$Node" "this$0" "LColourOffice$Tree;") ∈ lw_all := lw_g (lw_at lw_m5 213 rfl) rfl
theorem q1284 : (Jvm.Cond.laysFinal "ColourOffice$Tree$Node" "ColourOffice$Tree$Node" "found" "LColourOffice$Found;") ∈ lw_all := lw_g (lw_at lw_m5 214 rfl) rfl
theorem q1285 : (Jvm.Cond.soleField "ColourOffice$Tree$Node" "found") ∈ lw_all := lw_g (lw_at lw_m5 215 rfl) rfl
theorem q1286 : (Jvm.Cond.laysFinal "ColourOffice$Tree$Node" "ColourOffice$Tree$Node" "axis" "I") ∈ lw_all := lw_g (lw_at lw_m5 216 rfl) rfl
theorem q1287 : (Jvm.Cond.soleField "ColourOffice$Tree$Node" "axis") ∈ lw_all := lw_g (lw_at lw_m5 217 rfl) rfl
theorem q1288 : (Jvm.Cond.lays "ColourOffice$Tree$Node" "ColourOffice$Tree$Node" "left" "LColourOffice$Tree$Node;") ∈ lw_all := lw_g (lw_at lw_m5 218 rfl) rfl
theorem q1289 : (Jvm.Cond.soleField "ColourOffice$Tree$Node" "left") ∈ lw_all := lw_g (lw_at lw_m5 219 rfl) rfl
theorem q1290 : (Jvm.Cond.lays "ColourOffice$Tree$Node" "ColourOffice$Tree$Node" "right" "LColourOffice$Tree$Node;") ∈ lw_all := lw_g (lw_at lw_m5 220 rfl) rfl
theorem q1291 : (Jvm.Cond.soleField "ColourOffice$Tree$Node" "right") ∈ lw_all := lw_g (lw_at lw_m5 221 rfl) rfl
theorem q1292 : (Jvm.Cond.laysFinal "ColourOffice$Tree$Node" "ColourOffice$Tree$Node" "this$0" "LColourOffice$Tree;") ∈ lw_all := lw_g (lw_at lw_m5 222 rfl) rfl
theorem q1293 : (Jvm.Cond.soleField "ColourOffice$Tree$Node" "this$0") ∈ lw_all := lw_g (lw_at lw_m5 223 rfl) rfl
theorem q1294 : (Jvm.Cond.superclass "ColourOffice$Tree$Node" "java/lang/Object") ∈ lw_all := lw_g (lw_at lw_m5 224 rfl) rfl
theorem q1296 : (Jvm.Cond.instanceMethod ({ cls := "ColourOffice$Tree$Node", name := "insert", desc := "(LColourOffice$Found;)V" } : Jvm.MethodName)) ∈ lw_all := lw_g (lw_at lw_m5 226 rfl) rfl
theorem q1297 : (Jvm.Cond.selects "ColourOffice$Tree$Node" ({ cls := "ColourOffice$Tree$Node", name := "insert", desc := "(LColourOffice$Found;)V" } : Jvm.MethodName) ({ cls := "ColourOffice$Tree$Node", name := "insert", desc := "(LColourOffice$Found;)V" } : Jvm.MethodName)) ∈ lw_all := lw_g (lw_at lw_m5 227 rfl) rfl
theorem q1298 : (Jvm.Cond.code ({ cls := "ColourOffice$Tree$Node", name := "insert", desc := "(LColourOffice$Found;)V" } : Jvm.MethodName) prog_20_method_3_code (3 : Nat) (Option.none : Option Jvm.ClassFile.FieldType)) ∈ lw_all := lw_g (lw_at lw_m5 228 rfl) rfl
theorem q1299 : (Jvm.Cond.methodLink "ColourOffice$Tree$Node" (33 : Nat) ({ cls := "ColourOffice$Tree$Node", name := "isLeft", desc := "(LColourOffice$Tint;)Z" } : Jvm.MethodName)) ∈ lw_all := lw_g (lw_at lw_m5 229 rfl) rfl
theorem q1300 : (Jvm.Cond.privateMethod ({ cls := "ColourOffice$Tree$Node", name := "isLeft", desc := "(LColourOffice$Tint;)Z" } : Jvm.MethodName)) ∈ lw_tbl := lw_at lw_m5 230 rfl
theorem q1301 : (Jvm.Cond.instanceMethod ({ cls := "ColourOffice$Tree$Node", name := "isLeft", desc := "(LColourOffice$Tint;)Z" } : Jvm.MethodName)) ∈ lw_all := lw_g (lw_at lw_m5 231 rfl) rfl
theorem q1302 : (Jvm.Cond.code ({ cls := "ColourOffice$Tree$Node", name := "isLeft", desc := "(LColourOffice$Tint;)Z" } : Jvm.MethodName) prog_20_method_2_code (2 : Nat) (Option.some Jvm.ClassFile.FieldType.boolean)) ∈ lw_all := lw_g (lw_at lw_m5 232 rfl) rfl
theorem q1303 : (Jvm.Cond.methodLink "ColourOffice$Tree$Node" (21 : Nat) ({ cls := "ColourOffice$Tint", name := "part", desc := "(I)I" } : Jvm.MethodName)) ∈ lw_all := lw_g (lw_at lw_m5 233 rfl) rfl
theorem q1304 : (Jvm.Cond.methodLink "ColourOffice$Tree$Node" (44 : Nat) ({ cls := "ColourOffice$Tree$Node", name := "insert", desc := "(LColourOffice$Found;)V" } : Jvm.MethodName)) ∈ lw_all := lw_g (lw_at lw_m5 234 rfl) rfl
theorem q1305 : (Jvm.Cond.classLink "ColourOffice$Tree$Node" (2 : Nat) "ColourOffice$Tree$Node") ∈ lw_all := lw_g (lw_at lw_m5 235 rfl) rfl
theorem q1306 : (Jvm.Cond.methodLink "ColourOffice$Tree$Node" (48 : Nat) ({ cls := "ColourOffice$Tree$Node", name := "<init>", desc := "(LColourOffice$Tree;LColourOffice$Found;I)V" } : Jvm.MethodName)) ∈ lw_all := lw_g (lw_at lw_m5 236 rfl) rfl
theorem q1308 : (Jvm.Cond.fieldLinkNest "ColourOffice$Tree$Node" (55 : Nat) "ColourOffice$Tree" "metric" "LColourOffice$Metric;" "ColourOffice") ∈ lw_tbl := lw_at lw_m5 238 rfl
theorem q1332 : (Jvm.Cond.instanceMethod ({ cls := "ColourOffice$Tree$Node", name := "nearer", desc := "(LColourOffice$Found;LColourOffice$Tint;)LColourOffice$Found;" } : Jvm.MethodName)) ∈ lw_all := lw_g (lw_at lw_m6 22 rfl) rfl
theorem q1333 : (Jvm.Cond.selects "ColourOffice$Tree$Node" ({ cls := "ColourOffice$Tree$Node", name := "nearer", desc := "(LColourOffice$Found;LColourOffice$Tint;)LColourOffice$Found;" } : Jvm.MethodName) ({ cls := "ColourOffice$Tree$Node", name := "nearer", desc := "(LColourOffice$Found;LColourOffice$Tint;)LColourOffice$Found;" } : Jvm.MethodName)) ∈ lw_all := lw_g (lw_at lw_m6 23 rfl) rfl
theorem q1334 : (Jvm.Cond.code ({ cls := "ColourOffice$Tree$Node", name := "nearer", desc := "(LColourOffice$Found;LColourOffice$Tint;)LColourOffice$Found;" } : Jvm.MethodName) prog_20_method_5_code (6 : Nat) (Option.some (Jvm.ClassFile.FieldType.object "ColourOffice$Found"))) ∈ lw_all := lw_g (lw_at lw_m6 24 rfl) rfl
theorem q1335 : (Jvm.Cond.methodLinkNest "ColourOffice$Tree$Node" (67 : Nat) ({ cls := "ColourOffice$Tree", name := "isNearer", desc := "(LColourOffice$Found;LColourOffice$Found;LColourOffice$Tint;)Z" } : Jvm.MethodName) "ColourOffice") ∈ lw_tbl := lw_at lw_m6 25 rfl
theorem q1353 : (Jvm.Cond.methodLink "ColourOffice$Tree$Node" (71 : Nat) ({ cls := "ColourOffice$Tree$Node", name := "nearer", desc := "(LColourOffice$Found;LColourOffice$Tint;)LColourOffice$Found;" } : Jvm.MethodName)) ∈ lw_all := lw_g (lw_at lw_m6 43 rfl) rfl
theorem q1354 : (Jvm.Cond.methodLink "ColourOffice$Tree$Node" (75 : Nat) ({ cls := "ColourOffice$Tree$Node", name := "bound", desc := "(LColourOffice$Tint;)I" } : Jvm.MethodName)) ∈ lw_all := lw_g (lw_at lw_m6 44 rfl) rfl
theorem q1355 : (Jvm.Cond.privateMethod ({ cls := "ColourOffice$Tree$Node", name := "bound", desc := "(LColourOffice$Tint;)I" } : Jvm.MethodName)) ∈ lw_tbl := lw_at lw_m6 45 rfl
theorem q1356 : (Jvm.Cond.instanceMethod ({ cls := "ColourOffice$Tree$Node", name := "bound", desc := "(LColourOffice$Tint;)I" } : Jvm.MethodName)) ∈ lw_all := lw_g (lw_at lw_m6 46 rfl) rfl
theorem q1357 : (Jvm.Cond.code ({ cls := "ColourOffice$Tree$Node", name := "bound", desc := "(LColourOffice$Tint;)I" } : Jvm.MethodName) prog_20_method_4_code (3 : Nat) (Option.some Jvm.ClassFile.FieldType.int)) ∈ lw_all := lw_g (lw_at lw_m6 47 rfl) rfl
theorem q1358 : (Jvm.Cond.methodLink "ColourOffice$Tree$Node" (51 : Nat) ({ cls := "ColourOffice$Tint", name := "difference", desc := "(LColourOffice$Tint;I)I" } : Jvm.MethodName)) ∈ lw_all := lw_g (lw_at lw_m6 48 rfl) rfl
theorem q1359 : (Jvm.Cond.interfaceEntry "ColourOffice$Tree$Node" (61 : Nat)) ∈ lw_tbl := lw_at lw_m6 49 rfl
theorem q1360 : (Jvm.Cond.methodLink "ColourOffice$Tree$Node" (61 : Nat) ({ cls := "ColourOffice$Metric", name := "combine", desc := "(III)I" } : Jvm.MethodName)) ∈ lw_all := lw_g (lw_at lw_m6 50 rfl) rfl
theorem q1361 : (Jvm.Cond.methodLinkNest "ColourOffice$Tree$Node" (79 : Nat) ({ cls := "ColourOffice", name := "distance", desc := "(LColourOffice$Metric;LColourOffice$Tint;LColourOffice$Tint;)I" } : Jvm.MethodName) "ColourOffice") ∈ lw_tbl := lw_at lw_m6 51 rfl
theorem q2410 : (Jvm.Cond.selects "ColourOffice$Tree$Node" ({ cls := "java/lang/Object", name := "toString", desc := "()Ljava/lang/String;" } : Jvm.MethodName) ({ cls := "java/lang/Object", name := "toString", desc := "()Ljava/lang/String;" } : Jvm.MethodName)) ∈ lw_all := lw_g (lw_at lw_m10 140 rfl) rfl
theorem q3329 : (Jvm.Cond.castable "ColourOffice$Tree$Node" "java/lang/Object") ∈ lw_tbl := lw_at lw_m14 99 rfl
theorem q152 : (Jvm.Cond.initialized "java/util/Optional") ∈ lw_all := lw_g (lw_at lw_m1 42 rfl) rfl
theorem q898 : (Jvm.Cond.selects "java/util/Optional" ({ cls := "java/lang/Object", name := "getClass", desc := "()Ljava/lang/Class;" } : Jvm.MethodName) ({ cls := "java/lang/Object", name := "getClass", desc := "()Ljava/lang/Class;" } : Jvm.MethodName)) ∈ lw_all := lw_g (lw_at lw_m4 68 rfl) rfl
theorem q1327 : (Jvm.Cond.static ({ cls := "java/util/Optional", name := "empty", desc := "()Ljava/util/Optional;" } : Jvm.MethodName)) ∈ lw_all := lw_g (lw_at lw_m6 17 rfl) rfl
theorem q1328 : (Jvm.Cond.code ({ cls := "java/util/Optional", name := "empty", desc := "()Ljava/util/Optional;" } : Jvm.MethodName) prog_67_method_1_code (1 : Nat) (Option.some (Jvm.ClassFile.FieldType.object "java/util/Optional"))) ∈ lw_all := lw_g (lw_at lw_m6 18 rfl) rfl
theorem q1329 : (Jvm.Cond.fieldLink "java/util/Optional" (1 : Nat) "java/util/Optional" "EMPTY" "Ljava/util/Optional;") ∈ lw_all := lw_g (lw_at lw_m6 19 rfl) rfl
theorem q1330 : (Jvm.Cond.laysStatic "java/util/Optional" "EMPTY" "Ljava/util/Optional;") ∈ lw_tbl := lw_at lw_m6 20 rfl
theorem q1363 : (Jvm.Cond.static ({ cls := "java/util/Optional", name := "of", desc := "(Ljava/lang/Object;)Ljava/util/Optional;" } : Jvm.MethodName)) ∈ lw_all := lw_g (lw_at lw_m6 53 rfl) rfl
theorem q1364 : (Jvm.Cond.code ({ cls := "java/util/Optional", name := "of", desc := "(Ljava/lang/Object;)Ljava/util/Optional;" } : Jvm.MethodName) prog_67_method_3_code (1 : Nat) (Option.some (Jvm.ClassFile.FieldType.object "java/util/Optional"))) ∈ lw_all := lw_g (lw_at lw_m6 54 rfl) rfl
theorem q1365 : (Jvm.Cond.classLink "java/util/Optional" (2 : Nat) "java/util/Optional") ∈ lw_all := lw_g (lw_at lw_m6 55 rfl) rfl
theorem q1366 : (Jvm.Cond.instantiable "java/util/Optional" (1 : Nat)) ∈ lw_all := lw_g (lw_at lw_m6 56 rfl) rfl
theorem q1367 : (Jvm.Cond.methodLink "java/util/Optional" (17 : Nat) ({ cls := "java/util/Objects", name := "requireNonNull", desc := "(Ljava/lang/Object;)Ljava/lang/Object;" } : Jvm.MethodName)) ∈ lw_all := lw_g (lw_at lw_m6 57 rfl) rfl
theorem q1370 : (Jvm.Cond.methodLink "java/util/Optional" (23 : Nat) ({ cls := "java/util/Optional", name := "<init>", desc := "(Ljava/lang/Object;)V" } : Jvm.MethodName)) ∈ lw_all := lw_g (lw_at lw_m6 60 rfl) rfl
theorem q1371 : (Jvm.Cond.instanceMethod ({ cls := "java/util/Optional", name := "<init>", desc := "(Ljava/lang/Object;)V" } : Jvm.MethodName)) ∈ lw_all := lw_g (lw_at lw_m6 61 rfl) rfl
theorem q1372 : (Jvm.Cond.code ({ cls := "java/util/Optional", name := "<init>", desc := "(Ljava/lang/Object;)V" } : Jvm.MethodName) prog_67_method_2_code (2 : Nat) (Option.none : Option Jvm.ClassFile.FieldType)) ∈ lw_all := lw_g (lw_at lw_m6 62 rfl) rfl
theorem q1373 : (Jvm.Cond.methodLink "java/util/Optional" (7 : Nat) ({ cls := "java/lang/Object", name := "<init>", desc := "()V" } : Jvm.MethodName)) ∈ lw_all := lw_g (lw_at lw_m6 63 rfl) rfl
theorem q1374 : (Jvm.Cond.fieldLink "java/util/Optional" (13 : Nat) "java/util/Optional" "value" "Ljava/lang/Object;") ∈ lw_all := lw_g (lw_at lw_m6 64 rfl) rfl
theorem q1375 : (Jvm.Cond.laysFinal "java/util/Optional" "java/util/Optional" "value" "Ljava/lang/Object;") ∈ lw_all := lw_g (lw_at lw_m6 65 rfl) rfl
theorem q1376 : (Jvm.Cond.soleField "java/util/Optional" "value") ∈ lw_all := lw_g (lw_at lw_m6 66 rfl) rfl
theorem q1377 : (Jvm.Cond.superclass "java/util/Optional" "java/lang/Object") ∈ lw_all := lw_g (lw_at lw_m6 67 rfl) rfl
theorem q1379 : (Jvm.Cond.instanceMethod ({ cls := "java/util/Optional", name := "get", desc := "()Ljava/lang/Object;" } : Jvm.MethodName)) ∈ lw_all := lw_g (lw_at lw_m6 69 rfl) rfl
theorem q1380 : (Jvm.Cond.selects "java/util/Optional" ({ cls := "java/util/Optional", name := "get", desc := "()Ljava/lang/Object;" } : Jvm.MethodName) ({ cls := "java/util/Optional", name := "get", desc := "()Ljava/lang/Object;" } : Jvm.MethodName)) ∈ lw_all := lw_g (lw_at lw_m6 70 rfl) rfl
theorem q1381 : (Jvm.Cond.code ({ cls := "java/util/Optional", name := "get", desc := "()Ljava/lang/Object;" } : Jvm.MethodName) prog_67_method_5_code (1 : Nat) (Option.some (Jvm.ClassFile.FieldType.object "java/lang/Object"))) ∈ lw_all := lw_g (lw_at lw_m6 71 rfl) rfl
theorem q1382 : (Jvm.Cond.classLink "java/util/Optional" (26 : Nat) "java/util/NoSuchElementException") ∈ lw_all := lw_g (lw_at lw_m6 72 rfl) rfl
theorem q1383 : (Jvm.Cond.stringRef "java/util/Optional" (28 : Nat) "No value present") ∈ lw_tbl := lw_at lw_m6 73 rfl
theorem q1384 : (Jvm.Cond.methodLink "java/util/Optional" (30 : Nat) ({ cls := "java/util/NoSuchElementException", name := "<init>", desc := "(Ljava/lang/String;)V" } : Jvm.MethodName)) ∈ lw_all := lw_g (lw_at lw_m6 74 rfl) rfl
theorem q1660 : (Jvm.Cond.instanceMethod ({ cls := "java/util/Optional", name := "isPresent", desc := "()Z" } : Jvm.MethodName)) ∈ lw_all := lw_g (lw_at lw_m7 110 rfl) rfl
theorem q1661 : (Jvm.Cond.selects "java/util/Optional" ({ cls := "java/util/Optional", name := "isPresent", desc := "()Z" } : Jvm.MethodName) ({ cls := "java/util/Optional", name := "isPresent", desc := "()Z" } : Jvm.MethodName)) ∈ lw_all := lw_g (lw_at lw_m7 111 rfl) rfl
theorem q1662 : (Jvm.Cond.code ({ cls := "java/util/Optional", name := "isPresent", desc := "()Z" } : Jvm.MethodName) prog_67_method_6_code (1 : Nat) (Option.some Jvm.ClassFile.FieldType.boolean)) ∈ lw_all := lw_g (lw_at lw_m7 112 rfl) rfl
theorem q3330 : (Jvm.Cond.castable "java/util/Optional" "java/lang/Object") ∈ lw_tbl := lw_at lw_m14 100 rfl
theorem q153 : (Jvm.Cond.initialized "ColourOffice$Settlement") ∈ lw_all := lw_g (lw_at lw_m1 43 rfl) rfl
theorem q504 : (Jvm.Cond.fieldLinkNest "ColourOffice$Settlement" (50 : Nat) "ColourOffice$Found" "tint" "LColourOffice$Tint;" "ColourOffice") ∈ lw_tbl := lw_at lw_m2 154 rfl
theorem q876 : (Jvm.Cond.selects "ColourOffice$Settlement" ({ cls := "java/lang/Object", name := "getClass", desc := "()Ljava/lang/Class;" } : Jvm.MethodName) ({ cls := "java/lang/Object", name := "getClass", desc := "()Ljava/lang/Class;" } : Jvm.MethodName)) ∈ lw_all := lw_g (lw_at lw_m4 46 rfl) rfl
theorem q1115 : (Jvm.Cond.fieldLinkNest "ColourOffice$Settlement" (42 : Nat) "ColourOffice$Report" "tint" "LColourOffice$Tint;" "ColourOffice") ∈ lw_tbl := lw_at lw_m5 45 rfl
theorem q1119 : (Jvm.Cond.fieldLinkNest "ColourOffice$Settlement" (57 : Nat) "ColourOffice$Report" "tolerance" "I" "ColourOffice") ∈ lw_tbl := lw_at lw_m5 49 rfl
theorem q1123 : (Jvm.Cond.fieldLinkNest "ColourOffice$Settlement" (60 : Nat) "ColourOffice$Report" "reward" "I" "ColourOffice") ∈ lw_tbl := lw_at lw_m5 53 rfl
theorem q1418 : (Jvm.Cond.instantiable "ColourOffice$Settlement" (4 : Nat)) ∈ lw_all := lw_g (lw_at lw_m6 108 rfl) rfl
theorem q1420 : (Jvm.Cond.instanceMethod ({ cls := "ColourOffice$Settlement", name := "<init>", desc := "(Ljava/util/List;LColourOffice$Shelf;LColourOffice$Metric;)V" } : Jvm.MethodName)) ∈ lw_all := lw_g (lw_at lw_m6 110 rfl) rfl
theorem q1421 : (Jvm.Cond.code ({ cls := "ColourOffice$Settlement", name := "<init>", desc := "(Ljava/util/List;LColourOffice$Shelf;LColourOffice$Metric;)V" } : Jvm.MethodName) prog_14_method_1_code (7 : Nat) (Option.none : Option Jvm.ClassFile.FieldType)) ∈ lw_all := lw_g (lw_at lw_m6 111 rfl) rfl
theorem q1422 : (Jvm.Cond.methodLink "ColourOffice$Settlement" (3 : Nat) ({ cls := "java/lang/Object", name := "<init>", desc := "()V" } : Jvm.MethodName)) ∈ lw_all := lw_g (lw_at lw_m6 112 rfl) rfl
theorem q1423 : (Jvm.Cond.interfaceEntry "ColourOffice$Settlement" (9 : Nat)) ∈ lw_tbl := lw_at lw_m6 113 rfl
theorem q1424 : (Jvm.Cond.methodLink "ColourOffice$Settlement" (9 : Nat) ({ cls := "java/util/List", name := "size", desc := "()I" } : Jvm.MethodName)) ∈ lw_all := lw_g (lw_at lw_m6 114 rfl) rfl
theorem q1425 : (Jvm.Cond.methodLink "ColourOffice$Settlement" (21 : Nat) ({ cls := "ColourOffice$Shelf", name := "count", desc := "()I" } : Jvm.MethodName)) ∈ lw_all := lw_g (lw_at lw_m6 115 rfl) rfl
theorem q1426 : (Jvm.Cond.interfaceEntry "ColourOffice$Settlement" (36 : Nat)) ∈ lw_tbl := lw_at lw_m6 116 rfl
theorem q1427 : (Jvm.Cond.methodLink "ColourOffice$Settlement" (36 : Nat) ({ cls := "java/util/List", name := "get", desc := "(I)Ljava/lang/Object;" } : Jvm.MethodName)) ∈ lw_all := lw_g (lw_at lw_m6 117 rfl) rfl
theorem q1428 : (Jvm.Cond.classLink "ColourOffice$Settlement" (40 : Nat) "ColourOffice$Report") ∈ lw_all := lw_g (lw_at lw_m6 118 rfl) rfl
theorem q1429 : (Jvm.Cond.methodLink "ColourOffice$Settlement" (46 : Nat) ({ cls := "ColourOffice$Shelf", name := "at", desc := "(I)LColourOffice$Found;" } : Jvm.MethodName)) ∈ lw_all := lw_g (lw_at lw_m6 119 rfl) rfl
theorem q1430 : (Jvm.Cond.methodLinkNest "ColourOffice$Settlement" (53 : Nat) ({ cls := "ColourOffice", name := "distance", desc := "(LColourOffice$Metric;LColourOffice$Tint;LColourOffice$Tint;)I" } : Jvm.MethodName) "ColourOffice") ∈ lw_tbl := lw_at lw_m6 120 rfl
theorem q1431 : (Jvm.Cond.fieldLink "ColourOffice$Settlement" (15 : Nat) "ColourOffice$Settlement" "reports" "I") ∈ lw_all := lw_g (lw_at lw_m6 121 rfl) rfl
theorem q1432 : (Jvm.Cond.fieldLink "ColourOffice$Settlement" (26 : Nat) "ColourOffice$Settlement" "colours" "I") ∈ lw_all := lw_g (lw_at lw_m6 122 rfl) rfl
theorem q1433 : (Jvm.Cond.fieldLink "ColourOffice$Settlement" (29 : Nat) "ColourOffice$Settlement" "rewards" "[I") ∈ lw_all := lw_g (lw_at lw_m6 123 rfl) rfl
theorem q1434 : (Jvm.Cond.fieldLink "ColourOffice$Settlement" (33 : Nat) "ColourOffice$Settlement" "distances" "[I") ∈ lw_all := lw_g (lw_at lw_m6 124 rfl) rfl
theorem q1435 : (Jvm.Cond.laysFinal "ColourOffice$Settlement" "ColourOffice$Settlement" "reports" "I") ∈ lw_all := lw_g (lw_at lw_m6 125 rfl) rfl
theorem q1436 : (Jvm.Cond.soleField "ColourOffice$Settlement" "reports") ∈ lw_all := lw_g (lw_at lw_m6 126 rfl) rfl
theorem q1437 : (Jvm.Cond.laysFinal "ColourOffice$Settlement" "ColourOffice$Settlement" "colours" "I") ∈ lw_all := lw_g (lw_at lw_m6 127 rfl) rfl
theorem q1438 : (Jvm.Cond.soleField "ColourOffice$Settlement" "colours") ∈ lw_all := lw_g (lw_at lw_m6 128 rfl) rfl
theorem q1439 : (Jvm.Cond.laysFinal "ColourOffice$Settlement" "ColourOffice$Settlement" "rewards" "[I") ∈ lw_all := lw_g (lw_at lw_m6 129 rfl) rfl
theorem q1440 : (Jvm.Cond.soleField "ColourOffice$Settlement" "rewards") ∈ lw_all := lw_g (lw_at lw_m6 130 rfl) rfl
theorem q1441 : (Jvm.Cond.laysFinal "ColourOffice$Settlement" "ColourOffice$Settlement" "distances" "[I") ∈ lw_all := lw_g (lw_at lw_m6 131 rfl) rfl
theorem q1442 : (Jvm.Cond.soleField "ColourOffice$Settlement" "distances") ∈ lw_all := lw_g (lw_at lw_m6 132 rfl) rfl
theorem q1443 : (Jvm.Cond.superclass "ColourOffice$Settlement" "java/lang/Object") ∈ lw_all := lw_g (lw_at lw_m6 133 rfl) rfl
theorem q1445 : (Jvm.Cond.instanceMethod ({ cls := "ColourOffice$Settlement", name := "colours", desc := "()[I" } : Jvm.MethodName)) ∈ lw_all := lw_g (lw_at lw_m6 135 rfl) rfl
theorem q1446 : (Jvm.Cond.selects "ColourOffice$Settlement" ({ cls := "ColourOffice$Settlement", name := "colours", desc := "()[I" } : Jvm.MethodName) ({ cls := "ColourOffice$Settlement", name := "colours", desc := "()[I" } : Jvm.MethodName)) ∈ lw_all := lw_g (lw_at lw_m6 136 rfl) rfl
theorem q1447 : (Jvm.Cond.code ({ cls := "ColourOffice$Settlement", name := "colours", desc := "()[I" } : Jvm.MethodName) prog_14_method_10_code (10 : Nat) (Option.some (Jvm.ClassFile.FieldType.array Jvm.ClassFile.FieldType.int))) ∈ lw_all := lw_g (lw_at lw_m6 137 rfl) rfl
theorem q1448 : (Jvm.Cond.methodLink "ColourOffice$Settlement" (94 : Nat) ({ cls := "ColourOffice$Settlement", name := "best", desc := "()J" } : Jvm.MethodName)) ∈ lw_all := lw_g (lw_at lw_m6 138 rfl) rfl
theorem q1449 : (Jvm.Cond.instanceMethod ({ cls := "ColourOffice$Settlement", name := "best", desc := "()J" } : Jvm.MethodName)) ∈ lw_all := lw_g (lw_at lw_m6 139 rfl) rfl
theorem q1450 : (Jvm.Cond.selects "ColourOffice$Settlement" ({ cls := "ColourOffice$Settlement", name := "best", desc := "()J" } : Jvm.MethodName) ({ cls := "ColourOffice$Settlement", name := "best", desc := "()J" } : Jvm.MethodName)) ∈ lw_all := lw_g (lw_at lw_m6 140 rfl) rfl
theorem q1451 : (Jvm.Cond.code ({ cls := "ColourOffice$Settlement", name := "best", desc := "()J" } : Jvm.MethodName) prog_14_method_6_code (1 : Nat) (Option.some Jvm.ClassFile.FieldType.long)) ∈ lw_all := lw_g (lw_at lw_m6 141 rfl) rfl
theorem q1452 : (Jvm.Cond.methodLink "ColourOffice$Settlement" (83 : Nat) ({ cls := "ColourOffice$Settlement", name := "worthsFrom", desc := "(I)[J" } : Jvm.MethodName)) ∈ lw_all := lw_g (lw_at lw_m6 142 rfl) rfl
theorem q1453 : (Jvm.Cond.privateMethod ({ cls := "ColourOffice$Settlement", name := "worthsFrom", desc := "(I)[J" } : Jvm.MethodName)) ∈ lw_tbl := lw_at lw_m6 143 rfl
theorem q1454 : (Jvm.Cond.instanceMethod ({ cls := "ColourOffice$Settlement", name := "worthsFrom", desc := "(I)[J" } : Jvm.MethodName)) ∈ lw_all := lw_g (lw_at lw_m6 144 rfl) rfl
theorem q1455 : (Jvm.Cond.code ({ cls := "ColourOffice$Settlement", name := "worthsFrom", desc := "(I)[J" } : Jvm.MethodName) prog_14_method_4_code (5 : Nat) (Option.some (Jvm.ClassFile.FieldType.array Jvm.ClassFile.FieldType.long))) ∈ lw_all := lw_g (lw_at lw_m6 145 rfl) rfl
theorem q1456 : (Jvm.Cond.methodLink "ColourOffice$Settlement" (65 : Nat) ({ cls := "ColourOffice$Settlement", name := "bestWith", desc := "([JII)J" } : Jvm.MethodName)) ∈ lw_all := lw_g (lw_at lw_m6 146 rfl) rfl
theorem q1457 : (Jvm.Cond.privateMethod ({ cls := "ColourOffice$Settlement", name := "bestWith", desc := "([JII)J" } : Jvm.MethodName)) ∈ lw_tbl := lw_at lw_m6 147 rfl
theorem q1458 : (Jvm.Cond.instanceMethod ({ cls := "ColourOffice$Settlement", name := "bestWith", desc := "([JII)J" } : Jvm.MethodName)) ∈ lw_all := lw_g (lw_at lw_m6 148 rfl) rfl
theorem q1459 : (Jvm.Cond.code ({ cls := "ColourOffice$Settlement", name := "bestWith", desc := "([JII)J" } : Jvm.MethodName) prog_14_method_5_code (7 : Nat) (Option.some Jvm.ClassFile.FieldType.long)) ∈ lw_all := lw_g (lw_at lw_m6 149 rfl) rfl
theorem q1460 : (Jvm.Cond.methodLink "ColourOffice$Settlement" (75 : Nat) ({ cls := "ColourOffice$Settlement", name := "fits", desc := "(II)Z" } : Jvm.MethodName)) ∈ lw_all := lw_g (lw_at lw_m6 150 rfl) rfl
theorem q1461 : (Jvm.Cond.privateMethod ({ cls := "ColourOffice$Settlement", name := "fits", desc := "(II)Z" } : Jvm.MethodName)) ∈ lw_tbl := lw_at lw_m6 151 rfl
theorem q1462 : (Jvm.Cond.instanceMethod ({ cls := "ColourOffice$Settlement", name := "fits", desc := "(II)Z" } : Jvm.MethodName)) ∈ lw_all := lw_g (lw_at lw_m6 152 rfl) rfl
theorem q1463 : (Jvm.Cond.code ({ cls := "ColourOffice$Settlement", name := "fits", desc := "(II)Z" } : Jvm.MethodName) prog_14_method_2_code (3 : Nat) (Option.some Jvm.ClassFile.FieldType.boolean)) ∈ lw_all := lw_g (lw_at lw_m6 153 rfl) rfl
theorem q1464 : (Jvm.Cond.methodLink "ColourOffice$Settlement" (79 : Nat) ({ cls := "ColourOffice$Settlement", name := "worth", desc := "(II)J" } : Jvm.MethodName)) ∈ lw_all := lw_g (lw_at lw_m6 154 rfl) rfl
theorem q1465 : (Jvm.Cond.privateMethod ({ cls := "ColourOffice$Settlement", name := "worth", desc := "(II)J" } : Jvm.MethodName)) ∈ lw_tbl := lw_at lw_m6 155 rfl
theorem q1466 : (Jvm.Cond.instanceMethod ({ cls := "ColourOffice$Settlement", name := "worth", desc := "(II)J" } : Jvm.MethodName)) ∈ lw_all := lw_g (lw_at lw_m6 156 rfl) rfl
theorem q1467 : (Jvm.Cond.code ({ cls := "ColourOffice$Settlement", name := "worth", desc := "(II)J" } : Jvm.MethodName) prog_14_method_3_code (3 : Nat) (Option.some Jvm.ClassFile.FieldType.long)) ∈ lw_all := lw_g (lw_at lw_m6 157 rfl) rfl
theorem q1468 : (Jvm.Cond.constantLong "ColourOffice$Settlement" (63 : Nat) (1000000 : Int64)) ∈ lw_all := lw_g (lw_at lw_m6 158 rfl) rfl
theorem q1469 : (Jvm.Cond.methodLink "ColourOffice$Settlement" (69 : Nat) ({ cls := "java/lang/Math", name := "max", desc := "(JJ)J" } : Jvm.MethodName)) ∈ lw_all := lw_g (lw_at lw_m6 159 rfl) rfl
theorem q1600 : (Jvm.Cond.static ({ cls := "ColourOffice$Settlement", name := "rewardOf", desc := "(J)I" } : Jvm.MethodName)) ∈ lw_all := lw_g (lw_at lw_m7 50 rfl) rfl
theorem q1601 : (Jvm.Cond.code ({ cls := "ColourOffice$Settlement", name := "rewardOf", desc := "(J)I" } : Jvm.MethodName) prog_14_method_8_code (2 : Nat) (Option.some Jvm.ClassFile.FieldType.int)) ∈ lw_all := lw_g (lw_at lw_m7 51 rfl) rfl
theorem q1607 : (Jvm.Cond.instanceMethod ({ cls := "ColourOffice$Settlement", name := "bestByTrying", desc := "(II)J" } : Jvm.MethodName)) ∈ lw_all := lw_g (lw_at lw_m7 57 rfl) rfl
theorem q1608 : (Jvm.Cond.selects "ColourOffice$Settlement" ({ cls := "ColourOffice$Settlement", name := "bestByTrying", desc := "(II)J" } : Jvm.MethodName) ({ cls := "ColourOffice$Settlement", name := "bestByTrying", desc := "(II)J" } : Jvm.MethodName)) ∈ lw_all := lw_g (lw_at lw_m7 58 rfl) rfl
theorem q1609 : (Jvm.Cond.code ({ cls := "ColourOffice$Settlement", name := "bestByTrying", desc := "(II)J" } : Jvm.MethodName) prog_14_method_7_code (6 : Nat) (Option.some Jvm.ClassFile.FieldType.long)) ∈ lw_all := lw_g (lw_at lw_m7 59 rfl) rfl
theorem q1610 : (Jvm.Cond.methodLink "ColourOffice$Settlement" (87 : Nat) ({ cls := "ColourOffice$Settlement", name := "bestByTrying", desc := "(II)J" } : Jvm.MethodName)) ∈ lw_all := lw_g (lw_at lw_m7 60 rfl) rfl
theorem q1616 : (Jvm.Cond.static ({ cls := "ColourOffice$Settlement", name := "differenceOf", desc := "(J)I" } : Jvm.MethodName)) ∈ lw_all := lw_g (lw_at lw_m7 66 rfl) rfl
theorem q1617 : (Jvm.Cond.code ({ cls := "ColourOffice$Settlement", name := "differenceOf", desc := "(J)I" } : Jvm.MethodName) prog_14_method_9_code (2 : Nat) (Option.some Jvm.ClassFile.FieldType.int)) ∈ lw_all := lw_g (lw_at lw_m7 67 rfl) rfl
theorem q1618 : (Jvm.Cond.methodLink "ColourOffice$Settlement" (90 : Nat) ({ cls := "ColourOffice$Settlement", name := "rewardOf", desc := "(J)I" } : Jvm.MethodName)) ∈ lw_all := lw_g (lw_at lw_m7 68 rfl) rfl
theorem q2404 : (Jvm.Cond.selects "ColourOffice$Settlement" ({ cls := "java/lang/Object", name := "toString", desc := "()Ljava/lang/String;" } : Jvm.MethodName) ({ cls := "java/lang/Object", name := "toString", desc := "()Ljava/lang/String;" } : Jvm.MethodName)) ∈ lw_all := lw_g (lw_at lw_m10 134 rfl) rfl
theorem q3331 : (Jvm.Cond.castable "ColourOffice$Settlement" "java/lang/Object") ∈ lw_tbl := lw_at lw_m14 101 rfl
theorem q154 : (Jvm.Cond.initialized "java/lang/IllegalStateException") ∈ lw_all := lw_g (lw_at lw_m1 44 rfl) rfl
theorem q452 : (Jvm.Cond.selects "java/lang/IllegalStateException" ({ cls := "java/lang/Throwable", name := "fillInStackTrace", desc := "()Ljava/lang/Throwable;" } : Jvm.MethodName) ({ cls := "java/lang/Throwable", name := "fillInStackTrace", desc := "()Ljava/lang/Throwable;" } : Jvm.MethodName)) ∈ lw_all := lw_g (lw_at lw_m2 102 rfl) rfl
theorem q887 : (Jvm.Cond.selects "java/lang/IllegalStateException" ({ cls := "java/lang/Object", name := "getClass", desc := "()Ljava/lang/Class;" } : Jvm.MethodName) ({ cls := "java/lang/Object", name := "getClass", desc := "()Ljava/lang/Class;" } : Jvm.MethodName)) ∈ lw_all := lw_g (lw_at lw_m4 57 rfl) rfl
theorem q1550 : (Jvm.Cond.instantiable "java/lang/IllegalStateException" (6 : Nat)) ∈ lw_all := lw_g (lw_at lw_m7 0 rfl) rfl
theorem q1551 : (Jvm.Cond.castable "java/lang/IllegalStateException" "java/lang/IllegalStateException") ∈ lw_tbl := lw_at lw_m7 1 rfl
theorem q1552 : (Jvm.Cond.selects "java/lang/IllegalStateException" ({ cls := "java/lang/Throwable", name := "fillInStackTrace", desc := "(I)Ljava/lang/Throwable;" } : Jvm.MethodName) ({ cls := "java/lang/Throwable", name := "fillInStackTrace", desc := "(I)Ljava/lang/Throwable;" } : Jvm.MethodName)) ∈ lw_all := lw_g (lw_at lw_m7 2 rfl) rfl
theorem q1553 : (Jvm.Cond.lays "java/lang/IllegalStateException" "java/lang/Throwable" "cause" "Ljava/lang/Throwable;") ∈ lw_all := lw_g (lw_at lw_m7 3 rfl) rfl
theorem q1554 : (Jvm.Cond.lays "java/lang/IllegalStateException" "java/lang/Throwable" "stackTrace" "[Ljava/lang/StackTraceElement;") ∈ lw_all := lw_g (lw_at lw_m7 4 rfl) rfl
theorem q1555 : (Jvm.Cond.lays "java/lang/IllegalStateException" "java/lang/Throwable" "suppressedExceptions" "Ljava/util/List;") ∈ lw_all := lw_g (lw_at lw_m7 5 rfl) rfl
theorem q1556 : (Jvm.Cond.lays "java/lang/IllegalStateException" "java/lang/Throwable" "detailMessage" "Ljava/lang/String;") ∈ lw_all := lw_g (lw_at lw_m7 6 rfl) rfl
theorem q1557 : (Jvm.Cond.lays "java/lang/IllegalStateException" "java/lang/Throwable" "backtrace" "Ljava/lang/Object;") ∈ lw_all := lw_g (lw_at lw_m7 7 rfl) rfl
theorem q1559 : (Jvm.Cond.instanceMethod ({ cls := "java/lang/IllegalStateException", name := "<init>", desc := "()V" } : Jvm.MethodName)) ∈ lw_all := lw_g (lw_at lw_m7 9 rfl) rfl
theorem q1560 : (Jvm.Cond.code ({ cls := "java/lang/IllegalStateException", name := "<init>", desc := "()V" } : Jvm.MethodName) prog_35_method_1_code (1 : Nat) (Option.none : Option Jvm.ClassFile.FieldType)) ∈ lw_all := lw_g (lw_at lw_m7 10 rfl) rfl
theorem q1561 : (Jvm.Cond.methodLink "java/lang/IllegalStateException" (1 : Nat) ({ cls := "java/lang/RuntimeException", name := "<init>", desc := "()V" } : Jvm.MethodName)) ∈ lw_all := lw_g (lw_at lw_m7 11 rfl) rfl
theorem q1562 : (Jvm.Cond.lays "java/lang/IllegalStateException" "java/lang/Throwable" "depth" "I") ∈ lw_all := lw_g (lw_at lw_m7 12 rfl) rfl
theorem q1563 : (Jvm.Cond.superclass "java/lang/IllegalStateException" "java/lang/RuntimeException") ∈ lw_all := lw_g (lw_at lw_m7 13 rfl) rfl
theorem q2370 : (Jvm.Cond.selects "java/lang/IllegalStateException" ({ cls := "java/lang/Throwable", name := "getLocalizedMessage", desc := "()Ljava/lang/String;" } : Jvm.MethodName) ({ cls := "java/lang/Throwable", name := "getLocalizedMessage", desc := "()Ljava/lang/String;" } : Jvm.MethodName)) ∈ lw_all := lw_g (lw_at lw_m10 100 rfl) rfl
theorem q2385 : (Jvm.Cond.selects "java/lang/IllegalStateException" ({ cls := "java/lang/Throwable", name := "getMessage", desc := "()Ljava/lang/String;" } : Jvm.MethodName) ({ cls := "java/lang/Throwable", name := "getMessage", desc := "()Ljava/lang/String;" } : Jvm.MethodName)) ∈ lw_all := lw_g (lw_at lw_m10 115 rfl) rfl
theorem q2415 : (Jvm.Cond.selects "java/lang/IllegalStateException" ({ cls := "java/lang/Object", name := "toString", desc := "()Ljava/lang/String;" } : Jvm.MethodName) ({ cls := "java/lang/Throwable", name := "toString", desc := "()Ljava/lang/String;" } : Jvm.MethodName)) ∈ lw_all := lw_g (lw_at lw_m10 145 rfl) rfl
theorem q3332 : (Jvm.Cond.castable "java/lang/IllegalStateException" "java/lang/Object") ∈ lw_tbl := lw_at lw_m14 102 rfl
theorem q155 : (Jvm.Cond.initialized "java/lang/UnsupportedOperationException") ∈ lw_all := lw_g (lw_at lw_m1 45 rfl) rfl
theorem q455 : (Jvm.Cond.selects "java/lang/UnsupportedOperationException" ({ cls := "java/lang/Throwable", name := "fillInStackTrace", desc := "()Ljava/lang/Throwable;" } : Jvm.MethodName) ({ cls := "java/lang/Throwable", name := "fillInStackTrace", desc := "()Ljava/lang/Throwable;" } : Jvm.MethodName)) ∈ lw_all := lw_g (lw_at lw_m2 105 rfl) rfl
theorem q893 : (Jvm.Cond.selects "java/lang/UnsupportedOperationException" ({ cls := "java/lang/Object", name := "getClass", desc := "()Ljava/lang/Class;" } : Jvm.MethodName) ({ cls := "java/lang/Object", name := "getClass", desc := "()Ljava/lang/Class;" } : Jvm.MethodName)) ∈ lw_all := lw_g (lw_at lw_m4 63 rfl) rfl
theorem q1568 : (Jvm.Cond.instantiable "java/lang/UnsupportedOperationException" (6 : Nat)) ∈ lw_all := lw_g (lw_at lw_m7 18 rfl) rfl
theorem q1569 : (Jvm.Cond.castable "java/lang/UnsupportedOperationException" "java/lang/UnsupportedOperationException") ∈ lw_tbl := lw_at lw_m7 19 rfl
theorem q1570 : (Jvm.Cond.selects "java/lang/UnsupportedOperationException" ({ cls := "java/lang/Throwable", name := "fillInStackTrace", desc := "(I)Ljava/lang/Throwable;" } : Jvm.MethodName) ({ cls := "java/lang/Throwable", name := "fillInStackTrace", desc := "(I)Ljava/lang/Throwable;" } : Jvm.MethodName)) ∈ lw_all := lw_g (lw_at lw_m7 20 rfl) rfl
theorem q1571 : (Jvm.Cond.lays "java/lang/UnsupportedOperationException" "java/lang/Throwable" "cause" "Ljava/lang/Throwable;") ∈ lw_all := lw_g (lw_at lw_m7 21 rfl) rfl
theorem q1572 : (Jvm.Cond.lays "java/lang/UnsupportedOperationException" "java/lang/Throwable" "stackTrace" "[Ljava/lang/StackTraceElement;") ∈ lw_all := lw_g (lw_at lw_m7 22 rfl) rfl
theorem q1573 : (Jvm.Cond.lays "java/lang/UnsupportedOperationException" "java/lang/Throwable" "suppressedExceptions" "Ljava/util/List;") ∈ lw_all := lw_g (lw_at lw_m7 23 rfl) rfl
theorem q1574 : (Jvm.Cond.lays "java/lang/UnsupportedOperationException" "java/lang/Throwable" "detailMessage" "Ljava/lang/String;") ∈ lw_all := lw_g (lw_at lw_m7 24 rfl) rfl
theorem q1575 : (Jvm.Cond.lays "java/lang/UnsupportedOperationException" "java/lang/Throwable" "backtrace" "Ljava/lang/Object;") ∈ lw_all := lw_g (lw_at lw_m7 25 rfl) rfl
theorem q1577 : (Jvm.Cond.instanceMethod ({ cls := "java/lang/UnsupportedOperationException", name := "<init>", desc := "()V" } : Jvm.MethodName)) ∈ lw_all := lw_g (lw_at lw_m7 27 rfl) rfl
theorem q1578 : (Jvm.Cond.code ({ cls := "java/lang/UnsupportedOperationException", name := "<init>", desc := "()V" } : Jvm.MethodName) prog_50_method_1_code (1 : Nat) (Option.none : Option Jvm.ClassFile.FieldType)) ∈ lw_all := lw_g (lw_at lw_m7 28 rfl) rfl
theorem q1579 : (Jvm.Cond.methodLink "java/lang/UnsupportedOperationException" (1 : Nat) ({ cls := "java/lang/RuntimeException", name := "<init>", desc := "()V" } : Jvm.MethodName)) ∈ lw_all := lw_g (lw_at lw_m7 29 rfl) rfl
theorem q1580 : (Jvm.Cond.lays "java/lang/UnsupportedOperationException" "java/lang/Throwable" "depth" "I") ∈ lw_all := lw_g (lw_at lw_m7 30 rfl) rfl
theorem q1581 : (Jvm.Cond.superclass "java/lang/UnsupportedOperationException" "java/lang/RuntimeException") ∈ lw_all := lw_g (lw_at lw_m7 31 rfl) rfl
theorem q2373 : (Jvm.Cond.selects "java/lang/UnsupportedOperationException" ({ cls := "java/lang/Throwable", name := "getLocalizedMessage", desc := "()Ljava/lang/String;" } : Jvm.MethodName) ({ cls := "java/lang/Throwable", name := "getLocalizedMessage", desc := "()Ljava/lang/String;" } : Jvm.MethodName)) ∈ lw_all := lw_g (lw_at lw_m10 103 rfl) rfl
theorem q2388 : (Jvm.Cond.selects "java/lang/UnsupportedOperationException" ({ cls := "java/lang/Throwable", name := "getMessage", desc := "()Ljava/lang/String;" } : Jvm.MethodName) ({ cls := "java/lang/Throwable", name := "getMessage", desc := "()Ljava/lang/String;" } : Jvm.MethodName)) ∈ lw_all := lw_g (lw_at lw_m10 118 rfl) rfl
theorem q2423 : (Jvm.Cond.selects "java/lang/UnsupportedOperationException" ({ cls := "java/lang/Object", name := "toString", desc := "()Ljava/lang/String;" } : Jvm.MethodName) ({ cls := "java/lang/Throwable", name := "toString", desc := "()Ljava/lang/String;" } : Jvm.MethodName)) ∈ lw_all := lw_g (lw_at lw_m10 153 rfl) rfl
theorem q3333 : (Jvm.Cond.castable "java/lang/UnsupportedOperationException" "java/lang/Object") ∈ lw_tbl := lw_at lw_m14 103 rfl
theorem q156 : (Jvm.Cond.initialized "ColourOffice$Office$1Sorted") ∈ lw_all := lw_g (lw_at lw_m1 46 rfl) rfl
theorem q871 : (Jvm.Cond.selects "ColourOffice$Office$1Sorted" ({ cls := "java/lang/Object", name := "getClass", desc := "()Ljava/lang/Class;" } : Jvm.MethodName) ({ cls := "java/lang/Object", name := "getClass", desc := "()Ljava/lang/Class;" } : Jvm.MethodName)) ∈ lw_all := lw_g (lw_at lw_m4 41 rfl) rfl
theorem q1735 : (Jvm.Cond.instantiable "ColourOffice$Office$1Sorted" (2 : Nat)) ∈ lw_all := lw_g (lw_at lw_m7 185 rfl) rfl
theorem q1737 : (Jvm.Cond.instanceMethod ({ cls := "ColourOffice$Office$1Sorted", name := "<init>", desc := "(LColourOffice$Office;)V" } : Jvm.MethodName)) ∈ lw_all := lw_g (lw_at lw_m7 187 rfl) rfl
theorem q1738 : (Jvm.Cond.code ({ cls := "ColourOffice$Office$1Sorted", name := "<init>", desc := "(LColourOffice$Office;)V" } : Jvm.MethodName) prog_9_method_1_code (2 : Nat) (Option.none : Option Jvm.ClassFile.FieldType)) ∈ lw_all := lw_g (lw_at lw_m7 188 rfl) rfl
theorem q1739 : (Jvm.Cond.methodLink "ColourOffice$Office$1Sorted" (7 : Nat) ({ cls := "java/lang/Object", name := "<init>", desc := "()V" } : Jvm.MethodName)) ∈ lw_all := lw_g (lw_at lw_m7 189 rfl) rfl
theorem q1740 : (Jvm.Cond.classLink "ColourOffice$Office$1Sorted" (13 : Nat) "java/util/ArrayList") ∈ lw_all := lw_g (lw_at lw_m7 190 rfl) rfl
theorem q1741 : (Jvm.Cond.methodLink "ColourOffice$Office$1Sorted" (15 : Nat) ({ cls := "java/util/ArrayList", name := "<init>", desc := "()V" } : Jvm.MethodName)) ∈ lw_all := lw_g (lw_at lw_m7 191 rfl) rfl
theorem q1742 : (Jvm.Cond.fieldLink "ColourOffice$Office$1Sorted" (16 : Nat) "ColourOffice$Office$1Sorted" "tints" "Ljava/util/List;") ∈ lw_all := lw_g (lw_at lw_m7 192 rfl) rfl
theorem q1744 : (Jvm.Cond.fieldLink "ColourOffice$Office$1Sorted" (1 : Nat) "ColourOffice$Office$1Sorted" "this$0" "LColourOffice$Office;") ∈ lw_all := lw_g (lw_at lw_m7 194 rfl) rfl
theorem q1745 : (Jvm.Cond.laysFinal "ColourOffice$Office$1Sorted" "ColourOffice$Office$1Sorted" "tints" "Ljava/util/List;") ∈ lw_all := lw_g (lw_at lw_m7 195 rfl) rfl
theorem q1746 : (Jvm.Cond.soleField "ColourOffice$Office$1Sorted" "tints") ∈ lw_all := lw_g (lw_at lw_m7 196 rfl) rfl
theorem q1747 : (Jvm.Cond.laysFinal "ColourOffice$Office$1Sorted" "ColourOffice$Office$1Sorted" "this$0" "LColourOffice$Office;") ∈ lw_all := lw_g (lw_at lw_m7 197 rfl) rfl
theorem q1748 : (Jvm.Cond.soleField "ColourOffice$Office$1Sorted" "this$0") ∈ lw_all := lw_g (lw_at lw_m7 198 rfl) rfl
theorem q1749 : (Jvm.Cond.superclass "ColourOffice$Office$1Sorted" "java/lang/Object") ∈ lw_all := lw_g (lw_at lw_m7 199 rfl) rfl
theorem q1751 : (Jvm.Cond.instanceMethod ({ cls := "ColourOffice$Office$1Sorted", name := "insert", desc := "(LColourOffice$Tint;)V" } : Jvm.MethodName)) ∈ lw_all := lw_g (lw_at lw_m7 201 rfl) rfl
theorem q1752 : (Jvm.Cond.selects "ColourOffice$Office$1Sorted" ({ cls := "ColourOffice$Office$1Sorted", name := "insert", desc := "(LColourOffice$Tint;)V" } : Jvm.MethodName) ({ cls := "ColourOffice$Office$1Sorted", name := "insert", desc := "(LColourOffice$Tint;)V" } : Jvm.MethodName)) ∈ lw_all := lw_g (lw_at lw_m7 202 rfl) rfl
theorem q1753 : (Jvm.Cond.code ({ cls := "ColourOffice$Office$1Sorted", name := "insert", desc := "(LColourOffice$Tint;)V" } : Jvm.MethodName) prog_9_method_2_code (3 : Nat) (Option.none : Option Jvm.ClassFile.FieldType)) ∈ lw_all := lw_g (lw_at lw_m7 203 rfl) rfl
theorem q1754 : (Jvm.Cond.interfaceEntry "ColourOffice$Office$1Sorted" (20 : Nat)) ∈ lw_tbl := lw_at lw_m7 204 rfl
theorem q1755 : (Jvm.Cond.methodLink "ColourOffice$Office$1Sorted" (20 : Nat) ({ cls := "java/util/List", name := "size", desc := "()I" } : Jvm.MethodName)) ∈ lw_all := lw_g (lw_at lw_m7 205 rfl) rfl
theorem q1756 : (Jvm.Cond.interfaceEntry "ColourOffice$Office$1Sorted" (26 : Nat)) ∈ lw_tbl := lw_at lw_m7 206 rfl
theorem q1757 : (Jvm.Cond.methodLink "ColourOffice$Office$1Sorted" (26 : Nat) ({ cls := "java/util/List", name := "get", desc := "(I)Ljava/lang/Object;" } : Jvm.MethodName)) ∈ lw_all := lw_g (lw_at lw_m7 207 rfl) rfl
theorem q1758 : (Jvm.Cond.classLink "ColourOffice$Office$1Sorted" (30 : Nat) "ColourOffice$Tint") ∈ lw_all := lw_g (lw_at lw_m7 208 rfl) rfl
theorem q1759 : (Jvm.Cond.methodLink "ColourOffice$Office$1Sorted" (32 : Nat) ({ cls := "ColourOffice$Tint", name := "part", desc := "(I)I" } : Jvm.MethodName)) ∈ lw_all := lw_g (lw_at lw_m7 209 rfl) rfl
theorem q1760 : (Jvm.Cond.interfaceEntry "ColourOffice$Office$1Sorted" (36 : Nat)) ∈ lw_tbl := lw_at lw_m7 210 rfl
theorem q1761 : (Jvm.Cond.methodLink "ColourOffice$Office$1Sorted" (36 : Nat) ({ cls := "java/util/List", name := "add", desc := "(ILjava/lang/Object;)V" } : Jvm.MethodName)) ∈ lw_all := lw_g (lw_at lw_m7 211 rfl) rfl
theorem q2399 : (Jvm.Cond.selects "ColourOffice$Office$1Sorted" ({ cls := "java/lang/Object", name := "toString", desc := "()Ljava/lang/String;" } : Jvm.MethodName) ({ cls := "java/lang/Object", name := "toString", desc := "()Ljava/lang/String;" } : Jvm.MethodName)) ∈ lw_all := lw_g (lw_at lw_m10 129 rfl) rfl
theorem q3334 : (Jvm.Cond.castable "ColourOffice$Office$1Sorted" "java/lang/Object") ∈ lw_tbl := lw_at lw_m14 104 rfl
theorem q157 : (Jvm.Cond.initialized "ColourOffice$Palettes") ∈ lw_all := lw_g (lw_at lw_m1 47 rfl) rfl
theorem q503 : (Jvm.Cond.fieldLinkNest "ColourOffice$Palettes" (28 : Nat) "ColourOffice$Found" "tint" "LColourOffice$Tint;" "ColourOffice") ∈ lw_tbl := lw_at lw_m2 153 rfl
theorem q872 : (Jvm.Cond.selects "ColourOffice$Palettes" ({ cls := "java/lang/Object", name := "getClass", desc := "()Ljava/lang/Class;" } : Jvm.MethodName) ({ cls := "java/lang/Object", name := "getClass", desc := "()Ljava/lang/Class;" } : Jvm.MethodName)) ∈ lw_all := lw_g (lw_at lw_m4 42 rfl) rfl
theorem q1670 : (Jvm.Cond.instantiable "ColourOffice$Palettes" (3 : Nat)) ∈ lw_all := lw_g (lw_at lw_m7 120 rfl) rfl
theorem q1672 : (Jvm.Cond.instanceMethod ({ cls := "ColourOffice$Palettes", name := "<init>", desc := "(LColourOffice$Shelf;LColourOffice$Metric;)V" } : Jvm.MethodName)) ∈ lw_all := lw_g (lw_at lw_m7 122 rfl) rfl
theorem q1673 : (Jvm.Cond.code ({ cls := "ColourOffice$Palettes", name := "<init>", desc := "(LColourOffice$Shelf;LColourOffice$Metric;)V" } : Jvm.MethodName) prog_10_method_1_code (4 : Nat) (Option.none : Option Jvm.ClassFile.FieldType)) ∈ lw_all := lw_g (lw_at lw_m7 123 rfl) rfl
theorem q1674 : (Jvm.Cond.methodLink "ColourOffice$Palettes" (3 : Nat) ({ cls := "java/lang/Object", name := "<init>", desc := "()V" } : Jvm.MethodName)) ∈ lw_all := lw_g (lw_at lw_m7 124 rfl) rfl
theorem q1675 : (Jvm.Cond.methodLink "ColourOffice$Palettes" (9 : Nat) ({ cls := "ColourOffice$Shelf", name := "count", desc := "()I" } : Jvm.MethodName)) ∈ lw_all := lw_g (lw_at lw_m7 125 rfl) rfl
theorem q1676 : (Jvm.Cond.methodLink "ColourOffice$Palettes" (24 : Nat) ({ cls := "ColourOffice$Shelf", name := "at", desc := "(I)LColourOffice$Found;" } : Jvm.MethodName)) ∈ lw_all := lw_g (lw_at lw_m7 126 rfl) rfl
theorem q1677 : (Jvm.Cond.methodLinkNest "ColourOffice$Palettes" (34 : Nat) ({ cls := "ColourOffice", name := "distance", desc := "(LColourOffice$Metric;LColourOffice$Tint;LColourOffice$Tint;)I" } : Jvm.MethodName) "ColourOffice") ∈ lw_tbl := lw_at lw_m7 127 rfl
theorem q1678 : (Jvm.Cond.fieldLink "ColourOffice$Palettes" (15 : Nat) "ColourOffice$Palettes" "count" "I") ∈ lw_all := lw_g (lw_at lw_m7 128 rfl) rfl
theorem q1679 : (Jvm.Cond.fieldLink "ColourOffice$Palettes" (20 : Nat) "ColourOffice$Palettes" "distances" "[I") ∈ lw_all := lw_g (lw_at lw_m7 129 rfl) rfl
theorem q1680 : (Jvm.Cond.fieldLink "ColourOffice$Palettes" (59 : Nat) "ColourOffice$Palettes" "least" "I") ∈ lw_all := lw_g (lw_at lw_m7 130 rfl) rfl
theorem q1681 : (Jvm.Cond.laysFinal "ColourOffice$Palettes" "ColourOffice$Palettes" "count" "I") ∈ lw_all := lw_g (lw_at lw_m7 131 rfl) rfl
theorem q1682 : (Jvm.Cond.soleField "ColourOffice$Palettes" "count") ∈ lw_all := lw_g (lw_at lw_m7 132 rfl) rfl
theorem q1683 : (Jvm.Cond.laysFinal "ColourOffice$Palettes" "ColourOffice$Palettes" "distances" "[I") ∈ lw_all := lw_g (lw_at lw_m7 133 rfl) rfl
theorem q1684 : (Jvm.Cond.soleField "ColourOffice$Palettes" "distances") ∈ lw_all := lw_g (lw_at lw_m7 134 rfl) rfl
theorem q1685 : (Jvm.Cond.lays "ColourOffice$Palettes" "ColourOffice$Palettes" "least" "I") ∈ lw_all := lw_g (lw_at lw_m7 135 rfl) rfl
theorem q1686 : (Jvm.Cond.soleField "ColourOffice$Palettes" "least") ∈ lw_all := lw_g (lw_at lw_m7 136 rfl) rfl
theorem q1687 : (Jvm.Cond.superclass "ColourOffice$Palettes" "java/lang/Object") ∈ lw_all := lw_g (lw_at lw_m7 137 rfl) rfl
theorem q1689 : (Jvm.Cond.instanceMethod ({ cls := "ColourOffice$Palettes", name := "best", desc := "(I)I" } : Jvm.MethodName)) ∈ lw_all := lw_g (lw_at lw_m7 139 rfl) rfl
theorem q1690 : (Jvm.Cond.selects "ColourOffice$Palettes" ({ cls := "ColourOffice$Palettes", name := "best", desc := "(I)I" } : Jvm.MethodName) ({ cls := "ColourOffice$Palettes", name := "best", desc := "(I)I" } : Jvm.MethodName)) ∈ lw_all := lw_g (lw_at lw_m7 140 rfl) rfl
theorem q1691 : (Jvm.Cond.code ({ cls := "ColourOffice$Palettes", name := "best", desc := "(I)I" } : Jvm.MethodName) prog_10_method_5_code (7 : Nat) (Option.some Jvm.ClassFile.FieldType.int)) ∈ lw_all := lw_g (lw_at lw_m7 141 rfl) rfl
theorem q1692 : (Jvm.Cond.constant "ColourOffice$Palettes" (38 : Nat) (1000000 : Int32)) ∈ lw_all := lw_g (lw_at lw_m7 142 rfl) rfl
theorem q1693 : (Jvm.Cond.fieldLinkNest "ColourOffice$Palettes" (48 : Nat) "ColourOffice" "SIZES" "[I" "ColourOffice") ∈ lw_tbl := lw_at lw_m7 143 rfl
theorem q1695 : (Jvm.Cond.methodLink "ColourOffice$Palettes" (51 : Nat) ({ cls := "ColourOffice$Palettes", name := "error", desc := "(I)I" } : Jvm.MethodName)) ∈ lw_all := lw_g (lw_at lw_m7 145 rfl) rfl
theorem q1696 : (Jvm.Cond.instanceMethod ({ cls := "ColourOffice$Palettes", name := "error", desc := "(I)I" } : Jvm.MethodName)) ∈ lw_all := lw_g (lw_at lw_m7 146 rfl) rfl
theorem q1697 : (Jvm.Cond.selects "ColourOffice$Palettes" ({ cls := "ColourOffice$Palettes", name := "error", desc := "(I)I" } : Jvm.MethodName) ({ cls := "ColourOffice$Palettes", name := "error", desc := "(I)I" } : Jvm.MethodName)) ∈ lw_all := lw_g (lw_at lw_m7 147 rfl) rfl
theorem q1698 : (Jvm.Cond.code ({ cls := "ColourOffice$Palettes", name := "error", desc := "(I)I" } : Jvm.MethodName) prog_10_method_3_code (4 : Nat) (Option.some Jvm.ClassFile.FieldType.int)) ∈ lw_all := lw_g (lw_at lw_m7 148 rfl) rfl
theorem q1699 : (Jvm.Cond.methodLink "ColourOffice$Palettes" (45 : Nat) ({ cls := "ColourOffice$Palettes", name := "distanceTo", desc := "(II)I" } : Jvm.MethodName)) ∈ lw_all := lw_g (lw_at lw_m7 149 rfl) rfl
theorem q1700 : (Jvm.Cond.privateMethod ({ cls := "ColourOffice$Palettes", name := "distanceTo", desc := "(II)I" } : Jvm.MethodName)) ∈ lw_tbl := lw_at lw_m7 150 rfl
theorem q1701 : (Jvm.Cond.instanceMethod ({ cls := "ColourOffice$Palettes", name := "distanceTo", desc := "(II)I" } : Jvm.MethodName)) ∈ lw_all := lw_g (lw_at lw_m7 151 rfl) rfl
theorem q1702 : (Jvm.Cond.code ({ cls := "ColourOffice$Palettes", name := "distanceTo", desc := "(II)I" } : Jvm.MethodName) prog_10_method_2_code (5 : Nat) (Option.some Jvm.ClassFile.FieldType.int)) ∈ lw_all := lw_g (lw_at lw_m7 152 rfl) rfl
theorem q1703 : (Jvm.Cond.methodLink "ColourOffice$Palettes" (39 : Nat) ({ cls := "java/lang/Math", name := "min", desc := "(II)I" } : Jvm.MethodName)) ∈ lw_all := lw_g (lw_at lw_m7 153 rfl) rfl
theorem q1704 : (Jvm.Cond.methodLink "ColourOffice$Palettes" (55 : Nat) ({ cls := "ColourOffice$Palettes", name := "hasLowest", desc := "(II)Z" } : Jvm.MethodName)) ∈ lw_all := lw_g (lw_at lw_m7 154 rfl) rfl
theorem q1705 : (Jvm.Cond.static ({ cls := "ColourOffice$Palettes", name := "hasLowest", desc := "(II)Z" } : Jvm.MethodName)) ∈ lw_all := lw_g (lw_at lw_m7 155 rfl) rfl
theorem q1706 : (Jvm.Cond.code ({ cls := "ColourOffice$Palettes", name := "hasLowest", desc := "(II)Z" } : Jvm.MethodName) prog_10_method_4_code (3 : Nat) (Option.some Jvm.ClassFile.FieldType.boolean)) ∈ lw_all := lw_g (lw_at lw_m7 156 rfl) rfl
theorem q1709 : (Jvm.Cond.instanceMethod ({ cls := "ColourOffice$Palettes", name := "leastError", desc := "(I)I" } : Jvm.MethodName)) ∈ lw_all := lw_g (lw_at lw_m7 159 rfl) rfl
theorem q1710 : (Jvm.Cond.selects "ColourOffice$Palettes" ({ cls := "ColourOffice$Palettes", name := "leastError", desc := "(I)I" } : Jvm.MethodName) ({ cls := "ColourOffice$Palettes", name := "leastError", desc := "(I)I" } : Jvm.MethodName)) ∈ lw_all := lw_g (lw_at lw_m7 160 rfl) rfl
theorem q1711 : (Jvm.Cond.code ({ cls := "ColourOffice$Palettes", name := "leastError", desc := "(I)I" } : Jvm.MethodName) prog_10_method_6_code (2 : Nat) (Option.some Jvm.ClassFile.FieldType.int)) ∈ lw_all := lw_g (lw_at lw_m7 161 rfl) rfl
theorem q1712 : (Jvm.Cond.methodLink "ColourOffice$Palettes" (62 : Nat) ({ cls := "ColourOffice$Palettes", name := "search", desc := "(III)V" } : Jvm.MethodName)) ∈ lw_all := lw_g (lw_at lw_m7 162 rfl) rfl
theorem q1713 : (Jvm.Cond.privateMethod ({ cls := "ColourOffice$Palettes", name := "search", desc := "(III)V" } : Jvm.MethodName)) ∈ lw_tbl := lw_at lw_m7 163 rfl
theorem q1714 : (Jvm.Cond.instanceMethod ({ cls := "ColourOffice$Palettes", name := "search", desc := "(III)V" } : Jvm.MethodName)) ∈ lw_all := lw_g (lw_at lw_m7 164 rfl) rfl
theorem q1715 : (Jvm.Cond.code ({ cls := "ColourOffice$Palettes", name := "search", desc := "(III)V" } : Jvm.MethodName) prog_10_method_7_code (4 : Nat) (Option.none : Option Jvm.ClassFile.FieldType)) ∈ lw_all := lw_g (lw_at lw_m7 165 rfl) rfl
theorem q1716 : (Jvm.Cond.methodLink "ColourOffice$Palettes" (66 : Nat) ({ cls := "ColourOffice$Palettes", name := "bound", desc := "(II)I" } : Jvm.MethodName)) ∈ lw_all := lw_g (lw_at lw_m7 166 rfl) rfl
theorem q1717 : (Jvm.Cond.privateMethod ({ cls := "ColourOffice$Palettes", name := "bound", desc := "(II)I" } : Jvm.MethodName)) ∈ lw_tbl := lw_at lw_m7 167 rfl
theorem q1718 : (Jvm.Cond.instanceMethod ({ cls := "ColourOffice$Palettes", name := "bound", desc := "(II)I" } : Jvm.MethodName)) ∈ lw_all := lw_g (lw_at lw_m7 168 rfl) rfl
theorem q1719 : (Jvm.Cond.code ({ cls := "ColourOffice$Palettes", name := "bound", desc := "(II)I" } : Jvm.MethodName) prog_10_method_8_code (4 : Nat) (Option.some Jvm.ClassFile.FieldType.int)) ∈ lw_all := lw_g (lw_at lw_m7 169 rfl) rfl
theorem q2400 : (Jvm.Cond.selects "ColourOffice$Palettes" ({ cls := "java/lang/Object", name := "toString", desc := "()Ljava/lang/String;" } : Jvm.MethodName) ({ cls := "java/lang/Object", name := "toString", desc := "()Ljava/lang/String;" } : Jvm.MethodName)) ∈ lw_all := lw_g (lw_at lw_m10 130 rfl) rfl
theorem q3335 : (Jvm.Cond.castable "ColourOffice$Palettes" "java/lang/Object") ∈ lw_tbl := lw_at lw_m14 105 rfl
theorem q158 : (Jvm.Cond.initialized "java/lang/ArithmeticException") ∈ lw_all := lw_g (lw_at lw_m1 48 rfl) rfl
theorem q449 : (Jvm.Cond.selects "java/lang/ArithmeticException" ({ cls := "java/lang/Throwable", name := "fillInStackTrace", desc := "()Ljava/lang/Throwable;" } : Jvm.MethodName) ({ cls := "java/lang/Throwable", name := "fillInStackTrace", desc := "()Ljava/lang/Throwable;" } : Jvm.MethodName)) ∈ lw_all := lw_g (lw_at lw_m2 99 rfl) rfl
theorem q884 : (Jvm.Cond.selects "java/lang/ArithmeticException" ({ cls := "java/lang/Object", name := "getClass", desc := "()Ljava/lang/Class;" } : Jvm.MethodName) ({ cls := "java/lang/Object", name := "getClass", desc := "()Ljava/lang/Class;" } : Jvm.MethodName)) ∈ lw_all := lw_g (lw_at lw_m4 54 rfl) rfl
theorem q2126 : (Jvm.Cond.instantiable "java/lang/ArithmeticException" (6 : Nat)) ∈ lw_all := lw_g (lw_at lw_m9 96 rfl) rfl
theorem q2127 : (Jvm.Cond.instanceMethod ({ cls := "java/lang/ArithmeticException", name := "<init>", desc := "(Ljava/lang/String;)V" } : Jvm.MethodName)) ∈ lw_all := lw_g (lw_at lw_m9 97 rfl) rfl
theorem q2128 : (Jvm.Cond.code ({ cls := "java/lang/ArithmeticException", name := "<init>", desc := "(Ljava/lang/String;)V" } : Jvm.MethodName) prog_26_method_2_code (2 : Nat) (Option.none : Option Jvm.ClassFile.FieldType)) ∈ lw_all := lw_g (lw_at lw_m9 98 rfl) rfl
theorem q2129 : (Jvm.Cond.methodLink "java/lang/ArithmeticException" (7 : Nat) ({ cls := "java/lang/RuntimeException", name := "<init>", desc := "(Ljava/lang/String;)V" } : Jvm.MethodName)) ∈ lw_all := lw_g (lw_at lw_m9 99 rfl) rfl
theorem q2130 : (Jvm.Cond.lays "java/lang/ArithmeticException" "java/lang/Throwable" "backtrace" "Ljava/lang/Object;") ∈ lw_all := lw_g (lw_at lw_m9 100 rfl) rfl
theorem q2131 : (Jvm.Cond.lays "java/lang/ArithmeticException" "java/lang/Throwable" "detailMessage" "Ljava/lang/String;") ∈ lw_all := lw_g (lw_at lw_m9 101 rfl) rfl
theorem q2132 : (Jvm.Cond.lays "java/lang/ArithmeticException" "java/lang/Throwable" "cause" "Ljava/lang/Throwable;") ∈ lw_all := lw_g (lw_at lw_m9 102 rfl) rfl
theorem q2133 : (Jvm.Cond.lays "java/lang/ArithmeticException" "java/lang/Throwable" "stackTrace" "[Ljava/lang/StackTraceElement;") ∈ lw_all := lw_g (lw_at lw_m9 103 rfl) rfl
theorem q2134 : (Jvm.Cond.lays "java/lang/ArithmeticException" "java/lang/Throwable" "depth" "I") ∈ lw_all := lw_g (lw_at lw_m9 104 rfl) rfl
theorem q2135 : (Jvm.Cond.lays "java/lang/ArithmeticException" "java/lang/Throwable" "suppressedExceptions" "Ljava/util/List;") ∈ lw_all := lw_g (lw_at lw_m9 105 rfl) rfl
theorem q2136 : (Jvm.Cond.superclass "java/lang/ArithmeticException" "java/lang/RuntimeException") ∈ lw_all := lw_g (lw_at lw_m9 106 rfl) rfl
theorem q2137 : (Jvm.Cond.castable "java/lang/ArithmeticException" "java/lang/ArithmeticException") ∈ lw_tbl := lw_at lw_m9 107 rfl
theorem q2138 : (Jvm.Cond.selects "java/lang/ArithmeticException" ({ cls := "java/lang/Throwable", name := "fillInStackTrace", desc := "(I)Ljava/lang/Throwable;" } : Jvm.MethodName) ({ cls := "java/lang/Throwable", name := "fillInStackTrace", desc := "(I)Ljava/lang/Throwable;" } : Jvm.MethodName)) ∈ lw_all := lw_g (lw_at lw_m9 108 rfl) rfl
theorem q2149 : (Jvm.Cond.instanceMethod ({ cls := "java/lang/ArithmeticException", name := "<init>", desc := "()V" } : Jvm.MethodName)) ∈ lw_all := lw_g (lw_at lw_m9 119 rfl) rfl
theorem q2150 : (Jvm.Cond.code ({ cls := "java/lang/ArithmeticException", name := "<init>", desc := "()V" } : Jvm.MethodName) prog_26_method_1_code (1 : Nat) (Option.none : Option Jvm.ClassFile.FieldType)) ∈ lw_all := lw_g (lw_at lw_m9 120 rfl) rfl
theorem q2151 : (Jvm.Cond.methodLink "java/lang/ArithmeticException" (1 : Nat) ({ cls := "java/lang/RuntimeException", name := "<init>", desc := "()V" } : Jvm.MethodName)) ∈ lw_all := lw_g (lw_at lw_m9 121 rfl) rfl
theorem q2367 : (Jvm.Cond.selects "java/lang/ArithmeticException" ({ cls := "java/lang/Throwable", name := "getLocalizedMessage", desc := "()Ljava/lang/String;" } : Jvm.MethodName) ({ cls := "java/lang/Throwable", name := "getLocalizedMessage", desc := "()Ljava/lang/String;" } : Jvm.MethodName)) ∈ lw_all := lw_g (lw_at lw_m10 97 rfl) rfl
theorem q2382 : (Jvm.Cond.selects "java/lang/ArithmeticException" ({ cls := "java/lang/Throwable", name := "getMessage", desc := "()Ljava/lang/String;" } : Jvm.MethodName) ({ cls := "java/lang/Throwable", name := "getMessage", desc := "()Ljava/lang/String;" } : Jvm.MethodName)) ∈ lw_all := lw_g (lw_at lw_m10 112 rfl) rfl
theorem q2412 : (Jvm.Cond.selects "java/lang/ArithmeticException" ({ cls := "java/lang/Object", name := "toString", desc := "()Ljava/lang/String;" } : Jvm.MethodName) ({ cls := "java/lang/Throwable", name := "toString", desc := "()Ljava/lang/String;" } : Jvm.MethodName)) ∈ lw_all := lw_g (lw_at lw_m10 142 rfl) rfl
theorem q3336 : (Jvm.Cond.castable "java/lang/ArithmeticException" "java/lang/Object") ∈ lw_tbl := lw_at lw_m14 106 rfl
theorem q159 : (Jvm.Cond.initialized "java/lang/ArrayIndexOutOfBoundsException") ∈ lw_all := lw_g (lw_at lw_m1 49 rfl) rfl
theorem q450 : (Jvm.Cond.selects "java/lang/ArrayIndexOutOfBoundsException" ({ cls := "java/lang/Throwable", name := "fillInStackTrace", desc := "()Ljava/lang/Throwable;" } : Jvm.MethodName) ({ cls := "java/lang/Throwable", name := "fillInStackTrace", desc := "()Ljava/lang/Throwable;" } : Jvm.MethodName)) ∈ lw_all := lw_g (lw_at lw_m2 100 rfl) rfl
theorem q885 : (Jvm.Cond.selects "java/lang/ArrayIndexOutOfBoundsException" ({ cls := "java/lang/Object", name := "getClass", desc := "()Ljava/lang/Class;" } : Jvm.MethodName) ({ cls := "java/lang/Object", name := "getClass", desc := "()Ljava/lang/Class;" } : Jvm.MethodName)) ∈ lw_all := lw_g (lw_at lw_m4 55 rfl) rfl
theorem q2224 : (Jvm.Cond.instantiable "java/lang/ArrayIndexOutOfBoundsException" (6 : Nat)) ∈ lw_all := lw_g (lw_at lw_m9 194 rfl) rfl
theorem q2225 : (Jvm.Cond.instanceMethod ({ cls := "java/lang/ArrayIndexOutOfBoundsException", name := "<init>", desc := "(Ljava/lang/String;)V" } : Jvm.MethodName)) ∈ lw_all := lw_g (lw_at lw_m9 195 rfl) rfl
theorem q2226 : (Jvm.Cond.code ({ cls := "java/lang/ArrayIndexOutOfBoundsException", name := "<init>", desc := "(Ljava/lang/String;)V" } : Jvm.MethodName) prog_27_method_2_code (2 : Nat) (Option.none : Option Jvm.ClassFile.FieldType)) ∈ lw_all := lw_g (lw_at lw_m9 196 rfl) rfl
theorem q2227 : (Jvm.Cond.methodLink "java/lang/ArrayIndexOutOfBoundsException" (7 : Nat) ({ cls := "java/lang/IndexOutOfBoundsException", name := "<init>", desc := "(Ljava/lang/String;)V" } : Jvm.MethodName)) ∈ lw_all := lw_g (lw_at lw_m9 197 rfl) rfl
theorem q2228 : (Jvm.Cond.lays "java/lang/ArrayIndexOutOfBoundsException" "java/lang/Throwable" "backtrace" "Ljava/lang/Object;") ∈ lw_all := lw_g (lw_at lw_m9 198 rfl) rfl
theorem q2229 : (Jvm.Cond.lays "java/lang/ArrayIndexOutOfBoundsException" "java/lang/Throwable" "detailMessage" "Ljava/lang/String;") ∈ lw_all := lw_g (lw_at lw_m9 199 rfl) rfl
theorem q2230 : (Jvm.Cond.lays "java/lang/ArrayIndexOutOfBoundsException" "java/lang/Throwable" "cause" "Ljava/lang/Throwable;") ∈ lw_all := lw_g (lw_at lw_m9 200 rfl) rfl
theorem q2231 : (Jvm.Cond.lays "java/lang/ArrayIndexOutOfBoundsException" "java/lang/Throwable" "stackTrace" "[Ljava/lang/StackTraceElement;") ∈ lw_all := lw_g (lw_at lw_m9 201 rfl) rfl
theorem q2232 : (Jvm.Cond.lays "java/lang/ArrayIndexOutOfBoundsException" "java/lang/Throwable" "depth" "I") ∈ lw_all := lw_g (lw_at lw_m9 202 rfl) rfl
theorem q2233 : (Jvm.Cond.lays "java/lang/ArrayIndexOutOfBoundsException" "java/lang/Throwable" "suppressedExceptions" "Ljava/util/List;") ∈ lw_all := lw_g (lw_at lw_m9 203 rfl) rfl
theorem q2234 : (Jvm.Cond.superclass "java/lang/ArrayIndexOutOfBoundsException" "java/lang/IndexOutOfBoundsException") ∈ lw_all := lw_g (lw_at lw_m9 204 rfl) rfl
theorem q2235 : (Jvm.Cond.castable "java/lang/ArrayIndexOutOfBoundsException" "java/lang/ArrayIndexOutOfBoundsException") ∈ lw_tbl := lw_at lw_m9 205 rfl
theorem q2238 : (Jvm.Cond.selects "java/lang/ArrayIndexOutOfBoundsException" ({ cls := "java/lang/Throwable", name := "fillInStackTrace", desc := "(I)Ljava/lang/Throwable;" } : Jvm.MethodName) ({ cls := "java/lang/Throwable", name := "fillInStackTrace", desc := "(I)Ljava/lang/Throwable;" } : Jvm.MethodName)) ∈ lw_all := lw_g (lw_at lw_m9 208 rfl) rfl
theorem q2368 : (Jvm.Cond.selects "java/lang/ArrayIndexOutOfBoundsException" ({ cls := "java/lang/Throwable", name := "getLocalizedMessage", desc := "()Ljava/lang/String;" } : Jvm.MethodName) ({ cls := "java/lang/Throwable", name := "getLocalizedMessage", desc := "()Ljava/lang/String;" } : Jvm.MethodName)) ∈ lw_all := lw_g (lw_at lw_m10 98 rfl) rfl
theorem q2383 : (Jvm.Cond.selects "java/lang/ArrayIndexOutOfBoundsException" ({ cls := "java/lang/Throwable", name := "getMessage", desc := "()Ljava/lang/String;" } : Jvm.MethodName) ({ cls := "java/lang/Throwable", name := "getMessage", desc := "()Ljava/lang/String;" } : Jvm.MethodName)) ∈ lw_all := lw_g (lw_at lw_m10 113 rfl) rfl
theorem q2413 : (Jvm.Cond.selects "java/lang/ArrayIndexOutOfBoundsException" ({ cls := "java/lang/Object", name := "toString", desc := "()Ljava/lang/String;" } : Jvm.MethodName) ({ cls := "java/lang/Throwable", name := "toString", desc := "()Ljava/lang/String;" } : Jvm.MethodName)) ∈ lw_all := lw_g (lw_at lw_m10 143 rfl) rfl
theorem q2580 : (Jvm.Cond.instanceMethod ({ cls := "java/lang/ArrayIndexOutOfBoundsException", name := "<init>", desc := "(I)V" } : Jvm.MethodName)) ∈ lw_all := lw_g (lw_at lw_m11 70 rfl) rfl
theorem q2581 : (Jvm.Cond.code ({ cls := "java/lang/ArrayIndexOutOfBoundsException", name := "<init>", desc := "(I)V" } : Jvm.MethodName) prog_27_method_3_code (2 : Nat) (Option.none : Option Jvm.ClassFile.FieldType)) ∈ lw_all := lw_g (lw_at lw_m11 71 rfl) rfl
theorem q2582 : (Jvm.Cond.classLink "java/lang/ArrayIndexOutOfBoundsException" (10 : Nat) "java/lang/StringBuilder") ∈ lw_all := lw_g (lw_at lw_m11 72 rfl) rfl
theorem q2583 : (Jvm.Cond.methodLink "java/lang/ArrayIndexOutOfBoundsException" (12 : Nat) ({ cls := "java/lang/StringBuilder", name := "<init>", desc := "()V" } : Jvm.MethodName)) ∈ lw_all := lw_g (lw_at lw_m11 73 rfl) rfl
theorem q2584 : (Jvm.Cond.stringRef "java/lang/ArrayIndexOutOfBoundsException" (13 : Nat) "Array index out of range: ") ∈ lw_tbl := lw_at lw_m11 74 rfl
theorem q2585 : (Jvm.Cond.methodLink "java/lang/ArrayIndexOutOfBoundsException" (15 : Nat) ({ cls := "java/lang/StringBuilder", name := "append", desc := "(Ljava/lang/String;)Ljava/lang/StringBuilder;" } : Jvm.MethodName)) ∈ lw_all := lw_g (lw_at lw_m11 75 rfl) rfl
theorem q2586 : (Jvm.Cond.methodLink "java/lang/ArrayIndexOutOfBoundsException" (19 : Nat) ({ cls := "java/lang/StringBuilder", name := "append", desc := "(I)Ljava/lang/StringBuilder;" } : Jvm.MethodName)) ∈ lw_all := lw_g (lw_at lw_m11 76 rfl) rfl
theorem q2587 : (Jvm.Cond.methodLink "java/lang/ArrayIndexOutOfBoundsException" (22 : Nat) ({ cls := "java/lang/StringBuilder", name := "toString", desc := "()Ljava/lang/String;" } : Jvm.MethodName)) ∈ lw_all := lw_g (lw_at lw_m11 77 rfl) rfl
theorem q3306 : (Jvm.Cond.castable "java/lang/ArrayIndexOutOfBoundsException" "java/lang/IndexOutOfBoundsException") ∈ lw_tbl := lw_at lw_m14 76 rfl
theorem q3337 : (Jvm.Cond.castable "java/lang/ArrayIndexOutOfBoundsException" "java/lang/Object") ∈ lw_tbl := lw_at lw_m14 107 rfl
theorem q160 : (Jvm.Cond.initialized "ColourOffice$Parser") ∈ lw_all := lw_g (lw_at lw_m1 50 rfl) rfl
theorem q873 : (Jvm.Cond.selects "ColourOffice$Parser" ({ cls := "java/lang/Object", name := "getClass", desc := "()Ljava/lang/Class;" } : Jvm.MethodName) ({ cls := "java/lang/Object", name := "getClass", desc := "()Ljava/lang/Class;" } : Jvm.MethodName)) ∈ lw_all := lw_g (lw_at lw_m4 43 rfl) rfl
theorem q2306 : (Jvm.Cond.instantiable "ColourOffice$Parser" (2 : Nat)) ∈ lw_all := lw_g (lw_at lw_m10 36 rfl) rfl
theorem q2308 : (Jvm.Cond.instanceMethod ({ cls := "ColourOffice$Parser", name := "<init>", desc := "(Ljava/lang/String;)V" } : Jvm.MethodName)) ∈ lw_all := lw_g (lw_at lw_m10 38 rfl) rfl
theorem q2309 : (Jvm.Cond.code ({ cls := "ColourOffice$Parser", name := "<init>", desc := "(Ljava/lang/String;)V" } : Jvm.MethodName) prog_11_method_1_code (2 : Nat) (Option.none : Option Jvm.ClassFile.FieldType)) ∈ lw_all := lw_g (lw_at lw_m10 39 rfl) rfl
theorem q2310 : (Jvm.Cond.methodLink "ColourOffice$Parser" (3 : Nat) ({ cls := "java/lang/Object", name := "<init>", desc := "()V" } : Jvm.MethodName)) ∈ lw_all := lw_g (lw_at lw_m10 40 rfl) rfl
theorem q2311 : (Jvm.Cond.fieldLink "ColourOffice$Parser" (9 : Nat) "ColourOffice$Parser" "text" "Ljava/lang/String;") ∈ lw_all := lw_g (lw_at lw_m10 41 rfl) rfl
theorem q2312 : (Jvm.Cond.fieldLink "ColourOffice$Parser" (15 : Nat) "ColourOffice$Parser" "at" "I") ∈ lw_all := lw_g (lw_at lw_m10 42 rfl) rfl
theorem q2313 : (Jvm.Cond.laysFinal "ColourOffice$Parser" "ColourOffice$Parser" "text" "Ljava/lang/String;") ∈ lw_all := lw_g (lw_at lw_m10 43 rfl) rfl
theorem q2314 : (Jvm.Cond.soleField "ColourOffice$Parser" "text") ∈ lw_all := lw_g (lw_at lw_m10 44 rfl) rfl
theorem q2315 : (Jvm.Cond.lays "ColourOffice$Parser" "ColourOffice$Parser" "at" "I") ∈ lw_all := lw_g (lw_at lw_m10 45 rfl) rfl
theorem q2316 : (Jvm.Cond.soleField "ColourOffice$Parser" "at") ∈ lw_all := lw_g (lw_at lw_m10 46 rfl) rfl
theorem q2317 : (Jvm.Cond.superclass "ColourOffice$Parser" "java/lang/Object") ∈ lw_all := lw_g (lw_at lw_m10 47 rfl) rfl
theorem q2319 : (Jvm.Cond.instanceMethod ({ cls := "ColourOffice$Parser", name := "commands", desc := "()Ljava/util/List;" } : Jvm.MethodName)) ∈ lw_all := lw_g (lw_at lw_m10 49 rfl) rfl
theorem q2320 : (Jvm.Cond.selects "ColourOffice$Parser" ({ cls := "ColourOffice$Parser", name := "commands", desc := "()Ljava/util/List;" } : Jvm.MethodName) ({ cls := "ColourOffice$Parser", name := "commands", desc := "()Ljava/util/List;" } : Jvm.MethodName)) ∈ lw_all := lw_g (lw_at lw_m10 50 rfl) rfl
theorem q2321 : (Jvm.Cond.code ({ cls := "ColourOffice$Parser", name := "commands", desc := "()Ljava/util/List;" } : Jvm.MethodName) prog_11_method_10_code (2 : Nat) (Option.some (Jvm.ClassFile.FieldType.object "java/util/List"))) ∈ lw_all := lw_g (lw_at lw_m10 51 rfl) rfl
theorem q2322 : (Jvm.Cond.classLink "ColourOffice$Parser" (118 : Nat) "java/util/ArrayList") ∈ lw_all := lw_g (lw_at lw_m10 52 rfl) rfl
theorem q2323 : (Jvm.Cond.methodLink "ColourOffice$Parser" (120 : Nat) ({ cls := "java/util/ArrayList", name := "<init>", desc := "()V" } : Jvm.MethodName)) ∈ lw_all := lw_g (lw_at lw_m10 53 rfl) rfl
theorem q2324 : (Jvm.Cond.methodLink "ColourOffice$Parser" (121 : Nat) ({ cls := "ColourOffice$Parser", name := "command", desc := "()LColourOffice$Command;" } : Jvm.MethodName)) ∈ lw_all := lw_g (lw_at lw_m10 54 rfl) rfl
theorem q2325 : (Jvm.Cond.privateMethod ({ cls := "ColourOffice$Parser", name := "command", desc := "()LColourOffice$Command;" } : Jvm.MethodName)) ∈ lw_tbl := lw_at lw_m10 55 rfl
theorem q2326 : (Jvm.Cond.instanceMethod ({ cls := "ColourOffice$Parser", name := "command", desc := "()LColourOffice$Command;" } : Jvm.MethodName)) ∈ lw_all := lw_g (lw_at lw_m10 56 rfl) rfl
theorem q2327 : (Jvm.Cond.code ({ cls := "ColourOffice$Parser", name := "command", desc := "()LColourOffice$Command;" } : Jvm.MethodName) prog_11_method_9_code (8 : Nat) (Option.some (Jvm.ClassFile.FieldType.object "ColourOffice$Command"))) ∈ lw_all := lw_g (lw_at lw_m10 57 rfl) rfl
theorem q2328 : (Jvm.Cond.methodLink "ColourOffice$Parser" (82 : Nat) ({ cls := "ColourOffice$Parser", name := "word", desc := "()Ljava/lang/String;" } : Jvm.MethodName)) ∈ lw_all := lw_g (lw_at lw_m10 58 rfl) rfl
theorem q2329 : (Jvm.Cond.privateMethod ({ cls := "ColourOffice$Parser", name := "word", desc := "()Ljava/lang/String;" } : Jvm.MethodName)) ∈ lw_tbl := lw_at lw_m10 59 rfl
theorem q2330 : (Jvm.Cond.instanceMethod ({ cls := "ColourOffice$Parser", name := "word", desc := "()Ljava/lang/String;" } : Jvm.MethodName)) ∈ lw_all := lw_g (lw_at lw_m10 60 rfl) rfl
theorem q2331 : (Jvm.Cond.code ({ cls := "ColourOffice$Parser", name := "word", desc := "()Ljava/lang/String;" } : Jvm.MethodName) prog_11_method_8_code (2 : Nat) (Option.some (Jvm.ClassFile.FieldType.object "java/lang/String"))) ∈ lw_all := lw_g (lw_at lw_m10 61 rfl) rfl
theorem q2332 : (Jvm.Cond.classLink "ColourOffice$Parser" (56 : Nat) "java/lang/StringBuilder") ∈ lw_all := lw_g (lw_at lw_m10 62 rfl) rfl
theorem q2333 : (Jvm.Cond.methodLink "ColourOffice$Parser" (58 : Nat) ({ cls := "java/lang/StringBuilder", name := "<init>", desc := "()V" } : Jvm.MethodName)) ∈ lw_all := lw_g (lw_at lw_m10 63 rfl) rfl
theorem q2334 : (Jvm.Cond.methodLink "ColourOffice$Parser" (34 : Nat) ({ cls := "ColourOffice$Parser", name := "current", desc := "()C" } : Jvm.MethodName)) ∈ lw_all := lw_g (lw_at lw_m10 64 rfl) rfl
theorem q2335 : (Jvm.Cond.privateMethod ({ cls := "ColourOffice$Parser", name := "current", desc := "()C" } : Jvm.MethodName)) ∈ lw_tbl := lw_at lw_m10 65 rfl
theorem q2336 : (Jvm.Cond.instanceMethod ({ cls := "ColourOffice$Parser", name := "current", desc := "()C" } : Jvm.MethodName)) ∈ lw_all := lw_g (lw_at lw_m10 66 rfl) rfl
theorem q2337 : (Jvm.Cond.code ({ cls := "ColourOffice$Parser", name := "current", desc := "()C" } : Jvm.MethodName) prog_11_method_2_code (1 : Nat) (Option.some Jvm.ClassFile.FieldType.char)) ∈ lw_all := lw_g (lw_at lw_m10 67 rfl) rfl
theorem q2338 : (Jvm.Cond.methodLink "ColourOffice$Parser" (19 : Nat) ({ cls := "java/lang/String", name := "length", desc := "()I" } : Jvm.MethodName)) ∈ lw_all := lw_g (lw_at lw_m10 68 rfl) rfl
theorem q2339 : (Jvm.Cond.methodLink "ColourOffice$Parser" (25 : Nat) ({ cls := "java/lang/String", name := "charAt", desc := "(I)C" } : Jvm.MethodName)) ∈ lw_all := lw_g (lw_at lw_m10 69 rfl) rfl
theorem q2340 : (Jvm.Cond.stringRef "ColourOffice$Parser" (59 : Nat) " find report drop discard metric return settle mix day ") ∈ lw_tbl := lw_at lw_m10 70 rfl
theorem q2341 : (Jvm.Cond.stringRef "ColourOffice$Parser" (61 : Nat) " ") ∈ lw_tbl := lw_at lw_m10 71 rfl
theorem q2342 : (Jvm.Cond.methodLink "ColourOffice$Parser" (63 : Nat) ({ cls := "java/lang/StringBuilder", name := "append", desc := "(Ljava/lang/String;)Ljava/lang/StringBuilder;" } : Jvm.MethodName)) ∈ lw_all := lw_g (lw_at lw_m10 72 rfl) rfl
theorem q2343 : (Jvm.Cond.methodLink "ColourOffice$Parser" (67 : Nat) ({ cls := "java/lang/StringBuilder", name := "append", desc := "(Ljava/lang/Object;)Ljava/lang/StringBuilder;" } : Jvm.MethodName)) ∈ lw_all := lw_g (lw_at lw_m10 73 rfl) rfl
theorem q2401 : (Jvm.Cond.selects "ColourOffice$Parser" ({ cls := "java/lang/Object", name := "toString", desc := "()Ljava/lang/String;" } : Jvm.MethodName) ({ cls := "java/lang/Object", name := "toString", desc := "()Ljava/lang/String;" } : Jvm.MethodName)) ∈ lw_all := lw_g (lw_at lw_m10 131 rfl) rfl
theorem q2425 : (Jvm.Cond.methodLink "ColourOffice$Parser" (70 : Nat) ({ cls := "java/lang/StringBuilder", name := "append", desc := "(C)Ljava/lang/StringBuilder;" } : Jvm.MethodName)) ∈ lw_all := lw_g (lw_at lw_m10 155 rfl) rfl
theorem q2426 : (Jvm.Cond.methodLink "ColourOffice$Parser" (73 : Nat) ({ cls := "java/lang/StringBuilder", name := "toString", desc := "()Ljava/lang/String;" } : Jvm.MethodName)) ∈ lw_all := lw_g (lw_at lw_m10 156 rfl) rfl
theorem q2427 : (Jvm.Cond.methodLink "ColourOffice$Parser" (77 : Nat) ({ cls := "java/lang/String", name := "contains", desc := "(Ljava/lang/CharSequence;)Z" } : Jvm.MethodName)) ∈ lw_all := lw_g (lw_at lw_m10 157 rfl) rfl
theorem q2465 : (Jvm.Cond.methodLink "ColourOffice$Parser" (38 : Nat) ({ cls := "ColourOffice$Parser", name := "require", desc := "(Z)V" } : Jvm.MethodName)) ∈ lw_all := lw_g (lw_at lw_m10 195 rfl) rfl
theorem q2466 : (Jvm.Cond.privateMethod ({ cls := "ColourOffice$Parser", name := "require", desc := "(Z)V" } : Jvm.MethodName)) ∈ lw_tbl := lw_at lw_m10 196 rfl
theorem q2467 : (Jvm.Cond.instanceMethod ({ cls := "ColourOffice$Parser", name := "require", desc := "(Z)V" } : Jvm.MethodName)) ∈ lw_all := lw_g (lw_at lw_m10 197 rfl) rfl
theorem q2468 : (Jvm.Cond.code ({ cls := "ColourOffice$Parser", name := "require", desc := "(Z)V" } : Jvm.MethodName) prog_11_method_3_code (2 : Nat) (Option.none : Option Jvm.ClassFile.FieldType)) ∈ lw_all := lw_g (lw_at lw_m10 198 rfl) rfl
theorem q2469 : (Jvm.Cond.classLink "ColourOffice$Parser" (29 : Nat) "ColourOffice$SyntaxFailure") ∈ lw_all := lw_g (lw_at lw_m10 199 rfl) rfl
theorem q2478 : (Jvm.Cond.methodLink "ColourOffice$Parser" (31 : Nat) ({ cls := "ColourOffice$SyntaxFailure", name := "<init>", desc := "(I)V" } : Jvm.MethodName)) ∈ lw_all := lw_g (lw_at lw_m10 208 rfl) rfl
theorem q2487 : (Jvm.Cond.methodLink "ColourOffice$Parser" (81 : Nat) ({ cls := "java/lang/StringBuilder", name := "length", desc := "()I" } : Jvm.MethodName)) ∈ lw_all := lw_g (lw_at lw_m10 217 rfl) rfl
theorem q2488 : (Jvm.Cond.methodLink "ColourOffice$Parser" (85 : Nat) ({ cls := "java/lang/String", name := "hashCode", desc := "()I" } : Jvm.MethodName)) ∈ lw_all := lw_g (lw_at lw_m10 218 rfl) rfl
theorem q2489 : (Jvm.Cond.stringRef "ColourOffice$Parser" (88 : Nat) "find") ∈ lw_tbl := lw_at lw_m10 219 rfl
theorem q2490 : (Jvm.Cond.methodLink "ColourOffice$Parser" (90 : Nat) ({ cls := "java/lang/String", name := "equals", desc := "(Ljava/lang/Object;)Z" } : Jvm.MethodName)) ∈ lw_all := lw_g (lw_at lw_m10 220 rfl) rfl
theorem q2491 : (Jvm.Cond.stringRef "ColourOffice$Parser" (94 : Nat) "report") ∈ lw_tbl := lw_at lw_m10 221 rfl
theorem q2492 : (Jvm.Cond.stringRef "ColourOffice$Parser" (96 : Nat) "metric") ∈ lw_tbl := lw_at lw_m10 222 rfl
theorem q2493 : (Jvm.Cond.stringRef "ColourOffice$Parser" (98 : Nat) "return") ∈ lw_tbl := lw_at lw_m10 223 rfl
theorem q2494 : (Jvm.Cond.stringRef "ColourOffice$Parser" (100 : Nat) "mix") ∈ lw_tbl := lw_at lw_m10 224 rfl
theorem q2495 : (Jvm.Cond.stringRef "ColourOffice$Parser" (102 : Nat) "settle") ∈ lw_tbl := lw_at lw_m10 225 rfl
theorem q2496 : (Jvm.Cond.stringRef "ColourOffice$Parser" (104 : Nat) "day") ∈ lw_tbl := lw_at lw_m10 226 rfl
theorem q2497 : (Jvm.Cond.methodLink "ColourOffice$Parser" (106 : Nat) ({ cls := "ColourOffice$Parser", name := "colour", desc := "()[I" } : Jvm.MethodName)) ∈ lw_all := lw_g (lw_at lw_m10 227 rfl) rfl
theorem q2498 : (Jvm.Cond.privateMethod ({ cls := "ColourOffice$Parser", name := "colour", desc := "()[I" } : Jvm.MethodName)) ∈ lw_tbl := lw_at lw_m10 228 rfl
theorem q2499 : (Jvm.Cond.instanceMethod ({ cls := "ColourOffice$Parser", name := "colour", desc := "()[I" } : Jvm.MethodName)) ∈ lw_all := lw_g (lw_at lw_m10 229 rfl) rfl
theorem q2500 : (Jvm.Cond.code ({ cls := "ColourOffice$Parser", name := "colour", desc := "()[I" } : Jvm.MethodName) prog_11_method_6_code (2 : Nat) (Option.some (Jvm.ClassFile.FieldType.array Jvm.ClassFile.FieldType.int))) ∈ lw_all := lw_g (lw_at lw_m10 230 rfl) rfl
theorem q2501 : (Jvm.Cond.methodLink "ColourOffice$Parser" (46 : Nat) ({ cls := "ColourOffice$Parser", name := "numberAfter", desc := "(C)I" } : Jvm.MethodName)) ∈ lw_all := lw_g (lw_at lw_m10 231 rfl) rfl
theorem q2502 : (Jvm.Cond.privateMethod ({ cls := "ColourOffice$Parser", name := "numberAfter", desc := "(C)I" } : Jvm.MethodName)) ∈ lw_tbl := lw_at lw_m10 232 rfl
theorem q2503 : (Jvm.Cond.instanceMethod ({ cls := "ColourOffice$Parser", name := "numberAfter", desc := "(C)I" } : Jvm.MethodName)) ∈ lw_all := lw_g (lw_at lw_m10 233 rfl) rfl
theorem q2504 : (Jvm.Cond.code ({ cls := "ColourOffice$Parser", name := "numberAfter", desc := "(C)I" } : Jvm.MethodName) prog_11_method_5_code (4 : Nat) (Option.some Jvm.ClassFile.FieldType.int)) ∈ lw_all := lw_g (lw_at lw_m10 234 rfl) rfl
theorem q2505 : (Jvm.Cond.methodLink "ColourOffice$Parser" (42 : Nat) ({ cls := "ColourOffice$Parser", name := "isAtDigit", desc := "()Z" } : Jvm.MethodName)) ∈ lw_all := lw_g (lw_at lw_m10 235 rfl) rfl
theorem q2506 : (Jvm.Cond.privateMethod ({ cls := "ColourOffice$Parser", name := "isAtDigit", desc := "()Z" } : Jvm.MethodName)) ∈ lw_tbl := lw_at lw_m10 236 rfl
theorem q2507 : (Jvm.Cond.instanceMethod ({ cls := "ColourOffice$Parser", name := "isAtDigit", desc := "()Z" } : Jvm.MethodName)) ∈ lw_all := lw_g (lw_at lw_m10 237 rfl) rfl
theorem q2508 : (Jvm.Cond.code ({ cls := "ColourOffice$Parser", name := "isAtDigit", desc := "()Z" } : Jvm.MethodName) prog_11_method_4_code (1 : Nat) (Option.some Jvm.ClassFile.FieldType.boolean)) ∈ lw_all := lw_g (lw_at lw_m10 238 rfl) rfl
theorem q2509 : (Jvm.Cond.classLink "ColourOffice$Parser" (110 : Nat) "ColourOffice$Command") ∈ lw_all := lw_g (lw_at lw_m10 239 rfl) rfl
theorem q2510 : (Jvm.Cond.methodLink "ColourOffice$Parser" (112 : Nat) ({ cls := "ColourOffice$Command", name := "<init>", desc := "(Ljava/lang/String;[I)V" } : Jvm.MethodName)) ∈ lw_all := lw_g (lw_at lw_m11 0 rfl) rfl
theorem q2511 : (Jvm.Cond.methodLink "ColourOffice$Parser" (115 : Nat) ({ cls := "ColourOffice$Parser", name := "metricName", desc := "()I" } : Jvm.MethodName)) ∈ lw_all := lw_g (lw_at lw_m11 1 rfl) rfl
theorem q2512 : (Jvm.Cond.privateMethod ({ cls := "ColourOffice$Parser", name := "metricName", desc := "()I" } : Jvm.MethodName)) ∈ lw_tbl := lw_at lw_m11 2 rfl
theorem q2513 : (Jvm.Cond.instanceMethod ({ cls := "ColourOffice$Parser", name := "metricName", desc := "()I" } : Jvm.MethodName)) ∈ lw_all := lw_g (lw_at lw_m11 3 rfl) rfl
theorem q2514 : (Jvm.Cond.code ({ cls := "ColourOffice$Parser", name := "metricName", desc := "()I" } : Jvm.MethodName) prog_11_method_7_code (1 : Nat) (Option.some Jvm.ClassFile.FieldType.int)) ∈ lw_all := lw_g (lw_at lw_m11 4 rfl) rfl
theorem q2515 : (Jvm.Cond.stringRef "ColourOffice$Parser" (50 : Nat) "msg") ∈ lw_tbl := lw_at lw_m11 5 rfl
theorem q2516 : (Jvm.Cond.methodLink "ColourOffice$Parser" (52 : Nat) ({ cls := "java/lang/String", name := "indexOf", desc := "(I)I" } : Jvm.MethodName)) ∈ lw_all := lw_g (lw_at lw_m11 6 rfl) rfl
theorem q2517 : (Jvm.Cond.interfaceEntry "ColourOffice$Parser" (125 : Nat)) ∈ lw_tbl := lw_at lw_m11 7 rfl
theorem q2518 : (Jvm.Cond.methodLink "ColourOffice$Parser" (125 : Nat) ({ cls := "java/util/List", name := "add", desc := "(Ljava/lang/Object;)Z" } : Jvm.MethodName)) ∈ lw_all := lw_g (lw_at lw_m11 8 rfl) rfl
theorem q3338 : (Jvm.Cond.castable "ColourOffice$Parser" "java/lang/Object") ∈ lw_tbl := lw_at lw_m14 108 rfl
theorem q161 : (Jvm.Cond.initialized "ColourOffice$SyntaxFailure") ∈ lw_all := lw_g (lw_at lw_m1 51 rfl) rfl
theorem q448 : (Jvm.Cond.selects "ColourOffice$SyntaxFailure" ({ cls := "java/lang/Throwable", name := "fillInStackTrace", desc := "()Ljava/lang/Throwable;" } : Jvm.MethodName) ({ cls := "java/lang/Throwable", name := "fillInStackTrace", desc := "()Ljava/lang/Throwable;" } : Jvm.MethodName)) ∈ lw_all := lw_g (lw_at lw_m2 98 rfl) rfl
theorem q879 : (Jvm.Cond.selects "ColourOffice$SyntaxFailure" ({ cls := "java/lang/Object", name := "getClass", desc := "()Ljava/lang/Class;" } : Jvm.MethodName) ({ cls := "java/lang/Object", name := "getClass", desc := "()Ljava/lang/Class;" } : Jvm.MethodName)) ∈ lw_all := lw_g (lw_at lw_m4 49 rfl) rfl
theorem q2366 : (Jvm.Cond.selects "ColourOffice$SyntaxFailure" ({ cls := "java/lang/Throwable", name := "getLocalizedMessage", desc := "()Ljava/lang/String;" } : Jvm.MethodName) ({ cls := "java/lang/Throwable", name := "getLocalizedMessage", desc := "()Ljava/lang/String;" } : Jvm.MethodName)) ∈ lw_all := lw_g (lw_at lw_m10 96 rfl) rfl
theorem q2381 : (Jvm.Cond.selects "ColourOffice$SyntaxFailure" ({ cls := "java/lang/Throwable", name := "getMessage", desc := "()Ljava/lang/String;" } : Jvm.MethodName) ({ cls := "java/lang/Throwable", name := "getMessage", desc := "()Ljava/lang/String;" } : Jvm.MethodName)) ∈ lw_all := lw_g (lw_at lw_m10 111 rfl) rfl
theorem q2407 : (Jvm.Cond.selects "ColourOffice$SyntaxFailure" ({ cls := "java/lang/Object", name := "toString", desc := "()Ljava/lang/String;" } : Jvm.MethodName) ({ cls := "java/lang/Throwable", name := "toString", desc := "()Ljava/lang/String;" } : Jvm.MethodName)) ∈ lw_all := lw_g (lw_at lw_m10 137 rfl) rfl
theorem q2470 : (Jvm.Cond.instantiable "ColourOffice$SyntaxFailure" (7 : Nat)) ∈ lw_all := lw_g (lw_at lw_m10 200 rfl) rfl
theorem q2471 : (Jvm.Cond.castable "ColourOffice$SyntaxFailure" "ColourOffice$SyntaxFailure") ∈ lw_tbl := lw_at lw_m10 201 rfl
theorem q2472 : (Jvm.Cond.selects "ColourOffice$SyntaxFailure" ({ cls := "java/lang/Throwable", name := "fillInStackTrace", desc := "(I)Ljava/lang/Throwable;" } : Jvm.MethodName) ({ cls := "java/lang/Throwable", name := "fillInStackTrace", desc := "(I)Ljava/lang/Throwable;" } : Jvm.MethodName)) ∈ lw_all := lw_g (lw_at lw_m10 202 rfl) rfl
theorem q2473 : (Jvm.Cond.lays "ColourOffice$SyntaxFailure" "java/lang/Throwable" "cause" "Ljava/lang/Throwable;") ∈ lw_all := lw_g (lw_at lw_m10 203 rfl) rfl
theorem q2474 : (Jvm.Cond.lays "ColourOffice$SyntaxFailure" "java/lang/Throwable" "stackTrace" "[Ljava/lang/StackTraceElement;") ∈ lw_all := lw_g (lw_at lw_m10 204 rfl) rfl
theorem q2475 : (Jvm.Cond.lays "ColourOffice$SyntaxFailure" "java/lang/Throwable" "suppressedExceptions" "Ljava/util/List;") ∈ lw_all := lw_g (lw_at lw_m10 205 rfl) rfl
theorem q2476 : (Jvm.Cond.lays "ColourOffice$SyntaxFailure" "java/lang/Throwable" "detailMessage" "Ljava/lang/String;") ∈ lw_all := lw_g (lw_at lw_m10 206 rfl) rfl
theorem q2477 : (Jvm.Cond.lays "ColourOffice$SyntaxFailure" "java/lang/Throwable" "backtrace" "Ljava/lang/Object;") ∈ lw_all := lw_g (lw_at lw_m10 207 rfl) rfl
theorem q2479 : (Jvm.Cond.instanceMethod ({ cls := "ColourOffice$SyntaxFailure", name := "<init>", desc := "(I)V" } : Jvm.MethodName)) ∈ lw_all := lw_g (lw_at lw_m10 209 rfl) rfl
theorem q2480 : (Jvm.Cond.code ({ cls := "ColourOffice$SyntaxFailure", name := "<init>", desc := "(I)V" } : Jvm.MethodName) prog_17_method_1_code (2 : Nat) (Option.none : Option Jvm.ClassFile.FieldType)) ∈ lw_all := lw_g (lw_at lw_m10 210 rfl) rfl
theorem q2481 : (Jvm.Cond.methodLink "ColourOffice$SyntaxFailure" (1 : Nat) ({ cls := "ColourOffice$Failure", name := "<init>", desc := "(LColourOffice$Failure;)V" } : Jvm.MethodName)) ∈ lw_all := lw_g (lw_at lw_m10 211 rfl) rfl
theorem q2482 : (Jvm.Cond.fieldLink "ColourOffice$SyntaxFailure" (7 : Nat) "ColourOffice$SyntaxFailure" "position" "I") ∈ lw_all := lw_g (lw_at lw_m10 212 rfl) rfl
theorem q2483 : (Jvm.Cond.laysFinal "ColourOffice$SyntaxFailure" "ColourOffice$SyntaxFailure" "position" "I") ∈ lw_all := lw_g (lw_at lw_m10 213 rfl) rfl
theorem q2484 : (Jvm.Cond.soleField "ColourOffice$SyntaxFailure" "position") ∈ lw_all := lw_g (lw_at lw_m10 214 rfl) rfl
theorem q2485 : (Jvm.Cond.lays "ColourOffice$SyntaxFailure" "java/lang/Throwable" "depth" "I") ∈ lw_all := lw_g (lw_at lw_m10 215 rfl) rfl
theorem q2486 : (Jvm.Cond.superclass "ColourOffice$SyntaxFailure" "ColourOffice$Failure") ∈ lw_all := lw_g (lw_at lw_m10 216 rfl) rfl
theorem q2597 : (Jvm.Cond.instanceMethod ({ cls := "ColourOffice$SyntaxFailure", name := "position", desc := "()I" } : Jvm.MethodName)) ∈ lw_all := lw_g (lw_at lw_m11 87 rfl) rfl
theorem q2598 : (Jvm.Cond.selects "ColourOffice$SyntaxFailure" ({ cls := "ColourOffice$SyntaxFailure", name := "position", desc := "()I" } : Jvm.MethodName) ({ cls := "ColourOffice$SyntaxFailure", name := "position", desc := "()I" } : Jvm.MethodName)) ∈ lw_all := lw_g (lw_at lw_m11 88 rfl) rfl
theorem q2599 : (Jvm.Cond.code ({ cls := "ColourOffice$SyntaxFailure", name := "position", desc := "()I" } : Jvm.MethodName) prog_17_method_2_code (1 : Nat) (Option.some Jvm.ClassFile.FieldType.int)) ∈ lw_all := lw_g (lw_at lw_m11 89 rfl) rfl
theorem q2628 : (Jvm.Cond.selects "ColourOffice$SyntaxFailure" ({ cls := "ColourOffice$Failure", name := "asPublicException", desc := "()Ljava/lang/RuntimeException;" } : Jvm.MethodName) ({ cls := "ColourOffice$SyntaxFailure", name := "asPublicException", desc := "()Ljava/lang/RuntimeException;" } : Jvm.MethodName)) ∈ lw_all := lw_g (lw_at lw_m11 118 rfl) rfl
theorem q2629 : (Jvm.Cond.instanceMethod ({ cls := "ColourOffice$SyntaxFailure", name := "asPublicException", desc := "()Ljava/lang/RuntimeException;" } : Jvm.MethodName)) ∈ lw_all := lw_g (lw_at lw_m11 119 rfl) rfl
theorem q2630 : (Jvm.Cond.code ({ cls := "ColourOffice$SyntaxFailure", name := "asPublicException", desc := "()Ljava/lang/RuntimeException;" } : Jvm.MethodName) prog_17_method_3_code (1 : Nat) (Option.some (Jvm.ClassFile.FieldType.object "java/lang/RuntimeException"))) ∈ lw_all := lw_g (lw_at lw_m11 120 rfl) rfl
theorem q2631 : (Jvm.Cond.classLink "ColourOffice$SyntaxFailure" (13 : Nat) "java/lang/IllegalArgumentException") ∈ lw_all := lw_g (lw_at lw_m11 121 rfl) rfl
theorem q2632 : (Jvm.Cond.methodLink "ColourOffice$SyntaxFailure" (15 : Nat) ({ cls := "java/lang/IllegalArgumentException", name := "<init>", desc := "()V" } : Jvm.MethodName)) ∈ lw_all := lw_g (lw_at lw_m11 122 rfl) rfl
theorem q3339 : (Jvm.Cond.castable "ColourOffice$SyntaxFailure" "java/lang/Object") ∈ lw_tbl := lw_at lw_m14 109 rfl
theorem q162 : (Jvm.Cond.initialized "ColourOffice$CommandFailure") ∈ lw_all := lw_g (lw_at lw_m1 52 rfl) rfl
theorem q446 : (Jvm.Cond.selects "ColourOffice$CommandFailure" ({ cls := "java/lang/Throwable", name := "fillInStackTrace", desc := "()Ljava/lang/Throwable;" } : Jvm.MethodName) ({ cls := "java/lang/Throwable", name := "fillInStackTrace", desc := "()Ljava/lang/Throwable;" } : Jvm.MethodName)) ∈ lw_all := lw_g (lw_at lw_m2 96 rfl) rfl
theorem q867 : (Jvm.Cond.selects "ColourOffice$CommandFailure" ({ cls := "java/lang/Object", name := "getClass", desc := "()Ljava/lang/Class;" } : Jvm.MethodName) ({ cls := "java/lang/Object", name := "getClass", desc := "()Ljava/lang/Class;" } : Jvm.MethodName)) ∈ lw_all := lw_g (lw_at lw_m4 37 rfl) rfl
theorem q2357 : (Jvm.Cond.selects "ColourOffice$CommandFailure" ({ cls := "java/lang/Object", name := "toString", desc := "()Ljava/lang/String;" } : Jvm.MethodName) ({ cls := "java/lang/Throwable", name := "toString", desc := "()Ljava/lang/String;" } : Jvm.MethodName)) ∈ lw_all := lw_g (lw_at lw_m10 87 rfl) rfl
theorem q2364 : (Jvm.Cond.selects "ColourOffice$CommandFailure" ({ cls := "java/lang/Throwable", name := "getLocalizedMessage", desc := "()Ljava/lang/String;" } : Jvm.MethodName) ({ cls := "java/lang/Throwable", name := "getLocalizedMessage", desc := "()Ljava/lang/String;" } : Jvm.MethodName)) ∈ lw_all := lw_g (lw_at lw_m10 94 rfl) rfl
theorem q2379 : (Jvm.Cond.selects "ColourOffice$CommandFailure" ({ cls := "java/lang/Throwable", name := "getMessage", desc := "()Ljava/lang/String;" } : Jvm.MethodName) ({ cls := "java/lang/Throwable", name := "getMessage", desc := "()Ljava/lang/String;" } : Jvm.MethodName)) ∈ lw_all := lw_g (lw_at lw_m10 109 rfl) rfl
theorem q2523 : (Jvm.Cond.instantiable "ColourOffice$CommandFailure" (7 : Nat)) ∈ lw_all := lw_g (lw_at lw_m11 13 rfl) rfl
theorem q2524 : (Jvm.Cond.castable "ColourOffice$CommandFailure" "ColourOffice$CommandFailure") ∈ lw_tbl := lw_at lw_m11 14 rfl
theorem q2525 : (Jvm.Cond.selects "ColourOffice$CommandFailure" ({ cls := "java/lang/Throwable", name := "fillInStackTrace", desc := "(I)Ljava/lang/Throwable;" } : Jvm.MethodName) ({ cls := "java/lang/Throwable", name := "fillInStackTrace", desc := "(I)Ljava/lang/Throwable;" } : Jvm.MethodName)) ∈ lw_all := lw_g (lw_at lw_m11 15 rfl) rfl
theorem q2526 : (Jvm.Cond.lays "ColourOffice$CommandFailure" "java/lang/Throwable" "cause" "Ljava/lang/Throwable;") ∈ lw_all := lw_g (lw_at lw_m11 16 rfl) rfl
theorem q2527 : (Jvm.Cond.lays "ColourOffice$CommandFailure" "java/lang/Throwable" "stackTrace" "[Ljava/lang/StackTraceElement;") ∈ lw_all := lw_g (lw_at lw_m11 17 rfl) rfl
theorem q2528 : (Jvm.Cond.lays "ColourOffice$CommandFailure" "java/lang/Throwable" "suppressedExceptions" "Ljava/util/List;") ∈ lw_all := lw_g (lw_at lw_m11 18 rfl) rfl
theorem q2529 : (Jvm.Cond.lays "ColourOffice$CommandFailure" "java/lang/Throwable" "detailMessage" "Ljava/lang/String;") ∈ lw_all := lw_g (lw_at lw_m11 19 rfl) rfl
theorem q2530 : (Jvm.Cond.lays "ColourOffice$CommandFailure" "java/lang/Throwable" "backtrace" "Ljava/lang/Object;") ∈ lw_all := lw_g (lw_at lw_m11 20 rfl) rfl
theorem q2532 : (Jvm.Cond.instanceMethod ({ cls := "ColourOffice$CommandFailure", name := "<init>", desc := "(ILColourOffice$ConditionFailure;)V" } : Jvm.MethodName)) ∈ lw_all := lw_g (lw_at lw_m11 22 rfl) rfl
theorem q2533 : (Jvm.Cond.code ({ cls := "ColourOffice$CommandFailure", name := "<init>", desc := "(ILColourOffice$ConditionFailure;)V" } : Jvm.MethodName) prog_3_method_1_code (3 : Nat) (Option.none : Option Jvm.ClassFile.FieldType)) ∈ lw_all := lw_g (lw_at lw_m11 23 rfl) rfl
theorem q2534 : (Jvm.Cond.methodLink "ColourOffice$CommandFailure" (1 : Nat) ({ cls := "ColourOffice$Failure", name := "<init>", desc := "(LColourOffice$Failure;)V" } : Jvm.MethodName)) ∈ lw_all := lw_g (lw_at lw_m11 24 rfl) rfl
theorem q2535 : (Jvm.Cond.fieldLink "ColourOffice$CommandFailure" (7 : Nat) "ColourOffice$CommandFailure" "index" "I") ∈ lw_all := lw_g (lw_at lw_m11 25 rfl) rfl
theorem q2536 : (Jvm.Cond.laysFinal "ColourOffice$CommandFailure" "ColourOffice$CommandFailure" "index" "I") ∈ lw_all := lw_g (lw_at lw_m11 26 rfl) rfl
theorem q2537 : (Jvm.Cond.soleField "ColourOffice$CommandFailure" "index") ∈ lw_all := lw_g (lw_at lw_m11 27 rfl) rfl
theorem q2538 : (Jvm.Cond.lays "ColourOffice$CommandFailure" "java/lang/Throwable" "depth" "I") ∈ lw_all := lw_g (lw_at lw_m11 28 rfl) rfl
theorem q2539 : (Jvm.Cond.superclass "ColourOffice$CommandFailure" "ColourOffice$Failure") ∈ lw_all := lw_g (lw_at lw_m11 29 rfl) rfl
theorem q2601 : (Jvm.Cond.instanceMethod ({ cls := "ColourOffice$CommandFailure", name := "index", desc := "()I" } : Jvm.MethodName)) ∈ lw_all := lw_g (lw_at lw_m11 91 rfl) rfl
theorem q2602 : (Jvm.Cond.selects "ColourOffice$CommandFailure" ({ cls := "ColourOffice$CommandFailure", name := "index", desc := "()I" } : Jvm.MethodName) ({ cls := "ColourOffice$CommandFailure", name := "index", desc := "()I" } : Jvm.MethodName)) ∈ lw_all := lw_g (lw_at lw_m11 92 rfl) rfl
theorem q2603 : (Jvm.Cond.code ({ cls := "ColourOffice$CommandFailure", name := "index", desc := "()I" } : Jvm.MethodName) prog_3_method_2_code (1 : Nat) (Option.some Jvm.ClassFile.FieldType.int)) ∈ lw_all := lw_g (lw_at lw_m11 93 rfl) rfl
theorem q2605 : (Jvm.Cond.instanceMethod ({ cls := "ColourOffice$CommandFailure", name := "kind", desc := "()C" } : Jvm.MethodName)) ∈ lw_all := lw_g (lw_at lw_m11 95 rfl) rfl
theorem q2606 : (Jvm.Cond.selects "ColourOffice$CommandFailure" ({ cls := "ColourOffice$CommandFailure", name := "kind", desc := "()C" } : Jvm.MethodName) ({ cls := "ColourOffice$CommandFailure", name := "kind", desc := "()C" } : Jvm.MethodName)) ∈ lw_all := lw_g (lw_at lw_m11 96 rfl) rfl
theorem q2607 : (Jvm.Cond.code ({ cls := "ColourOffice$CommandFailure", name := "kind", desc := "()C" } : Jvm.MethodName) prog_3_method_3_code (3 : Nat) (Option.some Jvm.ClassFile.FieldType.char)) ∈ lw_all := lw_g (lw_at lw_m11 97 rfl) rfl
theorem q2608 : (Jvm.Cond.methodLink "ColourOffice$CommandFailure" (13 : Nat) ({ cls := "ColourOffice$CommandFailure", name := "getCause", desc := "()Ljava/lang/Throwable;" } : Jvm.MethodName)) ∈ lw_all := lw_g (lw_at lw_m11 98 rfl) rfl
theorem q2609 : (Jvm.Cond.sameMethod "ColourOffice$CommandFailure" "java/lang/Throwable" "getCause" "()Ljava/lang/Throwable;") ∈ lw_all := lw_g (lw_at lw_m11 99 rfl) rfl
theorem q2611 : (Jvm.Cond.selects "ColourOffice$CommandFailure" ({ cls := "ColourOffice$CommandFailure", name := "getCause", desc := "()Ljava/lang/Throwable;" } : Jvm.MethodName) ({ cls := "java/lang/Throwable", name := "getCause", desc := "()Ljava/lang/Throwable;" } : Jvm.MethodName)) ∈ lw_all := lw_g (lw_at lw_m11 101 rfl) rfl
theorem q2614 : (Jvm.Cond.classLink "ColourOffice$CommandFailure" (17 : Nat) "ColourOffice$ConditionFailure") ∈ lw_all := lw_g (lw_at lw_m11 104 rfl) rfl
theorem q2615 : (Jvm.Cond.methodLink "ColourOffice$CommandFailure" (19 : Nat) ({ cls := "ColourOffice$ConditionFailure", name := "kind", desc := "()C" } : Jvm.MethodName)) ∈ lw_all := lw_g (lw_at lw_m11 105 rfl) rfl
theorem q2622 : (Jvm.Cond.selects "ColourOffice$CommandFailure" ({ cls := "ColourOffice$Failure", name := "asPublicException", desc := "()Ljava/lang/RuntimeException;" } : Jvm.MethodName) ({ cls := "ColourOffice$CommandFailure", name := "asPublicException", desc := "()Ljava/lang/RuntimeException;" } : Jvm.MethodName)) ∈ lw_all := lw_g (lw_at lw_m11 112 rfl) rfl
theorem q2623 : (Jvm.Cond.instanceMethod ({ cls := "ColourOffice$CommandFailure", name := "asPublicException", desc := "()Ljava/lang/RuntimeException;" } : Jvm.MethodName)) ∈ lw_all := lw_g (lw_at lw_m11 113 rfl) rfl
theorem q2624 : (Jvm.Cond.code ({ cls := "ColourOffice$CommandFailure", name := "asPublicException", desc := "()Ljava/lang/RuntimeException;" } : Jvm.MethodName) prog_3_method_4_code (1 : Nat) (Option.some (Jvm.ClassFile.FieldType.object "java/lang/RuntimeException"))) ∈ lw_all := lw_g (lw_at lw_m11 114 rfl) rfl
theorem q2625 : (Jvm.Cond.classLink "ColourOffice$CommandFailure" (23 : Nat) "java/lang/IllegalStateException") ∈ lw_all := lw_g (lw_at lw_m11 115 rfl) rfl
theorem q2626 : (Jvm.Cond.methodLink "ColourOffice$CommandFailure" (25 : Nat) ({ cls := "java/lang/IllegalStateException", name := "<init>", desc := "()V" } : Jvm.MethodName)) ∈ lw_all := lw_g (lw_at lw_m11 116 rfl) rfl
theorem q3340 : (Jvm.Cond.castable "ColourOffice$CommandFailure" "java/lang/Object") ∈ lw_tbl := lw_at lw_m14 110 rfl
theorem q163 : (Jvm.Cond.initialized "java/lang/StringIndexOutOfBoundsException") ∈ lw_all := lw_g (lw_at lw_m1 53 rfl) rfl
theorem q454 : (Jvm.Cond.selects "java/lang/StringIndexOutOfBoundsException" ({ cls := "java/lang/Throwable", name := "fillInStackTrace", desc := "()Ljava/lang/Throwable;" } : Jvm.MethodName) ({ cls := "java/lang/Throwable", name := "fillInStackTrace", desc := "()Ljava/lang/Throwable;" } : Jvm.MethodName)) ∈ lw_all := lw_g (lw_at lw_m2 104 rfl) rfl
theorem q891 : (Jvm.Cond.selects "java/lang/StringIndexOutOfBoundsException" ({ cls := "java/lang/Object", name := "getClass", desc := "()Ljava/lang/Class;" } : Jvm.MethodName) ({ cls := "java/lang/Object", name := "getClass", desc := "()Ljava/lang/Class;" } : Jvm.MethodName)) ∈ lw_all := lw_g (lw_at lw_m4 61 rfl) rfl
theorem q2372 : (Jvm.Cond.selects "java/lang/StringIndexOutOfBoundsException" ({ cls := "java/lang/Throwable", name := "getLocalizedMessage", desc := "()Ljava/lang/String;" } : Jvm.MethodName) ({ cls := "java/lang/Throwable", name := "getLocalizedMessage", desc := "()Ljava/lang/String;" } : Jvm.MethodName)) ∈ lw_all := lw_g (lw_at lw_m10 102 rfl) rfl
theorem q2387 : (Jvm.Cond.selects "java/lang/StringIndexOutOfBoundsException" ({ cls := "java/lang/Throwable", name := "getMessage", desc := "()Ljava/lang/String;" } : Jvm.MethodName) ({ cls := "java/lang/Throwable", name := "getMessage", desc := "()Ljava/lang/String;" } : Jvm.MethodName)) ∈ lw_all := lw_g (lw_at lw_m10 117 rfl) rfl
theorem q2421 : (Jvm.Cond.selects "java/lang/StringIndexOutOfBoundsException" ({ cls := "java/lang/Object", name := "toString", desc := "()Ljava/lang/String;" } : Jvm.MethodName) ({ cls := "java/lang/Throwable", name := "toString", desc := "()Ljava/lang/String;" } : Jvm.MethodName)) ∈ lw_all := lw_g (lw_at lw_m10 151 rfl) rfl
theorem q2548 : (Jvm.Cond.instantiable "java/lang/StringIndexOutOfBoundsException" (6 : Nat)) ∈ lw_all := lw_g (lw_at lw_m11 38 rfl) rfl
theorem q2550 : (Jvm.Cond.instanceMethod ({ cls := "java/lang/StringIndexOutOfBoundsException", name := "<init>", desc := "(I)V" } : Jvm.MethodName)) ∈ lw_all := lw_g (lw_at lw_m11 40 rfl) rfl
theorem q2551 : (Jvm.Cond.code ({ cls := "java/lang/StringIndexOutOfBoundsException", name := "<init>", desc := "(I)V" } : Jvm.MethodName) prog_44_method_3_code (2 : Nat) (Option.none : Option Jvm.ClassFile.FieldType)) ∈ lw_all := lw_g (lw_at lw_m11 41 rfl) rfl
theorem q2552 : (Jvm.Cond.classLink "java/lang/StringIndexOutOfBoundsException" (10 : Nat) "java/lang/StringBuilder") ∈ lw_all := lw_g (lw_at lw_m11 42 rfl) rfl
theorem q2553 : (Jvm.Cond.methodLink "java/lang/StringIndexOutOfBoundsException" (12 : Nat) ({ cls := "java/lang/StringBuilder", name := "<init>", desc := "()V" } : Jvm.MethodName)) ∈ lw_all := lw_g (lw_at lw_m11 43 rfl) rfl
theorem q2554 : (Jvm.Cond.stringRef "java/lang/StringIndexOutOfBoundsException" (13 : Nat) "String index out of range: ") ∈ lw_tbl := lw_at lw_m11 44 rfl
theorem q2555 : (Jvm.Cond.methodLink "java/lang/StringIndexOutOfBoundsException" (15 : Nat) ({ cls := "java/lang/StringBuilder", name := "append", desc := "(Ljava/lang/String;)Ljava/lang/StringBuilder;" } : Jvm.MethodName)) ∈ lw_all := lw_g (lw_at lw_m11 45 rfl) rfl
theorem q2556 : (Jvm.Cond.methodLink "java/lang/StringIndexOutOfBoundsException" (19 : Nat) ({ cls := "java/lang/StringBuilder", name := "append", desc := "(I)Ljava/lang/StringBuilder;" } : Jvm.MethodName)) ∈ lw_all := lw_g (lw_at lw_m11 46 rfl) rfl
theorem q2557 : (Jvm.Cond.methodLink "java/lang/StringIndexOutOfBoundsException" (22 : Nat) ({ cls := "java/lang/StringBuilder", name := "toString", desc := "()Ljava/lang/String;" } : Jvm.MethodName)) ∈ lw_all := lw_g (lw_at lw_m11 47 rfl) rfl
theorem q2558 : (Jvm.Cond.methodLink "java/lang/StringIndexOutOfBoundsException" (7 : Nat) ({ cls := "java/lang/IndexOutOfBoundsException", name := "<init>", desc := "(Ljava/lang/String;)V" } : Jvm.MethodName)) ∈ lw_all := lw_g (lw_at lw_m11 48 rfl) rfl
theorem q2559 : (Jvm.Cond.lays "java/lang/StringIndexOutOfBoundsException" "java/lang/Throwable" "backtrace" "Ljava/lang/Object;") ∈ lw_all := lw_g (lw_at lw_m11 49 rfl) rfl
theorem q2560 : (Jvm.Cond.lays "java/lang/StringIndexOutOfBoundsException" "java/lang/Throwable" "detailMessage" "Ljava/lang/String;") ∈ lw_all := lw_g (lw_at lw_m11 50 rfl) rfl
theorem q2561 : (Jvm.Cond.lays "java/lang/StringIndexOutOfBoundsException" "java/lang/Throwable" "cause" "Ljava/lang/Throwable;") ∈ lw_all := lw_g (lw_at lw_m11 51 rfl) rfl
theorem q2562 : (Jvm.Cond.lays "java/lang/StringIndexOutOfBoundsException" "java/lang/Throwable" "stackTrace" "[Ljava/lang/StackTraceElement;") ∈ lw_all := lw_g (lw_at lw_m11 52 rfl) rfl
theorem q2563 : (Jvm.Cond.lays "java/lang/StringIndexOutOfBoundsException" "java/lang/Throwable" "depth" "I") ∈ lw_all := lw_g (lw_at lw_m11 53 rfl) rfl
theorem q2564 : (Jvm.Cond.lays "java/lang/StringIndexOutOfBoundsException" "java/lang/Throwable" "suppressedExceptions" "Ljava/util/List;") ∈ lw_all := lw_g (lw_at lw_m11 54 rfl) rfl
theorem q2565 : (Jvm.Cond.superclass "java/lang/StringIndexOutOfBoundsException" "java/lang/IndexOutOfBoundsException") ∈ lw_all := lw_g (lw_at lw_m11 55 rfl) rfl
theorem q3307 : (Jvm.Cond.castable "java/lang/StringIndexOutOfBoundsException" "java/lang/IndexOutOfBoundsException") ∈ lw_tbl := lw_at lw_m14 77 rfl
theorem q3341 : (Jvm.Cond.castable "java/lang/StringIndexOutOfBoundsException" "java/lang/Object") ∈ lw_tbl := lw_at lw_m14 111 rfl
theorem q170 : (Jvm.Cond.instanceMethod ({ cls := "java/lang/Object", name := "<init>", desc := "()V" } : Jvm.MethodName)) ∈ lw_all := lw_g (lw_at lw_m1 60 rfl) rfl
theorem q171 : (Jvm.Cond.code ({ cls := "java/lang/Object", name := "<init>", desc := "()V" } : Jvm.MethodName) object_method_1_code (1 : Nat) (Option.none : Option Jvm.ClassFile.FieldType)) ∈ lw_all := lw_g (lw_at lw_m1 61 rfl) rfl
theorem q624 : (Jvm.Cond.native ({ cls := "java/lang/Object", name := "clone", desc := "()Ljava/lang/Object;" } : Jvm.MethodName)) ∈ lw_all := lw_g (lw_at lw_m3 34 rfl) rfl
theorem q625 : (Jvm.Cond.instanceMethod ({ cls := "java/lang/Object", name := "clone", desc := "()Ljava/lang/Object;" } : Jvm.MethodName)) ∈ lw_all := lw_g (lw_at lw_m3 35 rfl) rfl
theorem q863 : (Jvm.Cond.instanceMethod ({ cls := "java/lang/Object", name := "getClass", desc := "()Ljava/lang/Class;" } : Jvm.MethodName)) ∈ lw_all := lw_g (lw_at lw_m4 33 rfl) rfl
theorem q864 : (Jvm.Cond.sameMethod "java/lang/Object" "java/lang/Object" "getClass" "()Ljava/lang/Class;") ∈ lw_all := lw_g (lw_at lw_m4 34 rfl) rfl
theorem q899 : (Jvm.Cond.native ({ cls := "java/lang/Object", name := "getClass", desc := "()Ljava/lang/Class;" } : Jvm.MethodName)) ∈ lw_all := lw_g (lw_at lw_m4 69 rfl) rfl
theorem q2351 : (Jvm.Cond.declares ({ cls := "java/lang/Object", name := "toString", desc := "()Ljava/lang/String;" } : Jvm.MethodName)) ∈ lw_tbl := lw_at lw_m10 81 rfl
theorem q2353 : (Jvm.Cond.instanceMethod ({ cls := "java/lang/Object", name := "toString", desc := "()Ljava/lang/String;" } : Jvm.MethodName)) ∈ lw_all := lw_g (lw_at lw_m10 83 rfl) rfl
theorem q2354 : (Jvm.Cond.sameMethod "java/lang/Object" "java/lang/Object" "toString" "()Ljava/lang/String;") ∈ lw_all := lw_g (lw_at lw_m10 84 rfl) rfl
theorem q3305 : (Jvm.Cond.initialized "java/lang/Object") ∈ lw_all := lw_g (lw_at lw_m14 75 rfl) rfl
theorem q3345 : (Jvm.Cond.declares ({ cls := "java/lang/Object", name := "getClass", desc := "()Ljava/lang/Class;" } : Jvm.MethodName)) ∈ lw_tbl := lw_at lw_m14 115 rfl
theorem q892 : (Jvm.Cond.selects "java/lang/System$2" ({ cls := "java/lang/Object", name := "getClass", desc := "()Ljava/lang/Class;" } : Jvm.MethodName) ({ cls := "java/lang/Object", name := "getClass", desc := "()Ljava/lang/Class;" } : Jvm.MethodName)) ∈ lw_all := lw_g (lw_at lw_m4 62 rfl) rfl
theorem q980 : (Jvm.Cond.castable "java/lang/System$2" "jdk/internal/access/JavaLangAccess") ∈ lw_tbl := lw_at lw_m4 150 rfl
theorem q981 : (Jvm.Cond.selects "java/lang/System$2" ({ cls := "jdk/internal/access/JavaLangAccess", name := "getUTF16Char", desc := "([BI)C" } : Jvm.MethodName) ({ cls := "java/lang/System$2", name := "getUTF16Char", desc := "([BI)C" } : Jvm.MethodName)) ∈ lw_all := lw_g (lw_at lw_m4 151 rfl) rfl
theorem q982 : (Jvm.Cond.unhidden "java/lang/System$2" "getUTF16Char" "([BI)C") ∈ lw_tbl := lw_at lw_m4 152 rfl
theorem q983 : (Jvm.Cond.instanceMethod ({ cls := "java/lang/System$2", name := "getUTF16Char", desc := "([BI)C" } : Jvm.MethodName)) ∈ lw_all := lw_g (lw_at lw_m4 153 rfl) rfl
theorem q984 : (Jvm.Cond.publicMethod ({ cls := "java/lang/System$2", name := "getUTF16Char", desc := "([BI)C" } : Jvm.MethodName)) ∈ lw_tbl := lw_at lw_m4 154 rfl
theorem q985 : (Jvm.Cond.code ({ cls := "java/lang/System$2", name := "getUTF16Char", desc := "([BI)C" } : Jvm.MethodName) prog_48_method_45_code (3 : Nat) (Option.some Jvm.ClassFile.FieldType.char)) ∈ lw_all := lw_g (lw_at lw_m4 155 rfl) rfl
theorem q986 : (Jvm.Cond.methodLink "java/lang/System$2" (185 : Nat) ({ cls := "java/lang/StringUTF16", name := "getChar", desc := "([BI)C" } : Jvm.MethodName)) ∈ lw_all := lw_g (lw_at lw_m4 156 rfl) rfl
theorem q2422 : (Jvm.Cond.selects "java/lang/System$2" ({ cls := "java/lang/Object", name := "toString", desc := "()Ljava/lang/String;" } : Jvm.MethodName) ({ cls := "java/lang/Object", name := "toString", desc := "()Ljava/lang/String;" } : Jvm.MethodName)) ∈ lw_all := lw_g (lw_at lw_m10 152 rfl) rfl
theorem q3324 : (Jvm.Cond.castable "java/lang/System$2" "java/lang/Object") ∈ lw_tbl := lw_at lw_m14 94 rfl
theorem q185 : (Jvm.Cond.arrayOver (Jvm.ClassFile.FieldType.object "ColourOffice$Found")) ∈ lw_tbl := lw_at lw_m1 75 rfl
theorem q322 : (Jvm.Cond.arrayClass Jvm.ClassFile.FieldType.byte) ∈ lw_all := lw_g (lw_at lw_m1 212 rfl) rfl
theorem q388 : (Jvm.Cond.arrayClass Jvm.ClassFile.FieldType.int) ∈ lw_all := lw_g (lw_at lw_m2 38 rfl) rfl
theorem q904 : (Jvm.Cond.arrayOver (Jvm.ClassFile.FieldType.object "java/lang/Object")) ∈ lw_tbl := lw_at lw_m4 74 rfl
theorem q1564 : (Jvm.Cond.arrayClass Jvm.ClassFile.FieldType.long) ∈ lw_all := lw_g (lw_at lw_m7 14 rfl) rfl
theorem q3290 : (Jvm.Cond.arrayClass Jvm.ClassFile.FieldType.double) ∈ lw_all := lw_g (lw_at lw_m14 60 rfl) rfl
theorem q3352 : (Jvm.Cond.arrayClass Jvm.ClassFile.FieldType.char) ∈ lw_all := lw_g (lw_at lw_m14 122 rfl) rfl
theorem q3353 : (Jvm.Cond.arrayClass Jvm.ClassFile.FieldType.short) ∈ lw_all := lw_g (lw_at lw_m14 123 rfl) rfl
theorem q137 : (Jvm.Cond.initialized "java/lang/System") ∈ lw_all := lw_g (lw_at lw_m1 27 rfl) rfl
theorem q633 : (Jvm.Cond.static ({ cls := "java/lang/System", name := "arraycopy", desc := "(Ljava/lang/Object;ILjava/lang/Object;II)V" } : Jvm.MethodName)) ∈ lw_all := lw_g (lw_at lw_m3 43 rfl) rfl
theorem q634 : (Jvm.Cond.native ({ cls := "java/lang/System", name := "arraycopy", desc := "(Ljava/lang/Object;ILjava/lang/Object;II)V" } : Jvm.MethodName)) ∈ lw_all := lw_g (lw_at lw_m3 44 rfl) rfl
theorem q139 : (Jvm.Cond.initialized "java/lang/Number") ∈ lw_all := lw_g (lw_at lw_m1 29 rfl) rfl
theorem q142 : (Jvm.Cond.initialized "java/lang/reflect/Array") ∈ lw_all := lw_g (lw_at lw_m1 32 rfl) rfl
theorem q391 : (Jvm.Cond.interfaceMethod "java/util/Iterator" "java/util/Iterator" "hasNext" "()Z") ∈ lw_tbl := lw_at lw_m2 41 rfl
theorem q392 : (Jvm.Cond.declares ({ cls := "java/util/Iterator", name := "hasNext", desc := "()Z" } : Jvm.MethodName)) ∈ lw_tbl := lw_at lw_m2 42 rfl
theorem q401 : (Jvm.Cond.interfaceMethod "java/util/Iterator" "java/util/Iterator" "next" "()Ljava/lang/Object;") ∈ lw_tbl := lw_at lw_m2 51 rfl
theorem q402 : (Jvm.Cond.declares ({ cls := "java/util/Iterator", name := "next", desc := "()Ljava/lang/Object;" } : Jvm.MethodName)) ∈ lw_tbl := lw_at lw_m2 52 rfl
theorem q527 : (Jvm.Cond.interfaceMethod "java/util/List" "java/util/List" "size" "()I") ∈ lw_tbl := lw_at lw_m2 177 rfl
theorem q528 : (Jvm.Cond.declares ({ cls := "java/util/List", name := "size", desc := "()I" } : Jvm.MethodName)) ∈ lw_tbl := lw_at lw_m2 178 rfl
theorem q543 : (Jvm.Cond.interfaceMethod "java/util/List" "java/util/List" "get" "(I)Ljava/lang/Object;") ∈ lw_tbl := lw_at lw_m2 193 rfl
theorem q544 : (Jvm.Cond.declares ({ cls := "java/util/List", name := "get", desc := "(I)Ljava/lang/Object;" } : Jvm.MethodName)) ∈ lw_tbl := lw_at lw_m2 194 rfl
theorem q839 : (Jvm.Cond.interfaceMethod "java/util/List" "java/util/List" "add" "(Ljava/lang/Object;)Z") ∈ lw_tbl := lw_at lw_m4 9 rfl
theorem q840 : (Jvm.Cond.declares ({ cls := "java/util/List", name := "add", desc := "(Ljava/lang/Object;)Z" } : Jvm.MethodName)) ∈ lw_tbl := lw_at lw_m4 10 rfl
theorem q1149 : (Jvm.Cond.interfaceMethod "java/util/List" "java/util/List" "remove" "(I)Ljava/lang/Object;") ∈ lw_tbl := lw_at lw_m5 79 rfl
theorem q1150 : (Jvm.Cond.declares ({ cls := "java/util/List", name := "remove", desc := "(I)Ljava/lang/Object;" } : Jvm.MethodName)) ∈ lw_tbl := lw_at lw_m5 80 rfl
theorem q1762 : (Jvm.Cond.interfaceMethod "java/util/List" "java/util/List" "add" "(ILjava/lang/Object;)V") ∈ lw_tbl := lw_at lw_m7 212 rfl
theorem q1763 : (Jvm.Cond.declares ({ cls := "java/util/List", name := "add", desc := "(ILjava/lang/Object;)V" } : Jvm.MethodName)) ∈ lw_tbl := lw_at lw_m7 213 rfl
theorem q623 : (Jvm.Cond.sameMethod "[B" "java/lang/Object" "clone" "()Ljava/lang/Object;") ∈ lw_all := lw_g (lw_at lw_m3 33 rfl) rfl
theorem q626 : (Jvm.Cond.selects "[B" ({ cls := "[B", name := "clone", desc := "()Ljava/lang/Object;" } : Jvm.MethodName) ({ cls := "java/lang/Object", name := "clone", desc := "()Ljava/lang/Object;" } : Jvm.MethodName)) ∈ lw_all := lw_g (lw_at lw_m3 36 rfl) rfl
theorem q627 : (Jvm.Cond.castable "[B" "java/lang/Cloneable") ∈ lw_tbl := lw_at lw_m3 37 rfl
theorem q3347 : (Jvm.Cond.castable "[B" "java/lang/Object") ∈ lw_tbl := lw_at lw_m14 117 rfl
theorem q978 : (Jvm.Cond.interfaceMethod "jdk/internal/access/JavaLangAccess" "jdk/internal/access/JavaLangAccess" "getUTF16Char" "([BI)C") ∈ lw_tbl := lw_at lw_m4 148 rfl
theorem q979 : (Jvm.Cond.declares ({ cls := "jdk/internal/access/JavaLangAccess", name := "getUTF16Char", desc := "([BI)C" } : Jvm.MethodName)) ∈ lw_tbl := lw_at lw_m4 149 rfl
theorem q1351 : (Jvm.Cond.interfaceMethod "ColourOffice$Metric" "ColourOffice$Metric" "combine" "(III)I") ∈ lw_tbl := lw_at lw_m6 41 rfl
theorem q1352 : (Jvm.Cond.declares ({ cls := "ColourOffice$Metric", name := "combine", desc := "(III)I" } : Jvm.MethodName)) ∈ lw_tbl := lw_at lw_m6 42 rfl
theorem q1481 : (Jvm.Cond.sameMethod "[I" "java/lang/Object" "clone" "()Ljava/lang/Object;") ∈ lw_all := lw_g (lw_at lw_m6 171 rfl) rfl
theorem q1482 : (Jvm.Cond.selects "[I" ({ cls := "[I", name := "clone", desc := "()Ljava/lang/Object;" } : Jvm.MethodName) ({ cls := "java/lang/Object", name := "clone", desc := "()Ljava/lang/Object;" } : Jvm.MethodName)) ∈ lw_all := lw_g (lw_at lw_m6 172 rfl) rfl
theorem q1483 : (Jvm.Cond.castable "[I" "java/lang/Cloneable") ∈ lw_tbl := lw_at lw_m6 173 rfl
theorem q3348 : (Jvm.Cond.castable "[I" "java/lang/Object") ∈ lw_tbl := lw_at lw_m14 118 rfl
theorem q2433 : (Jvm.Cond.interfaceMethod "java/lang/CharSequence" "java/lang/CharSequence" "toString" "()Ljava/lang/String;") ∈ lw_tbl := lw_at lw_m10 163 rfl
theorem q2434 : (Jvm.Cond.declares ({ cls := "java/lang/CharSequence", name := "toString", desc := "()Ljava/lang/String;" } : Jvm.MethodName)) ∈ lw_tbl := lw_at lw_m10 164 rfl
theorem q3343 : (Jvm.Cond.sameMethod "[Ljava/lang/Object;" "java/lang/Object" "getClass" "()Ljava/lang/Class;") ∈ lw_all := lw_g (lw_at lw_m14 113 rfl) rfl
theorem q3344 : (Jvm.Cond.selects "[Ljava/lang/Object;" ({ cls := "java/lang/Object", name := "getClass", desc := "()Ljava/lang/Class;" } : Jvm.MethodName) ({ cls := "java/lang/Object", name := "getClass", desc := "()Ljava/lang/Class;" } : Jvm.MethodName)) ∈ lw_all := lw_g (lw_at lw_m14 114 rfl) rfl
theorem q3349 : (Jvm.Cond.castable "[Ljava/lang/Object;" "java/lang/Object") ∈ lw_tbl := lw_at lw_m14 119 rfl
theorem q3346 : (Jvm.Cond.castable "[LColourOffice$Found;" "java/lang/Object") ∈ lw_tbl := lw_at lw_m14 116 rfl
theorem q3350 : (Jvm.Cond.castable "[J" "java/lang/Object") ∈ lw_tbl := lw_at lw_m14 120 rfl
theorem q3351 : (Jvm.Cond.castable "[D" "java/lang/Object") ∈ lw_tbl := lw_at lw_m14 121 rfl
theorem q3354 : (Jvm.Cond.fieldLink "java/lang/Class" (13 : Nat) "java/lang/Class" "componentType" "Ljava/lang/Class;") ∈ lw_all := lw_g (lw_at lw_m14 124 rfl) rfl
theorem q3355 : (Jvm.Cond.fieldLink "java/lang/Class" (294 : Nat) "java/lang/Class" "name" "Ljava/lang/String;") ∈ lw_all := lw_g (lw_at lw_m14 125 rfl) rfl
theorem in_X1 : ∀ w ∈ wsX10, w ∈ lw_all := lw_in wsX10 [332, 334, 336, 338, 340, 342, 344, 346] (by decide +kernel) (by decide +kernel)
theorem in_X2 : ∀ w ∈ wsX20, w ∈ lw_all := lw_in wsX20 [239, 241, 243, 245, 247, 249, 251, 253, 255, 257] (by decide +kernel) (by decide +kernel)
theorem in_X3 : ∀ w ∈ wsX30, w ∈ lw_all := lw_in wsX30 [190, 192] (by decide +kernel) (by decide +kernel)
theorem in_J2 : ∀ w ∈ wsJ20, w ∈ lw_all := lw_in wsJ20 [220, 216, 218] (by decide +kernel) (by decide +kernel)
theorem in_X4 : ∀ w ∈ wsX40, w ∈ lw_all := lw_in wsX40 [287] (by decide +kernel) (by decide +kernel)
theorem in_J4 : ∀ w ∈ wsJ40, w ∈ lw_all := lw_in wsJ40 [284, 278, 280, 282] (by decide +kernel) (by decide +kernel)
theorem in_J6 : ∀ w ∈ wsJ60, w ∈ lw_all := lw_in wsJ60 [313, 315, 317, 319] (by decide +kernel) (by decide +kernel)
theorem in_J7 : ∀ w ∈ wsJ70, w ∈ lw_all := lw_in wsJ70 [817, 819, 821, 823] (by decide +kernel) (by decide +kernel)
theorem in_X5 : ∀ w ∈ wsX50, w ∈ lw_all := lw_in wsX50 [2722, 2724, 2726, 2728, 2730, 2732, 2734, 2736, 2738, 2740, 2742, 2744, 2746, 2748, 2750, 2752, 2754, 2756, 2758, 2760, 2762, 2764, 2766] (by decide +kernel) (by decide +kernel)
theorem in_X6 : ∀ w ∈ wsX60, w ∈ lw_all := lw_in wsX60 [383, 385] (by decide +kernel) (by decide +kernel)
theorem in_J9 : ∀ w ∈ wsJ90, w ∈ lw_all := lw_in wsJ90 [425, 427, 429, 431, 433] (by decide +kernel) (by decide +kernel)
theorem in_J12 : ∀ w ∈ wsJ120, w ∈ lw_all := lw_in wsJ120 [424, 426, 428, 430, 432, 481] (by decide +kernel) (by decide +kernel)
theorem in_X7 : ∀ w ∈ wsX70, w ∈ lw_all := lw_in wsX70 [512, 514, 516, 518] (by decide +kernel) (by decide +kernel)
theorem in_J15 : ∀ w ∈ wsJ150, w ∈ lw_all := lw_in wsJ150 [577, 578, 579, 580, 581, 830] (by decide +kernel) (by decide +kernel)
theorem in_J21 : ∀ w ∈ wsJ210, w ∈ lw_all := lw_in wsJ210 [775, 776, 777, 778, 779, 798] (by decide +kernel) (by decide +kernel)
theorem in_J22 : ∀ w ∈ wsJ220, w ∈ lw_all := lw_in wsJ220 [929, 931, 933] (by decide +kernel) (by decide +kernel)
theorem in_X8 : ∀ w ∈ wsX80, w ∈ lw_all := lw_in wsX80 [944, 946] (by decide +kernel) (by decide +kernel)
theorem in_X10 : ∀ w ∈ wsX100, w ∈ lw_all := lw_in wsX100 [1051, 1052, 1053, 1054, 1055, 1071, 1069] (by decide +kernel) (by decide +kernel)
theorem in_X11 : ∀ w ∈ wsX110, w ∈ lw_all := lw_in wsX110 [1084] (by decide +kernel) (by decide +kernel)
theorem in_X12 : ∀ w ∈ wsX120, w ∈ lw_all := lw_in wsX120 [1126, 1128, 1130, 1132] (by decide +kernel) (by decide +kernel)
theorem in_X13 : ∀ w ∈ wsX130, w ∈ lw_all := lw_in wsX130 [1311, 1313, 1315] (by decide +kernel) (by decide +kernel)
theorem in_X14 : ∀ w ∈ wsX140, w ∈ lw_all := lw_in wsX140 [1284, 1286, 1288, 1290, 1292] (by decide +kernel) (by decide +kernel)
theorem in_J24 : ∀ w ∈ wsJ240, w ∈ lw_all := lw_in wsJ240 [1375] (by decide +kernel) (by decide +kernel)
theorem in_X15 : ∀ w ∈ wsX150, w ∈ lw_all := lw_in wsX150 [1435, 1437, 1439, 1441] (by decide +kernel) (by decide +kernel)
theorem in_J25 : ∀ w ∈ wsJ250, w ∈ lw_all := lw_in wsJ250 [1553, 1554, 1555, 1556, 1557, 1562] (by decide +kernel) (by decide +kernel)
theorem in_J26 : ∀ w ∈ wsJ260, w ∈ lw_all := lw_in wsJ260 [1571, 1572, 1573, 1574, 1575, 1580] (by decide +kernel) (by decide +kernel)
theorem in_X16 : ∀ w ∈ wsX160, w ∈ lw_all := lw_in wsX160 [1745, 1747] (by decide +kernel) (by decide +kernel)
theorem in_X17 : ∀ w ∈ wsX170, w ∈ lw_all := lw_in wsX170 [1681, 1683, 1685] (by decide +kernel) (by decide +kernel)
theorem in_J27 : ∀ w ∈ wsJ270, w ∈ lw_all := lw_in wsJ270 [2130, 2131, 2132, 2133, 2134, 2135] (by decide +kernel) (by decide +kernel)
theorem in_J28 : ∀ w ∈ wsJ280, w ∈ lw_all := lw_in wsJ280 [2228, 2229, 2230, 2231, 2232, 2233] (by decide +kernel) (by decide +kernel)
theorem in_X18 : ∀ w ∈ wsX180, w ∈ lw_all := lw_in wsX180 [2313, 2315] (by decide +kernel) (by decide +kernel)
theorem in_X19 : ∀ w ∈ wsX190, w ∈ lw_all := lw_in wsX190 [2473, 2474, 2475, 2476, 2477, 2485, 2483] (by decide +kernel) (by decide +kernel)
theorem in_X20 : ∀ w ∈ wsX200, w ∈ lw_all := lw_in wsX200 [2526, 2527, 2528, 2529, 2530, 2538, 2536] (by decide +kernel) (by decide +kernel)
theorem in_J29 : ∀ w ∈ wsJ290, w ∈ lw_all := lw_in wsJ290 [2559, 2560, 2561, 2562, 2563, 2564] (by decide +kernel) (by decide +kernel)
