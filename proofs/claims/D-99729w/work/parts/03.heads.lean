set_option maxRecDepth 100000
def RX0 : String := "HorizonSeamLaw"
def RX1 : String := "HorizonSeam"
def TX1 : u_T := fun k => match k with
  | 0 => ("HorizonSeam", "values", "[I", true)
  | 1 => ("HorizonSeam", "ring", "LHorizonSeam$Ring;", false)
  | 2 => ("HorizonSeam", "line", "LHorizonSeam$Line;", false)
  | 3 => ("HorizonSeam", "tried", "LHorizonSeam$Line;", true)
  | 4 => ("HorizonSeam", "was", "LHorizonSeam$Line;", true)
  | 5 => ("HorizonSeam", "tape", "[B", true)
  | 6 => ("HorizonSeam", "taped", "I", false)
  | 7 => ("HorizonSeam", "faultPlace", "I", false)
  | 8 => ("HorizonSeam", "refused", "[I", true)
  | 9 => ("HorizonSeam", "acts", "Ljava/util/List;", false)
  | 10 => ("HorizonSeam", "seen", "Ljava/util/List;", false)
  | 11 => ("HorizonSeam", "lineThen", "LHorizonSeam$Line;", false)
  | 12 => ("HorizonSeam", "actsThen", "Ljava/util/List;", false)
  | 13 => ("HorizonSeam", "seenThen", "Ljava/util/List;", false)
  | _ => ("HorizonSeam", "seed", "I", false)
def tyX1 : Nat → FieldType := fun k => match k with
  | 0 => .array .int
  | 1 => .object "HorizonSeam$Ring"
  | 2 => .object "HorizonSeam$Line"
  | 3 => .object "HorizonSeam$Line"
  | 4 => .object "HorizonSeam$Line"
  | 5 => .array .byte
  | 6 => .int
  | 7 => .int
  | 8 => .array .int
  | 9 => .object "java/util/List"
  | 10 => .object "java/util/List"
  | 11 => .object "HorizonSeam$Line"
  | 12 => .object "java/util/List"
  | 13 => .object "java/util/List"
  | _ => .int
abbrev wsX10 : List Cond := u_ws RX1 TX1 15
set_option maxRecDepth 100000 in
theorem nmX1 : ∀ a, a < 15 → ∀ b, b < 15 → a ≠ b → (TX1 a).2.1 ≠ (TX1 b).2.1 := by decide +kernel
set_option maxRecDepth 100000 in
theorem tyX1_ok : ∀ k, k < 15 → parseFieldDescriptor (TX1 k).2.2.1 = some (tyX1 k) := by decide +kernel
def RX2 : String := "HorizonSeam$Ring"
def TX2 : u_T := fun k => match k with
  | 0 => ("HorizonSeam$Ring", "skills", "Ljava/util/List;", true)
  | 1 => ("HorizonSeam$Ring", "words", "Ljava/util/List;", true)
  | 2 => ("HorizonSeam$Ring", "stretches", "I", false)
  | 3 => ("HorizonSeam$Ring", "week", "I", false)
  | 4 => ("HorizonSeam$Ring", "frays", "LHorizonSeam$Form;", false)
  | _ => ("HorizonSeam$Ring", "pulls", "LHorizonSeam$Form;", false)
def tyX2 : Nat → FieldType := fun k => match k with
  | 0 => .object "java/util/List"
  | 1 => .object "java/util/List"
  | 2 => .int
  | 3 => .int
  | 4 => .object "HorizonSeam$Form"
  | _ => .object "HorizonSeam$Form"
abbrev wsX20 : List Cond := u_ws RX2 TX2 6
theorem nmX2 : ∀ a, a < 6 → ∀ b, b < 6 → a ≠ b → (TX2 a).2.1 ≠ (TX2 b).2.1 := by decide +kernel
theorem tyX2_ok : ∀ k, k < 6 → parseFieldDescriptor (TX2 k).2.2.1 = some (tyX2 k) := by decide +kernel
def RX3 : String := "HorizonSeam$Line"
def TX3 : u_T := fun k => match k with
  | 0 => ("HorizonSeam$Line", "strain", "[I", true)
  | 1 => ("HorizonSeam$Line", "seam", "[I", true)
  | 2 => ("HorizonSeam$Line", "stitch", "[I", true)
  | 3 => ("HorizonSeam$Line", "at", "[I", true)
  | 4 => ("HorizonSeam$Line", "thread", "[I", true)
  | 5 => ("HorizonSeam$Line", "pulled", "[I", true)
  | 6 => ("HorizonSeam$Line", "day", "I", false)
  | _ => ("HorizonSeam$Line", "this$0", "LHorizonSeam;", true)
def tyX3 : Nat → FieldType := fun k => match k with
  | 0 => .array .int
  | 1 => .array .int
  | 2 => .array .int
  | 3 => .array .int
  | 4 => .array .int
  | 5 => .array .int
  | 6 => .int
  | _ => .object "HorizonSeam"
abbrev wsX30 : List Cond := u_ws RX3 TX3 8
theorem nmX3 : ∀ a, a < 8 → ∀ b, b < 8 → a ≠ b → (TX3 a).2.1 ≠ (TX3 b).2.1 := by decide +kernel
theorem tyX3_ok : ∀ k, k < 8 → parseFieldDescriptor (TX3 k).2.2.1 = some (tyX3 k) := by decide +kernel
def RX4 : String := "HorizonSeamModel"
def TX4 : u_T := fun k => match k with
  | 0 => ("HorizonSeamModel", "thrown", "I", false)
  | 1 => ("HorizonSeamModel", "many", "I", false)
  | 2 => ("HorizonSeamModel", "women", "I", false)
  | 3 => ("HorizonSeamModel", "knots", "I", false)
  | 4 => ("HorizonSeamModel", "week", "I", false)
  | 5 => ("HorizonSeamModel", "fraysAt", "I", false)
  | 6 => ("HorizonSeamModel", "pullsAt", "I", false)
  | 7 => ("HorizonSeamModel", "skill", "[I", true)
  | 8 => ("HorizonSeamModel", "knot", "[I", true)
  | 9 => ("HorizonSeamModel", "knotLong", "[I", true)
  | 10 => ("HorizonSeamModel", "code", "[I", true)
  | 11 => ("HorizonSeamModel", "tape", "[I", true)
  | 12 => ("HorizonSeamModel", "taped", "I", false)
  | 13 => ("HorizonSeamModel", "faultKind", "I", false)
  | 14 => ("HorizonSeamModel", "faultPlace", "I", false)
  | 15 => ("HorizonSeamModel", "refused", "[I", true)
  | 16 => ("HorizonSeamModel", "long1", "I", false)
  | 17 => ("HorizonSeamModel", "next0", "I", false)
  | 18 => ("HorizonSeamModel", "sort", "I", false)
  | 19 => ("HorizonSeamModel", "place", "I", false)
  | 20 => ("HorizonSeamModel", "long0", "I", false)
  | 21 => ("HorizonSeamModel", "value", "I", false)
  | 22 => ("HorizonSeamModel", "sign", "I", false)
  | 23 => ("HorizonSeamModel", "word", "J", false)
  | 24 => ("HorizonSeamModel", "newMany", "I", false)
  | 25 => ("HorizonSeamModel", "newWomen", "I", false)
  | 26 => ("HorizonSeamModel", "newKnots", "I", false)
  | 27 => ("HorizonSeamModel", "newWeek", "I", false)
  | 28 => ("HorizonSeamModel", "newFraysAt", "I", false)
  | 29 => ("HorizonSeamModel", "newPullsAt", "I", false)
  | 30 => ("HorizonSeamModel", "top", "I", false)
  | 31 => ("HorizonSeamModel", "waiting", "I", false)
  | 32 => ("HorizonSeamModel", "depth", "I", false)
  | 33 => ("HorizonSeamModel", "newSkill", "[I", true)
  | 34 => ("HorizonSeamModel", "newKnot", "[I", true)
  | 35 => ("HorizonSeamModel", "newKnotLong", "[I", true)
  | 36 => ("HorizonSeamModel", "newRow", "[I", true)
  | 37 => ("HorizonSeamModel", "readCode", "[I", true)
  | 38 => ("HorizonSeamModel", "waits", "[I", true)
  | 39 => ("HorizonSeamModel", "tested", "[Z", true)
  | 40 => ("HorizonSeamModel", "rows", "[I", true)
  | 41 => ("HorizonSeamModel", "ahead", "[I", true)
  | 42 => ("HorizonSeamModel", "acts", "I", false)
  | 43 => ("HorizonSeamModel", "told", "[I", true)
  | 44 => ("HorizonSeamModel", "pile", "[I", true)
  | 45 => ("HorizonSeamModel", "pulled", "[I", true)
  | 46 => ("HorizonSeamModel", "fewest", "[I", true)
  | 47 => ("HorizonSeamModel", "wanted", "[I", true)
  | 48 => ("HorizonSeamModel", "digits", "[I", true)
  | 49 => ("HorizonSeamModel", "ways", "[I", true)
  | 50 => ("HorizonSeamModel", "least", "[I", true)
  | 51 => ("HorizonSeamModel", "seenMany", "I", false)
  | 52 => ("HorizonSeamModel", "seen", "[I", true)
  | 53 => ("HorizonSeamModel", "soon", "[I", true)
  | 54 => ("HorizonSeamModel", "soonAll", "[I", true)
  | 55 => ("HorizonSeamModel", "its0", "I", false)
  | 56 => ("HorizonSeamModel", "were", "[I", true)
  | 57 => ("HorizonSeamModel", "hasImage", "Z", false)
  | 58 => ("HorizonSeamModel", "imageActs", "I", false)
  | 59 => ("HorizonSeamModel", "imageSeen", "I", false)
  | 60 => ("HorizonSeamModel", "imageRow", "[I", true)
  | 61 => ("HorizonSeamModel", "imageAhead", "[I", true)
  | _ => ("HorizonSeamModel", "imageSees", "[I", true)
def tyX4 : Nat → FieldType := fun k => match k with
  | 0 => .int
  | 1 => .int
  | 2 => .int
  | 3 => .int
  | 4 => .int
  | 5 => .int
  | 6 => .int
  | 7 => .array .int
  | 8 => .array .int
  | 9 => .array .int
  | 10 => .array .int
  | 11 => .array .int
  | 12 => .int
  | 13 => .int
  | 14 => .int
  | 15 => .array .int
  | 16 => .int
  | 17 => .int
  | 18 => .int
  | 19 => .int
  | 20 => .int
  | 21 => .int
  | 22 => .int
  | 23 => .long
  | 24 => .int
  | 25 => .int
  | 26 => .int
  | 27 => .int
  | 28 => .int
  | 29 => .int
  | 30 => .int
  | 31 => .int
  | 32 => .int
  | 33 => .array .int
  | 34 => .array .int
  | 35 => .array .int
  | 36 => .array .int
  | 37 => .array .int
  | 38 => .array .int
  | 39 => .array .boolean
  | 40 => .array .int
  | 41 => .array .int
  | 42 => .int
  | 43 => .array .int
  | 44 => .array .int
  | 45 => .array .int
  | 46 => .array .int
  | 47 => .array .int
  | 48 => .array .int
  | 49 => .array .int
  | 50 => .array .int
  | 51 => .int
  | 52 => .array .int
  | 53 => .array .int
  | 54 => .array .int
  | 55 => .int
  | 56 => .array .int
  | 57 => .boolean
  | 58 => .int
  | 59 => .int
  | 60 => .array .int
  | 61 => .array .int
  | _ => .array .int
abbrev wsX40 : List Cond := u_ws RX4 TX4 63
set_option maxRecDepth 100000 in
theorem nmX4 : ∀ a, a < 63 → ∀ b, b < 63 → a ≠ b → (TX4 a).2.1 ≠ (TX4 b).2.1 := by decide +kernel
set_option maxRecDepth 100000 in
theorem tyX4_ok : ∀ k, k < 63 → parseFieldDescriptor (TX4 k).2.2.1 = some (tyX4 k) := by decide +kernel
def RX5 : String := "HorizonSeam$Reader"
def TX5 : u_T := fun k => match k with
  | 0 => ("HorizonSeam$Reader", "size", "I", true)
  | 1 => ("HorizonSeam$Reader", "made", "LHorizonSeam$Ring;", true)
  | 2 => ("HorizonSeam$Reader", "begun", "LHorizonSeam$Line;", true)
  | 3 => ("HorizonSeam$Reader", "once", "[Ljava/lang/String;", true)
  | 4 => ("HorizonSeam$Reader", "names", "[Ljava/lang/String;", true)
  | 5 => ("HorizonSeam$Reader", "at", "I", false)
  | 6 => ("HorizonSeam$Reader", "token", "I", false)
  | 7 => ("HorizonSeam$Reader", "begins", "I", false)
  | 8 => ("HorizonSeam$Reader", "ends", "I", false)
  | 9 => ("HorizonSeam$Reader", "number", "I", false)
  | 10 => ("HorizonSeam$Reader", "done", "I", false)
  | 11 => ("HorizonSeam$Reader", "stretches", "I", false)
  | _ => ("HorizonSeam$Reader", "this$0", "LHorizonSeam;", true)
def tyX5 : Nat → FieldType := fun k => match k with
  | 0 => .int
  | 1 => .object "HorizonSeam$Ring"
  | 2 => .object "HorizonSeam$Line"
  | 3 => .array (.object "java/lang/String")
  | 4 => .array (.object "java/lang/String")
  | 5 => .int
  | 6 => .int
  | 7 => .int
  | 8 => .int
  | 9 => .int
  | 10 => .int
  | 11 => .int
  | _ => .object "HorizonSeam"
abbrev wsX50 : List Cond := u_ws RX5 TX5 13
set_option maxRecDepth 100000 in
theorem nmX5 : ∀ a, a < 13 → ∀ b, b < 13 → a ≠ b → (TX5 a).2.1 ≠ (TX5 b).2.1 := by decide +kernel
set_option maxRecDepth 100000 in
theorem tyX5_ok : ∀ k, k < 13 → parseFieldDescriptor (TX5 k).2.2.1 = some (tyX5 k) := by decide +kernel
def RX6 : String := "HorizonSeam$Wrong"
def TX6 : u_T := fun k => match k with
  | 0 => ("java/lang/Throwable", "cause", "Ljava/lang/Throwable;", false)
  | 1 => ("java/lang/Throwable", "stackTrace", "[Ljava/lang/StackTraceElement;", false)
  | 2 => ("java/lang/Throwable", "suppressedExceptions", "Ljava/util/List;", false)
  | 3 => ("java/lang/Throwable", "detailMessage", "Ljava/lang/String;", false)
  | 4 => ("java/lang/Throwable", "backtrace", "Ljava/lang/Object;", false)
  | 5 => ("java/lang/Throwable", "depth", "I", false)
  | _ => ("HorizonSeam$Wrong", "kind", "I", true)
def tyX6 : Nat → FieldType := fun k => match k with
  | 0 => .object "java/lang/Throwable"
  | 1 => .array (.object "java/lang/StackTraceElement")
  | 2 => .object "java/util/List"
  | 3 => .object "java/lang/String"
  | 4 => .object "java/lang/Object"
  | 5 => .int
  | _ => .int
abbrev wsX60 : List Cond := u_ws RX6 TX6 7
theorem nmX6 : ∀ a, a < 7 → ∀ b, b < 7 → a ≠ b → (TX6 a).2.1 ≠ (TX6 b).2.1 := by decide +kernel
theorem tyX6_ok : ∀ k, k < 7 → parseFieldDescriptor (TX6 k).2.2.1 = some (tyX6 k) := by decide +kernel
def RX7 : String := "HorizonSeam$Chain"
def TX7 : u_T := fun k => match k with
  | 0 => ("HorizonSeam$Chain", "forms", "Ljava/util/List;", true)
  | _ => ("HorizonSeam$Chain", "signs", "Ljava/lang/StringBuilder;", true)
def tyX7 : Nat → FieldType := fun k => match k with
  | 0 => .object "java/util/List"
  | _ => .object "java/lang/StringBuilder"
abbrev wsX70 : List Cond := u_ws RX7 TX7 2
theorem nmX7 : ∀ a, a < 2 → ∀ b, b < 2 → a ≠ b → (TX7 a).2.1 ≠ (TX7 b).2.1 := by decide +kernel
theorem tyX7_ok : ∀ k, k < 2 → parseFieldDescriptor (TX7 k).2.2.1 = some (tyX7 k) := by decide +kernel
def RX8 : String := "HorizonSeam$Number"
def TX8 : u_T := fun k => match k with
  | _ => ("HorizonSeam$Number", "value", "I", true)
def tyX8 : Nat → FieldType := fun k => match k with
  | _ => .int
abbrev wsX80 : List Cond := u_ws RX8 TX8 1
theorem nmX8 : ∀ a, a < 1 → ∀ b, b < 1 → a ≠ b → (TX8 a).2.1 ≠ (TX8 b).2.1 := by decide +kernel
theorem tyX8_ok : ∀ k, k < 1 → parseFieldDescriptor (TX8 k).2.2.1 = some (tyX8 k) := by decide +kernel
def RX9 : String := "HorizonSeam$Value"
def TX9 : u_T := fun k => match k with
  | _ => ("HorizonSeam$Value", "which", "I", true)
def tyX9 : Nat → FieldType := fun k => match k with
  | _ => .int
abbrev wsX90 : List Cond := u_ws RX9 TX9 1
theorem nmX9 : ∀ a, a < 1 → ∀ b, b < 1 → a ≠ b → (TX9 a).2.1 ≠ (TX9 b).2.1 := by decide +kernel
theorem tyX9_ok : ∀ k, k < 1 → parseFieldDescriptor (TX9 k).2.2.1 = some (tyX9 k) := by decide +kernel
def RX10 : String := "HorizonSeam$Not"
def TX10 : u_T := fun k => match k with
  | _ => ("HorizonSeam$Not", "form", "LHorizonSeam$Form;", true)
def tyX10 : Nat → FieldType := fun k => match k with
  | _ => .object "HorizonSeam$Form"
abbrev wsX100 : List Cond := u_ws RX10 TX10 1
theorem nmX10 : ∀ a, a < 1 → ∀ b, b < 1 → a ≠ b → (TX10 a).2.1 ≠ (TX10 b).2.1 := by decide +kernel
theorem tyX10_ok : ∀ k, k < 1 → parseFieldDescriptor (TX10 k).2.2.1 = some (tyX10 k) := by decide +kernel
def RJ0 : String := "java/util/AbstractCollection"
def RJ1 : String := "java/util/AbstractList"
def RJ2 : String := "java/util/ArrayList"
def TJ2 : u_T := fun k => match k with
  | 0 => ("java/util/AbstractList", "modCount", "I", false)
  | 1 => ("java/util/ArrayList", "elementData", "[Ljava/lang/Object;", false)
  | _ => ("java/util/ArrayList", "size", "I", false)
def tyJ2 : Nat → FieldType := fun k => match k with
  | 0 => .int
  | 1 => .array (.object "java/lang/Object")
  | _ => .int
abbrev wsJ20 : List Cond := u_ws RJ2 TJ2 3
theorem nmJ2 : ∀ a, a < 3 → ∀ b, b < 3 → a ≠ b → (TJ2 a).2.1 ≠ (TJ2 b).2.1 := by decide +kernel
theorem tyJ2_ok : ∀ k, k < 3 → parseFieldDescriptor (TJ2 k).2.2.1 = some (tyJ2 k) := by decide +kernel
def RJ3 : String := "java/lang/Throwable"
def TJ3 : u_T := fun k => match k with
  | 0 => ("java/lang/Throwable", "cause", "Ljava/lang/Throwable;", false)
  | 1 => ("java/lang/Throwable", "stackTrace", "[Ljava/lang/StackTraceElement;", false)
  | 2 => ("java/lang/Throwable", "suppressedExceptions", "Ljava/util/List;", false)
  | 3 => ("java/lang/Throwable", "detailMessage", "Ljava/lang/String;", false)
  | _ => ("java/lang/Throwable", "backtrace", "Ljava/lang/Object;", false)
def tyJ3 : Nat → FieldType := fun k => match k with
  | 0 => .object "java/lang/Throwable"
  | 1 => .array (.object "java/lang/StackTraceElement")
  | 2 => .object "java/util/List"
  | 3 => .object "java/lang/String"
  | _ => .object "java/lang/Object"
abbrev wsJ30 : List Cond := u_ws RJ3 TJ3 5
theorem nmJ3 : ∀ a, a < 5 → ∀ b, b < 5 → a ≠ b → (TJ3 a).2.1 ≠ (TJ3 b).2.1 := by decide +kernel
theorem tyJ3_ok : ∀ k, k < 5 → parseFieldDescriptor (TJ3 k).2.2.1 = some (tyJ3 k) := by decide +kernel
def RJ4 : String := "java/lang/Exception"
def RJ5 : String := "java/lang/RuntimeException"
def RJ6 : String := "java/lang/IllegalArgumentException"
def TJ6 : u_T := fun k => match k with
  | 0 => ("java/lang/Throwable", "cause", "Ljava/lang/Throwable;", false)
  | 1 => ("java/lang/Throwable", "stackTrace", "[Ljava/lang/StackTraceElement;", false)
  | 2 => ("java/lang/Throwable", "suppressedExceptions", "Ljava/util/List;", false)
  | 3 => ("java/lang/Throwable", "detailMessage", "Ljava/lang/String;", false)
  | 4 => ("java/lang/Throwable", "backtrace", "Ljava/lang/Object;", false)
  | _ => ("java/lang/Throwable", "depth", "I", false)
def tyJ6 : Nat → FieldType := fun k => match k with
  | 0 => .object "java/lang/Throwable"
  | 1 => .array (.object "java/lang/StackTraceElement")
  | 2 => .object "java/util/List"
  | 3 => .object "java/lang/String"
  | 4 => .object "java/lang/Object"
  | _ => .int
abbrev wsJ60 : List Cond := u_ws RJ6 TJ6 6
theorem nmJ6 : ∀ a, a < 6 → ∀ b, b < 6 → a ≠ b → (TJ6 a).2.1 ≠ (TJ6 b).2.1 := by decide +kernel
theorem tyJ6_ok : ∀ k, k < 6 → parseFieldDescriptor (TJ6 k).2.2.1 = some (tyJ6 k) := by decide +kernel
def RJ7 : String := "java/lang/Math"
def RJ8 : String := "java/lang/String"
def TJ8 : u_T := fun k => match k with
  | 0 => ("java/lang/String", "value", "[B", true)
  | 1 => ("java/lang/String", "coder", "B", true)
  | 2 => ("java/lang/String", "hash", "I", false)
  | _ => ("java/lang/String", "hashIsZero", "Z", false)
def tyJ8 : Nat → FieldType := fun k => match k with
  | 0 => .array .byte
  | 1 => .byte
  | 2 => .int
  | _ => .boolean
abbrev wsJ80 : List Cond := u_ws RJ8 TJ8 4
theorem nmJ8 : ∀ a, a < 4 → ∀ b, b < 4 → a ≠ b → (TJ8 a).2.1 ≠ (TJ8 b).2.1 := by decide +kernel
theorem tyJ8_ok : ∀ k, k < 4 → parseFieldDescriptor (TJ8 k).2.2.1 = some (tyJ8 k) := by decide +kernel
def RJ9 : String := "java/lang/StringLatin1"
def RJ10 : String := "java/lang/StringUTF16"
def RJ11 : String := "jdk/internal/util/Preconditions"
def RJ12 : String := "java/lang/Character"
def RJ13 : String := "java/lang/AbstractStringBuilder"
def RJ14 : String := "java/lang/StringBuilder"
def TJ14 : u_T := fun k => match k with
  | 0 => ("java/lang/AbstractStringBuilder", "value", "[B", false)
  | 1 => ("java/lang/AbstractStringBuilder", "coder", "B", false)
  | 2 => ("java/lang/AbstractStringBuilder", "maybeLatin1", "Z", false)
  | _ => ("java/lang/AbstractStringBuilder", "count", "I", false)
def tyJ14 : Nat → FieldType := fun k => match k with
  | 0 => .array .byte
  | 1 => .byte
  | 2 => .boolean
  | _ => .int
abbrev wsJ140 : List Cond := u_ws RJ14 TJ14 4
theorem nmJ14 : ∀ a, a < 4 → ∀ b, b < 4 → a ≠ b → (TJ14 a).2.1 ≠ (TJ14 b).2.1 := by decide +kernel
theorem tyJ14_ok : ∀ k, k < 4 → parseFieldDescriptor (TJ14 k).2.2.1 = some (tyJ14 k) := by decide +kernel
def RJ15 : String := "jdk/internal/util/ArraysSupport"
def RJ16 : String := "java/util/Arrays"
def RJ17 : String := "java/lang/Number"
def RJ18 : String := "java/lang/Integer"
def TJ18 : u_T := fun k => match k with
  | _ => ("java/lang/Integer", "value", "I", true)
def tyJ18 : Nat → FieldType := fun k => match k with
  | _ => .int
abbrev wsJ180 : List Cond := u_ws RJ18 TJ18 1
theorem nmJ18 : ∀ a, a < 1 → ∀ b, b < 1 → a ≠ b → (TJ18 a).2.1 ≠ (TJ18 b).2.1 := by decide +kernel
theorem tyJ18_ok : ∀ k, k < 1 → parseFieldDescriptor (TJ18 k).2.2.1 = some (tyJ18 k) := by decide +kernel
def RJ19 : String := "java/util/Objects"
def RJ20 : String := "java/util/NoSuchElementException"
def TJ20 : u_T := fun k => match k with
  | 0 => ("java/lang/Throwable", "cause", "Ljava/lang/Throwable;", false)
  | 1 => ("java/lang/Throwable", "stackTrace", "[Ljava/lang/StackTraceElement;", false)
  | 2 => ("java/lang/Throwable", "suppressedExceptions", "Ljava/util/List;", false)
  | 3 => ("java/lang/Throwable", "detailMessage", "Ljava/lang/String;", false)
  | 4 => ("java/lang/Throwable", "backtrace", "Ljava/lang/Object;", false)
  | _ => ("java/lang/Throwable", "depth", "I", false)
def tyJ20 : Nat → FieldType := fun k => match k with
  | 0 => .object "java/lang/Throwable"
  | 1 => .array (.object "java/lang/StackTraceElement")
  | 2 => .object "java/util/List"
  | 3 => .object "java/lang/String"
  | 4 => .object "java/lang/Object"
  | _ => .int
abbrev wsJ200 : List Cond := u_ws RJ20 TJ20 6
theorem nmJ20 : ∀ a, a < 6 → ∀ b, b < 6 → a ≠ b → (TJ20 a).2.1 ≠ (TJ20 b).2.1 := by decide +kernel
theorem tyJ20_ok : ∀ k, k < 6 → parseFieldDescriptor (TJ20 k).2.2.1 = some (tyJ20 k) := by decide +kernel
def RJ21 : String := "jdk/internal/misc/Unsafe"
def RJ22 : String := "java/lang/Long"
def RJ23 : String := "java/lang/Object"
theorem in_X1 : ∀ w ∈ wsX10, w ∈ lw_all := lw_in wsX10 [284, 286, 288, 290, 292, 294, 296, 298, 300, 302, 304, 306, 308, 310, 312] (by decide +kernel) (by decide +kernel)
theorem in_X2 : ∀ w ∈ wsX20, w ∈ lw_all := lw_in wsX20 [209, 211, 213, 215, 217, 219] (by decide +kernel) (by decide +kernel)
theorem in_X3 : ∀ w ∈ wsX30, w ∈ lw_all := lw_in wsX30 [247, 249, 251, 253, 255, 257, 259, 261] (by decide +kernel) (by decide +kernel)
theorem in_X4 : ∀ w ∈ wsX40, w ∈ lw_all := lw_in wsX40 [1906, 1908, 1910, 1912, 1914, 1916, 1918, 1920, 1922, 1924, 1926, 1928, 1930, 1932, 1934, 1936, 1938, 1940, 1942, 1944, 1946, 1948, 1950, 1952, 1954, 1956, 1958, 1960, 1962, 1964, 1966, 1968, 1970, 1972, 1974, 1976, 1978, 1980, 1982, 1984, 1986, 1988, 1990, 1992, 1994, 1996, 1998, 2000, 2002, 2004, 2006, 2008, 2010, 2012, 2014, 2016, 2018, 2020, 2022, 2024, 2026, 2028, 2030] (by decide +kernel) (by decide +kernel)
theorem in_X5 : ∀ w ∈ wsX50, w ∈ lw_all := lw_in wsX50 [803, 805, 807, 809, 811, 813, 815, 817, 819, 821, 823, 825, 827] (by decide +kernel) (by decide +kernel)
theorem in_X6 : ∀ w ∈ wsX60, w ∈ lw_all := lw_in wsX60 [966, 967, 968, 969, 970, 984, 982] (by decide +kernel) (by decide +kernel)
theorem in_X7 : ∀ w ∈ wsX70, w ∈ lw_all := lw_in wsX70 [1297, 1299] (by decide +kernel) (by decide +kernel)
theorem in_X8 : ∀ w ∈ wsX80, w ∈ lw_all := lw_in wsX80 [1272] (by decide +kernel) (by decide +kernel)
theorem in_X9 : ∀ w ∈ wsX90, w ∈ lw_all := lw_in wsX90 [1282] (by decide +kernel) (by decide +kernel)
theorem in_X10 : ∀ w ∈ wsX100, w ∈ lw_all := lw_in wsX100 [1322] (by decide +kernel) (by decide +kernel)
theorem in_J2 : ∀ w ∈ wsJ20, w ∈ lw_all := lw_in wsJ20 [186, 182, 184] (by decide +kernel) (by decide +kernel)
theorem in_J3 : ∀ w ∈ wsJ30, w ∈ lw_all := lw_in wsJ30 [714, 716, 718, 720, 722] (by decide +kernel) (by decide +kernel)
theorem in_J6 : ∀ w ∈ wsJ60, w ∈ lw_all := lw_in wsJ60 [713, 715, 717, 719, 721, 762] (by decide +kernel) (by decide +kernel)
theorem in_J8 : ∀ w ∈ wsJ80, w ∈ lw_all := lw_in wsJ80 [1209, 1211, 1213, 1215] (by decide +kernel) (by decide +kernel)
theorem in_J14 : ∀ w ∈ wsJ140, w ∈ lw_all := lw_in wsJ140 [1021, 1023, 1025, 1027] (by decide +kernel) (by decide +kernel)
theorem in_J18 : ∀ w ∈ wsJ180, w ∈ lw_all := lw_in wsJ180 [1359] (by decide +kernel) (by decide +kernel)
theorem in_J20 : ∀ w ∈ wsJ200, w ∈ lw_all := lw_in wsJ200 [1392, 1393, 1394, 1395, 1396, 1401] (by decide +kernel) (by decide +kernel)
