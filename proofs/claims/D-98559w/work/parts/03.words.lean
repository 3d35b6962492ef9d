set_option maxRecDepth 100000
/-! HungFacesLaw -/
def RX0 : String := "HungFacesLaw"
/-! HungFaces -/
def RX1 : String := "HungFaces"
def TX1 : u_T := fun k => match k with
  | 0 => ("HungFaces", "world", "LHungFaces$World;", true)
  | 1 => ("HungFaces", "draft", "LHungFaces$World;", true)
  | 2 => ("HungFaces", "image", "LHungFaces$World;", true)
  | 3 => ("HungFaces", "hasImage", "Z", false)
  | 4 => ("HungFaces", "reader", "LHungFaces$Reader;", true)
  | 5 => ("HungFaces", "scene", "LHungFaces$Scene;", true)
  | 6 => ("HungFaces", "kept", "Ljava/util/ArrayList;", true)
  | 7 => ("HungFaces", "trade", "LHungFaces$Trade;", true)
  | 8 => ("HungFaces", "owners", "LHungFaces$Owners;", true)
  | 9 => ("HungFaces", "queue", "LHungFaces$Queue;", true)
  | _ => ("HungFaces", "trial", "LHungFaces$World;", true)
def tyX1 : Nat → FieldType := fun k => match k with
  | 0 => .object "HungFaces$World"
  | 1 => .object "HungFaces$World"
  | 2 => .object "HungFaces$World"
  | 3 => .boolean
  | 4 => .object "HungFaces$Reader"
  | 5 => .object "HungFaces$Scene"
  | 6 => .object "java/util/ArrayList"
  | 7 => .object "HungFaces$Trade"
  | 8 => .object "HungFaces$Owners"
  | 9 => .object "HungFaces$Queue"
  | _ => .object "HungFaces$World"
abbrev wsX10 : List Cond := u_ws RX1 TX1 11
theorem nmX1 : ∀ a, a < 11 → ∀ b, b < 11 → a ≠ b → (TX1 a).2.1 ≠ (TX1 b).2.1 := by decide +kernel
theorem tyX1_ok : ∀ k, k < 11 → parseFieldDescriptor (TX1 k).2.2.1 = some (tyX1 k) := by decide +kernel
/-! HungFaces$World -/
def RX2 : String := "HungFaces$World"
def TX2 : u_T := fun k => match k with
  | 0 => ("HungFaces$World", "texts", "I", false)
  | 1 => ("HungFaces$World", "people", "I", false)
  | 2 => ("HungFaces$World", "hooks", "I", false)
  | 3 => ("HungFaces$World", "hour", "I", false)
  | 4 => ("HungFaces$World", "mix", "I", false)
  | 5 => ("HungFaces$World", "thief", "I", false)
  | 6 => ("HungFaces$World", "logged", "I", false)
  | 7 => ("HungFaces$World", "seed", "I", false)
  | 8 => ("HungFaces$World", "face", "[I", true)
  | 9 => ("HungFaces$World", "mask", "[I", true)
  | 10 => ("HungFaces$World", "wears", "[I", true)
  | 11 => ("HungFaces$World", "ticket", "[I", true)
  | 12 => ("HungFaces$World", "spouse", "[I", true)
  | 13 => ("HungFaces$World", "knows", "[I", true)
  | 14 => ("HungFaces$World", "thinks", "[I", true)
  | 15 => ("HungFaces$World", "wishes", "[I", true)
  | 16 => ("HungFaces$World", "told", "[I", true)
  | 17 => ("HungFaces$World", "hook", "[I", true)
  | 18 => ("HungFaces$World", "log", "[I", true)
  | _ => ("HungFaces$World", "law", "LHungFaces$Law;", false)
def tyX2 : Nat → FieldType := fun k => match k with
  | 0 => .int
  | 1 => .int
  | 2 => .int
  | 3 => .int
  | 4 => .int
  | 5 => .int
  | 6 => .int
  | 7 => .int
  | 8 => .array .int
  | 9 => .array .int
  | 10 => .array .int
  | 11 => .array .int
  | 12 => .array .int
  | 13 => .array .int
  | 14 => .array .int
  | 15 => .array .int
  | 16 => .array .int
  | 17 => .array .int
  | 18 => .array .int
  | _ => .object "HungFaces$Law"
abbrev wsX20 : List Cond := u_ws RX2 TX2 20
set_option maxRecDepth 100000 in
theorem nmX2 : ∀ a, a < 20 → ∀ b, b < 20 → a ≠ b → (TX2 a).2.1 ≠ (TX2 b).2.1 := by decide +kernel
set_option maxRecDepth 100000 in
theorem tyX2_ok : ∀ k, k < 20 → parseFieldDescriptor (TX2 k).2.2.1 = some (tyX2 k) := by decide +kernel
/-! java/util/Arrays -/
def RJ0 : String := "java/util/Arrays"
/-! HungFaces$Reader -/
def RX3 : String := "HungFaces$Reader"
def TX3 : u_T := fun k => match k with
  | 0 => ("HungFaces$Reader", "tape", "[B", true)
  | 1 => ("HungFaces$Reader", "length", "I", false)
  | 2 => ("HungFaces$Reader", "end", "I", false)
  | 3 => ("HungFaces$Reader", "at", "I", false)
  | 4 => ("HungFaces$Reader", "begin", "I", false)
  | 5 => ("HungFaces$Reader", "fault", "I", false)
  | _ => ("HungFaces$Reader", "deep", "I", false)
def tyX3 : Nat → FieldType := fun k => match k with
  | 0 => .array .byte
  | 1 => .int
  | 2 => .int
  | 3 => .int
  | 4 => .int
  | 5 => .int
  | _ => .int
abbrev wsX30 : List Cond := u_ws RX3 TX3 7
theorem nmX3 : ∀ a, a < 7 → ∀ b, b < 7 → a ≠ b → (TX3 a).2.1 ≠ (TX3 b).2.1 := by decide +kernel
theorem tyX3_ok : ∀ k, k < 7 → parseFieldDescriptor (TX3 k).2.2.1 = some (tyX3 k) := by decide +kernel
/-! HungFaces$Scene -/
def RX4 : String := "HungFaces$Scene"
def TX4 : u_T := fun k => match k with
  | 0 => ("HungFaces$Scene", "who", "I", false)
  | 1 => ("HungFaces$Scene", "hour", "I", false)
  | 2 => ("HungFaces$Scene", "hook", "I", false)
  | 3 => ("HungFaces$Scene", "marks", "I", false)
  | 4 => ("HungFaces$Scene", "hung", "I", false)
  | 5 => ("HungFaces$Scene", "free", "I", false)
  | 6 => ("HungFaces$Scene", "own", "Z", false)
  | _ => ("HungFaces$Scene", "wed", "Z", false)
def tyX4 : Nat → FieldType := fun k => match k with
  | 0 => .int
  | 1 => .int
  | 2 => .int
  | 3 => .int
  | 4 => .int
  | 5 => .int
  | 6 => .boolean
  | _ => .boolean
abbrev wsX40 : List Cond := u_ws RX4 TX4 8
theorem nmX4 : ∀ a, a < 8 → ∀ b, b < 8 → a ≠ b → (TX4 a).2.1 ≠ (TX4 b).2.1 := by decide +kernel
theorem tyX4_ok : ∀ k, k < 8 → parseFieldDescriptor (TX4 k).2.2.1 = some (tyX4 k) := by decide +kernel
/-! java/util/AbstractCollection -/
def RJ1 : String := "java/util/AbstractCollection"
/-! java/util/AbstractList -/
def RJ2 : String := "java/util/AbstractList"
/-! java/util/ArrayList -/
def RJ3 : String := "java/util/ArrayList"
def TJ3 : u_T := fun k => match k with
  | 0 => ("java/util/AbstractList", "modCount", "I", false)
  | 1 => ("java/util/ArrayList", "elementData", "[Ljava/lang/Object;", false)
  | _ => ("java/util/ArrayList", "size", "I", false)
def tyJ3 : Nat → FieldType := fun k => match k with
  | 0 => .int
  | 1 => .array (.object "java/lang/Object")
  | _ => .int
abbrev wsJ30 : List Cond := u_ws RJ3 TJ3 3
theorem nmJ3 : ∀ a, a < 3 → ∀ b, b < 3 → a ≠ b → (TJ3 a).2.1 ≠ (TJ3 b).2.1 := by decide +kernel
theorem tyJ3_ok : ∀ k, k < 3 → parseFieldDescriptor (TJ3 k).2.2.1 = some (tyJ3 k) := by decide +kernel
/-! HungFaces$Trade -/
def RX5 : String := "HungFaces$Trade"
def TX5 : u_T := fun k => match k with
  | 0 => ("HungFaces$Trade", "gets", "[I", true)
  | 1 => ("HungFaces$Trade", "points", "[I", true)
  | 2 => ("HungFaces$Trade", "left", "I", false)
  | _ => ("HungFaces$Trade", "this$0", "LHungFaces;", true)
def tyX5 : Nat → FieldType := fun k => match k with
  | 0 => .array .int
  | 1 => .array .int
  | 2 => .int
  | _ => .object "HungFaces"
abbrev wsX50 : List Cond := u_ws RX5 TX5 4
theorem nmX5 : ∀ a, a < 4 → ∀ b, b < 4 → a ≠ b → (TX5 a).2.1 ≠ (TX5 b).2.1 := by decide +kernel
theorem tyX5_ok : ∀ k, k < 4 → parseFieldDescriptor (TX5 k).2.2.1 = some (tyX5 k) := by decide +kernel
/-! HungFaces$Owners -/
def RX6 : String := "HungFaces$Owners"
def TX6 : u_T := fun k => match k with
  | 0 => ("HungFaces$Owners", "can", "[I", true)
  | 1 => ("HungFaces$Owners", "ways", "[I", true)
  | _ => ("HungFaces$Owners", "this$0", "LHungFaces;", true)
def tyX6 : Nat → FieldType := fun k => match k with
  | 0 => .array .int
  | 1 => .array .int
  | _ => .object "HungFaces"
abbrev wsX60 : List Cond := u_ws RX6 TX6 3
theorem nmX6 : ∀ a, a < 3 → ∀ b, b < 3 → a ≠ b → (TX6 a).2.1 ≠ (TX6 b).2.1 := by decide +kernel
theorem tyX6_ok : ∀ k, k < 3 → parseFieldDescriptor (TX6 k).2.2.1 = some (tyX6 k) := by decide +kernel
/-! HungFaces$Queue -/
def RX7 : String := "HungFaces$Queue"
def TX7 : u_T := fun k => match k with
  | 0 => ("HungFaces$Queue", "who", "[I", true)
  | 1 => ("HungFaces$Queue", "least", "[I", true)
  | 2 => ("HungFaces$Queue", "many", "I", false)
  | _ => ("HungFaces$Queue", "this$0", "LHungFaces;", true)
def tyX7 : Nat → FieldType := fun k => match k with
  | 0 => .array .int
  | 1 => .array .int
  | 2 => .int
  | _ => .object "HungFaces"
abbrev wsX70 : List Cond := u_ws RX7 TX7 4
theorem nmX7 : ∀ a, a < 4 → ∀ b, b < 4 → a ≠ b → (TX7 a).2.1 ≠ (TX7 b).2.1 := by decide +kernel
theorem tyX7_ok : ∀ k, k < 4 → parseFieldDescriptor (TX7 k).2.2.1 = some (tyX7 k) := by decide +kernel
/-! HungFacesModel -/
def RX8 : String := "HungFacesModel"
def TX8 : u_T := fun k => match k with
  | 0 => ("HungFacesModel", "thrown", "I", false)
  | 1 => ("HungFacesModel", "m", "[I", true)
  | 2 => ("HungFacesModel", "kept", "[I", true)
  | 3 => ("HungFacesModel", "hasImage", "Z", false)
  | 4 => ("HungFacesModel", "aside", "[I", true)
  | 5 => ("HungFacesModel", "acts", "[I", true)
  | 6 => ("HungFacesModel", "acted", "I", false)
  | 7 => ("HungFacesModel", "tape", "[I", true)
  | 8 => ("HungFacesModel", "taped", "I", false)
  | 9 => ("HungFacesModel", "base", "I", false)
  | 10 => ("HungFacesModel", "end", "I", false)
  | 11 => ("HungFacesModel", "at", "I", false)
  | 12 => ("HungFacesModel", "fault", "I", false)
  | 13 => ("HungFacesModel", "deep", "I", false)
  | 14 => ("HungFacesModel", "fact", "[I", true)
  | 15 => ("HungFacesModel", "isOwn", "Z", false)
  | 16 => ("HungFacesModel", "isWed", "Z", false)
  | 17 => ("HungFacesModel", "hands", "Z", false)
  | 18 => ("HungFacesModel", "fetches", "Z", false)
  | 19 => ("HungFacesModel", "said", "[I", true)
  | 20 => ("HungFacesModel", "saidMany", "I", false)
  | 21 => ("HungFacesModel", "may", "[I", true)
  | 22 => ("HungFacesModel", "owns", "[I", true)
  | 23 => ("HungFacesModel", "gets", "[I", true)
  | 24 => ("HungFacesModel", "least", "[I", true)
  | _ => ("HungFacesModel", "far", "[I", true)
def tyX8 : Nat → FieldType := fun k => match k with
  | 0 => .int
  | 1 => .array .int
  | 2 => .array .int
  | 3 => .boolean
  | 4 => .array .int
  | 5 => .array .int
  | 6 => .int
  | 7 => .array .int
  | 8 => .int
  | 9 => .int
  | 10 => .int
  | 11 => .int
  | 12 => .int
  | 13 => .int
  | 14 => .array .int
  | 15 => .boolean
  | 16 => .boolean
  | 17 => .boolean
  | 18 => .boolean
  | 19 => .array .int
  | 20 => .int
  | 21 => .array .int
  | 22 => .array .int
  | 23 => .array .int
  | 24 => .array .int
  | _ => .array .int
abbrev wsX80 : List Cond := u_ws RX8 TX8 26
set_option maxRecDepth 100000 in
theorem nmX8 : ∀ a, a < 26 → ∀ b, b < 26 → a ≠ b → (TX8 a).2.1 ≠ (TX8 b).2.1 := by decide +kernel
set_option maxRecDepth 100000 in
theorem tyX8_ok : ∀ k, k < 26 → parseFieldDescriptor (TX8 k).2.2.1 = some (tyX8 k) := by decide +kernel
/-! java/lang/AbstractStringBuilder -/
def RJ4 : String := "java/lang/AbstractStringBuilder"
/-! java/lang/StringBuilder -/
def RJ5 : String := "java/lang/StringBuilder"
def TJ5 : u_T := fun k => match k with
  | 0 => ("java/lang/AbstractStringBuilder", "value", "[B", false)
  | 1 => ("java/lang/AbstractStringBuilder", "coder", "B", false)
  | 2 => ("java/lang/AbstractStringBuilder", "maybeLatin1", "Z", false)
  | _ => ("java/lang/AbstractStringBuilder", "count", "I", false)
def tyJ5 : Nat → FieldType := fun k => match k with
  | 0 => .array .byte
  | 1 => .byte
  | 2 => .boolean
  | _ => .int
abbrev wsJ50 : List Cond := u_ws RJ5 TJ5 4
theorem nmJ5 : ∀ a, a < 4 → ∀ b, b < 4 → a ≠ b → (TJ5 a).2.1 ≠ (TJ5 b).2.1 := by decide +kernel
theorem tyJ5_ok : ∀ k, k < 4 → parseFieldDescriptor (TJ5 k).2.2.1 = some (tyJ5 k) := by decide +kernel
/-! java/lang/String -/
def RJ6 : String := "java/lang/String"
def TJ6 : u_T := fun k => match k with
  | 0 => ("java/lang/String", "value", "[B", true)
  | 1 => ("java/lang/String", "coder", "B", true)
  | 2 => ("java/lang/String", "hash", "I", false)
  | _ => ("java/lang/String", "hashIsZero", "Z", false)
def tyJ6 : Nat → FieldType := fun k => match k with
  | 0 => .array .byte
  | 1 => .byte
  | 2 => .int
  | _ => .boolean
abbrev wsJ60 : List Cond := u_ws RJ6 TJ6 4
theorem nmJ6 : ∀ a, a < 4 → ∀ b, b < 4 → a ≠ b → (TJ6 a).2.1 ≠ (TJ6 b).2.1 := by decide +kernel
theorem tyJ6_ok : ∀ k, k < 4 → parseFieldDescriptor (TJ6 k).2.2.1 = some (tyJ6 k) := by decide +kernel
/-! java/lang/StringUTF16 -/
def RJ7 : String := "java/lang/StringUTF16"
/-! jdk/internal/util/ArraysSupport -/
def RJ8 : String := "jdk/internal/util/ArraysSupport"
/-! java/lang/Math -/
def RJ9 : String := "java/lang/Math"
/-! java/lang/StringLatin1 -/
def RJ10 : String := "java/lang/StringLatin1"
/-! jdk/internal/util/Preconditions -/
def RJ11 : String := "jdk/internal/util/Preconditions"
/-! java/lang/Throwable -/
def RJ12 : String := "java/lang/Throwable"
def TJ12 : u_T := fun k => match k with
  | 0 => ("java/lang/Throwable", "cause", "Ljava/lang/Throwable;", false)
  | 1 => ("java/lang/Throwable", "stackTrace", "[Ljava/lang/StackTraceElement;", false)
  | 2 => ("java/lang/Throwable", "suppressedExceptions", "Ljava/util/List;", false)
  | 3 => ("java/lang/Throwable", "detailMessage", "Ljava/lang/String;", false)
  | _ => ("java/lang/Throwable", "backtrace", "Ljava/lang/Object;", false)
def tyJ12 : Nat → FieldType := fun k => match k with
  | 0 => .object "java/lang/Throwable"
  | 1 => .array (.object "java/lang/StackTraceElement")
  | 2 => .object "java/util/List"
  | 3 => .object "java/lang/String"
  | _ => .object "java/lang/Object"
abbrev wsJ120 : List Cond := u_ws RJ12 TJ12 5
theorem nmJ12 : ∀ a, a < 5 → ∀ b, b < 5 → a ≠ b → (TJ12 a).2.1 ≠ (TJ12 b).2.1 := by decide +kernel
theorem tyJ12_ok : ∀ k, k < 5 → parseFieldDescriptor (TJ12 k).2.2.1 = some (tyJ12 k) := by decide +kernel
/-! java/lang/Exception -/
def RJ13 : String := "java/lang/Exception"
/-! java/lang/RuntimeException -/
def RJ14 : String := "java/lang/RuntimeException"
/-! java/lang/IllegalArgumentException -/
def RJ15 : String := "java/lang/IllegalArgumentException"
def TJ15 : u_T := fun k => match k with
  | 0 => ("java/lang/Throwable", "cause", "Ljava/lang/Throwable;", false)
  | 1 => ("java/lang/Throwable", "stackTrace", "[Ljava/lang/StackTraceElement;", false)
  | 2 => ("java/lang/Throwable", "suppressedExceptions", "Ljava/util/List;", false)
  | 3 => ("java/lang/Throwable", "detailMessage", "Ljava/lang/String;", false)
  | 4 => ("java/lang/Throwable", "backtrace", "Ljava/lang/Object;", false)
  | _ => ("java/lang/Throwable", "depth", "I", false)
def tyJ15 : Nat → FieldType := fun k => match k with
  | 0 => .object "java/lang/Throwable"
  | 1 => .array (.object "java/lang/StackTraceElement")
  | 2 => .object "java/util/List"
  | 3 => .object "java/lang/String"
  | 4 => .object "java/lang/Object"
  | _ => .int
abbrev wsJ150 : List Cond := u_ws RJ15 TJ15 6
theorem nmJ15 : ∀ a, a < 6 → ∀ b, b < 6 → a ≠ b → (TJ15 a).2.1 ≠ (TJ15 b).2.1 := by decide +kernel
theorem tyJ15_ok : ∀ k, k < 6 → parseFieldDescriptor (TJ15 k).2.2.1 = some (tyJ15 k) := by decide +kernel
/-! java/lang/Integer -/
def RJ16 : String := "java/lang/Integer"
/-! HungFaces$Wrong -/
def RX9 : String := "HungFaces$Wrong"
def TX9 : u_T := fun k => match k with
  | 0 => ("java/lang/Throwable", "cause", "Ljava/lang/Throwable;", false)
  | 1 => ("java/lang/Throwable", "stackTrace", "[Ljava/lang/StackTraceElement;", false)
  | 2 => ("java/lang/Throwable", "suppressedExceptions", "Ljava/util/List;", false)
  | 3 => ("java/lang/Throwable", "detailMessage", "Ljava/lang/String;", false)
  | 4 => ("java/lang/Throwable", "backtrace", "Ljava/lang/Object;", false)
  | _ => ("java/lang/Throwable", "depth", "I", false)
def tyX9 : Nat → FieldType := fun k => match k with
  | 0 => .object "java/lang/Throwable"
  | 1 => .array (.object "java/lang/StackTraceElement")
  | 2 => .object "java/util/List"
  | 3 => .object "java/lang/String"
  | 4 => .object "java/lang/Object"
  | _ => .int
abbrev wsX90 : List Cond := u_ws RX9 TX9 6
theorem nmX9 : ∀ a, a < 6 → ∀ b, b < 6 → a ≠ b → (TX9 a).2.1 ≠ (TX9 b).2.1 := by decide +kernel
theorem tyX9_ok : ∀ k, k < 6 → parseFieldDescriptor (TX9 k).2.2.1 = some (tyX9 k) := by decide +kernel
/-! java/lang/UnsupportedOperationException -/
def RJ17 : String := "java/lang/UnsupportedOperationException"
def TJ17 : u_T := fun k => match k with
  | 0 => ("java/lang/Throwable", "cause", "Ljava/lang/Throwable;", false)
  | 1 => ("java/lang/Throwable", "stackTrace", "[Ljava/lang/StackTraceElement;", false)
  | 2 => ("java/lang/Throwable", "suppressedExceptions", "Ljava/util/List;", false)
  | 3 => ("java/lang/Throwable", "detailMessage", "Ljava/lang/String;", false)
  | 4 => ("java/lang/Throwable", "backtrace", "Ljava/lang/Object;", false)
  | _ => ("java/lang/Throwable", "depth", "I", false)
def tyJ17 : Nat → FieldType := fun k => match k with
  | 0 => .object "java/lang/Throwable"
  | 1 => .array (.object "java/lang/StackTraceElement")
  | 2 => .object "java/util/List"
  | 3 => .object "java/lang/String"
  | 4 => .object "java/lang/Object"
  | _ => .int
abbrev wsJ170 : List Cond := u_ws RJ17 TJ17 6
theorem nmJ17 : ∀ a, a < 6 → ∀ b, b < 6 → a ≠ b → (TJ17 a).2.1 ≠ (TJ17 b).2.1 := by decide +kernel
theorem tyJ17_ok : ∀ k, k < 6 → parseFieldDescriptor (TJ17 k).2.2.1 = some (tyJ17 k) := by decide +kernel
/-! HungFaces$Law -/
def RX10 : String := "HungFaces$Law"
def TX10 : u_T := fun k => match k with
  | _ => ("HungFaces$Law", "lines", "Ljava/util/ArrayList;", true)
def tyX10 : Nat → FieldType := fun k => match k with
  | _ => .object "java/util/ArrayList"
abbrev wsX100 : List Cond := u_ws RX10 TX10 1
theorem nmX10 : ∀ a, a < 1 → ∀ b, b < 1 → a ≠ b → (TX10 a).2.1 ≠ (TX10 b).2.1 := by decide +kernel
theorem tyX10_ok : ∀ k, k < 1 → parseFieldDescriptor (TX10 k).2.2.1 = some (tyX10 k) := by decide +kernel
/-! HungFaces$Line -/
def RX11 : String := "HungFaces$Line"
def TX11 : u_T := fun k => match k with
  | 0 => ("HungFaces$Line", "hand", "Z", true)
  | _ => ("HungFaces$Line", "when", "LHungFaces$Cond;", true)
def tyX11 : Nat → FieldType := fun k => match k with
  | 0 => .boolean
  | _ => .object "HungFaces$Cond"
abbrev wsX110 : List Cond := u_ws RX11 TX11 2
theorem nmX11 : ∀ a, a < 2 → ∀ b, b < 2 → a ≠ b → (TX11 a).2.1 ≠ (TX11 b).2.1 := by decide +kernel
theorem tyX11_ok : ∀ k, k < 2 → parseFieldDescriptor (TX11 k).2.2.1 = some (tyX11 k) := by decide +kernel
/-! HungFaces$Row -/
def RX12 : String := "HungFaces$Row"
def TX12 : u_T := fun k => match k with
  | 0 => ("HungFaces$Row", "all", "Z", true)
  | _ => ("HungFaces$Row", "row", "Ljava/util/ArrayList;", true)
def tyX12 : Nat → FieldType := fun k => match k with
  | 0 => .boolean
  | _ => .object "java/util/ArrayList"
abbrev wsX120 : List Cond := u_ws RX12 TX12 2
theorem nmX12 : ∀ a, a < 2 → ∀ b, b < 2 → a ≠ b → (TX12 a).2.1 ≠ (TX12 b).2.1 := by decide +kernel
theorem tyX12_ok : ∀ k, k < 2 → parseFieldDescriptor (TX12 k).2.2.1 = some (tyX12 k) := by decide +kernel
/-! HungFaces$Not -/
def RX13 : String := "HungFaces$Not"
def TX13 : u_T := fun k => match k with
  | _ => ("HungFaces$Not", "a", "LHungFaces$Cond;", true)
def tyX13 : Nat → FieldType := fun k => match k with
  | _ => .object "HungFaces$Cond"
abbrev wsX130 : List Cond := u_ws RX13 TX13 1
theorem nmX13 : ∀ a, a < 1 → ∀ b, b < 1 → a ≠ b → (TX13 a).2.1 ≠ (TX13 b).2.1 := by decide +kernel
theorem tyX13_ok : ∀ k, k < 1 → parseFieldDescriptor (TX13 k).2.2.1 = some (tyX13 k) := by decide +kernel
/-! HungFaces$Tag -/
def RX14 : String := "HungFaces$Tag"
def TX14 : u_T := fun k => match k with
  | _ => ("HungFaces$Tag", "own", "Z", true)
def tyX14 : Nat → FieldType := fun k => match k with
  | _ => .boolean
abbrev wsX140 : List Cond := u_ws RX14 TX14 1
theorem nmX14 : ∀ a, a < 1 → ∀ b, b < 1 → a ≠ b → (TX14 a).2.1 ≠ (TX14 b).2.1 := by decide +kernel
theorem tyX14_ok : ∀ k, k < 1 → parseFieldDescriptor (TX14 k).2.2.1 = some (tyX14 k) := by decide +kernel
/-! HungFaces$Sum -/
def RX15 : String := "HungFaces$Sum"
def TX15 : u_T := fun k => match k with
  | _ => ("HungFaces$Sum", "parts", "Ljava/util/ArrayList;", true)
def tyX15 : Nat → FieldType := fun k => match k with
  | _ => .object "java/util/ArrayList"
abbrev wsX150 : List Cond := u_ws RX15 TX15 1
theorem nmX15 : ∀ a, a < 1 → ∀ b, b < 1 → a ≠ b → (TX15 a).2.1 ≠ (TX15 b).2.1 := by decide +kernel
theorem tyX15_ok : ∀ k, k < 1 → parseFieldDescriptor (TX15 k).2.2.1 = some (tyX15 k) := by decide +kernel
/-! HungFaces$Part -/
def RX16 : String := "HungFaces$Part"
def TX16 : u_T := fun k => match k with
  | 0 => ("HungFaces$Part", "n", "I", true)
  | _ => ("HungFaces$Part", "fact", "LHungFaces$Fact;", true)
def tyX16 : Nat → FieldType := fun k => match k with
  | 0 => .int
  | _ => .object "HungFaces$Fact"
abbrev wsX160 : List Cond := u_ws RX16 TX16 2
theorem nmX16 : ∀ a, a < 2 → ∀ b, b < 2 → a ≠ b → (TX16 a).2.1 ≠ (TX16 b).2.1 := by decide +kernel
theorem tyX16_ok : ∀ k, k < 2 → parseFieldDescriptor (TX16 k).2.2.1 = some (tyX16 k) := by decide +kernel
/-! java/lang/Enum -/
def RJ18 : String := "java/lang/Enum"
/-! HungFaces$Fact -/
def RX17 : String := "HungFaces$Fact"
/-! HungFaces$Less -/
def RX18 : String := "HungFaces$Less"
def TX18 : u_T := fun k => match k with
  | 0 => ("HungFaces$Less", "a", "LHungFaces$Sum;", true)
  | _ => ("HungFaces$Less", "b", "LHungFaces$Sum;", true)
def tyX18 : Nat → FieldType := fun k => match k with
  | 0 => .object "HungFaces$Sum"
  | _ => .object "HungFaces$Sum"
abbrev wsX180 : List Cond := u_ws RX18 TX18 2
theorem nmX18 : ∀ a, a < 2 → ∀ b, b < 2 → a ≠ b → (TX18 a).2.1 ≠ (TX18 b).2.1 := by decide +kernel
theorem tyX18_ok : ∀ k, k < 2 → parseFieldDescriptor (TX18 k).2.2.1 = some (tyX18 k) := by decide +kernel
/-! java/lang/IndexOutOfBoundsException -/
def RJ19 : String := "java/lang/IndexOutOfBoundsException"
def TJ19 : u_T := fun k => match k with
  | 0 => ("java/lang/Throwable", "cause", "Ljava/lang/Throwable;", false)
  | 1 => ("java/lang/Throwable", "stackTrace", "[Ljava/lang/StackTraceElement;", false)
  | 2 => ("java/lang/Throwable", "suppressedExceptions", "Ljava/util/List;", false)
  | 3 => ("java/lang/Throwable", "detailMessage", "Ljava/lang/String;", false)
  | 4 => ("java/lang/Throwable", "backtrace", "Ljava/lang/Object;", false)
  | _ => ("java/lang/Throwable", "depth", "I", false)
def tyJ19 : Nat → FieldType := fun k => match k with
  | 0 => .object "java/lang/Throwable"
  | 1 => .array (.object "java/lang/StackTraceElement")
  | 2 => .object "java/util/List"
  | 3 => .object "java/lang/String"
  | 4 => .object "java/lang/Object"
  | _ => .int
abbrev wsJ190 : List Cond := u_ws RJ19 TJ19 6
theorem nmJ19 : ∀ a, a < 6 → ∀ b, b < 6 → a ≠ b → (TJ19 a).2.1 ≠ (TJ19 b).2.1 := by decide +kernel
theorem tyJ19_ok : ∀ k, k < 6 → parseFieldDescriptor (TJ19 k).2.2.1 = some (tyJ19 k) := by decide +kernel
/-! java/lang/ArrayIndexOutOfBoundsException -/
def RJ20 : String := "java/lang/ArrayIndexOutOfBoundsException"
def TJ20 : u_T := fun k => match k with
  | 0 => ("java/lang/Throwable", "backtrace", "Ljava/lang/Object;", false)
  | 1 => ("java/lang/Throwable", "detailMessage", "Ljava/lang/String;", false)
  | 2 => ("java/lang/Throwable", "cause", "Ljava/lang/Throwable;", false)
  | 3 => ("java/lang/Throwable", "stackTrace", "[Ljava/lang/StackTraceElement;", false)
  | 4 => ("java/lang/Throwable", "depth", "I", false)
  | _ => ("java/lang/Throwable", "suppressedExceptions", "Ljava/util/List;", false)
def tyJ20 : Nat → FieldType := fun k => match k with
  | 0 => .object "java/lang/Object"
  | 1 => .object "java/lang/String"
  | 2 => .object "java/lang/Throwable"
  | 3 => .array (.object "java/lang/StackTraceElement")
  | 4 => .int
  | _ => .object "java/util/List"
abbrev wsJ200 : List Cond := u_ws RJ20 TJ20 6
theorem nmJ20 : ∀ a, a < 6 → ∀ b, b < 6 → a ≠ b → (TJ20 a).2.1 ≠ (TJ20 b).2.1 := by decide +kernel
theorem tyJ20_ok : ∀ k, k < 6 → parseFieldDescriptor (TJ20 k).2.2.1 = some (tyJ20 k) := by decide +kernel
/-! java/util/NoSuchElementException -/
def RJ21 : String := "java/util/NoSuchElementException"
def TJ21 : u_T := fun k => match k with
  | 0 => ("java/lang/Throwable", "cause", "Ljava/lang/Throwable;", false)
  | 1 => ("java/lang/Throwable", "stackTrace", "[Ljava/lang/StackTraceElement;", false)
  | 2 => ("java/lang/Throwable", "suppressedExceptions", "Ljava/util/List;", false)
  | 3 => ("java/lang/Throwable", "detailMessage", "Ljava/lang/String;", false)
  | 4 => ("java/lang/Throwable", "backtrace", "Ljava/lang/Object;", false)
  | _ => ("java/lang/Throwable", "depth", "I", false)
def tyJ21 : Nat → FieldType := fun k => match k with
  | 0 => .object "java/lang/Throwable"
  | 1 => .array (.object "java/lang/StackTraceElement")
  | 2 => .object "java/util/List"
  | 3 => .object "java/lang/String"
  | 4 => .object "java/lang/Object"
  | _ => .int
abbrev wsJ210 : List Cond := u_ws RJ21 TJ21 6
theorem nmJ21 : ∀ a, a < 6 → ∀ b, b < 6 → a ≠ b → (TJ21 a).2.1 ≠ (TJ21 b).2.1 := by decide +kernel
theorem tyJ21_ok : ∀ k, k < 6 → parseFieldDescriptor (TJ21 k).2.2.1 = some (tyJ21 k) := by decide +kernel
/-! java/lang/IllegalStateException -/
def RJ22 : String := "java/lang/IllegalStateException"
def TJ22 : u_T := fun k => match k with
  | 0 => ("java/lang/Throwable", "cause", "Ljava/lang/Throwable;", false)
  | 1 => ("java/lang/Throwable", "stackTrace", "[Ljava/lang/StackTraceElement;", false)
  | 2 => ("java/lang/Throwable", "suppressedExceptions", "Ljava/util/List;", false)
  | 3 => ("java/lang/Throwable", "detailMessage", "Ljava/lang/String;", false)
  | 4 => ("java/lang/Throwable", "backtrace", "Ljava/lang/Object;", false)
  | _ => ("java/lang/Throwable", "depth", "I", false)
def tyJ22 : Nat → FieldType := fun k => match k with
  | 0 => .object "java/lang/Throwable"
  | 1 => .array (.object "java/lang/StackTraceElement")
  | 2 => .object "java/util/List"
  | 3 => .object "java/lang/String"
  | 4 => .object "java/lang/Object"
  | _ => .int
abbrev wsJ220 : List Cond := u_ws RJ22 TJ22 6
theorem nmJ22 : ∀ a, a < 6 → ∀ b, b < 6 → a ≠ b → (TJ22 a).2.1 ≠ (TJ22 b).2.1 := by decide +kernel
theorem tyJ22_ok : ∀ k, k < 6 → parseFieldDescriptor (TJ22 k).2.2.1 = some (tyJ22 k) := by decide +kernel
/-! java/util/Objects -/
def RJ23 : String := "java/util/Objects"
/-! java/lang/Object -/
def RJ24 : String := "java/lang/Object"
/-! java/lang/System$2 -/
def RJ25 : String := "java/lang/System$2"
theorem q127 : (Jvm.Cond.initialized "HungFacesLaw") ∈ lw_all := lw_g (lw_at lw_m1 0 rfl) rfl
theorem q173 : (Jvm.Cond.classLink "HungFacesLaw" (8 : Nat) "HungFaces") ∈ lw_all := lw_g (lw_at lw_m1 46 rfl) rfl
theorem q175 : (Jvm.Cond.methodLink "HungFacesLaw" (118 : Nat) ({ cls := "HungFaces", name := "<init>", desc := "()V" } : Jvm.MethodName)) ∈ lw_all := lw_g (lw_at lw_m1 48 rfl) rfl
theorem q472 : (Jvm.Cond.methodLink "HungFacesLaw" (122 : Nat) ({ cls := "HungFaces", name := "feed", desc := "(IIIII)I" } : Jvm.MethodName)) ∈ lw_all := lw_g (lw_at lw_m2 105 rfl) rfl
theorem q480 : (Jvm.Cond.methodLink "HungFacesLaw" (127 : Nat) ({ cls := "HungFaces", name := "end", desc := "(I)Z" } : Jvm.MethodName)) ∈ lw_all := lw_g (lw_at lw_m2 113 rfl) rfl
theorem q488 : (Jvm.Cond.methodLink "HungFacesLaw" (143 : Nat) ({ cls := "HungFaces", name := "fault", desc := "()I" } : Jvm.MethodName)) ∈ lw_all := lw_g (lw_at lw_m2 121 rfl) rfl
theorem q492 : (Jvm.Cond.methodLink "HungFacesLaw" (192 : Nat) ({ cls := "HungFaces", name := "wrong", desc := "()I" } : Jvm.MethodName)) ∈ lw_all := lw_g (lw_at lw_m2 125 rfl) rfl
theorem q499 : (Jvm.Cond.methodLink "HungFacesLaw" (196 : Nat) ({ cls := "HungFaces", name := "lost", desc := "()I" } : Jvm.MethodName)) ∈ lw_all := lw_g (lw_at lw_m2 132 rfl) rfl
theorem q515 : (Jvm.Cond.methodLink "HungFacesLaw" (200 : Nat) ({ cls := "HungFaces", name := "unclaimed", desc := "()I" } : Jvm.MethodName)) ∈ lw_all := lw_g (lw_at lw_m2 148 rfl) rfl
theorem q523 : (Jvm.Cond.methodLink "HungFacesLaw" (204 : Nat) ({ cls := "HungFaces", name := "swaps", desc := "()I" } : Jvm.MethodName)) ∈ lw_all := lw_g (lw_at lw_m2 156 rfl) rfl
theorem q552 : (Jvm.Cond.methodLink "HungFacesLaw" (208 : Nat) ({ cls := "HungFaces", name := "saved", desc := "()I" } : Jvm.MethodName)) ∈ lw_all := lw_g (lw_at lw_m2 185 rfl) rfl
theorem q556 : (Jvm.Cond.methodLink "HungFacesLaw" (212 : Nat) ({ cls := "HungFaces", name := "marks", desc := "()I" } : Jvm.MethodName)) ∈ lw_all := lw_g (lw_at lw_m2 189 rfl) rfl
theorem q564 : (Jvm.Cond.methodLink "HungFacesLaw" (216 : Nat) ({ cls := "HungFaces", name := "unknown", desc := "()I" } : Jvm.MethodName)) ∈ lw_all := lw_g (lw_at lw_m2 197 rfl) rfl
theorem q568 : (Jvm.Cond.methodLink "HungFacesLaw" (226 : Nat) ({ cls := "HungFaces", name := "gains", desc := "()I" } : Jvm.MethodName)) ∈ lw_all := lw_g (lw_at lw_m2 201 rfl) rfl
theorem q588 : (Jvm.Cond.methodLink "HungFacesLaw" (242 : Nat) ({ cls := "HungFaces", name := "queue", desc := "(I)I" } : Jvm.MethodName)) ∈ lw_all := lw_g (lw_at lw_m2 221 rfl) rfl
theorem q632 : (Jvm.Cond.methodLink "HungFacesLaw" (255 : Nat) ({ cls := "HungFaces", name := "row", desc := "(Z)I" } : Jvm.MethodName)) ∈ lw_all := lw_g (lw_at lw_m3 25 rfl) rfl
theorem q640 : (Jvm.Cond.methodLink "HungFacesLaw" (279 : Nat) ({ cls := "HungFaces", name := "seed", desc := "(I)I" } : Jvm.MethodName)) ∈ lw_all := lw_g (lw_at lw_m3 33 rfl) rfl
theorem q644 : (Jvm.Cond.methodLink "HungFacesLaw" (283 : Nat) ({ cls := "HungFaces", name := "undo", desc := "()Z" } : Jvm.MethodName)) ∈ lw_all := lw_g (lw_at lw_m3 37 rfl) rfl
theorem q681 : (Jvm.Cond.methodLink "HungFacesLaw" (288 : Nat) ({ cls := "HungFaces", name := "image", desc := "()V" } : Jvm.MethodName)) ∈ lw_all := lw_g (lw_at lw_m3 74 rfl) rfl
theorem q685 : (Jvm.Cond.methodLink "HungFacesLaw" (292 : Nat) ({ cls := "HungFaces", name := "back", desc := "()Z" } : Jvm.MethodName)) ∈ lw_all := lw_g (lw_at lw_m3 78 rfl) rfl
theorem q693 : (Jvm.Cond.methodLink "HungFacesLaw" (296 : Nat) ({ cls := "HungFaces", name := "count", desc := "(I)I" } : Jvm.MethodName)) ∈ lw_all := lw_g (lw_at lw_m3 86 rfl) rfl
theorem q706 : (Jvm.Cond.methodLink "HungFacesLaw" (131 : Nat) ({ cls := "HungFacesLaw", name := "door", desc := "(LHungFaces;[J)I" } : Jvm.MethodName)) ∈ lw_all := lw_g (lw_at lw_m3 99 rfl) rfl
theorem q707 : (Jvm.Cond.static ({ cls := "HungFacesLaw", name := "door", desc := "(LHungFaces;[J)I" } : Jvm.MethodName)) ∈ lw_all := lw_g (lw_at lw_m3 100 rfl) rfl
theorem q708 : (Jvm.Cond.codeWith ({ cls := "HungFacesLaw", name := "door", desc := "(LHungFaces;[J)I" } : Jvm.MethodName) method_3_code (3 : Nat) (Option.some Jvm.ClassFile.FieldType.int) [((0 : Nat), (8 : Nat), (11 : Nat), (13 : Nat)), ((0 : Nat), (8 : Nat), (14 : Nat), (15 : Nat))]) ∈ lw_all := lw_g (lw_at lw_m3 101 rfl) rfl
theorem q709 : (Jvm.Cond.classLink "HungFacesLaw" (13 : Nat) "java/lang/IllegalArgumentException") ∈ lw_all := lw_g (lw_at lw_m3 102 rfl) rfl
theorem q710 : (Jvm.Cond.classLink "HungFacesLaw" (15 : Nat) "java/lang/UnsupportedOperationException") ∈ lw_all := lw_g (lw_at lw_m3 103 rfl) rfl
theorem q711 : (Jvm.Cond.methodLink "HungFacesLaw" (7 : Nat) ({ cls := "HungFaces", name := "door", desc := "()I" } : Jvm.MethodName)) ∈ lw_all := lw_g (lw_at lw_m3 104 rfl) rfl
theorem q1271 : (Jvm.Cond.methodLink "HungFacesLaw" (140 : Nat) ({ cls := "HungFacesLaw", name := "law", desc := "(LHungFaces;[J)I" } : Jvm.MethodName)) ∈ lw_all := lw_g (lw_at lw_m5 184 rfl) rfl
theorem q1272 : (Jvm.Cond.static ({ cls := "HungFacesLaw", name := "law", desc := "(LHungFaces;[J)I" } : Jvm.MethodName)) ∈ lw_all := lw_g (lw_at lw_m5 185 rfl) rfl
theorem q1273 : (Jvm.Cond.codeWith ({ cls := "HungFacesLaw", name := "law", desc := "(LHungFaces;[J)I" } : Jvm.MethodName) method_4_code (3 : Nat) (Option.some Jvm.ClassFile.FieldType.int) [((0 : Nat), (8 : Nat), (11 : Nat), (13 : Nat))]) ∈ lw_all := lw_g (lw_at lw_m5 186 rfl) rfl
theorem q1274 : (Jvm.Cond.methodLink "HungFacesLaw" (17 : Nat) ({ cls := "HungFaces", name := "law", desc := "()I" } : Jvm.MethodName)) ∈ lw_all := lw_g (lw_at lw_m5 187 rfl) rfl
theorem q1506 : (Jvm.Cond.methodLink "HungFacesLaw" (147 : Nat) ({ cls := "HungFacesLaw", name := "person", desc := "(LHungFaces;II[J)I" } : Jvm.MethodName)) ∈ lw_all := lw_g (lw_at lw_m6 179 rfl) rfl
theorem q1507 : (Jvm.Cond.static ({ cls := "HungFacesLaw", name := "person", desc := "(LHungFaces;II[J)I" } : Jvm.MethodName)) ∈ lw_all := lw_g (lw_at lw_m6 180 rfl) rfl
theorem q1508 : (Jvm.Cond.codeWith ({ cls := "HungFacesLaw", name := "person", desc := "(LHungFaces;II[J)I" } : Jvm.MethodName) method_5_code (5 : Nat) (Option.some Jvm.ClassFile.FieldType.int) [((0 : Nat), (10 : Nat), (13 : Nat), (24 : Nat)), ((0 : Nat), (10 : Nat), (17 : Nat), (26 : Nat))]) ∈ lw_all := lw_g (lw_at lw_m6 181 rfl) rfl
theorem q1509 : (Jvm.Cond.classLink "HungFacesLaw" (24 : Nat) "java/lang/IndexOutOfBoundsException") ∈ lw_all := lw_g (lw_at lw_m6 182 rfl) rfl
theorem q1528 : (Jvm.Cond.classLink "HungFacesLaw" (26 : Nat) "java/util/NoSuchElementException") ∈ lw_all := lw_g (lw_at lw_m6 201 rfl) rfl
theorem q1529 : (Jvm.Cond.methodLink "HungFacesLaw" (20 : Nat) ({ cls := "HungFaces", name := "person", desc := "(II)I" } : Jvm.MethodName)) ∈ lw_all := lw_g (lw_at lw_m6 202 rfl) rfl
theorem q1573 : (Jvm.Cond.methodLink "HungFacesLaw" (151 : Nat) ({ cls := "HungFacesLaw", name := "face", desc := "(LHungFaces;II[J)I" } : Jvm.MethodName)) ∈ lw_all := lw_g (lw_at lw_m7 6 rfl) rfl
theorem q1574 : (Jvm.Cond.static ({ cls := "HungFacesLaw", name := "face", desc := "(LHungFaces;II[J)I" } : Jvm.MethodName)) ∈ lw_all := lw_g (lw_at lw_m7 7 rfl) rfl
theorem q1575 : (Jvm.Cond.codeWith ({ cls := "HungFacesLaw", name := "face", desc := "(LHungFaces;II[J)I" } : Jvm.MethodName) method_6_code (5 : Nat) (Option.some Jvm.ClassFile.FieldType.int) [((0 : Nat), (10 : Nat), (13 : Nat), (24 : Nat)), ((0 : Nat), (10 : Nat), (17 : Nat), (26 : Nat))]) ∈ lw_all := lw_g (lw_at lw_m7 8 rfl) rfl
theorem q1576 : (Jvm.Cond.methodLink "HungFacesLaw" (28 : Nat) ({ cls := "HungFaces", name := "face", desc := "(II)I" } : Jvm.MethodName)) ∈ lw_all := lw_g (lw_at lw_m7 9 rfl) rfl
theorem q1584 : (Jvm.Cond.methodLink "HungFacesLaw" (154 : Nat) ({ cls := "HungFacesLaw", name := "hook", desc := "(LHungFaces;I[J)I" } : Jvm.MethodName)) ∈ lw_all := lw_g (lw_at lw_m7 17 rfl) rfl
theorem q1585 : (Jvm.Cond.static ({ cls := "HungFacesLaw", name := "hook", desc := "(LHungFaces;I[J)I" } : Jvm.MethodName)) ∈ lw_all := lw_g (lw_at lw_m7 18 rfl) rfl
theorem q1586 : (Jvm.Cond.codeWith ({ cls := "HungFacesLaw", name := "hook", desc := "(LHungFaces;I[J)I" } : Jvm.MethodName) method_7_code (4 : Nat) (Option.some Jvm.ClassFile.FieldType.int) [((0 : Nat), (9 : Nat), (12 : Nat), (24 : Nat))]) ∈ lw_all := lw_g (lw_at lw_m7 19 rfl) rfl
theorem q1587 : (Jvm.Cond.methodLink "HungFacesLaw" (31 : Nat) ({ cls := "HungFaces", name := "hook", desc := "(I)I" } : Jvm.MethodName)) ∈ lw_all := lw_g (lw_at lw_m7 20 rfl) rfl
theorem q1595 : (Jvm.Cond.methodLink "HungFacesLaw" (158 : Nat) ({ cls := "HungFacesLaw", name := "wish", desc := "(LHungFaces;II[J)I" } : Jvm.MethodName)) ∈ lw_all := lw_g (lw_at lw_m7 28 rfl) rfl
theorem q1596 : (Jvm.Cond.static ({ cls := "HungFacesLaw", name := "wish", desc := "(LHungFaces;II[J)I" } : Jvm.MethodName)) ∈ lw_all := lw_g (lw_at lw_m7 29 rfl) rfl
theorem q1597 : (Jvm.Cond.codeWith ({ cls := "HungFacesLaw", name := "wish", desc := "(LHungFaces;II[J)I" } : Jvm.MethodName) method_8_code (5 : Nat) (Option.some Jvm.ClassFile.FieldType.int) [((0 : Nat), (10 : Nat), (13 : Nat), (24 : Nat))]) ∈ lw_all := lw_g (lw_at lw_m7 30 rfl) rfl
theorem q1598 : (Jvm.Cond.methodLink "HungFacesLaw" (35 : Nat) ({ cls := "HungFaces", name := "wish", desc := "(II)I" } : Jvm.MethodName)) ∈ lw_all := lw_g (lw_at lw_m7 31 rfl) rfl
theorem q1602 : (Jvm.Cond.methodLink "HungFacesLaw" (161 : Nat) ({ cls := "HungFacesLaw", name := "thinks", desc := "(LHungFaces;II[J)I" } : Jvm.MethodName)) ∈ lw_all := lw_g (lw_at lw_m7 35 rfl) rfl
theorem q1603 : (Jvm.Cond.static ({ cls := "HungFacesLaw", name := "thinks", desc := "(LHungFaces;II[J)I" } : Jvm.MethodName)) ∈ lw_all := lw_g (lw_at lw_m7 36 rfl) rfl
theorem q1604 : (Jvm.Cond.codeWith ({ cls := "HungFacesLaw", name := "thinks", desc := "(LHungFaces;II[J)I" } : Jvm.MethodName) method_9_code (5 : Nat) (Option.some Jvm.ClassFile.FieldType.int) [((0 : Nat), (10 : Nat), (13 : Nat), (24 : Nat)), ((0 : Nat), (10 : Nat), (17 : Nat), (13 : Nat))]) ∈ lw_all := lw_g (lw_at lw_m7 37 rfl) rfl
theorem q1605 : (Jvm.Cond.methodLink "HungFacesLaw" (38 : Nat) ({ cls := "HungFaces", name := "thinks", desc := "(II)I" } : Jvm.MethodName)) ∈ lw_all := lw_g (lw_at lw_m7 38 rfl) rfl
theorem q1616 : (Jvm.Cond.methodLink "HungFacesLaw" (164 : Nat) ({ cls := "HungFacesLaw", name := "hand", desc := "(LHungFaces;II[J)I" } : Jvm.MethodName)) ∈ lw_all := lw_g (lw_at lw_m7 49 rfl) rfl
theorem q1617 : (Jvm.Cond.static ({ cls := "HungFacesLaw", name := "hand", desc := "(LHungFaces;II[J)I" } : Jvm.MethodName)) ∈ lw_all := lw_g (lw_at lw_m7 50 rfl) rfl
theorem q1618 : (Jvm.Cond.codeWith ({ cls := "HungFacesLaw", name := "hand", desc := "(LHungFaces;II[J)I" } : Jvm.MethodName) method_10_code (5 : Nat) (Option.some Jvm.ClassFile.FieldType.int) [((0 : Nat), (10 : Nat), (13 : Nat), (24 : Nat)), ((0 : Nat), (10 : Nat), (17 : Nat), (44 : Nat))]) ∈ lw_all := lw_g (lw_at lw_m7 51 rfl) rfl
theorem q1619 : (Jvm.Cond.classLink "HungFacesLaw" (44 : Nat) "java/lang/IllegalStateException") ∈ lw_all := lw_g (lw_at lw_m7 52 rfl) rfl
theorem q1620 : (Jvm.Cond.methodLink "HungFacesLaw" (41 : Nat) ({ cls := "HungFaces", name := "hand", desc := "(II)I" } : Jvm.MethodName)) ∈ lw_all := lw_g (lw_at lw_m7 53 rfl) rfl
theorem q1663 : (Jvm.Cond.methodLink "HungFacesLaw" (167 : Nat) ({ cls := "HungFacesLaw", name := "fetch", desc := "(LHungFaces;I[J)I" } : Jvm.MethodName)) ∈ lw_all := lw_g (lw_at lw_m7 96 rfl) rfl
theorem q1664 : (Jvm.Cond.static ({ cls := "HungFacesLaw", name := "fetch", desc := "(LHungFaces;I[J)I" } : Jvm.MethodName)) ∈ lw_all := lw_g (lw_at lw_m7 97 rfl) rfl
theorem q1665 : (Jvm.Cond.codeWith ({ cls := "HungFacesLaw", name := "fetch", desc := "(LHungFaces;I[J)I" } : Jvm.MethodName) method_11_code (4 : Nat) (Option.some Jvm.ClassFile.FieldType.int) [((0 : Nat), (9 : Nat), (12 : Nat), (24 : Nat)), ((0 : Nat), (9 : Nat), (15 : Nat), (44 : Nat))]) ∈ lw_all := lw_g (lw_at lw_m7 98 rfl) rfl
theorem q1666 : (Jvm.Cond.methodLink "HungFacesLaw" (46 : Nat) ({ cls := "HungFaces", name := "fetch", desc := "(I)I" } : Jvm.MethodName)) ∈ lw_all := lw_g (lw_at lw_m7 99 rfl) rfl
theorem q1680 : (Jvm.Cond.methodLink "HungFacesLaw" (170 : Nat) ({ cls := "HungFacesLaw", name := "mix", desc := "(LHungFaces;II[J)I" } : Jvm.MethodName)) ∈ lw_all := lw_g (lw_at lw_m7 113 rfl) rfl
theorem q1681 : (Jvm.Cond.static ({ cls := "HungFacesLaw", name := "mix", desc := "(LHungFaces;II[J)I" } : Jvm.MethodName)) ∈ lw_all := lw_g (lw_at lw_m7 114 rfl) rfl
theorem q1682 : (Jvm.Cond.codeWith ({ cls := "HungFacesLaw", name := "mix", desc := "(LHungFaces;II[J)I" } : Jvm.MethodName) method_12_code (5 : Nat) (Option.some Jvm.ClassFile.FieldType.int) [((0 : Nat), (10 : Nat), (13 : Nat), (24 : Nat)), ((0 : Nat), (10 : Nat), (17 : Nat), (13 : Nat)), ((0 : Nat), (10 : Nat), (21 : Nat), (44 : Nat))]) ∈ lw_all := lw_g (lw_at lw_m7 115 rfl) rfl
theorem q1683 : (Jvm.Cond.methodLink "HungFacesLaw" (49 : Nat) ({ cls := "HungFaces", name := "mix", desc := "(II)I" } : Jvm.MethodName)) ∈ lw_all := lw_g (lw_at lw_m7 116 rfl) rfl
theorem q1694 : (Jvm.Cond.methodLink "HungFacesLaw" (173 : Nat) ({ cls := "HungFacesLaw", name := "steal", desc := "(LHungFaces;II[J)I" } : Jvm.MethodName)) ∈ lw_all := lw_g (lw_at lw_m7 127 rfl) rfl
theorem q1695 : (Jvm.Cond.static ({ cls := "HungFacesLaw", name := "steal", desc := "(LHungFaces;II[J)I" } : Jvm.MethodName)) ∈ lw_all := lw_g (lw_at lw_m7 128 rfl) rfl
theorem q1696 : (Jvm.Cond.codeWith ({ cls := "HungFacesLaw", name := "steal", desc := "(LHungFaces;II[J)I" } : Jvm.MethodName) method_13_code (5 : Nat) (Option.some Jvm.ClassFile.FieldType.int) [((0 : Nat), (10 : Nat), (13 : Nat), (24 : Nat)), ((0 : Nat), (10 : Nat), (17 : Nat), (44 : Nat))]) ∈ lw_all := lw_g (lw_at lw_m7 129 rfl) rfl
theorem q1697 : (Jvm.Cond.methodLink "HungFacesLaw" (52 : Nat) ({ cls := "HungFaces", name := "steal", desc := "(II)I" } : Jvm.MethodName)) ∈ lw_all := lw_g (lw_at lw_m7 130 rfl) rfl
theorem q1704 : (Jvm.Cond.methodLink "HungFacesLaw" (176 : Nat) ({ cls := "HungFacesLaw", name := "change", desc := "(LHungFaces;II[J)I" } : Jvm.MethodName)) ∈ lw_all := lw_g (lw_at lw_m7 137 rfl) rfl
theorem q1705 : (Jvm.Cond.static ({ cls := "HungFacesLaw", name := "change", desc := "(LHungFaces;II[J)I" } : Jvm.MethodName)) ∈ lw_all := lw_g (lw_at lw_m7 138 rfl) rfl
theorem q1706 : (Jvm.Cond.codeWith ({ cls := "HungFacesLaw", name := "change", desc := "(LHungFaces;II[J)I" } : Jvm.MethodName) method_14_code (5 : Nat) (Option.some Jvm.ClassFile.FieldType.int) [((0 : Nat), (10 : Nat), (13 : Nat), (24 : Nat)), ((0 : Nat), (10 : Nat), (17 : Nat), (13 : Nat)), ((0 : Nat), (10 : Nat), (21 : Nat), (44 : Nat))]) ∈ lw_all := lw_g (lw_at lw_m7 139 rfl) rfl
theorem q1707 : (Jvm.Cond.methodLink "HungFacesLaw" (55 : Nat) ({ cls := "HungFaces", name := "change", desc := "(II)I" } : Jvm.MethodName)) ∈ lw_all := lw_g (lw_at lw_m7 140 rfl) rfl
theorem q1711 : (Jvm.Cond.methodLink "HungFacesLaw" (179 : Nat) ({ cls := "HungFacesLaw", name := "shave", desc := "(LHungFaces;II[J)I" } : Jvm.MethodName)) ∈ lw_all := lw_g (lw_at lw_m7 144 rfl) rfl
theorem q1712 : (Jvm.Cond.static ({ cls := "HungFacesLaw", name := "shave", desc := "(LHungFaces;II[J)I" } : Jvm.MethodName)) ∈ lw_all := lw_g (lw_at lw_m7 145 rfl) rfl
theorem q1713 : (Jvm.Cond.codeWith ({ cls := "HungFacesLaw", name := "shave", desc := "(LHungFaces;II[J)I" } : Jvm.MethodName) method_15_code (5 : Nat) (Option.some Jvm.ClassFile.FieldType.int) [((0 : Nat), (10 : Nat), (13 : Nat), (24 : Nat)), ((0 : Nat), (10 : Nat), (17 : Nat), (44 : Nat))]) ∈ lw_all := lw_g (lw_at lw_m7 146 rfl) rfl
theorem q1714 : (Jvm.Cond.methodLink "HungFacesLaw" (58 : Nat) ({ cls := "HungFaces", name := "shave", desc := "(II)I" } : Jvm.MethodName)) ∈ lw_all := lw_g (lw_at lw_m7 147 rfl) rfl
theorem q1718 : (Jvm.Cond.methodLink "HungFacesLaw" (182 : Nat) ({ cls := "HungFacesLaw", name := "graft", desc := "(LHungFaces;III[J)I" } : Jvm.MethodName)) ∈ lw_all := lw_g (lw_at lw_m7 151 rfl) rfl
theorem q1719 : (Jvm.Cond.static ({ cls := "HungFacesLaw", name := "graft", desc := "(LHungFaces;III[J)I" } : Jvm.MethodName)) ∈ lw_all := lw_g (lw_at lw_m7 152 rfl) rfl
theorem q1720 : (Jvm.Cond.codeWith ({ cls := "HungFacesLaw", name := "graft", desc := "(LHungFaces;III[J)I" } : Jvm.MethodName) method_16_code (6 : Nat) (Option.some Jvm.ClassFile.FieldType.int) [((0 : Nat), (12 : Nat), (15 : Nat), (24 : Nat)), ((0 : Nat), (12 : Nat), (19 : Nat), (13 : Nat)), ((0 : Nat), (12 : Nat), (23 : Nat), (44 : Nat))]) ∈ lw_all := lw_g (lw_at lw_m7 153 rfl) rfl
theorem q1721 : (Jvm.Cond.methodLink "HungFacesLaw" (61 : Nat) ({ cls := "HungFaces", name := "graft", desc := "(III)I" } : Jvm.MethodName)) ∈ lw_all := lw_g (lw_at lw_m7 154 rfl) rfl
theorem q1725 : (Jvm.Cond.methodLink "HungFacesLaw" (186 : Nat) ({ cls := "HungFacesLaw", name := "meet", desc := "(LHungFaces;II[J)I" } : Jvm.MethodName)) ∈ lw_all := lw_g (lw_at lw_m7 158 rfl) rfl
theorem q1726 : (Jvm.Cond.static ({ cls := "HungFacesLaw", name := "meet", desc := "(LHungFaces;II[J)I" } : Jvm.MethodName)) ∈ lw_all := lw_g (lw_at lw_m7 159 rfl) rfl
theorem q1727 : (Jvm.Cond.codeWith ({ cls := "HungFacesLaw", name := "meet", desc := "(LHungFaces;II[J)I" } : Jvm.MethodName) method_17_code (5 : Nat) (Option.some Jvm.ClassFile.FieldType.int) [((0 : Nat), (10 : Nat), (13 : Nat), (24 : Nat)), ((0 : Nat), (10 : Nat), (17 : Nat), (13 : Nat))]) ∈ lw_all := lw_g (lw_at lw_m7 160 rfl) rfl
theorem q1728 : (Jvm.Cond.methodLink "HungFacesLaw" (65 : Nat) ({ cls := "HungFaces", name := "meet", desc := "(II)I" } : Jvm.MethodName)) ∈ lw_all := lw_g (lw_at lw_m7 161 rfl) rfl
theorem q1736 : (Jvm.Cond.methodLink "HungFacesLaw" (189 : Nat) ({ cls := "HungFacesLaw", name := "hours", desc := "(LHungFaces;I[J)I" } : Jvm.MethodName)) ∈ lw_all := lw_g (lw_at lw_m7 169 rfl) rfl
theorem q1737 : (Jvm.Cond.static ({ cls := "HungFacesLaw", name := "hours", desc := "(LHungFaces;I[J)I" } : Jvm.MethodName)) ∈ lw_all := lw_g (lw_at lw_m7 170 rfl) rfl
theorem q1738 : (Jvm.Cond.codeWith ({ cls := "HungFacesLaw", name := "hours", desc := "(LHungFaces;I[J)I" } : Jvm.MethodName) method_18_code (4 : Nat) (Option.some Jvm.ClassFile.FieldType.int) [((0 : Nat), (9 : Nat), (12 : Nat), (13 : Nat))]) ∈ lw_all := lw_g (lw_at lw_m7 171 rfl) rfl
theorem q1739 : (Jvm.Cond.methodLink "HungFacesLaw" (68 : Nat) ({ cls := "HungFaces", name := "hours", desc := "(I)I" } : Jvm.MethodName)) ∈ lw_all := lw_g (lw_at lw_m7 172 rfl) rfl
theorem q1842 : (Jvm.Cond.methodLink "HungFacesLaw" (220 : Nat) ({ cls := "HungFacesLaw", name := "passes", desc := "(LHungFaces;II[J)I" } : Jvm.MethodName)) ∈ lw_all := lw_g (lw_at lw_m8 35 rfl) rfl
theorem q1843 : (Jvm.Cond.static ({ cls := "HungFacesLaw", name := "passes", desc := "(LHungFaces;II[J)I" } : Jvm.MethodName)) ∈ lw_all := lw_g (lw_at lw_m8 36 rfl) rfl
theorem q1844 : (Jvm.Cond.codeWith ({ cls := "HungFacesLaw", name := "passes", desc := "(LHungFaces;II[J)I" } : Jvm.MethodName) method_19_code (5 : Nat) (Option.some Jvm.ClassFile.FieldType.int) [((0 : Nat), (10 : Nat), (13 : Nat), (13 : Nat))]) ∈ lw_all := lw_g (lw_at lw_m8 37 rfl) rfl
theorem q1845 : (Jvm.Cond.methodLink "HungFacesLaw" (71 : Nat) ({ cls := "HungFaces", name := "passes", desc := "(II)I" } : Jvm.MethodName)) ∈ lw_all := lw_g (lw_at lw_m8 38 rfl) rfl
theorem q1849 : (Jvm.Cond.methodLink "HungFacesLaw" (223 : Nat) ({ cls := "HungFacesLaw", name := "core", desc := "(LHungFaces;I[J)I" } : Jvm.MethodName)) ∈ lw_all := lw_g (lw_at lw_m8 42 rfl) rfl
theorem q1850 : (Jvm.Cond.static ({ cls := "HungFacesLaw", name := "core", desc := "(LHungFaces;I[J)I" } : Jvm.MethodName)) ∈ lw_all := lw_g (lw_at lw_m8 43 rfl) rfl
theorem q1851 : (Jvm.Cond.codeWith ({ cls := "HungFacesLaw", name := "core", desc := "(LHungFaces;I[J)I" } : Jvm.MethodName) method_20_code (4 : Nat) (Option.some Jvm.ClassFile.FieldType.int) [((0 : Nat), (9 : Nat), (12 : Nat), (24 : Nat))]) ∈ lw_all := lw_g (lw_at lw_m8 44 rfl) rfl
theorem q1852 : (Jvm.Cond.methodLink "HungFacesLaw" (74 : Nat) ({ cls := "HungFaces", name := "core", desc := "(I)I" } : Jvm.MethodName)) ∈ lw_all := lw_g (lw_at lw_m8 45 rfl) rfl
theorem q1856 : (Jvm.Cond.methodLink "HungFacesLaw" (230 : Nat) ({ cls := "HungFacesLaw", name := "block", desc := "(LHungFaces;I[J)I" } : Jvm.MethodName)) ∈ lw_all := lw_g (lw_at lw_m8 49 rfl) rfl
theorem q1857 : (Jvm.Cond.static ({ cls := "HungFacesLaw", name := "block", desc := "(LHungFaces;I[J)I" } : Jvm.MethodName)) ∈ lw_all := lw_g (lw_at lw_m8 50 rfl) rfl
theorem q1858 : (Jvm.Cond.codeWith ({ cls := "HungFacesLaw", name := "block", desc := "(LHungFaces;I[J)I" } : Jvm.MethodName) method_21_code (4 : Nat) (Option.some Jvm.ClassFile.FieldType.int) [((0 : Nat), (16 : Nat), (19 : Nat), (44 : Nat))]) ∈ lw_all := lw_g (lw_at lw_m8 51 rfl) rfl
theorem q1859 : (Jvm.Cond.methodLink "HungFacesLaw" (77 : Nat) ({ cls := "HungFaces", name := "block", desc := "(I)Z" } : Jvm.MethodName)) ∈ lw_all := lw_g (lw_at lw_m8 52 rfl) rfl
theorem q1879 : (Jvm.Cond.methodLink "HungFacesLaw" (233 : Nat) ({ cls := "HungFacesLaw", name := "fits", desc := "(LHungFaces;I[J)I" } : Jvm.MethodName)) ∈ lw_all := lw_g (lw_at lw_m8 72 rfl) rfl
theorem q1880 : (Jvm.Cond.static ({ cls := "HungFacesLaw", name := "fits", desc := "(LHungFaces;I[J)I" } : Jvm.MethodName)) ∈ lw_all := lw_g (lw_at lw_m8 73 rfl) rfl
theorem q1881 : (Jvm.Cond.codeWith ({ cls := "HungFacesLaw", name := "fits", desc := "(LHungFaces;I[J)I" } : Jvm.MethodName) method_22_code (4 : Nat) (Option.some Jvm.ClassFile.FieldType.int) [((0 : Nat), (9 : Nat), (12 : Nat), (24 : Nat)), ((0 : Nat), (9 : Nat), (15 : Nat), (13 : Nat))]) ∈ lw_all := lw_g (lw_at lw_m8 74 rfl) rfl
theorem q1882 : (Jvm.Cond.methodLink "HungFacesLaw" (81 : Nat) ({ cls := "HungFaces", name := "fits", desc := "(I)I" } : Jvm.MethodName)) ∈ lw_all := lw_g (lw_at lw_m8 75 rfl) rfl
theorem q1915 : (Jvm.Cond.methodLink "HungFacesLaw" (236 : Nat) ({ cls := "HungFacesLaw", name := "ask", desc := "(LHungFaces;I[J)I" } : Jvm.MethodName)) ∈ lw_all := lw_g (lw_at lw_m8 108 rfl) rfl
theorem q1916 : (Jvm.Cond.static ({ cls := "HungFacesLaw", name := "ask", desc := "(LHungFaces;I[J)I" } : Jvm.MethodName)) ∈ lw_all := lw_g (lw_at lw_m8 109 rfl) rfl
theorem q1917 : (Jvm.Cond.codeWith ({ cls := "HungFacesLaw", name := "ask", desc := "(LHungFaces;I[J)I" } : Jvm.MethodName) method_23_code (4 : Nat) (Option.some Jvm.ClassFile.FieldType.int) [((0 : Nat), (9 : Nat), (12 : Nat), (24 : Nat)), ((0 : Nat), (9 : Nat), (15 : Nat), (13 : Nat))]) ∈ lw_all := lw_g (lw_at lw_m8 110 rfl) rfl
theorem q1918 : (Jvm.Cond.methodLink "HungFacesLaw" (84 : Nat) ({ cls := "HungFaces", name := "ask", desc := "(I)I" } : Jvm.MethodName)) ∈ lw_all := lw_g (lw_at lw_m8 111 rfl) rfl
theorem q1923 : (Jvm.Cond.methodLink "HungFacesLaw" (239 : Nat) ({ cls := "HungFacesLaw", name := "clash", desc := "(LHungFaces;[J)I" } : Jvm.MethodName)) ∈ lw_all := lw_g (lw_at lw_m8 116 rfl) rfl
theorem q1924 : (Jvm.Cond.static ({ cls := "HungFacesLaw", name := "clash", desc := "(LHungFaces;[J)I" } : Jvm.MethodName)) ∈ lw_all := lw_g (lw_at lw_m8 117 rfl) rfl
theorem q1925 : (Jvm.Cond.codeWith ({ cls := "HungFacesLaw", name := "clash", desc := "(LHungFaces;[J)I" } : Jvm.MethodName) method_24_code (3 : Nat) (Option.some Jvm.ClassFile.FieldType.int) [((0 : Nat), (8 : Nat), (11 : Nat), (13 : Nat))]) ∈ lw_all := lw_g (lw_at lw_m8 118 rfl) rfl
theorem q1926 : (Jvm.Cond.methodLink "HungFacesLaw" (87 : Nat) ({ cls := "HungFaces", name := "clash", desc := "()I" } : Jvm.MethodName)) ∈ lw_all := lw_g (lw_at lw_m8 119 rfl) rfl
theorem q1930 : (Jvm.Cond.methodLink "HungFacesLaw" (246 : Nat) ({ cls := "HungFacesLaw", name := "forged", desc := "(LHungFaces;I[J)I" } : Jvm.MethodName)) ∈ lw_all := lw_g (lw_at lw_m8 123 rfl) rfl
theorem q1931 : (Jvm.Cond.static ({ cls := "HungFacesLaw", name := "forged", desc := "(LHungFaces;I[J)I" } : Jvm.MethodName)) ∈ lw_all := lw_g (lw_at lw_m8 124 rfl) rfl
theorem q1932 : (Jvm.Cond.codeWith ({ cls := "HungFacesLaw", name := "forged", desc := "(LHungFaces;I[J)I" } : Jvm.MethodName) method_25_code (4 : Nat) (Option.some Jvm.ClassFile.FieldType.int) [((0 : Nat), (9 : Nat), (12 : Nat), (13 : Nat))]) ∈ lw_all := lw_g (lw_at lw_m8 125 rfl) rfl
theorem q1933 : (Jvm.Cond.methodLink "HungFacesLaw" (90 : Nat) ({ cls := "HungFaces", name := "forged", desc := "(I)I" } : Jvm.MethodName)) ∈ lw_all := lw_g (lw_at lw_m8 126 rfl) rfl
theorem q1941 : (Jvm.Cond.methodLink "HungFacesLaw" (249 : Nat) ({ cls := "HungFacesLaw", name := "ways", desc := "(LHungFaces;I[J)I" } : Jvm.MethodName)) ∈ lw_all := lw_g (lw_at lw_m8 134 rfl) rfl
theorem q1942 : (Jvm.Cond.static ({ cls := "HungFacesLaw", name := "ways", desc := "(LHungFaces;I[J)I" } : Jvm.MethodName)) ∈ lw_all := lw_g (lw_at lw_m8 135 rfl) rfl
theorem q1943 : (Jvm.Cond.codeWith ({ cls := "HungFacesLaw", name := "ways", desc := "(LHungFaces;I[J)I" } : Jvm.MethodName) method_26_code (4 : Nat) (Option.some Jvm.ClassFile.FieldType.int) [((0 : Nat), (9 : Nat), (12 : Nat), (13 : Nat))]) ∈ lw_all := lw_g (lw_at lw_m8 136 rfl) rfl
theorem q1944 : (Jvm.Cond.methodLink "HungFacesLaw" (93 : Nat) ({ cls := "HungFaces", name := "ways", desc := "(I)I" } : Jvm.MethodName)) ∈ lw_all := lw_g (lw_at lw_m8 137 rfl) rfl
theorem q1954 : (Jvm.Cond.methodLink "HungFacesLaw" (252 : Nat) ({ cls := "HungFacesLaw", name := "talk", desc := "(LHungFaces;I[J)I" } : Jvm.MethodName)) ∈ lw_all := lw_g (lw_at lw_m8 147 rfl) rfl
theorem q1955 : (Jvm.Cond.static ({ cls := "HungFacesLaw", name := "talk", desc := "(LHungFaces;I[J)I" } : Jvm.MethodName)) ∈ lw_all := lw_g (lw_at lw_m8 148 rfl) rfl
theorem q1956 : (Jvm.Cond.codeWith ({ cls := "HungFacesLaw", name := "talk", desc := "(LHungFaces;I[J)I" } : Jvm.MethodName) method_27_code (4 : Nat) (Option.some Jvm.ClassFile.FieldType.int) [((0 : Nat), (9 : Nat), (12 : Nat), (24 : Nat))]) ∈ lw_all := lw_g (lw_at lw_m8 149 rfl) rfl
theorem q1957 : (Jvm.Cond.methodLink "HungFacesLaw" (96 : Nat) ({ cls := "HungFaces", name := "talk", desc := "(I)I" } : Jvm.MethodName)) ∈ lw_all := lw_g (lw_at lw_m8 150 rfl) rfl
theorem q1961 : (Jvm.Cond.methodLink "HungFacesLaw" (260 : Nat) ({ cls := "HungFacesLaw", name := "chain", desc := "(LHungFaces;II[J)I" } : Jvm.MethodName)) ∈ lw_all := lw_g (lw_at lw_m8 154 rfl) rfl
theorem q1962 : (Jvm.Cond.static ({ cls := "HungFacesLaw", name := "chain", desc := "(LHungFaces;II[J)I" } : Jvm.MethodName)) ∈ lw_all := lw_g (lw_at lw_m8 155 rfl) rfl
theorem q1963 : (Jvm.Cond.codeWith ({ cls := "HungFacesLaw", name := "chain", desc := "(LHungFaces;II[J)I" } : Jvm.MethodName) method_28_code (5 : Nat) (Option.some Jvm.ClassFile.FieldType.int) [((0 : Nat), (10 : Nat), (13 : Nat), (24 : Nat)), ((0 : Nat), (10 : Nat), (17 : Nat), (13 : Nat))]) ∈ lw_all := lw_g (lw_at lw_m8 156 rfl) rfl
theorem q1964 : (Jvm.Cond.methodLink "HungFacesLaw" (99 : Nat) ({ cls := "HungFaces", name := "chain", desc := "(II)I" } : Jvm.MethodName)) ∈ lw_all := lw_g (lw_at lw_m8 157 rfl) rfl
theorem q1968 : (Jvm.Cond.methodLink "HungFacesLaw" (263 : Nat) ({ cls := "HungFacesLaw", name := "hears", desc := "(LHungFaces;II[J)I" } : Jvm.MethodName)) ∈ lw_all := lw_g (lw_at lw_m8 161 rfl) rfl
theorem q1969 : (Jvm.Cond.static ({ cls := "HungFacesLaw", name := "hears", desc := "(LHungFaces;II[J)I" } : Jvm.MethodName)) ∈ lw_all := lw_g (lw_at lw_m8 162 rfl) rfl
theorem q1970 : (Jvm.Cond.codeWith ({ cls := "HungFacesLaw", name := "hears", desc := "(LHungFaces;II[J)I" } : Jvm.MethodName) method_29_code (5 : Nat) (Option.some Jvm.ClassFile.FieldType.int) [((0 : Nat), (10 : Nat), (13 : Nat), (24 : Nat)), ((0 : Nat), (10 : Nat), (17 : Nat), (13 : Nat))]) ∈ lw_all := lw_g (lw_at lw_m8 163 rfl) rfl
theorem q1971 : (Jvm.Cond.methodLink "HungFacesLaw" (102 : Nat) ({ cls := "HungFaces", name := "hears", desc := "(II)I" } : Jvm.MethodName)) ∈ lw_all := lw_g (lw_at lw_m8 164 rfl) rfl
theorem q1975 : (Jvm.Cond.methodLink "HungFacesLaw" (266 : Nat) ({ cls := "HungFacesLaw", name := "trial", desc := "(LHungFaces;I[J)I" } : Jvm.MethodName)) ∈ lw_all := lw_g (lw_at lw_m8 168 rfl) rfl
theorem q1976 : (Jvm.Cond.static ({ cls := "HungFacesLaw", name := "trial", desc := "(LHungFaces;I[J)I" } : Jvm.MethodName)) ∈ lw_all := lw_g (lw_at lw_m8 169 rfl) rfl
theorem q1977 : (Jvm.Cond.codeWith ({ cls := "HungFacesLaw", name := "trial", desc := "(LHungFaces;I[J)I" } : Jvm.MethodName) method_30_code (4 : Nat) (Option.some Jvm.ClassFile.FieldType.int) [((0 : Nat), (9 : Nat), (12 : Nat), (13 : Nat))]) ∈ lw_all := lw_g (lw_at lw_m8 170 rfl) rfl
theorem q1978 : (Jvm.Cond.methodLink "HungFacesLaw" (105 : Nat) ({ cls := "HungFaces", name := "trial", desc := "(I)I" } : Jvm.MethodName)) ∈ lw_all := lw_g (lw_at lw_m8 171 rfl) rfl
theorem q1986 : (Jvm.Cond.methodLink "HungFacesLaw" (269 : Nat) ({ cls := "HungFacesLaw", name := "span", desc := "(LHungFaces;IZ[J)I" } : Jvm.MethodName)) ∈ lw_all := lw_g (lw_at lw_m8 179 rfl) rfl
theorem q1987 : (Jvm.Cond.static ({ cls := "HungFacesLaw", name := "span", desc := "(LHungFaces;IZ[J)I" } : Jvm.MethodName)) ∈ lw_all := lw_g (lw_at lw_m8 180 rfl) rfl
theorem q1988 : (Jvm.Cond.codeWith ({ cls := "HungFacesLaw", name := "span", desc := "(LHungFaces;IZ[J)I" } : Jvm.MethodName) method_31_code (5 : Nat) (Option.some Jvm.ClassFile.FieldType.int) [((0 : Nat), (10 : Nat), (13 : Nat), (13 : Nat))]) ∈ lw_all := lw_g (lw_at lw_m8 181 rfl) rfl
theorem q1989 : (Jvm.Cond.methodLink "HungFacesLaw" (108 : Nat) ({ cls := "HungFaces", name := "span", desc := "(IZ)I" } : Jvm.MethodName)) ∈ lw_all := lw_g (lw_at lw_m8 182 rfl) rfl
theorem q1994 : (Jvm.Cond.methodLink "HungFacesLaw" (273 : Nat) ({ cls := "HungFacesLaw", name := "led", desc := "(LHungFaces;IZ[J)I" } : Jvm.MethodName)) ∈ lw_all := lw_g (lw_at lw_m8 187 rfl) rfl
theorem q1995 : (Jvm.Cond.static ({ cls := "HungFacesLaw", name := "led", desc := "(LHungFaces;IZ[J)I" } : Jvm.MethodName)) ∈ lw_all := lw_g (lw_at lw_m8 188 rfl) rfl
theorem q1996 : (Jvm.Cond.codeWith ({ cls := "HungFacesLaw", name := "led", desc := "(LHungFaces;IZ[J)I" } : Jvm.MethodName) method_32_code (5 : Nat) (Option.some Jvm.ClassFile.FieldType.int) [((0 : Nat), (10 : Nat), (13 : Nat), (24 : Nat))]) ∈ lw_all := lw_g (lw_at lw_m8 189 rfl) rfl
theorem q1997 : (Jvm.Cond.methodLink "HungFacesLaw" (112 : Nat) ({ cls := "HungFaces", name := "led", desc := "(IZ)I" } : Jvm.MethodName)) ∈ lw_all := lw_g (lw_at lw_m8 190 rfl) rfl
theorem q2011 : (Jvm.Cond.methodLink "HungFacesLaw" (276 : Nat) ({ cls := "HungFacesLaw", name := "log", desc := "(LHungFaces;II[J)I" } : Jvm.MethodName)) ∈ lw_all := lw_g (lw_at lw_m8 204 rfl) rfl
theorem q2012 : (Jvm.Cond.static ({ cls := "HungFacesLaw", name := "log", desc := "(LHungFaces;II[J)I" } : Jvm.MethodName)) ∈ lw_all := lw_g (lw_at lw_m8 205 rfl) rfl
theorem q2013 : (Jvm.Cond.codeWith ({ cls := "HungFacesLaw", name := "log", desc := "(LHungFaces;II[J)I" } : Jvm.MethodName) method_33_code (5 : Nat) (Option.some Jvm.ClassFile.FieldType.int) [((0 : Nat), (10 : Nat), (13 : Nat), (26 : Nat))]) ∈ lw_all := lw_g (lw_at lw_m8 206 rfl) rfl
theorem q2014 : (Jvm.Cond.methodLink "HungFacesLaw" (115 : Nat) ({ cls := "HungFaces", name := "log", desc := "(II)I" } : Jvm.MethodName)) ∈ lw_all := lw_g (lw_at lw_m8 207 rfl) rfl
theorem q2018 : (Jvm.Cond.classLink "HungFacesLaw" (119 : Nat) "HungFacesModel") ∈ lw_all := lw_g (lw_at lw_m8 211 rfl) rfl
theorem q2020 : (Jvm.Cond.methodLink "HungFacesLaw" (121 : Nat) ({ cls := "HungFacesModel", name := "<init>", desc := "()V" } : Jvm.MethodName)) ∈ lw_all := lw_g (lw_at lw_m8 213 rfl) rfl
theorem q2103 : (Jvm.Cond.methodLink "HungFacesLaw" (137 : Nat) ({ cls := "HungFacesModel", name := "thrown", desc := "()I" } : Jvm.MethodName)) ∈ lw_all := lw_g (lw_at lw_m9 56 rfl) rfl
theorem q2107 : (Jvm.Cond.methodLink "HungFacesLaw" (126 : Nat) ({ cls := "HungFacesModel", name := "feed", desc := "(IIIII)I" } : Jvm.MethodName)) ∈ lw_all := lw_g (lw_at lw_m9 60 rfl) rfl
theorem q2111 : (Jvm.Cond.methodLink "HungFacesLaw" (130 : Nat) ({ cls := "HungFacesModel", name := "end", desc := "(I)Z" } : Jvm.MethodName)) ∈ lw_all := lw_g (lw_at lw_m9 64 rfl) rfl
theorem q2118 : (Jvm.Cond.methodLink "HungFacesLaw" (136 : Nat) ({ cls := "HungFacesModel", name := "door", desc := "()I" } : Jvm.MethodName)) ∈ lw_all := lw_g (lw_at lw_m9 71 rfl) rfl
theorem q2280 : (Jvm.Cond.methodLink "HungFacesLaw" (142 : Nat) ({ cls := "HungFacesModel", name := "law", desc := "()I" } : Jvm.MethodName)) ∈ lw_all := lw_g (lw_at lw_m9 233 rfl) rfl
theorem q2284 : (Jvm.Cond.methodLink "HungFacesLaw" (146 : Nat) ({ cls := "HungFacesModel", name := "fault", desc := "()I" } : Jvm.MethodName)) ∈ lw_all := lw_g (lw_at lw_m9 237 rfl) rfl
theorem q2288 : (Jvm.Cond.methodLink "HungFacesLaw" (150 : Nat) ({ cls := "HungFacesModel", name := "person", desc := "(II)I" } : Jvm.MethodName)) ∈ lw_all := lw_g (lw_at lw_m10 1 rfl) rfl
theorem q2304 : (Jvm.Cond.methodLink "HungFacesLaw" (153 : Nat) ({ cls := "HungFacesModel", name := "face", desc := "(II)I" } : Jvm.MethodName)) ∈ lw_all := lw_g (lw_at lw_m10 17 rfl) rfl
theorem q2316 : (Jvm.Cond.methodLink "HungFacesLaw" (157 : Nat) ({ cls := "HungFacesModel", name := "hook", desc := "(I)I" } : Jvm.MethodName)) ∈ lw_all := lw_g (lw_at lw_m10 29 rfl) rfl
theorem q2324 : (Jvm.Cond.methodLink "HungFacesLaw" (160 : Nat) ({ cls := "HungFacesModel", name := "wish", desc := "(II)I" } : Jvm.MethodName)) ∈ lw_all := lw_g (lw_at lw_m10 37 rfl) rfl
theorem q2328 : (Jvm.Cond.methodLink "HungFacesLaw" (163 : Nat) ({ cls := "HungFacesModel", name := "thinks", desc := "(II)I" } : Jvm.MethodName)) ∈ lw_all := lw_g (lw_at lw_m10 41 rfl) rfl
theorem q2340 : (Jvm.Cond.methodLink "HungFacesLaw" (166 : Nat) ({ cls := "HungFacesModel", name := "hand", desc := "(II)I" } : Jvm.MethodName)) ∈ lw_all := lw_g (lw_at lw_m10 53 rfl) rfl
theorem q2359 : (Jvm.Cond.methodLink "HungFacesLaw" (169 : Nat) ({ cls := "HungFacesModel", name := "fetch", desc := "(I)I" } : Jvm.MethodName)) ∈ lw_all := lw_g (lw_at lw_m10 72 rfl) rfl
theorem q2367 : (Jvm.Cond.methodLink "HungFacesLaw" (172 : Nat) ({ cls := "HungFacesModel", name := "mix", desc := "(II)I" } : Jvm.MethodName)) ∈ lw_all := lw_g (lw_at lw_m10 80 rfl) rfl
theorem q2375 : (Jvm.Cond.methodLink "HungFacesLaw" (175 : Nat) ({ cls := "HungFacesModel", name := "steal", desc := "(II)I" } : Jvm.MethodName)) ∈ lw_all := lw_g (lw_at lw_m10 88 rfl) rfl
theorem q2379 : (Jvm.Cond.methodLink "HungFacesLaw" (178 : Nat) ({ cls := "HungFacesModel", name := "change", desc := "(II)I" } : Jvm.MethodName)) ∈ lw_all := lw_g (lw_at lw_m10 92 rfl) rfl
theorem q2383 : (Jvm.Cond.methodLink "HungFacesLaw" (181 : Nat) ({ cls := "HungFacesModel", name := "shave", desc := "(II)I" } : Jvm.MethodName)) ∈ lw_all := lw_g (lw_at lw_m10 96 rfl) rfl
theorem q2390 : (Jvm.Cond.methodLink "HungFacesLaw" (185 : Nat) ({ cls := "HungFacesModel", name := "graft", desc := "(III)I" } : Jvm.MethodName)) ∈ lw_all := lw_g (lw_at lw_m10 103 rfl) rfl
theorem q2394 : (Jvm.Cond.methodLink "HungFacesLaw" (188 : Nat) ({ cls := "HungFacesModel", name := "meet", desc := "(II)I" } : Jvm.MethodName)) ∈ lw_all := lw_g (lw_at lw_m10 107 rfl) rfl
theorem q2402 : (Jvm.Cond.methodLink "HungFacesLaw" (191 : Nat) ({ cls := "HungFacesModel", name := "hours", desc := "(I)I" } : Jvm.MethodName)) ∈ lw_all := lw_g (lw_at lw_m10 115 rfl) rfl
theorem q2443 : (Jvm.Cond.methodLink "HungFacesLaw" (195 : Nat) ({ cls := "HungFacesModel", name := "wrong", desc := "()I" } : Jvm.MethodName)) ∈ lw_all := lw_g (lw_at lw_m10 156 rfl) rfl
theorem q2451 : (Jvm.Cond.methodLink "HungFacesLaw" (199 : Nat) ({ cls := "HungFacesModel", name := "lost", desc := "()I" } : Jvm.MethodName)) ∈ lw_all := lw_g (lw_at lw_m10 164 rfl) rfl
theorem q2459 : (Jvm.Cond.methodLink "HungFacesLaw" (203 : Nat) ({ cls := "HungFacesModel", name := "unclaimed", desc := "()I" } : Jvm.MethodName)) ∈ lw_all := lw_g (lw_at lw_m10 172 rfl) rfl
theorem q2463 : (Jvm.Cond.methodLink "HungFacesLaw" (207 : Nat) ({ cls := "HungFacesModel", name := "swaps", desc := "()I" } : Jvm.MethodName)) ∈ lw_all := lw_g (lw_at lw_m10 176 rfl) rfl
theorem q2471 : (Jvm.Cond.methodLink "HungFacesLaw" (211 : Nat) ({ cls := "HungFacesModel", name := "saved", desc := "()I" } : Jvm.MethodName)) ∈ lw_all := lw_g (lw_at lw_m10 184 rfl) rfl
theorem q2475 : (Jvm.Cond.methodLink "HungFacesLaw" (215 : Nat) ({ cls := "HungFacesModel", name := "marks", desc := "()I" } : Jvm.MethodName)) ∈ lw_all := lw_g (lw_at lw_m10 188 rfl) rfl
theorem q2483 : (Jvm.Cond.methodLink "HungFacesLaw" (219 : Nat) ({ cls := "HungFacesModel", name := "unknown", desc := "()I" } : Jvm.MethodName)) ∈ lw_all := lw_g (lw_at lw_m10 196 rfl) rfl
theorem q2487 : (Jvm.Cond.methodLink "HungFacesLaw" (222 : Nat) ({ cls := "HungFacesModel", name := "passes", desc := "(II)I" } : Jvm.MethodName)) ∈ lw_all := lw_g (lw_at lw_m10 200 rfl) rfl
theorem q2491 : (Jvm.Cond.methodLink "HungFacesLaw" (225 : Nat) ({ cls := "HungFacesModel", name := "core", desc := "(I)I" } : Jvm.MethodName)) ∈ lw_all := lw_g (lw_at lw_m10 204 rfl) rfl
theorem q2507 : (Jvm.Cond.methodLink "HungFacesLaw" (229 : Nat) ({ cls := "HungFacesModel", name := "gains", desc := "()I" } : Jvm.MethodName)) ∈ lw_all := lw_g (lw_at lw_m10 220 rfl) rfl
theorem q2511 : (Jvm.Cond.methodLink "HungFacesLaw" (232 : Nat) ({ cls := "HungFacesModel", name := "block", desc := "(I)Z" } : Jvm.MethodName)) ∈ lw_all := lw_g (lw_at lw_m10 224 rfl) rfl
theorem q2519 : (Jvm.Cond.methodLink "HungFacesLaw" (235 : Nat) ({ cls := "HungFacesModel", name := "fits", desc := "(I)I" } : Jvm.MethodName)) ∈ lw_all := lw_g (lw_at lw_m10 232 rfl) rfl
theorem q2539 : (Jvm.Cond.methodLink "HungFacesLaw" (238 : Nat) ({ cls := "HungFacesModel", name := "ask", desc := "(I)I" } : Jvm.MethodName)) ∈ lw_all := lw_g (lw_at lw_m11 12 rfl) rfl
theorem q2544 : (Jvm.Cond.methodLink "HungFacesLaw" (241 : Nat) ({ cls := "HungFacesModel", name := "clash", desc := "()I" } : Jvm.MethodName)) ∈ lw_all := lw_g (lw_at lw_m11 17 rfl) rfl
theorem q2548 : (Jvm.Cond.methodLink "HungFacesLaw" (245 : Nat) ({ cls := "HungFacesModel", name := "queue", desc := "(I)I" } : Jvm.MethodName)) ∈ lw_all := lw_g (lw_at lw_m11 21 rfl) rfl
theorem q2564 : (Jvm.Cond.methodLink "HungFacesLaw" (248 : Nat) ({ cls := "HungFacesModel", name := "forged", desc := "(I)I" } : Jvm.MethodName)) ∈ lw_all := lw_g (lw_at lw_m11 37 rfl) rfl
theorem q2572 : (Jvm.Cond.methodLink "HungFacesLaw" (251 : Nat) ({ cls := "HungFacesModel", name := "ways", desc := "(I)I" } : Jvm.MethodName)) ∈ lw_all := lw_g (lw_at lw_m11 45 rfl) rfl
theorem q2579 : (Jvm.Cond.methodLink "HungFacesLaw" (254 : Nat) ({ cls := "HungFacesModel", name := "talk", desc := "(I)I" } : Jvm.MethodName)) ∈ lw_all := lw_g (lw_at lw_m11 52 rfl) rfl
theorem q2587 : (Jvm.Cond.methodLink "HungFacesLaw" (259 : Nat) ({ cls := "HungFacesModel", name := "row", desc := "(Z)I" } : Jvm.MethodName)) ∈ lw_all := lw_g (lw_at lw_m11 60 rfl) rfl
theorem q2591 : (Jvm.Cond.methodLink "HungFacesLaw" (262 : Nat) ({ cls := "HungFacesModel", name := "chain", desc := "(II)I" } : Jvm.MethodName)) ∈ lw_all := lw_g (lw_at lw_m11 64 rfl) rfl
theorem q2595 : (Jvm.Cond.methodLink "HungFacesLaw" (265 : Nat) ({ cls := "HungFacesModel", name := "hears", desc := "(II)I" } : Jvm.MethodName)) ∈ lw_all := lw_g (lw_at lw_m11 68 rfl) rfl
theorem q2599 : (Jvm.Cond.methodLink "HungFacesLaw" (268 : Nat) ({ cls := "HungFacesModel", name := "trial", desc := "(I)I" } : Jvm.MethodName)) ∈ lw_all := lw_g (lw_at lw_m11 72 rfl) rfl
theorem q2607 : (Jvm.Cond.methodLink "HungFacesLaw" (272 : Nat) ({ cls := "HungFacesModel", name := "span", desc := "(IZ)I" } : Jvm.MethodName)) ∈ lw_all := lw_g (lw_at lw_m11 80 rfl) rfl
theorem q2611 : (Jvm.Cond.methodLink "HungFacesLaw" (275 : Nat) ({ cls := "HungFacesModel", name := "led", desc := "(IZ)I" } : Jvm.MethodName)) ∈ lw_all := lw_g (lw_at lw_m11 84 rfl) rfl
theorem q2619 : (Jvm.Cond.methodLink "HungFacesLaw" (278 : Nat) ({ cls := "HungFacesModel", name := "log", desc := "(II)I" } : Jvm.MethodName)) ∈ lw_all := lw_g (lw_at lw_m11 92 rfl) rfl
theorem q2623 : (Jvm.Cond.methodLink "HungFacesLaw" (282 : Nat) ({ cls := "HungFacesModel", name := "seed", desc := "(I)I" } : Jvm.MethodName)) ∈ lw_all := lw_g (lw_at lw_m11 96 rfl) rfl
theorem q2627 : (Jvm.Cond.methodLink "HungFacesLaw" (287 : Nat) ({ cls := "HungFacesModel", name := "undo", desc := "()Z" } : Jvm.MethodName)) ∈ lw_all := lw_g (lw_at lw_m11 100 rfl) rfl
theorem q2631 : (Jvm.Cond.methodLink "HungFacesLaw" (291 : Nat) ({ cls := "HungFacesModel", name := "image", desc := "()V" } : Jvm.MethodName)) ∈ lw_all := lw_g (lw_at lw_m11 104 rfl) rfl
theorem q2635 : (Jvm.Cond.methodLink "HungFacesLaw" (295 : Nat) ({ cls := "HungFacesModel", name := "back", desc := "()Z" } : Jvm.MethodName)) ∈ lw_all := lw_g (lw_at lw_m11 108 rfl) rfl
theorem q2639 : (Jvm.Cond.methodLink "HungFacesLaw" (299 : Nat) ({ cls := "HungFacesModel", name := "count", desc := "(I)I" } : Jvm.MethodName)) ∈ lw_all := lw_g (lw_at lw_m11 112 rfl) rfl
theorem q128 : (Jvm.Cond.initialized "HungFaces") ∈ lw_all := lw_g (lw_at lw_m1 1 rfl) rfl
theorem q174 : (Jvm.Cond.instantiable "HungFaces" (11 : Nat)) ∈ lw_all := lw_g (lw_at lw_m1 47 rfl) rfl
theorem q176 : (Jvm.Cond.instanceMethod ({ cls := "HungFaces", name := "<init>", desc := "()V" } : Jvm.MethodName)) ∈ lw_all := lw_g (lw_at lw_m1 49 rfl) rfl
theorem q177 : (Jvm.Cond.code ({ cls := "HungFaces", name := "<init>", desc := "()V" } : Jvm.MethodName) prog_1_method_1_code (1 : Nat) (Option.none : Option Jvm.ClassFile.FieldType)) ∈ lw_all := lw_g (lw_at lw_m1 50 rfl) rfl
theorem q178 : (Jvm.Cond.methodLink "HungFaces" (1 : Nat) ({ cls := "java/lang/Object", name := "<init>", desc := "()V" } : Jvm.MethodName)) ∈ lw_all := lw_g (lw_at lw_m1 51 rfl) rfl
theorem q181 : (Jvm.Cond.classLink "HungFaces" (7 : Nat) "HungFaces$World") ∈ lw_all := lw_g (lw_at lw_m1 54 rfl) rfl
theorem q183 : (Jvm.Cond.methodLink "HungFaces" (9 : Nat) ({ cls := "HungFaces$World", name := "<init>", desc := "()V" } : Jvm.MethodName)) ∈ lw_all := lw_g (lw_at lw_m1 56 rfl) rfl
theorem q191 : (Jvm.Cond.fieldLinkNest "HungFaces" (248 : Nat) "HungFaces$World" "texts" "I" "HungFaces") ∈ lw_tbl := lw_at lw_m1 64 rfl
theorem q195 : (Jvm.Cond.fieldLinkNest "HungFaces" (102 : Nat) "HungFaces$World" "people" "I" "HungFaces") ∈ lw_tbl := lw_at lw_m1 68 rfl
theorem q197 : (Jvm.Cond.fieldLinkNest "HungFaces" (166 : Nat) "HungFaces$World" "hooks" "I" "HungFaces") ∈ lw_tbl := lw_at lw_m1 70 rfl
theorem q199 : (Jvm.Cond.fieldLinkNest "HungFaces" (371 : Nat) "HungFaces$World" "hour" "I" "HungFaces") ∈ lw_tbl := lw_at lw_m1 72 rfl
theorem q201 : (Jvm.Cond.fieldLinkNest "HungFaces" (210 : Nat) "HungFaces$World" "mix" "I" "HungFaces") ∈ lw_tbl := lw_at lw_m1 74 rfl
theorem q203 : (Jvm.Cond.fieldLinkNest "HungFaces" (212 : Nat) "HungFaces$World" "thief" "I" "HungFaces") ∈ lw_tbl := lw_at lw_m1 76 rfl
theorem q205 : (Jvm.Cond.fieldLinkNest "HungFaces" (613 : Nat) "HungFaces$World" "logged" "I" "HungFaces") ∈ lw_tbl := lw_at lw_m1 78 rfl
theorem q207 : (Jvm.Cond.fieldLinkNest "HungFaces" (595 : Nat) "HungFaces$World" "seed" "I" "HungFaces") ∈ lw_tbl := lw_at lw_m1 80 rfl
theorem q209 : (Jvm.Cond.fieldLinkNest "HungFaces" (109 : Nat) "HungFaces$World" "face" "[I" "HungFaces") ∈ lw_tbl := lw_at lw_m1 82 rfl
theorem q211 : (Jvm.Cond.fieldLinkNest "HungFaces" (117 : Nat) "HungFaces$World" "mask" "[I" "HungFaces") ∈ lw_tbl := lw_at lw_m1 84 rfl
theorem q214 : (Jvm.Cond.fieldLinkNest "HungFaces" (120 : Nat) "HungFaces$World" "wears" "[I" "HungFaces") ∈ lw_tbl := lw_at lw_m1 87 rfl
theorem q217 : (Jvm.Cond.fieldLinkNest "HungFaces" (123 : Nat) "HungFaces$World" "ticket" "[I" "HungFaces") ∈ lw_tbl := lw_at lw_m1 90 rfl
theorem q219 : (Jvm.Cond.fieldLinkNest "HungFaces" (126 : Nat) "HungFaces$World" "spouse" "[I" "HungFaces") ∈ lw_tbl := lw_at lw_m1 92 rfl
theorem q221 : (Jvm.Cond.fieldLinkNest "HungFaces" (129 : Nat) "HungFaces$World" "knows" "[I" "HungFaces") ∈ lw_tbl := lw_at lw_m1 94 rfl
theorem q223 : (Jvm.Cond.fieldLinkNest "HungFaces" (135 : Nat) "HungFaces$World" "thinks" "[I" "HungFaces") ∈ lw_tbl := lw_at lw_m1 96 rfl
theorem q226 : (Jvm.Cond.fieldLinkNest "HungFaces" (150 : Nat) "HungFaces$World" "wishes" "[I" "HungFaces") ∈ lw_tbl := lw_at lw_m1 99 rfl
theorem q228 : (Jvm.Cond.fieldLinkNest "HungFaces" (132 : Nat) "HungFaces$World" "told" "[I" "HungFaces") ∈ lw_tbl := lw_at lw_m1 101 rfl
theorem q230 : (Jvm.Cond.fieldLinkNest "HungFaces" (160 : Nat) "HungFaces$World" "hook" "[I" "HungFaces") ∈ lw_tbl := lw_at lw_m1 103 rfl
theorem q232 : (Jvm.Cond.fieldLinkNest "HungFaces" (601 : Nat) "HungFaces$World" "log" "[I" "HungFaces") ∈ lw_tbl := lw_at lw_m1 105 rfl
theorem q234 : (Jvm.Cond.fieldLinkNest "HungFaces" (361 : Nat) "HungFaces$World" "law" "LHungFaces$Law;" "HungFaces") ∈ lw_tbl := lw_at lw_m1 107 rfl
theorem q277 : (Jvm.Cond.classLink "HungFaces" (22 : Nat) "HungFaces$Reader") ∈ lw_all := lw_g (lw_at lw_m1 150 rfl) rfl
theorem q279 : (Jvm.Cond.methodLinkNest "HungFaces" (24 : Nat) ({ cls := "HungFaces$Reader", name := "<init>", desc := "()V" } : Jvm.MethodName) "HungFaces") ∈ lw_tbl := lw_at lw_m1 152 rfl
theorem q285 : (Jvm.Cond.fieldLinkNest "HungFaces" (544 : Nat) "HungFaces$Reader" "tape" "[B" "HungFaces") ∈ lw_tbl := lw_at lw_m1 158 rfl
theorem q289 : (Jvm.Cond.fieldLinkNest "HungFaces" (541 : Nat) "HungFaces$Reader" "end" "I" "HungFaces") ∈ lw_tbl := lw_at lw_m1 162 rfl
theorem q291 : (Jvm.Cond.fieldLinkNest "HungFaces" (84 : Nat) "HungFaces$Reader" "at" "I" "HungFaces") ∈ lw_tbl := lw_at lw_m1 164 rfl
theorem q293 : (Jvm.Cond.fieldLinkNest "HungFaces" (95 : Nat) "HungFaces$Reader" "begin" "I" "HungFaces") ∈ lw_tbl := lw_at lw_m1 166 rfl
theorem q295 : (Jvm.Cond.fieldLinkNest "HungFaces" (77 : Nat) "HungFaces$Reader" "fault" "I" "HungFaces") ∈ lw_tbl := lw_at lw_m1 168 rfl
theorem q313 : (Jvm.Cond.classLink "HungFaces" (29 : Nat) "HungFaces$Scene") ∈ lw_all := lw_g (lw_at lw_m1 186 rfl) rfl
theorem q315 : (Jvm.Cond.methodLinkNest "HungFaces" (31 : Nat) ({ cls := "HungFaces$Scene", name := "<init>", desc := "()V" } : Jvm.MethodName) "HungFaces") ∈ lw_tbl := lw_at lw_m1 188 rfl
theorem q320 : (Jvm.Cond.fieldLinkNest "HungFaces" (368 : Nat) "HungFaces$Scene" "who" "I" "HungFaces") ∈ lw_tbl := lw_at lw_m1 193 rfl
theorem q322 : (Jvm.Cond.fieldLinkNest "HungFaces" (374 : Nat) "HungFaces$Scene" "hour" "I" "HungFaces") ∈ lw_tbl := lw_at lw_m1 195 rfl
theorem q324 : (Jvm.Cond.fieldLinkNest "HungFaces" (375 : Nat) "HungFaces$Scene" "hook" "I" "HungFaces") ∈ lw_tbl := lw_at lw_m1 197 rfl
theorem q326 : (Jvm.Cond.fieldLinkNest "HungFaces" (382 : Nat) "HungFaces$Scene" "marks" "I" "HungFaces") ∈ lw_tbl := lw_at lw_m1 199 rfl
theorem q328 : (Jvm.Cond.fieldLinkNest "HungFaces" (388 : Nat) "HungFaces$Scene" "hung" "I" "HungFaces") ∈ lw_tbl := lw_at lw_m1 201 rfl
theorem q330 : (Jvm.Cond.fieldLinkNest "HungFaces" (390 : Nat) "HungFaces$Scene" "free" "I" "HungFaces") ∈ lw_tbl := lw_at lw_m1 203 rfl
theorem q332 : (Jvm.Cond.fieldLinkNest "HungFaces" (393 : Nat) "HungFaces$Scene" "own" "Z" "HungFaces") ∈ lw_tbl := lw_at lw_m1 205 rfl
theorem q334 : (Jvm.Cond.fieldLinkNest "HungFaces" (396 : Nat) "HungFaces$Scene" "wed" "Z" "HungFaces") ∈ lw_tbl := lw_at lw_m1 207 rfl
theorem q352 : (Jvm.Cond.classLink "HungFaces" (36 : Nat) "java/util/ArrayList") ∈ lw_all := lw_g (lw_at lw_m1 225 rfl) rfl
theorem q354 : (Jvm.Cond.methodLink "HungFaces" (38 : Nat) ({ cls := "java/util/ArrayList", name := "<init>", desc := "()V" } : Jvm.MethodName)) ∈ lw_all := lw_g (lw_at lw_m1 227 rfl) rfl
theorem q378 : (Jvm.Cond.classLink "HungFaces" (43 : Nat) "HungFaces$Trade") ∈ lw_all := lw_g (lw_at lw_m2 11 rfl) rfl
theorem q380 : (Jvm.Cond.methodLinkNest "HungFaces" (45 : Nat) ({ cls := "HungFaces$Trade", name := "<init>", desc := "(LHungFaces;)V" } : Jvm.MethodName) "HungFaces") ∈ lw_tbl := lw_at lw_m2 13 rfl
theorem q385 : (Jvm.Cond.fieldLinkNest "HungFaces" (526 : Nat) "HungFaces$Trade" "gets" "[I" "HungFaces") ∈ lw_tbl := lw_at lw_m2 18 rfl
theorem q398 : (Jvm.Cond.classLink "HungFaces" (52 : Nat) "HungFaces$Owners") ∈ lw_all := lw_g (lw_at lw_m2 31 rfl) rfl
theorem q400 : (Jvm.Cond.methodLinkNest "HungFaces" (54 : Nat) ({ cls := "HungFaces$Owners", name := "<init>", desc := "(LHungFaces;)V" } : Jvm.MethodName) "HungFaces") ∈ lw_tbl := lw_at lw_m2 33 rfl
theorem q414 : (Jvm.Cond.classLink "HungFaces" (59 : Nat) "HungFaces$Queue") ∈ lw_all := lw_g (lw_at lw_m2 47 rfl) rfl
theorem q416 : (Jvm.Cond.methodLinkNest "HungFaces" (61 : Nat) ({ cls := "HungFaces$Queue", name := "<init>", desc := "(LHungFaces;)V" } : Jvm.MethodName) "HungFaces") ∈ lw_tbl := lw_at lw_m2 49 rfl
theorem q423 : (Jvm.Cond.fieldLinkNest "HungFaces" (575 : Nat) "HungFaces$Queue" "many" "I" "HungFaces") ∈ lw_tbl := lw_at lw_m2 56 rfl
theorem q434 : (Jvm.Cond.fieldLink "HungFaces" (10 : Nat) "HungFaces" "world" "LHungFaces$World;") ∈ lw_all := lw_g (lw_at lw_m2 67 rfl) rfl
theorem q438 : (Jvm.Cond.fieldLink "HungFaces" (16 : Nat) "HungFaces" "draft" "LHungFaces$World;") ∈ lw_all := lw_g (lw_at lw_m2 71 rfl) rfl
theorem q439 : (Jvm.Cond.fieldLink "HungFaces" (19 : Nat) "HungFaces" "image" "LHungFaces$World;") ∈ lw_all := lw_g (lw_at lw_m2 72 rfl) rfl
theorem q440 : (Jvm.Cond.fieldLink "HungFaces" (622 : Nat) "HungFaces" "hasImage" "Z") ∈ lw_all := lw_g (lw_at lw_m2 73 rfl) rfl
theorem q441 : (Jvm.Cond.fieldLink "HungFaces" (25 : Nat) "HungFaces" "reader" "LHungFaces$Reader;") ∈ lw_all := lw_g (lw_at lw_m2 74 rfl) rfl
theorem q443 : (Jvm.Cond.fieldLink "HungFaces" (32 : Nat) "HungFaces" "scene" "LHungFaces$Scene;") ∈ lw_all := lw_g (lw_at lw_m2 76 rfl) rfl
theorem q444 : (Jvm.Cond.fieldLink "HungFaces" (39 : Nat) "HungFaces" "kept" "Ljava/util/ArrayList;") ∈ lw_all := lw_g (lw_at lw_m2 77 rfl) rfl
theorem q445 : (Jvm.Cond.fieldLink "HungFaces" (48 : Nat) "HungFaces" "trade" "LHungFaces$Trade;") ∈ lw_all := lw_g (lw_at lw_m2 78 rfl) rfl
theorem q446 : (Jvm.Cond.fieldLink "HungFaces" (55 : Nat) "HungFaces" "owners" "LHungFaces$Owners;") ∈ lw_all := lw_g (lw_at lw_m2 79 rfl) rfl
theorem q447 : (Jvm.Cond.fieldLink "HungFaces" (62 : Nat) "HungFaces" "queue" "LHungFaces$Queue;") ∈ lw_all := lw_g (lw_at lw_m2 80 rfl) rfl
theorem q448 : (Jvm.Cond.fieldLink "HungFaces" (66 : Nat) "HungFaces" "trial" "LHungFaces$World;") ∈ lw_all := lw_g (lw_at lw_m2 81 rfl) rfl
theorem q449 : (Jvm.Cond.laysFinal "HungFaces" "HungFaces" "world" "LHungFaces$World;") ∈ lw_all := lw_g (lw_at lw_m2 82 rfl) rfl
theorem q450 : (Jvm.Cond.soleField "HungFaces" "world") ∈ lw_all := lw_g (lw_at lw_m2 83 rfl) rfl
theorem q451 : (Jvm.Cond.laysFinal "HungFaces" "HungFaces" "draft" "LHungFaces$World;") ∈ lw_all := lw_g (lw_at lw_m2 84 rfl) rfl
theorem q452 : (Jvm.Cond.soleField "HungFaces" "draft") ∈ lw_all := lw_g (lw_at lw_m2 85 rfl) rfl
theorem q453 : (Jvm.Cond.laysFinal "HungFaces" "HungFaces" "image" "LHungFaces$World;") ∈ lw_all := lw_g (lw_at lw_m2 86 rfl) rfl
theorem q454 : (Jvm.Cond.soleField "HungFaces" "image") ∈ lw_all := lw_g (lw_at lw_m2 87 rfl) rfl
theorem q455 : (Jvm.Cond.lays "HungFaces" "HungFaces" "hasImage" "Z") ∈ lw_all := lw_g (lw_at lw_m2 88 rfl) rfl
theorem q456 : (Jvm.Cond.soleField "HungFaces" "hasImage") ∈ lw_all := lw_g (lw_at lw_m2 89 rfl) rfl
theorem q457 : (Jvm.Cond.laysFinal "HungFaces" "HungFaces" "reader" "LHungFaces$Reader;") ∈ lw_all := lw_g (lw_at lw_m2 90 rfl) rfl
theorem q458 : (Jvm.Cond.soleField "HungFaces" "reader") ∈ lw_all := lw_g (lw_at lw_m2 91 rfl) rfl
theorem q459 : (Jvm.Cond.laysFinal "HungFaces" "HungFaces" "scene" "LHungFaces$Scene;") ∈ lw_all := lw_g (lw_at lw_m2 92 rfl) rfl
theorem q460 : (Jvm.Cond.soleField "HungFaces" "scene") ∈ lw_all := lw_g (lw_at lw_m2 93 rfl) rfl
theorem q461 : (Jvm.Cond.laysFinal "HungFaces" "HungFaces" "kept" "Ljava/util/ArrayList;") ∈ lw_all := lw_g (lw_at lw_m2 94 rfl) rfl
theorem q462 : (Jvm.Cond.soleField "HungFaces" "kept") ∈ lw_all := lw_g (lw_at lw_m2 95 rfl) rfl
theorem q463 : (Jvm.Cond.laysFinal "HungFaces" "HungFaces" "trade" "LHungFaces$Trade;") ∈ lw_all := lw_g (lw_at lw_m2 96 rfl) rfl
theorem q464 : (Jvm.Cond.soleField "HungFaces" "trade") ∈ lw_all := lw_g (lw_at lw_m2 97 rfl) rfl
theorem q465 : (Jvm.Cond.laysFinal "HungFaces" "HungFaces" "owners" "LHungFaces$Owners;") ∈ lw_all := lw_g (lw_at lw_m2 98 rfl) rfl
theorem q466 : (Jvm.Cond.soleField "HungFaces" "owners") ∈ lw_all := lw_g (lw_at lw_m2 99 rfl) rfl
theorem q467 : (Jvm.Cond.laysFinal "HungFaces" "HungFaces" "queue" "LHungFaces$Queue;") ∈ lw_all := lw_g (lw_at lw_m2 100 rfl) rfl
theorem q468 : (Jvm.Cond.soleField "HungFaces" "queue") ∈ lw_all := lw_g (lw_at lw_m2 101 rfl) rfl
theorem q469 : (Jvm.Cond.laysFinal "HungFaces" "HungFaces" "trial" "LHungFaces$World;") ∈ lw_all := lw_g (lw_at lw_m2 102 rfl) rfl
theorem q470 : (Jvm.Cond.soleField "HungFaces" "trial") ∈ lw_all := lw_g (lw_at lw_m2 103 rfl) rfl
theorem q471 : (Jvm.Cond.superclass "HungFaces" "java/lang/Object") ∈ lw_all := lw_g (lw_at lw_m2 104 rfl) rfl
theorem q473 : (Jvm.Cond.instanceMethod ({ cls := "HungFaces", name := "feed", desc := "(IIIII)I" } : Jvm.MethodName)) ∈ lw_all := lw_g (lw_at lw_m2 106 rfl) rfl
theorem q474 : (Jvm.Cond.selects "HungFaces" ({ cls := "HungFaces", name := "feed", desc := "(IIIII)I" } : Jvm.MethodName) ({ cls := "HungFaces", name := "feed", desc := "(IIIII)I" } : Jvm.MethodName)) ∈ lw_all := lw_g (lw_at lw_m2 107 rfl) rfl
theorem q475 : (Jvm.Cond.code ({ cls := "HungFaces", name := "feed", desc := "(IIIII)I" } : Jvm.MethodName) prog_1_method_3_code (6 : Nat) (Option.some Jvm.ClassFile.FieldType.int)) ∈ lw_all := lw_g (lw_at lw_m2 108 rfl) rfl
theorem q476 : (Jvm.Cond.methodLink "HungFaces" (69 : Nat) ({ cls := "HungFaces$Reader", name := "add", desc := "([I)I" } : Jvm.MethodName)) ∈ lw_all := lw_g (lw_at lw_m2 109 rfl) rfl
theorem q481 : (Jvm.Cond.instanceMethod ({ cls := "HungFaces", name := "end", desc := "(I)Z" } : Jvm.MethodName)) ∈ lw_all := lw_g (lw_at lw_m2 114 rfl) rfl
theorem q482 : (Jvm.Cond.selects "HungFaces" ({ cls := "HungFaces", name := "end", desc := "(I)Z" } : Jvm.MethodName) ({ cls := "HungFaces", name := "end", desc := "(I)Z" } : Jvm.MethodName)) ∈ lw_all := lw_g (lw_at lw_m2 115 rfl) rfl
theorem q483 : (Jvm.Cond.code ({ cls := "HungFaces", name := "end", desc := "(I)Z" } : Jvm.MethodName) prog_1_method_4_code (2 : Nat) (Option.some Jvm.ClassFile.FieldType.boolean)) ∈ lw_all := lw_g (lw_at lw_m2 116 rfl) rfl
theorem q484 : (Jvm.Cond.methodLink "HungFaces" (73 : Nat) ({ cls := "HungFaces$Reader", name := "cut", desc := "(I)Z" } : Jvm.MethodName)) ∈ lw_all := lw_g (lw_at lw_m2 117 rfl) rfl
theorem q489 : (Jvm.Cond.instanceMethod ({ cls := "HungFaces", name := "fault", desc := "()I" } : Jvm.MethodName)) ∈ lw_all := lw_g (lw_at lw_m2 122 rfl) rfl
theorem q490 : (Jvm.Cond.selects "HungFaces" ({ cls := "HungFaces", name := "fault", desc := "()I" } : Jvm.MethodName) ({ cls := "HungFaces", name := "fault", desc := "()I" } : Jvm.MethodName)) ∈ lw_all := lw_g (lw_at lw_m2 123 rfl) rfl
theorem q491 : (Jvm.Cond.code ({ cls := "HungFaces", name := "fault", desc := "()I" } : Jvm.MethodName) prog_1_method_5_code (1 : Nat) (Option.some Jvm.ClassFile.FieldType.int)) ∈ lw_all := lw_g (lw_at lw_m2 124 rfl) rfl
theorem q493 : (Jvm.Cond.instanceMethod ({ cls := "HungFaces", name := "wrong", desc := "()I" } : Jvm.MethodName)) ∈ lw_all := lw_g (lw_at lw_m2 126 rfl) rfl
theorem q494 : (Jvm.Cond.selects "HungFaces" ({ cls := "HungFaces", name := "wrong", desc := "()I" } : Jvm.MethodName) ({ cls := "HungFaces", name := "wrong", desc := "()I" } : Jvm.MethodName)) ∈ lw_all := lw_g (lw_at lw_m2 127 rfl) rfl
theorem q495 : (Jvm.Cond.code ({ cls := "HungFaces", name := "wrong", desc := "()I" } : Jvm.MethodName) prog_1_method_61_code (1 : Nat) (Option.some Jvm.ClassFile.FieldType.int)) ∈ lw_all := lw_g (lw_at lw_m2 128 rfl) rfl
theorem q496 : (Jvm.Cond.methodLink "HungFaces" (508 : Nat) ({ cls := "HungFaces", name := "wrongOf", desc := "(LHungFaces$World;)I" } : Jvm.MethodName)) ∈ lw_all := lw_g (lw_at lw_m2 129 rfl) rfl
theorem q497 : (Jvm.Cond.static ({ cls := "HungFaces", name := "wrongOf", desc := "(LHungFaces$World;)I" } : Jvm.MethodName)) ∈ lw_all := lw_g (lw_at lw_m2 130 rfl) rfl
theorem q498 : (Jvm.Cond.code ({ cls := "HungFaces", name := "wrongOf", desc := "(LHungFaces$World;)I" } : Jvm.MethodName) prog_1_method_59_code (3 : Nat) (Option.some Jvm.ClassFile.FieldType.int)) ∈ lw_all := lw_g (lw_at lw_m2 131 rfl) rfl
theorem q500 : (Jvm.Cond.instanceMethod ({ cls := "HungFaces", name := "lost", desc := "()I" } : Jvm.MethodName)) ∈ lw_all := lw_g (lw_at lw_m2 133 rfl) rfl
theorem q501 : (Jvm.Cond.selects "HungFaces" ({ cls := "HungFaces", name := "lost", desc := "()I" } : Jvm.MethodName) ({ cls := "HungFaces", name := "lost", desc := "()I" } : Jvm.MethodName)) ∈ lw_all := lw_g (lw_at lw_m2 134 rfl) rfl
theorem q502 : (Jvm.Cond.code ({ cls := "HungFaces", name := "lost", desc := "()I" } : Jvm.MethodName) prog_1_method_62_code (3 : Nat) (Option.some Jvm.ClassFile.FieldType.int)) ∈ lw_all := lw_g (lw_at lw_m2 135 rfl) rfl
theorem q503 : (Jvm.Cond.methodLink "HungFaces" (511 : Nat) ({ cls := "HungFaces", name := "isLost", desc := "(I)Z" } : Jvm.MethodName)) ∈ lw_all := lw_g (lw_at lw_m2 136 rfl) rfl
theorem q504 : (Jvm.Cond.privateMethod ({ cls := "HungFaces", name := "isLost", desc := "(I)Z" } : Jvm.MethodName)) ∈ lw_tbl := lw_at lw_m2 137 rfl
theorem q505 : (Jvm.Cond.instanceMethod ({ cls := "HungFaces", name := "isLost", desc := "(I)Z" } : Jvm.MethodName)) ∈ lw_all := lw_g (lw_at lw_m2 138 rfl) rfl
theorem q506 : (Jvm.Cond.code ({ cls := "HungFaces", name := "isLost", desc := "(I)Z" } : Jvm.MethodName) prog_1_method_60_code (2 : Nat) (Option.some Jvm.ClassFile.FieldType.boolean)) ∈ lw_all := lw_g (lw_at lw_m2 139 rfl) rfl
theorem q507 : (Jvm.Cond.methodLink "HungFaces" (426 : Nat) ({ cls := "HungFaces$World", name := "wearer", desc := "(I)I" } : Jvm.MethodName)) ∈ lw_all := lw_g (lw_at lw_m2 140 rfl) rfl
theorem q511 : (Jvm.Cond.methodLink "HungFaces" (435 : Nat) ({ cls := "HungFaces$World", name := "hookOf", desc := "(I)I" } : Jvm.MethodName)) ∈ lw_all := lw_g (lw_at lw_m2 144 rfl) rfl
theorem q516 : (Jvm.Cond.instanceMethod ({ cls := "HungFaces", name := "unclaimed", desc := "()I" } : Jvm.MethodName)) ∈ lw_all := lw_g (lw_at lw_m2 149 rfl) rfl
theorem q517 : (Jvm.Cond.selects "HungFaces" ({ cls := "HungFaces", name := "unclaimed", desc := "()I" } : Jvm.MethodName) ({ cls := "HungFaces", name := "unclaimed", desc := "()I" } : Jvm.MethodName)) ∈ lw_all := lw_g (lw_at lw_m2 150 rfl) rfl
theorem q518 : (Jvm.Cond.code ({ cls := "HungFaces", name := "unclaimed", desc := "()I" } : Jvm.MethodName) prog_1_method_63_code (3 : Nat) (Option.some Jvm.ClassFile.FieldType.int)) ∈ lw_all := lw_g (lw_at lw_m2 151 rfl) rfl
theorem q519 : (Jvm.Cond.methodLink "HungFaces" (163 : Nat) ({ cls := "HungFaces$World", name := "isTicket", desc := "(I)Z" } : Jvm.MethodName)) ∈ lw_all := lw_g (lw_at lw_m2 152 rfl) rfl
theorem q524 : (Jvm.Cond.instanceMethod ({ cls := "HungFaces", name := "swaps", desc := "()I" } : Jvm.MethodName)) ∈ lw_all := lw_g (lw_at lw_m2 157 rfl) rfl
theorem q525 : (Jvm.Cond.selects "HungFaces" ({ cls := "HungFaces", name := "swaps", desc := "()I" } : Jvm.MethodName) ({ cls := "HungFaces", name := "swaps", desc := "()I" } : Jvm.MethodName)) ∈ lw_all := lw_g (lw_at lw_m2 158 rfl) rfl
theorem q526 : (Jvm.Cond.code ({ cls := "HungFaces", name := "swaps", desc := "()I" } : Jvm.MethodName) prog_1_method_66_code (3 : Nat) (Option.some Jvm.ClassFile.FieldType.int)) ∈ lw_all := lw_g (lw_at lw_m2 159 rfl) rfl
theorem q527 : (Jvm.Cond.methodLink "HungFaces" (517 : Nat) ({ cls := "HungFaces", name := "begins", desc := "(I)Z" } : Jvm.MethodName)) ∈ lw_all := lw_g (lw_at lw_m2 160 rfl) rfl
theorem q528 : (Jvm.Cond.privateMethod ({ cls := "HungFaces", name := "begins", desc := "(I)Z" } : Jvm.MethodName)) ∈ lw_tbl := lw_at lw_m2 161 rfl
theorem q529 : (Jvm.Cond.instanceMethod ({ cls := "HungFaces", name := "begins", desc := "(I)Z" } : Jvm.MethodName)) ∈ lw_all := lw_g (lw_at lw_m2 162 rfl) rfl
theorem q530 : (Jvm.Cond.code ({ cls := "HungFaces", name := "begins", desc := "(I)Z" } : Jvm.MethodName) prog_1_method_64_code (3 : Nat) (Option.some Jvm.ClassFile.FieldType.boolean)) ∈ lw_all := lw_g (lw_at lw_m2 163 rfl) rfl
theorem q531 : (Jvm.Cond.methodLink "HungFaces" (432 : Nat) ({ cls := "HungFaces", name := "ringOf", desc := "(I)I" } : Jvm.MethodName)) ∈ lw_all := lw_g (lw_at lw_m2 164 rfl) rfl
theorem q532 : (Jvm.Cond.privateMethod ({ cls := "HungFaces", name := "ringOf", desc := "(I)I" } : Jvm.MethodName)) ∈ lw_tbl := lw_at lw_m2 165 rfl
theorem q533 : (Jvm.Cond.instanceMethod ({ cls := "HungFaces", name := "ringOf", desc := "(I)I" } : Jvm.MethodName)) ∈ lw_all := lw_g (lw_at lw_m2 166 rfl) rfl
theorem q534 : (Jvm.Cond.code ({ cls := "HungFaces", name := "ringOf", desc := "(I)I" } : Jvm.MethodName) prog_1_method_38_code (4 : Nat) (Option.some Jvm.ClassFile.FieldType.int)) ∈ lw_all := lw_g (lw_at lw_m2 167 rfl) rfl
theorem q535 : (Jvm.Cond.methodLink "HungFaces" (423 : Nat) ({ cls := "HungFaces", name := "has", desc := "(II)Z" } : Jvm.MethodName)) ∈ lw_all := lw_g (lw_at lw_m2 168 rfl) rfl
theorem q536 : (Jvm.Cond.static ({ cls := "HungFaces", name := "has", desc := "(II)Z" } : Jvm.MethodName)) ∈ lw_all := lw_g (lw_at lw_m2 169 rfl) rfl
theorem q537 : (Jvm.Cond.code ({ cls := "HungFaces", name := "has", desc := "(II)Z" } : Jvm.MethodName) prog_1_method_36_code (2 : Nat) (Option.some Jvm.ClassFile.FieldType.boolean)) ∈ lw_all := lw_g (lw_at lw_m2 170 rfl) rfl
theorem q538 : (Jvm.Cond.methodLink "HungFaces" (377 : Nat) ({ cls := "java/lang/Integer", name := "bitCount", desc := "(I)I" } : Jvm.MethodName)) ∈ lw_all := lw_g (lw_at lw_m2 171 rfl) rfl
theorem q544 : (Jvm.Cond.methodLink "HungFaces" (420 : Nat) ({ cls := "java/lang/Integer", name := "numberOfTrailingZeros", desc := "(I)I" } : Jvm.MethodName)) ∈ lw_all := lw_g (lw_at lw_m2 177 rfl) rfl
theorem q548 : (Jvm.Cond.methodLink "HungFaces" (514 : Nat) ({ cls := "HungFaces", name := "isClosed", desc := "(I)Z" } : Jvm.MethodName)) ∈ lw_all := lw_g (lw_at lw_m2 181 rfl) rfl
theorem q549 : (Jvm.Cond.privateMethod ({ cls := "HungFaces", name := "isClosed", desc := "(I)Z" } : Jvm.MethodName)) ∈ lw_tbl := lw_at lw_m2 182 rfl
theorem q550 : (Jvm.Cond.instanceMethod ({ cls := "HungFaces", name := "isClosed", desc := "(I)Z" } : Jvm.MethodName)) ∈ lw_all := lw_g (lw_at lw_m2 183 rfl) rfl
theorem q551 : (Jvm.Cond.code ({ cls := "HungFaces", name := "isClosed", desc := "(I)Z" } : Jvm.MethodName) prog_1_method_65_code (4 : Nat) (Option.some Jvm.ClassFile.FieldType.boolean)) ∈ lw_all := lw_g (lw_at lw_m2 184 rfl) rfl
theorem q553 : (Jvm.Cond.instanceMethod ({ cls := "HungFaces", name := "saved", desc := "()I" } : Jvm.MethodName)) ∈ lw_all := lw_g (lw_at lw_m2 186 rfl) rfl
theorem q554 : (Jvm.Cond.selects "HungFaces" ({ cls := "HungFaces", name := "saved", desc := "()I" } : Jvm.MethodName) ({ cls := "HungFaces", name := "saved", desc := "()I" } : Jvm.MethodName)) ∈ lw_all := lw_g (lw_at lw_m2 187 rfl) rfl
theorem q555 : (Jvm.Cond.code ({ cls := "HungFaces", name := "saved", desc := "()I" } : Jvm.MethodName) prog_1_method_67_code (4 : Nat) (Option.some Jvm.ClassFile.FieldType.int)) ∈ lw_all := lw_g (lw_at lw_m2 188 rfl) rfl
theorem q557 : (Jvm.Cond.instanceMethod ({ cls := "HungFaces", name := "marks", desc := "()I" } : Jvm.MethodName)) ∈ lw_all := lw_g (lw_at lw_m2 190 rfl) rfl
theorem q558 : (Jvm.Cond.selects "HungFaces" ({ cls := "HungFaces", name := "marks", desc := "()I" } : Jvm.MethodName) ({ cls := "HungFaces", name := "marks", desc := "()I" } : Jvm.MethodName)) ∈ lw_all := lw_g (lw_at lw_m2 191 rfl) rfl
theorem q559 : (Jvm.Cond.code ({ cls := "HungFaces", name := "marks", desc := "()I" } : Jvm.MethodName) prog_1_method_69_code (3 : Nat) (Option.some Jvm.ClassFile.FieldType.int)) ∈ lw_all := lw_g (lw_at lw_m2 192 rfl) rfl
theorem q560 : (Jvm.Cond.methodLink "HungFaces" (519 : Nat) ({ cls := "HungFaces", name := "areUnlike", desc := "(I)Z" } : Jvm.MethodName)) ∈ lw_all := lw_g (lw_at lw_m2 193 rfl) rfl
theorem q561 : (Jvm.Cond.privateMethod ({ cls := "HungFaces", name := "areUnlike", desc := "(I)Z" } : Jvm.MethodName)) ∈ lw_tbl := lw_at lw_m2 194 rfl
theorem q562 : (Jvm.Cond.instanceMethod ({ cls := "HungFaces", name := "areUnlike", desc := "(I)Z" } : Jvm.MethodName)) ∈ lw_all := lw_g (lw_at lw_m2 195 rfl) rfl
theorem q563 : (Jvm.Cond.code ({ cls := "HungFaces", name := "areUnlike", desc := "(I)Z" } : Jvm.MethodName) prog_1_method_68_code (4 : Nat) (Option.some Jvm.ClassFile.FieldType.boolean)) ∈ lw_all := lw_g (lw_at lw_m2 196 rfl) rfl
theorem q565 : (Jvm.Cond.instanceMethod ({ cls := "HungFaces", name := "unknown", desc := "()I" } : Jvm.MethodName)) ∈ lw_all := lw_g (lw_at lw_m2 198 rfl) rfl
theorem q566 : (Jvm.Cond.selects "HungFaces" ({ cls := "HungFaces", name := "unknown", desc := "()I" } : Jvm.MethodName) ({ cls := "HungFaces", name := "unknown", desc := "()I" } : Jvm.MethodName)) ∈ lw_all := lw_g (lw_at lw_m2 199 rfl) rfl
theorem q567 : (Jvm.Cond.code ({ cls := "HungFaces", name := "unknown", desc := "()I" } : Jvm.MethodName) prog_1_method_70_code (4 : Nat) (Option.some Jvm.ClassFile.FieldType.int)) ∈ lw_all := lw_g (lw_at lw_m2 200 rfl) rfl
theorem q569 : (Jvm.Cond.instanceMethod ({ cls := "HungFaces", name := "gains", desc := "()I" } : Jvm.MethodName)) ∈ lw_all := lw_g (lw_at lw_m2 202 rfl) rfl
theorem q570 : (Jvm.Cond.selects "HungFaces" ({ cls := "HungFaces", name := "gains", desc := "()I" } : Jvm.MethodName) ({ cls := "HungFaces", name := "gains", desc := "()I" } : Jvm.MethodName)) ∈ lw_all := lw_g (lw_at lw_m2 203 rfl) rfl
theorem q571 : (Jvm.Cond.code ({ cls := "HungFaces", name := "gains", desc := "()I" } : Jvm.MethodName) prog_1_method_73_code (3 : Nat) (Option.some Jvm.ClassFile.FieldType.int)) ∈ lw_all := lw_g (lw_at lw_m2 204 rfl) rfl
theorem q572 : (Jvm.Cond.methodLink "HungFaces" (522 : Nat) ({ cls := "HungFaces$Trade", name := "run", desc := "()LHungFaces$Trade;" } : Jvm.MethodName)) ∈ lw_all := lw_g (lw_at lw_m2 205 rfl) rfl
theorem q589 : (Jvm.Cond.instanceMethod ({ cls := "HungFaces", name := "queue", desc := "(I)I" } : Jvm.MethodName)) ∈ lw_all := lw_g (lw_at lw_m2 222 rfl) rfl
theorem q590 : (Jvm.Cond.selects "HungFaces" ({ cls := "HungFaces", name := "queue", desc := "(I)I" } : Jvm.MethodName) ({ cls := "HungFaces", name := "queue", desc := "(I)I" } : Jvm.MethodName)) ∈ lw_all := lw_g (lw_at lw_m2 223 rfl) rfl
theorem q591 : (Jvm.Cond.code ({ cls := "HungFaces", name := "queue", desc := "(I)I" } : Jvm.MethodName) prog_1_method_82_code (2 : Nat) (Option.some Jvm.ClassFile.FieldType.int)) ∈ lw_all := lw_g (lw_at lw_m2 224 rfl) rfl
theorem q592 : (Jvm.Cond.methodLink "HungFaces" (569 : Nat) ({ cls := "HungFaces$Queue", name := "begins", desc := "()LHungFaces$Queue;" } : Jvm.MethodName)) ∈ lw_all := lw_g (lw_at lw_m2 225 rfl) rfl
theorem q602 : (Jvm.Cond.static ({ cls := "HungFaces", name := "kth", desc := "(II)I" } : Jvm.MethodName)) ∈ lw_all := lw_g (lw_at lw_m2 235 rfl) rfl
theorem q603 : (Jvm.Cond.code ({ cls := "HungFaces", name := "kth", desc := "(II)I" } : Jvm.MethodName) prog_1_method_37_code (4 : Nat) (Option.some Jvm.ClassFile.FieldType.int)) ∈ lw_all := lw_g (lw_at lw_m2 236 rfl) rfl
theorem q624 : (Jvm.Cond.methodLink "HungFaces" (572 : Nat) ({ cls := "HungFaces$Queue", name := "rest", desc := "(II)I" } : Jvm.MethodName)) ∈ lw_all := lw_g (lw_at lw_m3 17 rfl) rfl
theorem q625 : (Jvm.Cond.methodLink "HungFaces" (91 : Nat) ({ cls := "HungFaces", name := "in", desc := "(III)Z" } : Jvm.MethodName)) ∈ lw_all := lw_g (lw_at lw_m3 18 rfl) rfl
theorem q626 : (Jvm.Cond.static ({ cls := "HungFaces", name := "in", desc := "(III)Z" } : Jvm.MethodName)) ∈ lw_all := lw_g (lw_at lw_m3 19 rfl) rfl
theorem q627 : (Jvm.Cond.code ({ cls := "HungFaces", name := "in", desc := "(III)Z" } : Jvm.MethodName) prog_1_method_2_code (3 : Nat) (Option.some Jvm.ClassFile.FieldType.boolean)) ∈ lw_all := lw_g (lw_at lw_m3 20 rfl) rfl
theorem q628 : (Jvm.Cond.methodLink "HungFaces" (577 : Nat) ({ cls := "HungFaces$Queue", name := "kthServed", desc := "(I)I" } : Jvm.MethodName)) ∈ lw_all := lw_g (lw_at lw_m3 21 rfl) rfl
theorem q633 : (Jvm.Cond.instanceMethod ({ cls := "HungFaces", name := "row", desc := "(Z)I" } : Jvm.MethodName)) ∈ lw_all := lw_g (lw_at lw_m3 26 rfl) rfl
theorem q634 : (Jvm.Cond.selects "HungFaces" ({ cls := "HungFaces", name := "row", desc := "(Z)I" } : Jvm.MethodName) ({ cls := "HungFaces", name := "row", desc := "(Z)I" } : Jvm.MethodName)) ∈ lw_all := lw_g (lw_at lw_m3 27 rfl) rfl
theorem q635 : (Jvm.Cond.code ({ cls := "HungFaces", name := "row", desc := "(Z)I" } : Jvm.MethodName) prog_1_method_90_code (5 : Nat) (Option.some Jvm.ClassFile.FieldType.int)) ∈ lw_all := lw_g (lw_at lw_m3 28 rfl) rfl
theorem q636 : (Jvm.Cond.methodLink "HungFaces" (589 : Nat) ({ cls := "HungFaces", name := "rowFrom", desc := "(I)I" } : Jvm.MethodName)) ∈ lw_all := lw_g (lw_at lw_m3 29 rfl) rfl
theorem q637 : (Jvm.Cond.privateMethod ({ cls := "HungFaces", name := "rowFrom", desc := "(I)I" } : Jvm.MethodName)) ∈ lw_tbl := lw_at lw_m3 30 rfl
theorem q638 : (Jvm.Cond.instanceMethod ({ cls := "HungFaces", name := "rowFrom", desc := "(I)I" } : Jvm.MethodName)) ∈ lw_all := lw_g (lw_at lw_m3 31 rfl) rfl
theorem q639 : (Jvm.Cond.code ({ cls := "HungFaces", name := "rowFrom", desc := "(I)I" } : Jvm.MethodName) prog_1_method_88_code (3 : Nat) (Option.some Jvm.ClassFile.FieldType.int)) ∈ lw_all := lw_g (lw_at lw_m3 32 rfl) rfl
theorem q641 : (Jvm.Cond.instanceMethod ({ cls := "HungFaces", name := "seed", desc := "(I)I" } : Jvm.MethodName)) ∈ lw_all := lw_g (lw_at lw_m3 34 rfl) rfl
theorem q642 : (Jvm.Cond.selects "HungFaces" ({ cls := "HungFaces", name := "seed", desc := "(I)I" } : Jvm.MethodName) ({ cls := "HungFaces", name := "seed", desc := "(I)I" } : Jvm.MethodName)) ∈ lw_all := lw_g (lw_at lw_m3 35 rfl) rfl
theorem q643 : (Jvm.Cond.code ({ cls := "HungFaces", name := "seed", desc := "(I)I" } : Jvm.MethodName) prog_1_method_100_code (3 : Nat) (Option.some Jvm.ClassFile.FieldType.int)) ∈ lw_all := lw_g (lw_at lw_m3 36 rfl) rfl
theorem q645 : (Jvm.Cond.instanceMethod ({ cls := "HungFaces", name := "undo", desc := "()Z" } : Jvm.MethodName)) ∈ lw_all := lw_g (lw_at lw_m3 38 rfl) rfl
theorem q646 : (Jvm.Cond.selects "HungFaces" ({ cls := "HungFaces", name := "undo", desc := "()Z" } : Jvm.MethodName) ({ cls := "HungFaces", name := "undo", desc := "()Z" } : Jvm.MethodName)) ∈ lw_all := lw_g (lw_at lw_m3 39 rfl) rfl
theorem q647 : (Jvm.Cond.code ({ cls := "HungFaces", name := "undo", desc := "()Z" } : Jvm.MethodName) prog_1_method_101_code (1 : Nat) (Option.some Jvm.ClassFile.FieldType.boolean)) ∈ lw_all := lw_g (lw_at lw_m3 40 rfl) rfl
theorem q648 : (Jvm.Cond.methodLink "HungFaces" (619 : Nat) ({ cls := "java/util/ArrayList", name := "isEmpty", desc := "()Z" } : Jvm.MethodName)) ∈ lw_all := lw_g (lw_at lw_m3 41 rfl) rfl
theorem q652 : (Jvm.Cond.methodLink "HungFaces" (350 : Nat) ({ cls := "java/util/ArrayList", name := "size", desc := "()I" } : Jvm.MethodName)) ∈ lw_all := lw_g (lw_at lw_m3 45 rfl) rfl
theorem q656 : (Jvm.Cond.methodLink "HungFaces" (447 : Nat) ({ cls := "java/util/ArrayList", name := "remove", desc := "(I)Ljava/lang/Object;" } : Jvm.MethodName)) ∈ lw_all := lw_g (lw_at lw_m3 49 rfl) rfl
theorem q673 : (Jvm.Cond.methodLink "HungFaces" (236 : Nat) ({ cls := "HungFaces$World", name := "likens", desc := "(LHungFaces$World;)LHungFaces$World;" } : Jvm.MethodName)) ∈ lw_all := lw_g (lw_at lw_m3 66 rfl) rfl
theorem q682 : (Jvm.Cond.instanceMethod ({ cls := "HungFaces", name := "image", desc := "()V" } : Jvm.MethodName)) ∈ lw_all := lw_g (lw_at lw_m3 75 rfl) rfl
theorem q683 : (Jvm.Cond.selects "HungFaces" ({ cls := "HungFaces", name := "image", desc := "()V" } : Jvm.MethodName) ({ cls := "HungFaces", name := "image", desc := "()V" } : Jvm.MethodName)) ∈ lw_all := lw_g (lw_at lw_m3 76 rfl) rfl
theorem q684 : (Jvm.Cond.code ({ cls := "HungFaces", name := "image", desc := "()V" } : Jvm.MethodName) prog_1_method_102_code (1 : Nat) (Option.none : Option Jvm.ClassFile.FieldType)) ∈ lw_all := lw_g (lw_at lw_m3 77 rfl) rfl
theorem q686 : (Jvm.Cond.instanceMethod ({ cls := "HungFaces", name := "back", desc := "()Z" } : Jvm.MethodName)) ∈ lw_all := lw_g (lw_at lw_m3 79 rfl) rfl
theorem q687 : (Jvm.Cond.selects "HungFaces" ({ cls := "HungFaces", name := "back", desc := "()Z" } : Jvm.MethodName) ({ cls := "HungFaces", name := "back", desc := "()Z" } : Jvm.MethodName)) ∈ lw_all := lw_g (lw_at lw_m3 80 rfl) rfl
theorem q688 : (Jvm.Cond.code ({ cls := "HungFaces", name := "back", desc := "()Z" } : Jvm.MethodName) prog_1_method_103_code (1 : Nat) (Option.some Jvm.ClassFile.FieldType.boolean)) ∈ lw_all := lw_g (lw_at lw_m3 81 rfl) rfl
theorem q689 : (Jvm.Cond.methodLink "HungFaces" (254 : Nat) ({ cls := "java/util/ArrayList", name := "clear", desc := "()V" } : Jvm.MethodName)) ∈ lw_all := lw_g (lw_at lw_m3 82 rfl) rfl
theorem q694 : (Jvm.Cond.instanceMethod ({ cls := "HungFaces", name := "count", desc := "(I)I" } : Jvm.MethodName)) ∈ lw_all := lw_g (lw_at lw_m3 87 rfl) rfl
theorem q695 : (Jvm.Cond.selects "HungFaces" ({ cls := "HungFaces", name := "count", desc := "(I)I" } : Jvm.MethodName) ({ cls := "HungFaces", name := "count", desc := "(I)I" } : Jvm.MethodName)) ∈ lw_all := lw_g (lw_at lw_m3 88 rfl) rfl
theorem q696 : (Jvm.Cond.code ({ cls := "HungFaces", name := "count", desc := "(I)I" } : Jvm.MethodName) prog_1_method_105_code (3 : Nat) (Option.some Jvm.ClassFile.FieldType.int)) ∈ lw_all := lw_g (lw_at lw_m3 89 rfl) rfl
theorem q697 : (Jvm.Cond.methodLink "HungFaces" (385 : Nat) ({ cls := "HungFaces$World", name := "hung", desc := "()I" } : Jvm.MethodName)) ∈ lw_all := lw_g (lw_at lw_m3 90 rfl) rfl
theorem q701 : (Jvm.Cond.methodLink "HungFaces" (489 : Nat) ({ cls := "HungFaces$World", name := "withTickets", desc := "()I" } : Jvm.MethodName)) ∈ lw_all := lw_g (lw_at lw_m3 94 rfl) rfl
theorem q702 : (Jvm.Cond.methodLink "HungFaces" (625 : Nat) ({ cls := "HungFaces", name := "allMarks", desc := "()I" } : Jvm.MethodName)) ∈ lw_all := lw_g (lw_at lw_m3 95 rfl) rfl
theorem q703 : (Jvm.Cond.privateMethod ({ cls := "HungFaces", name := "allMarks", desc := "()I" } : Jvm.MethodName)) ∈ lw_tbl := lw_at lw_m3 96 rfl
theorem q704 : (Jvm.Cond.instanceMethod ({ cls := "HungFaces", name := "allMarks", desc := "()I" } : Jvm.MethodName)) ∈ lw_all := lw_g (lw_at lw_m3 97 rfl) rfl
theorem q705 : (Jvm.Cond.code ({ cls := "HungFaces", name := "allMarks", desc := "()I" } : Jvm.MethodName) prog_1_method_104_code (3 : Nat) (Option.some Jvm.ClassFile.FieldType.int)) ∈ lw_all := lw_g (lw_at lw_m3 98 rfl) rfl
theorem q712 : (Jvm.Cond.instanceMethod ({ cls := "HungFaces", name := "door", desc := "()I" } : Jvm.MethodName)) ∈ lw_all := lw_g (lw_at lw_m3 105 rfl) rfl
theorem q713 : (Jvm.Cond.selects "HungFaces" ({ cls := "HungFaces", name := "door", desc := "()I" } : Jvm.MethodName) ({ cls := "HungFaces", name := "door", desc := "()I" } : Jvm.MethodName)) ∈ lw_all := lw_g (lw_at lw_m3 106 rfl) rfl
theorem q714 : (Jvm.Cond.codeWith ({ cls := "HungFaces", name := "door", desc := "()I" } : Jvm.MethodName) prog_1_method_19_code (2 : Nat) (Option.some Jvm.ClassFile.FieldType.int) [((19 : Nat), (35 : Nat), (38 : Nat), (243 : Nat))]) ∈ lw_all := lw_g (lw_at lw_m3 107 rfl) rfl
theorem q715 : (Jvm.Cond.classLink "HungFaces" (243 : Nat) "HungFaces$Wrong") ∈ lw_all := lw_g (lw_at lw_m3 108 rfl) rfl
theorem q716 : (Jvm.Cond.methodLink "HungFaces" (233 : Nat) ({ cls := "HungFaces$Reader", name := "begins", desc := "()V" } : Jvm.MethodName)) ∈ lw_all := lw_g (lw_at lw_m3 109 rfl) rfl
theorem q720 : (Jvm.Cond.methodLink "HungFaces" (240 : Nat) ({ cls := "HungFaces", name := "doorText", desc := "(LHungFaces$World;)V" } : Jvm.MethodName)) ∈ lw_all := lw_g (lw_at lw_m3 113 rfl) rfl
theorem q721 : (Jvm.Cond.privateMethod ({ cls := "HungFaces", name := "doorText", desc := "(LHungFaces$World;)V" } : Jvm.MethodName)) ∈ lw_tbl := lw_at lw_m3 114 rfl
theorem q722 : (Jvm.Cond.instanceMethod ({ cls := "HungFaces", name := "doorText", desc := "(LHungFaces$World;)V" } : Jvm.MethodName)) ∈ lw_all := lw_g (lw_at lw_m3 115 rfl) rfl
theorem q723 : (Jvm.Cond.code ({ cls := "HungFaces", name := "doorText", desc := "(LHungFaces$World;)V" } : Jvm.MethodName) prog_1_method_15_code (3 : Nat) (Option.none : Option Jvm.ClassFile.FieldType)) ∈ lw_all := lw_g (lw_at lw_m3 116 rfl) rfl
theorem q724 : (Jvm.Cond.methodLink "HungFaces" (214 : Nat) ({ cls := "HungFaces$Reader", name := "isOver", desc := "()Z" } : Jvm.MethodName)) ∈ lw_all := lw_g (lw_at lw_m3 117 rfl) rfl
theorem q736 : (Jvm.Cond.methodLink "HungFaces" (217 : Nat) ({ cls := "HungFaces", name := "noMore", desc := "(II)V" } : Jvm.MethodName)) ∈ lw_all := lw_g (lw_at lw_m3 129 rfl) rfl
theorem q737 : (Jvm.Cond.privateMethod ({ cls := "HungFaces", name := "noMore", desc := "(II)V" } : Jvm.MethodName)) ∈ lw_tbl := lw_at lw_m3 130 rfl
theorem q738 : (Jvm.Cond.instanceMethod ({ cls := "HungFaces", name := "noMore", desc := "(II)V" } : Jvm.MethodName)) ∈ lw_all := lw_g (lw_at lw_m3 131 rfl) rfl
theorem q739 : (Jvm.Cond.code ({ cls := "HungFaces", name := "noMore", desc := "(II)V" } : Jvm.MethodName) prog_1_method_16_code (3 : Nat) (Option.none : Option Jvm.ClassFile.FieldType)) ∈ lw_all := lw_g (lw_at lw_m3 132 rfl) rfl
theorem q740 : (Jvm.Cond.methodLink "HungFaces" (169 : Nat) ({ cls := "HungFaces$Reader", name := "word", desc := "()Ljava/lang/String;" } : Jvm.MethodName)) ∈ lw_all := lw_g (lw_at lw_m3 133 rfl) rfl
theorem q1073 : (Jvm.Cond.methodLink "HungFaces" (98 : Nat) ({ cls := "HungFaces$Reader", name := "wrong", desc := "()LHungFaces$Wrong;" } : Jvm.MethodName)) ∈ lw_all := lw_g (lw_at lw_m4 226 rfl) rfl
theorem q1097 : (Jvm.Cond.methodLink "HungFaces" (221 : Nat) ({ cls := "HungFaces", name := "doorLine", desc := "(LHungFaces$World;)V" } : Jvm.MethodName)) ∈ lw_all := lw_g (lw_at lw_m5 10 rfl) rfl
theorem q1098 : (Jvm.Cond.privateMethod ({ cls := "HungFaces", name := "doorLine", desc := "(LHungFaces$World;)V" } : Jvm.MethodName)) ∈ lw_tbl := lw_at lw_m5 11 rfl
theorem q1099 : (Jvm.Cond.instanceMethod ({ cls := "HungFaces", name := "doorLine", desc := "(LHungFaces$World;)V" } : Jvm.MethodName)) ∈ lw_all := lw_g (lw_at lw_m5 12 rfl) rfl
theorem q1100 : (Jvm.Cond.code ({ cls := "HungFaces", name := "doorLine", desc := "(LHungFaces$World;)V" } : Jvm.MethodName) prog_1_method_14_code (5 : Nat) (Option.none : Option Jvm.ClassFile.FieldType)) ∈ lw_all := lw_g (lw_at lw_m5 13 rfl) rfl
theorem q1101 : (Jvm.Cond.methodLink "HungFaces" (173 : Nat) ({ cls := "java/lang/String", name := "hashCode", desc := "()I" } : Jvm.MethodName)) ∈ lw_all := lw_g (lw_at lw_m5 14 rfl) rfl
theorem q1162 : (Jvm.Cond.stringRef "HungFaces" (178 : Nat) "person") ∈ lw_tbl := lw_at lw_m5 75 rfl
theorem q1163 : (Jvm.Cond.methodLink "HungFaces" (180 : Nat) ({ cls := "java/lang/String", name := "equals", desc := "(Ljava/lang/Object;)Z" } : Jvm.MethodName)) ∈ lw_all := lw_g (lw_at lw_m5 76 rfl) rfl
theorem q1171 : (Jvm.Cond.stringRef "HungFaces" (184 : Nat) "wish") ∈ lw_tbl := lw_at lw_m5 84 rfl
theorem q1172 : (Jvm.Cond.stringRef "HungFaces" (186 : Nat) "wed") ∈ lw_tbl := lw_at lw_m5 85 rfl
theorem q1173 : (Jvm.Cond.stringRef "HungFaces" (188 : Nat) "knows") ∈ lw_tbl := lw_at lw_m5 86 rfl
theorem q1174 : (Jvm.Cond.stringRef "HungFaces" (189 : Nat) "hooks") ∈ lw_tbl := lw_at lw_m5 87 rfl
theorem q1175 : (Jvm.Cond.stringRef "HungFaces" (190 : Nat) "mix") ∈ lw_tbl := lw_at lw_m5 88 rfl
theorem q1176 : (Jvm.Cond.stringRef "HungFaces" (192 : Nat) "thief") ∈ lw_tbl := lw_at lw_m5 89 rfl
theorem q1177 : (Jvm.Cond.methodLink "HungFaces" (194 : Nat) ({ cls := "HungFaces", name := "aPerson", desc := "(LHungFaces$World;)V" } : Jvm.MethodName)) ∈ lw_all := lw_g (lw_at lw_m5 90 rfl) rfl
theorem q1178 : (Jvm.Cond.privateMethod ({ cls := "HungFaces", name := "aPerson", desc := "(LHungFaces$World;)V" } : Jvm.MethodName)) ∈ lw_tbl := lw_at lw_m5 91 rfl
theorem q1179 : (Jvm.Cond.instanceMethod ({ cls := "HungFaces", name := "aPerson", desc := "(LHungFaces$World;)V" } : Jvm.MethodName)) ∈ lw_all := lw_g (lw_at lw_m5 92 rfl) rfl
theorem q1180 : (Jvm.Cond.code ({ cls := "HungFaces", name := "aPerson", desc := "(LHungFaces$World;)V" } : Jvm.MethodName) prog_1_method_8_code (4 : Nat) (Option.none : Option Jvm.ClassFile.FieldType)) ∈ lw_all := lw_g (lw_at lw_m5 93 rfl) rfl
theorem q1181 : (Jvm.Cond.methodLink "HungFaces" (113 : Nat) ({ cls := "HungFaces", name := "marksTold", desc := "()I" } : Jvm.MethodName)) ∈ lw_all := lw_g (lw_at lw_m5 94 rfl) rfl
theorem q1182 : (Jvm.Cond.privateMethod ({ cls := "HungFaces", name := "marksTold", desc := "()I" } : Jvm.MethodName)) ∈ lw_tbl := lw_at lw_m5 95 rfl
theorem q1183 : (Jvm.Cond.instanceMethod ({ cls := "HungFaces", name := "marksTold", desc := "()I" } : Jvm.MethodName)) ∈ lw_all := lw_g (lw_at lw_m5 96 rfl) rfl
theorem q1184 : (Jvm.Cond.code ({ cls := "HungFaces", name := "marksTold", desc := "()I" } : Jvm.MethodName) prog_1_method_6_code (5 : Nat) (Option.some Jvm.ClassFile.FieldType.int)) ∈ lw_all := lw_g (lw_at lw_m5 97 rfl) rfl
theorem q1185 : (Jvm.Cond.methodLink "HungFaces" (81 : Nat) ({ cls := "HungFaces$Reader", name := "blanks", desc := "()V" } : Jvm.MethodName)) ∈ lw_all := lw_g (lw_at lw_m5 98 rfl) rfl
theorem q1186 : (Jvm.Cond.methodLinkNest "HungFaces" (87 : Nat) ({ cls := "HungFaces$Reader", name := "byteAt", desc := "(I)I" } : Jvm.MethodName) "HungFaces") ∈ lw_tbl := lw_at lw_m5 99 rfl
theorem q1187 : (Jvm.Cond.methodLink "HungFaces" (138 : Nat) ({ cls := "HungFaces$World", name := "fillsWishes", desc := "(I)V" } : Jvm.MethodName)) ∈ lw_all := lw_g (lw_at lw_m5 100 rfl) rfl
theorem q1195 : (Jvm.Cond.methodLink "HungFaces" (198 : Nat) ({ cls := "HungFaces", name := "aWish", desc := "(LHungFaces$World;)V" } : Jvm.MethodName)) ∈ lw_all := lw_g (lw_at lw_m5 108 rfl) rfl
theorem q1196 : (Jvm.Cond.privateMethod ({ cls := "HungFaces", name := "aWish", desc := "(LHungFaces$World;)V" } : Jvm.MethodName)) ∈ lw_tbl := lw_at lw_m5 109 rfl
theorem q1197 : (Jvm.Cond.instanceMethod ({ cls := "HungFaces", name := "aWish", desc := "(LHungFaces$World;)V" } : Jvm.MethodName)) ∈ lw_all := lw_g (lw_at lw_m5 110 rfl) rfl
theorem q1198 : (Jvm.Cond.code ({ cls := "HungFaces", name := "aWish", desc := "(LHungFaces$World;)V" } : Jvm.MethodName) prog_1_method_9_code (5 : Nat) (Option.none : Option Jvm.ClassFile.FieldType)) ∈ lw_all := lw_g (lw_at lw_m5 111 rfl) rfl
theorem q1199 : (Jvm.Cond.methodLink "HungFaces" (142 : Nat) ({ cls := "HungFaces", name := "personTold", desc := "(LHungFaces$World;)I" } : Jvm.MethodName)) ∈ lw_all := lw_g (lw_at lw_m5 112 rfl) rfl
theorem q1200 : (Jvm.Cond.privateMethod ({ cls := "HungFaces", name := "personTold", desc := "(LHungFaces$World;)I" } : Jvm.MethodName)) ∈ lw_tbl := lw_at lw_m5 113 rfl
theorem q1201 : (Jvm.Cond.instanceMethod ({ cls := "HungFaces", name := "personTold", desc := "(LHungFaces$World;)I" } : Jvm.MethodName)) ∈ lw_all := lw_g (lw_at lw_m5 114 rfl) rfl
theorem q1202 : (Jvm.Cond.code ({ cls := "HungFaces", name := "personTold", desc := "(LHungFaces$World;)I" } : Jvm.MethodName) prog_1_method_7_code (2 : Nat) (Option.some Jvm.ClassFile.FieldType.int)) ∈ lw_all := lw_g (lw_at lw_m5 115 rfl) rfl
theorem q1203 : (Jvm.Cond.methodLink "HungFaces" (105 : Nat) ({ cls := "HungFaces$Reader", name := "number", desc := "(II)I" } : Jvm.MethodName)) ∈ lw_all := lw_g (lw_at lw_m5 116 rfl) rfl
theorem q1212 : (Jvm.Cond.methodLink "HungFaces" (146 : Nat) ({ cls := "HungFaces$World", name := "isTold", desc := "(II)Z" } : Jvm.MethodName)) ∈ lw_all := lw_g (lw_at lw_m5 125 rfl) rfl
theorem q1213 : (Jvm.Cond.methodLink "HungFaces" (153 : Nat) ({ cls := "HungFaces$Reader", name := "isFigure", desc := "()Z" } : Jvm.MethodName)) ∈ lw_all := lw_g (lw_at lw_m5 126 rfl) rfl
theorem q1217 : (Jvm.Cond.methodLink "HungFaces" (201 : Nat) ({ cls := "HungFaces", name := "aWedding", desc := "(LHungFaces$World;)V" } : Jvm.MethodName)) ∈ lw_all := lw_g (lw_at lw_m5 130 rfl) rfl
theorem q1218 : (Jvm.Cond.privateMethod ({ cls := "HungFaces", name := "aWedding", desc := "(LHungFaces$World;)V" } : Jvm.MethodName)) ∈ lw_tbl := lw_at lw_m5 131 rfl
theorem q1219 : (Jvm.Cond.instanceMethod ({ cls := "HungFaces", name := "aWedding", desc := "(LHungFaces$World;)V" } : Jvm.MethodName)) ∈ lw_all := lw_g (lw_at lw_m5 132 rfl) rfl
theorem q1220 : (Jvm.Cond.code ({ cls := "HungFaces", name := "aWedding", desc := "(LHungFaces$World;)V" } : Jvm.MethodName) prog_1_method_11_code (4 : Nat) (Option.none : Option Jvm.ClassFile.FieldType)) ∈ lw_all := lw_g (lw_at lw_m5 133 rfl) rfl
theorem q1221 : (Jvm.Cond.methodLink "HungFaces" (157 : Nat) ({ cls := "HungFaces", name := "singleTold", desc := "(LHungFaces$World;)I" } : Jvm.MethodName)) ∈ lw_all := lw_g (lw_at lw_m5 134 rfl) rfl
theorem q1222 : (Jvm.Cond.privateMethod ({ cls := "HungFaces", name := "singleTold", desc := "(LHungFaces$World;)I" } : Jvm.MethodName)) ∈ lw_tbl := lw_at lw_m5 135 rfl
theorem q1223 : (Jvm.Cond.instanceMethod ({ cls := "HungFaces", name := "singleTold", desc := "(LHungFaces$World;)I" } : Jvm.MethodName)) ∈ lw_all := lw_g (lw_at lw_m5 136 rfl) rfl
theorem q1224 : (Jvm.Cond.code ({ cls := "HungFaces", name := "singleTold", desc := "(LHungFaces$World;)I" } : Jvm.MethodName) prog_1_method_10_code (3 : Nat) (Option.some Jvm.ClassFile.FieldType.int)) ∈ lw_all := lw_g (lw_at lw_m5 137 rfl) rfl
theorem q1225 : (Jvm.Cond.methodLink "HungFaces" (204 : Nat) ({ cls := "HungFaces", name := "aKnowing", desc := "(LHungFaces$World;)V" } : Jvm.MethodName)) ∈ lw_all := lw_g (lw_at lw_m5 138 rfl) rfl
theorem q1226 : (Jvm.Cond.privateMethod ({ cls := "HungFaces", name := "aKnowing", desc := "(LHungFaces$World;)V" } : Jvm.MethodName)) ∈ lw_tbl := lw_at lw_m5 139 rfl
theorem q1227 : (Jvm.Cond.instanceMethod ({ cls := "HungFaces", name := "aKnowing", desc := "(LHungFaces$World;)V" } : Jvm.MethodName)) ∈ lw_all := lw_g (lw_at lw_m5 140 rfl) rfl
theorem q1228 : (Jvm.Cond.code ({ cls := "HungFaces", name := "aKnowing", desc := "(LHungFaces$World;)V" } : Jvm.MethodName) prog_1_method_12_code (5 : Nat) (Option.none : Option Jvm.ClassFile.FieldType)) ∈ lw_all := lw_g (lw_at lw_m5 141 rfl) rfl
theorem q1229 : (Jvm.Cond.methodLink "HungFaces" (207 : Nat) ({ cls := "HungFaces", name := "theHooks", desc := "(LHungFaces$World;)V" } : Jvm.MethodName)) ∈ lw_all := lw_g (lw_at lw_m5 142 rfl) rfl
theorem q1230 : (Jvm.Cond.privateMethod ({ cls := "HungFaces", name := "theHooks", desc := "(LHungFaces$World;)V" } : Jvm.MethodName)) ∈ lw_tbl := lw_at lw_m5 143 rfl
theorem q1231 : (Jvm.Cond.instanceMethod ({ cls := "HungFaces", name := "theHooks", desc := "(LHungFaces$World;)V" } : Jvm.MethodName)) ∈ lw_all := lw_g (lw_at lw_m5 144 rfl) rfl
theorem q1232 : (Jvm.Cond.code ({ cls := "HungFaces", name := "theHooks", desc := "(LHungFaces$World;)V" } : Jvm.MethodName) prog_1_method_13_code (4 : Nat) (Option.none : Option Jvm.ClassFile.FieldType)) ∈ lw_all := lw_g (lw_at lw_m5 145 rfl) rfl
theorem q1233 : (Jvm.Cond.methodLink "HungFaces" (224 : Nat) ({ cls := "HungFaces", name := "goesOn", desc := "()Z" } : Jvm.MethodName)) ∈ lw_all := lw_g (lw_at lw_m5 146 rfl) rfl
theorem q1234 : (Jvm.Cond.privateMethod ({ cls := "HungFaces", name := "goesOn", desc := "()Z" } : Jvm.MethodName)) ∈ lw_tbl := lw_at lw_m5 147 rfl
theorem q1235 : (Jvm.Cond.instanceMethod ({ cls := "HungFaces", name := "goesOn", desc := "()Z" } : Jvm.MethodName)) ∈ lw_all := lw_g (lw_at lw_m5 148 rfl) rfl
theorem q1236 : (Jvm.Cond.code ({ cls := "HungFaces", name := "goesOn", desc := "()Z" } : Jvm.MethodName) prog_1_method_17_code (1 : Nat) (Option.some Jvm.ClassFile.FieldType.boolean)) ∈ lw_all := lw_g (lw_at lw_m5 149 rfl) rfl
theorem q1237 : (Jvm.Cond.methodLink "HungFaces" (227 : Nat) ({ cls := "HungFaces$Reader", name := "sign", desc := "(I)Z" } : Jvm.MethodName)) ∈ lw_all := lw_g (lw_at lw_m5 150 rfl) rfl
theorem q1241 : (Jvm.Cond.methodLink "HungFaces" (245 : Nat) ({ cls := "HungFaces", name := "fails", desc := "()V" } : Jvm.MethodName)) ∈ lw_all := lw_g (lw_at lw_m5 154 rfl) rfl
theorem q1242 : (Jvm.Cond.privateMethod ({ cls := "HungFaces", name := "fails", desc := "()V" } : Jvm.MethodName)) ∈ lw_tbl := lw_at lw_m5 155 rfl
theorem q1243 : (Jvm.Cond.instanceMethod ({ cls := "HungFaces", name := "fails", desc := "()V" } : Jvm.MethodName)) ∈ lw_all := lw_g (lw_at lw_m5 156 rfl) rfl
theorem q1244 : (Jvm.Cond.code ({ cls := "HungFaces", name := "fails", desc := "()V" } : Jvm.MethodName) prog_1_method_18_code (1 : Nat) (Option.none : Option Jvm.ClassFile.FieldType)) ∈ lw_all := lw_g (lw_at lw_m5 157 rfl) rfl
theorem q1245 : (Jvm.Cond.classLink "HungFaces" (230 : Nat) "java/lang/IllegalArgumentException") ∈ lw_all := lw_g (lw_at lw_m5 158 rfl) rfl
theorem q1246 : (Jvm.Cond.methodLink "HungFaces" (232 : Nat) ({ cls := "java/lang/IllegalArgumentException", name := "<init>", desc := "()V" } : Jvm.MethodName)) ∈ lw_all := lw_g (lw_at lw_m5 159 rfl) rfl
theorem q1256 : (Jvm.Cond.classLink "HungFaces" (251 : Nat) "java/lang/UnsupportedOperationException") ∈ lw_all := lw_g (lw_at lw_m5 169 rfl) rfl
theorem q1265 : (Jvm.Cond.methodLink "HungFaces" (253 : Nat) ({ cls := "java/lang/UnsupportedOperationException", name := "<init>", desc := "()V" } : Jvm.MethodName)) ∈ lw_all := lw_g (lw_at lw_m5 178 rfl) rfl
theorem q1275 : (Jvm.Cond.instanceMethod ({ cls := "HungFaces", name := "law", desc := "()I" } : Jvm.MethodName)) ∈ lw_all := lw_g (lw_at lw_m5 188 rfl) rfl
theorem q1276 : (Jvm.Cond.selects "HungFaces" ({ cls := "HungFaces", name := "law", desc := "()I" } : Jvm.MethodName) ({ cls := "HungFaces", name := "law", desc := "()I" } : Jvm.MethodName)) ∈ lw_all := lw_g (lw_at lw_m5 189 rfl) rfl
theorem q1277 : (Jvm.Cond.codeWith ({ cls := "HungFaces", name := "law", desc := "()I" } : Jvm.MethodName) prog_1_method_27_code (2 : Nat) (Option.some Jvm.ClassFile.FieldType.int) [((7 : Nat), (26 : Nat), (29 : Nat), (243 : Nat))]) ∈ lw_all := lw_g (lw_at lw_m5 190 rfl) rfl
theorem q1278 : (Jvm.Cond.methodLink "HungFaces" (357 : Nat) ({ cls := "HungFaces", name := "lawText", desc := "()LHungFaces$Law;" } : Jvm.MethodName)) ∈ lw_all := lw_g (lw_at lw_m5 191 rfl) rfl
theorem q1279 : (Jvm.Cond.privateMethod ({ cls := "HungFaces", name := "lawText", desc := "()LHungFaces$Law;" } : Jvm.MethodName)) ∈ lw_tbl := lw_at lw_m5 192 rfl
theorem q1280 : (Jvm.Cond.instanceMethod ({ cls := "HungFaces", name := "lawText", desc := "()LHungFaces$Law;" } : Jvm.MethodName)) ∈ lw_all := lw_g (lw_at lw_m5 193 rfl) rfl
theorem q1281 : (Jvm.Cond.code ({ cls := "HungFaces", name := "lawText", desc := "()LHungFaces$Law;" } : Jvm.MethodName) prog_1_method_26_code (2 : Nat) (Option.some (Jvm.ClassFile.FieldType.object "HungFaces$Law"))) ∈ lw_all := lw_g (lw_at lw_m5 194 rfl) rfl
theorem q1282 : (Jvm.Cond.classLink "HungFaces" (344 : Nat) "HungFaces$Law") ∈ lw_all := lw_g (lw_at lw_m5 195 rfl) rfl
theorem q1284 : (Jvm.Cond.methodLinkNest "HungFaces" (346 : Nat) ({ cls := "HungFaces$Law", name := "<init>", desc := "()V" } : Jvm.MethodName) "HungFaces") ∈ lw_tbl := lw_at lw_m5 197 rfl
theorem q1291 : (Jvm.Cond.fieldLinkNest "HungFaces" (347 : Nat) "HungFaces$Law" "lines" "Ljava/util/ArrayList;" "HungFaces") ∈ lw_tbl := lw_at lw_m5 204 rfl
theorem q1295 : (Jvm.Cond.methodLink "HungFaces" (353 : Nat) ({ cls := "HungFaces", name := "lawLine", desc := "()LHungFaces$Line;" } : Jvm.MethodName)) ∈ lw_all := lw_g (lw_at lw_m5 208 rfl) rfl
theorem q1296 : (Jvm.Cond.privateMethod ({ cls := "HungFaces", name := "lawLine", desc := "()LHungFaces$Line;" } : Jvm.MethodName)) ∈ lw_tbl := lw_at lw_m5 209 rfl
theorem q1297 : (Jvm.Cond.instanceMethod ({ cls := "HungFaces", name := "lawLine", desc := "()LHungFaces$Line;" } : Jvm.MethodName)) ∈ lw_all := lw_g (lw_at lw_m5 210 rfl) rfl
theorem q1298 : (Jvm.Cond.code ({ cls := "HungFaces", name := "lawLine", desc := "()LHungFaces$Line;" } : Jvm.MethodName) prog_1_method_25_code (3 : Nat) (Option.some (Jvm.ClassFile.FieldType.object "HungFaces$Line"))) ∈ lw_all := lw_g (lw_at lw_m5 211 rfl) rfl
theorem q1299 : (Jvm.Cond.stringRef "HungFaces" (333 : Nat) "hand") ∈ lw_tbl := lw_at lw_m5 212 rfl
theorem q1300 : (Jvm.Cond.stringRef "HungFaces" (335 : Nat) "fetch") ∈ lw_tbl := lw_at lw_m5 213 rfl
theorem q1301 : (Jvm.Cond.classLink "HungFaces" (337 : Nat) "HungFaces$Line") ∈ lw_all := lw_g (lw_at lw_m5 214 rfl) rfl
theorem q1303 : (Jvm.Cond.stringRef "HungFaces" (339 : Nat) "if") ∈ lw_tbl := lw_at lw_m5 216 rfl
theorem q1304 : (Jvm.Cond.methodLink "HungFaces" (292 : Nat) ({ cls := "HungFaces$Reader", name := "passes", desc := "(Ljava/lang/String;)Z" } : Jvm.MethodName)) ∈ lw_all := lw_g (lw_at lw_m5 217 rfl) rfl
theorem q1310 : (Jvm.Cond.methodLink "HungFaces" (283 : Nat) ({ cls := "HungFaces", name := "cond", desc := "()LHungFaces$Cond;" } : Jvm.MethodName)) ∈ lw_all := lw_g (lw_at lw_m5 223 rfl) rfl
theorem q1311 : (Jvm.Cond.privateMethod ({ cls := "HungFaces", name := "cond", desc := "()LHungFaces$Cond;" } : Jvm.MethodName)) ∈ lw_tbl := lw_at lw_m5 224 rfl
theorem q1312 : (Jvm.Cond.instanceMethod ({ cls := "HungFaces", name := "cond", desc := "()LHungFaces$Cond;" } : Jvm.MethodName)) ∈ lw_all := lw_g (lw_at lw_m5 225 rfl) rfl
theorem q1313 : (Jvm.Cond.code ({ cls := "HungFaces", name := "cond", desc := "()LHungFaces$Cond;" } : Jvm.MethodName) prog_1_method_24_code (2 : Nat) (Option.some (Jvm.ClassFile.FieldType.object "HungFaces$Cond"))) ∈ lw_all := lw_g (lw_at lw_m5 226 rfl) rfl
theorem q1314 : (Jvm.Cond.classLink "HungFaces" (320 : Nat) "HungFaces$Row") ∈ lw_all := lw_g (lw_at lw_m5 227 rfl) rfl
theorem q1316 : (Jvm.Cond.methodLink "HungFaces" (322 : Nat) ({ cls := "HungFaces$Row", name := "<init>", desc := "(Z)V" } : Jvm.MethodName)) ∈ lw_all := lw_g (lw_at lw_m5 229 rfl) rfl
theorem q1324 : (Jvm.Cond.fieldLinkNest "HungFaces" (323 : Nat) "HungFaces$Row" "row" "Ljava/util/ArrayList;" "HungFaces") ∈ lw_tbl := lw_at lw_m5 237 rfl
theorem q1330 : (Jvm.Cond.methodLink "HungFaces" (328 : Nat) ({ cls := "HungFaces", name := "allOf", desc := "()LHungFaces$Cond;" } : Jvm.MethodName)) ∈ lw_all := lw_g (lw_at lw_m6 3 rfl) rfl
theorem q1331 : (Jvm.Cond.privateMethod ({ cls := "HungFaces", name := "allOf", desc := "()LHungFaces$Cond;" } : Jvm.MethodName)) ∈ lw_tbl := lw_at lw_m6 4 rfl
theorem q1332 : (Jvm.Cond.instanceMethod ({ cls := "HungFaces", name := "allOf", desc := "()LHungFaces$Cond;" } : Jvm.MethodName)) ∈ lw_all := lw_g (lw_at lw_m6 5 rfl) rfl
theorem q1333 : (Jvm.Cond.code ({ cls := "HungFaces", name := "allOf", desc := "()LHungFaces$Cond;" } : Jvm.MethodName) prog_1_method_23_code (2 : Nat) (Option.some (Jvm.ClassFile.FieldType.object "HungFaces$Cond"))) ∈ lw_all := lw_g (lw_at lw_m6 6 rfl) rfl
theorem q1334 : (Jvm.Cond.methodLink "HungFaces" (296 : Nat) ({ cls := "HungFaces", name := "atom", desc := "()LHungFaces$Cond;" } : Jvm.MethodName)) ∈ lw_all := lw_g (lw_at lw_m6 7 rfl) rfl
theorem q1335 : (Jvm.Cond.privateMethod ({ cls := "HungFaces", name := "atom", desc := "()LHungFaces$Cond;" } : Jvm.MethodName)) ∈ lw_tbl := lw_at lw_m6 8 rfl
theorem q1336 : (Jvm.Cond.instanceMethod ({ cls := "HungFaces", name := "atom", desc := "()LHungFaces$Cond;" } : Jvm.MethodName)) ∈ lw_all := lw_g (lw_at lw_m6 9 rfl) rfl
theorem q1337 : (Jvm.Cond.code ({ cls := "HungFaces", name := "atom", desc := "()LHungFaces$Cond;" } : Jvm.MethodName) prog_1_method_22_code (3 : Nat) (Option.some (Jvm.ClassFile.FieldType.object "HungFaces$Cond"))) ∈ lw_all := lw_g (lw_at lw_m6 10 rfl) rfl
theorem q1338 : (Jvm.Cond.methodLink "HungFaces" (280 : Nat) ({ cls := "HungFaces$Reader", name := "goesDeeper", desc := "()V" } : Jvm.MethodName)) ∈ lw_all := lw_g (lw_at lw_m6 11 rfl) rfl
theorem q1342 : (Jvm.Cond.methodLink "HungFaces" (287 : Nat) ({ cls := "HungFaces$Reader", name := "comesUp", desc := "()V" } : Jvm.MethodName)) ∈ lw_all := lw_g (lw_at lw_m6 15 rfl) rfl
theorem q1346 : (Jvm.Cond.stringRef "HungFaces" (290 : Nat) "not") ∈ lw_tbl := lw_at lw_m6 19 rfl
theorem q1347 : (Jvm.Cond.classLink "HungFaces" (299 : Nat) "HungFaces$Not") ∈ lw_all := lw_g (lw_at lw_m6 20 rfl) rfl
theorem q1349 : (Jvm.Cond.methodLink "HungFaces" (301 : Nat) ({ cls := "HungFaces$Not", name := "<init>", desc := "(LHungFaces$Cond;)V" } : Jvm.MethodName)) ∈ lw_all := lw_g (lw_at lw_m6 22 rfl) rfl
theorem q1357 : (Jvm.Cond.stringRef "HungFaces" (304 : Nat) "own") ∈ lw_tbl := lw_at lw_m6 30 rfl
theorem q1358 : (Jvm.Cond.classLink "HungFaces" (306 : Nat) "HungFaces$Tag") ∈ lw_all := lw_g (lw_at lw_m6 31 rfl) rfl
theorem q1360 : (Jvm.Cond.methodLink "HungFaces" (308 : Nat) ({ cls := "HungFaces$Tag", name := "<init>", desc := "(Z)V" } : Jvm.MethodName)) ∈ lw_all := lw_g (lw_at lw_m6 33 rfl) rfl
theorem q1368 : (Jvm.Cond.methodLink "HungFaces" (311 : Nat) ({ cls := "HungFaces", name := "sum", desc := "()LHungFaces$Sum;" } : Jvm.MethodName)) ∈ lw_all := lw_g (lw_at lw_m6 41 rfl) rfl
theorem q1369 : (Jvm.Cond.privateMethod ({ cls := "HungFaces", name := "sum", desc := "()LHungFaces$Sum;" } : Jvm.MethodName)) ∈ lw_tbl := lw_at lw_m6 42 rfl
theorem q1370 : (Jvm.Cond.instanceMethod ({ cls := "HungFaces", name := "sum", desc := "()LHungFaces$Sum;" } : Jvm.MethodName)) ∈ lw_all := lw_g (lw_at lw_m6 43 rfl) rfl
theorem q1371 : (Jvm.Cond.code ({ cls := "HungFaces", name := "sum", desc := "()LHungFaces$Sum;" } : Jvm.MethodName) prog_1_method_21_code (2 : Nat) (Option.some (Jvm.ClassFile.FieldType.object "HungFaces$Sum"))) ∈ lw_all := lw_g (lw_at lw_m6 44 rfl) rfl
theorem q1372 : (Jvm.Cond.classLink "HungFaces" (268 : Nat) "HungFaces$Sum") ∈ lw_all := lw_g (lw_at lw_m6 45 rfl) rfl
theorem q1374 : (Jvm.Cond.methodLinkNest "HungFaces" (270 : Nat) ({ cls := "HungFaces$Sum", name := "<init>", desc := "()V" } : Jvm.MethodName) "HungFaces") ∈ lw_tbl := lw_at lw_m6 47 rfl
theorem q1381 : (Jvm.Cond.fieldLinkNest "HungFaces" (271 : Nat) "HungFaces$Sum" "parts" "Ljava/util/ArrayList;" "HungFaces") ∈ lw_tbl := lw_at lw_m6 54 rfl
theorem q1385 : (Jvm.Cond.methodLink "HungFaces" (274 : Nat) ({ cls := "HungFaces", name := "onePart", desc := "()LHungFaces$Part;" } : Jvm.MethodName)) ∈ lw_all := lw_g (lw_at lw_m6 58 rfl) rfl
theorem q1386 : (Jvm.Cond.privateMethod ({ cls := "HungFaces", name := "onePart", desc := "()LHungFaces$Part;" } : Jvm.MethodName)) ∈ lw_tbl := lw_at lw_m6 59 rfl
theorem q1387 : (Jvm.Cond.instanceMethod ({ cls := "HungFaces", name := "onePart", desc := "()LHungFaces$Part;" } : Jvm.MethodName)) ∈ lw_all := lw_g (lw_at lw_m6 60 rfl) rfl
theorem q1388 : (Jvm.Cond.code ({ cls := "HungFaces", name := "onePart", desc := "()LHungFaces$Part;" } : Jvm.MethodName) prog_1_method_20_code (2 : Nat) (Option.some (Jvm.ClassFile.FieldType.object "HungFaces$Part"))) ∈ lw_all := lw_g (lw_at lw_m6 61 rfl) rfl
theorem q1389 : (Jvm.Cond.classLink "HungFaces" (257 : Nat) "HungFaces$Part") ∈ lw_all := lw_g (lw_at lw_m6 62 rfl) rfl
theorem q1391 : (Jvm.Cond.methodLink "HungFaces" (259 : Nat) ({ cls := "HungFaces$Part", name := "<init>", desc := "(ILHungFaces$Fact;)V" } : Jvm.MethodName)) ∈ lw_all := lw_g (lw_at lw_m6 64 rfl) rfl
theorem q1402 : (Jvm.Cond.methodLink "HungFaces" (262 : Nat) ({ cls := "HungFaces$Fact", name := "of", desc := "(Ljava/lang/String;)LHungFaces$Fact;" } : Jvm.MethodName)) ∈ lw_all := lw_g (lw_at lw_m6 75 rfl) rfl
theorem q1417 : (Jvm.Cond.methodLink "HungFaces" (278 : Nat) ({ cls := "java/util/ArrayList", name := "add", desc := "(Ljava/lang/Object;)Z" } : Jvm.MethodName)) ∈ lw_all := lw_g (lw_at lw_m6 90 rfl) rfl
theorem q1440 : (Jvm.Cond.selects "HungFaces" ({ cls := "java/lang/Object", name := "getClass", desc := "()Ljava/lang/Class;" } : Jvm.MethodName) ({ cls := "java/lang/Object", name := "getClass", desc := "()Ljava/lang/Class;" } : Jvm.MethodName)) ∈ lw_all := lw_g (lw_at lw_m6 113 rfl) rfl
theorem q1478 : (Jvm.Cond.classLink "HungFaces" (315 : Nat) "HungFaces$Less") ∈ lw_all := lw_g (lw_at lw_m6 151 rfl) rfl
theorem q1480 : (Jvm.Cond.methodLink "HungFaces" (317 : Nat) ({ cls := "HungFaces$Less", name := "<init>", desc := "(LHungFaces$Sum;LHungFaces$Sum;)V" } : Jvm.MethodName)) ∈ lw_all := lw_g (lw_at lw_m6 153 rfl) rfl
theorem q1491 : (Jvm.Cond.stringRef "HungFaces" (326 : Nat) "and") ∈ lw_tbl := lw_at lw_m6 164 rfl
theorem q1492 : (Jvm.Cond.stringRef "HungFaces" (331 : Nat) "or") ∈ lw_tbl := lw_at lw_m6 165 rfl
theorem q1493 : (Jvm.Cond.methodLink "HungFaces" (341 : Nat) ({ cls := "HungFaces$Line", name := "<init>", desc := "(ZLHungFaces$Cond;)V" } : Jvm.MethodName)) ∈ lw_all := lw_g (lw_at lw_m6 166 rfl) rfl
theorem q1530 : (Jvm.Cond.instanceMethod ({ cls := "HungFaces", name := "person", desc := "(II)I" } : Jvm.MethodName)) ∈ lw_all := lw_g (lw_at lw_m6 203 rfl) rfl
theorem q1531 : (Jvm.Cond.selects "HungFaces" ({ cls := "HungFaces", name := "person", desc := "(II)I" } : Jvm.MethodName) ({ cls := "HungFaces", name := "person", desc := "(II)I" } : Jvm.MethodName)) ∈ lw_all := lw_g (lw_at lw_m6 204 rfl) rfl
theorem q1532 : (Jvm.Cond.code ({ cls := "HungFaces", name := "person", desc := "(II)I" } : Jvm.MethodName) prog_1_method_40_code (4 : Nat) (Option.some Jvm.ClassFile.FieldType.int)) ∈ lw_all := lw_g (lw_at lw_m6 205 rfl) rfl
theorem q1533 : (Jvm.Cond.methodLink "HungFaces" (414 : Nat) ({ cls := "HungFaces", name := "personAt", desc := "(I)V" } : Jvm.MethodName)) ∈ lw_all := lw_g (lw_at lw_m6 206 rfl) rfl
theorem q1534 : (Jvm.Cond.privateMethod ({ cls := "HungFaces", name := "personAt", desc := "(I)V" } : Jvm.MethodName)) ∈ lw_tbl := lw_at lw_m6 207 rfl
theorem q1535 : (Jvm.Cond.instanceMethod ({ cls := "HungFaces", name := "personAt", desc := "(I)V" } : Jvm.MethodName)) ∈ lw_all := lw_g (lw_at lw_m6 208 rfl) rfl
theorem q1536 : (Jvm.Cond.code ({ cls := "HungFaces", name := "personAt", desc := "(I)V" } : Jvm.MethodName) prog_1_method_33_code (2 : Nat) (Option.none : Option Jvm.ClassFile.FieldType)) ∈ lw_all := lw_g (lw_at lw_m6 209 rfl) rfl
theorem q1537 : (Jvm.Cond.methodLink "HungFaces" (411 : Nat) ({ cls := "HungFaces", name := "there", desc := "(II)V" } : Jvm.MethodName)) ∈ lw_all := lw_g (lw_at lw_m6 210 rfl) rfl
theorem q1538 : (Jvm.Cond.static ({ cls := "HungFaces", name := "there", desc := "(II)V" } : Jvm.MethodName)) ∈ lw_all := lw_g (lw_at lw_m6 211 rfl) rfl
theorem q1539 : (Jvm.Cond.code ({ cls := "HungFaces", name := "there", desc := "(II)V" } : Jvm.MethodName) prog_1_method_29_code (2 : Nat) (Option.none : Option Jvm.ClassFile.FieldType)) ∈ lw_all := lw_g (lw_at lw_m6 212 rfl) rfl
theorem q1540 : (Jvm.Cond.classLink "HungFaces" (402 : Nat) "java/lang/IndexOutOfBoundsException") ∈ lw_all := lw_g (lw_at lw_m6 213 rfl) rfl
theorem q1549 : (Jvm.Cond.methodLink "HungFaces" (404 : Nat) ({ cls := "java/lang/IndexOutOfBoundsException", name := "<init>", desc := "()V" } : Jvm.MethodName)) ∈ lw_all := lw_g (lw_at lw_m6 222 rfl) rfl
theorem q1555 : (Jvm.Cond.methodLink "HungFaces" (429 : Nat) ({ cls := "HungFaces", name := "question", desc := "(II)V" } : Jvm.MethodName)) ∈ lw_all := lw_g (lw_at lw_m6 228 rfl) rfl
theorem q1556 : (Jvm.Cond.static ({ cls := "HungFaces", name := "question", desc := "(II)V" } : Jvm.MethodName)) ∈ lw_all := lw_g (lw_at lw_m6 229 rfl) rfl
theorem q1557 : (Jvm.Cond.code ({ cls := "HungFaces", name := "question", desc := "(II)V" } : Jvm.MethodName) prog_1_method_32_code (2 : Nat) (Option.none : Option Jvm.ClassFile.FieldType)) ∈ lw_all := lw_g (lw_at lw_m6 230 rfl) rfl
theorem q1558 : (Jvm.Cond.classLink "HungFaces" (408 : Nat) "java/util/NoSuchElementException") ∈ lw_all := lw_g (lw_at lw_m6 231 rfl) rfl
theorem q1567 : (Jvm.Cond.methodLink "HungFaces" (410 : Nat) ({ cls := "java/util/NoSuchElementException", name := "<init>", desc := "()V" } : Jvm.MethodName)) ∈ lw_all := lw_g (lw_at lw_m7 0 rfl) rfl
theorem q1577 : (Jvm.Cond.instanceMethod ({ cls := "HungFaces", name := "face", desc := "(II)I" } : Jvm.MethodName)) ∈ lw_all := lw_g (lw_at lw_m7 10 rfl) rfl
theorem q1578 : (Jvm.Cond.selects "HungFaces" ({ cls := "HungFaces", name := "face", desc := "(II)I" } : Jvm.MethodName) ({ cls := "HungFaces", name := "face", desc := "(II)I" } : Jvm.MethodName)) ∈ lw_all := lw_g (lw_at lw_m7 11 rfl) rfl
theorem q1579 : (Jvm.Cond.code ({ cls := "HungFaces", name := "face", desc := "(II)I" } : Jvm.MethodName) prog_1_method_41_code (4 : Nat) (Option.some Jvm.ClassFile.FieldType.int)) ∈ lw_all := lw_g (lw_at lw_m7 12 rfl) rfl
theorem q1580 : (Jvm.Cond.methodLink "HungFaces" (438 : Nat) ({ cls := "HungFaces", name := "alike", desc := "(I)I" } : Jvm.MethodName)) ∈ lw_all := lw_g (lw_at lw_m7 13 rfl) rfl
theorem q1581 : (Jvm.Cond.privateMethod ({ cls := "HungFaces", name := "alike", desc := "(I)I" } : Jvm.MethodName)) ∈ lw_tbl := lw_at lw_m7 14 rfl
theorem q1582 : (Jvm.Cond.instanceMethod ({ cls := "HungFaces", name := "alike", desc := "(I)I" } : Jvm.MethodName)) ∈ lw_all := lw_g (lw_at lw_m7 15 rfl) rfl
theorem q1583 : (Jvm.Cond.code ({ cls := "HungFaces", name := "alike", desc := "(I)I" } : Jvm.MethodName) prog_1_method_39_code (4 : Nat) (Option.some Jvm.ClassFile.FieldType.int)) ∈ lw_all := lw_g (lw_at lw_m7 16 rfl) rfl
theorem q1588 : (Jvm.Cond.instanceMethod ({ cls := "HungFaces", name := "hook", desc := "(I)I" } : Jvm.MethodName)) ∈ lw_all := lw_g (lw_at lw_m7 21 rfl) rfl
theorem q1589 : (Jvm.Cond.selects "HungFaces" ({ cls := "HungFaces", name := "hook", desc := "(I)I" } : Jvm.MethodName) ({ cls := "HungFaces", name := "hook", desc := "(I)I" } : Jvm.MethodName)) ∈ lw_all := lw_g (lw_at lw_m7 22 rfl) rfl
theorem q1590 : (Jvm.Cond.code ({ cls := "HungFaces", name := "hook", desc := "(I)I" } : Jvm.MethodName) prog_1_method_42_code (2 : Nat) (Option.some Jvm.ClassFile.FieldType.int)) ∈ lw_all := lw_g (lw_at lw_m7 23 rfl) rfl
theorem q1591 : (Jvm.Cond.methodLink "HungFaces" (441 : Nat) ({ cls := "HungFaces", name := "hookAt", desc := "(I)V" } : Jvm.MethodName)) ∈ lw_all := lw_g (lw_at lw_m7 24 rfl) rfl
theorem q1592 : (Jvm.Cond.privateMethod ({ cls := "HungFaces", name := "hookAt", desc := "(I)V" } : Jvm.MethodName)) ∈ lw_tbl := lw_at lw_m7 25 rfl
theorem q1593 : (Jvm.Cond.instanceMethod ({ cls := "HungFaces", name := "hookAt", desc := "(I)V" } : Jvm.MethodName)) ∈ lw_all := lw_g (lw_at lw_m7 26 rfl) rfl
theorem q1594 : (Jvm.Cond.code ({ cls := "HungFaces", name := "hookAt", desc := "(I)V" } : Jvm.MethodName) prog_1_method_34_code (2 : Nat) (Option.none : Option Jvm.ClassFile.FieldType)) ∈ lw_all := lw_g (lw_at lw_m7 27 rfl) rfl
theorem q1599 : (Jvm.Cond.instanceMethod ({ cls := "HungFaces", name := "wish", desc := "(II)I" } : Jvm.MethodName)) ∈ lw_all := lw_g (lw_at lw_m7 32 rfl) rfl
theorem q1600 : (Jvm.Cond.selects "HungFaces" ({ cls := "HungFaces", name := "wish", desc := "(II)I" } : Jvm.MethodName) ({ cls := "HungFaces", name := "wish", desc := "(II)I" } : Jvm.MethodName)) ∈ lw_all := lw_g (lw_at lw_m7 33 rfl) rfl
theorem q1601 : (Jvm.Cond.code ({ cls := "HungFaces", name := "wish", desc := "(II)I" } : Jvm.MethodName) prog_1_method_43_code (3 : Nat) (Option.some Jvm.ClassFile.FieldType.int)) ∈ lw_all := lw_g (lw_at lw_m7 34 rfl) rfl
theorem q1606 : (Jvm.Cond.instanceMethod ({ cls := "HungFaces", name := "thinks", desc := "(II)I" } : Jvm.MethodName)) ∈ lw_all := lw_g (lw_at lw_m7 39 rfl) rfl
theorem q1607 : (Jvm.Cond.selects "HungFaces" ({ cls := "HungFaces", name := "thinks", desc := "(II)I" } : Jvm.MethodName) ({ cls := "HungFaces", name := "thinks", desc := "(II)I" } : Jvm.MethodName)) ∈ lw_all := lw_g (lw_at lw_m7 40 rfl) rfl
theorem q1608 : (Jvm.Cond.code ({ cls := "HungFaces", name := "thinks", desc := "(II)I" } : Jvm.MethodName) prog_1_method_44_code (3 : Nat) (Option.some Jvm.ClassFile.FieldType.int)) ∈ lw_all := lw_g (lw_at lw_m7 41 rfl) rfl
theorem q1609 : (Jvm.Cond.methodLink "HungFaces" (444 : Nat) ({ cls := "HungFaces", name := "twoAt", desc := "(II)V" } : Jvm.MethodName)) ∈ lw_all := lw_g (lw_at lw_m7 42 rfl) rfl
theorem q1610 : (Jvm.Cond.privateMethod ({ cls := "HungFaces", name := "twoAt", desc := "(II)V" } : Jvm.MethodName)) ∈ lw_tbl := lw_at lw_m7 43 rfl
theorem q1611 : (Jvm.Cond.instanceMethod ({ cls := "HungFaces", name := "twoAt", desc := "(II)V" } : Jvm.MethodName)) ∈ lw_all := lw_g (lw_at lw_m7 44 rfl) rfl
theorem q1612 : (Jvm.Cond.code ({ cls := "HungFaces", name := "twoAt", desc := "(II)V" } : Jvm.MethodName) prog_1_method_35_code (3 : Nat) (Option.none : Option Jvm.ClassFile.FieldType)) ∈ lw_all := lw_g (lw_at lw_m7 45 rfl) rfl
theorem q1613 : (Jvm.Cond.methodLink "HungFaces" (417 : Nat) ({ cls := "HungFaces", name := "demand", desc := "(Z)V" } : Jvm.MethodName)) ∈ lw_all := lw_g (lw_at lw_m7 46 rfl) rfl
theorem q1614 : (Jvm.Cond.static ({ cls := "HungFaces", name := "demand", desc := "(Z)V" } : Jvm.MethodName)) ∈ lw_all := lw_g (lw_at lw_m7 47 rfl) rfl
theorem q1615 : (Jvm.Cond.code ({ cls := "HungFaces", name := "demand", desc := "(Z)V" } : Jvm.MethodName) prog_1_method_30_code (1 : Nat) (Option.none : Option Jvm.ClassFile.FieldType)) ∈ lw_all := lw_g (lw_at lw_m7 48 rfl) rfl
theorem q1621 : (Jvm.Cond.instanceMethod ({ cls := "HungFaces", name := "hand", desc := "(II)I" } : Jvm.MethodName)) ∈ lw_all := lw_g (lw_at lw_m7 54 rfl) rfl
theorem q1622 : (Jvm.Cond.selects "HungFaces" ({ cls := "HungFaces", name := "hand", desc := "(II)I" } : Jvm.MethodName) ({ cls := "HungFaces", name := "hand", desc := "(II)I" } : Jvm.MethodName)) ∈ lw_all := lw_g (lw_at lw_m7 55 rfl) rfl
theorem q1623 : (Jvm.Cond.code ({ cls := "HungFaces", name := "hand", desc := "(II)I" } : Jvm.MethodName) prog_1_method_46_code (3 : Nat) (Option.some Jvm.ClassFile.FieldType.int)) ∈ lw_all := lw_g (lw_at lw_m7 56 rfl) rfl
theorem q1624 : (Jvm.Cond.methodLink "HungFaces" (451 : Nat) ({ cls := "HungFaces", name := "can", desc := "(Z)V" } : Jvm.MethodName)) ∈ lw_all := lw_g (lw_at lw_m7 57 rfl) rfl
theorem q1625 : (Jvm.Cond.static ({ cls := "HungFaces", name := "can", desc := "(Z)V" } : Jvm.MethodName)) ∈ lw_all := lw_g (lw_at lw_m7 58 rfl) rfl
theorem q1626 : (Jvm.Cond.code ({ cls := "HungFaces", name := "can", desc := "(Z)V" } : Jvm.MethodName) prog_1_method_31_code (1 : Nat) (Option.none : Option Jvm.ClassFile.FieldType)) ∈ lw_all := lw_g (lw_at lw_m7 59 rfl) rfl
theorem q1627 : (Jvm.Cond.classLink "HungFaces" (405 : Nat) "java/lang/IllegalStateException") ∈ lw_all := lw_g (lw_at lw_m7 60 rfl) rfl
theorem q1636 : (Jvm.Cond.methodLink "HungFaces" (407 : Nat) ({ cls := "java/lang/IllegalStateException", name := "<init>", desc := "()V" } : Jvm.MethodName)) ∈ lw_all := lw_g (lw_at lw_m7 69 rfl) rfl
theorem q1642 : (Jvm.Cond.methodLink "HungFaces" (454 : Nat) ({ cls := "HungFaces", name := "remembers", desc := "()V" } : Jvm.MethodName)) ∈ lw_all := lw_g (lw_at lw_m7 75 rfl) rfl
theorem q1643 : (Jvm.Cond.privateMethod ({ cls := "HungFaces", name := "remembers", desc := "()V" } : Jvm.MethodName)) ∈ lw_tbl := lw_at lw_m7 76 rfl
theorem q1644 : (Jvm.Cond.instanceMethod ({ cls := "HungFaces", name := "remembers", desc := "()V" } : Jvm.MethodName)) ∈ lw_all := lw_g (lw_at lw_m7 77 rfl) rfl
theorem q1645 : (Jvm.Cond.code ({ cls := "HungFaces", name := "remembers", desc := "()V" } : Jvm.MethodName) prog_1_method_45_code (2 : Nat) (Option.none : Option Jvm.ClassFile.FieldType)) ∈ lw_all := lw_g (lw_at lw_m7 78 rfl) rfl
theorem q1646 : (Jvm.Cond.methodLink "HungFaces" (457 : Nat) ({ cls := "HungFaces$World", name := "hands", desc := "(II)V" } : Jvm.MethodName)) ∈ lw_all := lw_g (lw_at lw_m7 79 rfl) rfl
theorem q1667 : (Jvm.Cond.instanceMethod ({ cls := "HungFaces", name := "fetch", desc := "(I)I" } : Jvm.MethodName)) ∈ lw_all := lw_g (lw_at lw_m7 100 rfl) rfl
theorem q1668 : (Jvm.Cond.selects "HungFaces" ({ cls := "HungFaces", name := "fetch", desc := "(I)I" } : Jvm.MethodName) ({ cls := "HungFaces", name := "fetch", desc := "(I)I" } : Jvm.MethodName)) ∈ lw_all := lw_g (lw_at lw_m7 101 rfl) rfl
theorem q1669 : (Jvm.Cond.code ({ cls := "HungFaces", name := "fetch", desc := "(I)I" } : Jvm.MethodName) prog_1_method_47_code (2 : Nat) (Option.some Jvm.ClassFile.FieldType.int)) ∈ lw_all := lw_g (lw_at lw_m7 102 rfl) rfl
theorem q1670 : (Jvm.Cond.methodLink "HungFaces" (460 : Nat) ({ cls := "HungFaces$World", name := "fetches", desc := "(I)V" } : Jvm.MethodName)) ∈ lw_all := lw_g (lw_at lw_m7 103 rfl) rfl
theorem q1684 : (Jvm.Cond.instanceMethod ({ cls := "HungFaces", name := "mix", desc := "(II)I" } : Jvm.MethodName)) ∈ lw_all := lw_g (lw_at lw_m7 117 rfl) rfl
theorem q1685 : (Jvm.Cond.selects "HungFaces" ({ cls := "HungFaces", name := "mix", desc := "(II)I" } : Jvm.MethodName) ({ cls := "HungFaces", name := "mix", desc := "(II)I" } : Jvm.MethodName)) ∈ lw_all := lw_g (lw_at lw_m7 118 rfl) rfl
theorem q1686 : (Jvm.Cond.code ({ cls := "HungFaces", name := "mix", desc := "(II)I" } : Jvm.MethodName) prog_1_method_48_code (3 : Nat) (Option.some Jvm.ClassFile.FieldType.int)) ∈ lw_all := lw_g (lw_at lw_m7 119 rfl) rfl
theorem q1687 : (Jvm.Cond.methodLink "HungFaces" (463 : Nat) ({ cls := "HungFaces$World", name := "mixes", desc := "(II)V" } : Jvm.MethodName)) ∈ lw_all := lw_g (lw_at lw_m7 120 rfl) rfl
theorem q1698 : (Jvm.Cond.instanceMethod ({ cls := "HungFaces", name := "steal", desc := "(II)I" } : Jvm.MethodName)) ∈ lw_all := lw_g (lw_at lw_m7 131 rfl) rfl
theorem q1699 : (Jvm.Cond.selects "HungFaces" ({ cls := "HungFaces", name := "steal", desc := "(II)I" } : Jvm.MethodName) ({ cls := "HungFaces", name := "steal", desc := "(II)I" } : Jvm.MethodName)) ∈ lw_all := lw_g (lw_at lw_m7 132 rfl) rfl
theorem q1700 : (Jvm.Cond.code ({ cls := "HungFaces", name := "steal", desc := "(II)I" } : Jvm.MethodName) prog_1_method_49_code (3 : Nat) (Option.some Jvm.ClassFile.FieldType.int)) ∈ lw_all := lw_g (lw_at lw_m7 133 rfl) rfl
theorem q1701 : (Jvm.Cond.fieldLink "HungFaces" (466 : Nat) "HungFaces$Which" "STOLEN" "LHungFaces$Which;") ∈ lw_all := lw_g (lw_at lw_m7 134 rfl) rfl
theorem q1703 : (Jvm.Cond.methodLink "HungFaces" (472 : Nat) ({ cls := "HungFaces$World", name := "takes", desc := "(IILHungFaces$Which;)V" } : Jvm.MethodName)) ∈ lw_all := lw_g (lw_at lw_m7 136 rfl) rfl
theorem q1708 : (Jvm.Cond.instanceMethod ({ cls := "HungFaces", name := "change", desc := "(II)I" } : Jvm.MethodName)) ∈ lw_all := lw_g (lw_at lw_m7 141 rfl) rfl
theorem q1709 : (Jvm.Cond.selects "HungFaces" ({ cls := "HungFaces", name := "change", desc := "(II)I" } : Jvm.MethodName) ({ cls := "HungFaces", name := "change", desc := "(II)I" } : Jvm.MethodName)) ∈ lw_all := lw_g (lw_at lw_m7 142 rfl) rfl
theorem q1710 : (Jvm.Cond.code ({ cls := "HungFaces", name := "change", desc := "(II)I" } : Jvm.MethodName) prog_1_method_50_code (4 : Nat) (Option.some Jvm.ClassFile.FieldType.int)) ∈ lw_all := lw_g (lw_at lw_m7 143 rfl) rfl
theorem q1715 : (Jvm.Cond.instanceMethod ({ cls := "HungFaces", name := "shave", desc := "(II)I" } : Jvm.MethodName)) ∈ lw_all := lw_g (lw_at lw_m7 148 rfl) rfl
theorem q1716 : (Jvm.Cond.selects "HungFaces" ({ cls := "HungFaces", name := "shave", desc := "(II)I" } : Jvm.MethodName) ({ cls := "HungFaces", name := "shave", desc := "(II)I" } : Jvm.MethodName)) ∈ lw_all := lw_g (lw_at lw_m7 149 rfl) rfl
theorem q1717 : (Jvm.Cond.code ({ cls := "HungFaces", name := "shave", desc := "(II)I" } : Jvm.MethodName) prog_1_method_51_code (3 : Nat) (Option.some Jvm.ClassFile.FieldType.int)) ∈ lw_all := lw_g (lw_at lw_m7 150 rfl) rfl
theorem q1722 : (Jvm.Cond.instanceMethod ({ cls := "HungFaces", name := "graft", desc := "(III)I" } : Jvm.MethodName)) ∈ lw_all := lw_g (lw_at lw_m7 155 rfl) rfl
theorem q1723 : (Jvm.Cond.selects "HungFaces" ({ cls := "HungFaces", name := "graft", desc := "(III)I" } : Jvm.MethodName) ({ cls := "HungFaces", name := "graft", desc := "(III)I" } : Jvm.MethodName)) ∈ lw_all := lw_g (lw_at lw_m7 156 rfl) rfl
theorem q1724 : (Jvm.Cond.code ({ cls := "HungFaces", name := "graft", desc := "(III)I" } : Jvm.MethodName) prog_1_method_52_code (4 : Nat) (Option.some Jvm.ClassFile.FieldType.int)) ∈ lw_all := lw_g (lw_at lw_m7 157 rfl) rfl
theorem q1729 : (Jvm.Cond.instanceMethod ({ cls := "HungFaces", name := "meet", desc := "(II)I" } : Jvm.MethodName)) ∈ lw_all := lw_g (lw_at lw_m7 162 rfl) rfl
theorem q1730 : (Jvm.Cond.selects "HungFaces" ({ cls := "HungFaces", name := "meet", desc := "(II)I" } : Jvm.MethodName) ({ cls := "HungFaces", name := "meet", desc := "(II)I" } : Jvm.MethodName)) ∈ lw_all := lw_g (lw_at lw_m7 163 rfl) rfl
theorem q1731 : (Jvm.Cond.code ({ cls := "HungFaces", name := "meet", desc := "(II)I" } : Jvm.MethodName) prog_1_method_53_code (3 : Nat) (Option.some Jvm.ClassFile.FieldType.int)) ∈ lw_all := lw_g (lw_at lw_m7 164 rfl) rfl
theorem q1732 : (Jvm.Cond.methodLink "HungFaces" (476 : Nat) ({ cls := "HungFaces$World", name := "meets", desc := "(II)V" } : Jvm.MethodName)) ∈ lw_all := lw_g (lw_at lw_m7 165 rfl) rfl
theorem q1740 : (Jvm.Cond.instanceMethod ({ cls := "HungFaces", name := "hours", desc := "(I)I" } : Jvm.MethodName)) ∈ lw_all := lw_g (lw_at lw_m7 173 rfl) rfl
theorem q1741 : (Jvm.Cond.selects "HungFaces" ({ cls := "HungFaces", name := "hours", desc := "(I)I" } : Jvm.MethodName) ({ cls := "HungFaces", name := "hours", desc := "(I)I" } : Jvm.MethodName)) ∈ lw_all := lw_g (lw_at lw_m7 174 rfl) rfl
theorem q1742 : (Jvm.Cond.code ({ cls := "HungFaces", name := "hours", desc := "(I)I" } : Jvm.MethodName) prog_1_method_58_code (4 : Nat) (Option.some Jvm.ClassFile.FieldType.int)) ∈ lw_all := lw_g (lw_at lw_m7 175 rfl) rfl
theorem q1743 : (Jvm.Cond.methodLink "HungFaces" (505 : Nat) ({ cls := "HungFaces", name := "anHour", desc := "(LHungFaces$World;)I" } : Jvm.MethodName)) ∈ lw_all := lw_g (lw_at lw_m7 176 rfl) rfl
theorem q1744 : (Jvm.Cond.privateMethod ({ cls := "HungFaces", name := "anHour", desc := "(LHungFaces$World;)I" } : Jvm.MethodName)) ∈ lw_tbl := lw_at lw_m7 177 rfl
theorem q1745 : (Jvm.Cond.instanceMethod ({ cls := "HungFaces", name := "anHour", desc := "(LHungFaces$World;)I" } : Jvm.MethodName)) ∈ lw_all := lw_g (lw_at lw_m7 178 rfl) rfl
theorem q1746 : (Jvm.Cond.code ({ cls := "HungFaces", name := "anHour", desc := "(LHungFaces$World;)I" } : Jvm.MethodName) prog_1_method_57_code (4 : Nat) (Option.some Jvm.ClassFile.FieldType.int)) ∈ lw_all := lw_g (lw_at lw_m7 179 rfl) rfl
theorem q1747 : (Jvm.Cond.methodLink "HungFaces" (495 : Nat) ({ cls := "HungFaces", name := "acts", desc := "(LHungFaces$World;I)Z" } : Jvm.MethodName)) ∈ lw_all := lw_g (lw_at lw_m7 180 rfl) rfl
theorem q1748 : (Jvm.Cond.privateMethod ({ cls := "HungFaces", name := "acts", desc := "(LHungFaces$World;I)Z" } : Jvm.MethodName)) ∈ lw_tbl := lw_at lw_m7 181 rfl
theorem q1749 : (Jvm.Cond.instanceMethod ({ cls := "HungFaces", name := "acts", desc := "(LHungFaces$World;I)Z" } : Jvm.MethodName)) ∈ lw_all := lw_g (lw_at lw_m7 182 rfl) rfl
theorem q1750 : (Jvm.Cond.code ({ cls := "HungFaces", name := "acts", desc := "(LHungFaces$World;I)Z" } : Jvm.MethodName) prog_1_method_54_code (4 : Nat) (Option.some Jvm.ClassFile.FieldType.boolean)) ∈ lw_all := lw_g (lw_at lw_m7 183 rfl) rfl
theorem q1751 : (Jvm.Cond.methodLink "HungFaces" (479 : Nat) ({ cls := "HungFaces$World", name := "freeHook", desc := "()I" } : Jvm.MethodName)) ∈ lw_all := lw_g (lw_at lw_m7 184 rfl) rfl
theorem q1755 : (Jvm.Cond.methodLink "HungFaces" (482 : Nat) ({ cls := "HungFaces", name := "says", desc := "(LHungFaces$World;IZ)Z" } : Jvm.MethodName)) ∈ lw_all := lw_g (lw_at lw_m7 188 rfl) rfl
theorem q1756 : (Jvm.Cond.privateMethod ({ cls := "HungFaces", name := "says", desc := "(LHungFaces$World;IZ)Z" } : Jvm.MethodName)) ∈ lw_tbl := lw_at lw_m7 189 rfl
theorem q1757 : (Jvm.Cond.instanceMethod ({ cls := "HungFaces", name := "says", desc := "(LHungFaces$World;IZ)Z" } : Jvm.MethodName)) ∈ lw_all := lw_g (lw_at lw_m7 190 rfl) rfl
theorem q1758 : (Jvm.Cond.code ({ cls := "HungFaces", name := "says", desc := "(LHungFaces$World;IZ)Z" } : Jvm.MethodName) prog_1_method_28_code (5 : Nat) (Option.some Jvm.ClassFile.FieldType.boolean)) ∈ lw_all := lw_g (lw_at lw_m7 191 rfl) rfl
theorem q1759 : (Jvm.Cond.methodLink "HungFaces" (365 : Nat) ({ cls := "HungFaces$World", name := "faceOf", desc := "(I)I" } : Jvm.MethodName)) ∈ lw_all := lw_g (lw_at lw_m7 192 rfl) rfl
theorem q1763 : (Jvm.Cond.methodLink "HungFaces" (398 : Nat) ({ cls := "HungFaces$Law", name := "tells", desc := "(ZLHungFaces$Scene;)Z" } : Jvm.MethodName)) ∈ lw_all := lw_g (lw_at lw_m7 196 rfl) rfl
theorem q1830 : (Jvm.Cond.methodLink "HungFaces" (499 : Nat) ({ cls := "HungFaces", name := "mixing", desc := "(LHungFaces$World;)V" } : Jvm.MethodName)) ∈ lw_all := lw_g (lw_at lw_m8 23 rfl) rfl
theorem q1831 : (Jvm.Cond.static ({ cls := "HungFaces", name := "mixing", desc := "(LHungFaces$World;)V" } : Jvm.MethodName)) ∈ lw_all := lw_g (lw_at lw_m8 24 rfl) rfl
theorem q1832 : (Jvm.Cond.code ({ cls := "HungFaces", name := "mixing", desc := "(LHungFaces$World;)V" } : Jvm.MethodName) prog_1_method_55_code (6 : Nat) (Option.none : Option Jvm.ClassFile.FieldType)) ∈ lw_all := lw_g (lw_at lw_m8 25 rfl) rfl
theorem q1833 : (Jvm.Cond.methodLink "HungFaces" (486 : Nat) ({ cls := "HungFaces$World", name := "draw", desc := "(I)I" } : Jvm.MethodName)) ∈ lw_all := lw_g (lw_at lw_m8 26 rfl) rfl
theorem q1838 : (Jvm.Cond.methodLink "HungFaces" (492 : Nat) ({ cls := "HungFaces", name := "kth", desc := "(II)I" } : Jvm.MethodName)) ∈ lw_all := lw_g (lw_at lw_m8 31 rfl) rfl
theorem q1839 : (Jvm.Cond.methodLink "HungFaces" (502 : Nat) ({ cls := "HungFaces", name := "thieving", desc := "(LHungFaces$World;)V" } : Jvm.MethodName)) ∈ lw_all := lw_g (lw_at lw_m8 32 rfl) rfl
theorem q1840 : (Jvm.Cond.static ({ cls := "HungFaces", name := "thieving", desc := "(LHungFaces$World;)V" } : Jvm.MethodName)) ∈ lw_all := lw_g (lw_at lw_m8 33 rfl) rfl
theorem q1841 : (Jvm.Cond.code ({ cls := "HungFaces", name := "thieving", desc := "(LHungFaces$World;)V" } : Jvm.MethodName) prog_1_method_56_code (5 : Nat) (Option.none : Option Jvm.ClassFile.FieldType)) ∈ lw_all := lw_g (lw_at lw_m8 34 rfl) rfl
theorem q1846 : (Jvm.Cond.instanceMethod ({ cls := "HungFaces", name := "passes", desc := "(II)I" } : Jvm.MethodName)) ∈ lw_all := lw_g (lw_at lw_m8 39 rfl) rfl
theorem q1847 : (Jvm.Cond.selects "HungFaces" ({ cls := "HungFaces", name := "passes", desc := "(II)I" } : Jvm.MethodName) ({ cls := "HungFaces", name := "passes", desc := "(II)I" } : Jvm.MethodName)) ∈ lw_all := lw_g (lw_at lw_m8 40 rfl) rfl
theorem q1848 : (Jvm.Cond.code ({ cls := "HungFaces", name := "passes", desc := "(II)I" } : Jvm.MethodName) prog_1_method_71_code (5 : Nat) (Option.some Jvm.ClassFile.FieldType.int)) ∈ lw_all := lw_g (lw_at lw_m8 41 rfl) rfl
theorem q1853 : (Jvm.Cond.instanceMethod ({ cls := "HungFaces", name := "core", desc := "(I)I" } : Jvm.MethodName)) ∈ lw_all := lw_g (lw_at lw_m8 46 rfl) rfl
theorem q1854 : (Jvm.Cond.selects "HungFaces" ({ cls := "HungFaces", name := "core", desc := "(I)I" } : Jvm.MethodName) ({ cls := "HungFaces", name := "core", desc := "(I)I" } : Jvm.MethodName)) ∈ lw_all := lw_g (lw_at lw_m8 47 rfl) rfl
theorem q1855 : (Jvm.Cond.code ({ cls := "HungFaces", name := "core", desc := "(I)I" } : Jvm.MethodName) prog_1_method_72_code (2 : Nat) (Option.some Jvm.ClassFile.FieldType.int)) ∈ lw_all := lw_g (lw_at lw_m8 48 rfl) rfl
theorem q1860 : (Jvm.Cond.instanceMethod ({ cls := "HungFaces", name := "block", desc := "(I)Z" } : Jvm.MethodName)) ∈ lw_all := lw_g (lw_at lw_m8 53 rfl) rfl
theorem q1861 : (Jvm.Cond.selects "HungFaces" ({ cls := "HungFaces", name := "block", desc := "(I)Z" } : Jvm.MethodName) ({ cls := "HungFaces", name := "block", desc := "(I)Z" } : Jvm.MethodName)) ∈ lw_all := lw_g (lw_at lw_m8 54 rfl) rfl
theorem q1862 : (Jvm.Cond.code ({ cls := "HungFaces", name := "block", desc := "(I)Z" } : Jvm.MethodName) prog_1_method_75_code (5 : Nat) (Option.some Jvm.ClassFile.FieldType.boolean)) ∈ lw_all := lw_g (lw_at lw_m8 55 rfl) rfl
theorem q1863 : (Jvm.Cond.methodLink "HungFaces" (532 : Nat) ({ cls := "HungFaces$World", name := "all", desc := "()I" } : Jvm.MethodName)) ∈ lw_all := lw_g (lw_at lw_m8 56 rfl) rfl
theorem q1867 : (Jvm.Cond.methodLink "HungFaces" (535 : Nat) ({ cls := "HungFaces", name := "takesFrom", desc := "(II)Z" } : Jvm.MethodName)) ∈ lw_all := lw_g (lw_at lw_m8 60 rfl) rfl
theorem q1868 : (Jvm.Cond.privateMethod ({ cls := "HungFaces", name := "takesFrom", desc := "(II)Z" } : Jvm.MethodName)) ∈ lw_tbl := lw_at lw_m8 61 rfl
theorem q1869 : (Jvm.Cond.instanceMethod ({ cls := "HungFaces", name := "takesFrom", desc := "(II)Z" } : Jvm.MethodName)) ∈ lw_all := lw_g (lw_at lw_m8 62 rfl) rfl
theorem q1870 : (Jvm.Cond.code ({ cls := "HungFaces", name := "takesFrom", desc := "(II)Z" } : Jvm.MethodName) prog_1_method_76_code (4 : Nat) (Option.some Jvm.ClassFile.FieldType.boolean)) ∈ lw_all := lw_g (lw_at lw_m8 63 rfl) rfl
theorem q1871 : (Jvm.Cond.methodLink "HungFaces" (538 : Nat) ({ cls := "HungFaces", name := "rather", desc := "(II)Z" } : Jvm.MethodName)) ∈ lw_all := lw_g (lw_at lw_m8 64 rfl) rfl
theorem q1872 : (Jvm.Cond.privateMethod ({ cls := "HungFaces", name := "rather", desc := "(II)Z" } : Jvm.MethodName)) ∈ lw_tbl := lw_at lw_m8 65 rfl
theorem q1873 : (Jvm.Cond.instanceMethod ({ cls := "HungFaces", name := "rather", desc := "(II)Z" } : Jvm.MethodName)) ∈ lw_all := lw_g (lw_at lw_m8 66 rfl) rfl
theorem q1874 : (Jvm.Cond.code ({ cls := "HungFaces", name := "rather", desc := "(II)Z" } : Jvm.MethodName) prog_1_method_74_code (3 : Nat) (Option.some Jvm.ClassFile.FieldType.boolean)) ∈ lw_all := lw_g (lw_at lw_m8 67 rfl) rfl
theorem q1875 : (Jvm.Cond.methodLink "HungFaces" (529 : Nat) ({ cls := "HungFaces$World", name := "place", desc := "(II)I" } : Jvm.MethodName)) ∈ lw_all := lw_g (lw_at lw_m8 68 rfl) rfl
theorem q1883 : (Jvm.Cond.instanceMethod ({ cls := "HungFaces", name := "fits", desc := "(I)I" } : Jvm.MethodName)) ∈ lw_all := lw_g (lw_at lw_m8 76 rfl) rfl
theorem q1884 : (Jvm.Cond.selects "HungFaces" ({ cls := "HungFaces", name := "fits", desc := "(I)I" } : Jvm.MethodName) ({ cls := "HungFaces", name := "fits", desc := "(I)I" } : Jvm.MethodName)) ∈ lw_all := lw_g (lw_at lw_m8 77 rfl) rfl
theorem q1885 : (Jvm.Cond.code ({ cls := "HungFaces", name := "fits", desc := "(I)I" } : Jvm.MethodName) prog_1_method_79_code (4 : Nat) (Option.some Jvm.ClassFile.FieldType.int)) ∈ lw_all := lw_g (lw_at lw_m8 78 rfl) rfl
theorem q1886 : (Jvm.Cond.methodLink "HungFaces" (548 : Nat) ({ cls := "HungFaces", name := "askedOf", desc := "(I)V" } : Jvm.MethodName)) ∈ lw_all := lw_g (lw_at lw_m8 79 rfl) rfl
theorem q1887 : (Jvm.Cond.privateMethod ({ cls := "HungFaces", name := "askedOf", desc := "(I)V" } : Jvm.MethodName)) ∈ lw_tbl := lw_at lw_m8 80 rfl
theorem q1888 : (Jvm.Cond.instanceMethod ({ cls := "HungFaces", name := "askedOf", desc := "(I)V" } : Jvm.MethodName)) ∈ lw_all := lw_g (lw_at lw_m8 81 rfl) rfl
theorem q1889 : (Jvm.Cond.code ({ cls := "HungFaces", name := "askedOf", desc := "(I)V" } : Jvm.MethodName) prog_1_method_78_code (2 : Nat) (Option.none : Option Jvm.ClassFile.FieldType)) ∈ lw_all := lw_g (lw_at lw_m8 82 rfl) rfl
theorem q1890 : (Jvm.Cond.methodLink "HungFaces" (551 : Nat) ({ cls := "HungFaces", name := "saidAll", desc := "()I" } : Jvm.MethodName)) ∈ lw_all := lw_g (lw_at lw_m8 83 rfl) rfl
theorem q1891 : (Jvm.Cond.privateMethod ({ cls := "HungFaces", name := "saidAll", desc := "()I" } : Jvm.MethodName)) ∈ lw_tbl := lw_at lw_m8 84 rfl
theorem q1892 : (Jvm.Cond.instanceMethod ({ cls := "HungFaces", name := "saidAll", desc := "()I" } : Jvm.MethodName)) ∈ lw_all := lw_g (lw_at lw_m8 85 rfl) rfl
theorem q1893 : (Jvm.Cond.code ({ cls := "HungFaces", name := "saidAll", desc := "()I" } : Jvm.MethodName) prog_1_method_77_code (3 : Nat) (Option.some Jvm.ClassFile.FieldType.int)) ∈ lw_all := lw_g (lw_at lw_m8 86 rfl) rfl
theorem q1894 : (Jvm.Cond.methodLink "HungFaces" (554 : Nat) ({ cls := "HungFaces$Owners", name := "by", desc := "(I)LHungFaces$Owners;" } : Jvm.MethodName)) ∈ lw_all := lw_g (lw_at lw_m8 87 rfl) rfl
theorem q1905 : (Jvm.Cond.methodLink "HungFaces" (558 : Nat) ({ cls := "HungFaces$Owners", name := "many", desc := "()I" } : Jvm.MethodName)) ∈ lw_all := lw_g (lw_at lw_m8 98 rfl) rfl
theorem q1910 : (Jvm.Cond.methodLink "HungFaces" (561 : Nat) ({ cls := "HungFaces$Owners", name := "having", desc := "(II)I" } : Jvm.MethodName)) ∈ lw_all := lw_g (lw_at lw_m8 103 rfl) rfl
theorem q1919 : (Jvm.Cond.instanceMethod ({ cls := "HungFaces", name := "ask", desc := "(I)I" } : Jvm.MethodName)) ∈ lw_all := lw_g (lw_at lw_m8 112 rfl) rfl
theorem q1920 : (Jvm.Cond.selects "HungFaces" ({ cls := "HungFaces", name := "ask", desc := "(I)I" } : Jvm.MethodName) ({ cls := "HungFaces", name := "ask", desc := "(I)I" } : Jvm.MethodName)) ∈ lw_all := lw_g (lw_at lw_m8 113 rfl) rfl
theorem q1921 : (Jvm.Cond.code ({ cls := "HungFaces", name := "ask", desc := "(I)I" } : Jvm.MethodName) prog_1_method_80_code (8 : Nat) (Option.some Jvm.ClassFile.FieldType.int)) ∈ lw_all := lw_g (lw_at lw_m8 114 rfl) rfl
theorem q1922 : (Jvm.Cond.methodLink "HungFaces" (564 : Nat) ({ cls := "java/lang/Math", name := "max", desc := "(II)I" } : Jvm.MethodName)) ∈ lw_all := lw_g (lw_at lw_m8 115 rfl) rfl
theorem q1927 : (Jvm.Cond.instanceMethod ({ cls := "HungFaces", name := "clash", desc := "()I" } : Jvm.MethodName)) ∈ lw_all := lw_g (lw_at lw_m8 120 rfl) rfl
theorem q1928 : (Jvm.Cond.selects "HungFaces" ({ cls := "HungFaces", name := "clash", desc := "()I" } : Jvm.MethodName) ({ cls := "HungFaces", name := "clash", desc := "()I" } : Jvm.MethodName)) ∈ lw_all := lw_g (lw_at lw_m8 121 rfl) rfl
theorem q1929 : (Jvm.Cond.code ({ cls := "HungFaces", name := "clash", desc := "()I" } : Jvm.MethodName) prog_1_method_81_code (4 : Nat) (Option.some Jvm.ClassFile.FieldType.int)) ∈ lw_all := lw_g (lw_at lw_m8 122 rfl) rfl
theorem q1934 : (Jvm.Cond.instanceMethod ({ cls := "HungFaces", name := "forged", desc := "(I)I" } : Jvm.MethodName)) ∈ lw_all := lw_g (lw_at lw_m8 127 rfl) rfl
theorem q1935 : (Jvm.Cond.selects "HungFaces" ({ cls := "HungFaces", name := "forged", desc := "(I)I" } : Jvm.MethodName) ({ cls := "HungFaces", name := "forged", desc := "(I)I" } : Jvm.MethodName)) ∈ lw_all := lw_g (lw_at lw_m8 128 rfl) rfl
theorem q1936 : (Jvm.Cond.code ({ cls := "HungFaces", name := "forged", desc := "(I)I" } : Jvm.MethodName) prog_1_method_83_code (5 : Nat) (Option.some Jvm.ClassFile.FieldType.int)) ∈ lw_all := lw_g (lw_at lw_m8 129 rfl) rfl
theorem q1937 : (Jvm.Cond.methodLink "HungFaces" (580 : Nat) ({ cls := "HungFaces", name := "marksOf", desc := "(I)I" } : Jvm.MethodName)) ∈ lw_all := lw_g (lw_at lw_m8 130 rfl) rfl
theorem q1938 : (Jvm.Cond.privateMethod ({ cls := "HungFaces", name := "marksOf", desc := "(I)I" } : Jvm.MethodName)) ∈ lw_tbl := lw_at lw_m8 131 rfl
theorem q1939 : (Jvm.Cond.instanceMethod ({ cls := "HungFaces", name := "marksOf", desc := "(I)I" } : Jvm.MethodName)) ∈ lw_all := lw_g (lw_at lw_m8 132 rfl) rfl
theorem q1940 : (Jvm.Cond.code ({ cls := "HungFaces", name := "marksOf", desc := "(I)I" } : Jvm.MethodName) prog_1_method_84_code (4 : Nat) (Option.some Jvm.ClassFile.FieldType.int)) ∈ lw_all := lw_g (lw_at lw_m8 133 rfl) rfl
theorem q1945 : (Jvm.Cond.instanceMethod ({ cls := "HungFaces", name := "ways", desc := "(I)I" } : Jvm.MethodName)) ∈ lw_all := lw_g (lw_at lw_m8 138 rfl) rfl
theorem q1946 : (Jvm.Cond.selects "HungFaces" ({ cls := "HungFaces", name := "ways", desc := "(I)I" } : Jvm.MethodName) ({ cls := "HungFaces", name := "ways", desc := "(I)I" } : Jvm.MethodName)) ∈ lw_all := lw_g (lw_at lw_m8 139 rfl) rfl
theorem q1947 : (Jvm.Cond.code ({ cls := "HungFaces", name := "ways", desc := "(I)I" } : Jvm.MethodName) prog_1_method_87_code (3 : Nat) (Option.some Jvm.ClassFile.FieldType.int)) ∈ lw_all := lw_g (lw_at lw_m8 140 rfl) rfl
theorem q1948 : (Jvm.Cond.methodLink "HungFaces" (583 : Nat) ({ cls := "HungFaces", name := "choices", desc := "(II)I" } : Jvm.MethodName)) ∈ lw_all := lw_g (lw_at lw_m8 141 rfl) rfl
theorem q1949 : (Jvm.Cond.static ({ cls := "HungFaces", name := "choices", desc := "(II)I" } : Jvm.MethodName)) ∈ lw_all := lw_g (lw_at lw_m8 142 rfl) rfl
theorem q1950 : (Jvm.Cond.code ({ cls := "HungFaces", name := "choices", desc := "(II)I" } : Jvm.MethodName) prog_1_method_86_code (4 : Nat) (Option.some Jvm.ClassFile.FieldType.int)) ∈ lw_all := lw_g (lw_at lw_m8 143 rfl) rfl
theorem q1951 : (Jvm.Cond.methodLink "HungFaces" (586 : Nat) ({ cls := "HungFaces", name := "astray", desc := "(I)I" } : Jvm.MethodName)) ∈ lw_all := lw_g (lw_at lw_m8 144 rfl) rfl
theorem q1952 : (Jvm.Cond.static ({ cls := "HungFaces", name := "astray", desc := "(I)I" } : Jvm.MethodName)) ∈ lw_all := lw_g (lw_at lw_m8 145 rfl) rfl
theorem q1953 : (Jvm.Cond.code ({ cls := "HungFaces", name := "astray", desc := "(I)I" } : Jvm.MethodName) prog_1_method_85_code (5 : Nat) (Option.some Jvm.ClassFile.FieldType.int)) ∈ lw_all := lw_g (lw_at lw_m8 146 rfl) rfl
theorem q1958 : (Jvm.Cond.instanceMethod ({ cls := "HungFaces", name := "talk", desc := "(I)I" } : Jvm.MethodName)) ∈ lw_all := lw_g (lw_at lw_m8 151 rfl) rfl
theorem q1959 : (Jvm.Cond.selects "HungFaces" ({ cls := "HungFaces", name := "talk", desc := "(I)I" } : Jvm.MethodName) ({ cls := "HungFaces", name := "talk", desc := "(I)I" } : Jvm.MethodName)) ∈ lw_all := lw_g (lw_at lw_m8 152 rfl) rfl
theorem q1960 : (Jvm.Cond.code ({ cls := "HungFaces", name := "talk", desc := "(I)I" } : Jvm.MethodName) prog_1_method_89_code (5 : Nat) (Option.some Jvm.ClassFile.FieldType.int)) ∈ lw_all := lw_g (lw_at lw_m8 153 rfl) rfl
theorem q1965 : (Jvm.Cond.instanceMethod ({ cls := "HungFaces", name := "chain", desc := "(II)I" } : Jvm.MethodName)) ∈ lw_all := lw_g (lw_at lw_m8 158 rfl) rfl
theorem q1966 : (Jvm.Cond.selects "HungFaces" ({ cls := "HungFaces", name := "chain", desc := "(II)I" } : Jvm.MethodName) ({ cls := "HungFaces", name := "chain", desc := "(II)I" } : Jvm.MethodName)) ∈ lw_all := lw_g (lw_at lw_m8 159 rfl) rfl
theorem q1967 : (Jvm.Cond.code ({ cls := "HungFaces", name := "chain", desc := "(II)I" } : Jvm.MethodName) prog_1_method_91_code (7 : Nat) (Option.some Jvm.ClassFile.FieldType.int)) ∈ lw_all := lw_g (lw_at lw_m8 160 rfl) rfl
theorem q1972 : (Jvm.Cond.instanceMethod ({ cls := "HungFaces", name := "hears", desc := "(II)I" } : Jvm.MethodName)) ∈ lw_all := lw_g (lw_at lw_m8 165 rfl) rfl
theorem q1973 : (Jvm.Cond.selects "HungFaces" ({ cls := "HungFaces", name := "hears", desc := "(II)I" } : Jvm.MethodName) ({ cls := "HungFaces", name := "hears", desc := "(II)I" } : Jvm.MethodName)) ∈ lw_all := lw_g (lw_at lw_m8 166 rfl) rfl
theorem q1974 : (Jvm.Cond.code ({ cls := "HungFaces", name := "hears", desc := "(II)I" } : Jvm.MethodName) prog_1_method_92_code (7 : Nat) (Option.some Jvm.ClassFile.FieldType.int)) ∈ lw_all := lw_g (lw_at lw_m8 167 rfl) rfl
theorem q1979 : (Jvm.Cond.instanceMethod ({ cls := "HungFaces", name := "trial", desc := "(I)I" } : Jvm.MethodName)) ∈ lw_all := lw_g (lw_at lw_m8 172 rfl) rfl
theorem q1980 : (Jvm.Cond.selects "HungFaces" ({ cls := "HungFaces", name := "trial", desc := "(I)I" } : Jvm.MethodName) ({ cls := "HungFaces", name := "trial", desc := "(I)I" } : Jvm.MethodName)) ∈ lw_all := lw_g (lw_at lw_m8 173 rfl) rfl
theorem q1981 : (Jvm.Cond.code ({ cls := "HungFaces", name := "trial", desc := "(I)I" } : Jvm.MethodName) prog_1_method_94_code (2 : Nat) (Option.some Jvm.ClassFile.FieldType.int)) ∈ lw_all := lw_g (lw_at lw_m8 174 rfl) rfl
theorem q1982 : (Jvm.Cond.methodLink "HungFaces" (592 : Nat) ({ cls := "HungFaces", name := "tries", desc := "(I)I" } : Jvm.MethodName)) ∈ lw_all := lw_g (lw_at lw_m8 175 rfl) rfl
theorem q1983 : (Jvm.Cond.privateMethod ({ cls := "HungFaces", name := "tries", desc := "(I)I" } : Jvm.MethodName)) ∈ lw_tbl := lw_at lw_m8 176 rfl
theorem q1984 : (Jvm.Cond.instanceMethod ({ cls := "HungFaces", name := "tries", desc := "(I)I" } : Jvm.MethodName)) ∈ lw_all := lw_g (lw_at lw_m8 177 rfl) rfl
theorem q1985 : (Jvm.Cond.code ({ cls := "HungFaces", name := "tries", desc := "(I)I" } : Jvm.MethodName) prog_1_method_93_code (3 : Nat) (Option.some Jvm.ClassFile.FieldType.int)) ∈ lw_all := lw_g (lw_at lw_m8 178 rfl) rfl
theorem q1990 : (Jvm.Cond.instanceMethod ({ cls := "HungFaces", name := "span", desc := "(IZ)I" } : Jvm.MethodName)) ∈ lw_all := lw_g (lw_at lw_m8 183 rfl) rfl
theorem q1991 : (Jvm.Cond.selects "HungFaces" ({ cls := "HungFaces", name := "span", desc := "(IZ)I" } : Jvm.MethodName) ({ cls := "HungFaces", name := "span", desc := "(IZ)I" } : Jvm.MethodName)) ∈ lw_all := lw_g (lw_at lw_m8 184 rfl) rfl
theorem q1992 : (Jvm.Cond.code ({ cls := "HungFaces", name := "span", desc := "(IZ)I" } : Jvm.MethodName) prog_1_method_95_code (6 : Nat) (Option.some Jvm.ClassFile.FieldType.int)) ∈ lw_all := lw_g (lw_at lw_m8 185 rfl) rfl
theorem q1993 : (Jvm.Cond.methodLink "HungFaces" (598 : Nat) ({ cls := "java/lang/Math", name := "min", desc := "(II)I" } : Jvm.MethodName)) ∈ lw_all := lw_g (lw_at lw_m8 186 rfl) rfl
theorem q1998 : (Jvm.Cond.instanceMethod ({ cls := "HungFaces", name := "led", desc := "(IZ)I" } : Jvm.MethodName)) ∈ lw_all := lw_g (lw_at lw_m8 191 rfl) rfl
theorem q1999 : (Jvm.Cond.selects "HungFaces" ({ cls := "HungFaces", name := "led", desc := "(IZ)I" } : Jvm.MethodName) ({ cls := "HungFaces", name := "led", desc := "(IZ)I" } : Jvm.MethodName)) ∈ lw_all := lw_g (lw_at lw_m8 192 rfl) rfl
theorem q2000 : (Jvm.Cond.code ({ cls := "HungFaces", name := "led", desc := "(IZ)I" } : Jvm.MethodName) prog_1_method_98_code (6 : Nat) (Option.some Jvm.ClassFile.FieldType.int)) ∈ lw_all := lw_g (lw_at lw_m8 193 rfl) rfl
theorem q2001 : (Jvm.Cond.methodLink "HungFaces" (616 : Nat) ({ cls := "HungFaces", name := "isTaken", desc := "(II)Z" } : Jvm.MethodName)) ∈ lw_all := lw_g (lw_at lw_m8 194 rfl) rfl
theorem q2002 : (Jvm.Cond.privateMethod ({ cls := "HungFaces", name := "isTaken", desc := "(II)Z" } : Jvm.MethodName)) ∈ lw_tbl := lw_at lw_m8 195 rfl
theorem q2003 : (Jvm.Cond.instanceMethod ({ cls := "HungFaces", name := "isTaken", desc := "(II)Z" } : Jvm.MethodName)) ∈ lw_all := lw_g (lw_at lw_m8 196 rfl) rfl
theorem q2004 : (Jvm.Cond.code ({ cls := "HungFaces", name := "isTaken", desc := "(II)Z" } : Jvm.MethodName) prog_1_method_97_code (4 : Nat) (Option.some Jvm.ClassFile.FieldType.boolean)) ∈ lw_all := lw_g (lw_at lw_m8 197 rfl) rfl
theorem q2005 : (Jvm.Cond.methodLink "HungFaces" (604 : Nat) ({ cls := "HungFaces", name := "ofLog", desc := "(II)I" } : Jvm.MethodName)) ∈ lw_all := lw_g (lw_at lw_m8 198 rfl) rfl
theorem q2006 : (Jvm.Cond.privateMethod ({ cls := "HungFaces", name := "ofLog", desc := "(II)I" } : Jvm.MethodName)) ∈ lw_tbl := lw_at lw_m8 199 rfl
theorem q2007 : (Jvm.Cond.instanceMethod ({ cls := "HungFaces", name := "ofLog", desc := "(II)I" } : Jvm.MethodName)) ∈ lw_all := lw_g (lw_at lw_m8 200 rfl) rfl
theorem q2008 : (Jvm.Cond.code ({ cls := "HungFaces", name := "ofLog", desc := "(II)I" } : Jvm.MethodName) prog_1_method_96_code (3 : Nat) (Option.some Jvm.ClassFile.FieldType.int)) ∈ lw_all := lw_g (lw_at lw_m8 201 rfl) rfl
theorem q2009 : (Jvm.Cond.fieldLink "HungFaces" (607 : Nat) "HungFaces$Which" "FETCHED" "LHungFaces$Which;") ∈ lw_all := lw_g (lw_at lw_m8 202 rfl) rfl
theorem q2010 : (Jvm.Cond.methodLink "HungFaces" (610 : Nat) ({ cls := "HungFaces$Which", name := "ordinal", desc := "()I" } : Jvm.MethodName)) ∈ lw_all := lw_g (lw_at lw_m8 203 rfl) rfl
theorem q2015 : (Jvm.Cond.instanceMethod ({ cls := "HungFaces", name := "log", desc := "(II)I" } : Jvm.MethodName)) ∈ lw_all := lw_g (lw_at lw_m8 208 rfl) rfl
theorem q2016 : (Jvm.Cond.selects "HungFaces" ({ cls := "HungFaces", name := "log", desc := "(II)I" } : Jvm.MethodName) ({ cls := "HungFaces", name := "log", desc := "(II)I" } : Jvm.MethodName)) ∈ lw_all := lw_g (lw_at lw_m8 209 rfl) rfl
theorem q2017 : (Jvm.Cond.code ({ cls := "HungFaces", name := "log", desc := "(II)I" } : Jvm.MethodName) prog_1_method_99_code (3 : Nat) (Option.some Jvm.ClassFile.FieldType.int)) ∈ lw_all := lw_g (lw_at lw_m8 210 rfl) rfl
theorem q2661 : (Jvm.Cond.castable "HungFaces" "java/lang/Object") ∈ lw_tbl := lw_at lw_m11 134 rfl
theorem in_X1 : ∀ w ∈ wsX10, w ∈ lw_all := lw_in wsX10 [449, 451, 453, 455, 457, 459, 461, 463, 465, 467, 469] (by decide +kernel) (by decide +kernel)
theorem q129 : (Jvm.Cond.initialized "HungFaces$World") ∈ lw_all := lw_g (lw_at lw_m1 2 rfl) rfl
theorem q182 : (Jvm.Cond.instantiable "HungFaces$World" (20 : Nat)) ∈ lw_all := lw_g (lw_at lw_m1 55 rfl) rfl
theorem q184 : (Jvm.Cond.instanceMethod ({ cls := "HungFaces$World", name := "<init>", desc := "()V" } : Jvm.MethodName)) ∈ lw_all := lw_g (lw_at lw_m1 57 rfl) rfl
theorem q185 : (Jvm.Cond.code ({ cls := "HungFaces$World", name := "<init>", desc := "()V" } : Jvm.MethodName) prog_18_method_1_code (1 : Nat) (Option.none : Option Jvm.ClassFile.FieldType)) ∈ lw_all := lw_g (lw_at lw_m1 58 rfl) rfl
theorem q186 : (Jvm.Cond.methodLink "HungFaces$World" (3 : Nat) ({ cls := "java/lang/Object", name := "<init>", desc := "()V" } : Jvm.MethodName)) ∈ lw_all := lw_g (lw_at lw_m1 59 rfl) rfl
theorem q187 : (Jvm.Cond.methodLink "HungFaces$World" (52 : Nat) ({ cls := "java/util/Arrays", name := "fill", desc := "([II)V" } : Jvm.MethodName)) ∈ lw_all := lw_g (lw_at lw_m1 60 rfl) rfl
theorem q190 : (Jvm.Cond.fieldLink "HungFaces$World" (58 : Nat) "HungFaces$World" "texts" "I") ∈ lw_all := lw_g (lw_at lw_m1 63 rfl) rfl
theorem q192 : (Jvm.Cond.fieldLink "HungFaces$World" (61 : Nat) "HungFaces$World" "people" "I") ∈ lw_all := lw_g (lw_at lw_m1 65 rfl) rfl
theorem q196 : (Jvm.Cond.fieldLink "HungFaces$World" (9 : Nat) "HungFaces$World" "hooks" "I") ∈ lw_all := lw_g (lw_at lw_m1 69 rfl) rfl
theorem q198 : (Jvm.Cond.fieldLink "HungFaces$World" (64 : Nat) "HungFaces$World" "hour" "I") ∈ lw_all := lw_g (lw_at lw_m1 71 rfl) rfl
theorem q200 : (Jvm.Cond.fieldLink "HungFaces$World" (67 : Nat) "HungFaces$World" "mix" "I") ∈ lw_all := lw_g (lw_at lw_m1 73 rfl) rfl
theorem q202 : (Jvm.Cond.fieldLink "HungFaces$World" (70 : Nat) "HungFaces$World" "thief" "I") ∈ lw_all := lw_g (lw_at lw_m1 75 rfl) rfl
theorem q204 : (Jvm.Cond.fieldLink "HungFaces$World" (73 : Nat) "HungFaces$World" "logged" "I") ∈ lw_all := lw_g (lw_at lw_m1 77 rfl) rfl
theorem q206 : (Jvm.Cond.fieldLink "HungFaces$World" (15 : Nat) "HungFaces$World" "seed" "I") ∈ lw_all := lw_g (lw_at lw_m1 79 rfl) rfl
theorem q208 : (Jvm.Cond.fieldLink "HungFaces$World" (18 : Nat) "HungFaces$World" "face" "[I") ∈ lw_all := lw_g (lw_at lw_m1 81 rfl) rfl
theorem q210 : (Jvm.Cond.fieldLink "HungFaces$World" (22 : Nat) "HungFaces$World" "mask" "[I") ∈ lw_all := lw_g (lw_at lw_m1 83 rfl) rfl
theorem q212 : (Jvm.Cond.fieldLink "HungFaces$World" (25 : Nat) "HungFaces$World" "wears" "[I") ∈ lw_all := lw_g (lw_at lw_m1 85 rfl) rfl
theorem q215 : (Jvm.Cond.fieldLink "HungFaces$World" (28 : Nat) "HungFaces$World" "ticket" "[I") ∈ lw_all := lw_g (lw_at lw_m1 88 rfl) rfl
theorem q218 : (Jvm.Cond.fieldLink "HungFaces$World" (31 : Nat) "HungFaces$World" "spouse" "[I") ∈ lw_all := lw_g (lw_at lw_m1 91 rfl) rfl
theorem q220 : (Jvm.Cond.fieldLink "HungFaces$World" (34 : Nat) "HungFaces$World" "knows" "[I") ∈ lw_all := lw_g (lw_at lw_m1 93 rfl) rfl
theorem q222 : (Jvm.Cond.fieldLink "HungFaces$World" (37 : Nat) "HungFaces$World" "thinks" "[I") ∈ lw_all := lw_g (lw_at lw_m1 95 rfl) rfl
theorem q224 : (Jvm.Cond.fieldLink "HungFaces$World" (40 : Nat) "HungFaces$World" "wishes" "[I") ∈ lw_all := lw_g (lw_at lw_m1 97 rfl) rfl
theorem q227 : (Jvm.Cond.fieldLink "HungFaces$World" (43 : Nat) "HungFaces$World" "told" "[I") ∈ lw_all := lw_g (lw_at lw_m1 100 rfl) rfl
theorem q229 : (Jvm.Cond.fieldLink "HungFaces$World" (46 : Nat) "HungFaces$World" "hook" "[I") ∈ lw_all := lw_g (lw_at lw_m1 102 rfl) rfl
theorem q231 : (Jvm.Cond.fieldLink "HungFaces$World" (49 : Nat) "HungFaces$World" "log" "[I") ∈ lw_all := lw_g (lw_at lw_m1 104 rfl) rfl
theorem q233 : (Jvm.Cond.fieldLink "HungFaces$World" (76 : Nat) "HungFaces$World" "law" "LHungFaces$Law;") ∈ lw_all := lw_g (lw_at lw_m1 106 rfl) rfl
theorem q235 : (Jvm.Cond.lays "HungFaces$World" "HungFaces$World" "texts" "I") ∈ lw_all := lw_g (lw_at lw_m1 108 rfl) rfl
theorem q236 : (Jvm.Cond.soleField "HungFaces$World" "texts") ∈ lw_all := lw_g (lw_at lw_m1 109 rfl) rfl
theorem q237 : (Jvm.Cond.lays "HungFaces$World" "HungFaces$World" "people" "I") ∈ lw_all := lw_g (lw_at lw_m1 110 rfl) rfl
theorem q238 : (Jvm.Cond.soleField "HungFaces$World" "people") ∈ lw_all := lw_g (lw_at lw_m1 111 rfl) rfl
theorem q239 : (Jvm.Cond.lays "HungFaces$World" "HungFaces$World" "hooks" "I") ∈ lw_all := lw_g (lw_at lw_m1 112 rfl) rfl
theorem q240 : (Jvm.Cond.soleField "HungFaces$World" "hooks") ∈ lw_all := lw_g (lw_at lw_m1 113 rfl) rfl
theorem q241 : (Jvm.Cond.lays "HungFaces$World" "HungFaces$World" "hour" "I") ∈ lw_all := lw_g (lw_at lw_m1 114 rfl) rfl
theorem q242 : (Jvm.Cond.soleField "HungFaces$World" "hour") ∈ lw_all := lw_g (lw_at lw_m1 115 rfl) rfl
theorem q243 : (Jvm.Cond.lays "HungFaces$World" "HungFaces$World" "mix" "I") ∈ lw_all := lw_g (lw_at lw_m1 116 rfl) rfl
theorem q244 : (Jvm.Cond.soleField "HungFaces$World" "mix") ∈ lw_all := lw_g (lw_at lw_m1 117 rfl) rfl
theorem q245 : (Jvm.Cond.lays "HungFaces$World" "HungFaces$World" "thief" "I") ∈ lw_all := lw_g (lw_at lw_m1 118 rfl) rfl
theorem q246 : (Jvm.Cond.soleField "HungFaces$World" "thief") ∈ lw_all := lw_g (lw_at lw_m1 119 rfl) rfl
theorem q247 : (Jvm.Cond.lays "HungFaces$World" "HungFaces$World" "logged" "I") ∈ lw_all := lw_g (lw_at lw_m1 120 rfl) rfl
theorem q248 : (Jvm.Cond.soleField "HungFaces$World" "logged") ∈ lw_all := lw_g (lw_at lw_m1 121 rfl) rfl
theorem q249 : (Jvm.Cond.lays "HungFaces$World" "HungFaces$World" "seed" "I") ∈ lw_all := lw_g (lw_at lw_m1 122 rfl) rfl
theorem q250 : (Jvm.Cond.soleField "HungFaces$World" "seed") ∈ lw_all := lw_g (lw_at lw_m1 123 rfl) rfl
theorem q251 : (Jvm.Cond.laysFinal "HungFaces$World" "HungFaces$World" "face" "[I") ∈ lw_all := lw_g (lw_at lw_m1 124 rfl) rfl
theorem q252 : (Jvm.Cond.soleField "HungFaces$World" "face") ∈ lw_all := lw_g (lw_at lw_m1 125 rfl) rfl
theorem q253 : (Jvm.Cond.laysFinal "HungFaces$World" "HungFaces$World" "mask" "[I") ∈ lw_all := lw_g (lw_at lw_m1 126 rfl) rfl
theorem q254 : (Jvm.Cond.soleField "HungFaces$World" "mask") ∈ lw_all := lw_g (lw_at lw_m1 127 rfl) rfl
theorem q255 : (Jvm.Cond.laysFinal "HungFaces$World" "HungFaces$World" "wears" "[I") ∈ lw_all := lw_g (lw_at lw_m1 128 rfl) rfl
theorem q256 : (Jvm.Cond.soleField "HungFaces$World" "wears") ∈ lw_all := lw_g (lw_at lw_m1 129 rfl) rfl
theorem q257 : (Jvm.Cond.laysFinal "HungFaces$World" "HungFaces$World" "ticket" "[I") ∈ lw_all := lw_g (lw_at lw_m1 130 rfl) rfl
theorem q258 : (Jvm.Cond.soleField "HungFaces$World" "ticket") ∈ lw_all := lw_g (lw_at lw_m1 131 rfl) rfl
theorem q259 : (Jvm.Cond.laysFinal "HungFaces$World" "HungFaces$World" "spouse" "[I") ∈ lw_all := lw_g (lw_at lw_m1 132 rfl) rfl
theorem q260 : (Jvm.Cond.soleField "HungFaces$World" "spouse") ∈ lw_all := lw_g (lw_at lw_m1 133 rfl) rfl
theorem q261 : (Jvm.Cond.laysFinal "HungFaces$World" "HungFaces$World" "knows" "[I") ∈ lw_all := lw_g (lw_at lw_m1 134 rfl) rfl
theorem q262 : (Jvm.Cond.soleField "HungFaces$World" "knows") ∈ lw_all := lw_g (lw_at lw_m1 135 rfl) rfl
theorem q263 : (Jvm.Cond.laysFinal "HungFaces$World" "HungFaces$World" "thinks" "[I") ∈ lw_all := lw_g (lw_at lw_m1 136 rfl) rfl
theorem q264 : (Jvm.Cond.soleField "HungFaces$World" "thinks") ∈ lw_all := lw_g (lw_at lw_m1 137 rfl) rfl
theorem q265 : (Jvm.Cond.laysFinal "HungFaces$World" "HungFaces$World" "wishes" "[I") ∈ lw_all := lw_g (lw_at lw_m1 138 rfl) rfl
theorem q266 : (Jvm.Cond.soleField "HungFaces$World" "wishes") ∈ lw_all := lw_g (lw_at lw_m1 139 rfl) rfl
theorem q267 : (Jvm.Cond.laysFinal "HungFaces$World" "HungFaces$World" "told" "[I") ∈ lw_all := lw_g (lw_at lw_m1 140 rfl) rfl
theorem q268 : (Jvm.Cond.soleField "HungFaces$World" "told") ∈ lw_all := lw_g (lw_at lw_m1 141 rfl) rfl
theorem q269 : (Jvm.Cond.laysFinal "HungFaces$World" "HungFaces$World" "hook" "[I") ∈ lw_all := lw_g (lw_at lw_m1 142 rfl) rfl
theorem q270 : (Jvm.Cond.soleField "HungFaces$World" "hook") ∈ lw_all := lw_g (lw_at lw_m1 143 rfl) rfl
theorem q271 : (Jvm.Cond.laysFinal "HungFaces$World" "HungFaces$World" "log" "[I") ∈ lw_all := lw_g (lw_at lw_m1 144 rfl) rfl
theorem q272 : (Jvm.Cond.soleField "HungFaces$World" "log") ∈ lw_all := lw_g (lw_at lw_m1 145 rfl) rfl
theorem q273 : (Jvm.Cond.lays "HungFaces$World" "HungFaces$World" "law" "LHungFaces$Law;") ∈ lw_all := lw_g (lw_at lw_m1 146 rfl) rfl
theorem q274 : (Jvm.Cond.soleField "HungFaces$World" "law") ∈ lw_all := lw_g (lw_at lw_m1 147 rfl) rfl
theorem q275 : (Jvm.Cond.superclass "HungFaces$World" "java/lang/Object") ∈ lw_all := lw_g (lw_at lw_m1 148 rfl) rfl
theorem q508 : (Jvm.Cond.instanceMethod ({ cls := "HungFaces$World", name := "wearer", desc := "(I)I" } : Jvm.MethodName)) ∈ lw_all := lw_g (lw_at lw_m2 141 rfl) rfl
theorem q509 : (Jvm.Cond.selects "HungFaces$World" ({ cls := "HungFaces$World", name := "wearer", desc := "(I)I" } : Jvm.MethodName) ({ cls := "HungFaces$World", name := "wearer", desc := "(I)I" } : Jvm.MethodName)) ∈ lw_all := lw_g (lw_at lw_m2 142 rfl) rfl
theorem q510 : (Jvm.Cond.code ({ cls := "HungFaces$World", name := "wearer", desc := "(I)I" } : Jvm.MethodName) prog_18_method_6_code (3 : Nat) (Option.some Jvm.ClassFile.FieldType.int)) ∈ lw_all := lw_g (lw_at lw_m2 143 rfl) rfl
theorem q512 : (Jvm.Cond.instanceMethod ({ cls := "HungFaces$World", name := "hookOf", desc := "(I)I" } : Jvm.MethodName)) ∈ lw_all := lw_g (lw_at lw_m2 145 rfl) rfl
theorem q513 : (Jvm.Cond.selects "HungFaces$World" ({ cls := "HungFaces$World", name := "hookOf", desc := "(I)I" } : Jvm.MethodName) ({ cls := "HungFaces$World", name := "hookOf", desc := "(I)I" } : Jvm.MethodName)) ∈ lw_all := lw_g (lw_at lw_m2 146 rfl) rfl
theorem q514 : (Jvm.Cond.code ({ cls := "HungFaces$World", name := "hookOf", desc := "(I)I" } : Jvm.MethodName) prog_18_method_7_code (3 : Nat) (Option.some Jvm.ClassFile.FieldType.int)) ∈ lw_all := lw_g (lw_at lw_m2 147 rfl) rfl
theorem q520 : (Jvm.Cond.instanceMethod ({ cls := "HungFaces$World", name := "isTicket", desc := "(I)Z" } : Jvm.MethodName)) ∈ lw_all := lw_g (lw_at lw_m2 153 rfl) rfl
theorem q521 : (Jvm.Cond.selects "HungFaces$World" ({ cls := "HungFaces$World", name := "isTicket", desc := "(I)Z" } : Jvm.MethodName) ({ cls := "HungFaces$World", name := "isTicket", desc := "(I)Z" } : Jvm.MethodName)) ∈ lw_all := lw_g (lw_at lw_m2 154 rfl) rfl
theorem q522 : (Jvm.Cond.code ({ cls := "HungFaces$World", name := "isTicket", desc := "(I)Z" } : Jvm.MethodName) prog_18_method_10_code (3 : Nat) (Option.some Jvm.ClassFile.FieldType.boolean)) ∈ lw_all := lw_g (lw_at lw_m2 155 rfl) rfl
theorem q597 : (Jvm.Cond.instanceMethod ({ cls := "HungFaces$World", name := "withTickets", desc := "()I" } : Jvm.MethodName)) ∈ lw_all := lw_g (lw_at lw_m2 230 rfl) rfl
theorem q598 : (Jvm.Cond.selects "HungFaces$World" ({ cls := "HungFaces$World", name := "withTickets", desc := "()I" } : Jvm.MethodName) ({ cls := "HungFaces$World", name := "withTickets", desc := "()I" } : Jvm.MethodName)) ∈ lw_all := lw_g (lw_at lw_m2 231 rfl) rfl
theorem q599 : (Jvm.Cond.code ({ cls := "HungFaces$World", name := "withTickets", desc := "()I" } : Jvm.MethodName) prog_18_method_11_code (3 : Nat) (Option.some Jvm.ClassFile.FieldType.int)) ∈ lw_all := lw_g (lw_at lw_m2 232 rfl) rfl
theorem q674 : (Jvm.Cond.instanceMethod ({ cls := "HungFaces$World", name := "likens", desc := "(LHungFaces$World;)LHungFaces$World;" } : Jvm.MethodName)) ∈ lw_all := lw_g (lw_at lw_m3 67 rfl) rfl
theorem q675 : (Jvm.Cond.selects "HungFaces$World" ({ cls := "HungFaces$World", name := "likens", desc := "(LHungFaces$World;)LHungFaces$World;" } : Jvm.MethodName) ({ cls := "HungFaces$World", name := "likens", desc := "(LHungFaces$World;)LHungFaces$World;" } : Jvm.MethodName)) ∈ lw_all := lw_g (lw_at lw_m3 68 rfl) rfl
theorem q676 : (Jvm.Cond.code ({ cls := "HungFaces$World", name := "likens", desc := "(LHungFaces$World;)LHungFaces$World;" } : Jvm.MethodName) prog_18_method_2_code (2 : Nat) (Option.some (Jvm.ClassFile.FieldType.object "HungFaces$World"))) ∈ lw_all := lw_g (lw_at lw_m3 69 rfl) rfl
theorem q677 : (Jvm.Cond.methodLink "HungFaces$World" (80 : Nat) ({ cls := "HungFaces$World", name := "row", desc := "([I[I)V" } : Jvm.MethodName)) ∈ lw_all := lw_g (lw_at lw_m3 70 rfl) rfl
theorem q678 : (Jvm.Cond.static ({ cls := "HungFaces$World", name := "row", desc := "([I[I)V" } : Jvm.MethodName)) ∈ lw_all := lw_g (lw_at lw_m3 71 rfl) rfl
theorem q679 : (Jvm.Cond.code ({ cls := "HungFaces$World", name := "row", desc := "([I[I)V" } : Jvm.MethodName) prog_18_method_3_code (2 : Nat) (Option.none : Option Jvm.ClassFile.FieldType)) ∈ lw_all := lw_g (lw_at lw_m3 72 rfl) rfl
theorem q680 : (Jvm.Cond.methodLink "HungFaces$World" (84 : Nat) ({ cls := "java/lang/System", name := "arraycopy", desc := "(Ljava/lang/Object;ILjava/lang/Object;II)V" } : Jvm.MethodName)) ∈ lw_all := lw_g (lw_at lw_m3 73 rfl) rfl
theorem q698 : (Jvm.Cond.instanceMethod ({ cls := "HungFaces$World", name := "hung", desc := "()I" } : Jvm.MethodName)) ∈ lw_all := lw_g (lw_at lw_m3 91 rfl) rfl
theorem q699 : (Jvm.Cond.selects "HungFaces$World" ({ cls := "HungFaces$World", name := "hung", desc := "()I" } : Jvm.MethodName) ({ cls := "HungFaces$World", name := "hung", desc := "()I" } : Jvm.MethodName)) ∈ lw_all := lw_g (lw_at lw_m3 92 rfl) rfl
theorem q700 : (Jvm.Cond.code ({ cls := "HungFaces$World", name := "hung", desc := "()I" } : Jvm.MethodName) prog_18_method_8_code (3 : Nat) (Option.some Jvm.ClassFile.FieldType.int)) ∈ lw_all := lw_g (lw_at lw_m3 93 rfl) rfl
theorem q1188 : (Jvm.Cond.instanceMethod ({ cls := "HungFaces$World", name := "fillsWishes", desc := "(I)V" } : Jvm.MethodName)) ∈ lw_all := lw_g (lw_at lw_m5 101 rfl) rfl
theorem q1189 : (Jvm.Cond.selects "HungFaces$World" ({ cls := "HungFaces$World", name := "fillsWishes", desc := "(I)V" } : Jvm.MethodName) ({ cls := "HungFaces$World", name := "fillsWishes", desc := "(I)V" } : Jvm.MethodName)) ∈ lw_all := lw_g (lw_at lw_m5 102 rfl) rfl
theorem q1190 : (Jvm.Cond.code ({ cls := "HungFaces$World", name := "fillsWishes", desc := "(I)V" } : Jvm.MethodName) prog_18_method_19_code (4 : Nat) (Option.none : Option Jvm.ClassFile.FieldType)) ∈ lw_all := lw_g (lw_at lw_m5 103 rfl) rfl
theorem q1191 : (Jvm.Cond.methodLink "HungFaces$World" (124 : Nat) ({ cls := "HungFaces$World", name := "isTold", desc := "(II)Z" } : Jvm.MethodName)) ∈ lw_all := lw_g (lw_at lw_m5 104 rfl) rfl
theorem q1192 : (Jvm.Cond.instanceMethod ({ cls := "HungFaces$World", name := "isTold", desc := "(II)Z" } : Jvm.MethodName)) ∈ lw_all := lw_g (lw_at lw_m5 105 rfl) rfl
theorem q1193 : (Jvm.Cond.selects "HungFaces$World" ({ cls := "HungFaces$World", name := "isTold", desc := "(II)Z" } : Jvm.MethodName) ({ cls := "HungFaces$World", name := "isTold", desc := "(II)Z" } : Jvm.MethodName)) ∈ lw_all := lw_g (lw_at lw_m5 106 rfl) rfl
theorem q1194 : (Jvm.Cond.code ({ cls := "HungFaces$World", name := "isTold", desc := "(II)Z" } : Jvm.MethodName) prog_18_method_20_code (4 : Nat) (Option.some Jvm.ClassFile.FieldType.boolean)) ∈ lw_all := lw_g (lw_at lw_m5 107 rfl) rfl
theorem q1456 : (Jvm.Cond.selects "HungFaces$World" ({ cls := "java/lang/Object", name := "getClass", desc := "()Ljava/lang/Class;" } : Jvm.MethodName) ({ cls := "java/lang/Object", name := "getClass", desc := "()Ljava/lang/Class;" } : Jvm.MethodName)) ∈ lw_all := lw_g (lw_at lw_m6 129 rfl) rfl
theorem q1647 : (Jvm.Cond.instanceMethod ({ cls := "HungFaces$World", name := "hands", desc := "(II)V" } : Jvm.MethodName)) ∈ lw_all := lw_g (lw_at lw_m7 80 rfl) rfl
theorem q1648 : (Jvm.Cond.selects "HungFaces$World" ({ cls := "HungFaces$World", name := "hands", desc := "(II)V" } : Jvm.MethodName) ({ cls := "HungFaces$World", name := "hands", desc := "(II)V" } : Jvm.MethodName)) ∈ lw_all := lw_g (lw_at lw_m7 81 rfl) rfl
theorem q1649 : (Jvm.Cond.code ({ cls := "HungFaces$World", name := "hands", desc := "(II)V" } : Jvm.MethodName) prog_18_method_14_code (3 : Nat) (Option.none : Option Jvm.ClassFile.FieldType)) ∈ lw_all := lw_g (lw_at lw_m7 82 rfl) rfl
theorem q1650 : (Jvm.Cond.fieldLink "HungFaces$World" (103 : Nat) "HungFaces$Which" "HUNG" "LHungFaces$Which;") ∈ lw_all := lw_g (lw_at lw_m7 83 rfl) rfl
theorem q1652 : (Jvm.Cond.methodLink "HungFaces$World" (107 : Nat) ({ cls := "HungFaces$World", name := "tells", desc := "(IIILHungFaces$Which;)V" } : Jvm.MethodName)) ∈ lw_all := lw_g (lw_at lw_m7 85 rfl) rfl
theorem q1653 : (Jvm.Cond.instanceMethod ({ cls := "HungFaces$World", name := "tells", desc := "(IIILHungFaces$Which;)V" } : Jvm.MethodName)) ∈ lw_all := lw_g (lw_at lw_m7 86 rfl) rfl
theorem q1654 : (Jvm.Cond.selects "HungFaces$World" ({ cls := "HungFaces$World", name := "tells", desc := "(IIILHungFaces$Which;)V" } : Jvm.MethodName) ({ cls := "HungFaces$World", name := "tells", desc := "(IIILHungFaces$Which;)V" } : Jvm.MethodName)) ∈ lw_all := lw_g (lw_at lw_m7 87 rfl) rfl
theorem q1655 : (Jvm.Cond.code ({ cls := "HungFaces$World", name := "tells", desc := "(IIILHungFaces$Which;)V" } : Jvm.MethodName) prog_18_method_13_code (5 : Nat) (Option.none : Option Jvm.ClassFile.FieldType)) ∈ lw_all := lw_g (lw_at lw_m7 88 rfl) rfl
theorem q1656 : (Jvm.Cond.methodLink "HungFaces$World" (91 : Nat) ({ cls := "HungFaces$Which", name := "ordinal", desc := "()I" } : Jvm.MethodName)) ∈ lw_all := lw_g (lw_at lw_m7 89 rfl) rfl
theorem q1662 : (Jvm.Cond.methodLink "HungFaces$World" (97 : Nat) ({ cls := "java/lang/Math", name := "min", desc := "(II)I" } : Jvm.MethodName)) ∈ lw_all := lw_g (lw_at lw_m7 95 rfl) rfl
theorem q1671 : (Jvm.Cond.instanceMethod ({ cls := "HungFaces$World", name := "fetches", desc := "(I)V" } : Jvm.MethodName)) ∈ lw_all := lw_g (lw_at lw_m7 104 rfl) rfl
theorem q1672 : (Jvm.Cond.selects "HungFaces$World" ({ cls := "HungFaces$World", name := "fetches", desc := "(I)V" } : Jvm.MethodName) ({ cls := "HungFaces$World", name := "fetches", desc := "(I)V" } : Jvm.MethodName)) ∈ lw_all := lw_g (lw_at lw_m7 105 rfl) rfl
theorem q1673 : (Jvm.Cond.code ({ cls := "HungFaces$World", name := "fetches", desc := "(I)V" } : Jvm.MethodName) prog_18_method_16_code (3 : Nat) (Option.none : Option Jvm.ClassFile.FieldType)) ∈ lw_all := lw_g (lw_at lw_m7 106 rfl) rfl
theorem q1674 : (Jvm.Cond.fieldLink "HungFaces$World" (111 : Nat) "HungFaces$Which" "FETCHED" "LHungFaces$Which;") ∈ lw_all := lw_g (lw_at lw_m7 107 rfl) rfl
theorem q1676 : (Jvm.Cond.methodLink "HungFaces$World" (114 : Nat) ({ cls := "HungFaces$World", name := "takes", desc := "(IILHungFaces$Which;)V" } : Jvm.MethodName)) ∈ lw_all := lw_g (lw_at lw_m7 109 rfl) rfl
theorem q1677 : (Jvm.Cond.instanceMethod ({ cls := "HungFaces$World", name := "takes", desc := "(IILHungFaces$Which;)V" } : Jvm.MethodName)) ∈ lw_all := lw_g (lw_at lw_m7 110 rfl) rfl
theorem q1678 : (Jvm.Cond.selects "HungFaces$World" ({ cls := "HungFaces$World", name := "takes", desc := "(IILHungFaces$Which;)V" } : Jvm.MethodName) ({ cls := "HungFaces$World", name := "takes", desc := "(IILHungFaces$Which;)V" } : Jvm.MethodName)) ∈ lw_all := lw_g (lw_at lw_m7 111 rfl) rfl
theorem q1679 : (Jvm.Cond.code ({ cls := "HungFaces$World", name := "takes", desc := "(IILHungFaces$Which;)V" } : Jvm.MethodName) prog_18_method_15_code (4 : Nat) (Option.none : Option Jvm.ClassFile.FieldType)) ∈ lw_all := lw_g (lw_at lw_m7 112 rfl) rfl
theorem q1688 : (Jvm.Cond.instanceMethod ({ cls := "HungFaces$World", name := "mixes", desc := "(II)V" } : Jvm.MethodName)) ∈ lw_all := lw_g (lw_at lw_m7 121 rfl) rfl
theorem q1689 : (Jvm.Cond.selects "HungFaces$World" ({ cls := "HungFaces$World", name := "mixes", desc := "(II)V" } : Jvm.MethodName) ({ cls := "HungFaces$World", name := "mixes", desc := "(II)V" } : Jvm.MethodName)) ∈ lw_all := lw_g (lw_at lw_m7 122 rfl) rfl
theorem q1690 : (Jvm.Cond.code ({ cls := "HungFaces$World", name := "mixes", desc := "(II)V" } : Jvm.MethodName) prog_18_method_17_code (6 : Nat) (Option.none : Option Jvm.ClassFile.FieldType)) ∈ lw_all := lw_g (lw_at lw_m7 123 rfl) rfl
theorem q1691 : (Jvm.Cond.methodLink "HungFaces$World" (118 : Nat) ({ cls := "java/lang/Math", name := "max", desc := "(II)I" } : Jvm.MethodName)) ∈ lw_all := lw_g (lw_at lw_m7 124 rfl) rfl
theorem q1692 : (Jvm.Cond.fieldLink "HungFaces$World" (121 : Nat) "HungFaces$Which" "CHANGED" "LHungFaces$Which;") ∈ lw_all := lw_g (lw_at lw_m7 125 rfl) rfl
theorem q1733 : (Jvm.Cond.instanceMethod ({ cls := "HungFaces$World", name := "meets", desc := "(II)V" } : Jvm.MethodName)) ∈ lw_all := lw_g (lw_at lw_m7 166 rfl) rfl
theorem q1734 : (Jvm.Cond.selects "HungFaces$World" ({ cls := "HungFaces$World", name := "meets", desc := "(II)V" } : Jvm.MethodName) ({ cls := "HungFaces$World", name := "meets", desc := "(II)V" } : Jvm.MethodName)) ∈ lw_all := lw_g (lw_at lw_m7 167 rfl) rfl
theorem q1735 : (Jvm.Cond.code ({ cls := "HungFaces$World", name := "meets", desc := "(II)V" } : Jvm.MethodName) prog_18_method_18_code (4 : Nat) (Option.none : Option Jvm.ClassFile.FieldType)) ∈ lw_all := lw_g (lw_at lw_m7 168 rfl) rfl
theorem q1752 : (Jvm.Cond.instanceMethod ({ cls := "HungFaces$World", name := "freeHook", desc := "()I" } : Jvm.MethodName)) ∈ lw_all := lw_g (lw_at lw_m7 185 rfl) rfl
theorem q1753 : (Jvm.Cond.selects "HungFaces$World" ({ cls := "HungFaces$World", name := "freeHook", desc := "()I" } : Jvm.MethodName) ({ cls := "HungFaces$World", name := "freeHook", desc := "()I" } : Jvm.MethodName)) ∈ lw_all := lw_g (lw_at lw_m7 186 rfl) rfl
theorem q1754 : (Jvm.Cond.code ({ cls := "HungFaces$World", name := "freeHook", desc := "()I" } : Jvm.MethodName) prog_18_method_9_code (2 : Nat) (Option.some Jvm.ClassFile.FieldType.int)) ∈ lw_all := lw_g (lw_at lw_m7 187 rfl) rfl
theorem q1760 : (Jvm.Cond.instanceMethod ({ cls := "HungFaces$World", name := "faceOf", desc := "(I)I" } : Jvm.MethodName)) ∈ lw_all := lw_g (lw_at lw_m7 193 rfl) rfl
theorem q1761 : (Jvm.Cond.selects "HungFaces$World" ({ cls := "HungFaces$World", name := "faceOf", desc := "(I)I" } : Jvm.MethodName) ({ cls := "HungFaces$World", name := "faceOf", desc := "(I)I" } : Jvm.MethodName)) ∈ lw_all := lw_g (lw_at lw_m7 194 rfl) rfl
theorem q1762 : (Jvm.Cond.code ({ cls := "HungFaces$World", name := "faceOf", desc := "(I)I" } : Jvm.MethodName) prog_18_method_12_code (2 : Nat) (Option.some Jvm.ClassFile.FieldType.int)) ∈ lw_all := lw_g (lw_at lw_m7 195 rfl) rfl
theorem q1834 : (Jvm.Cond.instanceMethod ({ cls := "HungFaces$World", name := "draw", desc := "(I)I" } : Jvm.MethodName)) ∈ lw_all := lw_g (lw_at lw_m8 27 rfl) rfl
theorem q1835 : (Jvm.Cond.selects "HungFaces$World" ({ cls := "HungFaces$World", name := "draw", desc := "(I)I" } : Jvm.MethodName) ({ cls := "HungFaces$World", name := "draw", desc := "(I)I" } : Jvm.MethodName)) ∈ lw_all := lw_g (lw_at lw_m8 28 rfl) rfl
theorem q1836 : (Jvm.Cond.code ({ cls := "HungFaces$World", name := "draw", desc := "(I)I" } : Jvm.MethodName) prog_18_method_4_code (2 : Nat) (Option.some Jvm.ClassFile.FieldType.int)) ∈ lw_all := lw_g (lw_at lw_m8 29 rfl) rfl
theorem q1837 : (Jvm.Cond.constant "HungFaces$World" (90 : Nat) (1103515245 : Int32)) ∈ lw_all := lw_g (lw_at lw_m8 30 rfl) rfl
theorem q1864 : (Jvm.Cond.instanceMethod ({ cls := "HungFaces$World", name := "all", desc := "()I" } : Jvm.MethodName)) ∈ lw_all := lw_g (lw_at lw_m8 57 rfl) rfl
theorem q1865 : (Jvm.Cond.selects "HungFaces$World" ({ cls := "HungFaces$World", name := "all", desc := "()I" } : Jvm.MethodName) ({ cls := "HungFaces$World", name := "all", desc := "()I" } : Jvm.MethodName)) ∈ lw_all := lw_g (lw_at lw_m8 58 rfl) rfl
theorem q1866 : (Jvm.Cond.code ({ cls := "HungFaces$World", name := "all", desc := "()I" } : Jvm.MethodName) prog_18_method_5_code (1 : Nat) (Option.some Jvm.ClassFile.FieldType.int)) ∈ lw_all := lw_g (lw_at lw_m8 59 rfl) rfl
theorem q1876 : (Jvm.Cond.instanceMethod ({ cls := "HungFaces$World", name := "place", desc := "(II)I" } : Jvm.MethodName)) ∈ lw_all := lw_g (lw_at lw_m8 69 rfl) rfl
theorem q1877 : (Jvm.Cond.selects "HungFaces$World" ({ cls := "HungFaces$World", name := "place", desc := "(II)I" } : Jvm.MethodName) ({ cls := "HungFaces$World", name := "place", desc := "(II)I" } : Jvm.MethodName)) ∈ lw_all := lw_g (lw_at lw_m8 70 rfl) rfl
theorem q1878 : (Jvm.Cond.code ({ cls := "HungFaces$World", name := "place", desc := "(II)I" } : Jvm.MethodName) prog_18_method_21_code (4 : Nat) (Option.some Jvm.ClassFile.FieldType.int)) ∈ lw_all := lw_g (lw_at lw_m8 71 rfl) rfl
theorem q2662 : (Jvm.Cond.castable "HungFaces$World" "java/lang/Object") ∈ lw_tbl := lw_at lw_m11 135 rfl
theorem in_X2 : ∀ w ∈ wsX20, w ∈ lw_all := lw_in wsX20 [235, 237, 239, 241, 243, 245, 247, 249, 251, 253, 255, 257, 259, 261, 263, 265, 267, 269, 271, 273] (by decide +kernel) (by decide +kernel)
theorem q130 : (Jvm.Cond.initialized "java/util/Arrays") ∈ lw_all := lw_g (lw_at lw_m1 3 rfl) rfl
theorem q188 : (Jvm.Cond.static ({ cls := "java/util/Arrays", name := "fill", desc := "([II)V" } : Jvm.MethodName)) ∈ lw_all := lw_g (lw_at lw_m1 61 rfl) rfl
theorem q189 : (Jvm.Cond.code ({ cls := "java/util/Arrays", name := "fill", desc := "([II)V" } : Jvm.MethodName) prog_52_method_103_code (4 : Nat) (Option.none : Option Jvm.ClassFile.FieldType)) ∈ lw_all := lw_g (lw_at lw_m1 62 rfl) rfl
theorem q803 : (Jvm.Cond.static ({ cls := "java/util/Arrays", name := "copyOf", desc := "([BI)[B" } : Jvm.MethodName)) ∈ lw_all := lw_g (lw_at lw_m3 196 rfl) rfl
theorem q804 : (Jvm.Cond.code ({ cls := "java/util/Arrays", name := "copyOf", desc := "([BI)[B" } : Jvm.MethodName) prog_52_method_121_code (3 : Nat) (Option.some (Jvm.ClassFile.FieldType.array Jvm.ClassFile.FieldType.byte))) ∈ lw_all := lw_g (lw_at lw_m3 197 rfl) rfl
theorem q805 : (Jvm.Cond.methodLink "java/util/Arrays" (310 : Nat) ({ cls := "[B", name := "clone", desc := "()Ljava/lang/Object;" } : Jvm.MethodName)) ∈ lw_all := lw_g (lw_at lw_m3 198 rfl) rfl
theorem q811 : (Jvm.Cond.classLink "java/util/Arrays" (311 : Nat) "[B") ∈ lw_all := lw_g (lw_at lw_m3 204 rfl) rfl
theorem q812 : (Jvm.Cond.methodLink "java/util/Arrays" (304 : Nat) ({ cls := "java/lang/Math", name := "min", desc := "(II)I" } : Jvm.MethodName)) ∈ lw_all := lw_g (lw_at lw_m3 205 rfl) rfl
theorem q813 : (Jvm.Cond.methodLink "java/util/Arrays" (150 : Nat) ({ cls := "java/lang/System", name := "arraycopy", desc := "(Ljava/lang/Object;ILjava/lang/Object;II)V" } : Jvm.MethodName)) ∈ lw_all := lw_g (lw_at lw_m3 206 rfl) rfl
theorem q893 : (Jvm.Cond.static ({ cls := "java/util/Arrays", name := "copyOfRange", desc := "([BII)[B" } : Jvm.MethodName)) ∈ lw_all := lw_g (lw_at lw_m4 46 rfl) rfl
theorem q894 : (Jvm.Cond.code ({ cls := "java/util/Arrays", name := "copyOfRange", desc := "([BII)[B" } : Jvm.MethodName) prog_52_method_132_code (3 : Nat) (Option.some (Jvm.ClassFile.FieldType.array Jvm.ClassFile.FieldType.byte))) ∈ lw_all := lw_g (lw_at lw_m4 47 rfl) rfl
theorem q895 : (Jvm.Cond.methodLink "java/util/Arrays" (339 : Nat) ({ cls := "java/util/Arrays", name := "copyOfRangeByte", desc := "([BII)[B" } : Jvm.MethodName)) ∈ lw_all := lw_g (lw_at lw_m4 48 rfl) rfl
theorem q896 : (Jvm.Cond.static ({ cls := "java/util/Arrays", name := "copyOfRangeByte", desc := "([BII)[B" } : Jvm.MethodName)) ∈ lw_all := lw_g (lw_at lw_m4 49 rfl) rfl
theorem q897 : (Jvm.Cond.code ({ cls := "java/util/Arrays", name := "copyOfRangeByte", desc := "([BII)[B" } : Jvm.MethodName) prog_52_method_133_code (5 : Nat) (Option.some (Jvm.ClassFile.FieldType.array Jvm.ClassFile.FieldType.byte))) ∈ lw_all := lw_g (lw_at lw_m4 50 rfl) rfl
theorem q898 : (Jvm.Cond.methodLink "java/util/Arrays" (343 : Nat) ({ cls := "java/util/Arrays", name := "checkLength", desc := "(II)V" } : Jvm.MethodName)) ∈ lw_all := lw_g (lw_at lw_m4 51 rfl) rfl
theorem q899 : (Jvm.Cond.static ({ cls := "java/util/Arrays", name := "checkLength", desc := "(II)V" } : Jvm.MethodName)) ∈ lw_all := lw_g (lw_at lw_m4 52 rfl) rfl
theorem q900 : (Jvm.Cond.code ({ cls := "java/util/Arrays", name := "checkLength", desc := "(II)V" } : Jvm.MethodName) prog_52_method_131_code (2 : Nat) (Option.none : Option Jvm.ClassFile.FieldType)) ∈ lw_all := lw_g (lw_at lw_m4 53 rfl) rfl
theorem q901 : (Jvm.Cond.classLink "java/util/Arrays" (43 : Nat) "java/lang/IllegalArgumentException") ∈ lw_all := lw_g (lw_at lw_m4 54 rfl) rfl
theorem q946 : (Jvm.Cond.classLink "java/util/Arrays" (45 : Nat) "java/lang/StringBuilder") ∈ lw_all := lw_g (lw_at lw_m4 99 rfl) rfl
theorem q947 : (Jvm.Cond.methodLink "java/util/Arrays" (47 : Nat) ({ cls := "java/lang/StringBuilder", name := "<init>", desc := "()V" } : Jvm.MethodName)) ∈ lw_all := lw_g (lw_at lw_m4 100 rfl) rfl
theorem q948 : (Jvm.Cond.methodLink "java/util/Arrays" (54 : Nat) ({ cls := "java/lang/StringBuilder", name := "append", desc := "(I)Ljava/lang/StringBuilder;" } : Jvm.MethodName)) ∈ lw_all := lw_g (lw_at lw_m4 101 rfl) rfl
theorem q982 : (Jvm.Cond.stringRef "java/util/Arrays" (337 : Nat) " > ") ∈ lw_tbl := lw_at lw_m4 135 rfl
theorem q983 : (Jvm.Cond.methodLink "java/util/Arrays" (50 : Nat) ({ cls := "java/lang/StringBuilder", name := "append", desc := "(Ljava/lang/String;)Ljava/lang/StringBuilder;" } : Jvm.MethodName)) ∈ lw_all := lw_g (lw_at lw_m4 136 rfl) rfl
theorem q1021 : (Jvm.Cond.methodLink "java/util/Arrays" (61 : Nat) ({ cls := "java/lang/StringBuilder", name := "toString", desc := "()Ljava/lang/String;" } : Jvm.MethodName)) ∈ lw_all := lw_g (lw_at lw_m4 174 rfl) rfl
theorem q1022 : (Jvm.Cond.methodLink "java/util/Arrays" (65 : Nat) ({ cls := "java/lang/IllegalArgumentException", name := "<init>", desc := "(Ljava/lang/String;)V" } : Jvm.MethodName)) ∈ lw_all := lw_g (lw_at lw_m4 175 rfl) rfl
theorem q1435 : (Jvm.Cond.static ({ cls := "java/util/Arrays", name := "copyOf", desc := "([Ljava/lang/Object;I)[Ljava/lang/Object;" } : Jvm.MethodName)) ∈ lw_all := lw_g (lw_at lw_m6 108 rfl) rfl
theorem q1436 : (Jvm.Cond.code ({ cls := "java/util/Arrays", name := "copyOf", desc := "([Ljava/lang/Object;I)[Ljava/lang/Object;" } : Jvm.MethodName) prog_52_method_119_code (2 : Nat) (Option.some (Jvm.ClassFile.FieldType.array (Jvm.ClassFile.FieldType.object "java/lang/Object")))) ∈ lw_all := lw_g (lw_at lw_m6 109 rfl) rfl
theorem q1437 : (Jvm.Cond.methodLink "java/util/Arrays" (86 : Nat) ({ cls := "java/lang/Object", name := "getClass", desc := "()Ljava/lang/Class;" } : Jvm.MethodName)) ∈ lw_all := lw_g (lw_at lw_m6 110 rfl) rfl
theorem q1470 : (Jvm.Cond.methodLink "java/util/Arrays" (300 : Nat) ({ cls := "java/util/Arrays", name := "copyOf", desc := "([Ljava/lang/Object;ILjava/lang/Class;)[Ljava/lang/Object;" } : Jvm.MethodName)) ∈ lw_all := lw_g (lw_at lw_m6 143 rfl) rfl
theorem q1471 : (Jvm.Cond.static ({ cls := "java/util/Arrays", name := "copyOf", desc := "([Ljava/lang/Object;ILjava/lang/Class;)[Ljava/lang/Object;" } : Jvm.MethodName)) ∈ lw_all := lw_g (lw_at lw_m6 144 rfl) rfl
theorem q1472 : (Jvm.Cond.code ({ cls := "java/util/Arrays", name := "copyOf", desc := "([Ljava/lang/Object;ILjava/lang/Class;)[Ljava/lang/Object;" } : Jvm.MethodName) prog_52_method_120_code (4 : Nat) (Option.some (Jvm.ClassFile.FieldType.array (Jvm.ClassFile.FieldType.object "java/lang/Object")))) ∈ lw_all := lw_g (lw_at lw_m6 145 rfl) rfl
theorem q1473 : (Jvm.Cond.classLink "java/util/Arrays" (110 : Nat) "[Ljava/lang/Object;") ∈ lw_all := lw_g (lw_at lw_m6 146 rfl) rfl
theorem q1475 : (Jvm.Cond.classLink "java/util/Arrays" (2 : Nat) "java/lang/Object") ∈ lw_all := lw_g (lw_at lw_m6 148 rfl) rfl
theorem q131 : (Jvm.Cond.initialized "HungFaces$Reader") ∈ lw_all := lw_g (lw_at lw_m1 4 rfl) rfl
theorem q278 : (Jvm.Cond.instantiable "HungFaces$Reader" (7 : Nat)) ∈ lw_all := lw_g (lw_at lw_m1 151 rfl) rfl
theorem q280 : (Jvm.Cond.instanceMethod ({ cls := "HungFaces$Reader", name := "<init>", desc := "()V" } : Jvm.MethodName)) ∈ lw_all := lw_g (lw_at lw_m1 153 rfl) rfl
theorem q281 : (Jvm.Cond.code ({ cls := "HungFaces$Reader", name := "<init>", desc := "()V" } : Jvm.MethodName) prog_11_method_1_code (1 : Nat) (Option.none : Option Jvm.ClassFile.FieldType)) ∈ lw_all := lw_g (lw_at lw_m1 154 rfl) rfl
theorem q282 : (Jvm.Cond.methodLink "HungFaces$Reader" (3 : Nat) ({ cls := "java/lang/Object", name := "<init>", desc := "()V" } : Jvm.MethodName)) ∈ lw_all := lw_g (lw_at lw_m1 155 rfl) rfl
theorem q283 : (Jvm.Cond.fieldLink "HungFaces$Reader" (9 : Nat) "HungFaces$Reader" "tape" "[B") ∈ lw_all := lw_g (lw_at lw_m1 156 rfl) rfl
theorem q286 : (Jvm.Cond.fieldLink "HungFaces$Reader" (19 : Nat) "HungFaces$Reader" "length" "I") ∈ lw_all := lw_g (lw_at lw_m1 159 rfl) rfl
theorem q288 : (Jvm.Cond.fieldLink "HungFaces$Reader" (22 : Nat) "HungFaces$Reader" "end" "I") ∈ lw_all := lw_g (lw_at lw_m1 161 rfl) rfl
theorem q290 : (Jvm.Cond.fieldLink "HungFaces$Reader" (25 : Nat) "HungFaces$Reader" "at" "I") ∈ lw_all := lw_g (lw_at lw_m1 163 rfl) rfl
theorem q292 : (Jvm.Cond.fieldLink "HungFaces$Reader" (35 : Nat) "HungFaces$Reader" "begin" "I") ∈ lw_all := lw_g (lw_at lw_m1 165 rfl) rfl
theorem q294 : (Jvm.Cond.fieldLink "HungFaces$Reader" (15 : Nat) "HungFaces$Reader" "fault" "I") ∈ lw_all := lw_g (lw_at lw_m1 167 rfl) rfl
theorem q296 : (Jvm.Cond.fieldLink "HungFaces$Reader" (28 : Nat) "HungFaces$Reader" "deep" "I") ∈ lw_all := lw_g (lw_at lw_m1 169 rfl) rfl
theorem q297 : (Jvm.Cond.laysFinal "HungFaces$Reader" "HungFaces$Reader" "tape" "[B") ∈ lw_all := lw_g (lw_at lw_m1 170 rfl) rfl
theorem q298 : (Jvm.Cond.soleField "HungFaces$Reader" "tape") ∈ lw_all := lw_g (lw_at lw_m1 171 rfl) rfl
theorem q299 : (Jvm.Cond.lays "HungFaces$Reader" "HungFaces$Reader" "length" "I") ∈ lw_all := lw_g (lw_at lw_m1 172 rfl) rfl
theorem q300 : (Jvm.Cond.soleField "HungFaces$Reader" "length") ∈ lw_all := lw_g (lw_at lw_m1 173 rfl) rfl
theorem q301 : (Jvm.Cond.lays "HungFaces$Reader" "HungFaces$Reader" "end" "I") ∈ lw_all := lw_g (lw_at lw_m1 174 rfl) rfl
theorem q302 : (Jvm.Cond.soleField "HungFaces$Reader" "end") ∈ lw_all := lw_g (lw_at lw_m1 175 rfl) rfl
theorem q303 : (Jvm.Cond.lays "HungFaces$Reader" "HungFaces$Reader" "at" "I") ∈ lw_all := lw_g (lw_at lw_m1 176 rfl) rfl
theorem q304 : (Jvm.Cond.soleField "HungFaces$Reader" "at") ∈ lw_all := lw_g (lw_at lw_m1 177 rfl) rfl
theorem q305 : (Jvm.Cond.lays "HungFaces$Reader" "HungFaces$Reader" "begin" "I") ∈ lw_all := lw_g (lw_at lw_m1 178 rfl) rfl
theorem q306 : (Jvm.Cond.soleField "HungFaces$Reader" "begin") ∈ lw_all := lw_g (lw_at lw_m1 179 rfl) rfl
theorem q307 : (Jvm.Cond.lays "HungFaces$Reader" "HungFaces$Reader" "fault" "I") ∈ lw_all := lw_g (lw_at lw_m1 180 rfl) rfl
theorem q308 : (Jvm.Cond.soleField "HungFaces$Reader" "fault") ∈ lw_all := lw_g (lw_at lw_m1 181 rfl) rfl
theorem q309 : (Jvm.Cond.lays "HungFaces$Reader" "HungFaces$Reader" "deep" "I") ∈ lw_all := lw_g (lw_at lw_m1 182 rfl) rfl
theorem q310 : (Jvm.Cond.soleField "HungFaces$Reader" "deep") ∈ lw_all := lw_g (lw_at lw_m1 183 rfl) rfl
theorem q311 : (Jvm.Cond.superclass "HungFaces$Reader" "java/lang/Object") ∈ lw_all := lw_g (lw_at lw_m1 184 rfl) rfl
theorem q477 : (Jvm.Cond.instanceMethod ({ cls := "HungFaces$Reader", name := "add", desc := "([I)I" } : Jvm.MethodName)) ∈ lw_all := lw_g (lw_at lw_m2 110 rfl) rfl
theorem q478 : (Jvm.Cond.selects "HungFaces$Reader" ({ cls := "HungFaces$Reader", name := "add", desc := "([I)I" } : Jvm.MethodName) ({ cls := "HungFaces$Reader", name := "add", desc := "([I)I" } : Jvm.MethodName)) ∈ lw_all := lw_g (lw_at lw_m2 111 rfl) rfl
theorem q479 : (Jvm.Cond.code ({ cls := "HungFaces$Reader", name := "add", desc := "([I)I" } : Jvm.MethodName) prog_11_method_2_code (7 : Nat) (Option.some Jvm.ClassFile.FieldType.int)) ∈ lw_all := lw_g (lw_at lw_m2 112 rfl) rfl
theorem q485 : (Jvm.Cond.instanceMethod ({ cls := "HungFaces$Reader", name := "cut", desc := "(I)Z" } : Jvm.MethodName)) ∈ lw_all := lw_g (lw_at lw_m2 118 rfl) rfl
theorem q486 : (Jvm.Cond.selects "HungFaces$Reader" ({ cls := "HungFaces$Reader", name := "cut", desc := "(I)Z" } : Jvm.MethodName) ({ cls := "HungFaces$Reader", name := "cut", desc := "(I)Z" } : Jvm.MethodName)) ∈ lw_all := lw_g (lw_at lw_m2 119 rfl) rfl
theorem q487 : (Jvm.Cond.code ({ cls := "HungFaces$Reader", name := "cut", desc := "(I)Z" } : Jvm.MethodName) prog_11_method_3_code (2 : Nat) (Option.some Jvm.ClassFile.FieldType.boolean)) ∈ lw_all := lw_g (lw_at lw_m2 120 rfl) rfl
theorem q717 : (Jvm.Cond.instanceMethod ({ cls := "HungFaces$Reader", name := "begins", desc := "()V" } : Jvm.MethodName)) ∈ lw_all := lw_g (lw_at lw_m3 110 rfl) rfl
theorem q718 : (Jvm.Cond.selects "HungFaces$Reader" ({ cls := "HungFaces$Reader", name := "begins", desc := "()V" } : Jvm.MethodName) ({ cls := "HungFaces$Reader", name := "begins", desc := "()V" } : Jvm.MethodName)) ∈ lw_all := lw_g (lw_at lw_m3 111 rfl) rfl
theorem q719 : (Jvm.Cond.code ({ cls := "HungFaces$Reader", name := "begins", desc := "()V" } : Jvm.MethodName) prog_11_method_4_code (1 : Nat) (Option.none : Option Jvm.ClassFile.FieldType)) ∈ lw_all := lw_g (lw_at lw_m3 112 rfl) rfl
theorem q725 : (Jvm.Cond.instanceMethod ({ cls := "HungFaces$Reader", name := "isOver", desc := "()Z" } : Jvm.MethodName)) ∈ lw_all := lw_g (lw_at lw_m3 118 rfl) rfl
theorem q726 : (Jvm.Cond.selects "HungFaces$Reader" ({ cls := "HungFaces$Reader", name := "isOver", desc := "()Z" } : Jvm.MethodName) ({ cls := "HungFaces$Reader", name := "isOver", desc := "()Z" } : Jvm.MethodName)) ∈ lw_all := lw_g (lw_at lw_m3 119 rfl) rfl
theorem q727 : (Jvm.Cond.code ({ cls := "HungFaces$Reader", name := "isOver", desc := "()Z" } : Jvm.MethodName) prog_11_method_7_code (1 : Nat) (Option.some Jvm.ClassFile.FieldType.boolean)) ∈ lw_all := lw_g (lw_at lw_m3 120 rfl) rfl
theorem q728 : (Jvm.Cond.methodLink "HungFaces$Reader" (38 : Nat) ({ cls := "HungFaces$Reader", name := "blanks", desc := "()V" } : Jvm.MethodName)) ∈ lw_all := lw_g (lw_at lw_m3 121 rfl) rfl
theorem q729 : (Jvm.Cond.instanceMethod ({ cls := "HungFaces$Reader", name := "blanks", desc := "()V" } : Jvm.MethodName)) ∈ lw_all := lw_g (lw_at lw_m3 122 rfl) rfl
theorem q730 : (Jvm.Cond.selects "HungFaces$Reader" ({ cls := "HungFaces$Reader", name := "blanks", desc := "()V" } : Jvm.MethodName) ({ cls := "HungFaces$Reader", name := "blanks", desc := "()V" } : Jvm.MethodName)) ∈ lw_all := lw_g (lw_at lw_m3 123 rfl) rfl
theorem q731 : (Jvm.Cond.code ({ cls := "HungFaces$Reader", name := "blanks", desc := "()V" } : Jvm.MethodName) prog_11_method_6_code (1 : Nat) (Option.none : Option Jvm.ClassFile.FieldType)) ∈ lw_all := lw_g (lw_at lw_m3 124 rfl) rfl
theorem q732 : (Jvm.Cond.methodLink "HungFaces$Reader" (31 : Nat) ({ cls := "HungFaces$Reader", name := "byteAt", desc := "(I)I" } : Jvm.MethodName)) ∈ lw_all := lw_g (lw_at lw_m3 125 rfl) rfl
theorem q733 : (Jvm.Cond.privateMethod ({ cls := "HungFaces$Reader", name := "byteAt", desc := "(I)I" } : Jvm.MethodName)) ∈ lw_tbl := lw_at lw_m3 126 rfl
theorem q734 : (Jvm.Cond.instanceMethod ({ cls := "HungFaces$Reader", name := "byteAt", desc := "(I)I" } : Jvm.MethodName)) ∈ lw_all := lw_g (lw_at lw_m3 127 rfl) rfl
theorem q735 : (Jvm.Cond.code ({ cls := "HungFaces$Reader", name := "byteAt", desc := "(I)I" } : Jvm.MethodName) prog_11_method_5_code (2 : Nat) (Option.some Jvm.ClassFile.FieldType.int)) ∈ lw_all := lw_g (lw_at lw_m3 128 rfl) rfl
theorem q741 : (Jvm.Cond.instanceMethod ({ cls := "HungFaces$Reader", name := "word", desc := "()Ljava/lang/String;" } : Jvm.MethodName)) ∈ lw_all := lw_g (lw_at lw_m3 134 rfl) rfl
theorem q742 : (Jvm.Cond.selects "HungFaces$Reader" ({ cls := "HungFaces$Reader", name := "word", desc := "()Ljava/lang/String;" } : Jvm.MethodName) ({ cls := "HungFaces$Reader", name := "word", desc := "()Ljava/lang/String;" } : Jvm.MethodName)) ∈ lw_all := lw_g (lw_at lw_m3 135 rfl) rfl
theorem q743 : (Jvm.Cond.code ({ cls := "HungFaces$Reader", name := "word", desc := "()Ljava/lang/String;" } : Jvm.MethodName) prog_11_method_8_code (3 : Nat) (Option.some (Jvm.ClassFile.FieldType.object "java/lang/String"))) ∈ lw_all := lw_g (lw_at lw_m3 136 rfl) rfl
theorem q744 : (Jvm.Cond.methodLinkNest "HungFaces$Reader" (41 : Nat) ({ cls := "HungFaces", name := "in", desc := "(III)Z" } : Jvm.MethodName) "HungFaces") ∈ lw_tbl := lw_at lw_m3 137 rfl
theorem q745 : (Jvm.Cond.classLink "HungFaces$Reader" (45 : Nat) "java/lang/StringBuilder") ∈ lw_all := lw_g (lw_at lw_m3 138 rfl) rfl
theorem q747 : (Jvm.Cond.methodLink "HungFaces$Reader" (47 : Nat) ({ cls := "java/lang/StringBuilder", name := "<init>", desc := "()V" } : Jvm.MethodName)) ∈ lw_all := lw_g (lw_at lw_m3 140 rfl) rfl
theorem q776 : (Jvm.Cond.methodLink "HungFaces$Reader" (48 : Nat) ({ cls := "java/lang/StringBuilder", name := "append", desc := "(C)Ljava/lang/StringBuilder;" } : Jvm.MethodName)) ∈ lw_all := lw_g (lw_at lw_m3 169 rfl) rfl
theorem q865 : (Jvm.Cond.methodLink "HungFaces$Reader" (52 : Nat) ({ cls := "java/lang/StringBuilder", name := "toString", desc := "()Ljava/lang/String;" } : Jvm.MethodName)) ∈ lw_all := lw_g (lw_at lw_m4 18 rfl) rfl
theorem q1074 : (Jvm.Cond.instanceMethod ({ cls := "HungFaces$Reader", name := "wrong", desc := "()LHungFaces$Wrong;" } : Jvm.MethodName)) ∈ lw_all := lw_g (lw_at lw_m4 227 rfl) rfl
theorem q1075 : (Jvm.Cond.selects "HungFaces$Reader" ({ cls := "HungFaces$Reader", name := "wrong", desc := "()LHungFaces$Wrong;" } : Jvm.MethodName) ({ cls := "HungFaces$Reader", name := "wrong", desc := "()LHungFaces$Wrong;" } : Jvm.MethodName)) ∈ lw_all := lw_g (lw_at lw_m4 228 rfl) rfl
theorem q1076 : (Jvm.Cond.code ({ cls := "HungFaces$Reader", name := "wrong", desc := "()LHungFaces$Wrong;" } : Jvm.MethodName) prog_11_method_14_code (1 : Nat) (Option.some (Jvm.ClassFile.FieldType.object "HungFaces$Wrong"))) ∈ lw_all := lw_g (lw_at lw_m4 229 rfl) rfl
theorem q1077 : (Jvm.Cond.classLink "HungFaces$Reader" (73 : Nat) "HungFaces$Wrong") ∈ lw_all := lw_g (lw_at lw_m4 230 rfl) rfl
theorem q1086 : (Jvm.Cond.methodLink "HungFaces$Reader" (75 : Nat) ({ cls := "HungFaces$Wrong", name := "<init>", desc := "()V" } : Jvm.MethodName)) ∈ lw_all := lw_g (lw_at lw_m4 239 rfl) rfl
theorem q1204 : (Jvm.Cond.instanceMethod ({ cls := "HungFaces$Reader", name := "number", desc := "(II)I" } : Jvm.MethodName)) ∈ lw_all := lw_g (lw_at lw_m5 117 rfl) rfl
theorem q1205 : (Jvm.Cond.selects "HungFaces$Reader" ({ cls := "HungFaces$Reader", name := "number", desc := "(II)I" } : Jvm.MethodName) ({ cls := "HungFaces$Reader", name := "number", desc := "(II)I" } : Jvm.MethodName)) ∈ lw_all := lw_g (lw_at lw_m5 118 rfl) rfl
theorem q1206 : (Jvm.Cond.code ({ cls := "HungFaces$Reader", name := "number", desc := "(II)I" } : Jvm.MethodName) prog_11_method_12_code (3 : Nat) (Option.some Jvm.ClassFile.FieldType.int)) ∈ lw_all := lw_g (lw_at lw_m5 119 rfl) rfl
theorem q1207 : (Jvm.Cond.methodLink "HungFaces$Reader" (65 : Nat) ({ cls := "HungFaces$Reader", name := "figures", desc := "(III)I" } : Jvm.MethodName)) ∈ lw_all := lw_g (lw_at lw_m5 120 rfl) rfl
theorem q1208 : (Jvm.Cond.instanceMethod ({ cls := "HungFaces$Reader", name := "figures", desc := "(III)I" } : Jvm.MethodName)) ∈ lw_all := lw_g (lw_at lw_m5 121 rfl) rfl
theorem q1209 : (Jvm.Cond.selects "HungFaces$Reader" ({ cls := "HungFaces$Reader", name := "figures", desc := "(III)I" } : Jvm.MethodName) ({ cls := "HungFaces$Reader", name := "figures", desc := "(III)I" } : Jvm.MethodName)) ∈ lw_all := lw_g (lw_at lw_m5 122 rfl) rfl
theorem q1210 : (Jvm.Cond.code ({ cls := "HungFaces$Reader", name := "figures", desc := "(III)I" } : Jvm.MethodName) prog_11_method_13_code (5 : Nat) (Option.some Jvm.ClassFile.FieldType.int)) ∈ lw_all := lw_g (lw_at lw_m5 123 rfl) rfl
theorem q1211 : (Jvm.Cond.methodLink "HungFaces$Reader" (69 : Nat) ({ cls := "HungFaces$Reader", name := "wrong", desc := "()LHungFaces$Wrong;" } : Jvm.MethodName)) ∈ lw_all := lw_g (lw_at lw_m5 124 rfl) rfl
theorem q1214 : (Jvm.Cond.instanceMethod ({ cls := "HungFaces$Reader", name := "isFigure", desc := "()Z" } : Jvm.MethodName)) ∈ lw_all := lw_g (lw_at lw_m5 127 rfl) rfl
theorem q1215 : (Jvm.Cond.selects "HungFaces$Reader" ({ cls := "HungFaces$Reader", name := "isFigure", desc := "()Z" } : Jvm.MethodName) ({ cls := "HungFaces$Reader", name := "isFigure", desc := "()Z" } : Jvm.MethodName)) ∈ lw_all := lw_g (lw_at lw_m5 128 rfl) rfl
theorem q1216 : (Jvm.Cond.code ({ cls := "HungFaces$Reader", name := "isFigure", desc := "()Z" } : Jvm.MethodName) prog_11_method_11_code (1 : Nat) (Option.some Jvm.ClassFile.FieldType.boolean)) ∈ lw_all := lw_g (lw_at lw_m5 129 rfl) rfl
theorem q1238 : (Jvm.Cond.instanceMethod ({ cls := "HungFaces$Reader", name := "sign", desc := "(I)Z" } : Jvm.MethodName)) ∈ lw_all := lw_g (lw_at lw_m5 151 rfl) rfl
theorem q1239 : (Jvm.Cond.selects "HungFaces$Reader" ({ cls := "HungFaces$Reader", name := "sign", desc := "(I)Z" } : Jvm.MethodName) ({ cls := "HungFaces$Reader", name := "sign", desc := "(I)Z" } : Jvm.MethodName)) ∈ lw_all := lw_g (lw_at lw_m5 152 rfl) rfl
theorem q1240 : (Jvm.Cond.code ({ cls := "HungFaces$Reader", name := "sign", desc := "(I)Z" } : Jvm.MethodName) prog_11_method_10_code (2 : Nat) (Option.some Jvm.ClassFile.FieldType.boolean)) ∈ lw_all := lw_g (lw_at lw_m5 153 rfl) rfl
theorem q1305 : (Jvm.Cond.instanceMethod ({ cls := "HungFaces$Reader", name := "passes", desc := "(Ljava/lang/String;)Z" } : Jvm.MethodName)) ∈ lw_all := lw_g (lw_at lw_m5 218 rfl) rfl
theorem q1306 : (Jvm.Cond.selects "HungFaces$Reader" ({ cls := "HungFaces$Reader", name := "passes", desc := "(Ljava/lang/String;)Z" } : Jvm.MethodName) ({ cls := "HungFaces$Reader", name := "passes", desc := "(Ljava/lang/String;)Z" } : Jvm.MethodName)) ∈ lw_all := lw_g (lw_at lw_m5 219 rfl) rfl
theorem q1307 : (Jvm.Cond.code ({ cls := "HungFaces$Reader", name := "passes", desc := "(Ljava/lang/String;)Z" } : Jvm.MethodName) prog_11_method_9_code (2 : Nat) (Option.some Jvm.ClassFile.FieldType.boolean)) ∈ lw_all := lw_g (lw_at lw_m5 220 rfl) rfl
theorem q1308 : (Jvm.Cond.methodLink "HungFaces$Reader" (56 : Nat) ({ cls := "HungFaces$Reader", name := "word", desc := "()Ljava/lang/String;" } : Jvm.MethodName)) ∈ lw_all := lw_g (lw_at lw_m5 221 rfl) rfl
theorem q1309 : (Jvm.Cond.methodLink "HungFaces$Reader" (59 : Nat) ({ cls := "java/lang/String", name := "equals", desc := "(Ljava/lang/Object;)Z" } : Jvm.MethodName)) ∈ lw_all := lw_g (lw_at lw_m5 222 rfl) rfl
theorem q1339 : (Jvm.Cond.instanceMethod ({ cls := "HungFaces$Reader", name := "goesDeeper", desc := "()V" } : Jvm.MethodName)) ∈ lw_all := lw_g (lw_at lw_m6 12 rfl) rfl
theorem q1340 : (Jvm.Cond.selects "HungFaces$Reader" ({ cls := "HungFaces$Reader", name := "goesDeeper", desc := "()V" } : Jvm.MethodName) ({ cls := "HungFaces$Reader", name := "goesDeeper", desc := "()V" } : Jvm.MethodName)) ∈ lw_all := lw_g (lw_at lw_m6 13 rfl) rfl
theorem q1341 : (Jvm.Cond.code ({ cls := "HungFaces$Reader", name := "goesDeeper", desc := "()V" } : Jvm.MethodName) prog_11_method_15_code (1 : Nat) (Option.none : Option Jvm.ClassFile.FieldType)) ∈ lw_all := lw_g (lw_at lw_m6 14 rfl) rfl
theorem q1343 : (Jvm.Cond.instanceMethod ({ cls := "HungFaces$Reader", name := "comesUp", desc := "()V" } : Jvm.MethodName)) ∈ lw_all := lw_g (lw_at lw_m6 16 rfl) rfl
theorem q1344 : (Jvm.Cond.selects "HungFaces$Reader" ({ cls := "HungFaces$Reader", name := "comesUp", desc := "()V" } : Jvm.MethodName) ({ cls := "HungFaces$Reader", name := "comesUp", desc := "()V" } : Jvm.MethodName)) ∈ lw_all := lw_g (lw_at lw_m6 17 rfl) rfl
theorem q1345 : (Jvm.Cond.code ({ cls := "HungFaces$Reader", name := "comesUp", desc := "()V" } : Jvm.MethodName) prog_11_method_16_code (1 : Nat) (Option.none : Option Jvm.ClassFile.FieldType)) ∈ lw_all := lw_g (lw_at lw_m6 18 rfl) rfl
theorem q1449 : (Jvm.Cond.selects "HungFaces$Reader" ({ cls := "java/lang/Object", name := "getClass", desc := "()Ljava/lang/Class;" } : Jvm.MethodName) ({ cls := "java/lang/Object", name := "getClass", desc := "()Ljava/lang/Class;" } : Jvm.MethodName)) ∈ lw_all := lw_g (lw_at lw_m6 122 rfl) rfl
theorem q2663 : (Jvm.Cond.castable "HungFaces$Reader" "java/lang/Object") ∈ lw_tbl := lw_at lw_m11 136 rfl
theorem in_X3 : ∀ w ∈ wsX30, w ∈ lw_all := lw_in wsX30 [297, 299, 301, 303, 305, 307, 309] (by decide +kernel) (by decide +kernel)
theorem q132 : (Jvm.Cond.initialized "HungFaces$Scene") ∈ lw_all := lw_g (lw_at lw_m1 5 rfl) rfl
theorem q314 : (Jvm.Cond.instantiable "HungFaces$Scene" (8 : Nat)) ∈ lw_all := lw_g (lw_at lw_m1 187 rfl) rfl
theorem q316 : (Jvm.Cond.instanceMethod ({ cls := "HungFaces$Scene", name := "<init>", desc := "()V" } : Jvm.MethodName)) ∈ lw_all := lw_g (lw_at lw_m1 189 rfl) rfl
theorem q317 : (Jvm.Cond.code ({ cls := "HungFaces$Scene", name := "<init>", desc := "()V" } : Jvm.MethodName) prog_13_method_1_code (1 : Nat) (Option.none : Option Jvm.ClassFile.FieldType)) ∈ lw_all := lw_g (lw_at lw_m1 190 rfl) rfl
theorem q318 : (Jvm.Cond.methodLink "HungFaces$Scene" (1 : Nat) ({ cls := "java/lang/Object", name := "<init>", desc := "()V" } : Jvm.MethodName)) ∈ lw_all := lw_g (lw_at lw_m1 191 rfl) rfl
theorem q319 : (Jvm.Cond.fieldLink "HungFaces$Scene" (13 : Nat) "HungFaces$Scene" "who" "I") ∈ lw_all := lw_g (lw_at lw_m1 192 rfl) rfl
theorem q321 : (Jvm.Cond.fieldLink "HungFaces$Scene" (19 : Nat) "HungFaces$Scene" "hour" "I") ∈ lw_all := lw_g (lw_at lw_m1 194 rfl) rfl
theorem q323 : (Jvm.Cond.fieldLink "HungFaces$Scene" (22 : Nat) "HungFaces$Scene" "hook" "I") ∈ lw_all := lw_g (lw_at lw_m1 196 rfl) rfl
theorem q325 : (Jvm.Cond.fieldLink "HungFaces$Scene" (25 : Nat) "HungFaces$Scene" "marks" "I") ∈ lw_all := lw_g (lw_at lw_m1 198 rfl) rfl
theorem q327 : (Jvm.Cond.fieldLink "HungFaces$Scene" (28 : Nat) "HungFaces$Scene" "hung" "I") ∈ lw_all := lw_g (lw_at lw_m1 200 rfl) rfl
theorem q329 : (Jvm.Cond.fieldLink "HungFaces$Scene" (31 : Nat) "HungFaces$Scene" "free" "I") ∈ lw_all := lw_g (lw_at lw_m1 202 rfl) rfl
theorem q335 : (Jvm.Cond.lays "HungFaces$Scene" "HungFaces$Scene" "who" "I") ∈ lw_all := lw_g (lw_at lw_m1 208 rfl) rfl
theorem q336 : (Jvm.Cond.soleField "HungFaces$Scene" "who") ∈ lw_all := lw_g (lw_at lw_m1 209 rfl) rfl
theorem q337 : (Jvm.Cond.lays "HungFaces$Scene" "HungFaces$Scene" "hour" "I") ∈ lw_all := lw_g (lw_at lw_m1 210 rfl) rfl
theorem q338 : (Jvm.Cond.soleField "HungFaces$Scene" "hour") ∈ lw_all := lw_g (lw_at lw_m1 211 rfl) rfl
theorem q339 : (Jvm.Cond.lays "HungFaces$Scene" "HungFaces$Scene" "hook" "I") ∈ lw_all := lw_g (lw_at lw_m1 212 rfl) rfl
theorem q340 : (Jvm.Cond.soleField "HungFaces$Scene" "hook") ∈ lw_all := lw_g (lw_at lw_m1 213 rfl) rfl
theorem q341 : (Jvm.Cond.lays "HungFaces$Scene" "HungFaces$Scene" "marks" "I") ∈ lw_all := lw_g (lw_at lw_m1 214 rfl) rfl
theorem q342 : (Jvm.Cond.soleField "HungFaces$Scene" "marks") ∈ lw_all := lw_g (lw_at lw_m1 215 rfl) rfl
theorem q343 : (Jvm.Cond.lays "HungFaces$Scene" "HungFaces$Scene" "hung" "I") ∈ lw_all := lw_g (lw_at lw_m1 216 rfl) rfl
theorem q344 : (Jvm.Cond.soleField "HungFaces$Scene" "hung") ∈ lw_all := lw_g (lw_at lw_m1 217 rfl) rfl
theorem q345 : (Jvm.Cond.lays "HungFaces$Scene" "HungFaces$Scene" "free" "I") ∈ lw_all := lw_g (lw_at lw_m1 218 rfl) rfl
theorem q346 : (Jvm.Cond.soleField "HungFaces$Scene" "free") ∈ lw_all := lw_g (lw_at lw_m1 219 rfl) rfl
theorem q347 : (Jvm.Cond.lays "HungFaces$Scene" "HungFaces$Scene" "own" "Z") ∈ lw_all := lw_g (lw_at lw_m1 220 rfl) rfl
theorem q348 : (Jvm.Cond.soleField "HungFaces$Scene" "own") ∈ lw_all := lw_g (lw_at lw_m1 221 rfl) rfl
theorem q349 : (Jvm.Cond.lays "HungFaces$Scene" "HungFaces$Scene" "wed" "Z") ∈ lw_all := lw_g (lw_at lw_m1 222 rfl) rfl
theorem q350 : (Jvm.Cond.soleField "HungFaces$Scene" "wed") ∈ lw_all := lw_g (lw_at lw_m1 223 rfl) rfl
theorem q351 : (Jvm.Cond.superclass "HungFaces$Scene" "java/lang/Object") ∈ lw_all := lw_g (lw_at lw_m1 224 rfl) rfl
theorem q1451 : (Jvm.Cond.selects "HungFaces$Scene" ({ cls := "java/lang/Object", name := "getClass", desc := "()Ljava/lang/Class;" } : Jvm.MethodName) ({ cls := "java/lang/Object", name := "getClass", desc := "()Ljava/lang/Class;" } : Jvm.MethodName)) ∈ lw_all := lw_g (lw_at lw_m6 124 rfl) rfl
theorem q1799 : (Jvm.Cond.instanceMethod ({ cls := "HungFaces$Scene", name := "of", desc := "(LHungFaces$Fact;)I" } : Jvm.MethodName)) ∈ lw_all := lw_g (lw_at lw_m7 232 rfl) rfl
theorem q1800 : (Jvm.Cond.selects "HungFaces$Scene" ({ cls := "HungFaces$Scene", name := "of", desc := "(LHungFaces$Fact;)I" } : Jvm.MethodName) ({ cls := "HungFaces$Scene", name := "of", desc := "(LHungFaces$Fact;)I" } : Jvm.MethodName)) ∈ lw_all := lw_g (lw_at lw_m7 233 rfl) rfl
theorem q1801 : (Jvm.Cond.code ({ cls := "HungFaces$Scene", name := "of", desc := "(LHungFaces$Fact;)I" } : Jvm.MethodName) prog_13_method_2_code (2 : Nat) (Option.some Jvm.ClassFile.FieldType.int)) ∈ lw_all := lw_g (lw_at lw_m7 234 rfl) rfl
theorem q1802 : (Jvm.Cond.methodLink "HungFaces$Scene" (7 : Nat) ({ cls := "HungFaces$Fact", name := "ordinal", desc := "()I" } : Jvm.MethodName)) ∈ lw_all := lw_g (lw_at lw_m7 235 rfl) rfl
theorem q2664 : (Jvm.Cond.castable "HungFaces$Scene" "java/lang/Object") ∈ lw_tbl := lw_at lw_m11 137 rfl
theorem in_X4 : ∀ w ∈ wsX40, w ∈ lw_all := lw_in wsX40 [335, 337, 339, 341, 343, 345, 347, 349] (by decide +kernel) (by decide +kernel)
theorem q133 : (Jvm.Cond.initialized "java/util/AbstractCollection") ∈ lw_all := lw_g (lw_at lw_m1 6 rfl) rfl
theorem q361 : (Jvm.Cond.instanceMethod ({ cls := "java/util/AbstractCollection", name := "<init>", desc := "()V" } : Jvm.MethodName)) ∈ lw_all := lw_g (lw_at lw_m1 234 rfl) rfl
theorem q362 : (Jvm.Cond.code ({ cls := "java/util/AbstractCollection", name := "<init>", desc := "()V" } : Jvm.MethodName) prog_49_method_1_code (1 : Nat) (Option.none : Option Jvm.ClassFile.FieldType)) ∈ lw_all := lw_g (lw_at lw_m1 235 rfl) rfl
theorem q363 : (Jvm.Cond.methodLink "java/util/AbstractCollection" (1 : Nat) ({ cls := "java/lang/Object", name := "<init>", desc := "()V" } : Jvm.MethodName)) ∈ lw_all := lw_g (lw_at lw_m1 236 rfl) rfl
theorem q134 : (Jvm.Cond.initialized "java/util/AbstractList") ∈ lw_all := lw_g (lw_at lw_m1 7 rfl) rfl
theorem q358 : (Jvm.Cond.instanceMethod ({ cls := "java/util/AbstractList", name := "<init>", desc := "()V" } : Jvm.MethodName)) ∈ lw_all := lw_g (lw_at lw_m1 231 rfl) rfl
theorem q359 : (Jvm.Cond.code ({ cls := "java/util/AbstractList", name := "<init>", desc := "()V" } : Jvm.MethodName) prog_50_method_1_code (1 : Nat) (Option.none : Option Jvm.ClassFile.FieldType)) ∈ lw_all := lw_g (lw_at lw_m1 232 rfl) rfl
theorem q360 : (Jvm.Cond.methodLink "java/util/AbstractList" (1 : Nat) ({ cls := "java/util/AbstractCollection", name := "<init>", desc := "()V" } : Jvm.MethodName)) ∈ lw_all := lw_g (lw_at lw_m1 233 rfl) rfl
theorem q368 : (Jvm.Cond.fieldLink "java/util/AbstractList" (7 : Nat) "java/util/AbstractList" "modCount" "I") ∈ lw_all := lw_g (lw_at lw_m2 1 rfl) rfl
theorem q376 : (Jvm.Cond.soleField "java/util/AbstractList" "modCount") ∈ lw_all := lw_g (lw_at lw_m2 9 rfl) rfl
theorem q135 : (Jvm.Cond.initialized "java/util/ArrayList") ∈ lw_all := lw_g (lw_at lw_m1 8 rfl) rfl
theorem q353 : (Jvm.Cond.instantiable "java/util/ArrayList" (3 : Nat)) ∈ lw_all := lw_g (lw_at lw_m1 226 rfl) rfl
theorem q355 : (Jvm.Cond.instanceMethod ({ cls := "java/util/ArrayList", name := "<init>", desc := "()V" } : Jvm.MethodName)) ∈ lw_all := lw_g (lw_at lw_m1 228 rfl) rfl
theorem q356 : (Jvm.Cond.code ({ cls := "java/util/ArrayList", name := "<init>", desc := "()V" } : Jvm.MethodName) prog_51_method_2_code (1 : Nat) (Option.none : Option Jvm.ClassFile.FieldType)) ∈ lw_all := lw_g (lw_at lw_m1 229 rfl) rfl
theorem q357 : (Jvm.Cond.methodLink "java/util/ArrayList" (1 : Nat) ({ cls := "java/util/AbstractList", name := "<init>", desc := "()V" } : Jvm.MethodName)) ∈ lw_all := lw_g (lw_at lw_m1 230 rfl) rfl
theorem q364 : (Jvm.Cond.fieldLink "java/util/ArrayList" (39 : Nat) "java/util/ArrayList" "DEFAULTCAPACITY_EMPTY_ELEMENTDATA" "[Ljava/lang/Object;") ∈ lw_all := lw_g (lw_at lw_m1 237 rfl) rfl
theorem q365 : (Jvm.Cond.laysStatic "java/util/ArrayList" "DEFAULTCAPACITY_EMPTY_ELEMENTDATA" "[Ljava/lang/Object;") ∈ lw_tbl := lw_at lw_m1 238 rfl
theorem q366 : (Jvm.Cond.fieldLink "java/util/ArrayList" (9 : Nat) "java/util/ArrayList" "elementData" "[Ljava/lang/Object;") ∈ lw_all := lw_g (lw_at lw_m1 239 rfl) rfl
theorem q367 : (Jvm.Cond.fieldLink "java/util/ArrayList" (48 : Nat) "java/util/ArrayList" "size" "I") ∈ lw_all := lw_g (lw_at lw_m2 0 rfl) rfl
theorem q369 : (Jvm.Cond.fieldLink "java/util/ArrayList" (63 : Nat) "java/util/ArrayList" "modCount" "I") ∈ lw_all := lw_g (lw_at lw_m2 2 rfl) rfl
theorem q370 : (Jvm.Cond.sameField "java/util/ArrayList" "java/util/AbstractList" "modCount" "I") ∈ lw_all := lw_g (lw_at lw_m2 3 rfl) rfl
theorem q371 : (Jvm.Cond.lays "java/util/ArrayList" "java/util/ArrayList" "elementData" "[Ljava/lang/Object;") ∈ lw_all := lw_g (lw_at lw_m2 4 rfl) rfl
theorem q372 : (Jvm.Cond.soleField "java/util/ArrayList" "elementData") ∈ lw_all := lw_g (lw_at lw_m2 5 rfl) rfl
theorem q373 : (Jvm.Cond.lays "java/util/ArrayList" "java/util/ArrayList" "size" "I") ∈ lw_all := lw_g (lw_at lw_m2 6 rfl) rfl
theorem q374 : (Jvm.Cond.soleField "java/util/ArrayList" "size") ∈ lw_all := lw_g (lw_at lw_m2 7 rfl) rfl
theorem q375 : (Jvm.Cond.lays "java/util/ArrayList" "java/util/AbstractList" "modCount" "I") ∈ lw_all := lw_g (lw_at lw_m2 8 rfl) rfl
theorem q377 : (Jvm.Cond.superclass "java/util/ArrayList" "java/util/AbstractList") ∈ lw_all := lw_g (lw_at lw_m2 10 rfl) rfl
theorem q649 : (Jvm.Cond.instanceMethod ({ cls := "java/util/ArrayList", name := "isEmpty", desc := "()Z" } : Jvm.MethodName)) ∈ lw_all := lw_g (lw_at lw_m3 42 rfl) rfl
theorem q650 : (Jvm.Cond.selects "java/util/ArrayList" ({ cls := "java/util/ArrayList", name := "isEmpty", desc := "()Z" } : Jvm.MethodName) ({ cls := "java/util/ArrayList", name := "isEmpty", desc := "()Z" } : Jvm.MethodName)) ∈ lw_all := lw_g (lw_at lw_m3 43 rfl) rfl
theorem q651 : (Jvm.Cond.code ({ cls := "java/util/ArrayList", name := "isEmpty", desc := "()Z" } : Jvm.MethodName) prog_51_method_9_code (1 : Nat) (Option.some Jvm.ClassFile.FieldType.boolean)) ∈ lw_all := lw_g (lw_at lw_m3 44 rfl) rfl
theorem q653 : (Jvm.Cond.instanceMethod ({ cls := "java/util/ArrayList", name := "size", desc := "()I" } : Jvm.MethodName)) ∈ lw_all := lw_g (lw_at lw_m3 46 rfl) rfl
theorem q654 : (Jvm.Cond.selects "java/util/ArrayList" ({ cls := "java/util/ArrayList", name := "size", desc := "()I" } : Jvm.MethodName) ({ cls := "java/util/ArrayList", name := "size", desc := "()I" } : Jvm.MethodName)) ∈ lw_all := lw_g (lw_at lw_m3 47 rfl) rfl
theorem q655 : (Jvm.Cond.code ({ cls := "java/util/ArrayList", name := "size", desc := "()I" } : Jvm.MethodName) prog_51_method_8_code (1 : Nat) (Option.some Jvm.ClassFile.FieldType.int)) ∈ lw_all := lw_g (lw_at lw_m3 48 rfl) rfl
theorem q657 : (Jvm.Cond.instanceMethod ({ cls := "java/util/ArrayList", name := "remove", desc := "(I)Ljava/lang/Object;" } : Jvm.MethodName)) ∈ lw_all := lw_g (lw_at lw_m3 50 rfl) rfl
theorem q658 : (Jvm.Cond.selects "java/util/ArrayList" ({ cls := "java/util/ArrayList", name := "remove", desc := "(I)Ljava/lang/Object;" } : Jvm.MethodName) ({ cls := "java/util/ArrayList", name := "remove", desc := "(I)Ljava/lang/Object;" } : Jvm.MethodName)) ∈ lw_all := lw_g (lw_at lw_m3 51 rfl) rfl
theorem q659 : (Jvm.Cond.code ({ cls := "java/util/ArrayList", name := "remove", desc := "(I)Ljava/lang/Object;" } : Jvm.MethodName) prog_51_method_29_code (4 : Nat) (Option.some (Jvm.ClassFile.FieldType.object "java/lang/Object"))) ∈ lw_all := lw_g (lw_at lw_m3 52 rfl) rfl
theorem q660 : (Jvm.Cond.methodLink "java/util/ArrayList" (118 : Nat) ({ cls := "java/util/Objects", name := "checkIndex", desc := "(II)I" } : Jvm.MethodName)) ∈ lw_all := lw_g (lw_at lw_m3 53 rfl) rfl
theorem q666 : (Jvm.Cond.methodLink "java/util/ArrayList" (144 : Nat) ({ cls := "java/util/ArrayList", name := "fastRemove", desc := "([Ljava/lang/Object;I)V" } : Jvm.MethodName)) ∈ lw_all := lw_g (lw_at lw_m3 59 rfl) rfl
theorem q667 : (Jvm.Cond.privateMethod ({ cls := "java/util/ArrayList", name := "fastRemove", desc := "([Ljava/lang/Object;I)V" } : Jvm.MethodName)) ∈ lw_tbl := lw_at lw_m3 60 rfl
theorem q668 : (Jvm.Cond.instanceMethod ({ cls := "java/util/ArrayList", name := "fastRemove", desc := "([Ljava/lang/Object;I)V" } : Jvm.MethodName)) ∈ lw_all := lw_g (lw_at lw_m3 61 rfl) rfl
theorem q669 : (Jvm.Cond.code ({ cls := "java/util/ArrayList", name := "fastRemove", desc := "([Ljava/lang/Object;I)V" } : Jvm.MethodName) prog_51_method_39_code (4 : Nat) (Option.none : Option Jvm.ClassFile.FieldType)) ∈ lw_all := lw_g (lw_at lw_m3 62 rfl) rfl
theorem q670 : (Jvm.Cond.methodLink "java/util/ArrayList" (112 : Nat) ({ cls := "java/lang/System", name := "arraycopy", desc := "(Ljava/lang/Object;ILjava/lang/Object;II)V" } : Jvm.MethodName)) ∈ lw_all := lw_g (lw_at lw_m3 63 rfl) rfl
theorem q690 : (Jvm.Cond.instanceMethod ({ cls := "java/util/ArrayList", name := "clear", desc := "()V" } : Jvm.MethodName)) ∈ lw_all := lw_g (lw_at lw_m3 83 rfl) rfl
theorem q691 : (Jvm.Cond.selects "java/util/ArrayList" ({ cls := "java/util/ArrayList", name := "clear", desc := "()V" } : Jvm.MethodName) ({ cls := "java/util/ArrayList", name := "clear", desc := "()V" } : Jvm.MethodName)) ∈ lw_all := lw_g (lw_at lw_m3 84 rfl) rfl
theorem q692 : (Jvm.Cond.code ({ cls := "java/util/ArrayList", name := "clear", desc := "()V" } : Jvm.MethodName) prog_51_method_40_code (4 : Nat) (Option.none : Option Jvm.ClassFile.FieldType)) ∈ lw_all := lw_g (lw_at lw_m3 85 rfl) rfl
theorem q1418 : (Jvm.Cond.instanceMethod ({ cls := "java/util/ArrayList", name := "add", desc := "(Ljava/lang/Object;)Z" } : Jvm.MethodName)) ∈ lw_all := lw_g (lw_at lw_m6 91 rfl) rfl
theorem q1419 : (Jvm.Cond.selects "java/util/ArrayList" ({ cls := "java/util/ArrayList", name := "add", desc := "(Ljava/lang/Object;)Z" } : Jvm.MethodName) ({ cls := "java/util/ArrayList", name := "add", desc := "(Ljava/lang/Object;)Z" } : Jvm.MethodName)) ∈ lw_all := lw_g (lw_at lw_m6 92 rfl) rfl
theorem q1420 : (Jvm.Cond.code ({ cls := "java/util/ArrayList", name := "add", desc := "(Ljava/lang/Object;)Z" } : Jvm.MethodName) prog_51_method_25_code (2 : Nat) (Option.some Jvm.ClassFile.FieldType.boolean)) ∈ lw_all := lw_g (lw_at lw_m6 93 rfl) rfl
theorem q1421 : (Jvm.Cond.methodLink "java/util/ArrayList" (131 : Nat) ({ cls := "java/util/ArrayList", name := "add", desc := "(Ljava/lang/Object;[Ljava/lang/Object;I)V" } : Jvm.MethodName)) ∈ lw_all := lw_g (lw_at lw_m6 94 rfl) rfl
theorem q1422 : (Jvm.Cond.privateMethod ({ cls := "java/util/ArrayList", name := "add", desc := "(Ljava/lang/Object;[Ljava/lang/Object;I)V" } : Jvm.MethodName)) ∈ lw_tbl := lw_at lw_m6 95 rfl
theorem q1423 : (Jvm.Cond.instanceMethod ({ cls := "java/util/ArrayList", name := "add", desc := "(Ljava/lang/Object;[Ljava/lang/Object;I)V" } : Jvm.MethodName)) ∈ lw_all := lw_g (lw_at lw_m6 96 rfl) rfl
theorem q1424 : (Jvm.Cond.code ({ cls := "java/util/ArrayList", name := "add", desc := "(Ljava/lang/Object;[Ljava/lang/Object;I)V" } : Jvm.MethodName) prog_51_method_24_code (4 : Nat) (Option.none : Option Jvm.ClassFile.FieldType)) ∈ lw_all := lw_g (lw_at lw_m6 97 rfl) rfl
theorem q1425 : (Jvm.Cond.methodLink "java/util/ArrayList" (129 : Nat) ({ cls := "java/util/ArrayList", name := "grow", desc := "()[Ljava/lang/Object;" } : Jvm.MethodName)) ∈ lw_all := lw_g (lw_at lw_m6 98 rfl) rfl
theorem q1426 : (Jvm.Cond.privateMethod ({ cls := "java/util/ArrayList", name := "grow", desc := "()[Ljava/lang/Object;" } : Jvm.MethodName)) ∈ lw_tbl := lw_at lw_m6 99 rfl
theorem q1427 : (Jvm.Cond.instanceMethod ({ cls := "java/util/ArrayList", name := "grow", desc := "()[Ljava/lang/Object;" } : Jvm.MethodName)) ∈ lw_all := lw_g (lw_at lw_m6 100 rfl) rfl
theorem q1428 : (Jvm.Cond.code ({ cls := "java/util/ArrayList", name := "grow", desc := "()[Ljava/lang/Object;" } : Jvm.MethodName) prog_51_method_7_code (1 : Nat) (Option.some (Jvm.ClassFile.FieldType.array (Jvm.ClassFile.FieldType.object "java/lang/Object")))) ∈ lw_all := lw_g (lw_at lw_m6 101 rfl) rfl
theorem q1429 : (Jvm.Cond.methodLink "java/util/ArrayList" (69 : Nat) ({ cls := "java/util/ArrayList", name := "grow", desc := "(I)[Ljava/lang/Object;" } : Jvm.MethodName)) ∈ lw_all := lw_g (lw_at lw_m6 102 rfl) rfl
theorem q1430 : (Jvm.Cond.privateMethod ({ cls := "java/util/ArrayList", name := "grow", desc := "(I)[Ljava/lang/Object;" } : Jvm.MethodName)) ∈ lw_tbl := lw_at lw_m6 103 rfl
theorem q1431 : (Jvm.Cond.instanceMethod ({ cls := "java/util/ArrayList", name := "grow", desc := "(I)[Ljava/lang/Object;" } : Jvm.MethodName)) ∈ lw_all := lw_g (lw_at lw_m6 104 rfl) rfl
theorem q1432 : (Jvm.Cond.code ({ cls := "java/util/ArrayList", name := "grow", desc := "(I)[Ljava/lang/Object;" } : Jvm.MethodName) prog_51_method_6_code (4 : Nat) (Option.some (Jvm.ClassFile.FieldType.array (Jvm.ClassFile.FieldType.object "java/lang/Object")))) ∈ lw_all := lw_g (lw_at lw_m6 105 rfl) rfl
theorem q1433 : (Jvm.Cond.methodLink "java/util/ArrayList" (73 : Nat) ({ cls := "jdk/internal/util/ArraysSupport", name := "newLength", desc := "(III)I" } : Jvm.MethodName)) ∈ lw_all := lw_g (lw_at lw_m6 106 rfl) rfl
theorem q1434 : (Jvm.Cond.methodLink "java/util/ArrayList" (66 : Nat) ({ cls := "java/util/Arrays", name := "copyOf", desc := "([Ljava/lang/Object;I)[Ljava/lang/Object;" } : Jvm.MethodName)) ∈ lw_all := lw_g (lw_at lw_m6 107 rfl) rfl
theorem q1467 : (Jvm.Cond.selects "java/util/ArrayList" ({ cls := "java/lang/Object", name := "getClass", desc := "()Ljava/lang/Class;" } : Jvm.MethodName) ({ cls := "java/lang/Object", name := "getClass", desc := "()Ljava/lang/Class;" } : Jvm.MethodName)) ∈ lw_all := lw_g (lw_at lw_m6 140 rfl) rfl
theorem q1476 : (Jvm.Cond.methodLink "java/util/ArrayList" (79 : Nat) ({ cls := "java/lang/Math", name := "max", desc := "(II)I" } : Jvm.MethodName)) ∈ lw_all := lw_g (lw_at lw_m6 149 rfl) rfl
theorem q1477 : (Jvm.Cond.classLink "java/util/ArrayList" (7 : Nat) "java/lang/Object") ∈ lw_all := lw_g (lw_at lw_m6 150 rfl) rfl
theorem q1769 : (Jvm.Cond.instanceMethod ({ cls := "java/util/ArrayList", name := "get", desc := "(I)Ljava/lang/Object;" } : Jvm.MethodName)) ∈ lw_all := lw_g (lw_at lw_m7 202 rfl) rfl
theorem q1770 : (Jvm.Cond.selects "java/util/ArrayList" ({ cls := "java/util/ArrayList", name := "get", desc := "(I)Ljava/lang/Object;" } : Jvm.MethodName) ({ cls := "java/util/ArrayList", name := "get", desc := "(I)Ljava/lang/Object;" } : Jvm.MethodName)) ∈ lw_all := lw_g (lw_at lw_m7 203 rfl) rfl
theorem q1771 : (Jvm.Cond.code ({ cls := "java/util/ArrayList", name := "get", desc := "(I)Ljava/lang/Object;" } : Jvm.MethodName) prog_51_method_20_code (2 : Nat) (Option.some (Jvm.ClassFile.FieldType.object "java/lang/Object"))) ∈ lw_all := lw_g (lw_at lw_m7 204 rfl) rfl
theorem q1772 : (Jvm.Cond.methodLink "java/util/ArrayList" (123 : Nat) ({ cls := "java/util/ArrayList", name := "elementData", desc := "(I)Ljava/lang/Object;" } : Jvm.MethodName)) ∈ lw_all := lw_g (lw_at lw_m7 205 rfl) rfl
theorem q1773 : (Jvm.Cond.instanceMethod ({ cls := "java/util/ArrayList", name := "elementData", desc := "(I)Ljava/lang/Object;" } : Jvm.MethodName)) ∈ lw_all := lw_g (lw_at lw_m7 206 rfl) rfl
theorem q1774 : (Jvm.Cond.selects "java/util/ArrayList" ({ cls := "java/util/ArrayList", name := "elementData", desc := "(I)Ljava/lang/Object;" } : Jvm.MethodName) ({ cls := "java/util/ArrayList", name := "elementData", desc := "(I)Ljava/lang/Object;" } : Jvm.MethodName)) ∈ lw_all := lw_g (lw_at lw_m7 207 rfl) rfl
theorem q1775 : (Jvm.Cond.code ({ cls := "java/util/ArrayList", name := "elementData", desc := "(I)Ljava/lang/Object;" } : Jvm.MethodName) prog_51_method_18_code (2 : Nat) (Option.some (Jvm.ClassFile.FieldType.object "java/lang/Object"))) ∈ lw_all := lw_g (lw_at lw_m7 208 rfl) rfl
theorem q2665 : (Jvm.Cond.castable "java/util/ArrayList" "java/lang/Object") ∈ lw_tbl := lw_at lw_m11 138 rfl
theorem in_J3 : ∀ w ∈ wsJ30, w ∈ lw_all := lw_in wsJ30 [375, 371, 373] (by decide +kernel) (by decide +kernel)
theorem q136 : (Jvm.Cond.initialized "HungFaces$Trade") ∈ lw_all := lw_g (lw_at lw_m1 9 rfl) rfl
theorem q193 : (Jvm.Cond.fieldLinkNest "HungFaces$Trade" (36 : Nat) "HungFaces$World" "people" "I" "HungFaces") ∈ lw_tbl := lw_at lw_m1 66 rfl
theorem q213 : (Jvm.Cond.fieldLinkNest "HungFaces$Trade" (41 : Nat) "HungFaces$World" "wears" "[I" "HungFaces") ∈ lw_tbl := lw_at lw_m1 86 rfl
theorem q225 : (Jvm.Cond.fieldLinkNest "HungFaces$Trade" (56 : Nat) "HungFaces$World" "wishes" "[I" "HungFaces") ∈ lw_tbl := lw_at lw_m1 98 rfl
theorem q379 : (Jvm.Cond.instantiable "HungFaces$Trade" (4 : Nat)) ∈ lw_all := lw_g (lw_at lw_m2 12 rfl) rfl
theorem q381 : (Jvm.Cond.instanceMethod ({ cls := "HungFaces$Trade", name := "<init>", desc := "(LHungFaces;)V" } : Jvm.MethodName)) ∈ lw_all := lw_g (lw_at lw_m2 14 rfl) rfl
theorem q382 : (Jvm.Cond.code ({ cls := "HungFaces$Trade", name := "<init>", desc := "(LHungFaces;)V" } : Jvm.MethodName) prog_16_method_1_code (2 : Nat) (Option.none : Option Jvm.ClassFile.FieldType)) ∈ lw_all := lw_g (lw_at lw_m2 15 rfl) rfl
theorem q383 : (Jvm.Cond.methodLink "HungFaces$Trade" (9 : Nat) ({ cls := "java/lang/Object", name := "<init>", desc := "()V" } : Jvm.MethodName)) ∈ lw_all := lw_g (lw_at lw_m2 16 rfl) rfl
theorem q384 : (Jvm.Cond.fieldLink "HungFaces$Trade" (15 : Nat) "HungFaces$Trade" "gets" "[I") ∈ lw_all := lw_g (lw_at lw_m2 17 rfl) rfl
theorem q386 : (Jvm.Cond.fieldLink "HungFaces$Trade" (19 : Nat) "HungFaces$Trade" "points" "[I") ∈ lw_all := lw_g (lw_at lw_m2 19 rfl) rfl
theorem q387 : (Jvm.Cond.fieldLink "HungFaces$Trade" (28 : Nat) "HungFaces$Trade" "left" "I") ∈ lw_all := lw_g (lw_at lw_m2 20 rfl) rfl
theorem q388 : (Jvm.Cond.fieldLink "HungFaces$Trade" (3 : Nat) "HungFaces$Trade" "this$0" "LHungFaces;") ∈ lw_all := lw_g (lw_at lw_m2 21 rfl) rfl
theorem q389 : (Jvm.Cond.laysFinal "HungFaces$Trade" "HungFaces$Trade" "gets" "[I") ∈ lw_all := lw_g (lw_at lw_m2 22 rfl) rfl
theorem q390 : (Jvm.Cond.soleField "HungFaces$Trade" "gets") ∈ lw_all := lw_g (lw_at lw_m2 23 rfl) rfl
theorem q391 : (Jvm.Cond.laysFinal "HungFaces$Trade" "HungFaces$Trade" "points" "[I") ∈ lw_all := lw_g (lw_at lw_m2 24 rfl) rfl
theorem q392 : (Jvm.Cond.soleField "HungFaces$Trade" "points") ∈ lw_all := lw_g (lw_at lw_m2 25 rfl) rfl
theorem q393 : (Jvm.Cond.lays "HungFaces$Trade" "HungFaces$Trade" "left" "I") ∈ lw_all := lw_g (lw_at lw_m2 26 rfl) rfl
theorem q394 : (Jvm.Cond.soleField "HungFaces$Trade" "left") ∈ lw_all := lw_g (lw_at lw_m2 27 rfl) rfl
theorem q395 : (Jvm.Cond.laysFinal "HungFaces$Trade" "HungFaces$Trade" "this$0" "LHungFaces;") ∈ lw_all := lw_g (lw_at lw_m2 28 rfl) rfl
theorem q396 : (Jvm.Cond.soleField "HungFaces$Trade" "this$0") ∈ lw_all := lw_g (lw_at lw_m2 29 rfl) rfl
theorem q397 : (Jvm.Cond.superclass "HungFaces$Trade" "java/lang/Object") ∈ lw_all := lw_g (lw_at lw_m2 30 rfl) rfl
theorem q437 : (Jvm.Cond.fieldLinkNest "HungFaces$Trade" (32 : Nat) "HungFaces" "world" "LHungFaces$World;" "HungFaces") ∈ lw_tbl := lw_at lw_m2 70 rfl
theorem q573 : (Jvm.Cond.instanceMethod ({ cls := "HungFaces$Trade", name := "run", desc := "()LHungFaces$Trade;" } : Jvm.MethodName)) ∈ lw_all := lw_g (lw_at lw_m2 206 rfl) rfl
theorem q574 : (Jvm.Cond.selects "HungFaces$Trade" ({ cls := "HungFaces$Trade", name := "run", desc := "()LHungFaces$Trade;" } : Jvm.MethodName) ({ cls := "HungFaces$Trade", name := "run", desc := "()LHungFaces$Trade;" } : Jvm.MethodName)) ∈ lw_all := lw_g (lw_at lw_m2 207 rfl) rfl
theorem q575 : (Jvm.Cond.code ({ cls := "HungFaces$Trade", name := "run", desc := "()LHungFaces$Trade;" } : Jvm.MethodName) prog_16_method_2_code (3 : Nat) (Option.some (Jvm.ClassFile.FieldType.object "HungFaces$Trade"))) ∈ lw_all := lw_g (lw_at lw_m2 208 rfl) rfl
theorem q576 : (Jvm.Cond.methodLink "HungFaces$Trade" (22 : Nat) ({ cls := "java/util/Arrays", name := "fill", desc := "([II)V" } : Jvm.MethodName)) ∈ lw_all := lw_g (lw_at lw_m2 209 rfl) rfl
theorem q577 : (Jvm.Cond.methodLinkNest "HungFaces$Trade" (44 : Nat) ({ cls := "HungFaces", name := "has", desc := "(II)Z" } : Jvm.MethodName) "HungFaces") ∈ lw_tbl := lw_at lw_m2 210 rfl
theorem q578 : (Jvm.Cond.methodLink "HungFaces$Trade" (48 : Nat) ({ cls := "HungFaces$Trade", name := "dearest", desc := "(I)I" } : Jvm.MethodName)) ∈ lw_all := lw_g (lw_at lw_m2 211 rfl) rfl
theorem q579 : (Jvm.Cond.privateMethod ({ cls := "HungFaces$Trade", name := "dearest", desc := "(I)I" } : Jvm.MethodName)) ∈ lw_tbl := lw_at lw_m2 212 rfl
theorem q580 : (Jvm.Cond.instanceMethod ({ cls := "HungFaces$Trade", name := "dearest", desc := "(I)I" } : Jvm.MethodName)) ∈ lw_all := lw_g (lw_at lw_m2 213 rfl) rfl
theorem q581 : (Jvm.Cond.code ({ cls := "HungFaces$Trade", name := "dearest", desc := "(I)I" } : Jvm.MethodName) prog_16_method_3_code (4 : Nat) (Option.some Jvm.ClassFile.FieldType.int)) ∈ lw_all := lw_g (lw_at lw_m2 214 rfl) rfl
theorem q582 : (Jvm.Cond.methodLink "HungFaces$Trade" (59 : Nat) ({ cls := "HungFaces$World", name := "wearer", desc := "(I)I" } : Jvm.MethodName)) ∈ lw_all := lw_g (lw_at lw_m2 215 rfl) rfl
theorem q583 : (Jvm.Cond.methodLink "HungFaces$Trade" (52 : Nat) ({ cls := "HungFaces$Trade", name := "ring", desc := "()I" } : Jvm.MethodName)) ∈ lw_all := lw_g (lw_at lw_m2 216 rfl) rfl
theorem q584 : (Jvm.Cond.privateMethod ({ cls := "HungFaces$Trade", name := "ring", desc := "()I" } : Jvm.MethodName)) ∈ lw_tbl := lw_at lw_m2 217 rfl
theorem q585 : (Jvm.Cond.instanceMethod ({ cls := "HungFaces$Trade", name := "ring", desc := "()I" } : Jvm.MethodName)) ∈ lw_all := lw_g (lw_at lw_m2 218 rfl) rfl
theorem q586 : (Jvm.Cond.code ({ cls := "HungFaces$Trade", name := "ring", desc := "()I" } : Jvm.MethodName) prog_16_method_4_code (3 : Nat) (Option.some Jvm.ClassFile.FieldType.int)) ∈ lw_all := lw_g (lw_at lw_m2 219 rfl) rfl
theorem q587 : (Jvm.Cond.methodLink "HungFaces$Trade" (62 : Nat) ({ cls := "java/lang/Integer", name := "numberOfTrailingZeros", desc := "(I)I" } : Jvm.MethodName)) ∈ lw_all := lw_g (lw_at lw_m2 220 rfl) rfl
theorem q1454 : (Jvm.Cond.selects "HungFaces$Trade" ({ cls := "java/lang/Object", name := "getClass", desc := "()Ljava/lang/Class;" } : Jvm.MethodName) ({ cls := "java/lang/Object", name := "getClass", desc := "()Ljava/lang/Class;" } : Jvm.MethodName)) ∈ lw_all := lw_g (lw_at lw_m6 127 rfl) rfl
theorem q2666 : (Jvm.Cond.castable "HungFaces$Trade" "java/lang/Object") ∈ lw_tbl := lw_at lw_m11 139 rfl
theorem in_X5 : ∀ w ∈ wsX50, w ∈ lw_all := lw_in wsX50 [389, 391, 393, 395] (by decide +kernel) (by decide +kernel)
theorem q137 : (Jvm.Cond.initialized "HungFaces$Owners") ∈ lw_all := lw_g (lw_at lw_m1 10 rfl) rfl
theorem q194 : (Jvm.Cond.fieldLinkNest "HungFaces$Owners" (66 : Nat) "HungFaces$World" "people" "I" "HungFaces") ∈ lw_tbl := lw_at lw_m1 67 rfl
theorem q284 : (Jvm.Cond.fieldLinkNest "HungFaces$Owners" (52 : Nat) "HungFaces$Reader" "tape" "[B" "HungFaces") ∈ lw_tbl := lw_at lw_m1 157 rfl
theorem q287 : (Jvm.Cond.fieldLinkNest "HungFaces$Owners" (42 : Nat) "HungFaces$Reader" "end" "I" "HungFaces") ∈ lw_tbl := lw_at lw_m1 160 rfl
theorem q399 : (Jvm.Cond.instantiable "HungFaces$Owners" (3 : Nat)) ∈ lw_all := lw_g (lw_at lw_m2 32 rfl) rfl
theorem q401 : (Jvm.Cond.instanceMethod ({ cls := "HungFaces$Owners", name := "<init>", desc := "(LHungFaces;)V" } : Jvm.MethodName)) ∈ lw_all := lw_g (lw_at lw_m2 34 rfl) rfl
theorem q402 : (Jvm.Cond.code ({ cls := "HungFaces$Owners", name := "<init>", desc := "(LHungFaces;)V" } : Jvm.MethodName) prog_8_method_1_code (2 : Nat) (Option.none : Option Jvm.ClassFile.FieldType)) ∈ lw_all := lw_g (lw_at lw_m2 35 rfl) rfl
theorem q403 : (Jvm.Cond.methodLink "HungFaces$Owners" (9 : Nat) ({ cls := "java/lang/Object", name := "<init>", desc := "()V" } : Jvm.MethodName)) ∈ lw_all := lw_g (lw_at lw_m2 36 rfl) rfl
theorem q404 : (Jvm.Cond.fieldLink "HungFaces$Owners" (15 : Nat) "HungFaces$Owners" "can" "[I") ∈ lw_all := lw_g (lw_at lw_m2 37 rfl) rfl
theorem q405 : (Jvm.Cond.fieldLink "HungFaces$Owners" (19 : Nat) "HungFaces$Owners" "ways" "[I") ∈ lw_all := lw_g (lw_at lw_m2 38 rfl) rfl
theorem q406 : (Jvm.Cond.fieldLink "HungFaces$Owners" (3 : Nat) "HungFaces$Owners" "this$0" "LHungFaces;") ∈ lw_all := lw_g (lw_at lw_m2 39 rfl) rfl
theorem q407 : (Jvm.Cond.laysFinal "HungFaces$Owners" "HungFaces$Owners" "can" "[I") ∈ lw_all := lw_g (lw_at lw_m2 40 rfl) rfl
theorem q408 : (Jvm.Cond.soleField "HungFaces$Owners" "can") ∈ lw_all := lw_g (lw_at lw_m2 41 rfl) rfl
theorem q409 : (Jvm.Cond.laysFinal "HungFaces$Owners" "HungFaces$Owners" "ways" "[I") ∈ lw_all := lw_g (lw_at lw_m2 42 rfl) rfl
theorem q410 : (Jvm.Cond.soleField "HungFaces$Owners" "ways") ∈ lw_all := lw_g (lw_at lw_m2 43 rfl) rfl
theorem q411 : (Jvm.Cond.laysFinal "HungFaces$Owners" "HungFaces$Owners" "this$0" "LHungFaces;") ∈ lw_all := lw_g (lw_at lw_m2 44 rfl) rfl
theorem q412 : (Jvm.Cond.soleField "HungFaces$Owners" "this$0") ∈ lw_all := lw_g (lw_at lw_m2 45 rfl) rfl
theorem q413 : (Jvm.Cond.superclass "HungFaces$Owners" "java/lang/Object") ∈ lw_all := lw_g (lw_at lw_m2 46 rfl) rfl
theorem q436 : (Jvm.Cond.fieldLinkNest "HungFaces$Owners" (22 : Nat) "HungFaces" "world" "LHungFaces$World;" "HungFaces") ∈ lw_tbl := lw_at lw_m2 69 rfl
theorem q442 : (Jvm.Cond.fieldLinkNest "HungFaces$Owners" (38 : Nat) "HungFaces" "reader" "LHungFaces$Reader;" "HungFaces") ∈ lw_tbl := lw_at lw_m2 75 rfl
theorem q1446 : (Jvm.Cond.selects "HungFaces$Owners" ({ cls := "java/lang/Object", name := "getClass", desc := "()Ljava/lang/Class;" } : Jvm.MethodName) ({ cls := "java/lang/Object", name := "getClass", desc := "()Ljava/lang/Class;" } : Jvm.MethodName)) ∈ lw_all := lw_g (lw_at lw_m6 119 rfl) rfl
theorem q1895 : (Jvm.Cond.instanceMethod ({ cls := "HungFaces$Owners", name := "by", desc := "(I)LHungFaces$Owners;" } : Jvm.MethodName)) ∈ lw_all := lw_g (lw_at lw_m8 88 rfl) rfl
theorem q1896 : (Jvm.Cond.selects "HungFaces$Owners" ({ cls := "HungFaces$Owners", name := "by", desc := "(I)LHungFaces$Owners;" } : Jvm.MethodName) ({ cls := "HungFaces$Owners", name := "by", desc := "(I)LHungFaces$Owners;" } : Jvm.MethodName)) ∈ lw_all := lw_g (lw_at lw_m8 89 rfl) rfl
theorem q1897 : (Jvm.Cond.code ({ cls := "HungFaces$Owners", name := "by", desc := "(I)LHungFaces$Owners;" } : Jvm.MethodName) prog_8_method_2_code (3 : Nat) (Option.some (Jvm.ClassFile.FieldType.object "HungFaces$Owners"))) ∈ lw_all := lw_g (lw_at lw_m8 90 rfl) rfl
theorem q1898 : (Jvm.Cond.methodLink "HungFaces$Owners" (26 : Nat) ({ cls := "HungFaces$World", name := "all", desc := "()I" } : Jvm.MethodName)) ∈ lw_all := lw_g (lw_at lw_m8 91 rfl) rfl
theorem q1899 : (Jvm.Cond.methodLink "HungFaces$Owners" (32 : Nat) ({ cls := "java/util/Arrays", name := "fill", desc := "([II)V" } : Jvm.MethodName)) ∈ lw_all := lw_g (lw_at lw_m8 92 rfl) rfl
theorem q1900 : (Jvm.Cond.methodLinkNest "HungFaces$Owners" (48 : Nat) ({ cls := "HungFaces", name := "has", desc := "(II)Z" } : Jvm.MethodName) "HungFaces") ∈ lw_tbl := lw_at lw_m8 93 rfl
theorem q1901 : (Jvm.Cond.methodLink "HungFaces$Owners" (56 : Nat) ({ cls := "HungFaces$Owners", name := "says", desc := "(IIZ)V" } : Jvm.MethodName)) ∈ lw_all := lw_g (lw_at lw_m8 94 rfl) rfl
theorem q1902 : (Jvm.Cond.privateMethod ({ cls := "HungFaces$Owners", name := "says", desc := "(IIZ)V" } : Jvm.MethodName)) ∈ lw_tbl := lw_at lw_m8 95 rfl
theorem q1903 : (Jvm.Cond.instanceMethod ({ cls := "HungFaces$Owners", name := "says", desc := "(IIZ)V" } : Jvm.MethodName)) ∈ lw_all := lw_g (lw_at lw_m8 96 rfl) rfl
theorem q1904 : (Jvm.Cond.code ({ cls := "HungFaces$Owners", name := "says", desc := "(IIZ)V" } : Jvm.MethodName) prog_8_method_3_code (4 : Nat) (Option.none : Option Jvm.ClassFile.FieldType)) ∈ lw_all := lw_g (lw_at lw_m8 97 rfl) rfl
theorem q1906 : (Jvm.Cond.instanceMethod ({ cls := "HungFaces$Owners", name := "many", desc := "()I" } : Jvm.MethodName)) ∈ lw_all := lw_g (lw_at lw_m8 99 rfl) rfl
theorem q1907 : (Jvm.Cond.selects "HungFaces$Owners" ({ cls := "HungFaces$Owners", name := "many", desc := "()I" } : Jvm.MethodName) ({ cls := "HungFaces$Owners", name := "many", desc := "()I" } : Jvm.MethodName)) ∈ lw_all := lw_g (lw_at lw_m8 100 rfl) rfl
theorem q1908 : (Jvm.Cond.code ({ cls := "HungFaces$Owners", name := "many", desc := "()I" } : Jvm.MethodName) prog_8_method_4_code (5 : Nat) (Option.some Jvm.ClassFile.FieldType.int)) ∈ lw_all := lw_g (lw_at lw_m8 101 rfl) rfl
theorem q1909 : (Jvm.Cond.methodLink "HungFaces$Owners" (60 : Nat) ({ cls := "java/lang/Integer", name := "bitCount", desc := "(I)I" } : Jvm.MethodName)) ∈ lw_all := lw_g (lw_at lw_m8 102 rfl) rfl
theorem q1911 : (Jvm.Cond.instanceMethod ({ cls := "HungFaces$Owners", name := "having", desc := "(II)I" } : Jvm.MethodName)) ∈ lw_all := lw_g (lw_at lw_m8 104 rfl) rfl
theorem q1912 : (Jvm.Cond.selects "HungFaces$Owners" ({ cls := "HungFaces$Owners", name := "having", desc := "(II)I" } : Jvm.MethodName) ({ cls := "HungFaces$Owners", name := "having", desc := "(II)I" } : Jvm.MethodName)) ∈ lw_all := lw_g (lw_at lw_m8 105 rfl) rfl
theorem q1913 : (Jvm.Cond.code ({ cls := "HungFaces$Owners", name := "having", desc := "(II)I" } : Jvm.MethodName) prog_8_method_5_code (5 : Nat) (Option.some Jvm.ClassFile.FieldType.int)) ∈ lw_all := lw_g (lw_at lw_m8 106 rfl) rfl
theorem q1914 : (Jvm.Cond.methodLink "HungFaces$Owners" (69 : Nat) ({ cls := "HungFaces$Owners", name := "many", desc := "()I" } : Jvm.MethodName)) ∈ lw_all := lw_g (lw_at lw_m8 107 rfl) rfl
theorem q2667 : (Jvm.Cond.castable "HungFaces$Owners" "java/lang/Object") ∈ lw_tbl := lw_at lw_m11 140 rfl
theorem in_X6 : ∀ w ∈ wsX60, w ∈ lw_all := lw_in wsX60 [407, 409, 411] (by decide +kernel) (by decide +kernel)
theorem q138 : (Jvm.Cond.initialized "HungFaces$Queue") ∈ lw_all := lw_g (lw_at lw_m1 11 rfl) rfl
theorem q216 : (Jvm.Cond.fieldLinkNest "HungFaces$Queue" (49 : Nat) "HungFaces$World" "ticket" "[I" "HungFaces") ∈ lw_tbl := lw_at lw_m1 89 rfl
theorem q415 : (Jvm.Cond.instantiable "HungFaces$Queue" (4 : Nat)) ∈ lw_all := lw_g (lw_at lw_m2 48 rfl) rfl
theorem q417 : (Jvm.Cond.instanceMethod ({ cls := "HungFaces$Queue", name := "<init>", desc := "(LHungFaces;)V" } : Jvm.MethodName)) ∈ lw_all := lw_g (lw_at lw_m2 50 rfl) rfl
theorem q418 : (Jvm.Cond.code ({ cls := "HungFaces$Queue", name := "<init>", desc := "(LHungFaces;)V" } : Jvm.MethodName) prog_10_method_1_code (2 : Nat) (Option.none : Option Jvm.ClassFile.FieldType)) ∈ lw_all := lw_g (lw_at lw_m2 51 rfl) rfl
theorem q419 : (Jvm.Cond.methodLink "HungFaces$Queue" (9 : Nat) ({ cls := "java/lang/Object", name := "<init>", desc := "()V" } : Jvm.MethodName)) ∈ lw_all := lw_g (lw_at lw_m2 52 rfl) rfl
theorem q420 : (Jvm.Cond.fieldLink "HungFaces$Queue" (15 : Nat) "HungFaces$Queue" "who" "[I") ∈ lw_all := lw_g (lw_at lw_m2 53 rfl) rfl
theorem q421 : (Jvm.Cond.fieldLink "HungFaces$Queue" (19 : Nat) "HungFaces$Queue" "least" "[I") ∈ lw_all := lw_g (lw_at lw_m2 54 rfl) rfl
theorem q422 : (Jvm.Cond.fieldLink "HungFaces$Queue" (38 : Nat) "HungFaces$Queue" "many" "I") ∈ lw_all := lw_g (lw_at lw_m2 55 rfl) rfl
theorem q424 : (Jvm.Cond.fieldLink "HungFaces$Queue" (3 : Nat) "HungFaces$Queue" "this$0" "LHungFaces;") ∈ lw_all := lw_g (lw_at lw_m2 57 rfl) rfl
theorem q425 : (Jvm.Cond.laysFinal "HungFaces$Queue" "HungFaces$Queue" "who" "[I") ∈ lw_all := lw_g (lw_at lw_m2 58 rfl) rfl
theorem q426 : (Jvm.Cond.soleField "HungFaces$Queue" "who") ∈ lw_all := lw_g (lw_at lw_m2 59 rfl) rfl
theorem q427 : (Jvm.Cond.laysFinal "HungFaces$Queue" "HungFaces$Queue" "least" "[I") ∈ lw_all := lw_g (lw_at lw_m2 60 rfl) rfl
theorem q428 : (Jvm.Cond.soleField "HungFaces$Queue" "least") ∈ lw_all := lw_g (lw_at lw_m2 61 rfl) rfl
theorem q429 : (Jvm.Cond.lays "HungFaces$Queue" "HungFaces$Queue" "many" "I") ∈ lw_all := lw_g (lw_at lw_m2 62 rfl) rfl
theorem q430 : (Jvm.Cond.soleField "HungFaces$Queue" "many") ∈ lw_all := lw_g (lw_at lw_m2 63 rfl) rfl
theorem q431 : (Jvm.Cond.laysFinal "HungFaces$Queue" "HungFaces$Queue" "this$0" "LHungFaces;") ∈ lw_all := lw_g (lw_at lw_m2 64 rfl) rfl
theorem q432 : (Jvm.Cond.soleField "HungFaces$Queue" "this$0") ∈ lw_all := lw_g (lw_at lw_m2 65 rfl) rfl
theorem q433 : (Jvm.Cond.superclass "HungFaces$Queue" "java/lang/Object") ∈ lw_all := lw_g (lw_at lw_m2 66 rfl) rfl
theorem q435 : (Jvm.Cond.fieldLinkNest "HungFaces$Queue" (22 : Nat) "HungFaces" "world" "LHungFaces$World;" "HungFaces") ∈ lw_tbl := lw_at lw_m2 68 rfl
theorem q593 : (Jvm.Cond.instanceMethod ({ cls := "HungFaces$Queue", name := "begins", desc := "()LHungFaces$Queue;" } : Jvm.MethodName)) ∈ lw_all := lw_g (lw_at lw_m2 226 rfl) rfl
theorem q594 : (Jvm.Cond.selects "HungFaces$Queue" ({ cls := "HungFaces$Queue", name := "begins", desc := "()LHungFaces$Queue;" } : Jvm.MethodName) ({ cls := "HungFaces$Queue", name := "begins", desc := "()LHungFaces$Queue;" } : Jvm.MethodName)) ∈ lw_all := lw_g (lw_at lw_m2 227 rfl) rfl
theorem q595 : (Jvm.Cond.code ({ cls := "HungFaces$Queue", name := "begins", desc := "()LHungFaces$Queue;" } : Jvm.MethodName) prog_10_method_2_code (4 : Nat) (Option.some (Jvm.ClassFile.FieldType.object "HungFaces$Queue"))) ∈ lw_all := lw_g (lw_at lw_m2 228 rfl) rfl
theorem q596 : (Jvm.Cond.methodLink "HungFaces$Queue" (26 : Nat) ({ cls := "HungFaces$World", name := "withTickets", desc := "()I" } : Jvm.MethodName)) ∈ lw_all := lw_g (lw_at lw_m2 229 rfl) rfl
theorem q600 : (Jvm.Cond.methodLink "HungFaces$Queue" (32 : Nat) ({ cls := "java/lang/Integer", name := "bitCount", desc := "(I)I" } : Jvm.MethodName)) ∈ lw_all := lw_g (lw_at lw_m2 233 rfl) rfl
theorem q601 : (Jvm.Cond.methodLinkNest "HungFaces$Queue" (42 : Nat) ({ cls := "HungFaces", name := "kth", desc := "(II)I" } : Jvm.MethodName) "HungFaces") ∈ lw_tbl := lw_at lw_m2 234 rfl
theorem q604 : (Jvm.Cond.methodLink "HungFaces$Queue" (46 : Nat) ({ cls := "HungFaces$Queue", name := "rest", desc := "(II)I" } : Jvm.MethodName)) ∈ lw_all := lw_g (lw_at lw_m2 237 rfl) rfl
theorem q605 : (Jvm.Cond.instanceMethod ({ cls := "HungFaces$Queue", name := "rest", desc := "(II)I" } : Jvm.MethodName)) ∈ lw_all := lw_g (lw_at lw_m2 238 rfl) rfl
theorem q606 : (Jvm.Cond.selects "HungFaces$Queue" ({ cls := "HungFaces$Queue", name := "rest", desc := "(II)I" } : Jvm.MethodName) ({ cls := "HungFaces$Queue", name := "rest", desc := "(II)I" } : Jvm.MethodName)) ∈ lw_all := lw_g (lw_at lw_m2 239 rfl) rfl
theorem q607 : (Jvm.Cond.code ({ cls := "HungFaces$Queue", name := "rest", desc := "(II)I" } : Jvm.MethodName) prog_10_method_5_code (5 : Nat) (Option.some Jvm.ClassFile.FieldType.int)) ∈ lw_all := lw_g (lw_at lw_m3 0 rfl) rfl
theorem q608 : (Jvm.Cond.constant "HungFaces$Queue" (60 : Nat) (100000 : Int32)) ∈ lw_all := lw_g (lw_at lw_m3 1 rfl) rfl
theorem q609 : (Jvm.Cond.methodLinkNest "HungFaces$Queue" (61 : Nat) ({ cls := "HungFaces", name := "has", desc := "(II)Z" } : Jvm.MethodName) "HungFaces") ∈ lw_tbl := lw_at lw_m3 2 rfl
theorem q610 : (Jvm.Cond.methodLink "HungFaces$Queue" (65 : Nat) ({ cls := "HungFaces$Queue", name := "by", desc := "(III)I" } : Jvm.MethodName)) ∈ lw_all := lw_g (lw_at lw_m3 3 rfl) rfl
theorem q611 : (Jvm.Cond.privateMethod ({ cls := "HungFaces$Queue", name := "by", desc := "(III)I" } : Jvm.MethodName)) ∈ lw_tbl := lw_at lw_m3 4 rfl
theorem q612 : (Jvm.Cond.instanceMethod ({ cls := "HungFaces$Queue", name := "by", desc := "(III)I" } : Jvm.MethodName)) ∈ lw_all := lw_g (lw_at lw_m3 5 rfl) rfl
theorem q613 : (Jvm.Cond.code ({ cls := "HungFaces$Queue", name := "by", desc := "(III)I" } : Jvm.MethodName) prog_10_method_4_code (6 : Nat) (Option.some Jvm.ClassFile.FieldType.int)) ∈ lw_all := lw_g (lw_at lw_m3 6 rfl) rfl
theorem q614 : (Jvm.Cond.methodLink "HungFaces$Queue" (52 : Nat) ({ cls := "HungFaces$Queue", name := "hookOf", desc := "(I)I" } : Jvm.MethodName)) ∈ lw_all := lw_g (lw_at lw_m3 7 rfl) rfl
theorem q615 : (Jvm.Cond.privateMethod ({ cls := "HungFaces$Queue", name := "hookOf", desc := "(I)I" } : Jvm.MethodName)) ∈ lw_tbl := lw_at lw_m3 8 rfl
theorem q616 : (Jvm.Cond.instanceMethod ({ cls := "HungFaces$Queue", name := "hookOf", desc := "(I)I" } : Jvm.MethodName)) ∈ lw_all := lw_g (lw_at lw_m3 9 rfl) rfl
theorem q617 : (Jvm.Cond.code ({ cls := "HungFaces$Queue", name := "hookOf", desc := "(I)I" } : Jvm.MethodName) prog_10_method_3_code (2 : Nat) (Option.some Jvm.ClassFile.FieldType.int)) ∈ lw_all := lw_g (lw_at lw_m3 10 rfl) rfl
theorem q618 : (Jvm.Cond.methodLink "HungFaces$Queue" (55 : Nat) ({ cls := "java/lang/Math", name := "abs", desc := "(I)I" } : Jvm.MethodName)) ∈ lw_all := lw_g (lw_at lw_m3 11 rfl) rfl
theorem q621 : (Jvm.Cond.methodLink "HungFaces$Queue" (69 : Nat) ({ cls := "java/lang/Math", name := "min", desc := "(II)I" } : Jvm.MethodName)) ∈ lw_all := lw_g (lw_at lw_m3 14 rfl) rfl
theorem q629 : (Jvm.Cond.instanceMethod ({ cls := "HungFaces$Queue", name := "kthServed", desc := "(I)I" } : Jvm.MethodName)) ∈ lw_all := lw_g (lw_at lw_m3 22 rfl) rfl
theorem q630 : (Jvm.Cond.selects "HungFaces$Queue" ({ cls := "HungFaces$Queue", name := "kthServed", desc := "(I)I" } : Jvm.MethodName) ({ cls := "HungFaces$Queue", name := "kthServed", desc := "(I)I" } : Jvm.MethodName)) ∈ lw_all := lw_g (lw_at lw_m3 23 rfl) rfl
theorem q631 : (Jvm.Cond.code ({ cls := "HungFaces$Queue", name := "kthServed", desc := "(I)I" } : Jvm.MethodName) prog_10_method_6_code (7 : Nat) (Option.some Jvm.ClassFile.FieldType.int)) ∈ lw_all := lw_g (lw_at lw_m3 24 rfl) rfl
theorem q1448 : (Jvm.Cond.selects "HungFaces$Queue" ({ cls := "java/lang/Object", name := "getClass", desc := "()Ljava/lang/Class;" } : Jvm.MethodName) ({ cls := "java/lang/Object", name := "getClass", desc := "()Ljava/lang/Class;" } : Jvm.MethodName)) ∈ lw_all := lw_g (lw_at lw_m6 121 rfl) rfl
theorem q2668 : (Jvm.Cond.castable "HungFaces$Queue" "java/lang/Object") ∈ lw_tbl := lw_at lw_m11 141 rfl
theorem in_X7 : ∀ w ∈ wsX70, w ∈ lw_all := lw_in wsX70 [425, 427, 429, 431] (by decide +kernel) (by decide +kernel)
theorem q139 : (Jvm.Cond.initialized "HungFacesModel") ∈ lw_all := lw_g (lw_at lw_m1 12 rfl) rfl
theorem q1458 : (Jvm.Cond.selects "HungFacesModel" ({ cls := "java/lang/Object", name := "getClass", desc := "()Ljava/lang/Class;" } : Jvm.MethodName) ({ cls := "java/lang/Object", name := "getClass", desc := "()Ljava/lang/Class;" } : Jvm.MethodName)) ∈ lw_all := lw_g (lw_at lw_m6 131 rfl) rfl
theorem q2019 : (Jvm.Cond.instantiable "HungFacesModel" (26 : Nat)) ∈ lw_all := lw_g (lw_at lw_m8 212 rfl) rfl
theorem q2021 : (Jvm.Cond.instanceMethod ({ cls := "HungFacesModel", name := "<init>", desc := "()V" } : Jvm.MethodName)) ∈ lw_all := lw_g (lw_at lw_m8 214 rfl) rfl
theorem q2022 : (Jvm.Cond.code ({ cls := "HungFacesModel", name := "<init>", desc := "()V" } : Jvm.MethodName) prog_21_method_1_code (2 : Nat) (Option.none : Option Jvm.ClassFile.FieldType)) ∈ lw_all := lw_g (lw_at lw_m8 215 rfl) rfl
theorem q2023 : (Jvm.Cond.methodLink "HungFacesModel" (1 : Nat) ({ cls := "java/lang/Object", name := "<init>", desc := "()V" } : Jvm.MethodName)) ∈ lw_all := lw_g (lw_at lw_m8 216 rfl) rfl
theorem q2024 : (Jvm.Cond.fieldLink "HungFacesModel" (50 : Nat) "HungFacesModel" "thrown" "I") ∈ lw_all := lw_g (lw_at lw_m8 217 rfl) rfl
theorem q2025 : (Jvm.Cond.fieldLink "HungFacesModel" (7 : Nat) "HungFacesModel" "m" "[I") ∈ lw_all := lw_g (lw_at lw_m8 218 rfl) rfl
theorem q2026 : (Jvm.Cond.fieldLink "HungFacesModel" (13 : Nat) "HungFacesModel" "kept" "[I") ∈ lw_all := lw_g (lw_at lw_m8 219 rfl) rfl
theorem q2027 : (Jvm.Cond.fieldLink "HungFacesModel" (381 : Nat) "HungFacesModel" "hasImage" "Z") ∈ lw_all := lw_g (lw_at lw_m8 220 rfl) rfl
theorem q2028 : (Jvm.Cond.fieldLink "HungFacesModel" (16 : Nat) "HungFacesModel" "aside" "[I") ∈ lw_all := lw_g (lw_at lw_m8 221 rfl) rfl
theorem q2029 : (Jvm.Cond.fieldLink "HungFacesModel" (19 : Nat) "HungFacesModel" "acts" "[I") ∈ lw_all := lw_g (lw_at lw_m8 222 rfl) rfl
theorem q2030 : (Jvm.Cond.fieldLink "HungFacesModel" (182 : Nat) "HungFacesModel" "acted" "I") ∈ lw_all := lw_g (lw_at lw_m8 223 rfl) rfl
theorem q2031 : (Jvm.Cond.fieldLink "HungFacesModel" (22 : Nat) "HungFacesModel" "tape" "[I") ∈ lw_all := lw_g (lw_at lw_m8 224 rfl) rfl
theorem q2032 : (Jvm.Cond.fieldLink "HungFacesModel" (61 : Nat) "HungFacesModel" "taped" "I") ∈ lw_all := lw_g (lw_at lw_m8 225 rfl) rfl
theorem q2033 : (Jvm.Cond.fieldLink "HungFacesModel" (64 : Nat) "HungFacesModel" "base" "I") ∈ lw_all := lw_g (lw_at lw_m8 226 rfl) rfl
theorem q2034 : (Jvm.Cond.fieldLink "HungFacesModel" (70 : Nat) "HungFacesModel" "end" "I") ∈ lw_all := lw_g (lw_at lw_m8 227 rfl) rfl
theorem q2035 : (Jvm.Cond.fieldLink "HungFacesModel" (67 : Nat) "HungFacesModel" "at" "I") ∈ lw_all := lw_g (lw_at lw_m8 228 rfl) rfl
theorem q2036 : (Jvm.Cond.fieldLink "HungFacesModel" (25 : Nat) "HungFacesModel" "fault" "I") ∈ lw_all := lw_g (lw_at lw_m8 229 rfl) rfl
theorem q2037 : (Jvm.Cond.fieldLink "HungFacesModel" (157 : Nat) "HungFacesModel" "deep" "I") ∈ lw_all := lw_g (lw_at lw_m8 230 rfl) rfl
theorem q2038 : (Jvm.Cond.fieldLink "HungFacesModel" (29 : Nat) "HungFacesModel" "fact" "[I") ∈ lw_all := lw_g (lw_at lw_m8 231 rfl) rfl
theorem q2039 : (Jvm.Cond.fieldLink "HungFacesModel" (202 : Nat) "HungFacesModel" "isOwn" "Z") ∈ lw_all := lw_g (lw_at lw_m8 232 rfl) rfl
theorem q2040 : (Jvm.Cond.fieldLink "HungFacesModel" (206 : Nat) "HungFacesModel" "isWed" "Z") ∈ lw_all := lw_g (lw_at lw_m8 233 rfl) rfl
theorem q2041 : (Jvm.Cond.fieldLink "HungFacesModel" (236 : Nat) "HungFacesModel" "hands" "Z") ∈ lw_all := lw_g (lw_at lw_m8 234 rfl) rfl
theorem q2042 : (Jvm.Cond.fieldLink "HungFacesModel" (239 : Nat) "HungFacesModel" "fetches" "Z") ∈ lw_all := lw_g (lw_at lw_m8 235 rfl) rfl
theorem q2043 : (Jvm.Cond.fieldLink "HungFacesModel" (32 : Nat) "HungFacesModel" "said" "[I") ∈ lw_all := lw_g (lw_at lw_m8 236 rfl) rfl
theorem q2044 : (Jvm.Cond.fieldLink "HungFacesModel" (341 : Nat) "HungFacesModel" "saidMany" "I") ∈ lw_all := lw_g (lw_at lw_m8 237 rfl) rfl
theorem q2045 : (Jvm.Cond.fieldLink "HungFacesModel" (35 : Nat) "HungFacesModel" "may" "[I") ∈ lw_all := lw_g (lw_at lw_m8 238 rfl) rfl
theorem q2046 : (Jvm.Cond.fieldLink "HungFacesModel" (38 : Nat) "HungFacesModel" "owns" "[I") ∈ lw_all := lw_g (lw_at lw_m8 239 rfl) rfl
theorem q2047 : (Jvm.Cond.fieldLink "HungFacesModel" (41 : Nat) "HungFacesModel" "gets" "[I") ∈ lw_all := lw_g (lw_at lw_m9 0 rfl) rfl
theorem q2048 : (Jvm.Cond.fieldLink "HungFacesModel" (44 : Nat) "HungFacesModel" "least" "[I") ∈ lw_all := lw_g (lw_at lw_m9 1 rfl) rfl
theorem q2049 : (Jvm.Cond.fieldLink "HungFacesModel" (47 : Nat) "HungFacesModel" "far" "[I") ∈ lw_all := lw_g (lw_at lw_m9 2 rfl) rfl
theorem q2050 : (Jvm.Cond.lays "HungFacesModel" "HungFacesModel" "thrown" "I") ∈ lw_all := lw_g (lw_at lw_m9 3 rfl) rfl
theorem q2051 : (Jvm.Cond.soleField "HungFacesModel" "thrown") ∈ lw_all := lw_g (lw_at lw_m9 4 rfl) rfl
theorem q2052 : (Jvm.Cond.laysFinal "HungFacesModel" "HungFacesModel" "m" "[I") ∈ lw_all := lw_g (lw_at lw_m9 5 rfl) rfl
theorem q2053 : (Jvm.Cond.soleField "HungFacesModel" "m") ∈ lw_all := lw_g (lw_at lw_m9 6 rfl) rfl
theorem q2054 : (Jvm.Cond.laysFinal "HungFacesModel" "HungFacesModel" "kept" "[I") ∈ lw_all := lw_g (lw_at lw_m9 7 rfl) rfl
theorem q2055 : (Jvm.Cond.soleField "HungFacesModel" "kept") ∈ lw_all := lw_g (lw_at lw_m9 8 rfl) rfl
theorem q2056 : (Jvm.Cond.lays "HungFacesModel" "HungFacesModel" "hasImage" "Z") ∈ lw_all := lw_g (lw_at lw_m9 9 rfl) rfl
theorem q2057 : (Jvm.Cond.soleField "HungFacesModel" "hasImage") ∈ lw_all := lw_g (lw_at lw_m9 10 rfl) rfl
theorem q2058 : (Jvm.Cond.laysFinal "HungFacesModel" "HungFacesModel" "aside" "[I") ∈ lw_all := lw_g (lw_at lw_m9 11 rfl) rfl
theorem q2059 : (Jvm.Cond.soleField "HungFacesModel" "aside") ∈ lw_all := lw_g (lw_at lw_m9 12 rfl) rfl
theorem q2060 : (Jvm.Cond.laysFinal "HungFacesModel" "HungFacesModel" "acts" "[I") ∈ lw_all := lw_g (lw_at lw_m9 13 rfl) rfl
theorem q2061 : (Jvm.Cond.soleField "HungFacesModel" "acts") ∈ lw_all := lw_g (lw_at lw_m9 14 rfl) rfl
theorem q2062 : (Jvm.Cond.lays "HungFacesModel" "HungFacesModel" "acted" "I") ∈ lw_all := lw_g (lw_at lw_m9 15 rfl) rfl
theorem q2063 : (Jvm.Cond.soleField "HungFacesModel" "acted") ∈ lw_all := lw_g (lw_at lw_m9 16 rfl) rfl
theorem q2064 : (Jvm.Cond.laysFinal "HungFacesModel" "HungFacesModel" "tape" "[I") ∈ lw_all := lw_g (lw_at lw_m9 17 rfl) rfl
theorem q2065 : (Jvm.Cond.soleField "HungFacesModel" "tape") ∈ lw_all := lw_g (lw_at lw_m9 18 rfl) rfl
theorem q2066 : (Jvm.Cond.lays "HungFacesModel" "HungFacesModel" "taped" "I") ∈ lw_all := lw_g (lw_at lw_m9 19 rfl) rfl
theorem q2067 : (Jvm.Cond.soleField "HungFacesModel" "taped") ∈ lw_all := lw_g (lw_at lw_m9 20 rfl) rfl
theorem q2068 : (Jvm.Cond.lays "HungFacesModel" "HungFacesModel" "base" "I") ∈ lw_all := lw_g (lw_at lw_m9 21 rfl) rfl
theorem q2069 : (Jvm.Cond.soleField "HungFacesModel" "base") ∈ lw_all := lw_g (lw_at lw_m9 22 rfl) rfl
theorem q2070 : (Jvm.Cond.lays "HungFacesModel" "HungFacesModel" "end" "I") ∈ lw_all := lw_g (lw_at lw_m9 23 rfl) rfl
theorem q2071 : (Jvm.Cond.soleField "HungFacesModel" "end") ∈ lw_all := lw_g (lw_at lw_m9 24 rfl) rfl
theorem q2072 : (Jvm.Cond.lays "HungFacesModel" "HungFacesModel" "at" "I") ∈ lw_all := lw_g (lw_at lw_m9 25 rfl) rfl
theorem q2073 : (Jvm.Cond.soleField "HungFacesModel" "at") ∈ lw_all := lw_g (lw_at lw_m9 26 rfl) rfl
theorem q2074 : (Jvm.Cond.lays "HungFacesModel" "HungFacesModel" "fault" "I") ∈ lw_all := lw_g (lw_at lw_m9 27 rfl) rfl
theorem q2075 : (Jvm.Cond.soleField "HungFacesModel" "fault") ∈ lw_all := lw_g (lw_at lw_m9 28 rfl) rfl
theorem q2076 : (Jvm.Cond.lays "HungFacesModel" "HungFacesModel" "deep" "I") ∈ lw_all := lw_g (lw_at lw_m9 29 rfl) rfl
theorem q2077 : (Jvm.Cond.soleField "HungFacesModel" "deep") ∈ lw_all := lw_g (lw_at lw_m9 30 rfl) rfl
theorem q2078 : (Jvm.Cond.laysFinal "HungFacesModel" "HungFacesModel" "fact" "[I") ∈ lw_all := lw_g (lw_at lw_m9 31 rfl) rfl
theorem q2079 : (Jvm.Cond.soleField "HungFacesModel" "fact") ∈ lw_all := lw_g (lw_at lw_m9 32 rfl) rfl
theorem q2080 : (Jvm.Cond.lays "HungFacesModel" "HungFacesModel" "isOwn" "Z") ∈ lw_all := lw_g (lw_at lw_m9 33 rfl) rfl
theorem q2081 : (Jvm.Cond.soleField "HungFacesModel" "isOwn") ∈ lw_all := lw_g (lw_at lw_m9 34 rfl) rfl
theorem q2082 : (Jvm.Cond.lays "HungFacesModel" "HungFacesModel" "isWed" "Z") ∈ lw_all := lw_g (lw_at lw_m9 35 rfl) rfl
theorem q2083 : (Jvm.Cond.soleField "HungFacesModel" "isWed") ∈ lw_all := lw_g (lw_at lw_m9 36 rfl) rfl
theorem q2084 : (Jvm.Cond.lays "HungFacesModel" "HungFacesModel" "hands" "Z") ∈ lw_all := lw_g (lw_at lw_m9 37 rfl) rfl
theorem q2085 : (Jvm.Cond.soleField "HungFacesModel" "hands") ∈ lw_all := lw_g (lw_at lw_m9 38 rfl) rfl
theorem q2086 : (Jvm.Cond.lays "HungFacesModel" "HungFacesModel" "fetches" "Z") ∈ lw_all := lw_g (lw_at lw_m9 39 rfl) rfl
theorem q2087 : (Jvm.Cond.soleField "HungFacesModel" "fetches") ∈ lw_all := lw_g (lw_at lw_m9 40 rfl) rfl
theorem q2088 : (Jvm.Cond.laysFinal "HungFacesModel" "HungFacesModel" "said" "[I") ∈ lw_all := lw_g (lw_at lw_m9 41 rfl) rfl
theorem q2089 : (Jvm.Cond.soleField "HungFacesModel" "said") ∈ lw_all := lw_g (lw_at lw_m9 42 rfl) rfl
theorem q2090 : (Jvm.Cond.lays "HungFacesModel" "HungFacesModel" "saidMany" "I") ∈ lw_all := lw_g (lw_at lw_m9 43 rfl) rfl
theorem q2091 : (Jvm.Cond.soleField "HungFacesModel" "saidMany") ∈ lw_all := lw_g (lw_at lw_m9 44 rfl) rfl
theorem q2092 : (Jvm.Cond.laysFinal "HungFacesModel" "HungFacesModel" "may" "[I") ∈ lw_all := lw_g (lw_at lw_m9 45 rfl) rfl
theorem q2093 : (Jvm.Cond.soleField "HungFacesModel" "may") ∈ lw_all := lw_g (lw_at lw_m9 46 rfl) rfl
theorem q2094 : (Jvm.Cond.laysFinal "HungFacesModel" "HungFacesModel" "owns" "[I") ∈ lw_all := lw_g (lw_at lw_m9 47 rfl) rfl
theorem q2095 : (Jvm.Cond.soleField "HungFacesModel" "owns") ∈ lw_all := lw_g (lw_at lw_m9 48 rfl) rfl
theorem q2096 : (Jvm.Cond.laysFinal "HungFacesModel" "HungFacesModel" "gets" "[I") ∈ lw_all := lw_g (lw_at lw_m9 49 rfl) rfl
theorem q2097 : (Jvm.Cond.soleField "HungFacesModel" "gets") ∈ lw_all := lw_g (lw_at lw_m9 50 rfl) rfl
theorem q2098 : (Jvm.Cond.laysFinal "HungFacesModel" "HungFacesModel" "least" "[I") ∈ lw_all := lw_g (lw_at lw_m9 51 rfl) rfl
theorem q2099 : (Jvm.Cond.soleField "HungFacesModel" "least") ∈ lw_all := lw_g (lw_at lw_m9 52 rfl) rfl
theorem q2100 : (Jvm.Cond.laysFinal "HungFacesModel" "HungFacesModel" "far" "[I") ∈ lw_all := lw_g (lw_at lw_m9 53 rfl) rfl
theorem q2101 : (Jvm.Cond.soleField "HungFacesModel" "far") ∈ lw_all := lw_g (lw_at lw_m9 54 rfl) rfl
theorem q2102 : (Jvm.Cond.superclass "HungFacesModel" "java/lang/Object") ∈ lw_all := lw_g (lw_at lw_m9 55 rfl) rfl
theorem q2104 : (Jvm.Cond.instanceMethod ({ cls := "HungFacesModel", name := "thrown", desc := "()I" } : Jvm.MethodName)) ∈ lw_all := lw_g (lw_at lw_m9 57 rfl) rfl
theorem q2105 : (Jvm.Cond.selects "HungFacesModel" ({ cls := "HungFacesModel", name := "thrown", desc := "()I" } : Jvm.MethodName) ({ cls := "HungFacesModel", name := "thrown", desc := "()I" } : Jvm.MethodName)) ∈ lw_all := lw_g (lw_at lw_m9 58 rfl) rfl
theorem q2106 : (Jvm.Cond.code ({ cls := "HungFacesModel", name := "thrown", desc := "()I" } : Jvm.MethodName) prog_21_method_2_code (1 : Nat) (Option.some Jvm.ClassFile.FieldType.int)) ∈ lw_all := lw_g (lw_at lw_m9 59 rfl) rfl
theorem q2108 : (Jvm.Cond.instanceMethod ({ cls := "HungFacesModel", name := "feed", desc := "(IIIII)I" } : Jvm.MethodName)) ∈ lw_all := lw_g (lw_at lw_m9 61 rfl) rfl
theorem q2109 : (Jvm.Cond.selects "HungFacesModel" ({ cls := "HungFacesModel", name := "feed", desc := "(IIIII)I" } : Jvm.MethodName) ({ cls := "HungFacesModel", name := "feed", desc := "(IIIII)I" } : Jvm.MethodName)) ∈ lw_all := lw_g (lw_at lw_m9 62 rfl) rfl
theorem q2110 : (Jvm.Cond.code ({ cls := "HungFacesModel", name := "feed", desc := "(IIIII)I" } : Jvm.MethodName) prog_21_method_17_code (8 : Nat) (Option.some Jvm.ClassFile.FieldType.int)) ∈ lw_all := lw_g (lw_at lw_m9 63 rfl) rfl
theorem q2112 : (Jvm.Cond.instanceMethod ({ cls := "HungFacesModel", name := "end", desc := "(I)Z" } : Jvm.MethodName)) ∈ lw_all := lw_g (lw_at lw_m9 65 rfl) rfl
theorem q2113 : (Jvm.Cond.selects "HungFacesModel" ({ cls := "HungFacesModel", name := "end", desc := "(I)Z" } : Jvm.MethodName) ({ cls := "HungFacesModel", name := "end", desc := "(I)Z" } : Jvm.MethodName)) ∈ lw_all := lw_g (lw_at lw_m9 66 rfl) rfl
theorem q2114 : (Jvm.Cond.code ({ cls := "HungFacesModel", name := "end", desc := "(I)Z" } : Jvm.MethodName) prog_21_method_18_code (2 : Nat) (Option.some Jvm.ClassFile.FieldType.boolean)) ∈ lw_all := lw_g (lw_at lw_m9 67 rfl) rfl
theorem q2115 : (Jvm.Cond.methodLink "HungFacesModel" (53 : Nat) ({ cls := "HungFacesModel", name := "isIn", desc := "(III)Z" } : Jvm.MethodName)) ∈ lw_all := lw_g (lw_at lw_m9 68 rfl) rfl
theorem q2116 : (Jvm.Cond.static ({ cls := "HungFacesModel", name := "isIn", desc := "(III)Z" } : Jvm.MethodName)) ∈ lw_all := lw_g (lw_at lw_m9 69 rfl) rfl
theorem q2117 : (Jvm.Cond.code ({ cls := "HungFacesModel", name := "isIn", desc := "(III)Z" } : Jvm.MethodName) prog_21_method_3_code (3 : Nat) (Option.some Jvm.ClassFile.FieldType.boolean)) ∈ lw_all := lw_g (lw_at lw_m9 70 rfl) rfl
theorem q2119 : (Jvm.Cond.instanceMethod ({ cls := "HungFacesModel", name := "door", desc := "()I" } : Jvm.MethodName)) ∈ lw_all := lw_g (lw_at lw_m9 72 rfl) rfl
theorem q2120 : (Jvm.Cond.selects "HungFacesModel" ({ cls := "HungFacesModel", name := "door", desc := "()I" } : Jvm.MethodName) ({ cls := "HungFacesModel", name := "door", desc := "()I" } : Jvm.MethodName)) ∈ lw_all := lw_g (lw_at lw_m9 73 rfl) rfl
theorem q2121 : (Jvm.Cond.code ({ cls := "HungFacesModel", name := "door", desc := "()I" } : Jvm.MethodName) prog_21_method_39_code (2 : Nat) (Option.some Jvm.ClassFile.FieldType.int)) ∈ lw_all := lw_g (lw_at lw_m9 74 rfl) rfl
theorem q2122 : (Jvm.Cond.methodLink "HungFacesModel" (169 : Nat) ({ cls := "HungFacesModel", name := "putsAside", desc := "()V" } : Jvm.MethodName)) ∈ lw_all := lw_g (lw_at lw_m9 75 rfl) rfl
theorem q2123 : (Jvm.Cond.privateMethod ({ cls := "HungFacesModel", name := "putsAside", desc := "()V" } : Jvm.MethodName)) ∈ lw_tbl := lw_at lw_m9 76 rfl
theorem q2124 : (Jvm.Cond.instanceMethod ({ cls := "HungFacesModel", name := "putsAside", desc := "()V" } : Jvm.MethodName)) ∈ lw_all := lw_g (lw_at lw_m9 77 rfl) rfl
theorem q2125 : (Jvm.Cond.code ({ cls := "HungFacesModel", name := "putsAside", desc := "()V" } : Jvm.MethodName) prog_21_method_37_code (2 : Nat) (Option.none : Option Jvm.ClassFile.FieldType)) ∈ lw_all := lw_g (lw_at lw_m9 78 rfl) rfl
theorem q2126 : (Jvm.Cond.methodLink "HungFacesModel" (172 : Nat) ({ cls := "HungFacesModel", name := "begins", desc := "()V" } : Jvm.MethodName)) ∈ lw_all := lw_g (lw_at lw_m9 79 rfl) rfl
theorem q2127 : (Jvm.Cond.privateMethod ({ cls := "HungFacesModel", name := "begins", desc := "()V" } : Jvm.MethodName)) ∈ lw_tbl := lw_at lw_m9 80 rfl
theorem q2128 : (Jvm.Cond.instanceMethod ({ cls := "HungFacesModel", name := "begins", desc := "()V" } : Jvm.MethodName)) ∈ lw_all := lw_g (lw_at lw_m9 81 rfl) rfl
theorem q2129 : (Jvm.Cond.code ({ cls := "HungFacesModel", name := "begins", desc := "()V" } : Jvm.MethodName) prog_21_method_35_code (1 : Nat) (Option.none : Option Jvm.ClassFile.FieldType)) ∈ lw_all := lw_g (lw_at lw_m9 82 rfl) rfl
theorem q2130 : (Jvm.Cond.methodLink "HungFacesModel" (175 : Nat) ({ cls := "HungFacesModel", name := "read", desc := "(Z)I" } : Jvm.MethodName)) ∈ lw_all := lw_g (lw_at lw_m9 83 rfl) rfl
theorem q2131 : (Jvm.Cond.privateMethod ({ cls := "HungFacesModel", name := "read", desc := "(Z)I" } : Jvm.MethodName)) ∈ lw_tbl := lw_at lw_m9 84 rfl
theorem q2132 : (Jvm.Cond.instanceMethod ({ cls := "HungFacesModel", name := "read", desc := "(Z)I" } : Jvm.MethodName)) ∈ lw_all := lw_g (lw_at lw_m9 85 rfl) rfl
theorem q2133 : (Jvm.Cond.code ({ cls := "HungFacesModel", name := "read", desc := "(Z)I" } : Jvm.MethodName) prog_21_method_36_code (4 : Nat) (Option.some Jvm.ClassFile.FieldType.int)) ∈ lw_all := lw_g (lw_at lw_m9 86 rfl) rfl
theorem q2134 : (Jvm.Cond.methodLink "HungFacesModel" (77 : Nat) ({ cls := "HungFacesModel", name := "skip", desc := "()V" } : Jvm.MethodName)) ∈ lw_all := lw_g (lw_at lw_m9 87 rfl) rfl
theorem q2135 : (Jvm.Cond.privateMethod ({ cls := "HungFacesModel", name := "skip", desc := "()V" } : Jvm.MethodName)) ∈ lw_tbl := lw_at lw_m9 88 rfl
theorem q2136 : (Jvm.Cond.instanceMethod ({ cls := "HungFacesModel", name := "skip", desc := "()V" } : Jvm.MethodName)) ∈ lw_all := lw_g (lw_at lw_m9 89 rfl) rfl
theorem q2137 : (Jvm.Cond.code ({ cls := "HungFacesModel", name := "skip", desc := "()V" } : Jvm.MethodName) prog_21_method_20_code (1 : Nat) (Option.none : Option Jvm.ClassFile.FieldType)) ∈ lw_all := lw_g (lw_at lw_m9 90 rfl) rfl
theorem q2138 : (Jvm.Cond.methodLink "HungFacesModel" (73 : Nat) ({ cls := "HungFacesModel", name := "letter", desc := "(I)I" } : Jvm.MethodName)) ∈ lw_all := lw_g (lw_at lw_m9 91 rfl) rfl
theorem q2139 : (Jvm.Cond.privateMethod ({ cls := "HungFacesModel", name := "letter", desc := "(I)I" } : Jvm.MethodName)) ∈ lw_tbl := lw_at lw_m9 92 rfl
theorem q2140 : (Jvm.Cond.instanceMethod ({ cls := "HungFacesModel", name := "letter", desc := "(I)I" } : Jvm.MethodName)) ∈ lw_all := lw_g (lw_at lw_m9 93 rfl) rfl
theorem q2141 : (Jvm.Cond.code ({ cls := "HungFacesModel", name := "letter", desc := "(I)I" } : Jvm.MethodName) prog_21_method_19_code (2 : Nat) (Option.some Jvm.ClassFile.FieldType.int)) ∈ lw_all := lw_g (lw_at lw_m9 94 rfl) rfl
theorem q2142 : (Jvm.Cond.methodLink "HungFacesModel" (93 : Nat) ({ cls := "HungFacesModel", name := "wrong", desc := "(I)V" } : Jvm.MethodName)) ∈ lw_all := lw_g (lw_at lw_m9 95 rfl) rfl
theorem q2143 : (Jvm.Cond.privateMethod ({ cls := "HungFacesModel", name := "wrong", desc := "(I)V" } : Jvm.MethodName)) ∈ lw_tbl := lw_at lw_m9 96 rfl
theorem q2144 : (Jvm.Cond.instanceMethod ({ cls := "HungFacesModel", name := "wrong", desc := "(I)V" } : Jvm.MethodName)) ∈ lw_all := lw_g (lw_at lw_m9 97 rfl) rfl
theorem q2145 : (Jvm.Cond.code ({ cls := "HungFacesModel", name := "wrong", desc := "(I)V" } : Jvm.MethodName) prog_21_method_24_code (2 : Nat) (Option.none : Option Jvm.ClassFile.FieldType)) ∈ lw_all := lw_g (lw_at lw_m9 98 rfl) rfl
theorem q2146 : (Jvm.Cond.methodLink "HungFacesModel" (160 : Nat) ({ cls := "HungFacesModel", name := "lawLine", desc := "()V" } : Jvm.MethodName)) ∈ lw_all := lw_g (lw_at lw_m9 99 rfl) rfl
theorem q2147 : (Jvm.Cond.privateMethod ({ cls := "HungFacesModel", name := "lawLine", desc := "()V" } : Jvm.MethodName)) ∈ lw_tbl := lw_at lw_m9 100 rfl
theorem q2148 : (Jvm.Cond.instanceMethod ({ cls := "HungFacesModel", name := "lawLine", desc := "()V" } : Jvm.MethodName)) ∈ lw_all := lw_g (lw_at lw_m9 101 rfl) rfl
theorem q2149 : (Jvm.Cond.code ({ cls := "HungFacesModel", name := "lawLine", desc := "()V" } : Jvm.MethodName) prog_21_method_46_code (3 : Nat) (Option.none : Option Jvm.ClassFile.FieldType)) ∈ lw_all := lw_g (lw_at lw_m9 102 rfl) rfl
theorem q2150 : (Jvm.Cond.stringRef "HungFacesModel" (230 : Nat) "hand") ∈ lw_tbl := lw_at lw_m9 103 rfl
theorem q2151 : (Jvm.Cond.methodLink "HungFacesModel" (124 : Nat) ({ cls := "HungFacesModel", name := "has", desc := "(Ljava/lang/String;)Z" } : Jvm.MethodName)) ∈ lw_all := lw_g (lw_at lw_m9 104 rfl) rfl
theorem q2152 : (Jvm.Cond.privateMethod ({ cls := "HungFacesModel", name := "has", desc := "(Ljava/lang/String;)Z" } : Jvm.MethodName)) ∈ lw_tbl := lw_at lw_m9 105 rfl
theorem q2153 : (Jvm.Cond.instanceMethod ({ cls := "HungFacesModel", name := "has", desc := "(Ljava/lang/String;)Z" } : Jvm.MethodName)) ∈ lw_all := lw_g (lw_at lw_m9 106 rfl) rfl
theorem q2154 : (Jvm.Cond.code ({ cls := "HungFacesModel", name := "has", desc := "(Ljava/lang/String;)Z" } : Jvm.MethodName) prog_21_method_23_code (4 : Nat) (Option.some Jvm.ClassFile.FieldType.boolean)) ∈ lw_all := lw_g (lw_at lw_m9 107 rfl) rfl
theorem q2155 : (Jvm.Cond.methodLink "HungFacesModel" (80 : Nat) ({ cls := "java/lang/String", name := "length", desc := "()I" } : Jvm.MethodName)) ∈ lw_all := lw_g (lw_at lw_m9 108 rfl) rfl
theorem q2156 : (Jvm.Cond.methodLink "HungFacesModel" (86 : Nat) ({ cls := "java/lang/String", name := "charAt", desc := "(I)C" } : Jvm.MethodName)) ∈ lw_all := lw_g (lw_at lw_m9 109 rfl) rfl
theorem q2167 : (Jvm.Cond.stringRef "HungFacesModel" (232 : Nat) "fetch") ∈ lw_tbl := lw_at lw_m9 120 rfl
theorem q2168 : (Jvm.Cond.stringRef "HungFacesModel" (234 : Nat) "if") ∈ lw_tbl := lw_at lw_m9 121 rfl
theorem q2169 : (Jvm.Cond.methodLink "HungFacesModel" (220 : Nat) ({ cls := "HungFacesModel", name := "some", desc := "()Z" } : Jvm.MethodName)) ∈ lw_all := lw_g (lw_at lw_m9 122 rfl) rfl
theorem q2170 : (Jvm.Cond.privateMethod ({ cls := "HungFacesModel", name := "some", desc := "()Z" } : Jvm.MethodName)) ∈ lw_tbl := lw_at lw_m9 123 rfl
theorem q2171 : (Jvm.Cond.instanceMethod ({ cls := "HungFacesModel", name := "some", desc := "()Z" } : Jvm.MethodName)) ∈ lw_all := lw_g (lw_at lw_m9 124 rfl) rfl
theorem q2172 : (Jvm.Cond.code ({ cls := "HungFacesModel", name := "some", desc := "()Z" } : Jvm.MethodName) prog_21_method_45_code (3 : Nat) (Option.some Jvm.ClassFile.FieldType.boolean)) ∈ lw_all := lw_g (lw_at lw_m9 125 rfl) rfl
theorem q2173 : (Jvm.Cond.methodLink "HungFacesModel" (225 : Nat) ({ cls := "HungFacesModel", name := "every", desc := "()Z" } : Jvm.MethodName)) ∈ lw_all := lw_g (lw_at lw_m9 126 rfl) rfl
theorem q2174 : (Jvm.Cond.privateMethod ({ cls := "HungFacesModel", name := "every", desc := "()Z" } : Jvm.MethodName)) ∈ lw_tbl := lw_at lw_m9 127 rfl
theorem q2175 : (Jvm.Cond.instanceMethod ({ cls := "HungFacesModel", name := "every", desc := "()Z" } : Jvm.MethodName)) ∈ lw_all := lw_g (lw_at lw_m9 128 rfl) rfl
theorem q2176 : (Jvm.Cond.code ({ cls := "HungFacesModel", name := "every", desc := "()Z" } : Jvm.MethodName) prog_21_method_44_code (3 : Nat) (Option.some Jvm.ClassFile.FieldType.boolean)) ∈ lw_all := lw_g (lw_at lw_m9 129 rfl) rfl
theorem q2177 : (Jvm.Cond.methodLink "HungFacesModel" (217 : Nat) ({ cls := "HungFacesModel", name := "atom", desc := "()Z" } : Jvm.MethodName)) ∈ lw_all := lw_g (lw_at lw_m9 130 rfl) rfl
theorem q2178 : (Jvm.Cond.privateMethod ({ cls := "HungFacesModel", name := "atom", desc := "()Z" } : Jvm.MethodName)) ∈ lw_tbl := lw_at lw_m9 131 rfl
theorem q2179 : (Jvm.Cond.instanceMethod ({ cls := "HungFacesModel", name := "atom", desc := "()Z" } : Jvm.MethodName)) ∈ lw_all := lw_g (lw_at lw_m9 132 rfl) rfl
theorem q2180 : (Jvm.Cond.code ({ cls := "HungFacesModel", name := "atom", desc := "()Z" } : Jvm.MethodName) prog_21_method_43_code (4 : Nat) (Option.some Jvm.ClassFile.FieldType.boolean)) ∈ lw_all := lw_g (lw_at lw_m9 133 rfl) rfl
theorem q2181 : (Jvm.Cond.methodLink "HungFacesModel" (90 : Nat) ({ cls := "HungFacesModel", name := "place", desc := "()I" } : Jvm.MethodName)) ∈ lw_all := lw_g (lw_at lw_m9 134 rfl) rfl
theorem q2182 : (Jvm.Cond.privateMethod ({ cls := "HungFacesModel", name := "place", desc := "()I" } : Jvm.MethodName)) ∈ lw_tbl := lw_at lw_m9 135 rfl
theorem q2183 : (Jvm.Cond.instanceMethod ({ cls := "HungFacesModel", name := "place", desc := "()I" } : Jvm.MethodName)) ∈ lw_all := lw_g (lw_at lw_m9 136 rfl) rfl
theorem q2184 : (Jvm.Cond.code ({ cls := "HungFacesModel", name := "place", desc := "()I" } : Jvm.MethodName) prog_21_method_25_code (1 : Nat) (Option.some Jvm.ClassFile.FieldType.int)) ∈ lw_all := lw_g (lw_at lw_m9 137 rfl) rfl
theorem q2185 : (Jvm.Cond.stringRef "HungFacesModel" (212 : Nat) "not") ∈ lw_tbl := lw_at lw_m9 138 rfl
theorem q2186 : (Jvm.Cond.methodLink "HungFacesModel" (166 : Nat) ({ cls := "HungFacesModel", name := "isSign", desc := "(I)Z" } : Jvm.MethodName)) ∈ lw_all := lw_g (lw_at lw_m9 139 rfl) rfl
theorem q2187 : (Jvm.Cond.privateMethod ({ cls := "HungFacesModel", name := "isSign", desc := "(I)Z" } : Jvm.MethodName)) ∈ lw_tbl := lw_at lw_m9 140 rfl
theorem q2188 : (Jvm.Cond.instanceMethod ({ cls := "HungFacesModel", name := "isSign", desc := "(I)Z" } : Jvm.MethodName)) ∈ lw_all := lw_g (lw_at lw_m9 141 rfl) rfl
theorem q2189 : (Jvm.Cond.code ({ cls := "HungFacesModel", name := "isSign", desc := "(I)Z" } : Jvm.MethodName) prog_21_method_21_code (2 : Nat) (Option.some Jvm.ClassFile.FieldType.boolean)) ∈ lw_all := lw_g (lw_at lw_m9 142 rfl) rfl
theorem q2190 : (Jvm.Cond.methodLink "HungFacesModel" (214 : Nat) ({ cls := "HungFacesModel", name := "plain", desc := "()Z" } : Jvm.MethodName)) ∈ lw_all := lw_g (lw_at lw_m9 143 rfl) rfl
theorem q2191 : (Jvm.Cond.privateMethod ({ cls := "HungFacesModel", name := "plain", desc := "()Z" } : Jvm.MethodName)) ∈ lw_tbl := lw_at lw_m9 144 rfl
theorem q2192 : (Jvm.Cond.instanceMethod ({ cls := "HungFacesModel", name := "plain", desc := "()Z" } : Jvm.MethodName)) ∈ lw_all := lw_g (lw_at lw_m9 145 rfl) rfl
theorem q2193 : (Jvm.Cond.code ({ cls := "HungFacesModel", name := "plain", desc := "()Z" } : Jvm.MethodName) prog_21_method_42_code (4 : Nat) (Option.some Jvm.ClassFile.FieldType.boolean)) ∈ lw_all := lw_g (lw_at lw_m9 146 rfl) rfl
theorem q2194 : (Jvm.Cond.stringRef "HungFacesModel" (200 : Nat) "own") ∈ lw_tbl := lw_at lw_m9 147 rfl
theorem q2195 : (Jvm.Cond.stringRef "HungFacesModel" (135 : Nat) "wed") ∈ lw_tbl := lw_at lw_m9 148 rfl
theorem q2196 : (Jvm.Cond.methodLink "HungFacesModel" (209 : Nat) ({ cls := "HungFacesModel", name := "sum", desc := "()I" } : Jvm.MethodName)) ∈ lw_all := lw_g (lw_at lw_m9 149 rfl) rfl
theorem q2197 : (Jvm.Cond.privateMethod ({ cls := "HungFacesModel", name := "sum", desc := "()I" } : Jvm.MethodName)) ∈ lw_tbl := lw_at lw_m9 150 rfl
theorem q2198 : (Jvm.Cond.instanceMethod ({ cls := "HungFacesModel", name := "sum", desc := "()I" } : Jvm.MethodName)) ∈ lw_all := lw_g (lw_at lw_m9 151 rfl) rfl
theorem q2199 : (Jvm.Cond.code ({ cls := "HungFacesModel", name := "sum", desc := "()I" } : Jvm.MethodName) prog_21_method_41_code (2 : Nat) (Option.some Jvm.ClassFile.FieldType.int)) ∈ lw_all := lw_g (lw_at lw_m9 152 rfl) rfl
theorem q2200 : (Jvm.Cond.methodLink "HungFacesModel" (197 : Nat) ({ cls := "HungFacesModel", name := "part", desc := "()I" } : Jvm.MethodName)) ∈ lw_all := lw_g (lw_at lw_m9 153 rfl) rfl
theorem q2201 : (Jvm.Cond.privateMethod ({ cls := "HungFacesModel", name := "part", desc := "()I" } : Jvm.MethodName)) ∈ lw_tbl := lw_at lw_m9 154 rfl
theorem q2202 : (Jvm.Cond.instanceMethod ({ cls := "HungFacesModel", name := "part", desc := "()I" } : Jvm.MethodName)) ∈ lw_all := lw_g (lw_at lw_m9 155 rfl) rfl
theorem q2203 : (Jvm.Cond.code ({ cls := "HungFacesModel", name := "part", desc := "()I" } : Jvm.MethodName) prog_21_method_40_code (2 : Nat) (Option.some Jvm.ClassFile.FieldType.int)) ∈ lw_all := lw_g (lw_at lw_m9 156 rfl) rfl
theorem q2204 : (Jvm.Cond.methodLink "HungFacesModel" (104 : Nat) ({ cls := "HungFacesModel", name := "figures", desc := "(II)I" } : Jvm.MethodName)) ∈ lw_all := lw_g (lw_at lw_m9 157 rfl) rfl
theorem q2205 : (Jvm.Cond.privateMethod ({ cls := "HungFacesModel", name := "figures", desc := "(II)I" } : Jvm.MethodName)) ∈ lw_tbl := lw_at lw_m9 158 rfl
theorem q2206 : (Jvm.Cond.instanceMethod ({ cls := "HungFacesModel", name := "figures", desc := "(II)I" } : Jvm.MethodName)) ∈ lw_all := lw_g (lw_at lw_m9 159 rfl) rfl
theorem q2207 : (Jvm.Cond.code ({ cls := "HungFacesModel", name := "figures", desc := "(II)I" } : Jvm.MethodName) prog_21_method_26_code (5 : Nat) (Option.some Jvm.ClassFile.FieldType.int)) ∈ lw_all := lw_g (lw_at lw_m9 160 rfl) rfl
theorem q2208 : (Jvm.Cond.stringRef "HungFacesModel" (185 : Nat) "who") ∈ lw_tbl := lw_at lw_m9 161 rfl
theorem q2209 : (Jvm.Cond.stringRef "HungFacesModel" (187 : Nat) "hour") ∈ lw_tbl := lw_at lw_m9 162 rfl
theorem q2210 : (Jvm.Cond.stringRef "HungFacesModel" (189 : Nat) "hook") ∈ lw_tbl := lw_at lw_m9 163 rfl
theorem q2211 : (Jvm.Cond.stringRef "HungFacesModel" (191 : Nat) "marks") ∈ lw_tbl := lw_at lw_m9 164 rfl
theorem q2212 : (Jvm.Cond.stringRef "HungFacesModel" (193 : Nat) "hung") ∈ lw_tbl := lw_at lw_m9 165 rfl
theorem q2213 : (Jvm.Cond.stringRef "HungFacesModel" (195 : Nat) "free") ∈ lw_tbl := lw_at lw_m9 166 rfl
theorem q2214 : (Jvm.Cond.stringRef "HungFacesModel" (223 : Nat) "and") ∈ lw_tbl := lw_at lw_m9 167 rfl
theorem q2215 : (Jvm.Cond.stringRef "HungFacesModel" (228 : Nat) "or") ∈ lw_tbl := lw_at lw_m9 168 rfl
theorem q2216 : (Jvm.Cond.methodLink "HungFacesModel" (163 : Nat) ({ cls := "HungFacesModel", name := "doorLine", desc := "()V" } : Jvm.MethodName)) ∈ lw_all := lw_g (lw_at lw_m9 169 rfl) rfl
theorem q2217 : (Jvm.Cond.privateMethod ({ cls := "HungFacesModel", name := "doorLine", desc := "()V" } : Jvm.MethodName)) ∈ lw_tbl := lw_at lw_m9 170 rfl
theorem q2218 : (Jvm.Cond.instanceMethod ({ cls := "HungFacesModel", name := "doorLine", desc := "()V" } : Jvm.MethodName)) ∈ lw_all := lw_g (lw_at lw_m9 171 rfl) rfl
theorem q2219 : (Jvm.Cond.code ({ cls := "HungFacesModel", name := "doorLine", desc := "()V" } : Jvm.MethodName) prog_21_method_34_code (3 : Nat) (Option.none : Option Jvm.ClassFile.FieldType)) ∈ lw_all := lw_g (lw_at lw_m9 172 rfl) rfl
theorem q2220 : (Jvm.Cond.stringRef "HungFacesModel" (122 : Nat) "person") ∈ lw_tbl := lw_at lw_m9 173 rfl
theorem q2221 : (Jvm.Cond.methodLink "HungFacesModel" (127 : Nat) ({ cls := "HungFacesModel", name := "personLine", desc := "(I)V" } : Jvm.MethodName)) ∈ lw_all := lw_g (lw_at lw_m9 174 rfl) rfl
theorem q2222 : (Jvm.Cond.privateMethod ({ cls := "HungFacesModel", name := "personLine", desc := "(I)V" } : Jvm.MethodName)) ∈ lw_tbl := lw_at lw_m9 175 rfl
theorem q2223 : (Jvm.Cond.instanceMethod ({ cls := "HungFacesModel", name := "personLine", desc := "(I)V" } : Jvm.MethodName)) ∈ lw_all := lw_g (lw_at lw_m9 176 rfl) rfl
theorem q2224 : (Jvm.Cond.code ({ cls := "HungFacesModel", name := "personLine", desc := "(I)V" } : Jvm.MethodName) prog_21_method_28_code (6 : Nat) (Option.none : Option Jvm.ClassFile.FieldType)) ∈ lw_all := lw_g (lw_at lw_m9 177 rfl) rfl
theorem q2225 : (Jvm.Cond.methodLink "HungFacesModel" (97 : Nat) ({ cls := "HungFacesModel", name := "eight", desc := "()I" } : Jvm.MethodName)) ∈ lw_all := lw_g (lw_at lw_m9 178 rfl) rfl
theorem q2226 : (Jvm.Cond.privateMethod ({ cls := "HungFacesModel", name := "eight", desc := "()I" } : Jvm.MethodName)) ∈ lw_tbl := lw_at lw_m9 179 rfl
theorem q2227 : (Jvm.Cond.instanceMethod ({ cls := "HungFacesModel", name := "eight", desc := "()I" } : Jvm.MethodName)) ∈ lw_all := lw_g (lw_at lw_m9 180 rfl) rfl
theorem q2228 : (Jvm.Cond.code ({ cls := "HungFacesModel", name := "eight", desc := "()I" } : Jvm.MethodName) prog_21_method_27_code (5 : Nat) (Option.some Jvm.ClassFile.FieldType.int)) ∈ lw_all := lw_g (lw_at lw_m9 181 rfl) rfl
theorem q2229 : (Jvm.Cond.methodLink "HungFacesModel" (100 : Nat) ({ cls := "HungFacesModel", name := "has", desc := "(III)V" } : Jvm.MethodName)) ∈ lw_all := lw_g (lw_at lw_m9 182 rfl) rfl
theorem q2230 : (Jvm.Cond.privateMethod ({ cls := "HungFacesModel", name := "has", desc := "(III)V" } : Jvm.MethodName)) ∈ lw_tbl := lw_at lw_m9 183 rfl
theorem q2231 : (Jvm.Cond.instanceMethod ({ cls := "HungFacesModel", name := "has", desc := "(III)V" } : Jvm.MethodName)) ∈ lw_all := lw_g (lw_at lw_m9 184 rfl) rfl
theorem q2232 : (Jvm.Cond.code ({ cls := "HungFacesModel", name := "has", desc := "(III)V" } : Jvm.MethodName) prog_21_method_9_code (4 : Nat) (Option.none : Option Jvm.ClassFile.FieldType)) ∈ lw_all := lw_g (lw_at lw_m9 185 rfl) rfl
theorem q2233 : (Jvm.Cond.stringRef "HungFacesModel" (130 : Nat) "wish") ∈ lw_tbl := lw_at lw_m9 186 rfl
theorem q2234 : (Jvm.Cond.methodLink "HungFacesModel" (132 : Nat) ({ cls := "HungFacesModel", name := "wishLine", desc := "()V" } : Jvm.MethodName)) ∈ lw_all := lw_g (lw_at lw_m9 187 rfl) rfl
theorem q2235 : (Jvm.Cond.privateMethod ({ cls := "HungFacesModel", name := "wishLine", desc := "()V" } : Jvm.MethodName)) ∈ lw_tbl := lw_at lw_m9 188 rfl
theorem q2236 : (Jvm.Cond.instanceMethod ({ cls := "HungFacesModel", name := "wishLine", desc := "()V" } : Jvm.MethodName)) ∈ lw_all := lw_g (lw_at lw_m9 189 rfl) rfl
theorem q2237 : (Jvm.Cond.code ({ cls := "HungFacesModel", name := "wishLine", desc := "()V" } : Jvm.MethodName) prog_21_method_29_code (8 : Nat) (Option.none : Option Jvm.ClassFile.FieldType)) ∈ lw_all := lw_g (lw_at lw_m9 190 rfl) rfl
theorem q2238 : (Jvm.Cond.methodLink "HungFacesModel" (107 : Nat) ({ cls := "HungFacesModel", name := "isOf", desc := "(II)Z" } : Jvm.MethodName)) ∈ lw_all := lw_g (lw_at lw_m9 191 rfl) rfl
theorem q2239 : (Jvm.Cond.static ({ cls := "HungFacesModel", name := "isOf", desc := "(II)Z" } : Jvm.MethodName)) ∈ lw_all := lw_g (lw_at lw_m9 192 rfl) rfl
theorem q2240 : (Jvm.Cond.code ({ cls := "HungFacesModel", name := "isOf", desc := "(II)Z" } : Jvm.MethodName) prog_21_method_6_code (2 : Nat) (Option.some Jvm.ClassFile.FieldType.boolean)) ∈ lw_all := lw_g (lw_at lw_m9 193 rfl) rfl
theorem q2241 : (Jvm.Cond.methodLink "HungFacesModel" (111 : Nat) ({ cls := "HungFacesModel", name := "isFigure", desc := "()Z" } : Jvm.MethodName)) ∈ lw_all := lw_g (lw_at lw_m9 194 rfl) rfl
theorem q2242 : (Jvm.Cond.privateMethod ({ cls := "HungFacesModel", name := "isFigure", desc := "()Z" } : Jvm.MethodName)) ∈ lw_tbl := lw_at lw_m9 195 rfl
theorem q2243 : (Jvm.Cond.instanceMethod ({ cls := "HungFacesModel", name := "isFigure", desc := "()Z" } : Jvm.MethodName)) ∈ lw_all := lw_g (lw_at lw_m9 196 rfl) rfl
theorem q2244 : (Jvm.Cond.code ({ cls := "HungFacesModel", name := "isFigure", desc := "()Z" } : Jvm.MethodName) prog_21_method_22_code (1 : Nat) (Option.some Jvm.ClassFile.FieldType.boolean)) ∈ lw_all := lw_g (lw_at lw_m9 197 rfl) rfl
theorem q2245 : (Jvm.Cond.methodLink "HungFacesModel" (137 : Nat) ({ cls := "HungFacesModel", name := "wedLine", desc := "()V" } : Jvm.MethodName)) ∈ lw_all := lw_g (lw_at lw_m9 198 rfl) rfl
theorem q2246 : (Jvm.Cond.privateMethod ({ cls := "HungFacesModel", name := "wedLine", desc := "()V" } : Jvm.MethodName)) ∈ lw_tbl := lw_at lw_m9 199 rfl
theorem q2247 : (Jvm.Cond.instanceMethod ({ cls := "HungFacesModel", name := "wedLine", desc := "()V" } : Jvm.MethodName)) ∈ lw_all := lw_g (lw_at lw_m9 200 rfl) rfl
theorem q2248 : (Jvm.Cond.code ({ cls := "HungFacesModel", name := "wedLine", desc := "()V" } : Jvm.MethodName) prog_21_method_31_code (3 : Nat) (Option.none : Option Jvm.ClassFile.FieldType)) ∈ lw_all := lw_g (lw_at lw_m9 201 rfl) rfl
theorem q2249 : (Jvm.Cond.methodLink "HungFacesModel" (115 : Nat) ({ cls := "HungFacesModel", name := "single", desc := "(I)I" } : Jvm.MethodName)) ∈ lw_all := lw_g (lw_at lw_m9 202 rfl) rfl
theorem q2250 : (Jvm.Cond.privateMethod ({ cls := "HungFacesModel", name := "single", desc := "(I)I" } : Jvm.MethodName)) ∈ lw_tbl := lw_at lw_m9 203 rfl
theorem q2251 : (Jvm.Cond.instanceMethod ({ cls := "HungFacesModel", name := "single", desc := "(I)I" } : Jvm.MethodName)) ∈ lw_all := lw_g (lw_at lw_m9 204 rfl) rfl
theorem q2252 : (Jvm.Cond.code ({ cls := "HungFacesModel", name := "single", desc := "(I)I" } : Jvm.MethodName) prog_21_method_30_code (4 : Nat) (Option.some Jvm.ClassFile.FieldType.int)) ∈ lw_all := lw_g (lw_at lw_m9 205 rfl) rfl
theorem q2253 : (Jvm.Cond.methodLink "HungFacesModel" (57 : Nat) ({ cls := "HungFacesModel", name := "of", desc := "(II)I" } : Jvm.MethodName)) ∈ lw_all := lw_g (lw_at lw_m9 206 rfl) rfl
theorem q2254 : (Jvm.Cond.privateMethod ({ cls := "HungFacesModel", name := "of", desc := "(II)I" } : Jvm.MethodName)) ∈ lw_tbl := lw_at lw_m9 207 rfl
theorem q2255 : (Jvm.Cond.instanceMethod ({ cls := "HungFacesModel", name := "of", desc := "(II)I" } : Jvm.MethodName)) ∈ lw_all := lw_g (lw_at lw_m9 208 rfl) rfl
theorem q2256 : (Jvm.Cond.code ({ cls := "HungFacesModel", name := "of", desc := "(II)I" } : Jvm.MethodName) prog_21_method_8_code (3 : Nat) (Option.some Jvm.ClassFile.FieldType.int)) ∈ lw_all := lw_g (lw_at lw_m9 209 rfl) rfl
theorem q2257 : (Jvm.Cond.stringRef "HungFacesModel" (140 : Nat) "knows") ∈ lw_tbl := lw_at lw_m9 210 rfl
theorem q2258 : (Jvm.Cond.methodLink "HungFacesModel" (142 : Nat) ({ cls := "HungFacesModel", name := "knowsLine", desc := "()V" } : Jvm.MethodName)) ∈ lw_all := lw_g (lw_at lw_m9 211 rfl) rfl
theorem q2259 : (Jvm.Cond.privateMethod ({ cls := "HungFacesModel", name := "knowsLine", desc := "()V" } : Jvm.MethodName)) ∈ lw_tbl := lw_at lw_m9 212 rfl
theorem q2260 : (Jvm.Cond.instanceMethod ({ cls := "HungFacesModel", name := "knowsLine", desc := "()V" } : Jvm.MethodName)) ∈ lw_all := lw_g (lw_at lw_m9 213 rfl) rfl
theorem q2261 : (Jvm.Cond.code ({ cls := "HungFacesModel", name := "knowsLine", desc := "()V" } : Jvm.MethodName) prog_21_method_32_code (5 : Nat) (Option.none : Option Jvm.ClassFile.FieldType)) ∈ lw_all := lw_g (lw_at lw_m9 214 rfl) rfl
theorem q2262 : (Jvm.Cond.stringRef "HungFacesModel" (145 : Nat) "hooks") ∈ lw_tbl := lw_at lw_m9 215 rfl
theorem q2263 : (Jvm.Cond.methodLink "HungFacesModel" (147 : Nat) ({ cls := "HungFacesModel", name := "lastTaken", desc := "()I" } : Jvm.MethodName)) ∈ lw_all := lw_g (lw_at lw_m9 216 rfl) rfl
theorem q2264 : (Jvm.Cond.privateMethod ({ cls := "HungFacesModel", name := "lastTaken", desc := "()I" } : Jvm.MethodName)) ∈ lw_tbl := lw_at lw_m9 217 rfl
theorem q2265 : (Jvm.Cond.instanceMethod ({ cls := "HungFacesModel", name := "lastTaken", desc := "()I" } : Jvm.MethodName)) ∈ lw_all := lw_g (lw_at lw_m9 218 rfl) rfl
theorem q2266 : (Jvm.Cond.code ({ cls := "HungFacesModel", name := "lastTaken", desc := "()I" } : Jvm.MethodName) prog_21_method_33_code (3 : Nat) (Option.some Jvm.ClassFile.FieldType.int)) ∈ lw_all := lw_g (lw_at lw_m9 219 rfl) rfl
theorem q2267 : (Jvm.Cond.methodLink "HungFacesModel" (118 : Nat) ({ cls := "HungFacesModel", name := "hasTicketOf", desc := "(I)Z" } : Jvm.MethodName)) ∈ lw_all := lw_g (lw_at lw_m9 220 rfl) rfl
theorem q2268 : (Jvm.Cond.privateMethod ({ cls := "HungFacesModel", name := "hasTicketOf", desc := "(I)Z" } : Jvm.MethodName)) ∈ lw_tbl := lw_at lw_m9 221 rfl
theorem q2269 : (Jvm.Cond.instanceMethod ({ cls := "HungFacesModel", name := "hasTicketOf", desc := "(I)Z" } : Jvm.MethodName)) ∈ lw_all := lw_g (lw_at lw_m9 222 rfl) rfl
theorem q2270 : (Jvm.Cond.code ({ cls := "HungFacesModel", name := "hasTicketOf", desc := "(I)Z" } : Jvm.MethodName) prog_21_method_16_code (3 : Nat) (Option.some Jvm.ClassFile.FieldType.boolean)) ∈ lw_all := lw_g (lw_at lw_m9 223 rfl) rfl
theorem q2271 : (Jvm.Cond.methodLink "HungFacesModel" (150 : Nat) ({ cls := "HungFacesModel", name := "greater", desc := "(II)I" } : Jvm.MethodName)) ∈ lw_all := lw_g (lw_at lw_m9 224 rfl) rfl
theorem q2272 : (Jvm.Cond.static ({ cls := "HungFacesModel", name := "greater", desc := "(II)I" } : Jvm.MethodName)) ∈ lw_all := lw_g (lw_at lw_m9 225 rfl) rfl
theorem q2273 : (Jvm.Cond.code ({ cls := "HungFacesModel", name := "greater", desc := "(II)I" } : Jvm.MethodName) prog_21_method_5_code (2 : Nat) (Option.some Jvm.ClassFile.FieldType.int)) ∈ lw_all := lw_g (lw_at lw_m9 226 rfl) rfl
theorem q2274 : (Jvm.Cond.stringRef "HungFacesModel" (153 : Nat) "mix") ∈ lw_tbl := lw_at lw_m9 227 rfl
theorem q2275 : (Jvm.Cond.stringRef "HungFacesModel" (155 : Nat) "thief") ∈ lw_tbl := lw_at lw_m9 228 rfl
theorem q2276 : (Jvm.Cond.methodLink "HungFacesModel" (179 : Nat) ({ cls := "HungFacesModel", name := "comesBack", desc := "()V" } : Jvm.MethodName)) ∈ lw_all := lw_g (lw_at lw_m9 229 rfl) rfl
theorem q2277 : (Jvm.Cond.privateMethod ({ cls := "HungFacesModel", name := "comesBack", desc := "()V" } : Jvm.MethodName)) ∈ lw_tbl := lw_at lw_m9 230 rfl
theorem q2278 : (Jvm.Cond.instanceMethod ({ cls := "HungFacesModel", name := "comesBack", desc := "()V" } : Jvm.MethodName)) ∈ lw_all := lw_g (lw_at lw_m9 231 rfl) rfl
theorem q2279 : (Jvm.Cond.code ({ cls := "HungFacesModel", name := "comesBack", desc := "()V" } : Jvm.MethodName) prog_21_method_38_code (2 : Nat) (Option.none : Option Jvm.ClassFile.FieldType)) ∈ lw_all := lw_g (lw_at lw_m9 232 rfl) rfl
theorem q2281 : (Jvm.Cond.instanceMethod ({ cls := "HungFacesModel", name := "law", desc := "()I" } : Jvm.MethodName)) ∈ lw_all := lw_g (lw_at lw_m9 234 rfl) rfl
theorem q2282 : (Jvm.Cond.selects "HungFacesModel" ({ cls := "HungFacesModel", name := "law", desc := "()I" } : Jvm.MethodName) ({ cls := "HungFacesModel", name := "law", desc := "()I" } : Jvm.MethodName)) ∈ lw_all := lw_g (lw_at lw_m9 235 rfl) rfl
theorem q2283 : (Jvm.Cond.code ({ cls := "HungFacesModel", name := "law", desc := "()I" } : Jvm.MethodName) prog_21_method_47_code (3 : Nat) (Option.some Jvm.ClassFile.FieldType.int)) ∈ lw_all := lw_g (lw_at lw_m9 236 rfl) rfl
theorem q2285 : (Jvm.Cond.instanceMethod ({ cls := "HungFacesModel", name := "fault", desc := "()I" } : Jvm.MethodName)) ∈ lw_all := lw_g (lw_at lw_m9 238 rfl) rfl
theorem q2286 : (Jvm.Cond.selects "HungFacesModel" ({ cls := "HungFacesModel", name := "fault", desc := "()I" } : Jvm.MethodName) ({ cls := "HungFacesModel", name := "fault", desc := "()I" } : Jvm.MethodName)) ∈ lw_all := lw_g (lw_at lw_m9 239 rfl) rfl
theorem q2287 : (Jvm.Cond.code ({ cls := "HungFacesModel", name := "fault", desc := "()I" } : Jvm.MethodName) prog_21_method_48_code (1 : Nat) (Option.some Jvm.ClassFile.FieldType.int)) ∈ lw_all := lw_g (lw_at lw_m10 0 rfl) rfl
theorem q2289 : (Jvm.Cond.instanceMethod ({ cls := "HungFacesModel", name := "person", desc := "(II)I" } : Jvm.MethodName)) ∈ lw_all := lw_g (lw_at lw_m10 2 rfl) rfl
theorem q2290 : (Jvm.Cond.selects "HungFacesModel" ({ cls := "HungFacesModel", name := "person", desc := "(II)I" } : Jvm.MethodName) ({ cls := "HungFacesModel", name := "person", desc := "(II)I" } : Jvm.MethodName)) ∈ lw_all := lw_g (lw_at lw_m10 3 rfl) rfl
theorem q2291 : (Jvm.Cond.code ({ cls := "HungFacesModel", name := "person", desc := "(II)I" } : Jvm.MethodName) prog_21_method_51_code (3 : Nat) (Option.some Jvm.ClassFile.FieldType.int)) ∈ lw_all := lw_g (lw_at lw_m10 4 rfl) rfl
theorem q2292 : (Jvm.Cond.methodLink "HungFacesModel" (250 : Nat) ({ cls := "HungFacesModel", name := "isPerson", desc := "(I)Z" } : Jvm.MethodName)) ∈ lw_all := lw_g (lw_at lw_m10 5 rfl) rfl
theorem q2293 : (Jvm.Cond.privateMethod ({ cls := "HungFacesModel", name := "isPerson", desc := "(I)Z" } : Jvm.MethodName)) ∈ lw_tbl := lw_at lw_m10 6 rfl
theorem q2294 : (Jvm.Cond.instanceMethod ({ cls := "HungFacesModel", name := "isPerson", desc := "(I)Z" } : Jvm.MethodName)) ∈ lw_all := lw_g (lw_at lw_m10 7 rfl) rfl
theorem q2295 : (Jvm.Cond.code ({ cls := "HungFacesModel", name := "isPerson", desc := "(I)Z" } : Jvm.MethodName) prog_21_method_10_code (2 : Nat) (Option.some Jvm.ClassFile.FieldType.boolean)) ∈ lw_all := lw_g (lw_at lw_m10 8 rfl) rfl
theorem q2296 : (Jvm.Cond.methodLink "HungFacesModel" (253 : Nat) ({ cls := "HungFacesModel", name := "ring", desc := "(I)I" } : Jvm.MethodName)) ∈ lw_all := lw_g (lw_at lw_m10 9 rfl) rfl
theorem q2297 : (Jvm.Cond.privateMethod ({ cls := "HungFacesModel", name := "ring", desc := "(I)I" } : Jvm.MethodName)) ∈ lw_tbl := lw_at lw_m10 10 rfl
theorem q2298 : (Jvm.Cond.instanceMethod ({ cls := "HungFacesModel", name := "ring", desc := "(I)I" } : Jvm.MethodName)) ∈ lw_all := lw_g (lw_at lw_m10 11 rfl) rfl
theorem q2299 : (Jvm.Cond.code ({ cls := "HungFacesModel", name := "ring", desc := "(I)I" } : Jvm.MethodName) prog_21_method_50_code (4 : Nat) (Option.some Jvm.ClassFile.FieldType.int)) ∈ lw_all := lw_g (lw_at lw_m10 12 rfl) rfl
theorem q2300 : (Jvm.Cond.methodLink "HungFacesModel" (247 : Nat) ({ cls := "HungFacesModel", name := "wearer", desc := "(I)I" } : Jvm.MethodName)) ∈ lw_all := lw_g (lw_at lw_m10 13 rfl) rfl
theorem q2301 : (Jvm.Cond.privateMethod ({ cls := "HungFacesModel", name := "wearer", desc := "(I)I" } : Jvm.MethodName)) ∈ lw_tbl := lw_at lw_m10 14 rfl
theorem q2302 : (Jvm.Cond.instanceMethod ({ cls := "HungFacesModel", name := "wearer", desc := "(I)I" } : Jvm.MethodName)) ∈ lw_all := lw_g (lw_at lw_m10 15 rfl) rfl
theorem q2303 : (Jvm.Cond.code ({ cls := "HungFacesModel", name := "wearer", desc := "(I)I" } : Jvm.MethodName) prog_21_method_13_code (3 : Nat) (Option.some Jvm.ClassFile.FieldType.int)) ∈ lw_all := lw_g (lw_at lw_m10 16 rfl) rfl
theorem q2305 : (Jvm.Cond.instanceMethod ({ cls := "HungFacesModel", name := "face", desc := "(II)I" } : Jvm.MethodName)) ∈ lw_all := lw_g (lw_at lw_m10 18 rfl) rfl
theorem q2306 : (Jvm.Cond.selects "HungFacesModel" ({ cls := "HungFacesModel", name := "face", desc := "(II)I" } : Jvm.MethodName) ({ cls := "HungFacesModel", name := "face", desc := "(II)I" } : Jvm.MethodName)) ∈ lw_all := lw_g (lw_at lw_m10 19 rfl) rfl
theorem q2307 : (Jvm.Cond.code ({ cls := "HungFacesModel", name := "face", desc := "(II)I" } : Jvm.MethodName) prog_21_method_53_code (3 : Nat) (Option.some Jvm.ClassFile.FieldType.int)) ∈ lw_all := lw_g (lw_at lw_m10 20 rfl) rfl
theorem q2308 : (Jvm.Cond.methodLink "HungFacesModel" (256 : Nat) ({ cls := "HungFacesModel", name := "hookOf", desc := "(I)I" } : Jvm.MethodName)) ∈ lw_all := lw_g (lw_at lw_m10 21 rfl) rfl
theorem q2309 : (Jvm.Cond.privateMethod ({ cls := "HungFacesModel", name := "hookOf", desc := "(I)I" } : Jvm.MethodName)) ∈ lw_tbl := lw_at lw_m10 22 rfl
theorem q2310 : (Jvm.Cond.instanceMethod ({ cls := "HungFacesModel", name := "hookOf", desc := "(I)I" } : Jvm.MethodName)) ∈ lw_all := lw_g (lw_at lw_m10 23 rfl) rfl
theorem q2311 : (Jvm.Cond.code ({ cls := "HungFacesModel", name := "hookOf", desc := "(I)I" } : Jvm.MethodName) prog_21_method_14_code (3 : Nat) (Option.some Jvm.ClassFile.FieldType.int)) ∈ lw_all := lw_g (lw_at lw_m10 24 rfl) rfl
theorem q2312 : (Jvm.Cond.methodLink "HungFacesModel" (259 : Nat) ({ cls := "HungFacesModel", name := "alike", desc := "(I)I" } : Jvm.MethodName)) ∈ lw_all := lw_g (lw_at lw_m10 25 rfl) rfl
theorem q2313 : (Jvm.Cond.privateMethod ({ cls := "HungFacesModel", name := "alike", desc := "(I)I" } : Jvm.MethodName)) ∈ lw_tbl := lw_at lw_m10 26 rfl
theorem q2314 : (Jvm.Cond.instanceMethod ({ cls := "HungFacesModel", name := "alike", desc := "(I)I" } : Jvm.MethodName)) ∈ lw_all := lw_g (lw_at lw_m10 27 rfl) rfl
theorem q2315 : (Jvm.Cond.code ({ cls := "HungFacesModel", name := "alike", desc := "(I)I" } : Jvm.MethodName) prog_21_method_52_code (4 : Nat) (Option.some Jvm.ClassFile.FieldType.int)) ∈ lw_all := lw_g (lw_at lw_m10 28 rfl) rfl
theorem q2317 : (Jvm.Cond.instanceMethod ({ cls := "HungFacesModel", name := "hook", desc := "(I)I" } : Jvm.MethodName)) ∈ lw_all := lw_g (lw_at lw_m10 30 rfl) rfl
theorem q2318 : (Jvm.Cond.selects "HungFacesModel" ({ cls := "HungFacesModel", name := "hook", desc := "(I)I" } : Jvm.MethodName) ({ cls := "HungFacesModel", name := "hook", desc := "(I)I" } : Jvm.MethodName)) ∈ lw_all := lw_g (lw_at lw_m10 31 rfl) rfl
theorem q2319 : (Jvm.Cond.code ({ cls := "HungFacesModel", name := "hook", desc := "(I)I" } : Jvm.MethodName) prog_21_method_54_code (2 : Nat) (Option.some Jvm.ClassFile.FieldType.int)) ∈ lw_all := lw_g (lw_at lw_m10 32 rfl) rfl
theorem q2320 : (Jvm.Cond.methodLink "HungFacesModel" (262 : Nat) ({ cls := "HungFacesModel", name := "isHook", desc := "(I)Z" } : Jvm.MethodName)) ∈ lw_all := lw_g (lw_at lw_m10 33 rfl) rfl
theorem q2321 : (Jvm.Cond.privateMethod ({ cls := "HungFacesModel", name := "isHook", desc := "(I)Z" } : Jvm.MethodName)) ∈ lw_tbl := lw_at lw_m10 34 rfl
theorem q2322 : (Jvm.Cond.instanceMethod ({ cls := "HungFacesModel", name := "isHook", desc := "(I)Z" } : Jvm.MethodName)) ∈ lw_all := lw_g (lw_at lw_m10 35 rfl) rfl
theorem q2323 : (Jvm.Cond.code ({ cls := "HungFacesModel", name := "isHook", desc := "(I)Z" } : Jvm.MethodName) prog_21_method_11_code (2 : Nat) (Option.some Jvm.ClassFile.FieldType.boolean)) ∈ lw_all := lw_g (lw_at lw_m10 36 rfl) rfl
theorem q2325 : (Jvm.Cond.instanceMethod ({ cls := "HungFacesModel", name := "wish", desc := "(II)I" } : Jvm.MethodName)) ∈ lw_all := lw_g (lw_at lw_m10 38 rfl) rfl
theorem q2326 : (Jvm.Cond.selects "HungFacesModel" ({ cls := "HungFacesModel", name := "wish", desc := "(II)I" } : Jvm.MethodName) ({ cls := "HungFacesModel", name := "wish", desc := "(II)I" } : Jvm.MethodName)) ∈ lw_all := lw_g (lw_at lw_m10 39 rfl) rfl
theorem q2327 : (Jvm.Cond.code ({ cls := "HungFacesModel", name := "wish", desc := "(II)I" } : Jvm.MethodName) prog_21_method_56_code (5 : Nat) (Option.some Jvm.ClassFile.FieldType.int)) ∈ lw_all := lw_g (lw_at lw_m10 40 rfl) rfl
theorem q2329 : (Jvm.Cond.instanceMethod ({ cls := "HungFacesModel", name := "thinks", desc := "(II)I" } : Jvm.MethodName)) ∈ lw_all := lw_g (lw_at lw_m10 42 rfl) rfl
theorem q2330 : (Jvm.Cond.selects "HungFacesModel" ({ cls := "HungFacesModel", name := "thinks", desc := "(II)I" } : Jvm.MethodName) ({ cls := "HungFacesModel", name := "thinks", desc := "(II)I" } : Jvm.MethodName)) ∈ lw_all := lw_g (lw_at lw_m10 43 rfl) rfl
theorem q2331 : (Jvm.Cond.code ({ cls := "HungFacesModel", name := "thinks", desc := "(II)I" } : Jvm.MethodName) prog_21_method_58_code (3 : Nat) (Option.some Jvm.ClassFile.FieldType.int)) ∈ lw_all := lw_g (lw_at lw_m10 44 rfl) rfl
theorem q2332 : (Jvm.Cond.methodLink "HungFacesModel" (265 : Nat) ({ cls := "HungFacesModel", name := "two", desc := "(II)I" } : Jvm.MethodName)) ∈ lw_all := lw_g (lw_at lw_m10 45 rfl) rfl
theorem q2333 : (Jvm.Cond.privateMethod ({ cls := "HungFacesModel", name := "two", desc := "(II)I" } : Jvm.MethodName)) ∈ lw_tbl := lw_at lw_m10 46 rfl
theorem q2334 : (Jvm.Cond.instanceMethod ({ cls := "HungFacesModel", name := "two", desc := "(II)I" } : Jvm.MethodName)) ∈ lw_all := lw_g (lw_at lw_m10 47 rfl) rfl
theorem q2335 : (Jvm.Cond.code ({ cls := "HungFacesModel", name := "two", desc := "(II)I" } : Jvm.MethodName) prog_21_method_57_code (3 : Nat) (Option.some Jvm.ClassFile.FieldType.int)) ∈ lw_all := lw_g (lw_at lw_m10 48 rfl) rfl
theorem q2336 : (Jvm.Cond.methodLink "HungFacesModel" (268 : Nat) ({ cls := "HungFacesModel", name := "thought", desc := "(II)I" } : Jvm.MethodName)) ∈ lw_all := lw_g (lw_at lw_m10 49 rfl) rfl
theorem q2337 : (Jvm.Cond.privateMethod ({ cls := "HungFacesModel", name := "thought", desc := "(II)I" } : Jvm.MethodName)) ∈ lw_tbl := lw_at lw_m10 50 rfl
theorem q2338 : (Jvm.Cond.instanceMethod ({ cls := "HungFacesModel", name := "thought", desc := "(II)I" } : Jvm.MethodName)) ∈ lw_all := lw_g (lw_at lw_m10 51 rfl) rfl
theorem q2339 : (Jvm.Cond.code ({ cls := "HungFacesModel", name := "thought", desc := "(II)I" } : Jvm.MethodName) prog_21_method_12_code (3 : Nat) (Option.some Jvm.ClassFile.FieldType.int)) ∈ lw_all := lw_g (lw_at lw_m10 52 rfl) rfl
theorem q2341 : (Jvm.Cond.instanceMethod ({ cls := "HungFacesModel", name := "hand", desc := "(II)I" } : Jvm.MethodName)) ∈ lw_all := lw_g (lw_at lw_m10 54 rfl) rfl
theorem q2342 : (Jvm.Cond.selects "HungFacesModel" ({ cls := "HungFacesModel", name := "hand", desc := "(II)I" } : Jvm.MethodName) ({ cls := "HungFacesModel", name := "hand", desc := "(II)I" } : Jvm.MethodName)) ∈ lw_all := lw_g (lw_at lw_m10 55 rfl) rfl
theorem q2343 : (Jvm.Cond.code ({ cls := "HungFacesModel", name := "hand", desc := "(II)I" } : Jvm.MethodName) prog_21_method_65_code (3 : Nat) (Option.some Jvm.ClassFile.FieldType.int)) ∈ lw_all := lw_g (lw_at lw_m10 56 rfl) rfl
theorem q2344 : (Jvm.Cond.methodLink "HungFacesModel" (279 : Nat) ({ cls := "HungFacesModel", name := "remembers", desc := "()V" } : Jvm.MethodName)) ∈ lw_all := lw_g (lw_at lw_m10 57 rfl) rfl
theorem q2345 : (Jvm.Cond.privateMethod ({ cls := "HungFacesModel", name := "remembers", desc := "()V" } : Jvm.MethodName)) ∈ lw_tbl := lw_at lw_m10 58 rfl
theorem q2346 : (Jvm.Cond.instanceMethod ({ cls := "HungFacesModel", name := "remembers", desc := "()V" } : Jvm.MethodName)) ∈ lw_all := lw_g (lw_at lw_m10 59 rfl) rfl
theorem q2347 : (Jvm.Cond.code ({ cls := "HungFacesModel", name := "remembers", desc := "()V" } : Jvm.MethodName) prog_21_method_59_code (2 : Nat) (Option.none : Option Jvm.ClassFile.FieldType)) ∈ lw_all := lw_g (lw_at lw_m10 60 rfl) rfl
theorem q2348 : (Jvm.Cond.methodLink "HungFacesModel" (282 : Nat) ({ cls := "HungFacesModel", name := "handsIn", desc := "(II)I" } : Jvm.MethodName)) ∈ lw_all := lw_g (lw_at lw_m10 61 rfl) rfl
theorem q2349 : (Jvm.Cond.privateMethod ({ cls := "HungFacesModel", name := "handsIn", desc := "(II)I" } : Jvm.MethodName)) ∈ lw_tbl := lw_at lw_m10 62 rfl
theorem q2350 : (Jvm.Cond.instanceMethod ({ cls := "HungFacesModel", name := "handsIn", desc := "(II)I" } : Jvm.MethodName)) ∈ lw_all := lw_g (lw_at lw_m10 63 rfl) rfl
theorem q2351 : (Jvm.Cond.code ({ cls := "HungFacesModel", name := "handsIn", desc := "(II)I" } : Jvm.MethodName) prog_21_method_62_code (4 : Nat) (Option.some Jvm.ClassFile.FieldType.int)) ∈ lw_all := lw_g (lw_at lw_m10 64 rfl) rfl
theorem q2352 : (Jvm.Cond.methodLink "HungFacesModel" (275 : Nat) ({ cls := "HungFacesModel", name := "writes", desc := "(IIII)V" } : Jvm.MethodName)) ∈ lw_all := lw_g (lw_at lw_m10 65 rfl) rfl
theorem q2353 : (Jvm.Cond.privateMethod ({ cls := "HungFacesModel", name := "writes", desc := "(IIII)V" } : Jvm.MethodName)) ∈ lw_tbl := lw_at lw_m10 66 rfl
theorem q2354 : (Jvm.Cond.instanceMethod ({ cls := "HungFacesModel", name := "writes", desc := "(IIII)V" } : Jvm.MethodName)) ∈ lw_all := lw_g (lw_at lw_m10 67 rfl) rfl
theorem q2355 : (Jvm.Cond.code ({ cls := "HungFacesModel", name := "writes", desc := "(IIII)V" } : Jvm.MethodName) prog_21_method_61_code (6 : Nat) (Option.none : Option Jvm.ClassFile.FieldType)) ∈ lw_all := lw_g (lw_at lw_m10 68 rfl) rfl
theorem q2356 : (Jvm.Cond.methodLink "HungFacesModel" (272 : Nat) ({ cls := "HungFacesModel", name := "lesser", desc := "(II)I" } : Jvm.MethodName)) ∈ lw_all := lw_g (lw_at lw_m10 69 rfl) rfl
theorem q2357 : (Jvm.Cond.static ({ cls := "HungFacesModel", name := "lesser", desc := "(II)I" } : Jvm.MethodName)) ∈ lw_all := lw_g (lw_at lw_m10 70 rfl) rfl
theorem q2358 : (Jvm.Cond.code ({ cls := "HungFacesModel", name := "lesser", desc := "(II)I" } : Jvm.MethodName) prog_21_method_4_code (2 : Nat) (Option.some Jvm.ClassFile.FieldType.int)) ∈ lw_all := lw_g (lw_at lw_m10 71 rfl) rfl
theorem q2360 : (Jvm.Cond.instanceMethod ({ cls := "HungFacesModel", name := "fetch", desc := "(I)I" } : Jvm.MethodName)) ∈ lw_all := lw_g (lw_at lw_m10 73 rfl) rfl
theorem q2361 : (Jvm.Cond.selects "HungFacesModel" ({ cls := "HungFacesModel", name := "fetch", desc := "(I)I" } : Jvm.MethodName) ({ cls := "HungFacesModel", name := "fetch", desc := "(I)I" } : Jvm.MethodName)) ∈ lw_all := lw_g (lw_at lw_m10 74 rfl) rfl
theorem q2362 : (Jvm.Cond.code ({ cls := "HungFacesModel", name := "fetch", desc := "(I)I" } : Jvm.MethodName) prog_21_method_66_code (2 : Nat) (Option.some Jvm.ClassFile.FieldType.int)) ∈ lw_all := lw_g (lw_at lw_m10 75 rfl) rfl
theorem q2363 : (Jvm.Cond.methodLink "HungFacesModel" (285 : Nat) ({ cls := "HungFacesModel", name := "gets", desc := "(I)I" } : Jvm.MethodName)) ∈ lw_all := lw_g (lw_at lw_m10 76 rfl) rfl
theorem q2364 : (Jvm.Cond.privateMethod ({ cls := "HungFacesModel", name := "gets", desc := "(I)I" } : Jvm.MethodName)) ∈ lw_tbl := lw_at lw_m10 77 rfl
theorem q2365 : (Jvm.Cond.instanceMethod ({ cls := "HungFacesModel", name := "gets", desc := "(I)I" } : Jvm.MethodName)) ∈ lw_all := lw_g (lw_at lw_m10 78 rfl) rfl
theorem q2366 : (Jvm.Cond.code ({ cls := "HungFacesModel", name := "gets", desc := "(I)I" } : Jvm.MethodName) prog_21_method_63_code (4 : Nat) (Option.some Jvm.ClassFile.FieldType.int)) ∈ lw_all := lw_g (lw_at lw_m10 79 rfl) rfl
theorem q2368 : (Jvm.Cond.instanceMethod ({ cls := "HungFacesModel", name := "mix", desc := "(II)I" } : Jvm.MethodName)) ∈ lw_all := lw_g (lw_at lw_m10 81 rfl) rfl
theorem q2369 : (Jvm.Cond.selects "HungFacesModel" ({ cls := "HungFacesModel", name := "mix", desc := "(II)I" } : Jvm.MethodName) ({ cls := "HungFacesModel", name := "mix", desc := "(II)I" } : Jvm.MethodName)) ∈ lw_all := lw_g (lw_at lw_m10 82 rfl) rfl
theorem q2370 : (Jvm.Cond.code ({ cls := "HungFacesModel", name := "mix", desc := "(II)I" } : Jvm.MethodName) prog_21_method_67_code (3 : Nat) (Option.some Jvm.ClassFile.FieldType.int)) ∈ lw_all := lw_g (lw_at lw_m10 83 rfl) rfl
theorem q2371 : (Jvm.Cond.methodLink "HungFacesModel" (287 : Nat) ({ cls := "HungFacesModel", name := "mixes", desc := "(II)V" } : Jvm.MethodName)) ∈ lw_all := lw_g (lw_at lw_m10 84 rfl) rfl
theorem q2372 : (Jvm.Cond.privateMethod ({ cls := "HungFacesModel", name := "mixes", desc := "(II)V" } : Jvm.MethodName)) ∈ lw_tbl := lw_at lw_m10 85 rfl
theorem q2373 : (Jvm.Cond.instanceMethod ({ cls := "HungFacesModel", name := "mixes", desc := "(II)V" } : Jvm.MethodName)) ∈ lw_all := lw_g (lw_at lw_m10 86 rfl) rfl
theorem q2374 : (Jvm.Cond.code ({ cls := "HungFacesModel", name := "mixes", desc := "(II)V" } : Jvm.MethodName) prog_21_method_64_code (6 : Nat) (Option.none : Option Jvm.ClassFile.FieldType)) ∈ lw_all := lw_g (lw_at lw_m10 87 rfl) rfl
theorem q2376 : (Jvm.Cond.instanceMethod ({ cls := "HungFacesModel", name := "steal", desc := "(II)I" } : Jvm.MethodName)) ∈ lw_all := lw_g (lw_at lw_m10 89 rfl) rfl
theorem q2377 : (Jvm.Cond.selects "HungFacesModel" ({ cls := "HungFacesModel", name := "steal", desc := "(II)I" } : Jvm.MethodName) ({ cls := "HungFacesModel", name := "steal", desc := "(II)I" } : Jvm.MethodName)) ∈ lw_all := lw_g (lw_at lw_m10 90 rfl) rfl
theorem q2378 : (Jvm.Cond.code ({ cls := "HungFacesModel", name := "steal", desc := "(II)I" } : Jvm.MethodName) prog_21_method_68_code (4 : Nat) (Option.some Jvm.ClassFile.FieldType.int)) ∈ lw_all := lw_g (lw_at lw_m10 91 rfl) rfl
theorem q2380 : (Jvm.Cond.instanceMethod ({ cls := "HungFacesModel", name := "change", desc := "(II)I" } : Jvm.MethodName)) ∈ lw_all := lw_g (lw_at lw_m10 93 rfl) rfl
theorem q2381 : (Jvm.Cond.selects "HungFacesModel" ({ cls := "HungFacesModel", name := "change", desc := "(II)I" } : Jvm.MethodName) ({ cls := "HungFacesModel", name := "change", desc := "(II)I" } : Jvm.MethodName)) ∈ lw_all := lw_g (lw_at lw_m10 94 rfl) rfl
theorem q2382 : (Jvm.Cond.code ({ cls := "HungFacesModel", name := "change", desc := "(II)I" } : Jvm.MethodName) prog_21_method_69_code (4 : Nat) (Option.some Jvm.ClassFile.FieldType.int)) ∈ lw_all := lw_g (lw_at lw_m10 95 rfl) rfl
theorem q2384 : (Jvm.Cond.instanceMethod ({ cls := "HungFacesModel", name := "shave", desc := "(II)I" } : Jvm.MethodName)) ∈ lw_all := lw_g (lw_at lw_m10 97 rfl) rfl
theorem q2385 : (Jvm.Cond.selects "HungFacesModel" ({ cls := "HungFacesModel", name := "shave", desc := "(II)I" } : Jvm.MethodName) ({ cls := "HungFacesModel", name := "shave", desc := "(II)I" } : Jvm.MethodName)) ∈ lw_all := lw_g (lw_at lw_m10 98 rfl) rfl
theorem q2386 : (Jvm.Cond.code ({ cls := "HungFacesModel", name := "shave", desc := "(II)I" } : Jvm.MethodName) prog_21_method_70_code (3 : Nat) (Option.some Jvm.ClassFile.FieldType.int)) ∈ lw_all := lw_g (lw_at lw_m10 99 rfl) rfl
theorem q2387 : (Jvm.Cond.methodLink "HungFacesModel" (242 : Nat) ({ cls := "HungFacesModel", name := "bits", desc := "(I)I" } : Jvm.MethodName)) ∈ lw_all := lw_g (lw_at lw_m10 100 rfl) rfl
theorem q2388 : (Jvm.Cond.static ({ cls := "HungFacesModel", name := "bits", desc := "(I)I" } : Jvm.MethodName)) ∈ lw_all := lw_g (lw_at lw_m10 101 rfl) rfl
theorem q2389 : (Jvm.Cond.code ({ cls := "HungFacesModel", name := "bits", desc := "(I)I" } : Jvm.MethodName) prog_21_method_7_code (3 : Nat) (Option.some Jvm.ClassFile.FieldType.int)) ∈ lw_all := lw_g (lw_at lw_m10 102 rfl) rfl
theorem q2391 : (Jvm.Cond.instanceMethod ({ cls := "HungFacesModel", name := "graft", desc := "(III)I" } : Jvm.MethodName)) ∈ lw_all := lw_g (lw_at lw_m10 104 rfl) rfl
theorem q2392 : (Jvm.Cond.selects "HungFacesModel" ({ cls := "HungFacesModel", name := "graft", desc := "(III)I" } : Jvm.MethodName) ({ cls := "HungFacesModel", name := "graft", desc := "(III)I" } : Jvm.MethodName)) ∈ lw_all := lw_g (lw_at lw_m10 105 rfl) rfl
theorem q2393 : (Jvm.Cond.code ({ cls := "HungFacesModel", name := "graft", desc := "(III)I" } : Jvm.MethodName) prog_21_method_71_code (4 : Nat) (Option.some Jvm.ClassFile.FieldType.int)) ∈ lw_all := lw_g (lw_at lw_m10 106 rfl) rfl
theorem q2395 : (Jvm.Cond.instanceMethod ({ cls := "HungFacesModel", name := "meet", desc := "(II)I" } : Jvm.MethodName)) ∈ lw_all := lw_g (lw_at lw_m10 108 rfl) rfl
theorem q2396 : (Jvm.Cond.selects "HungFacesModel" ({ cls := "HungFacesModel", name := "meet", desc := "(II)I" } : Jvm.MethodName) ({ cls := "HungFacesModel", name := "meet", desc := "(II)I" } : Jvm.MethodName)) ∈ lw_all := lw_g (lw_at lw_m10 109 rfl) rfl
theorem q2397 : (Jvm.Cond.code ({ cls := "HungFacesModel", name := "meet", desc := "(II)I" } : Jvm.MethodName) prog_21_method_73_code (3 : Nat) (Option.some Jvm.ClassFile.FieldType.int)) ∈ lw_all := lw_g (lw_at lw_m10 110 rfl) rfl
theorem q2398 : (Jvm.Cond.methodLink "HungFacesModel" (291 : Nat) ({ cls := "HungFacesModel", name := "meets", desc := "(II)I" } : Jvm.MethodName)) ∈ lw_all := lw_g (lw_at lw_m10 111 rfl) rfl
theorem q2399 : (Jvm.Cond.privateMethod ({ cls := "HungFacesModel", name := "meets", desc := "(II)I" } : Jvm.MethodName)) ∈ lw_tbl := lw_at lw_m10 112 rfl
theorem q2400 : (Jvm.Cond.instanceMethod ({ cls := "HungFacesModel", name := "meets", desc := "(II)I" } : Jvm.MethodName)) ∈ lw_all := lw_g (lw_at lw_m10 113 rfl) rfl
theorem q2401 : (Jvm.Cond.code ({ cls := "HungFacesModel", name := "meets", desc := "(II)I" } : Jvm.MethodName) prog_21_method_72_code (4 : Nat) (Option.some Jvm.ClassFile.FieldType.int)) ∈ lw_all := lw_g (lw_at lw_m10 114 rfl) rfl
theorem q2403 : (Jvm.Cond.instanceMethod ({ cls := "HungFacesModel", name := "hours", desc := "(I)I" } : Jvm.MethodName)) ∈ lw_all := lw_g (lw_at lw_m10 116 rfl) rfl
theorem q2404 : (Jvm.Cond.selects "HungFacesModel" ({ cls := "HungFacesModel", name := "hours", desc := "(I)I" } : Jvm.MethodName) ({ cls := "HungFacesModel", name := "hours", desc := "(I)I" } : Jvm.MethodName)) ∈ lw_all := lw_g (lw_at lw_m10 117 rfl) rfl
theorem q2405 : (Jvm.Cond.code ({ cls := "HungFacesModel", name := "hours", desc := "(I)I" } : Jvm.MethodName) prog_21_method_80_code (2 : Nat) (Option.some Jvm.ClassFile.FieldType.int)) ∈ lw_all := lw_g (lw_at lw_m10 118 rfl) rfl
theorem q2406 : (Jvm.Cond.methodLink "HungFacesModel" (314 : Nat) ({ cls := "HungFacesModel", name := "goes", desc := "(I)I" } : Jvm.MethodName)) ∈ lw_all := lw_g (lw_at lw_m10 119 rfl) rfl
theorem q2407 : (Jvm.Cond.privateMethod ({ cls := "HungFacesModel", name := "goes", desc := "(I)I" } : Jvm.MethodName)) ∈ lw_tbl := lw_at lw_m10 120 rfl
theorem q2408 : (Jvm.Cond.instanceMethod ({ cls := "HungFacesModel", name := "goes", desc := "(I)I" } : Jvm.MethodName)) ∈ lw_all := lw_g (lw_at lw_m10 121 rfl) rfl
theorem q2409 : (Jvm.Cond.code ({ cls := "HungFacesModel", name := "goes", desc := "(I)I" } : Jvm.MethodName) prog_21_method_79_code (4 : Nat) (Option.some Jvm.ClassFile.FieldType.int)) ∈ lw_all := lw_g (lw_at lw_m10 122 rfl) rfl
theorem q2410 : (Jvm.Cond.methodLink "HungFacesModel" (312 : Nat) ({ cls := "HungFacesModel", name := "hour", desc := "()I" } : Jvm.MethodName)) ∈ lw_all := lw_g (lw_at lw_m10 123 rfl) rfl
theorem q2411 : (Jvm.Cond.privateMethod ({ cls := "HungFacesModel", name := "hour", desc := "()I" } : Jvm.MethodName)) ∈ lw_tbl := lw_at lw_m10 124 rfl
theorem q2412 : (Jvm.Cond.instanceMethod ({ cls := "HungFacesModel", name := "hour", desc := "()I" } : Jvm.MethodName)) ∈ lw_all := lw_g (lw_at lw_m10 125 rfl) rfl
theorem q2413 : (Jvm.Cond.code ({ cls := "HungFacesModel", name := "hour", desc := "()I" } : Jvm.MethodName) prog_21_method_78_code (6 : Nat) (Option.some Jvm.ClassFile.FieldType.int)) ∈ lw_all := lw_g (lw_at lw_m10 126 rfl) rfl
theorem q2414 : (Jvm.Cond.methodLink "HungFacesModel" (297 : Nat) ({ cls := "HungFacesModel", name := "asks", desc := "(I)V" } : Jvm.MethodName)) ∈ lw_all := lw_g (lw_at lw_m10 127 rfl) rfl
theorem q2415 : (Jvm.Cond.privateMethod ({ cls := "HungFacesModel", name := "asks", desc := "(I)V" } : Jvm.MethodName)) ∈ lw_tbl := lw_at lw_m10 128 rfl
theorem q2416 : (Jvm.Cond.instanceMethod ({ cls := "HungFacesModel", name := "asks", desc := "(I)V" } : Jvm.MethodName)) ∈ lw_all := lw_g (lw_at lw_m10 129 rfl) rfl
theorem q2417 : (Jvm.Cond.code ({ cls := "HungFacesModel", name := "asks", desc := "(I)V" } : Jvm.MethodName) prog_21_method_49_code (6 : Nat) (Option.none : Option Jvm.ClassFile.FieldType)) ∈ lw_all := lw_g (lw_at lw_m10 130 rfl) rfl
theorem q2418 : (Jvm.Cond.methodLink "HungFacesModel" (245 : Nat) ({ cls := "HungFacesModel", name := "hung", desc := "()I" } : Jvm.MethodName)) ∈ lw_all := lw_g (lw_at lw_m10 131 rfl) rfl
theorem q2419 : (Jvm.Cond.privateMethod ({ cls := "HungFacesModel", name := "hung", desc := "()I" } : Jvm.MethodName)) ∈ lw_tbl := lw_at lw_m10 132 rfl
theorem q2420 : (Jvm.Cond.instanceMethod ({ cls := "HungFacesModel", name := "hung", desc := "()I" } : Jvm.MethodName)) ∈ lw_all := lw_g (lw_at lw_m10 133 rfl) rfl
theorem q2421 : (Jvm.Cond.code ({ cls := "HungFacesModel", name := "hung", desc := "()I" } : Jvm.MethodName) prog_21_method_15_code (3 : Nat) (Option.some Jvm.ClassFile.FieldType.int)) ∈ lw_all := lw_g (lw_at lw_m10 134 rfl) rfl
theorem q2422 : (Jvm.Cond.methodLink "HungFacesModel" (300 : Nat) ({ cls := "HungFacesModel", name := "freeHook", desc := "()I" } : Jvm.MethodName)) ∈ lw_all := lw_g (lw_at lw_m10 135 rfl) rfl
theorem q2423 : (Jvm.Cond.privateMethod ({ cls := "HungFacesModel", name := "freeHook", desc := "()I" } : Jvm.MethodName)) ∈ lw_tbl := lw_at lw_m10 136 rfl
theorem q2424 : (Jvm.Cond.instanceMethod ({ cls := "HungFacesModel", name := "freeHook", desc := "()I" } : Jvm.MethodName)) ∈ lw_all := lw_g (lw_at lw_m10 137 rfl) rfl
theorem q2425 : (Jvm.Cond.code ({ cls := "HungFacesModel", name := "freeHook", desc := "()I" } : Jvm.MethodName) prog_21_method_74_code (2 : Nat) (Option.some Jvm.ClassFile.FieldType.int)) ∈ lw_all := lw_g (lw_at lw_m10 138 rfl) rfl
theorem q2426 : (Jvm.Cond.methodLink "HungFacesModel" (294 : Nat) ({ cls := "HungFacesModel", name := "draw", desc := "(I)I" } : Jvm.MethodName)) ∈ lw_all := lw_g (lw_at lw_m10 139 rfl) rfl
theorem q2427 : (Jvm.Cond.privateMethod ({ cls := "HungFacesModel", name := "draw", desc := "(I)I" } : Jvm.MethodName)) ∈ lw_tbl := lw_at lw_m10 140 rfl
theorem q2428 : (Jvm.Cond.instanceMethod ({ cls := "HungFacesModel", name := "draw", desc := "(I)I" } : Jvm.MethodName)) ∈ lw_all := lw_g (lw_at lw_m10 141 rfl) rfl
theorem q2429 : (Jvm.Cond.code ({ cls := "HungFacesModel", name := "draw", desc := "(I)I" } : Jvm.MethodName) prog_21_method_60_code (2 : Nat) (Option.some Jvm.ClassFile.FieldType.int)) ∈ lw_all := lw_g (lw_at lw_m10 142 rfl) rfl
theorem q2430 : (Jvm.Cond.constant "HungFacesModel" (271 : Nat) (1103515245 : Int32)) ∈ lw_all := lw_g (lw_at lw_m10 143 rfl) rfl
theorem q2431 : (Jvm.Cond.methodLink "HungFacesModel" (303 : Nat) ({ cls := "HungFacesModel", name := "holders", desc := "()I" } : Jvm.MethodName)) ∈ lw_all := lw_g (lw_at lw_m10 144 rfl) rfl
theorem q2432 : (Jvm.Cond.privateMethod ({ cls := "HungFacesModel", name := "holders", desc := "()I" } : Jvm.MethodName)) ∈ lw_tbl := lw_at lw_m10 145 rfl
theorem q2433 : (Jvm.Cond.instanceMethod ({ cls := "HungFacesModel", name := "holders", desc := "()I" } : Jvm.MethodName)) ∈ lw_all := lw_g (lw_at lw_m10 146 rfl) rfl
theorem q2434 : (Jvm.Cond.code ({ cls := "HungFacesModel", name := "holders", desc := "()I" } : Jvm.MethodName) prog_21_method_76_code (3 : Nat) (Option.some Jvm.ClassFile.FieldType.int)) ∈ lw_all := lw_g (lw_at lw_m10 147 rfl) rfl
theorem q2435 : (Jvm.Cond.methodLink "HungFacesModel" (306 : Nat) ({ cls := "HungFacesModel", name := "holder", desc := "(II)I" } : Jvm.MethodName)) ∈ lw_all := lw_g (lw_at lw_m10 148 rfl) rfl
theorem q2436 : (Jvm.Cond.privateMethod ({ cls := "HungFacesModel", name := "holder", desc := "(II)I" } : Jvm.MethodName)) ∈ lw_tbl := lw_at lw_m10 149 rfl
theorem q2437 : (Jvm.Cond.instanceMethod ({ cls := "HungFacesModel", name := "holder", desc := "(II)I" } : Jvm.MethodName)) ∈ lw_all := lw_g (lw_at lw_m10 150 rfl) rfl
theorem q2438 : (Jvm.Cond.code ({ cls := "HungFacesModel", name := "holder", desc := "(II)I" } : Jvm.MethodName) prog_21_method_75_code (5 : Nat) (Option.some Jvm.ClassFile.FieldType.int)) ∈ lw_all := lw_g (lw_at lw_m10 151 rfl) rfl
theorem q2439 : (Jvm.Cond.methodLink "HungFacesModel" (309 : Nat) ({ cls := "HungFacesModel", name := "robs", desc := "()V" } : Jvm.MethodName)) ∈ lw_all := lw_g (lw_at lw_m10 152 rfl) rfl
theorem q2440 : (Jvm.Cond.privateMethod ({ cls := "HungFacesModel", name := "robs", desc := "()V" } : Jvm.MethodName)) ∈ lw_tbl := lw_at lw_m10 153 rfl
theorem q2441 : (Jvm.Cond.instanceMethod ({ cls := "HungFacesModel", name := "robs", desc := "()V" } : Jvm.MethodName)) ∈ lw_all := lw_g (lw_at lw_m10 154 rfl) rfl
theorem q2442 : (Jvm.Cond.code ({ cls := "HungFacesModel", name := "robs", desc := "()V" } : Jvm.MethodName) prog_21_method_77_code (4 : Nat) (Option.none : Option Jvm.ClassFile.FieldType)) ∈ lw_all := lw_g (lw_at lw_m10 155 rfl) rfl
theorem q2444 : (Jvm.Cond.instanceMethod ({ cls := "HungFacesModel", name := "wrong", desc := "()I" } : Jvm.MethodName)) ∈ lw_all := lw_g (lw_at lw_m10 157 rfl) rfl
theorem q2445 : (Jvm.Cond.selects "HungFacesModel" ({ cls := "HungFacesModel", name := "wrong", desc := "()I" } : Jvm.MethodName) ({ cls := "HungFacesModel", name := "wrong", desc := "()I" } : Jvm.MethodName)) ∈ lw_all := lw_g (lw_at lw_m10 158 rfl) rfl
theorem q2446 : (Jvm.Cond.code ({ cls := "HungFacesModel", name := "wrong", desc := "()I" } : Jvm.MethodName) prog_21_method_82_code (1 : Nat) (Option.some Jvm.ClassFile.FieldType.int)) ∈ lw_all := lw_g (lw_at lw_m10 159 rfl) rfl
theorem q2447 : (Jvm.Cond.methodLink "HungFacesModel" (317 : Nat) ({ cls := "HungFacesModel", name := "wrongs", desc := "()I" } : Jvm.MethodName)) ∈ lw_all := lw_g (lw_at lw_m10 160 rfl) rfl
theorem q2448 : (Jvm.Cond.privateMethod ({ cls := "HungFacesModel", name := "wrongs", desc := "()I" } : Jvm.MethodName)) ∈ lw_tbl := lw_at lw_m10 161 rfl
theorem q2449 : (Jvm.Cond.instanceMethod ({ cls := "HungFacesModel", name := "wrongs", desc := "()I" } : Jvm.MethodName)) ∈ lw_all := lw_g (lw_at lw_m10 162 rfl) rfl
theorem q2450 : (Jvm.Cond.code ({ cls := "HungFacesModel", name := "wrongs", desc := "()I" } : Jvm.MethodName) prog_21_method_81_code (3 : Nat) (Option.some Jvm.ClassFile.FieldType.int)) ∈ lw_all := lw_g (lw_at lw_m10 163 rfl) rfl
theorem q2452 : (Jvm.Cond.instanceMethod ({ cls := "HungFacesModel", name := "lost", desc := "()I" } : Jvm.MethodName)) ∈ lw_all := lw_g (lw_at lw_m10 165 rfl) rfl
theorem q2453 : (Jvm.Cond.selects "HungFacesModel" ({ cls := "HungFacesModel", name := "lost", desc := "()I" } : Jvm.MethodName) ({ cls := "HungFacesModel", name := "lost", desc := "()I" } : Jvm.MethodName)) ∈ lw_all := lw_g (lw_at lw_m10 166 rfl) rfl
theorem q2454 : (Jvm.Cond.code ({ cls := "HungFacesModel", name := "lost", desc := "()I" } : Jvm.MethodName) prog_21_method_84_code (3 : Nat) (Option.some Jvm.ClassFile.FieldType.int)) ∈ lw_all := lw_g (lw_at lw_m10 167 rfl) rfl
theorem q2455 : (Jvm.Cond.methodLink "HungFacesModel" (320 : Nat) ({ cls := "HungFacesModel", name := "isLost", desc := "(I)Z" } : Jvm.MethodName)) ∈ lw_all := lw_g (lw_at lw_m10 168 rfl) rfl
theorem q2456 : (Jvm.Cond.privateMethod ({ cls := "HungFacesModel", name := "isLost", desc := "(I)Z" } : Jvm.MethodName)) ∈ lw_tbl := lw_at lw_m10 169 rfl
theorem q2457 : (Jvm.Cond.instanceMethod ({ cls := "HungFacesModel", name := "isLost", desc := "(I)Z" } : Jvm.MethodName)) ∈ lw_all := lw_g (lw_at lw_m10 170 rfl) rfl
theorem q2458 : (Jvm.Cond.code ({ cls := "HungFacesModel", name := "isLost", desc := "(I)Z" } : Jvm.MethodName) prog_21_method_83_code (2 : Nat) (Option.some Jvm.ClassFile.FieldType.boolean)) ∈ lw_all := lw_g (lw_at lw_m10 171 rfl) rfl
theorem q2460 : (Jvm.Cond.instanceMethod ({ cls := "HungFacesModel", name := "unclaimed", desc := "()I" } : Jvm.MethodName)) ∈ lw_all := lw_g (lw_at lw_m10 173 rfl) rfl
theorem q2461 : (Jvm.Cond.selects "HungFacesModel" ({ cls := "HungFacesModel", name := "unclaimed", desc := "()I" } : Jvm.MethodName) ({ cls := "HungFacesModel", name := "unclaimed", desc := "()I" } : Jvm.MethodName)) ∈ lw_all := lw_g (lw_at lw_m10 174 rfl) rfl
theorem q2462 : (Jvm.Cond.code ({ cls := "HungFacesModel", name := "unclaimed", desc := "()I" } : Jvm.MethodName) prog_21_method_85_code (3 : Nat) (Option.some Jvm.ClassFile.FieldType.int)) ∈ lw_all := lw_g (lw_at lw_m10 175 rfl) rfl
theorem q2464 : (Jvm.Cond.instanceMethod ({ cls := "HungFacesModel", name := "swaps", desc := "()I" } : Jvm.MethodName)) ∈ lw_all := lw_g (lw_at lw_m10 177 rfl) rfl
theorem q2465 : (Jvm.Cond.selects "HungFacesModel" ({ cls := "HungFacesModel", name := "swaps", desc := "()I" } : Jvm.MethodName) ({ cls := "HungFacesModel", name := "swaps", desc := "()I" } : Jvm.MethodName)) ∈ lw_all := lw_g (lw_at lw_m10 178 rfl) rfl
theorem q2466 : (Jvm.Cond.code ({ cls := "HungFacesModel", name := "swaps", desc := "()I" } : Jvm.MethodName) prog_21_method_87_code (4 : Nat) (Option.some Jvm.ClassFile.FieldType.int)) ∈ lw_all := lw_g (lw_at lw_m10 179 rfl) rfl
theorem q2467 : (Jvm.Cond.methodLink "HungFacesModel" (323 : Nat) ({ cls := "HungFacesModel", name := "comesRound", desc := "(I)Z" } : Jvm.MethodName)) ∈ lw_all := lw_g (lw_at lw_m10 180 rfl) rfl
theorem q2468 : (Jvm.Cond.privateMethod ({ cls := "HungFacesModel", name := "comesRound", desc := "(I)Z" } : Jvm.MethodName)) ∈ lw_tbl := lw_at lw_m10 181 rfl
theorem q2469 : (Jvm.Cond.instanceMethod ({ cls := "HungFacesModel", name := "comesRound", desc := "(I)Z" } : Jvm.MethodName)) ∈ lw_all := lw_g (lw_at lw_m10 182 rfl) rfl
theorem q2470 : (Jvm.Cond.code ({ cls := "HungFacesModel", name := "comesRound", desc := "(I)Z" } : Jvm.MethodName) prog_21_method_86_code (3 : Nat) (Option.some Jvm.ClassFile.FieldType.boolean)) ∈ lw_all := lw_g (lw_at lw_m10 183 rfl) rfl
theorem q2472 : (Jvm.Cond.instanceMethod ({ cls := "HungFacesModel", name := "saved", desc := "()I" } : Jvm.MethodName)) ∈ lw_all := lw_g (lw_at lw_m10 185 rfl) rfl
theorem q2473 : (Jvm.Cond.selects "HungFacesModel" ({ cls := "HungFacesModel", name := "saved", desc := "()I" } : Jvm.MethodName) ({ cls := "HungFacesModel", name := "saved", desc := "()I" } : Jvm.MethodName)) ∈ lw_all := lw_g (lw_at lw_m10 186 rfl) rfl
theorem q2474 : (Jvm.Cond.code ({ cls := "HungFacesModel", name := "saved", desc := "()I" } : Jvm.MethodName) prog_21_method_88_code (4 : Nat) (Option.some Jvm.ClassFile.FieldType.int)) ∈ lw_all := lw_g (lw_at lw_m10 187 rfl) rfl
theorem q2476 : (Jvm.Cond.instanceMethod ({ cls := "HungFacesModel", name := "marks", desc := "()I" } : Jvm.MethodName)) ∈ lw_all := lw_g (lw_at lw_m10 189 rfl) rfl
theorem q2477 : (Jvm.Cond.selects "HungFacesModel" ({ cls := "HungFacesModel", name := "marks", desc := "()I" } : Jvm.MethodName) ({ cls := "HungFacesModel", name := "marks", desc := "()I" } : Jvm.MethodName)) ∈ lw_all := lw_g (lw_at lw_m10 190 rfl) rfl
theorem q2478 : (Jvm.Cond.code ({ cls := "HungFacesModel", name := "marks", desc := "()I" } : Jvm.MethodName) prog_21_method_90_code (3 : Nat) (Option.some Jvm.ClassFile.FieldType.int)) ∈ lw_all := lw_g (lw_at lw_m10 191 rfl) rfl
theorem q2479 : (Jvm.Cond.methodLink "HungFacesModel" (326 : Nat) ({ cls := "HungFacesModel", name := "areUnlike", desc := "(I)Z" } : Jvm.MethodName)) ∈ lw_all := lw_g (lw_at lw_m10 192 rfl) rfl
theorem q2480 : (Jvm.Cond.privateMethod ({ cls := "HungFacesModel", name := "areUnlike", desc := "(I)Z" } : Jvm.MethodName)) ∈ lw_tbl := lw_at lw_m10 193 rfl
theorem q2481 : (Jvm.Cond.instanceMethod ({ cls := "HungFacesModel", name := "areUnlike", desc := "(I)Z" } : Jvm.MethodName)) ∈ lw_all := lw_g (lw_at lw_m10 194 rfl) rfl
theorem q2482 : (Jvm.Cond.code ({ cls := "HungFacesModel", name := "areUnlike", desc := "(I)Z" } : Jvm.MethodName) prog_21_method_89_code (4 : Nat) (Option.some Jvm.ClassFile.FieldType.boolean)) ∈ lw_all := lw_g (lw_at lw_m10 195 rfl) rfl
theorem q2484 : (Jvm.Cond.instanceMethod ({ cls := "HungFacesModel", name := "unknown", desc := "()I" } : Jvm.MethodName)) ∈ lw_all := lw_g (lw_at lw_m10 197 rfl) rfl
theorem q2485 : (Jvm.Cond.selects "HungFacesModel" ({ cls := "HungFacesModel", name := "unknown", desc := "()I" } : Jvm.MethodName) ({ cls := "HungFacesModel", name := "unknown", desc := "()I" } : Jvm.MethodName)) ∈ lw_all := lw_g (lw_at lw_m10 198 rfl) rfl
theorem q2486 : (Jvm.Cond.code ({ cls := "HungFacesModel", name := "unknown", desc := "()I" } : Jvm.MethodName) prog_21_method_91_code (4 : Nat) (Option.some Jvm.ClassFile.FieldType.int)) ∈ lw_all := lw_g (lw_at lw_m10 199 rfl) rfl
theorem q2488 : (Jvm.Cond.instanceMethod ({ cls := "HungFacesModel", name := "passes", desc := "(II)I" } : Jvm.MethodName)) ∈ lw_all := lw_g (lw_at lw_m10 201 rfl) rfl
theorem q2489 : (Jvm.Cond.selects "HungFacesModel" ({ cls := "HungFacesModel", name := "passes", desc := "(II)I" } : Jvm.MethodName) ({ cls := "HungFacesModel", name := "passes", desc := "(II)I" } : Jvm.MethodName)) ∈ lw_all := lw_g (lw_at lw_m10 202 rfl) rfl
theorem q2490 : (Jvm.Cond.code ({ cls := "HungFacesModel", name := "passes", desc := "(II)I" } : Jvm.MethodName) prog_21_method_92_code (5 : Nat) (Option.some Jvm.ClassFile.FieldType.int)) ∈ lw_all := lw_g (lw_at lw_m10 203 rfl) rfl
theorem q2492 : (Jvm.Cond.instanceMethod ({ cls := "HungFacesModel", name := "core", desc := "(I)I" } : Jvm.MethodName)) ∈ lw_all := lw_g (lw_at lw_m10 205 rfl) rfl
theorem q2493 : (Jvm.Cond.selects "HungFacesModel" ({ cls := "HungFacesModel", name := "core", desc := "(I)I" } : Jvm.MethodName) ({ cls := "HungFacesModel", name := "core", desc := "(I)I" } : Jvm.MethodName)) ∈ lw_all := lw_g (lw_at lw_m10 206 rfl) rfl
theorem q2494 : (Jvm.Cond.code ({ cls := "HungFacesModel", name := "core", desc := "(I)I" } : Jvm.MethodName) prog_21_method_95_code (2 : Nat) (Option.some Jvm.ClassFile.FieldType.int)) ∈ lw_all := lw_g (lw_at lw_m10 207 rfl) rfl
theorem q2495 : (Jvm.Cond.methodLink "HungFacesModel" (335 : Nat) ({ cls := "HungFacesModel", name := "trades", desc := "()V" } : Jvm.MethodName)) ∈ lw_all := lw_g (lw_at lw_m10 208 rfl) rfl
theorem q2496 : (Jvm.Cond.privateMethod ({ cls := "HungFacesModel", name := "trades", desc := "()V" } : Jvm.MethodName)) ∈ lw_tbl := lw_at lw_m10 209 rfl
theorem q2497 : (Jvm.Cond.instanceMethod ({ cls := "HungFacesModel", name := "trades", desc := "()V" } : Jvm.MethodName)) ∈ lw_all := lw_g (lw_at lw_m10 210 rfl) rfl
theorem q2498 : (Jvm.Cond.code ({ cls := "HungFacesModel", name := "trades", desc := "()V" } : Jvm.MethodName) prog_21_method_94_code (5 : Nat) (Option.none : Option Jvm.ClassFile.FieldType)) ∈ lw_all := lw_g (lw_at lw_m10 211 rfl) rfl
theorem q2499 : (Jvm.Cond.methodLink "HungFacesModel" (332 : Nat) ({ cls := "HungFacesModel", name := "pointsTo", desc := "(II)I" } : Jvm.MethodName)) ∈ lw_all := lw_g (lw_at lw_m10 212 rfl) rfl
theorem q2500 : (Jvm.Cond.privateMethod ({ cls := "HungFacesModel", name := "pointsTo", desc := "(II)I" } : Jvm.MethodName)) ∈ lw_tbl := lw_at lw_m10 213 rfl
theorem q2501 : (Jvm.Cond.instanceMethod ({ cls := "HungFacesModel", name := "pointsTo", desc := "(II)I" } : Jvm.MethodName)) ∈ lw_all := lw_g (lw_at lw_m10 214 rfl) rfl
theorem q2502 : (Jvm.Cond.code ({ cls := "HungFacesModel", name := "pointsTo", desc := "(II)I" } : Jvm.MethodName) prog_21_method_93_code (5 : Nat) (Option.some Jvm.ClassFile.FieldType.int)) ∈ lw_all := lw_g (lw_at lw_m10 215 rfl) rfl
theorem q2503 : (Jvm.Cond.methodLink "HungFacesModel" (329 : Nat) ({ cls := "HungFacesModel", name := "dear", desc := "(II)I" } : Jvm.MethodName)) ∈ lw_all := lw_g (lw_at lw_m10 216 rfl) rfl
theorem q2504 : (Jvm.Cond.privateMethod ({ cls := "HungFacesModel", name := "dear", desc := "(II)I" } : Jvm.MethodName)) ∈ lw_tbl := lw_at lw_m10 217 rfl
theorem q2505 : (Jvm.Cond.instanceMethod ({ cls := "HungFacesModel", name := "dear", desc := "(II)I" } : Jvm.MethodName)) ∈ lw_all := lw_g (lw_at lw_m10 218 rfl) rfl
theorem q2506 : (Jvm.Cond.code ({ cls := "HungFacesModel", name := "dear", desc := "(II)I" } : Jvm.MethodName) prog_21_method_55_code (4 : Nat) (Option.some Jvm.ClassFile.FieldType.int)) ∈ lw_all := lw_g (lw_at lw_m10 219 rfl) rfl
theorem q2508 : (Jvm.Cond.instanceMethod ({ cls := "HungFacesModel", name := "gains", desc := "()I" } : Jvm.MethodName)) ∈ lw_all := lw_g (lw_at lw_m10 221 rfl) rfl
theorem q2509 : (Jvm.Cond.selects "HungFacesModel" ({ cls := "HungFacesModel", name := "gains", desc := "()I" } : Jvm.MethodName) ({ cls := "HungFacesModel", name := "gains", desc := "()I" } : Jvm.MethodName)) ∈ lw_all := lw_g (lw_at lw_m10 222 rfl) rfl
theorem q2510 : (Jvm.Cond.code ({ cls := "HungFacesModel", name := "gains", desc := "()I" } : Jvm.MethodName) prog_21_method_96_code (3 : Nat) (Option.some Jvm.ClassFile.FieldType.int)) ∈ lw_all := lw_g (lw_at lw_m10 223 rfl) rfl
theorem q2512 : (Jvm.Cond.instanceMethod ({ cls := "HungFacesModel", name := "block", desc := "(I)Z" } : Jvm.MethodName)) ∈ lw_all := lw_g (lw_at lw_m10 225 rfl) rfl
theorem q2513 : (Jvm.Cond.selects "HungFacesModel" ({ cls := "HungFacesModel", name := "block", desc := "(I)Z" } : Jvm.MethodName) ({ cls := "HungFacesModel", name := "block", desc := "(I)Z" } : Jvm.MethodName)) ∈ lw_all := lw_g (lw_at lw_m10 226 rfl) rfl
theorem q2514 : (Jvm.Cond.code ({ cls := "HungFacesModel", name := "block", desc := "(I)Z" } : Jvm.MethodName) prog_21_method_97_code (6 : Nat) (Option.some Jvm.ClassFile.FieldType.boolean)) ∈ lw_all := lw_g (lw_at lw_m10 227 rfl) rfl
theorem q2515 : (Jvm.Cond.methodLink "HungFacesModel" (338 : Nat) ({ cls := "HungFacesModel", name := "hasDearer", desc := "(II)Z" } : Jvm.MethodName)) ∈ lw_all := lw_g (lw_at lw_m10 228 rfl) rfl
theorem q2516 : (Jvm.Cond.privateMethod ({ cls := "HungFacesModel", name := "hasDearer", desc := "(II)Z" } : Jvm.MethodName)) ∈ lw_tbl := lw_at lw_m10 229 rfl
theorem q2517 : (Jvm.Cond.instanceMethod ({ cls := "HungFacesModel", name := "hasDearer", desc := "(II)Z" } : Jvm.MethodName)) ∈ lw_all := lw_g (lw_at lw_m10 230 rfl) rfl
theorem q2518 : (Jvm.Cond.code ({ cls := "HungFacesModel", name := "hasDearer", desc := "(II)Z" } : Jvm.MethodName) prog_21_method_98_code (4 : Nat) (Option.some Jvm.ClassFile.FieldType.boolean)) ∈ lw_all := lw_g (lw_at lw_m10 231 rfl) rfl
theorem q2520 : (Jvm.Cond.instanceMethod ({ cls := "HungFacesModel", name := "fits", desc := "(I)I" } : Jvm.MethodName)) ∈ lw_all := lw_g (lw_at lw_m10 233 rfl) rfl
theorem q2521 : (Jvm.Cond.selects "HungFacesModel" ({ cls := "HungFacesModel", name := "fits", desc := "(I)I" } : Jvm.MethodName) ({ cls := "HungFacesModel", name := "fits", desc := "(I)I" } : Jvm.MethodName)) ∈ lw_all := lw_g (lw_at lw_m10 234 rfl) rfl
theorem q2522 : (Jvm.Cond.code ({ cls := "HungFacesModel", name := "fits", desc := "(I)I" } : Jvm.MethodName) prog_21_method_103_code (5 : Nat) (Option.some Jvm.ClassFile.FieldType.int)) ∈ lw_all := lw_g (lw_at lw_m10 235 rfl) rfl
theorem q2523 : (Jvm.Cond.methodLink "HungFacesModel" (350 : Nat) ({ cls := "HungFacesModel", name := "hears", desc := "()Z" } : Jvm.MethodName)) ∈ lw_all := lw_g (lw_at lw_m10 236 rfl) rfl
theorem q2524 : (Jvm.Cond.privateMethod ({ cls := "HungFacesModel", name := "hears", desc := "()Z" } : Jvm.MethodName)) ∈ lw_tbl := lw_at lw_m10 237 rfl
theorem q2525 : (Jvm.Cond.instanceMethod ({ cls := "HungFacesModel", name := "hears", desc := "()Z" } : Jvm.MethodName)) ∈ lw_all := lw_g (lw_at lw_m10 238 rfl) rfl
theorem q2526 : (Jvm.Cond.code ({ cls := "HungFacesModel", name := "hears", desc := "()Z" } : Jvm.MethodName) prog_21_method_99_code (4 : Nat) (Option.some Jvm.ClassFile.FieldType.boolean)) ∈ lw_all := lw_g (lw_at lw_m10 239 rfl) rfl
theorem q2527 : (Jvm.Cond.methodLink "HungFacesModel" (347 : Nat) ({ cls := "HungFacesModel", name := "owned", desc := "(I)I" } : Jvm.MethodName)) ∈ lw_all := lw_g (lw_at lw_m11 0 rfl) rfl
theorem q2528 : (Jvm.Cond.privateMethod ({ cls := "HungFacesModel", name := "owned", desc := "(I)I" } : Jvm.MethodName)) ∈ lw_tbl := lw_at lw_m11 1 rfl
theorem q2529 : (Jvm.Cond.instanceMethod ({ cls := "HungFacesModel", name := "owned", desc := "(I)I" } : Jvm.MethodName)) ∈ lw_all := lw_g (lw_at lw_m11 2 rfl) rfl
theorem q2530 : (Jvm.Cond.code ({ cls := "HungFacesModel", name := "owned", desc := "(I)I" } : Jvm.MethodName) prog_21_method_100_code (5 : Nat) (Option.some Jvm.ClassFile.FieldType.int)) ∈ lw_all := lw_g (lw_at lw_m11 3 rfl) rfl
theorem q2531 : (Jvm.Cond.methodLink "HungFacesModel" (344 : Nat) ({ cls := "HungFacesModel", name := "counts", desc := "()I" } : Jvm.MethodName)) ∈ lw_all := lw_g (lw_at lw_m11 4 rfl) rfl
theorem q2532 : (Jvm.Cond.privateMethod ({ cls := "HungFacesModel", name := "counts", desc := "()I" } : Jvm.MethodName)) ∈ lw_tbl := lw_at lw_m11 5 rfl
theorem q2533 : (Jvm.Cond.instanceMethod ({ cls := "HungFacesModel", name := "counts", desc := "()I" } : Jvm.MethodName)) ∈ lw_all := lw_g (lw_at lw_m11 6 rfl) rfl
theorem q2534 : (Jvm.Cond.code ({ cls := "HungFacesModel", name := "counts", desc := "()I" } : Jvm.MethodName) prog_21_method_101_code (6 : Nat) (Option.some Jvm.ClassFile.FieldType.int)) ∈ lw_all := lw_g (lw_at lw_m11 7 rfl) rfl
theorem q2535 : (Jvm.Cond.methodLink "HungFacesModel" (353 : Nat) ({ cls := "HungFacesModel", name := "waysOf", desc := "(II)I" } : Jvm.MethodName)) ∈ lw_all := lw_g (lw_at lw_m11 8 rfl) rfl
theorem q2536 : (Jvm.Cond.privateMethod ({ cls := "HungFacesModel", name := "waysOf", desc := "(II)I" } : Jvm.MethodName)) ∈ lw_tbl := lw_at lw_m11 9 rfl
theorem q2537 : (Jvm.Cond.instanceMethod ({ cls := "HungFacesModel", name := "waysOf", desc := "(II)I" } : Jvm.MethodName)) ∈ lw_all := lw_g (lw_at lw_m11 10 rfl) rfl
theorem q2538 : (Jvm.Cond.code ({ cls := "HungFacesModel", name := "waysOf", desc := "(II)I" } : Jvm.MethodName) prog_21_method_102_code (4 : Nat) (Option.some Jvm.ClassFile.FieldType.int)) ∈ lw_all := lw_g (lw_at lw_m11 11 rfl) rfl
theorem q2540 : (Jvm.Cond.instanceMethod ({ cls := "HungFacesModel", name := "ask", desc := "(I)I" } : Jvm.MethodName)) ∈ lw_all := lw_g (lw_at lw_m11 13 rfl) rfl
theorem q2541 : (Jvm.Cond.selects "HungFacesModel" ({ cls := "HungFacesModel", name := "ask", desc := "(I)I" } : Jvm.MethodName) ({ cls := "HungFacesModel", name := "ask", desc := "(I)I" } : Jvm.MethodName)) ∈ lw_all := lw_g (lw_at lw_m11 14 rfl) rfl
theorem q2542 : (Jvm.Cond.code ({ cls := "HungFacesModel", name := "ask", desc := "(I)I" } : Jvm.MethodName) prog_21_method_104_code (8 : Nat) (Option.some Jvm.ClassFile.FieldType.int)) ∈ lw_all := lw_g (lw_at lw_m11 15 rfl) rfl
theorem q2543 : (Jvm.Cond.constant "HungFacesModel" (356 : Nat) (2000000000 : Int32)) ∈ lw_all := lw_g (lw_at lw_m11 16 rfl) rfl
theorem q2545 : (Jvm.Cond.instanceMethod ({ cls := "HungFacesModel", name := "clash", desc := "()I" } : Jvm.MethodName)) ∈ lw_all := lw_g (lw_at lw_m11 18 rfl) rfl
theorem q2546 : (Jvm.Cond.selects "HungFacesModel" ({ cls := "HungFacesModel", name := "clash", desc := "()I" } : Jvm.MethodName) ({ cls := "HungFacesModel", name := "clash", desc := "()I" } : Jvm.MethodName)) ∈ lw_all := lw_g (lw_at lw_m11 19 rfl) rfl
theorem q2547 : (Jvm.Cond.code ({ cls := "HungFacesModel", name := "clash", desc := "()I" } : Jvm.MethodName) prog_21_method_105_code (4 : Nat) (Option.some Jvm.ClassFile.FieldType.int)) ∈ lw_all := lw_g (lw_at lw_m11 20 rfl) rfl
theorem q2549 : (Jvm.Cond.instanceMethod ({ cls := "HungFacesModel", name := "queue", desc := "(I)I" } : Jvm.MethodName)) ∈ lw_all := lw_g (lw_at lw_m11 22 rfl) rfl
theorem q2550 : (Jvm.Cond.selects "HungFacesModel" ({ cls := "HungFacesModel", name := "queue", desc := "(I)I" } : Jvm.MethodName) ({ cls := "HungFacesModel", name := "queue", desc := "(I)I" } : Jvm.MethodName)) ∈ lw_all := lw_g (lw_at lw_m11 23 rfl) rfl
theorem q2551 : (Jvm.Cond.code ({ cls := "HungFacesModel", name := "queue", desc := "(I)I" } : Jvm.MethodName) prog_21_method_109_code (11 : Nat) (Option.some Jvm.ClassFile.FieldType.int)) ∈ lw_all := lw_g (lw_at lw_m11 24 rfl) rfl
theorem q2552 : (Jvm.Cond.methodLink "HungFacesModel" (363 : Nat) ({ cls := "HungFacesModel", name := "serves", desc := "(I)V" } : Jvm.MethodName)) ∈ lw_all := lw_g (lw_at lw_m11 25 rfl) rfl
theorem q2553 : (Jvm.Cond.privateMethod ({ cls := "HungFacesModel", name := "serves", desc := "(I)V" } : Jvm.MethodName)) ∈ lw_tbl := lw_at lw_m11 26 rfl
theorem q2554 : (Jvm.Cond.instanceMethod ({ cls := "HungFacesModel", name := "serves", desc := "(I)V" } : Jvm.MethodName)) ∈ lw_all := lw_g (lw_at lw_m11 27 rfl) rfl
theorem q2555 : (Jvm.Cond.code ({ cls := "HungFacesModel", name := "serves", desc := "(I)V" } : Jvm.MethodName) prog_21_method_108_code (6 : Nat) (Option.none : Option Jvm.ClassFile.FieldType)) ∈ lw_all := lw_g (lw_at lw_m11 28 rfl) rfl
theorem q2556 : (Jvm.Cond.methodLink "HungFacesModel" (357 : Nat) ({ cls := "HungFacesModel", name := "step", desc := "(II)I" } : Jvm.MethodName)) ∈ lw_all := lw_g (lw_at lw_m11 29 rfl) rfl
theorem q2557 : (Jvm.Cond.privateMethod ({ cls := "HungFacesModel", name := "step", desc := "(II)I" } : Jvm.MethodName)) ∈ lw_tbl := lw_at lw_m11 30 rfl
theorem q2558 : (Jvm.Cond.instanceMethod ({ cls := "HungFacesModel", name := "step", desc := "(II)I" } : Jvm.MethodName)) ∈ lw_all := lw_g (lw_at lw_m11 31 rfl) rfl
theorem q2559 : (Jvm.Cond.code ({ cls := "HungFacesModel", name := "step", desc := "(II)I" } : Jvm.MethodName) prog_21_method_106_code (5 : Nat) (Option.some Jvm.ClassFile.FieldType.int)) ∈ lw_all := lw_g (lw_at lw_m11 32 rfl) rfl
theorem q2560 : (Jvm.Cond.methodLink "HungFacesModel" (360 : Nat) ({ cls := "HungFacesModel", name := "left", desc := "(II)I" } : Jvm.MethodName)) ∈ lw_all := lw_g (lw_at lw_m11 33 rfl) rfl
theorem q2561 : (Jvm.Cond.privateMethod ({ cls := "HungFacesModel", name := "left", desc := "(II)I" } : Jvm.MethodName)) ∈ lw_tbl := lw_at lw_m11 34 rfl
theorem q2562 : (Jvm.Cond.instanceMethod ({ cls := "HungFacesModel", name := "left", desc := "(II)I" } : Jvm.MethodName)) ∈ lw_all := lw_g (lw_at lw_m11 35 rfl) rfl
theorem q2563 : (Jvm.Cond.code ({ cls := "HungFacesModel", name := "left", desc := "(II)I" } : Jvm.MethodName) prog_21_method_107_code (3 : Nat) (Option.some Jvm.ClassFile.FieldType.int)) ∈ lw_all := lw_g (lw_at lw_m11 36 rfl) rfl
theorem q2565 : (Jvm.Cond.instanceMethod ({ cls := "HungFacesModel", name := "forged", desc := "(I)I" } : Jvm.MethodName)) ∈ lw_all := lw_g (lw_at lw_m11 38 rfl) rfl
theorem q2566 : (Jvm.Cond.selects "HungFacesModel" ({ cls := "HungFacesModel", name := "forged", desc := "(I)I" } : Jvm.MethodName) ({ cls := "HungFacesModel", name := "forged", desc := "(I)I" } : Jvm.MethodName)) ∈ lw_all := lw_g (lw_at lw_m11 39 rfl) rfl
theorem q2567 : (Jvm.Cond.code ({ cls := "HungFacesModel", name := "forged", desc := "(I)I" } : Jvm.MethodName) prog_21_method_111_code (5 : Nat) (Option.some Jvm.ClassFile.FieldType.int)) ∈ lw_all := lw_g (lw_at lw_m11 40 rfl) rfl
theorem q2568 : (Jvm.Cond.methodLink "HungFacesModel" (366 : Nat) ({ cls := "HungFacesModel", name := "marksOf", desc := "(I)I" } : Jvm.MethodName)) ∈ lw_all := lw_g (lw_at lw_m11 41 rfl) rfl
theorem q2569 : (Jvm.Cond.privateMethod ({ cls := "HungFacesModel", name := "marksOf", desc := "(I)I" } : Jvm.MethodName)) ∈ lw_tbl := lw_at lw_m11 42 rfl
theorem q2570 : (Jvm.Cond.instanceMethod ({ cls := "HungFacesModel", name := "marksOf", desc := "(I)I" } : Jvm.MethodName)) ∈ lw_all := lw_g (lw_at lw_m11 43 rfl) rfl
theorem q2571 : (Jvm.Cond.code ({ cls := "HungFacesModel", name := "marksOf", desc := "(I)I" } : Jvm.MethodName) prog_21_method_110_code (4 : Nat) (Option.some Jvm.ClassFile.FieldType.int)) ∈ lw_all := lw_g (lw_at lw_m11 44 rfl) rfl
theorem q2573 : (Jvm.Cond.instanceMethod ({ cls := "HungFacesModel", name := "ways", desc := "(I)I" } : Jvm.MethodName)) ∈ lw_all := lw_g (lw_at lw_m11 46 rfl) rfl
theorem q2574 : (Jvm.Cond.selects "HungFacesModel" ({ cls := "HungFacesModel", name := "ways", desc := "(I)I" } : Jvm.MethodName) ({ cls := "HungFacesModel", name := "ways", desc := "(I)I" } : Jvm.MethodName)) ∈ lw_all := lw_g (lw_at lw_m11 47 rfl) rfl
theorem q2575 : (Jvm.Cond.code ({ cls := "HungFacesModel", name := "ways", desc := "(I)I" } : Jvm.MethodName) prog_21_method_113_code (5 : Nat) (Option.some Jvm.ClassFile.FieldType.int)) ∈ lw_all := lw_g (lw_at lw_m11 48 rfl) rfl
theorem q2576 : (Jvm.Cond.methodLink "HungFacesModel" (369 : Nat) ({ cls := "HungFacesModel", name := "none", desc := "(I)I" } : Jvm.MethodName)) ∈ lw_all := lw_g (lw_at lw_m11 49 rfl) rfl
theorem q2577 : (Jvm.Cond.static ({ cls := "HungFacesModel", name := "none", desc := "(I)I" } : Jvm.MethodName)) ∈ lw_all := lw_g (lw_at lw_m11 50 rfl) rfl
theorem q2578 : (Jvm.Cond.code ({ cls := "HungFacesModel", name := "none", desc := "(I)I" } : Jvm.MethodName) prog_21_method_112_code (5 : Nat) (Option.some Jvm.ClassFile.FieldType.int)) ∈ lw_all := lw_g (lw_at lw_m11 51 rfl) rfl
theorem q2580 : (Jvm.Cond.instanceMethod ({ cls := "HungFacesModel", name := "talk", desc := "(I)I" } : Jvm.MethodName)) ∈ lw_all := lw_g (lw_at lw_m11 53 rfl) rfl
theorem q2581 : (Jvm.Cond.selects "HungFacesModel" ({ cls := "HungFacesModel", name := "talk", desc := "(I)I" } : Jvm.MethodName) ({ cls := "HungFacesModel", name := "talk", desc := "(I)I" } : Jvm.MethodName)) ∈ lw_all := lw_g (lw_at lw_m11 54 rfl) rfl
theorem q2582 : (Jvm.Cond.code ({ cls := "HungFacesModel", name := "talk", desc := "(I)I" } : Jvm.MethodName) prog_21_method_115_code (5 : Nat) (Option.some Jvm.ClassFile.FieldType.int)) ∈ lw_all := lw_g (lw_at lw_m11 55 rfl) rfl
theorem q2583 : (Jvm.Cond.methodLink "HungFacesModel" (372 : Nat) ({ cls := "HungFacesModel", name := "rowFrom", desc := "(I)I" } : Jvm.MethodName)) ∈ lw_all := lw_g (lw_at lw_m11 56 rfl) rfl
theorem q2584 : (Jvm.Cond.privateMethod ({ cls := "HungFacesModel", name := "rowFrom", desc := "(I)I" } : Jvm.MethodName)) ∈ lw_tbl := lw_at lw_m11 57 rfl
theorem q2585 : (Jvm.Cond.instanceMethod ({ cls := "HungFacesModel", name := "rowFrom", desc := "(I)I" } : Jvm.MethodName)) ∈ lw_all := lw_g (lw_at lw_m11 58 rfl) rfl
theorem q2586 : (Jvm.Cond.code ({ cls := "HungFacesModel", name := "rowFrom", desc := "(I)I" } : Jvm.MethodName) prog_21_method_114_code (3 : Nat) (Option.some Jvm.ClassFile.FieldType.int)) ∈ lw_all := lw_g (lw_at lw_m11 59 rfl) rfl
theorem q2588 : (Jvm.Cond.instanceMethod ({ cls := "HungFacesModel", name := "row", desc := "(Z)I" } : Jvm.MethodName)) ∈ lw_all := lw_g (lw_at lw_m11 61 rfl) rfl
theorem q2589 : (Jvm.Cond.selects "HungFacesModel" ({ cls := "HungFacesModel", name := "row", desc := "(Z)I" } : Jvm.MethodName) ({ cls := "HungFacesModel", name := "row", desc := "(Z)I" } : Jvm.MethodName)) ∈ lw_all := lw_g (lw_at lw_m11 62 rfl) rfl
theorem q2590 : (Jvm.Cond.code ({ cls := "HungFacesModel", name := "row", desc := "(Z)I" } : Jvm.MethodName) prog_21_method_116_code (5 : Nat) (Option.some Jvm.ClassFile.FieldType.int)) ∈ lw_all := lw_g (lw_at lw_m11 63 rfl) rfl
theorem q2592 : (Jvm.Cond.instanceMethod ({ cls := "HungFacesModel", name := "chain", desc := "(II)I" } : Jvm.MethodName)) ∈ lw_all := lw_g (lw_at lw_m11 65 rfl) rfl
theorem q2593 : (Jvm.Cond.selects "HungFacesModel" ({ cls := "HungFacesModel", name := "chain", desc := "(II)I" } : Jvm.MethodName) ({ cls := "HungFacesModel", name := "chain", desc := "(II)I" } : Jvm.MethodName)) ∈ lw_all := lw_g (lw_at lw_m11 66 rfl) rfl
theorem q2594 : (Jvm.Cond.code ({ cls := "HungFacesModel", name := "chain", desc := "(II)I" } : Jvm.MethodName) prog_21_method_117_code (6 : Nat) (Option.some Jvm.ClassFile.FieldType.int)) ∈ lw_all := lw_g (lw_at lw_m11 67 rfl) rfl
theorem q2596 : (Jvm.Cond.instanceMethod ({ cls := "HungFacesModel", name := "hears", desc := "(II)I" } : Jvm.MethodName)) ∈ lw_all := lw_g (lw_at lw_m11 69 rfl) rfl
theorem q2597 : (Jvm.Cond.selects "HungFacesModel" ({ cls := "HungFacesModel", name := "hears", desc := "(II)I" } : Jvm.MethodName) ({ cls := "HungFacesModel", name := "hears", desc := "(II)I" } : Jvm.MethodName)) ∈ lw_all := lw_g (lw_at lw_m11 70 rfl) rfl
theorem q2598 : (Jvm.Cond.code ({ cls := "HungFacesModel", name := "hears", desc := "(II)I" } : Jvm.MethodName) prog_21_method_118_code (7 : Nat) (Option.some Jvm.ClassFile.FieldType.int)) ∈ lw_all := lw_g (lw_at lw_m11 71 rfl) rfl
theorem q2600 : (Jvm.Cond.instanceMethod ({ cls := "HungFacesModel", name := "trial", desc := "(I)I" } : Jvm.MethodName)) ∈ lw_all := lw_g (lw_at lw_m11 73 rfl) rfl
theorem q2601 : (Jvm.Cond.selects "HungFacesModel" ({ cls := "HungFacesModel", name := "trial", desc := "(I)I" } : Jvm.MethodName) ({ cls := "HungFacesModel", name := "trial", desc := "(I)I" } : Jvm.MethodName)) ∈ lw_all := lw_g (lw_at lw_m11 74 rfl) rfl
theorem q2602 : (Jvm.Cond.code ({ cls := "HungFacesModel", name := "trial", desc := "(I)I" } : Jvm.MethodName) prog_21_method_120_code (2 : Nat) (Option.some Jvm.ClassFile.FieldType.int)) ∈ lw_all := lw_g (lw_at lw_m11 75 rfl) rfl
theorem q2603 : (Jvm.Cond.methodLink "HungFacesModel" (375 : Nat) ({ cls := "HungFacesModel", name := "tries", desc := "(I)I" } : Jvm.MethodName)) ∈ lw_all := lw_g (lw_at lw_m11 76 rfl) rfl
theorem q2604 : (Jvm.Cond.privateMethod ({ cls := "HungFacesModel", name := "tries", desc := "(I)I" } : Jvm.MethodName)) ∈ lw_tbl := lw_at lw_m11 77 rfl
theorem q2605 : (Jvm.Cond.instanceMethod ({ cls := "HungFacesModel", name := "tries", desc := "(I)I" } : Jvm.MethodName)) ∈ lw_all := lw_g (lw_at lw_m11 78 rfl) rfl
theorem q2606 : (Jvm.Cond.code ({ cls := "HungFacesModel", name := "tries", desc := "(I)I" } : Jvm.MethodName) prog_21_method_119_code (4 : Nat) (Option.some Jvm.ClassFile.FieldType.int)) ∈ lw_all := lw_g (lw_at lw_m11 79 rfl) rfl
theorem q2608 : (Jvm.Cond.instanceMethod ({ cls := "HungFacesModel", name := "span", desc := "(IZ)I" } : Jvm.MethodName)) ∈ lw_all := lw_g (lw_at lw_m11 81 rfl) rfl
theorem q2609 : (Jvm.Cond.selects "HungFacesModel" ({ cls := "HungFacesModel", name := "span", desc := "(IZ)I" } : Jvm.MethodName) ({ cls := "HungFacesModel", name := "span", desc := "(IZ)I" } : Jvm.MethodName)) ∈ lw_all := lw_g (lw_at lw_m11 82 rfl) rfl
theorem q2610 : (Jvm.Cond.code ({ cls := "HungFacesModel", name := "span", desc := "(IZ)I" } : Jvm.MethodName) prog_21_method_121_code (6 : Nat) (Option.some Jvm.ClassFile.FieldType.int)) ∈ lw_all := lw_g (lw_at lw_m11 83 rfl) rfl
theorem q2612 : (Jvm.Cond.instanceMethod ({ cls := "HungFacesModel", name := "led", desc := "(IZ)I" } : Jvm.MethodName)) ∈ lw_all := lw_g (lw_at lw_m11 85 rfl) rfl
theorem q2613 : (Jvm.Cond.selects "HungFacesModel" ({ cls := "HungFacesModel", name := "led", desc := "(IZ)I" } : Jvm.MethodName) ({ cls := "HungFacesModel", name := "led", desc := "(IZ)I" } : Jvm.MethodName)) ∈ lw_all := lw_g (lw_at lw_m11 86 rfl) rfl
theorem q2614 : (Jvm.Cond.code ({ cls := "HungFacesModel", name := "led", desc := "(IZ)I" } : Jvm.MethodName) prog_21_method_123_code (6 : Nat) (Option.some Jvm.ClassFile.FieldType.int)) ∈ lw_all := lw_g (lw_at lw_m11 87 rfl) rfl
theorem q2615 : (Jvm.Cond.methodLink "HungFacesModel" (378 : Nat) ({ cls := "HungFacesModel", name := "logged", desc := "(II)I" } : Jvm.MethodName)) ∈ lw_all := lw_g (lw_at lw_m11 88 rfl) rfl
theorem q2616 : (Jvm.Cond.privateMethod ({ cls := "HungFacesModel", name := "logged", desc := "(II)I" } : Jvm.MethodName)) ∈ lw_tbl := lw_at lw_m11 89 rfl
theorem q2617 : (Jvm.Cond.instanceMethod ({ cls := "HungFacesModel", name := "logged", desc := "(II)I" } : Jvm.MethodName)) ∈ lw_all := lw_g (lw_at lw_m11 90 rfl) rfl
theorem q2618 : (Jvm.Cond.code ({ cls := "HungFacesModel", name := "logged", desc := "(II)I" } : Jvm.MethodName) prog_21_method_122_code (3 : Nat) (Option.some Jvm.ClassFile.FieldType.int)) ∈ lw_all := lw_g (lw_at lw_m11 91 rfl) rfl
theorem q2620 : (Jvm.Cond.instanceMethod ({ cls := "HungFacesModel", name := "log", desc := "(II)I" } : Jvm.MethodName)) ∈ lw_all := lw_g (lw_at lw_m11 93 rfl) rfl
theorem q2621 : (Jvm.Cond.selects "HungFacesModel" ({ cls := "HungFacesModel", name := "log", desc := "(II)I" } : Jvm.MethodName) ({ cls := "HungFacesModel", name := "log", desc := "(II)I" } : Jvm.MethodName)) ∈ lw_all := lw_g (lw_at lw_m11 94 rfl) rfl
theorem q2622 : (Jvm.Cond.code ({ cls := "HungFacesModel", name := "log", desc := "(II)I" } : Jvm.MethodName) prog_21_method_124_code (3 : Nat) (Option.some Jvm.ClassFile.FieldType.int)) ∈ lw_all := lw_g (lw_at lw_m11 95 rfl) rfl
theorem q2624 : (Jvm.Cond.instanceMethod ({ cls := "HungFacesModel", name := "seed", desc := "(I)I" } : Jvm.MethodName)) ∈ lw_all := lw_g (lw_at lw_m11 97 rfl) rfl
theorem q2625 : (Jvm.Cond.selects "HungFacesModel" ({ cls := "HungFacesModel", name := "seed", desc := "(I)I" } : Jvm.MethodName) ({ cls := "HungFacesModel", name := "seed", desc := "(I)I" } : Jvm.MethodName)) ∈ lw_all := lw_g (lw_at lw_m11 98 rfl) rfl
theorem q2626 : (Jvm.Cond.code ({ cls := "HungFacesModel", name := "seed", desc := "(I)I" } : Jvm.MethodName) prog_21_method_125_code (3 : Nat) (Option.some Jvm.ClassFile.FieldType.int)) ∈ lw_all := lw_g (lw_at lw_m11 99 rfl) rfl
theorem q2628 : (Jvm.Cond.instanceMethod ({ cls := "HungFacesModel", name := "undo", desc := "()Z" } : Jvm.MethodName)) ∈ lw_all := lw_g (lw_at lw_m11 101 rfl) rfl
theorem q2629 : (Jvm.Cond.selects "HungFacesModel" ({ cls := "HungFacesModel", name := "undo", desc := "()Z" } : Jvm.MethodName) ({ cls := "HungFacesModel", name := "undo", desc := "()Z" } : Jvm.MethodName)) ∈ lw_all := lw_g (lw_at lw_m11 102 rfl) rfl
theorem q2630 : (Jvm.Cond.code ({ cls := "HungFacesModel", name := "undo", desc := "()Z" } : Jvm.MethodName) prog_21_method_126_code (2 : Nat) (Option.some Jvm.ClassFile.FieldType.boolean)) ∈ lw_all := lw_g (lw_at lw_m11 103 rfl) rfl
theorem q2632 : (Jvm.Cond.instanceMethod ({ cls := "HungFacesModel", name := "image", desc := "()V" } : Jvm.MethodName)) ∈ lw_all := lw_g (lw_at lw_m11 105 rfl) rfl
theorem q2633 : (Jvm.Cond.selects "HungFacesModel" ({ cls := "HungFacesModel", name := "image", desc := "()V" } : Jvm.MethodName) ({ cls := "HungFacesModel", name := "image", desc := "()V" } : Jvm.MethodName)) ∈ lw_all := lw_g (lw_at lw_m11 106 rfl) rfl
theorem q2634 : (Jvm.Cond.code ({ cls := "HungFacesModel", name := "image", desc := "()V" } : Jvm.MethodName) prog_21_method_127_code (2 : Nat) (Option.none : Option Jvm.ClassFile.FieldType)) ∈ lw_all := lw_g (lw_at lw_m11 107 rfl) rfl
theorem q2636 : (Jvm.Cond.instanceMethod ({ cls := "HungFacesModel", name := "back", desc := "()Z" } : Jvm.MethodName)) ∈ lw_all := lw_g (lw_at lw_m11 109 rfl) rfl
theorem q2637 : (Jvm.Cond.selects "HungFacesModel" ({ cls := "HungFacesModel", name := "back", desc := "()Z" } : Jvm.MethodName) ({ cls := "HungFacesModel", name := "back", desc := "()Z" } : Jvm.MethodName)) ∈ lw_all := lw_g (lw_at lw_m11 110 rfl) rfl
theorem q2638 : (Jvm.Cond.code ({ cls := "HungFacesModel", name := "back", desc := "()Z" } : Jvm.MethodName) prog_21_method_128_code (2 : Nat) (Option.some Jvm.ClassFile.FieldType.boolean)) ∈ lw_all := lw_g (lw_at lw_m11 111 rfl) rfl
theorem q2640 : (Jvm.Cond.instanceMethod ({ cls := "HungFacesModel", name := "count", desc := "(I)I" } : Jvm.MethodName)) ∈ lw_all := lw_g (lw_at lw_m11 113 rfl) rfl
theorem q2641 : (Jvm.Cond.selects "HungFacesModel" ({ cls := "HungFacesModel", name := "count", desc := "(I)I" } : Jvm.MethodName) ({ cls := "HungFacesModel", name := "count", desc := "(I)I" } : Jvm.MethodName)) ∈ lw_all := lw_g (lw_at lw_m11 114 rfl) rfl
theorem q2642 : (Jvm.Cond.code ({ cls := "HungFacesModel", name := "count", desc := "(I)I" } : Jvm.MethodName) prog_21_method_130_code (2 : Nat) (Option.some Jvm.ClassFile.FieldType.int)) ∈ lw_all := lw_g (lw_at lw_m11 115 rfl) rfl
theorem q2643 : (Jvm.Cond.methodLink "HungFacesModel" (384 : Nat) ({ cls := "HungFacesModel", name := "marksNow", desc := "()I" } : Jvm.MethodName)) ∈ lw_all := lw_g (lw_at lw_m11 116 rfl) rfl
theorem q2644 : (Jvm.Cond.privateMethod ({ cls := "HungFacesModel", name := "marksNow", desc := "()I" } : Jvm.MethodName)) ∈ lw_tbl := lw_at lw_m11 117 rfl
theorem q2645 : (Jvm.Cond.instanceMethod ({ cls := "HungFacesModel", name := "marksNow", desc := "()I" } : Jvm.MethodName)) ∈ lw_all := lw_g (lw_at lw_m11 118 rfl) rfl
theorem q2646 : (Jvm.Cond.code ({ cls := "HungFacesModel", name := "marksNow", desc := "()I" } : Jvm.MethodName) prog_21_method_129_code (3 : Nat) (Option.some Jvm.ClassFile.FieldType.int)) ∈ lw_all := lw_g (lw_at lw_m11 119 rfl) rfl
theorem q2669 : (Jvm.Cond.castable "HungFacesModel" "java/lang/Object") ∈ lw_tbl := lw_at lw_m11 142 rfl
theorem in_X8 : ∀ w ∈ wsX80, w ∈ lw_all := lw_in wsX80 [2050, 2052, 2054, 2056, 2058, 2060, 2062, 2064, 2066, 2068, 2070, 2072, 2074, 2076, 2078, 2080, 2082, 2084, 2086, 2088, 2090, 2092, 2094, 2096, 2098, 2100] (by decide +kernel) (by decide +kernel)
theorem q141 : (Jvm.Cond.initialized "java/lang/AbstractStringBuilder") ∈ lw_all := lw_g (lw_at lw_m1 14 rfl) rfl
theorem q751 : (Jvm.Cond.instanceMethod ({ cls := "java/lang/AbstractStringBuilder", name := "<init>", desc := "(I)V" } : Jvm.MethodName)) ∈ lw_all := lw_g (lw_at lw_m3 144 rfl) rfl
theorem q752 : (Jvm.Cond.code ({ cls := "java/lang/AbstractStringBuilder", name := "<init>", desc := "(I)V" } : Jvm.MethodName) prog_23_method_2_code (2 : Nat) (Option.none : Option Jvm.ClassFile.FieldType)) ∈ lw_all := lw_g (lw_at lw_m3 145 rfl) rfl
theorem q753 : (Jvm.Cond.methodLink "java/lang/AbstractStringBuilder" (3 : Nat) ({ cls := "java/lang/Object", name := "<init>", desc := "()V" } : Jvm.MethodName)) ∈ lw_all := lw_g (lw_at lw_m3 146 rfl) rfl
theorem q754 : (Jvm.Cond.fieldLink "java/lang/AbstractStringBuilder" (18 : Nat) "java/lang/String" "COMPACT_STRINGS" "Z") ∈ lw_all := lw_g (lw_at lw_m3 147 rfl) rfl
theorem q756 : (Jvm.Cond.methodLink "java/lang/AbstractStringBuilder" (26 : Nat) ({ cls := "java/lang/StringUTF16", name := "newBytesFor", desc := "(I)[B" } : Jvm.MethodName)) ∈ lw_all := lw_g (lw_at lw_m3 149 rfl) rfl
theorem q763 : (Jvm.Cond.fieldLink "java/lang/AbstractStringBuilder" (15 : Nat) "java/lang/AbstractStringBuilder" "value" "[B") ∈ lw_all := lw_g (lw_at lw_m3 156 rfl) rfl
theorem q764 : (Jvm.Cond.fieldLink "java/lang/AbstractStringBuilder" (22 : Nat) "java/lang/AbstractStringBuilder" "coder" "B") ∈ lw_all := lw_g (lw_at lw_m3 157 rfl) rfl
theorem q766 : (Jvm.Cond.fieldLink "java/lang/AbstractStringBuilder" (79 : Nat) "java/lang/AbstractStringBuilder" "count" "I") ∈ lw_all := lw_g (lw_at lw_m3 159 rfl) rfl
theorem q768 : (Jvm.Cond.soleField "java/lang/AbstractStringBuilder" "value") ∈ lw_all := lw_g (lw_at lw_m3 161 rfl) rfl
theorem q770 : (Jvm.Cond.soleField "java/lang/AbstractStringBuilder" "coder") ∈ lw_all := lw_g (lw_at lw_m3 163 rfl) rfl
theorem q772 : (Jvm.Cond.soleField "java/lang/AbstractStringBuilder" "maybeLatin1") ∈ lw_all := lw_g (lw_at lw_m3 165 rfl) rfl
theorem q774 : (Jvm.Cond.soleField "java/lang/AbstractStringBuilder" "count") ∈ lw_all := lw_g (lw_at lw_m3 167 rfl) rfl
theorem q781 : (Jvm.Cond.instanceMethod ({ cls := "java/lang/AbstractStringBuilder", name := "append", desc := "(C)Ljava/lang/AbstractStringBuilder;" } : Jvm.MethodName)) ∈ lw_all := lw_g (lw_at lw_m3 174 rfl) rfl
theorem q782 : (Jvm.Cond.code ({ cls := "java/lang/AbstractStringBuilder", name := "append", desc := "(C)Ljava/lang/AbstractStringBuilder;" } : Jvm.MethodName) prog_23_method_31_code (2 : Nat) (Option.some (Jvm.ClassFile.FieldType.object "java/lang/AbstractStringBuilder"))) ∈ lw_all := lw_g (lw_at lw_m3 175 rfl) rfl
theorem q783 : (Jvm.Cond.methodLink "java/lang/AbstractStringBuilder" (100 : Nat) ({ cls := "java/lang/AbstractStringBuilder", name := "ensureCapacityInternal", desc := "(I)V" } : Jvm.MethodName)) ∈ lw_all := lw_g (lw_at lw_m3 176 rfl) rfl
theorem q784 : (Jvm.Cond.privateMethod ({ cls := "java/lang/AbstractStringBuilder", name := "ensureCapacityInternal", desc := "(I)V" } : Jvm.MethodName)) ∈ lw_tbl := lw_at lw_m3 177 rfl
theorem q785 : (Jvm.Cond.instanceMethod ({ cls := "java/lang/AbstractStringBuilder", name := "ensureCapacityInternal", desc := "(I)V" } : Jvm.MethodName)) ∈ lw_all := lw_g (lw_at lw_m3 178 rfl) rfl
theorem q786 : (Jvm.Cond.code ({ cls := "java/lang/AbstractStringBuilder", name := "ensureCapacityInternal", desc := "(I)V" } : Jvm.MethodName) prog_23_method_9_code (3 : Nat) (Option.none : Option Jvm.ClassFile.FieldType)) ∈ lw_all := lw_g (lw_at lw_m3 179 rfl) rfl
theorem q787 : (Jvm.Cond.methodLink "java/lang/AbstractStringBuilder" (104 : Nat) ({ cls := "java/lang/AbstractStringBuilder", name := "newCapacity", desc := "(I)I" } : Jvm.MethodName)) ∈ lw_all := lw_g (lw_at lw_m3 180 rfl) rfl
theorem q788 : (Jvm.Cond.privateMethod ({ cls := "java/lang/AbstractStringBuilder", name := "newCapacity", desc := "(I)I" } : Jvm.MethodName)) ∈ lw_tbl := lw_at lw_m3 181 rfl
theorem q789 : (Jvm.Cond.instanceMethod ({ cls := "java/lang/AbstractStringBuilder", name := "newCapacity", desc := "(I)I" } : Jvm.MethodName)) ∈ lw_all := lw_g (lw_at lw_m3 182 rfl) rfl
theorem q790 : (Jvm.Cond.code ({ cls := "java/lang/AbstractStringBuilder", name := "newCapacity", desc := "(I)I" } : Jvm.MethodName) prog_23_method_10_code (6 : Nat) (Option.some Jvm.ClassFile.FieldType.int)) ∈ lw_all := lw_g (lw_at lw_m3 183 rfl) rfl
theorem q791 : (Jvm.Cond.methodLink "java/lang/AbstractStringBuilder" (114 : Nat) ({ cls := "jdk/internal/util/ArraysSupport", name := "newLength", desc := "(III)I" } : Jvm.MethodName)) ∈ lw_all := lw_g (lw_at lw_m3 184 rfl) rfl
theorem q801 : (Jvm.Cond.constant "java/lang/AbstractStringBuilder" (39 : Nat) (2147483647 : Int32)) ∈ lw_all := lw_g (lw_at lw_m3 194 rfl) rfl
theorem q802 : (Jvm.Cond.methodLink "java/lang/AbstractStringBuilder" (108 : Nat) ({ cls := "java/util/Arrays", name := "copyOf", desc := "([BI)[B" } : Jvm.MethodName)) ∈ lw_all := lw_g (lw_at lw_m3 195 rfl) rfl
theorem q814 : (Jvm.Cond.methodLink "java/lang/AbstractStringBuilder" (83 : Nat) ({ cls := "java/lang/AbstractStringBuilder", name := "isLatin1", desc := "()Z" } : Jvm.MethodName)) ∈ lw_all := lw_g (lw_at lw_m3 207 rfl) rfl
theorem q815 : (Jvm.Cond.instanceMethod ({ cls := "java/lang/AbstractStringBuilder", name := "isLatin1", desc := "()Z" } : Jvm.MethodName)) ∈ lw_all := lw_g (lw_at lw_m3 208 rfl) rfl
theorem q816 : (Jvm.Cond.sameMethod "java/lang/AbstractStringBuilder" "java/lang/AbstractStringBuilder" "isLatin1" "()Z") ∈ lw_all := lw_g (lw_at lw_m3 209 rfl) rfl
theorem q818 : (Jvm.Cond.code ({ cls := "java/lang/AbstractStringBuilder", name := "isLatin1", desc := "()Z" } : Jvm.MethodName) prog_23_method_68_code (1 : Nat) (Option.some Jvm.ClassFile.FieldType.boolean)) ∈ lw_all := lw_g (lw_at lw_m3 211 rfl) rfl
theorem q819 : (Jvm.Cond.methodLink "java/lang/AbstractStringBuilder" (191 : Nat) ({ cls := "java/lang/StringLatin1", name := "canEncode", desc := "(C)Z" } : Jvm.MethodName)) ∈ lw_all := lw_g (lw_at lw_m3 212 rfl) rfl
theorem q822 : (Jvm.Cond.methodLink "java/lang/AbstractStringBuilder" (195 : Nat) ({ cls := "java/lang/AbstractStringBuilder", name := "inflate", desc := "()V" } : Jvm.MethodName)) ∈ lw_all := lw_g (lw_at lw_m3 215 rfl) rfl
theorem q823 : (Jvm.Cond.privateMethod ({ cls := "java/lang/AbstractStringBuilder", name := "inflate", desc := "()V" } : Jvm.MethodName)) ∈ lw_tbl := lw_at lw_m3 216 rfl
theorem q824 : (Jvm.Cond.instanceMethod ({ cls := "java/lang/AbstractStringBuilder", name := "inflate", desc := "()V" } : Jvm.MethodName)) ∈ lw_all := lw_g (lw_at lw_m3 217 rfl) rfl
theorem q825 : (Jvm.Cond.code ({ cls := "java/lang/AbstractStringBuilder", name := "inflate", desc := "()V" } : Jvm.MethodName) prog_23_method_11_code (2 : Nat) (Option.none : Option Jvm.ClassFile.FieldType)) ∈ lw_all := lw_g (lw_at lw_m3 218 rfl) rfl
theorem q826 : (Jvm.Cond.methodLink "java/lang/AbstractStringBuilder" (125 : Nat) ({ cls := "java/lang/StringLatin1", name := "inflate", desc := "([BI[BII)V" } : Jvm.MethodName)) ∈ lw_all := lw_g (lw_at lw_m3 219 rfl) rfl
theorem q855 : (Jvm.Cond.methodLink "java/lang/AbstractStringBuilder" (197 : Nat) ({ cls := "java/lang/StringUTF16", name := "putCharSB", desc := "([BII)V" } : Jvm.MethodName)) ∈ lw_all := lw_g (lw_at lw_m4 8 rfl) rfl
theorem q879 : (Jvm.Cond.instanceMethod ({ cls := "java/lang/AbstractStringBuilder", name := "getValue", desc := "()[B" } : Jvm.MethodName)) ∈ lw_all := lw_g (lw_at lw_m4 32 rfl) rfl
theorem q880 : (Jvm.Cond.sameMethod "java/lang/AbstractStringBuilder" "java/lang/AbstractStringBuilder" "getValue" "()[B") ∈ lw_all := lw_g (lw_at lw_m4 33 rfl) rfl
theorem q882 : (Jvm.Cond.code ({ cls := "java/lang/AbstractStringBuilder", name := "getValue", desc := "()[B" } : Jvm.MethodName) prog_23_method_64_code (1 : Nat) (Option.some (Jvm.ClassFile.FieldType.array Jvm.ClassFile.FieldType.byte))) ∈ lw_all := lw_g (lw_at lw_m4 35 rfl) rfl
theorem q884 : (Jvm.Cond.instanceMethod ({ cls := "java/lang/AbstractStringBuilder", name := "length", desc := "()I" } : Jvm.MethodName)) ∈ lw_all := lw_g (lw_at lw_m4 37 rfl) rfl
theorem q885 : (Jvm.Cond.sameMethod "java/lang/AbstractStringBuilder" "java/lang/AbstractStringBuilder" "length" "()I") ∈ lw_all := lw_g (lw_at lw_m4 38 rfl) rfl
theorem q890 : (Jvm.Cond.code ({ cls := "java/lang/AbstractStringBuilder", name := "length", desc := "()I" } : Jvm.MethodName) prog_23_method_6_code (1 : Nat) (Option.some Jvm.ClassFile.FieldType.int)) ∈ lw_all := lw_g (lw_at lw_m4 43 rfl) rfl
theorem q953 : (Jvm.Cond.instanceMethod ({ cls := "java/lang/AbstractStringBuilder", name := "append", desc := "(I)Ljava/lang/AbstractStringBuilder;" } : Jvm.MethodName)) ∈ lw_all := lw_g (lw_at lw_m4 106 rfl) rfl
theorem q954 : (Jvm.Cond.code ({ cls := "java/lang/AbstractStringBuilder", name := "append", desc := "(I)Ljava/lang/AbstractStringBuilder;" } : Jvm.MethodName) prog_23_method_32_code (4 : Nat) (Option.some (Jvm.ClassFile.FieldType.object "java/lang/AbstractStringBuilder"))) ∈ lw_all := lw_g (lw_at lw_m4 107 rfl) rfl
theorem q955 : (Jvm.Cond.methodLink "java/lang/AbstractStringBuilder" (245 : Nat) ({ cls := "java/lang/Integer", name := "stringSize", desc := "(I)I" } : Jvm.MethodName)) ∈ lw_all := lw_g (lw_at lw_m4 108 rfl) rfl
theorem q958 : (Jvm.Cond.methodLink "java/lang/AbstractStringBuilder" (248 : Nat) ({ cls := "java/lang/Integer", name := "getChars", desc := "(II[B)I" } : Jvm.MethodName)) ∈ lw_all := lw_g (lw_at lw_m4 111 rfl) rfl
theorem q965 : (Jvm.Cond.methodLink "java/lang/AbstractStringBuilder" (251 : Nat) ({ cls := "java/lang/StringUTF16", name := "getChars", desc := "(III[B)I" } : Jvm.MethodName)) ∈ lw_all := lw_g (lw_at lw_m4 118 rfl) rfl
theorem q988 : (Jvm.Cond.instanceMethod ({ cls := "java/lang/AbstractStringBuilder", name := "append", desc := "(Ljava/lang/String;)Ljava/lang/AbstractStringBuilder;" } : Jvm.MethodName)) ∈ lw_all := lw_g (lw_at lw_m4 141 rfl) rfl
theorem q989 : (Jvm.Cond.code ({ cls := "java/lang/AbstractStringBuilder", name := "append", desc := "(Ljava/lang/String;)Ljava/lang/AbstractStringBuilder;" } : Jvm.MethodName) prog_23_method_22_code (3 : Nat) (Option.some (Jvm.ClassFile.FieldType.object "java/lang/AbstractStringBuilder"))) ∈ lw_all := lw_g (lw_at lw_m4 142 rfl) rfl
theorem q990 : (Jvm.Cond.methodLink "java/lang/AbstractStringBuilder" (204 : Nat) ({ cls := "java/lang/AbstractStringBuilder", name := "appendNull", desc := "()Ljava/lang/AbstractStringBuilder;" } : Jvm.MethodName)) ∈ lw_all := lw_g (lw_at lw_m4 143 rfl) rfl
theorem q991 : (Jvm.Cond.privateMethod ({ cls := "java/lang/AbstractStringBuilder", name := "appendNull", desc := "()Ljava/lang/AbstractStringBuilder;" } : Jvm.MethodName)) ∈ lw_tbl := lw_at lw_m4 144 rfl
theorem q992 : (Jvm.Cond.instanceMethod ({ cls := "java/lang/AbstractStringBuilder", name := "appendNull", desc := "()Ljava/lang/AbstractStringBuilder;" } : Jvm.MethodName)) ∈ lw_all := lw_g (lw_at lw_m4 145 rfl) rfl
theorem q993 : (Jvm.Cond.code ({ cls := "java/lang/AbstractStringBuilder", name := "appendNull", desc := "()Ljava/lang/AbstractStringBuilder;" } : Jvm.MethodName) prog_23_method_26_code (3 : Nat) (Option.some (Jvm.ClassFile.FieldType.object "java/lang/AbstractStringBuilder"))) ∈ lw_all := lw_g (lw_at lw_m4 146 rfl) rfl
theorem q994 : (Jvm.Cond.methodLink "java/lang/AbstractStringBuilder" (226 : Nat) ({ cls := "java/lang/StringUTF16", name := "putCharsAt", desc := "([BICCCC)I" } : Jvm.MethodName)) ∈ lw_all := lw_g (lw_at lw_m4 147 rfl) rfl
theorem q997 : (Jvm.Cond.methodLink "java/lang/AbstractStringBuilder" (32 : Nat) ({ cls := "java/lang/String", name := "length", desc := "()I" } : Jvm.MethodName)) ∈ lw_all := lw_g (lw_at lw_m4 150 rfl) rfl
theorem q1006 : (Jvm.Cond.methodLink "java/lang/AbstractStringBuilder" (208 : Nat) ({ cls := "java/lang/AbstractStringBuilder", name := "putStringAt", desc := "(ILjava/lang/String;)V" } : Jvm.MethodName)) ∈ lw_all := lw_g (lw_at lw_m4 159 rfl) rfl
theorem q1007 : (Jvm.Cond.privateMethod ({ cls := "java/lang/AbstractStringBuilder", name := "putStringAt", desc := "(ILjava/lang/String;)V" } : Jvm.MethodName)) ∈ lw_tbl := lw_at lw_m4 160 rfl
theorem q1008 : (Jvm.Cond.instanceMethod ({ cls := "java/lang/AbstractStringBuilder", name := "putStringAt", desc := "(ILjava/lang/String;)V" } : Jvm.MethodName)) ∈ lw_all := lw_g (lw_at lw_m4 161 rfl) rfl
theorem q1009 : (Jvm.Cond.code ({ cls := "java/lang/AbstractStringBuilder", name := "putStringAt", desc := "(ILjava/lang/String;)V" } : Jvm.MethodName) prog_23_method_73_code (3 : Nat) (Option.none : Option Jvm.ClassFile.FieldType)) ∈ lw_all := lw_g (lw_at lw_m4 162 rfl) rfl
theorem q1010 : (Jvm.Cond.methodLink "java/lang/AbstractStringBuilder" (397 : Nat) ({ cls := "java/lang/AbstractStringBuilder", name := "inflateIfNeededFor", desc := "(Ljava/lang/String;)V" } : Jvm.MethodName)) ∈ lw_all := lw_g (lw_at lw_m4 163 rfl) rfl
theorem q1011 : (Jvm.Cond.privateMethod ({ cls := "java/lang/AbstractStringBuilder", name := "inflateIfNeededFor", desc := "(Ljava/lang/String;)V" } : Jvm.MethodName)) ∈ lw_tbl := lw_at lw_m4 164 rfl
theorem q1012 : (Jvm.Cond.instanceMethod ({ cls := "java/lang/AbstractStringBuilder", name := "inflateIfNeededFor", desc := "(Ljava/lang/String;)V" } : Jvm.MethodName)) ∈ lw_all := lw_g (lw_at lw_m4 165 rfl) rfl
theorem q1013 : (Jvm.Cond.code ({ cls := "java/lang/AbstractStringBuilder", name := "inflateIfNeededFor", desc := "(Ljava/lang/String;)V" } : Jvm.MethodName) prog_23_method_71_code (2 : Nat) (Option.none : Option Jvm.ClassFile.FieldType)) ∈ lw_all := lw_g (lw_at lw_m4 166 rfl) rfl
theorem q1014 : (Jvm.Cond.methodLink "java/lang/AbstractStringBuilder" (40 : Nat) ({ cls := "java/lang/String", name := "coder", desc := "()B" } : Jvm.MethodName)) ∈ lw_all := lw_g (lw_at lw_m4 167 rfl) rfl
theorem q1015 : (Jvm.Cond.methodLink "java/lang/AbstractStringBuilder" (399 : Nat) ({ cls := "java/lang/String", name := "getBytes", desc := "([BIB)V" } : Jvm.MethodName)) ∈ lw_all := lw_g (lw_at lw_m4 168 rfl) rfl
theorem q2648 : (Jvm.Cond.sameMethod "java/lang/AbstractStringBuilder" "java/lang/AbstractStringBuilder" "append" "(C)Ljava/lang/AbstractStringBuilder;") ∈ lw_all := lw_g (lw_at lw_m11 121 rfl) rfl
theorem q2649 : (Jvm.Cond.sameMethod "java/lang/AbstractStringBuilder" "java/lang/AbstractStringBuilder" "ensureCapacityInternal" "(I)V") ∈ lw_all := lw_g (lw_at lw_m11 122 rfl) rfl
theorem q2650 : (Jvm.Cond.sameMethod "java/lang/AbstractStringBuilder" "java/lang/AbstractStringBuilder" "newCapacity" "(I)I") ∈ lw_all := lw_g (lw_at lw_m11 123 rfl) rfl
theorem q2651 : (Jvm.Cond.sameMethod "java/lang/AbstractStringBuilder" "java/lang/AbstractStringBuilder" "inflate" "()V") ∈ lw_all := lw_g (lw_at lw_m11 124 rfl) rfl
theorem q2653 : (Jvm.Cond.sameMethod "java/lang/AbstractStringBuilder" "java/lang/AbstractStringBuilder" "append" "(I)Ljava/lang/AbstractStringBuilder;") ∈ lw_all := lw_g (lw_at lw_m11 126 rfl) rfl
theorem q2654 : (Jvm.Cond.sameMethod "java/lang/AbstractStringBuilder" "java/lang/AbstractStringBuilder" "append" "(Ljava/lang/String;)Ljava/lang/AbstractStringBuilder;") ∈ lw_all := lw_g (lw_at lw_m11 127 rfl) rfl
theorem q2655 : (Jvm.Cond.sameMethod "java/lang/AbstractStringBuilder" "java/lang/AbstractStringBuilder" "appendNull" "()Ljava/lang/AbstractStringBuilder;") ∈ lw_all := lw_g (lw_at lw_m11 128 rfl) rfl
theorem q2656 : (Jvm.Cond.sameMethod "java/lang/AbstractStringBuilder" "java/lang/AbstractStringBuilder" "putStringAt" "(ILjava/lang/String;)V") ∈ lw_all := lw_g (lw_at lw_m11 129 rfl) rfl
theorem q2657 : (Jvm.Cond.sameMethod "java/lang/AbstractStringBuilder" "java/lang/AbstractStringBuilder" "inflateIfNeededFor" "(Ljava/lang/String;)V") ∈ lw_all := lw_g (lw_at lw_m11 130 rfl) rfl
theorem q142 : (Jvm.Cond.initialized "java/lang/StringBuilder") ∈ lw_all := lw_g (lw_at lw_m1 15 rfl) rfl
theorem q746 : (Jvm.Cond.instantiable "java/lang/StringBuilder" (4 : Nat)) ∈ lw_all := lw_g (lw_at lw_m3 139 rfl) rfl
theorem q748 : (Jvm.Cond.instanceMethod ({ cls := "java/lang/StringBuilder", name := "<init>", desc := "()V" } : Jvm.MethodName)) ∈ lw_all := lw_g (lw_at lw_m3 141 rfl) rfl
theorem q749 : (Jvm.Cond.code ({ cls := "java/lang/StringBuilder", name := "<init>", desc := "()V" } : Jvm.MethodName) prog_40_method_1_code (1 : Nat) (Option.none : Option Jvm.ClassFile.FieldType)) ∈ lw_all := lw_g (lw_at lw_m3 142 rfl) rfl
theorem q750 : (Jvm.Cond.methodLink "java/lang/StringBuilder" (1 : Nat) ({ cls := "java/lang/AbstractStringBuilder", name := "<init>", desc := "(I)V" } : Jvm.MethodName)) ∈ lw_all := lw_g (lw_at lw_m3 143 rfl) rfl
theorem q767 : (Jvm.Cond.lays "java/lang/StringBuilder" "java/lang/AbstractStringBuilder" "value" "[B") ∈ lw_all := lw_g (lw_at lw_m3 160 rfl) rfl
theorem q769 : (Jvm.Cond.lays "java/lang/StringBuilder" "java/lang/AbstractStringBuilder" "coder" "B") ∈ lw_all := lw_g (lw_at lw_m3 162 rfl) rfl
theorem q771 : (Jvm.Cond.lays "java/lang/StringBuilder" "java/lang/AbstractStringBuilder" "maybeLatin1" "Z") ∈ lw_all := lw_g (lw_at lw_m3 164 rfl) rfl
theorem q773 : (Jvm.Cond.lays "java/lang/StringBuilder" "java/lang/AbstractStringBuilder" "count" "I") ∈ lw_all := lw_g (lw_at lw_m3 166 rfl) rfl
theorem q775 : (Jvm.Cond.superclass "java/lang/StringBuilder" "java/lang/AbstractStringBuilder") ∈ lw_all := lw_g (lw_at lw_m3 168 rfl) rfl
theorem q777 : (Jvm.Cond.instanceMethod ({ cls := "java/lang/StringBuilder", name := "append", desc := "(C)Ljava/lang/StringBuilder;" } : Jvm.MethodName)) ∈ lw_all := lw_g (lw_at lw_m3 170 rfl) rfl
theorem q778 : (Jvm.Cond.selects "java/lang/StringBuilder" ({ cls := "java/lang/StringBuilder", name := "append", desc := "(C)Ljava/lang/StringBuilder;" } : Jvm.MethodName) ({ cls := "java/lang/StringBuilder", name := "append", desc := "(C)Ljava/lang/StringBuilder;" } : Jvm.MethodName)) ∈ lw_all := lw_g (lw_at lw_m3 171 rfl) rfl
theorem q779 : (Jvm.Cond.code ({ cls := "java/lang/StringBuilder", name := "append", desc := "(C)Ljava/lang/StringBuilder;" } : Jvm.MethodName) prog_40_method_14_code (2 : Nat) (Option.some (Jvm.ClassFile.FieldType.object "java/lang/StringBuilder"))) ∈ lw_all := lw_g (lw_at lw_m3 172 rfl) rfl
theorem q780 : (Jvm.Cond.methodLink "java/lang/StringBuilder" (50 : Nat) ({ cls := "java/lang/AbstractStringBuilder", name := "append", desc := "(C)Ljava/lang/AbstractStringBuilder;" } : Jvm.MethodName)) ∈ lw_all := lw_g (lw_at lw_m3 173 rfl) rfl
theorem q817 : (Jvm.Cond.selects "java/lang/StringBuilder" ({ cls := "java/lang/AbstractStringBuilder", name := "isLatin1", desc := "()Z" } : Jvm.MethodName) ({ cls := "java/lang/AbstractStringBuilder", name := "isLatin1", desc := "()Z" } : Jvm.MethodName)) ∈ lw_all := lw_g (lw_at lw_m3 210 rfl) rfl
theorem q866 : (Jvm.Cond.instanceMethod ({ cls := "java/lang/StringBuilder", name := "toString", desc := "()Ljava/lang/String;" } : Jvm.MethodName)) ∈ lw_all := lw_g (lw_at lw_m4 19 rfl) rfl
theorem q867 : (Jvm.Cond.selects "java/lang/StringBuilder" ({ cls := "java/lang/StringBuilder", name := "toString", desc := "()Ljava/lang/String;" } : Jvm.MethodName) ({ cls := "java/lang/StringBuilder", name := "toString", desc := "()Ljava/lang/String;" } : Jvm.MethodName)) ∈ lw_all := lw_g (lw_at lw_m4 20 rfl) rfl
theorem q868 : (Jvm.Cond.code ({ cls := "java/lang/StringBuilder", name := "toString", desc := "()Ljava/lang/String;" } : Jvm.MethodName) prog_40_method_42_code (1 : Nat) (Option.some (Jvm.ClassFile.FieldType.object "java/lang/String"))) ∈ lw_all := lw_g (lw_at lw_m4 21 rfl) rfl
theorem q869 : (Jvm.Cond.classLink "java/lang/StringBuilder" (18 : Nat) "java/lang/String") ∈ lw_all := lw_g (lw_at lw_m4 22 rfl) rfl
theorem q871 : (Jvm.Cond.methodLink "java/lang/StringBuilder" (137 : Nat) ({ cls := "java/lang/String", name := "<init>", desc := "(Ljava/lang/StringBuilder;)V" } : Jvm.MethodName)) ∈ lw_all := lw_g (lw_at lw_m4 24 rfl) rfl
theorem q881 : (Jvm.Cond.selects "java/lang/StringBuilder" ({ cls := "java/lang/AbstractStringBuilder", name := "getValue", desc := "()[B" } : Jvm.MethodName) ({ cls := "java/lang/AbstractStringBuilder", name := "getValue", desc := "()[B" } : Jvm.MethodName)) ∈ lw_all := lw_g (lw_at lw_m4 34 rfl) rfl
theorem q886 : (Jvm.Cond.selects "java/lang/StringBuilder" ({ cls := "java/lang/AbstractStringBuilder", name := "length", desc := "()I" } : Jvm.MethodName) ({ cls := "java/lang/StringBuilder", name := "length", desc := "()I" } : Jvm.MethodName)) ∈ lw_all := lw_g (lw_at lw_m4 39 rfl) rfl
theorem q887 : (Jvm.Cond.instanceMethod ({ cls := "java/lang/StringBuilder", name := "length", desc := "()I" } : Jvm.MethodName)) ∈ lw_all := lw_g (lw_at lw_m4 40 rfl) rfl
theorem q888 : (Jvm.Cond.code ({ cls := "java/lang/StringBuilder", name := "length", desc := "()I" } : Jvm.MethodName) prog_40_method_93_code (1 : Nat) (Option.some Jvm.ClassFile.FieldType.int)) ∈ lw_all := lw_g (lw_at lw_m4 41 rfl) rfl
theorem q889 : (Jvm.Cond.methodLink "java/lang/StringBuilder" (343 : Nat) ({ cls := "java/lang/AbstractStringBuilder", name := "length", desc := "()I" } : Jvm.MethodName)) ∈ lw_all := lw_g (lw_at lw_m4 42 rfl) rfl
theorem q949 : (Jvm.Cond.instanceMethod ({ cls := "java/lang/StringBuilder", name := "append", desc := "(I)Ljava/lang/StringBuilder;" } : Jvm.MethodName)) ∈ lw_all := lw_g (lw_at lw_m4 102 rfl) rfl
theorem q950 : (Jvm.Cond.selects "java/lang/StringBuilder" ({ cls := "java/lang/StringBuilder", name := "append", desc := "(I)Ljava/lang/StringBuilder;" } : Jvm.MethodName) ({ cls := "java/lang/StringBuilder", name := "append", desc := "(I)Ljava/lang/StringBuilder;" } : Jvm.MethodName)) ∈ lw_all := lw_g (lw_at lw_m4 103 rfl) rfl
theorem q951 : (Jvm.Cond.code ({ cls := "java/lang/StringBuilder", name := "append", desc := "(I)Ljava/lang/StringBuilder;" } : Jvm.MethodName) prog_40_method_15_code (2 : Nat) (Option.some (Jvm.ClassFile.FieldType.object "java/lang/StringBuilder"))) ∈ lw_all := lw_g (lw_at lw_m4 104 rfl) rfl
theorem q952 : (Jvm.Cond.methodLink "java/lang/StringBuilder" (53 : Nat) ({ cls := "java/lang/AbstractStringBuilder", name := "append", desc := "(I)Ljava/lang/AbstractStringBuilder;" } : Jvm.MethodName)) ∈ lw_all := lw_g (lw_at lw_m4 105 rfl) rfl
theorem q984 : (Jvm.Cond.instanceMethod ({ cls := "java/lang/StringBuilder", name := "append", desc := "(Ljava/lang/String;)Ljava/lang/StringBuilder;" } : Jvm.MethodName)) ∈ lw_all := lw_g (lw_at lw_m4 137 rfl) rfl
theorem q985 : (Jvm.Cond.selects "java/lang/StringBuilder" ({ cls := "java/lang/StringBuilder", name := "append", desc := "(Ljava/lang/String;)Ljava/lang/StringBuilder;" } : Jvm.MethodName) ({ cls := "java/lang/StringBuilder", name := "append", desc := "(Ljava/lang/String;)Ljava/lang/StringBuilder;" } : Jvm.MethodName)) ∈ lw_all := lw_g (lw_at lw_m4 138 rfl) rfl
theorem q986 : (Jvm.Cond.code ({ cls := "java/lang/StringBuilder", name := "append", desc := "(Ljava/lang/String;)Ljava/lang/StringBuilder;" } : Jvm.MethodName) prog_40_method_7_code (2 : Nat) (Option.some (Jvm.ClassFile.FieldType.object "java/lang/StringBuilder"))) ∈ lw_all := lw_g (lw_at lw_m4 139 rfl) rfl
theorem q987 : (Jvm.Cond.methodLink "java/lang/StringBuilder" (29 : Nat) ({ cls := "java/lang/AbstractStringBuilder", name := "append", desc := "(Ljava/lang/String;)Ljava/lang/AbstractStringBuilder;" } : Jvm.MethodName)) ∈ lw_all := lw_g (lw_at lw_m4 140 rfl) rfl
theorem q1464 : (Jvm.Cond.selects "java/lang/StringBuilder" ({ cls := "java/lang/Object", name := "getClass", desc := "()Ljava/lang/Class;" } : Jvm.MethodName) ({ cls := "java/lang/Object", name := "getClass", desc := "()Ljava/lang/Class;" } : Jvm.MethodName)) ∈ lw_all := lw_g (lw_at lw_m6 137 rfl) rfl
theorem q2670 : (Jvm.Cond.castable "java/lang/StringBuilder" "java/lang/Object") ∈ lw_tbl := lw_at lw_m11 143 rfl
theorem in_J5 : ∀ w ∈ wsJ50, w ∈ lw_all := lw_in wsJ50 [767, 769, 771, 773] (by decide +kernel) (by decide +kernel)
theorem q143 : (Jvm.Cond.initialized "java/lang/String") ∈ lw_all := lw_g (lw_at lw_m1 16 rfl) rfl
theorem q755 : (Jvm.Cond.laysStatic "java/lang/String" "COMPACT_STRINGS" "Z") ∈ lw_tbl := lw_at lw_m3 148 rfl
theorem q765 : (Jvm.Cond.fieldLink "java/lang/String" (1048 : Nat) "java/lang/AbstractStringBuilder" "maybeLatin1" "Z") ∈ lw_all := lw_g (lw_at lw_m3 158 rfl) rfl
theorem q839 : (Jvm.Cond.static ({ cls := "java/lang/String", name := "checkBoundsOffCount", desc := "(III)I" } : Jvm.MethodName)) ∈ lw_all := lw_g (lw_at lw_m3 232 rfl) rfl
theorem q840 : (Jvm.Cond.code ({ cls := "java/lang/String", name := "checkBoundsOffCount", desc := "(III)I" } : Jvm.MethodName) prog_39_method_157_code (3 : Nat) (Option.some Jvm.ClassFile.FieldType.int)) ∈ lw_all := lw_g (lw_at lw_m3 233 rfl) rfl
theorem q841 : (Jvm.Cond.fieldLink "java/lang/String" (1053 : Nat) "jdk/internal/util/Preconditions" "SIOOBE_FORMATTER" "Ljava/util/function/BiFunction;") ∈ lw_all := lw_g (lw_at lw_m3 234 rfl) rfl
theorem q843 : (Jvm.Cond.methodLink "java/lang/String" (1065 : Nat) ({ cls := "jdk/internal/util/Preconditions", name := "checkFromIndexSize", desc := "(IIILjava/util/function/BiFunction;)I" } : Jvm.MethodName)) ∈ lw_all := lw_g (lw_at lw_m3 236 rfl) rfl
theorem q862 : (Jvm.Cond.static ({ cls := "java/lang/String", name := "checkIndex", desc := "(II)V" } : Jvm.MethodName)) ∈ lw_all := lw_g (lw_at lw_m4 15 rfl) rfl
theorem q863 : (Jvm.Cond.code ({ cls := "java/lang/String", name := "checkIndex", desc := "(II)V" } : Jvm.MethodName) prog_39_method_155_code (2 : Nat) (Option.none : Option Jvm.ClassFile.FieldType)) ∈ lw_all := lw_g (lw_at lw_m4 16 rfl) rfl
theorem q864 : (Jvm.Cond.methodLink "java/lang/String" (1059 : Nat) ({ cls := "jdk/internal/util/Preconditions", name := "checkIndex", desc := "(IILjava/util/function/BiFunction;)I" } : Jvm.MethodName)) ∈ lw_all := lw_g (lw_at lw_m4 17 rfl) rfl
theorem q870 : (Jvm.Cond.instantiable "java/lang/String" (4 : Nat)) ∈ lw_all := lw_g (lw_at lw_m4 23 rfl) rfl
theorem q872 : (Jvm.Cond.instanceMethod ({ cls := "java/lang/String", name := "<init>", desc := "(Ljava/lang/StringBuilder;)V" } : Jvm.MethodName)) ∈ lw_all := lw_g (lw_at lw_m4 25 rfl) rfl
theorem q873 : (Jvm.Cond.code ({ cls := "java/lang/String", name := "<init>", desc := "(Ljava/lang/StringBuilder;)V" } : Jvm.MethodName) prog_39_method_53_code (2 : Nat) (Option.none : Option Jvm.ClassFile.FieldType)) ∈ lw_all := lw_g (lw_at lw_m4 26 rfl) rfl
theorem q874 : (Jvm.Cond.methodLink "java/lang/String" (489 : Nat) ({ cls := "java/lang/String", name := "<init>", desc := "(Ljava/lang/AbstractStringBuilder;Ljava/lang/Void;)V" } : Jvm.MethodName)) ∈ lw_all := lw_g (lw_at lw_m4 27 rfl) rfl
theorem q875 : (Jvm.Cond.instanceMethod ({ cls := "java/lang/String", name := "<init>", desc := "(Ljava/lang/AbstractStringBuilder;Ljava/lang/Void;)V" } : Jvm.MethodName)) ∈ lw_all := lw_g (lw_at lw_m4 28 rfl) rfl
theorem q876 : (Jvm.Cond.code ({ cls := "java/lang/String", name := "<init>", desc := "(Ljava/lang/AbstractStringBuilder;Ljava/lang/Void;)V" } : Jvm.MethodName) prog_39_method_150_code (5 : Nat) (Option.none : Option Jvm.ClassFile.FieldType)) ∈ lw_all := lw_g (lw_at lw_m4 29 rfl) rfl
theorem q877 : (Jvm.Cond.methodLink "java/lang/String" (1 : Nat) ({ cls := "java/lang/Object", name := "<init>", desc := "()V" } : Jvm.MethodName)) ∈ lw_all := lw_g (lw_at lw_m4 30 rfl) rfl
theorem q878 : (Jvm.Cond.methodLink "java/lang/String" (552 : Nat) ({ cls := "java/lang/AbstractStringBuilder", name := "getValue", desc := "()[B" } : Jvm.MethodName)) ∈ lw_all := lw_g (lw_at lw_m4 31 rfl) rfl
theorem q883 : (Jvm.Cond.methodLink "java/lang/String" (549 : Nat) ({ cls := "java/lang/AbstractStringBuilder", name := "length", desc := "()I" } : Jvm.MethodName)) ∈ lw_all := lw_g (lw_at lw_m4 36 rfl) rfl
theorem q891 : (Jvm.Cond.methodLink "java/lang/String" (1047 : Nat) ({ cls := "java/lang/AbstractStringBuilder", name := "isLatin1", desc := "()Z" } : Jvm.MethodName)) ∈ lw_all := lw_g (lw_at lw_m4 44 rfl) rfl
theorem q892 : (Jvm.Cond.methodLink "java/lang/String" (54 : Nat) ({ cls := "java/util/Arrays", name := "copyOfRange", desc := "([BII)[B" } : Jvm.MethodName)) ∈ lw_all := lw_g (lw_at lw_m4 45 rfl) rfl
theorem q972 : (Jvm.Cond.static ({ cls := "java/lang/String", name := "checkBoundsBeginEnd", desc := "(III)V" } : Jvm.MethodName)) ∈ lw_all := lw_g (lw_at lw_m4 125 rfl) rfl
theorem q973 : (Jvm.Cond.code ({ cls := "java/lang/String", name := "checkBoundsBeginEnd", desc := "(III)V" } : Jvm.MethodName) prog_39_method_158_code (3 : Nat) (Option.none : Option Jvm.ClassFile.FieldType)) ∈ lw_all := lw_g (lw_at lw_m4 126 rfl) rfl
theorem q974 : (Jvm.Cond.methodLink "java/lang/String" (1062 : Nat) ({ cls := "jdk/internal/util/Preconditions", name := "checkFromToIndex", desc := "(IIILjava/util/function/BiFunction;)I" } : Jvm.MethodName)) ∈ lw_all := lw_g (lw_at lw_m4 127 rfl) rfl
theorem q998 : (Jvm.Cond.instanceMethod ({ cls := "java/lang/String", name := "length", desc := "()I" } : Jvm.MethodName)) ∈ lw_all := lw_g (lw_at lw_m4 151 rfl) rfl
theorem q999 : (Jvm.Cond.selects "java/lang/String" ({ cls := "java/lang/String", name := "length", desc := "()I" } : Jvm.MethodName) ({ cls := "java/lang/String", name := "length", desc := "()I" } : Jvm.MethodName)) ∈ lw_all := lw_g (lw_at lw_m4 152 rfl) rfl
theorem q1000 : (Jvm.Cond.code ({ cls := "java/lang/String", name := "length", desc := "()I" } : Jvm.MethodName) prog_39_method_54_code (1 : Nat) (Option.some Jvm.ClassFile.FieldType.int)) ∈ lw_all := lw_g (lw_at lw_m4 153 rfl) rfl
theorem q1001 : (Jvm.Cond.methodLink "java/lang/String" (335 : Nat) ({ cls := "java/lang/String", name := "coder", desc := "()B" } : Jvm.MethodName)) ∈ lw_all := lw_g (lw_at lw_m4 154 rfl) rfl
theorem q1002 : (Jvm.Cond.instanceMethod ({ cls := "java/lang/String", name := "coder", desc := "()B" } : Jvm.MethodName)) ∈ lw_all := lw_g (lw_at lw_m4 155 rfl) rfl
theorem q1003 : (Jvm.Cond.selects "java/lang/String" ({ cls := "java/lang/String", name := "coder", desc := "()B" } : Jvm.MethodName) ({ cls := "java/lang/String", name := "coder", desc := "()B" } : Jvm.MethodName)) ∈ lw_all := lw_g (lw_at lw_m4 156 rfl) rfl
theorem q1004 : (Jvm.Cond.code ({ cls := "java/lang/String", name := "coder", desc := "()B" } : Jvm.MethodName) prog_39_method_152_code (1 : Nat) (Option.some Jvm.ClassFile.FieldType.byte)) ∈ lw_all := lw_g (lw_at lw_m4 157 rfl) rfl
theorem q1005 : (Jvm.Cond.fieldLink "java/lang/String" (38 : Nat) "java/lang/String" "COMPACT_STRINGS" "Z") ∈ lw_all := lw_g (lw_at lw_m4 158 rfl) rfl
theorem q1016 : (Jvm.Cond.instanceMethod ({ cls := "java/lang/String", name := "getBytes", desc := "([BIB)V" } : Jvm.MethodName)) ∈ lw_all := lw_g (lw_at lw_m4 169 rfl) rfl
theorem q1017 : (Jvm.Cond.selects "java/lang/String" ({ cls := "java/lang/String", name := "getBytes", desc := "([BIB)V" } : Jvm.MethodName) ({ cls := "java/lang/String", name := "getBytes", desc := "([BIB)V" } : Jvm.MethodName)) ∈ lw_all := lw_g (lw_at lw_m4 170 rfl) rfl
theorem q1018 : (Jvm.Cond.code ({ cls := "java/lang/String", name := "getBytes", desc := "([BIB)V" } : Jvm.MethodName) prog_39_method_147_code (4 : Nat) (Option.none : Option Jvm.ClassFile.FieldType)) ∈ lw_all := lw_g (lw_at lw_m4 171 rfl) rfl
theorem q1019 : (Jvm.Cond.methodLink "java/lang/String" (212 : Nat) ({ cls := "java/lang/System", name := "arraycopy", desc := "(Ljava/lang/Object;ILjava/lang/Object;II)V" } : Jvm.MethodName)) ∈ lw_all := lw_g (lw_at lw_m4 172 rfl) rfl
theorem q1020 : (Jvm.Cond.methodLink "java/lang/String" (106 : Nat) ({ cls := "java/lang/StringLatin1", name := "inflate", desc := "([BI[BII)V" } : Jvm.MethodName)) ∈ lw_all := lw_g (lw_at lw_m4 173 rfl) rfl
theorem q1047 : (Jvm.Cond.methodLink "java/lang/String" (1051 : Nat) ({ cls := "java/lang/StringUTF16", name := "compress", desc := "([BII)[B" } : Jvm.MethodName)) ∈ lw_all := lw_g (lw_at lw_m4 200 rfl) rfl
theorem q1057 : (Jvm.Cond.methodLink "java/lang/String" (47 : Nat) ({ cls := "java/lang/StringUTF16", name := "coderFromArrayLen", desc := "([BI)B" } : Jvm.MethodName)) ∈ lw_all := lw_g (lw_at lw_m4 210 rfl) rfl
theorem q1060 : (Jvm.Cond.fieldLink "java/lang/String" (9 : Nat) "java/lang/String" "value" "[B") ∈ lw_all := lw_g (lw_at lw_m4 213 rfl) rfl
theorem q1061 : (Jvm.Cond.fieldLink "java/lang/String" (15 : Nat) "java/lang/String" "coder" "B") ∈ lw_all := lw_g (lw_at lw_m4 214 rfl) rfl
theorem q1062 : (Jvm.Cond.fieldLink "java/lang/String" (19 : Nat) "java/lang/String" "hash" "I") ∈ lw_all := lw_g (lw_at lw_m4 215 rfl) rfl
theorem q1063 : (Jvm.Cond.fieldLink "java/lang/String" (23 : Nat) "java/lang/String" "hashIsZero" "Z") ∈ lw_all := lw_g (lw_at lw_m4 216 rfl) rfl
theorem q1064 : (Jvm.Cond.laysFinal "java/lang/String" "java/lang/String" "value" "[B") ∈ lw_all := lw_g (lw_at lw_m4 217 rfl) rfl
theorem q1065 : (Jvm.Cond.soleField "java/lang/String" "value") ∈ lw_all := lw_g (lw_at lw_m4 218 rfl) rfl
theorem q1066 : (Jvm.Cond.laysFinal "java/lang/String" "java/lang/String" "coder" "B") ∈ lw_all := lw_g (lw_at lw_m4 219 rfl) rfl
theorem q1067 : (Jvm.Cond.soleField "java/lang/String" "coder") ∈ lw_all := lw_g (lw_at lw_m4 220 rfl) rfl
theorem q1068 : (Jvm.Cond.lays "java/lang/String" "java/lang/String" "hash" "I") ∈ lw_all := lw_g (lw_at lw_m4 221 rfl) rfl
theorem q1069 : (Jvm.Cond.soleField "java/lang/String" "hash") ∈ lw_all := lw_g (lw_at lw_m4 222 rfl) rfl
theorem q1070 : (Jvm.Cond.lays "java/lang/String" "java/lang/String" "hashIsZero" "Z") ∈ lw_all := lw_g (lw_at lw_m4 223 rfl) rfl
theorem q1071 : (Jvm.Cond.soleField "java/lang/String" "hashIsZero") ∈ lw_all := lw_g (lw_at lw_m4 224 rfl) rfl
theorem q1072 : (Jvm.Cond.superclass "java/lang/String" "java/lang/Object") ∈ lw_all := lw_g (lw_at lw_m4 225 rfl) rfl
theorem q1102 : (Jvm.Cond.instanceMethod ({ cls := "java/lang/String", name := "hashCode", desc := "()I" } : Jvm.MethodName)) ∈ lw_all := lw_g (lw_at lw_m5 15 rfl) rfl
theorem q1103 : (Jvm.Cond.selects "java/lang/String" ({ cls := "java/lang/String", name := "hashCode", desc := "()I" } : Jvm.MethodName) ({ cls := "java/lang/String", name := "hashCode", desc := "()I" } : Jvm.MethodName)) ∈ lw_all := lw_g (lw_at lw_m5 16 rfl) rfl
theorem q1104 : (Jvm.Cond.code ({ cls := "java/lang/String", name := "hashCode", desc := "()I" } : Jvm.MethodName) prog_39_method_78_code (2 : Nat) (Option.some Jvm.ClassFile.FieldType.int)) ∈ lw_all := lw_g (lw_at lw_m5 17 rfl) rfl
theorem q1105 : (Jvm.Cond.methodLink "java/lang/String" (492 : Nat) ({ cls := "java/lang/String", name := "isLatin1", desc := "()Z" } : Jvm.MethodName)) ∈ lw_all := lw_g (lw_at lw_m5 18 rfl) rfl
theorem q1106 : (Jvm.Cond.instanceMethod ({ cls := "java/lang/String", name := "isLatin1", desc := "()Z" } : Jvm.MethodName)) ∈ lw_all := lw_g (lw_at lw_m5 19 rfl) rfl
theorem q1107 : (Jvm.Cond.selects "java/lang/String" ({ cls := "java/lang/String", name := "isLatin1", desc := "()Z" } : Jvm.MethodName) ({ cls := "java/lang/String", name := "isLatin1", desc := "()Z" } : Jvm.MethodName)) ∈ lw_all := lw_g (lw_at lw_m5 20 rfl) rfl
theorem q1108 : (Jvm.Cond.code ({ cls := "java/lang/String", name := "isLatin1", desc := "()Z" } : Jvm.MethodName) prog_39_method_154_code (1 : Nat) (Option.some Jvm.ClassFile.FieldType.boolean)) ∈ lw_all := lw_g (lw_at lw_m5 21 rfl) rfl
theorem q1109 : (Jvm.Cond.methodLink "java/lang/String" (628 : Nat) ({ cls := "java/lang/StringLatin1", name := "hashCode", desc := "([B)I" } : Jvm.MethodName)) ∈ lw_all := lw_g (lw_at lw_m5 22 rfl) rfl
theorem q1158 : (Jvm.Cond.methodLink "java/lang/String" (632 : Nat) ({ cls := "java/lang/StringUTF16", name := "hashCode", desc := "([B)I" } : Jvm.MethodName)) ∈ lw_all := lw_g (lw_at lw_m5 71 rfl) rfl
theorem q1164 : (Jvm.Cond.instanceMethod ({ cls := "java/lang/String", name := "equals", desc := "(Ljava/lang/Object;)Z" } : Jvm.MethodName)) ∈ lw_all := lw_g (lw_at lw_m5 77 rfl) rfl
theorem q1165 : (Jvm.Cond.selects "java/lang/String" ({ cls := "java/lang/String", name := "equals", desc := "(Ljava/lang/Object;)Z" } : Jvm.MethodName) ({ cls := "java/lang/String", name := "equals", desc := "(Ljava/lang/Object;)Z" } : Jvm.MethodName)) ∈ lw_all := lw_g (lw_at lw_m5 78 rfl) rfl
theorem q1166 : (Jvm.Cond.code ({ cls := "java/lang/String", name := "equals", desc := "(Ljava/lang/Object;)Z" } : Jvm.MethodName) prog_39_method_66_code (3 : Nat) (Option.some Jvm.ClassFile.FieldType.boolean)) ∈ lw_all := lw_g (lw_at lw_m5 79 rfl) rfl
theorem q1167 : (Jvm.Cond.classLink "java/lang/String" (10 : Nat) "java/lang/String") ∈ lw_all := lw_g (lw_at lw_m5 80 rfl) rfl
theorem q1168 : (Jvm.Cond.methodLink "java/lang/String" (541 : Nat) ({ cls := "java/lang/StringLatin1", name := "equals", desc := "([B[B)Z" } : Jvm.MethodName)) ∈ lw_all := lw_g (lw_at lw_m5 81 rfl) rfl
theorem q1463 : (Jvm.Cond.selects "java/lang/String" ({ cls := "java/lang/Object", name := "getClass", desc := "()Ljava/lang/Class;" } : Jvm.MethodName) ({ cls := "java/lang/Object", name := "getClass", desc := "()Ljava/lang/Class;" } : Jvm.MethodName)) ∈ lw_all := lw_g (lw_at lw_m6 136 rfl) rfl
theorem q2157 : (Jvm.Cond.instanceMethod ({ cls := "java/lang/String", name := "charAt", desc := "(I)C" } : Jvm.MethodName)) ∈ lw_all := lw_g (lw_at lw_m9 110 rfl) rfl
theorem q2158 : (Jvm.Cond.selects "java/lang/String" ({ cls := "java/lang/String", name := "charAt", desc := "(I)C" } : Jvm.MethodName) ({ cls := "java/lang/String", name := "charAt", desc := "(I)C" } : Jvm.MethodName)) ∈ lw_all := lw_g (lw_at lw_m9 111 rfl) rfl
theorem q2159 : (Jvm.Cond.code ({ cls := "java/lang/String", name := "charAt", desc := "(I)C" } : Jvm.MethodName) prog_39_method_56_code (2 : Nat) (Option.some Jvm.ClassFile.FieldType.char)) ∈ lw_all := lw_g (lw_at lw_m9 112 rfl) rfl
theorem q2160 : (Jvm.Cond.methodLink "java/lang/String" (495 : Nat) ({ cls := "java/lang/StringLatin1", name := "charAt", desc := "([BI)C" } : Jvm.MethodName)) ∈ lw_all := lw_g (lw_at lw_m9 113 rfl) rfl
theorem q2164 : (Jvm.Cond.methodLink "java/lang/String" (498 : Nat) ({ cls := "java/lang/StringUTF16", name := "charAt", desc := "([BI)C" } : Jvm.MethodName)) ∈ lw_all := lw_g (lw_at lw_m9 117 rfl) rfl
theorem q2671 : (Jvm.Cond.castable "java/lang/String" "java/lang/Object") ∈ lw_tbl := lw_at lw_m11 144 rfl
theorem in_J6 : ∀ w ∈ wsJ60, w ∈ lw_all := lw_in wsJ60 [1064, 1066, 1068, 1070] (by decide +kernel) (by decide +kernel)
theorem q144 : (Jvm.Cond.initialized "java/lang/StringUTF16") ∈ lw_all := lw_g (lw_at lw_m1 17 rfl) rfl
theorem q757 : (Jvm.Cond.static ({ cls := "java/lang/StringUTF16", name := "newBytesFor", desc := "(I)[B" } : Jvm.MethodName)) ∈ lw_all := lw_g (lw_at lw_m3 150 rfl) rfl
theorem q758 : (Jvm.Cond.code ({ cls := "java/lang/StringUTF16", name := "newBytesFor", desc := "(I)[B" } : Jvm.MethodName) prog_42_method_2_code (1 : Nat) (Option.some (Jvm.ClassFile.FieldType.array Jvm.ClassFile.FieldType.byte))) ∈ lw_all := lw_g (lw_at lw_m3 151 rfl) rfl
theorem q759 : (Jvm.Cond.methodLink "java/lang/StringUTF16" (11 : Nat) ({ cls := "java/lang/StringUTF16", name := "newBytesLength", desc := "(I)I" } : Jvm.MethodName)) ∈ lw_all := lw_g (lw_at lw_m3 152 rfl) rfl
theorem q760 : (Jvm.Cond.static ({ cls := "java/lang/StringUTF16", name := "newBytesLength", desc := "(I)I" } : Jvm.MethodName)) ∈ lw_all := lw_g (lw_at lw_m3 153 rfl) rfl
theorem q761 : (Jvm.Cond.code ({ cls := "java/lang/StringUTF16", name := "newBytesLength", desc := "(I)I" } : Jvm.MethodName) prog_42_method_3_code (1 : Nat) (Option.some Jvm.ClassFile.FieldType.int)) ∈ lw_all := lw_g (lw_at lw_m3 154 rfl) rfl
theorem q762 : (Jvm.Cond.constant "java/lang/StringUTF16" (20 : Nat) (1073741823 : Int32)) ∈ lw_all := lw_g (lw_at lw_m3 155 rfl) rfl
theorem q830 : (Jvm.Cond.static ({ cls := "java/lang/StringUTF16", name := "inflate", desc := "([BI[BII)V" } : Jvm.MethodName)) ∈ lw_all := lw_g (lw_at lw_m3 223 rfl) rfl
theorem q831 : (Jvm.Cond.code ({ cls := "java/lang/StringUTF16", name := "inflate", desc := "([BI[BII)V" } : Jvm.MethodName) prog_42_method_86_code (6 : Nat) (Option.none : Option Jvm.ClassFile.FieldType)) ∈ lw_all := lw_g (lw_at lw_m3 224 rfl) rfl
theorem q832 : (Jvm.Cond.methodLink "java/lang/StringUTF16" (173 : Nat) ({ cls := "java/lang/StringUTF16", name := "checkBoundsOffCount", desc := "(II[B)V" } : Jvm.MethodName)) ∈ lw_all := lw_g (lw_at lw_m3 225 rfl) rfl
theorem q833 : (Jvm.Cond.static ({ cls := "java/lang/StringUTF16", name := "checkBoundsOffCount", desc := "(II[B)V" } : Jvm.MethodName)) ∈ lw_all := lw_g (lw_at lw_m3 226 rfl) rfl
theorem q834 : (Jvm.Cond.code ({ cls := "java/lang/StringUTF16", name := "checkBoundsOffCount", desc := "(II[B)V" } : Jvm.MethodName) prog_42_method_94_code (3 : Nat) (Option.none : Option Jvm.ClassFile.FieldType)) ∈ lw_all := lw_g (lw_at lw_m3 227 rfl) rfl
theorem q835 : (Jvm.Cond.methodLink "java/lang/StringUTF16" (48 : Nat) ({ cls := "java/lang/StringUTF16", name := "length", desc := "([B)I" } : Jvm.MethodName)) ∈ lw_all := lw_g (lw_at lw_m3 228 rfl) rfl
theorem q836 : (Jvm.Cond.static ({ cls := "java/lang/StringUTF16", name := "length", desc := "([B)I" } : Jvm.MethodName)) ∈ lw_all := lw_g (lw_at lw_m3 229 rfl) rfl
theorem q837 : (Jvm.Cond.code ({ cls := "java/lang/StringUTF16", name := "length", desc := "([B)I" } : Jvm.MethodName) prog_42_method_6_code (1 : Nat) (Option.some Jvm.ClassFile.FieldType.int)) ∈ lw_all := lw_g (lw_at lw_m3 230 rfl) rfl
theorem q838 : (Jvm.Cond.methodLink "java/lang/StringUTF16" (419 : Nat) ({ cls := "java/lang/String", name := "checkBoundsOffCount", desc := "(III)I" } : Jvm.MethodName)) ∈ lw_all := lw_g (lw_at lw_m3 231 rfl) rfl
theorem q846 : (Jvm.Cond.methodLink "java/lang/StringUTF16" (111 : Nat) ({ cls := "java/lang/StringUTF16", name := "putChar", desc := "([BII)V" } : Jvm.MethodName)) ∈ lw_all := lw_g (lw_at lw_m3 239 rfl) rfl
theorem q847 : (Jvm.Cond.static ({ cls := "java/lang/StringUTF16", name := "putChar", desc := "([BII)V" } : Jvm.MethodName)) ∈ lw_all := lw_g (lw_at lw_m4 0 rfl) rfl
theorem q848 : (Jvm.Cond.code ({ cls := "java/lang/StringUTF16", name := "putChar", desc := "([BII)V" } : Jvm.MethodName) prog_42_method_4_code (3 : Nat) (Option.none : Option Jvm.ClassFile.FieldType)) ∈ lw_all := lw_g (lw_at lw_m4 1 rfl) rfl
theorem q849 : (Jvm.Cond.fieldLink "java/lang/StringUTF16" (44 : Nat) "java/lang/StringUTF16" "$assertionsDisabled" "Z") ∈ lw_all := lw_g (lw_at lw_m4 2 rfl) rfl
theorem q850 : (Jvm.Cond.laysStatic "java/lang/StringUTF16" "$assertionsDisabled" "Z") ∈ lw_tbl := lw_at lw_m4 3 rfl
theorem q851 : (Jvm.Cond.fieldLink "java/lang/StringUTF16" (59 : Nat) "java/lang/StringUTF16" "HI_BYTE_SHIFT" "I") ∈ lw_all := lw_g (lw_at lw_m4 4 rfl) rfl
theorem q852 : (Jvm.Cond.laysStatic "java/lang/StringUTF16" "HI_BYTE_SHIFT" "I") ∈ lw_tbl := lw_at lw_m4 5 rfl
theorem q853 : (Jvm.Cond.fieldLink "java/lang/StringUTF16" (63 : Nat) "java/lang/StringUTF16" "LO_BYTE_SHIFT" "I") ∈ lw_all := lw_g (lw_at lw_m4 6 rfl) rfl
theorem q854 : (Jvm.Cond.laysStatic "java/lang/StringUTF16" "LO_BYTE_SHIFT" "I") ∈ lw_tbl := lw_at lw_m4 7 rfl
theorem q856 : (Jvm.Cond.static ({ cls := "java/lang/StringUTF16", name := "putCharSB", desc := "([BII)V" } : Jvm.MethodName)) ∈ lw_all := lw_g (lw_at lw_m4 9 rfl) rfl
theorem q857 : (Jvm.Cond.code ({ cls := "java/lang/StringUTF16", name := "putCharSB", desc := "([BII)V" } : Jvm.MethodName) prog_42_method_71_code (3 : Nat) (Option.none : Option Jvm.ClassFile.FieldType)) ∈ lw_all := lw_g (lw_at lw_m4 10 rfl) rfl
theorem q858 : (Jvm.Cond.methodLink "java/lang/StringUTF16" (67 : Nat) ({ cls := "java/lang/StringUTF16", name := "checkIndex", desc := "(I[B)V" } : Jvm.MethodName)) ∈ lw_all := lw_g (lw_at lw_m4 11 rfl) rfl
theorem q859 : (Jvm.Cond.static ({ cls := "java/lang/StringUTF16", name := "checkIndex", desc := "(I[B)V" } : Jvm.MethodName)) ∈ lw_all := lw_g (lw_at lw_m4 12 rfl) rfl
theorem q860 : (Jvm.Cond.code ({ cls := "java/lang/StringUTF16", name := "checkIndex", desc := "(I[B)V" } : Jvm.MethodName) prog_42_method_91_code (2 : Nat) (Option.none : Option Jvm.ClassFile.FieldType)) ∈ lw_all := lw_g (lw_at lw_m4 13 rfl) rfl
theorem q861 : (Jvm.Cond.methodLink "java/lang/StringUTF16" (414 : Nat) ({ cls := "java/lang/String", name := "checkIndex", desc := "(II)V" } : Jvm.MethodName)) ∈ lw_all := lw_g (lw_at lw_m4 14 rfl) rfl
theorem q966 : (Jvm.Cond.static ({ cls := "java/lang/StringUTF16", name := "getChars", desc := "(III[B)I" } : Jvm.MethodName)) ∈ lw_all := lw_g (lw_at lw_m4 119 rfl) rfl
theorem q967 : (Jvm.Cond.code ({ cls := "java/lang/StringUTF16", name := "getChars", desc := "(III[B)I" } : Jvm.MethodName) prog_42_method_77_code (5 : Nat) (Option.some Jvm.ClassFile.FieldType.int)) ∈ lw_all := lw_g (lw_at lw_m4 120 rfl) rfl
theorem q968 : (Jvm.Cond.methodLink "java/lang/StringUTF16" (96 : Nat) ({ cls := "java/lang/StringUTF16", name := "checkBoundsBeginEnd", desc := "(II[B)V" } : Jvm.MethodName)) ∈ lw_all := lw_g (lw_at lw_m4 121 rfl) rfl
theorem q969 : (Jvm.Cond.static ({ cls := "java/lang/StringUTF16", name := "checkBoundsBeginEnd", desc := "(II[B)V" } : Jvm.MethodName)) ∈ lw_all := lw_g (lw_at lw_m4 122 rfl) rfl
theorem q970 : (Jvm.Cond.code ({ cls := "java/lang/StringUTF16", name := "checkBoundsBeginEnd", desc := "(II[B)V" } : Jvm.MethodName) prog_42_method_93_code (3 : Nat) (Option.none : Option Jvm.ClassFile.FieldType)) ∈ lw_all := lw_g (lw_at lw_m4 123 rfl) rfl
theorem q971 : (Jvm.Cond.methodLink "java/lang/StringUTF16" (241 : Nat) ({ cls := "java/lang/String", name := "checkBoundsBeginEnd", desc := "(III)V" } : Jvm.MethodName)) ∈ lw_all := lw_g (lw_at lw_m4 124 rfl) rfl
theorem q977 : (Jvm.Cond.methodLink "java/lang/StringUTF16" (393 : Nat) ({ cls := "java/lang/StringUTF16", name := "getChars", desc := "(II[B)I" } : Jvm.MethodName)) ∈ lw_all := lw_g (lw_at lw_m4 130 rfl) rfl
theorem q978 : (Jvm.Cond.static ({ cls := "java/lang/StringUTF16", name := "getChars", desc := "(II[B)I" } : Jvm.MethodName)) ∈ lw_all := lw_g (lw_at lw_m4 131 rfl) rfl
theorem q979 : (Jvm.Cond.code ({ cls := "java/lang/StringUTF16", name := "getChars", desc := "(II[B)I" } : Jvm.MethodName) prog_42_method_89_code (7 : Nat) (Option.some Jvm.ClassFile.FieldType.int)) ∈ lw_all := lw_g (lw_at lw_m4 132 rfl) rfl
theorem q980 : (Jvm.Cond.fieldLink "java/lang/StringUTF16" (403 : Nat) "java/lang/Integer" "DigitOnes" "[B") ∈ lw_all := lw_g (lw_at lw_m4 133 rfl) rfl
theorem q981 : (Jvm.Cond.fieldLink "java/lang/StringUTF16" (407 : Nat) "java/lang/Integer" "DigitTens" "[B") ∈ lw_all := lw_g (lw_at lw_m4 134 rfl) rfl
theorem q995 : (Jvm.Cond.static ({ cls := "java/lang/StringUTF16", name := "putCharsAt", desc := "([BICCCC)I" } : Jvm.MethodName)) ∈ lw_all := lw_g (lw_at lw_m4 148 rfl) rfl
theorem q996 : (Jvm.Cond.code ({ cls := "java/lang/StringUTF16", name := "putCharsAt", desc := "([BICCCC)I" } : Jvm.MethodName) prog_42_method_81_code (7 : Nat) (Option.some Jvm.ClassFile.FieldType.int)) ∈ lw_all := lw_g (lw_at lw_m4 149 rfl) rfl
theorem q1048 : (Jvm.Cond.static ({ cls := "java/lang/StringUTF16", name := "compress", desc := "([BII)[B" } : Jvm.MethodName)) ∈ lw_all := lw_g (lw_at lw_m4 201 rfl) rfl
theorem q1049 : (Jvm.Cond.code ({ cls := "java/lang/StringUTF16", name := "compress", desc := "([BII)[B" } : Jvm.MethodName) prog_42_method_17_code (6 : Nat) (Option.some (Jvm.ClassFile.FieldType.array Jvm.ClassFile.FieldType.byte))) ∈ lw_all := lw_g (lw_at lw_m4 202 rfl) rfl
theorem q1050 : (Jvm.Cond.methodLink "java/lang/StringUTF16" (123 : Nat) ({ cls := "java/lang/StringUTF16", name := "compress", desc := "([BI[BII)I" } : Jvm.MethodName)) ∈ lw_all := lw_g (lw_at lw_m4 203 rfl) rfl
theorem q1051 : (Jvm.Cond.static ({ cls := "java/lang/StringUTF16", name := "compress", desc := "([BI[BII)I" } : Jvm.MethodName)) ∈ lw_all := lw_g (lw_at lw_m4 204 rfl) rfl
theorem q1052 : (Jvm.Cond.code ({ cls := "java/lang/StringUTF16", name := "compress", desc := "([BI[BII)I" } : Jvm.MethodName) prog_42_method_22_code (7 : Nat) (Option.some Jvm.ClassFile.FieldType.int)) ∈ lw_all := lw_g (lw_at lw_m4 205 rfl) rfl
theorem q1053 : (Jvm.Cond.methodLink "java/lang/StringUTF16" (71 : Nat) ({ cls := "java/lang/StringUTF16", name := "getChar", desc := "([BI)C" } : Jvm.MethodName)) ∈ lw_all := lw_g (lw_at lw_m4 206 rfl) rfl
theorem q1054 : (Jvm.Cond.static ({ cls := "java/lang/StringUTF16", name := "getChar", desc := "([BI)C" } : Jvm.MethodName)) ∈ lw_all := lw_g (lw_at lw_m4 207 rfl) rfl
theorem q1055 : (Jvm.Cond.code ({ cls := "java/lang/StringUTF16", name := "getChar", desc := "([BI)C" } : Jvm.MethodName) prog_42_method_5_code (2 : Nat) (Option.some Jvm.ClassFile.FieldType.char)) ∈ lw_all := lw_g (lw_at lw_m4 208 rfl) rfl
theorem q1056 : (Jvm.Cond.methodLink "java/lang/StringUTF16" (126 : Nat) ({ cls := "java/util/Arrays", name := "copyOfRange", desc := "([BII)[B" } : Jvm.MethodName)) ∈ lw_all := lw_g (lw_at lw_m4 209 rfl) rfl
theorem q1058 : (Jvm.Cond.static ({ cls := "java/lang/StringUTF16", name := "coderFromArrayLen", desc := "([BI)B" } : Jvm.MethodName)) ∈ lw_all := lw_g (lw_at lw_m4 211 rfl) rfl
theorem q1059 : (Jvm.Cond.code ({ cls := "java/lang/StringUTF16", name := "coderFromArrayLen", desc := "([BI)B" } : Jvm.MethodName) prog_42_method_15_code (2 : Nat) (Option.some Jvm.ClassFile.FieldType.byte)) ∈ lw_all := lw_g (lw_at lw_m4 212 rfl) rfl
theorem q1159 : (Jvm.Cond.static ({ cls := "java/lang/StringUTF16", name := "hashCode", desc := "([B)I" } : Jvm.MethodName)) ∈ lw_all := lw_g (lw_at lw_m5 72 rfl) rfl
theorem q1160 : (Jvm.Cond.code ({ cls := "java/lang/StringUTF16", name := "hashCode", desc := "([B)I" } : Jvm.MethodName) prog_42_method_39_code (1 : Nat) (Option.some Jvm.ClassFile.FieldType.int)) ∈ lw_all := lw_g (lw_at lw_m5 73 rfl) rfl
theorem q1161 : (Jvm.Cond.methodLink "java/lang/StringUTF16" (220 : Nat) ({ cls := "jdk/internal/util/ArraysSupport", name := "vectorizedHashCode", desc := "(Ljava/lang/Object;IIII)I" } : Jvm.MethodName)) ∈ lw_all := lw_g (lw_at lw_m5 74 rfl) rfl
theorem q2165 : (Jvm.Cond.static ({ cls := "java/lang/StringUTF16", name := "charAt", desc := "([BI)C" } : Jvm.MethodName)) ∈ lw_all := lw_g (lw_at lw_m9 118 rfl) rfl
theorem q2166 : (Jvm.Cond.code ({ cls := "java/lang/StringUTF16", name := "charAt", desc := "([BI)C" } : Jvm.MethodName) prog_42_method_83_code (2 : Nat) (Option.some Jvm.ClassFile.FieldType.char)) ∈ lw_all := lw_g (lw_at lw_m9 119 rfl) rfl
theorem q145 : (Jvm.Cond.initialized "jdk/internal/util/ArraysSupport") ∈ lw_all := lw_g (lw_at lw_m1 18 rfl) rfl
theorem q792 : (Jvm.Cond.static ({ cls := "jdk/internal/util/ArraysSupport", name := "newLength", desc := "(III)I" } : Jvm.MethodName)) ∈ lw_all := lw_g (lw_at lw_m3 185 rfl) rfl
theorem q793 : (Jvm.Cond.code ({ cls := "jdk/internal/util/ArraysSupport", name := "newLength", desc := "(III)I" } : Jvm.MethodName) prog_60_method_27_code (4 : Nat) (Option.some Jvm.ClassFile.FieldType.int)) ∈ lw_all := lw_g (lw_at lw_m3 186 rfl) rfl
theorem q794 : (Jvm.Cond.methodLink "jdk/internal/util/ArraysSupport" (194 : Nat) ({ cls := "java/lang/Math", name := "max", desc := "(II)I" } : Jvm.MethodName)) ∈ lw_all := lw_g (lw_at lw_m3 187 rfl) rfl
theorem q797 : (Jvm.Cond.constant "jdk/internal/util/ArraysSupport" (200 : Nat) (2147483639 : Int32)) ∈ lw_all := lw_g (lw_at lw_m3 190 rfl) rfl
theorem q798 : (Jvm.Cond.methodLink "jdk/internal/util/ArraysSupport" (201 : Nat) ({ cls := "jdk/internal/util/ArraysSupport", name := "hugeLength", desc := "(II)I" } : Jvm.MethodName)) ∈ lw_all := lw_g (lw_at lw_m3 191 rfl) rfl
theorem q799 : (Jvm.Cond.static ({ cls := "jdk/internal/util/ArraysSupport", name := "hugeLength", desc := "(II)I" } : Jvm.MethodName)) ∈ lw_all := lw_g (lw_at lw_m3 192 rfl) rfl
theorem q800 : (Jvm.Cond.code ({ cls := "jdk/internal/util/ArraysSupport", name := "hugeLength", desc := "(II)I" } : Jvm.MethodName) prog_60_method_28_code (3 : Nat) (Option.some Jvm.ClassFile.FieldType.int)) ∈ lw_all := lw_g (lw_at lw_m3 193 rfl) rfl
theorem q1113 : (Jvm.Cond.static ({ cls := "jdk/internal/util/ArraysSupport", name := "vectorizedHashCode", desc := "(Ljava/lang/Object;IIII)I" } : Jvm.MethodName)) ∈ lw_all := lw_g (lw_at lw_m5 26 rfl) rfl
theorem q1114 : (Jvm.Cond.code ({ cls := "jdk/internal/util/ArraysSupport", name := "vectorizedHashCode", desc := "(Ljava/lang/Object;IIII)I" } : Jvm.MethodName) prog_60_method_4_code (5 : Nat) (Option.some Jvm.ClassFile.FieldType.int)) ∈ lw_all := lw_g (lw_at lw_m5 27 rfl) rfl
theorem q1115 : (Jvm.Cond.classLink "jdk/internal/util/ArraysSupport" (60 : Nat) "[B") ∈ lw_all := lw_g (lw_at lw_m5 28 rfl) rfl
theorem q1116 : (Jvm.Cond.methodLink "jdk/internal/util/ArraysSupport" (62 : Nat) ({ cls := "jdk/internal/util/ArraysSupport", name := "signedHashCode", desc := "(I[BII)I" } : Jvm.MethodName)) ∈ lw_all := lw_g (lw_at lw_m5 29 rfl) rfl
theorem q1117 : (Jvm.Cond.static ({ cls := "jdk/internal/util/ArraysSupport", name := "signedHashCode", desc := "(I[BII)I" } : Jvm.MethodName)) ∈ lw_all := lw_g (lw_at lw_m5 30 rfl) rfl
theorem q1118 : (Jvm.Cond.code ({ cls := "jdk/internal/util/ArraysSupport", name := "signedHashCode", desc := "(I[BII)I" } : Jvm.MethodName) prog_60_method_5_code (6 : Nat) (Option.some Jvm.ClassFile.FieldType.int)) ∈ lw_all := lw_g (lw_at lw_m5 31 rfl) rfl
theorem q1119 : (Jvm.Cond.methodLink "jdk/internal/util/ArraysSupport" (66 : Nat) ({ cls := "jdk/internal/util/ArraysSupport", name := "utf16hashCode", desc := "(I[BII)I" } : Jvm.MethodName)) ∈ lw_all := lw_g (lw_at lw_m5 32 rfl) rfl
theorem q1120 : (Jvm.Cond.static ({ cls := "jdk/internal/util/ArraysSupport", name := "utf16hashCode", desc := "(I[BII)I" } : Jvm.MethodName)) ∈ lw_all := lw_g (lw_at lw_m5 33 rfl) rfl
theorem q1121 : (Jvm.Cond.code ({ cls := "jdk/internal/util/ArraysSupport", name := "utf16hashCode", desc := "(I[BII)I" } : Jvm.MethodName) prog_60_method_10_code (6 : Nat) (Option.some Jvm.ClassFile.FieldType.int)) ∈ lw_all := lw_g (lw_at lw_m5 34 rfl) rfl
theorem q1122 : (Jvm.Cond.fieldLink "jdk/internal/util/ArraysSupport" (106 : Nat) "jdk/internal/util/ArraysSupport" "JLA" "Ljdk/internal/access/JavaLangAccess;") ∈ lw_all := lw_g (lw_at lw_m5 35 rfl) rfl
theorem q1123 : (Jvm.Cond.laysStatic "jdk/internal/util/ArraysSupport" "JLA" "Ljdk/internal/access/JavaLangAccess;") ∈ lw_tbl := lw_at lw_m5 36 rfl
theorem q1124 : (Jvm.Cond.interfaceEntry "jdk/internal/util/ArraysSupport" (110 : Nat)) ∈ lw_tbl := lw_at lw_m5 37 rfl
theorem q1125 : (Jvm.Cond.methodLink "jdk/internal/util/ArraysSupport" (110 : Nat) ({ cls := "jdk/internal/access/JavaLangAccess", name := "getUTF16Char", desc := "([BI)C" } : Jvm.MethodName)) ∈ lw_all := lw_g (lw_at lw_m5 38 rfl) rfl
theorem q1135 : (Jvm.Cond.classLink "jdk/internal/util/ArraysSupport" (69 : Nat) "[C") ∈ lw_all := lw_g (lw_at lw_m5 48 rfl) rfl
theorem q1136 : (Jvm.Cond.methodLink "jdk/internal/util/ArraysSupport" (71 : Nat) ({ cls := "jdk/internal/util/ArraysSupport", name := "hashCode", desc := "(I[CII)I" } : Jvm.MethodName)) ∈ lw_all := lw_g (lw_at lw_m5 49 rfl) rfl
theorem q1137 : (Jvm.Cond.static ({ cls := "jdk/internal/util/ArraysSupport", name := "hashCode", desc := "(I[CII)I" } : Jvm.MethodName)) ∈ lw_all := lw_g (lw_at lw_m5 50 rfl) rfl
theorem q1138 : (Jvm.Cond.code ({ cls := "jdk/internal/util/ArraysSupport", name := "hashCode", desc := "(I[CII)I" } : Jvm.MethodName) prog_60_method_7_code (6 : Nat) (Option.some Jvm.ClassFile.FieldType.int)) ∈ lw_all := lw_g (lw_at lw_m5 51 rfl) rfl
theorem q1139 : (Jvm.Cond.methodLink "jdk/internal/util/ArraysSupport" (75 : Nat) ({ cls := "jdk/internal/util/ArraysSupport", name := "hashCode", desc := "(I[BII)I" } : Jvm.MethodName)) ∈ lw_all := lw_g (lw_at lw_m5 52 rfl) rfl
theorem q1140 : (Jvm.Cond.static ({ cls := "jdk/internal/util/ArraysSupport", name := "hashCode", desc := "(I[BII)I" } : Jvm.MethodName)) ∈ lw_all := lw_g (lw_at lw_m5 53 rfl) rfl
theorem q1141 : (Jvm.Cond.code ({ cls := "jdk/internal/util/ArraysSupport", name := "hashCode", desc := "(I[BII)I" } : Jvm.MethodName) prog_60_method_6_code (6 : Nat) (Option.some Jvm.ClassFile.FieldType.int)) ∈ lw_all := lw_g (lw_at lw_m5 54 rfl) rfl
theorem q1142 : (Jvm.Cond.classLink "jdk/internal/util/ArraysSupport" (77 : Nat) "[S") ∈ lw_all := lw_g (lw_at lw_m5 55 rfl) rfl
theorem q1143 : (Jvm.Cond.methodLink "jdk/internal/util/ArraysSupport" (79 : Nat) ({ cls := "jdk/internal/util/ArraysSupport", name := "hashCode", desc := "(I[SII)I" } : Jvm.MethodName)) ∈ lw_all := lw_g (lw_at lw_m5 56 rfl) rfl
theorem q1144 : (Jvm.Cond.static ({ cls := "jdk/internal/util/ArraysSupport", name := "hashCode", desc := "(I[SII)I" } : Jvm.MethodName)) ∈ lw_all := lw_g (lw_at lw_m5 57 rfl) rfl
theorem q1145 : (Jvm.Cond.code ({ cls := "jdk/internal/util/ArraysSupport", name := "hashCode", desc := "(I[SII)I" } : Jvm.MethodName) prog_60_method_8_code (6 : Nat) (Option.some Jvm.ClassFile.FieldType.int)) ∈ lw_all := lw_g (lw_at lw_m5 58 rfl) rfl
theorem q1146 : (Jvm.Cond.classLink "jdk/internal/util/ArraysSupport" (82 : Nat) "[I") ∈ lw_all := lw_g (lw_at lw_m5 59 rfl) rfl
theorem q1147 : (Jvm.Cond.methodLink "jdk/internal/util/ArraysSupport" (84 : Nat) ({ cls := "jdk/internal/util/ArraysSupport", name := "hashCode", desc := "(I[III)I" } : Jvm.MethodName)) ∈ lw_all := lw_g (lw_at lw_m5 60 rfl) rfl
theorem q1148 : (Jvm.Cond.static ({ cls := "jdk/internal/util/ArraysSupport", name := "hashCode", desc := "(I[III)I" } : Jvm.MethodName)) ∈ lw_all := lw_g (lw_at lw_m5 61 rfl) rfl
theorem q1149 : (Jvm.Cond.code ({ cls := "jdk/internal/util/ArraysSupport", name := "hashCode", desc := "(I[III)I" } : Jvm.MethodName) prog_60_method_9_code (6 : Nat) (Option.some Jvm.ClassFile.FieldType.int)) ∈ lw_all := lw_g (lw_at lw_m5 62 rfl) rfl
theorem q1150 : (Jvm.Cond.classLink "jdk/internal/util/ArraysSupport" (87 : Nat) "java/lang/IllegalArgumentException") ∈ lw_all := lw_g (lw_at lw_m5 63 rfl) rfl
theorem q1151 : (Jvm.Cond.classLink "jdk/internal/util/ArraysSupport" (89 : Nat) "java/lang/StringBuilder") ∈ lw_all := lw_g (lw_at lw_m5 64 rfl) rfl
theorem q1152 : (Jvm.Cond.methodLink "jdk/internal/util/ArraysSupport" (91 : Nat) ({ cls := "java/lang/StringBuilder", name := "<init>", desc := "()V" } : Jvm.MethodName)) ∈ lw_all := lw_g (lw_at lw_m5 65 rfl) rfl
theorem q1153 : (Jvm.Cond.stringRef "jdk/internal/util/ArraysSupport" (92 : Nat) "unrecognized basic type: ") ∈ lw_tbl := lw_at lw_m5 66 rfl
theorem q1154 : (Jvm.Cond.methodLink "jdk/internal/util/ArraysSupport" (94 : Nat) ({ cls := "java/lang/StringBuilder", name := "append", desc := "(Ljava/lang/String;)Ljava/lang/StringBuilder;" } : Jvm.MethodName)) ∈ lw_all := lw_g (lw_at lw_m5 67 rfl) rfl
theorem q1155 : (Jvm.Cond.methodLink "jdk/internal/util/ArraysSupport" (98 : Nat) ({ cls := "java/lang/StringBuilder", name := "append", desc := "(I)Ljava/lang/StringBuilder;" } : Jvm.MethodName)) ∈ lw_all := lw_g (lw_at lw_m5 68 rfl) rfl
theorem q1156 : (Jvm.Cond.methodLink "jdk/internal/util/ArraysSupport" (101 : Nat) ({ cls := "java/lang/StringBuilder", name := "toString", desc := "()Ljava/lang/String;" } : Jvm.MethodName)) ∈ lw_all := lw_g (lw_at lw_m5 69 rfl) rfl
theorem q1157 : (Jvm.Cond.methodLink "jdk/internal/util/ArraysSupport" (105 : Nat) ({ cls := "java/lang/IllegalArgumentException", name := "<init>", desc := "(Ljava/lang/String;)V" } : Jvm.MethodName)) ∈ lw_all := lw_g (lw_at lw_m5 70 rfl) rfl
theorem q146 : (Jvm.Cond.initialized "java/lang/Math") ∈ lw_all := lw_g (lw_at lw_m1 19 rfl) rfl
theorem q619 : (Jvm.Cond.static ({ cls := "java/lang/Math", name := "abs", desc := "(I)I" } : Jvm.MethodName)) ∈ lw_all := lw_g (lw_at lw_m3 12 rfl) rfl
theorem q620 : (Jvm.Cond.code ({ cls := "java/lang/Math", name := "abs", desc := "(I)I" } : Jvm.MethodName) prog_36_method_59_code (1 : Nat) (Option.some Jvm.ClassFile.FieldType.int)) ∈ lw_all := lw_g (lw_at lw_m3 13 rfl) rfl
theorem q622 : (Jvm.Cond.static ({ cls := "java/lang/Math", name := "min", desc := "(II)I" } : Jvm.MethodName)) ∈ lw_all := lw_g (lw_at lw_m3 15 rfl) rfl
theorem q623 : (Jvm.Cond.code ({ cls := "java/lang/Math", name := "min", desc := "(II)I" } : Jvm.MethodName) prog_36_method_69_code (2 : Nat) (Option.some Jvm.ClassFile.FieldType.int)) ∈ lw_all := lw_g (lw_at lw_m3 16 rfl) rfl
theorem q795 : (Jvm.Cond.static ({ cls := "java/lang/Math", name := "max", desc := "(II)I" } : Jvm.MethodName)) ∈ lw_all := lw_g (lw_at lw_m3 188 rfl) rfl
theorem q796 : (Jvm.Cond.code ({ cls := "java/lang/Math", name := "max", desc := "(II)I" } : Jvm.MethodName) prog_36_method_65_code (2 : Nat) (Option.some Jvm.ClassFile.FieldType.int)) ∈ lw_all := lw_g (lw_at lw_m3 189 rfl) rfl
theorem q147 : (Jvm.Cond.initialized "java/lang/StringLatin1") ∈ lw_all := lw_g (lw_at lw_m1 20 rfl) rfl
theorem q820 : (Jvm.Cond.static ({ cls := "java/lang/StringLatin1", name := "canEncode", desc := "(C)Z" } : Jvm.MethodName)) ∈ lw_all := lw_g (lw_at lw_m3 213 rfl) rfl
theorem q821 : (Jvm.Cond.code ({ cls := "java/lang/StringLatin1", name := "canEncode", desc := "(C)Z" } : Jvm.MethodName) prog_41_method_3_code (1 : Nat) (Option.some Jvm.ClassFile.FieldType.boolean)) ∈ lw_all := lw_g (lw_at lw_m3 214 rfl) rfl
theorem q827 : (Jvm.Cond.static ({ cls := "java/lang/StringLatin1", name := "inflate", desc := "([BI[BII)V" } : Jvm.MethodName)) ∈ lw_all := lw_g (lw_at lw_m3 220 rfl) rfl
theorem q828 : (Jvm.Cond.code ({ cls := "java/lang/StringLatin1", name := "inflate", desc := "([BI[BII)V" } : Jvm.MethodName) prog_41_method_50_code (5 : Nat) (Option.none : Option Jvm.ClassFile.FieldType)) ∈ lw_all := lw_g (lw_at lw_m3 221 rfl) rfl
theorem q829 : (Jvm.Cond.methodLink "java/lang/StringLatin1" (240 : Nat) ({ cls := "java/lang/StringUTF16", name := "inflate", desc := "([BI[BII)V" } : Jvm.MethodName)) ∈ lw_all := lw_g (lw_at lw_m3 222 rfl) rfl
theorem q1110 : (Jvm.Cond.static ({ cls := "java/lang/StringLatin1", name := "hashCode", desc := "([B)I" } : Jvm.MethodName)) ∈ lw_all := lw_g (lw_at lw_m5 23 rfl) rfl
theorem q1111 : (Jvm.Cond.code ({ cls := "java/lang/StringLatin1", name := "hashCode", desc := "([B)I" } : Jvm.MethodName) prog_41_method_21_code (1 : Nat) (Option.some Jvm.ClassFile.FieldType.int)) ∈ lw_all := lw_g (lw_at lw_m5 24 rfl) rfl
theorem q1112 : (Jvm.Cond.methodLink "java/lang/StringLatin1" (84 : Nat) ({ cls := "jdk/internal/util/ArraysSupport", name := "vectorizedHashCode", desc := "(Ljava/lang/Object;IIII)I" } : Jvm.MethodName)) ∈ lw_all := lw_g (lw_at lw_m5 25 rfl) rfl
theorem q1169 : (Jvm.Cond.static ({ cls := "java/lang/StringLatin1", name := "equals", desc := "([B[B)Z" } : Jvm.MethodName)) ∈ lw_all := lw_g (lw_at lw_m5 82 rfl) rfl
theorem q1170 : (Jvm.Cond.code ({ cls := "java/lang/StringLatin1", name := "equals", desc := "([B[B)Z" } : Jvm.MethodName) prog_41_method_13_code (3 : Nat) (Option.some Jvm.ClassFile.FieldType.boolean)) ∈ lw_all := lw_g (lw_at lw_m5 83 rfl) rfl
theorem q2161 : (Jvm.Cond.static ({ cls := "java/lang/StringLatin1", name := "charAt", desc := "([BI)C" } : Jvm.MethodName)) ∈ lw_all := lw_g (lw_at lw_m9 114 rfl) rfl
theorem q2162 : (Jvm.Cond.code ({ cls := "java/lang/StringLatin1", name := "charAt", desc := "([BI)C" } : Jvm.MethodName) prog_41_method_2_code (2 : Nat) (Option.some Jvm.ClassFile.FieldType.char)) ∈ lw_all := lw_g (lw_at lw_m9 115 rfl) rfl
theorem q2163 : (Jvm.Cond.methodLink "java/lang/StringLatin1" (9 : Nat) ({ cls := "java/lang/String", name := "checkIndex", desc := "(II)V" } : Jvm.MethodName)) ∈ lw_all := lw_g (lw_at lw_m9 116 rfl) rfl
theorem q148 : (Jvm.Cond.initialized "jdk/internal/util/Preconditions") ∈ lw_all := lw_g (lw_at lw_m1 21 rfl) rfl
theorem q664 : (Jvm.Cond.static ({ cls := "jdk/internal/util/Preconditions", name := "checkIndex", desc := "(IILjava/util/function/BiFunction;)I" } : Jvm.MethodName)) ∈ lw_all := lw_g (lw_at lw_m3 57 rfl) rfl
theorem q665 : (Jvm.Cond.code ({ cls := "jdk/internal/util/Preconditions", name := "checkIndex", desc := "(IILjava/util/function/BiFunction;)I" } : Jvm.MethodName) prog_61_method_11_code (3 : Nat) (Option.some Jvm.ClassFile.FieldType.int)) ∈ lw_all := lw_g (lw_at lw_m3 58 rfl) rfl
theorem q842 : (Jvm.Cond.laysStatic "jdk/internal/util/Preconditions" "SIOOBE_FORMATTER" "Ljava/util/function/BiFunction;") ∈ lw_tbl := lw_at lw_m3 235 rfl
theorem q844 : (Jvm.Cond.static ({ cls := "jdk/internal/util/Preconditions", name := "checkFromIndexSize", desc := "(IIILjava/util/function/BiFunction;)I" } : Jvm.MethodName)) ∈ lw_all := lw_g (lw_at lw_m3 237 rfl) rfl
theorem q845 : (Jvm.Cond.code ({ cls := "jdk/internal/util/Preconditions", name := "checkFromIndexSize", desc := "(IIILjava/util/function/BiFunction;)I" } : Jvm.MethodName) prog_61_method_13_code (4 : Nat) (Option.some Jvm.ClassFile.FieldType.int)) ∈ lw_all := lw_g (lw_at lw_m3 238 rfl) rfl
theorem q975 : (Jvm.Cond.static ({ cls := "jdk/internal/util/Preconditions", name := "checkFromToIndex", desc := "(IIILjava/util/function/BiFunction;)I" } : Jvm.MethodName)) ∈ lw_all := lw_g (lw_at lw_m4 128 rfl) rfl
theorem q976 : (Jvm.Cond.code ({ cls := "jdk/internal/util/Preconditions", name := "checkFromToIndex", desc := "(IIILjava/util/function/BiFunction;)I" } : Jvm.MethodName) prog_61_method_12_code (4 : Nat) (Option.some Jvm.ClassFile.FieldType.int)) ∈ lw_all := lw_g (lw_at lw_m4 129 rfl) rfl
theorem q149 : (Jvm.Cond.initialized "java/lang/Throwable") ∈ lw_all := lw_g (lw_at lw_m1 22 rfl) rfl
theorem q908 : (Jvm.Cond.declares ({ cls := "java/lang/Throwable", name := "<init>", desc := "()V" } : Jvm.MethodName)) ∈ lw_tbl := lw_at lw_m4 61 rfl
theorem q909 : (Jvm.Cond.declares ({ cls := "java/lang/Throwable", name := "<init>", desc := "(Ljava/lang/String;)V" } : Jvm.MethodName)) ∈ lw_tbl := lw_at lw_m4 62 rfl
theorem q913 : (Jvm.Cond.lays "java/lang/Throwable" "java/lang/Throwable" "cause" "Ljava/lang/Throwable;") ∈ lw_all := lw_g (lw_at lw_m4 66 rfl) rfl
theorem q915 : (Jvm.Cond.lays "java/lang/Throwable" "java/lang/Throwable" "stackTrace" "[Ljava/lang/StackTraceElement;") ∈ lw_all := lw_g (lw_at lw_m4 68 rfl) rfl
theorem q917 : (Jvm.Cond.lays "java/lang/Throwable" "java/lang/Throwable" "suppressedExceptions" "Ljava/util/List;") ∈ lw_all := lw_g (lw_at lw_m4 70 rfl) rfl
theorem q919 : (Jvm.Cond.lays "java/lang/Throwable" "java/lang/Throwable" "detailMessage" "Ljava/lang/String;") ∈ lw_all := lw_g (lw_at lw_m4 72 rfl) rfl
theorem q921 : (Jvm.Cond.lays "java/lang/Throwable" "java/lang/Throwable" "backtrace" "Ljava/lang/Object;") ∈ lw_all := lw_g (lw_at lw_m4 74 rfl) rfl
theorem q922 : (Jvm.Cond.fieldLink "java/lang/Throwable" (198 : Nat) "java/lang/Throwable" "backtrace" "Ljava/lang/Object;") ∈ lw_all := lw_g (lw_at lw_m4 75 rfl) rfl
theorem q923 : (Jvm.Cond.superclass "java/lang/Throwable" "java/lang/Object") ∈ lw_all := lw_g (lw_at lw_m4 76 rfl) rfl
theorem q924 : (Jvm.Cond.instanceMethod ({ cls := "java/lang/Throwable", name := "<init>", desc := "()V" } : Jvm.MethodName)) ∈ lw_all := lw_g (lw_at lw_m4 77 rfl) rfl
theorem q925 : (Jvm.Cond.code ({ cls := "java/lang/Throwable", name := "<init>", desc := "()V" } : Jvm.MethodName) prog_45_method_1_code (1 : Nat) (Option.none : Option Jvm.ClassFile.FieldType)) ∈ lw_all := lw_g (lw_at lw_m4 78 rfl) rfl
theorem q926 : (Jvm.Cond.methodLink "java/lang/Throwable" (1 : Nat) ({ cls := "java/lang/Object", name := "<init>", desc := "()V" } : Jvm.MethodName)) ∈ lw_all := lw_g (lw_at lw_m4 79 rfl) rfl
theorem q927 : (Jvm.Cond.fieldLink "java/lang/Throwable" (13 : Nat) "java/lang/Throwable" "UNASSIGNED_STACK" "[Ljava/lang/StackTraceElement;") ∈ lw_all := lw_g (lw_at lw_m4 80 rfl) rfl
theorem q928 : (Jvm.Cond.laysStatic "java/lang/Throwable" "UNASSIGNED_STACK" "[Ljava/lang/StackTraceElement;") ∈ lw_tbl := lw_at lw_m4 81 rfl
theorem q929 : (Jvm.Cond.fieldLink "java/lang/Throwable" (20 : Nat) "java/lang/Throwable" "SUPPRESSED_SENTINEL" "Ljava/util/List;") ∈ lw_all := lw_g (lw_at lw_m4 82 rfl) rfl
theorem q930 : (Jvm.Cond.laysStatic "java/lang/Throwable" "SUPPRESSED_SENTINEL" "Ljava/util/List;") ∈ lw_tbl := lw_at lw_m4 83 rfl
theorem q931 : (Jvm.Cond.methodLink "java/lang/Throwable" (27 : Nat) ({ cls := "java/lang/Throwable", name := "fillInStackTrace", desc := "()Ljava/lang/Throwable;" } : Jvm.MethodName)) ∈ lw_all := lw_g (lw_at lw_m4 84 rfl) rfl
theorem q932 : (Jvm.Cond.instanceMethod ({ cls := "java/lang/Throwable", name := "fillInStackTrace", desc := "()Ljava/lang/Throwable;" } : Jvm.MethodName)) ∈ lw_all := lw_g (lw_at lw_m4 85 rfl) rfl
theorem q933 : (Jvm.Cond.sameMethod "java/lang/Throwable" "java/lang/Throwable" "fillInStackTrace" "()Ljava/lang/Throwable;") ∈ lw_all := lw_g (lw_at lw_m4 86 rfl) rfl
theorem q940 : (Jvm.Cond.codeSync ({ cls := "java/lang/Throwable", name := "fillInStackTrace", desc := "()Ljava/lang/Throwable;" } : Jvm.MethodName) prog_45_method_18_code (1 : Nat) (Option.some (Jvm.ClassFile.FieldType.object "java/lang/Throwable"))) ∈ lw_all := lw_g (lw_at lw_m4 93 rfl) rfl
theorem q941 : (Jvm.Cond.methodLink "java/lang/Throwable" (202 : Nat) ({ cls := "java/lang/Throwable", name := "fillInStackTrace", desc := "(I)Ljava/lang/Throwable;" } : Jvm.MethodName)) ∈ lw_all := lw_g (lw_at lw_m4 94 rfl) rfl
theorem q942 : (Jvm.Cond.privateMethod ({ cls := "java/lang/Throwable", name := "fillInStackTrace", desc := "(I)Ljava/lang/Throwable;" } : Jvm.MethodName)) ∈ lw_tbl := lw_at lw_m4 95 rfl
theorem q943 : (Jvm.Cond.instanceMethod ({ cls := "java/lang/Throwable", name := "fillInStackTrace", desc := "(I)Ljava/lang/Throwable;" } : Jvm.MethodName)) ∈ lw_all := lw_g (lw_at lw_m4 96 rfl) rfl
theorem q944 : (Jvm.Cond.instantiable "java/lang/Throwable" (6 : Nat)) ∈ lw_all := lw_g (lw_at lw_m4 97 rfl) rfl
theorem q945 : (Jvm.Cond.native ({ cls := "java/lang/Throwable", name := "fillInStackTrace", desc := "(I)Ljava/lang/Throwable;" } : Jvm.MethodName)) ∈ lw_all := lw_g (lw_at lw_m4 98 rfl) rfl
theorem q1032 : (Jvm.Cond.instanceMethod ({ cls := "java/lang/Throwable", name := "<init>", desc := "(Ljava/lang/String;)V" } : Jvm.MethodName)) ∈ lw_all := lw_g (lw_at lw_m4 185 rfl) rfl
theorem q1033 : (Jvm.Cond.code ({ cls := "java/lang/Throwable", name := "<init>", desc := "(Ljava/lang/String;)V" } : Jvm.MethodName) prog_45_method_2_code (2 : Nat) (Option.none : Option Jvm.ClassFile.FieldType)) ∈ lw_all := lw_g (lw_at lw_m4 186 rfl) rfl
theorem q1034 : (Jvm.Cond.fieldLink "java/lang/Throwable" (198 : Nat) "java/lang/Throwable" "backtrace" "Ljava/lang/Object;") ∈ lw_all := lw_g (lw_at lw_m4 187 rfl) rfl
theorem q1035 : (Jvm.Cond.fieldLink "java/lang/Throwable" (31 : Nat) "java/lang/Throwable" "detailMessage" "Ljava/lang/String;") ∈ lw_all := lw_g (lw_at lw_m4 188 rfl) rfl
theorem q1036 : (Jvm.Cond.fieldLink "java/lang/Throwable" (7 : Nat) "java/lang/Throwable" "cause" "Ljava/lang/Throwable;") ∈ lw_all := lw_g (lw_at lw_m4 189 rfl) rfl
theorem q1037 : (Jvm.Cond.fieldLink "java/lang/Throwable" (17 : Nat) "java/lang/Throwable" "stackTrace" "[Ljava/lang/StackTraceElement;") ∈ lw_all := lw_g (lw_at lw_m4 190 rfl) rfl
theorem q1038 : (Jvm.Cond.fieldLink "java/lang/Throwable" (24 : Nat) "java/lang/Throwable" "suppressedExceptions" "Ljava/util/List;") ∈ lw_all := lw_g (lw_at lw_m4 191 rfl) rfl
theorem q1039 : (Jvm.Cond.soleField "java/lang/Throwable" "backtrace") ∈ lw_all := lw_g (lw_at lw_m4 192 rfl) rfl
theorem q1040 : (Jvm.Cond.soleField "java/lang/Throwable" "detailMessage") ∈ lw_all := lw_g (lw_at lw_m4 193 rfl) rfl
theorem q1041 : (Jvm.Cond.soleField "java/lang/Throwable" "cause") ∈ lw_all := lw_g (lw_at lw_m4 194 rfl) rfl
theorem q1042 : (Jvm.Cond.soleField "java/lang/Throwable" "stackTrace") ∈ lw_all := lw_g (lw_at lw_m4 195 rfl) rfl
theorem q1044 : (Jvm.Cond.soleField "java/lang/Throwable" "depth") ∈ lw_all := lw_g (lw_at lw_m4 197 rfl) rfl
theorem q1045 : (Jvm.Cond.soleField "java/lang/Throwable" "suppressedExceptions") ∈ lw_all := lw_g (lw_at lw_m4 198 rfl) rfl
theorem q1093 : (Jvm.Cond.instanceMethod ({ cls := "java/lang/Throwable", name := "<init>", desc := "(Ljava/lang/String;Ljava/lang/Throwable;ZZ)V" } : Jvm.MethodName)) ∈ lw_all := lw_g (lw_at lw_m5 6 rfl) rfl
theorem q1094 : (Jvm.Cond.code ({ cls := "java/lang/Throwable", name := "<init>", desc := "(Ljava/lang/String;Ljava/lang/Throwable;ZZ)V" } : Jvm.MethodName) prog_45_method_5_code (5 : Nat) (Option.none : Option Jvm.ClassFile.FieldType)) ∈ lw_all := lw_g (lw_at lw_m5 7 rfl) rfl
theorem q2652 : (Jvm.Cond.sameMethod "java/lang/Throwable" "java/lang/Throwable" "fillInStackTrace" "(I)Ljava/lang/Throwable;") ∈ lw_all := lw_g (lw_at lw_m11 125 rfl) rfl
theorem q2689 : (Jvm.Cond.castable "java/lang/Throwable" "java/lang/Object") ∈ lw_tbl := lw_at lw_m11 162 rfl
theorem in_J12 : ∀ w ∈ wsJ120, w ∈ lw_all := lw_in wsJ120 [913, 915, 917, 919, 921] (by decide +kernel) (by decide +kernel)
theorem q150 : (Jvm.Cond.initialized "java/lang/Exception") ∈ lw_all := lw_g (lw_at lw_m1 23 rfl) rfl
theorem q906 : (Jvm.Cond.declares ({ cls := "java/lang/Exception", name := "<init>", desc := "()V" } : Jvm.MethodName)) ∈ lw_tbl := lw_at lw_m4 59 rfl
theorem q907 : (Jvm.Cond.declares ({ cls := "java/lang/Exception", name := "<init>", desc := "(Ljava/lang/String;)V" } : Jvm.MethodName)) ∈ lw_tbl := lw_at lw_m4 60 rfl
theorem q1029 : (Jvm.Cond.instanceMethod ({ cls := "java/lang/Exception", name := "<init>", desc := "(Ljava/lang/String;)V" } : Jvm.MethodName)) ∈ lw_all := lw_g (lw_at lw_m4 182 rfl) rfl
theorem q1030 : (Jvm.Cond.code ({ cls := "java/lang/Exception", name := "<init>", desc := "(Ljava/lang/String;)V" } : Jvm.MethodName) prog_30_method_2_code (2 : Nat) (Option.none : Option Jvm.ClassFile.FieldType)) ∈ lw_all := lw_g (lw_at lw_m4 183 rfl) rfl
theorem q1031 : (Jvm.Cond.methodLink "java/lang/Exception" (7 : Nat) ({ cls := "java/lang/Throwable", name := "<init>", desc := "(Ljava/lang/String;)V" } : Jvm.MethodName)) ∈ lw_all := lw_g (lw_at lw_m4 184 rfl) rfl
theorem q1090 : (Jvm.Cond.instanceMethod ({ cls := "java/lang/Exception", name := "<init>", desc := "(Ljava/lang/String;Ljava/lang/Throwable;ZZ)V" } : Jvm.MethodName)) ∈ lw_all := lw_g (lw_at lw_m5 3 rfl) rfl
theorem q1091 : (Jvm.Cond.code ({ cls := "java/lang/Exception", name := "<init>", desc := "(Ljava/lang/String;Ljava/lang/Throwable;ZZ)V" } : Jvm.MethodName) prog_30_method_5_code (5 : Nat) (Option.none : Option Jvm.ClassFile.FieldType)) ∈ lw_all := lw_g (lw_at lw_m5 4 rfl) rfl
theorem q1092 : (Jvm.Cond.methodLink "java/lang/Exception" (16 : Nat) ({ cls := "java/lang/Throwable", name := "<init>", desc := "(Ljava/lang/String;Ljava/lang/Throwable;ZZ)V" } : Jvm.MethodName)) ∈ lw_all := lw_g (lw_at lw_m5 5 rfl) rfl
theorem q1253 : (Jvm.Cond.instanceMethod ({ cls := "java/lang/Exception", name := "<init>", desc := "()V" } : Jvm.MethodName)) ∈ lw_all := lw_g (lw_at lw_m5 166 rfl) rfl
theorem q1254 : (Jvm.Cond.code ({ cls := "java/lang/Exception", name := "<init>", desc := "()V" } : Jvm.MethodName) prog_30_method_1_code (1 : Nat) (Option.none : Option Jvm.ClassFile.FieldType)) ∈ lw_all := lw_g (lw_at lw_m5 167 rfl) rfl
theorem q1255 : (Jvm.Cond.methodLink "java/lang/Exception" (1 : Nat) ({ cls := "java/lang/Throwable", name := "<init>", desc := "()V" } : Jvm.MethodName)) ∈ lw_all := lw_g (lw_at lw_m5 168 rfl) rfl
theorem q151 : (Jvm.Cond.initialized "java/lang/RuntimeException") ∈ lw_all := lw_g (lw_at lw_m1 24 rfl) rfl
theorem q904 : (Jvm.Cond.declares ({ cls := "java/lang/RuntimeException", name := "<init>", desc := "()V" } : Jvm.MethodName)) ∈ lw_tbl := lw_at lw_m4 57 rfl
theorem q905 : (Jvm.Cond.declares ({ cls := "java/lang/RuntimeException", name := "<init>", desc := "(Ljava/lang/String;)V" } : Jvm.MethodName)) ∈ lw_tbl := lw_at lw_m4 58 rfl
theorem q1026 : (Jvm.Cond.instanceMethod ({ cls := "java/lang/RuntimeException", name := "<init>", desc := "(Ljava/lang/String;)V" } : Jvm.MethodName)) ∈ lw_all := lw_g (lw_at lw_m4 179 rfl) rfl
theorem q1027 : (Jvm.Cond.code ({ cls := "java/lang/RuntimeException", name := "<init>", desc := "(Ljava/lang/String;)V" } : Jvm.MethodName) prog_38_method_2_code (2 : Nat) (Option.none : Option Jvm.ClassFile.FieldType)) ∈ lw_all := lw_g (lw_at lw_m4 180 rfl) rfl
theorem q1028 : (Jvm.Cond.methodLink "java/lang/RuntimeException" (7 : Nat) ({ cls := "java/lang/Exception", name := "<init>", desc := "(Ljava/lang/String;)V" } : Jvm.MethodName)) ∈ lw_all := lw_g (lw_at lw_m4 181 rfl) rfl
theorem q1250 : (Jvm.Cond.instanceMethod ({ cls := "java/lang/RuntimeException", name := "<init>", desc := "()V" } : Jvm.MethodName)) ∈ lw_all := lw_g (lw_at lw_m5 163 rfl) rfl
theorem q1251 : (Jvm.Cond.code ({ cls := "java/lang/RuntimeException", name := "<init>", desc := "()V" } : Jvm.MethodName) prog_38_method_1_code (1 : Nat) (Option.none : Option Jvm.ClassFile.FieldType)) ∈ lw_all := lw_g (lw_at lw_m5 164 rfl) rfl
theorem q1252 : (Jvm.Cond.methodLink "java/lang/RuntimeException" (1 : Nat) ({ cls := "java/lang/Exception", name := "<init>", desc := "()V" } : Jvm.MethodName)) ∈ lw_all := lw_g (lw_at lw_m5 165 rfl) rfl
theorem q152 : (Jvm.Cond.initialized "java/lang/IllegalArgumentException") ∈ lw_all := lw_g (lw_at lw_m1 25 rfl) rfl
theorem q902 : (Jvm.Cond.instantiable "java/lang/IllegalArgumentException" (6 : Nat)) ∈ lw_all := lw_g (lw_at lw_m4 55 rfl) rfl
theorem q903 : (Jvm.Cond.castable "java/lang/IllegalArgumentException" "java/lang/IllegalArgumentException") ∈ lw_tbl := lw_at lw_m4 56 rfl
theorem q910 : (Jvm.Cond.selects "java/lang/IllegalArgumentException" ({ cls := "java/lang/Throwable", name := "fillInStackTrace", desc := "(I)Ljava/lang/Throwable;" } : Jvm.MethodName) ({ cls := "java/lang/Throwable", name := "fillInStackTrace", desc := "(I)Ljava/lang/Throwable;" } : Jvm.MethodName)) ∈ lw_all := lw_g (lw_at lw_m4 63 rfl) rfl
theorem q911 : (Jvm.Cond.selects "java/lang/IllegalArgumentException" ({ cls := "java/lang/Throwable", name := "fillInStackTrace", desc := "()Ljava/lang/Throwable;" } : Jvm.MethodName) ({ cls := "java/lang/Throwable", name := "fillInStackTrace", desc := "()Ljava/lang/Throwable;" } : Jvm.MethodName)) ∈ lw_all := lw_g (lw_at lw_m4 64 rfl) rfl
theorem q912 : (Jvm.Cond.lays "java/lang/IllegalArgumentException" "java/lang/Throwable" "cause" "Ljava/lang/Throwable;") ∈ lw_all := lw_g (lw_at lw_m4 65 rfl) rfl
theorem q914 : (Jvm.Cond.lays "java/lang/IllegalArgumentException" "java/lang/Throwable" "stackTrace" "[Ljava/lang/StackTraceElement;") ∈ lw_all := lw_g (lw_at lw_m4 67 rfl) rfl
theorem q916 : (Jvm.Cond.lays "java/lang/IllegalArgumentException" "java/lang/Throwable" "suppressedExceptions" "Ljava/util/List;") ∈ lw_all := lw_g (lw_at lw_m4 69 rfl) rfl
theorem q918 : (Jvm.Cond.lays "java/lang/IllegalArgumentException" "java/lang/Throwable" "detailMessage" "Ljava/lang/String;") ∈ lw_all := lw_g (lw_at lw_m4 71 rfl) rfl
theorem q920 : (Jvm.Cond.lays "java/lang/IllegalArgumentException" "java/lang/Throwable" "backtrace" "Ljava/lang/Object;") ∈ lw_all := lw_g (lw_at lw_m4 73 rfl) rfl
theorem q1023 : (Jvm.Cond.instanceMethod ({ cls := "java/lang/IllegalArgumentException", name := "<init>", desc := "(Ljava/lang/String;)V" } : Jvm.MethodName)) ∈ lw_all := lw_g (lw_at lw_m4 176 rfl) rfl
theorem q1024 : (Jvm.Cond.code ({ cls := "java/lang/IllegalArgumentException", name := "<init>", desc := "(Ljava/lang/String;)V" } : Jvm.MethodName) prog_31_method_2_code (2 : Nat) (Option.none : Option Jvm.ClassFile.FieldType)) ∈ lw_all := lw_g (lw_at lw_m4 177 rfl) rfl
theorem q1025 : (Jvm.Cond.methodLink "java/lang/IllegalArgumentException" (7 : Nat) ({ cls := "java/lang/RuntimeException", name := "<init>", desc := "(Ljava/lang/String;)V" } : Jvm.MethodName)) ∈ lw_all := lw_g (lw_at lw_m4 178 rfl) rfl
theorem q1043 : (Jvm.Cond.lays "java/lang/IllegalArgumentException" "java/lang/Throwable" "depth" "I") ∈ lw_all := lw_g (lw_at lw_m4 196 rfl) rfl
theorem q1046 : (Jvm.Cond.superclass "java/lang/IllegalArgumentException" "java/lang/RuntimeException") ∈ lw_all := lw_g (lw_at lw_m4 199 rfl) rfl
theorem q1247 : (Jvm.Cond.instanceMethod ({ cls := "java/lang/IllegalArgumentException", name := "<init>", desc := "()V" } : Jvm.MethodName)) ∈ lw_all := lw_g (lw_at lw_m5 160 rfl) rfl
theorem q1248 : (Jvm.Cond.code ({ cls := "java/lang/IllegalArgumentException", name := "<init>", desc := "()V" } : Jvm.MethodName) prog_31_method_1_code (1 : Nat) (Option.none : Option Jvm.ClassFile.FieldType)) ∈ lw_all := lw_g (lw_at lw_m5 161 rfl) rfl
theorem q1249 : (Jvm.Cond.methodLink "java/lang/IllegalArgumentException" (1 : Nat) ({ cls := "java/lang/RuntimeException", name := "<init>", desc := "()V" } : Jvm.MethodName)) ∈ lw_all := lw_g (lw_at lw_m5 162 rfl) rfl
theorem q1460 : (Jvm.Cond.selects "java/lang/IllegalArgumentException" ({ cls := "java/lang/Object", name := "getClass", desc := "()Ljava/lang/Class;" } : Jvm.MethodName) ({ cls := "java/lang/Object", name := "getClass", desc := "()Ljava/lang/Class;" } : Jvm.MethodName)) ∈ lw_all := lw_g (lw_at lw_m6 133 rfl) rfl
theorem q2672 : (Jvm.Cond.castable "java/lang/IllegalArgumentException" "java/lang/Object") ∈ lw_tbl := lw_at lw_m11 145 rfl
theorem in_J15 : ∀ w ∈ wsJ150, w ∈ lw_all := lw_in wsJ150 [912, 914, 916, 918, 920, 1043] (by decide +kernel) (by decide +kernel)
theorem q154 : (Jvm.Cond.initialized "java/lang/Integer") ∈ lw_all := lw_g (lw_at lw_m1 27 rfl) rfl
theorem q539 : (Jvm.Cond.static ({ cls := "java/lang/Integer", name := "bitCount", desc := "(I)I" } : Jvm.MethodName)) ∈ lw_all := lw_g (lw_at lw_m2 172 rfl) rfl
theorem q540 : (Jvm.Cond.code ({ cls := "java/lang/Integer", name := "bitCount", desc := "(I)I" } : Jvm.MethodName) prog_34_method_49_code (1 : Nat) (Option.some Jvm.ClassFile.FieldType.int)) ∈ lw_all := lw_g (lw_at lw_m2 173 rfl) rfl
theorem q541 : (Jvm.Cond.constant "java/lang/Integer" (265 : Nat) (1431655765 : Int32)) ∈ lw_all := lw_g (lw_at lw_m2 174 rfl) rfl
theorem q542 : (Jvm.Cond.constant "java/lang/Integer" (266 : Nat) (858993459 : Int32)) ∈ lw_all := lw_g (lw_at lw_m2 175 rfl) rfl
theorem q543 : (Jvm.Cond.constant "java/lang/Integer" (267 : Nat) (252645135 : Int32)) ∈ lw_all := lw_g (lw_at lw_m2 176 rfl) rfl
theorem q545 : (Jvm.Cond.static ({ cls := "java/lang/Integer", name := "numberOfTrailingZeros", desc := "(I)I" } : Jvm.MethodName)) ∈ lw_all := lw_g (lw_at lw_m2 178 rfl) rfl
theorem q546 : (Jvm.Cond.code ({ cls := "java/lang/Integer", name := "numberOfTrailingZeros", desc := "(I)I" } : Jvm.MethodName) prog_34_method_48_code (2 : Nat) (Option.some Jvm.ClassFile.FieldType.int)) ∈ lw_all := lw_g (lw_at lw_m2 179 rfl) rfl
theorem q547 : (Jvm.Cond.constant "java/lang/Integer" (264 : Nat) (65536 : Int32)) ∈ lw_all := lw_g (lw_at lw_m2 180 rfl) rfl
theorem q956 : (Jvm.Cond.static ({ cls := "java/lang/Integer", name := "stringSize", desc := "(I)I" } : Jvm.MethodName)) ∈ lw_all := lw_g (lw_at lw_m4 109 rfl) rfl
theorem q957 : (Jvm.Cond.code ({ cls := "java/lang/Integer", name := "stringSize", desc := "(I)I" } : Jvm.MethodName) prog_34_method_13_code (4 : Nat) (Option.some Jvm.ClassFile.FieldType.int)) ∈ lw_all := lw_g (lw_at lw_m4 110 rfl) rfl
theorem q959 : (Jvm.Cond.static ({ cls := "java/lang/Integer", name := "getChars", desc := "(II[B)I" } : Jvm.MethodName)) ∈ lw_all := lw_g (lw_at lw_m4 112 rfl) rfl
theorem q960 : (Jvm.Cond.code ({ cls := "java/lang/Integer", name := "getChars", desc := "(II[B)I" } : Jvm.MethodName) prog_34_method_12_code (7 : Nat) (Option.some Jvm.ClassFile.FieldType.int)) ∈ lw_all := lw_g (lw_at lw_m4 113 rfl) rfl
theorem q961 : (Jvm.Cond.fieldLink "java/lang/Integer" (83 : Nat) "java/lang/Integer" "DigitOnes" "[B") ∈ lw_all := lw_g (lw_at lw_m4 114 rfl) rfl
theorem q962 : (Jvm.Cond.laysStatic "java/lang/Integer" "DigitOnes" "[B") ∈ lw_tbl := lw_at lw_m4 115 rfl
theorem q963 : (Jvm.Cond.fieldLink "java/lang/Integer" (87 : Nat) "java/lang/Integer" "DigitTens" "[B") ∈ lw_all := lw_g (lw_at lw_m4 116 rfl) rfl
theorem q964 : (Jvm.Cond.laysStatic "java/lang/Integer" "DigitTens" "[B") ∈ lw_tbl := lw_at lw_m4 117 rfl
theorem q155 : (Jvm.Cond.initialized "HungFaces$Wrong") ∈ lw_all := lw_g (lw_at lw_m1 28 rfl) rfl
theorem q934 : (Jvm.Cond.selects "HungFaces$Wrong" ({ cls := "java/lang/Throwable", name := "fillInStackTrace", desc := "()Ljava/lang/Throwable;" } : Jvm.MethodName) ({ cls := "java/lang/Throwable", name := "fillInStackTrace", desc := "()Ljava/lang/Throwable;" } : Jvm.MethodName)) ∈ lw_all := lw_g (lw_at lw_m4 87 rfl) rfl
theorem q1078 : (Jvm.Cond.instantiable "HungFaces$Wrong" (6 : Nat)) ∈ lw_all := lw_g (lw_at lw_m4 231 rfl) rfl
theorem q1079 : (Jvm.Cond.castable "HungFaces$Wrong" "HungFaces$Wrong") ∈ lw_tbl := lw_at lw_m4 232 rfl
theorem q1080 : (Jvm.Cond.selects "HungFaces$Wrong" ({ cls := "java/lang/Throwable", name := "fillInStackTrace", desc := "(I)Ljava/lang/Throwable;" } : Jvm.MethodName) ({ cls := "java/lang/Throwable", name := "fillInStackTrace", desc := "(I)Ljava/lang/Throwable;" } : Jvm.MethodName)) ∈ lw_all := lw_g (lw_at lw_m4 233 rfl) rfl
theorem q1081 : (Jvm.Cond.lays "HungFaces$Wrong" "java/lang/Throwable" "cause" "Ljava/lang/Throwable;") ∈ lw_all := lw_g (lw_at lw_m4 234 rfl) rfl
theorem q1082 : (Jvm.Cond.lays "HungFaces$Wrong" "java/lang/Throwable" "stackTrace" "[Ljava/lang/StackTraceElement;") ∈ lw_all := lw_g (lw_at lw_m4 235 rfl) rfl
theorem q1083 : (Jvm.Cond.lays "HungFaces$Wrong" "java/lang/Throwable" "suppressedExceptions" "Ljava/util/List;") ∈ lw_all := lw_g (lw_at lw_m4 236 rfl) rfl
theorem q1084 : (Jvm.Cond.lays "HungFaces$Wrong" "java/lang/Throwable" "detailMessage" "Ljava/lang/String;") ∈ lw_all := lw_g (lw_at lw_m4 237 rfl) rfl
theorem q1085 : (Jvm.Cond.lays "HungFaces$Wrong" "java/lang/Throwable" "backtrace" "Ljava/lang/Object;") ∈ lw_all := lw_g (lw_at lw_m4 238 rfl) rfl
theorem q1087 : (Jvm.Cond.instanceMethod ({ cls := "HungFaces$Wrong", name := "<init>", desc := "()V" } : Jvm.MethodName)) ∈ lw_all := lw_g (lw_at lw_m5 0 rfl) rfl
theorem q1088 : (Jvm.Cond.code ({ cls := "HungFaces$Wrong", name := "<init>", desc := "()V" } : Jvm.MethodName) prog_19_method_1_code (1 : Nat) (Option.none : Option Jvm.ClassFile.FieldType)) ∈ lw_all := lw_g (lw_at lw_m5 1 rfl) rfl
theorem q1089 : (Jvm.Cond.methodLink "HungFaces$Wrong" (1 : Nat) ({ cls := "java/lang/Exception", name := "<init>", desc := "(Ljava/lang/String;Ljava/lang/Throwable;ZZ)V" } : Jvm.MethodName)) ∈ lw_all := lw_g (lw_at lw_m5 2 rfl) rfl
theorem q1095 : (Jvm.Cond.lays "HungFaces$Wrong" "java/lang/Throwable" "depth" "I") ∈ lw_all := lw_g (lw_at lw_m5 8 rfl) rfl
theorem q1096 : (Jvm.Cond.superclass "HungFaces$Wrong" "java/lang/Exception") ∈ lw_all := lw_g (lw_at lw_m5 9 rfl) rfl
theorem q1457 : (Jvm.Cond.selects "HungFaces$Wrong" ({ cls := "java/lang/Object", name := "getClass", desc := "()Ljava/lang/Class;" } : Jvm.MethodName) ({ cls := "java/lang/Object", name := "getClass", desc := "()Ljava/lang/Class;" } : Jvm.MethodName)) ∈ lw_all := lw_g (lw_at lw_m6 130 rfl) rfl
theorem q2673 : (Jvm.Cond.castable "HungFaces$Wrong" "java/lang/Object") ∈ lw_tbl := lw_at lw_m11 146 rfl
theorem in_X9 : ∀ w ∈ wsX90, w ∈ lw_all := lw_in wsX90 [1081, 1082, 1083, 1084, 1085, 1095] (by decide +kernel) (by decide +kernel)
theorem q156 : (Jvm.Cond.initialized "java/lang/UnsupportedOperationException") ∈ lw_all := lw_g (lw_at lw_m1 29 rfl) rfl
theorem q938 : (Jvm.Cond.selects "java/lang/UnsupportedOperationException" ({ cls := "java/lang/Throwable", name := "fillInStackTrace", desc := "()Ljava/lang/Throwable;" } : Jvm.MethodName) ({ cls := "java/lang/Throwable", name := "fillInStackTrace", desc := "()Ljava/lang/Throwable;" } : Jvm.MethodName)) ∈ lw_all := lw_g (lw_at lw_m4 91 rfl) rfl
theorem q1257 : (Jvm.Cond.instantiable "java/lang/UnsupportedOperationException" (6 : Nat)) ∈ lw_all := lw_g (lw_at lw_m5 170 rfl) rfl
theorem q1258 : (Jvm.Cond.castable "java/lang/UnsupportedOperationException" "java/lang/UnsupportedOperationException") ∈ lw_tbl := lw_at lw_m5 171 rfl
theorem q1259 : (Jvm.Cond.selects "java/lang/UnsupportedOperationException" ({ cls := "java/lang/Throwable", name := "fillInStackTrace", desc := "(I)Ljava/lang/Throwable;" } : Jvm.MethodName) ({ cls := "java/lang/Throwable", name := "fillInStackTrace", desc := "(I)Ljava/lang/Throwable;" } : Jvm.MethodName)) ∈ lw_all := lw_g (lw_at lw_m5 172 rfl) rfl
theorem q1260 : (Jvm.Cond.lays "java/lang/UnsupportedOperationException" "java/lang/Throwable" "cause" "Ljava/lang/Throwable;") ∈ lw_all := lw_g (lw_at lw_m5 173 rfl) rfl
theorem q1261 : (Jvm.Cond.lays "java/lang/UnsupportedOperationException" "java/lang/Throwable" "stackTrace" "[Ljava/lang/StackTraceElement;") ∈ lw_all := lw_g (lw_at lw_m5 174 rfl) rfl
theorem q1262 : (Jvm.Cond.lays "java/lang/UnsupportedOperationException" "java/lang/Throwable" "suppressedExceptions" "Ljava/util/List;") ∈ lw_all := lw_g (lw_at lw_m5 175 rfl) rfl
theorem q1263 : (Jvm.Cond.lays "java/lang/UnsupportedOperationException" "java/lang/Throwable" "detailMessage" "Ljava/lang/String;") ∈ lw_all := lw_g (lw_at lw_m5 176 rfl) rfl
theorem q1264 : (Jvm.Cond.lays "java/lang/UnsupportedOperationException" "java/lang/Throwable" "backtrace" "Ljava/lang/Object;") ∈ lw_all := lw_g (lw_at lw_m5 177 rfl) rfl
theorem q1266 : (Jvm.Cond.instanceMethod ({ cls := "java/lang/UnsupportedOperationException", name := "<init>", desc := "()V" } : Jvm.MethodName)) ∈ lw_all := lw_g (lw_at lw_m5 179 rfl) rfl
theorem q1267 : (Jvm.Cond.code ({ cls := "java/lang/UnsupportedOperationException", name := "<init>", desc := "()V" } : Jvm.MethodName) prog_46_method_1_code (1 : Nat) (Option.none : Option Jvm.ClassFile.FieldType)) ∈ lw_all := lw_g (lw_at lw_m5 180 rfl) rfl
theorem q1268 : (Jvm.Cond.methodLink "java/lang/UnsupportedOperationException" (1 : Nat) ({ cls := "java/lang/RuntimeException", name := "<init>", desc := "()V" } : Jvm.MethodName)) ∈ lw_all := lw_g (lw_at lw_m5 181 rfl) rfl
theorem q1269 : (Jvm.Cond.lays "java/lang/UnsupportedOperationException" "java/lang/Throwable" "depth" "I") ∈ lw_all := lw_g (lw_at lw_m5 182 rfl) rfl
theorem q1270 : (Jvm.Cond.superclass "java/lang/UnsupportedOperationException" "java/lang/RuntimeException") ∈ lw_all := lw_g (lw_at lw_m5 183 rfl) rfl
theorem q1466 : (Jvm.Cond.selects "java/lang/UnsupportedOperationException" ({ cls := "java/lang/Object", name := "getClass", desc := "()Ljava/lang/Class;" } : Jvm.MethodName) ({ cls := "java/lang/Object", name := "getClass", desc := "()Ljava/lang/Class;" } : Jvm.MethodName)) ∈ lw_all := lw_g (lw_at lw_m6 139 rfl) rfl
theorem q2675 : (Jvm.Cond.castable "java/lang/UnsupportedOperationException" "java/lang/Object") ∈ lw_tbl := lw_at lw_m11 148 rfl
theorem in_J17 : ∀ w ∈ wsJ170, w ∈ lw_all := lw_in wsJ170 [1260, 1261, 1262, 1263, 1264, 1269] (by decide +kernel) (by decide +kernel)
theorem q157 : (Jvm.Cond.initialized "HungFaces$Law") ∈ lw_all := lw_g (lw_at lw_m1 30 rfl) rfl
theorem q1283 : (Jvm.Cond.instantiable "HungFaces$Law" (1 : Nat)) ∈ lw_all := lw_g (lw_at lw_m5 196 rfl) rfl
theorem q1285 : (Jvm.Cond.instanceMethod ({ cls := "HungFaces$Law", name := "<init>", desc := "()V" } : Jvm.MethodName)) ∈ lw_all := lw_g (lw_at lw_m5 198 rfl) rfl
theorem q1286 : (Jvm.Cond.code ({ cls := "HungFaces$Law", name := "<init>", desc := "()V" } : Jvm.MethodName) prog_4_method_1_code (1 : Nat) (Option.none : Option Jvm.ClassFile.FieldType)) ∈ lw_all := lw_g (lw_at lw_m5 199 rfl) rfl
theorem q1287 : (Jvm.Cond.methodLink "HungFaces$Law" (1 : Nat) ({ cls := "java/lang/Object", name := "<init>", desc := "()V" } : Jvm.MethodName)) ∈ lw_all := lw_g (lw_at lw_m5 200 rfl) rfl
theorem q1288 : (Jvm.Cond.classLink "HungFaces$Law" (7 : Nat) "java/util/ArrayList") ∈ lw_all := lw_g (lw_at lw_m5 201 rfl) rfl
theorem q1289 : (Jvm.Cond.methodLink "HungFaces$Law" (9 : Nat) ({ cls := "java/util/ArrayList", name := "<init>", desc := "()V" } : Jvm.MethodName)) ∈ lw_all := lw_g (lw_at lw_m5 202 rfl) rfl
theorem q1290 : (Jvm.Cond.fieldLink "HungFaces$Law" (10 : Nat) "HungFaces$Law" "lines" "Ljava/util/ArrayList;") ∈ lw_all := lw_g (lw_at lw_m5 203 rfl) rfl
theorem q1292 : (Jvm.Cond.laysFinal "HungFaces$Law" "HungFaces$Law" "lines" "Ljava/util/ArrayList;") ∈ lw_all := lw_g (lw_at lw_m5 205 rfl) rfl
theorem q1293 : (Jvm.Cond.soleField "HungFaces$Law" "lines") ∈ lw_all := lw_g (lw_at lw_m5 206 rfl) rfl
theorem q1294 : (Jvm.Cond.superclass "HungFaces$Law" "java/lang/Object") ∈ lw_all := lw_g (lw_at lw_m5 207 rfl) rfl
theorem q1442 : (Jvm.Cond.selects "HungFaces$Law" ({ cls := "java/lang/Object", name := "getClass", desc := "()Ljava/lang/Class;" } : Jvm.MethodName) ({ cls := "java/lang/Object", name := "getClass", desc := "()Ljava/lang/Class;" } : Jvm.MethodName)) ∈ lw_all := lw_g (lw_at lw_m6 115 rfl) rfl
theorem q1498 : (Jvm.Cond.fieldLinkNest "HungFaces$Law" (26 : Nat) "HungFaces$Line" "hand" "Z" "HungFaces") ∈ lw_tbl := lw_at lw_m6 171 rfl
theorem q1500 : (Jvm.Cond.fieldLinkNest "HungFaces$Law" (30 : Nat) "HungFaces$Line" "when" "LHungFaces$Cond;" "HungFaces") ∈ lw_tbl := lw_at lw_m6 173 rfl
theorem q1764 : (Jvm.Cond.instanceMethod ({ cls := "HungFaces$Law", name := "tells", desc := "(ZLHungFaces$Scene;)Z" } : Jvm.MethodName)) ∈ lw_all := lw_g (lw_at lw_m7 197 rfl) rfl
theorem q1765 : (Jvm.Cond.selects "HungFaces$Law" ({ cls := "HungFaces$Law", name := "tells", desc := "(ZLHungFaces$Scene;)Z" } : Jvm.MethodName) ({ cls := "HungFaces$Law", name := "tells", desc := "(ZLHungFaces$Scene;)Z" } : Jvm.MethodName)) ∈ lw_all := lw_g (lw_at lw_m7 198 rfl) rfl
theorem q1766 : (Jvm.Cond.code ({ cls := "HungFaces$Law", name := "tells", desc := "(ZLHungFaces$Scene;)Z" } : Jvm.MethodName) prog_4_method_2_code (5 : Nat) (Option.some Jvm.ClassFile.FieldType.boolean)) ∈ lw_all := lw_g (lw_at lw_m7 199 rfl) rfl
theorem q1767 : (Jvm.Cond.methodLink "HungFaces$Law" (16 : Nat) ({ cls := "java/util/ArrayList", name := "size", desc := "()I" } : Jvm.MethodName)) ∈ lw_all := lw_g (lw_at lw_m7 200 rfl) rfl
theorem q1768 : (Jvm.Cond.methodLink "HungFaces$Law" (20 : Nat) ({ cls := "java/util/ArrayList", name := "get", desc := "(I)Ljava/lang/Object;" } : Jvm.MethodName)) ∈ lw_all := lw_g (lw_at lw_m7 201 rfl) rfl
theorem q1776 : (Jvm.Cond.classLink "HungFaces$Law" (24 : Nat) "HungFaces$Line") ∈ lw_all := lw_g (lw_at lw_m7 209 rfl) rfl
theorem q1777 : (Jvm.Cond.interfaceEntry "HungFaces$Law" (34 : Nat)) ∈ lw_tbl := lw_at lw_m7 210 rfl
theorem q1778 : (Jvm.Cond.methodLink "HungFaces$Law" (34 : Nat) ({ cls := "HungFaces$Cond", name := "holds", desc := "(LHungFaces$Scene;)Z" } : Jvm.MethodName)) ∈ lw_all := lw_g (lw_at lw_m7 211 rfl) rfl
theorem q2676 : (Jvm.Cond.castable "HungFaces$Law" "java/lang/Object") ∈ lw_tbl := lw_at lw_m11 149 rfl
theorem in_X10 : ∀ w ∈ wsX100, w ∈ lw_all := lw_in wsX100 [1292] (by decide +kernel) (by decide +kernel)
theorem q158 : (Jvm.Cond.initialized "HungFaces$Line") ∈ lw_all := lw_g (lw_at lw_m1 31 rfl) rfl
theorem q1302 : (Jvm.Cond.instantiable "HungFaces$Line" (2 : Nat)) ∈ lw_all := lw_g (lw_at lw_m5 215 rfl) rfl
theorem q1444 : (Jvm.Cond.selects "HungFaces$Line" ({ cls := "java/lang/Object", name := "getClass", desc := "()Ljava/lang/Class;" } : Jvm.MethodName) ({ cls := "java/lang/Object", name := "getClass", desc := "()Ljava/lang/Class;" } : Jvm.MethodName)) ∈ lw_all := lw_g (lw_at lw_m6 117 rfl) rfl
theorem q1494 : (Jvm.Cond.instanceMethod ({ cls := "HungFaces$Line", name := "<init>", desc := "(ZLHungFaces$Cond;)V" } : Jvm.MethodName)) ∈ lw_all := lw_g (lw_at lw_m6 167 rfl) rfl
theorem q1495 : (Jvm.Cond.code ({ cls := "HungFaces$Line", name := "<init>", desc := "(ZLHungFaces$Cond;)V" } : Jvm.MethodName) prog_6_method_1_code (3 : Nat) (Option.none : Option Jvm.ClassFile.FieldType)) ∈ lw_all := lw_g (lw_at lw_m6 168 rfl) rfl
theorem q1496 : (Jvm.Cond.methodLink "HungFaces$Line" (1 : Nat) ({ cls := "java/lang/Object", name := "<init>", desc := "()V" } : Jvm.MethodName)) ∈ lw_all := lw_g (lw_at lw_m6 169 rfl) rfl
theorem q1497 : (Jvm.Cond.fieldLink "HungFaces$Line" (7 : Nat) "HungFaces$Line" "hand" "Z") ∈ lw_all := lw_g (lw_at lw_m6 170 rfl) rfl
theorem q1499 : (Jvm.Cond.fieldLink "HungFaces$Line" (13 : Nat) "HungFaces$Line" "when" "LHungFaces$Cond;") ∈ lw_all := lw_g (lw_at lw_m6 172 rfl) rfl
theorem q1501 : (Jvm.Cond.laysFinal "HungFaces$Line" "HungFaces$Line" "hand" "Z") ∈ lw_all := lw_g (lw_at lw_m6 174 rfl) rfl
theorem q1502 : (Jvm.Cond.soleField "HungFaces$Line" "hand") ∈ lw_all := lw_g (lw_at lw_m6 175 rfl) rfl
theorem q1503 : (Jvm.Cond.laysFinal "HungFaces$Line" "HungFaces$Line" "when" "LHungFaces$Cond;") ∈ lw_all := lw_g (lw_at lw_m6 176 rfl) rfl
theorem q1504 : (Jvm.Cond.soleField "HungFaces$Line" "when") ∈ lw_all := lw_g (lw_at lw_m6 177 rfl) rfl
theorem q1505 : (Jvm.Cond.superclass "HungFaces$Line" "java/lang/Object") ∈ lw_all := lw_g (lw_at lw_m6 178 rfl) rfl
theorem q2677 : (Jvm.Cond.castable "HungFaces$Line" "java/lang/Object") ∈ lw_tbl := lw_at lw_m11 150 rfl
theorem in_X11 : ∀ w ∈ wsX110, w ∈ lw_all := lw_in wsX110 [1501, 1503] (by decide +kernel) (by decide +kernel)
theorem q159 : (Jvm.Cond.initialized "HungFaces$Row") ∈ lw_all := lw_g (lw_at lw_m1 32 rfl) rfl
theorem q1315 : (Jvm.Cond.instantiable "HungFaces$Row" (2 : Nat)) ∈ lw_all := lw_g (lw_at lw_m5 228 rfl) rfl
theorem q1317 : (Jvm.Cond.instanceMethod ({ cls := "HungFaces$Row", name := "<init>", desc := "(Z)V" } : Jvm.MethodName)) ∈ lw_all := lw_g (lw_at lw_m5 230 rfl) rfl
theorem q1318 : (Jvm.Cond.code ({ cls := "HungFaces$Row", name := "<init>", desc := "(Z)V" } : Jvm.MethodName) prog_12_method_1_code (2 : Nat) (Option.none : Option Jvm.ClassFile.FieldType)) ∈ lw_all := lw_g (lw_at lw_m5 231 rfl) rfl
theorem q1319 : (Jvm.Cond.methodLink "HungFaces$Row" (1 : Nat) ({ cls := "java/lang/Object", name := "<init>", desc := "()V" } : Jvm.MethodName)) ∈ lw_all := lw_g (lw_at lw_m5 232 rfl) rfl
theorem q1320 : (Jvm.Cond.classLink "HungFaces$Row" (7 : Nat) "java/util/ArrayList") ∈ lw_all := lw_g (lw_at lw_m5 233 rfl) rfl
theorem q1321 : (Jvm.Cond.methodLink "HungFaces$Row" (9 : Nat) ({ cls := "java/util/ArrayList", name := "<init>", desc := "()V" } : Jvm.MethodName)) ∈ lw_all := lw_g (lw_at lw_m5 234 rfl) rfl
theorem q1322 : (Jvm.Cond.fieldLink "HungFaces$Row" (16 : Nat) "HungFaces$Row" "all" "Z") ∈ lw_all := lw_g (lw_at lw_m5 235 rfl) rfl
theorem q1323 : (Jvm.Cond.fieldLink "HungFaces$Row" (10 : Nat) "HungFaces$Row" "row" "Ljava/util/ArrayList;") ∈ lw_all := lw_g (lw_at lw_m5 236 rfl) rfl
theorem q1325 : (Jvm.Cond.laysFinal "HungFaces$Row" "HungFaces$Row" "all" "Z") ∈ lw_all := lw_g (lw_at lw_m5 238 rfl) rfl
theorem q1326 : (Jvm.Cond.soleField "HungFaces$Row" "all") ∈ lw_all := lw_g (lw_at lw_m5 239 rfl) rfl
theorem q1327 : (Jvm.Cond.laysFinal "HungFaces$Row" "HungFaces$Row" "row" "Ljava/util/ArrayList;") ∈ lw_all := lw_g (lw_at lw_m6 0 rfl) rfl
theorem q1328 : (Jvm.Cond.soleField "HungFaces$Row" "row") ∈ lw_all := lw_g (lw_at lw_m6 1 rfl) rfl
theorem q1329 : (Jvm.Cond.superclass "HungFaces$Row" "java/lang/Object") ∈ lw_all := lw_g (lw_at lw_m6 2 rfl) rfl
theorem q1450 : (Jvm.Cond.selects "HungFaces$Row" ({ cls := "java/lang/Object", name := "getClass", desc := "()Ljava/lang/Class;" } : Jvm.MethodName) ({ cls := "java/lang/Object", name := "getClass", desc := "()Ljava/lang/Class;" } : Jvm.MethodName)) ∈ lw_all := lw_g (lw_at lw_m6 123 rfl) rfl
theorem q1813 : (Jvm.Cond.castable "HungFaces$Row" "HungFaces$Cond") ∈ lw_tbl := lw_at lw_m8 6 rfl
theorem q1814 : (Jvm.Cond.selects "HungFaces$Row" ({ cls := "HungFaces$Cond", name := "holds", desc := "(LHungFaces$Scene;)Z" } : Jvm.MethodName) ({ cls := "HungFaces$Row", name := "holds", desc := "(LHungFaces$Scene;)Z" } : Jvm.MethodName)) ∈ lw_all := lw_g (lw_at lw_m8 7 rfl) rfl
theorem q1815 : (Jvm.Cond.unhidden "HungFaces$Row" "holds" "(LHungFaces$Scene;)Z") ∈ lw_tbl := lw_at lw_m8 8 rfl
theorem q1816 : (Jvm.Cond.instanceMethod ({ cls := "HungFaces$Row", name := "holds", desc := "(LHungFaces$Scene;)Z" } : Jvm.MethodName)) ∈ lw_all := lw_g (lw_at lw_m8 9 rfl) rfl
theorem q1817 : (Jvm.Cond.publicMethod ({ cls := "HungFaces$Row", name := "holds", desc := "(LHungFaces$Scene;)Z" } : Jvm.MethodName)) ∈ lw_tbl := lw_at lw_m8 10 rfl
theorem q1818 : (Jvm.Cond.code ({ cls := "HungFaces$Row", name := "holds", desc := "(LHungFaces$Scene;)Z" } : Jvm.MethodName) prog_12_method_2_code (3 : Nat) (Option.some Jvm.ClassFile.FieldType.boolean)) ∈ lw_all := lw_g (lw_at lw_m8 11 rfl) rfl
theorem q1819 : (Jvm.Cond.methodLink "HungFaces$Row" (20 : Nat) ({ cls := "java/util/ArrayList", name := "size", desc := "()I" } : Jvm.MethodName)) ∈ lw_all := lw_g (lw_at lw_m8 12 rfl) rfl
theorem q1820 : (Jvm.Cond.methodLink "HungFaces$Row" (24 : Nat) ({ cls := "java/util/ArrayList", name := "get", desc := "(I)Ljava/lang/Object;" } : Jvm.MethodName)) ∈ lw_all := lw_g (lw_at lw_m8 13 rfl) rfl
theorem q1821 : (Jvm.Cond.classLink "HungFaces$Row" (28 : Nat) "HungFaces$Cond") ∈ lw_all := lw_g (lw_at lw_m8 14 rfl) rfl
theorem q1822 : (Jvm.Cond.interfaceEntry "HungFaces$Row" (30 : Nat)) ∈ lw_tbl := lw_at lw_m8 15 rfl
theorem q1823 : (Jvm.Cond.methodLink "HungFaces$Row" (30 : Nat) ({ cls := "HungFaces$Cond", name := "holds", desc := "(LHungFaces$Scene;)Z" } : Jvm.MethodName)) ∈ lw_all := lw_g (lw_at lw_m8 16 rfl) rfl
theorem q2678 : (Jvm.Cond.castable "HungFaces$Row" "java/lang/Object") ∈ lw_tbl := lw_at lw_m11 151 rfl
theorem in_X12 : ∀ w ∈ wsX120, w ∈ lw_all := lw_in wsX120 [1325, 1327] (by decide +kernel) (by decide +kernel)
theorem q160 : (Jvm.Cond.initialized "HungFaces$Not") ∈ lw_all := lw_g (lw_at lw_m1 33 rfl) rfl
theorem q1348 : (Jvm.Cond.instantiable "HungFaces$Not" (1 : Nat)) ∈ lw_all := lw_g (lw_at lw_m6 21 rfl) rfl
theorem q1350 : (Jvm.Cond.instanceMethod ({ cls := "HungFaces$Not", name := "<init>", desc := "(LHungFaces$Cond;)V" } : Jvm.MethodName)) ∈ lw_all := lw_g (lw_at lw_m6 23 rfl) rfl
theorem q1351 : (Jvm.Cond.code ({ cls := "HungFaces$Not", name := "<init>", desc := "(LHungFaces$Cond;)V" } : Jvm.MethodName) prog_7_method_1_code (2 : Nat) (Option.none : Option Jvm.ClassFile.FieldType)) ∈ lw_all := lw_g (lw_at lw_m6 24 rfl) rfl
theorem q1352 : (Jvm.Cond.methodLink "HungFaces$Not" (1 : Nat) ({ cls := "java/lang/Object", name := "<init>", desc := "()V" } : Jvm.MethodName)) ∈ lw_all := lw_g (lw_at lw_m6 25 rfl) rfl
theorem q1353 : (Jvm.Cond.fieldLink "HungFaces$Not" (7 : Nat) "HungFaces$Not" "a" "LHungFaces$Cond;") ∈ lw_all := lw_g (lw_at lw_m6 26 rfl) rfl
theorem q1354 : (Jvm.Cond.laysFinal "HungFaces$Not" "HungFaces$Not" "a" "LHungFaces$Cond;") ∈ lw_all := lw_g (lw_at lw_m6 27 rfl) rfl
theorem q1355 : (Jvm.Cond.soleField "HungFaces$Not" "a") ∈ lw_all := lw_g (lw_at lw_m6 28 rfl) rfl
theorem q1356 : (Jvm.Cond.superclass "HungFaces$Not" "java/lang/Object") ∈ lw_all := lw_g (lw_at lw_m6 29 rfl) rfl
theorem q1445 : (Jvm.Cond.selects "HungFaces$Not" ({ cls := "java/lang/Object", name := "getClass", desc := "()Ljava/lang/Class;" } : Jvm.MethodName) ({ cls := "java/lang/Object", name := "getClass", desc := "()Ljava/lang/Class;" } : Jvm.MethodName)) ∈ lw_all := lw_g (lw_at lw_m6 118 rfl) rfl
theorem q1805 : (Jvm.Cond.castable "HungFaces$Not" "HungFaces$Cond") ∈ lw_tbl := lw_at lw_m7 238 rfl
theorem q1806 : (Jvm.Cond.selects "HungFaces$Not" ({ cls := "HungFaces$Cond", name := "holds", desc := "(LHungFaces$Scene;)Z" } : Jvm.MethodName) ({ cls := "HungFaces$Not", name := "holds", desc := "(LHungFaces$Scene;)Z" } : Jvm.MethodName)) ∈ lw_all := lw_g (lw_at lw_m7 239 rfl) rfl
theorem q1807 : (Jvm.Cond.unhidden "HungFaces$Not" "holds" "(LHungFaces$Scene;)Z") ∈ lw_tbl := lw_at lw_m8 0 rfl
theorem q1808 : (Jvm.Cond.instanceMethod ({ cls := "HungFaces$Not", name := "holds", desc := "(LHungFaces$Scene;)Z" } : Jvm.MethodName)) ∈ lw_all := lw_g (lw_at lw_m8 1 rfl) rfl
theorem q1809 : (Jvm.Cond.publicMethod ({ cls := "HungFaces$Not", name := "holds", desc := "(LHungFaces$Scene;)Z" } : Jvm.MethodName)) ∈ lw_tbl := lw_at lw_m8 2 rfl
theorem q1810 : (Jvm.Cond.code ({ cls := "HungFaces$Not", name := "holds", desc := "(LHungFaces$Scene;)Z" } : Jvm.MethodName) prog_7_method_2_code (2 : Nat) (Option.some Jvm.ClassFile.FieldType.boolean)) ∈ lw_all := lw_g (lw_at lw_m8 3 rfl) rfl
theorem q1811 : (Jvm.Cond.interfaceEntry "HungFaces$Not" (13 : Nat)) ∈ lw_tbl := lw_at lw_m8 4 rfl
theorem q1812 : (Jvm.Cond.methodLink "HungFaces$Not" (13 : Nat) ({ cls := "HungFaces$Cond", name := "holds", desc := "(LHungFaces$Scene;)Z" } : Jvm.MethodName)) ∈ lw_all := lw_g (lw_at lw_m8 5 rfl) rfl
theorem q2679 : (Jvm.Cond.castable "HungFaces$Not" "java/lang/Object") ∈ lw_tbl := lw_at lw_m11 152 rfl
theorem in_X13 : ∀ w ∈ wsX130, w ∈ lw_all := lw_in wsX130 [1354] (by decide +kernel) (by decide +kernel)
theorem q161 : (Jvm.Cond.initialized "HungFaces$Tag") ∈ lw_all := lw_g (lw_at lw_m1 34 rfl) rfl
theorem q331 : (Jvm.Cond.fieldLinkNest "HungFaces$Tag" (13 : Nat) "HungFaces$Scene" "own" "Z" "HungFaces") ∈ lw_tbl := lw_at lw_m1 204 rfl
theorem q333 : (Jvm.Cond.fieldLinkNest "HungFaces$Tag" (16 : Nat) "HungFaces$Scene" "wed" "Z" "HungFaces") ∈ lw_tbl := lw_at lw_m1 206 rfl
theorem q1359 : (Jvm.Cond.instantiable "HungFaces$Tag" (1 : Nat)) ∈ lw_all := lw_g (lw_at lw_m6 32 rfl) rfl
theorem q1361 : (Jvm.Cond.instanceMethod ({ cls := "HungFaces$Tag", name := "<init>", desc := "(Z)V" } : Jvm.MethodName)) ∈ lw_all := lw_g (lw_at lw_m6 34 rfl) rfl
theorem q1362 : (Jvm.Cond.code ({ cls := "HungFaces$Tag", name := "<init>", desc := "(Z)V" } : Jvm.MethodName) prog_15_method_1_code (2 : Nat) (Option.none : Option Jvm.ClassFile.FieldType)) ∈ lw_all := lw_g (lw_at lw_m6 35 rfl) rfl
theorem q1363 : (Jvm.Cond.methodLink "HungFaces$Tag" (1 : Nat) ({ cls := "java/lang/Object", name := "<init>", desc := "()V" } : Jvm.MethodName)) ∈ lw_all := lw_g (lw_at lw_m6 36 rfl) rfl
theorem q1364 : (Jvm.Cond.fieldLink "HungFaces$Tag" (7 : Nat) "HungFaces$Tag" "own" "Z") ∈ lw_all := lw_g (lw_at lw_m6 37 rfl) rfl
theorem q1365 : (Jvm.Cond.laysFinal "HungFaces$Tag" "HungFaces$Tag" "own" "Z") ∈ lw_all := lw_g (lw_at lw_m6 38 rfl) rfl
theorem q1366 : (Jvm.Cond.soleField "HungFaces$Tag" "own") ∈ lw_all := lw_g (lw_at lw_m6 39 rfl) rfl
theorem q1367 : (Jvm.Cond.superclass "HungFaces$Tag" "java/lang/Object") ∈ lw_all := lw_g (lw_at lw_m6 40 rfl) rfl
theorem q1453 : (Jvm.Cond.selects "HungFaces$Tag" ({ cls := "java/lang/Object", name := "getClass", desc := "()Ljava/lang/Class;" } : Jvm.MethodName) ({ cls := "java/lang/Object", name := "getClass", desc := "()Ljava/lang/Class;" } : Jvm.MethodName)) ∈ lw_all := lw_g (lw_at lw_m6 126 rfl) rfl
theorem q1824 : (Jvm.Cond.castable "HungFaces$Tag" "HungFaces$Cond") ∈ lw_tbl := lw_at lw_m8 17 rfl
theorem q1825 : (Jvm.Cond.selects "HungFaces$Tag" ({ cls := "HungFaces$Cond", name := "holds", desc := "(LHungFaces$Scene;)Z" } : Jvm.MethodName) ({ cls := "HungFaces$Tag", name := "holds", desc := "(LHungFaces$Scene;)Z" } : Jvm.MethodName)) ∈ lw_all := lw_g (lw_at lw_m8 18 rfl) rfl
theorem q1826 : (Jvm.Cond.unhidden "HungFaces$Tag" "holds" "(LHungFaces$Scene;)Z") ∈ lw_tbl := lw_at lw_m8 19 rfl
theorem q1827 : (Jvm.Cond.instanceMethod ({ cls := "HungFaces$Tag", name := "holds", desc := "(LHungFaces$Scene;)Z" } : Jvm.MethodName)) ∈ lw_all := lw_g (lw_at lw_m8 20 rfl) rfl
theorem q1828 : (Jvm.Cond.publicMethod ({ cls := "HungFaces$Tag", name := "holds", desc := "(LHungFaces$Scene;)Z" } : Jvm.MethodName)) ∈ lw_tbl := lw_at lw_m8 21 rfl
theorem q1829 : (Jvm.Cond.code ({ cls := "HungFaces$Tag", name := "holds", desc := "(LHungFaces$Scene;)Z" } : Jvm.MethodName) prog_15_method_2_code (2 : Nat) (Option.some Jvm.ClassFile.FieldType.boolean)) ∈ lw_all := lw_g (lw_at lw_m8 22 rfl) rfl
theorem q2680 : (Jvm.Cond.castable "HungFaces$Tag" "java/lang/Object") ∈ lw_tbl := lw_at lw_m11 153 rfl
theorem in_X14 : ∀ w ∈ wsX140, w ∈ lw_all := lw_in wsX140 [1365] (by decide +kernel) (by decide +kernel)
theorem q162 : (Jvm.Cond.initialized "HungFaces$Sum") ∈ lw_all := lw_g (lw_at lw_m1 35 rfl) rfl
theorem q1373 : (Jvm.Cond.instantiable "HungFaces$Sum" (1 : Nat)) ∈ lw_all := lw_g (lw_at lw_m6 46 rfl) rfl
theorem q1375 : (Jvm.Cond.instanceMethod ({ cls := "HungFaces$Sum", name := "<init>", desc := "()V" } : Jvm.MethodName)) ∈ lw_all := lw_g (lw_at lw_m6 48 rfl) rfl
theorem q1376 : (Jvm.Cond.code ({ cls := "HungFaces$Sum", name := "<init>", desc := "()V" } : Jvm.MethodName) prog_14_method_1_code (1 : Nat) (Option.none : Option Jvm.ClassFile.FieldType)) ∈ lw_all := lw_g (lw_at lw_m6 49 rfl) rfl
theorem q1377 : (Jvm.Cond.methodLink "HungFaces$Sum" (1 : Nat) ({ cls := "java/lang/Object", name := "<init>", desc := "()V" } : Jvm.MethodName)) ∈ lw_all := lw_g (lw_at lw_m6 50 rfl) rfl
theorem q1378 : (Jvm.Cond.classLink "HungFaces$Sum" (7 : Nat) "java/util/ArrayList") ∈ lw_all := lw_g (lw_at lw_m6 51 rfl) rfl
theorem q1379 : (Jvm.Cond.methodLink "HungFaces$Sum" (9 : Nat) ({ cls := "java/util/ArrayList", name := "<init>", desc := "()V" } : Jvm.MethodName)) ∈ lw_all := lw_g (lw_at lw_m6 52 rfl) rfl
theorem q1380 : (Jvm.Cond.fieldLink "HungFaces$Sum" (10 : Nat) "HungFaces$Sum" "parts" "Ljava/util/ArrayList;") ∈ lw_all := lw_g (lw_at lw_m6 53 rfl) rfl
theorem q1382 : (Jvm.Cond.laysFinal "HungFaces$Sum" "HungFaces$Sum" "parts" "Ljava/util/ArrayList;") ∈ lw_all := lw_g (lw_at lw_m6 55 rfl) rfl
theorem q1383 : (Jvm.Cond.soleField "HungFaces$Sum" "parts") ∈ lw_all := lw_g (lw_at lw_m6 56 rfl) rfl
theorem q1384 : (Jvm.Cond.superclass "HungFaces$Sum" "java/lang/Object") ∈ lw_all := lw_g (lw_at lw_m6 57 rfl) rfl
theorem q1452 : (Jvm.Cond.selects "HungFaces$Sum" ({ cls := "java/lang/Object", name := "getClass", desc := "()Ljava/lang/Class;" } : Jvm.MethodName) ({ cls := "java/lang/Object", name := "getClass", desc := "()Ljava/lang/Class;" } : Jvm.MethodName)) ∈ lw_all := lw_g (lw_at lw_m6 125 rfl) rfl
theorem q1788 : (Jvm.Cond.instanceMethod ({ cls := "HungFaces$Sum", name := "in", desc := "(LHungFaces$Scene;)I" } : Jvm.MethodName)) ∈ lw_all := lw_g (lw_at lw_m7 221 rfl) rfl
theorem q1789 : (Jvm.Cond.selects "HungFaces$Sum" ({ cls := "HungFaces$Sum", name := "in", desc := "(LHungFaces$Scene;)I" } : Jvm.MethodName) ({ cls := "HungFaces$Sum", name := "in", desc := "(LHungFaces$Scene;)I" } : Jvm.MethodName)) ∈ lw_all := lw_g (lw_at lw_m7 222 rfl) rfl
theorem q1790 : (Jvm.Cond.code ({ cls := "HungFaces$Sum", name := "in", desc := "(LHungFaces$Scene;)I" } : Jvm.MethodName) prog_14_method_2_code (4 : Nat) (Option.some Jvm.ClassFile.FieldType.int)) ∈ lw_all := lw_g (lw_at lw_m7 223 rfl) rfl
theorem q1791 : (Jvm.Cond.methodLink "HungFaces$Sum" (16 : Nat) ({ cls := "java/util/ArrayList", name := "size", desc := "()I" } : Jvm.MethodName)) ∈ lw_all := lw_g (lw_at lw_m7 224 rfl) rfl
theorem q1792 : (Jvm.Cond.methodLink "HungFaces$Sum" (20 : Nat) ({ cls := "java/util/ArrayList", name := "get", desc := "(I)Ljava/lang/Object;" } : Jvm.MethodName)) ∈ lw_all := lw_g (lw_at lw_m7 225 rfl) rfl
theorem q1793 : (Jvm.Cond.classLink "HungFaces$Sum" (24 : Nat) "HungFaces$Part") ∈ lw_all := lw_g (lw_at lw_m7 226 rfl) rfl
theorem q1794 : (Jvm.Cond.methodLink "HungFaces$Sum" (26 : Nat) ({ cls := "HungFaces$Part", name := "in", desc := "(LHungFaces$Scene;)I" } : Jvm.MethodName)) ∈ lw_all := lw_g (lw_at lw_m7 227 rfl) rfl
theorem q2681 : (Jvm.Cond.castable "HungFaces$Sum" "java/lang/Object") ∈ lw_tbl := lw_at lw_m11 154 rfl
theorem in_X15 : ∀ w ∈ wsX150, w ∈ lw_all := lw_in wsX150 [1382] (by decide +kernel) (by decide +kernel)
theorem q163 : (Jvm.Cond.initialized "HungFaces$Part") ∈ lw_all := lw_g (lw_at lw_m1 36 rfl) rfl
theorem q1390 : (Jvm.Cond.instantiable "HungFaces$Part" (2 : Nat)) ∈ lw_all := lw_g (lw_at lw_m6 63 rfl) rfl
theorem q1392 : (Jvm.Cond.instanceMethod ({ cls := "HungFaces$Part", name := "<init>", desc := "(ILHungFaces$Fact;)V" } : Jvm.MethodName)) ∈ lw_all := lw_g (lw_at lw_m6 65 rfl) rfl
theorem q1393 : (Jvm.Cond.code ({ cls := "HungFaces$Part", name := "<init>", desc := "(ILHungFaces$Fact;)V" } : Jvm.MethodName) prog_9_method_1_code (3 : Nat) (Option.none : Option Jvm.ClassFile.FieldType)) ∈ lw_all := lw_g (lw_at lw_m6 66 rfl) rfl
theorem q1394 : (Jvm.Cond.methodLink "HungFaces$Part" (1 : Nat) ({ cls := "java/lang/Object", name := "<init>", desc := "()V" } : Jvm.MethodName)) ∈ lw_all := lw_g (lw_at lw_m6 67 rfl) rfl
theorem q1395 : (Jvm.Cond.fieldLink "HungFaces$Part" (7 : Nat) "HungFaces$Part" "n" "I") ∈ lw_all := lw_g (lw_at lw_m6 68 rfl) rfl
theorem q1396 : (Jvm.Cond.fieldLink "HungFaces$Part" (13 : Nat) "HungFaces$Part" "fact" "LHungFaces$Fact;") ∈ lw_all := lw_g (lw_at lw_m6 69 rfl) rfl
theorem q1397 : (Jvm.Cond.laysFinal "HungFaces$Part" "HungFaces$Part" "n" "I") ∈ lw_all := lw_g (lw_at lw_m6 70 rfl) rfl
theorem q1398 : (Jvm.Cond.soleField "HungFaces$Part" "n") ∈ lw_all := lw_g (lw_at lw_m6 71 rfl) rfl
theorem q1399 : (Jvm.Cond.laysFinal "HungFaces$Part" "HungFaces$Part" "fact" "LHungFaces$Fact;") ∈ lw_all := lw_g (lw_at lw_m6 72 rfl) rfl
theorem q1400 : (Jvm.Cond.soleField "HungFaces$Part" "fact") ∈ lw_all := lw_g (lw_at lw_m6 73 rfl) rfl
theorem q1401 : (Jvm.Cond.superclass "HungFaces$Part" "java/lang/Object") ∈ lw_all := lw_g (lw_at lw_m6 74 rfl) rfl
theorem q1447 : (Jvm.Cond.selects "HungFaces$Part" ({ cls := "java/lang/Object", name := "getClass", desc := "()Ljava/lang/Class;" } : Jvm.MethodName) ({ cls := "java/lang/Object", name := "getClass", desc := "()Ljava/lang/Class;" } : Jvm.MethodName)) ∈ lw_all := lw_g (lw_at lw_m6 120 rfl) rfl
theorem q1795 : (Jvm.Cond.instanceMethod ({ cls := "HungFaces$Part", name := "in", desc := "(LHungFaces$Scene;)I" } : Jvm.MethodName)) ∈ lw_all := lw_g (lw_at lw_m7 228 rfl) rfl
theorem q1796 : (Jvm.Cond.selects "HungFaces$Part" ({ cls := "HungFaces$Part", name := "in", desc := "(LHungFaces$Scene;)I" } : Jvm.MethodName) ({ cls := "HungFaces$Part", name := "in", desc := "(LHungFaces$Scene;)I" } : Jvm.MethodName)) ∈ lw_all := lw_g (lw_at lw_m7 229 rfl) rfl
theorem q1797 : (Jvm.Cond.code ({ cls := "HungFaces$Part", name := "in", desc := "(LHungFaces$Scene;)I" } : Jvm.MethodName) prog_9_method_2_code (2 : Nat) (Option.some Jvm.ClassFile.FieldType.int)) ∈ lw_all := lw_g (lw_at lw_m7 230 rfl) rfl
theorem q1798 : (Jvm.Cond.methodLink "HungFaces$Part" (17 : Nat) ({ cls := "HungFaces$Scene", name := "of", desc := "(LHungFaces$Fact;)I" } : Jvm.MethodName)) ∈ lw_all := lw_g (lw_at lw_m7 231 rfl) rfl
theorem q2682 : (Jvm.Cond.castable "HungFaces$Part" "java/lang/Object") ∈ lw_tbl := lw_at lw_m11 155 rfl
theorem in_X16 : ∀ w ∈ wsX160, w ∈ lw_all := lw_in wsX160 [1397, 1399] (by decide +kernel) (by decide +kernel)
theorem q164 : (Jvm.Cond.initialized "java/lang/Enum") ∈ lw_all := lw_g (lw_at lw_m1 37 rfl) rfl
theorem q1658 : (Jvm.Cond.declares ({ cls := "java/lang/Enum", name := "ordinal", desc := "()I" } : Jvm.MethodName)) ∈ lw_tbl := lw_at lw_m7 91 rfl
theorem q1660 : (Jvm.Cond.instanceMethod ({ cls := "java/lang/Enum", name := "ordinal", desc := "()I" } : Jvm.MethodName)) ∈ lw_all := lw_g (lw_at lw_m7 93 rfl) rfl
theorem q1661 : (Jvm.Cond.code ({ cls := "java/lang/Enum", name := "ordinal", desc := "()I" } : Jvm.MethodName) prog_29_method_2_code (1 : Nat) (Option.some Jvm.ClassFile.FieldType.int)) ∈ lw_all := lw_g (lw_at lw_m7 94 rfl) rfl
theorem q2701 : (Jvm.Cond.fieldLink "java/lang/Enum" (7 : Nat) "java/lang/Enum" "ordinal" "I") ∈ lw_all := lw_g (lw_at lw_m11 174 rfl) rfl
theorem q165 : (Jvm.Cond.initialized "HungFaces$Fact") ∈ lw_all := lw_g (lw_at lw_m1 38 rfl) rfl
theorem q1403 : (Jvm.Cond.static ({ cls := "HungFaces$Fact", name := "of", desc := "(Ljava/lang/String;)LHungFaces$Fact;" } : Jvm.MethodName)) ∈ lw_all := lw_g (lw_at lw_m6 76 rfl) rfl
theorem q1404 : (Jvm.Cond.code ({ cls := "HungFaces$Fact", name := "of", desc := "(Ljava/lang/String;)LHungFaces$Fact;" } : Jvm.MethodName) prog_3_method_4_code (5 : Nat) (Option.some (Jvm.ClassFile.FieldType.object "HungFaces$Fact"))) ∈ lw_all := lw_g (lw_at lw_m6 77 rfl) rfl
theorem q1405 : (Jvm.Cond.methodLink "HungFaces$Fact" (45 : Nat) ({ cls := "HungFaces$Fact", name := "values", desc := "()[LHungFaces$Fact;" } : Jvm.MethodName)) ∈ lw_all := lw_g (lw_at lw_m6 78 rfl) rfl
theorem q1406 : (Jvm.Cond.static ({ cls := "HungFaces$Fact", name := "values", desc := "()[LHungFaces$Fact;" } : Jvm.MethodName)) ∈ lw_all := lw_g (lw_at lw_m6 79 rfl) rfl
theorem q1407 : (Jvm.Cond.code ({ cls := "HungFaces$Fact", name := "values", desc := "()[LHungFaces$Fact;" } : Jvm.MethodName) prog_3_method_1_code (0 : Nat) (Option.some (Jvm.ClassFile.FieldType.array (Jvm.ClassFile.FieldType.object "HungFaces$Fact")))) ∈ lw_all := lw_g (lw_at lw_m6 80 rfl) rfl
theorem q1408 : (Jvm.Cond.fieldLink "HungFaces$Fact" (22 : Nat) "HungFaces$Fact" "$VALUES" "[LHungFaces$Fact;") ∈ lw_all := lw_g (lw_at lw_m6 81 rfl) rfl
theorem q1409 : (Jvm.Cond.laysStatic "HungFaces$Fact" "$VALUES" "[LHungFaces$Fact;") ∈ lw_tbl := lw_at lw_m6 82 rfl
theorem q1410 : (Jvm.Cond.methodLink "HungFaces$Fact" (26 : Nat) ({ cls := "[LHungFaces$Fact;", name := "clone", desc := "()Ljava/lang/Object;" } : Jvm.MethodName)) ∈ lw_all := lw_g (lw_at lw_m6 83 rfl) rfl
theorem q1415 : (Jvm.Cond.classLink "HungFaces$Fact" (27 : Nat) "[LHungFaces$Fact;") ∈ lw_all := lw_g (lw_at lw_m6 88 rfl) rfl
theorem q1416 : (Jvm.Cond.methodLink "HungFaces$Fact" (49 : Nat) ({ cls := "java/lang/String", name := "equals", desc := "(Ljava/lang/Object;)Z" } : Jvm.MethodName)) ∈ lw_all := lw_g (lw_at lw_m6 89 rfl) rfl
theorem q1441 : (Jvm.Cond.selects "HungFaces$Fact" ({ cls := "java/lang/Object", name := "getClass", desc := "()Ljava/lang/Class;" } : Jvm.MethodName) ({ cls := "java/lang/Object", name := "getClass", desc := "()Ljava/lang/Class;" } : Jvm.MethodName)) ∈ lw_all := lw_g (lw_at lw_m6 114 rfl) rfl
theorem q1803 : (Jvm.Cond.sameMethod "HungFaces$Fact" "java/lang/Enum" "ordinal" "()I") ∈ lw_all := lw_g (lw_at lw_m7 236 rfl) rfl
theorem q1804 : (Jvm.Cond.selects "HungFaces$Fact" ({ cls := "HungFaces$Fact", name := "ordinal", desc := "()I" } : Jvm.MethodName) ({ cls := "java/lang/Enum", name := "ordinal", desc := "()I" } : Jvm.MethodName)) ∈ lw_all := lw_g (lw_at lw_m7 237 rfl) rfl
theorem q2660 : (Jvm.Cond.castable "HungFaces$Fact" "java/lang/Object") ∈ lw_tbl := lw_at lw_m11 133 rfl
theorem q2700 : (Jvm.Cond.fieldLink "HungFaces$Fact" (41 : Nat) "HungFaces$Fact" "told" "Ljava/lang/String;") ∈ lw_all := lw_g (lw_at lw_m11 173 rfl) rfl
theorem q2702 : (Jvm.Cond.laysStatic "HungFaces$Fact" "WHO" "LHungFaces$Fact;") ∈ lw_tbl := lw_at lw_m11 175 rfl
theorem q2703 : (Jvm.Cond.laysStatic "HungFaces$Fact" "HOUR" "LHungFaces$Fact;") ∈ lw_tbl := lw_at lw_m11 176 rfl
theorem q2704 : (Jvm.Cond.laysStatic "HungFaces$Fact" "HOOK" "LHungFaces$Fact;") ∈ lw_tbl := lw_at lw_m11 177 rfl
theorem q2705 : (Jvm.Cond.laysStatic "HungFaces$Fact" "MARKS" "LHungFaces$Fact;") ∈ lw_tbl := lw_at lw_m11 178 rfl
theorem q2706 : (Jvm.Cond.laysStatic "HungFaces$Fact" "HUNG" "LHungFaces$Fact;") ∈ lw_tbl := lw_at lw_m11 179 rfl
theorem q2707 : (Jvm.Cond.laysStatic "HungFaces$Fact" "FREE" "LHungFaces$Fact;") ∈ lw_tbl := lw_at lw_m11 180 rfl
theorem q2708 : (Jvm.Cond.stringRef "HungFaces$Fact" (56 : Nat) "who") ∈ lw_tbl := lw_at lw_m11 181 rfl
theorem q2709 : (Jvm.Cond.stringRef "HungFaces$Fact" (62 : Nat) "hour") ∈ lw_tbl := lw_at lw_m11 182 rfl
theorem q2710 : (Jvm.Cond.stringRef "HungFaces$Fact" (65 : Nat) "hook") ∈ lw_tbl := lw_at lw_m11 183 rfl
theorem q2711 : (Jvm.Cond.stringRef "HungFaces$Fact" (68 : Nat) "marks") ∈ lw_tbl := lw_at lw_m11 184 rfl
theorem q2712 : (Jvm.Cond.stringRef "HungFaces$Fact" (71 : Nat) "hung") ∈ lw_tbl := lw_at lw_m11 185 rfl
theorem q2713 : (Jvm.Cond.stringRef "HungFaces$Fact" (74 : Nat) "free") ∈ lw_tbl := lw_at lw_m11 186 rfl
theorem q166 : (Jvm.Cond.initialized "HungFaces$Less") ∈ lw_all := lw_g (lw_at lw_m1 39 rfl) rfl
theorem q1443 : (Jvm.Cond.selects "HungFaces$Less" ({ cls := "java/lang/Object", name := "getClass", desc := "()Ljava/lang/Class;" } : Jvm.MethodName) ({ cls := "java/lang/Object", name := "getClass", desc := "()Ljava/lang/Class;" } : Jvm.MethodName)) ∈ lw_all := lw_g (lw_at lw_m6 116 rfl) rfl
theorem q1479 : (Jvm.Cond.instantiable "HungFaces$Less" (2 : Nat)) ∈ lw_all := lw_g (lw_at lw_m6 152 rfl) rfl
theorem q1481 : (Jvm.Cond.instanceMethod ({ cls := "HungFaces$Less", name := "<init>", desc := "(LHungFaces$Sum;LHungFaces$Sum;)V" } : Jvm.MethodName)) ∈ lw_all := lw_g (lw_at lw_m6 154 rfl) rfl
theorem q1482 : (Jvm.Cond.code ({ cls := "HungFaces$Less", name := "<init>", desc := "(LHungFaces$Sum;LHungFaces$Sum;)V" } : Jvm.MethodName) prog_5_method_1_code (3 : Nat) (Option.none : Option Jvm.ClassFile.FieldType)) ∈ lw_all := lw_g (lw_at lw_m6 155 rfl) rfl
theorem q1483 : (Jvm.Cond.methodLink "HungFaces$Less" (1 : Nat) ({ cls := "java/lang/Object", name := "<init>", desc := "()V" } : Jvm.MethodName)) ∈ lw_all := lw_g (lw_at lw_m6 156 rfl) rfl
theorem q1484 : (Jvm.Cond.fieldLink "HungFaces$Less" (7 : Nat) "HungFaces$Less" "a" "LHungFaces$Sum;") ∈ lw_all := lw_g (lw_at lw_m6 157 rfl) rfl
theorem q1485 : (Jvm.Cond.fieldLink "HungFaces$Less" (13 : Nat) "HungFaces$Less" "b" "LHungFaces$Sum;") ∈ lw_all := lw_g (lw_at lw_m6 158 rfl) rfl
theorem q1486 : (Jvm.Cond.laysFinal "HungFaces$Less" "HungFaces$Less" "a" "LHungFaces$Sum;") ∈ lw_all := lw_g (lw_at lw_m6 159 rfl) rfl
theorem q1487 : (Jvm.Cond.soleField "HungFaces$Less" "a") ∈ lw_all := lw_g (lw_at lw_m6 160 rfl) rfl
theorem q1488 : (Jvm.Cond.laysFinal "HungFaces$Less" "HungFaces$Less" "b" "LHungFaces$Sum;") ∈ lw_all := lw_g (lw_at lw_m6 161 rfl) rfl
theorem q1489 : (Jvm.Cond.soleField "HungFaces$Less" "b") ∈ lw_all := lw_g (lw_at lw_m6 162 rfl) rfl
theorem q1490 : (Jvm.Cond.superclass "HungFaces$Less" "java/lang/Object") ∈ lw_all := lw_g (lw_at lw_m6 163 rfl) rfl
theorem q1781 : (Jvm.Cond.castable "HungFaces$Less" "HungFaces$Cond") ∈ lw_tbl := lw_at lw_m7 214 rfl
theorem q1782 : (Jvm.Cond.selects "HungFaces$Less" ({ cls := "HungFaces$Cond", name := "holds", desc := "(LHungFaces$Scene;)Z" } : Jvm.MethodName) ({ cls := "HungFaces$Less", name := "holds", desc := "(LHungFaces$Scene;)Z" } : Jvm.MethodName)) ∈ lw_all := lw_g (lw_at lw_m7 215 rfl) rfl
theorem q1783 : (Jvm.Cond.unhidden "HungFaces$Less" "holds" "(LHungFaces$Scene;)Z") ∈ lw_tbl := lw_at lw_m7 216 rfl
theorem q1784 : (Jvm.Cond.instanceMethod ({ cls := "HungFaces$Less", name := "holds", desc := "(LHungFaces$Scene;)Z" } : Jvm.MethodName)) ∈ lw_all := lw_g (lw_at lw_m7 217 rfl) rfl
theorem q1785 : (Jvm.Cond.publicMethod ({ cls := "HungFaces$Less", name := "holds", desc := "(LHungFaces$Scene;)Z" } : Jvm.MethodName)) ∈ lw_tbl := lw_at lw_m7 218 rfl
theorem q1786 : (Jvm.Cond.code ({ cls := "HungFaces$Less", name := "holds", desc := "(LHungFaces$Scene;)Z" } : Jvm.MethodName) prog_5_method_2_code (2 : Nat) (Option.some Jvm.ClassFile.FieldType.boolean)) ∈ lw_all := lw_g (lw_at lw_m7 219 rfl) rfl
theorem q1787 : (Jvm.Cond.methodLink "HungFaces$Less" (16 : Nat) ({ cls := "HungFaces$Sum", name := "in", desc := "(LHungFaces$Scene;)I" } : Jvm.MethodName)) ∈ lw_all := lw_g (lw_at lw_m7 220 rfl) rfl
theorem q2683 : (Jvm.Cond.castable "HungFaces$Less" "java/lang/Object") ∈ lw_tbl := lw_at lw_m11 156 rfl
theorem in_X18 : ∀ w ∈ wsX180, w ∈ lw_all := lw_in wsX180 [1486, 1488] (by decide +kernel) (by decide +kernel)
theorem q167 : (Jvm.Cond.initialized "java/lang/IndexOutOfBoundsException") ∈ lw_all := lw_g (lw_at lw_m1 40 rfl) rfl
theorem q937 : (Jvm.Cond.selects "java/lang/IndexOutOfBoundsException" ({ cls := "java/lang/Throwable", name := "fillInStackTrace", desc := "()Ljava/lang/Throwable;" } : Jvm.MethodName) ({ cls := "java/lang/Throwable", name := "fillInStackTrace", desc := "()Ljava/lang/Throwable;" } : Jvm.MethodName)) ∈ lw_all := lw_g (lw_at lw_m4 90 rfl) rfl
theorem q1462 : (Jvm.Cond.selects "java/lang/IndexOutOfBoundsException" ({ cls := "java/lang/Object", name := "getClass", desc := "()Ljava/lang/Class;" } : Jvm.MethodName) ({ cls := "java/lang/Object", name := "getClass", desc := "()Ljava/lang/Class;" } : Jvm.MethodName)) ∈ lw_all := lw_g (lw_at lw_m6 135 rfl) rfl
theorem q1514 : (Jvm.Cond.instanceMethod ({ cls := "java/lang/IndexOutOfBoundsException", name := "<init>", desc := "(Ljava/lang/String;)V" } : Jvm.MethodName)) ∈ lw_all := lw_g (lw_at lw_m6 187 rfl) rfl
theorem q1515 : (Jvm.Cond.code ({ cls := "java/lang/IndexOutOfBoundsException", name := "<init>", desc := "(Ljava/lang/String;)V" } : Jvm.MethodName) prog_33_method_2_code (2 : Nat) (Option.none : Option Jvm.ClassFile.FieldType)) ∈ lw_all := lw_g (lw_at lw_m6 188 rfl) rfl
theorem q1516 : (Jvm.Cond.methodLink "java/lang/IndexOutOfBoundsException" (7 : Nat) ({ cls := "java/lang/RuntimeException", name := "<init>", desc := "(Ljava/lang/String;)V" } : Jvm.MethodName)) ∈ lw_all := lw_g (lw_at lw_m6 189 rfl) rfl
theorem q1525 : (Jvm.Cond.declares ({ cls := "java/lang/IndexOutOfBoundsException", name := "<init>", desc := "()V" } : Jvm.MethodName)) ∈ lw_tbl := lw_at lw_m6 198 rfl
theorem q1526 : (Jvm.Cond.declares ({ cls := "java/lang/IndexOutOfBoundsException", name := "<init>", desc := "(Ljava/lang/String;)V" } : Jvm.MethodName)) ∈ lw_tbl := lw_at lw_m6 199 rfl
theorem q1541 : (Jvm.Cond.instantiable "java/lang/IndexOutOfBoundsException" (6 : Nat)) ∈ lw_all := lw_g (lw_at lw_m6 214 rfl) rfl
theorem q1542 : (Jvm.Cond.castable "java/lang/IndexOutOfBoundsException" "java/lang/IndexOutOfBoundsException") ∈ lw_tbl := lw_at lw_m6 215 rfl
theorem q1543 : (Jvm.Cond.selects "java/lang/IndexOutOfBoundsException" ({ cls := "java/lang/Throwable", name := "fillInStackTrace", desc := "(I)Ljava/lang/Throwable;" } : Jvm.MethodName) ({ cls := "java/lang/Throwable", name := "fillInStackTrace", desc := "(I)Ljava/lang/Throwable;" } : Jvm.MethodName)) ∈ lw_all := lw_g (lw_at lw_m6 216 rfl) rfl
theorem q1544 : (Jvm.Cond.lays "java/lang/IndexOutOfBoundsException" "java/lang/Throwable" "cause" "Ljava/lang/Throwable;") ∈ lw_all := lw_g (lw_at lw_m6 217 rfl) rfl
theorem q1545 : (Jvm.Cond.lays "java/lang/IndexOutOfBoundsException" "java/lang/Throwable" "stackTrace" "[Ljava/lang/StackTraceElement;") ∈ lw_all := lw_g (lw_at lw_m6 218 rfl) rfl
theorem q1546 : (Jvm.Cond.lays "java/lang/IndexOutOfBoundsException" "java/lang/Throwable" "suppressedExceptions" "Ljava/util/List;") ∈ lw_all := lw_g (lw_at lw_m6 219 rfl) rfl
theorem q1547 : (Jvm.Cond.lays "java/lang/IndexOutOfBoundsException" "java/lang/Throwable" "detailMessage" "Ljava/lang/String;") ∈ lw_all := lw_g (lw_at lw_m6 220 rfl) rfl
theorem q1548 : (Jvm.Cond.lays "java/lang/IndexOutOfBoundsException" "java/lang/Throwable" "backtrace" "Ljava/lang/Object;") ∈ lw_all := lw_g (lw_at lw_m6 221 rfl) rfl
theorem q1550 : (Jvm.Cond.instanceMethod ({ cls := "java/lang/IndexOutOfBoundsException", name := "<init>", desc := "()V" } : Jvm.MethodName)) ∈ lw_all := lw_g (lw_at lw_m6 223 rfl) rfl
theorem q1551 : (Jvm.Cond.code ({ cls := "java/lang/IndexOutOfBoundsException", name := "<init>", desc := "()V" } : Jvm.MethodName) prog_33_method_1_code (1 : Nat) (Option.none : Option Jvm.ClassFile.FieldType)) ∈ lw_all := lw_g (lw_at lw_m6 224 rfl) rfl
theorem q1552 : (Jvm.Cond.methodLink "java/lang/IndexOutOfBoundsException" (1 : Nat) ({ cls := "java/lang/RuntimeException", name := "<init>", desc := "()V" } : Jvm.MethodName)) ∈ lw_all := lw_g (lw_at lw_m6 225 rfl) rfl
theorem q1553 : (Jvm.Cond.lays "java/lang/IndexOutOfBoundsException" "java/lang/Throwable" "depth" "I") ∈ lw_all := lw_g (lw_at lw_m6 226 rfl) rfl
theorem q1554 : (Jvm.Cond.superclass "java/lang/IndexOutOfBoundsException" "java/lang/RuntimeException") ∈ lw_all := lw_g (lw_at lw_m6 227 rfl) rfl
theorem q2685 : (Jvm.Cond.castable "java/lang/IndexOutOfBoundsException" "java/lang/Object") ∈ lw_tbl := lw_at lw_m11 158 rfl
theorem in_J19 : ∀ w ∈ wsJ190, w ∈ lw_all := lw_in wsJ190 [1544, 1545, 1546, 1547, 1548, 1553] (by decide +kernel) (by decide +kernel)
theorem q168 : (Jvm.Cond.initialized "java/lang/ArrayIndexOutOfBoundsException") ∈ lw_all := lw_g (lw_at lw_m1 41 rfl) rfl
theorem q935 : (Jvm.Cond.selects "java/lang/ArrayIndexOutOfBoundsException" ({ cls := "java/lang/Throwable", name := "fillInStackTrace", desc := "()Ljava/lang/Throwable;" } : Jvm.MethodName) ({ cls := "java/lang/Throwable", name := "fillInStackTrace", desc := "()Ljava/lang/Throwable;" } : Jvm.MethodName)) ∈ lw_all := lw_g (lw_at lw_m4 88 rfl) rfl
theorem q1459 : (Jvm.Cond.selects "java/lang/ArrayIndexOutOfBoundsException" ({ cls := "java/lang/Object", name := "getClass", desc := "()Ljava/lang/Class;" } : Jvm.MethodName) ({ cls := "java/lang/Object", name := "getClass", desc := "()Ljava/lang/Class;" } : Jvm.MethodName)) ∈ lw_all := lw_g (lw_at lw_m6 132 rfl) rfl
theorem q1510 : (Jvm.Cond.instantiable "java/lang/ArrayIndexOutOfBoundsException" (6 : Nat)) ∈ lw_all := lw_g (lw_at lw_m6 183 rfl) rfl
theorem q1511 : (Jvm.Cond.instanceMethod ({ cls := "java/lang/ArrayIndexOutOfBoundsException", name := "<init>", desc := "(Ljava/lang/String;)V" } : Jvm.MethodName)) ∈ lw_all := lw_g (lw_at lw_m6 184 rfl) rfl
theorem q1512 : (Jvm.Cond.code ({ cls := "java/lang/ArrayIndexOutOfBoundsException", name := "<init>", desc := "(Ljava/lang/String;)V" } : Jvm.MethodName) prog_25_method_2_code (2 : Nat) (Option.none : Option Jvm.ClassFile.FieldType)) ∈ lw_all := lw_g (lw_at lw_m6 185 rfl) rfl
theorem q1513 : (Jvm.Cond.methodLink "java/lang/ArrayIndexOutOfBoundsException" (7 : Nat) ({ cls := "java/lang/IndexOutOfBoundsException", name := "<init>", desc := "(Ljava/lang/String;)V" } : Jvm.MethodName)) ∈ lw_all := lw_g (lw_at lw_m6 186 rfl) rfl
theorem q1517 : (Jvm.Cond.lays "java/lang/ArrayIndexOutOfBoundsException" "java/lang/Throwable" "backtrace" "Ljava/lang/Object;") ∈ lw_all := lw_g (lw_at lw_m6 190 rfl) rfl
theorem q1518 : (Jvm.Cond.lays "java/lang/ArrayIndexOutOfBoundsException" "java/lang/Throwable" "detailMessage" "Ljava/lang/String;") ∈ lw_all := lw_g (lw_at lw_m6 191 rfl) rfl
theorem q1519 : (Jvm.Cond.lays "java/lang/ArrayIndexOutOfBoundsException" "java/lang/Throwable" "cause" "Ljava/lang/Throwable;") ∈ lw_all := lw_g (lw_at lw_m6 192 rfl) rfl
theorem q1520 : (Jvm.Cond.lays "java/lang/ArrayIndexOutOfBoundsException" "java/lang/Throwable" "stackTrace" "[Ljava/lang/StackTraceElement;") ∈ lw_all := lw_g (lw_at lw_m6 193 rfl) rfl
theorem q1521 : (Jvm.Cond.lays "java/lang/ArrayIndexOutOfBoundsException" "java/lang/Throwable" "depth" "I") ∈ lw_all := lw_g (lw_at lw_m6 194 rfl) rfl
theorem q1522 : (Jvm.Cond.lays "java/lang/ArrayIndexOutOfBoundsException" "java/lang/Throwable" "suppressedExceptions" "Ljava/util/List;") ∈ lw_all := lw_g (lw_at lw_m6 195 rfl) rfl
theorem q1523 : (Jvm.Cond.superclass "java/lang/ArrayIndexOutOfBoundsException" "java/lang/IndexOutOfBoundsException") ∈ lw_all := lw_g (lw_at lw_m6 196 rfl) rfl
theorem q1524 : (Jvm.Cond.castable "java/lang/ArrayIndexOutOfBoundsException" "java/lang/ArrayIndexOutOfBoundsException") ∈ lw_tbl := lw_at lw_m6 197 rfl
theorem q1527 : (Jvm.Cond.selects "java/lang/ArrayIndexOutOfBoundsException" ({ cls := "java/lang/Throwable", name := "fillInStackTrace", desc := "(I)Ljava/lang/Throwable;" } : Jvm.MethodName) ({ cls := "java/lang/Throwable", name := "fillInStackTrace", desc := "(I)Ljava/lang/Throwable;" } : Jvm.MethodName)) ∈ lw_all := lw_g (lw_at lw_m6 200 rfl) rfl
theorem q2659 : (Jvm.Cond.castable "java/lang/ArrayIndexOutOfBoundsException" "java/lang/IndexOutOfBoundsException") ∈ lw_tbl := lw_at lw_m11 132 rfl
theorem q2684 : (Jvm.Cond.castable "java/lang/ArrayIndexOutOfBoundsException" "java/lang/Object") ∈ lw_tbl := lw_at lw_m11 157 rfl
theorem in_J20 : ∀ w ∈ wsJ200, w ∈ lw_all := lw_in wsJ200 [1517, 1518, 1519, 1520, 1521, 1522] (by decide +kernel) (by decide +kernel)
theorem q169 : (Jvm.Cond.initialized "java/util/NoSuchElementException") ∈ lw_all := lw_g (lw_at lw_m1 42 rfl) rfl
theorem q939 : (Jvm.Cond.selects "java/util/NoSuchElementException" ({ cls := "java/lang/Throwable", name := "fillInStackTrace", desc := "()Ljava/lang/Throwable;" } : Jvm.MethodName) ({ cls := "java/lang/Throwable", name := "fillInStackTrace", desc := "()Ljava/lang/Throwable;" } : Jvm.MethodName)) ∈ lw_all := lw_g (lw_at lw_m4 92 rfl) rfl
theorem q1468 : (Jvm.Cond.selects "java/util/NoSuchElementException" ({ cls := "java/lang/Object", name := "getClass", desc := "()Ljava/lang/Class;" } : Jvm.MethodName) ({ cls := "java/lang/Object", name := "getClass", desc := "()Ljava/lang/Class;" } : Jvm.MethodName)) ∈ lw_all := lw_g (lw_at lw_m6 141 rfl) rfl
theorem q1559 : (Jvm.Cond.instantiable "java/util/NoSuchElementException" (6 : Nat)) ∈ lw_all := lw_g (lw_at lw_m6 232 rfl) rfl
theorem q1560 : (Jvm.Cond.castable "java/util/NoSuchElementException" "java/util/NoSuchElementException") ∈ lw_tbl := lw_at lw_m6 233 rfl
theorem q1561 : (Jvm.Cond.selects "java/util/NoSuchElementException" ({ cls := "java/lang/Throwable", name := "fillInStackTrace", desc := "(I)Ljava/lang/Throwable;" } : Jvm.MethodName) ({ cls := "java/lang/Throwable", name := "fillInStackTrace", desc := "(I)Ljava/lang/Throwable;" } : Jvm.MethodName)) ∈ lw_all := lw_g (lw_at lw_m6 234 rfl) rfl
theorem q1562 : (Jvm.Cond.lays "java/util/NoSuchElementException" "java/lang/Throwable" "cause" "Ljava/lang/Throwable;") ∈ lw_all := lw_g (lw_at lw_m6 235 rfl) rfl
theorem q1563 : (Jvm.Cond.lays "java/util/NoSuchElementException" "java/lang/Throwable" "stackTrace" "[Ljava/lang/StackTraceElement;") ∈ lw_all := lw_g (lw_at lw_m6 236 rfl) rfl
theorem q1564 : (Jvm.Cond.lays "java/util/NoSuchElementException" "java/lang/Throwable" "suppressedExceptions" "Ljava/util/List;") ∈ lw_all := lw_g (lw_at lw_m6 237 rfl) rfl
theorem q1565 : (Jvm.Cond.lays "java/util/NoSuchElementException" "java/lang/Throwable" "detailMessage" "Ljava/lang/String;") ∈ lw_all := lw_g (lw_at lw_m6 238 rfl) rfl
theorem q1566 : (Jvm.Cond.lays "java/util/NoSuchElementException" "java/lang/Throwable" "backtrace" "Ljava/lang/Object;") ∈ lw_all := lw_g (lw_at lw_m6 239 rfl) rfl
theorem q1568 : (Jvm.Cond.instanceMethod ({ cls := "java/util/NoSuchElementException", name := "<init>", desc := "()V" } : Jvm.MethodName)) ∈ lw_all := lw_g (lw_at lw_m7 1 rfl) rfl
theorem q1569 : (Jvm.Cond.code ({ cls := "java/util/NoSuchElementException", name := "<init>", desc := "()V" } : Jvm.MethodName) prog_55_method_1_code (1 : Nat) (Option.none : Option Jvm.ClassFile.FieldType)) ∈ lw_all := lw_g (lw_at lw_m7 2 rfl) rfl
theorem q1570 : (Jvm.Cond.methodLink "java/util/NoSuchElementException" (1 : Nat) ({ cls := "java/lang/RuntimeException", name := "<init>", desc := "()V" } : Jvm.MethodName)) ∈ lw_all := lw_g (lw_at lw_m7 3 rfl) rfl
theorem q1571 : (Jvm.Cond.lays "java/util/NoSuchElementException" "java/lang/Throwable" "depth" "I") ∈ lw_all := lw_g (lw_at lw_m7 4 rfl) rfl
theorem q1572 : (Jvm.Cond.superclass "java/util/NoSuchElementException" "java/lang/RuntimeException") ∈ lw_all := lw_g (lw_at lw_m7 5 rfl) rfl
theorem q2686 : (Jvm.Cond.castable "java/util/NoSuchElementException" "java/lang/Object") ∈ lw_tbl := lw_at lw_m11 159 rfl
theorem in_J21 : ∀ w ∈ wsJ210, w ∈ lw_all := lw_in wsJ210 [1562, 1563, 1564, 1565, 1566, 1571] (by decide +kernel) (by decide +kernel)
theorem q170 : (Jvm.Cond.initialized "java/lang/IllegalStateException") ∈ lw_all := lw_g (lw_at lw_m1 43 rfl) rfl
theorem q936 : (Jvm.Cond.selects "java/lang/IllegalStateException" ({ cls := "java/lang/Throwable", name := "fillInStackTrace", desc := "()Ljava/lang/Throwable;" } : Jvm.MethodName) ({ cls := "java/lang/Throwable", name := "fillInStackTrace", desc := "()Ljava/lang/Throwable;" } : Jvm.MethodName)) ∈ lw_all := lw_g (lw_at lw_m4 89 rfl) rfl
theorem q1461 : (Jvm.Cond.selects "java/lang/IllegalStateException" ({ cls := "java/lang/Object", name := "getClass", desc := "()Ljava/lang/Class;" } : Jvm.MethodName) ({ cls := "java/lang/Object", name := "getClass", desc := "()Ljava/lang/Class;" } : Jvm.MethodName)) ∈ lw_all := lw_g (lw_at lw_m6 134 rfl) rfl
theorem q1628 : (Jvm.Cond.instantiable "java/lang/IllegalStateException" (6 : Nat)) ∈ lw_all := lw_g (lw_at lw_m7 61 rfl) rfl
theorem q1629 : (Jvm.Cond.castable "java/lang/IllegalStateException" "java/lang/IllegalStateException") ∈ lw_tbl := lw_at lw_m7 62 rfl
theorem q1630 : (Jvm.Cond.selects "java/lang/IllegalStateException" ({ cls := "java/lang/Throwable", name := "fillInStackTrace", desc := "(I)Ljava/lang/Throwable;" } : Jvm.MethodName) ({ cls := "java/lang/Throwable", name := "fillInStackTrace", desc := "(I)Ljava/lang/Throwable;" } : Jvm.MethodName)) ∈ lw_all := lw_g (lw_at lw_m7 63 rfl) rfl
theorem q1631 : (Jvm.Cond.lays "java/lang/IllegalStateException" "java/lang/Throwable" "cause" "Ljava/lang/Throwable;") ∈ lw_all := lw_g (lw_at lw_m7 64 rfl) rfl
theorem q1632 : (Jvm.Cond.lays "java/lang/IllegalStateException" "java/lang/Throwable" "stackTrace" "[Ljava/lang/StackTraceElement;") ∈ lw_all := lw_g (lw_at lw_m7 65 rfl) rfl
theorem q1633 : (Jvm.Cond.lays "java/lang/IllegalStateException" "java/lang/Throwable" "suppressedExceptions" "Ljava/util/List;") ∈ lw_all := lw_g (lw_at lw_m7 66 rfl) rfl
theorem q1634 : (Jvm.Cond.lays "java/lang/IllegalStateException" "java/lang/Throwable" "detailMessage" "Ljava/lang/String;") ∈ lw_all := lw_g (lw_at lw_m7 67 rfl) rfl
theorem q1635 : (Jvm.Cond.lays "java/lang/IllegalStateException" "java/lang/Throwable" "backtrace" "Ljava/lang/Object;") ∈ lw_all := lw_g (lw_at lw_m7 68 rfl) rfl
theorem q1637 : (Jvm.Cond.instanceMethod ({ cls := "java/lang/IllegalStateException", name := "<init>", desc := "()V" } : Jvm.MethodName)) ∈ lw_all := lw_g (lw_at lw_m7 70 rfl) rfl
theorem q1638 : (Jvm.Cond.code ({ cls := "java/lang/IllegalStateException", name := "<init>", desc := "()V" } : Jvm.MethodName) prog_32_method_1_code (1 : Nat) (Option.none : Option Jvm.ClassFile.FieldType)) ∈ lw_all := lw_g (lw_at lw_m7 71 rfl) rfl
theorem q1639 : (Jvm.Cond.methodLink "java/lang/IllegalStateException" (1 : Nat) ({ cls := "java/lang/RuntimeException", name := "<init>", desc := "()V" } : Jvm.MethodName)) ∈ lw_all := lw_g (lw_at lw_m7 72 rfl) rfl
theorem q1640 : (Jvm.Cond.lays "java/lang/IllegalStateException" "java/lang/Throwable" "depth" "I") ∈ lw_all := lw_g (lw_at lw_m7 73 rfl) rfl
theorem q1641 : (Jvm.Cond.superclass "java/lang/IllegalStateException" "java/lang/RuntimeException") ∈ lw_all := lw_g (lw_at lw_m7 74 rfl) rfl
theorem q2687 : (Jvm.Cond.castable "java/lang/IllegalStateException" "java/lang/Object") ∈ lw_tbl := lw_at lw_m11 160 rfl
theorem in_J22 : ∀ w ∈ wsJ220, w ∈ lw_all := lw_in wsJ220 [1631, 1632, 1633, 1634, 1635, 1640] (by decide +kernel) (by decide +kernel)
theorem q171 : (Jvm.Cond.initialized "java/util/Objects") ∈ lw_all := lw_g (lw_at lw_m1 44 rfl) rfl
theorem q661 : (Jvm.Cond.static ({ cls := "java/util/Objects", name := "checkIndex", desc := "(II)I" } : Jvm.MethodName)) ∈ lw_all := lw_g (lw_at lw_m3 54 rfl) rfl
theorem q662 : (Jvm.Cond.code ({ cls := "java/util/Objects", name := "checkIndex", desc := "(II)I" } : Jvm.MethodName) prog_56_method_17_code (2 : Nat) (Option.some Jvm.ClassFile.FieldType.int)) ∈ lw_all := lw_g (lw_at lw_m3 55 rfl) rfl
theorem q663 : (Jvm.Cond.methodLink "java/util/Objects" (105 : Nat) ({ cls := "jdk/internal/util/Preconditions", name := "checkIndex", desc := "(IILjava/util/function/BiFunction;)I" } : Jvm.MethodName)) ∈ lw_all := lw_g (lw_at lw_m3 56 rfl) rfl
theorem q179 : (Jvm.Cond.instanceMethod ({ cls := "java/lang/Object", name := "<init>", desc := "()V" } : Jvm.MethodName)) ∈ lw_all := lw_g (lw_at lw_m1 52 rfl) rfl
theorem q180 : (Jvm.Cond.code ({ cls := "java/lang/Object", name := "<init>", desc := "()V" } : Jvm.MethodName) object_method_1_code (1 : Nat) (Option.none : Option Jvm.ClassFile.FieldType)) ∈ lw_all := lw_g (lw_at lw_m1 53 rfl) rfl
theorem q807 : (Jvm.Cond.native ({ cls := "java/lang/Object", name := "clone", desc := "()Ljava/lang/Object;" } : Jvm.MethodName)) ∈ lw_all := lw_g (lw_at lw_m3 200 rfl) rfl
theorem q808 : (Jvm.Cond.instanceMethod ({ cls := "java/lang/Object", name := "clone", desc := "()Ljava/lang/Object;" } : Jvm.MethodName)) ∈ lw_all := lw_g (lw_at lw_m3 201 rfl) rfl
theorem q1438 : (Jvm.Cond.instanceMethod ({ cls := "java/lang/Object", name := "getClass", desc := "()Ljava/lang/Class;" } : Jvm.MethodName)) ∈ lw_all := lw_g (lw_at lw_m6 111 rfl) rfl
theorem q1439 : (Jvm.Cond.sameMethod "java/lang/Object" "java/lang/Object" "getClass" "()Ljava/lang/Class;") ∈ lw_all := lw_g (lw_at lw_m6 112 rfl) rfl
theorem q1469 : (Jvm.Cond.native ({ cls := "java/lang/Object", name := "getClass", desc := "()Ljava/lang/Class;" } : Jvm.MethodName)) ∈ lw_all := lw_g (lw_at lw_m6 142 rfl) rfl
theorem q2658 : (Jvm.Cond.initialized "java/lang/Object") ∈ lw_all := lw_g (lw_at lw_m11 131 rfl) rfl
theorem q2692 : (Jvm.Cond.declares ({ cls := "java/lang/Object", name := "getClass", desc := "()Ljava/lang/Class;" } : Jvm.MethodName)) ∈ lw_tbl := lw_at lw_m11 165 rfl
theorem q1128 : (Jvm.Cond.castable "java/lang/System$2" "jdk/internal/access/JavaLangAccess") ∈ lw_tbl := lw_at lw_m5 41 rfl
theorem q1129 : (Jvm.Cond.selects "java/lang/System$2" ({ cls := "jdk/internal/access/JavaLangAccess", name := "getUTF16Char", desc := "([BI)C" } : Jvm.MethodName) ({ cls := "java/lang/System$2", name := "getUTF16Char", desc := "([BI)C" } : Jvm.MethodName)) ∈ lw_all := lw_g (lw_at lw_m5 42 rfl) rfl
theorem q1130 : (Jvm.Cond.unhidden "java/lang/System$2" "getUTF16Char" "([BI)C") ∈ lw_tbl := lw_at lw_m5 43 rfl
theorem q1131 : (Jvm.Cond.instanceMethod ({ cls := "java/lang/System$2", name := "getUTF16Char", desc := "([BI)C" } : Jvm.MethodName)) ∈ lw_all := lw_g (lw_at lw_m5 44 rfl) rfl
theorem q1132 : (Jvm.Cond.publicMethod ({ cls := "java/lang/System$2", name := "getUTF16Char", desc := "([BI)C" } : Jvm.MethodName)) ∈ lw_tbl := lw_at lw_m5 45 rfl
theorem q1133 : (Jvm.Cond.code ({ cls := "java/lang/System$2", name := "getUTF16Char", desc := "([BI)C" } : Jvm.MethodName) prog_44_method_45_code (3 : Nat) (Option.some Jvm.ClassFile.FieldType.char)) ∈ lw_all := lw_g (lw_at lw_m5 46 rfl) rfl
theorem q1134 : (Jvm.Cond.methodLink "java/lang/System$2" (185 : Nat) ({ cls := "java/lang/StringUTF16", name := "getChar", desc := "([BI)C" } : Jvm.MethodName)) ∈ lw_all := lw_g (lw_at lw_m5 47 rfl) rfl
theorem q1465 : (Jvm.Cond.selects "java/lang/System$2" ({ cls := "java/lang/Object", name := "getClass", desc := "()Ljava/lang/Class;" } : Jvm.MethodName) ({ cls := "java/lang/Object", name := "getClass", desc := "()Ljava/lang/Class;" } : Jvm.MethodName)) ∈ lw_all := lw_g (lw_at lw_m6 138 rfl) rfl
theorem q2674 : (Jvm.Cond.castable "java/lang/System$2" "java/lang/Object") ∈ lw_tbl := lw_at lw_m11 147 rfl
theorem q276 : (Jvm.Cond.arrayClass Jvm.ClassFile.FieldType.int) ∈ lw_all := lw_g (lw_at lw_m1 149 rfl) rfl
theorem q312 : (Jvm.Cond.arrayClass Jvm.ClassFile.FieldType.byte) ∈ lw_all := lw_g (lw_at lw_m1 185 rfl) rfl
theorem q1414 : (Jvm.Cond.arrayOver (Jvm.ClassFile.FieldType.object "HungFaces$Fact")) ∈ lw_tbl := lw_at lw_m6 87 rfl
theorem q1474 : (Jvm.Cond.arrayOver (Jvm.ClassFile.FieldType.object "java/lang/Object")) ∈ lw_tbl := lw_at lw_m6 147 rfl
theorem q2647 : (Jvm.Cond.arrayClass Jvm.ClassFile.FieldType.long) ∈ lw_all := lw_g (lw_at lw_m11 120 rfl) rfl
theorem q2698 : (Jvm.Cond.arrayClass Jvm.ClassFile.FieldType.char) ∈ lw_all := lw_g (lw_at lw_m11 171 rfl) rfl
theorem q2699 : (Jvm.Cond.arrayClass Jvm.ClassFile.FieldType.short) ∈ lw_all := lw_g (lw_at lw_m11 172 rfl) rfl
theorem q140 : (Jvm.Cond.initialized "java/lang/System") ∈ lw_all := lw_g (lw_at lw_m1 13 rfl) rfl
theorem q671 : (Jvm.Cond.static ({ cls := "java/lang/System", name := "arraycopy", desc := "(Ljava/lang/Object;ILjava/lang/Object;II)V" } : Jvm.MethodName)) ∈ lw_all := lw_g (lw_at lw_m3 64 rfl) rfl
theorem q672 : (Jvm.Cond.native ({ cls := "java/lang/System", name := "arraycopy", desc := "(Ljava/lang/Object;ILjava/lang/Object;II)V" } : Jvm.MethodName)) ∈ lw_all := lw_g (lw_at lw_m3 65 rfl) rfl
theorem q153 : (Jvm.Cond.initialized "java/lang/Number") ∈ lw_all := lw_g (lw_at lw_m1 26 rfl) rfl
theorem q172 : (Jvm.Cond.initialized "HungFaces$Which") ∈ lw_all := lw_g (lw_at lw_m1 45 rfl) rfl
theorem q1455 : (Jvm.Cond.selects "HungFaces$Which" ({ cls := "java/lang/Object", name := "getClass", desc := "()Ljava/lang/Class;" } : Jvm.MethodName) ({ cls := "java/lang/Object", name := "getClass", desc := "()Ljava/lang/Class;" } : Jvm.MethodName)) ∈ lw_all := lw_g (lw_at lw_m6 128 rfl) rfl
theorem q1651 : (Jvm.Cond.laysStatic "HungFaces$Which" "HUNG" "LHungFaces$Which;") ∈ lw_tbl := lw_at lw_m7 84 rfl
theorem q1657 : (Jvm.Cond.sameMethod "HungFaces$Which" "java/lang/Enum" "ordinal" "()I") ∈ lw_all := lw_g (lw_at lw_m7 90 rfl) rfl
theorem q1659 : (Jvm.Cond.selects "HungFaces$Which" ({ cls := "HungFaces$Which", name := "ordinal", desc := "()I" } : Jvm.MethodName) ({ cls := "java/lang/Enum", name := "ordinal", desc := "()I" } : Jvm.MethodName)) ∈ lw_all := lw_g (lw_at lw_m7 92 rfl) rfl
theorem q1675 : (Jvm.Cond.laysStatic "HungFaces$Which" "FETCHED" "LHungFaces$Which;") ∈ lw_tbl := lw_at lw_m7 108 rfl
theorem q1693 : (Jvm.Cond.laysStatic "HungFaces$Which" "CHANGED" "LHungFaces$Which;") ∈ lw_tbl := lw_at lw_m7 126 rfl
theorem q1702 : (Jvm.Cond.laysStatic "HungFaces$Which" "STOLEN" "LHungFaces$Which;") ∈ lw_tbl := lw_at lw_m7 135 rfl
theorem q2688 : (Jvm.Cond.castable "HungFaces$Which" "java/lang/Object") ∈ lw_tbl := lw_at lw_m11 161 rfl
theorem q806 : (Jvm.Cond.sameMethod "[B" "java/lang/Object" "clone" "()Ljava/lang/Object;") ∈ lw_all := lw_g (lw_at lw_m3 199 rfl) rfl
theorem q809 : (Jvm.Cond.selects "[B" ({ cls := "[B", name := "clone", desc := "()Ljava/lang/Object;" } : Jvm.MethodName) ({ cls := "java/lang/Object", name := "clone", desc := "()Ljava/lang/Object;" } : Jvm.MethodName)) ∈ lw_all := lw_g (lw_at lw_m3 202 rfl) rfl
theorem q810 : (Jvm.Cond.castable "[B" "java/lang/Cloneable") ∈ lw_tbl := lw_at lw_m3 203 rfl
theorem q2694 : (Jvm.Cond.castable "[B" "java/lang/Object") ∈ lw_tbl := lw_at lw_m11 167 rfl
theorem q1126 : (Jvm.Cond.interfaceMethod "jdk/internal/access/JavaLangAccess" "jdk/internal/access/JavaLangAccess" "getUTF16Char" "([BI)C") ∈ lw_tbl := lw_at lw_m5 39 rfl
theorem q1127 : (Jvm.Cond.declares ({ cls := "jdk/internal/access/JavaLangAccess", name := "getUTF16Char", desc := "([BI)C" } : Jvm.MethodName)) ∈ lw_tbl := lw_at lw_m5 40 rfl
theorem q1411 : (Jvm.Cond.sameMethod "[LHungFaces$Fact;" "java/lang/Object" "clone" "()Ljava/lang/Object;") ∈ lw_all := lw_g (lw_at lw_m6 84 rfl) rfl
theorem q1412 : (Jvm.Cond.selects "[LHungFaces$Fact;" ({ cls := "[LHungFaces$Fact;", name := "clone", desc := "()Ljava/lang/Object;" } : Jvm.MethodName) ({ cls := "java/lang/Object", name := "clone", desc := "()Ljava/lang/Object;" } : Jvm.MethodName)) ∈ lw_all := lw_g (lw_at lw_m6 85 rfl) rfl
theorem q1413 : (Jvm.Cond.castable "[LHungFaces$Fact;" "java/lang/Cloneable") ∈ lw_tbl := lw_at lw_m6 86 rfl
theorem q2695 : (Jvm.Cond.castable "[LHungFaces$Fact;" "java/lang/Object") ∈ lw_tbl := lw_at lw_m11 168 rfl
theorem q1779 : (Jvm.Cond.interfaceMethod "HungFaces$Cond" "HungFaces$Cond" "holds" "(LHungFaces$Scene;)Z") ∈ lw_tbl := lw_at lw_m7 212 rfl
theorem q1780 : (Jvm.Cond.declares ({ cls := "HungFaces$Cond", name := "holds", desc := "(LHungFaces$Scene;)Z" } : Jvm.MethodName)) ∈ lw_tbl := lw_at lw_m7 213 rfl
theorem q2690 : (Jvm.Cond.sameMethod "[Ljava/lang/Object;" "java/lang/Object" "getClass" "()Ljava/lang/Class;") ∈ lw_all := lw_g (lw_at lw_m11 163 rfl) rfl
theorem q2691 : (Jvm.Cond.selects "[Ljava/lang/Object;" ({ cls := "java/lang/Object", name := "getClass", desc := "()Ljava/lang/Class;" } : Jvm.MethodName) ({ cls := "java/lang/Object", name := "getClass", desc := "()Ljava/lang/Class;" } : Jvm.MethodName)) ∈ lw_all := lw_g (lw_at lw_m11 164 rfl) rfl
theorem q2696 : (Jvm.Cond.castable "[Ljava/lang/Object;" "java/lang/Object") ∈ lw_tbl := lw_at lw_m11 169 rfl
theorem q2693 : (Jvm.Cond.castable "[I" "java/lang/Object") ∈ lw_tbl := lw_at lw_m11 166 rfl
theorem q2697 : (Jvm.Cond.castable "[J" "java/lang/Object") ∈ lw_tbl := lw_at lw_m11 170 rfl
