/-! the given names: heads of classes, methods, words -/
set_option maxRecDepth 100000
def RJ0 : String := "java/util/AbstractCollection"
def RJ1 : String := "java/util/AbstractList"
def RJ10 : String := "java/lang/AbstractStringBuilder"
def RJ11 : String := "java/lang/StringBuilder"
def TJ11 : u_T := fun k => match k with
  | 0 => ("java/lang/AbstractStringBuilder", "value", "[B", false)
  | 1 => ("java/lang/AbstractStringBuilder", "coder", "B", false)
  | 2 => ("java/lang/AbstractStringBuilder", "maybeLatin1", "Z", false)
  | _ => ("java/lang/AbstractStringBuilder", "count", "I", false)
def tyJ11 : Nat → FieldType := fun k => match k with
  | 0 => .array .byte
  | 1 => .byte
  | 2 => .boolean
  | _ => .int
abbrev wsJ110 : List Cond := u_ws RJ11 TJ11 4
theorem nmJ11 : ∀ a, a < 4 → ∀ b, b < 4 → a ≠ b → (TJ11 a).2.1 ≠ (TJ11 b).2.1 := by decide +kernel
theorem tyJ11_ok : ∀ k, k < 4 → parseFieldDescriptor (TJ11 k).2.2.1 = some (tyJ11 k) := by decide +kernel
def RJ12 : String := "java/lang/String"
def TJ12 : u_T := fun k => match k with
  | 0 => ("java/lang/String", "value", "[B", true)
  | 1 => ("java/lang/String", "coder", "B", true)
  | 2 => ("java/lang/String", "hash", "I", false)
  | _ => ("java/lang/String", "hashIsZero", "Z", false)
def tyJ12 : Nat → FieldType := fun k => match k with
  | 0 => .array .byte
  | 1 => .byte
  | 2 => .int
  | _ => .boolean
abbrev wsJ120 : List Cond := u_ws RJ12 TJ12 4
theorem nmJ12 : ∀ a, a < 4 → ∀ b, b < 4 → a ≠ b → (TJ12 a).2.1 ≠ (TJ12 b).2.1 := by decide +kernel
theorem tyJ12_ok : ∀ k, k < 4 → parseFieldDescriptor (TJ12 k).2.2.1 = some (tyJ12 k) := by decide +kernel
def RJ13 : String := "java/lang/StringUTF16"
def RJ14 : String := "java/lang/StringLatin1"
def RJ15 : String := "java/lang/Throwable"
def TJ15 : u_T := fun k => match k with
  | 0 => ("java/lang/Throwable", "cause", "Ljava/lang/Throwable;", false)
  | 1 => ("java/lang/Throwable", "stackTrace", "[Ljava/lang/StackTraceElement;", false)
  | 2 => ("java/lang/Throwable", "suppressedExceptions", "Ljava/util/List;", false)
  | 3 => ("java/lang/Throwable", "detailMessage", "Ljava/lang/String;", false)
  | _ => ("java/lang/Throwable", "backtrace", "Ljava/lang/Object;", false)
def tyJ15 : Nat → FieldType := fun k => match k with
  | 0 => .object "java/lang/Throwable"
  | 1 => .array (.object "java/lang/StackTraceElement")
  | 2 => .object "java/util/List"
  | 3 => .object "java/lang/String"
  | _ => .object "java/lang/Object"
abbrev wsJ150 : List Cond := u_ws RJ15 TJ15 5
theorem nmJ15 : ∀ a, a < 5 → ∀ b, b < 5 → a ≠ b → (TJ15 a).2.1 ≠ (TJ15 b).2.1 := by decide +kernel
theorem tyJ15_ok : ∀ k, k < 5 → parseFieldDescriptor (TJ15 k).2.2.1 = some (tyJ15 k) := by decide +kernel
def RJ16 : String := "java/lang/Exception"
def RJ17 : String := "java/lang/RuntimeException"
def RJ18 : String := "java/lang/Object"
def RJ19 : String := "java/lang/System$2"
def RJ2 : String := "java/util/ArrayList"
def TJ2 : u_T := fun k => match k with
  | 0 => ("java/util/AbstractList", "modCount", "I", false)
  | 1 => ("java/util/ArrayList", "elementData", "[Ljava/lang/Object;", false)
  | _ => ("java/util/ArrayList", "size", "I", false)
def tyJ2 : Nat → FieldType := fun k => match k with
  | 0 => .int
  | 1 => .array (.object "java/lang/Object")
  | _ => .int
abbrev wsJ20 : List Cond := u_ws RJ2 TJ2 3
theorem nmJ2 : ∀ a, a < 3 → ∀ b, b < 3 → a ≠ b → (TJ2 a).2.1 ≠ (TJ2 b).2.1 := by decide +kernel
theorem tyJ2_ok : ∀ k, k < 3 → parseFieldDescriptor (TJ2 k).2.2.1 = some (tyJ2 k) := by decide +kernel
def RJ3 : String := "jdk/internal/util/ArraysSupport"
def RJ4 : String := "java/lang/Math"
def RJ5 : String := "java/util/Arrays"
def RJ6 : String := "java/util/Objects"
def RJ7 : String := "jdk/internal/util/Preconditions"
def RJ8 : String := "java/lang/Record"
def RJ9 : String := "java/lang/Integer"
def RX0 : String := "RainStreets"
def TX0 : u_T := fun k => match k with
  | 0 => ("RainStreets", "today", "I", false)
  | 1 => ("RainStreets", "drinks", "[I", true)
  | 2 => ("RainStreets", "corners", "Ljava/util/ArrayList;", true)
  | 3 => ("RainStreets", "roofs", "Ljava/util/ArrayList;", true)
  | 4 => ("RainStreets", "rules", "Ljava/util/ArrayList;", true)
  | 5 => ("RainStreets", "bare", "LRainStreets$Rules;", true)
  | 6 => ("RainStreets", "tape", "[B", true)
  | 7 => ("RainStreets", "taped", "I", false)
  | 8 => ("RainStreets", "fault", "I", false)
  | 9 => ("RainStreets", "limit", "I", false)
  | 10 => ("RainStreets", "point", "I", false)
  | 11 => ("RainStreets", "from", "I", false)
  | 12 => ("RainStreets", "value", "I", false)
  | 13 => ("RainStreets", "token", "C", false)
  | 14 => ("RainStreets", "word", "Ljava/lang/String;", false)
  | 15 => ("RainStreets", "owed", "[I", true)
  | 16 => ("RainStreets", "kept", "[I", true)
  | 17 => ("RainStreets", "rained", "J", false)
  | 18 => ("RainStreets", "drunk", "J", false)
  | 19 => ("RainStreets", "spilt", "J", false)
  | 20 => ("RainStreets", "works", "J", false)
  | 21 => ("RainStreets", "used", "J", false)
  | 22 => ("RainStreets", "minutes", "[I", true)
  | 23 => ("RainStreets", "minuteMany", "I", false)
  | 24 => ("RainStreets", "run", "LRainStreets$Run;", true)
  | 25 => ("RainStreets", "storms", "Ljava/util/ArrayList;", true)
  | 26 => ("RainStreets", "looks", "I", false)
  | _ => ("RainStreets", "complaints", "Ljava/util/ArrayList;", true)
def tyX0 : Nat → FieldType := fun k => match k with
  | 0 => .int
  | 1 => .array .int
  | 2 => .object "java/util/ArrayList"
  | 3 => .object "java/util/ArrayList"
  | 4 => .object "java/util/ArrayList"
  | 5 => .object "RainStreets$Rules"
  | 6 => .array .byte
  | 7 => .int
  | 8 => .int
  | 9 => .int
  | 10 => .int
  | 11 => .int
  | 12 => .int
  | 13 => .char
  | 14 => .object "java/lang/String"
  | 15 => .array .int
  | 16 => .array .int
  | 17 => .long
  | 18 => .long
  | 19 => .long
  | 20 => .long
  | 21 => .long
  | 22 => .array .int
  | 23 => .int
  | 24 => .object "RainStreets$Run"
  | 25 => .object "java/util/ArrayList"
  | 26 => .int
  | _ => .object "java/util/ArrayList"
abbrev wsX00 : List Cond := u_ws RX0 TX0 28
set_option maxRecDepth 100000 in
theorem nmX0 : ∀ a, a < 28 → ∀ b, b < 28 → a ≠ b → (TX0 a).2.1 ≠ (TX0 b).2.1 := by decide +kernel
set_option maxRecDepth 100000 in
theorem tyX0_ok : ∀ k, k < 28 → parseFieldDescriptor (TX0 k).2.2.1 = some (tyX0 k) := by decide +kernel
def RX1 : String := "RainStreets$Rules"
def TX1 : u_T := fun k => match k with
  | 0 => ("RainStreets$Rules", "from", "I", true)
  | 1 => ("RainStreets$Rules", "turns", "Ljava/util/ArrayList;", true)
  | 2 => ("RainStreets$Rules", "clog", "I", false)
  | 3 => ("RainStreets$Rules", "leavesFrom", "I", false)
  | 4 => ("RainStreets$Rules", "leavesTo", "I", false)
  | 5 => ("RainStreets$Rules", "owe", "I", false)
  | 6 => ("RainStreets$Rules", "parking", "I", false)
  | 7 => ("RainStreets$Rules", "salt", "I", false)
  | 8 => ("RainStreets$Rules", "stand", "I", false)
  | 9 => ("RainStreets$Rules", "fee", "I", false)
  | 10 => ("RainStreets$Rules", "credit", "I", false)
  | 11 => ("RainStreets$Rules", "bed", "I", false)
  | 12 => ("RainStreets$Rules", "cost", "I", false)
  | 13 => ("RainStreets$Rules", "bowl", "I", false)
  | 14 => ("RainStreets$Rules", "doubt", "I", false)
  | 15 => ("RainStreets$Rules", "statements", "I", false)
  | 16 => ("RainStreets$Rules", "lookFrom", "[I", true)
  | _ => ("RainStreets$Rules", "lookTo", "[I", true)
def tyX1 : Nat → FieldType := fun k => match k with
  | 0 => .int
  | 1 => .object "java/util/ArrayList"
  | 2 => .int
  | 3 => .int
  | 4 => .int
  | 5 => .int
  | 6 => .int
  | 7 => .int
  | 8 => .int
  | 9 => .int
  | 10 => .int
  | 11 => .int
  | 12 => .int
  | 13 => .int
  | 14 => .int
  | 15 => .int
  | 16 => .array .int
  | _ => .array .int
abbrev wsX10 : List Cond := u_ws RX1 TX1 18
set_option maxRecDepth 100000 in
theorem nmX1 : ∀ a, a < 18 → ∀ b, b < 18 → a ≠ b → (TX1 a).2.1 ≠ (TX1 b).2.1 := by decide +kernel
set_option maxRecDepth 100000 in
theorem tyX1_ok : ∀ k, k < 18 → parseFieldDescriptor (TX1 k).2.2.1 = some (tyX1 k) := by decide +kernel
def RX10 : String := "RainStreets$Turn"
def TX10 : u_T := fun k => match k with
  | 0 => ("RainStreets$Turn", "neighbour", "I", true)
  | 1 => ("RainStreets$Turn", "corner", "I", true)
  | 2 => ("RainStreets$Turn", "every", "I", true)
  | _ => ("RainStreets$Turn", "from", "I", true)
def tyX10 : Nat → FieldType := fun k => match k with
  | 0 => .int
  | 1 => .int
  | 2 => .int
  | _ => .int
abbrev wsX100 : List Cond := u_ws RX10 TX10 4
theorem nmX10 : ∀ a, a < 4 → ∀ b, b < 4 → a ≠ b → (TX10 a).2.1 ≠ (TX10 b).2.1 := by decide +kernel
theorem tyX10_ok : ∀ k, k < 4 → parseFieldDescriptor (TX10 k).2.2.1 = some (tyX10 k) := by decide +kernel
def RX2 : String := "RainStreets$Run"
def TX2 : u_T := fun k => match k with
  | 0 => ("RainStreets$Run", "bowls", "[I", true)
  | 1 => ("RainStreets$Run", "barrels", "[I", true)
  | 2 => ("RainStreets$Run", "spills", "[I", true)
  | 3 => ("RainStreets$Run", "wet", "[I", true)
  | 4 => ("RainStreets$Run", "most", "[I", true)
  | 5 => ("RainStreets$Run", "piped", "[I", true)
  | 6 => ("RainStreets$Run", "street", "[I", true)
  | 7 => ("RainStreets$Run", "set", "I", false)
  | 8 => ("RainStreets$Run", "rain", "J", false)
  | 9 => ("RainStreets$Run", "drinks", "J", false)
  | 10 => ("RainStreets$Run", "all", "J", false)
  | 11 => ("RainStreets$Run", "end", "J", false)
  | 12 => ("RainStreets$Run", "wets", "I", false)
  | 13 => ("RainStreets$Run", "mostEnd", "I", false)
  | _ => ("RainStreets$Run", "this$0", "LRainStreets;", true)
def tyX2 : Nat → FieldType := fun k => match k with
  | 0 => .array .int
  | 1 => .array .int
  | 2 => .array .int
  | 3 => .array .int
  | 4 => .array .int
  | 5 => .array .int
  | 6 => .array .int
  | 7 => .int
  | 8 => .long
  | 9 => .long
  | 10 => .long
  | 11 => .long
  | 12 => .int
  | 13 => .int
  | _ => .object "RainStreets"
abbrev wsX20 : List Cond := u_ws RX2 TX2 15
set_option maxRecDepth 100000 in
theorem nmX2 : ∀ a, a < 15 → ∀ b, b < 15 → a ≠ b → (TX2 a).2.1 ≠ (TX2 b).2.1 := by decide +kernel
set_option maxRecDepth 100000 in
theorem tyX2_ok : ∀ k, k < 15 → parseFieldDescriptor (TX2 k).2.2.1 = some (tyX2 k) := by decide +kernel
def RX3 : String := "RainStreetsModel"
def TX3 : u_T := fun k => match k with
  | 0 => ("RainStreetsModel", "today", "I", false)
  | 1 => ("RainStreetsModel", "corners", "I", false)
  | 2 => ("RainStreetsModel", "roofs", "I", false)
  | 3 => ("RainStreetsModel", "minutes", "I", false)
  | 4 => ("RainStreetsModel", "storms", "I", false)
  | 5 => ("RainStreetsModel", "looks", "I", false)
  | 6 => ("RainStreetsModel", "complaints", "I", false)
  | 7 => ("RainStreetsModel", "area", "[I", true)
  | 8 => ("RainStreetsModel", "pipe", "[I", true)
  | 9 => ("RainStreetsModel", "parking", "[I", true)
  | 10 => ("RainStreetsModel", "cellar", "[I", true)
  | 11 => ("RainStreetsModel", "below", "[I", true)
  | 12 => ("RainStreetsModel", "hasBed", "[Z", true)
  | 13 => ("RainStreetsModel", "hasTree", "[Z", true)
  | 14 => ("RainStreetsModel", "hasPlants", "[Z", true)
  | 15 => ("RainStreetsModel", "lot", "[I", true)
  | 16 => ("RainStreetsModel", "bowl", "[I", true)
  | 17 => ("RainStreetsModel", "made", "[I", true)
  | 18 => ("RainStreetsModel", "clog", "[I", true)
  | 19 => ("RainStreetsModel", "leaves", "[I", true)
  | 20 => ("RainStreetsModel", "salt", "[I", true)
  | 21 => ("RainStreetsModel", "holds", "[I", true)
  | 22 => ("RainStreetsModel", "stands", "[I", true)
  | 23 => ("RainStreetsModel", "looked", "[I", true)
  | 24 => ("RainStreetsModel", "caredOn", "[I", true)
  | 25 => ("RainStreetsModel", "roofAt", "[I", true)
  | 26 => ("RainStreetsModel", "owner", "[I", true)
  | 27 => ("RainStreetsModel", "roofArea", "[I", true)
  | 28 => ("RainStreetsModel", "barrel", "[I", true)
  | 29 => ("RainStreetsModel", "has", "[I", true)
  | 30 => ("RainStreetsModel", "proved", "[I", true)
  | 31 => ("RainStreetsModel", "drinks", "[I", true)
  | 32 => ("RainStreetsModel", "rain", "[I", true)
  | 33 => ("RainStreetsModel", "owes", "[I", true)
  | 34 => ("RainStreetsModel", "kept", "[I", true)
  | 35 => ("RainStreetsModel", "rained", "J", false)
  | 36 => ("RainStreetsModel", "drunk", "J", false)
  | 37 => ("RainStreetsModel", "spilt", "J", false)
  | 38 => ("RainStreetsModel", "works", "J", false)
  | 39 => ("RainStreetsModel", "used", "J", false)
  | 40 => ("RainStreetsModel", "barrelNow", "[I", true)
  | 41 => ("RainStreetsModel", "bowlNow", "[I", true)
  | 42 => ("RainStreetsModel", "street", "[J", true)
  | 43 => ("RainStreetsModel", "inPipe", "[J", true)
  | 44 => ("RainStreetsModel", "spiltAt", "[J", true)
  | 45 => ("RainStreetsModel", "mostAt", "[J", true)
  | 46 => ("RainStreetsModel", "wetAt", "[I", true)
  | 47 => ("RainStreetsModel", "allRain", "J", false)
  | 48 => ("RainStreetsModel", "allDrunk", "J", false)
  | 49 => ("RainStreetsModel", "allSpilt", "J", false)
  | 50 => ("RainStreetsModel", "allWorks", "J", false)
  | 51 => ("RainStreetsModel", "mostWorks", "J", false)
  | 52 => ("RainStreetsModel", "allWet", "I", false)
  | 53 => ("RainStreetsModel", "stormRain", "[J", true)
  | 54 => ("RainStreetsModel", "stormSpilt", "[J", true)
  | 55 => ("RainStreetsModel", "stormMost", "[J", true)
  | 56 => ("RainStreetsModel", "toldSpilt", "[J", true)
  | 57 => ("RainStreetsModel", "toldMost", "[J", true)
  | 58 => ("RainStreetsModel", "stormDay", "[I", true)
  | 59 => ("RainStreetsModel", "stormWet", "[I", true)
  | 60 => ("RainStreetsModel", "toldWet", "[I", true)
  | 61 => ("RainStreetsModel", "atCorner", "[I", true)
  | 62 => ("RainStreetsModel", "ofKind", "[I", true)
  | 63 => ("RainStreetsModel", "toldOn", "[I", true)
  | 64 => ("RainStreetsModel", "joinedOn", "[I", true)
  | 65 => ("RainStreetsModel", "often", "[I", true)
  | 66 => ("RainStreetsModel", "isOpen", "[Z", true)
  | 67 => ("RainStreetsModel", "rules", "I", false)
  | 68 => ("RainStreetsModel", "statements", "[I", true)
  | 69 => ("RainStreetsModel", "taken", "[I", true)
  | 70 => ("RainStreetsModel", "sort", "[I", true)
  | 71 => ("RainStreetsModel", "first", "[I", true)
  | 72 => ("RainStreetsModel", "second", "[I", true)
  | 73 => ("RainStreetsModel", "third", "[I", true)
  | 74 => ("RainStreetsModel", "fourth", "[I", true)
  | 75 => ("RainStreetsModel", "tape", "[B", true)
  | 76 => ("RainStreetsModel", "text", "[B", true)
  | 77 => ("RainStreetsModel", "taped", "I", false)
  | 78 => ("RainStreetsModel", "size", "I", false)
  | 79 => ("RainStreetsModel", "at", "I", false)
  | 80 => ("RainStreetsModel", "fault", "I", false)
  | _ => ("RainStreetsModel", "number", "I", false)
def tyX3 : Nat → FieldType := fun k => match k with
  | 0 => .int
  | 1 => .int
  | 2 => .int
  | 3 => .int
  | 4 => .int
  | 5 => .int
  | 6 => .int
  | 7 => .array .int
  | 8 => .array .int
  | 9 => .array .int
  | 10 => .array .int
  | 11 => .array .int
  | 12 => .array .boolean
  | 13 => .array .boolean
  | 14 => .array .boolean
  | 15 => .array .int
  | 16 => .array .int
  | 17 => .array .int
  | 18 => .array .int
  | 19 => .array .int
  | 20 => .array .int
  | 21 => .array .int
  | 22 => .array .int
  | 23 => .array .int
  | 24 => .array .int
  | 25 => .array .int
  | 26 => .array .int
  | 27 => .array .int
  | 28 => .array .int
  | 29 => .array .int
  | 30 => .array .int
  | 31 => .array .int
  | 32 => .array .int
  | 33 => .array .int
  | 34 => .array .int
  | 35 => .long
  | 36 => .long
  | 37 => .long
  | 38 => .long
  | 39 => .long
  | 40 => .array .int
  | 41 => .array .int
  | 42 => .array .long
  | 43 => .array .long
  | 44 => .array .long
  | 45 => .array .long
  | 46 => .array .int
  | 47 => .long
  | 48 => .long
  | 49 => .long
  | 50 => .long
  | 51 => .long
  | 52 => .int
  | 53 => .array .long
  | 54 => .array .long
  | 55 => .array .long
  | 56 => .array .long
  | 57 => .array .long
  | 58 => .array .int
  | 59 => .array .int
  | 60 => .array .int
  | 61 => .array .int
  | 62 => .array .int
  | 63 => .array .int
  | 64 => .array .int
  | 65 => .array .int
  | 66 => .array .boolean
  | 67 => .int
  | 68 => .array .int
  | 69 => .array .int
  | 70 => .array .int
  | 71 => .array .int
  | 72 => .array .int
  | 73 => .array .int
  | 74 => .array .int
  | 75 => .array .byte
  | 76 => .array .byte
  | 77 => .int
  | 78 => .int
  | 79 => .int
  | 80 => .int
  | _ => .int
abbrev wsX30 : List Cond := u_ws RX3 TX3 82
set_option maxRecDepth 100000 in
theorem nmX3 : ∀ a, a < 82 → ∀ b, b < 82 → a ≠ b → (TX3 a).2.1 ≠ (TX3 b).2.1 := by decide +kernel
set_option maxRecDepth 100000 in
theorem tyX3_ok : ∀ k, k < 82 → parseFieldDescriptor (TX3 k).2.2.1 = some (tyX3 k) := by decide +kernel
def RX4 : String := "RainStreets$Corner"
def TX4 : u_T := fun k => match k with
  | 0 => ("RainStreets$Corner", "number", "I", true)
  | 1 => ("RainStreets$Corner", "area", "I", true)
  | 2 => ("RainStreets$Corner", "pipe", "I", true)
  | 3 => ("RainStreets$Corner", "parking", "I", true)
  | 4 => ("RainStreets$Corner", "cellar", "I", true)
  | 5 => ("RainStreets$Corner", "below", "I", false)
  | 6 => ("RainStreets$Corner", "spilt", "I", false)
  | 7 => ("RainStreets$Corner", "most", "I", false)
  | 8 => ("RainStreets$Corner", "wet", "I", false)
  | 9 => ("RainStreets$Corner", "bed", "LRainStreets$Bed;", false)
  | _ => ("RainStreets$Corner", "roofs", "Ljava/util/ArrayList;", true)
def tyX4 : Nat → FieldType := fun k => match k with
  | 0 => .int
  | 1 => .int
  | 2 => .int
  | 3 => .int
  | 4 => .int
  | 5 => .int
  | 6 => .int
  | 7 => .int
  | 8 => .int
  | 9 => .object "RainStreets$Bed"
  | _ => .object "java/util/ArrayList"
abbrev wsX40 : List Cond := u_ws RX4 TX4 11
theorem nmX4 : ∀ a, a < 11 → ∀ b, b < 11 → a ≠ b → (TX4 a).2.1 ≠ (TX4 b).2.1 := by decide +kernel
theorem tyX4_ok : ∀ k, k < 11 → parseFieldDescriptor (TX4 k).2.2.1 = some (tyX4 k) := by decide +kernel
def RX5 : String := "RainStreets$Roof"
def TX5 : u_T := fun k => match k with
  | 0 => ("RainStreets$Roof", "number", "I", true)
  | 1 => ("RainStreets$Roof", "owner", "I", true)
  | 2 => ("RainStreets$Roof", "area", "I", true)
  | 3 => ("RainStreets$Roof", "barrel", "I", true)
  | 4 => ("RainStreets$Roof", "at", "LRainStreets$Corner;", true)
  | 5 => ("RainStreets$Roof", "filled", "I", false)
  | _ => ("RainStreets$Roof", "proved", "I", false)
def tyX5 : Nat → FieldType := fun k => match k with
  | 0 => .int
  | 1 => .int
  | 2 => .int
  | 3 => .int
  | 4 => .object "RainStreets$Corner"
  | 5 => .int
  | _ => .int
abbrev wsX50 : List Cond := u_ws RX5 TX5 7
theorem nmX5 : ∀ a, a < 7 → ∀ b, b < 7 → a ≠ b → (TX5 a).2.1 ≠ (TX5 b).2.1 := by decide +kernel
theorem tyX5_ok : ∀ k, k < 7 → parseFieldDescriptor (TX5 k).2.2.1 = some (tyX5 k) := by decide +kernel
def RX6 : String := "RainStreets$Bed"
def TX6 : u_T := fun k => match k with
  | 0 => ("RainStreets$Bed", "at", "LRainStreets$Corner;", true)
  | 1 => ("RainStreets$Bed", "lot", "I", true)
  | 2 => ("RainStreets$Bed", "bowl", "I", true)
  | 3 => ("RainStreets$Bed", "made", "I", true)
  | 4 => ("RainStreets$Bed", "hasTree", "Z", true)
  | 5 => ("RainStreets$Bed", "clog", "I", false)
  | 6 => ("RainStreets$Bed", "leaves", "I", false)
  | 7 => ("RainStreets$Bed", "salt", "I", false)
  | 8 => ("RainStreets$Bed", "filled", "I", false)
  | 9 => ("RainStreets$Bed", "stands", "I", false)
  | 10 => ("RainStreets$Bed", "look", "I", false)
  | 11 => ("RainStreets$Bed", "cared", "I", false)
  | 12 => ("RainStreets$Bed", "hasPlants", "Z", false)
  | _ => ("RainStreets$Bed", "this$0", "LRainStreets;", true)
def tyX6 : Nat → FieldType := fun k => match k with
  | 0 => .object "RainStreets$Corner"
  | 1 => .int
  | 2 => .int
  | 3 => .int
  | 4 => .boolean
  | 5 => .int
  | 6 => .int
  | 7 => .int
  | 8 => .int
  | 9 => .int
  | 10 => .int
  | 11 => .int
  | 12 => .boolean
  | _ => .object "RainStreets"
abbrev wsX60 : List Cond := u_ws RX6 TX6 14
set_option maxRecDepth 100000 in
theorem nmX6 : ∀ a, a < 14 → ∀ b, b < 14 → a ≠ b → (TX6 a).2.1 ≠ (TX6 b).2.1 := by decide +kernel
set_option maxRecDepth 100000 in
theorem tyX6_ok : ∀ k, k < 14 → parseFieldDescriptor (TX6 k).2.2.1 = some (tyX6 k) := by decide +kernel
def RX7 : String := "RainStreets$Complaint"
def TX7 : u_T := fun k => match k with
  | 0 => ("RainStreets$Complaint", "at", "LRainStreets$Corner;", true)
  | 1 => ("RainStreets$Complaint", "number", "I", true)
  | 2 => ("RainStreets$Complaint", "kind", "I", true)
  | 3 => ("RainStreets$Complaint", "told", "I", true)
  | 4 => ("RainStreets$Complaint", "joined", "I", false)
  | 5 => ("RainStreets$Complaint", "many", "I", false)
  | _ => ("RainStreets$Complaint", "isOpen", "Z", false)
def tyX7 : Nat → FieldType := fun k => match k with
  | 0 => .object "RainStreets$Corner"
  | 1 => .int
  | 2 => .int
  | 3 => .int
  | 4 => .int
  | 5 => .int
  | _ => .boolean
abbrev wsX70 : List Cond := u_ws RX7 TX7 7
theorem nmX7 : ∀ a, a < 7 → ∀ b, b < 7 → a ≠ b → (TX7 a).2.1 ≠ (TX7 b).2.1 := by decide +kernel
theorem tyX7_ok : ∀ k, k < 7 → parseFieldDescriptor (TX7 k).2.2.1 = some (tyX7 k) := by decide +kernel
def RX8 : String := "RainStreets$Storm"
def TX8 : u_T := fun k => match k with
  | 0 => ("RainStreets$Storm", "day", "I", true)
  | 1 => ("RainStreets$Storm", "rained", "J", true)
  | 2 => ("RainStreets$Storm", "spilt", "J", true)
  | 3 => ("RainStreets$Storm", "wet", "I", true)
  | _ => ("RainStreets$Storm", "most", "I", true)
def tyX8 : Nat → FieldType := fun k => match k with
  | 0 => .int
  | 1 => .long
  | 2 => .long
  | 3 => .int
  | _ => .int
abbrev wsX80 : List Cond := u_ws RX8 TX8 5
theorem nmX8 : ∀ a, a < 5 → ∀ b, b < 5 → a ≠ b → (TX8 a).2.1 ≠ (TX8 b).2.1 := by decide +kernel
theorem tyX8_ok : ∀ k, k < 5 → parseFieldDescriptor (TX8 k).2.2.1 = some (tyX8 k) := by decide +kernel
def RX9 : String := "RainStreets$Wrong"
def TX9 : u_T := fun k => match k with
  | 0 => ("java/lang/Throwable", "cause", "Ljava/lang/Throwable;", false)
  | 1 => ("java/lang/Throwable", "stackTrace", "[Ljava/lang/StackTraceElement;", false)
  | 2 => ("java/lang/Throwable", "suppressedExceptions", "Ljava/util/List;", false)
  | 3 => ("java/lang/Throwable", "detailMessage", "Ljava/lang/String;", false)
  | 4 => ("java/lang/Throwable", "backtrace", "Ljava/lang/Object;", false)
  | 5 => ("java/lang/Throwable", "depth", "I", false)
  | _ => ("RainStreets$Wrong", "at", "I", true)
def tyX9 : Nat → FieldType := fun k => match k with
  | 0 => .object "java/lang/Throwable"
  | 1 => .array (.object "java/lang/StackTraceElement")
  | 2 => .object "java/util/List"
  | 3 => .object "java/lang/String"
  | 4 => .object "java/lang/Object"
  | 5 => .int
  | _ => .int
abbrev wsX90 : List Cond := u_ws RX9 TX9 7
theorem nmX9 : ∀ a, a < 7 → ∀ b, b < 7 → a ≠ b → (TX9 a).2.1 ≠ (TX9 b).2.1 := by decide +kernel
theorem tyX9_ok : ∀ k, k < 7 → parseFieldDescriptor (TX9 k).2.2.1 = some (tyX9 k) := by decide +kernel
abbrev cJ0_init : ByteArray := prog_34_method_1_code
def yJ0_init : MethodName := ⟨RJ0, "<init>", "()V"⟩
abbrev cJ1_init : ByteArray := prog_35_method_1_code
def yJ1_init : MethodName := ⟨RJ1, "<init>", "()V"⟩
abbrev cJ10_init : ByteArray := prog_14_method_2_code
def yJ10_init : MethodName := ⟨RJ10, "<init>", "(I)V"⟩
abbrev cJ10_append : ByteArray := prog_14_method_31_code
def yJ10_append : MethodName := ⟨RJ10, "append", "(C)Ljava/lang/AbstractStringBuilder;"⟩
abbrev cJ10_ensureCapacityInternal : ByteArray := prog_14_method_9_code
def yJ10_ensureCapacityInternal : MethodName := ⟨RJ10, "ensureCapacityInternal", "(I)V"⟩
abbrev cJ10_newCapacity : ByteArray := prog_14_method_10_code
def yJ10_newCapacity : MethodName := ⟨RJ10, "newCapacity", "(I)I"⟩
abbrev cJ10_isLatin1 : ByteArray := prog_14_method_68_code
def yJ10_isLatin1 : MethodName := ⟨RJ10, "isLatin1", "()Z"⟩
abbrev cJ10_inflate : ByteArray := prog_14_method_11_code
def yJ10_inflate : MethodName := ⟨RJ10, "inflate", "()V"⟩
abbrev cJ10_getValue : ByteArray := prog_14_method_64_code
def yJ10_getValue : MethodName := ⟨RJ10, "getValue", "()[B"⟩
abbrev cJ10_length : ByteArray := prog_14_method_6_code
def yJ10_length : MethodName := ⟨RJ10, "length", "()I"⟩
abbrev cJ11_init : ByteArray := prog_26_method_1_code
def yJ11_init : MethodName := ⟨RJ11, "<init>", "()V"⟩
abbrev cJ11_append : ByteArray := prog_26_method_14_code
def yJ11_append : MethodName := ⟨RJ11, "append", "(C)Ljava/lang/StringBuilder;"⟩
abbrev cJ11_toString : ByteArray := prog_26_method_42_code
def yJ11_toString : MethodName := ⟨RJ11, "toString", "()Ljava/lang/String;"⟩
abbrev cJ11_length : ByteArray := prog_26_method_93_code
def yJ11_length : MethodName := ⟨RJ11, "length", "()I"⟩
abbrev cJ12_checkBoundsOffCount : ByteArray := prog_25_method_157_code
def yJ12_checkBoundsOffCount : MethodName := ⟨RJ12, "checkBoundsOffCount", "(III)I"⟩
abbrev cJ12_checkIndex : ByteArray := prog_25_method_155_code
def yJ12_checkIndex : MethodName := ⟨RJ12, "checkIndex", "(II)V"⟩
abbrev cJ12_init : ByteArray := prog_25_method_53_code
def yJ12_init : MethodName := ⟨RJ12, "<init>", "(Ljava/lang/StringBuilder;)V"⟩
abbrev cJ12_init_2 : ByteArray := prog_25_method_150_code
def yJ12_init_2 : MethodName := ⟨RJ12, "<init>", "(Ljava/lang/AbstractStringBuilder;Ljava/lang/Void;)V"⟩
abbrev cJ12_hashCode : ByteArray := prog_25_method_78_code
def yJ12_hashCode : MethodName := ⟨RJ12, "hashCode", "()I"⟩
abbrev cJ12_isLatin1 : ByteArray := prog_25_method_154_code
def yJ12_isLatin1 : MethodName := ⟨RJ12, "isLatin1", "()Z"⟩
abbrev cJ12_equals : ByteArray := prog_25_method_66_code
def yJ12_equals : MethodName := ⟨RJ12, "equals", "(Ljava/lang/Object;)Z"⟩
abbrev cJ13_newBytesFor : ByteArray := prog_28_method_2_code
def yJ13_newBytesFor : MethodName := ⟨RJ13, "newBytesFor", "(I)[B"⟩
abbrev cJ13_newBytesLength : ByteArray := prog_28_method_3_code
def yJ13_newBytesLength : MethodName := ⟨RJ13, "newBytesLength", "(I)I"⟩
abbrev cJ13_inflate : ByteArray := prog_28_method_86_code
def yJ13_inflate : MethodName := ⟨RJ13, "inflate", "([BI[BII)V"⟩
abbrev cJ13_checkBoundsOffCount : ByteArray := prog_28_method_94_code
def yJ13_checkBoundsOffCount : MethodName := ⟨RJ13, "checkBoundsOffCount", "(II[B)V"⟩
abbrev cJ13_length : ByteArray := prog_28_method_6_code
def yJ13_length : MethodName := ⟨RJ13, "length", "([B)I"⟩
abbrev cJ13_putChar : ByteArray := prog_28_method_4_code
def yJ13_putChar : MethodName := ⟨RJ13, "putChar", "([BII)V"⟩
abbrev cJ13_putCharSB : ByteArray := prog_28_method_71_code
def yJ13_putCharSB : MethodName := ⟨RJ13, "putCharSB", "([BII)V"⟩
abbrev cJ13_checkIndex : ByteArray := prog_28_method_91_code
def yJ13_checkIndex : MethodName := ⟨RJ13, "checkIndex", "(I[B)V"⟩
abbrev cJ13_compress : ByteArray := prog_28_method_17_code
def yJ13_compress : MethodName := ⟨RJ13, "compress", "([BII)[B"⟩
abbrev cJ13_compress_2 : ByteArray := prog_28_method_22_code
def yJ13_compress_2 : MethodName := ⟨RJ13, "compress", "([BI[BII)I"⟩
abbrev cJ13_getChar : ByteArray := prog_28_method_5_code
def yJ13_getChar : MethodName := ⟨RJ13, "getChar", "([BI)C"⟩
abbrev cJ13_coderFromArrayLen : ByteArray := prog_28_method_15_code
def yJ13_coderFromArrayLen : MethodName := ⟨RJ13, "coderFromArrayLen", "([BI)B"⟩
abbrev cJ13_hashCode : ByteArray := prog_28_method_39_code
def yJ13_hashCode : MethodName := ⟨RJ13, "hashCode", "([B)I"⟩
abbrev cJ14_canEncode : ByteArray := prog_27_method_3_code
def yJ14_canEncode : MethodName := ⟨RJ14, "canEncode", "(C)Z"⟩
abbrev cJ14_inflate : ByteArray := prog_27_method_50_code
def yJ14_inflate : MethodName := ⟨RJ14, "inflate", "([BI[BII)V"⟩
abbrev cJ14_hashCode : ByteArray := prog_27_method_21_code
def yJ14_hashCode : MethodName := ⟨RJ14, "hashCode", "([B)I"⟩
abbrev cJ14_equals : ByteArray := prog_27_method_13_code
def yJ14_equals : MethodName := ⟨RJ14, "equals", "([B[B)Z"⟩
abbrev cJ15_init : ByteArray := prog_31_method_1_code
def yJ15_init : MethodName := ⟨RJ15, "<init>", "()V"⟩
abbrev cJ15_init_2 : ByteArray := prog_31_method_5_code
def yJ15_init_2 : MethodName := ⟨RJ15, "<init>", "(Ljava/lang/String;Ljava/lang/Throwable;ZZ)V"⟩
abbrev cJ16_init : ByteArray := prog_19_method_5_code
def yJ16_init : MethodName := ⟨RJ16, "<init>", "(Ljava/lang/String;Ljava/lang/Throwable;ZZ)V"⟩
abbrev cJ17_init : ByteArray := prog_24_method_5_code
def yJ17_init : MethodName := ⟨RJ17, "<init>", "(Ljava/lang/String;Ljava/lang/Throwable;ZZ)V"⟩
abbrev cJ18_init : ByteArray := object_method_1_code
def yJ18_init : MethodName := ⟨RJ18, "<init>", "()V"⟩
abbrev cJ19_getUTF16Char : ByteArray := prog_30_method_45_code
def yJ19_getUTF16Char : MethodName := ⟨RJ19, "getUTF16Char", "([BI)C"⟩
abbrev cJ2_init : ByteArray := prog_36_method_2_code
def yJ2_init : MethodName := ⟨RJ2, "<init>", "()V"⟩
abbrev cJ2_size : ByteArray := prog_36_method_8_code
def yJ2_size : MethodName := ⟨RJ2, "size", "()I"⟩
abbrev cJ2_add : ByteArray := prog_36_method_25_code
def yJ2_add : MethodName := ⟨RJ2, "add", "(Ljava/lang/Object;)Z"⟩
abbrev cJ2_add_2 : ByteArray := prog_36_method_24_code
def yJ2_add_2 : MethodName := ⟨RJ2, "add", "(Ljava/lang/Object;[Ljava/lang/Object;I)V"⟩
abbrev cJ2_grow : ByteArray := prog_36_method_7_code
def yJ2_grow : MethodName := ⟨RJ2, "grow", "()[Ljava/lang/Object;"⟩
abbrev cJ2_grow_2 : ByteArray := prog_36_method_6_code
def yJ2_grow_2 : MethodName := ⟨RJ2, "grow", "(I)[Ljava/lang/Object;"⟩
abbrev cJ2_get : ByteArray := prog_36_method_20_code
def yJ2_get : MethodName := ⟨RJ2, "get", "(I)Ljava/lang/Object;"⟩
abbrev cJ2_elementData : ByteArray := prog_36_method_18_code
def yJ2_elementData : MethodName := ⟨RJ2, "elementData", "(I)Ljava/lang/Object;"⟩
abbrev cJ3_newLength : ByteArray := prog_44_method_27_code
def yJ3_newLength : MethodName := ⟨RJ3, "newLength", "(III)I"⟩
abbrev cJ3_hugeLength : ByteArray := prog_44_method_28_code
def yJ3_hugeLength : MethodName := ⟨RJ3, "hugeLength", "(II)I"⟩
abbrev cJ3_vectorizedHashCode : ByteArray := prog_44_method_4_code
def yJ3_vectorizedHashCode : MethodName := ⟨RJ3, "vectorizedHashCode", "(Ljava/lang/Object;IIII)I"⟩
abbrev cJ3_signedHashCode : ByteArray := prog_44_method_5_code
def yJ3_signedHashCode : MethodName := ⟨RJ3, "signedHashCode", "(I[BII)I"⟩
abbrev cJ3_utf16hashCode : ByteArray := prog_44_method_10_code
def yJ3_utf16hashCode : MethodName := ⟨RJ3, "utf16hashCode", "(I[BII)I"⟩
abbrev cJ3_hashCode : ByteArray := prog_44_method_7_code
def yJ3_hashCode : MethodName := ⟨RJ3, "hashCode", "(I[CII)I"⟩
abbrev cJ3_hashCode_2 : ByteArray := prog_44_method_6_code
def yJ3_hashCode_2 : MethodName := ⟨RJ3, "hashCode", "(I[BII)I"⟩
abbrev cJ3_hashCode_3 : ByteArray := prog_44_method_8_code
def yJ3_hashCode_3 : MethodName := ⟨RJ3, "hashCode", "(I[SII)I"⟩
abbrev cJ3_hashCode_4 : ByteArray := prog_44_method_9_code
def yJ3_hashCode_4 : MethodName := ⟨RJ3, "hashCode", "(I[III)I"⟩
abbrev cJ4_max : ByteArray := prog_22_method_65_code
def yJ4_max : MethodName := ⟨RJ4, "max", "(II)I"⟩
abbrev cJ4_min : ByteArray := prog_22_method_69_code
def yJ4_min : MethodName := ⟨RJ4, "min", "(II)I"⟩
abbrev cJ4_abs : ByteArray := prog_22_method_61_code
def yJ4_abs : MethodName := ⟨RJ4, "abs", "(J)J"⟩
abbrev cJ4_max_2 : ByteArray := prog_22_method_66_code
def yJ4_max_2 : MethodName := ⟨RJ4, "max", "(JJ)J"⟩
abbrev cJ4_min_2 : ByteArray := prog_22_method_70_code
def yJ4_min_2 : MethodName := ⟨RJ4, "min", "(JJ)J"⟩
abbrev cJ5_copyOf : ByteArray := prog_37_method_119_code
def yJ5_copyOf : MethodName := ⟨RJ5, "copyOf", "([Ljava/lang/Object;I)[Ljava/lang/Object;"⟩
abbrev cJ5_copyOf_2 : ByteArray := prog_37_method_120_code
def yJ5_copyOf_2 : MethodName := ⟨RJ5, "copyOf", "([Ljava/lang/Object;ILjava/lang/Class;)[Ljava/lang/Object;"⟩
abbrev cJ5_copyOf_3 : ByteArray := prog_37_method_121_code
def yJ5_copyOf_3 : MethodName := ⟨RJ5, "copyOf", "([BI)[B"⟩
abbrev cJ5_copyOfRange : ByteArray := prog_37_method_132_code
def yJ5_copyOfRange : MethodName := ⟨RJ5, "copyOfRange", "([BII)[B"⟩
abbrev cJ5_copyOfRangeByte : ByteArray := prog_37_method_133_code
def yJ5_copyOfRangeByte : MethodName := ⟨RJ5, "copyOfRangeByte", "([BII)[B"⟩
abbrev cJ5_checkLength : ByteArray := prog_37_method_131_code
def yJ5_checkLength : MethodName := ⟨RJ5, "checkLength", "(II)V"⟩
abbrev cJ6_checkIndex : ByteArray := prog_40_method_17_code
def yJ6_checkIndex : MethodName := ⟨RJ6, "checkIndex", "(II)I"⟩
abbrev cJ7_checkIndex : ByteArray := prog_45_method_11_code
def yJ7_checkIndex : MethodName := ⟨RJ7, "checkIndex", "(IILjava/util/function/BiFunction;)I"⟩
abbrev cJ7_checkFromIndexSize : ByteArray := prog_45_method_13_code
def yJ7_checkFromIndexSize : MethodName := ⟨RJ7, "checkFromIndexSize", "(IIILjava/util/function/BiFunction;)I"⟩
abbrev cJ8_init : ByteArray := prog_23_method_1_code
def yJ8_init : MethodName := ⟨RJ8, "<init>", "()V"⟩
abbrev cJ9_bitCount : ByteArray := prog_20_method_49_code
def yJ9_bitCount : MethodName := ⟨RJ9, "bitCount", "(I)I"⟩
abbrev cJ9_numberOfLeadingZeros : ByteArray := prog_20_method_47_code
def yJ9_numberOfLeadingZeros : MethodName := ⟨RJ9, "numberOfLeadingZeros", "(I)I"⟩
abbrev cX0_init : ByteArray := prog_1_method_3_code
def yX0_init : MethodName := ⟨RX0, "<init>", "()V"⟩
abbrev cX0_corner : ByteArray := prog_1_method_7_code
def yX0_corner : MethodName := ⟨RX0, "corner", "(IIII)I"⟩
abbrev cX0_isIn : ByteArray := prog_1_method_1_code
def yX0_isIn : MethodName := ⟨RX0, "isIn", "(III)Z"⟩
abbrev cX0_below : ByteArray := prog_1_method_8_code
def yX0_below : MethodName := ⟨RX0, "below", "(II)Z"⟩
abbrev cX0_at : ByteArray := prog_1_method_4_code
def yX0_at : MethodName := ⟨RX0, "at", "(I)LRainStreets$Corner;"⟩
abbrev cX0_roof : ByteArray := prog_1_method_9_code
def yX0_roof : MethodName := ⟨RX0, "roof", "(IIII)I"⟩
abbrev cX0_lot : ByteArray := prog_1_method_10_code
def yX0_lot : MethodName := ⟨RX0, "lot", "(II)Z"⟩
abbrev cX0_bed : ByteArray := prog_1_method_12_code
def yX0_bed : MethodName := ⟨RX0, "bed", "(IIIZ)Z"⟩
abbrev cX0_parking : ByteArray := prog_1_method_11_code
def yX0_parking : MethodName := ⟨RX0, "parking", "()I"⟩
abbrev cX0_on : ByteArray := prog_1_method_16_code
def yX0_on : MethodName := ⟨RX0, "on", "(I)LRainStreets$Rules;"⟩
abbrev cX0_numberOn : ByteArray := prog_1_method_15_code
def yX0_numberOn : MethodName := ⟨RX0, "numberOn", "(I)I"⟩
abbrev cX0_care : ByteArray := prog_1_method_13_code
def yX0_care : MethodName := ⟨RX0, "care", "(II)Z"⟩
abbrev cX0_bedAt : ByteArray := prog_1_method_5_code
def yX0_bedAt : MethodName := ⟨RX0, "bedAt", "(I)LRainStreets$Bed;"⟩
abbrev cX0_treat : ByteArray := prog_1_method_14_code
def yX0_treat : MethodName := ⟨RX0, "treat", "(II)Z"⟩
abbrev cX0_feed : ByteArray := prog_1_method_17_code
def yX0_feed : MethodName := ⟨RX0, "feed", "(IIIII)I"⟩
abbrev cX0_tapes : ByteArray := prog_1_method_18_code
def yX0_tapes : MethodName := ⟨RX0, "tapes", "([I)I"⟩
abbrev cX0_rules : ByteArray := prog_1_method_31_code
def yX0_rules : MethodName := ⟨RX0, "rules", "(I)I"⟩
abbrev cX0_next : ByteArray := prog_1_method_22_code
def yX0_next : MethodName := ⟨RX0, "next", "()V"⟩
abbrev cX0_here : ByteArray := prog_1_method_19_code
def yX0_here : MethodName := ⟨RX0, "here", "(I)I"⟩
abbrev cX0_isLetter : ByteArray := prog_1_method_20_code
def yX0_isLetter : MethodName := ⟨RX0, "isLetter", "(I)Z"⟩
abbrev cX0_isDigit : ByteArray := prog_1_method_21_code
def yX0_isDigit : MethodName := ⟨RX0, "isDigit", "(I)Z"⟩
abbrev cX0_statement : ByteArray := prog_1_method_30_code
def yX0_statement : MethodName := ⟨RX0, "statement", "(LRainStreets$Rules;)V"⟩
abbrev cX0_isOne : ByteArray := prog_1_method_29_code
def yX0_isOne : MethodName := ⟨RX0, "isOne", "(Ljava/lang/String;)Z"⟩
abbrev cX0_must : ByteArray := prog_1_method_23_code
def yX0_must : MethodName := ⟨RX0, "must", "(Z)V"⟩
abbrev cX0_turn : ByteArray := prog_1_method_27_code
def yX0_turn : MethodName := ⟨RX0, "turn", "()LRainStreets$Turn;"⟩
abbrev cX0_any : ByteArray := prog_1_method_25_code
def yX0_any : MethodName := ⟨RX0, "any", "()I"⟩
abbrev cX0_number : ByteArray := prog_1_method_24_code
def yX0_number : MethodName := ⟨RX0, "number", "(II)I"⟩
abbrev cX0_after : ByteArray := prog_1_method_26_code
def yX0_after : MethodName := ⟨RX0, "after", "(Ljava/lang/String;)I"⟩
abbrev cX0_look : ByteArray := prog_1_method_28_code
def yX0_look : MethodName := ⟨RX0, "look", "(LRainStreets$Rules;)V"⟩
abbrev cX0_fault : ByteArray := prog_1_method_32_code
def yX0_fault : MethodName := ⟨RX0, "fault", "()I"⟩
abbrev cX0_law : ByteArray := prog_1_method_33_code
def yX0_law : MethodName := ⟨RX0, "law", "(II)I"⟩
abbrev cX0_isDay : ByteArray := prog_1_method_2_code
def yX0_isDay : MethodName := ⟨RX0, "isDay", "(I)Z"⟩
abbrev cX0_turn_2 : ByteArray := prog_1_method_34_code
def yX0_turn_2 : MethodName := ⟨RX0, "turn", "(III)I"⟩
abbrev cX0_pass : ByteArray := prog_1_method_38_code
def yX0_pass : MethodName := ⟨RX0, "pass", "(I)I"⟩
abbrev cX0_day : ByteArray := prog_1_method_37_code
def yX0_day : MethodName := ⟨RX0, "day", "()V"⟩
abbrev cX0_beds : ByteArray := prog_1_method_35_code
def yX0_beds : MethodName := ⟨RX0, "beds", "(LRainStreets$Rules;I)V"⟩
abbrev cX0_complains : ByteArray := prog_1_method_57_code
def yX0_complains : MethodName := ⟨RX0, "complains", "(LRainStreets$Corner;I)I"⟩
abbrev cX0_turns : ByteArray := prog_1_method_36_code
def yX0_turns : MethodName := ⟨RX0, "turns", "(LRainStreets$Rules;)V"⟩
abbrev cX0_neighbour : ByteArray := prog_1_method_39_code
def yX0_neighbour : MethodName := ⟨RX0, "neighbour", "(II)I"⟩
abbrev cX0_rain : ByteArray := prog_1_method_40_code
def yX0_rain : MethodName := ⟨RX0, "rain", "(I)I"⟩
abbrev cX0_clear : ByteArray := prog_1_method_41_code
def yX0_clear : MethodName := ⟨RX0, "clear", "()I"⟩
abbrev cX0_storm : ByteArray := prog_1_method_42_code
def yX0_storm : MethodName := ⟨RX0, "storm", "()I"⟩
abbrev cX0_stormOf : ByteArray := prog_1_method_43_code
def yX0_stormOf : MethodName := ⟨RX0, "stormOf", "(II)J"⟩
abbrev cX0_tried : ByteArray := prog_1_method_45_code
def yX0_tried : MethodName := ⟨RX0, "tried", "(II)J"⟩
abbrev cX0_free : ByteArray := prog_1_method_44_code
def yX0_free : MethodName := ⟨RX0, "free", "()I"⟩
abbrev cX0_best : ByteArray := prog_1_method_47_code
def yX0_best : MethodName := ⟨RX0, "best", "(IIII)J"⟩
abbrev cX0_parkingOf : ByteArray := prog_1_method_46_code
def yX0_parkingOf : MethodName := ⟨RX0, "parkingOf", "(I)I"⟩
abbrev cX0_helps : ByteArray := prog_1_method_48_code
def yX0_helps : MethodName := ⟨RX0, "helps", "(II)J"⟩
abbrev cX0_compare : ByteArray := prog_1_method_50_code
def yX0_compare : MethodName := ⟨RX0, "compare", "(II)J"⟩
abbrev cX0_like : ByteArray := prog_1_method_49_code
def yX0_like : MethodName := ⟨RX0, "like", "(LRainStreets$Storm;II)LRainStreets$Storm;"⟩
abbrev cX0_crew : ByteArray := prog_1_method_51_code
def yX0_crew : MethodName := ⟨RX0, "crew", "(II)I"⟩
abbrev cX0_prove : ByteArray := prog_1_method_52_code
def yX0_prove : MethodName := ⟨RX0, "prove", "(I)Z"⟩
abbrev cX0_roofAt : ByteArray := prog_1_method_6_code
def yX0_roofAt : MethodName := ⟨RX0, "roofAt", "(I)LRainStreets$Roof;"⟩
abbrev cX0_fee : ByteArray := prog_1_method_53_code
def yX0_fee : MethodName := ⟨RX0, "fee", "(II)I"⟩
abbrev cX0_roofOf : ByteArray := prog_1_method_54_code
def yX0_roofOf : MethodName := ⟨RX0, "roofOf", "(II)I"⟩
abbrev cX0_look_2 : ByteArray := prog_1_method_55_code
def yX0_look_2 : MethodName := ⟨RX0, "look", "(II)I"⟩
abbrev cX0_worst : ByteArray := prog_1_method_56_code
def yX0_worst : MethodName := ⟨RX0, "worst", "(I)I"⟩
abbrev cX0_complain : ByteArray := prog_1_method_58_code
def yX0_complain : MethodName := ⟨RX0, "complain", "(II)I"⟩
abbrev cX0_close : ByteArray := prog_1_method_59_code
def yX0_close : MethodName := ⟨RX0, "close", "(I)Z"⟩
abbrev cX0_complaint : ByteArray := prog_1_method_60_code
def yX0_complaint : MethodName := ⟨RX0, "complaint", "(II)I"⟩
abbrev cX0_told : ByteArray := prog_1_method_61_code
def yX0_told : MethodName := ⟨RX0, "told", "(II)I"⟩
abbrev cX0_bedOf : ByteArray := prog_1_method_62_code
def yX0_bedOf : MethodName := ⟨RX0, "bedOf", "(II)I"⟩
abbrev cX0_sum : ByteArray := prog_1_method_63_code
def yX0_sum : MethodName := ⟨RX0, "sum", "(I)J"⟩
abbrev cX0_count : ByteArray := prog_1_method_66_code
def yX0_count : MethodName := ⟨RX0, "count", "(I)I"⟩
abbrev cX0_bedsThat : ByteArray := prog_1_method_65_code
def yX0_bedsThat : MethodName := ⟨RX0, "bedsThat", "(Z)I"⟩
abbrev cX0_open : ByteArray := prog_1_method_64_code
def yX0_open : MethodName := ⟨RX0, "open", "()I"⟩
abbrev cX1_init : ByteArray := prog_6_method_1_code
def yX1_init : MethodName := ⟨RX1, "<init>", "(I)V"⟩
abbrev cX1_isFall : ByteArray := prog_6_method_2_code
def yX1_isFall : MethodName := ⟨RX1, "isFall", "(I)Z"⟩
abbrev cX10_init : ByteArray := prog_9_method_1_code
def yX10_init : MethodName := ⟨RX10, "<init>", "(IIII)V"⟩
abbrev cX10_neighbour : ByteArray := prog_9_method_6_code
def yX10_neighbour : MethodName := ⟨RX10, "neighbour", "()I"⟩
abbrev cX10_corner : ByteArray := prog_9_method_7_code
def yX10_corner : MethodName := ⟨RX10, "corner", "()I"⟩
abbrev cX10_isOn : ByteArray := prog_9_method_2_code
def yX10_isOn : MethodName := ⟨RX10, "isOn", "(I)Z"⟩
abbrev cX2_init : ByteArray := prog_7_method_1_code
def yX2_init : MethodName := ⟨RX2, "<init>", "(LRainStreets;)V"⟩
abbrev cX2_runs : ByteArray := prog_7_method_2_code
def yX2_runs : MethodName := ⟨RX2, "runs", "(I)V"⟩
abbrev cX2_minute : ByteArray := prog_7_method_3_code
def yX2_minute : MethodName := ⟨RX2, "minute", "(I)V"⟩
abbrev cX2_roofsOf : ByteArray := prog_7_method_4_code
def yX2_roofsOf : MethodName := ⟨RX2, "roofsOf", "(LRainStreets$Corner;I)I"⟩
abbrev cX2_takes : ByteArray := prog_7_method_5_code
def yX2_takes : MethodName := ⟨RX2, "takes", "(LRainStreets$Corner;I)I"⟩
abbrev cX3_init : ByteArray := prog_12_method_1_code
def yX3_init : MethodName := ⟨RX3, "<init>", "()V"⟩
abbrev cX3_corner : ByteArray := prog_12_method_6_code
def yX3_corner : MethodName := ⟨RX3, "corner", "(IIII)I"⟩
abbrev cX3_isIn : ByteArray := prog_12_method_2_code
def yX3_isIn : MethodName := ⟨RX3, "isIn", "(III)Z"⟩
abbrev cX3_below : ByteArray := prog_12_method_7_code
def yX3_below : MethodName := ⟨RX3, "below", "(II)Z"⟩
abbrev cX3_isCorner : ByteArray := prog_12_method_4_code
def yX3_isCorner : MethodName := ⟨RX3, "isCorner", "(I)Z"⟩
abbrev cX3_roof : ByteArray := prog_12_method_8_code
def yX3_roof : MethodName := ⟨RX3, "roof", "(IIII)I"⟩
abbrev cX3_lot : ByteArray := prog_12_method_9_code
def yX3_lot : MethodName := ⟨RX3, "lot", "(II)Z"⟩
abbrev cX3_bed : ByteArray := prog_12_method_11_code
def yX3_bed : MethodName := ⟨RX3, "bed", "(IIIZ)Z"⟩
abbrev cX3_parked : ByteArray := prog_12_method_10_code
def yX3_parked : MethodName := ⟨RX3, "parked", "(I)I"⟩
abbrev cX3_now : ByteArray := prog_12_method_61_code
def yX3_now : MethodName := ⟨RX3, "now", "(I)I"⟩
abbrev cX3_lawOn : ByteArray := prog_12_method_60_code
def yX3_lawOn : MethodName := ⟨RX3, "lawOn", "(II)I"⟩
abbrev cX3_plain : ByteArray := prog_12_method_59_code
def yX3_plain : MethodName := ⟨RX3, "plain", "(I)I"⟩
abbrev cX3_inForce : ByteArray := prog_12_method_58_code
def yX3_inForce : MethodName := ⟨RX3, "inForce", "(I)I"⟩
abbrev cX3_care : ByteArray := prog_12_method_14_code
def yX3_care : MethodName := ⟨RX3, "care", "(II)Z"⟩
abbrev cX3_isBed : ByteArray := prog_12_method_5_code
def yX3_isBed : MethodName := ⟨RX3, "isBed", "(I)Z"⟩
abbrev cX3_treat : ByteArray := prog_12_method_15_code
def yX3_treat : MethodName := ⟨RX3, "treat", "(II)Z"⟩
abbrev cX3_pass : ByteArray := prog_12_method_18_code
def yX3_pass : MethodName := ⟨RX3, "pass", "(I)I"⟩
abbrev cX3_ages : ByteArray := prog_12_method_16_code
def yX3_ages : MethodName := ⟨RX3, "ages", "(I)V"⟩
abbrev cX3_drink : ByteArray := prog_12_method_13_code
def yX3_drink : MethodName := ⟨RX3, "drink", "(I)I"⟩
abbrev cX3_drinkBy : ByteArray := prog_12_method_12_code
def yX3_drinkBy : MethodName := ⟨RX3, "drinkBy", "(II)I"⟩
abbrev cX3_complain : ByteArray := prog_12_method_42_code
def yX3_complain : MethodName := ⟨RX3, "complain", "(II)I"⟩
abbrev cX3_turns : ByteArray := prog_12_method_17_code
def yX3_turns : MethodName := ⟨RX3, "turns", "()V"⟩
abbrev cX3_isTurn : ByteArray := prog_12_method_62_code
def yX3_isTurn : MethodName := ⟨RX3, "isTurn", "(II)Z"⟩
abbrev cX3_rain : ByteArray := prog_12_method_19_code
def yX3_rain : MethodName := ⟨RX3, "rain", "(I)I"⟩
abbrev cX3_clear : ByteArray := prog_12_method_20_code
def yX3_clear : MethodName := ⟨RX3, "clear", "()I"⟩
abbrev cX3_storm : ByteArray := prog_12_method_24_code
def yX3_storm : MethodName := ⟨RX3, "storm", "()I"⟩
abbrev cX3_falls : ByteArray := prog_12_method_21_code
def yX3_falls : MethodName := ⟨RX3, "falls", "(I)V"⟩
abbrev cX3_minute : ByteArray := prog_12_method_22_code
def yX3_minute : MethodName := ⟨RX3, "minute", "(II)V"⟩
abbrev cX3_roofsGive : ByteArray := prog_12_method_23_code
def yX3_roofsGive : MethodName := ⟨RX3, "roofsGive", "(II)J"⟩
abbrev cX3_tried : ByteArray := prog_12_method_26_code
def yX3_tried : MethodName := ⟨RX3, "tried", "(II)J"⟩
abbrev cX3_isNew : ByteArray := prog_12_method_25_code
def yX3_isNew : MethodName := ⟨RX3, "isNew", "(I)Z"⟩
abbrev cX3_best : ByteArray := prog_12_method_28_code
def yX3_best : MethodName := ⟨RX3, "best", "(IIII)J"⟩
abbrev cX3_bits : ByteArray := prog_12_method_27_code
def yX3_bits : MethodName := ⟨RX3, "bits", "(I)I"⟩
abbrev cX3_helps : ByteArray := prog_12_method_29_code
def yX3_helps : MethodName := ⟨RX3, "helps", "(II)J"⟩
abbrev cX3_told : ByteArray := prog_12_method_30_code
def yX3_told : MethodName := ⟨RX3, "told", "(II)I"⟩
abbrev cX3_one : ByteArray := prog_12_method_3_code
def yX3_one : MethodName := ⟨RX3, "one", "(Z)I"⟩
abbrev cX3_bedOf : ByteArray := prog_12_method_31_code
def yX3_bedOf : MethodName := ⟨RX3, "bedOf", "(II)I"⟩
abbrev cX3_roofOf : ByteArray := prog_12_method_32_code
def yX3_roofOf : MethodName := ⟨RX3, "roofOf", "(II)I"⟩
abbrev cX3_prove : ByteArray := prog_12_method_33_code
def yX3_prove : MethodName := ⟨RX3, "prove", "(I)Z"⟩
abbrev cX3_stormOf : ByteArray := prog_12_method_34_code
def yX3_stormOf : MethodName := ⟨RX3, "stormOf", "(II)J"⟩
abbrev cX3_compare : ByteArray := prog_12_method_36_code
def yX3_compare : MethodName := ⟨RX3, "compare", "(II)J"⟩
abbrev cX3_like : ByteArray := prog_12_method_35_code
def yX3_like : MethodName := ⟨RX3, "like", "(II)I"⟩
abbrev cX3_crew : ByteArray := prog_12_method_37_code
def yX3_crew : MethodName := ⟨RX3, "crew", "(II)I"⟩
abbrev cX3_neighbour : ByteArray := prog_12_method_38_code
def yX3_neighbour : MethodName := ⟨RX3, "neighbour", "(II)I"⟩
abbrev cX3_fee : ByteArray := prog_12_method_39_code
def yX3_fee : MethodName := ⟨RX3, "fee", "(II)I"⟩
abbrev cX3_look : ByteArray := prog_12_method_40_code
def yX3_look : MethodName := ⟨RX3, "look", "(II)I"⟩
abbrev cX3_worst : ByteArray := prog_12_method_41_code
def yX3_worst : MethodName := ⟨RX3, "worst", "(I)I"⟩
abbrev cX3_close : ByteArray := prog_12_method_43_code
def yX3_close : MethodName := ⟨RX3, "close", "(I)Z"⟩
abbrev cX3_complaint : ByteArray := prog_12_method_44_code
def yX3_complaint : MethodName := ⟨RX3, "complaint", "(II)I"⟩
abbrev cX3_feed : ByteArray := prog_12_method_45_code
def yX3_feed : MethodName := ⟨RX3, "feed", "(IIIII)I"⟩
abbrev cX3_four : ByteArray := prog_12_method_46_code
def yX3_four : MethodName := ⟨RX3, "four", "(I)V"⟩
abbrev cX3_rules : ByteArray := prog_12_method_56_code
def yX3_rules : MethodName := ⟨RX3, "rules", "(I)I"⟩
abbrev cX3_blanks : ByteArray := prog_12_method_47_code
def yX3_blanks : MethodName := ⟨RX3, "blanks", "()V"⟩
abbrev cX3_statement : ByteArray := prog_12_method_55_code
def yX3_statement : MethodName := ⟨RX3, "statement", "(I)Z"⟩
abbrev cX3_takes : ByteArray := prog_12_method_48_code
def yX3_takes : MethodName := ⟨RX3, "takes", "(J)Z"⟩
abbrev cX3_turnsIn : ByteArray := prog_12_method_51_code
def yX3_turnsIn : MethodName := ⟨RX3, "turnsIn", "(I)Z"⟩
abbrev cX3_takesPlain : ByteArray := prog_12_method_50_code
def yX3_takesPlain : MethodName := ⟨RX3, "takesPlain", "()Z"⟩
abbrev cX3_takesNumber : ByteArray := prog_12_method_49_code
def yX3_takesNumber : MethodName := ⟨RX3, "takesNumber", "(II)Z"⟩
abbrev cX3_grades : ByteArray := prog_12_method_52_code
def yX3_grades : MethodName := ⟨RX3, "grades", "(I)Z"⟩
abbrev cX3_row : ByteArray := prog_12_method_53_code
def yX3_row : MethodName := ⟨RX3, "row", "(IIJJ)Z"⟩
abbrev cX3_others : ByteArray := prog_12_method_54_code
def yX3_others : MethodName := ⟨RX3, "others", "(I)Z"⟩
abbrev cX3_fault : ByteArray := prog_12_method_57_code
def yX3_fault : MethodName := ⟨RX3, "fault", "()I"⟩
abbrev cX3_law : ByteArray := prog_12_method_63_code
def yX3_law : MethodName := ⟨RX3, "law", "(II)I"⟩
abbrev cX3_turn : ByteArray := prog_12_method_64_code
def yX3_turn : MethodName := ⟨RX3, "turn", "(III)I"⟩
abbrev cX3_sum : ByteArray := prog_12_method_65_code
def yX3_sum : MethodName := ⟨RX3, "sum", "(I)J"⟩
abbrev cX3_count : ByteArray := prog_12_method_66_code
def yX3_count : MethodName := ⟨RX3, "count", "(I)I"⟩
abbrev cX4_init : ByteArray := prog_4_method_1_code
def yX4_init : MethodName := ⟨RX4, "<init>", "(IIIII)V"⟩
abbrev cX5_init : ByteArray := prog_5_method_1_code
def yX5_init : MethodName := ⟨RX5, "<init>", "(ILRainStreets$Corner;III)V"⟩
abbrev cX6_init : ByteArray := prog_2_method_1_code
def yX6_init : MethodName := ⟨RX6, "<init>", "(LRainStreets;LRainStreets$Corner;IIZ)V"⟩
abbrev cX6_isCaredBy : ByteArray := prog_2_method_5_code
def yX6_isCaredBy : MethodName := ⟨RX6, "isCaredBy", "(I)Z"⟩
abbrev cX6_clogs : ByteArray := prog_2_method_6_code
def yX6_clogs : MethodName := ⟨RX6, "clogs", "(LRainStreets$Rules;)V"⟩
abbrev cX6_fall : ByteArray := prog_2_method_7_code
def yX6_fall : MethodName := ⟨RX6, "fall", "(LRainStreets$Rules;I)V"⟩
abbrev cX6_dries : ByteArray := prog_2_method_8_code
def yX6_dries : MethodName := ⟨RX6, "dries", "()I"⟩
abbrev cX6_drink : ByteArray := prog_2_method_3_code
def yX6_drink : MethodName := ⟨RX6, "drink", "()I"⟩
abbrev cX6_drinkBy : ByteArray := prog_2_method_2_code
def yX6_drinkBy : MethodName := ⟨RX6, "drinkBy", "(I)I"⟩
abbrev cX6_spring : ByteArray := prog_2_method_9_code
def yX6_spring : MethodName := ⟨RX6, "spring", "(LRainStreets$Rules;)V"⟩
abbrev cX6_more : ByteArray := prog_2_method_4_code
def yX6_more : MethodName := ⟨RX6, "more", "()I"⟩
abbrev cX7_init : ByteArray := prog_3_method_1_code
def yX7_init : MethodName := ⟨RX7, "<init>", "(ILRainStreets$Corner;II)V"⟩
abbrev cX8_init : ByteArray := prog_8_method_1_code
def yX8_init : MethodName := ⟨RX8, "<init>", "(IJJII)V"⟩
abbrev cX8_day : ByteArray := prog_8_method_5_code
def yX8_day : MethodName := ⟨RX8, "day", "()I"⟩
abbrev cX8_rained : ByteArray := prog_8_method_6_code
def yX8_rained : MethodName := ⟨RX8, "rained", "()J"⟩
abbrev cX8_spilt : ByteArray := prog_8_method_7_code
def yX8_spilt : MethodName := ⟨RX8, "spilt", "()J"⟩
abbrev cX8_wet : ByteArray := prog_8_method_8_code
def yX8_wet : MethodName := ⟨RX8, "wet", "()I"⟩
abbrev cX8_most : ByteArray := prog_8_method_9_code
def yX8_most : MethodName := ⟨RX8, "most", "()I"⟩
abbrev cX9_init : ByteArray := prog_10_method_1_code
def yX9_init : MethodName := ⟨RX9, "<init>", "(I)V"⟩
abbrev cL_law : ByteArray := code
theorem q60 : (Jvm.Cond.initialized "java/util/AbstractCollection") ∈ lw_all := lw_g (lw_at lw_m1 2 rfl) rfl
theorem q106 : (Jvm.Cond.instanceMethod ({ cls := "java/util/AbstractCollection", name := "<init>", desc := "()V" } : Jvm.MethodName)) ∈ lw_all := lw_g (lw_at lw_m1 48 rfl) rfl
theorem q107 : (Jvm.Cond.code ({ cls := "java/util/AbstractCollection", name := "<init>", desc := "()V" } : Jvm.MethodName) prog_34_method_1_code (1 : Nat) (Option.none : Option Jvm.ClassFile.FieldType)) ∈ lw_all := lw_g (lw_at lw_m1 49 rfl) rfl
theorem q108 : (Jvm.Cond.methodLink "java/util/AbstractCollection" (1 : Nat) ({ cls := "java/lang/Object", name := "<init>", desc := "()V" } : Jvm.MethodName)) ∈ lw_all := lw_g (lw_at lw_m1 50 rfl) rfl
theorem q61 : (Jvm.Cond.initialized "java/util/AbstractList") ∈ lw_all := lw_g (lw_at lw_m1 3 rfl) rfl
theorem q103 : (Jvm.Cond.instanceMethod ({ cls := "java/util/AbstractList", name := "<init>", desc := "()V" } : Jvm.MethodName)) ∈ lw_all := lw_g (lw_at lw_m1 45 rfl) rfl
theorem q104 : (Jvm.Cond.code ({ cls := "java/util/AbstractList", name := "<init>", desc := "()V" } : Jvm.MethodName) prog_35_method_1_code (1 : Nat) (Option.none : Option Jvm.ClassFile.FieldType)) ∈ lw_all := lw_g (lw_at lw_m1 46 rfl) rfl
theorem q105 : (Jvm.Cond.methodLink "java/util/AbstractList" (1 : Nat) ({ cls := "java/util/AbstractCollection", name := "<init>", desc := "()V" } : Jvm.MethodName)) ∈ lw_all := lw_g (lw_at lw_m1 47 rfl) rfl
theorem q113 : (Jvm.Cond.fieldLink "java/util/AbstractList" (7 : Nat) "java/util/AbstractList" "modCount" "I") ∈ lw_all := lw_g (lw_at lw_m1 55 rfl) rfl
theorem q121 : (Jvm.Cond.soleField "java/util/AbstractList" "modCount") ∈ lw_all := lw_g (lw_at lw_m1 63 rfl) rfl
theorem q79 : (Jvm.Cond.initialized "java/lang/AbstractStringBuilder") ∈ lw_all := lw_g (lw_at lw_m1 21 rfl) rfl
theorem q687 : (Jvm.Cond.instanceMethod ({ cls := "java/lang/AbstractStringBuilder", name := "<init>", desc := "(I)V" } : Jvm.MethodName)) ∈ lw_all := lw_g (lw_at lw_m3 149 rfl) rfl
theorem q688 : (Jvm.Cond.code ({ cls := "java/lang/AbstractStringBuilder", name := "<init>", desc := "(I)V" } : Jvm.MethodName) prog_14_method_2_code (2 : Nat) (Option.none : Option Jvm.ClassFile.FieldType)) ∈ lw_all := lw_g (lw_at lw_m3 150 rfl) rfl
theorem q689 : (Jvm.Cond.methodLink "java/lang/AbstractStringBuilder" (3 : Nat) ({ cls := "java/lang/Object", name := "<init>", desc := "()V" } : Jvm.MethodName)) ∈ lw_all := lw_g (lw_at lw_m3 151 rfl) rfl
theorem q690 : (Jvm.Cond.fieldLink "java/lang/AbstractStringBuilder" (18 : Nat) "java/lang/String" "COMPACT_STRINGS" "Z") ∈ lw_all := lw_g (lw_at lw_m3 152 rfl) rfl
theorem q692 : (Jvm.Cond.methodLink "java/lang/AbstractStringBuilder" (26 : Nat) ({ cls := "java/lang/StringUTF16", name := "newBytesFor", desc := "(I)[B" } : Jvm.MethodName)) ∈ lw_all := lw_g (lw_at lw_m3 154 rfl) rfl
theorem q699 : (Jvm.Cond.fieldLink "java/lang/AbstractStringBuilder" (15 : Nat) "java/lang/AbstractStringBuilder" "value" "[B") ∈ lw_all := lw_g (lw_at lw_m3 161 rfl) rfl
theorem q700 : (Jvm.Cond.fieldLink "java/lang/AbstractStringBuilder" (22 : Nat) "java/lang/AbstractStringBuilder" "coder" "B") ∈ lw_all := lw_g (lw_at lw_m3 162 rfl) rfl
theorem q702 : (Jvm.Cond.fieldLink "java/lang/AbstractStringBuilder" (79 : Nat) "java/lang/AbstractStringBuilder" "count" "I") ∈ lw_all := lw_g (lw_at lw_m3 164 rfl) rfl
theorem q704 : (Jvm.Cond.soleField "java/lang/AbstractStringBuilder" "value") ∈ lw_all := lw_g (lw_at lw_m3 166 rfl) rfl
theorem q706 : (Jvm.Cond.soleField "java/lang/AbstractStringBuilder" "coder") ∈ lw_all := lw_g (lw_at lw_m3 168 rfl) rfl
theorem q708 : (Jvm.Cond.soleField "java/lang/AbstractStringBuilder" "maybeLatin1") ∈ lw_all := lw_g (lw_at lw_m3 170 rfl) rfl
theorem q710 : (Jvm.Cond.soleField "java/lang/AbstractStringBuilder" "count") ∈ lw_all := lw_g (lw_at lw_m3 172 rfl) rfl
theorem q717 : (Jvm.Cond.instanceMethod ({ cls := "java/lang/AbstractStringBuilder", name := "append", desc := "(C)Ljava/lang/AbstractStringBuilder;" } : Jvm.MethodName)) ∈ lw_all := lw_g (lw_at lw_m3 179 rfl) rfl
theorem q718 : (Jvm.Cond.code ({ cls := "java/lang/AbstractStringBuilder", name := "append", desc := "(C)Ljava/lang/AbstractStringBuilder;" } : Jvm.MethodName) prog_14_method_31_code (2 : Nat) (Option.some (Jvm.ClassFile.FieldType.object "java/lang/AbstractStringBuilder"))) ∈ lw_all := lw_g (lw_at lw_m3 180 rfl) rfl
theorem q719 : (Jvm.Cond.methodLink "java/lang/AbstractStringBuilder" (100 : Nat) ({ cls := "java/lang/AbstractStringBuilder", name := "ensureCapacityInternal", desc := "(I)V" } : Jvm.MethodName)) ∈ lw_all := lw_g (lw_at lw_m3 181 rfl) rfl
theorem q720 : (Jvm.Cond.privateMethod ({ cls := "java/lang/AbstractStringBuilder", name := "ensureCapacityInternal", desc := "(I)V" } : Jvm.MethodName)) ∈ lw_tbl := lw_at lw_m3 182 rfl
theorem q721 : (Jvm.Cond.instanceMethod ({ cls := "java/lang/AbstractStringBuilder", name := "ensureCapacityInternal", desc := "(I)V" } : Jvm.MethodName)) ∈ lw_all := lw_g (lw_at lw_m3 183 rfl) rfl
theorem q722 : (Jvm.Cond.code ({ cls := "java/lang/AbstractStringBuilder", name := "ensureCapacityInternal", desc := "(I)V" } : Jvm.MethodName) prog_14_method_9_code (3 : Nat) (Option.none : Option Jvm.ClassFile.FieldType)) ∈ lw_all := lw_g (lw_at lw_m3 184 rfl) rfl
theorem q723 : (Jvm.Cond.methodLink "java/lang/AbstractStringBuilder" (104 : Nat) ({ cls := "java/lang/AbstractStringBuilder", name := "newCapacity", desc := "(I)I" } : Jvm.MethodName)) ∈ lw_all := lw_g (lw_at lw_m3 185 rfl) rfl
theorem q724 : (Jvm.Cond.privateMethod ({ cls := "java/lang/AbstractStringBuilder", name := "newCapacity", desc := "(I)I" } : Jvm.MethodName)) ∈ lw_tbl := lw_at lw_m3 186 rfl
theorem q725 : (Jvm.Cond.instanceMethod ({ cls := "java/lang/AbstractStringBuilder", name := "newCapacity", desc := "(I)I" } : Jvm.MethodName)) ∈ lw_all := lw_g (lw_at lw_m3 187 rfl) rfl
theorem q726 : (Jvm.Cond.code ({ cls := "java/lang/AbstractStringBuilder", name := "newCapacity", desc := "(I)I" } : Jvm.MethodName) prog_14_method_10_code (6 : Nat) (Option.some Jvm.ClassFile.FieldType.int)) ∈ lw_all := lw_g (lw_at lw_m3 188 rfl) rfl
theorem q727 : (Jvm.Cond.methodLink "java/lang/AbstractStringBuilder" (114 : Nat) ({ cls := "jdk/internal/util/ArraysSupport", name := "newLength", desc := "(III)I" } : Jvm.MethodName)) ∈ lw_all := lw_g (lw_at lw_m3 189 rfl) rfl
theorem q728 : (Jvm.Cond.constant "java/lang/AbstractStringBuilder" (39 : Nat) (2147483647 : Int32)) ∈ lw_all := lw_g (lw_at lw_m3 190 rfl) rfl
theorem q729 : (Jvm.Cond.methodLink "java/lang/AbstractStringBuilder" (108 : Nat) ({ cls := "java/util/Arrays", name := "copyOf", desc := "([BI)[B" } : Jvm.MethodName)) ∈ lw_all := lw_g (lw_at lw_m3 191 rfl) rfl
theorem q739 : (Jvm.Cond.methodLink "java/lang/AbstractStringBuilder" (83 : Nat) ({ cls := "java/lang/AbstractStringBuilder", name := "isLatin1", desc := "()Z" } : Jvm.MethodName)) ∈ lw_all := lw_g (lw_at lw_m3 201 rfl) rfl
theorem q740 : (Jvm.Cond.instanceMethod ({ cls := "java/lang/AbstractStringBuilder", name := "isLatin1", desc := "()Z" } : Jvm.MethodName)) ∈ lw_all := lw_g (lw_at lw_m3 202 rfl) rfl
theorem q741 : (Jvm.Cond.sameMethod "java/lang/AbstractStringBuilder" "java/lang/AbstractStringBuilder" "isLatin1" "()Z") ∈ lw_all := lw_g (lw_at lw_m3 203 rfl) rfl
theorem q743 : (Jvm.Cond.code ({ cls := "java/lang/AbstractStringBuilder", name := "isLatin1", desc := "()Z" } : Jvm.MethodName) prog_14_method_68_code (1 : Nat) (Option.some Jvm.ClassFile.FieldType.boolean)) ∈ lw_all := lw_g (lw_at lw_m3 205 rfl) rfl
theorem q744 : (Jvm.Cond.methodLink "java/lang/AbstractStringBuilder" (191 : Nat) ({ cls := "java/lang/StringLatin1", name := "canEncode", desc := "(C)Z" } : Jvm.MethodName)) ∈ lw_all := lw_g (lw_at lw_m3 206 rfl) rfl
theorem q747 : (Jvm.Cond.methodLink "java/lang/AbstractStringBuilder" (195 : Nat) ({ cls := "java/lang/AbstractStringBuilder", name := "inflate", desc := "()V" } : Jvm.MethodName)) ∈ lw_all := lw_g (lw_at lw_m3 209 rfl) rfl
theorem q748 : (Jvm.Cond.privateMethod ({ cls := "java/lang/AbstractStringBuilder", name := "inflate", desc := "()V" } : Jvm.MethodName)) ∈ lw_tbl := lw_at lw_m3 210 rfl
theorem q749 : (Jvm.Cond.instanceMethod ({ cls := "java/lang/AbstractStringBuilder", name := "inflate", desc := "()V" } : Jvm.MethodName)) ∈ lw_all := lw_g (lw_at lw_m3 211 rfl) rfl
theorem q750 : (Jvm.Cond.code ({ cls := "java/lang/AbstractStringBuilder", name := "inflate", desc := "()V" } : Jvm.MethodName) prog_14_method_11_code (2 : Nat) (Option.none : Option Jvm.ClassFile.FieldType)) ∈ lw_all := lw_g (lw_at lw_m3 212 rfl) rfl
theorem q751 : (Jvm.Cond.methodLink "java/lang/AbstractStringBuilder" (125 : Nat) ({ cls := "java/lang/StringLatin1", name := "inflate", desc := "([BI[BII)V" } : Jvm.MethodName)) ∈ lw_all := lw_g (lw_at lw_m3 213 rfl) rfl
theorem q780 : (Jvm.Cond.methodLink "java/lang/AbstractStringBuilder" (197 : Nat) ({ cls := "java/lang/StringUTF16", name := "putCharSB", desc := "([BII)V" } : Jvm.MethodName)) ∈ lw_all := lw_g (lw_at lw_m4 2 rfl) rfl
theorem q804 : (Jvm.Cond.instanceMethod ({ cls := "java/lang/AbstractStringBuilder", name := "getValue", desc := "()[B" } : Jvm.MethodName)) ∈ lw_all := lw_g (lw_at lw_m4 26 rfl) rfl
theorem q805 : (Jvm.Cond.sameMethod "java/lang/AbstractStringBuilder" "java/lang/AbstractStringBuilder" "getValue" "()[B") ∈ lw_all := lw_g (lw_at lw_m4 27 rfl) rfl
theorem q807 : (Jvm.Cond.code ({ cls := "java/lang/AbstractStringBuilder", name := "getValue", desc := "()[B" } : Jvm.MethodName) prog_14_method_64_code (1 : Nat) (Option.some (Jvm.ClassFile.FieldType.array Jvm.ClassFile.FieldType.byte))) ∈ lw_all := lw_g (lw_at lw_m4 29 rfl) rfl
theorem q809 : (Jvm.Cond.instanceMethod ({ cls := "java/lang/AbstractStringBuilder", name := "length", desc := "()I" } : Jvm.MethodName)) ∈ lw_all := lw_g (lw_at lw_m4 31 rfl) rfl
theorem q810 : (Jvm.Cond.sameMethod "java/lang/AbstractStringBuilder" "java/lang/AbstractStringBuilder" "length" "()I") ∈ lw_all := lw_g (lw_at lw_m4 32 rfl) rfl
theorem q815 : (Jvm.Cond.code ({ cls := "java/lang/AbstractStringBuilder", name := "length", desc := "()I" } : Jvm.MethodName) prog_14_method_6_code (1 : Nat) (Option.some Jvm.ClassFile.FieldType.int)) ∈ lw_all := lw_g (lw_at lw_m4 37 rfl) rfl
theorem q1910 : (Jvm.Cond.sameMethod "java/lang/AbstractStringBuilder" "java/lang/AbstractStringBuilder" "append" "(C)Ljava/lang/AbstractStringBuilder;") ∈ lw_all := lw_g (lw_at lw_m8 172 rfl) rfl
theorem q1911 : (Jvm.Cond.sameMethod "java/lang/AbstractStringBuilder" "java/lang/AbstractStringBuilder" "ensureCapacityInternal" "(I)V") ∈ lw_all := lw_g (lw_at lw_m8 173 rfl) rfl
theorem q1912 : (Jvm.Cond.sameMethod "java/lang/AbstractStringBuilder" "java/lang/AbstractStringBuilder" "newCapacity" "(I)I") ∈ lw_all := lw_g (lw_at lw_m8 174 rfl) rfl
theorem q1913 : (Jvm.Cond.sameMethod "java/lang/AbstractStringBuilder" "java/lang/AbstractStringBuilder" "inflate" "()V") ∈ lw_all := lw_g (lw_at lw_m8 175 rfl) rfl
theorem q80 : (Jvm.Cond.initialized "java/lang/StringBuilder") ∈ lw_all := lw_g (lw_at lw_m1 22 rfl) rfl
theorem q474 : (Jvm.Cond.selects "java/lang/StringBuilder" ({ cls := "java/lang/Object", name := "getClass", desc := "()Ljava/lang/Class;" } : Jvm.MethodName) ({ cls := "java/lang/Object", name := "getClass", desc := "()Ljava/lang/Class;" } : Jvm.MethodName)) ∈ lw_all := lw_g (lw_at lw_m2 176 rfl) rfl
theorem q682 : (Jvm.Cond.instantiable "java/lang/StringBuilder" (4 : Nat)) ∈ lw_all := lw_g (lw_at lw_m3 144 rfl) rfl
theorem q684 : (Jvm.Cond.instanceMethod ({ cls := "java/lang/StringBuilder", name := "<init>", desc := "()V" } : Jvm.MethodName)) ∈ lw_all := lw_g (lw_at lw_m3 146 rfl) rfl
theorem q685 : (Jvm.Cond.code ({ cls := "java/lang/StringBuilder", name := "<init>", desc := "()V" } : Jvm.MethodName) prog_26_method_1_code (1 : Nat) (Option.none : Option Jvm.ClassFile.FieldType)) ∈ lw_all := lw_g (lw_at lw_m3 147 rfl) rfl
theorem q686 : (Jvm.Cond.methodLink "java/lang/StringBuilder" (1 : Nat) ({ cls := "java/lang/AbstractStringBuilder", name := "<init>", desc := "(I)V" } : Jvm.MethodName)) ∈ lw_all := lw_g (lw_at lw_m3 148 rfl) rfl
theorem q703 : (Jvm.Cond.lays "java/lang/StringBuilder" "java/lang/AbstractStringBuilder" "value" "[B") ∈ lw_all := lw_g (lw_at lw_m3 165 rfl) rfl
theorem q705 : (Jvm.Cond.lays "java/lang/StringBuilder" "java/lang/AbstractStringBuilder" "coder" "B") ∈ lw_all := lw_g (lw_at lw_m3 167 rfl) rfl
theorem q707 : (Jvm.Cond.lays "java/lang/StringBuilder" "java/lang/AbstractStringBuilder" "maybeLatin1" "Z") ∈ lw_all := lw_g (lw_at lw_m3 169 rfl) rfl
theorem q709 : (Jvm.Cond.lays "java/lang/StringBuilder" "java/lang/AbstractStringBuilder" "count" "I") ∈ lw_all := lw_g (lw_at lw_m3 171 rfl) rfl
theorem q711 : (Jvm.Cond.superclass "java/lang/StringBuilder" "java/lang/AbstractStringBuilder") ∈ lw_all := lw_g (lw_at lw_m3 173 rfl) rfl
theorem q713 : (Jvm.Cond.instanceMethod ({ cls := "java/lang/StringBuilder", name := "append", desc := "(C)Ljava/lang/StringBuilder;" } : Jvm.MethodName)) ∈ lw_all := lw_g (lw_at lw_m3 175 rfl) rfl
theorem q714 : (Jvm.Cond.selects "java/lang/StringBuilder" ({ cls := "java/lang/StringBuilder", name := "append", desc := "(C)Ljava/lang/StringBuilder;" } : Jvm.MethodName) ({ cls := "java/lang/StringBuilder", name := "append", desc := "(C)Ljava/lang/StringBuilder;" } : Jvm.MethodName)) ∈ lw_all := lw_g (lw_at lw_m3 176 rfl) rfl
theorem q715 : (Jvm.Cond.code ({ cls := "java/lang/StringBuilder", name := "append", desc := "(C)Ljava/lang/StringBuilder;" } : Jvm.MethodName) prog_26_method_14_code (2 : Nat) (Option.some (Jvm.ClassFile.FieldType.object "java/lang/StringBuilder"))) ∈ lw_all := lw_g (lw_at lw_m3 177 rfl) rfl
theorem q716 : (Jvm.Cond.methodLink "java/lang/StringBuilder" (50 : Nat) ({ cls := "java/lang/AbstractStringBuilder", name := "append", desc := "(C)Ljava/lang/AbstractStringBuilder;" } : Jvm.MethodName)) ∈ lw_all := lw_g (lw_at lw_m3 178 rfl) rfl
theorem q742 : (Jvm.Cond.selects "java/lang/StringBuilder" ({ cls := "java/lang/AbstractStringBuilder", name := "isLatin1", desc := "()Z" } : Jvm.MethodName) ({ cls := "java/lang/AbstractStringBuilder", name := "isLatin1", desc := "()Z" } : Jvm.MethodName)) ∈ lw_all := lw_g (lw_at lw_m3 204 rfl) rfl
theorem q791 : (Jvm.Cond.instanceMethod ({ cls := "java/lang/StringBuilder", name := "toString", desc := "()Ljava/lang/String;" } : Jvm.MethodName)) ∈ lw_all := lw_g (lw_at lw_m4 13 rfl) rfl
theorem q792 : (Jvm.Cond.selects "java/lang/StringBuilder" ({ cls := "java/lang/StringBuilder", name := "toString", desc := "()Ljava/lang/String;" } : Jvm.MethodName) ({ cls := "java/lang/StringBuilder", name := "toString", desc := "()Ljava/lang/String;" } : Jvm.MethodName)) ∈ lw_all := lw_g (lw_at lw_m4 14 rfl) rfl
theorem q793 : (Jvm.Cond.code ({ cls := "java/lang/StringBuilder", name := "toString", desc := "()Ljava/lang/String;" } : Jvm.MethodName) prog_26_method_42_code (1 : Nat) (Option.some (Jvm.ClassFile.FieldType.object "java/lang/String"))) ∈ lw_all := lw_g (lw_at lw_m4 15 rfl) rfl
theorem q794 : (Jvm.Cond.classLink "java/lang/StringBuilder" (18 : Nat) "java/lang/String") ∈ lw_all := lw_g (lw_at lw_m4 16 rfl) rfl
theorem q796 : (Jvm.Cond.methodLink "java/lang/StringBuilder" (137 : Nat) ({ cls := "java/lang/String", name := "<init>", desc := "(Ljava/lang/StringBuilder;)V" } : Jvm.MethodName)) ∈ lw_all := lw_g (lw_at lw_m4 18 rfl) rfl
theorem q806 : (Jvm.Cond.selects "java/lang/StringBuilder" ({ cls := "java/lang/AbstractStringBuilder", name := "getValue", desc := "()[B" } : Jvm.MethodName) ({ cls := "java/lang/AbstractStringBuilder", name := "getValue", desc := "()[B" } : Jvm.MethodName)) ∈ lw_all := lw_g (lw_at lw_m4 28 rfl) rfl
theorem q811 : (Jvm.Cond.selects "java/lang/StringBuilder" ({ cls := "java/lang/AbstractStringBuilder", name := "length", desc := "()I" } : Jvm.MethodName) ({ cls := "java/lang/StringBuilder", name := "length", desc := "()I" } : Jvm.MethodName)) ∈ lw_all := lw_g (lw_at lw_m4 33 rfl) rfl
theorem q812 : (Jvm.Cond.instanceMethod ({ cls := "java/lang/StringBuilder", name := "length", desc := "()I" } : Jvm.MethodName)) ∈ lw_all := lw_g (lw_at lw_m4 34 rfl) rfl
theorem q813 : (Jvm.Cond.code ({ cls := "java/lang/StringBuilder", name := "length", desc := "()I" } : Jvm.MethodName) prog_26_method_93_code (1 : Nat) (Option.some Jvm.ClassFile.FieldType.int)) ∈ lw_all := lw_g (lw_at lw_m4 35 rfl) rfl
theorem q814 : (Jvm.Cond.methodLink "java/lang/StringBuilder" (343 : Nat) ({ cls := "java/lang/AbstractStringBuilder", name := "length", desc := "()I" } : Jvm.MethodName)) ∈ lw_all := lw_g (lw_at lw_m4 36 rfl) rfl
theorem q1925 : (Jvm.Cond.castable "java/lang/StringBuilder" "java/lang/Object") ∈ lw_tbl := lw_at lw_m8 187 rfl
theorem q81 : (Jvm.Cond.initialized "java/lang/String") ∈ lw_all := lw_g (lw_at lw_m1 23 rfl) rfl
theorem q473 : (Jvm.Cond.selects "java/lang/String" ({ cls := "java/lang/Object", name := "getClass", desc := "()Ljava/lang/Class;" } : Jvm.MethodName) ({ cls := "java/lang/Object", name := "getClass", desc := "()Ljava/lang/Class;" } : Jvm.MethodName)) ∈ lw_all := lw_g (lw_at lw_m2 175 rfl) rfl
theorem q691 : (Jvm.Cond.laysStatic "java/lang/String" "COMPACT_STRINGS" "Z") ∈ lw_tbl := lw_at lw_m3 153 rfl
theorem q701 : (Jvm.Cond.fieldLink "java/lang/String" (1048 : Nat) "java/lang/AbstractStringBuilder" "maybeLatin1" "Z") ∈ lw_all := lw_g (lw_at lw_m3 163 rfl) rfl
theorem q764 : (Jvm.Cond.static ({ cls := "java/lang/String", name := "checkBoundsOffCount", desc := "(III)I" } : Jvm.MethodName)) ∈ lw_all := lw_g (lw_at lw_m3 226 rfl) rfl
theorem q765 : (Jvm.Cond.code ({ cls := "java/lang/String", name := "checkBoundsOffCount", desc := "(III)I" } : Jvm.MethodName) prog_25_method_157_code (3 : Nat) (Option.some Jvm.ClassFile.FieldType.int)) ∈ lw_all := lw_g (lw_at lw_m3 227 rfl) rfl
theorem q766 : (Jvm.Cond.fieldLink "java/lang/String" (1053 : Nat) "jdk/internal/util/Preconditions" "SIOOBE_FORMATTER" "Ljava/util/function/BiFunction;") ∈ lw_all := lw_g (lw_at lw_m3 228 rfl) rfl
theorem q768 : (Jvm.Cond.methodLink "java/lang/String" (1065 : Nat) ({ cls := "jdk/internal/util/Preconditions", name := "checkFromIndexSize", desc := "(IIILjava/util/function/BiFunction;)I" } : Jvm.MethodName)) ∈ lw_all := lw_g (lw_at lw_m3 230 rfl) rfl
theorem q787 : (Jvm.Cond.static ({ cls := "java/lang/String", name := "checkIndex", desc := "(II)V" } : Jvm.MethodName)) ∈ lw_all := lw_g (lw_at lw_m4 9 rfl) rfl
theorem q788 : (Jvm.Cond.code ({ cls := "java/lang/String", name := "checkIndex", desc := "(II)V" } : Jvm.MethodName) prog_25_method_155_code (2 : Nat) (Option.none : Option Jvm.ClassFile.FieldType)) ∈ lw_all := lw_g (lw_at lw_m4 10 rfl) rfl
theorem q789 : (Jvm.Cond.methodLink "java/lang/String" (1059 : Nat) ({ cls := "jdk/internal/util/Preconditions", name := "checkIndex", desc := "(IILjava/util/function/BiFunction;)I" } : Jvm.MethodName)) ∈ lw_all := lw_g (lw_at lw_m4 11 rfl) rfl
theorem q795 : (Jvm.Cond.instantiable "java/lang/String" (4 : Nat)) ∈ lw_all := lw_g (lw_at lw_m4 17 rfl) rfl
theorem q797 : (Jvm.Cond.instanceMethod ({ cls := "java/lang/String", name := "<init>", desc := "(Ljava/lang/StringBuilder;)V" } : Jvm.MethodName)) ∈ lw_all := lw_g (lw_at lw_m4 19 rfl) rfl
theorem q798 : (Jvm.Cond.code ({ cls := "java/lang/String", name := "<init>", desc := "(Ljava/lang/StringBuilder;)V" } : Jvm.MethodName) prog_25_method_53_code (2 : Nat) (Option.none : Option Jvm.ClassFile.FieldType)) ∈ lw_all := lw_g (lw_at lw_m4 20 rfl) rfl
theorem q799 : (Jvm.Cond.methodLink "java/lang/String" (489 : Nat) ({ cls := "java/lang/String", name := "<init>", desc := "(Ljava/lang/AbstractStringBuilder;Ljava/lang/Void;)V" } : Jvm.MethodName)) ∈ lw_all := lw_g (lw_at lw_m4 21 rfl) rfl
theorem q800 : (Jvm.Cond.instanceMethod ({ cls := "java/lang/String", name := "<init>", desc := "(Ljava/lang/AbstractStringBuilder;Ljava/lang/Void;)V" } : Jvm.MethodName)) ∈ lw_all := lw_g (lw_at lw_m4 22 rfl) rfl
theorem q801 : (Jvm.Cond.code ({ cls := "java/lang/String", name := "<init>", desc := "(Ljava/lang/AbstractStringBuilder;Ljava/lang/Void;)V" } : Jvm.MethodName) prog_25_method_150_code (5 : Nat) (Option.none : Option Jvm.ClassFile.FieldType)) ∈ lw_all := lw_g (lw_at lw_m4 23 rfl) rfl
theorem q802 : (Jvm.Cond.methodLink "java/lang/String" (1 : Nat) ({ cls := "java/lang/Object", name := "<init>", desc := "()V" } : Jvm.MethodName)) ∈ lw_all := lw_g (lw_at lw_m4 24 rfl) rfl
theorem q803 : (Jvm.Cond.methodLink "java/lang/String" (552 : Nat) ({ cls := "java/lang/AbstractStringBuilder", name := "getValue", desc := "()[B" } : Jvm.MethodName)) ∈ lw_all := lw_g (lw_at lw_m4 25 rfl) rfl
theorem q808 : (Jvm.Cond.methodLink "java/lang/String" (549 : Nat) ({ cls := "java/lang/AbstractStringBuilder", name := "length", desc := "()I" } : Jvm.MethodName)) ∈ lw_all := lw_g (lw_at lw_m4 30 rfl) rfl
theorem q816 : (Jvm.Cond.methodLink "java/lang/String" (1047 : Nat) ({ cls := "java/lang/AbstractStringBuilder", name := "isLatin1", desc := "()Z" } : Jvm.MethodName)) ∈ lw_all := lw_g (lw_at lw_m4 38 rfl) rfl
theorem q817 : (Jvm.Cond.methodLink "java/lang/String" (54 : Nat) ({ cls := "java/util/Arrays", name := "copyOfRange", desc := "([BII)[B" } : Jvm.MethodName)) ∈ lw_all := lw_g (lw_at lw_m4 39 rfl) rfl
theorem q826 : (Jvm.Cond.fieldLink "java/lang/String" (38 : Nat) "java/lang/String" "COMPACT_STRINGS" "Z") ∈ lw_all := lw_g (lw_at lw_m4 48 rfl) rfl
theorem q827 : (Jvm.Cond.methodLink "java/lang/String" (1051 : Nat) ({ cls := "java/lang/StringUTF16", name := "compress", desc := "([BII)[B" } : Jvm.MethodName)) ∈ lw_all := lw_g (lw_at lw_m4 49 rfl) rfl
theorem q837 : (Jvm.Cond.methodLink "java/lang/String" (47 : Nat) ({ cls := "java/lang/StringUTF16", name := "coderFromArrayLen", desc := "([BI)B" } : Jvm.MethodName)) ∈ lw_all := lw_g (lw_at lw_m4 59 rfl) rfl
theorem q840 : (Jvm.Cond.fieldLink "java/lang/String" (9 : Nat) "java/lang/String" "value" "[B") ∈ lw_all := lw_g (lw_at lw_m4 62 rfl) rfl
theorem q841 : (Jvm.Cond.fieldLink "java/lang/String" (15 : Nat) "java/lang/String" "coder" "B") ∈ lw_all := lw_g (lw_at lw_m4 63 rfl) rfl
theorem q842 : (Jvm.Cond.fieldLink "java/lang/String" (19 : Nat) "java/lang/String" "hash" "I") ∈ lw_all := lw_g (lw_at lw_m4 64 rfl) rfl
theorem q843 : (Jvm.Cond.fieldLink "java/lang/String" (23 : Nat) "java/lang/String" "hashIsZero" "Z") ∈ lw_all := lw_g (lw_at lw_m4 65 rfl) rfl
theorem q844 : (Jvm.Cond.laysFinal "java/lang/String" "java/lang/String" "value" "[B") ∈ lw_all := lw_g (lw_at lw_m4 66 rfl) rfl
theorem q845 : (Jvm.Cond.soleField "java/lang/String" "value") ∈ lw_all := lw_g (lw_at lw_m4 67 rfl) rfl
theorem q846 : (Jvm.Cond.laysFinal "java/lang/String" "java/lang/String" "coder" "B") ∈ lw_all := lw_g (lw_at lw_m4 68 rfl) rfl
theorem q847 : (Jvm.Cond.soleField "java/lang/String" "coder") ∈ lw_all := lw_g (lw_at lw_m4 69 rfl) rfl
theorem q848 : (Jvm.Cond.lays "java/lang/String" "java/lang/String" "hash" "I") ∈ lw_all := lw_g (lw_at lw_m4 70 rfl) rfl
theorem q849 : (Jvm.Cond.soleField "java/lang/String" "hash") ∈ lw_all := lw_g (lw_at lw_m4 71 rfl) rfl
theorem q850 : (Jvm.Cond.lays "java/lang/String" "java/lang/String" "hashIsZero" "Z") ∈ lw_all := lw_g (lw_at lw_m4 72 rfl) rfl
theorem q851 : (Jvm.Cond.soleField "java/lang/String" "hashIsZero") ∈ lw_all := lw_g (lw_at lw_m4 73 rfl) rfl
theorem q852 : (Jvm.Cond.superclass "java/lang/String" "java/lang/Object") ∈ lw_all := lw_g (lw_at lw_m4 74 rfl) rfl
theorem q932 : (Jvm.Cond.instanceMethod ({ cls := "java/lang/String", name := "hashCode", desc := "()I" } : Jvm.MethodName)) ∈ lw_all := lw_g (lw_at lw_m4 154 rfl) rfl
theorem q933 : (Jvm.Cond.selects "java/lang/String" ({ cls := "java/lang/String", name := "hashCode", desc := "()I" } : Jvm.MethodName) ({ cls := "java/lang/String", name := "hashCode", desc := "()I" } : Jvm.MethodName)) ∈ lw_all := lw_g (lw_at lw_m4 155 rfl) rfl
theorem q934 : (Jvm.Cond.code ({ cls := "java/lang/String", name := "hashCode", desc := "()I" } : Jvm.MethodName) prog_25_method_78_code (2 : Nat) (Option.some Jvm.ClassFile.FieldType.int)) ∈ lw_all := lw_g (lw_at lw_m4 156 rfl) rfl
theorem q935 : (Jvm.Cond.methodLink "java/lang/String" (492 : Nat) ({ cls := "java/lang/String", name := "isLatin1", desc := "()Z" } : Jvm.MethodName)) ∈ lw_all := lw_g (lw_at lw_m4 157 rfl) rfl
theorem q936 : (Jvm.Cond.instanceMethod ({ cls := "java/lang/String", name := "isLatin1", desc := "()Z" } : Jvm.MethodName)) ∈ lw_all := lw_g (lw_at lw_m4 158 rfl) rfl
theorem q937 : (Jvm.Cond.selects "java/lang/String" ({ cls := "java/lang/String", name := "isLatin1", desc := "()Z" } : Jvm.MethodName) ({ cls := "java/lang/String", name := "isLatin1", desc := "()Z" } : Jvm.MethodName)) ∈ lw_all := lw_g (lw_at lw_m4 159 rfl) rfl
theorem q938 : (Jvm.Cond.code ({ cls := "java/lang/String", name := "isLatin1", desc := "()Z" } : Jvm.MethodName) prog_25_method_154_code (1 : Nat) (Option.some Jvm.ClassFile.FieldType.boolean)) ∈ lw_all := lw_g (lw_at lw_m4 160 rfl) rfl
theorem q939 : (Jvm.Cond.methodLink "java/lang/String" (628 : Nat) ({ cls := "java/lang/StringLatin1", name := "hashCode", desc := "([B)I" } : Jvm.MethodName)) ∈ lw_all := lw_g (lw_at lw_m4 161 rfl) rfl
theorem q980 : (Jvm.Cond.methodLink "java/lang/String" (632 : Nat) ({ cls := "java/lang/StringUTF16", name := "hashCode", desc := "([B)I" } : Jvm.MethodName)) ∈ lw_all := lw_g (lw_at lw_m4 202 rfl) rfl
theorem q986 : (Jvm.Cond.instanceMethod ({ cls := "java/lang/String", name := "equals", desc := "(Ljava/lang/Object;)Z" } : Jvm.MethodName)) ∈ lw_all := lw_g (lw_at lw_m4 208 rfl) rfl
theorem q987 : (Jvm.Cond.selects "java/lang/String" ({ cls := "java/lang/String", name := "equals", desc := "(Ljava/lang/Object;)Z" } : Jvm.MethodName) ({ cls := "java/lang/String", name := "equals", desc := "(Ljava/lang/Object;)Z" } : Jvm.MethodName)) ∈ lw_all := lw_g (lw_at lw_m4 209 rfl) rfl
theorem q988 : (Jvm.Cond.code ({ cls := "java/lang/String", name := "equals", desc := "(Ljava/lang/Object;)Z" } : Jvm.MethodName) prog_25_method_66_code (3 : Nat) (Option.some Jvm.ClassFile.FieldType.boolean)) ∈ lw_all := lw_g (lw_at lw_m4 210 rfl) rfl
theorem q989 : (Jvm.Cond.classLink "java/lang/String" (10 : Nat) "java/lang/String") ∈ lw_all := lw_g (lw_at lw_m4 211 rfl) rfl
theorem q990 : (Jvm.Cond.methodLink "java/lang/String" (541 : Nat) ({ cls := "java/lang/StringLatin1", name := "equals", desc := "([B[B)Z" } : Jvm.MethodName)) ∈ lw_all := lw_g (lw_at lw_m4 212 rfl) rfl
theorem q1926 : (Jvm.Cond.castable "java/lang/String" "java/lang/Object") ∈ lw_tbl := lw_at lw_m8 188 rfl
theorem q82 : (Jvm.Cond.initialized "java/lang/StringUTF16") ∈ lw_all := lw_g (lw_at lw_m1 24 rfl) rfl
theorem q693 : (Jvm.Cond.static ({ cls := "java/lang/StringUTF16", name := "newBytesFor", desc := "(I)[B" } : Jvm.MethodName)) ∈ lw_all := lw_g (lw_at lw_m3 155 rfl) rfl
theorem q694 : (Jvm.Cond.code ({ cls := "java/lang/StringUTF16", name := "newBytesFor", desc := "(I)[B" } : Jvm.MethodName) prog_28_method_2_code (1 : Nat) (Option.some (Jvm.ClassFile.FieldType.array Jvm.ClassFile.FieldType.byte))) ∈ lw_all := lw_g (lw_at lw_m3 156 rfl) rfl
theorem q695 : (Jvm.Cond.methodLink "java/lang/StringUTF16" (11 : Nat) ({ cls := "java/lang/StringUTF16", name := "newBytesLength", desc := "(I)I" } : Jvm.MethodName)) ∈ lw_all := lw_g (lw_at lw_m3 157 rfl) rfl
theorem q696 : (Jvm.Cond.static ({ cls := "java/lang/StringUTF16", name := "newBytesLength", desc := "(I)I" } : Jvm.MethodName)) ∈ lw_all := lw_g (lw_at lw_m3 158 rfl) rfl
theorem q697 : (Jvm.Cond.code ({ cls := "java/lang/StringUTF16", name := "newBytesLength", desc := "(I)I" } : Jvm.MethodName) prog_28_method_3_code (1 : Nat) (Option.some Jvm.ClassFile.FieldType.int)) ∈ lw_all := lw_g (lw_at lw_m3 159 rfl) rfl
theorem q698 : (Jvm.Cond.constant "java/lang/StringUTF16" (20 : Nat) (1073741823 : Int32)) ∈ lw_all := lw_g (lw_at lw_m3 160 rfl) rfl
theorem q755 : (Jvm.Cond.static ({ cls := "java/lang/StringUTF16", name := "inflate", desc := "([BI[BII)V" } : Jvm.MethodName)) ∈ lw_all := lw_g (lw_at lw_m3 217 rfl) rfl
theorem q756 : (Jvm.Cond.code ({ cls := "java/lang/StringUTF16", name := "inflate", desc := "([BI[BII)V" } : Jvm.MethodName) prog_28_method_86_code (6 : Nat) (Option.none : Option Jvm.ClassFile.FieldType)) ∈ lw_all := lw_g (lw_at lw_m3 218 rfl) rfl
theorem q757 : (Jvm.Cond.methodLink "java/lang/StringUTF16" (173 : Nat) ({ cls := "java/lang/StringUTF16", name := "checkBoundsOffCount", desc := "(II[B)V" } : Jvm.MethodName)) ∈ lw_all := lw_g (lw_at lw_m3 219 rfl) rfl
theorem q758 : (Jvm.Cond.static ({ cls := "java/lang/StringUTF16", name := "checkBoundsOffCount", desc := "(II[B)V" } : Jvm.MethodName)) ∈ lw_all := lw_g (lw_at lw_m3 220 rfl) rfl
theorem q759 : (Jvm.Cond.code ({ cls := "java/lang/StringUTF16", name := "checkBoundsOffCount", desc := "(II[B)V" } : Jvm.MethodName) prog_28_method_94_code (3 : Nat) (Option.none : Option Jvm.ClassFile.FieldType)) ∈ lw_all := lw_g (lw_at lw_m3 221 rfl) rfl
theorem q760 : (Jvm.Cond.methodLink "java/lang/StringUTF16" (48 : Nat) ({ cls := "java/lang/StringUTF16", name := "length", desc := "([B)I" } : Jvm.MethodName)) ∈ lw_all := lw_g (lw_at lw_m3 222 rfl) rfl
theorem q761 : (Jvm.Cond.static ({ cls := "java/lang/StringUTF16", name := "length", desc := "([B)I" } : Jvm.MethodName)) ∈ lw_all := lw_g (lw_at lw_m3 223 rfl) rfl
theorem q762 : (Jvm.Cond.code ({ cls := "java/lang/StringUTF16", name := "length", desc := "([B)I" } : Jvm.MethodName) prog_28_method_6_code (1 : Nat) (Option.some Jvm.ClassFile.FieldType.int)) ∈ lw_all := lw_g (lw_at lw_m3 224 rfl) rfl
theorem q763 : (Jvm.Cond.methodLink "java/lang/StringUTF16" (419 : Nat) ({ cls := "java/lang/String", name := "checkBoundsOffCount", desc := "(III)I" } : Jvm.MethodName)) ∈ lw_all := lw_g (lw_at lw_m3 225 rfl) rfl
theorem q771 : (Jvm.Cond.methodLink "java/lang/StringUTF16" (111 : Nat) ({ cls := "java/lang/StringUTF16", name := "putChar", desc := "([BII)V" } : Jvm.MethodName)) ∈ lw_all := lw_g (lw_at lw_m3 233 rfl) rfl
theorem q772 : (Jvm.Cond.static ({ cls := "java/lang/StringUTF16", name := "putChar", desc := "([BII)V" } : Jvm.MethodName)) ∈ lw_all := lw_g (lw_at lw_m3 234 rfl) rfl
theorem q773 : (Jvm.Cond.code ({ cls := "java/lang/StringUTF16", name := "putChar", desc := "([BII)V" } : Jvm.MethodName) prog_28_method_4_code (3 : Nat) (Option.none : Option Jvm.ClassFile.FieldType)) ∈ lw_all := lw_g (lw_at lw_m3 235 rfl) rfl
theorem q774 : (Jvm.Cond.fieldLink "java/lang/StringUTF16" (44 : Nat) "java/lang/StringUTF16" "$assertionsDisabled" "Z") ∈ lw_all := lw_g (lw_at lw_m3 236 rfl) rfl
theorem q775 : (Jvm.Cond.laysStatic "java/lang/StringUTF16" "$assertionsDisabled" "Z") ∈ lw_tbl := lw_at lw_m3 237 rfl
theorem q776 : (Jvm.Cond.fieldLink "java/lang/StringUTF16" (59 : Nat) "java/lang/StringUTF16" "HI_BYTE_SHIFT" "I") ∈ lw_all := lw_g (lw_at lw_m3 238 rfl) rfl
theorem q777 : (Jvm.Cond.laysStatic "java/lang/StringUTF16" "HI_BYTE_SHIFT" "I") ∈ lw_tbl := lw_at lw_m3 239 rfl
theorem q778 : (Jvm.Cond.fieldLink "java/lang/StringUTF16" (63 : Nat) "java/lang/StringUTF16" "LO_BYTE_SHIFT" "I") ∈ lw_all := lw_g (lw_at lw_m4 0 rfl) rfl
theorem q779 : (Jvm.Cond.laysStatic "java/lang/StringUTF16" "LO_BYTE_SHIFT" "I") ∈ lw_tbl := lw_at lw_m4 1 rfl
theorem q781 : (Jvm.Cond.static ({ cls := "java/lang/StringUTF16", name := "putCharSB", desc := "([BII)V" } : Jvm.MethodName)) ∈ lw_all := lw_g (lw_at lw_m4 3 rfl) rfl
theorem q782 : (Jvm.Cond.code ({ cls := "java/lang/StringUTF16", name := "putCharSB", desc := "([BII)V" } : Jvm.MethodName) prog_28_method_71_code (3 : Nat) (Option.none : Option Jvm.ClassFile.FieldType)) ∈ lw_all := lw_g (lw_at lw_m4 4 rfl) rfl
theorem q783 : (Jvm.Cond.methodLink "java/lang/StringUTF16" (67 : Nat) ({ cls := "java/lang/StringUTF16", name := "checkIndex", desc := "(I[B)V" } : Jvm.MethodName)) ∈ lw_all := lw_g (lw_at lw_m4 5 rfl) rfl
theorem q784 : (Jvm.Cond.static ({ cls := "java/lang/StringUTF16", name := "checkIndex", desc := "(I[B)V" } : Jvm.MethodName)) ∈ lw_all := lw_g (lw_at lw_m4 6 rfl) rfl
theorem q785 : (Jvm.Cond.code ({ cls := "java/lang/StringUTF16", name := "checkIndex", desc := "(I[B)V" } : Jvm.MethodName) prog_28_method_91_code (2 : Nat) (Option.none : Option Jvm.ClassFile.FieldType)) ∈ lw_all := lw_g (lw_at lw_m4 7 rfl) rfl
theorem q786 : (Jvm.Cond.methodLink "java/lang/StringUTF16" (414 : Nat) ({ cls := "java/lang/String", name := "checkIndex", desc := "(II)V" } : Jvm.MethodName)) ∈ lw_all := lw_g (lw_at lw_m4 8 rfl) rfl
theorem q828 : (Jvm.Cond.static ({ cls := "java/lang/StringUTF16", name := "compress", desc := "([BII)[B" } : Jvm.MethodName)) ∈ lw_all := lw_g (lw_at lw_m4 50 rfl) rfl
theorem q829 : (Jvm.Cond.code ({ cls := "java/lang/StringUTF16", name := "compress", desc := "([BII)[B" } : Jvm.MethodName) prog_28_method_17_code (6 : Nat) (Option.some (Jvm.ClassFile.FieldType.array Jvm.ClassFile.FieldType.byte))) ∈ lw_all := lw_g (lw_at lw_m4 51 rfl) rfl
theorem q830 : (Jvm.Cond.methodLink "java/lang/StringUTF16" (123 : Nat) ({ cls := "java/lang/StringUTF16", name := "compress", desc := "([BI[BII)I" } : Jvm.MethodName)) ∈ lw_all := lw_g (lw_at lw_m4 52 rfl) rfl
theorem q831 : (Jvm.Cond.static ({ cls := "java/lang/StringUTF16", name := "compress", desc := "([BI[BII)I" } : Jvm.MethodName)) ∈ lw_all := lw_g (lw_at lw_m4 53 rfl) rfl
theorem q832 : (Jvm.Cond.code ({ cls := "java/lang/StringUTF16", name := "compress", desc := "([BI[BII)I" } : Jvm.MethodName) prog_28_method_22_code (7 : Nat) (Option.some Jvm.ClassFile.FieldType.int)) ∈ lw_all := lw_g (lw_at lw_m4 54 rfl) rfl
theorem q833 : (Jvm.Cond.methodLink "java/lang/StringUTF16" (71 : Nat) ({ cls := "java/lang/StringUTF16", name := "getChar", desc := "([BI)C" } : Jvm.MethodName)) ∈ lw_all := lw_g (lw_at lw_m4 55 rfl) rfl
theorem q834 : (Jvm.Cond.static ({ cls := "java/lang/StringUTF16", name := "getChar", desc := "([BI)C" } : Jvm.MethodName)) ∈ lw_all := lw_g (lw_at lw_m4 56 rfl) rfl
theorem q835 : (Jvm.Cond.code ({ cls := "java/lang/StringUTF16", name := "getChar", desc := "([BI)C" } : Jvm.MethodName) prog_28_method_5_code (2 : Nat) (Option.some Jvm.ClassFile.FieldType.char)) ∈ lw_all := lw_g (lw_at lw_m4 57 rfl) rfl
theorem q836 : (Jvm.Cond.methodLink "java/lang/StringUTF16" (126 : Nat) ({ cls := "java/util/Arrays", name := "copyOfRange", desc := "([BII)[B" } : Jvm.MethodName)) ∈ lw_all := lw_g (lw_at lw_m4 58 rfl) rfl
theorem q838 : (Jvm.Cond.static ({ cls := "java/lang/StringUTF16", name := "coderFromArrayLen", desc := "([BI)B" } : Jvm.MethodName)) ∈ lw_all := lw_g (lw_at lw_m4 60 rfl) rfl
theorem q839 : (Jvm.Cond.code ({ cls := "java/lang/StringUTF16", name := "coderFromArrayLen", desc := "([BI)B" } : Jvm.MethodName) prog_28_method_15_code (2 : Nat) (Option.some Jvm.ClassFile.FieldType.byte)) ∈ lw_all := lw_g (lw_at lw_m4 61 rfl) rfl
theorem q981 : (Jvm.Cond.static ({ cls := "java/lang/StringUTF16", name := "hashCode", desc := "([B)I" } : Jvm.MethodName)) ∈ lw_all := lw_g (lw_at lw_m4 203 rfl) rfl
theorem q982 : (Jvm.Cond.code ({ cls := "java/lang/StringUTF16", name := "hashCode", desc := "([B)I" } : Jvm.MethodName) prog_28_method_39_code (1 : Nat) (Option.some Jvm.ClassFile.FieldType.int)) ∈ lw_all := lw_g (lw_at lw_m4 204 rfl) rfl
theorem q983 : (Jvm.Cond.methodLink "java/lang/StringUTF16" (220 : Nat) ({ cls := "jdk/internal/util/ArraysSupport", name := "vectorizedHashCode", desc := "(Ljava/lang/Object;IIII)I" } : Jvm.MethodName)) ∈ lw_all := lw_g (lw_at lw_m4 205 rfl) rfl
theorem q83 : (Jvm.Cond.initialized "java/lang/StringLatin1") ∈ lw_all := lw_g (lw_at lw_m1 25 rfl) rfl
theorem q745 : (Jvm.Cond.static ({ cls := "java/lang/StringLatin1", name := "canEncode", desc := "(C)Z" } : Jvm.MethodName)) ∈ lw_all := lw_g (lw_at lw_m3 207 rfl) rfl
theorem q746 : (Jvm.Cond.code ({ cls := "java/lang/StringLatin1", name := "canEncode", desc := "(C)Z" } : Jvm.MethodName) prog_27_method_3_code (1 : Nat) (Option.some Jvm.ClassFile.FieldType.boolean)) ∈ lw_all := lw_g (lw_at lw_m3 208 rfl) rfl
theorem q752 : (Jvm.Cond.static ({ cls := "java/lang/StringLatin1", name := "inflate", desc := "([BI[BII)V" } : Jvm.MethodName)) ∈ lw_all := lw_g (lw_at lw_m3 214 rfl) rfl
theorem q753 : (Jvm.Cond.code ({ cls := "java/lang/StringLatin1", name := "inflate", desc := "([BI[BII)V" } : Jvm.MethodName) prog_27_method_50_code (5 : Nat) (Option.none : Option Jvm.ClassFile.FieldType)) ∈ lw_all := lw_g (lw_at lw_m3 215 rfl) rfl
theorem q754 : (Jvm.Cond.methodLink "java/lang/StringLatin1" (240 : Nat) ({ cls := "java/lang/StringUTF16", name := "inflate", desc := "([BI[BII)V" } : Jvm.MethodName)) ∈ lw_all := lw_g (lw_at lw_m3 216 rfl) rfl
theorem q940 : (Jvm.Cond.static ({ cls := "java/lang/StringLatin1", name := "hashCode", desc := "([B)I" } : Jvm.MethodName)) ∈ lw_all := lw_g (lw_at lw_m4 162 rfl) rfl
theorem q941 : (Jvm.Cond.code ({ cls := "java/lang/StringLatin1", name := "hashCode", desc := "([B)I" } : Jvm.MethodName) prog_27_method_21_code (1 : Nat) (Option.some Jvm.ClassFile.FieldType.int)) ∈ lw_all := lw_g (lw_at lw_m4 163 rfl) rfl
theorem q942 : (Jvm.Cond.methodLink "java/lang/StringLatin1" (84 : Nat) ({ cls := "jdk/internal/util/ArraysSupport", name := "vectorizedHashCode", desc := "(Ljava/lang/Object;IIII)I" } : Jvm.MethodName)) ∈ lw_all := lw_g (lw_at lw_m4 164 rfl) rfl
theorem q991 : (Jvm.Cond.static ({ cls := "java/lang/StringLatin1", name := "equals", desc := "([B[B)Z" } : Jvm.MethodName)) ∈ lw_all := lw_g (lw_at lw_m4 213 rfl) rfl
theorem q992 : (Jvm.Cond.code ({ cls := "java/lang/StringLatin1", name := "equals", desc := "([B[B)Z" } : Jvm.MethodName) prog_27_method_13_code (3 : Nat) (Option.some Jvm.ClassFile.FieldType.boolean)) ∈ lw_all := lw_g (lw_at lw_m4 214 rfl) rfl
theorem q84 : (Jvm.Cond.initialized "java/lang/Throwable") ∈ lw_all := lw_g (lw_at lw_m1 26 rfl) rfl
theorem q863 : (Jvm.Cond.declares ({ cls := "java/lang/Throwable", name := "<init>", desc := "()V" } : Jvm.MethodName)) ∈ lw_tbl := lw_at lw_m4 85 rfl
theorem q864 : (Jvm.Cond.declares ({ cls := "java/lang/Throwable", name := "<init>", desc := "(Ljava/lang/String;)V" } : Jvm.MethodName)) ∈ lw_tbl := lw_at lw_m4 86 rfl
theorem q868 : (Jvm.Cond.lays "java/lang/Throwable" "java/lang/Throwable" "cause" "Ljava/lang/Throwable;") ∈ lw_all := lw_g (lw_at lw_m4 90 rfl) rfl
theorem q870 : (Jvm.Cond.lays "java/lang/Throwable" "java/lang/Throwable" "stackTrace" "[Ljava/lang/StackTraceElement;") ∈ lw_all := lw_g (lw_at lw_m4 92 rfl) rfl
theorem q872 : (Jvm.Cond.lays "java/lang/Throwable" "java/lang/Throwable" "suppressedExceptions" "Ljava/util/List;") ∈ lw_all := lw_g (lw_at lw_m4 94 rfl) rfl
theorem q874 : (Jvm.Cond.lays "java/lang/Throwable" "java/lang/Throwable" "detailMessage" "Ljava/lang/String;") ∈ lw_all := lw_g (lw_at lw_m4 96 rfl) rfl
theorem q876 : (Jvm.Cond.lays "java/lang/Throwable" "java/lang/Throwable" "backtrace" "Ljava/lang/Object;") ∈ lw_all := lw_g (lw_at lw_m4 98 rfl) rfl
theorem q877 : (Jvm.Cond.fieldLink "java/lang/Throwable" (198 : Nat) "java/lang/Throwable" "backtrace" "Ljava/lang/Object;") ∈ lw_all := lw_g (lw_at lw_m4 99 rfl) rfl
theorem q878 : (Jvm.Cond.superclass "java/lang/Throwable" "java/lang/Object") ∈ lw_all := lw_g (lw_at lw_m4 100 rfl) rfl
theorem q879 : (Jvm.Cond.instanceMethod ({ cls := "java/lang/Throwable", name := "<init>", desc := "()V" } : Jvm.MethodName)) ∈ lw_all := lw_g (lw_at lw_m4 101 rfl) rfl
theorem q880 : (Jvm.Cond.code ({ cls := "java/lang/Throwable", name := "<init>", desc := "()V" } : Jvm.MethodName) prog_31_method_1_code (1 : Nat) (Option.none : Option Jvm.ClassFile.FieldType)) ∈ lw_all := lw_g (lw_at lw_m4 102 rfl) rfl
theorem q881 : (Jvm.Cond.methodLink "java/lang/Throwable" (1 : Nat) ({ cls := "java/lang/Object", name := "<init>", desc := "()V" } : Jvm.MethodName)) ∈ lw_all := lw_g (lw_at lw_m4 103 rfl) rfl
theorem q882 : (Jvm.Cond.fieldLink "java/lang/Throwable" (13 : Nat) "java/lang/Throwable" "UNASSIGNED_STACK" "[Ljava/lang/StackTraceElement;") ∈ lw_all := lw_g (lw_at lw_m4 104 rfl) rfl
theorem q883 : (Jvm.Cond.laysStatic "java/lang/Throwable" "UNASSIGNED_STACK" "[Ljava/lang/StackTraceElement;") ∈ lw_tbl := lw_at lw_m4 105 rfl
theorem q884 : (Jvm.Cond.fieldLink "java/lang/Throwable" (20 : Nat) "java/lang/Throwable" "SUPPRESSED_SENTINEL" "Ljava/util/List;") ∈ lw_all := lw_g (lw_at lw_m4 106 rfl) rfl
theorem q885 : (Jvm.Cond.laysStatic "java/lang/Throwable" "SUPPRESSED_SENTINEL" "Ljava/util/List;") ∈ lw_tbl := lw_at lw_m4 107 rfl
theorem q886 : (Jvm.Cond.methodLink "java/lang/Throwable" (27 : Nat) ({ cls := "java/lang/Throwable", name := "fillInStackTrace", desc := "()Ljava/lang/Throwable;" } : Jvm.MethodName)) ∈ lw_all := lw_g (lw_at lw_m4 108 rfl) rfl
theorem q887 : (Jvm.Cond.instanceMethod ({ cls := "java/lang/Throwable", name := "fillInStackTrace", desc := "()Ljava/lang/Throwable;" } : Jvm.MethodName)) ∈ lw_all := lw_g (lw_at lw_m4 109 rfl) rfl
theorem q888 : (Jvm.Cond.sameMethod "java/lang/Throwable" "java/lang/Throwable" "fillInStackTrace" "()Ljava/lang/Throwable;") ∈ lw_all := lw_g (lw_at lw_m4 110 rfl) rfl
theorem q889 : (Jvm.Cond.codeSync ({ cls := "java/lang/Throwable", name := "fillInStackTrace", desc := "()Ljava/lang/Throwable;" } : Jvm.MethodName) prog_31_method_18_code (1 : Nat) (Option.some (Jvm.ClassFile.FieldType.object "java/lang/Throwable"))) ∈ lw_all := lw_g (lw_at lw_m4 111 rfl) rfl
theorem q890 : (Jvm.Cond.methodLink "java/lang/Throwable" (202 : Nat) ({ cls := "java/lang/Throwable", name := "fillInStackTrace", desc := "(I)Ljava/lang/Throwable;" } : Jvm.MethodName)) ∈ lw_all := lw_g (lw_at lw_m4 112 rfl) rfl
theorem q891 : (Jvm.Cond.privateMethod ({ cls := "java/lang/Throwable", name := "fillInStackTrace", desc := "(I)Ljava/lang/Throwable;" } : Jvm.MethodName)) ∈ lw_tbl := lw_at lw_m4 113 rfl
theorem q892 : (Jvm.Cond.instanceMethod ({ cls := "java/lang/Throwable", name := "fillInStackTrace", desc := "(I)Ljava/lang/Throwable;" } : Jvm.MethodName)) ∈ lw_all := lw_g (lw_at lw_m4 114 rfl) rfl
theorem q893 : (Jvm.Cond.instantiable "java/lang/Throwable" (6 : Nat)) ∈ lw_all := lw_g (lw_at lw_m4 115 rfl) rfl
theorem q894 : (Jvm.Cond.native ({ cls := "java/lang/Throwable", name := "fillInStackTrace", desc := "(I)Ljava/lang/Throwable;" } : Jvm.MethodName)) ∈ lw_all := lw_g (lw_at lw_m4 116 rfl) rfl
theorem q905 : (Jvm.Cond.instanceMethod ({ cls := "java/lang/Throwable", name := "<init>", desc := "(Ljava/lang/String;Ljava/lang/Throwable;ZZ)V" } : Jvm.MethodName)) ∈ lw_all := lw_g (lw_at lw_m4 127 rfl) rfl
theorem q906 : (Jvm.Cond.code ({ cls := "java/lang/Throwable", name := "<init>", desc := "(Ljava/lang/String;Ljava/lang/Throwable;ZZ)V" } : Jvm.MethodName) prog_31_method_5_code (5 : Nat) (Option.none : Option Jvm.ClassFile.FieldType)) ∈ lw_all := lw_g (lw_at lw_m4 128 rfl) rfl
theorem q909 : (Jvm.Cond.fieldLink "java/lang/Throwable" (198 : Nat) "java/lang/Throwable" "backtrace" "Ljava/lang/Object;") ∈ lw_all := lw_g (lw_at lw_m4 131 rfl) rfl
theorem q910 : (Jvm.Cond.fieldLink "java/lang/Throwable" (31 : Nat) "java/lang/Throwable" "detailMessage" "Ljava/lang/String;") ∈ lw_all := lw_g (lw_at lw_m4 132 rfl) rfl
theorem q911 : (Jvm.Cond.fieldLink "java/lang/Throwable" (7 : Nat) "java/lang/Throwable" "cause" "Ljava/lang/Throwable;") ∈ lw_all := lw_g (lw_at lw_m4 133 rfl) rfl
theorem q912 : (Jvm.Cond.fieldLink "java/lang/Throwable" (17 : Nat) "java/lang/Throwable" "stackTrace" "[Ljava/lang/StackTraceElement;") ∈ lw_all := lw_g (lw_at lw_m4 134 rfl) rfl
theorem q913 : (Jvm.Cond.fieldLink "java/lang/Throwable" (24 : Nat) "java/lang/Throwable" "suppressedExceptions" "Ljava/util/List;") ∈ lw_all := lw_g (lw_at lw_m4 135 rfl) rfl
theorem q916 : (Jvm.Cond.soleField "java/lang/Throwable" "backtrace") ∈ lw_all := lw_g (lw_at lw_m4 138 rfl) rfl
theorem q917 : (Jvm.Cond.soleField "java/lang/Throwable" "detailMessage") ∈ lw_all := lw_g (lw_at lw_m4 139 rfl) rfl
theorem q918 : (Jvm.Cond.soleField "java/lang/Throwable" "cause") ∈ lw_all := lw_g (lw_at lw_m4 140 rfl) rfl
theorem q919 : (Jvm.Cond.soleField "java/lang/Throwable" "stackTrace") ∈ lw_all := lw_g (lw_at lw_m4 141 rfl) rfl
theorem q921 : (Jvm.Cond.soleField "java/lang/Throwable" "depth") ∈ lw_all := lw_g (lw_at lw_m4 143 rfl) rfl
theorem q922 : (Jvm.Cond.soleField "java/lang/Throwable" "suppressedExceptions") ∈ lw_all := lw_g (lw_at lw_m4 144 rfl) rfl
theorem q1914 : (Jvm.Cond.sameMethod "java/lang/Throwable" "java/lang/Throwable" "fillInStackTrace" "(I)Ljava/lang/Throwable;") ∈ lw_all := lw_g (lw_at lw_m8 176 rfl) rfl
theorem q1930 : (Jvm.Cond.castable "java/lang/Throwable" "java/lang/Object") ∈ lw_tbl := lw_at lw_m8 192 rfl
theorem q85 : (Jvm.Cond.initialized "java/lang/Exception") ∈ lw_all := lw_g (lw_at lw_m1 27 rfl) rfl
theorem q861 : (Jvm.Cond.declares ({ cls := "java/lang/Exception", name := "<init>", desc := "()V" } : Jvm.MethodName)) ∈ lw_tbl := lw_at lw_m4 83 rfl
theorem q862 : (Jvm.Cond.declares ({ cls := "java/lang/Exception", name := "<init>", desc := "(Ljava/lang/String;)V" } : Jvm.MethodName)) ∈ lw_tbl := lw_at lw_m4 84 rfl
theorem q902 : (Jvm.Cond.instanceMethod ({ cls := "java/lang/Exception", name := "<init>", desc := "(Ljava/lang/String;Ljava/lang/Throwable;ZZ)V" } : Jvm.MethodName)) ∈ lw_all := lw_g (lw_at lw_m4 124 rfl) rfl
theorem q903 : (Jvm.Cond.code ({ cls := "java/lang/Exception", name := "<init>", desc := "(Ljava/lang/String;Ljava/lang/Throwable;ZZ)V" } : Jvm.MethodName) prog_19_method_5_code (5 : Nat) (Option.none : Option Jvm.ClassFile.FieldType)) ∈ lw_all := lw_g (lw_at lw_m4 125 rfl) rfl
theorem q904 : (Jvm.Cond.methodLink "java/lang/Exception" (16 : Nat) ({ cls := "java/lang/Throwable", name := "<init>", desc := "(Ljava/lang/String;Ljava/lang/Throwable;ZZ)V" } : Jvm.MethodName)) ∈ lw_all := lw_g (lw_at lw_m4 126 rfl) rfl
theorem q86 : (Jvm.Cond.initialized "java/lang/RuntimeException") ∈ lw_all := lw_g (lw_at lw_m1 28 rfl) rfl
theorem q859 : (Jvm.Cond.declares ({ cls := "java/lang/RuntimeException", name := "<init>", desc := "()V" } : Jvm.MethodName)) ∈ lw_tbl := lw_at lw_m4 81 rfl
theorem q860 : (Jvm.Cond.declares ({ cls := "java/lang/RuntimeException", name := "<init>", desc := "(Ljava/lang/String;)V" } : Jvm.MethodName)) ∈ lw_tbl := lw_at lw_m4 82 rfl
theorem q899 : (Jvm.Cond.instanceMethod ({ cls := "java/lang/RuntimeException", name := "<init>", desc := "(Ljava/lang/String;Ljava/lang/Throwable;ZZ)V" } : Jvm.MethodName)) ∈ lw_all := lw_g (lw_at lw_m4 121 rfl) rfl
theorem q900 : (Jvm.Cond.code ({ cls := "java/lang/RuntimeException", name := "<init>", desc := "(Ljava/lang/String;Ljava/lang/Throwable;ZZ)V" } : Jvm.MethodName) prog_24_method_5_code (5 : Nat) (Option.none : Option Jvm.ClassFile.FieldType)) ∈ lw_all := lw_g (lw_at lw_m4 122 rfl) rfl
theorem q901 : (Jvm.Cond.methodLink "java/lang/RuntimeException" (16 : Nat) ({ cls := "java/lang/Exception", name := "<init>", desc := "(Ljava/lang/String;Ljava/lang/Throwable;ZZ)V" } : Jvm.MethodName)) ∈ lw_all := lw_g (lw_at lw_m4 123 rfl) rfl
theorem q95 : (Jvm.Cond.instanceMethod ({ cls := "java/lang/Object", name := "<init>", desc := "()V" } : Jvm.MethodName)) ∈ lw_all := lw_g (lw_at lw_m1 37 rfl) rfl
theorem q96 : (Jvm.Cond.code ({ cls := "java/lang/Object", name := "<init>", desc := "()V" } : Jvm.MethodName) object_method_1_code (1 : Nat) (Option.none : Option Jvm.ClassFile.FieldType)) ∈ lw_all := lw_g (lw_at lw_m1 38 rfl) rfl
theorem q460 : (Jvm.Cond.instanceMethod ({ cls := "java/lang/Object", name := "getClass", desc := "()Ljava/lang/Class;" } : Jvm.MethodName)) ∈ lw_all := lw_g (lw_at lw_m2 162 rfl) rfl
theorem q461 : (Jvm.Cond.sameMethod "java/lang/Object" "java/lang/Object" "getClass" "()Ljava/lang/Class;") ∈ lw_all := lw_g (lw_at lw_m2 163 rfl) rfl
theorem q477 : (Jvm.Cond.native ({ cls := "java/lang/Object", name := "getClass", desc := "()Ljava/lang/Class;" } : Jvm.MethodName)) ∈ lw_all := lw_g (lw_at lw_m2 179 rfl) rfl
theorem q734 : (Jvm.Cond.native ({ cls := "java/lang/Object", name := "clone", desc := "()Ljava/lang/Object;" } : Jvm.MethodName)) ∈ lw_all := lw_g (lw_at lw_m3 196 rfl) rfl
theorem q735 : (Jvm.Cond.instanceMethod ({ cls := "java/lang/Object", name := "clone", desc := "()Ljava/lang/Object;" } : Jvm.MethodName)) ∈ lw_all := lw_g (lw_at lw_m3 197 rfl) rfl
theorem q1933 : (Jvm.Cond.declares ({ cls := "java/lang/Object", name := "getClass", desc := "()Ljava/lang/Class;" } : Jvm.MethodName)) ∈ lw_tbl := lw_at lw_m8 195 rfl
theorem q475 : (Jvm.Cond.selects "java/lang/System$2" ({ cls := "java/lang/Object", name := "getClass", desc := "()Ljava/lang/Class;" } : Jvm.MethodName) ({ cls := "java/lang/Object", name := "getClass", desc := "()Ljava/lang/Class;" } : Jvm.MethodName)) ∈ lw_all := lw_g (lw_at lw_m2 177 rfl) rfl
theorem q958 : (Jvm.Cond.castable "java/lang/System$2" "jdk/internal/access/JavaLangAccess") ∈ lw_tbl := lw_at lw_m4 180 rfl
theorem q959 : (Jvm.Cond.selects "java/lang/System$2" ({ cls := "jdk/internal/access/JavaLangAccess", name := "getUTF16Char", desc := "([BI)C" } : Jvm.MethodName) ({ cls := "java/lang/System$2", name := "getUTF16Char", desc := "([BI)C" } : Jvm.MethodName)) ∈ lw_all := lw_g (lw_at lw_m4 181 rfl) rfl
theorem q960 : (Jvm.Cond.unhidden "java/lang/System$2" "getUTF16Char" "([BI)C") ∈ lw_tbl := lw_at lw_m4 182 rfl
theorem q961 : (Jvm.Cond.instanceMethod ({ cls := "java/lang/System$2", name := "getUTF16Char", desc := "([BI)C" } : Jvm.MethodName)) ∈ lw_all := lw_g (lw_at lw_m4 183 rfl) rfl
theorem q962 : (Jvm.Cond.publicMethod ({ cls := "java/lang/System$2", name := "getUTF16Char", desc := "([BI)C" } : Jvm.MethodName)) ∈ lw_tbl := lw_at lw_m4 184 rfl
theorem q963 : (Jvm.Cond.code ({ cls := "java/lang/System$2", name := "getUTF16Char", desc := "([BI)C" } : Jvm.MethodName) prog_30_method_45_code (3 : Nat) (Option.some Jvm.ClassFile.FieldType.char)) ∈ lw_all := lw_g (lw_at lw_m4 185 rfl) rfl
theorem q964 : (Jvm.Cond.methodLink "java/lang/System$2" (185 : Nat) ({ cls := "java/lang/StringUTF16", name := "getChar", desc := "([BI)C" } : Jvm.MethodName)) ∈ lw_all := lw_g (lw_at lw_m4 186 rfl) rfl
theorem q1928 : (Jvm.Cond.castable "java/lang/System$2" "java/lang/Object") ∈ lw_tbl := lw_at lw_m8 190 rfl
theorem q62 : (Jvm.Cond.initialized "java/util/ArrayList") ∈ lw_all := lw_g (lw_at lw_m1 4 rfl) rfl
theorem q98 : (Jvm.Cond.instantiable "java/util/ArrayList" (3 : Nat)) ∈ lw_all := lw_g (lw_at lw_m1 40 rfl) rfl
theorem q100 : (Jvm.Cond.instanceMethod ({ cls := "java/util/ArrayList", name := "<init>", desc := "()V" } : Jvm.MethodName)) ∈ lw_all := lw_g (lw_at lw_m1 42 rfl) rfl
theorem q101 : (Jvm.Cond.code ({ cls := "java/util/ArrayList", name := "<init>", desc := "()V" } : Jvm.MethodName) prog_36_method_2_code (1 : Nat) (Option.none : Option Jvm.ClassFile.FieldType)) ∈ lw_all := lw_g (lw_at lw_m1 43 rfl) rfl
theorem q102 : (Jvm.Cond.methodLink "java/util/ArrayList" (1 : Nat) ({ cls := "java/util/AbstractList", name := "<init>", desc := "()V" } : Jvm.MethodName)) ∈ lw_all := lw_g (lw_at lw_m1 44 rfl) rfl
theorem q109 : (Jvm.Cond.fieldLink "java/util/ArrayList" (39 : Nat) "java/util/ArrayList" "DEFAULTCAPACITY_EMPTY_ELEMENTDATA" "[Ljava/lang/Object;") ∈ lw_all := lw_g (lw_at lw_m1 51 rfl) rfl
theorem q110 : (Jvm.Cond.laysStatic "java/util/ArrayList" "DEFAULTCAPACITY_EMPTY_ELEMENTDATA" "[Ljava/lang/Object;") ∈ lw_tbl := lw_at lw_m1 52 rfl
theorem q111 : (Jvm.Cond.fieldLink "java/util/ArrayList" (9 : Nat) "java/util/ArrayList" "elementData" "[Ljava/lang/Object;") ∈ lw_all := lw_g (lw_at lw_m1 53 rfl) rfl
theorem q112 : (Jvm.Cond.fieldLink "java/util/ArrayList" (48 : Nat) "java/util/ArrayList" "size" "I") ∈ lw_all := lw_g (lw_at lw_m1 54 rfl) rfl
theorem q114 : (Jvm.Cond.fieldLink "java/util/ArrayList" (63 : Nat) "java/util/ArrayList" "modCount" "I") ∈ lw_all := lw_g (lw_at lw_m1 56 rfl) rfl
theorem q115 : (Jvm.Cond.sameField "java/util/ArrayList" "java/util/AbstractList" "modCount" "I") ∈ lw_all := lw_g (lw_at lw_m1 57 rfl) rfl
theorem q116 : (Jvm.Cond.lays "java/util/ArrayList" "java/util/ArrayList" "elementData" "[Ljava/lang/Object;") ∈ lw_all := lw_g (lw_at lw_m1 58 rfl) rfl
theorem q117 : (Jvm.Cond.soleField "java/util/ArrayList" "elementData") ∈ lw_all := lw_g (lw_at lw_m1 59 rfl) rfl
theorem q118 : (Jvm.Cond.lays "java/util/ArrayList" "java/util/ArrayList" "size" "I") ∈ lw_all := lw_g (lw_at lw_m1 60 rfl) rfl
theorem q119 : (Jvm.Cond.soleField "java/util/ArrayList" "size") ∈ lw_all := lw_g (lw_at lw_m1 61 rfl) rfl
theorem q120 : (Jvm.Cond.lays "java/util/ArrayList" "java/util/AbstractList" "modCount" "I") ∈ lw_all := lw_g (lw_at lw_m1 62 rfl) rfl
theorem q122 : (Jvm.Cond.superclass "java/util/ArrayList" "java/util/AbstractList") ∈ lw_all := lw_g (lw_at lw_m1 64 rfl) rfl
theorem q371 : (Jvm.Cond.instanceMethod ({ cls := "java/util/ArrayList", name := "size", desc := "()I" } : Jvm.MethodName)) ∈ lw_all := lw_g (lw_at lw_m2 73 rfl) rfl
theorem q372 : (Jvm.Cond.selects "java/util/ArrayList" ({ cls := "java/util/ArrayList", name := "size", desc := "()I" } : Jvm.MethodName) ({ cls := "java/util/ArrayList", name := "size", desc := "()I" } : Jvm.MethodName)) ∈ lw_all := lw_g (lw_at lw_m2 74 rfl) rfl
theorem q373 : (Jvm.Cond.code ({ cls := "java/util/ArrayList", name := "size", desc := "()I" } : Jvm.MethodName) prog_36_method_8_code (1 : Nat) (Option.some Jvm.ClassFile.FieldType.int)) ∈ lw_all := lw_g (lw_at lw_m2 75 rfl) rfl
theorem q431 : (Jvm.Cond.instanceMethod ({ cls := "java/util/ArrayList", name := "add", desc := "(Ljava/lang/Object;)Z" } : Jvm.MethodName)) ∈ lw_all := lw_g (lw_at lw_m2 133 rfl) rfl
theorem q432 : (Jvm.Cond.selects "java/util/ArrayList" ({ cls := "java/util/ArrayList", name := "add", desc := "(Ljava/lang/Object;)Z" } : Jvm.MethodName) ({ cls := "java/util/ArrayList", name := "add", desc := "(Ljava/lang/Object;)Z" } : Jvm.MethodName)) ∈ lw_all := lw_g (lw_at lw_m2 134 rfl) rfl
theorem q433 : (Jvm.Cond.code ({ cls := "java/util/ArrayList", name := "add", desc := "(Ljava/lang/Object;)Z" } : Jvm.MethodName) prog_36_method_25_code (2 : Nat) (Option.some Jvm.ClassFile.FieldType.boolean)) ∈ lw_all := lw_g (lw_at lw_m2 135 rfl) rfl
theorem q434 : (Jvm.Cond.methodLink "java/util/ArrayList" (131 : Nat) ({ cls := "java/util/ArrayList", name := "add", desc := "(Ljava/lang/Object;[Ljava/lang/Object;I)V" } : Jvm.MethodName)) ∈ lw_all := lw_g (lw_at lw_m2 136 rfl) rfl
theorem q435 : (Jvm.Cond.privateMethod ({ cls := "java/util/ArrayList", name := "add", desc := "(Ljava/lang/Object;[Ljava/lang/Object;I)V" } : Jvm.MethodName)) ∈ lw_tbl := lw_at lw_m2 137 rfl
theorem q436 : (Jvm.Cond.instanceMethod ({ cls := "java/util/ArrayList", name := "add", desc := "(Ljava/lang/Object;[Ljava/lang/Object;I)V" } : Jvm.MethodName)) ∈ lw_all := lw_g (lw_at lw_m2 138 rfl) rfl
theorem q437 : (Jvm.Cond.code ({ cls := "java/util/ArrayList", name := "add", desc := "(Ljava/lang/Object;[Ljava/lang/Object;I)V" } : Jvm.MethodName) prog_36_method_24_code (4 : Nat) (Option.none : Option Jvm.ClassFile.FieldType)) ∈ lw_all := lw_g (lw_at lw_m2 139 rfl) rfl
theorem q438 : (Jvm.Cond.methodLink "java/util/ArrayList" (129 : Nat) ({ cls := "java/util/ArrayList", name := "grow", desc := "()[Ljava/lang/Object;" } : Jvm.MethodName)) ∈ lw_all := lw_g (lw_at lw_m2 140 rfl) rfl
theorem q439 : (Jvm.Cond.privateMethod ({ cls := "java/util/ArrayList", name := "grow", desc := "()[Ljava/lang/Object;" } : Jvm.MethodName)) ∈ lw_tbl := lw_at lw_m2 141 rfl
theorem q440 : (Jvm.Cond.instanceMethod ({ cls := "java/util/ArrayList", name := "grow", desc := "()[Ljava/lang/Object;" } : Jvm.MethodName)) ∈ lw_all := lw_g (lw_at lw_m2 142 rfl) rfl
theorem q441 : (Jvm.Cond.code ({ cls := "java/util/ArrayList", name := "grow", desc := "()[Ljava/lang/Object;" } : Jvm.MethodName) prog_36_method_7_code (1 : Nat) (Option.some (Jvm.ClassFile.FieldType.array (Jvm.ClassFile.FieldType.object "java/lang/Object")))) ∈ lw_all := lw_g (lw_at lw_m2 143 rfl) rfl
theorem q442 : (Jvm.Cond.methodLink "java/util/ArrayList" (69 : Nat) ({ cls := "java/util/ArrayList", name := "grow", desc := "(I)[Ljava/lang/Object;" } : Jvm.MethodName)) ∈ lw_all := lw_g (lw_at lw_m2 144 rfl) rfl
theorem q443 : (Jvm.Cond.privateMethod ({ cls := "java/util/ArrayList", name := "grow", desc := "(I)[Ljava/lang/Object;" } : Jvm.MethodName)) ∈ lw_tbl := lw_at lw_m2 145 rfl
theorem q444 : (Jvm.Cond.instanceMethod ({ cls := "java/util/ArrayList", name := "grow", desc := "(I)[Ljava/lang/Object;" } : Jvm.MethodName)) ∈ lw_all := lw_g (lw_at lw_m2 146 rfl) rfl
theorem q445 : (Jvm.Cond.code ({ cls := "java/util/ArrayList", name := "grow", desc := "(I)[Ljava/lang/Object;" } : Jvm.MethodName) prog_36_method_6_code (4 : Nat) (Option.some (Jvm.ClassFile.FieldType.array (Jvm.ClassFile.FieldType.object "java/lang/Object")))) ∈ lw_all := lw_g (lw_at lw_m2 147 rfl) rfl
theorem q446 : (Jvm.Cond.methodLink "java/util/ArrayList" (73 : Nat) ({ cls := "jdk/internal/util/ArraysSupport", name := "newLength", desc := "(III)I" } : Jvm.MethodName)) ∈ lw_all := lw_g (lw_at lw_m2 148 rfl) rfl
theorem q456 : (Jvm.Cond.methodLink "java/util/ArrayList" (66 : Nat) ({ cls := "java/util/Arrays", name := "copyOf", desc := "([Ljava/lang/Object;I)[Ljava/lang/Object;" } : Jvm.MethodName)) ∈ lw_all := lw_g (lw_at lw_m2 158 rfl) rfl
theorem q476 : (Jvm.Cond.selects "java/util/ArrayList" ({ cls := "java/lang/Object", name := "getClass", desc := "()Ljava/lang/Class;" } : Jvm.MethodName) ({ cls := "java/lang/Object", name := "getClass", desc := "()Ljava/lang/Class;" } : Jvm.MethodName)) ∈ lw_all := lw_g (lw_at lw_m2 178 rfl) rfl
theorem q490 : (Jvm.Cond.methodLink "java/util/ArrayList" (79 : Nat) ({ cls := "java/lang/Math", name := "max", desc := "(II)I" } : Jvm.MethodName)) ∈ lw_all := lw_g (lw_at lw_m2 192 rfl) rfl
theorem q491 : (Jvm.Cond.classLink "java/util/ArrayList" (7 : Nat) "java/lang/Object") ∈ lw_all := lw_g (lw_at lw_m2 193 rfl) rfl
theorem q501 : (Jvm.Cond.instanceMethod ({ cls := "java/util/ArrayList", name := "get", desc := "(I)Ljava/lang/Object;" } : Jvm.MethodName)) ∈ lw_all := lw_g (lw_at lw_m2 203 rfl) rfl
theorem q502 : (Jvm.Cond.selects "java/util/ArrayList" ({ cls := "java/util/ArrayList", name := "get", desc := "(I)Ljava/lang/Object;" } : Jvm.MethodName) ({ cls := "java/util/ArrayList", name := "get", desc := "(I)Ljava/lang/Object;" } : Jvm.MethodName)) ∈ lw_all := lw_g (lw_at lw_m2 204 rfl) rfl
theorem q503 : (Jvm.Cond.code ({ cls := "java/util/ArrayList", name := "get", desc := "(I)Ljava/lang/Object;" } : Jvm.MethodName) prog_36_method_20_code (2 : Nat) (Option.some (Jvm.ClassFile.FieldType.object "java/lang/Object"))) ∈ lw_all := lw_g (lw_at lw_m2 205 rfl) rfl
theorem q504 : (Jvm.Cond.methodLink "java/util/ArrayList" (118 : Nat) ({ cls := "java/util/Objects", name := "checkIndex", desc := "(II)I" } : Jvm.MethodName)) ∈ lw_all := lw_g (lw_at lw_m2 206 rfl) rfl
theorem q510 : (Jvm.Cond.methodLink "java/util/ArrayList" (123 : Nat) ({ cls := "java/util/ArrayList", name := "elementData", desc := "(I)Ljava/lang/Object;" } : Jvm.MethodName)) ∈ lw_all := lw_g (lw_at lw_m2 212 rfl) rfl
theorem q511 : (Jvm.Cond.instanceMethod ({ cls := "java/util/ArrayList", name := "elementData", desc := "(I)Ljava/lang/Object;" } : Jvm.MethodName)) ∈ lw_all := lw_g (lw_at lw_m2 213 rfl) rfl
theorem q512 : (Jvm.Cond.selects "java/util/ArrayList" ({ cls := "java/util/ArrayList", name := "elementData", desc := "(I)Ljava/lang/Object;" } : Jvm.MethodName) ({ cls := "java/util/ArrayList", name := "elementData", desc := "(I)Ljava/lang/Object;" } : Jvm.MethodName)) ∈ lw_all := lw_g (lw_at lw_m2 214 rfl) rfl
theorem q513 : (Jvm.Cond.code ({ cls := "java/util/ArrayList", name := "elementData", desc := "(I)Ljava/lang/Object;" } : Jvm.MethodName) prog_36_method_18_code (2 : Nat) (Option.some (Jvm.ClassFile.FieldType.object "java/lang/Object"))) ∈ lw_all := lw_g (lw_at lw_m2 215 rfl) rfl
theorem q1916 : (Jvm.Cond.castable "java/util/ArrayList" "java/lang/Object") ∈ lw_tbl := lw_at lw_m8 178 rfl
theorem q67 : (Jvm.Cond.initialized "jdk/internal/util/ArraysSupport") ∈ lw_all := lw_g (lw_at lw_m1 9 rfl) rfl
theorem q447 : (Jvm.Cond.static ({ cls := "jdk/internal/util/ArraysSupport", name := "newLength", desc := "(III)I" } : Jvm.MethodName)) ∈ lw_all := lw_g (lw_at lw_m2 149 rfl) rfl
theorem q448 : (Jvm.Cond.code ({ cls := "jdk/internal/util/ArraysSupport", name := "newLength", desc := "(III)I" } : Jvm.MethodName) prog_44_method_27_code (4 : Nat) (Option.some Jvm.ClassFile.FieldType.int)) ∈ lw_all := lw_g (lw_at lw_m2 150 rfl) rfl
theorem q449 : (Jvm.Cond.methodLink "jdk/internal/util/ArraysSupport" (194 : Nat) ({ cls := "java/lang/Math", name := "max", desc := "(II)I" } : Jvm.MethodName)) ∈ lw_all := lw_g (lw_at lw_m2 151 rfl) rfl
theorem q452 : (Jvm.Cond.constant "jdk/internal/util/ArraysSupport" (200 : Nat) (2147483639 : Int32)) ∈ lw_all := lw_g (lw_at lw_m2 154 rfl) rfl
theorem q453 : (Jvm.Cond.methodLink "jdk/internal/util/ArraysSupport" (201 : Nat) ({ cls := "jdk/internal/util/ArraysSupport", name := "hugeLength", desc := "(II)I" } : Jvm.MethodName)) ∈ lw_all := lw_g (lw_at lw_m2 155 rfl) rfl
theorem q454 : (Jvm.Cond.static ({ cls := "jdk/internal/util/ArraysSupport", name := "hugeLength", desc := "(II)I" } : Jvm.MethodName)) ∈ lw_all := lw_g (lw_at lw_m2 156 rfl) rfl
theorem q455 : (Jvm.Cond.code ({ cls := "jdk/internal/util/ArraysSupport", name := "hugeLength", desc := "(II)I" } : Jvm.MethodName) prog_44_method_28_code (3 : Nat) (Option.some Jvm.ClassFile.FieldType.int)) ∈ lw_all := lw_g (lw_at lw_m2 157 rfl) rfl
theorem q943 : (Jvm.Cond.static ({ cls := "jdk/internal/util/ArraysSupport", name := "vectorizedHashCode", desc := "(Ljava/lang/Object;IIII)I" } : Jvm.MethodName)) ∈ lw_all := lw_g (lw_at lw_m4 165 rfl) rfl
theorem q944 : (Jvm.Cond.code ({ cls := "jdk/internal/util/ArraysSupport", name := "vectorizedHashCode", desc := "(Ljava/lang/Object;IIII)I" } : Jvm.MethodName) prog_44_method_4_code (5 : Nat) (Option.some Jvm.ClassFile.FieldType.int)) ∈ lw_all := lw_g (lw_at lw_m4 166 rfl) rfl
theorem q945 : (Jvm.Cond.classLink "jdk/internal/util/ArraysSupport" (60 : Nat) "[B") ∈ lw_all := lw_g (lw_at lw_m4 167 rfl) rfl
theorem q946 : (Jvm.Cond.methodLink "jdk/internal/util/ArraysSupport" (62 : Nat) ({ cls := "jdk/internal/util/ArraysSupport", name := "signedHashCode", desc := "(I[BII)I" } : Jvm.MethodName)) ∈ lw_all := lw_g (lw_at lw_m4 168 rfl) rfl
theorem q947 : (Jvm.Cond.static ({ cls := "jdk/internal/util/ArraysSupport", name := "signedHashCode", desc := "(I[BII)I" } : Jvm.MethodName)) ∈ lw_all := lw_g (lw_at lw_m4 169 rfl) rfl
theorem q948 : (Jvm.Cond.code ({ cls := "jdk/internal/util/ArraysSupport", name := "signedHashCode", desc := "(I[BII)I" } : Jvm.MethodName) prog_44_method_5_code (6 : Nat) (Option.some Jvm.ClassFile.FieldType.int)) ∈ lw_all := lw_g (lw_at lw_m4 170 rfl) rfl
theorem q949 : (Jvm.Cond.methodLink "jdk/internal/util/ArraysSupport" (66 : Nat) ({ cls := "jdk/internal/util/ArraysSupport", name := "utf16hashCode", desc := "(I[BII)I" } : Jvm.MethodName)) ∈ lw_all := lw_g (lw_at lw_m4 171 rfl) rfl
theorem q950 : (Jvm.Cond.static ({ cls := "jdk/internal/util/ArraysSupport", name := "utf16hashCode", desc := "(I[BII)I" } : Jvm.MethodName)) ∈ lw_all := lw_g (lw_at lw_m4 172 rfl) rfl
theorem q951 : (Jvm.Cond.code ({ cls := "jdk/internal/util/ArraysSupport", name := "utf16hashCode", desc := "(I[BII)I" } : Jvm.MethodName) prog_44_method_10_code (6 : Nat) (Option.some Jvm.ClassFile.FieldType.int)) ∈ lw_all := lw_g (lw_at lw_m4 173 rfl) rfl
theorem q952 : (Jvm.Cond.fieldLink "jdk/internal/util/ArraysSupport" (106 : Nat) "jdk/internal/util/ArraysSupport" "JLA" "Ljdk/internal/access/JavaLangAccess;") ∈ lw_all := lw_g (lw_at lw_m4 174 rfl) rfl
theorem q953 : (Jvm.Cond.laysStatic "jdk/internal/util/ArraysSupport" "JLA" "Ljdk/internal/access/JavaLangAccess;") ∈ lw_tbl := lw_at lw_m4 175 rfl
theorem q954 : (Jvm.Cond.interfaceEntry "jdk/internal/util/ArraysSupport" (110 : Nat)) ∈ lw_tbl := lw_at lw_m4 176 rfl
theorem q955 : (Jvm.Cond.methodLink "jdk/internal/util/ArraysSupport" (110 : Nat) ({ cls := "jdk/internal/access/JavaLangAccess", name := "getUTF16Char", desc := "([BI)C" } : Jvm.MethodName)) ∈ lw_all := lw_g (lw_at lw_m4 177 rfl) rfl
theorem q965 : (Jvm.Cond.classLink "jdk/internal/util/ArraysSupport" (69 : Nat) "[C") ∈ lw_all := lw_g (lw_at lw_m4 187 rfl) rfl
theorem q966 : (Jvm.Cond.methodLink "jdk/internal/util/ArraysSupport" (71 : Nat) ({ cls := "jdk/internal/util/ArraysSupport", name := "hashCode", desc := "(I[CII)I" } : Jvm.MethodName)) ∈ lw_all := lw_g (lw_at lw_m4 188 rfl) rfl
theorem q967 : (Jvm.Cond.static ({ cls := "jdk/internal/util/ArraysSupport", name := "hashCode", desc := "(I[CII)I" } : Jvm.MethodName)) ∈ lw_all := lw_g (lw_at lw_m4 189 rfl) rfl
theorem q968 : (Jvm.Cond.code ({ cls := "jdk/internal/util/ArraysSupport", name := "hashCode", desc := "(I[CII)I" } : Jvm.MethodName) prog_44_method_7_code (6 : Nat) (Option.some Jvm.ClassFile.FieldType.int)) ∈ lw_all := lw_g (lw_at lw_m4 190 rfl) rfl
theorem q969 : (Jvm.Cond.methodLink "jdk/internal/util/ArraysSupport" (75 : Nat) ({ cls := "jdk/internal/util/ArraysSupport", name := "hashCode", desc := "(I[BII)I" } : Jvm.MethodName)) ∈ lw_all := lw_g (lw_at lw_m4 191 rfl) rfl
theorem q970 : (Jvm.Cond.static ({ cls := "jdk/internal/util/ArraysSupport", name := "hashCode", desc := "(I[BII)I" } : Jvm.MethodName)) ∈ lw_all := lw_g (lw_at lw_m4 192 rfl) rfl
theorem q971 : (Jvm.Cond.code ({ cls := "jdk/internal/util/ArraysSupport", name := "hashCode", desc := "(I[BII)I" } : Jvm.MethodName) prog_44_method_6_code (6 : Nat) (Option.some Jvm.ClassFile.FieldType.int)) ∈ lw_all := lw_g (lw_at lw_m4 193 rfl) rfl
theorem q972 : (Jvm.Cond.classLink "jdk/internal/util/ArraysSupport" (77 : Nat) "[S") ∈ lw_all := lw_g (lw_at lw_m4 194 rfl) rfl
theorem q973 : (Jvm.Cond.methodLink "jdk/internal/util/ArraysSupport" (79 : Nat) ({ cls := "jdk/internal/util/ArraysSupport", name := "hashCode", desc := "(I[SII)I" } : Jvm.MethodName)) ∈ lw_all := lw_g (lw_at lw_m4 195 rfl) rfl
theorem q974 : (Jvm.Cond.static ({ cls := "jdk/internal/util/ArraysSupport", name := "hashCode", desc := "(I[SII)I" } : Jvm.MethodName)) ∈ lw_all := lw_g (lw_at lw_m4 196 rfl) rfl
theorem q975 : (Jvm.Cond.code ({ cls := "jdk/internal/util/ArraysSupport", name := "hashCode", desc := "(I[SII)I" } : Jvm.MethodName) prog_44_method_8_code (6 : Nat) (Option.some Jvm.ClassFile.FieldType.int)) ∈ lw_all := lw_g (lw_at lw_m4 197 rfl) rfl
theorem q976 : (Jvm.Cond.classLink "jdk/internal/util/ArraysSupport" (82 : Nat) "[I") ∈ lw_all := lw_g (lw_at lw_m4 198 rfl) rfl
theorem q977 : (Jvm.Cond.methodLink "jdk/internal/util/ArraysSupport" (84 : Nat) ({ cls := "jdk/internal/util/ArraysSupport", name := "hashCode", desc := "(I[III)I" } : Jvm.MethodName)) ∈ lw_all := lw_g (lw_at lw_m4 199 rfl) rfl
theorem q978 : (Jvm.Cond.static ({ cls := "jdk/internal/util/ArraysSupport", name := "hashCode", desc := "(I[III)I" } : Jvm.MethodName)) ∈ lw_all := lw_g (lw_at lw_m4 200 rfl) rfl
theorem q979 : (Jvm.Cond.code ({ cls := "jdk/internal/util/ArraysSupport", name := "hashCode", desc := "(I[III)I" } : Jvm.MethodName) prog_44_method_9_code (6 : Nat) (Option.some Jvm.ClassFile.FieldType.int)) ∈ lw_all := lw_g (lw_at lw_m4 201 rfl) rfl
theorem q68 : (Jvm.Cond.initialized "java/lang/Math") ∈ lw_all := lw_g (lw_at lw_m1 10 rfl) rfl
theorem q450 : (Jvm.Cond.static ({ cls := "java/lang/Math", name := "max", desc := "(II)I" } : Jvm.MethodName)) ∈ lw_all := lw_g (lw_at lw_m2 152 rfl) rfl
theorem q451 : (Jvm.Cond.code ({ cls := "java/lang/Math", name := "max", desc := "(II)I" } : Jvm.MethodName) prog_22_method_65_code (2 : Nat) (Option.some Jvm.ClassFile.FieldType.int)) ∈ lw_all := lw_g (lw_at lw_m2 153 rfl) rfl
theorem q485 : (Jvm.Cond.static ({ cls := "java/lang/Math", name := "min", desc := "(II)I" } : Jvm.MethodName)) ∈ lw_all := lw_g (lw_at lw_m2 187 rfl) rfl
theorem q486 : (Jvm.Cond.code ({ cls := "java/lang/Math", name := "min", desc := "(II)I" } : Jvm.MethodName) prog_22_method_69_code (2 : Nat) (Option.some Jvm.ClassFile.FieldType.int)) ∈ lw_all := lw_g (lw_at lw_m2 188 rfl) rfl
theorem q1288 : (Jvm.Cond.static ({ cls := "java/lang/Math", name := "abs", desc := "(J)J" } : Jvm.MethodName)) ∈ lw_all := lw_g (lw_at lw_m6 30 rfl) rfl
theorem q1289 : (Jvm.Cond.code ({ cls := "java/lang/Math", name := "abs", desc := "(J)J" } : Jvm.MethodName) prog_22_method_61_code (2 : Nat) (Option.some Jvm.ClassFile.FieldType.long)) ∈ lw_all := lw_g (lw_at lw_m6 31 rfl) rfl
theorem q1317 : (Jvm.Cond.static ({ cls := "java/lang/Math", name := "max", desc := "(JJ)J" } : Jvm.MethodName)) ∈ lw_all := lw_g (lw_at lw_m6 59 rfl) rfl
theorem q1318 : (Jvm.Cond.code ({ cls := "java/lang/Math", name := "max", desc := "(JJ)J" } : Jvm.MethodName) prog_22_method_66_code (4 : Nat) (Option.some Jvm.ClassFile.FieldType.long)) ∈ lw_all := lw_g (lw_at lw_m6 60 rfl) rfl
theorem q1737 : (Jvm.Cond.static ({ cls := "java/lang/Math", name := "min", desc := "(JJ)J" } : Jvm.MethodName)) ∈ lw_all := lw_g (lw_at lw_m7 239 rfl) rfl
theorem q1738 : (Jvm.Cond.code ({ cls := "java/lang/Math", name := "min", desc := "(JJ)J" } : Jvm.MethodName) prog_22_method_70_code (4 : Nat) (Option.some Jvm.ClassFile.FieldType.long)) ∈ lw_all := lw_g (lw_at lw_m8 0 rfl) rfl
theorem q69 : (Jvm.Cond.initialized "java/util/Arrays") ∈ lw_all := lw_g (lw_at lw_m1 11 rfl) rfl
theorem q457 : (Jvm.Cond.static ({ cls := "java/util/Arrays", name := "copyOf", desc := "([Ljava/lang/Object;I)[Ljava/lang/Object;" } : Jvm.MethodName)) ∈ lw_all := lw_g (lw_at lw_m2 159 rfl) rfl
theorem q458 : (Jvm.Cond.code ({ cls := "java/util/Arrays", name := "copyOf", desc := "([Ljava/lang/Object;I)[Ljava/lang/Object;" } : Jvm.MethodName) prog_37_method_119_code (2 : Nat) (Option.some (Jvm.ClassFile.FieldType.array (Jvm.ClassFile.FieldType.object "java/lang/Object")))) ∈ lw_all := lw_g (lw_at lw_m2 160 rfl) rfl
theorem q459 : (Jvm.Cond.methodLink "java/util/Arrays" (86 : Nat) ({ cls := "java/lang/Object", name := "getClass", desc := "()Ljava/lang/Class;" } : Jvm.MethodName)) ∈ lw_all := lw_g (lw_at lw_m2 161 rfl) rfl
theorem q478 : (Jvm.Cond.methodLink "java/util/Arrays" (300 : Nat) ({ cls := "java/util/Arrays", name := "copyOf", desc := "([Ljava/lang/Object;ILjava/lang/Class;)[Ljava/lang/Object;" } : Jvm.MethodName)) ∈ lw_all := lw_g (lw_at lw_m2 180 rfl) rfl
theorem q479 : (Jvm.Cond.static ({ cls := "java/util/Arrays", name := "copyOf", desc := "([Ljava/lang/Object;ILjava/lang/Class;)[Ljava/lang/Object;" } : Jvm.MethodName)) ∈ lw_all := lw_g (lw_at lw_m2 181 rfl) rfl
theorem q480 : (Jvm.Cond.code ({ cls := "java/util/Arrays", name := "copyOf", desc := "([Ljava/lang/Object;ILjava/lang/Class;)[Ljava/lang/Object;" } : Jvm.MethodName) prog_37_method_120_code (4 : Nat) (Option.some (Jvm.ClassFile.FieldType.array (Jvm.ClassFile.FieldType.object "java/lang/Object")))) ∈ lw_all := lw_g (lw_at lw_m2 182 rfl) rfl
theorem q481 : (Jvm.Cond.classLink "java/util/Arrays" (110 : Nat) "[Ljava/lang/Object;") ∈ lw_all := lw_g (lw_at lw_m2 183 rfl) rfl
theorem q483 : (Jvm.Cond.classLink "java/util/Arrays" (2 : Nat) "java/lang/Object") ∈ lw_all := lw_g (lw_at lw_m2 185 rfl) rfl
theorem q484 : (Jvm.Cond.methodLink "java/util/Arrays" (304 : Nat) ({ cls := "java/lang/Math", name := "min", desc := "(II)I" } : Jvm.MethodName)) ∈ lw_all := lw_g (lw_at lw_m2 186 rfl) rfl
theorem q487 : (Jvm.Cond.methodLink "java/util/Arrays" (150 : Nat) ({ cls := "java/lang/System", name := "arraycopy", desc := "(Ljava/lang/Object;ILjava/lang/Object;II)V" } : Jvm.MethodName)) ∈ lw_all := lw_g (lw_at lw_m2 189 rfl) rfl
theorem q730 : (Jvm.Cond.static ({ cls := "java/util/Arrays", name := "copyOf", desc := "([BI)[B" } : Jvm.MethodName)) ∈ lw_all := lw_g (lw_at lw_m3 192 rfl) rfl
theorem q731 : (Jvm.Cond.code ({ cls := "java/util/Arrays", name := "copyOf", desc := "([BI)[B" } : Jvm.MethodName) prog_37_method_121_code (3 : Nat) (Option.some (Jvm.ClassFile.FieldType.array Jvm.ClassFile.FieldType.byte))) ∈ lw_all := lw_g (lw_at lw_m3 193 rfl) rfl
theorem q732 : (Jvm.Cond.methodLink "java/util/Arrays" (310 : Nat) ({ cls := "[B", name := "clone", desc := "()Ljava/lang/Object;" } : Jvm.MethodName)) ∈ lw_all := lw_g (lw_at lw_m3 194 rfl) rfl
theorem q738 : (Jvm.Cond.classLink "java/util/Arrays" (311 : Nat) "[B") ∈ lw_all := lw_g (lw_at lw_m3 200 rfl) rfl
theorem q818 : (Jvm.Cond.static ({ cls := "java/util/Arrays", name := "copyOfRange", desc := "([BII)[B" } : Jvm.MethodName)) ∈ lw_all := lw_g (lw_at lw_m4 40 rfl) rfl
theorem q819 : (Jvm.Cond.code ({ cls := "java/util/Arrays", name := "copyOfRange", desc := "([BII)[B" } : Jvm.MethodName) prog_37_method_132_code (3 : Nat) (Option.some (Jvm.ClassFile.FieldType.array Jvm.ClassFile.FieldType.byte))) ∈ lw_all := lw_g (lw_at lw_m4 41 rfl) rfl
theorem q820 : (Jvm.Cond.methodLink "java/util/Arrays" (339 : Nat) ({ cls := "java/util/Arrays", name := "copyOfRangeByte", desc := "([BII)[B" } : Jvm.MethodName)) ∈ lw_all := lw_g (lw_at lw_m4 42 rfl) rfl
theorem q821 : (Jvm.Cond.static ({ cls := "java/util/Arrays", name := "copyOfRangeByte", desc := "([BII)[B" } : Jvm.MethodName)) ∈ lw_all := lw_g (lw_at lw_m4 43 rfl) rfl
theorem q822 : (Jvm.Cond.code ({ cls := "java/util/Arrays", name := "copyOfRangeByte", desc := "([BII)[B" } : Jvm.MethodName) prog_37_method_133_code (5 : Nat) (Option.some (Jvm.ClassFile.FieldType.array Jvm.ClassFile.FieldType.byte))) ∈ lw_all := lw_g (lw_at lw_m4 44 rfl) rfl
theorem q823 : (Jvm.Cond.methodLink "java/util/Arrays" (343 : Nat) ({ cls := "java/util/Arrays", name := "checkLength", desc := "(II)V" } : Jvm.MethodName)) ∈ lw_all := lw_g (lw_at lw_m4 45 rfl) rfl
theorem q824 : (Jvm.Cond.static ({ cls := "java/util/Arrays", name := "checkLength", desc := "(II)V" } : Jvm.MethodName)) ∈ lw_all := lw_g (lw_at lw_m4 46 rfl) rfl
theorem q825 : (Jvm.Cond.code ({ cls := "java/util/Arrays", name := "checkLength", desc := "(II)V" } : Jvm.MethodName) prog_37_method_131_code (2 : Nat) (Option.none : Option Jvm.ClassFile.FieldType)) ∈ lw_all := lw_g (lw_at lw_m4 47 rfl) rfl
theorem q71 : (Jvm.Cond.initialized "java/util/Objects") ∈ lw_all := lw_g (lw_at lw_m1 13 rfl) rfl
theorem q505 : (Jvm.Cond.static ({ cls := "java/util/Objects", name := "checkIndex", desc := "(II)I" } : Jvm.MethodName)) ∈ lw_all := lw_g (lw_at lw_m2 207 rfl) rfl
theorem q506 : (Jvm.Cond.code ({ cls := "java/util/Objects", name := "checkIndex", desc := "(II)I" } : Jvm.MethodName) prog_40_method_17_code (2 : Nat) (Option.some Jvm.ClassFile.FieldType.int)) ∈ lw_all := lw_g (lw_at lw_m2 208 rfl) rfl
theorem q507 : (Jvm.Cond.methodLink "java/util/Objects" (105 : Nat) ({ cls := "jdk/internal/util/Preconditions", name := "checkIndex", desc := "(IILjava/util/function/BiFunction;)I" } : Jvm.MethodName)) ∈ lw_all := lw_g (lw_at lw_m2 209 rfl) rfl
theorem q72 : (Jvm.Cond.initialized "jdk/internal/util/Preconditions") ∈ lw_all := lw_g (lw_at lw_m1 14 rfl) rfl
theorem q508 : (Jvm.Cond.static ({ cls := "jdk/internal/util/Preconditions", name := "checkIndex", desc := "(IILjava/util/function/BiFunction;)I" } : Jvm.MethodName)) ∈ lw_all := lw_g (lw_at lw_m2 210 rfl) rfl
theorem q509 : (Jvm.Cond.code ({ cls := "jdk/internal/util/Preconditions", name := "checkIndex", desc := "(IILjava/util/function/BiFunction;)I" } : Jvm.MethodName) prog_45_method_11_code (3 : Nat) (Option.some Jvm.ClassFile.FieldType.int)) ∈ lw_all := lw_g (lw_at lw_m2 211 rfl) rfl
theorem q767 : (Jvm.Cond.laysStatic "jdk/internal/util/Preconditions" "SIOOBE_FORMATTER" "Ljava/util/function/BiFunction;") ∈ lw_tbl := lw_at lw_m3 229 rfl
theorem q769 : (Jvm.Cond.static ({ cls := "jdk/internal/util/Preconditions", name := "checkFromIndexSize", desc := "(IIILjava/util/function/BiFunction;)I" } : Jvm.MethodName)) ∈ lw_all := lw_g (lw_at lw_m3 231 rfl) rfl
theorem q770 : (Jvm.Cond.code ({ cls := "jdk/internal/util/Preconditions", name := "checkFromIndexSize", desc := "(IIILjava/util/function/BiFunction;)I" } : Jvm.MethodName) prog_45_method_13_code (4 : Nat) (Option.some Jvm.ClassFile.FieldType.int)) ∈ lw_all := lw_g (lw_at lw_m3 232 rfl) rfl
theorem q76 : (Jvm.Cond.initialized "java/lang/Record") ∈ lw_all := lw_g (lw_at lw_m1 18 rfl) rfl
theorem q1032 : (Jvm.Cond.instanceMethod ({ cls := "java/lang/Record", name := "<init>", desc := "()V" } : Jvm.MethodName)) ∈ lw_all := lw_g (lw_at lw_m5 14 rfl) rfl
theorem q1033 : (Jvm.Cond.code ({ cls := "java/lang/Record", name := "<init>", desc := "()V" } : Jvm.MethodName) prog_23_method_1_code (1 : Nat) (Option.none : Option Jvm.ClassFile.FieldType)) ∈ lw_all := lw_g (lw_at lw_m5 15 rfl) rfl
theorem q1034 : (Jvm.Cond.methodLink "java/lang/Record" (1 : Nat) ({ cls := "java/lang/Object", name := "<init>", desc := "()V" } : Jvm.MethodName)) ∈ lw_all := lw_g (lw_at lw_m5 16 rfl) rfl
theorem q78 : (Jvm.Cond.initialized "java/lang/Integer") ∈ lw_all := lw_g (lw_at lw_m1 20 rfl) rfl
theorem q1266 : (Jvm.Cond.static ({ cls := "java/lang/Integer", name := "bitCount", desc := "(I)I" } : Jvm.MethodName)) ∈ lw_all := lw_g (lw_at lw_m6 8 rfl) rfl
theorem q1267 : (Jvm.Cond.code ({ cls := "java/lang/Integer", name := "bitCount", desc := "(I)I" } : Jvm.MethodName) prog_20_method_49_code (1 : Nat) (Option.some Jvm.ClassFile.FieldType.int)) ∈ lw_all := lw_g (lw_at lw_m6 9 rfl) rfl
theorem q1268 : (Jvm.Cond.constant "java/lang/Integer" (265 : Nat) (1431655765 : Int32)) ∈ lw_all := lw_g (lw_at lw_m6 10 rfl) rfl
theorem q1269 : (Jvm.Cond.constant "java/lang/Integer" (266 : Nat) (858993459 : Int32)) ∈ lw_all := lw_g (lw_at lw_m6 11 rfl) rfl
theorem q1270 : (Jvm.Cond.constant "java/lang/Integer" (267 : Nat) (252645135 : Int32)) ∈ lw_all := lw_g (lw_at lw_m6 12 rfl) rfl
theorem q1296 : (Jvm.Cond.static ({ cls := "java/lang/Integer", name := "numberOfLeadingZeros", desc := "(I)I" } : Jvm.MethodName)) ∈ lw_all := lw_g (lw_at lw_m6 38 rfl) rfl
theorem q1297 : (Jvm.Cond.code ({ cls := "java/lang/Integer", name := "numberOfLeadingZeros", desc := "(I)I" } : Jvm.MethodName) prog_20_method_47_code (2 : Nat) (Option.some Jvm.ClassFile.FieldType.int)) ∈ lw_all := lw_g (lw_at lw_m6 39 rfl) rfl
theorem q1298 : (Jvm.Cond.constant "java/lang/Integer" (264 : Nat) (65536 : Int32)) ∈ lw_all := lw_g (lw_at lw_m6 40 rfl) rfl
theorem q59 : (Jvm.Cond.initialized "RainStreets") ∈ lw_all := lw_g (lw_at lw_m1 1 rfl) rfl
theorem q90 : (Jvm.Cond.instantiable "RainStreets" (28 : Nat)) ∈ lw_all := lw_g (lw_at lw_m1 32 rfl) rfl
theorem q92 : (Jvm.Cond.instanceMethod ({ cls := "RainStreets", name := "<init>", desc := "()V" } : Jvm.MethodName)) ∈ lw_all := lw_g (lw_at lw_m1 34 rfl) rfl
theorem q93 : (Jvm.Cond.code ({ cls := "RainStreets", name := "<init>", desc := "()V" } : Jvm.MethodName) prog_1_method_3_code (2 : Nat) (Option.none : Option Jvm.ClassFile.FieldType)) ∈ lw_all := lw_g (lw_at lw_m1 35 rfl) rfl
theorem q94 : (Jvm.Cond.methodLink "RainStreets" (7 : Nat) ({ cls := "java/lang/Object", name := "<init>", desc := "()V" } : Jvm.MethodName)) ∈ lw_all := lw_g (lw_at lw_m1 36 rfl) rfl
theorem q97 : (Jvm.Cond.classLink "RainStreets" (17 : Nat) "java/util/ArrayList") ∈ lw_all := lw_g (lw_at lw_m1 39 rfl) rfl
theorem q99 : (Jvm.Cond.methodLink "RainStreets" (19 : Nat) ({ cls := "java/util/ArrayList", name := "<init>", desc := "()V" } : Jvm.MethodName)) ∈ lw_all := lw_g (lw_at lw_m1 41 rfl) rfl
theorem q124 : (Jvm.Cond.classLink "RainStreets" (30 : Nat) "RainStreets$Rules") ∈ lw_all := lw_g (lw_at lw_m1 66 rfl) rfl
theorem q126 : (Jvm.Cond.methodLink "RainStreets" (32 : Nat) ({ cls := "RainStreets$Rules", name := "<init>", desc := "(I)V" } : Jvm.MethodName)) ∈ lw_all := lw_g (lw_at lw_m1 68 rfl) rfl
theorem q133 : (Jvm.Cond.fieldLinkNest "RainStreets" (165 : Nat) "RainStreets$Rules" "from" "I" "RainStreets") ∈ lw_tbl := lw_at lw_m1 75 rfl
theorem q135 : (Jvm.Cond.fieldLinkNest "RainStreets" (280 : Nat) "RainStreets$Rules" "turns" "Ljava/util/ArrayList;" "RainStreets") ∈ lw_tbl := lw_at lw_m1 77 rfl
theorem q138 : (Jvm.Cond.fieldLinkNest "RainStreets" (286 : Nat) "RainStreets$Rules" "clog" "I" "RainStreets") ∈ lw_tbl := lw_at lw_m1 80 rfl
theorem q140 : (Jvm.Cond.fieldLinkNest "RainStreets" (287 : Nat) "RainStreets$Rules" "leavesFrom" "I" "RainStreets") ∈ lw_tbl := lw_at lw_m1 82 rfl
theorem q142 : (Jvm.Cond.fieldLinkNest "RainStreets" (290 : Nat) "RainStreets$Rules" "leavesTo" "I" "RainStreets") ∈ lw_tbl := lw_at lw_m1 84 rfl
theorem q144 : (Jvm.Cond.fieldLinkNest "RainStreets" (293 : Nat) "RainStreets$Rules" "owe" "I" "RainStreets") ∈ lw_tbl := lw_at lw_m1 86 rfl
theorem q146 : (Jvm.Cond.fieldLinkNest "RainStreets" (126 : Nat) "RainStreets$Rules" "parking" "I" "RainStreets") ∈ lw_tbl := lw_at lw_m1 88 rfl
theorem q149 : (Jvm.Cond.fieldLinkNest "RainStreets" (295 : Nat) "RainStreets$Rules" "salt" "I" "RainStreets") ∈ lw_tbl := lw_at lw_m1 91 rfl
theorem q151 : (Jvm.Cond.fieldLinkNest "RainStreets" (296 : Nat) "RainStreets$Rules" "stand" "I" "RainStreets") ∈ lw_tbl := lw_at lw_m1 93 rfl
theorem q153 : (Jvm.Cond.fieldLinkNest "RainStreets" (298 : Nat) "RainStreets$Rules" "fee" "I" "RainStreets") ∈ lw_tbl := lw_at lw_m1 95 rfl
theorem q155 : (Jvm.Cond.fieldLinkNest "RainStreets" (302 : Nat) "RainStreets$Rules" "credit" "I" "RainStreets") ∈ lw_tbl := lw_at lw_m1 97 rfl
theorem q157 : (Jvm.Cond.fieldLinkNest "RainStreets" (305 : Nat) "RainStreets$Rules" "bed" "I" "RainStreets") ∈ lw_tbl := lw_at lw_m1 99 rfl
theorem q159 : (Jvm.Cond.fieldLinkNest "RainStreets" (307 : Nat) "RainStreets$Rules" "cost" "I" "RainStreets") ∈ lw_tbl := lw_at lw_m1 101 rfl
theorem q161 : (Jvm.Cond.fieldLinkNest "RainStreets" (311 : Nat) "RainStreets$Rules" "bowl" "I" "RainStreets") ∈ lw_tbl := lw_at lw_m1 103 rfl
theorem q163 : (Jvm.Cond.fieldLinkNest "RainStreets" (313 : Nat) "RainStreets$Rules" "doubt" "I" "RainStreets") ∈ lw_tbl := lw_at lw_m1 105 rfl
theorem q164 : (Jvm.Cond.fieldLinkNest "RainStreets" (318 : Nat) "RainStreets$Rules" "statements" "I" "RainStreets") ∈ lw_tbl := lw_at lw_m1 106 rfl
theorem q166 : (Jvm.Cond.fieldLinkNest "RainStreets" (247 : Nat) "RainStreets$Rules" "lookFrom" "[I" "RainStreets") ∈ lw_tbl := lw_at lw_m1 108 rfl
theorem q168 : (Jvm.Cond.fieldLinkNest "RainStreets" (250 : Nat) "RainStreets$Rules" "lookTo" "[I" "RainStreets") ∈ lw_tbl := lw_at lw_m1 110 rfl
theorem q206 : (Jvm.Cond.stringRef "RainStreets" (47 : Nat) "") ∈ lw_tbl := lw_at lw_m1 148 rfl
theorem q207 : (Jvm.Cond.classLink "RainStreets" (62 : Nat) "RainStreets$Run") ∈ lw_all := lw_g (lw_at lw_m1 149 rfl) rfl
theorem q209 : (Jvm.Cond.methodLinkNest "RainStreets" (64 : Nat) ({ cls := "RainStreets$Run", name := "<init>", desc := "(LRainStreets;)V" } : Jvm.MethodName) "RainStreets") ∈ lw_tbl := lw_at lw_m1 151 rfl
theorem q214 : (Jvm.Cond.fieldLinkNest "RainStreets" (402 : Nat) "RainStreets$Run" "bowls" "[I" "RainStreets") ∈ lw_tbl := lw_at lw_m1 156 rfl
theorem q216 : (Jvm.Cond.fieldLinkNest "RainStreets" (405 : Nat) "RainStreets$Run" "barrels" "[I" "RainStreets") ∈ lw_tbl := lw_at lw_m1 158 rfl
theorem q218 : (Jvm.Cond.fieldLinkNest "RainStreets" (385 : Nat) "RainStreets$Run" "spills" "[I" "RainStreets") ∈ lw_tbl := lw_at lw_m1 160 rfl
theorem q220 : (Jvm.Cond.fieldLinkNest "RainStreets" (396 : Nat) "RainStreets$Run" "wet" "[I" "RainStreets") ∈ lw_tbl := lw_at lw_m1 162 rfl
theorem q222 : (Jvm.Cond.fieldLinkNest "RainStreets" (391 : Nat) "RainStreets$Run" "most" "[I" "RainStreets") ∈ lw_tbl := lw_at lw_m1 164 rfl
theorem q227 : (Jvm.Cond.fieldLinkNest "RainStreets" (411 : Nat) "RainStreets$Run" "rain" "J" "RainStreets") ∈ lw_tbl := lw_at lw_m1 169 rfl
theorem q229 : (Jvm.Cond.fieldLinkNest "RainStreets" (414 : Nat) "RainStreets$Run" "drinks" "J" "RainStreets") ∈ lw_tbl := lw_at lw_m1 171 rfl
theorem q231 : (Jvm.Cond.fieldLinkNest "RainStreets" (418 : Nat) "RainStreets$Run" "all" "J" "RainStreets") ∈ lw_tbl := lw_at lw_m1 173 rfl
theorem q233 : (Jvm.Cond.fieldLinkNest "RainStreets" (424 : Nat) "RainStreets$Run" "end" "J" "RainStreets") ∈ lw_tbl := lw_at lw_m1 175 rfl
theorem q235 : (Jvm.Cond.fieldLinkNest "RainStreets" (429 : Nat) "RainStreets$Run" "wets" "I" "RainStreets") ∈ lw_tbl := lw_at lw_m1 177 rfl
theorem q237 : (Jvm.Cond.fieldLinkNest "RainStreets" (432 : Nat) "RainStreets$Run" "mostEnd" "I" "RainStreets") ∈ lw_tbl := lw_at lw_m1 179 rfl
theorem q272 : (Jvm.Cond.fieldLink "RainStreets" (119 : Nat) "RainStreets" "today" "I") ∈ lw_all := lw_g (lw_at lw_m1 214 rfl) rfl
theorem q274 : (Jvm.Cond.fieldLink "RainStreets" (13 : Nat) "RainStreets" "drinks" "[I") ∈ lw_all := lw_g (lw_at lw_m1 216 rfl) rfl
theorem q277 : (Jvm.Cond.fieldLink "RainStreets" (20 : Nat) "RainStreets" "corners" "Ljava/util/ArrayList;") ∈ lw_all := lw_g (lw_at lw_m1 219 rfl) rfl
theorem q279 : (Jvm.Cond.fieldLink "RainStreets" (24 : Nat) "RainStreets" "roofs" "Ljava/util/ArrayList;") ∈ lw_all := lw_g (lw_at lw_m1 221 rfl) rfl
theorem q280 : (Jvm.Cond.fieldLink "RainStreets" (27 : Nat) "RainStreets" "rules" "Ljava/util/ArrayList;") ∈ lw_all := lw_g (lw_at lw_m1 222 rfl) rfl
theorem q281 : (Jvm.Cond.fieldLink "RainStreets" (35 : Nat) "RainStreets" "bare" "LRainStreets$Rules;") ∈ lw_all := lw_g (lw_at lw_m1 223 rfl) rfl
theorem q282 : (Jvm.Cond.fieldLink "RainStreets" (39 : Nat) "RainStreets" "tape" "[B") ∈ lw_all := lw_g (lw_at lw_m1 224 rfl) rfl
theorem q283 : (Jvm.Cond.fieldLink "RainStreets" (172 : Nat) "RainStreets" "taped" "I") ∈ lw_all := lw_g (lw_at lw_m1 225 rfl) rfl
theorem q284 : (Jvm.Cond.fieldLink "RainStreets" (43 : Nat) "RainStreets" "fault" "I") ∈ lw_all := lw_g (lw_at lw_m1 226 rfl) rfl
theorem q285 : (Jvm.Cond.fieldLink "RainStreets" (179 : Nat) "RainStreets" "limit" "I") ∈ lw_all := lw_g (lw_at lw_m1 227 rfl) rfl
theorem q286 : (Jvm.Cond.fieldLink "RainStreets" (182 : Nat) "RainStreets" "point" "I") ∈ lw_all := lw_g (lw_at lw_m1 228 rfl) rfl
theorem q287 : (Jvm.Cond.fieldLink "RainStreets" (188 : Nat) "RainStreets" "from" "I") ∈ lw_all := lw_g (lw_at lw_m1 229 rfl) rfl
theorem q288 : (Jvm.Cond.fieldLink "RainStreets" (210 : Nat) "RainStreets" "value" "I") ∈ lw_all := lw_g (lw_at lw_m1 230 rfl) rfl
theorem q289 : (Jvm.Cond.fieldLink "RainStreets" (189 : Nat) "RainStreets" "token" "C") ∈ lw_all := lw_g (lw_at lw_m1 231 rfl) rfl
theorem q290 : (Jvm.Cond.fieldLink "RainStreets" (49 : Nat) "RainStreets" "word" "Ljava/lang/String;") ∈ lw_all := lw_g (lw_at lw_m1 232 rfl) rfl
theorem q291 : (Jvm.Cond.fieldLink "RainStreets" (53 : Nat) "RainStreets" "owed" "[I") ∈ lw_all := lw_g (lw_at lw_m1 233 rfl) rfl
theorem q292 : (Jvm.Cond.fieldLink "RainStreets" (56 : Nat) "RainStreets" "kept" "[I") ∈ lw_all := lw_g (lw_at lw_m1 234 rfl) rfl
theorem q293 : (Jvm.Cond.fieldLink "RainStreets" (408 : Nat) "RainStreets" "rained" "J") ∈ lw_all := lw_g (lw_at lw_m1 235 rfl) rfl
theorem q294 : (Jvm.Cond.fieldLink "RainStreets" (345 : Nat) "RainStreets" "drunk" "J") ∈ lw_all := lw_g (lw_at lw_m1 236 rfl) rfl
theorem q295 : (Jvm.Cond.fieldLink "RainStreets" (416 : Nat) "RainStreets" "spilt" "J") ∈ lw_all := lw_g (lw_at lw_m1 237 rfl) rfl
theorem q296 : (Jvm.Cond.fieldLink "RainStreets" (421 : Nat) "RainStreets" "works" "J") ∈ lw_all := lw_g (lw_at lw_m1 238 rfl) rfl
theorem q297 : (Jvm.Cond.fieldLink "RainStreets" (371 : Nat) "RainStreets" "used" "J") ∈ lw_all := lw_g (lw_at lw_m1 239 rfl) rfl
theorem q299 : (Jvm.Cond.fieldLink "RainStreets" (59 : Nat) "RainStreets" "minutes" "[I") ∈ lw_all := lw_g (lw_at lw_m2 1 rfl) rfl
theorem q301 : (Jvm.Cond.fieldLink "RainStreets" (379 : Nat) "RainStreets" "minuteMany" "I") ∈ lw_all := lw_g (lw_at lw_m2 3 rfl) rfl
theorem q302 : (Jvm.Cond.fieldLink "RainStreets" (67 : Nat) "RainStreets" "run" "LRainStreets$Run;") ∈ lw_all := lw_g (lw_at lw_m2 4 rfl) rfl
theorem q303 : (Jvm.Cond.fieldLink "RainStreets" (71 : Nat) "RainStreets" "storms" "Ljava/util/ArrayList;") ∈ lw_all := lw_g (lw_at lw_m2 5 rfl) rfl
theorem q304 : (Jvm.Cond.fieldLink "RainStreets" (502 : Nat) "RainStreets" "looks" "I") ∈ lw_all := lw_g (lw_at lw_m2 6 rfl) rfl
theorem q305 : (Jvm.Cond.fieldLink "RainStreets" (74 : Nat) "RainStreets" "complaints" "Ljava/util/ArrayList;") ∈ lw_all := lw_g (lw_at lw_m2 7 rfl) rfl
theorem q306 : (Jvm.Cond.lays "RainStreets" "RainStreets" "today" "I") ∈ lw_all := lw_g (lw_at lw_m2 8 rfl) rfl
theorem q307 : (Jvm.Cond.soleField "RainStreets" "today") ∈ lw_all := lw_g (lw_at lw_m2 9 rfl) rfl
theorem q308 : (Jvm.Cond.laysFinal "RainStreets" "RainStreets" "drinks" "[I") ∈ lw_all := lw_g (lw_at lw_m2 10 rfl) rfl
theorem q309 : (Jvm.Cond.soleField "RainStreets" "drinks") ∈ lw_all := lw_g (lw_at lw_m2 11 rfl) rfl
theorem q310 : (Jvm.Cond.laysFinal "RainStreets" "RainStreets" "corners" "Ljava/util/ArrayList;") ∈ lw_all := lw_g (lw_at lw_m2 12 rfl) rfl
theorem q311 : (Jvm.Cond.soleField "RainStreets" "corners") ∈ lw_all := lw_g (lw_at lw_m2 13 rfl) rfl
theorem q312 : (Jvm.Cond.laysFinal "RainStreets" "RainStreets" "roofs" "Ljava/util/ArrayList;") ∈ lw_all := lw_g (lw_at lw_m2 14 rfl) rfl
theorem q313 : (Jvm.Cond.soleField "RainStreets" "roofs") ∈ lw_all := lw_g (lw_at lw_m2 15 rfl) rfl
theorem q314 : (Jvm.Cond.laysFinal "RainStreets" "RainStreets" "rules" "Ljava/util/ArrayList;") ∈ lw_all := lw_g (lw_at lw_m2 16 rfl) rfl
theorem q315 : (Jvm.Cond.soleField "RainStreets" "rules") ∈ lw_all := lw_g (lw_at lw_m2 17 rfl) rfl
theorem q316 : (Jvm.Cond.laysFinal "RainStreets" "RainStreets" "bare" "LRainStreets$Rules;") ∈ lw_all := lw_g (lw_at lw_m2 18 rfl) rfl
theorem q317 : (Jvm.Cond.soleField "RainStreets" "bare") ∈ lw_all := lw_g (lw_at lw_m2 19 rfl) rfl
theorem q318 : (Jvm.Cond.laysFinal "RainStreets" "RainStreets" "tape" "[B") ∈ lw_all := lw_g (lw_at lw_m2 20 rfl) rfl
theorem q319 : (Jvm.Cond.soleField "RainStreets" "tape") ∈ lw_all := lw_g (lw_at lw_m2 21 rfl) rfl
theorem q320 : (Jvm.Cond.lays "RainStreets" "RainStreets" "taped" "I") ∈ lw_all := lw_g (lw_at lw_m2 22 rfl) rfl
theorem q321 : (Jvm.Cond.soleField "RainStreets" "taped") ∈ lw_all := lw_g (lw_at lw_m2 23 rfl) rfl
theorem q322 : (Jvm.Cond.lays "RainStreets" "RainStreets" "fault" "I") ∈ lw_all := lw_g (lw_at lw_m2 24 rfl) rfl
theorem q323 : (Jvm.Cond.soleField "RainStreets" "fault") ∈ lw_all := lw_g (lw_at lw_m2 25 rfl) rfl
theorem q324 : (Jvm.Cond.lays "RainStreets" "RainStreets" "limit" "I") ∈ lw_all := lw_g (lw_at lw_m2 26 rfl) rfl
theorem q325 : (Jvm.Cond.soleField "RainStreets" "limit") ∈ lw_all := lw_g (lw_at lw_m2 27 rfl) rfl
theorem q326 : (Jvm.Cond.lays "RainStreets" "RainStreets" "point" "I") ∈ lw_all := lw_g (lw_at lw_m2 28 rfl) rfl
theorem q327 : (Jvm.Cond.soleField "RainStreets" "point") ∈ lw_all := lw_g (lw_at lw_m2 29 rfl) rfl
theorem q328 : (Jvm.Cond.lays "RainStreets" "RainStreets" "from" "I") ∈ lw_all := lw_g (lw_at lw_m2 30 rfl) rfl
theorem q329 : (Jvm.Cond.soleField "RainStreets" "from") ∈ lw_all := lw_g (lw_at lw_m2 31 rfl) rfl
theorem q330 : (Jvm.Cond.lays "RainStreets" "RainStreets" "value" "I") ∈ lw_all := lw_g (lw_at lw_m2 32 rfl) rfl
theorem q331 : (Jvm.Cond.soleField "RainStreets" "value") ∈ lw_all := lw_g (lw_at lw_m2 33 rfl) rfl
theorem q332 : (Jvm.Cond.lays "RainStreets" "RainStreets" "token" "C") ∈ lw_all := lw_g (lw_at lw_m2 34 rfl) rfl
theorem q333 : (Jvm.Cond.soleField "RainStreets" "token") ∈ lw_all := lw_g (lw_at lw_m2 35 rfl) rfl
theorem q334 : (Jvm.Cond.lays "RainStreets" "RainStreets" "word" "Ljava/lang/String;") ∈ lw_all := lw_g (lw_at lw_m2 36 rfl) rfl
theorem q335 : (Jvm.Cond.soleField "RainStreets" "word") ∈ lw_all := lw_g (lw_at lw_m2 37 rfl) rfl
theorem q336 : (Jvm.Cond.laysFinal "RainStreets" "RainStreets" "owed" "[I") ∈ lw_all := lw_g (lw_at lw_m2 38 rfl) rfl
theorem q337 : (Jvm.Cond.soleField "RainStreets" "owed") ∈ lw_all := lw_g (lw_at lw_m2 39 rfl) rfl
theorem q338 : (Jvm.Cond.laysFinal "RainStreets" "RainStreets" "kept" "[I") ∈ lw_all := lw_g (lw_at lw_m2 40 rfl) rfl
theorem q339 : (Jvm.Cond.soleField "RainStreets" "kept") ∈ lw_all := lw_g (lw_at lw_m2 41 rfl) rfl
theorem q340 : (Jvm.Cond.lays "RainStreets" "RainStreets" "rained" "J") ∈ lw_all := lw_g (lw_at lw_m2 42 rfl) rfl
theorem q341 : (Jvm.Cond.soleField "RainStreets" "rained") ∈ lw_all := lw_g (lw_at lw_m2 43 rfl) rfl
theorem q342 : (Jvm.Cond.lays "RainStreets" "RainStreets" "drunk" "J") ∈ lw_all := lw_g (lw_at lw_m2 44 rfl) rfl
theorem q343 : (Jvm.Cond.soleField "RainStreets" "drunk") ∈ lw_all := lw_g (lw_at lw_m2 45 rfl) rfl
theorem q344 : (Jvm.Cond.lays "RainStreets" "RainStreets" "spilt" "J") ∈ lw_all := lw_g (lw_at lw_m2 46 rfl) rfl
theorem q345 : (Jvm.Cond.soleField "RainStreets" "spilt") ∈ lw_all := lw_g (lw_at lw_m2 47 rfl) rfl
theorem q346 : (Jvm.Cond.lays "RainStreets" "RainStreets" "works" "J") ∈ lw_all := lw_g (lw_at lw_m2 48 rfl) rfl
theorem q347 : (Jvm.Cond.soleField "RainStreets" "works") ∈ lw_all := lw_g (lw_at lw_m2 49 rfl) rfl
theorem q348 : (Jvm.Cond.lays "RainStreets" "RainStreets" "used" "J") ∈ lw_all := lw_g (lw_at lw_m2 50 rfl) rfl
theorem q349 : (Jvm.Cond.soleField "RainStreets" "used") ∈ lw_all := lw_g (lw_at lw_m2 51 rfl) rfl
theorem q350 : (Jvm.Cond.laysFinal "RainStreets" "RainStreets" "minutes" "[I") ∈ lw_all := lw_g (lw_at lw_m2 52 rfl) rfl
theorem q351 : (Jvm.Cond.soleField "RainStreets" "minutes") ∈ lw_all := lw_g (lw_at lw_m2 53 rfl) rfl
theorem q352 : (Jvm.Cond.lays "RainStreets" "RainStreets" "minuteMany" "I") ∈ lw_all := lw_g (lw_at lw_m2 54 rfl) rfl
theorem q353 : (Jvm.Cond.soleField "RainStreets" "minuteMany") ∈ lw_all := lw_g (lw_at lw_m2 55 rfl) rfl
theorem q354 : (Jvm.Cond.laysFinal "RainStreets" "RainStreets" "run" "LRainStreets$Run;") ∈ lw_all := lw_g (lw_at lw_m2 56 rfl) rfl
theorem q355 : (Jvm.Cond.soleField "RainStreets" "run") ∈ lw_all := lw_g (lw_at lw_m2 57 rfl) rfl
theorem q356 : (Jvm.Cond.laysFinal "RainStreets" "RainStreets" "storms" "Ljava/util/ArrayList;") ∈ lw_all := lw_g (lw_at lw_m2 58 rfl) rfl
theorem q357 : (Jvm.Cond.soleField "RainStreets" "storms") ∈ lw_all := lw_g (lw_at lw_m2 59 rfl) rfl
theorem q358 : (Jvm.Cond.lays "RainStreets" "RainStreets" "looks" "I") ∈ lw_all := lw_g (lw_at lw_m2 60 rfl) rfl
theorem q359 : (Jvm.Cond.soleField "RainStreets" "looks") ∈ lw_all := lw_g (lw_at lw_m2 61 rfl) rfl
theorem q360 : (Jvm.Cond.laysFinal "RainStreets" "RainStreets" "complaints" "Ljava/util/ArrayList;") ∈ lw_all := lw_g (lw_at lw_m2 62 rfl) rfl
theorem q361 : (Jvm.Cond.soleField "RainStreets" "complaints") ∈ lw_all := lw_g (lw_at lw_m2 63 rfl) rfl
theorem q362 : (Jvm.Cond.superclass "RainStreets" "java/lang/Object") ∈ lw_all := lw_g (lw_at lw_m2 64 rfl) rfl
theorem q364 : (Jvm.Cond.instanceMethod ({ cls := "RainStreets", name := "corner", desc := "(IIII)I" } : Jvm.MethodName)) ∈ lw_all := lw_g (lw_at lw_m2 66 rfl) rfl
theorem q365 : (Jvm.Cond.selects "RainStreets" ({ cls := "RainStreets", name := "corner", desc := "(IIII)I" } : Jvm.MethodName) ({ cls := "RainStreets", name := "corner", desc := "(IIII)I" } : Jvm.MethodName)) ∈ lw_all := lw_g (lw_at lw_m2 67 rfl) rfl
theorem q366 : (Jvm.Cond.code ({ cls := "RainStreets", name := "corner", desc := "(IIII)I" } : Jvm.MethodName) prog_1_method_7_code (5 : Nat) (Option.some Jvm.ClassFile.FieldType.int)) ∈ lw_all := lw_g (lw_at lw_m2 68 rfl) rfl
theorem q367 : (Jvm.Cond.methodLink "RainStreets" (3 : Nat) ({ cls := "RainStreets", name := "isIn", desc := "(III)Z" } : Jvm.MethodName)) ∈ lw_all := lw_g (lw_at lw_m2 69 rfl) rfl
theorem q368 : (Jvm.Cond.static ({ cls := "RainStreets", name := "isIn", desc := "(III)Z" } : Jvm.MethodName)) ∈ lw_all := lw_g (lw_at lw_m2 70 rfl) rfl
theorem q369 : (Jvm.Cond.code ({ cls := "RainStreets", name := "isIn", desc := "(III)Z" } : Jvm.MethodName) prog_1_method_1_code (3 : Nat) (Option.some Jvm.ClassFile.FieldType.boolean)) ∈ lw_all := lw_g (lw_at lw_m2 71 rfl) rfl
theorem q370 : (Jvm.Cond.methodLink "RainStreets" (77 : Nat) ({ cls := "java/util/ArrayList", name := "size", desc := "()I" } : Jvm.MethodName)) ∈ lw_all := lw_g (lw_at lw_m2 72 rfl) rfl
theorem q374 : (Jvm.Cond.classLink "RainStreets" (85 : Nat) "RainStreets$Corner") ∈ lw_all := lw_g (lw_at lw_m2 76 rfl) rfl
theorem q376 : (Jvm.Cond.methodLink "RainStreets" (97 : Nat) ({ cls := "RainStreets$Corner", name := "<init>", desc := "(IIIII)V" } : Jvm.MethodName)) ∈ lw_all := lw_g (lw_at lw_m2 78 rfl) rfl
theorem q384 : (Jvm.Cond.fieldLinkNest "RainStreets" (499 : Nat) "RainStreets$Corner" "number" "I" "RainStreets") ∈ lw_tbl := lw_at lw_m2 86 rfl
theorem q387 : (Jvm.Cond.fieldLinkNest "RainStreets" (529 : Nat) "RainStreets$Corner" "area" "I" "RainStreets") ∈ lw_tbl := lw_at lw_m2 89 rfl
theorem q390 : (Jvm.Cond.fieldLinkNest "RainStreets" (530 : Nat) "RainStreets$Corner" "pipe" "I" "RainStreets") ∈ lw_tbl := lw_at lw_m2 92 rfl
theorem q392 : (Jvm.Cond.fieldLinkNest "RainStreets" (114 : Nat) "RainStreets$Corner" "parking" "I" "RainStreets") ∈ lw_tbl := lw_at lw_m2 94 rfl
theorem q395 : (Jvm.Cond.fieldLinkNest "RainStreets" (533 : Nat) "RainStreets$Corner" "cellar" "I" "RainStreets") ∈ lw_tbl := lw_at lw_m2 97 rfl
theorem q398 : (Jvm.Cond.fieldLinkNest "RainStreets" (104 : Nat) "RainStreets$Corner" "below" "I" "RainStreets") ∈ lw_tbl := lw_at lw_m2 100 rfl
theorem q399 : (Jvm.Cond.fieldLinkNest "RainStreets" (388 : Nat) "RainStreets$Corner" "spilt" "I" "RainStreets") ∈ lw_tbl := lw_at lw_m2 101 rfl
theorem q400 : (Jvm.Cond.fieldLinkNest "RainStreets" (394 : Nat) "RainStreets$Corner" "most" "I" "RainStreets") ∈ lw_tbl := lw_at lw_m2 102 rfl
theorem q401 : (Jvm.Cond.fieldLinkNest "RainStreets" (399 : Nat) "RainStreets$Corner" "wet" "I" "RainStreets") ∈ lw_tbl := lw_at lw_m2 103 rfl
theorem q403 : (Jvm.Cond.fieldLinkNest "RainStreets" (91 : Nat) "RainStreets$Corner" "bed" "LRainStreets$Bed;" "RainStreets") ∈ lw_tbl := lw_at lw_m2 105 rfl
theorem q406 : (Jvm.Cond.fieldLinkNest "RainStreets" (110 : Nat) "RainStreets$Corner" "roofs" "Ljava/util/ArrayList;" "RainStreets") ∈ lw_tbl := lw_at lw_m2 108 rfl
theorem q430 : (Jvm.Cond.methodLink "RainStreets" (100 : Nat) ({ cls := "java/util/ArrayList", name := "add", desc := "(Ljava/lang/Object;)Z" } : Jvm.MethodName)) ∈ lw_all := lw_g (lw_at lw_m2 132 rfl) rfl
theorem q462 : (Jvm.Cond.selects "RainStreets" ({ cls := "java/lang/Object", name := "getClass", desc := "()Ljava/lang/Class;" } : Jvm.MethodName) ({ cls := "java/lang/Object", name := "getClass", desc := "()Ljava/lang/Class;" } : Jvm.MethodName)) ∈ lw_all := lw_g (lw_at lw_m2 164 rfl) rfl
theorem q493 : (Jvm.Cond.instanceMethod ({ cls := "RainStreets", name := "below", desc := "(II)Z" } : Jvm.MethodName)) ∈ lw_all := lw_g (lw_at lw_m2 195 rfl) rfl
theorem q494 : (Jvm.Cond.selects "RainStreets" ({ cls := "RainStreets", name := "below", desc := "(II)Z" } : Jvm.MethodName) ({ cls := "RainStreets", name := "below", desc := "(II)Z" } : Jvm.MethodName)) ∈ lw_all := lw_g (lw_at lw_m2 196 rfl) rfl
theorem q495 : (Jvm.Cond.code ({ cls := "RainStreets", name := "below", desc := "(II)Z" } : Jvm.MethodName) prog_1_method_8_code (3 : Nat) (Option.some Jvm.ClassFile.FieldType.boolean)) ∈ lw_all := lw_g (lw_at lw_m2 197 rfl) rfl
theorem q496 : (Jvm.Cond.methodLink "RainStreets" (87 : Nat) ({ cls := "RainStreets", name := "at", desc := "(I)LRainStreets$Corner;" } : Jvm.MethodName)) ∈ lw_all := lw_g (lw_at lw_m2 198 rfl) rfl
theorem q497 : (Jvm.Cond.privateMethod ({ cls := "RainStreets", name := "at", desc := "(I)LRainStreets$Corner;" } : Jvm.MethodName)) ∈ lw_tbl := lw_at lw_m2 199 rfl
theorem q498 : (Jvm.Cond.instanceMethod ({ cls := "RainStreets", name := "at", desc := "(I)LRainStreets$Corner;" } : Jvm.MethodName)) ∈ lw_all := lw_g (lw_at lw_m2 200 rfl) rfl
theorem q499 : (Jvm.Cond.code ({ cls := "RainStreets", name := "at", desc := "(I)LRainStreets$Corner;" } : Jvm.MethodName) prog_1_method_4_code (2 : Nat) (Option.some (Jvm.ClassFile.FieldType.object "RainStreets$Corner"))) ∈ lw_all := lw_g (lw_at lw_m2 201 rfl) rfl
theorem q500 : (Jvm.Cond.methodLink "RainStreets" (81 : Nat) ({ cls := "java/util/ArrayList", name := "get", desc := "(I)Ljava/lang/Object;" } : Jvm.MethodName)) ∈ lw_all := lw_g (lw_at lw_m2 202 rfl) rfl
theorem q515 : (Jvm.Cond.instanceMethod ({ cls := "RainStreets", name := "roof", desc := "(IIII)I" } : Jvm.MethodName)) ∈ lw_all := lw_g (lw_at lw_m2 217 rfl) rfl
theorem q516 : (Jvm.Cond.selects "RainStreets" ({ cls := "RainStreets", name := "roof", desc := "(IIII)I" } : Jvm.MethodName) ({ cls := "RainStreets", name := "roof", desc := "(IIII)I" } : Jvm.MethodName)) ∈ lw_all := lw_g (lw_at lw_m2 218 rfl) rfl
theorem q517 : (Jvm.Cond.code ({ cls := "RainStreets", name := "roof", desc := "(IIII)I" } : Jvm.MethodName) prog_1_method_9_code (7 : Nat) (Option.some Jvm.ClassFile.FieldType.int)) ∈ lw_all := lw_g (lw_at lw_m2 219 rfl) rfl
theorem q518 : (Jvm.Cond.classLink "RainStreets" (95 : Nat) "RainStreets$Roof") ∈ lw_all := lw_g (lw_at lw_m2 220 rfl) rfl
theorem q520 : (Jvm.Cond.methodLink "RainStreets" (107 : Nat) ({ cls := "RainStreets$Roof", name := "<init>", desc := "(ILRainStreets$Corner;III)V" } : Jvm.MethodName)) ∈ lw_all := lw_g (lw_at lw_m2 222 rfl) rfl
theorem q526 : (Jvm.Cond.fieldLinkNest "RainStreets" (111 : Nat) "RainStreets$Roof" "number" "I" "RainStreets") ∈ lw_tbl := lw_at lw_m2 228 rfl
theorem q528 : (Jvm.Cond.fieldLinkNest "RainStreets" (489 : Nat) "RainStreets$Roof" "owner" "I" "RainStreets") ∈ lw_tbl := lw_at lw_m2 230 rfl
theorem q531 : (Jvm.Cond.fieldLinkNest "RainStreets" (492 : Nat) "RainStreets$Roof" "area" "I" "RainStreets") ∈ lw_tbl := lw_at lw_m2 233 rfl
theorem q534 : (Jvm.Cond.fieldLinkNest "RainStreets" (483 : Nat) "RainStreets$Roof" "barrel" "I" "RainStreets") ∈ lw_tbl := lw_at lw_m2 236 rfl
theorem q536 : (Jvm.Cond.fieldLinkNest "RainStreets" (498 : Nat) "RainStreets$Roof" "at" "LRainStreets$Corner;" "RainStreets") ∈ lw_tbl := lw_at lw_m2 238 rfl
theorem q538 : (Jvm.Cond.fieldLinkNest "RainStreets" (368 : Nat) "RainStreets$Roof" "filled" "I" "RainStreets") ∈ lw_tbl := lw_at lw_m3 0 rfl
theorem q539 : (Jvm.Cond.fieldLinkNest "RainStreets" (486 : Nat) "RainStreets$Roof" "proved" "I" "RainStreets") ∈ lw_tbl := lw_at lw_m3 1 rfl
theorem q556 : (Jvm.Cond.instanceMethod ({ cls := "RainStreets", name := "lot", desc := "(II)Z" } : Jvm.MethodName)) ∈ lw_all := lw_g (lw_at lw_m3 18 rfl) rfl
theorem q557 : (Jvm.Cond.selects "RainStreets" ({ cls := "RainStreets", name := "lot", desc := "(II)Z" } : Jvm.MethodName) ({ cls := "RainStreets", name := "lot", desc := "(II)Z" } : Jvm.MethodName)) ∈ lw_all := lw_g (lw_at lw_m3 19 rfl) rfl
theorem q558 : (Jvm.Cond.code ({ cls := "RainStreets", name := "lot", desc := "(II)Z" } : Jvm.MethodName) prog_1_method_10_code (3 : Nat) (Option.some Jvm.ClassFile.FieldType.boolean)) ∈ lw_all := lw_g (lw_at lw_m3 20 rfl) rfl
theorem q560 : (Jvm.Cond.instanceMethod ({ cls := "RainStreets", name := "bed", desc := "(IIIZ)Z" } : Jvm.MethodName)) ∈ lw_all := lw_g (lw_at lw_m3 22 rfl) rfl
theorem q561 : (Jvm.Cond.selects "RainStreets" ({ cls := "RainStreets", name := "bed", desc := "(IIIZ)Z" } : Jvm.MethodName) ({ cls := "RainStreets", name := "bed", desc := "(IIIZ)Z" } : Jvm.MethodName)) ∈ lw_all := lw_g (lw_at lw_m3 23 rfl) rfl
theorem q562 : (Jvm.Cond.code ({ cls := "RainStreets", name := "bed", desc := "(IIIZ)Z" } : Jvm.MethodName) prog_1_method_12_code (6 : Nat) (Option.some Jvm.ClassFile.FieldType.boolean)) ∈ lw_all := lw_g (lw_at lw_m3 24 rfl) rfl
theorem q563 : (Jvm.Cond.methodLink "RainStreets" (117 : Nat) ({ cls := "RainStreets", name := "parking", desc := "()I" } : Jvm.MethodName)) ∈ lw_all := lw_g (lw_at lw_m3 25 rfl) rfl
theorem q564 : (Jvm.Cond.privateMethod ({ cls := "RainStreets", name := "parking", desc := "()I" } : Jvm.MethodName)) ∈ lw_tbl := lw_at lw_m3 26 rfl
theorem q565 : (Jvm.Cond.instanceMethod ({ cls := "RainStreets", name := "parking", desc := "()I" } : Jvm.MethodName)) ∈ lw_all := lw_g (lw_at lw_m3 27 rfl) rfl
theorem q566 : (Jvm.Cond.code ({ cls := "RainStreets", name := "parking", desc := "()I" } : Jvm.MethodName) prog_1_method_11_code (3 : Nat) (Option.some Jvm.ClassFile.FieldType.int)) ∈ lw_all := lw_g (lw_at lw_m3 28 rfl) rfl
theorem q567 : (Jvm.Cond.methodLink "RainStreets" (122 : Nat) ({ cls := "RainStreets", name := "on", desc := "(I)LRainStreets$Rules;" } : Jvm.MethodName)) ∈ lw_all := lw_g (lw_at lw_m3 29 rfl) rfl
theorem q568 : (Jvm.Cond.privateMethod ({ cls := "RainStreets", name := "on", desc := "(I)LRainStreets$Rules;" } : Jvm.MethodName)) ∈ lw_tbl := lw_at lw_m3 30 rfl
theorem q569 : (Jvm.Cond.instanceMethod ({ cls := "RainStreets", name := "on", desc := "(I)LRainStreets$Rules;" } : Jvm.MethodName)) ∈ lw_all := lw_g (lw_at lw_m3 31 rfl) rfl
theorem q570 : (Jvm.Cond.code ({ cls := "RainStreets", name := "on", desc := "(I)LRainStreets$Rules;" } : Jvm.MethodName) prog_1_method_16_code (2 : Nat) (Option.some (Jvm.ClassFile.FieldType.object "RainStreets$Rules"))) ∈ lw_all := lw_g (lw_at lw_m3 32 rfl) rfl
theorem q571 : (Jvm.Cond.methodLink "RainStreets" (168 : Nat) ({ cls := "RainStreets", name := "numberOn", desc := "(I)I" } : Jvm.MethodName)) ∈ lw_all := lw_g (lw_at lw_m3 33 rfl) rfl
theorem q572 : (Jvm.Cond.privateMethod ({ cls := "RainStreets", name := "numberOn", desc := "(I)I" } : Jvm.MethodName)) ∈ lw_tbl := lw_at lw_m3 34 rfl
theorem q573 : (Jvm.Cond.instanceMethod ({ cls := "RainStreets", name := "numberOn", desc := "(I)I" } : Jvm.MethodName)) ∈ lw_all := lw_g (lw_at lw_m3 35 rfl) rfl
theorem q574 : (Jvm.Cond.code ({ cls := "RainStreets", name := "numberOn", desc := "(I)I" } : Jvm.MethodName) prog_1_method_15_code (4 : Nat) (Option.some Jvm.ClassFile.FieldType.int)) ∈ lw_all := lw_g (lw_at lw_m3 36 rfl) rfl
theorem q575 : (Jvm.Cond.classLink "RainStreets" (127 : Nat) "RainStreets$Bed") ∈ lw_all := lw_g (lw_at lw_m3 37 rfl) rfl
theorem q577 : (Jvm.Cond.methodLink "RainStreets" (129 : Nat) ({ cls := "RainStreets$Bed", name := "<init>", desc := "(LRainStreets;LRainStreets$Corner;IIZ)V" } : Jvm.MethodName)) ∈ lw_all := lw_g (lw_at lw_m3 39 rfl) rfl
theorem q582 : (Jvm.Cond.fieldLinkNest "RainStreets" (355 : Nat) "RainStreets$Bed" "at" "LRainStreets$Corner;" "RainStreets") ∈ lw_tbl := lw_at lw_m3 44 rfl
theorem q584 : (Jvm.Cond.fieldLinkNest "RainStreets" (505 : Nat) "RainStreets$Bed" "lot" "I" "RainStreets") ∈ lw_tbl := lw_at lw_m3 46 rfl
theorem q587 : (Jvm.Cond.fieldLinkNest "RainStreets" (536 : Nat) "RainStreets$Bed" "bowl" "I" "RainStreets") ∈ lw_tbl := lw_at lw_m3 49 rfl
theorem q589 : (Jvm.Cond.fieldLinkNest "RainStreets" (540 : Nat) "RainStreets$Bed" "made" "I" "RainStreets") ∈ lw_tbl := lw_at lw_m3 51 rfl
theorem q591 : (Jvm.Cond.fieldLinkNest "RainStreets" (537 : Nat) "RainStreets$Bed" "hasTree" "Z" "RainStreets") ∈ lw_tbl := lw_at lw_m3 53 rfl
theorem q593 : (Jvm.Cond.fieldLinkNest "RainStreets" (143 : Nat) "RainStreets$Bed" "clog" "I" "RainStreets") ∈ lw_tbl := lw_at lw_m3 55 rfl
theorem q596 : (Jvm.Cond.fieldLinkNest "RainStreets" (152 : Nat) "RainStreets$Bed" "leaves" "I" "RainStreets") ∈ lw_tbl := lw_at lw_m3 58 rfl
theorem q598 : (Jvm.Cond.fieldLinkNest "RainStreets" (159 : Nat) "RainStreets$Bed" "salt" "I" "RainStreets") ∈ lw_tbl := lw_at lw_m3 60 rfl
theorem q600 : (Jvm.Cond.fieldLinkNest "RainStreets" (401 : Nat) "RainStreets$Bed" "filled" "I" "RainStreets") ∈ lw_tbl := lw_at lw_m3 62 rfl
theorem q602 : (Jvm.Cond.fieldLinkNest "RainStreets" (352 : Nat) "RainStreets$Bed" "stands" "I" "RainStreets") ∈ lw_tbl := lw_at lw_m3 64 rfl
theorem q604 : (Jvm.Cond.fieldLinkNest "RainStreets" (500 : Nat) "RainStreets$Bed" "look" "I" "RainStreets") ∈ lw_tbl := lw_at lw_m3 66 rfl
theorem q606 : (Jvm.Cond.fieldLinkNest "RainStreets" (140 : Nat) "RainStreets$Bed" "cared" "I" "RainStreets") ∈ lw_tbl := lw_at lw_m3 68 rfl
theorem q608 : (Jvm.Cond.fieldLinkNest "RainStreets" (155 : Nat) "RainStreets$Bed" "hasPlants" "Z" "RainStreets") ∈ lw_tbl := lw_at lw_m3 70 rfl
theorem q640 : (Jvm.Cond.instanceMethod ({ cls := "RainStreets", name := "care", desc := "(II)Z" } : Jvm.MethodName)) ∈ lw_all := lw_g (lw_at lw_m3 102 rfl) rfl
theorem q641 : (Jvm.Cond.selects "RainStreets" ({ cls := "RainStreets", name := "care", desc := "(II)Z" } : Jvm.MethodName) ({ cls := "RainStreets", name := "care", desc := "(II)Z" } : Jvm.MethodName)) ∈ lw_all := lw_g (lw_at lw_m3 103 rfl) rfl
theorem q642 : (Jvm.Cond.code ({ cls := "RainStreets", name := "care", desc := "(II)Z" } : Jvm.MethodName) prog_1_method_13_code (4 : Nat) (Option.some Jvm.ClassFile.FieldType.boolean)) ∈ lw_all := lw_g (lw_at lw_m3 104 rfl) rfl
theorem q643 : (Jvm.Cond.methodLink "RainStreets" (132 : Nat) ({ cls := "RainStreets", name := "bedAt", desc := "(I)LRainStreets$Bed;" } : Jvm.MethodName)) ∈ lw_all := lw_g (lw_at lw_m3 105 rfl) rfl
theorem q644 : (Jvm.Cond.privateMethod ({ cls := "RainStreets", name := "bedAt", desc := "(I)LRainStreets$Bed;" } : Jvm.MethodName)) ∈ lw_tbl := lw_at lw_m3 106 rfl
theorem q645 : (Jvm.Cond.instanceMethod ({ cls := "RainStreets", name := "bedAt", desc := "(I)LRainStreets$Bed;" } : Jvm.MethodName)) ∈ lw_all := lw_g (lw_at lw_m3 107 rfl) rfl
theorem q646 : (Jvm.Cond.code ({ cls := "RainStreets", name := "bedAt", desc := "(I)LRainStreets$Bed;" } : Jvm.MethodName) prog_1_method_5_code (2 : Nat) (Option.some (Jvm.ClassFile.FieldType.object "RainStreets$Bed"))) ∈ lw_all := lw_g (lw_at lw_m3 108 rfl) rfl
theorem q647 : (Jvm.Cond.methodLink "RainStreets" (136 : Nat) ({ cls := "RainStreets$Bed", name := "isCaredBy", desc := "(I)Z" } : Jvm.MethodName)) ∈ lw_all := lw_g (lw_at lw_m3 109 rfl) rfl
theorem q651 : (Jvm.Cond.methodLink "RainStreets" (146 : Nat) ({ cls := "java/lang/Math", name := "max", desc := "(II)I" } : Jvm.MethodName)) ∈ lw_all := lw_g (lw_at lw_m3 113 rfl) rfl
theorem q653 : (Jvm.Cond.instanceMethod ({ cls := "RainStreets", name := "treat", desc := "(II)Z" } : Jvm.MethodName)) ∈ lw_all := lw_g (lw_at lw_m3 115 rfl) rfl
theorem q654 : (Jvm.Cond.selects "RainStreets" ({ cls := "RainStreets", name := "treat", desc := "(II)Z" } : Jvm.MethodName) ({ cls := "RainStreets", name := "treat", desc := "(II)Z" } : Jvm.MethodName)) ∈ lw_all := lw_g (lw_at lw_m3 116 rfl) rfl
theorem q655 : (Jvm.Cond.code ({ cls := "RainStreets", name := "treat", desc := "(II)Z" } : Jvm.MethodName) prog_1_method_14_code (4 : Nat) (Option.some Jvm.ClassFile.FieldType.boolean)) ∈ lw_all := lw_g (lw_at lw_m3 117 rfl) rfl
theorem q656 : (Jvm.Cond.methodLink "RainStreets" (162 : Nat) ({ cls := "java/lang/Math", name := "min", desc := "(II)I" } : Jvm.MethodName)) ∈ lw_all := lw_g (lw_at lw_m3 118 rfl) rfl
theorem q658 : (Jvm.Cond.instanceMethod ({ cls := "RainStreets", name := "feed", desc := "(IIIII)I" } : Jvm.MethodName)) ∈ lw_all := lw_g (lw_at lw_m3 120 rfl) rfl
theorem q659 : (Jvm.Cond.selects "RainStreets" ({ cls := "RainStreets", name := "feed", desc := "(IIIII)I" } : Jvm.MethodName) ({ cls := "RainStreets", name := "feed", desc := "(IIIII)I" } : Jvm.MethodName)) ∈ lw_all := lw_g (lw_at lw_m3 121 rfl) rfl
theorem q660 : (Jvm.Cond.code ({ cls := "RainStreets", name := "feed", desc := "(IIIII)I" } : Jvm.MethodName) prog_1_method_17_code (6 : Nat) (Option.some Jvm.ClassFile.FieldType.int)) ∈ lw_all := lw_g (lw_at lw_m3 122 rfl) rfl
theorem q661 : (Jvm.Cond.methodLink "RainStreets" (175 : Nat) ({ cls := "RainStreets", name := "tapes", desc := "([I)I" } : Jvm.MethodName)) ∈ lw_all := lw_g (lw_at lw_m3 123 rfl) rfl
theorem q662 : (Jvm.Cond.privateMethod ({ cls := "RainStreets", name := "tapes", desc := "([I)I" } : Jvm.MethodName)) ∈ lw_tbl := lw_at lw_m3 124 rfl
theorem q663 : (Jvm.Cond.instanceMethod ({ cls := "RainStreets", name := "tapes", desc := "([I)I" } : Jvm.MethodName)) ∈ lw_all := lw_g (lw_at lw_m3 125 rfl) rfl
theorem q664 : (Jvm.Cond.code ({ cls := "RainStreets", name := "tapes", desc := "([I)I" } : Jvm.MethodName) prog_1_method_18_code (7 : Nat) (Option.some Jvm.ClassFile.FieldType.int)) ∈ lw_all := lw_g (lw_at lw_m3 126 rfl) rfl
theorem q666 : (Jvm.Cond.instanceMethod ({ cls := "RainStreets", name := "rules", desc := "(I)I" } : Jvm.MethodName)) ∈ lw_all := lw_g (lw_at lw_m3 128 rfl) rfl
theorem q667 : (Jvm.Cond.selects "RainStreets" ({ cls := "RainStreets", name := "rules", desc := "(I)I" } : Jvm.MethodName) ({ cls := "RainStreets", name := "rules", desc := "(I)I" } : Jvm.MethodName)) ∈ lw_all := lw_g (lw_at lw_m3 129 rfl) rfl
theorem q668 : (Jvm.Cond.codeWith ({ cls := "RainStreets", name := "rules", desc := "(I)I" } : Jvm.MethodName) prog_1_method_31_code (6 : Nat) (Option.some Jvm.ClassFile.FieldType.int) [((57 : Nat), (128 : Nat), (135 : Nat), (214 : Nat)), ((57 : Nat), (128 : Nat), (155 : Nat), (0 : Nat)), ((135 : Nat), (147 : Nat), (155 : Nat), (0 : Nat)), ((155 : Nat), (157 : Nat), (155 : Nat), (0 : Nat))]) ∈ lw_all := lw_g (lw_at lw_m3 130 rfl) rfl
theorem q669 : (Jvm.Cond.classLink "RainStreets" (214 : Nat) "RainStreets$Wrong") ∈ lw_all := lw_g (lw_at lw_m3 131 rfl) rfl
theorem q670 : (Jvm.Cond.methodLink "RainStreets" (217 : Nat) ({ cls := "RainStreets", name := "next", desc := "()V" } : Jvm.MethodName)) ∈ lw_all := lw_g (lw_at lw_m3 132 rfl) rfl
theorem q671 : (Jvm.Cond.privateMethod ({ cls := "RainStreets", name := "next", desc := "()V" } : Jvm.MethodName)) ∈ lw_tbl := lw_at lw_m3 133 rfl
theorem q672 : (Jvm.Cond.instanceMethod ({ cls := "RainStreets", name := "next", desc := "()V" } : Jvm.MethodName)) ∈ lw_all := lw_g (lw_at lw_m3 134 rfl) rfl
theorem q673 : (Jvm.Cond.code ({ cls := "RainStreets", name := "next", desc := "()V" } : Jvm.MethodName) prog_1_method_22_code (3 : Nat) (Option.none : Option Jvm.ClassFile.FieldType)) ∈ lw_all := lw_g (lw_at lw_m3 135 rfl) rfl
theorem q674 : (Jvm.Cond.methodLink "RainStreets" (185 : Nat) ({ cls := "RainStreets", name := "here", desc := "(I)I" } : Jvm.MethodName)) ∈ lw_all := lw_g (lw_at lw_m3 136 rfl) rfl
theorem q675 : (Jvm.Cond.privateMethod ({ cls := "RainStreets", name := "here", desc := "(I)I" } : Jvm.MethodName)) ∈ lw_tbl := lw_at lw_m3 137 rfl
theorem q676 : (Jvm.Cond.instanceMethod ({ cls := "RainStreets", name := "here", desc := "(I)I" } : Jvm.MethodName)) ∈ lw_all := lw_g (lw_at lw_m3 138 rfl) rfl
theorem q677 : (Jvm.Cond.code ({ cls := "RainStreets", name := "here", desc := "(I)I" } : Jvm.MethodName) prog_1_method_19_code (2 : Nat) (Option.some Jvm.ClassFile.FieldType.int)) ∈ lw_all := lw_g (lw_at lw_m3 139 rfl) rfl
theorem q678 : (Jvm.Cond.methodLink "RainStreets" (193 : Nat) ({ cls := "RainStreets", name := "isLetter", desc := "(I)Z" } : Jvm.MethodName)) ∈ lw_all := lw_g (lw_at lw_m3 140 rfl) rfl
theorem q679 : (Jvm.Cond.static ({ cls := "RainStreets", name := "isLetter", desc := "(I)Z" } : Jvm.MethodName)) ∈ lw_all := lw_g (lw_at lw_m3 141 rfl) rfl
theorem q680 : (Jvm.Cond.code ({ cls := "RainStreets", name := "isLetter", desc := "(I)Z" } : Jvm.MethodName) prog_1_method_20_code (1 : Nat) (Option.some Jvm.ClassFile.FieldType.boolean)) ∈ lw_all := lw_g (lw_at lw_m3 142 rfl) rfl
theorem q681 : (Jvm.Cond.classLink "RainStreets" (196 : Nat) "java/lang/StringBuilder") ∈ lw_all := lw_g (lw_at lw_m3 143 rfl) rfl
theorem q683 : (Jvm.Cond.methodLink "RainStreets" (198 : Nat) ({ cls := "java/lang/StringBuilder", name := "<init>", desc := "()V" } : Jvm.MethodName)) ∈ lw_all := lw_g (lw_at lw_m3 145 rfl) rfl
theorem q712 : (Jvm.Cond.methodLink "RainStreets" (199 : Nat) ({ cls := "java/lang/StringBuilder", name := "append", desc := "(C)Ljava/lang/StringBuilder;" } : Jvm.MethodName)) ∈ lw_all := lw_g (lw_at lw_m3 174 rfl) rfl
theorem q790 : (Jvm.Cond.methodLink "RainStreets" (203 : Nat) ({ cls := "java/lang/StringBuilder", name := "toString", desc := "()Ljava/lang/String;" } : Jvm.MethodName)) ∈ lw_all := lw_g (lw_at lw_m4 12 rfl) rfl
theorem q853 : (Jvm.Cond.methodLink "RainStreets" (207 : Nat) ({ cls := "RainStreets", name := "isDigit", desc := "(I)Z" } : Jvm.MethodName)) ∈ lw_all := lw_g (lw_at lw_m4 75 rfl) rfl
theorem q854 : (Jvm.Cond.static ({ cls := "RainStreets", name := "isDigit", desc := "(I)Z" } : Jvm.MethodName)) ∈ lw_all := lw_g (lw_at lw_m4 76 rfl) rfl
theorem q855 : (Jvm.Cond.code ({ cls := "RainStreets", name := "isDigit", desc := "(I)Z" } : Jvm.MethodName) prog_1_method_21_code (1 : Nat) (Option.some Jvm.ClassFile.FieldType.boolean)) ∈ lw_all := lw_g (lw_at lw_m4 77 rfl) rfl
theorem q856 : (Jvm.Cond.constant "RainStreets" (213 : Nat) (100000 : Int32)) ∈ lw_all := lw_g (lw_at lw_m4 78 rfl) rfl
theorem q895 : (Jvm.Cond.methodLink "RainStreets" (216 : Nat) ({ cls := "RainStreets$Wrong", name := "<init>", desc := "(I)V" } : Jvm.MethodName)) ∈ lw_all := lw_g (lw_at lw_m4 117 rfl) rfl
theorem q908 : (Jvm.Cond.fieldLinkNest "RainStreets" (324 : Nat) "RainStreets$Wrong" "at" "I" "RainStreets") ∈ lw_tbl := lw_at lw_m4 130 rfl
theorem q924 : (Jvm.Cond.methodLink "RainStreets" (321 : Nat) ({ cls := "RainStreets", name := "statement", desc := "(LRainStreets$Rules;)V" } : Jvm.MethodName)) ∈ lw_all := lw_g (lw_at lw_m4 146 rfl) rfl
theorem q925 : (Jvm.Cond.privateMethod ({ cls := "RainStreets", name := "statement", desc := "(LRainStreets$Rules;)V" } : Jvm.MethodName)) ∈ lw_tbl := lw_at lw_m4 147 rfl
theorem q926 : (Jvm.Cond.instanceMethod ({ cls := "RainStreets", name := "statement", desc := "(LRainStreets$Rules;)V" } : Jvm.MethodName)) ∈ lw_all := lw_g (lw_at lw_m4 148 rfl) rfl
theorem q927 : (Jvm.Cond.code ({ cls := "RainStreets", name := "statement", desc := "(LRainStreets$Rules;)V" } : Jvm.MethodName) prog_1_method_30_code (5 : Nat) (Option.none : Option Jvm.ClassFile.FieldType)) ∈ lw_all := lw_g (lw_at lw_m4 149 rfl) rfl
theorem q928 : (Jvm.Cond.methodLink "RainStreets" (276 : Nat) ({ cls := "RainStreets", name := "isOne", desc := "(Ljava/lang/String;)Z" } : Jvm.MethodName)) ∈ lw_all := lw_g (lw_at lw_m4 150 rfl) rfl
theorem q929 : (Jvm.Cond.static ({ cls := "RainStreets", name := "isOne", desc := "(Ljava/lang/String;)Z" } : Jvm.MethodName)) ∈ lw_all := lw_g (lw_at lw_m4 151 rfl) rfl
theorem q930 : (Jvm.Cond.code ({ cls := "RainStreets", name := "isOne", desc := "(Ljava/lang/String;)Z" } : Jvm.MethodName) prog_1_method_29_code (3 : Nat) (Option.some Jvm.ClassFile.FieldType.boolean)) ∈ lw_all := lw_g (lw_at lw_m4 152 rfl) rfl
theorem q931 : (Jvm.Cond.methodLink "RainStreets" (255 : Nat) ({ cls := "java/lang/String", name := "hashCode", desc := "()I" } : Jvm.MethodName)) ∈ lw_all := lw_g (lw_at lw_m4 153 rfl) rfl
theorem q984 : (Jvm.Cond.stringRef "RainStreets" (258 : Nat) "turn") ∈ lw_tbl := lw_at lw_m4 206 rfl
theorem q985 : (Jvm.Cond.methodLink "RainStreets" (226 : Nat) ({ cls := "java/lang/String", name := "equals", desc := "(Ljava/lang/Object;)Z" } : Jvm.MethodName)) ∈ lw_all := lw_g (lw_at lw_m4 207 rfl) rfl
theorem q993 : (Jvm.Cond.stringRef "RainStreets" (260 : Nat) "clog") ∈ lw_tbl := lw_at lw_m4 215 rfl
theorem q994 : (Jvm.Cond.stringRef "RainStreets" (261 : Nat) "leaves") ∈ lw_tbl := lw_at lw_m4 216 rfl
theorem q995 : (Jvm.Cond.stringRef "RainStreets" (262 : Nat) "owe") ∈ lw_tbl := lw_at lw_m4 217 rfl
theorem q996 : (Jvm.Cond.stringRef "RainStreets" (264 : Nat) "parking") ∈ lw_tbl := lw_at lw_m4 218 rfl
theorem q997 : (Jvm.Cond.stringRef "RainStreets" (265 : Nat) "salt") ∈ lw_tbl := lw_at lw_m4 219 rfl
theorem q998 : (Jvm.Cond.stringRef "RainStreets" (266 : Nat) "stand") ∈ lw_tbl := lw_at lw_m4 220 rfl
theorem q999 : (Jvm.Cond.stringRef "RainStreets" (268 : Nat) "fee") ∈ lw_tbl := lw_at lw_m4 221 rfl
theorem q1000 : (Jvm.Cond.stringRef "RainStreets" (270 : Nat) "cost") ∈ lw_tbl := lw_at lw_m4 222 rfl
theorem q1001 : (Jvm.Cond.stringRef "RainStreets" (272 : Nat) "doubt") ∈ lw_tbl := lw_at lw_m4 223 rfl
theorem q1002 : (Jvm.Cond.stringRef "RainStreets" (274 : Nat) "look") ∈ lw_tbl := lw_at lw_m4 224 rfl
theorem q1003 : (Jvm.Cond.methodLink "RainStreets" (220 : Nat) ({ cls := "RainStreets", name := "must", desc := "(Z)V" } : Jvm.MethodName)) ∈ lw_all := lw_g (lw_at lw_m4 225 rfl) rfl
theorem q1004 : (Jvm.Cond.privateMethod ({ cls := "RainStreets", name := "must", desc := "(Z)V" } : Jvm.MethodName)) ∈ lw_tbl := lw_at lw_m4 226 rfl
theorem q1005 : (Jvm.Cond.instanceMethod ({ cls := "RainStreets", name := "must", desc := "(Z)V" } : Jvm.MethodName)) ∈ lw_all := lw_g (lw_at lw_m4 227 rfl) rfl
theorem q1006 : (Jvm.Cond.code ({ cls := "RainStreets", name := "must", desc := "(Z)V" } : Jvm.MethodName) prog_1_method_23_code (2 : Nat) (Option.none : Option Jvm.ClassFile.FieldType)) ∈ lw_all := lw_g (lw_at lw_m4 228 rfl) rfl
theorem q1007 : (Jvm.Cond.methodLink "RainStreets" (283 : Nat) ({ cls := "RainStreets", name := "turn", desc := "()LRainStreets$Turn;" } : Jvm.MethodName)) ∈ lw_all := lw_g (lw_at lw_m4 229 rfl) rfl
theorem q1008 : (Jvm.Cond.privateMethod ({ cls := "RainStreets", name := "turn", desc := "()LRainStreets$Turn;" } : Jvm.MethodName)) ∈ lw_tbl := lw_at lw_m4 230 rfl
theorem q1009 : (Jvm.Cond.instanceMethod ({ cls := "RainStreets", name := "turn", desc := "()LRainStreets$Turn;" } : Jvm.MethodName)) ∈ lw_all := lw_g (lw_at lw_m4 231 rfl) rfl
theorem q1010 : (Jvm.Cond.code ({ cls := "RainStreets", name := "turn", desc := "()LRainStreets$Turn;" } : Jvm.MethodName) prog_1_method_27_code (4 : Nat) (Option.some (Jvm.ClassFile.FieldType.object "RainStreets$Turn"))) ∈ lw_all := lw_g (lw_at lw_m4 232 rfl) rfl
theorem q1011 : (Jvm.Cond.methodLink "RainStreets" (231 : Nat) ({ cls := "RainStreets", name := "any", desc := "()I" } : Jvm.MethodName)) ∈ lw_all := lw_g (lw_at lw_m4 233 rfl) rfl
theorem q1012 : (Jvm.Cond.privateMethod ({ cls := "RainStreets", name := "any", desc := "()I" } : Jvm.MethodName)) ∈ lw_tbl := lw_at lw_m4 234 rfl
theorem q1013 : (Jvm.Cond.instanceMethod ({ cls := "RainStreets", name := "any", desc := "()I" } : Jvm.MethodName)) ∈ lw_all := lw_g (lw_at lw_m4 235 rfl) rfl
theorem q1014 : (Jvm.Cond.code ({ cls := "RainStreets", name := "any", desc := "()I" } : Jvm.MethodName) prog_1_method_25_code (1 : Nat) (Option.some Jvm.ClassFile.FieldType.int)) ∈ lw_all := lw_g (lw_at lw_m4 236 rfl) rfl
theorem q1015 : (Jvm.Cond.methodLink "RainStreets" (224 : Nat) ({ cls := "RainStreets", name := "number", desc := "(II)I" } : Jvm.MethodName)) ∈ lw_all := lw_g (lw_at lw_m4 237 rfl) rfl
theorem q1016 : (Jvm.Cond.privateMethod ({ cls := "RainStreets", name := "number", desc := "(II)I" } : Jvm.MethodName)) ∈ lw_tbl := lw_at lw_m4 238 rfl
theorem q1017 : (Jvm.Cond.instanceMethod ({ cls := "RainStreets", name := "number", desc := "(II)I" } : Jvm.MethodName)) ∈ lw_all := lw_g (lw_at lw_m4 239 rfl) rfl
theorem q1018 : (Jvm.Cond.code ({ cls := "RainStreets", name := "number", desc := "(II)I" } : Jvm.MethodName) prog_1_method_24_code (4 : Nat) (Option.some Jvm.ClassFile.FieldType.int)) ∈ lw_all := lw_g (lw_at lw_m5 0 rfl) rfl
theorem q1019 : (Jvm.Cond.stringRef "RainStreets" (234 : Nat) "at") ∈ lw_tbl := lw_at lw_m5 1 rfl
theorem q1020 : (Jvm.Cond.methodLink "RainStreets" (235 : Nat) ({ cls := "RainStreets", name := "after", desc := "(Ljava/lang/String;)I" } : Jvm.MethodName)) ∈ lw_all := lw_g (lw_at lw_m5 2 rfl) rfl
theorem q1021 : (Jvm.Cond.privateMethod ({ cls := "RainStreets", name := "after", desc := "(Ljava/lang/String;)I" } : Jvm.MethodName)) ∈ lw_tbl := lw_at lw_m5 3 rfl
theorem q1022 : (Jvm.Cond.instanceMethod ({ cls := "RainStreets", name := "after", desc := "(Ljava/lang/String;)I" } : Jvm.MethodName)) ∈ lw_all := lw_g (lw_at lw_m5 4 rfl) rfl
theorem q1023 : (Jvm.Cond.code ({ cls := "RainStreets", name := "after", desc := "(Ljava/lang/String;)I" } : Jvm.MethodName) prog_1_method_26_code (2 : Nat) (Option.some Jvm.ClassFile.FieldType.int)) ∈ lw_all := lw_g (lw_at lw_m5 5 rfl) rfl
theorem q1024 : (Jvm.Cond.stringRef "RainStreets" (239 : Nat) "every") ∈ lw_tbl := lw_at lw_m5 6 rfl
theorem q1025 : (Jvm.Cond.classLink "RainStreets" (241 : Nat) "RainStreets$Turn") ∈ lw_all := lw_g (lw_at lw_m5 7 rfl) rfl
theorem q1027 : (Jvm.Cond.stringRef "RainStreets" (243 : Nat) "from") ∈ lw_tbl := lw_at lw_m5 9 rfl
theorem q1028 : (Jvm.Cond.methodLinkNest "RainStreets" (244 : Nat) ({ cls := "RainStreets$Turn", name := "<init>", desc := "(IIII)V" } : Jvm.MethodName) "RainStreets") ∈ lw_tbl := lw_at lw_m5 10 rfl
theorem q1048 : (Jvm.Cond.stringRef "RainStreets" (253 : Nat) "to") ∈ lw_tbl := lw_at lw_m5 30 rfl
theorem q1049 : (Jvm.Cond.stringRef "RainStreets" (300 : Nat) "credit") ∈ lw_tbl := lw_at lw_m5 31 rfl
theorem q1050 : (Jvm.Cond.stringRef "RainStreets" (304 : Nat) "bed") ∈ lw_tbl := lw_at lw_m5 32 rfl
theorem q1051 : (Jvm.Cond.stringRef "RainStreets" (309 : Nat) "bowl") ∈ lw_tbl := lw_at lw_m5 33 rfl
theorem q1052 : (Jvm.Cond.methodLink "RainStreets" (315 : Nat) ({ cls := "RainStreets", name := "look", desc := "(LRainStreets$Rules;)V" } : Jvm.MethodName)) ∈ lw_all := lw_g (lw_at lw_m5 34 rfl) rfl
theorem q1053 : (Jvm.Cond.privateMethod ({ cls := "RainStreets", name := "look", desc := "(LRainStreets$Rules;)V" } : Jvm.MethodName)) ∈ lw_tbl := lw_at lw_m5 35 rfl
theorem q1054 : (Jvm.Cond.instanceMethod ({ cls := "RainStreets", name := "look", desc := "(LRainStreets$Rules;)V" } : Jvm.MethodName)) ∈ lw_all := lw_g (lw_at lw_m5 36 rfl) rfl
theorem q1055 : (Jvm.Cond.code ({ cls := "RainStreets", name := "look", desc := "(LRainStreets$Rules;)V" } : Jvm.MethodName) prog_1_method_28_code (3 : Nat) (Option.none : Option Jvm.ClassFile.FieldType)) ∈ lw_all := lw_g (lw_at lw_m5 37 rfl) rfl
theorem q1057 : (Jvm.Cond.instanceMethod ({ cls := "RainStreets", name := "fault", desc := "()I" } : Jvm.MethodName)) ∈ lw_all := lw_g (lw_at lw_m5 39 rfl) rfl
theorem q1058 : (Jvm.Cond.selects "RainStreets" ({ cls := "RainStreets", name := "fault", desc := "()I" } : Jvm.MethodName) ({ cls := "RainStreets", name := "fault", desc := "()I" } : Jvm.MethodName)) ∈ lw_all := lw_g (lw_at lw_m5 40 rfl) rfl
theorem q1059 : (Jvm.Cond.code ({ cls := "RainStreets", name := "fault", desc := "()I" } : Jvm.MethodName) prog_1_method_32_code (1 : Nat) (Option.some Jvm.ClassFile.FieldType.int)) ∈ lw_all := lw_g (lw_at lw_m5 41 rfl) rfl
theorem q1061 : (Jvm.Cond.instanceMethod ({ cls := "RainStreets", name := "law", desc := "(II)I" } : Jvm.MethodName)) ∈ lw_all := lw_g (lw_at lw_m5 43 rfl) rfl
theorem q1062 : (Jvm.Cond.selects "RainStreets" ({ cls := "RainStreets", name := "law", desc := "(II)I" } : Jvm.MethodName) ({ cls := "RainStreets", name := "law", desc := "(II)I" } : Jvm.MethodName)) ∈ lw_all := lw_g (lw_at lw_m5 44 rfl) rfl
theorem q1063 : (Jvm.Cond.code ({ cls := "RainStreets", name := "law", desc := "(II)I" } : Jvm.MethodName) prog_1_method_33_code (4 : Nat) (Option.some Jvm.ClassFile.FieldType.int)) ∈ lw_all := lw_g (lw_at lw_m5 45 rfl) rfl
theorem q1064 : (Jvm.Cond.methodLink "RainStreets" (326 : Nat) ({ cls := "RainStreets", name := "isDay", desc := "(I)Z" } : Jvm.MethodName)) ∈ lw_all := lw_g (lw_at lw_m5 46 rfl) rfl
theorem q1065 : (Jvm.Cond.static ({ cls := "RainStreets", name := "isDay", desc := "(I)Z" } : Jvm.MethodName)) ∈ lw_all := lw_g (lw_at lw_m5 47 rfl) rfl
theorem q1066 : (Jvm.Cond.code ({ cls := "RainStreets", name := "isDay", desc := "(I)Z" } : Jvm.MethodName) prog_1_method_2_code (1 : Nat) (Option.some Jvm.ClassFile.FieldType.boolean)) ∈ lw_all := lw_g (lw_at lw_m5 48 rfl) rfl
theorem q1068 : (Jvm.Cond.instanceMethod ({ cls := "RainStreets", name := "turn", desc := "(III)I" } : Jvm.MethodName)) ∈ lw_all := lw_g (lw_at lw_m5 50 rfl) rfl
theorem q1069 : (Jvm.Cond.selects "RainStreets" ({ cls := "RainStreets", name := "turn", desc := "(III)I" } : Jvm.MethodName) ({ cls := "RainStreets", name := "turn", desc := "(III)I" } : Jvm.MethodName)) ∈ lw_all := lw_g (lw_at lw_m5 51 rfl) rfl
theorem q1070 : (Jvm.Cond.code ({ cls := "RainStreets", name := "turn", desc := "(III)I" } : Jvm.MethodName) prog_1_method_34_code (7 : Nat) (Option.some Jvm.ClassFile.FieldType.int)) ∈ lw_all := lw_g (lw_at lw_m5 52 rfl) rfl
theorem q1071 : (Jvm.Cond.methodLink "RainStreets" (329 : Nat) ({ cls := "RainStreets$Turn", name := "neighbour", desc := "()I" } : Jvm.MethodName)) ∈ lw_all := lw_g (lw_at lw_m5 53 rfl) rfl
theorem q1075 : (Jvm.Cond.methodLink "RainStreets" (332 : Nat) ({ cls := "RainStreets$Turn", name := "corner", desc := "()I" } : Jvm.MethodName)) ∈ lw_all := lw_g (lw_at lw_m5 57 rfl) rfl
theorem q1079 : (Jvm.Cond.methodLink "RainStreets" (335 : Nat) ({ cls := "RainStreets$Turn", name := "isOn", desc := "(I)Z" } : Jvm.MethodName)) ∈ lw_all := lw_g (lw_at lw_m5 61 rfl) rfl
theorem q1084 : (Jvm.Cond.instanceMethod ({ cls := "RainStreets", name := "pass", desc := "(I)I" } : Jvm.MethodName)) ∈ lw_all := lw_g (lw_at lw_m5 66 rfl) rfl
theorem q1085 : (Jvm.Cond.selects "RainStreets" ({ cls := "RainStreets", name := "pass", desc := "(I)I" } : Jvm.MethodName) ({ cls := "RainStreets", name := "pass", desc := "(I)I" } : Jvm.MethodName)) ∈ lw_all := lw_g (lw_at lw_m5 67 rfl) rfl
theorem q1086 : (Jvm.Cond.code ({ cls := "RainStreets", name := "pass", desc := "(I)I" } : Jvm.MethodName) prog_1_method_38_code (3 : Nat) (Option.some Jvm.ClassFile.FieldType.int)) ∈ lw_all := lw_g (lw_at lw_m5 68 rfl) rfl
theorem q1087 : (Jvm.Cond.methodLink "RainStreets" (376 : Nat) ({ cls := "RainStreets", name := "day", desc := "()V" } : Jvm.MethodName)) ∈ lw_all := lw_g (lw_at lw_m5 69 rfl) rfl
theorem q1088 : (Jvm.Cond.privateMethod ({ cls := "RainStreets", name := "day", desc := "()V" } : Jvm.MethodName)) ∈ lw_tbl := lw_at lw_m5 70 rfl
theorem q1089 : (Jvm.Cond.instanceMethod ({ cls := "RainStreets", name := "day", desc := "()V" } : Jvm.MethodName)) ∈ lw_all := lw_g (lw_at lw_m5 71 rfl) rfl
theorem q1090 : (Jvm.Cond.code ({ cls := "RainStreets", name := "day", desc := "()V" } : Jvm.MethodName) prog_1_method_37_code (4 : Nat) (Option.none : Option Jvm.ClassFile.FieldType)) ∈ lw_all := lw_g (lw_at lw_m5 72 rfl) rfl
theorem q1091 : (Jvm.Cond.methodLink "RainStreets" (365 : Nat) ({ cls := "RainStreets", name := "beds", desc := "(LRainStreets$Rules;I)V" } : Jvm.MethodName)) ∈ lw_all := lw_g (lw_at lw_m5 73 rfl) rfl
theorem q1092 : (Jvm.Cond.privateMethod ({ cls := "RainStreets", name := "beds", desc := "(LRainStreets$Rules;I)V" } : Jvm.MethodName)) ∈ lw_tbl := lw_at lw_m5 74 rfl
theorem q1093 : (Jvm.Cond.instanceMethod ({ cls := "RainStreets", name := "beds", desc := "(LRainStreets$Rules;I)V" } : Jvm.MethodName)) ∈ lw_all := lw_g (lw_at lw_m5 75 rfl) rfl
theorem q1094 : (Jvm.Cond.code ({ cls := "RainStreets", name := "beds", desc := "(LRainStreets$Rules;I)V" } : Jvm.MethodName) prog_1_method_35_code (5 : Nat) (Option.none : Option Jvm.ClassFile.FieldType)) ∈ lw_all := lw_g (lw_at lw_m5 76 rfl) rfl
theorem q1095 : (Jvm.Cond.methodLink "RainStreets" (338 : Nat) ({ cls := "RainStreets$Bed", name := "clogs", desc := "(LRainStreets$Rules;)V" } : Jvm.MethodName)) ∈ lw_all := lw_g (lw_at lw_m5 77 rfl) rfl
theorem q1100 : (Jvm.Cond.methodLink "RainStreets" (341 : Nat) ({ cls := "RainStreets$Bed", name := "fall", desc := "(LRainStreets$Rules;I)V" } : Jvm.MethodName)) ∈ lw_all := lw_g (lw_at lw_m5 82 rfl) rfl
theorem q1108 : (Jvm.Cond.methodLink "RainStreets" (349 : Nat) ({ cls := "RainStreets$Bed", name := "dries", desc := "()I" } : Jvm.MethodName)) ∈ lw_all := lw_g (lw_at lw_m5 90 rfl) rfl
theorem q1120 : (Jvm.Cond.methodLink "RainStreets" (358 : Nat) ({ cls := "RainStreets", name := "complains", desc := "(LRainStreets$Corner;I)I" } : Jvm.MethodName)) ∈ lw_all := lw_g (lw_at lw_m5 102 rfl) rfl
theorem q1121 : (Jvm.Cond.privateMethod ({ cls := "RainStreets", name := "complains", desc := "(LRainStreets$Corner;I)I" } : Jvm.MethodName)) ∈ lw_tbl := lw_at lw_m5 103 rfl
theorem q1122 : (Jvm.Cond.instanceMethod ({ cls := "RainStreets", name := "complains", desc := "(LRainStreets$Corner;I)I" } : Jvm.MethodName)) ∈ lw_all := lw_g (lw_at lw_m5 104 rfl) rfl
theorem q1123 : (Jvm.Cond.code ({ cls := "RainStreets", name := "complains", desc := "(LRainStreets$Corner;I)I" } : Jvm.MethodName) prog_1_method_57_code (5 : Nat) (Option.some Jvm.ClassFile.FieldType.int)) ∈ lw_all := lw_g (lw_at lw_m5 105 rfl) rfl
theorem q1124 : (Jvm.Cond.classLink "RainStreets" (508 : Nat) "RainStreets$Complaint") ∈ lw_all := lw_g (lw_at lw_m5 106 rfl) rfl
theorem q1126 : (Jvm.Cond.methodLink "RainStreets" (523 : Nat) ({ cls := "RainStreets$Complaint", name := "<init>", desc := "(ILRainStreets$Corner;II)V" } : Jvm.MethodName)) ∈ lw_all := lw_g (lw_at lw_m5 108 rfl) rfl
theorem q1131 : (Jvm.Cond.fieldLinkNest "RainStreets" (513 : Nat) "RainStreets$Complaint" "at" "LRainStreets$Corner;" "RainStreets") ∈ lw_tbl := lw_at lw_m5 113 rfl
theorem q1134 : (Jvm.Cond.fieldLinkNest "RainStreets" (514 : Nat) "RainStreets$Complaint" "kind" "I" "RainStreets") ∈ lw_tbl := lw_at lw_m5 116 rfl
theorem q1136 : (Jvm.Cond.fieldLinkNest "RainStreets" (526 : Nat) "RainStreets$Complaint" "told" "I" "RainStreets") ∈ lw_tbl := lw_at lw_m5 118 rfl
theorem q1138 : (Jvm.Cond.fieldLinkNest "RainStreets" (517 : Nat) "RainStreets$Complaint" "joined" "I" "RainStreets") ∈ lw_tbl := lw_at lw_m5 120 rfl
theorem q1140 : (Jvm.Cond.fieldLinkNest "RainStreets" (520 : Nat) "RainStreets$Complaint" "many" "I" "RainStreets") ∈ lw_tbl := lw_at lw_m5 122 rfl
theorem q1142 : (Jvm.Cond.fieldLinkNest "RainStreets" (510 : Nat) "RainStreets$Complaint" "isOpen" "Z" "RainStreets") ∈ lw_tbl := lw_at lw_m5 124 rfl
theorem q1158 : (Jvm.Cond.methodLink "RainStreets" (362 : Nat) ({ cls := "RainStreets$Bed", name := "spring", desc := "(LRainStreets$Rules;)V" } : Jvm.MethodName)) ∈ lw_all := lw_g (lw_at lw_m5 140 rfl) rfl
theorem q1162 : (Jvm.Cond.methodLink "RainStreets" (374 : Nat) ({ cls := "RainStreets", name := "turns", desc := "(LRainStreets$Rules;)V" } : Jvm.MethodName)) ∈ lw_all := lw_g (lw_at lw_m5 144 rfl) rfl
theorem q1163 : (Jvm.Cond.privateMethod ({ cls := "RainStreets", name := "turns", desc := "(LRainStreets$Rules;)V" } : Jvm.MethodName)) ∈ lw_tbl := lw_at lw_m5 145 rfl
theorem q1164 : (Jvm.Cond.instanceMethod ({ cls := "RainStreets", name := "turns", desc := "(LRainStreets$Rules;)V" } : Jvm.MethodName)) ∈ lw_all := lw_g (lw_at lw_m5 146 rfl) rfl
theorem q1165 : (Jvm.Cond.code ({ cls := "RainStreets", name := "turns", desc := "(LRainStreets$Rules;)V" } : Jvm.MethodName) prog_1_method_36_code (5 : Nat) (Option.none : Option Jvm.ClassFile.FieldType)) ∈ lw_all := lw_g (lw_at lw_m5 147 rfl) rfl
theorem q1167 : (Jvm.Cond.instanceMethod ({ cls := "RainStreets", name := "neighbour", desc := "(II)I" } : Jvm.MethodName)) ∈ lw_all := lw_g (lw_at lw_m5 149 rfl) rfl
theorem q1168 : (Jvm.Cond.selects "RainStreets" ({ cls := "RainStreets", name := "neighbour", desc := "(II)I" } : Jvm.MethodName) ({ cls := "RainStreets", name := "neighbour", desc := "(II)I" } : Jvm.MethodName)) ∈ lw_all := lw_g (lw_at lw_m5 150 rfl) rfl
theorem q1169 : (Jvm.Cond.code ({ cls := "RainStreets", name := "neighbour", desc := "(II)I" } : Jvm.MethodName) prog_1_method_39_code (5 : Nat) (Option.some Jvm.ClassFile.FieldType.int)) ∈ lw_all := lw_g (lw_at lw_m5 151 rfl) rfl
theorem q1171 : (Jvm.Cond.instanceMethod ({ cls := "RainStreets", name := "rain", desc := "(I)I" } : Jvm.MethodName)) ∈ lw_all := lw_g (lw_at lw_m5 153 rfl) rfl
theorem q1172 : (Jvm.Cond.selects "RainStreets" ({ cls := "RainStreets", name := "rain", desc := "(I)I" } : Jvm.MethodName) ({ cls := "RainStreets", name := "rain", desc := "(I)I" } : Jvm.MethodName)) ∈ lw_all := lw_g (lw_at lw_m5 154 rfl) rfl
theorem q1173 : (Jvm.Cond.code ({ cls := "RainStreets", name := "rain", desc := "(I)I" } : Jvm.MethodName) prog_1_method_40_code (2 : Nat) (Option.some Jvm.ClassFile.FieldType.int)) ∈ lw_all := lw_g (lw_at lw_m5 155 rfl) rfl
theorem q1175 : (Jvm.Cond.instanceMethod ({ cls := "RainStreets", name := "clear", desc := "()I" } : Jvm.MethodName)) ∈ lw_all := lw_g (lw_at lw_m5 157 rfl) rfl
theorem q1176 : (Jvm.Cond.selects "RainStreets" ({ cls := "RainStreets", name := "clear", desc := "()I" } : Jvm.MethodName) ({ cls := "RainStreets", name := "clear", desc := "()I" } : Jvm.MethodName)) ∈ lw_all := lw_g (lw_at lw_m5 158 rfl) rfl
theorem q1177 : (Jvm.Cond.code ({ cls := "RainStreets", name := "clear", desc := "()I" } : Jvm.MethodName) prog_1_method_41_code (2 : Nat) (Option.some Jvm.ClassFile.FieldType.int)) ∈ lw_all := lw_g (lw_at lw_m5 159 rfl) rfl
theorem q1179 : (Jvm.Cond.instanceMethod ({ cls := "RainStreets", name := "storm", desc := "()I" } : Jvm.MethodName)) ∈ lw_all := lw_g (lw_at lw_m5 161 rfl) rfl
theorem q1180 : (Jvm.Cond.selects "RainStreets" ({ cls := "RainStreets", name := "storm", desc := "()I" } : Jvm.MethodName) ({ cls := "RainStreets", name := "storm", desc := "()I" } : Jvm.MethodName)) ∈ lw_all := lw_g (lw_at lw_m5 162 rfl) rfl
theorem q1181 : (Jvm.Cond.code ({ cls := "RainStreets", name := "storm", desc := "()I" } : Jvm.MethodName) prog_1_method_42_code (3 : Nat) (Option.some Jvm.ClassFile.FieldType.int)) ∈ lw_all := lw_g (lw_at lw_m5 163 rfl) rfl
theorem q1182 : (Jvm.Cond.methodLink "RainStreets" (382 : Nat) ({ cls := "RainStreets$Run", name := "runs", desc := "(I)V" } : Jvm.MethodName)) ∈ lw_all := lw_g (lw_at lw_m5 164 rfl) rfl
theorem q1205 : (Jvm.Cond.classLink "RainStreets" (427 : Nat) "RainStreets$Storm") ∈ lw_all := lw_g (lw_at lw_m5 187 rfl) rfl
theorem q1207 : (Jvm.Cond.methodLinkNest "RainStreets" (435 : Nat) ({ cls := "RainStreets$Storm", name := "<init>", desc := "(IJJII)V" } : Jvm.MethodName) "RainStreets") ∈ lw_tbl := lw_at lw_m5 189 rfl
theorem q1228 : (Jvm.Cond.instanceMethod ({ cls := "RainStreets", name := "stormOf", desc := "(II)J" } : Jvm.MethodName)) ∈ lw_all := lw_g (lw_at lw_m5 210 rfl) rfl
theorem q1229 : (Jvm.Cond.selects "RainStreets" ({ cls := "RainStreets", name := "stormOf", desc := "(II)J" } : Jvm.MethodName) ({ cls := "RainStreets", name := "stormOf", desc := "(II)J" } : Jvm.MethodName)) ∈ lw_all := lw_g (lw_at lw_m5 211 rfl) rfl
theorem q1230 : (Jvm.Cond.code ({ cls := "RainStreets", name := "stormOf", desc := "(II)J" } : Jvm.MethodName) prog_1_method_43_code (4 : Nat) (Option.some Jvm.ClassFile.FieldType.long)) ∈ lw_all := lw_g (lw_at lw_m5 212 rfl) rfl
theorem q1231 : (Jvm.Cond.constantLong "RainStreets" (438 : Nat) (-1 : Int64)) ∈ lw_all := lw_g (lw_at lw_m5 213 rfl) rfl
theorem q1232 : (Jvm.Cond.methodLink "RainStreets" (440 : Nat) ({ cls := "RainStreets$Storm", name := "day", desc := "()I" } : Jvm.MethodName)) ∈ lw_all := lw_g (lw_at lw_m5 214 rfl) rfl
theorem q1236 : (Jvm.Cond.methodLink "RainStreets" (442 : Nat) ({ cls := "RainStreets$Storm", name := "rained", desc := "()J" } : Jvm.MethodName)) ∈ lw_all := lw_g (lw_at lw_m5 218 rfl) rfl
theorem q1240 : (Jvm.Cond.methodLink "RainStreets" (445 : Nat) ({ cls := "RainStreets$Storm", name := "spilt", desc := "()J" } : Jvm.MethodName)) ∈ lw_all := lw_g (lw_at lw_m5 222 rfl) rfl
theorem q1244 : (Jvm.Cond.methodLink "RainStreets" (447 : Nat) ({ cls := "RainStreets$Storm", name := "wet", desc := "()I" } : Jvm.MethodName)) ∈ lw_all := lw_g (lw_at lw_m5 226 rfl) rfl
theorem q1248 : (Jvm.Cond.methodLink "RainStreets" (449 : Nat) ({ cls := "RainStreets$Storm", name := "most", desc := "()I" } : Jvm.MethodName)) ∈ lw_all := lw_g (lw_at lw_m5 230 rfl) rfl
theorem q1253 : (Jvm.Cond.instanceMethod ({ cls := "RainStreets", name := "tried", desc := "(II)J" } : Jvm.MethodName)) ∈ lw_all := lw_g (lw_at lw_m5 235 rfl) rfl
theorem q1254 : (Jvm.Cond.selects "RainStreets" ({ cls := "RainStreets", name := "tried", desc := "(II)J" } : Jvm.MethodName) ({ cls := "RainStreets", name := "tried", desc := "(II)J" } : Jvm.MethodName)) ∈ lw_all := lw_g (lw_at lw_m5 236 rfl) rfl
theorem q1255 : (Jvm.Cond.code ({ cls := "RainStreets", name := "tried", desc := "(II)J" } : Jvm.MethodName) prog_1_method_45_code (3 : Nat) (Option.some Jvm.ClassFile.FieldType.long)) ∈ lw_all := lw_g (lw_at lw_m5 237 rfl) rfl
theorem q1256 : (Jvm.Cond.methodLink "RainStreets" (451 : Nat) ({ cls := "RainStreets", name := "free", desc := "()I" } : Jvm.MethodName)) ∈ lw_all := lw_g (lw_at lw_m5 238 rfl) rfl
theorem q1257 : (Jvm.Cond.privateMethod ({ cls := "RainStreets", name := "free", desc := "()I" } : Jvm.MethodName)) ∈ lw_tbl := lw_at lw_m5 239 rfl
theorem q1258 : (Jvm.Cond.instanceMethod ({ cls := "RainStreets", name := "free", desc := "()I" } : Jvm.MethodName)) ∈ lw_all := lw_g (lw_at lw_m6 0 rfl) rfl
theorem q1259 : (Jvm.Cond.code ({ cls := "RainStreets", name := "free", desc := "()I" } : Jvm.MethodName) prog_1_method_44_code (3 : Nat) (Option.some Jvm.ClassFile.FieldType.int)) ∈ lw_all := lw_g (lw_at lw_m6 1 rfl) rfl
theorem q1261 : (Jvm.Cond.instanceMethod ({ cls := "RainStreets", name := "best", desc := "(IIII)J" } : Jvm.MethodName)) ∈ lw_all := lw_g (lw_at lw_m6 3 rfl) rfl
theorem q1262 : (Jvm.Cond.selects "RainStreets" ({ cls := "RainStreets", name := "best", desc := "(IIII)J" } : Jvm.MethodName) ({ cls := "RainStreets", name := "best", desc := "(IIII)J" } : Jvm.MethodName)) ∈ lw_all := lw_g (lw_at lw_m6 4 rfl) rfl
theorem q1263 : (Jvm.Cond.code ({ cls := "RainStreets", name := "best", desc := "(IIII)J" } : Jvm.MethodName) prog_1_method_47_code (15 : Nat) (Option.some Jvm.ClassFile.FieldType.long)) ∈ lw_all := lw_g (lw_at lw_m6 5 rfl) rfl
theorem q1264 : (Jvm.Cond.constant "RainStreets" (454 : Nat) (99999 : Int32)) ∈ lw_all := lw_g (lw_at lw_m6 6 rfl) rfl
theorem q1265 : (Jvm.Cond.methodLink "RainStreets" (455 : Nat) ({ cls := "java/lang/Integer", name := "bitCount", desc := "(I)I" } : Jvm.MethodName)) ∈ lw_all := lw_g (lw_at lw_m6 7 rfl) rfl
theorem q1271 : (Jvm.Cond.methodLink "RainStreets" (460 : Nat) ({ cls := "RainStreets", name := "parkingOf", desc := "(I)I" } : Jvm.MethodName)) ∈ lw_all := lw_g (lw_at lw_m6 13 rfl) rfl
theorem q1272 : (Jvm.Cond.privateMethod ({ cls := "RainStreets", name := "parkingOf", desc := "(I)I" } : Jvm.MethodName)) ∈ lw_tbl := lw_at lw_m6 14 rfl
theorem q1273 : (Jvm.Cond.instanceMethod ({ cls := "RainStreets", name := "parkingOf", desc := "(I)I" } : Jvm.MethodName)) ∈ lw_all := lw_g (lw_at lw_m6 15 rfl) rfl
theorem q1274 : (Jvm.Cond.code ({ cls := "RainStreets", name := "parkingOf", desc := "(I)I" } : Jvm.MethodName) prog_1_method_46_code (4 : Nat) (Option.some Jvm.ClassFile.FieldType.int)) ∈ lw_all := lw_g (lw_at lw_m6 16 rfl) rfl
theorem q1276 : (Jvm.Cond.instanceMethod ({ cls := "RainStreets", name := "helps", desc := "(II)J" } : Jvm.MethodName)) ∈ lw_all := lw_g (lw_at lw_m6 18 rfl) rfl
theorem q1277 : (Jvm.Cond.selects "RainStreets" ({ cls := "RainStreets", name := "helps", desc := "(II)J" } : Jvm.MethodName) ({ cls := "RainStreets", name := "helps", desc := "(II)J" } : Jvm.MethodName)) ∈ lw_all := lw_g (lw_at lw_m6 19 rfl) rfl
theorem q1278 : (Jvm.Cond.code ({ cls := "RainStreets", name := "helps", desc := "(II)J" } : Jvm.MethodName) prog_1_method_48_code (4 : Nat) (Option.some Jvm.ClassFile.FieldType.long)) ∈ lw_all := lw_g (lw_at lw_m6 20 rfl) rfl
theorem q1280 : (Jvm.Cond.instanceMethod ({ cls := "RainStreets", name := "compare", desc := "(II)J" } : Jvm.MethodName)) ∈ lw_all := lw_g (lw_at lw_m6 22 rfl) rfl
theorem q1281 : (Jvm.Cond.selects "RainStreets" ({ cls := "RainStreets", name := "compare", desc := "(II)J" } : Jvm.MethodName) ({ cls := "RainStreets", name := "compare", desc := "(II)J" } : Jvm.MethodName)) ∈ lw_all := lw_g (lw_at lw_m6 23 rfl) rfl
theorem q1282 : (Jvm.Cond.code ({ cls := "RainStreets", name := "compare", desc := "(II)J" } : Jvm.MethodName) prog_1_method_50_code (13 : Nat) (Option.some Jvm.ClassFile.FieldType.long)) ∈ lw_all := lw_g (lw_at lw_m6 24 rfl) rfl
theorem q1283 : (Jvm.Cond.methodLink "RainStreets" (469 : Nat) ({ cls := "RainStreets", name := "like", desc := "(LRainStreets$Storm;II)LRainStreets$Storm;" } : Jvm.MethodName)) ∈ lw_all := lw_g (lw_at lw_m6 25 rfl) rfl
theorem q1284 : (Jvm.Cond.privateMethod ({ cls := "RainStreets", name := "like", desc := "(LRainStreets$Storm;II)LRainStreets$Storm;" } : Jvm.MethodName)) ∈ lw_tbl := lw_at lw_m6 26 rfl
theorem q1285 : (Jvm.Cond.instanceMethod ({ cls := "RainStreets", name := "like", desc := "(LRainStreets$Storm;II)LRainStreets$Storm;" } : Jvm.MethodName)) ∈ lw_all := lw_g (lw_at lw_m6 27 rfl) rfl
theorem q1286 : (Jvm.Cond.code ({ cls := "RainStreets", name := "like", desc := "(LRainStreets$Storm;II)LRainStreets$Storm;" } : Jvm.MethodName) prog_1_method_49_code (9 : Nat) (Option.some (Jvm.ClassFile.FieldType.object "RainStreets$Storm"))) ∈ lw_all := lw_g (lw_at lw_m6 28 rfl) rfl
theorem q1287 : (Jvm.Cond.methodLink "RainStreets" (463 : Nat) ({ cls := "java/lang/Math", name := "abs", desc := "(J)J" } : Jvm.MethodName)) ∈ lw_all := lw_g (lw_at lw_m6 29 rfl) rfl
theorem q1290 : (Jvm.Cond.constantLong "RainStreets" (467 : Nat) (100 : Int64)) ∈ lw_all := lw_g (lw_at lw_m6 32 rfl) rfl
theorem q1292 : (Jvm.Cond.instanceMethod ({ cls := "RainStreets", name := "crew", desc := "(II)I" } : Jvm.MethodName)) ∈ lw_all := lw_g (lw_at lw_m6 34 rfl) rfl
theorem q1293 : (Jvm.Cond.selects "RainStreets" ({ cls := "RainStreets", name := "crew", desc := "(II)I" } : Jvm.MethodName) ({ cls := "RainStreets", name := "crew", desc := "(II)I" } : Jvm.MethodName)) ∈ lw_all := lw_g (lw_at lw_m6 35 rfl) rfl
theorem q1294 : (Jvm.Cond.code ({ cls := "RainStreets", name := "crew", desc := "(II)I" } : Jvm.MethodName) prog_1_method_51_code (11 : Nat) (Option.some Jvm.ClassFile.FieldType.int)) ∈ lw_all := lw_g (lw_at lw_m6 36 rfl) rfl
theorem q1295 : (Jvm.Cond.methodLink "RainStreets" (473 : Nat) ({ cls := "java/lang/Integer", name := "numberOfLeadingZeros", desc := "(I)I" } : Jvm.MethodName)) ∈ lw_all := lw_g (lw_at lw_m6 37 rfl) rfl
theorem q1299 : (Jvm.Cond.methodLink "RainStreets" (476 : Nat) ({ cls := "RainStreets$Bed", name := "more", desc := "()I" } : Jvm.MethodName)) ∈ lw_all := lw_g (lw_at lw_m6 41 rfl) rfl
theorem q1305 : (Jvm.Cond.instanceMethod ({ cls := "RainStreets", name := "prove", desc := "(I)Z" } : Jvm.MethodName)) ∈ lw_all := lw_g (lw_at lw_m6 47 rfl) rfl
theorem q1306 : (Jvm.Cond.selects "RainStreets" ({ cls := "RainStreets", name := "prove", desc := "(I)Z" } : Jvm.MethodName) ({ cls := "RainStreets", name := "prove", desc := "(I)Z" } : Jvm.MethodName)) ∈ lw_all := lw_g (lw_at lw_m6 48 rfl) rfl
theorem q1307 : (Jvm.Cond.code ({ cls := "RainStreets", name := "prove", desc := "(I)Z" } : Jvm.MethodName) prog_1_method_52_code (3 : Nat) (Option.some Jvm.ClassFile.FieldType.boolean)) ∈ lw_all := lw_g (lw_at lw_m6 49 rfl) rfl
theorem q1308 : (Jvm.Cond.methodLink "RainStreets" (479 : Nat) ({ cls := "RainStreets", name := "roofAt", desc := "(I)LRainStreets$Roof;" } : Jvm.MethodName)) ∈ lw_all := lw_g (lw_at lw_m6 50 rfl) rfl
theorem q1309 : (Jvm.Cond.privateMethod ({ cls := "RainStreets", name := "roofAt", desc := "(I)LRainStreets$Roof;" } : Jvm.MethodName)) ∈ lw_tbl := lw_at lw_m6 51 rfl
theorem q1310 : (Jvm.Cond.instanceMethod ({ cls := "RainStreets", name := "roofAt", desc := "(I)LRainStreets$Roof;" } : Jvm.MethodName)) ∈ lw_all := lw_g (lw_at lw_m6 52 rfl) rfl
theorem q1311 : (Jvm.Cond.code ({ cls := "RainStreets", name := "roofAt", desc := "(I)LRainStreets$Roof;" } : Jvm.MethodName) prog_1_method_6_code (2 : Nat) (Option.some (Jvm.ClassFile.FieldType.object "RainStreets$Roof"))) ∈ lw_all := lw_g (lw_at lw_m6 53 rfl) rfl
theorem q1313 : (Jvm.Cond.instanceMethod ({ cls := "RainStreets", name := "fee", desc := "(II)I" } : Jvm.MethodName)) ∈ lw_all := lw_g (lw_at lw_m6 55 rfl) rfl
theorem q1314 : (Jvm.Cond.selects "RainStreets" ({ cls := "RainStreets", name := "fee", desc := "(II)I" } : Jvm.MethodName) ({ cls := "RainStreets", name := "fee", desc := "(II)I" } : Jvm.MethodName)) ∈ lw_all := lw_g (lw_at lw_m6 56 rfl) rfl
theorem q1315 : (Jvm.Cond.code ({ cls := "RainStreets", name := "fee", desc := "(II)I" } : Jvm.MethodName) prog_1_method_53_code (8 : Nat) (Option.some Jvm.ClassFile.FieldType.int)) ∈ lw_all := lw_g (lw_at lw_m6 57 rfl) rfl
theorem q1316 : (Jvm.Cond.methodLink "RainStreets" (495 : Nat) ({ cls := "java/lang/Math", name := "max", desc := "(JJ)J" } : Jvm.MethodName)) ∈ lw_all := lw_g (lw_at lw_m6 58 rfl) rfl
theorem q1320 : (Jvm.Cond.instanceMethod ({ cls := "RainStreets", name := "roofOf", desc := "(II)I" } : Jvm.MethodName)) ∈ lw_all := lw_g (lw_at lw_m6 62 rfl) rfl
theorem q1321 : (Jvm.Cond.selects "RainStreets" ({ cls := "RainStreets", name := "roofOf", desc := "(II)I" } : Jvm.MethodName) ({ cls := "RainStreets", name := "roofOf", desc := "(II)I" } : Jvm.MethodName)) ∈ lw_all := lw_g (lw_at lw_m6 63 rfl) rfl
theorem q1322 : (Jvm.Cond.code ({ cls := "RainStreets", name := "roofOf", desc := "(II)I" } : Jvm.MethodName) prog_1_method_54_code (4 : Nat) (Option.some Jvm.ClassFile.FieldType.int)) ∈ lw_all := lw_g (lw_at lw_m6 64 rfl) rfl
theorem q1324 : (Jvm.Cond.instanceMethod ({ cls := "RainStreets", name := "look", desc := "(II)I" } : Jvm.MethodName)) ∈ lw_all := lw_g (lw_at lw_m6 66 rfl) rfl
theorem q1325 : (Jvm.Cond.selects "RainStreets" ({ cls := "RainStreets", name := "look", desc := "(II)I" } : Jvm.MethodName) ({ cls := "RainStreets", name := "look", desc := "(II)I" } : Jvm.MethodName)) ∈ lw_all := lw_g (lw_at lw_m6 67 rfl) rfl
theorem q1326 : (Jvm.Cond.code ({ cls := "RainStreets", name := "look", desc := "(II)I" } : Jvm.MethodName) prog_1_method_55_code (4 : Nat) (Option.some Jvm.ClassFile.FieldType.int)) ∈ lw_all := lw_g (lw_at lw_m6 68 rfl) rfl
theorem q1328 : (Jvm.Cond.instanceMethod ({ cls := "RainStreets", name := "worst", desc := "(I)I" } : Jvm.MethodName)) ∈ lw_all := lw_g (lw_at lw_m6 70 rfl) rfl
theorem q1329 : (Jvm.Cond.selects "RainStreets" ({ cls := "RainStreets", name := "worst", desc := "(I)I" } : Jvm.MethodName) ({ cls := "RainStreets", name := "worst", desc := "(I)I" } : Jvm.MethodName)) ∈ lw_all := lw_g (lw_at lw_m6 71 rfl) rfl
theorem q1330 : (Jvm.Cond.code ({ cls := "RainStreets", name := "worst", desc := "(I)I" } : Jvm.MethodName) prog_1_method_56_code (10 : Nat) (Option.some Jvm.ClassFile.FieldType.int)) ∈ lw_all := lw_g (lw_at lw_m6 72 rfl) rfl
theorem q1332 : (Jvm.Cond.instanceMethod ({ cls := "RainStreets", name := "complain", desc := "(II)I" } : Jvm.MethodName)) ∈ lw_all := lw_g (lw_at lw_m6 74 rfl) rfl
theorem q1333 : (Jvm.Cond.selects "RainStreets" ({ cls := "RainStreets", name := "complain", desc := "(II)I" } : Jvm.MethodName) ({ cls := "RainStreets", name := "complain", desc := "(II)I" } : Jvm.MethodName)) ∈ lw_all := lw_g (lw_at lw_m6 75 rfl) rfl
theorem q1334 : (Jvm.Cond.code ({ cls := "RainStreets", name := "complain", desc := "(II)I" } : Jvm.MethodName) prog_1_method_58_code (3 : Nat) (Option.some Jvm.ClassFile.FieldType.int)) ∈ lw_all := lw_g (lw_at lw_m6 76 rfl) rfl
theorem q1336 : (Jvm.Cond.instanceMethod ({ cls := "RainStreets", name := "close", desc := "(I)Z" } : Jvm.MethodName)) ∈ lw_all := lw_g (lw_at lw_m6 78 rfl) rfl
theorem q1337 : (Jvm.Cond.selects "RainStreets" ({ cls := "RainStreets", name := "close", desc := "(I)Z" } : Jvm.MethodName) ({ cls := "RainStreets", name := "close", desc := "(I)Z" } : Jvm.MethodName)) ∈ lw_all := lw_g (lw_at lw_m6 79 rfl) rfl
theorem q1338 : (Jvm.Cond.code ({ cls := "RainStreets", name := "close", desc := "(I)Z" } : Jvm.MethodName) prog_1_method_59_code (2 : Nat) (Option.some Jvm.ClassFile.FieldType.boolean)) ∈ lw_all := lw_g (lw_at lw_m6 80 rfl) rfl
theorem q1340 : (Jvm.Cond.instanceMethod ({ cls := "RainStreets", name := "complaint", desc := "(II)I" } : Jvm.MethodName)) ∈ lw_all := lw_g (lw_at lw_m6 82 rfl) rfl
theorem q1341 : (Jvm.Cond.selects "RainStreets" ({ cls := "RainStreets", name := "complaint", desc := "(II)I" } : Jvm.MethodName) ({ cls := "RainStreets", name := "complaint", desc := "(II)I" } : Jvm.MethodName)) ∈ lw_all := lw_g (lw_at lw_m6 83 rfl) rfl
theorem q1342 : (Jvm.Cond.code ({ cls := "RainStreets", name := "complaint", desc := "(II)I" } : Jvm.MethodName) prog_1_method_60_code (4 : Nat) (Option.some Jvm.ClassFile.FieldType.int)) ∈ lw_all := lw_g (lw_at lw_m6 84 rfl) rfl
theorem q1344 : (Jvm.Cond.instanceMethod ({ cls := "RainStreets", name := "told", desc := "(II)I" } : Jvm.MethodName)) ∈ lw_all := lw_g (lw_at lw_m6 86 rfl) rfl
theorem q1345 : (Jvm.Cond.selects "RainStreets" ({ cls := "RainStreets", name := "told", desc := "(II)I" } : Jvm.MethodName) ({ cls := "RainStreets", name := "told", desc := "(II)I" } : Jvm.MethodName)) ∈ lw_all := lw_g (lw_at lw_m6 87 rfl) rfl
theorem q1346 : (Jvm.Cond.code ({ cls := "RainStreets", name := "told", desc := "(II)I" } : Jvm.MethodName) prog_1_method_61_code (4 : Nat) (Option.some Jvm.ClassFile.FieldType.int)) ∈ lw_all := lw_g (lw_at lw_m6 88 rfl) rfl
theorem q1348 : (Jvm.Cond.instanceMethod ({ cls := "RainStreets", name := "bedOf", desc := "(II)I" } : Jvm.MethodName)) ∈ lw_all := lw_g (lw_at lw_m6 90 rfl) rfl
theorem q1349 : (Jvm.Cond.selects "RainStreets" ({ cls := "RainStreets", name := "bedOf", desc := "(II)I" } : Jvm.MethodName) ({ cls := "RainStreets", name := "bedOf", desc := "(II)I" } : Jvm.MethodName)) ∈ lw_all := lw_g (lw_at lw_m6 91 rfl) rfl
theorem q1350 : (Jvm.Cond.code ({ cls := "RainStreets", name := "bedOf", desc := "(II)I" } : Jvm.MethodName) prog_1_method_62_code (4 : Nat) (Option.some Jvm.ClassFile.FieldType.int)) ∈ lw_all := lw_g (lw_at lw_m6 92 rfl) rfl
theorem q1351 : (Jvm.Cond.methodLink "RainStreets" (543 : Nat) ({ cls := "RainStreets$Bed", name := "drink", desc := "()I" } : Jvm.MethodName)) ∈ lw_all := lw_g (lw_at lw_m6 93 rfl) rfl
theorem q1353 : (Jvm.Cond.instanceMethod ({ cls := "RainStreets", name := "sum", desc := "(I)J" } : Jvm.MethodName)) ∈ lw_all := lw_g (lw_at lw_m6 95 rfl) rfl
theorem q1354 : (Jvm.Cond.selects "RainStreets" ({ cls := "RainStreets", name := "sum", desc := "(I)J" } : Jvm.MethodName) ({ cls := "RainStreets", name := "sum", desc := "(I)J" } : Jvm.MethodName)) ∈ lw_all := lw_g (lw_at lw_m6 96 rfl) rfl
theorem q1355 : (Jvm.Cond.code ({ cls := "RainStreets", name := "sum", desc := "(I)J" } : Jvm.MethodName) prog_1_method_63_code (7 : Nat) (Option.some Jvm.ClassFile.FieldType.long)) ∈ lw_all := lw_g (lw_at lw_m6 97 rfl) rfl
theorem q1357 : (Jvm.Cond.instanceMethod ({ cls := "RainStreets", name := "count", desc := "(I)I" } : Jvm.MethodName)) ∈ lw_all := lw_g (lw_at lw_m6 99 rfl) rfl
theorem q1358 : (Jvm.Cond.selects "RainStreets" ({ cls := "RainStreets", name := "count", desc := "(I)I" } : Jvm.MethodName) ({ cls := "RainStreets", name := "count", desc := "(I)I" } : Jvm.MethodName)) ∈ lw_all := lw_g (lw_at lw_m6 100 rfl) rfl
theorem q1359 : (Jvm.Cond.code ({ cls := "RainStreets", name := "count", desc := "(I)I" } : Jvm.MethodName) prog_1_method_66_code (2 : Nat) (Option.some Jvm.ClassFile.FieldType.int)) ∈ lw_all := lw_g (lw_at lw_m6 101 rfl) rfl
theorem q1360 : (Jvm.Cond.methodLink "RainStreets" (546 : Nat) ({ cls := "RainStreets", name := "bedsThat", desc := "(Z)I" } : Jvm.MethodName)) ∈ lw_all := lw_g (lw_at lw_m6 102 rfl) rfl
theorem q1361 : (Jvm.Cond.privateMethod ({ cls := "RainStreets", name := "bedsThat", desc := "(Z)I" } : Jvm.MethodName)) ∈ lw_tbl := lw_at lw_m6 103 rfl
theorem q1362 : (Jvm.Cond.instanceMethod ({ cls := "RainStreets", name := "bedsThat", desc := "(Z)I" } : Jvm.MethodName)) ∈ lw_all := lw_g (lw_at lw_m6 104 rfl) rfl
theorem q1363 : (Jvm.Cond.code ({ cls := "RainStreets", name := "bedsThat", desc := "(Z)I" } : Jvm.MethodName) prog_1_method_65_code (4 : Nat) (Option.some Jvm.ClassFile.FieldType.int)) ∈ lw_all := lw_g (lw_at lw_m6 105 rfl) rfl
theorem q1364 : (Jvm.Cond.methodLink "RainStreets" (550 : Nat) ({ cls := "RainStreets", name := "open", desc := "()I" } : Jvm.MethodName)) ∈ lw_all := lw_g (lw_at lw_m6 106 rfl) rfl
theorem q1365 : (Jvm.Cond.privateMethod ({ cls := "RainStreets", name := "open", desc := "()I" } : Jvm.MethodName)) ∈ lw_tbl := lw_at lw_m6 107 rfl
theorem q1366 : (Jvm.Cond.instanceMethod ({ cls := "RainStreets", name := "open", desc := "()I" } : Jvm.MethodName)) ∈ lw_all := lw_g (lw_at lw_m6 108 rfl) rfl
theorem q1367 : (Jvm.Cond.code ({ cls := "RainStreets", name := "open", desc := "()I" } : Jvm.MethodName) prog_1_method_64_code (3 : Nat) (Option.some Jvm.ClassFile.FieldType.int)) ∈ lw_all := lw_g (lw_at lw_m6 109 rfl) rfl
theorem q1915 : (Jvm.Cond.castable "RainStreets" "java/lang/Object") ∈ lw_tbl := lw_at lw_m8 177 rfl
theorem q63 : (Jvm.Cond.initialized "RainStreets$Rules") ∈ lw_all := lw_g (lw_at lw_m1 5 rfl) rfl
theorem q125 : (Jvm.Cond.instantiable "RainStreets$Rules" (18 : Nat)) ∈ lw_all := lw_g (lw_at lw_m1 67 rfl) rfl
theorem q127 : (Jvm.Cond.instanceMethod ({ cls := "RainStreets$Rules", name := "<init>", desc := "(I)V" } : Jvm.MethodName)) ∈ lw_all := lw_g (lw_at lw_m1 69 rfl) rfl
theorem q128 : (Jvm.Cond.code ({ cls := "RainStreets$Rules", name := "<init>", desc := "(I)V" } : Jvm.MethodName) prog_6_method_1_code (2 : Nat) (Option.none : Option Jvm.ClassFile.FieldType)) ∈ lw_all := lw_g (lw_at lw_m1 70 rfl) rfl
theorem q129 : (Jvm.Cond.methodLink "RainStreets$Rules" (1 : Nat) ({ cls := "java/lang/Object", name := "<init>", desc := "()V" } : Jvm.MethodName)) ∈ lw_all := lw_g (lw_at lw_m1 71 rfl) rfl
theorem q130 : (Jvm.Cond.classLink "RainStreets$Rules" (7 : Nat) "java/util/ArrayList") ∈ lw_all := lw_g (lw_at lw_m1 72 rfl) rfl
theorem q131 : (Jvm.Cond.methodLink "RainStreets$Rules" (9 : Nat) ({ cls := "java/util/ArrayList", name := "<init>", desc := "()V" } : Jvm.MethodName)) ∈ lw_all := lw_g (lw_at lw_m1 73 rfl) rfl
theorem q132 : (Jvm.Cond.fieldLink "RainStreets$Rules" (63 : Nat) "RainStreets$Rules" "from" "I") ∈ lw_all := lw_g (lw_at lw_m1 74 rfl) rfl
theorem q134 : (Jvm.Cond.fieldLink "RainStreets$Rules" (10 : Nat) "RainStreets$Rules" "turns" "Ljava/util/ArrayList;") ∈ lw_all := lw_g (lw_at lw_m1 76 rfl) rfl
theorem q136 : (Jvm.Cond.fieldLink "RainStreets$Rules" (16 : Nat) "RainStreets$Rules" "clog" "I") ∈ lw_all := lw_g (lw_at lw_m1 78 rfl) rfl
theorem q139 : (Jvm.Cond.fieldLink "RainStreets$Rules" (20 : Nat) "RainStreets$Rules" "leavesFrom" "I") ∈ lw_all := lw_g (lw_at lw_m1 81 rfl) rfl
theorem q141 : (Jvm.Cond.fieldLink "RainStreets$Rules" (23 : Nat) "RainStreets$Rules" "leavesTo" "I") ∈ lw_all := lw_g (lw_at lw_m1 83 rfl) rfl
theorem q143 : (Jvm.Cond.fieldLink "RainStreets$Rules" (26 : Nat) "RainStreets$Rules" "owe" "I") ∈ lw_all := lw_g (lw_at lw_m1 85 rfl) rfl
theorem q145 : (Jvm.Cond.fieldLink "RainStreets$Rules" (29 : Nat) "RainStreets$Rules" "parking" "I") ∈ lw_all := lw_g (lw_at lw_m1 87 rfl) rfl
theorem q147 : (Jvm.Cond.fieldLink "RainStreets$Rules" (32 : Nat) "RainStreets$Rules" "salt" "I") ∈ lw_all := lw_g (lw_at lw_m1 89 rfl) rfl
theorem q150 : (Jvm.Cond.fieldLink "RainStreets$Rules" (35 : Nat) "RainStreets$Rules" "stand" "I") ∈ lw_all := lw_g (lw_at lw_m1 92 rfl) rfl
theorem q152 : (Jvm.Cond.fieldLink "RainStreets$Rules" (38 : Nat) "RainStreets$Rules" "fee" "I") ∈ lw_all := lw_g (lw_at lw_m1 94 rfl) rfl
theorem q154 : (Jvm.Cond.fieldLink "RainStreets$Rules" (41 : Nat) "RainStreets$Rules" "credit" "I") ∈ lw_all := lw_g (lw_at lw_m1 96 rfl) rfl
theorem q156 : (Jvm.Cond.fieldLink "RainStreets$Rules" (44 : Nat) "RainStreets$Rules" "bed" "I") ∈ lw_all := lw_g (lw_at lw_m1 98 rfl) rfl
theorem q158 : (Jvm.Cond.fieldLink "RainStreets$Rules" (47 : Nat) "RainStreets$Rules" "cost" "I") ∈ lw_all := lw_g (lw_at lw_m1 100 rfl) rfl
theorem q160 : (Jvm.Cond.fieldLink "RainStreets$Rules" (50 : Nat) "RainStreets$Rules" "bowl" "I") ∈ lw_all := lw_g (lw_at lw_m1 102 rfl) rfl
theorem q162 : (Jvm.Cond.fieldLink "RainStreets$Rules" (53 : Nat) "RainStreets$Rules" "doubt" "I") ∈ lw_all := lw_g (lw_at lw_m1 104 rfl) rfl
theorem q165 : (Jvm.Cond.fieldLink "RainStreets$Rules" (56 : Nat) "RainStreets$Rules" "lookFrom" "[I") ∈ lw_all := lw_g (lw_at lw_m1 107 rfl) rfl
theorem q167 : (Jvm.Cond.fieldLink "RainStreets$Rules" (60 : Nat) "RainStreets$Rules" "lookTo" "[I") ∈ lw_all := lw_g (lw_at lw_m1 109 rfl) rfl
theorem q169 : (Jvm.Cond.laysFinal "RainStreets$Rules" "RainStreets$Rules" "from" "I") ∈ lw_all := lw_g (lw_at lw_m1 111 rfl) rfl
theorem q170 : (Jvm.Cond.soleField "RainStreets$Rules" "from") ∈ lw_all := lw_g (lw_at lw_m1 112 rfl) rfl
theorem q171 : (Jvm.Cond.laysFinal "RainStreets$Rules" "RainStreets$Rules" "turns" "Ljava/util/ArrayList;") ∈ lw_all := lw_g (lw_at lw_m1 113 rfl) rfl
theorem q172 : (Jvm.Cond.soleField "RainStreets$Rules" "turns") ∈ lw_all := lw_g (lw_at lw_m1 114 rfl) rfl
theorem q173 : (Jvm.Cond.lays "RainStreets$Rules" "RainStreets$Rules" "clog" "I") ∈ lw_all := lw_g (lw_at lw_m1 115 rfl) rfl
theorem q174 : (Jvm.Cond.soleField "RainStreets$Rules" "clog") ∈ lw_all := lw_g (lw_at lw_m1 116 rfl) rfl
theorem q175 : (Jvm.Cond.lays "RainStreets$Rules" "RainStreets$Rules" "leavesFrom" "I") ∈ lw_all := lw_g (lw_at lw_m1 117 rfl) rfl
theorem q176 : (Jvm.Cond.soleField "RainStreets$Rules" "leavesFrom") ∈ lw_all := lw_g (lw_at lw_m1 118 rfl) rfl
theorem q177 : (Jvm.Cond.lays "RainStreets$Rules" "RainStreets$Rules" "leavesTo" "I") ∈ lw_all := lw_g (lw_at lw_m1 119 rfl) rfl
theorem q178 : (Jvm.Cond.soleField "RainStreets$Rules" "leavesTo") ∈ lw_all := lw_g (lw_at lw_m1 120 rfl) rfl
theorem q179 : (Jvm.Cond.lays "RainStreets$Rules" "RainStreets$Rules" "owe" "I") ∈ lw_all := lw_g (lw_at lw_m1 121 rfl) rfl
theorem q180 : (Jvm.Cond.soleField "RainStreets$Rules" "owe") ∈ lw_all := lw_g (lw_at lw_m1 122 rfl) rfl
theorem q181 : (Jvm.Cond.lays "RainStreets$Rules" "RainStreets$Rules" "parking" "I") ∈ lw_all := lw_g (lw_at lw_m1 123 rfl) rfl
theorem q182 : (Jvm.Cond.soleField "RainStreets$Rules" "parking") ∈ lw_all := lw_g (lw_at lw_m1 124 rfl) rfl
theorem q183 : (Jvm.Cond.lays "RainStreets$Rules" "RainStreets$Rules" "salt" "I") ∈ lw_all := lw_g (lw_at lw_m1 125 rfl) rfl
theorem q184 : (Jvm.Cond.soleField "RainStreets$Rules" "salt") ∈ lw_all := lw_g (lw_at lw_m1 126 rfl) rfl
theorem q185 : (Jvm.Cond.lays "RainStreets$Rules" "RainStreets$Rules" "stand" "I") ∈ lw_all := lw_g (lw_at lw_m1 127 rfl) rfl
theorem q186 : (Jvm.Cond.soleField "RainStreets$Rules" "stand") ∈ lw_all := lw_g (lw_at lw_m1 128 rfl) rfl
theorem q187 : (Jvm.Cond.lays "RainStreets$Rules" "RainStreets$Rules" "fee" "I") ∈ lw_all := lw_g (lw_at lw_m1 129 rfl) rfl
theorem q188 : (Jvm.Cond.soleField "RainStreets$Rules" "fee") ∈ lw_all := lw_g (lw_at lw_m1 130 rfl) rfl
theorem q189 : (Jvm.Cond.lays "RainStreets$Rules" "RainStreets$Rules" "credit" "I") ∈ lw_all := lw_g (lw_at lw_m1 131 rfl) rfl
theorem q190 : (Jvm.Cond.soleField "RainStreets$Rules" "credit") ∈ lw_all := lw_g (lw_at lw_m1 132 rfl) rfl
theorem q191 : (Jvm.Cond.lays "RainStreets$Rules" "RainStreets$Rules" "bed" "I") ∈ lw_all := lw_g (lw_at lw_m1 133 rfl) rfl
theorem q192 : (Jvm.Cond.soleField "RainStreets$Rules" "bed") ∈ lw_all := lw_g (lw_at lw_m1 134 rfl) rfl
theorem q193 : (Jvm.Cond.lays "RainStreets$Rules" "RainStreets$Rules" "cost" "I") ∈ lw_all := lw_g (lw_at lw_m1 135 rfl) rfl
theorem q194 : (Jvm.Cond.soleField "RainStreets$Rules" "cost") ∈ lw_all := lw_g (lw_at lw_m1 136 rfl) rfl
theorem q195 : (Jvm.Cond.lays "RainStreets$Rules" "RainStreets$Rules" "bowl" "I") ∈ lw_all := lw_g (lw_at lw_m1 137 rfl) rfl
theorem q196 : (Jvm.Cond.soleField "RainStreets$Rules" "bowl") ∈ lw_all := lw_g (lw_at lw_m1 138 rfl) rfl
theorem q197 : (Jvm.Cond.lays "RainStreets$Rules" "RainStreets$Rules" "doubt" "I") ∈ lw_all := lw_g (lw_at lw_m1 139 rfl) rfl
theorem q198 : (Jvm.Cond.soleField "RainStreets$Rules" "doubt") ∈ lw_all := lw_g (lw_at lw_m1 140 rfl) rfl
theorem q199 : (Jvm.Cond.lays "RainStreets$Rules" "RainStreets$Rules" "statements" "I") ∈ lw_all := lw_g (lw_at lw_m1 141 rfl) rfl
theorem q200 : (Jvm.Cond.soleField "RainStreets$Rules" "statements") ∈ lw_all := lw_g (lw_at lw_m1 142 rfl) rfl
theorem q201 : (Jvm.Cond.laysFinal "RainStreets$Rules" "RainStreets$Rules" "lookFrom" "[I") ∈ lw_all := lw_g (lw_at lw_m1 143 rfl) rfl
theorem q202 : (Jvm.Cond.soleField "RainStreets$Rules" "lookFrom") ∈ lw_all := lw_g (lw_at lw_m1 144 rfl) rfl
theorem q203 : (Jvm.Cond.laysFinal "RainStreets$Rules" "RainStreets$Rules" "lookTo" "[I") ∈ lw_all := lw_g (lw_at lw_m1 145 rfl) rfl
theorem q204 : (Jvm.Cond.soleField "RainStreets$Rules" "lookTo") ∈ lw_all := lw_g (lw_at lw_m1 146 rfl) rfl
theorem q205 : (Jvm.Cond.superclass "RainStreets$Rules" "java/lang/Object") ∈ lw_all := lw_g (lw_at lw_m1 147 rfl) rfl
theorem q467 : (Jvm.Cond.selects "RainStreets$Rules" ({ cls := "java/lang/Object", name := "getClass", desc := "()Ljava/lang/Class;" } : Jvm.MethodName) ({ cls := "java/lang/Object", name := "getClass", desc := "()Ljava/lang/Class;" } : Jvm.MethodName)) ∈ lw_all := lw_g (lw_at lw_m2 169 rfl) rfl
theorem q1105 : (Jvm.Cond.instanceMethod ({ cls := "RainStreets$Rules", name := "isFall", desc := "(I)Z" } : Jvm.MethodName)) ∈ lw_all := lw_g (lw_at lw_m5 87 rfl) rfl
theorem q1106 : (Jvm.Cond.selects "RainStreets$Rules" ({ cls := "RainStreets$Rules", name := "isFall", desc := "(I)Z" } : Jvm.MethodName) ({ cls := "RainStreets$Rules", name := "isFall", desc := "(I)Z" } : Jvm.MethodName)) ∈ lw_all := lw_g (lw_at lw_m5 88 rfl) rfl
theorem q1107 : (Jvm.Cond.code ({ cls := "RainStreets$Rules", name := "isFall", desc := "(I)Z" } : Jvm.MethodName) prog_6_method_2_code (2 : Nat) (Option.some Jvm.ClassFile.FieldType.boolean)) ∈ lw_all := lw_g (lw_at lw_m5 89 rfl) rfl
theorem q1917 : (Jvm.Cond.castable "RainStreets$Rules" "java/lang/Object") ∈ lw_tbl := lw_at lw_m8 179 rfl
theorem q88 : (Jvm.Cond.initialized "RainStreets$Turn") ∈ lw_all := lw_g (lw_at lw_m1 30 rfl) rfl
theorem q470 : (Jvm.Cond.selects "RainStreets$Turn" ({ cls := "java/lang/Object", name := "getClass", desc := "()Ljava/lang/Class;" } : Jvm.MethodName) ({ cls := "java/lang/Object", name := "getClass", desc := "()Ljava/lang/Class;" } : Jvm.MethodName)) ∈ lw_all := lw_g (lw_at lw_m2 172 rfl) rfl
theorem q1026 : (Jvm.Cond.instantiable "RainStreets$Turn" (4 : Nat)) ∈ lw_all := lw_g (lw_at lw_m5 8 rfl) rfl
theorem q1029 : (Jvm.Cond.instanceMethod ({ cls := "RainStreets$Turn", name := "<init>", desc := "(IIII)V" } : Jvm.MethodName)) ∈ lw_all := lw_g (lw_at lw_m5 11 rfl) rfl
theorem q1030 : (Jvm.Cond.code ({ cls := "RainStreets$Turn", name := "<init>", desc := "(IIII)V" } : Jvm.MethodName) prog_9_method_1_code (5 : Nat) (Option.none : Option Jvm.ClassFile.FieldType)) ∈ lw_all := lw_g (lw_at lw_m5 12 rfl) rfl
theorem q1031 : (Jvm.Cond.methodLink "RainStreets$Turn" (1 : Nat) ({ cls := "java/lang/Record", name := "<init>", desc := "()V" } : Jvm.MethodName)) ∈ lw_all := lw_g (lw_at lw_m5 13 rfl) rfl
theorem q1035 : (Jvm.Cond.fieldLink "RainStreets$Turn" (7 : Nat) "RainStreets$Turn" "neighbour" "I") ∈ lw_all := lw_g (lw_at lw_m5 17 rfl) rfl
theorem q1036 : (Jvm.Cond.fieldLink "RainStreets$Turn" (13 : Nat) "RainStreets$Turn" "corner" "I") ∈ lw_all := lw_g (lw_at lw_m5 18 rfl) rfl
theorem q1037 : (Jvm.Cond.fieldLink "RainStreets$Turn" (16 : Nat) "RainStreets$Turn" "every" "I") ∈ lw_all := lw_g (lw_at lw_m5 19 rfl) rfl
theorem q1038 : (Jvm.Cond.fieldLink "RainStreets$Turn" (19 : Nat) "RainStreets$Turn" "from" "I") ∈ lw_all := lw_g (lw_at lw_m5 20 rfl) rfl
theorem q1039 : (Jvm.Cond.laysFinal "RainStreets$Turn" "RainStreets$Turn" "neighbour" "I") ∈ lw_all := lw_g (lw_at lw_m5 21 rfl) rfl
theorem q1040 : (Jvm.Cond.soleField "RainStreets$Turn" "neighbour") ∈ lw_all := lw_g (lw_at lw_m5 22 rfl) rfl
theorem q1041 : (Jvm.Cond.laysFinal "RainStreets$Turn" "RainStreets$Turn" "corner" "I") ∈ lw_all := lw_g (lw_at lw_m5 23 rfl) rfl
theorem q1042 : (Jvm.Cond.soleField "RainStreets$Turn" "corner") ∈ lw_all := lw_g (lw_at lw_m5 24 rfl) rfl
theorem q1043 : (Jvm.Cond.laysFinal "RainStreets$Turn" "RainStreets$Turn" "every" "I") ∈ lw_all := lw_g (lw_at lw_m5 25 rfl) rfl
theorem q1044 : (Jvm.Cond.soleField "RainStreets$Turn" "every") ∈ lw_all := lw_g (lw_at lw_m5 26 rfl) rfl
theorem q1045 : (Jvm.Cond.laysFinal "RainStreets$Turn" "RainStreets$Turn" "from" "I") ∈ lw_all := lw_g (lw_at lw_m5 27 rfl) rfl
theorem q1046 : (Jvm.Cond.soleField "RainStreets$Turn" "from") ∈ lw_all := lw_g (lw_at lw_m5 28 rfl) rfl
theorem q1047 : (Jvm.Cond.superclass "RainStreets$Turn" "java/lang/Record") ∈ lw_all := lw_g (lw_at lw_m5 29 rfl) rfl
theorem q1072 : (Jvm.Cond.instanceMethod ({ cls := "RainStreets$Turn", name := "neighbour", desc := "()I" } : Jvm.MethodName)) ∈ lw_all := lw_g (lw_at lw_m5 54 rfl) rfl
theorem q1073 : (Jvm.Cond.selects "RainStreets$Turn" ({ cls := "RainStreets$Turn", name := "neighbour", desc := "()I" } : Jvm.MethodName) ({ cls := "RainStreets$Turn", name := "neighbour", desc := "()I" } : Jvm.MethodName)) ∈ lw_all := lw_g (lw_at lw_m5 55 rfl) rfl
theorem q1074 : (Jvm.Cond.code ({ cls := "RainStreets$Turn", name := "neighbour", desc := "()I" } : Jvm.MethodName) prog_9_method_6_code (1 : Nat) (Option.some Jvm.ClassFile.FieldType.int)) ∈ lw_all := lw_g (lw_at lw_m5 56 rfl) rfl
theorem q1076 : (Jvm.Cond.instanceMethod ({ cls := "RainStreets$Turn", name := "corner", desc := "()I" } : Jvm.MethodName)) ∈ lw_all := lw_g (lw_at lw_m5 58 rfl) rfl
theorem q1077 : (Jvm.Cond.selects "RainStreets$Turn" ({ cls := "RainStreets$Turn", name := "corner", desc := "()I" } : Jvm.MethodName) ({ cls := "RainStreets$Turn", name := "corner", desc := "()I" } : Jvm.MethodName)) ∈ lw_all := lw_g (lw_at lw_m5 59 rfl) rfl
theorem q1078 : (Jvm.Cond.code ({ cls := "RainStreets$Turn", name := "corner", desc := "()I" } : Jvm.MethodName) prog_9_method_7_code (1 : Nat) (Option.some Jvm.ClassFile.FieldType.int)) ∈ lw_all := lw_g (lw_at lw_m5 60 rfl) rfl
theorem q1080 : (Jvm.Cond.instanceMethod ({ cls := "RainStreets$Turn", name := "isOn", desc := "(I)Z" } : Jvm.MethodName)) ∈ lw_all := lw_g (lw_at lw_m5 62 rfl) rfl
theorem q1081 : (Jvm.Cond.selects "RainStreets$Turn" ({ cls := "RainStreets$Turn", name := "isOn", desc := "(I)Z" } : Jvm.MethodName) ({ cls := "RainStreets$Turn", name := "isOn", desc := "(I)Z" } : Jvm.MethodName)) ∈ lw_all := lw_g (lw_at lw_m5 63 rfl) rfl
theorem q1082 : (Jvm.Cond.code ({ cls := "RainStreets$Turn", name := "isOn", desc := "(I)Z" } : Jvm.MethodName) prog_9_method_2_code (2 : Nat) (Option.some Jvm.ClassFile.FieldType.boolean)) ∈ lw_all := lw_g (lw_at lw_m5 64 rfl) rfl
theorem q1929 : (Jvm.Cond.castable "RainStreets$Turn" "java/lang/Object") ∈ lw_tbl := lw_at lw_m8 191 rfl
theorem q64 : (Jvm.Cond.initialized "RainStreets$Run") ∈ lw_all := lw_g (lw_at lw_m1 6 rfl) rfl
theorem q208 : (Jvm.Cond.instantiable "RainStreets$Run" (15 : Nat)) ∈ lw_all := lw_g (lw_at lw_m1 150 rfl) rfl
theorem q210 : (Jvm.Cond.instanceMethod ({ cls := "RainStreets$Run", name := "<init>", desc := "(LRainStreets;)V" } : Jvm.MethodName)) ∈ lw_all := lw_g (lw_at lw_m1 152 rfl) rfl
theorem q211 : (Jvm.Cond.code ({ cls := "RainStreets$Run", name := "<init>", desc := "(LRainStreets;)V" } : Jvm.MethodName) prog_7_method_1_code (2 : Nat) (Option.none : Option Jvm.ClassFile.FieldType)) ∈ lw_all := lw_g (lw_at lw_m1 153 rfl) rfl
theorem q212 : (Jvm.Cond.methodLink "RainStreets$Run" (9 : Nat) ({ cls := "java/lang/Object", name := "<init>", desc := "()V" } : Jvm.MethodName)) ∈ lw_all := lw_g (lw_at lw_m1 154 rfl) rfl
theorem q213 : (Jvm.Cond.fieldLink "RainStreets$Run" (15 : Nat) "RainStreets$Run" "bowls" "[I") ∈ lw_all := lw_g (lw_at lw_m1 155 rfl) rfl
theorem q215 : (Jvm.Cond.fieldLink "RainStreets$Run" (19 : Nat) "RainStreets$Run" "barrels" "[I") ∈ lw_all := lw_g (lw_at lw_m1 157 rfl) rfl
theorem q217 : (Jvm.Cond.fieldLink "RainStreets$Run" (22 : Nat) "RainStreets$Run" "spills" "[I") ∈ lw_all := lw_g (lw_at lw_m1 159 rfl) rfl
theorem q219 : (Jvm.Cond.fieldLink "RainStreets$Run" (25 : Nat) "RainStreets$Run" "wet" "[I") ∈ lw_all := lw_g (lw_at lw_m1 161 rfl) rfl
theorem q221 : (Jvm.Cond.fieldLink "RainStreets$Run" (28 : Nat) "RainStreets$Run" "most" "[I") ∈ lw_all := lw_g (lw_at lw_m1 163 rfl) rfl
theorem q223 : (Jvm.Cond.fieldLink "RainStreets$Run" (31 : Nat) "RainStreets$Run" "piped" "[I") ∈ lw_all := lw_g (lw_at lw_m1 165 rfl) rfl
theorem q224 : (Jvm.Cond.fieldLink "RainStreets$Run" (34 : Nat) "RainStreets$Run" "street" "[I") ∈ lw_all := lw_g (lw_at lw_m1 166 rfl) rfl
theorem q225 : (Jvm.Cond.fieldLink "RainStreets$Run" (37 : Nat) "RainStreets$Run" "set" "I") ∈ lw_all := lw_g (lw_at lw_m1 167 rfl) rfl
theorem q226 : (Jvm.Cond.fieldLink "RainStreets$Run" (41 : Nat) "RainStreets$Run" "rain" "J") ∈ lw_all := lw_g (lw_at lw_m1 168 rfl) rfl
theorem q228 : (Jvm.Cond.fieldLink "RainStreets$Run" (45 : Nat) "RainStreets$Run" "drinks" "J") ∈ lw_all := lw_g (lw_at lw_m1 170 rfl) rfl
theorem q230 : (Jvm.Cond.fieldLink "RainStreets$Run" (48 : Nat) "RainStreets$Run" "all" "J") ∈ lw_all := lw_g (lw_at lw_m1 172 rfl) rfl
theorem q232 : (Jvm.Cond.fieldLink "RainStreets$Run" (51 : Nat) "RainStreets$Run" "end" "J") ∈ lw_all := lw_g (lw_at lw_m1 174 rfl) rfl
theorem q234 : (Jvm.Cond.fieldLink "RainStreets$Run" (54 : Nat) "RainStreets$Run" "wets" "I") ∈ lw_all := lw_g (lw_at lw_m1 176 rfl) rfl
theorem q236 : (Jvm.Cond.fieldLink "RainStreets$Run" (57 : Nat) "RainStreets$Run" "mostEnd" "I") ∈ lw_all := lw_g (lw_at lw_m1 178 rfl) rfl
theorem q238 : (Jvm.Cond.fieldLink "RainStreets$Run" (3 : Nat) "RainStreets$Run" "this$0" "LRainStreets;") ∈ lw_all := lw_g (lw_at lw_m1 180 rfl) rfl
theorem q239 : (Jvm.Cond.laysFinal "RainStreets$Run" "RainStreets$Run" "bowls" "[I") ∈ lw_all := lw_g (lw_at lw_m1 181 rfl) rfl
theorem q240 : (Jvm.Cond.soleField "RainStreets$Run" "bowls") ∈ lw_all := lw_g (lw_at lw_m1 182 rfl) rfl
theorem q241 : (Jvm.Cond.laysFinal "RainStreets$Run" "RainStreets$Run" "barrels" "[I") ∈ lw_all := lw_g (lw_at lw_m1 183 rfl) rfl
theorem q242 : (Jvm.Cond.soleField "RainStreets$Run" "barrels") ∈ lw_all := lw_g (lw_at lw_m1 184 rfl) rfl
theorem q243 : (Jvm.Cond.laysFinal "RainStreets$Run" "RainStreets$Run" "spills" "[I") ∈ lw_all := lw_g (lw_at lw_m1 185 rfl) rfl
theorem q244 : (Jvm.Cond.soleField "RainStreets$Run" "spills") ∈ lw_all := lw_g (lw_at lw_m1 186 rfl) rfl
theorem q245 : (Jvm.Cond.laysFinal "RainStreets$Run" "RainStreets$Run" "wet" "[I") ∈ lw_all := lw_g (lw_at lw_m1 187 rfl) rfl
theorem q246 : (Jvm.Cond.soleField "RainStreets$Run" "wet") ∈ lw_all := lw_g (lw_at lw_m1 188 rfl) rfl
theorem q247 : (Jvm.Cond.laysFinal "RainStreets$Run" "RainStreets$Run" "most" "[I") ∈ lw_all := lw_g (lw_at lw_m1 189 rfl) rfl
theorem q248 : (Jvm.Cond.soleField "RainStreets$Run" "most") ∈ lw_all := lw_g (lw_at lw_m1 190 rfl) rfl
theorem q249 : (Jvm.Cond.laysFinal "RainStreets$Run" "RainStreets$Run" "piped" "[I") ∈ lw_all := lw_g (lw_at lw_m1 191 rfl) rfl
theorem q250 : (Jvm.Cond.soleField "RainStreets$Run" "piped") ∈ lw_all := lw_g (lw_at lw_m1 192 rfl) rfl
theorem q251 : (Jvm.Cond.laysFinal "RainStreets$Run" "RainStreets$Run" "street" "[I") ∈ lw_all := lw_g (lw_at lw_m1 193 rfl) rfl
theorem q252 : (Jvm.Cond.soleField "RainStreets$Run" "street") ∈ lw_all := lw_g (lw_at lw_m1 194 rfl) rfl
theorem q253 : (Jvm.Cond.lays "RainStreets$Run" "RainStreets$Run" "set" "I") ∈ lw_all := lw_g (lw_at lw_m1 195 rfl) rfl
theorem q254 : (Jvm.Cond.soleField "RainStreets$Run" "set") ∈ lw_all := lw_g (lw_at lw_m1 196 rfl) rfl
theorem q255 : (Jvm.Cond.lays "RainStreets$Run" "RainStreets$Run" "rain" "J") ∈ lw_all := lw_g (lw_at lw_m1 197 rfl) rfl
theorem q256 : (Jvm.Cond.soleField "RainStreets$Run" "rain") ∈ lw_all := lw_g (lw_at lw_m1 198 rfl) rfl
theorem q257 : (Jvm.Cond.lays "RainStreets$Run" "RainStreets$Run" "drinks" "J") ∈ lw_all := lw_g (lw_at lw_m1 199 rfl) rfl
theorem q258 : (Jvm.Cond.soleField "RainStreets$Run" "drinks") ∈ lw_all := lw_g (lw_at lw_m1 200 rfl) rfl
theorem q259 : (Jvm.Cond.lays "RainStreets$Run" "RainStreets$Run" "all" "J") ∈ lw_all := lw_g (lw_at lw_m1 201 rfl) rfl
theorem q260 : (Jvm.Cond.soleField "RainStreets$Run" "all") ∈ lw_all := lw_g (lw_at lw_m1 202 rfl) rfl
theorem q261 : (Jvm.Cond.lays "RainStreets$Run" "RainStreets$Run" "end" "J") ∈ lw_all := lw_g (lw_at lw_m1 203 rfl) rfl
theorem q262 : (Jvm.Cond.soleField "RainStreets$Run" "end") ∈ lw_all := lw_g (lw_at lw_m1 204 rfl) rfl
theorem q263 : (Jvm.Cond.lays "RainStreets$Run" "RainStreets$Run" "wets" "I") ∈ lw_all := lw_g (lw_at lw_m1 205 rfl) rfl
theorem q264 : (Jvm.Cond.soleField "RainStreets$Run" "wets") ∈ lw_all := lw_g (lw_at lw_m1 206 rfl) rfl
theorem q265 : (Jvm.Cond.lays "RainStreets$Run" "RainStreets$Run" "mostEnd" "I") ∈ lw_all := lw_g (lw_at lw_m1 207 rfl) rfl
theorem q266 : (Jvm.Cond.soleField "RainStreets$Run" "mostEnd") ∈ lw_all := lw_g (lw_at lw_m1 208 rfl) rfl
theorem q267 : (Jvm.Cond.laysFinal "RainStreets$Run" "RainStreets$Run" "this$0" "LRainStreets;") ∈ lw_all := lw_g (lw_at lw_m1 209 rfl) rfl
theorem q268 : (Jvm.Cond.soleField "RainStreets$Run" "this$0") ∈ lw_all := lw_g (lw_at lw_m1 210 rfl) rfl
theorem q269 : (Jvm.Cond.superclass "RainStreets$Run" "java/lang/Object") ∈ lw_all := lw_g (lw_at lw_m1 211 rfl) rfl
theorem q275 : (Jvm.Cond.fieldLinkNest "RainStreets$Run" (143 : Nat) "RainStreets" "drinks" "[I" "RainStreets") ∈ lw_tbl := lw_at lw_m1 217 rfl
theorem q276 : (Jvm.Cond.fieldLinkNest "RainStreets$Run" (60 : Nat) "RainStreets" "corners" "Ljava/util/ArrayList;" "RainStreets") ∈ lw_tbl := lw_at lw_m1 218 rfl
theorem q278 : (Jvm.Cond.fieldLinkNest "RainStreets$Run" (70 : Nat) "RainStreets" "roofs" "Ljava/util/ArrayList;" "RainStreets") ∈ lw_tbl := lw_at lw_m1 220 rfl
theorem q298 : (Jvm.Cond.fieldLinkNest "RainStreets$Run" (85 : Nat) "RainStreets" "minutes" "[I" "RainStreets") ∈ lw_tbl := lw_at lw_m2 0 rfl
theorem q300 : (Jvm.Cond.fieldLinkNest "RainStreets$Run" (82 : Nat) "RainStreets" "minuteMany" "I" "RainStreets") ∈ lw_tbl := lw_at lw_m2 2 rfl
theorem q383 : (Jvm.Cond.fieldLinkNest "RainStreets$Run" (130 : Nat) "RainStreets$Corner" "number" "I" "RainStreets") ∈ lw_tbl := lw_at lw_m2 85 rfl
theorem q386 : (Jvm.Cond.fieldLinkNest "RainStreets$Run" (94 : Nat) "RainStreets$Corner" "area" "I" "RainStreets") ∈ lw_tbl := lw_at lw_m2 88 rfl
theorem q389 : (Jvm.Cond.fieldLinkNest "RainStreets$Run" (104 : Nat) "RainStreets$Corner" "pipe" "I" "RainStreets") ∈ lw_tbl := lw_at lw_m2 91 rfl
theorem q394 : (Jvm.Cond.fieldLinkNest "RainStreets$Run" (116 : Nat) "RainStreets$Corner" "cellar" "I" "RainStreets") ∈ lw_tbl := lw_at lw_m2 96 rfl
theorem q397 : (Jvm.Cond.fieldLinkNest "RainStreets$Run" (113 : Nat) "RainStreets$Corner" "below" "I" "RainStreets") ∈ lw_tbl := lw_at lw_m2 99 rfl
theorem q402 : (Jvm.Cond.fieldLinkNest "RainStreets$Run" (131 : Nat) "RainStreets$Corner" "bed" "LRainStreets$Bed;" "RainStreets") ∈ lw_tbl := lw_at lw_m2 104 rfl
theorem q405 : (Jvm.Cond.fieldLinkNest "RainStreets$Run" (119 : Nat) "RainStreets$Corner" "roofs" "Ljava/util/ArrayList;" "RainStreets") ∈ lw_tbl := lw_at lw_m2 107 rfl
theorem q468 : (Jvm.Cond.selects "RainStreets$Run" ({ cls := "java/lang/Object", name := "getClass", desc := "()Ljava/lang/Class;" } : Jvm.MethodName) ({ cls := "java/lang/Object", name := "getClass", desc := "()Ljava/lang/Class;" } : Jvm.MethodName)) ∈ lw_all := lw_g (lw_at lw_m2 170 rfl) rfl
theorem q525 : (Jvm.Cond.fieldLinkNest "RainStreets$Run" (124 : Nat) "RainStreets$Roof" "number" "I" "RainStreets") ∈ lw_tbl := lw_at lw_m2 227 rfl
theorem q530 : (Jvm.Cond.fieldLinkNest "RainStreets$Run" (120 : Nat) "RainStreets$Roof" "area" "I" "RainStreets") ∈ lw_tbl := lw_at lw_m2 232 rfl
theorem q533 : (Jvm.Cond.fieldLinkNest "RainStreets$Run" (121 : Nat) "RainStreets$Roof" "barrel" "I" "RainStreets") ∈ lw_tbl := lw_at lw_m2 235 rfl
theorem q537 : (Jvm.Cond.fieldLinkNest "RainStreets$Run" (79 : Nat) "RainStreets$Roof" "filled" "I" "RainStreets") ∈ lw_tbl := lw_at lw_m2 239 rfl
theorem q586 : (Jvm.Cond.fieldLinkNest "RainStreets$Run" (140 : Nat) "RainStreets$Bed" "bowl" "I" "RainStreets") ∈ lw_tbl := lw_at lw_m3 48 rfl
theorem q594 : (Jvm.Cond.fieldLinkNest "RainStreets$Run" (135 : Nat) "RainStreets$Bed" "leaves" "I" "RainStreets") ∈ lw_tbl := lw_at lw_m3 56 rfl
theorem q1183 : (Jvm.Cond.instanceMethod ({ cls := "RainStreets$Run", name := "runs", desc := "(I)V" } : Jvm.MethodName)) ∈ lw_all := lw_g (lw_at lw_m5 165 rfl) rfl
theorem q1184 : (Jvm.Cond.selects "RainStreets$Run" ({ cls := "RainStreets$Run", name := "runs", desc := "(I)V" } : Jvm.MethodName) ({ cls := "RainStreets$Run", name := "runs", desc := "(I)V" } : Jvm.MethodName)) ∈ lw_all := lw_g (lw_at lw_m5 166 rfl) rfl
theorem q1185 : (Jvm.Cond.code ({ cls := "RainStreets$Run", name := "runs", desc := "(I)V" } : Jvm.MethodName) prog_7_method_2_code (3 : Nat) (Option.none : Option Jvm.ClassFile.FieldType)) ∈ lw_all := lw_g (lw_at lw_m5 167 rfl) rfl
theorem q1186 : (Jvm.Cond.methodLink "RainStreets$Run" (64 : Nat) ({ cls := "java/util/ArrayList", name := "size", desc := "()I" } : Jvm.MethodName)) ∈ lw_all := lw_g (lw_at lw_m5 168 rfl) rfl
theorem q1187 : (Jvm.Cond.methodLink "RainStreets$Run" (73 : Nat) ({ cls := "java/util/ArrayList", name := "get", desc := "(I)Ljava/lang/Object;" } : Jvm.MethodName)) ∈ lw_all := lw_g (lw_at lw_m5 169 rfl) rfl
theorem q1188 : (Jvm.Cond.classLink "RainStreets$Run" (77 : Nat) "RainStreets$Roof") ∈ lw_all := lw_g (lw_at lw_m5 170 rfl) rfl
theorem q1189 : (Jvm.Cond.methodLink "RainStreets$Run" (88 : Nat) ({ cls := "RainStreets$Run", name := "minute", desc := "(I)V" } : Jvm.MethodName)) ∈ lw_all := lw_g (lw_at lw_m5 171 rfl) rfl
theorem q1190 : (Jvm.Cond.privateMethod ({ cls := "RainStreets$Run", name := "minute", desc := "(I)V" } : Jvm.MethodName)) ∈ lw_tbl := lw_at lw_m5 172 rfl
theorem q1191 : (Jvm.Cond.instanceMethod ({ cls := "RainStreets$Run", name := "minute", desc := "(I)V" } : Jvm.MethodName)) ∈ lw_all := lw_g (lw_at lw_m5 173 rfl) rfl
theorem q1192 : (Jvm.Cond.code ({ cls := "RainStreets$Run", name := "minute", desc := "(I)V" } : Jvm.MethodName) prog_7_method_3_code (10 : Nat) (Option.none : Option Jvm.ClassFile.FieldType)) ∈ lw_all := lw_g (lw_at lw_m5 174 rfl) rfl
theorem q1193 : (Jvm.Cond.classLink "RainStreets$Run" (92 : Nat) "RainStreets$Corner") ∈ lw_all := lw_g (lw_at lw_m5 175 rfl) rfl
theorem q1194 : (Jvm.Cond.methodLink "RainStreets$Run" (97 : Nat) ({ cls := "RainStreets$Run", name := "roofsOf", desc := "(LRainStreets$Corner;I)I" } : Jvm.MethodName)) ∈ lw_all := lw_g (lw_at lw_m5 176 rfl) rfl
theorem q1195 : (Jvm.Cond.privateMethod ({ cls := "RainStreets$Run", name := "roofsOf", desc := "(LRainStreets$Corner;I)I" } : Jvm.MethodName)) ∈ lw_tbl := lw_at lw_m5 177 rfl
theorem q1196 : (Jvm.Cond.instanceMethod ({ cls := "RainStreets$Run", name := "roofsOf", desc := "(LRainStreets$Corner;I)I" } : Jvm.MethodName)) ∈ lw_all := lw_g (lw_at lw_m5 178 rfl) rfl
theorem q1197 : (Jvm.Cond.code ({ cls := "RainStreets$Run", name := "roofsOf", desc := "(LRainStreets$Corner;I)I" } : Jvm.MethodName) prog_7_method_4_code (8 : Nat) (Option.some Jvm.ClassFile.FieldType.int)) ∈ lw_all := lw_g (lw_at lw_m5 179 rfl) rfl
theorem q1198 : (Jvm.Cond.methodLink "RainStreets$Run" (127 : Nat) ({ cls := "java/lang/Math", name := "min", desc := "(II)I" } : Jvm.MethodName)) ∈ lw_all := lw_g (lw_at lw_m5 180 rfl) rfl
theorem q1199 : (Jvm.Cond.methodLink "RainStreets$Run" (101 : Nat) ({ cls := "RainStreets$Run", name := "takes", desc := "(LRainStreets$Corner;I)I" } : Jvm.MethodName)) ∈ lw_all := lw_g (lw_at lw_m5 181 rfl) rfl
theorem q1200 : (Jvm.Cond.privateMethod ({ cls := "RainStreets$Run", name := "takes", desc := "(LRainStreets$Corner;I)I" } : Jvm.MethodName)) ∈ lw_tbl := lw_at lw_m5 182 rfl
theorem q1201 : (Jvm.Cond.instanceMethod ({ cls := "RainStreets$Run", name := "takes", desc := "(LRainStreets$Corner;I)I" } : Jvm.MethodName)) ∈ lw_all := lw_g (lw_at lw_m5 183 rfl) rfl
theorem q1202 : (Jvm.Cond.code ({ cls := "RainStreets$Run", name := "takes", desc := "(LRainStreets$Corner;I)I" } : Jvm.MethodName) prog_7_method_5_code (7 : Nat) (Option.some Jvm.ClassFile.FieldType.int)) ∈ lw_all := lw_g (lw_at lw_m5 184 rfl) rfl
theorem q1203 : (Jvm.Cond.methodLink "RainStreets$Run" (145 : Nat) ({ cls := "RainStreets$Bed", name := "drink", desc := "()I" } : Jvm.MethodName)) ∈ lw_all := lw_g (lw_at lw_m5 185 rfl) rfl
theorem q1204 : (Jvm.Cond.methodLink "RainStreets$Run" (107 : Nat) ({ cls := "java/lang/Math", name := "max", desc := "(II)I" } : Jvm.MethodName)) ∈ lw_all := lw_g (lw_at lw_m5 186 rfl) rfl
theorem q1918 : (Jvm.Cond.castable "RainStreets$Run" "java/lang/Object") ∈ lw_tbl := lw_at lw_m8 180 rfl
theorem q65 : (Jvm.Cond.initialized "RainStreetsModel") ∈ lw_all := lw_g (lw_at lw_m1 7 rfl) rfl
theorem q472 : (Jvm.Cond.selects "RainStreetsModel" ({ cls := "java/lang/Object", name := "getClass", desc := "()Ljava/lang/Class;" } : Jvm.MethodName) ({ cls := "java/lang/Object", name := "getClass", desc := "()Ljava/lang/Class;" } : Jvm.MethodName)) ∈ lw_all := lw_g (lw_at lw_m2 174 rfl) rfl
theorem q1369 : (Jvm.Cond.instantiable "RainStreetsModel" (82 : Nat)) ∈ lw_all := lw_g (lw_at lw_m6 111 rfl) rfl
theorem q1371 : (Jvm.Cond.instanceMethod ({ cls := "RainStreetsModel", name := "<init>", desc := "()V" } : Jvm.MethodName)) ∈ lw_all := lw_g (lw_at lw_m6 113 rfl) rfl
theorem q1372 : (Jvm.Cond.code ({ cls := "RainStreetsModel", name := "<init>", desc := "()V" } : Jvm.MethodName) prog_12_method_1_code (2 : Nat) (Option.none : Option Jvm.ClassFile.FieldType)) ∈ lw_all := lw_g (lw_at lw_m6 114 rfl) rfl
theorem q1373 : (Jvm.Cond.methodLink "RainStreetsModel" (1 : Nat) ({ cls := "java/lang/Object", name := "<init>", desc := "()V" } : Jvm.MethodName)) ∈ lw_all := lw_g (lw_at lw_m6 115 rfl) rfl
theorem q1374 : (Jvm.Cond.fieldLink "RainStreetsModel" (212 : Nat) "RainStreetsModel" "today" "I") ∈ lw_all := lw_g (lw_at lw_m6 116 rfl) rfl
theorem q1375 : (Jvm.Cond.fieldLink "RainStreetsModel" (191 : Nat) "RainStreetsModel" "corners" "I") ∈ lw_all := lw_g (lw_at lw_m6 117 rfl) rfl
theorem q1376 : (Jvm.Cond.fieldLink "RainStreetsModel" (202 : Nat) "RainStreetsModel" "roofs" "I") ∈ lw_all := lw_g (lw_at lw_m6 118 rfl) rfl
theorem q1377 : (Jvm.Cond.fieldLink "RainStreetsModel" (257 : Nat) "RainStreetsModel" "minutes" "I") ∈ lw_all := lw_g (lw_at lw_m6 119 rfl) rfl
theorem q1378 : (Jvm.Cond.fieldLink "RainStreetsModel" (295 : Nat) "RainStreetsModel" "storms" "I") ∈ lw_all := lw_g (lw_at lw_m6 120 rfl) rfl
theorem q1379 : (Jvm.Cond.fieldLink "RainStreetsModel" (335 : Nat) "RainStreetsModel" "looks" "I") ∈ lw_all := lw_g (lw_at lw_m6 121 rfl) rfl
theorem q1380 : (Jvm.Cond.fieldLink "RainStreetsModel" (338 : Nat) "RainStreetsModel" "complaints" "I") ∈ lw_all := lw_g (lw_at lw_m6 122 rfl) rfl
theorem q1381 : (Jvm.Cond.fieldLink "RainStreetsModel" (7 : Nat) "RainStreetsModel" "area" "[I") ∈ lw_all := lw_g (lw_at lw_m6 123 rfl) rfl
theorem q1382 : (Jvm.Cond.fieldLink "RainStreetsModel" (13 : Nat) "RainStreetsModel" "pipe" "[I") ∈ lw_all := lw_g (lw_at lw_m6 124 rfl) rfl
theorem q1383 : (Jvm.Cond.fieldLink "RainStreetsModel" (16 : Nat) "RainStreetsModel" "parking" "[I") ∈ lw_all := lw_g (lw_at lw_m6 125 rfl) rfl
theorem q1384 : (Jvm.Cond.fieldLink "RainStreetsModel" (19 : Nat) "RainStreetsModel" "cellar" "[I") ∈ lw_all := lw_g (lw_at lw_m6 126 rfl) rfl
theorem q1385 : (Jvm.Cond.fieldLink "RainStreetsModel" (22 : Nat) "RainStreetsModel" "below" "[I") ∈ lw_all := lw_g (lw_at lw_m6 127 rfl) rfl
theorem q1386 : (Jvm.Cond.fieldLink "RainStreetsModel" (25 : Nat) "RainStreetsModel" "hasBed" "[Z") ∈ lw_all := lw_g (lw_at lw_m6 128 rfl) rfl
theorem q1387 : (Jvm.Cond.fieldLink "RainStreetsModel" (29 : Nat) "RainStreetsModel" "hasTree" "[Z") ∈ lw_all := lw_g (lw_at lw_m6 129 rfl) rfl
theorem q1388 : (Jvm.Cond.fieldLink "RainStreetsModel" (32 : Nat) "RainStreetsModel" "hasPlants" "[Z") ∈ lw_all := lw_g (lw_at lw_m6 130 rfl) rfl
theorem q1389 : (Jvm.Cond.fieldLink "RainStreetsModel" (35 : Nat) "RainStreetsModel" "lot" "[I") ∈ lw_all := lw_g (lw_at lw_m6 131 rfl) rfl
theorem q1390 : (Jvm.Cond.fieldLink "RainStreetsModel" (38 : Nat) "RainStreetsModel" "bowl" "[I") ∈ lw_all := lw_g (lw_at lw_m6 132 rfl) rfl
theorem q1391 : (Jvm.Cond.fieldLink "RainStreetsModel" (41 : Nat) "RainStreetsModel" "made" "[I") ∈ lw_all := lw_g (lw_at lw_m6 133 rfl) rfl
theorem q1392 : (Jvm.Cond.fieldLink "RainStreetsModel" (44 : Nat) "RainStreetsModel" "clog" "[I") ∈ lw_all := lw_g (lw_at lw_m6 134 rfl) rfl
theorem q1393 : (Jvm.Cond.fieldLink "RainStreetsModel" (47 : Nat) "RainStreetsModel" "leaves" "[I") ∈ lw_all := lw_g (lw_at lw_m6 135 rfl) rfl
theorem q1394 : (Jvm.Cond.fieldLink "RainStreetsModel" (50 : Nat) "RainStreetsModel" "salt" "[I") ∈ lw_all := lw_g (lw_at lw_m6 136 rfl) rfl
theorem q1395 : (Jvm.Cond.fieldLink "RainStreetsModel" (53 : Nat) "RainStreetsModel" "holds" "[I") ∈ lw_all := lw_g (lw_at lw_m6 137 rfl) rfl
theorem q1396 : (Jvm.Cond.fieldLink "RainStreetsModel" (56 : Nat) "RainStreetsModel" "stands" "[I") ∈ lw_all := lw_g (lw_at lw_m6 138 rfl) rfl
theorem q1397 : (Jvm.Cond.fieldLink "RainStreetsModel" (59 : Nat) "RainStreetsModel" "looked" "[I") ∈ lw_all := lw_g (lw_at lw_m6 139 rfl) rfl
theorem q1398 : (Jvm.Cond.fieldLink "RainStreetsModel" (62 : Nat) "RainStreetsModel" "caredOn" "[I") ∈ lw_all := lw_g (lw_at lw_m6 140 rfl) rfl
theorem q1399 : (Jvm.Cond.fieldLink "RainStreetsModel" (65 : Nat) "RainStreetsModel" "roofAt" "[I") ∈ lw_all := lw_g (lw_at lw_m6 141 rfl) rfl
theorem q1400 : (Jvm.Cond.fieldLink "RainStreetsModel" (68 : Nat) "RainStreetsModel" "owner" "[I") ∈ lw_all := lw_g (lw_at lw_m6 142 rfl) rfl
theorem q1401 : (Jvm.Cond.fieldLink "RainStreetsModel" (71 : Nat) "RainStreetsModel" "roofArea" "[I") ∈ lw_all := lw_g (lw_at lw_m6 143 rfl) rfl
theorem q1402 : (Jvm.Cond.fieldLink "RainStreetsModel" (74 : Nat) "RainStreetsModel" "barrel" "[I") ∈ lw_all := lw_g (lw_at lw_m6 144 rfl) rfl
theorem q1403 : (Jvm.Cond.fieldLink "RainStreetsModel" (77 : Nat) "RainStreetsModel" "has" "[I") ∈ lw_all := lw_g (lw_at lw_m6 145 rfl) rfl
theorem q1404 : (Jvm.Cond.fieldLink "RainStreetsModel" (80 : Nat) "RainStreetsModel" "proved" "[I") ∈ lw_all := lw_g (lw_at lw_m6 146 rfl) rfl
theorem q1405 : (Jvm.Cond.fieldLink "RainStreetsModel" (83 : Nat) "RainStreetsModel" "drinks" "[I") ∈ lw_all := lw_g (lw_at lw_m6 147 rfl) rfl
theorem q1406 : (Jvm.Cond.fieldLink "RainStreetsModel" (86 : Nat) "RainStreetsModel" "rain" "[I") ∈ lw_all := lw_g (lw_at lw_m6 148 rfl) rfl
theorem q1407 : (Jvm.Cond.fieldLink "RainStreetsModel" (89 : Nat) "RainStreetsModel" "owes" "[I") ∈ lw_all := lw_g (lw_at lw_m6 149 rfl) rfl
theorem q1408 : (Jvm.Cond.fieldLink "RainStreetsModel" (92 : Nat) "RainStreetsModel" "kept" "[I") ∈ lw_all := lw_g (lw_at lw_m6 150 rfl) rfl
theorem q1409 : (Jvm.Cond.fieldLink "RainStreetsModel" (301 : Nat) "RainStreetsModel" "rained" "J") ∈ lw_all := lw_g (lw_at lw_m6 151 rfl) rfl
theorem q1410 : (Jvm.Cond.fieldLink "RainStreetsModel" (233 : Nat) "RainStreetsModel" "drunk" "J") ∈ lw_all := lw_g (lw_at lw_m6 152 rfl) rfl
theorem q1411 : (Jvm.Cond.fieldLink "RainStreetsModel" (304 : Nat) "RainStreetsModel" "spilt" "J") ∈ lw_all := lw_g (lw_at lw_m6 153 rfl) rfl
theorem q1412 : (Jvm.Cond.fieldLink "RainStreetsModel" (307 : Nat) "RainStreetsModel" "works" "J") ∈ lw_all := lw_g (lw_at lw_m6 154 rfl) rfl
theorem q1413 : (Jvm.Cond.fieldLink "RainStreetsModel" (251 : Nat) "RainStreetsModel" "used" "J") ∈ lw_all := lw_g (lw_at lw_m6 155 rfl) rfl
theorem q1414 : (Jvm.Cond.fieldLink "RainStreetsModel" (95 : Nat) "RainStreetsModel" "barrelNow" "[I") ∈ lw_all := lw_g (lw_at lw_m6 156 rfl) rfl
theorem q1415 : (Jvm.Cond.fieldLink "RainStreetsModel" (98 : Nat) "RainStreetsModel" "bowlNow" "[I") ∈ lw_all := lw_g (lw_at lw_m6 157 rfl) rfl
theorem q1416 : (Jvm.Cond.fieldLink "RainStreetsModel" (101 : Nat) "RainStreetsModel" "street" "[J") ∈ lw_all := lw_g (lw_at lw_m6 158 rfl) rfl
theorem q1417 : (Jvm.Cond.fieldLink "RainStreetsModel" (105 : Nat) "RainStreetsModel" "inPipe" "[J") ∈ lw_all := lw_g (lw_at lw_m6 159 rfl) rfl
theorem q1418 : (Jvm.Cond.fieldLink "RainStreetsModel" (108 : Nat) "RainStreetsModel" "spiltAt" "[J") ∈ lw_all := lw_g (lw_at lw_m6 160 rfl) rfl
theorem q1419 : (Jvm.Cond.fieldLink "RainStreetsModel" (111 : Nat) "RainStreetsModel" "mostAt" "[J") ∈ lw_all := lw_g (lw_at lw_m6 161 rfl) rfl
theorem q1420 : (Jvm.Cond.fieldLink "RainStreetsModel" (114 : Nat) "RainStreetsModel" "wetAt" "[I") ∈ lw_all := lw_g (lw_at lw_m6 162 rfl) rfl
theorem q1421 : (Jvm.Cond.fieldLink "RainStreetsModel" (260 : Nat) "RainStreetsModel" "allRain" "J") ∈ lw_all := lw_g (lw_at lw_m6 163 rfl) rfl
theorem q1422 : (Jvm.Cond.fieldLink "RainStreetsModel" (263 : Nat) "RainStreetsModel" "allDrunk" "J") ∈ lw_all := lw_g (lw_at lw_m6 164 rfl) rfl
theorem q1423 : (Jvm.Cond.fieldLink "RainStreetsModel" (266 : Nat) "RainStreetsModel" "allSpilt" "J") ∈ lw_all := lw_g (lw_at lw_m6 165 rfl) rfl
theorem q1424 : (Jvm.Cond.fieldLink "RainStreetsModel" (269 : Nat) "RainStreetsModel" "allWorks" "J") ∈ lw_all := lw_g (lw_at lw_m6 166 rfl) rfl
theorem q1425 : (Jvm.Cond.fieldLink "RainStreetsModel" (272 : Nat) "RainStreetsModel" "mostWorks" "J") ∈ lw_all := lw_g (lw_at lw_m6 167 rfl) rfl
theorem q1426 : (Jvm.Cond.fieldLink "RainStreetsModel" (275 : Nat) "RainStreetsModel" "allWet" "I") ∈ lw_all := lw_g (lw_at lw_m6 168 rfl) rfl
theorem q1427 : (Jvm.Cond.fieldLink "RainStreetsModel" (117 : Nat) "RainStreetsModel" "stormRain" "[J") ∈ lw_all := lw_g (lw_at lw_m6 169 rfl) rfl
theorem q1428 : (Jvm.Cond.fieldLink "RainStreetsModel" (120 : Nat) "RainStreetsModel" "stormSpilt" "[J") ∈ lw_all := lw_g (lw_at lw_m6 170 rfl) rfl
theorem q1429 : (Jvm.Cond.fieldLink "RainStreetsModel" (123 : Nat) "RainStreetsModel" "stormMost" "[J") ∈ lw_all := lw_g (lw_at lw_m6 171 rfl) rfl
theorem q1430 : (Jvm.Cond.fieldLink "RainStreetsModel" (126 : Nat) "RainStreetsModel" "toldSpilt" "[J") ∈ lw_all := lw_g (lw_at lw_m6 172 rfl) rfl
theorem q1431 : (Jvm.Cond.fieldLink "RainStreetsModel" (129 : Nat) "RainStreetsModel" "toldMost" "[J") ∈ lw_all := lw_g (lw_at lw_m6 173 rfl) rfl
theorem q1432 : (Jvm.Cond.fieldLink "RainStreetsModel" (132 : Nat) "RainStreetsModel" "stormDay" "[I") ∈ lw_all := lw_g (lw_at lw_m6 174 rfl) rfl
theorem q1433 : (Jvm.Cond.fieldLink "RainStreetsModel" (135 : Nat) "RainStreetsModel" "stormWet" "[I") ∈ lw_all := lw_g (lw_at lw_m6 175 rfl) rfl
theorem q1434 : (Jvm.Cond.fieldLink "RainStreetsModel" (138 : Nat) "RainStreetsModel" "toldWet" "[I") ∈ lw_all := lw_g (lw_at lw_m6 176 rfl) rfl
theorem q1435 : (Jvm.Cond.fieldLink "RainStreetsModel" (141 : Nat) "RainStreetsModel" "atCorner" "[I") ∈ lw_all := lw_g (lw_at lw_m6 177 rfl) rfl
theorem q1436 : (Jvm.Cond.fieldLink "RainStreetsModel" (144 : Nat) "RainStreetsModel" "ofKind" "[I") ∈ lw_all := lw_g (lw_at lw_m6 178 rfl) rfl
theorem q1437 : (Jvm.Cond.fieldLink "RainStreetsModel" (147 : Nat) "RainStreetsModel" "toldOn" "[I") ∈ lw_all := lw_g (lw_at lw_m6 179 rfl) rfl
theorem q1438 : (Jvm.Cond.fieldLink "RainStreetsModel" (150 : Nat) "RainStreetsModel" "joinedOn" "[I") ∈ lw_all := lw_g (lw_at lw_m6 180 rfl) rfl
theorem q1439 : (Jvm.Cond.fieldLink "RainStreetsModel" (153 : Nat) "RainStreetsModel" "often" "[I") ∈ lw_all := lw_g (lw_at lw_m6 181 rfl) rfl
theorem q1440 : (Jvm.Cond.fieldLink "RainStreetsModel" (156 : Nat) "RainStreetsModel" "isOpen" "[Z") ∈ lw_all := lw_g (lw_at lw_m6 182 rfl) rfl
theorem q1441 : (Jvm.Cond.fieldLink "RainStreetsModel" (419 : Nat) "RainStreetsModel" "rules" "I") ∈ lw_all := lw_g (lw_at lw_m6 183 rfl) rfl
theorem q1442 : (Jvm.Cond.fieldLink "RainStreetsModel" (159 : Nat) "RainStreetsModel" "statements" "[I") ∈ lw_all := lw_g (lw_at lw_m6 184 rfl) rfl
theorem q1443 : (Jvm.Cond.fieldLink "RainStreetsModel" (162 : Nat) "RainStreetsModel" "taken" "[I") ∈ lw_all := lw_g (lw_at lw_m6 185 rfl) rfl
theorem q1444 : (Jvm.Cond.fieldLink "RainStreetsModel" (165 : Nat) "RainStreetsModel" "sort" "[I") ∈ lw_all := lw_g (lw_at lw_m6 186 rfl) rfl
theorem q1445 : (Jvm.Cond.fieldLink "RainStreetsModel" (168 : Nat) "RainStreetsModel" "first" "[I") ∈ lw_all := lw_g (lw_at lw_m6 187 rfl) rfl
theorem q1446 : (Jvm.Cond.fieldLink "RainStreetsModel" (171 : Nat) "RainStreetsModel" "second" "[I") ∈ lw_all := lw_g (lw_at lw_m6 188 rfl) rfl
theorem q1447 : (Jvm.Cond.fieldLink "RainStreetsModel" (174 : Nat) "RainStreetsModel" "third" "[I") ∈ lw_all := lw_g (lw_at lw_m6 189 rfl) rfl
theorem q1448 : (Jvm.Cond.fieldLink "RainStreetsModel" (177 : Nat) "RainStreetsModel" "fourth" "[I") ∈ lw_all := lw_g (lw_at lw_m6 190 rfl) rfl
theorem q1449 : (Jvm.Cond.fieldLink "RainStreetsModel" (180 : Nat) "RainStreetsModel" "tape" "[B") ∈ lw_all := lw_g (lw_at lw_m6 191 rfl) rfl
theorem q1450 : (Jvm.Cond.fieldLink "RainStreetsModel" (184 : Nat) "RainStreetsModel" "text" "[B") ∈ lw_all := lw_g (lw_at lw_m6 192 rfl) rfl
theorem q1451 : (Jvm.Cond.fieldLink "RainStreetsModel" (341 : Nat) "RainStreetsModel" "taped" "I") ∈ lw_all := lw_g (lw_at lw_m6 193 rfl) rfl
theorem q1452 : (Jvm.Cond.fieldLink "RainStreetsModel" (350 : Nat) "RainStreetsModel" "size" "I") ∈ lw_all := lw_g (lw_at lw_m6 194 rfl) rfl
theorem q1453 : (Jvm.Cond.fieldLink "RainStreetsModel" (347 : Nat) "RainStreetsModel" "at" "I") ∈ lw_all := lw_g (lw_at lw_m6 195 rfl) rfl
theorem q1454 : (Jvm.Cond.fieldLink "RainStreetsModel" (187 : Nat) "RainStreetsModel" "fault" "I") ∈ lw_all := lw_g (lw_at lw_m6 196 rfl) rfl
theorem q1455 : (Jvm.Cond.fieldLink "RainStreetsModel" (356 : Nat) "RainStreetsModel" "number" "I") ∈ lw_all := lw_g (lw_at lw_m6 197 rfl) rfl
theorem q1456 : (Jvm.Cond.lays "RainStreetsModel" "RainStreetsModel" "today" "I") ∈ lw_all := lw_g (lw_at lw_m6 198 rfl) rfl
theorem q1457 : (Jvm.Cond.soleField "RainStreetsModel" "today") ∈ lw_all := lw_g (lw_at lw_m6 199 rfl) rfl
theorem q1458 : (Jvm.Cond.lays "RainStreetsModel" "RainStreetsModel" "corners" "I") ∈ lw_all := lw_g (lw_at lw_m6 200 rfl) rfl
theorem q1459 : (Jvm.Cond.soleField "RainStreetsModel" "corners") ∈ lw_all := lw_g (lw_at lw_m6 201 rfl) rfl
theorem q1460 : (Jvm.Cond.lays "RainStreetsModel" "RainStreetsModel" "roofs" "I") ∈ lw_all := lw_g (lw_at lw_m6 202 rfl) rfl
theorem q1461 : (Jvm.Cond.soleField "RainStreetsModel" "roofs") ∈ lw_all := lw_g (lw_at lw_m6 203 rfl) rfl
theorem q1462 : (Jvm.Cond.lays "RainStreetsModel" "RainStreetsModel" "minutes" "I") ∈ lw_all := lw_g (lw_at lw_m6 204 rfl) rfl
theorem q1463 : (Jvm.Cond.soleField "RainStreetsModel" "minutes") ∈ lw_all := lw_g (lw_at lw_m6 205 rfl) rfl
theorem q1464 : (Jvm.Cond.lays "RainStreetsModel" "RainStreetsModel" "storms" "I") ∈ lw_all := lw_g (lw_at lw_m6 206 rfl) rfl
theorem q1465 : (Jvm.Cond.soleField "RainStreetsModel" "storms") ∈ lw_all := lw_g (lw_at lw_m6 207 rfl) rfl
theorem q1466 : (Jvm.Cond.lays "RainStreetsModel" "RainStreetsModel" "looks" "I") ∈ lw_all := lw_g (lw_at lw_m6 208 rfl) rfl
theorem q1467 : (Jvm.Cond.soleField "RainStreetsModel" "looks") ∈ lw_all := lw_g (lw_at lw_m6 209 rfl) rfl
theorem q1468 : (Jvm.Cond.lays "RainStreetsModel" "RainStreetsModel" "complaints" "I") ∈ lw_all := lw_g (lw_at lw_m6 210 rfl) rfl
theorem q1469 : (Jvm.Cond.soleField "RainStreetsModel" "complaints") ∈ lw_all := lw_g (lw_at lw_m6 211 rfl) rfl
theorem q1470 : (Jvm.Cond.laysFinal "RainStreetsModel" "RainStreetsModel" "area" "[I") ∈ lw_all := lw_g (lw_at lw_m6 212 rfl) rfl
theorem q1471 : (Jvm.Cond.soleField "RainStreetsModel" "area") ∈ lw_all := lw_g (lw_at lw_m6 213 rfl) rfl
theorem q1472 : (Jvm.Cond.laysFinal "RainStreetsModel" "RainStreetsModel" "pipe" "[I") ∈ lw_all := lw_g (lw_at lw_m6 214 rfl) rfl
theorem q1473 : (Jvm.Cond.soleField "RainStreetsModel" "pipe") ∈ lw_all := lw_g (lw_at lw_m6 215 rfl) rfl
theorem q1474 : (Jvm.Cond.laysFinal "RainStreetsModel" "RainStreetsModel" "parking" "[I") ∈ lw_all := lw_g (lw_at lw_m6 216 rfl) rfl
theorem q1475 : (Jvm.Cond.soleField "RainStreetsModel" "parking") ∈ lw_all := lw_g (lw_at lw_m6 217 rfl) rfl
theorem q1476 : (Jvm.Cond.laysFinal "RainStreetsModel" "RainStreetsModel" "cellar" "[I") ∈ lw_all := lw_g (lw_at lw_m6 218 rfl) rfl
theorem q1477 : (Jvm.Cond.soleField "RainStreetsModel" "cellar") ∈ lw_all := lw_g (lw_at lw_m6 219 rfl) rfl
theorem q1478 : (Jvm.Cond.laysFinal "RainStreetsModel" "RainStreetsModel" "below" "[I") ∈ lw_all := lw_g (lw_at lw_m6 220 rfl) rfl
theorem q1479 : (Jvm.Cond.soleField "RainStreetsModel" "below") ∈ lw_all := lw_g (lw_at lw_m6 221 rfl) rfl
theorem q1480 : (Jvm.Cond.laysFinal "RainStreetsModel" "RainStreetsModel" "hasBed" "[Z") ∈ lw_all := lw_g (lw_at lw_m6 222 rfl) rfl
theorem q1481 : (Jvm.Cond.soleField "RainStreetsModel" "hasBed") ∈ lw_all := lw_g (lw_at lw_m6 223 rfl) rfl
theorem q1482 : (Jvm.Cond.laysFinal "RainStreetsModel" "RainStreetsModel" "hasTree" "[Z") ∈ lw_all := lw_g (lw_at lw_m6 224 rfl) rfl
theorem q1483 : (Jvm.Cond.soleField "RainStreetsModel" "hasTree") ∈ lw_all := lw_g (lw_at lw_m6 225 rfl) rfl
theorem q1484 : (Jvm.Cond.laysFinal "RainStreetsModel" "RainStreetsModel" "hasPlants" "[Z") ∈ lw_all := lw_g (lw_at lw_m6 226 rfl) rfl
theorem q1485 : (Jvm.Cond.soleField "RainStreetsModel" "hasPlants") ∈ lw_all := lw_g (lw_at lw_m6 227 rfl) rfl
theorem q1486 : (Jvm.Cond.laysFinal "RainStreetsModel" "RainStreetsModel" "lot" "[I") ∈ lw_all := lw_g (lw_at lw_m6 228 rfl) rfl
theorem q1487 : (Jvm.Cond.soleField "RainStreetsModel" "lot") ∈ lw_all := lw_g (lw_at lw_m6 229 rfl) rfl
theorem q1488 : (Jvm.Cond.laysFinal "RainStreetsModel" "RainStreetsModel" "bowl" "[I") ∈ lw_all := lw_g (lw_at lw_m6 230 rfl) rfl
theorem q1489 : (Jvm.Cond.soleField "RainStreetsModel" "bowl") ∈ lw_all := lw_g (lw_at lw_m6 231 rfl) rfl
theorem q1490 : (Jvm.Cond.laysFinal "RainStreetsModel" "RainStreetsModel" "made" "[I") ∈ lw_all := lw_g (lw_at lw_m6 232 rfl) rfl
theorem q1491 : (Jvm.Cond.soleField "RainStreetsModel" "made") ∈ lw_all := lw_g (lw_at lw_m6 233 rfl) rfl
theorem q1492 : (Jvm.Cond.laysFinal "RainStreetsModel" "RainStreetsModel" "clog" "[I") ∈ lw_all := lw_g (lw_at lw_m6 234 rfl) rfl
theorem q1493 : (Jvm.Cond.soleField "RainStreetsModel" "clog") ∈ lw_all := lw_g (lw_at lw_m6 235 rfl) rfl
theorem q1494 : (Jvm.Cond.laysFinal "RainStreetsModel" "RainStreetsModel" "leaves" "[I") ∈ lw_all := lw_g (lw_at lw_m6 236 rfl) rfl
theorem q1495 : (Jvm.Cond.soleField "RainStreetsModel" "leaves") ∈ lw_all := lw_g (lw_at lw_m6 237 rfl) rfl
theorem q1496 : (Jvm.Cond.laysFinal "RainStreetsModel" "RainStreetsModel" "salt" "[I") ∈ lw_all := lw_g (lw_at lw_m6 238 rfl) rfl
theorem q1497 : (Jvm.Cond.soleField "RainStreetsModel" "salt") ∈ lw_all := lw_g (lw_at lw_m6 239 rfl) rfl
theorem q1498 : (Jvm.Cond.laysFinal "RainStreetsModel" "RainStreetsModel" "holds" "[I") ∈ lw_all := lw_g (lw_at lw_m7 0 rfl) rfl
theorem q1499 : (Jvm.Cond.soleField "RainStreetsModel" "holds") ∈ lw_all := lw_g (lw_at lw_m7 1 rfl) rfl
theorem q1500 : (Jvm.Cond.laysFinal "RainStreetsModel" "RainStreetsModel" "stands" "[I") ∈ lw_all := lw_g (lw_at lw_m7 2 rfl) rfl
theorem q1501 : (Jvm.Cond.soleField "RainStreetsModel" "stands") ∈ lw_all := lw_g (lw_at lw_m7 3 rfl) rfl
theorem q1502 : (Jvm.Cond.laysFinal "RainStreetsModel" "RainStreetsModel" "looked" "[I") ∈ lw_all := lw_g (lw_at lw_m7 4 rfl) rfl
theorem q1503 : (Jvm.Cond.soleField "RainStreetsModel" "looked") ∈ lw_all := lw_g (lw_at lw_m7 5 rfl) rfl
theorem q1504 : (Jvm.Cond.laysFinal "RainStreetsModel" "RainStreetsModel" "caredOn" "[I") ∈ lw_all := lw_g (lw_at lw_m7 6 rfl) rfl
theorem q1505 : (Jvm.Cond.soleField "RainStreetsModel" "caredOn") ∈ lw_all := lw_g (lw_at lw_m7 7 rfl) rfl
theorem q1506 : (Jvm.Cond.laysFinal "RainStreetsModel" "RainStreetsModel" "roofAt" "[I") ∈ lw_all := lw_g (lw_at lw_m7 8 rfl) rfl
theorem q1507 : (Jvm.Cond.soleField "RainStreetsModel" "roofAt") ∈ lw_all := lw_g (lw_at lw_m7 9 rfl) rfl
theorem q1508 : (Jvm.Cond.laysFinal "RainStreetsModel" "RainStreetsModel" "owner" "[I") ∈ lw_all := lw_g (lw_at lw_m7 10 rfl) rfl
theorem q1509 : (Jvm.Cond.soleField "RainStreetsModel" "owner") ∈ lw_all := lw_g (lw_at lw_m7 11 rfl) rfl
theorem q1510 : (Jvm.Cond.laysFinal "RainStreetsModel" "RainStreetsModel" "roofArea" "[I") ∈ lw_all := lw_g (lw_at lw_m7 12 rfl) rfl
theorem q1511 : (Jvm.Cond.soleField "RainStreetsModel" "roofArea") ∈ lw_all := lw_g (lw_at lw_m7 13 rfl) rfl
theorem q1512 : (Jvm.Cond.laysFinal "RainStreetsModel" "RainStreetsModel" "barrel" "[I") ∈ lw_all := lw_g (lw_at lw_m7 14 rfl) rfl
theorem q1513 : (Jvm.Cond.soleField "RainStreetsModel" "barrel") ∈ lw_all := lw_g (lw_at lw_m7 15 rfl) rfl
theorem q1514 : (Jvm.Cond.laysFinal "RainStreetsModel" "RainStreetsModel" "has" "[I") ∈ lw_all := lw_g (lw_at lw_m7 16 rfl) rfl
theorem q1515 : (Jvm.Cond.soleField "RainStreetsModel" "has") ∈ lw_all := lw_g (lw_at lw_m7 17 rfl) rfl
theorem q1516 : (Jvm.Cond.laysFinal "RainStreetsModel" "RainStreetsModel" "proved" "[I") ∈ lw_all := lw_g (lw_at lw_m7 18 rfl) rfl
theorem q1517 : (Jvm.Cond.soleField "RainStreetsModel" "proved") ∈ lw_all := lw_g (lw_at lw_m7 19 rfl) rfl
theorem q1518 : (Jvm.Cond.laysFinal "RainStreetsModel" "RainStreetsModel" "drinks" "[I") ∈ lw_all := lw_g (lw_at lw_m7 20 rfl) rfl
theorem q1519 : (Jvm.Cond.soleField "RainStreetsModel" "drinks") ∈ lw_all := lw_g (lw_at lw_m7 21 rfl) rfl
theorem q1520 : (Jvm.Cond.laysFinal "RainStreetsModel" "RainStreetsModel" "rain" "[I") ∈ lw_all := lw_g (lw_at lw_m7 22 rfl) rfl
theorem q1521 : (Jvm.Cond.soleField "RainStreetsModel" "rain") ∈ lw_all := lw_g (lw_at lw_m7 23 rfl) rfl
theorem q1522 : (Jvm.Cond.laysFinal "RainStreetsModel" "RainStreetsModel" "owes" "[I") ∈ lw_all := lw_g (lw_at lw_m7 24 rfl) rfl
theorem q1523 : (Jvm.Cond.soleField "RainStreetsModel" "owes") ∈ lw_all := lw_g (lw_at lw_m7 25 rfl) rfl
theorem q1524 : (Jvm.Cond.laysFinal "RainStreetsModel" "RainStreetsModel" "kept" "[I") ∈ lw_all := lw_g (lw_at lw_m7 26 rfl) rfl
theorem q1525 : (Jvm.Cond.soleField "RainStreetsModel" "kept") ∈ lw_all := lw_g (lw_at lw_m7 27 rfl) rfl
theorem q1526 : (Jvm.Cond.lays "RainStreetsModel" "RainStreetsModel" "rained" "J") ∈ lw_all := lw_g (lw_at lw_m7 28 rfl) rfl
theorem q1527 : (Jvm.Cond.soleField "RainStreetsModel" "rained") ∈ lw_all := lw_g (lw_at lw_m7 29 rfl) rfl
theorem q1528 : (Jvm.Cond.lays "RainStreetsModel" "RainStreetsModel" "drunk" "J") ∈ lw_all := lw_g (lw_at lw_m7 30 rfl) rfl
theorem q1529 : (Jvm.Cond.soleField "RainStreetsModel" "drunk") ∈ lw_all := lw_g (lw_at lw_m7 31 rfl) rfl
theorem q1530 : (Jvm.Cond.lays "RainStreetsModel" "RainStreetsModel" "spilt" "J") ∈ lw_all := lw_g (lw_at lw_m7 32 rfl) rfl
theorem q1531 : (Jvm.Cond.soleField "RainStreetsModel" "spilt") ∈ lw_all := lw_g (lw_at lw_m7 33 rfl) rfl
theorem q1532 : (Jvm.Cond.lays "RainStreetsModel" "RainStreetsModel" "works" "J") ∈ lw_all := lw_g (lw_at lw_m7 34 rfl) rfl
theorem q1533 : (Jvm.Cond.soleField "RainStreetsModel" "works") ∈ lw_all := lw_g (lw_at lw_m7 35 rfl) rfl
theorem q1534 : (Jvm.Cond.lays "RainStreetsModel" "RainStreetsModel" "used" "J") ∈ lw_all := lw_g (lw_at lw_m7 36 rfl) rfl
theorem q1535 : (Jvm.Cond.soleField "RainStreetsModel" "used") ∈ lw_all := lw_g (lw_at lw_m7 37 rfl) rfl
theorem q1536 : (Jvm.Cond.laysFinal "RainStreetsModel" "RainStreetsModel" "barrelNow" "[I") ∈ lw_all := lw_g (lw_at lw_m7 38 rfl) rfl
theorem q1537 : (Jvm.Cond.soleField "RainStreetsModel" "barrelNow") ∈ lw_all := lw_g (lw_at lw_m7 39 rfl) rfl
theorem q1538 : (Jvm.Cond.laysFinal "RainStreetsModel" "RainStreetsModel" "bowlNow" "[I") ∈ lw_all := lw_g (lw_at lw_m7 40 rfl) rfl
theorem q1539 : (Jvm.Cond.soleField "RainStreetsModel" "bowlNow") ∈ lw_all := lw_g (lw_at lw_m7 41 rfl) rfl
theorem q1540 : (Jvm.Cond.laysFinal "RainStreetsModel" "RainStreetsModel" "street" "[J") ∈ lw_all := lw_g (lw_at lw_m7 42 rfl) rfl
theorem q1541 : (Jvm.Cond.soleField "RainStreetsModel" "street") ∈ lw_all := lw_g (lw_at lw_m7 43 rfl) rfl
theorem q1542 : (Jvm.Cond.laysFinal "RainStreetsModel" "RainStreetsModel" "inPipe" "[J") ∈ lw_all := lw_g (lw_at lw_m7 44 rfl) rfl
theorem q1543 : (Jvm.Cond.soleField "RainStreetsModel" "inPipe") ∈ lw_all := lw_g (lw_at lw_m7 45 rfl) rfl
theorem q1544 : (Jvm.Cond.laysFinal "RainStreetsModel" "RainStreetsModel" "spiltAt" "[J") ∈ lw_all := lw_g (lw_at lw_m7 46 rfl) rfl
theorem q1545 : (Jvm.Cond.soleField "RainStreetsModel" "spiltAt") ∈ lw_all := lw_g (lw_at lw_m7 47 rfl) rfl
theorem q1546 : (Jvm.Cond.laysFinal "RainStreetsModel" "RainStreetsModel" "mostAt" "[J") ∈ lw_all := lw_g (lw_at lw_m7 48 rfl) rfl
theorem q1547 : (Jvm.Cond.soleField "RainStreetsModel" "mostAt") ∈ lw_all := lw_g (lw_at lw_m7 49 rfl) rfl
theorem q1548 : (Jvm.Cond.laysFinal "RainStreetsModel" "RainStreetsModel" "wetAt" "[I") ∈ lw_all := lw_g (lw_at lw_m7 50 rfl) rfl
theorem q1549 : (Jvm.Cond.soleField "RainStreetsModel" "wetAt") ∈ lw_all := lw_g (lw_at lw_m7 51 rfl) rfl
theorem q1550 : (Jvm.Cond.lays "RainStreetsModel" "RainStreetsModel" "allRain" "J") ∈ lw_all := lw_g (lw_at lw_m7 52 rfl) rfl
theorem q1551 : (Jvm.Cond.soleField "RainStreetsModel" "allRain") ∈ lw_all := lw_g (lw_at lw_m7 53 rfl) rfl
theorem q1552 : (Jvm.Cond.lays "RainStreetsModel" "RainStreetsModel" "allDrunk" "J") ∈ lw_all := lw_g (lw_at lw_m7 54 rfl) rfl
theorem q1553 : (Jvm.Cond.soleField "RainStreetsModel" "allDrunk") ∈ lw_all := lw_g (lw_at lw_m7 55 rfl) rfl
theorem q1554 : (Jvm.Cond.lays "RainStreetsModel" "RainStreetsModel" "allSpilt" "J") ∈ lw_all := lw_g (lw_at lw_m7 56 rfl) rfl
theorem q1555 : (Jvm.Cond.soleField "RainStreetsModel" "allSpilt") ∈ lw_all := lw_g (lw_at lw_m7 57 rfl) rfl
theorem q1556 : (Jvm.Cond.lays "RainStreetsModel" "RainStreetsModel" "allWorks" "J") ∈ lw_all := lw_g (lw_at lw_m7 58 rfl) rfl
theorem q1557 : (Jvm.Cond.soleField "RainStreetsModel" "allWorks") ∈ lw_all := lw_g (lw_at lw_m7 59 rfl) rfl
theorem q1558 : (Jvm.Cond.lays "RainStreetsModel" "RainStreetsModel" "mostWorks" "J") ∈ lw_all := lw_g (lw_at lw_m7 60 rfl) rfl
theorem q1559 : (Jvm.Cond.soleField "RainStreetsModel" "mostWorks") ∈ lw_all := lw_g (lw_at lw_m7 61 rfl) rfl
theorem q1560 : (Jvm.Cond.lays "RainStreetsModel" "RainStreetsModel" "allWet" "I") ∈ lw_all := lw_g (lw_at lw_m7 62 rfl) rfl
theorem q1561 : (Jvm.Cond.soleField "RainStreetsModel" "allWet") ∈ lw_all := lw_g (lw_at lw_m7 63 rfl) rfl
theorem q1562 : (Jvm.Cond.laysFinal "RainStreetsModel" "RainStreetsModel" "stormRain" "[J") ∈ lw_all := lw_g (lw_at lw_m7 64 rfl) rfl
theorem q1563 : (Jvm.Cond.soleField "RainStreetsModel" "stormRain") ∈ lw_all := lw_g (lw_at lw_m7 65 rfl) rfl
theorem q1564 : (Jvm.Cond.laysFinal "RainStreetsModel" "RainStreetsModel" "stormSpilt" "[J") ∈ lw_all := lw_g (lw_at lw_m7 66 rfl) rfl
theorem q1565 : (Jvm.Cond.soleField "RainStreetsModel" "stormSpilt") ∈ lw_all := lw_g (lw_at lw_m7 67 rfl) rfl
theorem q1566 : (Jvm.Cond.laysFinal "RainStreetsModel" "RainStreetsModel" "stormMost" "[J") ∈ lw_all := lw_g (lw_at lw_m7 68 rfl) rfl
theorem q1567 : (Jvm.Cond.soleField "RainStreetsModel" "stormMost") ∈ lw_all := lw_g (lw_at lw_m7 69 rfl) rfl
theorem q1568 : (Jvm.Cond.laysFinal "RainStreetsModel" "RainStreetsModel" "toldSpilt" "[J") ∈ lw_all := lw_g (lw_at lw_m7 70 rfl) rfl
theorem q1569 : (Jvm.Cond.soleField "RainStreetsModel" "toldSpilt") ∈ lw_all := lw_g (lw_at lw_m7 71 rfl) rfl
theorem q1570 : (Jvm.Cond.laysFinal "RainStreetsModel" "RainStreetsModel" "toldMost" "[J") ∈ lw_all := lw_g (lw_at lw_m7 72 rfl) rfl
theorem q1571 : (Jvm.Cond.soleField "RainStreetsModel" "toldMost") ∈ lw_all := lw_g (lw_at lw_m7 73 rfl) rfl
theorem q1572 : (Jvm.Cond.laysFinal "RainStreetsModel" "RainStreetsModel" "stormDay" "[I") ∈ lw_all := lw_g (lw_at lw_m7 74 rfl) rfl
theorem q1573 : (Jvm.Cond.soleField "RainStreetsModel" "stormDay") ∈ lw_all := lw_g (lw_at lw_m7 75 rfl) rfl
theorem q1574 : (Jvm.Cond.laysFinal "RainStreetsModel" "RainStreetsModel" "stormWet" "[I") ∈ lw_all := lw_g (lw_at lw_m7 76 rfl) rfl
theorem q1575 : (Jvm.Cond.soleField "RainStreetsModel" "stormWet") ∈ lw_all := lw_g (lw_at lw_m7 77 rfl) rfl
theorem q1576 : (Jvm.Cond.laysFinal "RainStreetsModel" "RainStreetsModel" "toldWet" "[I") ∈ lw_all := lw_g (lw_at lw_m7 78 rfl) rfl
theorem q1577 : (Jvm.Cond.soleField "RainStreetsModel" "toldWet") ∈ lw_all := lw_g (lw_at lw_m7 79 rfl) rfl
theorem q1578 : (Jvm.Cond.laysFinal "RainStreetsModel" "RainStreetsModel" "atCorner" "[I") ∈ lw_all := lw_g (lw_at lw_m7 80 rfl) rfl
theorem q1579 : (Jvm.Cond.soleField "RainStreetsModel" "atCorner") ∈ lw_all := lw_g (lw_at lw_m7 81 rfl) rfl
theorem q1580 : (Jvm.Cond.laysFinal "RainStreetsModel" "RainStreetsModel" "ofKind" "[I") ∈ lw_all := lw_g (lw_at lw_m7 82 rfl) rfl
theorem q1581 : (Jvm.Cond.soleField "RainStreetsModel" "ofKind") ∈ lw_all := lw_g (lw_at lw_m7 83 rfl) rfl
theorem q1582 : (Jvm.Cond.laysFinal "RainStreetsModel" "RainStreetsModel" "toldOn" "[I") ∈ lw_all := lw_g (lw_at lw_m7 84 rfl) rfl
theorem q1583 : (Jvm.Cond.soleField "RainStreetsModel" "toldOn") ∈ lw_all := lw_g (lw_at lw_m7 85 rfl) rfl
theorem q1584 : (Jvm.Cond.laysFinal "RainStreetsModel" "RainStreetsModel" "joinedOn" "[I") ∈ lw_all := lw_g (lw_at lw_m7 86 rfl) rfl
theorem q1585 : (Jvm.Cond.soleField "RainStreetsModel" "joinedOn") ∈ lw_all := lw_g (lw_at lw_m7 87 rfl) rfl
theorem q1586 : (Jvm.Cond.laysFinal "RainStreetsModel" "RainStreetsModel" "often" "[I") ∈ lw_all := lw_g (lw_at lw_m7 88 rfl) rfl
theorem q1587 : (Jvm.Cond.soleField "RainStreetsModel" "often") ∈ lw_all := lw_g (lw_at lw_m7 89 rfl) rfl
theorem q1588 : (Jvm.Cond.laysFinal "RainStreetsModel" "RainStreetsModel" "isOpen" "[Z") ∈ lw_all := lw_g (lw_at lw_m7 90 rfl) rfl
theorem q1589 : (Jvm.Cond.soleField "RainStreetsModel" "isOpen") ∈ lw_all := lw_g (lw_at lw_m7 91 rfl) rfl
theorem q1590 : (Jvm.Cond.lays "RainStreetsModel" "RainStreetsModel" "rules" "I") ∈ lw_all := lw_g (lw_at lw_m7 92 rfl) rfl
theorem q1591 : (Jvm.Cond.soleField "RainStreetsModel" "rules") ∈ lw_all := lw_g (lw_at lw_m7 93 rfl) rfl
theorem q1592 : (Jvm.Cond.laysFinal "RainStreetsModel" "RainStreetsModel" "statements" "[I") ∈ lw_all := lw_g (lw_at lw_m7 94 rfl) rfl
theorem q1593 : (Jvm.Cond.soleField "RainStreetsModel" "statements") ∈ lw_all := lw_g (lw_at lw_m7 95 rfl) rfl
theorem q1594 : (Jvm.Cond.laysFinal "RainStreetsModel" "RainStreetsModel" "taken" "[I") ∈ lw_all := lw_g (lw_at lw_m7 96 rfl) rfl
theorem q1595 : (Jvm.Cond.soleField "RainStreetsModel" "taken") ∈ lw_all := lw_g (lw_at lw_m7 97 rfl) rfl
theorem q1596 : (Jvm.Cond.laysFinal "RainStreetsModel" "RainStreetsModel" "sort" "[I") ∈ lw_all := lw_g (lw_at lw_m7 98 rfl) rfl
theorem q1597 : (Jvm.Cond.soleField "RainStreetsModel" "sort") ∈ lw_all := lw_g (lw_at lw_m7 99 rfl) rfl
theorem q1598 : (Jvm.Cond.laysFinal "RainStreetsModel" "RainStreetsModel" "first" "[I") ∈ lw_all := lw_g (lw_at lw_m7 100 rfl) rfl
theorem q1599 : (Jvm.Cond.soleField "RainStreetsModel" "first") ∈ lw_all := lw_g (lw_at lw_m7 101 rfl) rfl
theorem q1600 : (Jvm.Cond.laysFinal "RainStreetsModel" "RainStreetsModel" "second" "[I") ∈ lw_all := lw_g (lw_at lw_m7 102 rfl) rfl
theorem q1601 : (Jvm.Cond.soleField "RainStreetsModel" "second") ∈ lw_all := lw_g (lw_at lw_m7 103 rfl) rfl
theorem q1602 : (Jvm.Cond.laysFinal "RainStreetsModel" "RainStreetsModel" "third" "[I") ∈ lw_all := lw_g (lw_at lw_m7 104 rfl) rfl
theorem q1603 : (Jvm.Cond.soleField "RainStreetsModel" "third") ∈ lw_all := lw_g (lw_at lw_m7 105 rfl) rfl
theorem q1604 : (Jvm.Cond.laysFinal "RainStreetsModel" "RainStreetsModel" "fourth" "[I") ∈ lw_all := lw_g (lw_at lw_m7 106 rfl) rfl
theorem q1605 : (Jvm.Cond.soleField "RainStreetsModel" "fourth") ∈ lw_all := lw_g (lw_at lw_m7 107 rfl) rfl
theorem q1606 : (Jvm.Cond.laysFinal "RainStreetsModel" "RainStreetsModel" "tape" "[B") ∈ lw_all := lw_g (lw_at lw_m7 108 rfl) rfl
theorem q1607 : (Jvm.Cond.soleField "RainStreetsModel" "tape") ∈ lw_all := lw_g (lw_at lw_m7 109 rfl) rfl
theorem q1608 : (Jvm.Cond.laysFinal "RainStreetsModel" "RainStreetsModel" "text" "[B") ∈ lw_all := lw_g (lw_at lw_m7 110 rfl) rfl
theorem q1609 : (Jvm.Cond.soleField "RainStreetsModel" "text") ∈ lw_all := lw_g (lw_at lw_m7 111 rfl) rfl
theorem q1610 : (Jvm.Cond.lays "RainStreetsModel" "RainStreetsModel" "taped" "I") ∈ lw_all := lw_g (lw_at lw_m7 112 rfl) rfl
theorem q1611 : (Jvm.Cond.soleField "RainStreetsModel" "taped") ∈ lw_all := lw_g (lw_at lw_m7 113 rfl) rfl
theorem q1612 : (Jvm.Cond.lays "RainStreetsModel" "RainStreetsModel" "size" "I") ∈ lw_all := lw_g (lw_at lw_m7 114 rfl) rfl
theorem q1613 : (Jvm.Cond.soleField "RainStreetsModel" "size") ∈ lw_all := lw_g (lw_at lw_m7 115 rfl) rfl
theorem q1614 : (Jvm.Cond.lays "RainStreetsModel" "RainStreetsModel" "at" "I") ∈ lw_all := lw_g (lw_at lw_m7 116 rfl) rfl
theorem q1615 : (Jvm.Cond.soleField "RainStreetsModel" "at") ∈ lw_all := lw_g (lw_at lw_m7 117 rfl) rfl
theorem q1616 : (Jvm.Cond.lays "RainStreetsModel" "RainStreetsModel" "fault" "I") ∈ lw_all := lw_g (lw_at lw_m7 118 rfl) rfl
theorem q1617 : (Jvm.Cond.soleField "RainStreetsModel" "fault") ∈ lw_all := lw_g (lw_at lw_m7 119 rfl) rfl
theorem q1618 : (Jvm.Cond.lays "RainStreetsModel" "RainStreetsModel" "number" "I") ∈ lw_all := lw_g (lw_at lw_m7 120 rfl) rfl
theorem q1619 : (Jvm.Cond.soleField "RainStreetsModel" "number") ∈ lw_all := lw_g (lw_at lw_m7 121 rfl) rfl
theorem q1620 : (Jvm.Cond.superclass "RainStreetsModel" "java/lang/Object") ∈ lw_all := lw_g (lw_at lw_m7 122 rfl) rfl
theorem q1624 : (Jvm.Cond.instanceMethod ({ cls := "RainStreetsModel", name := "corner", desc := "(IIII)I" } : Jvm.MethodName)) ∈ lw_all := lw_g (lw_at lw_m7 126 rfl) rfl
theorem q1625 : (Jvm.Cond.selects "RainStreetsModel" ({ cls := "RainStreetsModel", name := "corner", desc := "(IIII)I" } : Jvm.MethodName) ({ cls := "RainStreetsModel", name := "corner", desc := "(IIII)I" } : Jvm.MethodName)) ∈ lw_all := lw_g (lw_at lw_m7 127 rfl) rfl
theorem q1626 : (Jvm.Cond.code ({ cls := "RainStreetsModel", name := "corner", desc := "(IIII)I" } : Jvm.MethodName) prog_12_method_6_code (5 : Nat) (Option.some Jvm.ClassFile.FieldType.int)) ∈ lw_all := lw_g (lw_at lw_m7 128 rfl) rfl
theorem q1627 : (Jvm.Cond.methodLink "RainStreetsModel" (194 : Nat) ({ cls := "RainStreetsModel", name := "isIn", desc := "(III)Z" } : Jvm.MethodName)) ∈ lw_all := lw_g (lw_at lw_m7 129 rfl) rfl
theorem q1628 : (Jvm.Cond.static ({ cls := "RainStreetsModel", name := "isIn", desc := "(III)Z" } : Jvm.MethodName)) ∈ lw_all := lw_g (lw_at lw_m7 130 rfl) rfl
theorem q1629 : (Jvm.Cond.code ({ cls := "RainStreetsModel", name := "isIn", desc := "(III)Z" } : Jvm.MethodName) prog_12_method_2_code (3 : Nat) (Option.some Jvm.ClassFile.FieldType.boolean)) ∈ lw_all := lw_g (lw_at lw_m7 131 rfl) rfl
theorem q1631 : (Jvm.Cond.instanceMethod ({ cls := "RainStreetsModel", name := "below", desc := "(II)Z" } : Jvm.MethodName)) ∈ lw_all := lw_g (lw_at lw_m7 133 rfl) rfl
theorem q1632 : (Jvm.Cond.selects "RainStreetsModel" ({ cls := "RainStreetsModel", name := "below", desc := "(II)Z" } : Jvm.MethodName) ({ cls := "RainStreetsModel", name := "below", desc := "(II)Z" } : Jvm.MethodName)) ∈ lw_all := lw_g (lw_at lw_m7 134 rfl) rfl
theorem q1633 : (Jvm.Cond.code ({ cls := "RainStreetsModel", name := "below", desc := "(II)Z" } : Jvm.MethodName) prog_12_method_7_code (3 : Nat) (Option.some Jvm.ClassFile.FieldType.boolean)) ∈ lw_all := lw_g (lw_at lw_m7 135 rfl) rfl
theorem q1634 : (Jvm.Cond.methodLink "RainStreetsModel" (198 : Nat) ({ cls := "RainStreetsModel", name := "isCorner", desc := "(I)Z" } : Jvm.MethodName)) ∈ lw_all := lw_g (lw_at lw_m7 136 rfl) rfl
theorem q1635 : (Jvm.Cond.privateMethod ({ cls := "RainStreetsModel", name := "isCorner", desc := "(I)Z" } : Jvm.MethodName)) ∈ lw_tbl := lw_at lw_m7 137 rfl
theorem q1636 : (Jvm.Cond.instanceMethod ({ cls := "RainStreetsModel", name := "isCorner", desc := "(I)Z" } : Jvm.MethodName)) ∈ lw_all := lw_g (lw_at lw_m7 138 rfl) rfl
theorem q1637 : (Jvm.Cond.code ({ cls := "RainStreetsModel", name := "isCorner", desc := "(I)Z" } : Jvm.MethodName) prog_12_method_4_code (2 : Nat) (Option.some Jvm.ClassFile.FieldType.boolean)) ∈ lw_all := lw_g (lw_at lw_m7 139 rfl) rfl
theorem q1639 : (Jvm.Cond.instanceMethod ({ cls := "RainStreetsModel", name := "roof", desc := "(IIII)I" } : Jvm.MethodName)) ∈ lw_all := lw_g (lw_at lw_m7 141 rfl) rfl
theorem q1640 : (Jvm.Cond.selects "RainStreetsModel" ({ cls := "RainStreetsModel", name := "roof", desc := "(IIII)I" } : Jvm.MethodName) ({ cls := "RainStreetsModel", name := "roof", desc := "(IIII)I" } : Jvm.MethodName)) ∈ lw_all := lw_g (lw_at lw_m7 142 rfl) rfl
theorem q1641 : (Jvm.Cond.code ({ cls := "RainStreetsModel", name := "roof", desc := "(IIII)I" } : Jvm.MethodName) prog_12_method_8_code (5 : Nat) (Option.some Jvm.ClassFile.FieldType.int)) ∈ lw_all := lw_g (lw_at lw_m7 143 rfl) rfl
theorem q1643 : (Jvm.Cond.instanceMethod ({ cls := "RainStreetsModel", name := "lot", desc := "(II)Z" } : Jvm.MethodName)) ∈ lw_all := lw_g (lw_at lw_m7 145 rfl) rfl
theorem q1644 : (Jvm.Cond.selects "RainStreetsModel" ({ cls := "RainStreetsModel", name := "lot", desc := "(II)Z" } : Jvm.MethodName) ({ cls := "RainStreetsModel", name := "lot", desc := "(II)Z" } : Jvm.MethodName)) ∈ lw_all := lw_g (lw_at lw_m7 146 rfl) rfl
theorem q1645 : (Jvm.Cond.code ({ cls := "RainStreetsModel", name := "lot", desc := "(II)Z" } : Jvm.MethodName) prog_12_method_9_code (3 : Nat) (Option.some Jvm.ClassFile.FieldType.boolean)) ∈ lw_all := lw_g (lw_at lw_m7 147 rfl) rfl
theorem q1647 : (Jvm.Cond.instanceMethod ({ cls := "RainStreetsModel", name := "bed", desc := "(IIIZ)Z" } : Jvm.MethodName)) ∈ lw_all := lw_g (lw_at lw_m7 149 rfl) rfl
theorem q1648 : (Jvm.Cond.selects "RainStreetsModel" ({ cls := "RainStreetsModel", name := "bed", desc := "(IIIZ)Z" } : Jvm.MethodName) ({ cls := "RainStreetsModel", name := "bed", desc := "(IIIZ)Z" } : Jvm.MethodName)) ∈ lw_all := lw_g (lw_at lw_m7 150 rfl) rfl
theorem q1649 : (Jvm.Cond.code ({ cls := "RainStreetsModel", name := "bed", desc := "(IIIZ)Z" } : Jvm.MethodName) prog_12_method_11_code (6 : Nat) (Option.some Jvm.ClassFile.FieldType.boolean)) ∈ lw_all := lw_g (lw_at lw_m7 151 rfl) rfl
theorem q1650 : (Jvm.Cond.methodLink "RainStreetsModel" (205 : Nat) ({ cls := "RainStreetsModel", name := "parked", desc := "(I)I" } : Jvm.MethodName)) ∈ lw_all := lw_g (lw_at lw_m7 152 rfl) rfl
theorem q1651 : (Jvm.Cond.privateMethod ({ cls := "RainStreetsModel", name := "parked", desc := "(I)I" } : Jvm.MethodName)) ∈ lw_tbl := lw_at lw_m7 153 rfl
theorem q1652 : (Jvm.Cond.instanceMethod ({ cls := "RainStreetsModel", name := "parked", desc := "(I)I" } : Jvm.MethodName)) ∈ lw_all := lw_g (lw_at lw_m7 154 rfl) rfl
theorem q1653 : (Jvm.Cond.code ({ cls := "RainStreetsModel", name := "parked", desc := "(I)I" } : Jvm.MethodName) prog_12_method_10_code (4 : Nat) (Option.some Jvm.ClassFile.FieldType.int)) ∈ lw_all := lw_g (lw_at lw_m7 155 rfl) rfl
theorem q1654 : (Jvm.Cond.methodLink "RainStreetsModel" (209 : Nat) ({ cls := "RainStreetsModel", name := "now", desc := "(I)I" } : Jvm.MethodName)) ∈ lw_all := lw_g (lw_at lw_m7 156 rfl) rfl
theorem q1655 : (Jvm.Cond.privateMethod ({ cls := "RainStreetsModel", name := "now", desc := "(I)I" } : Jvm.MethodName)) ∈ lw_tbl := lw_at lw_m7 157 rfl
theorem q1656 : (Jvm.Cond.instanceMethod ({ cls := "RainStreetsModel", name := "now", desc := "(I)I" } : Jvm.MethodName)) ∈ lw_all := lw_g (lw_at lw_m7 158 rfl) rfl
theorem q1657 : (Jvm.Cond.code ({ cls := "RainStreetsModel", name := "now", desc := "(I)I" } : Jvm.MethodName) prog_12_method_61_code (2 : Nat) (Option.some Jvm.ClassFile.FieldType.int)) ∈ lw_all := lw_g (lw_at lw_m7 159 rfl) rfl
theorem q1658 : (Jvm.Cond.methodLink "RainStreetsModel" (332 : Nat) ({ cls := "RainStreetsModel", name := "lawOn", desc := "(II)I" } : Jvm.MethodName)) ∈ lw_all := lw_g (lw_at lw_m7 160 rfl) rfl
theorem q1659 : (Jvm.Cond.privateMethod ({ cls := "RainStreetsModel", name := "lawOn", desc := "(II)I" } : Jvm.MethodName)) ∈ lw_tbl := lw_at lw_m7 161 rfl
theorem q1660 : (Jvm.Cond.instanceMethod ({ cls := "RainStreetsModel", name := "lawOn", desc := "(II)I" } : Jvm.MethodName)) ∈ lw_all := lw_g (lw_at lw_m7 162 rfl) rfl
theorem q1661 : (Jvm.Cond.code ({ cls := "RainStreetsModel", name := "lawOn", desc := "(II)I" } : Jvm.MethodName) prog_12_method_60_code (6 : Nat) (Option.some Jvm.ClassFile.FieldType.int)) ∈ lw_all := lw_g (lw_at lw_m7 163 rfl) rfl
theorem q1662 : (Jvm.Cond.methodLink "RainStreetsModel" (425 : Nat) ({ cls := "RainStreetsModel", name := "plain", desc := "(I)I" } : Jvm.MethodName)) ∈ lw_all := lw_g (lw_at lw_m7 164 rfl) rfl
theorem q1663 : (Jvm.Cond.static ({ cls := "RainStreetsModel", name := "plain", desc := "(I)I" } : Jvm.MethodName)) ∈ lw_all := lw_g (lw_at lw_m7 165 rfl) rfl
theorem q1664 : (Jvm.Cond.code ({ cls := "RainStreetsModel", name := "plain", desc := "(I)I" } : Jvm.MethodName) prog_12_method_59_code (1 : Nat) (Option.some Jvm.ClassFile.FieldType.int)) ∈ lw_all := lw_g (lw_at lw_m7 166 rfl) rfl
theorem q1665 : (Jvm.Cond.methodLink "RainStreetsModel" (240 : Nat) ({ cls := "RainStreetsModel", name := "inForce", desc := "(I)I" } : Jvm.MethodName)) ∈ lw_all := lw_g (lw_at lw_m7 167 rfl) rfl
theorem q1666 : (Jvm.Cond.privateMethod ({ cls := "RainStreetsModel", name := "inForce", desc := "(I)I" } : Jvm.MethodName)) ∈ lw_tbl := lw_at lw_m7 168 rfl
theorem q1667 : (Jvm.Cond.instanceMethod ({ cls := "RainStreetsModel", name := "inForce", desc := "(I)I" } : Jvm.MethodName)) ∈ lw_all := lw_g (lw_at lw_m7 169 rfl) rfl
theorem q1668 : (Jvm.Cond.code ({ cls := "RainStreetsModel", name := "inForce", desc := "(I)I" } : Jvm.MethodName) prog_12_method_58_code (4 : Nat) (Option.some Jvm.ClassFile.FieldType.int)) ∈ lw_all := lw_g (lw_at lw_m7 170 rfl) rfl
theorem q1670 : (Jvm.Cond.instanceMethod ({ cls := "RainStreetsModel", name := "care", desc := "(II)Z" } : Jvm.MethodName)) ∈ lw_all := lw_g (lw_at lw_m7 172 rfl) rfl
theorem q1671 : (Jvm.Cond.selects "RainStreetsModel" ({ cls := "RainStreetsModel", name := "care", desc := "(II)Z" } : Jvm.MethodName) ({ cls := "RainStreetsModel", name := "care", desc := "(II)Z" } : Jvm.MethodName)) ∈ lw_all := lw_g (lw_at lw_m7 173 rfl) rfl
theorem q1672 : (Jvm.Cond.code ({ cls := "RainStreetsModel", name := "care", desc := "(II)Z" } : Jvm.MethodName) prog_12_method_14_code (3 : Nat) (Option.some Jvm.ClassFile.FieldType.boolean)) ∈ lw_all := lw_g (lw_at lw_m7 174 rfl) rfl
theorem q1673 : (Jvm.Cond.methodLink "RainStreetsModel" (219 : Nat) ({ cls := "RainStreetsModel", name := "isBed", desc := "(I)Z" } : Jvm.MethodName)) ∈ lw_all := lw_g (lw_at lw_m7 175 rfl) rfl
theorem q1674 : (Jvm.Cond.privateMethod ({ cls := "RainStreetsModel", name := "isBed", desc := "(I)Z" } : Jvm.MethodName)) ∈ lw_tbl := lw_at lw_m7 176 rfl
theorem q1675 : (Jvm.Cond.instanceMethod ({ cls := "RainStreetsModel", name := "isBed", desc := "(I)Z" } : Jvm.MethodName)) ∈ lw_all := lw_g (lw_at lw_m7 177 rfl) rfl
theorem q1676 : (Jvm.Cond.code ({ cls := "RainStreetsModel", name := "isBed", desc := "(I)Z" } : Jvm.MethodName) prog_12_method_5_code (2 : Nat) (Option.some Jvm.ClassFile.FieldType.boolean)) ∈ lw_all := lw_g (lw_at lw_m7 178 rfl) rfl
theorem q1677 : (Jvm.Cond.methodLink "RainStreetsModel" (222 : Nat) ({ cls := "java/lang/Math", name := "max", desc := "(II)I" } : Jvm.MethodName)) ∈ lw_all := lw_g (lw_at lw_m7 179 rfl) rfl
theorem q1679 : (Jvm.Cond.instanceMethod ({ cls := "RainStreetsModel", name := "treat", desc := "(II)Z" } : Jvm.MethodName)) ∈ lw_all := lw_g (lw_at lw_m7 181 rfl) rfl
theorem q1680 : (Jvm.Cond.selects "RainStreetsModel" ({ cls := "RainStreetsModel", name := "treat", desc := "(II)Z" } : Jvm.MethodName) ({ cls := "RainStreetsModel", name := "treat", desc := "(II)Z" } : Jvm.MethodName)) ∈ lw_all := lw_g (lw_at lw_m7 182 rfl) rfl
theorem q1681 : (Jvm.Cond.code ({ cls := "RainStreetsModel", name := "treat", desc := "(II)Z" } : Jvm.MethodName) prog_12_method_15_code (3 : Nat) (Option.some Jvm.ClassFile.FieldType.boolean)) ∈ lw_all := lw_g (lw_at lw_m7 183 rfl) rfl
theorem q1682 : (Jvm.Cond.methodLink "RainStreetsModel" (227 : Nat) ({ cls := "java/lang/Math", name := "min", desc := "(II)I" } : Jvm.MethodName)) ∈ lw_all := lw_g (lw_at lw_m7 184 rfl) rfl
theorem q1684 : (Jvm.Cond.instanceMethod ({ cls := "RainStreetsModel", name := "pass", desc := "(I)I" } : Jvm.MethodName)) ∈ lw_all := lw_g (lw_at lw_m7 186 rfl) rfl
theorem q1685 : (Jvm.Cond.selects "RainStreetsModel" ({ cls := "RainStreetsModel", name := "pass", desc := "(I)I" } : Jvm.MethodName) ({ cls := "RainStreetsModel", name := "pass", desc := "(I)I" } : Jvm.MethodName)) ∈ lw_all := lw_g (lw_at lw_m7 187 rfl) rfl
theorem q1686 : (Jvm.Cond.code ({ cls := "RainStreetsModel", name := "pass", desc := "(I)I" } : Jvm.MethodName) prog_12_method_18_code (5 : Nat) (Option.some Jvm.ClassFile.FieldType.int)) ∈ lw_all := lw_g (lw_at lw_m7 188 rfl) rfl
theorem q1687 : (Jvm.Cond.methodLink "RainStreetsModel" (247 : Nat) ({ cls := "RainStreetsModel", name := "ages", desc := "(I)V" } : Jvm.MethodName)) ∈ lw_all := lw_g (lw_at lw_m7 189 rfl) rfl
theorem q1688 : (Jvm.Cond.privateMethod ({ cls := "RainStreetsModel", name := "ages", desc := "(I)V" } : Jvm.MethodName)) ∈ lw_tbl := lw_at lw_m7 190 rfl
theorem q1689 : (Jvm.Cond.instanceMethod ({ cls := "RainStreetsModel", name := "ages", desc := "(I)V" } : Jvm.MethodName)) ∈ lw_all := lw_g (lw_at lw_m7 191 rfl) rfl
theorem q1690 : (Jvm.Cond.code ({ cls := "RainStreetsModel", name := "ages", desc := "(I)V" } : Jvm.MethodName) prog_12_method_16_code (7 : Nat) (Option.none : Option Jvm.ClassFile.FieldType)) ∈ lw_all := lw_g (lw_at lw_m7 192 rfl) rfl
theorem q1691 : (Jvm.Cond.methodLink "RainStreetsModel" (230 : Nat) ({ cls := "RainStreetsModel", name := "drink", desc := "(I)I" } : Jvm.MethodName)) ∈ lw_all := lw_g (lw_at lw_m7 193 rfl) rfl
theorem q1692 : (Jvm.Cond.privateMethod ({ cls := "RainStreetsModel", name := "drink", desc := "(I)I" } : Jvm.MethodName)) ∈ lw_tbl := lw_at lw_m7 194 rfl
theorem q1693 : (Jvm.Cond.instanceMethod ({ cls := "RainStreetsModel", name := "drink", desc := "(I)I" } : Jvm.MethodName)) ∈ lw_all := lw_g (lw_at lw_m7 195 rfl) rfl
theorem q1694 : (Jvm.Cond.code ({ cls := "RainStreetsModel", name := "drink", desc := "(I)I" } : Jvm.MethodName) prog_12_method_13_code (2 : Nat) (Option.some Jvm.ClassFile.FieldType.int)) ∈ lw_all := lw_g (lw_at lw_m7 196 rfl) rfl
theorem q1695 : (Jvm.Cond.methodLink "RainStreetsModel" (215 : Nat) ({ cls := "RainStreetsModel", name := "drinkBy", desc := "(II)I" } : Jvm.MethodName)) ∈ lw_all := lw_g (lw_at lw_m7 197 rfl) rfl
theorem q1696 : (Jvm.Cond.privateMethod ({ cls := "RainStreetsModel", name := "drinkBy", desc := "(II)I" } : Jvm.MethodName)) ∈ lw_tbl := lw_at lw_m7 198 rfl
theorem q1697 : (Jvm.Cond.instanceMethod ({ cls := "RainStreetsModel", name := "drinkBy", desc := "(II)I" } : Jvm.MethodName)) ∈ lw_all := lw_g (lw_at lw_m7 199 rfl) rfl
theorem q1698 : (Jvm.Cond.code ({ cls := "RainStreetsModel", name := "drinkBy", desc := "(II)I" } : Jvm.MethodName) prog_12_method_12_code (3 : Nat) (Option.some Jvm.ClassFile.FieldType.int)) ∈ lw_all := lw_g (lw_at lw_m7 200 rfl) rfl
theorem q1699 : (Jvm.Cond.methodLink "RainStreetsModel" (237 : Nat) ({ cls := "RainStreetsModel", name := "complain", desc := "(II)I" } : Jvm.MethodName)) ∈ lw_all := lw_g (lw_at lw_m7 201 rfl) rfl
theorem q1700 : (Jvm.Cond.instanceMethod ({ cls := "RainStreetsModel", name := "complain", desc := "(II)I" } : Jvm.MethodName)) ∈ lw_all := lw_g (lw_at lw_m7 202 rfl) rfl
theorem q1701 : (Jvm.Cond.selects "RainStreetsModel" ({ cls := "RainStreetsModel", name := "complain", desc := "(II)I" } : Jvm.MethodName) ({ cls := "RainStreetsModel", name := "complain", desc := "(II)I" } : Jvm.MethodName)) ∈ lw_all := lw_g (lw_at lw_m7 203 rfl) rfl
theorem q1702 : (Jvm.Cond.code ({ cls := "RainStreetsModel", name := "complain", desc := "(II)I" } : Jvm.MethodName) prog_12_method_42_code (4 : Nat) (Option.some Jvm.ClassFile.FieldType.int)) ∈ lw_all := lw_g (lw_at lw_m7 204 rfl) rfl
theorem q1703 : (Jvm.Cond.methodLink "RainStreetsModel" (254 : Nat) ({ cls := "RainStreetsModel", name := "turns", desc := "()V" } : Jvm.MethodName)) ∈ lw_all := lw_g (lw_at lw_m7 205 rfl) rfl
theorem q1704 : (Jvm.Cond.privateMethod ({ cls := "RainStreetsModel", name := "turns", desc := "()V" } : Jvm.MethodName)) ∈ lw_tbl := lw_at lw_m7 206 rfl
theorem q1705 : (Jvm.Cond.instanceMethod ({ cls := "RainStreetsModel", name := "turns", desc := "()V" } : Jvm.MethodName)) ∈ lw_all := lw_g (lw_at lw_m7 207 rfl) rfl
theorem q1706 : (Jvm.Cond.code ({ cls := "RainStreetsModel", name := "turns", desc := "()V" } : Jvm.MethodName) prog_12_method_17_code (3 : Nat) (Option.none : Option Jvm.ClassFile.FieldType)) ∈ lw_all := lw_g (lw_at lw_m7 208 rfl) rfl
theorem q1707 : (Jvm.Cond.methodLink "RainStreetsModel" (243 : Nat) ({ cls := "RainStreetsModel", name := "isTurn", desc := "(II)Z" } : Jvm.MethodName)) ∈ lw_all := lw_g (lw_at lw_m7 209 rfl) rfl
theorem q1708 : (Jvm.Cond.privateMethod ({ cls := "RainStreetsModel", name := "isTurn", desc := "(II)Z" } : Jvm.MethodName)) ∈ lw_tbl := lw_at lw_m7 210 rfl
theorem q1709 : (Jvm.Cond.instanceMethod ({ cls := "RainStreetsModel", name := "isTurn", desc := "(II)Z" } : Jvm.MethodName)) ∈ lw_all := lw_g (lw_at lw_m7 211 rfl) rfl
theorem q1710 : (Jvm.Cond.code ({ cls := "RainStreetsModel", name := "isTurn", desc := "(II)Z" } : Jvm.MethodName) prog_12_method_62_code (3 : Nat) (Option.some Jvm.ClassFile.FieldType.boolean)) ∈ lw_all := lw_g (lw_at lw_m7 212 rfl) rfl
theorem q1712 : (Jvm.Cond.instanceMethod ({ cls := "RainStreetsModel", name := "rain", desc := "(I)I" } : Jvm.MethodName)) ∈ lw_all := lw_g (lw_at lw_m7 214 rfl) rfl
theorem q1713 : (Jvm.Cond.selects "RainStreetsModel" ({ cls := "RainStreetsModel", name := "rain", desc := "(I)I" } : Jvm.MethodName) ({ cls := "RainStreetsModel", name := "rain", desc := "(I)I" } : Jvm.MethodName)) ∈ lw_all := lw_g (lw_at lw_m7 215 rfl) rfl
theorem q1714 : (Jvm.Cond.code ({ cls := "RainStreetsModel", name := "rain", desc := "(I)I" } : Jvm.MethodName) prog_12_method_19_code (2 : Nat) (Option.some Jvm.ClassFile.FieldType.int)) ∈ lw_all := lw_g (lw_at lw_m7 216 rfl) rfl
theorem q1716 : (Jvm.Cond.instanceMethod ({ cls := "RainStreetsModel", name := "clear", desc := "()I" } : Jvm.MethodName)) ∈ lw_all := lw_g (lw_at lw_m7 218 rfl) rfl
theorem q1717 : (Jvm.Cond.selects "RainStreetsModel" ({ cls := "RainStreetsModel", name := "clear", desc := "()I" } : Jvm.MethodName) ({ cls := "RainStreetsModel", name := "clear", desc := "()I" } : Jvm.MethodName)) ∈ lw_all := lw_g (lw_at lw_m7 219 rfl) rfl
theorem q1718 : (Jvm.Cond.code ({ cls := "RainStreetsModel", name := "clear", desc := "()I" } : Jvm.MethodName) prog_12_method_20_code (2 : Nat) (Option.some Jvm.ClassFile.FieldType.int)) ∈ lw_all := lw_g (lw_at lw_m7 220 rfl) rfl
theorem q1720 : (Jvm.Cond.instanceMethod ({ cls := "RainStreetsModel", name := "storm", desc := "()I" } : Jvm.MethodName)) ∈ lw_all := lw_g (lw_at lw_m7 222 rfl) rfl
theorem q1721 : (Jvm.Cond.selects "RainStreetsModel" ({ cls := "RainStreetsModel", name := "storm", desc := "()I" } : Jvm.MethodName) ({ cls := "RainStreetsModel", name := "storm", desc := "()I" } : Jvm.MethodName)) ∈ lw_all := lw_g (lw_at lw_m7 223 rfl) rfl
theorem q1722 : (Jvm.Cond.code ({ cls := "RainStreetsModel", name := "storm", desc := "()I" } : Jvm.MethodName) prog_12_method_24_code (2 : Nat) (Option.some Jvm.ClassFile.FieldType.int)) ∈ lw_all := lw_g (lw_at lw_m7 224 rfl) rfl
theorem q1723 : (Jvm.Cond.methodLink "RainStreetsModel" (298 : Nat) ({ cls := "RainStreetsModel", name := "falls", desc := "(I)V" } : Jvm.MethodName)) ∈ lw_all := lw_g (lw_at lw_m7 225 rfl) rfl
theorem q1724 : (Jvm.Cond.privateMethod ({ cls := "RainStreetsModel", name := "falls", desc := "(I)V" } : Jvm.MethodName)) ∈ lw_tbl := lw_at lw_m7 226 rfl
theorem q1725 : (Jvm.Cond.instanceMethod ({ cls := "RainStreetsModel", name := "falls", desc := "(I)V" } : Jvm.MethodName)) ∈ lw_all := lw_g (lw_at lw_m7 227 rfl) rfl
theorem q1726 : (Jvm.Cond.code ({ cls := "RainStreetsModel", name := "falls", desc := "(I)V" } : Jvm.MethodName) prog_12_method_21_code (3 : Nat) (Option.none : Option Jvm.ClassFile.FieldType)) ∈ lw_all := lw_g (lw_at lw_m7 228 rfl) rfl
theorem q1727 : (Jvm.Cond.methodLink "RainStreetsModel" (278 : Nat) ({ cls := "RainStreetsModel", name := "minute", desc := "(II)V" } : Jvm.MethodName)) ∈ lw_all := lw_g (lw_at lw_m7 229 rfl) rfl
theorem q1728 : (Jvm.Cond.privateMethod ({ cls := "RainStreetsModel", name := "minute", desc := "(II)V" } : Jvm.MethodName)) ∈ lw_tbl := lw_at lw_m7 230 rfl
theorem q1729 : (Jvm.Cond.instanceMethod ({ cls := "RainStreetsModel", name := "minute", desc := "(II)V" } : Jvm.MethodName)) ∈ lw_all := lw_g (lw_at lw_m7 231 rfl) rfl
theorem q1730 : (Jvm.Cond.code ({ cls := "RainStreetsModel", name := "minute", desc := "(II)V" } : Jvm.MethodName) prog_12_method_22_code (15 : Nat) (Option.none : Option Jvm.ClassFile.FieldType)) ∈ lw_all := lw_g (lw_at lw_m7 232 rfl) rfl
theorem q1731 : (Jvm.Cond.methodLink "RainStreetsModel" (282 : Nat) ({ cls := "RainStreetsModel", name := "roofsGive", desc := "(II)J" } : Jvm.MethodName)) ∈ lw_all := lw_g (lw_at lw_m7 233 rfl) rfl
theorem q1732 : (Jvm.Cond.privateMethod ({ cls := "RainStreetsModel", name := "roofsGive", desc := "(II)J" } : Jvm.MethodName)) ∈ lw_tbl := lw_at lw_m7 234 rfl
theorem q1733 : (Jvm.Cond.instanceMethod ({ cls := "RainStreetsModel", name := "roofsGive", desc := "(II)J" } : Jvm.MethodName)) ∈ lw_all := lw_g (lw_at lw_m7 235 rfl) rfl
theorem q1734 : (Jvm.Cond.code ({ cls := "RainStreetsModel", name := "roofsGive", desc := "(II)J" } : Jvm.MethodName) prog_12_method_23_code (8 : Nat) (Option.some Jvm.ClassFile.FieldType.long)) ∈ lw_all := lw_g (lw_at lw_m7 236 rfl) rfl
theorem q1735 : (Jvm.Cond.constantLong "RainStreetsModel" (286 : Nat) (10 : Int64)) ∈ lw_all := lw_g (lw_at lw_m7 237 rfl) rfl
theorem q1736 : (Jvm.Cond.methodLink "RainStreetsModel" (288 : Nat) ({ cls := "java/lang/Math", name := "min", desc := "(JJ)J" } : Jvm.MethodName)) ∈ lw_all := lw_g (lw_at lw_m7 238 rfl) rfl
theorem q1739 : (Jvm.Cond.constantLong "RainStreetsModel" (291 : Nat) (2 : Int64)) ∈ lw_all := lw_g (lw_at lw_m8 1 rfl) rfl
theorem q1740 : (Jvm.Cond.methodLink "RainStreetsModel" (293 : Nat) ({ cls := "java/lang/Math", name := "max", desc := "(JJ)J" } : Jvm.MethodName)) ∈ lw_all := lw_g (lw_at lw_m8 2 rfl) rfl
theorem q1742 : (Jvm.Cond.instanceMethod ({ cls := "RainStreetsModel", name := "tried", desc := "(II)J" } : Jvm.MethodName)) ∈ lw_all := lw_g (lw_at lw_m8 4 rfl) rfl
theorem q1743 : (Jvm.Cond.selects "RainStreetsModel" ({ cls := "RainStreetsModel", name := "tried", desc := "(II)J" } : Jvm.MethodName) ({ cls := "RainStreetsModel", name := "tried", desc := "(II)J" } : Jvm.MethodName)) ∈ lw_all := lw_g (lw_at lw_m8 5 rfl) rfl
theorem q1744 : (Jvm.Cond.code ({ cls := "RainStreetsModel", name := "tried", desc := "(II)J" } : Jvm.MethodName) prog_12_method_26_code (3 : Nat) (Option.some Jvm.ClassFile.FieldType.long)) ∈ lw_all := lw_g (lw_at lw_m8 6 rfl) rfl
theorem q1745 : (Jvm.Cond.methodLink "RainStreetsModel" (310 : Nat) ({ cls := "RainStreetsModel", name := "isNew", desc := "(I)Z" } : Jvm.MethodName)) ∈ lw_all := lw_g (lw_at lw_m8 7 rfl) rfl
theorem q1746 : (Jvm.Cond.privateMethod ({ cls := "RainStreetsModel", name := "isNew", desc := "(I)Z" } : Jvm.MethodName)) ∈ lw_tbl := lw_at lw_m8 8 rfl
theorem q1747 : (Jvm.Cond.instanceMethod ({ cls := "RainStreetsModel", name := "isNew", desc := "(I)Z" } : Jvm.MethodName)) ∈ lw_all := lw_g (lw_at lw_m8 9 rfl) rfl
theorem q1748 : (Jvm.Cond.code ({ cls := "RainStreetsModel", name := "isNew", desc := "(I)Z" } : Jvm.MethodName) prog_12_method_25_code (4 : Nat) (Option.some Jvm.ClassFile.FieldType.boolean)) ∈ lw_all := lw_g (lw_at lw_m8 10 rfl) rfl
theorem q1749 : (Jvm.Cond.constantLong "RainStreetsModel" (313 : Nat) (-1 : Int64)) ∈ lw_all := lw_g (lw_at lw_m8 11 rfl) rfl
theorem q1751 : (Jvm.Cond.instanceMethod ({ cls := "RainStreetsModel", name := "best", desc := "(IIII)J" } : Jvm.MethodName)) ∈ lw_all := lw_g (lw_at lw_m8 13 rfl) rfl
theorem q1752 : (Jvm.Cond.selects "RainStreetsModel" ({ cls := "RainStreetsModel", name := "best", desc := "(IIII)J" } : Jvm.MethodName) ({ cls := "RainStreetsModel", name := "best", desc := "(IIII)J" } : Jvm.MethodName)) ∈ lw_all := lw_g (lw_at lw_m8 14 rfl) rfl
theorem q1753 : (Jvm.Cond.code ({ cls := "RainStreetsModel", name := "best", desc := "(IIII)J" } : Jvm.MethodName) prog_12_method_28_code (12 : Nat) (Option.some Jvm.ClassFile.FieldType.long)) ∈ lw_all := lw_g (lw_at lw_m8 15 rfl) rfl
theorem q1754 : (Jvm.Cond.constant "RainStreetsModel" (315 : Nat) (99999 : Int32)) ∈ lw_all := lw_g (lw_at lw_m8 16 rfl) rfl
theorem q1755 : (Jvm.Cond.methodLink "RainStreetsModel" (316 : Nat) ({ cls := "RainStreetsModel", name := "bits", desc := "(I)I" } : Jvm.MethodName)) ∈ lw_all := lw_g (lw_at lw_m8 17 rfl) rfl
theorem q1756 : (Jvm.Cond.static ({ cls := "RainStreetsModel", name := "bits", desc := "(I)I" } : Jvm.MethodName)) ∈ lw_all := lw_g (lw_at lw_m8 18 rfl) rfl
theorem q1757 : (Jvm.Cond.code ({ cls := "RainStreetsModel", name := "bits", desc := "(I)I" } : Jvm.MethodName) prog_12_method_27_code (3 : Nat) (Option.some Jvm.ClassFile.FieldType.int)) ∈ lw_all := lw_g (lw_at lw_m8 19 rfl) rfl
theorem q1759 : (Jvm.Cond.instanceMethod ({ cls := "RainStreetsModel", name := "helps", desc := "(II)J" } : Jvm.MethodName)) ∈ lw_all := lw_g (lw_at lw_m8 21 rfl) rfl
theorem q1760 : (Jvm.Cond.selects "RainStreetsModel" ({ cls := "RainStreetsModel", name := "helps", desc := "(II)J" } : Jvm.MethodName) ({ cls := "RainStreetsModel", name := "helps", desc := "(II)J" } : Jvm.MethodName)) ∈ lw_all := lw_g (lw_at lw_m8 22 rfl) rfl
theorem q1761 : (Jvm.Cond.code ({ cls := "RainStreetsModel", name := "helps", desc := "(II)J" } : Jvm.MethodName) prog_12_method_29_code (5 : Nat) (Option.some Jvm.ClassFile.FieldType.long)) ∈ lw_all := lw_g (lw_at lw_m8 23 rfl) rfl
theorem q1763 : (Jvm.Cond.instanceMethod ({ cls := "RainStreetsModel", name := "told", desc := "(II)I" } : Jvm.MethodName)) ∈ lw_all := lw_g (lw_at lw_m8 25 rfl) rfl
theorem q1764 : (Jvm.Cond.selects "RainStreetsModel" ({ cls := "RainStreetsModel", name := "told", desc := "(II)I" } : Jvm.MethodName) ({ cls := "RainStreetsModel", name := "told", desc := "(II)I" } : Jvm.MethodName)) ∈ lw_all := lw_g (lw_at lw_m8 26 rfl) rfl
theorem q1765 : (Jvm.Cond.code ({ cls := "RainStreetsModel", name := "told", desc := "(II)I" } : Jvm.MethodName) prog_12_method_30_code (3 : Nat) (Option.some Jvm.ClassFile.FieldType.int)) ∈ lw_all := lw_g (lw_at lw_m8 27 rfl) rfl
theorem q1766 : (Jvm.Cond.methodLink "RainStreetsModel" (319 : Nat) ({ cls := "RainStreetsModel", name := "one", desc := "(Z)I" } : Jvm.MethodName)) ∈ lw_all := lw_g (lw_at lw_m8 28 rfl) rfl
theorem q1767 : (Jvm.Cond.static ({ cls := "RainStreetsModel", name := "one", desc := "(Z)I" } : Jvm.MethodName)) ∈ lw_all := lw_g (lw_at lw_m8 29 rfl) rfl
theorem q1768 : (Jvm.Cond.code ({ cls := "RainStreetsModel", name := "one", desc := "(Z)I" } : Jvm.MethodName) prog_12_method_3_code (1 : Nat) (Option.some Jvm.ClassFile.FieldType.int)) ∈ lw_all := lw_g (lw_at lw_m8 30 rfl) rfl
theorem q1770 : (Jvm.Cond.instanceMethod ({ cls := "RainStreetsModel", name := "bedOf", desc := "(II)I" } : Jvm.MethodName)) ∈ lw_all := lw_g (lw_at lw_m8 32 rfl) rfl
theorem q1771 : (Jvm.Cond.selects "RainStreetsModel" ({ cls := "RainStreetsModel", name := "bedOf", desc := "(II)I" } : Jvm.MethodName) ({ cls := "RainStreetsModel", name := "bedOf", desc := "(II)I" } : Jvm.MethodName)) ∈ lw_all := lw_g (lw_at lw_m8 33 rfl) rfl
theorem q1772 : (Jvm.Cond.code ({ cls := "RainStreetsModel", name := "bedOf", desc := "(II)I" } : Jvm.MethodName) prog_12_method_31_code (4 : Nat) (Option.some Jvm.ClassFile.FieldType.int)) ∈ lw_all := lw_g (lw_at lw_m8 34 rfl) rfl
theorem q1774 : (Jvm.Cond.instanceMethod ({ cls := "RainStreetsModel", name := "roofOf", desc := "(II)I" } : Jvm.MethodName)) ∈ lw_all := lw_g (lw_at lw_m8 36 rfl) rfl
theorem q1775 : (Jvm.Cond.selects "RainStreetsModel" ({ cls := "RainStreetsModel", name := "roofOf", desc := "(II)I" } : Jvm.MethodName) ({ cls := "RainStreetsModel", name := "roofOf", desc := "(II)I" } : Jvm.MethodName)) ∈ lw_all := lw_g (lw_at lw_m8 37 rfl) rfl
theorem q1776 : (Jvm.Cond.code ({ cls := "RainStreetsModel", name := "roofOf", desc := "(II)I" } : Jvm.MethodName) prog_12_method_32_code (5 : Nat) (Option.some Jvm.ClassFile.FieldType.int)) ∈ lw_all := lw_g (lw_at lw_m8 38 rfl) rfl
theorem q1778 : (Jvm.Cond.instanceMethod ({ cls := "RainStreetsModel", name := "prove", desc := "(I)Z" } : Jvm.MethodName)) ∈ lw_all := lw_g (lw_at lw_m8 40 rfl) rfl
theorem q1779 : (Jvm.Cond.selects "RainStreetsModel" ({ cls := "RainStreetsModel", name := "prove", desc := "(I)Z" } : Jvm.MethodName) ({ cls := "RainStreetsModel", name := "prove", desc := "(I)Z" } : Jvm.MethodName)) ∈ lw_all := lw_g (lw_at lw_m8 41 rfl) rfl
theorem q1780 : (Jvm.Cond.code ({ cls := "RainStreetsModel", name := "prove", desc := "(I)Z" } : Jvm.MethodName) prog_12_method_33_code (2 : Nat) (Option.some Jvm.ClassFile.FieldType.boolean)) ∈ lw_all := lw_g (lw_at lw_m8 42 rfl) rfl
theorem q1782 : (Jvm.Cond.instanceMethod ({ cls := "RainStreetsModel", name := "stormOf", desc := "(II)J" } : Jvm.MethodName)) ∈ lw_all := lw_g (lw_at lw_m8 44 rfl) rfl
theorem q1783 : (Jvm.Cond.selects "RainStreetsModel" ({ cls := "RainStreetsModel", name := "stormOf", desc := "(II)J" } : Jvm.MethodName) ({ cls := "RainStreetsModel", name := "stormOf", desc := "(II)J" } : Jvm.MethodName)) ∈ lw_all := lw_g (lw_at lw_m8 45 rfl) rfl
theorem q1784 : (Jvm.Cond.code ({ cls := "RainStreetsModel", name := "stormOf", desc := "(II)J" } : Jvm.MethodName) prog_12_method_34_code (3 : Nat) (Option.some Jvm.ClassFile.FieldType.long)) ∈ lw_all := lw_g (lw_at lw_m8 46 rfl) rfl
theorem q1786 : (Jvm.Cond.instanceMethod ({ cls := "RainStreetsModel", name := "compare", desc := "(II)J" } : Jvm.MethodName)) ∈ lw_all := lw_g (lw_at lw_m8 48 rfl) rfl
theorem q1787 : (Jvm.Cond.selects "RainStreetsModel" ({ cls := "RainStreetsModel", name := "compare", desc := "(II)J" } : Jvm.MethodName) ({ cls := "RainStreetsModel", name := "compare", desc := "(II)J" } : Jvm.MethodName)) ∈ lw_all := lw_g (lw_at lw_m8 49 rfl) rfl
theorem q1788 : (Jvm.Cond.code ({ cls := "RainStreetsModel", name := "compare", desc := "(II)J" } : Jvm.MethodName) prog_12_method_36_code (10 : Nat) (Option.some Jvm.ClassFile.FieldType.long)) ∈ lw_all := lw_g (lw_at lw_m8 50 rfl) rfl
theorem q1789 : (Jvm.Cond.methodLink "RainStreetsModel" (329 : Nat) ({ cls := "RainStreetsModel", name := "like", desc := "(II)I" } : Jvm.MethodName)) ∈ lw_all := lw_g (lw_at lw_m8 51 rfl) rfl
theorem q1790 : (Jvm.Cond.privateMethod ({ cls := "RainStreetsModel", name := "like", desc := "(II)I" } : Jvm.MethodName)) ∈ lw_tbl := lw_at lw_m8 52 rfl
theorem q1791 : (Jvm.Cond.instanceMethod ({ cls := "RainStreetsModel", name := "like", desc := "(II)I" } : Jvm.MethodName)) ∈ lw_all := lw_g (lw_at lw_m8 53 rfl) rfl
theorem q1792 : (Jvm.Cond.code ({ cls := "RainStreetsModel", name := "like", desc := "(II)I" } : Jvm.MethodName) prog_12_method_35_code (9 : Nat) (Option.some Jvm.ClassFile.FieldType.int)) ∈ lw_all := lw_g (lw_at lw_m8 54 rfl) rfl
theorem q1793 : (Jvm.Cond.methodLink "RainStreetsModel" (323 : Nat) ({ cls := "java/lang/Math", name := "abs", desc := "(J)J" } : Jvm.MethodName)) ∈ lw_all := lw_g (lw_at lw_m8 55 rfl) rfl
theorem q1794 : (Jvm.Cond.constantLong "RainStreetsModel" (327 : Nat) (100 : Int64)) ∈ lw_all := lw_g (lw_at lw_m8 56 rfl) rfl
theorem q1796 : (Jvm.Cond.instanceMethod ({ cls := "RainStreetsModel", name := "crew", desc := "(II)I" } : Jvm.MethodName)) ∈ lw_all := lw_g (lw_at lw_m8 58 rfl) rfl
theorem q1797 : (Jvm.Cond.selects "RainStreetsModel" ({ cls := "RainStreetsModel", name := "crew", desc := "(II)I" } : Jvm.MethodName) ({ cls := "RainStreetsModel", name := "crew", desc := "(II)I" } : Jvm.MethodName)) ∈ lw_all := lw_g (lw_at lw_m8 59 rfl) rfl
theorem q1798 : (Jvm.Cond.code ({ cls := "RainStreetsModel", name := "crew", desc := "(II)I" } : Jvm.MethodName) prog_12_method_37_code (11 : Nat) (Option.some Jvm.ClassFile.FieldType.int)) ∈ lw_all := lw_g (lw_at lw_m8 60 rfl) rfl
theorem q1800 : (Jvm.Cond.instanceMethod ({ cls := "RainStreetsModel", name := "neighbour", desc := "(II)I" } : Jvm.MethodName)) ∈ lw_all := lw_g (lw_at lw_m8 62 rfl) rfl
theorem q1801 : (Jvm.Cond.selects "RainStreetsModel" ({ cls := "RainStreetsModel", name := "neighbour", desc := "(II)I" } : Jvm.MethodName) ({ cls := "RainStreetsModel", name := "neighbour", desc := "(II)I" } : Jvm.MethodName)) ∈ lw_all := lw_g (lw_at lw_m8 63 rfl) rfl
theorem q1802 : (Jvm.Cond.code ({ cls := "RainStreetsModel", name := "neighbour", desc := "(II)I" } : Jvm.MethodName) prog_12_method_38_code (5 : Nat) (Option.some Jvm.ClassFile.FieldType.int)) ∈ lw_all := lw_g (lw_at lw_m8 64 rfl) rfl
theorem q1804 : (Jvm.Cond.instanceMethod ({ cls := "RainStreetsModel", name := "fee", desc := "(II)I" } : Jvm.MethodName)) ∈ lw_all := lw_g (lw_at lw_m8 66 rfl) rfl
theorem q1805 : (Jvm.Cond.selects "RainStreetsModel" ({ cls := "RainStreetsModel", name := "fee", desc := "(II)I" } : Jvm.MethodName) ({ cls := "RainStreetsModel", name := "fee", desc := "(II)I" } : Jvm.MethodName)) ∈ lw_all := lw_g (lw_at lw_m8 67 rfl) rfl
theorem q1806 : (Jvm.Cond.code ({ cls := "RainStreetsModel", name := "fee", desc := "(II)I" } : Jvm.MethodName) prog_12_method_39_code (6 : Nat) (Option.some Jvm.ClassFile.FieldType.int)) ∈ lw_all := lw_g (lw_at lw_m8 68 rfl) rfl
theorem q1808 : (Jvm.Cond.instanceMethod ({ cls := "RainStreetsModel", name := "look", desc := "(II)I" } : Jvm.MethodName)) ∈ lw_all := lw_g (lw_at lw_m8 70 rfl) rfl
theorem q1809 : (Jvm.Cond.selects "RainStreetsModel" ({ cls := "RainStreetsModel", name := "look", desc := "(II)I" } : Jvm.MethodName) ({ cls := "RainStreetsModel", name := "look", desc := "(II)I" } : Jvm.MethodName)) ∈ lw_all := lw_g (lw_at lw_m8 71 rfl) rfl
theorem q1810 : (Jvm.Cond.code ({ cls := "RainStreetsModel", name := "look", desc := "(II)I" } : Jvm.MethodName) prog_12_method_40_code (3 : Nat) (Option.some Jvm.ClassFile.FieldType.int)) ∈ lw_all := lw_g (lw_at lw_m8 72 rfl) rfl
theorem q1812 : (Jvm.Cond.instanceMethod ({ cls := "RainStreetsModel", name := "worst", desc := "(I)I" } : Jvm.MethodName)) ∈ lw_all := lw_g (lw_at lw_m8 74 rfl) rfl
theorem q1813 : (Jvm.Cond.selects "RainStreetsModel" ({ cls := "RainStreetsModel", name := "worst", desc := "(I)I" } : Jvm.MethodName) ({ cls := "RainStreetsModel", name := "worst", desc := "(I)I" } : Jvm.MethodName)) ∈ lw_all := lw_g (lw_at lw_m8 75 rfl) rfl
theorem q1814 : (Jvm.Cond.code ({ cls := "RainStreetsModel", name := "worst", desc := "(I)I" } : Jvm.MethodName) prog_12_method_41_code (9 : Nat) (Option.some Jvm.ClassFile.FieldType.int)) ∈ lw_all := lw_g (lw_at lw_m8 76 rfl) rfl
theorem q1817 : (Jvm.Cond.instanceMethod ({ cls := "RainStreetsModel", name := "close", desc := "(I)Z" } : Jvm.MethodName)) ∈ lw_all := lw_g (lw_at lw_m8 79 rfl) rfl
theorem q1818 : (Jvm.Cond.selects "RainStreetsModel" ({ cls := "RainStreetsModel", name := "close", desc := "(I)Z" } : Jvm.MethodName) ({ cls := "RainStreetsModel", name := "close", desc := "(I)Z" } : Jvm.MethodName)) ∈ lw_all := lw_g (lw_at lw_m8 80 rfl) rfl
theorem q1819 : (Jvm.Cond.code ({ cls := "RainStreetsModel", name := "close", desc := "(I)Z" } : Jvm.MethodName) prog_12_method_43_code (2 : Nat) (Option.some Jvm.ClassFile.FieldType.boolean)) ∈ lw_all := lw_g (lw_at lw_m8 81 rfl) rfl
theorem q1821 : (Jvm.Cond.instanceMethod ({ cls := "RainStreetsModel", name := "complaint", desc := "(II)I" } : Jvm.MethodName)) ∈ lw_all := lw_g (lw_at lw_m8 83 rfl) rfl
theorem q1822 : (Jvm.Cond.selects "RainStreetsModel" ({ cls := "RainStreetsModel", name := "complaint", desc := "(II)I" } : Jvm.MethodName) ({ cls := "RainStreetsModel", name := "complaint", desc := "(II)I" } : Jvm.MethodName)) ∈ lw_all := lw_g (lw_at lw_m8 84 rfl) rfl
theorem q1823 : (Jvm.Cond.code ({ cls := "RainStreetsModel", name := "complaint", desc := "(II)I" } : Jvm.MethodName) prog_12_method_44_code (3 : Nat) (Option.some Jvm.ClassFile.FieldType.int)) ∈ lw_all := lw_g (lw_at lw_m8 85 rfl) rfl
theorem q1825 : (Jvm.Cond.instanceMethod ({ cls := "RainStreetsModel", name := "feed", desc := "(IIIII)I" } : Jvm.MethodName)) ∈ lw_all := lw_g (lw_at lw_m8 87 rfl) rfl
theorem q1826 : (Jvm.Cond.selects "RainStreetsModel" ({ cls := "RainStreetsModel", name := "feed", desc := "(IIIII)I" } : Jvm.MethodName) ({ cls := "RainStreetsModel", name := "feed", desc := "(IIIII)I" } : Jvm.MethodName)) ∈ lw_all := lw_g (lw_at lw_m8 88 rfl) rfl
theorem q1827 : (Jvm.Cond.code ({ cls := "RainStreetsModel", name := "feed", desc := "(IIIII)I" } : Jvm.MethodName) prog_12_method_45_code (6 : Nat) (Option.some Jvm.ClassFile.FieldType.int)) ∈ lw_all := lw_g (lw_at lw_m8 89 rfl) rfl
theorem q1828 : (Jvm.Cond.methodLink "RainStreetsModel" (344 : Nat) ({ cls := "RainStreetsModel", name := "four", desc := "(I)V" } : Jvm.MethodName)) ∈ lw_all := lw_g (lw_at lw_m8 90 rfl) rfl
theorem q1829 : (Jvm.Cond.privateMethod ({ cls := "RainStreetsModel", name := "four", desc := "(I)V" } : Jvm.MethodName)) ∈ lw_tbl := lw_at lw_m8 91 rfl
theorem q1830 : (Jvm.Cond.instanceMethod ({ cls := "RainStreetsModel", name := "four", desc := "(I)V" } : Jvm.MethodName)) ∈ lw_all := lw_g (lw_at lw_m8 92 rfl) rfl
theorem q1831 : (Jvm.Cond.code ({ cls := "RainStreetsModel", name := "four", desc := "(I)V" } : Jvm.MethodName) prog_12_method_46_code (3 : Nat) (Option.none : Option Jvm.ClassFile.FieldType)) ∈ lw_all := lw_g (lw_at lw_m8 93 rfl) rfl
theorem q1833 : (Jvm.Cond.instanceMethod ({ cls := "RainStreetsModel", name := "rules", desc := "(I)I" } : Jvm.MethodName)) ∈ lw_all := lw_g (lw_at lw_m8 95 rfl) rfl
theorem q1834 : (Jvm.Cond.selects "RainStreetsModel" ({ cls := "RainStreetsModel", name := "rules", desc := "(I)I" } : Jvm.MethodName) ({ cls := "RainStreetsModel", name := "rules", desc := "(I)I" } : Jvm.MethodName)) ∈ lw_all := lw_g (lw_at lw_m8 96 rfl) rfl
theorem q1835 : (Jvm.Cond.code ({ cls := "RainStreetsModel", name := "rules", desc := "(I)I" } : Jvm.MethodName) prog_12_method_56_code (3 : Nat) (Option.some Jvm.ClassFile.FieldType.int)) ∈ lw_all := lw_g (lw_at lw_m8 97 rfl) rfl
theorem q1836 : (Jvm.Cond.methodLink "RainStreetsModel" (353 : Nat) ({ cls := "RainStreetsModel", name := "blanks", desc := "()V" } : Jvm.MethodName)) ∈ lw_all := lw_g (lw_at lw_m8 98 rfl) rfl
theorem q1837 : (Jvm.Cond.privateMethod ({ cls := "RainStreetsModel", name := "blanks", desc := "()V" } : Jvm.MethodName)) ∈ lw_tbl := lw_at lw_m8 99 rfl
theorem q1838 : (Jvm.Cond.instanceMethod ({ cls := "RainStreetsModel", name := "blanks", desc := "()V" } : Jvm.MethodName)) ∈ lw_all := lw_g (lw_at lw_m8 100 rfl) rfl
theorem q1839 : (Jvm.Cond.code ({ cls := "RainStreetsModel", name := "blanks", desc := "()V" } : Jvm.MethodName) prog_12_method_47_code (1 : Nat) (Option.none : Option Jvm.ClassFile.FieldType)) ∈ lw_all := lw_g (lw_at lw_m8 101 rfl) rfl
theorem q1840 : (Jvm.Cond.methodLink "RainStreetsModel" (422 : Nat) ({ cls := "RainStreetsModel", name := "statement", desc := "(I)Z" } : Jvm.MethodName)) ∈ lw_all := lw_g (lw_at lw_m8 102 rfl) rfl
theorem q1841 : (Jvm.Cond.privateMethod ({ cls := "RainStreetsModel", name := "statement", desc := "(I)Z" } : Jvm.MethodName)) ∈ lw_tbl := lw_at lw_m8 103 rfl
theorem q1842 : (Jvm.Cond.instanceMethod ({ cls := "RainStreetsModel", name := "statement", desc := "(I)Z" } : Jvm.MethodName)) ∈ lw_all := lw_g (lw_at lw_m8 104 rfl) rfl
theorem q1843 : (Jvm.Cond.code ({ cls := "RainStreetsModel", name := "statement", desc := "(I)Z" } : Jvm.MethodName) prog_12_method_55_code (3 : Nat) (Option.some Jvm.ClassFile.FieldType.boolean)) ∈ lw_all := lw_g (lw_at lw_m8 105 rfl) rfl
theorem q1844 : (Jvm.Cond.constantLong "RainStreetsModel" (394 : Nat) (1953854062 : Int64)) ∈ lw_all := lw_g (lw_at lw_m8 106 rfl) rfl
theorem q1845 : (Jvm.Cond.methodLink "RainStreetsModel" (368 : Nat) ({ cls := "RainStreetsModel", name := "takes", desc := "(J)Z" } : Jvm.MethodName)) ∈ lw_all := lw_g (lw_at lw_m8 107 rfl) rfl
theorem q1846 : (Jvm.Cond.privateMethod ({ cls := "RainStreetsModel", name := "takes", desc := "(J)Z" } : Jvm.MethodName)) ∈ lw_tbl := lw_at lw_m8 108 rfl
theorem q1847 : (Jvm.Cond.instanceMethod ({ cls := "RainStreetsModel", name := "takes", desc := "(J)Z" } : Jvm.MethodName)) ∈ lw_all := lw_g (lw_at lw_m8 109 rfl) rfl
theorem q1848 : (Jvm.Cond.code ({ cls := "RainStreetsModel", name := "takes", desc := "(J)Z" } : Jvm.MethodName) prog_12_method_48_code (6 : Nat) (Option.some Jvm.ClassFile.FieldType.boolean)) ∈ lw_all := lw_g (lw_at lw_m8 110 rfl) rfl
theorem q1849 : (Jvm.Cond.methodLink "RainStreetsModel" (396 : Nat) ({ cls := "RainStreetsModel", name := "turnsIn", desc := "(I)Z" } : Jvm.MethodName)) ∈ lw_all := lw_g (lw_at lw_m8 111 rfl) rfl
theorem q1850 : (Jvm.Cond.privateMethod ({ cls := "RainStreetsModel", name := "turnsIn", desc := "(I)Z" } : Jvm.MethodName)) ∈ lw_tbl := lw_at lw_m8 112 rfl
theorem q1851 : (Jvm.Cond.instanceMethod ({ cls := "RainStreetsModel", name := "turnsIn", desc := "(I)Z" } : Jvm.MethodName)) ∈ lw_all := lw_g (lw_at lw_m8 113 rfl) rfl
theorem q1852 : (Jvm.Cond.code ({ cls := "RainStreetsModel", name := "turnsIn", desc := "(I)Z" } : Jvm.MethodName) prog_12_method_51_code (2 : Nat) (Option.some Jvm.ClassFile.FieldType.boolean)) ∈ lw_all := lw_g (lw_at lw_m8 114 rfl) rfl
theorem q1853 : (Jvm.Cond.methodLink "RainStreetsModel" (362 : Nat) ({ cls := "RainStreetsModel", name := "takesPlain", desc := "()Z" } : Jvm.MethodName)) ∈ lw_all := lw_g (lw_at lw_m8 115 rfl) rfl
theorem q1854 : (Jvm.Cond.privateMethod ({ cls := "RainStreetsModel", name := "takesPlain", desc := "()Z" } : Jvm.MethodName)) ∈ lw_tbl := lw_at lw_m8 116 rfl
theorem q1855 : (Jvm.Cond.instanceMethod ({ cls := "RainStreetsModel", name := "takesPlain", desc := "()Z" } : Jvm.MethodName)) ∈ lw_all := lw_g (lw_at lw_m8 117 rfl) rfl
theorem q1856 : (Jvm.Cond.code ({ cls := "RainStreetsModel", name := "takesPlain", desc := "()Z" } : Jvm.MethodName) prog_12_method_50_code (1 : Nat) (Option.some Jvm.ClassFile.FieldType.boolean)) ∈ lw_all := lw_g (lw_at lw_m8 118 rfl) rfl
theorem q1857 : (Jvm.Cond.methodLink "RainStreetsModel" (359 : Nat) ({ cls := "RainStreetsModel", name := "takesNumber", desc := "(II)Z" } : Jvm.MethodName)) ∈ lw_all := lw_g (lw_at lw_m8 119 rfl) rfl
theorem q1858 : (Jvm.Cond.privateMethod ({ cls := "RainStreetsModel", name := "takesNumber", desc := "(II)Z" } : Jvm.MethodName)) ∈ lw_tbl := lw_at lw_m8 120 rfl
theorem q1859 : (Jvm.Cond.instanceMethod ({ cls := "RainStreetsModel", name := "takesNumber", desc := "(II)Z" } : Jvm.MethodName)) ∈ lw_all := lw_g (lw_at lw_m8 121 rfl) rfl
theorem q1860 : (Jvm.Cond.code ({ cls := "RainStreetsModel", name := "takesNumber", desc := "(II)Z" } : Jvm.MethodName) prog_12_method_49_code (4 : Nat) (Option.some Jvm.ClassFile.FieldType.boolean)) ∈ lw_all := lw_g (lw_at lw_m8 122 rfl) rfl
theorem q1861 : (Jvm.Cond.constantLong "RainStreetsModel" (366 : Nat) (24948 : Int64)) ∈ lw_all := lw_g (lw_at lw_m8 123 rfl) rfl
theorem q1862 : (Jvm.Cond.constantLong "RainStreetsModel" (372 : Nat) (435778056825 : Int64)) ∈ lw_all := lw_g (lw_at lw_m8 124 rfl) rfl
theorem q1863 : (Jvm.Cond.constantLong "RainStreetsModel" (374 : Nat) (1718775661 : Int64)) ∈ lw_all := lw_g (lw_at lw_m8 125 rfl) rfl
theorem q1864 : (Jvm.Cond.constantLong "RainStreetsModel" (399 : Nat) (1819242347 : Int64)) ∈ lw_all := lw_g (lw_at lw_m8 126 rfl) rfl
theorem q1865 : (Jvm.Cond.methodLink "RainStreetsModel" (401 : Nat) ({ cls := "RainStreetsModel", name := "grades", desc := "(I)Z" } : Jvm.MethodName)) ∈ lw_all := lw_g (lw_at lw_m8 127 rfl) rfl
theorem q1866 : (Jvm.Cond.privateMethod ({ cls := "RainStreetsModel", name := "grades", desc := "(I)Z" } : Jvm.MethodName)) ∈ lw_tbl := lw_at lw_m8 128 rfl
theorem q1867 : (Jvm.Cond.instanceMethod ({ cls := "RainStreetsModel", name := "grades", desc := "(I)Z" } : Jvm.MethodName)) ∈ lw_all := lw_g (lw_at lw_m8 129 rfl) rfl
theorem q1868 : (Jvm.Cond.code ({ cls := "RainStreetsModel", name := "grades", desc := "(I)Z" } : Jvm.MethodName) prog_12_method_52_code (2 : Nat) (Option.some Jvm.ClassFile.FieldType.boolean)) ∈ lw_all := lw_g (lw_at lw_m8 130 rfl) rfl
theorem q1869 : (Jvm.Cond.constantLong "RainStreetsModel" (376 : Nat) (29807 : Int64)) ∈ lw_all := lw_g (lw_at lw_m8 131 rfl) rfl
theorem q1870 : (Jvm.Cond.constantLong "RainStreetsModel" (404 : Nat) (119182682645875 : Int64)) ∈ lw_all := lw_g (lw_at lw_m8 132 rfl) rfl
theorem q1871 : (Jvm.Cond.methodLink "RainStreetsModel" (390 : Nat) ({ cls := "RainStreetsModel", name := "row", desc := "(IIJJ)Z" } : Jvm.MethodName)) ∈ lw_all := lw_g (lw_at lw_m8 133 rfl) rfl
theorem q1872 : (Jvm.Cond.privateMethod ({ cls := "RainStreetsModel", name := "row", desc := "(IIJJ)Z" } : Jvm.MethodName)) ∈ lw_tbl := lw_at lw_m8 134 rfl
theorem q1873 : (Jvm.Cond.instanceMethod ({ cls := "RainStreetsModel", name := "row", desc := "(IIJJ)Z" } : Jvm.MethodName)) ∈ lw_all := lw_g (lw_at lw_m8 135 rfl) rfl
theorem q1874 : (Jvm.Cond.code ({ cls := "RainStreetsModel", name := "row", desc := "(IIJJ)Z" } : Jvm.MethodName) prog_12_method_53_code (7 : Nat) (Option.some Jvm.ClassFile.FieldType.boolean)) ∈ lw_all := lw_g (lw_at lw_m8 136 rfl) rfl
theorem q1875 : (Jvm.Cond.constantLong "RainStreetsModel" (406 : Nat) (6710629 : Int64)) ∈ lw_all := lw_g (lw_at lw_m8 137 rfl) rfl
theorem q1876 : (Jvm.Cond.constantLong "RainStreetsModel" (408 : Nat) (109342978500980 : Int64)) ∈ lw_all := lw_g (lw_at lw_m8 138 rfl) rfl
theorem q1877 : (Jvm.Cond.constantLong "RainStreetsModel" (410 : Nat) (6448484 : Int64)) ∈ lw_all := lw_g (lw_at lw_m8 139 rfl) rfl
theorem q1878 : (Jvm.Cond.constantLong "RainStreetsModel" (412 : Nat) (1668248436 : Int64)) ∈ lw_all := lw_g (lw_at lw_m8 140 rfl) rfl
theorem q1879 : (Jvm.Cond.constantLong "RainStreetsModel" (414 : Nat) (1651472236 : Int64)) ∈ lw_all := lw_g (lw_at lw_m8 141 rfl) rfl
theorem q1880 : (Jvm.Cond.methodLink "RainStreetsModel" (416 : Nat) ({ cls := "RainStreetsModel", name := "others", desc := "(I)Z" } : Jvm.MethodName)) ∈ lw_all := lw_g (lw_at lw_m8 142 rfl) rfl
theorem q1881 : (Jvm.Cond.privateMethod ({ cls := "RainStreetsModel", name := "others", desc := "(I)Z" } : Jvm.MethodName)) ∈ lw_tbl := lw_at lw_m8 143 rfl
theorem q1882 : (Jvm.Cond.instanceMethod ({ cls := "RainStreetsModel", name := "others", desc := "(I)Z" } : Jvm.MethodName)) ∈ lw_all := lw_g (lw_at lw_m8 144 rfl) rfl
theorem q1883 : (Jvm.Cond.code ({ cls := "RainStreetsModel", name := "others", desc := "(I)Z" } : Jvm.MethodName) prog_12_method_54_code (3 : Nat) (Option.some Jvm.ClassFile.FieldType.boolean)) ∈ lw_all := lw_g (lw_at lw_m8 145 rfl) rfl
theorem q1884 : (Jvm.Cond.constantLong "RainStreetsModel" (378 : Nat) (1668050791 : Int64)) ∈ lw_all := lw_g (lw_at lw_m8 146 rfl) rfl
theorem q1885 : (Jvm.Cond.constantLong "RainStreetsModel" (380 : Nat) (7305061 : Int64)) ∈ lw_all := lw_g (lw_at lw_m8 147 rfl) rfl
theorem q1886 : (Jvm.Cond.constantLong "RainStreetsModel" (382 : Nat) (31632341447831143 : Int64)) ∈ lw_all := lw_g (lw_at lw_m8 148 rfl) rfl
theorem q1887 : (Jvm.Cond.constantLong "RainStreetsModel" (384 : Nat) (1935764596 : Int64)) ∈ lw_all := lw_g (lw_at lw_m8 149 rfl) rfl
theorem q1888 : (Jvm.Cond.constantLong "RainStreetsModel" (386 : Nat) (495873781348 : Int64)) ∈ lw_all := lw_g (lw_at lw_m8 150 rfl) rfl
theorem q1889 : (Jvm.Cond.constantLong "RainStreetsModel" (388 : Nat) (431366693492 : Int64)) ∈ lw_all := lw_g (lw_at lw_m8 151 rfl) rfl
theorem q1891 : (Jvm.Cond.instanceMethod ({ cls := "RainStreetsModel", name := "fault", desc := "()I" } : Jvm.MethodName)) ∈ lw_all := lw_g (lw_at lw_m8 153 rfl) rfl
theorem q1892 : (Jvm.Cond.selects "RainStreetsModel" ({ cls := "RainStreetsModel", name := "fault", desc := "()I" } : Jvm.MethodName) ({ cls := "RainStreetsModel", name := "fault", desc := "()I" } : Jvm.MethodName)) ∈ lw_all := lw_g (lw_at lw_m8 154 rfl) rfl
theorem q1893 : (Jvm.Cond.code ({ cls := "RainStreetsModel", name := "fault", desc := "()I" } : Jvm.MethodName) prog_12_method_57_code (1 : Nat) (Option.some Jvm.ClassFile.FieldType.int)) ∈ lw_all := lw_g (lw_at lw_m8 155 rfl) rfl
theorem q1895 : (Jvm.Cond.instanceMethod ({ cls := "RainStreetsModel", name := "law", desc := "(II)I" } : Jvm.MethodName)) ∈ lw_all := lw_g (lw_at lw_m8 157 rfl) rfl
theorem q1896 : (Jvm.Cond.selects "RainStreetsModel" ({ cls := "RainStreetsModel", name := "law", desc := "(II)I" } : Jvm.MethodName) ({ cls := "RainStreetsModel", name := "law", desc := "(II)I" } : Jvm.MethodName)) ∈ lw_all := lw_g (lw_at lw_m8 158 rfl) rfl
theorem q1897 : (Jvm.Cond.code ({ cls := "RainStreetsModel", name := "law", desc := "(II)I" } : Jvm.MethodName) prog_12_method_63_code (6 : Nat) (Option.some Jvm.ClassFile.FieldType.int)) ∈ lw_all := lw_g (lw_at lw_m8 159 rfl) rfl
theorem q1899 : (Jvm.Cond.instanceMethod ({ cls := "RainStreetsModel", name := "turn", desc := "(III)I" } : Jvm.MethodName)) ∈ lw_all := lw_g (lw_at lw_m8 161 rfl) rfl
theorem q1900 : (Jvm.Cond.selects "RainStreetsModel" ({ cls := "RainStreetsModel", name := "turn", desc := "(III)I" } : Jvm.MethodName) ({ cls := "RainStreetsModel", name := "turn", desc := "(III)I" } : Jvm.MethodName)) ∈ lw_all := lw_g (lw_at lw_m8 162 rfl) rfl
theorem q1901 : (Jvm.Cond.code ({ cls := "RainStreetsModel", name := "turn", desc := "(III)I" } : Jvm.MethodName) prog_12_method_64_code (7 : Nat) (Option.some Jvm.ClassFile.FieldType.int)) ∈ lw_all := lw_g (lw_at lw_m8 163 rfl) rfl
theorem q1903 : (Jvm.Cond.instanceMethod ({ cls := "RainStreetsModel", name := "sum", desc := "(I)J" } : Jvm.MethodName)) ∈ lw_all := lw_g (lw_at lw_m8 165 rfl) rfl
theorem q1904 : (Jvm.Cond.selects "RainStreetsModel" ({ cls := "RainStreetsModel", name := "sum", desc := "(I)J" } : Jvm.MethodName) ({ cls := "RainStreetsModel", name := "sum", desc := "(I)J" } : Jvm.MethodName)) ∈ lw_all := lw_g (lw_at lw_m8 166 rfl) rfl
theorem q1905 : (Jvm.Cond.code ({ cls := "RainStreetsModel", name := "sum", desc := "(I)J" } : Jvm.MethodName) prog_12_method_65_code (5 : Nat) (Option.some Jvm.ClassFile.FieldType.long)) ∈ lw_all := lw_g (lw_at lw_m8 167 rfl) rfl
theorem q1907 : (Jvm.Cond.instanceMethod ({ cls := "RainStreetsModel", name := "count", desc := "(I)I" } : Jvm.MethodName)) ∈ lw_all := lw_g (lw_at lw_m8 169 rfl) rfl
theorem q1908 : (Jvm.Cond.selects "RainStreetsModel" ({ cls := "RainStreetsModel", name := "count", desc := "(I)I" } : Jvm.MethodName) ({ cls := "RainStreetsModel", name := "count", desc := "(I)I" } : Jvm.MethodName)) ∈ lw_all := lw_g (lw_at lw_m8 170 rfl) rfl
theorem q1909 : (Jvm.Cond.code ({ cls := "RainStreetsModel", name := "count", desc := "(I)I" } : Jvm.MethodName) prog_12_method_66_code (4 : Nat) (Option.some Jvm.ClassFile.FieldType.int)) ∈ lw_all := lw_g (lw_at lw_m8 171 rfl) rfl
theorem q1919 : (Jvm.Cond.castable "RainStreetsModel" "java/lang/Object") ∈ lw_tbl := lw_at lw_m8 181 rfl
theorem q66 : (Jvm.Cond.initialized "RainStreets$Corner") ∈ lw_all := lw_g (lw_at lw_m1 8 rfl) rfl
theorem q375 : (Jvm.Cond.instantiable "RainStreets$Corner" (11 : Nat)) ∈ lw_all := lw_g (lw_at lw_m2 77 rfl) rfl
theorem q377 : (Jvm.Cond.instanceMethod ({ cls := "RainStreets$Corner", name := "<init>", desc := "(IIIII)V" } : Jvm.MethodName)) ∈ lw_all := lw_g (lw_at lw_m2 79 rfl) rfl
theorem q378 : (Jvm.Cond.code ({ cls := "RainStreets$Corner", name := "<init>", desc := "(IIIII)V" } : Jvm.MethodName) prog_4_method_1_code (6 : Nat) (Option.none : Option Jvm.ClassFile.FieldType)) ∈ lw_all := lw_g (lw_at lw_m2 80 rfl) rfl
theorem q379 : (Jvm.Cond.methodLink "RainStreets$Corner" (3 : Nat) ({ cls := "java/lang/Object", name := "<init>", desc := "()V" } : Jvm.MethodName)) ∈ lw_all := lw_g (lw_at lw_m2 81 rfl) rfl
theorem q380 : (Jvm.Cond.classLink "RainStreets$Corner" (15 : Nat) "java/util/ArrayList") ∈ lw_all := lw_g (lw_at lw_m2 82 rfl) rfl
theorem q381 : (Jvm.Cond.methodLink "RainStreets$Corner" (17 : Nat) ({ cls := "java/util/ArrayList", name := "<init>", desc := "()V" } : Jvm.MethodName)) ∈ lw_all := lw_g (lw_at lw_m2 83 rfl) rfl
theorem q382 : (Jvm.Cond.fieldLink "RainStreets$Corner" (22 : Nat) "RainStreets$Corner" "number" "I") ∈ lw_all := lw_g (lw_at lw_m2 84 rfl) rfl
theorem q385 : (Jvm.Cond.fieldLink "RainStreets$Corner" (25 : Nat) "RainStreets$Corner" "area" "I") ∈ lw_all := lw_g (lw_at lw_m2 87 rfl) rfl
theorem q388 : (Jvm.Cond.fieldLink "RainStreets$Corner" (28 : Nat) "RainStreets$Corner" "pipe" "I") ∈ lw_all := lw_g (lw_at lw_m2 90 rfl) rfl
theorem q391 : (Jvm.Cond.fieldLink "RainStreets$Corner" (31 : Nat) "RainStreets$Corner" "parking" "I") ∈ lw_all := lw_g (lw_at lw_m2 93 rfl) rfl
theorem q393 : (Jvm.Cond.fieldLink "RainStreets$Corner" (34 : Nat) "RainStreets$Corner" "cellar" "I") ∈ lw_all := lw_g (lw_at lw_m2 95 rfl) rfl
theorem q396 : (Jvm.Cond.fieldLink "RainStreets$Corner" (9 : Nat) "RainStreets$Corner" "below" "I") ∈ lw_all := lw_g (lw_at lw_m2 98 rfl) rfl
theorem q404 : (Jvm.Cond.fieldLink "RainStreets$Corner" (18 : Nat) "RainStreets$Corner" "roofs" "Ljava/util/ArrayList;") ∈ lw_all := lw_g (lw_at lw_m2 106 rfl) rfl
theorem q407 : (Jvm.Cond.laysFinal "RainStreets$Corner" "RainStreets$Corner" "number" "I") ∈ lw_all := lw_g (lw_at lw_m2 109 rfl) rfl
theorem q408 : (Jvm.Cond.soleField "RainStreets$Corner" "number") ∈ lw_all := lw_g (lw_at lw_m2 110 rfl) rfl
theorem q409 : (Jvm.Cond.laysFinal "RainStreets$Corner" "RainStreets$Corner" "area" "I") ∈ lw_all := lw_g (lw_at lw_m2 111 rfl) rfl
theorem q410 : (Jvm.Cond.soleField "RainStreets$Corner" "area") ∈ lw_all := lw_g (lw_at lw_m2 112 rfl) rfl
theorem q411 : (Jvm.Cond.laysFinal "RainStreets$Corner" "RainStreets$Corner" "pipe" "I") ∈ lw_all := lw_g (lw_at lw_m2 113 rfl) rfl
theorem q412 : (Jvm.Cond.soleField "RainStreets$Corner" "pipe") ∈ lw_all := lw_g (lw_at lw_m2 114 rfl) rfl
theorem q413 : (Jvm.Cond.laysFinal "RainStreets$Corner" "RainStreets$Corner" "parking" "I") ∈ lw_all := lw_g (lw_at lw_m2 115 rfl) rfl
theorem q414 : (Jvm.Cond.soleField "RainStreets$Corner" "parking") ∈ lw_all := lw_g (lw_at lw_m2 116 rfl) rfl
theorem q415 : (Jvm.Cond.laysFinal "RainStreets$Corner" "RainStreets$Corner" "cellar" "I") ∈ lw_all := lw_g (lw_at lw_m2 117 rfl) rfl
theorem q416 : (Jvm.Cond.soleField "RainStreets$Corner" "cellar") ∈ lw_all := lw_g (lw_at lw_m2 118 rfl) rfl
theorem q417 : (Jvm.Cond.lays "RainStreets$Corner" "RainStreets$Corner" "below" "I") ∈ lw_all := lw_g (lw_at lw_m2 119 rfl) rfl
theorem q418 : (Jvm.Cond.soleField "RainStreets$Corner" "below") ∈ lw_all := lw_g (lw_at lw_m2 120 rfl) rfl
theorem q419 : (Jvm.Cond.lays "RainStreets$Corner" "RainStreets$Corner" "spilt" "I") ∈ lw_all := lw_g (lw_at lw_m2 121 rfl) rfl
theorem q420 : (Jvm.Cond.soleField "RainStreets$Corner" "spilt") ∈ lw_all := lw_g (lw_at lw_m2 122 rfl) rfl
theorem q421 : (Jvm.Cond.lays "RainStreets$Corner" "RainStreets$Corner" "most" "I") ∈ lw_all := lw_g (lw_at lw_m2 123 rfl) rfl
theorem q422 : (Jvm.Cond.soleField "RainStreets$Corner" "most") ∈ lw_all := lw_g (lw_at lw_m2 124 rfl) rfl
theorem q423 : (Jvm.Cond.lays "RainStreets$Corner" "RainStreets$Corner" "wet" "I") ∈ lw_all := lw_g (lw_at lw_m2 125 rfl) rfl
theorem q424 : (Jvm.Cond.soleField "RainStreets$Corner" "wet") ∈ lw_all := lw_g (lw_at lw_m2 126 rfl) rfl
theorem q425 : (Jvm.Cond.lays "RainStreets$Corner" "RainStreets$Corner" "bed" "LRainStreets$Bed;") ∈ lw_all := lw_g (lw_at lw_m2 127 rfl) rfl
theorem q426 : (Jvm.Cond.soleField "RainStreets$Corner" "bed") ∈ lw_all := lw_g (lw_at lw_m2 128 rfl) rfl
theorem q427 : (Jvm.Cond.laysFinal "RainStreets$Corner" "RainStreets$Corner" "roofs" "Ljava/util/ArrayList;") ∈ lw_all := lw_g (lw_at lw_m2 129 rfl) rfl
theorem q428 : (Jvm.Cond.soleField "RainStreets$Corner" "roofs") ∈ lw_all := lw_g (lw_at lw_m2 130 rfl) rfl
theorem q429 : (Jvm.Cond.superclass "RainStreets$Corner" "java/lang/Object") ∈ lw_all := lw_g (lw_at lw_m2 131 rfl) rfl
theorem q465 : (Jvm.Cond.selects "RainStreets$Corner" ({ cls := "java/lang/Object", name := "getClass", desc := "()Ljava/lang/Class;" } : Jvm.MethodName) ({ cls := "java/lang/Object", name := "getClass", desc := "()Ljava/lang/Class;" } : Jvm.MethodName)) ∈ lw_all := lw_g (lw_at lw_m2 167 rfl) rfl
theorem q1920 : (Jvm.Cond.castable "RainStreets$Corner" "java/lang/Object") ∈ lw_tbl := lw_at lw_m8 182 rfl
theorem q73 : (Jvm.Cond.initialized "RainStreets$Roof") ∈ lw_all := lw_g (lw_at lw_m1 15 rfl) rfl
theorem q466 : (Jvm.Cond.selects "RainStreets$Roof" ({ cls := "java/lang/Object", name := "getClass", desc := "()Ljava/lang/Class;" } : Jvm.MethodName) ({ cls := "java/lang/Object", name := "getClass", desc := "()Ljava/lang/Class;" } : Jvm.MethodName)) ∈ lw_all := lw_g (lw_at lw_m2 168 rfl) rfl
theorem q519 : (Jvm.Cond.instantiable "RainStreets$Roof" (7 : Nat)) ∈ lw_all := lw_g (lw_at lw_m2 221 rfl) rfl
theorem q521 : (Jvm.Cond.instanceMethod ({ cls := "RainStreets$Roof", name := "<init>", desc := "(ILRainStreets$Corner;III)V" } : Jvm.MethodName)) ∈ lw_all := lw_g (lw_at lw_m2 223 rfl) rfl
theorem q522 : (Jvm.Cond.code ({ cls := "RainStreets$Roof", name := "<init>", desc := "(ILRainStreets$Corner;III)V" } : Jvm.MethodName) prog_5_method_1_code (6 : Nat) (Option.none : Option Jvm.ClassFile.FieldType)) ∈ lw_all := lw_g (lw_at lw_m2 224 rfl) rfl
theorem q523 : (Jvm.Cond.methodLink "RainStreets$Roof" (1 : Nat) ({ cls := "java/lang/Object", name := "<init>", desc := "()V" } : Jvm.MethodName)) ∈ lw_all := lw_g (lw_at lw_m2 225 rfl) rfl
theorem q524 : (Jvm.Cond.fieldLink "RainStreets$Roof" (7 : Nat) "RainStreets$Roof" "number" "I") ∈ lw_all := lw_g (lw_at lw_m2 226 rfl) rfl
theorem q527 : (Jvm.Cond.fieldLink "RainStreets$Roof" (17 : Nat) "RainStreets$Roof" "owner" "I") ∈ lw_all := lw_g (lw_at lw_m2 229 rfl) rfl
theorem q529 : (Jvm.Cond.fieldLink "RainStreets$Roof" (20 : Nat) "RainStreets$Roof" "area" "I") ∈ lw_all := lw_g (lw_at lw_m2 231 rfl) rfl
theorem q532 : (Jvm.Cond.fieldLink "RainStreets$Roof" (23 : Nat) "RainStreets$Roof" "barrel" "I") ∈ lw_all := lw_g (lw_at lw_m2 234 rfl) rfl
theorem q535 : (Jvm.Cond.fieldLink "RainStreets$Roof" (13 : Nat) "RainStreets$Roof" "at" "LRainStreets$Corner;") ∈ lw_all := lw_g (lw_at lw_m2 237 rfl) rfl
theorem q540 : (Jvm.Cond.laysFinal "RainStreets$Roof" "RainStreets$Roof" "number" "I") ∈ lw_all := lw_g (lw_at lw_m3 2 rfl) rfl
theorem q541 : (Jvm.Cond.soleField "RainStreets$Roof" "number") ∈ lw_all := lw_g (lw_at lw_m3 3 rfl) rfl
theorem q542 : (Jvm.Cond.laysFinal "RainStreets$Roof" "RainStreets$Roof" "owner" "I") ∈ lw_all := lw_g (lw_at lw_m3 4 rfl) rfl
theorem q543 : (Jvm.Cond.soleField "RainStreets$Roof" "owner") ∈ lw_all := lw_g (lw_at lw_m3 5 rfl) rfl
theorem q544 : (Jvm.Cond.laysFinal "RainStreets$Roof" "RainStreets$Roof" "area" "I") ∈ lw_all := lw_g (lw_at lw_m3 6 rfl) rfl
theorem q545 : (Jvm.Cond.soleField "RainStreets$Roof" "area") ∈ lw_all := lw_g (lw_at lw_m3 7 rfl) rfl
theorem q546 : (Jvm.Cond.laysFinal "RainStreets$Roof" "RainStreets$Roof" "barrel" "I") ∈ lw_all := lw_g (lw_at lw_m3 8 rfl) rfl
theorem q547 : (Jvm.Cond.soleField "RainStreets$Roof" "barrel") ∈ lw_all := lw_g (lw_at lw_m3 9 rfl) rfl
theorem q548 : (Jvm.Cond.laysFinal "RainStreets$Roof" "RainStreets$Roof" "at" "LRainStreets$Corner;") ∈ lw_all := lw_g (lw_at lw_m3 10 rfl) rfl
theorem q549 : (Jvm.Cond.soleField "RainStreets$Roof" "at") ∈ lw_all := lw_g (lw_at lw_m3 11 rfl) rfl
theorem q550 : (Jvm.Cond.lays "RainStreets$Roof" "RainStreets$Roof" "filled" "I") ∈ lw_all := lw_g (lw_at lw_m3 12 rfl) rfl
theorem q551 : (Jvm.Cond.soleField "RainStreets$Roof" "filled") ∈ lw_all := lw_g (lw_at lw_m3 13 rfl) rfl
theorem q552 : (Jvm.Cond.lays "RainStreets$Roof" "RainStreets$Roof" "proved" "I") ∈ lw_all := lw_g (lw_at lw_m3 14 rfl) rfl
theorem q553 : (Jvm.Cond.soleField "RainStreets$Roof" "proved") ∈ lw_all := lw_g (lw_at lw_m3 15 rfl) rfl
theorem q554 : (Jvm.Cond.superclass "RainStreets$Roof" "java/lang/Object") ∈ lw_all := lw_g (lw_at lw_m3 16 rfl) rfl
theorem q1921 : (Jvm.Cond.castable "RainStreets$Roof" "java/lang/Object") ∈ lw_tbl := lw_at lw_m8 183 rfl
theorem q74 : (Jvm.Cond.initialized "RainStreets$Bed") ∈ lw_all := lw_g (lw_at lw_m1 16 rfl) rfl
theorem q137 : (Jvm.Cond.fieldLinkNest "RainStreets$Bed" (66 : Nat) "RainStreets$Rules" "clog" "I" "RainStreets") ∈ lw_tbl := lw_at lw_m1 79 rfl
theorem q148 : (Jvm.Cond.fieldLinkNest "RainStreets$Bed" (88 : Nat) "RainStreets$Rules" "salt" "I" "RainStreets") ∈ lw_tbl := lw_at lw_m1 90 rfl
theorem q271 : (Jvm.Cond.fieldLinkNest "RainStreets$Bed" (36 : Nat) "RainStreets" "today" "I" "RainStreets") ∈ lw_tbl := lw_at lw_m1 213 rfl
theorem q273 : (Jvm.Cond.fieldLinkNest "RainStreets$Bed" (42 : Nat) "RainStreets" "drinks" "[I" "RainStreets") ∈ lw_tbl := lw_at lw_m1 215 rfl
theorem q463 : (Jvm.Cond.selects "RainStreets$Bed" ({ cls := "java/lang/Object", name := "getClass", desc := "()Ljava/lang/Class;" } : Jvm.MethodName) ({ cls := "java/lang/Object", name := "getClass", desc := "()Ljava/lang/Class;" } : Jvm.MethodName)) ∈ lw_all := lw_g (lw_at lw_m2 165 rfl) rfl
theorem q576 : (Jvm.Cond.instantiable "RainStreets$Bed" (14 : Nat)) ∈ lw_all := lw_g (lw_at lw_m3 38 rfl) rfl
theorem q578 : (Jvm.Cond.instanceMethod ({ cls := "RainStreets$Bed", name := "<init>", desc := "(LRainStreets;LRainStreets$Corner;IIZ)V" } : Jvm.MethodName)) ∈ lw_all := lw_g (lw_at lw_m3 40 rfl) rfl
theorem q579 : (Jvm.Cond.code ({ cls := "RainStreets$Bed", name := "<init>", desc := "(LRainStreets;LRainStreets$Corner;IIZ)V" } : Jvm.MethodName) prog_2_method_1_code (6 : Nat) (Option.none : Option Jvm.ClassFile.FieldType)) ∈ lw_all := lw_g (lw_at lw_m3 41 rfl) rfl
theorem q580 : (Jvm.Cond.methodLink "RainStreets$Bed" (9 : Nat) ({ cls := "java/lang/Object", name := "<init>", desc := "()V" } : Jvm.MethodName)) ∈ lw_all := lw_g (lw_at lw_m3 42 rfl) rfl
theorem q581 : (Jvm.Cond.fieldLink "RainStreets$Bed" (23 : Nat) "RainStreets$Bed" "at" "LRainStreets$Corner;") ∈ lw_all := lw_g (lw_at lw_m3 43 rfl) rfl
theorem q583 : (Jvm.Cond.fieldLink "RainStreets$Bed" (27 : Nat) "RainStreets$Bed" "lot" "I") ∈ lw_all := lw_g (lw_at lw_m3 45 rfl) rfl
theorem q585 : (Jvm.Cond.fieldLink "RainStreets$Bed" (30 : Nat) "RainStreets$Bed" "bowl" "I") ∈ lw_all := lw_g (lw_at lw_m3 47 rfl) rfl
theorem q588 : (Jvm.Cond.fieldLink "RainStreets$Bed" (39 : Nat) "RainStreets$Bed" "made" "I") ∈ lw_all := lw_g (lw_at lw_m3 50 rfl) rfl
theorem q590 : (Jvm.Cond.fieldLink "RainStreets$Bed" (33 : Nat) "RainStreets$Bed" "hasTree" "Z") ∈ lw_all := lw_g (lw_at lw_m3 52 rfl) rfl
theorem q592 : (Jvm.Cond.fieldLink "RainStreets$Bed" (46 : Nat) "RainStreets$Bed" "clog" "I") ∈ lw_all := lw_g (lw_at lw_m3 54 rfl) rfl
theorem q595 : (Jvm.Cond.fieldLink "RainStreets$Bed" (76 : Nat) "RainStreets$Bed" "leaves" "I") ∈ lw_all := lw_g (lw_at lw_m3 57 rfl) rfl
theorem q597 : (Jvm.Cond.fieldLink "RainStreets$Bed" (85 : Nat) "RainStreets$Bed" "salt" "I") ∈ lw_all := lw_g (lw_at lw_m3 59 rfl) rfl
theorem q599 : (Jvm.Cond.fieldLink "RainStreets$Bed" (79 : Nat) "RainStreets$Bed" "filled" "I") ∈ lw_all := lw_g (lw_at lw_m3 61 rfl) rfl
theorem q601 : (Jvm.Cond.fieldLink "RainStreets$Bed" (82 : Nat) "RainStreets$Bed" "stands" "I") ∈ lw_all := lw_g (lw_at lw_m3 63 rfl) rfl
theorem q603 : (Jvm.Cond.fieldLink "RainStreets$Bed" (15 : Nat) "RainStreets$Bed" "look" "I") ∈ lw_all := lw_g (lw_at lw_m3 65 rfl) rfl
theorem q605 : (Jvm.Cond.fieldLink "RainStreets$Bed" (63 : Nat) "RainStreets$Bed" "cared" "I") ∈ lw_all := lw_g (lw_at lw_m3 67 rfl) rfl
theorem q607 : (Jvm.Cond.fieldLink "RainStreets$Bed" (19 : Nat) "RainStreets$Bed" "hasPlants" "Z") ∈ lw_all := lw_g (lw_at lw_m3 69 rfl) rfl
theorem q609 : (Jvm.Cond.fieldLink "RainStreets$Bed" (3 : Nat) "RainStreets$Bed" "this$0" "LRainStreets;") ∈ lw_all := lw_g (lw_at lw_m3 71 rfl) rfl
theorem q610 : (Jvm.Cond.laysFinal "RainStreets$Bed" "RainStreets$Bed" "at" "LRainStreets$Corner;") ∈ lw_all := lw_g (lw_at lw_m3 72 rfl) rfl
theorem q611 : (Jvm.Cond.soleField "RainStreets$Bed" "at") ∈ lw_all := lw_g (lw_at lw_m3 73 rfl) rfl
theorem q612 : (Jvm.Cond.laysFinal "RainStreets$Bed" "RainStreets$Bed" "lot" "I") ∈ lw_all := lw_g (lw_at lw_m3 74 rfl) rfl
theorem q613 : (Jvm.Cond.soleField "RainStreets$Bed" "lot") ∈ lw_all := lw_g (lw_at lw_m3 75 rfl) rfl
theorem q614 : (Jvm.Cond.laysFinal "RainStreets$Bed" "RainStreets$Bed" "bowl" "I") ∈ lw_all := lw_g (lw_at lw_m3 76 rfl) rfl
theorem q615 : (Jvm.Cond.soleField "RainStreets$Bed" "bowl") ∈ lw_all := lw_g (lw_at lw_m3 77 rfl) rfl
theorem q616 : (Jvm.Cond.laysFinal "RainStreets$Bed" "RainStreets$Bed" "made" "I") ∈ lw_all := lw_g (lw_at lw_m3 78 rfl) rfl
theorem q617 : (Jvm.Cond.soleField "RainStreets$Bed" "made") ∈ lw_all := lw_g (lw_at lw_m3 79 rfl) rfl
theorem q618 : (Jvm.Cond.laysFinal "RainStreets$Bed" "RainStreets$Bed" "hasTree" "Z") ∈ lw_all := lw_g (lw_at lw_m3 80 rfl) rfl
theorem q619 : (Jvm.Cond.soleField "RainStreets$Bed" "hasTree") ∈ lw_all := lw_g (lw_at lw_m3 81 rfl) rfl
theorem q620 : (Jvm.Cond.lays "RainStreets$Bed" "RainStreets$Bed" "clog" "I") ∈ lw_all := lw_g (lw_at lw_m3 82 rfl) rfl
theorem q621 : (Jvm.Cond.soleField "RainStreets$Bed" "clog") ∈ lw_all := lw_g (lw_at lw_m3 83 rfl) rfl
theorem q622 : (Jvm.Cond.lays "RainStreets$Bed" "RainStreets$Bed" "leaves" "I") ∈ lw_all := lw_g (lw_at lw_m3 84 rfl) rfl
theorem q623 : (Jvm.Cond.soleField "RainStreets$Bed" "leaves") ∈ lw_all := lw_g (lw_at lw_m3 85 rfl) rfl
theorem q624 : (Jvm.Cond.lays "RainStreets$Bed" "RainStreets$Bed" "salt" "I") ∈ lw_all := lw_g (lw_at lw_m3 86 rfl) rfl
theorem q625 : (Jvm.Cond.soleField "RainStreets$Bed" "salt") ∈ lw_all := lw_g (lw_at lw_m3 87 rfl) rfl
theorem q626 : (Jvm.Cond.lays "RainStreets$Bed" "RainStreets$Bed" "filled" "I") ∈ lw_all := lw_g (lw_at lw_m3 88 rfl) rfl
theorem q627 : (Jvm.Cond.soleField "RainStreets$Bed" "filled") ∈ lw_all := lw_g (lw_at lw_m3 89 rfl) rfl
theorem q628 : (Jvm.Cond.lays "RainStreets$Bed" "RainStreets$Bed" "stands" "I") ∈ lw_all := lw_g (lw_at lw_m3 90 rfl) rfl
theorem q629 : (Jvm.Cond.soleField "RainStreets$Bed" "stands") ∈ lw_all := lw_g (lw_at lw_m3 91 rfl) rfl
theorem q630 : (Jvm.Cond.lays "RainStreets$Bed" "RainStreets$Bed" "look" "I") ∈ lw_all := lw_g (lw_at lw_m3 92 rfl) rfl
theorem q631 : (Jvm.Cond.soleField "RainStreets$Bed" "look") ∈ lw_all := lw_g (lw_at lw_m3 93 rfl) rfl
theorem q632 : (Jvm.Cond.lays "RainStreets$Bed" "RainStreets$Bed" "cared" "I") ∈ lw_all := lw_g (lw_at lw_m3 94 rfl) rfl
theorem q633 : (Jvm.Cond.soleField "RainStreets$Bed" "cared") ∈ lw_all := lw_g (lw_at lw_m3 95 rfl) rfl
theorem q634 : (Jvm.Cond.lays "RainStreets$Bed" "RainStreets$Bed" "hasPlants" "Z") ∈ lw_all := lw_g (lw_at lw_m3 96 rfl) rfl
theorem q635 : (Jvm.Cond.soleField "RainStreets$Bed" "hasPlants") ∈ lw_all := lw_g (lw_at lw_m3 97 rfl) rfl
theorem q636 : (Jvm.Cond.laysFinal "RainStreets$Bed" "RainStreets$Bed" "this$0" "LRainStreets;") ∈ lw_all := lw_g (lw_at lw_m3 98 rfl) rfl
theorem q637 : (Jvm.Cond.soleField "RainStreets$Bed" "this$0") ∈ lw_all := lw_g (lw_at lw_m3 99 rfl) rfl
theorem q638 : (Jvm.Cond.superclass "RainStreets$Bed" "java/lang/Object") ∈ lw_all := lw_g (lw_at lw_m3 100 rfl) rfl
theorem q648 : (Jvm.Cond.instanceMethod ({ cls := "RainStreets$Bed", name := "isCaredBy", desc := "(I)Z" } : Jvm.MethodName)) ∈ lw_all := lw_g (lw_at lw_m3 110 rfl) rfl
theorem q649 : (Jvm.Cond.selects "RainStreets$Bed" ({ cls := "RainStreets$Bed", name := "isCaredBy", desc := "(I)Z" } : Jvm.MethodName) ({ cls := "RainStreets$Bed", name := "isCaredBy", desc := "(I)Z" } : Jvm.MethodName)) ∈ lw_all := lw_g (lw_at lw_m3 111 rfl) rfl
theorem q650 : (Jvm.Cond.code ({ cls := "RainStreets$Bed", name := "isCaredBy", desc := "(I)Z" } : Jvm.MethodName) prog_2_method_5_code (2 : Nat) (Option.some Jvm.ClassFile.FieldType.boolean)) ∈ lw_all := lw_g (lw_at lw_m3 112 rfl) rfl
theorem q1096 : (Jvm.Cond.instanceMethod ({ cls := "RainStreets$Bed", name := "clogs", desc := "(LRainStreets$Rules;)V" } : Jvm.MethodName)) ∈ lw_all := lw_g (lw_at lw_m5 78 rfl) rfl
theorem q1097 : (Jvm.Cond.selects "RainStreets$Bed" ({ cls := "RainStreets$Bed", name := "clogs", desc := "(LRainStreets$Rules;)V" } : Jvm.MethodName) ({ cls := "RainStreets$Bed", name := "clogs", desc := "(LRainStreets$Rules;)V" } : Jvm.MethodName)) ∈ lw_all := lw_g (lw_at lw_m5 79 rfl) rfl
theorem q1098 : (Jvm.Cond.code ({ cls := "RainStreets$Bed", name := "clogs", desc := "(LRainStreets$Rules;)V" } : Jvm.MethodName) prog_2_method_6_code (3 : Nat) (Option.none : Option Jvm.ClassFile.FieldType)) ∈ lw_all := lw_g (lw_at lw_m5 80 rfl) rfl
theorem q1099 : (Jvm.Cond.methodLink "RainStreets$Bed" (69 : Nat) ({ cls := "java/lang/Math", name := "min", desc := "(II)I" } : Jvm.MethodName)) ∈ lw_all := lw_g (lw_at lw_m5 81 rfl) rfl
theorem q1101 : (Jvm.Cond.instanceMethod ({ cls := "RainStreets$Bed", name := "fall", desc := "(LRainStreets$Rules;I)V" } : Jvm.MethodName)) ∈ lw_all := lw_g (lw_at lw_m5 83 rfl) rfl
theorem q1102 : (Jvm.Cond.selects "RainStreets$Bed" ({ cls := "RainStreets$Bed", name := "fall", desc := "(LRainStreets$Rules;I)V" } : Jvm.MethodName) ({ cls := "RainStreets$Bed", name := "fall", desc := "(LRainStreets$Rules;I)V" } : Jvm.MethodName)) ∈ lw_all := lw_g (lw_at lw_m5 84 rfl) rfl
theorem q1103 : (Jvm.Cond.code ({ cls := "RainStreets$Bed", name := "fall", desc := "(LRainStreets$Rules;I)V" } : Jvm.MethodName) prog_2_method_7_code (3 : Nat) (Option.none : Option Jvm.ClassFile.FieldType)) ∈ lw_all := lw_g (lw_at lw_m5 85 rfl) rfl
theorem q1104 : (Jvm.Cond.methodLink "RainStreets$Bed" (72 : Nat) ({ cls := "RainStreets$Rules", name := "isFall", desc := "(I)Z" } : Jvm.MethodName)) ∈ lw_all := lw_g (lw_at lw_m5 86 rfl) rfl
theorem q1109 : (Jvm.Cond.instanceMethod ({ cls := "RainStreets$Bed", name := "dries", desc := "()I" } : Jvm.MethodName)) ∈ lw_all := lw_g (lw_at lw_m5 91 rfl) rfl
theorem q1110 : (Jvm.Cond.selects "RainStreets$Bed" ({ cls := "RainStreets$Bed", name := "dries", desc := "()I" } : Jvm.MethodName) ({ cls := "RainStreets$Bed", name := "dries", desc := "()I" } : Jvm.MethodName)) ∈ lw_all := lw_g (lw_at lw_m5 92 rfl) rfl
theorem q1111 : (Jvm.Cond.code ({ cls := "RainStreets$Bed", name := "dries", desc := "()I" } : Jvm.MethodName) prog_2_method_8_code (2 : Nat) (Option.some Jvm.ClassFile.FieldType.int)) ∈ lw_all := lw_g (lw_at lw_m5 93 rfl) rfl
theorem q1112 : (Jvm.Cond.methodLink "RainStreets$Bed" (59 : Nat) ({ cls := "RainStreets$Bed", name := "drink", desc := "()I" } : Jvm.MethodName)) ∈ lw_all := lw_g (lw_at lw_m5 94 rfl) rfl
theorem q1113 : (Jvm.Cond.instanceMethod ({ cls := "RainStreets$Bed", name := "drink", desc := "()I" } : Jvm.MethodName)) ∈ lw_all := lw_g (lw_at lw_m5 95 rfl) rfl
theorem q1114 : (Jvm.Cond.selects "RainStreets$Bed" ({ cls := "RainStreets$Bed", name := "drink", desc := "()I" } : Jvm.MethodName) ({ cls := "RainStreets$Bed", name := "drink", desc := "()I" } : Jvm.MethodName)) ∈ lw_all := lw_g (lw_at lw_m5 96 rfl) rfl
theorem q1115 : (Jvm.Cond.code ({ cls := "RainStreets$Bed", name := "drink", desc := "()I" } : Jvm.MethodName) prog_2_method_3_code (1 : Nat) (Option.some Jvm.ClassFile.FieldType.int)) ∈ lw_all := lw_g (lw_at lw_m5 97 rfl) rfl
theorem q1116 : (Jvm.Cond.methodLink "RainStreets$Bed" (49 : Nat) ({ cls := "RainStreets$Bed", name := "drinkBy", desc := "(I)I" } : Jvm.MethodName)) ∈ lw_all := lw_g (lw_at lw_m5 98 rfl) rfl
theorem q1117 : (Jvm.Cond.instanceMethod ({ cls := "RainStreets$Bed", name := "drinkBy", desc := "(I)I" } : Jvm.MethodName)) ∈ lw_all := lw_g (lw_at lw_m5 99 rfl) rfl
theorem q1118 : (Jvm.Cond.selects "RainStreets$Bed" ({ cls := "RainStreets$Bed", name := "drinkBy", desc := "(I)I" } : Jvm.MethodName) ({ cls := "RainStreets$Bed", name := "drinkBy", desc := "(I)I" } : Jvm.MethodName)) ∈ lw_all := lw_g (lw_at lw_m5 100 rfl) rfl
theorem q1119 : (Jvm.Cond.code ({ cls := "RainStreets$Bed", name := "drinkBy", desc := "(I)I" } : Jvm.MethodName) prog_2_method_2_code (2 : Nat) (Option.some Jvm.ClassFile.FieldType.int)) ∈ lw_all := lw_g (lw_at lw_m5 101 rfl) rfl
theorem q1159 : (Jvm.Cond.instanceMethod ({ cls := "RainStreets$Bed", name := "spring", desc := "(LRainStreets$Rules;)V" } : Jvm.MethodName)) ∈ lw_all := lw_g (lw_at lw_m5 141 rfl) rfl
theorem q1160 : (Jvm.Cond.selects "RainStreets$Bed" ({ cls := "RainStreets$Bed", name := "spring", desc := "(LRainStreets$Rules;)V" } : Jvm.MethodName) ({ cls := "RainStreets$Bed", name := "spring", desc := "(LRainStreets$Rules;)V" } : Jvm.MethodName)) ∈ lw_all := lw_g (lw_at lw_m5 142 rfl) rfl
theorem q1161 : (Jvm.Cond.code ({ cls := "RainStreets$Bed", name := "spring", desc := "(LRainStreets$Rules;)V" } : Jvm.MethodName) prog_2_method_9_code (2 : Nat) (Option.none : Option Jvm.ClassFile.FieldType)) ∈ lw_all := lw_g (lw_at lw_m5 143 rfl) rfl
theorem q1300 : (Jvm.Cond.instanceMethod ({ cls := "RainStreets$Bed", name := "more", desc := "()I" } : Jvm.MethodName)) ∈ lw_all := lw_g (lw_at lw_m6 42 rfl) rfl
theorem q1301 : (Jvm.Cond.selects "RainStreets$Bed" ({ cls := "RainStreets$Bed", name := "more", desc := "()I" } : Jvm.MethodName) ({ cls := "RainStreets$Bed", name := "more", desc := "()I" } : Jvm.MethodName)) ∈ lw_all := lw_g (lw_at lw_m6 43 rfl) rfl
theorem q1302 : (Jvm.Cond.code ({ cls := "RainStreets$Bed", name := "more", desc := "()I" } : Jvm.MethodName) prog_2_method_4_code (1 : Nat) (Option.some Jvm.ClassFile.FieldType.int)) ∈ lw_all := lw_g (lw_at lw_m6 44 rfl) rfl
theorem q1303 : (Jvm.Cond.methodLink "RainStreets$Bed" (53 : Nat) ({ cls := "java/lang/Math", name := "max", desc := "(II)I" } : Jvm.MethodName)) ∈ lw_all := lw_g (lw_at lw_m6 45 rfl) rfl
theorem q1922 : (Jvm.Cond.castable "RainStreets$Bed" "java/lang/Object") ∈ lw_tbl := lw_at lw_m8 184 rfl
theorem q75 : (Jvm.Cond.initialized "RainStreets$Complaint") ∈ lw_all := lw_g (lw_at lw_m1 17 rfl) rfl
theorem q464 : (Jvm.Cond.selects "RainStreets$Complaint" ({ cls := "java/lang/Object", name := "getClass", desc := "()Ljava/lang/Class;" } : Jvm.MethodName) ({ cls := "java/lang/Object", name := "getClass", desc := "()Ljava/lang/Class;" } : Jvm.MethodName)) ∈ lw_all := lw_g (lw_at lw_m2 166 rfl) rfl
theorem q1125 : (Jvm.Cond.instantiable "RainStreets$Complaint" (7 : Nat)) ∈ lw_all := lw_g (lw_at lw_m5 107 rfl) rfl
theorem q1127 : (Jvm.Cond.instanceMethod ({ cls := "RainStreets$Complaint", name := "<init>", desc := "(ILRainStreets$Corner;II)V" } : Jvm.MethodName)) ∈ lw_all := lw_g (lw_at lw_m5 109 rfl) rfl
theorem q1128 : (Jvm.Cond.code ({ cls := "RainStreets$Complaint", name := "<init>", desc := "(ILRainStreets$Corner;II)V" } : Jvm.MethodName) prog_3_method_1_code (5 : Nat) (Option.none : Option Jvm.ClassFile.FieldType)) ∈ lw_all := lw_g (lw_at lw_m5 110 rfl) rfl
theorem q1129 : (Jvm.Cond.methodLink "RainStreets$Complaint" (1 : Nat) ({ cls := "java/lang/Object", name := "<init>", desc := "()V" } : Jvm.MethodName)) ∈ lw_all := lw_g (lw_at lw_m5 111 rfl) rfl
theorem q1130 : (Jvm.Cond.fieldLink "RainStreets$Complaint" (20 : Nat) "RainStreets$Complaint" "at" "LRainStreets$Corner;") ∈ lw_all := lw_g (lw_at lw_m5 112 rfl) rfl
theorem q1132 : (Jvm.Cond.fieldLink "RainStreets$Complaint" (17 : Nat) "RainStreets$Complaint" "number" "I") ∈ lw_all := lw_g (lw_at lw_m5 114 rfl) rfl
theorem q1133 : (Jvm.Cond.fieldLink "RainStreets$Complaint" (24 : Nat) "RainStreets$Complaint" "kind" "I") ∈ lw_all := lw_g (lw_at lw_m5 115 rfl) rfl
theorem q1135 : (Jvm.Cond.fieldLink "RainStreets$Complaint" (27 : Nat) "RainStreets$Complaint" "told" "I") ∈ lw_all := lw_g (lw_at lw_m5 117 rfl) rfl
theorem q1137 : (Jvm.Cond.fieldLink "RainStreets$Complaint" (30 : Nat) "RainStreets$Complaint" "joined" "I") ∈ lw_all := lw_g (lw_at lw_m5 119 rfl) rfl
theorem q1139 : (Jvm.Cond.fieldLink "RainStreets$Complaint" (7 : Nat) "RainStreets$Complaint" "many" "I") ∈ lw_all := lw_g (lw_at lw_m5 121 rfl) rfl
theorem q1141 : (Jvm.Cond.fieldLink "RainStreets$Complaint" (13 : Nat) "RainStreets$Complaint" "isOpen" "Z") ∈ lw_all := lw_g (lw_at lw_m5 123 rfl) rfl
theorem q1143 : (Jvm.Cond.laysFinal "RainStreets$Complaint" "RainStreets$Complaint" "at" "LRainStreets$Corner;") ∈ lw_all := lw_g (lw_at lw_m5 125 rfl) rfl
theorem q1144 : (Jvm.Cond.soleField "RainStreets$Complaint" "at") ∈ lw_all := lw_g (lw_at lw_m5 126 rfl) rfl
theorem q1145 : (Jvm.Cond.laysFinal "RainStreets$Complaint" "RainStreets$Complaint" "number" "I") ∈ lw_all := lw_g (lw_at lw_m5 127 rfl) rfl
theorem q1146 : (Jvm.Cond.soleField "RainStreets$Complaint" "number") ∈ lw_all := lw_g (lw_at lw_m5 128 rfl) rfl
theorem q1147 : (Jvm.Cond.laysFinal "RainStreets$Complaint" "RainStreets$Complaint" "kind" "I") ∈ lw_all := lw_g (lw_at lw_m5 129 rfl) rfl
theorem q1148 : (Jvm.Cond.soleField "RainStreets$Complaint" "kind") ∈ lw_all := lw_g (lw_at lw_m5 130 rfl) rfl
theorem q1149 : (Jvm.Cond.laysFinal "RainStreets$Complaint" "RainStreets$Complaint" "told" "I") ∈ lw_all := lw_g (lw_at lw_m5 131 rfl) rfl
theorem q1150 : (Jvm.Cond.soleField "RainStreets$Complaint" "told") ∈ lw_all := lw_g (lw_at lw_m5 132 rfl) rfl
theorem q1151 : (Jvm.Cond.lays "RainStreets$Complaint" "RainStreets$Complaint" "joined" "I") ∈ lw_all := lw_g (lw_at lw_m5 133 rfl) rfl
theorem q1152 : (Jvm.Cond.soleField "RainStreets$Complaint" "joined") ∈ lw_all := lw_g (lw_at lw_m5 134 rfl) rfl
theorem q1153 : (Jvm.Cond.lays "RainStreets$Complaint" "RainStreets$Complaint" "many" "I") ∈ lw_all := lw_g (lw_at lw_m5 135 rfl) rfl
theorem q1154 : (Jvm.Cond.soleField "RainStreets$Complaint" "many") ∈ lw_all := lw_g (lw_at lw_m5 136 rfl) rfl
theorem q1155 : (Jvm.Cond.lays "RainStreets$Complaint" "RainStreets$Complaint" "isOpen" "Z") ∈ lw_all := lw_g (lw_at lw_m5 137 rfl) rfl
theorem q1156 : (Jvm.Cond.soleField "RainStreets$Complaint" "isOpen") ∈ lw_all := lw_g (lw_at lw_m5 138 rfl) rfl
theorem q1157 : (Jvm.Cond.superclass "RainStreets$Complaint" "java/lang/Object") ∈ lw_all := lw_g (lw_at lw_m5 139 rfl) rfl
theorem q1923 : (Jvm.Cond.castable "RainStreets$Complaint" "java/lang/Object") ∈ lw_tbl := lw_at lw_m8 185 rfl
theorem q77 : (Jvm.Cond.initialized "RainStreets$Storm") ∈ lw_all := lw_g (lw_at lw_m1 19 rfl) rfl
theorem q469 : (Jvm.Cond.selects "RainStreets$Storm" ({ cls := "java/lang/Object", name := "getClass", desc := "()Ljava/lang/Class;" } : Jvm.MethodName) ({ cls := "java/lang/Object", name := "getClass", desc := "()Ljava/lang/Class;" } : Jvm.MethodName)) ∈ lw_all := lw_g (lw_at lw_m2 171 rfl) rfl
theorem q1206 : (Jvm.Cond.instantiable "RainStreets$Storm" (5 : Nat)) ∈ lw_all := lw_g (lw_at lw_m5 188 rfl) rfl
theorem q1208 : (Jvm.Cond.instanceMethod ({ cls := "RainStreets$Storm", name := "<init>", desc := "(IJJII)V" } : Jvm.MethodName)) ∈ lw_all := lw_g (lw_at lw_m5 190 rfl) rfl
theorem q1209 : (Jvm.Cond.code ({ cls := "RainStreets$Storm", name := "<init>", desc := "(IJJII)V" } : Jvm.MethodName) prog_8_method_1_code (8 : Nat) (Option.none : Option Jvm.ClassFile.FieldType)) ∈ lw_all := lw_g (lw_at lw_m5 191 rfl) rfl
theorem q1210 : (Jvm.Cond.methodLink "RainStreets$Storm" (1 : Nat) ({ cls := "java/lang/Record", name := "<init>", desc := "()V" } : Jvm.MethodName)) ∈ lw_all := lw_g (lw_at lw_m5 192 rfl) rfl
theorem q1211 : (Jvm.Cond.fieldLink "RainStreets$Storm" (7 : Nat) "RainStreets$Storm" "day" "I") ∈ lw_all := lw_g (lw_at lw_m5 193 rfl) rfl
theorem q1212 : (Jvm.Cond.fieldLink "RainStreets$Storm" (13 : Nat) "RainStreets$Storm" "rained" "J") ∈ lw_all := lw_g (lw_at lw_m5 194 rfl) rfl
theorem q1213 : (Jvm.Cond.fieldLink "RainStreets$Storm" (17 : Nat) "RainStreets$Storm" "spilt" "J") ∈ lw_all := lw_g (lw_at lw_m5 195 rfl) rfl
theorem q1214 : (Jvm.Cond.fieldLink "RainStreets$Storm" (20 : Nat) "RainStreets$Storm" "wet" "I") ∈ lw_all := lw_g (lw_at lw_m5 196 rfl) rfl
theorem q1215 : (Jvm.Cond.fieldLink "RainStreets$Storm" (23 : Nat) "RainStreets$Storm" "most" "I") ∈ lw_all := lw_g (lw_at lw_m5 197 rfl) rfl
theorem q1216 : (Jvm.Cond.laysFinal "RainStreets$Storm" "RainStreets$Storm" "day" "I") ∈ lw_all := lw_g (lw_at lw_m5 198 rfl) rfl
theorem q1217 : (Jvm.Cond.soleField "RainStreets$Storm" "day") ∈ lw_all := lw_g (lw_at lw_m5 199 rfl) rfl
theorem q1218 : (Jvm.Cond.laysFinal "RainStreets$Storm" "RainStreets$Storm" "rained" "J") ∈ lw_all := lw_g (lw_at lw_m5 200 rfl) rfl
theorem q1219 : (Jvm.Cond.soleField "RainStreets$Storm" "rained") ∈ lw_all := lw_g (lw_at lw_m5 201 rfl) rfl
theorem q1220 : (Jvm.Cond.laysFinal "RainStreets$Storm" "RainStreets$Storm" "spilt" "J") ∈ lw_all := lw_g (lw_at lw_m5 202 rfl) rfl
theorem q1221 : (Jvm.Cond.soleField "RainStreets$Storm" "spilt") ∈ lw_all := lw_g (lw_at lw_m5 203 rfl) rfl
theorem q1222 : (Jvm.Cond.laysFinal "RainStreets$Storm" "RainStreets$Storm" "wet" "I") ∈ lw_all := lw_g (lw_at lw_m5 204 rfl) rfl
theorem q1223 : (Jvm.Cond.soleField "RainStreets$Storm" "wet") ∈ lw_all := lw_g (lw_at lw_m5 205 rfl) rfl
theorem q1224 : (Jvm.Cond.laysFinal "RainStreets$Storm" "RainStreets$Storm" "most" "I") ∈ lw_all := lw_g (lw_at lw_m5 206 rfl) rfl
theorem q1225 : (Jvm.Cond.soleField "RainStreets$Storm" "most") ∈ lw_all := lw_g (lw_at lw_m5 207 rfl) rfl
theorem q1226 : (Jvm.Cond.superclass "RainStreets$Storm" "java/lang/Record") ∈ lw_all := lw_g (lw_at lw_m5 208 rfl) rfl
theorem q1233 : (Jvm.Cond.instanceMethod ({ cls := "RainStreets$Storm", name := "day", desc := "()I" } : Jvm.MethodName)) ∈ lw_all := lw_g (lw_at lw_m5 215 rfl) rfl
theorem q1234 : (Jvm.Cond.selects "RainStreets$Storm" ({ cls := "RainStreets$Storm", name := "day", desc := "()I" } : Jvm.MethodName) ({ cls := "RainStreets$Storm", name := "day", desc := "()I" } : Jvm.MethodName)) ∈ lw_all := lw_g (lw_at lw_m5 216 rfl) rfl
theorem q1235 : (Jvm.Cond.code ({ cls := "RainStreets$Storm", name := "day", desc := "()I" } : Jvm.MethodName) prog_8_method_5_code (1 : Nat) (Option.some Jvm.ClassFile.FieldType.int)) ∈ lw_all := lw_g (lw_at lw_m5 217 rfl) rfl
theorem q1237 : (Jvm.Cond.instanceMethod ({ cls := "RainStreets$Storm", name := "rained", desc := "()J" } : Jvm.MethodName)) ∈ lw_all := lw_g (lw_at lw_m5 219 rfl) rfl
theorem q1238 : (Jvm.Cond.selects "RainStreets$Storm" ({ cls := "RainStreets$Storm", name := "rained", desc := "()J" } : Jvm.MethodName) ({ cls := "RainStreets$Storm", name := "rained", desc := "()J" } : Jvm.MethodName)) ∈ lw_all := lw_g (lw_at lw_m5 220 rfl) rfl
theorem q1239 : (Jvm.Cond.code ({ cls := "RainStreets$Storm", name := "rained", desc := "()J" } : Jvm.MethodName) prog_8_method_6_code (1 : Nat) (Option.some Jvm.ClassFile.FieldType.long)) ∈ lw_all := lw_g (lw_at lw_m5 221 rfl) rfl
theorem q1241 : (Jvm.Cond.instanceMethod ({ cls := "RainStreets$Storm", name := "spilt", desc := "()J" } : Jvm.MethodName)) ∈ lw_all := lw_g (lw_at lw_m5 223 rfl) rfl
theorem q1242 : (Jvm.Cond.selects "RainStreets$Storm" ({ cls := "RainStreets$Storm", name := "spilt", desc := "()J" } : Jvm.MethodName) ({ cls := "RainStreets$Storm", name := "spilt", desc := "()J" } : Jvm.MethodName)) ∈ lw_all := lw_g (lw_at lw_m5 224 rfl) rfl
theorem q1243 : (Jvm.Cond.code ({ cls := "RainStreets$Storm", name := "spilt", desc := "()J" } : Jvm.MethodName) prog_8_method_7_code (1 : Nat) (Option.some Jvm.ClassFile.FieldType.long)) ∈ lw_all := lw_g (lw_at lw_m5 225 rfl) rfl
theorem q1245 : (Jvm.Cond.instanceMethod ({ cls := "RainStreets$Storm", name := "wet", desc := "()I" } : Jvm.MethodName)) ∈ lw_all := lw_g (lw_at lw_m5 227 rfl) rfl
theorem q1246 : (Jvm.Cond.selects "RainStreets$Storm" ({ cls := "RainStreets$Storm", name := "wet", desc := "()I" } : Jvm.MethodName) ({ cls := "RainStreets$Storm", name := "wet", desc := "()I" } : Jvm.MethodName)) ∈ lw_all := lw_g (lw_at lw_m5 228 rfl) rfl
theorem q1247 : (Jvm.Cond.code ({ cls := "RainStreets$Storm", name := "wet", desc := "()I" } : Jvm.MethodName) prog_8_method_8_code (1 : Nat) (Option.some Jvm.ClassFile.FieldType.int)) ∈ lw_all := lw_g (lw_at lw_m5 229 rfl) rfl
theorem q1249 : (Jvm.Cond.instanceMethod ({ cls := "RainStreets$Storm", name := "most", desc := "()I" } : Jvm.MethodName)) ∈ lw_all := lw_g (lw_at lw_m5 231 rfl) rfl
theorem q1250 : (Jvm.Cond.selects "RainStreets$Storm" ({ cls := "RainStreets$Storm", name := "most", desc := "()I" } : Jvm.MethodName) ({ cls := "RainStreets$Storm", name := "most", desc := "()I" } : Jvm.MethodName)) ∈ lw_all := lw_g (lw_at lw_m5 232 rfl) rfl
theorem q1251 : (Jvm.Cond.code ({ cls := "RainStreets$Storm", name := "most", desc := "()I" } : Jvm.MethodName) prog_8_method_9_code (1 : Nat) (Option.some Jvm.ClassFile.FieldType.int)) ∈ lw_all := lw_g (lw_at lw_m5 233 rfl) rfl
theorem q1924 : (Jvm.Cond.castable "RainStreets$Storm" "java/lang/Object") ∈ lw_tbl := lw_at lw_m8 186 rfl
theorem q87 : (Jvm.Cond.initialized "RainStreets$Wrong") ∈ lw_all := lw_g (lw_at lw_m1 29 rfl) rfl
theorem q471 : (Jvm.Cond.selects "RainStreets$Wrong" ({ cls := "java/lang/Object", name := "getClass", desc := "()Ljava/lang/Class;" } : Jvm.MethodName) ({ cls := "java/lang/Object", name := "getClass", desc := "()Ljava/lang/Class;" } : Jvm.MethodName)) ∈ lw_all := lw_g (lw_at lw_m2 173 rfl) rfl
theorem q857 : (Jvm.Cond.instantiable "RainStreets$Wrong" (7 : Nat)) ∈ lw_all := lw_g (lw_at lw_m4 79 rfl) rfl
theorem q858 : (Jvm.Cond.castable "RainStreets$Wrong" "RainStreets$Wrong") ∈ lw_tbl := lw_at lw_m4 80 rfl
theorem q865 : (Jvm.Cond.selects "RainStreets$Wrong" ({ cls := "java/lang/Throwable", name := "fillInStackTrace", desc := "(I)Ljava/lang/Throwable;" } : Jvm.MethodName) ({ cls := "java/lang/Throwable", name := "fillInStackTrace", desc := "(I)Ljava/lang/Throwable;" } : Jvm.MethodName)) ∈ lw_all := lw_g (lw_at lw_m4 87 rfl) rfl
theorem q866 : (Jvm.Cond.selects "RainStreets$Wrong" ({ cls := "java/lang/Throwable", name := "fillInStackTrace", desc := "()Ljava/lang/Throwable;" } : Jvm.MethodName) ({ cls := "java/lang/Throwable", name := "fillInStackTrace", desc := "()Ljava/lang/Throwable;" } : Jvm.MethodName)) ∈ lw_all := lw_g (lw_at lw_m4 88 rfl) rfl
theorem q867 : (Jvm.Cond.lays "RainStreets$Wrong" "java/lang/Throwable" "cause" "Ljava/lang/Throwable;") ∈ lw_all := lw_g (lw_at lw_m4 89 rfl) rfl
theorem q869 : (Jvm.Cond.lays "RainStreets$Wrong" "java/lang/Throwable" "stackTrace" "[Ljava/lang/StackTraceElement;") ∈ lw_all := lw_g (lw_at lw_m4 91 rfl) rfl
theorem q871 : (Jvm.Cond.lays "RainStreets$Wrong" "java/lang/Throwable" "suppressedExceptions" "Ljava/util/List;") ∈ lw_all := lw_g (lw_at lw_m4 93 rfl) rfl
theorem q873 : (Jvm.Cond.lays "RainStreets$Wrong" "java/lang/Throwable" "detailMessage" "Ljava/lang/String;") ∈ lw_all := lw_g (lw_at lw_m4 95 rfl) rfl
theorem q875 : (Jvm.Cond.lays "RainStreets$Wrong" "java/lang/Throwable" "backtrace" "Ljava/lang/Object;") ∈ lw_all := lw_g (lw_at lw_m4 97 rfl) rfl
theorem q896 : (Jvm.Cond.instanceMethod ({ cls := "RainStreets$Wrong", name := "<init>", desc := "(I)V" } : Jvm.MethodName)) ∈ lw_all := lw_g (lw_at lw_m4 118 rfl) rfl
theorem q897 : (Jvm.Cond.code ({ cls := "RainStreets$Wrong", name := "<init>", desc := "(I)V" } : Jvm.MethodName) prog_10_method_1_code (2 : Nat) (Option.none : Option Jvm.ClassFile.FieldType)) ∈ lw_all := lw_g (lw_at lw_m4 119 rfl) rfl
theorem q898 : (Jvm.Cond.methodLink "RainStreets$Wrong" (1 : Nat) ({ cls := "java/lang/RuntimeException", name := "<init>", desc := "(Ljava/lang/String;Ljava/lang/Throwable;ZZ)V" } : Jvm.MethodName)) ∈ lw_all := lw_g (lw_at lw_m4 120 rfl) rfl
theorem q907 : (Jvm.Cond.fieldLink "RainStreets$Wrong" (7 : Nat) "RainStreets$Wrong" "at" "I") ∈ lw_all := lw_g (lw_at lw_m4 129 rfl) rfl
theorem q914 : (Jvm.Cond.laysFinal "RainStreets$Wrong" "RainStreets$Wrong" "at" "I") ∈ lw_all := lw_g (lw_at lw_m4 136 rfl) rfl
theorem q915 : (Jvm.Cond.soleField "RainStreets$Wrong" "at") ∈ lw_all := lw_g (lw_at lw_m4 137 rfl) rfl
theorem q920 : (Jvm.Cond.lays "RainStreets$Wrong" "java/lang/Throwable" "depth" "I") ∈ lw_all := lw_g (lw_at lw_m4 142 rfl) rfl
theorem q923 : (Jvm.Cond.superclass "RainStreets$Wrong" "java/lang/RuntimeException") ∈ lw_all := lw_g (lw_at lw_m4 145 rfl) rfl
theorem q1927 : (Jvm.Cond.castable "RainStreets$Wrong" "java/lang/Object") ∈ lw_tbl := lw_at lw_m8 189 rfl
theorem q58 : (Jvm.Cond.initialized "RainStreetsLaw") ∈ lw_all := lw_g (lw_at lw_m1 0 rfl) rfl
theorem q89 : (Jvm.Cond.classLink "RainStreetsLaw" (7 : Nat) "RainStreets") ∈ lw_all := lw_g (lw_at lw_m1 31 rfl) rfl
theorem q91 : (Jvm.Cond.methodLink "RainStreetsLaw" (9 : Nat) ({ cls := "RainStreets", name := "<init>", desc := "()V" } : Jvm.MethodName)) ∈ lw_all := lw_g (lw_at lw_m1 33 rfl) rfl
theorem q363 : (Jvm.Cond.methodLink "RainStreetsLaw" (13 : Nat) ({ cls := "RainStreets", name := "corner", desc := "(IIII)I" } : Jvm.MethodName)) ∈ lw_all := lw_g (lw_at lw_m2 65 rfl) rfl
theorem q492 : (Jvm.Cond.methodLink "RainStreetsLaw" (18 : Nat) ({ cls := "RainStreets", name := "below", desc := "(II)Z" } : Jvm.MethodName)) ∈ lw_all := lw_g (lw_at lw_m2 194 rfl) rfl
theorem q514 : (Jvm.Cond.methodLink "RainStreetsLaw" (23 : Nat) ({ cls := "RainStreets", name := "roof", desc := "(IIII)I" } : Jvm.MethodName)) ∈ lw_all := lw_g (lw_at lw_m2 216 rfl) rfl
theorem q555 : (Jvm.Cond.methodLink "RainStreetsLaw" (27 : Nat) ({ cls := "RainStreets", name := "lot", desc := "(II)Z" } : Jvm.MethodName)) ∈ lw_all := lw_g (lw_at lw_m3 17 rfl) rfl
theorem q559 : (Jvm.Cond.methodLink "RainStreetsLaw" (31 : Nat) ({ cls := "RainStreets", name := "bed", desc := "(IIIZ)Z" } : Jvm.MethodName)) ∈ lw_all := lw_g (lw_at lw_m3 21 rfl) rfl
theorem q639 : (Jvm.Cond.methodLink "RainStreetsLaw" (36 : Nat) ({ cls := "RainStreets", name := "care", desc := "(II)Z" } : Jvm.MethodName)) ∈ lw_all := lw_g (lw_at lw_m3 101 rfl) rfl
theorem q652 : (Jvm.Cond.methodLink "RainStreetsLaw" (40 : Nat) ({ cls := "RainStreets", name := "treat", desc := "(II)Z" } : Jvm.MethodName)) ∈ lw_all := lw_g (lw_at lw_m3 114 rfl) rfl
theorem q657 : (Jvm.Cond.methodLink "RainStreetsLaw" (139 : Nat) ({ cls := "RainStreets", name := "feed", desc := "(IIIII)I" } : Jvm.MethodName)) ∈ lw_all := lw_g (lw_at lw_m3 119 rfl) rfl
theorem q665 : (Jvm.Cond.methodLink "RainStreetsLaw" (144 : Nat) ({ cls := "RainStreets", name := "rules", desc := "(I)I" } : Jvm.MethodName)) ∈ lw_all := lw_g (lw_at lw_m3 127 rfl) rfl
theorem q1056 : (Jvm.Cond.methodLink "RainStreetsLaw" (148 : Nat) ({ cls := "RainStreets", name := "fault", desc := "()I" } : Jvm.MethodName)) ∈ lw_all := lw_g (lw_at lw_m5 38 rfl) rfl
theorem q1060 : (Jvm.Cond.methodLink "RainStreetsLaw" (152 : Nat) ({ cls := "RainStreets", name := "law", desc := "(II)I" } : Jvm.MethodName)) ∈ lw_all := lw_g (lw_at lw_m5 42 rfl) rfl
theorem q1067 : (Jvm.Cond.methodLink "RainStreetsLaw" (110 : Nat) ({ cls := "RainStreets", name := "turn", desc := "(III)I" } : Jvm.MethodName)) ∈ lw_all := lw_g (lw_at lw_m5 49 rfl) rfl
theorem q1083 : (Jvm.Cond.methodLink "RainStreetsLaw" (44 : Nat) ({ cls := "RainStreets", name := "pass", desc := "(I)I" } : Jvm.MethodName)) ∈ lw_all := lw_g (lw_at lw_m5 65 rfl) rfl
theorem q1166 : (Jvm.Cond.methodLink "RainStreetsLaw" (106 : Nat) ({ cls := "RainStreets", name := "neighbour", desc := "(II)I" } : Jvm.MethodName)) ∈ lw_all := lw_g (lw_at lw_m5 148 rfl) rfl
theorem q1170 : (Jvm.Cond.methodLink "RainStreetsLaw" (49 : Nat) ({ cls := "RainStreets", name := "rain", desc := "(I)I" } : Jvm.MethodName)) ∈ lw_all := lw_g (lw_at lw_m5 152 rfl) rfl
theorem q1174 : (Jvm.Cond.methodLink "RainStreetsLaw" (53 : Nat) ({ cls := "RainStreets", name := "clear", desc := "()I" } : Jvm.MethodName)) ∈ lw_all := lw_g (lw_at lw_m5 156 rfl) rfl
theorem q1178 : (Jvm.Cond.methodLink "RainStreetsLaw" (58 : Nat) ({ cls := "RainStreets", name := "storm", desc := "()I" } : Jvm.MethodName)) ∈ lw_all := lw_g (lw_at lw_m5 160 rfl) rfl
theorem q1227 : (Jvm.Cond.methodLink "RainStreetsLaw" (94 : Nat) ({ cls := "RainStreets", name := "stormOf", desc := "(II)J" } : Jvm.MethodName)) ∈ lw_all := lw_g (lw_at lw_m5 209 rfl) rfl
theorem q1252 : (Jvm.Cond.methodLink "RainStreetsLaw" (62 : Nat) ({ cls := "RainStreets", name := "tried", desc := "(II)J" } : Jvm.MethodName)) ∈ lw_all := lw_g (lw_at lw_m5 234 rfl) rfl
theorem q1260 : (Jvm.Cond.methodLink "RainStreetsLaw" (67 : Nat) ({ cls := "RainStreets", name := "best", desc := "(IIII)J" } : Jvm.MethodName)) ∈ lw_all := lw_g (lw_at lw_m6 2 rfl) rfl
theorem q1275 : (Jvm.Cond.methodLink "RainStreetsLaw" (72 : Nat) ({ cls := "RainStreets", name := "helps", desc := "(II)J" } : Jvm.MethodName)) ∈ lw_all := lw_g (lw_at lw_m6 17 rfl) rfl
theorem q1279 : (Jvm.Cond.methodLink "RainStreetsLaw" (98 : Nat) ({ cls := "RainStreets", name := "compare", desc := "(II)J" } : Jvm.MethodName)) ∈ lw_all := lw_g (lw_at lw_m6 21 rfl) rfl
theorem q1291 : (Jvm.Cond.methodLink "RainStreetsLaw" (102 : Nat) ({ cls := "RainStreets", name := "crew", desc := "(II)I" } : Jvm.MethodName)) ∈ lw_all := lw_g (lw_at lw_m6 33 rfl) rfl
theorem q1304 : (Jvm.Cond.methodLink "RainStreetsLaw" (89 : Nat) ({ cls := "RainStreets", name := "prove", desc := "(I)Z" } : Jvm.MethodName)) ∈ lw_all := lw_g (lw_at lw_m6 46 rfl) rfl
theorem q1312 : (Jvm.Cond.methodLink "RainStreetsLaw" (115 : Nat) ({ cls := "RainStreets", name := "fee", desc := "(II)I" } : Jvm.MethodName)) ∈ lw_all := lw_g (lw_at lw_m6 54 rfl) rfl
theorem q1319 : (Jvm.Cond.methodLink "RainStreetsLaw" (85 : Nat) ({ cls := "RainStreets", name := "roofOf", desc := "(II)I" } : Jvm.MethodName)) ∈ lw_all := lw_g (lw_at lw_m6 61 rfl) rfl
theorem q1323 : (Jvm.Cond.methodLink "RainStreetsLaw" (119 : Nat) ({ cls := "RainStreets", name := "look", desc := "(II)I" } : Jvm.MethodName)) ∈ lw_all := lw_g (lw_at lw_m6 65 rfl) rfl
theorem q1327 : (Jvm.Cond.methodLink "RainStreetsLaw" (123 : Nat) ({ cls := "RainStreets", name := "worst", desc := "(I)I" } : Jvm.MethodName)) ∈ lw_all := lw_g (lw_at lw_m6 69 rfl) rfl
theorem q1331 : (Jvm.Cond.methodLink "RainStreetsLaw" (127 : Nat) ({ cls := "RainStreets", name := "complain", desc := "(II)I" } : Jvm.MethodName)) ∈ lw_all := lw_g (lw_at lw_m6 73 rfl) rfl
theorem q1335 : (Jvm.Cond.methodLink "RainStreetsLaw" (131 : Nat) ({ cls := "RainStreets", name := "close", desc := "(I)Z" } : Jvm.MethodName)) ∈ lw_all := lw_g (lw_at lw_m6 77 rfl) rfl
theorem q1339 : (Jvm.Cond.methodLink "RainStreetsLaw" (135 : Nat) ({ cls := "RainStreets", name := "complaint", desc := "(II)I" } : Jvm.MethodName)) ∈ lw_all := lw_g (lw_at lw_m6 81 rfl) rfl
theorem q1343 : (Jvm.Cond.methodLink "RainStreetsLaw" (76 : Nat) ({ cls := "RainStreets", name := "told", desc := "(II)I" } : Jvm.MethodName)) ∈ lw_all := lw_g (lw_at lw_m6 85 rfl) rfl
theorem q1347 : (Jvm.Cond.methodLink "RainStreetsLaw" (81 : Nat) ({ cls := "RainStreets", name := "bedOf", desc := "(II)I" } : Jvm.MethodName)) ∈ lw_all := lw_g (lw_at lw_m6 89 rfl) rfl
theorem q1352 : (Jvm.Cond.methodLink "RainStreetsLaw" (156 : Nat) ({ cls := "RainStreets", name := "sum", desc := "(I)J" } : Jvm.MethodName)) ∈ lw_all := lw_g (lw_at lw_m6 94 rfl) rfl
theorem q1356 : (Jvm.Cond.methodLink "RainStreetsLaw" (161 : Nat) ({ cls := "RainStreets", name := "count", desc := "(I)I" } : Jvm.MethodName)) ∈ lw_all := lw_g (lw_at lw_m6 98 rfl) rfl
theorem q1368 : (Jvm.Cond.classLink "RainStreetsLaw" (10 : Nat) "RainStreetsModel") ∈ lw_all := lw_g (lw_at lw_m6 110 rfl) rfl
theorem q1370 : (Jvm.Cond.methodLink "RainStreetsLaw" (12 : Nat) ({ cls := "RainStreetsModel", name := "<init>", desc := "()V" } : Jvm.MethodName)) ∈ lw_all := lw_g (lw_at lw_m6 112 rfl) rfl
theorem q1623 : (Jvm.Cond.methodLink "RainStreetsLaw" (17 : Nat) ({ cls := "RainStreetsModel", name := "corner", desc := "(IIII)I" } : Jvm.MethodName)) ∈ lw_all := lw_g (lw_at lw_m7 125 rfl) rfl
theorem q1630 : (Jvm.Cond.methodLink "RainStreetsLaw" (22 : Nat) ({ cls := "RainStreetsModel", name := "below", desc := "(II)Z" } : Jvm.MethodName)) ∈ lw_all := lw_g (lw_at lw_m7 132 rfl) rfl
theorem q1638 : (Jvm.Cond.methodLink "RainStreetsLaw" (26 : Nat) ({ cls := "RainStreetsModel", name := "roof", desc := "(IIII)I" } : Jvm.MethodName)) ∈ lw_all := lw_g (lw_at lw_m7 140 rfl) rfl
theorem q1642 : (Jvm.Cond.methodLink "RainStreetsLaw" (30 : Nat) ({ cls := "RainStreetsModel", name := "lot", desc := "(II)Z" } : Jvm.MethodName)) ∈ lw_all := lw_g (lw_at lw_m7 144 rfl) rfl
theorem q1646 : (Jvm.Cond.methodLink "RainStreetsLaw" (35 : Nat) ({ cls := "RainStreetsModel", name := "bed", desc := "(IIIZ)Z" } : Jvm.MethodName)) ∈ lw_all := lw_g (lw_at lw_m7 148 rfl) rfl
theorem q1669 : (Jvm.Cond.methodLink "RainStreetsLaw" (39 : Nat) ({ cls := "RainStreetsModel", name := "care", desc := "(II)Z" } : Jvm.MethodName)) ∈ lw_all := lw_g (lw_at lw_m7 171 rfl) rfl
theorem q1678 : (Jvm.Cond.methodLink "RainStreetsLaw" (43 : Nat) ({ cls := "RainStreetsModel", name := "treat", desc := "(II)Z" } : Jvm.MethodName)) ∈ lw_all := lw_g (lw_at lw_m7 180 rfl) rfl
theorem q1683 : (Jvm.Cond.methodLink "RainStreetsLaw" (48 : Nat) ({ cls := "RainStreetsModel", name := "pass", desc := "(I)I" } : Jvm.MethodName)) ∈ lw_all := lw_g (lw_at lw_m7 185 rfl) rfl
theorem q1711 : (Jvm.Cond.methodLink "RainStreetsLaw" (52 : Nat) ({ cls := "RainStreetsModel", name := "rain", desc := "(I)I" } : Jvm.MethodName)) ∈ lw_all := lw_g (lw_at lw_m7 213 rfl) rfl
theorem q1715 : (Jvm.Cond.methodLink "RainStreetsLaw" (57 : Nat) ({ cls := "RainStreetsModel", name := "clear", desc := "()I" } : Jvm.MethodName)) ∈ lw_all := lw_g (lw_at lw_m7 217 rfl) rfl
theorem q1719 : (Jvm.Cond.methodLink "RainStreetsLaw" (61 : Nat) ({ cls := "RainStreetsModel", name := "storm", desc := "()I" } : Jvm.MethodName)) ∈ lw_all := lw_g (lw_at lw_m7 221 rfl) rfl
theorem q1741 : (Jvm.Cond.methodLink "RainStreetsLaw" (66 : Nat) ({ cls := "RainStreetsModel", name := "tried", desc := "(II)J" } : Jvm.MethodName)) ∈ lw_all := lw_g (lw_at lw_m8 3 rfl) rfl
theorem q1750 : (Jvm.Cond.methodLink "RainStreetsLaw" (71 : Nat) ({ cls := "RainStreetsModel", name := "best", desc := "(IIII)J" } : Jvm.MethodName)) ∈ lw_all := lw_g (lw_at lw_m8 12 rfl) rfl
theorem q1758 : (Jvm.Cond.methodLink "RainStreetsLaw" (75 : Nat) ({ cls := "RainStreetsModel", name := "helps", desc := "(II)J" } : Jvm.MethodName)) ∈ lw_all := lw_g (lw_at lw_m8 20 rfl) rfl
theorem q1762 : (Jvm.Cond.methodLink "RainStreetsLaw" (80 : Nat) ({ cls := "RainStreetsModel", name := "told", desc := "(II)I" } : Jvm.MethodName)) ∈ lw_all := lw_g (lw_at lw_m8 24 rfl) rfl
theorem q1769 : (Jvm.Cond.methodLink "RainStreetsLaw" (84 : Nat) ({ cls := "RainStreetsModel", name := "bedOf", desc := "(II)I" } : Jvm.MethodName)) ∈ lw_all := lw_g (lw_at lw_m8 31 rfl) rfl
theorem q1773 : (Jvm.Cond.methodLink "RainStreetsLaw" (88 : Nat) ({ cls := "RainStreetsModel", name := "roofOf", desc := "(II)I" } : Jvm.MethodName)) ∈ lw_all := lw_g (lw_at lw_m8 35 rfl) rfl
theorem q1777 : (Jvm.Cond.methodLink "RainStreetsLaw" (93 : Nat) ({ cls := "RainStreetsModel", name := "prove", desc := "(I)Z" } : Jvm.MethodName)) ∈ lw_all := lw_g (lw_at lw_m8 39 rfl) rfl
theorem q1781 : (Jvm.Cond.methodLink "RainStreetsLaw" (97 : Nat) ({ cls := "RainStreetsModel", name := "stormOf", desc := "(II)J" } : Jvm.MethodName)) ∈ lw_all := lw_g (lw_at lw_m8 43 rfl) rfl
theorem q1785 : (Jvm.Cond.methodLink "RainStreetsLaw" (101 : Nat) ({ cls := "RainStreetsModel", name := "compare", desc := "(II)J" } : Jvm.MethodName)) ∈ lw_all := lw_g (lw_at lw_m8 47 rfl) rfl
theorem q1795 : (Jvm.Cond.methodLink "RainStreetsLaw" (105 : Nat) ({ cls := "RainStreetsModel", name := "crew", desc := "(II)I" } : Jvm.MethodName)) ∈ lw_all := lw_g (lw_at lw_m8 57 rfl) rfl
theorem q1799 : (Jvm.Cond.methodLink "RainStreetsLaw" (109 : Nat) ({ cls := "RainStreetsModel", name := "neighbour", desc := "(II)I" } : Jvm.MethodName)) ∈ lw_all := lw_g (lw_at lw_m8 61 rfl) rfl
theorem q1803 : (Jvm.Cond.methodLink "RainStreetsLaw" (118 : Nat) ({ cls := "RainStreetsModel", name := "fee", desc := "(II)I" } : Jvm.MethodName)) ∈ lw_all := lw_g (lw_at lw_m8 65 rfl) rfl
theorem q1807 : (Jvm.Cond.methodLink "RainStreetsLaw" (122 : Nat) ({ cls := "RainStreetsModel", name := "look", desc := "(II)I" } : Jvm.MethodName)) ∈ lw_all := lw_g (lw_at lw_m8 69 rfl) rfl
theorem q1811 : (Jvm.Cond.methodLink "RainStreetsLaw" (126 : Nat) ({ cls := "RainStreetsModel", name := "worst", desc := "(I)I" } : Jvm.MethodName)) ∈ lw_all := lw_g (lw_at lw_m8 73 rfl) rfl
theorem q1815 : (Jvm.Cond.methodLink "RainStreetsLaw" (130 : Nat) ({ cls := "RainStreetsModel", name := "complain", desc := "(II)I" } : Jvm.MethodName)) ∈ lw_all := lw_g (lw_at lw_m8 77 rfl) rfl
theorem q1816 : (Jvm.Cond.methodLink "RainStreetsLaw" (134 : Nat) ({ cls := "RainStreetsModel", name := "close", desc := "(I)Z" } : Jvm.MethodName)) ∈ lw_all := lw_g (lw_at lw_m8 78 rfl) rfl
theorem q1820 : (Jvm.Cond.methodLink "RainStreetsLaw" (138 : Nat) ({ cls := "RainStreetsModel", name := "complaint", desc := "(II)I" } : Jvm.MethodName)) ∈ lw_all := lw_g (lw_at lw_m8 82 rfl) rfl
theorem q1824 : (Jvm.Cond.methodLink "RainStreetsLaw" (143 : Nat) ({ cls := "RainStreetsModel", name := "feed", desc := "(IIIII)I" } : Jvm.MethodName)) ∈ lw_all := lw_g (lw_at lw_m8 86 rfl) rfl
theorem q1832 : (Jvm.Cond.methodLink "RainStreetsLaw" (147 : Nat) ({ cls := "RainStreetsModel", name := "rules", desc := "(I)I" } : Jvm.MethodName)) ∈ lw_all := lw_g (lw_at lw_m8 94 rfl) rfl
theorem q1890 : (Jvm.Cond.methodLink "RainStreetsLaw" (151 : Nat) ({ cls := "RainStreetsModel", name := "fault", desc := "()I" } : Jvm.MethodName)) ∈ lw_all := lw_g (lw_at lw_m8 152 rfl) rfl
theorem q1894 : (Jvm.Cond.methodLink "RainStreetsLaw" (155 : Nat) ({ cls := "RainStreetsModel", name := "law", desc := "(II)I" } : Jvm.MethodName)) ∈ lw_all := lw_g (lw_at lw_m8 156 rfl) rfl
theorem q1898 : (Jvm.Cond.methodLink "RainStreetsLaw" (114 : Nat) ({ cls := "RainStreetsModel", name := "turn", desc := "(III)I" } : Jvm.MethodName)) ∈ lw_all := lw_g (lw_at lw_m8 160 rfl) rfl
theorem q1902 : (Jvm.Cond.methodLink "RainStreetsLaw" (160 : Nat) ({ cls := "RainStreetsModel", name := "sum", desc := "(I)J" } : Jvm.MethodName)) ∈ lw_all := lw_g (lw_at lw_m8 164 rfl) rfl
theorem q1906 : (Jvm.Cond.methodLink "RainStreetsLaw" (164 : Nat) ({ cls := "RainStreetsModel", name := "count", desc := "(I)I" } : Jvm.MethodName)) ∈ lw_all := lw_g (lw_at lw_m8 168 rfl) rfl
theorem q733 : (Jvm.Cond.sameMethod "[B" "java/lang/Object" "clone" "()Ljava/lang/Object;") ∈ lw_all := lw_g (lw_at lw_m3 195 rfl) rfl
theorem q736 : (Jvm.Cond.selects "[B" ({ cls := "[B", name := "clone", desc := "()Ljava/lang/Object;" } : Jvm.MethodName) ({ cls := "java/lang/Object", name := "clone", desc := "()Ljava/lang/Object;" } : Jvm.MethodName)) ∈ lw_all := lw_g (lw_at lw_m3 198 rfl) rfl
theorem q737 : (Jvm.Cond.castable "[B" "java/lang/Cloneable") ∈ lw_tbl := lw_at lw_m3 199 rfl
theorem q1935 : (Jvm.Cond.castable "[B" "java/lang/Object") ∈ lw_tbl := lw_at lw_m8 197 rfl
theorem q1934 : (Jvm.Cond.castable "[I" "java/lang/Object") ∈ lw_tbl := lw_at lw_m8 196 rfl
theorem q1938 : (Jvm.Cond.castable "[J" "java/lang/Object") ∈ lw_tbl := lw_at lw_m8 200 rfl
theorem q1931 : (Jvm.Cond.sameMethod "[Ljava/lang/Object;" "java/lang/Object" "getClass" "()Ljava/lang/Class;") ∈ lw_all := lw_g (lw_at lw_m8 193 rfl) rfl
theorem q1932 : (Jvm.Cond.selects "[Ljava/lang/Object;" ({ cls := "java/lang/Object", name := "getClass", desc := "()Ljava/lang/Class;" } : Jvm.MethodName) ({ cls := "java/lang/Object", name := "getClass", desc := "()Ljava/lang/Class;" } : Jvm.MethodName)) ∈ lw_all := lw_g (lw_at lw_m8 194 rfl) rfl
theorem q1936 : (Jvm.Cond.castable "[Ljava/lang/Object;" "java/lang/Object") ∈ lw_tbl := lw_at lw_m8 198 rfl
theorem q1937 : (Jvm.Cond.castable "[Z" "java/lang/Object") ∈ lw_tbl := lw_at lw_m8 199 rfl
theorem q70 : (Jvm.Cond.initialized "java/lang/System") ∈ lw_all := lw_g (lw_at lw_m1 12 rfl) rfl
theorem q488 : (Jvm.Cond.static ({ cls := "java/lang/System", name := "arraycopy", desc := "(Ljava/lang/Object;ILjava/lang/Object;II)V" } : Jvm.MethodName)) ∈ lw_all := lw_g (lw_at lw_m2 190 rfl) rfl
theorem q489 : (Jvm.Cond.native ({ cls := "java/lang/System", name := "arraycopy", desc := "(Ljava/lang/Object;ILjava/lang/Object;II)V" } : Jvm.MethodName)) ∈ lw_all := lw_g (lw_at lw_m2 191 rfl) rfl
theorem q956 : (Jvm.Cond.interfaceMethod "jdk/internal/access/JavaLangAccess" "jdk/internal/access/JavaLangAccess" "getUTF16Char" "([BI)C") ∈ lw_tbl := lw_at lw_m4 178 rfl
theorem q957 : (Jvm.Cond.declares ({ cls := "jdk/internal/access/JavaLangAccess", name := "getUTF16Char", desc := "([BI)C" } : Jvm.MethodName)) ∈ lw_tbl := lw_at lw_m4 179 rfl
theorem q123 : (Jvm.Cond.arrayClass Jvm.ClassFile.FieldType.int) ∈ lw_all := lw_g (lw_at lw_m1 65 rfl) rfl
theorem q270 : (Jvm.Cond.arrayClass Jvm.ClassFile.FieldType.byte) ∈ lw_all := lw_g (lw_at lw_m1 212 rfl) rfl
theorem q482 : (Jvm.Cond.arrayOver (Jvm.ClassFile.FieldType.object "java/lang/Object")) ∈ lw_tbl := lw_at lw_m2 184 rfl
theorem q1621 : (Jvm.Cond.arrayClass Jvm.ClassFile.FieldType.boolean) ∈ lw_all := lw_g (lw_at lw_m7 123 rfl) rfl
theorem q1622 : (Jvm.Cond.arrayClass Jvm.ClassFile.FieldType.long) ∈ lw_all := lw_g (lw_at lw_m7 124 rfl) rfl
theorem q1939 : (Jvm.Cond.arrayClass Jvm.ClassFile.FieldType.char) ∈ lw_all := lw_g (lw_at lw_m8 201 rfl) rfl
theorem q1940 : (Jvm.Cond.arrayClass Jvm.ClassFile.FieldType.short) ∈ lw_all := lw_g (lw_at lw_m8 202 rfl) rfl
theorem in_J11 : ∀ w ∈ wsJ110, w ∈ lw_all := lw_in wsJ110 [703, 705, 707, 709] (by decide +kernel) (by decide +kernel)
theorem in_J12 : ∀ w ∈ wsJ120, w ∈ lw_all := lw_in wsJ120 [844, 846, 848, 850] (by decide +kernel) (by decide +kernel)
theorem in_J15 : ∀ w ∈ wsJ150, w ∈ lw_all := lw_in wsJ150 [868, 870, 872, 874, 876] (by decide +kernel) (by decide +kernel)
theorem in_J2 : ∀ w ∈ wsJ20, w ∈ lw_all := lw_in wsJ20 [120, 116, 118] (by decide +kernel) (by decide +kernel)
theorem in_X0 : ∀ w ∈ wsX00, w ∈ lw_all := lw_in wsX00 [306, 308, 310, 312, 314, 316, 318, 320, 322, 324, 326, 328, 330, 332, 334, 336, 338, 340, 342, 344, 346, 348, 350, 352, 354, 356, 358, 360] (by decide +kernel) (by decide +kernel)
theorem in_X1 : ∀ w ∈ wsX10, w ∈ lw_all := lw_in wsX10 [169, 171, 173, 175, 177, 179, 181, 183, 185, 187, 189, 191, 193, 195, 197, 199, 201, 203] (by decide +kernel) (by decide +kernel)
theorem in_X10 : ∀ w ∈ wsX100, w ∈ lw_all := lw_in wsX100 [1039, 1041, 1043, 1045] (by decide +kernel) (by decide +kernel)
theorem in_X2 : ∀ w ∈ wsX20, w ∈ lw_all := lw_in wsX20 [239, 241, 243, 245, 247, 249, 251, 253, 255, 257, 259, 261, 263, 265, 267] (by decide +kernel) (by decide +kernel)
theorem in_X3 : ∀ w ∈ wsX30, w ∈ lw_all := lw_in wsX30 [1456, 1458, 1460, 1462, 1464, 1466, 1468, 1470, 1472, 1474, 1476, 1478, 1480, 1482, 1484, 1486, 1488, 1490, 1492, 1494, 1496, 1498, 1500, 1502, 1504, 1506, 1508, 1510, 1512, 1514, 1516, 1518, 1520, 1522, 1524, 1526, 1528, 1530, 1532, 1534, 1536, 1538, 1540, 1542, 1544, 1546, 1548, 1550, 1552, 1554, 1556, 1558, 1560, 1562, 1564, 1566, 1568, 1570, 1572, 1574, 1576, 1578, 1580, 1582, 1584, 1586, 1588, 1590, 1592, 1594, 1596, 1598, 1600, 1602, 1604, 1606, 1608, 1610, 1612, 1614, 1616, 1618] (by decide +kernel) (by decide +kernel)
theorem in_X4 : ∀ w ∈ wsX40, w ∈ lw_all := lw_in wsX40 [407, 409, 411, 413, 415, 417, 419, 421, 423, 425, 427] (by decide +kernel) (by decide +kernel)
theorem in_X5 : ∀ w ∈ wsX50, w ∈ lw_all := lw_in wsX50 [540, 542, 544, 546, 548, 550, 552] (by decide +kernel) (by decide +kernel)
theorem in_X6 : ∀ w ∈ wsX60, w ∈ lw_all := lw_in wsX60 [610, 612, 614, 616, 618, 620, 622, 624, 626, 628, 630, 632, 634, 636] (by decide +kernel) (by decide +kernel)
theorem in_X7 : ∀ w ∈ wsX70, w ∈ lw_all := lw_in wsX70 [1143, 1145, 1147, 1149, 1151, 1153, 1155] (by decide +kernel) (by decide +kernel)
theorem in_X8 : ∀ w ∈ wsX80, w ∈ lw_all := lw_in wsX80 [1216, 1218, 1220, 1222, 1224] (by decide +kernel) (by decide +kernel)
theorem in_X9 : ∀ w ∈ wsX90, w ∈ lw_all := lw_in wsX90 [867, 869, 871, 873, 875, 920, 914] (by decide +kernel) (by decide +kernel)
