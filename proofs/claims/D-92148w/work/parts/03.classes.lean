set_option maxRecDepth 100000
/-! java/lang/Throwable -/
def RJ0 : String := "java/lang/Throwable"
def TJ0 : u_T := fun k => match k with
  | 0 => ("java/lang/Throwable", "cause", "Ljava/lang/Throwable;", false)
  | 1 => ("java/lang/Throwable", "stackTrace", "[Ljava/lang/StackTraceElement;", false)
  | 2 => ("java/lang/Throwable", "suppressedExceptions", "Ljava/util/List;", false)
  | 3 => ("java/lang/Throwable", "detailMessage", "Ljava/lang/String;", false)
  | _ => ("java/lang/Throwable", "backtrace", "Ljava/lang/Object;", false)
def tyJ0 : Nat → FieldType := fun k => match k with
  | 0 => .object "java/lang/Throwable"
  | 1 => .array (.object "java/lang/StackTraceElement")
  | 2 => .object "java/util/List"
  | 3 => .object "java/lang/String"
  | _ => .object "java/lang/Object"
abbrev wsJ00 : List Cond := u_ws RJ0 TJ0 5
theorem nmJ0 : ∀ a, a < 5 → ∀ b, b < 5 → a ≠ b → (TJ0 a).2.1 ≠ (TJ0 b).2.1 := by decide +kernel
theorem tyJ0_ok : ∀ k, k < 5 → parseFieldDescriptor (TJ0 k).2.2.1 = some (tyJ0 k) := by decide +kernel
/-! java/lang/Exception -/
def RJ1 : String := "java/lang/Exception"
/-! java/lang/IllegalStateException -/
def RJ10 : String := "java/lang/IllegalStateException"
def TJ10 : u_T := fun k => match k with
  | 0 => ("java/lang/Throwable", "cause", "Ljava/lang/Throwable;", false)
  | 1 => ("java/lang/Throwable", "stackTrace", "[Ljava/lang/StackTraceElement;", false)
  | 2 => ("java/lang/Throwable", "suppressedExceptions", "Ljava/util/List;", false)
  | 3 => ("java/lang/Throwable", "detailMessage", "Ljava/lang/String;", false)
  | 4 => ("java/lang/Throwable", "backtrace", "Ljava/lang/Object;", false)
  | _ => ("java/lang/Throwable", "depth", "I", false)
def tyJ10 : Nat → FieldType := fun k => match k with
  | 0 => .object "java/lang/Throwable"
  | 1 => .array (.object "java/lang/StackTraceElement")
  | 2 => .object "java/util/List"
  | 3 => .object "java/lang/String"
  | 4 => .object "java/lang/Object"
  | _ => .int
abbrev wsJ100 : List Cond := u_ws RJ10 TJ10 6
theorem nmJ10 : ∀ a, a < 6 → ∀ b, b < 6 → a ≠ b → (TJ10 a).2.1 ≠ (TJ10 b).2.1 := by decide +kernel
theorem tyJ10_ok : ∀ k, k < 6 → parseFieldDescriptor (TJ10 k).2.2.1 = some (tyJ10 k) := by decide +kernel
/-! java/lang/ArithmeticException -/
def RJ11 : String := "java/lang/ArithmeticException"
def TJ11 : u_T := fun k => match k with
  | 0 => ("java/lang/Throwable", "backtrace", "Ljava/lang/Object;", false)
  | 1 => ("java/lang/Throwable", "detailMessage", "Ljava/lang/String;", false)
  | 2 => ("java/lang/Throwable", "cause", "Ljava/lang/Throwable;", false)
  | 3 => ("java/lang/Throwable", "stackTrace", "[Ljava/lang/StackTraceElement;", false)
  | 4 => ("java/lang/Throwable", "depth", "I", false)
  | _ => ("java/lang/Throwable", "suppressedExceptions", "Ljava/util/List;", false)
def tyJ11 : Nat → FieldType := fun k => match k with
  | 0 => .object "java/lang/Object"
  | 1 => .object "java/lang/String"
  | 2 => .object "java/lang/Throwable"
  | 3 => .array (.object "java/lang/StackTraceElement")
  | 4 => .int
  | _ => .object "java/util/List"
abbrev wsJ110 : List Cond := u_ws RJ11 TJ11 6
theorem nmJ11 : ∀ a, a < 6 → ∀ b, b < 6 → a ≠ b → (TJ11 a).2.1 ≠ (TJ11 b).2.1 := by decide +kernel
theorem tyJ11_ok : ∀ k, k < 6 → parseFieldDescriptor (TJ11 k).2.2.1 = some (tyJ11 k) := by decide +kernel
/-! java/lang/Object -/
def RJ12 : String := "java/lang/Object"
/-! java/lang/RuntimeException -/
def RJ2 : String := "java/lang/RuntimeException"
/-! java/lang/NegativeArraySizeException -/
def RJ3 : String := "java/lang/NegativeArraySizeException"
def TJ3 : u_T := fun k => match k with
  | 0 => ("java/lang/Throwable", "backtrace", "Ljava/lang/Object;", false)
  | 1 => ("java/lang/Throwable", "detailMessage", "Ljava/lang/String;", false)
  | 2 => ("java/lang/Throwable", "cause", "Ljava/lang/Throwable;", false)
  | 3 => ("java/lang/Throwable", "stackTrace", "[Ljava/lang/StackTraceElement;", false)
  | 4 => ("java/lang/Throwable", "depth", "I", false)
  | _ => ("java/lang/Throwable", "suppressedExceptions", "Ljava/util/List;", false)
def tyJ3 : Nat → FieldType := fun k => match k with
  | 0 => .object "java/lang/Object"
  | 1 => .object "java/lang/String"
  | 2 => .object "java/lang/Throwable"
  | 3 => .array (.object "java/lang/StackTraceElement")
  | 4 => .int
  | _ => .object "java/util/List"
abbrev wsJ30 : List Cond := u_ws RJ3 TJ3 6
theorem nmJ3 : ∀ a, a < 6 → ∀ b, b < 6 → a ≠ b → (TJ3 a).2.1 ≠ (TJ3 b).2.1 := by decide +kernel
theorem tyJ3_ok : ∀ k, k < 6 → parseFieldDescriptor (TJ3 k).2.2.1 = some (tyJ3 k) := by decide +kernel
/-! java/lang/String -/
def RJ4 : String := "java/lang/String"
def TJ4 : u_T := fun k => match k with
  | 0 => ("java/lang/String", "value", "[B", true)
  | _ => ("java/lang/String", "coder", "B", true)
def tyJ4 : Nat → FieldType := fun k => match k with
  | 0 => .array .byte
  | _ => .byte
abbrev wsJ40 : List Cond := u_ws RJ4 TJ4 2
theorem nmJ4 : ∀ a, a < 2 → ∀ b, b < 2 → a ≠ b → (TJ4 a).2.1 ≠ (TJ4 b).2.1 := by decide +kernel
theorem tyJ4_ok : ∀ k, k < 2 → parseFieldDescriptor (TJ4 k).2.2.1 = some (tyJ4 k) := by decide +kernel
/-! java/lang/NullPointerException -/
def RJ5 : String := "java/lang/NullPointerException"
def TJ5 : u_T := fun k => match k with
  | 0 => ("java/lang/Throwable", "backtrace", "Ljava/lang/Object;", false)
  | 1 => ("java/lang/Throwable", "detailMessage", "Ljava/lang/String;", false)
  | 2 => ("java/lang/Throwable", "cause", "Ljava/lang/Throwable;", false)
  | 3 => ("java/lang/Throwable", "stackTrace", "[Ljava/lang/StackTraceElement;", false)
  | 4 => ("java/lang/Throwable", "depth", "I", false)
  | 5 => ("java/lang/Throwable", "suppressedExceptions", "Ljava/util/List;", false)
  | 6 => ("java/lang/NullPointerException", "extendedMessageState", "I", false)
  | _ => ("java/lang/NullPointerException", "extendedMessage", "Ljava/lang/String;", false)
def tyJ5 : Nat → FieldType := fun k => match k with
  | 0 => .object "java/lang/Object"
  | 1 => .object "java/lang/String"
  | 2 => .object "java/lang/Throwable"
  | 3 => .array (.object "java/lang/StackTraceElement")
  | 4 => .int
  | 5 => .object "java/util/List"
  | 6 => .int
  | _ => .object "java/lang/String"
abbrev wsJ50 : List Cond := u_ws RJ5 TJ5 8
theorem nmJ5 : ∀ a, a < 8 → ∀ b, b < 8 → a ≠ b → (TJ5 a).2.1 ≠ (TJ5 b).2.1 := by decide +kernel
theorem tyJ5_ok : ∀ k, k < 8 → parseFieldDescriptor (TJ5 k).2.2.1 = some (tyJ5 k) := by decide +kernel
/-! java/lang/IndexOutOfBoundsException -/
def RJ6 : String := "java/lang/IndexOutOfBoundsException"
/-! java/lang/ArrayIndexOutOfBoundsException -/
def RJ7 : String := "java/lang/ArrayIndexOutOfBoundsException"
def TJ7 : u_T := fun k => match k with
  | 0 => ("java/lang/Throwable", "backtrace", "Ljava/lang/Object;", false)
  | 1 => ("java/lang/Throwable", "detailMessage", "Ljava/lang/String;", false)
  | 2 => ("java/lang/Throwable", "cause", "Ljava/lang/Throwable;", false)
  | 3 => ("java/lang/Throwable", "stackTrace", "[Ljava/lang/StackTraceElement;", false)
  | 4 => ("java/lang/Throwable", "depth", "I", false)
  | _ => ("java/lang/Throwable", "suppressedExceptions", "Ljava/util/List;", false)
def tyJ7 : Nat → FieldType := fun k => match k with
  | 0 => .object "java/lang/Object"
  | 1 => .object "java/lang/String"
  | 2 => .object "java/lang/Throwable"
  | 3 => .array (.object "java/lang/StackTraceElement")
  | 4 => .int
  | _ => .object "java/util/List"
abbrev wsJ70 : List Cond := u_ws RJ7 TJ7 6
theorem nmJ7 : ∀ a, a < 6 → ∀ b, b < 6 → a ≠ b → (TJ7 a).2.1 ≠ (TJ7 b).2.1 := by decide +kernel
theorem tyJ7_ok : ∀ k, k < 6 → parseFieldDescriptor (TJ7 k).2.2.1 = some (tyJ7 k) := by decide +kernel
/-! java/lang/ClassCastException -/
def RJ8 : String := "java/lang/ClassCastException"
def TJ8 : u_T := fun k => match k with
  | 0 => ("java/lang/Throwable", "backtrace", "Ljava/lang/Object;", false)
  | 1 => ("java/lang/Throwable", "detailMessage", "Ljava/lang/String;", false)
  | 2 => ("java/lang/Throwable", "cause", "Ljava/lang/Throwable;", false)
  | 3 => ("java/lang/Throwable", "stackTrace", "[Ljava/lang/StackTraceElement;", false)
  | 4 => ("java/lang/Throwable", "depth", "I", false)
  | _ => ("java/lang/Throwable", "suppressedExceptions", "Ljava/util/List;", false)
def tyJ8 : Nat → FieldType := fun k => match k with
  | 0 => .object "java/lang/Object"
  | 1 => .object "java/lang/String"
  | 2 => .object "java/lang/Throwable"
  | 3 => .array (.object "java/lang/StackTraceElement")
  | 4 => .int
  | _ => .object "java/util/List"
abbrev wsJ80 : List Cond := u_ws RJ8 TJ8 6
theorem nmJ8 : ∀ a, a < 6 → ∀ b, b < 6 → a ≠ b → (TJ8 a).2.1 ≠ (TJ8 b).2.1 := by decide +kernel
theorem tyJ8_ok : ∀ k, k < 6 → parseFieldDescriptor (TJ8 k).2.2.1 = some (tyJ8 k) := by decide +kernel
/-! java/lang/Math -/
def RJ9 : String := "java/lang/Math"
/-! the law's own entry -/
/-! HammerTowers -/
def RX0 : String := "HammerTowers"
def TX0 : u_T := fun k => match k with
  | 0 => ("HammerTowers", "latest", "I", false)
  | 1 => ("HammerTowers", "came", "[I", true)
  | 2 => ("HammerTowers", "asked", "I", false)
  | 3 => ("HammerTowers", "rows", "[[B", true)
  | 4 => ("HammerTowers", "trains", "[LHammerTowers$Train;", true)
  | 5 => ("HammerTowers", "trainMany", "I", false)
  | 6 => ("HammerTowers", "now", "I", false)
  | 7 => ("HammerTowers", "towers", "[LHammerTowers$Tower;", true)
  | 8 => ("HammerTowers", "costs", "[I", true)
  | 9 => ("HammerTowers", "actMany", "I", false)
  | 10 => ("HammerTowers", "acts", "[I", true)
  | 11 => ("HammerTowers", "faultSort", "I", false)
  | 12 => ("HammerTowers", "faultOne", "I", false)
  | 13 => ("HammerTowers", "faultOther", "I", false)
  | 14 => ("HammerTowers", "fewest", "I", false)
  | 15 => ("HammerTowers", "explained", "I", false)
  | 16 => ("HammerTowers", "toldOne", "I", false)
  | 17 => ("HammerTowers", "toldOther", "I", false)
  | 18 => ("HammerTowers", "upper", "J", false)
  | 19 => ("HammerTowers", "lower", "J", false)
  | 20 => ("HammerTowers", "wheelMany", "I", false)
  | 21 => ("HammerTowers", "teeth", "[I", true)
  | 22 => ("HammerTowers", "chosenMany", "I", false)
  | 23 => ("HammerTowers", "chosen", "[I", true)
  | 24 => ("HammerTowers", "tried", "[I", true)
  | 25 => ("HammerTowers", "bestUp", "J", false)
  | 26 => ("HammerTowers", "bestLow", "J", false)
  | 27 => ("HammerTowers", "farUp", "J", false)
  | _ => ("HammerTowers", "farLow", "J", false)
def tyX0 : Nat → FieldType := fun k => match k with
  | 0 => .int
  | 1 => .array .int
  | 2 => .int
  | 3 => .array (.array .byte)
  | 4 => .array (.object "HammerTowers$Train")
  | 5 => .int
  | 6 => .int
  | 7 => .array (.object "HammerTowers$Tower")
  | 8 => .array .int
  | 9 => .int
  | 10 => .array .int
  | 11 => .int
  | 12 => .int
  | 13 => .int
  | 14 => .int
  | 15 => .int
  | 16 => .int
  | 17 => .int
  | 18 => .long
  | 19 => .long
  | 20 => .int
  | 21 => .array .int
  | 22 => .int
  | 23 => .array .int
  | 24 => .array .int
  | 25 => .long
  | 26 => .long
  | 27 => .long
  | _ => .long
abbrev wsX00 : List Cond := u_ws RX0 TX0 29
set_option maxRecDepth 100000 in
theorem nmX0 : ∀ a, a < 29 → ∀ b, b < 29 → a ≠ b → (TX0 a).2.1 ≠ (TX0 b).2.1 := by decide +kernel
set_option maxRecDepth 100000 in
theorem tyX0_ok : ∀ k, k < 29 → parseFieldDescriptor (TX0 k).2.2.1 = some (tyX0 k) := by decide +kernel
/-! HammerTowersModel -/
def RX1 : String := "HammerTowersModel"
def TX1 : u_T := fun k => match k with
  | 0 => ("HammerTowersModel", "finding", "I", false)
  | 1 => ("HammerTowersModel", "findings", "[I", true)
  | 2 => ("HammerTowersModel", "asked", "I", false)
  | 3 => ("HammerTowersModel", "upper", "J", false)
  | 4 => ("HammerTowersModel", "lower", "J", false)
  | 5 => ("HammerTowersModel", "now", "I", false)
  | 6 => ("HammerTowersModel", "struckEver", "I", false)
  | 7 => ("HammerTowersModel", "sizes", "[I", true)
  | 8 => ("HammerTowersModel", "rows", "[I", true)
  | 9 => ("HammerTowersModel", "moving", "[I", true)
  | 10 => ("HammerTowersModel", "trains", "I", false)
  | 11 => ("HammerTowersModel", "kinds", "[I", true)
  | 12 => ("HammerTowersModel", "many", "[I", true)
  | 13 => ("HammerTowersModel", "notches", "[I", true)
  | 14 => ("HammerTowersModel", "stands", "[I", true)
  | 15 => ("HammerTowersModel", "pinMany", "[I", true)
  | 16 => ("HammerTowersModel", "pins", "[I", true)
  | 17 => ("HammerTowersModel", "pinAt", "[I", true)
  | 18 => ("HammerTowersModel", "paces", "[I", true)
  | 19 => ("HammerTowersModel", "falls", "[I", true)
  | 20 => ("HammerTowersModel", "weights", "[I", true)
  | 21 => ("HammerTowersModel", "dues", "[I", true)
  | 22 => ("HammerTowersModel", "places", "[I", true)
  | 23 => ("HammerTowersModel", "brokens", "[I", true)
  | 24 => ("HammerTowersModel", "strucks", "[I", true)
  | 25 => ("HammerTowersModel", "lifts", "[Z", true)
  | 26 => ("HammerTowersModel", "isTower", "[Z", true)
  | 27 => ("HammerTowersModel", "handsAt", "[I", true)
  | 28 => ("HammerTowersModel", "rates", "[I", true)
  | 29 => ("HammerTowersModel", "goings", "[I", true)
  | 30 => ("HammerTowersModel", "sums", "[I", true)
  | 31 => ("HammerTowersModel", "goes", "[Z", true)
  | 32 => ("HammerTowersModel", "silentFrom", "[I", true)
  | 33 => ("HammerTowersModel", "silentTo", "[I", true)
  | 34 => ("HammerTowersModel", "silentSort", "[I", true)
  | 35 => ("HammerTowersModel", "hung", "[I", true)
  | 36 => ("HammerTowersModel", "isWarned", "[Z", true)
  | 37 => ("HammerTowersModel", "entries", "[I", true)
  | 38 => ("HammerTowersModel", "logs", "[I", true)
  | 39 => ("HammerTowersModel", "best", "[I", true)
  | 40 => ("HammerTowersModel", "acts", "I", false)
  | 41 => ("HammerTowersModel", "actRow", "[I", true)
  | 42 => ("HammerTowersModel", "faultSort", "I", false)
  | 43 => ("HammerTowersModel", "faultFirst", "I", false)
  | 44 => ("HammerTowersModel", "faultSecond", "I", false)
  | 45 => ("HammerTowersModel", "fewest", "I", false)
  | 46 => ("HammerTowersModel", "without", "I", false)
  | 47 => ("HammerTowersModel", "held", "[I", true)
  | 48 => ("HammerTowersModel", "wheels", "I", false)
  | 49 => ("HammerTowersModel", "teeth", "[I", true)
  | 50 => ("HammerTowersModel", "chosenMany", "I", false)
  | 51 => ("HammerTowersModel", "chosen", "[I", true)
  | 52 => ("HammerTowersModel", "four", "[I", true)
  | 53 => ("HammerTowersModel", "bestUp", "J", false)
  | 54 => ("HammerTowersModel", "bestLow", "J", false)
  | _ => ("HammerTowersModel", "isAny", "Z", false)
def tyX1 : Nat → FieldType := fun k => match k with
  | 0 => .int
  | 1 => .array .int
  | 2 => .int
  | 3 => .long
  | 4 => .long
  | 5 => .int
  | 6 => .int
  | 7 => .array .int
  | 8 => .array .int
  | 9 => .array .int
  | 10 => .int
  | 11 => .array .int
  | 12 => .array .int
  | 13 => .array .int
  | 14 => .array .int
  | 15 => .array .int
  | 16 => .array .int
  | 17 => .array .int
  | 18 => .array .int
  | 19 => .array .int
  | 20 => .array .int
  | 21 => .array .int
  | 22 => .array .int
  | 23 => .array .int
  | 24 => .array .int
  | 25 => .array .boolean
  | 26 => .array .boolean
  | 27 => .array .int
  | 28 => .array .int
  | 29 => .array .int
  | 30 => .array .int
  | 31 => .array .boolean
  | 32 => .array .int
  | 33 => .array .int
  | 34 => .array .int
  | 35 => .array .int
  | 36 => .array .boolean
  | 37 => .array .int
  | 38 => .array .int
  | 39 => .array .int
  | 40 => .int
  | 41 => .array .int
  | 42 => .int
  | 43 => .int
  | 44 => .int
  | 45 => .int
  | 46 => .int
  | 47 => .array .int
  | 48 => .int
  | 49 => .array .int
  | 50 => .int
  | 51 => .array .int
  | 52 => .array .int
  | 53 => .long
  | 54 => .long
  | _ => .boolean
abbrev wsX10 : List Cond := u_ws RX1 TX1 56
set_option maxRecDepth 100000 in
theorem nmX1 : ∀ a, a < 56 → ∀ b, b < 56 → a ≠ b → (TX1 a).2.1 ≠ (TX1 b).2.1 := by decide +kernel
set_option maxRecDepth 100000 in
theorem tyX1_ok : ∀ k, k < 56 → parseFieldDescriptor (TX1 k).2.2.1 = some (tyX1 k) := by decide +kernel
/-! HammerTowers$Train -/
def RX2 : String := "HammerTowers$Train"
def TX2 : u_T := fun k => match k with
  | 0 => ("HammerTowers$Train", "number", "I", true)
  | 1 => ("HammerTowers$Train", "pace", "I", false)
  | 2 => ("HammerTowers$Train", "fall", "I", false)
  | 3 => ("HammerTowers$Train", "weight", "I", false)
  | 4 => ("HammerTowers$Train", "broken", "I", false)
  | 5 => ("HammerTowers$Train", "due", "I", false)
  | 6 => ("HammerTowers$Train", "ever", "I", false)
  | 7 => ("HammerTowers$Train", "place", "I", false)
  | 8 => ("HammerTowers$Train", "isWarned", "Z", false)
  | 9 => ("HammerTowers$Train", "lifts", "Z", false)
  | _ => ("HammerTowers$Train", "this$0", "LHammerTowers;", true)
def tyX2 : Nat → FieldType := fun k => match k with
  | 0 => .int
  | 1 => .int
  | 2 => .int
  | 3 => .int
  | 4 => .int
  | 5 => .int
  | 6 => .int
  | 7 => .int
  | 8 => .boolean
  | 9 => .boolean
  | _ => .object "HammerTowers"
abbrev wsX20 : List Cond := u_ws RX2 TX2 11
theorem nmX2 : ∀ a, a < 11 → ∀ b, b < 11 → a ≠ b → (TX2 a).2.1 ≠ (TX2 b).2.1 := by decide +kernel
theorem tyX2_ok : ∀ k, k < 11 → parseFieldDescriptor (TX2 k).2.2.1 = some (tyX2 k) := by decide +kernel
/-! HammerTowers$Plate -/
def RX3 : String := "HammerTowers$Plate"
def TX3 : u_T := fun k => match k with
  | 0 => ("HammerTowers$Train", "number", "I", true)
  | 1 => ("HammerTowers$Train", "pace", "I", false)
  | 2 => ("HammerTowers$Train", "fall", "I", false)
  | 3 => ("HammerTowers$Train", "weight", "I", false)
  | 4 => ("HammerTowers$Train", "broken", "I", false)
  | 5 => ("HammerTowers$Train", "due", "I", false)
  | 6 => ("HammerTowers$Train", "ever", "I", false)
  | 7 => ("HammerTowers$Train", "place", "I", false)
  | 8 => ("HammerTowers$Train", "isWarned", "Z", false)
  | 9 => ("HammerTowers$Train", "lifts", "Z", false)
  | 10 => ("HammerTowers$Train", "this$0", "LHammerTowers;", true)
  | 11 => ("HammerTowers$Plate", "notches", "[I", true)
  | 12 => ("HammerTowers$Plate", "at", "I", false)
  | _ => ("HammerTowers$Plate", "this$0", "LHammerTowers;", true)
def tyX3 : Nat → FieldType := fun k => match k with
  | 0 => .int
  | 1 => .int
  | 2 => .int
  | 3 => .int
  | 4 => .int
  | 5 => .int
  | 6 => .int
  | 7 => .int
  | 8 => .boolean
  | 9 => .boolean
  | 10 => .object "HammerTowers"
  | 11 => .array .int
  | 12 => .int
  | _ => .object "HammerTowers"
abbrev wsX30 : List Cond := u_ws RX3 TX3 14
-- two fields of one name: no nmX3
set_option maxRecDepth 100000 in
theorem tyX3_ok : ∀ k, k < 14 → parseFieldDescriptor (TX3 k).2.2.1 = some (tyX3 k) := by decide +kernel
/-! HammerTowers$Snail -/
def RX4 : String := "HammerTowers$Snail"
def TX4 : u_T := fun k => match k with
  | 0 => ("HammerTowers$Train", "number", "I", true)
  | 1 => ("HammerTowers$Train", "pace", "I", false)
  | 2 => ("HammerTowers$Train", "fall", "I", false)
  | 3 => ("HammerTowers$Train", "weight", "I", false)
  | 4 => ("HammerTowers$Train", "broken", "I", false)
  | 5 => ("HammerTowers$Train", "due", "I", false)
  | 6 => ("HammerTowers$Train", "ever", "I", false)
  | 7 => ("HammerTowers$Train", "place", "I", false)
  | 8 => ("HammerTowers$Train", "isWarned", "Z", false)
  | 9 => ("HammerTowers$Train", "lifts", "Z", false)
  | 10 => ("HammerTowers$Train", "this$0", "LHammerTowers;", true)
  | 11 => ("HammerTowers$Snail", "steps", "[I", true)
  | _ => ("HammerTowers$Snail", "this$0", "LHammerTowers;", true)
def tyX4 : Nat → FieldType := fun k => match k with
  | 0 => .int
  | 1 => .int
  | 2 => .int
  | 3 => .int
  | 4 => .int
  | 5 => .int
  | 6 => .int
  | 7 => .int
  | 8 => .boolean
  | 9 => .boolean
  | 10 => .object "HammerTowers"
  | 11 => .array .int
  | _ => .object "HammerTowers"
abbrev wsX40 : List Cond := u_ws RX4 TX4 13
-- two fields of one name: no nmX4
set_option maxRecDepth 100000 in
theorem tyX4_ok : ∀ k, k < 13 → parseFieldDescriptor (TX4 k).2.2.1 = some (tyX4 k) := by decide +kernel
/-! HammerTowers$Barrel -/
def RX5 : String := "HammerTowers$Barrel"
def TX5 : u_T := fun k => match k with
  | 0 => ("HammerTowers$Train", "number", "I", true)
  | 1 => ("HammerTowers$Train", "pace", "I", false)
  | 2 => ("HammerTowers$Train", "fall", "I", false)
  | 3 => ("HammerTowers$Train", "weight", "I", false)
  | 4 => ("HammerTowers$Train", "broken", "I", false)
  | 5 => ("HammerTowers$Train", "due", "I", false)
  | 6 => ("HammerTowers$Train", "ever", "I", false)
  | 7 => ("HammerTowers$Train", "place", "I", false)
  | 8 => ("HammerTowers$Train", "isWarned", "Z", false)
  | 9 => ("HammerTowers$Train", "lifts", "Z", false)
  | 10 => ("HammerTowers$Train", "this$0", "LHammerTowers;", true)
  | 11 => ("HammerTowers$Plate", "notches", "[I", true)
  | 12 => ("HammerTowers$Plate", "at", "I", false)
  | 13 => ("HammerTowers$Plate", "this$0", "LHammerTowers;", true)
  | 14 => ("HammerTowers$Barrel", "pins", "[I", true)
  | 15 => ("HammerTowers$Barrel", "pin", "I", false)
  | _ => ("HammerTowers$Barrel", "this$0", "LHammerTowers;", true)
def tyX5 : Nat → FieldType := fun k => match k with
  | 0 => .int
  | 1 => .int
  | 2 => .int
  | 3 => .int
  | 4 => .int
  | 5 => .int
  | 6 => .int
  | 7 => .int
  | 8 => .boolean
  | 9 => .boolean
  | 10 => .object "HammerTowers"
  | 11 => .array .int
  | 12 => .int
  | 13 => .object "HammerTowers"
  | 14 => .array .int
  | 15 => .int
  | _ => .object "HammerTowers"
abbrev wsX50 : List Cond := u_ws RX5 TX5 17
-- two fields of one name: no nmX5
set_option maxRecDepth 100000 in
theorem tyX5_ok : ∀ k, k < 17 → parseFieldDescriptor (TX5 k).2.2.1 = some (tyX5 k) := by decide +kernel
/-! HammerTowers$Tower -/
def RX6 : String := "HammerTowers$Tower"
def TX6 : u_T := fun k => match k with
  | 0 => ("HammerTowers$Tower", "hands", "I", false)
  | 1 => ("HammerTowers$Tower", "sum", "I", false)
  | 2 => ("HammerTowers$Tower", "rate", "I", false)
  | 3 => ("HammerTowers$Tower", "going", "I", false)
  | 4 => ("HammerTowers$Tower", "goes", "Z", false)
  | 5 => ("HammerTowers$Tower", "own", "[LHammerTowers$Train;", true)
  | 6 => ("HammerTowers$Tower", "from", "I", false)
  | 7 => ("HammerTowers$Tower", "to", "I", false)
  | 8 => ("HammerTowers$Tower", "sort", "I", false)
  | 9 => ("HammerTowers$Tower", "logMany", "I", false)
  | 10 => ("HammerTowers$Tower", "log", "[I", true)
  | _ => ("HammerTowers$Tower", "this$0", "LHammerTowers;", true)
def tyX6 : Nat → FieldType := fun k => match k with
  | 0 => .int
  | 1 => .int
  | 2 => .int
  | 3 => .int
  | 4 => .boolean
  | 5 => .array (.object "HammerTowers$Train")
  | 6 => .int
  | 7 => .int
  | 8 => .int
  | 9 => .int
  | 10 => .array .int
  | _ => .object "HammerTowers"
abbrev wsX60 : List Cond := u_ws RX6 TX6 12
theorem nmX6 : ∀ a, a < 12 → ∀ b, b < 12 → a ≠ b → (TX6 a).2.1 ≠ (TX6 b).2.1 := by decide +kernel
theorem tyX6_ok : ∀ k, k < 12 → parseFieldDescriptor (TX6 k).2.2.1 = some (tyX6 k) := by decide +kernel
/-! HammerTowers$Struck -/
def RX7 : String := "HammerTowers$Struck"
