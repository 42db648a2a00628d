/-! the classes' tables -/
set_option maxRecDepth 100000
def RX0 : String := "AcousticCameraLaw"
def RX1 : String := "AcousticCamera"
def TX1 : u_T := fun k => match k with
  | 0 => ("AcousticCamera", "buffer", "[B", true)
  | 1 => ("AcousticCamera", "buffered", "I", false)
  | 2 => ("AcousticCamera", "parseError", "I", false)
  | 3 => ("AcousticCamera", "errorPosition", "I", false)
  | 4 => ("AcousticCamera", "state", "LAcousticCamera$State;", false)
  | 5 => ("AcousticCamera", "past", "Ljava/util/ArrayDeque;", true)
  | 6 => ("AcousticCamera", "saved", "[LAcousticCamera$State;", true)
  | _ => ("AcousticCamera", "label", "Ljava/lang/StringBuilder;", true)
def tyX1 : Nat → FieldType := fun k => match k with
  | 0 => .array .byte
  | 1 => .int
  | 2 => .int
  | 3 => .int
  | 4 => .object "AcousticCamera$State"
  | 5 => .object "java/util/ArrayDeque"
  | 6 => .array (.object "AcousticCamera$State")
  | _ => .object "java/lang/StringBuilder"
abbrev wsX10 : List Cond := u_ws RX1 TX1 8
theorem nmX1 : ∀ a, a < 8 → ∀ b, b < 8 → a ≠ b → (TX1 a).2.1 ≠ (TX1 b).2.1 := by decide +kernel
theorem tyX1_ok : ∀ k, k < 8 → parseFieldDescriptor (TX1 k).2.2.1 = some (tyX1 k) := by decide +kernel
def RX2 : String := "AcousticCameraModel"
def TX2 : u_T := fun k => match k with
  | 0 => ("AcousticCameraModel", "thrown", "I", false)
  | 1 => ("AcousticCameraModel", "buffer", "[I", true)
  | 2 => ("AcousticCameraModel", "buffered", "I", false)
  | 3 => ("AcousticCameraModel", "end", "I", false)
  | 4 => ("AcousticCameraModel", "next", "I", false)
  | 5 => ("AcousticCameraModel", "parseCode", "I", false)
  | 6 => ("AcousticCameraModel", "parsePlace", "I", false)
  | 7 => ("AcousticCameraModel", "token", "I", false)
  | 8 => ("AcousticCameraModel", "start", "I", false)
  | 9 => ("AcousticCameraModel", "value", "I", false)
  | 10 => ("AcousticCameraModel", "plan", "[I", true)
  | 11 => ("AcousticCameraModel", "newPlan", "[I", true)
  | 12 => ("AcousticCameraModel", "now", "[I", true)
  | 13 => ("AcousticCameraModel", "draft", "[I", true)
  | 14 => ("AcousticCameraModel", "work", "[I", true)
  | 15 => ("AcousticCameraModel", "history", "[I", true)
  | 16 => ("AcousticCameraModel", "stored", "[I", true)
  | 17 => ("AcousticCameraModel", "table", "[I", true)
  | 18 => ("AcousticCameraModel", "isStored", "[Z", true)
  | 19 => ("AcousticCameraModel", "undos", "I", false)
  | 20 => ("AcousticCameraModel", "hasCamera", "Z", false)
  | 21 => ("AcousticCameraModel", "point", "I", false)
  | 22 => ("AcousticCameraModel", "pointPeriod", "I", false)
  | 23 => ("AcousticCameraModel", "raw", "[I", true)
  | 24 => ("AcousticCameraModel", "delays", "[I", true)
  | 25 => ("AcousticCameraModel", "powers", "[J", true)
  | 26 => ("AcousticCameraModel", "scores", "[J", true)
  | 27 => ("AcousticCameraModel", "page", "[I", true)
  | 28 => ("AcousticCameraModel", "pageSize", "I", false)
  | _ => ("AcousticCameraModel", "beams", "[I", true)
def tyX2 : Nat → FieldType := fun k => match k with
  | 0 => .int
  | 1 => .array .int
  | 2 => .int
  | 3 => .int
  | 4 => .int
  | 5 => .int
  | 6 => .int
  | 7 => .int
  | 8 => .int
  | 9 => .int
  | 10 => .array .int
  | 11 => .array .int
  | 12 => .array .int
  | 13 => .array .int
  | 14 => .array .int
  | 15 => .array .int
  | 16 => .array .int
  | 17 => .array .int
  | 18 => .array .boolean
  | 19 => .int
  | 20 => .boolean
  | 21 => .int
  | 22 => .int
  | 23 => .array .int
  | 24 => .array .int
  | 25 => .array .long
  | 26 => .array .long
  | 27 => .array .int
  | 28 => .int
  | _ => .array .int
abbrev wsX20 : List Cond := u_ws RX2 TX2 30
set_option maxRecDepth 100000 in
theorem nmX2 : ∀ a, a < 30 → ∀ b, b < 30 → a ≠ b → (TX2 a).2.1 ≠ (TX2 b).2.1 := by decide +kernel
set_option maxRecDepth 100000 in
theorem tyX2_ok : ∀ k, k < 30 → parseFieldDescriptor (TX2 k).2.2.1 = some (tyX2 k) := by decide +kernel
def RX3 : String := "AcousticCamera$State"
def TX3 : u_T := fun k => match k with
  | 0 => ("AcousticCamera$State", "setup", "LAcousticCamera$Setup;", true)
  | 1 => ("AcousticCamera$State", "muted", "Ljava/util/BitSet;", true)
  | 2 => ("AcousticCamera$State", "on", "Ljava/util/BitSet;", true)
  | 3 => ("AcousticCamera$State", "sources", "[LAcousticCamera$Source;", true)
  | 4 => ("AcousticCamera$State", "weights", "[I", false)
  | 5 => ("AcousticCamera$State", "recordings", "[[I", false)
  | 6 => ("AcousticCamera$State", "cleaned", "I", false)
  | _ => ("AcousticCamera$State", "powers", "[J", false)
def tyX3 : Nat → FieldType := fun k => match k with
  | 0 => .object "AcousticCamera$Setup"
  | 1 => .object "java/util/BitSet"
  | 2 => .object "java/util/BitSet"
  | 3 => .array (.object "AcousticCamera$Source")
  | 4 => .array .int
  | 5 => .array (.array .int)
  | 6 => .int
  | _ => .array .long
abbrev wsX30 : List Cond := u_ws RX3 TX3 8
theorem nmX3 : ∀ a, a < 8 → ∀ b, b < 8 → a ≠ b → (TX3 a).2.1 ≠ (TX3 b).2.1 := by decide +kernel
theorem tyX3_ok : ∀ k, k < 8 → parseFieldDescriptor (TX3 k).2.2.1 = some (tyX3 k) := by decide +kernel
def RX4 : String := "AcousticCamera$Parser"
def TX4 : u_T := fun k => match k with
  | 0 => ("AcousticCamera$Parser", "text", "[B", true)
  | 1 => ("AcousticCamera$Parser", "length", "I", true)
  | 2 => ("AcousticCamera$Parser", "next", "I", false)
  | 3 => ("AcousticCamera$Parser", "start", "I", false)
  | 4 => ("AcousticCamera$Parser", "number", "I", false)
  | 5 => ("AcousticCamera$Parser", "token", "Ljava/lang/String;", false)
  | _ => ("AcousticCamera$Parser", "setup", "LAcousticCamera$Setup;", true)
def tyX4 : Nat → FieldType := fun k => match k with
  | 0 => .array .byte
  | 1 => .int
  | 2 => .int
  | 3 => .int
  | 4 => .int
  | 5 => .object "java/lang/String"
  | _ => .object "AcousticCamera$Setup"
abbrev wsX40 : List Cond := u_ws RX4 TX4 7
theorem nmX4 : ∀ a, a < 7 → ∀ b, b < 7 → a ≠ b → (TX4 a).2.1 ≠ (TX4 b).2.1 := by decide +kernel
theorem tyX4_ok : ∀ k, k < 7 → parseFieldDescriptor (TX4 k).2.2.1 = some (tyX4 k) := by decide +kernel
def RX5 : String := "AcousticCamera$Setup"
def TX5 : u_T := fun k => match k with
  | 0 => ("AcousticCamera$Setup", "mics", "Ljava/util/List;", true)
  | 1 => ("AcousticCamera$Setup", "walls", "Ljava/util/List;", true)
  | 2 => ("AcousticCamera$Setup", "zones", "Ljava/util/List;", true)
  | 3 => ("AcousticCamera$Setup", "offsets", "[I", true)
  | 4 => ("AcousticCamera$Setup", "filter", "[I", false)
  | 5 => ("AcousticCamera$Setup", "shade", "[I", false)
  | 6 => ("AcousticCamera$Setup", "off", "Ljava/util/BitSet;", true)
  | 7 => ("AcousticCamera$Setup", "sources", "Ljava/util/List;", true)
  | 8 => ("AcousticCamera$Setup", "distance", "I", false)
  | 9 => ("AcousticCamera$Setup", "step", "I", false)
  | 10 => ("AcousticCamera$Setup", "samples", "I", false)
  | 11 => ("AcousticCamera$Setup", "limit", "I", false)
  | 12 => ("AcousticCamera$Setup", "fade", "I", false)
  | 13 => ("AcousticCamera$Setup", "x", "I", false)
  | 14 => ("AcousticCamera$Setup", "y", "I", false)
  | 15 => ("AcousticCamera$Setup", "cell", "I", false)
  | 16 => ("AcousticCamera$Setup", "columns", "I", false)
  | 17 => ("AcousticCamera$Setup", "rows", "I", false)
  | _ => ("AcousticCamera$Setup", "delays", "[[I", false)
def tyX5 : Nat → FieldType := fun k => match k with
  | 0 => .object "java/util/List"
  | 1 => .object "java/util/List"
  | 2 => .object "java/util/List"
  | 3 => .array .int
  | 4 => .array .int
  | 5 => .array .int
  | 6 => .object "java/util/BitSet"
  | 7 => .object "java/util/List"
  | 8 => .int
  | 9 => .int
  | 10 => .int
  | 11 => .int
  | 12 => .int
  | 13 => .int
  | 14 => .int
  | 15 => .int
  | 16 => .int
  | 17 => .int
  | _ => .array (.array .int)
abbrev wsX50 : List Cond := u_ws RX5 TX5 19
set_option maxRecDepth 100000 in
theorem nmX5 : ∀ a, a < 19 → ∀ b, b < 19 → a ≠ b → (TX5 a).2.1 ≠ (TX5 b).2.1 := by decide +kernel
set_option maxRecDepth 100000 in
theorem tyX5_ok : ∀ k, k < 19 → parseFieldDescriptor (TX5 k).2.2.1 = some (tyX5 k) := by decide +kernel
def RX6 : String := "AcousticCamera$Flaw"
def TX6 : u_T := fun k => match k with
  | 0 => ("java/lang/Throwable", "cause", "Ljava/lang/Throwable;", false)
  | 1 => ("java/lang/Throwable", "stackTrace", "[Ljava/lang/StackTraceElement;", false)
  | 2 => ("java/lang/Throwable", "suppressedExceptions", "Ljava/util/List;", false)
  | 3 => ("java/lang/Throwable", "detailMessage", "Ljava/lang/String;", false)
  | 4 => ("java/lang/Throwable", "backtrace", "Ljava/lang/Object;", false)
  | 5 => ("java/lang/Throwable", "depth", "I", false)
  | 6 => ("AcousticCamera$Flaw", "code", "I", true)
  | _ => ("AcousticCamera$Flaw", "position", "I", true)
def tyX6 : Nat → FieldType := fun k => match k with
  | 0 => .object "java/lang/Throwable"
  | 1 => .array (.object "java/lang/StackTraceElement")
  | 2 => .object "java/util/List"
  | 3 => .object "java/lang/String"
  | 4 => .object "java/lang/Object"
  | 5 => .int
  | 6 => .int
  | _ => .int
abbrev wsX60 : List Cond := u_ws RX6 TX6 8
theorem nmX6 : ∀ a, a < 8 → ∀ b, b < 8 → a ≠ b → (TX6 a).2.1 ≠ (TX6 b).2.1 := by decide +kernel
theorem tyX6_ok : ∀ k, k < 8 → parseFieldDescriptor (TX6 k).2.2.1 = some (tyX6 k) := by decide +kernel
def RX7 : String := "AcousticCamera$Mic"
def TX7 : u_T := fun k => match k with
  | 0 => ("AcousticCamera$Mic", "x", "I", true)
  | 1 => ("AcousticCamera$Mic", "y", "I", true)
  | _ => ("AcousticCamera$Mic", "gain", "I", true)
def tyX7 : Nat → FieldType := fun k => match k with
  | 0 => .int
  | 1 => .int
  | _ => .int
abbrev wsX70 : List Cond := u_ws RX7 TX7 3
theorem nmX7 : ∀ a, a < 3 → ∀ b, b < 3 → a ≠ b → (TX7 a).2.1 ≠ (TX7 b).2.1 := by decide +kernel
theorem tyX7_ok : ∀ k, k < 3 → parseFieldDescriptor (TX7 k).2.2.1 = some (tyX7 k) := by decide +kernel
def RX8 : String := "AcousticCamera$Source"
def TX8 : u_T := fun k => match k with
  | 0 => ("AcousticCamera$Source", "wave", "LAcousticCamera$Wave;", true)
  | 1 => ("AcousticCamera$Source", "from", "I", true)
  | 2 => ("AcousticCamera$Source", "x", "I", true)
  | 3 => ("AcousticCamera$Source", "y", "I", true)
  | 4 => ("AcousticCamera$Source", "vx", "I", true)
  | _ => ("AcousticCamera$Source", "vy", "I", true)
def tyX8 : Nat → FieldType := fun k => match k with
  | 0 => .object "AcousticCamera$Wave"
  | 1 => .int
  | 2 => .int
  | 3 => .int
  | 4 => .int
  | _ => .int
abbrev wsX80 : List Cond := u_ws RX8 TX8 6
theorem nmX8 : ∀ a, a < 6 → ∀ b, b < 6 → a ≠ b → (TX8 a).2.1 ≠ (TX8 b).2.1 := by decide +kernel
theorem tyX8_ok : ∀ k, k < 6 → parseFieldDescriptor (TX8 k).2.2.1 = some (tyX8 k) := by decide +kernel
def RX9 : String := "AcousticCamera$Waves"
def RX10 : String := "AcousticCamera$Wall"
def TX10 : u_T := fun k => match k with
  | 0 => ("AcousticCamera$Wall", "x", "I", true)
  | _ => ("AcousticCamera$Wall", "percent", "I", true)
def tyX10 : Nat → FieldType := fun k => match k with
  | 0 => .int
  | _ => .int
abbrev wsX100 : List Cond := u_ws RX10 TX10 2
theorem nmX10 : ∀ a, a < 2 → ∀ b, b < 2 → a ≠ b → (TX10 a).2.1 ≠ (TX10 b).2.1 := by decide +kernel
theorem tyX10_ok : ∀ k, k < 2 → parseFieldDescriptor (TX10 k).2.2.1 = some (tyX10 k) := by decide +kernel
def RX11 : String := "AcousticCamera$Zone"
def TX11 : u_T := fun k => match k with
  | 0 => ("AcousticCamera$Zone", "firstColumn", "I", true)
  | 1 => ("AcousticCamera$Zone", "firstRow", "I", true)
  | 2 => ("AcousticCamera$Zone", "lastColumn", "I", true)
  | _ => ("AcousticCamera$Zone", "lastRow", "I", true)
def tyX11 : Nat → FieldType := fun k => match k with
  | 0 => .int
  | 1 => .int
  | 2 => .int
  | _ => .int
abbrev wsX110 : List Cond := u_ws RX11 TX11 4
theorem nmX11 : ∀ a, a < 4 → ∀ b, b < 4 → a ≠ b → (TX11 a).2.1 ≠ (TX11 b).2.1 := by decide +kernel
theorem tyX11_ok : ∀ k, k < 4 → parseFieldDescriptor (TX11 k).2.2.1 = some (tyX11 k) := by decide +kernel
def RJ0 : String := "java/util/AbstractCollection"
def RJ1 : String := "java/util/ArrayDeque"
def TJ1 : u_T := fun k => match k with
  | 0 => ("java/util/ArrayDeque", "elements", "[Ljava/lang/Object;", false)
  | 1 => ("java/util/ArrayDeque", "head", "I", false)
  | _ => ("java/util/ArrayDeque", "tail", "I", false)
def tyJ1 : Nat → FieldType := fun k => match k with
  | 0 => .array (.object "java/lang/Object")
  | 1 => .int
  | _ => .int
abbrev wsJ10 : List Cond := u_ws RJ1 TJ1 3
theorem nmJ1 : ∀ a, a < 3 → ∀ b, b < 3 → a ≠ b → (TJ1 a).2.1 ≠ (TJ1 b).2.1 := by decide +kernel
theorem tyJ1_ok : ∀ k, k < 3 → parseFieldDescriptor (TJ1 k).2.2.1 = some (tyJ1 k) := by decide +kernel
def RJ2 : String := "java/lang/AbstractStringBuilder"
def RJ3 : String := "java/lang/StringBuilder"
def TJ3 : u_T := fun k => match k with
  | 0 => ("java/lang/AbstractStringBuilder", "value", "[B", false)
  | 1 => ("java/lang/AbstractStringBuilder", "coder", "B", false)
  | 2 => ("java/lang/AbstractStringBuilder", "maybeLatin1", "Z", false)
  | _ => ("java/lang/AbstractStringBuilder", "count", "I", false)
def tyJ3 : Nat → FieldType := fun k => match k with
  | 0 => .array .byte
  | 1 => .byte
  | 2 => .boolean
  | _ => .int
abbrev wsJ30 : List Cond := u_ws RJ3 TJ3 4
theorem nmJ3 : ∀ a, a < 4 → ∀ b, b < 4 → a ≠ b → (TJ3 a).2.1 ≠ (TJ3 b).2.1 := by decide +kernel
theorem tyJ3_ok : ∀ k, k < 4 → parseFieldDescriptor (TJ3 k).2.2.1 = some (tyJ3 k) := by decide +kernel
def RJ4 : String := "java/lang/String"
def TJ4 : u_T := fun k => match k with
  | 0 => ("java/lang/String", "value", "[B", true)
  | 1 => ("java/lang/String", "coder", "B", true)
  | 2 => ("java/lang/String", "hash", "I", false)
  | _ => ("java/lang/String", "hashIsZero", "Z", false)
def tyJ4 : Nat → FieldType := fun k => match k with
  | 0 => .array .byte
  | 1 => .byte
  | 2 => .int
  | _ => .boolean
abbrev wsJ40 : List Cond := u_ws RJ4 TJ4 4
theorem nmJ4 : ∀ a, a < 4 → ∀ b, b < 4 → a ≠ b → (TJ4 a).2.1 ≠ (TJ4 b).2.1 := by decide +kernel
theorem tyJ4_ok : ∀ k, k < 4 → parseFieldDescriptor (TJ4 k).2.2.1 = some (tyJ4 k) := by decide +kernel
def RJ5 : String := "java/lang/StringUTF16"
def RJ6 : String := "java/lang/Throwable"
def TJ6 : u_T := fun k => match k with
  | 0 => ("java/lang/Throwable", "cause", "Ljava/lang/Throwable;", false)
  | 1 => ("java/lang/Throwable", "stackTrace", "[Ljava/lang/StackTraceElement;", false)
  | 2 => ("java/lang/Throwable", "suppressedExceptions", "Ljava/util/List;", false)
  | 3 => ("java/lang/Throwable", "detailMessage", "Ljava/lang/String;", false)
  | _ => ("java/lang/Throwable", "backtrace", "Ljava/lang/Object;", false)
def tyJ6 : Nat → FieldType := fun k => match k with
  | 0 => .object "java/lang/Throwable"
  | 1 => .array (.object "java/lang/StackTraceElement")
  | 2 => .object "java/util/List"
  | 3 => .object "java/lang/String"
  | _ => .object "java/lang/Object"
abbrev wsJ60 : List Cond := u_ws RJ6 TJ6 5
theorem nmJ6 : ∀ a, a < 5 → ∀ b, b < 5 → a ≠ b → (TJ6 a).2.1 ≠ (TJ6 b).2.1 := by decide +kernel
theorem tyJ6_ok : ∀ k, k < 5 → parseFieldDescriptor (TJ6 k).2.2.1 = some (tyJ6 k) := by decide +kernel
def RJ7 : String := "java/lang/Exception"
def RJ8 : String := "java/lang/RuntimeException"
def RJ9 : String := "java/lang/IndexOutOfBoundsException"
def TJ9 : u_T := fun k => match k with
  | 0 => ("java/lang/Throwable", "cause", "Ljava/lang/Throwable;", false)
  | 1 => ("java/lang/Throwable", "stackTrace", "[Ljava/lang/StackTraceElement;", false)
  | 2 => ("java/lang/Throwable", "suppressedExceptions", "Ljava/util/List;", false)
  | 3 => ("java/lang/Throwable", "detailMessage", "Ljava/lang/String;", false)
  | 4 => ("java/lang/Throwable", "backtrace", "Ljava/lang/Object;", false)
  | _ => ("java/lang/Throwable", "depth", "I", false)
def tyJ9 : Nat → FieldType := fun k => match k with
  | 0 => .object "java/lang/Throwable"
  | 1 => .array (.object "java/lang/StackTraceElement")
  | 2 => .object "java/util/List"
  | 3 => .object "java/lang/String"
  | 4 => .object "java/lang/Object"
  | _ => .int
abbrev wsJ90 : List Cond := u_ws RJ9 TJ9 6
theorem nmJ9 : ∀ a, a < 6 → ∀ b, b < 6 → a ≠ b → (TJ9 a).2.1 ≠ (TJ9 b).2.1 := by decide +kernel
theorem tyJ9_ok : ∀ k, k < 6 → parseFieldDescriptor (TJ9 k).2.2.1 = some (tyJ9 k) := by decide +kernel
def RJ10 : String := "java/lang/ArrayIndexOutOfBoundsException"
def TJ10 : u_T := fun k => match k with
  | 0 => ("java/lang/Throwable", "backtrace", "Ljava/lang/Object;", false)
  | 1 => ("java/lang/Throwable", "detailMessage", "Ljava/lang/String;", false)
  | 2 => ("java/lang/Throwable", "cause", "Ljava/lang/Throwable;", false)
  | 3 => ("java/lang/Throwable", "stackTrace", "[Ljava/lang/StackTraceElement;", false)
  | 4 => ("java/lang/Throwable", "depth", "I", false)
  | _ => ("java/lang/Throwable", "suppressedExceptions", "Ljava/util/List;", false)
def tyJ10 : Nat → FieldType := fun k => match k with
  | 0 => .object "java/lang/Object"
  | 1 => .object "java/lang/String"
  | 2 => .object "java/lang/Throwable"
  | 3 => .array (.object "java/lang/StackTraceElement")
  | 4 => .int
  | _ => .object "java/util/List"
abbrev wsJ100 : List Cond := u_ws RJ10 TJ10 6
theorem nmJ10 : ∀ a, a < 6 → ∀ b, b < 6 → a ≠ b → (TJ10 a).2.1 ≠ (TJ10 b).2.1 := by decide +kernel
theorem tyJ10_ok : ∀ k, k < 6 → parseFieldDescriptor (TJ10 k).2.2.1 = some (tyJ10 k) := by decide +kernel
def RJ11 : String := "java/util/AbstractList"
def RJ12 : String := "java/util/ArrayList"
def TJ12 : u_T := fun k => match k with
  | 0 => ("java/util/AbstractList", "modCount", "I", false)
  | 1 => ("java/util/ArrayList", "elementData", "[Ljava/lang/Object;", false)
  | _ => ("java/util/ArrayList", "size", "I", false)
def tyJ12 : Nat → FieldType := fun k => match k with
  | 0 => .int
  | 1 => .array (.object "java/lang/Object")
  | _ => .int
abbrev wsJ120 : List Cond := u_ws RJ12 TJ12 3
theorem nmJ12 : ∀ a, a < 3 → ∀ b, b < 3 → a ≠ b → (TJ12 a).2.1 ≠ (TJ12 b).2.1 := by decide +kernel
theorem tyJ12_ok : ∀ k, k < 3 → parseFieldDescriptor (TJ12 k).2.2.1 = some (tyJ12 k) := by decide +kernel
def RJ13 : String := "java/lang/IllegalArgumentException"
def TJ13 : u_T := fun k => match k with
  | 0 => ("java/lang/Throwable", "cause", "Ljava/lang/Throwable;", false)
  | 1 => ("java/lang/Throwable", "stackTrace", "[Ljava/lang/StackTraceElement;", false)
  | 2 => ("java/lang/Throwable", "suppressedExceptions", "Ljava/util/List;", false)
  | 3 => ("java/lang/Throwable", "detailMessage", "Ljava/lang/String;", false)
  | 4 => ("java/lang/Throwable", "backtrace", "Ljava/lang/Object;", false)
  | _ => ("java/lang/Throwable", "depth", "I", false)
def tyJ13 : Nat → FieldType := fun k => match k with
  | 0 => .object "java/lang/Throwable"
  | 1 => .array (.object "java/lang/StackTraceElement")
  | 2 => .object "java/util/List"
  | 3 => .object "java/lang/String"
  | 4 => .object "java/lang/Object"
  | _ => .int
abbrev wsJ130 : List Cond := u_ws RJ13 TJ13 6
theorem nmJ13 : ∀ a, a < 6 → ∀ b, b < 6 → a ≠ b → (TJ13 a).2.1 ≠ (TJ13 b).2.1 := by decide +kernel
theorem tyJ13_ok : ∀ k, k < 6 → parseFieldDescriptor (TJ13 k).2.2.1 = some (tyJ13 k) := by decide +kernel
def RJ14 : String := "jdk/internal/util/ArraysSupport"
def RJ15 : String := "java/lang/Math"
def RJ16 : String := "java/util/Arrays"
def RJ17 : String := "jdk/internal/util/Preconditions"
def RJ18 : String := "java/lang/StringLatin1"
def RJ19 : String := "java/lang/Number"
def RJ20 : String := "java/lang/Integer"
def TJ20 : u_T := fun k => match k with
  | _ => ("java/lang/Integer", "value", "I", true)
def tyJ20 : Nat → FieldType := fun k => match k with
  | _ => .int
abbrev wsJ200 : List Cond := u_ws RJ20 TJ20 1
theorem nmJ20 : ∀ a, a < 1 → ∀ b, b < 1 → a ≠ b → (TJ20 a).2.1 ≠ (TJ20 b).2.1 := by decide +kernel
theorem tyJ20_ok : ∀ k, k < 1 → parseFieldDescriptor (TJ20 k).2.2.1 = some (tyJ20 k) := by decide +kernel
def RJ21 : String := "java/util/BitSet"
def TJ21 : u_T := fun k => match k with
  | 0 => ("java/util/BitSet", "words", "[J", false)
  | 1 => ("java/util/BitSet", "wordsInUse", "I", false)
  | _ => ("java/util/BitSet", "sizeIsSticky", "Z", false)
def tyJ21 : Nat → FieldType := fun k => match k with
  | 0 => .array .long
  | 1 => .int
  | _ => .boolean
abbrev wsJ210 : List Cond := u_ws RJ21 TJ21 3
theorem nmJ21 : ∀ a, a < 3 → ∀ b, b < 3 → a ≠ b → (TJ21 a).2.1 ≠ (TJ21 b).2.1 := by decide +kernel
theorem tyJ21_ok : ∀ k, k < 3 → parseFieldDescriptor (TJ21 k).2.2.1 = some (tyJ21 k) := by decide +kernel
def RJ22 : String := "java/util/ImmutableCollections"
def RJ23 : String := "java/util/LinkedList$Node"
def TJ23 : u_T := fun k => match k with
  | 0 => ("java/util/LinkedList$Node", "item", "Ljava/lang/Object;", false)
  | 1 => ("java/util/LinkedList$Node", "next", "Ljava/util/LinkedList$Node;", false)
  | _ => ("java/util/LinkedList$Node", "prev", "Ljava/util/LinkedList$Node;", false)
def tyJ23 : Nat → FieldType := fun k => match k with
  | 0 => .object "java/lang/Object"
  | 1 => .object "java/util/LinkedList$Node"
  | _ => .object "java/util/LinkedList$Node"
abbrev wsJ230 : List Cond := u_ws RJ23 TJ23 3
theorem nmJ23 : ∀ a, a < 3 → ∀ b, b < 3 → a ≠ b → (TJ23 a).2.1 ≠ (TJ23 b).2.1 := by decide +kernel
theorem tyJ23_ok : ∀ k, k < 3 → parseFieldDescriptor (TJ23 k).2.2.1 = some (tyJ23 k) := by decide +kernel
def RJ24 : String := "java/util/List"
def RJ25 : String := "java/util/Objects"
def RJ26 : String := "java/util/ImmutableCollections$AbstractImmutableCollection"
def RJ27 : String := "java/util/ImmutableCollections$AbstractImmutableList"
def RJ28 : String := "java/util/ImmutableCollections$List12"
def TJ28 : u_T := fun k => match k with
  | 0 => ("java/util/ImmutableCollections$List12", "e0", "Ljava/lang/Object;", true)
  | _ => ("java/util/ImmutableCollections$List12", "e1", "Ljava/lang/Object;", true)
def tyJ28 : Nat → FieldType := fun k => match k with
  | 0 => .object "java/lang/Object"
  | _ => .object "java/lang/Object"
abbrev wsJ280 : List Cond := u_ws RJ28 TJ28 2
theorem nmJ28 : ∀ a, a < 2 → ∀ b, b < 2 → a ≠ b → (TJ28 a).2.1 ≠ (TJ28 b).2.1 := by decide +kernel
theorem tyJ28_ok : ∀ k, k < 2 → parseFieldDescriptor (TJ28 k).2.2.1 = some (tyJ28 k) := by decide +kernel
def RJ29 : String := "java/util/ImmutableCollections$ListN"
def TJ29 : u_T := fun k => match k with
  | 0 => ("java/util/ImmutableCollections$ListN", "elements", "[Ljava/lang/Object;", true)
  | _ => ("java/util/ImmutableCollections$ListN", "allowNulls", "Z", true)
def tyJ29 : Nat → FieldType := fun k => match k with
  | 0 => .array (.object "java/lang/Object")
  | _ => .boolean
abbrev wsJ290 : List Cond := u_ws RJ29 TJ29 2
theorem nmJ29 : ∀ a, a < 2 → ∀ b, b < 2 → a ≠ b → (TJ29 a).2.1 ≠ (TJ29 b).2.1 := by decide +kernel
theorem tyJ29_ok : ∀ k, k < 2 → parseFieldDescriptor (TJ29 k).2.2.1 = some (tyJ29 k) := by decide +kernel
def RJ30 : String := "java/lang/Long"
def RJ31 : String := "java/lang/IllegalStateException"
def TJ31 : u_T := fun k => match k with
  | 0 => ("java/lang/Throwable", "cause", "Ljava/lang/Throwable;", false)
  | 1 => ("java/lang/Throwable", "stackTrace", "[Ljava/lang/StackTraceElement;", false)
  | 2 => ("java/lang/Throwable", "suppressedExceptions", "Ljava/util/List;", false)
  | 3 => ("java/lang/Throwable", "detailMessage", "Ljava/lang/String;", false)
  | 4 => ("java/lang/Throwable", "backtrace", "Ljava/lang/Object;", false)
  | _ => ("java/lang/Throwable", "depth", "I", false)
def tyJ31 : Nat → FieldType := fun k => match k with
  | 0 => .object "java/lang/Throwable"
  | 1 => .array (.object "java/lang/StackTraceElement")
  | 2 => .object "java/util/List"
  | 3 => .object "java/lang/String"
  | 4 => .object "java/lang/Object"
  | _ => .int
abbrev wsJ310 : List Cond := u_ws RJ31 TJ31 6
theorem nmJ31 : ∀ a, a < 6 → ∀ b, b < 6 → a ≠ b → (TJ31 a).2.1 ≠ (TJ31 b).2.1 := by decide +kernel
theorem tyJ31_ok : ∀ k, k < 6 → parseFieldDescriptor (TJ31 k).2.2.1 = some (tyJ31 k) := by decide +kernel
def RJ32 : String := "java/util/AbstractSequentialList"
def RJ33 : String := "java/util/LinkedList"
def TJ33 : u_T := fun k => match k with
  | 0 => ("java/util/AbstractList", "modCount", "I", false)
  | 1 => ("java/util/LinkedList", "size", "I", false)
  | 2 => ("java/util/LinkedList", "first", "Ljava/util/LinkedList$Node;", false)
  | _ => ("java/util/LinkedList", "last", "Ljava/util/LinkedList$Node;", false)
def tyJ33 : Nat → FieldType := fun k => match k with
  | 0 => .int
  | 1 => .int
  | 2 => .object "java/util/LinkedList$Node"
  | _ => .object "java/util/LinkedList$Node"
abbrev wsJ330 : List Cond := u_ws RJ33 TJ33 4
theorem nmJ33 : ∀ a, a < 4 → ∀ b, b < 4 → a ≠ b → (TJ33 a).2.1 ≠ (TJ33 b).2.1 := by decide +kernel
theorem tyJ33_ok : ∀ k, k < 4 → parseFieldDescriptor (TJ33 k).2.2.1 = some (tyJ33 k) := by decide +kernel
def RJ34 : String := "java/util/AbstractList$Itr"
def RJ35 : String := "java/util/ArrayList$Itr"
def RJ36 : String := "java/util/ArrayList$ListItr"
def TJ36 : u_T := fun k => match k with
  | 0 => ("java/util/ArrayList$Itr", "cursor", "I", false)
  | 1 => ("java/util/ArrayList$Itr", "lastRet", "I", false)
  | 2 => ("java/util/ArrayList$Itr", "expectedModCount", "I", false)
  | 3 => ("java/util/ArrayList$Itr", "this$0", "Ljava/util/ArrayList;", true)
  | _ => ("java/util/ArrayList$ListItr", "this$0", "Ljava/util/ArrayList;", true)
def tyJ36 : Nat → FieldType := fun k => match k with
  | 0 => .int
  | 1 => .int
  | 2 => .int
  | 3 => .object "java/util/ArrayList"
  | _ => .object "java/util/ArrayList"
abbrev wsJ360 : List Cond := u_ws RJ36 TJ36 5
theorem tyJ36_ok : ∀ k, k < 5 → parseFieldDescriptor (TJ36 k).2.2.1 = some (tyJ36 k) := by decide +kernel
def RJ37 : String := "java/util/LinkedList$ListItr"
def TJ37 : u_T := fun k => match k with
  | 0 => ("java/util/LinkedList$ListItr", "lastReturned", "Ljava/util/LinkedList$Node;", false)
  | 1 => ("java/util/LinkedList$ListItr", "next", "Ljava/util/LinkedList$Node;", false)
  | 2 => ("java/util/LinkedList$ListItr", "nextIndex", "I", false)
  | 3 => ("java/util/LinkedList$ListItr", "expectedModCount", "I", false)
  | _ => ("java/util/LinkedList$ListItr", "this$0", "Ljava/util/LinkedList;", true)
def tyJ37 : Nat → FieldType := fun k => match k with
  | 0 => .object "java/util/LinkedList$Node"
  | 1 => .object "java/util/LinkedList$Node"
  | 2 => .int
  | 3 => .int
  | _ => .object "java/util/LinkedList"
abbrev wsJ370 : List Cond := u_ws RJ37 TJ37 5
theorem nmJ37 : ∀ a, a < 5 → ∀ b, b < 5 → a ≠ b → (TJ37 a).2.1 ≠ (TJ37 b).2.1 := by decide +kernel
theorem tyJ37_ok : ∀ k, k < 5 → parseFieldDescriptor (TJ37 k).2.2.1 = some (tyJ37 k) := by decide +kernel
def RJ38 : String := "java/util/NoSuchElementException"
def TJ38 : u_T := fun k => match k with
  | 0 => ("java/lang/Throwable", "cause", "Ljava/lang/Throwable;", false)
  | 1 => ("java/lang/Throwable", "stackTrace", "[Ljava/lang/StackTraceElement;", false)
  | 2 => ("java/lang/Throwable", "suppressedExceptions", "Ljava/util/List;", false)
  | 3 => ("java/lang/Throwable", "detailMessage", "Ljava/lang/String;", false)
  | 4 => ("java/lang/Throwable", "backtrace", "Ljava/lang/Object;", false)
  | _ => ("java/lang/Throwable", "depth", "I", false)
def tyJ38 : Nat → FieldType := fun k => match k with
  | 0 => .object "java/lang/Throwable"
  | 1 => .array (.object "java/lang/StackTraceElement")
  | 2 => .object "java/util/List"
  | 3 => .object "java/lang/String"
  | 4 => .object "java/lang/Object"
  | _ => .int
abbrev wsJ380 : List Cond := u_ws RJ38 TJ38 6
theorem nmJ38 : ∀ a, a < 6 → ∀ b, b < 6 → a ≠ b → (TJ38 a).2.1 ≠ (TJ38 b).2.1 := by decide +kernel
theorem tyJ38_ok : ∀ k, k < 6 → parseFieldDescriptor (TJ38 k).2.2.1 = some (tyJ38 k) := by decide +kernel
def RJ39 : String := "java/lang/StringIndexOutOfBoundsException"
def TJ39 : u_T := fun k => match k with
  | 0 => ("java/lang/Throwable", "backtrace", "Ljava/lang/Object;", false)
  | 1 => ("java/lang/Throwable", "detailMessage", "Ljava/lang/String;", false)
  | 2 => ("java/lang/Throwable", "cause", "Ljava/lang/Throwable;", false)
  | 3 => ("java/lang/Throwable", "stackTrace", "[Ljava/lang/StackTraceElement;", false)
  | 4 => ("java/lang/Throwable", "depth", "I", false)
  | _ => ("java/lang/Throwable", "suppressedExceptions", "Ljava/util/List;", false)
def tyJ39 : Nat → FieldType := fun k => match k with
  | 0 => .object "java/lang/Object"
  | 1 => .object "java/lang/String"
  | 2 => .object "java/lang/Throwable"
  | 3 => .array (.object "java/lang/StackTraceElement")
  | 4 => .int
  | _ => .object "java/util/List"
abbrev wsJ390 : List Cond := u_ws RJ39 TJ39 6
theorem nmJ39 : ∀ a, a < 6 → ∀ b, b < 6 → a ≠ b → (TJ39 a).2.1 ≠ (TJ39 b).2.1 := by decide +kernel
theorem tyJ39_ok : ∀ k, k < 6 → parseFieldDescriptor (TJ39 k).2.2.1 = some (tyJ39 k) := by decide +kernel
def RJ40 : String := "java/lang/Object"
def RJ41 : String := "java/lang/System$2"
/-- the classes of all worlds, in this order -/
def CL : List vw_C := [(RX1, TX1, 8), (RX2, TX2, 30), (RX3, TX3, 8), (RX4, TX4, 7), (RX5, TX5, 19), (RX6, TX6, 8), (RX7, TX7, 3), (RX8, TX8, 6), (RX10, TX10, 2), (RX11, TX11, 4), (RJ1, TJ1, 3), (RJ3, TJ3, 4), (RJ4, TJ4, 4), (RJ6, TJ6, 5), (RJ9, TJ9, 6), (RJ10, TJ10, 6), (RJ12, TJ12, 3), (RJ13, TJ13, 6), (RJ20, TJ20, 1), (RJ21, TJ21, 3), (RJ23, TJ23, 3), (RJ28, TJ28, 2), (RJ29, TJ29, 2), (RJ31, TJ31, 6), (RJ33, TJ33, 4), (RJ36, TJ36, 5), (RJ37, TJ37, 5), (RJ38, TJ38, 6), (RJ39, TJ39, 6)]
theorem CL_X1 : CL[0]? = some (RX1, TX1, 8) := rfl
theorem CL_X2 : CL[1]? = some (RX2, TX2, 30) := rfl
theorem CL_X3 : CL[2]? = some (RX3, TX3, 8) := rfl
theorem CL_X4 : CL[3]? = some (RX4, TX4, 7) := rfl
theorem CL_X5 : CL[4]? = some (RX5, TX5, 19) := rfl
theorem CL_X6 : CL[5]? = some (RX6, TX6, 8) := rfl
theorem CL_X7 : CL[6]? = some (RX7, TX7, 3) := rfl
theorem CL_X8 : CL[7]? = some (RX8, TX8, 6) := rfl
theorem CL_X10 : CL[8]? = some (RX10, TX10, 2) := rfl
theorem CL_X11 : CL[9]? = some (RX11, TX11, 4) := rfl
theorem CL_J1 : CL[10]? = some (RJ1, TJ1, 3) := rfl
theorem CL_J3 : CL[11]? = some (RJ3, TJ3, 4) := rfl
theorem CL_J4 : CL[12]? = some (RJ4, TJ4, 4) := rfl
theorem CL_J6 : CL[13]? = some (RJ6, TJ6, 5) := rfl
theorem CL_J9 : CL[14]? = some (RJ9, TJ9, 6) := rfl
theorem CL_J10 : CL[15]? = some (RJ10, TJ10, 6) := rfl
theorem CL_J12 : CL[16]? = some (RJ12, TJ12, 3) := rfl
theorem CL_J13 : CL[17]? = some (RJ13, TJ13, 6) := rfl
theorem CL_J20 : CL[18]? = some (RJ20, TJ20, 1) := rfl
theorem CL_J21 : CL[19]? = some (RJ21, TJ21, 3) := rfl
theorem CL_J23 : CL[20]? = some (RJ23, TJ23, 3) := rfl
theorem CL_J28 : CL[21]? = some (RJ28, TJ28, 2) := rfl
theorem CL_J29 : CL[22]? = some (RJ29, TJ29, 2) := rfl
theorem CL_J31 : CL[23]? = some (RJ31, TJ31, 6) := rfl
theorem CL_J33 : CL[24]? = some (RJ33, TJ33, 4) := rfl
theorem CL_J36 : CL[25]? = some (RJ36, TJ36, 5) := rfl
theorem CL_J37 : CL[26]? = some (RJ37, TJ37, 5) := rfl
theorem CL_J38 : CL[27]? = some (RJ38, TJ38, 6) := rfl
theorem CL_J39 : CL[28]? = some (RJ39, TJ39, 6) := rfl
