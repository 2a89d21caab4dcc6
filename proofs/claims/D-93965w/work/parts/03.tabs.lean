set_option maxRecDepth 100000
def RJ0 : String := "java/lang/Throwable"
def TJ0 : u_T := fun k => match k with
  | 0 => ("java/lang/Throwable", "cause", "Ljava/lang/Throwable;", false)
  | 1 => ("java/lang/Throwable", "stackTrace", "[Ljava/lang/StackTraceElement;", false)
  | 2 => ("java/lang/Throwable", "suppressedExceptions", "Ljava/util/List;", false)
  | 3 => ("java/lang/Throwable", "detailMessage", "Ljava/lang/String;", false)
  | _ => ("java/lang/Throwable", "backtrace", "Ljava/lang/Object;", false)
def tyJ0 : Nat → FieldType := fun k => match k with
  | 0 => .object "java/lang/Throwable"
  | 1 => .array (.object "java/lang/StackTraceElement")
  | 2 => .object "java/util/List"
  | 3 => .object "java/lang/String"
  | _ => .object "java/lang/Object"
abbrev wsJ00 : List Cond := u_ws RJ0 TJ0 5
theorem nmJ0 : ∀ a, a < 5 → ∀ b, b < 5 → a ≠ b → (TJ0 a).2.1 ≠ (TJ0 b).2.1 := by decide +kernel
theorem tyJ0_ok : ∀ k, k < 5 → parseFieldDescriptor (TJ0 k).2.2.1 = some (tyJ0 k) := by decide +kernel
def RJ1 : String := "java/lang/Exception"
def RJ10 : String := "java/lang/StringUTF16"
def RJ11 : String := "jdk/internal/util/Preconditions"
def RJ12 : String := "java/lang/Character"
def RJ13 : String := "java/lang/Integer"
def RJ14 : String := "java/lang/NegativeArraySizeException"
def TJ14 : u_T := fun k => match k with
  | 0 => ("java/lang/Throwable", "backtrace", "Ljava/lang/Object;", false)
  | 1 => ("java/lang/Throwable", "detailMessage", "Ljava/lang/String;", false)
  | 2 => ("java/lang/Throwable", "cause", "Ljava/lang/Throwable;", false)
  | 3 => ("java/lang/Throwable", "stackTrace", "[Ljava/lang/StackTraceElement;", false)
  | 4 => ("java/lang/Throwable", "depth", "I", false)
  | _ => ("java/lang/Throwable", "suppressedExceptions", "Ljava/util/List;", false)
def tyJ14 : Nat → FieldType := fun k => match k with
  | 0 => .object "java/lang/Object"
  | 1 => .object "java/lang/String"
  | 2 => .object "java/lang/Throwable"
  | 3 => .array (.object "java/lang/StackTraceElement")
  | 4 => .int
  | _ => .object "java/util/List"
abbrev wsJ140 : List Cond := u_ws RJ14 TJ14 6
theorem nmJ14 : ∀ a, a < 6 → ∀ b, b < 6 → a ≠ b → (TJ14 a).2.1 ≠ (TJ14 b).2.1 := by decide +kernel
theorem tyJ14_ok : ∀ k, k < 6 → parseFieldDescriptor (TJ14 k).2.2.1 = some (tyJ14 k) := by decide +kernel
def RJ15 : String := "java/lang/Object"
def RJ2 : String := "java/lang/RuntimeException"
def RJ3 : String := "java/lang/ClassCastException"
def TJ3 : u_T := fun k => match k with
  | 0 => ("java/lang/Throwable", "backtrace", "Ljava/lang/Object;", false)
  | 1 => ("java/lang/Throwable", "detailMessage", "Ljava/lang/String;", false)
  | 2 => ("java/lang/Throwable", "cause", "Ljava/lang/Throwable;", false)
  | 3 => ("java/lang/Throwable", "stackTrace", "[Ljava/lang/StackTraceElement;", false)
  | 4 => ("java/lang/Throwable", "depth", "I", false)
  | _ => ("java/lang/Throwable", "suppressedExceptions", "Ljava/util/List;", false)
def tyJ3 : Nat → FieldType := fun k => match k with
  | 0 => .object "java/lang/Object"
  | 1 => .object "java/lang/String"
  | 2 => .object "java/lang/Throwable"
  | 3 => .array (.object "java/lang/StackTraceElement")
  | 4 => .int
  | _ => .object "java/util/List"
abbrev wsJ30 : List Cond := u_ws RJ3 TJ3 6
theorem nmJ3 : ∀ a, a < 6 → ∀ b, b < 6 → a ≠ b → (TJ3 a).2.1 ≠ (TJ3 b).2.1 := by decide +kernel
theorem tyJ3_ok : ∀ k, k < 6 → parseFieldDescriptor (TJ3 k).2.2.1 = some (tyJ3 k) := by decide +kernel
def RJ4 : String := "java/lang/String"
def TJ4 : u_T := fun k => match k with
  | 0 => ("java/lang/String", "value", "[B", true)
  | _ => ("java/lang/String", "coder", "B", true)
def tyJ4 : Nat → FieldType := fun k => match k with
  | 0 => .array .byte
  | _ => .byte
abbrev wsJ40 : List Cond := u_ws RJ4 TJ4 2
theorem nmJ4 : ∀ a, a < 2 → ∀ b, b < 2 → a ≠ b → (TJ4 a).2.1 ≠ (TJ4 b).2.1 := by decide +kernel
theorem tyJ4_ok : ∀ k, k < 2 → parseFieldDescriptor (TJ4 k).2.2.1 = some (tyJ4 k) := by decide +kernel
def RJ5 : String := "java/lang/NullPointerException"
def TJ5 : u_T := fun k => match k with
  | 0 => ("java/lang/Throwable", "backtrace", "Ljava/lang/Object;", false)
  | 1 => ("java/lang/Throwable", "detailMessage", "Ljava/lang/String;", false)
  | 2 => ("java/lang/Throwable", "cause", "Ljava/lang/Throwable;", false)
  | 3 => ("java/lang/Throwable", "stackTrace", "[Ljava/lang/StackTraceElement;", false)
  | 4 => ("java/lang/Throwable", "depth", "I", false)
  | 5 => ("java/lang/Throwable", "suppressedExceptions", "Ljava/util/List;", false)
  | 6 => ("java/lang/NullPointerException", "extendedMessageState", "I", false)
  | _ => ("java/lang/NullPointerException", "extendedMessage", "Ljava/lang/String;", false)
def tyJ5 : Nat → FieldType := fun k => match k with
  | 0 => .object "java/lang/Object"
  | 1 => .object "java/lang/String"
  | 2 => .object "java/lang/Throwable"
  | 3 => .array (.object "java/lang/StackTraceElement")
  | 4 => .int
  | 5 => .object "java/util/List"
  | 6 => .int
  | _ => .object "java/lang/String"
abbrev wsJ50 : List Cond := u_ws RJ5 TJ5 8
theorem nmJ5 : ∀ a, a < 8 → ∀ b, b < 8 → a ≠ b → (TJ5 a).2.1 ≠ (TJ5 b).2.1 := by decide +kernel
theorem tyJ5_ok : ∀ k, k < 8 → parseFieldDescriptor (TJ5 k).2.2.1 = some (tyJ5 k) := by decide +kernel
def RJ6 : String := "java/lang/IndexOutOfBoundsException"
def RJ7 : String := "java/lang/ArrayIndexOutOfBoundsException"
def TJ7 : u_T := fun k => match k with
  | 0 => ("java/lang/Throwable", "backtrace", "Ljava/lang/Object;", false)
  | 1 => ("java/lang/Throwable", "detailMessage", "Ljava/lang/String;", false)
  | 2 => ("java/lang/Throwable", "cause", "Ljava/lang/Throwable;", false)
  | 3 => ("java/lang/Throwable", "stackTrace", "[Ljava/lang/StackTraceElement;", false)
  | 4 => ("java/lang/Throwable", "depth", "I", false)
  | _ => ("java/lang/Throwable", "suppressedExceptions", "Ljava/util/List;", false)
def tyJ7 : Nat → FieldType := fun k => match k with
  | 0 => .object "java/lang/Object"
  | 1 => .object "java/lang/String"
  | 2 => .object "java/lang/Throwable"
  | 3 => .array (.object "java/lang/StackTraceElement")
  | 4 => .int
  | _ => .object "java/util/List"
abbrev wsJ70 : List Cond := u_ws RJ7 TJ7 6
theorem nmJ7 : ∀ a, a < 6 → ∀ b, b < 6 → a ≠ b → (TJ7 a).2.1 ≠ (TJ7 b).2.1 := by decide +kernel
theorem tyJ7_ok : ∀ k, k < 6 → parseFieldDescriptor (TJ7 k).2.2.1 = some (tyJ7 k) := by decide +kernel
def RJ8 : String := "java/lang/StringLatin1"
def RJ9 : String := "java/lang/Math"
def RX0 : String := "SpeaksInTurn"
def TX0 : u_T := fun k => match k with
  | 0 => ("SpeaksInTurn", "people", "[LSpeaksInTurn$Person;", true)
  | 1 => ("SpeaksInTurn", "things", "[LSpeaksInTurn$Thing;", true)
  | 2 => ("SpeaksInTurn", "cards", "[LSpeaksInTurn$Card;", true)
  | 3 => ("SpeaksInTurn", "personMany", "I", false)
  | 4 => ("SpeaksInTurn", "thingMany", "I", false)
  | 5 => ("SpeaksInTurn", "cardMany", "I", false)
  | 6 => ("SpeaksInTurn", "rule", "I", false)
  | 7 => ("SpeaksInTurn", "standing", "I", false)
  | 8 => ("SpeaksInTurn", "timer", "I", false)
  | 9 => ("SpeaksInTurn", "changes", "[LSpeaksInTurn$Change;", true)
  | 10 => ("SpeaksInTurn", "doneMany", "I", false)
  | 11 => ("SpeaksInTurn", "undoneMany", "I", false)
  | 12 => ("SpeaksInTurn", "tape", "[B", true)
  | 13 => ("SpeaksInTurn", "taped", "I", false)
  | 14 => ("SpeaksInTurn", "law", "LSpeaksInTurn$Line;", false)
  | 15 => ("SpeaksInTurn", "facts", "LSpeaksInTurn$Facts;", true)
  | 16 => ("SpeaksInTurn", "order", "[I", true)
  | 17 => ("SpeaksInTurn", "kept", "LSpeaksInTurn$Meeting;", true)
  | 18 => ("SpeaksInTurn", "tried", "LSpeaksInTurn$Meeting;", true)
  | 19 => ("SpeaksInTurn", "keptTold", "[I", true)
  | 20 => ("SpeaksInTurn", "keptSums", "[I", true)
  | 21 => ("SpeaksInTurn", "keptThere", "[I", true)
  | 22 => ("SpeaksInTurn", "hasMeeting", "Z", false)
  | 23 => ("SpeaksInTurn", "peopleThen", "I", false)
  | 24 => ("SpeaksInTurn", "thingsThen", "I", false)
  | 25 => ("SpeaksInTurn", "cardsThen", "I", false)
  | 26 => ("SpeaksInTurn", "bestIs", "I", false)
  | 27 => ("SpeaksInTurn", "leastWrong", "I", false)
  | 28 => ("SpeaksInTurn", "leastCost", "I", false)
  | 29 => ("SpeaksInTurn", "traces", "I", false)
  | 30 => ("SpeaksInTurn", "traced", "[B", true)
  | 31 => ("SpeaksInTurn", "bodies", "[LSpeaksInTurn$Plain;", true)
  | 32 => ("SpeaksInTurn", "bodyMany", "I", false)
  | _ => ("SpeaksInTurn", "shelves", "[LSpeaksInTurn$Held;", true)
def tyX0 : Nat → FieldType := fun k => match k with
  | 0 => .array (.object "SpeaksInTurn$Person")
  | 1 => .array (.object "SpeaksInTurn$Thing")
  | 2 => .array (.object "SpeaksInTurn$Card")
  | 3 => .int
  | 4 => .int
  | 5 => .int
  | 6 => .int
  | 7 => .int
  | 8 => .int
  | 9 => .array (.object "SpeaksInTurn$Change")
  | 10 => .int
  | 11 => .int
  | 12 => .array .byte
  | 13 => .int
  | 14 => .object "SpeaksInTurn$Line"
  | 15 => .object "SpeaksInTurn$Facts"
  | 16 => .array .int
  | 17 => .object "SpeaksInTurn$Meeting"
  | 18 => .object "SpeaksInTurn$Meeting"
  | 19 => .array .int
  | 20 => .array .int
  | 21 => .array .int
  | 22 => .boolean
  | 23 => .int
  | 24 => .int
  | 25 => .int
  | 26 => .int
  | 27 => .int
  | 28 => .int
  | 29 => .int
  | 30 => .array .byte
  | 31 => .array (.object "SpeaksInTurn$Plain")
  | 32 => .int
  | _ => .array (.object "SpeaksInTurn$Held")
abbrev wsX00 : List Cond := u_ws RX0 TX0 34
set_option maxRecDepth 100000 in
theorem nmX0 : ∀ a, a < 34 → ∀ b, b < 34 → a ≠ b → (TX0 a).2.1 ≠ (TX0 b).2.1 := by decide +kernel
set_option maxRecDepth 100000 in
theorem tyX0_ok : ∀ k, k < 34 → parseFieldDescriptor (TX0 k).2.2.1 = some (tyX0 k) := by decide +kernel
def RX1 : String := "SpeaksInTurn$Facts"
def TX1 : u_T := fun k => match k with
  | _ => ("SpeaksInTurn$Facts", "named", "[I", true)
def tyX1 : Nat → FieldType := fun k => match k with
  | _ => .array .int
abbrev wsX10 : List Cond := u_ws RX1 TX1 1
theorem nmX1 : ∀ a, a < 1 → ∀ b, b < 1 → a ≠ b → (TX1 a).2.1 ≠ (TX1 b).2.1 := by decide +kernel
theorem tyX1_ok : ∀ k, k < 1 → parseFieldDescriptor (TX1 k).2.2.1 = some (tyX1 k) := by decide +kernel
def RX10 : String := "SpeaksInTurn$Name"
def TX10 : u_T := fun k => match k with
  | _ => ("SpeaksInTurn$Name", "letter", "I", true)
def tyX10 : Nat → FieldType := fun k => match k with
  | _ => .int
abbrev wsX100 : List Cond := u_ws RX10 TX10 1
theorem nmX10 : ∀ a, a < 1 → ∀ b, b < 1 → a ≠ b → (TX10 a).2.1 ≠ (TX10 b).2.1 := by decide +kernel
theorem tyX10_ok : ∀ k, k < 1 → parseFieldDescriptor (TX10 k).2.2.1 = some (tyX10 k) := by decide +kernel
def RX11 : String := "SpeaksInTurn$Denied"
def TX11 : u_T := fun k => match k with
  | _ => ("SpeaksInTurn$Denied", "of", "LSpeaksInTurn$Node;", true)
def tyX11 : Nat → FieldType := fun k => match k with
  | _ => .object "SpeaksInTurn$Node"
abbrev wsX110 : List Cond := u_ws RX11 TX11 1
theorem nmX11 : ∀ a, a < 1 → ∀ b, b < 1 → a ≠ b → (TX11 a).2.1 ≠ (TX11 b).2.1 := by decide +kernel
theorem tyX11_ok : ∀ k, k < 1 → parseFieldDescriptor (TX11 k).2.2.1 = some (tyX11 k) := by decide +kernel
def RX12 : String := "SpeaksInTurn$Turned"
def TX12 : u_T := fun k => match k with
  | _ => ("SpeaksInTurn$Turned", "of", "LSpeaksInTurn$Node;", true)
def tyX12 : Nat → FieldType := fun k => match k with
  | _ => .object "SpeaksInTurn$Node"
abbrev wsX120 : List Cond := u_ws RX12 TX12 1
theorem nmX12 : ∀ a, a < 1 → ∀ b, b < 1 → a ≠ b → (TX12 a).2.1 ≠ (TX12 b).2.1 := by decide +kernel
theorem tyX12_ok : ∀ k, k < 1 → parseFieldDescriptor (TX12 k).2.2.1 = some (tyX12 k) := by decide +kernel
def RX13 : String := "SpeaksInTurn$Leaf"
def TX13 : u_T := fun k => match k with
  | _ => ("SpeaksInTurn$Leaf", "number", "I", true)
def tyX13 : Nat → FieldType := fun k => match k with
  | _ => .int
abbrev wsX130 : List Cond := u_ws RX13 TX13 1
theorem nmX13 : ∀ a, a < 1 → ∀ b, b < 1 → a ≠ b → (TX13 a).2.1 ≠ (TX13 b).2.1 := by decide +kernel
theorem tyX13_ok : ∀ k, k < 1 → parseFieldDescriptor (TX13 k).2.2.1 = some (tyX13 k) := by decide +kernel
def RX14 : String := "SpeaksInTurn$Pair"
def TX14 : u_T := fun k => match k with
  | 0 => ("SpeaksInTurn$Pair", "sign", "I", true)
  | 1 => ("SpeaksInTurn$Pair", "left", "LSpeaksInTurn$Node;", true)
  | _ => ("SpeaksInTurn$Pair", "right", "LSpeaksInTurn$Node;", true)
def tyX14 : Nat → FieldType := fun k => match k with
  | 0 => .int
  | 1 => .object "SpeaksInTurn$Node"
  | _ => .object "SpeaksInTurn$Node"
abbrev wsX140 : List Cond := u_ws RX14 TX14 3
theorem nmX14 : ∀ a, a < 3 → ∀ b, b < 3 → a ≠ b → (TX14 a).2.1 ≠ (TX14 b).2.1 := by decide +kernel
theorem tyX14_ok : ∀ k, k < 3 → parseFieldDescriptor (TX14 k).2.2.1 = some (tyX14 k) := by decide +kernel
def RX15 : String := "SpeaksInTurn$Change"
def TX15 : u_T := fun k => match k with
  | 0 => ("SpeaksInTurn$Change", "of", "I", true)
  | 1 => ("SpeaksInTurn$Change", "at", "I", true)
  | 2 => ("SpeaksInTurn$Change", "before", "I", true)
  | _ => ("SpeaksInTurn$Change", "behind", "I", true)
def tyX15 : Nat → FieldType := fun k => match k with
  | 0 => .int
  | 1 => .int
  | 2 => .int
  | _ => .int
abbrev wsX150 : List Cond := u_ws RX15 TX15 4
theorem nmX15 : ∀ a, a < 4 → ∀ b, b < 4 → a ≠ b → (TX15 a).2.1 ≠ (TX15 b).2.1 := by decide +kernel
theorem tyX15_ok : ∀ k, k < 4 → parseFieldDescriptor (TX15 k).2.2.1 = some (tyX15 k) := by decide +kernel
def RX16 : String := "SpeaksInTurn$Held"
def RX17 : String := "SpeaksInTurn$Plain"
def TX17 : u_T := fun k => match k with
  | 0 => ("SpeaksInTurn$Plain", "number", "I", true)
  | _ => ("SpeaksInTurn$Plain", "this$0", "LSpeaksInTurn;", true)
def tyX17 : Nat → FieldType := fun k => match k with
  | 0 => .int
  | _ => .object "SpeaksInTurn"
abbrev wsX170 : List Cond := u_ws RX17 TX17 2
theorem nmX17 : ∀ a, a < 2 → ∀ b, b < 2 → a ≠ b → (TX17 a).2.1 ≠ (TX17 b).2.1 := by decide +kernel
theorem tyX17_ok : ∀ k, k < 2 → parseFieldDescriptor (TX17 k).2.2.1 = some (tyX17 k) := by decide +kernel
def RX18 : String := "SpeaksInTurn$New"
def TX18 : u_T := fun k => match k with
  | 0 => ("SpeaksInTurn$Plain", "number", "I", true)
  | 1 => ("SpeaksInTurn$Plain", "this$0", "LSpeaksInTurn;", true)
  | _ => ("SpeaksInTurn$New", "this$0", "LSpeaksInTurn;", true)
def tyX18 : Nat → FieldType := fun k => match k with
  | 0 => .int
  | 1 => .object "SpeaksInTurn"
  | _ => .object "SpeaksInTurn"
abbrev wsX180 : List Cond := u_ws RX18 TX18 3
theorem tyX18_ok : ∀ k, k < 3 → parseFieldDescriptor (TX18 k).2.2.1 = some (tyX18 k) := by decide +kernel
def RX19 : String := "SpeaksInTurn$Shared"
def TX19 : u_T := fun k => match k with
  | 0 => ("SpeaksInTurn$Plain", "number", "I", true)
  | 1 => ("SpeaksInTurn$Plain", "this$0", "LSpeaksInTurn;", true)
  | _ => ("SpeaksInTurn$Shared", "this$0", "LSpeaksInTurn;", true)
def tyX19 : Nat → FieldType := fun k => match k with
  | 0 => .int
  | 1 => .object "SpeaksInTurn"
  | _ => .object "SpeaksInTurn"
abbrev wsX190 : List Cond := u_ws RX19 TX19 3
theorem tyX19_ok : ∀ k, k < 3 → parseFieldDescriptor (TX19 k).2.2.1 = some (tyX19 k) := by decide +kernel
def RX2 : String := "SpeaksInTurn$Meeting"
def TX2 : u_T := fun k => match k with
  | 0 => ("SpeaksInTurn$Meeting", "took", "[I", true)
  | 1 => ("SpeaksInTurn$Meeting", "begins", "[I", true)
  | 2 => ("SpeaksInTurn$Meeting", "who", "[I", true)
  | 3 => ("SpeaksInTurn$Meeting", "on", "[I", true)
  | 4 => ("SpeaksInTurn$Meeting", "lasts", "[I", true)
  | 5 => ("SpeaksInTurn$Meeting", "news", "[I", true)
  | 6 => ("SpeaksInTurn$Meeting", "again", "[I", true)
  | 7 => ("SpeaksInTurn$Meeting", "stopped", "[I", true)
  | 8 => ("SpeaksInTurn$Meeting", "firstBy", "[I", true)
  | 9 => ("SpeaksInTurn$Meeting", "firstIn", "[I", true)
  | 10 => ("SpeaksInTurn$Meeting", "spoke", "[I", true)
  | 11 => ("SpeaksInTurn$Meeting", "stops", "[I", true)
  | 12 => ("SpeaksInTurn$Meeting", "taken", "[I", true)
  | 13 => ("SpeaksInTurn$Meeting", "lastStopper", "[I", true)
  | 14 => ("SpeaksInTurn$Meeting", "often", "[I", true)
  | 15 => ("SpeaksInTurn$Meeting", "wishes", "[I", true)
  | 16 => ("SpeaksInTurn$Meeting", "minute", "I", false)
  | 17 => ("SpeaksInTurn$Meeting", "many", "I", false)
  | 18 => ("SpeaksInTurn$Meeting", "said", "I", false)
  | 19 => ("SpeaksInTurn$Meeting", "last", "I", false)
  | 20 => ("SpeaksInTurn$Meeting", "without", "I", false)
  | _ => ("SpeaksInTurn$Meeting", "this$0", "LSpeaksInTurn;", true)
def tyX2 : Nat → FieldType := fun k => match k with
  | 0 => .array .int
  | 1 => .array .int
  | 2 => .array .int
  | 3 => .array .int
  | 4 => .array .int
  | 5 => .array .int
  | 6 => .array .int
  | 7 => .array .int
  | 8 => .array .int
  | 9 => .array .int
  | 10 => .array .int
  | 11 => .array .int
  | 12 => .array .int
  | 13 => .array .int
  | 14 => .array .int
  | 15 => .array .int
  | 16 => .int
  | 17 => .int
  | 18 => .int
  | 19 => .int
  | 20 => .int
  | _ => .object "SpeaksInTurn"
abbrev wsX20 : List Cond := u_ws RX2 TX2 22
set_option maxRecDepth 100000 in
theorem nmX2 : ∀ a, a < 22 → ∀ b, b < 22 → a ≠ b → (TX2 a).2.1 ≠ (TX2 b).2.1 := by decide +kernel
set_option maxRecDepth 100000 in
theorem tyX2_ok : ∀ k, k < 22 → parseFieldDescriptor (TX2 k).2.2.1 = some (tyX2 k) := by decide +kernel
def RX20 : String := "SpeaksInTurn$Again"
def TX20 : u_T := fun k => match k with
  | 0 => ("SpeaksInTurn$Plain", "number", "I", true)
  | 1 => ("SpeaksInTurn$Plain", "this$0", "LSpeaksInTurn;", true)
  | 2 => ("SpeaksInTurn$Shared", "this$0", "LSpeaksInTurn;", true)
  | _ => ("SpeaksInTurn$Again", "this$0", "LSpeaksInTurn;", true)
def tyX20 : Nat → FieldType := fun k => match k with
  | 0 => .int
  | 1 => .object "SpeaksInTurn"
  | 2 => .object "SpeaksInTurn"
  | _ => .object "SpeaksInTurn"
abbrev wsX200 : List Cond := u_ws RX20 TX20 4
theorem tyX20_ok : ∀ k, k < 4 → parseFieldDescriptor (TX20 k).2.2.1 = some (tyX20 k) := by decide +kernel
def RX21 : String := "SpeaksInTurn$Stopped"
def TX21 : u_T := fun k => match k with
  | 0 => ("SpeaksInTurn$Plain", "number", "I", true)
  | 1 => ("SpeaksInTurn$Plain", "this$0", "LSpeaksInTurn;", true)
  | _ => ("SpeaksInTurn$Stopped", "this$0", "LSpeaksInTurn;", true)
def tyX21 : Nat → FieldType := fun k => match k with
  | 0 => .int
  | 1 => .object "SpeaksInTurn"
  | _ => .object "SpeaksInTurn"
abbrev wsX210 : List Cond := u_ws RX21 TX21 3
theorem tyX21_ok : ∀ k, k < 3 → parseFieldDescriptor (TX21 k).2.2.1 = some (tyX21 k) := by decide +kernel
def RX22 : String := "SpeaksInTurn$Taken"
def TX22 : u_T := fun k => match k with
  | 0 => ("SpeaksInTurn$Plain", "number", "I", true)
  | 1 => ("SpeaksInTurn$Plain", "this$0", "LSpeaksInTurn;", true)
  | 2 => ("SpeaksInTurn$Shared", "this$0", "LSpeaksInTurn;", true)
  | 3 => ("SpeaksInTurn$Again", "this$0", "LSpeaksInTurn;", true)
  | _ => ("SpeaksInTurn$Taken", "this$0", "LSpeaksInTurn;", true)
def tyX22 : Nat → FieldType := fun k => match k with
  | 0 => .int
  | 1 => .object "SpeaksInTurn"
  | 2 => .object "SpeaksInTurn"
  | 3 => .object "SpeaksInTurn"
  | _ => .object "SpeaksInTurn"
abbrev wsX220 : List Cond := u_ws RX22 TX22 5
theorem tyX22_ok : ∀ k, k < 5 → parseFieldDescriptor (TX22 k).2.2.1 = some (tyX22 k) := by decide +kernel
def RX23 : String := "SpeaksInTurn$Easy"
def TX23 : u_T := fun k => match k with
  | 0 => ("SpeaksInTurn$Plain", "number", "I", true)
  | 1 => ("SpeaksInTurn$Plain", "this$0", "LSpeaksInTurn;", true)
  | _ => ("SpeaksInTurn$Easy", "this$0", "LSpeaksInTurn;", true)
def tyX23 : Nat → FieldType := fun k => match k with
  | 0 => .int
  | 1 => .object "SpeaksInTurn"
  | _ => .object "SpeaksInTurn"
abbrev wsX230 : List Cond := u_ws RX23 TX23 3
theorem tyX23_ok : ∀ k, k < 3 → parseFieldDescriptor (TX23 k).2.2.1 = some (tyX23 k) := by decide +kernel
def RX24 : String := "SpeaksInTurn$Unheard"
def TX24 : u_T := fun k => match k with
  | 0 => ("SpeaksInTurn$Plain", "number", "I", true)
  | 1 => ("SpeaksInTurn$Plain", "this$0", "LSpeaksInTurn;", true)
  | 2 => ("SpeaksInTurn$Stopped", "this$0", "LSpeaksInTurn;", true)
  | _ => ("SpeaksInTurn$Unheard", "this$0", "LSpeaksInTurn;", true)
def tyX24 : Nat → FieldType := fun k => match k with
  | 0 => .int
  | 1 => .object "SpeaksInTurn"
  | 2 => .object "SpeaksInTurn"
  | _ => .object "SpeaksInTurn"
abbrev wsX240 : List Cond := u_ws RX24 TX24 4
theorem tyX24_ok : ∀ k, k < 4 → parseFieldDescriptor (TX24 k).2.2.1 = some (tyX24 k) := by decide +kernel
def RX25 : String := "SpeaksInTurn$Row"
def RX26 : String := "SpeaksInTurn$ByteRow"
def TX26 : u_T := fun k => match k with
  | _ => ("SpeaksInTurn$ByteRow", "items", "[B", true)
def tyX26 : Nat → FieldType := fun k => match k with
  | _ => .array .byte
abbrev wsX260 : List Cond := u_ws RX26 TX26 1
theorem nmX26 : ∀ a, a < 1 → ∀ b, b < 1 → a ≠ b → (TX26 a).2.1 ≠ (TX26 b).2.1 := by decide +kernel
theorem tyX26_ok : ∀ k, k < 1 → parseFieldDescriptor (TX26 k).2.2.1 = some (tyX26 k) := by decide +kernel
def RX27 : String := "SpeaksInTurn$ShortRow"
def TX27 : u_T := fun k => match k with
  | _ => ("SpeaksInTurn$ShortRow", "items", "[S", true)
def tyX27 : Nat → FieldType := fun k => match k with
  | _ => .array .short
abbrev wsX270 : List Cond := u_ws RX27 TX27 1
theorem nmX27 : ∀ a, a < 1 → ∀ b, b < 1 → a ≠ b → (TX27 a).2.1 ≠ (TX27 b).2.1 := by decide +kernel
theorem tyX27_ok : ∀ k, k < 1 → parseFieldDescriptor (TX27 k).2.2.1 = some (tyX27 k) := by decide +kernel
def RX28 : String := "SpeaksInTurn$IntRow"
def TX28 : u_T := fun k => match k with
  | _ => ("SpeaksInTurn$IntRow", "items", "[I", true)
def tyX28 : Nat → FieldType := fun k => match k with
  | _ => .array .int
abbrev wsX280 : List Cond := u_ws RX28 TX28 1
theorem nmX28 : ∀ a, a < 1 → ∀ b, b < 1 → a ≠ b → (TX28 a).2.1 ≠ (TX28 b).2.1 := by decide +kernel
theorem tyX28_ok : ∀ k, k < 1 → parseFieldDescriptor (TX28 k).2.2.1 = some (tyX28 k) := by decide +kernel
def RX29 : String := "SpeaksInTurn$LongRow"
def TX29 : u_T := fun k => match k with
  | _ => ("SpeaksInTurn$LongRow", "items", "[J", true)
def tyX29 : Nat → FieldType := fun k => match k with
  | _ => .array .long
abbrev wsX290 : List Cond := u_ws RX29 TX29 1
theorem nmX29 : ∀ a, a < 1 → ∀ b, b < 1 → a ≠ b → (TX29 a).2.1 ≠ (TX29 b).2.1 := by decide +kernel
theorem tyX29_ok : ∀ k, k < 1 → parseFieldDescriptor (TX29 k).2.2.1 = some (tyX29 k) := by decide +kernel
def RX3 : String := "SpeaksInTurnModel"
def TX3 : u_T := fun k => match k with
  | 0 => ("SpeaksInTurnModel", "may", "[I", true)
  | 1 => ("SpeaksInTurnModel", "changeAt", "[I", true)
  | 2 => ("SpeaksInTurnModel", "changeWas", "[I", true)
  | 3 => ("SpeaksInTurnModel", "changeIs", "[I", true)
  | 4 => ("SpeaksInTurnModel", "keptMany", "I", false)
  | 5 => ("SpeaksInTurnModel", "done", "I", false)
  | 6 => ("SpeaksInTurnModel", "people", "I", false)
  | 7 => ("SpeaksInTurnModel", "wage", "[I", true)
  | 8 => ("SpeaksInTurnModel", "things", "I", false)
  | 9 => ("SpeaksInTurnModel", "cards", "I", false)
  | 10 => ("SpeaksInTurnModel", "thingOf", "[I", true)
  | 11 => ("SpeaksInTurnModel", "counts", "[I", true)
  | 12 => ("SpeaksInTurnModel", "knownBy", "[I", true)
  | 13 => ("SpeaksInTurnModel", "rule", "I", false)
  | 14 => ("SpeaksInTurnModel", "standing", "I", false)
  | 15 => ("SpeaksInTurnModel", "timer", "I", false)
  | 16 => ("SpeaksInTurnModel", "tape", "[I", true)
  | 17 => ("SpeaksInTurnModel", "tapeMany", "I", false)
  | 18 => ("SpeaksInTurnModel", "text", "[I", true)
  | 19 => ("SpeaksInTurnModel", "textMany", "I", false)
  | 20 => ("SpeaksInTurnModel", "base", "I", false)
  | 21 => ("SpeaksInTurnModel", "at", "I", false)
  | 22 => ("SpeaksInTurnModel", "ends", "I", false)
  | 23 => ("SpeaksInTurnModel", "fault", "I", false)
  | 24 => ("SpeaksInTurnModel", "opened", "I", false)
  | 25 => ("SpeaksInTurnModel", "names", "[I", true)
  | 26 => ("SpeaksInTurnModel", "ruleNow", "I", false)
  | 27 => ("SpeaksInTurnModel", "timerNow", "I", false)
  | 28 => ("SpeaksInTurnModel", "never", "I", false)
  | 29 => ("SpeaksInTurnModel", "minute", "I", false)
  | 30 => ("SpeaksInTurnModel", "sayings", "I", false)
  | 31 => ("SpeaksInTurnModel", "last", "I", false)
  | 32 => ("SpeaksInTurnModel", "spoken", "[I", true)
  | 33 => ("SpeaksInTurnModel", "wish", "[I", true)
  | 34 => ("SpeaksInTurnModel", "stoppedBy", "[I", true)
  | 35 => ("SpeaksInTurnModel", "firstWho", "[I", true)
  | 36 => ("SpeaksInTurnModel", "firstIn", "[I", true)
  | 37 => ("SpeaksInTurnModel", "thingMinutes", "[I", true)
  | 38 => ("SpeaksInTurnModel", "order1", "[I", true)
  | 39 => ("SpeaksInTurnModel", "sayWho", "[I", true)
  | 40 => ("SpeaksInTurnModel", "sayThing", "[I", true)
  | 41 => ("SpeaksInTurnModel", "sayAt", "[I", true)
  | 42 => ("SpeaksInTurnModel", "sayLong", "[I", true)
  | 43 => ("SpeaksInTurnModel", "sayNew", "[I", true)
  | 44 => ("SpeaksInTurnModel", "sayAgain", "[I", true)
  | 45 => ("SpeaksInTurnModel", "sayStop", "[I", true)
  | 46 => ("SpeaksInTurnModel", "keptSayings", "I", false)
  | 47 => ("SpeaksInTurnModel", "keptPeople", "I", false)
  | 48 => ("SpeaksInTurnModel", "keptThings", "I", false)
  | 49 => ("SpeaksInTurnModel", "keptCards", "I", false)
  | 50 => ("SpeaksInTurnModel", "keptTold", "[I", true)
  | 51 => ("SpeaksInTurnModel", "keptWho", "[I", true)
  | 52 => ("SpeaksInTurnModel", "keptThing", "[I", true)
  | 53 => ("SpeaksInTurnModel", "keptAt", "[I", true)
  | 54 => ("SpeaksInTurnModel", "keptLong", "[I", true)
  | 55 => ("SpeaksInTurnModel", "keptNew", "[I", true)
  | 56 => ("SpeaksInTurnModel", "keptAgain", "[I", true)
  | 57 => ("SpeaksInTurnModel", "keptStop", "[I", true)
  | 58 => ("SpeaksInTurnModel", "keptMinutes", "[I", true)
  | 59 => ("SpeaksInTurnModel", "keptComes", "[I", true)
  | 60 => ("SpeaksInTurnModel", "keptFirst", "[I", true)
  | 61 => ("SpeaksInTurnModel", "keptIn", "[I", true)
  | 62 => ("SpeaksInTurnModel", "keptThere", "[I", true)
  | 63 => ("SpeaksInTurnModel", "bestOne", "I", false)
  | 64 => ("SpeaksInTurnModel", "bestWrong", "I", false)
  | 65 => ("SpeaksInTurnModel", "bestCost", "I", false)
  | 66 => ("SpeaksInTurnModel", "bodies", "I", false)
  | 67 => ("SpeaksInTurnModel", "bodyKind", "[I", true)
  | 68 => ("SpeaksInTurnModel", "trace", "[I", true)
  | 69 => ("SpeaksInTurnModel", "ran", "I", false)
  | 70 => ("SpeaksInTurnModel", "ownKind", "I", false)
  | 71 => ("SpeaksInTurnModel", "ownNumber", "I", false)
  | 72 => ("SpeaksInTurnModel", "shelf", "[I", true)
  | 73 => ("SpeaksInTurnModel", "many", "[I", true)
  | 74 => ("SpeaksInTurnModel", "items", "[J", true)
  | _ => ("SpeaksInTurnModel", "carried", "[J", true)
def tyX3 : Nat → FieldType := fun k => match k with
  | 0 => .array .int
  | 1 => .array .int
  | 2 => .array .int
  | 3 => .array .int
  | 4 => .int
  | 5 => .int
  | 6 => .int
  | 7 => .array .int
  | 8 => .int
  | 9 => .int
  | 10 => .array .int
  | 11 => .array .int
  | 12 => .array .int
  | 13 => .int
  | 14 => .int
  | 15 => .int
  | 16 => .array .int
  | 17 => .int
  | 18 => .array .int
  | 19 => .int
  | 20 => .int
  | 21 => .int
  | 22 => .int
  | 23 => .int
  | 24 => .int
  | 25 => .array .int
  | 26 => .int
  | 27 => .int
  | 28 => .int
  | 29 => .int
  | 30 => .int
  | 31 => .int
  | 32 => .array .int
  | 33 => .array .int
  | 34 => .array .int
  | 35 => .array .int
  | 36 => .array .int
  | 37 => .array .int
  | 38 => .array .int
  | 39 => .array .int
  | 40 => .array .int
  | 41 => .array .int
  | 42 => .array .int
  | 43 => .array .int
  | 44 => .array .int
  | 45 => .array .int
  | 46 => .int
  | 47 => .int
  | 48 => .int
  | 49 => .int
  | 50 => .array .int
  | 51 => .array .int
  | 52 => .array .int
  | 53 => .array .int
  | 54 => .array .int
  | 55 => .array .int
  | 56 => .array .int
  | 57 => .array .int
  | 58 => .array .int
  | 59 => .array .int
  | 60 => .array .int
  | 61 => .array .int
  | 62 => .array .int
  | 63 => .int
  | 64 => .int
  | 65 => .int
  | 66 => .int
  | 67 => .array .int
  | 68 => .array .int
  | 69 => .int
  | 70 => .int
  | 71 => .int
  | 72 => .array .int
  | 73 => .array .int
  | 74 => .array .long
  | _ => .array .long
abbrev wsX30 : List Cond := u_ws RX3 TX3 76
set_option maxRecDepth 100000 in
theorem nmX3 : ∀ a, a < 76 → ∀ b, b < 76 → a ≠ b → (TX3 a).2.1 ≠ (TX3 b).2.1 := by decide +kernel
set_option maxRecDepth 100000 in
theorem tyX3_ok : ∀ k, k < 76 → parseFieldDescriptor (TX3 k).2.2.1 = some (tyX3 k) := by decide +kernel
def RX30 : String := "SpeaksInTurn$BooleanRow"
def TX30 : u_T := fun k => match k with
  | _ => ("SpeaksInTurn$BooleanRow", "items", "[Z", true)
def tyX30 : Nat → FieldType := fun k => match k with
  | _ => .array .boolean
abbrev wsX300 : List Cond := u_ws RX30 TX30 1
theorem nmX30 : ∀ a, a < 1 → ∀ b, b < 1 → a ≠ b → (TX30 a).2.1 ≠ (TX30 b).2.1 := by decide +kernel
theorem tyX30_ok : ∀ k, k < 1 → parseFieldDescriptor (TX30 k).2.2.1 = some (tyX30 k) := by decide +kernel
def RX4 : String := "SpeaksInTurn$Person"
def TX4 : u_T := fun k => match k with
  | 0 => ("SpeaksInTurn$Person", "wage", "I", true)
  | 1 => ("SpeaksInTurn$Person", "rank", "I", false)
  | 2 => ("SpeaksInTurn$Person", "voice", "I", false)
  | _ => ("SpeaksInTurn$Person", "late", "I", false)
def tyX4 : Nat → FieldType := fun k => match k with
  | 0 => .int
  | 1 => .int
  | 2 => .int
  | _ => .int
abbrev wsX40 : List Cond := u_ws RX4 TX4 4
theorem nmX4 : ∀ a, a < 4 → ∀ b, b < 4 → a ≠ b → (TX4 a).2.1 ≠ (TX4 b).2.1 := by decide +kernel
theorem tyX4_ok : ∀ k, k < 4 → parseFieldDescriptor (TX4 k).2.2.1 = some (tyX4 k) := by decide +kernel
def RX5 : String := "SpeaksInTurn$Thing"
def TX5 : u_T := fun k => match k with
  | 0 => ("SpeaksInTurn$Thing", "worth", "I", false)
  | _ => ("SpeaksInTurn$Thing", "easy", "I", false)
def tyX5 : Nat → FieldType := fun k => match k with
  | 0 => .int
  | _ => .int
abbrev wsX50 : List Cond := u_ws RX5 TX5 2
theorem nmX5 : ∀ a, a < 2 → ∀ b, b < 2 → a ≠ b → (TX5 a).2.1 ≠ (TX5 b).2.1 := by decide +kernel
theorem tyX5_ok : ∀ k, k < 2 → parseFieldDescriptor (TX5 k).2.2.1 = some (tyX5 k) := by decide +kernel
def RX6 : String := "SpeaksInTurn$Card"
def TX6 : u_T := fun k => match k with
  | 0 => ("SpeaksInTurn$Card", "thing", "I", true)
  | 1 => ("SpeaksInTurn$Card", "counts", "I", true)
  | _ => ("SpeaksInTurn$Card", "known", "I", true)
def tyX6 : Nat → FieldType := fun k => match k with
  | 0 => .int
  | 1 => .int
  | _ => .int
abbrev wsX60 : List Cond := u_ws RX6 TX6 3
theorem nmX6 : ∀ a, a < 3 → ∀ b, b < 3 → a ≠ b → (TX6 a).2.1 ≠ (TX6 b).2.1 := by decide +kernel
theorem tyX6_ok : ∀ k, k < 3 → parseFieldDescriptor (TX6 k).2.2.1 = some (tyX6 k) := by decide +kernel
def RX7 : String := "SpeaksInTurn$Reader"
def TX7 : u_T := fun k => match k with
  | 0 => ("SpeaksInTurn$Reader", "at", "I", false)
  | 1 => ("SpeaksInTurn$Reader", "fault", "I", false)
  | 2 => ("SpeaksInTurn$Reader", "open", "I", false)
  | _ => ("SpeaksInTurn$Reader", "this$0", "LSpeaksInTurn;", true)
def tyX7 : Nat → FieldType := fun k => match k with
  | 0 => .int
  | 1 => .int
  | 2 => .int
  | _ => .object "SpeaksInTurn"
abbrev wsX70 : List Cond := u_ws RX7 TX7 4
theorem nmX7 : ∀ a, a < 4 → ∀ b, b < 4 → a ≠ b → (TX7 a).2.1 ≠ (TX7 b).2.1 := by decide +kernel
theorem tyX7_ok : ∀ k, k < 4 → parseFieldDescriptor (TX7 k).2.2.1 = some (tyX7 k) := by decide +kernel
def RX8 : String := "SpeaksInTurn$Line"
def TX8 : u_T := fun k => match k with
  | 0 => ("SpeaksInTurn$Line", "test", "LSpeaksInTurn$Node;", false)
  | 1 => ("SpeaksInTurn$Line", "gives", "LSpeaksInTurn$Node;", false)
  | _ => ("SpeaksInTurn$Line", "next", "LSpeaksInTurn$Line;", false)
def tyX8 : Nat → FieldType := fun k => match k with
  | 0 => .object "SpeaksInTurn$Node"
  | 1 => .object "SpeaksInTurn$Node"
  | _ => .object "SpeaksInTurn$Line"
abbrev wsX80 : List Cond := u_ws RX8 TX8 3
theorem nmX8 : ∀ a, a < 3 → ∀ b, b < 3 → a ≠ b → (TX8 a).2.1 ≠ (TX8 b).2.1 := by decide +kernel
theorem tyX8_ok : ∀ k, k < 3 → parseFieldDescriptor (TX8 k).2.2.1 = some (tyX8 k) := by decide +kernel
def RX9 : String := "SpeaksInTurn$Node"
theorem in_J0 : ∀ w ∈ wsJ00, w ∈ lw_all := lw_in wsJ00 [554, 555, 556, 557, 558] (by decide +kernel) (by decide +kernel)
theorem in_J14 : ∀ w ∈ wsJ140, w ∈ lw_all := lw_in wsJ140 [1434, 1435, 1436, 1437, 1438, 1439] (by decide +kernel) (by decide +kernel)
theorem in_J3 : ∀ w ∈ wsJ30, w ∈ lw_all := lw_in wsJ30 [533, 535, 537, 539, 541, 543] (by decide +kernel) (by decide +kernel)
theorem in_J4 : ∀ w ∈ wsJ40, w ∈ lw_all := lw_in wsJ40 [564, 566] (by decide +kernel) (by decide +kernel)
theorem in_J5 : ∀ w ∈ wsJ50, w ∈ lw_all := lw_in wsJ50 [584, 585, 586, 587, 588, 589, 580, 582] (by decide +kernel) (by decide +kernel)
theorem in_J7 : ∀ w ∈ wsJ70, w ∈ lw_all := lw_in wsJ70 [601, 602, 603, 604, 605, 606] (by decide +kernel) (by decide +kernel)
theorem in_X0 : ∀ w ∈ wsX00, w ∈ lw_all := lw_in wsX00 [323, 325, 327, 329, 331, 333, 335, 337, 339, 341, 343, 345, 347, 349, 351, 353, 355, 357, 359, 361, 363, 365, 367, 369, 371, 373, 375, 377, 379, 381, 383, 385, 387, 389] (by decide +kernel) (by decide +kernel)
theorem in_X1 : ∀ w ∈ wsX10, w ∈ lw_all := lw_in wsX10 [182] (by decide +kernel) (by decide +kernel)
theorem in_X10 : ∀ w ∈ wsX100, w ∈ lw_all := lw_in wsX100 [859] (by decide +kernel) (by decide +kernel)
theorem in_X11 : ∀ w ∈ wsX110, w ∈ lw_all := lw_in wsX110 [877] (by decide +kernel) (by decide +kernel)
theorem in_X12 : ∀ w ∈ wsX120, w ∈ lw_all := lw_in wsX120 [887] (by decide +kernel) (by decide +kernel)
theorem in_X13 : ∀ w ∈ wsX130, w ∈ lw_all := lw_in wsX130 [898] (by decide +kernel) (by decide +kernel)
theorem in_X14 : ∀ w ∈ wsX140, w ∈ lw_all := lw_in wsX140 [915, 917, 919] (by decide +kernel) (by decide +kernel)
theorem in_X15 : ∀ w ∈ wsX150, w ∈ lw_all := lw_in wsX150 [666, 668, 670, 672] (by decide +kernel) (by decide +kernel)
theorem in_X17 : ∀ w ∈ wsX170, w ∈ lw_all := lw_in wsX170 [1268, 1269] (by decide +kernel) (by decide +kernel)
theorem in_X18 : ∀ w ∈ wsX180, w ∈ lw_all := lw_in wsX180 [1185, 1187, 1183] (by decide +kernel) (by decide +kernel)
theorem in_X19 : ∀ w ∈ wsX190, w ∈ lw_all := lw_in wsX190 [1199, 1200, 1197] (by decide +kernel) (by decide +kernel)
theorem in_X2 : ∀ w ∈ wsX20, w ∈ lw_all := lw_in wsX20 [231, 233, 235, 237, 239, 241, 243, 245, 247, 249, 251, 253, 255, 257, 259, 261, 263, 265, 267, 269, 271, 273] (by decide +kernel) (by decide +kernel)
theorem in_X20 : ∀ w ∈ wsX200, w ∈ lw_all := lw_in wsX200 [1212, 1213, 1211, 1209] (by decide +kernel) (by decide +kernel)
theorem in_X21 : ∀ w ∈ wsX210, w ∈ lw_all := lw_in wsX210 [1224, 1225, 1222] (by decide +kernel) (by decide +kernel)
theorem in_X22 : ∀ w ∈ wsX220, w ∈ lw_all := lw_in wsX220 [1238, 1239, 1237, 1236, 1234] (by decide +kernel) (by decide +kernel)
theorem in_X23 : ∀ w ∈ wsX230, w ∈ lw_all := lw_in wsX230 [1250, 1251, 1248] (by decide +kernel) (by decide +kernel)
theorem in_X24 : ∀ w ∈ wsX240, w ∈ lw_all := lw_in wsX240 [1263, 1264, 1262, 1260] (by decide +kernel) (by decide +kernel)
theorem in_X26 : ∀ w ∈ wsX260, w ∈ lw_all := lw_in wsX260 [1455] (by decide +kernel) (by decide +kernel)
theorem in_X27 : ∀ w ∈ wsX270, w ∈ lw_all := lw_in wsX270 [1464] (by decide +kernel) (by decide +kernel)
theorem in_X28 : ∀ w ∈ wsX280, w ∈ lw_all := lw_in wsX280 [1475] (by decide +kernel) (by decide +kernel)
theorem in_X29 : ∀ w ∈ wsX290, w ∈ lw_all := lw_in wsX290 [1485] (by decide +kernel) (by decide +kernel)
theorem in_X3 : ∀ w ∈ wsX30, w ∈ lw_all := lw_in wsX30 [1714, 1716, 1718, 1720, 1722, 1724, 1726, 1728, 1730, 1732, 1734, 1736, 1738, 1740, 1742, 1744, 1746, 1748, 1750, 1752, 1754, 1756, 1758, 1760, 1762, 1764, 1766, 1768, 1770, 1772, 1774, 1776, 1778, 1780, 1782, 1784, 1786, 1788, 1790, 1792, 1794, 1796, 1798, 1800, 1802, 1804, 1806, 1808, 1810, 1812, 1814, 1816, 1818, 1820, 1822, 1824, 1826, 1828, 1830, 1832, 1834, 1836, 1838, 1840, 1842, 1844, 1846, 1848, 1850, 1852, 1854, 1856, 1858, 1860, 1862, 1864] (by decide +kernel) (by decide +kernel)
theorem in_X30 : ∀ w ∈ wsX300, w ∈ lw_all := lw_in wsX300 [1496] (by decide +kernel) (by decide +kernel)
theorem in_X4 : ∀ w ∈ wsX40, w ∈ lw_all := lw_in wsX40 [416, 418, 420, 422] (by decide +kernel) (by decide +kernel)
theorem in_X5 : ∀ w ∈ wsX50, w ∈ lw_all := lw_in wsX50 [439, 441] (by decide +kernel) (by decide +kernel)
theorem in_X6 : ∀ w ∈ wsX60, w ∈ lw_all := lw_in wsX60 [473, 475, 477] (by decide +kernel) (by decide +kernel)
theorem in_X7 : ∀ w ∈ wsX70, w ∈ lw_all := lw_in wsX70 [694, 696, 698, 700] (by decide +kernel) (by decide +kernel)
theorem in_X8 : ∀ w ∈ wsX80, w ∈ lw_all := lw_in wsX80 [723, 725, 727] (by decide +kernel) (by decide +kernel)
