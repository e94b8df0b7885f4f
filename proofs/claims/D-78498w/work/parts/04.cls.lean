set_option maxRecDepth 100000
/-! BridgeAuctionLaw -/
def RX0 : String := "BridgeAuctionLaw"
/-! BridgeAuction -/
def RX1 : String := "BridgeAuction"
def TX1 : u_T := fun k => match k with
  | 0 => ("BridgeAuction", "current", "LBridgeAuction$Network;", false)
  | 1 => ("BridgeAuction", "saved", "[LBridgeAuction$Network;", true)
  | 2 => ("BridgeAuction", "depth", "I", false)
  | 3 => ("BridgeAuction", "script", "[B", true)
  | _ => ("BridgeAuction", "scriptLength", "I", false)
def tyX1 : Nat → FieldType := fun k => match k with
  | 0 => .object "BridgeAuction$Network"
  | 1 => .array (.object "BridgeAuction$Network")
  | 2 => .int
  | 3 => .array .byte
  | _ => .int
abbrev wsX10 : List Cond := u_ws RX1 TX1 5
theorem nmX1 : ∀ a, a < 5 → ∀ b, b < 5 → a ≠ b → (TX1 a).2.1 ≠ (TX1 b).2.1 := by decide +kernel
theorem tyX1_ok : ∀ k, k < 5 → parseFieldDescriptor (TX1 k).2.2.1 = some (tyX1 k) := by decide +kernel
/-! BridgeAuction$Network -/
def RX2 : String := "BridgeAuction$Network"
def TX2 : u_T := fun k => match k with
  | 0 => ("BridgeAuction$Network", "bridges", "Ljava/util/ArrayList;", true)
  | 1 => ("BridgeAuction$Network", "links", "Ljava/util/ArrayList;", true)
  | 2 => ("BridgeAuction$Network", "places", "[I", true)
  | 3 => ("BridgeAuction$Network", "credits", "[I", true)
  | 4 => ("BridgeAuction$Network", "paid", "[I", true)
  | 5 => ("BridgeAuction$Network", "refunded", "[I", true)
  | 6 => ("BridgeAuction$Network", "time", "I", false)
  | 7 => ("BridgeAuction$Network", "delay", "I", false)
  | 8 => ("BridgeAuction$Network", "interval", "I", false)
  | 9 => ("BridgeAuction$Network", "hysteresis", "I", false)
  | 10 => ("BridgeAuction$Network", "auctions", "I", false)
  | 11 => ("BridgeAuction$Network", "changes", "I", false)
  | 12 => ("BridgeAuction$Network", "frames", "I", false)
  | 13 => ("BridgeAuction$Network", "delivered", "I", false)
  | _ => ("BridgeAuction$Network", "used", "I", false)
def tyX2 : Nat → FieldType := fun k => match k with
  | 0 => .object "java/util/ArrayList"
  | 1 => .object "java/util/ArrayList"
  | 2 => .array .int
  | 3 => .array .int
  | 4 => .array .int
  | 5 => .array .int
  | 6 => .int
  | 7 => .int
  | 8 => .int
  | 9 => .int
  | 10 => .int
  | 11 => .int
  | 12 => .int
  | 13 => .int
  | _ => .int
abbrev wsX20 : List Cond := u_ws RX2 TX2 15
set_option maxRecDepth 100000 in
theorem nmX2 : ∀ a, a < 15 → ∀ b, b < 15 → a ≠ b → (TX2 a).2.1 ≠ (TX2 b).2.1 := by decide +kernel
set_option maxRecDepth 100000 in
theorem tyX2_ok : ∀ k, k < 15 → parseFieldDescriptor (TX2 k).2.2.1 = some (tyX2 k) := by decide +kernel
/-! java/util/AbstractCollection -/
def RJ0 : String := "java/util/AbstractCollection"
/-! java/util/AbstractList -/
def RJ1 : String := "java/util/AbstractList"
/-! java/util/ArrayList -/
def RJ2 : String := "java/util/ArrayList"
def TJ2 : u_T := fun k => match k with
  | 0 => ("java/util/AbstractList", "modCount", "I", false)
  | 1 => ("java/util/ArrayList", "elementData", "[Ljava/lang/Object;", false)
  | _ => ("java/util/ArrayList", "size", "I", false)
def tyJ2 : Nat → FieldType := fun k => match k with
  | 0 => .int
  | 1 => .array (.object "java/lang/Object")
  | _ => .int
abbrev wsJ20 : List Cond := u_ws RJ2 TJ2 3
theorem nmJ2 : ∀ a, a < 3 → ∀ b, b < 3 → a ≠ b → (TJ2 a).2.1 ≠ (TJ2 b).2.1 := by decide +kernel
theorem tyJ2_ok : ∀ k, k < 3 → parseFieldDescriptor (TJ2 k).2.2.1 = some (tyJ2 k) := by decide +kernel
/-! BridgeAuction$Bridge -/
def RX3 : String := "BridgeAuction$Bridge"
def TX3 : u_T := fun k => match k with
  | 0 => ("BridgeAuction$Bridge", "number", "I", true)
  | 1 => ("BridgeAuction$Bridge", "priority", "I", false)
  | 2 => ("BridgeAuction$Bridge", "vector", "LBridgeAuction$Vector;", false)
  | 3 => ("BridgeAuction$Bridge", "next", "LBridgeAuction$Vector;", false)
  | 4 => ("BridgeAuction$Bridge", "entries", "[I", true)
  | _ => ("BridgeAuction$Bridge", "made", "[I", true)
def tyX3 : Nat → FieldType := fun k => match k with
  | 0 => .int
  | 1 => .int
  | 2 => .object "BridgeAuction$Vector"
  | 3 => .object "BridgeAuction$Vector"
  | 4 => .array .int
  | _ => .array .int
abbrev wsX30 : List Cond := u_ws RX3 TX3 6
theorem nmX3 : ∀ a, a < 6 → ∀ b, b < 6 → a ≠ b → (TX3 a).2.1 ≠ (TX3 b).2.1 := by decide +kernel
theorem tyX3_ok : ∀ k, k < 6 → parseFieldDescriptor (TX3 k).2.2.1 = some (tyX3 k) := by decide +kernel
/-! BridgeAuction$Vector -/
def RX4 : String := "BridgeAuction$Vector"
def TX4 : u_T := fun k => match k with
  | 0 => ("BridgeAuction$Vector", "root", "I", true)
  | 1 => ("BridgeAuction$Vector", "cost", "I", true)
  | 2 => ("BridgeAuction$Vector", "teller", "I", true)
  | 3 => ("BridgeAuction$Vector", "age", "I", true)
  | _ => ("BridgeAuction$Vector", "link", "I", true)
def tyX4 : Nat → FieldType := fun k => match k with
  | 0 => .int
  | 1 => .int
  | 2 => .int
  | 3 => .int
  | _ => .int
abbrev wsX40 : List Cond := u_ws RX4 TX4 5
theorem nmX4 : ∀ a, a < 5 → ∀ b, b < 5 → a ≠ b → (TX4 a).2.1 ≠ (TX4 b).2.1 := by decide +kernel
theorem tyX4_ok : ∀ k, k < 5 → parseFieldDescriptor (TX4 k).2.2.1 = some (tyX4 k) := by decide +kernel
/-! java/util/Arrays -/
def RJ3 : String := "java/util/Arrays"
/-! jdk/internal/util/ArraysSupport -/
def RJ4 : String := "jdk/internal/util/ArraysSupport"
/-! java/lang/Math -/
def RJ5 : String := "java/lang/Math"
/-! BridgeAuctionModel -/
def RX5 : String := "BridgeAuctionModel"
def TX5 : u_T := fun k => match k with
  | 0 => ("BridgeAuctionModel", "s", "[I", true)
  | 1 => ("BridgeAuctionModel", "past", "[I", true)
  | 2 => ("BridgeAuctionModel", "aside", "[I", true)
  | 3 => ("BridgeAuctionModel", "pasts", "I", false)
  | 4 => ("BridgeAuctionModel", "script", "[I", true)
  | 5 => ("BridgeAuctionModel", "typed", "I", false)
  | 6 => ("BridgeAuctionModel", "thrown", "I", false)
  | 7 => ("BridgeAuctionModel", "answer", "I", false)
  | 8 => ("BridgeAuctionModel", "fresh", "[I", true)
  | 9 => ("BridgeAuctionModel", "queue", "[I", true)
  | 10 => ("BridgeAuctionModel", "cameBy", "[I", true)
  | 11 => ("BridgeAuctionModel", "at", "I", false)
  | 12 => ("BridgeAuctionModel", "word", "I", false)
  | 13 => ("BridgeAuctionModel", "numbers", "[I", true)
  | _ => ("BridgeAuctionModel", "h", "J", false)
def tyX5 : Nat → FieldType := fun k => match k with
  | 0 => .array .int
  | 1 => .array .int
  | 2 => .array .int
  | 3 => .int
  | 4 => .array .int
  | 5 => .int
  | 6 => .int
  | 7 => .int
  | 8 => .array .int
  | 9 => .array .int
  | 10 => .array .int
  | 11 => .int
  | 12 => .int
  | 13 => .array .int
  | _ => .long
abbrev wsX50 : List Cond := u_ws RX5 TX5 15
set_option maxRecDepth 100000 in
theorem nmX5 : ∀ a, a < 15 → ∀ b, b < 15 → a ≠ b → (TX5 a).2.1 ≠ (TX5 b).2.1 := by decide +kernel
set_option maxRecDepth 100000 in
theorem tyX5_ok : ∀ k, k < 15 → parseFieldDescriptor (TX5 k).2.2.1 = some (tyX5 k) := by decide +kernel
/-! java/lang/Throwable -/
def RJ6 : String := "java/lang/Throwable"
def TJ6 : u_T := fun k => match k with
  | 0 => ("java/lang/Throwable", "cause", "Ljava/lang/Throwable;", false)
  | 1 => ("java/lang/Throwable", "stackTrace", "[Ljava/lang/StackTraceElement;", false)
  | 2 => ("java/lang/Throwable", "suppressedExceptions", "Ljava/util/List;", false)
  | 3 => ("java/lang/Throwable", "detailMessage", "Ljava/lang/String;", false)
  | _ => ("java/lang/Throwable", "backtrace", "Ljava/lang/Object;", false)
def tyJ6 : Nat → FieldType := fun k => match k with
  | 0 => .object "java/lang/Throwable"
  | 1 => .array (.object "java/lang/StackTraceElement")
  | 2 => .object "java/util/List"
  | 3 => .object "java/lang/String"
  | _ => .object "java/lang/Object"
abbrev wsJ60 : List Cond := u_ws RJ6 TJ6 5
theorem nmJ6 : ∀ a, a < 5 → ∀ b, b < 5 → a ≠ b → (TJ6 a).2.1 ≠ (TJ6 b).2.1 := by decide +kernel
theorem tyJ6_ok : ∀ k, k < 5 → parseFieldDescriptor (TJ6 k).2.2.1 = some (tyJ6 k) := by decide +kernel
/-! java/lang/Exception -/
def RJ7 : String := "java/lang/Exception"
/-! java/lang/RuntimeException -/
def RJ8 : String := "java/lang/RuntimeException"
/-! java/lang/IllegalArgumentException -/
def RJ9 : String := "java/lang/IllegalArgumentException"
def TJ9 : u_T := fun k => match k with
  | 0 => ("java/lang/Throwable", "cause", "Ljava/lang/Throwable;", false)
  | 1 => ("java/lang/Throwable", "stackTrace", "[Ljava/lang/StackTraceElement;", false)
  | 2 => ("java/lang/Throwable", "suppressedExceptions", "Ljava/util/List;", false)
  | 3 => ("java/lang/Throwable", "detailMessage", "Ljava/lang/String;", false)
  | 4 => ("java/lang/Throwable", "backtrace", "Ljava/lang/Object;", false)
  | _ => ("java/lang/Throwable", "depth", "I", false)
def tyJ9 : Nat → FieldType := fun k => match k with
  | 0 => .object "java/lang/Throwable"
  | 1 => .array (.object "java/lang/StackTraceElement")
  | 2 => .object "java/util/List"
  | 3 => .object "java/lang/String"
  | 4 => .object "java/lang/Object"
  | _ => .int
abbrev wsJ90 : List Cond := u_ws RJ9 TJ9 6
theorem nmJ9 : ∀ a, a < 6 → ∀ b, b < 6 → a ≠ b → (TJ9 a).2.1 ≠ (TJ9 b).2.1 := by decide +kernel
theorem tyJ9_ok : ∀ k, k < 6 → parseFieldDescriptor (TJ9 k).2.2.1 = some (tyJ9 k) := by decide +kernel
/-! java/util/Objects -/
def RJ10 : String := "java/util/Objects"
/-! jdk/internal/util/Preconditions -/
def RJ11 : String := "jdk/internal/util/Preconditions"
/-! BridgeAuction$Link -/
def RX6 : String := "BridgeAuction$Link"
def TX6 : u_T := fun k => match k with
  | 0 => ("BridgeAuction$Link", "low", "I", true)
  | 1 => ("BridgeAuction$Link", "high", "I", true)
  | 2 => ("BridgeAuction$Link", "base", "I", true)
  | 3 => ("BridgeAuction$Link", "cost", "I", false)
  | 4 => ("BridgeAuction$Link", "up", "Z", false)
  | 5 => ("BridgeAuction$Link", "winner", "I", false)
  | 6 => ("BridgeAuction$Link", "price", "I", false)
  | 7 => ("BridgeAuction$Link", "row", "I", false)
  | 8 => ("BridgeAuction$Link", "bids", "[I", true)
  | 9 => ("BridgeAuction$Link", "lowPort", "LBridgeAuction$Port;", true)
  | _ => ("BridgeAuction$Link", "highPort", "LBridgeAuction$Port;", true)
def tyX6 : Nat → FieldType := fun k => match k with
  | 0 => .int
  | 1 => .int
  | 2 => .int
  | 3 => .int
  | 4 => .boolean
  | 5 => .int
  | 6 => .int
  | 7 => .int
  | 8 => .array .int
  | 9 => .object "BridgeAuction$Port"
  | _ => .object "BridgeAuction$Port"
abbrev wsX60 : List Cond := u_ws RX6 TX6 11
theorem nmX6 : ∀ a, a < 11 → ∀ b, b < 11 → a ≠ b → (TX6 a).2.1 ≠ (TX6 b).2.1 := by decide +kernel
theorem tyX6_ok : ∀ k, k < 11 → parseFieldDescriptor (TX6 k).2.2.1 = some (tyX6 k) := by decide +kernel
/-! BridgeAuction$Port -/
def RX7 : String := "BridgeAuction$Port"
def TX7 : u_T := fun k => match k with
  | 0 => ("BridgeAuction$Port", "role", "I", false)
  | 1 => ("BridgeAuction$Port", "state", "I", false)
  | _ => ("BridgeAuction$Port", "timer", "I", false)
def tyX7 : Nat → FieldType := fun k => match k with
  | 0 => .int
  | 1 => .int
  | _ => .int
abbrev wsX70 : List Cond := u_ws RX7 TX7 3
theorem nmX7 : ∀ a, a < 3 → ∀ b, b < 3 → a ≠ b → (TX7 a).2.1 ≠ (TX7 b).2.1 := by decide +kernel
theorem tyX7_ok : ∀ k, k < 3 → parseFieldDescriptor (TX7 k).2.2.1 = some (tyX7 k) := by decide +kernel
/-! java/lang/IndexOutOfBoundsException -/
def RJ12 : String := "java/lang/IndexOutOfBoundsException"
def TJ12 : u_T := fun k => match k with
  | 0 => ("java/lang/Throwable", "cause", "Ljava/lang/Throwable;", false)
  | 1 => ("java/lang/Throwable", "stackTrace", "[Ljava/lang/StackTraceElement;", false)
  | 2 => ("java/lang/Throwable", "suppressedExceptions", "Ljava/util/List;", false)
  | 3 => ("java/lang/Throwable", "detailMessage", "Ljava/lang/String;", false)
  | 4 => ("java/lang/Throwable", "backtrace", "Ljava/lang/Object;", false)
  | _ => ("java/lang/Throwable", "depth", "I", false)
def tyJ12 : Nat → FieldType := fun k => match k with
  | 0 => .object "java/lang/Throwable"
  | 1 => .array (.object "java/lang/StackTraceElement")
  | 2 => .object "java/util/List"
  | 3 => .object "java/lang/String"
  | 4 => .object "java/lang/Object"
  | _ => .int
abbrev wsJ120 : List Cond := u_ws RJ12 TJ12 6
theorem nmJ12 : ∀ a, a < 6 → ∀ b, b < 6 → a ≠ b → (TJ12 a).2.1 ≠ (TJ12 b).2.1 := by decide +kernel
theorem tyJ12_ok : ∀ k, k < 6 → parseFieldDescriptor (TJ12 k).2.2.1 = some (tyJ12 k) := by decide +kernel
/-! java/lang/ArrayIndexOutOfBoundsException -/
def RJ13 : String := "java/lang/ArrayIndexOutOfBoundsException"
def TJ13 : u_T := fun k => match k with
  | 0 => ("java/lang/Throwable", "backtrace", "Ljava/lang/Object;", false)
  | 1 => ("java/lang/Throwable", "detailMessage", "Ljava/lang/String;", false)
  | 2 => ("java/lang/Throwable", "cause", "Ljava/lang/Throwable;", false)
  | 3 => ("java/lang/Throwable", "stackTrace", "[Ljava/lang/StackTraceElement;", false)
  | 4 => ("java/lang/Throwable", "depth", "I", false)
  | _ => ("java/lang/Throwable", "suppressedExceptions", "Ljava/util/List;", false)
def tyJ13 : Nat → FieldType := fun k => match k with
  | 0 => .object "java/lang/Object"
  | 1 => .object "java/lang/String"
  | 2 => .object "java/lang/Throwable"
  | 3 => .array (.object "java/lang/StackTraceElement")
  | 4 => .int
  | _ => .object "java/util/List"
abbrev wsJ130 : List Cond := u_ws RJ13 TJ13 6
theorem nmJ13 : ∀ a, a < 6 → ∀ b, b < 6 → a ≠ b → (TJ13 a).2.1 ≠ (TJ13 b).2.1 := by decide +kernel
theorem tyJ13_ok : ∀ k, k < 6 → parseFieldDescriptor (TJ13 k).2.2.1 = some (tyJ13 k) := by decide +kernel
/-! java/lang/String -/
def RJ14 : String := "java/lang/String"
def TJ14 : u_T := fun k => match k with
  | 0 => ("java/lang/String", "value", "[B", true)
  | 1 => ("java/lang/String", "coder", "B", true)
  | 2 => ("java/lang/String", "hash", "I", false)
  | _ => ("java/lang/String", "hashIsZero", "Z", false)
def tyJ14 : Nat → FieldType := fun k => match k with
  | 0 => .array .byte
  | 1 => .byte
  | 2 => .int
  | _ => .boolean
abbrev wsJ140 : List Cond := u_ws RJ14 TJ14 4
theorem nmJ14 : ∀ a, a < 4 → ∀ b, b < 4 → a ≠ b → (TJ14 a).2.1 ≠ (TJ14 b).2.1 := by decide +kernel
theorem tyJ14_ok : ∀ k, k < 4 → parseFieldDescriptor (TJ14 k).2.2.1 = some (tyJ14 k) := by decide +kernel
/-! java/lang/IllegalStateException -/
def RJ15 : String := "java/lang/IllegalStateException"
def TJ15 : u_T := fun k => match k with
  | 0 => ("java/lang/Throwable", "cause", "Ljava/lang/Throwable;", false)
  | 1 => ("java/lang/Throwable", "stackTrace", "[Ljava/lang/StackTraceElement;", false)
  | 2 => ("java/lang/Throwable", "suppressedExceptions", "Ljava/util/List;", false)
  | 3 => ("java/lang/Throwable", "detailMessage", "Ljava/lang/String;", false)
  | 4 => ("java/lang/Throwable", "backtrace", "Ljava/lang/Object;", false)
  | _ => ("java/lang/Throwable", "depth", "I", false)
def tyJ15 : Nat → FieldType := fun k => match k with
  | 0 => .object "java/lang/Throwable"
  | 1 => .array (.object "java/lang/StackTraceElement")
  | 2 => .object "java/util/List"
  | 3 => .object "java/lang/String"
  | 4 => .object "java/lang/Object"
  | _ => .int
abbrev wsJ150 : List Cond := u_ws RJ15 TJ15 6
theorem nmJ15 : ∀ a, a < 6 → ∀ b, b < 6 → a ≠ b → (TJ15 a).2.1 ≠ (TJ15 b).2.1 := by decide +kernel
theorem tyJ15_ok : ∀ k, k < 6 → parseFieldDescriptor (TJ15 k).2.2.1 = some (tyJ15 k) := by decide +kernel
/-! BridgeAuction$Ranked -/
def RX8 : String := "BridgeAuction$Ranked"
/-! BridgeAuction$Reader -/
def RX9 : String := "BridgeAuction$Reader"
def TX9 : u_T := fun k => match k with
  | 0 => ("BridgeAuction$Reader", "at", "I", false)
  | 1 => ("BridgeAuction$Reader", "fault", "I", false)
  | 2 => ("BridgeAuction$Reader", "command", "LBridgeAuction$Command;", false)
  | 3 => ("BridgeAuction$Reader", "numbers", "[I", true)
  | _ => ("BridgeAuction$Reader", "this$0", "LBridgeAuction;", true)
def tyX9 : Nat → FieldType := fun k => match k with
  | 0 => .int
  | 1 => .int
  | 2 => .object "BridgeAuction$Command"
  | 3 => .array .int
  | _ => .object "BridgeAuction"
abbrev wsX90 : List Cond := u_ws RX9 TX9 5
theorem nmX9 : ∀ a, a < 5 → ∀ b, b < 5 → a ≠ b → (TX9 a).2.1 ≠ (TX9 b).2.1 := by decide +kernel
theorem tyX9_ok : ∀ k, k < 5 → parseFieldDescriptor (TX9 k).2.2.1 = some (tyX9 k) := by decide +kernel
/-! java/lang/AbstractStringBuilder -/
def RJ16 : String := "java/lang/AbstractStringBuilder"
/-! java/lang/StringBuilder -/
def RJ17 : String := "java/lang/StringBuilder"
def TJ17 : u_T := fun k => match k with
  | 0 => ("java/lang/AbstractStringBuilder", "value", "[B", false)
  | 1 => ("java/lang/AbstractStringBuilder", "coder", "B", false)
  | 2 => ("java/lang/AbstractStringBuilder", "maybeLatin1", "Z", false)
  | _ => ("java/lang/AbstractStringBuilder", "count", "I", false)
def tyJ17 : Nat → FieldType := fun k => match k with
  | 0 => .array .byte
  | 1 => .byte
  | 2 => .boolean
  | _ => .int
abbrev wsJ170 : List Cond := u_ws RJ17 TJ17 4
theorem nmJ17 : ∀ a, a < 4 → ∀ b, b < 4 → a ≠ b → (TJ17 a).2.1 ≠ (TJ17 b).2.1 := by decide +kernel
theorem tyJ17_ok : ∀ k, k < 4 → parseFieldDescriptor (TJ17 k).2.2.1 = some (tyJ17 k) := by decide +kernel
/-! java/lang/StringUTF16 -/
def RJ18 : String := "java/lang/StringUTF16"
/-! java/lang/StringLatin1 -/
def RJ19 : String := "java/lang/StringLatin1"
/-! java/lang/Integer -/
def RJ20 : String := "java/lang/Integer"
/-! java/lang/Object -/
def RJ21 : String := "java/lang/Object"
/-! java/lang/System$2 -/
def RJ22 : String := "java/lang/System$2"
