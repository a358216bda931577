/-! the classes' tables (claim/names) -/
set_option maxRecDepth 100000
def RJ0 : String := "java/util/AbstractCollection"
def RJ1 : String := "java/util/AbstractList"
def RJ10 : String := "java/lang/Exception"
def RJ11 : String := "java/lang/RuntimeException"
def RJ12 : String := "java/lang/IndexOutOfBoundsException"
def TJ12 : u_T := fun k => match k with
  | 0 => ("java/lang/Throwable", "cause", "Ljava/lang/Throwable;", false)
  | 1 => ("java/lang/Throwable", "stackTrace", "[Ljava/lang/StackTraceElement;", false)
  | 2 => ("java/lang/Throwable", "suppressedExceptions", "Ljava/util/List;", false)
  | 3 => ("java/lang/Throwable", "detailMessage", "Ljava/lang/String;", false)
  | 4 => ("java/lang/Throwable", "backtrace", "Ljava/lang/Object;", false)
  | _ => ("java/lang/Throwable", "depth", "I", false)
def tyJ12 : Nat → FieldType := fun k => match k with
  | 0 => .object "java/lang/Throwable"
  | 1 => .array (.object "java/lang/StackTraceElement")
  | 2 => .object "java/util/List"
  | 3 => .object "java/lang/String"
  | 4 => .object "java/lang/Object"
  | _ => .int
abbrev wsJ120 : List Cond := u_ws RJ12 TJ12 6
theorem nmJ12 : ∀ a, a < 6 → ∀ b, b < 6 → a ≠ b → (TJ12 a).2.1 ≠ (TJ12 b).2.1 := by decide +kernel
theorem tyJ12_ok : ∀ k, k < 6 → parseFieldDescriptor (TJ12 k).2.2.1 = some (tyJ12 k) := by decide +kernel
theorem in_J12 : ∀ w ∈ wsJ120, w ∈ lw_all := lw_in wsJ120 [401, 402, 403, 404, 405, 416] (by decide +kernel) (by decide +kernel)
def RJ13 : String := "java/lang/ArrayIndexOutOfBoundsException"
def TJ13 : u_T := fun k => match k with
  | 0 => ("java/lang/Throwable", "backtrace", "Ljava/lang/Object;", false)
  | 1 => ("java/lang/Throwable", "detailMessage", "Ljava/lang/String;", false)
  | 2 => ("java/lang/Throwable", "cause", "Ljava/lang/Throwable;", false)
  | 3 => ("java/lang/Throwable", "stackTrace", "[Ljava/lang/StackTraceElement;", false)
  | 4 => ("java/lang/Throwable", "depth", "I", false)
  | _ => ("java/lang/Throwable", "suppressedExceptions", "Ljava/util/List;", false)
def tyJ13 : Nat → FieldType := fun k => match k with
  | 0 => .object "java/lang/Object"
  | 1 => .object "java/lang/String"
  | 2 => .object "java/lang/Throwable"
  | 3 => .array (.object "java/lang/StackTraceElement")
  | 4 => .int
  | _ => .object "java/util/List"
abbrev wsJ130 : List Cond := u_ws RJ13 TJ13 6
theorem nmJ13 : ∀ a, a < 6 → ∀ b, b < 6 → a ≠ b → (TJ13 a).2.1 ≠ (TJ13 b).2.1 := by decide +kernel
theorem tyJ13_ok : ∀ k, k < 6 → parseFieldDescriptor (TJ13 k).2.2.1 = some (tyJ13 k) := by decide +kernel
theorem in_J13 : ∀ w ∈ wsJ130, w ∈ lw_all := lw_in wsJ130 [346, 348, 350, 352, 354, 356] (by decide +kernel) (by decide +kernel)
def RJ14 : String := "java/lang/IllegalArgumentException"
def TJ14 : u_T := fun k => match k with
  | 0 => ("java/lang/Throwable", "cause", "Ljava/lang/Throwable;", false)
  | 1 => ("java/lang/Throwable", "stackTrace", "[Ljava/lang/StackTraceElement;", false)
  | 2 => ("java/lang/Throwable", "suppressedExceptions", "Ljava/util/List;", false)
  | 3 => ("java/lang/Throwable", "detailMessage", "Ljava/lang/String;", false)
  | 4 => ("java/lang/Throwable", "backtrace", "Ljava/lang/Object;", false)
  | _ => ("java/lang/Throwable", "depth", "I", false)
def tyJ14 : Nat → FieldType := fun k => match k with
  | 0 => .object "java/lang/Throwable"
  | 1 => .array (.object "java/lang/StackTraceElement")
  | 2 => .object "java/util/List"
  | 3 => .object "java/lang/String"
  | 4 => .object "java/lang/Object"
  | _ => .int
abbrev wsJ140 : List Cond := u_ws RJ14 TJ14 6
theorem nmJ14 : ∀ a, a < 6 → ∀ b, b < 6 → a ≠ b → (TJ14 a).2.1 ≠ (TJ14 b).2.1 := by decide +kernel
theorem tyJ14_ok : ∀ k, k < 6 → parseFieldDescriptor (TJ14 k).2.2.1 = some (tyJ14 k) := by decide +kernel
theorem in_J14 : ∀ w ∈ wsJ140, w ∈ lw_all := lw_in wsJ140 [425, 426, 427, 428, 429, 434] (by decide +kernel) (by decide +kernel)
def RJ15 : String := "java/util/ArrayList$Itr"
def TJ15 : u_T := fun k => match k with
  | 0 => ("java/util/ArrayList$Itr", "cursor", "I", false)
  | 1 => ("java/util/ArrayList$Itr", "lastRet", "I", false)
  | 2 => ("java/util/ArrayList$Itr", "expectedModCount", "I", false)
  | _ => ("java/util/ArrayList$Itr", "this$0", "Ljava/util/ArrayList;", true)
def tyJ15 : Nat → FieldType := fun k => match k with
  | 0 => .int
  | 1 => .int
  | 2 => .int
  | _ => .object "java/util/ArrayList"
abbrev wsJ150 : List Cond := u_ws RJ15 TJ15 4
theorem nmJ15 : ∀ a, a < 4 → ∀ b, b < 4 → a ≠ b → (TJ15 a).2.1 ≠ (TJ15 b).2.1 := by decide +kernel
theorem tyJ15_ok : ∀ k, k < 4 → parseFieldDescriptor (TJ15 k).2.2.1 = some (tyJ15 k) := by decide +kernel
theorem in_J15 : ∀ w ∈ wsJ150, w ∈ lw_all := lw_in wsJ150 [495, 497, 499, 501] (by decide +kernel) (by decide +kernel)
def RJ16 : String := "jdk/internal/util/ArraysSupport"
def RJ17 : String := "java/lang/Math"
def RJ18 : String := "java/util/Arrays"
def RJ19 : String := "jdk/internal/util/Preconditions"
def RJ2 : String := "java/util/ArrayList"
def TJ2 : u_T := fun k => match k with
  | 0 => ("java/util/AbstractList", "modCount", "I", false)
  | 1 => ("java/util/ArrayList", "elementData", "[Ljava/lang/Object;", false)
  | _ => ("java/util/ArrayList", "size", "I", false)
def tyJ2 : Nat → FieldType := fun k => match k with
  | 0 => .int
  | 1 => .array (.object "java/lang/Object")
  | _ => .int
abbrev wsJ20 : List Cond := u_ws RJ2 TJ2 3
theorem nmJ2 : ∀ a, a < 3 → ∀ b, b < 3 → a ≠ b → (TJ2 a).2.1 ≠ (TJ2 b).2.1 := by decide +kernel
theorem tyJ2_ok : ∀ k, k < 3 → parseFieldDescriptor (TJ2 k).2.2.1 = some (tyJ2 k) := by decide +kernel
theorem in_J2 : ∀ w ∈ wsJ20, w ∈ lw_all := lw_in wsJ20 [170, 166, 168] (by decide +kernel) (by decide +kernel)
def RJ20 : String := "java/lang/StringLatin1"
def RJ21 : String := "java/lang/Integer"
def RJ22 : String := "java/util/AbstractList$Itr"
def RJ23 : String := "java/util/ArrayList$ListItr"
def TJ23 : u_T := fun k => match k with
  | 0 => ("java/util/ArrayList$Itr", "cursor", "I", false)
  | 1 => ("java/util/ArrayList$Itr", "lastRet", "I", false)
  | 2 => ("java/util/ArrayList$Itr", "expectedModCount", "I", false)
  | 3 => ("java/util/ArrayList$Itr", "this$0", "Ljava/util/ArrayList;", true)
  | _ => ("java/util/ArrayList$ListItr", "this$0", "Ljava/util/ArrayList;", true)
def tyJ23 : Nat → FieldType := fun k => match k with
  | 0 => .int
  | 1 => .int
  | 2 => .int
  | 3 => .object "java/util/ArrayList"
  | _ => .object "java/util/ArrayList"
abbrev wsJ230 : List Cond := u_ws RJ23 TJ23 5
-- two fields of one name: no nmJ23
theorem tyJ23_ok : ∀ k, k < 5 → parseFieldDescriptor (TJ23 k).2.2.1 = some (tyJ23 k) := by decide +kernel
theorem in_J23 : ∀ w ∈ wsJ230, w ∈ lw_all := lw_in wsJ230 [756, 757, 758, 759, 754] (by decide +kernel) (by decide +kernel)
def RJ24 : String := "java/util/LinkedList$ListItr"
def TJ24 : u_T := fun k => match k with
  | 0 => ("java/util/LinkedList$ListItr", "lastReturned", "Ljava/util/LinkedList$Node;", false)
  | 1 => ("java/util/LinkedList$ListItr", "next", "Ljava/util/LinkedList$Node;", false)
  | 2 => ("java/util/LinkedList$ListItr", "nextIndex", "I", false)
  | 3 => ("java/util/LinkedList$ListItr", "expectedModCount", "I", false)
  | _ => ("java/util/LinkedList$ListItr", "this$0", "Ljava/util/LinkedList;", true)
def tyJ24 : Nat → FieldType := fun k => match k with
  | 0 => .object "java/util/LinkedList$Node"
  | 1 => .object "java/util/LinkedList$Node"
  | 2 => .int
  | 3 => .int
  | _ => .object "java/util/LinkedList"
abbrev wsJ240 : List Cond := u_ws RJ24 TJ24 5
theorem nmJ24 : ∀ a, a < 5 → ∀ b, b < 5 → a ≠ b → (TJ24 a).2.1 ≠ (TJ24 b).2.1 := by decide +kernel
theorem tyJ24_ok : ∀ k, k < 5 → parseFieldDescriptor (TJ24 k).2.2.1 = some (tyJ24 k) := by decide +kernel
theorem in_J24 : ∀ w ∈ wsJ240, w ∈ lw_all := lw_in wsJ240 [800, 802, 804, 806, 808] (by decide +kernel) (by decide +kernel)
def RJ25 : String := "java/util/NoSuchElementException"
def TJ25 : u_T := fun k => match k with
  | 0 => ("java/lang/Throwable", "cause", "Ljava/lang/Throwable;", false)
  | 1 => ("java/lang/Throwable", "stackTrace", "[Ljava/lang/StackTraceElement;", false)
  | 2 => ("java/lang/Throwable", "suppressedExceptions", "Ljava/util/List;", false)
  | 3 => ("java/lang/Throwable", "detailMessage", "Ljava/lang/String;", false)
  | 4 => ("java/lang/Throwable", "backtrace", "Ljava/lang/Object;", false)
  | _ => ("java/lang/Throwable", "depth", "I", false)
def tyJ25 : Nat → FieldType := fun k => match k with
  | 0 => .object "java/lang/Throwable"
  | 1 => .array (.object "java/lang/StackTraceElement")
  | 2 => .object "java/util/List"
  | 3 => .object "java/lang/String"
  | 4 => .object "java/lang/Object"
  | _ => .int
abbrev wsJ250 : List Cond := u_ws RJ25 TJ25 6
theorem nmJ25 : ∀ a, a < 6 → ∀ b, b < 6 → a ≠ b → (TJ25 a).2.1 ≠ (TJ25 b).2.1 := by decide +kernel
theorem tyJ25_ok : ∀ k, k < 6 → parseFieldDescriptor (TJ25 k).2.2.1 = some (tyJ25 k) := by decide +kernel
theorem in_J25 : ∀ w ∈ wsJ250, w ∈ lw_all := lw_in wsJ250 [880, 881, 882, 883, 884, 889] (by decide +kernel) (by decide +kernel)
def RJ26 : String := "java/util/Objects"
def RJ27 : String := "java/util/LinkedList$Node"
def TJ27 : u_T := fun k => match k with
  | 0 => ("java/util/LinkedList$Node", "item", "Ljava/lang/Object;", false)
  | 1 => ("java/util/LinkedList$Node", "next", "Ljava/util/LinkedList$Node;", false)
  | _ => ("java/util/LinkedList$Node", "prev", "Ljava/util/LinkedList$Node;", false)
def tyJ27 : Nat → FieldType := fun k => match k with
  | 0 => .object "java/lang/Object"
  | 1 => .object "java/util/LinkedList$Node"
  | _ => .object "java/util/LinkedList$Node"
abbrev wsJ270 : List Cond := u_ws RJ27 TJ27 3
theorem nmJ27 : ∀ a, a < 3 → ∀ b, b < 3 → a ≠ b → (TJ27 a).2.1 ≠ (TJ27 b).2.1 := by decide +kernel
theorem tyJ27_ok : ∀ k, k < 3 → parseFieldDescriptor (TJ27 k).2.2.1 = some (tyJ27 k) := by decide +kernel
theorem in_J27 : ∀ w ∈ wsJ270, w ∈ lw_all := lw_in wsJ270 [1179, 1181, 1183] (by decide +kernel) (by decide +kernel)
def RJ28 : String := "java/lang/IllegalStateException"
def TJ28 : u_T := fun k => match k with
  | 0 => ("java/lang/Throwable", "cause", "Ljava/lang/Throwable;", false)
  | 1 => ("java/lang/Throwable", "stackTrace", "[Ljava/lang/StackTraceElement;", false)
  | 2 => ("java/lang/Throwable", "suppressedExceptions", "Ljava/util/List;", false)
  | 3 => ("java/lang/Throwable", "detailMessage", "Ljava/lang/String;", false)
  | 4 => ("java/lang/Throwable", "backtrace", "Ljava/lang/Object;", false)
  | _ => ("java/lang/Throwable", "depth", "I", false)
def tyJ28 : Nat → FieldType := fun k => match k with
  | 0 => .object "java/lang/Throwable"
  | 1 => .array (.object "java/lang/StackTraceElement")
  | 2 => .object "java/util/List"
  | 3 => .object "java/lang/String"
  | 4 => .object "java/lang/Object"
  | _ => .int
abbrev wsJ280 : List Cond := u_ws RJ28 TJ28 6
theorem nmJ28 : ∀ a, a < 6 → ∀ b, b < 6 → a ≠ b → (TJ28 a).2.1 ≠ (TJ28 b).2.1 := by decide +kernel
theorem tyJ28_ok : ∀ k, k < 6 → parseFieldDescriptor (TJ28 k).2.2.1 = some (tyJ28 k) := by decide +kernel
theorem in_J28 : ∀ w ∈ wsJ280, w ∈ lw_all := lw_in wsJ280 [1583, 1584, 1585, 1586, 1587, 1634] (by decide +kernel) (by decide +kernel)
def RJ29 : String := "java/lang/UnsupportedOperationException"
def TJ29 : u_T := fun k => match k with
  | 0 => ("java/lang/Throwable", "cause", "Ljava/lang/Throwable;", false)
  | 1 => ("java/lang/Throwable", "stackTrace", "[Ljava/lang/StackTraceElement;", false)
  | 2 => ("java/lang/Throwable", "suppressedExceptions", "Ljava/util/List;", false)
  | 3 => ("java/lang/Throwable", "detailMessage", "Ljava/lang/String;", false)
  | 4 => ("java/lang/Throwable", "backtrace", "Ljava/lang/Object;", false)
  | _ => ("java/lang/Throwable", "depth", "I", false)
def tyJ29 : Nat → FieldType := fun k => match k with
  | 0 => .object "java/lang/Throwable"
  | 1 => .array (.object "java/lang/StackTraceElement")
  | 2 => .object "java/util/List"
  | 3 => .object "java/lang/String"
  | 4 => .object "java/lang/Object"
  | _ => .int
abbrev wsJ290 : List Cond := u_ws RJ29 TJ29 6
theorem nmJ29 : ∀ a, a < 6 → ∀ b, b < 6 → a ≠ b → (TJ29 a).2.1 ≠ (TJ29 b).2.1 := by decide +kernel
theorem tyJ29_ok : ∀ k, k < 6 → parseFieldDescriptor (TJ29 k).2.2.1 = some (tyJ29 k) := by decide +kernel
theorem in_J29 : ∀ w ∈ wsJ290, w ∈ lw_all := lw_in wsJ290 [1675, 1676, 1677, 1678, 1679, 1684] (by decide +kernel) (by decide +kernel)
def RJ3 : String := "java/util/AbstractSequentialList"
def RJ30 : String := "java/lang/Character"
def RJ31 : String := "java/lang/StringIndexOutOfBoundsException"
def TJ31 : u_T := fun k => match k with
  | 0 => ("java/lang/Throwable", "backtrace", "Ljava/lang/Object;", false)
  | 1 => ("java/lang/Throwable", "detailMessage", "Ljava/lang/String;", false)
  | 2 => ("java/lang/Throwable", "cause", "Ljava/lang/Throwable;", false)
  | 3 => ("java/lang/Throwable", "stackTrace", "[Ljava/lang/StackTraceElement;", false)
  | 4 => ("java/lang/Throwable", "depth", "I", false)
  | _ => ("java/lang/Throwable", "suppressedExceptions", "Ljava/util/List;", false)
def tyJ31 : Nat → FieldType := fun k => match k with
  | 0 => .object "java/lang/Object"
  | 1 => .object "java/lang/String"
  | 2 => .object "java/lang/Throwable"
  | 3 => .array (.object "java/lang/StackTraceElement")
  | 4 => .int
  | _ => .object "java/util/List"
abbrev wsJ310 : List Cond := u_ws RJ31 TJ31 6
theorem nmJ31 : ∀ a, a < 6 → ∀ b, b < 6 → a ≠ b → (TJ31 a).2.1 ≠ (TJ31 b).2.1 := by decide +kernel
theorem tyJ31_ok : ∀ k, k < 6 → parseFieldDescriptor (TJ31 k).2.2.1 = some (tyJ31 k) := by decide +kernel
theorem in_J31 : ∀ w ∈ wsJ310, w ∈ lw_all := lw_in wsJ310 [2292, 2293, 2294, 2295, 2296, 2297] (by decide +kernel) (by decide +kernel)
def RJ32 : String := "java/lang/ArithmeticException"
def TJ32 : u_T := fun k => match k with
  | 0 => ("java/lang/Throwable", "backtrace", "Ljava/lang/Object;", false)
  | 1 => ("java/lang/Throwable", "detailMessage", "Ljava/lang/String;", false)
  | 2 => ("java/lang/Throwable", "cause", "Ljava/lang/Throwable;", false)
  | 3 => ("java/lang/Throwable", "stackTrace", "[Ljava/lang/StackTraceElement;", false)
  | 4 => ("java/lang/Throwable", "depth", "I", false)
  | _ => ("java/lang/Throwable", "suppressedExceptions", "Ljava/util/List;", false)
def tyJ32 : Nat → FieldType := fun k => match k with
  | 0 => .object "java/lang/Object"
  | 1 => .object "java/lang/String"
  | 2 => .object "java/lang/Throwable"
  | 3 => .array (.object "java/lang/StackTraceElement")
  | 4 => .int
  | _ => .object "java/util/List"
abbrev wsJ320 : List Cond := u_ws RJ32 TJ32 6
theorem nmJ32 : ∀ a, a < 6 → ∀ b, b < 6 → a ≠ b → (TJ32 a).2.1 ≠ (TJ32 b).2.1 := by decide +kernel
theorem tyJ32_ok : ∀ k, k < 6 → parseFieldDescriptor (TJ32 k).2.2.1 = some (tyJ32 k) := by decide +kernel
theorem in_J32 : ∀ w ∈ wsJ320, w ∈ lw_all := lw_in wsJ320 [2439, 2440, 2441, 2442, 2443, 2444] (by decide +kernel) (by decide +kernel)
def RJ33 : String := "java/lang/Object"
def RJ34 : String := "java/lang/System$2"
def RJ4 : String := "java/util/LinkedList"
def TJ4 : u_T := fun k => match k with
  | 0 => ("java/util/AbstractList", "modCount", "I", false)
  | 1 => ("java/util/LinkedList", "size", "I", false)
  | 2 => ("java/util/LinkedList", "first", "Ljava/util/LinkedList$Node;", false)
  | _ => ("java/util/LinkedList", "last", "Ljava/util/LinkedList$Node;", false)
def tyJ4 : Nat → FieldType := fun k => match k with
  | 0 => .int
  | 1 => .int
  | 2 => .object "java/util/LinkedList$Node"
  | _ => .object "java/util/LinkedList$Node"
abbrev wsJ40 : List Cond := u_ws RJ4 TJ4 4
theorem nmJ4 : ∀ a, a < 4 → ∀ b, b < 4 → a ≠ b → (TJ4 a).2.1 ≠ (TJ4 b).2.1 := by decide +kernel
theorem tyJ4_ok : ∀ k, k < 4 → parseFieldDescriptor (TJ4 k).2.2.1 = some (tyJ4 k) := by decide +kernel
theorem in_J4 : ∀ w ∈ wsJ40, w ∈ lw_all := lw_in wsJ40 [220, 214, 216, 218] (by decide +kernel) (by decide +kernel)
def RJ5 : String := "java/lang/AbstractStringBuilder"
def RJ6 : String := "java/lang/StringBuilder"
def TJ6 : u_T := fun k => match k with
  | 0 => ("java/lang/AbstractStringBuilder", "value", "[B", false)
  | 1 => ("java/lang/AbstractStringBuilder", "coder", "B", false)
  | 2 => ("java/lang/AbstractStringBuilder", "maybeLatin1", "Z", false)
  | _ => ("java/lang/AbstractStringBuilder", "count", "I", false)
def tyJ6 : Nat → FieldType := fun k => match k with
  | 0 => .array .byte
  | 1 => .byte
  | 2 => .boolean
  | _ => .int
abbrev wsJ60 : List Cond := u_ws RJ6 TJ6 4
theorem nmJ6 : ∀ a, a < 4 → ∀ b, b < 4 → a ≠ b → (TJ6 a).2.1 ≠ (TJ6 b).2.1 := by decide +kernel
theorem tyJ6_ok : ∀ k, k < 4 → parseFieldDescriptor (TJ6 k).2.2.1 = some (tyJ6 k) := by decide +kernel
theorem in_J6 : ∀ w ∈ wsJ60, w ∈ lw_all := lw_in wsJ60 [245, 247, 249, 251] (by decide +kernel) (by decide +kernel)
def RJ7 : String := "java/lang/String"
def TJ7 : u_T := fun k => match k with
  | 0 => ("java/lang/String", "value", "[B", true)
  | 1 => ("java/lang/String", "coder", "B", true)
  | 2 => ("java/lang/String", "hash", "I", false)
  | _ => ("java/lang/String", "hashIsZero", "Z", false)
def tyJ7 : Nat → FieldType := fun k => match k with
  | 0 => .array .byte
  | 1 => .byte
  | 2 => .int
  | _ => .boolean
abbrev wsJ70 : List Cond := u_ws RJ7 TJ7 4
theorem nmJ7 : ∀ a, a < 4 → ∀ b, b < 4 → a ≠ b → (TJ7 a).2.1 ≠ (TJ7 b).2.1 := by decide +kernel
theorem tyJ7_ok : ∀ k, k < 4 → parseFieldDescriptor (TJ7 k).2.2.1 = some (tyJ7 k) := by decide +kernel
theorem in_J7 : ∀ w ∈ wsJ70, w ∈ lw_all := lw_in wsJ70 [379, 381, 741, 743] (by decide +kernel) (by decide +kernel)
def RJ8 : String := "java/lang/StringUTF16"
def RJ9 : String := "java/lang/Throwable"
def TJ9 : u_T := fun k => match k with
  | 0 => ("java/lang/Throwable", "cause", "Ljava/lang/Throwable;", false)
  | 1 => ("java/lang/Throwable", "stackTrace", "[Ljava/lang/StackTraceElement;", false)
  | 2 => ("java/lang/Throwable", "suppressedExceptions", "Ljava/util/List;", false)
  | 3 => ("java/lang/Throwable", "detailMessage", "Ljava/lang/String;", false)
  | _ => ("java/lang/Throwable", "backtrace", "Ljava/lang/Object;", false)
def tyJ9 : Nat → FieldType := fun k => match k with
  | 0 => .object "java/lang/Throwable"
  | 1 => .array (.object "java/lang/StackTraceElement")
  | 2 => .object "java/util/List"
  | 3 => .object "java/lang/String"
  | _ => .object "java/lang/Object"
abbrev wsJ90 : List Cond := u_ws RJ9 TJ9 5
theorem nmJ9 : ∀ a, a < 5 → ∀ b, b < 5 → a ≠ b → (TJ9 a).2.1 ≠ (TJ9 b).2.1 := by decide +kernel
theorem tyJ9_ok : ∀ k, k < 5 → parseFieldDescriptor (TJ9 k).2.2.1 = some (tyJ9 k) := by decide +kernel
theorem in_J9 : ∀ w ∈ wsJ90, w ∈ lw_all := lw_in wsJ90 [369, 370, 371, 372, 373] (by decide +kernel) (by decide +kernel)
def RX0 : String := "BrassInspectorLaw"
def RX1 : String := "BrassInspector"
def TX1 : u_T := fun k => match k with
  | 0 => ("BrassInspector", "round", "LBrassInspector$Round;", false)
  | 1 => ("BrassInspector", "saved", "LBrassInspector$Round;", false)
  | 2 => ("BrassInspector", "past", "Ljava/util/LinkedList;", true)
  | 3 => ("BrassInspector", "buffer", "Ljava/lang/StringBuilder;", true)
  | 4 => ("BrassInspector", "error", "I", false)
  | 5 => ("BrassInspector", "latest", "LBrassInspector$Refusal;", false)
  | _ => ("BrassInspector", "line", "Ljava/lang/String;", false)
def tyX1 : Nat → FieldType := fun k => match k with
  | 0 => .object "BrassInspector$Round"
  | 1 => .object "BrassInspector$Round"
  | 2 => .object "java/util/LinkedList"
  | 3 => .object "java/lang/StringBuilder"
  | 4 => .int
  | 5 => .object "BrassInspector$Refusal"
  | _ => .object "java/lang/String"
abbrev wsX10 : List Cond := u_ws RX1 TX1 7
theorem nmX1 : ∀ a, a < 7 → ∀ b, b < 7 → a ≠ b → (TX1 a).2.1 ≠ (TX1 b).2.1 := by decide +kernel
theorem tyX1_ok : ∀ k, k < 7 → parseFieldDescriptor (TX1 k).2.2.1 = some (tyX1 k) := by decide +kernel
theorem in_X1 : ∀ w ∈ wsX10, w ∈ lw_all := lw_in wsX10 [264, 266, 268, 270, 272, 274, 276] (by decide +kernel) (by decide +kernel)
def RX10 : String := "BrassInspector$Round$OfFair$1"
def TX10 : u_T := fun k => match k with
  | 0 => ("BrassInspector$Round$OfFair$1", "at", "I", false)
  | _ => ("BrassInspector$Round$OfFair$1", "this$1", "LBrassInspector$Round$OfFair;", true)
def tyX10 : Nat → FieldType := fun k => match k with
  | 0 => .int
  | _ => .object "BrassInspector$Round$OfFair"
abbrev wsX100 : List Cond := u_ws RX10 TX10 2
theorem nmX10 : ∀ a, a < 2 → ∀ b, b < 2 → a ≠ b → (TX10 a).2.1 ≠ (TX10 b).2.1 := by decide +kernel
theorem tyX10_ok : ∀ k, k < 2 → parseFieldDescriptor (TX10 k).2.2.1 = some (tyX10 k) := by decide +kernel
theorem in_X10 : ∀ w ∈ wsX100, w ∈ lw_all := lw_in wsX100 [1371, 1373] (by decide +kernel) (by decide +kernel)
def RX11 : String := "BrassInspector$2"
def TX11 : u_T := fun k => match k with
  | 0 => ("BrassInspector$2", "val$fair", "I", true)
  | 1 => ("BrassInspector$2", "val$coins", "I", true)
  | 2 => ("BrassInspector$2", "val$drift", "I", true)
  | _ => ("BrassInspector$2", "this$0", "LBrassInspector;", true)
def tyX11 : Nat → FieldType := fun k => match k with
  | 0 => .int
  | 1 => .int
  | 2 => .int
  | _ => .object "BrassInspector"
abbrev wsX110 : List Cond := u_ws RX11 TX11 4
theorem nmX11 : ∀ a, a < 4 → ∀ b, b < 4 → a ≠ b → (TX11 a).2.1 ≠ (TX11 b).2.1 := by decide +kernel
theorem tyX11_ok : ∀ k, k < 4 → parseFieldDescriptor (TX11 k).2.2.1 = some (tyX11 k) := by decide +kernel
theorem in_X11 : ∀ w ∈ wsX110, w ∈ lw_all := lw_in wsX110 [1704, 1706, 1708, 1710] (by decide +kernel) (by decide +kernel)
def RX12 : String := "BrassInspector$Order"
def TX12 : u_T := fun k => match k with
  | 0 => ("BrassInspector$Order", "word", "Ljava/lang/String;", true)
  | 1 => ("BrassInspector$Order", "one", "I", true)
  | _ => ("BrassInspector$Order", "other", "I", true)
def tyX12 : Nat → FieldType := fun k => match k with
  | 0 => .object "java/lang/String"
  | 1 => .int
  | _ => .int
abbrev wsX120 : List Cond := u_ws RX12 TX12 3
theorem nmX12 : ∀ a, a < 3 → ∀ b, b < 3 → a ≠ b → (TX12 a).2.1 ≠ (TX12 b).2.1 := by decide +kernel
theorem tyX12_ok : ∀ k, k < 3 → parseFieldDescriptor (TX12 k).2.2.1 = some (tyX12 k) := by decide +kernel
theorem in_X12 : ∀ w ∈ wsX120, w ∈ lw_all := lw_in wsX120 [1738, 1740, 1742] (by decide +kernel) (by decide +kernel)
def RX13 : String := "BrassInspector$3"
def TX13 : u_T := fun k => match k with
  | 0 => ("BrassInspector$3", "val$trader", "I", true)
  | 1 => ("BrassInspector$3", "val$many", "I", true)
  | _ => ("BrassInspector$3", "this$0", "LBrassInspector;", true)
def tyX13 : Nat → FieldType := fun k => match k with
  | 0 => .int
  | 1 => .int
  | _ => .object "BrassInspector"
abbrev wsX130 : List Cond := u_ws RX13 TX13 3
theorem nmX13 : ∀ a, a < 3 → ∀ b, b < 3 → a ≠ b → (TX13 a).2.1 ≠ (TX13 b).2.1 := by decide +kernel
theorem tyX13_ok : ∀ k, k < 3 → parseFieldDescriptor (TX13 k).2.2.1 = some (tyX13 k) := by decide +kernel
theorem in_X13 : ∀ w ∈ wsX130, w ∈ lw_all := lw_in wsX130 [1761, 1763, 1765] (by decide +kernel) (by decide +kernel)
def RX14 : String := "BrassInspector$Round$1Rest"
def TX14 : u_T := fun k => match k with
  | 0 => ("BrassInspector$Round$1Rest", "trader", "LBrassInspector$Round$Trader;", true)
  | _ => ("BrassInspector$Round$1Rest", "this$0", "LBrassInspector$Round;", true)
def tyX14 : Nat → FieldType := fun k => match k with
  | 0 => .object "BrassInspector$Round$Trader"
  | _ => .object "BrassInspector$Round"
abbrev wsX140 : List Cond := u_ws RX14 TX14 2
theorem nmX14 : ∀ a, a < 2 → ∀ b, b < 2 → a ≠ b → (TX14 a).2.1 ≠ (TX14 b).2.1 := by decide +kernel
theorem tyX14_ok : ∀ k, k < 2 → parseFieldDescriptor (TX14 k).2.2.1 = some (tyX14 k) := by decide +kernel
theorem in_X14 : ∀ w ∈ wsX140, w ∈ lw_all := lw_in wsX140 [1860, 1862] (by decide +kernel) (by decide +kernel)
def RX15 : String := "BrassInspector$4"
def TX15 : u_T := fun k => match k with
  | 0 => ("BrassInspector$4", "val$ounces", "I", true)
  | _ => ("BrassInspector$4", "this$0", "LBrassInspector;", true)
def tyX15 : Nat → FieldType := fun k => match k with
  | 0 => .int
  | _ => .object "BrassInspector"
abbrev wsX150 : List Cond := u_ws RX15 TX15 2
theorem nmX15 : ∀ a, a < 2 → ∀ b, b < 2 → a ≠ b → (TX15 a).2.1 ≠ (TX15 b).2.1 := by decide +kernel
theorem tyX15_ok : ∀ k, k < 2 → parseFieldDescriptor (TX15 k).2.2.1 = some (tyX15 k) := by decide +kernel
theorem in_X15 : ∀ w ∈ wsX150, w ∈ lw_all := lw_in wsX150 [1889, 1891] (by decide +kernel) (by decide +kernel)
def RX16 : String := "BrassInspector$5"
def TX16 : u_T := fun k => match k with
  | 0 => ("BrassInspector$5", "val$weight", "I", true)
  | _ => ("BrassInspector$5", "this$0", "LBrassInspector;", true)
def tyX16 : Nat → FieldType := fun k => match k with
  | 0 => .int
  | _ => .object "BrassInspector"
abbrev wsX160 : List Cond := u_ws RX16 TX16 2
theorem nmX16 : ∀ a, a < 2 → ∀ b, b < 2 → a ≠ b → (TX16 a).2.1 ≠ (TX16 b).2.1 := by decide +kernel
theorem tyX16_ok : ∀ k, k < 2 → parseFieldDescriptor (TX16 k).2.2.1 = some (tyX16 k) := by decide +kernel
theorem in_X16 : ∀ w ∈ wsX160, w ∈ lw_all := lw_in wsX160 [1915, 1917] (by decide +kernel) (by decide +kernel)
def RX17 : String := "BrassInspector$Reader"
def TX17 : u_T := fun k => match k with
  | 0 => ("BrassInspector$Reader", "at", "I", false)
  | _ => ("BrassInspector$Reader", "this$0", "LBrassInspector;", true)
def tyX17 : Nat → FieldType := fun k => match k with
  | 0 => .int
  | _ => .object "BrassInspector"
abbrev wsX170 : List Cond := u_ws RX17 TX17 2
theorem nmX17 : ∀ a, a < 2 → ∀ b, b < 2 → a ≠ b → (TX17 a).2.1 ≠ (TX17 b).2.1 := by decide +kernel
theorem tyX17_ok : ∀ k, k < 2 → parseFieldDescriptor (TX17 k).2.2.1 = some (tyX17 k) := by decide +kernel
theorem in_X17 : ∀ w ∈ wsX170, w ∈ lw_all := lw_in wsX170 [2105, 2107] (by decide +kernel) (by decide +kernel)
def RX18 : String := "BrassInspector$TextError"
def TX18 : u_T := fun k => match k with
  | 0 => ("java/lang/Throwable", "cause", "Ljava/lang/Throwable;", false)
  | 1 => ("java/lang/Throwable", "stackTrace", "[Ljava/lang/StackTraceElement;", false)
  | 2 => ("java/lang/Throwable", "suppressedExceptions", "Ljava/util/List;", false)
  | 3 => ("java/lang/Throwable", "detailMessage", "Ljava/lang/String;", false)
  | 4 => ("java/lang/Throwable", "backtrace", "Ljava/lang/Object;", false)
  | 5 => ("java/lang/Throwable", "depth", "I", false)
  | _ => ("BrassInspector$TextError", "position", "I", true)
def tyX18 : Nat → FieldType := fun k => match k with
  | 0 => .object "java/lang/Throwable"
  | 1 => .array (.object "java/lang/StackTraceElement")
  | 2 => .object "java/util/List"
  | 3 => .object "java/lang/String"
  | 4 => .object "java/lang/Object"
  | 5 => .int
  | _ => .int
abbrev wsX180 : List Cond := u_ws RX18 TX18 7
theorem nmX18 : ∀ a, a < 7 → ∀ b, b < 7 → a ≠ b → (TX18 a).2.1 ≠ (TX18 b).2.1 := by decide +kernel
theorem tyX18_ok : ∀ k, k < 7 → parseFieldDescriptor (TX18 k).2.2.1 = some (tyX18 k) := by decide +kernel
theorem in_X18 : ∀ w ∈ wsX180, w ∈ lw_all := lw_in wsX180 [2147, 2148, 2149, 2150, 2151, 2159, 2157] (by decide +kernel) (by decide +kernel)
def RX19 : String := "BrassInspector$6"
def TX19 : u_T := fun k => match k with
  | 0 => ("BrassInspector$6", "val$orders", "Ljava/util/List;", true)
  | _ => ("BrassInspector$6", "this$0", "LBrassInspector;", true)
def tyX19 : Nat → FieldType := fun k => match k with
  | 0 => .object "java/util/List"
  | _ => .object "BrassInspector"
abbrev wsX190 : List Cond := u_ws RX19 TX19 2
theorem nmX19 : ∀ a, a < 2 → ∀ b, b < 2 → a ≠ b → (TX19 a).2.1 ≠ (TX19 b).2.1 := by decide +kernel
theorem tyX19_ok : ∀ k, k < 2 → parseFieldDescriptor (TX19 k).2.2.1 = some (tyX19 k) := by decide +kernel
theorem in_X19 : ∀ w ∈ wsX190, w ∈ lw_all := lw_in wsX190 [2268, 2270] (by decide +kernel) (by decide +kernel)
def RX2 : String := "BrassInspector$Round"
def TX2 : u_T := fun k => match k with
  | 0 => ("BrassInspector$Round", "rates", "[I", true)
  | 1 => ("BrassInspector$Round", "fines", "[I", true)
  | 2 => ("BrassInspector$Round", "traders", "Ljava/util/List;", true)
  | 3 => ("BrassInspector$Round", "weights", "Ljava/util/List;", true)
  | 4 => ("BrassInspector$Round", "day", "I", false)
  | 5 => ("BrassInspector$Round", "inspections", "I", false)
  | _ => ("BrassInspector$Round", "lost", "I", false)
def tyX2 : Nat → FieldType := fun k => match k with
  | 0 => .array .int
  | 1 => .array .int
  | 2 => .object "java/util/List"
  | 3 => .object "java/util/List"
  | 4 => .int
  | 5 => .int
  | _ => .int
abbrev wsX20 : List Cond := u_ws RX2 TX2 7
theorem nmX2 : ∀ a, a < 7 → ∀ b, b < 7 → a ≠ b → (TX2 a).2.1 ≠ (TX2 b).2.1 := by decide +kernel
theorem tyX2_ok : ∀ k, k < 7 → parseFieldDescriptor (TX2 k).2.2.1 = some (tyX2 k) := by decide +kernel
theorem in_X2 : ∀ w ∈ wsX20, w ∈ lw_all := lw_in wsX20 [186, 188, 190, 192, 194, 196, 198] (by decide +kernel) (by decide +kernel)
def RX3 : String := "BrassInspectorModel"
def TX3 : u_T := fun k => match k with
  | 0 => ("BrassInspectorModel", "thrown", "I", false)
  | 1 => ("BrassInspectorModel", "s", "[I", true)
  | 2 => ("BrassInspectorModel", "frame", "[I", true)
  | 3 => ("BrassInspectorModel", "saved", "[I", true)
  | 4 => ("BrassInspectorModel", "history", "[I", true)
  | 5 => ("BrassInspectorModel", "kept", "I", false)
  | 6 => ("BrassInspectorModel", "hasSaved", "Z", false)
  | 7 => ("BrassInspectorModel", "text", "[I", true)
  | 8 => ("BrassInspectorModel", "told", "[I", true)
  | 9 => ("BrassInspectorModel", "out", "[I", true)
  | 10 => ("BrassInspectorModel", "why", "[I", true)
  | 11 => ("BrassInspectorModel", "detail", "[I", true)
  | 12 => ("BrassInspectorModel", "length", "I", false)
  | 13 => ("BrassInspectorModel", "outLength", "I", false)
  | 14 => ("BrassInspectorModel", "faultAt", "I", false)
  | 15 => ("BrassInspectorModel", "about", "I", false)
  | 16 => ("BrassInspectorModel", "cause", "I", false)
  | 17 => ("BrassInspectorModel", "causeOf", "I", false)
  | 18 => ("BrassInspectorModel", "answer", "I", false)
  | 19 => ("BrassInspectorModel", "spot", "I", false)
  | 20 => ("BrassInspectorModel", "end", "I", false)
  | 21 => ("BrassInspectorModel", "orders", "I", false)
  | _ => ("BrassInspectorModel", "isWrong", "Z", false)
def tyX3 : Nat → FieldType := fun k => match k with
  | 0 => .int
  | 1 => .array .int
  | 2 => .array .int
  | 3 => .array .int
  | 4 => .array .int
  | 5 => .int
  | 6 => .boolean
  | 7 => .array .int
  | 8 => .array .int
  | 9 => .array .int
  | 10 => .array .int
  | 11 => .array .int
  | 12 => .int
  | 13 => .int
  | 14 => .int
  | 15 => .int
  | 16 => .int
  | 17 => .int
  | 18 => .int
  | 19 => .int
  | 20 => .int
  | 21 => .int
  | _ => .boolean
abbrev wsX30 : List Cond := u_ws RX3 TX3 23
set_option maxRecDepth 100000 in
theorem nmX3 : ∀ a, a < 23 → ∀ b, b < 23 → a ≠ b → (TX3 a).2.1 ≠ (TX3 b).2.1 := by decide +kernel
set_option maxRecDepth 100000 in
theorem tyX3_ok : ∀ k, k < 23 → parseFieldDescriptor (TX3 k).2.2.1 = some (tyX3 k) := by decide +kernel
theorem in_X3 : ∀ w ∈ wsX30, w ∈ lw_all := lw_in wsX30 [2530, 2532, 2534, 2536, 2538, 2540, 2542, 2544, 2546, 2548, 2550, 2552, 2554, 2556, 2558, 2560, 2562, 2564, 2566, 2568, 2570, 2572, 2574] (by decide +kernel) (by decide +kernel)
def RX4 : String := "BrassInspector$Deed"
def RX5 : String := "BrassInspector$1"
def TX5 : u_T := fun k => match k with
  | 0 => ("BrassInspector$1", "val$fair", "I", true)
  | 1 => ("BrassInspector$1", "val$rate", "I", true)
  | _ => ("BrassInspector$1", "this$0", "LBrassInspector;", true)
def tyX5 : Nat → FieldType := fun k => match k with
  | 0 => .int
  | 1 => .int
  | _ => .object "BrassInspector"
abbrev wsX50 : List Cond := u_ws RX5 TX5 3
theorem nmX5 : ∀ a, a < 3 → ∀ b, b < 3 → a ≠ b → (TX5 a).2.1 ≠ (TX5 b).2.1 := by decide +kernel
theorem tyX5_ok : ∀ k, k < 3 → parseFieldDescriptor (TX5 k).2.2.1 = some (tyX5 k) := by decide +kernel
theorem in_X5 : ∀ w ∈ wsX50, w ∈ lw_all := lw_in wsX50 [448, 450, 452] (by decide +kernel) (by decide +kernel)
def RX6 : String := "BrassInspector$Round$Trader"
def TX6 : u_T := fun k => match k with
  | 0 => ("BrassInspector$Round$Trader", "number", "I", true)
  | 1 => ("BrassInspector$Round$Trader", "fair", "I", true)
  | 2 => ("BrassInspector$Round$Trader", "coins", "I", false)
  | 3 => ("BrassInspector$Round$Trader", "debt", "I", false)
  | 4 => ("BrassInspector$Round$Trader", "error", "I", false)
  | 5 => ("BrassInspector$Round$Trader", "drift", "I", false)
  | 6 => ("BrassInspector$Round$Trader", "seal", "I", false)
  | 7 => ("BrassInspector$Round$Trader", "shave", "I", false)
  | 8 => ("BrassInspector$Round$Trader", "fined", "I", false)
  | 9 => ("BrassInspector$Round$Trader", "inspected", "I", false)
  | _ => ("BrassInspector$Round$Trader", "this$0", "LBrassInspector$Round;", true)
def tyX6 : Nat → FieldType := fun k => match k with
  | 0 => .int
  | 1 => .int
  | 2 => .int
  | 3 => .int
  | 4 => .int
  | 5 => .int
  | 6 => .int
  | 7 => .int
  | 8 => .int
  | 9 => .int
  | _ => .object "BrassInspector$Round"
abbrev wsX60 : List Cond := u_ws RX6 TX6 11
theorem nmX6 : ∀ a, a < 11 → ∀ b, b < 11 → a ≠ b → (TX6 a).2.1 ≠ (TX6 b).2.1 := by decide +kernel
theorem tyX6_ok : ∀ k, k < 11 → parseFieldDescriptor (TX6 k).2.2.1 = some (tyX6 k) := by decide +kernel
theorem in_X6 : ∀ w ∈ wsX60, w ∈ lw_all := lw_in wsX60 [1099, 1101, 1103, 1105, 1107, 1109, 1111, 1113, 1115, 1117, 1119] (by decide +kernel) (by decide +kernel)
def RX7 : String := "BrassInspector$Brass"
def TX7 : u_T := fun k => match k with
  | 0 => ("BrassInspector$Brass", "number", "I", true)
  | 1 => ("BrassInspector$Brass", "ounces", "I", true)
  | 2 => ("BrassInspector$Brass", "wear", "I", false)
  | _ => ("BrassInspector$Brass", "uses", "I", false)
def tyX7 : Nat → FieldType := fun k => match k with
  | 0 => .int
  | 1 => .int
  | 2 => .int
  | _ => .int
abbrev wsX70 : List Cond := u_ws RX7 TX7 4
theorem nmX7 : ∀ a, a < 4 → ∀ b, b < 4 → a ≠ b → (TX7 a).2.1 ≠ (TX7 b).2.1 := by decide +kernel
theorem tyX7_ok : ∀ k, k < 4 → parseFieldDescriptor (TX7 k).2.2.1 = some (tyX7 k) := by decide +kernel
theorem in_X7 : ∀ w ∈ wsX70, w ∈ lw_all := lw_in wsX70 [1201, 1203, 1205, 1207] (by decide +kernel) (by decide +kernel)
def RX8 : String := "BrassInspector$Refusal"
def TX8 : u_T := fun k => match k with
  | 0 => ("java/lang/Throwable", "cause", "Ljava/lang/Throwable;", false)
  | 1 => ("java/lang/Throwable", "stackTrace", "[Ljava/lang/StackTraceElement;", false)
  | 2 => ("java/lang/Throwable", "suppressedExceptions", "Ljava/util/List;", false)
  | 3 => ("java/lang/Throwable", "detailMessage", "Ljava/lang/String;", false)
  | 4 => ("java/lang/Throwable", "backtrace", "Ljava/lang/Object;", false)
  | 5 => ("java/lang/Throwable", "depth", "I", false)
  | 6 => ("BrassInspector$Refusal", "reason", "I", true)
  | _ => ("BrassInspector$Refusal", "detail", "I", true)
def tyX8 : Nat → FieldType := fun k => match k with
  | 0 => .object "java/lang/Throwable"
  | 1 => .array (.object "java/lang/StackTraceElement")
  | 2 => .object "java/util/List"
  | 3 => .object "java/lang/String"
  | 4 => .object "java/lang/Object"
  | 5 => .int
  | 6 => .int
  | _ => .int
abbrev wsX80 : List Cond := u_ws RX8 TX8 8
theorem nmX8 : ∀ a, a < 8 → ∀ b, b < 8 → a ≠ b → (TX8 a).2.1 ≠ (TX8 b).2.1 := by decide +kernel
theorem tyX8_ok : ∀ k, k < 8 → parseFieldDescriptor (TX8 k).2.2.1 = some (tyX8 k) := by decide +kernel
theorem in_X8 : ∀ w ∈ wsX80, w ∈ lw_all := lw_in wsX80 [1235, 1236, 1237, 1238, 1239, 1250, 1246, 1248] (by decide +kernel) (by decide +kernel)
def RX9 : String := "BrassInspector$Round$OfFair"
def TX9 : u_T := fun k => match k with
  | 0 => ("BrassInspector$Round$OfFair", "fair", "I", true)
  | _ => ("BrassInspector$Round$OfFair", "this$0", "LBrassInspector$Round;", true)
def tyX9 : Nat → FieldType := fun k => match k with
  | 0 => .int
  | _ => .object "BrassInspector$Round"
abbrev wsX90 : List Cond := u_ws RX9 TX9 2
theorem nmX9 : ∀ a, a < 2 → ∀ b, b < 2 → a ≠ b → (TX9 a).2.1 ≠ (TX9 b).2.1 := by decide +kernel
theorem tyX9_ok : ∀ k, k < 2 → parseFieldDescriptor (TX9 k).2.2.1 = some (tyX9 k) := by decide +kernel
theorem in_X9 : ∀ w ∈ wsX90, w ∈ lw_all := lw_in wsX90 [1349, 1351] (by decide +kernel) (by decide +kernel)
/-- the classes of the world, by their numbers -/
abbrev bi_CL : List vw_C := [(RX1, TX1, 7), (RX2, TX2, 7), (RX3, TX3, 23), (RX6, TX6, 11), (RX7, TX7, 4), (RX8, TX8, 8), (RX9, TX9, 2), (RX10, TX10, 2), (RX5, TX5, 3), (RX11, TX11, 4), (RX13, TX13, 3), (RX15, TX15, 2), (RX16, TX16, 2), (RX19, TX19, 2), (RX12, TX12, 3), (RX14, TX14, 2), (RX17, TX17, 2), (RX18, TX18, 7), (RJ2, TJ2, 3), (RJ4, TJ4, 4), (RJ27, TJ27, 3), (RJ6, TJ6, 4), (RJ7, TJ7, 4), (RJ15, TJ15, 4), (RJ14, TJ14, 0), (RJ29, TJ29, 0)]
