/-! the classes: names, fields, types; the table xcl (out of claim/names by tools/gen02.py) -/
set_option maxRecDepth 100000
def RX0 : String := "CompiledHouse"
def RX1 : String := "CompiledHouse$Parser"
def RX2 : String := "CompiledHouse$Tokens"
def RX3 : String := "CompiledHouse$Stop"
def RX4 : String := "CompiledHouse$Statement"
def RX5 : String := "CompiledHouse$Block0"
def RX6 : String := "CompiledHouse$Maker"
def RX7 : String := "CompiledHouse$Living"
def RX8 : String := "CompiledHouse$Cleaner"
def RX9 : String := "CompiledHouse$Words"
def RX10 : String := "CompiledHouse$Layer"
def RX11 : String := "CompiledHouse$Painter"
def RX12 : String := "CompiledHouse$Processor"
def RX13 : String := "CompiledHouseModel"
def RX14 : String := "CompiledHouse$Told"
def RX15 : String := "CompiledHouse$Expr"
def RX16 : String := "CompiledHouse$Num"
def RX17 : String := "CompiledHouse$Call"
def RX18 : String := "CompiledHouse$Name"
def RX19 : String := "CompiledHouse$Get"
def RX20 : String := "CompiledHouse$Ahead"
def RX21 : String := "CompiledHouse$Logic"
def RX22 : String := "CompiledHouse$Chain"
def RX23 : String := "CompiledHouse$Choice"
def RX24 : String := "CompiledHouse$Formal"
def RX25 : String := "CompiledHouse$TellArray"
def RX26 : String := "CompiledHouse$Tell"
def RX27 : String := "CompiledHouse$If"
def RX28 : String := "CompiledHouse$Loop"
def RX29 : String := "CompiledHouse$Do"
def RX30 : String := "CompiledHouse$Assign"
def RX31 : String := "CompiledHouse$Leave"
def RX32 : String := "CompiledHouse$Return"
def RX33 : String := "CompiledHouse$Out"
def RX34 : String := "CompiledHouse$Symbol"
def RX35 : String := "CompiledHouse$Code"
def RX36 : String := "CompiledHouse$Block"
def RX37 : String := "CompiledHouse$Act"
def RJ0 : String := "java/lang/Throwable"
def RJ1 : String := "java/lang/Exception"
def RJ2 : String := "java/lang/RuntimeException"
def RJ3 : String := "java/util/AbstractCollection"
def RJ4 : String := "java/util/AbstractList"
def RJ5 : String := "java/util/ArrayList"
def RJ6 : String := "java/lang/String"
def RJ7 : String := "java/lang/StringLatin1"
def RJ8 : String := "jdk/internal/util/Preconditions"
def RJ9 : String := "java/lang/StringUTF16"
def RJ10 : String := "jdk/internal/util/ArraysSupport"
def RJ11 : String := "java/lang/Math"
def RJ12 : String := "java/util/Arrays"
def RJ13 : String := "java/util/Objects"
def RJ14 : String := "java/lang/Number"
def RJ15 : String := "java/lang/Integer"
def RJ16 : String := "java/lang/Long"
def RJ17 : String := "java/lang/IllegalStateException"
def RJ18 : String := "java/lang/Object"
def TX0 : u_T := fun k => match k with
  | 0 => ("CompiledHouse", "tape", "[B", true)
  | 1 => ("CompiledHouse", "size", "I", false)
  | 2 => ("CompiledHouse", "parser", "LCompiledHouse$Parser;", true)
  | 3 => ("CompiledHouse", "maker", "LCompiledHouse$Maker;", true)
  | 4 => ("CompiledHouse", "living", "LCompiledHouse$Living;", true)
  | 5 => ("CompiledHouse", "cleaner", "LCompiledHouse$Cleaner;", true)
  | 6 => ("CompiledHouse", "words", "LCompiledHouse$Words;", true)
  | 7 => ("CompiledHouse", "layer", "LCompiledHouse$Layer;", true)
  | 8 => ("CompiledHouse", "program", "Ljava/util/ArrayList;", false)
  | 9 => ("CompiledHouse", "functions", "Ljava/util/ArrayList;", true)
  | 10 => ("CompiledHouse", "entry", "I", false)
  | 11 => ("CompiledHouse", "share", "I", false)
  | 12 => ("CompiledHouse", "widest", "I", false)
  | 13 => ("CompiledHouse", "input", "[I", true)
  | 14 => ("CompiledHouse", "output", "[I", true)
  | 15 => ("CompiledHouse", "inputs", "I", false)
  | 16 => ("CompiledHouse", "outputs", "I", false)
  | 17 => ("CompiledHouse", "processor", "LCompiledHouse$Processor;", true)
  | 18 => ("CompiledHouse", "board", "LCompiledHouse$Processor;", true)
  | 19 => ("CompiledHouse", "how", "I", false)
  | 20 => ("CompiledHouse", "limit", "I", false)
  | 21 => ("CompiledHouse", "taken", "I", false)
  | 22 => ("CompiledHouse", "value", "I", false)
  | 23 => ("CompiledHouse", "place", "I", false)
  | 24 => ("CompiledHouse", "isBegun", "Z", false)
  | _ => ("CompiledHouse", "code", "I", false)
def tyX0 : Nat → FieldType := fun k => match k with
  | 0 => .array .byte
  | 1 => .int
  | 2 => .object "CompiledHouse$Parser"
  | 3 => .object "CompiledHouse$Maker"
  | 4 => .object "CompiledHouse$Living"
  | 5 => .object "CompiledHouse$Cleaner"
  | 6 => .object "CompiledHouse$Words"
  | 7 => .object "CompiledHouse$Layer"
  | 8 => .object "java/util/ArrayList"
  | 9 => .object "java/util/ArrayList"
  | 10 => .int
  | 11 => .int
  | 12 => .int
  | 13 => .array .int
  | 14 => .array .int
  | 15 => .int
  | 16 => .int
  | 17 => .object "CompiledHouse$Processor"
  | 18 => .object "CompiledHouse$Processor"
  | 19 => .int
  | 20 => .int
  | 21 => .int
  | 22 => .int
  | 23 => .int
  | 24 => .boolean
  | _ => .int
abbrev wsX00 : List Cond := u_ws RX0 TX0 26
theorem nmX0 : ∀ a, a < 26 → ∀ b, b < 26 → a ≠ b → (TX0 a).2.1 ≠ (TX0 b).2.1 := by decide +kernel
theorem tyX0_ok : ∀ k, k < 26 → parseFieldDescriptor (TX0 k).2.2.1 = some (tyX0 k) := by decide +kernel
theorem q256 : (Jvm.Cond.instantiable "CompiledHouse" (26 : Nat)) ∈ lw_all := lw_g (lw_at lw_m1 60 rfl) rfl
theorem in_X0 : ∀ w ∈ wsX00, w ∈ lw_all := lw_in wsX00 [889, 891, 893, 895, 897, 899, 901, 903, 905, 907, 909, 911, 913, 915, 917, 919, 921, 923, 925, 927, 929, 931, 933, 935, 937, 939] (by decide +kernel) (by decide +kernel)
def TX1 : u_T := fun k => match k with
  | 0 => ("CompiledHouse$Parser", "tokens", "LCompiledHouse$Tokens;", true)
  | 1 => ("CompiledHouse$Parser", "stop", "LCompiledHouse$Stop;", true)
  | 2 => ("CompiledHouse$Parser", "nothing", "LCompiledHouse$Block0;", true)
  | 3 => ("CompiledHouse$Parser", "at", "I", false)
  | 4 => ("CompiledHouse$Parser", "open", "I", false)
  | 5 => ("CompiledHouse$Parser", "fault", "I", false)
  | 6 => ("CompiledHouse$Parser", "place", "I", false)
  | _ => ("CompiledHouse$Parser", "all", "Ljava/util/ArrayList;", false)
def tyX1 : Nat → FieldType := fun k => match k with
  | 0 => .object "CompiledHouse$Tokens"
  | 1 => .object "CompiledHouse$Stop"
  | 2 => .object "CompiledHouse$Block0"
  | 3 => .int
  | 4 => .int
  | 5 => .int
  | 6 => .int
  | _ => .object "java/util/ArrayList"
abbrev wsX10 : List Cond := u_ws RX1 TX1 8
theorem nmX1 : ∀ a, a < 8 → ∀ b, b < 8 → a ≠ b → (TX1 a).2.1 ≠ (TX1 b).2.1 := by decide +kernel
theorem tyX1_ok : ∀ k, k < 8 → parseFieldDescriptor (TX1 k).2.2.1 = some (tyX1 k) := by decide +kernel
theorem q264 : (Jvm.Cond.instantiable "CompiledHouse$Parser" (8 : Nat)) ∈ lw_all := lw_g (lw_at lw_m1 68 rfl) rfl
theorem in_X1 : ∀ w ∈ wsX10, w ∈ lw_all := lw_in wsX10 [494, 496, 498, 500, 502, 504, 506, 508] (by decide +kernel) (by decide +kernel)
def TX2 : u_T := fun k => match k with
  | 0 => ("CompiledHouse$Tokens", "reserved", "[Ljava/lang/String;", true)
  | 1 => ("CompiledHouse$Tokens", "signs", "[Ljava/lang/String;", true)
  | 2 => ("CompiledHouse$Tokens", "kind", "[I", true)
  | 3 => ("CompiledHouse$Tokens", "place", "[I", true)
  | 4 => ("CompiledHouse$Tokens", "what", "[I", true)
  | 5 => ("CompiledHouse$Tokens", "nameAt", "[I", true)
  | 6 => ("CompiledHouse$Tokens", "nameSize", "[I", true)
  | 7 => ("CompiledHouse$Tokens", "text", "[B", false)
  | 8 => ("CompiledHouse$Tokens", "size", "I", false)
  | 9 => ("CompiledHouse$Tokens", "at", "I", false)
  | 10 => ("CompiledHouse$Tokens", "many", "I", false)
  | _ => ("CompiledHouse$Tokens", "names", "I", false)
def tyX2 : Nat → FieldType := fun k => match k with
  | 0 => .array (.object "java/lang/String")
  | 1 => .array (.object "java/lang/String")
  | 2 => .array .int
  | 3 => .array .int
  | 4 => .array .int
  | 5 => .array .int
  | 6 => .array .int
  | 7 => .array .byte
  | 8 => .int
  | 9 => .int
  | 10 => .int
  | _ => .int
abbrev wsX20 : List Cond := u_ws RX2 TX2 12
theorem nmX2 : ∀ a, a < 12 → ∀ b, b < 12 → a ≠ b → (TX2 a).2.1 ≠ (TX2 b).2.1 := by decide +kernel
theorem tyX2_ok : ∀ k, k < 12 → parseFieldDescriptor (TX2 k).2.2.1 = some (tyX2 k) := by decide +kernel
theorem q270 : (Jvm.Cond.instantiable "CompiledHouse$Tokens" (12 : Nat)) ∈ lw_all := lw_g (lw_at lw_m1 74 rfl) rfl
theorem in_X2 : ∀ w ∈ wsX20, w ∈ lw_all := lw_in wsX20 [352, 354, 356, 358, 360, 362, 364, 366, 368, 370, 372, 374] (by decide +kernel) (by decide +kernel)
def TX3 : u_T := fun k => match k with
  | 0 => ("java/lang/Throwable", "cause", "Ljava/lang/Throwable;", false)
  | 1 => ("java/lang/Throwable", "stackTrace", "[Ljava/lang/StackTraceElement;", false)
  | 2 => ("java/lang/Throwable", "suppressedExceptions", "Ljava/util/List;", false)
  | 3 => ("java/lang/Throwable", "detailMessage", "Ljava/lang/String;", false)
  | 4 => ("java/lang/Throwable", "backtrace", "Ljava/lang/Object;", false)
  | _ => ("java/lang/Throwable", "depth", "I", false)
def tyX3 : Nat → FieldType := fun k => match k with
  | 0 => .object "java/lang/Throwable"
  | 1 => .array (.object "java/lang/StackTraceElement")
  | 2 => .object "java/util/List"
  | 3 => .object "java/lang/String"
  | 4 => .object "java/lang/Object"
  | _ => .int
abbrev wsX30 : List Cond := u_ws RX3 TX3 6
theorem nmX3 : ∀ a, a < 6 → ∀ b, b < 6 → a ≠ b → (TX3 a).2.1 ≠ (TX3 b).2.1 := by decide +kernel
theorem tyX3_ok : ∀ k, k < 6 → parseFieldDescriptor (TX3 k).2.2.1 = some (tyX3 k) := by decide +kernel
theorem q380 : (Jvm.Cond.instantiable "CompiledHouse$Stop" (6 : Nat)) ∈ lw_all := lw_g (lw_at lw_m1 184 rfl) rfl
theorem in_X3 : ∀ w ∈ wsX30, w ∈ lw_all := lw_in wsX30 [390, 392, 394, 396, 398, 440] (by decide +kernel) (by decide +kernel)
def TX5 : u_T := fun k => match k with
  | _ => ("CompiledHouse$Block0", "parts", "Ljava/util/ArrayList;", true)
def tyX5 : Nat → FieldType := fun k => match k with
  | _ => .object "java/util/ArrayList"
abbrev wsX50 : List Cond := u_ws RX5 TX5 1
theorem nmX5 : ∀ a, a < 1 → ∀ b, b < 1 → a ≠ b → (TX5 a).2.1 ≠ (TX5 b).2.1 := by decide +kernel
theorem tyX5_ok : ∀ k, k < 1 → parseFieldDescriptor (TX5 k).2.2.1 = some (tyX5 k) := by decide +kernel
theorem q445 : (Jvm.Cond.instantiable "CompiledHouse$Block0" (1 : Nat)) ∈ lw_all := lw_g (lw_at lw_m2 9 rfl) rfl
theorem in_X5 : ∀ w ∈ wsX50, w ∈ lw_all := lw_in wsX50 [481] (by decide +kernel) (by decide +kernel)
def TX6 : u_T := fun k => match k with
  | 0 => ("CompiledHouse$Maker", "stop", "LCompiledHouse$Stop;", true)
  | 1 => ("CompiledHouse$Maker", "scope", "Ljava/util/ArrayList;", true)
  | 2 => ("CompiledHouse$Maker", "from", "I", false)
  | 3 => ("CompiledHouse$Maker", "current", "I", false)
  | 4 => ("CompiledHouse$Maker", "words", "I", false)
  | 5 => ("CompiledHouse$Maker", "globalWords", "I", false)
  | 6 => ("CompiledHouse$Maker", "functions", "I", false)
  | 7 => ("CompiledHouse$Maker", "all", "Ljava/util/ArrayList;", false)
  | 8 => ("CompiledHouse$Maker", "told", "LCompiledHouse$Told;", false)
  | 9 => ("CompiledHouse$Maker", "code", "LCompiledHouse$Code;", false)
  | 10 => ("CompiledHouse$Maker", "now", "LCompiledHouse$Block;", false)
  | 11 => ("CompiledHouse$Maker", "breaks", "LCompiledHouse$Block;", false)
  | 12 => ("CompiledHouse$Maker", "continues", "LCompiledHouse$Block;", false)
  | 13 => ("CompiledHouse$Maker", "fault", "I", false)
  | 14 => ("CompiledHouse$Maker", "place", "I", false)
  | _ => ("CompiledHouse$Maker", "first", "[I", true)
def tyX6 : Nat → FieldType := fun k => match k with
  | 0 => .object "CompiledHouse$Stop"
  | 1 => .object "java/util/ArrayList"
  | 2 => .int
  | 3 => .int
  | 4 => .int
  | 5 => .int
  | 6 => .int
  | 7 => .object "java/util/ArrayList"
  | 8 => .object "CompiledHouse$Told"
  | 9 => .object "CompiledHouse$Code"
  | 10 => .object "CompiledHouse$Block"
  | 11 => .object "CompiledHouse$Block"
  | 12 => .object "CompiledHouse$Block"
  | 13 => .int
  | 14 => .int
  | _ => .array .int
abbrev wsX60 : List Cond := u_ws RX6 TX6 16
theorem nmX6 : ∀ a, a < 16 → ∀ b, b < 16 → a ≠ b → (TX6 a).2.1 ≠ (TX6 b).2.1 := by decide +kernel
theorem tyX6_ok : ∀ k, k < 16 → parseFieldDescriptor (TX6 k).2.2.1 = some (tyX6 k) := by decide +kernel
theorem q512 : (Jvm.Cond.instantiable "CompiledHouse$Maker" (16 : Nat)) ∈ lw_all := lw_g (lw_at lw_m2 76 rfl) rfl
theorem in_X6 : ∀ w ∈ wsX60, w ∈ lw_all := lw_in wsX60 [546, 548, 550, 552, 554, 556, 558, 560, 562, 564, 566, 568, 570, 572, 574, 576] (by decide +kernel) (by decide +kernel)
def TX7 : u_T := fun k => match k with
  | 0 => ("CompiledHouse$Living", "room", "I", false)
  | 1 => ("CompiledHouse$Living", "in", "[J", false)
  | 2 => ("CompiledHouse$Living", "out", "[J", false)
  | _ => ("CompiledHouse$Living", "now", "[J", false)
def tyX7 : Nat → FieldType := fun k => match k with
  | 0 => .int
  | 1 => .array .long
  | 2 => .array .long
  | _ => .array .long
abbrev wsX70 : List Cond := u_ws RX7 TX7 4
theorem nmX7 : ∀ a, a < 4 → ∀ b, b < 4 → a ≠ b → (TX7 a).2.1 ≠ (TX7 b).2.1 := by decide +kernel
theorem tyX7_ok : ∀ k, k < 4 → parseFieldDescriptor (TX7 k).2.2.1 = some (tyX7 k) := by decide +kernel
theorem q580 : (Jvm.Cond.instantiable "CompiledHouse$Living" (4 : Nat)) ∈ lw_all := lw_g (lw_at lw_m2 144 rfl) rfl
theorem in_X7 : ∀ w ∈ wsX70, w ∈ lw_all := lw_in wsX70 [590, 592, 594, 596] (by decide +kernel) (by decide +kernel)
def TX8 : u_T := fun k => match k with
  | 0 => ("CompiledHouse$Cleaner", "living", "LCompiledHouse$Living;", true)
  | 1 => ("CompiledHouse$Cleaner", "code", "LCompiledHouse$Code;", false)
  | 2 => ("CompiledHouse$Cleaner", "order", "[I", false)
  | 3 => ("CompiledHouse$Cleaner", "row", "Ljava/util/ArrayList;", true)
  | 4 => ("CompiledHouse$Cleaner", "lattices", "[I", false)
  | 5 => ("CompiledHouse$Cleaner", "knowns", "[I", false)
  | 6 => ("CompiledHouse$Cleaner", "lattice", "[I", false)
  | 7 => ("CompiledHouse$Cleaner", "known", "[I", false)
  | 8 => ("CompiledHouse$Cleaner", "tempStamp", "[I", false)
  | 9 => ("CompiledHouse$Cleaner", "tempLattice", "[I", false)
  | 10 => ("CompiledHouse$Cleaner", "tempKnown", "[I", false)
  | 11 => ("CompiledHouse$Cleaner", "stamp", "I", false)
  | 12 => ("CompiledHouse$Cleaner", "variables", "I", false)
  | 13 => ("CompiledHouse$Cleaner", "numbers", "I", false)
  | 14 => ("CompiledHouse$Cleaner", "time", "I", false)
  | 15 => ("CompiledHouse$Cleaner", "sums", "I", false)
  | 16 => ("CompiledHouse$Cleaner", "loads", "I", false)
  | 17 => ("CompiledHouse$Cleaner", "checks", "I", false)
  | 18 => ("CompiledHouse$Cleaner", "constants", "I", false)
  | 19 => ("CompiledHouse$Cleaner", "numberOf", "[I", false)
  | 20 => ("CompiledHouse$Cleaner", "timeOf", "[I", false)
  | 21 => ("CompiledHouse$Cleaner", "holder", "[I", false)
  | 22 => ("CompiledHouse$Cleaner", "value", "[I", false)
  | 23 => ("CompiledHouse$Cleaner", "sumAct", "[I", false)
  | 24 => ("CompiledHouse$Cleaner", "sumA", "[I", false)
  | 25 => ("CompiledHouse$Cleaner", "sumB", "[I", false)
  | 26 => ("CompiledHouse$Cleaner", "sumIs", "[I", false)
  | 27 => ("CompiledHouse$Cleaner", "loadAct", "[I", false)
  | 28 => ("CompiledHouse$Cleaner", "loadA", "[I", false)
  | 29 => ("CompiledHouse$Cleaner", "loadB", "[I", false)
  | 30 => ("CompiledHouse$Cleaner", "loadIs", "[I", false)
  | 31 => ("CompiledHouse$Cleaner", "checkA", "[I", false)
  | 32 => ("CompiledHouse$Cleaner", "checkB", "[I", false)
  | 33 => ("CompiledHouse$Cleaner", "constantIs", "[I", false)
  | 34 => ("CompiledHouse$Cleaner", "isValue", "[Z", false)
  | 35 => ("CompiledHouse$Cleaner", "loadOf", "[LCompiledHouse$Symbol;", false)
  | 36 => ("CompiledHouse$Cleaner", "all", "Ljava/util/ArrayList;", false)
  | _ => ("CompiledHouse$Cleaner", "stay", "I", false)
def tyX8 : Nat → FieldType := fun k => match k with
  | 0 => .object "CompiledHouse$Living"
  | 1 => .object "CompiledHouse$Code"
  | 2 => .array .int
  | 3 => .object "java/util/ArrayList"
  | 4 => .array .int
  | 5 => .array .int
  | 6 => .array .int
  | 7 => .array .int
  | 8 => .array .int
  | 9 => .array .int
  | 10 => .array .int
  | 11 => .int
  | 12 => .int
  | 13 => .int
  | 14 => .int
  | 15 => .int
  | 16 => .int
  | 17 => .int
  | 18 => .int
  | 19 => .array .int
  | 20 => .array .int
  | 21 => .array .int
  | 22 => .array .int
  | 23 => .array .int
  | 24 => .array .int
  | 25 => .array .int
  | 26 => .array .int
  | 27 => .array .int
  | 28 => .array .int
  | 29 => .array .int
  | 30 => .array .int
  | 31 => .array .int
  | 32 => .array .int
  | 33 => .array .int
  | 34 => .array .boolean
  | 35 => .array (.object "CompiledHouse$Symbol")
  | 36 => .object "java/util/ArrayList"
  | _ => .int
abbrev wsX80 : List Cond := u_ws RX8 TX8 38
theorem nmX8 : ∀ a, a < 38 → ∀ b, b < 38 → a ≠ b → (TX8 a).2.1 ≠ (TX8 b).2.1 := by decide +kernel
theorem tyX8_ok : ∀ k, k < 38 → parseFieldDescriptor (TX8 k).2.2.1 = some (tyX8 k) := by decide +kernel
theorem q601 : (Jvm.Cond.instantiable "CompiledHouse$Cleaner" (38 : Nat)) ∈ lw_all := lw_g (lw_at lw_m2 165 rfl) rfl
theorem in_X8 : ∀ w ∈ wsX80, w ∈ lw_all := lw_in wsX80 [646, 648, 650, 652, 654, 656, 658, 660, 662, 664, 666, 668, 670, 672, 674, 676, 678, 680, 682, 684, 686, 688, 690, 692, 694, 696, 698, 700, 702, 704, 706, 708, 710, 712, 714, 716, 718, 720] (by decide +kernel) (by decide +kernel)
def TX9 : u_T := fun k => match k with
  | 0 => ("CompiledHouse$Words", "word", "[I", false)
  | 1 => ("CompiledHouse$Words", "to", "[I", false)
  | 2 => ("CompiledHouse$Words", "at", "[I", false)
  | 3 => ("CompiledHouse$Words", "isLong", "[Z", false)
  | 4 => ("CompiledHouse$Words", "many", "I", false)
  | 5 => ("CompiledHouse$Words", "marks", "I", false)
  | _ => ("CompiledHouse$Words", "mark", "[I", false)
def tyX9 : Nat → FieldType := fun k => match k with
  | 0 => .array .int
  | 1 => .array .int
  | 2 => .array .int
  | 3 => .array .boolean
  | 4 => .int
  | 5 => .int
  | _ => .array .int
abbrev wsX90 : List Cond := u_ws RX9 TX9 7
theorem nmX9 : ∀ a, a < 7 → ∀ b, b < 7 → a ≠ b → (TX9 a).2.1 ≠ (TX9 b).2.1 := by decide +kernel
theorem tyX9_ok : ∀ k, k < 7 → parseFieldDescriptor (TX9 k).2.2.1 = some (tyX9 k) := by decide +kernel
theorem q724 : (Jvm.Cond.instantiable "CompiledHouse$Words" (7 : Nat)) ∈ lw_all := lw_g (lw_at lw_m3 48 rfl) rfl
theorem in_X9 : ∀ w ∈ wsX90, w ∈ lw_all := lw_in wsX90 [741, 743, 745, 747, 749, 751, 753] (by decide +kernel) (by decide +kernel)
def TX10 : u_T := fun k => match k with
  | 0 => ("CompiledHouse$Layer", "words", "LCompiledHouse$Words;", true)
  | 1 => ("CompiledHouse$Layer", "painter", "LCompiledHouse$Painter;", true)
  | 2 => ("CompiledHouse$Layer", "code", "LCompiledHouse$Code;", false)
  | 3 => ("CompiledHouse$Layer", "own", "I", false)
  | 4 => ("CompiledHouse$Layer", "saved", "I", false)
  | 5 => ("CompiledHouse$Layer", "frame", "I", false)
  | 6 => ("CompiledHouse$Layer", "calls", "Z", false)
  | _ => ("CompiledHouse$Layer", "entries", "[I", true)
def tyX10 : Nat → FieldType := fun k => match k with
  | 0 => .object "CompiledHouse$Words"
  | 1 => .object "CompiledHouse$Painter"
  | 2 => .object "CompiledHouse$Code"
  | 3 => .int
  | 4 => .int
  | 5 => .int
  | 6 => .boolean
  | _ => .array .int
abbrev wsX100 : List Cond := u_ws RX10 TX10 8
theorem nmX10 : ∀ a, a < 8 → ∀ b, b < 8 → a ≠ b → (TX10 a).2.1 ≠ (TX10 b).2.1 := by decide +kernel
theorem tyX10_ok : ∀ k, k < 8 → parseFieldDescriptor (TX10 k).2.2.1 = some (tyX10 k) := by decide +kernel
theorem q758 : (Jvm.Cond.instantiable "CompiledHouse$Layer" (8 : Nat)) ∈ lw_all := lw_g (lw_at lw_m3 82 rfl) rfl
theorem in_X10 : ∀ w ∈ wsX100, w ∈ lw_all := lw_in wsX100 [821, 823, 825, 827, 829, 831, 833, 835] (by decide +kernel) (by decide +kernel)
def TX11 : u_T := fun k => match k with
  | 0 => ("CompiledHouse$Painter", "living", "LCompiledHouse$Living;", true)
  | 1 => ("CompiledHouse$Painter", "room", "I", false)
  | 2 => ("CompiledHouse$Painter", "n", "I", false)
  | 3 => ("CompiledHouse$Painter", "slots", "I", false)
  | 4 => ("CompiledHouse$Painter", "edges", "[J", false)
  | 5 => ("CompiledHouse$Painter", "crosses", "[Z", false)
  | 6 => ("CompiledHouse$Painter", "isThere", "[Z", false)
  | 7 => ("CompiledHouse$Painter", "gone", "[Z", false)
  | 8 => ("CompiledHouse$Painter", "degree", "[I", false)
  | 9 => ("CompiledHouse$Painter", "hint", "[I", false)
  | 10 => ("CompiledHouse$Painter", "colour", "[I", false)
  | 11 => ("CompiledHouse$Painter", "slot", "[I", false)
  | _ => ("CompiledHouse$Painter", "order", "[I", false)
def tyX11 : Nat → FieldType := fun k => match k with
  | 0 => .object "CompiledHouse$Living"
  | 1 => .int
  | 2 => .int
  | 3 => .int
  | 4 => .array .long
  | 5 => .array .boolean
  | 6 => .array .boolean
  | 7 => .array .boolean
  | 8 => .array .int
  | 9 => .array .int
  | 10 => .array .int
  | 11 => .array .int
  | _ => .array .int
abbrev wsX110 : List Cond := u_ws RX11 TX11 13
theorem nmX11 : ∀ a, a < 13 → ∀ b, b < 13 → a ≠ b → (TX11 a).2.1 ≠ (TX11 b).2.1 := by decide +kernel
theorem tyX11_ok : ∀ k, k < 13 → parseFieldDescriptor (TX11 k).2.2.1 = some (tyX11 k) := by decide +kernel
theorem q764 : (Jvm.Cond.instantiable "CompiledHouse$Painter" (13 : Nat)) ∈ lw_all := lw_g (lw_at lw_m3 88 rfl) rfl
theorem in_X11 : ∀ w ∈ wsX110, w ∈ lw_all := lw_in wsX110 [785, 787, 789, 791, 793, 795, 797, 799, 801, 803, 805, 807, 809] (by decide +kernel) (by decide +kernel)
def TX12 : u_T := fun k => match k with
  | 0 => ("CompiledHouse$Processor", "memory", "[I", false)
  | 1 => ("CompiledHouse$Processor", "x", "[I", true)
  | 2 => ("CompiledHouse$Processor", "pc", "I", false)
  | _ => ("CompiledHouse$Processor", "done", "I", false)
def tyX12 : Nat → FieldType := fun k => match k with
  | 0 => .array .int
  | 1 => .array .int
  | 2 => .int
  | _ => .int
abbrev wsX120 : List Cond := u_ws RX12 TX12 4
theorem nmX12 : ∀ a, a < 4 → ∀ b, b < 4 → a ≠ b → (TX12 a).2.1 ≠ (TX12 b).2.1 := by decide +kernel
theorem tyX12_ok : ∀ k, k < 4 → parseFieldDescriptor (TX12 k).2.2.1 = some (tyX12 k) := by decide +kernel
theorem q841 : (Jvm.Cond.instantiable "CompiledHouse$Processor" (4 : Nat)) ∈ lw_all := lw_g (lw_at lw_m3 165 rfl) rfl
theorem in_X12 : ∀ w ∈ wsX120, w ∈ lw_all := lw_in wsX120 [854, 856, 858, 860] (by decide +kernel) (by decide +kernel)
def TX13 : u_T := fun k => match k with
  | 0 => ("CompiledHouseModel", "tape", "[I", true)
  | 1 => ("CompiledHouseModel", "text", "[I", true)
  | 2 => ("CompiledHouseModel", "taped", "I", false)
  | 3 => ("CompiledHouseModel", "size", "I", false)
  | 4 => ("CompiledHouseModel", "tKind", "[I", true)
  | 5 => ("CompiledHouseModel", "tValue", "[I", true)
  | 6 => ("CompiledHouseModel", "tAt", "[I", true)
  | 7 => ("CompiledHouseModel", "tokens", "I", false)
  | 8 => ("CompiledHouseModel", "bad", "I", false)
  | 9 => ("CompiledHouseModel", "nameAt", "[I", true)
  | 10 => ("CompiledHouseModel", "nameSize", "[I", true)
  | 11 => ("CompiledHouseModel", "nameNext", "[I", true)
  | 12 => ("CompiledHouseModel", "nameHead", "[I", true)
  | 13 => ("CompiledHouseModel", "names", "I", false)
  | 14 => ("CompiledHouseModel", "told", "I", false)
  | 15 => ("CompiledHouseModel", "scope", "I", false)
  | 16 => ("CompiledHouseModel", "dName", "[I", true)
  | 17 => ("CompiledHouseModel", "dKind", "[I", true)
  | 18 => ("CompiledHouseModel", "dPlace", "[I", true)
  | 19 => ("CompiledHouseModel", "dScope", "[I", true)
  | 20 => ("CompiledHouseModel", "dCell", "[I", true)
  | 21 => ("CompiledHouseModel", "dSize", "[I", true)
  | 22 => ("CompiledHouseModel", "dByte", "[Z", true)
  | 23 => ("CompiledHouseModel", "dLocal", "[Z", true)
  | 24 => ("CompiledHouseModel", "functions", "I", false)
  | 25 => ("CompiledHouseModel", "fName", "[I", true)
  | 26 => ("CompiledHouseModel", "fPlace", "[I", true)
  | 27 => ("CompiledHouseModel", "fFormals", "[I", true)
  | 28 => ("CompiledHouseModel", "fMeasure", "[I", true)
  | 29 => ("CompiledHouseModel", "fCells", "[I", true)
  | 30 => ("CompiledHouseModel", "fCode", "[I", true)
  | 31 => ("CompiledHouseModel", "fFirst", "[I", true)
  | 32 => ("CompiledHouseModel", "fFormalToken", "[I", true)
  | 33 => ("CompiledHouseModel", "fVoid", "[Z", true)
  | 34 => ("CompiledHouseModel", "formal", "[I", true)
  | 35 => ("CompiledHouseModel", "formals", "I", false)
  | 36 => ("CompiledHouseModel", "words", "I", false)
  | 37 => ("CompiledHouseModel", "cells", "I", false)
  | 38 => ("CompiledHouseModel", "gMany", "[I", true)
  | 39 => ("CompiledHouseModel", "gWhere", "[I", true)
  | 40 => ("CompiledHouseModel", "gByte", "[Z", true)
  | 41 => ("CompiledHouseModel", "first", "[I", true)
  | 42 => ("CompiledHouseModel", "t", "I", false)
  | 43 => ("CompiledHouseModel", "open", "I", false)
  | 44 => ("CompiledHouseModel", "fault", "I", false)
  | 45 => ("CompiledHouseModel", "faultAt", "I", false)
  | 46 => ("CompiledHouseModel", "pass", "I", false)
  | 47 => ("CompiledHouseModel", "found", "I", false)
  | 48 => ("CompiledHouseModel", "foundAt", "I", false)
  | 49 => ("CompiledHouseModel", "foundRank", "I", false)
  | 50 => ("CompiledHouseModel", "inFunction", "I", false)
  | 51 => ("CompiledHouseModel", "loops", "I", false)
  | 52 => ("CompiledHouseModel", "ownWords", "I", false)
  | 53 => ("CompiledHouseModel", "ownCells", "I", false)
  | 54 => ("CompiledHouseModel", "constant", "Z", false)
  | 55 => ("CompiledHouseModel", "hasNone", "Z", false)
  | 56 => ("CompiledHouseModel", "sWhat", "[I", true)
  | 57 => ("CompiledHouseModel", "sA", "[I", true)
  | 58 => ("CompiledHouseModel", "sB", "[I", true)
  | 59 => ("CompiledHouseModel", "sC", "[I", true)
  | 60 => ("CompiledHouseModel", "steps", "I", false)
  | 61 => ("CompiledHouseModel", "isFunction", "Z", false)
  | 62 => ("CompiledHouseModel", "meantFunction", "I", false)
  | 63 => ("CompiledHouseModel", "breaks", "I", false)
  | 64 => ("CompiledHouseModel", "continues", "I", false)
  | 65 => ("CompiledHouseModel", "keptBreaks", "I", false)
  | 66 => ("CompiledHouseModel", "keptContinues", "I", false)
  | 67 => ("CompiledHouseModel", "pSign", "[I", true)
  | 68 => ("CompiledHouseModel", "pLevel", "[I", true)
  | 69 => ("CompiledHouseModel", "pStep", "[I", true)
  | 70 => ("CompiledHouseModel", "pending", "I", false)
  | 71 => ("CompiledHouseModel", "ops", "[I", true)
  | 72 => ("CompiledHouseModel", "top", "I", false)
  | 73 => ("CompiledHouseModel", "there", "Z", false)
  | 74 => ("CompiledHouseModel", "mainFunction", "I", false)
  | 75 => ("CompiledHouseModel", "how", "I", false)
  | 76 => ("CompiledHouseModel", "pc", "I", false)
  | 77 => ("CompiledHouseModel", "turnsTaken", "I", false)
  | 78 => ("CompiledHouseModel", "left", "I", false)
  | 79 => ("CompiledHouseModel", "outputs", "I", false)
  | 80 => ("CompiledHouseModel", "inputs", "I", false)
  | 81 => ("CompiledHouseModel", "value", "I", false)
  | 82 => ("CompiledHouseModel", "placeOf", "I", false)
  | 83 => ("CompiledHouseModel", "depth", "I", false)
  | 84 => ("CompiledHouseModel", "limit", "I", false)
  | 85 => ("CompiledHouseModel", "frames", "I", false)
  | 86 => ("CompiledHouseModel", "base", "I", false)
  | 87 => ("CompiledHouseModel", "above", "I", false)
  | 88 => ("CompiledHouseModel", "input", "[I", true)
  | 89 => ("CompiledHouseModel", "output", "[I", true)
  | 90 => ("CompiledHouseModel", "cell", "[I", true)
  | 91 => ("CompiledHouseModel", "frFunction", "[I", true)
  | 92 => ("CompiledHouseModel", "frBack", "[I", true)
  | 93 => ("CompiledHouseModel", "frBase", "[I", true)
  | 94 => ("CompiledHouseModel", "memory", "[I", true)
  | 95 => ("CompiledHouseModel", "register", "[I", true)
  | _ => ("CompiledHouseModel", "done", "I", false)
def tyX13 : Nat → FieldType := fun k => match k with
  | 0 => .array .int
  | 1 => .array .int
  | 2 => .int
  | 3 => .int
  | 4 => .array .int
  | 5 => .array .int
  | 6 => .array .int
  | 7 => .int
  | 8 => .int
  | 9 => .array .int
  | 10 => .array .int
  | 11 => .array .int
  | 12 => .array .int
  | 13 => .int
  | 14 => .int
  | 15 => .int
  | 16 => .array .int
  | 17 => .array .int
  | 18 => .array .int
  | 19 => .array .int
  | 20 => .array .int
  | 21 => .array .int
  | 22 => .array .boolean
  | 23 => .array .boolean
  | 24 => .int
  | 25 => .array .int
  | 26 => .array .int
  | 27 => .array .int
  | 28 => .array .int
  | 29 => .array .int
  | 30 => .array .int
  | 31 => .array .int
  | 32 => .array .int
  | 33 => .array .boolean
  | 34 => .array .int
  | 35 => .int
  | 36 => .int
  | 37 => .int
  | 38 => .array .int
  | 39 => .array .int
  | 40 => .array .boolean
  | 41 => .array .int
  | 42 => .int
  | 43 => .int
  | 44 => .int
  | 45 => .int
  | 46 => .int
  | 47 => .int
  | 48 => .int
  | 49 => .int
  | 50 => .int
  | 51 => .int
  | 52 => .int
  | 53 => .int
  | 54 => .boolean
  | 55 => .boolean
  | 56 => .array .int
  | 57 => .array .int
  | 58 => .array .int
  | 59 => .array .int
  | 60 => .int
  | 61 => .boolean
  | 62 => .int
  | 63 => .int
  | 64 => .int
  | 65 => .int
  | 66 => .int
  | 67 => .array .int
  | 68 => .array .int
  | 69 => .array .int
  | 70 => .int
  | 71 => .array .int
  | 72 => .int
  | 73 => .boolean
  | 74 => .int
  | 75 => .int
  | 76 => .int
  | 77 => .int
  | 78 => .int
  | 79 => .int
  | 80 => .int
  | 81 => .int
  | 82 => .int
  | 83 => .int
  | 84 => .int
  | 85 => .int
  | 86 => .int
  | 87 => .int
  | 88 => .array .int
  | 89 => .array .int
  | 90 => .array .int
  | 91 => .array .int
  | 92 => .array .int
  | 93 => .array .int
  | 94 => .array .int
  | 95 => .array .int
  | _ => .int
abbrev wsX130 : List Cond := u_ws RX13 TX13 97
theorem nmX13 : ∀ a, a < 97 → ∀ b, b < 97 → a ≠ b → (TX13 a).2.1 ≠ (TX13 b).2.1 := by decide +kernel
theorem tyX13_ok : ∀ k, k < 97 → parseFieldDescriptor (TX13 k).2.2.1 = some (tyX13 k) := by decide +kernel
theorem q2993 : (Jvm.Cond.instantiable "CompiledHouseModel" (97 : Nat)) ∈ lw_all := lw_g (lw_at lw_m12 157 rfl) rfl
theorem in_X13 : ∀ w ∈ wsX130, w ∈ lw_all := lw_in wsX130 [3096, 3098, 3100, 3102, 3104, 3106, 3108, 3110, 3112, 3114, 3116, 3118, 3120, 3122, 3124, 3126, 3128, 3130, 3132, 3134, 3136, 3138, 3140, 3142, 3144, 3146, 3148, 3150, 3152, 3154, 3156, 3158, 3160, 3162, 3164, 3166, 3168, 3170, 3172, 3174, 3176, 3178, 3180, 3182, 3184, 3186, 3188, 3190, 3192, 3194, 3196, 3198, 3200, 3202, 3204, 3206, 3208, 3210, 3212, 3214, 3216, 3218, 3220, 3222, 3224, 3226, 3228, 3230, 3232, 3234, 3236, 3238, 3240, 3242, 3244, 3246, 3248, 3250, 3252, 3254, 3256, 3258, 3260, 3262, 3264, 3266, 3268, 3270, 3272, 3274, 3276, 3278, 3280, 3282, 3284, 3286, 3288] (by decide +kernel) (by decide +kernel)
def TX14 : u_T := fun k => match k with
  | 0 => ("CompiledHouse$Told", "kind", "I", true)
  | 1 => ("CompiledHouse$Told", "name", "I", true)
  | 2 => ("CompiledHouse$Told", "place", "I", true)
  | 3 => ("CompiledHouse$Told", "isByte", "Z", false)
  | 4 => ("CompiledHouse$Told", "isVoid", "Z", false)
  | 5 => ("CompiledHouse$Told", "isMain", "Z", false)
  | 6 => ("CompiledHouse$Told", "value", "LCompiledHouse$Expr;", false)
  | 7 => ("CompiledHouse$Told", "values", "Ljava/util/ArrayList;", false)
  | 8 => ("CompiledHouse$Told", "formals", "Ljava/util/ArrayList;", false)
  | 9 => ("CompiledHouse$Told", "body", "LCompiledHouse$Block0;", false)
  | 10 => ("CompiledHouse$Told", "symbol", "LCompiledHouse$Symbol;", false)
  | 11 => ("CompiledHouse$Told", "number", "I", false)
  | 12 => ("CompiledHouse$Told", "measure", "I", false)
  | _ => ("CompiledHouse$Told", "code", "LCompiledHouse$Code;", false)
def tyX14 : Nat → FieldType := fun k => match k with
  | 0 => .int
  | 1 => .int
  | 2 => .int
  | 3 => .boolean
  | 4 => .boolean
  | 5 => .boolean
  | 6 => .object "CompiledHouse$Expr"
  | 7 => .object "java/util/ArrayList"
  | 8 => .object "java/util/ArrayList"
  | 9 => .object "CompiledHouse$Block0"
  | 10 => .object "CompiledHouse$Symbol"
  | 11 => .int
  | 12 => .int
  | _ => .object "CompiledHouse$Code"
abbrev wsX140 : List Cond := u_ws RX14 TX14 14
theorem nmX14 : ∀ a, a < 14 → ∀ b, b < 14 → a ≠ b → (TX14 a).2.1 ≠ (TX14 b).2.1 := by decide +kernel
theorem tyX14_ok : ∀ k, k < 14 → parseFieldDescriptor (TX14 k).2.2.1 = some (tyX14 k) := by decide +kernel
theorem q1097 : (Jvm.Cond.instantiable "CompiledHouse$Told" (14 : Nat)) ∈ lw_all := lw_g (lw_at lw_m4 181 rfl) rfl
theorem in_X14 : ∀ w ∈ wsX140, w ∈ lw_all := lw_in wsX140 [1144, 1146, 1148, 1150, 1152, 1154, 1156, 1158, 1160, 1162, 1164, 1166, 1168, 1170] (by decide +kernel) (by decide +kernel)
def TX16 : u_T := fun k => match k with
  | 0 => ("CompiledHouse$Expr", "first", "I", false)
  | _ => ("CompiledHouse$Num", "number", "I", true)
def tyX16 : Nat → FieldType := fun k => match k with
  | 0 => .int
  | _ => .int
abbrev wsX160 : List Cond := u_ws RX16 TX16 2
theorem nmX16 : ∀ a, a < 2 → ∀ b, b < 2 → a ≠ b → (TX16 a).2.1 ≠ (TX16 b).2.1 := by decide +kernel
theorem tyX16_ok : ∀ k, k < 2 → parseFieldDescriptor (TX16 k).2.2.1 = some (tyX16 k) := by decide +kernel
theorem q1190 : (Jvm.Cond.instantiable "CompiledHouse$Num" (2 : Nat)) ∈ lw_all := lw_g (lw_at lw_m5 34 rfl) rfl
theorem in_X16 : ∀ w ∈ wsX160, w ∈ lw_all := lw_in wsX160 [1210, 1208] (by decide +kernel) (by decide +kernel)
def TX17 : u_T := fun k => match k with
  | 0 => ("CompiledHouse$Expr", "first", "I", false)
  | 1 => ("CompiledHouse$Call", "name", "I", true)
  | 2 => ("CompiledHouse$Call", "place", "I", true)
  | 3 => ("CompiledHouse$Call", "end", "I", true)
  | _ => ("CompiledHouse$Call", "given", "Ljava/util/ArrayList;", true)
def tyX17 : Nat → FieldType := fun k => match k with
  | 0 => .int
  | 1 => .int
  | 2 => .int
  | 3 => .int
  | _ => .object "java/util/ArrayList"
abbrev wsX170 : List Cond := u_ws RX17 TX17 5
theorem nmX17 : ∀ a, a < 5 → ∀ b, b < 5 → a ≠ b → (TX17 a).2.1 ≠ (TX17 b).2.1 := by decide +kernel
theorem tyX17_ok : ∀ k, k < 5 → parseFieldDescriptor (TX17 k).2.2.1 = some (tyX17 k) := by decide +kernel
theorem q1317 : (Jvm.Cond.instantiable "CompiledHouse$Call" (5 : Nat)) ∈ lw_all := lw_g (lw_at lw_m5 161 rfl) rfl
theorem in_X17 : ∀ w ∈ wsX170, w ∈ lw_all := lw_in wsX170 [1334, 1326, 1328, 1330, 1332] (by decide +kernel) (by decide +kernel)
def TX18 : u_T := fun k => match k with
  | 0 => ("CompiledHouse$Expr", "first", "I", false)
  | 1 => ("CompiledHouse$Name", "name", "I", true)
  | 2 => ("CompiledHouse$Name", "place", "I", true)
  | 3 => ("CompiledHouse$Name", "row", "I", true)
  | _ => ("CompiledHouse$Name", "index", "LCompiledHouse$Expr;", true)
def tyX18 : Nat → FieldType := fun k => match k with
  | 0 => .int
  | 1 => .int
  | 2 => .int
  | 3 => .int
  | _ => .object "CompiledHouse$Expr"
abbrev wsX180 : List Cond := u_ws RX18 TX18 5
theorem nmX18 : ∀ a, a < 5 → ∀ b, b < 5 → a ≠ b → (TX18 a).2.1 ≠ (TX18 b).2.1 := by decide +kernel
theorem tyX18_ok : ∀ k, k < 5 → parseFieldDescriptor (TX18 k).2.2.1 = some (tyX18 k) := by decide +kernel
theorem q1341 : (Jvm.Cond.instantiable "CompiledHouse$Name" (5 : Nat)) ∈ lw_all := lw_g (lw_at lw_m5 185 rfl) rfl
theorem in_X18 : ∀ w ∈ wsX180, w ∈ lw_all := lw_in wsX180 [1362, 1354, 1356, 1358, 1360] (by decide +kernel) (by decide +kernel)
def TX19 : u_T := fun k => match k with
  | 0 => ("CompiledHouse$Expr", "first", "I", false)
  | _ => ("CompiledHouse$Get", "place", "I", true)
def tyX19 : Nat → FieldType := fun k => match k with
  | 0 => .int
  | _ => .int
abbrev wsX190 : List Cond := u_ws RX19 TX19 2
theorem nmX19 : ∀ a, a < 2 → ∀ b, b < 2 → a ≠ b → (TX19 a).2.1 ≠ (TX19 b).2.1 := by decide +kernel
theorem tyX19_ok : ∀ k, k < 2 → parseFieldDescriptor (TX19 k).2.2.1 = some (tyX19 k) := by decide +kernel
theorem q1365 : (Jvm.Cond.instantiable "CompiledHouse$Get" (2 : Nat)) ∈ lw_all := lw_g (lw_at lw_m5 209 rfl) rfl
theorem in_X19 : ∀ w ∈ wsX190, w ∈ lw_all := lw_in wsX190 [1373, 1371] (by decide +kernel) (by decide +kernel)
def TX20 : u_T := fun k => match k with
  | 0 => ("CompiledHouse$Expr", "first", "I", false)
  | 1 => ("CompiledHouse$Ahead", "signs", "[I", true)
  | _ => ("CompiledHouse$Ahead", "of", "LCompiledHouse$Expr;", true)
def tyX20 : Nat → FieldType := fun k => match k with
  | 0 => .int
  | 1 => .array .int
  | _ => .object "CompiledHouse$Expr"
abbrev wsX200 : List Cond := u_ws RX20 TX20 3
theorem nmX20 : ∀ a, a < 3 → ∀ b, b < 3 → a ≠ b → (TX20 a).2.1 ≠ (TX20 b).2.1 := by decide +kernel
theorem tyX20_ok : ∀ k, k < 3 → parseFieldDescriptor (TX20 k).2.2.1 = some (tyX20 k) := by decide +kernel
theorem q1380 : (Jvm.Cond.instantiable "CompiledHouse$Ahead" (3 : Nat)) ∈ lw_all := lw_g (lw_at lw_m5 224 rfl) rfl
theorem in_X20 : ∀ w ∈ wsX200, w ∈ lw_all := lw_in wsX200 [1391, 1387, 1389] (by decide +kernel) (by decide +kernel)
def TX21 : u_T := fun k => match k with
  | 0 => ("CompiledHouse$Expr", "first", "I", false)
  | 1 => ("CompiledHouse$Logic", "isAnd", "Z", true)
  | _ => ("CompiledHouse$Logic", "parts", "Ljava/util/ArrayList;", true)
def tyX21 : Nat → FieldType := fun k => match k with
  | 0 => .int
  | 1 => .boolean
  | _ => .object "java/util/ArrayList"
abbrev wsX210 : List Cond := u_ws RX21 TX21 3
theorem nmX21 : ∀ a, a < 3 → ∀ b, b < 3 → a ≠ b → (TX21 a).2.1 ≠ (TX21 b).2.1 := by decide +kernel
theorem tyX21_ok : ∀ k, k < 3 → parseFieldDescriptor (TX21 k).2.2.1 = some (tyX21 k) := by decide +kernel
theorem q1397 : (Jvm.Cond.instantiable "CompiledHouse$Logic" (3 : Nat)) ∈ lw_all := lw_g (lw_at lw_m6 1 rfl) rfl
theorem in_X21 : ∀ w ∈ wsX210, w ∈ lw_all := lw_in wsX210 [1421, 1417, 1419] (by decide +kernel) (by decide +kernel)
def TX22 : u_T := fun k => match k with
  | 0 => ("CompiledHouse$Expr", "first", "I", false)
  | 1 => ("CompiledHouse$Chain", "acts", "[I", true)
  | _ => ("CompiledHouse$Chain", "parts", "Ljava/util/ArrayList;", true)
def tyX22 : Nat → FieldType := fun k => match k with
  | 0 => .int
  | 1 => .array .int
  | _ => .object "java/util/ArrayList"
abbrev wsX220 : List Cond := u_ws RX22 TX22 3
theorem nmX22 : ∀ a, a < 3 → ∀ b, b < 3 → a ≠ b → (TX22 a).2.1 ≠ (TX22 b).2.1 := by decide +kernel
theorem tyX22_ok : ∀ k, k < 3 → parseFieldDescriptor (TX22 k).2.2.1 = some (tyX22 k) := by decide +kernel
theorem q1424 : (Jvm.Cond.instantiable "CompiledHouse$Chain" (3 : Nat)) ∈ lw_all := lw_g (lw_at lw_m6 28 rfl) rfl
theorem in_X22 : ∀ w ∈ wsX220, w ∈ lw_all := lw_in wsX220 [1440, 1436, 1438] (by decide +kernel) (by decide +kernel)
def TX23 : u_T := fun k => match k with
  | 0 => ("CompiledHouse$Expr", "first", "I", false)
  | 1 => ("CompiledHouse$Choice", "asked", "LCompiledHouse$Expr;", true)
  | 2 => ("CompiledHouse$Choice", "yes", "LCompiledHouse$Expr;", true)
  | _ => ("CompiledHouse$Choice", "no", "LCompiledHouse$Expr;", true)
def tyX23 : Nat → FieldType := fun k => match k with
  | 0 => .int
  | 1 => .object "CompiledHouse$Expr"
  | 2 => .object "CompiledHouse$Expr"
  | _ => .object "CompiledHouse$Expr"
abbrev wsX230 : List Cond := u_ws RX23 TX23 4
theorem nmX23 : ∀ a, a < 4 → ∀ b, b < 4 → a ≠ b → (TX23 a).2.1 ≠ (TX23 b).2.1 := by decide +kernel
theorem tyX23_ok : ∀ k, k < 4 → parseFieldDescriptor (TX23 k).2.2.1 = some (tyX23 k) := by decide +kernel
theorem q1443 : (Jvm.Cond.instantiable "CompiledHouse$Choice" (4 : Nat)) ∈ lw_all := lw_g (lw_at lw_m6 47 rfl) rfl
theorem in_X23 : ∀ w ∈ wsX230, w ∈ lw_all := lw_in wsX230 [1457, 1451, 1453, 1455] (by decide +kernel) (by decide +kernel)
def TX24 : u_T := fun k => match k with
  | 0 => ("CompiledHouse$Formal", "name", "I", true)
  | 1 => ("CompiledHouse$Formal", "place", "I", true)
  | 2 => ("CompiledHouse$Formal", "first", "I", true)
  | 3 => ("CompiledHouse$Formal", "isArray", "Z", true)
  | _ => ("CompiledHouse$Formal", "isByte", "Z", true)
def tyX24 : Nat → FieldType := fun k => match k with
  | 0 => .int
  | 1 => .int
  | 2 => .int
  | 3 => .boolean
  | _ => .boolean
abbrev wsX240 : List Cond := u_ws RX24 TX24 5
theorem nmX24 : ∀ a, a < 5 → ∀ b, b < 5 → a ≠ b → (TX24 a).2.1 ≠ (TX24 b).2.1 := by decide +kernel
theorem tyX24_ok : ∀ k, k < 5 → parseFieldDescriptor (TX24 k).2.2.1 = some (tyX24 k) := by decide +kernel
theorem q1477 : (Jvm.Cond.instantiable "CompiledHouse$Formal" (5 : Nat)) ∈ lw_all := lw_g (lw_at lw_m6 81 rfl) rfl
theorem in_X24 : ∀ w ∈ wsX240, w ∈ lw_all := lw_in wsX240 [1495, 1497, 1499, 1501, 1503] (by decide +kernel) (by decide +kernel)
def TX25 : u_T := fun k => match k with
  | 0 => ("CompiledHouse$TellArray", "name", "I", true)
  | 1 => ("CompiledHouse$TellArray", "place", "I", true)
  | 2 => ("CompiledHouse$TellArray", "isByte", "Z", true)
  | _ => ("CompiledHouse$TellArray", "size", "LCompiledHouse$Expr;", true)
def tyX25 : Nat → FieldType := fun k => match k with
  | 0 => .int
  | 1 => .int
  | 2 => .boolean
  | _ => .object "CompiledHouse$Expr"
abbrev wsX250 : List Cond := u_ws RX25 TX25 4
theorem nmX25 : ∀ a, a < 4 → ∀ b, b < 4 → a ≠ b → (TX25 a).2.1 ≠ (TX25 b).2.1 := by decide +kernel
theorem tyX25_ok : ∀ k, k < 4 → parseFieldDescriptor (TX25 k).2.2.1 = some (tyX25 k) := by decide +kernel
theorem q1519 : (Jvm.Cond.instantiable "CompiledHouse$TellArray" (4 : Nat)) ∈ lw_all := lw_g (lw_at lw_m6 123 rfl) rfl
theorem in_X25 : ∀ w ∈ wsX250, w ∈ lw_all := lw_in wsX250 [1528, 1530, 1532, 1534] (by decide +kernel) (by decide +kernel)
def TX26 : u_T := fun k => match k with
  | 0 => ("CompiledHouse$Tell", "name", "I", true)
  | 1 => ("CompiledHouse$Tell", "place", "I", true)
  | _ => ("CompiledHouse$Tell", "first", "LCompiledHouse$Expr;", true)
def tyX26 : Nat → FieldType := fun k => match k with
  | 0 => .int
  | 1 => .int
  | _ => .object "CompiledHouse$Expr"
abbrev wsX260 : List Cond := u_ws RX26 TX26 3
theorem nmX26 : ∀ a, a < 3 → ∀ b, b < 3 → a ≠ b → (TX26 a).2.1 ≠ (TX26 b).2.1 := by decide +kernel
theorem tyX26_ok : ∀ k, k < 3 → parseFieldDescriptor (TX26 k).2.2.1 = some (tyX26 k) := by decide +kernel
theorem q1538 : (Jvm.Cond.instantiable "CompiledHouse$Tell" (3 : Nat)) ∈ lw_all := lw_g (lw_at lw_m6 142 rfl) rfl
theorem in_X26 : ∀ w ∈ wsX260, w ∈ lw_all := lw_in wsX260 [1546, 1548, 1550] (by decide +kernel) (by decide +kernel)
def TX27 : u_T := fun k => match k with
  | 0 => ("CompiledHouse$If", "asked", "LCompiledHouse$Expr;", true)
  | 1 => ("CompiledHouse$If", "yes", "LCompiledHouse$Statement;", true)
  | _ => ("CompiledHouse$If", "no", "LCompiledHouse$Statement;", true)
def tyX27 : Nat → FieldType := fun k => match k with
  | 0 => .object "CompiledHouse$Expr"
  | 1 => .object "CompiledHouse$Statement"
  | _ => .object "CompiledHouse$Statement"
abbrev wsX270 : List Cond := u_ws RX27 TX27 3
theorem nmX27 : ∀ a, a < 3 → ∀ b, b < 3 → a ≠ b → (TX27 a).2.1 ≠ (TX27 b).2.1 := by decide +kernel
theorem tyX27_ok : ∀ k, k < 3 → parseFieldDescriptor (TX27 k).2.2.1 = some (tyX27 k) := by decide +kernel
theorem q1558 : (Jvm.Cond.instantiable "CompiledHouse$If" (3 : Nat)) ∈ lw_all := lw_g (lw_at lw_m6 162 rfl) rfl
theorem in_X27 : ∀ w ∈ wsX270, w ∈ lw_all := lw_in wsX270 [1566, 1568, 1570] (by decide +kernel) (by decide +kernel)
def TX28 : u_T := fun k => match k with
  | 0 => ("CompiledHouse$Loop", "start", "LCompiledHouse$Statement;", true)
  | 1 => ("CompiledHouse$Loop", "step", "LCompiledHouse$Statement;", true)
  | 2 => ("CompiledHouse$Loop", "asked", "LCompiledHouse$Expr;", true)
  | 3 => ("CompiledHouse$Loop", "body", "LCompiledHouse$Statement;", true)
  | _ => ("CompiledHouse$Loop", "isDo", "Z", true)
def tyX28 : Nat → FieldType := fun k => match k with
  | 0 => .object "CompiledHouse$Statement"
  | 1 => .object "CompiledHouse$Statement"
  | 2 => .object "CompiledHouse$Expr"
  | 3 => .object "CompiledHouse$Statement"
  | _ => .boolean
abbrev wsX280 : List Cond := u_ws RX28 TX28 5
theorem nmX28 : ∀ a, a < 5 → ∀ b, b < 5 → a ≠ b → (TX28 a).2.1 ≠ (TX28 b).2.1 := by decide +kernel
theorem tyX28_ok : ∀ k, k < 5 → parseFieldDescriptor (TX28 k).2.2.1 = some (tyX28 k) := by decide +kernel
theorem q1578 : (Jvm.Cond.instantiable "CompiledHouse$Loop" (5 : Nat)) ∈ lw_all := lw_g (lw_at lw_m6 182 rfl) rfl
theorem in_X28 : ∀ w ∈ wsX280, w ∈ lw_all := lw_in wsX280 [1588, 1590, 1592, 1594, 1596] (by decide +kernel) (by decide +kernel)
def TX29 : u_T := fun k => match k with
  | _ => ("CompiledHouse$Do", "call", "LCompiledHouse$Call;", true)
def tyX29 : Nat → FieldType := fun k => match k with
  | _ => .object "CompiledHouse$Call"
abbrev wsX290 : List Cond := u_ws RX29 TX29 1
theorem nmX29 : ∀ a, a < 1 → ∀ b, b < 1 → a ≠ b → (TX29 a).2.1 ≠ (TX29 b).2.1 := by decide +kernel
theorem tyX29_ok : ∀ k, k < 1 → parseFieldDescriptor (TX29 k).2.2.1 = some (tyX29 k) := by decide +kernel
theorem q1608 : (Jvm.Cond.instantiable "CompiledHouse$Do" (1 : Nat)) ∈ lw_all := lw_g (lw_at lw_m6 212 rfl) rfl
theorem in_X29 : ∀ w ∈ wsX290, w ∈ lw_all := lw_in wsX290 [1614] (by decide +kernel) (by decide +kernel)
def TX30 : u_T := fun k => match k with
  | 0 => ("CompiledHouse$Assign", "place", "LCompiledHouse$Name;", true)
  | 1 => ("CompiledHouse$Assign", "act", "I", true)
  | _ => ("CompiledHouse$Assign", "of", "LCompiledHouse$Expr;", true)
def tyX30 : Nat → FieldType := fun k => match k with
  | 0 => .object "CompiledHouse$Name"
  | 1 => .int
  | _ => .object "CompiledHouse$Expr"
abbrev wsX300 : List Cond := u_ws RX30 TX30 3
theorem nmX30 : ∀ a, a < 3 → ∀ b, b < 3 → a ≠ b → (TX30 a).2.1 ≠ (TX30 b).2.1 := by decide +kernel
theorem tyX30_ok : ∀ k, k < 3 → parseFieldDescriptor (TX30 k).2.2.1 = some (tyX30 k) := by decide +kernel
theorem q1618 : (Jvm.Cond.instantiable "CompiledHouse$Assign" (3 : Nat)) ∈ lw_all := lw_g (lw_at lw_m6 222 rfl) rfl
theorem in_X30 : ∀ w ∈ wsX300, w ∈ lw_all := lw_in wsX300 [1626, 1628, 1630] (by decide +kernel) (by decide +kernel)
def TX31 : u_T := fun k => match k with
  | 0 => ("CompiledHouse$Leave", "place", "I", true)
  | _ => ("CompiledHouse$Leave", "isBreak", "Z", true)
def tyX31 : Nat → FieldType := fun k => match k with
  | 0 => .int
  | _ => .boolean
abbrev wsX310 : List Cond := u_ws RX31 TX31 2
theorem nmX31 : ∀ a, a < 2 → ∀ b, b < 2 → a ≠ b → (TX31 a).2.1 ≠ (TX31 b).2.1 := by decide +kernel
theorem tyX31_ok : ∀ k, k < 2 → parseFieldDescriptor (TX31 k).2.2.1 = some (tyX31 k) := by decide +kernel
theorem q1636 : (Jvm.Cond.instantiable "CompiledHouse$Leave" (2 : Nat)) ∈ lw_all := lw_g (lw_at lw_m7 0 rfl) rfl
theorem in_X31 : ∀ w ∈ wsX310, w ∈ lw_all := lw_in wsX310 [1643, 1645] (by decide +kernel) (by decide +kernel)
def TX32 : u_T := fun k => match k with
  | 0 => ("CompiledHouse$Return", "behind", "I", true)
  | _ => ("CompiledHouse$Return", "of", "LCompiledHouse$Expr;", true)
def tyX32 : Nat → FieldType := fun k => match k with
  | 0 => .int
  | _ => .object "CompiledHouse$Expr"
abbrev wsX320 : List Cond := u_ws RX32 TX32 2
theorem nmX32 : ∀ a, a < 2 → ∀ b, b < 2 → a ≠ b → (TX32 a).2.1 ≠ (TX32 b).2.1 := by decide +kernel
theorem tyX32_ok : ∀ k, k < 2 → parseFieldDescriptor (TX32 k).2.2.1 = some (tyX32 k) := by decide +kernel
theorem q1649 : (Jvm.Cond.instantiable "CompiledHouse$Return" (2 : Nat)) ∈ lw_all := lw_g (lw_at lw_m7 13 rfl) rfl
theorem in_X32 : ∀ w ∈ wsX320, w ∈ lw_all := lw_in wsX320 [1656, 1658] (by decide +kernel) (by decide +kernel)
def TX33 : u_T := fun k => match k with
  | 0 => ("CompiledHouse$Out", "of", "LCompiledHouse$Expr;", true)
  | _ => ("CompiledHouse$Out", "isPut", "Z", true)
def tyX33 : Nat → FieldType := fun k => match k with
  | 0 => .object "CompiledHouse$Expr"
  | _ => .boolean
abbrev wsX330 : List Cond := u_ws RX33 TX33 2
theorem nmX33 : ∀ a, a < 2 → ∀ b, b < 2 → a ≠ b → (TX33 a).2.1 ≠ (TX33 b).2.1 := by decide +kernel
theorem tyX33_ok : ∀ k, k < 2 → parseFieldDescriptor (TX33 k).2.2.1 = some (tyX33 k) := by decide +kernel
theorem q1662 : (Jvm.Cond.instantiable "CompiledHouse$Out" (2 : Nat)) ∈ lw_all := lw_g (lw_at lw_m7 26 rfl) rfl
theorem in_X33 : ∀ w ∈ wsX330, w ∈ lw_all := lw_in wsX330 [1669, 1671] (by decide +kernel) (by decide +kernel)
def TX34 : u_T := fun k => match k with
  | 0 => ("CompiledHouse$Symbol", "name", "I", true)
  | 1 => ("CompiledHouse$Symbol", "kind", "I", true)
  | 2 => ("CompiledHouse$Symbol", "value", "I", true)
  | 3 => ("CompiledHouse$Symbol", "isByte", "Z", false)
  | 4 => ("CompiledHouse$Symbol", "size", "I", false)
  | _ => ("CompiledHouse$Symbol", "told", "LCompiledHouse$Told;", false)
def tyX34 : Nat → FieldType := fun k => match k with
  | 0 => .int
  | 1 => .int
  | 2 => .int
  | 3 => .boolean
  | 4 => .int
  | _ => .object "CompiledHouse$Told"
abbrev wsX340 : List Cond := u_ws RX34 TX34 6
theorem nmX34 : ∀ a, a < 6 → ∀ b, b < 6 → a ≠ b → (TX34 a).2.1 ≠ (TX34 b).2.1 := by decide +kernel
theorem tyX34_ok : ∀ k, k < 6 → parseFieldDescriptor (TX34 k).2.2.1 = some (tyX34 k) := by decide +kernel
theorem q1690 : (Jvm.Cond.instantiable "CompiledHouse$Symbol" (6 : Nat)) ∈ lw_all := lw_g (lw_at lw_m7 54 rfl) rfl
theorem in_X34 : ∀ w ∈ wsX340, w ∈ lw_all := lw_in wsX340 [1717, 1719, 1721, 1723, 1725, 1727] (by decide +kernel) (by decide +kernel)
def TX35 : u_T := fun k => match k with
  | 0 => ("CompiledHouse$Code", "told", "LCompiledHouse$Told;", true)
  | 1 => ("CompiledHouse$Code", "blocks", "Ljava/util/ArrayList;", true)
  | 2 => ("CompiledHouse$Code", "registers", "I", false)
  | 3 => ("CompiledHouse$Code", "own", "I", false)
  | _ => ("CompiledHouse$Code", "variables", "Ljava/util/ArrayList;", true)
def tyX35 : Nat → FieldType := fun k => match k with
  | 0 => .object "CompiledHouse$Told"
  | 1 => .object "java/util/ArrayList"
  | 2 => .int
  | 3 => .int
  | _ => .object "java/util/ArrayList"
abbrev wsX350 : List Cond := u_ws RX35 TX35 5
theorem nmX35 : ∀ a, a < 5 → ∀ b, b < 5 → a ≠ b → (TX35 a).2.1 ≠ (TX35 b).2.1 := by decide +kernel
theorem tyX35_ok : ∀ k, k < 5 → parseFieldDescriptor (TX35 k).2.2.1 = some (tyX35 k) := by decide +kernel
theorem q1743 : (Jvm.Cond.instantiable "CompiledHouse$Code" (5 : Nat)) ∈ lw_all := lw_g (lw_at lw_m7 107 rfl) rfl
theorem in_X35 : ∀ w ∈ wsX350, w ∈ lw_all := lw_in wsX350 [1769, 1771, 1773, 1775, 1777] (by decide +kernel) (by decide +kernel)
def TX36 : u_T := fun k => match k with
  | 0 => ("CompiledHouse$Block", "acts", "Ljava/util/ArrayList;", true)
  | 1 => ("CompiledHouse$Block", "end", "I", false)
  | 2 => ("CompiledHouse$Block", "act", "I", false)
  | 3 => ("CompiledHouse$Block", "a", "J", false)
  | 4 => ("CompiledHouse$Block", "b", "J", false)
  | 5 => ("CompiledHouse$Block", "yes", "LCompiledHouse$Block;", false)
  | 6 => ("CompiledHouse$Block", "no", "LCompiledHouse$Block;", false)
  | 7 => ("CompiledHouse$Block", "number", "I", false)
  | 8 => ("CompiledHouse$Block", "index", "I", false)
  | 9 => ("CompiledHouse$Block", "ways", "I", false)
  | 10 => ("CompiledHouse$Block", "isReached", "Z", false)
  | _ => ("CompiledHouse$Block", "isKnown", "Z", false)
def tyX36 : Nat → FieldType := fun k => match k with
  | 0 => .object "java/util/ArrayList"
  | 1 => .int
  | 2 => .int
  | 3 => .long
  | 4 => .long
  | 5 => .object "CompiledHouse$Block"
  | 6 => .object "CompiledHouse$Block"
  | 7 => .int
  | 8 => .int
  | 9 => .int
  | 10 => .boolean
  | _ => .boolean
abbrev wsX360 : List Cond := u_ws RX36 TX36 12
theorem nmX36 : ∀ a, a < 12 → ∀ b, b < 12 → a ≠ b → (TX36 a).2.1 ≠ (TX36 b).2.1 := by decide +kernel
theorem tyX36_ok : ∀ k, k < 12 → parseFieldDescriptor (TX36 k).2.2.1 = some (tyX36 k) := by decide +kernel
theorem q1785 : (Jvm.Cond.instantiable "CompiledHouse$Block" (12 : Nat)) ∈ lw_all := lw_g (lw_at lw_m7 149 rfl) rfl
theorem in_X36 : ∀ w ∈ wsX360, w ∈ lw_all := lw_in wsX360 [1829, 1831, 1833, 1835, 1837, 1839, 1841, 1843, 1845, 1847, 1849, 1851] (by decide +kernel) (by decide +kernel)
def TX37 : u_T := fun k => match k with
  | 0 => ("CompiledHouse$Act", "act", "I", false)
  | 1 => ("CompiledHouse$Act", "d", "I", false)
  | 2 => ("CompiledHouse$Act", "a", "J", false)
  | 3 => ("CompiledHouse$Act", "b", "J", false)
  | 4 => ("CompiledHouse$Act", "c", "J", false)
  | 5 => ("CompiledHouse$Act", "n", "I", false)
  | 6 => ("CompiledHouse$Act", "isWanted", "Z", false)
  | 7 => ("CompiledHouse$Act", "of", "LCompiledHouse$Symbol;", false)
  | 8 => ("CompiledHouse$Act", "told", "LCompiledHouse$Told;", false)
  | _ => ("CompiledHouse$Act", "args", "[J", false)
def tyX37 : Nat → FieldType := fun k => match k with
  | 0 => .int
  | 1 => .int
  | 2 => .long
  | 3 => .long
  | 4 => .long
  | 5 => .int
  | 6 => .boolean
  | 7 => .object "CompiledHouse$Symbol"
  | 8 => .object "CompiledHouse$Told"
  | _ => .array .long
abbrev wsX370 : List Cond := u_ws RX37 TX37 10
theorem nmX37 : ∀ a, a < 10 → ∀ b, b < 10 → a ≠ b → (TX37 a).2.1 ≠ (TX37 b).2.1 := by decide +kernel
theorem tyX37_ok : ∀ k, k < 10 → parseFieldDescriptor (TX37 k).2.2.1 = some (tyX37 k) := by decide +kernel
theorem q1905 : (Jvm.Cond.instantiable "CompiledHouse$Act" (10 : Nat)) ∈ lw_all := lw_g (lw_at lw_m8 29 rfl) rfl
theorem in_X37 : ∀ w ∈ wsX370, w ∈ lw_all := lw_in wsX370 [1948, 1950, 1952, 1954, 1956, 1958, 1960, 1962, 1964, 1966] (by decide +kernel) (by decide +kernel)
def TJ5 : u_T := fun k => match k with
  | 0 => ("java/util/AbstractList", "modCount", "I", false)
  | 1 => ("java/util/ArrayList", "elementData", "[Ljava/lang/Object;", false)
  | _ => ("java/util/ArrayList", "size", "I", false)
def tyJ5 : Nat → FieldType := fun k => match k with
  | 0 => .int
  | 1 => .array (.object "java/lang/Object")
  | _ => .int
abbrev wsJ50 : List Cond := u_ws RJ5 TJ5 3
theorem nmJ5 : ∀ a, a < 3 → ∀ b, b < 3 → a ≠ b → (TJ5 a).2.1 ≠ (TJ5 b).2.1 := by decide +kernel
theorem tyJ5_ok : ∀ k, k < 3 → parseFieldDescriptor (TJ5 k).2.2.1 = some (tyJ5 k) := by decide +kernel
theorem q454 : (Jvm.Cond.instantiable "java/util/ArrayList" (3 : Nat)) ∈ lw_all := lw_g (lw_at lw_m2 18 rfl) rfl
theorem in_J5 : ∀ w ∈ wsJ50, w ∈ lw_all := lw_in wsJ50 [476, 472, 474] (by decide +kernel) (by decide +kernel)
def TJ15 : u_T := fun k => match k with
  | _ => ("java/lang/Integer", "value", "I", true)
def tyJ15 : Nat → FieldType := fun k => match k with
  | _ => .int
abbrev wsJ150 : List Cond := u_ws RJ15 TJ15 1
theorem nmJ15 : ∀ a, a < 1 → ∀ b, b < 1 → a ≠ b → (TJ15 a).2.1 ≠ (TJ15 b).2.1 := by decide +kernel
theorem tyJ15_ok : ∀ k, k < 1 → parseFieldDescriptor (TJ15 k).2.2.1 = some (tyJ15 k) := by decide +kernel
theorem q1888 : (Jvm.Cond.instantiable "java/lang/Integer" (1 : Nat)) ∈ lw_all := lw_g (lw_at lw_m8 12 rfl) rfl
theorem in_J15 : ∀ w ∈ wsJ150, w ∈ lw_all := lw_in wsJ150 [1897] (by decide +kernel) (by decide +kernel)
/-- the classes that are made, by their numbers -/
abbrev xcl : List vw_C := [(RX0, TX0, 26), (RX1, TX1, 8), (RX2, TX2, 12), (RX3, TX3, 6), (RX5, TX5, 1), (RX6, TX6, 16), (RX7, TX7, 4), (RX8, TX8, 38), (RX9, TX9, 7), (RX10, TX10, 8), (RX11, TX11, 13), (RX12, TX12, 4), (RX13, TX13, 97), (RX14, TX14, 14), (RX16, TX16, 2), (RX17, TX17, 5), (RX18, TX18, 5), (RX19, TX19, 2), (RX20, TX20, 3), (RX21, TX21, 3), (RX22, TX22, 3), (RX23, TX23, 4), (RX24, TX24, 5), (RX25, TX25, 4), (RX26, TX26, 3), (RX27, TX27, 3), (RX28, TX28, 5), (RX29, TX29, 1), (RX30, TX30, 3), (RX31, TX31, 2), (RX32, TX32, 2), (RX33, TX33, 2), (RX34, TX34, 6), (RX35, TX35, 5), (RX36, TX36, 12), (RX37, TX37, 10), (RJ5, TJ5, 3), (RJ15, TJ15, 1)]
/-- the types of their fields -/
def xct : Nat → Nat → FieldType := fun c => match c with
  | 0 => tyX0
  | 1 => tyX1
  | 2 => tyX2
  | 3 => tyX3
  | 4 => tyX5
  | 5 => tyX6
  | 6 => tyX7
  | 7 => tyX8
  | 8 => tyX9
  | 9 => tyX10
  | 10 => tyX11
  | 11 => tyX12
  | 12 => tyX13
  | 13 => tyX14
  | 14 => tyX16
  | 15 => tyX17
  | 16 => tyX18
  | 17 => tyX19
  | 18 => tyX20
  | 19 => tyX21
  | 20 => tyX22
  | 21 => tyX23
  | 22 => tyX24
  | 23 => tyX25
  | 24 => tyX26
  | 25 => tyX27
  | 26 => tyX28
  | 27 => tyX29
  | 28 => tyX30
  | 29 => tyX31
  | 30 => tyX32
  | 31 => tyX33
  | 32 => tyX34
  | 33 => tyX35
  | 34 => tyX36
  | 35 => tyX37
  | 36 => tyJ5
  | 37 => tyJ15
  | _ => fun _ => .int
/-- component types of arrays -/
def xty : Nat → FieldType := fun j => match j with
  | 0 => .int
  | 1 => .long
  | 2 => .byte
  | 3 => .boolean
  | 4 => .object "java/lang/Object"
  | 5 => .object "java/lang/String"
  | 6 => .object "CompiledHouse$Symbol"
  | _ => .int
theorem xcl_known {z : State} {za : Array Value} (ht : ∀ w ∈ lw_tbl, w.before za z = true) : ∃ D : va_G, ∀ (k : Nat) (q : vw_C), xcl[k]? = some q → u_Kn z q.1 q.2.1 q.2.2 (D.1 k) (D.2 k) := by
  obtain ⟨c0, i0, h0⟩ := u_known (C := RX0) (T := TX0) (N := 26) (n := 26) ht (fun w h => lw_all_tbl (in_X0 w h)) (ht _ (lw_all_tbl q256))
  obtain ⟨c1, i1, h1⟩ := u_known (C := RX1) (T := TX1) (N := 8) (n := 8) ht (fun w h => lw_all_tbl (in_X1 w h)) (ht _ (lw_all_tbl q264))
  obtain ⟨c2, i2, h2⟩ := u_known (C := RX2) (T := TX2) (N := 12) (n := 12) ht (fun w h => lw_all_tbl (in_X2 w h)) (ht _ (lw_all_tbl q270))
  obtain ⟨c3, i3, h3⟩ := u_known (C := RX3) (T := TX3) (N := 6) (n := 6) ht (fun w h => lw_all_tbl (in_X3 w h)) (ht _ (lw_all_tbl q380))
  obtain ⟨c4, i4, h4⟩ := u_known (C := RX5) (T := TX5) (N := 1) (n := 1) ht (fun w h => lw_all_tbl (in_X5 w h)) (ht _ (lw_all_tbl q445))
  obtain ⟨c5, i5, h5⟩ := u_known (C := RX6) (T := TX6) (N := 16) (n := 16) ht (fun w h => lw_all_tbl (in_X6 w h)) (ht _ (lw_all_tbl q512))
  obtain ⟨c6, i6, h6⟩ := u_known (C := RX7) (T := TX7) (N := 4) (n := 4) ht (fun w h => lw_all_tbl (in_X7 w h)) (ht _ (lw_all_tbl q580))
  obtain ⟨c7, i7, h7⟩ := u_known (C := RX8) (T := TX8) (N := 38) (n := 38) ht (fun w h => lw_all_tbl (in_X8 w h)) (ht _ (lw_all_tbl q601))
  obtain ⟨c8, i8, h8⟩ := u_known (C := RX9) (T := TX9) (N := 7) (n := 7) ht (fun w h => lw_all_tbl (in_X9 w h)) (ht _ (lw_all_tbl q724))
  obtain ⟨c9, i9, h9⟩ := u_known (C := RX10) (T := TX10) (N := 8) (n := 8) ht (fun w h => lw_all_tbl (in_X10 w h)) (ht _ (lw_all_tbl q758))
  obtain ⟨c10, i10, h10⟩ := u_known (C := RX11) (T := TX11) (N := 13) (n := 13) ht (fun w h => lw_all_tbl (in_X11 w h)) (ht _ (lw_all_tbl q764))
  obtain ⟨c11, i11, h11⟩ := u_known (C := RX12) (T := TX12) (N := 4) (n := 4) ht (fun w h => lw_all_tbl (in_X12 w h)) (ht _ (lw_all_tbl q841))
  obtain ⟨c12, i12, h12⟩ := u_known (C := RX13) (T := TX13) (N := 97) (n := 97) ht (fun w h => lw_all_tbl (in_X13 w h)) (ht _ (lw_all_tbl q2993))
  obtain ⟨c13, i13, h13⟩ := u_known (C := RX14) (T := TX14) (N := 14) (n := 14) ht (fun w h => lw_all_tbl (in_X14 w h)) (ht _ (lw_all_tbl q1097))
  obtain ⟨c14, i14, h14⟩ := u_known (C := RX16) (T := TX16) (N := 2) (n := 2) ht (fun w h => lw_all_tbl (in_X16 w h)) (ht _ (lw_all_tbl q1190))
  obtain ⟨c15, i15, h15⟩ := u_known (C := RX17) (T := TX17) (N := 5) (n := 5) ht (fun w h => lw_all_tbl (in_X17 w h)) (ht _ (lw_all_tbl q1317))
  obtain ⟨c16, i16, h16⟩ := u_known (C := RX18) (T := TX18) (N := 5) (n := 5) ht (fun w h => lw_all_tbl (in_X18 w h)) (ht _ (lw_all_tbl q1341))
  obtain ⟨c17, i17, h17⟩ := u_known (C := RX19) (T := TX19) (N := 2) (n := 2) ht (fun w h => lw_all_tbl (in_X19 w h)) (ht _ (lw_all_tbl q1365))
  obtain ⟨c18, i18, h18⟩ := u_known (C := RX20) (T := TX20) (N := 3) (n := 3) ht (fun w h => lw_all_tbl (in_X20 w h)) (ht _ (lw_all_tbl q1380))
  obtain ⟨c19, i19, h19⟩ := u_known (C := RX21) (T := TX21) (N := 3) (n := 3) ht (fun w h => lw_all_tbl (in_X21 w h)) (ht _ (lw_all_tbl q1397))
  obtain ⟨c20, i20, h20⟩ := u_known (C := RX22) (T := TX22) (N := 3) (n := 3) ht (fun w h => lw_all_tbl (in_X22 w h)) (ht _ (lw_all_tbl q1424))
  obtain ⟨c21, i21, h21⟩ := u_known (C := RX23) (T := TX23) (N := 4) (n := 4) ht (fun w h => lw_all_tbl (in_X23 w h)) (ht _ (lw_all_tbl q1443))
  obtain ⟨c22, i22, h22⟩ := u_known (C := RX24) (T := TX24) (N := 5) (n := 5) ht (fun w h => lw_all_tbl (in_X24 w h)) (ht _ (lw_all_tbl q1477))
  obtain ⟨c23, i23, h23⟩ := u_known (C := RX25) (T := TX25) (N := 4) (n := 4) ht (fun w h => lw_all_tbl (in_X25 w h)) (ht _ (lw_all_tbl q1519))
  obtain ⟨c24, i24, h24⟩ := u_known (C := RX26) (T := TX26) (N := 3) (n := 3) ht (fun w h => lw_all_tbl (in_X26 w h)) (ht _ (lw_all_tbl q1538))
  obtain ⟨c25, i25, h25⟩ := u_known (C := RX27) (T := TX27) (N := 3) (n := 3) ht (fun w h => lw_all_tbl (in_X27 w h)) (ht _ (lw_all_tbl q1558))
  obtain ⟨c26, i26, h26⟩ := u_known (C := RX28) (T := TX28) (N := 5) (n := 5) ht (fun w h => lw_all_tbl (in_X28 w h)) (ht _ (lw_all_tbl q1578))
  obtain ⟨c27, i27, h27⟩ := u_known (C := RX29) (T := TX29) (N := 1) (n := 1) ht (fun w h => lw_all_tbl (in_X29 w h)) (ht _ (lw_all_tbl q1608))
  obtain ⟨c28, i28, h28⟩ := u_known (C := RX30) (T := TX30) (N := 3) (n := 3) ht (fun w h => lw_all_tbl (in_X30 w h)) (ht _ (lw_all_tbl q1618))
  obtain ⟨c29, i29, h29⟩ := u_known (C := RX31) (T := TX31) (N := 2) (n := 2) ht (fun w h => lw_all_tbl (in_X31 w h)) (ht _ (lw_all_tbl q1636))
  obtain ⟨c30, i30, h30⟩ := u_known (C := RX32) (T := TX32) (N := 2) (n := 2) ht (fun w h => lw_all_tbl (in_X32 w h)) (ht _ (lw_all_tbl q1649))
  obtain ⟨c31, i31, h31⟩ := u_known (C := RX33) (T := TX33) (N := 2) (n := 2) ht (fun w h => lw_all_tbl (in_X33 w h)) (ht _ (lw_all_tbl q1662))
  obtain ⟨c32, i32, h32⟩ := u_known (C := RX34) (T := TX34) (N := 6) (n := 6) ht (fun w h => lw_all_tbl (in_X34 w h)) (ht _ (lw_all_tbl q1690))
  obtain ⟨c33, i33, h33⟩ := u_known (C := RX35) (T := TX35) (N := 5) (n := 5) ht (fun w h => lw_all_tbl (in_X35 w h)) (ht _ (lw_all_tbl q1743))
  obtain ⟨c34, i34, h34⟩ := u_known (C := RX36) (T := TX36) (N := 12) (n := 12) ht (fun w h => lw_all_tbl (in_X36 w h)) (ht _ (lw_all_tbl q1785))
  obtain ⟨c35, i35, h35⟩ := u_known (C := RX37) (T := TX37) (N := 10) (n := 10) ht (fun w h => lw_all_tbl (in_X37 w h)) (ht _ (lw_all_tbl q1905))
  obtain ⟨c36, i36, h36⟩ := u_known (C := RJ5) (T := TJ5) (N := 3) (n := 3) ht (fun w h => lw_all_tbl (in_J5 w h)) (ht _ (lw_all_tbl q454))
  obtain ⟨c37, i37, h37⟩ := u_known (C := RJ15) (T := TJ15) (N := 1) (n := 1) ht (fun w h => lw_all_tbl (in_J15 w h)) (ht _ (lw_all_tbl q1888))
  refine ⟨(fun k => [c0, c1, c2, c3, c4, c5, c6, c7, c8, c9, c10, c11, c12, c13, c14, c15, c16, c17, c18, c19, c20, c21, c22, c23, c24, c25, c26, c27, c28, c29, c30, c31, c32, c33, c34, c35, c36, c37].getD k c0, fun k => [i0, i1, i2, i3, i4, i5, i6, i7, i8, i9, i10, i11, i12, i13, i14, i15, i16, i17, i18, i19, i20, i21, i22, i23, i24, i25, i26, i27, i28, i29, i30, i31, i32, i33, i34, i35, i36, i37].getD k i0), ?_⟩
  intro k q hq
  match k, hq with
  | 0, hq => cases hq; exact h0
  | 1, hq => cases hq; exact h1
  | 2, hq => cases hq; exact h2
  | 3, hq => cases hq; exact h3
  | 4, hq => cases hq; exact h4
  | 5, hq => cases hq; exact h5
  | 6, hq => cases hq; exact h6
  | 7, hq => cases hq; exact h7
  | 8, hq => cases hq; exact h8
  | 9, hq => cases hq; exact h9
  | 10, hq => cases hq; exact h10
  | 11, hq => cases hq; exact h11
  | 12, hq => cases hq; exact h12
  | 13, hq => cases hq; exact h13
  | 14, hq => cases hq; exact h14
  | 15, hq => cases hq; exact h15
  | 16, hq => cases hq; exact h16
  | 17, hq => cases hq; exact h17
  | 18, hq => cases hq; exact h18
  | 19, hq => cases hq; exact h19
  | 20, hq => cases hq; exact h20
  | 21, hq => cases hq; exact h21
  | 22, hq => cases hq; exact h22
  | 23, hq => cases hq; exact h23
  | 24, hq => cases hq; exact h24
  | 25, hq => cases hq; exact h25
  | 26, hq => cases hq; exact h26
  | 27, hq => cases hq; exact h27
  | 28, hq => cases hq; exact h28
  | 29, hq => cases hq; exact h29
  | 30, hq => cases hq; exact h30
  | 31, hq => cases hq; exact h31
  | 32, hq => cases hq; exact h32
  | 33, hq => cases hq; exact h33
  | 34, hq => cases hq; exact h34
  | 35, hq => cases hq; exact h35
  | 36, hq => cases hq; exact h36
  | 37, hq => cases hq; exact h37
  | k + 38, hq => simp [xcl] at hq
