/-! the component: its classes, its world, its rows -/
set_option maxRecDepth 100000
def RX0 : String := "ChapterLoan"
def TX0 : u_T := fun k => match k with
  | 0 => ("ChapterLoan", "finding", "LChapterLoan$Finding;", true)
  | 1 => ("ChapterLoan", "town", "LChapterLoan$Town;", true)
  | 2 => ("ChapterLoan", "image", "LChapterLoan$Town;", true)
  | 3 => ("ChapterLoan", "tried", "LChapterLoan$Town;", true)
  | 4 => ("ChapterLoan", "images", "I", false)
  | 5 => ("ChapterLoan", "trace", "LChapterLoan$Trace;", true)
  | 6 => ("ChapterLoan", "errors", "[I", true)
  | 7 => ("ChapterLoan", "sheets", "[LChapterLoan$Shelf;", true)
  | 8 => ("ChapterLoan", "row", "[I", true)
  | 9 => ("ChapterLoan", "bestRow", "[I", true)
  | 10 => ("ChapterLoan", "bestMany", "I", false)
  | 11 => ("ChapterLoan", "isShortest", "Z", false)
  | _ => ("ChapterLoan", "heard", "[I", true)
def tyX0 : Nat → FieldType := fun k => match k with
  | 0 => .object "ChapterLoan$Finding"
  | 1 => .object "ChapterLoan$Town"
  | 2 => .object "ChapterLoan$Town"
  | 3 => .object "ChapterLoan$Town"
  | 4 => .int
  | 5 => .object "ChapterLoan$Trace"
  | 6 => .array .int
  | 7 => .array (.object "ChapterLoan$Shelf")
  | 8 => .array .int
  | 9 => .array .int
  | 10 => .int
  | 11 => .boolean
  | _ => .array .int
abbrev wsX00 : List Cond := u_ws RX0 TX0 13
theorem nmX0 : ∀ a, a < 13 → ∀ b, b < 13 → a ≠ b → (TX0 a).2.1 ≠ (TX0 b).2.1 := by decide +kernel
theorem tyX0_ok : ∀ k, k < 13 → parseFieldDescriptor (TX0 k).2.2.1 = some (tyX0 k) := by decide +kernel
theorem in_X0 : ∀ w ∈ wsX00, w ∈ lw_all := lw_in wsX00 [368, 370, 372, 374, 376, 378, 380, 382, 384, 386, 388, 390, 392] (by decide +kernel) (by decide +kernel)
def RX1 : String := "ChapterLoan$Finding"
def TX1 : u_T := fun k => match k with
  | 0 => ("java/lang/Throwable", "cause", "Ljava/lang/Throwable;", false)
  | 1 => ("java/lang/Throwable", "stackTrace", "[Ljava/lang/StackTraceElement;", false)
  | 2 => ("java/lang/Throwable", "suppressedExceptions", "Ljava/util/List;", false)
  | 3 => ("java/lang/Throwable", "detailMessage", "Ljava/lang/String;", false)
  | 4 => ("java/lang/Throwable", "backtrace", "Ljava/lang/Object;", false)
  | 5 => ("java/lang/Throwable", "depth", "I", false)
  | _ => ("ChapterLoan$Finding", "code", "I", false)
def tyX1 : Nat → FieldType := fun k => match k with
  | 0 => .object "java/lang/Throwable"
  | 1 => .array (.object "java/lang/StackTraceElement")
  | 2 => .object "java/util/List"
  | 3 => .object "java/lang/String"
  | 4 => .object "java/lang/Object"
  | 5 => .int
  | _ => .int
abbrev wsX10 : List Cond := u_ws RX1 TX1 7
theorem nmX1 : ∀ a, a < 7 → ∀ b, b < 7 → a ≠ b → (TX1 a).2.1 ≠ (TX1 b).2.1 := by decide +kernel
theorem tyX1_ok : ∀ k, k < 7 → parseFieldDescriptor (TX1 k).2.2.1 = some (tyX1 k) := by decide +kernel
theorem in_X1 : ∀ w ∈ wsX10, w ∈ lw_all := lw_in wsX10 [140, 142, 144, 146, 148, 194, 188] (by decide +kernel) (by decide +kernel)
def RX2 : String := "ChapterLoan$Town"
def TX2 : u_T := fun k => match k with
  | 0 => ("ChapterLoan$Town", "facts", "I", false)
  | 1 => ("ChapterLoan$Town", "needs", "[I", true)
  | 2 => ("ChapterLoan$Town", "clashes", "[I", true)
  | 3 => ("ChapterLoan$Town", "within", "[I", true)
  | 4 => ("ChapterLoan$Town", "by", "[I", true)
  | 5 => ("ChapterLoan$Town", "witnesses", "[I", true)
  | 6 => ("ChapterLoan$Town", "debtors", "I", false)
  | 7 => ("ChapterLoan$Town", "debtor", "[LChapterLoan$Debtor;", true)
  | 8 => ("ChapterLoan$Town", "debt", "[I", true)
  | 9 => ("ChapterLoan$Town", "isBroken", "[Z", true)
  | 10 => ("ChapterLoan$Town", "many", "[I", true)
  | 11 => ("ChapterLoan$Town", "bookFact", "[I", true)
  | 12 => ("ChapterLoan$Town", "bookWeek", "[I", true)
  | 13 => ("ChapterLoan$Town", "week", "I", false)
  | 14 => ("ChapterLoan$Town", "meetings", "I", false)
  | 15 => ("ChapterLoan$Town", "meetWeek", "[I", true)
  | 16 => ("ChapterLoan$Town", "meetOne", "[I", true)
  | 17 => ("ChapterLoan$Town", "meetOther", "[I", true)
  | 18 => ("ChapterLoan$Town", "text", "[LChapterLoan$Term;", true)
  | 19 => ("ChapterLoan$Town", "z", "I", false)
  | 20 => ("ChapterLoan$Town", "tape", "[B", true)
  | 21 => ("ChapterLoan$Town", "taped", "I", false)
  | 22 => ("ChapterLoan$Town", "waiting", "[I", true)
  | 23 => ("ChapterLoan$Town", "waits", "I", false)
  | 24 => ("ChapterLoan$Town", "names", "LChapterLoan$Facts;", true)
  | 25 => ("ChapterLoan$Town", "ratedOne", "I", false)
  | _ => ("ChapterLoan$Town", "rate", "I", false)
def tyX2 : Nat → FieldType := fun k => match k with
  | 0 => .int
  | 1 => .array .int
  | 2 => .array .int
  | 3 => .array .int
  | 4 => .array .int
  | 5 => .array .int
  | 6 => .int
  | 7 => .array (.object "ChapterLoan$Debtor")
  | 8 => .array .int
  | 9 => .array .boolean
  | 10 => .array .int
  | 11 => .array .int
  | 12 => .array .int
  | 13 => .int
  | 14 => .int
  | 15 => .array .int
  | 16 => .array .int
  | 17 => .array .int
  | 18 => .array (.object "ChapterLoan$Term")
  | 19 => .int
  | 20 => .array .byte
  | 21 => .int
  | 22 => .array .int
  | 23 => .int
  | 24 => .object "ChapterLoan$Facts"
  | 25 => .int
  | _ => .int
abbrev wsX20 : List Cond := u_ws RX2 TX2 27
theorem nmX2 : ∀ a, a < 27 → ∀ b, b < 27 → a ≠ b → (TX2 a).2.1 ≠ (TX2 b).2.1 := by decide +kernel
theorem tyX2_ok : ∀ k, k < 27 → parseFieldDescriptor (TX2 k).2.2.1 = some (tyX2 k) := by decide +kernel
theorem in_X2 : ∀ w ∈ wsX20, w ∈ lw_all := lw_in wsX20 [274, 276, 278, 280, 282, 284, 286, 288, 290, 292, 294, 296, 298, 300, 302, 304, 306, 308, 310, 312, 314, 316, 318, 320, 322, 324, 326] (by decide +kernel) (by decide +kernel)
def RX3 : String := "ChapterLoan$Facts"
def TX3 : u_T := fun k => match k with
  | _ => ("ChapterLoan$Facts", "named", "[I", true)
def tyX3 : Nat → FieldType := fun k => match k with
  | _ => .array .int
abbrev wsX30 : List Cond := u_ws RX3 TX3 1
theorem nmX3 : ∀ a, a < 1 → ∀ b, b < 1 → a ≠ b → (TX3 a).2.1 ≠ (TX3 b).2.1 := by decide +kernel
theorem tyX3_ok : ∀ k, k < 1 → parseFieldDescriptor (TX3 k).2.2.1 = some (tyX3 k) := by decide +kernel
theorem in_X3 : ∀ w ∈ wsX30, w ∈ lw_all := lw_in wsX30 [216] (by decide +kernel) (by decide +kernel)
def RX4 : String := "ChapterLoan$Trace"
def TX4 : u_T := fun k => match k with
  | 0 => ("ChapterLoan$Trace", "ran", "[I", true)
  | _ => ("ChapterLoan$Trace", "many", "I", false)
def tyX4 : Nat → FieldType := fun k => match k with
  | 0 => .array .int
  | _ => .int
abbrev wsX40 : List Cond := u_ws RX4 TX4 2
theorem nmX4 : ∀ a, a < 2 → ∀ b, b < 2 → a ≠ b → (TX4 a).2.1 ≠ (TX4 b).2.1 := by decide +kernel
theorem tyX4_ok : ∀ k, k < 2 → parseFieldDescriptor (TX4 k).2.2.1 = some (tyX4 k) := by decide +kernel
theorem in_X4 : ∀ w ∈ wsX40, w ∈ lw_all := lw_in wsX40 [339, 341] (by decide +kernel) (by decide +kernel)
def RX5 : String := "ChapterLoan$Shelf"
def TX5 : u_T := fun k => match k with
  | _ => ("ChapterLoan$Shelf", "held", "Ljava/lang/Object;", false)
def tyX5 : Nat → FieldType := fun k => match k with
  | _ => .object "java/lang/Object"
abbrev wsX50 : List Cond := u_ws RX5 TX5 1
theorem nmX5 : ∀ a, a < 1 → ∀ b, b < 1 → a ≠ b → (TX5 a).2.1 ≠ (TX5 b).2.1 := by decide +kernel
theorem tyX5_ok : ∀ k, k < 1 → parseFieldDescriptor (TX5 k).2.2.1 = some (tyX5 k) := by decide +kernel
theorem in_X5 : ∀ w ∈ wsX50, w ∈ lw_all := lw_in wsX50 [352] (by decide +kernel) (by decide +kernel)
def RX18 : String := "ChapterLoan$Fault"
def TX18 : u_T := fun k => match k with
  | 0 => ("java/lang/Throwable", "cause", "Ljava/lang/Throwable;", false)
  | 1 => ("java/lang/Throwable", "stackTrace", "[Ljava/lang/StackTraceElement;", false)
  | 2 => ("java/lang/Throwable", "suppressedExceptions", "Ljava/util/List;", false)
  | 3 => ("java/lang/Throwable", "detailMessage", "Ljava/lang/String;", false)
  | 4 => ("java/lang/Throwable", "backtrace", "Ljava/lang/Object;", false)
  | 5 => ("java/lang/Throwable", "depth", "I", false)
  | _ => ("ChapterLoan$Fault", "place", "I", true)
def tyX18 : Nat → FieldType := fun k => match k with
  | 0 => .object "java/lang/Throwable"
  | 1 => .array (.object "java/lang/StackTraceElement")
  | 2 => .object "java/util/List"
  | 3 => .object "java/lang/String"
  | 4 => .object "java/lang/Object"
  | 5 => .int
  | _ => .int
abbrev wsX180 : List Cond := u_ws RX18 TX18 7
theorem nmX18 : ∀ a, a < 7 → ∀ b, b < 7 → a ≠ b → (TX18 a).2.1 ≠ (TX18 b).2.1 := by decide +kernel
theorem tyX18_ok : ∀ k, k < 7 → parseFieldDescriptor (TX18 k).2.2.1 = some (tyX18 k) := by decide +kernel
theorem in_X18 : ∀ w ∈ wsX180, w ∈ lw_all := lw_in wsX180 [1036, 1037, 1038, 1039, 1040, 1049, 1047] (by decide +kernel) (by decide +kernel)
def RX7 : String := "ChapterLoan$Debtor"
def TX7 : u_T := fun k => match k with
  | 0 => ("ChapterLoan$Debtor", "trace", "LChapterLoan$Trace;", true)
  | 1 => ("ChapterLoan$Debtor", "number", "I", true)
  | _ => ("ChapterLoan$Debtor", "m", "I", true)
def tyX7 : Nat → FieldType := fun k => match k with
  | 0 => .object "ChapterLoan$Trace"
  | 1 => .int
  | _ => .int
abbrev wsX70 : List Cond := u_ws RX7 TX7 3
theorem nmX7 : ∀ a, a < 3 → ∀ b, b < 3 → a ≠ b → (TX7 a).2.1 ≠ (TX7 b).2.1 := by decide +kernel
theorem tyX7_ok : ∀ k, k < 3 → parseFieldDescriptor (TX7 k).2.2.1 = some (tyX7 k) := by decide +kernel
theorem in_X7 : ∀ w ∈ wsX70, w ∈ lw_all := lw_in wsX70 [547, 548, 549] (by decide +kernel) (by decide +kernel)
def RX8 : String := "ChapterLoan$Plagiarist"
def TX8 : u_T := fun k => match k with
  | 0 => ("ChapterLoan$Debtor", "trace", "LChapterLoan$Trace;", true)
  | 1 => ("ChapterLoan$Debtor", "number", "I", true)
  | _ => ("ChapterLoan$Debtor", "m", "I", true)
def tyX8 : Nat → FieldType := fun k => match k with
  | 0 => .object "ChapterLoan$Trace"
  | 1 => .int
  | _ => .int
abbrev wsX80 : List Cond := u_ws RX8 TX8 3
theorem nmX8 : ∀ a, a < 3 → ∀ b, b < 3 → a ≠ b → (TX8 a).2.1 ≠ (TX8 b).2.1 := by decide +kernel
theorem tyX8_ok : ∀ k, k < 3 → parseFieldDescriptor (TX8 k).2.2.1 = some (tyX8 k) := by decide +kernel
theorem in_X8 : ∀ w ∈ wsX80, w ∈ lw_all := lw_in wsX80 [487, 489, 491] (by decide +kernel) (by decide +kernel)
def RX9 : String := "ChapterLoan$Dreamer"
def TX9 : u_T := fun k => match k with
  | 0 => ("ChapterLoan$Debtor", "trace", "LChapterLoan$Trace;", true)
  | 1 => ("ChapterLoan$Debtor", "number", "I", true)
  | _ => ("ChapterLoan$Debtor", "m", "I", true)
def tyX9 : Nat → FieldType := fun k => match k with
  | 0 => .object "ChapterLoan$Trace"
  | 1 => .int
  | _ => .int
abbrev wsX90 : List Cond := u_ws RX9 TX9 3
theorem nmX9 : ∀ a, a < 3 → ∀ b, b < 3 → a ≠ b → (TX9 a).2.1 ≠ (TX9 b).2.1 := by decide +kernel
theorem tyX9_ok : ∀ k, k < 3 → parseFieldDescriptor (TX9 k).2.2.1 = some (tyX9 k) := by decide +kernel
theorem in_X9 : ∀ w ∈ wsX90, w ∈ lw_all := lw_in wsX90 [500, 501, 502] (by decide +kernel) (by decide +kernel)
def RX10 : String := "ChapterLoan$Ghost"
def TX10 : u_T := fun k => match k with
  | 0 => ("ChapterLoan$Debtor", "trace", "LChapterLoan$Trace;", true)
  | 1 => ("ChapterLoan$Debtor", "number", "I", true)
  | _ => ("ChapterLoan$Debtor", "m", "I", true)
def tyX10 : Nat → FieldType := fun k => match k with
  | 0 => .object "ChapterLoan$Trace"
  | 1 => .int
  | _ => .int
abbrev wsX100 : List Cond := u_ws RX10 TX10 3
theorem nmX10 : ∀ a, a < 3 → ∀ b, b < 3 → a ≠ b → (TX10 a).2.1 ≠ (TX10 b).2.1 := by decide +kernel
theorem tyX10_ok : ∀ k, k < 3 → parseFieldDescriptor (TX10 k).2.2.1 = some (tyX10 k) := by decide +kernel
theorem in_X10 : ∀ w ∈ wsX100, w ∈ lw_all := lw_in wsX100 [510, 511, 512] (by decide +kernel) (by decide +kernel)
def RX11 : String := "ChapterLoan$Twin"
def TX11 : u_T := fun k => match k with
  | 0 => ("ChapterLoan$Debtor", "trace", "LChapterLoan$Trace;", true)
  | 1 => ("ChapterLoan$Debtor", "number", "I", true)
  | _ => ("ChapterLoan$Debtor", "m", "I", true)
def tyX11 : Nat → FieldType := fun k => match k with
  | 0 => .object "ChapterLoan$Trace"
  | 1 => .int
  | _ => .int
abbrev wsX110 : List Cond := u_ws RX11 TX11 3
theorem nmX11 : ∀ a, a < 3 → ∀ b, b < 3 → a ≠ b → (TX11 a).2.1 ≠ (TX11 b).2.1 := by decide +kernel
theorem tyX11_ok : ∀ k, k < 3 → parseFieldDescriptor (TX11 k).2.2.1 = some (tyX11 k) := by decide +kernel
theorem in_X11 : ∀ w ∈ wsX110, w ∈ lw_all := lw_in wsX110 [520, 521, 522] (by decide +kernel) (by decide +kernel)
def RX12 : String := "ChapterLoan$Seer"
def TX12 : u_T := fun k => match k with
  | 0 => ("ChapterLoan$Debtor", "trace", "LChapterLoan$Trace;", true)
  | 1 => ("ChapterLoan$Debtor", "number", "I", true)
  | _ => ("ChapterLoan$Debtor", "m", "I", true)
def tyX12 : Nat → FieldType := fun k => match k with
  | 0 => .object "ChapterLoan$Trace"
  | 1 => .int
  | _ => .int
abbrev wsX120 : List Cond := u_ws RX12 TX12 3
theorem nmX12 : ∀ a, a < 3 → ∀ b, b < 3 → a ≠ b → (TX12 a).2.1 ≠ (TX12 b).2.1 := by decide +kernel
theorem tyX12_ok : ∀ k, k < 3 → parseFieldDescriptor (TX12 k).2.2.1 = some (tyX12 k) := by decide +kernel
theorem in_X12 : ∀ w ∈ wsX120, w ∈ lw_all := lw_in wsX120 [530, 531, 532] (by decide +kernel) (by decide +kernel)
def RX13 : String := "ChapterLoan$Saint"
def TX13 : u_T := fun k => match k with
  | 0 => ("ChapterLoan$Debtor", "trace", "LChapterLoan$Trace;", true)
  | 1 => ("ChapterLoan$Debtor", "number", "I", true)
  | _ => ("ChapterLoan$Debtor", "m", "I", true)
def tyX13 : Nat → FieldType := fun k => match k with
  | 0 => .object "ChapterLoan$Trace"
  | 1 => .int
  | _ => .int
abbrev wsX130 : List Cond := u_ws RX13 TX13 3
theorem nmX13 : ∀ a, a < 3 → ∀ b, b < 3 → a ≠ b → (TX13 a).2.1 ≠ (TX13 b).2.1 := by decide +kernel
theorem tyX13_ok : ∀ k, k < 3 → parseFieldDescriptor (TX13 k).2.2.1 = some (tyX13 k) := by decide +kernel
theorem in_X13 : ∀ w ∈ wsX130, w ∈ lw_all := lw_in wsX130 [540, 541, 542] (by decide +kernel) (by decide +kernel)
def RX20 : String := "ChapterLoan$Figure"
def TX20 : u_T := fun k => match k with
  | _ => ("ChapterLoan$Figure", "v", "I", true)
def tyX20 : Nat → FieldType := fun k => match k with
  | _ => .int
abbrev wsX200 : List Cond := u_ws RX20 TX20 1
theorem nmX20 : ∀ a, a < 1 → ∀ b, b < 1 → a ≠ b → (TX20 a).2.1 ≠ (TX20 b).2.1 := by decide +kernel
theorem tyX20_ok : ∀ k, k < 1 → parseFieldDescriptor (TX20 k).2.2.1 = some (tyX20 k) := by decide +kernel
theorem in_X20 : ∀ w ∈ wsX200, w ∈ lw_all := lw_in wsX200 [1070] (by decide +kernel) (by decide +kernel)
def RX17 : String := "ChapterLoan$Named"
def TX17 : u_T := fun k => match k with
  | _ => ("ChapterLoan$Named", "name", "I", true)
def tyX17 : Nat → FieldType := fun k => match k with
  | _ => .int
abbrev wsX170 : List Cond := u_ws RX17 TX17 1
theorem nmX17 : ∀ a, a < 1 → ∀ b, b < 1 → a ≠ b → (TX17 a).2.1 ≠ (TX17 b).2.1 := by decide +kernel
theorem tyX17_ok : ∀ k, k < 1 → parseFieldDescriptor (TX17 k).2.2.1 = some (tyX17 k) := by decide +kernel
theorem in_X17 : ∀ w ∈ wsX170, w ∈ lw_all := lw_in wsX170 [1020] (by decide +kernel) (by decide +kernel)
def RX19 : String := "ChapterLoan$Turned"
def TX19 : u_T := fun k => match k with
  | _ => ("ChapterLoan$Turned", "of", "LChapterLoan$Term;", true)
def tyX19 : Nat → FieldType := fun k => match k with
  | _ => .object "ChapterLoan$Term"
abbrev wsX190 : List Cond := u_ws RX19 TX19 1
theorem nmX19 : ∀ a, a < 1 → ∀ b, b < 1 → a ≠ b → (TX19 a).2.1 ≠ (TX19 b).2.1 := by decide +kernel
theorem tyX19_ok : ∀ k, k < 1 → parseFieldDescriptor (TX19 k).2.2.1 = some (tyX19 k) := by decide +kernel
theorem in_X19 : ∀ w ∈ wsX190, w ∈ lw_all := lw_in wsX190 [1058] (by decide +kernel) (by decide +kernel)
def RX15 : String := "ChapterLoan$Two"
def TX15 : u_T := fun k => match k with
  | 0 => ("ChapterLoan$Two", "sign", "I", true)
  | 1 => ("ChapterLoan$Two", "a", "LChapterLoan$Term;", true)
  | _ => ("ChapterLoan$Two", "b", "LChapterLoan$Term;", true)
def tyX15 : Nat → FieldType := fun k => match k with
  | 0 => .int
  | 1 => .object "ChapterLoan$Term"
  | _ => .object "ChapterLoan$Term"
abbrev wsX150 : List Cond := u_ws RX15 TX15 3
theorem nmX15 : ∀ a, a < 3 → ∀ b, b < 3 → a ≠ b → (TX15 a).2.1 ≠ (TX15 b).2.1 := by decide +kernel
theorem tyX15_ok : ∀ k, k < 3 → parseFieldDescriptor (TX15 k).2.2.1 = some (tyX15 k) := by decide +kernel
theorem in_X15 : ∀ w ∈ wsX150, w ∈ lw_all := lw_in wsX150 [1083, 1085, 1087] (by decide +kernel) (by decide +kernel)
def RX16 : String := "ChapterLoan$Reader"
def TX16 : u_T := fun k => match k with
  | 0 => ("ChapterLoan$Reader", "names", "Ljava/lang/String;", true)
  | 1 => ("ChapterLoan$Reader", "bytes", "[B", true)
  | 2 => ("ChapterLoan$Reader", "size", "I", true)
  | 3 => ("ChapterLoan$Reader", "at", "I", false)
  | _ => ("ChapterLoan$Reader", "open", "I", false)
def tyX16 : Nat → FieldType := fun k => match k with
  | 0 => .object "java/lang/String"
  | 1 => .array .byte
  | 2 => .int
  | 3 => .int
  | _ => .int
abbrev wsX160 : List Cond := u_ws RX16 TX16 5
theorem nmX16 : ∀ a, a < 5 → ∀ b, b < 5 → a ≠ b → (TX16 a).2.1 ≠ (TX16 b).2.1 := by decide +kernel
theorem tyX16_ok : ∀ k, k < 5 → parseFieldDescriptor (TX16 k).2.2.1 = some (tyX16 k) := by decide +kernel
theorem in_X16 : ∀ w ∈ wsX160, w ∈ lw_all := lw_in wsX160 [881, 883, 885, 887, 889] (by decide +kernel) (by decide +kernel)
def RX22 : String := "ChapterLoan$Bytes"
def TX22 : u_T := fun k => match k with
  | _ => ("ChapterLoan$Bytes", "row", "[B", true)
def tyX22 : Nat → FieldType := fun k => match k with
  | _ => .array .byte
abbrev wsX220 : List Cond := u_ws RX22 TX22 1
theorem nmX22 : ∀ a, a < 1 → ∀ b, b < 1 → a ≠ b → (TX22 a).2.1 ≠ (TX22 b).2.1 := by decide +kernel
theorem tyX22_ok : ∀ k, k < 1 → parseFieldDescriptor (TX22 k).2.2.1 = some (tyX22 k) := by decide +kernel
theorem in_X22 : ∀ w ∈ wsX220, w ∈ lw_all := lw_in wsX220 [1419] (by decide +kernel) (by decide +kernel)
def RX23 : String := "ChapterLoan$Shorts"
def TX23 : u_T := fun k => match k with
  | _ => ("ChapterLoan$Shorts", "row", "[S", true)
def tyX23 : Nat → FieldType := fun k => match k with
  | _ => .array .short
abbrev wsX230 : List Cond := u_ws RX23 TX23 1
theorem nmX23 : ∀ a, a < 1 → ∀ b, b < 1 → a ≠ b → (TX23 a).2.1 ≠ (TX23 b).2.1 := by decide +kernel
theorem tyX23_ok : ∀ k, k < 1 → parseFieldDescriptor (TX23 k).2.2.1 = some (tyX23 k) := by decide +kernel
theorem in_X23 : ∀ w ∈ wsX230, w ∈ lw_all := lw_in wsX230 [1429] (by decide +kernel) (by decide +kernel)
def RX24 : String := "ChapterLoan$Ints"
def TX24 : u_T := fun k => match k with
  | _ => ("ChapterLoan$Ints", "row", "[I", true)
def tyX24 : Nat → FieldType := fun k => match k with
  | _ => .array .int
abbrev wsX240 : List Cond := u_ws RX24 TX24 1
theorem nmX24 : ∀ a, a < 1 → ∀ b, b < 1 → a ≠ b → (TX24 a).2.1 ≠ (TX24 b).2.1 := by decide +kernel
theorem tyX24_ok : ∀ k, k < 1 → parseFieldDescriptor (TX24 k).2.2.1 = some (tyX24 k) := by decide +kernel
theorem in_X24 : ∀ w ∈ wsX240, w ∈ lw_all := lw_in wsX240 [1440] (by decide +kernel) (by decide +kernel)
def RX14 : String := "ChapterLoan$Term"
def RX21 : String := "ChapterLoan$Sheet"
def RJ0 : String := "java/lang/Throwable"
def RJ1 : String := "java/lang/Exception"
def RJ2 : String := "java/lang/RuntimeException"
def RJ3 : String := "java/lang/Integer"
def RJ4 : String := "java/lang/Math"
def RJ5 : String := "java/lang/String"
def RJ6 : String := "java/lang/StringLatin1"
def RJ7 : String := "java/lang/StringUTF16"
def RJ8 : String := "jdk/internal/util/Preconditions"
def RJ9 : String := "java/lang/Character"
abbrev cCl : List vw_C := [(RX0, TX0, 13), (RX1, TX1, 7), (RX2, TX2, 27), (RX3, TX3, 1), (RX4, TX4, 2), (RX5, TX5, 1), (RX18, TX18, 7), (RX7, TX7, 3), (RX8, TX8, 3), (RX9, TX9, 3), (RX10, TX10, 3), (RX11, TX11, 3), (RX12, TX12, 3), (RX13, TX13, 3), (RX20, TX20, 1), (RX17, TX17, 1), (RX19, TX19, 1), (RX15, TX15, 3), (RX16, TX16, 5), (RX22, TX22, 1), (RX23, TX23, 1), (RX24, TX24, 1)]
/-- F: ints by key and field; A: arrays of numbers by key; Q: references by key and place; P: cells of the pool by key -/
abbrev CS : Type := (Nat → Nat → Int32) × (Nat → Nat → Int32) × (Nat → Nat → Option Nat) × (Nat → va_E)
def tfs (ad : Nat → Nat) (k : Nat) (f : Nat → Int32) : List Value := [.int (f 0), .ref (ad (k + 1)), .ref (ad (k + 2)), .ref (ad (k + 3)), .ref (ad (k + 4)), .ref (ad (k + 5)), .int (f 6), .ref (ad (k + 17)), .ref (ad (k + 6)), .ref (ad (k + 7)), .ref (ad (k + 8)), .ref (ad (k + 9)), .ref (ad (k + 10)), .int (f 13), .int (f 14), .ref (ad (k + 11)), .ref (ad (k + 12)), .ref (ad (k + 13)), .ref (ad (k + 18)), .int (f 19), .ref (ad (k + 14)), .int (f 21), .ref (ad (k + 15)), .int (f 23), .ref (ad (k + 19)), .int (f 25), .int (f 26)]
def tcell (cA : Nat → ClassId) (ad : Nat → Nat) (k j : Nat) (f a : Nat → Int32) (q : Nat → Option Nat) : va_E := match j with
  | 0 => .inr (2, tfs ad k f)
  | 1 => .inl (cA 0, 8, .inl a)
  | 2 => .inl (cA 0, 8, .inl a)
  | 3 => .inl (cA 0, 8, .inl a)
  | 4 => .inl (cA 0, 8, .inl a)
  | 5 => .inl (cA 0, 8, .inl a)
  | 6 => .inl (cA 0, 4, .inl a)
  | 7 => .inl (cA 1, 4, .inl a)
  | 8 => .inl (cA 0, 4, .inl a)
  | 9 => .inl (cA 0, 32, .inl a)
  | 10 => .inl (cA 0, 32, .inl a)
  | 11 => .inl (cA 0, 12, .inl a)
  | 12 => .inl (cA 0, 12, .inl a)
  | 13 => .inl (cA 0, 12, .inl a)
  | 14 => .inl (cA 2, 50, .inl a)
  | 15 => .inl (cA 0, 20, .inl a)
  | 16 => .inl (cA 0, 128, .inl a)
  | 17 => .inl (cA 4, 4, .inr (.inr (.inr (.inr q))))
  | 18 => .inl (cA 5, 2, .inr (.inr (.inr (.inr q))))
  | _ => .inr (3, [.ref (ad (k - 3))])
def lfs (ad : Nat → Nat) (f : Nat → Int32) : List Value := [.ref (ad 61), .ref (ad 0), .ref (ad 20), .ref (ad 40), .int (f 4), .ref (ad 62), .ref (ad 64), .ref (ad 68), .ref (ad 65), .ref (ad 66), .int (f 10), .int (f 11), .ref (ad 67)]
def lcell (cA : Nat → ClassId) (ad : Nat → Nat) (k : Nat) (f a : Nat → Int32) (q : Nat → Option Nat) : va_E := match k with
  | 60 => .inr (0, lfs ad f)
  | 61 => .inr (1, [va_rf (q 0), va_rf (q 1), va_rf (q 2), va_rf (q 3), va_rf (q 4), .int (f 5), .int (f 6)])
  | 62 => .inr (4, [.ref (ad 63), .int (f 1)])
  | 63 => .inl (cA 0, 40, .inl a)
  | 64 => .inl (cA 0, 6, .inl a)
  | 65 => .inl (cA 0, 8, .inl a)
  | 66 => .inl (cA 0, 8, .inl a)
  | 67 => .inl (cA 0, 5, .inl a)
  | 68 => .inl (cA 6, 4, .inr (.inr (.inr (.inr q))))
  | _ => .inr (5, [va_rf (q 0)])
def cg (cA : Nat → ClassId) (ad : Nat → Nat) (st : CS) (k : Nat) : va_E := if k < 60 then tcell cA ad k (k % 20) (st.1 k) (st.2.1 k) (st.2.2.1 k) else if k < 73 then lcell cA ad k (st.1 k) (st.2.1 k) (st.2.2.1 k) else st.2.2.2 k
theorem cg_t {cA : Nat → ClassId} {ad : Nat → Nat} {st : CS} {t : Nat} (j : Nat) (ht : t < 3) (hj : j < 20) : cg cA ad st (20 * t + j) = tcell cA ad (20 * t + j) j (st.1 (20 * t + j)) (st.2.1 (20 * t + j)) (st.2.2.1 (20 * t + j)) := by
  unfold cg
  rw [if_pos (by omega), show (20 * t + j) % 20 = j by omega]
def csF (st : CS) (k j : Nat) (x : Int32) : CS := (va_up st.1 k (va_up (st.1 k) j x), st.2)
def csA (st : CS) (k : Nat) (b : Nat → Int32) : CS := (st.1, va_up st.2.1 k b, st.2.2)
def csQ (st : CS) (k : Nat) (b : Nat → Option Nat) : CS := (st.1, st.2.1, va_up st.2.2.1 k b, st.2.2.2)
def csP (st : CS) (k : Nat) (e : va_E) : CS := (st.1, st.2.1, st.2.2.1, va_up st.2.2.2 k e)
theorem cg_F {cA : Nat → ClassId} {ad : Nat → Nat} {st : CS} {k j : Nat} {x : Int32} {e : va_E} (h : cg cA ad (csF st k j x) k = e) : va_up (cg cA ad st) k e = cg cA ad (csF st k j x) := by
  funext i
  by_cases hi : i = k
  · subst hi; rw [← h]; simp [va_up]
  · simp [va_up, hi, cg, csF]
theorem cg_A {cA : Nat → ClassId} {ad : Nat → Nat} {st : CS} {k : Nat} {b : Nat → Int32} {e : va_E} (h : cg cA ad (csA st k b) k = e) : va_up (cg cA ad st) k e = cg cA ad (csA st k b) := by
  funext i
  by_cases hi : i = k
  · subst hi; rw [← h]; simp [va_up]
  · simp [va_up, hi, cg, csA]
theorem cg_Q {cA : Nat → ClassId} {ad : Nat → Nat} {st : CS} {k : Nat} {b : Nat → Option Nat} {e : va_E} (h : cg cA ad (csQ st k b) k = e) : va_up (cg cA ad st) k e = cg cA ad (csQ st k b) := by
  funext i
  by_cases hi : i = k
  · subst hi; rw [← h]; simp [va_up]
  · simp [va_up, hi, cg, csQ]
theorem cg_P {cA : Nat → ClassId} {ad : Nat → Nat} {st : CS} {k : Nat} {e : va_E} (hk : 73 ≤ k) : va_up (cg cA ad st) k e = cg cA ad (csP st k e) := by
  funext i
  by_cases hi : i = k
  · subst hi; simp [va_up, cg, csP, show ¬ i < 60 by omega, show ¬ i < 73 by omega]
  · simp [va_up, hi, cg, csP]
/-! a world of keys in a list -/
theorem nd_inj {l : List Nat} (h : l.Nodup) {i j a : Nat} (hi : l[i]? = some a) (hj : l[j]? = some a) : i = j := by
  obtain ⟨a1, a2⟩ := List.getElem?_eq_some_iff.mp hi
  obtain ⟨b1, b2⟩ := List.getElem?_eq_some_iff.mp hj
  rcases Nat.lt_trichotomy i j with q | q | q
  · exact absurd (a2.trans b2.symm) (List.pairwise_iff_getElem.mp h i j a1 b1 q)
  · exact q
  · exact absurd (b2.trans a2.symm) (List.pairwise_iff_getElem.mp h j i b1 a1 q)
def kl (ks : List Nat) (ad : Nat → Nat) (g : Nat → va_E) : va_W := ks.map fun k => (ad k, g k)
theorem kl_at {ks : List Nat} {ad : Nat → Nat} {g : Nat → va_E} {k i : Nat} (h : ks[i]? = some k) : (kl ks ad g)[i]? = some (ad k, g k) := by
  simp [kl, h]
theorem kl_set {ks : List Nat} {ad : Nat → Nat} {g : Nat → va_E} {k i : Nat} {e : va_E} (hn : ks.Nodup) (hi : ks[i]? = some k) : (kl ks ad g).set i (ad k, e) = kl ks ad (va_up g k e) := by
  apply List.ext_getElem?
  intro j
  have hil : i < ks.length := (List.getElem?_eq_some_iff.mp hi).1
  by_cases hij : i = j
  · subst hij
    rw [List.getElem?_set_self (by simpa [kl] using hil), kl_at hi]
    simp [va_up]
  · rw [List.getElem?_set_ne hij]
    cases hj : ks[j]? with
    | none => simp [kl, hj]
    | some k2 =>
      rw [kl_at hj, kl_at hj]
      have hne : k2 ≠ k := by
        intro h
        subst h
        exact hij (nd_inj hn hi hj)
      simp [va_up, hne]
def klOk (A : Nat → Prop) (ks : List Nat) (ad : Nat → Nat) : Prop := ks.Nodup ∧ (∀ i ∈ ks, ∀ j ∈ ks, ad i = ad j → i = j) ∧ (∀ k ∈ ks, A (ad k)) ∧ ∀ k, k < 73 → k ∈ ks
theorem kl_D {A : Nat → Prop} {ks : List Nat} {ad : Nat → Nat} {g : Nat → va_E} (h : klOk A ks ad) : va_D A (kl ks ad g) := by
  have key : ∀ (i : Nat) (p : Nat × va_E), (kl ks ad g)[i]? = some p → ∃ k, ks[i]? = some k ∧ p.1 = ad k := by
    intro i p hp
    cases hi : ks[i]? with
    | none => simp [kl, hi] at hp
    | some k => rw [kl_at hi] at hp; cases hp; exact ⟨k, rfl, rfl⟩
  refine ⟨fun i j p q hp hq e => ?_, fun k q hq => ?_⟩
  · obtain ⟨k1, h1, h2⟩ := key i p hp
    obtain ⟨k2, h3, h4⟩ := key j q hq
    have := h.2.1 k1 (List.mem_of_getElem? h1) k2 (List.mem_of_getElem? h3) (by rw [← h2, ← h4]; exact e)
    subst this
    exact nd_inj h.1 h1 h3
  · obtain ⟨k1, h1, h2⟩ := key k q hq
    rw [h2]
    exact h.2.2.1 k1 (List.mem_of_getElem? h1)
def live (ks : List Nat) (ad : Nat → Nat) (a : Nat) : Prop := 1000 + a ∈ ks ∧ ad (1000 + a) = a
/-- what references name: live cells of the pool; the shelves -/
def refOk (ks : List Nat) (ad : Nat → Nat) (qp : (Nat → Nat → Option Nat) × (Nat → va_E)) : Prop := (∀ k i a, k < 73 → k ≠ 61 → k ≠ 68 → qp.1 k i = some a → live ks ad a) ∧ (∀ k ci fs b, k ∈ ks → 1000 ≤ k → qp.2 k = .inr (ci, fs) → ((14 ≤ ci ∧ ci ≤ 17) ∨ 19 ≤ ci) → Value.ref b ∈ fs → live ks ad b) ∧ ∀ j, j < 4 → qp.1 68 j = some (ad (69 + j))

def lw_nest : List Cond := [(Jvm.Cond.castable "ChapterLoan$Finding" "ChapterLoan$Finding"), (Jvm.Cond.declares ({ cls := "java/lang/RuntimeException", name := "<init>", desc := "()V" } : Jvm.MethodName)), (Jvm.Cond.declares ({ cls := "java/lang/RuntimeException", name := "<init>", desc := "(Ljava/lang/String;)V" } : Jvm.MethodName)), (Jvm.Cond.declares ({ cls := "java/lang/Exception", name := "<init>", desc := "()V" } : Jvm.MethodName)), (Jvm.Cond.declares ({ cls := "java/lang/Exception", name := "<init>", desc := "(Ljava/lang/String;)V" } : Jvm.MethodName)), (Jvm.Cond.declares ({ cls := "java/lang/Throwable", name := "<init>", desc := "()V" } : Jvm.MethodName)), (Jvm.Cond.declares ({ cls := "java/lang/Throwable", name := "<init>", desc := "(Ljava/lang/String;)V" } : Jvm.MethodName)), (Jvm.Cond.fieldLinkNest "ChapterLoan" (83 : Nat) "ChapterLoan$Finding" "code" "I" "ChapterLoan"), (Jvm.Cond.methodLinkNest "ChapterLoan" (45 : Nat) ({ cls := "ChapterLoan$Town", name := "<init>", desc := "()V" } : Jvm.MethodName) "ChapterLoan"), (Jvm.Cond.methodLinkNest "ChapterLoan$Town" (77 : Nat) ({ cls := "ChapterLoan$Facts", name := "<init>", desc := "()V" } : Jvm.MethodName) "ChapterLoan"), (Jvm.Cond.fieldLinkNest "ChapterLoan$Named" (13 : Nat) "ChapterLoan$Facts" "named" "[I" "ChapterLoan"), (Jvm.Cond.fieldLinkNest "ChapterLoan" (88 : Nat) "ChapterLoan$Town" "facts" "I" "ChapterLoan"), (Jvm.Cond.fieldLinkNest "ChapterLoan" (108 : Nat) "ChapterLoan$Town" "needs" "[I" "ChapterLoan"), (Jvm.Cond.fieldLinkNest "ChapterLoan" (111 : Nat) "ChapterLoan$Town" "clashes" "[I" "ChapterLoan"), (Jvm.Cond.fieldLinkNest "ChapterLoan" (114 : Nat) "ChapterLoan$Town" "within" "[I" "ChapterLoan"), (Jvm.Cond.fieldLinkNest "ChapterLoan" (117 : Nat) "ChapterLoan$Town" "by" "[I" "ChapterLoan"), (Jvm.Cond.fieldLinkNest "ChapterLoan" (120 : Nat) "ChapterLoan$Town" "witnesses" "[I" "ChapterLoan"), (Jvm.Cond.fieldLinkNest "ChapterLoan" (95 : Nat) "ChapterLoan$Town" "debtors" "I" "ChapterLoan"), (Jvm.Cond.fieldLinkNest "ChapterLoan" (142 : Nat) "ChapterLoan$Town" "debtor" "[LChapterLoan$Debtor;" "ChapterLoan"), (Jvm.Cond.fieldLinkNest "ChapterLoan" (150 : Nat) "ChapterLoan$Town" "debt" "[I" "ChapterLoan"), (Jvm.Cond.fieldLinkNest "ChapterLoan" (153 : Nat) "ChapterLoan$Town" "isBroken" "[Z" "ChapterLoan"), (Jvm.Cond.fieldLinkNest "ChapterLoan" (157 : Nat) "ChapterLoan$Town" "many" "[I" "ChapterLoan"), (Jvm.Cond.fieldLinkNest "ChapterLoan" (194 : Nat) "ChapterLoan$Town" "bookWeek" "[I" "ChapterLoan"), (Jvm.Cond.fieldLinkNest "ChapterLoan" (213 : Nat) "ChapterLoan$Town" "week" "I" "ChapterLoan"), (Jvm.Cond.fieldLinkNest "ChapterLoan" (330 : Nat) "ChapterLoan$Town" "meetings" "I" "ChapterLoan"), (Jvm.Cond.fieldLinkNest "ChapterLoan" (333 : Nat) "ChapterLoan$Town" "meetWeek" "[I" "ChapterLoan"), (Jvm.Cond.fieldLinkNest "ChapterLoan" (336 : Nat) "ChapterLoan$Town" "meetOne" "[I" "ChapterLoan"), (Jvm.Cond.fieldLinkNest "ChapterLoan" (339 : Nat) "ChapterLoan$Town" "meetOther" "[I" "ChapterLoan"), (Jvm.Cond.fieldLinkNest "ChapterLoan" (240 : Nat) "ChapterLoan$Town" "text" "[LChapterLoan$Term;" "ChapterLoan"), (Jvm.Cond.fieldLinkNest "ChapterLoan" (351 : Nat) "ChapterLoan$Town" "z" "I" "ChapterLoan"), (Jvm.Cond.fieldLinkNest "ChapterLoan" (236 : Nat) "ChapterLoan$Town" "tape" "[B" "ChapterLoan"), (Jvm.Cond.fieldLinkNest "ChapterLoan" (233 : Nat) "ChapterLoan$Town" "taped" "I" "ChapterLoan"), (Jvm.Cond.fieldLinkNest "ChapterLoan" (405 : Nat) "ChapterLoan$Town" "waiting" "[I" "ChapterLoan"), (Jvm.Cond.fieldLinkNest "ChapterLoan" (402 : Nat) "ChapterLoan$Town" "waits" "I" "ChapterLoan"), (Jvm.Cond.fieldLinkNest "ChapterLoan" (298 : Nat) "ChapterLoan$Town" "ratedOne" "I" "ChapterLoan"), (Jvm.Cond.fieldLinkNest "ChapterLoan" (301 : Nat) "ChapterLoan$Town" "rate" "I" "ChapterLoan"), (Jvm.Cond.methodLinkNest "ChapterLoan" (58 : Nat) ({ cls := "ChapterLoan$Trace", name := "<init>", desc := "()V" } : Jvm.MethodName) "ChapterLoan"), (Jvm.Cond.fieldLinkNest "ChapterLoan" (374 : Nat) "ChapterLoan$Trace" "ran" "[I" "ChapterLoan"), (Jvm.Cond.fieldLinkNest "ChapterLoan" (354 : Nat) "ChapterLoan$Trace" "many" "I" "ChapterLoan"), (Jvm.Cond.methodLinkNest "ChapterLoan" (82 : Nat) ({ cls := "ChapterLoan$Shelf", name := "<init>", desc := "()V" } : Jvm.MethodName) "ChapterLoan"), (Jvm.Cond.fieldLinkNest "ChapterLoan" (98 : Nat) "ChapterLoan$Shelf" "held" "Ljava/lang/Object;" "ChapterLoan"), (Jvm.Cond.declares ({ cls := "ChapterLoan$Debtor", name := "due", desc := "()I" } : Jvm.MethodName)), (Jvm.Cond.methodLinkNest "ChapterLoan$Town" (137 : Nat) ({ cls := "ChapterLoan", name := "isIn", desc := "(II)Z" } : Jvm.MethodName) "ChapterLoan"), (Jvm.Cond.declares ({ cls := "ChapterLoan$Term", name := "value", desc := "(LChapterLoan$Facts;)I" } : Jvm.MethodName)), (Jvm.Cond.declares ({ cls := "ChapterLoan$Debtor", name := "pays", desc := "(I)I" } : Jvm.MethodName)), (Jvm.Cond.methodLinkNest "ChapterLoan$Named" (1 : Nat) ({ cls := "ChapterLoan$Term", name := "<init>", desc := "()V" } : Jvm.MethodName) "ChapterLoan"), (Jvm.Cond.castable "ChapterLoan$Fault" "ChapterLoan$Fault"), (Jvm.Cond.fieldLinkNest "ChapterLoan" (259 : Nat) "ChapterLoan$Fault" "place" "I" "ChapterLoan"), (Jvm.Cond.methodLinkNest "ChapterLoan$Turned" (1 : Nat) ({ cls := "ChapterLoan$Term", name := "<init>", desc := "()V" } : Jvm.MethodName) "ChapterLoan"), (Jvm.Cond.methodLinkNest "ChapterLoan$Reader" (101 : Nat) ({ cls := "ChapterLoan", name := "in", desc := "(III)Z" } : Jvm.MethodName) "ChapterLoan"), (Jvm.Cond.methodLinkNest "ChapterLoan$Figure" (1 : Nat) ({ cls := "ChapterLoan$Term", name := "<init>", desc := "()V" } : Jvm.MethodName) "ChapterLoan"), (Jvm.Cond.methodLinkNest "ChapterLoan$Two" (1 : Nat) ({ cls := "ChapterLoan$Term", name := "<init>", desc := "()V" } : Jvm.MethodName) "ChapterLoan"), (Jvm.Cond.declares ({ cls := "ChapterLoan$Sheet", name := "size", desc := "()I" } : Jvm.MethodName)), (Jvm.Cond.declares ({ cls := "ChapterLoan$Sheet", name := "get", desc := "(I)I" } : Jvm.MethodName)), (Jvm.Cond.declares ({ cls := "ChapterLoan$Owes", name := "owes", desc := "(I)I" } : Jvm.MethodName)), (Jvm.Cond.castable "ChapterLoan$Debtor" "ChapterLoan$Owes"), (Jvm.Cond.castable "ChapterLoan$Dreamer" "ChapterLoan$Owes"), (Jvm.Cond.castable "ChapterLoan$Ghost" "ChapterLoan$Owes"), (Jvm.Cond.castable "ChapterLoan$Plagiarist" "ChapterLoan$Owes"), (Jvm.Cond.castable "ChapterLoan$Saint" "ChapterLoan$Owes"), (Jvm.Cond.castable "ChapterLoan$Seer" "ChapterLoan$Owes"), (Jvm.Cond.castable "ChapterLoan$Twin" "ChapterLoan$Owes"), (Jvm.Cond.declares ({ cls := "ChapterLoan$Writes", name := "writes", desc := "(I)I" } : Jvm.MethodName)), (Jvm.Cond.castable "ChapterLoan$Debtor" "ChapterLoan$Writes"), (Jvm.Cond.castable "ChapterLoan$Dreamer" "ChapterLoan$Writes"), (Jvm.Cond.castable "ChapterLoan$Ghost" "ChapterLoan$Writes"), (Jvm.Cond.castable "ChapterLoan$Plagiarist" "ChapterLoan$Writes"), (Jvm.Cond.declares ({ cls := "ChapterLoan$Debtor", name := "reads", desc := "(I)I" } : Jvm.MethodName)), (Jvm.Cond.castable "ChapterLoan$Saint" "ChapterLoan$Writes"), (Jvm.Cond.castable "ChapterLoan$Seer" "ChapterLoan$Writes"), (Jvm.Cond.castable "ChapterLoan$Twin" "ChapterLoan$Writes"), (Jvm.Cond.declares ({ cls := "ChapterLoan$Reads", name := "reads", desc := "(I)I" } : Jvm.MethodName)), (Jvm.Cond.castable "ChapterLoan$Debtor" "ChapterLoan$Reads"), (Jvm.Cond.castable "ChapterLoan$Dreamer" "ChapterLoan$Reads"), (Jvm.Cond.castable "ChapterLoan$Ghost" "ChapterLoan$Reads"), (Jvm.Cond.castable "ChapterLoan$Plagiarist" "ChapterLoan$Reads"), (Jvm.Cond.castable "ChapterLoan$Saint" "ChapterLoan$Reads"), (Jvm.Cond.castable "ChapterLoan$Seer" "ChapterLoan$Reads"), (Jvm.Cond.castable "ChapterLoan$Twin" "ChapterLoan$Reads"), (Jvm.Cond.declares ({ cls := "ChapterLoan$Tells", name := "tells", desc := "(I)I" } : Jvm.MethodName)), (Jvm.Cond.castable "ChapterLoan$Debtor" "ChapterLoan$Tells"), (Jvm.Cond.castable "ChapterLoan$Dreamer" "ChapterLoan$Tells"), (Jvm.Cond.castable "ChapterLoan$Ghost" "ChapterLoan$Tells"), (Jvm.Cond.castable "ChapterLoan$Plagiarist" "ChapterLoan$Tells"), (Jvm.Cond.castable "ChapterLoan$Saint" "ChapterLoan$Tells"), (Jvm.Cond.declares ({ cls := "ChapterLoan$Debtor", name := "writes", desc := "(I)I" } : Jvm.MethodName)), (Jvm.Cond.declares ({ cls := "ChapterLoan$Debtor", name := "tells", desc := "(I)I" } : Jvm.MethodName)), (Jvm.Cond.castable "ChapterLoan$Seer" "ChapterLoan$Tells"), (Jvm.Cond.declares ({ cls := "ChapterLoan$Dreamer", name := "owes", desc := "(I)I" } : Jvm.MethodName)), (Jvm.Cond.castable "ChapterLoan$Twin" "ChapterLoan$Tells"), (Jvm.Cond.methodLinkNest "ChapterLoan$Bytes" (1 : Nat) ({ cls := "ChapterLoan$Sheet", name := "<init>", desc := "()V" } : Jvm.MethodName) "ChapterLoan"), (Jvm.Cond.methodLinkNest "ChapterLoan$Shorts" (1 : Nat) ({ cls := "ChapterLoan$Sheet", name := "<init>", desc := "()V" } : Jvm.MethodName) "ChapterLoan"), (Jvm.Cond.methodLinkNest "ChapterLoan$Ints" (1 : Nat) ({ cls := "ChapterLoan$Sheet", name := "<init>", desc := "()V" } : Jvm.MethodName) "ChapterLoan"), (Jvm.Cond.declares ({ cls := "ChapterLoan$Sheet", name := "put", desc := "(II)V" } : Jvm.MethodName)), (Jvm.Cond.declares ({ cls := "ChapterLoan$Sheet", name := "width", desc := "()I" } : Jvm.MethodName)), (Jvm.Cond.castable "ChapterLoan$Bytes" "ChapterLoan$Sheet"), (Jvm.Cond.castable "ChapterLoan$Ints" "ChapterLoan$Sheet"), (Jvm.Cond.castable "ChapterLoan$Shorts" "ChapterLoan$Sheet"), (Jvm.Cond.castable "ChapterLoan$Plagiarist" "ChapterLoan$Debtor"), (Jvm.Cond.castable "ChapterLoan$Dreamer" "ChapterLoan$Debtor"), (Jvm.Cond.castable "ChapterLoan$Ghost" "ChapterLoan$Debtor"), (Jvm.Cond.castable "ChapterLoan$Twin" "ChapterLoan$Debtor"), (Jvm.Cond.castable "ChapterLoan$Seer" "ChapterLoan$Debtor"), (Jvm.Cond.castable "ChapterLoan$Saint" "ChapterLoan$Debtor"), (Jvm.Cond.castable "ChapterLoan$Named" "ChapterLoan$Term"), (Jvm.Cond.castable "ChapterLoan$Turned" "ChapterLoan$Term"), (Jvm.Cond.castable "ChapterLoan$Figure" "ChapterLoan$Term"), (Jvm.Cond.castable "ChapterLoan$Two" "ChapterLoan$Term")]
theorem lw_nest_tbl : ∀ w ∈ lw_nest, w ∈ lw_tbl := by
  intro w hw
  simp only [lw_nest, List.mem_cons, List.not_mem_nil, or_false] at hw
  rcases hw with rfl | rfl | rfl | rfl | rfl | rfl | rfl | rfl | rfl | rfl | rfl | rfl | rfl | rfl | rfl | rfl | rfl | rfl | rfl | rfl | rfl | rfl | rfl | rfl | rfl | rfl | rfl | rfl | rfl | rfl | rfl | rfl | rfl | rfl | rfl | rfl | rfl | rfl | rfl | rfl | rfl | rfl | rfl | rfl | rfl | rfl | rfl | rfl | rfl | rfl | rfl | rfl | rfl | rfl | rfl | rfl | rfl | rfl | rfl | rfl | rfl | rfl | rfl | rfl | rfl | rfl | rfl | rfl | rfl | rfl | rfl | rfl | rfl | rfl | rfl | rfl | rfl | rfl | rfl | rfl | rfl | rfl | rfl | rfl | rfl | rfl | rfl | rfl | rfl | rfl | rfl | rfl | rfl | rfl | rfl | rfl | rfl | rfl | rfl | rfl | rfl | rfl | rfl | rfl | rfl | rfl | rfl | rfl
  · exact lw_at lw_m1 47 rfl
  · exact lw_at lw_m1 48 rfl
  · exact lw_at lw_m1 49 rfl
  · exact lw_at lw_m1 50 rfl
  · exact lw_at lw_m1 51 rfl
  · exact lw_at lw_m1 52 rfl
  · exact lw_at lw_m1 53 rfl
  · exact lw_at lw_m1 98 rfl
  · exact lw_at lw_m1 116 rfl
  · exact lw_at lw_m1 126 rfl
  · exact lw_at lw_m1 131 rfl
  · exact lw_at lw_m1 139 rfl
  · exact lw_at lw_m1 141 rfl
  · exact lw_at lw_m1 143 rfl
  · exact lw_at lw_m1 145 rfl
  · exact lw_at lw_m1 147 rfl
  · exact lw_at lw_m1 149 rfl
  · exact lw_at lw_m1 151 rfl
  · exact lw_at lw_m1 153 rfl
  · exact lw_at lw_m1 155 rfl
  · exact lw_at lw_m1 157 rfl
  · exact lw_at lw_m1 159 rfl
  · exact lw_at lw_m1 162 rfl
  · exact lw_at lw_m1 164 rfl
  · exact lw_at lw_m1 166 rfl
  · exact lw_at lw_m1 168 rfl
  · exact lw_at lw_m1 170 rfl
  · exact lw_at lw_m1 172 rfl
  · exact lw_at lw_m1 174 rfl
  · exact lw_at lw_m1 176 rfl
  · exact lw_at lw_m1 178 rfl
  · exact lw_at lw_m1 180 rfl
  · exact lw_at lw_m1 182 rfl
  · exact lw_at lw_m1 184 rfl
  · exact lw_at lw_m1 187 rfl
  · exact lw_at lw_m1 189 rfl
  · exact lw_at lw_m2 7 rfl
  · exact lw_at lw_m2 12 rfl
  · exact lw_at lw_m2 14 rfl
  · exact lw_at lw_m2 23 rfl
  · exact lw_at lw_m2 27 rfl
  · exact lw_at lw_m3 41 rfl
  · exact lw_at lw_m3 58 rfl
  · exact lw_at lw_m3 108 rfl
  · exact lw_at lw_m3 223 rfl
  · exact lw_at lw_m4 211 rfl
  · exact lw_at lw_m4 230 rfl
  · exact lw_at lw_m5 2 rfl
  · exact lw_at lw_m5 12 rfl
  · exact lw_at lw_m5 18 rfl
  · exact lw_at lw_m5 24 rfl
  · exact lw_at lw_m5 35 rfl
  · exact lw_at lw_m5 112 rfl
  · exact lw_at lw_m5 124 rfl
  · exact lw_at lw_m5 180 rfl
  · exact lw_at lw_m5 181 rfl
  · exact lw_at lw_m5 191 rfl
  · exact lw_at lw_m5 199 rfl
  · exact lw_at lw_m5 202 rfl
  · exact lw_at lw_m5 205 rfl
  · exact lw_at lw_m5 208 rfl
  · exact lw_at lw_m5 211 rfl
  · exact lw_at lw_m5 217 rfl
  · exact lw_at lw_m5 218 rfl
  · exact lw_at lw_m5 225 rfl
  · exact lw_at lw_m5 228 rfl
  · exact lw_at lw_m5 231 rfl
  · exact lw_at lw_m6 1 rfl
  · exact lw_at lw_m6 6 rfl
  · exact lw_at lw_m6 9 rfl
  · exact lw_at lw_m6 12 rfl
  · exact lw_at lw_m6 23 rfl
  · exact lw_at lw_m6 24 rfl
  · exact lw_at lw_m6 28 rfl
  · exact lw_at lw_m6 31 rfl
  · exact lw_at lw_m6 39 rfl
  · exact lw_at lw_m6 42 rfl
  · exact lw_at lw_m6 50 rfl
  · exact lw_at lw_m6 53 rfl
  · exact lw_at lw_m6 59 rfl
  · exact lw_at lw_m6 60 rfl
  · exact lw_at lw_m6 68 rfl
  · exact lw_at lw_m6 71 rfl
  · exact lw_at lw_m6 74 rfl
  · exact lw_at lw_m6 77 rfl
  · exact lw_at lw_m6 85 rfl
  · exact lw_at lw_m6 89 rfl
  · exact lw_at lw_m6 90 rfl
  · exact lw_at lw_m6 101 rfl
  · exact lw_at lw_m6 103 rfl
  · exact lw_at lw_m6 130 rfl
  · exact lw_at lw_m6 143 rfl
  · exact lw_at lw_m6 154 rfl
  · exact lw_at lw_m6 164 rfl
  · exact lw_at lw_m6 180 rfl
  · exact lw_at lw_m9 45 rfl
  · exact lw_at lw_m9 46 rfl
  · exact lw_at lw_m9 47 rfl
  · exact lw_at lw_m9 48 rfl
  · exact lw_at lw_m9 49 rfl
  · exact lw_at lw_m9 50 rfl
  · exact lw_at lw_m9 51 rfl
  · exact lw_at lw_m9 52 rfl
  · exact lw_at lw_m9 53 rfl
  · exact lw_at lw_m9 54 rfl
  · exact lw_at lw_m9 55 rfl
  · exact lw_at lw_m9 56 rfl
  · exact lw_at lw_m9 57 rfl
def nestW : Cond → Bool
  | .fieldLinkNest .. => true
  | .methodLinkNest .. => true
  | .castable .. => true
  | .declares _ => true
  | _ => false
theorem lw_nest_ok : lw_nest.all nestW = true := by decide +kernel
def cN (U : State) : Prop := ∀ w ∈ lw_nest, va_Nw w U
theorem nest_warm {w : Cond} (hw : nestW w = true) {s U : State} (hW : s.WarmedH U.vm) (h : va_Nw w s) : va_Nw w U := by
  cases w with
  | fieldLinkNest a i b n d h' => exact va_Nw.warmF hW h
  | methodLinkNest a i x h' => exact va_Nw.warmM hW h
  | castable a b => exact va_Nw.warmC hW h
  | declares x => exact va_Nw.warmD hW h
  | _ => simp [nestW] at hw
theorem nest_tab {w : Cond} (hw : nestW w = true) : w.onTables = true := by
  cases w <;> first | rfl | simp [nestW] at hw
theorem cN.warm {s U : State} (hW : s.WarmedH U.vm) (h : cN s) : cN U := fun w hw => nest_warm (List.all_eq_true.mp lw_nest_ok w hw) hW (h w hw)
theorem cN.same {s U : State} (e : s.vm = U.vm) (h : cN s) : cN U := fun w hw => va_Nw.same (nest_tab (List.all_eq_true.mp lw_nest_ok w hw)) e (h w hw)

