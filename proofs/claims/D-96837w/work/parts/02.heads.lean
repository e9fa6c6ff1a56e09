/-! the classes: names, fields; tables over all of them (out of claim/names) -/
set_option maxRecDepth 100000
def RX0 : String := "WellRefuses"
def TX0 : u_T := fun k => match k with
  | 0 => ("WellRefuses", "finding", "LWellRefuses$Finding;", true)
  | 1 => ("WellRefuses", "land", "LWellRefuses$Land;", true)
  | 2 => ("WellRefuses", "image", "LWellRefuses$Land;", true)
  | 3 => ("WellRefuses", "tried", "LWellRefuses$Land;", true)
  | 4 => ("WellRefuses", "images", "I", false)
  | 5 => ("WellRefuses", "trace", "LWellRefuses$Trace;", true)
  | 6 => ("WellRefuses", "errors", "[I", true)
  | 7 => ("WellRefuses", "sheets", "[LWellRefuses$Shelf;", true)
  | 8 => ("WellRefuses", "fits", "[Z", true)
  | _ => ("WellRefuses", "thirstThen", "[I", true)
def tyX0 : Nat → FieldType := fun k => match k with
  | 0 => .object "WellRefuses$Finding"
  | 1 => .object "WellRefuses$Land"
  | 2 => .object "WellRefuses$Land"
  | 3 => .object "WellRefuses$Land"
  | 4 => .int
  | 5 => .object "WellRefuses$Trace"
  | 6 => .array .int
  | 7 => .array (.object "WellRefuses$Shelf")
  | 8 => .array .boolean
  | _ => .array .int
abbrev wsX00 : List Cond := u_ws RX0 TX0 10
theorem nmX0 : ∀ a, a < 10 → ∀ b, b < 10 → a ≠ b → (TX0 a).2.1 ≠ (TX0 b).2.1 := by decide +kernel
theorem tyX0_ok : ∀ k, k < 10 → parseFieldDescriptor (TX0 k).2.2.1 = some (tyX0 k) := by decide +kernel
theorem in_X0 : ∀ w ∈ wsX00, w ∈ lw_all := lw_in wsX00 [315, 317, 319, 321, 323, 325, 327, 329, 331, 333] (by decide +kernel) (by decide +kernel)
def RX1 : String := "WellRefuses$Finding"
def TX1 : u_T := fun k => match k with
  | 0 => ("java/lang/Throwable", "cause", "Ljava/lang/Throwable;", false)
  | 1 => ("java/lang/Throwable", "stackTrace", "[Ljava/lang/StackTraceElement;", false)
  | 2 => ("java/lang/Throwable", "suppressedExceptions", "Ljava/util/List;", false)
  | 3 => ("java/lang/Throwable", "detailMessage", "Ljava/lang/String;", false)
  | 4 => ("java/lang/Throwable", "backtrace", "Ljava/lang/Object;", false)
  | 5 => ("java/lang/Throwable", "depth", "I", false)
  | _ => ("WellRefuses$Finding", "code", "I", false)
def tyX1 : Nat → FieldType := fun k => match k with
  | 0 => .object "java/lang/Throwable"
  | 1 => .array (.object "java/lang/StackTraceElement")
  | 2 => .object "java/util/List"
  | 3 => .object "java/lang/String"
  | 4 => .object "java/lang/Object"
  | 5 => .int
  | _ => .int
abbrev wsX10 : List Cond := u_ws RX1 TX1 7
theorem nmX1 : ∀ a, a < 7 → ∀ b, b < 7 → a ≠ b → (TX1 a).2.1 ≠ (TX1 b).2.1 := by decide +kernel
theorem tyX1_ok : ∀ k, k < 7 → parseFieldDescriptor (TX1 k).2.2.1 = some (tyX1 k) := by decide +kernel
theorem in_X1 : ∀ w ∈ wsX10, w ∈ lw_all := lw_in wsX10 [137, 139, 141, 143, 145, 191, 185] (by decide +kernel) (by decide +kernel)
def RX2 : String := "WellRefuses$Land"
def TX2 : u_T := fun k => match k with
  | 0 => ("WellRefuses$Land", "people", "I", false)
  | 1 => ("WellRefuses$Land", "person", "[LWellRefuses$One;", true)
  | 2 => ("WellRefuses$Land", "traits", "[I", true)
  | 3 => ("WellRefuses$Land", "water", "[I", true)
  | 4 => ("WellRefuses$Land", "thirst", "[I", true)
  | 5 => ("WellRefuses$Land", "owed", "[I", true)
  | 6 => ("WellRefuses$Land", "day", "I", false)
  | 7 => ("WellRefuses$Land", "tight", "I", false)
  | 8 => ("WellRefuses$Land", "text", "[LWellRefuses$Term;", true)
  | 9 => ("WellRefuses$Land", "z", "I", false)
  | 10 => ("WellRefuses$Land", "tape", "[B", true)
  | 11 => ("WellRefuses$Land", "taped", "I", false)
  | 12 => ("WellRefuses$Land", "waiting", "[I", true)
  | 13 => ("WellRefuses$Land", "waits", "I", false)
  | _ => ("WellRefuses$Land", "facts", "LWellRefuses$Facts;", true)
def tyX2 : Nat → FieldType := fun k => match k with
  | 0 => .int
  | 1 => .array (.object "WellRefuses$One")
  | 2 => .array .int
  | 3 => .array .int
  | 4 => .array .int
  | 5 => .array .int
  | 6 => .int
  | 7 => .int
  | 8 => .array (.object "WellRefuses$Term")
  | 9 => .int
  | 10 => .array .byte
  | 11 => .int
  | 12 => .array .int
  | 13 => .int
  | _ => .object "WellRefuses$Facts"
abbrev wsX20 : List Cond := u_ws RX2 TX2 15
theorem nmX2 : ∀ a, a < 15 → ∀ b, b < 15 → a ≠ b → (TX2 a).2.1 ≠ (TX2 b).2.1 := by decide +kernel
theorem tyX2_ok : ∀ k, k < 15 → parseFieldDescriptor (TX2 k).2.2.1 = some (tyX2 k) := by decide +kernel
theorem in_X2 : ∀ w ∈ wsX20, w ∈ lw_all := lw_in wsX20 [247, 249, 251, 253, 255, 257, 259, 261, 263, 265, 267, 269, 271, 273, 275] (by decide +kernel) (by decide +kernel)
def RX3 : String := "WellRefuses$Facts"
def TX3 : u_T := fun k => match k with
  | _ => ("WellRefuses$Facts", "named", "[I", true)
def tyX3 : Nat → FieldType := fun k => match k with
  | _ => .array .int
abbrev wsX30 : List Cond := u_ws RX3 TX3 1
theorem nmX3 : ∀ a, a < 1 → ∀ b, b < 1 → a ≠ b → (TX3 a).2.1 ≠ (TX3 b).2.1 := by decide +kernel
theorem tyX3_ok : ∀ k, k < 1 → parseFieldDescriptor (TX3 k).2.2.1 = some (tyX3 k) := by decide +kernel
theorem in_X3 : ∀ w ∈ wsX30, w ∈ lw_all := lw_in wsX30 [213] (by decide +kernel) (by decide +kernel)
def RX4 : String := "WellRefuses$Trace"
def TX4 : u_T := fun k => match k with
  | 0 => ("WellRefuses$Trace", "ran", "[I", true)
  | _ => ("WellRefuses$Trace", "many", "I", false)
def tyX4 : Nat → FieldType := fun k => match k with
  | 0 => .array .int
  | _ => .int
abbrev wsX40 : List Cond := u_ws RX4 TX4 2
theorem nmX4 : ∀ a, a < 2 → ∀ b, b < 2 → a ≠ b → (TX4 a).2.1 ≠ (TX4 b).2.1 := by decide +kernel
theorem tyX4_ok : ∀ k, k < 2 → parseFieldDescriptor (TX4 k).2.2.1 = some (tyX4 k) := by decide +kernel
theorem in_X4 : ∀ w ∈ wsX40, w ∈ lw_all := lw_in wsX40 [288, 290] (by decide +kernel) (by decide +kernel)
def RX5 : String := "WellRefuses$Shelf"
def TX5 : u_T := fun k => match k with
  | _ => ("WellRefuses$Shelf", "held", "Ljava/lang/Object;", false)
def tyX5 : Nat → FieldType := fun k => match k with
  | _ => .object "java/lang/Object"
abbrev wsX50 : List Cond := u_ws RX5 TX5 1
theorem nmX5 : ∀ a, a < 1 → ∀ b, b < 1 → a ≠ b → (TX5 a).2.1 ≠ (TX5 b).2.1 := by decide +kernel
theorem tyX5_ok : ∀ k, k < 1 → parseFieldDescriptor (TX5 k).2.2.1 = some (tyX5 k) := by decide +kernel
theorem in_X5 : ∀ w ∈ wsX50, w ∈ lw_all := lw_in wsX50 [301] (by decide +kernel) (by decide +kernel)
def RX6 : String := "WellRefusesModel"
def TX6 : u_T := fun k => match k with
  | 0 => ("WellRefusesModel", "row", "[I", true)
  | 1 => ("WellRefusesModel", "kept", "[I", true)
  | 2 => ("WellRefusesModel", "tried", "[I", true)
  | 3 => ("WellRefusesModel", "before", "[I", true)
  | 4 => ("WellRefusesModel", "isKept", "Z", false)
  | 5 => ("WellRefusesModel", "images", "I", false)
  | 6 => ("WellRefusesModel", "found", "[I", true)
  | 7 => ("WellRefusesModel", "use", "I", false)
  | 8 => ("WellRefusesModel", "at", "I", false)
  | 9 => ("WellRefusesModel", "end", "I", false)
  | 10 => ("WellRefusesModel", "open", "I", false)
  | 11 => ("WellRefusesModel", "namedA", "I", false)
  | 12 => ("WellRefusesModel", "namedB", "I", false)
  | 13 => ("WellRefusesModel", "namedC", "I", false)
  | 14 => ("WellRefusesModel", "good", "Z", false)
  | 15 => ("WellRefusesModel", "mean", "I", false)
  | 16 => ("WellRefusesModel", "ringA", "I", false)
  | 17 => ("WellRefusesModel", "ringB", "I", false)
  | 18 => ("WellRefusesModel", "ringC", "I", false)
  | 19 => ("WellRefusesModel", "bitsOf", "[I", true)
  | 20 => ("WellRefusesModel", "sizeOf", "[I", true)
  | 21 => ("WellRefusesModel", "sheets", "[I", true)
  | 22 => ("WellRefusesModel", "moved", "[I", true)
  | 23 => ("WellRefusesModel", "thirsts", "[I", true)
  | 24 => ("WellRefusesModel", "traced", "[I", true)
  | 25 => ("WellRefusesModel", "tracedMany", "I", false)
  | 26 => ("WellRefusesModel", "voiceKind", "I", false)
  | 27 => ("WellRefusesModel", "voiceN", "I", false)
  | _ => ("WellRefusesModel", "voiceM", "I", false)
def tyX6 : Nat → FieldType := fun k => match k with
  | 0 => .array .int
  | 1 => .array .int
  | 2 => .array .int
  | 3 => .array .int
  | 4 => .boolean
  | 5 => .int
  | 6 => .array .int
  | 7 => .int
  | 8 => .int
  | 9 => .int
  | 10 => .int
  | 11 => .int
  | 12 => .int
  | 13 => .int
  | 14 => .boolean
  | 15 => .int
  | 16 => .int
  | 17 => .int
  | 18 => .int
  | 19 => .array .int
  | 20 => .array .int
  | 21 => .array .int
  | 22 => .array .int
  | 23 => .array .int
  | 24 => .array .int
  | 25 => .int
  | 26 => .int
  | 27 => .int
  | _ => .int
abbrev wsX60 : List Cond := u_ws RX6 TX6 29
theorem nmX6 : ∀ a, a < 29 → ∀ b, b < 29 → a ≠ b → (TX6 a).2.1 ≠ (TX6 b).2.1 := by decide +kernel
theorem tyX6_ok : ∀ k, k < 29 → parseFieldDescriptor (TX6 k).2.2.1 = some (tyX6 k) := by decide +kernel
theorem in_X6 : ∀ w ∈ wsX60, w ∈ lw_all := lw_in wsX60 [1445, 1447, 1449, 1451, 1453, 1455, 1457, 1459, 1461, 1463, 1465, 1467, 1469, 1471, 1473, 1475, 1477, 1479, 1481, 1483, 1485, 1487, 1489, 1491, 1493, 1495, 1497, 1499, 1501] (by decide +kernel) (by decide +kernel)
def RX7 : String := "WellRefuses$One"
def TX7 : u_T := fun k => match k with
  | 0 => ("WellRefuses$One", "trace", "LWellRefuses$Trace;", true)
  | 1 => ("WellRefuses$One", "number", "I", true)
  | _ => ("WellRefuses$One", "m", "I", true)
def tyX7 : Nat → FieldType := fun k => match k with
  | 0 => .object "WellRefuses$Trace"
  | 1 => .int
  | _ => .int
abbrev wsX70 : List Cond := u_ws RX7 TX7 3
theorem nmX7 : ∀ a, a < 3 → ∀ b, b < 3 → a ≠ b → (TX7 a).2.1 ≠ (TX7 b).2.1 := by decide +kernel
theorem tyX7_ok : ∀ k, k < 3 → parseFieldDescriptor (TX7 k).2.2.1 = some (tyX7 k) := by decide +kernel
theorem in_X7 : ∀ w ∈ wsX70, w ∈ lw_all := lw_in wsX70 [446, 447, 448] (by decide +kernel) (by decide +kernel)
def RX8 : String := "WellRefuses$Saint"
def TX8 : u_T := fun k => match k with
  | 0 => ("WellRefuses$One", "trace", "LWellRefuses$Trace;", true)
  | 1 => ("WellRefuses$One", "number", "I", true)
  | _ => ("WellRefuses$One", "m", "I", true)
def tyX8 : Nat → FieldType := fun k => match k with
  | 0 => .object "WellRefuses$Trace"
  | 1 => .int
  | _ => .int
abbrev wsX80 : List Cond := u_ws RX8 TX8 3
theorem nmX8 : ∀ a, a < 3 → ∀ b, b < 3 → a ≠ b → (TX8 a).2.1 ≠ (TX8 b).2.1 := by decide +kernel
theorem tyX8_ok : ∀ k, k < 3 → parseFieldDescriptor (TX8 k).2.2.1 = some (tyX8 k) := by decide +kernel
theorem in_X8 : ∀ w ∈ wsX80, w ∈ lw_all := lw_in wsX80 [386, 388, 390] (by decide +kernel) (by decide +kernel)
def RX9 : String := "WellRefuses$Farmer"
def TX9 : u_T := fun k => match k with
  | 0 => ("WellRefuses$One", "trace", "LWellRefuses$Trace;", true)
  | 1 => ("WellRefuses$One", "number", "I", true)
  | _ => ("WellRefuses$One", "m", "I", true)
def tyX9 : Nat → FieldType := fun k => match k with
  | 0 => .object "WellRefuses$Trace"
  | 1 => .int
  | _ => .int
abbrev wsX90 : List Cond := u_ws RX9 TX9 3
theorem nmX9 : ∀ a, a < 3 → ∀ b, b < 3 → a ≠ b → (TX9 a).2.1 ≠ (TX9 b).2.1 := by decide +kernel
theorem tyX9_ok : ∀ k, k < 3 → parseFieldDescriptor (TX9 k).2.2.1 = some (tyX9 k) := by decide +kernel
theorem in_X9 : ∀ w ∈ wsX90, w ∈ lw_all := lw_in wsX90 [399, 400, 401] (by decide +kernel) (by decide +kernel)
def RX10 : String := "WellRefuses$Stranger"
def TX10 : u_T := fun k => match k with
  | 0 => ("WellRefuses$One", "trace", "LWellRefuses$Trace;", true)
  | 1 => ("WellRefuses$One", "number", "I", true)
  | _ => ("WellRefuses$One", "m", "I", true)
def tyX10 : Nat → FieldType := fun k => match k with
  | 0 => .object "WellRefuses$Trace"
  | 1 => .int
  | _ => .int
abbrev wsX100 : List Cond := u_ws RX10 TX10 3
theorem nmX10 : ∀ a, a < 3 → ∀ b, b < 3 → a ≠ b → (TX10 a).2.1 ≠ (TX10 b).2.1 := by decide +kernel
theorem tyX10_ok : ∀ k, k < 3 → parseFieldDescriptor (TX10 k).2.2.1 = some (tyX10 k) := by decide +kernel
theorem in_X10 : ∀ w ∈ wsX100, w ∈ lw_all := lw_in wsX100 [409, 410, 411] (by decide +kernel) (by decide +kernel)
def RX11 : String := "WellRefuses$Bride"
def TX11 : u_T := fun k => match k with
  | 0 => ("WellRefuses$One", "trace", "LWellRefuses$Trace;", true)
  | 1 => ("WellRefuses$One", "number", "I", true)
  | _ => ("WellRefuses$One", "m", "I", true)
def tyX11 : Nat → FieldType := fun k => match k with
  | 0 => .object "WellRefuses$Trace"
  | 1 => .int
  | _ => .int
abbrev wsX110 : List Cond := u_ws RX11 TX11 3
theorem nmX11 : ∀ a, a < 3 → ∀ b, b < 3 → a ≠ b → (TX11 a).2.1 ≠ (TX11 b).2.1 := by decide +kernel
theorem tyX11_ok : ∀ k, k < 3 → parseFieldDescriptor (TX11 k).2.2.1 = some (tyX11 k) := by decide +kernel
theorem in_X11 : ∀ w ∈ wsX110, w ∈ lw_all := lw_in wsX110 [419, 420, 421] (by decide +kernel) (by decide +kernel)
def RX12 : String := "WellRefuses$Boy"
def TX12 : u_T := fun k => match k with
  | 0 => ("WellRefuses$One", "trace", "LWellRefuses$Trace;", true)
  | 1 => ("WellRefuses$One", "number", "I", true)
  | _ => ("WellRefuses$One", "m", "I", true)
def tyX12 : Nat → FieldType := fun k => match k with
  | 0 => .object "WellRefuses$Trace"
  | 1 => .int
  | _ => .int
abbrev wsX120 : List Cond := u_ws RX12 TX12 3
theorem nmX12 : ∀ a, a < 3 → ∀ b, b < 3 → a ≠ b → (TX12 a).2.1 ≠ (TX12 b).2.1 := by decide +kernel
theorem tyX12_ok : ∀ k, k < 3 → parseFieldDescriptor (TX12 k).2.2.1 = some (tyX12 k) := by decide +kernel
theorem in_X12 : ∀ w ∈ wsX120, w ∈ lw_all := lw_in wsX120 [429, 430, 431] (by decide +kernel) (by decide +kernel)
def RX13 : String := "WellRefuses$Twin"
def TX13 : u_T := fun k => match k with
  | 0 => ("WellRefuses$One", "trace", "LWellRefuses$Trace;", true)
  | 1 => ("WellRefuses$One", "number", "I", true)
  | _ => ("WellRefuses$One", "m", "I", true)
def tyX13 : Nat → FieldType := fun k => match k with
  | 0 => .object "WellRefuses$Trace"
  | 1 => .int
  | _ => .int
abbrev wsX130 : List Cond := u_ws RX13 TX13 3
theorem nmX13 : ∀ a, a < 3 → ∀ b, b < 3 → a ≠ b → (TX13 a).2.1 ≠ (TX13 b).2.1 := by decide +kernel
theorem tyX13_ok : ∀ k, k < 3 → parseFieldDescriptor (TX13 k).2.2.1 = some (tyX13 k) := by decide +kernel
theorem in_X13 : ∀ w ∈ wsX130, w ∈ lw_all := lw_in wsX130 [439, 440, 441] (by decide +kernel) (by decide +kernel)
def RX14 : String := "WellRefuses$Term"
def RX15 : String := "WellRefuses$Two"
def TX15 : u_T := fun k => match k with
  | 0 => ("WellRefuses$Two", "sign", "I", true)
  | 1 => ("WellRefuses$Two", "a", "LWellRefuses$Term;", true)
  | _ => ("WellRefuses$Two", "b", "LWellRefuses$Term;", true)
def tyX15 : Nat → FieldType := fun k => match k with
  | 0 => .int
  | 1 => .object "WellRefuses$Term"
  | _ => .object "WellRefuses$Term"
abbrev wsX150 : List Cond := u_ws RX15 TX15 3
theorem nmX15 : ∀ a, a < 3 → ∀ b, b < 3 → a ≠ b → (TX15 a).2.1 ≠ (TX15 b).2.1 := by decide +kernel
theorem tyX15_ok : ∀ k, k < 3 → parseFieldDescriptor (TX15 k).2.2.1 = some (tyX15 k) := by decide +kernel
theorem in_X15 : ∀ w ∈ wsX150, w ∈ lw_all := lw_in wsX150 [862, 864, 866] (by decide +kernel) (by decide +kernel)
def RX16 : String := "WellRefuses$Reader"
def TX16 : u_T := fun k => match k with
  | 0 => ("WellRefuses$Reader", "names", "Ljava/lang/String;", true)
  | 1 => ("WellRefuses$Reader", "bytes", "[B", true)
  | 2 => ("WellRefuses$Reader", "size", "I", true)
  | 3 => ("WellRefuses$Reader", "at", "I", false)
  | _ => ("WellRefuses$Reader", "open", "I", false)
def tyX16 : Nat → FieldType := fun k => match k with
  | 0 => .object "java/lang/String"
  | 1 => .array .byte
  | 2 => .int
  | 3 => .int
  | _ => .int
abbrev wsX160 : List Cond := u_ws RX16 TX16 5
theorem nmX16 : ∀ a, a < 5 → ∀ b, b < 5 → a ≠ b → (TX16 a).2.1 ≠ (TX16 b).2.1 := by decide +kernel
theorem tyX16_ok : ∀ k, k < 5 → parseFieldDescriptor (TX16 k).2.2.1 = some (tyX16 k) := by decide +kernel
theorem in_X16 : ∀ w ∈ wsX160, w ∈ lw_all := lw_in wsX160 [660, 662, 664, 666, 668] (by decide +kernel) (by decide +kernel)
def RX17 : String := "WellRefuses$Named"
def TX17 : u_T := fun k => match k with
  | _ => ("WellRefuses$Named", "name", "I", true)
def tyX17 : Nat → FieldType := fun k => match k with
  | _ => .int
abbrev wsX170 : List Cond := u_ws RX17 TX17 1
theorem nmX17 : ∀ a, a < 1 → ∀ b, b < 1 → a ≠ b → (TX17 a).2.1 ≠ (TX17 b).2.1 := by decide +kernel
theorem tyX17_ok : ∀ k, k < 1 → parseFieldDescriptor (TX17 k).2.2.1 = some (tyX17 k) := by decide +kernel
theorem in_X17 : ∀ w ∈ wsX170, w ∈ lw_all := lw_in wsX170 [799] (by decide +kernel) (by decide +kernel)
def RX18 : String := "WellRefuses$Fault"
def TX18 : u_T := fun k => match k with
  | 0 => ("java/lang/Throwable", "cause", "Ljava/lang/Throwable;", false)
  | 1 => ("java/lang/Throwable", "stackTrace", "[Ljava/lang/StackTraceElement;", false)
  | 2 => ("java/lang/Throwable", "suppressedExceptions", "Ljava/util/List;", false)
  | 3 => ("java/lang/Throwable", "detailMessage", "Ljava/lang/String;", false)
  | 4 => ("java/lang/Throwable", "backtrace", "Ljava/lang/Object;", false)
  | 5 => ("java/lang/Throwable", "depth", "I", false)
  | _ => ("WellRefuses$Fault", "place", "I", true)
def tyX18 : Nat → FieldType := fun k => match k with
  | 0 => .object "java/lang/Throwable"
  | 1 => .array (.object "java/lang/StackTraceElement")
  | 2 => .object "java/util/List"
  | 3 => .object "java/lang/String"
  | 4 => .object "java/lang/Object"
  | 5 => .int
  | _ => .int
abbrev wsX180 : List Cond := u_ws RX18 TX18 7
theorem nmX18 : ∀ a, a < 7 → ∀ b, b < 7 → a ≠ b → (TX18 a).2.1 ≠ (TX18 b).2.1 := by decide +kernel
theorem tyX18_ok : ∀ k, k < 7 → parseFieldDescriptor (TX18 k).2.2.1 = some (tyX18 k) := by decide +kernel
theorem in_X18 : ∀ w ∈ wsX180, w ∈ lw_all := lw_in wsX180 [815, 816, 817, 818, 819, 828, 826] (by decide +kernel) (by decide +kernel)
def RX19 : String := "WellRefuses$Turned"
def TX19 : u_T := fun k => match k with
  | _ => ("WellRefuses$Turned", "of", "LWellRefuses$Term;", true)
def tyX19 : Nat → FieldType := fun k => match k with
  | _ => .object "WellRefuses$Term"
abbrev wsX190 : List Cond := u_ws RX19 TX19 1
theorem nmX19 : ∀ a, a < 1 → ∀ b, b < 1 → a ≠ b → (TX19 a).2.1 ≠ (TX19 b).2.1 := by decide +kernel
theorem tyX19_ok : ∀ k, k < 1 → parseFieldDescriptor (TX19 k).2.2.1 = some (tyX19 k) := by decide +kernel
theorem in_X19 : ∀ w ∈ wsX190, w ∈ lw_all := lw_in wsX190 [837] (by decide +kernel) (by decide +kernel)
def RX20 : String := "WellRefuses$Figure"
def TX20 : u_T := fun k => match k with
  | _ => ("WellRefuses$Figure", "v", "I", true)
def tyX20 : Nat → FieldType := fun k => match k with
  | _ => .int
abbrev wsX200 : List Cond := u_ws RX20 TX20 1
theorem nmX20 : ∀ a, a < 1 → ∀ b, b < 1 → a ≠ b → (TX20 a).2.1 ≠ (TX20 b).2.1 := by decide +kernel
theorem tyX20_ok : ∀ k, k < 1 → parseFieldDescriptor (TX20 k).2.2.1 = some (tyX20 k) := by decide +kernel
theorem in_X20 : ∀ w ∈ wsX200, w ∈ lw_all := lw_in wsX200 [849] (by decide +kernel) (by decide +kernel)
def RX21 : String := "WellRefuses$Sheet"
def RX22 : String := "WellRefuses$Bytes"
def TX22 : u_T := fun k => match k with
  | _ => ("WellRefuses$Bytes", "row", "[B", true)
def tyX22 : Nat → FieldType := fun k => match k with
  | _ => .array .byte
abbrev wsX220 : List Cond := u_ws RX22 TX22 1
theorem nmX22 : ∀ a, a < 1 → ∀ b, b < 1 → a ≠ b → (TX22 a).2.1 ≠ (TX22 b).2.1 := by decide +kernel
theorem tyX22_ok : ∀ k, k < 1 → parseFieldDescriptor (TX22 k).2.2.1 = some (tyX22 k) := by decide +kernel
theorem in_X22 : ∀ w ∈ wsX220, w ∈ lw_all := lw_in wsX220 [1320] (by decide +kernel) (by decide +kernel)
def RX23 : String := "WellRefuses$Shorts"
def TX23 : u_T := fun k => match k with
  | _ => ("WellRefuses$Shorts", "row", "[S", true)
def tyX23 : Nat → FieldType := fun k => match k with
  | _ => .array .short
abbrev wsX230 : List Cond := u_ws RX23 TX23 1
theorem nmX23 : ∀ a, a < 1 → ∀ b, b < 1 → a ≠ b → (TX23 a).2.1 ≠ (TX23 b).2.1 := by decide +kernel
theorem tyX23_ok : ∀ k, k < 1 → parseFieldDescriptor (TX23 k).2.2.1 = some (tyX23 k) := by decide +kernel
theorem in_X23 : ∀ w ∈ wsX230, w ∈ lw_all := lw_in wsX230 [1330] (by decide +kernel) (by decide +kernel)
def RX24 : String := "WellRefuses$Ints"
def TX24 : u_T := fun k => match k with
  | _ => ("WellRefuses$Ints", "row", "[I", true)
def tyX24 : Nat → FieldType := fun k => match k with
  | _ => .array .int
abbrev wsX240 : List Cond := u_ws RX24 TX24 1
theorem nmX24 : ∀ a, a < 1 → ∀ b, b < 1 → a ≠ b → (TX24 a).2.1 ≠ (TX24 b).2.1 := by decide +kernel
theorem tyX24_ok : ∀ k, k < 1 → parseFieldDescriptor (TX24 k).2.2.1 = some (tyX24 k) := by decide +kernel
theorem in_X24 : ∀ w ∈ wsX240, w ∈ lw_all := lw_in wsX240 [1341] (by decide +kernel) (by decide +kernel)
def RJ0 : String := "java/lang/Throwable"
def RJ1 : String := "java/lang/Exception"
def RJ2 : String := "java/lang/RuntimeException"
def RJ3 : String := "java/lang/Math"
def RJ4 : String := "java/lang/String"
def RJ5 : String := "java/lang/StringLatin1"
def RJ6 : String := "java/lang/StringUTF16"
def RJ7 : String := "jdk/internal/util/Preconditions"
def RJ8 : String := "java/lang/Character"
def RJ9 : String := "java/lang/Integer"
def RJ10 : String := "java/lang/Object"
def gcl : List vw_C := [(RX0, TX0, 10), (RX1, TX1, 7), (RX2, TX2, 15), (RX3, TX3, 1), (RX4, TX4, 2), (RX5, TX5, 1), (RX6, TX6, 29), (RX7, TX7, 3), (RX8, TX8, 3), (RX9, TX9, 3), (RX10, TX10, 3), (RX11, TX11, 3), (RX12, TX12, 3), (RX13, TX13, 3), (RX0, TX0, 10), (RX15, TX15, 3), (RX16, TX16, 5), (RX17, TX17, 1), (RX18, TX18, 7), (RX19, TX19, 1), (RX20, TX20, 1), (RX0, TX0, 10), (RX22, TX22, 1), (RX23, TX23, 1), (RX24, TX24, 1)]
def gty (c : Nat) : Nat → FieldType := match c with
  | 0 => tyX0
  | 1 => tyX1
  | 2 => tyX2
  | 3 => tyX3
  | 4 => tyX4
  | 5 => tyX5
  | 6 => tyX6
  | 7 => tyX7
  | 8 => tyX8
  | 9 => tyX9
  | 10 => tyX10
  | 11 => tyX11
  | 12 => tyX12
  | 13 => tyX13
  | 14 => tyX0
  | 15 => tyX15
  | 16 => tyX16
  | 17 => tyX17
  | 18 => tyX18
  | 19 => tyX19
  | 20 => tyX20
  | 21 => tyX0
  | 22 => tyX22
  | 23 => tyX23
  | _ => tyX24
def gNF (c : Nat) : Nat := match gcl[c]? with
  | some q => q.2.2
  | none => 0
theorem g_in : ∀ (c : Nat) {C : String} {T : u_T} {N : Nat}, gcl[c]? = some (C, T, N) → ∀ w ∈ u_ws C T N, w ∈ lw_all
  | 0, _, _, _, hc => by cases hc; exact in_X0
  | 1, _, _, _, hc => by cases hc; exact in_X1
  | 2, _, _, _, hc => by cases hc; exact in_X2
  | 3, _, _, _, hc => by cases hc; exact in_X3
  | 4, _, _, _, hc => by cases hc; exact in_X4
  | 5, _, _, _, hc => by cases hc; exact in_X5
  | 6, _, _, _, hc => by cases hc; exact in_X6
  | 7, _, _, _, hc => by cases hc; exact in_X7
  | 8, _, _, _, hc => by cases hc; exact in_X8
  | 9, _, _, _, hc => by cases hc; exact in_X9
  | 10, _, _, _, hc => by cases hc; exact in_X10
  | 11, _, _, _, hc => by cases hc; exact in_X11
  | 12, _, _, _, hc => by cases hc; exact in_X12
  | 13, _, _, _, hc => by cases hc; exact in_X13
  | 14, _, _, _, hc => by cases hc; exact in_X0
  | 15, _, _, _, hc => by cases hc; exact in_X15
  | 16, _, _, _, hc => by cases hc; exact in_X16
  | 17, _, _, _, hc => by cases hc; exact in_X17
  | 18, _, _, _, hc => by cases hc; exact in_X18
  | 19, _, _, _, hc => by cases hc; exact in_X19
  | 20, _, _, _, hc => by cases hc; exact in_X20
  | 21, _, _, _, hc => by cases hc; exact in_X0
  | 22, _, _, _, hc => by cases hc; exact in_X22
  | 23, _, _, _, hc => by cases hc; exact in_X23
  | 24, _, _, _, hc => by cases hc; exact in_X24
  | c + 25, _, _, _, hc => by simp [gcl] at hc
theorem g_ty : ∀ (c : Nat) {C : String} {T : u_T} {N : Nat}, gcl[c]? = some (C, T, N) → ∀ k, k < N → parseFieldDescriptor (T k).2.2.1 = some (gty c k)
  | 0, _, _, _, hc => by cases hc; exact tyX0_ok
  | 1, _, _, _, hc => by cases hc; exact tyX1_ok
  | 2, _, _, _, hc => by cases hc; exact tyX2_ok
  | 3, _, _, _, hc => by cases hc; exact tyX3_ok
  | 4, _, _, _, hc => by cases hc; exact tyX4_ok
  | 5, _, _, _, hc => by cases hc; exact tyX5_ok
  | 6, _, _, _, hc => by cases hc; exact tyX6_ok
  | 7, _, _, _, hc => by cases hc; exact tyX7_ok
  | 8, _, _, _, hc => by cases hc; exact tyX8_ok
  | 9, _, _, _, hc => by cases hc; exact tyX9_ok
  | 10, _, _, _, hc => by cases hc; exact tyX10_ok
  | 11, _, _, _, hc => by cases hc; exact tyX11_ok
  | 12, _, _, _, hc => by cases hc; exact tyX12_ok
  | 13, _, _, _, hc => by cases hc; exact tyX13_ok
  | 14, _, _, _, hc => by cases hc; exact tyX0_ok
  | 15, _, _, _, hc => by cases hc; exact tyX15_ok
  | 16, _, _, _, hc => by cases hc; exact tyX16_ok
  | 17, _, _, _, hc => by cases hc; exact tyX17_ok
  | 18, _, _, _, hc => by cases hc; exact tyX18_ok
  | 19, _, _, _, hc => by cases hc; exact tyX19_ok
  | 20, _, _, _, hc => by cases hc; exact tyX20_ok
  | 21, _, _, _, hc => by cases hc; exact tyX0_ok
  | 22, _, _, _, hc => by cases hc; exact tyX22_ok
  | 23, _, _, _, hc => by cases hc; exact tyX23_ok
  | 24, _, _, _, hc => by cases hc; exact tyX24_ok
  | c + 25, _, _, _, hc => by simp [gcl] at hc
theorem g_nm : ∀ (c : Nat) {C : String} {T : u_T} {N : Nat}, gcl[c]? = some (C, T, N) → ∀ a, a < N → ∀ b, b < N → a ≠ b → (T a).2.1 ≠ (T b).2.1
  | 0, _, _, _, hc => by cases hc; exact nmX0
  | 1, _, _, _, hc => by cases hc; exact nmX1
  | 2, _, _, _, hc => by cases hc; exact nmX2
  | 3, _, _, _, hc => by cases hc; exact nmX3
  | 4, _, _, _, hc => by cases hc; exact nmX4
  | 5, _, _, _, hc => by cases hc; exact nmX5
  | 6, _, _, _, hc => by cases hc; exact nmX6
  | 7, _, _, _, hc => by cases hc; exact nmX7
  | 8, _, _, _, hc => by cases hc; exact nmX8
  | 9, _, _, _, hc => by cases hc; exact nmX9
  | 10, _, _, _, hc => by cases hc; exact nmX10
  | 11, _, _, _, hc => by cases hc; exact nmX11
  | 12, _, _, _, hc => by cases hc; exact nmX12
  | 13, _, _, _, hc => by cases hc; exact nmX13
  | 14, _, _, _, hc => by cases hc; exact nmX0
  | 15, _, _, _, hc => by cases hc; exact nmX15
  | 16, _, _, _, hc => by cases hc; exact nmX16
  | 17, _, _, _, hc => by cases hc; exact nmX17
  | 18, _, _, _, hc => by cases hc; exact nmX18
  | 19, _, _, _, hc => by cases hc; exact nmX19
  | 20, _, _, _, hc => by cases hc; exact nmX20
  | 21, _, _, _, hc => by cases hc; exact nmX0
  | 22, _, _, _, hc => by cases hc; exact nmX22
  | 23, _, _, _, hc => by cases hc; exact nmX23
  | 24, _, _, _, hc => by cases hc; exact nmX24
  | c + 25, _, _, _, hc => by simp [gcl] at hc
theorem g_nf {c : Nat} {C : String} {T : u_T} {N : Nat} (h : gcl[c]? = some (C, T, N)) : gNF c = N := by
  unfold gNF
  rw [h]
