/-! MacroGlassModel -/
set_option maxRecDepth 100000
def RX1 : String := "MacroGlassModel"
def TX1 : u_T := fun k => match k with
  | 0 => ("MacroGlassModel", "tape", "[B", true)
  | 1 => ("MacroGlassModel", "size", "I", false)
  | 2 => ("MacroGlassModel", "tokens", "I", false)
  | 3 => ("MacroGlassModel", "sort", "[I", true)
  | 4 => ("MacroGlassModel", "place", "[I", true)
  | 5 => ("MacroGlassModel", "worth", "[J", true)
  | 6 => ("MacroGlassModel", "nodes", "I", false)
  | 7 => ("MacroGlassModel", "kind", "[I", true)
  | 8 => ("MacroGlassModel", "value", "[J", true)
  | 9 => ("MacroGlassModel", "nodePlace", "[I", true)
  | 10 => ("MacroGlassModel", "span", "[I", true)
  | 11 => ("MacroGlassModel", "count", "[I", true)
  | 12 => ("MacroGlassModel", "parent", "[I", true)
  | 13 => ("MacroGlassModel", "rules", "I", false)
  | 14 => ("MacroGlassModel", "ruleWord", "[J", true)
  | 15 => ("MacroGlassModel", "isRaw", "[Z", true)
  | 16 => ("MacroGlassModel", "patternsAt", "[I", true)
  | 17 => ("MacroGlassModel", "templateAt", "[I", true)
  | 18 => ("MacroGlassModel", "termAt", "I", false)
  | 19 => ("MacroGlassModel", "tok", "I", false)
  | 20 => ("MacroGlassModel", "deep", "I", false)
  | 21 => ("MacroGlassModel", "fault", "I", false)
  | 22 => ("MacroGlassModel", "faultPlace", "I", false)
  | 23 => ("MacroGlassModel", "pile", "[I", true)
  | 24 => ("MacroGlassModel", "piled", "I", false)
  | 25 => ("MacroGlassModel", "wrong", "I", false)
  | 26 => ("MacroGlassModel", "wrongPlace", "I", false)
  | 27 => ("MacroGlassModel", "isThere", "Z", false)
  | 28 => ("MacroGlassModel", "told", "I", false)
  | 29 => ("MacroGlassModel", "ruleMany", "I", false)
  | 30 => ("MacroGlassModel", "word", "[J", true)
  | 31 => ("MacroGlassModel", "raw", "[Z", true)
  | 32 => ("MacroGlassModel", "patterns", "[I", true)
  | 33 => ("MacroGlassModel", "template", "[I", true)
  | 34 => ("MacroGlassModel", "pKind", "[I", true)
  | 35 => ("MacroGlassModel", "pValue", "[J", true)
  | 36 => ("MacroGlassModel", "pPlace", "[I", true)
  | 37 => ("MacroGlassModel", "pSpan", "[I", true)
  | 38 => ("MacroGlassModel", "pCount", "[I", true)
  | 39 => ("MacroGlassModel", "pParent", "[I", true)
  | 40 => ("MacroGlassModel", "items", "I", false)
  | 41 => ("MacroGlassModel", "what", "[I", true)
  | 42 => ("MacroGlassModel", "worthOf", "[J", true)
  | 43 => ("MacroGlassModel", "mark", "[I", true)
  | 44 => ("MacroGlassModel", "from", "[I", true)
  | 45 => ("MacroGlassModel", "maker", "[I", true)
  | 46 => ("MacroGlassModel", "room", "[I", true)
  | 47 => ("MacroGlassModel", "parts", "[I", true)
  | 48 => ("MacroGlassModel", "inside", "[I", true)
  | 49 => ("MacroGlassModel", "steps", "I", false)
  | 50 => ("MacroGlassModel", "stepRule", "[I", true)
  | 51 => ("MacroGlassModel", "stepPlace", "[I", true)
  | 52 => ("MacroGlassModel", "stepMaker", "[I", true)
  | 53 => ("MacroGlassModel", "made", "I", false)
  | 54 => ("MacroGlassModel", "metFrom", "[I", true)
  | 55 => ("MacroGlassModel", "metTo", "[I", true)
  | 56 => ("MacroGlassModel", "fresh", "I", false)
  | 57 => ("MacroGlassModel", "fWhat", "[I", true)
  | 58 => ("MacroGlassModel", "fWorth", "[J", true)
  | 59 => ("MacroGlassModel", "fMark", "[I", true)
  | 60 => ("MacroGlassModel", "fFrom", "[I", true)
  | 61 => ("MacroGlassModel", "fMaker", "[I", true)
  | 62 => ("MacroGlassModel", "fRoom", "[I", true)
  | 63 => ("MacroGlassModel", "fParts", "[I", true)
  | 64 => ("MacroGlassModel", "openAt", "[I", true)
  | 65 => ("MacroGlassModel", "openEnd", "[I", true)
  | 66 => ("MacroGlassModel", "undos", "I", false)
  | 67 => ("MacroGlassModel", "gone", "I", false)
  | 68 => ("MacroGlassModel", "goneAt", "[I", true)
  | 69 => ("MacroGlassModel", "gonePlace", "[I", true)
  | 70 => ("MacroGlassModel", "goneCame", "[I", true)
  | 71 => ("MacroGlassModel", "oldWhat", "[I", true)
  | 72 => ("MacroGlassModel", "oldWorth", "[J", true)
  | 73 => ("MacroGlassModel", "oldMark", "[I", true)
  | 74 => ("MacroGlassModel", "oldFrom", "[I", true)
  | 75 => ("MacroGlassModel", "oldMaker", "[I", true)
  | 76 => ("MacroGlassModel", "oldRoom", "[I", true)
  | 77 => ("MacroGlassModel", "oldParts", "[I", true)
  | 78 => ("MacroGlassModel", "isKept", "Z", false)
  | 79 => ("MacroGlassModel", "keptItems", "I", false)
  | 80 => ("MacroGlassModel", "keptWhat", "[I", true)
  | 81 => ("MacroGlassModel", "keptWorth", "[J", true)
  | 82 => ("MacroGlassModel", "keptParts", "[I", true)
  | _ => ("MacroGlassModel", "keptReads", "[I", true)
def tyX1 : Nat → FieldType := fun k => match k with
  | 0 => .array .byte
  | 1 => .int
  | 2 => .int
  | 3 => .array .int
  | 4 => .array .int
  | 5 => .array .long
  | 6 => .int
  | 7 => .array .int
  | 8 => .array .long
  | 9 => .array .int
  | 10 => .array .int
  | 11 => .array .int
  | 12 => .array .int
  | 13 => .int
  | 14 => .array .long
  | 15 => .array .boolean
  | 16 => .array .int
  | 17 => .array .int
  | 18 => .int
  | 19 => .int
  | 20 => .int
  | 21 => .int
  | 22 => .int
  | 23 => .array .int
  | 24 => .int
  | 25 => .int
  | 26 => .int
  | 27 => .boolean
  | 28 => .int
  | 29 => .int
  | 30 => .array .long
  | 31 => .array .boolean
  | 32 => .array .int
  | 33 => .array .int
  | 34 => .array .int
  | 35 => .array .long
  | 36 => .array .int
  | 37 => .array .int
  | 38 => .array .int
  | 39 => .array .int
  | 40 => .int
  | 41 => .array .int
  | 42 => .array .long
  | 43 => .array .int
  | 44 => .array .int
  | 45 => .array .int
  | 46 => .array .int
  | 47 => .array .int
  | 48 => .array .int
  | 49 => .int
  | 50 => .array .int
  | 51 => .array .int
  | 52 => .array .int
  | 53 => .int
  | 54 => .array .int
  | 55 => .array .int
  | 56 => .int
  | 57 => .array .int
  | 58 => .array .long
  | 59 => .array .int
  | 60 => .array .int
  | 61 => .array .int
  | 62 => .array .int
  | 63 => .array .int
  | 64 => .array .int
  | 65 => .array .int
  | 66 => .int
  | 67 => .int
  | 68 => .array .int
  | 69 => .array .int
  | 70 => .array .int
  | 71 => .array .int
  | 72 => .array .long
  | 73 => .array .int
  | 74 => .array .int
  | 75 => .array .int
  | 76 => .array .int
  | 77 => .array .int
  | 78 => .boolean
  | 79 => .int
  | 80 => .array .int
  | 81 => .array .long
  | 82 => .array .int
  | _ => .array .int
abbrev wsX10 : List Cond := u_ws RX1 TX1 84
set_option maxRecDepth 100000 in
theorem nmX1 : ∀ a, a < 84 → ∀ b, b < 84 → a ≠ b → (TX1 a).2.1 ≠ (TX1 b).2.1 := by decide +kernel
set_option maxRecDepth 100000 in
theorem tyX1_ok : ∀ k, k < 84 → parseFieldDescriptor (TX1 k).2.2.1 = some (tyX1 k) := by decide +kernel
abbrev cX1_init : ByteArray := prog_20_method_1_code
def yX1_init : MethodName := ⟨RX1, "<init>", "()V"⟩
def dkwX1_init_23 : List UInt8 := [17, 1, 244, 188, 10, 181, 0, 190, 42, 17, 1, 244, 188, 10, 181, 0, 193, 177]
abbrev dktX1_init_23 : List UInt8 := dkwX1_init_23 ++ []
def dkwX1_init_22 : List UInt8 := [181, 0, 181, 42, 17, 1, 244, 188, 10, 181, 0, 184, 42, 17, 1, 244, 188, 11, 181, 0, 187, 42]
abbrev dktX1_init_22 : List UInt8 := dkwX1_init_22 ++ dktX1_init_23
def dkwX1_init_21 : List UInt8 := [17, 121, 24, 188, 10, 181, 0, 175, 42, 17, 121, 24, 188, 10, 181, 0, 178, 42, 17, 121, 24, 188, 10]
abbrev dktX1_init_21 : List UInt8 := dkwX1_init_21 ++ dktX1_init_22
def dkwX1_init_20 : List UInt8 := [181, 0, 166, 42, 17, 121, 24, 188, 10, 181, 0, 169, 42, 17, 121, 24, 188, 10, 181, 0, 172, 42]
abbrev dktX1_init_20 : List UInt8 := dkwX1_init_20 ++ dktX1_init_21
def dkwX1_init_19 : List UInt8 := [17, 1, 45, 188, 10, 181, 0, 160, 42, 17, 121, 24, 188, 10, 181, 0, 163, 42, 17, 121, 24, 188, 11]
abbrev dktX1_init_19 : List UInt8 := dkwX1_init_19 ++ dktX1_init_20
def dkwX1_init_18 : List UInt8 := [188, 10, 181, 0, 151, 42, 17, 1, 45, 188, 10, 181, 0, 154, 42, 17, 1, 45, 188, 10, 181, 0, 157, 42]
abbrev dktX1_init_18 : List UInt8 := dkwX1_init_18 ++ dktX1_init_19
def dkwX1_init_17 : List UInt8 := [181, 0, 142, 42, 17, 1, 244, 188, 10, 181, 0, 145, 42, 16, 16, 188, 10, 181, 0, 148, 42, 16, 16]
abbrev dktX1_init_17 : List UInt8 := dkwX1_init_17 ++ dktX1_init_18
def dkwX1_init_16 : List UInt8 := [17, 1, 244, 188, 10, 181, 0, 136, 42, 17, 1, 244, 188, 10, 181, 0, 139, 42, 17, 1, 244, 188, 10]
abbrev dktX1_init_16 : List UInt8 := dkwX1_init_16 ++ dktX1_init_17
def dkwX1_init_15 : List UInt8 := [181, 0, 127, 42, 17, 1, 244, 188, 11, 181, 0, 130, 42, 17, 1, 244, 188, 10, 181, 0, 133, 42]
abbrev dktX1_init_15 : List UInt8 := dkwX1_init_15 ++ dktX1_init_16
def dkwX1_init_14 : List UInt8 := [17, 2, 89, 188, 10, 181, 0, 121, 42, 17, 2, 89, 188, 10, 181, 0, 124, 42, 17, 1, 244, 188, 10]
abbrev dktX1_init_14 : List UInt8 := dkwX1_init_14 ++ dktX1_init_15
def dkwX1_init_13 : List UInt8 := [181, 0, 112, 42, 17, 1, 45, 188, 10, 181, 0, 115, 42, 17, 1, 45, 188, 10, 181, 0, 118, 42]
abbrev dktX1_init_13 : List UInt8 := dkwX1_init_13 ++ dktX1_init_14
def dkwX1_init_12 : List UInt8 := [17, 1, 244, 188, 10, 181, 0, 106, 42, 17, 1, 244, 188, 10, 181, 0, 109, 42, 17, 1, 45, 188, 10]
abbrev dktX1_init_12 : List UInt8 := dkwX1_init_12 ++ dktX1_init_13
def dkwX1_init_11 : List UInt8 := [181, 0, 97, 42, 17, 1, 244, 188, 10, 181, 0, 100, 42, 17, 1, 244, 188, 10, 181, 0, 103, 42]
abbrev dktX1_init_11 : List UInt8 := dkwX1_init_11 ++ dktX1_init_12
def dkwX1_init_10 : List UInt8 := [17, 1, 244, 188, 11, 181, 0, 91, 42, 17, 1, 244, 188, 10, 181, 0, 94, 42, 17, 1, 244, 188, 10]
abbrev dktX1_init_10 : List UInt8 := dkwX1_init_10 ++ dktX1_init_11
def dkwX1_init_9 : List UInt8 := [181, 0, 82, 42, 17, 2, 89, 188, 10, 181, 0, 85, 42, 17, 1, 244, 188, 10, 181, 0, 88, 42]
abbrev dktX1_init_9 : List UInt8 := dkwX1_init_9 ++ dktX1_init_10
def dkwX1_init_8 : List UInt8 := [17, 2, 89, 188, 10, 181, 0, 76, 42, 17, 2, 89, 188, 10, 181, 0, 79, 42, 17, 2, 89, 188, 10]
abbrev dktX1_init_8 : List UInt8 := dkwX1_init_8 ++ dktX1_init_9
def dkwX1_init_7 : List UInt8 := [181, 0, 67, 42, 17, 2, 89, 188, 10, 181, 0, 70, 42, 17, 2, 89, 188, 11, 181, 0, 73, 42]
abbrev dktX1_init_7 : List UInt8 := dkwX1_init_7 ++ dktX1_init_8
def dkwX1_init_6 : List UInt8 := [181, 0, 58, 42, 16, 12, 188, 4, 181, 0, 61, 42, 16, 12, 188, 10, 181, 0, 64, 42, 16, 12, 188, 10]
abbrev dktX1_init_6 : List UInt8 := dkwX1_init_6 ++ dktX1_init_7
def dkwX1_init_5 : List UInt8 := [181, 0, 49, 42, 16, 12, 188, 10, 181, 0, 52, 42, 16, 16, 188, 10, 181, 0, 55, 42, 16, 12, 188, 11]
abbrev dktX1_init_5 : List UInt8 := dkwX1_init_5 ++ dktX1_init_6
def dkwX1_init_4 : List UInt8 := [181, 0, 39, 42, 16, 12, 188, 11, 181, 0, 42, 42, 16, 12, 188, 4, 181, 0, 45, 42, 16, 12, 188, 10]
abbrev dktX1_init_4 : List UInt8 := dkwX1_init_4 ++ dktX1_init_5
def dkwX1_init_3 : List UInt8 := [17, 2, 89, 188, 10, 181, 0, 33, 42, 17, 2, 89, 188, 10, 181, 0, 36, 42, 17, 2, 89, 188, 10]
abbrev dktX1_init_3 : List UInt8 := dkwX1_init_3 ++ dktX1_init_4
def dkwX1_init_2 : List UInt8 := [181, 0, 24, 42, 17, 2, 89, 188, 11, 181, 0, 27, 42, 17, 2, 89, 188, 10, 181, 0, 30, 42]
abbrev dktX1_init_2 : List UInt8 := dkwX1_init_2 ++ dktX1_init_3
def dkwX1_init_1 : List UInt8 := [17, 2, 89, 188, 10, 181, 0, 17, 42, 17, 2, 89, 188, 11, 181, 0, 20, 42, 17, 2, 89, 188, 10]
abbrev dktX1_init_1 : List UInt8 := dkwX1_init_1 ++ dktX1_init_2
def dkwX1_init_0 : List UInt8 := [42, 183, 0, 1, 42, 17, 2, 88, 188, 8, 181, 0, 7, 42, 17, 2, 89, 188, 10, 181, 0, 13, 42]
abbrev dktX1_init_0 : List UInt8 := dkwX1_init_0 ++ dktX1_init_1
theorem dksX1_init_0 : cX1_init.data.toList.drop 0 = dktX1_init_0 := by decide +kernel
theorem dksX1_init_1 : cX1_init.data.toList.drop 23 = dktX1_init_1 := dk_seg dksX1_init_0 23 rfl rfl
theorem dksX1_init_2 : cX1_init.data.toList.drop 46 = dktX1_init_2 := dk_seg dksX1_init_1 23 rfl rfl
theorem dksX1_init_3 : cX1_init.data.toList.drop 68 = dktX1_init_3 := dk_seg dksX1_init_2 22 rfl rfl
theorem dksX1_init_4 : cX1_init.data.toList.drop 91 = dktX1_init_4 := dk_seg dksX1_init_3 23 rfl rfl
theorem dksX1_init_5 : cX1_init.data.toList.drop 115 = dktX1_init_5 := dk_seg dksX1_init_4 24 rfl rfl
theorem dksX1_init_6 : cX1_init.data.toList.drop 139 = dktX1_init_6 := dk_seg dksX1_init_5 24 rfl rfl
theorem dksX1_init_7 : cX1_init.data.toList.drop 163 = dktX1_init_7 := dk_seg dksX1_init_6 24 rfl rfl
theorem dksX1_init_8 : cX1_init.data.toList.drop 185 = dktX1_init_8 := dk_seg dksX1_init_7 22 rfl rfl
theorem dksX1_init_9 : cX1_init.data.toList.drop 208 = dktX1_init_9 := dk_seg dksX1_init_8 23 rfl rfl
theorem dksX1_init_10 : cX1_init.data.toList.drop 230 = dktX1_init_10 := dk_seg dksX1_init_9 22 rfl rfl
theorem dksX1_init_11 : cX1_init.data.toList.drop 253 = dktX1_init_11 := dk_seg dksX1_init_10 23 rfl rfl
theorem dksX1_init_12 : cX1_init.data.toList.drop 275 = dktX1_init_12 := dk_seg dksX1_init_11 22 rfl rfl
theorem dksX1_init_13 : cX1_init.data.toList.drop 298 = dktX1_init_13 := dk_seg dksX1_init_12 23 rfl rfl
theorem dksX1_init_14 : cX1_init.data.toList.drop 320 = dktX1_init_14 := dk_seg dksX1_init_13 22 rfl rfl
theorem dksX1_init_15 : cX1_init.data.toList.drop 343 = dktX1_init_15 := dk_seg dksX1_init_14 23 rfl rfl
theorem dksX1_init_16 : cX1_init.data.toList.drop 365 = dktX1_init_16 := dk_seg dksX1_init_15 22 rfl rfl
theorem dksX1_init_17 : cX1_init.data.toList.drop 388 = dktX1_init_17 := dk_seg dksX1_init_16 23 rfl rfl
theorem dksX1_init_18 : cX1_init.data.toList.drop 411 = dktX1_init_18 := dk_seg dksX1_init_17 23 rfl rfl
theorem dksX1_init_19 : cX1_init.data.toList.drop 435 = dktX1_init_19 := dk_seg dksX1_init_18 24 rfl rfl
theorem dksX1_init_20 : cX1_init.data.toList.drop 458 = dktX1_init_20 := dk_seg dksX1_init_19 23 rfl rfl
theorem dksX1_init_21 : cX1_init.data.toList.drop 480 = dktX1_init_21 := dk_seg dksX1_init_20 22 rfl rfl
theorem dksX1_init_22 : cX1_init.data.toList.drop 503 = dktX1_init_22 := dk_seg dksX1_init_21 23 rfl rfl
theorem dksX1_init_23 : cX1_init.data.toList.drop 525 = dktX1_init_23 := dk_seg dksX1_init_22 22 rfl rfl
theorem dX1_init_0 : decode cX1_init 0 = .ok (.aload_n 0, 1) := dk_42 (dk_at dksX1_init_0 0 rfl rfl)
theorem dX1_init_1 : decode cX1_init 1 = .ok (.invokespecial 1, 3) := dk_183 0 1 (dk_at dksX1_init_0 1 rfl rfl)
theorem dX1_init_4 : decode cX1_init 4 = .ok (.aload_n 0, 1) := dk_42 (dk_at dksX1_init_0 4 rfl rfl)
theorem dX1_init_5 : decode cX1_init 5 = .ok (.sipush 600, 3) := dk_17 2 88 (dk_at dksX1_init_0 5 rfl rfl)
theorem dX1_init_8 : decode cX1_init 8 = .ok (.newarray .byte, 2) := dk_188_8 (dk_at dksX1_init_0 8 rfl rfl)
theorem dX1_init_10 : decode cX1_init 10 = .ok (.putfield 7, 3) := dk_181 0 7 (dk_at dksX1_init_0 10 rfl rfl)
theorem dX1_init_13 : decode cX1_init 13 = .ok (.aload_n 0, 1) := dk_42 (dk_at dksX1_init_0 13 rfl rfl)
theorem dX1_init_14 : decode cX1_init 14 = .ok (.sipush 601, 3) := dk_17 2 89 (dk_at dksX1_init_0 14 rfl rfl)
theorem dX1_init_17 : decode cX1_init 17 = .ok (.newarray .int, 2) := dk_188_10 (dk_at dksX1_init_0 17 rfl rfl)
theorem dX1_init_19 : decode cX1_init 19 = .ok (.putfield 13, 3) := dk_181 0 13 (dk_at dksX1_init_0 19 rfl rfl)
theorem dX1_init_22 : decode cX1_init 22 = .ok (.aload_n 0, 1) := dk_42 (dk_at dksX1_init_0 22 rfl rfl)
theorem dX1_init_23 : decode cX1_init 23 = .ok (.sipush 601, 3) := dk_17 2 89 (dk_at dksX1_init_1 0 rfl rfl)
theorem dX1_init_26 : decode cX1_init 26 = .ok (.newarray .int, 2) := dk_188_10 (dk_at dksX1_init_1 3 rfl rfl)
theorem dX1_init_28 : decode cX1_init 28 = .ok (.putfield 17, 3) := dk_181 0 17 (dk_at dksX1_init_1 5 rfl rfl)
theorem dX1_init_31 : decode cX1_init 31 = .ok (.aload_n 0, 1) := dk_42 (dk_at dksX1_init_1 8 rfl rfl)
theorem dX1_init_32 : decode cX1_init 32 = .ok (.sipush 601, 3) := dk_17 2 89 (dk_at dksX1_init_1 9 rfl rfl)
theorem dX1_init_35 : decode cX1_init 35 = .ok (.newarray .long, 2) := dk_188_11 (dk_at dksX1_init_1 12 rfl rfl)
theorem dX1_init_37 : decode cX1_init 37 = .ok (.putfield 20, 3) := dk_181 0 20 (dk_at dksX1_init_1 14 rfl rfl)
theorem dX1_init_40 : decode cX1_init 40 = .ok (.aload_n 0, 1) := dk_42 (dk_at dksX1_init_1 17 rfl rfl)
theorem dX1_init_41 : decode cX1_init 41 = .ok (.sipush 601, 3) := dk_17 2 89 (dk_at dksX1_init_1 18 rfl rfl)
theorem dX1_init_44 : decode cX1_init 44 = .ok (.newarray .int, 2) := dk_188_10 (dk_at dksX1_init_1 21 rfl rfl)
theorem dX1_init_46 : decode cX1_init 46 = .ok (.putfield 24, 3) := dk_181 0 24 (dk_at dksX1_init_2 0 rfl rfl)
theorem dX1_init_49 : decode cX1_init 49 = .ok (.aload_n 0, 1) := dk_42 (dk_at dksX1_init_2 3 rfl rfl)
theorem dX1_init_50 : decode cX1_init 50 = .ok (.sipush 601, 3) := dk_17 2 89 (dk_at dksX1_init_2 4 rfl rfl)
theorem dX1_init_53 : decode cX1_init 53 = .ok (.newarray .long, 2) := dk_188_11 (dk_at dksX1_init_2 7 rfl rfl)
theorem dX1_init_55 : decode cX1_init 55 = .ok (.putfield 27, 3) := dk_181 0 27 (dk_at dksX1_init_2 9 rfl rfl)
theorem dX1_init_58 : decode cX1_init 58 = .ok (.aload_n 0, 1) := dk_42 (dk_at dksX1_init_2 12 rfl rfl)
theorem dX1_init_59 : decode cX1_init 59 = .ok (.sipush 601, 3) := dk_17 2 89 (dk_at dksX1_init_2 13 rfl rfl)
theorem dX1_init_62 : decode cX1_init 62 = .ok (.newarray .int, 2) := dk_188_10 (dk_at dksX1_init_2 16 rfl rfl)
theorem dX1_init_64 : decode cX1_init 64 = .ok (.putfield 30, 3) := dk_181 0 30 (dk_at dksX1_init_2 18 rfl rfl)
theorem dX1_init_67 : decode cX1_init 67 = .ok (.aload_n 0, 1) := dk_42 (dk_at dksX1_init_2 21 rfl rfl)
theorem dX1_init_68 : decode cX1_init 68 = .ok (.sipush 601, 3) := dk_17 2 89 (dk_at dksX1_init_3 0 rfl rfl)
theorem dX1_init_71 : decode cX1_init 71 = .ok (.newarray .int, 2) := dk_188_10 (dk_at dksX1_init_3 3 rfl rfl)
theorem dX1_init_73 : decode cX1_init 73 = .ok (.putfield 33, 3) := dk_181 0 33 (dk_at dksX1_init_3 5 rfl rfl)
theorem dX1_init_76 : decode cX1_init 76 = .ok (.aload_n 0, 1) := dk_42 (dk_at dksX1_init_3 8 rfl rfl)
theorem dX1_init_77 : decode cX1_init 77 = .ok (.sipush 601, 3) := dk_17 2 89 (dk_at dksX1_init_3 9 rfl rfl)
theorem dX1_init_80 : decode cX1_init 80 = .ok (.newarray .int, 2) := dk_188_10 (dk_at dksX1_init_3 12 rfl rfl)
theorem dX1_init_82 : decode cX1_init 82 = .ok (.putfield 36, 3) := dk_181 0 36 (dk_at dksX1_init_3 14 rfl rfl)
theorem dX1_init_85 : decode cX1_init 85 = .ok (.aload_n 0, 1) := dk_42 (dk_at dksX1_init_3 17 rfl rfl)
theorem dX1_init_86 : decode cX1_init 86 = .ok (.sipush 601, 3) := dk_17 2 89 (dk_at dksX1_init_3 18 rfl rfl)
theorem dX1_init_89 : decode cX1_init 89 = .ok (.newarray .int, 2) := dk_188_10 (dk_at dksX1_init_3 21 rfl rfl)
theorem dX1_init_91 : decode cX1_init 91 = .ok (.putfield 39, 3) := dk_181 0 39 (dk_at dksX1_init_4 0 rfl rfl)
theorem dX1_init_94 : decode cX1_init 94 = .ok (.aload_n 0, 1) := dk_42 (dk_at dksX1_init_4 3 rfl rfl)
theorem dX1_init_95 : decode cX1_init 95 = .ok (.bipush 12, 2) := dk_16 12 (dk_at dksX1_init_4 4 rfl rfl)
theorem dX1_init_97 : decode cX1_init 97 = .ok (.newarray .long, 2) := dk_188_11 (dk_at dksX1_init_4 6 rfl rfl)
theorem dX1_init_99 : decode cX1_init 99 = .ok (.putfield 42, 3) := dk_181 0 42 (dk_at dksX1_init_4 8 rfl rfl)
theorem dX1_init_102 : decode cX1_init 102 = .ok (.aload_n 0, 1) := dk_42 (dk_at dksX1_init_4 11 rfl rfl)
theorem dX1_init_103 : decode cX1_init 103 = .ok (.bipush 12, 2) := dk_16 12 (dk_at dksX1_init_4 12 rfl rfl)
theorem dX1_init_105 : decode cX1_init 105 = .ok (.newarray .boolean, 2) := dk_188_4 (dk_at dksX1_init_4 14 rfl rfl)
theorem dX1_init_107 : decode cX1_init 107 = .ok (.putfield 45, 3) := dk_181 0 45 (dk_at dksX1_init_4 16 rfl rfl)
theorem dX1_init_110 : decode cX1_init 110 = .ok (.aload_n 0, 1) := dk_42 (dk_at dksX1_init_4 19 rfl rfl)
theorem dX1_init_111 : decode cX1_init 111 = .ok (.bipush 12, 2) := dk_16 12 (dk_at dksX1_init_4 20 rfl rfl)
theorem dX1_init_113 : decode cX1_init 113 = .ok (.newarray .int, 2) := dk_188_10 (dk_at dksX1_init_4 22 rfl rfl)
theorem dX1_init_115 : decode cX1_init 115 = .ok (.putfield 49, 3) := dk_181 0 49 (dk_at dksX1_init_5 0 rfl rfl)
theorem dX1_init_118 : decode cX1_init 118 = .ok (.aload_n 0, 1) := dk_42 (dk_at dksX1_init_5 3 rfl rfl)
theorem dX1_init_119 : decode cX1_init 119 = .ok (.bipush 12, 2) := dk_16 12 (dk_at dksX1_init_5 4 rfl rfl)
theorem dX1_init_121 : decode cX1_init 121 = .ok (.newarray .int, 2) := dk_188_10 (dk_at dksX1_init_5 6 rfl rfl)
theorem dX1_init_123 : decode cX1_init 123 = .ok (.putfield 52, 3) := dk_181 0 52 (dk_at dksX1_init_5 8 rfl rfl)
theorem dX1_init_126 : decode cX1_init 126 = .ok (.aload_n 0, 1) := dk_42 (dk_at dksX1_init_5 11 rfl rfl)
theorem dX1_init_127 : decode cX1_init 127 = .ok (.bipush 16, 2) := dk_16 16 (dk_at dksX1_init_5 12 rfl rfl)
theorem dX1_init_129 : decode cX1_init 129 = .ok (.newarray .int, 2) := dk_188_10 (dk_at dksX1_init_5 14 rfl rfl)
theorem dX1_init_131 : decode cX1_init 131 = .ok (.putfield 55, 3) := dk_181 0 55 (dk_at dksX1_init_5 16 rfl rfl)
theorem dX1_init_134 : decode cX1_init 134 = .ok (.aload_n 0, 1) := dk_42 (dk_at dksX1_init_5 19 rfl rfl)
theorem dX1_init_135 : decode cX1_init 135 = .ok (.bipush 12, 2) := dk_16 12 (dk_at dksX1_init_5 20 rfl rfl)
theorem dX1_init_137 : decode cX1_init 137 = .ok (.newarray .long, 2) := dk_188_11 (dk_at dksX1_init_5 22 rfl rfl)
theorem dX1_init_139 : decode cX1_init 139 = .ok (.putfield 58, 3) := dk_181 0 58 (dk_at dksX1_init_6 0 rfl rfl)
theorem dX1_init_142 : decode cX1_init 142 = .ok (.aload_n 0, 1) := dk_42 (dk_at dksX1_init_6 3 rfl rfl)
theorem dX1_init_143 : decode cX1_init 143 = .ok (.bipush 12, 2) := dk_16 12 (dk_at dksX1_init_6 4 rfl rfl)
theorem dX1_init_145 : decode cX1_init 145 = .ok (.newarray .boolean, 2) := dk_188_4 (dk_at dksX1_init_6 6 rfl rfl)
theorem dX1_init_147 : decode cX1_init 147 = .ok (.putfield 61, 3) := dk_181 0 61 (dk_at dksX1_init_6 8 rfl rfl)
theorem dX1_init_150 : decode cX1_init 150 = .ok (.aload_n 0, 1) := dk_42 (dk_at dksX1_init_6 11 rfl rfl)
theorem dX1_init_151 : decode cX1_init 151 = .ok (.bipush 12, 2) := dk_16 12 (dk_at dksX1_init_6 12 rfl rfl)
theorem dX1_init_153 : decode cX1_init 153 = .ok (.newarray .int, 2) := dk_188_10 (dk_at dksX1_init_6 14 rfl rfl)
theorem dX1_init_155 : decode cX1_init 155 = .ok (.putfield 64, 3) := dk_181 0 64 (dk_at dksX1_init_6 16 rfl rfl)
theorem dX1_init_158 : decode cX1_init 158 = .ok (.aload_n 0, 1) := dk_42 (dk_at dksX1_init_6 19 rfl rfl)
theorem dX1_init_159 : decode cX1_init 159 = .ok (.bipush 12, 2) := dk_16 12 (dk_at dksX1_init_6 20 rfl rfl)
theorem dX1_init_161 : decode cX1_init 161 = .ok (.newarray .int, 2) := dk_188_10 (dk_at dksX1_init_6 22 rfl rfl)
theorem dX1_init_163 : decode cX1_init 163 = .ok (.putfield 67, 3) := dk_181 0 67 (dk_at dksX1_init_7 0 rfl rfl)
theorem dX1_init_166 : decode cX1_init 166 = .ok (.aload_n 0, 1) := dk_42 (dk_at dksX1_init_7 3 rfl rfl)
theorem dX1_init_167 : decode cX1_init 167 = .ok (.sipush 601, 3) := dk_17 2 89 (dk_at dksX1_init_7 4 rfl rfl)
theorem dX1_init_170 : decode cX1_init 170 = .ok (.newarray .int, 2) := dk_188_10 (dk_at dksX1_init_7 7 rfl rfl)
theorem dX1_init_172 : decode cX1_init 172 = .ok (.putfield 70, 3) := dk_181 0 70 (dk_at dksX1_init_7 9 rfl rfl)
theorem dX1_init_175 : decode cX1_init 175 = .ok (.aload_n 0, 1) := dk_42 (dk_at dksX1_init_7 12 rfl rfl)
theorem dX1_init_176 : decode cX1_init 176 = .ok (.sipush 601, 3) := dk_17 2 89 (dk_at dksX1_init_7 13 rfl rfl)
theorem dX1_init_179 : decode cX1_init 179 = .ok (.newarray .long, 2) := dk_188_11 (dk_at dksX1_init_7 16 rfl rfl)
theorem dX1_init_181 : decode cX1_init 181 = .ok (.putfield 73, 3) := dk_181 0 73 (dk_at dksX1_init_7 18 rfl rfl)
theorem dX1_init_184 : decode cX1_init 184 = .ok (.aload_n 0, 1) := dk_42 (dk_at dksX1_init_7 21 rfl rfl)
theorem dX1_init_185 : decode cX1_init 185 = .ok (.sipush 601, 3) := dk_17 2 89 (dk_at dksX1_init_8 0 rfl rfl)
theorem dX1_init_188 : decode cX1_init 188 = .ok (.newarray .int, 2) := dk_188_10 (dk_at dksX1_init_8 3 rfl rfl)
theorem dX1_init_190 : decode cX1_init 190 = .ok (.putfield 76, 3) := dk_181 0 76 (dk_at dksX1_init_8 5 rfl rfl)
theorem dX1_init_193 : decode cX1_init 193 = .ok (.aload_n 0, 1) := dk_42 (dk_at dksX1_init_8 8 rfl rfl)
theorem dX1_init_194 : decode cX1_init 194 = .ok (.sipush 601, 3) := dk_17 2 89 (dk_at dksX1_init_8 9 rfl rfl)
theorem dX1_init_197 : decode cX1_init 197 = .ok (.newarray .int, 2) := dk_188_10 (dk_at dksX1_init_8 12 rfl rfl)
theorem dX1_init_199 : decode cX1_init 199 = .ok (.putfield 79, 3) := dk_181 0 79 (dk_at dksX1_init_8 14 rfl rfl)
theorem dX1_init_202 : decode cX1_init 202 = .ok (.aload_n 0, 1) := dk_42 (dk_at dksX1_init_8 17 rfl rfl)
theorem dX1_init_203 : decode cX1_init 203 = .ok (.sipush 601, 3) := dk_17 2 89 (dk_at dksX1_init_8 18 rfl rfl)
theorem dX1_init_206 : decode cX1_init 206 = .ok (.newarray .int, 2) := dk_188_10 (dk_at dksX1_init_8 21 rfl rfl)
theorem dX1_init_208 : decode cX1_init 208 = .ok (.putfield 82, 3) := dk_181 0 82 (dk_at dksX1_init_9 0 rfl rfl)
theorem dX1_init_211 : decode cX1_init 211 = .ok (.aload_n 0, 1) := dk_42 (dk_at dksX1_init_9 3 rfl rfl)
theorem dX1_init_212 : decode cX1_init 212 = .ok (.sipush 601, 3) := dk_17 2 89 (dk_at dksX1_init_9 4 rfl rfl)
theorem dX1_init_215 : decode cX1_init 215 = .ok (.newarray .int, 2) := dk_188_10 (dk_at dksX1_init_9 7 rfl rfl)
theorem dX1_init_217 : decode cX1_init 217 = .ok (.putfield 85, 3) := dk_181 0 85 (dk_at dksX1_init_9 9 rfl rfl)
theorem dX1_init_220 : decode cX1_init 220 = .ok (.aload_n 0, 1) := dk_42 (dk_at dksX1_init_9 12 rfl rfl)
theorem dX1_init_221 : decode cX1_init 221 = .ok (.sipush 500, 3) := dk_17 1 244 (dk_at dksX1_init_9 13 rfl rfl)
theorem dX1_init_224 : decode cX1_init 224 = .ok (.newarray .int, 2) := dk_188_10 (dk_at dksX1_init_9 16 rfl rfl)
theorem dX1_init_226 : decode cX1_init 226 = .ok (.putfield 88, 3) := dk_181 0 88 (dk_at dksX1_init_9 18 rfl rfl)
theorem dX1_init_229 : decode cX1_init 229 = .ok (.aload_n 0, 1) := dk_42 (dk_at dksX1_init_9 21 rfl rfl)
theorem dX1_init_230 : decode cX1_init 230 = .ok (.sipush 500, 3) := dk_17 1 244 (dk_at dksX1_init_10 0 rfl rfl)
theorem dX1_init_233 : decode cX1_init 233 = .ok (.newarray .long, 2) := dk_188_11 (dk_at dksX1_init_10 3 rfl rfl)
theorem dX1_init_235 : decode cX1_init 235 = .ok (.putfield 91, 3) := dk_181 0 91 (dk_at dksX1_init_10 5 rfl rfl)
theorem dX1_init_238 : decode cX1_init 238 = .ok (.aload_n 0, 1) := dk_42 (dk_at dksX1_init_10 8 rfl rfl)
theorem dX1_init_239 : decode cX1_init 239 = .ok (.sipush 500, 3) := dk_17 1 244 (dk_at dksX1_init_10 9 rfl rfl)
theorem dX1_init_242 : decode cX1_init 242 = .ok (.newarray .int, 2) := dk_188_10 (dk_at dksX1_init_10 12 rfl rfl)
theorem dX1_init_244 : decode cX1_init 244 = .ok (.putfield 94, 3) := dk_181 0 94 (dk_at dksX1_init_10 14 rfl rfl)
theorem dX1_init_247 : decode cX1_init 247 = .ok (.aload_n 0, 1) := dk_42 (dk_at dksX1_init_10 17 rfl rfl)
theorem dX1_init_248 : decode cX1_init 248 = .ok (.sipush 500, 3) := dk_17 1 244 (dk_at dksX1_init_10 18 rfl rfl)
theorem dX1_init_251 : decode cX1_init 251 = .ok (.newarray .int, 2) := dk_188_10 (dk_at dksX1_init_10 21 rfl rfl)
theorem dX1_init_253 : decode cX1_init 253 = .ok (.putfield 97, 3) := dk_181 0 97 (dk_at dksX1_init_11 0 rfl rfl)
theorem dX1_init_256 : decode cX1_init 256 = .ok (.aload_n 0, 1) := dk_42 (dk_at dksX1_init_11 3 rfl rfl)
theorem dX1_init_257 : decode cX1_init 257 = .ok (.sipush 500, 3) := dk_17 1 244 (dk_at dksX1_init_11 4 rfl rfl)
theorem dX1_init_260 : decode cX1_init 260 = .ok (.newarray .int, 2) := dk_188_10 (dk_at dksX1_init_11 7 rfl rfl)
theorem dX1_init_262 : decode cX1_init 262 = .ok (.putfield 100, 3) := dk_181 0 100 (dk_at dksX1_init_11 9 rfl rfl)
theorem dX1_init_265 : decode cX1_init 265 = .ok (.aload_n 0, 1) := dk_42 (dk_at dksX1_init_11 12 rfl rfl)
theorem dX1_init_266 : decode cX1_init 266 = .ok (.sipush 500, 3) := dk_17 1 244 (dk_at dksX1_init_11 13 rfl rfl)
theorem dX1_init_269 : decode cX1_init 269 = .ok (.newarray .int, 2) := dk_188_10 (dk_at dksX1_init_11 16 rfl rfl)
theorem dX1_init_271 : decode cX1_init 271 = .ok (.putfield 103, 3) := dk_181 0 103 (dk_at dksX1_init_11 18 rfl rfl)
theorem dX1_init_274 : decode cX1_init 274 = .ok (.aload_n 0, 1) := dk_42 (dk_at dksX1_init_11 21 rfl rfl)
theorem dX1_init_275 : decode cX1_init 275 = .ok (.sipush 500, 3) := dk_17 1 244 (dk_at dksX1_init_12 0 rfl rfl)
theorem dX1_init_278 : decode cX1_init 278 = .ok (.newarray .int, 2) := dk_188_10 (dk_at dksX1_init_12 3 rfl rfl)
theorem dX1_init_280 : decode cX1_init 280 = .ok (.putfield 106, 3) := dk_181 0 106 (dk_at dksX1_init_12 5 rfl rfl)
theorem dX1_init_283 : decode cX1_init 283 = .ok (.aload_n 0, 1) := dk_42 (dk_at dksX1_init_12 8 rfl rfl)
theorem dX1_init_284 : decode cX1_init 284 = .ok (.sipush 500, 3) := dk_17 1 244 (dk_at dksX1_init_12 9 rfl rfl)
theorem dX1_init_287 : decode cX1_init 287 = .ok (.newarray .int, 2) := dk_188_10 (dk_at dksX1_init_12 12 rfl rfl)
theorem dX1_init_289 : decode cX1_init 289 = .ok (.putfield 109, 3) := dk_181 0 109 (dk_at dksX1_init_12 14 rfl rfl)
theorem dX1_init_292 : decode cX1_init 292 = .ok (.aload_n 0, 1) := dk_42 (dk_at dksX1_init_12 17 rfl rfl)
theorem dX1_init_293 : decode cX1_init 293 = .ok (.sipush 301, 3) := dk_17 1 45 (dk_at dksX1_init_12 18 rfl rfl)
theorem dX1_init_296 : decode cX1_init 296 = .ok (.newarray .int, 2) := dk_188_10 (dk_at dksX1_init_12 21 rfl rfl)
theorem dX1_init_298 : decode cX1_init 298 = .ok (.putfield 112, 3) := dk_181 0 112 (dk_at dksX1_init_13 0 rfl rfl)
theorem dX1_init_301 : decode cX1_init 301 = .ok (.aload_n 0, 1) := dk_42 (dk_at dksX1_init_13 3 rfl rfl)
theorem dX1_init_302 : decode cX1_init 302 = .ok (.sipush 301, 3) := dk_17 1 45 (dk_at dksX1_init_13 4 rfl rfl)
theorem dX1_init_305 : decode cX1_init 305 = .ok (.newarray .int, 2) := dk_188_10 (dk_at dksX1_init_13 7 rfl rfl)
theorem dX1_init_307 : decode cX1_init 307 = .ok (.putfield 115, 3) := dk_181 0 115 (dk_at dksX1_init_13 9 rfl rfl)
theorem dX1_init_310 : decode cX1_init 310 = .ok (.aload_n 0, 1) := dk_42 (dk_at dksX1_init_13 12 rfl rfl)
theorem dX1_init_311 : decode cX1_init 311 = .ok (.sipush 301, 3) := dk_17 1 45 (dk_at dksX1_init_13 13 rfl rfl)
theorem dX1_init_314 : decode cX1_init 314 = .ok (.newarray .int, 2) := dk_188_10 (dk_at dksX1_init_13 16 rfl rfl)
theorem dX1_init_316 : decode cX1_init 316 = .ok (.putfield 118, 3) := dk_181 0 118 (dk_at dksX1_init_13 18 rfl rfl)
theorem dX1_init_319 : decode cX1_init 319 = .ok (.aload_n 0, 1) := dk_42 (dk_at dksX1_init_13 21 rfl rfl)
theorem dX1_init_320 : decode cX1_init 320 = .ok (.sipush 601, 3) := dk_17 2 89 (dk_at dksX1_init_14 0 rfl rfl)
theorem dX1_init_323 : decode cX1_init 323 = .ok (.newarray .int, 2) := dk_188_10 (dk_at dksX1_init_14 3 rfl rfl)
theorem dX1_init_325 : decode cX1_init 325 = .ok (.putfield 121, 3) := dk_181 0 121 (dk_at dksX1_init_14 5 rfl rfl)
theorem dX1_init_328 : decode cX1_init 328 = .ok (.aload_n 0, 1) := dk_42 (dk_at dksX1_init_14 8 rfl rfl)
theorem dX1_init_329 : decode cX1_init 329 = .ok (.sipush 601, 3) := dk_17 2 89 (dk_at dksX1_init_14 9 rfl rfl)
theorem dX1_init_332 : decode cX1_init 332 = .ok (.newarray .int, 2) := dk_188_10 (dk_at dksX1_init_14 12 rfl rfl)
theorem dX1_init_334 : decode cX1_init 334 = .ok (.putfield 124, 3) := dk_181 0 124 (dk_at dksX1_init_14 14 rfl rfl)
theorem dX1_init_337 : decode cX1_init 337 = .ok (.aload_n 0, 1) := dk_42 (dk_at dksX1_init_14 17 rfl rfl)
theorem dX1_init_338 : decode cX1_init 338 = .ok (.sipush 500, 3) := dk_17 1 244 (dk_at dksX1_init_14 18 rfl rfl)
theorem dX1_init_341 : decode cX1_init 341 = .ok (.newarray .int, 2) := dk_188_10 (dk_at dksX1_init_14 21 rfl rfl)
theorem dX1_init_343 : decode cX1_init 343 = .ok (.putfield 127, 3) := dk_181 0 127 (dk_at dksX1_init_15 0 rfl rfl)
theorem dX1_init_346 : decode cX1_init 346 = .ok (.aload_n 0, 1) := dk_42 (dk_at dksX1_init_15 3 rfl rfl)
theorem dX1_init_347 : decode cX1_init 347 = .ok (.sipush 500, 3) := dk_17 1 244 (dk_at dksX1_init_15 4 rfl rfl)
theorem dX1_init_350 : decode cX1_init 350 = .ok (.newarray .long, 2) := dk_188_11 (dk_at dksX1_init_15 7 rfl rfl)
theorem dX1_init_352 : decode cX1_init 352 = .ok (.putfield 130, 3) := dk_181 0 130 (dk_at dksX1_init_15 9 rfl rfl)
theorem dX1_init_355 : decode cX1_init 355 = .ok (.aload_n 0, 1) := dk_42 (dk_at dksX1_init_15 12 rfl rfl)
theorem dX1_init_356 : decode cX1_init 356 = .ok (.sipush 500, 3) := dk_17 1 244 (dk_at dksX1_init_15 13 rfl rfl)
theorem dX1_init_359 : decode cX1_init 359 = .ok (.newarray .int, 2) := dk_188_10 (dk_at dksX1_init_15 16 rfl rfl)
theorem dX1_init_361 : decode cX1_init 361 = .ok (.putfield 133, 3) := dk_181 0 133 (dk_at dksX1_init_15 18 rfl rfl)
theorem dX1_init_364 : decode cX1_init 364 = .ok (.aload_n 0, 1) := dk_42 (dk_at dksX1_init_15 21 rfl rfl)
theorem dX1_init_365 : decode cX1_init 365 = .ok (.sipush 500, 3) := dk_17 1 244 (dk_at dksX1_init_16 0 rfl rfl)
theorem dX1_init_368 : decode cX1_init 368 = .ok (.newarray .int, 2) := dk_188_10 (dk_at dksX1_init_16 3 rfl rfl)
theorem dX1_init_370 : decode cX1_init 370 = .ok (.putfield 136, 3) := dk_181 0 136 (dk_at dksX1_init_16 5 rfl rfl)
theorem dX1_init_373 : decode cX1_init 373 = .ok (.aload_n 0, 1) := dk_42 (dk_at dksX1_init_16 8 rfl rfl)
theorem dX1_init_374 : decode cX1_init 374 = .ok (.sipush 500, 3) := dk_17 1 244 (dk_at dksX1_init_16 9 rfl rfl)
theorem dX1_init_377 : decode cX1_init 377 = .ok (.newarray .int, 2) := dk_188_10 (dk_at dksX1_init_16 12 rfl rfl)
theorem dX1_init_379 : decode cX1_init 379 = .ok (.putfield 139, 3) := dk_181 0 139 (dk_at dksX1_init_16 14 rfl rfl)
theorem dX1_init_382 : decode cX1_init 382 = .ok (.aload_n 0, 1) := dk_42 (dk_at dksX1_init_16 17 rfl rfl)
theorem dX1_init_383 : decode cX1_init 383 = .ok (.sipush 500, 3) := dk_17 1 244 (dk_at dksX1_init_16 18 rfl rfl)
theorem dX1_init_386 : decode cX1_init 386 = .ok (.newarray .int, 2) := dk_188_10 (dk_at dksX1_init_16 21 rfl rfl)
theorem dX1_init_388 : decode cX1_init 388 = .ok (.putfield 142, 3) := dk_181 0 142 (dk_at dksX1_init_17 0 rfl rfl)
theorem dX1_init_391 : decode cX1_init 391 = .ok (.aload_n 0, 1) := dk_42 (dk_at dksX1_init_17 3 rfl rfl)
theorem dX1_init_392 : decode cX1_init 392 = .ok (.sipush 500, 3) := dk_17 1 244 (dk_at dksX1_init_17 4 rfl rfl)
theorem dX1_init_395 : decode cX1_init 395 = .ok (.newarray .int, 2) := dk_188_10 (dk_at dksX1_init_17 7 rfl rfl)
theorem dX1_init_397 : decode cX1_init 397 = .ok (.putfield 145, 3) := dk_181 0 145 (dk_at dksX1_init_17 9 rfl rfl)
theorem dX1_init_400 : decode cX1_init 400 = .ok (.aload_n 0, 1) := dk_42 (dk_at dksX1_init_17 12 rfl rfl)
theorem dX1_init_401 : decode cX1_init 401 = .ok (.bipush 16, 2) := dk_16 16 (dk_at dksX1_init_17 13 rfl rfl)
theorem dX1_init_403 : decode cX1_init 403 = .ok (.newarray .int, 2) := dk_188_10 (dk_at dksX1_init_17 15 rfl rfl)
theorem dX1_init_405 : decode cX1_init 405 = .ok (.putfield 148, 3) := dk_181 0 148 (dk_at dksX1_init_17 17 rfl rfl)
theorem dX1_init_408 : decode cX1_init 408 = .ok (.aload_n 0, 1) := dk_42 (dk_at dksX1_init_17 20 rfl rfl)
theorem dX1_init_409 : decode cX1_init 409 = .ok (.bipush 16, 2) := dk_16 16 (dk_at dksX1_init_17 21 rfl rfl)
theorem dX1_init_411 : decode cX1_init 411 = .ok (.newarray .int, 2) := dk_188_10 (dk_at dksX1_init_18 0 rfl rfl)
theorem dX1_init_413 : decode cX1_init 413 = .ok (.putfield 151, 3) := dk_181 0 151 (dk_at dksX1_init_18 2 rfl rfl)
theorem dX1_init_416 : decode cX1_init 416 = .ok (.aload_n 0, 1) := dk_42 (dk_at dksX1_init_18 5 rfl rfl)
theorem dX1_init_417 : decode cX1_init 417 = .ok (.sipush 301, 3) := dk_17 1 45 (dk_at dksX1_init_18 6 rfl rfl)
theorem dX1_init_420 : decode cX1_init 420 = .ok (.newarray .int, 2) := dk_188_10 (dk_at dksX1_init_18 9 rfl rfl)
theorem dX1_init_422 : decode cX1_init 422 = .ok (.putfield 154, 3) := dk_181 0 154 (dk_at dksX1_init_18 11 rfl rfl)
theorem dX1_init_425 : decode cX1_init 425 = .ok (.aload_n 0, 1) := dk_42 (dk_at dksX1_init_18 14 rfl rfl)
theorem dX1_init_426 : decode cX1_init 426 = .ok (.sipush 301, 3) := dk_17 1 45 (dk_at dksX1_init_18 15 rfl rfl)
theorem dX1_init_429 : decode cX1_init 429 = .ok (.newarray .int, 2) := dk_188_10 (dk_at dksX1_init_18 18 rfl rfl)
theorem dX1_init_431 : decode cX1_init 431 = .ok (.putfield 157, 3) := dk_181 0 157 (dk_at dksX1_init_18 20 rfl rfl)
theorem dX1_init_434 : decode cX1_init 434 = .ok (.aload_n 0, 1) := dk_42 (dk_at dksX1_init_18 23 rfl rfl)
theorem dX1_init_435 : decode cX1_init 435 = .ok (.sipush 301, 3) := dk_17 1 45 (dk_at dksX1_init_19 0 rfl rfl)
theorem dX1_init_438 : decode cX1_init 438 = .ok (.newarray .int, 2) := dk_188_10 (dk_at dksX1_init_19 3 rfl rfl)
theorem dX1_init_440 : decode cX1_init 440 = .ok (.putfield 160, 3) := dk_181 0 160 (dk_at dksX1_init_19 5 rfl rfl)
theorem dX1_init_443 : decode cX1_init 443 = .ok (.aload_n 0, 1) := dk_42 (dk_at dksX1_init_19 8 rfl rfl)
theorem dX1_init_444 : decode cX1_init 444 = .ok (.sipush 31000, 3) := dk_17 121 24 (dk_at dksX1_init_19 9 rfl rfl)
theorem dX1_init_447 : decode cX1_init 447 = .ok (.newarray .int, 2) := dk_188_10 (dk_at dksX1_init_19 12 rfl rfl)
theorem dX1_init_449 : decode cX1_init 449 = .ok (.putfield 163, 3) := dk_181 0 163 (dk_at dksX1_init_19 14 rfl rfl)
theorem dX1_init_452 : decode cX1_init 452 = .ok (.aload_n 0, 1) := dk_42 (dk_at dksX1_init_19 17 rfl rfl)
theorem dX1_init_453 : decode cX1_init 453 = .ok (.sipush 31000, 3) := dk_17 121 24 (dk_at dksX1_init_19 18 rfl rfl)
theorem dX1_init_456 : decode cX1_init 456 = .ok (.newarray .long, 2) := dk_188_11 (dk_at dksX1_init_19 21 rfl rfl)
theorem dX1_init_458 : decode cX1_init 458 = .ok (.putfield 166, 3) := dk_181 0 166 (dk_at dksX1_init_20 0 rfl rfl)
theorem dX1_init_461 : decode cX1_init 461 = .ok (.aload_n 0, 1) := dk_42 (dk_at dksX1_init_20 3 rfl rfl)
theorem dX1_init_462 : decode cX1_init 462 = .ok (.sipush 31000, 3) := dk_17 121 24 (dk_at dksX1_init_20 4 rfl rfl)
theorem dX1_init_465 : decode cX1_init 465 = .ok (.newarray .int, 2) := dk_188_10 (dk_at dksX1_init_20 7 rfl rfl)
theorem dX1_init_467 : decode cX1_init 467 = .ok (.putfield 169, 3) := dk_181 0 169 (dk_at dksX1_init_20 9 rfl rfl)
theorem dX1_init_470 : decode cX1_init 470 = .ok (.aload_n 0, 1) := dk_42 (dk_at dksX1_init_20 12 rfl rfl)
theorem dX1_init_471 : decode cX1_init 471 = .ok (.sipush 31000, 3) := dk_17 121 24 (dk_at dksX1_init_20 13 rfl rfl)
theorem dX1_init_474 : decode cX1_init 474 = .ok (.newarray .int, 2) := dk_188_10 (dk_at dksX1_init_20 16 rfl rfl)
theorem dX1_init_476 : decode cX1_init 476 = .ok (.putfield 172, 3) := dk_181 0 172 (dk_at dksX1_init_20 18 rfl rfl)
theorem dX1_init_479 : decode cX1_init 479 = .ok (.aload_n 0, 1) := dk_42 (dk_at dksX1_init_20 21 rfl rfl)
theorem dX1_init_480 : decode cX1_init 480 = .ok (.sipush 31000, 3) := dk_17 121 24 (dk_at dksX1_init_21 0 rfl rfl)
theorem dX1_init_483 : decode cX1_init 483 = .ok (.newarray .int, 2) := dk_188_10 (dk_at dksX1_init_21 3 rfl rfl)
theorem dX1_init_485 : decode cX1_init 485 = .ok (.putfield 175, 3) := dk_181 0 175 (dk_at dksX1_init_21 5 rfl rfl)
theorem dX1_init_488 : decode cX1_init 488 = .ok (.aload_n 0, 1) := dk_42 (dk_at dksX1_init_21 8 rfl rfl)
theorem dX1_init_489 : decode cX1_init 489 = .ok (.sipush 31000, 3) := dk_17 121 24 (dk_at dksX1_init_21 9 rfl rfl)
theorem dX1_init_492 : decode cX1_init 492 = .ok (.newarray .int, 2) := dk_188_10 (dk_at dksX1_init_21 12 rfl rfl)
theorem dX1_init_494 : decode cX1_init 494 = .ok (.putfield 178, 3) := dk_181 0 178 (dk_at dksX1_init_21 14 rfl rfl)
theorem dX1_init_497 : decode cX1_init 497 = .ok (.aload_n 0, 1) := dk_42 (dk_at dksX1_init_21 17 rfl rfl)
theorem dX1_init_498 : decode cX1_init 498 = .ok (.sipush 31000, 3) := dk_17 121 24 (dk_at dksX1_init_21 18 rfl rfl)
theorem dX1_init_501 : decode cX1_init 501 = .ok (.newarray .int, 2) := dk_188_10 (dk_at dksX1_init_21 21 rfl rfl)
theorem dX1_init_503 : decode cX1_init 503 = .ok (.putfield 181, 3) := dk_181 0 181 (dk_at dksX1_init_22 0 rfl rfl)
theorem dX1_init_506 : decode cX1_init 506 = .ok (.aload_n 0, 1) := dk_42 (dk_at dksX1_init_22 3 rfl rfl)
theorem dX1_init_507 : decode cX1_init 507 = .ok (.sipush 500, 3) := dk_17 1 244 (dk_at dksX1_init_22 4 rfl rfl)
theorem dX1_init_510 : decode cX1_init 510 = .ok (.newarray .int, 2) := dk_188_10 (dk_at dksX1_init_22 7 rfl rfl)
theorem dX1_init_512 : decode cX1_init 512 = .ok (.putfield 184, 3) := dk_181 0 184 (dk_at dksX1_init_22 9 rfl rfl)
theorem dX1_init_515 : decode cX1_init 515 = .ok (.aload_n 0, 1) := dk_42 (dk_at dksX1_init_22 12 rfl rfl)
theorem dX1_init_516 : decode cX1_init 516 = .ok (.sipush 500, 3) := dk_17 1 244 (dk_at dksX1_init_22 13 rfl rfl)
theorem dX1_init_519 : decode cX1_init 519 = .ok (.newarray .long, 2) := dk_188_11 (dk_at dksX1_init_22 16 rfl rfl)
theorem dX1_init_521 : decode cX1_init 521 = .ok (.putfield 187, 3) := dk_181 0 187 (dk_at dksX1_init_22 18 rfl rfl)
theorem dX1_init_524 : decode cX1_init 524 = .ok (.aload_n 0, 1) := dk_42 (dk_at dksX1_init_22 21 rfl rfl)
theorem dX1_init_525 : decode cX1_init 525 = .ok (.sipush 500, 3) := dk_17 1 244 (dk_at dksX1_init_23 0 rfl rfl)
theorem dX1_init_528 : decode cX1_init 528 = .ok (.newarray .int, 2) := dk_188_10 (dk_at dksX1_init_23 3 rfl rfl)
theorem dX1_init_530 : decode cX1_init 530 = .ok (.putfield 190, 3) := dk_181 0 190 (dk_at dksX1_init_23 5 rfl rfl)
theorem dX1_init_533 : decode cX1_init 533 = .ok (.aload_n 0, 1) := dk_42 (dk_at dksX1_init_23 8 rfl rfl)
theorem dX1_init_534 : decode cX1_init 534 = .ok (.sipush 500, 3) := dk_17 1 244 (dk_at dksX1_init_23 9 rfl rfl)
theorem dX1_init_537 : decode cX1_init 537 = .ok (.newarray .int, 2) := dk_188_10 (dk_at dksX1_init_23 12 rfl rfl)
theorem dX1_init_539 : decode cX1_init 539 = .ok (.putfield 193, 3) := dk_181 0 193 (dk_at dksX1_init_23 14 rfl rfl)
theorem dX1_init_542 : decode cX1_init 542 = .ok (.return_, 1) := dk_177 (dk_at dksX1_init_23 17 rfl rfl)
abbrev cX1_feed : ByteArray := prog_20_method_4_code
def yX1_feed : MethodName := ⟨RX1, "feed", "(J)I"⟩
def dkwX1_feed_3 : List UInt8 := [136, 145, 84, 132, 4, 1, 167, 255, 226, 42, 89, 180, 0, 198, 29, 96, 181, 0, 198, 42, 180, 0, 198, 172]
abbrev dktX1_feed_3 : List UInt8 := dkwX1_feed_3 ++ []
def dkwX1_feed_2 : List UInt8 := [21, 4, 29, 162, 0, 30, 42, 180, 0, 7, 42, 180, 0, 198, 21, 4, 96, 31, 16, 8, 21, 4, 104, 125]
abbrev dktX1_feed_2 : List UInt8 := dkwX1_feed_2 ++ dktX1_feed_3
def dkwX1_feed_1 : List UInt8 := [132, 3, 1, 167, 255, 232, 42, 180, 0, 198, 29, 96, 17, 1, 244, 164, 0, 6, 16, 252, 172, 3, 54, 4]
abbrev dktX1_feed_1 : List UInt8 := dkwX1_feed_1 ++ dktX1_feed_2
def dkwX1_feed_0 : List UInt8 := [3, 62, 29, 16, 8, 162, 0, 24, 31, 16, 8, 29, 104, 125, 20, 0, 196, 127, 9, 148, 153, 0, 9]
abbrev dktX1_feed_0 : List UInt8 := dkwX1_feed_0 ++ dktX1_feed_1
theorem dksX1_feed_0 : cX1_feed.data.toList.drop 0 = dktX1_feed_0 := by decide +kernel
theorem dksX1_feed_1 : cX1_feed.data.toList.drop 23 = dktX1_feed_1 := dk_seg dksX1_feed_0 23 rfl rfl
theorem dksX1_feed_2 : cX1_feed.data.toList.drop 47 = dktX1_feed_2 := dk_seg dksX1_feed_1 24 rfl rfl
theorem dksX1_feed_3 : cX1_feed.data.toList.drop 71 = dktX1_feed_3 := dk_seg dksX1_feed_2 24 rfl rfl
theorem dX1_feed_0 : decode cX1_feed 0 = .ok (.iconst 0, 1) := dk_3 (dk_at dksX1_feed_0 0 rfl rfl)
theorem dX1_feed_1 : decode cX1_feed 1 = .ok (.istore_n 3, 1) := dk_62 (dk_at dksX1_feed_0 1 rfl rfl)
theorem dX1_feed_2 : decode cX1_feed 2 = .ok (.iload_n 3, 1) := dk_29 (dk_at dksX1_feed_0 2 rfl rfl)
theorem dX1_feed_3 : decode cX1_feed 3 = .ok (.bipush 8, 2) := dk_16 8 (dk_at dksX1_feed_0 3 rfl rfl)
theorem dX1_feed_5 : decode cX1_feed 5 = .ok (.if_icmp .ge 24, 3) := dk_162 0 24 (dk_at dksX1_feed_0 5 rfl rfl)
theorem dX1_feed_8 : decode cX1_feed 8 = .ok (.lload_n 1, 1) := dk_31 (dk_at dksX1_feed_0 8 rfl rfl)
theorem dX1_feed_9 : decode cX1_feed 9 = .ok (.bipush 8, 2) := dk_16 8 (dk_at dksX1_feed_0 9 rfl rfl)
theorem dX1_feed_11 : decode cX1_feed 11 = .ok (.iload_n 3, 1) := dk_29 (dk_at dksX1_feed_0 11 rfl rfl)
theorem dX1_feed_12 : decode cX1_feed 12 = .ok (.imul, 1) := dk_104 (dk_at dksX1_feed_0 12 rfl rfl)
theorem dX1_feed_13 : decode cX1_feed 13 = .ok (.lushr, 1) := dk_125 (dk_at dksX1_feed_0 13 rfl rfl)
theorem dX1_feed_14 : decode cX1_feed 14 = .ok (.ldc2_w 196, 3) := dk_20 0 196 (dk_at dksX1_feed_0 14 rfl rfl)
theorem dX1_feed_17 : decode cX1_feed 17 = .ok (.land, 1) := dk_127 (dk_at dksX1_feed_0 17 rfl rfl)
theorem dX1_feed_18 : decode cX1_feed 18 = .ok (.lconst 0, 1) := dk_9 (dk_at dksX1_feed_0 18 rfl rfl)
theorem dX1_feed_19 : decode cX1_feed 19 = .ok (.lcmp, 1) := dk_148 (dk_at dksX1_feed_0 19 rfl rfl)
theorem dX1_feed_20 : decode cX1_feed 20 = .ok (.ifCond .eq 9, 3) := dk_153 0 9 (dk_at dksX1_feed_0 20 rfl rfl)
theorem dX1_feed_23 : decode cX1_feed 23 = .ok (.iinc 3 1, 3) := dk_132 3 1 (dk_at dksX1_feed_1 0 rfl rfl)
theorem dX1_feed_26 : decode cX1_feed 26 = .ok (.goto (-24), 3) := dk_167 255 232 (dk_at dksX1_feed_1 3 rfl rfl)
theorem dX1_feed_29 : decode cX1_feed 29 = .ok (.aload_n 0, 1) := dk_42 (dk_at dksX1_feed_1 6 rfl rfl)
theorem dX1_feed_30 : decode cX1_feed 30 = .ok (.getfield 198, 3) := dk_180 0 198 (dk_at dksX1_feed_1 7 rfl rfl)
theorem dX1_feed_33 : decode cX1_feed 33 = .ok (.iload_n 3, 1) := dk_29 (dk_at dksX1_feed_1 10 rfl rfl)
theorem dX1_feed_34 : decode cX1_feed 34 = .ok (.iadd, 1) := dk_96 (dk_at dksX1_feed_1 11 rfl rfl)
theorem dX1_feed_35 : decode cX1_feed 35 = .ok (.sipush 500, 3) := dk_17 1 244 (dk_at dksX1_feed_1 12 rfl rfl)
theorem dX1_feed_38 : decode cX1_feed 38 = .ok (.if_icmp .le 6, 3) := dk_164 0 6 (dk_at dksX1_feed_1 15 rfl rfl)
theorem dX1_feed_41 : decode cX1_feed 41 = .ok (.bipush (-4), 2) := dk_16 252 (dk_at dksX1_feed_1 18 rfl rfl)
theorem dX1_feed_43 : decode cX1_feed 43 = .ok (.ireturn, 1) := dk_172 (dk_at dksX1_feed_1 20 rfl rfl)
theorem dX1_feed_44 : decode cX1_feed 44 = .ok (.iconst 0, 1) := dk_3 (dk_at dksX1_feed_1 21 rfl rfl)
theorem dX1_feed_45 : decode cX1_feed 45 = .ok (.istore 4, 2) := dk_54 4 (dk_at dksX1_feed_1 22 rfl rfl)
theorem dX1_feed_47 : decode cX1_feed 47 = .ok (.iload 4, 2) := dk_21 4 (dk_at dksX1_feed_2 0 rfl rfl)
theorem dX1_feed_49 : decode cX1_feed 49 = .ok (.iload_n 3, 1) := dk_29 (dk_at dksX1_feed_2 2 rfl rfl)
theorem dX1_feed_50 : decode cX1_feed 50 = .ok (.if_icmp .ge 30, 3) := dk_162 0 30 (dk_at dksX1_feed_2 3 rfl rfl)
theorem dX1_feed_53 : decode cX1_feed 53 = .ok (.aload_n 0, 1) := dk_42 (dk_at dksX1_feed_2 6 rfl rfl)
theorem dX1_feed_54 : decode cX1_feed 54 = .ok (.getfield 7, 3) := dk_180 0 7 (dk_at dksX1_feed_2 7 rfl rfl)
theorem dX1_feed_57 : decode cX1_feed 57 = .ok (.aload_n 0, 1) := dk_42 (dk_at dksX1_feed_2 10 rfl rfl)
theorem dX1_feed_58 : decode cX1_feed 58 = .ok (.getfield 198, 3) := dk_180 0 198 (dk_at dksX1_feed_2 11 rfl rfl)
theorem dX1_feed_61 : decode cX1_feed 61 = .ok (.iload 4, 2) := dk_21 4 (dk_at dksX1_feed_2 14 rfl rfl)
theorem dX1_feed_63 : decode cX1_feed 63 = .ok (.iadd, 1) := dk_96 (dk_at dksX1_feed_2 16 rfl rfl)
theorem dX1_feed_64 : decode cX1_feed 64 = .ok (.lload_n 1, 1) := dk_31 (dk_at dksX1_feed_2 17 rfl rfl)
theorem dX1_feed_65 : decode cX1_feed 65 = .ok (.bipush 8, 2) := dk_16 8 (dk_at dksX1_feed_2 18 rfl rfl)
theorem dX1_feed_67 : decode cX1_feed 67 = .ok (.iload 4, 2) := dk_21 4 (dk_at dksX1_feed_2 20 rfl rfl)
theorem dX1_feed_69 : decode cX1_feed 69 = .ok (.imul, 1) := dk_104 (dk_at dksX1_feed_2 22 rfl rfl)
theorem dX1_feed_70 : decode cX1_feed 70 = .ok (.lushr, 1) := dk_125 (dk_at dksX1_feed_2 23 rfl rfl)
theorem dX1_feed_71 : decode cX1_feed 71 = .ok (.l2i, 1) := dk_136 (dk_at dksX1_feed_3 0 rfl rfl)
theorem dX1_feed_72 : decode cX1_feed 72 = .ok (.i2b, 1) := dk_145 (dk_at dksX1_feed_3 1 rfl rfl)
theorem dX1_feed_73 : decode cX1_feed 73 = .ok (.bastore, 1) := dk_84 (dk_at dksX1_feed_3 2 rfl rfl)
theorem dX1_feed_74 : decode cX1_feed 74 = .ok (.iinc 4 1, 3) := dk_132 4 1 (dk_at dksX1_feed_3 3 rfl rfl)
theorem dX1_feed_77 : decode cX1_feed 77 = .ok (.goto (-30), 3) := dk_167 255 226 (dk_at dksX1_feed_3 6 rfl rfl)
theorem dX1_feed_80 : decode cX1_feed 80 = .ok (.aload_n 0, 1) := dk_42 (dk_at dksX1_feed_3 9 rfl rfl)
theorem dX1_feed_81 : decode cX1_feed 81 = .ok (.dup, 1) := dk_89 (dk_at dksX1_feed_3 10 rfl rfl)
theorem dX1_feed_82 : decode cX1_feed 82 = .ok (.getfield 198, 3) := dk_180 0 198 (dk_at dksX1_feed_3 11 rfl rfl)
theorem dX1_feed_85 : decode cX1_feed 85 = .ok (.iload_n 3, 1) := dk_29 (dk_at dksX1_feed_3 14 rfl rfl)
theorem dX1_feed_86 : decode cX1_feed 86 = .ok (.iadd, 1) := dk_96 (dk_at dksX1_feed_3 15 rfl rfl)
theorem dX1_feed_87 : decode cX1_feed 87 = .ok (.putfield 198, 3) := dk_181 0 198 (dk_at dksX1_feed_3 16 rfl rfl)
theorem dX1_feed_90 : decode cX1_feed 90 = .ok (.aload_n 0, 1) := dk_42 (dk_at dksX1_feed_3 19 rfl rfl)
theorem dX1_feed_91 : decode cX1_feed 91 = .ok (.getfield 198, 3) := dk_180 0 198 (dk_at dksX1_feed_3 20 rfl rfl)
theorem dX1_feed_94 : decode cX1_feed 94 = .ok (.ireturn, 1) := dk_172 (dk_at dksX1_feed_3 23 rfl rfl)
abbrev cX1_cut : ByteArray := prog_20_method_5_code
def yX1_cut : MethodName := ⟨RX1, "cut", "()I"⟩
def dkwX1_cut_0 : List UInt8 := [42, 180, 0, 198, 60, 42, 3, 181, 0, 198, 27, 172]
abbrev dktX1_cut_0 : List UInt8 := dkwX1_cut_0 ++ []
theorem dksX1_cut_0 : cX1_cut.data.toList.drop 0 = dktX1_cut_0 := by decide +kernel
theorem dX1_cut_0 : decode cX1_cut 0 = .ok (.aload_n 0, 1) := dk_42 (dk_at dksX1_cut_0 0 rfl rfl)
theorem dX1_cut_1 : decode cX1_cut 1 = .ok (.getfield 198, 3) := dk_180 0 198 (dk_at dksX1_cut_0 1 rfl rfl)
theorem dX1_cut_4 : decode cX1_cut 4 = .ok (.istore_n 1, 1) := dk_60 (dk_at dksX1_cut_0 4 rfl rfl)
theorem dX1_cut_5 : decode cX1_cut 5 = .ok (.aload_n 0, 1) := dk_42 (dk_at dksX1_cut_0 5 rfl rfl)
theorem dX1_cut_6 : decode cX1_cut 6 = .ok (.iconst 0, 1) := dk_3 (dk_at dksX1_cut_0 6 rfl rfl)
theorem dX1_cut_7 : decode cX1_cut 7 = .ok (.putfield 198, 3) := dk_181 0 198 (dk_at dksX1_cut_0 7 rfl rfl)
theorem dX1_cut_10 : decode cX1_cut 10 = .ok (.iload_n 1, 1) := dk_27 (dk_at dksX1_cut_0 10 rfl rfl)
theorem dX1_cut_11 : decode cX1_cut 11 = .ok (.ireturn, 1) := dk_172 (dk_at dksX1_cut_0 11 rfl rfl)
abbrev cX1_read : ByteArray := prog_20_method_27_code
def yX1_read : MethodName := ⟨RX1, "read", "()I"⟩
def dkwX1_read_19 : List UInt8 := [180, 1, 50, 172]
abbrev dktX1_read_19 : List UInt8 := dkwX1_read_19 ++ []
def dkwX1_read_18 : List UInt8 := [181, 1, 69, 42, 3, 181, 1, 72, 42, 3, 181, 1, 75, 42, 3, 181, 0, 198, 42, 4, 181, 1, 78, 42]
abbrev dktX1_read_18 : List UInt8 := dkwX1_read_18 ++ dktX1_read_19
def dkwX1_read_17 : List UInt8 := [96, 47, 167, 0, 4, 9, 21, 5, 184, 1, 62, 79, 132, 2, 1, 167, 255, 37, 42, 182, 1, 66, 42, 3]
abbrev dktX1_read_17 : List UInt8 := dkwX1_read_17 ++ dktX1_read_18
def dkwX1_read_16 : List UInt8 := [42, 180, 0, 88, 28, 42, 180, 0, 36, 29, 46, 21, 4, 21, 4, 153, 0, 14, 42, 180, 0, 27, 29, 4]
abbrev dktX1_read_16 : List UInt8 := dkwX1_read_16 ++ dktX1_read_17
def dkwX1_read_15 : List UInt8 := [29, 4, 96, 42, 180, 0, 33, 29, 4, 96, 46, 96, 46, 4, 160, 0, 7, 4, 167, 0, 4, 3, 54, 5]
abbrev dktX1_read_15 : List UInt8 := dkwX1_read_15 ++ dktX1_read_16
def dkwX1_read_14 : List UInt8 := [160, 0, 7, 4, 167, 0, 4, 3, 54, 4, 42, 180, 0, 36, 29, 46, 4, 164, 0, 28, 42, 180, 0, 24]
abbrev dktX1_read_14 : List UInt8 := dkwX1_read_14 ++ dktX1_read_15
def dkwX1_read_13 : List UInt8 := [5, 160, 0, 105, 42, 180, 0, 36, 29, 46, 158, 0, 19, 42, 180, 0, 24, 29, 4, 96, 46, 4]
abbrev dktX1_read_13 : List UInt8 := dkwX1_read_13 ++ dktX1_read_14
def dkwX1_read_12 : List UInt8 := [180, 0, 33, 29, 46, 79, 42, 180, 0, 106, 28, 42, 180, 0, 36, 29, 46, 79, 42, 180, 0, 24, 29, 46]
abbrev dktX1_read_12 : List UInt8 := dkwX1_read_12 ++ dktX1_read_13
def dkwX1_read_11 : List UInt8 := [180, 0, 97, 28, 42, 180, 0, 30, 29, 46, 79, 42, 180, 0, 100, 28, 3, 79, 42, 180, 0, 103, 28, 42]
abbrev dktX1_read_11 : List UInt8 := dkwX1_read_11 ++ dktX1_read_12
def dkwX1_read_10 : List UInt8 := [80, 42, 180, 0, 94, 28, 42, 180, 0, 24, 29, 46, 4, 160, 0, 7, 3, 167, 0, 5, 16, 247, 79, 42]
abbrev dktX1_read_10 : List UInt8 := dkwX1_read_10 ++ dktX1_read_11
def dkwX1_read_9 : List UInt8 := [62, 42, 180, 0, 88, 28, 42, 180, 0, 24, 29, 46, 79, 42, 180, 0, 91, 28, 42, 180, 0, 27, 29, 47]
abbrev dktX1_read_9 : List UInt8 := dkwX1_read_9 ++ dktX1_read_10
def dkwX1_read_8 : List UInt8 := [42, 180, 1, 44, 100, 181, 1, 50, 3, 61, 28, 42, 180, 1, 50, 162, 0, 217, 42, 180, 1, 44, 28, 96]
abbrev dktX1_read_8 : List UInt8 := dkwX1_read_8 ++ dktX1_read_9
def dkwX1_read_7 : List UInt8 := [79, 42, 180, 0, 85, 28, 42, 180, 0, 39, 28, 46, 79, 132, 2, 1, 167, 255, 173, 42, 42, 180, 0, 237]
abbrev dktX1_read_7 : List UInt8 := dkwX1_read_7 ++ dktX1_read_8
def dkwX1_read_6 : List UInt8 := [79, 42, 180, 0, 79, 28, 42, 180, 0, 33, 28, 46, 79, 42, 180, 0, 82, 28, 42, 180, 0, 36, 28, 46]
abbrev dktX1_read_6 : List UInt8 := dkwX1_read_6 ++ dktX1_read_7
def dkwX1_read_5 : List UInt8 := [79, 42, 180, 0, 73, 28, 42, 180, 0, 27, 28, 47, 80, 42, 180, 0, 76, 28, 42, 180, 0, 30, 28, 46]
abbrev dktX1_read_5 : List UInt8 := dkwX1_read_5 ++ dktX1_read_6
def dkwX1_read_4 : List UInt8 := [167, 255, 197, 3, 61, 28, 42, 180, 0, 237, 162, 0, 81, 42, 180, 0, 70, 28, 42, 180, 0, 24, 28, 46]
abbrev dktX1_read_4 : List UInt8 := dkwX1_read_4 ++ dktX1_read_5
def dkwX1_read_3 : List UInt8 := [42, 180, 0, 49, 28, 46, 79, 42, 180, 0, 67, 28, 42, 180, 0, 52, 28, 46, 79, 132, 2, 1]
abbrev dktX1_read_3 : List UInt8 := dkwX1_read_3 ++ dktX1_read_4
def dkwX1_read_2 : List UInt8 := [42, 180, 0, 42, 28, 47, 80, 42, 180, 0, 61, 28, 42, 180, 0, 45, 28, 51, 84, 42, 180, 0, 64, 28]
abbrev dktX1_read_2 : List UInt8 := dkwX1_read_2 ++ dktX1_read_3
def dkwX1_read_1 : List UInt8 := [172, 42, 42, 180, 1, 11, 181, 1, 59, 3, 61, 28, 42, 180, 1, 11, 162, 0, 57, 42, 180, 0, 58, 28]
abbrev dktX1_read_1 : List UInt8 := dkwX1_read_1 ++ dktX1_read_2
def dkwX1_read_0 : List UInt8 := [42, 182, 1, 53, 60, 42, 42, 180, 0, 224, 181, 1, 56, 27, 154, 0, 11, 16, 156, 42, 180, 0, 230, 100]
abbrev dktX1_read_0 : List UInt8 := dkwX1_read_0 ++ dktX1_read_1
theorem dksX1_read_0 : cX1_read.data.toList.drop 0 = dktX1_read_0 := by decide +kernel
theorem dksX1_read_1 : cX1_read.data.toList.drop 24 = dktX1_read_1 := dk_seg dksX1_read_0 24 rfl rfl
theorem dksX1_read_2 : cX1_read.data.toList.drop 48 = dktX1_read_2 := dk_seg dksX1_read_1 24 rfl rfl
theorem dksX1_read_3 : cX1_read.data.toList.drop 72 = dktX1_read_3 := dk_seg dksX1_read_2 24 rfl rfl
theorem dksX1_read_4 : cX1_read.data.toList.drop 94 = dktX1_read_4 := dk_seg dksX1_read_3 22 rfl rfl
theorem dksX1_read_5 : cX1_read.data.toList.drop 118 = dktX1_read_5 := dk_seg dksX1_read_4 24 rfl rfl
theorem dksX1_read_6 : cX1_read.data.toList.drop 142 = dktX1_read_6 := dk_seg dksX1_read_5 24 rfl rfl
theorem dksX1_read_7 : cX1_read.data.toList.drop 166 = dktX1_read_7 := dk_seg dksX1_read_6 24 rfl rfl
theorem dksX1_read_8 : cX1_read.data.toList.drop 190 = dktX1_read_8 := dk_seg dksX1_read_7 24 rfl rfl
theorem dksX1_read_9 : cX1_read.data.toList.drop 214 = dktX1_read_9 := dk_seg dksX1_read_8 24 rfl rfl
theorem dksX1_read_10 : cX1_read.data.toList.drop 238 = dktX1_read_10 := dk_seg dksX1_read_9 24 rfl rfl
theorem dksX1_read_11 : cX1_read.data.toList.drop 262 = dktX1_read_11 := dk_seg dksX1_read_10 24 rfl rfl
theorem dksX1_read_12 : cX1_read.data.toList.drop 286 = dktX1_read_12 := dk_seg dksX1_read_11 24 rfl rfl
theorem dksX1_read_13 : cX1_read.data.toList.drop 310 = dktX1_read_13 := dk_seg dksX1_read_12 24 rfl rfl
theorem dksX1_read_14 : cX1_read.data.toList.drop 332 = dktX1_read_14 := dk_seg dksX1_read_13 22 rfl rfl
theorem dksX1_read_15 : cX1_read.data.toList.drop 356 = dktX1_read_15 := dk_seg dksX1_read_14 24 rfl rfl
theorem dksX1_read_16 : cX1_read.data.toList.drop 380 = dktX1_read_16 := dk_seg dksX1_read_15 24 rfl rfl
theorem dksX1_read_17 : cX1_read.data.toList.drop 404 = dktX1_read_17 := dk_seg dksX1_read_16 24 rfl rfl
theorem dksX1_read_18 : cX1_read.data.toList.drop 428 = dktX1_read_18 := dk_seg dksX1_read_17 24 rfl rfl
theorem dksX1_read_19 : cX1_read.data.toList.drop 452 = dktX1_read_19 := dk_seg dksX1_read_18 24 rfl rfl
theorem dX1_read_0 : decode cX1_read 0 = .ok (.aload_n 0, 1) := dk_42 (dk_at dksX1_read_0 0 rfl rfl)
theorem dX1_read_1 : decode cX1_read 1 = .ok (.invokevirtual 309, 3) := dk_182 1 53 (dk_at dksX1_read_0 1 rfl rfl)
theorem dX1_read_4 : decode cX1_read 4 = .ok (.istore_n 1, 1) := dk_60 (dk_at dksX1_read_0 4 rfl rfl)
theorem dX1_read_5 : decode cX1_read 5 = .ok (.aload_n 0, 1) := dk_42 (dk_at dksX1_read_0 5 rfl rfl)
theorem dX1_read_6 : decode cX1_read 6 = .ok (.aload_n 0, 1) := dk_42 (dk_at dksX1_read_0 6 rfl rfl)
theorem dX1_read_7 : decode cX1_read 7 = .ok (.getfield 224, 3) := dk_180 0 224 (dk_at dksX1_read_0 7 rfl rfl)
theorem dX1_read_10 : decode cX1_read 10 = .ok (.putfield 312, 3) := dk_181 1 56 (dk_at dksX1_read_0 10 rfl rfl)
theorem dX1_read_13 : decode cX1_read 13 = .ok (.iload_n 1, 1) := dk_27 (dk_at dksX1_read_0 13 rfl rfl)
theorem dX1_read_14 : decode cX1_read 14 = .ok (.ifCond .ne 11, 3) := dk_154 0 11 (dk_at dksX1_read_0 14 rfl rfl)
theorem dX1_read_17 : decode cX1_read 17 = .ok (.bipush (-100), 2) := dk_16 156 (dk_at dksX1_read_0 17 rfl rfl)
theorem dX1_read_19 : decode cX1_read 19 = .ok (.aload_n 0, 1) := dk_42 (dk_at dksX1_read_0 19 rfl rfl)
theorem dX1_read_20 : decode cX1_read 20 = .ok (.getfield 230, 3) := dk_180 0 230 (dk_at dksX1_read_0 20 rfl rfl)
theorem dX1_read_23 : decode cX1_read 23 = .ok (.isub, 1) := dk_100 (dk_at dksX1_read_0 23 rfl rfl)
theorem dX1_read_24 : decode cX1_read 24 = .ok (.ireturn, 1) := dk_172 (dk_at dksX1_read_1 0 rfl rfl)
theorem dX1_read_25 : decode cX1_read 25 = .ok (.aload_n 0, 1) := dk_42 (dk_at dksX1_read_1 1 rfl rfl)
theorem dX1_read_26 : decode cX1_read 26 = .ok (.aload_n 0, 1) := dk_42 (dk_at dksX1_read_1 2 rfl rfl)
theorem dX1_read_27 : decode cX1_read 27 = .ok (.getfield 267, 3) := dk_180 1 11 (dk_at dksX1_read_1 3 rfl rfl)
theorem dX1_read_30 : decode cX1_read 30 = .ok (.putfield 315, 3) := dk_181 1 59 (dk_at dksX1_read_1 6 rfl rfl)
theorem dX1_read_33 : decode cX1_read 33 = .ok (.iconst 0, 1) := dk_3 (dk_at dksX1_read_1 9 rfl rfl)
theorem dX1_read_34 : decode cX1_read 34 = .ok (.istore_n 2, 1) := dk_61 (dk_at dksX1_read_1 10 rfl rfl)
theorem dX1_read_35 : decode cX1_read 35 = .ok (.iload_n 2, 1) := dk_28 (dk_at dksX1_read_1 11 rfl rfl)
theorem dX1_read_36 : decode cX1_read 36 = .ok (.aload_n 0, 1) := dk_42 (dk_at dksX1_read_1 12 rfl rfl)
theorem dX1_read_37 : decode cX1_read 37 = .ok (.getfield 267, 3) := dk_180 1 11 (dk_at dksX1_read_1 13 rfl rfl)
theorem dX1_read_40 : decode cX1_read 40 = .ok (.if_icmp .ge 57, 3) := dk_162 0 57 (dk_at dksX1_read_1 16 rfl rfl)
theorem dX1_read_43 : decode cX1_read 43 = .ok (.aload_n 0, 1) := dk_42 (dk_at dksX1_read_1 19 rfl rfl)
theorem dX1_read_44 : decode cX1_read 44 = .ok (.getfield 58, 3) := dk_180 0 58 (dk_at dksX1_read_1 20 rfl rfl)
theorem dX1_read_47 : decode cX1_read 47 = .ok (.iload_n 2, 1) := dk_28 (dk_at dksX1_read_1 23 rfl rfl)
theorem dX1_read_48 : decode cX1_read 48 = .ok (.aload_n 0, 1) := dk_42 (dk_at dksX1_read_2 0 rfl rfl)
theorem dX1_read_49 : decode cX1_read 49 = .ok (.getfield 42, 3) := dk_180 0 42 (dk_at dksX1_read_2 1 rfl rfl)
theorem dX1_read_52 : decode cX1_read 52 = .ok (.iload_n 2, 1) := dk_28 (dk_at dksX1_read_2 4 rfl rfl)
theorem dX1_read_53 : decode cX1_read 53 = .ok (.laload, 1) := dk_47 (dk_at dksX1_read_2 5 rfl rfl)
theorem dX1_read_54 : decode cX1_read 54 = .ok (.lastore, 1) := dk_80 (dk_at dksX1_read_2 6 rfl rfl)
theorem dX1_read_55 : decode cX1_read 55 = .ok (.aload_n 0, 1) := dk_42 (dk_at dksX1_read_2 7 rfl rfl)
theorem dX1_read_56 : decode cX1_read 56 = .ok (.getfield 61, 3) := dk_180 0 61 (dk_at dksX1_read_2 8 rfl rfl)
theorem dX1_read_59 : decode cX1_read 59 = .ok (.iload_n 2, 1) := dk_28 (dk_at dksX1_read_2 11 rfl rfl)
theorem dX1_read_60 : decode cX1_read 60 = .ok (.aload_n 0, 1) := dk_42 (dk_at dksX1_read_2 12 rfl rfl)
theorem dX1_read_61 : decode cX1_read 61 = .ok (.getfield 45, 3) := dk_180 0 45 (dk_at dksX1_read_2 13 rfl rfl)
theorem dX1_read_64 : decode cX1_read 64 = .ok (.iload_n 2, 1) := dk_28 (dk_at dksX1_read_2 16 rfl rfl)
theorem dX1_read_65 : decode cX1_read 65 = .ok (.baload, 1) := dk_51 (dk_at dksX1_read_2 17 rfl rfl)
theorem dX1_read_66 : decode cX1_read 66 = .ok (.bastore, 1) := dk_84 (dk_at dksX1_read_2 18 rfl rfl)
theorem dX1_read_67 : decode cX1_read 67 = .ok (.aload_n 0, 1) := dk_42 (dk_at dksX1_read_2 19 rfl rfl)
theorem dX1_read_68 : decode cX1_read 68 = .ok (.getfield 64, 3) := dk_180 0 64 (dk_at dksX1_read_2 20 rfl rfl)
theorem dX1_read_71 : decode cX1_read 71 = .ok (.iload_n 2, 1) := dk_28 (dk_at dksX1_read_2 23 rfl rfl)
theorem dX1_read_72 : decode cX1_read 72 = .ok (.aload_n 0, 1) := dk_42 (dk_at dksX1_read_3 0 rfl rfl)
theorem dX1_read_73 : decode cX1_read 73 = .ok (.getfield 49, 3) := dk_180 0 49 (dk_at dksX1_read_3 1 rfl rfl)
theorem dX1_read_76 : decode cX1_read 76 = .ok (.iload_n 2, 1) := dk_28 (dk_at dksX1_read_3 4 rfl rfl)
theorem dX1_read_77 : decode cX1_read 77 = .ok (.iaload, 1) := dk_46 (dk_at dksX1_read_3 5 rfl rfl)
theorem dX1_read_78 : decode cX1_read 78 = .ok (.iastore, 1) := dk_79 (dk_at dksX1_read_3 6 rfl rfl)
theorem dX1_read_79 : decode cX1_read 79 = .ok (.aload_n 0, 1) := dk_42 (dk_at dksX1_read_3 7 rfl rfl)
theorem dX1_read_80 : decode cX1_read 80 = .ok (.getfield 67, 3) := dk_180 0 67 (dk_at dksX1_read_3 8 rfl rfl)
theorem dX1_read_83 : decode cX1_read 83 = .ok (.iload_n 2, 1) := dk_28 (dk_at dksX1_read_3 11 rfl rfl)
theorem dX1_read_84 : decode cX1_read 84 = .ok (.aload_n 0, 1) := dk_42 (dk_at dksX1_read_3 12 rfl rfl)
theorem dX1_read_85 : decode cX1_read 85 = .ok (.getfield 52, 3) := dk_180 0 52 (dk_at dksX1_read_3 13 rfl rfl)
theorem dX1_read_88 : decode cX1_read 88 = .ok (.iload_n 2, 1) := dk_28 (dk_at dksX1_read_3 16 rfl rfl)
theorem dX1_read_89 : decode cX1_read 89 = .ok (.iaload, 1) := dk_46 (dk_at dksX1_read_3 17 rfl rfl)
theorem dX1_read_90 : decode cX1_read 90 = .ok (.iastore, 1) := dk_79 (dk_at dksX1_read_3 18 rfl rfl)
theorem dX1_read_91 : decode cX1_read 91 = .ok (.iinc 2 1, 3) := dk_132 2 1 (dk_at dksX1_read_3 19 rfl rfl)
theorem dX1_read_94 : decode cX1_read 94 = .ok (.goto (-59), 3) := dk_167 255 197 (dk_at dksX1_read_4 0 rfl rfl)
theorem dX1_read_97 : decode cX1_read 97 = .ok (.iconst 0, 1) := dk_3 (dk_at dksX1_read_4 3 rfl rfl)
theorem dX1_read_98 : decode cX1_read 98 = .ok (.istore_n 2, 1) := dk_61 (dk_at dksX1_read_4 4 rfl rfl)
theorem dX1_read_99 : decode cX1_read 99 = .ok (.iload_n 2, 1) := dk_28 (dk_at dksX1_read_4 5 rfl rfl)
theorem dX1_read_100 : decode cX1_read 100 = .ok (.aload_n 0, 1) := dk_42 (dk_at dksX1_read_4 6 rfl rfl)
theorem dX1_read_101 : decode cX1_read 101 = .ok (.getfield 237, 3) := dk_180 0 237 (dk_at dksX1_read_4 7 rfl rfl)
theorem dX1_read_104 : decode cX1_read 104 = .ok (.if_icmp .ge 81, 3) := dk_162 0 81 (dk_at dksX1_read_4 10 rfl rfl)
theorem dX1_read_107 : decode cX1_read 107 = .ok (.aload_n 0, 1) := dk_42 (dk_at dksX1_read_4 13 rfl rfl)
theorem dX1_read_108 : decode cX1_read 108 = .ok (.getfield 70, 3) := dk_180 0 70 (dk_at dksX1_read_4 14 rfl rfl)
theorem dX1_read_111 : decode cX1_read 111 = .ok (.iload_n 2, 1) := dk_28 (dk_at dksX1_read_4 17 rfl rfl)
theorem dX1_read_112 : decode cX1_read 112 = .ok (.aload_n 0, 1) := dk_42 (dk_at dksX1_read_4 18 rfl rfl)
theorem dX1_read_113 : decode cX1_read 113 = .ok (.getfield 24, 3) := dk_180 0 24 (dk_at dksX1_read_4 19 rfl rfl)
theorem dX1_read_116 : decode cX1_read 116 = .ok (.iload_n 2, 1) := dk_28 (dk_at dksX1_read_4 22 rfl rfl)
theorem dX1_read_117 : decode cX1_read 117 = .ok (.iaload, 1) := dk_46 (dk_at dksX1_read_4 23 rfl rfl)
theorem dX1_read_118 : decode cX1_read 118 = .ok (.iastore, 1) := dk_79 (dk_at dksX1_read_5 0 rfl rfl)
theorem dX1_read_119 : decode cX1_read 119 = .ok (.aload_n 0, 1) := dk_42 (dk_at dksX1_read_5 1 rfl rfl)
theorem dX1_read_120 : decode cX1_read 120 = .ok (.getfield 73, 3) := dk_180 0 73 (dk_at dksX1_read_5 2 rfl rfl)
theorem dX1_read_123 : decode cX1_read 123 = .ok (.iload_n 2, 1) := dk_28 (dk_at dksX1_read_5 5 rfl rfl)
theorem dX1_read_124 : decode cX1_read 124 = .ok (.aload_n 0, 1) := dk_42 (dk_at dksX1_read_5 6 rfl rfl)
theorem dX1_read_125 : decode cX1_read 125 = .ok (.getfield 27, 3) := dk_180 0 27 (dk_at dksX1_read_5 7 rfl rfl)
theorem dX1_read_128 : decode cX1_read 128 = .ok (.iload_n 2, 1) := dk_28 (dk_at dksX1_read_5 10 rfl rfl)
theorem dX1_read_129 : decode cX1_read 129 = .ok (.laload, 1) := dk_47 (dk_at dksX1_read_5 11 rfl rfl)
theorem dX1_read_130 : decode cX1_read 130 = .ok (.lastore, 1) := dk_80 (dk_at dksX1_read_5 12 rfl rfl)
theorem dX1_read_131 : decode cX1_read 131 = .ok (.aload_n 0, 1) := dk_42 (dk_at dksX1_read_5 13 rfl rfl)
theorem dX1_read_132 : decode cX1_read 132 = .ok (.getfield 76, 3) := dk_180 0 76 (dk_at dksX1_read_5 14 rfl rfl)
theorem dX1_read_135 : decode cX1_read 135 = .ok (.iload_n 2, 1) := dk_28 (dk_at dksX1_read_5 17 rfl rfl)
theorem dX1_read_136 : decode cX1_read 136 = .ok (.aload_n 0, 1) := dk_42 (dk_at dksX1_read_5 18 rfl rfl)
theorem dX1_read_137 : decode cX1_read 137 = .ok (.getfield 30, 3) := dk_180 0 30 (dk_at dksX1_read_5 19 rfl rfl)
theorem dX1_read_140 : decode cX1_read 140 = .ok (.iload_n 2, 1) := dk_28 (dk_at dksX1_read_5 22 rfl rfl)
theorem dX1_read_141 : decode cX1_read 141 = .ok (.iaload, 1) := dk_46 (dk_at dksX1_read_5 23 rfl rfl)
theorem dX1_read_142 : decode cX1_read 142 = .ok (.iastore, 1) := dk_79 (dk_at dksX1_read_6 0 rfl rfl)
theorem dX1_read_143 : decode cX1_read 143 = .ok (.aload_n 0, 1) := dk_42 (dk_at dksX1_read_6 1 rfl rfl)
theorem dX1_read_144 : decode cX1_read 144 = .ok (.getfield 79, 3) := dk_180 0 79 (dk_at dksX1_read_6 2 rfl rfl)
theorem dX1_read_147 : decode cX1_read 147 = .ok (.iload_n 2, 1) := dk_28 (dk_at dksX1_read_6 5 rfl rfl)
theorem dX1_read_148 : decode cX1_read 148 = .ok (.aload_n 0, 1) := dk_42 (dk_at dksX1_read_6 6 rfl rfl)
theorem dX1_read_149 : decode cX1_read 149 = .ok (.getfield 33, 3) := dk_180 0 33 (dk_at dksX1_read_6 7 rfl rfl)
theorem dX1_read_152 : decode cX1_read 152 = .ok (.iload_n 2, 1) := dk_28 (dk_at dksX1_read_6 10 rfl rfl)
theorem dX1_read_153 : decode cX1_read 153 = .ok (.iaload, 1) := dk_46 (dk_at dksX1_read_6 11 rfl rfl)
theorem dX1_read_154 : decode cX1_read 154 = .ok (.iastore, 1) := dk_79 (dk_at dksX1_read_6 12 rfl rfl)
theorem dX1_read_155 : decode cX1_read 155 = .ok (.aload_n 0, 1) := dk_42 (dk_at dksX1_read_6 13 rfl rfl)
theorem dX1_read_156 : decode cX1_read 156 = .ok (.getfield 82, 3) := dk_180 0 82 (dk_at dksX1_read_6 14 rfl rfl)
theorem dX1_read_159 : decode cX1_read 159 = .ok (.iload_n 2, 1) := dk_28 (dk_at dksX1_read_6 17 rfl rfl)
theorem dX1_read_160 : decode cX1_read 160 = .ok (.aload_n 0, 1) := dk_42 (dk_at dksX1_read_6 18 rfl rfl)
theorem dX1_read_161 : decode cX1_read 161 = .ok (.getfield 36, 3) := dk_180 0 36 (dk_at dksX1_read_6 19 rfl rfl)
theorem dX1_read_164 : decode cX1_read 164 = .ok (.iload_n 2, 1) := dk_28 (dk_at dksX1_read_6 22 rfl rfl)
theorem dX1_read_165 : decode cX1_read 165 = .ok (.iaload, 1) := dk_46 (dk_at dksX1_read_6 23 rfl rfl)
theorem dX1_read_166 : decode cX1_read 166 = .ok (.iastore, 1) := dk_79 (dk_at dksX1_read_7 0 rfl rfl)
theorem dX1_read_167 : decode cX1_read 167 = .ok (.aload_n 0, 1) := dk_42 (dk_at dksX1_read_7 1 rfl rfl)
theorem dX1_read_168 : decode cX1_read 168 = .ok (.getfield 85, 3) := dk_180 0 85 (dk_at dksX1_read_7 2 rfl rfl)
theorem dX1_read_171 : decode cX1_read 171 = .ok (.iload_n 2, 1) := dk_28 (dk_at dksX1_read_7 5 rfl rfl)
theorem dX1_read_172 : decode cX1_read 172 = .ok (.aload_n 0, 1) := dk_42 (dk_at dksX1_read_7 6 rfl rfl)
theorem dX1_read_173 : decode cX1_read 173 = .ok (.getfield 39, 3) := dk_180 0 39 (dk_at dksX1_read_7 7 rfl rfl)
theorem dX1_read_176 : decode cX1_read 176 = .ok (.iload_n 2, 1) := dk_28 (dk_at dksX1_read_7 10 rfl rfl)
theorem dX1_read_177 : decode cX1_read 177 = .ok (.iaload, 1) := dk_46 (dk_at dksX1_read_7 11 rfl rfl)
theorem dX1_read_178 : decode cX1_read 178 = .ok (.iastore, 1) := dk_79 (dk_at dksX1_read_7 12 rfl rfl)
theorem dX1_read_179 : decode cX1_read 179 = .ok (.iinc 2 1, 3) := dk_132 2 1 (dk_at dksX1_read_7 13 rfl rfl)
theorem dX1_read_182 : decode cX1_read 182 = .ok (.goto (-83), 3) := dk_167 255 173 (dk_at dksX1_read_7 16 rfl rfl)
theorem dX1_read_185 : decode cX1_read 185 = .ok (.aload_n 0, 1) := dk_42 (dk_at dksX1_read_7 19 rfl rfl)
theorem dX1_read_186 : decode cX1_read 186 = .ok (.aload_n 0, 1) := dk_42 (dk_at dksX1_read_7 20 rfl rfl)
theorem dX1_read_187 : decode cX1_read 187 = .ok (.getfield 237, 3) := dk_180 0 237 (dk_at dksX1_read_7 21 rfl rfl)
theorem dX1_read_190 : decode cX1_read 190 = .ok (.aload_n 0, 1) := dk_42 (dk_at dksX1_read_8 0 rfl rfl)
theorem dX1_read_191 : decode cX1_read 191 = .ok (.getfield 300, 3) := dk_180 1 44 (dk_at dksX1_read_8 1 rfl rfl)
theorem dX1_read_194 : decode cX1_read 194 = .ok (.isub, 1) := dk_100 (dk_at dksX1_read_8 4 rfl rfl)
theorem dX1_read_195 : decode cX1_read 195 = .ok (.putfield 306, 3) := dk_181 1 50 (dk_at dksX1_read_8 5 rfl rfl)
theorem dX1_read_198 : decode cX1_read 198 = .ok (.iconst 0, 1) := dk_3 (dk_at dksX1_read_8 8 rfl rfl)
theorem dX1_read_199 : decode cX1_read 199 = .ok (.istore_n 2, 1) := dk_61 (dk_at dksX1_read_8 9 rfl rfl)
theorem dX1_read_200 : decode cX1_read 200 = .ok (.iload_n 2, 1) := dk_28 (dk_at dksX1_read_8 10 rfl rfl)
theorem dX1_read_201 : decode cX1_read 201 = .ok (.aload_n 0, 1) := dk_42 (dk_at dksX1_read_8 11 rfl rfl)
theorem dX1_read_202 : decode cX1_read 202 = .ok (.getfield 306, 3) := dk_180 1 50 (dk_at dksX1_read_8 12 rfl rfl)
theorem dX1_read_205 : decode cX1_read 205 = .ok (.if_icmp .ge 217, 3) := dk_162 0 217 (dk_at dksX1_read_8 15 rfl rfl)
theorem dX1_read_208 : decode cX1_read 208 = .ok (.aload_n 0, 1) := dk_42 (dk_at dksX1_read_8 18 rfl rfl)
theorem dX1_read_209 : decode cX1_read 209 = .ok (.getfield 300, 3) := dk_180 1 44 (dk_at dksX1_read_8 19 rfl rfl)
theorem dX1_read_212 : decode cX1_read 212 = .ok (.iload_n 2, 1) := dk_28 (dk_at dksX1_read_8 22 rfl rfl)
theorem dX1_read_213 : decode cX1_read 213 = .ok (.iadd, 1) := dk_96 (dk_at dksX1_read_8 23 rfl rfl)
theorem dX1_read_214 : decode cX1_read 214 = .ok (.istore_n 3, 1) := dk_62 (dk_at dksX1_read_9 0 rfl rfl)
theorem dX1_read_215 : decode cX1_read 215 = .ok (.aload_n 0, 1) := dk_42 (dk_at dksX1_read_9 1 rfl rfl)
theorem dX1_read_216 : decode cX1_read 216 = .ok (.getfield 88, 3) := dk_180 0 88 (dk_at dksX1_read_9 2 rfl rfl)
theorem dX1_read_219 : decode cX1_read 219 = .ok (.iload_n 2, 1) := dk_28 (dk_at dksX1_read_9 5 rfl rfl)
theorem dX1_read_220 : decode cX1_read 220 = .ok (.aload_n 0, 1) := dk_42 (dk_at dksX1_read_9 6 rfl rfl)
theorem dX1_read_221 : decode cX1_read 221 = .ok (.getfield 24, 3) := dk_180 0 24 (dk_at dksX1_read_9 7 rfl rfl)
theorem dX1_read_224 : decode cX1_read 224 = .ok (.iload_n 3, 1) := dk_29 (dk_at dksX1_read_9 10 rfl rfl)
theorem dX1_read_225 : decode cX1_read 225 = .ok (.iaload, 1) := dk_46 (dk_at dksX1_read_9 11 rfl rfl)
theorem dX1_read_226 : decode cX1_read 226 = .ok (.iastore, 1) := dk_79 (dk_at dksX1_read_9 12 rfl rfl)
theorem dX1_read_227 : decode cX1_read 227 = .ok (.aload_n 0, 1) := dk_42 (dk_at dksX1_read_9 13 rfl rfl)
theorem dX1_read_228 : decode cX1_read 228 = .ok (.getfield 91, 3) := dk_180 0 91 (dk_at dksX1_read_9 14 rfl rfl)
theorem dX1_read_231 : decode cX1_read 231 = .ok (.iload_n 2, 1) := dk_28 (dk_at dksX1_read_9 17 rfl rfl)
theorem dX1_read_232 : decode cX1_read 232 = .ok (.aload_n 0, 1) := dk_42 (dk_at dksX1_read_9 18 rfl rfl)
theorem dX1_read_233 : decode cX1_read 233 = .ok (.getfield 27, 3) := dk_180 0 27 (dk_at dksX1_read_9 19 rfl rfl)
theorem dX1_read_236 : decode cX1_read 236 = .ok (.iload_n 3, 1) := dk_29 (dk_at dksX1_read_9 22 rfl rfl)
theorem dX1_read_237 : decode cX1_read 237 = .ok (.laload, 1) := dk_47 (dk_at dksX1_read_9 23 rfl rfl)
theorem dX1_read_238 : decode cX1_read 238 = .ok (.lastore, 1) := dk_80 (dk_at dksX1_read_10 0 rfl rfl)
theorem dX1_read_239 : decode cX1_read 239 = .ok (.aload_n 0, 1) := dk_42 (dk_at dksX1_read_10 1 rfl rfl)
theorem dX1_read_240 : decode cX1_read 240 = .ok (.getfield 94, 3) := dk_180 0 94 (dk_at dksX1_read_10 2 rfl rfl)
theorem dX1_read_243 : decode cX1_read 243 = .ok (.iload_n 2, 1) := dk_28 (dk_at dksX1_read_10 5 rfl rfl)
theorem dX1_read_244 : decode cX1_read 244 = .ok (.aload_n 0, 1) := dk_42 (dk_at dksX1_read_10 6 rfl rfl)
theorem dX1_read_245 : decode cX1_read 245 = .ok (.getfield 24, 3) := dk_180 0 24 (dk_at dksX1_read_10 7 rfl rfl)
theorem dX1_read_248 : decode cX1_read 248 = .ok (.iload_n 3, 1) := dk_29 (dk_at dksX1_read_10 10 rfl rfl)
theorem dX1_read_249 : decode cX1_read 249 = .ok (.iaload, 1) := dk_46 (dk_at dksX1_read_10 11 rfl rfl)
theorem dX1_read_250 : decode cX1_read 250 = .ok (.iconst 1, 1) := dk_4 (dk_at dksX1_read_10 12 rfl rfl)
theorem dX1_read_251 : decode cX1_read 251 = .ok (.if_icmp .ne 7, 3) := dk_160 0 7 (dk_at dksX1_read_10 13 rfl rfl)
theorem dX1_read_254 : decode cX1_read 254 = .ok (.iconst 0, 1) := dk_3 (dk_at dksX1_read_10 16 rfl rfl)
theorem dX1_read_255 : decode cX1_read 255 = .ok (.goto 5, 3) := dk_167 0 5 (dk_at dksX1_read_10 17 rfl rfl)
theorem dX1_read_258 : decode cX1_read 258 = .ok (.bipush (-9), 2) := dk_16 247 (dk_at dksX1_read_10 20 rfl rfl)
theorem dX1_read_260 : decode cX1_read 260 = .ok (.iastore, 1) := dk_79 (dk_at dksX1_read_10 22 rfl rfl)
theorem dX1_read_261 : decode cX1_read 261 = .ok (.aload_n 0, 1) := dk_42 (dk_at dksX1_read_10 23 rfl rfl)
theorem dX1_read_262 : decode cX1_read 262 = .ok (.getfield 97, 3) := dk_180 0 97 (dk_at dksX1_read_11 0 rfl rfl)
theorem dX1_read_265 : decode cX1_read 265 = .ok (.iload_n 2, 1) := dk_28 (dk_at dksX1_read_11 3 rfl rfl)
theorem dX1_read_266 : decode cX1_read 266 = .ok (.aload_n 0, 1) := dk_42 (dk_at dksX1_read_11 4 rfl rfl)
theorem dX1_read_267 : decode cX1_read 267 = .ok (.getfield 30, 3) := dk_180 0 30 (dk_at dksX1_read_11 5 rfl rfl)
theorem dX1_read_270 : decode cX1_read 270 = .ok (.iload_n 3, 1) := dk_29 (dk_at dksX1_read_11 8 rfl rfl)
theorem dX1_read_271 : decode cX1_read 271 = .ok (.iaload, 1) := dk_46 (dk_at dksX1_read_11 9 rfl rfl)
theorem dX1_read_272 : decode cX1_read 272 = .ok (.iastore, 1) := dk_79 (dk_at dksX1_read_11 10 rfl rfl)
theorem dX1_read_273 : decode cX1_read 273 = .ok (.aload_n 0, 1) := dk_42 (dk_at dksX1_read_11 11 rfl rfl)
theorem dX1_read_274 : decode cX1_read 274 = .ok (.getfield 100, 3) := dk_180 0 100 (dk_at dksX1_read_11 12 rfl rfl)
theorem dX1_read_277 : decode cX1_read 277 = .ok (.iload_n 2, 1) := dk_28 (dk_at dksX1_read_11 15 rfl rfl)
theorem dX1_read_278 : decode cX1_read 278 = .ok (.iconst 0, 1) := dk_3 (dk_at dksX1_read_11 16 rfl rfl)
theorem dX1_read_279 : decode cX1_read 279 = .ok (.iastore, 1) := dk_79 (dk_at dksX1_read_11 17 rfl rfl)
theorem dX1_read_280 : decode cX1_read 280 = .ok (.aload_n 0, 1) := dk_42 (dk_at dksX1_read_11 18 rfl rfl)
theorem dX1_read_281 : decode cX1_read 281 = .ok (.getfield 103, 3) := dk_180 0 103 (dk_at dksX1_read_11 19 rfl rfl)
theorem dX1_read_284 : decode cX1_read 284 = .ok (.iload_n 2, 1) := dk_28 (dk_at dksX1_read_11 22 rfl rfl)
theorem dX1_read_285 : decode cX1_read 285 = .ok (.aload_n 0, 1) := dk_42 (dk_at dksX1_read_11 23 rfl rfl)
theorem dX1_read_286 : decode cX1_read 286 = .ok (.getfield 33, 3) := dk_180 0 33 (dk_at dksX1_read_12 0 rfl rfl)
theorem dX1_read_289 : decode cX1_read 289 = .ok (.iload_n 3, 1) := dk_29 (dk_at dksX1_read_12 3 rfl rfl)
theorem dX1_read_290 : decode cX1_read 290 = .ok (.iaload, 1) := dk_46 (dk_at dksX1_read_12 4 rfl rfl)
theorem dX1_read_291 : decode cX1_read 291 = .ok (.iastore, 1) := dk_79 (dk_at dksX1_read_12 5 rfl rfl)
theorem dX1_read_292 : decode cX1_read 292 = .ok (.aload_n 0, 1) := dk_42 (dk_at dksX1_read_12 6 rfl rfl)
theorem dX1_read_293 : decode cX1_read 293 = .ok (.getfield 106, 3) := dk_180 0 106 (dk_at dksX1_read_12 7 rfl rfl)
theorem dX1_read_296 : decode cX1_read 296 = .ok (.iload_n 2, 1) := dk_28 (dk_at dksX1_read_12 10 rfl rfl)
theorem dX1_read_297 : decode cX1_read 297 = .ok (.aload_n 0, 1) := dk_42 (dk_at dksX1_read_12 11 rfl rfl)
theorem dX1_read_298 : decode cX1_read 298 = .ok (.getfield 36, 3) := dk_180 0 36 (dk_at dksX1_read_12 12 rfl rfl)
theorem dX1_read_301 : decode cX1_read 301 = .ok (.iload_n 3, 1) := dk_29 (dk_at dksX1_read_12 15 rfl rfl)
theorem dX1_read_302 : decode cX1_read 302 = .ok (.iaload, 1) := dk_46 (dk_at dksX1_read_12 16 rfl rfl)
theorem dX1_read_303 : decode cX1_read 303 = .ok (.iastore, 1) := dk_79 (dk_at dksX1_read_12 17 rfl rfl)
theorem dX1_read_304 : decode cX1_read 304 = .ok (.aload_n 0, 1) := dk_42 (dk_at dksX1_read_12 18 rfl rfl)
theorem dX1_read_305 : decode cX1_read 305 = .ok (.getfield 24, 3) := dk_180 0 24 (dk_at dksX1_read_12 19 rfl rfl)
theorem dX1_read_308 : decode cX1_read 308 = .ok (.iload_n 3, 1) := dk_29 (dk_at dksX1_read_12 22 rfl rfl)
theorem dX1_read_309 : decode cX1_read 309 = .ok (.iaload, 1) := dk_46 (dk_at dksX1_read_12 23 rfl rfl)
theorem dX1_read_310 : decode cX1_read 310 = .ok (.iconst 2, 1) := dk_5 (dk_at dksX1_read_13 0 rfl rfl)
theorem dX1_read_311 : decode cX1_read 311 = .ok (.if_icmp .ne 105, 3) := dk_160 0 105 (dk_at dksX1_read_13 1 rfl rfl)
theorem dX1_read_314 : decode cX1_read 314 = .ok (.aload_n 0, 1) := dk_42 (dk_at dksX1_read_13 4 rfl rfl)
theorem dX1_read_315 : decode cX1_read 315 = .ok (.getfield 36, 3) := dk_180 0 36 (dk_at dksX1_read_13 5 rfl rfl)
theorem dX1_read_318 : decode cX1_read 318 = .ok (.iload_n 3, 1) := dk_29 (dk_at dksX1_read_13 8 rfl rfl)
theorem dX1_read_319 : decode cX1_read 319 = .ok (.iaload, 1) := dk_46 (dk_at dksX1_read_13 9 rfl rfl)
theorem dX1_read_320 : decode cX1_read 320 = .ok (.ifCond .le 19, 3) := dk_158 0 19 (dk_at dksX1_read_13 10 rfl rfl)
theorem dX1_read_323 : decode cX1_read 323 = .ok (.aload_n 0, 1) := dk_42 (dk_at dksX1_read_13 13 rfl rfl)
theorem dX1_read_324 : decode cX1_read 324 = .ok (.getfield 24, 3) := dk_180 0 24 (dk_at dksX1_read_13 14 rfl rfl)
theorem dX1_read_327 : decode cX1_read 327 = .ok (.iload_n 3, 1) := dk_29 (dk_at dksX1_read_13 17 rfl rfl)
theorem dX1_read_328 : decode cX1_read 328 = .ok (.iconst 1, 1) := dk_4 (dk_at dksX1_read_13 18 rfl rfl)
theorem dX1_read_329 : decode cX1_read 329 = .ok (.iadd, 1) := dk_96 (dk_at dksX1_read_13 19 rfl rfl)
theorem dX1_read_330 : decode cX1_read 330 = .ok (.iaload, 1) := dk_46 (dk_at dksX1_read_13 20 rfl rfl)
theorem dX1_read_331 : decode cX1_read 331 = .ok (.iconst 1, 1) := dk_4 (dk_at dksX1_read_13 21 rfl rfl)
theorem dX1_read_332 : decode cX1_read 332 = .ok (.if_icmp .ne 7, 3) := dk_160 0 7 (dk_at dksX1_read_14 0 rfl rfl)
theorem dX1_read_335 : decode cX1_read 335 = .ok (.iconst 1, 1) := dk_4 (dk_at dksX1_read_14 3 rfl rfl)
theorem dX1_read_336 : decode cX1_read 336 = .ok (.goto 4, 3) := dk_167 0 4 (dk_at dksX1_read_14 4 rfl rfl)
theorem dX1_read_339 : decode cX1_read 339 = .ok (.iconst 0, 1) := dk_3 (dk_at dksX1_read_14 7 rfl rfl)
theorem dX1_read_340 : decode cX1_read 340 = .ok (.istore 4, 2) := dk_54 4 (dk_at dksX1_read_14 8 rfl rfl)
theorem dX1_read_342 : decode cX1_read 342 = .ok (.aload_n 0, 1) := dk_42 (dk_at dksX1_read_14 10 rfl rfl)
theorem dX1_read_343 : decode cX1_read 343 = .ok (.getfield 36, 3) := dk_180 0 36 (dk_at dksX1_read_14 11 rfl rfl)
theorem dX1_read_346 : decode cX1_read 346 = .ok (.iload_n 3, 1) := dk_29 (dk_at dksX1_read_14 14 rfl rfl)
theorem dX1_read_347 : decode cX1_read 347 = .ok (.iaload, 1) := dk_46 (dk_at dksX1_read_14 15 rfl rfl)
theorem dX1_read_348 : decode cX1_read 348 = .ok (.iconst 1, 1) := dk_4 (dk_at dksX1_read_14 16 rfl rfl)
theorem dX1_read_349 : decode cX1_read 349 = .ok (.if_icmp .le 28, 3) := dk_164 0 28 (dk_at dksX1_read_14 17 rfl rfl)
theorem dX1_read_352 : decode cX1_read 352 = .ok (.aload_n 0, 1) := dk_42 (dk_at dksX1_read_14 20 rfl rfl)
theorem dX1_read_353 : decode cX1_read 353 = .ok (.getfield 24, 3) := dk_180 0 24 (dk_at dksX1_read_14 21 rfl rfl)
theorem dX1_read_356 : decode cX1_read 356 = .ok (.iload_n 3, 1) := dk_29 (dk_at dksX1_read_15 0 rfl rfl)
theorem dX1_read_357 : decode cX1_read 357 = .ok (.iconst 1, 1) := dk_4 (dk_at dksX1_read_15 1 rfl rfl)
theorem dX1_read_358 : decode cX1_read 358 = .ok (.iadd, 1) := dk_96 (dk_at dksX1_read_15 2 rfl rfl)
theorem dX1_read_359 : decode cX1_read 359 = .ok (.aload_n 0, 1) := dk_42 (dk_at dksX1_read_15 3 rfl rfl)
theorem dX1_read_360 : decode cX1_read 360 = .ok (.getfield 33, 3) := dk_180 0 33 (dk_at dksX1_read_15 4 rfl rfl)
theorem dX1_read_363 : decode cX1_read 363 = .ok (.iload_n 3, 1) := dk_29 (dk_at dksX1_read_15 7 rfl rfl)
theorem dX1_read_364 : decode cX1_read 364 = .ok (.iconst 1, 1) := dk_4 (dk_at dksX1_read_15 8 rfl rfl)
theorem dX1_read_365 : decode cX1_read 365 = .ok (.iadd, 1) := dk_96 (dk_at dksX1_read_15 9 rfl rfl)
theorem dX1_read_366 : decode cX1_read 366 = .ok (.iaload, 1) := dk_46 (dk_at dksX1_read_15 10 rfl rfl)
theorem dX1_read_367 : decode cX1_read 367 = .ok (.iadd, 1) := dk_96 (dk_at dksX1_read_15 11 rfl rfl)
theorem dX1_read_368 : decode cX1_read 368 = .ok (.iaload, 1) := dk_46 (dk_at dksX1_read_15 12 rfl rfl)
theorem dX1_read_369 : decode cX1_read 369 = .ok (.iconst 1, 1) := dk_4 (dk_at dksX1_read_15 13 rfl rfl)
theorem dX1_read_370 : decode cX1_read 370 = .ok (.if_icmp .ne 7, 3) := dk_160 0 7 (dk_at dksX1_read_15 14 rfl rfl)
theorem dX1_read_373 : decode cX1_read 373 = .ok (.iconst 1, 1) := dk_4 (dk_at dksX1_read_15 17 rfl rfl)
theorem dX1_read_374 : decode cX1_read 374 = .ok (.goto 4, 3) := dk_167 0 4 (dk_at dksX1_read_15 18 rfl rfl)
theorem dX1_read_377 : decode cX1_read 377 = .ok (.iconst 0, 1) := dk_3 (dk_at dksX1_read_15 21 rfl rfl)
theorem dX1_read_378 : decode cX1_read 378 = .ok (.istore 5, 2) := dk_54 5 (dk_at dksX1_read_15 22 rfl rfl)
theorem dX1_read_380 : decode cX1_read 380 = .ok (.aload_n 0, 1) := dk_42 (dk_at dksX1_read_16 0 rfl rfl)
theorem dX1_read_381 : decode cX1_read 381 = .ok (.getfield 88, 3) := dk_180 0 88 (dk_at dksX1_read_16 1 rfl rfl)
theorem dX1_read_384 : decode cX1_read 384 = .ok (.iload_n 2, 1) := dk_28 (dk_at dksX1_read_16 4 rfl rfl)
theorem dX1_read_385 : decode cX1_read 385 = .ok (.aload_n 0, 1) := dk_42 (dk_at dksX1_read_16 5 rfl rfl)
theorem dX1_read_386 : decode cX1_read 386 = .ok (.getfield 36, 3) := dk_180 0 36 (dk_at dksX1_read_16 6 rfl rfl)
theorem dX1_read_389 : decode cX1_read 389 = .ok (.iload_n 3, 1) := dk_29 (dk_at dksX1_read_16 9 rfl rfl)
theorem dX1_read_390 : decode cX1_read 390 = .ok (.iaload, 1) := dk_46 (dk_at dksX1_read_16 10 rfl rfl)
theorem dX1_read_391 : decode cX1_read 391 = .ok (.iload 4, 2) := dk_21 4 (dk_at dksX1_read_16 11 rfl rfl)
theorem dX1_read_393 : decode cX1_read 393 = .ok (.iload 4, 2) := dk_21 4 (dk_at dksX1_read_16 13 rfl rfl)
theorem dX1_read_395 : decode cX1_read 395 = .ok (.ifCond .eq 14, 3) := dk_153 0 14 (dk_at dksX1_read_16 15 rfl rfl)
theorem dX1_read_398 : decode cX1_read 398 = .ok (.aload_n 0, 1) := dk_42 (dk_at dksX1_read_16 18 rfl rfl)
theorem dX1_read_399 : decode cX1_read 399 = .ok (.getfield 27, 3) := dk_180 0 27 (dk_at dksX1_read_16 19 rfl rfl)
theorem dX1_read_402 : decode cX1_read 402 = .ok (.iload_n 3, 1) := dk_29 (dk_at dksX1_read_16 22 rfl rfl)
theorem dX1_read_403 : decode cX1_read 403 = .ok (.iconst 1, 1) := dk_4 (dk_at dksX1_read_16 23 rfl rfl)
theorem dX1_read_404 : decode cX1_read 404 = .ok (.iadd, 1) := dk_96 (dk_at dksX1_read_17 0 rfl rfl)
theorem dX1_read_405 : decode cX1_read 405 = .ok (.laload, 1) := dk_47 (dk_at dksX1_read_17 1 rfl rfl)
theorem dX1_read_406 : decode cX1_read 406 = .ok (.goto 4, 3) := dk_167 0 4 (dk_at dksX1_read_17 2 rfl rfl)
theorem dX1_read_409 : decode cX1_read 409 = .ok (.lconst 0, 1) := dk_9 (dk_at dksX1_read_17 5 rfl rfl)
theorem dX1_read_410 : decode cX1_read 410 = .ok (.iload 5, 2) := dk_21 5 (dk_at dksX1_read_17 6 rfl rfl)
theorem dX1_read_412 : decode cX1_read 412 = .ok (.invokestatic 318, 3) := dk_184 1 62 (dk_at dksX1_read_17 8 rfl rfl)
theorem dX1_read_415 : decode cX1_read 415 = .ok (.iastore, 1) := dk_79 (dk_at dksX1_read_17 11 rfl rfl)
theorem dX1_read_416 : decode cX1_read 416 = .ok (.iinc 2 1, 3) := dk_132 2 1 (dk_at dksX1_read_17 12 rfl rfl)
theorem dX1_read_419 : decode cX1_read 419 = .ok (.goto (-219), 3) := dk_167 255 37 (dk_at dksX1_read_17 15 rfl rfl)
theorem dX1_read_422 : decode cX1_read 422 = .ok (.aload_n 0, 1) := dk_42 (dk_at dksX1_read_17 18 rfl rfl)
theorem dX1_read_423 : decode cX1_read 423 = .ok (.invokevirtual 322, 3) := dk_182 1 66 (dk_at dksX1_read_17 19 rfl rfl)
theorem dX1_read_426 : decode cX1_read 426 = .ok (.aload_n 0, 1) := dk_42 (dk_at dksX1_read_17 22 rfl rfl)
theorem dX1_read_427 : decode cX1_read 427 = .ok (.iconst 0, 1) := dk_3 (dk_at dksX1_read_17 23 rfl rfl)
theorem dX1_read_428 : decode cX1_read 428 = .ok (.putfield 325, 3) := dk_181 1 69 (dk_at dksX1_read_18 0 rfl rfl)
theorem dX1_read_431 : decode cX1_read 431 = .ok (.aload_n 0, 1) := dk_42 (dk_at dksX1_read_18 3 rfl rfl)
theorem dX1_read_432 : decode cX1_read 432 = .ok (.iconst 0, 1) := dk_3 (dk_at dksX1_read_18 4 rfl rfl)
theorem dX1_read_433 : decode cX1_read 433 = .ok (.putfield 328, 3) := dk_181 1 72 (dk_at dksX1_read_18 5 rfl rfl)
theorem dX1_read_436 : decode cX1_read 436 = .ok (.aload_n 0, 1) := dk_42 (dk_at dksX1_read_18 8 rfl rfl)
theorem dX1_read_437 : decode cX1_read 437 = .ok (.iconst 0, 1) := dk_3 (dk_at dksX1_read_18 9 rfl rfl)
theorem dX1_read_438 : decode cX1_read 438 = .ok (.putfield 331, 3) := dk_181 1 75 (dk_at dksX1_read_18 10 rfl rfl)
theorem dX1_read_441 : decode cX1_read 441 = .ok (.aload_n 0, 1) := dk_42 (dk_at dksX1_read_18 13 rfl rfl)
theorem dX1_read_442 : decode cX1_read 442 = .ok (.iconst 0, 1) := dk_3 (dk_at dksX1_read_18 14 rfl rfl)
theorem dX1_read_443 : decode cX1_read 443 = .ok (.putfield 198, 3) := dk_181 0 198 (dk_at dksX1_read_18 15 rfl rfl)
theorem dX1_read_446 : decode cX1_read 446 = .ok (.aload_n 0, 1) := dk_42 (dk_at dksX1_read_18 18 rfl rfl)
theorem dX1_read_447 : decode cX1_read 447 = .ok (.iconst 1, 1) := dk_4 (dk_at dksX1_read_18 19 rfl rfl)
theorem dX1_read_448 : decode cX1_read 448 = .ok (.putfield 334, 3) := dk_181 1 78 (dk_at dksX1_read_18 20 rfl rfl)
theorem dX1_read_451 : decode cX1_read 451 = .ok (.aload_n 0, 1) := dk_42 (dk_at dksX1_read_18 23 rfl rfl)
theorem dX1_read_452 : decode cX1_read 452 = .ok (.getfield 306, 3) := dk_180 1 50 (dk_at dksX1_read_19 0 rfl rfl)
theorem dX1_read_455 : decode cX1_read 455 = .ok (.ireturn, 1) := dk_172 (dk_at dksX1_read_19 3 rfl rfl)
abbrev cX1_readAll : ByteArray := prog_20_method_24_code
def yX1_readAll : MethodName := ⟨RX1, "readAll", "()Z"⟩
def dkwX1_readAll_9 : List UInt8 := [180, 0, 224, 154, 0, 7, 4, 167, 0, 4, 3, 172]
abbrev dktX1_readAll_9 : List UInt8 := dkwX1_readAll_9 ++ []
def dkwX1_readAll_8 : List UInt8 := [42, 180, 1, 21, 153, 0, 19, 42, 42, 180, 1, 21, 181, 0, 224, 42, 42, 180, 1, 24, 181, 0, 230, 42]
abbrev dktX1_readAll_8 : List UInt8 := dkwX1_readAll_8 ++ dktX1_readAll_9
def dkwX1_readAll_7 : List UInt8 := [180, 0, 224, 154, 0, 14, 42, 27, 182, 1, 47, 132, 1, 1, 167, 255, 233, 42, 180, 0, 224, 154, 0, 26]
abbrev dktX1_readAll_7 : List UInt8 := dkwX1_readAll_7 ++ dktX1_readAll_8
def dkwX1_readAll_6 : List UInt8 := [154, 0, 7, 4, 167, 0, 4, 3, 182, 0, 233, 87, 3, 60, 27, 42, 180, 1, 11, 162, 0, 21, 42]
abbrev dktX1_readAll_6 : List UInt8 := dkwX1_readAll_6 ++ dktX1_readAll_7
def dkwX1_readAll_5 : List UInt8 := [87, 42, 180, 0, 224, 154, 0, 8, 42, 5, 182, 1, 18, 42, 42, 180, 0, 13, 42, 180, 0, 227, 46]
abbrev dktX1_readAll_5 : List UInt8 := dkwX1_readAll_5 ++ dktX1_readAll_6
def dkwX1_readAll_4 : List UInt8 := [159, 0, 16, 42, 180, 0, 13, 42, 180, 0, 227, 46, 5, 160, 0, 7, 4, 167, 0, 4, 3, 182, 0, 233]
abbrev dktX1_readAll_4 : List UInt8 := dkwX1_readAll_4 ++ dktX1_readAll_5
def dkwX1_readAll_3 : List UInt8 := [42, 180, 0, 13, 42, 180, 0, 227, 46, 16, 40, 159, 0, 29, 42, 180, 0, 13, 42, 180, 0, 227, 46, 4]
abbrev dktX1_readAll_3 : List UInt8 := dkwX1_readAll_3 ++ dktX1_readAll_4
def dkwX1_readAll_2 : List UInt8 := [167, 255, 238, 42, 3, 181, 0, 243, 42, 42, 180, 0, 237, 181, 1, 44, 42, 180, 0, 224, 154, 0, 53, 42]
abbrev dktX1_readAll_2 : List UInt8 := dkwX1_readAll_2 ++ dktX1_readAll_3
def dkwX1_readAll_1 : List UInt8 := [42, 3, 181, 1, 21, 42, 180, 0, 224, 154, 0, 17, 42, 182, 1, 37, 153, 0, 10, 42, 182, 1, 41]
abbrev dktX1_readAll_1 : List UInt8 := dkwX1_readAll_1 ++ dktX1_readAll_2
def dkwX1_readAll_0 : List UInt8 := [42, 182, 1, 34, 42, 3, 181, 0, 237, 42, 3, 181, 1, 11, 42, 3, 181, 0, 227, 42, 3, 181, 0, 224]
abbrev dktX1_readAll_0 : List UInt8 := dkwX1_readAll_0 ++ dktX1_readAll_1
theorem dksX1_readAll_0 : cX1_readAll.data.toList.drop 0 = dktX1_readAll_0 := by decide +kernel
theorem dksX1_readAll_1 : cX1_readAll.data.toList.drop 24 = dktX1_readAll_1 := dk_seg dksX1_readAll_0 24 rfl rfl
theorem dksX1_readAll_2 : cX1_readAll.data.toList.drop 47 = dktX1_readAll_2 := dk_seg dksX1_readAll_1 23 rfl rfl
theorem dksX1_readAll_3 : cX1_readAll.data.toList.drop 71 = dktX1_readAll_3 := dk_seg dksX1_readAll_2 24 rfl rfl
theorem dksX1_readAll_4 : cX1_readAll.data.toList.drop 95 = dktX1_readAll_4 := dk_seg dksX1_readAll_3 24 rfl rfl
theorem dksX1_readAll_5 : cX1_readAll.data.toList.drop 119 = dktX1_readAll_5 := dk_seg dksX1_readAll_4 24 rfl rfl
theorem dksX1_readAll_6 : cX1_readAll.data.toList.drop 142 = dktX1_readAll_6 := dk_seg dksX1_readAll_5 23 rfl rfl
theorem dksX1_readAll_7 : cX1_readAll.data.toList.drop 165 = dktX1_readAll_7 := dk_seg dksX1_readAll_6 23 rfl rfl
theorem dksX1_readAll_8 : cX1_readAll.data.toList.drop 189 = dktX1_readAll_8 := dk_seg dksX1_readAll_7 24 rfl rfl
theorem dksX1_readAll_9 : cX1_readAll.data.toList.drop 213 = dktX1_readAll_9 := dk_seg dksX1_readAll_8 24 rfl rfl
theorem dX1_readAll_0 : decode cX1_readAll 0 = .ok (.aload_n 0, 1) := dk_42 (dk_at dksX1_readAll_0 0 rfl rfl)
theorem dX1_readAll_1 : decode cX1_readAll 1 = .ok (.invokevirtual 290, 3) := dk_182 1 34 (dk_at dksX1_readAll_0 1 rfl rfl)
theorem dX1_readAll_4 : decode cX1_readAll 4 = .ok (.aload_n 0, 1) := dk_42 (dk_at dksX1_readAll_0 4 rfl rfl)
theorem dX1_readAll_5 : decode cX1_readAll 5 = .ok (.iconst 0, 1) := dk_3 (dk_at dksX1_readAll_0 5 rfl rfl)
theorem dX1_readAll_6 : decode cX1_readAll 6 = .ok (.putfield 237, 3) := dk_181 0 237 (dk_at dksX1_readAll_0 6 rfl rfl)
theorem dX1_readAll_9 : decode cX1_readAll 9 = .ok (.aload_n 0, 1) := dk_42 (dk_at dksX1_readAll_0 9 rfl rfl)
theorem dX1_readAll_10 : decode cX1_readAll 10 = .ok (.iconst 0, 1) := dk_3 (dk_at dksX1_readAll_0 10 rfl rfl)
theorem dX1_readAll_11 : decode cX1_readAll 11 = .ok (.putfield 267, 3) := dk_181 1 11 (dk_at dksX1_readAll_0 11 rfl rfl)
theorem dX1_readAll_14 : decode cX1_readAll 14 = .ok (.aload_n 0, 1) := dk_42 (dk_at dksX1_readAll_0 14 rfl rfl)
theorem dX1_readAll_15 : decode cX1_readAll 15 = .ok (.iconst 0, 1) := dk_3 (dk_at dksX1_readAll_0 15 rfl rfl)
theorem dX1_readAll_16 : decode cX1_readAll 16 = .ok (.putfield 227, 3) := dk_181 0 227 (dk_at dksX1_readAll_0 16 rfl rfl)
theorem dX1_readAll_19 : decode cX1_readAll 19 = .ok (.aload_n 0, 1) := dk_42 (dk_at dksX1_readAll_0 19 rfl rfl)
theorem dX1_readAll_20 : decode cX1_readAll 20 = .ok (.iconst 0, 1) := dk_3 (dk_at dksX1_readAll_0 20 rfl rfl)
theorem dX1_readAll_21 : decode cX1_readAll 21 = .ok (.putfield 224, 3) := dk_181 0 224 (dk_at dksX1_readAll_0 21 rfl rfl)
theorem dX1_readAll_24 : decode cX1_readAll 24 = .ok (.aload_n 0, 1) := dk_42 (dk_at dksX1_readAll_1 0 rfl rfl)
theorem dX1_readAll_25 : decode cX1_readAll 25 = .ok (.iconst 0, 1) := dk_3 (dk_at dksX1_readAll_1 1 rfl rfl)
theorem dX1_readAll_26 : decode cX1_readAll 26 = .ok (.putfield 277, 3) := dk_181 1 21 (dk_at dksX1_readAll_1 2 rfl rfl)
theorem dX1_readAll_29 : decode cX1_readAll 29 = .ok (.aload_n 0, 1) := dk_42 (dk_at dksX1_readAll_1 5 rfl rfl)
theorem dX1_readAll_30 : decode cX1_readAll 30 = .ok (.getfield 224, 3) := dk_180 0 224 (dk_at dksX1_readAll_1 6 rfl rfl)
theorem dX1_readAll_33 : decode cX1_readAll 33 = .ok (.ifCond .ne 17, 3) := dk_154 0 17 (dk_at dksX1_readAll_1 9 rfl rfl)
theorem dX1_readAll_36 : decode cX1_readAll 36 = .ok (.aload_n 0, 1) := dk_42 (dk_at dksX1_readAll_1 12 rfl rfl)
theorem dX1_readAll_37 : decode cX1_readAll 37 = .ok (.invokevirtual 293, 3) := dk_182 1 37 (dk_at dksX1_readAll_1 13 rfl rfl)
theorem dX1_readAll_40 : decode cX1_readAll 40 = .ok (.ifCond .eq 10, 3) := dk_153 0 10 (dk_at dksX1_readAll_1 16 rfl rfl)
theorem dX1_readAll_43 : decode cX1_readAll 43 = .ok (.aload_n 0, 1) := dk_42 (dk_at dksX1_readAll_1 19 rfl rfl)
theorem dX1_readAll_44 : decode cX1_readAll 44 = .ok (.invokevirtual 297, 3) := dk_182 1 41 (dk_at dksX1_readAll_1 20 rfl rfl)
theorem dX1_readAll_47 : decode cX1_readAll 47 = .ok (.goto (-18), 3) := dk_167 255 238 (dk_at dksX1_readAll_2 0 rfl rfl)
theorem dX1_readAll_50 : decode cX1_readAll 50 = .ok (.aload_n 0, 1) := dk_42 (dk_at dksX1_readAll_2 3 rfl rfl)
theorem dX1_readAll_51 : decode cX1_readAll 51 = .ok (.iconst 0, 1) := dk_3 (dk_at dksX1_readAll_2 4 rfl rfl)
theorem dX1_readAll_52 : decode cX1_readAll 52 = .ok (.putfield 243, 3) := dk_181 0 243 (dk_at dksX1_readAll_2 5 rfl rfl)
theorem dX1_readAll_55 : decode cX1_readAll 55 = .ok (.aload_n 0, 1) := dk_42 (dk_at dksX1_readAll_2 8 rfl rfl)
theorem dX1_readAll_56 : decode cX1_readAll 56 = .ok (.aload_n 0, 1) := dk_42 (dk_at dksX1_readAll_2 9 rfl rfl)
theorem dX1_readAll_57 : decode cX1_readAll 57 = .ok (.getfield 237, 3) := dk_180 0 237 (dk_at dksX1_readAll_2 10 rfl rfl)
theorem dX1_readAll_60 : decode cX1_readAll 60 = .ok (.putfield 300, 3) := dk_181 1 44 (dk_at dksX1_readAll_2 13 rfl rfl)
theorem dX1_readAll_63 : decode cX1_readAll 63 = .ok (.aload_n 0, 1) := dk_42 (dk_at dksX1_readAll_2 16 rfl rfl)
theorem dX1_readAll_64 : decode cX1_readAll 64 = .ok (.getfield 224, 3) := dk_180 0 224 (dk_at dksX1_readAll_2 17 rfl rfl)
theorem dX1_readAll_67 : decode cX1_readAll 67 = .ok (.ifCond .ne 53, 3) := dk_154 0 53 (dk_at dksX1_readAll_2 20 rfl rfl)
theorem dX1_readAll_70 : decode cX1_readAll 70 = .ok (.aload_n 0, 1) := dk_42 (dk_at dksX1_readAll_2 23 rfl rfl)
theorem dX1_readAll_71 : decode cX1_readAll 71 = .ok (.aload_n 0, 1) := dk_42 (dk_at dksX1_readAll_3 0 rfl rfl)
theorem dX1_readAll_72 : decode cX1_readAll 72 = .ok (.getfield 13, 3) := dk_180 0 13 (dk_at dksX1_readAll_3 1 rfl rfl)
theorem dX1_readAll_75 : decode cX1_readAll 75 = .ok (.aload_n 0, 1) := dk_42 (dk_at dksX1_readAll_3 4 rfl rfl)
theorem dX1_readAll_76 : decode cX1_readAll 76 = .ok (.getfield 227, 3) := dk_180 0 227 (dk_at dksX1_readAll_3 5 rfl rfl)
theorem dX1_readAll_79 : decode cX1_readAll 79 = .ok (.iaload, 1) := dk_46 (dk_at dksX1_readAll_3 8 rfl rfl)
theorem dX1_readAll_80 : decode cX1_readAll 80 = .ok (.bipush 40, 2) := dk_16 40 (dk_at dksX1_readAll_3 9 rfl rfl)
theorem dX1_readAll_82 : decode cX1_readAll 82 = .ok (.if_icmp .eq 29, 3) := dk_159 0 29 (dk_at dksX1_readAll_3 11 rfl rfl)
theorem dX1_readAll_85 : decode cX1_readAll 85 = .ok (.aload_n 0, 1) := dk_42 (dk_at dksX1_readAll_3 14 rfl rfl)
theorem dX1_readAll_86 : decode cX1_readAll 86 = .ok (.getfield 13, 3) := dk_180 0 13 (dk_at dksX1_readAll_3 15 rfl rfl)
theorem dX1_readAll_89 : decode cX1_readAll 89 = .ok (.aload_n 0, 1) := dk_42 (dk_at dksX1_readAll_3 18 rfl rfl)
theorem dX1_readAll_90 : decode cX1_readAll 90 = .ok (.getfield 227, 3) := dk_180 0 227 (dk_at dksX1_readAll_3 19 rfl rfl)
theorem dX1_readAll_93 : decode cX1_readAll 93 = .ok (.iaload, 1) := dk_46 (dk_at dksX1_readAll_3 22 rfl rfl)
theorem dX1_readAll_94 : decode cX1_readAll 94 = .ok (.iconst 1, 1) := dk_4 (dk_at dksX1_readAll_3 23 rfl rfl)
theorem dX1_readAll_95 : decode cX1_readAll 95 = .ok (.if_icmp .eq 16, 3) := dk_159 0 16 (dk_at dksX1_readAll_4 0 rfl rfl)
theorem dX1_readAll_98 : decode cX1_readAll 98 = .ok (.aload_n 0, 1) := dk_42 (dk_at dksX1_readAll_4 3 rfl rfl)
theorem dX1_readAll_99 : decode cX1_readAll 99 = .ok (.getfield 13, 3) := dk_180 0 13 (dk_at dksX1_readAll_4 4 rfl rfl)
theorem dX1_readAll_102 : decode cX1_readAll 102 = .ok (.aload_n 0, 1) := dk_42 (dk_at dksX1_readAll_4 7 rfl rfl)
theorem dX1_readAll_103 : decode cX1_readAll 103 = .ok (.getfield 227, 3) := dk_180 0 227 (dk_at dksX1_readAll_4 8 rfl rfl)
theorem dX1_readAll_106 : decode cX1_readAll 106 = .ok (.iaload, 1) := dk_46 (dk_at dksX1_readAll_4 11 rfl rfl)
theorem dX1_readAll_107 : decode cX1_readAll 107 = .ok (.iconst 2, 1) := dk_5 (dk_at dksX1_readAll_4 12 rfl rfl)
theorem dX1_readAll_108 : decode cX1_readAll 108 = .ok (.if_icmp .ne 7, 3) := dk_160 0 7 (dk_at dksX1_readAll_4 13 rfl rfl)
theorem dX1_readAll_111 : decode cX1_readAll 111 = .ok (.iconst 1, 1) := dk_4 (dk_at dksX1_readAll_4 16 rfl rfl)
theorem dX1_readAll_112 : decode cX1_readAll 112 = .ok (.goto 4, 3) := dk_167 0 4 (dk_at dksX1_readAll_4 17 rfl rfl)
theorem dX1_readAll_115 : decode cX1_readAll 115 = .ok (.iconst 0, 1) := dk_3 (dk_at dksX1_readAll_4 20 rfl rfl)
theorem dX1_readAll_116 : decode cX1_readAll 116 = .ok (.invokevirtual 233, 3) := dk_182 0 233 (dk_at dksX1_readAll_4 21 rfl rfl)
theorem dX1_readAll_119 : decode cX1_readAll 119 = .ok (.pop, 1) := dk_87 (dk_at dksX1_readAll_5 0 rfl rfl)
theorem dX1_readAll_120 : decode cX1_readAll 120 = .ok (.aload_n 0, 1) := dk_42 (dk_at dksX1_readAll_5 1 rfl rfl)
theorem dX1_readAll_121 : decode cX1_readAll 121 = .ok (.getfield 224, 3) := dk_180 0 224 (dk_at dksX1_readAll_5 2 rfl rfl)
theorem dX1_readAll_124 : decode cX1_readAll 124 = .ok (.ifCond .ne 8, 3) := dk_154 0 8 (dk_at dksX1_readAll_5 5 rfl rfl)
theorem dX1_readAll_127 : decode cX1_readAll 127 = .ok (.aload_n 0, 1) := dk_42 (dk_at dksX1_readAll_5 8 rfl rfl)
theorem dX1_readAll_128 : decode cX1_readAll 128 = .ok (.iconst 2, 1) := dk_5 (dk_at dksX1_readAll_5 9 rfl rfl)
theorem dX1_readAll_129 : decode cX1_readAll 129 = .ok (.invokevirtual 274, 3) := dk_182 1 18 (dk_at dksX1_readAll_5 10 rfl rfl)
theorem dX1_readAll_132 : decode cX1_readAll 132 = .ok (.aload_n 0, 1) := dk_42 (dk_at dksX1_readAll_5 13 rfl rfl)
theorem dX1_readAll_133 : decode cX1_readAll 133 = .ok (.aload_n 0, 1) := dk_42 (dk_at dksX1_readAll_5 14 rfl rfl)
theorem dX1_readAll_134 : decode cX1_readAll 134 = .ok (.getfield 13, 3) := dk_180 0 13 (dk_at dksX1_readAll_5 15 rfl rfl)
theorem dX1_readAll_137 : decode cX1_readAll 137 = .ok (.aload_n 0, 1) := dk_42 (dk_at dksX1_readAll_5 18 rfl rfl)
theorem dX1_readAll_138 : decode cX1_readAll 138 = .ok (.getfield 227, 3) := dk_180 0 227 (dk_at dksX1_readAll_5 19 rfl rfl)
theorem dX1_readAll_141 : decode cX1_readAll 141 = .ok (.iaload, 1) := dk_46 (dk_at dksX1_readAll_5 22 rfl rfl)
theorem dX1_readAll_142 : decode cX1_readAll 142 = .ok (.ifCond .ne 7, 3) := dk_154 0 7 (dk_at dksX1_readAll_6 0 rfl rfl)
theorem dX1_readAll_145 : decode cX1_readAll 145 = .ok (.iconst 1, 1) := dk_4 (dk_at dksX1_readAll_6 3 rfl rfl)
theorem dX1_readAll_146 : decode cX1_readAll 146 = .ok (.goto 4, 3) := dk_167 0 4 (dk_at dksX1_readAll_6 4 rfl rfl)
theorem dX1_readAll_149 : decode cX1_readAll 149 = .ok (.iconst 0, 1) := dk_3 (dk_at dksX1_readAll_6 7 rfl rfl)
theorem dX1_readAll_150 : decode cX1_readAll 150 = .ok (.invokevirtual 233, 3) := dk_182 0 233 (dk_at dksX1_readAll_6 8 rfl rfl)
theorem dX1_readAll_153 : decode cX1_readAll 153 = .ok (.pop, 1) := dk_87 (dk_at dksX1_readAll_6 11 rfl rfl)
theorem dX1_readAll_154 : decode cX1_readAll 154 = .ok (.iconst 0, 1) := dk_3 (dk_at dksX1_readAll_6 12 rfl rfl)
theorem dX1_readAll_155 : decode cX1_readAll 155 = .ok (.istore_n 1, 1) := dk_60 (dk_at dksX1_readAll_6 13 rfl rfl)
theorem dX1_readAll_156 : decode cX1_readAll 156 = .ok (.iload_n 1, 1) := dk_27 (dk_at dksX1_readAll_6 14 rfl rfl)
theorem dX1_readAll_157 : decode cX1_readAll 157 = .ok (.aload_n 0, 1) := dk_42 (dk_at dksX1_readAll_6 15 rfl rfl)
theorem dX1_readAll_158 : decode cX1_readAll 158 = .ok (.getfield 267, 3) := dk_180 1 11 (dk_at dksX1_readAll_6 16 rfl rfl)
theorem dX1_readAll_161 : decode cX1_readAll 161 = .ok (.if_icmp .ge 21, 3) := dk_162 0 21 (dk_at dksX1_readAll_6 19 rfl rfl)
theorem dX1_readAll_164 : decode cX1_readAll 164 = .ok (.aload_n 0, 1) := dk_42 (dk_at dksX1_readAll_6 22 rfl rfl)
theorem dX1_readAll_165 : decode cX1_readAll 165 = .ok (.getfield 224, 3) := dk_180 0 224 (dk_at dksX1_readAll_7 0 rfl rfl)
theorem dX1_readAll_168 : decode cX1_readAll 168 = .ok (.ifCond .ne 14, 3) := dk_154 0 14 (dk_at dksX1_readAll_7 3 rfl rfl)
theorem dX1_readAll_171 : decode cX1_readAll 171 = .ok (.aload_n 0, 1) := dk_42 (dk_at dksX1_readAll_7 6 rfl rfl)
theorem dX1_readAll_172 : decode cX1_readAll 172 = .ok (.iload_n 1, 1) := dk_27 (dk_at dksX1_readAll_7 7 rfl rfl)
theorem dX1_readAll_173 : decode cX1_readAll 173 = .ok (.invokevirtual 303, 3) := dk_182 1 47 (dk_at dksX1_readAll_7 8 rfl rfl)
theorem dX1_readAll_176 : decode cX1_readAll 176 = .ok (.iinc 1 1, 3) := dk_132 1 1 (dk_at dksX1_readAll_7 11 rfl rfl)
theorem dX1_readAll_179 : decode cX1_readAll 179 = .ok (.goto (-23), 3) := dk_167 255 233 (dk_at dksX1_readAll_7 14 rfl rfl)
theorem dX1_readAll_182 : decode cX1_readAll 182 = .ok (.aload_n 0, 1) := dk_42 (dk_at dksX1_readAll_7 17 rfl rfl)
theorem dX1_readAll_183 : decode cX1_readAll 183 = .ok (.getfield 224, 3) := dk_180 0 224 (dk_at dksX1_readAll_7 18 rfl rfl)
theorem dX1_readAll_186 : decode cX1_readAll 186 = .ok (.ifCond .ne 26, 3) := dk_154 0 26 (dk_at dksX1_readAll_7 21 rfl rfl)
theorem dX1_readAll_189 : decode cX1_readAll 189 = .ok (.aload_n 0, 1) := dk_42 (dk_at dksX1_readAll_8 0 rfl rfl)
theorem dX1_readAll_190 : decode cX1_readAll 190 = .ok (.getfield 277, 3) := dk_180 1 21 (dk_at dksX1_readAll_8 1 rfl rfl)
theorem dX1_readAll_193 : decode cX1_readAll 193 = .ok (.ifCond .eq 19, 3) := dk_153 0 19 (dk_at dksX1_readAll_8 4 rfl rfl)
theorem dX1_readAll_196 : decode cX1_readAll 196 = .ok (.aload_n 0, 1) := dk_42 (dk_at dksX1_readAll_8 7 rfl rfl)
theorem dX1_readAll_197 : decode cX1_readAll 197 = .ok (.aload_n 0, 1) := dk_42 (dk_at dksX1_readAll_8 8 rfl rfl)
theorem dX1_readAll_198 : decode cX1_readAll 198 = .ok (.getfield 277, 3) := dk_180 1 21 (dk_at dksX1_readAll_8 9 rfl rfl)
theorem dX1_readAll_201 : decode cX1_readAll 201 = .ok (.putfield 224, 3) := dk_181 0 224 (dk_at dksX1_readAll_8 12 rfl rfl)
theorem dX1_readAll_204 : decode cX1_readAll 204 = .ok (.aload_n 0, 1) := dk_42 (dk_at dksX1_readAll_8 15 rfl rfl)
theorem dX1_readAll_205 : decode cX1_readAll 205 = .ok (.aload_n 0, 1) := dk_42 (dk_at dksX1_readAll_8 16 rfl rfl)
theorem dX1_readAll_206 : decode cX1_readAll 206 = .ok (.getfield 280, 3) := dk_180 1 24 (dk_at dksX1_readAll_8 17 rfl rfl)
theorem dX1_readAll_209 : decode cX1_readAll 209 = .ok (.putfield 230, 3) := dk_181 0 230 (dk_at dksX1_readAll_8 20 rfl rfl)
theorem dX1_readAll_212 : decode cX1_readAll 212 = .ok (.aload_n 0, 1) := dk_42 (dk_at dksX1_readAll_8 23 rfl rfl)
theorem dX1_readAll_213 : decode cX1_readAll 213 = .ok (.getfield 224, 3) := dk_180 0 224 (dk_at dksX1_readAll_9 0 rfl rfl)
theorem dX1_readAll_216 : decode cX1_readAll 216 = .ok (.ifCond .ne 7, 3) := dk_154 0 7 (dk_at dksX1_readAll_9 3 rfl rfl)
theorem dX1_readAll_219 : decode cX1_readAll 219 = .ok (.iconst 1, 1) := dk_4 (dk_at dksX1_readAll_9 6 rfl rfl)
theorem dX1_readAll_220 : decode cX1_readAll 220 = .ok (.goto 4, 3) := dk_167 0 4 (dk_at dksX1_readAll_9 7 rfl rfl)
theorem dX1_readAll_223 : decode cX1_readAll 223 = .ok (.iconst 0, 1) := dk_3 (dk_at dksX1_readAll_9 10 rfl rfl)
theorem dX1_readAll_224 : decode cX1_readAll 224 = .ok (.ireturn, 1) := dk_172 (dk_at dksX1_readAll_9 11 rfl rfl)
abbrev cX1_cutUp : ByteArray := prog_20_method_10_code
def yX1_cutUp : MethodName := ⟨RX1, "cutUp", "()V"⟩
def dkwX1_cutUp_10 : List UInt8 := [182, 0, 213, 29, 60, 167, 255, 22, 42, 3, 42, 180, 0, 198, 9, 182, 0, 213, 177]
abbrev dktX1_cutUp_10 : List UInt8 := dkwX1_cutUp_10 ++ []
def dkwX1_cutUp_9 : List UInt8 := [16, 41, 159, 0, 15, 28, 16, 42, 159, 0, 9, 28, 16, 33, 160, 0, 7, 28, 167, 0, 4, 6, 27, 9]
abbrev dktX1_cutUp_9 : List UInt8 := dkwX1_cutUp_9 ++ dktX1_cutUp_10
def dkwX1_cutUp_8 : List UInt8 := [167, 0, 50, 28, 16, 32, 159, 0, 44, 28, 16, 10, 159, 0, 38, 42, 28, 16, 40, 159, 0, 21, 28]
abbrev dktX1_cutUp_8 : List UInt8 := dkwX1_cutUp_8 ++ dktX1_cutUp_9
def dkwX1_cutUp_7 : List UInt8 := [167, 255, 210, 42, 29, 27, 100, 16, 6, 164, 0, 7, 6, 167, 0, 4, 4, 27, 22, 4, 182, 0, 213]
abbrev dktX1_cutUp_7 : List UInt8 := dkwX1_cutUp_7 ++ dktX1_cutUp_8
def dkwX1_cutUp_6 : List UInt8 := [22, 4, 105, 42, 29, 182, 0, 205, 133, 97, 20, 0, 222, 101, 167, 0, 5, 22, 4, 55, 4, 132, 3, 1]
abbrev dktX1_cutUp_6 : List UInt8 := dkwX1_cutUp_6 ++ dktX1_cutUp_7
def dkwX1_cutUp_5 : List UInt8 := [62, 42, 29, 182, 0, 205, 184, 0, 217, 153, 0, 41, 29, 27, 100, 16, 6, 162, 0, 23, 20, 0, 220]
abbrev dktX1_cutUp_5 : List UInt8 := dkwX1_cutUp_5 ++ dktX1_cutUp_6
def dkwX1_cutUp_4 : List UInt8 := [167, 0, 4, 5, 27, 22, 4, 182, 0, 213, 167, 0, 134, 28, 184, 0, 217, 153, 0, 80, 9, 55, 4, 27]
abbrev dktX1_cutUp_4 : List UInt8 := dkwX1_cutUp_4 ++ dktX1_cutUp_5
def dkwX1_cutUp_3 : List UInt8 := [167, 0, 5, 22, 4, 55, 4, 132, 3, 1, 167, 255, 211, 42, 29, 27, 100, 16, 6, 164, 0, 7, 6]
abbrev dktX1_cutUp_3 : List UInt8 := dkwX1_cutUp_3 ++ dktX1_cutUp_4
def dkwX1_cutUp_2 : List UInt8 := [29, 27, 100, 16, 6, 162, 0, 22, 22, 4, 42, 29, 182, 0, 205, 133, 16, 8, 29, 27, 100, 104, 121, 129]
abbrev dktX1_cutUp_2 : List UInt8 := dkwX1_cutUp_2 ++ dktX1_cutUp_3
def dkwX1_cutUp_1 : List UInt8 := [62, 28, 184, 0, 209, 153, 0, 79, 9, 55, 4, 27, 62, 42, 29, 182, 0, 205, 184, 0, 209, 153, 0, 40]
abbrev dktX1_cutUp_1 : List UInt8 := dkwX1_cutUp_1 ++ dktX1_cutUp_2
def dkwX1_cutUp_0 : List UInt8 := [42, 3, 181, 0, 202, 3, 60, 27, 42, 180, 0, 198, 162, 0, 232, 42, 27, 182, 0, 205, 61, 27, 4, 96]
abbrev dktX1_cutUp_0 : List UInt8 := dkwX1_cutUp_0 ++ dktX1_cutUp_1
theorem dksX1_cutUp_0 : cX1_cutUp.data.toList.drop 0 = dktX1_cutUp_0 := by decide +kernel
theorem dksX1_cutUp_1 : cX1_cutUp.data.toList.drop 24 = dktX1_cutUp_1 := dk_seg dksX1_cutUp_0 24 rfl rfl
theorem dksX1_cutUp_2 : cX1_cutUp.data.toList.drop 48 = dktX1_cutUp_2 := dk_seg dksX1_cutUp_1 24 rfl rfl
theorem dksX1_cutUp_3 : cX1_cutUp.data.toList.drop 72 = dktX1_cutUp_3 := dk_seg dksX1_cutUp_2 24 rfl rfl
theorem dksX1_cutUp_4 : cX1_cutUp.data.toList.drop 95 = dktX1_cutUp_4 := dk_seg dksX1_cutUp_3 23 rfl rfl
theorem dksX1_cutUp_5 : cX1_cutUp.data.toList.drop 119 = dktX1_cutUp_5 := dk_seg dksX1_cutUp_4 24 rfl rfl
theorem dksX1_cutUp_6 : cX1_cutUp.data.toList.drop 142 = dktX1_cutUp_6 := dk_seg dksX1_cutUp_5 23 rfl rfl
theorem dksX1_cutUp_7 : cX1_cutUp.data.toList.drop 166 = dktX1_cutUp_7 := dk_seg dksX1_cutUp_6 24 rfl rfl
theorem dksX1_cutUp_8 : cX1_cutUp.data.toList.drop 189 = dktX1_cutUp_8 := dk_seg dksX1_cutUp_7 23 rfl rfl
theorem dksX1_cutUp_9 : cX1_cutUp.data.toList.drop 212 = dktX1_cutUp_9 := dk_seg dksX1_cutUp_8 23 rfl rfl
theorem dksX1_cutUp_10 : cX1_cutUp.data.toList.drop 236 = dktX1_cutUp_10 := dk_seg dksX1_cutUp_9 24 rfl rfl
theorem dX1_cutUp_0 : decode cX1_cutUp 0 = .ok (.aload_n 0, 1) := dk_42 (dk_at dksX1_cutUp_0 0 rfl rfl)
theorem dX1_cutUp_1 : decode cX1_cutUp 1 = .ok (.iconst 0, 1) := dk_3 (dk_at dksX1_cutUp_0 1 rfl rfl)
theorem dX1_cutUp_2 : decode cX1_cutUp 2 = .ok (.putfield 202, 3) := dk_181 0 202 (dk_at dksX1_cutUp_0 2 rfl rfl)
theorem dX1_cutUp_5 : decode cX1_cutUp 5 = .ok (.iconst 0, 1) := dk_3 (dk_at dksX1_cutUp_0 5 rfl rfl)
theorem dX1_cutUp_6 : decode cX1_cutUp 6 = .ok (.istore_n 1, 1) := dk_60 (dk_at dksX1_cutUp_0 6 rfl rfl)
theorem dX1_cutUp_7 : decode cX1_cutUp 7 = .ok (.iload_n 1, 1) := dk_27 (dk_at dksX1_cutUp_0 7 rfl rfl)
theorem dX1_cutUp_8 : decode cX1_cutUp 8 = .ok (.aload_n 0, 1) := dk_42 (dk_at dksX1_cutUp_0 8 rfl rfl)
theorem dX1_cutUp_9 : decode cX1_cutUp 9 = .ok (.getfield 198, 3) := dk_180 0 198 (dk_at dksX1_cutUp_0 9 rfl rfl)
theorem dX1_cutUp_12 : decode cX1_cutUp 12 = .ok (.if_icmp .ge 232, 3) := dk_162 0 232 (dk_at dksX1_cutUp_0 12 rfl rfl)
theorem dX1_cutUp_15 : decode cX1_cutUp 15 = .ok (.aload_n 0, 1) := dk_42 (dk_at dksX1_cutUp_0 15 rfl rfl)
theorem dX1_cutUp_16 : decode cX1_cutUp 16 = .ok (.iload_n 1, 1) := dk_27 (dk_at dksX1_cutUp_0 16 rfl rfl)
theorem dX1_cutUp_17 : decode cX1_cutUp 17 = .ok (.invokevirtual 205, 3) := dk_182 0 205 (dk_at dksX1_cutUp_0 17 rfl rfl)
theorem dX1_cutUp_20 : decode cX1_cutUp 20 = .ok (.istore_n 2, 1) := dk_61 (dk_at dksX1_cutUp_0 20 rfl rfl)
theorem dX1_cutUp_21 : decode cX1_cutUp 21 = .ok (.iload_n 1, 1) := dk_27 (dk_at dksX1_cutUp_0 21 rfl rfl)
theorem dX1_cutUp_22 : decode cX1_cutUp 22 = .ok (.iconst 1, 1) := dk_4 (dk_at dksX1_cutUp_0 22 rfl rfl)
theorem dX1_cutUp_23 : decode cX1_cutUp 23 = .ok (.iadd, 1) := dk_96 (dk_at dksX1_cutUp_0 23 rfl rfl)
theorem dX1_cutUp_24 : decode cX1_cutUp 24 = .ok (.istore_n 3, 1) := dk_62 (dk_at dksX1_cutUp_1 0 rfl rfl)
theorem dX1_cutUp_25 : decode cX1_cutUp 25 = .ok (.iload_n 2, 1) := dk_28 (dk_at dksX1_cutUp_1 1 rfl rfl)
theorem dX1_cutUp_26 : decode cX1_cutUp 26 = .ok (.invokestatic 209, 3) := dk_184 0 209 (dk_at dksX1_cutUp_1 2 rfl rfl)
theorem dX1_cutUp_29 : decode cX1_cutUp 29 = .ok (.ifCond .eq 79, 3) := dk_153 0 79 (dk_at dksX1_cutUp_1 5 rfl rfl)
theorem dX1_cutUp_32 : decode cX1_cutUp 32 = .ok (.lconst 0, 1) := dk_9 (dk_at dksX1_cutUp_1 8 rfl rfl)
theorem dX1_cutUp_33 : decode cX1_cutUp 33 = .ok (.lstore 4, 2) := dk_55 4 (dk_at dksX1_cutUp_1 9 rfl rfl)
theorem dX1_cutUp_35 : decode cX1_cutUp 35 = .ok (.iload_n 1, 1) := dk_27 (dk_at dksX1_cutUp_1 11 rfl rfl)
theorem dX1_cutUp_36 : decode cX1_cutUp 36 = .ok (.istore_n 3, 1) := dk_62 (dk_at dksX1_cutUp_1 12 rfl rfl)
theorem dX1_cutUp_37 : decode cX1_cutUp 37 = .ok (.aload_n 0, 1) := dk_42 (dk_at dksX1_cutUp_1 13 rfl rfl)
theorem dX1_cutUp_38 : decode cX1_cutUp 38 = .ok (.iload_n 3, 1) := dk_29 (dk_at dksX1_cutUp_1 14 rfl rfl)
theorem dX1_cutUp_39 : decode cX1_cutUp 39 = .ok (.invokevirtual 205, 3) := dk_182 0 205 (dk_at dksX1_cutUp_1 15 rfl rfl)
theorem dX1_cutUp_42 : decode cX1_cutUp 42 = .ok (.invokestatic 209, 3) := dk_184 0 209 (dk_at dksX1_cutUp_1 18 rfl rfl)
theorem dX1_cutUp_45 : decode cX1_cutUp 45 = .ok (.ifCond .eq 40, 3) := dk_153 0 40 (dk_at dksX1_cutUp_1 21 rfl rfl)
theorem dX1_cutUp_48 : decode cX1_cutUp 48 = .ok (.iload_n 3, 1) := dk_29 (dk_at dksX1_cutUp_2 0 rfl rfl)
theorem dX1_cutUp_49 : decode cX1_cutUp 49 = .ok (.iload_n 1, 1) := dk_27 (dk_at dksX1_cutUp_2 1 rfl rfl)
theorem dX1_cutUp_50 : decode cX1_cutUp 50 = .ok (.isub, 1) := dk_100 (dk_at dksX1_cutUp_2 2 rfl rfl)
theorem dX1_cutUp_51 : decode cX1_cutUp 51 = .ok (.bipush 6, 2) := dk_16 6 (dk_at dksX1_cutUp_2 3 rfl rfl)
theorem dX1_cutUp_53 : decode cX1_cutUp 53 = .ok (.if_icmp .ge 22, 3) := dk_162 0 22 (dk_at dksX1_cutUp_2 5 rfl rfl)
theorem dX1_cutUp_56 : decode cX1_cutUp 56 = .ok (.lload 4, 2) := dk_22 4 (dk_at dksX1_cutUp_2 8 rfl rfl)
theorem dX1_cutUp_58 : decode cX1_cutUp 58 = .ok (.aload_n 0, 1) := dk_42 (dk_at dksX1_cutUp_2 10 rfl rfl)
theorem dX1_cutUp_59 : decode cX1_cutUp 59 = .ok (.iload_n 3, 1) := dk_29 (dk_at dksX1_cutUp_2 11 rfl rfl)
theorem dX1_cutUp_60 : decode cX1_cutUp 60 = .ok (.invokevirtual 205, 3) := dk_182 0 205 (dk_at dksX1_cutUp_2 12 rfl rfl)
theorem dX1_cutUp_63 : decode cX1_cutUp 63 = .ok (.i2l, 1) := dk_133 (dk_at dksX1_cutUp_2 15 rfl rfl)
theorem dX1_cutUp_64 : decode cX1_cutUp 64 = .ok (.bipush 8, 2) := dk_16 8 (dk_at dksX1_cutUp_2 16 rfl rfl)
theorem dX1_cutUp_66 : decode cX1_cutUp 66 = .ok (.iload_n 3, 1) := dk_29 (dk_at dksX1_cutUp_2 18 rfl rfl)
theorem dX1_cutUp_67 : decode cX1_cutUp 67 = .ok (.iload_n 1, 1) := dk_27 (dk_at dksX1_cutUp_2 19 rfl rfl)
theorem dX1_cutUp_68 : decode cX1_cutUp 68 = .ok (.isub, 1) := dk_100 (dk_at dksX1_cutUp_2 20 rfl rfl)
theorem dX1_cutUp_69 : decode cX1_cutUp 69 = .ok (.imul, 1) := dk_104 (dk_at dksX1_cutUp_2 21 rfl rfl)
theorem dX1_cutUp_70 : decode cX1_cutUp 70 = .ok (.lshl, 1) := dk_121 (dk_at dksX1_cutUp_2 22 rfl rfl)
theorem dX1_cutUp_71 : decode cX1_cutUp 71 = .ok (.lor, 1) := dk_129 (dk_at dksX1_cutUp_2 23 rfl rfl)
theorem dX1_cutUp_72 : decode cX1_cutUp 72 = .ok (.goto 5, 3) := dk_167 0 5 (dk_at dksX1_cutUp_3 0 rfl rfl)
theorem dX1_cutUp_75 : decode cX1_cutUp 75 = .ok (.lload 4, 2) := dk_22 4 (dk_at dksX1_cutUp_3 3 rfl rfl)
theorem dX1_cutUp_77 : decode cX1_cutUp 77 = .ok (.lstore 4, 2) := dk_55 4 (dk_at dksX1_cutUp_3 5 rfl rfl)
theorem dX1_cutUp_79 : decode cX1_cutUp 79 = .ok (.iinc 3 1, 3) := dk_132 3 1 (dk_at dksX1_cutUp_3 7 rfl rfl)
theorem dX1_cutUp_82 : decode cX1_cutUp 82 = .ok (.goto (-45), 3) := dk_167 255 211 (dk_at dksX1_cutUp_3 10 rfl rfl)
theorem dX1_cutUp_85 : decode cX1_cutUp 85 = .ok (.aload_n 0, 1) := dk_42 (dk_at dksX1_cutUp_3 13 rfl rfl)
theorem dX1_cutUp_86 : decode cX1_cutUp 86 = .ok (.iload_n 3, 1) := dk_29 (dk_at dksX1_cutUp_3 14 rfl rfl)
theorem dX1_cutUp_87 : decode cX1_cutUp 87 = .ok (.iload_n 1, 1) := dk_27 (dk_at dksX1_cutUp_3 15 rfl rfl)
theorem dX1_cutUp_88 : decode cX1_cutUp 88 = .ok (.isub, 1) := dk_100 (dk_at dksX1_cutUp_3 16 rfl rfl)
theorem dX1_cutUp_89 : decode cX1_cutUp 89 = .ok (.bipush 6, 2) := dk_16 6 (dk_at dksX1_cutUp_3 17 rfl rfl)
theorem dX1_cutUp_91 : decode cX1_cutUp 91 = .ok (.if_icmp .le 7, 3) := dk_164 0 7 (dk_at dksX1_cutUp_3 19 rfl rfl)
theorem dX1_cutUp_94 : decode cX1_cutUp 94 = .ok (.iconst 3, 1) := dk_6 (dk_at dksX1_cutUp_3 22 rfl rfl)
theorem dX1_cutUp_95 : decode cX1_cutUp 95 = .ok (.goto 4, 3) := dk_167 0 4 (dk_at dksX1_cutUp_4 0 rfl rfl)
theorem dX1_cutUp_98 : decode cX1_cutUp 98 = .ok (.iconst 2, 1) := dk_5 (dk_at dksX1_cutUp_4 3 rfl rfl)
theorem dX1_cutUp_99 : decode cX1_cutUp 99 = .ok (.iload_n 1, 1) := dk_27 (dk_at dksX1_cutUp_4 4 rfl rfl)
theorem dX1_cutUp_100 : decode cX1_cutUp 100 = .ok (.lload 4, 2) := dk_22 4 (dk_at dksX1_cutUp_4 5 rfl rfl)
theorem dX1_cutUp_102 : decode cX1_cutUp 102 = .ok (.invokevirtual 213, 3) := dk_182 0 213 (dk_at dksX1_cutUp_4 7 rfl rfl)
theorem dX1_cutUp_105 : decode cX1_cutUp 105 = .ok (.goto 134, 3) := dk_167 0 134 (dk_at dksX1_cutUp_4 10 rfl rfl)
theorem dX1_cutUp_108 : decode cX1_cutUp 108 = .ok (.iload_n 2, 1) := dk_28 (dk_at dksX1_cutUp_4 13 rfl rfl)
theorem dX1_cutUp_109 : decode cX1_cutUp 109 = .ok (.invokestatic 217, 3) := dk_184 0 217 (dk_at dksX1_cutUp_4 14 rfl rfl)
theorem dX1_cutUp_112 : decode cX1_cutUp 112 = .ok (.ifCond .eq 80, 3) := dk_153 0 80 (dk_at dksX1_cutUp_4 17 rfl rfl)
theorem dX1_cutUp_115 : decode cX1_cutUp 115 = .ok (.lconst 0, 1) := dk_9 (dk_at dksX1_cutUp_4 20 rfl rfl)
theorem dX1_cutUp_116 : decode cX1_cutUp 116 = .ok (.lstore 4, 2) := dk_55 4 (dk_at dksX1_cutUp_4 21 rfl rfl)
theorem dX1_cutUp_118 : decode cX1_cutUp 118 = .ok (.iload_n 1, 1) := dk_27 (dk_at dksX1_cutUp_4 23 rfl rfl)
theorem dX1_cutUp_119 : decode cX1_cutUp 119 = .ok (.istore_n 3, 1) := dk_62 (dk_at dksX1_cutUp_5 0 rfl rfl)
theorem dX1_cutUp_120 : decode cX1_cutUp 120 = .ok (.aload_n 0, 1) := dk_42 (dk_at dksX1_cutUp_5 1 rfl rfl)
theorem dX1_cutUp_121 : decode cX1_cutUp 121 = .ok (.iload_n 3, 1) := dk_29 (dk_at dksX1_cutUp_5 2 rfl rfl)
theorem dX1_cutUp_122 : decode cX1_cutUp 122 = .ok (.invokevirtual 205, 3) := dk_182 0 205 (dk_at dksX1_cutUp_5 3 rfl rfl)
theorem dX1_cutUp_125 : decode cX1_cutUp 125 = .ok (.invokestatic 217, 3) := dk_184 0 217 (dk_at dksX1_cutUp_5 6 rfl rfl)
theorem dX1_cutUp_128 : decode cX1_cutUp 128 = .ok (.ifCond .eq 41, 3) := dk_153 0 41 (dk_at dksX1_cutUp_5 9 rfl rfl)
theorem dX1_cutUp_131 : decode cX1_cutUp 131 = .ok (.iload_n 3, 1) := dk_29 (dk_at dksX1_cutUp_5 12 rfl rfl)
theorem dX1_cutUp_132 : decode cX1_cutUp 132 = .ok (.iload_n 1, 1) := dk_27 (dk_at dksX1_cutUp_5 13 rfl rfl)
theorem dX1_cutUp_133 : decode cX1_cutUp 133 = .ok (.isub, 1) := dk_100 (dk_at dksX1_cutUp_5 14 rfl rfl)
theorem dX1_cutUp_134 : decode cX1_cutUp 134 = .ok (.bipush 6, 2) := dk_16 6 (dk_at dksX1_cutUp_5 15 rfl rfl)
theorem dX1_cutUp_136 : decode cX1_cutUp 136 = .ok (.if_icmp .ge 23, 3) := dk_162 0 23 (dk_at dksX1_cutUp_5 17 rfl rfl)
theorem dX1_cutUp_139 : decode cX1_cutUp 139 = .ok (.ldc2_w 220, 3) := dk_20 0 220 (dk_at dksX1_cutUp_5 20 rfl rfl)
theorem dX1_cutUp_142 : decode cX1_cutUp 142 = .ok (.lload 4, 2) := dk_22 4 (dk_at dksX1_cutUp_6 0 rfl rfl)
theorem dX1_cutUp_144 : decode cX1_cutUp 144 = .ok (.lmul, 1) := dk_105 (dk_at dksX1_cutUp_6 2 rfl rfl)
theorem dX1_cutUp_145 : decode cX1_cutUp 145 = .ok (.aload_n 0, 1) := dk_42 (dk_at dksX1_cutUp_6 3 rfl rfl)
theorem dX1_cutUp_146 : decode cX1_cutUp 146 = .ok (.iload_n 3, 1) := dk_29 (dk_at dksX1_cutUp_6 4 rfl rfl)
theorem dX1_cutUp_147 : decode cX1_cutUp 147 = .ok (.invokevirtual 205, 3) := dk_182 0 205 (dk_at dksX1_cutUp_6 5 rfl rfl)
theorem dX1_cutUp_150 : decode cX1_cutUp 150 = .ok (.i2l, 1) := dk_133 (dk_at dksX1_cutUp_6 8 rfl rfl)
theorem dX1_cutUp_151 : decode cX1_cutUp 151 = .ok (.ladd, 1) := dk_97 (dk_at dksX1_cutUp_6 9 rfl rfl)
theorem dX1_cutUp_152 : decode cX1_cutUp 152 = .ok (.ldc2_w 222, 3) := dk_20 0 222 (dk_at dksX1_cutUp_6 10 rfl rfl)
theorem dX1_cutUp_155 : decode cX1_cutUp 155 = .ok (.lsub, 1) := dk_101 (dk_at dksX1_cutUp_6 13 rfl rfl)
theorem dX1_cutUp_156 : decode cX1_cutUp 156 = .ok (.goto 5, 3) := dk_167 0 5 (dk_at dksX1_cutUp_6 14 rfl rfl)
theorem dX1_cutUp_159 : decode cX1_cutUp 159 = .ok (.lload 4, 2) := dk_22 4 (dk_at dksX1_cutUp_6 17 rfl rfl)
theorem dX1_cutUp_161 : decode cX1_cutUp 161 = .ok (.lstore 4, 2) := dk_55 4 (dk_at dksX1_cutUp_6 19 rfl rfl)
theorem dX1_cutUp_163 : decode cX1_cutUp 163 = .ok (.iinc 3 1, 3) := dk_132 3 1 (dk_at dksX1_cutUp_6 21 rfl rfl)
theorem dX1_cutUp_166 : decode cX1_cutUp 166 = .ok (.goto (-46), 3) := dk_167 255 210 (dk_at dksX1_cutUp_7 0 rfl rfl)
theorem dX1_cutUp_169 : decode cX1_cutUp 169 = .ok (.aload_n 0, 1) := dk_42 (dk_at dksX1_cutUp_7 3 rfl rfl)
theorem dX1_cutUp_170 : decode cX1_cutUp 170 = .ok (.iload_n 3, 1) := dk_29 (dk_at dksX1_cutUp_7 4 rfl rfl)
theorem dX1_cutUp_171 : decode cX1_cutUp 171 = .ok (.iload_n 1, 1) := dk_27 (dk_at dksX1_cutUp_7 5 rfl rfl)
theorem dX1_cutUp_172 : decode cX1_cutUp 172 = .ok (.isub, 1) := dk_100 (dk_at dksX1_cutUp_7 6 rfl rfl)
theorem dX1_cutUp_173 : decode cX1_cutUp 173 = .ok (.bipush 6, 2) := dk_16 6 (dk_at dksX1_cutUp_7 7 rfl rfl)
theorem dX1_cutUp_175 : decode cX1_cutUp 175 = .ok (.if_icmp .le 7, 3) := dk_164 0 7 (dk_at dksX1_cutUp_7 9 rfl rfl)
theorem dX1_cutUp_178 : decode cX1_cutUp 178 = .ok (.iconst 3, 1) := dk_6 (dk_at dksX1_cutUp_7 12 rfl rfl)
theorem dX1_cutUp_179 : decode cX1_cutUp 179 = .ok (.goto 4, 3) := dk_167 0 4 (dk_at dksX1_cutUp_7 13 rfl rfl)
theorem dX1_cutUp_182 : decode cX1_cutUp 182 = .ok (.iconst 1, 1) := dk_4 (dk_at dksX1_cutUp_7 16 rfl rfl)
theorem dX1_cutUp_183 : decode cX1_cutUp 183 = .ok (.iload_n 1, 1) := dk_27 (dk_at dksX1_cutUp_7 17 rfl rfl)
theorem dX1_cutUp_184 : decode cX1_cutUp 184 = .ok (.lload 4, 2) := dk_22 4 (dk_at dksX1_cutUp_7 18 rfl rfl)
theorem dX1_cutUp_186 : decode cX1_cutUp 186 = .ok (.invokevirtual 213, 3) := dk_182 0 213 (dk_at dksX1_cutUp_7 20 rfl rfl)
theorem dX1_cutUp_189 : decode cX1_cutUp 189 = .ok (.goto 50, 3) := dk_167 0 50 (dk_at dksX1_cutUp_8 0 rfl rfl)
theorem dX1_cutUp_192 : decode cX1_cutUp 192 = .ok (.iload_n 2, 1) := dk_28 (dk_at dksX1_cutUp_8 3 rfl rfl)
theorem dX1_cutUp_193 : decode cX1_cutUp 193 = .ok (.bipush 32, 2) := dk_16 32 (dk_at dksX1_cutUp_8 4 rfl rfl)
theorem dX1_cutUp_195 : decode cX1_cutUp 195 = .ok (.if_icmp .eq 44, 3) := dk_159 0 44 (dk_at dksX1_cutUp_8 6 rfl rfl)
theorem dX1_cutUp_198 : decode cX1_cutUp 198 = .ok (.iload_n 2, 1) := dk_28 (dk_at dksX1_cutUp_8 9 rfl rfl)
theorem dX1_cutUp_199 : decode cX1_cutUp 199 = .ok (.bipush 10, 2) := dk_16 10 (dk_at dksX1_cutUp_8 10 rfl rfl)
theorem dX1_cutUp_201 : decode cX1_cutUp 201 = .ok (.if_icmp .eq 38, 3) := dk_159 0 38 (dk_at dksX1_cutUp_8 12 rfl rfl)
theorem dX1_cutUp_204 : decode cX1_cutUp 204 = .ok (.aload_n 0, 1) := dk_42 (dk_at dksX1_cutUp_8 15 rfl rfl)
theorem dX1_cutUp_205 : decode cX1_cutUp 205 = .ok (.iload_n 2, 1) := dk_28 (dk_at dksX1_cutUp_8 16 rfl rfl)
theorem dX1_cutUp_206 : decode cX1_cutUp 206 = .ok (.bipush 40, 2) := dk_16 40 (dk_at dksX1_cutUp_8 17 rfl rfl)
theorem dX1_cutUp_208 : decode cX1_cutUp 208 = .ok (.if_icmp .eq 21, 3) := dk_159 0 21 (dk_at dksX1_cutUp_8 19 rfl rfl)
theorem dX1_cutUp_211 : decode cX1_cutUp 211 = .ok (.iload_n 2, 1) := dk_28 (dk_at dksX1_cutUp_8 22 rfl rfl)
theorem dX1_cutUp_212 : decode cX1_cutUp 212 = .ok (.bipush 41, 2) := dk_16 41 (dk_at dksX1_cutUp_9 0 rfl rfl)
theorem dX1_cutUp_214 : decode cX1_cutUp 214 = .ok (.if_icmp .eq 15, 3) := dk_159 0 15 (dk_at dksX1_cutUp_9 2 rfl rfl)
theorem dX1_cutUp_217 : decode cX1_cutUp 217 = .ok (.iload_n 2, 1) := dk_28 (dk_at dksX1_cutUp_9 5 rfl rfl)
theorem dX1_cutUp_218 : decode cX1_cutUp 218 = .ok (.bipush 42, 2) := dk_16 42 (dk_at dksX1_cutUp_9 6 rfl rfl)
theorem dX1_cutUp_220 : decode cX1_cutUp 220 = .ok (.if_icmp .eq 9, 3) := dk_159 0 9 (dk_at dksX1_cutUp_9 8 rfl rfl)
theorem dX1_cutUp_223 : decode cX1_cutUp 223 = .ok (.iload_n 2, 1) := dk_28 (dk_at dksX1_cutUp_9 11 rfl rfl)
theorem dX1_cutUp_224 : decode cX1_cutUp 224 = .ok (.bipush 33, 2) := dk_16 33 (dk_at dksX1_cutUp_9 12 rfl rfl)
theorem dX1_cutUp_226 : decode cX1_cutUp 226 = .ok (.if_icmp .ne 7, 3) := dk_160 0 7 (dk_at dksX1_cutUp_9 14 rfl rfl)
theorem dX1_cutUp_229 : decode cX1_cutUp 229 = .ok (.iload_n 2, 1) := dk_28 (dk_at dksX1_cutUp_9 17 rfl rfl)
theorem dX1_cutUp_230 : decode cX1_cutUp 230 = .ok (.goto 4, 3) := dk_167 0 4 (dk_at dksX1_cutUp_9 18 rfl rfl)
theorem dX1_cutUp_233 : decode cX1_cutUp 233 = .ok (.iconst 3, 1) := dk_6 (dk_at dksX1_cutUp_9 21 rfl rfl)
theorem dX1_cutUp_234 : decode cX1_cutUp 234 = .ok (.iload_n 1, 1) := dk_27 (dk_at dksX1_cutUp_9 22 rfl rfl)
theorem dX1_cutUp_235 : decode cX1_cutUp 235 = .ok (.lconst 0, 1) := dk_9 (dk_at dksX1_cutUp_9 23 rfl rfl)
theorem dX1_cutUp_236 : decode cX1_cutUp 236 = .ok (.invokevirtual 213, 3) := dk_182 0 213 (dk_at dksX1_cutUp_10 0 rfl rfl)
theorem dX1_cutUp_239 : decode cX1_cutUp 239 = .ok (.iload_n 3, 1) := dk_29 (dk_at dksX1_cutUp_10 3 rfl rfl)
theorem dX1_cutUp_240 : decode cX1_cutUp 240 = .ok (.istore_n 1, 1) := dk_60 (dk_at dksX1_cutUp_10 4 rfl rfl)
theorem dX1_cutUp_241 : decode cX1_cutUp 241 = .ok (.goto (-234), 3) := dk_167 255 22 (dk_at dksX1_cutUp_10 5 rfl rfl)
theorem dX1_cutUp_244 : decode cX1_cutUp 244 = .ok (.aload_n 0, 1) := dk_42 (dk_at dksX1_cutUp_10 8 rfl rfl)
theorem dX1_cutUp_245 : decode cX1_cutUp 245 = .ok (.iconst 0, 1) := dk_3 (dk_at dksX1_cutUp_10 9 rfl rfl)
theorem dX1_cutUp_246 : decode cX1_cutUp 246 = .ok (.aload_n 0, 1) := dk_42 (dk_at dksX1_cutUp_10 10 rfl rfl)
theorem dX1_cutUp_247 : decode cX1_cutUp 247 = .ok (.getfield 198, 3) := dk_180 0 198 (dk_at dksX1_cutUp_10 11 rfl rfl)
theorem dX1_cutUp_250 : decode cX1_cutUp 250 = .ok (.lconst 0, 1) := dk_9 (dk_at dksX1_cutUp_10 14 rfl rfl)
theorem dX1_cutUp_251 : decode cX1_cutUp 251 = .ok (.invokevirtual 213, 3) := dk_182 0 213 (dk_at dksX1_cutUp_10 15 rfl rfl)
theorem dX1_cutUp_254 : decode cX1_cutUp 254 = .ok (.return_, 1) := dk_177 (dk_at dksX1_cutUp_10 18 rfl rfl)
abbrev cX1_at : ByteArray := prog_20_method_6_code
def yX1_at : MethodName := ⟨RX1, "at", "(I)I"⟩
def dkwX1_at_0 : List UInt8 := [27, 42, 180, 0, 198, 162, 0, 16, 42, 180, 0, 7, 27, 51, 17, 0, 255, 126, 167, 0, 4, 3, 172]
abbrev dktX1_at_0 : List UInt8 := dkwX1_at_0 ++ []
theorem dksX1_at_0 : cX1_at.data.toList.drop 0 = dktX1_at_0 := by decide +kernel
theorem dX1_at_0 : decode cX1_at 0 = .ok (.iload_n 1, 1) := dk_27 (dk_at dksX1_at_0 0 rfl rfl)
theorem dX1_at_1 : decode cX1_at 1 = .ok (.aload_n 0, 1) := dk_42 (dk_at dksX1_at_0 1 rfl rfl)
theorem dX1_at_2 : decode cX1_at 2 = .ok (.getfield 198, 3) := dk_180 0 198 (dk_at dksX1_at_0 2 rfl rfl)
theorem dX1_at_5 : decode cX1_at 5 = .ok (.if_icmp .ge 16, 3) := dk_162 0 16 (dk_at dksX1_at_0 5 rfl rfl)
theorem dX1_at_8 : decode cX1_at 8 = .ok (.aload_n 0, 1) := dk_42 (dk_at dksX1_at_0 8 rfl rfl)
theorem dX1_at_9 : decode cX1_at 9 = .ok (.getfield 7, 3) := dk_180 0 7 (dk_at dksX1_at_0 9 rfl rfl)
theorem dX1_at_12 : decode cX1_at 12 = .ok (.iload_n 1, 1) := dk_27 (dk_at dksX1_at_0 12 rfl rfl)
theorem dX1_at_13 : decode cX1_at 13 = .ok (.baload, 1) := dk_51 (dk_at dksX1_at_0 13 rfl rfl)
theorem dX1_at_14 : decode cX1_at 14 = .ok (.sipush 255, 3) := dk_17 0 255 (dk_at dksX1_at_0 14 rfl rfl)
theorem dX1_at_17 : decode cX1_at 17 = .ok (.iand, 1) := dk_126 (dk_at dksX1_at_0 17 rfl rfl)
theorem dX1_at_18 : decode cX1_at 18 = .ok (.goto 4, 3) := dk_167 0 4 (dk_at dksX1_at_0 18 rfl rfl)
theorem dX1_at_21 : decode cX1_at 21 = .ok (.iconst 0, 1) := dk_3 (dk_at dksX1_at_0 21 rfl rfl)
theorem dX1_at_22 : decode cX1_at 22 = .ok (.ireturn, 1) := dk_172 (dk_at dksX1_at_0 22 rfl rfl)
abbrev cX1_isLetter : ByteArray := prog_20_method_7_code
def yX1_isLetter : MethodName := ⟨RX1, "isLetter", "(I)Z"⟩
def dkwX1_isLetter_0 : List UInt8 := [26, 16, 97, 161, 0, 13, 26, 16, 122, 163, 0, 7, 4, 167, 0, 4, 3, 172]
abbrev dktX1_isLetter_0 : List UInt8 := dkwX1_isLetter_0 ++ []
theorem dksX1_isLetter_0 : cX1_isLetter.data.toList.drop 0 = dktX1_isLetter_0 := by decide +kernel
theorem dX1_isLetter_0 : decode cX1_isLetter 0 = .ok (.iload_n 0, 1) := dk_26 (dk_at dksX1_isLetter_0 0 rfl rfl)
theorem dX1_isLetter_1 : decode cX1_isLetter 1 = .ok (.bipush 97, 2) := dk_16 97 (dk_at dksX1_isLetter_0 1 rfl rfl)
theorem dX1_isLetter_3 : decode cX1_isLetter 3 = .ok (.if_icmp .lt 13, 3) := dk_161 0 13 (dk_at dksX1_isLetter_0 3 rfl rfl)
theorem dX1_isLetter_6 : decode cX1_isLetter 6 = .ok (.iload_n 0, 1) := dk_26 (dk_at dksX1_isLetter_0 6 rfl rfl)
theorem dX1_isLetter_7 : decode cX1_isLetter 7 = .ok (.bipush 122, 2) := dk_16 122 (dk_at dksX1_isLetter_0 7 rfl rfl)
theorem dX1_isLetter_9 : decode cX1_isLetter 9 = .ok (.if_icmp .gt 7, 3) := dk_163 0 7 (dk_at dksX1_isLetter_0 9 rfl rfl)
theorem dX1_isLetter_12 : decode cX1_isLetter 12 = .ok (.iconst 1, 1) := dk_4 (dk_at dksX1_isLetter_0 12 rfl rfl)
theorem dX1_isLetter_13 : decode cX1_isLetter 13 = .ok (.goto 4, 3) := dk_167 0 4 (dk_at dksX1_isLetter_0 13 rfl rfl)
theorem dX1_isLetter_16 : decode cX1_isLetter 16 = .ok (.iconst 0, 1) := dk_3 (dk_at dksX1_isLetter_0 16 rfl rfl)
theorem dX1_isLetter_17 : decode cX1_isLetter 17 = .ok (.ireturn, 1) := dk_172 (dk_at dksX1_isLetter_0 17 rfl rfl)
abbrev cX1_addToken : ByteArray := prog_20_method_9_code
def yX1_addToken : MethodName := ⟨RX1, "addToken", "(IIJ)V"⟩
def dkwX1_addToken_1 : List UInt8 := [42, 180, 0, 202, 33, 80, 42, 89, 180, 0, 202, 4, 96, 181, 0, 202, 177]
abbrev dktX1_addToken_1 : List UInt8 := dkwX1_addToken_1 ++ []
def dkwX1_addToken_0 : List UInt8 := [42, 180, 0, 13, 42, 180, 0, 202, 27, 79, 42, 180, 0, 17, 42, 180, 0, 202, 28, 79, 42, 180, 0, 20]
abbrev dktX1_addToken_0 : List UInt8 := dkwX1_addToken_0 ++ dktX1_addToken_1
theorem dksX1_addToken_0 : cX1_addToken.data.toList.drop 0 = dktX1_addToken_0 := by decide +kernel
theorem dksX1_addToken_1 : cX1_addToken.data.toList.drop 24 = dktX1_addToken_1 := dk_seg dksX1_addToken_0 24 rfl rfl
theorem dX1_addToken_0 : decode cX1_addToken 0 = .ok (.aload_n 0, 1) := dk_42 (dk_at dksX1_addToken_0 0 rfl rfl)
theorem dX1_addToken_1 : decode cX1_addToken 1 = .ok (.getfield 13, 3) := dk_180 0 13 (dk_at dksX1_addToken_0 1 rfl rfl)
theorem dX1_addToken_4 : decode cX1_addToken 4 = .ok (.aload_n 0, 1) := dk_42 (dk_at dksX1_addToken_0 4 rfl rfl)
theorem dX1_addToken_5 : decode cX1_addToken 5 = .ok (.getfield 202, 3) := dk_180 0 202 (dk_at dksX1_addToken_0 5 rfl rfl)
theorem dX1_addToken_8 : decode cX1_addToken 8 = .ok (.iload_n 1, 1) := dk_27 (dk_at dksX1_addToken_0 8 rfl rfl)
theorem dX1_addToken_9 : decode cX1_addToken 9 = .ok (.iastore, 1) := dk_79 (dk_at dksX1_addToken_0 9 rfl rfl)
theorem dX1_addToken_10 : decode cX1_addToken 10 = .ok (.aload_n 0, 1) := dk_42 (dk_at dksX1_addToken_0 10 rfl rfl)
theorem dX1_addToken_11 : decode cX1_addToken 11 = .ok (.getfield 17, 3) := dk_180 0 17 (dk_at dksX1_addToken_0 11 rfl rfl)
theorem dX1_addToken_14 : decode cX1_addToken 14 = .ok (.aload_n 0, 1) := dk_42 (dk_at dksX1_addToken_0 14 rfl rfl)
theorem dX1_addToken_15 : decode cX1_addToken 15 = .ok (.getfield 202, 3) := dk_180 0 202 (dk_at dksX1_addToken_0 15 rfl rfl)
theorem dX1_addToken_18 : decode cX1_addToken 18 = .ok (.iload_n 2, 1) := dk_28 (dk_at dksX1_addToken_0 18 rfl rfl)
theorem dX1_addToken_19 : decode cX1_addToken 19 = .ok (.iastore, 1) := dk_79 (dk_at dksX1_addToken_0 19 rfl rfl)
theorem dX1_addToken_20 : decode cX1_addToken 20 = .ok (.aload_n 0, 1) := dk_42 (dk_at dksX1_addToken_0 20 rfl rfl)
theorem dX1_addToken_21 : decode cX1_addToken 21 = .ok (.getfield 20, 3) := dk_180 0 20 (dk_at dksX1_addToken_0 21 rfl rfl)
theorem dX1_addToken_24 : decode cX1_addToken 24 = .ok (.aload_n 0, 1) := dk_42 (dk_at dksX1_addToken_1 0 rfl rfl)
theorem dX1_addToken_25 : decode cX1_addToken 25 = .ok (.getfield 202, 3) := dk_180 0 202 (dk_at dksX1_addToken_1 1 rfl rfl)
theorem dX1_addToken_28 : decode cX1_addToken 28 = .ok (.lload_n 3, 1) := dk_33 (dk_at dksX1_addToken_1 4 rfl rfl)
theorem dX1_addToken_29 : decode cX1_addToken 29 = .ok (.lastore, 1) := dk_80 (dk_at dksX1_addToken_1 5 rfl rfl)
theorem dX1_addToken_30 : decode cX1_addToken 30 = .ok (.aload_n 0, 1) := dk_42 (dk_at dksX1_addToken_1 6 rfl rfl)
theorem dX1_addToken_31 : decode cX1_addToken 31 = .ok (.dup, 1) := dk_89 (dk_at dksX1_addToken_1 7 rfl rfl)
theorem dX1_addToken_32 : decode cX1_addToken 32 = .ok (.getfield 202, 3) := dk_180 0 202 (dk_at dksX1_addToken_1 8 rfl rfl)
theorem dX1_addToken_35 : decode cX1_addToken 35 = .ok (.iconst 1, 1) := dk_4 (dk_at dksX1_addToken_1 11 rfl rfl)
theorem dX1_addToken_36 : decode cX1_addToken 36 = .ok (.iadd, 1) := dk_96 (dk_at dksX1_addToken_1 12 rfl rfl)
theorem dX1_addToken_37 : decode cX1_addToken 37 = .ok (.putfield 202, 3) := dk_181 0 202 (dk_at dksX1_addToken_1 13 rfl rfl)
theorem dX1_addToken_40 : decode cX1_addToken 40 = .ok (.return_, 1) := dk_177 (dk_at dksX1_addToken_1 16 rfl rfl)
abbrev cX1_isDigit : ByteArray := prog_20_method_8_code
def yX1_isDigit : MethodName := ⟨RX1, "isDigit", "(I)Z"⟩
def dkwX1_isDigit_0 : List UInt8 := [26, 16, 48, 161, 0, 13, 26, 16, 57, 163, 0, 7, 4, 167, 0, 4, 3, 172]
abbrev dktX1_isDigit_0 : List UInt8 := dkwX1_isDigit_0 ++ []
theorem dksX1_isDigit_0 : cX1_isDigit.data.toList.drop 0 = dktX1_isDigit_0 := by decide +kernel
theorem dX1_isDigit_0 : decode cX1_isDigit 0 = .ok (.iload_n 0, 1) := dk_26 (dk_at dksX1_isDigit_0 0 rfl rfl)
theorem dX1_isDigit_1 : decode cX1_isDigit 1 = .ok (.bipush 48, 2) := dk_16 48 (dk_at dksX1_isDigit_0 1 rfl rfl)
theorem dX1_isDigit_3 : decode cX1_isDigit 3 = .ok (.if_icmp .lt 13, 3) := dk_161 0 13 (dk_at dksX1_isDigit_0 3 rfl rfl)
theorem dX1_isDigit_6 : decode cX1_isDigit 6 = .ok (.iload_n 0, 1) := dk_26 (dk_at dksX1_isDigit_0 6 rfl rfl)
theorem dX1_isDigit_7 : decode cX1_isDigit 7 = .ok (.bipush 57, 2) := dk_16 57 (dk_at dksX1_isDigit_0 7 rfl rfl)
theorem dX1_isDigit_9 : decode cX1_isDigit 9 = .ok (.if_icmp .gt 7, 3) := dk_163 0 7 (dk_at dksX1_isDigit_0 9 rfl rfl)
theorem dX1_isDigit_12 : decode cX1_isDigit 12 = .ok (.iconst 1, 1) := dk_4 (dk_at dksX1_isDigit_0 12 rfl rfl)
theorem dX1_isDigit_13 : decode cX1_isDigit 13 = .ok (.goto 4, 3) := dk_167 0 4 (dk_at dksX1_isDigit_0 13 rfl rfl)
theorem dX1_isDigit_16 : decode cX1_isDigit 16 = .ok (.iconst 0, 1) := dk_3 (dk_at dksX1_isDigit_0 16 rfl rfl)
theorem dX1_isDigit_17 : decode cX1_isDigit 17 = .ok (.ireturn, 1) := dk_172 (dk_at dksX1_isDigit_0 17 rfl rfl)
abbrev cX1_isRule : ByteArray := prog_20_method_19_code
def yX1_isRule : MethodName := ⟨RX1, "isRule", "()Z"⟩
def dkwX1_isRule_2 : List UInt8 := [180, 0, 20, 42, 180, 0, 227, 4, 96, 47, 20, 1, 9, 148, 154, 0, 7, 4, 167, 0, 4, 3, 172]
abbrev dktX1_isRule_2 : List UInt8 := dkwX1_isRule_2 ++ []
def dkwX1_isRule_1 : List UInt8 := [46, 5, 160, 0, 43, 42, 180, 0, 20, 42, 180, 0, 227, 4, 96, 47, 20, 1, 7, 148, 153, 0, 21, 42]
abbrev dktX1_isRule_1 : List UInt8 := dkwX1_isRule_1 ++ dktX1_isRule_2
def dkwX1_isRule_0 : List UInt8 := [42, 180, 0, 13, 42, 180, 0, 227, 46, 16, 40, 160, 0, 58, 42, 180, 0, 13, 42, 180, 0, 227, 4, 96]
abbrev dktX1_isRule_0 : List UInt8 := dkwX1_isRule_0 ++ dktX1_isRule_1
theorem dksX1_isRule_0 : cX1_isRule.data.toList.drop 0 = dktX1_isRule_0 := by decide +kernel
theorem dksX1_isRule_1 : cX1_isRule.data.toList.drop 24 = dktX1_isRule_1 := dk_seg dksX1_isRule_0 24 rfl rfl
theorem dksX1_isRule_2 : cX1_isRule.data.toList.drop 48 = dktX1_isRule_2 := dk_seg dksX1_isRule_1 24 rfl rfl
theorem dX1_isRule_0 : decode cX1_isRule 0 = .ok (.aload_n 0, 1) := dk_42 (dk_at dksX1_isRule_0 0 rfl rfl)
theorem dX1_isRule_1 : decode cX1_isRule 1 = .ok (.getfield 13, 3) := dk_180 0 13 (dk_at dksX1_isRule_0 1 rfl rfl)
theorem dX1_isRule_4 : decode cX1_isRule 4 = .ok (.aload_n 0, 1) := dk_42 (dk_at dksX1_isRule_0 4 rfl rfl)
theorem dX1_isRule_5 : decode cX1_isRule 5 = .ok (.getfield 227, 3) := dk_180 0 227 (dk_at dksX1_isRule_0 5 rfl rfl)
theorem dX1_isRule_8 : decode cX1_isRule 8 = .ok (.iaload, 1) := dk_46 (dk_at dksX1_isRule_0 8 rfl rfl)
theorem dX1_isRule_9 : decode cX1_isRule 9 = .ok (.bipush 40, 2) := dk_16 40 (dk_at dksX1_isRule_0 9 rfl rfl)
theorem dX1_isRule_11 : decode cX1_isRule 11 = .ok (.if_icmp .ne 58, 3) := dk_160 0 58 (dk_at dksX1_isRule_0 11 rfl rfl)
theorem dX1_isRule_14 : decode cX1_isRule 14 = .ok (.aload_n 0, 1) := dk_42 (dk_at dksX1_isRule_0 14 rfl rfl)
theorem dX1_isRule_15 : decode cX1_isRule 15 = .ok (.getfield 13, 3) := dk_180 0 13 (dk_at dksX1_isRule_0 15 rfl rfl)
theorem dX1_isRule_18 : decode cX1_isRule 18 = .ok (.aload_n 0, 1) := dk_42 (dk_at dksX1_isRule_0 18 rfl rfl)
theorem dX1_isRule_19 : decode cX1_isRule 19 = .ok (.getfield 227, 3) := dk_180 0 227 (dk_at dksX1_isRule_0 19 rfl rfl)
theorem dX1_isRule_22 : decode cX1_isRule 22 = .ok (.iconst 1, 1) := dk_4 (dk_at dksX1_isRule_0 22 rfl rfl)
theorem dX1_isRule_23 : decode cX1_isRule 23 = .ok (.iadd, 1) := dk_96 (dk_at dksX1_isRule_0 23 rfl rfl)
theorem dX1_isRule_24 : decode cX1_isRule 24 = .ok (.iaload, 1) := dk_46 (dk_at dksX1_isRule_1 0 rfl rfl)
theorem dX1_isRule_25 : decode cX1_isRule 25 = .ok (.iconst 2, 1) := dk_5 (dk_at dksX1_isRule_1 1 rfl rfl)
theorem dX1_isRule_26 : decode cX1_isRule 26 = .ok (.if_icmp .ne 43, 3) := dk_160 0 43 (dk_at dksX1_isRule_1 2 rfl rfl)
theorem dX1_isRule_29 : decode cX1_isRule 29 = .ok (.aload_n 0, 1) := dk_42 (dk_at dksX1_isRule_1 5 rfl rfl)
theorem dX1_isRule_30 : decode cX1_isRule 30 = .ok (.getfield 20, 3) := dk_180 0 20 (dk_at dksX1_isRule_1 6 rfl rfl)
theorem dX1_isRule_33 : decode cX1_isRule 33 = .ok (.aload_n 0, 1) := dk_42 (dk_at dksX1_isRule_1 9 rfl rfl)
theorem dX1_isRule_34 : decode cX1_isRule 34 = .ok (.getfield 227, 3) := dk_180 0 227 (dk_at dksX1_isRule_1 10 rfl rfl)
theorem dX1_isRule_37 : decode cX1_isRule 37 = .ok (.iconst 1, 1) := dk_4 (dk_at dksX1_isRule_1 13 rfl rfl)
theorem dX1_isRule_38 : decode cX1_isRule 38 = .ok (.iadd, 1) := dk_96 (dk_at dksX1_isRule_1 14 rfl rfl)
theorem dX1_isRule_39 : decode cX1_isRule 39 = .ok (.laload, 1) := dk_47 (dk_at dksX1_isRule_1 15 rfl rfl)
theorem dX1_isRule_40 : decode cX1_isRule 40 = .ok (.ldc2_w 263, 3) := dk_20 1 7 (dk_at dksX1_isRule_1 16 rfl rfl)
theorem dX1_isRule_43 : decode cX1_isRule 43 = .ok (.lcmp, 1) := dk_148 (dk_at dksX1_isRule_1 19 rfl rfl)
theorem dX1_isRule_44 : decode cX1_isRule 44 = .ok (.ifCond .eq 21, 3) := dk_153 0 21 (dk_at dksX1_isRule_1 20 rfl rfl)
theorem dX1_isRule_47 : decode cX1_isRule 47 = .ok (.aload_n 0, 1) := dk_42 (dk_at dksX1_isRule_1 23 rfl rfl)
theorem dX1_isRule_48 : decode cX1_isRule 48 = .ok (.getfield 20, 3) := dk_180 0 20 (dk_at dksX1_isRule_2 0 rfl rfl)
theorem dX1_isRule_51 : decode cX1_isRule 51 = .ok (.aload_n 0, 1) := dk_42 (dk_at dksX1_isRule_2 3 rfl rfl)
theorem dX1_isRule_52 : decode cX1_isRule 52 = .ok (.getfield 227, 3) := dk_180 0 227 (dk_at dksX1_isRule_2 4 rfl rfl)
theorem dX1_isRule_55 : decode cX1_isRule 55 = .ok (.iconst 1, 1) := dk_4 (dk_at dksX1_isRule_2 7 rfl rfl)
theorem dX1_isRule_56 : decode cX1_isRule 56 = .ok (.iadd, 1) := dk_96 (dk_at dksX1_isRule_2 8 rfl rfl)
theorem dX1_isRule_57 : decode cX1_isRule 57 = .ok (.laload, 1) := dk_47 (dk_at dksX1_isRule_2 9 rfl rfl)
theorem dX1_isRule_58 : decode cX1_isRule 58 = .ok (.ldc2_w 265, 3) := dk_20 1 9 (dk_at dksX1_isRule_2 10 rfl rfl)
theorem dX1_isRule_61 : decode cX1_isRule 61 = .ok (.lcmp, 1) := dk_148 (dk_at dksX1_isRule_2 13 rfl rfl)
theorem dX1_isRule_62 : decode cX1_isRule 62 = .ok (.ifCond .ne 7, 3) := dk_154 0 7 (dk_at dksX1_isRule_2 14 rfl rfl)
theorem dX1_isRule_65 : decode cX1_isRule 65 = .ok (.iconst 1, 1) := dk_4 (dk_at dksX1_isRule_2 17 rfl rfl)
theorem dX1_isRule_66 : decode cX1_isRule 66 = .ok (.goto 4, 3) := dk_167 0 4 (dk_at dksX1_isRule_2 18 rfl rfl)
theorem dX1_isRule_69 : decode cX1_isRule 69 = .ok (.iconst 0, 1) := dk_3 (dk_at dksX1_isRule_2 21 rfl rfl)
theorem dX1_isRule_70 : decode cX1_isRule 70 = .ok (.ireturn, 1) := dk_172 (dk_at dksX1_isRule_2 22 rfl rfl)
abbrev cX1_readRule : ByteArray := prog_20_method_20_code
def yX1_readRule : MethodName := ⟨RX1, "readRule", "()V"⟩
def dkwX1_readRule_13 : List UInt8 := [182, 0, 250, 42, 89, 180, 1, 11, 4, 96, 181, 1, 11, 177]
abbrev dktX1_readRule_13 : List UInt8 := dkwX1_readRule_13 ++ []
def dkwX1_readRule_12 : List UInt8 := [167, 0, 4, 3, 182, 0, 233, 87, 42, 180, 0, 224, 154, 0, 8, 42, 4, 182, 1, 18, 42, 16, 41]
abbrev dktX1_readRule_12 : List UInt8 := dkwX1_readRule_12 ++ dktX1_readRule_13
def dkwX1_readRule_11 : List UInt8 := [180, 0, 227, 46, 4, 159, 0, 16, 42, 180, 0, 13, 42, 180, 0, 227, 46, 5, 160, 0, 7, 4]
abbrev dktX1_readRule_11 : List UInt8 := dkwX1_readRule_11 ++ dktX1_readRule_12
def dkwX1_readRule_10 : List UInt8 := [154, 0, 53, 42, 42, 180, 0, 13, 42, 180, 0, 227, 46, 16, 40, 159, 0, 29, 42, 180, 0, 13, 42]
abbrev dktX1_readRule_10 : List UInt8 := dkwX1_readRule_10 ++ dktX1_readRule_11
def dkwX1_readRule_9 : List UInt8 := [42, 3, 182, 1, 18, 42, 180, 0, 52, 42, 180, 1, 11, 42, 180, 0, 237, 79, 42, 180, 0, 224]
abbrev dktX1_readRule_9 : List UInt8 := dkwX1_readRule_9 ++ dktX1_readRule_10
def dkwX1_readRule_8 : List UInt8 := [180, 0, 13, 42, 180, 0, 227, 46, 16, 40, 160, 0, 7, 4, 167, 0, 4, 3, 182, 0, 233, 153, 0, 8]
abbrev dktX1_readRule_8 : List UInt8 := dkwX1_readRule_8 ++ dktX1_readRule_9
def dkwX1_readRule_7 : List UInt8 := [180, 0, 227, 4, 96, 181, 0, 227, 42, 180, 0, 49, 42, 180, 1, 11, 42, 180, 0, 237, 79, 42, 42]
abbrev dktX1_readRule_7 : List UInt8 := dkwX1_readRule_7 ++ dktX1_readRule_8
def dkwX1_readRule_6 : List UInt8 := [3, 62, 42, 29, 182, 0, 233, 154, 0, 4, 177, 42, 180, 0, 42, 42, 180, 1, 11, 31, 80, 42, 89]
abbrev dktX1_readRule_6 : List UInt8 := dkwX1_readRule_6 ++ dktX1_readRule_7
def dkwX1_readRule_5 : List UInt8 := [148, 153, 0, 23, 31, 20, 1, 14, 148, 153, 0, 15, 31, 20, 1, 16, 148, 153, 0, 7, 4, 167, 0, 4]
abbrev dktX1_readRule_5 : List UInt8 := dkwX1_readRule_5 ++ dktX1_readRule_6
def dkwX1_readRule_4 : List UInt8 := [180, 0, 13, 42, 180, 0, 227, 46, 5, 160, 0, 39, 31, 20, 1, 7, 148, 153, 0, 31, 31, 20, 1, 9]
abbrev dktX1_readRule_4 : List UInt8 := dkwX1_readRule_4 ++ dktX1_readRule_5
def dkwX1_readRule_3 : List UInt8 := [84, 42, 89, 180, 0, 227, 4, 96, 181, 0, 227, 42, 180, 0, 20, 42, 180, 0, 227, 47, 64, 42]
abbrev dktX1_readRule_3 : List UInt8 := dkwX1_readRule_3 ++ dktX1_readRule_4
def dkwX1_readRule_2 : List UInt8 := [180, 1, 11, 42, 180, 0, 20, 42, 180, 0, 227, 47, 20, 1, 9, 148, 154, 0, 7, 4, 167, 0, 4, 3]
abbrev dktX1_readRule_2 : List UInt8 := dkwX1_readRule_2 ++ dktX1_readRule_3
def dkwX1_readRule_1 : List UInt8 := [153, 0, 4, 177, 42, 89, 180, 0, 227, 4, 96, 181, 0, 227, 42, 4, 181, 0, 243, 42, 180, 0, 45, 42]
abbrev dktX1_readRule_1 : List UInt8 := dkwX1_readRule_1 ++ dktX1_readRule_2
def dkwX1_readRule_0 : List UInt8 := [42, 42, 180, 1, 11, 16, 12, 162, 0, 7, 4, 167, 0, 4, 3, 182, 0, 233, 87, 42, 180, 0, 224]
abbrev dktX1_readRule_0 : List UInt8 := dkwX1_readRule_0 ++ dktX1_readRule_1
theorem dksX1_readRule_0 : cX1_readRule.data.toList.drop 0 = dktX1_readRule_0 := by decide +kernel
theorem dksX1_readRule_1 : cX1_readRule.data.toList.drop 23 = dktX1_readRule_1 := dk_seg dksX1_readRule_0 23 rfl rfl
theorem dksX1_readRule_2 : cX1_readRule.data.toList.drop 47 = dktX1_readRule_2 := dk_seg dksX1_readRule_1 24 rfl rfl
theorem dksX1_readRule_3 : cX1_readRule.data.toList.drop 71 = dktX1_readRule_3 := dk_seg dksX1_readRule_2 24 rfl rfl
theorem dksX1_readRule_4 : cX1_readRule.data.toList.drop 93 = dktX1_readRule_4 := dk_seg dksX1_readRule_3 22 rfl rfl
theorem dksX1_readRule_5 : cX1_readRule.data.toList.drop 117 = dktX1_readRule_5 := dk_seg dksX1_readRule_4 24 rfl rfl
theorem dksX1_readRule_6 : cX1_readRule.data.toList.drop 141 = dktX1_readRule_6 := dk_seg dksX1_readRule_5 24 rfl rfl
theorem dksX1_readRule_7 : cX1_readRule.data.toList.drop 164 = dktX1_readRule_7 := dk_seg dksX1_readRule_6 23 rfl rfl
theorem dksX1_readRule_8 : cX1_readRule.data.toList.drop 187 = dktX1_readRule_8 := dk_seg dksX1_readRule_7 23 rfl rfl
theorem dksX1_readRule_9 : cX1_readRule.data.toList.drop 211 = dktX1_readRule_9 := dk_seg dksX1_readRule_8 24 rfl rfl
theorem dksX1_readRule_10 : cX1_readRule.data.toList.drop 233 = dktX1_readRule_10 := dk_seg dksX1_readRule_9 22 rfl rfl
theorem dksX1_readRule_11 : cX1_readRule.data.toList.drop 256 = dktX1_readRule_11 := dk_seg dksX1_readRule_10 23 rfl rfl
theorem dksX1_readRule_12 : cX1_readRule.data.toList.drop 278 = dktX1_readRule_12 := dk_seg dksX1_readRule_11 22 rfl rfl
theorem dksX1_readRule_13 : cX1_readRule.data.toList.drop 301 = dktX1_readRule_13 := dk_seg dksX1_readRule_12 23 rfl rfl
theorem dX1_readRule_0 : decode cX1_readRule 0 = .ok (.aload_n 0, 1) := dk_42 (dk_at dksX1_readRule_0 0 rfl rfl)
theorem dX1_readRule_1 : decode cX1_readRule 1 = .ok (.aload_n 0, 1) := dk_42 (dk_at dksX1_readRule_0 1 rfl rfl)
theorem dX1_readRule_2 : decode cX1_readRule 2 = .ok (.getfield 267, 3) := dk_180 1 11 (dk_at dksX1_readRule_0 2 rfl rfl)
theorem dX1_readRule_5 : decode cX1_readRule 5 = .ok (.bipush 12, 2) := dk_16 12 (dk_at dksX1_readRule_0 5 rfl rfl)
theorem dX1_readRule_7 : decode cX1_readRule 7 = .ok (.if_icmp .ge 7, 3) := dk_162 0 7 (dk_at dksX1_readRule_0 7 rfl rfl)
theorem dX1_readRule_10 : decode cX1_readRule 10 = .ok (.iconst 1, 1) := dk_4 (dk_at dksX1_readRule_0 10 rfl rfl)
theorem dX1_readRule_11 : decode cX1_readRule 11 = .ok (.goto 4, 3) := dk_167 0 4 (dk_at dksX1_readRule_0 11 rfl rfl)
theorem dX1_readRule_14 : decode cX1_readRule 14 = .ok (.iconst 0, 1) := dk_3 (dk_at dksX1_readRule_0 14 rfl rfl)
theorem dX1_readRule_15 : decode cX1_readRule 15 = .ok (.invokevirtual 233, 3) := dk_182 0 233 (dk_at dksX1_readRule_0 15 rfl rfl)
theorem dX1_readRule_18 : decode cX1_readRule 18 = .ok (.pop, 1) := dk_87 (dk_at dksX1_readRule_0 18 rfl rfl)
theorem dX1_readRule_19 : decode cX1_readRule 19 = .ok (.aload_n 0, 1) := dk_42 (dk_at dksX1_readRule_0 19 rfl rfl)
theorem dX1_readRule_20 : decode cX1_readRule 20 = .ok (.getfield 224, 3) := dk_180 0 224 (dk_at dksX1_readRule_0 20 rfl rfl)
theorem dX1_readRule_23 : decode cX1_readRule 23 = .ok (.ifCond .eq 4, 3) := dk_153 0 4 (dk_at dksX1_readRule_1 0 rfl rfl)
theorem dX1_readRule_26 : decode cX1_readRule 26 = .ok (.return_, 1) := dk_177 (dk_at dksX1_readRule_1 3 rfl rfl)
theorem dX1_readRule_27 : decode cX1_readRule 27 = .ok (.aload_n 0, 1) := dk_42 (dk_at dksX1_readRule_1 4 rfl rfl)
theorem dX1_readRule_28 : decode cX1_readRule 28 = .ok (.dup, 1) := dk_89 (dk_at dksX1_readRule_1 5 rfl rfl)
theorem dX1_readRule_29 : decode cX1_readRule 29 = .ok (.getfield 227, 3) := dk_180 0 227 (dk_at dksX1_readRule_1 6 rfl rfl)
theorem dX1_readRule_32 : decode cX1_readRule 32 = .ok (.iconst 1, 1) := dk_4 (dk_at dksX1_readRule_1 9 rfl rfl)
theorem dX1_readRule_33 : decode cX1_readRule 33 = .ok (.iadd, 1) := dk_96 (dk_at dksX1_readRule_1 10 rfl rfl)
theorem dX1_readRule_34 : decode cX1_readRule 34 = .ok (.putfield 227, 3) := dk_181 0 227 (dk_at dksX1_readRule_1 11 rfl rfl)
theorem dX1_readRule_37 : decode cX1_readRule 37 = .ok (.aload_n 0, 1) := dk_42 (dk_at dksX1_readRule_1 14 rfl rfl)
theorem dX1_readRule_38 : decode cX1_readRule 38 = .ok (.iconst 1, 1) := dk_4 (dk_at dksX1_readRule_1 15 rfl rfl)
theorem dX1_readRule_39 : decode cX1_readRule 39 = .ok (.putfield 243, 3) := dk_181 0 243 (dk_at dksX1_readRule_1 16 rfl rfl)
theorem dX1_readRule_42 : decode cX1_readRule 42 = .ok (.aload_n 0, 1) := dk_42 (dk_at dksX1_readRule_1 19 rfl rfl)
theorem dX1_readRule_43 : decode cX1_readRule 43 = .ok (.getfield 45, 3) := dk_180 0 45 (dk_at dksX1_readRule_1 20 rfl rfl)
theorem dX1_readRule_46 : decode cX1_readRule 46 = .ok (.aload_n 0, 1) := dk_42 (dk_at dksX1_readRule_1 23 rfl rfl)
theorem dX1_readRule_47 : decode cX1_readRule 47 = .ok (.getfield 267, 3) := dk_180 1 11 (dk_at dksX1_readRule_2 0 rfl rfl)
theorem dX1_readRule_50 : decode cX1_readRule 50 = .ok (.aload_n 0, 1) := dk_42 (dk_at dksX1_readRule_2 3 rfl rfl)
theorem dX1_readRule_51 : decode cX1_readRule 51 = .ok (.getfield 20, 3) := dk_180 0 20 (dk_at dksX1_readRule_2 4 rfl rfl)
theorem dX1_readRule_54 : decode cX1_readRule 54 = .ok (.aload_n 0, 1) := dk_42 (dk_at dksX1_readRule_2 7 rfl rfl)
theorem dX1_readRule_55 : decode cX1_readRule 55 = .ok (.getfield 227, 3) := dk_180 0 227 (dk_at dksX1_readRule_2 8 rfl rfl)
theorem dX1_readRule_58 : decode cX1_readRule 58 = .ok (.laload, 1) := dk_47 (dk_at dksX1_readRule_2 11 rfl rfl)
theorem dX1_readRule_59 : decode cX1_readRule 59 = .ok (.ldc2_w 265, 3) := dk_20 1 9 (dk_at dksX1_readRule_2 12 rfl rfl)
theorem dX1_readRule_62 : decode cX1_readRule 62 = .ok (.lcmp, 1) := dk_148 (dk_at dksX1_readRule_2 15 rfl rfl)
theorem dX1_readRule_63 : decode cX1_readRule 63 = .ok (.ifCond .ne 7, 3) := dk_154 0 7 (dk_at dksX1_readRule_2 16 rfl rfl)
theorem dX1_readRule_66 : decode cX1_readRule 66 = .ok (.iconst 1, 1) := dk_4 (dk_at dksX1_readRule_2 19 rfl rfl)
theorem dX1_readRule_67 : decode cX1_readRule 67 = .ok (.goto 4, 3) := dk_167 0 4 (dk_at dksX1_readRule_2 20 rfl rfl)
theorem dX1_readRule_70 : decode cX1_readRule 70 = .ok (.iconst 0, 1) := dk_3 (dk_at dksX1_readRule_2 23 rfl rfl)
theorem dX1_readRule_71 : decode cX1_readRule 71 = .ok (.bastore, 1) := dk_84 (dk_at dksX1_readRule_3 0 rfl rfl)
theorem dX1_readRule_72 : decode cX1_readRule 72 = .ok (.aload_n 0, 1) := dk_42 (dk_at dksX1_readRule_3 1 rfl rfl)
theorem dX1_readRule_73 : decode cX1_readRule 73 = .ok (.dup, 1) := dk_89 (dk_at dksX1_readRule_3 2 rfl rfl)
theorem dX1_readRule_74 : decode cX1_readRule 74 = .ok (.getfield 227, 3) := dk_180 0 227 (dk_at dksX1_readRule_3 3 rfl rfl)
theorem dX1_readRule_77 : decode cX1_readRule 77 = .ok (.iconst 1, 1) := dk_4 (dk_at dksX1_readRule_3 6 rfl rfl)
theorem dX1_readRule_78 : decode cX1_readRule 78 = .ok (.iadd, 1) := dk_96 (dk_at dksX1_readRule_3 7 rfl rfl)
theorem dX1_readRule_79 : decode cX1_readRule 79 = .ok (.putfield 227, 3) := dk_181 0 227 (dk_at dksX1_readRule_3 8 rfl rfl)
theorem dX1_readRule_82 : decode cX1_readRule 82 = .ok (.aload_n 0, 1) := dk_42 (dk_at dksX1_readRule_3 11 rfl rfl)
theorem dX1_readRule_83 : decode cX1_readRule 83 = .ok (.getfield 20, 3) := dk_180 0 20 (dk_at dksX1_readRule_3 12 rfl rfl)
theorem dX1_readRule_86 : decode cX1_readRule 86 = .ok (.aload_n 0, 1) := dk_42 (dk_at dksX1_readRule_3 15 rfl rfl)
theorem dX1_readRule_87 : decode cX1_readRule 87 = .ok (.getfield 227, 3) := dk_180 0 227 (dk_at dksX1_readRule_3 16 rfl rfl)
theorem dX1_readRule_90 : decode cX1_readRule 90 = .ok (.laload, 1) := dk_47 (dk_at dksX1_readRule_3 19 rfl rfl)
theorem dX1_readRule_91 : decode cX1_readRule 91 = .ok (.lstore_n 1, 1) := dk_64 (dk_at dksX1_readRule_3 20 rfl rfl)
theorem dX1_readRule_92 : decode cX1_readRule 92 = .ok (.aload_n 0, 1) := dk_42 (dk_at dksX1_readRule_3 21 rfl rfl)
theorem dX1_readRule_93 : decode cX1_readRule 93 = .ok (.getfield 13, 3) := dk_180 0 13 (dk_at dksX1_readRule_4 0 rfl rfl)
theorem dX1_readRule_96 : decode cX1_readRule 96 = .ok (.aload_n 0, 1) := dk_42 (dk_at dksX1_readRule_4 3 rfl rfl)
theorem dX1_readRule_97 : decode cX1_readRule 97 = .ok (.getfield 227, 3) := dk_180 0 227 (dk_at dksX1_readRule_4 4 rfl rfl)
theorem dX1_readRule_100 : decode cX1_readRule 100 = .ok (.iaload, 1) := dk_46 (dk_at dksX1_readRule_4 7 rfl rfl)
theorem dX1_readRule_101 : decode cX1_readRule 101 = .ok (.iconst 2, 1) := dk_5 (dk_at dksX1_readRule_4 8 rfl rfl)
theorem dX1_readRule_102 : decode cX1_readRule 102 = .ok (.if_icmp .ne 39, 3) := dk_160 0 39 (dk_at dksX1_readRule_4 9 rfl rfl)
theorem dX1_readRule_105 : decode cX1_readRule 105 = .ok (.lload_n 1, 1) := dk_31 (dk_at dksX1_readRule_4 12 rfl rfl)
theorem dX1_readRule_106 : decode cX1_readRule 106 = .ok (.ldc2_w 263, 3) := dk_20 1 7 (dk_at dksX1_readRule_4 13 rfl rfl)
theorem dX1_readRule_109 : decode cX1_readRule 109 = .ok (.lcmp, 1) := dk_148 (dk_at dksX1_readRule_4 16 rfl rfl)
theorem dX1_readRule_110 : decode cX1_readRule 110 = .ok (.ifCond .eq 31, 3) := dk_153 0 31 (dk_at dksX1_readRule_4 17 rfl rfl)
theorem dX1_readRule_113 : decode cX1_readRule 113 = .ok (.lload_n 1, 1) := dk_31 (dk_at dksX1_readRule_4 20 rfl rfl)
theorem dX1_readRule_114 : decode cX1_readRule 114 = .ok (.ldc2_w 265, 3) := dk_20 1 9 (dk_at dksX1_readRule_4 21 rfl rfl)
theorem dX1_readRule_117 : decode cX1_readRule 117 = .ok (.lcmp, 1) := dk_148 (dk_at dksX1_readRule_5 0 rfl rfl)
theorem dX1_readRule_118 : decode cX1_readRule 118 = .ok (.ifCond .eq 23, 3) := dk_153 0 23 (dk_at dksX1_readRule_5 1 rfl rfl)
theorem dX1_readRule_121 : decode cX1_readRule 121 = .ok (.lload_n 1, 1) := dk_31 (dk_at dksX1_readRule_5 4 rfl rfl)
theorem dX1_readRule_122 : decode cX1_readRule 122 = .ok (.ldc2_w 270, 3) := dk_20 1 14 (dk_at dksX1_readRule_5 5 rfl rfl)
theorem dX1_readRule_125 : decode cX1_readRule 125 = .ok (.lcmp, 1) := dk_148 (dk_at dksX1_readRule_5 8 rfl rfl)
theorem dX1_readRule_126 : decode cX1_readRule 126 = .ok (.ifCond .eq 15, 3) := dk_153 0 15 (dk_at dksX1_readRule_5 9 rfl rfl)
theorem dX1_readRule_129 : decode cX1_readRule 129 = .ok (.lload_n 1, 1) := dk_31 (dk_at dksX1_readRule_5 12 rfl rfl)
theorem dX1_readRule_130 : decode cX1_readRule 130 = .ok (.ldc2_w 272, 3) := dk_20 1 16 (dk_at dksX1_readRule_5 13 rfl rfl)
theorem dX1_readRule_133 : decode cX1_readRule 133 = .ok (.lcmp, 1) := dk_148 (dk_at dksX1_readRule_5 16 rfl rfl)
theorem dX1_readRule_134 : decode cX1_readRule 134 = .ok (.ifCond .eq 7, 3) := dk_153 0 7 (dk_at dksX1_readRule_5 17 rfl rfl)
theorem dX1_readRule_137 : decode cX1_readRule 137 = .ok (.iconst 1, 1) := dk_4 (dk_at dksX1_readRule_5 20 rfl rfl)
theorem dX1_readRule_138 : decode cX1_readRule 138 = .ok (.goto 4, 3) := dk_167 0 4 (dk_at dksX1_readRule_5 21 rfl rfl)
theorem dX1_readRule_141 : decode cX1_readRule 141 = .ok (.iconst 0, 1) := dk_3 (dk_at dksX1_readRule_6 0 rfl rfl)
theorem dX1_readRule_142 : decode cX1_readRule 142 = .ok (.istore_n 3, 1) := dk_62 (dk_at dksX1_readRule_6 1 rfl rfl)
theorem dX1_readRule_143 : decode cX1_readRule 143 = .ok (.aload_n 0, 1) := dk_42 (dk_at dksX1_readRule_6 2 rfl rfl)
theorem dX1_readRule_144 : decode cX1_readRule 144 = .ok (.iload_n 3, 1) := dk_29 (dk_at dksX1_readRule_6 3 rfl rfl)
theorem dX1_readRule_145 : decode cX1_readRule 145 = .ok (.invokevirtual 233, 3) := dk_182 0 233 (dk_at dksX1_readRule_6 4 rfl rfl)
theorem dX1_readRule_148 : decode cX1_readRule 148 = .ok (.ifCond .ne 4, 3) := dk_154 0 4 (dk_at dksX1_readRule_6 7 rfl rfl)
theorem dX1_readRule_151 : decode cX1_readRule 151 = .ok (.return_, 1) := dk_177 (dk_at dksX1_readRule_6 10 rfl rfl)
theorem dX1_readRule_152 : decode cX1_readRule 152 = .ok (.aload_n 0, 1) := dk_42 (dk_at dksX1_readRule_6 11 rfl rfl)
theorem dX1_readRule_153 : decode cX1_readRule 153 = .ok (.getfield 42, 3) := dk_180 0 42 (dk_at dksX1_readRule_6 12 rfl rfl)
theorem dX1_readRule_156 : decode cX1_readRule 156 = .ok (.aload_n 0, 1) := dk_42 (dk_at dksX1_readRule_6 15 rfl rfl)
theorem dX1_readRule_157 : decode cX1_readRule 157 = .ok (.getfield 267, 3) := dk_180 1 11 (dk_at dksX1_readRule_6 16 rfl rfl)
theorem dX1_readRule_160 : decode cX1_readRule 160 = .ok (.lload_n 1, 1) := dk_31 (dk_at dksX1_readRule_6 19 rfl rfl)
theorem dX1_readRule_161 : decode cX1_readRule 161 = .ok (.lastore, 1) := dk_80 (dk_at dksX1_readRule_6 20 rfl rfl)
theorem dX1_readRule_162 : decode cX1_readRule 162 = .ok (.aload_n 0, 1) := dk_42 (dk_at dksX1_readRule_6 21 rfl rfl)
theorem dX1_readRule_163 : decode cX1_readRule 163 = .ok (.dup, 1) := dk_89 (dk_at dksX1_readRule_6 22 rfl rfl)
theorem dX1_readRule_164 : decode cX1_readRule 164 = .ok (.getfield 227, 3) := dk_180 0 227 (dk_at dksX1_readRule_7 0 rfl rfl)
theorem dX1_readRule_167 : decode cX1_readRule 167 = .ok (.iconst 1, 1) := dk_4 (dk_at dksX1_readRule_7 3 rfl rfl)
theorem dX1_readRule_168 : decode cX1_readRule 168 = .ok (.iadd, 1) := dk_96 (dk_at dksX1_readRule_7 4 rfl rfl)
theorem dX1_readRule_169 : decode cX1_readRule 169 = .ok (.putfield 227, 3) := dk_181 0 227 (dk_at dksX1_readRule_7 5 rfl rfl)
theorem dX1_readRule_172 : decode cX1_readRule 172 = .ok (.aload_n 0, 1) := dk_42 (dk_at dksX1_readRule_7 8 rfl rfl)
theorem dX1_readRule_173 : decode cX1_readRule 173 = .ok (.getfield 49, 3) := dk_180 0 49 (dk_at dksX1_readRule_7 9 rfl rfl)
theorem dX1_readRule_176 : decode cX1_readRule 176 = .ok (.aload_n 0, 1) := dk_42 (dk_at dksX1_readRule_7 12 rfl rfl)
theorem dX1_readRule_177 : decode cX1_readRule 177 = .ok (.getfield 267, 3) := dk_180 1 11 (dk_at dksX1_readRule_7 13 rfl rfl)
theorem dX1_readRule_180 : decode cX1_readRule 180 = .ok (.aload_n 0, 1) := dk_42 (dk_at dksX1_readRule_7 16 rfl rfl)
theorem dX1_readRule_181 : decode cX1_readRule 181 = .ok (.getfield 237, 3) := dk_180 0 237 (dk_at dksX1_readRule_7 17 rfl rfl)
theorem dX1_readRule_184 : decode cX1_readRule 184 = .ok (.iastore, 1) := dk_79 (dk_at dksX1_readRule_7 20 rfl rfl)
theorem dX1_readRule_185 : decode cX1_readRule 185 = .ok (.aload_n 0, 1) := dk_42 (dk_at dksX1_readRule_7 21 rfl rfl)
theorem dX1_readRule_186 : decode cX1_readRule 186 = .ok (.aload_n 0, 1) := dk_42 (dk_at dksX1_readRule_7 22 rfl rfl)
theorem dX1_readRule_187 : decode cX1_readRule 187 = .ok (.getfield 13, 3) := dk_180 0 13 (dk_at dksX1_readRule_8 0 rfl rfl)
theorem dX1_readRule_190 : decode cX1_readRule 190 = .ok (.aload_n 0, 1) := dk_42 (dk_at dksX1_readRule_8 3 rfl rfl)
theorem dX1_readRule_191 : decode cX1_readRule 191 = .ok (.getfield 227, 3) := dk_180 0 227 (dk_at dksX1_readRule_8 4 rfl rfl)
theorem dX1_readRule_194 : decode cX1_readRule 194 = .ok (.iaload, 1) := dk_46 (dk_at dksX1_readRule_8 7 rfl rfl)
theorem dX1_readRule_195 : decode cX1_readRule 195 = .ok (.bipush 40, 2) := dk_16 40 (dk_at dksX1_readRule_8 8 rfl rfl)
theorem dX1_readRule_197 : decode cX1_readRule 197 = .ok (.if_icmp .ne 7, 3) := dk_160 0 7 (dk_at dksX1_readRule_8 10 rfl rfl)
theorem dX1_readRule_200 : decode cX1_readRule 200 = .ok (.iconst 1, 1) := dk_4 (dk_at dksX1_readRule_8 13 rfl rfl)
theorem dX1_readRule_201 : decode cX1_readRule 201 = .ok (.goto 4, 3) := dk_167 0 4 (dk_at dksX1_readRule_8 14 rfl rfl)
theorem dX1_readRule_204 : decode cX1_readRule 204 = .ok (.iconst 0, 1) := dk_3 (dk_at dksX1_readRule_8 17 rfl rfl)
theorem dX1_readRule_205 : decode cX1_readRule 205 = .ok (.invokevirtual 233, 3) := dk_182 0 233 (dk_at dksX1_readRule_8 18 rfl rfl)
theorem dX1_readRule_208 : decode cX1_readRule 208 = .ok (.ifCond .eq 8, 3) := dk_153 0 8 (dk_at dksX1_readRule_8 21 rfl rfl)
theorem dX1_readRule_211 : decode cX1_readRule 211 = .ok (.aload_n 0, 1) := dk_42 (dk_at dksX1_readRule_9 0 rfl rfl)
theorem dX1_readRule_212 : decode cX1_readRule 212 = .ok (.iconst 0, 1) := dk_3 (dk_at dksX1_readRule_9 1 rfl rfl)
theorem dX1_readRule_213 : decode cX1_readRule 213 = .ok (.invokevirtual 274, 3) := dk_182 1 18 (dk_at dksX1_readRule_9 2 rfl rfl)
theorem dX1_readRule_216 : decode cX1_readRule 216 = .ok (.aload_n 0, 1) := dk_42 (dk_at dksX1_readRule_9 5 rfl rfl)
theorem dX1_readRule_217 : decode cX1_readRule 217 = .ok (.getfield 52, 3) := dk_180 0 52 (dk_at dksX1_readRule_9 6 rfl rfl)
theorem dX1_readRule_220 : decode cX1_readRule 220 = .ok (.aload_n 0, 1) := dk_42 (dk_at dksX1_readRule_9 9 rfl rfl)
theorem dX1_readRule_221 : decode cX1_readRule 221 = .ok (.getfield 267, 3) := dk_180 1 11 (dk_at dksX1_readRule_9 10 rfl rfl)
theorem dX1_readRule_224 : decode cX1_readRule 224 = .ok (.aload_n 0, 1) := dk_42 (dk_at dksX1_readRule_9 13 rfl rfl)
theorem dX1_readRule_225 : decode cX1_readRule 225 = .ok (.getfield 237, 3) := dk_180 0 237 (dk_at dksX1_readRule_9 14 rfl rfl)
theorem dX1_readRule_228 : decode cX1_readRule 228 = .ok (.iastore, 1) := dk_79 (dk_at dksX1_readRule_9 17 rfl rfl)
theorem dX1_readRule_229 : decode cX1_readRule 229 = .ok (.aload_n 0, 1) := dk_42 (dk_at dksX1_readRule_9 18 rfl rfl)
theorem dX1_readRule_230 : decode cX1_readRule 230 = .ok (.getfield 224, 3) := dk_180 0 224 (dk_at dksX1_readRule_9 19 rfl rfl)
theorem dX1_readRule_233 : decode cX1_readRule 233 = .ok (.ifCond .ne 53, 3) := dk_154 0 53 (dk_at dksX1_readRule_10 0 rfl rfl)
theorem dX1_readRule_236 : decode cX1_readRule 236 = .ok (.aload_n 0, 1) := dk_42 (dk_at dksX1_readRule_10 3 rfl rfl)
theorem dX1_readRule_237 : decode cX1_readRule 237 = .ok (.aload_n 0, 1) := dk_42 (dk_at dksX1_readRule_10 4 rfl rfl)
theorem dX1_readRule_238 : decode cX1_readRule 238 = .ok (.getfield 13, 3) := dk_180 0 13 (dk_at dksX1_readRule_10 5 rfl rfl)
theorem dX1_readRule_241 : decode cX1_readRule 241 = .ok (.aload_n 0, 1) := dk_42 (dk_at dksX1_readRule_10 8 rfl rfl)
theorem dX1_readRule_242 : decode cX1_readRule 242 = .ok (.getfield 227, 3) := dk_180 0 227 (dk_at dksX1_readRule_10 9 rfl rfl)
theorem dX1_readRule_245 : decode cX1_readRule 245 = .ok (.iaload, 1) := dk_46 (dk_at dksX1_readRule_10 12 rfl rfl)
theorem dX1_readRule_246 : decode cX1_readRule 246 = .ok (.bipush 40, 2) := dk_16 40 (dk_at dksX1_readRule_10 13 rfl rfl)
theorem dX1_readRule_248 : decode cX1_readRule 248 = .ok (.if_icmp .eq 29, 3) := dk_159 0 29 (dk_at dksX1_readRule_10 15 rfl rfl)
theorem dX1_readRule_251 : decode cX1_readRule 251 = .ok (.aload_n 0, 1) := dk_42 (dk_at dksX1_readRule_10 18 rfl rfl)
theorem dX1_readRule_252 : decode cX1_readRule 252 = .ok (.getfield 13, 3) := dk_180 0 13 (dk_at dksX1_readRule_10 19 rfl rfl)
theorem dX1_readRule_255 : decode cX1_readRule 255 = .ok (.aload_n 0, 1) := dk_42 (dk_at dksX1_readRule_10 22 rfl rfl)
theorem dX1_readRule_256 : decode cX1_readRule 256 = .ok (.getfield 227, 3) := dk_180 0 227 (dk_at dksX1_readRule_11 0 rfl rfl)
theorem dX1_readRule_259 : decode cX1_readRule 259 = .ok (.iaload, 1) := dk_46 (dk_at dksX1_readRule_11 3 rfl rfl)
theorem dX1_readRule_260 : decode cX1_readRule 260 = .ok (.iconst 1, 1) := dk_4 (dk_at dksX1_readRule_11 4 rfl rfl)
theorem dX1_readRule_261 : decode cX1_readRule 261 = .ok (.if_icmp .eq 16, 3) := dk_159 0 16 (dk_at dksX1_readRule_11 5 rfl rfl)
theorem dX1_readRule_264 : decode cX1_readRule 264 = .ok (.aload_n 0, 1) := dk_42 (dk_at dksX1_readRule_11 8 rfl rfl)
theorem dX1_readRule_265 : decode cX1_readRule 265 = .ok (.getfield 13, 3) := dk_180 0 13 (dk_at dksX1_readRule_11 9 rfl rfl)
theorem dX1_readRule_268 : decode cX1_readRule 268 = .ok (.aload_n 0, 1) := dk_42 (dk_at dksX1_readRule_11 12 rfl rfl)
theorem dX1_readRule_269 : decode cX1_readRule 269 = .ok (.getfield 227, 3) := dk_180 0 227 (dk_at dksX1_readRule_11 13 rfl rfl)
theorem dX1_readRule_272 : decode cX1_readRule 272 = .ok (.iaload, 1) := dk_46 (dk_at dksX1_readRule_11 16 rfl rfl)
theorem dX1_readRule_273 : decode cX1_readRule 273 = .ok (.iconst 2, 1) := dk_5 (dk_at dksX1_readRule_11 17 rfl rfl)
theorem dX1_readRule_274 : decode cX1_readRule 274 = .ok (.if_icmp .ne 7, 3) := dk_160 0 7 (dk_at dksX1_readRule_11 18 rfl rfl)
theorem dX1_readRule_277 : decode cX1_readRule 277 = .ok (.iconst 1, 1) := dk_4 (dk_at dksX1_readRule_11 21 rfl rfl)
theorem dX1_readRule_278 : decode cX1_readRule 278 = .ok (.goto 4, 3) := dk_167 0 4 (dk_at dksX1_readRule_12 0 rfl rfl)
theorem dX1_readRule_281 : decode cX1_readRule 281 = .ok (.iconst 0, 1) := dk_3 (dk_at dksX1_readRule_12 3 rfl rfl)
theorem dX1_readRule_282 : decode cX1_readRule 282 = .ok (.invokevirtual 233, 3) := dk_182 0 233 (dk_at dksX1_readRule_12 4 rfl rfl)
theorem dX1_readRule_285 : decode cX1_readRule 285 = .ok (.pop, 1) := dk_87 (dk_at dksX1_readRule_12 7 rfl rfl)
theorem dX1_readRule_286 : decode cX1_readRule 286 = .ok (.aload_n 0, 1) := dk_42 (dk_at dksX1_readRule_12 8 rfl rfl)
theorem dX1_readRule_287 : decode cX1_readRule 287 = .ok (.getfield 224, 3) := dk_180 0 224 (dk_at dksX1_readRule_12 9 rfl rfl)
theorem dX1_readRule_290 : decode cX1_readRule 290 = .ok (.ifCond .ne 8, 3) := dk_154 0 8 (dk_at dksX1_readRule_12 12 rfl rfl)
theorem dX1_readRule_293 : decode cX1_readRule 293 = .ok (.aload_n 0, 1) := dk_42 (dk_at dksX1_readRule_12 15 rfl rfl)
theorem dX1_readRule_294 : decode cX1_readRule 294 = .ok (.iconst 1, 1) := dk_4 (dk_at dksX1_readRule_12 16 rfl rfl)
theorem dX1_readRule_295 : decode cX1_readRule 295 = .ok (.invokevirtual 274, 3) := dk_182 1 18 (dk_at dksX1_readRule_12 17 rfl rfl)
theorem dX1_readRule_298 : decode cX1_readRule 298 = .ok (.aload_n 0, 1) := dk_42 (dk_at dksX1_readRule_12 20 rfl rfl)
theorem dX1_readRule_299 : decode cX1_readRule 299 = .ok (.bipush 41, 2) := dk_16 41 (dk_at dksX1_readRule_12 21 rfl rfl)
theorem dX1_readRule_301 : decode cX1_readRule 301 = .ok (.invokevirtual 250, 3) := dk_182 0 250 (dk_at dksX1_readRule_13 0 rfl rfl)
theorem dX1_readRule_304 : decode cX1_readRule 304 = .ok (.aload_n 0, 1) := dk_42 (dk_at dksX1_readRule_13 3 rfl rfl)
theorem dX1_readRule_305 : decode cX1_readRule 305 = .ok (.dup, 1) := dk_89 (dk_at dksX1_readRule_13 4 rfl rfl)
theorem dX1_readRule_306 : decode cX1_readRule 306 = .ok (.getfield 267, 3) := dk_180 1 11 (dk_at dksX1_readRule_13 5 rfl rfl)
theorem dX1_readRule_309 : decode cX1_readRule 309 = .ok (.iconst 1, 1) := dk_4 (dk_at dksX1_readRule_13 8 rfl rfl)
theorem dX1_readRule_310 : decode cX1_readRule 310 = .ok (.iadd, 1) := dk_96 (dk_at dksX1_readRule_13 9 rfl rfl)
theorem dX1_readRule_311 : decode cX1_readRule 311 = .ok (.putfield 267, 3) := dk_181 1 11 (dk_at dksX1_readRule_13 10 rfl rfl)
theorem dX1_readRule_314 : decode cX1_readRule 314 = .ok (.return_, 1) := dk_177 (dk_at dksX1_readRule_13 13 rfl rfl)
abbrev cX1_must : ByteArray := prog_20_method_12_code
def yX1_must : MethodName := ⟨RX1, "must", "(Z)Z"⟩
def dkwX1_must_1 : List UInt8 := [180, 0, 227, 46, 181, 0, 230, 42, 180, 0, 224, 154, 0, 7, 4, 167, 0, 4, 3, 172]
abbrev dktX1_must_1 : List UInt8 := dkwX1_must_1 ++ []
def dkwX1_must_0 : List UInt8 := [27, 154, 0, 28, 42, 180, 0, 224, 154, 0, 21, 42, 4, 181, 0, 224, 42, 42, 180, 0, 17, 42]
abbrev dktX1_must_0 : List UInt8 := dkwX1_must_0 ++ dktX1_must_1
theorem dksX1_must_0 : cX1_must.data.toList.drop 0 = dktX1_must_0 := by decide +kernel
theorem dksX1_must_1 : cX1_must.data.toList.drop 22 = dktX1_must_1 := dk_seg dksX1_must_0 22 rfl rfl
theorem dX1_must_0 : decode cX1_must 0 = .ok (.iload_n 1, 1) := dk_27 (dk_at dksX1_must_0 0 rfl rfl)
theorem dX1_must_1 : decode cX1_must 1 = .ok (.ifCond .ne 28, 3) := dk_154 0 28 (dk_at dksX1_must_0 1 rfl rfl)
theorem dX1_must_4 : decode cX1_must 4 = .ok (.aload_n 0, 1) := dk_42 (dk_at dksX1_must_0 4 rfl rfl)
theorem dX1_must_5 : decode cX1_must 5 = .ok (.getfield 224, 3) := dk_180 0 224 (dk_at dksX1_must_0 5 rfl rfl)
theorem dX1_must_8 : decode cX1_must 8 = .ok (.ifCond .ne 21, 3) := dk_154 0 21 (dk_at dksX1_must_0 8 rfl rfl)
theorem dX1_must_11 : decode cX1_must 11 = .ok (.aload_n 0, 1) := dk_42 (dk_at dksX1_must_0 11 rfl rfl)
theorem dX1_must_12 : decode cX1_must 12 = .ok (.iconst 1, 1) := dk_4 (dk_at dksX1_must_0 12 rfl rfl)
theorem dX1_must_13 : decode cX1_must 13 = .ok (.putfield 224, 3) := dk_181 0 224 (dk_at dksX1_must_0 13 rfl rfl)
theorem dX1_must_16 : decode cX1_must 16 = .ok (.aload_n 0, 1) := dk_42 (dk_at dksX1_must_0 16 rfl rfl)
theorem dX1_must_17 : decode cX1_must 17 = .ok (.aload_n 0, 1) := dk_42 (dk_at dksX1_must_0 17 rfl rfl)
theorem dX1_must_18 : decode cX1_must 18 = .ok (.getfield 17, 3) := dk_180 0 17 (dk_at dksX1_must_0 18 rfl rfl)
theorem dX1_must_21 : decode cX1_must 21 = .ok (.aload_n 0, 1) := dk_42 (dk_at dksX1_must_0 21 rfl rfl)
theorem dX1_must_22 : decode cX1_must 22 = .ok (.getfield 227, 3) := dk_180 0 227 (dk_at dksX1_must_1 0 rfl rfl)
theorem dX1_must_25 : decode cX1_must 25 = .ok (.iaload, 1) := dk_46 (dk_at dksX1_must_1 3 rfl rfl)
theorem dX1_must_26 : decode cX1_must 26 = .ok (.putfield 230, 3) := dk_181 0 230 (dk_at dksX1_must_1 4 rfl rfl)
theorem dX1_must_29 : decode cX1_must 29 = .ok (.aload_n 0, 1) := dk_42 (dk_at dksX1_must_1 7 rfl rfl)
theorem dX1_must_30 : decode cX1_must 30 = .ok (.getfield 224, 3) := dk_180 0 224 (dk_at dksX1_must_1 8 rfl rfl)
theorem dX1_must_33 : decode cX1_must 33 = .ok (.ifCond .ne 7, 3) := dk_154 0 7 (dk_at dksX1_must_1 11 rfl rfl)
theorem dX1_must_36 : decode cX1_must 36 = .ok (.iconst 1, 1) := dk_4 (dk_at dksX1_must_1 14 rfl rfl)
theorem dX1_must_37 : decode cX1_must 37 = .ok (.goto 4, 3) := dk_167 0 4 (dk_at dksX1_must_1 15 rfl rfl)
theorem dX1_must_40 : decode cX1_must 40 = .ok (.iconst 0, 1) := dk_3 (dk_at dksX1_must_1 18 rfl rfl)
theorem dX1_must_41 : decode cX1_must 41 = .ok (.ireturn, 1) := dk_172 (dk_at dksX1_must_1 19 rfl rfl)
abbrev cX1_readWhole : ByteArray := prog_20_method_18_code
def yX1_readWhole : MethodName := ⟨RX1, "readWhole", "(I)V"⟩
def dkwX1_readWhole_1 : List UInt8 := [42, 27, 182, 1, 4, 167, 255, 237, 177]
abbrev dktX1_readWhole_1 : List UInt8 := dkwX1_readWhole_1 ++ []
def dkwX1_readWhole_0 : List UInt8 := [42, 3, 181, 0, 240, 42, 27, 182, 1, 4, 42, 180, 0, 224, 154, 0, 18, 42, 180, 0, 240, 158, 0, 11]
abbrev dktX1_readWhole_0 : List UInt8 := dkwX1_readWhole_0 ++ dktX1_readWhole_1
theorem dksX1_readWhole_0 : cX1_readWhole.data.toList.drop 0 = dktX1_readWhole_0 := by decide +kernel
theorem dksX1_readWhole_1 : cX1_readWhole.data.toList.drop 24 = dktX1_readWhole_1 := dk_seg dksX1_readWhole_0 24 rfl rfl
theorem dX1_readWhole_0 : decode cX1_readWhole 0 = .ok (.aload_n 0, 1) := dk_42 (dk_at dksX1_readWhole_0 0 rfl rfl)
theorem dX1_readWhole_1 : decode cX1_readWhole 1 = .ok (.iconst 0, 1) := dk_3 (dk_at dksX1_readWhole_0 1 rfl rfl)
theorem dX1_readWhole_2 : decode cX1_readWhole 2 = .ok (.putfield 240, 3) := dk_181 0 240 (dk_at dksX1_readWhole_0 2 rfl rfl)
theorem dX1_readWhole_5 : decode cX1_readWhole 5 = .ok (.aload_n 0, 1) := dk_42 (dk_at dksX1_readWhole_0 5 rfl rfl)
theorem dX1_readWhole_6 : decode cX1_readWhole 6 = .ok (.iload_n 1, 1) := dk_27 (dk_at dksX1_readWhole_0 6 rfl rfl)
theorem dX1_readWhole_7 : decode cX1_readWhole 7 = .ok (.invokevirtual 260, 3) := dk_182 1 4 (dk_at dksX1_readWhole_0 7 rfl rfl)
theorem dX1_readWhole_10 : decode cX1_readWhole 10 = .ok (.aload_n 0, 1) := dk_42 (dk_at dksX1_readWhole_0 10 rfl rfl)
theorem dX1_readWhole_11 : decode cX1_readWhole 11 = .ok (.getfield 224, 3) := dk_180 0 224 (dk_at dksX1_readWhole_0 11 rfl rfl)
theorem dX1_readWhole_14 : decode cX1_readWhole 14 = .ok (.ifCond .ne 18, 3) := dk_154 0 18 (dk_at dksX1_readWhole_0 14 rfl rfl)
theorem dX1_readWhole_17 : decode cX1_readWhole 17 = .ok (.aload_n 0, 1) := dk_42 (dk_at dksX1_readWhole_0 17 rfl rfl)
theorem dX1_readWhole_18 : decode cX1_readWhole 18 = .ok (.getfield 240, 3) := dk_180 0 240 (dk_at dksX1_readWhole_0 18 rfl rfl)
theorem dX1_readWhole_21 : decode cX1_readWhole 21 = .ok (.ifCond .le 11, 3) := dk_158 0 11 (dk_at dksX1_readWhole_0 21 rfl rfl)
theorem dX1_readWhole_24 : decode cX1_readWhole 24 = .ok (.aload_n 0, 1) := dk_42 (dk_at dksX1_readWhole_1 0 rfl rfl)
theorem dX1_readWhole_25 : decode cX1_readWhole 25 = .ok (.iload_n 1, 1) := dk_27 (dk_at dksX1_readWhole_1 1 rfl rfl)
theorem dX1_readWhole_26 : decode cX1_readWhole 26 = .ok (.invokevirtual 260, 3) := dk_182 1 4 (dk_at dksX1_readWhole_1 2 rfl rfl)
theorem dX1_readWhole_29 : decode cX1_readWhole 29 = .ok (.goto (-19), 3) := dk_167 255 237 (dk_at dksX1_readWhole_1 5 rfl rfl)
theorem dX1_readWhole_32 : decode cX1_readWhole 32 = .ok (.return_, 1) := dk_177 (dk_at dksX1_readWhole_1 8 rfl rfl)
abbrev cX1_readOne : ByteArray := prog_20_method_17_code
def yX1_readOne : MethodName := ⟨RX1, "readOne", "(I)V"⟩
def dkwX1_readOne_12 : List UInt8 := [177]
abbrev dktX1_readOne_12 : List UInt8 := dkwX1_readOne_12 ++ []
def dkwX1_readOne_11 : List UInt8 := [42, 42, 180, 0, 13, 42, 180, 0, 227, 46, 16, 41, 160, 0, 7, 4, 167, 0, 4, 3, 182, 0, 233, 87]
abbrev dktX1_readOne_11 : List UInt8 := dkwX1_readOne_11 ++ dktX1_readOne_12
def dkwX1_readOne_10 : List UInt8 := [180, 0, 227, 29, 153, 0, 7, 5, 167, 0, 4, 4, 96, 181, 0, 227, 29, 153, 0, 31, 27, 154, 0, 27]
abbrev dktX1_readOne_10 : List UInt8 := dkwX1_readOne_10 ++ dktX1_readOne_11
def dkwX1_readOne_9 : List UInt8 := [4, 167, 0, 5, 16, 6, 42, 180, 0, 20, 42, 180, 0, 227, 47, 182, 0, 246, 54, 4, 42, 89]
abbrev dktX1_readOne_9 : List UInt8 := dkwX1_readOne_9 ++ dktX1_readOne_10
def dkwX1_readOne_8 : List UInt8 := [158, 0, 7, 4, 167, 0, 4, 3, 62, 42, 29, 153, 0, 8, 16, 7, 167, 0, 14, 27, 5, 160, 0, 7]
abbrev dktX1_readOne_8 : List UInt8 := dkwX1_readOne_8 ++ dktX1_readOne_9
def dkwX1_readOne_7 : List UInt8 := [162, 0, 30, 42, 180, 0, 13, 42, 180, 0, 227, 4, 96, 46, 16, 42, 160, 0, 14, 42, 180, 0, 240]
abbrev dktX1_readOne_7 : List UInt8 := dkwX1_readOne_7 ++ dktX1_readOne_8
def dkwX1_readOne_6 : List UInt8 := [167, 0, 139, 42, 28, 5, 160, 0, 7, 4, 167, 0, 4, 3, 182, 0, 233, 153, 0, 122, 27, 5]
abbrev dktX1_readOne_6 : List UInt8 := dkwX1_readOne_6 ++ dktX1_readOne_7
def dkwX1_readOne_5 : List UInt8 := [180, 0, 20, 42, 180, 0, 227, 47, 182, 0, 246, 62, 42, 89, 180, 0, 227, 4, 96, 181, 0, 227]
abbrev dktX1_readOne_5 : List UInt8 := dkwX1_readOne_5 ++ dktX1_readOne_6
def dkwX1_readOne_4 : List UInt8 := [180, 0, 227, 46, 5, 160, 0, 7, 4, 167, 0, 4, 3, 182, 0, 233, 153, 0, 168, 42, 16, 8, 42]
abbrev dktX1_readOne_4 : List UInt8 := dkwX1_readOne_4 ++ dktX1_readOne_5
def dkwX1_readOne_3 : List UInt8 := [160, 0, 71, 27, 154, 0, 67, 42, 89, 180, 0, 227, 4, 96, 181, 0, 227, 42, 42, 180, 0, 13, 42]
abbrev dktX1_readOne_3 : List UInt8 := dkwX1_readOne_3 ++ dktX1_readOne_4
def dkwX1_readOne_2 : List UInt8 := [180, 0, 227, 47, 182, 0, 246, 62, 42, 89, 180, 0, 227, 4, 96, 181, 0, 227, 167, 0, 213, 28, 16, 33]
abbrev dktX1_readOne_2 : List UInt8 := dkwX1_readOne_2 ++ dktX1_readOne_3
def dkwX1_readOne_1 : List UInt8 := [16, 41, 160, 0, 10, 42, 182, 1, 1, 167, 0, 246, 28, 4, 160, 0, 31, 42, 3, 42, 180, 0, 20, 42]
abbrev dktX1_readOne_1 : List UInt8 := dkwX1_readOne_1 ++ dktX1_readOne_2
def dkwX1_readOne_0 : List UInt8 := [42, 180, 0, 13, 42, 180, 0, 227, 46, 61, 28, 16, 40, 160, 0, 10, 42, 182, 0, 254, 167, 1, 3, 28]
abbrev dktX1_readOne_0 : List UInt8 := dkwX1_readOne_0 ++ dktX1_readOne_1
theorem dksX1_readOne_0 : cX1_readOne.data.toList.drop 0 = dktX1_readOne_0 := by decide +kernel
theorem dksX1_readOne_1 : cX1_readOne.data.toList.drop 24 = dktX1_readOne_1 := dk_seg dksX1_readOne_0 24 rfl rfl
theorem dksX1_readOne_2 : cX1_readOne.data.toList.drop 48 = dktX1_readOne_2 := dk_seg dksX1_readOne_1 24 rfl rfl
theorem dksX1_readOne_3 : cX1_readOne.data.toList.drop 72 = dktX1_readOne_3 := dk_seg dksX1_readOne_2 24 rfl rfl
theorem dksX1_readOne_4 : cX1_readOne.data.toList.drop 95 = dktX1_readOne_4 := dk_seg dksX1_readOne_3 23 rfl rfl
theorem dksX1_readOne_5 : cX1_readOne.data.toList.drop 118 = dktX1_readOne_5 := dk_seg dksX1_readOne_4 23 rfl rfl
theorem dksX1_readOne_6 : cX1_readOne.data.toList.drop 140 = dktX1_readOne_6 := dk_seg dksX1_readOne_5 22 rfl rfl
theorem dksX1_readOne_7 : cX1_readOne.data.toList.drop 162 = dktX1_readOne_7 := dk_seg dksX1_readOne_6 22 rfl rfl
theorem dksX1_readOne_8 : cX1_readOne.data.toList.drop 185 = dktX1_readOne_8 := dk_seg dksX1_readOne_7 23 rfl rfl
theorem dksX1_readOne_9 : cX1_readOne.data.toList.drop 209 = dktX1_readOne_9 := dk_seg dksX1_readOne_8 24 rfl rfl
theorem dksX1_readOne_10 : cX1_readOne.data.toList.drop 231 = dktX1_readOne_10 := dk_seg dksX1_readOne_9 22 rfl rfl
theorem dksX1_readOne_11 : cX1_readOne.data.toList.drop 255 = dktX1_readOne_11 := dk_seg dksX1_readOne_10 24 rfl rfl
theorem dksX1_readOne_12 : cX1_readOne.data.toList.drop 279 = dktX1_readOne_12 := dk_seg dksX1_readOne_11 24 rfl rfl
theorem dX1_readOne_0 : decode cX1_readOne 0 = .ok (.aload_n 0, 1) := dk_42 (dk_at dksX1_readOne_0 0 rfl rfl)
theorem dX1_readOne_1 : decode cX1_readOne 1 = .ok (.getfield 13, 3) := dk_180 0 13 (dk_at dksX1_readOne_0 1 rfl rfl)
theorem dX1_readOne_4 : decode cX1_readOne 4 = .ok (.aload_n 0, 1) := dk_42 (dk_at dksX1_readOne_0 4 rfl rfl)
theorem dX1_readOne_5 : decode cX1_readOne 5 = .ok (.getfield 227, 3) := dk_180 0 227 (dk_at dksX1_readOne_0 5 rfl rfl)
theorem dX1_readOne_8 : decode cX1_readOne 8 = .ok (.iaload, 1) := dk_46 (dk_at dksX1_readOne_0 8 rfl rfl)
theorem dX1_readOne_9 : decode cX1_readOne 9 = .ok (.istore_n 2, 1) := dk_61 (dk_at dksX1_readOne_0 9 rfl rfl)
theorem dX1_readOne_10 : decode cX1_readOne 10 = .ok (.iload_n 2, 1) := dk_28 (dk_at dksX1_readOne_0 10 rfl rfl)
theorem dX1_readOne_11 : decode cX1_readOne 11 = .ok (.bipush 40, 2) := dk_16 40 (dk_at dksX1_readOne_0 11 rfl rfl)
theorem dX1_readOne_13 : decode cX1_readOne 13 = .ok (.if_icmp .ne 10, 3) := dk_160 0 10 (dk_at dksX1_readOne_0 13 rfl rfl)
theorem dX1_readOne_16 : decode cX1_readOne 16 = .ok (.aload_n 0, 1) := dk_42 (dk_at dksX1_readOne_0 16 rfl rfl)
theorem dX1_readOne_17 : decode cX1_readOne 17 = .ok (.invokevirtual 254, 3) := dk_182 0 254 (dk_at dksX1_readOne_0 17 rfl rfl)
theorem dX1_readOne_20 : decode cX1_readOne 20 = .ok (.goto 259, 3) := dk_167 1 3 (dk_at dksX1_readOne_0 20 rfl rfl)
theorem dX1_readOne_23 : decode cX1_readOne 23 = .ok (.iload_n 2, 1) := dk_28 (dk_at dksX1_readOne_0 23 rfl rfl)
theorem dX1_readOne_24 : decode cX1_readOne 24 = .ok (.bipush 41, 2) := dk_16 41 (dk_at dksX1_readOne_1 0 rfl rfl)
theorem dX1_readOne_26 : decode cX1_readOne 26 = .ok (.if_icmp .ne 10, 3) := dk_160 0 10 (dk_at dksX1_readOne_1 2 rfl rfl)
theorem dX1_readOne_29 : decode cX1_readOne 29 = .ok (.aload_n 0, 1) := dk_42 (dk_at dksX1_readOne_1 5 rfl rfl)
theorem dX1_readOne_30 : decode cX1_readOne 30 = .ok (.invokevirtual 257, 3) := dk_182 1 1 (dk_at dksX1_readOne_1 6 rfl rfl)
theorem dX1_readOne_33 : decode cX1_readOne 33 = .ok (.goto 246, 3) := dk_167 0 246 (dk_at dksX1_readOne_1 9 rfl rfl)
theorem dX1_readOne_36 : decode cX1_readOne 36 = .ok (.iload_n 2, 1) := dk_28 (dk_at dksX1_readOne_1 12 rfl rfl)
theorem dX1_readOne_37 : decode cX1_readOne 37 = .ok (.iconst 1, 1) := dk_4 (dk_at dksX1_readOne_1 13 rfl rfl)
theorem dX1_readOne_38 : decode cX1_readOne 38 = .ok (.if_icmp .ne 31, 3) := dk_160 0 31 (dk_at dksX1_readOne_1 14 rfl rfl)
theorem dX1_readOne_41 : decode cX1_readOne 41 = .ok (.aload_n 0, 1) := dk_42 (dk_at dksX1_readOne_1 17 rfl rfl)
theorem dX1_readOne_42 : decode cX1_readOne 42 = .ok (.iconst 0, 1) := dk_3 (dk_at dksX1_readOne_1 18 rfl rfl)
theorem dX1_readOne_43 : decode cX1_readOne 43 = .ok (.aload_n 0, 1) := dk_42 (dk_at dksX1_readOne_1 19 rfl rfl)
theorem dX1_readOne_44 : decode cX1_readOne 44 = .ok (.getfield 20, 3) := dk_180 0 20 (dk_at dksX1_readOne_1 20 rfl rfl)
theorem dX1_readOne_47 : decode cX1_readOne 47 = .ok (.aload_n 0, 1) := dk_42 (dk_at dksX1_readOne_1 23 rfl rfl)
theorem dX1_readOne_48 : decode cX1_readOne 48 = .ok (.getfield 227, 3) := dk_180 0 227 (dk_at dksX1_readOne_2 0 rfl rfl)
theorem dX1_readOne_51 : decode cX1_readOne 51 = .ok (.laload, 1) := dk_47 (dk_at dksX1_readOne_2 3 rfl rfl)
theorem dX1_readOne_52 : decode cX1_readOne 52 = .ok (.invokevirtual 246, 3) := dk_182 0 246 (dk_at dksX1_readOne_2 4 rfl rfl)
theorem dX1_readOne_55 : decode cX1_readOne 55 = .ok (.istore_n 3, 1) := dk_62 (dk_at dksX1_readOne_2 7 rfl rfl)
theorem dX1_readOne_56 : decode cX1_readOne 56 = .ok (.aload_n 0, 1) := dk_42 (dk_at dksX1_readOne_2 8 rfl rfl)
theorem dX1_readOne_57 : decode cX1_readOne 57 = .ok (.dup, 1) := dk_89 (dk_at dksX1_readOne_2 9 rfl rfl)
theorem dX1_readOne_58 : decode cX1_readOne 58 = .ok (.getfield 227, 3) := dk_180 0 227 (dk_at dksX1_readOne_2 10 rfl rfl)
theorem dX1_readOne_61 : decode cX1_readOne 61 = .ok (.iconst 1, 1) := dk_4 (dk_at dksX1_readOne_2 13 rfl rfl)
theorem dX1_readOne_62 : decode cX1_readOne 62 = .ok (.iadd, 1) := dk_96 (dk_at dksX1_readOne_2 14 rfl rfl)
theorem dX1_readOne_63 : decode cX1_readOne 63 = .ok (.putfield 227, 3) := dk_181 0 227 (dk_at dksX1_readOne_2 15 rfl rfl)
theorem dX1_readOne_66 : decode cX1_readOne 66 = .ok (.goto 213, 3) := dk_167 0 213 (dk_at dksX1_readOne_2 18 rfl rfl)
theorem dX1_readOne_69 : decode cX1_readOne 69 = .ok (.iload_n 2, 1) := dk_28 (dk_at dksX1_readOne_2 21 rfl rfl)
theorem dX1_readOne_70 : decode cX1_readOne 70 = .ok (.bipush 33, 2) := dk_16 33 (dk_at dksX1_readOne_2 22 rfl rfl)
theorem dX1_readOne_72 : decode cX1_readOne 72 = .ok (.if_icmp .ne 71, 3) := dk_160 0 71 (dk_at dksX1_readOne_3 0 rfl rfl)
theorem dX1_readOne_75 : decode cX1_readOne 75 = .ok (.iload_n 1, 1) := dk_27 (dk_at dksX1_readOne_3 3 rfl rfl)
theorem dX1_readOne_76 : decode cX1_readOne 76 = .ok (.ifCond .ne 67, 3) := dk_154 0 67 (dk_at dksX1_readOne_3 4 rfl rfl)
theorem dX1_readOne_79 : decode cX1_readOne 79 = .ok (.aload_n 0, 1) := dk_42 (dk_at dksX1_readOne_3 7 rfl rfl)
theorem dX1_readOne_80 : decode cX1_readOne 80 = .ok (.dup, 1) := dk_89 (dk_at dksX1_readOne_3 8 rfl rfl)
theorem dX1_readOne_81 : decode cX1_readOne 81 = .ok (.getfield 227, 3) := dk_180 0 227 (dk_at dksX1_readOne_3 9 rfl rfl)
theorem dX1_readOne_84 : decode cX1_readOne 84 = .ok (.iconst 1, 1) := dk_4 (dk_at dksX1_readOne_3 12 rfl rfl)
theorem dX1_readOne_85 : decode cX1_readOne 85 = .ok (.iadd, 1) := dk_96 (dk_at dksX1_readOne_3 13 rfl rfl)
theorem dX1_readOne_86 : decode cX1_readOne 86 = .ok (.putfield 227, 3) := dk_181 0 227 (dk_at dksX1_readOne_3 14 rfl rfl)
theorem dX1_readOne_89 : decode cX1_readOne 89 = .ok (.aload_n 0, 1) := dk_42 (dk_at dksX1_readOne_3 17 rfl rfl)
theorem dX1_readOne_90 : decode cX1_readOne 90 = .ok (.aload_n 0, 1) := dk_42 (dk_at dksX1_readOne_3 18 rfl rfl)
theorem dX1_readOne_91 : decode cX1_readOne 91 = .ok (.getfield 13, 3) := dk_180 0 13 (dk_at dksX1_readOne_3 19 rfl rfl)
theorem dX1_readOne_94 : decode cX1_readOne 94 = .ok (.aload_n 0, 1) := dk_42 (dk_at dksX1_readOne_3 22 rfl rfl)
theorem dX1_readOne_95 : decode cX1_readOne 95 = .ok (.getfield 227, 3) := dk_180 0 227 (dk_at dksX1_readOne_4 0 rfl rfl)
theorem dX1_readOne_98 : decode cX1_readOne 98 = .ok (.iaload, 1) := dk_46 (dk_at dksX1_readOne_4 3 rfl rfl)
theorem dX1_readOne_99 : decode cX1_readOne 99 = .ok (.iconst 2, 1) := dk_5 (dk_at dksX1_readOne_4 4 rfl rfl)
theorem dX1_readOne_100 : decode cX1_readOne 100 = .ok (.if_icmp .ne 7, 3) := dk_160 0 7 (dk_at dksX1_readOne_4 5 rfl rfl)
theorem dX1_readOne_103 : decode cX1_readOne 103 = .ok (.iconst 1, 1) := dk_4 (dk_at dksX1_readOne_4 8 rfl rfl)
theorem dX1_readOne_104 : decode cX1_readOne 104 = .ok (.goto 4, 3) := dk_167 0 4 (dk_at dksX1_readOne_4 9 rfl rfl)
theorem dX1_readOne_107 : decode cX1_readOne 107 = .ok (.iconst 0, 1) := dk_3 (dk_at dksX1_readOne_4 12 rfl rfl)
theorem dX1_readOne_108 : decode cX1_readOne 108 = .ok (.invokevirtual 233, 3) := dk_182 0 233 (dk_at dksX1_readOne_4 13 rfl rfl)
theorem dX1_readOne_111 : decode cX1_readOne 111 = .ok (.ifCond .eq 168, 3) := dk_153 0 168 (dk_at dksX1_readOne_4 16 rfl rfl)
theorem dX1_readOne_114 : decode cX1_readOne 114 = .ok (.aload_n 0, 1) := dk_42 (dk_at dksX1_readOne_4 19 rfl rfl)
theorem dX1_readOne_115 : decode cX1_readOne 115 = .ok (.bipush 8, 2) := dk_16 8 (dk_at dksX1_readOne_4 20 rfl rfl)
theorem dX1_readOne_117 : decode cX1_readOne 117 = .ok (.aload_n 0, 1) := dk_42 (dk_at dksX1_readOne_4 22 rfl rfl)
theorem dX1_readOne_118 : decode cX1_readOne 118 = .ok (.getfield 20, 3) := dk_180 0 20 (dk_at dksX1_readOne_5 0 rfl rfl)
theorem dX1_readOne_121 : decode cX1_readOne 121 = .ok (.aload_n 0, 1) := dk_42 (dk_at dksX1_readOne_5 3 rfl rfl)
theorem dX1_readOne_122 : decode cX1_readOne 122 = .ok (.getfield 227, 3) := dk_180 0 227 (dk_at dksX1_readOne_5 4 rfl rfl)
theorem dX1_readOne_125 : decode cX1_readOne 125 = .ok (.laload, 1) := dk_47 (dk_at dksX1_readOne_5 7 rfl rfl)
theorem dX1_readOne_126 : decode cX1_readOne 126 = .ok (.invokevirtual 246, 3) := dk_182 0 246 (dk_at dksX1_readOne_5 8 rfl rfl)
theorem dX1_readOne_129 : decode cX1_readOne 129 = .ok (.istore_n 3, 1) := dk_62 (dk_at dksX1_readOne_5 11 rfl rfl)
theorem dX1_readOne_130 : decode cX1_readOne 130 = .ok (.aload_n 0, 1) := dk_42 (dk_at dksX1_readOne_5 12 rfl rfl)
theorem dX1_readOne_131 : decode cX1_readOne 131 = .ok (.dup, 1) := dk_89 (dk_at dksX1_readOne_5 13 rfl rfl)
theorem dX1_readOne_132 : decode cX1_readOne 132 = .ok (.getfield 227, 3) := dk_180 0 227 (dk_at dksX1_readOne_5 14 rfl rfl)
theorem dX1_readOne_135 : decode cX1_readOne 135 = .ok (.iconst 1, 1) := dk_4 (dk_at dksX1_readOne_5 17 rfl rfl)
theorem dX1_readOne_136 : decode cX1_readOne 136 = .ok (.iadd, 1) := dk_96 (dk_at dksX1_readOne_5 18 rfl rfl)
theorem dX1_readOne_137 : decode cX1_readOne 137 = .ok (.putfield 227, 3) := dk_181 0 227 (dk_at dksX1_readOne_5 19 rfl rfl)
theorem dX1_readOne_140 : decode cX1_readOne 140 = .ok (.goto 139, 3) := dk_167 0 139 (dk_at dksX1_readOne_6 0 rfl rfl)
theorem dX1_readOne_143 : decode cX1_readOne 143 = .ok (.aload_n 0, 1) := dk_42 (dk_at dksX1_readOne_6 3 rfl rfl)
theorem dX1_readOne_144 : decode cX1_readOne 144 = .ok (.iload_n 2, 1) := dk_28 (dk_at dksX1_readOne_6 4 rfl rfl)
theorem dX1_readOne_145 : decode cX1_readOne 145 = .ok (.iconst 2, 1) := dk_5 (dk_at dksX1_readOne_6 5 rfl rfl)
theorem dX1_readOne_146 : decode cX1_readOne 146 = .ok (.if_icmp .ne 7, 3) := dk_160 0 7 (dk_at dksX1_readOne_6 6 rfl rfl)
theorem dX1_readOne_149 : decode cX1_readOne 149 = .ok (.iconst 1, 1) := dk_4 (dk_at dksX1_readOne_6 9 rfl rfl)
theorem dX1_readOne_150 : decode cX1_readOne 150 = .ok (.goto 4, 3) := dk_167 0 4 (dk_at dksX1_readOne_6 10 rfl rfl)
theorem dX1_readOne_153 : decode cX1_readOne 153 = .ok (.iconst 0, 1) := dk_3 (dk_at dksX1_readOne_6 13 rfl rfl)
theorem dX1_readOne_154 : decode cX1_readOne 154 = .ok (.invokevirtual 233, 3) := dk_182 0 233 (dk_at dksX1_readOne_6 14 rfl rfl)
theorem dX1_readOne_157 : decode cX1_readOne 157 = .ok (.ifCond .eq 122, 3) := dk_153 0 122 (dk_at dksX1_readOne_6 17 rfl rfl)
theorem dX1_readOne_160 : decode cX1_readOne 160 = .ok (.iload_n 1, 1) := dk_27 (dk_at dksX1_readOne_6 20 rfl rfl)
theorem dX1_readOne_161 : decode cX1_readOne 161 = .ok (.iconst 2, 1) := dk_5 (dk_at dksX1_readOne_6 21 rfl rfl)
theorem dX1_readOne_162 : decode cX1_readOne 162 = .ok (.if_icmp .ge 30, 3) := dk_162 0 30 (dk_at dksX1_readOne_7 0 rfl rfl)
theorem dX1_readOne_165 : decode cX1_readOne 165 = .ok (.aload_n 0, 1) := dk_42 (dk_at dksX1_readOne_7 3 rfl rfl)
theorem dX1_readOne_166 : decode cX1_readOne 166 = .ok (.getfield 13, 3) := dk_180 0 13 (dk_at dksX1_readOne_7 4 rfl rfl)
theorem dX1_readOne_169 : decode cX1_readOne 169 = .ok (.aload_n 0, 1) := dk_42 (dk_at dksX1_readOne_7 7 rfl rfl)
theorem dX1_readOne_170 : decode cX1_readOne 170 = .ok (.getfield 227, 3) := dk_180 0 227 (dk_at dksX1_readOne_7 8 rfl rfl)
theorem dX1_readOne_173 : decode cX1_readOne 173 = .ok (.iconst 1, 1) := dk_4 (dk_at dksX1_readOne_7 11 rfl rfl)
theorem dX1_readOne_174 : decode cX1_readOne 174 = .ok (.iadd, 1) := dk_96 (dk_at dksX1_readOne_7 12 rfl rfl)
theorem dX1_readOne_175 : decode cX1_readOne 175 = .ok (.iaload, 1) := dk_46 (dk_at dksX1_readOne_7 13 rfl rfl)
theorem dX1_readOne_176 : decode cX1_readOne 176 = .ok (.bipush 42, 2) := dk_16 42 (dk_at dksX1_readOne_7 14 rfl rfl)
theorem dX1_readOne_178 : decode cX1_readOne 178 = .ok (.if_icmp .ne 14, 3) := dk_160 0 14 (dk_at dksX1_readOne_7 16 rfl rfl)
theorem dX1_readOne_181 : decode cX1_readOne 181 = .ok (.aload_n 0, 1) := dk_42 (dk_at dksX1_readOne_7 19 rfl rfl)
theorem dX1_readOne_182 : decode cX1_readOne 182 = .ok (.getfield 240, 3) := dk_180 0 240 (dk_at dksX1_readOne_7 20 rfl rfl)
theorem dX1_readOne_185 : decode cX1_readOne 185 = .ok (.ifCond .le 7, 3) := dk_158 0 7 (dk_at dksX1_readOne_8 0 rfl rfl)
theorem dX1_readOne_188 : decode cX1_readOne 188 = .ok (.iconst 1, 1) := dk_4 (dk_at dksX1_readOne_8 3 rfl rfl)
theorem dX1_readOne_189 : decode cX1_readOne 189 = .ok (.goto 4, 3) := dk_167 0 4 (dk_at dksX1_readOne_8 4 rfl rfl)
theorem dX1_readOne_192 : decode cX1_readOne 192 = .ok (.iconst 0, 1) := dk_3 (dk_at dksX1_readOne_8 7 rfl rfl)
theorem dX1_readOne_193 : decode cX1_readOne 193 = .ok (.istore_n 3, 1) := dk_62 (dk_at dksX1_readOne_8 8 rfl rfl)
theorem dX1_readOne_194 : decode cX1_readOne 194 = .ok (.aload_n 0, 1) := dk_42 (dk_at dksX1_readOne_8 9 rfl rfl)
theorem dX1_readOne_195 : decode cX1_readOne 195 = .ok (.iload_n 3, 1) := dk_29 (dk_at dksX1_readOne_8 10 rfl rfl)
theorem dX1_readOne_196 : decode cX1_readOne 196 = .ok (.ifCond .eq 8, 3) := dk_153 0 8 (dk_at dksX1_readOne_8 11 rfl rfl)
theorem dX1_readOne_199 : decode cX1_readOne 199 = .ok (.bipush 7, 2) := dk_16 7 (dk_at dksX1_readOne_8 14 rfl rfl)
theorem dX1_readOne_201 : decode cX1_readOne 201 = .ok (.goto 14, 3) := dk_167 0 14 (dk_at dksX1_readOne_8 16 rfl rfl)
theorem dX1_readOne_204 : decode cX1_readOne 204 = .ok (.iload_n 1, 1) := dk_27 (dk_at dksX1_readOne_8 19 rfl rfl)
theorem dX1_readOne_205 : decode cX1_readOne 205 = .ok (.iconst 2, 1) := dk_5 (dk_at dksX1_readOne_8 20 rfl rfl)
theorem dX1_readOne_206 : decode cX1_readOne 206 = .ok (.if_icmp .ne 7, 3) := dk_160 0 7 (dk_at dksX1_readOne_8 21 rfl rfl)
theorem dX1_readOne_209 : decode cX1_readOne 209 = .ok (.iconst 1, 1) := dk_4 (dk_at dksX1_readOne_9 0 rfl rfl)
theorem dX1_readOne_210 : decode cX1_readOne 210 = .ok (.goto 5, 3) := dk_167 0 5 (dk_at dksX1_readOne_9 1 rfl rfl)
theorem dX1_readOne_213 : decode cX1_readOne 213 = .ok (.bipush 6, 2) := dk_16 6 (dk_at dksX1_readOne_9 4 rfl rfl)
theorem dX1_readOne_215 : decode cX1_readOne 215 = .ok (.aload_n 0, 1) := dk_42 (dk_at dksX1_readOne_9 6 rfl rfl)
theorem dX1_readOne_216 : decode cX1_readOne 216 = .ok (.getfield 20, 3) := dk_180 0 20 (dk_at dksX1_readOne_9 7 rfl rfl)
theorem dX1_readOne_219 : decode cX1_readOne 219 = .ok (.aload_n 0, 1) := dk_42 (dk_at dksX1_readOne_9 10 rfl rfl)
theorem dX1_readOne_220 : decode cX1_readOne 220 = .ok (.getfield 227, 3) := dk_180 0 227 (dk_at dksX1_readOne_9 11 rfl rfl)
theorem dX1_readOne_223 : decode cX1_readOne 223 = .ok (.laload, 1) := dk_47 (dk_at dksX1_readOne_9 14 rfl rfl)
theorem dX1_readOne_224 : decode cX1_readOne 224 = .ok (.invokevirtual 246, 3) := dk_182 0 246 (dk_at dksX1_readOne_9 15 rfl rfl)
theorem dX1_readOne_227 : decode cX1_readOne 227 = .ok (.istore 4, 2) := dk_54 4 (dk_at dksX1_readOne_9 18 rfl rfl)
theorem dX1_readOne_229 : decode cX1_readOne 229 = .ok (.aload_n 0, 1) := dk_42 (dk_at dksX1_readOne_9 20 rfl rfl)
theorem dX1_readOne_230 : decode cX1_readOne 230 = .ok (.dup, 1) := dk_89 (dk_at dksX1_readOne_9 21 rfl rfl)
theorem dX1_readOne_231 : decode cX1_readOne 231 = .ok (.getfield 227, 3) := dk_180 0 227 (dk_at dksX1_readOne_10 0 rfl rfl)
theorem dX1_readOne_234 : decode cX1_readOne 234 = .ok (.iload_n 3, 1) := dk_29 (dk_at dksX1_readOne_10 3 rfl rfl)
theorem dX1_readOne_235 : decode cX1_readOne 235 = .ok (.ifCond .eq 7, 3) := dk_153 0 7 (dk_at dksX1_readOne_10 4 rfl rfl)
theorem dX1_readOne_238 : decode cX1_readOne 238 = .ok (.iconst 2, 1) := dk_5 (dk_at dksX1_readOne_10 7 rfl rfl)
theorem dX1_readOne_239 : decode cX1_readOne 239 = .ok (.goto 4, 3) := dk_167 0 4 (dk_at dksX1_readOne_10 8 rfl rfl)
theorem dX1_readOne_242 : decode cX1_readOne 242 = .ok (.iconst 1, 1) := dk_4 (dk_at dksX1_readOne_10 11 rfl rfl)
theorem dX1_readOne_243 : decode cX1_readOne 243 = .ok (.iadd, 1) := dk_96 (dk_at dksX1_readOne_10 12 rfl rfl)
theorem dX1_readOne_244 : decode cX1_readOne 244 = .ok (.putfield 227, 3) := dk_181 0 227 (dk_at dksX1_readOne_10 13 rfl rfl)
theorem dX1_readOne_247 : decode cX1_readOne 247 = .ok (.iload_n 3, 1) := dk_29 (dk_at dksX1_readOne_10 16 rfl rfl)
theorem dX1_readOne_248 : decode cX1_readOne 248 = .ok (.ifCond .eq 31, 3) := dk_153 0 31 (dk_at dksX1_readOne_10 17 rfl rfl)
theorem dX1_readOne_251 : decode cX1_readOne 251 = .ok (.iload_n 1, 1) := dk_27 (dk_at dksX1_readOne_10 20 rfl rfl)
theorem dX1_readOne_252 : decode cX1_readOne 252 = .ok (.ifCond .ne 27, 3) := dk_154 0 27 (dk_at dksX1_readOne_10 21 rfl rfl)
theorem dX1_readOne_255 : decode cX1_readOne 255 = .ok (.aload_n 0, 1) := dk_42 (dk_at dksX1_readOne_11 0 rfl rfl)
theorem dX1_readOne_256 : decode cX1_readOne 256 = .ok (.aload_n 0, 1) := dk_42 (dk_at dksX1_readOne_11 1 rfl rfl)
theorem dX1_readOne_257 : decode cX1_readOne 257 = .ok (.getfield 13, 3) := dk_180 0 13 (dk_at dksX1_readOne_11 2 rfl rfl)
theorem dX1_readOne_260 : decode cX1_readOne 260 = .ok (.aload_n 0, 1) := dk_42 (dk_at dksX1_readOne_11 5 rfl rfl)
theorem dX1_readOne_261 : decode cX1_readOne 261 = .ok (.getfield 227, 3) := dk_180 0 227 (dk_at dksX1_readOne_11 6 rfl rfl)
theorem dX1_readOne_264 : decode cX1_readOne 264 = .ok (.iaload, 1) := dk_46 (dk_at dksX1_readOne_11 9 rfl rfl)
theorem dX1_readOne_265 : decode cX1_readOne 265 = .ok (.bipush 41, 2) := dk_16 41 (dk_at dksX1_readOne_11 10 rfl rfl)
theorem dX1_readOne_267 : decode cX1_readOne 267 = .ok (.if_icmp .ne 7, 3) := dk_160 0 7 (dk_at dksX1_readOne_11 12 rfl rfl)
theorem dX1_readOne_270 : decode cX1_readOne 270 = .ok (.iconst 1, 1) := dk_4 (dk_at dksX1_readOne_11 15 rfl rfl)
theorem dX1_readOne_271 : decode cX1_readOne 271 = .ok (.goto 4, 3) := dk_167 0 4 (dk_at dksX1_readOne_11 16 rfl rfl)
theorem dX1_readOne_274 : decode cX1_readOne 274 = .ok (.iconst 0, 1) := dk_3 (dk_at dksX1_readOne_11 19 rfl rfl)
theorem dX1_readOne_275 : decode cX1_readOne 275 = .ok (.invokevirtual 233, 3) := dk_182 0 233 (dk_at dksX1_readOne_11 20 rfl rfl)
theorem dX1_readOne_278 : decode cX1_readOne 278 = .ok (.pop, 1) := dk_87 (dk_at dksX1_readOne_11 23 rfl rfl)
theorem dX1_readOne_279 : decode cX1_readOne 279 = .ok (.return_, 1) := dk_177 (dk_at dksX1_readOne_12 0 rfl rfl)
abbrev cX1_open : ByteArray := prog_20_method_15_code
def yX1_open : MethodName := ⟨RX1, "open", "()V"⟩
def dkwX1_open_3 : List UInt8 := [4, 96, 181, 0, 243, 42, 89, 180, 0, 227, 4, 96, 181, 0, 227, 177]
abbrev dktX1_open_3 : List UInt8 := dkwX1_open_3 ++ []
def dkwX1_open_2 : List UInt8 := [180, 0, 55, 42, 180, 0, 240, 27, 79, 42, 89, 180, 0, 240, 4, 96, 181, 0, 240, 42, 89, 180, 0, 243]
abbrev dktX1_open_2 : List UInt8 := dkwX1_open_2 ++ dktX1_open_3
def dkwX1_open_1 : List UInt8 := [4, 167, 0, 4, 3, 182, 0, 233, 87, 42, 180, 0, 224, 154, 0, 50, 42, 5, 9, 182, 0, 246, 60, 42]
abbrev dktX1_open_1 : List UInt8 := dkwX1_open_1 ++ dktX1_open_2
def dkwX1_open_0 : List UInt8 := [42, 42, 180, 0, 13, 42, 180, 0, 227, 46, 16, 40, 160, 0, 16, 42, 180, 0, 243, 16, 12, 162, 0, 7]
abbrev dktX1_open_0 : List UInt8 := dkwX1_open_0 ++ dktX1_open_1
theorem dksX1_open_0 : cX1_open.data.toList.drop 0 = dktX1_open_0 := by decide +kernel
theorem dksX1_open_1 : cX1_open.data.toList.drop 24 = dktX1_open_1 := dk_seg dksX1_open_0 24 rfl rfl
theorem dksX1_open_2 : cX1_open.data.toList.drop 48 = dktX1_open_2 := dk_seg dksX1_open_1 24 rfl rfl
theorem dksX1_open_3 : cX1_open.data.toList.drop 72 = dktX1_open_3 := dk_seg dksX1_open_2 24 rfl rfl
theorem dX1_open_0 : decode cX1_open 0 = .ok (.aload_n 0, 1) := dk_42 (dk_at dksX1_open_0 0 rfl rfl)
theorem dX1_open_1 : decode cX1_open 1 = .ok (.aload_n 0, 1) := dk_42 (dk_at dksX1_open_0 1 rfl rfl)
theorem dX1_open_2 : decode cX1_open 2 = .ok (.getfield 13, 3) := dk_180 0 13 (dk_at dksX1_open_0 2 rfl rfl)
theorem dX1_open_5 : decode cX1_open 5 = .ok (.aload_n 0, 1) := dk_42 (dk_at dksX1_open_0 5 rfl rfl)
theorem dX1_open_6 : decode cX1_open 6 = .ok (.getfield 227, 3) := dk_180 0 227 (dk_at dksX1_open_0 6 rfl rfl)
theorem dX1_open_9 : decode cX1_open 9 = .ok (.iaload, 1) := dk_46 (dk_at dksX1_open_0 9 rfl rfl)
theorem dX1_open_10 : decode cX1_open 10 = .ok (.bipush 40, 2) := dk_16 40 (dk_at dksX1_open_0 10 rfl rfl)
theorem dX1_open_12 : decode cX1_open 12 = .ok (.if_icmp .ne 16, 3) := dk_160 0 16 (dk_at dksX1_open_0 12 rfl rfl)
theorem dX1_open_15 : decode cX1_open 15 = .ok (.aload_n 0, 1) := dk_42 (dk_at dksX1_open_0 15 rfl rfl)
theorem dX1_open_16 : decode cX1_open 16 = .ok (.getfield 243, 3) := dk_180 0 243 (dk_at dksX1_open_0 16 rfl rfl)
theorem dX1_open_19 : decode cX1_open 19 = .ok (.bipush 12, 2) := dk_16 12 (dk_at dksX1_open_0 19 rfl rfl)
theorem dX1_open_21 : decode cX1_open 21 = .ok (.if_icmp .ge 7, 3) := dk_162 0 7 (dk_at dksX1_open_0 21 rfl rfl)
theorem dX1_open_24 : decode cX1_open 24 = .ok (.iconst 1, 1) := dk_4 (dk_at dksX1_open_1 0 rfl rfl)
theorem dX1_open_25 : decode cX1_open 25 = .ok (.goto 4, 3) := dk_167 0 4 (dk_at dksX1_open_1 1 rfl rfl)
theorem dX1_open_28 : decode cX1_open 28 = .ok (.iconst 0, 1) := dk_3 (dk_at dksX1_open_1 4 rfl rfl)
theorem dX1_open_29 : decode cX1_open 29 = .ok (.invokevirtual 233, 3) := dk_182 0 233 (dk_at dksX1_open_1 5 rfl rfl)
theorem dX1_open_32 : decode cX1_open 32 = .ok (.pop, 1) := dk_87 (dk_at dksX1_open_1 8 rfl rfl)
theorem dX1_open_33 : decode cX1_open 33 = .ok (.aload_n 0, 1) := dk_42 (dk_at dksX1_open_1 9 rfl rfl)
theorem dX1_open_34 : decode cX1_open 34 = .ok (.getfield 224, 3) := dk_180 0 224 (dk_at dksX1_open_1 10 rfl rfl)
theorem dX1_open_37 : decode cX1_open 37 = .ok (.ifCond .ne 50, 3) := dk_154 0 50 (dk_at dksX1_open_1 13 rfl rfl)
theorem dX1_open_40 : decode cX1_open 40 = .ok (.aload_n 0, 1) := dk_42 (dk_at dksX1_open_1 16 rfl rfl)
theorem dX1_open_41 : decode cX1_open 41 = .ok (.iconst 2, 1) := dk_5 (dk_at dksX1_open_1 17 rfl rfl)
theorem dX1_open_42 : decode cX1_open 42 = .ok (.lconst 0, 1) := dk_9 (dk_at dksX1_open_1 18 rfl rfl)
theorem dX1_open_43 : decode cX1_open 43 = .ok (.invokevirtual 246, 3) := dk_182 0 246 (dk_at dksX1_open_1 19 rfl rfl)
theorem dX1_open_46 : decode cX1_open 46 = .ok (.istore_n 1, 1) := dk_60 (dk_at dksX1_open_1 22 rfl rfl)
theorem dX1_open_47 : decode cX1_open 47 = .ok (.aload_n 0, 1) := dk_42 (dk_at dksX1_open_1 23 rfl rfl)
theorem dX1_open_48 : decode cX1_open 48 = .ok (.getfield 55, 3) := dk_180 0 55 (dk_at dksX1_open_2 0 rfl rfl)
theorem dX1_open_51 : decode cX1_open 51 = .ok (.aload_n 0, 1) := dk_42 (dk_at dksX1_open_2 3 rfl rfl)
theorem dX1_open_52 : decode cX1_open 52 = .ok (.getfield 240, 3) := dk_180 0 240 (dk_at dksX1_open_2 4 rfl rfl)
theorem dX1_open_55 : decode cX1_open 55 = .ok (.iload_n 1, 1) := dk_27 (dk_at dksX1_open_2 7 rfl rfl)
theorem dX1_open_56 : decode cX1_open 56 = .ok (.iastore, 1) := dk_79 (dk_at dksX1_open_2 8 rfl rfl)
theorem dX1_open_57 : decode cX1_open 57 = .ok (.aload_n 0, 1) := dk_42 (dk_at dksX1_open_2 9 rfl rfl)
theorem dX1_open_58 : decode cX1_open 58 = .ok (.dup, 1) := dk_89 (dk_at dksX1_open_2 10 rfl rfl)
theorem dX1_open_59 : decode cX1_open 59 = .ok (.getfield 240, 3) := dk_180 0 240 (dk_at dksX1_open_2 11 rfl rfl)
theorem dX1_open_62 : decode cX1_open 62 = .ok (.iconst 1, 1) := dk_4 (dk_at dksX1_open_2 14 rfl rfl)
theorem dX1_open_63 : decode cX1_open 63 = .ok (.iadd, 1) := dk_96 (dk_at dksX1_open_2 15 rfl rfl)
theorem dX1_open_64 : decode cX1_open 64 = .ok (.putfield 240, 3) := dk_181 0 240 (dk_at dksX1_open_2 16 rfl rfl)
theorem dX1_open_67 : decode cX1_open 67 = .ok (.aload_n 0, 1) := dk_42 (dk_at dksX1_open_2 19 rfl rfl)
theorem dX1_open_68 : decode cX1_open 68 = .ok (.dup, 1) := dk_89 (dk_at dksX1_open_2 20 rfl rfl)
theorem dX1_open_69 : decode cX1_open 69 = .ok (.getfield 243, 3) := dk_180 0 243 (dk_at dksX1_open_2 21 rfl rfl)
theorem dX1_open_72 : decode cX1_open 72 = .ok (.iconst 1, 1) := dk_4 (dk_at dksX1_open_3 0 rfl rfl)
theorem dX1_open_73 : decode cX1_open 73 = .ok (.iadd, 1) := dk_96 (dk_at dksX1_open_3 1 rfl rfl)
theorem dX1_open_74 : decode cX1_open 74 = .ok (.putfield 243, 3) := dk_181 0 243 (dk_at dksX1_open_3 2 rfl rfl)
theorem dX1_open_77 : decode cX1_open 77 = .ok (.aload_n 0, 1) := dk_42 (dk_at dksX1_open_3 5 rfl rfl)
theorem dX1_open_78 : decode cX1_open 78 = .ok (.dup, 1) := dk_89 (dk_at dksX1_open_3 6 rfl rfl)
theorem dX1_open_79 : decode cX1_open 79 = .ok (.getfield 227, 3) := dk_180 0 227 (dk_at dksX1_open_3 7 rfl rfl)
theorem dX1_open_82 : decode cX1_open 82 = .ok (.iconst 1, 1) := dk_4 (dk_at dksX1_open_3 10 rfl rfl)
theorem dX1_open_83 : decode cX1_open 83 = .ok (.iadd, 1) := dk_96 (dk_at dksX1_open_3 11 rfl rfl)
theorem dX1_open_84 : decode cX1_open 84 = .ok (.putfield 227, 3) := dk_181 0 227 (dk_at dksX1_open_3 12 rfl rfl)
theorem dX1_open_87 : decode cX1_open 87 = .ok (.return_, 1) := dk_177 (dk_at dksX1_open_3 15 rfl rfl)
abbrev cX1_node : ByteArray := prog_20_method_14_code
def yX1_node : MethodName := ⟨RX1, "node", "(IJ)I"⟩
def dkwX1_node_5 : List UInt8 := [96, 79, 21, 4, 172]
abbrev dktX1_node_5 : List UInt8 := dkwX1_node_5 ++ []
def dkwX1_node_4 : List UInt8 := [180, 0, 240, 158, 0, 23, 42, 180, 0, 36, 42, 180, 0, 55, 42, 180, 0, 240, 4, 100, 46, 92, 46, 4]
abbrev dktX1_node_4 : List UInt8 := dkwX1_node_4 ++ dktX1_node_5
def dkwX1_node_3 : List UInt8 := [180, 0, 240, 158, 0, 17, 42, 180, 0, 55, 42, 180, 0, 240, 4, 100, 46, 167, 0, 5, 16, 247, 79, 42]
abbrev dktX1_node_3 : List UInt8 := dkwX1_node_3 ++ dktX1_node_4
def dkwX1_node_2 : List UInt8 := [42, 180, 0, 33, 21, 4, 4, 79, 42, 180, 0, 36, 21, 4, 3, 79, 42, 180, 0, 39, 21, 4, 42]
abbrev dktX1_node_2 : List UInt8 := dkwX1_node_2 ++ dktX1_node_3
def dkwX1_node_1 : List UInt8 := [42, 180, 0, 27, 21, 4, 32, 80, 42, 180, 0, 30, 21, 4, 42, 180, 0, 17, 42, 180, 0, 227, 46, 79]
abbrev dktX1_node_1 : List UInt8 := dkwX1_node_1 ++ dktX1_node_2
def dkwX1_node_0 : List UInt8 := [42, 180, 0, 237, 54, 4, 42, 89, 180, 0, 237, 4, 96, 181, 0, 237, 42, 180, 0, 24, 21, 4, 27, 79]
abbrev dktX1_node_0 : List UInt8 := dkwX1_node_0 ++ dktX1_node_1
theorem dksX1_node_0 : cX1_node.data.toList.drop 0 = dktX1_node_0 := by decide +kernel
theorem dksX1_node_1 : cX1_node.data.toList.drop 24 = dktX1_node_1 := dk_seg dksX1_node_0 24 rfl rfl
theorem dksX1_node_2 : cX1_node.data.toList.drop 48 = dktX1_node_2 := dk_seg dksX1_node_1 24 rfl rfl
theorem dksX1_node_3 : cX1_node.data.toList.drop 71 = dktX1_node_3 := dk_seg dksX1_node_2 23 rfl rfl
theorem dksX1_node_4 : cX1_node.data.toList.drop 95 = dktX1_node_4 := dk_seg dksX1_node_3 24 rfl rfl
theorem dksX1_node_5 : cX1_node.data.toList.drop 119 = dktX1_node_5 := dk_seg dksX1_node_4 24 rfl rfl
theorem dX1_node_0 : decode cX1_node 0 = .ok (.aload_n 0, 1) := dk_42 (dk_at dksX1_node_0 0 rfl rfl)
theorem dX1_node_1 : decode cX1_node 1 = .ok (.getfield 237, 3) := dk_180 0 237 (dk_at dksX1_node_0 1 rfl rfl)
theorem dX1_node_4 : decode cX1_node 4 = .ok (.istore 4, 2) := dk_54 4 (dk_at dksX1_node_0 4 rfl rfl)
theorem dX1_node_6 : decode cX1_node 6 = .ok (.aload_n 0, 1) := dk_42 (dk_at dksX1_node_0 6 rfl rfl)
theorem dX1_node_7 : decode cX1_node 7 = .ok (.dup, 1) := dk_89 (dk_at dksX1_node_0 7 rfl rfl)
theorem dX1_node_8 : decode cX1_node 8 = .ok (.getfield 237, 3) := dk_180 0 237 (dk_at dksX1_node_0 8 rfl rfl)
theorem dX1_node_11 : decode cX1_node 11 = .ok (.iconst 1, 1) := dk_4 (dk_at dksX1_node_0 11 rfl rfl)
theorem dX1_node_12 : decode cX1_node 12 = .ok (.iadd, 1) := dk_96 (dk_at dksX1_node_0 12 rfl rfl)
theorem dX1_node_13 : decode cX1_node 13 = .ok (.putfield 237, 3) := dk_181 0 237 (dk_at dksX1_node_0 13 rfl rfl)
theorem dX1_node_16 : decode cX1_node 16 = .ok (.aload_n 0, 1) := dk_42 (dk_at dksX1_node_0 16 rfl rfl)
theorem dX1_node_17 : decode cX1_node 17 = .ok (.getfield 24, 3) := dk_180 0 24 (dk_at dksX1_node_0 17 rfl rfl)
theorem dX1_node_20 : decode cX1_node 20 = .ok (.iload 4, 2) := dk_21 4 (dk_at dksX1_node_0 20 rfl rfl)
theorem dX1_node_22 : decode cX1_node 22 = .ok (.iload_n 1, 1) := dk_27 (dk_at dksX1_node_0 22 rfl rfl)
theorem dX1_node_23 : decode cX1_node 23 = .ok (.iastore, 1) := dk_79 (dk_at dksX1_node_0 23 rfl rfl)
theorem dX1_node_24 : decode cX1_node 24 = .ok (.aload_n 0, 1) := dk_42 (dk_at dksX1_node_1 0 rfl rfl)
theorem dX1_node_25 : decode cX1_node 25 = .ok (.getfield 27, 3) := dk_180 0 27 (dk_at dksX1_node_1 1 rfl rfl)
theorem dX1_node_28 : decode cX1_node 28 = .ok (.iload 4, 2) := dk_21 4 (dk_at dksX1_node_1 4 rfl rfl)
theorem dX1_node_30 : decode cX1_node 30 = .ok (.lload_n 2, 1) := dk_32 (dk_at dksX1_node_1 6 rfl rfl)
theorem dX1_node_31 : decode cX1_node 31 = .ok (.lastore, 1) := dk_80 (dk_at dksX1_node_1 7 rfl rfl)
theorem dX1_node_32 : decode cX1_node 32 = .ok (.aload_n 0, 1) := dk_42 (dk_at dksX1_node_1 8 rfl rfl)
theorem dX1_node_33 : decode cX1_node 33 = .ok (.getfield 30, 3) := dk_180 0 30 (dk_at dksX1_node_1 9 rfl rfl)
theorem dX1_node_36 : decode cX1_node 36 = .ok (.iload 4, 2) := dk_21 4 (dk_at dksX1_node_1 12 rfl rfl)
theorem dX1_node_38 : decode cX1_node 38 = .ok (.aload_n 0, 1) := dk_42 (dk_at dksX1_node_1 14 rfl rfl)
theorem dX1_node_39 : decode cX1_node 39 = .ok (.getfield 17, 3) := dk_180 0 17 (dk_at dksX1_node_1 15 rfl rfl)
theorem dX1_node_42 : decode cX1_node 42 = .ok (.aload_n 0, 1) := dk_42 (dk_at dksX1_node_1 18 rfl rfl)
theorem dX1_node_43 : decode cX1_node 43 = .ok (.getfield 227, 3) := dk_180 0 227 (dk_at dksX1_node_1 19 rfl rfl)
theorem dX1_node_46 : decode cX1_node 46 = .ok (.iaload, 1) := dk_46 (dk_at dksX1_node_1 22 rfl rfl)
theorem dX1_node_47 : decode cX1_node 47 = .ok (.iastore, 1) := dk_79 (dk_at dksX1_node_1 23 rfl rfl)
theorem dX1_node_48 : decode cX1_node 48 = .ok (.aload_n 0, 1) := dk_42 (dk_at dksX1_node_2 0 rfl rfl)
theorem dX1_node_49 : decode cX1_node 49 = .ok (.getfield 33, 3) := dk_180 0 33 (dk_at dksX1_node_2 1 rfl rfl)
theorem dX1_node_52 : decode cX1_node 52 = .ok (.iload 4, 2) := dk_21 4 (dk_at dksX1_node_2 4 rfl rfl)
theorem dX1_node_54 : decode cX1_node 54 = .ok (.iconst 1, 1) := dk_4 (dk_at dksX1_node_2 6 rfl rfl)
theorem dX1_node_55 : decode cX1_node 55 = .ok (.iastore, 1) := dk_79 (dk_at dksX1_node_2 7 rfl rfl)
theorem dX1_node_56 : decode cX1_node 56 = .ok (.aload_n 0, 1) := dk_42 (dk_at dksX1_node_2 8 rfl rfl)
theorem dX1_node_57 : decode cX1_node 57 = .ok (.getfield 36, 3) := dk_180 0 36 (dk_at dksX1_node_2 9 rfl rfl)
theorem dX1_node_60 : decode cX1_node 60 = .ok (.iload 4, 2) := dk_21 4 (dk_at dksX1_node_2 12 rfl rfl)
theorem dX1_node_62 : decode cX1_node 62 = .ok (.iconst 0, 1) := dk_3 (dk_at dksX1_node_2 14 rfl rfl)
theorem dX1_node_63 : decode cX1_node 63 = .ok (.iastore, 1) := dk_79 (dk_at dksX1_node_2 15 rfl rfl)
theorem dX1_node_64 : decode cX1_node 64 = .ok (.aload_n 0, 1) := dk_42 (dk_at dksX1_node_2 16 rfl rfl)
theorem dX1_node_65 : decode cX1_node 65 = .ok (.getfield 39, 3) := dk_180 0 39 (dk_at dksX1_node_2 17 rfl rfl)
theorem dX1_node_68 : decode cX1_node 68 = .ok (.iload 4, 2) := dk_21 4 (dk_at dksX1_node_2 20 rfl rfl)
theorem dX1_node_70 : decode cX1_node 70 = .ok (.aload_n 0, 1) := dk_42 (dk_at dksX1_node_2 22 rfl rfl)
theorem dX1_node_71 : decode cX1_node 71 = .ok (.getfield 240, 3) := dk_180 0 240 (dk_at dksX1_node_3 0 rfl rfl)
theorem dX1_node_74 : decode cX1_node 74 = .ok (.ifCond .le 17, 3) := dk_158 0 17 (dk_at dksX1_node_3 3 rfl rfl)
theorem dX1_node_77 : decode cX1_node 77 = .ok (.aload_n 0, 1) := dk_42 (dk_at dksX1_node_3 6 rfl rfl)
theorem dX1_node_78 : decode cX1_node 78 = .ok (.getfield 55, 3) := dk_180 0 55 (dk_at dksX1_node_3 7 rfl rfl)
theorem dX1_node_81 : decode cX1_node 81 = .ok (.aload_n 0, 1) := dk_42 (dk_at dksX1_node_3 10 rfl rfl)
theorem dX1_node_82 : decode cX1_node 82 = .ok (.getfield 240, 3) := dk_180 0 240 (dk_at dksX1_node_3 11 rfl rfl)
theorem dX1_node_85 : decode cX1_node 85 = .ok (.iconst 1, 1) := dk_4 (dk_at dksX1_node_3 14 rfl rfl)
theorem dX1_node_86 : decode cX1_node 86 = .ok (.isub, 1) := dk_100 (dk_at dksX1_node_3 15 rfl rfl)
theorem dX1_node_87 : decode cX1_node 87 = .ok (.iaload, 1) := dk_46 (dk_at dksX1_node_3 16 rfl rfl)
theorem dX1_node_88 : decode cX1_node 88 = .ok (.goto 5, 3) := dk_167 0 5 (dk_at dksX1_node_3 17 rfl rfl)
theorem dX1_node_91 : decode cX1_node 91 = .ok (.bipush (-9), 2) := dk_16 247 (dk_at dksX1_node_3 20 rfl rfl)
theorem dX1_node_93 : decode cX1_node 93 = .ok (.iastore, 1) := dk_79 (dk_at dksX1_node_3 22 rfl rfl)
theorem dX1_node_94 : decode cX1_node 94 = .ok (.aload_n 0, 1) := dk_42 (dk_at dksX1_node_3 23 rfl rfl)
theorem dX1_node_95 : decode cX1_node 95 = .ok (.getfield 240, 3) := dk_180 0 240 (dk_at dksX1_node_4 0 rfl rfl)
theorem dX1_node_98 : decode cX1_node 98 = .ok (.ifCond .le 23, 3) := dk_158 0 23 (dk_at dksX1_node_4 3 rfl rfl)
theorem dX1_node_101 : decode cX1_node 101 = .ok (.aload_n 0, 1) := dk_42 (dk_at dksX1_node_4 6 rfl rfl)
theorem dX1_node_102 : decode cX1_node 102 = .ok (.getfield 36, 3) := dk_180 0 36 (dk_at dksX1_node_4 7 rfl rfl)
theorem dX1_node_105 : decode cX1_node 105 = .ok (.aload_n 0, 1) := dk_42 (dk_at dksX1_node_4 10 rfl rfl)
theorem dX1_node_106 : decode cX1_node 106 = .ok (.getfield 55, 3) := dk_180 0 55 (dk_at dksX1_node_4 11 rfl rfl)
theorem dX1_node_109 : decode cX1_node 109 = .ok (.aload_n 0, 1) := dk_42 (dk_at dksX1_node_4 14 rfl rfl)
theorem dX1_node_110 : decode cX1_node 110 = .ok (.getfield 240, 3) := dk_180 0 240 (dk_at dksX1_node_4 15 rfl rfl)
theorem dX1_node_113 : decode cX1_node 113 = .ok (.iconst 1, 1) := dk_4 (dk_at dksX1_node_4 18 rfl rfl)
theorem dX1_node_114 : decode cX1_node 114 = .ok (.isub, 1) := dk_100 (dk_at dksX1_node_4 19 rfl rfl)
theorem dX1_node_115 : decode cX1_node 115 = .ok (.iaload, 1) := dk_46 (dk_at dksX1_node_4 20 rfl rfl)
theorem dX1_node_116 : decode cX1_node 116 = .ok (.dup2, 1) := dk_92 (dk_at dksX1_node_4 21 rfl rfl)
theorem dX1_node_117 : decode cX1_node 117 = .ok (.iaload, 1) := dk_46 (dk_at dksX1_node_4 22 rfl rfl)
theorem dX1_node_118 : decode cX1_node 118 = .ok (.iconst 1, 1) := dk_4 (dk_at dksX1_node_4 23 rfl rfl)
theorem dX1_node_119 : decode cX1_node 119 = .ok (.iadd, 1) := dk_96 (dk_at dksX1_node_5 0 rfl rfl)
theorem dX1_node_120 : decode cX1_node 120 = .ok (.iastore, 1) := dk_79 (dk_at dksX1_node_5 1 rfl rfl)
theorem dX1_node_121 : decode cX1_node 121 = .ok (.iload 4, 2) := dk_21 4 (dk_at dksX1_node_5 2 rfl rfl)
theorem dX1_node_123 : decode cX1_node 123 = .ok (.ireturn, 1) := dk_172 (dk_at dksX1_node_5 4 rfl rfl)
abbrev cX1_close : ByteArray := prog_20_method_16_code
def yX1_close : MethodName := ⟨RX1, "close", "()V"⟩
def dkwX1_close_2 : List UInt8 := [42, 180, 0, 240, 46, 100, 79, 177]
abbrev dktX1_close_2 : List UInt8 := dkwX1_close_2 ++ []
def dkwX1_close_1 : List UInt8 := [181, 0, 243, 42, 180, 0, 33, 42, 180, 0, 55, 42, 180, 0, 240, 46, 42, 180, 0, 237, 42, 180, 0, 55]
abbrev dktX1_close_1 : List UInt8 := dkwX1_close_1 ++ dktX1_close_2
def dkwX1_close_0 : List UInt8 := [42, 16, 41, 182, 0, 250, 42, 89, 180, 0, 240, 4, 100, 181, 0, 240, 42, 89, 180, 0, 243, 4, 100]
abbrev dktX1_close_0 : List UInt8 := dkwX1_close_0 ++ dktX1_close_1
theorem dksX1_close_0 : cX1_close.data.toList.drop 0 = dktX1_close_0 := by decide +kernel
theorem dksX1_close_1 : cX1_close.data.toList.drop 23 = dktX1_close_1 := dk_seg dksX1_close_0 23 rfl rfl
theorem dksX1_close_2 : cX1_close.data.toList.drop 47 = dktX1_close_2 := dk_seg dksX1_close_1 24 rfl rfl
theorem dX1_close_0 : decode cX1_close 0 = .ok (.aload_n 0, 1) := dk_42 (dk_at dksX1_close_0 0 rfl rfl)
theorem dX1_close_1 : decode cX1_close 1 = .ok (.bipush 41, 2) := dk_16 41 (dk_at dksX1_close_0 1 rfl rfl)
theorem dX1_close_3 : decode cX1_close 3 = .ok (.invokevirtual 250, 3) := dk_182 0 250 (dk_at dksX1_close_0 3 rfl rfl)
theorem dX1_close_6 : decode cX1_close 6 = .ok (.aload_n 0, 1) := dk_42 (dk_at dksX1_close_0 6 rfl rfl)
theorem dX1_close_7 : decode cX1_close 7 = .ok (.dup, 1) := dk_89 (dk_at dksX1_close_0 7 rfl rfl)
theorem dX1_close_8 : decode cX1_close 8 = .ok (.getfield 240, 3) := dk_180 0 240 (dk_at dksX1_close_0 8 rfl rfl)
theorem dX1_close_11 : decode cX1_close 11 = .ok (.iconst 1, 1) := dk_4 (dk_at dksX1_close_0 11 rfl rfl)
theorem dX1_close_12 : decode cX1_close 12 = .ok (.isub, 1) := dk_100 (dk_at dksX1_close_0 12 rfl rfl)
theorem dX1_close_13 : decode cX1_close 13 = .ok (.putfield 240, 3) := dk_181 0 240 (dk_at dksX1_close_0 13 rfl rfl)
theorem dX1_close_16 : decode cX1_close 16 = .ok (.aload_n 0, 1) := dk_42 (dk_at dksX1_close_0 16 rfl rfl)
theorem dX1_close_17 : decode cX1_close 17 = .ok (.dup, 1) := dk_89 (dk_at dksX1_close_0 17 rfl rfl)
theorem dX1_close_18 : decode cX1_close 18 = .ok (.getfield 243, 3) := dk_180 0 243 (dk_at dksX1_close_0 18 rfl rfl)
theorem dX1_close_21 : decode cX1_close 21 = .ok (.iconst 1, 1) := dk_4 (dk_at dksX1_close_0 21 rfl rfl)
theorem dX1_close_22 : decode cX1_close 22 = .ok (.isub, 1) := dk_100 (dk_at dksX1_close_0 22 rfl rfl)
theorem dX1_close_23 : decode cX1_close 23 = .ok (.putfield 243, 3) := dk_181 0 243 (dk_at dksX1_close_1 0 rfl rfl)
theorem dX1_close_26 : decode cX1_close 26 = .ok (.aload_n 0, 1) := dk_42 (dk_at dksX1_close_1 3 rfl rfl)
theorem dX1_close_27 : decode cX1_close 27 = .ok (.getfield 33, 3) := dk_180 0 33 (dk_at dksX1_close_1 4 rfl rfl)
theorem dX1_close_30 : decode cX1_close 30 = .ok (.aload_n 0, 1) := dk_42 (dk_at dksX1_close_1 7 rfl rfl)
theorem dX1_close_31 : decode cX1_close 31 = .ok (.getfield 55, 3) := dk_180 0 55 (dk_at dksX1_close_1 8 rfl rfl)
theorem dX1_close_34 : decode cX1_close 34 = .ok (.aload_n 0, 1) := dk_42 (dk_at dksX1_close_1 11 rfl rfl)
theorem dX1_close_35 : decode cX1_close 35 = .ok (.getfield 240, 3) := dk_180 0 240 (dk_at dksX1_close_1 12 rfl rfl)
theorem dX1_close_38 : decode cX1_close 38 = .ok (.iaload, 1) := dk_46 (dk_at dksX1_close_1 15 rfl rfl)
theorem dX1_close_39 : decode cX1_close 39 = .ok (.aload_n 0, 1) := dk_42 (dk_at dksX1_close_1 16 rfl rfl)
theorem dX1_close_40 : decode cX1_close 40 = .ok (.getfield 237, 3) := dk_180 0 237 (dk_at dksX1_close_1 17 rfl rfl)
theorem dX1_close_43 : decode cX1_close 43 = .ok (.aload_n 0, 1) := dk_42 (dk_at dksX1_close_1 20 rfl rfl)
theorem dX1_close_44 : decode cX1_close 44 = .ok (.getfield 55, 3) := dk_180 0 55 (dk_at dksX1_close_1 21 rfl rfl)
theorem dX1_close_47 : decode cX1_close 47 = .ok (.aload_n 0, 1) := dk_42 (dk_at dksX1_close_2 0 rfl rfl)
theorem dX1_close_48 : decode cX1_close 48 = .ok (.getfield 240, 3) := dk_180 0 240 (dk_at dksX1_close_2 1 rfl rfl)
theorem dX1_close_51 : decode cX1_close 51 = .ok (.iaload, 1) := dk_46 (dk_at dksX1_close_2 4 rfl rfl)
theorem dX1_close_52 : decode cX1_close 52 = .ok (.isub, 1) := dk_100 (dk_at dksX1_close_2 5 rfl rfl)
theorem dX1_close_53 : decode cX1_close 53 = .ok (.iastore, 1) := dk_79 (dk_at dksX1_close_2 6 rfl rfl)
theorem dX1_close_54 : decode cX1_close 54 = .ok (.return_, 1) := dk_177 (dk_at dksX1_close_2 7 rfl rfl)
abbrev cX1_take : ByteArray := prog_20_method_13_code
def yX1_take : MethodName := ⟨RX1, "take", "(I)V"⟩
def dkwX1_take_1 : List UInt8 := [153, 0, 13, 42, 89, 180, 0, 227, 4, 96, 181, 0, 227, 177]
abbrev dktX1_take_1 : List UInt8 := dkwX1_take_1 ++ []
def dkwX1_take_0 : List UInt8 := [42, 42, 180, 0, 13, 42, 180, 0, 227, 46, 27, 160, 0, 7, 4, 167, 0, 4, 3, 182, 0, 233]
abbrev dktX1_take_0 : List UInt8 := dkwX1_take_0 ++ dktX1_take_1
theorem dksX1_take_0 : cX1_take.data.toList.drop 0 = dktX1_take_0 := by decide +kernel
theorem dksX1_take_1 : cX1_take.data.toList.drop 22 = dktX1_take_1 := dk_seg dksX1_take_0 22 rfl rfl
theorem dX1_take_0 : decode cX1_take 0 = .ok (.aload_n 0, 1) := dk_42 (dk_at dksX1_take_0 0 rfl rfl)
theorem dX1_take_1 : decode cX1_take 1 = .ok (.aload_n 0, 1) := dk_42 (dk_at dksX1_take_0 1 rfl rfl)
theorem dX1_take_2 : decode cX1_take 2 = .ok (.getfield 13, 3) := dk_180 0 13 (dk_at dksX1_take_0 2 rfl rfl)
theorem dX1_take_5 : decode cX1_take 5 = .ok (.aload_n 0, 1) := dk_42 (dk_at dksX1_take_0 5 rfl rfl)
theorem dX1_take_6 : decode cX1_take 6 = .ok (.getfield 227, 3) := dk_180 0 227 (dk_at dksX1_take_0 6 rfl rfl)
theorem dX1_take_9 : decode cX1_take 9 = .ok (.iaload, 1) := dk_46 (dk_at dksX1_take_0 9 rfl rfl)
theorem dX1_take_10 : decode cX1_take 10 = .ok (.iload_n 1, 1) := dk_27 (dk_at dksX1_take_0 10 rfl rfl)
theorem dX1_take_11 : decode cX1_take 11 = .ok (.if_icmp .ne 7, 3) := dk_160 0 7 (dk_at dksX1_take_0 11 rfl rfl)
theorem dX1_take_14 : decode cX1_take 14 = .ok (.iconst 1, 1) := dk_4 (dk_at dksX1_take_0 14 rfl rfl)
theorem dX1_take_15 : decode cX1_take 15 = .ok (.goto 4, 3) := dk_167 0 4 (dk_at dksX1_take_0 15 rfl rfl)
theorem dX1_take_18 : decode cX1_take 18 = .ok (.iconst 0, 1) := dk_3 (dk_at dksX1_take_0 18 rfl rfl)
theorem dX1_take_19 : decode cX1_take 19 = .ok (.invokevirtual 233, 3) := dk_182 0 233 (dk_at dksX1_take_0 19 rfl rfl)
theorem dX1_take_22 : decode cX1_take 22 = .ok (.ifCond .eq 13, 3) := dk_153 0 13 (dk_at dksX1_take_1 0 rfl rfl)
theorem dX1_take_25 : decode cX1_take 25 = .ok (.aload_n 0, 1) := dk_42 (dk_at dksX1_take_1 3 rfl rfl)
theorem dX1_take_26 : decode cX1_take 26 = .ok (.dup, 1) := dk_89 (dk_at dksX1_take_1 4 rfl rfl)
theorem dX1_take_27 : decode cX1_take 27 = .ok (.getfield 227, 3) := dk_180 0 227 (dk_at dksX1_take_1 5 rfl rfl)
theorem dX1_take_30 : decode cX1_take 30 = .ok (.iconst 1, 1) := dk_4 (dk_at dksX1_take_1 8 rfl rfl)
theorem dX1_take_31 : decode cX1_take 31 = .ok (.iadd, 1) := dk_96 (dk_at dksX1_take_1 9 rfl rfl)
theorem dX1_take_32 : decode cX1_take 32 = .ok (.putfield 227, 3) := dk_181 0 227 (dk_at dksX1_take_1 10 rfl rfl)
theorem dX1_take_35 : decode cX1_take 35 = .ok (.return_, 1) := dk_177 (dk_at dksX1_take_1 13 rfl rfl)
abbrev cX1_checkRule : ByteArray := prog_20_method_23_code
def yX1_checkRule : MethodName := ⟨RX1, "checkRule", "(I)V"⟩
def dkwX1_checkRule_8 : List UInt8 := [153, 0, 14, 42, 6, 42, 180, 0, 30, 29, 46, 182, 1, 30, 132, 3, 1, 167, 255, 148, 177]
abbrev dktX1_checkRule_8 : List UInt8 := dkwX1_checkRule_8 ++ []
def dkwX1_checkRule_7 : List UInt8 := [180, 0, 24, 21, 4, 46, 42, 180, 0, 24, 29, 46, 159, 0, 7, 4, 167, 0, 4, 3, 54, 5, 21, 5]
abbrev dktX1_checkRule_7 : List UInt8 := dkwX1_checkRule_7 ++ dktX1_checkRule_8
def dkwX1_checkRule_6 : List UInt8 := [160, 0, 22, 42, 180, 0, 24, 29, 46, 16, 7, 160, 0, 7, 4, 167, 0, 28, 3, 167, 0, 24, 42]
abbrev dktX1_checkRule_6 : List UInt8 := dkwX1_checkRule_6 ++ dktX1_checkRule_7
def dkwX1_checkRule_5 : List UInt8 := [16, 7, 160, 0, 81, 42, 27, 42, 180, 0, 27, 29, 47, 182, 1, 27, 54, 4, 21, 4, 16, 247]
abbrev dktX1_checkRule_5 : List UInt8 := dkwX1_checkRule_5 ++ dktX1_checkRule_6
def dkwX1_checkRule_4 : List UInt8 := [46, 62, 29, 28, 162, 0, 109, 42, 180, 0, 24, 29, 46, 16, 6, 159, 0, 14, 42, 180, 0, 24, 29, 46]
abbrev dktX1_checkRule_4 : List UInt8 := dkwX1_checkRule_4 ++ dktX1_checkRule_5
def dkwX1_checkRule_3 : List UInt8 := [42, 180, 0, 52, 27, 46, 42, 180, 0, 33, 42, 180, 0, 52, 27, 46, 46, 96, 61, 42, 180, 0, 52, 27]
abbrev dktX1_checkRule_3 : List UInt8 := dkwX1_checkRule_3 ++ dktX1_checkRule_4
def dkwX1_checkRule_2 : List UInt8 := [182, 1, 27, 28, 159, 0, 14, 42, 5, 42, 180, 0, 30, 28, 46, 182, 1, 30, 132, 2, 1, 167, 255, 195]
abbrev dktX1_checkRule_2 : List UInt8 := dkwX1_checkRule_2 ++ dktX1_checkRule_3
def dkwX1_checkRule_1 : List UInt8 := [16, 6, 159, 0, 14, 42, 180, 0, 24, 28, 46, 16, 7, 160, 0, 29, 42, 27, 42, 180, 0, 27, 28, 47]
abbrev dktX1_checkRule_1 : List UInt8 := dkwX1_checkRule_1 ++ dktX1_checkRule_2
def dkwX1_checkRule_0 : List UInt8 := [42, 180, 0, 49, 27, 46, 61, 28, 42, 180, 0, 52, 27, 46, 162, 0, 57, 42, 180, 0, 24, 28, 46]
abbrev dktX1_checkRule_0 : List UInt8 := dkwX1_checkRule_0 ++ dktX1_checkRule_1
theorem dksX1_checkRule_0 : cX1_checkRule.data.toList.drop 0 = dktX1_checkRule_0 := by decide +kernel
theorem dksX1_checkRule_1 : cX1_checkRule.data.toList.drop 23 = dktX1_checkRule_1 := dk_seg dksX1_checkRule_0 23 rfl rfl
theorem dksX1_checkRule_2 : cX1_checkRule.data.toList.drop 47 = dktX1_checkRule_2 := dk_seg dksX1_checkRule_1 24 rfl rfl
theorem dksX1_checkRule_3 : cX1_checkRule.data.toList.drop 71 = dktX1_checkRule_3 := dk_seg dksX1_checkRule_2 24 rfl rfl
theorem dksX1_checkRule_4 : cX1_checkRule.data.toList.drop 95 = dktX1_checkRule_4 := dk_seg dksX1_checkRule_3 24 rfl rfl
theorem dksX1_checkRule_5 : cX1_checkRule.data.toList.drop 119 = dktX1_checkRule_5 := dk_seg dksX1_checkRule_4 24 rfl rfl
theorem dksX1_checkRule_6 : cX1_checkRule.data.toList.drop 141 = dktX1_checkRule_6 := dk_seg dksX1_checkRule_5 22 rfl rfl
theorem dksX1_checkRule_7 : cX1_checkRule.data.toList.drop 164 = dktX1_checkRule_7 := dk_seg dksX1_checkRule_6 23 rfl rfl
theorem dksX1_checkRule_8 : cX1_checkRule.data.toList.drop 188 = dktX1_checkRule_8 := dk_seg dksX1_checkRule_7 24 rfl rfl
theorem dX1_checkRule_0 : decode cX1_checkRule 0 = .ok (.aload_n 0, 1) := dk_42 (dk_at dksX1_checkRule_0 0 rfl rfl)
theorem dX1_checkRule_1 : decode cX1_checkRule 1 = .ok (.getfield 49, 3) := dk_180 0 49 (dk_at dksX1_checkRule_0 1 rfl rfl)
theorem dX1_checkRule_4 : decode cX1_checkRule 4 = .ok (.iload_n 1, 1) := dk_27 (dk_at dksX1_checkRule_0 4 rfl rfl)
theorem dX1_checkRule_5 : decode cX1_checkRule 5 = .ok (.iaload, 1) := dk_46 (dk_at dksX1_checkRule_0 5 rfl rfl)
theorem dX1_checkRule_6 : decode cX1_checkRule 6 = .ok (.istore_n 2, 1) := dk_61 (dk_at dksX1_checkRule_0 6 rfl rfl)
theorem dX1_checkRule_7 : decode cX1_checkRule 7 = .ok (.iload_n 2, 1) := dk_28 (dk_at dksX1_checkRule_0 7 rfl rfl)
theorem dX1_checkRule_8 : decode cX1_checkRule 8 = .ok (.aload_n 0, 1) := dk_42 (dk_at dksX1_checkRule_0 8 rfl rfl)
theorem dX1_checkRule_9 : decode cX1_checkRule 9 = .ok (.getfield 52, 3) := dk_180 0 52 (dk_at dksX1_checkRule_0 9 rfl rfl)
theorem dX1_checkRule_12 : decode cX1_checkRule 12 = .ok (.iload_n 1, 1) := dk_27 (dk_at dksX1_checkRule_0 12 rfl rfl)
theorem dX1_checkRule_13 : decode cX1_checkRule 13 = .ok (.iaload, 1) := dk_46 (dk_at dksX1_checkRule_0 13 rfl rfl)
theorem dX1_checkRule_14 : decode cX1_checkRule 14 = .ok (.if_icmp .ge 57, 3) := dk_162 0 57 (dk_at dksX1_checkRule_0 14 rfl rfl)
theorem dX1_checkRule_17 : decode cX1_checkRule 17 = .ok (.aload_n 0, 1) := dk_42 (dk_at dksX1_checkRule_0 17 rfl rfl)
theorem dX1_checkRule_18 : decode cX1_checkRule 18 = .ok (.getfield 24, 3) := dk_180 0 24 (dk_at dksX1_checkRule_0 18 rfl rfl)
theorem dX1_checkRule_21 : decode cX1_checkRule 21 = .ok (.iload_n 2, 1) := dk_28 (dk_at dksX1_checkRule_0 21 rfl rfl)
theorem dX1_checkRule_22 : decode cX1_checkRule 22 = .ok (.iaload, 1) := dk_46 (dk_at dksX1_checkRule_0 22 rfl rfl)
theorem dX1_checkRule_23 : decode cX1_checkRule 23 = .ok (.bipush 6, 2) := dk_16 6 (dk_at dksX1_checkRule_1 0 rfl rfl)
theorem dX1_checkRule_25 : decode cX1_checkRule 25 = .ok (.if_icmp .eq 14, 3) := dk_159 0 14 (dk_at dksX1_checkRule_1 2 rfl rfl)
theorem dX1_checkRule_28 : decode cX1_checkRule 28 = .ok (.aload_n 0, 1) := dk_42 (dk_at dksX1_checkRule_1 5 rfl rfl)
theorem dX1_checkRule_29 : decode cX1_checkRule 29 = .ok (.getfield 24, 3) := dk_180 0 24 (dk_at dksX1_checkRule_1 6 rfl rfl)
theorem dX1_checkRule_32 : decode cX1_checkRule 32 = .ok (.iload_n 2, 1) := dk_28 (dk_at dksX1_checkRule_1 9 rfl rfl)
theorem dX1_checkRule_33 : decode cX1_checkRule 33 = .ok (.iaload, 1) := dk_46 (dk_at dksX1_checkRule_1 10 rfl rfl)
theorem dX1_checkRule_34 : decode cX1_checkRule 34 = .ok (.bipush 7, 2) := dk_16 7 (dk_at dksX1_checkRule_1 11 rfl rfl)
theorem dX1_checkRule_36 : decode cX1_checkRule 36 = .ok (.if_icmp .ne 29, 3) := dk_160 0 29 (dk_at dksX1_checkRule_1 13 rfl rfl)
theorem dX1_checkRule_39 : decode cX1_checkRule 39 = .ok (.aload_n 0, 1) := dk_42 (dk_at dksX1_checkRule_1 16 rfl rfl)
theorem dX1_checkRule_40 : decode cX1_checkRule 40 = .ok (.iload_n 1, 1) := dk_27 (dk_at dksX1_checkRule_1 17 rfl rfl)
theorem dX1_checkRule_41 : decode cX1_checkRule 41 = .ok (.aload_n 0, 1) := dk_42 (dk_at dksX1_checkRule_1 18 rfl rfl)
theorem dX1_checkRule_42 : decode cX1_checkRule 42 = .ok (.getfield 27, 3) := dk_180 0 27 (dk_at dksX1_checkRule_1 19 rfl rfl)
theorem dX1_checkRule_45 : decode cX1_checkRule 45 = .ok (.iload_n 2, 1) := dk_28 (dk_at dksX1_checkRule_1 22 rfl rfl)
theorem dX1_checkRule_46 : decode cX1_checkRule 46 = .ok (.laload, 1) := dk_47 (dk_at dksX1_checkRule_1 23 rfl rfl)
theorem dX1_checkRule_47 : decode cX1_checkRule 47 = .ok (.invokevirtual 283, 3) := dk_182 1 27 (dk_at dksX1_checkRule_2 0 rfl rfl)
theorem dX1_checkRule_50 : decode cX1_checkRule 50 = .ok (.iload_n 2, 1) := dk_28 (dk_at dksX1_checkRule_2 3 rfl rfl)
theorem dX1_checkRule_51 : decode cX1_checkRule 51 = .ok (.if_icmp .eq 14, 3) := dk_159 0 14 (dk_at dksX1_checkRule_2 4 rfl rfl)
theorem dX1_checkRule_54 : decode cX1_checkRule 54 = .ok (.aload_n 0, 1) := dk_42 (dk_at dksX1_checkRule_2 7 rfl rfl)
theorem dX1_checkRule_55 : decode cX1_checkRule 55 = .ok (.iconst 2, 1) := dk_5 (dk_at dksX1_checkRule_2 8 rfl rfl)
theorem dX1_checkRule_56 : decode cX1_checkRule 56 = .ok (.aload_n 0, 1) := dk_42 (dk_at dksX1_checkRule_2 9 rfl rfl)
theorem dX1_checkRule_57 : decode cX1_checkRule 57 = .ok (.getfield 30, 3) := dk_180 0 30 (dk_at dksX1_checkRule_2 10 rfl rfl)
theorem dX1_checkRule_60 : decode cX1_checkRule 60 = .ok (.iload_n 2, 1) := dk_28 (dk_at dksX1_checkRule_2 13 rfl rfl)
theorem dX1_checkRule_61 : decode cX1_checkRule 61 = .ok (.iaload, 1) := dk_46 (dk_at dksX1_checkRule_2 14 rfl rfl)
theorem dX1_checkRule_62 : decode cX1_checkRule 62 = .ok (.invokevirtual 286, 3) := dk_182 1 30 (dk_at dksX1_checkRule_2 15 rfl rfl)
theorem dX1_checkRule_65 : decode cX1_checkRule 65 = .ok (.iinc 2 1, 3) := dk_132 2 1 (dk_at dksX1_checkRule_2 18 rfl rfl)
theorem dX1_checkRule_68 : decode cX1_checkRule 68 = .ok (.goto (-61), 3) := dk_167 255 195 (dk_at dksX1_checkRule_2 21 rfl rfl)
theorem dX1_checkRule_71 : decode cX1_checkRule 71 = .ok (.aload_n 0, 1) := dk_42 (dk_at dksX1_checkRule_3 0 rfl rfl)
theorem dX1_checkRule_72 : decode cX1_checkRule 72 = .ok (.getfield 52, 3) := dk_180 0 52 (dk_at dksX1_checkRule_3 1 rfl rfl)
theorem dX1_checkRule_75 : decode cX1_checkRule 75 = .ok (.iload_n 1, 1) := dk_27 (dk_at dksX1_checkRule_3 4 rfl rfl)
theorem dX1_checkRule_76 : decode cX1_checkRule 76 = .ok (.iaload, 1) := dk_46 (dk_at dksX1_checkRule_3 5 rfl rfl)
theorem dX1_checkRule_77 : decode cX1_checkRule 77 = .ok (.aload_n 0, 1) := dk_42 (dk_at dksX1_checkRule_3 6 rfl rfl)
theorem dX1_checkRule_78 : decode cX1_checkRule 78 = .ok (.getfield 33, 3) := dk_180 0 33 (dk_at dksX1_checkRule_3 7 rfl rfl)
theorem dX1_checkRule_81 : decode cX1_checkRule 81 = .ok (.aload_n 0, 1) := dk_42 (dk_at dksX1_checkRule_3 10 rfl rfl)
theorem dX1_checkRule_82 : decode cX1_checkRule 82 = .ok (.getfield 52, 3) := dk_180 0 52 (dk_at dksX1_checkRule_3 11 rfl rfl)
theorem dX1_checkRule_85 : decode cX1_checkRule 85 = .ok (.iload_n 1, 1) := dk_27 (dk_at dksX1_checkRule_3 14 rfl rfl)
theorem dX1_checkRule_86 : decode cX1_checkRule 86 = .ok (.iaload, 1) := dk_46 (dk_at dksX1_checkRule_3 15 rfl rfl)
theorem dX1_checkRule_87 : decode cX1_checkRule 87 = .ok (.iaload, 1) := dk_46 (dk_at dksX1_checkRule_3 16 rfl rfl)
theorem dX1_checkRule_88 : decode cX1_checkRule 88 = .ok (.iadd, 1) := dk_96 (dk_at dksX1_checkRule_3 17 rfl rfl)
theorem dX1_checkRule_89 : decode cX1_checkRule 89 = .ok (.istore_n 2, 1) := dk_61 (dk_at dksX1_checkRule_3 18 rfl rfl)
theorem dX1_checkRule_90 : decode cX1_checkRule 90 = .ok (.aload_n 0, 1) := dk_42 (dk_at dksX1_checkRule_3 19 rfl rfl)
theorem dX1_checkRule_91 : decode cX1_checkRule 91 = .ok (.getfield 52, 3) := dk_180 0 52 (dk_at dksX1_checkRule_3 20 rfl rfl)
theorem dX1_checkRule_94 : decode cX1_checkRule 94 = .ok (.iload_n 1, 1) := dk_27 (dk_at dksX1_checkRule_3 23 rfl rfl)
theorem dX1_checkRule_95 : decode cX1_checkRule 95 = .ok (.iaload, 1) := dk_46 (dk_at dksX1_checkRule_4 0 rfl rfl)
theorem dX1_checkRule_96 : decode cX1_checkRule 96 = .ok (.istore_n 3, 1) := dk_62 (dk_at dksX1_checkRule_4 1 rfl rfl)
theorem dX1_checkRule_97 : decode cX1_checkRule 97 = .ok (.iload_n 3, 1) := dk_29 (dk_at dksX1_checkRule_4 2 rfl rfl)
theorem dX1_checkRule_98 : decode cX1_checkRule 98 = .ok (.iload_n 2, 1) := dk_28 (dk_at dksX1_checkRule_4 3 rfl rfl)
theorem dX1_checkRule_99 : decode cX1_checkRule 99 = .ok (.if_icmp .ge 109, 3) := dk_162 0 109 (dk_at dksX1_checkRule_4 4 rfl rfl)
theorem dX1_checkRule_102 : decode cX1_checkRule 102 = .ok (.aload_n 0, 1) := dk_42 (dk_at dksX1_checkRule_4 7 rfl rfl)
theorem dX1_checkRule_103 : decode cX1_checkRule 103 = .ok (.getfield 24, 3) := dk_180 0 24 (dk_at dksX1_checkRule_4 8 rfl rfl)
theorem dX1_checkRule_106 : decode cX1_checkRule 106 = .ok (.iload_n 3, 1) := dk_29 (dk_at dksX1_checkRule_4 11 rfl rfl)
theorem dX1_checkRule_107 : decode cX1_checkRule 107 = .ok (.iaload, 1) := dk_46 (dk_at dksX1_checkRule_4 12 rfl rfl)
theorem dX1_checkRule_108 : decode cX1_checkRule 108 = .ok (.bipush 6, 2) := dk_16 6 (dk_at dksX1_checkRule_4 13 rfl rfl)
theorem dX1_checkRule_110 : decode cX1_checkRule 110 = .ok (.if_icmp .eq 14, 3) := dk_159 0 14 (dk_at dksX1_checkRule_4 15 rfl rfl)
theorem dX1_checkRule_113 : decode cX1_checkRule 113 = .ok (.aload_n 0, 1) := dk_42 (dk_at dksX1_checkRule_4 18 rfl rfl)
theorem dX1_checkRule_114 : decode cX1_checkRule 114 = .ok (.getfield 24, 3) := dk_180 0 24 (dk_at dksX1_checkRule_4 19 rfl rfl)
theorem dX1_checkRule_117 : decode cX1_checkRule 117 = .ok (.iload_n 3, 1) := dk_29 (dk_at dksX1_checkRule_4 22 rfl rfl)
theorem dX1_checkRule_118 : decode cX1_checkRule 118 = .ok (.iaload, 1) := dk_46 (dk_at dksX1_checkRule_4 23 rfl rfl)
theorem dX1_checkRule_119 : decode cX1_checkRule 119 = .ok (.bipush 7, 2) := dk_16 7 (dk_at dksX1_checkRule_5 0 rfl rfl)
theorem dX1_checkRule_121 : decode cX1_checkRule 121 = .ok (.if_icmp .ne 81, 3) := dk_160 0 81 (dk_at dksX1_checkRule_5 2 rfl rfl)
theorem dX1_checkRule_124 : decode cX1_checkRule 124 = .ok (.aload_n 0, 1) := dk_42 (dk_at dksX1_checkRule_5 5 rfl rfl)
theorem dX1_checkRule_125 : decode cX1_checkRule 125 = .ok (.iload_n 1, 1) := dk_27 (dk_at dksX1_checkRule_5 6 rfl rfl)
theorem dX1_checkRule_126 : decode cX1_checkRule 126 = .ok (.aload_n 0, 1) := dk_42 (dk_at dksX1_checkRule_5 7 rfl rfl)
theorem dX1_checkRule_127 : decode cX1_checkRule 127 = .ok (.getfield 27, 3) := dk_180 0 27 (dk_at dksX1_checkRule_5 8 rfl rfl)
theorem dX1_checkRule_130 : decode cX1_checkRule 130 = .ok (.iload_n 3, 1) := dk_29 (dk_at dksX1_checkRule_5 11 rfl rfl)
theorem dX1_checkRule_131 : decode cX1_checkRule 131 = .ok (.laload, 1) := dk_47 (dk_at dksX1_checkRule_5 12 rfl rfl)
theorem dX1_checkRule_132 : decode cX1_checkRule 132 = .ok (.invokevirtual 283, 3) := dk_182 1 27 (dk_at dksX1_checkRule_5 13 rfl rfl)
theorem dX1_checkRule_135 : decode cX1_checkRule 135 = .ok (.istore 4, 2) := dk_54 4 (dk_at dksX1_checkRule_5 16 rfl rfl)
theorem dX1_checkRule_137 : decode cX1_checkRule 137 = .ok (.iload 4, 2) := dk_21 4 (dk_at dksX1_checkRule_5 18 rfl rfl)
theorem dX1_checkRule_139 : decode cX1_checkRule 139 = .ok (.bipush (-9), 2) := dk_16 247 (dk_at dksX1_checkRule_5 20 rfl rfl)
theorem dX1_checkRule_141 : decode cX1_checkRule 141 = .ok (.if_icmp .ne 22, 3) := dk_160 0 22 (dk_at dksX1_checkRule_6 0 rfl rfl)
theorem dX1_checkRule_144 : decode cX1_checkRule 144 = .ok (.aload_n 0, 1) := dk_42 (dk_at dksX1_checkRule_6 3 rfl rfl)
theorem dX1_checkRule_145 : decode cX1_checkRule 145 = .ok (.getfield 24, 3) := dk_180 0 24 (dk_at dksX1_checkRule_6 4 rfl rfl)
theorem dX1_checkRule_148 : decode cX1_checkRule 148 = .ok (.iload_n 3, 1) := dk_29 (dk_at dksX1_checkRule_6 7 rfl rfl)
theorem dX1_checkRule_149 : decode cX1_checkRule 149 = .ok (.iaload, 1) := dk_46 (dk_at dksX1_checkRule_6 8 rfl rfl)
theorem dX1_checkRule_150 : decode cX1_checkRule 150 = .ok (.bipush 7, 2) := dk_16 7 (dk_at dksX1_checkRule_6 9 rfl rfl)
theorem dX1_checkRule_152 : decode cX1_checkRule 152 = .ok (.if_icmp .ne 7, 3) := dk_160 0 7 (dk_at dksX1_checkRule_6 11 rfl rfl)
theorem dX1_checkRule_155 : decode cX1_checkRule 155 = .ok (.iconst 1, 1) := dk_4 (dk_at dksX1_checkRule_6 14 rfl rfl)
theorem dX1_checkRule_156 : decode cX1_checkRule 156 = .ok (.goto 28, 3) := dk_167 0 28 (dk_at dksX1_checkRule_6 15 rfl rfl)
theorem dX1_checkRule_159 : decode cX1_checkRule 159 = .ok (.iconst 0, 1) := dk_3 (dk_at dksX1_checkRule_6 18 rfl rfl)
theorem dX1_checkRule_160 : decode cX1_checkRule 160 = .ok (.goto 24, 3) := dk_167 0 24 (dk_at dksX1_checkRule_6 19 rfl rfl)
theorem dX1_checkRule_163 : decode cX1_checkRule 163 = .ok (.aload_n 0, 1) := dk_42 (dk_at dksX1_checkRule_6 22 rfl rfl)
theorem dX1_checkRule_164 : decode cX1_checkRule 164 = .ok (.getfield 24, 3) := dk_180 0 24 (dk_at dksX1_checkRule_7 0 rfl rfl)
theorem dX1_checkRule_167 : decode cX1_checkRule 167 = .ok (.iload 4, 2) := dk_21 4 (dk_at dksX1_checkRule_7 3 rfl rfl)
theorem dX1_checkRule_169 : decode cX1_checkRule 169 = .ok (.iaload, 1) := dk_46 (dk_at dksX1_checkRule_7 5 rfl rfl)
theorem dX1_checkRule_170 : decode cX1_checkRule 170 = .ok (.aload_n 0, 1) := dk_42 (dk_at dksX1_checkRule_7 6 rfl rfl)
theorem dX1_checkRule_171 : decode cX1_checkRule 171 = .ok (.getfield 24, 3) := dk_180 0 24 (dk_at dksX1_checkRule_7 7 rfl rfl)
theorem dX1_checkRule_174 : decode cX1_checkRule 174 = .ok (.iload_n 3, 1) := dk_29 (dk_at dksX1_checkRule_7 10 rfl rfl)
theorem dX1_checkRule_175 : decode cX1_checkRule 175 = .ok (.iaload, 1) := dk_46 (dk_at dksX1_checkRule_7 11 rfl rfl)
theorem dX1_checkRule_176 : decode cX1_checkRule 176 = .ok (.if_icmp .eq 7, 3) := dk_159 0 7 (dk_at dksX1_checkRule_7 12 rfl rfl)
theorem dX1_checkRule_179 : decode cX1_checkRule 179 = .ok (.iconst 1, 1) := dk_4 (dk_at dksX1_checkRule_7 15 rfl rfl)
theorem dX1_checkRule_180 : decode cX1_checkRule 180 = .ok (.goto 4, 3) := dk_167 0 4 (dk_at dksX1_checkRule_7 16 rfl rfl)
theorem dX1_checkRule_183 : decode cX1_checkRule 183 = .ok (.iconst 0, 1) := dk_3 (dk_at dksX1_checkRule_7 19 rfl rfl)
theorem dX1_checkRule_184 : decode cX1_checkRule 184 = .ok (.istore 5, 2) := dk_54 5 (dk_at dksX1_checkRule_7 20 rfl rfl)
theorem dX1_checkRule_186 : decode cX1_checkRule 186 = .ok (.iload 5, 2) := dk_21 5 (dk_at dksX1_checkRule_7 22 rfl rfl)
theorem dX1_checkRule_188 : decode cX1_checkRule 188 = .ok (.ifCond .eq 14, 3) := dk_153 0 14 (dk_at dksX1_checkRule_8 0 rfl rfl)
theorem dX1_checkRule_191 : decode cX1_checkRule 191 = .ok (.aload_n 0, 1) := dk_42 (dk_at dksX1_checkRule_8 3 rfl rfl)
theorem dX1_checkRule_192 : decode cX1_checkRule 192 = .ok (.iconst 3, 1) := dk_6 (dk_at dksX1_checkRule_8 4 rfl rfl)
theorem dX1_checkRule_193 : decode cX1_checkRule 193 = .ok (.aload_n 0, 1) := dk_42 (dk_at dksX1_checkRule_8 5 rfl rfl)
theorem dX1_checkRule_194 : decode cX1_checkRule 194 = .ok (.getfield 30, 3) := dk_180 0 30 (dk_at dksX1_checkRule_8 6 rfl rfl)
theorem dX1_checkRule_197 : decode cX1_checkRule 197 = .ok (.iload_n 3, 1) := dk_29 (dk_at dksX1_checkRule_8 9 rfl rfl)
theorem dX1_checkRule_198 : decode cX1_checkRule 198 = .ok (.iaload, 1) := dk_46 (dk_at dksX1_checkRule_8 10 rfl rfl)
theorem dX1_checkRule_199 : decode cX1_checkRule 199 = .ok (.invokevirtual 286, 3) := dk_182 1 30 (dk_at dksX1_checkRule_8 11 rfl rfl)
theorem dX1_checkRule_202 : decode cX1_checkRule 202 = .ok (.iinc 3 1, 3) := dk_132 3 1 (dk_at dksX1_checkRule_8 14 rfl rfl)
theorem dX1_checkRule_205 : decode cX1_checkRule 205 = .ok (.goto (-108), 3) := dk_167 255 148 (dk_at dksX1_checkRule_8 17 rfl rfl)
theorem dX1_checkRule_208 : decode cX1_checkRule 208 = .ok (.return_, 1) := dk_177 (dk_at dksX1_checkRule_8 20 rfl rfl)
abbrev cX1_variable : ByteArray := prog_20_method_22_code
def yX1_variable : MethodName := ⟨RX1, "variable", "(IJ)I"⟩
def dkwX1_variable_2 : List UInt8 := [21, 4, 47, 32, 148, 154, 0, 6, 21, 4, 172, 132, 4, 1, 167, 255, 203, 16, 247, 172]
abbrev dktX1_variable_2 : List UInt8 := dkwX1_variable_2 ++ []
def dkwX1_variable_1 : List UInt8 := [21, 4, 46, 16, 6, 159, 0, 15, 42, 180, 0, 24, 21, 4, 46, 16, 7, 160, 0, 18, 42, 180, 0, 27]
abbrev dktX1_variable_1 : List UInt8 := dkwX1_variable_1 ++ dktX1_variable_2
def dkwX1_variable_0 : List UInt8 := [42, 180, 0, 49, 27, 46, 54, 4, 21, 4, 42, 180, 0, 52, 27, 46, 162, 0, 48, 42, 180, 0, 24]
abbrev dktX1_variable_0 : List UInt8 := dkwX1_variable_0 ++ dktX1_variable_1
theorem dksX1_variable_0 : cX1_variable.data.toList.drop 0 = dktX1_variable_0 := by decide +kernel
theorem dksX1_variable_1 : cX1_variable.data.toList.drop 23 = dktX1_variable_1 := dk_seg dksX1_variable_0 23 rfl rfl
theorem dksX1_variable_2 : cX1_variable.data.toList.drop 47 = dktX1_variable_2 := dk_seg dksX1_variable_1 24 rfl rfl
theorem dX1_variable_0 : decode cX1_variable 0 = .ok (.aload_n 0, 1) := dk_42 (dk_at dksX1_variable_0 0 rfl rfl)
theorem dX1_variable_1 : decode cX1_variable 1 = .ok (.getfield 49, 3) := dk_180 0 49 (dk_at dksX1_variable_0 1 rfl rfl)
theorem dX1_variable_4 : decode cX1_variable 4 = .ok (.iload_n 1, 1) := dk_27 (dk_at dksX1_variable_0 4 rfl rfl)
theorem dX1_variable_5 : decode cX1_variable 5 = .ok (.iaload, 1) := dk_46 (dk_at dksX1_variable_0 5 rfl rfl)
theorem dX1_variable_6 : decode cX1_variable 6 = .ok (.istore 4, 2) := dk_54 4 (dk_at dksX1_variable_0 6 rfl rfl)
theorem dX1_variable_8 : decode cX1_variable 8 = .ok (.iload 4, 2) := dk_21 4 (dk_at dksX1_variable_0 8 rfl rfl)
theorem dX1_variable_10 : decode cX1_variable 10 = .ok (.aload_n 0, 1) := dk_42 (dk_at dksX1_variable_0 10 rfl rfl)
theorem dX1_variable_11 : decode cX1_variable 11 = .ok (.getfield 52, 3) := dk_180 0 52 (dk_at dksX1_variable_0 11 rfl rfl)
theorem dX1_variable_14 : decode cX1_variable 14 = .ok (.iload_n 1, 1) := dk_27 (dk_at dksX1_variable_0 14 rfl rfl)
theorem dX1_variable_15 : decode cX1_variable 15 = .ok (.iaload, 1) := dk_46 (dk_at dksX1_variable_0 15 rfl rfl)
theorem dX1_variable_16 : decode cX1_variable 16 = .ok (.if_icmp .ge 48, 3) := dk_162 0 48 (dk_at dksX1_variable_0 16 rfl rfl)
theorem dX1_variable_19 : decode cX1_variable 19 = .ok (.aload_n 0, 1) := dk_42 (dk_at dksX1_variable_0 19 rfl rfl)
theorem dX1_variable_20 : decode cX1_variable 20 = .ok (.getfield 24, 3) := dk_180 0 24 (dk_at dksX1_variable_0 20 rfl rfl)
theorem dX1_variable_23 : decode cX1_variable 23 = .ok (.iload 4, 2) := dk_21 4 (dk_at dksX1_variable_1 0 rfl rfl)
theorem dX1_variable_25 : decode cX1_variable 25 = .ok (.iaload, 1) := dk_46 (dk_at dksX1_variable_1 2 rfl rfl)
theorem dX1_variable_26 : decode cX1_variable 26 = .ok (.bipush 6, 2) := dk_16 6 (dk_at dksX1_variable_1 3 rfl rfl)
theorem dX1_variable_28 : decode cX1_variable 28 = .ok (.if_icmp .eq 15, 3) := dk_159 0 15 (dk_at dksX1_variable_1 5 rfl rfl)
theorem dX1_variable_31 : decode cX1_variable 31 = .ok (.aload_n 0, 1) := dk_42 (dk_at dksX1_variable_1 8 rfl rfl)
theorem dX1_variable_32 : decode cX1_variable 32 = .ok (.getfield 24, 3) := dk_180 0 24 (dk_at dksX1_variable_1 9 rfl rfl)
theorem dX1_variable_35 : decode cX1_variable 35 = .ok (.iload 4, 2) := dk_21 4 (dk_at dksX1_variable_1 12 rfl rfl)
theorem dX1_variable_37 : decode cX1_variable 37 = .ok (.iaload, 1) := dk_46 (dk_at dksX1_variable_1 14 rfl rfl)
theorem dX1_variable_38 : decode cX1_variable 38 = .ok (.bipush 7, 2) := dk_16 7 (dk_at dksX1_variable_1 15 rfl rfl)
theorem dX1_variable_40 : decode cX1_variable 40 = .ok (.if_icmp .ne 18, 3) := dk_160 0 18 (dk_at dksX1_variable_1 17 rfl rfl)
theorem dX1_variable_43 : decode cX1_variable 43 = .ok (.aload_n 0, 1) := dk_42 (dk_at dksX1_variable_1 20 rfl rfl)
theorem dX1_variable_44 : decode cX1_variable 44 = .ok (.getfield 27, 3) := dk_180 0 27 (dk_at dksX1_variable_1 21 rfl rfl)
theorem dX1_variable_47 : decode cX1_variable 47 = .ok (.iload 4, 2) := dk_21 4 (dk_at dksX1_variable_2 0 rfl rfl)
theorem dX1_variable_49 : decode cX1_variable 49 = .ok (.laload, 1) := dk_47 (dk_at dksX1_variable_2 2 rfl rfl)
theorem dX1_variable_50 : decode cX1_variable 50 = .ok (.lload_n 2, 1) := dk_32 (dk_at dksX1_variable_2 3 rfl rfl)
theorem dX1_variable_51 : decode cX1_variable 51 = .ok (.lcmp, 1) := dk_148 (dk_at dksX1_variable_2 4 rfl rfl)
theorem dX1_variable_52 : decode cX1_variable 52 = .ok (.ifCond .ne 6, 3) := dk_154 0 6 (dk_at dksX1_variable_2 5 rfl rfl)
theorem dX1_variable_55 : decode cX1_variable 55 = .ok (.iload 4, 2) := dk_21 4 (dk_at dksX1_variable_2 8 rfl rfl)
theorem dX1_variable_57 : decode cX1_variable 57 = .ok (.ireturn, 1) := dk_172 (dk_at dksX1_variable_2 10 rfl rfl)
theorem dX1_variable_58 : decode cX1_variable 58 = .ok (.iinc 4 1, 3) := dk_132 4 1 (dk_at dksX1_variable_2 11 rfl rfl)
theorem dX1_variable_61 : decode cX1_variable 61 = .ok (.goto (-53), 3) := dk_167 255 203 (dk_at dksX1_variable_2 14 rfl rfl)
theorem dX1_variable_64 : decode cX1_variable 64 = .ok (.bipush (-9), 2) := dk_16 247 (dk_at dksX1_variable_2 17 rfl rfl)
theorem dX1_variable_66 : decode cX1_variable 66 = .ok (.ireturn, 1) := dk_172 (dk_at dksX1_variable_2 19 rfl rfl)
abbrev cX1_blame : ByteArray := prog_20_method_21_code
def yX1_blame : MethodName := ⟨RX1, "blame", "(II)V"⟩
def dkwX1_blame_1 : List UInt8 := [181, 1, 24, 177]
abbrev dktX1_blame_1 : List UInt8 := dkwX1_blame_1 ++ []
def dkwX1_blame_0 : List UInt8 := [42, 180, 1, 21, 153, 0, 11, 28, 42, 180, 1, 24, 162, 0, 13, 42, 27, 181, 1, 21, 42, 28]
abbrev dktX1_blame_0 : List UInt8 := dkwX1_blame_0 ++ dktX1_blame_1
theorem dksX1_blame_0 : cX1_blame.data.toList.drop 0 = dktX1_blame_0 := by decide +kernel
theorem dksX1_blame_1 : cX1_blame.data.toList.drop 22 = dktX1_blame_1 := dk_seg dksX1_blame_0 22 rfl rfl
theorem dX1_blame_0 : decode cX1_blame 0 = .ok (.aload_n 0, 1) := dk_42 (dk_at dksX1_blame_0 0 rfl rfl)
theorem dX1_blame_1 : decode cX1_blame 1 = .ok (.getfield 277, 3) := dk_180 1 21 (dk_at dksX1_blame_0 1 rfl rfl)
theorem dX1_blame_4 : decode cX1_blame 4 = .ok (.ifCond .eq 11, 3) := dk_153 0 11 (dk_at dksX1_blame_0 4 rfl rfl)
theorem dX1_blame_7 : decode cX1_blame 7 = .ok (.iload_n 2, 1) := dk_28 (dk_at dksX1_blame_0 7 rfl rfl)
theorem dX1_blame_8 : decode cX1_blame 8 = .ok (.aload_n 0, 1) := dk_42 (dk_at dksX1_blame_0 8 rfl rfl)
theorem dX1_blame_9 : decode cX1_blame 9 = .ok (.getfield 280, 3) := dk_180 1 24 (dk_at dksX1_blame_0 9 rfl rfl)
theorem dX1_blame_12 : decode cX1_blame 12 = .ok (.if_icmp .ge 13, 3) := dk_162 0 13 (dk_at dksX1_blame_0 12 rfl rfl)
theorem dX1_blame_15 : decode cX1_blame 15 = .ok (.aload_n 0, 1) := dk_42 (dk_at dksX1_blame_0 15 rfl rfl)
theorem dX1_blame_16 : decode cX1_blame 16 = .ok (.iload_n 1, 1) := dk_27 (dk_at dksX1_blame_0 16 rfl rfl)
theorem dX1_blame_17 : decode cX1_blame 17 = .ok (.putfield 277, 3) := dk_181 1 21 (dk_at dksX1_blame_0 17 rfl rfl)
theorem dX1_blame_20 : decode cX1_blame 20 = .ok (.aload_n 0, 1) := dk_42 (dk_at dksX1_blame_0 20 rfl rfl)
theorem dX1_blame_21 : decode cX1_blame 21 = .ok (.iload_n 2, 1) := dk_28 (dk_at dksX1_blame_0 21 rfl rfl)
theorem dX1_blame_22 : decode cX1_blame 22 = .ok (.putfield 280, 3) := dk_181 1 24 (dk_at dksX1_blame_1 0 rfl rfl)
theorem dX1_blame_25 : decode cX1_blame 25 = .ok (.return_, 1) := dk_177 (dk_at dksX1_blame_1 3 rfl rfl)
abbrev cX1_judged : ByteArray := prog_20_method_26_code
def yX1_judged : MethodName := ⟨RX1, "judged", "(IZJZ)I"⟩
def dkwX1_judged_2 : List UInt8 := [167, 0, 4, 6, 172]
abbrev dktX1_judged_2 : List UInt8 := dkwX1_judged_2 ++ []
def dkwX1_judged_1 : List UInt8 := [7, 167, 0, 26, 26, 6, 160, 0, 20, 32, 20, 1, 16, 148, 154, 0, 12, 21, 4, 153, 0, 7, 8]
abbrev dktX1_judged_1 : List UInt8 := dkwX1_judged_1 ++ dktX1_judged_2
def dkwX1_judged_0 : List UInt8 := [27, 154, 0, 5, 5, 172, 26, 7, 160, 0, 20, 32, 20, 1, 14, 148, 154, 0, 12, 21, 4, 153, 0, 7]
abbrev dktX1_judged_0 : List UInt8 := dkwX1_judged_0 ++ dktX1_judged_1
theorem dksX1_judged_0 : cX1_judged.data.toList.drop 0 = dktX1_judged_0 := by decide +kernel
theorem dksX1_judged_1 : cX1_judged.data.toList.drop 24 = dktX1_judged_1 := dk_seg dksX1_judged_0 24 rfl rfl
theorem dksX1_judged_2 : cX1_judged.data.toList.drop 47 = dktX1_judged_2 := dk_seg dksX1_judged_1 23 rfl rfl
theorem dX1_judged_0 : decode cX1_judged 0 = .ok (.iload_n 1, 1) := dk_27 (dk_at dksX1_judged_0 0 rfl rfl)
theorem dX1_judged_1 : decode cX1_judged 1 = .ok (.ifCond .ne 5, 3) := dk_154 0 5 (dk_at dksX1_judged_0 1 rfl rfl)
theorem dX1_judged_4 : decode cX1_judged 4 = .ok (.iconst 2, 1) := dk_5 (dk_at dksX1_judged_0 4 rfl rfl)
theorem dX1_judged_5 : decode cX1_judged 5 = .ok (.ireturn, 1) := dk_172 (dk_at dksX1_judged_0 5 rfl rfl)
theorem dX1_judged_6 : decode cX1_judged 6 = .ok (.iload_n 0, 1) := dk_26 (dk_at dksX1_judged_0 6 rfl rfl)
theorem dX1_judged_7 : decode cX1_judged 7 = .ok (.iconst 4, 1) := dk_7 (dk_at dksX1_judged_0 7 rfl rfl)
theorem dX1_judged_8 : decode cX1_judged 8 = .ok (.if_icmp .ne 20, 3) := dk_160 0 20 (dk_at dksX1_judged_0 8 rfl rfl)
theorem dX1_judged_11 : decode cX1_judged 11 = .ok (.lload_n 2, 1) := dk_32 (dk_at dksX1_judged_0 11 rfl rfl)
theorem dX1_judged_12 : decode cX1_judged 12 = .ok (.ldc2_w 270, 3) := dk_20 1 14 (dk_at dksX1_judged_0 12 rfl rfl)
theorem dX1_judged_15 : decode cX1_judged 15 = .ok (.lcmp, 1) := dk_148 (dk_at dksX1_judged_0 15 rfl rfl)
theorem dX1_judged_16 : decode cX1_judged 16 = .ok (.ifCond .ne 12, 3) := dk_154 0 12 (dk_at dksX1_judged_0 16 rfl rfl)
theorem dX1_judged_19 : decode cX1_judged 19 = .ok (.iload 4, 2) := dk_21 4 (dk_at dksX1_judged_0 19 rfl rfl)
theorem dX1_judged_21 : decode cX1_judged 21 = .ok (.ifCond .eq 7, 3) := dk_153 0 7 (dk_at dksX1_judged_0 21 rfl rfl)
theorem dX1_judged_24 : decode cX1_judged 24 = .ok (.iconst 4, 1) := dk_7 (dk_at dksX1_judged_1 0 rfl rfl)
theorem dX1_judged_25 : decode cX1_judged 25 = .ok (.goto 26, 3) := dk_167 0 26 (dk_at dksX1_judged_1 1 rfl rfl)
theorem dX1_judged_28 : decode cX1_judged 28 = .ok (.iload_n 0, 1) := dk_26 (dk_at dksX1_judged_1 4 rfl rfl)
theorem dX1_judged_29 : decode cX1_judged 29 = .ok (.iconst 3, 1) := dk_6 (dk_at dksX1_judged_1 5 rfl rfl)
theorem dX1_judged_30 : decode cX1_judged 30 = .ok (.if_icmp .ne 20, 3) := dk_160 0 20 (dk_at dksX1_judged_1 6 rfl rfl)
theorem dX1_judged_33 : decode cX1_judged 33 = .ok (.lload_n 2, 1) := dk_32 (dk_at dksX1_judged_1 9 rfl rfl)
theorem dX1_judged_34 : decode cX1_judged 34 = .ok (.ldc2_w 272, 3) := dk_20 1 16 (dk_at dksX1_judged_1 10 rfl rfl)
theorem dX1_judged_37 : decode cX1_judged 37 = .ok (.lcmp, 1) := dk_148 (dk_at dksX1_judged_1 13 rfl rfl)
theorem dX1_judged_38 : decode cX1_judged 38 = .ok (.ifCond .ne 12, 3) := dk_154 0 12 (dk_at dksX1_judged_1 14 rfl rfl)
theorem dX1_judged_41 : decode cX1_judged 41 = .ok (.iload 4, 2) := dk_21 4 (dk_at dksX1_judged_1 17 rfl rfl)
theorem dX1_judged_43 : decode cX1_judged 43 = .ok (.ifCond .eq 7, 3) := dk_153 0 7 (dk_at dksX1_judged_1 19 rfl rfl)
theorem dX1_judged_46 : decode cX1_judged 46 = .ok (.iconst 5, 1) := dk_8 (dk_at dksX1_judged_1 22 rfl rfl)
theorem dX1_judged_47 : decode cX1_judged 47 = .ok (.goto 4, 3) := dk_167 0 4 (dk_at dksX1_judged_2 0 rfl rfl)
theorem dX1_judged_50 : decode cX1_judged 50 = .ok (.iconst 3, 1) := dk_6 (dk_at dksX1_judged_2 3 rfl rfl)
theorem dX1_judged_51 : decode cX1_judged 51 = .ok (.ireturn, 1) := dk_172 (dk_at dksX1_judged_2 4 rfl rfl)
abbrev cX1_settle : ByteArray := prog_20_method_25_code
def yX1_settle : MethodName := ⟨RX1, "settle", "()V"⟩
def dkwX1_settle_3 : List UInt8 := [28, 46, 96, 61, 167, 255, 228, 132, 1, 1, 167, 255, 200, 177]
abbrev dktX1_settle_3 : List UInt8 := dkwX1_settle_3 ++ []
def dkwX1_settle_2 : List UInt8 := [28, 27, 42, 180, 0, 103, 27, 46, 96, 162, 0, 22, 42, 180, 0, 109, 28, 27, 79, 28, 42, 180, 0, 103]
abbrev dktX1_settle_2 : List UInt8 := dkwX1_settle_2 ++ dktX1_settle_3
def dkwX1_settle_1 : List UInt8 := [3, 60, 27, 42, 180, 1, 50, 162, 0, 54, 42, 180, 0, 88, 27, 46, 5, 161, 0, 38, 27, 4, 96, 61]
abbrev dktX1_settle_1 : List UInt8 := dkwX1_settle_1 ++ dktX1_settle_2
def dkwX1_settle_0 : List UInt8 := [3, 60, 27, 42, 180, 1, 50, 162, 0, 17, 42, 180, 0, 109, 27, 16, 247, 79, 132, 1, 1, 167, 255, 237]
abbrev dktX1_settle_0 : List UInt8 := dkwX1_settle_0 ++ dktX1_settle_1
theorem dksX1_settle_0 : cX1_settle.data.toList.drop 0 = dktX1_settle_0 := by decide +kernel
theorem dksX1_settle_1 : cX1_settle.data.toList.drop 24 = dktX1_settle_1 := dk_seg dksX1_settle_0 24 rfl rfl
theorem dksX1_settle_2 : cX1_settle.data.toList.drop 48 = dktX1_settle_2 := dk_seg dksX1_settle_1 24 rfl rfl
theorem dksX1_settle_3 : cX1_settle.data.toList.drop 72 = dktX1_settle_3 := dk_seg dksX1_settle_2 24 rfl rfl
theorem dX1_settle_0 : decode cX1_settle 0 = .ok (.iconst 0, 1) := dk_3 (dk_at dksX1_settle_0 0 rfl rfl)
theorem dX1_settle_1 : decode cX1_settle 1 = .ok (.istore_n 1, 1) := dk_60 (dk_at dksX1_settle_0 1 rfl rfl)
theorem dX1_settle_2 : decode cX1_settle 2 = .ok (.iload_n 1, 1) := dk_27 (dk_at dksX1_settle_0 2 rfl rfl)
theorem dX1_settle_3 : decode cX1_settle 3 = .ok (.aload_n 0, 1) := dk_42 (dk_at dksX1_settle_0 3 rfl rfl)
theorem dX1_settle_4 : decode cX1_settle 4 = .ok (.getfield 306, 3) := dk_180 1 50 (dk_at dksX1_settle_0 4 rfl rfl)
theorem dX1_settle_7 : decode cX1_settle 7 = .ok (.if_icmp .ge 17, 3) := dk_162 0 17 (dk_at dksX1_settle_0 7 rfl rfl)
theorem dX1_settle_10 : decode cX1_settle 10 = .ok (.aload_n 0, 1) := dk_42 (dk_at dksX1_settle_0 10 rfl rfl)
theorem dX1_settle_11 : decode cX1_settle 11 = .ok (.getfield 109, 3) := dk_180 0 109 (dk_at dksX1_settle_0 11 rfl rfl)
theorem dX1_settle_14 : decode cX1_settle 14 = .ok (.iload_n 1, 1) := dk_27 (dk_at dksX1_settle_0 14 rfl rfl)
theorem dX1_settle_15 : decode cX1_settle 15 = .ok (.bipush (-9), 2) := dk_16 247 (dk_at dksX1_settle_0 15 rfl rfl)
theorem dX1_settle_17 : decode cX1_settle 17 = .ok (.iastore, 1) := dk_79 (dk_at dksX1_settle_0 17 rfl rfl)
theorem dX1_settle_18 : decode cX1_settle 18 = .ok (.iinc 1 1, 3) := dk_132 1 1 (dk_at dksX1_settle_0 18 rfl rfl)
theorem dX1_settle_21 : decode cX1_settle 21 = .ok (.goto (-19), 3) := dk_167 255 237 (dk_at dksX1_settle_0 21 rfl rfl)
theorem dX1_settle_24 : decode cX1_settle 24 = .ok (.iconst 0, 1) := dk_3 (dk_at dksX1_settle_1 0 rfl rfl)
theorem dX1_settle_25 : decode cX1_settle 25 = .ok (.istore_n 1, 1) := dk_60 (dk_at dksX1_settle_1 1 rfl rfl)
theorem dX1_settle_26 : decode cX1_settle 26 = .ok (.iload_n 1, 1) := dk_27 (dk_at dksX1_settle_1 2 rfl rfl)
theorem dX1_settle_27 : decode cX1_settle 27 = .ok (.aload_n 0, 1) := dk_42 (dk_at dksX1_settle_1 3 rfl rfl)
theorem dX1_settle_28 : decode cX1_settle 28 = .ok (.getfield 306, 3) := dk_180 1 50 (dk_at dksX1_settle_1 4 rfl rfl)
theorem dX1_settle_31 : decode cX1_settle 31 = .ok (.if_icmp .ge 54, 3) := dk_162 0 54 (dk_at dksX1_settle_1 7 rfl rfl)
theorem dX1_settle_34 : decode cX1_settle 34 = .ok (.aload_n 0, 1) := dk_42 (dk_at dksX1_settle_1 10 rfl rfl)
theorem dX1_settle_35 : decode cX1_settle 35 = .ok (.getfield 88, 3) := dk_180 0 88 (dk_at dksX1_settle_1 11 rfl rfl)
theorem dX1_settle_38 : decode cX1_settle 38 = .ok (.iload_n 1, 1) := dk_27 (dk_at dksX1_settle_1 14 rfl rfl)
theorem dX1_settle_39 : decode cX1_settle 39 = .ok (.iaload, 1) := dk_46 (dk_at dksX1_settle_1 15 rfl rfl)
theorem dX1_settle_40 : decode cX1_settle 40 = .ok (.iconst 2, 1) := dk_5 (dk_at dksX1_settle_1 16 rfl rfl)
theorem dX1_settle_41 : decode cX1_settle 41 = .ok (.if_icmp .lt 38, 3) := dk_161 0 38 (dk_at dksX1_settle_1 17 rfl rfl)
theorem dX1_settle_44 : decode cX1_settle 44 = .ok (.iload_n 1, 1) := dk_27 (dk_at dksX1_settle_1 20 rfl rfl)
theorem dX1_settle_45 : decode cX1_settle 45 = .ok (.iconst 1, 1) := dk_4 (dk_at dksX1_settle_1 21 rfl rfl)
theorem dX1_settle_46 : decode cX1_settle 46 = .ok (.iadd, 1) := dk_96 (dk_at dksX1_settle_1 22 rfl rfl)
theorem dX1_settle_47 : decode cX1_settle 47 = .ok (.istore_n 2, 1) := dk_61 (dk_at dksX1_settle_1 23 rfl rfl)
theorem dX1_settle_48 : decode cX1_settle 48 = .ok (.iload_n 2, 1) := dk_28 (dk_at dksX1_settle_2 0 rfl rfl)
theorem dX1_settle_49 : decode cX1_settle 49 = .ok (.iload_n 1, 1) := dk_27 (dk_at dksX1_settle_2 1 rfl rfl)
theorem dX1_settle_50 : decode cX1_settle 50 = .ok (.aload_n 0, 1) := dk_42 (dk_at dksX1_settle_2 2 rfl rfl)
theorem dX1_settle_51 : decode cX1_settle 51 = .ok (.getfield 103, 3) := dk_180 0 103 (dk_at dksX1_settle_2 3 rfl rfl)
theorem dX1_settle_54 : decode cX1_settle 54 = .ok (.iload_n 1, 1) := dk_27 (dk_at dksX1_settle_2 6 rfl rfl)
theorem dX1_settle_55 : decode cX1_settle 55 = .ok (.iaload, 1) := dk_46 (dk_at dksX1_settle_2 7 rfl rfl)
theorem dX1_settle_56 : decode cX1_settle 56 = .ok (.iadd, 1) := dk_96 (dk_at dksX1_settle_2 8 rfl rfl)
theorem dX1_settle_57 : decode cX1_settle 57 = .ok (.if_icmp .ge 22, 3) := dk_162 0 22 (dk_at dksX1_settle_2 9 rfl rfl)
theorem dX1_settle_60 : decode cX1_settle 60 = .ok (.aload_n 0, 1) := dk_42 (dk_at dksX1_settle_2 12 rfl rfl)
theorem dX1_settle_61 : decode cX1_settle 61 = .ok (.getfield 109, 3) := dk_180 0 109 (dk_at dksX1_settle_2 13 rfl rfl)
theorem dX1_settle_64 : decode cX1_settle 64 = .ok (.iload_n 2, 1) := dk_28 (dk_at dksX1_settle_2 16 rfl rfl)
theorem dX1_settle_65 : decode cX1_settle 65 = .ok (.iload_n 1, 1) := dk_27 (dk_at dksX1_settle_2 17 rfl rfl)
theorem dX1_settle_66 : decode cX1_settle 66 = .ok (.iastore, 1) := dk_79 (dk_at dksX1_settle_2 18 rfl rfl)
theorem dX1_settle_67 : decode cX1_settle 67 = .ok (.iload_n 2, 1) := dk_28 (dk_at dksX1_settle_2 19 rfl rfl)
theorem dX1_settle_68 : decode cX1_settle 68 = .ok (.aload_n 0, 1) := dk_42 (dk_at dksX1_settle_2 20 rfl rfl)
theorem dX1_settle_69 : decode cX1_settle 69 = .ok (.getfield 103, 3) := dk_180 0 103 (dk_at dksX1_settle_2 21 rfl rfl)
theorem dX1_settle_72 : decode cX1_settle 72 = .ok (.iload_n 2, 1) := dk_28 (dk_at dksX1_settle_3 0 rfl rfl)
theorem dX1_settle_73 : decode cX1_settle 73 = .ok (.iaload, 1) := dk_46 (dk_at dksX1_settle_3 1 rfl rfl)
theorem dX1_settle_74 : decode cX1_settle 74 = .ok (.iadd, 1) := dk_96 (dk_at dksX1_settle_3 2 rfl rfl)
theorem dX1_settle_75 : decode cX1_settle 75 = .ok (.istore_n 2, 1) := dk_61 (dk_at dksX1_settle_3 3 rfl rfl)
theorem dX1_settle_76 : decode cX1_settle 76 = .ok (.goto (-28), 3) := dk_167 255 228 (dk_at dksX1_settle_3 4 rfl rfl)
theorem dX1_settle_79 : decode cX1_settle 79 = .ok (.iinc 1 1, 3) := dk_132 1 1 (dk_at dksX1_settle_3 7 rfl rfl)
theorem dX1_settle_82 : decode cX1_settle 82 = .ok (.goto (-56), 3) := dk_167 255 200 (dk_at dksX1_settle_3 10 rfl rfl)
theorem dX1_settle_85 : decode cX1_settle 85 = .ok (.return_, 1) := dk_177 (dk_at dksX1_settle_3 13 rfl rfl)
abbrev cX1_fault : ByteArray := prog_20_method_28_code
def yX1_fault : MethodName := ⟨RX1, "fault", "()I"⟩
theorem dX1_fault_0 : decode cX1_fault 0 = .ok (.aload_n 0, 1) := by decide +kernel
theorem dX1_fault_1 : decode cX1_fault 1 = .ok (.getfield 312, 3) := by decide +kernel
theorem dX1_fault_4 : decode cX1_fault 4 = .ok (.ireturn, 1) := by decide +kernel
abbrev cX1_item : ByteArray := prog_20_method_41_code
def yX1_item : MethodName := ⟨RX1, "item", "(II)I"⟩
def dkwX1_item_6 : List UInt8 := [182, 1, 99, 172, 16, 254, 172]
abbrev dktX1_item_6 : List UInt8 := dkwX1_item_6 ++ []
def dkwX1_item_5 : List UInt8 := [42, 180, 0, 97, 27, 46, 172, 42, 180, 0, 100, 27, 46, 172, 42, 180, 0, 109, 27, 46, 172, 42, 27]
abbrev dktX1_item_5 : List UInt8 := dkwX1_item_5 ++ dktX1_item_6
def dkwX1_item_4 : List UInt8 := [3, 172, 42, 180, 0, 88, 27, 46, 4, 160, 0, 12, 42, 180, 0, 94, 27, 46, 167, 0, 5, 16, 247, 172]
abbrev dktX1_item_4 : List UInt8 := dkwX1_item_4 ++ dktX1_item_5
def dkwX1_item_3 : List UInt8 := [167, 0, 4, 3, 172, 42, 180, 0, 88, 27, 46, 154, 0, 13, 42, 180, 0, 91, 27, 47, 136, 167, 0, 4]
abbrev dktX1_item_3 : List UInt8 := dkwX1_item_3 ++ dktX1_item_4
def dkwX1_item_2 : List UInt8 := [42, 180, 0, 88, 27, 46, 172, 42, 180, 0, 88, 27, 46, 5, 161, 0, 12, 42, 180, 0, 106, 27, 46]
abbrev dktX1_item_2 : List UInt8 := dkwX1_item_2 ++ dktX1_item_3
def dkwX1_item_1 : List UInt8 := [170, 0, 0, 0, 0, 0, 145, 0, 0, 0, 0, 0, 0, 0, 7, 0, 0, 0, 47, 0, 0, 0, 54, 0, 0, 0, 75, 0, 0, 0, 96, 0, 0, 0, 118, 0, 0, 0, 125, 0, 0, 0, 132, 0, 0, 0, 139]
abbrev dktX1_item_1 : List UInt8 := dkwX1_item_1 ++ dktX1_item_2
def dkwX1_item_0 : List UInt8 := [42, 180, 1, 78, 154, 0, 6, 16, 253, 172, 42, 27, 182, 1, 118, 154, 0, 5, 2, 172, 28]
abbrev dktX1_item_0 : List UInt8 := dkwX1_item_0 ++ dktX1_item_1
theorem dksX1_item_0 : cX1_item.data.toList.drop 0 = dktX1_item_0 := by decide +kernel
theorem dksX1_item_1 : cX1_item.data.toList.drop 21 = dktX1_item_1 := dk_seg dksX1_item_0 21 rfl rfl
theorem dksX1_item_2 : cX1_item.data.toList.drop 68 = dktX1_item_2 := dk_seg dksX1_item_1 47 rfl rfl
theorem dksX1_item_3 : cX1_item.data.toList.drop 91 = dktX1_item_3 := dk_seg dksX1_item_2 23 rfl rfl
theorem dksX1_item_4 : cX1_item.data.toList.drop 115 = dktX1_item_4 := dk_seg dksX1_item_3 24 rfl rfl
theorem dksX1_item_5 : cX1_item.data.toList.drop 139 = dktX1_item_5 := dk_seg dksX1_item_4 24 rfl rfl
theorem dksX1_item_6 : cX1_item.data.toList.drop 162 = dktX1_item_6 := dk_seg dksX1_item_5 23 rfl rfl
theorem dX1_item_0 : decode cX1_item 0 = .ok (.aload_n 0, 1) := dk_42 (dk_at dksX1_item_0 0 rfl rfl)
theorem dX1_item_1 : decode cX1_item 1 = .ok (.getfield 334, 3) := dk_180 1 78 (dk_at dksX1_item_0 1 rfl rfl)
theorem dX1_item_4 : decode cX1_item 4 = .ok (.ifCond .ne 6, 3) := dk_154 0 6 (dk_at dksX1_item_0 4 rfl rfl)
theorem dX1_item_7 : decode cX1_item 7 = .ok (.bipush (-3), 2) := dk_16 253 (dk_at dksX1_item_0 7 rfl rfl)
theorem dX1_item_9 : decode cX1_item 9 = .ok (.ireturn, 1) := dk_172 (dk_at dksX1_item_0 9 rfl rfl)
theorem dX1_item_10 : decode cX1_item 10 = .ok (.aload_n 0, 1) := dk_42 (dk_at dksX1_item_0 10 rfl rfl)
theorem dX1_item_11 : decode cX1_item 11 = .ok (.iload_n 1, 1) := dk_27 (dk_at dksX1_item_0 11 rfl rfl)
theorem dX1_item_12 : decode cX1_item 12 = .ok (.invokevirtual 374, 3) := dk_182 1 118 (dk_at dksX1_item_0 12 rfl rfl)
theorem dX1_item_15 : decode cX1_item 15 = .ok (.ifCond .ne 5, 3) := dk_154 0 5 (dk_at dksX1_item_0 15 rfl rfl)
theorem dX1_item_18 : decode cX1_item 18 = .ok (.iconst (-1), 1) := dk_2 (dk_at dksX1_item_0 18 rfl rfl)
theorem dX1_item_19 : decode cX1_item 19 = .ok (.ireturn, 1) := dk_172 (dk_at dksX1_item_0 19 rfl rfl)
theorem dX1_item_20 : decode cX1_item 20 = .ok (.iload_n 2, 1) := dk_28 (dk_at dksX1_item_0 20 rfl rfl)
theorem dX1_item_21 : decode cX1_item 21 = .ok (.tableswitch 145 0 7 #[47, 54, 75, 96, 118, 125, 132, 139], 47) := by decide +kernel
theorem dX1_item_68 : decode cX1_item 68 = .ok (.aload_n 0, 1) := dk_42 (dk_at dksX1_item_2 0 rfl rfl)
theorem dX1_item_69 : decode cX1_item 69 = .ok (.getfield 88, 3) := dk_180 0 88 (dk_at dksX1_item_2 1 rfl rfl)
theorem dX1_item_72 : decode cX1_item 72 = .ok (.iload_n 1, 1) := dk_27 (dk_at dksX1_item_2 4 rfl rfl)
theorem dX1_item_73 : decode cX1_item 73 = .ok (.iaload, 1) := dk_46 (dk_at dksX1_item_2 5 rfl rfl)
theorem dX1_item_74 : decode cX1_item 74 = .ok (.ireturn, 1) := dk_172 (dk_at dksX1_item_2 6 rfl rfl)
theorem dX1_item_75 : decode cX1_item 75 = .ok (.aload_n 0, 1) := dk_42 (dk_at dksX1_item_2 7 rfl rfl)
theorem dX1_item_76 : decode cX1_item 76 = .ok (.getfield 88, 3) := dk_180 0 88 (dk_at dksX1_item_2 8 rfl rfl)
theorem dX1_item_79 : decode cX1_item 79 = .ok (.iload_n 1, 1) := dk_27 (dk_at dksX1_item_2 11 rfl rfl)
theorem dX1_item_80 : decode cX1_item 80 = .ok (.iaload, 1) := dk_46 (dk_at dksX1_item_2 12 rfl rfl)
theorem dX1_item_81 : decode cX1_item 81 = .ok (.iconst 2, 1) := dk_5 (dk_at dksX1_item_2 13 rfl rfl)
theorem dX1_item_82 : decode cX1_item 82 = .ok (.if_icmp .lt 12, 3) := dk_161 0 12 (dk_at dksX1_item_2 14 rfl rfl)
theorem dX1_item_85 : decode cX1_item 85 = .ok (.aload_n 0, 1) := dk_42 (dk_at dksX1_item_2 17 rfl rfl)
theorem dX1_item_86 : decode cX1_item 86 = .ok (.getfield 106, 3) := dk_180 0 106 (dk_at dksX1_item_2 18 rfl rfl)
theorem dX1_item_89 : decode cX1_item 89 = .ok (.iload_n 1, 1) := dk_27 (dk_at dksX1_item_2 21 rfl rfl)
theorem dX1_item_90 : decode cX1_item 90 = .ok (.iaload, 1) := dk_46 (dk_at dksX1_item_2 22 rfl rfl)
theorem dX1_item_91 : decode cX1_item 91 = .ok (.goto 4, 3) := dk_167 0 4 (dk_at dksX1_item_3 0 rfl rfl)
theorem dX1_item_94 : decode cX1_item 94 = .ok (.iconst 0, 1) := dk_3 (dk_at dksX1_item_3 3 rfl rfl)
theorem dX1_item_95 : decode cX1_item 95 = .ok (.ireturn, 1) := dk_172 (dk_at dksX1_item_3 4 rfl rfl)
theorem dX1_item_96 : decode cX1_item 96 = .ok (.aload_n 0, 1) := dk_42 (dk_at dksX1_item_3 5 rfl rfl)
theorem dX1_item_97 : decode cX1_item 97 = .ok (.getfield 88, 3) := dk_180 0 88 (dk_at dksX1_item_3 6 rfl rfl)
theorem dX1_item_100 : decode cX1_item 100 = .ok (.iload_n 1, 1) := dk_27 (dk_at dksX1_item_3 9 rfl rfl)
theorem dX1_item_101 : decode cX1_item 101 = .ok (.iaload, 1) := dk_46 (dk_at dksX1_item_3 10 rfl rfl)
theorem dX1_item_102 : decode cX1_item 102 = .ok (.ifCond .ne 13, 3) := dk_154 0 13 (dk_at dksX1_item_3 11 rfl rfl)
theorem dX1_item_105 : decode cX1_item 105 = .ok (.aload_n 0, 1) := dk_42 (dk_at dksX1_item_3 14 rfl rfl)
theorem dX1_item_106 : decode cX1_item 106 = .ok (.getfield 91, 3) := dk_180 0 91 (dk_at dksX1_item_3 15 rfl rfl)
theorem dX1_item_109 : decode cX1_item 109 = .ok (.iload_n 1, 1) := dk_27 (dk_at dksX1_item_3 18 rfl rfl)
theorem dX1_item_110 : decode cX1_item 110 = .ok (.laload, 1) := dk_47 (dk_at dksX1_item_3 19 rfl rfl)
theorem dX1_item_111 : decode cX1_item 111 = .ok (.l2i, 1) := dk_136 (dk_at dksX1_item_3 20 rfl rfl)
theorem dX1_item_112 : decode cX1_item 112 = .ok (.goto 4, 3) := dk_167 0 4 (dk_at dksX1_item_3 21 rfl rfl)
theorem dX1_item_115 : decode cX1_item 115 = .ok (.iconst 0, 1) := dk_3 (dk_at dksX1_item_4 0 rfl rfl)
theorem dX1_item_116 : decode cX1_item 116 = .ok (.ireturn, 1) := dk_172 (dk_at dksX1_item_4 1 rfl rfl)
theorem dX1_item_117 : decode cX1_item 117 = .ok (.aload_n 0, 1) := dk_42 (dk_at dksX1_item_4 2 rfl rfl)
theorem dX1_item_118 : decode cX1_item 118 = .ok (.getfield 88, 3) := dk_180 0 88 (dk_at dksX1_item_4 3 rfl rfl)
theorem dX1_item_121 : decode cX1_item 121 = .ok (.iload_n 1, 1) := dk_27 (dk_at dksX1_item_4 6 rfl rfl)
theorem dX1_item_122 : decode cX1_item 122 = .ok (.iaload, 1) := dk_46 (dk_at dksX1_item_4 7 rfl rfl)
theorem dX1_item_123 : decode cX1_item 123 = .ok (.iconst 1, 1) := dk_4 (dk_at dksX1_item_4 8 rfl rfl)
theorem dX1_item_124 : decode cX1_item 124 = .ok (.if_icmp .ne 12, 3) := dk_160 0 12 (dk_at dksX1_item_4 9 rfl rfl)
theorem dX1_item_127 : decode cX1_item 127 = .ok (.aload_n 0, 1) := dk_42 (dk_at dksX1_item_4 12 rfl rfl)
theorem dX1_item_128 : decode cX1_item 128 = .ok (.getfield 94, 3) := dk_180 0 94 (dk_at dksX1_item_4 13 rfl rfl)
theorem dX1_item_131 : decode cX1_item 131 = .ok (.iload_n 1, 1) := dk_27 (dk_at dksX1_item_4 16 rfl rfl)
theorem dX1_item_132 : decode cX1_item 132 = .ok (.iaload, 1) := dk_46 (dk_at dksX1_item_4 17 rfl rfl)
theorem dX1_item_133 : decode cX1_item 133 = .ok (.goto 5, 3) := dk_167 0 5 (dk_at dksX1_item_4 18 rfl rfl)
theorem dX1_item_136 : decode cX1_item 136 = .ok (.bipush (-9), 2) := dk_16 247 (dk_at dksX1_item_4 21 rfl rfl)
theorem dX1_item_138 : decode cX1_item 138 = .ok (.ireturn, 1) := dk_172 (dk_at dksX1_item_4 23 rfl rfl)
theorem dX1_item_139 : decode cX1_item 139 = .ok (.aload_n 0, 1) := dk_42 (dk_at dksX1_item_5 0 rfl rfl)
theorem dX1_item_140 : decode cX1_item 140 = .ok (.getfield 97, 3) := dk_180 0 97 (dk_at dksX1_item_5 1 rfl rfl)
theorem dX1_item_143 : decode cX1_item 143 = .ok (.iload_n 1, 1) := dk_27 (dk_at dksX1_item_5 4 rfl rfl)
theorem dX1_item_144 : decode cX1_item 144 = .ok (.iaload, 1) := dk_46 (dk_at dksX1_item_5 5 rfl rfl)
theorem dX1_item_145 : decode cX1_item 145 = .ok (.ireturn, 1) := dk_172 (dk_at dksX1_item_5 6 rfl rfl)
theorem dX1_item_146 : decode cX1_item 146 = .ok (.aload_n 0, 1) := dk_42 (dk_at dksX1_item_5 7 rfl rfl)
theorem dX1_item_147 : decode cX1_item 147 = .ok (.getfield 100, 3) := dk_180 0 100 (dk_at dksX1_item_5 8 rfl rfl)
theorem dX1_item_150 : decode cX1_item 150 = .ok (.iload_n 1, 1) := dk_27 (dk_at dksX1_item_5 11 rfl rfl)
theorem dX1_item_151 : decode cX1_item 151 = .ok (.iaload, 1) := dk_46 (dk_at dksX1_item_5 12 rfl rfl)
theorem dX1_item_152 : decode cX1_item 152 = .ok (.ireturn, 1) := dk_172 (dk_at dksX1_item_5 13 rfl rfl)
theorem dX1_item_153 : decode cX1_item 153 = .ok (.aload_n 0, 1) := dk_42 (dk_at dksX1_item_5 14 rfl rfl)
theorem dX1_item_154 : decode cX1_item 154 = .ok (.getfield 109, 3) := dk_180 0 109 (dk_at dksX1_item_5 15 rfl rfl)
theorem dX1_item_157 : decode cX1_item 157 = .ok (.iload_n 1, 1) := dk_27 (dk_at dksX1_item_5 18 rfl rfl)
theorem dX1_item_158 : decode cX1_item 158 = .ok (.iaload, 1) := dk_46 (dk_at dksX1_item_5 19 rfl rfl)
theorem dX1_item_159 : decode cX1_item 159 = .ok (.ireturn, 1) := dk_172 (dk_at dksX1_item_5 20 rfl rfl)
theorem dX1_item_160 : decode cX1_item 160 = .ok (.aload_n 0, 1) := dk_42 (dk_at dksX1_item_5 21 rfl rfl)
theorem dX1_item_161 : decode cX1_item 161 = .ok (.iload_n 1, 1) := dk_27 (dk_at dksX1_item_5 22 rfl rfl)
theorem dX1_item_162 : decode cX1_item 162 = .ok (.invokevirtual 355, 3) := dk_182 1 99 (dk_at dksX1_item_6 0 rfl rfl)
theorem dX1_item_165 : decode cX1_item 165 = .ok (.ireturn, 1) := dk_172 (dk_at dksX1_item_6 3 rfl rfl)
theorem dX1_item_166 : decode cX1_item 166 = .ok (.bipush (-2), 2) := dk_16 254 (dk_at dksX1_item_6 4 rfl rfl)
theorem dX1_item_168 : decode cX1_item 168 = .ok (.ireturn, 1) := dk_172 (dk_at dksX1_item_6 6 rfl rfl)
abbrev cX1_isItem : ByteArray := prog_20_method_29_code
def yX1_isItem : MethodName := ⟨RX1, "isItem", "(I)Z"⟩
def dkwX1_isItem_0 : List UInt8 := [27, 133, 9, 42, 180, 1, 50, 4, 100, 133, 184, 1, 82, 172]
abbrev dktX1_isItem_0 : List UInt8 := dkwX1_isItem_0 ++ []
theorem dksX1_isItem_0 : cX1_isItem.data.toList.drop 0 = dktX1_isItem_0 := by decide +kernel
theorem dX1_isItem_0 : decode cX1_isItem 0 = .ok (.iload_n 1, 1) := dk_27 (dk_at dksX1_isItem_0 0 rfl rfl)
theorem dX1_isItem_1 : decode cX1_isItem 1 = .ok (.i2l, 1) := dk_133 (dk_at dksX1_isItem_0 1 rfl rfl)
theorem dX1_isItem_2 : decode cX1_isItem 2 = .ok (.lconst 0, 1) := dk_9 (dk_at dksX1_isItem_0 2 rfl rfl)
theorem dX1_isItem_3 : decode cX1_isItem 3 = .ok (.aload_n 0, 1) := dk_42 (dk_at dksX1_isItem_0 3 rfl rfl)
theorem dX1_isItem_4 : decode cX1_isItem 4 = .ok (.getfield 306, 3) := dk_180 1 50 (dk_at dksX1_isItem_0 4 rfl rfl)
theorem dX1_isItem_7 : decode cX1_isItem 7 = .ok (.iconst 1, 1) := dk_4 (dk_at dksX1_isItem_0 7 rfl rfl)
theorem dX1_isItem_8 : decode cX1_isItem 8 = .ok (.isub, 1) := dk_100 (dk_at dksX1_isItem_0 8 rfl rfl)
theorem dX1_isItem_9 : decode cX1_isItem 9 = .ok (.i2l, 1) := dk_133 (dk_at dksX1_isItem_0 9 rfl rfl)
theorem dX1_isItem_10 : decode cX1_isItem 10 = .ok (.invokestatic 338, 3) := dk_184 1 82 (dk_at dksX1_isItem_0 10 rfl rfl)
theorem dX1_isItem_13 : decode cX1_isItem 13 = .ok (.ireturn, 1) := dk_172 (dk_at dksX1_isItem_0 13 rfl rfl)
abbrev cX1_in : ByteArray := prog_20_method_3_code
def yX1_in : MethodName := ⟨RX1, "in", "(JJJ)Z"⟩
def dkwX1_in_0 : List UInt8 := [30, 32, 148, 155, 0, 14, 30, 22, 4, 148, 157, 0, 7, 4, 167, 0, 4, 3, 172]
abbrev dktX1_in_0 : List UInt8 := dkwX1_in_0 ++ []
theorem dksX1_in_0 : cX1_in.data.toList.drop 0 = dktX1_in_0 := by decide +kernel
theorem dX1_in_0 : decode cX1_in 0 = .ok (.lload_n 0, 1) := dk_30 (dk_at dksX1_in_0 0 rfl rfl)
theorem dX1_in_1 : decode cX1_in 1 = .ok (.lload_n 2, 1) := dk_32 (dk_at dksX1_in_0 1 rfl rfl)
theorem dX1_in_2 : decode cX1_in 2 = .ok (.lcmp, 1) := dk_148 (dk_at dksX1_in_0 2 rfl rfl)
theorem dX1_in_3 : decode cX1_in 3 = .ok (.ifCond .lt 14, 3) := dk_155 0 14 (dk_at dksX1_in_0 3 rfl rfl)
theorem dX1_in_6 : decode cX1_in 6 = .ok (.lload_n 0, 1) := dk_30 (dk_at dksX1_in_0 6 rfl rfl)
theorem dX1_in_7 : decode cX1_in 7 = .ok (.lload 4, 2) := dk_22 4 (dk_at dksX1_in_0 7 rfl rfl)
theorem dX1_in_9 : decode cX1_in 9 = .ok (.lcmp, 1) := dk_148 (dk_at dksX1_in_0 9 rfl rfl)
theorem dX1_in_10 : decode cX1_in 10 = .ok (.ifCond .gt 7, 3) := dk_157 0 7 (dk_at dksX1_in_0 10 rfl rfl)
theorem dX1_in_13 : decode cX1_in 13 = .ok (.iconst 1, 1) := dk_4 (dk_at dksX1_in_0 13 rfl rfl)
theorem dX1_in_14 : decode cX1_in 14 = .ok (.goto 4, 3) := dk_167 0 4 (dk_at dksX1_in_0 14 rfl rfl)
theorem dX1_in_17 : decode cX1_in 17 = .ok (.iconst 0, 1) := dk_3 (dk_at dksX1_in_0 17 rfl rfl)
theorem dX1_in_18 : decode cX1_in 18 = .ok (.ireturn, 1) := dk_172 (dk_at dksX1_in_0 18 rfl rfl)
abbrev cX1_readsAs : ByteArray := prog_20_method_33_code
def yX1_readsAs : MethodName := ⟨RX1, "readsAs", "(I)I"⟩
def dkwX1_readsAs_6 : List UInt8 := [16, 247, 172]
abbrev dktX1_readsAs_6 : List UInt8 := dkwX1_readsAs_6 ++ []
def dkwX1_readsAs_5 : List UInt8 := [180, 0, 94, 27, 46, 160, 0, 6, 21, 4, 172, 29, 61, 42, 180, 0, 109, 29, 46, 62, 167, 255, 181]
abbrev dktX1_readsAs_5 : List UInt8 := dkwX1_readsAs_5 ++ dktX1_readsAs_6
def dkwX1_readsAs_4 : List UInt8 := [180, 0, 91, 21, 4, 47, 42, 180, 0, 91, 27, 47, 148, 154, 0, 22, 42, 180, 0, 94, 21, 4, 46, 42]
abbrev dktX1_readsAs_4 : List UInt8 := dkwX1_readsAs_4 ++ dktX1_readsAs_5
def dkwX1_readsAs_3 : List UInt8 := [182, 1, 86, 153, 0, 55, 42, 29, 182, 1, 92, 28, 160, 0, 46, 42, 29, 182, 1, 89, 54, 4, 42]
abbrev dktX1_readsAs_3 : List UInt8 := dkwX1_readsAs_3 ++ dktX1_readsAs_4
def dkwX1_readsAs_2 : List UInt8 := [160, 0, 5, 27, 172, 27, 61, 42, 180, 0, 109, 27, 46, 62, 29, 16, 247, 159, 0, 75, 42, 29]
abbrev dktX1_readsAs_2 : List UInt8 := dkwX1_readsAs_2 ++ dktX1_readsAs_3
def dkwX1_readsAs_1 : List UInt8 := [42, 42, 180, 0, 109, 27, 46, 182, 1, 86, 153, 0, 19, 42, 42, 180, 0, 109, 27, 46, 182, 1, 89, 27]
abbrev dktX1_readsAs_1 : List UInt8 := dkwX1_readsAs_1 ++ dktX1_readsAs_2
def dkwX1_readsAs_0 : List UInt8 := [42, 180, 0, 88, 27, 46, 4, 159, 0, 6, 16, 247, 172, 42, 180, 0, 109, 27, 46, 16, 247, 159, 0, 32]
abbrev dktX1_readsAs_0 : List UInt8 := dkwX1_readsAs_0 ++ dktX1_readsAs_1
theorem dksX1_readsAs_0 : cX1_readsAs.data.toList.drop 0 = dktX1_readsAs_0 := by decide +kernel
theorem dksX1_readsAs_1 : cX1_readsAs.data.toList.drop 24 = dktX1_readsAs_1 := dk_seg dksX1_readsAs_0 24 rfl rfl
theorem dksX1_readsAs_2 : cX1_readsAs.data.toList.drop 48 = dktX1_readsAs_2 := dk_seg dksX1_readsAs_1 24 rfl rfl
theorem dksX1_readsAs_3 : cX1_readsAs.data.toList.drop 70 = dktX1_readsAs_3 := dk_seg dksX1_readsAs_2 22 rfl rfl
theorem dksX1_readsAs_4 : cX1_readsAs.data.toList.drop 93 = dktX1_readsAs_4 := dk_seg dksX1_readsAs_3 23 rfl rfl
theorem dksX1_readsAs_5 : cX1_readsAs.data.toList.drop 117 = dktX1_readsAs_5 := dk_seg dksX1_readsAs_4 24 rfl rfl
theorem dksX1_readsAs_6 : cX1_readsAs.data.toList.drop 140 = dktX1_readsAs_6 := dk_seg dksX1_readsAs_5 23 rfl rfl
theorem dX1_readsAs_0 : decode cX1_readsAs 0 = .ok (.aload_n 0, 1) := dk_42 (dk_at dksX1_readsAs_0 0 rfl rfl)
theorem dX1_readsAs_1 : decode cX1_readsAs 1 = .ok (.getfield 88, 3) := dk_180 0 88 (dk_at dksX1_readsAs_0 1 rfl rfl)
theorem dX1_readsAs_4 : decode cX1_readsAs 4 = .ok (.iload_n 1, 1) := dk_27 (dk_at dksX1_readsAs_0 4 rfl rfl)
theorem dX1_readsAs_5 : decode cX1_readsAs 5 = .ok (.iaload, 1) := dk_46 (dk_at dksX1_readsAs_0 5 rfl rfl)
theorem dX1_readsAs_6 : decode cX1_readsAs 6 = .ok (.iconst 1, 1) := dk_4 (dk_at dksX1_readsAs_0 6 rfl rfl)
theorem dX1_readsAs_7 : decode cX1_readsAs 7 = .ok (.if_icmp .eq 6, 3) := dk_159 0 6 (dk_at dksX1_readsAs_0 7 rfl rfl)
theorem dX1_readsAs_10 : decode cX1_readsAs 10 = .ok (.bipush (-9), 2) := dk_16 247 (dk_at dksX1_readsAs_0 10 rfl rfl)
theorem dX1_readsAs_12 : decode cX1_readsAs 12 = .ok (.ireturn, 1) := dk_172 (dk_at dksX1_readsAs_0 12 rfl rfl)
theorem dX1_readsAs_13 : decode cX1_readsAs 13 = .ok (.aload_n 0, 1) := dk_42 (dk_at dksX1_readsAs_0 13 rfl rfl)
theorem dX1_readsAs_14 : decode cX1_readsAs 14 = .ok (.getfield 109, 3) := dk_180 0 109 (dk_at dksX1_readsAs_0 14 rfl rfl)
theorem dX1_readsAs_17 : decode cX1_readsAs 17 = .ok (.iload_n 1, 1) := dk_27 (dk_at dksX1_readsAs_0 17 rfl rfl)
theorem dX1_readsAs_18 : decode cX1_readsAs 18 = .ok (.iaload, 1) := dk_46 (dk_at dksX1_readsAs_0 18 rfl rfl)
theorem dX1_readsAs_19 : decode cX1_readsAs 19 = .ok (.bipush (-9), 2) := dk_16 247 (dk_at dksX1_readsAs_0 19 rfl rfl)
theorem dX1_readsAs_21 : decode cX1_readsAs 21 = .ok (.if_icmp .eq 32, 3) := dk_159 0 32 (dk_at dksX1_readsAs_0 21 rfl rfl)
theorem dX1_readsAs_24 : decode cX1_readsAs 24 = .ok (.aload_n 0, 1) := dk_42 (dk_at dksX1_readsAs_1 0 rfl rfl)
theorem dX1_readsAs_25 : decode cX1_readsAs 25 = .ok (.aload_n 0, 1) := dk_42 (dk_at dksX1_readsAs_1 1 rfl rfl)
theorem dX1_readsAs_26 : decode cX1_readsAs 26 = .ok (.getfield 109, 3) := dk_180 0 109 (dk_at dksX1_readsAs_1 2 rfl rfl)
theorem dX1_readsAs_29 : decode cX1_readsAs 29 = .ok (.iload_n 1, 1) := dk_27 (dk_at dksX1_readsAs_1 5 rfl rfl)
theorem dX1_readsAs_30 : decode cX1_readsAs 30 = .ok (.iaload, 1) := dk_46 (dk_at dksX1_readsAs_1 6 rfl rfl)
theorem dX1_readsAs_31 : decode cX1_readsAs 31 = .ok (.invokevirtual 342, 3) := dk_182 1 86 (dk_at dksX1_readsAs_1 7 rfl rfl)
theorem dX1_readsAs_34 : decode cX1_readsAs 34 = .ok (.ifCond .eq 19, 3) := dk_153 0 19 (dk_at dksX1_readsAs_1 10 rfl rfl)
theorem dX1_readsAs_37 : decode cX1_readsAs 37 = .ok (.aload_n 0, 1) := dk_42 (dk_at dksX1_readsAs_1 13 rfl rfl)
theorem dX1_readsAs_38 : decode cX1_readsAs 38 = .ok (.aload_n 0, 1) := dk_42 (dk_at dksX1_readsAs_1 14 rfl rfl)
theorem dX1_readsAs_39 : decode cX1_readsAs 39 = .ok (.getfield 109, 3) := dk_180 0 109 (dk_at dksX1_readsAs_1 15 rfl rfl)
theorem dX1_readsAs_42 : decode cX1_readsAs 42 = .ok (.iload_n 1, 1) := dk_27 (dk_at dksX1_readsAs_1 18 rfl rfl)
theorem dX1_readsAs_43 : decode cX1_readsAs 43 = .ok (.iaload, 1) := dk_46 (dk_at dksX1_readsAs_1 19 rfl rfl)
theorem dX1_readsAs_44 : decode cX1_readsAs 44 = .ok (.invokevirtual 345, 3) := dk_182 1 89 (dk_at dksX1_readsAs_1 20 rfl rfl)
theorem dX1_readsAs_47 : decode cX1_readsAs 47 = .ok (.iload_n 1, 1) := dk_27 (dk_at dksX1_readsAs_1 23 rfl rfl)
theorem dX1_readsAs_48 : decode cX1_readsAs 48 = .ok (.if_icmp .ne 5, 3) := dk_160 0 5 (dk_at dksX1_readsAs_2 0 rfl rfl)
theorem dX1_readsAs_51 : decode cX1_readsAs 51 = .ok (.iload_n 1, 1) := dk_27 (dk_at dksX1_readsAs_2 3 rfl rfl)
theorem dX1_readsAs_52 : decode cX1_readsAs 52 = .ok (.ireturn, 1) := dk_172 (dk_at dksX1_readsAs_2 4 rfl rfl)
theorem dX1_readsAs_53 : decode cX1_readsAs 53 = .ok (.iload_n 1, 1) := dk_27 (dk_at dksX1_readsAs_2 5 rfl rfl)
theorem dX1_readsAs_54 : decode cX1_readsAs 54 = .ok (.istore_n 2, 1) := dk_61 (dk_at dksX1_readsAs_2 6 rfl rfl)
theorem dX1_readsAs_55 : decode cX1_readsAs 55 = .ok (.aload_n 0, 1) := dk_42 (dk_at dksX1_readsAs_2 7 rfl rfl)
theorem dX1_readsAs_56 : decode cX1_readsAs 56 = .ok (.getfield 109, 3) := dk_180 0 109 (dk_at dksX1_readsAs_2 8 rfl rfl)
theorem dX1_readsAs_59 : decode cX1_readsAs 59 = .ok (.iload_n 1, 1) := dk_27 (dk_at dksX1_readsAs_2 11 rfl rfl)
theorem dX1_readsAs_60 : decode cX1_readsAs 60 = .ok (.iaload, 1) := dk_46 (dk_at dksX1_readsAs_2 12 rfl rfl)
theorem dX1_readsAs_61 : decode cX1_readsAs 61 = .ok (.istore_n 3, 1) := dk_62 (dk_at dksX1_readsAs_2 13 rfl rfl)
theorem dX1_readsAs_62 : decode cX1_readsAs 62 = .ok (.iload_n 3, 1) := dk_29 (dk_at dksX1_readsAs_2 14 rfl rfl)
theorem dX1_readsAs_63 : decode cX1_readsAs 63 = .ok (.bipush (-9), 2) := dk_16 247 (dk_at dksX1_readsAs_2 15 rfl rfl)
theorem dX1_readsAs_65 : decode cX1_readsAs 65 = .ok (.if_icmp .eq 75, 3) := dk_159 0 75 (dk_at dksX1_readsAs_2 17 rfl rfl)
theorem dX1_readsAs_68 : decode cX1_readsAs 68 = .ok (.aload_n 0, 1) := dk_42 (dk_at dksX1_readsAs_2 20 rfl rfl)
theorem dX1_readsAs_69 : decode cX1_readsAs 69 = .ok (.iload_n 3, 1) := dk_29 (dk_at dksX1_readsAs_2 21 rfl rfl)
theorem dX1_readsAs_70 : decode cX1_readsAs 70 = .ok (.invokevirtual 342, 3) := dk_182 1 86 (dk_at dksX1_readsAs_3 0 rfl rfl)
theorem dX1_readsAs_73 : decode cX1_readsAs 73 = .ok (.ifCond .eq 55, 3) := dk_153 0 55 (dk_at dksX1_readsAs_3 3 rfl rfl)
theorem dX1_readsAs_76 : decode cX1_readsAs 76 = .ok (.aload_n 0, 1) := dk_42 (dk_at dksX1_readsAs_3 6 rfl rfl)
theorem dX1_readsAs_77 : decode cX1_readsAs 77 = .ok (.iload_n 3, 1) := dk_29 (dk_at dksX1_readsAs_3 7 rfl rfl)
theorem dX1_readsAs_78 : decode cX1_readsAs 78 = .ok (.invokevirtual 348, 3) := dk_182 1 92 (dk_at dksX1_readsAs_3 8 rfl rfl)
theorem dX1_readsAs_81 : decode cX1_readsAs 81 = .ok (.iload_n 2, 1) := dk_28 (dk_at dksX1_readsAs_3 11 rfl rfl)
theorem dX1_readsAs_82 : decode cX1_readsAs 82 = .ok (.if_icmp .ne 46, 3) := dk_160 0 46 (dk_at dksX1_readsAs_3 12 rfl rfl)
theorem dX1_readsAs_85 : decode cX1_readsAs 85 = .ok (.aload_n 0, 1) := dk_42 (dk_at dksX1_readsAs_3 15 rfl rfl)
theorem dX1_readsAs_86 : decode cX1_readsAs 86 = .ok (.iload_n 3, 1) := dk_29 (dk_at dksX1_readsAs_3 16 rfl rfl)
theorem dX1_readsAs_87 : decode cX1_readsAs 87 = .ok (.invokevirtual 345, 3) := dk_182 1 89 (dk_at dksX1_readsAs_3 17 rfl rfl)
theorem dX1_readsAs_90 : decode cX1_readsAs 90 = .ok (.istore 4, 2) := dk_54 4 (dk_at dksX1_readsAs_3 20 rfl rfl)
theorem dX1_readsAs_92 : decode cX1_readsAs 92 = .ok (.aload_n 0, 1) := dk_42 (dk_at dksX1_readsAs_3 22 rfl rfl)
theorem dX1_readsAs_93 : decode cX1_readsAs 93 = .ok (.getfield 91, 3) := dk_180 0 91 (dk_at dksX1_readsAs_4 0 rfl rfl)
theorem dX1_readsAs_96 : decode cX1_readsAs 96 = .ok (.iload 4, 2) := dk_21 4 (dk_at dksX1_readsAs_4 3 rfl rfl)
theorem dX1_readsAs_98 : decode cX1_readsAs 98 = .ok (.laload, 1) := dk_47 (dk_at dksX1_readsAs_4 5 rfl rfl)
theorem dX1_readsAs_99 : decode cX1_readsAs 99 = .ok (.aload_n 0, 1) := dk_42 (dk_at dksX1_readsAs_4 6 rfl rfl)
theorem dX1_readsAs_100 : decode cX1_readsAs 100 = .ok (.getfield 91, 3) := dk_180 0 91 (dk_at dksX1_readsAs_4 7 rfl rfl)
theorem dX1_readsAs_103 : decode cX1_readsAs 103 = .ok (.iload_n 1, 1) := dk_27 (dk_at dksX1_readsAs_4 10 rfl rfl)
theorem dX1_readsAs_104 : decode cX1_readsAs 104 = .ok (.laload, 1) := dk_47 (dk_at dksX1_readsAs_4 11 rfl rfl)
theorem dX1_readsAs_105 : decode cX1_readsAs 105 = .ok (.lcmp, 1) := dk_148 (dk_at dksX1_readsAs_4 12 rfl rfl)
theorem dX1_readsAs_106 : decode cX1_readsAs 106 = .ok (.ifCond .ne 22, 3) := dk_154 0 22 (dk_at dksX1_readsAs_4 13 rfl rfl)
theorem dX1_readsAs_109 : decode cX1_readsAs 109 = .ok (.aload_n 0, 1) := dk_42 (dk_at dksX1_readsAs_4 16 rfl rfl)
theorem dX1_readsAs_110 : decode cX1_readsAs 110 = .ok (.getfield 94, 3) := dk_180 0 94 (dk_at dksX1_readsAs_4 17 rfl rfl)
theorem dX1_readsAs_113 : decode cX1_readsAs 113 = .ok (.iload 4, 2) := dk_21 4 (dk_at dksX1_readsAs_4 20 rfl rfl)
theorem dX1_readsAs_115 : decode cX1_readsAs 115 = .ok (.iaload, 1) := dk_46 (dk_at dksX1_readsAs_4 22 rfl rfl)
theorem dX1_readsAs_116 : decode cX1_readsAs 116 = .ok (.aload_n 0, 1) := dk_42 (dk_at dksX1_readsAs_4 23 rfl rfl)
theorem dX1_readsAs_117 : decode cX1_readsAs 117 = .ok (.getfield 94, 3) := dk_180 0 94 (dk_at dksX1_readsAs_5 0 rfl rfl)
theorem dX1_readsAs_120 : decode cX1_readsAs 120 = .ok (.iload_n 1, 1) := dk_27 (dk_at dksX1_readsAs_5 3 rfl rfl)
theorem dX1_readsAs_121 : decode cX1_readsAs 121 = .ok (.iaload, 1) := dk_46 (dk_at dksX1_readsAs_5 4 rfl rfl)
theorem dX1_readsAs_122 : decode cX1_readsAs 122 = .ok (.if_icmp .ne 6, 3) := dk_160 0 6 (dk_at dksX1_readsAs_5 5 rfl rfl)
theorem dX1_readsAs_125 : decode cX1_readsAs 125 = .ok (.iload 4, 2) := dk_21 4 (dk_at dksX1_readsAs_5 8 rfl rfl)
theorem dX1_readsAs_127 : decode cX1_readsAs 127 = .ok (.ireturn, 1) := dk_172 (dk_at dksX1_readsAs_5 10 rfl rfl)
theorem dX1_readsAs_128 : decode cX1_readsAs 128 = .ok (.iload_n 3, 1) := dk_29 (dk_at dksX1_readsAs_5 11 rfl rfl)
theorem dX1_readsAs_129 : decode cX1_readsAs 129 = .ok (.istore_n 2, 1) := dk_61 (dk_at dksX1_readsAs_5 12 rfl rfl)
theorem dX1_readsAs_130 : decode cX1_readsAs 130 = .ok (.aload_n 0, 1) := dk_42 (dk_at dksX1_readsAs_5 13 rfl rfl)
theorem dX1_readsAs_131 : decode cX1_readsAs 131 = .ok (.getfield 109, 3) := dk_180 0 109 (dk_at dksX1_readsAs_5 14 rfl rfl)
theorem dX1_readsAs_134 : decode cX1_readsAs 134 = .ok (.iload_n 3, 1) := dk_29 (dk_at dksX1_readsAs_5 17 rfl rfl)
theorem dX1_readsAs_135 : decode cX1_readsAs 135 = .ok (.iaload, 1) := dk_46 (dk_at dksX1_readsAs_5 18 rfl rfl)
theorem dX1_readsAs_136 : decode cX1_readsAs 136 = .ok (.istore_n 3, 1) := dk_62 (dk_at dksX1_readsAs_5 19 rfl rfl)
theorem dX1_readsAs_137 : decode cX1_readsAs 137 = .ok (.goto (-75), 3) := dk_167 255 181 (dk_at dksX1_readsAs_5 20 rfl rfl)
theorem dX1_readsAs_140 : decode cX1_readsAs 140 = .ok (.bipush (-9), 2) := dk_16 247 (dk_at dksX1_readsAs_6 0 rfl rfl)
theorem dX1_readsAs_142 : decode cX1_readsAs 142 = .ok (.ireturn, 1) := dk_172 (dk_at dksX1_readsAs_6 2 rfl rfl)
abbrev cX1_isBinding : ByteArray := prog_20_method_32_code
def yX1_isBinding : MethodName := ⟨RX1, "isBinding", "(I)Z"⟩
def dkwX1_isBinding_1 : List UInt8 := [3, 172]
abbrev dktX1_isBinding_1 : List UInt8 := dkwX1_isBinding_1 ++ []
def dkwX1_isBinding_0 : List UInt8 := [42, 180, 0, 88, 27, 46, 7, 159, 0, 13, 42, 180, 0, 88, 27, 46, 8, 160, 0, 7, 4, 167, 0, 4]
abbrev dktX1_isBinding_0 : List UInt8 := dkwX1_isBinding_0 ++ dktX1_isBinding_1
theorem dksX1_isBinding_0 : cX1_isBinding.data.toList.drop 0 = dktX1_isBinding_0 := by decide +kernel
theorem dksX1_isBinding_1 : cX1_isBinding.data.toList.drop 24 = dktX1_isBinding_1 := dk_seg dksX1_isBinding_0 24 rfl rfl
theorem dX1_isBinding_0 : decode cX1_isBinding 0 = .ok (.aload_n 0, 1) := dk_42 (dk_at dksX1_isBinding_0 0 rfl rfl)
theorem dX1_isBinding_1 : decode cX1_isBinding 1 = .ok (.getfield 88, 3) := dk_180 0 88 (dk_at dksX1_isBinding_0 1 rfl rfl)
theorem dX1_isBinding_4 : decode cX1_isBinding 4 = .ok (.iload_n 1, 1) := dk_27 (dk_at dksX1_isBinding_0 4 rfl rfl)
theorem dX1_isBinding_5 : decode cX1_isBinding 5 = .ok (.iaload, 1) := dk_46 (dk_at dksX1_isBinding_0 5 rfl rfl)
theorem dX1_isBinding_6 : decode cX1_isBinding 6 = .ok (.iconst 4, 1) := dk_7 (dk_at dksX1_isBinding_0 6 rfl rfl)
theorem dX1_isBinding_7 : decode cX1_isBinding 7 = .ok (.if_icmp .eq 13, 3) := dk_159 0 13 (dk_at dksX1_isBinding_0 7 rfl rfl)
theorem dX1_isBinding_10 : decode cX1_isBinding 10 = .ok (.aload_n 0, 1) := dk_42 (dk_at dksX1_isBinding_0 10 rfl rfl)
theorem dX1_isBinding_11 : decode cX1_isBinding 11 = .ok (.getfield 88, 3) := dk_180 0 88 (dk_at dksX1_isBinding_0 11 rfl rfl)
theorem dX1_isBinding_14 : decode cX1_isBinding 14 = .ok (.iload_n 1, 1) := dk_27 (dk_at dksX1_isBinding_0 14 rfl rfl)
theorem dX1_isBinding_15 : decode cX1_isBinding 15 = .ok (.iaload, 1) := dk_46 (dk_at dksX1_isBinding_0 15 rfl rfl)
theorem dX1_isBinding_16 : decode cX1_isBinding 16 = .ok (.iconst 5, 1) := dk_8 (dk_at dksX1_isBinding_0 16 rfl rfl)
theorem dX1_isBinding_17 : decode cX1_isBinding 17 = .ok (.if_icmp .ne 7, 3) := dk_160 0 7 (dk_at dksX1_isBinding_0 17 rfl rfl)
theorem dX1_isBinding_20 : decode cX1_isBinding 20 = .ok (.iconst 1, 1) := dk_4 (dk_at dksX1_isBinding_0 20 rfl rfl)
theorem dX1_isBinding_21 : decode cX1_isBinding 21 = .ok (.goto 4, 3) := dk_167 0 4 (dk_at dksX1_isBinding_0 21 rfl rfl)
theorem dX1_isBinding_24 : decode cX1_isBinding 24 = .ok (.iconst 0, 1) := dk_3 (dk_at dksX1_isBinding_1 0 rfl rfl)
theorem dX1_isBinding_25 : decode cX1_isBinding 25 = .ok (.ireturn, 1) := dk_172 (dk_at dksX1_isBinding_1 1 rfl rfl)
abbrev cX1_binderOf : ByteArray := prog_20_method_31_code
def yX1_binderOf : MethodName := ⟨RX1, "binderOf", "(I)I"⟩
def dkwX1_binderOf_0 : List UInt8 := [27, 4, 96, 42, 180, 0, 103, 27, 4, 96, 46, 96, 172]
abbrev dktX1_binderOf_0 : List UInt8 := dkwX1_binderOf_0 ++ []
theorem dksX1_binderOf_0 : cX1_binderOf.data.toList.drop 0 = dktX1_binderOf_0 := by decide +kernel
theorem dX1_binderOf_0 : decode cX1_binderOf 0 = .ok (.iload_n 1, 1) := dk_27 (dk_at dksX1_binderOf_0 0 rfl rfl)
theorem dX1_binderOf_1 : decode cX1_binderOf 1 = .ok (.iconst 1, 1) := dk_4 (dk_at dksX1_binderOf_0 1 rfl rfl)
theorem dX1_binderOf_2 : decode cX1_binderOf 2 = .ok (.iadd, 1) := dk_96 (dk_at dksX1_binderOf_0 2 rfl rfl)
theorem dX1_binderOf_3 : decode cX1_binderOf 3 = .ok (.aload_n 0, 1) := dk_42 (dk_at dksX1_binderOf_0 3 rfl rfl)
theorem dX1_binderOf_4 : decode cX1_binderOf 4 = .ok (.getfield 103, 3) := dk_180 0 103 (dk_at dksX1_binderOf_0 4 rfl rfl)
theorem dX1_binderOf_7 : decode cX1_binderOf 7 = .ok (.iload_n 1, 1) := dk_27 (dk_at dksX1_binderOf_0 7 rfl rfl)
theorem dX1_binderOf_8 : decode cX1_binderOf 8 = .ok (.iconst 1, 1) := dk_4 (dk_at dksX1_binderOf_0 8 rfl rfl)
theorem dX1_binderOf_9 : decode cX1_binderOf 9 = .ok (.iadd, 1) := dk_96 (dk_at dksX1_binderOf_0 9 rfl rfl)
theorem dX1_binderOf_10 : decode cX1_binderOf 10 = .ok (.iaload, 1) := dk_46 (dk_at dksX1_binderOf_0 10 rfl rfl)
theorem dX1_binderOf_11 : decode cX1_binderOf 11 = .ok (.iadd, 1) := dk_96 (dk_at dksX1_binderOf_0 11 rfl rfl)
theorem dX1_binderOf_12 : decode cX1_binderOf 12 = .ok (.ireturn, 1) := dk_172 (dk_at dksX1_binderOf_0 12 rfl rfl)
abbrev cX1_lastOf : ByteArray := prog_20_method_30_code
def yX1_lastOf : MethodName := ⟨RX1, "lastOf", "(I)I"⟩
def dkwX1_lastOf_1 : List UInt8 := [42, 180, 0, 103, 28, 46, 96, 61, 167, 255, 228, 28, 172]
abbrev dktX1_lastOf_1 : List UInt8 := dkwX1_lastOf_1 ++ []
def dkwX1_lastOf_0 : List UInt8 := [27, 4, 96, 61, 28, 42, 180, 0, 103, 28, 46, 96, 27, 42, 180, 0, 103, 27, 46, 96, 162, 0, 15, 28]
abbrev dktX1_lastOf_0 : List UInt8 := dkwX1_lastOf_0 ++ dktX1_lastOf_1
theorem dksX1_lastOf_0 : cX1_lastOf.data.toList.drop 0 = dktX1_lastOf_0 := by decide +kernel
theorem dksX1_lastOf_1 : cX1_lastOf.data.toList.drop 24 = dktX1_lastOf_1 := dk_seg dksX1_lastOf_0 24 rfl rfl
theorem dX1_lastOf_0 : decode cX1_lastOf 0 = .ok (.iload_n 1, 1) := dk_27 (dk_at dksX1_lastOf_0 0 rfl rfl)
theorem dX1_lastOf_1 : decode cX1_lastOf 1 = .ok (.iconst 1, 1) := dk_4 (dk_at dksX1_lastOf_0 1 rfl rfl)
theorem dX1_lastOf_2 : decode cX1_lastOf 2 = .ok (.iadd, 1) := dk_96 (dk_at dksX1_lastOf_0 2 rfl rfl)
theorem dX1_lastOf_3 : decode cX1_lastOf 3 = .ok (.istore_n 2, 1) := dk_61 (dk_at dksX1_lastOf_0 3 rfl rfl)
theorem dX1_lastOf_4 : decode cX1_lastOf 4 = .ok (.iload_n 2, 1) := dk_28 (dk_at dksX1_lastOf_0 4 rfl rfl)
theorem dX1_lastOf_5 : decode cX1_lastOf 5 = .ok (.aload_n 0, 1) := dk_42 (dk_at dksX1_lastOf_0 5 rfl rfl)
theorem dX1_lastOf_6 : decode cX1_lastOf 6 = .ok (.getfield 103, 3) := dk_180 0 103 (dk_at dksX1_lastOf_0 6 rfl rfl)
theorem dX1_lastOf_9 : decode cX1_lastOf 9 = .ok (.iload_n 2, 1) := dk_28 (dk_at dksX1_lastOf_0 9 rfl rfl)
theorem dX1_lastOf_10 : decode cX1_lastOf 10 = .ok (.iaload, 1) := dk_46 (dk_at dksX1_lastOf_0 10 rfl rfl)
theorem dX1_lastOf_11 : decode cX1_lastOf 11 = .ok (.iadd, 1) := dk_96 (dk_at dksX1_lastOf_0 11 rfl rfl)
theorem dX1_lastOf_12 : decode cX1_lastOf 12 = .ok (.iload_n 1, 1) := dk_27 (dk_at dksX1_lastOf_0 12 rfl rfl)
theorem dX1_lastOf_13 : decode cX1_lastOf 13 = .ok (.aload_n 0, 1) := dk_42 (dk_at dksX1_lastOf_0 13 rfl rfl)
theorem dX1_lastOf_14 : decode cX1_lastOf 14 = .ok (.getfield 103, 3) := dk_180 0 103 (dk_at dksX1_lastOf_0 14 rfl rfl)
theorem dX1_lastOf_17 : decode cX1_lastOf 17 = .ok (.iload_n 1, 1) := dk_27 (dk_at dksX1_lastOf_0 17 rfl rfl)
theorem dX1_lastOf_18 : decode cX1_lastOf 18 = .ok (.iaload, 1) := dk_46 (dk_at dksX1_lastOf_0 18 rfl rfl)
theorem dX1_lastOf_19 : decode cX1_lastOf 19 = .ok (.iadd, 1) := dk_96 (dk_at dksX1_lastOf_0 19 rfl rfl)
theorem dX1_lastOf_20 : decode cX1_lastOf 20 = .ok (.if_icmp .ge 15, 3) := dk_162 0 15 (dk_at dksX1_lastOf_0 20 rfl rfl)
theorem dX1_lastOf_23 : decode cX1_lastOf 23 = .ok (.iload_n 2, 1) := dk_28 (dk_at dksX1_lastOf_0 23 rfl rfl)
theorem dX1_lastOf_24 : decode cX1_lastOf 24 = .ok (.aload_n 0, 1) := dk_42 (dk_at dksX1_lastOf_1 0 rfl rfl)
theorem dX1_lastOf_25 : decode cX1_lastOf 25 = .ok (.getfield 103, 3) := dk_180 0 103 (dk_at dksX1_lastOf_1 1 rfl rfl)
theorem dX1_lastOf_28 : decode cX1_lastOf 28 = .ok (.iload_n 2, 1) := dk_28 (dk_at dksX1_lastOf_1 4 rfl rfl)
theorem dX1_lastOf_29 : decode cX1_lastOf 29 = .ok (.iaload, 1) := dk_46 (dk_at dksX1_lastOf_1 5 rfl rfl)
theorem dX1_lastOf_30 : decode cX1_lastOf 30 = .ok (.iadd, 1) := dk_96 (dk_at dksX1_lastOf_1 6 rfl rfl)
theorem dX1_lastOf_31 : decode cX1_lastOf 31 = .ok (.istore_n 2, 1) := dk_61 (dk_at dksX1_lastOf_1 7 rfl rfl)
theorem dX1_lastOf_32 : decode cX1_lastOf 32 = .ok (.goto (-28), 3) := dk_167 255 228 (dk_at dksX1_lastOf_1 8 rfl rfl)
theorem dX1_lastOf_35 : decode cX1_lastOf 35 = .ok (.iload_n 2, 1) := dk_28 (dk_at dksX1_lastOf_1 11 rfl rfl)
theorem dX1_lastOf_36 : decode cX1_lastOf 36 = .ok (.ireturn, 1) := dk_172 (dk_at dksX1_lastOf_1 12 rfl rfl)
abbrev cX1_letter : ByteArray := prog_20_method_42_code
def yX1_letter : MethodName := ⟨RX1, "letter", "(II)I"⟩
def dkwX1_letter_3 : List UInt8 := [29, 172]
abbrev dktX1_letter_3 : List UInt8 := dkwX1_letter_3 ++ []
def dkwX1_letter_2 : List UInt8 := [16, 8, 28, 104, 125, 20, 0, 196, 127, 136, 167, 0, 4, 3, 62, 29, 154, 0, 8, 16, 247, 167, 0, 4]
abbrev dktX1_letter_2 : List UInt8 := dkwX1_letter_2 ++ dktX1_letter_3
def dkwX1_letter_1 : List UInt8 := [4, 159, 0, 5, 2, 172, 28, 133, 9, 20, 1, 121, 184, 1, 82, 153, 0, 22, 42, 180, 0, 91, 27, 47]
abbrev dktX1_letter_1 : List UInt8 := dkwX1_letter_1 ++ dktX1_letter_2
def dkwX1_letter_0 : List UInt8 := [42, 180, 1, 78, 154, 0, 6, 16, 253, 172, 42, 27, 182, 1, 118, 153, 0, 13, 42, 180, 0, 88, 27, 46]
abbrev dktX1_letter_0 : List UInt8 := dkwX1_letter_0 ++ dktX1_letter_1
theorem dksX1_letter_0 : cX1_letter.data.toList.drop 0 = dktX1_letter_0 := by decide +kernel
theorem dksX1_letter_1 : cX1_letter.data.toList.drop 24 = dktX1_letter_1 := dk_seg dksX1_letter_0 24 rfl rfl
theorem dksX1_letter_2 : cX1_letter.data.toList.drop 48 = dktX1_letter_2 := dk_seg dksX1_letter_1 24 rfl rfl
theorem dksX1_letter_3 : cX1_letter.data.toList.drop 72 = dktX1_letter_3 := dk_seg dksX1_letter_2 24 rfl rfl
theorem dX1_letter_0 : decode cX1_letter 0 = .ok (.aload_n 0, 1) := dk_42 (dk_at dksX1_letter_0 0 rfl rfl)
theorem dX1_letter_1 : decode cX1_letter 1 = .ok (.getfield 334, 3) := dk_180 1 78 (dk_at dksX1_letter_0 1 rfl rfl)
theorem dX1_letter_4 : decode cX1_letter 4 = .ok (.ifCond .ne 6, 3) := dk_154 0 6 (dk_at dksX1_letter_0 4 rfl rfl)
theorem dX1_letter_7 : decode cX1_letter 7 = .ok (.bipush (-3), 2) := dk_16 253 (dk_at dksX1_letter_0 7 rfl rfl)
theorem dX1_letter_9 : decode cX1_letter 9 = .ok (.ireturn, 1) := dk_172 (dk_at dksX1_letter_0 9 rfl rfl)
theorem dX1_letter_10 : decode cX1_letter 10 = .ok (.aload_n 0, 1) := dk_42 (dk_at dksX1_letter_0 10 rfl rfl)
theorem dX1_letter_11 : decode cX1_letter 11 = .ok (.iload_n 1, 1) := dk_27 (dk_at dksX1_letter_0 11 rfl rfl)
theorem dX1_letter_12 : decode cX1_letter 12 = .ok (.invokevirtual 374, 3) := dk_182 1 118 (dk_at dksX1_letter_0 12 rfl rfl)
theorem dX1_letter_15 : decode cX1_letter 15 = .ok (.ifCond .eq 13, 3) := dk_153 0 13 (dk_at dksX1_letter_0 15 rfl rfl)
theorem dX1_letter_18 : decode cX1_letter 18 = .ok (.aload_n 0, 1) := dk_42 (dk_at dksX1_letter_0 18 rfl rfl)
theorem dX1_letter_19 : decode cX1_letter 19 = .ok (.getfield 88, 3) := dk_180 0 88 (dk_at dksX1_letter_0 19 rfl rfl)
theorem dX1_letter_22 : decode cX1_letter 22 = .ok (.iload_n 1, 1) := dk_27 (dk_at dksX1_letter_0 22 rfl rfl)
theorem dX1_letter_23 : decode cX1_letter 23 = .ok (.iaload, 1) := dk_46 (dk_at dksX1_letter_0 23 rfl rfl)
theorem dX1_letter_24 : decode cX1_letter 24 = .ok (.iconst 1, 1) := dk_4 (dk_at dksX1_letter_1 0 rfl rfl)
theorem dX1_letter_25 : decode cX1_letter 25 = .ok (.if_icmp .eq 5, 3) := dk_159 0 5 (dk_at dksX1_letter_1 1 rfl rfl)
theorem dX1_letter_28 : decode cX1_letter 28 = .ok (.iconst (-1), 1) := dk_2 (dk_at dksX1_letter_1 4 rfl rfl)
theorem dX1_letter_29 : decode cX1_letter 29 = .ok (.ireturn, 1) := dk_172 (dk_at dksX1_letter_1 5 rfl rfl)
theorem dX1_letter_30 : decode cX1_letter 30 = .ok (.iload_n 2, 1) := dk_28 (dk_at dksX1_letter_1 6 rfl rfl)
theorem dX1_letter_31 : decode cX1_letter 31 = .ok (.i2l, 1) := dk_133 (dk_at dksX1_letter_1 7 rfl rfl)
theorem dX1_letter_32 : decode cX1_letter 32 = .ok (.lconst 0, 1) := dk_9 (dk_at dksX1_letter_1 8 rfl rfl)
theorem dX1_letter_33 : decode cX1_letter 33 = .ok (.ldc2_w 377, 3) := dk_20 1 121 (dk_at dksX1_letter_1 9 rfl rfl)
theorem dX1_letter_36 : decode cX1_letter 36 = .ok (.invokestatic 338, 3) := dk_184 1 82 (dk_at dksX1_letter_1 12 rfl rfl)
theorem dX1_letter_39 : decode cX1_letter 39 = .ok (.ifCond .eq 22, 3) := dk_153 0 22 (dk_at dksX1_letter_1 15 rfl rfl)
theorem dX1_letter_42 : decode cX1_letter 42 = .ok (.aload_n 0, 1) := dk_42 (dk_at dksX1_letter_1 18 rfl rfl)
theorem dX1_letter_43 : decode cX1_letter 43 = .ok (.getfield 91, 3) := dk_180 0 91 (dk_at dksX1_letter_1 19 rfl rfl)
theorem dX1_letter_46 : decode cX1_letter 46 = .ok (.iload_n 1, 1) := dk_27 (dk_at dksX1_letter_1 22 rfl rfl)
theorem dX1_letter_47 : decode cX1_letter 47 = .ok (.laload, 1) := dk_47 (dk_at dksX1_letter_1 23 rfl rfl)
theorem dX1_letter_48 : decode cX1_letter 48 = .ok (.bipush 8, 2) := dk_16 8 (dk_at dksX1_letter_2 0 rfl rfl)
theorem dX1_letter_50 : decode cX1_letter 50 = .ok (.iload_n 2, 1) := dk_28 (dk_at dksX1_letter_2 2 rfl rfl)
theorem dX1_letter_51 : decode cX1_letter 51 = .ok (.imul, 1) := dk_104 (dk_at dksX1_letter_2 3 rfl rfl)
theorem dX1_letter_52 : decode cX1_letter 52 = .ok (.lushr, 1) := dk_125 (dk_at dksX1_letter_2 4 rfl rfl)
theorem dX1_letter_53 : decode cX1_letter 53 = .ok (.ldc2_w 196, 3) := dk_20 0 196 (dk_at dksX1_letter_2 5 rfl rfl)
theorem dX1_letter_56 : decode cX1_letter 56 = .ok (.land, 1) := dk_127 (dk_at dksX1_letter_2 8 rfl rfl)
theorem dX1_letter_57 : decode cX1_letter 57 = .ok (.l2i, 1) := dk_136 (dk_at dksX1_letter_2 9 rfl rfl)
theorem dX1_letter_58 : decode cX1_letter 58 = .ok (.goto 4, 3) := dk_167 0 4 (dk_at dksX1_letter_2 10 rfl rfl)
theorem dX1_letter_61 : decode cX1_letter 61 = .ok (.iconst 0, 1) := dk_3 (dk_at dksX1_letter_2 13 rfl rfl)
theorem dX1_letter_62 : decode cX1_letter 62 = .ok (.istore_n 3, 1) := dk_62 (dk_at dksX1_letter_2 14 rfl rfl)
theorem dX1_letter_63 : decode cX1_letter 63 = .ok (.iload_n 3, 1) := dk_29 (dk_at dksX1_letter_2 15 rfl rfl)
theorem dX1_letter_64 : decode cX1_letter 64 = .ok (.ifCond .ne 8, 3) := dk_154 0 8 (dk_at dksX1_letter_2 16 rfl rfl)
theorem dX1_letter_67 : decode cX1_letter 67 = .ok (.bipush (-9), 2) := dk_16 247 (dk_at dksX1_letter_2 19 rfl rfl)
theorem dX1_letter_69 : decode cX1_letter 69 = .ok (.goto 4, 3) := dk_167 0 4 (dk_at dksX1_letter_2 21 rfl rfl)
theorem dX1_letter_72 : decode cX1_letter 72 = .ok (.iload_n 3, 1) := dk_29 (dk_at dksX1_letter_3 0 rfl rfl)
theorem dX1_letter_73 : decode cX1_letter 73 = .ok (.ireturn, 1) := dk_172 (dk_at dksX1_letter_3 1 rfl rfl)
abbrev cX1_call : ByteArray := prog_20_method_43_code
def yX1_call : MethodName := ⟨RX1, "call", "(I)I"⟩
def dkwX1_call_1 : List UInt8 := [182, 1, 123, 153, 0, 7, 5, 167, 0, 16, 42, 27, 182, 1, 112, 153, 0, 7, 4, 167, 0, 4, 3, 172]
abbrev dktX1_call_1 : List UInt8 := dkwX1_call_1 ++ []
def dkwX1_call_0 : List UInt8 := [42, 180, 1, 78, 154, 0, 6, 16, 253, 172, 42, 27, 182, 1, 118, 154, 0, 5, 2, 172, 42, 27]
abbrev dktX1_call_0 : List UInt8 := dkwX1_call_0 ++ dktX1_call_1
theorem dksX1_call_0 : cX1_call.data.toList.drop 0 = dktX1_call_0 := by decide +kernel
theorem dksX1_call_1 : cX1_call.data.toList.drop 22 = dktX1_call_1 := dk_seg dksX1_call_0 22 rfl rfl
theorem dX1_call_0 : decode cX1_call 0 = .ok (.aload_n 0, 1) := dk_42 (dk_at dksX1_call_0 0 rfl rfl)
theorem dX1_call_1 : decode cX1_call 1 = .ok (.getfield 334, 3) := dk_180 1 78 (dk_at dksX1_call_0 1 rfl rfl)
theorem dX1_call_4 : decode cX1_call 4 = .ok (.ifCond .ne 6, 3) := dk_154 0 6 (dk_at dksX1_call_0 4 rfl rfl)
theorem dX1_call_7 : decode cX1_call 7 = .ok (.bipush (-3), 2) := dk_16 253 (dk_at dksX1_call_0 7 rfl rfl)
theorem dX1_call_9 : decode cX1_call 9 = .ok (.ireturn, 1) := dk_172 (dk_at dksX1_call_0 9 rfl rfl)
theorem dX1_call_10 : decode cX1_call 10 = .ok (.aload_n 0, 1) := dk_42 (dk_at dksX1_call_0 10 rfl rfl)
theorem dX1_call_11 : decode cX1_call 11 = .ok (.iload_n 1, 1) := dk_27 (dk_at dksX1_call_0 11 rfl rfl)
theorem dX1_call_12 : decode cX1_call 12 = .ok (.invokevirtual 374, 3) := dk_182 1 118 (dk_at dksX1_call_0 12 rfl rfl)
theorem dX1_call_15 : decode cX1_call 15 = .ok (.ifCond .ne 5, 3) := dk_154 0 5 (dk_at dksX1_call_0 15 rfl rfl)
theorem dX1_call_18 : decode cX1_call 18 = .ok (.iconst (-1), 1) := dk_2 (dk_at dksX1_call_0 18 rfl rfl)
theorem dX1_call_19 : decode cX1_call 19 = .ok (.ireturn, 1) := dk_172 (dk_at dksX1_call_0 19 rfl rfl)
theorem dX1_call_20 : decode cX1_call 20 = .ok (.aload_n 0, 1) := dk_42 (dk_at dksX1_call_0 20 rfl rfl)
theorem dX1_call_21 : decode cX1_call 21 = .ok (.iload_n 1, 1) := dk_27 (dk_at dksX1_call_0 21 rfl rfl)
theorem dX1_call_22 : decode cX1_call 22 = .ok (.invokevirtual 379, 3) := dk_182 1 123 (dk_at dksX1_call_1 0 rfl rfl)
theorem dX1_call_25 : decode cX1_call 25 = .ok (.ifCond .eq 7, 3) := dk_153 0 7 (dk_at dksX1_call_1 3 rfl rfl)
theorem dX1_call_28 : decode cX1_call 28 = .ok (.iconst 2, 1) := dk_5 (dk_at dksX1_call_1 6 rfl rfl)
theorem dX1_call_29 : decode cX1_call 29 = .ok (.goto 16, 3) := dk_167 0 16 (dk_at dksX1_call_1 7 rfl rfl)
theorem dX1_call_32 : decode cX1_call 32 = .ok (.aload_n 0, 1) := dk_42 (dk_at dksX1_call_1 10 rfl rfl)
theorem dX1_call_33 : decode cX1_call 33 = .ok (.iload_n 1, 1) := dk_27 (dk_at dksX1_call_1 11 rfl rfl)
theorem dX1_call_34 : decode cX1_call 34 = .ok (.invokevirtual 368, 3) := dk_182 1 112 (dk_at dksX1_call_1 12 rfl rfl)
theorem dX1_call_37 : decode cX1_call 37 = .ok (.ifCond .eq 7, 3) := dk_153 0 7 (dk_at dksX1_call_1 15 rfl rfl)
theorem dX1_call_40 : decode cX1_call 40 = .ok (.iconst 1, 1) := dk_4 (dk_at dksX1_call_1 18 rfl rfl)
theorem dX1_call_41 : decode cX1_call 41 = .ok (.goto 4, 3) := dk_167 0 4 (dk_at dksX1_call_1 19 rfl rfl)
theorem dX1_call_44 : decode cX1_call 44 = .ok (.iconst 0, 1) := dk_3 (dk_at dksX1_call_1 22 rfl rfl)
theorem dX1_call_45 : decode cX1_call 45 = .ok (.ireturn, 1) := dk_172 (dk_at dksX1_call_1 23 rfl rfl)
abbrev cX1_isReady : ByteArray := prog_20_method_40_code
def yX1_isReady : MethodName := ⟨RX1, "isReady", "(I)Z"⟩
def dkwX1_isReady_2 : List UInt8 := [16, 247, 159, 0, 7, 4, 167, 0, 4, 3, 172]
abbrev dktX1_isReady_2 : List UInt8 := dkwX1_isReady_2 ++ []
def dkwX1_isReady_1 : List UInt8 := [28, 182, 1, 112, 153, 0, 5, 3, 172, 42, 180, 0, 109, 28, 46, 61, 167, 255, 233, 42, 27, 182, 1, 115]
abbrev dktX1_isReady_1 : List UInt8 := dkwX1_isReady_1 ++ dktX1_isReady_2
def dkwX1_isReady_0 : List UInt8 := [42, 27, 182, 1, 112, 154, 0, 5, 3, 172, 42, 180, 0, 109, 27, 46, 61, 28, 16, 247, 159, 0, 23, 42]
abbrev dktX1_isReady_0 : List UInt8 := dkwX1_isReady_0 ++ dktX1_isReady_1
theorem dksX1_isReady_0 : cX1_isReady.data.toList.drop 0 = dktX1_isReady_0 := by decide +kernel
theorem dksX1_isReady_1 : cX1_isReady.data.toList.drop 24 = dktX1_isReady_1 := dk_seg dksX1_isReady_0 24 rfl rfl
theorem dksX1_isReady_2 : cX1_isReady.data.toList.drop 48 = dktX1_isReady_2 := dk_seg dksX1_isReady_1 24 rfl rfl
theorem dX1_isReady_0 : decode cX1_isReady 0 = .ok (.aload_n 0, 1) := dk_42 (dk_at dksX1_isReady_0 0 rfl rfl)
theorem dX1_isReady_1 : decode cX1_isReady 1 = .ok (.iload_n 1, 1) := dk_27 (dk_at dksX1_isReady_0 1 rfl rfl)
theorem dX1_isReady_2 : decode cX1_isReady 2 = .ok (.invokevirtual 368, 3) := dk_182 1 112 (dk_at dksX1_isReady_0 2 rfl rfl)
theorem dX1_isReady_5 : decode cX1_isReady 5 = .ok (.ifCond .ne 5, 3) := dk_154 0 5 (dk_at dksX1_isReady_0 5 rfl rfl)
theorem dX1_isReady_8 : decode cX1_isReady 8 = .ok (.iconst 0, 1) := dk_3 (dk_at dksX1_isReady_0 8 rfl rfl)
theorem dX1_isReady_9 : decode cX1_isReady 9 = .ok (.ireturn, 1) := dk_172 (dk_at dksX1_isReady_0 9 rfl rfl)
theorem dX1_isReady_10 : decode cX1_isReady 10 = .ok (.aload_n 0, 1) := dk_42 (dk_at dksX1_isReady_0 10 rfl rfl)
theorem dX1_isReady_11 : decode cX1_isReady 11 = .ok (.getfield 109, 3) := dk_180 0 109 (dk_at dksX1_isReady_0 11 rfl rfl)
theorem dX1_isReady_14 : decode cX1_isReady 14 = .ok (.iload_n 1, 1) := dk_27 (dk_at dksX1_isReady_0 14 rfl rfl)
theorem dX1_isReady_15 : decode cX1_isReady 15 = .ok (.iaload, 1) := dk_46 (dk_at dksX1_isReady_0 15 rfl rfl)
theorem dX1_isReady_16 : decode cX1_isReady 16 = .ok (.istore_n 2, 1) := dk_61 (dk_at dksX1_isReady_0 16 rfl rfl)
theorem dX1_isReady_17 : decode cX1_isReady 17 = .ok (.iload_n 2, 1) := dk_28 (dk_at dksX1_isReady_0 17 rfl rfl)
theorem dX1_isReady_18 : decode cX1_isReady 18 = .ok (.bipush (-9), 2) := dk_16 247 (dk_at dksX1_isReady_0 18 rfl rfl)
theorem dX1_isReady_20 : decode cX1_isReady 20 = .ok (.if_icmp .eq 23, 3) := dk_159 0 23 (dk_at dksX1_isReady_0 20 rfl rfl)
theorem dX1_isReady_23 : decode cX1_isReady 23 = .ok (.aload_n 0, 1) := dk_42 (dk_at dksX1_isReady_0 23 rfl rfl)
theorem dX1_isReady_24 : decode cX1_isReady 24 = .ok (.iload_n 2, 1) := dk_28 (dk_at dksX1_isReady_1 0 rfl rfl)
theorem dX1_isReady_25 : decode cX1_isReady 25 = .ok (.invokevirtual 368, 3) := dk_182 1 112 (dk_at dksX1_isReady_1 1 rfl rfl)
theorem dX1_isReady_28 : decode cX1_isReady 28 = .ok (.ifCond .eq 5, 3) := dk_153 0 5 (dk_at dksX1_isReady_1 4 rfl rfl)
theorem dX1_isReady_31 : decode cX1_isReady 31 = .ok (.iconst 0, 1) := dk_3 (dk_at dksX1_isReady_1 7 rfl rfl)
theorem dX1_isReady_32 : decode cX1_isReady 32 = .ok (.ireturn, 1) := dk_172 (dk_at dksX1_isReady_1 8 rfl rfl)
theorem dX1_isReady_33 : decode cX1_isReady 33 = .ok (.aload_n 0, 1) := dk_42 (dk_at dksX1_isReady_1 9 rfl rfl)
theorem dX1_isReady_34 : decode cX1_isReady 34 = .ok (.getfield 109, 3) := dk_180 0 109 (dk_at dksX1_isReady_1 10 rfl rfl)
theorem dX1_isReady_37 : decode cX1_isReady 37 = .ok (.iload_n 2, 1) := dk_28 (dk_at dksX1_isReady_1 13 rfl rfl)
theorem dX1_isReady_38 : decode cX1_isReady 38 = .ok (.iaload, 1) := dk_46 (dk_at dksX1_isReady_1 14 rfl rfl)
theorem dX1_isReady_39 : decode cX1_isReady 39 = .ok (.istore_n 2, 1) := dk_61 (dk_at dksX1_isReady_1 15 rfl rfl)
theorem dX1_isReady_40 : decode cX1_isReady 40 = .ok (.goto (-23), 3) := dk_167 255 233 (dk_at dksX1_isReady_1 16 rfl rfl)
theorem dX1_isReady_43 : decode cX1_isReady 43 = .ok (.aload_n 0, 1) := dk_42 (dk_at dksX1_isReady_1 19 rfl rfl)
theorem dX1_isReady_44 : decode cX1_isReady 44 = .ok (.iload_n 1, 1) := dk_27 (dk_at dksX1_isReady_1 20 rfl rfl)
theorem dX1_isReady_45 : decode cX1_isReady 45 = .ok (.invokevirtual 371, 3) := dk_182 1 115 (dk_at dksX1_isReady_1 21 rfl rfl)
theorem dX1_isReady_48 : decode cX1_isReady 48 = .ok (.bipush (-9), 2) := dk_16 247 (dk_at dksX1_isReady_2 0 rfl rfl)
theorem dX1_isReady_50 : decode cX1_isReady 50 = .ok (.if_icmp .eq 7, 3) := dk_159 0 7 (dk_at dksX1_isReady_2 2 rfl rfl)
theorem dX1_isReady_53 : decode cX1_isReady 53 = .ok (.iconst 1, 1) := dk_4 (dk_at dksX1_isReady_2 5 rfl rfl)
theorem dX1_isReady_54 : decode cX1_isReady 54 = .ok (.goto 4, 3) := dk_167 0 4 (dk_at dksX1_isReady_2 6 rfl rfl)
theorem dX1_isReady_57 : decode cX1_isReady 57 = .ok (.iconst 0, 1) := dk_3 (dk_at dksX1_isReady_2 9 rfl rfl)
theorem dX1_isReady_58 : decode cX1_isReady 58 = .ok (.ireturn, 1) := dk_172 (dk_at dksX1_isReady_2 10 rfl rfl)
abbrev cX1_isCall : ByteArray := prog_20_method_35_code
def yX1_isCall : MethodName := ⟨RX1, "isCall", "(I)Z"⟩
def dkwX1_isCall_1 : List UInt8 := [153, 0, 19, 42, 27, 4, 96, 182, 1, 99, 16, 247, 160, 0, 7, 4, 167, 0, 4, 3, 172]
abbrev dktX1_isCall_1 : List UInt8 := dkwX1_isCall_1 ++ []
def dkwX1_isCall_0 : List UInt8 := [42, 180, 0, 88, 27, 46, 6, 160, 0, 34, 42, 42, 180, 0, 91, 27, 4, 96, 47, 182, 1, 95]
abbrev dktX1_isCall_0 : List UInt8 := dkwX1_isCall_0 ++ dktX1_isCall_1
theorem dksX1_isCall_0 : cX1_isCall.data.toList.drop 0 = dktX1_isCall_0 := by decide +kernel
theorem dksX1_isCall_1 : cX1_isCall.data.toList.drop 22 = dktX1_isCall_1 := dk_seg dksX1_isCall_0 22 rfl rfl
theorem dX1_isCall_0 : decode cX1_isCall 0 = .ok (.aload_n 0, 1) := dk_42 (dk_at dksX1_isCall_0 0 rfl rfl)
theorem dX1_isCall_1 : decode cX1_isCall 1 = .ok (.getfield 88, 3) := dk_180 0 88 (dk_at dksX1_isCall_0 1 rfl rfl)
theorem dX1_isCall_4 : decode cX1_isCall 4 = .ok (.iload_n 1, 1) := dk_27 (dk_at dksX1_isCall_0 4 rfl rfl)
theorem dX1_isCall_5 : decode cX1_isCall 5 = .ok (.iaload, 1) := dk_46 (dk_at dksX1_isCall_0 5 rfl rfl)
theorem dX1_isCall_6 : decode cX1_isCall 6 = .ok (.iconst 3, 1) := dk_6 (dk_at dksX1_isCall_0 6 rfl rfl)
theorem dX1_isCall_7 : decode cX1_isCall 7 = .ok (.if_icmp .ne 34, 3) := dk_160 0 34 (dk_at dksX1_isCall_0 7 rfl rfl)
theorem dX1_isCall_10 : decode cX1_isCall 10 = .ok (.aload_n 0, 1) := dk_42 (dk_at dksX1_isCall_0 10 rfl rfl)
theorem dX1_isCall_11 : decode cX1_isCall 11 = .ok (.aload_n 0, 1) := dk_42 (dk_at dksX1_isCall_0 11 rfl rfl)
theorem dX1_isCall_12 : decode cX1_isCall 12 = .ok (.getfield 91, 3) := dk_180 0 91 (dk_at dksX1_isCall_0 12 rfl rfl)
theorem dX1_isCall_15 : decode cX1_isCall 15 = .ok (.iload_n 1, 1) := dk_27 (dk_at dksX1_isCall_0 15 rfl rfl)
theorem dX1_isCall_16 : decode cX1_isCall 16 = .ok (.iconst 1, 1) := dk_4 (dk_at dksX1_isCall_0 16 rfl rfl)
theorem dX1_isCall_17 : decode cX1_isCall 17 = .ok (.iadd, 1) := dk_96 (dk_at dksX1_isCall_0 17 rfl rfl)
theorem dX1_isCall_18 : decode cX1_isCall 18 = .ok (.laload, 1) := dk_47 (dk_at dksX1_isCall_0 18 rfl rfl)
theorem dX1_isCall_19 : decode cX1_isCall 19 = .ok (.invokevirtual 351, 3) := dk_182 1 95 (dk_at dksX1_isCall_0 19 rfl rfl)
theorem dX1_isCall_22 : decode cX1_isCall 22 = .ok (.ifCond .eq 19, 3) := dk_153 0 19 (dk_at dksX1_isCall_1 0 rfl rfl)
theorem dX1_isCall_25 : decode cX1_isCall 25 = .ok (.aload_n 0, 1) := dk_42 (dk_at dksX1_isCall_1 3 rfl rfl)
theorem dX1_isCall_26 : decode cX1_isCall 26 = .ok (.iload_n 1, 1) := dk_27 (dk_at dksX1_isCall_1 4 rfl rfl)
theorem dX1_isCall_27 : decode cX1_isCall 27 = .ok (.iconst 1, 1) := dk_4 (dk_at dksX1_isCall_1 5 rfl rfl)
theorem dX1_isCall_28 : decode cX1_isCall 28 = .ok (.iadd, 1) := dk_96 (dk_at dksX1_isCall_1 6 rfl rfl)
theorem dX1_isCall_29 : decode cX1_isCall 29 = .ok (.invokevirtual 355, 3) := dk_182 1 99 (dk_at dksX1_isCall_1 7 rfl rfl)
theorem dX1_isCall_32 : decode cX1_isCall 32 = .ok (.bipush (-9), 2) := dk_16 247 (dk_at dksX1_isCall_1 10 rfl rfl)
theorem dX1_isCall_34 : decode cX1_isCall 34 = .ok (.if_icmp .ne 7, 3) := dk_160 0 7 (dk_at dksX1_isCall_1 12 rfl rfl)
theorem dX1_isCall_37 : decode cX1_isCall 37 = .ok (.iconst 1, 1) := dk_4 (dk_at dksX1_isCall_1 15 rfl rfl)
theorem dX1_isCall_38 : decode cX1_isCall 38 = .ok (.goto 4, 3) := dk_167 0 4 (dk_at dksX1_isCall_1 16 rfl rfl)
theorem dX1_isCall_41 : decode cX1_isCall 41 = .ok (.iconst 0, 1) := dk_3 (dk_at dksX1_isCall_1 19 rfl rfl)
theorem dX1_isCall_42 : decode cX1_isCall 42 = .ok (.ireturn, 1) := dk_172 (dk_at dksX1_isCall_1 20 rfl rfl)
abbrev cX1_isWord : ByteArray := prog_20_method_34_code
def yX1_isWord : MethodName := ⟨RX1, "isWord", "(J)Z"⟩
def dkwX1_isWord_1 : List UInt8 := [47, 31, 148, 154, 0, 7, 4, 167, 0, 4, 3, 62, 132, 4, 1, 167, 255, 222, 29, 172]
abbrev dktX1_isWord_1 : List UInt8 := dkwX1_isWord_1 ++ []
def dkwX1_isWord_0 : List UInt8 := [3, 62, 3, 54, 4, 21, 4, 42, 180, 1, 59, 162, 0, 31, 29, 154, 0, 15, 42, 180, 0, 58, 21, 4]
abbrev dktX1_isWord_0 : List UInt8 := dkwX1_isWord_0 ++ dktX1_isWord_1
theorem dksX1_isWord_0 : cX1_isWord.data.toList.drop 0 = dktX1_isWord_0 := by decide +kernel
theorem dksX1_isWord_1 : cX1_isWord.data.toList.drop 24 = dktX1_isWord_1 := dk_seg dksX1_isWord_0 24 rfl rfl
theorem dX1_isWord_0 : decode cX1_isWord 0 = .ok (.iconst 0, 1) := dk_3 (dk_at dksX1_isWord_0 0 rfl rfl)
theorem dX1_isWord_1 : decode cX1_isWord 1 = .ok (.istore_n 3, 1) := dk_62 (dk_at dksX1_isWord_0 1 rfl rfl)
theorem dX1_isWord_2 : decode cX1_isWord 2 = .ok (.iconst 0, 1) := dk_3 (dk_at dksX1_isWord_0 2 rfl rfl)
theorem dX1_isWord_3 : decode cX1_isWord 3 = .ok (.istore 4, 2) := dk_54 4 (dk_at dksX1_isWord_0 3 rfl rfl)
theorem dX1_isWord_5 : decode cX1_isWord 5 = .ok (.iload 4, 2) := dk_21 4 (dk_at dksX1_isWord_0 5 rfl rfl)
theorem dX1_isWord_7 : decode cX1_isWord 7 = .ok (.aload_n 0, 1) := dk_42 (dk_at dksX1_isWord_0 7 rfl rfl)
theorem dX1_isWord_8 : decode cX1_isWord 8 = .ok (.getfield 315, 3) := dk_180 1 59 (dk_at dksX1_isWord_0 8 rfl rfl)
theorem dX1_isWord_11 : decode cX1_isWord 11 = .ok (.if_icmp .ge 31, 3) := dk_162 0 31 (dk_at dksX1_isWord_0 11 rfl rfl)
theorem dX1_isWord_14 : decode cX1_isWord 14 = .ok (.iload_n 3, 1) := dk_29 (dk_at dksX1_isWord_0 14 rfl rfl)
theorem dX1_isWord_15 : decode cX1_isWord 15 = .ok (.ifCond .ne 15, 3) := dk_154 0 15 (dk_at dksX1_isWord_0 15 rfl rfl)
theorem dX1_isWord_18 : decode cX1_isWord 18 = .ok (.aload_n 0, 1) := dk_42 (dk_at dksX1_isWord_0 18 rfl rfl)
theorem dX1_isWord_19 : decode cX1_isWord 19 = .ok (.getfield 58, 3) := dk_180 0 58 (dk_at dksX1_isWord_0 19 rfl rfl)
theorem dX1_isWord_22 : decode cX1_isWord 22 = .ok (.iload 4, 2) := dk_21 4 (dk_at dksX1_isWord_0 22 rfl rfl)
theorem dX1_isWord_24 : decode cX1_isWord 24 = .ok (.laload, 1) := dk_47 (dk_at dksX1_isWord_1 0 rfl rfl)
theorem dX1_isWord_25 : decode cX1_isWord 25 = .ok (.lload_n 1, 1) := dk_31 (dk_at dksX1_isWord_1 1 rfl rfl)
theorem dX1_isWord_26 : decode cX1_isWord 26 = .ok (.lcmp, 1) := dk_148 (dk_at dksX1_isWord_1 2 rfl rfl)
theorem dX1_isWord_27 : decode cX1_isWord 27 = .ok (.ifCond .ne 7, 3) := dk_154 0 7 (dk_at dksX1_isWord_1 3 rfl rfl)
theorem dX1_isWord_30 : decode cX1_isWord 30 = .ok (.iconst 1, 1) := dk_4 (dk_at dksX1_isWord_1 6 rfl rfl)
theorem dX1_isWord_31 : decode cX1_isWord 31 = .ok (.goto 4, 3) := dk_167 0 4 (dk_at dksX1_isWord_1 7 rfl rfl)
theorem dX1_isWord_34 : decode cX1_isWord 34 = .ok (.iconst 0, 1) := dk_3 (dk_at dksX1_isWord_1 10 rfl rfl)
theorem dX1_isWord_35 : decode cX1_isWord 35 = .ok (.istore_n 3, 1) := dk_62 (dk_at dksX1_isWord_1 11 rfl rfl)
theorem dX1_isWord_36 : decode cX1_isWord 36 = .ok (.iinc 4 1, 3) := dk_132 4 1 (dk_at dksX1_isWord_1 12 rfl rfl)
theorem dX1_isWord_39 : decode cX1_isWord 39 = .ok (.goto (-34), 3) := dk_167 255 222 (dk_at dksX1_isWord_1 15 rfl rfl)
theorem dX1_isWord_42 : decode cX1_isWord 42 = .ok (.iload_n 3, 1) := dk_29 (dk_at dksX1_isWord_1 18 rfl rfl)
theorem dX1_isWord_43 : decode cX1_isWord 43 = .ok (.ireturn, 1) := dk_172 (dk_at dksX1_isWord_1 19 rfl rfl)
abbrev cX1_ruleOf : ByteArray := prog_20_method_39_code
def yX1_ruleOf : MethodName := ⟨RX1, "ruleOf", "(I)I"⟩
def dkwX1_ruleOf_1 : List UInt8 := [148, 154, 0, 14, 42, 28, 27, 182, 1, 109, 153, 0, 5, 28, 172, 132, 2, 1, 167, 255, 216, 16, 247, 172]
abbrev dktX1_ruleOf_1 : List UInt8 := dkwX1_ruleOf_1 ++ []
def dkwX1_ruleOf_0 : List UInt8 := [3, 61, 28, 42, 180, 1, 59, 162, 0, 38, 42, 180, 0, 58, 28, 47, 42, 180, 0, 91, 27, 4, 96, 47]
abbrev dktX1_ruleOf_0 : List UInt8 := dkwX1_ruleOf_0 ++ dktX1_ruleOf_1
theorem dksX1_ruleOf_0 : cX1_ruleOf.data.toList.drop 0 = dktX1_ruleOf_0 := by decide +kernel
theorem dksX1_ruleOf_1 : cX1_ruleOf.data.toList.drop 24 = dktX1_ruleOf_1 := dk_seg dksX1_ruleOf_0 24 rfl rfl
theorem dX1_ruleOf_0 : decode cX1_ruleOf 0 = .ok (.iconst 0, 1) := dk_3 (dk_at dksX1_ruleOf_0 0 rfl rfl)
theorem dX1_ruleOf_1 : decode cX1_ruleOf 1 = .ok (.istore_n 2, 1) := dk_61 (dk_at dksX1_ruleOf_0 1 rfl rfl)
theorem dX1_ruleOf_2 : decode cX1_ruleOf 2 = .ok (.iload_n 2, 1) := dk_28 (dk_at dksX1_ruleOf_0 2 rfl rfl)
theorem dX1_ruleOf_3 : decode cX1_ruleOf 3 = .ok (.aload_n 0, 1) := dk_42 (dk_at dksX1_ruleOf_0 3 rfl rfl)
theorem dX1_ruleOf_4 : decode cX1_ruleOf 4 = .ok (.getfield 315, 3) := dk_180 1 59 (dk_at dksX1_ruleOf_0 4 rfl rfl)
theorem dX1_ruleOf_7 : decode cX1_ruleOf 7 = .ok (.if_icmp .ge 38, 3) := dk_162 0 38 (dk_at dksX1_ruleOf_0 7 rfl rfl)
theorem dX1_ruleOf_10 : decode cX1_ruleOf 10 = .ok (.aload_n 0, 1) := dk_42 (dk_at dksX1_ruleOf_0 10 rfl rfl)
theorem dX1_ruleOf_11 : decode cX1_ruleOf 11 = .ok (.getfield 58, 3) := dk_180 0 58 (dk_at dksX1_ruleOf_0 11 rfl rfl)
theorem dX1_ruleOf_14 : decode cX1_ruleOf 14 = .ok (.iload_n 2, 1) := dk_28 (dk_at dksX1_ruleOf_0 14 rfl rfl)
theorem dX1_ruleOf_15 : decode cX1_ruleOf 15 = .ok (.laload, 1) := dk_47 (dk_at dksX1_ruleOf_0 15 rfl rfl)
theorem dX1_ruleOf_16 : decode cX1_ruleOf 16 = .ok (.aload_n 0, 1) := dk_42 (dk_at dksX1_ruleOf_0 16 rfl rfl)
theorem dX1_ruleOf_17 : decode cX1_ruleOf 17 = .ok (.getfield 91, 3) := dk_180 0 91 (dk_at dksX1_ruleOf_0 17 rfl rfl)
theorem dX1_ruleOf_20 : decode cX1_ruleOf 20 = .ok (.iload_n 1, 1) := dk_27 (dk_at dksX1_ruleOf_0 20 rfl rfl)
theorem dX1_ruleOf_21 : decode cX1_ruleOf 21 = .ok (.iconst 1, 1) := dk_4 (dk_at dksX1_ruleOf_0 21 rfl rfl)
theorem dX1_ruleOf_22 : decode cX1_ruleOf 22 = .ok (.iadd, 1) := dk_96 (dk_at dksX1_ruleOf_0 22 rfl rfl)
theorem dX1_ruleOf_23 : decode cX1_ruleOf 23 = .ok (.laload, 1) := dk_47 (dk_at dksX1_ruleOf_0 23 rfl rfl)
theorem dX1_ruleOf_24 : decode cX1_ruleOf 24 = .ok (.lcmp, 1) := dk_148 (dk_at dksX1_ruleOf_1 0 rfl rfl)
theorem dX1_ruleOf_25 : decode cX1_ruleOf 25 = .ok (.ifCond .ne 14, 3) := dk_154 0 14 (dk_at dksX1_ruleOf_1 1 rfl rfl)
theorem dX1_ruleOf_28 : decode cX1_ruleOf 28 = .ok (.aload_n 0, 1) := dk_42 (dk_at dksX1_ruleOf_1 4 rfl rfl)
theorem dX1_ruleOf_29 : decode cX1_ruleOf 29 = .ok (.iload_n 2, 1) := dk_28 (dk_at dksX1_ruleOf_1 5 rfl rfl)
theorem dX1_ruleOf_30 : decode cX1_ruleOf 30 = .ok (.iload_n 1, 1) := dk_27 (dk_at dksX1_ruleOf_1 6 rfl rfl)
theorem dX1_ruleOf_31 : decode cX1_ruleOf 31 = .ok (.invokevirtual 365, 3) := dk_182 1 109 (dk_at dksX1_ruleOf_1 7 rfl rfl)
theorem dX1_ruleOf_34 : decode cX1_ruleOf 34 = .ok (.ifCond .eq 5, 3) := dk_153 0 5 (dk_at dksX1_ruleOf_1 10 rfl rfl)
theorem dX1_ruleOf_37 : decode cX1_ruleOf 37 = .ok (.iload_n 2, 1) := dk_28 (dk_at dksX1_ruleOf_1 13 rfl rfl)
theorem dX1_ruleOf_38 : decode cX1_ruleOf 38 = .ok (.ireturn, 1) := dk_172 (dk_at dksX1_ruleOf_1 14 rfl rfl)
theorem dX1_ruleOf_39 : decode cX1_ruleOf 39 = .ok (.iinc 2 1, 3) := dk_132 2 1 (dk_at dksX1_ruleOf_1 15 rfl rfl)
theorem dX1_ruleOf_42 : decode cX1_ruleOf 42 = .ok (.goto (-40), 3) := dk_167 255 216 (dk_at dksX1_ruleOf_1 18 rfl rfl)
theorem dX1_ruleOf_45 : decode cX1_ruleOf 45 = .ok (.bipush (-9), 2) := dk_16 247 (dk_at dksX1_ruleOf_1 21 rfl rfl)
theorem dX1_ruleOf_47 : decode cX1_ruleOf 47 = .ok (.ireturn, 1) := dk_172 (dk_at dksX1_ruleOf_1 23 rfl rfl)
abbrev cX1_fits : ByteArray := prog_20_method_36_code
def yX1_fits : MethodName := ⟨RX1, "fits", "(II)Z"⟩
def dkwX1_fits_10 : List UInt8 := [132, 3, 1, 167, 255, 126, 4, 172]
abbrev dktX1_fits_10 : List UInt8 := dkwX1_fits_10 ++ []
def dkwX1_fits_9 : List UInt8 := [46, 96, 79, 21, 7, 21, 8, 153, 0, 7, 4, 167, 0, 10, 42, 180, 0, 103, 21, 7, 46, 96, 54, 7]
abbrev dktX1_fits_9 : List UInt8 := dkwX1_fits_9 ++ dktX1_fits_10
def dkwX1_fits_8 : List UInt8 := [3, 54, 8, 42, 180, 0, 121, 29, 21, 7, 79, 42, 180, 0, 124, 29, 21, 7, 42, 180, 0, 103, 21, 7]
abbrev dktX1_fits_8 : List UInt8 := dkwX1_fits_8 ++ dktX1_fits_9
def dkwX1_fits_7 : List UInt8 := [21, 7, 182, 1, 105, 154, 0, 5, 3, 172, 42, 180, 0, 70, 29, 46, 5, 160, 0, 7, 4, 167, 0, 4]
abbrev dktX1_fits_7 : List UInt8 := dkwX1_fits_7 ++ dktX1_fits_8
def dkwX1_fits_6 : List UInt8 := [180, 0, 124, 42, 180, 0, 85, 29, 46, 46, 79, 42, 180, 0, 124, 29, 46, 54, 7, 167, 0, 77, 42, 29]
abbrev dktX1_fits_6 : List UInt8 := dkwX1_fits_6 ++ dktX1_fits_7
def dkwX1_fits_5 : List UInt8 := [180, 0, 70, 29, 46, 16, 7, 160, 0, 39, 42, 180, 0, 121, 29, 21, 7, 79, 42, 180, 0, 124, 29, 42]
abbrev dktX1_fits_5 : List UInt8 := dkwX1_fits_5 ++ dktX1_fits_6
def dkwX1_fits_4 : List UInt8 := [180, 0, 103, 28, 46, 96, 79, 28, 5, 96, 54, 7, 132, 3, 1, 29, 21, 4, 162, 0, 130, 42]
abbrev dktX1_fits_4 : List UInt8 := dkwX1_fits_4 ++ dktX1_fits_5
def dkwX1_fits_3 : List UInt8 := [167, 0, 14, 21, 6, 42, 180, 0, 82, 29, 46, 159, 0, 5, 3, 172, 42, 180, 0, 124, 29, 28, 42]
abbrev dktX1_fits_3 : List UInt8 := dkwX1_fits_3 ++ dktX1_fits_4
def dkwX1_fits_2 : List UInt8 := [4, 100, 54, 6, 21, 5, 153, 0, 19, 21, 6, 42, 180, 0, 82, 29, 46, 4, 100, 162, 0, 19]
abbrev dktX1_fits_2 : List UInt8 := dkwX1_fits_2 ++ dktX1_fits_3
def dkwX1_fits_1 : List UInt8 := [158, 0, 15, 42, 29, 182, 1, 102, 153, 0, 7, 4, 167, 0, 4, 3, 54, 5, 42, 180, 0, 106, 28, 46]
abbrev dktX1_fits_1 : List UInt8 := dkwX1_fits_1 ++ dktX1_fits_2
def dkwX1_fits_0 : List UInt8 := [42, 180, 0, 64, 27, 46, 62, 29, 42, 180, 0, 79, 29, 46, 96, 54, 4, 42, 180, 0, 82, 29, 46]
abbrev dktX1_fits_0 : List UInt8 := dkwX1_fits_0 ++ dktX1_fits_1
theorem dksX1_fits_0 : cX1_fits.data.toList.drop 0 = dktX1_fits_0 := by decide +kernel
theorem dksX1_fits_1 : cX1_fits.data.toList.drop 23 = dktX1_fits_1 := dk_seg dksX1_fits_0 23 rfl rfl
theorem dksX1_fits_2 : cX1_fits.data.toList.drop 47 = dktX1_fits_2 := dk_seg dksX1_fits_1 24 rfl rfl
theorem dksX1_fits_3 : cX1_fits.data.toList.drop 69 = dktX1_fits_3 := dk_seg dksX1_fits_2 22 rfl rfl
theorem dksX1_fits_4 : cX1_fits.data.toList.drop 92 = dktX1_fits_4 := dk_seg dksX1_fits_3 23 rfl rfl
theorem dksX1_fits_5 : cX1_fits.data.toList.drop 114 = dktX1_fits_5 := dk_seg dksX1_fits_4 22 rfl rfl
theorem dksX1_fits_6 : cX1_fits.data.toList.drop 138 = dktX1_fits_6 := dk_seg dksX1_fits_5 24 rfl rfl
theorem dksX1_fits_7 : cX1_fits.data.toList.drop 162 = dktX1_fits_7 := dk_seg dksX1_fits_6 24 rfl rfl
theorem dksX1_fits_8 : cX1_fits.data.toList.drop 186 = dktX1_fits_8 := dk_seg dksX1_fits_7 24 rfl rfl
theorem dksX1_fits_9 : cX1_fits.data.toList.drop 210 = dktX1_fits_9 := dk_seg dksX1_fits_8 24 rfl rfl
theorem dksX1_fits_10 : cX1_fits.data.toList.drop 234 = dktX1_fits_10 := dk_seg dksX1_fits_9 24 rfl rfl
theorem dX1_fits_0 : decode cX1_fits 0 = .ok (.aload_n 0, 1) := dk_42 (dk_at dksX1_fits_0 0 rfl rfl)
theorem dX1_fits_1 : decode cX1_fits 1 = .ok (.getfield 64, 3) := dk_180 0 64 (dk_at dksX1_fits_0 1 rfl rfl)
theorem dX1_fits_4 : decode cX1_fits 4 = .ok (.iload_n 1, 1) := dk_27 (dk_at dksX1_fits_0 4 rfl rfl)
theorem dX1_fits_5 : decode cX1_fits 5 = .ok (.iaload, 1) := dk_46 (dk_at dksX1_fits_0 5 rfl rfl)
theorem dX1_fits_6 : decode cX1_fits 6 = .ok (.istore_n 3, 1) := dk_62 (dk_at dksX1_fits_0 6 rfl rfl)
theorem dX1_fits_7 : decode cX1_fits 7 = .ok (.iload_n 3, 1) := dk_29 (dk_at dksX1_fits_0 7 rfl rfl)
theorem dX1_fits_8 : decode cX1_fits 8 = .ok (.aload_n 0, 1) := dk_42 (dk_at dksX1_fits_0 8 rfl rfl)
theorem dX1_fits_9 : decode cX1_fits 9 = .ok (.getfield 79, 3) := dk_180 0 79 (dk_at dksX1_fits_0 9 rfl rfl)
theorem dX1_fits_12 : decode cX1_fits 12 = .ok (.iload_n 3, 1) := dk_29 (dk_at dksX1_fits_0 12 rfl rfl)
theorem dX1_fits_13 : decode cX1_fits 13 = .ok (.iaload, 1) := dk_46 (dk_at dksX1_fits_0 13 rfl rfl)
theorem dX1_fits_14 : decode cX1_fits 14 = .ok (.iadd, 1) := dk_96 (dk_at dksX1_fits_0 14 rfl rfl)
theorem dX1_fits_15 : decode cX1_fits 15 = .ok (.istore 4, 2) := dk_54 4 (dk_at dksX1_fits_0 15 rfl rfl)
theorem dX1_fits_17 : decode cX1_fits 17 = .ok (.aload_n 0, 1) := dk_42 (dk_at dksX1_fits_0 17 rfl rfl)
theorem dX1_fits_18 : decode cX1_fits 18 = .ok (.getfield 82, 3) := dk_180 0 82 (dk_at dksX1_fits_0 18 rfl rfl)
theorem dX1_fits_21 : decode cX1_fits 21 = .ok (.iload_n 3, 1) := dk_29 (dk_at dksX1_fits_0 21 rfl rfl)
theorem dX1_fits_22 : decode cX1_fits 22 = .ok (.iaload, 1) := dk_46 (dk_at dksX1_fits_0 22 rfl rfl)
theorem dX1_fits_23 : decode cX1_fits 23 = .ok (.ifCond .le 15, 3) := dk_158 0 15 (dk_at dksX1_fits_1 0 rfl rfl)
theorem dX1_fits_26 : decode cX1_fits 26 = .ok (.aload_n 0, 1) := dk_42 (dk_at dksX1_fits_1 3 rfl rfl)
theorem dX1_fits_27 : decode cX1_fits 27 = .ok (.iload_n 3, 1) := dk_29 (dk_at dksX1_fits_1 4 rfl rfl)
theorem dX1_fits_28 : decode cX1_fits 28 = .ok (.invokevirtual 358, 3) := dk_182 1 102 (dk_at dksX1_fits_1 5 rfl rfl)
theorem dX1_fits_31 : decode cX1_fits 31 = .ok (.ifCond .eq 7, 3) := dk_153 0 7 (dk_at dksX1_fits_1 8 rfl rfl)
theorem dX1_fits_34 : decode cX1_fits 34 = .ok (.iconst 1, 1) := dk_4 (dk_at dksX1_fits_1 11 rfl rfl)
theorem dX1_fits_35 : decode cX1_fits 35 = .ok (.goto 4, 3) := dk_167 0 4 (dk_at dksX1_fits_1 12 rfl rfl)
theorem dX1_fits_38 : decode cX1_fits 38 = .ok (.iconst 0, 1) := dk_3 (dk_at dksX1_fits_1 15 rfl rfl)
theorem dX1_fits_39 : decode cX1_fits 39 = .ok (.istore 5, 2) := dk_54 5 (dk_at dksX1_fits_1 16 rfl rfl)
theorem dX1_fits_41 : decode cX1_fits 41 = .ok (.aload_n 0, 1) := dk_42 (dk_at dksX1_fits_1 18 rfl rfl)
theorem dX1_fits_42 : decode cX1_fits 42 = .ok (.getfield 106, 3) := dk_180 0 106 (dk_at dksX1_fits_1 19 rfl rfl)
theorem dX1_fits_45 : decode cX1_fits 45 = .ok (.iload_n 2, 1) := dk_28 (dk_at dksX1_fits_1 22 rfl rfl)
theorem dX1_fits_46 : decode cX1_fits 46 = .ok (.iaload, 1) := dk_46 (dk_at dksX1_fits_1 23 rfl rfl)
theorem dX1_fits_47 : decode cX1_fits 47 = .ok (.iconst 1, 1) := dk_4 (dk_at dksX1_fits_2 0 rfl rfl)
theorem dX1_fits_48 : decode cX1_fits 48 = .ok (.isub, 1) := dk_100 (dk_at dksX1_fits_2 1 rfl rfl)
theorem dX1_fits_49 : decode cX1_fits 49 = .ok (.istore 6, 2) := dk_54 6 (dk_at dksX1_fits_2 2 rfl rfl)
theorem dX1_fits_51 : decode cX1_fits 51 = .ok (.iload 5, 2) := dk_21 5 (dk_at dksX1_fits_2 4 rfl rfl)
theorem dX1_fits_53 : decode cX1_fits 53 = .ok (.ifCond .eq 19, 3) := dk_153 0 19 (dk_at dksX1_fits_2 6 rfl rfl)
theorem dX1_fits_56 : decode cX1_fits 56 = .ok (.iload 6, 2) := dk_21 6 (dk_at dksX1_fits_2 9 rfl rfl)
theorem dX1_fits_58 : decode cX1_fits 58 = .ok (.aload_n 0, 1) := dk_42 (dk_at dksX1_fits_2 11 rfl rfl)
theorem dX1_fits_59 : decode cX1_fits 59 = .ok (.getfield 82, 3) := dk_180 0 82 (dk_at dksX1_fits_2 12 rfl rfl)
theorem dX1_fits_62 : decode cX1_fits 62 = .ok (.iload_n 3, 1) := dk_29 (dk_at dksX1_fits_2 15 rfl rfl)
theorem dX1_fits_63 : decode cX1_fits 63 = .ok (.iaload, 1) := dk_46 (dk_at dksX1_fits_2 16 rfl rfl)
theorem dX1_fits_64 : decode cX1_fits 64 = .ok (.iconst 1, 1) := dk_4 (dk_at dksX1_fits_2 17 rfl rfl)
theorem dX1_fits_65 : decode cX1_fits 65 = .ok (.isub, 1) := dk_100 (dk_at dksX1_fits_2 18 rfl rfl)
theorem dX1_fits_66 : decode cX1_fits 66 = .ok (.if_icmp .ge 19, 3) := dk_162 0 19 (dk_at dksX1_fits_2 19 rfl rfl)
theorem dX1_fits_69 : decode cX1_fits 69 = .ok (.goto 14, 3) := dk_167 0 14 (dk_at dksX1_fits_3 0 rfl rfl)
theorem dX1_fits_72 : decode cX1_fits 72 = .ok (.iload 6, 2) := dk_21 6 (dk_at dksX1_fits_3 3 rfl rfl)
theorem dX1_fits_74 : decode cX1_fits 74 = .ok (.aload_n 0, 1) := dk_42 (dk_at dksX1_fits_3 5 rfl rfl)
theorem dX1_fits_75 : decode cX1_fits 75 = .ok (.getfield 82, 3) := dk_180 0 82 (dk_at dksX1_fits_3 6 rfl rfl)
theorem dX1_fits_78 : decode cX1_fits 78 = .ok (.iload_n 3, 1) := dk_29 (dk_at dksX1_fits_3 9 rfl rfl)
theorem dX1_fits_79 : decode cX1_fits 79 = .ok (.iaload, 1) := dk_46 (dk_at dksX1_fits_3 10 rfl rfl)
theorem dX1_fits_80 : decode cX1_fits 80 = .ok (.if_icmp .eq 5, 3) := dk_159 0 5 (dk_at dksX1_fits_3 11 rfl rfl)
theorem dX1_fits_83 : decode cX1_fits 83 = .ok (.iconst 0, 1) := dk_3 (dk_at dksX1_fits_3 14 rfl rfl)
theorem dX1_fits_84 : decode cX1_fits 84 = .ok (.ireturn, 1) := dk_172 (dk_at dksX1_fits_3 15 rfl rfl)
theorem dX1_fits_85 : decode cX1_fits 85 = .ok (.aload_n 0, 1) := dk_42 (dk_at dksX1_fits_3 16 rfl rfl)
theorem dX1_fits_86 : decode cX1_fits 86 = .ok (.getfield 124, 3) := dk_180 0 124 (dk_at dksX1_fits_3 17 rfl rfl)
theorem dX1_fits_89 : decode cX1_fits 89 = .ok (.iload_n 3, 1) := dk_29 (dk_at dksX1_fits_3 20 rfl rfl)
theorem dX1_fits_90 : decode cX1_fits 90 = .ok (.iload_n 2, 1) := dk_28 (dk_at dksX1_fits_3 21 rfl rfl)
theorem dX1_fits_91 : decode cX1_fits 91 = .ok (.aload_n 0, 1) := dk_42 (dk_at dksX1_fits_3 22 rfl rfl)
theorem dX1_fits_92 : decode cX1_fits 92 = .ok (.getfield 103, 3) := dk_180 0 103 (dk_at dksX1_fits_4 0 rfl rfl)
theorem dX1_fits_95 : decode cX1_fits 95 = .ok (.iload_n 2, 1) := dk_28 (dk_at dksX1_fits_4 3 rfl rfl)
theorem dX1_fits_96 : decode cX1_fits 96 = .ok (.iaload, 1) := dk_46 (dk_at dksX1_fits_4 4 rfl rfl)
theorem dX1_fits_97 : decode cX1_fits 97 = .ok (.iadd, 1) := dk_96 (dk_at dksX1_fits_4 5 rfl rfl)
theorem dX1_fits_98 : decode cX1_fits 98 = .ok (.iastore, 1) := dk_79 (dk_at dksX1_fits_4 6 rfl rfl)
theorem dX1_fits_99 : decode cX1_fits 99 = .ok (.iload_n 2, 1) := dk_28 (dk_at dksX1_fits_4 7 rfl rfl)
theorem dX1_fits_100 : decode cX1_fits 100 = .ok (.iconst 2, 1) := dk_5 (dk_at dksX1_fits_4 8 rfl rfl)
theorem dX1_fits_101 : decode cX1_fits 101 = .ok (.iadd, 1) := dk_96 (dk_at dksX1_fits_4 9 rfl rfl)
theorem dX1_fits_102 : decode cX1_fits 102 = .ok (.istore 7, 2) := dk_54 7 (dk_at dksX1_fits_4 10 rfl rfl)
theorem dX1_fits_104 : decode cX1_fits 104 = .ok (.iinc 3 1, 3) := dk_132 3 1 (dk_at dksX1_fits_4 12 rfl rfl)
theorem dX1_fits_107 : decode cX1_fits 107 = .ok (.iload_n 3, 1) := dk_29 (dk_at dksX1_fits_4 15 rfl rfl)
theorem dX1_fits_108 : decode cX1_fits 108 = .ok (.iload 4, 2) := dk_21 4 (dk_at dksX1_fits_4 16 rfl rfl)
theorem dX1_fits_110 : decode cX1_fits 110 = .ok (.if_icmp .ge 130, 3) := dk_162 0 130 (dk_at dksX1_fits_4 18 rfl rfl)
theorem dX1_fits_113 : decode cX1_fits 113 = .ok (.aload_n 0, 1) := dk_42 (dk_at dksX1_fits_4 21 rfl rfl)
theorem dX1_fits_114 : decode cX1_fits 114 = .ok (.getfield 70, 3) := dk_180 0 70 (dk_at dksX1_fits_5 0 rfl rfl)
theorem dX1_fits_117 : decode cX1_fits 117 = .ok (.iload_n 3, 1) := dk_29 (dk_at dksX1_fits_5 3 rfl rfl)
theorem dX1_fits_118 : decode cX1_fits 118 = .ok (.iaload, 1) := dk_46 (dk_at dksX1_fits_5 4 rfl rfl)
theorem dX1_fits_119 : decode cX1_fits 119 = .ok (.bipush 7, 2) := dk_16 7 (dk_at dksX1_fits_5 5 rfl rfl)
theorem dX1_fits_121 : decode cX1_fits 121 = .ok (.if_icmp .ne 39, 3) := dk_160 0 39 (dk_at dksX1_fits_5 7 rfl rfl)
theorem dX1_fits_124 : decode cX1_fits 124 = .ok (.aload_n 0, 1) := dk_42 (dk_at dksX1_fits_5 10 rfl rfl)
theorem dX1_fits_125 : decode cX1_fits 125 = .ok (.getfield 121, 3) := dk_180 0 121 (dk_at dksX1_fits_5 11 rfl rfl)
theorem dX1_fits_128 : decode cX1_fits 128 = .ok (.iload_n 3, 1) := dk_29 (dk_at dksX1_fits_5 14 rfl rfl)
theorem dX1_fits_129 : decode cX1_fits 129 = .ok (.iload 7, 2) := dk_21 7 (dk_at dksX1_fits_5 15 rfl rfl)
theorem dX1_fits_131 : decode cX1_fits 131 = .ok (.iastore, 1) := dk_79 (dk_at dksX1_fits_5 17 rfl rfl)
theorem dX1_fits_132 : decode cX1_fits 132 = .ok (.aload_n 0, 1) := dk_42 (dk_at dksX1_fits_5 18 rfl rfl)
theorem dX1_fits_133 : decode cX1_fits 133 = .ok (.getfield 124, 3) := dk_180 0 124 (dk_at dksX1_fits_5 19 rfl rfl)
theorem dX1_fits_136 : decode cX1_fits 136 = .ok (.iload_n 3, 1) := dk_29 (dk_at dksX1_fits_5 22 rfl rfl)
theorem dX1_fits_137 : decode cX1_fits 137 = .ok (.aload_n 0, 1) := dk_42 (dk_at dksX1_fits_5 23 rfl rfl)
theorem dX1_fits_138 : decode cX1_fits 138 = .ok (.getfield 124, 3) := dk_180 0 124 (dk_at dksX1_fits_6 0 rfl rfl)
theorem dX1_fits_141 : decode cX1_fits 141 = .ok (.aload_n 0, 1) := dk_42 (dk_at dksX1_fits_6 3 rfl rfl)
theorem dX1_fits_142 : decode cX1_fits 142 = .ok (.getfield 85, 3) := dk_180 0 85 (dk_at dksX1_fits_6 4 rfl rfl)
theorem dX1_fits_145 : decode cX1_fits 145 = .ok (.iload_n 3, 1) := dk_29 (dk_at dksX1_fits_6 7 rfl rfl)
theorem dX1_fits_146 : decode cX1_fits 146 = .ok (.iaload, 1) := dk_46 (dk_at dksX1_fits_6 8 rfl rfl)
theorem dX1_fits_147 : decode cX1_fits 147 = .ok (.iaload, 1) := dk_46 (dk_at dksX1_fits_6 9 rfl rfl)
theorem dX1_fits_148 : decode cX1_fits 148 = .ok (.iastore, 1) := dk_79 (dk_at dksX1_fits_6 10 rfl rfl)
theorem dX1_fits_149 : decode cX1_fits 149 = .ok (.aload_n 0, 1) := dk_42 (dk_at dksX1_fits_6 11 rfl rfl)
theorem dX1_fits_150 : decode cX1_fits 150 = .ok (.getfield 124, 3) := dk_180 0 124 (dk_at dksX1_fits_6 12 rfl rfl)
theorem dX1_fits_153 : decode cX1_fits 153 = .ok (.iload_n 3, 1) := dk_29 (dk_at dksX1_fits_6 15 rfl rfl)
theorem dX1_fits_154 : decode cX1_fits 154 = .ok (.iaload, 1) := dk_46 (dk_at dksX1_fits_6 16 rfl rfl)
theorem dX1_fits_155 : decode cX1_fits 155 = .ok (.istore 7, 2) := dk_54 7 (dk_at dksX1_fits_6 17 rfl rfl)
theorem dX1_fits_157 : decode cX1_fits 157 = .ok (.goto 77, 3) := dk_167 0 77 (dk_at dksX1_fits_6 19 rfl rfl)
theorem dX1_fits_160 : decode cX1_fits 160 = .ok (.aload_n 0, 1) := dk_42 (dk_at dksX1_fits_6 22 rfl rfl)
theorem dX1_fits_161 : decode cX1_fits 161 = .ok (.iload_n 3, 1) := dk_29 (dk_at dksX1_fits_6 23 rfl rfl)
theorem dX1_fits_162 : decode cX1_fits 162 = .ok (.iload 7, 2) := dk_21 7 (dk_at dksX1_fits_7 0 rfl rfl)
theorem dX1_fits_164 : decode cX1_fits 164 = .ok (.invokevirtual 361, 3) := dk_182 1 105 (dk_at dksX1_fits_7 2 rfl rfl)
theorem dX1_fits_167 : decode cX1_fits 167 = .ok (.ifCond .ne 5, 3) := dk_154 0 5 (dk_at dksX1_fits_7 5 rfl rfl)
theorem dX1_fits_170 : decode cX1_fits 170 = .ok (.iconst 0, 1) := dk_3 (dk_at dksX1_fits_7 8 rfl rfl)
theorem dX1_fits_171 : decode cX1_fits 171 = .ok (.ireturn, 1) := dk_172 (dk_at dksX1_fits_7 9 rfl rfl)
theorem dX1_fits_172 : decode cX1_fits 172 = .ok (.aload_n 0, 1) := dk_42 (dk_at dksX1_fits_7 10 rfl rfl)
theorem dX1_fits_173 : decode cX1_fits 173 = .ok (.getfield 70, 3) := dk_180 0 70 (dk_at dksX1_fits_7 11 rfl rfl)
theorem dX1_fits_176 : decode cX1_fits 176 = .ok (.iload_n 3, 1) := dk_29 (dk_at dksX1_fits_7 14 rfl rfl)
theorem dX1_fits_177 : decode cX1_fits 177 = .ok (.iaload, 1) := dk_46 (dk_at dksX1_fits_7 15 rfl rfl)
theorem dX1_fits_178 : decode cX1_fits 178 = .ok (.iconst 2, 1) := dk_5 (dk_at dksX1_fits_7 16 rfl rfl)
theorem dX1_fits_179 : decode cX1_fits 179 = .ok (.if_icmp .ne 7, 3) := dk_160 0 7 (dk_at dksX1_fits_7 17 rfl rfl)
theorem dX1_fits_182 : decode cX1_fits 182 = .ok (.iconst 1, 1) := dk_4 (dk_at dksX1_fits_7 20 rfl rfl)
theorem dX1_fits_183 : decode cX1_fits 183 = .ok (.goto 4, 3) := dk_167 0 4 (dk_at dksX1_fits_7 21 rfl rfl)
theorem dX1_fits_186 : decode cX1_fits 186 = .ok (.iconst 0, 1) := dk_3 (dk_at dksX1_fits_8 0 rfl rfl)
theorem dX1_fits_187 : decode cX1_fits 187 = .ok (.istore 8, 2) := dk_54 8 (dk_at dksX1_fits_8 1 rfl rfl)
theorem dX1_fits_189 : decode cX1_fits 189 = .ok (.aload_n 0, 1) := dk_42 (dk_at dksX1_fits_8 3 rfl rfl)
theorem dX1_fits_190 : decode cX1_fits 190 = .ok (.getfield 121, 3) := dk_180 0 121 (dk_at dksX1_fits_8 4 rfl rfl)
theorem dX1_fits_193 : decode cX1_fits 193 = .ok (.iload_n 3, 1) := dk_29 (dk_at dksX1_fits_8 7 rfl rfl)
theorem dX1_fits_194 : decode cX1_fits 194 = .ok (.iload 7, 2) := dk_21 7 (dk_at dksX1_fits_8 8 rfl rfl)
theorem dX1_fits_196 : decode cX1_fits 196 = .ok (.iastore, 1) := dk_79 (dk_at dksX1_fits_8 10 rfl rfl)
theorem dX1_fits_197 : decode cX1_fits 197 = .ok (.aload_n 0, 1) := dk_42 (dk_at dksX1_fits_8 11 rfl rfl)
theorem dX1_fits_198 : decode cX1_fits 198 = .ok (.getfield 124, 3) := dk_180 0 124 (dk_at dksX1_fits_8 12 rfl rfl)
theorem dX1_fits_201 : decode cX1_fits 201 = .ok (.iload_n 3, 1) := dk_29 (dk_at dksX1_fits_8 15 rfl rfl)
theorem dX1_fits_202 : decode cX1_fits 202 = .ok (.iload 7, 2) := dk_21 7 (dk_at dksX1_fits_8 16 rfl rfl)
theorem dX1_fits_204 : decode cX1_fits 204 = .ok (.aload_n 0, 1) := dk_42 (dk_at dksX1_fits_8 18 rfl rfl)
theorem dX1_fits_205 : decode cX1_fits 205 = .ok (.getfield 103, 3) := dk_180 0 103 (dk_at dksX1_fits_8 19 rfl rfl)
theorem dX1_fits_208 : decode cX1_fits 208 = .ok (.iload 7, 2) := dk_21 7 (dk_at dksX1_fits_8 22 rfl rfl)
theorem dX1_fits_210 : decode cX1_fits 210 = .ok (.iaload, 1) := dk_46 (dk_at dksX1_fits_9 0 rfl rfl)
theorem dX1_fits_211 : decode cX1_fits 211 = .ok (.iadd, 1) := dk_96 (dk_at dksX1_fits_9 1 rfl rfl)
theorem dX1_fits_212 : decode cX1_fits 212 = .ok (.iastore, 1) := dk_79 (dk_at dksX1_fits_9 2 rfl rfl)
theorem dX1_fits_213 : decode cX1_fits 213 = .ok (.iload 7, 2) := dk_21 7 (dk_at dksX1_fits_9 3 rfl rfl)
theorem dX1_fits_215 : decode cX1_fits 215 = .ok (.iload 8, 2) := dk_21 8 (dk_at dksX1_fits_9 5 rfl rfl)
theorem dX1_fits_217 : decode cX1_fits 217 = .ok (.ifCond .eq 7, 3) := dk_153 0 7 (dk_at dksX1_fits_9 7 rfl rfl)
theorem dX1_fits_220 : decode cX1_fits 220 = .ok (.iconst 1, 1) := dk_4 (dk_at dksX1_fits_9 10 rfl rfl)
theorem dX1_fits_221 : decode cX1_fits 221 = .ok (.goto 10, 3) := dk_167 0 10 (dk_at dksX1_fits_9 11 rfl rfl)
theorem dX1_fits_224 : decode cX1_fits 224 = .ok (.aload_n 0, 1) := dk_42 (dk_at dksX1_fits_9 14 rfl rfl)
theorem dX1_fits_225 : decode cX1_fits 225 = .ok (.getfield 103, 3) := dk_180 0 103 (dk_at dksX1_fits_9 15 rfl rfl)
theorem dX1_fits_228 : decode cX1_fits 228 = .ok (.iload 7, 2) := dk_21 7 (dk_at dksX1_fits_9 18 rfl rfl)
theorem dX1_fits_230 : decode cX1_fits 230 = .ok (.iaload, 1) := dk_46 (dk_at dksX1_fits_9 20 rfl rfl)
theorem dX1_fits_231 : decode cX1_fits 231 = .ok (.iadd, 1) := dk_96 (dk_at dksX1_fits_9 21 rfl rfl)
theorem dX1_fits_232 : decode cX1_fits 232 = .ok (.istore 7, 2) := dk_54 7 (dk_at dksX1_fits_9 22 rfl rfl)
theorem dX1_fits_234 : decode cX1_fits 234 = .ok (.iinc 3 1, 3) := dk_132 3 1 (dk_at dksX1_fits_10 0 rfl rfl)
theorem dX1_fits_237 : decode cX1_fits 237 = .ok (.goto (-130), 3) := dk_167 255 126 (dk_at dksX1_fits_10 3 rfl rfl)
theorem dX1_fits_240 : decode cX1_fits 240 = .ok (.iconst 1, 1) := dk_4 (dk_at dksX1_fits_10 6 rfl rfl)
theorem dX1_fits_241 : decode cX1_fits 241 = .ok (.ireturn, 1) := dk_172 (dk_at dksX1_fits_10 7 rfl rfl)
abbrev cX1_endsInRest : ByteArray := prog_20_method_37_code
def yX1_endsInRest : MethodName := ⟨RX1, "endsInRest", "(I)Z"⟩
def dkwX1_endsInRest_1 : List UInt8 := [180, 0, 85, 28, 46, 27, 160, 0, 7, 4, 167, 0, 4, 3, 172]
abbrev dktX1_endsInRest_1 : List UInt8 := dkwX1_endsInRest_1 ++ []
def dkwX1_endsInRest_0 : List UInt8 := [27, 42, 180, 0, 79, 27, 46, 96, 4, 100, 61, 42, 180, 0, 70, 28, 46, 16, 7, 160, 0, 17, 42]
abbrev dktX1_endsInRest_0 : List UInt8 := dkwX1_endsInRest_0 ++ dktX1_endsInRest_1
theorem dksX1_endsInRest_0 : cX1_endsInRest.data.toList.drop 0 = dktX1_endsInRest_0 := by decide +kernel
theorem dksX1_endsInRest_1 : cX1_endsInRest.data.toList.drop 23 = dktX1_endsInRest_1 := dk_seg dksX1_endsInRest_0 23 rfl rfl
theorem dX1_endsInRest_0 : decode cX1_endsInRest 0 = .ok (.iload_n 1, 1) := dk_27 (dk_at dksX1_endsInRest_0 0 rfl rfl)
theorem dX1_endsInRest_1 : decode cX1_endsInRest 1 = .ok (.aload_n 0, 1) := dk_42 (dk_at dksX1_endsInRest_0 1 rfl rfl)
theorem dX1_endsInRest_2 : decode cX1_endsInRest 2 = .ok (.getfield 79, 3) := dk_180 0 79 (dk_at dksX1_endsInRest_0 2 rfl rfl)
theorem dX1_endsInRest_5 : decode cX1_endsInRest 5 = .ok (.iload_n 1, 1) := dk_27 (dk_at dksX1_endsInRest_0 5 rfl rfl)
theorem dX1_endsInRest_6 : decode cX1_endsInRest 6 = .ok (.iaload, 1) := dk_46 (dk_at dksX1_endsInRest_0 6 rfl rfl)
theorem dX1_endsInRest_7 : decode cX1_endsInRest 7 = .ok (.iadd, 1) := dk_96 (dk_at dksX1_endsInRest_0 7 rfl rfl)
theorem dX1_endsInRest_8 : decode cX1_endsInRest 8 = .ok (.iconst 1, 1) := dk_4 (dk_at dksX1_endsInRest_0 8 rfl rfl)
theorem dX1_endsInRest_9 : decode cX1_endsInRest 9 = .ok (.isub, 1) := dk_100 (dk_at dksX1_endsInRest_0 9 rfl rfl)
theorem dX1_endsInRest_10 : decode cX1_endsInRest 10 = .ok (.istore_n 2, 1) := dk_61 (dk_at dksX1_endsInRest_0 10 rfl rfl)
theorem dX1_endsInRest_11 : decode cX1_endsInRest 11 = .ok (.aload_n 0, 1) := dk_42 (dk_at dksX1_endsInRest_0 11 rfl rfl)
theorem dX1_endsInRest_12 : decode cX1_endsInRest 12 = .ok (.getfield 70, 3) := dk_180 0 70 (dk_at dksX1_endsInRest_0 12 rfl rfl)
theorem dX1_endsInRest_15 : decode cX1_endsInRest 15 = .ok (.iload_n 2, 1) := dk_28 (dk_at dksX1_endsInRest_0 15 rfl rfl)
theorem dX1_endsInRest_16 : decode cX1_endsInRest 16 = .ok (.iaload, 1) := dk_46 (dk_at dksX1_endsInRest_0 16 rfl rfl)
theorem dX1_endsInRest_17 : decode cX1_endsInRest 17 = .ok (.bipush 7, 2) := dk_16 7 (dk_at dksX1_endsInRest_0 17 rfl rfl)
theorem dX1_endsInRest_19 : decode cX1_endsInRest 19 = .ok (.if_icmp .ne 17, 3) := dk_160 0 17 (dk_at dksX1_endsInRest_0 19 rfl rfl)
theorem dX1_endsInRest_22 : decode cX1_endsInRest 22 = .ok (.aload_n 0, 1) := dk_42 (dk_at dksX1_endsInRest_0 22 rfl rfl)
theorem dX1_endsInRest_23 : decode cX1_endsInRest 23 = .ok (.getfield 85, 3) := dk_180 0 85 (dk_at dksX1_endsInRest_1 0 rfl rfl)
theorem dX1_endsInRest_26 : decode cX1_endsInRest 26 = .ok (.iload_n 2, 1) := dk_28 (dk_at dksX1_endsInRest_1 3 rfl rfl)
theorem dX1_endsInRest_27 : decode cX1_endsInRest 27 = .ok (.iaload, 1) := dk_46 (dk_at dksX1_endsInRest_1 4 rfl rfl)
theorem dX1_endsInRest_28 : decode cX1_endsInRest 28 = .ok (.iload_n 1, 1) := dk_27 (dk_at dksX1_endsInRest_1 5 rfl rfl)
theorem dX1_endsInRest_29 : decode cX1_endsInRest 29 = .ok (.if_icmp .ne 7, 3) := dk_160 0 7 (dk_at dksX1_endsInRest_1 6 rfl rfl)
theorem dX1_endsInRest_32 : decode cX1_endsInRest 32 = .ok (.iconst 1, 1) := dk_4 (dk_at dksX1_endsInRest_1 9 rfl rfl)
theorem dX1_endsInRest_33 : decode cX1_endsInRest 33 = .ok (.goto 4, 3) := dk_167 0 4 (dk_at dksX1_endsInRest_1 10 rfl rfl)
theorem dX1_endsInRest_36 : decode cX1_endsInRest 36 = .ok (.iconst 0, 1) := dk_3 (dk_at dksX1_endsInRest_1 13 rfl rfl)
theorem dX1_endsInRest_37 : decode cX1_endsInRest 37 = .ok (.ireturn, 1) := dk_172 (dk_at dksX1_endsInRest_1 14 rfl rfl)
abbrev cX1_fitsOne : ByteArray := prog_20_method_38_code
def yX1_fitsOne : MethodName := ⟨RX1, "fitsOne", "(II)Z"⟩
def dkwX1_fitsOne_8 : List UInt8 := [160, 0, 7, 4, 167, 0, 4, 3, 172]
abbrev dktX1_fitsOne_8 : List UInt8 := dkwX1_fitsOne_8 ++ []
def dkwX1_fitsOne_7 : List UInt8 := [161, 0, 7, 4, 167, 0, 27, 3, 167, 0, 23, 42, 180, 0, 106, 28, 46, 42, 180, 0, 82, 27, 46]
abbrev dktX1_fitsOne_7 : List UInt8 := dkwX1_fitsOne_7 ++ dktX1_fitsOne_8
def dkwX1_fitsOne_6 : List UInt8 := [4, 167, 0, 4, 3, 62, 29, 153, 0, 28, 42, 180, 0, 106, 28, 46, 42, 180, 0, 82, 27, 46, 4, 100]
abbrev dktX1_fitsOne_6 : List UInt8 := dkwX1_fitsOne_6 ++ dktX1_fitsOne_7
def dkwX1_fitsOne_5 : List UInt8 := [46, 5, 162, 0, 5, 3, 172, 42, 180, 0, 82, 27, 46, 158, 0, 15, 42, 27, 182, 1, 102, 153, 0, 7]
abbrev dktX1_fitsOne_5 : List UInt8 := dkwX1_fitsOne_5 ++ dktX1_fitsOne_6
def dkwX1_fitsOne_4 : List UInt8 := [47, 42, 180, 0, 73, 27, 47, 148, 154, 0, 7, 4, 167, 0, 4, 3, 172, 4, 172, 42, 180, 0, 88, 28]
abbrev dktX1_fitsOne_4 : List UInt8 := dkwX1_fitsOne_4 ++ dktX1_fitsOne_5
def dkwX1_fitsOne_3 : List UInt8 := [154, 0, 7, 4, 167, 0, 4, 3, 172, 42, 180, 0, 88, 28, 46, 4, 160, 0, 23, 42, 180, 0, 91, 28]
abbrev dktX1_fitsOne_3 : List UInt8 := dkwX1_fitsOne_3 ++ dktX1_fitsOne_4
def dkwX1_fitsOne_2 : List UInt8 := [42, 180, 0, 88, 28, 46, 154, 0, 23, 42, 180, 0, 91, 28, 47, 42, 180, 0, 73, 27, 47, 148]
abbrev dktX1_fitsOne_2 : List UInt8 := dkwX1_fitsOne_2 ++ dktX1_fitsOne_3
def dkwX1_fitsOne_1 : List UInt8 := [171, 0, 0, 0, 0, 99, 0, 0, 0, 3, 0, 0, 0, 0, 0, 0, 0, 34, 0, 0, 0, 6, 0, 0, 0, 97, 0, 0, 0, 8, 0, 0, 0, 65]
abbrev dktX1_fitsOne_1 : List UInt8 := dkwX1_fitsOne_1 ++ dktX1_fitsOne_2
def dkwX1_fitsOne_0 : List UInt8 := [42, 180, 0, 70, 27, 46]
abbrev dktX1_fitsOne_0 : List UInt8 := dkwX1_fitsOne_0 ++ dktX1_fitsOne_1
theorem dksX1_fitsOne_0 : cX1_fitsOne.data.toList.drop 0 = dktX1_fitsOne_0 := by decide +kernel
theorem dksX1_fitsOne_1 : cX1_fitsOne.data.toList.drop 6 = dktX1_fitsOne_1 := dk_seg dksX1_fitsOne_0 6 rfl rfl
theorem dksX1_fitsOne_2 : cX1_fitsOne.data.toList.drop 40 = dktX1_fitsOne_2 := dk_seg dksX1_fitsOne_1 34 rfl rfl
theorem dksX1_fitsOne_3 : cX1_fitsOne.data.toList.drop 62 = dktX1_fitsOne_3 := dk_seg dksX1_fitsOne_2 22 rfl rfl
theorem dksX1_fitsOne_4 : cX1_fitsOne.data.toList.drop 86 = dktX1_fitsOne_4 := dk_seg dksX1_fitsOne_3 24 rfl rfl
theorem dksX1_fitsOne_5 : cX1_fitsOne.data.toList.drop 110 = dktX1_fitsOne_5 := dk_seg dksX1_fitsOne_4 24 rfl rfl
theorem dksX1_fitsOne_6 : cX1_fitsOne.data.toList.drop 134 = dktX1_fitsOne_6 := dk_seg dksX1_fitsOne_5 24 rfl rfl
theorem dksX1_fitsOne_7 : cX1_fitsOne.data.toList.drop 158 = dktX1_fitsOne_7 := dk_seg dksX1_fitsOne_6 24 rfl rfl
theorem dksX1_fitsOne_8 : cX1_fitsOne.data.toList.drop 181 = dktX1_fitsOne_8 := dk_seg dksX1_fitsOne_7 23 rfl rfl
theorem dX1_fitsOne_0 : decode cX1_fitsOne 0 = .ok (.aload_n 0, 1) := dk_42 (dk_at dksX1_fitsOne_0 0 rfl rfl)
theorem dX1_fitsOne_1 : decode cX1_fitsOne 1 = .ok (.getfield 70, 3) := dk_180 0 70 (dk_at dksX1_fitsOne_0 1 rfl rfl)
theorem dX1_fitsOne_4 : decode cX1_fitsOne 4 = .ok (.iload_n 1, 1) := dk_27 (dk_at dksX1_fitsOne_0 4 rfl rfl)
theorem dX1_fitsOne_5 : decode cX1_fitsOne 5 = .ok (.iaload, 1) := dk_46 (dk_at dksX1_fitsOne_0 5 rfl rfl)
theorem dX1_fitsOne_6 : decode cX1_fitsOne 6 = .ok (.lookupswitch 99 #[(0, 34), (6, 97), (8, 65)], 34) := by decide +kernel
theorem dX1_fitsOne_40 : decode cX1_fitsOne 40 = .ok (.aload_n 0, 1) := dk_42 (dk_at dksX1_fitsOne_2 0 rfl rfl)
theorem dX1_fitsOne_41 : decode cX1_fitsOne 41 = .ok (.getfield 88, 3) := dk_180 0 88 (dk_at dksX1_fitsOne_2 1 rfl rfl)
theorem dX1_fitsOne_44 : decode cX1_fitsOne 44 = .ok (.iload_n 2, 1) := dk_28 (dk_at dksX1_fitsOne_2 4 rfl rfl)
theorem dX1_fitsOne_45 : decode cX1_fitsOne 45 = .ok (.iaload, 1) := dk_46 (dk_at dksX1_fitsOne_2 5 rfl rfl)
theorem dX1_fitsOne_46 : decode cX1_fitsOne 46 = .ok (.ifCond .ne 23, 3) := dk_154 0 23 (dk_at dksX1_fitsOne_2 6 rfl rfl)
theorem dX1_fitsOne_49 : decode cX1_fitsOne 49 = .ok (.aload_n 0, 1) := dk_42 (dk_at dksX1_fitsOne_2 9 rfl rfl)
theorem dX1_fitsOne_50 : decode cX1_fitsOne 50 = .ok (.getfield 91, 3) := dk_180 0 91 (dk_at dksX1_fitsOne_2 10 rfl rfl)
theorem dX1_fitsOne_53 : decode cX1_fitsOne 53 = .ok (.iload_n 2, 1) := dk_28 (dk_at dksX1_fitsOne_2 13 rfl rfl)
theorem dX1_fitsOne_54 : decode cX1_fitsOne 54 = .ok (.laload, 1) := dk_47 (dk_at dksX1_fitsOne_2 14 rfl rfl)
theorem dX1_fitsOne_55 : decode cX1_fitsOne 55 = .ok (.aload_n 0, 1) := dk_42 (dk_at dksX1_fitsOne_2 15 rfl rfl)
theorem dX1_fitsOne_56 : decode cX1_fitsOne 56 = .ok (.getfield 73, 3) := dk_180 0 73 (dk_at dksX1_fitsOne_2 16 rfl rfl)
theorem dX1_fitsOne_59 : decode cX1_fitsOne 59 = .ok (.iload_n 1, 1) := dk_27 (dk_at dksX1_fitsOne_2 19 rfl rfl)
theorem dX1_fitsOne_60 : decode cX1_fitsOne 60 = .ok (.laload, 1) := dk_47 (dk_at dksX1_fitsOne_2 20 rfl rfl)
theorem dX1_fitsOne_61 : decode cX1_fitsOne 61 = .ok (.lcmp, 1) := dk_148 (dk_at dksX1_fitsOne_2 21 rfl rfl)
theorem dX1_fitsOne_62 : decode cX1_fitsOne 62 = .ok (.ifCond .ne 7, 3) := dk_154 0 7 (dk_at dksX1_fitsOne_3 0 rfl rfl)
theorem dX1_fitsOne_65 : decode cX1_fitsOne 65 = .ok (.iconst 1, 1) := dk_4 (dk_at dksX1_fitsOne_3 3 rfl rfl)
theorem dX1_fitsOne_66 : decode cX1_fitsOne 66 = .ok (.goto 4, 3) := dk_167 0 4 (dk_at dksX1_fitsOne_3 4 rfl rfl)
theorem dX1_fitsOne_69 : decode cX1_fitsOne 69 = .ok (.iconst 0, 1) := dk_3 (dk_at dksX1_fitsOne_3 7 rfl rfl)
theorem dX1_fitsOne_70 : decode cX1_fitsOne 70 = .ok (.ireturn, 1) := dk_172 (dk_at dksX1_fitsOne_3 8 rfl rfl)
theorem dX1_fitsOne_71 : decode cX1_fitsOne 71 = .ok (.aload_n 0, 1) := dk_42 (dk_at dksX1_fitsOne_3 9 rfl rfl)
theorem dX1_fitsOne_72 : decode cX1_fitsOne 72 = .ok (.getfield 88, 3) := dk_180 0 88 (dk_at dksX1_fitsOne_3 10 rfl rfl)
theorem dX1_fitsOne_75 : decode cX1_fitsOne 75 = .ok (.iload_n 2, 1) := dk_28 (dk_at dksX1_fitsOne_3 13 rfl rfl)
theorem dX1_fitsOne_76 : decode cX1_fitsOne 76 = .ok (.iaload, 1) := dk_46 (dk_at dksX1_fitsOne_3 14 rfl rfl)
theorem dX1_fitsOne_77 : decode cX1_fitsOne 77 = .ok (.iconst 1, 1) := dk_4 (dk_at dksX1_fitsOne_3 15 rfl rfl)
theorem dX1_fitsOne_78 : decode cX1_fitsOne 78 = .ok (.if_icmp .ne 23, 3) := dk_160 0 23 (dk_at dksX1_fitsOne_3 16 rfl rfl)
theorem dX1_fitsOne_81 : decode cX1_fitsOne 81 = .ok (.aload_n 0, 1) := dk_42 (dk_at dksX1_fitsOne_3 19 rfl rfl)
theorem dX1_fitsOne_82 : decode cX1_fitsOne 82 = .ok (.getfield 91, 3) := dk_180 0 91 (dk_at dksX1_fitsOne_3 20 rfl rfl)
theorem dX1_fitsOne_85 : decode cX1_fitsOne 85 = .ok (.iload_n 2, 1) := dk_28 (dk_at dksX1_fitsOne_3 23 rfl rfl)
theorem dX1_fitsOne_86 : decode cX1_fitsOne 86 = .ok (.laload, 1) := dk_47 (dk_at dksX1_fitsOne_4 0 rfl rfl)
theorem dX1_fitsOne_87 : decode cX1_fitsOne 87 = .ok (.aload_n 0, 1) := dk_42 (dk_at dksX1_fitsOne_4 1 rfl rfl)
theorem dX1_fitsOne_88 : decode cX1_fitsOne 88 = .ok (.getfield 73, 3) := dk_180 0 73 (dk_at dksX1_fitsOne_4 2 rfl rfl)
theorem dX1_fitsOne_91 : decode cX1_fitsOne 91 = .ok (.iload_n 1, 1) := dk_27 (dk_at dksX1_fitsOne_4 5 rfl rfl)
theorem dX1_fitsOne_92 : decode cX1_fitsOne 92 = .ok (.laload, 1) := dk_47 (dk_at dksX1_fitsOne_4 6 rfl rfl)
theorem dX1_fitsOne_93 : decode cX1_fitsOne 93 = .ok (.lcmp, 1) := dk_148 (dk_at dksX1_fitsOne_4 7 rfl rfl)
theorem dX1_fitsOne_94 : decode cX1_fitsOne 94 = .ok (.ifCond .ne 7, 3) := dk_154 0 7 (dk_at dksX1_fitsOne_4 8 rfl rfl)
theorem dX1_fitsOne_97 : decode cX1_fitsOne 97 = .ok (.iconst 1, 1) := dk_4 (dk_at dksX1_fitsOne_4 11 rfl rfl)
theorem dX1_fitsOne_98 : decode cX1_fitsOne 98 = .ok (.goto 4, 3) := dk_167 0 4 (dk_at dksX1_fitsOne_4 12 rfl rfl)
theorem dX1_fitsOne_101 : decode cX1_fitsOne 101 = .ok (.iconst 0, 1) := dk_3 (dk_at dksX1_fitsOne_4 15 rfl rfl)
theorem dX1_fitsOne_102 : decode cX1_fitsOne 102 = .ok (.ireturn, 1) := dk_172 (dk_at dksX1_fitsOne_4 16 rfl rfl)
theorem dX1_fitsOne_103 : decode cX1_fitsOne 103 = .ok (.iconst 1, 1) := dk_4 (dk_at dksX1_fitsOne_4 17 rfl rfl)
theorem dX1_fitsOne_104 : decode cX1_fitsOne 104 = .ok (.ireturn, 1) := dk_172 (dk_at dksX1_fitsOne_4 18 rfl rfl)
theorem dX1_fitsOne_105 : decode cX1_fitsOne 105 = .ok (.aload_n 0, 1) := dk_42 (dk_at dksX1_fitsOne_4 19 rfl rfl)
theorem dX1_fitsOne_106 : decode cX1_fitsOne 106 = .ok (.getfield 88, 3) := dk_180 0 88 (dk_at dksX1_fitsOne_4 20 rfl rfl)
theorem dX1_fitsOne_109 : decode cX1_fitsOne 109 = .ok (.iload_n 2, 1) := dk_28 (dk_at dksX1_fitsOne_4 23 rfl rfl)
theorem dX1_fitsOne_110 : decode cX1_fitsOne 110 = .ok (.iaload, 1) := dk_46 (dk_at dksX1_fitsOne_5 0 rfl rfl)
theorem dX1_fitsOne_111 : decode cX1_fitsOne 111 = .ok (.iconst 2, 1) := dk_5 (dk_at dksX1_fitsOne_5 1 rfl rfl)
theorem dX1_fitsOne_112 : decode cX1_fitsOne 112 = .ok (.if_icmp .ge 5, 3) := dk_162 0 5 (dk_at dksX1_fitsOne_5 2 rfl rfl)
theorem dX1_fitsOne_115 : decode cX1_fitsOne 115 = .ok (.iconst 0, 1) := dk_3 (dk_at dksX1_fitsOne_5 5 rfl rfl)
theorem dX1_fitsOne_116 : decode cX1_fitsOne 116 = .ok (.ireturn, 1) := dk_172 (dk_at dksX1_fitsOne_5 6 rfl rfl)
theorem dX1_fitsOne_117 : decode cX1_fitsOne 117 = .ok (.aload_n 0, 1) := dk_42 (dk_at dksX1_fitsOne_5 7 rfl rfl)
theorem dX1_fitsOne_118 : decode cX1_fitsOne 118 = .ok (.getfield 82, 3) := dk_180 0 82 (dk_at dksX1_fitsOne_5 8 rfl rfl)
theorem dX1_fitsOne_121 : decode cX1_fitsOne 121 = .ok (.iload_n 1, 1) := dk_27 (dk_at dksX1_fitsOne_5 11 rfl rfl)
theorem dX1_fitsOne_122 : decode cX1_fitsOne 122 = .ok (.iaload, 1) := dk_46 (dk_at dksX1_fitsOne_5 12 rfl rfl)
theorem dX1_fitsOne_123 : decode cX1_fitsOne 123 = .ok (.ifCond .le 15, 3) := dk_158 0 15 (dk_at dksX1_fitsOne_5 13 rfl rfl)
theorem dX1_fitsOne_126 : decode cX1_fitsOne 126 = .ok (.aload_n 0, 1) := dk_42 (dk_at dksX1_fitsOne_5 16 rfl rfl)
theorem dX1_fitsOne_127 : decode cX1_fitsOne 127 = .ok (.iload_n 1, 1) := dk_27 (dk_at dksX1_fitsOne_5 17 rfl rfl)
theorem dX1_fitsOne_128 : decode cX1_fitsOne 128 = .ok (.invokevirtual 358, 3) := dk_182 1 102 (dk_at dksX1_fitsOne_5 18 rfl rfl)
theorem dX1_fitsOne_131 : decode cX1_fitsOne 131 = .ok (.ifCond .eq 7, 3) := dk_153 0 7 (dk_at dksX1_fitsOne_5 21 rfl rfl)
theorem dX1_fitsOne_134 : decode cX1_fitsOne 134 = .ok (.iconst 1, 1) := dk_4 (dk_at dksX1_fitsOne_6 0 rfl rfl)
theorem dX1_fitsOne_135 : decode cX1_fitsOne 135 = .ok (.goto 4, 3) := dk_167 0 4 (dk_at dksX1_fitsOne_6 1 rfl rfl)
theorem dX1_fitsOne_138 : decode cX1_fitsOne 138 = .ok (.iconst 0, 1) := dk_3 (dk_at dksX1_fitsOne_6 4 rfl rfl)
theorem dX1_fitsOne_139 : decode cX1_fitsOne 139 = .ok (.istore_n 3, 1) := dk_62 (dk_at dksX1_fitsOne_6 5 rfl rfl)
theorem dX1_fitsOne_140 : decode cX1_fitsOne 140 = .ok (.iload_n 3, 1) := dk_29 (dk_at dksX1_fitsOne_6 6 rfl rfl)
theorem dX1_fitsOne_141 : decode cX1_fitsOne 141 = .ok (.ifCond .eq 28, 3) := dk_153 0 28 (dk_at dksX1_fitsOne_6 7 rfl rfl)
theorem dX1_fitsOne_144 : decode cX1_fitsOne 144 = .ok (.aload_n 0, 1) := dk_42 (dk_at dksX1_fitsOne_6 10 rfl rfl)
theorem dX1_fitsOne_145 : decode cX1_fitsOne 145 = .ok (.getfield 106, 3) := dk_180 0 106 (dk_at dksX1_fitsOne_6 11 rfl rfl)
theorem dX1_fitsOne_148 : decode cX1_fitsOne 148 = .ok (.iload_n 2, 1) := dk_28 (dk_at dksX1_fitsOne_6 14 rfl rfl)
theorem dX1_fitsOne_149 : decode cX1_fitsOne 149 = .ok (.iaload, 1) := dk_46 (dk_at dksX1_fitsOne_6 15 rfl rfl)
theorem dX1_fitsOne_150 : decode cX1_fitsOne 150 = .ok (.aload_n 0, 1) := dk_42 (dk_at dksX1_fitsOne_6 16 rfl rfl)
theorem dX1_fitsOne_151 : decode cX1_fitsOne 151 = .ok (.getfield 82, 3) := dk_180 0 82 (dk_at dksX1_fitsOne_6 17 rfl rfl)
theorem dX1_fitsOne_154 : decode cX1_fitsOne 154 = .ok (.iload_n 1, 1) := dk_27 (dk_at dksX1_fitsOne_6 20 rfl rfl)
theorem dX1_fitsOne_155 : decode cX1_fitsOne 155 = .ok (.iaload, 1) := dk_46 (dk_at dksX1_fitsOne_6 21 rfl rfl)
theorem dX1_fitsOne_156 : decode cX1_fitsOne 156 = .ok (.iconst 1, 1) := dk_4 (dk_at dksX1_fitsOne_6 22 rfl rfl)
theorem dX1_fitsOne_157 : decode cX1_fitsOne 157 = .ok (.isub, 1) := dk_100 (dk_at dksX1_fitsOne_6 23 rfl rfl)
theorem dX1_fitsOne_158 : decode cX1_fitsOne 158 = .ok (.if_icmp .lt 7, 3) := dk_161 0 7 (dk_at dksX1_fitsOne_7 0 rfl rfl)
theorem dX1_fitsOne_161 : decode cX1_fitsOne 161 = .ok (.iconst 1, 1) := dk_4 (dk_at dksX1_fitsOne_7 3 rfl rfl)
theorem dX1_fitsOne_162 : decode cX1_fitsOne 162 = .ok (.goto 27, 3) := dk_167 0 27 (dk_at dksX1_fitsOne_7 4 rfl rfl)
theorem dX1_fitsOne_165 : decode cX1_fitsOne 165 = .ok (.iconst 0, 1) := dk_3 (dk_at dksX1_fitsOne_7 7 rfl rfl)
theorem dX1_fitsOne_166 : decode cX1_fitsOne 166 = .ok (.goto 23, 3) := dk_167 0 23 (dk_at dksX1_fitsOne_7 8 rfl rfl)
theorem dX1_fitsOne_169 : decode cX1_fitsOne 169 = .ok (.aload_n 0, 1) := dk_42 (dk_at dksX1_fitsOne_7 11 rfl rfl)
theorem dX1_fitsOne_170 : decode cX1_fitsOne 170 = .ok (.getfield 106, 3) := dk_180 0 106 (dk_at dksX1_fitsOne_7 12 rfl rfl)
theorem dX1_fitsOne_173 : decode cX1_fitsOne 173 = .ok (.iload_n 2, 1) := dk_28 (dk_at dksX1_fitsOne_7 15 rfl rfl)
theorem dX1_fitsOne_174 : decode cX1_fitsOne 174 = .ok (.iaload, 1) := dk_46 (dk_at dksX1_fitsOne_7 16 rfl rfl)
theorem dX1_fitsOne_175 : decode cX1_fitsOne 175 = .ok (.aload_n 0, 1) := dk_42 (dk_at dksX1_fitsOne_7 17 rfl rfl)
theorem dX1_fitsOne_176 : decode cX1_fitsOne 176 = .ok (.getfield 82, 3) := dk_180 0 82 (dk_at dksX1_fitsOne_7 18 rfl rfl)
theorem dX1_fitsOne_179 : decode cX1_fitsOne 179 = .ok (.iload_n 1, 1) := dk_27 (dk_at dksX1_fitsOne_7 21 rfl rfl)
theorem dX1_fitsOne_180 : decode cX1_fitsOne 180 = .ok (.iaload, 1) := dk_46 (dk_at dksX1_fitsOne_7 22 rfl rfl)
theorem dX1_fitsOne_181 : decode cX1_fitsOne 181 = .ok (.if_icmp .ne 7, 3) := dk_160 0 7 (dk_at dksX1_fitsOne_8 0 rfl rfl)
theorem dX1_fitsOne_184 : decode cX1_fitsOne 184 = .ok (.iconst 1, 1) := dk_4 (dk_at dksX1_fitsOne_8 3 rfl rfl)
theorem dX1_fitsOne_185 : decode cX1_fitsOne 185 = .ok (.goto 4, 3) := dk_167 0 4 (dk_at dksX1_fitsOne_8 4 rfl rfl)
theorem dX1_fitsOne_188 : decode cX1_fitsOne 188 = .ok (.iconst 0, 1) := dk_3 (dk_at dksX1_fitsOne_8 7 rfl rfl)
theorem dX1_fitsOne_189 : decode cX1_fitsOne 189 = .ok (.ireturn, 1) := dk_172 (dk_at dksX1_fitsOne_8 8 rfl rfl)
abbrev cX1_ready : ByteArray := prog_20_method_45_code
def yX1_ready : MethodName := ⟨RX1, "ready", "(I)I"⟩
def dkwX1_ready_0 : List UInt8 := [42, 180, 1, 78, 153, 0, 11, 42, 27, 182, 1, 126, 167, 0, 5, 16, 253, 172]
abbrev dktX1_ready_0 : List UInt8 := dkwX1_ready_0 ++ []
theorem dksX1_ready_0 : cX1_ready.data.toList.drop 0 = dktX1_ready_0 := by decide +kernel
theorem dX1_ready_0 : decode cX1_ready 0 = .ok (.aload_n 0, 1) := dk_42 (dk_at dksX1_ready_0 0 rfl rfl)
theorem dX1_ready_1 : decode cX1_ready 1 = .ok (.getfield 334, 3) := dk_180 1 78 (dk_at dksX1_ready_0 1 rfl rfl)
theorem dX1_ready_4 : decode cX1_ready 4 = .ok (.ifCond .eq 11, 3) := dk_153 0 11 (dk_at dksX1_ready_0 4 rfl rfl)
theorem dX1_ready_7 : decode cX1_ready 7 = .ok (.aload_n 0, 1) := dk_42 (dk_at dksX1_ready_0 7 rfl rfl)
theorem dX1_ready_8 : decode cX1_ready 8 = .ok (.iload_n 1, 1) := dk_27 (dk_at dksX1_ready_0 8 rfl rfl)
theorem dX1_ready_9 : decode cX1_ready 9 = .ok (.invokevirtual 382, 3) := dk_182 1 126 (dk_at dksX1_ready_0 9 rfl rfl)
theorem dX1_ready_12 : decode cX1_ready 12 = .ok (.goto 5, 3) := dk_167 0 5 (dk_at dksX1_ready_0 12 rfl rfl)
theorem dX1_ready_15 : decode cX1_ready 15 = .ok (.bipush (-3), 2) := dk_16 253 (dk_at dksX1_ready_0 15 rfl rfl)
theorem dX1_ready_17 : decode cX1_ready 17 = .ok (.ireturn, 1) := dk_172 (dk_at dksX1_ready_0 17 rfl rfl)
abbrev cX1_readyAt : ByteArray := prog_20_method_44_code
def yX1_readyAt : MethodName := ⟨RX1, "readyAt", "(I)I"⟩
def dkwX1_readyAt_1 : List UInt8 := [28, 154, 0, 5, 29, 172, 132, 2, 255, 132, 3, 1, 167, 255, 224, 16, 247, 172]
abbrev dktX1_readyAt_1 : List UInt8 := dkwX1_readyAt_1 ++ []
def dkwX1_readyAt_0 : List UInt8 := [27, 61, 3, 62, 29, 42, 180, 1, 50, 162, 0, 30, 27, 155, 0, 26, 42, 29, 182, 1, 123, 153, 0, 12]
abbrev dktX1_readyAt_0 : List UInt8 := dkwX1_readyAt_0 ++ dktX1_readyAt_1
theorem dksX1_readyAt_0 : cX1_readyAt.data.toList.drop 0 = dktX1_readyAt_0 := by decide +kernel
theorem dksX1_readyAt_1 : cX1_readyAt.data.toList.drop 24 = dktX1_readyAt_1 := dk_seg dksX1_readyAt_0 24 rfl rfl
theorem dX1_readyAt_0 : decode cX1_readyAt 0 = .ok (.iload_n 1, 1) := dk_27 (dk_at dksX1_readyAt_0 0 rfl rfl)
theorem dX1_readyAt_1 : decode cX1_readyAt 1 = .ok (.istore_n 2, 1) := dk_61 (dk_at dksX1_readyAt_0 1 rfl rfl)
theorem dX1_readyAt_2 : decode cX1_readyAt 2 = .ok (.iconst 0, 1) := dk_3 (dk_at dksX1_readyAt_0 2 rfl rfl)
theorem dX1_readyAt_3 : decode cX1_readyAt 3 = .ok (.istore_n 3, 1) := dk_62 (dk_at dksX1_readyAt_0 3 rfl rfl)
theorem dX1_readyAt_4 : decode cX1_readyAt 4 = .ok (.iload_n 3, 1) := dk_29 (dk_at dksX1_readyAt_0 4 rfl rfl)
theorem dX1_readyAt_5 : decode cX1_readyAt 5 = .ok (.aload_n 0, 1) := dk_42 (dk_at dksX1_readyAt_0 5 rfl rfl)
theorem dX1_readyAt_6 : decode cX1_readyAt 6 = .ok (.getfield 306, 3) := dk_180 1 50 (dk_at dksX1_readyAt_0 6 rfl rfl)
theorem dX1_readyAt_9 : decode cX1_readyAt 9 = .ok (.if_icmp .ge 30, 3) := dk_162 0 30 (dk_at dksX1_readyAt_0 9 rfl rfl)
theorem dX1_readyAt_12 : decode cX1_readyAt 12 = .ok (.iload_n 1, 1) := dk_27 (dk_at dksX1_readyAt_0 12 rfl rfl)
theorem dX1_readyAt_13 : decode cX1_readyAt 13 = .ok (.ifCond .lt 26, 3) := dk_155 0 26 (dk_at dksX1_readyAt_0 13 rfl rfl)
theorem dX1_readyAt_16 : decode cX1_readyAt 16 = .ok (.aload_n 0, 1) := dk_42 (dk_at dksX1_readyAt_0 16 rfl rfl)
theorem dX1_readyAt_17 : decode cX1_readyAt 17 = .ok (.iload_n 3, 1) := dk_29 (dk_at dksX1_readyAt_0 17 rfl rfl)
theorem dX1_readyAt_18 : decode cX1_readyAt 18 = .ok (.invokevirtual 379, 3) := dk_182 1 123 (dk_at dksX1_readyAt_0 18 rfl rfl)
theorem dX1_readyAt_21 : decode cX1_readyAt 21 = .ok (.ifCond .eq 12, 3) := dk_153 0 12 (dk_at dksX1_readyAt_0 21 rfl rfl)
theorem dX1_readyAt_24 : decode cX1_readyAt 24 = .ok (.iload_n 2, 1) := dk_28 (dk_at dksX1_readyAt_1 0 rfl rfl)
theorem dX1_readyAt_25 : decode cX1_readyAt 25 = .ok (.ifCond .ne 5, 3) := dk_154 0 5 (dk_at dksX1_readyAt_1 1 rfl rfl)
theorem dX1_readyAt_28 : decode cX1_readyAt 28 = .ok (.iload_n 3, 1) := dk_29 (dk_at dksX1_readyAt_1 4 rfl rfl)
theorem dX1_readyAt_29 : decode cX1_readyAt 29 = .ok (.ireturn, 1) := dk_172 (dk_at dksX1_readyAt_1 5 rfl rfl)
theorem dX1_readyAt_30 : decode cX1_readyAt 30 = .ok (.iinc 2 (-1), 3) := dk_132 2 255 (dk_at dksX1_readyAt_1 6 rfl rfl)
theorem dX1_readyAt_33 : decode cX1_readyAt 33 = .ok (.iinc 3 1, 3) := dk_132 3 1 (dk_at dksX1_readyAt_1 9 rfl rfl)
theorem dX1_readyAt_36 : decode cX1_readyAt 36 = .ok (.goto (-32), 3) := dk_167 255 224 (dk_at dksX1_readyAt_1 12 rfl rfl)
theorem dX1_readyAt_39 : decode cX1_readyAt 39 = .ok (.bipush (-9), 2) := dk_16 247 (dk_at dksX1_readyAt_1 15 rfl rfl)
theorem dX1_readyAt_41 : decode cX1_readyAt 41 = .ok (.ireturn, 1) := dk_172 (dk_at dksX1_readyAt_1 17 rfl rfl)
abbrev cX1_unfold : ByteArray := prog_20_method_55_code
def yX1_unfold : MethodName := ⟨RX1, "unfold", "(I)I"⟩
def dkwX1_unfold_1 : List UInt8 := [182, 1, 123, 153, 0, 11, 42, 27, 182, 1, 161, 167, 0, 5, 16, 253, 172]
abbrev dktX1_unfold_1 : List UInt8 := dkwX1_unfold_1 ++ []
def dkwX1_unfold_0 : List UInt8 := [42, 180, 1, 78, 154, 0, 6, 16, 253, 172, 42, 27, 182, 1, 118, 154, 0, 5, 2, 172, 42, 27]
abbrev dktX1_unfold_0 : List UInt8 := dkwX1_unfold_0 ++ dktX1_unfold_1
theorem dksX1_unfold_0 : cX1_unfold.data.toList.drop 0 = dktX1_unfold_0 := by decide +kernel
theorem dksX1_unfold_1 : cX1_unfold.data.toList.drop 22 = dktX1_unfold_1 := dk_seg dksX1_unfold_0 22 rfl rfl
theorem dX1_unfold_0 : decode cX1_unfold 0 = .ok (.aload_n 0, 1) := dk_42 (dk_at dksX1_unfold_0 0 rfl rfl)
theorem dX1_unfold_1 : decode cX1_unfold 1 = .ok (.getfield 334, 3) := dk_180 1 78 (dk_at dksX1_unfold_0 1 rfl rfl)
theorem dX1_unfold_4 : decode cX1_unfold 4 = .ok (.ifCond .ne 6, 3) := dk_154 0 6 (dk_at dksX1_unfold_0 4 rfl rfl)
theorem dX1_unfold_7 : decode cX1_unfold 7 = .ok (.bipush (-3), 2) := dk_16 253 (dk_at dksX1_unfold_0 7 rfl rfl)
theorem dX1_unfold_9 : decode cX1_unfold 9 = .ok (.ireturn, 1) := dk_172 (dk_at dksX1_unfold_0 9 rfl rfl)
theorem dX1_unfold_10 : decode cX1_unfold 10 = .ok (.aload_n 0, 1) := dk_42 (dk_at dksX1_unfold_0 10 rfl rfl)
theorem dX1_unfold_11 : decode cX1_unfold 11 = .ok (.iload_n 1, 1) := dk_27 (dk_at dksX1_unfold_0 11 rfl rfl)
theorem dX1_unfold_12 : decode cX1_unfold 12 = .ok (.invokevirtual 374, 3) := dk_182 1 118 (dk_at dksX1_unfold_0 12 rfl rfl)
theorem dX1_unfold_15 : decode cX1_unfold 15 = .ok (.ifCond .ne 5, 3) := dk_154 0 5 (dk_at dksX1_unfold_0 15 rfl rfl)
theorem dX1_unfold_18 : decode cX1_unfold 18 = .ok (.iconst (-1), 1) := dk_2 (dk_at dksX1_unfold_0 18 rfl rfl)
theorem dX1_unfold_19 : decode cX1_unfold 19 = .ok (.ireturn, 1) := dk_172 (dk_at dksX1_unfold_0 19 rfl rfl)
theorem dX1_unfold_20 : decode cX1_unfold 20 = .ok (.aload_n 0, 1) := dk_42 (dk_at dksX1_unfold_0 20 rfl rfl)
theorem dX1_unfold_21 : decode cX1_unfold 21 = .ok (.iload_n 1, 1) := dk_27 (dk_at dksX1_unfold_0 21 rfl rfl)
theorem dX1_unfold_22 : decode cX1_unfold 22 = .ok (.invokevirtual 379, 3) := dk_182 1 123 (dk_at dksX1_unfold_1 0 rfl rfl)
theorem dX1_unfold_25 : decode cX1_unfold 25 = .ok (.ifCond .eq 11, 3) := dk_153 0 11 (dk_at dksX1_unfold_1 3 rfl rfl)
theorem dX1_unfold_28 : decode cX1_unfold 28 = .ok (.aload_n 0, 1) := dk_42 (dk_at dksX1_unfold_1 6 rfl rfl)
theorem dX1_unfold_29 : decode cX1_unfold 29 = .ok (.iload_n 1, 1) := dk_27 (dk_at dksX1_unfold_1 7 rfl rfl)
theorem dX1_unfold_30 : decode cX1_unfold 30 = .ok (.invokevirtual 417, 3) := dk_182 1 161 (dk_at dksX1_unfold_1 8 rfl rfl)
theorem dX1_unfold_33 : decode cX1_unfold 33 = .ok (.goto 5, 3) := dk_167 0 5 (dk_at dksX1_unfold_1 11 rfl rfl)
theorem dX1_unfold_36 : decode cX1_unfold 36 = .ok (.bipush (-3), 2) := dk_16 253 (dk_at dksX1_unfold_1 14 rfl rfl)
theorem dX1_unfold_38 : decode cX1_unfold 38 = .ok (.ireturn, 1) := dk_172 (dk_at dksX1_unfold_1 16 rfl rfl)
abbrev cX1_step : ByteArray := prog_20_method_54_code
def yX1_step : MethodName := ⟨RX1, "step", "(I)I"⟩
def dkwX1_step_6 : List UInt8 := [27, 4, 96, 46, 79, 42, 27, 182, 1, 158, 28, 172]
abbrev dktX1_step_6 : List UInt8 := dkwX1_step_6 ++ []
def dkwX1_step_5 : List UInt8 := [180, 1, 69, 42, 180, 0, 97, 27, 4, 96, 46, 79, 42, 180, 0, 118, 42, 180, 1, 69, 42, 180, 0, 100]
abbrev dktX1_step_5 : List UInt8 := dkwX1_step_5 ++ dktX1_step_6
def dkwX1_step_4 : List UInt8 := [180, 1, 129, 96, 181, 1, 152, 42, 180, 0, 112, 42, 180, 1, 69, 28, 79, 42, 180, 0, 115, 42]
abbrev dktX1_step_4 : List UInt8 := dkwX1_step_4 ++ dktX1_step_5
def dkwX1_step_3 : List UInt8 := [16, 252, 172, 42, 27, 182, 1, 155, 42, 89, 180, 1, 69, 4, 96, 181, 1, 69, 42, 89, 180, 1, 152, 42]
abbrev dktX1_step_3 : List UInt8 := dkwX1_step_3 ++ dktX1_step_4
def dkwX1_step_2 : List UInt8 := [180, 1, 69, 17, 1, 44, 159, 0, 18, 42, 180, 1, 152, 42, 180, 1, 129, 96, 17, 117, 48, 164, 0, 6]
abbrev dktX1_step_2 : List UInt8 := dkwX1_step_2 ++ dktX1_step_3
def dkwX1_step_1 : List UInt8 := [180, 1, 50, 42, 180, 0, 103, 27, 46, 100, 42, 180, 1, 129, 96, 17, 1, 244, 163, 0, 28, 42]
abbrev dktX1_step_1 : List UInt8 := dkwX1_step_1 ++ dktX1_step_2
def dkwX1_step_0 : List UInt8 := [42, 27, 182, 1, 115, 61, 42, 28, 27, 182, 1, 149, 42, 180, 1, 129, 17, 1, 244, 163, 0, 50, 42]
abbrev dktX1_step_0 : List UInt8 := dkwX1_step_0 ++ dktX1_step_1
theorem dksX1_step_0 : cX1_step.data.toList.drop 0 = dktX1_step_0 := by decide +kernel
theorem dksX1_step_1 : cX1_step.data.toList.drop 23 = dktX1_step_1 := dk_seg dksX1_step_0 23 rfl rfl
theorem dksX1_step_2 : cX1_step.data.toList.drop 45 = dktX1_step_2 := dk_seg dksX1_step_1 22 rfl rfl
theorem dksX1_step_3 : cX1_step.data.toList.drop 69 = dktX1_step_3 := dk_seg dksX1_step_2 24 rfl rfl
theorem dksX1_step_4 : cX1_step.data.toList.drop 93 = dktX1_step_4 := dk_seg dksX1_step_3 24 rfl rfl
theorem dksX1_step_5 : cX1_step.data.toList.drop 115 = dktX1_step_5 := dk_seg dksX1_step_4 22 rfl rfl
theorem dksX1_step_6 : cX1_step.data.toList.drop 139 = dktX1_step_6 := dk_seg dksX1_step_5 24 rfl rfl
theorem dX1_step_0 : decode cX1_step 0 = .ok (.aload_n 0, 1) := dk_42 (dk_at dksX1_step_0 0 rfl rfl)
theorem dX1_step_1 : decode cX1_step 1 = .ok (.iload_n 1, 1) := dk_27 (dk_at dksX1_step_0 1 rfl rfl)
theorem dX1_step_2 : decode cX1_step 2 = .ok (.invokevirtual 371, 3) := dk_182 1 115 (dk_at dksX1_step_0 2 rfl rfl)
theorem dX1_step_5 : decode cX1_step 5 = .ok (.istore_n 2, 1) := dk_61 (dk_at dksX1_step_0 5 rfl rfl)
theorem dX1_step_6 : decode cX1_step 6 = .ok (.aload_n 0, 1) := dk_42 (dk_at dksX1_step_0 6 rfl rfl)
theorem dX1_step_7 : decode cX1_step 7 = .ok (.iload_n 2, 1) := dk_28 (dk_at dksX1_step_0 7 rfl rfl)
theorem dX1_step_8 : decode cX1_step 8 = .ok (.iload_n 1, 1) := dk_27 (dk_at dksX1_step_0 8 rfl rfl)
theorem dX1_step_9 : decode cX1_step 9 = .ok (.invokevirtual 405, 3) := dk_182 1 149 (dk_at dksX1_step_0 9 rfl rfl)
theorem dX1_step_12 : decode cX1_step 12 = .ok (.aload_n 0, 1) := dk_42 (dk_at dksX1_step_0 12 rfl rfl)
theorem dX1_step_13 : decode cX1_step 13 = .ok (.getfield 385, 3) := dk_180 1 129 (dk_at dksX1_step_0 13 rfl rfl)
theorem dX1_step_16 : decode cX1_step 16 = .ok (.sipush 500, 3) := dk_17 1 244 (dk_at dksX1_step_0 16 rfl rfl)
theorem dX1_step_19 : decode cX1_step 19 = .ok (.if_icmp .gt 50, 3) := dk_163 0 50 (dk_at dksX1_step_0 19 rfl rfl)
theorem dX1_step_22 : decode cX1_step 22 = .ok (.aload_n 0, 1) := dk_42 (dk_at dksX1_step_0 22 rfl rfl)
theorem dX1_step_23 : decode cX1_step 23 = .ok (.getfield 306, 3) := dk_180 1 50 (dk_at dksX1_step_1 0 rfl rfl)
theorem dX1_step_26 : decode cX1_step 26 = .ok (.aload_n 0, 1) := dk_42 (dk_at dksX1_step_1 3 rfl rfl)
theorem dX1_step_27 : decode cX1_step 27 = .ok (.getfield 103, 3) := dk_180 0 103 (dk_at dksX1_step_1 4 rfl rfl)
theorem dX1_step_30 : decode cX1_step 30 = .ok (.iload_n 1, 1) := dk_27 (dk_at dksX1_step_1 7 rfl rfl)
theorem dX1_step_31 : decode cX1_step 31 = .ok (.iaload, 1) := dk_46 (dk_at dksX1_step_1 8 rfl rfl)
theorem dX1_step_32 : decode cX1_step 32 = .ok (.isub, 1) := dk_100 (dk_at dksX1_step_1 9 rfl rfl)
theorem dX1_step_33 : decode cX1_step 33 = .ok (.aload_n 0, 1) := dk_42 (dk_at dksX1_step_1 10 rfl rfl)
theorem dX1_step_34 : decode cX1_step 34 = .ok (.getfield 385, 3) := dk_180 1 129 (dk_at dksX1_step_1 11 rfl rfl)
theorem dX1_step_37 : decode cX1_step 37 = .ok (.iadd, 1) := dk_96 (dk_at dksX1_step_1 14 rfl rfl)
theorem dX1_step_38 : decode cX1_step 38 = .ok (.sipush 500, 3) := dk_17 1 244 (dk_at dksX1_step_1 15 rfl rfl)
theorem dX1_step_41 : decode cX1_step 41 = .ok (.if_icmp .gt 28, 3) := dk_163 0 28 (dk_at dksX1_step_1 18 rfl rfl)
theorem dX1_step_44 : decode cX1_step 44 = .ok (.aload_n 0, 1) := dk_42 (dk_at dksX1_step_1 21 rfl rfl)
theorem dX1_step_45 : decode cX1_step 45 = .ok (.getfield 325, 3) := dk_180 1 69 (dk_at dksX1_step_2 0 rfl rfl)
theorem dX1_step_48 : decode cX1_step 48 = .ok (.sipush 300, 3) := dk_17 1 44 (dk_at dksX1_step_2 3 rfl rfl)
theorem dX1_step_51 : decode cX1_step 51 = .ok (.if_icmp .eq 18, 3) := dk_159 0 18 (dk_at dksX1_step_2 6 rfl rfl)
theorem dX1_step_54 : decode cX1_step 54 = .ok (.aload_n 0, 1) := dk_42 (dk_at dksX1_step_2 9 rfl rfl)
theorem dX1_step_55 : decode cX1_step 55 = .ok (.getfield 408, 3) := dk_180 1 152 (dk_at dksX1_step_2 10 rfl rfl)
theorem dX1_step_58 : decode cX1_step 58 = .ok (.aload_n 0, 1) := dk_42 (dk_at dksX1_step_2 13 rfl rfl)
theorem dX1_step_59 : decode cX1_step 59 = .ok (.getfield 385, 3) := dk_180 1 129 (dk_at dksX1_step_2 14 rfl rfl)
theorem dX1_step_62 : decode cX1_step 62 = .ok (.iadd, 1) := dk_96 (dk_at dksX1_step_2 17 rfl rfl)
theorem dX1_step_63 : decode cX1_step 63 = .ok (.sipush 30000, 3) := dk_17 117 48 (dk_at dksX1_step_2 18 rfl rfl)
theorem dX1_step_66 : decode cX1_step 66 = .ok (.if_icmp .le 6, 3) := dk_164 0 6 (dk_at dksX1_step_2 21 rfl rfl)
theorem dX1_step_69 : decode cX1_step 69 = .ok (.bipush (-4), 2) := dk_16 252 (dk_at dksX1_step_3 0 rfl rfl)
theorem dX1_step_71 : decode cX1_step 71 = .ok (.ireturn, 1) := dk_172 (dk_at dksX1_step_3 2 rfl rfl)
theorem dX1_step_72 : decode cX1_step 72 = .ok (.aload_n 0, 1) := dk_42 (dk_at dksX1_step_3 3 rfl rfl)
theorem dX1_step_73 : decode cX1_step 73 = .ok (.iload_n 1, 1) := dk_27 (dk_at dksX1_step_3 4 rfl rfl)
theorem dX1_step_74 : decode cX1_step 74 = .ok (.invokevirtual 411, 3) := dk_182 1 155 (dk_at dksX1_step_3 5 rfl rfl)
theorem dX1_step_77 : decode cX1_step 77 = .ok (.aload_n 0, 1) := dk_42 (dk_at dksX1_step_3 8 rfl rfl)
theorem dX1_step_78 : decode cX1_step 78 = .ok (.dup, 1) := dk_89 (dk_at dksX1_step_3 9 rfl rfl)
theorem dX1_step_79 : decode cX1_step 79 = .ok (.getfield 325, 3) := dk_180 1 69 (dk_at dksX1_step_3 10 rfl rfl)
theorem dX1_step_82 : decode cX1_step 82 = .ok (.iconst 1, 1) := dk_4 (dk_at dksX1_step_3 13 rfl rfl)
theorem dX1_step_83 : decode cX1_step 83 = .ok (.iadd, 1) := dk_96 (dk_at dksX1_step_3 14 rfl rfl)
theorem dX1_step_84 : decode cX1_step 84 = .ok (.putfield 325, 3) := dk_181 1 69 (dk_at dksX1_step_3 15 rfl rfl)
theorem dX1_step_87 : decode cX1_step 87 = .ok (.aload_n 0, 1) := dk_42 (dk_at dksX1_step_3 18 rfl rfl)
theorem dX1_step_88 : decode cX1_step 88 = .ok (.dup, 1) := dk_89 (dk_at dksX1_step_3 19 rfl rfl)
theorem dX1_step_89 : decode cX1_step 89 = .ok (.getfield 408, 3) := dk_180 1 152 (dk_at dksX1_step_3 20 rfl rfl)
theorem dX1_step_92 : decode cX1_step 92 = .ok (.aload_n 0, 1) := dk_42 (dk_at dksX1_step_3 23 rfl rfl)
theorem dX1_step_93 : decode cX1_step 93 = .ok (.getfield 385, 3) := dk_180 1 129 (dk_at dksX1_step_4 0 rfl rfl)
theorem dX1_step_96 : decode cX1_step 96 = .ok (.iadd, 1) := dk_96 (dk_at dksX1_step_4 3 rfl rfl)
theorem dX1_step_97 : decode cX1_step 97 = .ok (.putfield 408, 3) := dk_181 1 152 (dk_at dksX1_step_4 4 rfl rfl)
theorem dX1_step_100 : decode cX1_step 100 = .ok (.aload_n 0, 1) := dk_42 (dk_at dksX1_step_4 7 rfl rfl)
theorem dX1_step_101 : decode cX1_step 101 = .ok (.getfield 112, 3) := dk_180 0 112 (dk_at dksX1_step_4 8 rfl rfl)
theorem dX1_step_104 : decode cX1_step 104 = .ok (.aload_n 0, 1) := dk_42 (dk_at dksX1_step_4 11 rfl rfl)
theorem dX1_step_105 : decode cX1_step 105 = .ok (.getfield 325, 3) := dk_180 1 69 (dk_at dksX1_step_4 12 rfl rfl)
theorem dX1_step_108 : decode cX1_step 108 = .ok (.iload_n 2, 1) := dk_28 (dk_at dksX1_step_4 15 rfl rfl)
theorem dX1_step_109 : decode cX1_step 109 = .ok (.iastore, 1) := dk_79 (dk_at dksX1_step_4 16 rfl rfl)
theorem dX1_step_110 : decode cX1_step 110 = .ok (.aload_n 0, 1) := dk_42 (dk_at dksX1_step_4 17 rfl rfl)
theorem dX1_step_111 : decode cX1_step 111 = .ok (.getfield 115, 3) := dk_180 0 115 (dk_at dksX1_step_4 18 rfl rfl)
theorem dX1_step_114 : decode cX1_step 114 = .ok (.aload_n 0, 1) := dk_42 (dk_at dksX1_step_4 21 rfl rfl)
theorem dX1_step_115 : decode cX1_step 115 = .ok (.getfield 325, 3) := dk_180 1 69 (dk_at dksX1_step_5 0 rfl rfl)
theorem dX1_step_118 : decode cX1_step 118 = .ok (.aload_n 0, 1) := dk_42 (dk_at dksX1_step_5 3 rfl rfl)
theorem dX1_step_119 : decode cX1_step 119 = .ok (.getfield 97, 3) := dk_180 0 97 (dk_at dksX1_step_5 4 rfl rfl)
theorem dX1_step_122 : decode cX1_step 122 = .ok (.iload_n 1, 1) := dk_27 (dk_at dksX1_step_5 7 rfl rfl)
theorem dX1_step_123 : decode cX1_step 123 = .ok (.iconst 1, 1) := dk_4 (dk_at dksX1_step_5 8 rfl rfl)
theorem dX1_step_124 : decode cX1_step 124 = .ok (.iadd, 1) := dk_96 (dk_at dksX1_step_5 9 rfl rfl)
theorem dX1_step_125 : decode cX1_step 125 = .ok (.iaload, 1) := dk_46 (dk_at dksX1_step_5 10 rfl rfl)
theorem dX1_step_126 : decode cX1_step 126 = .ok (.iastore, 1) := dk_79 (dk_at dksX1_step_5 11 rfl rfl)
theorem dX1_step_127 : decode cX1_step 127 = .ok (.aload_n 0, 1) := dk_42 (dk_at dksX1_step_5 12 rfl rfl)
theorem dX1_step_128 : decode cX1_step 128 = .ok (.getfield 118, 3) := dk_180 0 118 (dk_at dksX1_step_5 13 rfl rfl)
theorem dX1_step_131 : decode cX1_step 131 = .ok (.aload_n 0, 1) := dk_42 (dk_at dksX1_step_5 16 rfl rfl)
theorem dX1_step_132 : decode cX1_step 132 = .ok (.getfield 325, 3) := dk_180 1 69 (dk_at dksX1_step_5 17 rfl rfl)
theorem dX1_step_135 : decode cX1_step 135 = .ok (.aload_n 0, 1) := dk_42 (dk_at dksX1_step_5 20 rfl rfl)
theorem dX1_step_136 : decode cX1_step 136 = .ok (.getfield 100, 3) := dk_180 0 100 (dk_at dksX1_step_5 21 rfl rfl)
theorem dX1_step_139 : decode cX1_step 139 = .ok (.iload_n 1, 1) := dk_27 (dk_at dksX1_step_6 0 rfl rfl)
theorem dX1_step_140 : decode cX1_step 140 = .ok (.iconst 1, 1) := dk_4 (dk_at dksX1_step_6 1 rfl rfl)
theorem dX1_step_141 : decode cX1_step 141 = .ok (.iadd, 1) := dk_96 (dk_at dksX1_step_6 2 rfl rfl)
theorem dX1_step_142 : decode cX1_step 142 = .ok (.iaload, 1) := dk_46 (dk_at dksX1_step_6 3 rfl rfl)
theorem dX1_step_143 : decode cX1_step 143 = .ok (.iastore, 1) := dk_79 (dk_at dksX1_step_6 4 rfl rfl)
theorem dX1_step_144 : decode cX1_step 144 = .ok (.aload_n 0, 1) := dk_42 (dk_at dksX1_step_6 5 rfl rfl)
theorem dX1_step_145 : decode cX1_step 145 = .ok (.iload_n 1, 1) := dk_27 (dk_at dksX1_step_6 6 rfl rfl)
theorem dX1_step_146 : decode cX1_step 146 = .ok (.invokevirtual 414, 3) := dk_182 1 158 (dk_at dksX1_step_6 7 rfl rfl)
theorem dX1_step_149 : decode cX1_step 149 = .ok (.iload_n 2, 1) := dk_28 (dk_at dksX1_step_6 10 rfl rfl)
theorem dX1_step_150 : decode cX1_step 150 = .ok (.ireturn, 1) := dk_172 (dk_at dksX1_step_6 11 rfl rfl)
abbrev cX1_build : ByteArray := prog_20_method_49_code
def yX1_build : MethodName := ⟨RX1, "build", "(II)V"⟩
def dkwX1_build_16 : List UInt8 := [167, 254, 192, 177]
abbrev dktX1_build_16 : List UInt8 := dkwX1_build_16 ++ []
def dkwX1_build_15 : List UInt8 := [46, 21, 4, 160, 0, 20, 132, 6, 255, 42, 42, 180, 0, 148, 21, 6, 46, 182, 1, 143, 167, 255, 223]
abbrev dktX1_build_15 : List UInt8 := dkwX1_build_15 ++ dktX1_build_16
def dkwX1_build_14 : List UInt8 := [21, 4, 46, 96, 79, 132, 6, 1, 132, 4, 1, 21, 6, 158, 0, 34, 42, 180, 0, 151, 21, 6, 4, 100]
abbrev dktX1_build_14 : List UInt8 := dkwX1_build_14 ++ dktX1_build_15
def dkwX1_build_13 : List UInt8 := [153, 0, 32, 42, 180, 0, 148, 21, 6, 21, 10, 79, 42, 180, 0, 151, 21, 6, 21, 4, 42, 180, 0, 79]
abbrev dktX1_build_13 : List UInt8 := dkwX1_build_13 ++ dktX1_build_14
def dkwX1_build_12 : List UInt8 := [162, 0, 22, 42, 180, 0, 145, 42, 180, 0, 148, 21, 6, 4, 100, 46, 92, 46, 21, 7, 96, 79, 21, 9]
abbrev dktX1_build_12 : List UInt8 := dkwX1_build_12 ++ dktX1_build_13
def dkwX1_build_11 : List UInt8 := [4, 96, 4, 3, 182, 1, 132, 21, 6, 158, 0, 37, 42, 180, 0, 148, 21, 6, 4, 100, 46, 17, 1, 244]
abbrev dktX1_build_11 : List UInt8 := dkwX1_build_11 ++ dktX1_build_12
def dkwX1_build_10 : List UInt8 := [167, 0, 31, 42, 4, 42, 180, 0, 73, 21, 4, 47, 29, 42, 180, 0, 76, 21, 4, 46, 42, 180, 1, 69]
abbrev dktX1_build_10 : List UInt8 := dkwX1_build_10 ++ dktX1_build_11
def dkwX1_build_9 : List UInt8 := [21, 4, 47, 16, 247, 42, 180, 0, 76, 21, 4, 46, 42, 180, 1, 69, 4, 96, 4, 3, 182, 1, 132]
abbrev dktX1_build_9 : List UInt8 := dkwX1_build_9 ++ dktX1_build_10
def dkwX1_build_8 : List UInt8 := [182, 1, 139, 54, 7, 167, 0, 73, 42, 180, 0, 70, 21, 4, 46, 154, 0, 35, 42, 3, 42, 180, 0, 73]
abbrev dktX1_build_8 : List UInt8 := dkwX1_build_8 ++ dktX1_build_9
def dkwX1_build_7 : List UInt8 := [21, 8, 16, 247, 159, 0, 26, 42, 42, 180, 0, 121, 21, 8, 46, 42, 180, 0, 124, 21, 8, 46]
abbrev dktX1_build_7 : List UInt8 := dkwX1_build_7 ++ dktX1_build_8
def dkwX1_build_6 : List UInt8 := [16, 247, 42, 180, 0, 76, 21, 4, 46, 42, 180, 1, 69, 4, 96, 4, 3, 182, 1, 132, 167, 0, 103]
abbrev dktX1_build_6 : List UInt8 := dkwX1_build_6 ++ dktX1_build_7
def dkwX1_build_5 : List UInt8 := [160, 0, 7, 4, 167, 0, 4, 3, 54, 9, 42, 180, 1, 129, 54, 10, 21, 9, 153, 0, 29, 42, 5, 9]
abbrev dktX1_build_5 : List UInt8 := dkwX1_build_5 ++ dktX1_build_6
def dkwX1_build_4 : List UInt8 := [180, 0, 73, 21, 4, 47, 182, 1, 136, 167, 0, 5, 16, 247, 54, 8, 42, 180, 0, 70, 21, 4, 46, 5]
abbrev dktX1_build_4 : List UInt8 := dkwX1_build_4 ++ dktX1_build_5
def dkwX1_build_3 : List UInt8 := [21, 4, 46, 16, 6, 159, 0, 15, 42, 180, 0, 70, 21, 4, 46, 16, 7, 160, 0, 18, 42, 27, 42]
abbrev dktX1_build_3 : List UInt8 := dkwX1_build_3 ++ dktX1_build_4
def dkwX1_build_2 : List UInt8 := [21, 4, 46, 96, 54, 5, 3, 54, 6, 21, 4, 21, 5, 162, 1, 63, 4, 54, 7, 42, 180, 0, 70]
abbrev dktX1_build_2 : List UInt8 := dkwX1_build_2 ++ dktX1_build_3
def dkwX1_build_1 : List UInt8 := [167, 0, 9, 42, 180, 1, 69, 4, 96, 62, 42, 180, 0, 67, 27, 46, 54, 4, 21, 4, 42, 180, 0, 79]
abbrev dktX1_build_1 : List UInt8 := dkwX1_build_1 ++ dktX1_build_2
def dkwX1_build_0 : List UInt8 := [42, 3, 181, 1, 129, 42, 180, 0, 61, 27, 51, 153, 0, 14, 42, 180, 0, 94, 28, 4, 96, 46]
abbrev dktX1_build_0 : List UInt8 := dkwX1_build_0 ++ dktX1_build_1
theorem dksX1_build_0 : cX1_build.data.toList.drop 0 = dktX1_build_0 := by decide +kernel
theorem dksX1_build_1 : cX1_build.data.toList.drop 22 = dktX1_build_1 := dk_seg dksX1_build_0 22 rfl rfl
theorem dksX1_build_2 : cX1_build.data.toList.drop 46 = dktX1_build_2 := dk_seg dksX1_build_1 24 rfl rfl
theorem dksX1_build_3 : cX1_build.data.toList.drop 69 = dktX1_build_3 := dk_seg dksX1_build_2 23 rfl rfl
theorem dksX1_build_4 : cX1_build.data.toList.drop 92 = dktX1_build_4 := dk_seg dksX1_build_3 23 rfl rfl
theorem dksX1_build_5 : cX1_build.data.toList.drop 116 = dktX1_build_5 := dk_seg dksX1_build_4 24 rfl rfl
theorem dksX1_build_6 : cX1_build.data.toList.drop 140 = dktX1_build_6 := dk_seg dksX1_build_5 24 rfl rfl
theorem dksX1_build_7 : cX1_build.data.toList.drop 163 = dktX1_build_7 := dk_seg dksX1_build_6 23 rfl rfl
theorem dksX1_build_8 : cX1_build.data.toList.drop 185 = dktX1_build_8 := dk_seg dksX1_build_7 22 rfl rfl
theorem dksX1_build_9 : cX1_build.data.toList.drop 209 = dktX1_build_9 := dk_seg dksX1_build_8 24 rfl rfl
theorem dksX1_build_10 : cX1_build.data.toList.drop 232 = dktX1_build_10 := dk_seg dksX1_build_9 23 rfl rfl
theorem dksX1_build_11 : cX1_build.data.toList.drop 256 = dktX1_build_11 := dk_seg dksX1_build_10 24 rfl rfl
theorem dksX1_build_12 : cX1_build.data.toList.drop 280 = dktX1_build_12 := dk_seg dksX1_build_11 24 rfl rfl
theorem dksX1_build_13 : cX1_build.data.toList.drop 304 = dktX1_build_13 := dk_seg dksX1_build_12 24 rfl rfl
theorem dksX1_build_14 : cX1_build.data.toList.drop 328 = dktX1_build_14 := dk_seg dksX1_build_13 24 rfl rfl
theorem dksX1_build_15 : cX1_build.data.toList.drop 352 = dktX1_build_15 := dk_seg dksX1_build_14 24 rfl rfl
theorem dksX1_build_16 : cX1_build.data.toList.drop 375 = dktX1_build_16 := dk_seg dksX1_build_15 23 rfl rfl
theorem dX1_build_0 : decode cX1_build 0 = .ok (.aload_n 0, 1) := dk_42 (dk_at dksX1_build_0 0 rfl rfl)
theorem dX1_build_1 : decode cX1_build 1 = .ok (.iconst 0, 1) := dk_3 (dk_at dksX1_build_0 1 rfl rfl)
theorem dX1_build_2 : decode cX1_build 2 = .ok (.putfield 385, 3) := dk_181 1 129 (dk_at dksX1_build_0 2 rfl rfl)
theorem dX1_build_5 : decode cX1_build 5 = .ok (.aload_n 0, 1) := dk_42 (dk_at dksX1_build_0 5 rfl rfl)
theorem dX1_build_6 : decode cX1_build 6 = .ok (.getfield 61, 3) := dk_180 0 61 (dk_at dksX1_build_0 6 rfl rfl)
theorem dX1_build_9 : decode cX1_build 9 = .ok (.iload_n 1, 1) := dk_27 (dk_at dksX1_build_0 9 rfl rfl)
theorem dX1_build_10 : decode cX1_build 10 = .ok (.baload, 1) := dk_51 (dk_at dksX1_build_0 10 rfl rfl)
theorem dX1_build_11 : decode cX1_build 11 = .ok (.ifCond .eq 14, 3) := dk_153 0 14 (dk_at dksX1_build_0 11 rfl rfl)
theorem dX1_build_14 : decode cX1_build 14 = .ok (.aload_n 0, 1) := dk_42 (dk_at dksX1_build_0 14 rfl rfl)
theorem dX1_build_15 : decode cX1_build 15 = .ok (.getfield 94, 3) := dk_180 0 94 (dk_at dksX1_build_0 15 rfl rfl)
theorem dX1_build_18 : decode cX1_build 18 = .ok (.iload_n 2, 1) := dk_28 (dk_at dksX1_build_0 18 rfl rfl)
theorem dX1_build_19 : decode cX1_build 19 = .ok (.iconst 1, 1) := dk_4 (dk_at dksX1_build_0 19 rfl rfl)
theorem dX1_build_20 : decode cX1_build 20 = .ok (.iadd, 1) := dk_96 (dk_at dksX1_build_0 20 rfl rfl)
theorem dX1_build_21 : decode cX1_build 21 = .ok (.iaload, 1) := dk_46 (dk_at dksX1_build_0 21 rfl rfl)
theorem dX1_build_22 : decode cX1_build 22 = .ok (.goto 9, 3) := dk_167 0 9 (dk_at dksX1_build_1 0 rfl rfl)
theorem dX1_build_25 : decode cX1_build 25 = .ok (.aload_n 0, 1) := dk_42 (dk_at dksX1_build_1 3 rfl rfl)
theorem dX1_build_26 : decode cX1_build 26 = .ok (.getfield 325, 3) := dk_180 1 69 (dk_at dksX1_build_1 4 rfl rfl)
theorem dX1_build_29 : decode cX1_build 29 = .ok (.iconst 1, 1) := dk_4 (dk_at dksX1_build_1 7 rfl rfl)
theorem dX1_build_30 : decode cX1_build 30 = .ok (.iadd, 1) := dk_96 (dk_at dksX1_build_1 8 rfl rfl)
theorem dX1_build_31 : decode cX1_build 31 = .ok (.istore_n 3, 1) := dk_62 (dk_at dksX1_build_1 9 rfl rfl)
theorem dX1_build_32 : decode cX1_build 32 = .ok (.aload_n 0, 1) := dk_42 (dk_at dksX1_build_1 10 rfl rfl)
theorem dX1_build_33 : decode cX1_build 33 = .ok (.getfield 67, 3) := dk_180 0 67 (dk_at dksX1_build_1 11 rfl rfl)
theorem dX1_build_36 : decode cX1_build 36 = .ok (.iload_n 1, 1) := dk_27 (dk_at dksX1_build_1 14 rfl rfl)
theorem dX1_build_37 : decode cX1_build 37 = .ok (.iaload, 1) := dk_46 (dk_at dksX1_build_1 15 rfl rfl)
theorem dX1_build_38 : decode cX1_build 38 = .ok (.istore 4, 2) := dk_54 4 (dk_at dksX1_build_1 16 rfl rfl)
theorem dX1_build_40 : decode cX1_build 40 = .ok (.iload 4, 2) := dk_21 4 (dk_at dksX1_build_1 18 rfl rfl)
theorem dX1_build_42 : decode cX1_build 42 = .ok (.aload_n 0, 1) := dk_42 (dk_at dksX1_build_1 20 rfl rfl)
theorem dX1_build_43 : decode cX1_build 43 = .ok (.getfield 79, 3) := dk_180 0 79 (dk_at dksX1_build_1 21 rfl rfl)
theorem dX1_build_46 : decode cX1_build 46 = .ok (.iload 4, 2) := dk_21 4 (dk_at dksX1_build_2 0 rfl rfl)
theorem dX1_build_48 : decode cX1_build 48 = .ok (.iaload, 1) := dk_46 (dk_at dksX1_build_2 2 rfl rfl)
theorem dX1_build_49 : decode cX1_build 49 = .ok (.iadd, 1) := dk_96 (dk_at dksX1_build_2 3 rfl rfl)
theorem dX1_build_50 : decode cX1_build 50 = .ok (.istore 5, 2) := dk_54 5 (dk_at dksX1_build_2 4 rfl rfl)
theorem dX1_build_52 : decode cX1_build 52 = .ok (.iconst 0, 1) := dk_3 (dk_at dksX1_build_2 6 rfl rfl)
theorem dX1_build_53 : decode cX1_build 53 = .ok (.istore 6, 2) := dk_54 6 (dk_at dksX1_build_2 7 rfl rfl)
theorem dX1_build_55 : decode cX1_build 55 = .ok (.iload 4, 2) := dk_21 4 (dk_at dksX1_build_2 9 rfl rfl)
theorem dX1_build_57 : decode cX1_build 57 = .ok (.iload 5, 2) := dk_21 5 (dk_at dksX1_build_2 11 rfl rfl)
theorem dX1_build_59 : decode cX1_build 59 = .ok (.if_icmp .ge 319, 3) := dk_162 1 63 (dk_at dksX1_build_2 13 rfl rfl)
theorem dX1_build_62 : decode cX1_build 62 = .ok (.iconst 1, 1) := dk_4 (dk_at dksX1_build_2 16 rfl rfl)
theorem dX1_build_63 : decode cX1_build 63 = .ok (.istore 7, 2) := dk_54 7 (dk_at dksX1_build_2 17 rfl rfl)
theorem dX1_build_65 : decode cX1_build 65 = .ok (.aload_n 0, 1) := dk_42 (dk_at dksX1_build_2 19 rfl rfl)
theorem dX1_build_66 : decode cX1_build 66 = .ok (.getfield 70, 3) := dk_180 0 70 (dk_at dksX1_build_2 20 rfl rfl)
theorem dX1_build_69 : decode cX1_build 69 = .ok (.iload 4, 2) := dk_21 4 (dk_at dksX1_build_3 0 rfl rfl)
theorem dX1_build_71 : decode cX1_build 71 = .ok (.iaload, 1) := dk_46 (dk_at dksX1_build_3 2 rfl rfl)
theorem dX1_build_72 : decode cX1_build 72 = .ok (.bipush 6, 2) := dk_16 6 (dk_at dksX1_build_3 3 rfl rfl)
theorem dX1_build_74 : decode cX1_build 74 = .ok (.if_icmp .eq 15, 3) := dk_159 0 15 (dk_at dksX1_build_3 5 rfl rfl)
theorem dX1_build_77 : decode cX1_build 77 = .ok (.aload_n 0, 1) := dk_42 (dk_at dksX1_build_3 8 rfl rfl)
theorem dX1_build_78 : decode cX1_build 78 = .ok (.getfield 70, 3) := dk_180 0 70 (dk_at dksX1_build_3 9 rfl rfl)
theorem dX1_build_81 : decode cX1_build 81 = .ok (.iload 4, 2) := dk_21 4 (dk_at dksX1_build_3 12 rfl rfl)
theorem dX1_build_83 : decode cX1_build 83 = .ok (.iaload, 1) := dk_46 (dk_at dksX1_build_3 14 rfl rfl)
theorem dX1_build_84 : decode cX1_build 84 = .ok (.bipush 7, 2) := dk_16 7 (dk_at dksX1_build_3 15 rfl rfl)
theorem dX1_build_86 : decode cX1_build 86 = .ok (.if_icmp .ne 18, 3) := dk_160 0 18 (dk_at dksX1_build_3 17 rfl rfl)
theorem dX1_build_89 : decode cX1_build 89 = .ok (.aload_n 0, 1) := dk_42 (dk_at dksX1_build_3 20 rfl rfl)
theorem dX1_build_90 : decode cX1_build 90 = .ok (.iload_n 1, 1) := dk_27 (dk_at dksX1_build_3 21 rfl rfl)
theorem dX1_build_91 : decode cX1_build 91 = .ok (.aload_n 0, 1) := dk_42 (dk_at dksX1_build_3 22 rfl rfl)
theorem dX1_build_92 : decode cX1_build 92 = .ok (.getfield 73, 3) := dk_180 0 73 (dk_at dksX1_build_4 0 rfl rfl)
theorem dX1_build_95 : decode cX1_build 95 = .ok (.iload 4, 2) := dk_21 4 (dk_at dksX1_build_4 3 rfl rfl)
theorem dX1_build_97 : decode cX1_build 97 = .ok (.laload, 1) := dk_47 (dk_at dksX1_build_4 5 rfl rfl)
theorem dX1_build_98 : decode cX1_build 98 = .ok (.invokevirtual 392, 3) := dk_182 1 136 (dk_at dksX1_build_4 6 rfl rfl)
theorem dX1_build_101 : decode cX1_build 101 = .ok (.goto 5, 3) := dk_167 0 5 (dk_at dksX1_build_4 9 rfl rfl)
theorem dX1_build_104 : decode cX1_build 104 = .ok (.bipush (-9), 2) := dk_16 247 (dk_at dksX1_build_4 12 rfl rfl)
theorem dX1_build_106 : decode cX1_build 106 = .ok (.istore 8, 2) := dk_54 8 (dk_at dksX1_build_4 14 rfl rfl)
theorem dX1_build_108 : decode cX1_build 108 = .ok (.aload_n 0, 1) := dk_42 (dk_at dksX1_build_4 16 rfl rfl)
theorem dX1_build_109 : decode cX1_build 109 = .ok (.getfield 70, 3) := dk_180 0 70 (dk_at dksX1_build_4 17 rfl rfl)
theorem dX1_build_112 : decode cX1_build 112 = .ok (.iload 4, 2) := dk_21 4 (dk_at dksX1_build_4 20 rfl rfl)
theorem dX1_build_114 : decode cX1_build 114 = .ok (.iaload, 1) := dk_46 (dk_at dksX1_build_4 22 rfl rfl)
theorem dX1_build_115 : decode cX1_build 115 = .ok (.iconst 2, 1) := dk_5 (dk_at dksX1_build_4 23 rfl rfl)
theorem dX1_build_116 : decode cX1_build 116 = .ok (.if_icmp .ne 7, 3) := dk_160 0 7 (dk_at dksX1_build_5 0 rfl rfl)
theorem dX1_build_119 : decode cX1_build 119 = .ok (.iconst 1, 1) := dk_4 (dk_at dksX1_build_5 3 rfl rfl)
theorem dX1_build_120 : decode cX1_build 120 = .ok (.goto 4, 3) := dk_167 0 4 (dk_at dksX1_build_5 4 rfl rfl)
theorem dX1_build_123 : decode cX1_build 123 = .ok (.iconst 0, 1) := dk_3 (dk_at dksX1_build_5 7 rfl rfl)
theorem dX1_build_124 : decode cX1_build 124 = .ok (.istore 9, 2) := dk_54 9 (dk_at dksX1_build_5 8 rfl rfl)
theorem dX1_build_126 : decode cX1_build 126 = .ok (.aload_n 0, 1) := dk_42 (dk_at dksX1_build_5 10 rfl rfl)
theorem dX1_build_127 : decode cX1_build 127 = .ok (.getfield 385, 3) := dk_180 1 129 (dk_at dksX1_build_5 11 rfl rfl)
theorem dX1_build_130 : decode cX1_build 130 = .ok (.istore 10, 2) := dk_54 10 (dk_at dksX1_build_5 14 rfl rfl)
theorem dX1_build_132 : decode cX1_build 132 = .ok (.iload 9, 2) := dk_21 9 (dk_at dksX1_build_5 16 rfl rfl)
theorem dX1_build_134 : decode cX1_build 134 = .ok (.ifCond .eq 29, 3) := dk_153 0 29 (dk_at dksX1_build_5 18 rfl rfl)
theorem dX1_build_137 : decode cX1_build 137 = .ok (.aload_n 0, 1) := dk_42 (dk_at dksX1_build_5 21 rfl rfl)
theorem dX1_build_138 : decode cX1_build 138 = .ok (.iconst 2, 1) := dk_5 (dk_at dksX1_build_5 22 rfl rfl)
theorem dX1_build_139 : decode cX1_build 139 = .ok (.lconst 0, 1) := dk_9 (dk_at dksX1_build_5 23 rfl rfl)
theorem dX1_build_140 : decode cX1_build 140 = .ok (.bipush (-9), 2) := dk_16 247 (dk_at dksX1_build_6 0 rfl rfl)
theorem dX1_build_142 : decode cX1_build 142 = .ok (.aload_n 0, 1) := dk_42 (dk_at dksX1_build_6 2 rfl rfl)
theorem dX1_build_143 : decode cX1_build 143 = .ok (.getfield 76, 3) := dk_180 0 76 (dk_at dksX1_build_6 3 rfl rfl)
theorem dX1_build_146 : decode cX1_build 146 = .ok (.iload 4, 2) := dk_21 4 (dk_at dksX1_build_6 6 rfl rfl)
theorem dX1_build_148 : decode cX1_build 148 = .ok (.iaload, 1) := dk_46 (dk_at dksX1_build_6 8 rfl rfl)
theorem dX1_build_149 : decode cX1_build 149 = .ok (.aload_n 0, 1) := dk_42 (dk_at dksX1_build_6 9 rfl rfl)
theorem dX1_build_150 : decode cX1_build 150 = .ok (.getfield 325, 3) := dk_180 1 69 (dk_at dksX1_build_6 10 rfl rfl)
theorem dX1_build_153 : decode cX1_build 153 = .ok (.iconst 1, 1) := dk_4 (dk_at dksX1_build_6 13 rfl rfl)
theorem dX1_build_154 : decode cX1_build 154 = .ok (.iadd, 1) := dk_96 (dk_at dksX1_build_6 14 rfl rfl)
theorem dX1_build_155 : decode cX1_build 155 = .ok (.iconst 1, 1) := dk_4 (dk_at dksX1_build_6 15 rfl rfl)
theorem dX1_build_156 : decode cX1_build 156 = .ok (.iconst 0, 1) := dk_3 (dk_at dksX1_build_6 16 rfl rfl)
theorem dX1_build_157 : decode cX1_build 157 = .ok (.invokevirtual 388, 3) := dk_182 1 132 (dk_at dksX1_build_6 17 rfl rfl)
theorem dX1_build_160 : decode cX1_build 160 = .ok (.goto 103, 3) := dk_167 0 103 (dk_at dksX1_build_6 20 rfl rfl)
theorem dX1_build_163 : decode cX1_build 163 = .ok (.iload 8, 2) := dk_21 8 (dk_at dksX1_build_7 0 rfl rfl)
theorem dX1_build_165 : decode cX1_build 165 = .ok (.bipush (-9), 2) := dk_16 247 (dk_at dksX1_build_7 2 rfl rfl)
theorem dX1_build_167 : decode cX1_build 167 = .ok (.if_icmp .eq 26, 3) := dk_159 0 26 (dk_at dksX1_build_7 4 rfl rfl)
theorem dX1_build_170 : decode cX1_build 170 = .ok (.aload_n 0, 1) := dk_42 (dk_at dksX1_build_7 7 rfl rfl)
theorem dX1_build_171 : decode cX1_build 171 = .ok (.aload_n 0, 1) := dk_42 (dk_at dksX1_build_7 8 rfl rfl)
theorem dX1_build_172 : decode cX1_build 172 = .ok (.getfield 121, 3) := dk_180 0 121 (dk_at dksX1_build_7 9 rfl rfl)
theorem dX1_build_175 : decode cX1_build 175 = .ok (.iload 8, 2) := dk_21 8 (dk_at dksX1_build_7 12 rfl rfl)
theorem dX1_build_177 : decode cX1_build 177 = .ok (.iaload, 1) := dk_46 (dk_at dksX1_build_7 14 rfl rfl)
theorem dX1_build_178 : decode cX1_build 178 = .ok (.aload_n 0, 1) := dk_42 (dk_at dksX1_build_7 15 rfl rfl)
theorem dX1_build_179 : decode cX1_build 179 = .ok (.getfield 124, 3) := dk_180 0 124 (dk_at dksX1_build_7 16 rfl rfl)
theorem dX1_build_182 : decode cX1_build 182 = .ok (.iload 8, 2) := dk_21 8 (dk_at dksX1_build_7 19 rfl rfl)
theorem dX1_build_184 : decode cX1_build 184 = .ok (.iaload, 1) := dk_46 (dk_at dksX1_build_7 21 rfl rfl)
theorem dX1_build_185 : decode cX1_build 185 = .ok (.invokevirtual 395, 3) := dk_182 1 139 (dk_at dksX1_build_8 0 rfl rfl)
theorem dX1_build_188 : decode cX1_build 188 = .ok (.istore 7, 2) := dk_54 7 (dk_at dksX1_build_8 3 rfl rfl)
theorem dX1_build_190 : decode cX1_build 190 = .ok (.goto 73, 3) := dk_167 0 73 (dk_at dksX1_build_8 5 rfl rfl)
theorem dX1_build_193 : decode cX1_build 193 = .ok (.aload_n 0, 1) := dk_42 (dk_at dksX1_build_8 8 rfl rfl)
theorem dX1_build_194 : decode cX1_build 194 = .ok (.getfield 70, 3) := dk_180 0 70 (dk_at dksX1_build_8 9 rfl rfl)
theorem dX1_build_197 : decode cX1_build 197 = .ok (.iload 4, 2) := dk_21 4 (dk_at dksX1_build_8 12 rfl rfl)
theorem dX1_build_199 : decode cX1_build 199 = .ok (.iaload, 1) := dk_46 (dk_at dksX1_build_8 14 rfl rfl)
theorem dX1_build_200 : decode cX1_build 200 = .ok (.ifCond .ne 35, 3) := dk_154 0 35 (dk_at dksX1_build_8 15 rfl rfl)
theorem dX1_build_203 : decode cX1_build 203 = .ok (.aload_n 0, 1) := dk_42 (dk_at dksX1_build_8 18 rfl rfl)
theorem dX1_build_204 : decode cX1_build 204 = .ok (.iconst 0, 1) := dk_3 (dk_at dksX1_build_8 19 rfl rfl)
theorem dX1_build_205 : decode cX1_build 205 = .ok (.aload_n 0, 1) := dk_42 (dk_at dksX1_build_8 20 rfl rfl)
theorem dX1_build_206 : decode cX1_build 206 = .ok (.getfield 73, 3) := dk_180 0 73 (dk_at dksX1_build_8 21 rfl rfl)
theorem dX1_build_209 : decode cX1_build 209 = .ok (.iload 4, 2) := dk_21 4 (dk_at dksX1_build_9 0 rfl rfl)
theorem dX1_build_211 : decode cX1_build 211 = .ok (.laload, 1) := dk_47 (dk_at dksX1_build_9 2 rfl rfl)
theorem dX1_build_212 : decode cX1_build 212 = .ok (.bipush (-9), 2) := dk_16 247 (dk_at dksX1_build_9 3 rfl rfl)
theorem dX1_build_214 : decode cX1_build 214 = .ok (.aload_n 0, 1) := dk_42 (dk_at dksX1_build_9 5 rfl rfl)
theorem dX1_build_215 : decode cX1_build 215 = .ok (.getfield 76, 3) := dk_180 0 76 (dk_at dksX1_build_9 6 rfl rfl)
theorem dX1_build_218 : decode cX1_build 218 = .ok (.iload 4, 2) := dk_21 4 (dk_at dksX1_build_9 9 rfl rfl)
theorem dX1_build_220 : decode cX1_build 220 = .ok (.iaload, 1) := dk_46 (dk_at dksX1_build_9 11 rfl rfl)
theorem dX1_build_221 : decode cX1_build 221 = .ok (.aload_n 0, 1) := dk_42 (dk_at dksX1_build_9 12 rfl rfl)
theorem dX1_build_222 : decode cX1_build 222 = .ok (.getfield 325, 3) := dk_180 1 69 (dk_at dksX1_build_9 13 rfl rfl)
theorem dX1_build_225 : decode cX1_build 225 = .ok (.iconst 1, 1) := dk_4 (dk_at dksX1_build_9 16 rfl rfl)
theorem dX1_build_226 : decode cX1_build 226 = .ok (.iadd, 1) := dk_96 (dk_at dksX1_build_9 17 rfl rfl)
theorem dX1_build_227 : decode cX1_build 227 = .ok (.iconst 1, 1) := dk_4 (dk_at dksX1_build_9 18 rfl rfl)
theorem dX1_build_228 : decode cX1_build 228 = .ok (.iconst 0, 1) := dk_3 (dk_at dksX1_build_9 19 rfl rfl)
theorem dX1_build_229 : decode cX1_build 229 = .ok (.invokevirtual 388, 3) := dk_182 1 132 (dk_at dksX1_build_9 20 rfl rfl)
theorem dX1_build_232 : decode cX1_build 232 = .ok (.goto 31, 3) := dk_167 0 31 (dk_at dksX1_build_10 0 rfl rfl)
theorem dX1_build_235 : decode cX1_build 235 = .ok (.aload_n 0, 1) := dk_42 (dk_at dksX1_build_10 3 rfl rfl)
theorem dX1_build_236 : decode cX1_build 236 = .ok (.iconst 1, 1) := dk_4 (dk_at dksX1_build_10 4 rfl rfl)
theorem dX1_build_237 : decode cX1_build 237 = .ok (.aload_n 0, 1) := dk_42 (dk_at dksX1_build_10 5 rfl rfl)
theorem dX1_build_238 : decode cX1_build 238 = .ok (.getfield 73, 3) := dk_180 0 73 (dk_at dksX1_build_10 6 rfl rfl)
theorem dX1_build_241 : decode cX1_build 241 = .ok (.iload 4, 2) := dk_21 4 (dk_at dksX1_build_10 9 rfl rfl)
theorem dX1_build_243 : decode cX1_build 243 = .ok (.laload, 1) := dk_47 (dk_at dksX1_build_10 11 rfl rfl)
theorem dX1_build_244 : decode cX1_build 244 = .ok (.iload_n 3, 1) := dk_29 (dk_at dksX1_build_10 12 rfl rfl)
theorem dX1_build_245 : decode cX1_build 245 = .ok (.aload_n 0, 1) := dk_42 (dk_at dksX1_build_10 13 rfl rfl)
theorem dX1_build_246 : decode cX1_build 246 = .ok (.getfield 76, 3) := dk_180 0 76 (dk_at dksX1_build_10 14 rfl rfl)
theorem dX1_build_249 : decode cX1_build 249 = .ok (.iload 4, 2) := dk_21 4 (dk_at dksX1_build_10 17 rfl rfl)
theorem dX1_build_251 : decode cX1_build 251 = .ok (.iaload, 1) := dk_46 (dk_at dksX1_build_10 19 rfl rfl)
theorem dX1_build_252 : decode cX1_build 252 = .ok (.aload_n 0, 1) := dk_42 (dk_at dksX1_build_10 20 rfl rfl)
theorem dX1_build_253 : decode cX1_build 253 = .ok (.getfield 325, 3) := dk_180 1 69 (dk_at dksX1_build_10 21 rfl rfl)
theorem dX1_build_256 : decode cX1_build 256 = .ok (.iconst 1, 1) := dk_4 (dk_at dksX1_build_11 0 rfl rfl)
theorem dX1_build_257 : decode cX1_build 257 = .ok (.iadd, 1) := dk_96 (dk_at dksX1_build_11 1 rfl rfl)
theorem dX1_build_258 : decode cX1_build 258 = .ok (.iconst 1, 1) := dk_4 (dk_at dksX1_build_11 2 rfl rfl)
theorem dX1_build_259 : decode cX1_build 259 = .ok (.iconst 0, 1) := dk_3 (dk_at dksX1_build_11 3 rfl rfl)
theorem dX1_build_260 : decode cX1_build 260 = .ok (.invokevirtual 388, 3) := dk_182 1 132 (dk_at dksX1_build_11 4 rfl rfl)
theorem dX1_build_263 : decode cX1_build 263 = .ok (.iload 6, 2) := dk_21 6 (dk_at dksX1_build_11 7 rfl rfl)
theorem dX1_build_265 : decode cX1_build 265 = .ok (.ifCond .le 37, 3) := dk_158 0 37 (dk_at dksX1_build_11 9 rfl rfl)
theorem dX1_build_268 : decode cX1_build 268 = .ok (.aload_n 0, 1) := dk_42 (dk_at dksX1_build_11 12 rfl rfl)
theorem dX1_build_269 : decode cX1_build 269 = .ok (.getfield 148, 3) := dk_180 0 148 (dk_at dksX1_build_11 13 rfl rfl)
theorem dX1_build_272 : decode cX1_build 272 = .ok (.iload 6, 2) := dk_21 6 (dk_at dksX1_build_11 16 rfl rfl)
theorem dX1_build_274 : decode cX1_build 274 = .ok (.iconst 1, 1) := dk_4 (dk_at dksX1_build_11 18 rfl rfl)
theorem dX1_build_275 : decode cX1_build 275 = .ok (.isub, 1) := dk_100 (dk_at dksX1_build_11 19 rfl rfl)
theorem dX1_build_276 : decode cX1_build 276 = .ok (.iaload, 1) := dk_46 (dk_at dksX1_build_11 20 rfl rfl)
theorem dX1_build_277 : decode cX1_build 277 = .ok (.sipush 500, 3) := dk_17 1 244 (dk_at dksX1_build_11 21 rfl rfl)
theorem dX1_build_280 : decode cX1_build 280 = .ok (.if_icmp .ge 22, 3) := dk_162 0 22 (dk_at dksX1_build_12 0 rfl rfl)
theorem dX1_build_283 : decode cX1_build 283 = .ok (.aload_n 0, 1) := dk_42 (dk_at dksX1_build_12 3 rfl rfl)
theorem dX1_build_284 : decode cX1_build 284 = .ok (.getfield 145, 3) := dk_180 0 145 (dk_at dksX1_build_12 4 rfl rfl)
theorem dX1_build_287 : decode cX1_build 287 = .ok (.aload_n 0, 1) := dk_42 (dk_at dksX1_build_12 7 rfl rfl)
theorem dX1_build_288 : decode cX1_build 288 = .ok (.getfield 148, 3) := dk_180 0 148 (dk_at dksX1_build_12 8 rfl rfl)
theorem dX1_build_291 : decode cX1_build 291 = .ok (.iload 6, 2) := dk_21 6 (dk_at dksX1_build_12 11 rfl rfl)
theorem dX1_build_293 : decode cX1_build 293 = .ok (.iconst 1, 1) := dk_4 (dk_at dksX1_build_12 13 rfl rfl)
theorem dX1_build_294 : decode cX1_build 294 = .ok (.isub, 1) := dk_100 (dk_at dksX1_build_12 14 rfl rfl)
theorem dX1_build_295 : decode cX1_build 295 = .ok (.iaload, 1) := dk_46 (dk_at dksX1_build_12 15 rfl rfl)
theorem dX1_build_296 : decode cX1_build 296 = .ok (.dup2, 1) := dk_92 (dk_at dksX1_build_12 16 rfl rfl)
theorem dX1_build_297 : decode cX1_build 297 = .ok (.iaload, 1) := dk_46 (dk_at dksX1_build_12 17 rfl rfl)
theorem dX1_build_298 : decode cX1_build 298 = .ok (.iload 7, 2) := dk_21 7 (dk_at dksX1_build_12 18 rfl rfl)
theorem dX1_build_300 : decode cX1_build 300 = .ok (.iadd, 1) := dk_96 (dk_at dksX1_build_12 20 rfl rfl)
theorem dX1_build_301 : decode cX1_build 301 = .ok (.iastore, 1) := dk_79 (dk_at dksX1_build_12 21 rfl rfl)
theorem dX1_build_302 : decode cX1_build 302 = .ok (.iload 9, 2) := dk_21 9 (dk_at dksX1_build_12 22 rfl rfl)
theorem dX1_build_304 : decode cX1_build 304 = .ok (.ifCond .eq 32, 3) := dk_153 0 32 (dk_at dksX1_build_13 0 rfl rfl)
theorem dX1_build_307 : decode cX1_build 307 = .ok (.aload_n 0, 1) := dk_42 (dk_at dksX1_build_13 3 rfl rfl)
theorem dX1_build_308 : decode cX1_build 308 = .ok (.getfield 148, 3) := dk_180 0 148 (dk_at dksX1_build_13 4 rfl rfl)
theorem dX1_build_311 : decode cX1_build 311 = .ok (.iload 6, 2) := dk_21 6 (dk_at dksX1_build_13 7 rfl rfl)
theorem dX1_build_313 : decode cX1_build 313 = .ok (.iload 10, 2) := dk_21 10 (dk_at dksX1_build_13 9 rfl rfl)
theorem dX1_build_315 : decode cX1_build 315 = .ok (.iastore, 1) := dk_79 (dk_at dksX1_build_13 11 rfl rfl)
theorem dX1_build_316 : decode cX1_build 316 = .ok (.aload_n 0, 1) := dk_42 (dk_at dksX1_build_13 12 rfl rfl)
theorem dX1_build_317 : decode cX1_build 317 = .ok (.getfield 151, 3) := dk_180 0 151 (dk_at dksX1_build_13 13 rfl rfl)
theorem dX1_build_320 : decode cX1_build 320 = .ok (.iload 6, 2) := dk_21 6 (dk_at dksX1_build_13 16 rfl rfl)
theorem dX1_build_322 : decode cX1_build 322 = .ok (.iload 4, 2) := dk_21 4 (dk_at dksX1_build_13 18 rfl rfl)
theorem dX1_build_324 : decode cX1_build 324 = .ok (.aload_n 0, 1) := dk_42 (dk_at dksX1_build_13 20 rfl rfl)
theorem dX1_build_325 : decode cX1_build 325 = .ok (.getfield 79, 3) := dk_180 0 79 (dk_at dksX1_build_13 21 rfl rfl)
theorem dX1_build_328 : decode cX1_build 328 = .ok (.iload 4, 2) := dk_21 4 (dk_at dksX1_build_14 0 rfl rfl)
theorem dX1_build_330 : decode cX1_build 330 = .ok (.iaload, 1) := dk_46 (dk_at dksX1_build_14 2 rfl rfl)
theorem dX1_build_331 : decode cX1_build 331 = .ok (.iadd, 1) := dk_96 (dk_at dksX1_build_14 3 rfl rfl)
theorem dX1_build_332 : decode cX1_build 332 = .ok (.iastore, 1) := dk_79 (dk_at dksX1_build_14 4 rfl rfl)
theorem dX1_build_333 : decode cX1_build 333 = .ok (.iinc 6 1, 3) := dk_132 6 1 (dk_at dksX1_build_14 5 rfl rfl)
theorem dX1_build_336 : decode cX1_build 336 = .ok (.iinc 4 1, 3) := dk_132 4 1 (dk_at dksX1_build_14 8 rfl rfl)
theorem dX1_build_339 : decode cX1_build 339 = .ok (.iload 6, 2) := dk_21 6 (dk_at dksX1_build_14 11 rfl rfl)
theorem dX1_build_341 : decode cX1_build 341 = .ok (.ifCond .le 34, 3) := dk_158 0 34 (dk_at dksX1_build_14 13 rfl rfl)
theorem dX1_build_344 : decode cX1_build 344 = .ok (.aload_n 0, 1) := dk_42 (dk_at dksX1_build_14 16 rfl rfl)
theorem dX1_build_345 : decode cX1_build 345 = .ok (.getfield 151, 3) := dk_180 0 151 (dk_at dksX1_build_14 17 rfl rfl)
theorem dX1_build_348 : decode cX1_build 348 = .ok (.iload 6, 2) := dk_21 6 (dk_at dksX1_build_14 20 rfl rfl)
theorem dX1_build_350 : decode cX1_build 350 = .ok (.iconst 1, 1) := dk_4 (dk_at dksX1_build_14 22 rfl rfl)
theorem dX1_build_351 : decode cX1_build 351 = .ok (.isub, 1) := dk_100 (dk_at dksX1_build_14 23 rfl rfl)
theorem dX1_build_352 : decode cX1_build 352 = .ok (.iaload, 1) := dk_46 (dk_at dksX1_build_15 0 rfl rfl)
theorem dX1_build_353 : decode cX1_build 353 = .ok (.iload 4, 2) := dk_21 4 (dk_at dksX1_build_15 1 rfl rfl)
theorem dX1_build_355 : decode cX1_build 355 = .ok (.if_icmp .ne 20, 3) := dk_160 0 20 (dk_at dksX1_build_15 3 rfl rfl)
theorem dX1_build_358 : decode cX1_build 358 = .ok (.iinc 6 (-1), 3) := dk_132 6 255 (dk_at dksX1_build_15 6 rfl rfl)
theorem dX1_build_361 : decode cX1_build 361 = .ok (.aload_n 0, 1) := dk_42 (dk_at dksX1_build_15 9 rfl rfl)
theorem dX1_build_362 : decode cX1_build 362 = .ok (.aload_n 0, 1) := dk_42 (dk_at dksX1_build_15 10 rfl rfl)
theorem dX1_build_363 : decode cX1_build 363 = .ok (.getfield 148, 3) := dk_180 0 148 (dk_at dksX1_build_15 11 rfl rfl)
theorem dX1_build_366 : decode cX1_build 366 = .ok (.iload 6, 2) := dk_21 6 (dk_at dksX1_build_15 14 rfl rfl)
theorem dX1_build_368 : decode cX1_build 368 = .ok (.iaload, 1) := dk_46 (dk_at dksX1_build_15 16 rfl rfl)
theorem dX1_build_369 : decode cX1_build 369 = .ok (.invokevirtual 399, 3) := dk_182 1 143 (dk_at dksX1_build_15 17 rfl rfl)
theorem dX1_build_372 : decode cX1_build 372 = .ok (.goto (-33), 3) := dk_167 255 223 (dk_at dksX1_build_15 20 rfl rfl)
theorem dX1_build_375 : decode cX1_build 375 = .ok (.goto (-320), 3) := dk_167 254 192 (dk_at dksX1_build_16 0 rfl rfl)
theorem dX1_build_378 : decode cX1_build 378 = .ok (.return_, 1) := dk_177 (dk_at dksX1_build_16 3 rfl rfl)
abbrev cX1_pVariable : ByteArray := prog_20_method_50_code
def yX1_pVariable : MethodName := ⟨RX1, "pVariable", "(IJ)I"⟩
def dkwX1_pVariable_2 : List UInt8 := [21, 4, 47, 32, 148, 154, 0, 6, 21, 4, 172, 132, 4, 1, 167, 255, 203, 16, 247, 172]
abbrev dktX1_pVariable_2 : List UInt8 := dkwX1_pVariable_2 ++ []
def dkwX1_pVariable_1 : List UInt8 := [21, 4, 46, 16, 6, 159, 0, 15, 42, 180, 0, 70, 21, 4, 46, 16, 7, 160, 0, 18, 42, 180, 0, 73]
abbrev dktX1_pVariable_1 : List UInt8 := dkwX1_pVariable_1 ++ dktX1_pVariable_2
def dkwX1_pVariable_0 : List UInt8 := [42, 180, 0, 64, 27, 46, 54, 4, 21, 4, 42, 180, 0, 67, 27, 46, 162, 0, 48, 42, 180, 0, 70]
abbrev dktX1_pVariable_0 : List UInt8 := dkwX1_pVariable_0 ++ dktX1_pVariable_1
theorem dksX1_pVariable_0 : cX1_pVariable.data.toList.drop 0 = dktX1_pVariable_0 := by decide +kernel
theorem dksX1_pVariable_1 : cX1_pVariable.data.toList.drop 23 = dktX1_pVariable_1 := dk_seg dksX1_pVariable_0 23 rfl rfl
theorem dksX1_pVariable_2 : cX1_pVariable.data.toList.drop 47 = dktX1_pVariable_2 := dk_seg dksX1_pVariable_1 24 rfl rfl
theorem dX1_pVariable_0 : decode cX1_pVariable 0 = .ok (.aload_n 0, 1) := dk_42 (dk_at dksX1_pVariable_0 0 rfl rfl)
theorem dX1_pVariable_1 : decode cX1_pVariable 1 = .ok (.getfield 64, 3) := dk_180 0 64 (dk_at dksX1_pVariable_0 1 rfl rfl)
theorem dX1_pVariable_4 : decode cX1_pVariable 4 = .ok (.iload_n 1, 1) := dk_27 (dk_at dksX1_pVariable_0 4 rfl rfl)
theorem dX1_pVariable_5 : decode cX1_pVariable 5 = .ok (.iaload, 1) := dk_46 (dk_at dksX1_pVariable_0 5 rfl rfl)
theorem dX1_pVariable_6 : decode cX1_pVariable 6 = .ok (.istore 4, 2) := dk_54 4 (dk_at dksX1_pVariable_0 6 rfl rfl)
theorem dX1_pVariable_8 : decode cX1_pVariable 8 = .ok (.iload 4, 2) := dk_21 4 (dk_at dksX1_pVariable_0 8 rfl rfl)
theorem dX1_pVariable_10 : decode cX1_pVariable 10 = .ok (.aload_n 0, 1) := dk_42 (dk_at dksX1_pVariable_0 10 rfl rfl)
theorem dX1_pVariable_11 : decode cX1_pVariable 11 = .ok (.getfield 67, 3) := dk_180 0 67 (dk_at dksX1_pVariable_0 11 rfl rfl)
theorem dX1_pVariable_14 : decode cX1_pVariable 14 = .ok (.iload_n 1, 1) := dk_27 (dk_at dksX1_pVariable_0 14 rfl rfl)
theorem dX1_pVariable_15 : decode cX1_pVariable 15 = .ok (.iaload, 1) := dk_46 (dk_at dksX1_pVariable_0 15 rfl rfl)
theorem dX1_pVariable_16 : decode cX1_pVariable 16 = .ok (.if_icmp .ge 48, 3) := dk_162 0 48 (dk_at dksX1_pVariable_0 16 rfl rfl)
theorem dX1_pVariable_19 : decode cX1_pVariable 19 = .ok (.aload_n 0, 1) := dk_42 (dk_at dksX1_pVariable_0 19 rfl rfl)
theorem dX1_pVariable_20 : decode cX1_pVariable 20 = .ok (.getfield 70, 3) := dk_180 0 70 (dk_at dksX1_pVariable_0 20 rfl rfl)
theorem dX1_pVariable_23 : decode cX1_pVariable 23 = .ok (.iload 4, 2) := dk_21 4 (dk_at dksX1_pVariable_1 0 rfl rfl)
theorem dX1_pVariable_25 : decode cX1_pVariable 25 = .ok (.iaload, 1) := dk_46 (dk_at dksX1_pVariable_1 2 rfl rfl)
theorem dX1_pVariable_26 : decode cX1_pVariable 26 = .ok (.bipush 6, 2) := dk_16 6 (dk_at dksX1_pVariable_1 3 rfl rfl)
theorem dX1_pVariable_28 : decode cX1_pVariable 28 = .ok (.if_icmp .eq 15, 3) := dk_159 0 15 (dk_at dksX1_pVariable_1 5 rfl rfl)
theorem dX1_pVariable_31 : decode cX1_pVariable 31 = .ok (.aload_n 0, 1) := dk_42 (dk_at dksX1_pVariable_1 8 rfl rfl)
theorem dX1_pVariable_32 : decode cX1_pVariable 32 = .ok (.getfield 70, 3) := dk_180 0 70 (dk_at dksX1_pVariable_1 9 rfl rfl)
theorem dX1_pVariable_35 : decode cX1_pVariable 35 = .ok (.iload 4, 2) := dk_21 4 (dk_at dksX1_pVariable_1 12 rfl rfl)
theorem dX1_pVariable_37 : decode cX1_pVariable 37 = .ok (.iaload, 1) := dk_46 (dk_at dksX1_pVariable_1 14 rfl rfl)
theorem dX1_pVariable_38 : decode cX1_pVariable 38 = .ok (.bipush 7, 2) := dk_16 7 (dk_at dksX1_pVariable_1 15 rfl rfl)
theorem dX1_pVariable_40 : decode cX1_pVariable 40 = .ok (.if_icmp .ne 18, 3) := dk_160 0 18 (dk_at dksX1_pVariable_1 17 rfl rfl)
theorem dX1_pVariable_43 : decode cX1_pVariable 43 = .ok (.aload_n 0, 1) := dk_42 (dk_at dksX1_pVariable_1 20 rfl rfl)
theorem dX1_pVariable_44 : decode cX1_pVariable 44 = .ok (.getfield 73, 3) := dk_180 0 73 (dk_at dksX1_pVariable_1 21 rfl rfl)
theorem dX1_pVariable_47 : decode cX1_pVariable 47 = .ok (.iload 4, 2) := dk_21 4 (dk_at dksX1_pVariable_2 0 rfl rfl)
theorem dX1_pVariable_49 : decode cX1_pVariable 49 = .ok (.laload, 1) := dk_47 (dk_at dksX1_pVariable_2 2 rfl rfl)
theorem dX1_pVariable_50 : decode cX1_pVariable 50 = .ok (.lload_n 2, 1) := dk_32 (dk_at dksX1_pVariable_2 3 rfl rfl)
theorem dX1_pVariable_51 : decode cX1_pVariable 51 = .ok (.lcmp, 1) := dk_148 (dk_at dksX1_pVariable_2 4 rfl rfl)
theorem dX1_pVariable_52 : decode cX1_pVariable 52 = .ok (.ifCond .ne 6, 3) := dk_154 0 6 (dk_at dksX1_pVariable_2 5 rfl rfl)
theorem dX1_pVariable_55 : decode cX1_pVariable 55 = .ok (.iload 4, 2) := dk_21 4 (dk_at dksX1_pVariable_2 8 rfl rfl)
theorem dX1_pVariable_57 : decode cX1_pVariable 57 = .ok (.ireturn, 1) := dk_172 (dk_at dksX1_pVariable_2 10 rfl rfl)
theorem dX1_pVariable_58 : decode cX1_pVariable 58 = .ok (.iinc 4 1, 3) := dk_132 4 1 (dk_at dksX1_pVariable_2 11 rfl rfl)
theorem dX1_pVariable_61 : decode cX1_pVariable 61 = .ok (.goto (-53), 3) := dk_167 255 203 (dk_at dksX1_pVariable_2 14 rfl rfl)
theorem dX1_pVariable_64 : decode cX1_pVariable 64 = .ok (.bipush (-9), 2) := dk_16 247 (dk_at dksX1_pVariable_2 17 rfl rfl)
theorem dX1_pVariable_66 : decode cX1_pVariable 66 = .ok (.ireturn, 1) := dk_172 (dk_at dksX1_pVariable_2 19 rfl rfl)
abbrev cX1_lay : ByteArray := prog_20_method_46_code
def yX1_lay : MethodName := ⟨RX1, "lay", "(IJIIIII)V"⟩
def dkwX1_lay_4 : List UInt8 := [181, 1, 129, 177]
abbrev dktX1_lay_4 : List UInt8 := dkwX1_lay_4 ++ []
def dkwX1_lay_3 : List UInt8 := [180, 1, 129, 21, 7, 79, 42, 180, 0, 145, 42, 180, 1, 129, 21, 8, 79, 42, 89, 180, 1, 129, 4, 96]
abbrev dktX1_lay_3 : List UInt8 := dkwX1_lay_3 ++ dktX1_lay_4
def dkwX1_lay_2 : List UInt8 := [180, 1, 129, 21, 5, 79, 42, 180, 0, 139, 42, 180, 1, 129, 21, 6, 79, 42, 180, 0, 142, 42]
abbrev dktX1_lay_2 : List UInt8 := dkwX1_lay_2 ++ dktX1_lay_3
def dkwX1_lay_1 : List UInt8 := [42, 180, 1, 129, 32, 80, 42, 180, 0, 133, 42, 180, 1, 129, 21, 4, 79, 42, 180, 0, 136, 42]
abbrev dktX1_lay_1 : List UInt8 := dkwX1_lay_1 ++ dktX1_lay_2
def dkwX1_lay_0 : List UInt8 := [42, 180, 1, 129, 17, 1, 244, 162, 0, 78, 42, 180, 0, 127, 42, 180, 1, 129, 27, 79, 42, 180, 0, 130]
abbrev dktX1_lay_0 : List UInt8 := dkwX1_lay_0 ++ dktX1_lay_1
theorem dksX1_lay_0 : cX1_lay.data.toList.drop 0 = dktX1_lay_0 := by decide +kernel
theorem dksX1_lay_1 : cX1_lay.data.toList.drop 24 = dktX1_lay_1 := dk_seg dksX1_lay_0 24 rfl rfl
theorem dksX1_lay_2 : cX1_lay.data.toList.drop 46 = dktX1_lay_2 := dk_seg dksX1_lay_1 22 rfl rfl
theorem dksX1_lay_3 : cX1_lay.data.toList.drop 68 = dktX1_lay_3 := dk_seg dksX1_lay_2 22 rfl rfl
theorem dksX1_lay_4 : cX1_lay.data.toList.drop 92 = dktX1_lay_4 := dk_seg dksX1_lay_3 24 rfl rfl
theorem dX1_lay_0 : decode cX1_lay 0 = .ok (.aload_n 0, 1) := dk_42 (dk_at dksX1_lay_0 0 rfl rfl)
theorem dX1_lay_1 : decode cX1_lay 1 = .ok (.getfield 385, 3) := dk_180 1 129 (dk_at dksX1_lay_0 1 rfl rfl)
theorem dX1_lay_4 : decode cX1_lay 4 = .ok (.sipush 500, 3) := dk_17 1 244 (dk_at dksX1_lay_0 4 rfl rfl)
theorem dX1_lay_7 : decode cX1_lay 7 = .ok (.if_icmp .ge 78, 3) := dk_162 0 78 (dk_at dksX1_lay_0 7 rfl rfl)
theorem dX1_lay_10 : decode cX1_lay 10 = .ok (.aload_n 0, 1) := dk_42 (dk_at dksX1_lay_0 10 rfl rfl)
theorem dX1_lay_11 : decode cX1_lay 11 = .ok (.getfield 127, 3) := dk_180 0 127 (dk_at dksX1_lay_0 11 rfl rfl)
theorem dX1_lay_14 : decode cX1_lay 14 = .ok (.aload_n 0, 1) := dk_42 (dk_at dksX1_lay_0 14 rfl rfl)
theorem dX1_lay_15 : decode cX1_lay 15 = .ok (.getfield 385, 3) := dk_180 1 129 (dk_at dksX1_lay_0 15 rfl rfl)
theorem dX1_lay_18 : decode cX1_lay 18 = .ok (.iload_n 1, 1) := dk_27 (dk_at dksX1_lay_0 18 rfl rfl)
theorem dX1_lay_19 : decode cX1_lay 19 = .ok (.iastore, 1) := dk_79 (dk_at dksX1_lay_0 19 rfl rfl)
theorem dX1_lay_20 : decode cX1_lay 20 = .ok (.aload_n 0, 1) := dk_42 (dk_at dksX1_lay_0 20 rfl rfl)
theorem dX1_lay_21 : decode cX1_lay 21 = .ok (.getfield 130, 3) := dk_180 0 130 (dk_at dksX1_lay_0 21 rfl rfl)
theorem dX1_lay_24 : decode cX1_lay 24 = .ok (.aload_n 0, 1) := dk_42 (dk_at dksX1_lay_1 0 rfl rfl)
theorem dX1_lay_25 : decode cX1_lay 25 = .ok (.getfield 385, 3) := dk_180 1 129 (dk_at dksX1_lay_1 1 rfl rfl)
theorem dX1_lay_28 : decode cX1_lay 28 = .ok (.lload_n 2, 1) := dk_32 (dk_at dksX1_lay_1 4 rfl rfl)
theorem dX1_lay_29 : decode cX1_lay 29 = .ok (.lastore, 1) := dk_80 (dk_at dksX1_lay_1 5 rfl rfl)
theorem dX1_lay_30 : decode cX1_lay 30 = .ok (.aload_n 0, 1) := dk_42 (dk_at dksX1_lay_1 6 rfl rfl)
theorem dX1_lay_31 : decode cX1_lay 31 = .ok (.getfield 133, 3) := dk_180 0 133 (dk_at dksX1_lay_1 7 rfl rfl)
theorem dX1_lay_34 : decode cX1_lay 34 = .ok (.aload_n 0, 1) := dk_42 (dk_at dksX1_lay_1 10 rfl rfl)
theorem dX1_lay_35 : decode cX1_lay 35 = .ok (.getfield 385, 3) := dk_180 1 129 (dk_at dksX1_lay_1 11 rfl rfl)
theorem dX1_lay_38 : decode cX1_lay 38 = .ok (.iload 4, 2) := dk_21 4 (dk_at dksX1_lay_1 14 rfl rfl)
theorem dX1_lay_40 : decode cX1_lay 40 = .ok (.iastore, 1) := dk_79 (dk_at dksX1_lay_1 16 rfl rfl)
theorem dX1_lay_41 : decode cX1_lay 41 = .ok (.aload_n 0, 1) := dk_42 (dk_at dksX1_lay_1 17 rfl rfl)
theorem dX1_lay_42 : decode cX1_lay 42 = .ok (.getfield 136, 3) := dk_180 0 136 (dk_at dksX1_lay_1 18 rfl rfl)
theorem dX1_lay_45 : decode cX1_lay 45 = .ok (.aload_n 0, 1) := dk_42 (dk_at dksX1_lay_1 21 rfl rfl)
theorem dX1_lay_46 : decode cX1_lay 46 = .ok (.getfield 385, 3) := dk_180 1 129 (dk_at dksX1_lay_2 0 rfl rfl)
theorem dX1_lay_49 : decode cX1_lay 49 = .ok (.iload 5, 2) := dk_21 5 (dk_at dksX1_lay_2 3 rfl rfl)
theorem dX1_lay_51 : decode cX1_lay 51 = .ok (.iastore, 1) := dk_79 (dk_at dksX1_lay_2 5 rfl rfl)
theorem dX1_lay_52 : decode cX1_lay 52 = .ok (.aload_n 0, 1) := dk_42 (dk_at dksX1_lay_2 6 rfl rfl)
theorem dX1_lay_53 : decode cX1_lay 53 = .ok (.getfield 139, 3) := dk_180 0 139 (dk_at dksX1_lay_2 7 rfl rfl)
theorem dX1_lay_56 : decode cX1_lay 56 = .ok (.aload_n 0, 1) := dk_42 (dk_at dksX1_lay_2 10 rfl rfl)
theorem dX1_lay_57 : decode cX1_lay 57 = .ok (.getfield 385, 3) := dk_180 1 129 (dk_at dksX1_lay_2 11 rfl rfl)
theorem dX1_lay_60 : decode cX1_lay 60 = .ok (.iload 6, 2) := dk_21 6 (dk_at dksX1_lay_2 14 rfl rfl)
theorem dX1_lay_62 : decode cX1_lay 62 = .ok (.iastore, 1) := dk_79 (dk_at dksX1_lay_2 16 rfl rfl)
theorem dX1_lay_63 : decode cX1_lay 63 = .ok (.aload_n 0, 1) := dk_42 (dk_at dksX1_lay_2 17 rfl rfl)
theorem dX1_lay_64 : decode cX1_lay 64 = .ok (.getfield 142, 3) := dk_180 0 142 (dk_at dksX1_lay_2 18 rfl rfl)
theorem dX1_lay_67 : decode cX1_lay 67 = .ok (.aload_n 0, 1) := dk_42 (dk_at dksX1_lay_2 21 rfl rfl)
theorem dX1_lay_68 : decode cX1_lay 68 = .ok (.getfield 385, 3) := dk_180 1 129 (dk_at dksX1_lay_3 0 rfl rfl)
theorem dX1_lay_71 : decode cX1_lay 71 = .ok (.iload 7, 2) := dk_21 7 (dk_at dksX1_lay_3 3 rfl rfl)
theorem dX1_lay_73 : decode cX1_lay 73 = .ok (.iastore, 1) := dk_79 (dk_at dksX1_lay_3 5 rfl rfl)
theorem dX1_lay_74 : decode cX1_lay 74 = .ok (.aload_n 0, 1) := dk_42 (dk_at dksX1_lay_3 6 rfl rfl)
theorem dX1_lay_75 : decode cX1_lay 75 = .ok (.getfield 145, 3) := dk_180 0 145 (dk_at dksX1_lay_3 7 rfl rfl)
theorem dX1_lay_78 : decode cX1_lay 78 = .ok (.aload_n 0, 1) := dk_42 (dk_at dksX1_lay_3 10 rfl rfl)
theorem dX1_lay_79 : decode cX1_lay 79 = .ok (.getfield 385, 3) := dk_180 1 129 (dk_at dksX1_lay_3 11 rfl rfl)
theorem dX1_lay_82 : decode cX1_lay 82 = .ok (.iload 8, 2) := dk_21 8 (dk_at dksX1_lay_3 14 rfl rfl)
theorem dX1_lay_84 : decode cX1_lay 84 = .ok (.iastore, 1) := dk_79 (dk_at dksX1_lay_3 16 rfl rfl)
theorem dX1_lay_85 : decode cX1_lay 85 = .ok (.aload_n 0, 1) := dk_42 (dk_at dksX1_lay_3 17 rfl rfl)
theorem dX1_lay_86 : decode cX1_lay 86 = .ok (.dup, 1) := dk_89 (dk_at dksX1_lay_3 18 rfl rfl)
theorem dX1_lay_87 : decode cX1_lay 87 = .ok (.getfield 385, 3) := dk_180 1 129 (dk_at dksX1_lay_3 19 rfl rfl)
theorem dX1_lay_90 : decode cX1_lay 90 = .ok (.iconst 1, 1) := dk_4 (dk_at dksX1_lay_3 22 rfl rfl)
theorem dX1_lay_91 : decode cX1_lay 91 = .ok (.iadd, 1) := dk_96 (dk_at dksX1_lay_3 23 rfl rfl)
theorem dX1_lay_92 : decode cX1_lay 92 = .ok (.putfield 385, 3) := dk_181 1 129 (dk_at dksX1_lay_4 0 rfl rfl)
theorem dX1_lay_95 : decode cX1_lay 95 = .ok (.return_, 1) := dk_177 (dk_at dksX1_lay_4 3 rfl rfl)
abbrev cX1_layCopies : ByteArray := prog_20_method_47_code
def yX1_layCopies : MethodName := ⟨RX1, "layCopies", "(II)I"⟩
def dkwX1_layCopies_4 : List UInt8 := [21, 5, 46, 42, 180, 0, 106, 21, 5, 46, 182, 1, 132, 132, 5, 1, 167, 255, 155, 29, 172]
abbrev dktX1_layCopies_4 : List UInt8 := dkwX1_layCopies_4 ++ []
def dkwX1_layCopies_3 : List UInt8 := [180, 0, 94, 21, 5, 46, 42, 180, 0, 97, 21, 5, 46, 42, 180, 0, 100, 21, 5, 46, 42, 180, 0, 103]
abbrev dktX1_layCopies_3 : List UInt8 := dkwX1_layCopies_3 ++ dktX1_layCopies_4
def dkwX1_layCopies_2 : List UInt8 := [167, 0, 5, 21, 4, 54, 4, 42, 42, 180, 0, 88, 21, 5, 46, 42, 180, 0, 91, 21, 5, 47, 42]
abbrev dktX1_layCopies_2 : List UInt8 := dkwX1_layCopies_2 ++ dktX1_layCopies_3
def dkwX1_layCopies_1 : List UInt8 := [167, 0, 4, 3, 96, 62, 21, 5, 21, 4, 160, 0, 16, 21, 5, 42, 180, 0, 103, 21, 5, 46, 96]
abbrev dktX1_layCopies_1 : List UInt8 := dkwX1_layCopies_1 ++ dktX1_layCopies_2
def dkwX1_layCopies_0 : List UInt8 := [3, 62, 27, 54, 4, 27, 54, 5, 21, 5, 28, 162, 0, 101, 29, 21, 5, 21, 4, 160, 0, 7, 4]
abbrev dktX1_layCopies_0 : List UInt8 := dkwX1_layCopies_0 ++ dktX1_layCopies_1
theorem dksX1_layCopies_0 : cX1_layCopies.data.toList.drop 0 = dktX1_layCopies_0 := by decide +kernel
theorem dksX1_layCopies_1 : cX1_layCopies.data.toList.drop 23 = dktX1_layCopies_1 := dk_seg dksX1_layCopies_0 23 rfl rfl
theorem dksX1_layCopies_2 : cX1_layCopies.data.toList.drop 46 = dktX1_layCopies_2 := dk_seg dksX1_layCopies_1 23 rfl rfl
theorem dksX1_layCopies_3 : cX1_layCopies.data.toList.drop 69 = dktX1_layCopies_3 := dk_seg dksX1_layCopies_2 23 rfl rfl
theorem dksX1_layCopies_4 : cX1_layCopies.data.toList.drop 93 = dktX1_layCopies_4 := dk_seg dksX1_layCopies_3 24 rfl rfl
theorem dX1_layCopies_0 : decode cX1_layCopies 0 = .ok (.iconst 0, 1) := dk_3 (dk_at dksX1_layCopies_0 0 rfl rfl)
theorem dX1_layCopies_1 : decode cX1_layCopies 1 = .ok (.istore_n 3, 1) := dk_62 (dk_at dksX1_layCopies_0 1 rfl rfl)
theorem dX1_layCopies_2 : decode cX1_layCopies 2 = .ok (.iload_n 1, 1) := dk_27 (dk_at dksX1_layCopies_0 2 rfl rfl)
theorem dX1_layCopies_3 : decode cX1_layCopies 3 = .ok (.istore 4, 2) := dk_54 4 (dk_at dksX1_layCopies_0 3 rfl rfl)
theorem dX1_layCopies_5 : decode cX1_layCopies 5 = .ok (.iload_n 1, 1) := dk_27 (dk_at dksX1_layCopies_0 5 rfl rfl)
theorem dX1_layCopies_6 : decode cX1_layCopies 6 = .ok (.istore 5, 2) := dk_54 5 (dk_at dksX1_layCopies_0 6 rfl rfl)
theorem dX1_layCopies_8 : decode cX1_layCopies 8 = .ok (.iload 5, 2) := dk_21 5 (dk_at dksX1_layCopies_0 8 rfl rfl)
theorem dX1_layCopies_10 : decode cX1_layCopies 10 = .ok (.iload_n 2, 1) := dk_28 (dk_at dksX1_layCopies_0 10 rfl rfl)
theorem dX1_layCopies_11 : decode cX1_layCopies 11 = .ok (.if_icmp .ge 101, 3) := dk_162 0 101 (dk_at dksX1_layCopies_0 11 rfl rfl)
theorem dX1_layCopies_14 : decode cX1_layCopies 14 = .ok (.iload_n 3, 1) := dk_29 (dk_at dksX1_layCopies_0 14 rfl rfl)
theorem dX1_layCopies_15 : decode cX1_layCopies 15 = .ok (.iload 5, 2) := dk_21 5 (dk_at dksX1_layCopies_0 15 rfl rfl)
theorem dX1_layCopies_17 : decode cX1_layCopies 17 = .ok (.iload 4, 2) := dk_21 4 (dk_at dksX1_layCopies_0 17 rfl rfl)
theorem dX1_layCopies_19 : decode cX1_layCopies 19 = .ok (.if_icmp .ne 7, 3) := dk_160 0 7 (dk_at dksX1_layCopies_0 19 rfl rfl)
theorem dX1_layCopies_22 : decode cX1_layCopies 22 = .ok (.iconst 1, 1) := dk_4 (dk_at dksX1_layCopies_0 22 rfl rfl)
theorem dX1_layCopies_23 : decode cX1_layCopies 23 = .ok (.goto 4, 3) := dk_167 0 4 (dk_at dksX1_layCopies_1 0 rfl rfl)
theorem dX1_layCopies_26 : decode cX1_layCopies 26 = .ok (.iconst 0, 1) := dk_3 (dk_at dksX1_layCopies_1 3 rfl rfl)
theorem dX1_layCopies_27 : decode cX1_layCopies 27 = .ok (.iadd, 1) := dk_96 (dk_at dksX1_layCopies_1 4 rfl rfl)
theorem dX1_layCopies_28 : decode cX1_layCopies 28 = .ok (.istore_n 3, 1) := dk_62 (dk_at dksX1_layCopies_1 5 rfl rfl)
theorem dX1_layCopies_29 : decode cX1_layCopies 29 = .ok (.iload 5, 2) := dk_21 5 (dk_at dksX1_layCopies_1 6 rfl rfl)
theorem dX1_layCopies_31 : decode cX1_layCopies 31 = .ok (.iload 4, 2) := dk_21 4 (dk_at dksX1_layCopies_1 8 rfl rfl)
theorem dX1_layCopies_33 : decode cX1_layCopies 33 = .ok (.if_icmp .ne 16, 3) := dk_160 0 16 (dk_at dksX1_layCopies_1 10 rfl rfl)
theorem dX1_layCopies_36 : decode cX1_layCopies 36 = .ok (.iload 5, 2) := dk_21 5 (dk_at dksX1_layCopies_1 13 rfl rfl)
theorem dX1_layCopies_38 : decode cX1_layCopies 38 = .ok (.aload_n 0, 1) := dk_42 (dk_at dksX1_layCopies_1 15 rfl rfl)
theorem dX1_layCopies_39 : decode cX1_layCopies 39 = .ok (.getfield 103, 3) := dk_180 0 103 (dk_at dksX1_layCopies_1 16 rfl rfl)
theorem dX1_layCopies_42 : decode cX1_layCopies 42 = .ok (.iload 5, 2) := dk_21 5 (dk_at dksX1_layCopies_1 19 rfl rfl)
theorem dX1_layCopies_44 : decode cX1_layCopies 44 = .ok (.iaload, 1) := dk_46 (dk_at dksX1_layCopies_1 21 rfl rfl)
theorem dX1_layCopies_45 : decode cX1_layCopies 45 = .ok (.iadd, 1) := dk_96 (dk_at dksX1_layCopies_1 22 rfl rfl)
theorem dX1_layCopies_46 : decode cX1_layCopies 46 = .ok (.goto 5, 3) := dk_167 0 5 (dk_at dksX1_layCopies_2 0 rfl rfl)
theorem dX1_layCopies_49 : decode cX1_layCopies 49 = .ok (.iload 4, 2) := dk_21 4 (dk_at dksX1_layCopies_2 3 rfl rfl)
theorem dX1_layCopies_51 : decode cX1_layCopies 51 = .ok (.istore 4, 2) := dk_54 4 (dk_at dksX1_layCopies_2 5 rfl rfl)
theorem dX1_layCopies_53 : decode cX1_layCopies 53 = .ok (.aload_n 0, 1) := dk_42 (dk_at dksX1_layCopies_2 7 rfl rfl)
theorem dX1_layCopies_54 : decode cX1_layCopies 54 = .ok (.aload_n 0, 1) := dk_42 (dk_at dksX1_layCopies_2 8 rfl rfl)
theorem dX1_layCopies_55 : decode cX1_layCopies 55 = .ok (.getfield 88, 3) := dk_180 0 88 (dk_at dksX1_layCopies_2 9 rfl rfl)
theorem dX1_layCopies_58 : decode cX1_layCopies 58 = .ok (.iload 5, 2) := dk_21 5 (dk_at dksX1_layCopies_2 12 rfl rfl)
theorem dX1_layCopies_60 : decode cX1_layCopies 60 = .ok (.iaload, 1) := dk_46 (dk_at dksX1_layCopies_2 14 rfl rfl)
theorem dX1_layCopies_61 : decode cX1_layCopies 61 = .ok (.aload_n 0, 1) := dk_42 (dk_at dksX1_layCopies_2 15 rfl rfl)
theorem dX1_layCopies_62 : decode cX1_layCopies 62 = .ok (.getfield 91, 3) := dk_180 0 91 (dk_at dksX1_layCopies_2 16 rfl rfl)
theorem dX1_layCopies_65 : decode cX1_layCopies 65 = .ok (.iload 5, 2) := dk_21 5 (dk_at dksX1_layCopies_2 19 rfl rfl)
theorem dX1_layCopies_67 : decode cX1_layCopies 67 = .ok (.laload, 1) := dk_47 (dk_at dksX1_layCopies_2 21 rfl rfl)
theorem dX1_layCopies_68 : decode cX1_layCopies 68 = .ok (.aload_n 0, 1) := dk_42 (dk_at dksX1_layCopies_2 22 rfl rfl)
theorem dX1_layCopies_69 : decode cX1_layCopies 69 = .ok (.getfield 94, 3) := dk_180 0 94 (dk_at dksX1_layCopies_3 0 rfl rfl)
theorem dX1_layCopies_72 : decode cX1_layCopies 72 = .ok (.iload 5, 2) := dk_21 5 (dk_at dksX1_layCopies_3 3 rfl rfl)
theorem dX1_layCopies_74 : decode cX1_layCopies 74 = .ok (.iaload, 1) := dk_46 (dk_at dksX1_layCopies_3 5 rfl rfl)
theorem dX1_layCopies_75 : decode cX1_layCopies 75 = .ok (.aload_n 0, 1) := dk_42 (dk_at dksX1_layCopies_3 6 rfl rfl)
theorem dX1_layCopies_76 : decode cX1_layCopies 76 = .ok (.getfield 97, 3) := dk_180 0 97 (dk_at dksX1_layCopies_3 7 rfl rfl)
theorem dX1_layCopies_79 : decode cX1_layCopies 79 = .ok (.iload 5, 2) := dk_21 5 (dk_at dksX1_layCopies_3 10 rfl rfl)
theorem dX1_layCopies_81 : decode cX1_layCopies 81 = .ok (.iaload, 1) := dk_46 (dk_at dksX1_layCopies_3 12 rfl rfl)
theorem dX1_layCopies_82 : decode cX1_layCopies 82 = .ok (.aload_n 0, 1) := dk_42 (dk_at dksX1_layCopies_3 13 rfl rfl)
theorem dX1_layCopies_83 : decode cX1_layCopies 83 = .ok (.getfield 100, 3) := dk_180 0 100 (dk_at dksX1_layCopies_3 14 rfl rfl)
theorem dX1_layCopies_86 : decode cX1_layCopies 86 = .ok (.iload 5, 2) := dk_21 5 (dk_at dksX1_layCopies_3 17 rfl rfl)
theorem dX1_layCopies_88 : decode cX1_layCopies 88 = .ok (.iaload, 1) := dk_46 (dk_at dksX1_layCopies_3 19 rfl rfl)
theorem dX1_layCopies_89 : decode cX1_layCopies 89 = .ok (.aload_n 0, 1) := dk_42 (dk_at dksX1_layCopies_3 20 rfl rfl)
theorem dX1_layCopies_90 : decode cX1_layCopies 90 = .ok (.getfield 103, 3) := dk_180 0 103 (dk_at dksX1_layCopies_3 21 rfl rfl)
theorem dX1_layCopies_93 : decode cX1_layCopies 93 = .ok (.iload 5, 2) := dk_21 5 (dk_at dksX1_layCopies_4 0 rfl rfl)
theorem dX1_layCopies_95 : decode cX1_layCopies 95 = .ok (.iaload, 1) := dk_46 (dk_at dksX1_layCopies_4 2 rfl rfl)
theorem dX1_layCopies_96 : decode cX1_layCopies 96 = .ok (.aload_n 0, 1) := dk_42 (dk_at dksX1_layCopies_4 3 rfl rfl)
theorem dX1_layCopies_97 : decode cX1_layCopies 97 = .ok (.getfield 106, 3) := dk_180 0 106 (dk_at dksX1_layCopies_4 4 rfl rfl)
theorem dX1_layCopies_100 : decode cX1_layCopies 100 = .ok (.iload 5, 2) := dk_21 5 (dk_at dksX1_layCopies_4 7 rfl rfl)
theorem dX1_layCopies_102 : decode cX1_layCopies 102 = .ok (.iaload, 1) := dk_46 (dk_at dksX1_layCopies_4 9 rfl rfl)
theorem dX1_layCopies_103 : decode cX1_layCopies 103 = .ok (.invokevirtual 388, 3) := dk_182 1 132 (dk_at dksX1_layCopies_4 10 rfl rfl)
theorem dX1_layCopies_106 : decode cX1_layCopies 106 = .ok (.iinc 5 1, 3) := dk_132 5 1 (dk_at dksX1_layCopies_4 13 rfl rfl)
theorem dX1_layCopies_109 : decode cX1_layCopies 109 = .ok (.goto (-101), 3) := dk_167 255 155 (dk_at dksX1_layCopies_4 16 rfl rfl)
theorem dX1_layCopies_112 : decode cX1_layCopies 112 = .ok (.iload_n 3, 1) := dk_29 (dk_at dksX1_layCopies_4 19 rfl rfl)
theorem dX1_layCopies_113 : decode cX1_layCopies 113 = .ok (.ireturn, 1) := dk_172 (dk_at dksX1_layCopies_4 20 rfl rfl)
abbrev cX1_endList : ByteArray := prog_20_method_48_code
def yX1_endList : MethodName := ⟨RX1, "endList", "(I)V"⟩
def dkwX1_endList_5 : List UInt8 := [177]
abbrev dktX1_endList_5 : List UInt8 := dkwX1_endList_5 ++ []
def dkwX1_endList_4 : List UInt8 := [27, 46, 28, 28, 153, 0, 14, 42, 180, 0, 130, 27, 4, 96, 47, 167, 0, 4, 9, 29, 184, 1, 62, 79]
abbrev dktX1_endList_4 : List UInt8 := dkwX1_endList_4 ++ dktX1_endList_5
def dkwX1_endList_3 : List UInt8 := [4, 96, 46, 96, 46, 4, 160, 0, 7, 4, 167, 0, 4, 3, 62, 42, 180, 0, 127, 27, 42, 180, 0, 145]
abbrev dktX1_endList_3 : List UInt8 := dkwX1_endList_3 ++ dktX1_endList_4
def dkwX1_endList_2 : List UInt8 := [3, 61, 42, 180, 0, 145, 27, 46, 4, 164, 0, 28, 42, 180, 0, 127, 27, 4, 96, 42, 180, 0, 142, 27]
abbrev dktX1_endList_2 : List UInt8 := dkwX1_endList_2 ++ dktX1_endList_3
def dkwX1_endList_1 : List UInt8 := [180, 0, 145, 27, 46, 158, 0, 19, 42, 180, 0, 127, 27, 4, 96, 46, 4, 160, 0, 7, 4, 167, 0, 4]
abbrev dktX1_endList_1 : List UInt8 := dkwX1_endList_1 ++ dktX1_endList_2
def dkwX1_endList_0 : List UInt8 := [42, 180, 1, 129, 17, 1, 244, 164, 0, 4, 177, 42, 180, 0, 142, 27, 42, 180, 1, 129, 27, 100, 79, 42]
abbrev dktX1_endList_0 : List UInt8 := dkwX1_endList_0 ++ dktX1_endList_1
theorem dksX1_endList_0 : cX1_endList.data.toList.drop 0 = dktX1_endList_0 := by decide +kernel
theorem dksX1_endList_1 : cX1_endList.data.toList.drop 24 = dktX1_endList_1 := dk_seg dksX1_endList_0 24 rfl rfl
theorem dksX1_endList_2 : cX1_endList.data.toList.drop 48 = dktX1_endList_2 := dk_seg dksX1_endList_1 24 rfl rfl
theorem dksX1_endList_3 : cX1_endList.data.toList.drop 72 = dktX1_endList_3 := dk_seg dksX1_endList_2 24 rfl rfl
theorem dksX1_endList_4 : cX1_endList.data.toList.drop 96 = dktX1_endList_4 := dk_seg dksX1_endList_3 24 rfl rfl
theorem dksX1_endList_5 : cX1_endList.data.toList.drop 120 = dktX1_endList_5 := dk_seg dksX1_endList_4 24 rfl rfl
theorem dX1_endList_0 : decode cX1_endList 0 = .ok (.aload_n 0, 1) := dk_42 (dk_at dksX1_endList_0 0 rfl rfl)
theorem dX1_endList_1 : decode cX1_endList 1 = .ok (.getfield 385, 3) := dk_180 1 129 (dk_at dksX1_endList_0 1 rfl rfl)
theorem dX1_endList_4 : decode cX1_endList 4 = .ok (.sipush 500, 3) := dk_17 1 244 (dk_at dksX1_endList_0 4 rfl rfl)
theorem dX1_endList_7 : decode cX1_endList 7 = .ok (.if_icmp .le 4, 3) := dk_164 0 4 (dk_at dksX1_endList_0 7 rfl rfl)
theorem dX1_endList_10 : decode cX1_endList 10 = .ok (.return_, 1) := dk_177 (dk_at dksX1_endList_0 10 rfl rfl)
theorem dX1_endList_11 : decode cX1_endList 11 = .ok (.aload_n 0, 1) := dk_42 (dk_at dksX1_endList_0 11 rfl rfl)
theorem dX1_endList_12 : decode cX1_endList 12 = .ok (.getfield 142, 3) := dk_180 0 142 (dk_at dksX1_endList_0 12 rfl rfl)
theorem dX1_endList_15 : decode cX1_endList 15 = .ok (.iload_n 1, 1) := dk_27 (dk_at dksX1_endList_0 15 rfl rfl)
theorem dX1_endList_16 : decode cX1_endList 16 = .ok (.aload_n 0, 1) := dk_42 (dk_at dksX1_endList_0 16 rfl rfl)
theorem dX1_endList_17 : decode cX1_endList 17 = .ok (.getfield 385, 3) := dk_180 1 129 (dk_at dksX1_endList_0 17 rfl rfl)
theorem dX1_endList_20 : decode cX1_endList 20 = .ok (.iload_n 1, 1) := dk_27 (dk_at dksX1_endList_0 20 rfl rfl)
theorem dX1_endList_21 : decode cX1_endList 21 = .ok (.isub, 1) := dk_100 (dk_at dksX1_endList_0 21 rfl rfl)
theorem dX1_endList_22 : decode cX1_endList 22 = .ok (.iastore, 1) := dk_79 (dk_at dksX1_endList_0 22 rfl rfl)
theorem dX1_endList_23 : decode cX1_endList 23 = .ok (.aload_n 0, 1) := dk_42 (dk_at dksX1_endList_0 23 rfl rfl)
theorem dX1_endList_24 : decode cX1_endList 24 = .ok (.getfield 145, 3) := dk_180 0 145 (dk_at dksX1_endList_1 0 rfl rfl)
theorem dX1_endList_27 : decode cX1_endList 27 = .ok (.iload_n 1, 1) := dk_27 (dk_at dksX1_endList_1 3 rfl rfl)
theorem dX1_endList_28 : decode cX1_endList 28 = .ok (.iaload, 1) := dk_46 (dk_at dksX1_endList_1 4 rfl rfl)
theorem dX1_endList_29 : decode cX1_endList 29 = .ok (.ifCond .le 19, 3) := dk_158 0 19 (dk_at dksX1_endList_1 5 rfl rfl)
theorem dX1_endList_32 : decode cX1_endList 32 = .ok (.aload_n 0, 1) := dk_42 (dk_at dksX1_endList_1 8 rfl rfl)
theorem dX1_endList_33 : decode cX1_endList 33 = .ok (.getfield 127, 3) := dk_180 0 127 (dk_at dksX1_endList_1 9 rfl rfl)
theorem dX1_endList_36 : decode cX1_endList 36 = .ok (.iload_n 1, 1) := dk_27 (dk_at dksX1_endList_1 12 rfl rfl)
theorem dX1_endList_37 : decode cX1_endList 37 = .ok (.iconst 1, 1) := dk_4 (dk_at dksX1_endList_1 13 rfl rfl)
theorem dX1_endList_38 : decode cX1_endList 38 = .ok (.iadd, 1) := dk_96 (dk_at dksX1_endList_1 14 rfl rfl)
theorem dX1_endList_39 : decode cX1_endList 39 = .ok (.iaload, 1) := dk_46 (dk_at dksX1_endList_1 15 rfl rfl)
theorem dX1_endList_40 : decode cX1_endList 40 = .ok (.iconst 1, 1) := dk_4 (dk_at dksX1_endList_1 16 rfl rfl)
theorem dX1_endList_41 : decode cX1_endList 41 = .ok (.if_icmp .ne 7, 3) := dk_160 0 7 (dk_at dksX1_endList_1 17 rfl rfl)
theorem dX1_endList_44 : decode cX1_endList 44 = .ok (.iconst 1, 1) := dk_4 (dk_at dksX1_endList_1 20 rfl rfl)
theorem dX1_endList_45 : decode cX1_endList 45 = .ok (.goto 4, 3) := dk_167 0 4 (dk_at dksX1_endList_1 21 rfl rfl)
theorem dX1_endList_48 : decode cX1_endList 48 = .ok (.iconst 0, 1) := dk_3 (dk_at dksX1_endList_2 0 rfl rfl)
theorem dX1_endList_49 : decode cX1_endList 49 = .ok (.istore_n 2, 1) := dk_61 (dk_at dksX1_endList_2 1 rfl rfl)
theorem dX1_endList_50 : decode cX1_endList 50 = .ok (.aload_n 0, 1) := dk_42 (dk_at dksX1_endList_2 2 rfl rfl)
theorem dX1_endList_51 : decode cX1_endList 51 = .ok (.getfield 145, 3) := dk_180 0 145 (dk_at dksX1_endList_2 3 rfl rfl)
theorem dX1_endList_54 : decode cX1_endList 54 = .ok (.iload_n 1, 1) := dk_27 (dk_at dksX1_endList_2 6 rfl rfl)
theorem dX1_endList_55 : decode cX1_endList 55 = .ok (.iaload, 1) := dk_46 (dk_at dksX1_endList_2 7 rfl rfl)
theorem dX1_endList_56 : decode cX1_endList 56 = .ok (.iconst 1, 1) := dk_4 (dk_at dksX1_endList_2 8 rfl rfl)
theorem dX1_endList_57 : decode cX1_endList 57 = .ok (.if_icmp .le 28, 3) := dk_164 0 28 (dk_at dksX1_endList_2 9 rfl rfl)
theorem dX1_endList_60 : decode cX1_endList 60 = .ok (.aload_n 0, 1) := dk_42 (dk_at dksX1_endList_2 12 rfl rfl)
theorem dX1_endList_61 : decode cX1_endList 61 = .ok (.getfield 127, 3) := dk_180 0 127 (dk_at dksX1_endList_2 13 rfl rfl)
theorem dX1_endList_64 : decode cX1_endList 64 = .ok (.iload_n 1, 1) := dk_27 (dk_at dksX1_endList_2 16 rfl rfl)
theorem dX1_endList_65 : decode cX1_endList 65 = .ok (.iconst 1, 1) := dk_4 (dk_at dksX1_endList_2 17 rfl rfl)
theorem dX1_endList_66 : decode cX1_endList 66 = .ok (.iadd, 1) := dk_96 (dk_at dksX1_endList_2 18 rfl rfl)
theorem dX1_endList_67 : decode cX1_endList 67 = .ok (.aload_n 0, 1) := dk_42 (dk_at dksX1_endList_2 19 rfl rfl)
theorem dX1_endList_68 : decode cX1_endList 68 = .ok (.getfield 142, 3) := dk_180 0 142 (dk_at dksX1_endList_2 20 rfl rfl)
theorem dX1_endList_71 : decode cX1_endList 71 = .ok (.iload_n 1, 1) := dk_27 (dk_at dksX1_endList_2 23 rfl rfl)
theorem dX1_endList_72 : decode cX1_endList 72 = .ok (.iconst 1, 1) := dk_4 (dk_at dksX1_endList_3 0 rfl rfl)
theorem dX1_endList_73 : decode cX1_endList 73 = .ok (.iadd, 1) := dk_96 (dk_at dksX1_endList_3 1 rfl rfl)
theorem dX1_endList_74 : decode cX1_endList 74 = .ok (.iaload, 1) := dk_46 (dk_at dksX1_endList_3 2 rfl rfl)
theorem dX1_endList_75 : decode cX1_endList 75 = .ok (.iadd, 1) := dk_96 (dk_at dksX1_endList_3 3 rfl rfl)
theorem dX1_endList_76 : decode cX1_endList 76 = .ok (.iaload, 1) := dk_46 (dk_at dksX1_endList_3 4 rfl rfl)
theorem dX1_endList_77 : decode cX1_endList 77 = .ok (.iconst 1, 1) := dk_4 (dk_at dksX1_endList_3 5 rfl rfl)
theorem dX1_endList_78 : decode cX1_endList 78 = .ok (.if_icmp .ne 7, 3) := dk_160 0 7 (dk_at dksX1_endList_3 6 rfl rfl)
theorem dX1_endList_81 : decode cX1_endList 81 = .ok (.iconst 1, 1) := dk_4 (dk_at dksX1_endList_3 9 rfl rfl)
theorem dX1_endList_82 : decode cX1_endList 82 = .ok (.goto 4, 3) := dk_167 0 4 (dk_at dksX1_endList_3 10 rfl rfl)
theorem dX1_endList_85 : decode cX1_endList 85 = .ok (.iconst 0, 1) := dk_3 (dk_at dksX1_endList_3 13 rfl rfl)
theorem dX1_endList_86 : decode cX1_endList 86 = .ok (.istore_n 3, 1) := dk_62 (dk_at dksX1_endList_3 14 rfl rfl)
theorem dX1_endList_87 : decode cX1_endList 87 = .ok (.aload_n 0, 1) := dk_42 (dk_at dksX1_endList_3 15 rfl rfl)
theorem dX1_endList_88 : decode cX1_endList 88 = .ok (.getfield 127, 3) := dk_180 0 127 (dk_at dksX1_endList_3 16 rfl rfl)
theorem dX1_endList_91 : decode cX1_endList 91 = .ok (.iload_n 1, 1) := dk_27 (dk_at dksX1_endList_3 19 rfl rfl)
theorem dX1_endList_92 : decode cX1_endList 92 = .ok (.aload_n 0, 1) := dk_42 (dk_at dksX1_endList_3 20 rfl rfl)
theorem dX1_endList_93 : decode cX1_endList 93 = .ok (.getfield 145, 3) := dk_180 0 145 (dk_at dksX1_endList_3 21 rfl rfl)
theorem dX1_endList_96 : decode cX1_endList 96 = .ok (.iload_n 1, 1) := dk_27 (dk_at dksX1_endList_4 0 rfl rfl)
theorem dX1_endList_97 : decode cX1_endList 97 = .ok (.iaload, 1) := dk_46 (dk_at dksX1_endList_4 1 rfl rfl)
theorem dX1_endList_98 : decode cX1_endList 98 = .ok (.iload_n 2, 1) := dk_28 (dk_at dksX1_endList_4 2 rfl rfl)
theorem dX1_endList_99 : decode cX1_endList 99 = .ok (.iload_n 2, 1) := dk_28 (dk_at dksX1_endList_4 3 rfl rfl)
theorem dX1_endList_100 : decode cX1_endList 100 = .ok (.ifCond .eq 14, 3) := dk_153 0 14 (dk_at dksX1_endList_4 4 rfl rfl)
theorem dX1_endList_103 : decode cX1_endList 103 = .ok (.aload_n 0, 1) := dk_42 (dk_at dksX1_endList_4 7 rfl rfl)
theorem dX1_endList_104 : decode cX1_endList 104 = .ok (.getfield 130, 3) := dk_180 0 130 (dk_at dksX1_endList_4 8 rfl rfl)
theorem dX1_endList_107 : decode cX1_endList 107 = .ok (.iload_n 1, 1) := dk_27 (dk_at dksX1_endList_4 11 rfl rfl)
theorem dX1_endList_108 : decode cX1_endList 108 = .ok (.iconst 1, 1) := dk_4 (dk_at dksX1_endList_4 12 rfl rfl)
theorem dX1_endList_109 : decode cX1_endList 109 = .ok (.iadd, 1) := dk_96 (dk_at dksX1_endList_4 13 rfl rfl)
theorem dX1_endList_110 : decode cX1_endList 110 = .ok (.laload, 1) := dk_47 (dk_at dksX1_endList_4 14 rfl rfl)
theorem dX1_endList_111 : decode cX1_endList 111 = .ok (.goto 4, 3) := dk_167 0 4 (dk_at dksX1_endList_4 15 rfl rfl)
theorem dX1_endList_114 : decode cX1_endList 114 = .ok (.lconst 0, 1) := dk_9 (dk_at dksX1_endList_4 18 rfl rfl)
theorem dX1_endList_115 : decode cX1_endList 115 = .ok (.iload_n 3, 1) := dk_29 (dk_at dksX1_endList_4 19 rfl rfl)
theorem dX1_endList_116 : decode cX1_endList 116 = .ok (.invokestatic 318, 3) := dk_184 1 62 (dk_at dksX1_endList_4 20 rfl rfl)
theorem dX1_endList_119 : decode cX1_endList 119 = .ok (.iastore, 1) := dk_79 (dk_at dksX1_endList_4 23 rfl rfl)
theorem dX1_endList_120 : decode cX1_endList 120 = .ok (.return_, 1) := dk_177 (dk_at dksX1_endList_5 0 rfl rfl)
abbrev cX1_remember : ByteArray := prog_20_method_51_code
def yX1_remember : MethodName := ⟨RX1, "remember", "(I)V"⟩
def dkwX1_remember_8 : List UInt8 := [16, 6, 181, 1, 72, 177]
abbrev dktX1_remember_8 : List UInt8 := dkwX1_remember_8 ++ []
def dkwX1_remember_7 : List UInt8 := [132, 2, 1, 167, 255, 126, 42, 42, 180, 1, 69, 8, 162, 0, 12, 42, 180, 1, 69, 4, 96, 167, 0, 5]
abbrev dktX1_remember_7 : List UInt8 := dkwX1_remember_7 ++ dktX1_remember_8
def dkwX1_remember_6 : List UInt8 := [180, 0, 181, 42, 180, 1, 75, 42, 180, 0, 106, 28, 46, 79, 42, 89, 180, 1, 75, 4, 96, 181, 1, 75]
abbrev dktX1_remember_6 : List UInt8 := dkwX1_remember_6 ++ dktX1_remember_7
def dkwX1_remember_5 : List UInt8 := [42, 180, 0, 100, 28, 46, 79, 42, 180, 0, 178, 42, 180, 1, 75, 42, 180, 0, 103, 28, 46, 79, 42]
abbrev dktX1_remember_5 : List UInt8 := dkwX1_remember_5 ++ dktX1_remember_6
def dkwX1_remember_4 : List UInt8 := [79, 42, 180, 0, 172, 42, 180, 1, 75, 42, 180, 0, 97, 28, 46, 79, 42, 180, 0, 175, 42, 180, 1, 75]
abbrev dktX1_remember_4 : List UInt8 := dkwX1_remember_4 ++ dktX1_remember_5
def dkwX1_remember_3 : List UInt8 := [180, 1, 75, 42, 180, 0, 91, 28, 47, 80, 42, 180, 0, 169, 42, 180, 1, 75, 42, 180, 0, 94, 28, 46]
abbrev dktX1_remember_3 : List UInt8 := dkwX1_remember_3 ++ dktX1_remember_4
def dkwX1_remember_2 : List UInt8 := [162, 0, 124, 42, 180, 0, 163, 42, 180, 1, 75, 42, 180, 0, 88, 28, 46, 79, 42, 180, 0, 166, 42]
abbrev dktX1_remember_2 : List UInt8 := dkwX1_remember_2 ++ dktX1_remember_3
def dkwX1_remember_1 : List UInt8 := [180, 0, 160, 42, 180, 1, 69, 42, 180, 1, 129, 79, 27, 61, 28, 27, 42, 180, 0, 103, 27, 46, 96]
abbrev dktX1_remember_1 : List UInt8 := dkwX1_remember_1 ++ dktX1_remember_2
def dkwX1_remember_0 : List UInt8 := [42, 180, 0, 154, 42, 180, 1, 69, 42, 180, 1, 75, 79, 42, 180, 0, 157, 42, 180, 1, 69, 27, 79, 42]
abbrev dktX1_remember_0 : List UInt8 := dkwX1_remember_0 ++ dktX1_remember_1
theorem dksX1_remember_0 : cX1_remember.data.toList.drop 0 = dktX1_remember_0 := by decide +kernel
theorem dksX1_remember_1 : cX1_remember.data.toList.drop 24 = dktX1_remember_1 := dk_seg dksX1_remember_0 24 rfl rfl
theorem dksX1_remember_2 : cX1_remember.data.toList.drop 47 = dktX1_remember_2 := dk_seg dksX1_remember_1 23 rfl rfl
theorem dksX1_remember_3 : cX1_remember.data.toList.drop 70 = dktX1_remember_3 := dk_seg dksX1_remember_2 23 rfl rfl
theorem dksX1_remember_4 : cX1_remember.data.toList.drop 94 = dktX1_remember_4 := dk_seg dksX1_remember_3 24 rfl rfl
theorem dksX1_remember_5 : cX1_remember.data.toList.drop 118 = dktX1_remember_5 := dk_seg dksX1_remember_4 24 rfl rfl
theorem dksX1_remember_6 : cX1_remember.data.toList.drop 141 = dktX1_remember_6 := dk_seg dksX1_remember_5 23 rfl rfl
theorem dksX1_remember_7 : cX1_remember.data.toList.drop 165 = dktX1_remember_7 := dk_seg dksX1_remember_6 24 rfl rfl
theorem dksX1_remember_8 : cX1_remember.data.toList.drop 189 = dktX1_remember_8 := dk_seg dksX1_remember_7 24 rfl rfl
theorem dX1_remember_0 : decode cX1_remember 0 = .ok (.aload_n 0, 1) := dk_42 (dk_at dksX1_remember_0 0 rfl rfl)
theorem dX1_remember_1 : decode cX1_remember 1 = .ok (.getfield 154, 3) := dk_180 0 154 (dk_at dksX1_remember_0 1 rfl rfl)
theorem dX1_remember_4 : decode cX1_remember 4 = .ok (.aload_n 0, 1) := dk_42 (dk_at dksX1_remember_0 4 rfl rfl)
theorem dX1_remember_5 : decode cX1_remember 5 = .ok (.getfield 325, 3) := dk_180 1 69 (dk_at dksX1_remember_0 5 rfl rfl)
theorem dX1_remember_8 : decode cX1_remember 8 = .ok (.aload_n 0, 1) := dk_42 (dk_at dksX1_remember_0 8 rfl rfl)
theorem dX1_remember_9 : decode cX1_remember 9 = .ok (.getfield 331, 3) := dk_180 1 75 (dk_at dksX1_remember_0 9 rfl rfl)
theorem dX1_remember_12 : decode cX1_remember 12 = .ok (.iastore, 1) := dk_79 (dk_at dksX1_remember_0 12 rfl rfl)
theorem dX1_remember_13 : decode cX1_remember 13 = .ok (.aload_n 0, 1) := dk_42 (dk_at dksX1_remember_0 13 rfl rfl)
theorem dX1_remember_14 : decode cX1_remember 14 = .ok (.getfield 157, 3) := dk_180 0 157 (dk_at dksX1_remember_0 14 rfl rfl)
theorem dX1_remember_17 : decode cX1_remember 17 = .ok (.aload_n 0, 1) := dk_42 (dk_at dksX1_remember_0 17 rfl rfl)
theorem dX1_remember_18 : decode cX1_remember 18 = .ok (.getfield 325, 3) := dk_180 1 69 (dk_at dksX1_remember_0 18 rfl rfl)
theorem dX1_remember_21 : decode cX1_remember 21 = .ok (.iload_n 1, 1) := dk_27 (dk_at dksX1_remember_0 21 rfl rfl)
theorem dX1_remember_22 : decode cX1_remember 22 = .ok (.iastore, 1) := dk_79 (dk_at dksX1_remember_0 22 rfl rfl)
theorem dX1_remember_23 : decode cX1_remember 23 = .ok (.aload_n 0, 1) := dk_42 (dk_at dksX1_remember_0 23 rfl rfl)
theorem dX1_remember_24 : decode cX1_remember 24 = .ok (.getfield 160, 3) := dk_180 0 160 (dk_at dksX1_remember_1 0 rfl rfl)
theorem dX1_remember_27 : decode cX1_remember 27 = .ok (.aload_n 0, 1) := dk_42 (dk_at dksX1_remember_1 3 rfl rfl)
theorem dX1_remember_28 : decode cX1_remember 28 = .ok (.getfield 325, 3) := dk_180 1 69 (dk_at dksX1_remember_1 4 rfl rfl)
theorem dX1_remember_31 : decode cX1_remember 31 = .ok (.aload_n 0, 1) := dk_42 (dk_at dksX1_remember_1 7 rfl rfl)
theorem dX1_remember_32 : decode cX1_remember 32 = .ok (.getfield 385, 3) := dk_180 1 129 (dk_at dksX1_remember_1 8 rfl rfl)
theorem dX1_remember_35 : decode cX1_remember 35 = .ok (.iastore, 1) := dk_79 (dk_at dksX1_remember_1 11 rfl rfl)
theorem dX1_remember_36 : decode cX1_remember 36 = .ok (.iload_n 1, 1) := dk_27 (dk_at dksX1_remember_1 12 rfl rfl)
theorem dX1_remember_37 : decode cX1_remember 37 = .ok (.istore_n 2, 1) := dk_61 (dk_at dksX1_remember_1 13 rfl rfl)
theorem dX1_remember_38 : decode cX1_remember 38 = .ok (.iload_n 2, 1) := dk_28 (dk_at dksX1_remember_1 14 rfl rfl)
theorem dX1_remember_39 : decode cX1_remember 39 = .ok (.iload_n 1, 1) := dk_27 (dk_at dksX1_remember_1 15 rfl rfl)
theorem dX1_remember_40 : decode cX1_remember 40 = .ok (.aload_n 0, 1) := dk_42 (dk_at dksX1_remember_1 16 rfl rfl)
theorem dX1_remember_41 : decode cX1_remember 41 = .ok (.getfield 103, 3) := dk_180 0 103 (dk_at dksX1_remember_1 17 rfl rfl)
theorem dX1_remember_44 : decode cX1_remember 44 = .ok (.iload_n 1, 1) := dk_27 (dk_at dksX1_remember_1 20 rfl rfl)
theorem dX1_remember_45 : decode cX1_remember 45 = .ok (.iaload, 1) := dk_46 (dk_at dksX1_remember_1 21 rfl rfl)
theorem dX1_remember_46 : decode cX1_remember 46 = .ok (.iadd, 1) := dk_96 (dk_at dksX1_remember_1 22 rfl rfl)
theorem dX1_remember_47 : decode cX1_remember 47 = .ok (.if_icmp .ge 124, 3) := dk_162 0 124 (dk_at dksX1_remember_2 0 rfl rfl)
theorem dX1_remember_50 : decode cX1_remember 50 = .ok (.aload_n 0, 1) := dk_42 (dk_at dksX1_remember_2 3 rfl rfl)
theorem dX1_remember_51 : decode cX1_remember 51 = .ok (.getfield 163, 3) := dk_180 0 163 (dk_at dksX1_remember_2 4 rfl rfl)
theorem dX1_remember_54 : decode cX1_remember 54 = .ok (.aload_n 0, 1) := dk_42 (dk_at dksX1_remember_2 7 rfl rfl)
theorem dX1_remember_55 : decode cX1_remember 55 = .ok (.getfield 331, 3) := dk_180 1 75 (dk_at dksX1_remember_2 8 rfl rfl)
theorem dX1_remember_58 : decode cX1_remember 58 = .ok (.aload_n 0, 1) := dk_42 (dk_at dksX1_remember_2 11 rfl rfl)
theorem dX1_remember_59 : decode cX1_remember 59 = .ok (.getfield 88, 3) := dk_180 0 88 (dk_at dksX1_remember_2 12 rfl rfl)
theorem dX1_remember_62 : decode cX1_remember 62 = .ok (.iload_n 2, 1) := dk_28 (dk_at dksX1_remember_2 15 rfl rfl)
theorem dX1_remember_63 : decode cX1_remember 63 = .ok (.iaload, 1) := dk_46 (dk_at dksX1_remember_2 16 rfl rfl)
theorem dX1_remember_64 : decode cX1_remember 64 = .ok (.iastore, 1) := dk_79 (dk_at dksX1_remember_2 17 rfl rfl)
theorem dX1_remember_65 : decode cX1_remember 65 = .ok (.aload_n 0, 1) := dk_42 (dk_at dksX1_remember_2 18 rfl rfl)
theorem dX1_remember_66 : decode cX1_remember 66 = .ok (.getfield 166, 3) := dk_180 0 166 (dk_at dksX1_remember_2 19 rfl rfl)
theorem dX1_remember_69 : decode cX1_remember 69 = .ok (.aload_n 0, 1) := dk_42 (dk_at dksX1_remember_2 22 rfl rfl)
theorem dX1_remember_70 : decode cX1_remember 70 = .ok (.getfield 331, 3) := dk_180 1 75 (dk_at dksX1_remember_3 0 rfl rfl)
theorem dX1_remember_73 : decode cX1_remember 73 = .ok (.aload_n 0, 1) := dk_42 (dk_at dksX1_remember_3 3 rfl rfl)
theorem dX1_remember_74 : decode cX1_remember 74 = .ok (.getfield 91, 3) := dk_180 0 91 (dk_at dksX1_remember_3 4 rfl rfl)
theorem dX1_remember_77 : decode cX1_remember 77 = .ok (.iload_n 2, 1) := dk_28 (dk_at dksX1_remember_3 7 rfl rfl)
theorem dX1_remember_78 : decode cX1_remember 78 = .ok (.laload, 1) := dk_47 (dk_at dksX1_remember_3 8 rfl rfl)
theorem dX1_remember_79 : decode cX1_remember 79 = .ok (.lastore, 1) := dk_80 (dk_at dksX1_remember_3 9 rfl rfl)
theorem dX1_remember_80 : decode cX1_remember 80 = .ok (.aload_n 0, 1) := dk_42 (dk_at dksX1_remember_3 10 rfl rfl)
theorem dX1_remember_81 : decode cX1_remember 81 = .ok (.getfield 169, 3) := dk_180 0 169 (dk_at dksX1_remember_3 11 rfl rfl)
theorem dX1_remember_84 : decode cX1_remember 84 = .ok (.aload_n 0, 1) := dk_42 (dk_at dksX1_remember_3 14 rfl rfl)
theorem dX1_remember_85 : decode cX1_remember 85 = .ok (.getfield 331, 3) := dk_180 1 75 (dk_at dksX1_remember_3 15 rfl rfl)
theorem dX1_remember_88 : decode cX1_remember 88 = .ok (.aload_n 0, 1) := dk_42 (dk_at dksX1_remember_3 18 rfl rfl)
theorem dX1_remember_89 : decode cX1_remember 89 = .ok (.getfield 94, 3) := dk_180 0 94 (dk_at dksX1_remember_3 19 rfl rfl)
theorem dX1_remember_92 : decode cX1_remember 92 = .ok (.iload_n 2, 1) := dk_28 (dk_at dksX1_remember_3 22 rfl rfl)
theorem dX1_remember_93 : decode cX1_remember 93 = .ok (.iaload, 1) := dk_46 (dk_at dksX1_remember_3 23 rfl rfl)
theorem dX1_remember_94 : decode cX1_remember 94 = .ok (.iastore, 1) := dk_79 (dk_at dksX1_remember_4 0 rfl rfl)
theorem dX1_remember_95 : decode cX1_remember 95 = .ok (.aload_n 0, 1) := dk_42 (dk_at dksX1_remember_4 1 rfl rfl)
theorem dX1_remember_96 : decode cX1_remember 96 = .ok (.getfield 172, 3) := dk_180 0 172 (dk_at dksX1_remember_4 2 rfl rfl)
theorem dX1_remember_99 : decode cX1_remember 99 = .ok (.aload_n 0, 1) := dk_42 (dk_at dksX1_remember_4 5 rfl rfl)
theorem dX1_remember_100 : decode cX1_remember 100 = .ok (.getfield 331, 3) := dk_180 1 75 (dk_at dksX1_remember_4 6 rfl rfl)
theorem dX1_remember_103 : decode cX1_remember 103 = .ok (.aload_n 0, 1) := dk_42 (dk_at dksX1_remember_4 9 rfl rfl)
theorem dX1_remember_104 : decode cX1_remember 104 = .ok (.getfield 97, 3) := dk_180 0 97 (dk_at dksX1_remember_4 10 rfl rfl)
theorem dX1_remember_107 : decode cX1_remember 107 = .ok (.iload_n 2, 1) := dk_28 (dk_at dksX1_remember_4 13 rfl rfl)
theorem dX1_remember_108 : decode cX1_remember 108 = .ok (.iaload, 1) := dk_46 (dk_at dksX1_remember_4 14 rfl rfl)
theorem dX1_remember_109 : decode cX1_remember 109 = .ok (.iastore, 1) := dk_79 (dk_at dksX1_remember_4 15 rfl rfl)
theorem dX1_remember_110 : decode cX1_remember 110 = .ok (.aload_n 0, 1) := dk_42 (dk_at dksX1_remember_4 16 rfl rfl)
theorem dX1_remember_111 : decode cX1_remember 111 = .ok (.getfield 175, 3) := dk_180 0 175 (dk_at dksX1_remember_4 17 rfl rfl)
theorem dX1_remember_114 : decode cX1_remember 114 = .ok (.aload_n 0, 1) := dk_42 (dk_at dksX1_remember_4 20 rfl rfl)
theorem dX1_remember_115 : decode cX1_remember 115 = .ok (.getfield 331, 3) := dk_180 1 75 (dk_at dksX1_remember_4 21 rfl rfl)
theorem dX1_remember_118 : decode cX1_remember 118 = .ok (.aload_n 0, 1) := dk_42 (dk_at dksX1_remember_5 0 rfl rfl)
theorem dX1_remember_119 : decode cX1_remember 119 = .ok (.getfield 100, 3) := dk_180 0 100 (dk_at dksX1_remember_5 1 rfl rfl)
theorem dX1_remember_122 : decode cX1_remember 122 = .ok (.iload_n 2, 1) := dk_28 (dk_at dksX1_remember_5 4 rfl rfl)
theorem dX1_remember_123 : decode cX1_remember 123 = .ok (.iaload, 1) := dk_46 (dk_at dksX1_remember_5 5 rfl rfl)
theorem dX1_remember_124 : decode cX1_remember 124 = .ok (.iastore, 1) := dk_79 (dk_at dksX1_remember_5 6 rfl rfl)
theorem dX1_remember_125 : decode cX1_remember 125 = .ok (.aload_n 0, 1) := dk_42 (dk_at dksX1_remember_5 7 rfl rfl)
theorem dX1_remember_126 : decode cX1_remember 126 = .ok (.getfield 178, 3) := dk_180 0 178 (dk_at dksX1_remember_5 8 rfl rfl)
theorem dX1_remember_129 : decode cX1_remember 129 = .ok (.aload_n 0, 1) := dk_42 (dk_at dksX1_remember_5 11 rfl rfl)
theorem dX1_remember_130 : decode cX1_remember 130 = .ok (.getfield 331, 3) := dk_180 1 75 (dk_at dksX1_remember_5 12 rfl rfl)
theorem dX1_remember_133 : decode cX1_remember 133 = .ok (.aload_n 0, 1) := dk_42 (dk_at dksX1_remember_5 15 rfl rfl)
theorem dX1_remember_134 : decode cX1_remember 134 = .ok (.getfield 103, 3) := dk_180 0 103 (dk_at dksX1_remember_5 16 rfl rfl)
theorem dX1_remember_137 : decode cX1_remember 137 = .ok (.iload_n 2, 1) := dk_28 (dk_at dksX1_remember_5 19 rfl rfl)
theorem dX1_remember_138 : decode cX1_remember 138 = .ok (.iaload, 1) := dk_46 (dk_at dksX1_remember_5 20 rfl rfl)
theorem dX1_remember_139 : decode cX1_remember 139 = .ok (.iastore, 1) := dk_79 (dk_at dksX1_remember_5 21 rfl rfl)
theorem dX1_remember_140 : decode cX1_remember 140 = .ok (.aload_n 0, 1) := dk_42 (dk_at dksX1_remember_5 22 rfl rfl)
theorem dX1_remember_141 : decode cX1_remember 141 = .ok (.getfield 181, 3) := dk_180 0 181 (dk_at dksX1_remember_6 0 rfl rfl)
theorem dX1_remember_144 : decode cX1_remember 144 = .ok (.aload_n 0, 1) := dk_42 (dk_at dksX1_remember_6 3 rfl rfl)
theorem dX1_remember_145 : decode cX1_remember 145 = .ok (.getfield 331, 3) := dk_180 1 75 (dk_at dksX1_remember_6 4 rfl rfl)
theorem dX1_remember_148 : decode cX1_remember 148 = .ok (.aload_n 0, 1) := dk_42 (dk_at dksX1_remember_6 7 rfl rfl)
theorem dX1_remember_149 : decode cX1_remember 149 = .ok (.getfield 106, 3) := dk_180 0 106 (dk_at dksX1_remember_6 8 rfl rfl)
theorem dX1_remember_152 : decode cX1_remember 152 = .ok (.iload_n 2, 1) := dk_28 (dk_at dksX1_remember_6 11 rfl rfl)
theorem dX1_remember_153 : decode cX1_remember 153 = .ok (.iaload, 1) := dk_46 (dk_at dksX1_remember_6 12 rfl rfl)
theorem dX1_remember_154 : decode cX1_remember 154 = .ok (.iastore, 1) := dk_79 (dk_at dksX1_remember_6 13 rfl rfl)
theorem dX1_remember_155 : decode cX1_remember 155 = .ok (.aload_n 0, 1) := dk_42 (dk_at dksX1_remember_6 14 rfl rfl)
theorem dX1_remember_156 : decode cX1_remember 156 = .ok (.dup, 1) := dk_89 (dk_at dksX1_remember_6 15 rfl rfl)
theorem dX1_remember_157 : decode cX1_remember 157 = .ok (.getfield 331, 3) := dk_180 1 75 (dk_at dksX1_remember_6 16 rfl rfl)
theorem dX1_remember_160 : decode cX1_remember 160 = .ok (.iconst 1, 1) := dk_4 (dk_at dksX1_remember_6 19 rfl rfl)
theorem dX1_remember_161 : decode cX1_remember 161 = .ok (.iadd, 1) := dk_96 (dk_at dksX1_remember_6 20 rfl rfl)
theorem dX1_remember_162 : decode cX1_remember 162 = .ok (.putfield 331, 3) := dk_181 1 75 (dk_at dksX1_remember_6 21 rfl rfl)
theorem dX1_remember_165 : decode cX1_remember 165 = .ok (.iinc 2 1, 3) := dk_132 2 1 (dk_at dksX1_remember_7 0 rfl rfl)
theorem dX1_remember_168 : decode cX1_remember 168 = .ok (.goto (-130), 3) := dk_167 255 126 (dk_at dksX1_remember_7 3 rfl rfl)
theorem dX1_remember_171 : decode cX1_remember 171 = .ok (.aload_n 0, 1) := dk_42 (dk_at dksX1_remember_7 6 rfl rfl)
theorem dX1_remember_172 : decode cX1_remember 172 = .ok (.aload_n 0, 1) := dk_42 (dk_at dksX1_remember_7 7 rfl rfl)
theorem dX1_remember_173 : decode cX1_remember 173 = .ok (.getfield 325, 3) := dk_180 1 69 (dk_at dksX1_remember_7 8 rfl rfl)
theorem dX1_remember_176 : decode cX1_remember 176 = .ok (.iconst 5, 1) := dk_8 (dk_at dksX1_remember_7 11 rfl rfl)
theorem dX1_remember_177 : decode cX1_remember 177 = .ok (.if_icmp .ge 12, 3) := dk_162 0 12 (dk_at dksX1_remember_7 12 rfl rfl)
theorem dX1_remember_180 : decode cX1_remember 180 = .ok (.aload_n 0, 1) := dk_42 (dk_at dksX1_remember_7 15 rfl rfl)
theorem dX1_remember_181 : decode cX1_remember 181 = .ok (.getfield 325, 3) := dk_180 1 69 (dk_at dksX1_remember_7 16 rfl rfl)
theorem dX1_remember_184 : decode cX1_remember 184 = .ok (.iconst 1, 1) := dk_4 (dk_at dksX1_remember_7 19 rfl rfl)
theorem dX1_remember_185 : decode cX1_remember 185 = .ok (.iadd, 1) := dk_96 (dk_at dksX1_remember_7 20 rfl rfl)
theorem dX1_remember_186 : decode cX1_remember 186 = .ok (.goto 5, 3) := dk_167 0 5 (dk_at dksX1_remember_7 21 rfl rfl)
theorem dX1_remember_189 : decode cX1_remember 189 = .ok (.bipush 6, 2) := dk_16 6 (dk_at dksX1_remember_8 0 rfl rfl)
theorem dX1_remember_191 : decode cX1_remember 191 = .ok (.putfield 328, 3) := dk_181 1 72 (dk_at dksX1_remember_8 2 rfl rfl)
theorem dX1_remember_194 : decode cX1_remember 194 = .ok (.return_, 1) := dk_177 (dk_at dksX1_remember_8 5 rfl rfl)
abbrev cX1_splice : ByteArray := prog_20_method_53_code
def yX1_splice : MethodName := ⟨RX1, "splice", "(I)V"⟩
def dkwX1_splice_11 : List UInt8 := [180, 1, 50, 28, 96, 181, 1, 50, 42, 182, 1, 66, 177]
abbrev dktX1_splice_11 : List UInt8 := dkwX1_splice_11 ++ []
def dkwX1_splice_10 : List UInt8 := [180, 0, 106, 27, 21, 4, 96, 42, 180, 0, 145, 21, 4, 46, 79, 132, 4, 1, 167, 255, 132, 42, 89]
abbrev dktX1_splice_10 : List UInt8 := dkwX1_splice_10 ++ dktX1_splice_11
def dkwX1_splice_9 : List UInt8 := [180, 0, 139, 21, 4, 46, 79, 42, 180, 0, 103, 27, 21, 4, 96, 42, 180, 0, 142, 21, 4, 46, 79, 42]
abbrev dktX1_splice_9 : List UInt8 := dkwX1_splice_9 ++ dktX1_splice_10
def dkwX1_splice_8 : List UInt8 := [180, 0, 97, 27, 21, 4, 96, 42, 180, 0, 136, 21, 4, 46, 79, 42, 180, 0, 100, 27, 21, 4, 96, 42]
abbrev dktX1_splice_8 : List UInt8 := dkwX1_splice_8 ++ dktX1_splice_9
def dkwX1_splice_7 : List UInt8 := [180, 0, 130, 21, 4, 47, 80, 42, 180, 0, 94, 27, 21, 4, 96, 42, 180, 0, 133, 21, 4, 46, 79, 42]
abbrev dktX1_splice_7 : List UInt8 := dkwX1_splice_7 ++ dktX1_splice_8
def dkwX1_splice_6 : List UInt8 := [180, 0, 88, 27, 21, 4, 96, 42, 180, 0, 127, 21, 4, 46, 79, 42, 180, 0, 91, 27, 21, 4, 96, 42]
abbrev dktX1_splice_6 : List UInt8 := dkwX1_splice_6 ++ dktX1_splice_7
def dkwX1_splice_5 : List UInt8 := [182, 1, 146, 132, 4, 1, 167, 255, 230, 3, 54, 4, 21, 4, 42, 180, 1, 129, 162, 0, 121, 42]
abbrev dktX1_splice_5 : List UInt8 := dkwX1_splice_5 ++ dktX1_splice_6
def dkwX1_splice_4 : List UInt8 := [54, 4, 21, 4, 42, 180, 1, 50, 162, 0, 23, 28, 156, 0, 19, 42, 21, 4, 21, 4, 28, 96]
abbrev dktX1_splice_4 : List UInt8 := dkwX1_splice_4 ++ dktX1_splice_5
def dkwX1_splice_3 : List UInt8 := [161, 0, 23, 28, 158, 0, 19, 42, 21, 4, 21, 4, 28, 96, 182, 1, 146, 132, 4, 255, 167, 255, 233, 29]
abbrev dktX1_splice_3 : List UInt8 := dkwX1_splice_3 ++ dktX1_splice_4
def dkwX1_splice_2 : List UInt8 := [79, 42, 180, 0, 109, 21, 4, 46, 54, 4, 167, 255, 229, 42, 180, 1, 50, 4, 100, 54, 4, 21, 4, 29]
abbrev dktX1_splice_2 : List UInt8 := dkwX1_splice_2 ++ dktX1_splice_3
def dkwX1_splice_1 : List UInt8 := [180, 0, 109, 27, 46, 54, 4, 21, 4, 16, 247, 159, 0, 26, 42, 180, 0, 103, 21, 4, 92, 46, 28, 96]
abbrev dktX1_splice_1 : List UInt8 := dkwX1_splice_1 ++ dktX1_splice_2
def dkwX1_splice_0 : List UInt8 := [42, 180, 1, 129, 42, 180, 0, 103, 27, 46, 100, 61, 27, 42, 180, 0, 103, 27, 46, 96, 62, 42]
abbrev dktX1_splice_0 : List UInt8 := dkwX1_splice_0 ++ dktX1_splice_1
theorem dksX1_splice_0 : cX1_splice.data.toList.drop 0 = dktX1_splice_0 := by decide +kernel
theorem dksX1_splice_1 : cX1_splice.data.toList.drop 22 = dktX1_splice_1 := dk_seg dksX1_splice_0 22 rfl rfl
theorem dksX1_splice_2 : cX1_splice.data.toList.drop 46 = dktX1_splice_2 := dk_seg dksX1_splice_1 24 rfl rfl
theorem dksX1_splice_3 : cX1_splice.data.toList.drop 70 = dktX1_splice_3 := dk_seg dksX1_splice_2 24 rfl rfl
theorem dksX1_splice_4 : cX1_splice.data.toList.drop 94 = dktX1_splice_4 := dk_seg dksX1_splice_3 24 rfl rfl
theorem dksX1_splice_5 : cX1_splice.data.toList.drop 116 = dktX1_splice_5 := dk_seg dksX1_splice_4 22 rfl rfl
theorem dksX1_splice_6 : cX1_splice.data.toList.drop 138 = dktX1_splice_6 := dk_seg dksX1_splice_5 22 rfl rfl
theorem dksX1_splice_7 : cX1_splice.data.toList.drop 162 = dktX1_splice_7 := dk_seg dksX1_splice_6 24 rfl rfl
theorem dksX1_splice_8 : cX1_splice.data.toList.drop 186 = dktX1_splice_8 := dk_seg dksX1_splice_7 24 rfl rfl
theorem dksX1_splice_9 : cX1_splice.data.toList.drop 210 = dktX1_splice_9 := dk_seg dksX1_splice_8 24 rfl rfl
theorem dksX1_splice_10 : cX1_splice.data.toList.drop 234 = dktX1_splice_10 := dk_seg dksX1_splice_9 24 rfl rfl
theorem dksX1_splice_11 : cX1_splice.data.toList.drop 257 = dktX1_splice_11 := dk_seg dksX1_splice_10 23 rfl rfl
theorem dX1_splice_0 : decode cX1_splice 0 = .ok (.aload_n 0, 1) := dk_42 (dk_at dksX1_splice_0 0 rfl rfl)
theorem dX1_splice_1 : decode cX1_splice 1 = .ok (.getfield 385, 3) := dk_180 1 129 (dk_at dksX1_splice_0 1 rfl rfl)
theorem dX1_splice_4 : decode cX1_splice 4 = .ok (.aload_n 0, 1) := dk_42 (dk_at dksX1_splice_0 4 rfl rfl)
theorem dX1_splice_5 : decode cX1_splice 5 = .ok (.getfield 103, 3) := dk_180 0 103 (dk_at dksX1_splice_0 5 rfl rfl)
theorem dX1_splice_8 : decode cX1_splice 8 = .ok (.iload_n 1, 1) := dk_27 (dk_at dksX1_splice_0 8 rfl rfl)
theorem dX1_splice_9 : decode cX1_splice 9 = .ok (.iaload, 1) := dk_46 (dk_at dksX1_splice_0 9 rfl rfl)
theorem dX1_splice_10 : decode cX1_splice 10 = .ok (.isub, 1) := dk_100 (dk_at dksX1_splice_0 10 rfl rfl)
theorem dX1_splice_11 : decode cX1_splice 11 = .ok (.istore_n 2, 1) := dk_61 (dk_at dksX1_splice_0 11 rfl rfl)
theorem dX1_splice_12 : decode cX1_splice 12 = .ok (.iload_n 1, 1) := dk_27 (dk_at dksX1_splice_0 12 rfl rfl)
theorem dX1_splice_13 : decode cX1_splice 13 = .ok (.aload_n 0, 1) := dk_42 (dk_at dksX1_splice_0 13 rfl rfl)
theorem dX1_splice_14 : decode cX1_splice 14 = .ok (.getfield 103, 3) := dk_180 0 103 (dk_at dksX1_splice_0 14 rfl rfl)
theorem dX1_splice_17 : decode cX1_splice 17 = .ok (.iload_n 1, 1) := dk_27 (dk_at dksX1_splice_0 17 rfl rfl)
theorem dX1_splice_18 : decode cX1_splice 18 = .ok (.iaload, 1) := dk_46 (dk_at dksX1_splice_0 18 rfl rfl)
theorem dX1_splice_19 : decode cX1_splice 19 = .ok (.iadd, 1) := dk_96 (dk_at dksX1_splice_0 19 rfl rfl)
theorem dX1_splice_20 : decode cX1_splice 20 = .ok (.istore_n 3, 1) := dk_62 (dk_at dksX1_splice_0 20 rfl rfl)
theorem dX1_splice_21 : decode cX1_splice 21 = .ok (.aload_n 0, 1) := dk_42 (dk_at dksX1_splice_0 21 rfl rfl)
theorem dX1_splice_22 : decode cX1_splice 22 = .ok (.getfield 109, 3) := dk_180 0 109 (dk_at dksX1_splice_1 0 rfl rfl)
theorem dX1_splice_25 : decode cX1_splice 25 = .ok (.iload_n 1, 1) := dk_27 (dk_at dksX1_splice_1 3 rfl rfl)
theorem dX1_splice_26 : decode cX1_splice 26 = .ok (.iaload, 1) := dk_46 (dk_at dksX1_splice_1 4 rfl rfl)
theorem dX1_splice_27 : decode cX1_splice 27 = .ok (.istore 4, 2) := dk_54 4 (dk_at dksX1_splice_1 5 rfl rfl)
theorem dX1_splice_29 : decode cX1_splice 29 = .ok (.iload 4, 2) := dk_21 4 (dk_at dksX1_splice_1 7 rfl rfl)
theorem dX1_splice_31 : decode cX1_splice 31 = .ok (.bipush (-9), 2) := dk_16 247 (dk_at dksX1_splice_1 9 rfl rfl)
theorem dX1_splice_33 : decode cX1_splice 33 = .ok (.if_icmp .eq 26, 3) := dk_159 0 26 (dk_at dksX1_splice_1 11 rfl rfl)
theorem dX1_splice_36 : decode cX1_splice 36 = .ok (.aload_n 0, 1) := dk_42 (dk_at dksX1_splice_1 14 rfl rfl)
theorem dX1_splice_37 : decode cX1_splice 37 = .ok (.getfield 103, 3) := dk_180 0 103 (dk_at dksX1_splice_1 15 rfl rfl)
theorem dX1_splice_40 : decode cX1_splice 40 = .ok (.iload 4, 2) := dk_21 4 (dk_at dksX1_splice_1 18 rfl rfl)
theorem dX1_splice_42 : decode cX1_splice 42 = .ok (.dup2, 1) := dk_92 (dk_at dksX1_splice_1 20 rfl rfl)
theorem dX1_splice_43 : decode cX1_splice 43 = .ok (.iaload, 1) := dk_46 (dk_at dksX1_splice_1 21 rfl rfl)
theorem dX1_splice_44 : decode cX1_splice 44 = .ok (.iload_n 2, 1) := dk_28 (dk_at dksX1_splice_1 22 rfl rfl)
theorem dX1_splice_45 : decode cX1_splice 45 = .ok (.iadd, 1) := dk_96 (dk_at dksX1_splice_1 23 rfl rfl)
theorem dX1_splice_46 : decode cX1_splice 46 = .ok (.iastore, 1) := dk_79 (dk_at dksX1_splice_2 0 rfl rfl)
theorem dX1_splice_47 : decode cX1_splice 47 = .ok (.aload_n 0, 1) := dk_42 (dk_at dksX1_splice_2 1 rfl rfl)
theorem dX1_splice_48 : decode cX1_splice 48 = .ok (.getfield 109, 3) := dk_180 0 109 (dk_at dksX1_splice_2 2 rfl rfl)
theorem dX1_splice_51 : decode cX1_splice 51 = .ok (.iload 4, 2) := dk_21 4 (dk_at dksX1_splice_2 5 rfl rfl)
theorem dX1_splice_53 : decode cX1_splice 53 = .ok (.iaload, 1) := dk_46 (dk_at dksX1_splice_2 7 rfl rfl)
theorem dX1_splice_54 : decode cX1_splice 54 = .ok (.istore 4, 2) := dk_54 4 (dk_at dksX1_splice_2 8 rfl rfl)
theorem dX1_splice_56 : decode cX1_splice 56 = .ok (.goto (-27), 3) := dk_167 255 229 (dk_at dksX1_splice_2 10 rfl rfl)
theorem dX1_splice_59 : decode cX1_splice 59 = .ok (.aload_n 0, 1) := dk_42 (dk_at dksX1_splice_2 13 rfl rfl)
theorem dX1_splice_60 : decode cX1_splice 60 = .ok (.getfield 306, 3) := dk_180 1 50 (dk_at dksX1_splice_2 14 rfl rfl)
theorem dX1_splice_63 : decode cX1_splice 63 = .ok (.iconst 1, 1) := dk_4 (dk_at dksX1_splice_2 17 rfl rfl)
theorem dX1_splice_64 : decode cX1_splice 64 = .ok (.isub, 1) := dk_100 (dk_at dksX1_splice_2 18 rfl rfl)
theorem dX1_splice_65 : decode cX1_splice 65 = .ok (.istore 4, 2) := dk_54 4 (dk_at dksX1_splice_2 19 rfl rfl)
theorem dX1_splice_67 : decode cX1_splice 67 = .ok (.iload 4, 2) := dk_21 4 (dk_at dksX1_splice_2 21 rfl rfl)
theorem dX1_splice_69 : decode cX1_splice 69 = .ok (.iload_n 3, 1) := dk_29 (dk_at dksX1_splice_2 23 rfl rfl)
theorem dX1_splice_70 : decode cX1_splice 70 = .ok (.if_icmp .lt 23, 3) := dk_161 0 23 (dk_at dksX1_splice_3 0 rfl rfl)
theorem dX1_splice_73 : decode cX1_splice 73 = .ok (.iload_n 2, 1) := dk_28 (dk_at dksX1_splice_3 3 rfl rfl)
theorem dX1_splice_74 : decode cX1_splice 74 = .ok (.ifCond .le 19, 3) := dk_158 0 19 (dk_at dksX1_splice_3 4 rfl rfl)
theorem dX1_splice_77 : decode cX1_splice 77 = .ok (.aload_n 0, 1) := dk_42 (dk_at dksX1_splice_3 7 rfl rfl)
theorem dX1_splice_78 : decode cX1_splice 78 = .ok (.iload 4, 2) := dk_21 4 (dk_at dksX1_splice_3 8 rfl rfl)
theorem dX1_splice_80 : decode cX1_splice 80 = .ok (.iload 4, 2) := dk_21 4 (dk_at dksX1_splice_3 10 rfl rfl)
theorem dX1_splice_82 : decode cX1_splice 82 = .ok (.iload_n 2, 1) := dk_28 (dk_at dksX1_splice_3 12 rfl rfl)
theorem dX1_splice_83 : decode cX1_splice 83 = .ok (.iadd, 1) := dk_96 (dk_at dksX1_splice_3 13 rfl rfl)
theorem dX1_splice_84 : decode cX1_splice 84 = .ok (.invokevirtual 402, 3) := dk_182 1 146 (dk_at dksX1_splice_3 14 rfl rfl)
theorem dX1_splice_87 : decode cX1_splice 87 = .ok (.iinc 4 (-1), 3) := dk_132 4 255 (dk_at dksX1_splice_3 17 rfl rfl)
theorem dX1_splice_90 : decode cX1_splice 90 = .ok (.goto (-23), 3) := dk_167 255 233 (dk_at dksX1_splice_3 20 rfl rfl)
theorem dX1_splice_93 : decode cX1_splice 93 = .ok (.iload_n 3, 1) := dk_29 (dk_at dksX1_splice_3 23 rfl rfl)
theorem dX1_splice_94 : decode cX1_splice 94 = .ok (.istore 4, 2) := dk_54 4 (dk_at dksX1_splice_4 0 rfl rfl)
theorem dX1_splice_96 : decode cX1_splice 96 = .ok (.iload 4, 2) := dk_21 4 (dk_at dksX1_splice_4 2 rfl rfl)
theorem dX1_splice_98 : decode cX1_splice 98 = .ok (.aload_n 0, 1) := dk_42 (dk_at dksX1_splice_4 4 rfl rfl)
theorem dX1_splice_99 : decode cX1_splice 99 = .ok (.getfield 306, 3) := dk_180 1 50 (dk_at dksX1_splice_4 5 rfl rfl)
theorem dX1_splice_102 : decode cX1_splice 102 = .ok (.if_icmp .ge 23, 3) := dk_162 0 23 (dk_at dksX1_splice_4 8 rfl rfl)
theorem dX1_splice_105 : decode cX1_splice 105 = .ok (.iload_n 2, 1) := dk_28 (dk_at dksX1_splice_4 11 rfl rfl)
theorem dX1_splice_106 : decode cX1_splice 106 = .ok (.ifCond .ge 19, 3) := dk_156 0 19 (dk_at dksX1_splice_4 12 rfl rfl)
theorem dX1_splice_109 : decode cX1_splice 109 = .ok (.aload_n 0, 1) := dk_42 (dk_at dksX1_splice_4 15 rfl rfl)
theorem dX1_splice_110 : decode cX1_splice 110 = .ok (.iload 4, 2) := dk_21 4 (dk_at dksX1_splice_4 16 rfl rfl)
theorem dX1_splice_112 : decode cX1_splice 112 = .ok (.iload 4, 2) := dk_21 4 (dk_at dksX1_splice_4 18 rfl rfl)
theorem dX1_splice_114 : decode cX1_splice 114 = .ok (.iload_n 2, 1) := dk_28 (dk_at dksX1_splice_4 20 rfl rfl)
theorem dX1_splice_115 : decode cX1_splice 115 = .ok (.iadd, 1) := dk_96 (dk_at dksX1_splice_4 21 rfl rfl)
theorem dX1_splice_116 : decode cX1_splice 116 = .ok (.invokevirtual 402, 3) := dk_182 1 146 (dk_at dksX1_splice_5 0 rfl rfl)
theorem dX1_splice_119 : decode cX1_splice 119 = .ok (.iinc 4 1, 3) := dk_132 4 1 (dk_at dksX1_splice_5 3 rfl rfl)
theorem dX1_splice_122 : decode cX1_splice 122 = .ok (.goto (-26), 3) := dk_167 255 230 (dk_at dksX1_splice_5 6 rfl rfl)
theorem dX1_splice_125 : decode cX1_splice 125 = .ok (.iconst 0, 1) := dk_3 (dk_at dksX1_splice_5 9 rfl rfl)
theorem dX1_splice_126 : decode cX1_splice 126 = .ok (.istore 4, 2) := dk_54 4 (dk_at dksX1_splice_5 10 rfl rfl)
theorem dX1_splice_128 : decode cX1_splice 128 = .ok (.iload 4, 2) := dk_21 4 (dk_at dksX1_splice_5 12 rfl rfl)
theorem dX1_splice_130 : decode cX1_splice 130 = .ok (.aload_n 0, 1) := dk_42 (dk_at dksX1_splice_5 14 rfl rfl)
theorem dX1_splice_131 : decode cX1_splice 131 = .ok (.getfield 385, 3) := dk_180 1 129 (dk_at dksX1_splice_5 15 rfl rfl)
theorem dX1_splice_134 : decode cX1_splice 134 = .ok (.if_icmp .ge 121, 3) := dk_162 0 121 (dk_at dksX1_splice_5 18 rfl rfl)
theorem dX1_splice_137 : decode cX1_splice 137 = .ok (.aload_n 0, 1) := dk_42 (dk_at dksX1_splice_5 21 rfl rfl)
theorem dX1_splice_138 : decode cX1_splice 138 = .ok (.getfield 88, 3) := dk_180 0 88 (dk_at dksX1_splice_6 0 rfl rfl)
theorem dX1_splice_141 : decode cX1_splice 141 = .ok (.iload_n 1, 1) := dk_27 (dk_at dksX1_splice_6 3 rfl rfl)
theorem dX1_splice_142 : decode cX1_splice 142 = .ok (.iload 4, 2) := dk_21 4 (dk_at dksX1_splice_6 4 rfl rfl)
theorem dX1_splice_144 : decode cX1_splice 144 = .ok (.iadd, 1) := dk_96 (dk_at dksX1_splice_6 6 rfl rfl)
theorem dX1_splice_145 : decode cX1_splice 145 = .ok (.aload_n 0, 1) := dk_42 (dk_at dksX1_splice_6 7 rfl rfl)
theorem dX1_splice_146 : decode cX1_splice 146 = .ok (.getfield 127, 3) := dk_180 0 127 (dk_at dksX1_splice_6 8 rfl rfl)
theorem dX1_splice_149 : decode cX1_splice 149 = .ok (.iload 4, 2) := dk_21 4 (dk_at dksX1_splice_6 11 rfl rfl)
theorem dX1_splice_151 : decode cX1_splice 151 = .ok (.iaload, 1) := dk_46 (dk_at dksX1_splice_6 13 rfl rfl)
theorem dX1_splice_152 : decode cX1_splice 152 = .ok (.iastore, 1) := dk_79 (dk_at dksX1_splice_6 14 rfl rfl)
theorem dX1_splice_153 : decode cX1_splice 153 = .ok (.aload_n 0, 1) := dk_42 (dk_at dksX1_splice_6 15 rfl rfl)
theorem dX1_splice_154 : decode cX1_splice 154 = .ok (.getfield 91, 3) := dk_180 0 91 (dk_at dksX1_splice_6 16 rfl rfl)
theorem dX1_splice_157 : decode cX1_splice 157 = .ok (.iload_n 1, 1) := dk_27 (dk_at dksX1_splice_6 19 rfl rfl)
theorem dX1_splice_158 : decode cX1_splice 158 = .ok (.iload 4, 2) := dk_21 4 (dk_at dksX1_splice_6 20 rfl rfl)
theorem dX1_splice_160 : decode cX1_splice 160 = .ok (.iadd, 1) := dk_96 (dk_at dksX1_splice_6 22 rfl rfl)
theorem dX1_splice_161 : decode cX1_splice 161 = .ok (.aload_n 0, 1) := dk_42 (dk_at dksX1_splice_6 23 rfl rfl)
theorem dX1_splice_162 : decode cX1_splice 162 = .ok (.getfield 130, 3) := dk_180 0 130 (dk_at dksX1_splice_7 0 rfl rfl)
theorem dX1_splice_165 : decode cX1_splice 165 = .ok (.iload 4, 2) := dk_21 4 (dk_at dksX1_splice_7 3 rfl rfl)
theorem dX1_splice_167 : decode cX1_splice 167 = .ok (.laload, 1) := dk_47 (dk_at dksX1_splice_7 5 rfl rfl)
theorem dX1_splice_168 : decode cX1_splice 168 = .ok (.lastore, 1) := dk_80 (dk_at dksX1_splice_7 6 rfl rfl)
theorem dX1_splice_169 : decode cX1_splice 169 = .ok (.aload_n 0, 1) := dk_42 (dk_at dksX1_splice_7 7 rfl rfl)
theorem dX1_splice_170 : decode cX1_splice 170 = .ok (.getfield 94, 3) := dk_180 0 94 (dk_at dksX1_splice_7 8 rfl rfl)
theorem dX1_splice_173 : decode cX1_splice 173 = .ok (.iload_n 1, 1) := dk_27 (dk_at dksX1_splice_7 11 rfl rfl)
theorem dX1_splice_174 : decode cX1_splice 174 = .ok (.iload 4, 2) := dk_21 4 (dk_at dksX1_splice_7 12 rfl rfl)
theorem dX1_splice_176 : decode cX1_splice 176 = .ok (.iadd, 1) := dk_96 (dk_at dksX1_splice_7 14 rfl rfl)
theorem dX1_splice_177 : decode cX1_splice 177 = .ok (.aload_n 0, 1) := dk_42 (dk_at dksX1_splice_7 15 rfl rfl)
theorem dX1_splice_178 : decode cX1_splice 178 = .ok (.getfield 133, 3) := dk_180 0 133 (dk_at dksX1_splice_7 16 rfl rfl)
theorem dX1_splice_181 : decode cX1_splice 181 = .ok (.iload 4, 2) := dk_21 4 (dk_at dksX1_splice_7 19 rfl rfl)
theorem dX1_splice_183 : decode cX1_splice 183 = .ok (.iaload, 1) := dk_46 (dk_at dksX1_splice_7 21 rfl rfl)
theorem dX1_splice_184 : decode cX1_splice 184 = .ok (.iastore, 1) := dk_79 (dk_at dksX1_splice_7 22 rfl rfl)
theorem dX1_splice_185 : decode cX1_splice 185 = .ok (.aload_n 0, 1) := dk_42 (dk_at dksX1_splice_7 23 rfl rfl)
theorem dX1_splice_186 : decode cX1_splice 186 = .ok (.getfield 97, 3) := dk_180 0 97 (dk_at dksX1_splice_8 0 rfl rfl)
theorem dX1_splice_189 : decode cX1_splice 189 = .ok (.iload_n 1, 1) := dk_27 (dk_at dksX1_splice_8 3 rfl rfl)
theorem dX1_splice_190 : decode cX1_splice 190 = .ok (.iload 4, 2) := dk_21 4 (dk_at dksX1_splice_8 4 rfl rfl)
theorem dX1_splice_192 : decode cX1_splice 192 = .ok (.iadd, 1) := dk_96 (dk_at dksX1_splice_8 6 rfl rfl)
theorem dX1_splice_193 : decode cX1_splice 193 = .ok (.aload_n 0, 1) := dk_42 (dk_at dksX1_splice_8 7 rfl rfl)
theorem dX1_splice_194 : decode cX1_splice 194 = .ok (.getfield 136, 3) := dk_180 0 136 (dk_at dksX1_splice_8 8 rfl rfl)
theorem dX1_splice_197 : decode cX1_splice 197 = .ok (.iload 4, 2) := dk_21 4 (dk_at dksX1_splice_8 11 rfl rfl)
theorem dX1_splice_199 : decode cX1_splice 199 = .ok (.iaload, 1) := dk_46 (dk_at dksX1_splice_8 13 rfl rfl)
theorem dX1_splice_200 : decode cX1_splice 200 = .ok (.iastore, 1) := dk_79 (dk_at dksX1_splice_8 14 rfl rfl)
theorem dX1_splice_201 : decode cX1_splice 201 = .ok (.aload_n 0, 1) := dk_42 (dk_at dksX1_splice_8 15 rfl rfl)
theorem dX1_splice_202 : decode cX1_splice 202 = .ok (.getfield 100, 3) := dk_180 0 100 (dk_at dksX1_splice_8 16 rfl rfl)
theorem dX1_splice_205 : decode cX1_splice 205 = .ok (.iload_n 1, 1) := dk_27 (dk_at dksX1_splice_8 19 rfl rfl)
theorem dX1_splice_206 : decode cX1_splice 206 = .ok (.iload 4, 2) := dk_21 4 (dk_at dksX1_splice_8 20 rfl rfl)
theorem dX1_splice_208 : decode cX1_splice 208 = .ok (.iadd, 1) := dk_96 (dk_at dksX1_splice_8 22 rfl rfl)
theorem dX1_splice_209 : decode cX1_splice 209 = .ok (.aload_n 0, 1) := dk_42 (dk_at dksX1_splice_8 23 rfl rfl)
theorem dX1_splice_210 : decode cX1_splice 210 = .ok (.getfield 139, 3) := dk_180 0 139 (dk_at dksX1_splice_9 0 rfl rfl)
theorem dX1_splice_213 : decode cX1_splice 213 = .ok (.iload 4, 2) := dk_21 4 (dk_at dksX1_splice_9 3 rfl rfl)
theorem dX1_splice_215 : decode cX1_splice 215 = .ok (.iaload, 1) := dk_46 (dk_at dksX1_splice_9 5 rfl rfl)
theorem dX1_splice_216 : decode cX1_splice 216 = .ok (.iastore, 1) := dk_79 (dk_at dksX1_splice_9 6 rfl rfl)
theorem dX1_splice_217 : decode cX1_splice 217 = .ok (.aload_n 0, 1) := dk_42 (dk_at dksX1_splice_9 7 rfl rfl)
theorem dX1_splice_218 : decode cX1_splice 218 = .ok (.getfield 103, 3) := dk_180 0 103 (dk_at dksX1_splice_9 8 rfl rfl)
theorem dX1_splice_221 : decode cX1_splice 221 = .ok (.iload_n 1, 1) := dk_27 (dk_at dksX1_splice_9 11 rfl rfl)
theorem dX1_splice_222 : decode cX1_splice 222 = .ok (.iload 4, 2) := dk_21 4 (dk_at dksX1_splice_9 12 rfl rfl)
theorem dX1_splice_224 : decode cX1_splice 224 = .ok (.iadd, 1) := dk_96 (dk_at dksX1_splice_9 14 rfl rfl)
theorem dX1_splice_225 : decode cX1_splice 225 = .ok (.aload_n 0, 1) := dk_42 (dk_at dksX1_splice_9 15 rfl rfl)
theorem dX1_splice_226 : decode cX1_splice 226 = .ok (.getfield 142, 3) := dk_180 0 142 (dk_at dksX1_splice_9 16 rfl rfl)
theorem dX1_splice_229 : decode cX1_splice 229 = .ok (.iload 4, 2) := dk_21 4 (dk_at dksX1_splice_9 19 rfl rfl)
theorem dX1_splice_231 : decode cX1_splice 231 = .ok (.iaload, 1) := dk_46 (dk_at dksX1_splice_9 21 rfl rfl)
theorem dX1_splice_232 : decode cX1_splice 232 = .ok (.iastore, 1) := dk_79 (dk_at dksX1_splice_9 22 rfl rfl)
theorem dX1_splice_233 : decode cX1_splice 233 = .ok (.aload_n 0, 1) := dk_42 (dk_at dksX1_splice_9 23 rfl rfl)
theorem dX1_splice_234 : decode cX1_splice 234 = .ok (.getfield 106, 3) := dk_180 0 106 (dk_at dksX1_splice_10 0 rfl rfl)
theorem dX1_splice_237 : decode cX1_splice 237 = .ok (.iload_n 1, 1) := dk_27 (dk_at dksX1_splice_10 3 rfl rfl)
theorem dX1_splice_238 : decode cX1_splice 238 = .ok (.iload 4, 2) := dk_21 4 (dk_at dksX1_splice_10 4 rfl rfl)
theorem dX1_splice_240 : decode cX1_splice 240 = .ok (.iadd, 1) := dk_96 (dk_at dksX1_splice_10 6 rfl rfl)
theorem dX1_splice_241 : decode cX1_splice 241 = .ok (.aload_n 0, 1) := dk_42 (dk_at dksX1_splice_10 7 rfl rfl)
theorem dX1_splice_242 : decode cX1_splice 242 = .ok (.getfield 145, 3) := dk_180 0 145 (dk_at dksX1_splice_10 8 rfl rfl)
theorem dX1_splice_245 : decode cX1_splice 245 = .ok (.iload 4, 2) := dk_21 4 (dk_at dksX1_splice_10 11 rfl rfl)
theorem dX1_splice_247 : decode cX1_splice 247 = .ok (.iaload, 1) := dk_46 (dk_at dksX1_splice_10 13 rfl rfl)
theorem dX1_splice_248 : decode cX1_splice 248 = .ok (.iastore, 1) := dk_79 (dk_at dksX1_splice_10 14 rfl rfl)
theorem dX1_splice_249 : decode cX1_splice 249 = .ok (.iinc 4 1, 3) := dk_132 4 1 (dk_at dksX1_splice_10 15 rfl rfl)
theorem dX1_splice_252 : decode cX1_splice 252 = .ok (.goto (-124), 3) := dk_167 255 132 (dk_at dksX1_splice_10 18 rfl rfl)
theorem dX1_splice_255 : decode cX1_splice 255 = .ok (.aload_n 0, 1) := dk_42 (dk_at dksX1_splice_10 21 rfl rfl)
theorem dX1_splice_256 : decode cX1_splice 256 = .ok (.dup, 1) := dk_89 (dk_at dksX1_splice_10 22 rfl rfl)
theorem dX1_splice_257 : decode cX1_splice 257 = .ok (.getfield 306, 3) := dk_180 1 50 (dk_at dksX1_splice_11 0 rfl rfl)
theorem dX1_splice_260 : decode cX1_splice 260 = .ok (.iload_n 2, 1) := dk_28 (dk_at dksX1_splice_11 3 rfl rfl)
theorem dX1_splice_261 : decode cX1_splice 261 = .ok (.iadd, 1) := dk_96 (dk_at dksX1_splice_11 4 rfl rfl)
theorem dX1_splice_262 : decode cX1_splice 262 = .ok (.putfield 306, 3) := dk_181 1 50 (dk_at dksX1_splice_11 5 rfl rfl)
theorem dX1_splice_265 : decode cX1_splice 265 = .ok (.aload_n 0, 1) := dk_42 (dk_at dksX1_splice_11 8 rfl rfl)
theorem dX1_splice_266 : decode cX1_splice 266 = .ok (.invokevirtual 322, 3) := dk_182 1 66 (dk_at dksX1_splice_11 9 rfl rfl)
theorem dX1_splice_269 : decode cX1_splice 269 = .ok (.return_, 1) := dk_177 (dk_at dksX1_splice_11 12 rfl rfl)
abbrev cX1_move : ByteArray := prog_20_method_52_code
def yX1_move : MethodName := ⟨RX1, "move", "(II)V"⟩
def dkwX1_move_3 : List UInt8 := [42, 180, 0, 106, 28, 42, 180, 0, 106, 27, 46, 79, 177]
abbrev dktX1_move_3 : List UInt8 := dkwX1_move_3 ++ []
def dkwX1_move_2 : List UInt8 := [42, 180, 0, 100, 28, 42, 180, 0, 100, 27, 46, 79, 42, 180, 0, 103, 28, 42, 180, 0, 103, 27, 46, 79]
abbrev dktX1_move_2 : List UInt8 := dkwX1_move_2 ++ dktX1_move_3
def dkwX1_move_1 : List UInt8 := [42, 180, 0, 94, 28, 42, 180, 0, 94, 27, 46, 79, 42, 180, 0, 97, 28, 42, 180, 0, 97, 27, 46, 79]
abbrev dktX1_move_1 : List UInt8 := dkwX1_move_1 ++ dktX1_move_2
def dkwX1_move_0 : List UInt8 := [42, 180, 0, 88, 28, 42, 180, 0, 88, 27, 46, 79, 42, 180, 0, 91, 28, 42, 180, 0, 91, 27, 47, 80]
abbrev dktX1_move_0 : List UInt8 := dkwX1_move_0 ++ dktX1_move_1
theorem dksX1_move_0 : cX1_move.data.toList.drop 0 = dktX1_move_0 := by decide +kernel
theorem dksX1_move_1 : cX1_move.data.toList.drop 24 = dktX1_move_1 := dk_seg dksX1_move_0 24 rfl rfl
theorem dksX1_move_2 : cX1_move.data.toList.drop 48 = dktX1_move_2 := dk_seg dksX1_move_1 24 rfl rfl
theorem dksX1_move_3 : cX1_move.data.toList.drop 72 = dktX1_move_3 := dk_seg dksX1_move_2 24 rfl rfl
theorem dX1_move_0 : decode cX1_move 0 = .ok (.aload_n 0, 1) := dk_42 (dk_at dksX1_move_0 0 rfl rfl)
theorem dX1_move_1 : decode cX1_move 1 = .ok (.getfield 88, 3) := dk_180 0 88 (dk_at dksX1_move_0 1 rfl rfl)
theorem dX1_move_4 : decode cX1_move 4 = .ok (.iload_n 2, 1) := dk_28 (dk_at dksX1_move_0 4 rfl rfl)
theorem dX1_move_5 : decode cX1_move 5 = .ok (.aload_n 0, 1) := dk_42 (dk_at dksX1_move_0 5 rfl rfl)
theorem dX1_move_6 : decode cX1_move 6 = .ok (.getfield 88, 3) := dk_180 0 88 (dk_at dksX1_move_0 6 rfl rfl)
theorem dX1_move_9 : decode cX1_move 9 = .ok (.iload_n 1, 1) := dk_27 (dk_at dksX1_move_0 9 rfl rfl)
theorem dX1_move_10 : decode cX1_move 10 = .ok (.iaload, 1) := dk_46 (dk_at dksX1_move_0 10 rfl rfl)
theorem dX1_move_11 : decode cX1_move 11 = .ok (.iastore, 1) := dk_79 (dk_at dksX1_move_0 11 rfl rfl)
theorem dX1_move_12 : decode cX1_move 12 = .ok (.aload_n 0, 1) := dk_42 (dk_at dksX1_move_0 12 rfl rfl)
theorem dX1_move_13 : decode cX1_move 13 = .ok (.getfield 91, 3) := dk_180 0 91 (dk_at dksX1_move_0 13 rfl rfl)
theorem dX1_move_16 : decode cX1_move 16 = .ok (.iload_n 2, 1) := dk_28 (dk_at dksX1_move_0 16 rfl rfl)
theorem dX1_move_17 : decode cX1_move 17 = .ok (.aload_n 0, 1) := dk_42 (dk_at dksX1_move_0 17 rfl rfl)
theorem dX1_move_18 : decode cX1_move 18 = .ok (.getfield 91, 3) := dk_180 0 91 (dk_at dksX1_move_0 18 rfl rfl)
theorem dX1_move_21 : decode cX1_move 21 = .ok (.iload_n 1, 1) := dk_27 (dk_at dksX1_move_0 21 rfl rfl)
theorem dX1_move_22 : decode cX1_move 22 = .ok (.laload, 1) := dk_47 (dk_at dksX1_move_0 22 rfl rfl)
theorem dX1_move_23 : decode cX1_move 23 = .ok (.lastore, 1) := dk_80 (dk_at dksX1_move_0 23 rfl rfl)
theorem dX1_move_24 : decode cX1_move 24 = .ok (.aload_n 0, 1) := dk_42 (dk_at dksX1_move_1 0 rfl rfl)
theorem dX1_move_25 : decode cX1_move 25 = .ok (.getfield 94, 3) := dk_180 0 94 (dk_at dksX1_move_1 1 rfl rfl)
theorem dX1_move_28 : decode cX1_move 28 = .ok (.iload_n 2, 1) := dk_28 (dk_at dksX1_move_1 4 rfl rfl)
theorem dX1_move_29 : decode cX1_move 29 = .ok (.aload_n 0, 1) := dk_42 (dk_at dksX1_move_1 5 rfl rfl)
theorem dX1_move_30 : decode cX1_move 30 = .ok (.getfield 94, 3) := dk_180 0 94 (dk_at dksX1_move_1 6 rfl rfl)
theorem dX1_move_33 : decode cX1_move 33 = .ok (.iload_n 1, 1) := dk_27 (dk_at dksX1_move_1 9 rfl rfl)
theorem dX1_move_34 : decode cX1_move 34 = .ok (.iaload, 1) := dk_46 (dk_at dksX1_move_1 10 rfl rfl)
theorem dX1_move_35 : decode cX1_move 35 = .ok (.iastore, 1) := dk_79 (dk_at dksX1_move_1 11 rfl rfl)
theorem dX1_move_36 : decode cX1_move 36 = .ok (.aload_n 0, 1) := dk_42 (dk_at dksX1_move_1 12 rfl rfl)
theorem dX1_move_37 : decode cX1_move 37 = .ok (.getfield 97, 3) := dk_180 0 97 (dk_at dksX1_move_1 13 rfl rfl)
theorem dX1_move_40 : decode cX1_move 40 = .ok (.iload_n 2, 1) := dk_28 (dk_at dksX1_move_1 16 rfl rfl)
theorem dX1_move_41 : decode cX1_move 41 = .ok (.aload_n 0, 1) := dk_42 (dk_at dksX1_move_1 17 rfl rfl)
theorem dX1_move_42 : decode cX1_move 42 = .ok (.getfield 97, 3) := dk_180 0 97 (dk_at dksX1_move_1 18 rfl rfl)
theorem dX1_move_45 : decode cX1_move 45 = .ok (.iload_n 1, 1) := dk_27 (dk_at dksX1_move_1 21 rfl rfl)
theorem dX1_move_46 : decode cX1_move 46 = .ok (.iaload, 1) := dk_46 (dk_at dksX1_move_1 22 rfl rfl)
theorem dX1_move_47 : decode cX1_move 47 = .ok (.iastore, 1) := dk_79 (dk_at dksX1_move_1 23 rfl rfl)
theorem dX1_move_48 : decode cX1_move 48 = .ok (.aload_n 0, 1) := dk_42 (dk_at dksX1_move_2 0 rfl rfl)
theorem dX1_move_49 : decode cX1_move 49 = .ok (.getfield 100, 3) := dk_180 0 100 (dk_at dksX1_move_2 1 rfl rfl)
theorem dX1_move_52 : decode cX1_move 52 = .ok (.iload_n 2, 1) := dk_28 (dk_at dksX1_move_2 4 rfl rfl)
theorem dX1_move_53 : decode cX1_move 53 = .ok (.aload_n 0, 1) := dk_42 (dk_at dksX1_move_2 5 rfl rfl)
theorem dX1_move_54 : decode cX1_move 54 = .ok (.getfield 100, 3) := dk_180 0 100 (dk_at dksX1_move_2 6 rfl rfl)
theorem dX1_move_57 : decode cX1_move 57 = .ok (.iload_n 1, 1) := dk_27 (dk_at dksX1_move_2 9 rfl rfl)
theorem dX1_move_58 : decode cX1_move 58 = .ok (.iaload, 1) := dk_46 (dk_at dksX1_move_2 10 rfl rfl)
theorem dX1_move_59 : decode cX1_move 59 = .ok (.iastore, 1) := dk_79 (dk_at dksX1_move_2 11 rfl rfl)
theorem dX1_move_60 : decode cX1_move 60 = .ok (.aload_n 0, 1) := dk_42 (dk_at dksX1_move_2 12 rfl rfl)
theorem dX1_move_61 : decode cX1_move 61 = .ok (.getfield 103, 3) := dk_180 0 103 (dk_at dksX1_move_2 13 rfl rfl)
theorem dX1_move_64 : decode cX1_move 64 = .ok (.iload_n 2, 1) := dk_28 (dk_at dksX1_move_2 16 rfl rfl)
theorem dX1_move_65 : decode cX1_move 65 = .ok (.aload_n 0, 1) := dk_42 (dk_at dksX1_move_2 17 rfl rfl)
theorem dX1_move_66 : decode cX1_move 66 = .ok (.getfield 103, 3) := dk_180 0 103 (dk_at dksX1_move_2 18 rfl rfl)
theorem dX1_move_69 : decode cX1_move 69 = .ok (.iload_n 1, 1) := dk_27 (dk_at dksX1_move_2 21 rfl rfl)
theorem dX1_move_70 : decode cX1_move 70 = .ok (.iaload, 1) := dk_46 (dk_at dksX1_move_2 22 rfl rfl)
theorem dX1_move_71 : decode cX1_move 71 = .ok (.iastore, 1) := dk_79 (dk_at dksX1_move_2 23 rfl rfl)
theorem dX1_move_72 : decode cX1_move 72 = .ok (.aload_n 0, 1) := dk_42 (dk_at dksX1_move_3 0 rfl rfl)
theorem dX1_move_73 : decode cX1_move 73 = .ok (.getfield 106, 3) := dk_180 0 106 (dk_at dksX1_move_3 1 rfl rfl)
theorem dX1_move_76 : decode cX1_move 76 = .ok (.iload_n 2, 1) := dk_28 (dk_at dksX1_move_3 4 rfl rfl)
theorem dX1_move_77 : decode cX1_move 77 = .ok (.aload_n 0, 1) := dk_42 (dk_at dksX1_move_3 5 rfl rfl)
theorem dX1_move_78 : decode cX1_move 78 = .ok (.getfield 106, 3) := dk_180 0 106 (dk_at dksX1_move_3 6 rfl rfl)
theorem dX1_move_81 : decode cX1_move 81 = .ok (.iload_n 1, 1) := dk_27 (dk_at dksX1_move_3 9 rfl rfl)
theorem dX1_move_82 : decode cX1_move 82 = .ok (.iaload, 1) := dk_46 (dk_at dksX1_move_3 10 rfl rfl)
theorem dX1_move_83 : decode cX1_move 83 = .ok (.iastore, 1) := dk_79 (dk_at dksX1_move_3 11 rfl rfl)
theorem dX1_move_84 : decode cX1_move 84 = .ok (.return_, 1) := dk_177 (dk_at dksX1_move_3 12 rfl rfl)
abbrev cX1_run : ByteArray := prog_20_method_57_code
def yX1_run : MethodName := ⟨RX1, "run", "(IZ)I"⟩
def dkwX1_run_4 : List UInt8 := [167, 255, 192, 29, 172]
abbrev dktX1_run_4 : List UInt8 := dkwX1_run_4 ++ []
def dkwX1_run_3 : List UInt8 := [155, 0, 7, 4, 167, 0, 4, 3, 54, 4, 29, 21, 4, 153, 0, 7, 4, 167, 0, 4, 3, 96, 62]
abbrev dktX1_run_3 : List UInt8 := dkwX1_run_3 ++ dktX1_run_4
def dkwX1_run_2 : List UInt8 := [167, 0, 8, 42, 3, 182, 1, 126, 54, 5, 21, 5, 16, 247, 159, 0, 16, 42, 21, 5, 182, 1, 161]
abbrev dktX1_run_2 : List UInt8 := dkwX1_run_2 ++ dktX1_run_3
def dkwX1_run_1 : List UInt8 := [172, 3, 62, 4, 54, 4, 29, 27, 162, 0, 65, 21, 4, 153, 0, 60, 28, 153, 0, 10, 42, 182, 1, 166]
abbrev dktX1_run_1 : List UInt8 := dkwX1_run_1 ++ dktX1_run_2
def dkwX1_run_0 : List UInt8 := [42, 180, 1, 78, 154, 0, 6, 16, 253, 172, 27, 133, 10, 20, 1, 164, 184, 1, 82, 154, 0, 6, 16, 254]
abbrev dktX1_run_0 : List UInt8 := dkwX1_run_0 ++ dktX1_run_1
theorem dksX1_run_0 : cX1_run.data.toList.drop 0 = dktX1_run_0 := by decide +kernel
theorem dksX1_run_1 : cX1_run.data.toList.drop 24 = dktX1_run_1 := dk_seg dksX1_run_0 24 rfl rfl
theorem dksX1_run_2 : cX1_run.data.toList.drop 48 = dktX1_run_2 := dk_seg dksX1_run_1 24 rfl rfl
theorem dksX1_run_3 : cX1_run.data.toList.drop 71 = dktX1_run_3 := dk_seg dksX1_run_2 23 rfl rfl
theorem dksX1_run_4 : cX1_run.data.toList.drop 94 = dktX1_run_4 := dk_seg dksX1_run_3 23 rfl rfl
theorem dX1_run_0 : decode cX1_run 0 = .ok (.aload_n 0, 1) := dk_42 (dk_at dksX1_run_0 0 rfl rfl)
theorem dX1_run_1 : decode cX1_run 1 = .ok (.getfield 334, 3) := dk_180 1 78 (dk_at dksX1_run_0 1 rfl rfl)
theorem dX1_run_4 : decode cX1_run 4 = .ok (.ifCond .ne 6, 3) := dk_154 0 6 (dk_at dksX1_run_0 4 rfl rfl)
theorem dX1_run_7 : decode cX1_run 7 = .ok (.bipush (-3), 2) := dk_16 253 (dk_at dksX1_run_0 7 rfl rfl)
theorem dX1_run_9 : decode cX1_run 9 = .ok (.ireturn, 1) := dk_172 (dk_at dksX1_run_0 9 rfl rfl)
theorem dX1_run_10 : decode cX1_run 10 = .ok (.iload_n 1, 1) := dk_27 (dk_at dksX1_run_0 10 rfl rfl)
theorem dX1_run_11 : decode cX1_run 11 = .ok (.i2l, 1) := dk_133 (dk_at dksX1_run_0 11 rfl rfl)
theorem dX1_run_12 : decode cX1_run 12 = .ok (.lconst 1, 1) := dk_10 (dk_at dksX1_run_0 12 rfl rfl)
theorem dX1_run_13 : decode cX1_run 13 = .ok (.ldc2_w 420, 3) := dk_20 1 164 (dk_at dksX1_run_0 13 rfl rfl)
theorem dX1_run_16 : decode cX1_run 16 = .ok (.invokestatic 338, 3) := dk_184 1 82 (dk_at dksX1_run_0 16 rfl rfl)
theorem dX1_run_19 : decode cX1_run 19 = .ok (.ifCond .ne 6, 3) := dk_154 0 6 (dk_at dksX1_run_0 19 rfl rfl)
theorem dX1_run_22 : decode cX1_run 22 = .ok (.bipush (-2), 2) := dk_16 254 (dk_at dksX1_run_0 22 rfl rfl)
theorem dX1_run_24 : decode cX1_run 24 = .ok (.ireturn, 1) := dk_172 (dk_at dksX1_run_1 0 rfl rfl)
theorem dX1_run_25 : decode cX1_run 25 = .ok (.iconst 0, 1) := dk_3 (dk_at dksX1_run_1 1 rfl rfl)
theorem dX1_run_26 : decode cX1_run 26 = .ok (.istore_n 3, 1) := dk_62 (dk_at dksX1_run_1 2 rfl rfl)
theorem dX1_run_27 : decode cX1_run 27 = .ok (.iconst 1, 1) := dk_4 (dk_at dksX1_run_1 3 rfl rfl)
theorem dX1_run_28 : decode cX1_run 28 = .ok (.istore 4, 2) := dk_54 4 (dk_at dksX1_run_1 4 rfl rfl)
theorem dX1_run_30 : decode cX1_run 30 = .ok (.iload_n 3, 1) := dk_29 (dk_at dksX1_run_1 6 rfl rfl)
theorem dX1_run_31 : decode cX1_run 31 = .ok (.iload_n 1, 1) := dk_27 (dk_at dksX1_run_1 7 rfl rfl)
theorem dX1_run_32 : decode cX1_run 32 = .ok (.if_icmp .ge 65, 3) := dk_162 0 65 (dk_at dksX1_run_1 8 rfl rfl)
theorem dX1_run_35 : decode cX1_run 35 = .ok (.iload 4, 2) := dk_21 4 (dk_at dksX1_run_1 11 rfl rfl)
theorem dX1_run_37 : decode cX1_run 37 = .ok (.ifCond .eq 60, 3) := dk_153 0 60 (dk_at dksX1_run_1 13 rfl rfl)
theorem dX1_run_40 : decode cX1_run 40 = .ok (.iload_n 2, 1) := dk_28 (dk_at dksX1_run_1 16 rfl rfl)
theorem dX1_run_41 : decode cX1_run 41 = .ok (.ifCond .eq 10, 3) := dk_153 0 10 (dk_at dksX1_run_1 17 rfl rfl)
theorem dX1_run_44 : decode cX1_run 44 = .ok (.aload_n 0, 1) := dk_42 (dk_at dksX1_run_1 20 rfl rfl)
theorem dX1_run_45 : decode cX1_run 45 = .ok (.invokevirtual 422, 3) := dk_182 1 166 (dk_at dksX1_run_1 21 rfl rfl)
theorem dX1_run_48 : decode cX1_run 48 = .ok (.goto 8, 3) := dk_167 0 8 (dk_at dksX1_run_2 0 rfl rfl)
theorem dX1_run_51 : decode cX1_run 51 = .ok (.aload_n 0, 1) := dk_42 (dk_at dksX1_run_2 3 rfl rfl)
theorem dX1_run_52 : decode cX1_run 52 = .ok (.iconst 0, 1) := dk_3 (dk_at dksX1_run_2 4 rfl rfl)
theorem dX1_run_53 : decode cX1_run 53 = .ok (.invokevirtual 382, 3) := dk_182 1 126 (dk_at dksX1_run_2 5 rfl rfl)
theorem dX1_run_56 : decode cX1_run 56 = .ok (.istore 5, 2) := dk_54 5 (dk_at dksX1_run_2 8 rfl rfl)
theorem dX1_run_58 : decode cX1_run 58 = .ok (.iload 5, 2) := dk_21 5 (dk_at dksX1_run_2 10 rfl rfl)
theorem dX1_run_60 : decode cX1_run 60 = .ok (.bipush (-9), 2) := dk_16 247 (dk_at dksX1_run_2 12 rfl rfl)
theorem dX1_run_62 : decode cX1_run 62 = .ok (.if_icmp .eq 16, 3) := dk_159 0 16 (dk_at dksX1_run_2 14 rfl rfl)
theorem dX1_run_65 : decode cX1_run 65 = .ok (.aload_n 0, 1) := dk_42 (dk_at dksX1_run_2 17 rfl rfl)
theorem dX1_run_66 : decode cX1_run 66 = .ok (.iload 5, 2) := dk_21 5 (dk_at dksX1_run_2 18 rfl rfl)
theorem dX1_run_68 : decode cX1_run 68 = .ok (.invokevirtual 417, 3) := dk_182 1 161 (dk_at dksX1_run_2 20 rfl rfl)
theorem dX1_run_71 : decode cX1_run 71 = .ok (.ifCond .lt 7, 3) := dk_155 0 7 (dk_at dksX1_run_3 0 rfl rfl)
theorem dX1_run_74 : decode cX1_run 74 = .ok (.iconst 1, 1) := dk_4 (dk_at dksX1_run_3 3 rfl rfl)
theorem dX1_run_75 : decode cX1_run 75 = .ok (.goto 4, 3) := dk_167 0 4 (dk_at dksX1_run_3 4 rfl rfl)
theorem dX1_run_78 : decode cX1_run 78 = .ok (.iconst 0, 1) := dk_3 (dk_at dksX1_run_3 7 rfl rfl)
theorem dX1_run_79 : decode cX1_run 79 = .ok (.istore 4, 2) := dk_54 4 (dk_at dksX1_run_3 8 rfl rfl)
theorem dX1_run_81 : decode cX1_run 81 = .ok (.iload_n 3, 1) := dk_29 (dk_at dksX1_run_3 10 rfl rfl)
theorem dX1_run_82 : decode cX1_run 82 = .ok (.iload 4, 2) := dk_21 4 (dk_at dksX1_run_3 11 rfl rfl)
theorem dX1_run_84 : decode cX1_run 84 = .ok (.ifCond .eq 7, 3) := dk_153 0 7 (dk_at dksX1_run_3 13 rfl rfl)
theorem dX1_run_87 : decode cX1_run 87 = .ok (.iconst 1, 1) := dk_4 (dk_at dksX1_run_3 16 rfl rfl)
theorem dX1_run_88 : decode cX1_run 88 = .ok (.goto 4, 3) := dk_167 0 4 (dk_at dksX1_run_3 17 rfl rfl)
theorem dX1_run_91 : decode cX1_run 91 = .ok (.iconst 0, 1) := dk_3 (dk_at dksX1_run_3 20 rfl rfl)
theorem dX1_run_92 : decode cX1_run 92 = .ok (.iadd, 1) := dk_96 (dk_at dksX1_run_3 21 rfl rfl)
theorem dX1_run_93 : decode cX1_run 93 = .ok (.istore_n 3, 1) := dk_62 (dk_at dksX1_run_3 22 rfl rfl)
theorem dX1_run_94 : decode cX1_run 94 = .ok (.goto (-64), 3) := dk_167 255 192 (dk_at dksX1_run_4 0 rfl rfl)
theorem dX1_run_97 : decode cX1_run 97 = .ok (.iload_n 3, 1) := dk_29 (dk_at dksX1_run_4 3 rfl rfl)
theorem dX1_run_98 : decode cX1_run 98 = .ok (.ireturn, 1) := dk_172 (dk_at dksX1_run_4 4 rfl rfl)
abbrev cX1_lastReady : ByteArray := prog_20_method_56_code
def yX1_lastReady : MethodName := ⟨RX1, "lastReady", "()I"⟩
def dkwX1_lastReady_1 : List UInt8 := [167, 0, 4, 27, 60, 132, 2, 1, 167, 255, 231, 27, 172]
abbrev dktX1_lastReady_1 : List UInt8 := dkwX1_lastReady_1 ++ []
def dkwX1_lastReady_0 : List UInt8 := [16, 247, 60, 3, 61, 28, 42, 180, 1, 50, 162, 0, 23, 42, 28, 182, 1, 123, 153, 0, 7, 28]
abbrev dktX1_lastReady_0 : List UInt8 := dkwX1_lastReady_0 ++ dktX1_lastReady_1
theorem dksX1_lastReady_0 : cX1_lastReady.data.toList.drop 0 = dktX1_lastReady_0 := by decide +kernel
theorem dksX1_lastReady_1 : cX1_lastReady.data.toList.drop 22 = dktX1_lastReady_1 := dk_seg dksX1_lastReady_0 22 rfl rfl
theorem dX1_lastReady_0 : decode cX1_lastReady 0 = .ok (.bipush (-9), 2) := dk_16 247 (dk_at dksX1_lastReady_0 0 rfl rfl)
theorem dX1_lastReady_2 : decode cX1_lastReady 2 = .ok (.istore_n 1, 1) := dk_60 (dk_at dksX1_lastReady_0 2 rfl rfl)
theorem dX1_lastReady_3 : decode cX1_lastReady 3 = .ok (.iconst 0, 1) := dk_3 (dk_at dksX1_lastReady_0 3 rfl rfl)
theorem dX1_lastReady_4 : decode cX1_lastReady 4 = .ok (.istore_n 2, 1) := dk_61 (dk_at dksX1_lastReady_0 4 rfl rfl)
theorem dX1_lastReady_5 : decode cX1_lastReady 5 = .ok (.iload_n 2, 1) := dk_28 (dk_at dksX1_lastReady_0 5 rfl rfl)
theorem dX1_lastReady_6 : decode cX1_lastReady 6 = .ok (.aload_n 0, 1) := dk_42 (dk_at dksX1_lastReady_0 6 rfl rfl)
theorem dX1_lastReady_7 : decode cX1_lastReady 7 = .ok (.getfield 306, 3) := dk_180 1 50 (dk_at dksX1_lastReady_0 7 rfl rfl)
theorem dX1_lastReady_10 : decode cX1_lastReady 10 = .ok (.if_icmp .ge 23, 3) := dk_162 0 23 (dk_at dksX1_lastReady_0 10 rfl rfl)
theorem dX1_lastReady_13 : decode cX1_lastReady 13 = .ok (.aload_n 0, 1) := dk_42 (dk_at dksX1_lastReady_0 13 rfl rfl)
theorem dX1_lastReady_14 : decode cX1_lastReady 14 = .ok (.iload_n 2, 1) := dk_28 (dk_at dksX1_lastReady_0 14 rfl rfl)
theorem dX1_lastReady_15 : decode cX1_lastReady 15 = .ok (.invokevirtual 379, 3) := dk_182 1 123 (dk_at dksX1_lastReady_0 15 rfl rfl)
theorem dX1_lastReady_18 : decode cX1_lastReady 18 = .ok (.ifCond .eq 7, 3) := dk_153 0 7 (dk_at dksX1_lastReady_0 18 rfl rfl)
theorem dX1_lastReady_21 : decode cX1_lastReady 21 = .ok (.iload_n 2, 1) := dk_28 (dk_at dksX1_lastReady_0 21 rfl rfl)
theorem dX1_lastReady_22 : decode cX1_lastReady 22 = .ok (.goto 4, 3) := dk_167 0 4 (dk_at dksX1_lastReady_1 0 rfl rfl)
theorem dX1_lastReady_25 : decode cX1_lastReady 25 = .ok (.iload_n 1, 1) := dk_27 (dk_at dksX1_lastReady_1 3 rfl rfl)
theorem dX1_lastReady_26 : decode cX1_lastReady 26 = .ok (.istore_n 1, 1) := dk_60 (dk_at dksX1_lastReady_1 4 rfl rfl)
theorem dX1_lastReady_27 : decode cX1_lastReady 27 = .ok (.iinc 2 1, 3) := dk_132 2 1 (dk_at dksX1_lastReady_1 5 rfl rfl)
theorem dX1_lastReady_30 : decode cX1_lastReady 30 = .ok (.goto (-25), 3) := dk_167 255 231 (dk_at dksX1_lastReady_1 8 rfl rfl)
theorem dX1_lastReady_33 : decode cX1_lastReady 33 = .ok (.iload_n 1, 1) := dk_27 (dk_at dksX1_lastReady_1 11 rfl rfl)
theorem dX1_lastReady_34 : decode cX1_lastReady 34 = .ok (.ireturn, 1) := dk_172 (dk_at dksX1_lastReady_1 12 rfl rfl)
abbrev cX1_back : ByteArray := prog_20_method_58_code
def yX1_back : MethodName := ⟨RX1, "back", "()I"⟩
def dkwX1_back_8 : List UInt8 := [180, 0, 154, 42, 180, 1, 69, 46, 181, 1, 75, 42, 27, 182, 1, 158, 42, 180, 1, 69, 172]
abbrev dktX1_back_8 : List UInt8 := dkwX1_back_8 ++ []
def dkwX1_back_7 : List UInt8 := [79, 42, 180, 0, 145, 29, 42, 180, 0, 181, 21, 4, 46, 79, 132, 3, 1, 167, 255, 144, 42, 42]
abbrev dktX1_back_7 : List UInt8 := dkwX1_back_7 ++ dktX1_back_8
def dkwX1_back_6 : List UInt8 := [180, 0, 139, 29, 42, 180, 0, 175, 21, 4, 46, 79, 42, 180, 0, 142, 29, 42, 180, 0, 178, 21, 4, 46]
abbrev dktX1_back_6 : List UInt8 := dkwX1_back_6 ++ dktX1_back_7
def dkwX1_back_5 : List UInt8 := [29, 42, 180, 0, 169, 21, 4, 46, 79, 42, 180, 0, 136, 29, 42, 180, 0, 172, 21, 4, 46, 79, 42]
abbrev dktX1_back_5 : List UInt8 := dkwX1_back_5 ++ dktX1_back_6
def dkwX1_back_4 : List UInt8 := [180, 0, 163, 21, 4, 46, 79, 42, 180, 0, 130, 29, 42, 180, 0, 166, 21, 4, 47, 80, 42, 180, 0, 133]
abbrev dktX1_back_4 : List UInt8 := dkwX1_back_4 ++ dktX1_back_5
def dkwX1_back_3 : List UInt8 := [162, 0, 113, 42, 180, 0, 154, 42, 180, 1, 69, 46, 29, 96, 54, 4, 42, 180, 0, 127, 29, 42]
abbrev dktX1_back_3 : List UInt8 := dkwX1_back_3 ++ dktX1_back_4
def dkwX1_back_2 : List UInt8 := [180, 1, 75, 42, 180, 0, 154, 42, 180, 1, 69, 46, 100, 61, 42, 28, 181, 1, 129, 3, 62, 29, 28]
abbrev dktX1_back_2 : List UInt8 := dkwX1_back_2 ++ dktX1_back_3
def dkwX1_back_1 : List UInt8 := [181, 1, 72, 42, 89, 180, 1, 69, 4, 100, 181, 1, 69, 42, 180, 0, 157, 42, 180, 1, 69, 46, 60, 42]
abbrev dktX1_back_1 : List UInt8 := dkwX1_back_1 ++ dktX1_back_2
def dkwX1_back_0 : List UInt8 := [42, 180, 1, 78, 153, 0, 10, 42, 180, 1, 72, 154, 0, 6, 16, 253, 172, 42, 89, 180, 1, 72, 4, 100]
abbrev dktX1_back_0 : List UInt8 := dkwX1_back_0 ++ dktX1_back_1
theorem dksX1_back_0 : cX1_back.data.toList.drop 0 = dktX1_back_0 := by decide +kernel
theorem dksX1_back_1 : cX1_back.data.toList.drop 24 = dktX1_back_1 := dk_seg dksX1_back_0 24 rfl rfl
theorem dksX1_back_2 : cX1_back.data.toList.drop 48 = dktX1_back_2 := dk_seg dksX1_back_1 24 rfl rfl
theorem dksX1_back_3 : cX1_back.data.toList.drop 71 = dktX1_back_3 := dk_seg dksX1_back_2 23 rfl rfl
theorem dksX1_back_4 : cX1_back.data.toList.drop 93 = dktX1_back_4 := dk_seg dksX1_back_3 22 rfl rfl
theorem dksX1_back_5 : cX1_back.data.toList.drop 117 = dktX1_back_5 := dk_seg dksX1_back_4 24 rfl rfl
theorem dksX1_back_6 : cX1_back.data.toList.drop 140 = dktX1_back_6 := dk_seg dksX1_back_5 23 rfl rfl
theorem dksX1_back_7 : cX1_back.data.toList.drop 164 = dktX1_back_7 := dk_seg dksX1_back_6 24 rfl rfl
theorem dksX1_back_8 : cX1_back.data.toList.drop 186 = dktX1_back_8 := dk_seg dksX1_back_7 22 rfl rfl
theorem dX1_back_0 : decode cX1_back 0 = .ok (.aload_n 0, 1) := dk_42 (dk_at dksX1_back_0 0 rfl rfl)
theorem dX1_back_1 : decode cX1_back 1 = .ok (.getfield 334, 3) := dk_180 1 78 (dk_at dksX1_back_0 1 rfl rfl)
theorem dX1_back_4 : decode cX1_back 4 = .ok (.ifCond .eq 10, 3) := dk_153 0 10 (dk_at dksX1_back_0 4 rfl rfl)
theorem dX1_back_7 : decode cX1_back 7 = .ok (.aload_n 0, 1) := dk_42 (dk_at dksX1_back_0 7 rfl rfl)
theorem dX1_back_8 : decode cX1_back 8 = .ok (.getfield 328, 3) := dk_180 1 72 (dk_at dksX1_back_0 8 rfl rfl)
theorem dX1_back_11 : decode cX1_back 11 = .ok (.ifCond .ne 6, 3) := dk_154 0 6 (dk_at dksX1_back_0 11 rfl rfl)
theorem dX1_back_14 : decode cX1_back 14 = .ok (.bipush (-3), 2) := dk_16 253 (dk_at dksX1_back_0 14 rfl rfl)
theorem dX1_back_16 : decode cX1_back 16 = .ok (.ireturn, 1) := dk_172 (dk_at dksX1_back_0 16 rfl rfl)
theorem dX1_back_17 : decode cX1_back 17 = .ok (.aload_n 0, 1) := dk_42 (dk_at dksX1_back_0 17 rfl rfl)
theorem dX1_back_18 : decode cX1_back 18 = .ok (.dup, 1) := dk_89 (dk_at dksX1_back_0 18 rfl rfl)
theorem dX1_back_19 : decode cX1_back 19 = .ok (.getfield 328, 3) := dk_180 1 72 (dk_at dksX1_back_0 19 rfl rfl)
theorem dX1_back_22 : decode cX1_back 22 = .ok (.iconst 1, 1) := dk_4 (dk_at dksX1_back_0 22 rfl rfl)
theorem dX1_back_23 : decode cX1_back 23 = .ok (.isub, 1) := dk_100 (dk_at dksX1_back_0 23 rfl rfl)
theorem dX1_back_24 : decode cX1_back 24 = .ok (.putfield 328, 3) := dk_181 1 72 (dk_at dksX1_back_1 0 rfl rfl)
theorem dX1_back_27 : decode cX1_back 27 = .ok (.aload_n 0, 1) := dk_42 (dk_at dksX1_back_1 3 rfl rfl)
theorem dX1_back_28 : decode cX1_back 28 = .ok (.dup, 1) := dk_89 (dk_at dksX1_back_1 4 rfl rfl)
theorem dX1_back_29 : decode cX1_back 29 = .ok (.getfield 325, 3) := dk_180 1 69 (dk_at dksX1_back_1 5 rfl rfl)
theorem dX1_back_32 : decode cX1_back 32 = .ok (.iconst 1, 1) := dk_4 (dk_at dksX1_back_1 8 rfl rfl)
theorem dX1_back_33 : decode cX1_back 33 = .ok (.isub, 1) := dk_100 (dk_at dksX1_back_1 9 rfl rfl)
theorem dX1_back_34 : decode cX1_back 34 = .ok (.putfield 325, 3) := dk_181 1 69 (dk_at dksX1_back_1 10 rfl rfl)
theorem dX1_back_37 : decode cX1_back 37 = .ok (.aload_n 0, 1) := dk_42 (dk_at dksX1_back_1 13 rfl rfl)
theorem dX1_back_38 : decode cX1_back 38 = .ok (.getfield 157, 3) := dk_180 0 157 (dk_at dksX1_back_1 14 rfl rfl)
theorem dX1_back_41 : decode cX1_back 41 = .ok (.aload_n 0, 1) := dk_42 (dk_at dksX1_back_1 17 rfl rfl)
theorem dX1_back_42 : decode cX1_back 42 = .ok (.getfield 325, 3) := dk_180 1 69 (dk_at dksX1_back_1 18 rfl rfl)
theorem dX1_back_45 : decode cX1_back 45 = .ok (.iaload, 1) := dk_46 (dk_at dksX1_back_1 21 rfl rfl)
theorem dX1_back_46 : decode cX1_back 46 = .ok (.istore_n 1, 1) := dk_60 (dk_at dksX1_back_1 22 rfl rfl)
theorem dX1_back_47 : decode cX1_back 47 = .ok (.aload_n 0, 1) := dk_42 (dk_at dksX1_back_1 23 rfl rfl)
theorem dX1_back_48 : decode cX1_back 48 = .ok (.getfield 331, 3) := dk_180 1 75 (dk_at dksX1_back_2 0 rfl rfl)
theorem dX1_back_51 : decode cX1_back 51 = .ok (.aload_n 0, 1) := dk_42 (dk_at dksX1_back_2 3 rfl rfl)
theorem dX1_back_52 : decode cX1_back 52 = .ok (.getfield 154, 3) := dk_180 0 154 (dk_at dksX1_back_2 4 rfl rfl)
theorem dX1_back_55 : decode cX1_back 55 = .ok (.aload_n 0, 1) := dk_42 (dk_at dksX1_back_2 7 rfl rfl)
theorem dX1_back_56 : decode cX1_back 56 = .ok (.getfield 325, 3) := dk_180 1 69 (dk_at dksX1_back_2 8 rfl rfl)
theorem dX1_back_59 : decode cX1_back 59 = .ok (.iaload, 1) := dk_46 (dk_at dksX1_back_2 11 rfl rfl)
theorem dX1_back_60 : decode cX1_back 60 = .ok (.isub, 1) := dk_100 (dk_at dksX1_back_2 12 rfl rfl)
theorem dX1_back_61 : decode cX1_back 61 = .ok (.istore_n 2, 1) := dk_61 (dk_at dksX1_back_2 13 rfl rfl)
theorem dX1_back_62 : decode cX1_back 62 = .ok (.aload_n 0, 1) := dk_42 (dk_at dksX1_back_2 14 rfl rfl)
theorem dX1_back_63 : decode cX1_back 63 = .ok (.iload_n 2, 1) := dk_28 (dk_at dksX1_back_2 15 rfl rfl)
theorem dX1_back_64 : decode cX1_back 64 = .ok (.putfield 385, 3) := dk_181 1 129 (dk_at dksX1_back_2 16 rfl rfl)
theorem dX1_back_67 : decode cX1_back 67 = .ok (.iconst 0, 1) := dk_3 (dk_at dksX1_back_2 19 rfl rfl)
theorem dX1_back_68 : decode cX1_back 68 = .ok (.istore_n 3, 1) := dk_62 (dk_at dksX1_back_2 20 rfl rfl)
theorem dX1_back_69 : decode cX1_back 69 = .ok (.iload_n 3, 1) := dk_29 (dk_at dksX1_back_2 21 rfl rfl)
theorem dX1_back_70 : decode cX1_back 70 = .ok (.iload_n 2, 1) := dk_28 (dk_at dksX1_back_2 22 rfl rfl)
theorem dX1_back_71 : decode cX1_back 71 = .ok (.if_icmp .ge 113, 3) := dk_162 0 113 (dk_at dksX1_back_3 0 rfl rfl)
theorem dX1_back_74 : decode cX1_back 74 = .ok (.aload_n 0, 1) := dk_42 (dk_at dksX1_back_3 3 rfl rfl)
theorem dX1_back_75 : decode cX1_back 75 = .ok (.getfield 154, 3) := dk_180 0 154 (dk_at dksX1_back_3 4 rfl rfl)
theorem dX1_back_78 : decode cX1_back 78 = .ok (.aload_n 0, 1) := dk_42 (dk_at dksX1_back_3 7 rfl rfl)
theorem dX1_back_79 : decode cX1_back 79 = .ok (.getfield 325, 3) := dk_180 1 69 (dk_at dksX1_back_3 8 rfl rfl)
theorem dX1_back_82 : decode cX1_back 82 = .ok (.iaload, 1) := dk_46 (dk_at dksX1_back_3 11 rfl rfl)
theorem dX1_back_83 : decode cX1_back 83 = .ok (.iload_n 3, 1) := dk_29 (dk_at dksX1_back_3 12 rfl rfl)
theorem dX1_back_84 : decode cX1_back 84 = .ok (.iadd, 1) := dk_96 (dk_at dksX1_back_3 13 rfl rfl)
theorem dX1_back_85 : decode cX1_back 85 = .ok (.istore 4, 2) := dk_54 4 (dk_at dksX1_back_3 14 rfl rfl)
theorem dX1_back_87 : decode cX1_back 87 = .ok (.aload_n 0, 1) := dk_42 (dk_at dksX1_back_3 16 rfl rfl)
theorem dX1_back_88 : decode cX1_back 88 = .ok (.getfield 127, 3) := dk_180 0 127 (dk_at dksX1_back_3 17 rfl rfl)
theorem dX1_back_91 : decode cX1_back 91 = .ok (.iload_n 3, 1) := dk_29 (dk_at dksX1_back_3 20 rfl rfl)
theorem dX1_back_92 : decode cX1_back 92 = .ok (.aload_n 0, 1) := dk_42 (dk_at dksX1_back_3 21 rfl rfl)
theorem dX1_back_93 : decode cX1_back 93 = .ok (.getfield 163, 3) := dk_180 0 163 (dk_at dksX1_back_4 0 rfl rfl)
theorem dX1_back_96 : decode cX1_back 96 = .ok (.iload 4, 2) := dk_21 4 (dk_at dksX1_back_4 3 rfl rfl)
theorem dX1_back_98 : decode cX1_back 98 = .ok (.iaload, 1) := dk_46 (dk_at dksX1_back_4 5 rfl rfl)
theorem dX1_back_99 : decode cX1_back 99 = .ok (.iastore, 1) := dk_79 (dk_at dksX1_back_4 6 rfl rfl)
theorem dX1_back_100 : decode cX1_back 100 = .ok (.aload_n 0, 1) := dk_42 (dk_at dksX1_back_4 7 rfl rfl)
theorem dX1_back_101 : decode cX1_back 101 = .ok (.getfield 130, 3) := dk_180 0 130 (dk_at dksX1_back_4 8 rfl rfl)
theorem dX1_back_104 : decode cX1_back 104 = .ok (.iload_n 3, 1) := dk_29 (dk_at dksX1_back_4 11 rfl rfl)
theorem dX1_back_105 : decode cX1_back 105 = .ok (.aload_n 0, 1) := dk_42 (dk_at dksX1_back_4 12 rfl rfl)
theorem dX1_back_106 : decode cX1_back 106 = .ok (.getfield 166, 3) := dk_180 0 166 (dk_at dksX1_back_4 13 rfl rfl)
theorem dX1_back_109 : decode cX1_back 109 = .ok (.iload 4, 2) := dk_21 4 (dk_at dksX1_back_4 16 rfl rfl)
theorem dX1_back_111 : decode cX1_back 111 = .ok (.laload, 1) := dk_47 (dk_at dksX1_back_4 18 rfl rfl)
theorem dX1_back_112 : decode cX1_back 112 = .ok (.lastore, 1) := dk_80 (dk_at dksX1_back_4 19 rfl rfl)
theorem dX1_back_113 : decode cX1_back 113 = .ok (.aload_n 0, 1) := dk_42 (dk_at dksX1_back_4 20 rfl rfl)
theorem dX1_back_114 : decode cX1_back 114 = .ok (.getfield 133, 3) := dk_180 0 133 (dk_at dksX1_back_4 21 rfl rfl)
theorem dX1_back_117 : decode cX1_back 117 = .ok (.iload_n 3, 1) := dk_29 (dk_at dksX1_back_5 0 rfl rfl)
theorem dX1_back_118 : decode cX1_back 118 = .ok (.aload_n 0, 1) := dk_42 (dk_at dksX1_back_5 1 rfl rfl)
theorem dX1_back_119 : decode cX1_back 119 = .ok (.getfield 169, 3) := dk_180 0 169 (dk_at dksX1_back_5 2 rfl rfl)
theorem dX1_back_122 : decode cX1_back 122 = .ok (.iload 4, 2) := dk_21 4 (dk_at dksX1_back_5 5 rfl rfl)
theorem dX1_back_124 : decode cX1_back 124 = .ok (.iaload, 1) := dk_46 (dk_at dksX1_back_5 7 rfl rfl)
theorem dX1_back_125 : decode cX1_back 125 = .ok (.iastore, 1) := dk_79 (dk_at dksX1_back_5 8 rfl rfl)
theorem dX1_back_126 : decode cX1_back 126 = .ok (.aload_n 0, 1) := dk_42 (dk_at dksX1_back_5 9 rfl rfl)
theorem dX1_back_127 : decode cX1_back 127 = .ok (.getfield 136, 3) := dk_180 0 136 (dk_at dksX1_back_5 10 rfl rfl)
theorem dX1_back_130 : decode cX1_back 130 = .ok (.iload_n 3, 1) := dk_29 (dk_at dksX1_back_5 13 rfl rfl)
theorem dX1_back_131 : decode cX1_back 131 = .ok (.aload_n 0, 1) := dk_42 (dk_at dksX1_back_5 14 rfl rfl)
theorem dX1_back_132 : decode cX1_back 132 = .ok (.getfield 172, 3) := dk_180 0 172 (dk_at dksX1_back_5 15 rfl rfl)
theorem dX1_back_135 : decode cX1_back 135 = .ok (.iload 4, 2) := dk_21 4 (dk_at dksX1_back_5 18 rfl rfl)
theorem dX1_back_137 : decode cX1_back 137 = .ok (.iaload, 1) := dk_46 (dk_at dksX1_back_5 20 rfl rfl)
theorem dX1_back_138 : decode cX1_back 138 = .ok (.iastore, 1) := dk_79 (dk_at dksX1_back_5 21 rfl rfl)
theorem dX1_back_139 : decode cX1_back 139 = .ok (.aload_n 0, 1) := dk_42 (dk_at dksX1_back_5 22 rfl rfl)
theorem dX1_back_140 : decode cX1_back 140 = .ok (.getfield 139, 3) := dk_180 0 139 (dk_at dksX1_back_6 0 rfl rfl)
theorem dX1_back_143 : decode cX1_back 143 = .ok (.iload_n 3, 1) := dk_29 (dk_at dksX1_back_6 3 rfl rfl)
theorem dX1_back_144 : decode cX1_back 144 = .ok (.aload_n 0, 1) := dk_42 (dk_at dksX1_back_6 4 rfl rfl)
theorem dX1_back_145 : decode cX1_back 145 = .ok (.getfield 175, 3) := dk_180 0 175 (dk_at dksX1_back_6 5 rfl rfl)
theorem dX1_back_148 : decode cX1_back 148 = .ok (.iload 4, 2) := dk_21 4 (dk_at dksX1_back_6 8 rfl rfl)
theorem dX1_back_150 : decode cX1_back 150 = .ok (.iaload, 1) := dk_46 (dk_at dksX1_back_6 10 rfl rfl)
theorem dX1_back_151 : decode cX1_back 151 = .ok (.iastore, 1) := dk_79 (dk_at dksX1_back_6 11 rfl rfl)
theorem dX1_back_152 : decode cX1_back 152 = .ok (.aload_n 0, 1) := dk_42 (dk_at dksX1_back_6 12 rfl rfl)
theorem dX1_back_153 : decode cX1_back 153 = .ok (.getfield 142, 3) := dk_180 0 142 (dk_at dksX1_back_6 13 rfl rfl)
theorem dX1_back_156 : decode cX1_back 156 = .ok (.iload_n 3, 1) := dk_29 (dk_at dksX1_back_6 16 rfl rfl)
theorem dX1_back_157 : decode cX1_back 157 = .ok (.aload_n 0, 1) := dk_42 (dk_at dksX1_back_6 17 rfl rfl)
theorem dX1_back_158 : decode cX1_back 158 = .ok (.getfield 178, 3) := dk_180 0 178 (dk_at dksX1_back_6 18 rfl rfl)
theorem dX1_back_161 : decode cX1_back 161 = .ok (.iload 4, 2) := dk_21 4 (dk_at dksX1_back_6 21 rfl rfl)
theorem dX1_back_163 : decode cX1_back 163 = .ok (.iaload, 1) := dk_46 (dk_at dksX1_back_6 23 rfl rfl)
theorem dX1_back_164 : decode cX1_back 164 = .ok (.iastore, 1) := dk_79 (dk_at dksX1_back_7 0 rfl rfl)
theorem dX1_back_165 : decode cX1_back 165 = .ok (.aload_n 0, 1) := dk_42 (dk_at dksX1_back_7 1 rfl rfl)
theorem dX1_back_166 : decode cX1_back 166 = .ok (.getfield 145, 3) := dk_180 0 145 (dk_at dksX1_back_7 2 rfl rfl)
theorem dX1_back_169 : decode cX1_back 169 = .ok (.iload_n 3, 1) := dk_29 (dk_at dksX1_back_7 5 rfl rfl)
theorem dX1_back_170 : decode cX1_back 170 = .ok (.aload_n 0, 1) := dk_42 (dk_at dksX1_back_7 6 rfl rfl)
theorem dX1_back_171 : decode cX1_back 171 = .ok (.getfield 181, 3) := dk_180 0 181 (dk_at dksX1_back_7 7 rfl rfl)
theorem dX1_back_174 : decode cX1_back 174 = .ok (.iload 4, 2) := dk_21 4 (dk_at dksX1_back_7 10 rfl rfl)
theorem dX1_back_176 : decode cX1_back 176 = .ok (.iaload, 1) := dk_46 (dk_at dksX1_back_7 12 rfl rfl)
theorem dX1_back_177 : decode cX1_back 177 = .ok (.iastore, 1) := dk_79 (dk_at dksX1_back_7 13 rfl rfl)
theorem dX1_back_178 : decode cX1_back 178 = .ok (.iinc 3 1, 3) := dk_132 3 1 (dk_at dksX1_back_7 14 rfl rfl)
theorem dX1_back_181 : decode cX1_back 181 = .ok (.goto (-112), 3) := dk_167 255 144 (dk_at dksX1_back_7 17 rfl rfl)
theorem dX1_back_184 : decode cX1_back 184 = .ok (.aload_n 0, 1) := dk_42 (dk_at dksX1_back_7 20 rfl rfl)
theorem dX1_back_185 : decode cX1_back 185 = .ok (.aload_n 0, 1) := dk_42 (dk_at dksX1_back_7 21 rfl rfl)
theorem dX1_back_186 : decode cX1_back 186 = .ok (.getfield 154, 3) := dk_180 0 154 (dk_at dksX1_back_8 0 rfl rfl)
theorem dX1_back_189 : decode cX1_back 189 = .ok (.aload_n 0, 1) := dk_42 (dk_at dksX1_back_8 3 rfl rfl)
theorem dX1_back_190 : decode cX1_back 190 = .ok (.getfield 325, 3) := dk_180 1 69 (dk_at dksX1_back_8 4 rfl rfl)
theorem dX1_back_193 : decode cX1_back 193 = .ok (.iaload, 1) := dk_46 (dk_at dksX1_back_8 7 rfl rfl)
theorem dX1_back_194 : decode cX1_back 194 = .ok (.putfield 331, 3) := dk_181 1 75 (dk_at dksX1_back_8 8 rfl rfl)
theorem dX1_back_197 : decode cX1_back 197 = .ok (.aload_n 0, 1) := dk_42 (dk_at dksX1_back_8 11 rfl rfl)
theorem dX1_back_198 : decode cX1_back 198 = .ok (.iload_n 1, 1) := dk_27 (dk_at dksX1_back_8 12 rfl rfl)
theorem dX1_back_199 : decode cX1_back 199 = .ok (.invokevirtual 414, 3) := dk_182 1 158 (dk_at dksX1_back_8 13 rfl rfl)
theorem dX1_back_202 : decode cX1_back 202 = .ok (.aload_n 0, 1) := dk_42 (dk_at dksX1_back_8 16 rfl rfl)
theorem dX1_back_203 : decode cX1_back 203 = .ok (.getfield 325, 3) := dk_180 1 69 (dk_at dksX1_back_8 17 rfl rfl)
theorem dX1_back_206 : decode cX1_back 206 = .ok (.ireturn, 1) := dk_172 (dk_at dksX1_back_8 20 rfl rfl)
abbrev cX1_step_2 : ByteArray := prog_20_method_59_code
def yX1_step_2 : MethodName := ⟨RX1, "step", "(II)I"⟩
def dkwX1_step_2_3 : List UInt8 := [42, 180, 0, 112, 27, 46, 172, 42, 180, 0, 115, 27, 46, 172, 42, 180, 0, 118, 27, 46, 172, 16, 254, 172]
abbrev dktX1_step_2_3 : List UInt8 := dkwX1_step_2_3 ++ []
def dkwX1_step_2_2 : List UInt8 := [170, 0, 0, 0, 46, 0, 0, 0, 0, 0, 0, 0, 2, 0, 0, 0, 25, 0, 0, 0, 32, 0, 0, 0, 39]
abbrev dktX1_step_2_2 : List UInt8 := dkwX1_step_2_2 ++ dktX1_step_2_3
def dkwX1_step_2_1 : List UInt8 := [2, 172, 28]
abbrev dktX1_step_2_1 : List UInt8 := dkwX1_step_2_1 ++ dktX1_step_2_2
def dkwX1_step_2_0 : List UInt8 := [42, 180, 1, 78, 154, 0, 6, 16, 253, 172, 27, 133, 10, 42, 180, 1, 69, 133, 184, 1, 82, 154, 0, 5]
abbrev dktX1_step_2_0 : List UInt8 := dkwX1_step_2_0 ++ dktX1_step_2_1
theorem dksX1_step_2_0 : cX1_step_2.data.toList.drop 0 = dktX1_step_2_0 := by decide +kernel
theorem dksX1_step_2_1 : cX1_step_2.data.toList.drop 24 = dktX1_step_2_1 := dk_seg dksX1_step_2_0 24 rfl rfl
theorem dksX1_step_2_2 : cX1_step_2.data.toList.drop 27 = dktX1_step_2_2 := dk_seg dksX1_step_2_1 3 rfl rfl
theorem dksX1_step_2_3 : cX1_step_2.data.toList.drop 52 = dktX1_step_2_3 := dk_seg dksX1_step_2_2 25 rfl rfl
theorem dX1_step_2_0 : decode cX1_step_2 0 = .ok (.aload_n 0, 1) := dk_42 (dk_at dksX1_step_2_0 0 rfl rfl)
theorem dX1_step_2_1 : decode cX1_step_2 1 = .ok (.getfield 334, 3) := dk_180 1 78 (dk_at dksX1_step_2_0 1 rfl rfl)
theorem dX1_step_2_4 : decode cX1_step_2 4 = .ok (.ifCond .ne 6, 3) := dk_154 0 6 (dk_at dksX1_step_2_0 4 rfl rfl)
theorem dX1_step_2_7 : decode cX1_step_2 7 = .ok (.bipush (-3), 2) := dk_16 253 (dk_at dksX1_step_2_0 7 rfl rfl)
theorem dX1_step_2_9 : decode cX1_step_2 9 = .ok (.ireturn, 1) := dk_172 (dk_at dksX1_step_2_0 9 rfl rfl)
theorem dX1_step_2_10 : decode cX1_step_2 10 = .ok (.iload_n 1, 1) := dk_27 (dk_at dksX1_step_2_0 10 rfl rfl)
theorem dX1_step_2_11 : decode cX1_step_2 11 = .ok (.i2l, 1) := dk_133 (dk_at dksX1_step_2_0 11 rfl rfl)
theorem dX1_step_2_12 : decode cX1_step_2 12 = .ok (.lconst 1, 1) := dk_10 (dk_at dksX1_step_2_0 12 rfl rfl)
theorem dX1_step_2_13 : decode cX1_step_2 13 = .ok (.aload_n 0, 1) := dk_42 (dk_at dksX1_step_2_0 13 rfl rfl)
theorem dX1_step_2_14 : decode cX1_step_2 14 = .ok (.getfield 325, 3) := dk_180 1 69 (dk_at dksX1_step_2_0 14 rfl rfl)
theorem dX1_step_2_17 : decode cX1_step_2 17 = .ok (.i2l, 1) := dk_133 (dk_at dksX1_step_2_0 17 rfl rfl)
theorem dX1_step_2_18 : decode cX1_step_2 18 = .ok (.invokestatic 338, 3) := dk_184 1 82 (dk_at dksX1_step_2_0 18 rfl rfl)
theorem dX1_step_2_21 : decode cX1_step_2 21 = .ok (.ifCond .ne 5, 3) := dk_154 0 5 (dk_at dksX1_step_2_0 21 rfl rfl)
theorem dX1_step_2_24 : decode cX1_step_2 24 = .ok (.iconst (-1), 1) := dk_2 (dk_at dksX1_step_2_1 0 rfl rfl)
theorem dX1_step_2_25 : decode cX1_step_2 25 = .ok (.ireturn, 1) := dk_172 (dk_at dksX1_step_2_1 1 rfl rfl)
theorem dX1_step_2_26 : decode cX1_step_2 26 = .ok (.iload_n 2, 1) := dk_28 (dk_at dksX1_step_2_1 2 rfl rfl)
theorem dX1_step_2_27 : decode cX1_step_2 27 = .ok (.tableswitch 46 0 2 #[25, 32, 39], 25) := by decide +kernel
theorem dX1_step_2_52 : decode cX1_step_2 52 = .ok (.aload_n 0, 1) := dk_42 (dk_at dksX1_step_2_3 0 rfl rfl)
theorem dX1_step_2_53 : decode cX1_step_2 53 = .ok (.getfield 112, 3) := dk_180 0 112 (dk_at dksX1_step_2_3 1 rfl rfl)
theorem dX1_step_2_56 : decode cX1_step_2 56 = .ok (.iload_n 1, 1) := dk_27 (dk_at dksX1_step_2_3 4 rfl rfl)
theorem dX1_step_2_57 : decode cX1_step_2 57 = .ok (.iaload, 1) := dk_46 (dk_at dksX1_step_2_3 5 rfl rfl)
theorem dX1_step_2_58 : decode cX1_step_2 58 = .ok (.ireturn, 1) := dk_172 (dk_at dksX1_step_2_3 6 rfl rfl)
theorem dX1_step_2_59 : decode cX1_step_2 59 = .ok (.aload_n 0, 1) := dk_42 (dk_at dksX1_step_2_3 7 rfl rfl)
theorem dX1_step_2_60 : decode cX1_step_2 60 = .ok (.getfield 115, 3) := dk_180 0 115 (dk_at dksX1_step_2_3 8 rfl rfl)
theorem dX1_step_2_63 : decode cX1_step_2 63 = .ok (.iload_n 1, 1) := dk_27 (dk_at dksX1_step_2_3 11 rfl rfl)
theorem dX1_step_2_64 : decode cX1_step_2 64 = .ok (.iaload, 1) := dk_46 (dk_at dksX1_step_2_3 12 rfl rfl)
theorem dX1_step_2_65 : decode cX1_step_2 65 = .ok (.ireturn, 1) := dk_172 (dk_at dksX1_step_2_3 13 rfl rfl)
theorem dX1_step_2_66 : decode cX1_step_2 66 = .ok (.aload_n 0, 1) := dk_42 (dk_at dksX1_step_2_3 14 rfl rfl)
theorem dX1_step_2_67 : decode cX1_step_2 67 = .ok (.getfield 118, 3) := dk_180 0 118 (dk_at dksX1_step_2_3 15 rfl rfl)
theorem dX1_step_2_70 : decode cX1_step_2 70 = .ok (.iload_n 1, 1) := dk_27 (dk_at dksX1_step_2_3 18 rfl rfl)
theorem dX1_step_2_71 : decode cX1_step_2 71 = .ok (.iaload, 1) := dk_46 (dk_at dksX1_step_2_3 19 rfl rfl)
theorem dX1_step_2_72 : decode cX1_step_2 72 = .ok (.ireturn, 1) := dk_172 (dk_at dksX1_step_2_3 20 rfl rfl)
theorem dX1_step_2_73 : decode cX1_step_2 73 = .ok (.bipush (-2), 2) := dk_16 254 (dk_at dksX1_step_2_3 21 rfl rfl)
theorem dX1_step_2_75 : decode cX1_step_2 75 = .ok (.ireturn, 1) := dk_172 (dk_at dksX1_step_2_3 23 rfl rfl)
abbrev cX1_maker : ByteArray := prog_20_method_60_code
def yX1_maker : MethodName := ⟨RX1, "maker", "(II)I"⟩
def dkwX1_maker_2 : List UInt8 := [132, 4, 1, 167, 255, 236, 28, 155, 0, 7, 29, 154, 0, 8, 16, 247, 167, 0, 4, 29, 172]
abbrev dktX1_maker_2 : List UInt8 := dkwX1_maker_2 ++ []
def dkwX1_maker_1 : List UInt8 := [27, 46, 62, 3, 54, 4, 21, 4, 28, 162, 0, 20, 29, 158, 0, 16, 42, 180, 0, 118, 29, 46, 62]
abbrev dktX1_maker_1 : List UInt8 := dkwX1_maker_1 ++ dktX1_maker_2
def dkwX1_maker_0 : List UInt8 := [42, 180, 1, 78, 154, 0, 6, 16, 253, 172, 42, 27, 182, 1, 118, 154, 0, 5, 2, 172, 42, 180, 0, 100]
abbrev dktX1_maker_0 : List UInt8 := dkwX1_maker_0 ++ dktX1_maker_1
theorem dksX1_maker_0 : cX1_maker.data.toList.drop 0 = dktX1_maker_0 := by decide +kernel
theorem dksX1_maker_1 : cX1_maker.data.toList.drop 24 = dktX1_maker_1 := dk_seg dksX1_maker_0 24 rfl rfl
theorem dksX1_maker_2 : cX1_maker.data.toList.drop 47 = dktX1_maker_2 := dk_seg dksX1_maker_1 23 rfl rfl
theorem dX1_maker_0 : decode cX1_maker 0 = .ok (.aload_n 0, 1) := dk_42 (dk_at dksX1_maker_0 0 rfl rfl)
theorem dX1_maker_1 : decode cX1_maker 1 = .ok (.getfield 334, 3) := dk_180 1 78 (dk_at dksX1_maker_0 1 rfl rfl)
theorem dX1_maker_4 : decode cX1_maker 4 = .ok (.ifCond .ne 6, 3) := dk_154 0 6 (dk_at dksX1_maker_0 4 rfl rfl)
theorem dX1_maker_7 : decode cX1_maker 7 = .ok (.bipush (-3), 2) := dk_16 253 (dk_at dksX1_maker_0 7 rfl rfl)
theorem dX1_maker_9 : decode cX1_maker 9 = .ok (.ireturn, 1) := dk_172 (dk_at dksX1_maker_0 9 rfl rfl)
theorem dX1_maker_10 : decode cX1_maker 10 = .ok (.aload_n 0, 1) := dk_42 (dk_at dksX1_maker_0 10 rfl rfl)
theorem dX1_maker_11 : decode cX1_maker 11 = .ok (.iload_n 1, 1) := dk_27 (dk_at dksX1_maker_0 11 rfl rfl)
theorem dX1_maker_12 : decode cX1_maker 12 = .ok (.invokevirtual 374, 3) := dk_182 1 118 (dk_at dksX1_maker_0 12 rfl rfl)
theorem dX1_maker_15 : decode cX1_maker 15 = .ok (.ifCond .ne 5, 3) := dk_154 0 5 (dk_at dksX1_maker_0 15 rfl rfl)
theorem dX1_maker_18 : decode cX1_maker 18 = .ok (.iconst (-1), 1) := dk_2 (dk_at dksX1_maker_0 18 rfl rfl)
theorem dX1_maker_19 : decode cX1_maker 19 = .ok (.ireturn, 1) := dk_172 (dk_at dksX1_maker_0 19 rfl rfl)
theorem dX1_maker_20 : decode cX1_maker 20 = .ok (.aload_n 0, 1) := dk_42 (dk_at dksX1_maker_0 20 rfl rfl)
theorem dX1_maker_21 : decode cX1_maker 21 = .ok (.getfield 100, 3) := dk_180 0 100 (dk_at dksX1_maker_0 21 rfl rfl)
theorem dX1_maker_24 : decode cX1_maker 24 = .ok (.iload_n 1, 1) := dk_27 (dk_at dksX1_maker_1 0 rfl rfl)
theorem dX1_maker_25 : decode cX1_maker 25 = .ok (.iaload, 1) := dk_46 (dk_at dksX1_maker_1 1 rfl rfl)
theorem dX1_maker_26 : decode cX1_maker 26 = .ok (.istore_n 3, 1) := dk_62 (dk_at dksX1_maker_1 2 rfl rfl)
theorem dX1_maker_27 : decode cX1_maker 27 = .ok (.iconst 0, 1) := dk_3 (dk_at dksX1_maker_1 3 rfl rfl)
theorem dX1_maker_28 : decode cX1_maker 28 = .ok (.istore 4, 2) := dk_54 4 (dk_at dksX1_maker_1 4 rfl rfl)
theorem dX1_maker_30 : decode cX1_maker 30 = .ok (.iload 4, 2) := dk_21 4 (dk_at dksX1_maker_1 6 rfl rfl)
theorem dX1_maker_32 : decode cX1_maker 32 = .ok (.iload_n 2, 1) := dk_28 (dk_at dksX1_maker_1 8 rfl rfl)
theorem dX1_maker_33 : decode cX1_maker 33 = .ok (.if_icmp .ge 20, 3) := dk_162 0 20 (dk_at dksX1_maker_1 9 rfl rfl)
theorem dX1_maker_36 : decode cX1_maker 36 = .ok (.iload_n 3, 1) := dk_29 (dk_at dksX1_maker_1 12 rfl rfl)
theorem dX1_maker_37 : decode cX1_maker 37 = .ok (.ifCond .le 16, 3) := dk_158 0 16 (dk_at dksX1_maker_1 13 rfl rfl)
theorem dX1_maker_40 : decode cX1_maker 40 = .ok (.aload_n 0, 1) := dk_42 (dk_at dksX1_maker_1 16 rfl rfl)
theorem dX1_maker_41 : decode cX1_maker 41 = .ok (.getfield 118, 3) := dk_180 0 118 (dk_at dksX1_maker_1 17 rfl rfl)
theorem dX1_maker_44 : decode cX1_maker 44 = .ok (.iload_n 3, 1) := dk_29 (dk_at dksX1_maker_1 20 rfl rfl)
theorem dX1_maker_45 : decode cX1_maker 45 = .ok (.iaload, 1) := dk_46 (dk_at dksX1_maker_1 21 rfl rfl)
theorem dX1_maker_46 : decode cX1_maker 46 = .ok (.istore_n 3, 1) := dk_62 (dk_at dksX1_maker_1 22 rfl rfl)
theorem dX1_maker_47 : decode cX1_maker 47 = .ok (.iinc 4 1, 3) := dk_132 4 1 (dk_at dksX1_maker_2 0 rfl rfl)
theorem dX1_maker_50 : decode cX1_maker 50 = .ok (.goto (-20), 3) := dk_167 255 236 (dk_at dksX1_maker_2 3 rfl rfl)
theorem dX1_maker_53 : decode cX1_maker 53 = .ok (.iload_n 2, 1) := dk_28 (dk_at dksX1_maker_2 6 rfl rfl)
theorem dX1_maker_54 : decode cX1_maker 54 = .ok (.ifCond .lt 7, 3) := dk_155 0 7 (dk_at dksX1_maker_2 7 rfl rfl)
theorem dX1_maker_57 : decode cX1_maker 57 = .ok (.iload_n 3, 1) := dk_29 (dk_at dksX1_maker_2 10 rfl rfl)
theorem dX1_maker_58 : decode cX1_maker 58 = .ok (.ifCond .ne 8, 3) := dk_154 0 8 (dk_at dksX1_maker_2 11 rfl rfl)
theorem dX1_maker_61 : decode cX1_maker 61 = .ok (.bipush (-9), 2) := dk_16 247 (dk_at dksX1_maker_2 14 rfl rfl)
theorem dX1_maker_63 : decode cX1_maker 63 = .ok (.goto 4, 3) := dk_167 0 4 (dk_at dksX1_maker_2 16 rfl rfl)
theorem dX1_maker_66 : decode cX1_maker 66 = .ok (.iload_n 3, 1) := dk_29 (dk_at dksX1_maker_2 19 rfl rfl)
theorem dX1_maker_67 : decode cX1_maker 67 = .ok (.ireturn, 1) := dk_172 (dk_at dksX1_maker_2 20 rfl rfl)
abbrev cX1_came : ByteArray := prog_20_method_61_code
def yX1_came : MethodName := ⟨RX1, "came", "(I)I"⟩
def dkwX1_came_2 : List UInt8 := [4, 167, 0, 4, 3, 96, 61, 132, 3, 1, 167, 255, 227, 28, 172]
abbrev dktX1_came_2 : List UInt8 := dkwX1_came_2 ++ []
def dkwX1_came_1 : List UInt8 := [172, 3, 61, 3, 62, 29, 42, 180, 1, 50, 162, 0, 27, 28, 42, 180, 0, 97, 29, 46, 27, 160, 0, 7]
abbrev dktX1_came_1 : List UInt8 := dkwX1_came_1 ++ dktX1_came_2
def dkwX1_came_0 : List UInt8 := [42, 180, 1, 78, 154, 0, 6, 16, 253, 172, 27, 133, 9, 20, 1, 170, 184, 1, 82, 154, 0, 6, 16, 254]
abbrev dktX1_came_0 : List UInt8 := dkwX1_came_0 ++ dktX1_came_1
theorem dksX1_came_0 : cX1_came.data.toList.drop 0 = dktX1_came_0 := by decide +kernel
theorem dksX1_came_1 : cX1_came.data.toList.drop 24 = dktX1_came_1 := dk_seg dksX1_came_0 24 rfl rfl
theorem dksX1_came_2 : cX1_came.data.toList.drop 48 = dktX1_came_2 := dk_seg dksX1_came_1 24 rfl rfl
theorem dX1_came_0 : decode cX1_came 0 = .ok (.aload_n 0, 1) := dk_42 (dk_at dksX1_came_0 0 rfl rfl)
theorem dX1_came_1 : decode cX1_came 1 = .ok (.getfield 334, 3) := dk_180 1 78 (dk_at dksX1_came_0 1 rfl rfl)
theorem dX1_came_4 : decode cX1_came 4 = .ok (.ifCond .ne 6, 3) := dk_154 0 6 (dk_at dksX1_came_0 4 rfl rfl)
theorem dX1_came_7 : decode cX1_came 7 = .ok (.bipush (-3), 2) := dk_16 253 (dk_at dksX1_came_0 7 rfl rfl)
theorem dX1_came_9 : decode cX1_came 9 = .ok (.ireturn, 1) := dk_172 (dk_at dksX1_came_0 9 rfl rfl)
theorem dX1_came_10 : decode cX1_came 10 = .ok (.iload_n 1, 1) := dk_27 (dk_at dksX1_came_0 10 rfl rfl)
theorem dX1_came_11 : decode cX1_came 11 = .ok (.i2l, 1) := dk_133 (dk_at dksX1_came_0 11 rfl rfl)
theorem dX1_came_12 : decode cX1_came 12 = .ok (.lconst 0, 1) := dk_9 (dk_at dksX1_came_0 12 rfl rfl)
theorem dX1_came_13 : decode cX1_came 13 = .ok (.ldc2_w 426, 3) := dk_20 1 170 (dk_at dksX1_came_0 13 rfl rfl)
theorem dX1_came_16 : decode cX1_came 16 = .ok (.invokestatic 338, 3) := dk_184 1 82 (dk_at dksX1_came_0 16 rfl rfl)
theorem dX1_came_19 : decode cX1_came 19 = .ok (.ifCond .ne 6, 3) := dk_154 0 6 (dk_at dksX1_came_0 19 rfl rfl)
theorem dX1_came_22 : decode cX1_came 22 = .ok (.bipush (-2), 2) := dk_16 254 (dk_at dksX1_came_0 22 rfl rfl)
theorem dX1_came_24 : decode cX1_came 24 = .ok (.ireturn, 1) := dk_172 (dk_at dksX1_came_1 0 rfl rfl)
theorem dX1_came_25 : decode cX1_came 25 = .ok (.iconst 0, 1) := dk_3 (dk_at dksX1_came_1 1 rfl rfl)
theorem dX1_came_26 : decode cX1_came 26 = .ok (.istore_n 2, 1) := dk_61 (dk_at dksX1_came_1 2 rfl rfl)
theorem dX1_came_27 : decode cX1_came 27 = .ok (.iconst 0, 1) := dk_3 (dk_at dksX1_came_1 3 rfl rfl)
theorem dX1_came_28 : decode cX1_came 28 = .ok (.istore_n 3, 1) := dk_62 (dk_at dksX1_came_1 4 rfl rfl)
theorem dX1_came_29 : decode cX1_came 29 = .ok (.iload_n 3, 1) := dk_29 (dk_at dksX1_came_1 5 rfl rfl)
theorem dX1_came_30 : decode cX1_came 30 = .ok (.aload_n 0, 1) := dk_42 (dk_at dksX1_came_1 6 rfl rfl)
theorem dX1_came_31 : decode cX1_came 31 = .ok (.getfield 306, 3) := dk_180 1 50 (dk_at dksX1_came_1 7 rfl rfl)
theorem dX1_came_34 : decode cX1_came 34 = .ok (.if_icmp .ge 27, 3) := dk_162 0 27 (dk_at dksX1_came_1 10 rfl rfl)
theorem dX1_came_37 : decode cX1_came 37 = .ok (.iload_n 2, 1) := dk_28 (dk_at dksX1_came_1 13 rfl rfl)
theorem dX1_came_38 : decode cX1_came 38 = .ok (.aload_n 0, 1) := dk_42 (dk_at dksX1_came_1 14 rfl rfl)
theorem dX1_came_39 : decode cX1_came 39 = .ok (.getfield 97, 3) := dk_180 0 97 (dk_at dksX1_came_1 15 rfl rfl)
theorem dX1_came_42 : decode cX1_came 42 = .ok (.iload_n 3, 1) := dk_29 (dk_at dksX1_came_1 18 rfl rfl)
theorem dX1_came_43 : decode cX1_came 43 = .ok (.iaload, 1) := dk_46 (dk_at dksX1_came_1 19 rfl rfl)
theorem dX1_came_44 : decode cX1_came 44 = .ok (.iload_n 1, 1) := dk_27 (dk_at dksX1_came_1 20 rfl rfl)
theorem dX1_came_45 : decode cX1_came 45 = .ok (.if_icmp .ne 7, 3) := dk_160 0 7 (dk_at dksX1_came_1 21 rfl rfl)
theorem dX1_came_48 : decode cX1_came 48 = .ok (.iconst 1, 1) := dk_4 (dk_at dksX1_came_2 0 rfl rfl)
theorem dX1_came_49 : decode cX1_came 49 = .ok (.goto 4, 3) := dk_167 0 4 (dk_at dksX1_came_2 1 rfl rfl)
theorem dX1_came_52 : decode cX1_came 52 = .ok (.iconst 0, 1) := dk_3 (dk_at dksX1_came_2 4 rfl rfl)
theorem dX1_came_53 : decode cX1_came 53 = .ok (.iadd, 1) := dk_96 (dk_at dksX1_came_2 5 rfl rfl)
theorem dX1_came_54 : decode cX1_came 54 = .ok (.istore_n 2, 1) := dk_61 (dk_at dksX1_came_2 6 rfl rfl)
theorem dX1_came_55 : decode cX1_came 55 = .ok (.iinc 3 1, 3) := dk_132 3 1 (dk_at dksX1_came_2 7 rfl rfl)
theorem dX1_came_58 : decode cX1_came 58 = .ok (.goto (-29), 3) := dk_167 255 227 (dk_at dksX1_came_2 10 rfl rfl)
theorem dX1_came_61 : decode cX1_came 61 = .ok (.iload_n 2, 1) := dk_28 (dk_at dksX1_came_2 13 rfl rfl)
theorem dX1_came_62 : decode cX1_came 62 = .ok (.ireturn, 1) := dk_172 (dk_at dksX1_came_2 14 rfl rfl)
abbrev cX1_keep : ByteArray := prog_20_method_62_code
def yX1_keep : MethodName := ⟨RX1, "keep", "()I"⟩
def dkwX1_keep_3 : List UInt8 := [180, 0, 193, 27, 42, 27, 182, 1, 99, 79, 132, 1, 1, 167, 255, 198, 42, 180, 1, 50, 172]
abbrev dktX1_keep_3 : List UInt8 := dkwX1_keep_3 ++ []
def dkwX1_keep_2 : List UInt8 := [180, 0, 187, 27, 42, 180, 0, 91, 27, 47, 80, 42, 180, 0, 190, 27, 42, 180, 0, 106, 27, 46, 79, 42]
abbrev dktX1_keep_2 : List UInt8 := dkwX1_keep_2 ++ dktX1_keep_3
def dkwX1_keep_1 : List UInt8 := [60, 27, 42, 180, 1, 50, 162, 0, 56, 42, 180, 0, 184, 27, 42, 180, 0, 88, 27, 46, 79, 42]
abbrev dktX1_keep_1 : List UInt8 := dkwX1_keep_1 ++ dktX1_keep_2
def dkwX1_keep_0 : List UInt8 := [42, 180, 1, 78, 154, 0, 6, 16, 253, 172, 42, 4, 181, 1, 172, 42, 42, 180, 1, 50, 181, 1, 175, 3]
abbrev dktX1_keep_0 : List UInt8 := dkwX1_keep_0 ++ dktX1_keep_1
theorem dksX1_keep_0 : cX1_keep.data.toList.drop 0 = dktX1_keep_0 := by decide +kernel
theorem dksX1_keep_1 : cX1_keep.data.toList.drop 24 = dktX1_keep_1 := dk_seg dksX1_keep_0 24 rfl rfl
theorem dksX1_keep_2 : cX1_keep.data.toList.drop 46 = dktX1_keep_2 := dk_seg dksX1_keep_1 22 rfl rfl
theorem dksX1_keep_3 : cX1_keep.data.toList.drop 70 = dktX1_keep_3 := dk_seg dksX1_keep_2 24 rfl rfl
theorem dX1_keep_0 : decode cX1_keep 0 = .ok (.aload_n 0, 1) := dk_42 (dk_at dksX1_keep_0 0 rfl rfl)
theorem dX1_keep_1 : decode cX1_keep 1 = .ok (.getfield 334, 3) := dk_180 1 78 (dk_at dksX1_keep_0 1 rfl rfl)
theorem dX1_keep_4 : decode cX1_keep 4 = .ok (.ifCond .ne 6, 3) := dk_154 0 6 (dk_at dksX1_keep_0 4 rfl rfl)
theorem dX1_keep_7 : decode cX1_keep 7 = .ok (.bipush (-3), 2) := dk_16 253 (dk_at dksX1_keep_0 7 rfl rfl)
theorem dX1_keep_9 : decode cX1_keep 9 = .ok (.ireturn, 1) := dk_172 (dk_at dksX1_keep_0 9 rfl rfl)
theorem dX1_keep_10 : decode cX1_keep 10 = .ok (.aload_n 0, 1) := dk_42 (dk_at dksX1_keep_0 10 rfl rfl)
theorem dX1_keep_11 : decode cX1_keep 11 = .ok (.iconst 1, 1) := dk_4 (dk_at dksX1_keep_0 11 rfl rfl)
theorem dX1_keep_12 : decode cX1_keep 12 = .ok (.putfield 428, 3) := dk_181 1 172 (dk_at dksX1_keep_0 12 rfl rfl)
theorem dX1_keep_15 : decode cX1_keep 15 = .ok (.aload_n 0, 1) := dk_42 (dk_at dksX1_keep_0 15 rfl rfl)
theorem dX1_keep_16 : decode cX1_keep 16 = .ok (.aload_n 0, 1) := dk_42 (dk_at dksX1_keep_0 16 rfl rfl)
theorem dX1_keep_17 : decode cX1_keep 17 = .ok (.getfield 306, 3) := dk_180 1 50 (dk_at dksX1_keep_0 17 rfl rfl)
theorem dX1_keep_20 : decode cX1_keep 20 = .ok (.putfield 431, 3) := dk_181 1 175 (dk_at dksX1_keep_0 20 rfl rfl)
theorem dX1_keep_23 : decode cX1_keep 23 = .ok (.iconst 0, 1) := dk_3 (dk_at dksX1_keep_0 23 rfl rfl)
theorem dX1_keep_24 : decode cX1_keep 24 = .ok (.istore_n 1, 1) := dk_60 (dk_at dksX1_keep_1 0 rfl rfl)
theorem dX1_keep_25 : decode cX1_keep 25 = .ok (.iload_n 1, 1) := dk_27 (dk_at dksX1_keep_1 1 rfl rfl)
theorem dX1_keep_26 : decode cX1_keep 26 = .ok (.aload_n 0, 1) := dk_42 (dk_at dksX1_keep_1 2 rfl rfl)
theorem dX1_keep_27 : decode cX1_keep 27 = .ok (.getfield 306, 3) := dk_180 1 50 (dk_at dksX1_keep_1 3 rfl rfl)
theorem dX1_keep_30 : decode cX1_keep 30 = .ok (.if_icmp .ge 56, 3) := dk_162 0 56 (dk_at dksX1_keep_1 6 rfl rfl)
theorem dX1_keep_33 : decode cX1_keep 33 = .ok (.aload_n 0, 1) := dk_42 (dk_at dksX1_keep_1 9 rfl rfl)
theorem dX1_keep_34 : decode cX1_keep 34 = .ok (.getfield 184, 3) := dk_180 0 184 (dk_at dksX1_keep_1 10 rfl rfl)
theorem dX1_keep_37 : decode cX1_keep 37 = .ok (.iload_n 1, 1) := dk_27 (dk_at dksX1_keep_1 13 rfl rfl)
theorem dX1_keep_38 : decode cX1_keep 38 = .ok (.aload_n 0, 1) := dk_42 (dk_at dksX1_keep_1 14 rfl rfl)
theorem dX1_keep_39 : decode cX1_keep 39 = .ok (.getfield 88, 3) := dk_180 0 88 (dk_at dksX1_keep_1 15 rfl rfl)
theorem dX1_keep_42 : decode cX1_keep 42 = .ok (.iload_n 1, 1) := dk_27 (dk_at dksX1_keep_1 18 rfl rfl)
theorem dX1_keep_43 : decode cX1_keep 43 = .ok (.iaload, 1) := dk_46 (dk_at dksX1_keep_1 19 rfl rfl)
theorem dX1_keep_44 : decode cX1_keep 44 = .ok (.iastore, 1) := dk_79 (dk_at dksX1_keep_1 20 rfl rfl)
theorem dX1_keep_45 : decode cX1_keep 45 = .ok (.aload_n 0, 1) := dk_42 (dk_at dksX1_keep_1 21 rfl rfl)
theorem dX1_keep_46 : decode cX1_keep 46 = .ok (.getfield 187, 3) := dk_180 0 187 (dk_at dksX1_keep_2 0 rfl rfl)
theorem dX1_keep_49 : decode cX1_keep 49 = .ok (.iload_n 1, 1) := dk_27 (dk_at dksX1_keep_2 3 rfl rfl)
theorem dX1_keep_50 : decode cX1_keep 50 = .ok (.aload_n 0, 1) := dk_42 (dk_at dksX1_keep_2 4 rfl rfl)
theorem dX1_keep_51 : decode cX1_keep 51 = .ok (.getfield 91, 3) := dk_180 0 91 (dk_at dksX1_keep_2 5 rfl rfl)
theorem dX1_keep_54 : decode cX1_keep 54 = .ok (.iload_n 1, 1) := dk_27 (dk_at dksX1_keep_2 8 rfl rfl)
theorem dX1_keep_55 : decode cX1_keep 55 = .ok (.laload, 1) := dk_47 (dk_at dksX1_keep_2 9 rfl rfl)
theorem dX1_keep_56 : decode cX1_keep 56 = .ok (.lastore, 1) := dk_80 (dk_at dksX1_keep_2 10 rfl rfl)
theorem dX1_keep_57 : decode cX1_keep 57 = .ok (.aload_n 0, 1) := dk_42 (dk_at dksX1_keep_2 11 rfl rfl)
theorem dX1_keep_58 : decode cX1_keep 58 = .ok (.getfield 190, 3) := dk_180 0 190 (dk_at dksX1_keep_2 12 rfl rfl)
theorem dX1_keep_61 : decode cX1_keep 61 = .ok (.iload_n 1, 1) := dk_27 (dk_at dksX1_keep_2 15 rfl rfl)
theorem dX1_keep_62 : decode cX1_keep 62 = .ok (.aload_n 0, 1) := dk_42 (dk_at dksX1_keep_2 16 rfl rfl)
theorem dX1_keep_63 : decode cX1_keep 63 = .ok (.getfield 106, 3) := dk_180 0 106 (dk_at dksX1_keep_2 17 rfl rfl)
theorem dX1_keep_66 : decode cX1_keep 66 = .ok (.iload_n 1, 1) := dk_27 (dk_at dksX1_keep_2 20 rfl rfl)
theorem dX1_keep_67 : decode cX1_keep 67 = .ok (.iaload, 1) := dk_46 (dk_at dksX1_keep_2 21 rfl rfl)
theorem dX1_keep_68 : decode cX1_keep 68 = .ok (.iastore, 1) := dk_79 (dk_at dksX1_keep_2 22 rfl rfl)
theorem dX1_keep_69 : decode cX1_keep 69 = .ok (.aload_n 0, 1) := dk_42 (dk_at dksX1_keep_2 23 rfl rfl)
theorem dX1_keep_70 : decode cX1_keep 70 = .ok (.getfield 193, 3) := dk_180 0 193 (dk_at dksX1_keep_3 0 rfl rfl)
theorem dX1_keep_73 : decode cX1_keep 73 = .ok (.iload_n 1, 1) := dk_27 (dk_at dksX1_keep_3 3 rfl rfl)
theorem dX1_keep_74 : decode cX1_keep 74 = .ok (.aload_n 0, 1) := dk_42 (dk_at dksX1_keep_3 4 rfl rfl)
theorem dX1_keep_75 : decode cX1_keep 75 = .ok (.iload_n 1, 1) := dk_27 (dk_at dksX1_keep_3 5 rfl rfl)
theorem dX1_keep_76 : decode cX1_keep 76 = .ok (.invokevirtual 355, 3) := dk_182 1 99 (dk_at dksX1_keep_3 6 rfl rfl)
theorem dX1_keep_79 : decode cX1_keep 79 = .ok (.iastore, 1) := dk_79 (dk_at dksX1_keep_3 9 rfl rfl)
theorem dX1_keep_80 : decode cX1_keep 80 = .ok (.iinc 1 1, 3) := dk_132 1 1 (dk_at dksX1_keep_3 10 rfl rfl)
theorem dX1_keep_83 : decode cX1_keep 83 = .ok (.goto (-58), 3) := dk_167 255 198 (dk_at dksX1_keep_3 13 rfl rfl)
theorem dX1_keep_86 : decode cX1_keep 86 = .ok (.aload_n 0, 1) := dk_42 (dk_at dksX1_keep_3 16 rfl rfl)
theorem dX1_keep_87 : decode cX1_keep 87 = .ok (.getfield 306, 3) := dk_180 1 50 (dk_at dksX1_keep_3 17 rfl rfl)
theorem dX1_keep_90 : decode cX1_keep 90 = .ok (.ireturn, 1) := dk_172 (dk_at dksX1_keep_3 20 rfl rfl)
abbrev cX1_alike : ByteArray := prog_20_method_63_code
def yX1_alike : MethodName := ⟨RX1, "alike", "()I"⟩
def dkwX1_alike_6 : List UInt8 := [172]
abbrev dktX1_alike_6 : List UInt8 := dkwX1_alike_6 ++ []
def dkwX1_alike_5 : List UInt8 := [154, 0, 7, 4, 167, 0, 4, 3, 60, 132, 2, 1, 167, 255, 167, 27, 153, 0, 7, 4, 167, 0, 4, 3]
abbrev dktX1_alike_5 : List UInt8 := dkwX1_alike_5 ++ dktX1_alike_6
def dkwX1_alike_4 : List UInt8 := [160, 0, 29, 29, 16, 247, 160, 0, 19, 42, 180, 0, 91, 28, 47, 42, 180, 0, 187, 28, 47, 148]
abbrev dktX1_alike_4 : List UInt8 := dkwX1_alike_4 ++ dktX1_alike_5
def dkwX1_alike_3 : List UInt8 := [42, 180, 0, 106, 28, 46, 42, 180, 0, 190, 28, 46, 160, 0, 39, 29, 42, 180, 0, 193, 28, 46]
abbrev dktX1_alike_3 : List UInt8 := dkwX1_alike_3 ++ dktX1_alike_4
def dkwX1_alike_2 : List UInt8 := [153, 0, 83, 42, 28, 182, 1, 99, 62, 42, 180, 0, 88, 28, 46, 42, 180, 0, 184, 28, 46, 160, 0, 54]
abbrev dktX1_alike_2 : List UInt8 := dkwX1_alike_2 ++ dktX1_alike_3
def dkwX1_alike_1 : List UInt8 := [180, 1, 175, 160, 0, 7, 4, 167, 0, 4, 3, 60, 3, 61, 28, 42, 180, 1, 50, 162, 0, 87, 27]
abbrev dktX1_alike_1 : List UInt8 := dkwX1_alike_1 ++ dktX1_alike_2
def dkwX1_alike_0 : List UInt8 := [42, 180, 1, 78, 153, 0, 10, 42, 180, 1, 172, 154, 0, 6, 16, 253, 172, 42, 180, 1, 50, 42]
abbrev dktX1_alike_0 : List UInt8 := dkwX1_alike_0 ++ dktX1_alike_1
theorem dksX1_alike_0 : cX1_alike.data.toList.drop 0 = dktX1_alike_0 := by decide +kernel
theorem dksX1_alike_1 : cX1_alike.data.toList.drop 22 = dktX1_alike_1 := dk_seg dksX1_alike_0 22 rfl rfl
theorem dksX1_alike_2 : cX1_alike.data.toList.drop 45 = dktX1_alike_2 := dk_seg dksX1_alike_1 23 rfl rfl
theorem dksX1_alike_3 : cX1_alike.data.toList.drop 69 = dktX1_alike_3 := dk_seg dksX1_alike_2 24 rfl rfl
theorem dksX1_alike_4 : cX1_alike.data.toList.drop 91 = dktX1_alike_4 := dk_seg dksX1_alike_3 22 rfl rfl
theorem dksX1_alike_5 : cX1_alike.data.toList.drop 113 = dktX1_alike_5 := dk_seg dksX1_alike_4 22 rfl rfl
theorem dksX1_alike_6 : cX1_alike.data.toList.drop 137 = dktX1_alike_6 := dk_seg dksX1_alike_5 24 rfl rfl
theorem dX1_alike_0 : decode cX1_alike 0 = .ok (.aload_n 0, 1) := dk_42 (dk_at dksX1_alike_0 0 rfl rfl)
theorem dX1_alike_1 : decode cX1_alike 1 = .ok (.getfield 334, 3) := dk_180 1 78 (dk_at dksX1_alike_0 1 rfl rfl)
theorem dX1_alike_4 : decode cX1_alike 4 = .ok (.ifCond .eq 10, 3) := dk_153 0 10 (dk_at dksX1_alike_0 4 rfl rfl)
theorem dX1_alike_7 : decode cX1_alike 7 = .ok (.aload_n 0, 1) := dk_42 (dk_at dksX1_alike_0 7 rfl rfl)
theorem dX1_alike_8 : decode cX1_alike 8 = .ok (.getfield 428, 3) := dk_180 1 172 (dk_at dksX1_alike_0 8 rfl rfl)
theorem dX1_alike_11 : decode cX1_alike 11 = .ok (.ifCond .ne 6, 3) := dk_154 0 6 (dk_at dksX1_alike_0 11 rfl rfl)
theorem dX1_alike_14 : decode cX1_alike 14 = .ok (.bipush (-3), 2) := dk_16 253 (dk_at dksX1_alike_0 14 rfl rfl)
theorem dX1_alike_16 : decode cX1_alike 16 = .ok (.ireturn, 1) := dk_172 (dk_at dksX1_alike_0 16 rfl rfl)
theorem dX1_alike_17 : decode cX1_alike 17 = .ok (.aload_n 0, 1) := dk_42 (dk_at dksX1_alike_0 17 rfl rfl)
theorem dX1_alike_18 : decode cX1_alike 18 = .ok (.getfield 306, 3) := dk_180 1 50 (dk_at dksX1_alike_0 18 rfl rfl)
theorem dX1_alike_21 : decode cX1_alike 21 = .ok (.aload_n 0, 1) := dk_42 (dk_at dksX1_alike_0 21 rfl rfl)
theorem dX1_alike_22 : decode cX1_alike 22 = .ok (.getfield 431, 3) := dk_180 1 175 (dk_at dksX1_alike_1 0 rfl rfl)
theorem dX1_alike_25 : decode cX1_alike 25 = .ok (.if_icmp .ne 7, 3) := dk_160 0 7 (dk_at dksX1_alike_1 3 rfl rfl)
theorem dX1_alike_28 : decode cX1_alike 28 = .ok (.iconst 1, 1) := dk_4 (dk_at dksX1_alike_1 6 rfl rfl)
theorem dX1_alike_29 : decode cX1_alike 29 = .ok (.goto 4, 3) := dk_167 0 4 (dk_at dksX1_alike_1 7 rfl rfl)
theorem dX1_alike_32 : decode cX1_alike 32 = .ok (.iconst 0, 1) := dk_3 (dk_at dksX1_alike_1 10 rfl rfl)
theorem dX1_alike_33 : decode cX1_alike 33 = .ok (.istore_n 1, 1) := dk_60 (dk_at dksX1_alike_1 11 rfl rfl)
theorem dX1_alike_34 : decode cX1_alike 34 = .ok (.iconst 0, 1) := dk_3 (dk_at dksX1_alike_1 12 rfl rfl)
theorem dX1_alike_35 : decode cX1_alike 35 = .ok (.istore_n 2, 1) := dk_61 (dk_at dksX1_alike_1 13 rfl rfl)
theorem dX1_alike_36 : decode cX1_alike 36 = .ok (.iload_n 2, 1) := dk_28 (dk_at dksX1_alike_1 14 rfl rfl)
theorem dX1_alike_37 : decode cX1_alike 37 = .ok (.aload_n 0, 1) := dk_42 (dk_at dksX1_alike_1 15 rfl rfl)
theorem dX1_alike_38 : decode cX1_alike 38 = .ok (.getfield 306, 3) := dk_180 1 50 (dk_at dksX1_alike_1 16 rfl rfl)
theorem dX1_alike_41 : decode cX1_alike 41 = .ok (.if_icmp .ge 87, 3) := dk_162 0 87 (dk_at dksX1_alike_1 19 rfl rfl)
theorem dX1_alike_44 : decode cX1_alike 44 = .ok (.iload_n 1, 1) := dk_27 (dk_at dksX1_alike_1 22 rfl rfl)
theorem dX1_alike_45 : decode cX1_alike 45 = .ok (.ifCond .eq 83, 3) := dk_153 0 83 (dk_at dksX1_alike_2 0 rfl rfl)
theorem dX1_alike_48 : decode cX1_alike 48 = .ok (.aload_n 0, 1) := dk_42 (dk_at dksX1_alike_2 3 rfl rfl)
theorem dX1_alike_49 : decode cX1_alike 49 = .ok (.iload_n 2, 1) := dk_28 (dk_at dksX1_alike_2 4 rfl rfl)
theorem dX1_alike_50 : decode cX1_alike 50 = .ok (.invokevirtual 355, 3) := dk_182 1 99 (dk_at dksX1_alike_2 5 rfl rfl)
theorem dX1_alike_53 : decode cX1_alike 53 = .ok (.istore_n 3, 1) := dk_62 (dk_at dksX1_alike_2 8 rfl rfl)
theorem dX1_alike_54 : decode cX1_alike 54 = .ok (.aload_n 0, 1) := dk_42 (dk_at dksX1_alike_2 9 rfl rfl)
theorem dX1_alike_55 : decode cX1_alike 55 = .ok (.getfield 88, 3) := dk_180 0 88 (dk_at dksX1_alike_2 10 rfl rfl)
theorem dX1_alike_58 : decode cX1_alike 58 = .ok (.iload_n 2, 1) := dk_28 (dk_at dksX1_alike_2 13 rfl rfl)
theorem dX1_alike_59 : decode cX1_alike 59 = .ok (.iaload, 1) := dk_46 (dk_at dksX1_alike_2 14 rfl rfl)
theorem dX1_alike_60 : decode cX1_alike 60 = .ok (.aload_n 0, 1) := dk_42 (dk_at dksX1_alike_2 15 rfl rfl)
theorem dX1_alike_61 : decode cX1_alike 61 = .ok (.getfield 184, 3) := dk_180 0 184 (dk_at dksX1_alike_2 16 rfl rfl)
theorem dX1_alike_64 : decode cX1_alike 64 = .ok (.iload_n 2, 1) := dk_28 (dk_at dksX1_alike_2 19 rfl rfl)
theorem dX1_alike_65 : decode cX1_alike 65 = .ok (.iaload, 1) := dk_46 (dk_at dksX1_alike_2 20 rfl rfl)
theorem dX1_alike_66 : decode cX1_alike 66 = .ok (.if_icmp .ne 54, 3) := dk_160 0 54 (dk_at dksX1_alike_2 21 rfl rfl)
theorem dX1_alike_69 : decode cX1_alike 69 = .ok (.aload_n 0, 1) := dk_42 (dk_at dksX1_alike_3 0 rfl rfl)
theorem dX1_alike_70 : decode cX1_alike 70 = .ok (.getfield 106, 3) := dk_180 0 106 (dk_at dksX1_alike_3 1 rfl rfl)
theorem dX1_alike_73 : decode cX1_alike 73 = .ok (.iload_n 2, 1) := dk_28 (dk_at dksX1_alike_3 4 rfl rfl)
theorem dX1_alike_74 : decode cX1_alike 74 = .ok (.iaload, 1) := dk_46 (dk_at dksX1_alike_3 5 rfl rfl)
theorem dX1_alike_75 : decode cX1_alike 75 = .ok (.aload_n 0, 1) := dk_42 (dk_at dksX1_alike_3 6 rfl rfl)
theorem dX1_alike_76 : decode cX1_alike 76 = .ok (.getfield 190, 3) := dk_180 0 190 (dk_at dksX1_alike_3 7 rfl rfl)
theorem dX1_alike_79 : decode cX1_alike 79 = .ok (.iload_n 2, 1) := dk_28 (dk_at dksX1_alike_3 10 rfl rfl)
theorem dX1_alike_80 : decode cX1_alike 80 = .ok (.iaload, 1) := dk_46 (dk_at dksX1_alike_3 11 rfl rfl)
theorem dX1_alike_81 : decode cX1_alike 81 = .ok (.if_icmp .ne 39, 3) := dk_160 0 39 (dk_at dksX1_alike_3 12 rfl rfl)
theorem dX1_alike_84 : decode cX1_alike 84 = .ok (.iload_n 3, 1) := dk_29 (dk_at dksX1_alike_3 15 rfl rfl)
theorem dX1_alike_85 : decode cX1_alike 85 = .ok (.aload_n 0, 1) := dk_42 (dk_at dksX1_alike_3 16 rfl rfl)
theorem dX1_alike_86 : decode cX1_alike 86 = .ok (.getfield 193, 3) := dk_180 0 193 (dk_at dksX1_alike_3 17 rfl rfl)
theorem dX1_alike_89 : decode cX1_alike 89 = .ok (.iload_n 2, 1) := dk_28 (dk_at dksX1_alike_3 20 rfl rfl)
theorem dX1_alike_90 : decode cX1_alike 90 = .ok (.iaload, 1) := dk_46 (dk_at dksX1_alike_3 21 rfl rfl)
theorem dX1_alike_91 : decode cX1_alike 91 = .ok (.if_icmp .ne 29, 3) := dk_160 0 29 (dk_at dksX1_alike_4 0 rfl rfl)
theorem dX1_alike_94 : decode cX1_alike 94 = .ok (.iload_n 3, 1) := dk_29 (dk_at dksX1_alike_4 3 rfl rfl)
theorem dX1_alike_95 : decode cX1_alike 95 = .ok (.bipush (-9), 2) := dk_16 247 (dk_at dksX1_alike_4 4 rfl rfl)
theorem dX1_alike_97 : decode cX1_alike 97 = .ok (.if_icmp .ne 19, 3) := dk_160 0 19 (dk_at dksX1_alike_4 6 rfl rfl)
theorem dX1_alike_100 : decode cX1_alike 100 = .ok (.aload_n 0, 1) := dk_42 (dk_at dksX1_alike_4 9 rfl rfl)
theorem dX1_alike_101 : decode cX1_alike 101 = .ok (.getfield 91, 3) := dk_180 0 91 (dk_at dksX1_alike_4 10 rfl rfl)
theorem dX1_alike_104 : decode cX1_alike 104 = .ok (.iload_n 2, 1) := dk_28 (dk_at dksX1_alike_4 13 rfl rfl)
theorem dX1_alike_105 : decode cX1_alike 105 = .ok (.laload, 1) := dk_47 (dk_at dksX1_alike_4 14 rfl rfl)
theorem dX1_alike_106 : decode cX1_alike 106 = .ok (.aload_n 0, 1) := dk_42 (dk_at dksX1_alike_4 15 rfl rfl)
theorem dX1_alike_107 : decode cX1_alike 107 = .ok (.getfield 187, 3) := dk_180 0 187 (dk_at dksX1_alike_4 16 rfl rfl)
theorem dX1_alike_110 : decode cX1_alike 110 = .ok (.iload_n 2, 1) := dk_28 (dk_at dksX1_alike_4 19 rfl rfl)
theorem dX1_alike_111 : decode cX1_alike 111 = .ok (.laload, 1) := dk_47 (dk_at dksX1_alike_4 20 rfl rfl)
theorem dX1_alike_112 : decode cX1_alike 112 = .ok (.lcmp, 1) := dk_148 (dk_at dksX1_alike_4 21 rfl rfl)
theorem dX1_alike_113 : decode cX1_alike 113 = .ok (.ifCond .ne 7, 3) := dk_154 0 7 (dk_at dksX1_alike_5 0 rfl rfl)
theorem dX1_alike_116 : decode cX1_alike 116 = .ok (.iconst 1, 1) := dk_4 (dk_at dksX1_alike_5 3 rfl rfl)
theorem dX1_alike_117 : decode cX1_alike 117 = .ok (.goto 4, 3) := dk_167 0 4 (dk_at dksX1_alike_5 4 rfl rfl)
theorem dX1_alike_120 : decode cX1_alike 120 = .ok (.iconst 0, 1) := dk_3 (dk_at dksX1_alike_5 7 rfl rfl)
theorem dX1_alike_121 : decode cX1_alike 121 = .ok (.istore_n 1, 1) := dk_60 (dk_at dksX1_alike_5 8 rfl rfl)
theorem dX1_alike_122 : decode cX1_alike 122 = .ok (.iinc 2 1, 3) := dk_132 2 1 (dk_at dksX1_alike_5 9 rfl rfl)
theorem dX1_alike_125 : decode cX1_alike 125 = .ok (.goto (-89), 3) := dk_167 255 167 (dk_at dksX1_alike_5 12 rfl rfl)
theorem dX1_alike_128 : decode cX1_alike 128 = .ok (.iload_n 1, 1) := dk_27 (dk_at dksX1_alike_5 15 rfl rfl)
theorem dX1_alike_129 : decode cX1_alike 129 = .ok (.ifCond .eq 7, 3) := dk_153 0 7 (dk_at dksX1_alike_5 16 rfl rfl)
theorem dX1_alike_132 : decode cX1_alike 132 = .ok (.iconst 1, 1) := dk_4 (dk_at dksX1_alike_5 19 rfl rfl)
theorem dX1_alike_133 : decode cX1_alike 133 = .ok (.goto 4, 3) := dk_167 0 4 (dk_at dksX1_alike_5 20 rfl rfl)
theorem dX1_alike_136 : decode cX1_alike 136 = .ok (.iconst 0, 1) := dk_3 (dk_at dksX1_alike_5 23 rfl rfl)
theorem dX1_alike_137 : decode cX1_alike 137 = .ok (.ireturn, 1) := dk_172 (dk_at dksX1_alike_6 0 rfl rfl)
abbrev cX1_count : ByteArray := prog_20_method_64_code
def yX1_count : MethodName := ⟨RX1, "count", "(I)I"⟩
def dkwX1_count_8 : List UInt8 := [180, 1, 72, 167, 0, 4, 28, 172]
abbrev dktX1_count_8 : List UInt8 := dkwX1_count_8 ++ []
def dkwX1_count_7 : List UInt8 := [167, 0, 29, 27, 5, 160, 0, 10, 42, 180, 1, 69, 167, 0, 17, 27, 16, 6, 160, 0, 10, 42]
abbrev dktX1_count_7 : List UInt8 := dkwX1_count_7 ++ dktX1_count_8
def dkwX1_count_6 : List UInt8 := [167, 255, 173, 27, 154, 0, 10, 42, 180, 1, 50, 167, 0, 41, 27, 4, 160, 0, 10, 42, 180, 1, 59]
abbrev dktX1_count_6 : List UInt8 := dkwX1_count_6 ++ dktX1_count_7
def dkwX1_count_5 : List UInt8 := [167, 0, 4, 3, 54, 4, 28, 21, 4, 153, 0, 7, 4, 167, 0, 4, 3, 96, 61, 132, 3, 1]
abbrev dktX1_count_5 : List UInt8 := dkwX1_count_5 ++ dktX1_count_6
def dkwX1_count_4 : List UInt8 := [160, 0, 27, 42, 180, 0, 88, 29, 46, 4, 160, 0, 17, 42, 29, 182, 1, 99, 16, 247, 160, 0, 7, 4]
abbrev dktX1_count_4 : List UInt8 := dkwX1_count_4 ++ dktX1_count_5
def dkwX1_count_3 : List UInt8 := [182, 1, 112, 167, 0, 47, 27, 7, 160, 0, 11, 42, 29, 182, 1, 123, 167, 0, 34, 27, 16, 7]
abbrev dktX1_count_3 : List UInt8 := dkwX1_count_3 ++ dktX1_count_4
def dkwX1_count_2 : List UInt8 := [154, 0, 5, 3, 172, 3, 61, 3, 62, 29, 42, 180, 1, 50, 162, 0, 81, 27, 6, 160, 0, 11, 42, 29]
abbrev dktX1_count_2 : List UInt8 := dkwX1_count_2 ++ dktX1_count_3
def dkwX1_count_1 : List UInt8 := [180, 1, 152, 172, 27, 133, 9, 20, 1, 178, 184, 1, 82, 154, 0, 6, 16, 254, 172, 42, 180, 1, 78]
abbrev dktX1_count_1 : List UInt8 := dkwX1_count_1 ++ dktX1_count_2
def dkwX1_count_0 : List UInt8 := [27, 8, 159, 0, 9, 27, 16, 8, 160, 0, 20, 27, 8, 160, 0, 10, 42, 180, 0, 198, 167, 0, 7, 42]
abbrev dktX1_count_0 : List UInt8 := dkwX1_count_0 ++ dktX1_count_1
theorem dksX1_count_0 : cX1_count.data.toList.drop 0 = dktX1_count_0 := by decide +kernel
theorem dksX1_count_1 : cX1_count.data.toList.drop 24 = dktX1_count_1 := dk_seg dksX1_count_0 24 rfl rfl
theorem dksX1_count_2 : cX1_count.data.toList.drop 47 = dktX1_count_2 := dk_seg dksX1_count_1 23 rfl rfl
theorem dksX1_count_3 : cX1_count.data.toList.drop 71 = dktX1_count_3 := dk_seg dksX1_count_2 24 rfl rfl
theorem dksX1_count_4 : cX1_count.data.toList.drop 93 = dktX1_count_4 := dk_seg dksX1_count_3 22 rfl rfl
theorem dksX1_count_5 : cX1_count.data.toList.drop 117 = dktX1_count_5 := dk_seg dksX1_count_4 24 rfl rfl
theorem dksX1_count_6 : cX1_count.data.toList.drop 139 = dktX1_count_6 := dk_seg dksX1_count_5 22 rfl rfl
theorem dksX1_count_7 : cX1_count.data.toList.drop 162 = dktX1_count_7 := dk_seg dksX1_count_6 23 rfl rfl
theorem dksX1_count_8 : cX1_count.data.toList.drop 184 = dktX1_count_8 := dk_seg dksX1_count_7 22 rfl rfl
theorem dX1_count_0 : decode cX1_count 0 = .ok (.iload_n 1, 1) := dk_27 (dk_at dksX1_count_0 0 rfl rfl)
theorem dX1_count_1 : decode cX1_count 1 = .ok (.iconst 5, 1) := dk_8 (dk_at dksX1_count_0 1 rfl rfl)
theorem dX1_count_2 : decode cX1_count 2 = .ok (.if_icmp .eq 9, 3) := dk_159 0 9 (dk_at dksX1_count_0 2 rfl rfl)
theorem dX1_count_5 : decode cX1_count 5 = .ok (.iload_n 1, 1) := dk_27 (dk_at dksX1_count_0 5 rfl rfl)
theorem dX1_count_6 : decode cX1_count 6 = .ok (.bipush 8, 2) := dk_16 8 (dk_at dksX1_count_0 6 rfl rfl)
theorem dX1_count_8 : decode cX1_count 8 = .ok (.if_icmp .ne 20, 3) := dk_160 0 20 (dk_at dksX1_count_0 8 rfl rfl)
theorem dX1_count_11 : decode cX1_count 11 = .ok (.iload_n 1, 1) := dk_27 (dk_at dksX1_count_0 11 rfl rfl)
theorem dX1_count_12 : decode cX1_count 12 = .ok (.iconst 5, 1) := dk_8 (dk_at dksX1_count_0 12 rfl rfl)
theorem dX1_count_13 : decode cX1_count 13 = .ok (.if_icmp .ne 10, 3) := dk_160 0 10 (dk_at dksX1_count_0 13 rfl rfl)
theorem dX1_count_16 : decode cX1_count 16 = .ok (.aload_n 0, 1) := dk_42 (dk_at dksX1_count_0 16 rfl rfl)
theorem dX1_count_17 : decode cX1_count 17 = .ok (.getfield 198, 3) := dk_180 0 198 (dk_at dksX1_count_0 17 rfl rfl)
theorem dX1_count_20 : decode cX1_count 20 = .ok (.goto 7, 3) := dk_167 0 7 (dk_at dksX1_count_0 20 rfl rfl)
theorem dX1_count_23 : decode cX1_count 23 = .ok (.aload_n 0, 1) := dk_42 (dk_at dksX1_count_0 23 rfl rfl)
theorem dX1_count_24 : decode cX1_count 24 = .ok (.getfield 408, 3) := dk_180 1 152 (dk_at dksX1_count_1 0 rfl rfl)
theorem dX1_count_27 : decode cX1_count 27 = .ok (.ireturn, 1) := dk_172 (dk_at dksX1_count_1 3 rfl rfl)
theorem dX1_count_28 : decode cX1_count 28 = .ok (.iload_n 1, 1) := dk_27 (dk_at dksX1_count_1 4 rfl rfl)
theorem dX1_count_29 : decode cX1_count 29 = .ok (.i2l, 1) := dk_133 (dk_at dksX1_count_1 5 rfl rfl)
theorem dX1_count_30 : decode cX1_count 30 = .ok (.lconst 0, 1) := dk_9 (dk_at dksX1_count_1 6 rfl rfl)
theorem dX1_count_31 : decode cX1_count 31 = .ok (.ldc2_w 434, 3) := dk_20 1 178 (dk_at dksX1_count_1 7 rfl rfl)
theorem dX1_count_34 : decode cX1_count 34 = .ok (.invokestatic 338, 3) := dk_184 1 82 (dk_at dksX1_count_1 10 rfl rfl)
theorem dX1_count_37 : decode cX1_count 37 = .ok (.ifCond .ne 6, 3) := dk_154 0 6 (dk_at dksX1_count_1 13 rfl rfl)
theorem dX1_count_40 : decode cX1_count 40 = .ok (.bipush (-2), 2) := dk_16 254 (dk_at dksX1_count_1 16 rfl rfl)
theorem dX1_count_42 : decode cX1_count 42 = .ok (.ireturn, 1) := dk_172 (dk_at dksX1_count_1 18 rfl rfl)
theorem dX1_count_43 : decode cX1_count 43 = .ok (.aload_n 0, 1) := dk_42 (dk_at dksX1_count_1 19 rfl rfl)
theorem dX1_count_44 : decode cX1_count 44 = .ok (.getfield 334, 3) := dk_180 1 78 (dk_at dksX1_count_1 20 rfl rfl)
theorem dX1_count_47 : decode cX1_count 47 = .ok (.ifCond .ne 5, 3) := dk_154 0 5 (dk_at dksX1_count_2 0 rfl rfl)
theorem dX1_count_50 : decode cX1_count 50 = .ok (.iconst 0, 1) := dk_3 (dk_at dksX1_count_2 3 rfl rfl)
theorem dX1_count_51 : decode cX1_count 51 = .ok (.ireturn, 1) := dk_172 (dk_at dksX1_count_2 4 rfl rfl)
theorem dX1_count_52 : decode cX1_count 52 = .ok (.iconst 0, 1) := dk_3 (dk_at dksX1_count_2 5 rfl rfl)
theorem dX1_count_53 : decode cX1_count 53 = .ok (.istore_n 2, 1) := dk_61 (dk_at dksX1_count_2 6 rfl rfl)
theorem dX1_count_54 : decode cX1_count 54 = .ok (.iconst 0, 1) := dk_3 (dk_at dksX1_count_2 7 rfl rfl)
theorem dX1_count_55 : decode cX1_count 55 = .ok (.istore_n 3, 1) := dk_62 (dk_at dksX1_count_2 8 rfl rfl)
theorem dX1_count_56 : decode cX1_count 56 = .ok (.iload_n 3, 1) := dk_29 (dk_at dksX1_count_2 9 rfl rfl)
theorem dX1_count_57 : decode cX1_count 57 = .ok (.aload_n 0, 1) := dk_42 (dk_at dksX1_count_2 10 rfl rfl)
theorem dX1_count_58 : decode cX1_count 58 = .ok (.getfield 306, 3) := dk_180 1 50 (dk_at dksX1_count_2 11 rfl rfl)
theorem dX1_count_61 : decode cX1_count 61 = .ok (.if_icmp .ge 81, 3) := dk_162 0 81 (dk_at dksX1_count_2 14 rfl rfl)
theorem dX1_count_64 : decode cX1_count 64 = .ok (.iload_n 1, 1) := dk_27 (dk_at dksX1_count_2 17 rfl rfl)
theorem dX1_count_65 : decode cX1_count 65 = .ok (.iconst 3, 1) := dk_6 (dk_at dksX1_count_2 18 rfl rfl)
theorem dX1_count_66 : decode cX1_count 66 = .ok (.if_icmp .ne 11, 3) := dk_160 0 11 (dk_at dksX1_count_2 19 rfl rfl)
theorem dX1_count_69 : decode cX1_count 69 = .ok (.aload_n 0, 1) := dk_42 (dk_at dksX1_count_2 22 rfl rfl)
theorem dX1_count_70 : decode cX1_count 70 = .ok (.iload_n 3, 1) := dk_29 (dk_at dksX1_count_2 23 rfl rfl)
theorem dX1_count_71 : decode cX1_count 71 = .ok (.invokevirtual 368, 3) := dk_182 1 112 (dk_at dksX1_count_3 0 rfl rfl)
theorem dX1_count_74 : decode cX1_count 74 = .ok (.goto 47, 3) := dk_167 0 47 (dk_at dksX1_count_3 3 rfl rfl)
theorem dX1_count_77 : decode cX1_count 77 = .ok (.iload_n 1, 1) := dk_27 (dk_at dksX1_count_3 6 rfl rfl)
theorem dX1_count_78 : decode cX1_count 78 = .ok (.iconst 4, 1) := dk_7 (dk_at dksX1_count_3 7 rfl rfl)
theorem dX1_count_79 : decode cX1_count 79 = .ok (.if_icmp .ne 11, 3) := dk_160 0 11 (dk_at dksX1_count_3 8 rfl rfl)
theorem dX1_count_82 : decode cX1_count 82 = .ok (.aload_n 0, 1) := dk_42 (dk_at dksX1_count_3 11 rfl rfl)
theorem dX1_count_83 : decode cX1_count 83 = .ok (.iload_n 3, 1) := dk_29 (dk_at dksX1_count_3 12 rfl rfl)
theorem dX1_count_84 : decode cX1_count 84 = .ok (.invokevirtual 379, 3) := dk_182 1 123 (dk_at dksX1_count_3 13 rfl rfl)
theorem dX1_count_87 : decode cX1_count 87 = .ok (.goto 34, 3) := dk_167 0 34 (dk_at dksX1_count_3 16 rfl rfl)
theorem dX1_count_90 : decode cX1_count 90 = .ok (.iload_n 1, 1) := dk_27 (dk_at dksX1_count_3 19 rfl rfl)
theorem dX1_count_91 : decode cX1_count 91 = .ok (.bipush 7, 2) := dk_16 7 (dk_at dksX1_count_3 20 rfl rfl)
theorem dX1_count_93 : decode cX1_count 93 = .ok (.if_icmp .ne 27, 3) := dk_160 0 27 (dk_at dksX1_count_4 0 rfl rfl)
theorem dX1_count_96 : decode cX1_count 96 = .ok (.aload_n 0, 1) := dk_42 (dk_at dksX1_count_4 3 rfl rfl)
theorem dX1_count_97 : decode cX1_count 97 = .ok (.getfield 88, 3) := dk_180 0 88 (dk_at dksX1_count_4 4 rfl rfl)
theorem dX1_count_100 : decode cX1_count 100 = .ok (.iload_n 3, 1) := dk_29 (dk_at dksX1_count_4 7 rfl rfl)
theorem dX1_count_101 : decode cX1_count 101 = .ok (.iaload, 1) := dk_46 (dk_at dksX1_count_4 8 rfl rfl)
theorem dX1_count_102 : decode cX1_count 102 = .ok (.iconst 1, 1) := dk_4 (dk_at dksX1_count_4 9 rfl rfl)
theorem dX1_count_103 : decode cX1_count 103 = .ok (.if_icmp .ne 17, 3) := dk_160 0 17 (dk_at dksX1_count_4 10 rfl rfl)
theorem dX1_count_106 : decode cX1_count 106 = .ok (.aload_n 0, 1) := dk_42 (dk_at dksX1_count_4 13 rfl rfl)
theorem dX1_count_107 : decode cX1_count 107 = .ok (.iload_n 3, 1) := dk_29 (dk_at dksX1_count_4 14 rfl rfl)
theorem dX1_count_108 : decode cX1_count 108 = .ok (.invokevirtual 355, 3) := dk_182 1 99 (dk_at dksX1_count_4 15 rfl rfl)
theorem dX1_count_111 : decode cX1_count 111 = .ok (.bipush (-9), 2) := dk_16 247 (dk_at dksX1_count_4 18 rfl rfl)
theorem dX1_count_113 : decode cX1_count 113 = .ok (.if_icmp .ne 7, 3) := dk_160 0 7 (dk_at dksX1_count_4 20 rfl rfl)
theorem dX1_count_116 : decode cX1_count 116 = .ok (.iconst 1, 1) := dk_4 (dk_at dksX1_count_4 23 rfl rfl)
theorem dX1_count_117 : decode cX1_count 117 = .ok (.goto 4, 3) := dk_167 0 4 (dk_at dksX1_count_5 0 rfl rfl)
theorem dX1_count_120 : decode cX1_count 120 = .ok (.iconst 0, 1) := dk_3 (dk_at dksX1_count_5 3 rfl rfl)
theorem dX1_count_121 : decode cX1_count 121 = .ok (.istore 4, 2) := dk_54 4 (dk_at dksX1_count_5 4 rfl rfl)
theorem dX1_count_123 : decode cX1_count 123 = .ok (.iload_n 2, 1) := dk_28 (dk_at dksX1_count_5 6 rfl rfl)
theorem dX1_count_124 : decode cX1_count 124 = .ok (.iload 4, 2) := dk_21 4 (dk_at dksX1_count_5 7 rfl rfl)
theorem dX1_count_126 : decode cX1_count 126 = .ok (.ifCond .eq 7, 3) := dk_153 0 7 (dk_at dksX1_count_5 9 rfl rfl)
theorem dX1_count_129 : decode cX1_count 129 = .ok (.iconst 1, 1) := dk_4 (dk_at dksX1_count_5 12 rfl rfl)
theorem dX1_count_130 : decode cX1_count 130 = .ok (.goto 4, 3) := dk_167 0 4 (dk_at dksX1_count_5 13 rfl rfl)
theorem dX1_count_133 : decode cX1_count 133 = .ok (.iconst 0, 1) := dk_3 (dk_at dksX1_count_5 16 rfl rfl)
theorem dX1_count_134 : decode cX1_count 134 = .ok (.iadd, 1) := dk_96 (dk_at dksX1_count_5 17 rfl rfl)
theorem dX1_count_135 : decode cX1_count 135 = .ok (.istore_n 2, 1) := dk_61 (dk_at dksX1_count_5 18 rfl rfl)
theorem dX1_count_136 : decode cX1_count 136 = .ok (.iinc 3 1, 3) := dk_132 3 1 (dk_at dksX1_count_5 19 rfl rfl)
theorem dX1_count_139 : decode cX1_count 139 = .ok (.goto (-83), 3) := dk_167 255 173 (dk_at dksX1_count_6 0 rfl rfl)
theorem dX1_count_142 : decode cX1_count 142 = .ok (.iload_n 1, 1) := dk_27 (dk_at dksX1_count_6 3 rfl rfl)
theorem dX1_count_143 : decode cX1_count 143 = .ok (.ifCond .ne 10, 3) := dk_154 0 10 (dk_at dksX1_count_6 4 rfl rfl)
theorem dX1_count_146 : decode cX1_count 146 = .ok (.aload_n 0, 1) := dk_42 (dk_at dksX1_count_6 7 rfl rfl)
theorem dX1_count_147 : decode cX1_count 147 = .ok (.getfield 306, 3) := dk_180 1 50 (dk_at dksX1_count_6 8 rfl rfl)
theorem dX1_count_150 : decode cX1_count 150 = .ok (.goto 41, 3) := dk_167 0 41 (dk_at dksX1_count_6 11 rfl rfl)
theorem dX1_count_153 : decode cX1_count 153 = .ok (.iload_n 1, 1) := dk_27 (dk_at dksX1_count_6 14 rfl rfl)
theorem dX1_count_154 : decode cX1_count 154 = .ok (.iconst 1, 1) := dk_4 (dk_at dksX1_count_6 15 rfl rfl)
theorem dX1_count_155 : decode cX1_count 155 = .ok (.if_icmp .ne 10, 3) := dk_160 0 10 (dk_at dksX1_count_6 16 rfl rfl)
theorem dX1_count_158 : decode cX1_count 158 = .ok (.aload_n 0, 1) := dk_42 (dk_at dksX1_count_6 19 rfl rfl)
theorem dX1_count_159 : decode cX1_count 159 = .ok (.getfield 315, 3) := dk_180 1 59 (dk_at dksX1_count_6 20 rfl rfl)
theorem dX1_count_162 : decode cX1_count 162 = .ok (.goto 29, 3) := dk_167 0 29 (dk_at dksX1_count_7 0 rfl rfl)
theorem dX1_count_165 : decode cX1_count 165 = .ok (.iload_n 1, 1) := dk_27 (dk_at dksX1_count_7 3 rfl rfl)
theorem dX1_count_166 : decode cX1_count 166 = .ok (.iconst 2, 1) := dk_5 (dk_at dksX1_count_7 4 rfl rfl)
theorem dX1_count_167 : decode cX1_count 167 = .ok (.if_icmp .ne 10, 3) := dk_160 0 10 (dk_at dksX1_count_7 5 rfl rfl)
theorem dX1_count_170 : decode cX1_count 170 = .ok (.aload_n 0, 1) := dk_42 (dk_at dksX1_count_7 8 rfl rfl)
theorem dX1_count_171 : decode cX1_count 171 = .ok (.getfield 325, 3) := dk_180 1 69 (dk_at dksX1_count_7 9 rfl rfl)
theorem dX1_count_174 : decode cX1_count 174 = .ok (.goto 17, 3) := dk_167 0 17 (dk_at dksX1_count_7 12 rfl rfl)
theorem dX1_count_177 : decode cX1_count 177 = .ok (.iload_n 1, 1) := dk_27 (dk_at dksX1_count_7 15 rfl rfl)
theorem dX1_count_178 : decode cX1_count 178 = .ok (.bipush 6, 2) := dk_16 6 (dk_at dksX1_count_7 16 rfl rfl)
theorem dX1_count_180 : decode cX1_count 180 = .ok (.if_icmp .ne 10, 3) := dk_160 0 10 (dk_at dksX1_count_7 18 rfl rfl)
theorem dX1_count_183 : decode cX1_count 183 = .ok (.aload_n 0, 1) := dk_42 (dk_at dksX1_count_7 21 rfl rfl)
theorem dX1_count_184 : decode cX1_count 184 = .ok (.getfield 328, 3) := dk_180 1 72 (dk_at dksX1_count_8 0 rfl rfl)
theorem dX1_count_187 : decode cX1_count 187 = .ok (.goto 4, 3) := dk_167 0 4 (dk_at dksX1_count_8 3 rfl rfl)
theorem dX1_count_190 : decode cX1_count 190 = .ok (.iload_n 2, 1) := dk_28 (dk_at dksX1_count_8 6 rfl rfl)
theorem dX1_count_191 : decode cX1_count 191 = .ok (.ireturn, 1) := dk_172 (dk_at dksX1_count_8 7 rfl rfl)
theorem q70 : (Jvm.Cond.initialized "MacroGlassModel") ∈ lw_all := lw_g (lw_at lw_m1 5 rfl) rfl
theorem q498 : (Jvm.Cond.selects "MacroGlassModel" ({ cls := "java/lang/Object", name := "getClass", desc := "()Ljava/lang/Class;" } : Jvm.MethodName) ({ cls := "java/lang/Object", name := "getClass", desc := "()Ljava/lang/Class;" } : Jvm.MethodName)) ∈ lw_all := lw_g (lw_at lw_m2 193 rfl) rfl
theorem q1169 : (Jvm.Cond.instantiable "MacroGlassModel" (84 : Nat)) ∈ lw_all := lw_g (lw_at lw_m5 144 rfl) rfl
theorem q1171 : (Jvm.Cond.instanceMethod ({ cls := "MacroGlassModel", name := "<init>", desc := "()V" } : Jvm.MethodName)) ∈ lw_all := lw_g (lw_at lw_m5 146 rfl) rfl
theorem q1172 : (Jvm.Cond.code ({ cls := "MacroGlassModel", name := "<init>", desc := "()V" } : Jvm.MethodName) prog_20_method_1_code (1 : Nat) (Option.none : Option Jvm.ClassFile.FieldType)) ∈ lw_all := lw_g (lw_at lw_m5 147 rfl) rfl
theorem q1173 : (Jvm.Cond.methodLink "MacroGlassModel" (1 : Nat) ({ cls := "java/lang/Object", name := "<init>", desc := "()V" } : Jvm.MethodName)) ∈ lw_all := lw_g (lw_at lw_m5 148 rfl) rfl
theorem q1174 : (Jvm.Cond.fieldLink "MacroGlassModel" (7 : Nat) "MacroGlassModel" "tape" "[B") ∈ lw_all := lw_g (lw_at lw_m5 149 rfl) rfl
theorem q1175 : (Jvm.Cond.fieldLink "MacroGlassModel" (198 : Nat) "MacroGlassModel" "size" "I") ∈ lw_all := lw_g (lw_at lw_m5 150 rfl) rfl
theorem q1176 : (Jvm.Cond.fieldLink "MacroGlassModel" (202 : Nat) "MacroGlassModel" "tokens" "I") ∈ lw_all := lw_g (lw_at lw_m5 151 rfl) rfl
theorem q1177 : (Jvm.Cond.fieldLink "MacroGlassModel" (13 : Nat) "MacroGlassModel" "sort" "[I") ∈ lw_all := lw_g (lw_at lw_m5 152 rfl) rfl
theorem q1178 : (Jvm.Cond.fieldLink "MacroGlassModel" (17 : Nat) "MacroGlassModel" "place" "[I") ∈ lw_all := lw_g (lw_at lw_m5 153 rfl) rfl
theorem q1179 : (Jvm.Cond.fieldLink "MacroGlassModel" (20 : Nat) "MacroGlassModel" "worth" "[J") ∈ lw_all := lw_g (lw_at lw_m5 154 rfl) rfl
theorem q1180 : (Jvm.Cond.fieldLink "MacroGlassModel" (237 : Nat) "MacroGlassModel" "nodes" "I") ∈ lw_all := lw_g (lw_at lw_m5 155 rfl) rfl
theorem q1181 : (Jvm.Cond.fieldLink "MacroGlassModel" (24 : Nat) "MacroGlassModel" "kind" "[I") ∈ lw_all := lw_g (lw_at lw_m5 156 rfl) rfl
theorem q1182 : (Jvm.Cond.fieldLink "MacroGlassModel" (27 : Nat) "MacroGlassModel" "value" "[J") ∈ lw_all := lw_g (lw_at lw_m5 157 rfl) rfl
theorem q1183 : (Jvm.Cond.fieldLink "MacroGlassModel" (30 : Nat) "MacroGlassModel" "nodePlace" "[I") ∈ lw_all := lw_g (lw_at lw_m5 158 rfl) rfl
theorem q1184 : (Jvm.Cond.fieldLink "MacroGlassModel" (33 : Nat) "MacroGlassModel" "span" "[I") ∈ lw_all := lw_g (lw_at lw_m5 159 rfl) rfl
theorem q1185 : (Jvm.Cond.fieldLink "MacroGlassModel" (36 : Nat) "MacroGlassModel" "count" "[I") ∈ lw_all := lw_g (lw_at lw_m5 160 rfl) rfl
theorem q1186 : (Jvm.Cond.fieldLink "MacroGlassModel" (39 : Nat) "MacroGlassModel" "parent" "[I") ∈ lw_all := lw_g (lw_at lw_m5 161 rfl) rfl
theorem q1187 : (Jvm.Cond.fieldLink "MacroGlassModel" (267 : Nat) "MacroGlassModel" "rules" "I") ∈ lw_all := lw_g (lw_at lw_m5 162 rfl) rfl
theorem q1188 : (Jvm.Cond.fieldLink "MacroGlassModel" (42 : Nat) "MacroGlassModel" "ruleWord" "[J") ∈ lw_all := lw_g (lw_at lw_m5 163 rfl) rfl
theorem q1189 : (Jvm.Cond.fieldLink "MacroGlassModel" (45 : Nat) "MacroGlassModel" "isRaw" "[Z") ∈ lw_all := lw_g (lw_at lw_m5 164 rfl) rfl
theorem q1190 : (Jvm.Cond.fieldLink "MacroGlassModel" (49 : Nat) "MacroGlassModel" "patternsAt" "[I") ∈ lw_all := lw_g (lw_at lw_m5 165 rfl) rfl
theorem q1191 : (Jvm.Cond.fieldLink "MacroGlassModel" (52 : Nat) "MacroGlassModel" "templateAt" "[I") ∈ lw_all := lw_g (lw_at lw_m5 166 rfl) rfl
theorem q1192 : (Jvm.Cond.fieldLink "MacroGlassModel" (300 : Nat) "MacroGlassModel" "termAt" "I") ∈ lw_all := lw_g (lw_at lw_m5 167 rfl) rfl
theorem q1193 : (Jvm.Cond.fieldLink "MacroGlassModel" (227 : Nat) "MacroGlassModel" "tok" "I") ∈ lw_all := lw_g (lw_at lw_m5 168 rfl) rfl
theorem q1194 : (Jvm.Cond.fieldLink "MacroGlassModel" (243 : Nat) "MacroGlassModel" "deep" "I") ∈ lw_all := lw_g (lw_at lw_m5 169 rfl) rfl
theorem q1195 : (Jvm.Cond.fieldLink "MacroGlassModel" (224 : Nat) "MacroGlassModel" "fault" "I") ∈ lw_all := lw_g (lw_at lw_m5 170 rfl) rfl
theorem q1196 : (Jvm.Cond.fieldLink "MacroGlassModel" (230 : Nat) "MacroGlassModel" "faultPlace" "I") ∈ lw_all := lw_g (lw_at lw_m5 171 rfl) rfl
theorem q1197 : (Jvm.Cond.fieldLink "MacroGlassModel" (55 : Nat) "MacroGlassModel" "pile" "[I") ∈ lw_all := lw_g (lw_at lw_m5 172 rfl) rfl
theorem q1198 : (Jvm.Cond.fieldLink "MacroGlassModel" (240 : Nat) "MacroGlassModel" "piled" "I") ∈ lw_all := lw_g (lw_at lw_m5 173 rfl) rfl
theorem q1199 : (Jvm.Cond.fieldLink "MacroGlassModel" (277 : Nat) "MacroGlassModel" "wrong" "I") ∈ lw_all := lw_g (lw_at lw_m5 174 rfl) rfl
theorem q1200 : (Jvm.Cond.fieldLink "MacroGlassModel" (280 : Nat) "MacroGlassModel" "wrongPlace" "I") ∈ lw_all := lw_g (lw_at lw_m5 175 rfl) rfl
theorem q1201 : (Jvm.Cond.fieldLink "MacroGlassModel" (334 : Nat) "MacroGlassModel" "isThere" "Z") ∈ lw_all := lw_g (lw_at lw_m5 176 rfl) rfl
theorem q1202 : (Jvm.Cond.fieldLink "MacroGlassModel" (312 : Nat) "MacroGlassModel" "told" "I") ∈ lw_all := lw_g (lw_at lw_m5 177 rfl) rfl
theorem q1203 : (Jvm.Cond.fieldLink "MacroGlassModel" (315 : Nat) "MacroGlassModel" "ruleMany" "I") ∈ lw_all := lw_g (lw_at lw_m5 178 rfl) rfl
theorem q1204 : (Jvm.Cond.fieldLink "MacroGlassModel" (58 : Nat) "MacroGlassModel" "word" "[J") ∈ lw_all := lw_g (lw_at lw_m5 179 rfl) rfl
theorem q1205 : (Jvm.Cond.fieldLink "MacroGlassModel" (61 : Nat) "MacroGlassModel" "raw" "[Z") ∈ lw_all := lw_g (lw_at lw_m5 180 rfl) rfl
theorem q1206 : (Jvm.Cond.fieldLink "MacroGlassModel" (64 : Nat) "MacroGlassModel" "patterns" "[I") ∈ lw_all := lw_g (lw_at lw_m5 181 rfl) rfl
theorem q1207 : (Jvm.Cond.fieldLink "MacroGlassModel" (67 : Nat) "MacroGlassModel" "template" "[I") ∈ lw_all := lw_g (lw_at lw_m5 182 rfl) rfl
theorem q1208 : (Jvm.Cond.fieldLink "MacroGlassModel" (70 : Nat) "MacroGlassModel" "pKind" "[I") ∈ lw_all := lw_g (lw_at lw_m5 183 rfl) rfl
theorem q1209 : (Jvm.Cond.fieldLink "MacroGlassModel" (73 : Nat) "MacroGlassModel" "pValue" "[J") ∈ lw_all := lw_g (lw_at lw_m5 184 rfl) rfl
theorem q1210 : (Jvm.Cond.fieldLink "MacroGlassModel" (76 : Nat) "MacroGlassModel" "pPlace" "[I") ∈ lw_all := lw_g (lw_at lw_m5 185 rfl) rfl
theorem q1211 : (Jvm.Cond.fieldLink "MacroGlassModel" (79 : Nat) "MacroGlassModel" "pSpan" "[I") ∈ lw_all := lw_g (lw_at lw_m5 186 rfl) rfl
theorem q1212 : (Jvm.Cond.fieldLink "MacroGlassModel" (82 : Nat) "MacroGlassModel" "pCount" "[I") ∈ lw_all := lw_g (lw_at lw_m5 187 rfl) rfl
theorem q1213 : (Jvm.Cond.fieldLink "MacroGlassModel" (85 : Nat) "MacroGlassModel" "pParent" "[I") ∈ lw_all := lw_g (lw_at lw_m5 188 rfl) rfl
theorem q1214 : (Jvm.Cond.fieldLink "MacroGlassModel" (306 : Nat) "MacroGlassModel" "items" "I") ∈ lw_all := lw_g (lw_at lw_m5 189 rfl) rfl
theorem q1215 : (Jvm.Cond.fieldLink "MacroGlassModel" (88 : Nat) "MacroGlassModel" "what" "[I") ∈ lw_all := lw_g (lw_at lw_m5 190 rfl) rfl
theorem q1216 : (Jvm.Cond.fieldLink "MacroGlassModel" (91 : Nat) "MacroGlassModel" "worthOf" "[J") ∈ lw_all := lw_g (lw_at lw_m5 191 rfl) rfl
theorem q1217 : (Jvm.Cond.fieldLink "MacroGlassModel" (94 : Nat) "MacroGlassModel" "mark" "[I") ∈ lw_all := lw_g (lw_at lw_m5 192 rfl) rfl
theorem q1218 : (Jvm.Cond.fieldLink "MacroGlassModel" (97 : Nat) "MacroGlassModel" "from" "[I") ∈ lw_all := lw_g (lw_at lw_m5 193 rfl) rfl
theorem q1219 : (Jvm.Cond.fieldLink "MacroGlassModel" (100 : Nat) "MacroGlassModel" "maker" "[I") ∈ lw_all := lw_g (lw_at lw_m5 194 rfl) rfl
theorem q1220 : (Jvm.Cond.fieldLink "MacroGlassModel" (103 : Nat) "MacroGlassModel" "room" "[I") ∈ lw_all := lw_g (lw_at lw_m5 195 rfl) rfl
theorem q1221 : (Jvm.Cond.fieldLink "MacroGlassModel" (106 : Nat) "MacroGlassModel" "parts" "[I") ∈ lw_all := lw_g (lw_at lw_m5 196 rfl) rfl
theorem q1222 : (Jvm.Cond.fieldLink "MacroGlassModel" (109 : Nat) "MacroGlassModel" "inside" "[I") ∈ lw_all := lw_g (lw_at lw_m5 197 rfl) rfl
theorem q1223 : (Jvm.Cond.fieldLink "MacroGlassModel" (325 : Nat) "MacroGlassModel" "steps" "I") ∈ lw_all := lw_g (lw_at lw_m5 198 rfl) rfl
theorem q1224 : (Jvm.Cond.fieldLink "MacroGlassModel" (112 : Nat) "MacroGlassModel" "stepRule" "[I") ∈ lw_all := lw_g (lw_at lw_m5 199 rfl) rfl
theorem q1225 : (Jvm.Cond.fieldLink "MacroGlassModel" (115 : Nat) "MacroGlassModel" "stepPlace" "[I") ∈ lw_all := lw_g (lw_at lw_m5 200 rfl) rfl
theorem q1226 : (Jvm.Cond.fieldLink "MacroGlassModel" (118 : Nat) "MacroGlassModel" "stepMaker" "[I") ∈ lw_all := lw_g (lw_at lw_m5 201 rfl) rfl
theorem q1227 : (Jvm.Cond.fieldLink "MacroGlassModel" (408 : Nat) "MacroGlassModel" "made" "I") ∈ lw_all := lw_g (lw_at lw_m5 202 rfl) rfl
theorem q1228 : (Jvm.Cond.fieldLink "MacroGlassModel" (121 : Nat) "MacroGlassModel" "metFrom" "[I") ∈ lw_all := lw_g (lw_at lw_m5 203 rfl) rfl
theorem q1229 : (Jvm.Cond.fieldLink "MacroGlassModel" (124 : Nat) "MacroGlassModel" "metTo" "[I") ∈ lw_all := lw_g (lw_at lw_m5 204 rfl) rfl
theorem q1230 : (Jvm.Cond.fieldLink "MacroGlassModel" (385 : Nat) "MacroGlassModel" "fresh" "I") ∈ lw_all := lw_g (lw_at lw_m5 205 rfl) rfl
theorem q1231 : (Jvm.Cond.fieldLink "MacroGlassModel" (127 : Nat) "MacroGlassModel" "fWhat" "[I") ∈ lw_all := lw_g (lw_at lw_m5 206 rfl) rfl
theorem q1232 : (Jvm.Cond.fieldLink "MacroGlassModel" (130 : Nat) "MacroGlassModel" "fWorth" "[J") ∈ lw_all := lw_g (lw_at lw_m5 207 rfl) rfl
theorem q1233 : (Jvm.Cond.fieldLink "MacroGlassModel" (133 : Nat) "MacroGlassModel" "fMark" "[I") ∈ lw_all := lw_g (lw_at lw_m5 208 rfl) rfl
theorem q1234 : (Jvm.Cond.fieldLink "MacroGlassModel" (136 : Nat) "MacroGlassModel" "fFrom" "[I") ∈ lw_all := lw_g (lw_at lw_m5 209 rfl) rfl
theorem q1235 : (Jvm.Cond.fieldLink "MacroGlassModel" (139 : Nat) "MacroGlassModel" "fMaker" "[I") ∈ lw_all := lw_g (lw_at lw_m5 210 rfl) rfl
theorem q1236 : (Jvm.Cond.fieldLink "MacroGlassModel" (142 : Nat) "MacroGlassModel" "fRoom" "[I") ∈ lw_all := lw_g (lw_at lw_m5 211 rfl) rfl
theorem q1237 : (Jvm.Cond.fieldLink "MacroGlassModel" (145 : Nat) "MacroGlassModel" "fParts" "[I") ∈ lw_all := lw_g (lw_at lw_m5 212 rfl) rfl
theorem q1238 : (Jvm.Cond.fieldLink "MacroGlassModel" (148 : Nat) "MacroGlassModel" "openAt" "[I") ∈ lw_all := lw_g (lw_at lw_m5 213 rfl) rfl
theorem q1239 : (Jvm.Cond.fieldLink "MacroGlassModel" (151 : Nat) "MacroGlassModel" "openEnd" "[I") ∈ lw_all := lw_g (lw_at lw_m5 214 rfl) rfl
theorem q1240 : (Jvm.Cond.fieldLink "MacroGlassModel" (328 : Nat) "MacroGlassModel" "undos" "I") ∈ lw_all := lw_g (lw_at lw_m5 215 rfl) rfl
theorem q1241 : (Jvm.Cond.fieldLink "MacroGlassModel" (331 : Nat) "MacroGlassModel" "gone" "I") ∈ lw_all := lw_g (lw_at lw_m5 216 rfl) rfl
theorem q1242 : (Jvm.Cond.fieldLink "MacroGlassModel" (154 : Nat) "MacroGlassModel" "goneAt" "[I") ∈ lw_all := lw_g (lw_at lw_m5 217 rfl) rfl
theorem q1243 : (Jvm.Cond.fieldLink "MacroGlassModel" (157 : Nat) "MacroGlassModel" "gonePlace" "[I") ∈ lw_all := lw_g (lw_at lw_m5 218 rfl) rfl
theorem q1244 : (Jvm.Cond.fieldLink "MacroGlassModel" (160 : Nat) "MacroGlassModel" "goneCame" "[I") ∈ lw_all := lw_g (lw_at lw_m5 219 rfl) rfl
theorem q1245 : (Jvm.Cond.fieldLink "MacroGlassModel" (163 : Nat) "MacroGlassModel" "oldWhat" "[I") ∈ lw_all := lw_g (lw_at lw_m5 220 rfl) rfl
theorem q1246 : (Jvm.Cond.fieldLink "MacroGlassModel" (166 : Nat) "MacroGlassModel" "oldWorth" "[J") ∈ lw_all := lw_g (lw_at lw_m5 221 rfl) rfl
theorem q1247 : (Jvm.Cond.fieldLink "MacroGlassModel" (169 : Nat) "MacroGlassModel" "oldMark" "[I") ∈ lw_all := lw_g (lw_at lw_m5 222 rfl) rfl
theorem q1248 : (Jvm.Cond.fieldLink "MacroGlassModel" (172 : Nat) "MacroGlassModel" "oldFrom" "[I") ∈ lw_all := lw_g (lw_at lw_m5 223 rfl) rfl
theorem q1249 : (Jvm.Cond.fieldLink "MacroGlassModel" (175 : Nat) "MacroGlassModel" "oldMaker" "[I") ∈ lw_all := lw_g (lw_at lw_m5 224 rfl) rfl
theorem q1250 : (Jvm.Cond.fieldLink "MacroGlassModel" (178 : Nat) "MacroGlassModel" "oldRoom" "[I") ∈ lw_all := lw_g (lw_at lw_m5 225 rfl) rfl
theorem q1251 : (Jvm.Cond.fieldLink "MacroGlassModel" (181 : Nat) "MacroGlassModel" "oldParts" "[I") ∈ lw_all := lw_g (lw_at lw_m5 226 rfl) rfl
theorem q1252 : (Jvm.Cond.fieldLink "MacroGlassModel" (428 : Nat) "MacroGlassModel" "isKept" "Z") ∈ lw_all := lw_g (lw_at lw_m5 227 rfl) rfl
theorem q1253 : (Jvm.Cond.fieldLink "MacroGlassModel" (431 : Nat) "MacroGlassModel" "keptItems" "I") ∈ lw_all := lw_g (lw_at lw_m5 228 rfl) rfl
theorem q1254 : (Jvm.Cond.fieldLink "MacroGlassModel" (184 : Nat) "MacroGlassModel" "keptWhat" "[I") ∈ lw_all := lw_g (lw_at lw_m5 229 rfl) rfl
theorem q1255 : (Jvm.Cond.fieldLink "MacroGlassModel" (187 : Nat) "MacroGlassModel" "keptWorth" "[J") ∈ lw_all := lw_g (lw_at lw_m5 230 rfl) rfl
theorem q1256 : (Jvm.Cond.fieldLink "MacroGlassModel" (190 : Nat) "MacroGlassModel" "keptParts" "[I") ∈ lw_all := lw_g (lw_at lw_m5 231 rfl) rfl
theorem q1257 : (Jvm.Cond.fieldLink "MacroGlassModel" (193 : Nat) "MacroGlassModel" "keptReads" "[I") ∈ lw_all := lw_g (lw_at lw_m5 232 rfl) rfl
theorem q1258 : (Jvm.Cond.laysFinal "MacroGlassModel" "MacroGlassModel" "tape" "[B") ∈ lw_all := lw_g (lw_at lw_m5 233 rfl) rfl
theorem q1259 : (Jvm.Cond.soleField "MacroGlassModel" "tape") ∈ lw_all := lw_g (lw_at lw_m5 234 rfl) rfl
theorem q1260 : (Jvm.Cond.lays "MacroGlassModel" "MacroGlassModel" "size" "I") ∈ lw_all := lw_g (lw_at lw_m5 235 rfl) rfl
theorem q1261 : (Jvm.Cond.soleField "MacroGlassModel" "size") ∈ lw_all := lw_g (lw_at lw_m5 236 rfl) rfl
theorem q1262 : (Jvm.Cond.lays "MacroGlassModel" "MacroGlassModel" "tokens" "I") ∈ lw_all := lw_g (lw_at lw_m5 237 rfl) rfl
theorem q1263 : (Jvm.Cond.soleField "MacroGlassModel" "tokens") ∈ lw_all := lw_g (lw_at lw_m5 238 rfl) rfl
theorem q1264 : (Jvm.Cond.laysFinal "MacroGlassModel" "MacroGlassModel" "sort" "[I") ∈ lw_all := lw_g (lw_at lw_m5 239 rfl) rfl
theorem q1265 : (Jvm.Cond.soleField "MacroGlassModel" "sort") ∈ lw_all := lw_g (lw_at lw_m6 0 rfl) rfl
theorem q1266 : (Jvm.Cond.laysFinal "MacroGlassModel" "MacroGlassModel" "place" "[I") ∈ lw_all := lw_g (lw_at lw_m6 1 rfl) rfl
theorem q1267 : (Jvm.Cond.soleField "MacroGlassModel" "place") ∈ lw_all := lw_g (lw_at lw_m6 2 rfl) rfl
theorem q1268 : (Jvm.Cond.laysFinal "MacroGlassModel" "MacroGlassModel" "worth" "[J") ∈ lw_all := lw_g (lw_at lw_m6 3 rfl) rfl
theorem q1269 : (Jvm.Cond.soleField "MacroGlassModel" "worth") ∈ lw_all := lw_g (lw_at lw_m6 4 rfl) rfl
theorem q1270 : (Jvm.Cond.lays "MacroGlassModel" "MacroGlassModel" "nodes" "I") ∈ lw_all := lw_g (lw_at lw_m6 5 rfl) rfl
theorem q1271 : (Jvm.Cond.soleField "MacroGlassModel" "nodes") ∈ lw_all := lw_g (lw_at lw_m6 6 rfl) rfl
theorem q1272 : (Jvm.Cond.laysFinal "MacroGlassModel" "MacroGlassModel" "kind" "[I") ∈ lw_all := lw_g (lw_at lw_m6 7 rfl) rfl
theorem q1273 : (Jvm.Cond.soleField "MacroGlassModel" "kind") ∈ lw_all := lw_g (lw_at lw_m6 8 rfl) rfl
theorem q1274 : (Jvm.Cond.laysFinal "MacroGlassModel" "MacroGlassModel" "value" "[J") ∈ lw_all := lw_g (lw_at lw_m6 9 rfl) rfl
theorem q1275 : (Jvm.Cond.soleField "MacroGlassModel" "value") ∈ lw_all := lw_g (lw_at lw_m6 10 rfl) rfl
theorem q1276 : (Jvm.Cond.laysFinal "MacroGlassModel" "MacroGlassModel" "nodePlace" "[I") ∈ lw_all := lw_g (lw_at lw_m6 11 rfl) rfl
theorem q1277 : (Jvm.Cond.soleField "MacroGlassModel" "nodePlace") ∈ lw_all := lw_g (lw_at lw_m6 12 rfl) rfl
theorem q1278 : (Jvm.Cond.laysFinal "MacroGlassModel" "MacroGlassModel" "span" "[I") ∈ lw_all := lw_g (lw_at lw_m6 13 rfl) rfl
theorem q1279 : (Jvm.Cond.soleField "MacroGlassModel" "span") ∈ lw_all := lw_g (lw_at lw_m6 14 rfl) rfl
theorem q1280 : (Jvm.Cond.laysFinal "MacroGlassModel" "MacroGlassModel" "count" "[I") ∈ lw_all := lw_g (lw_at lw_m6 15 rfl) rfl
theorem q1281 : (Jvm.Cond.soleField "MacroGlassModel" "count") ∈ lw_all := lw_g (lw_at lw_m6 16 rfl) rfl
theorem q1282 : (Jvm.Cond.laysFinal "MacroGlassModel" "MacroGlassModel" "parent" "[I") ∈ lw_all := lw_g (lw_at lw_m6 17 rfl) rfl
theorem q1283 : (Jvm.Cond.soleField "MacroGlassModel" "parent") ∈ lw_all := lw_g (lw_at lw_m6 18 rfl) rfl
theorem q1284 : (Jvm.Cond.lays "MacroGlassModel" "MacroGlassModel" "rules" "I") ∈ lw_all := lw_g (lw_at lw_m6 19 rfl) rfl
theorem q1285 : (Jvm.Cond.soleField "MacroGlassModel" "rules") ∈ lw_all := lw_g (lw_at lw_m6 20 rfl) rfl
theorem q1286 : (Jvm.Cond.laysFinal "MacroGlassModel" "MacroGlassModel" "ruleWord" "[J") ∈ lw_all := lw_g (lw_at lw_m6 21 rfl) rfl
theorem q1287 : (Jvm.Cond.soleField "MacroGlassModel" "ruleWord") ∈ lw_all := lw_g (lw_at lw_m6 22 rfl) rfl
theorem q1288 : (Jvm.Cond.laysFinal "MacroGlassModel" "MacroGlassModel" "isRaw" "[Z") ∈ lw_all := lw_g (lw_at lw_m6 23 rfl) rfl
theorem q1289 : (Jvm.Cond.soleField "MacroGlassModel" "isRaw") ∈ lw_all := lw_g (lw_at lw_m6 24 rfl) rfl
theorem q1290 : (Jvm.Cond.laysFinal "MacroGlassModel" "MacroGlassModel" "patternsAt" "[I") ∈ lw_all := lw_g (lw_at lw_m6 25 rfl) rfl
theorem q1291 : (Jvm.Cond.soleField "MacroGlassModel" "patternsAt") ∈ lw_all := lw_g (lw_at lw_m6 26 rfl) rfl
theorem q1292 : (Jvm.Cond.laysFinal "MacroGlassModel" "MacroGlassModel" "templateAt" "[I") ∈ lw_all := lw_g (lw_at lw_m6 27 rfl) rfl
theorem q1293 : (Jvm.Cond.soleField "MacroGlassModel" "templateAt") ∈ lw_all := lw_g (lw_at lw_m6 28 rfl) rfl
theorem q1294 : (Jvm.Cond.lays "MacroGlassModel" "MacroGlassModel" "termAt" "I") ∈ lw_all := lw_g (lw_at lw_m6 29 rfl) rfl
theorem q1295 : (Jvm.Cond.soleField "MacroGlassModel" "termAt") ∈ lw_all := lw_g (lw_at lw_m6 30 rfl) rfl
theorem q1296 : (Jvm.Cond.lays "MacroGlassModel" "MacroGlassModel" "tok" "I") ∈ lw_all := lw_g (lw_at lw_m6 31 rfl) rfl
theorem q1297 : (Jvm.Cond.soleField "MacroGlassModel" "tok") ∈ lw_all := lw_g (lw_at lw_m6 32 rfl) rfl
theorem q1298 : (Jvm.Cond.lays "MacroGlassModel" "MacroGlassModel" "deep" "I") ∈ lw_all := lw_g (lw_at lw_m6 33 rfl) rfl
theorem q1299 : (Jvm.Cond.soleField "MacroGlassModel" "deep") ∈ lw_all := lw_g (lw_at lw_m6 34 rfl) rfl
theorem q1300 : (Jvm.Cond.lays "MacroGlassModel" "MacroGlassModel" "fault" "I") ∈ lw_all := lw_g (lw_at lw_m6 35 rfl) rfl
theorem q1301 : (Jvm.Cond.soleField "MacroGlassModel" "fault") ∈ lw_all := lw_g (lw_at lw_m6 36 rfl) rfl
theorem q1302 : (Jvm.Cond.lays "MacroGlassModel" "MacroGlassModel" "faultPlace" "I") ∈ lw_all := lw_g (lw_at lw_m6 37 rfl) rfl
theorem q1303 : (Jvm.Cond.soleField "MacroGlassModel" "faultPlace") ∈ lw_all := lw_g (lw_at lw_m6 38 rfl) rfl
theorem q1304 : (Jvm.Cond.laysFinal "MacroGlassModel" "MacroGlassModel" "pile" "[I") ∈ lw_all := lw_g (lw_at lw_m6 39 rfl) rfl
theorem q1305 : (Jvm.Cond.soleField "MacroGlassModel" "pile") ∈ lw_all := lw_g (lw_at lw_m6 40 rfl) rfl
theorem q1306 : (Jvm.Cond.lays "MacroGlassModel" "MacroGlassModel" "piled" "I") ∈ lw_all := lw_g (lw_at lw_m6 41 rfl) rfl
theorem q1307 : (Jvm.Cond.soleField "MacroGlassModel" "piled") ∈ lw_all := lw_g (lw_at lw_m6 42 rfl) rfl
theorem q1308 : (Jvm.Cond.lays "MacroGlassModel" "MacroGlassModel" "wrong" "I") ∈ lw_all := lw_g (lw_at lw_m6 43 rfl) rfl
theorem q1309 : (Jvm.Cond.soleField "MacroGlassModel" "wrong") ∈ lw_all := lw_g (lw_at lw_m6 44 rfl) rfl
theorem q1310 : (Jvm.Cond.lays "MacroGlassModel" "MacroGlassModel" "wrongPlace" "I") ∈ lw_all := lw_g (lw_at lw_m6 45 rfl) rfl
theorem q1311 : (Jvm.Cond.soleField "MacroGlassModel" "wrongPlace") ∈ lw_all := lw_g (lw_at lw_m6 46 rfl) rfl
theorem q1312 : (Jvm.Cond.lays "MacroGlassModel" "MacroGlassModel" "isThere" "Z") ∈ lw_all := lw_g (lw_at lw_m6 47 rfl) rfl
theorem q1313 : (Jvm.Cond.soleField "MacroGlassModel" "isThere") ∈ lw_all := lw_g (lw_at lw_m6 48 rfl) rfl
theorem q1314 : (Jvm.Cond.lays "MacroGlassModel" "MacroGlassModel" "told" "I") ∈ lw_all := lw_g (lw_at lw_m6 49 rfl) rfl
theorem q1315 : (Jvm.Cond.soleField "MacroGlassModel" "told") ∈ lw_all := lw_g (lw_at lw_m6 50 rfl) rfl
theorem q1316 : (Jvm.Cond.lays "MacroGlassModel" "MacroGlassModel" "ruleMany" "I") ∈ lw_all := lw_g (lw_at lw_m6 51 rfl) rfl
theorem q1317 : (Jvm.Cond.soleField "MacroGlassModel" "ruleMany") ∈ lw_all := lw_g (lw_at lw_m6 52 rfl) rfl
theorem q1318 : (Jvm.Cond.laysFinal "MacroGlassModel" "MacroGlassModel" "word" "[J") ∈ lw_all := lw_g (lw_at lw_m6 53 rfl) rfl
theorem q1319 : (Jvm.Cond.soleField "MacroGlassModel" "word") ∈ lw_all := lw_g (lw_at lw_m6 54 rfl) rfl
theorem q1320 : (Jvm.Cond.laysFinal "MacroGlassModel" "MacroGlassModel" "raw" "[Z") ∈ lw_all := lw_g (lw_at lw_m6 55 rfl) rfl
theorem q1321 : (Jvm.Cond.soleField "MacroGlassModel" "raw") ∈ lw_all := lw_g (lw_at lw_m6 56 rfl) rfl
theorem q1322 : (Jvm.Cond.laysFinal "MacroGlassModel" "MacroGlassModel" "patterns" "[I") ∈ lw_all := lw_g (lw_at lw_m6 57 rfl) rfl
theorem q1323 : (Jvm.Cond.soleField "MacroGlassModel" "patterns") ∈ lw_all := lw_g (lw_at lw_m6 58 rfl) rfl
theorem q1324 : (Jvm.Cond.laysFinal "MacroGlassModel" "MacroGlassModel" "template" "[I") ∈ lw_all := lw_g (lw_at lw_m6 59 rfl) rfl
theorem q1325 : (Jvm.Cond.soleField "MacroGlassModel" "template") ∈ lw_all := lw_g (lw_at lw_m6 60 rfl) rfl
theorem q1326 : (Jvm.Cond.laysFinal "MacroGlassModel" "MacroGlassModel" "pKind" "[I") ∈ lw_all := lw_g (lw_at lw_m6 61 rfl) rfl
theorem q1327 : (Jvm.Cond.soleField "MacroGlassModel" "pKind") ∈ lw_all := lw_g (lw_at lw_m6 62 rfl) rfl
theorem q1328 : (Jvm.Cond.laysFinal "MacroGlassModel" "MacroGlassModel" "pValue" "[J") ∈ lw_all := lw_g (lw_at lw_m6 63 rfl) rfl
theorem q1329 : (Jvm.Cond.soleField "MacroGlassModel" "pValue") ∈ lw_all := lw_g (lw_at lw_m6 64 rfl) rfl
theorem q1330 : (Jvm.Cond.laysFinal "MacroGlassModel" "MacroGlassModel" "pPlace" "[I") ∈ lw_all := lw_g (lw_at lw_m6 65 rfl) rfl
theorem q1331 : (Jvm.Cond.soleField "MacroGlassModel" "pPlace") ∈ lw_all := lw_g (lw_at lw_m6 66 rfl) rfl
theorem q1332 : (Jvm.Cond.laysFinal "MacroGlassModel" "MacroGlassModel" "pSpan" "[I") ∈ lw_all := lw_g (lw_at lw_m6 67 rfl) rfl
theorem q1333 : (Jvm.Cond.soleField "MacroGlassModel" "pSpan") ∈ lw_all := lw_g (lw_at lw_m6 68 rfl) rfl
theorem q1334 : (Jvm.Cond.laysFinal "MacroGlassModel" "MacroGlassModel" "pCount" "[I") ∈ lw_all := lw_g (lw_at lw_m6 69 rfl) rfl
theorem q1335 : (Jvm.Cond.soleField "MacroGlassModel" "pCount") ∈ lw_all := lw_g (lw_at lw_m6 70 rfl) rfl
theorem q1336 : (Jvm.Cond.laysFinal "MacroGlassModel" "MacroGlassModel" "pParent" "[I") ∈ lw_all := lw_g (lw_at lw_m6 71 rfl) rfl
theorem q1337 : (Jvm.Cond.soleField "MacroGlassModel" "pParent") ∈ lw_all := lw_g (lw_at lw_m6 72 rfl) rfl
theorem q1338 : (Jvm.Cond.lays "MacroGlassModel" "MacroGlassModel" "items" "I") ∈ lw_all := lw_g (lw_at lw_m6 73 rfl) rfl
theorem q1339 : (Jvm.Cond.soleField "MacroGlassModel" "items") ∈ lw_all := lw_g (lw_at lw_m6 74 rfl) rfl
theorem q1340 : (Jvm.Cond.laysFinal "MacroGlassModel" "MacroGlassModel" "what" "[I") ∈ lw_all := lw_g (lw_at lw_m6 75 rfl) rfl
theorem q1341 : (Jvm.Cond.soleField "MacroGlassModel" "what") ∈ lw_all := lw_g (lw_at lw_m6 76 rfl) rfl
theorem q1342 : (Jvm.Cond.laysFinal "MacroGlassModel" "MacroGlassModel" "worthOf" "[J") ∈ lw_all := lw_g (lw_at lw_m6 77 rfl) rfl
theorem q1343 : (Jvm.Cond.soleField "MacroGlassModel" "worthOf") ∈ lw_all := lw_g (lw_at lw_m6 78 rfl) rfl
theorem q1344 : (Jvm.Cond.laysFinal "MacroGlassModel" "MacroGlassModel" "mark" "[I") ∈ lw_all := lw_g (lw_at lw_m6 79 rfl) rfl
theorem q1345 : (Jvm.Cond.soleField "MacroGlassModel" "mark") ∈ lw_all := lw_g (lw_at lw_m6 80 rfl) rfl
theorem q1346 : (Jvm.Cond.laysFinal "MacroGlassModel" "MacroGlassModel" "from" "[I") ∈ lw_all := lw_g (lw_at lw_m6 81 rfl) rfl
theorem q1347 : (Jvm.Cond.soleField "MacroGlassModel" "from") ∈ lw_all := lw_g (lw_at lw_m6 82 rfl) rfl
theorem q1348 : (Jvm.Cond.laysFinal "MacroGlassModel" "MacroGlassModel" "maker" "[I") ∈ lw_all := lw_g (lw_at lw_m6 83 rfl) rfl
theorem q1349 : (Jvm.Cond.soleField "MacroGlassModel" "maker") ∈ lw_all := lw_g (lw_at lw_m6 84 rfl) rfl
theorem q1350 : (Jvm.Cond.laysFinal "MacroGlassModel" "MacroGlassModel" "room" "[I") ∈ lw_all := lw_g (lw_at lw_m6 85 rfl) rfl
theorem q1351 : (Jvm.Cond.soleField "MacroGlassModel" "room") ∈ lw_all := lw_g (lw_at lw_m6 86 rfl) rfl
theorem q1352 : (Jvm.Cond.laysFinal "MacroGlassModel" "MacroGlassModel" "parts" "[I") ∈ lw_all := lw_g (lw_at lw_m6 87 rfl) rfl
theorem q1353 : (Jvm.Cond.soleField "MacroGlassModel" "parts") ∈ lw_all := lw_g (lw_at lw_m6 88 rfl) rfl
theorem q1354 : (Jvm.Cond.laysFinal "MacroGlassModel" "MacroGlassModel" "inside" "[I") ∈ lw_all := lw_g (lw_at lw_m6 89 rfl) rfl
theorem q1355 : (Jvm.Cond.soleField "MacroGlassModel" "inside") ∈ lw_all := lw_g (lw_at lw_m6 90 rfl) rfl
theorem q1356 : (Jvm.Cond.lays "MacroGlassModel" "MacroGlassModel" "steps" "I") ∈ lw_all := lw_g (lw_at lw_m6 91 rfl) rfl
theorem q1357 : (Jvm.Cond.soleField "MacroGlassModel" "steps") ∈ lw_all := lw_g (lw_at lw_m6 92 rfl) rfl
theorem q1358 : (Jvm.Cond.laysFinal "MacroGlassModel" "MacroGlassModel" "stepRule" "[I") ∈ lw_all := lw_g (lw_at lw_m6 93 rfl) rfl
theorem q1359 : (Jvm.Cond.soleField "MacroGlassModel" "stepRule") ∈ lw_all := lw_g (lw_at lw_m6 94 rfl) rfl
theorem q1360 : (Jvm.Cond.laysFinal "MacroGlassModel" "MacroGlassModel" "stepPlace" "[I") ∈ lw_all := lw_g (lw_at lw_m6 95 rfl) rfl
theorem q1361 : (Jvm.Cond.soleField "MacroGlassModel" "stepPlace") ∈ lw_all := lw_g (lw_at lw_m6 96 rfl) rfl
theorem q1362 : (Jvm.Cond.laysFinal "MacroGlassModel" "MacroGlassModel" "stepMaker" "[I") ∈ lw_all := lw_g (lw_at lw_m6 97 rfl) rfl
theorem q1363 : (Jvm.Cond.soleField "MacroGlassModel" "stepMaker") ∈ lw_all := lw_g (lw_at lw_m6 98 rfl) rfl
theorem q1364 : (Jvm.Cond.lays "MacroGlassModel" "MacroGlassModel" "made" "I") ∈ lw_all := lw_g (lw_at lw_m6 99 rfl) rfl
theorem q1365 : (Jvm.Cond.soleField "MacroGlassModel" "made") ∈ lw_all := lw_g (lw_at lw_m6 100 rfl) rfl
theorem q1366 : (Jvm.Cond.laysFinal "MacroGlassModel" "MacroGlassModel" "metFrom" "[I") ∈ lw_all := lw_g (lw_at lw_m6 101 rfl) rfl
theorem q1367 : (Jvm.Cond.soleField "MacroGlassModel" "metFrom") ∈ lw_all := lw_g (lw_at lw_m6 102 rfl) rfl
theorem q1368 : (Jvm.Cond.laysFinal "MacroGlassModel" "MacroGlassModel" "metTo" "[I") ∈ lw_all := lw_g (lw_at lw_m6 103 rfl) rfl
theorem q1369 : (Jvm.Cond.soleField "MacroGlassModel" "metTo") ∈ lw_all := lw_g (lw_at lw_m6 104 rfl) rfl
theorem q1370 : (Jvm.Cond.lays "MacroGlassModel" "MacroGlassModel" "fresh" "I") ∈ lw_all := lw_g (lw_at lw_m6 105 rfl) rfl
theorem q1371 : (Jvm.Cond.soleField "MacroGlassModel" "fresh") ∈ lw_all := lw_g (lw_at lw_m6 106 rfl) rfl
theorem q1372 : (Jvm.Cond.laysFinal "MacroGlassModel" "MacroGlassModel" "fWhat" "[I") ∈ lw_all := lw_g (lw_at lw_m6 107 rfl) rfl
theorem q1373 : (Jvm.Cond.soleField "MacroGlassModel" "fWhat") ∈ lw_all := lw_g (lw_at lw_m6 108 rfl) rfl
theorem q1374 : (Jvm.Cond.laysFinal "MacroGlassModel" "MacroGlassModel" "fWorth" "[J") ∈ lw_all := lw_g (lw_at lw_m6 109 rfl) rfl
theorem q1375 : (Jvm.Cond.soleField "MacroGlassModel" "fWorth") ∈ lw_all := lw_g (lw_at lw_m6 110 rfl) rfl
theorem q1376 : (Jvm.Cond.laysFinal "MacroGlassModel" "MacroGlassModel" "fMark" "[I") ∈ lw_all := lw_g (lw_at lw_m6 111 rfl) rfl
theorem q1377 : (Jvm.Cond.soleField "MacroGlassModel" "fMark") ∈ lw_all := lw_g (lw_at lw_m6 112 rfl) rfl
theorem q1378 : (Jvm.Cond.laysFinal "MacroGlassModel" "MacroGlassModel" "fFrom" "[I") ∈ lw_all := lw_g (lw_at lw_m6 113 rfl) rfl
theorem q1379 : (Jvm.Cond.soleField "MacroGlassModel" "fFrom") ∈ lw_all := lw_g (lw_at lw_m6 114 rfl) rfl
theorem q1380 : (Jvm.Cond.laysFinal "MacroGlassModel" "MacroGlassModel" "fMaker" "[I") ∈ lw_all := lw_g (lw_at lw_m6 115 rfl) rfl
theorem q1381 : (Jvm.Cond.soleField "MacroGlassModel" "fMaker") ∈ lw_all := lw_g (lw_at lw_m6 116 rfl) rfl
theorem q1382 : (Jvm.Cond.laysFinal "MacroGlassModel" "MacroGlassModel" "fRoom" "[I") ∈ lw_all := lw_g (lw_at lw_m6 117 rfl) rfl
theorem q1383 : (Jvm.Cond.soleField "MacroGlassModel" "fRoom") ∈ lw_all := lw_g (lw_at lw_m6 118 rfl) rfl
theorem q1384 : (Jvm.Cond.laysFinal "MacroGlassModel" "MacroGlassModel" "fParts" "[I") ∈ lw_all := lw_g (lw_at lw_m6 119 rfl) rfl
theorem q1385 : (Jvm.Cond.soleField "MacroGlassModel" "fParts") ∈ lw_all := lw_g (lw_at lw_m6 120 rfl) rfl
theorem q1386 : (Jvm.Cond.laysFinal "MacroGlassModel" "MacroGlassModel" "openAt" "[I") ∈ lw_all := lw_g (lw_at lw_m6 121 rfl) rfl
theorem q1387 : (Jvm.Cond.soleField "MacroGlassModel" "openAt") ∈ lw_all := lw_g (lw_at lw_m6 122 rfl) rfl
theorem q1388 : (Jvm.Cond.laysFinal "MacroGlassModel" "MacroGlassModel" "openEnd" "[I") ∈ lw_all := lw_g (lw_at lw_m6 123 rfl) rfl
theorem q1389 : (Jvm.Cond.soleField "MacroGlassModel" "openEnd") ∈ lw_all := lw_g (lw_at lw_m6 124 rfl) rfl
theorem q1390 : (Jvm.Cond.lays "MacroGlassModel" "MacroGlassModel" "undos" "I") ∈ lw_all := lw_g (lw_at lw_m6 125 rfl) rfl
theorem q1391 : (Jvm.Cond.soleField "MacroGlassModel" "undos") ∈ lw_all := lw_g (lw_at lw_m6 126 rfl) rfl
theorem q1392 : (Jvm.Cond.lays "MacroGlassModel" "MacroGlassModel" "gone" "I") ∈ lw_all := lw_g (lw_at lw_m6 127 rfl) rfl
theorem q1393 : (Jvm.Cond.soleField "MacroGlassModel" "gone") ∈ lw_all := lw_g (lw_at lw_m6 128 rfl) rfl
theorem q1394 : (Jvm.Cond.laysFinal "MacroGlassModel" "MacroGlassModel" "goneAt" "[I") ∈ lw_all := lw_g (lw_at lw_m6 129 rfl) rfl
theorem q1395 : (Jvm.Cond.soleField "MacroGlassModel" "goneAt") ∈ lw_all := lw_g (lw_at lw_m6 130 rfl) rfl
theorem q1396 : (Jvm.Cond.laysFinal "MacroGlassModel" "MacroGlassModel" "gonePlace" "[I") ∈ lw_all := lw_g (lw_at lw_m6 131 rfl) rfl
theorem q1397 : (Jvm.Cond.soleField "MacroGlassModel" "gonePlace") ∈ lw_all := lw_g (lw_at lw_m6 132 rfl) rfl
theorem q1398 : (Jvm.Cond.laysFinal "MacroGlassModel" "MacroGlassModel" "goneCame" "[I") ∈ lw_all := lw_g (lw_at lw_m6 133 rfl) rfl
theorem q1399 : (Jvm.Cond.soleField "MacroGlassModel" "goneCame") ∈ lw_all := lw_g (lw_at lw_m6 134 rfl) rfl
theorem q1400 : (Jvm.Cond.laysFinal "MacroGlassModel" "MacroGlassModel" "oldWhat" "[I") ∈ lw_all := lw_g (lw_at lw_m6 135 rfl) rfl
theorem q1401 : (Jvm.Cond.soleField "MacroGlassModel" "oldWhat") ∈ lw_all := lw_g (lw_at lw_m6 136 rfl) rfl
theorem q1402 : (Jvm.Cond.laysFinal "MacroGlassModel" "MacroGlassModel" "oldWorth" "[J") ∈ lw_all := lw_g (lw_at lw_m6 137 rfl) rfl
theorem q1403 : (Jvm.Cond.soleField "MacroGlassModel" "oldWorth") ∈ lw_all := lw_g (lw_at lw_m6 138 rfl) rfl
theorem q1404 : (Jvm.Cond.laysFinal "MacroGlassModel" "MacroGlassModel" "oldMark" "[I") ∈ lw_all := lw_g (lw_at lw_m6 139 rfl) rfl
theorem q1405 : (Jvm.Cond.soleField "MacroGlassModel" "oldMark") ∈ lw_all := lw_g (lw_at lw_m6 140 rfl) rfl
theorem q1406 : (Jvm.Cond.laysFinal "MacroGlassModel" "MacroGlassModel" "oldFrom" "[I") ∈ lw_all := lw_g (lw_at lw_m6 141 rfl) rfl
theorem q1407 : (Jvm.Cond.soleField "MacroGlassModel" "oldFrom") ∈ lw_all := lw_g (lw_at lw_m6 142 rfl) rfl
theorem q1408 : (Jvm.Cond.laysFinal "MacroGlassModel" "MacroGlassModel" "oldMaker" "[I") ∈ lw_all := lw_g (lw_at lw_m6 143 rfl) rfl
theorem q1409 : (Jvm.Cond.soleField "MacroGlassModel" "oldMaker") ∈ lw_all := lw_g (lw_at lw_m6 144 rfl) rfl
theorem q1410 : (Jvm.Cond.laysFinal "MacroGlassModel" "MacroGlassModel" "oldRoom" "[I") ∈ lw_all := lw_g (lw_at lw_m6 145 rfl) rfl
theorem q1411 : (Jvm.Cond.soleField "MacroGlassModel" "oldRoom") ∈ lw_all := lw_g (lw_at lw_m6 146 rfl) rfl
theorem q1412 : (Jvm.Cond.laysFinal "MacroGlassModel" "MacroGlassModel" "oldParts" "[I") ∈ lw_all := lw_g (lw_at lw_m6 147 rfl) rfl
theorem q1413 : (Jvm.Cond.soleField "MacroGlassModel" "oldParts") ∈ lw_all := lw_g (lw_at lw_m6 148 rfl) rfl
theorem q1414 : (Jvm.Cond.lays "MacroGlassModel" "MacroGlassModel" "isKept" "Z") ∈ lw_all := lw_g (lw_at lw_m6 149 rfl) rfl
theorem q1415 : (Jvm.Cond.soleField "MacroGlassModel" "isKept") ∈ lw_all := lw_g (lw_at lw_m6 150 rfl) rfl
theorem q1416 : (Jvm.Cond.lays "MacroGlassModel" "MacroGlassModel" "keptItems" "I") ∈ lw_all := lw_g (lw_at lw_m6 151 rfl) rfl
theorem q1417 : (Jvm.Cond.soleField "MacroGlassModel" "keptItems") ∈ lw_all := lw_g (lw_at lw_m6 152 rfl) rfl
theorem q1418 : (Jvm.Cond.laysFinal "MacroGlassModel" "MacroGlassModel" "keptWhat" "[I") ∈ lw_all := lw_g (lw_at lw_m6 153 rfl) rfl
theorem q1419 : (Jvm.Cond.soleField "MacroGlassModel" "keptWhat") ∈ lw_all := lw_g (lw_at lw_m6 154 rfl) rfl
theorem q1420 : (Jvm.Cond.laysFinal "MacroGlassModel" "MacroGlassModel" "keptWorth" "[J") ∈ lw_all := lw_g (lw_at lw_m6 155 rfl) rfl
theorem q1421 : (Jvm.Cond.soleField "MacroGlassModel" "keptWorth") ∈ lw_all := lw_g (lw_at lw_m6 156 rfl) rfl
theorem q1422 : (Jvm.Cond.laysFinal "MacroGlassModel" "MacroGlassModel" "keptParts" "[I") ∈ lw_all := lw_g (lw_at lw_m6 157 rfl) rfl
theorem q1423 : (Jvm.Cond.soleField "MacroGlassModel" "keptParts") ∈ lw_all := lw_g (lw_at lw_m6 158 rfl) rfl
theorem q1424 : (Jvm.Cond.laysFinal "MacroGlassModel" "MacroGlassModel" "keptReads" "[I") ∈ lw_all := lw_g (lw_at lw_m6 159 rfl) rfl
theorem q1425 : (Jvm.Cond.soleField "MacroGlassModel" "keptReads") ∈ lw_all := lw_g (lw_at lw_m6 160 rfl) rfl
theorem q1426 : (Jvm.Cond.superclass "MacroGlassModel" "java/lang/Object") ∈ lw_all := lw_g (lw_at lw_m6 161 rfl) rfl
theorem q1429 : (Jvm.Cond.instanceMethod ({ cls := "MacroGlassModel", name := "feed", desc := "(J)I" } : Jvm.MethodName)) ∈ lw_all := lw_g (lw_at lw_m6 164 rfl) rfl
theorem q1430 : (Jvm.Cond.selects "MacroGlassModel" ({ cls := "MacroGlassModel", name := "feed", desc := "(J)I" } : Jvm.MethodName) ({ cls := "MacroGlassModel", name := "feed", desc := "(J)I" } : Jvm.MethodName)) ∈ lw_all := lw_g (lw_at lw_m6 165 rfl) rfl
theorem q1431 : (Jvm.Cond.code ({ cls := "MacroGlassModel", name := "feed", desc := "(J)I" } : Jvm.MethodName) prog_20_method_4_code (5 : Nat) (Option.some Jvm.ClassFile.FieldType.int)) ∈ lw_all := lw_g (lw_at lw_m6 166 rfl) rfl
theorem q1432 : (Jvm.Cond.constantLong "MacroGlassModel" (196 : Nat) (255 : Int64)) ∈ lw_all := lw_g (lw_at lw_m6 167 rfl) rfl
theorem q1434 : (Jvm.Cond.instanceMethod ({ cls := "MacroGlassModel", name := "cut", desc := "()I" } : Jvm.MethodName)) ∈ lw_all := lw_g (lw_at lw_m6 169 rfl) rfl
theorem q1435 : (Jvm.Cond.selects "MacroGlassModel" ({ cls := "MacroGlassModel", name := "cut", desc := "()I" } : Jvm.MethodName) ({ cls := "MacroGlassModel", name := "cut", desc := "()I" } : Jvm.MethodName)) ∈ lw_all := lw_g (lw_at lw_m6 170 rfl) rfl
theorem q1436 : (Jvm.Cond.code ({ cls := "MacroGlassModel", name := "cut", desc := "()I" } : Jvm.MethodName) prog_20_method_5_code (2 : Nat) (Option.some Jvm.ClassFile.FieldType.int)) ∈ lw_all := lw_g (lw_at lw_m6 171 rfl) rfl
theorem q1438 : (Jvm.Cond.instanceMethod ({ cls := "MacroGlassModel", name := "read", desc := "()I" } : Jvm.MethodName)) ∈ lw_all := lw_g (lw_at lw_m6 173 rfl) rfl
theorem q1439 : (Jvm.Cond.selects "MacroGlassModel" ({ cls := "MacroGlassModel", name := "read", desc := "()I" } : Jvm.MethodName) ({ cls := "MacroGlassModel", name := "read", desc := "()I" } : Jvm.MethodName)) ∈ lw_all := lw_g (lw_at lw_m6 174 rfl) rfl
theorem q1440 : (Jvm.Cond.code ({ cls := "MacroGlassModel", name := "read", desc := "()I" } : Jvm.MethodName) prog_20_method_27_code (6 : Nat) (Option.some Jvm.ClassFile.FieldType.int)) ∈ lw_all := lw_g (lw_at lw_m6 175 rfl) rfl
theorem q1441 : (Jvm.Cond.methodLink "MacroGlassModel" (309 : Nat) ({ cls := "MacroGlassModel", name := "readAll", desc := "()Z" } : Jvm.MethodName)) ∈ lw_all := lw_g (lw_at lw_m6 176 rfl) rfl
theorem q1442 : (Jvm.Cond.privateMethod ({ cls := "MacroGlassModel", name := "readAll", desc := "()Z" } : Jvm.MethodName)) ∈ lw_tbl := lw_at lw_m6 177 rfl
theorem q1443 : (Jvm.Cond.instanceMethod ({ cls := "MacroGlassModel", name := "readAll", desc := "()Z" } : Jvm.MethodName)) ∈ lw_all := lw_g (lw_at lw_m6 178 rfl) rfl
theorem q1444 : (Jvm.Cond.code ({ cls := "MacroGlassModel", name := "readAll", desc := "()Z" } : Jvm.MethodName) prog_20_method_24_code (2 : Nat) (Option.some Jvm.ClassFile.FieldType.boolean)) ∈ lw_all := lw_g (lw_at lw_m6 179 rfl) rfl
theorem q1445 : (Jvm.Cond.methodLink "MacroGlassModel" (290 : Nat) ({ cls := "MacroGlassModel", name := "cutUp", desc := "()V" } : Jvm.MethodName)) ∈ lw_all := lw_g (lw_at lw_m6 180 rfl) rfl
theorem q1446 : (Jvm.Cond.privateMethod ({ cls := "MacroGlassModel", name := "cutUp", desc := "()V" } : Jvm.MethodName)) ∈ lw_tbl := lw_at lw_m6 181 rfl
theorem q1447 : (Jvm.Cond.instanceMethod ({ cls := "MacroGlassModel", name := "cutUp", desc := "()V" } : Jvm.MethodName)) ∈ lw_all := lw_g (lw_at lw_m6 182 rfl) rfl
theorem q1448 : (Jvm.Cond.code ({ cls := "MacroGlassModel", name := "cutUp", desc := "()V" } : Jvm.MethodName) prog_20_method_10_code (6 : Nat) (Option.none : Option Jvm.ClassFile.FieldType)) ∈ lw_all := lw_g (lw_at lw_m6 183 rfl) rfl
theorem q1449 : (Jvm.Cond.methodLink "MacroGlassModel" (205 : Nat) ({ cls := "MacroGlassModel", name := "at", desc := "(I)I" } : Jvm.MethodName)) ∈ lw_all := lw_g (lw_at lw_m6 184 rfl) rfl
theorem q1450 : (Jvm.Cond.privateMethod ({ cls := "MacroGlassModel", name := "at", desc := "(I)I" } : Jvm.MethodName)) ∈ lw_tbl := lw_at lw_m6 185 rfl
theorem q1451 : (Jvm.Cond.instanceMethod ({ cls := "MacroGlassModel", name := "at", desc := "(I)I" } : Jvm.MethodName)) ∈ lw_all := lw_g (lw_at lw_m6 186 rfl) rfl
theorem q1452 : (Jvm.Cond.code ({ cls := "MacroGlassModel", name := "at", desc := "(I)I" } : Jvm.MethodName) prog_20_method_6_code (2 : Nat) (Option.some Jvm.ClassFile.FieldType.int)) ∈ lw_all := lw_g (lw_at lw_m6 187 rfl) rfl
theorem q1453 : (Jvm.Cond.methodLink "MacroGlassModel" (209 : Nat) ({ cls := "MacroGlassModel", name := "isLetter", desc := "(I)Z" } : Jvm.MethodName)) ∈ lw_all := lw_g (lw_at lw_m6 188 rfl) rfl
theorem q1454 : (Jvm.Cond.static ({ cls := "MacroGlassModel", name := "isLetter", desc := "(I)Z" } : Jvm.MethodName)) ∈ lw_all := lw_g (lw_at lw_m6 189 rfl) rfl
theorem q1455 : (Jvm.Cond.code ({ cls := "MacroGlassModel", name := "isLetter", desc := "(I)Z" } : Jvm.MethodName) prog_20_method_7_code (1 : Nat) (Option.some Jvm.ClassFile.FieldType.boolean)) ∈ lw_all := lw_g (lw_at lw_m6 190 rfl) rfl
theorem q1456 : (Jvm.Cond.methodLink "MacroGlassModel" (213 : Nat) ({ cls := "MacroGlassModel", name := "addToken", desc := "(IIJ)V" } : Jvm.MethodName)) ∈ lw_all := lw_g (lw_at lw_m6 191 rfl) rfl
theorem q1457 : (Jvm.Cond.privateMethod ({ cls := "MacroGlassModel", name := "addToken", desc := "(IIJ)V" } : Jvm.MethodName)) ∈ lw_tbl := lw_at lw_m6 192 rfl
theorem q1458 : (Jvm.Cond.instanceMethod ({ cls := "MacroGlassModel", name := "addToken", desc := "(IIJ)V" } : Jvm.MethodName)) ∈ lw_all := lw_g (lw_at lw_m6 193 rfl) rfl
theorem q1459 : (Jvm.Cond.code ({ cls := "MacroGlassModel", name := "addToken", desc := "(IIJ)V" } : Jvm.MethodName) prog_20_method_9_code (5 : Nat) (Option.none : Option Jvm.ClassFile.FieldType)) ∈ lw_all := lw_g (lw_at lw_m6 194 rfl) rfl
theorem q1460 : (Jvm.Cond.methodLink "MacroGlassModel" (217 : Nat) ({ cls := "MacroGlassModel", name := "isDigit", desc := "(I)Z" } : Jvm.MethodName)) ∈ lw_all := lw_g (lw_at lw_m6 195 rfl) rfl
theorem q1461 : (Jvm.Cond.static ({ cls := "MacroGlassModel", name := "isDigit", desc := "(I)Z" } : Jvm.MethodName)) ∈ lw_all := lw_g (lw_at lw_m6 196 rfl) rfl
theorem q1462 : (Jvm.Cond.code ({ cls := "MacroGlassModel", name := "isDigit", desc := "(I)Z" } : Jvm.MethodName) prog_20_method_8_code (1 : Nat) (Option.some Jvm.ClassFile.FieldType.boolean)) ∈ lw_all := lw_g (lw_at lw_m6 197 rfl) rfl
theorem q1463 : (Jvm.Cond.constantLong "MacroGlassModel" (220 : Nat) (10 : Int64)) ∈ lw_all := lw_g (lw_at lw_m6 198 rfl) rfl
theorem q1464 : (Jvm.Cond.constantLong "MacroGlassModel" (222 : Nat) (48 : Int64)) ∈ lw_all := lw_g (lw_at lw_m6 199 rfl) rfl
theorem q1465 : (Jvm.Cond.methodLink "MacroGlassModel" (293 : Nat) ({ cls := "MacroGlassModel", name := "isRule", desc := "()Z" } : Jvm.MethodName)) ∈ lw_all := lw_g (lw_at lw_m6 200 rfl) rfl
theorem q1466 : (Jvm.Cond.privateMethod ({ cls := "MacroGlassModel", name := "isRule", desc := "()Z" } : Jvm.MethodName)) ∈ lw_tbl := lw_at lw_m6 201 rfl
theorem q1467 : (Jvm.Cond.instanceMethod ({ cls := "MacroGlassModel", name := "isRule", desc := "()Z" } : Jvm.MethodName)) ∈ lw_all := lw_g (lw_at lw_m6 202 rfl) rfl
theorem q1468 : (Jvm.Cond.code ({ cls := "MacroGlassModel", name := "isRule", desc := "()Z" } : Jvm.MethodName) prog_20_method_19_code (1 : Nat) (Option.some Jvm.ClassFile.FieldType.boolean)) ∈ lw_all := lw_g (lw_at lw_m6 203 rfl) rfl
theorem q1469 : (Jvm.Cond.constantLong "MacroGlassModel" (263 : Nat) (1685221239 : Int64)) ∈ lw_all := lw_g (lw_at lw_m6 204 rfl) rfl
theorem q1470 : (Jvm.Cond.constantLong "MacroGlassModel" (265 : Nat) (7823730 : Int64)) ∈ lw_all := lw_g (lw_at lw_m6 205 rfl) rfl
theorem q1471 : (Jvm.Cond.methodLink "MacroGlassModel" (297 : Nat) ({ cls := "MacroGlassModel", name := "readRule", desc := "()V" } : Jvm.MethodName)) ∈ lw_all := lw_g (lw_at lw_m6 206 rfl) rfl
theorem q1472 : (Jvm.Cond.privateMethod ({ cls := "MacroGlassModel", name := "readRule", desc := "()V" } : Jvm.MethodName)) ∈ lw_tbl := lw_at lw_m6 207 rfl
theorem q1473 : (Jvm.Cond.instanceMethod ({ cls := "MacroGlassModel", name := "readRule", desc := "()V" } : Jvm.MethodName)) ∈ lw_all := lw_g (lw_at lw_m6 208 rfl) rfl
theorem q1474 : (Jvm.Cond.code ({ cls := "MacroGlassModel", name := "readRule", desc := "()V" } : Jvm.MethodName) prog_20_method_20_code (4 : Nat) (Option.none : Option Jvm.ClassFile.FieldType)) ∈ lw_all := lw_g (lw_at lw_m6 209 rfl) rfl
theorem q1475 : (Jvm.Cond.methodLink "MacroGlassModel" (233 : Nat) ({ cls := "MacroGlassModel", name := "must", desc := "(Z)Z" } : Jvm.MethodName)) ∈ lw_all := lw_g (lw_at lw_m6 210 rfl) rfl
theorem q1476 : (Jvm.Cond.privateMethod ({ cls := "MacroGlassModel", name := "must", desc := "(Z)Z" } : Jvm.MethodName)) ∈ lw_tbl := lw_at lw_m6 211 rfl
theorem q1477 : (Jvm.Cond.instanceMethod ({ cls := "MacroGlassModel", name := "must", desc := "(Z)Z" } : Jvm.MethodName)) ∈ lw_all := lw_g (lw_at lw_m6 212 rfl) rfl
theorem q1478 : (Jvm.Cond.code ({ cls := "MacroGlassModel", name := "must", desc := "(Z)Z" } : Jvm.MethodName) prog_20_method_12_code (2 : Nat) (Option.some Jvm.ClassFile.FieldType.boolean)) ∈ lw_all := lw_g (lw_at lw_m6 213 rfl) rfl
theorem q1479 : (Jvm.Cond.constantLong "MacroGlassModel" (270 : Nat) (7628140 : Int64)) ∈ lw_all := lw_g (lw_at lw_m6 214 rfl) rfl
theorem q1480 : (Jvm.Cond.constantLong "MacroGlassModel" (272 : Nat) (7239014 : Int64)) ∈ lw_all := lw_g (lw_at lw_m6 215 rfl) rfl
theorem q1481 : (Jvm.Cond.methodLink "MacroGlassModel" (274 : Nat) ({ cls := "MacroGlassModel", name := "readWhole", desc := "(I)V" } : Jvm.MethodName)) ∈ lw_all := lw_g (lw_at lw_m6 216 rfl) rfl
theorem q1482 : (Jvm.Cond.privateMethod ({ cls := "MacroGlassModel", name := "readWhole", desc := "(I)V" } : Jvm.MethodName)) ∈ lw_tbl := lw_at lw_m6 217 rfl
theorem q1483 : (Jvm.Cond.instanceMethod ({ cls := "MacroGlassModel", name := "readWhole", desc := "(I)V" } : Jvm.MethodName)) ∈ lw_all := lw_g (lw_at lw_m6 218 rfl) rfl
theorem q1484 : (Jvm.Cond.code ({ cls := "MacroGlassModel", name := "readWhole", desc := "(I)V" } : Jvm.MethodName) prog_20_method_18_code (2 : Nat) (Option.none : Option Jvm.ClassFile.FieldType)) ∈ lw_all := lw_g (lw_at lw_m6 219 rfl) rfl
theorem q1485 : (Jvm.Cond.methodLink "MacroGlassModel" (260 : Nat) ({ cls := "MacroGlassModel", name := "readOne", desc := "(I)V" } : Jvm.MethodName)) ∈ lw_all := lw_g (lw_at lw_m6 220 rfl) rfl
theorem q1486 : (Jvm.Cond.privateMethod ({ cls := "MacroGlassModel", name := "readOne", desc := "(I)V" } : Jvm.MethodName)) ∈ lw_tbl := lw_at lw_m6 221 rfl
theorem q1487 : (Jvm.Cond.instanceMethod ({ cls := "MacroGlassModel", name := "readOne", desc := "(I)V" } : Jvm.MethodName)) ∈ lw_all := lw_g (lw_at lw_m6 222 rfl) rfl
theorem q1488 : (Jvm.Cond.code ({ cls := "MacroGlassModel", name := "readOne", desc := "(I)V" } : Jvm.MethodName) prog_20_method_17_code (5 : Nat) (Option.none : Option Jvm.ClassFile.FieldType)) ∈ lw_all := lw_g (lw_at lw_m6 223 rfl) rfl
theorem q1489 : (Jvm.Cond.methodLink "MacroGlassModel" (254 : Nat) ({ cls := "MacroGlassModel", name := "open", desc := "()V" } : Jvm.MethodName)) ∈ lw_all := lw_g (lw_at lw_m6 224 rfl) rfl
theorem q1490 : (Jvm.Cond.privateMethod ({ cls := "MacroGlassModel", name := "open", desc := "()V" } : Jvm.MethodName)) ∈ lw_tbl := lw_at lw_m6 225 rfl
theorem q1491 : (Jvm.Cond.instanceMethod ({ cls := "MacroGlassModel", name := "open", desc := "()V" } : Jvm.MethodName)) ∈ lw_all := lw_g (lw_at lw_m6 226 rfl) rfl
theorem q1492 : (Jvm.Cond.code ({ cls := "MacroGlassModel", name := "open", desc := "()V" } : Jvm.MethodName) prog_20_method_15_code (2 : Nat) (Option.none : Option Jvm.ClassFile.FieldType)) ∈ lw_all := lw_g (lw_at lw_m6 227 rfl) rfl
theorem q1493 : (Jvm.Cond.methodLink "MacroGlassModel" (246 : Nat) ({ cls := "MacroGlassModel", name := "node", desc := "(IJ)I" } : Jvm.MethodName)) ∈ lw_all := lw_g (lw_at lw_m6 228 rfl) rfl
theorem q1494 : (Jvm.Cond.privateMethod ({ cls := "MacroGlassModel", name := "node", desc := "(IJ)I" } : Jvm.MethodName)) ∈ lw_tbl := lw_at lw_m6 229 rfl
theorem q1495 : (Jvm.Cond.instanceMethod ({ cls := "MacroGlassModel", name := "node", desc := "(IJ)I" } : Jvm.MethodName)) ∈ lw_all := lw_g (lw_at lw_m6 230 rfl) rfl
theorem q1496 : (Jvm.Cond.code ({ cls := "MacroGlassModel", name := "node", desc := "(IJ)I" } : Jvm.MethodName) prog_20_method_14_code (5 : Nat) (Option.some Jvm.ClassFile.FieldType.int)) ∈ lw_all := lw_g (lw_at lw_m6 231 rfl) rfl
theorem q1497 : (Jvm.Cond.methodLink "MacroGlassModel" (257 : Nat) ({ cls := "MacroGlassModel", name := "close", desc := "()V" } : Jvm.MethodName)) ∈ lw_all := lw_g (lw_at lw_m6 232 rfl) rfl
theorem q1498 : (Jvm.Cond.privateMethod ({ cls := "MacroGlassModel", name := "close", desc := "()V" } : Jvm.MethodName)) ∈ lw_tbl := lw_at lw_m6 233 rfl
theorem q1499 : (Jvm.Cond.instanceMethod ({ cls := "MacroGlassModel", name := "close", desc := "()V" } : Jvm.MethodName)) ∈ lw_all := lw_g (lw_at lw_m6 234 rfl) rfl
theorem q1500 : (Jvm.Cond.code ({ cls := "MacroGlassModel", name := "close", desc := "()V" } : Jvm.MethodName) prog_20_method_16_code (1 : Nat) (Option.none : Option Jvm.ClassFile.FieldType)) ∈ lw_all := lw_g (lw_at lw_m6 235 rfl) rfl
theorem q1501 : (Jvm.Cond.methodLink "MacroGlassModel" (250 : Nat) ({ cls := "MacroGlassModel", name := "take", desc := "(I)V" } : Jvm.MethodName)) ∈ lw_all := lw_g (lw_at lw_m6 236 rfl) rfl
theorem q1502 : (Jvm.Cond.privateMethod ({ cls := "MacroGlassModel", name := "take", desc := "(I)V" } : Jvm.MethodName)) ∈ lw_tbl := lw_at lw_m6 237 rfl
theorem q1503 : (Jvm.Cond.instanceMethod ({ cls := "MacroGlassModel", name := "take", desc := "(I)V" } : Jvm.MethodName)) ∈ lw_all := lw_g (lw_at lw_m6 238 rfl) rfl
theorem q1504 : (Jvm.Cond.code ({ cls := "MacroGlassModel", name := "take", desc := "(I)V" } : Jvm.MethodName) prog_20_method_13_code (2 : Nat) (Option.none : Option Jvm.ClassFile.FieldType)) ∈ lw_all := lw_g (lw_at lw_m6 239 rfl) rfl
theorem q1505 : (Jvm.Cond.methodLink "MacroGlassModel" (303 : Nat) ({ cls := "MacroGlassModel", name := "checkRule", desc := "(I)V" } : Jvm.MethodName)) ∈ lw_all := lw_g (lw_at lw_m7 0 rfl) rfl
theorem q1506 : (Jvm.Cond.privateMethod ({ cls := "MacroGlassModel", name := "checkRule", desc := "(I)V" } : Jvm.MethodName)) ∈ lw_tbl := lw_at lw_m7 1 rfl
theorem q1507 : (Jvm.Cond.instanceMethod ({ cls := "MacroGlassModel", name := "checkRule", desc := "(I)V" } : Jvm.MethodName)) ∈ lw_all := lw_g (lw_at lw_m7 2 rfl) rfl
theorem q1508 : (Jvm.Cond.code ({ cls := "MacroGlassModel", name := "checkRule", desc := "(I)V" } : Jvm.MethodName) prog_20_method_23_code (6 : Nat) (Option.none : Option Jvm.ClassFile.FieldType)) ∈ lw_all := lw_g (lw_at lw_m7 3 rfl) rfl
theorem q1509 : (Jvm.Cond.methodLink "MacroGlassModel" (283 : Nat) ({ cls := "MacroGlassModel", name := "variable", desc := "(IJ)I" } : Jvm.MethodName)) ∈ lw_all := lw_g (lw_at lw_m7 4 rfl) rfl
theorem q1510 : (Jvm.Cond.privateMethod ({ cls := "MacroGlassModel", name := "variable", desc := "(IJ)I" } : Jvm.MethodName)) ∈ lw_tbl := lw_at lw_m7 5 rfl
theorem q1511 : (Jvm.Cond.instanceMethod ({ cls := "MacroGlassModel", name := "variable", desc := "(IJ)I" } : Jvm.MethodName)) ∈ lw_all := lw_g (lw_at lw_m7 6 rfl) rfl
theorem q1512 : (Jvm.Cond.code ({ cls := "MacroGlassModel", name := "variable", desc := "(IJ)I" } : Jvm.MethodName) prog_20_method_22_code (5 : Nat) (Option.some Jvm.ClassFile.FieldType.int)) ∈ lw_all := lw_g (lw_at lw_m7 7 rfl) rfl
theorem q1513 : (Jvm.Cond.methodLink "MacroGlassModel" (286 : Nat) ({ cls := "MacroGlassModel", name := "blame", desc := "(II)V" } : Jvm.MethodName)) ∈ lw_all := lw_g (lw_at lw_m7 8 rfl) rfl
theorem q1514 : (Jvm.Cond.privateMethod ({ cls := "MacroGlassModel", name := "blame", desc := "(II)V" } : Jvm.MethodName)) ∈ lw_tbl := lw_at lw_m7 9 rfl
theorem q1515 : (Jvm.Cond.instanceMethod ({ cls := "MacroGlassModel", name := "blame", desc := "(II)V" } : Jvm.MethodName)) ∈ lw_all := lw_g (lw_at lw_m7 10 rfl) rfl
theorem q1516 : (Jvm.Cond.code ({ cls := "MacroGlassModel", name := "blame", desc := "(II)V" } : Jvm.MethodName) prog_20_method_21_code (3 : Nat) (Option.none : Option Jvm.ClassFile.FieldType)) ∈ lw_all := lw_g (lw_at lw_m7 11 rfl) rfl
theorem q1517 : (Jvm.Cond.methodLink "MacroGlassModel" (318 : Nat) ({ cls := "MacroGlassModel", name := "judged", desc := "(IZJZ)I" } : Jvm.MethodName)) ∈ lw_all := lw_g (lw_at lw_m7 12 rfl) rfl
theorem q1518 : (Jvm.Cond.static ({ cls := "MacroGlassModel", name := "judged", desc := "(IZJZ)I" } : Jvm.MethodName)) ∈ lw_all := lw_g (lw_at lw_m7 13 rfl) rfl
theorem q1519 : (Jvm.Cond.code ({ cls := "MacroGlassModel", name := "judged", desc := "(IZJZ)I" } : Jvm.MethodName) prog_20_method_26_code (5 : Nat) (Option.some Jvm.ClassFile.FieldType.int)) ∈ lw_all := lw_g (lw_at lw_m7 14 rfl) rfl
theorem q1520 : (Jvm.Cond.methodLink "MacroGlassModel" (322 : Nat) ({ cls := "MacroGlassModel", name := "settle", desc := "()V" } : Jvm.MethodName)) ∈ lw_all := lw_g (lw_at lw_m7 15 rfl) rfl
theorem q1521 : (Jvm.Cond.privateMethod ({ cls := "MacroGlassModel", name := "settle", desc := "()V" } : Jvm.MethodName)) ∈ lw_tbl := lw_at lw_m7 16 rfl
theorem q1522 : (Jvm.Cond.instanceMethod ({ cls := "MacroGlassModel", name := "settle", desc := "()V" } : Jvm.MethodName)) ∈ lw_all := lw_g (lw_at lw_m7 17 rfl) rfl
theorem q1523 : (Jvm.Cond.code ({ cls := "MacroGlassModel", name := "settle", desc := "()V" } : Jvm.MethodName) prog_20_method_25_code (3 : Nat) (Option.none : Option Jvm.ClassFile.FieldType)) ∈ lw_all := lw_g (lw_at lw_m7 18 rfl) rfl
theorem q1525 : (Jvm.Cond.instanceMethod ({ cls := "MacroGlassModel", name := "fault", desc := "()I" } : Jvm.MethodName)) ∈ lw_all := lw_g (lw_at lw_m7 20 rfl) rfl
theorem q1526 : (Jvm.Cond.selects "MacroGlassModel" ({ cls := "MacroGlassModel", name := "fault", desc := "()I" } : Jvm.MethodName) ({ cls := "MacroGlassModel", name := "fault", desc := "()I" } : Jvm.MethodName)) ∈ lw_all := lw_g (lw_at lw_m7 21 rfl) rfl
theorem q1527 : (Jvm.Cond.code ({ cls := "MacroGlassModel", name := "fault", desc := "()I" } : Jvm.MethodName) prog_20_method_28_code (1 : Nat) (Option.some Jvm.ClassFile.FieldType.int)) ∈ lw_all := lw_g (lw_at lw_m7 22 rfl) rfl
theorem q1529 : (Jvm.Cond.instanceMethod ({ cls := "MacroGlassModel", name := "item", desc := "(II)I" } : Jvm.MethodName)) ∈ lw_all := lw_g (lw_at lw_m7 24 rfl) rfl
theorem q1530 : (Jvm.Cond.selects "MacroGlassModel" ({ cls := "MacroGlassModel", name := "item", desc := "(II)I" } : Jvm.MethodName) ({ cls := "MacroGlassModel", name := "item", desc := "(II)I" } : Jvm.MethodName)) ∈ lw_all := lw_g (lw_at lw_m7 25 rfl) rfl
theorem q1531 : (Jvm.Cond.code ({ cls := "MacroGlassModel", name := "item", desc := "(II)I" } : Jvm.MethodName) prog_20_method_41_code (3 : Nat) (Option.some Jvm.ClassFile.FieldType.int)) ∈ lw_all := lw_g (lw_at lw_m7 26 rfl) rfl
theorem q1532 : (Jvm.Cond.methodLink "MacroGlassModel" (374 : Nat) ({ cls := "MacroGlassModel", name := "isItem", desc := "(I)Z" } : Jvm.MethodName)) ∈ lw_all := lw_g (lw_at lw_m7 27 rfl) rfl
theorem q1533 : (Jvm.Cond.privateMethod ({ cls := "MacroGlassModel", name := "isItem", desc := "(I)Z" } : Jvm.MethodName)) ∈ lw_tbl := lw_at lw_m7 28 rfl
theorem q1534 : (Jvm.Cond.instanceMethod ({ cls := "MacroGlassModel", name := "isItem", desc := "(I)Z" } : Jvm.MethodName)) ∈ lw_all := lw_g (lw_at lw_m7 29 rfl) rfl
theorem q1535 : (Jvm.Cond.code ({ cls := "MacroGlassModel", name := "isItem", desc := "(I)Z" } : Jvm.MethodName) prog_20_method_29_code (2 : Nat) (Option.some Jvm.ClassFile.FieldType.boolean)) ∈ lw_all := lw_g (lw_at lw_m7 30 rfl) rfl
theorem q1536 : (Jvm.Cond.methodLink "MacroGlassModel" (338 : Nat) ({ cls := "MacroGlassModel", name := "in", desc := "(JJJ)Z" } : Jvm.MethodName)) ∈ lw_all := lw_g (lw_at lw_m7 31 rfl) rfl
theorem q1537 : (Jvm.Cond.static ({ cls := "MacroGlassModel", name := "in", desc := "(JJJ)Z" } : Jvm.MethodName)) ∈ lw_all := lw_g (lw_at lw_m7 32 rfl) rfl
theorem q1538 : (Jvm.Cond.code ({ cls := "MacroGlassModel", name := "in", desc := "(JJJ)Z" } : Jvm.MethodName) prog_20_method_3_code (6 : Nat) (Option.some Jvm.ClassFile.FieldType.boolean)) ∈ lw_all := lw_g (lw_at lw_m7 33 rfl) rfl
theorem q1539 : (Jvm.Cond.methodLink "MacroGlassModel" (355 : Nat) ({ cls := "MacroGlassModel", name := "readsAs", desc := "(I)I" } : Jvm.MethodName)) ∈ lw_all := lw_g (lw_at lw_m7 34 rfl) rfl
theorem q1540 : (Jvm.Cond.privateMethod ({ cls := "MacroGlassModel", name := "readsAs", desc := "(I)I" } : Jvm.MethodName)) ∈ lw_tbl := lw_at lw_m7 35 rfl
theorem q1541 : (Jvm.Cond.instanceMethod ({ cls := "MacroGlassModel", name := "readsAs", desc := "(I)I" } : Jvm.MethodName)) ∈ lw_all := lw_g (lw_at lw_m7 36 rfl) rfl
theorem q1542 : (Jvm.Cond.code ({ cls := "MacroGlassModel", name := "readsAs", desc := "(I)I" } : Jvm.MethodName) prog_20_method_33_code (5 : Nat) (Option.some Jvm.ClassFile.FieldType.int)) ∈ lw_all := lw_g (lw_at lw_m7 37 rfl) rfl
theorem q1543 : (Jvm.Cond.methodLink "MacroGlassModel" (342 : Nat) ({ cls := "MacroGlassModel", name := "isBinding", desc := "(I)Z" } : Jvm.MethodName)) ∈ lw_all := lw_g (lw_at lw_m7 38 rfl) rfl
theorem q1544 : (Jvm.Cond.privateMethod ({ cls := "MacroGlassModel", name := "isBinding", desc := "(I)Z" } : Jvm.MethodName)) ∈ lw_tbl := lw_at lw_m7 39 rfl
theorem q1545 : (Jvm.Cond.instanceMethod ({ cls := "MacroGlassModel", name := "isBinding", desc := "(I)Z" } : Jvm.MethodName)) ∈ lw_all := lw_g (lw_at lw_m7 40 rfl) rfl
theorem q1546 : (Jvm.Cond.code ({ cls := "MacroGlassModel", name := "isBinding", desc := "(I)Z" } : Jvm.MethodName) prog_20_method_32_code (2 : Nat) (Option.some Jvm.ClassFile.FieldType.boolean)) ∈ lw_all := lw_g (lw_at lw_m7 41 rfl) rfl
theorem q1547 : (Jvm.Cond.methodLink "MacroGlassModel" (345 : Nat) ({ cls := "MacroGlassModel", name := "binderOf", desc := "(I)I" } : Jvm.MethodName)) ∈ lw_all := lw_g (lw_at lw_m7 42 rfl) rfl
theorem q1548 : (Jvm.Cond.privateMethod ({ cls := "MacroGlassModel", name := "binderOf", desc := "(I)I" } : Jvm.MethodName)) ∈ lw_tbl := lw_at lw_m7 43 rfl
theorem q1549 : (Jvm.Cond.instanceMethod ({ cls := "MacroGlassModel", name := "binderOf", desc := "(I)I" } : Jvm.MethodName)) ∈ lw_all := lw_g (lw_at lw_m7 44 rfl) rfl
theorem q1550 : (Jvm.Cond.code ({ cls := "MacroGlassModel", name := "binderOf", desc := "(I)I" } : Jvm.MethodName) prog_20_method_31_code (2 : Nat) (Option.some Jvm.ClassFile.FieldType.int)) ∈ lw_all := lw_g (lw_at lw_m7 45 rfl) rfl
theorem q1551 : (Jvm.Cond.methodLink "MacroGlassModel" (348 : Nat) ({ cls := "MacroGlassModel", name := "lastOf", desc := "(I)I" } : Jvm.MethodName)) ∈ lw_all := lw_g (lw_at lw_m7 46 rfl) rfl
theorem q1552 : (Jvm.Cond.privateMethod ({ cls := "MacroGlassModel", name := "lastOf", desc := "(I)I" } : Jvm.MethodName)) ∈ lw_tbl := lw_at lw_m7 47 rfl
theorem q1553 : (Jvm.Cond.instanceMethod ({ cls := "MacroGlassModel", name := "lastOf", desc := "(I)I" } : Jvm.MethodName)) ∈ lw_all := lw_g (lw_at lw_m7 48 rfl) rfl
theorem q1554 : (Jvm.Cond.code ({ cls := "MacroGlassModel", name := "lastOf", desc := "(I)I" } : Jvm.MethodName) prog_20_method_30_code (3 : Nat) (Option.some Jvm.ClassFile.FieldType.int)) ∈ lw_all := lw_g (lw_at lw_m7 49 rfl) rfl
theorem q1556 : (Jvm.Cond.instanceMethod ({ cls := "MacroGlassModel", name := "letter", desc := "(II)I" } : Jvm.MethodName)) ∈ lw_all := lw_g (lw_at lw_m7 51 rfl) rfl
theorem q1557 : (Jvm.Cond.selects "MacroGlassModel" ({ cls := "MacroGlassModel", name := "letter", desc := "(II)I" } : Jvm.MethodName) ({ cls := "MacroGlassModel", name := "letter", desc := "(II)I" } : Jvm.MethodName)) ∈ lw_all := lw_g (lw_at lw_m7 52 rfl) rfl
theorem q1558 : (Jvm.Cond.code ({ cls := "MacroGlassModel", name := "letter", desc := "(II)I" } : Jvm.MethodName) prog_20_method_42_code (4 : Nat) (Option.some Jvm.ClassFile.FieldType.int)) ∈ lw_all := lw_g (lw_at lw_m7 53 rfl) rfl
theorem q1559 : (Jvm.Cond.constantLong "MacroGlassModel" (377 : Nat) (5 : Int64)) ∈ lw_all := lw_g (lw_at lw_m7 54 rfl) rfl
theorem q1561 : (Jvm.Cond.instanceMethod ({ cls := "MacroGlassModel", name := "call", desc := "(I)I" } : Jvm.MethodName)) ∈ lw_all := lw_g (lw_at lw_m7 56 rfl) rfl
theorem q1562 : (Jvm.Cond.selects "MacroGlassModel" ({ cls := "MacroGlassModel", name := "call", desc := "(I)I" } : Jvm.MethodName) ({ cls := "MacroGlassModel", name := "call", desc := "(I)I" } : Jvm.MethodName)) ∈ lw_all := lw_g (lw_at lw_m7 57 rfl) rfl
theorem q1563 : (Jvm.Cond.code ({ cls := "MacroGlassModel", name := "call", desc := "(I)I" } : Jvm.MethodName) prog_20_method_43_code (2 : Nat) (Option.some Jvm.ClassFile.FieldType.int)) ∈ lw_all := lw_g (lw_at lw_m7 58 rfl) rfl
theorem q1564 : (Jvm.Cond.methodLink "MacroGlassModel" (379 : Nat) ({ cls := "MacroGlassModel", name := "isReady", desc := "(I)Z" } : Jvm.MethodName)) ∈ lw_all := lw_g (lw_at lw_m7 59 rfl) rfl
theorem q1565 : (Jvm.Cond.privateMethod ({ cls := "MacroGlassModel", name := "isReady", desc := "(I)Z" } : Jvm.MethodName)) ∈ lw_tbl := lw_at lw_m7 60 rfl
theorem q1566 : (Jvm.Cond.instanceMethod ({ cls := "MacroGlassModel", name := "isReady", desc := "(I)Z" } : Jvm.MethodName)) ∈ lw_all := lw_g (lw_at lw_m7 61 rfl) rfl
theorem q1567 : (Jvm.Cond.code ({ cls := "MacroGlassModel", name := "isReady", desc := "(I)Z" } : Jvm.MethodName) prog_20_method_40_code (3 : Nat) (Option.some Jvm.ClassFile.FieldType.boolean)) ∈ lw_all := lw_g (lw_at lw_m7 62 rfl) rfl
theorem q1568 : (Jvm.Cond.methodLink "MacroGlassModel" (368 : Nat) ({ cls := "MacroGlassModel", name := "isCall", desc := "(I)Z" } : Jvm.MethodName)) ∈ lw_all := lw_g (lw_at lw_m7 63 rfl) rfl
theorem q1569 : (Jvm.Cond.privateMethod ({ cls := "MacroGlassModel", name := "isCall", desc := "(I)Z" } : Jvm.MethodName)) ∈ lw_tbl := lw_at lw_m7 64 rfl
theorem q1570 : (Jvm.Cond.instanceMethod ({ cls := "MacroGlassModel", name := "isCall", desc := "(I)Z" } : Jvm.MethodName)) ∈ lw_all := lw_g (lw_at lw_m7 65 rfl) rfl
theorem q1571 : (Jvm.Cond.code ({ cls := "MacroGlassModel", name := "isCall", desc := "(I)Z" } : Jvm.MethodName) prog_20_method_35_code (2 : Nat) (Option.some Jvm.ClassFile.FieldType.boolean)) ∈ lw_all := lw_g (lw_at lw_m7 66 rfl) rfl
theorem q1572 : (Jvm.Cond.methodLink "MacroGlassModel" (351 : Nat) ({ cls := "MacroGlassModel", name := "isWord", desc := "(J)Z" } : Jvm.MethodName)) ∈ lw_all := lw_g (lw_at lw_m7 67 rfl) rfl
theorem q1573 : (Jvm.Cond.privateMethod ({ cls := "MacroGlassModel", name := "isWord", desc := "(J)Z" } : Jvm.MethodName)) ∈ lw_tbl := lw_at lw_m7 68 rfl
theorem q1574 : (Jvm.Cond.instanceMethod ({ cls := "MacroGlassModel", name := "isWord", desc := "(J)Z" } : Jvm.MethodName)) ∈ lw_all := lw_g (lw_at lw_m7 69 rfl) rfl
theorem q1575 : (Jvm.Cond.code ({ cls := "MacroGlassModel", name := "isWord", desc := "(J)Z" } : Jvm.MethodName) prog_20_method_34_code (5 : Nat) (Option.some Jvm.ClassFile.FieldType.boolean)) ∈ lw_all := lw_g (lw_at lw_m7 70 rfl) rfl
theorem q1576 : (Jvm.Cond.methodLink "MacroGlassModel" (371 : Nat) ({ cls := "MacroGlassModel", name := "ruleOf", desc := "(I)I" } : Jvm.MethodName)) ∈ lw_all := lw_g (lw_at lw_m7 71 rfl) rfl
theorem q1577 : (Jvm.Cond.privateMethod ({ cls := "MacroGlassModel", name := "ruleOf", desc := "(I)I" } : Jvm.MethodName)) ∈ lw_tbl := lw_at lw_m7 72 rfl
theorem q1578 : (Jvm.Cond.instanceMethod ({ cls := "MacroGlassModel", name := "ruleOf", desc := "(I)I" } : Jvm.MethodName)) ∈ lw_all := lw_g (lw_at lw_m7 73 rfl) rfl
theorem q1579 : (Jvm.Cond.code ({ cls := "MacroGlassModel", name := "ruleOf", desc := "(I)I" } : Jvm.MethodName) prog_20_method_39_code (3 : Nat) (Option.some Jvm.ClassFile.FieldType.int)) ∈ lw_all := lw_g (lw_at lw_m7 74 rfl) rfl
theorem q1580 : (Jvm.Cond.methodLink "MacroGlassModel" (365 : Nat) ({ cls := "MacroGlassModel", name := "fits", desc := "(II)Z" } : Jvm.MethodName)) ∈ lw_all := lw_g (lw_at lw_m7 75 rfl) rfl
theorem q1581 : (Jvm.Cond.privateMethod ({ cls := "MacroGlassModel", name := "fits", desc := "(II)Z" } : Jvm.MethodName)) ∈ lw_tbl := lw_at lw_m7 76 rfl
theorem q1582 : (Jvm.Cond.instanceMethod ({ cls := "MacroGlassModel", name := "fits", desc := "(II)Z" } : Jvm.MethodName)) ∈ lw_all := lw_g (lw_at lw_m7 77 rfl) rfl
theorem q1583 : (Jvm.Cond.code ({ cls := "MacroGlassModel", name := "fits", desc := "(II)Z" } : Jvm.MethodName) prog_20_method_36_code (9 : Nat) (Option.some Jvm.ClassFile.FieldType.boolean)) ∈ lw_all := lw_g (lw_at lw_m7 78 rfl) rfl
theorem q1584 : (Jvm.Cond.methodLink "MacroGlassModel" (358 : Nat) ({ cls := "MacroGlassModel", name := "endsInRest", desc := "(I)Z" } : Jvm.MethodName)) ∈ lw_all := lw_g (lw_at lw_m7 79 rfl) rfl
theorem q1585 : (Jvm.Cond.privateMethod ({ cls := "MacroGlassModel", name := "endsInRest", desc := "(I)Z" } : Jvm.MethodName)) ∈ lw_tbl := lw_at lw_m7 80 rfl
theorem q1586 : (Jvm.Cond.instanceMethod ({ cls := "MacroGlassModel", name := "endsInRest", desc := "(I)Z" } : Jvm.MethodName)) ∈ lw_all := lw_g (lw_at lw_m7 81 rfl) rfl
theorem q1587 : (Jvm.Cond.code ({ cls := "MacroGlassModel", name := "endsInRest", desc := "(I)Z" } : Jvm.MethodName) prog_20_method_37_code (3 : Nat) (Option.some Jvm.ClassFile.FieldType.boolean)) ∈ lw_all := lw_g (lw_at lw_m7 82 rfl) rfl
theorem q1588 : (Jvm.Cond.methodLink "MacroGlassModel" (361 : Nat) ({ cls := "MacroGlassModel", name := "fitsOne", desc := "(II)Z" } : Jvm.MethodName)) ∈ lw_all := lw_g (lw_at lw_m7 83 rfl) rfl
theorem q1589 : (Jvm.Cond.privateMethod ({ cls := "MacroGlassModel", name := "fitsOne", desc := "(II)Z" } : Jvm.MethodName)) ∈ lw_tbl := lw_at lw_m7 84 rfl
theorem q1590 : (Jvm.Cond.instanceMethod ({ cls := "MacroGlassModel", name := "fitsOne", desc := "(II)Z" } : Jvm.MethodName)) ∈ lw_all := lw_g (lw_at lw_m7 85 rfl) rfl
theorem q1591 : (Jvm.Cond.code ({ cls := "MacroGlassModel", name := "fitsOne", desc := "(II)Z" } : Jvm.MethodName) prog_20_method_38_code (4 : Nat) (Option.some Jvm.ClassFile.FieldType.boolean)) ∈ lw_all := lw_g (lw_at lw_m7 86 rfl) rfl
theorem q1593 : (Jvm.Cond.instanceMethod ({ cls := "MacroGlassModel", name := "ready", desc := "(I)I" } : Jvm.MethodName)) ∈ lw_all := lw_g (lw_at lw_m7 88 rfl) rfl
theorem q1594 : (Jvm.Cond.selects "MacroGlassModel" ({ cls := "MacroGlassModel", name := "ready", desc := "(I)I" } : Jvm.MethodName) ({ cls := "MacroGlassModel", name := "ready", desc := "(I)I" } : Jvm.MethodName)) ∈ lw_all := lw_g (lw_at lw_m7 89 rfl) rfl
theorem q1595 : (Jvm.Cond.code ({ cls := "MacroGlassModel", name := "ready", desc := "(I)I" } : Jvm.MethodName) prog_20_method_45_code (2 : Nat) (Option.some Jvm.ClassFile.FieldType.int)) ∈ lw_all := lw_g (lw_at lw_m7 90 rfl) rfl
theorem q1596 : (Jvm.Cond.methodLink "MacroGlassModel" (382 : Nat) ({ cls := "MacroGlassModel", name := "readyAt", desc := "(I)I" } : Jvm.MethodName)) ∈ lw_all := lw_g (lw_at lw_m7 91 rfl) rfl
theorem q1597 : (Jvm.Cond.privateMethod ({ cls := "MacroGlassModel", name := "readyAt", desc := "(I)I" } : Jvm.MethodName)) ∈ lw_tbl := lw_at lw_m7 92 rfl
theorem q1598 : (Jvm.Cond.instanceMethod ({ cls := "MacroGlassModel", name := "readyAt", desc := "(I)I" } : Jvm.MethodName)) ∈ lw_all := lw_g (lw_at lw_m7 93 rfl) rfl
theorem q1599 : (Jvm.Cond.code ({ cls := "MacroGlassModel", name := "readyAt", desc := "(I)I" } : Jvm.MethodName) prog_20_method_44_code (4 : Nat) (Option.some Jvm.ClassFile.FieldType.int)) ∈ lw_all := lw_g (lw_at lw_m7 94 rfl) rfl
theorem q1601 : (Jvm.Cond.instanceMethod ({ cls := "MacroGlassModel", name := "unfold", desc := "(I)I" } : Jvm.MethodName)) ∈ lw_all := lw_g (lw_at lw_m7 96 rfl) rfl
theorem q1602 : (Jvm.Cond.selects "MacroGlassModel" ({ cls := "MacroGlassModel", name := "unfold", desc := "(I)I" } : Jvm.MethodName) ({ cls := "MacroGlassModel", name := "unfold", desc := "(I)I" } : Jvm.MethodName)) ∈ lw_all := lw_g (lw_at lw_m7 97 rfl) rfl
theorem q1603 : (Jvm.Cond.code ({ cls := "MacroGlassModel", name := "unfold", desc := "(I)I" } : Jvm.MethodName) prog_20_method_55_code (2 : Nat) (Option.some Jvm.ClassFile.FieldType.int)) ∈ lw_all := lw_g (lw_at lw_m7 98 rfl) rfl
theorem q1604 : (Jvm.Cond.methodLink "MacroGlassModel" (417 : Nat) ({ cls := "MacroGlassModel", name := "step", desc := "(I)I" } : Jvm.MethodName)) ∈ lw_all := lw_g (lw_at lw_m7 99 rfl) rfl
theorem q1605 : (Jvm.Cond.privateMethod ({ cls := "MacroGlassModel", name := "step", desc := "(I)I" } : Jvm.MethodName)) ∈ lw_tbl := lw_at lw_m7 100 rfl
theorem q1606 : (Jvm.Cond.instanceMethod ({ cls := "MacroGlassModel", name := "step", desc := "(I)I" } : Jvm.MethodName)) ∈ lw_all := lw_g (lw_at lw_m7 101 rfl) rfl
theorem q1607 : (Jvm.Cond.code ({ cls := "MacroGlassModel", name := "step", desc := "(I)I" } : Jvm.MethodName) prog_20_method_54_code (3 : Nat) (Option.some Jvm.ClassFile.FieldType.int)) ∈ lw_all := lw_g (lw_at lw_m7 102 rfl) rfl
theorem q1608 : (Jvm.Cond.methodLink "MacroGlassModel" (405 : Nat) ({ cls := "MacroGlassModel", name := "build", desc := "(II)V" } : Jvm.MethodName)) ∈ lw_all := lw_g (lw_at lw_m7 103 rfl) rfl
theorem q1609 : (Jvm.Cond.privateMethod ({ cls := "MacroGlassModel", name := "build", desc := "(II)V" } : Jvm.MethodName)) ∈ lw_tbl := lw_at lw_m7 104 rfl
theorem q1610 : (Jvm.Cond.instanceMethod ({ cls := "MacroGlassModel", name := "build", desc := "(II)V" } : Jvm.MethodName)) ∈ lw_all := lw_g (lw_at lw_m7 105 rfl) rfl
theorem q1611 : (Jvm.Cond.code ({ cls := "MacroGlassModel", name := "build", desc := "(II)V" } : Jvm.MethodName) prog_20_method_49_code (11 : Nat) (Option.none : Option Jvm.ClassFile.FieldType)) ∈ lw_all := lw_g (lw_at lw_m7 106 rfl) rfl
theorem q1612 : (Jvm.Cond.methodLink "MacroGlassModel" (392 : Nat) ({ cls := "MacroGlassModel", name := "pVariable", desc := "(IJ)I" } : Jvm.MethodName)) ∈ lw_all := lw_g (lw_at lw_m7 107 rfl) rfl
theorem q1613 : (Jvm.Cond.privateMethod ({ cls := "MacroGlassModel", name := "pVariable", desc := "(IJ)I" } : Jvm.MethodName)) ∈ lw_tbl := lw_at lw_m7 108 rfl
theorem q1614 : (Jvm.Cond.instanceMethod ({ cls := "MacroGlassModel", name := "pVariable", desc := "(IJ)I" } : Jvm.MethodName)) ∈ lw_all := lw_g (lw_at lw_m7 109 rfl) rfl
theorem q1615 : (Jvm.Cond.code ({ cls := "MacroGlassModel", name := "pVariable", desc := "(IJ)I" } : Jvm.MethodName) prog_20_method_50_code (5 : Nat) (Option.some Jvm.ClassFile.FieldType.int)) ∈ lw_all := lw_g (lw_at lw_m7 110 rfl) rfl
theorem q1616 : (Jvm.Cond.methodLink "MacroGlassModel" (388 : Nat) ({ cls := "MacroGlassModel", name := "lay", desc := "(IJIIIII)V" } : Jvm.MethodName)) ∈ lw_all := lw_g (lw_at lw_m7 111 rfl) rfl
theorem q1617 : (Jvm.Cond.privateMethod ({ cls := "MacroGlassModel", name := "lay", desc := "(IJIIIII)V" } : Jvm.MethodName)) ∈ lw_tbl := lw_at lw_m7 112 rfl
theorem q1618 : (Jvm.Cond.instanceMethod ({ cls := "MacroGlassModel", name := "lay", desc := "(IJIIIII)V" } : Jvm.MethodName)) ∈ lw_all := lw_g (lw_at lw_m7 113 rfl) rfl
theorem q1619 : (Jvm.Cond.code ({ cls := "MacroGlassModel", name := "lay", desc := "(IJIIIII)V" } : Jvm.MethodName) prog_20_method_46_code (9 : Nat) (Option.none : Option Jvm.ClassFile.FieldType)) ∈ lw_all := lw_g (lw_at lw_m7 114 rfl) rfl
theorem q1620 : (Jvm.Cond.methodLink "MacroGlassModel" (395 : Nat) ({ cls := "MacroGlassModel", name := "layCopies", desc := "(II)I" } : Jvm.MethodName)) ∈ lw_all := lw_g (lw_at lw_m7 115 rfl) rfl
theorem q1621 : (Jvm.Cond.privateMethod ({ cls := "MacroGlassModel", name := "layCopies", desc := "(II)I" } : Jvm.MethodName)) ∈ lw_tbl := lw_at lw_m7 116 rfl
theorem q1622 : (Jvm.Cond.instanceMethod ({ cls := "MacroGlassModel", name := "layCopies", desc := "(II)I" } : Jvm.MethodName)) ∈ lw_all := lw_g (lw_at lw_m7 117 rfl) rfl
theorem q1623 : (Jvm.Cond.code ({ cls := "MacroGlassModel", name := "layCopies", desc := "(II)I" } : Jvm.MethodName) prog_20_method_47_code (6 : Nat) (Option.some Jvm.ClassFile.FieldType.int)) ∈ lw_all := lw_g (lw_at lw_m7 118 rfl) rfl
theorem q1624 : (Jvm.Cond.methodLink "MacroGlassModel" (399 : Nat) ({ cls := "MacroGlassModel", name := "endList", desc := "(I)V" } : Jvm.MethodName)) ∈ lw_all := lw_g (lw_at lw_m7 119 rfl) rfl
theorem q1625 : (Jvm.Cond.privateMethod ({ cls := "MacroGlassModel", name := "endList", desc := "(I)V" } : Jvm.MethodName)) ∈ lw_tbl := lw_at lw_m7 120 rfl
theorem q1626 : (Jvm.Cond.instanceMethod ({ cls := "MacroGlassModel", name := "endList", desc := "(I)V" } : Jvm.MethodName)) ∈ lw_all := lw_g (lw_at lw_m7 121 rfl) rfl
theorem q1627 : (Jvm.Cond.code ({ cls := "MacroGlassModel", name := "endList", desc := "(I)V" } : Jvm.MethodName) prog_20_method_48_code (4 : Nat) (Option.none : Option Jvm.ClassFile.FieldType)) ∈ lw_all := lw_g (lw_at lw_m7 122 rfl) rfl
theorem q1628 : (Jvm.Cond.methodLink "MacroGlassModel" (411 : Nat) ({ cls := "MacroGlassModel", name := "remember", desc := "(I)V" } : Jvm.MethodName)) ∈ lw_all := lw_g (lw_at lw_m7 123 rfl) rfl
theorem q1629 : (Jvm.Cond.privateMethod ({ cls := "MacroGlassModel", name := "remember", desc := "(I)V" } : Jvm.MethodName)) ∈ lw_tbl := lw_at lw_m7 124 rfl
theorem q1630 : (Jvm.Cond.instanceMethod ({ cls := "MacroGlassModel", name := "remember", desc := "(I)V" } : Jvm.MethodName)) ∈ lw_all := lw_g (lw_at lw_m7 125 rfl) rfl
theorem q1631 : (Jvm.Cond.code ({ cls := "MacroGlassModel", name := "remember", desc := "(I)V" } : Jvm.MethodName) prog_20_method_51_code (3 : Nat) (Option.none : Option Jvm.ClassFile.FieldType)) ∈ lw_all := lw_g (lw_at lw_m7 126 rfl) rfl
theorem q1632 : (Jvm.Cond.methodLink "MacroGlassModel" (414 : Nat) ({ cls := "MacroGlassModel", name := "splice", desc := "(I)V" } : Jvm.MethodName)) ∈ lw_all := lw_g (lw_at lw_m7 127 rfl) rfl
theorem q1633 : (Jvm.Cond.privateMethod ({ cls := "MacroGlassModel", name := "splice", desc := "(I)V" } : Jvm.MethodName)) ∈ lw_tbl := lw_at lw_m7 128 rfl
theorem q1634 : (Jvm.Cond.instanceMethod ({ cls := "MacroGlassModel", name := "splice", desc := "(I)V" } : Jvm.MethodName)) ∈ lw_all := lw_g (lw_at lw_m7 129 rfl) rfl
theorem q1635 : (Jvm.Cond.code ({ cls := "MacroGlassModel", name := "splice", desc := "(I)V" } : Jvm.MethodName) prog_20_method_53_code (5 : Nat) (Option.none : Option Jvm.ClassFile.FieldType)) ∈ lw_all := lw_g (lw_at lw_m7 130 rfl) rfl
theorem q1636 : (Jvm.Cond.methodLink "MacroGlassModel" (402 : Nat) ({ cls := "MacroGlassModel", name := "move", desc := "(II)V" } : Jvm.MethodName)) ∈ lw_all := lw_g (lw_at lw_m7 131 rfl) rfl
theorem q1637 : (Jvm.Cond.privateMethod ({ cls := "MacroGlassModel", name := "move", desc := "(II)V" } : Jvm.MethodName)) ∈ lw_tbl := lw_at lw_m7 132 rfl
theorem q1638 : (Jvm.Cond.instanceMethod ({ cls := "MacroGlassModel", name := "move", desc := "(II)V" } : Jvm.MethodName)) ∈ lw_all := lw_g (lw_at lw_m7 133 rfl) rfl
theorem q1639 : (Jvm.Cond.code ({ cls := "MacroGlassModel", name := "move", desc := "(II)V" } : Jvm.MethodName) prog_20_method_52_code (3 : Nat) (Option.none : Option Jvm.ClassFile.FieldType)) ∈ lw_all := lw_g (lw_at lw_m7 134 rfl) rfl
theorem q1641 : (Jvm.Cond.instanceMethod ({ cls := "MacroGlassModel", name := "run", desc := "(IZ)I" } : Jvm.MethodName)) ∈ lw_all := lw_g (lw_at lw_m7 136 rfl) rfl
theorem q1642 : (Jvm.Cond.selects "MacroGlassModel" ({ cls := "MacroGlassModel", name := "run", desc := "(IZ)I" } : Jvm.MethodName) ({ cls := "MacroGlassModel", name := "run", desc := "(IZ)I" } : Jvm.MethodName)) ∈ lw_all := lw_g (lw_at lw_m7 137 rfl) rfl
theorem q1643 : (Jvm.Cond.code ({ cls := "MacroGlassModel", name := "run", desc := "(IZ)I" } : Jvm.MethodName) prog_20_method_57_code (6 : Nat) (Option.some Jvm.ClassFile.FieldType.int)) ∈ lw_all := lw_g (lw_at lw_m7 138 rfl) rfl
theorem q1644 : (Jvm.Cond.constantLong "MacroGlassModel" (420 : Nat) (300 : Int64)) ∈ lw_all := lw_g (lw_at lw_m7 139 rfl) rfl
theorem q1645 : (Jvm.Cond.methodLink "MacroGlassModel" (422 : Nat) ({ cls := "MacroGlassModel", name := "lastReady", desc := "()I" } : Jvm.MethodName)) ∈ lw_all := lw_g (lw_at lw_m7 140 rfl) rfl
theorem q1646 : (Jvm.Cond.privateMethod ({ cls := "MacroGlassModel", name := "lastReady", desc := "()I" } : Jvm.MethodName)) ∈ lw_tbl := lw_at lw_m7 141 rfl
theorem q1647 : (Jvm.Cond.instanceMethod ({ cls := "MacroGlassModel", name := "lastReady", desc := "()I" } : Jvm.MethodName)) ∈ lw_all := lw_g (lw_at lw_m7 142 rfl) rfl
theorem q1648 : (Jvm.Cond.code ({ cls := "MacroGlassModel", name := "lastReady", desc := "()I" } : Jvm.MethodName) prog_20_method_56_code (3 : Nat) (Option.some Jvm.ClassFile.FieldType.int)) ∈ lw_all := lw_g (lw_at lw_m7 143 rfl) rfl
theorem q1650 : (Jvm.Cond.instanceMethod ({ cls := "MacroGlassModel", name := "back", desc := "()I" } : Jvm.MethodName)) ∈ lw_all := lw_g (lw_at lw_m7 145 rfl) rfl
theorem q1651 : (Jvm.Cond.selects "MacroGlassModel" ({ cls := "MacroGlassModel", name := "back", desc := "()I" } : Jvm.MethodName) ({ cls := "MacroGlassModel", name := "back", desc := "()I" } : Jvm.MethodName)) ∈ lw_all := lw_g (lw_at lw_m7 146 rfl) rfl
theorem q1652 : (Jvm.Cond.code ({ cls := "MacroGlassModel", name := "back", desc := "()I" } : Jvm.MethodName) prog_20_method_58_code (5 : Nat) (Option.some Jvm.ClassFile.FieldType.int)) ∈ lw_all := lw_g (lw_at lw_m7 147 rfl) rfl
theorem q1654 : (Jvm.Cond.instanceMethod ({ cls := "MacroGlassModel", name := "step", desc := "(II)I" } : Jvm.MethodName)) ∈ lw_all := lw_g (lw_at lw_m7 149 rfl) rfl
theorem q1655 : (Jvm.Cond.selects "MacroGlassModel" ({ cls := "MacroGlassModel", name := "step", desc := "(II)I" } : Jvm.MethodName) ({ cls := "MacroGlassModel", name := "step", desc := "(II)I" } : Jvm.MethodName)) ∈ lw_all := lw_g (lw_at lw_m7 150 rfl) rfl
theorem q1656 : (Jvm.Cond.code ({ cls := "MacroGlassModel", name := "step", desc := "(II)I" } : Jvm.MethodName) prog_20_method_59_code (3 : Nat) (Option.some Jvm.ClassFile.FieldType.int)) ∈ lw_all := lw_g (lw_at lw_m7 151 rfl) rfl
theorem q1658 : (Jvm.Cond.instanceMethod ({ cls := "MacroGlassModel", name := "maker", desc := "(II)I" } : Jvm.MethodName)) ∈ lw_all := lw_g (lw_at lw_m7 153 rfl) rfl
theorem q1659 : (Jvm.Cond.selects "MacroGlassModel" ({ cls := "MacroGlassModel", name := "maker", desc := "(II)I" } : Jvm.MethodName) ({ cls := "MacroGlassModel", name := "maker", desc := "(II)I" } : Jvm.MethodName)) ∈ lw_all := lw_g (lw_at lw_m7 154 rfl) rfl
theorem q1660 : (Jvm.Cond.code ({ cls := "MacroGlassModel", name := "maker", desc := "(II)I" } : Jvm.MethodName) prog_20_method_60_code (5 : Nat) (Option.some Jvm.ClassFile.FieldType.int)) ∈ lw_all := lw_g (lw_at lw_m7 155 rfl) rfl
theorem q1662 : (Jvm.Cond.instanceMethod ({ cls := "MacroGlassModel", name := "came", desc := "(I)I" } : Jvm.MethodName)) ∈ lw_all := lw_g (lw_at lw_m7 157 rfl) rfl
theorem q1663 : (Jvm.Cond.selects "MacroGlassModel" ({ cls := "MacroGlassModel", name := "came", desc := "(I)I" } : Jvm.MethodName) ({ cls := "MacroGlassModel", name := "came", desc := "(I)I" } : Jvm.MethodName)) ∈ lw_all := lw_g (lw_at lw_m7 158 rfl) rfl
theorem q1664 : (Jvm.Cond.code ({ cls := "MacroGlassModel", name := "came", desc := "(I)I" } : Jvm.MethodName) prog_20_method_61_code (4 : Nat) (Option.some Jvm.ClassFile.FieldType.int)) ∈ lw_all := lw_g (lw_at lw_m7 159 rfl) rfl
theorem q1665 : (Jvm.Cond.constantLong "MacroGlassModel" (426 : Nat) (499 : Int64)) ∈ lw_all := lw_g (lw_at lw_m7 160 rfl) rfl
theorem q1667 : (Jvm.Cond.instanceMethod ({ cls := "MacroGlassModel", name := "keep", desc := "()I" } : Jvm.MethodName)) ∈ lw_all := lw_g (lw_at lw_m7 162 rfl) rfl
theorem q1668 : (Jvm.Cond.selects "MacroGlassModel" ({ cls := "MacroGlassModel", name := "keep", desc := "()I" } : Jvm.MethodName) ({ cls := "MacroGlassModel", name := "keep", desc := "()I" } : Jvm.MethodName)) ∈ lw_all := lw_g (lw_at lw_m7 163 rfl) rfl
theorem q1669 : (Jvm.Cond.code ({ cls := "MacroGlassModel", name := "keep", desc := "()I" } : Jvm.MethodName) prog_20_method_62_code (2 : Nat) (Option.some Jvm.ClassFile.FieldType.int)) ∈ lw_all := lw_g (lw_at lw_m7 164 rfl) rfl
theorem q1671 : (Jvm.Cond.instanceMethod ({ cls := "MacroGlassModel", name := "alike", desc := "()I" } : Jvm.MethodName)) ∈ lw_all := lw_g (lw_at lw_m7 166 rfl) rfl
theorem q1672 : (Jvm.Cond.selects "MacroGlassModel" ({ cls := "MacroGlassModel", name := "alike", desc := "()I" } : Jvm.MethodName) ({ cls := "MacroGlassModel", name := "alike", desc := "()I" } : Jvm.MethodName)) ∈ lw_all := lw_g (lw_at lw_m7 167 rfl) rfl
theorem q1673 : (Jvm.Cond.code ({ cls := "MacroGlassModel", name := "alike", desc := "()I" } : Jvm.MethodName) prog_20_method_63_code (4 : Nat) (Option.some Jvm.ClassFile.FieldType.int)) ∈ lw_all := lw_g (lw_at lw_m7 168 rfl) rfl
theorem q1675 : (Jvm.Cond.instanceMethod ({ cls := "MacroGlassModel", name := "count", desc := "(I)I" } : Jvm.MethodName)) ∈ lw_all := lw_g (lw_at lw_m7 170 rfl) rfl
theorem q1676 : (Jvm.Cond.selects "MacroGlassModel" ({ cls := "MacroGlassModel", name := "count", desc := "(I)I" } : Jvm.MethodName) ({ cls := "MacroGlassModel", name := "count", desc := "(I)I" } : Jvm.MethodName)) ∈ lw_all := lw_g (lw_at lw_m7 171 rfl) rfl
theorem q1677 : (Jvm.Cond.code ({ cls := "MacroGlassModel", name := "count", desc := "(I)I" } : Jvm.MethodName) prog_20_method_64_code (5 : Nat) (Option.some Jvm.ClassFile.FieldType.int)) ∈ lw_all := lw_g (lw_at lw_m7 172 rfl) rfl
theorem q1678 : (Jvm.Cond.constantLong "MacroGlassModel" (434 : Nat) (7 : Int64)) ∈ lw_all := lw_g (lw_at lw_m7 173 rfl) rfl
theorem q1694 : (Jvm.Cond.castable "MacroGlassModel" "java/lang/Object") ∈ lw_tbl := lw_at lw_m7 189 rfl
theorem in_X1 : ∀ w ∈ wsX10, w ∈ lw_all := lw_in wsX10 [1258, 1260, 1262, 1264, 1266, 1268, 1270, 1272, 1274, 1276, 1278, 1280, 1282, 1284, 1286, 1288, 1290, 1292, 1294, 1296, 1298, 1300, 1302, 1304, 1306, 1308, 1310, 1312, 1314, 1316, 1318, 1320, 1322, 1324, 1326, 1328, 1330, 1332, 1334, 1336, 1338, 1340, 1342, 1344, 1346, 1348, 1350, 1352, 1354, 1356, 1358, 1360, 1362, 1364, 1366, 1368, 1370, 1372, 1374, 1376, 1378, 1380, 1382, 1384, 1386, 1388, 1390, 1392, 1394, 1396, 1398, 1400, 1402, 1404, 1406, 1408, 1410, 1412, 1414, 1416, 1418, 1420, 1422, 1424] (by decide +kernel) (by decide +kernel)
