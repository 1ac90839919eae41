/-! MacroGlass -/
set_option maxRecDepth 100000
def RX0 : String := "MacroGlass"
def TX0 : u_T := fun k => match k with
  | 0 => ("MacroGlass", "tape", "[B", true)
  | 1 => ("MacroGlass", "fed", "I", false)
  | 2 => ("MacroGlass", "fault", "I", false)
  | 3 => ("MacroGlass", "rules", "Ljava/util/ArrayList;", false)
  | 4 => ("MacroGlass", "term", "LMacroGlass$Item;", false)
  | 5 => ("MacroGlass", "steps", "Ljava/util/ArrayList;", true)
  | 6 => ("MacroGlass", "backs", "I", false)
  | 7 => ("MacroGlass", "made", "I", false)
  | 8 => ("MacroGlass", "row", "[LMacroGlass$Item;", true)
  | 9 => ("MacroGlass", "items", "I", false)
  | 10 => ("MacroGlass", "kept", "I", false)
  | 11 => ("MacroGlass", "keptKind", "[I", true)
  | 12 => ("MacroGlass", "keptSize", "[I", true)
  | 13 => ("MacroGlass", "keptLetters", "[J", true)
  | _ => ("MacroGlass", "keptReads", "[I", true)
def tyX0 : Nat → FieldType := fun k => match k with
  | 0 => .array .byte
  | 1 => .int
  | 2 => .int
  | 3 => .object "java/util/ArrayList"
  | 4 => .object "MacroGlass$Item"
  | 5 => .object "java/util/ArrayList"
  | 6 => .int
  | 7 => .int
  | 8 => .array (.object "MacroGlass$Item")
  | 9 => .int
  | 10 => .int
  | 11 => .array .int
  | 12 => .array .int
  | 13 => .array .long
  | _ => .array .int
abbrev wsX00 : List Cond := u_ws RX0 TX0 15
set_option maxRecDepth 100000 in
theorem nmX0 : ∀ a, a < 15 → ∀ b, b < 15 → a ≠ b → (TX0 a).2.1 ≠ (TX0 b).2.1 := by decide +kernel
set_option maxRecDepth 100000 in
theorem tyX0_ok : ∀ k, k < 15 → parseFieldDescriptor (TX0 k).2.2.1 = some (tyX0 k) := by decide +kernel
abbrev cX0_init : ByteArray := prog_1_method_3_code
def yX0_init : MethodName := ⟨RX0, "<init>", "()V"⟩
def dkwX0_init_3 : List UInt8 := [17, 1, 244, 188, 10, 181, 0, 51, 177]
abbrev dktX0_init_3 : List UInt8 := dkwX0_init_3 ++ []
def dkwX0_init_2 : List UInt8 := [181, 0, 40, 42, 17, 1, 244, 188, 10, 181, 0, 44, 42, 17, 1, 244, 188, 11, 181, 0, 47, 42]
abbrev dktX0_init_2 : List UInt8 := dkwX0_init_2 ++ dktX0_init_3
def dkwX0_init_1 : List UInt8 := [42, 17, 1, 244, 189, 0, 30, 181, 0, 32, 42, 16, 247, 181, 0, 36, 42, 17, 1, 244, 188, 10]
abbrev dktX0_init_1 : List UInt8 := dkwX0_init_1 ++ dktX0_init_2
def dkwX0_init_0 : List UInt8 := [42, 183, 0, 11, 42, 17, 1, 244, 188, 8, 181, 0, 19, 42, 187, 0, 23, 89, 183, 0, 25, 181, 0, 26]
abbrev dktX0_init_0 : List UInt8 := dkwX0_init_0 ++ dktX0_init_1
theorem dksX0_init_0 : cX0_init.data.toList.drop 0 = dktX0_init_0 := by decide +kernel
theorem dksX0_init_1 : cX0_init.data.toList.drop 24 = dktX0_init_1 := dk_seg dksX0_init_0 24 rfl rfl
theorem dksX0_init_2 : cX0_init.data.toList.drop 46 = dktX0_init_2 := dk_seg dksX0_init_1 22 rfl rfl
theorem dksX0_init_3 : cX0_init.data.toList.drop 68 = dktX0_init_3 := dk_seg dksX0_init_2 22 rfl rfl
theorem dX0_init_0 : decode cX0_init 0 = .ok (.aload_n 0, 1) := dk_42 (dk_at dksX0_init_0 0 rfl rfl)
theorem dX0_init_1 : decode cX0_init 1 = .ok (.invokespecial 11, 3) := dk_183 0 11 (dk_at dksX0_init_0 1 rfl rfl)
theorem dX0_init_4 : decode cX0_init 4 = .ok (.aload_n 0, 1) := dk_42 (dk_at dksX0_init_0 4 rfl rfl)
theorem dX0_init_5 : decode cX0_init 5 = .ok (.sipush 500, 3) := dk_17 1 244 (dk_at dksX0_init_0 5 rfl rfl)
theorem dX0_init_8 : decode cX0_init 8 = .ok (.newarray .byte, 2) := dk_188_8 (dk_at dksX0_init_0 8 rfl rfl)
theorem dX0_init_10 : decode cX0_init 10 = .ok (.putfield 19, 3) := dk_181 0 19 (dk_at dksX0_init_0 10 rfl rfl)
theorem dX0_init_13 : decode cX0_init 13 = .ok (.aload_n 0, 1) := dk_42 (dk_at dksX0_init_0 13 rfl rfl)
theorem dX0_init_14 : decode cX0_init 14 = .ok (.new 23, 3) := dk_187 0 23 (dk_at dksX0_init_0 14 rfl rfl)
theorem dX0_init_17 : decode cX0_init 17 = .ok (.dup, 1) := dk_89 (dk_at dksX0_init_0 17 rfl rfl)
theorem dX0_init_18 : decode cX0_init 18 = .ok (.invokespecial 25, 3) := dk_183 0 25 (dk_at dksX0_init_0 18 rfl rfl)
theorem dX0_init_21 : decode cX0_init 21 = .ok (.putfield 26, 3) := dk_181 0 26 (dk_at dksX0_init_0 21 rfl rfl)
theorem dX0_init_24 : decode cX0_init 24 = .ok (.aload_n 0, 1) := dk_42 (dk_at dksX0_init_1 0 rfl rfl)
theorem dX0_init_25 : decode cX0_init 25 = .ok (.sipush 500, 3) := dk_17 1 244 (dk_at dksX0_init_1 1 rfl rfl)
theorem dX0_init_28 : decode cX0_init 28 = .ok (.anewarray 30, 3) := dk_189 0 30 (dk_at dksX0_init_1 4 rfl rfl)
theorem dX0_init_31 : decode cX0_init 31 = .ok (.putfield 32, 3) := dk_181 0 32 (dk_at dksX0_init_1 7 rfl rfl)
theorem dX0_init_34 : decode cX0_init 34 = .ok (.aload_n 0, 1) := dk_42 (dk_at dksX0_init_1 10 rfl rfl)
theorem dX0_init_35 : decode cX0_init 35 = .ok (.bipush (-9), 2) := dk_16 247 (dk_at dksX0_init_1 11 rfl rfl)
theorem dX0_init_37 : decode cX0_init 37 = .ok (.putfield 36, 3) := dk_181 0 36 (dk_at dksX0_init_1 13 rfl rfl)
theorem dX0_init_40 : decode cX0_init 40 = .ok (.aload_n 0, 1) := dk_42 (dk_at dksX0_init_1 16 rfl rfl)
theorem dX0_init_41 : decode cX0_init 41 = .ok (.sipush 500, 3) := dk_17 1 244 (dk_at dksX0_init_1 17 rfl rfl)
theorem dX0_init_44 : decode cX0_init 44 = .ok (.newarray .int, 2) := dk_188_10 (dk_at dksX0_init_1 20 rfl rfl)
theorem dX0_init_46 : decode cX0_init 46 = .ok (.putfield 40, 3) := dk_181 0 40 (dk_at dksX0_init_2 0 rfl rfl)
theorem dX0_init_49 : decode cX0_init 49 = .ok (.aload_n 0, 1) := dk_42 (dk_at dksX0_init_2 3 rfl rfl)
theorem dX0_init_50 : decode cX0_init 50 = .ok (.sipush 500, 3) := dk_17 1 244 (dk_at dksX0_init_2 4 rfl rfl)
theorem dX0_init_53 : decode cX0_init 53 = .ok (.newarray .int, 2) := dk_188_10 (dk_at dksX0_init_2 7 rfl rfl)
theorem dX0_init_55 : decode cX0_init 55 = .ok (.putfield 44, 3) := dk_181 0 44 (dk_at dksX0_init_2 9 rfl rfl)
theorem dX0_init_58 : decode cX0_init 58 = .ok (.aload_n 0, 1) := dk_42 (dk_at dksX0_init_2 12 rfl rfl)
theorem dX0_init_59 : decode cX0_init 59 = .ok (.sipush 500, 3) := dk_17 1 244 (dk_at dksX0_init_2 13 rfl rfl)
theorem dX0_init_62 : decode cX0_init 62 = .ok (.newarray .long, 2) := dk_188_11 (dk_at dksX0_init_2 16 rfl rfl)
theorem dX0_init_64 : decode cX0_init 64 = .ok (.putfield 47, 3) := dk_181 0 47 (dk_at dksX0_init_2 18 rfl rfl)
theorem dX0_init_67 : decode cX0_init 67 = .ok (.aload_n 0, 1) := dk_42 (dk_at dksX0_init_2 21 rfl rfl)
theorem dX0_init_68 : decode cX0_init 68 = .ok (.sipush 500, 3) := dk_17 1 244 (dk_at dksX0_init_3 0 rfl rfl)
theorem dX0_init_71 : decode cX0_init 71 = .ok (.newarray .int, 2) := dk_188_10 (dk_at dksX0_init_3 3 rfl rfl)
theorem dX0_init_73 : decode cX0_init 73 = .ok (.putfield 51, 3) := dk_181 0 51 (dk_at dksX0_init_3 5 rfl rfl)
theorem dX0_init_76 : decode cX0_init 76 = .ok (.return_, 1) := dk_177 (dk_at dksX0_init_3 8 rfl rfl)
abbrev cX0_feed : ByteArray := prog_1_method_4_code
def yX0_feed : MethodName := ⟨RX0, "feed", "(J)I"⟩
def dkwX0_feed_3 : List UInt8 := [136, 145, 84, 132, 4, 1, 167, 255, 226, 42, 89, 180, 0, 56, 29, 96, 181, 0, 56, 42, 180, 0, 56, 172]
abbrev dktX0_feed_3 : List UInt8 := dkwX0_feed_3 ++ []
def dkwX0_feed_2 : List UInt8 := [21, 4, 29, 162, 0, 30, 42, 180, 0, 19, 42, 180, 0, 56, 21, 4, 96, 31, 16, 8, 21, 4, 104, 123]
abbrev dktX0_feed_2 : List UInt8 := dkwX0_feed_2 ++ dktX0_feed_3
def dkwX0_feed_1 : List UInt8 := [132, 3, 1, 167, 255, 232, 42, 180, 0, 56, 29, 96, 17, 1, 244, 164, 0, 6, 16, 252, 172, 3, 54, 4]
abbrev dktX0_feed_1 : List UInt8 := dkwX0_feed_1 ++ dktX0_feed_2
def dkwX0_feed_0 : List UInt8 := [3, 62, 29, 16, 8, 162, 0, 24, 31, 16, 8, 29, 104, 123, 20, 0, 54, 127, 9, 148, 153, 0, 9]
abbrev dktX0_feed_0 : List UInt8 := dkwX0_feed_0 ++ dktX0_feed_1
theorem dksX0_feed_0 : cX0_feed.data.toList.drop 0 = dktX0_feed_0 := by decide +kernel
theorem dksX0_feed_1 : cX0_feed.data.toList.drop 23 = dktX0_feed_1 := dk_seg dksX0_feed_0 23 rfl rfl
theorem dksX0_feed_2 : cX0_feed.data.toList.drop 47 = dktX0_feed_2 := dk_seg dksX0_feed_1 24 rfl rfl
theorem dksX0_feed_3 : cX0_feed.data.toList.drop 71 = dktX0_feed_3 := dk_seg dksX0_feed_2 24 rfl rfl
theorem dX0_feed_0 : decode cX0_feed 0 = .ok (.iconst 0, 1) := dk_3 (dk_at dksX0_feed_0 0 rfl rfl)
theorem dX0_feed_1 : decode cX0_feed 1 = .ok (.istore_n 3, 1) := dk_62 (dk_at dksX0_feed_0 1 rfl rfl)
theorem dX0_feed_2 : decode cX0_feed 2 = .ok (.iload_n 3, 1) := dk_29 (dk_at dksX0_feed_0 2 rfl rfl)
theorem dX0_feed_3 : decode cX0_feed 3 = .ok (.bipush 8, 2) := dk_16 8 (dk_at dksX0_feed_0 3 rfl rfl)
theorem dX0_feed_5 : decode cX0_feed 5 = .ok (.if_icmp .ge 24, 3) := dk_162 0 24 (dk_at dksX0_feed_0 5 rfl rfl)
theorem dX0_feed_8 : decode cX0_feed 8 = .ok (.lload_n 1, 1) := dk_31 (dk_at dksX0_feed_0 8 rfl rfl)
theorem dX0_feed_9 : decode cX0_feed 9 = .ok (.bipush 8, 2) := dk_16 8 (dk_at dksX0_feed_0 9 rfl rfl)
theorem dX0_feed_11 : decode cX0_feed 11 = .ok (.iload_n 3, 1) := dk_29 (dk_at dksX0_feed_0 11 rfl rfl)
theorem dX0_feed_12 : decode cX0_feed 12 = .ok (.imul, 1) := dk_104 (dk_at dksX0_feed_0 12 rfl rfl)
theorem dX0_feed_13 : decode cX0_feed 13 = .ok (.lshr, 1) := dk_123 (dk_at dksX0_feed_0 13 rfl rfl)
theorem dX0_feed_14 : decode cX0_feed 14 = .ok (.ldc2_w 54, 3) := dk_20 0 54 (dk_at dksX0_feed_0 14 rfl rfl)
theorem dX0_feed_17 : decode cX0_feed 17 = .ok (.land, 1) := dk_127 (dk_at dksX0_feed_0 17 rfl rfl)
theorem dX0_feed_18 : decode cX0_feed 18 = .ok (.lconst 0, 1) := dk_9 (dk_at dksX0_feed_0 18 rfl rfl)
theorem dX0_feed_19 : decode cX0_feed 19 = .ok (.lcmp, 1) := dk_148 (dk_at dksX0_feed_0 19 rfl rfl)
theorem dX0_feed_20 : decode cX0_feed 20 = .ok (.ifCond .eq 9, 3) := dk_153 0 9 (dk_at dksX0_feed_0 20 rfl rfl)
theorem dX0_feed_23 : decode cX0_feed 23 = .ok (.iinc 3 1, 3) := dk_132 3 1 (dk_at dksX0_feed_1 0 rfl rfl)
theorem dX0_feed_26 : decode cX0_feed 26 = .ok (.goto (-24), 3) := dk_167 255 232 (dk_at dksX0_feed_1 3 rfl rfl)
theorem dX0_feed_29 : decode cX0_feed 29 = .ok (.aload_n 0, 1) := dk_42 (dk_at dksX0_feed_1 6 rfl rfl)
theorem dX0_feed_30 : decode cX0_feed 30 = .ok (.getfield 56, 3) := dk_180 0 56 (dk_at dksX0_feed_1 7 rfl rfl)
theorem dX0_feed_33 : decode cX0_feed 33 = .ok (.iload_n 3, 1) := dk_29 (dk_at dksX0_feed_1 10 rfl rfl)
theorem dX0_feed_34 : decode cX0_feed 34 = .ok (.iadd, 1) := dk_96 (dk_at dksX0_feed_1 11 rfl rfl)
theorem dX0_feed_35 : decode cX0_feed 35 = .ok (.sipush 500, 3) := dk_17 1 244 (dk_at dksX0_feed_1 12 rfl rfl)
theorem dX0_feed_38 : decode cX0_feed 38 = .ok (.if_icmp .le 6, 3) := dk_164 0 6 (dk_at dksX0_feed_1 15 rfl rfl)
theorem dX0_feed_41 : decode cX0_feed 41 = .ok (.bipush (-4), 2) := dk_16 252 (dk_at dksX0_feed_1 18 rfl rfl)
theorem dX0_feed_43 : decode cX0_feed 43 = .ok (.ireturn, 1) := dk_172 (dk_at dksX0_feed_1 20 rfl rfl)
theorem dX0_feed_44 : decode cX0_feed 44 = .ok (.iconst 0, 1) := dk_3 (dk_at dksX0_feed_1 21 rfl rfl)
theorem dX0_feed_45 : decode cX0_feed 45 = .ok (.istore 4, 2) := dk_54 4 (dk_at dksX0_feed_1 22 rfl rfl)
theorem dX0_feed_47 : decode cX0_feed 47 = .ok (.iload 4, 2) := dk_21 4 (dk_at dksX0_feed_2 0 rfl rfl)
theorem dX0_feed_49 : decode cX0_feed 49 = .ok (.iload_n 3, 1) := dk_29 (dk_at dksX0_feed_2 2 rfl rfl)
theorem dX0_feed_50 : decode cX0_feed 50 = .ok (.if_icmp .ge 30, 3) := dk_162 0 30 (dk_at dksX0_feed_2 3 rfl rfl)
theorem dX0_feed_53 : decode cX0_feed 53 = .ok (.aload_n 0, 1) := dk_42 (dk_at dksX0_feed_2 6 rfl rfl)
theorem dX0_feed_54 : decode cX0_feed 54 = .ok (.getfield 19, 3) := dk_180 0 19 (dk_at dksX0_feed_2 7 rfl rfl)
theorem dX0_feed_57 : decode cX0_feed 57 = .ok (.aload_n 0, 1) := dk_42 (dk_at dksX0_feed_2 10 rfl rfl)
theorem dX0_feed_58 : decode cX0_feed 58 = .ok (.getfield 56, 3) := dk_180 0 56 (dk_at dksX0_feed_2 11 rfl rfl)
theorem dX0_feed_61 : decode cX0_feed 61 = .ok (.iload 4, 2) := dk_21 4 (dk_at dksX0_feed_2 14 rfl rfl)
theorem dX0_feed_63 : decode cX0_feed 63 = .ok (.iadd, 1) := dk_96 (dk_at dksX0_feed_2 16 rfl rfl)
theorem dX0_feed_64 : decode cX0_feed 64 = .ok (.lload_n 1, 1) := dk_31 (dk_at dksX0_feed_2 17 rfl rfl)
theorem dX0_feed_65 : decode cX0_feed 65 = .ok (.bipush 8, 2) := dk_16 8 (dk_at dksX0_feed_2 18 rfl rfl)
theorem dX0_feed_67 : decode cX0_feed 67 = .ok (.iload 4, 2) := dk_21 4 (dk_at dksX0_feed_2 20 rfl rfl)
theorem dX0_feed_69 : decode cX0_feed 69 = .ok (.imul, 1) := dk_104 (dk_at dksX0_feed_2 22 rfl rfl)
theorem dX0_feed_70 : decode cX0_feed 70 = .ok (.lshr, 1) := dk_123 (dk_at dksX0_feed_2 23 rfl rfl)
theorem dX0_feed_71 : decode cX0_feed 71 = .ok (.l2i, 1) := dk_136 (dk_at dksX0_feed_3 0 rfl rfl)
theorem dX0_feed_72 : decode cX0_feed 72 = .ok (.i2b, 1) := dk_145 (dk_at dksX0_feed_3 1 rfl rfl)
theorem dX0_feed_73 : decode cX0_feed 73 = .ok (.bastore, 1) := dk_84 (dk_at dksX0_feed_3 2 rfl rfl)
theorem dX0_feed_74 : decode cX0_feed 74 = .ok (.iinc 4 1, 3) := dk_132 4 1 (dk_at dksX0_feed_3 3 rfl rfl)
theorem dX0_feed_77 : decode cX0_feed 77 = .ok (.goto (-30), 3) := dk_167 255 226 (dk_at dksX0_feed_3 6 rfl rfl)
theorem dX0_feed_80 : decode cX0_feed 80 = .ok (.aload_n 0, 1) := dk_42 (dk_at dksX0_feed_3 9 rfl rfl)
theorem dX0_feed_81 : decode cX0_feed 81 = .ok (.dup, 1) := dk_89 (dk_at dksX0_feed_3 10 rfl rfl)
theorem dX0_feed_82 : decode cX0_feed 82 = .ok (.getfield 56, 3) := dk_180 0 56 (dk_at dksX0_feed_3 11 rfl rfl)
theorem dX0_feed_85 : decode cX0_feed 85 = .ok (.iload_n 3, 1) := dk_29 (dk_at dksX0_feed_3 14 rfl rfl)
theorem dX0_feed_86 : decode cX0_feed 86 = .ok (.iadd, 1) := dk_96 (dk_at dksX0_feed_3 15 rfl rfl)
theorem dX0_feed_87 : decode cX0_feed 87 = .ok (.putfield 56, 3) := dk_181 0 56 (dk_at dksX0_feed_3 16 rfl rfl)
theorem dX0_feed_90 : decode cX0_feed 90 = .ok (.aload_n 0, 1) := dk_42 (dk_at dksX0_feed_3 19 rfl rfl)
theorem dX0_feed_91 : decode cX0_feed 91 = .ok (.getfield 56, 3) := dk_180 0 56 (dk_at dksX0_feed_3 20 rfl rfl)
theorem dX0_feed_94 : decode cX0_feed 94 = .ok (.ireturn, 1) := dk_172 (dk_at dksX0_feed_3 23 rfl rfl)
abbrev cX0_read : ByteArray := prog_1_method_6_code
def yX0_read : MethodName := ⟨RX0, "read", "()I"⟩
def dkwX0_read_6 : List UInt8 := [181, 0, 116, 16, 156, 43, 180, 0, 123, 100, 172]
abbrev dktX0_read_6 : List UInt8 := dkwX0_read_6 ++ []
def dkwX0_read_5 : List UInt8 := [181, 0, 116, 42, 3, 181, 0, 56, 42, 182, 0, 119, 42, 180, 0, 67, 172, 76, 42, 43, 180, 0, 122]
abbrev dktX0_read_5 : List UInt8 := dkwX0_read_5 ++ dktX0_read_6
def dkwX0_read_4 : List UInt8 := [181, 0, 109, 42, 44, 181, 0, 59, 42, 180, 0, 26, 182, 0, 110, 42, 3, 181, 0, 113, 42, 3]
abbrev dktX0_read_4 : List UInt8 := dkwX0_read_4 ++ dktX0_read_5
def dkwX0_read_3 : List UInt8 := [159, 0, 19, 187, 0, 101, 89, 45, 180, 0, 103, 45, 180, 0, 98, 183, 0, 106, 191, 42, 43, 180, 0, 82]
abbrev dktX0_read_3 : List UInt8 := dkwX0_read_3 ++ dktX0_read_4
def dkwX0_read_2 : List UInt8 := [21, 4, 182, 0, 88, 192, 0, 92, 45, 182, 0, 94, 132, 4, 1, 167, 255, 225, 45, 180, 0, 98, 16, 247]
abbrev dktX0_read_2 : List UInt8 := dkwX0_read_2 ++ dktX0_read_3
def dkwX0_read_1 : List UInt8 := [89, 183, 0, 81, 78, 3, 54, 4, 21, 4, 43, 180, 0, 82, 182, 0, 85, 162, 0, 25, 43, 180, 0, 82]
abbrev dktX0_read_1 : List UInt8 := dkwX0_read_1 ++ dktX0_read_2
def dkwX0_read_0 : List UInt8 := [187, 0, 70, 89, 42, 180, 0, 19, 42, 180, 0, 56, 183, 0, 72, 76, 43, 182, 0, 75, 77, 187, 0, 79]
abbrev dktX0_read_0 : List UInt8 := dkwX0_read_0 ++ dktX0_read_1
theorem dksX0_read_0 : cX0_read.data.toList.drop 0 = dktX0_read_0 := by decide +kernel
theorem dksX0_read_1 : cX0_read.data.toList.drop 24 = dktX0_read_1 := dk_seg dksX0_read_0 24 rfl rfl
theorem dksX0_read_2 : cX0_read.data.toList.drop 48 = dktX0_read_2 := dk_seg dksX0_read_1 24 rfl rfl
theorem dksX0_read_3 : cX0_read.data.toList.drop 72 = dktX0_read_3 := dk_seg dksX0_read_2 24 rfl rfl
theorem dksX0_read_4 : cX0_read.data.toList.drop 96 = dktX0_read_4 := dk_seg dksX0_read_3 24 rfl rfl
theorem dksX0_read_5 : cX0_read.data.toList.drop 118 = dktX0_read_5 := dk_seg dksX0_read_4 22 rfl rfl
theorem dksX0_read_6 : cX0_read.data.toList.drop 141 = dktX0_read_6 := dk_seg dksX0_read_5 23 rfl rfl
theorem dX0_read_0 : decode cX0_read 0 = .ok (.new 70, 3) := dk_187 0 70 (dk_at dksX0_read_0 0 rfl rfl)
theorem dX0_read_3 : decode cX0_read 3 = .ok (.dup, 1) := dk_89 (dk_at dksX0_read_0 3 rfl rfl)
theorem dX0_read_4 : decode cX0_read 4 = .ok (.aload_n 0, 1) := dk_42 (dk_at dksX0_read_0 4 rfl rfl)
theorem dX0_read_5 : decode cX0_read 5 = .ok (.getfield 19, 3) := dk_180 0 19 (dk_at dksX0_read_0 5 rfl rfl)
theorem dX0_read_8 : decode cX0_read 8 = .ok (.aload_n 0, 1) := dk_42 (dk_at dksX0_read_0 8 rfl rfl)
theorem dX0_read_9 : decode cX0_read 9 = .ok (.getfield 56, 3) := dk_180 0 56 (dk_at dksX0_read_0 9 rfl rfl)
theorem dX0_read_12 : decode cX0_read 12 = .ok (.invokespecial 72, 3) := dk_183 0 72 (dk_at dksX0_read_0 12 rfl rfl)
theorem dX0_read_15 : decode cX0_read 15 = .ok (.astore_n 1, 1) := dk_76 (dk_at dksX0_read_0 15 rfl rfl)
theorem dX0_read_16 : decode cX0_read 16 = .ok (.aload_n 1, 1) := dk_43 (dk_at dksX0_read_0 16 rfl rfl)
theorem dX0_read_17 : decode cX0_read 17 = .ok (.invokevirtual 75, 3) := dk_182 0 75 (dk_at dksX0_read_0 17 rfl rfl)
theorem dX0_read_20 : decode cX0_read 20 = .ok (.astore_n 2, 1) := dk_77 (dk_at dksX0_read_0 20 rfl rfl)
theorem dX0_read_21 : decode cX0_read 21 = .ok (.new 79, 3) := dk_187 0 79 (dk_at dksX0_read_0 21 rfl rfl)
theorem dX0_read_24 : decode cX0_read 24 = .ok (.dup, 1) := dk_89 (dk_at dksX0_read_1 0 rfl rfl)
theorem dX0_read_25 : decode cX0_read 25 = .ok (.invokespecial 81, 3) := dk_183 0 81 (dk_at dksX0_read_1 1 rfl rfl)
theorem dX0_read_28 : decode cX0_read 28 = .ok (.astore_n 3, 1) := dk_78 (dk_at dksX0_read_1 4 rfl rfl)
theorem dX0_read_29 : decode cX0_read 29 = .ok (.iconst 0, 1) := dk_3 (dk_at dksX0_read_1 5 rfl rfl)
theorem dX0_read_30 : decode cX0_read 30 = .ok (.istore 4, 2) := dk_54 4 (dk_at dksX0_read_1 6 rfl rfl)
theorem dX0_read_32 : decode cX0_read 32 = .ok (.iload 4, 2) := dk_21 4 (dk_at dksX0_read_1 8 rfl rfl)
theorem dX0_read_34 : decode cX0_read 34 = .ok (.aload_n 1, 1) := dk_43 (dk_at dksX0_read_1 10 rfl rfl)
theorem dX0_read_35 : decode cX0_read 35 = .ok (.getfield 82, 3) := dk_180 0 82 (dk_at dksX0_read_1 11 rfl rfl)
theorem dX0_read_38 : decode cX0_read 38 = .ok (.invokevirtual 85, 3) := dk_182 0 85 (dk_at dksX0_read_1 14 rfl rfl)
theorem dX0_read_41 : decode cX0_read 41 = .ok (.if_icmp .ge 25, 3) := dk_162 0 25 (dk_at dksX0_read_1 17 rfl rfl)
theorem dX0_read_44 : decode cX0_read 44 = .ok (.aload_n 1, 1) := dk_43 (dk_at dksX0_read_1 20 rfl rfl)
theorem dX0_read_45 : decode cX0_read 45 = .ok (.getfield 82, 3) := dk_180 0 82 (dk_at dksX0_read_1 21 rfl rfl)
theorem dX0_read_48 : decode cX0_read 48 = .ok (.iload 4, 2) := dk_21 4 (dk_at dksX0_read_2 0 rfl rfl)
theorem dX0_read_50 : decode cX0_read 50 = .ok (.invokevirtual 88, 3) := dk_182 0 88 (dk_at dksX0_read_2 2 rfl rfl)
theorem dX0_read_53 : decode cX0_read 53 = .ok (.checkcast 92, 3) := dk_192 0 92 (dk_at dksX0_read_2 5 rfl rfl)
theorem dX0_read_56 : decode cX0_read 56 = .ok (.aload_n 3, 1) := dk_45 (dk_at dksX0_read_2 8 rfl rfl)
theorem dX0_read_57 : decode cX0_read 57 = .ok (.invokevirtual 94, 3) := dk_182 0 94 (dk_at dksX0_read_2 9 rfl rfl)
theorem dX0_read_60 : decode cX0_read 60 = .ok (.iinc 4 1, 3) := dk_132 4 1 (dk_at dksX0_read_2 12 rfl rfl)
theorem dX0_read_63 : decode cX0_read 63 = .ok (.goto (-31), 3) := dk_167 255 225 (dk_at dksX0_read_2 15 rfl rfl)
theorem dX0_read_66 : decode cX0_read 66 = .ok (.aload_n 3, 1) := dk_45 (dk_at dksX0_read_2 18 rfl rfl)
theorem dX0_read_67 : decode cX0_read 67 = .ok (.getfield 98, 3) := dk_180 0 98 (dk_at dksX0_read_2 19 rfl rfl)
theorem dX0_read_70 : decode cX0_read 70 = .ok (.bipush (-9), 2) := dk_16 247 (dk_at dksX0_read_2 22 rfl rfl)
theorem dX0_read_72 : decode cX0_read 72 = .ok (.if_icmp .eq 19, 3) := dk_159 0 19 (dk_at dksX0_read_3 0 rfl rfl)
theorem dX0_read_75 : decode cX0_read 75 = .ok (.new 101, 3) := dk_187 0 101 (dk_at dksX0_read_3 3 rfl rfl)
theorem dX0_read_78 : decode cX0_read 78 = .ok (.dup, 1) := dk_89 (dk_at dksX0_read_3 6 rfl rfl)
theorem dX0_read_79 : decode cX0_read 79 = .ok (.aload_n 3, 1) := dk_45 (dk_at dksX0_read_3 7 rfl rfl)
theorem dX0_read_80 : decode cX0_read 80 = .ok (.getfield 103, 3) := dk_180 0 103 (dk_at dksX0_read_3 8 rfl rfl)
theorem dX0_read_83 : decode cX0_read 83 = .ok (.aload_n 3, 1) := dk_45 (dk_at dksX0_read_3 11 rfl rfl)
theorem dX0_read_84 : decode cX0_read 84 = .ok (.getfield 98, 3) := dk_180 0 98 (dk_at dksX0_read_3 12 rfl rfl)
theorem dX0_read_87 : decode cX0_read 87 = .ok (.invokespecial 106, 3) := dk_183 0 106 (dk_at dksX0_read_3 15 rfl rfl)
theorem dX0_read_90 : decode cX0_read 90 = .ok (.athrow, 1) := dk_191 (dk_at dksX0_read_3 18 rfl rfl)
theorem dX0_read_91 : decode cX0_read 91 = .ok (.aload_n 0, 1) := dk_42 (dk_at dksX0_read_3 19 rfl rfl)
theorem dX0_read_92 : decode cX0_read 92 = .ok (.aload_n 1, 1) := dk_43 (dk_at dksX0_read_3 20 rfl rfl)
theorem dX0_read_93 : decode cX0_read 93 = .ok (.getfield 82, 3) := dk_180 0 82 (dk_at dksX0_read_3 21 rfl rfl)
theorem dX0_read_96 : decode cX0_read 96 = .ok (.putfield 109, 3) := dk_181 0 109 (dk_at dksX0_read_4 0 rfl rfl)
theorem dX0_read_99 : decode cX0_read 99 = .ok (.aload_n 0, 1) := dk_42 (dk_at dksX0_read_4 3 rfl rfl)
theorem dX0_read_100 : decode cX0_read 100 = .ok (.aload_n 2, 1) := dk_44 (dk_at dksX0_read_4 4 rfl rfl)
theorem dX0_read_101 : decode cX0_read 101 = .ok (.putfield 59, 3) := dk_181 0 59 (dk_at dksX0_read_4 5 rfl rfl)
theorem dX0_read_104 : decode cX0_read 104 = .ok (.aload_n 0, 1) := dk_42 (dk_at dksX0_read_4 8 rfl rfl)
theorem dX0_read_105 : decode cX0_read 105 = .ok (.getfield 26, 3) := dk_180 0 26 (dk_at dksX0_read_4 9 rfl rfl)
theorem dX0_read_108 : decode cX0_read 108 = .ok (.invokevirtual 110, 3) := dk_182 0 110 (dk_at dksX0_read_4 12 rfl rfl)
theorem dX0_read_111 : decode cX0_read 111 = .ok (.aload_n 0, 1) := dk_42 (dk_at dksX0_read_4 15 rfl rfl)
theorem dX0_read_112 : decode cX0_read 112 = .ok (.iconst 0, 1) := dk_3 (dk_at dksX0_read_4 16 rfl rfl)
theorem dX0_read_113 : decode cX0_read 113 = .ok (.putfield 113, 3) := dk_181 0 113 (dk_at dksX0_read_4 17 rfl rfl)
theorem dX0_read_116 : decode cX0_read 116 = .ok (.aload_n 0, 1) := dk_42 (dk_at dksX0_read_4 20 rfl rfl)
theorem dX0_read_117 : decode cX0_read 117 = .ok (.iconst 0, 1) := dk_3 (dk_at dksX0_read_4 21 rfl rfl)
theorem dX0_read_118 : decode cX0_read 118 = .ok (.putfield 116, 3) := dk_181 0 116 (dk_at dksX0_read_5 0 rfl rfl)
theorem dX0_read_121 : decode cX0_read 121 = .ok (.aload_n 0, 1) := dk_42 (dk_at dksX0_read_5 3 rfl rfl)
theorem dX0_read_122 : decode cX0_read 122 = .ok (.iconst 0, 1) := dk_3 (dk_at dksX0_read_5 4 rfl rfl)
theorem dX0_read_123 : decode cX0_read 123 = .ok (.putfield 56, 3) := dk_181 0 56 (dk_at dksX0_read_5 5 rfl rfl)
theorem dX0_read_126 : decode cX0_read 126 = .ok (.aload_n 0, 1) := dk_42 (dk_at dksX0_read_5 8 rfl rfl)
theorem dX0_read_127 : decode cX0_read 127 = .ok (.invokevirtual 119, 3) := dk_182 0 119 (dk_at dksX0_read_5 9 rfl rfl)
theorem dX0_read_130 : decode cX0_read 130 = .ok (.aload_n 0, 1) := dk_42 (dk_at dksX0_read_5 12 rfl rfl)
theorem dX0_read_131 : decode cX0_read 131 = .ok (.getfield 67, 3) := dk_180 0 67 (dk_at dksX0_read_5 13 rfl rfl)
theorem dX0_read_134 : decode cX0_read 134 = .ok (.ireturn, 1) := dk_172 (dk_at dksX0_read_5 16 rfl rfl)
theorem dX0_read_135 : decode cX0_read 135 = .ok (.astore_n 1, 1) := dk_76 (dk_at dksX0_read_5 17 rfl rfl)
theorem dX0_read_136 : decode cX0_read 136 = .ok (.aload_n 0, 1) := dk_42 (dk_at dksX0_read_5 18 rfl rfl)
theorem dX0_read_137 : decode cX0_read 137 = .ok (.aload_n 1, 1) := dk_43 (dk_at dksX0_read_5 19 rfl rfl)
theorem dX0_read_138 : decode cX0_read 138 = .ok (.getfield 122, 3) := dk_180 0 122 (dk_at dksX0_read_5 20 rfl rfl)
theorem dX0_read_141 : decode cX0_read 141 = .ok (.putfield 116, 3) := dk_181 0 116 (dk_at dksX0_read_6 0 rfl rfl)
theorem dX0_read_144 : decode cX0_read 144 = .ok (.bipush (-100), 2) := dk_16 156 (dk_at dksX0_read_6 3 rfl rfl)
theorem dX0_read_146 : decode cX0_read 146 = .ok (.aload_n 1, 1) := dk_43 (dk_at dksX0_read_6 5 rfl rfl)
theorem dX0_read_147 : decode cX0_read 147 = .ok (.getfield 123, 3) := dk_180 0 123 (dk_at dksX0_read_6 6 rfl rfl)
theorem dX0_read_150 : decode cX0_read 150 = .ok (.isub, 1) := dk_100 (dk_at dksX0_read_6 9 rfl rfl)
theorem dX0_read_151 : decode cX0_read 151 = .ok (.ireturn, 1) := dk_172 (dk_at dksX0_read_6 10 rfl rfl)
abbrev cX0_in : ByteArray := prog_1_method_1_code
def yX0_in : MethodName := ⟨RX0, "in", "(JJJ)Z"⟩
def dkwX0_in_0 : List UInt8 := [30, 32, 148, 155, 0, 14, 30, 22, 4, 148, 157, 0, 7, 4, 167, 0, 4, 3, 172]
abbrev dktX0_in_0 : List UInt8 := dkwX0_in_0 ++ []
theorem dksX0_in_0 : cX0_in.data.toList.drop 0 = dktX0_in_0 := by decide +kernel
theorem dX0_in_0 : decode cX0_in 0 = .ok (.lload_n 0, 1) := dk_30 (dk_at dksX0_in_0 0 rfl rfl)
theorem dX0_in_1 : decode cX0_in 1 = .ok (.lload_n 2, 1) := dk_32 (dk_at dksX0_in_0 1 rfl rfl)
theorem dX0_in_2 : decode cX0_in 2 = .ok (.lcmp, 1) := dk_148 (dk_at dksX0_in_0 2 rfl rfl)
theorem dX0_in_3 : decode cX0_in 3 = .ok (.ifCond .lt 14, 3) := dk_155 0 14 (dk_at dksX0_in_0 3 rfl rfl)
theorem dX0_in_6 : decode cX0_in 6 = .ok (.lload_n 0, 1) := dk_30 (dk_at dksX0_in_0 6 rfl rfl)
theorem dX0_in_7 : decode cX0_in 7 = .ok (.lload 4, 2) := dk_22 4 (dk_at dksX0_in_0 7 rfl rfl)
theorem dX0_in_9 : decode cX0_in 9 = .ok (.lcmp, 1) := dk_148 (dk_at dksX0_in_0 9 rfl rfl)
theorem dX0_in_10 : decode cX0_in 10 = .ok (.ifCond .gt 7, 3) := dk_157 0 7 (dk_at dksX0_in_0 10 rfl rfl)
theorem dX0_in_13 : decode cX0_in 13 = .ok (.iconst 1, 1) := dk_4 (dk_at dksX0_in_0 13 rfl rfl)
theorem dX0_in_14 : decode cX0_in 14 = .ok (.goto 4, 3) := dk_167 0 4 (dk_at dksX0_in_0 14 rfl rfl)
theorem dX0_in_17 : decode cX0_in 17 = .ok (.iconst 0, 1) := dk_3 (dk_at dksX0_in_0 17 rfl rfl)
theorem dX0_in_18 : decode cX0_in 18 = .ok (.ireturn, 1) := dk_172 (dk_at dksX0_in_0 18 rfl rfl)
abbrev cX0_word : ByteArray := prog_1_method_2_code
def yX0_word : MethodName := ⟨RX0, "word", "(Ljava/lang/String;)J"⟩
def dkwX0_word_1 : List UInt8 := [132, 3, 1, 167, 255, 233, 31, 173]
abbrev dktX0_word_1 : List UInt8 := dkwX0_word_1 ++ []
def dkwX0_word_0 : List UInt8 := [9, 64, 3, 62, 29, 42, 182, 0, 1, 162, 0, 21, 31, 16, 8, 121, 42, 29, 182, 0, 7, 133, 129, 64]
abbrev dktX0_word_0 : List UInt8 := dkwX0_word_0 ++ dktX0_word_1
theorem dksX0_word_0 : cX0_word.data.toList.drop 0 = dktX0_word_0 := by decide +kernel
theorem dksX0_word_1 : cX0_word.data.toList.drop 24 = dktX0_word_1 := dk_seg dksX0_word_0 24 rfl rfl
theorem dX0_word_0 : decode cX0_word 0 = .ok (.lconst 0, 1) := dk_9 (dk_at dksX0_word_0 0 rfl rfl)
theorem dX0_word_1 : decode cX0_word 1 = .ok (.lstore_n 1, 1) := dk_64 (dk_at dksX0_word_0 1 rfl rfl)
theorem dX0_word_2 : decode cX0_word 2 = .ok (.iconst 0, 1) := dk_3 (dk_at dksX0_word_0 2 rfl rfl)
theorem dX0_word_3 : decode cX0_word 3 = .ok (.istore_n 3, 1) := dk_62 (dk_at dksX0_word_0 3 rfl rfl)
theorem dX0_word_4 : decode cX0_word 4 = .ok (.iload_n 3, 1) := dk_29 (dk_at dksX0_word_0 4 rfl rfl)
theorem dX0_word_5 : decode cX0_word 5 = .ok (.aload_n 0, 1) := dk_42 (dk_at dksX0_word_0 5 rfl rfl)
theorem dX0_word_6 : decode cX0_word 6 = .ok (.invokevirtual 1, 3) := dk_182 0 1 (dk_at dksX0_word_0 6 rfl rfl)
theorem dX0_word_9 : decode cX0_word 9 = .ok (.if_icmp .ge 21, 3) := dk_162 0 21 (dk_at dksX0_word_0 9 rfl rfl)
theorem dX0_word_12 : decode cX0_word 12 = .ok (.lload_n 1, 1) := dk_31 (dk_at dksX0_word_0 12 rfl rfl)
theorem dX0_word_13 : decode cX0_word 13 = .ok (.bipush 8, 2) := dk_16 8 (dk_at dksX0_word_0 13 rfl rfl)
theorem dX0_word_15 : decode cX0_word 15 = .ok (.lshl, 1) := dk_121 (dk_at dksX0_word_0 15 rfl rfl)
theorem dX0_word_16 : decode cX0_word 16 = .ok (.aload_n 0, 1) := dk_42 (dk_at dksX0_word_0 16 rfl rfl)
theorem dX0_word_17 : decode cX0_word 17 = .ok (.iload_n 3, 1) := dk_29 (dk_at dksX0_word_0 17 rfl rfl)
theorem dX0_word_18 : decode cX0_word 18 = .ok (.invokevirtual 7, 3) := dk_182 0 7 (dk_at dksX0_word_0 18 rfl rfl)
theorem dX0_word_21 : decode cX0_word 21 = .ok (.i2l, 1) := dk_133 (dk_at dksX0_word_0 21 rfl rfl)
theorem dX0_word_22 : decode cX0_word 22 = .ok (.lor, 1) := dk_129 (dk_at dksX0_word_0 22 rfl rfl)
theorem dX0_word_23 : decode cX0_word 23 = .ok (.lstore_n 1, 1) := dk_64 (dk_at dksX0_word_0 23 rfl rfl)
theorem dX0_word_24 : decode cX0_word 24 = .ok (.iinc 3 1, 3) := dk_132 3 1 (dk_at dksX0_word_1 0 rfl rfl)
theorem dX0_word_27 : decode cX0_word 27 = .ok (.goto (-23), 3) := dk_167 255 233 (dk_at dksX0_word_1 3 rfl rfl)
theorem dX0_word_30 : decode cX0_word 30 = .ok (.lload_n 1, 1) := dk_31 (dk_at dksX0_word_1 6 rfl rfl)
theorem dX0_word_31 : decode cX0_word 31 = .ok (.lreturn, 1) := dk_173 (dk_at dksX0_word_1 7 rfl rfl)
abbrev cX0_number : ByteArray := prog_1_method_5_code
def yX0_number : MethodName := ⟨RX0, "number", "()V"⟩
def dkwX0_number_0 : List UInt8 := [42, 42, 180, 0, 59, 42, 180, 0, 32, 3, 182, 0, 63, 181, 0, 67, 177]
abbrev dktX0_number_0 : List UInt8 := dkwX0_number_0 ++ []
theorem dksX0_number_0 : cX0_number.data.toList.drop 0 = dktX0_number_0 := by decide +kernel
theorem dX0_number_0 : decode cX0_number 0 = .ok (.aload_n 0, 1) := dk_42 (dk_at dksX0_number_0 0 rfl rfl)
theorem dX0_number_1 : decode cX0_number 1 = .ok (.aload_n 0, 1) := dk_42 (dk_at dksX0_number_0 1 rfl rfl)
theorem dX0_number_2 : decode cX0_number 2 = .ok (.getfield 59, 3) := dk_180 0 59 (dk_at dksX0_number_0 2 rfl rfl)
theorem dX0_number_5 : decode cX0_number 5 = .ok (.aload_n 0, 1) := dk_42 (dk_at dksX0_number_0 5 rfl rfl)
theorem dX0_number_6 : decode cX0_number 6 = .ok (.getfield 32, 3) := dk_180 0 32 (dk_at dksX0_number_0 6 rfl rfl)
theorem dX0_number_9 : decode cX0_number 9 = .ok (.iconst 0, 1) := dk_3 (dk_at dksX0_number_0 9 rfl rfl)
theorem dX0_number_10 : decode cX0_number 10 = .ok (.invokevirtual 63, 3) := dk_182 0 63 (dk_at dksX0_number_0 10 rfl rfl)
theorem dX0_number_13 : decode cX0_number 13 = .ok (.putfield 67, 3) := dk_181 0 67 (dk_at dksX0_number_0 13 rfl rfl)
theorem dX0_number_16 : decode cX0_number 16 = .ok (.return_, 1) := dk_177 (dk_at dksX0_number_0 16 rfl rfl)
abbrev cX0_fault : ByteArray := prog_1_method_7_code
def yX0_fault : MethodName := ⟨RX0, "fault", "()I"⟩
theorem dX0_fault_0 : decode cX0_fault 0 = .ok (.aload_n 0, 1) := by decide +kernel
theorem dX0_fault_1 : decode cX0_fault 1 = .ok (.getfield 116, 3) := by decide +kernel
theorem dX0_fault_4 : decode cX0_fault 4 = .ok (.ireturn, 1) := by decide +kernel
abbrev cX0_cut : ByteArray := prog_1_method_8_code
def yX0_cut : MethodName := ⟨RX0, "cut", "()I"⟩
def dkwX0_cut_0 : List UInt8 := [42, 180, 0, 56, 60, 42, 3, 181, 0, 56, 27, 172]
abbrev dktX0_cut_0 : List UInt8 := dkwX0_cut_0 ++ []
theorem dksX0_cut_0 : cX0_cut.data.toList.drop 0 = dktX0_cut_0 := by decide +kernel
theorem dX0_cut_0 : decode cX0_cut 0 = .ok (.aload_n 0, 1) := dk_42 (dk_at dksX0_cut_0 0 rfl rfl)
theorem dX0_cut_1 : decode cX0_cut 1 = .ok (.getfield 56, 3) := dk_180 0 56 (dk_at dksX0_cut_0 1 rfl rfl)
theorem dX0_cut_4 : decode cX0_cut 4 = .ok (.istore_n 1, 1) := dk_60 (dk_at dksX0_cut_0 4 rfl rfl)
theorem dX0_cut_5 : decode cX0_cut 5 = .ok (.aload_n 0, 1) := dk_42 (dk_at dksX0_cut_0 5 rfl rfl)
theorem dX0_cut_6 : decode cX0_cut 6 = .ok (.iconst 0, 1) := dk_3 (dk_at dksX0_cut_0 6 rfl rfl)
theorem dX0_cut_7 : decode cX0_cut 7 = .ok (.putfield 56, 3) := dk_181 0 56 (dk_at dksX0_cut_0 7 rfl rfl)
theorem dX0_cut_10 : decode cX0_cut 10 = .ok (.iload_n 1, 1) := dk_27 (dk_at dksX0_cut_0 10 rfl rfl)
theorem dX0_cut_11 : decode cX0_cut 11 = .ok (.ireturn, 1) := dk_172 (dk_at dksX0_cut_0 11 rfl rfl)
abbrev cX0_item : ByteArray := prog_1_method_11_code
def yX0_item : MethodName := ⟨RX0, "item", "(II)I"⟩
def dkwX0_item_4 : List UInt8 := [180, 0, 156, 172, 45, 184, 0, 159, 172, 16, 254, 172]
abbrev dktX0_item_4 : List UInt8 := dkwX0_item_4 ++ []
def dkwX0_item_3 : List UInt8 := [172, 45, 180, 0, 150, 172, 45, 180, 0, 153, 199, 0, 8, 16, 247, 167, 0, 10, 45, 180, 0, 153]
abbrev dktX0_item_3 : List UInt8 := dkwX0_item_3 ++ dktX0_item_4
def dkwX0_item_2 : List UInt8 := [45, 182, 0, 140, 172, 45, 182, 0, 142, 172, 45, 182, 0, 143, 172, 45, 182, 0, 146, 172, 45, 180, 0, 149]
abbrev dktX0_item_2 : List UInt8 := dkwX0_item_2 ++ dktX0_item_3
def dkwX0_item_1 : List UInt8 := [170, 0, 0, 0, 0, 101, 0, 0, 0, 0, 0, 0, 0, 7, 0, 0, 0, 46, 0, 0, 0, 51, 0, 0, 0, 56, 0, 0, 0, 61, 0, 0, 0, 66, 0, 0, 0, 71, 0, 0, 0, 76, 0, 0, 0, 96]
abbrev dktX0_item_1 : List UInt8 := dkwX0_item_1 ++ dktX0_item_2
def dkwX0_item_0 : List UInt8 := [42, 27, 182, 0, 136, 153, 0, 9, 42, 27, 182, 0, 136, 172, 42, 180, 0, 32, 27, 50, 78, 28]
abbrev dktX0_item_0 : List UInt8 := dkwX0_item_0 ++ dktX0_item_1
theorem dksX0_item_0 : cX0_item.data.toList.drop 0 = dktX0_item_0 := by decide +kernel
theorem dksX0_item_1 : cX0_item.data.toList.drop 22 = dktX0_item_1 := dk_seg dksX0_item_0 22 rfl rfl
theorem dksX0_item_2 : cX0_item.data.toList.drop 68 = dktX0_item_2 := dk_seg dksX0_item_1 46 rfl rfl
theorem dksX0_item_3 : cX0_item.data.toList.drop 92 = dktX0_item_3 := dk_seg dksX0_item_2 24 rfl rfl
theorem dksX0_item_4 : cX0_item.data.toList.drop 114 = dktX0_item_4 := dk_seg dksX0_item_3 22 rfl rfl
theorem dX0_item_0 : decode cX0_item 0 = .ok (.aload_n 0, 1) := dk_42 (dk_at dksX0_item_0 0 rfl rfl)
theorem dX0_item_1 : decode cX0_item 1 = .ok (.iload_n 1, 1) := dk_27 (dk_at dksX0_item_0 1 rfl rfl)
theorem dX0_item_2 : decode cX0_item 2 = .ok (.invokevirtual 136, 3) := dk_182 0 136 (dk_at dksX0_item_0 2 rfl rfl)
theorem dX0_item_5 : decode cX0_item 5 = .ok (.ifCond .eq 9, 3) := dk_153 0 9 (dk_at dksX0_item_0 5 rfl rfl)
theorem dX0_item_8 : decode cX0_item 8 = .ok (.aload_n 0, 1) := dk_42 (dk_at dksX0_item_0 8 rfl rfl)
theorem dX0_item_9 : decode cX0_item 9 = .ok (.iload_n 1, 1) := dk_27 (dk_at dksX0_item_0 9 rfl rfl)
theorem dX0_item_10 : decode cX0_item 10 = .ok (.invokevirtual 136, 3) := dk_182 0 136 (dk_at dksX0_item_0 10 rfl rfl)
theorem dX0_item_13 : decode cX0_item 13 = .ok (.ireturn, 1) := dk_172 (dk_at dksX0_item_0 13 rfl rfl)
theorem dX0_item_14 : decode cX0_item 14 = .ok (.aload_n 0, 1) := dk_42 (dk_at dksX0_item_0 14 rfl rfl)
theorem dX0_item_15 : decode cX0_item 15 = .ok (.getfield 32, 3) := dk_180 0 32 (dk_at dksX0_item_0 15 rfl rfl)
theorem dX0_item_18 : decode cX0_item 18 = .ok (.iload_n 1, 1) := dk_27 (dk_at dksX0_item_0 18 rfl rfl)
theorem dX0_item_19 : decode cX0_item 19 = .ok (.aaload, 1) := dk_50 (dk_at dksX0_item_0 19 rfl rfl)
theorem dX0_item_20 : decode cX0_item 20 = .ok (.astore_n 3, 1) := dk_78 (dk_at dksX0_item_0 20 rfl rfl)
theorem dX0_item_21 : decode cX0_item 21 = .ok (.iload_n 2, 1) := dk_28 (dk_at dksX0_item_0 21 rfl rfl)
theorem dX0_item_22 : decode cX0_item 22 = .ok (.tableswitch 101 0 7 #[46, 51, 56, 61, 66, 71, 76, 96], 46) := by decide +kernel
theorem dX0_item_68 : decode cX0_item 68 = .ok (.aload_n 3, 1) := dk_45 (dk_at dksX0_item_2 0 rfl rfl)
theorem dX0_item_69 : decode cX0_item 69 = .ok (.invokevirtual 140, 3) := dk_182 0 140 (dk_at dksX0_item_2 1 rfl rfl)
theorem dX0_item_72 : decode cX0_item 72 = .ok (.ireturn, 1) := dk_172 (dk_at dksX0_item_2 4 rfl rfl)
theorem dX0_item_73 : decode cX0_item 73 = .ok (.aload_n 3, 1) := dk_45 (dk_at dksX0_item_2 5 rfl rfl)
theorem dX0_item_74 : decode cX0_item 74 = .ok (.invokevirtual 142, 3) := dk_182 0 142 (dk_at dksX0_item_2 6 rfl rfl)
theorem dX0_item_77 : decode cX0_item 77 = .ok (.ireturn, 1) := dk_172 (dk_at dksX0_item_2 9 rfl rfl)
theorem dX0_item_78 : decode cX0_item 78 = .ok (.aload_n 3, 1) := dk_45 (dk_at dksX0_item_2 10 rfl rfl)
theorem dX0_item_79 : decode cX0_item 79 = .ok (.invokevirtual 143, 3) := dk_182 0 143 (dk_at dksX0_item_2 11 rfl rfl)
theorem dX0_item_82 : decode cX0_item 82 = .ok (.ireturn, 1) := dk_172 (dk_at dksX0_item_2 14 rfl rfl)
theorem dX0_item_83 : decode cX0_item 83 = .ok (.aload_n 3, 1) := dk_45 (dk_at dksX0_item_2 15 rfl rfl)
theorem dX0_item_84 : decode cX0_item 84 = .ok (.invokevirtual 146, 3) := dk_182 0 146 (dk_at dksX0_item_2 16 rfl rfl)
theorem dX0_item_87 : decode cX0_item 87 = .ok (.ireturn, 1) := dk_172 (dk_at dksX0_item_2 19 rfl rfl)
theorem dX0_item_88 : decode cX0_item 88 = .ok (.aload_n 3, 1) := dk_45 (dk_at dksX0_item_2 20 rfl rfl)
theorem dX0_item_89 : decode cX0_item 89 = .ok (.getfield 149, 3) := dk_180 0 149 (dk_at dksX0_item_2 21 rfl rfl)
theorem dX0_item_92 : decode cX0_item 92 = .ok (.ireturn, 1) := dk_172 (dk_at dksX0_item_3 0 rfl rfl)
theorem dX0_item_93 : decode cX0_item 93 = .ok (.aload_n 3, 1) := dk_45 (dk_at dksX0_item_3 1 rfl rfl)
theorem dX0_item_94 : decode cX0_item 94 = .ok (.getfield 150, 3) := dk_180 0 150 (dk_at dksX0_item_3 2 rfl rfl)
theorem dX0_item_97 : decode cX0_item 97 = .ok (.ireturn, 1) := dk_172 (dk_at dksX0_item_3 5 rfl rfl)
theorem dX0_item_98 : decode cX0_item 98 = .ok (.aload_n 3, 1) := dk_45 (dk_at dksX0_item_3 6 rfl rfl)
theorem dX0_item_99 : decode cX0_item 99 = .ok (.getfield 153, 3) := dk_180 0 153 (dk_at dksX0_item_3 7 rfl rfl)
theorem dX0_item_102 : decode cX0_item 102 = .ok (.ifnonnull 8, 3) := dk_199 0 8 (dk_at dksX0_item_3 10 rfl rfl)
theorem dX0_item_105 : decode cX0_item 105 = .ok (.bipush (-9), 2) := dk_16 247 (dk_at dksX0_item_3 13 rfl rfl)
theorem dX0_item_107 : decode cX0_item 107 = .ok (.goto 10, 3) := dk_167 0 10 (dk_at dksX0_item_3 15 rfl rfl)
theorem dX0_item_110 : decode cX0_item 110 = .ok (.aload_n 3, 1) := dk_45 (dk_at dksX0_item_3 18 rfl rfl)
theorem dX0_item_111 : decode cX0_item 111 = .ok (.getfield 153, 3) := dk_180 0 153 (dk_at dksX0_item_3 19 rfl rfl)
theorem dX0_item_114 : decode cX0_item 114 = .ok (.getfield 156, 3) := dk_180 0 156 (dk_at dksX0_item_4 0 rfl rfl)
theorem dX0_item_117 : decode cX0_item 117 = .ok (.ireturn, 1) := dk_172 (dk_at dksX0_item_4 3 rfl rfl)
theorem dX0_item_118 : decode cX0_item 118 = .ok (.aload_n 3, 1) := dk_45 (dk_at dksX0_item_4 4 rfl rfl)
theorem dX0_item_119 : decode cX0_item 119 = .ok (.invokestatic 159, 3) := dk_184 0 159 (dk_at dksX0_item_4 5 rfl rfl)
theorem dX0_item_122 : decode cX0_item 122 = .ok (.ireturn, 1) := dk_172 (dk_at dksX0_item_4 8 rfl rfl)
theorem dX0_item_123 : decode cX0_item 123 = .ok (.bipush (-2), 2) := dk_16 254 (dk_at dksX0_item_4 9 rfl rfl)
theorem dX0_item_125 : decode cX0_item 125 = .ok (.ireturn, 1) := dk_172 (dk_at dksX0_item_4 11 rfl rfl)
abbrev cX0_no : ByteArray := prog_1_method_9_code
def yX0_no : MethodName := ⟨RX0, "no", "(I)I"⟩
def dkwX0_no_1 : List UInt8 := [184, 0, 124, 153, 0, 7, 3, 167, 0, 4, 2, 172]
abbrev dktX0_no_1 : List UInt8 := dkwX0_no_1 ++ []
def dkwX0_no_0 : List UInt8 := [42, 180, 0, 59, 199, 0, 8, 16, 253, 167, 0, 24, 27, 133, 9, 42, 180, 0, 67, 4, 100, 133]
abbrev dktX0_no_0 : List UInt8 := dkwX0_no_0 ++ dktX0_no_1
theorem dksX0_no_0 : cX0_no.data.toList.drop 0 = dktX0_no_0 := by decide +kernel
theorem dksX0_no_1 : cX0_no.data.toList.drop 22 = dktX0_no_1 := dk_seg dksX0_no_0 22 rfl rfl
theorem dX0_no_0 : decode cX0_no 0 = .ok (.aload_n 0, 1) := dk_42 (dk_at dksX0_no_0 0 rfl rfl)
theorem dX0_no_1 : decode cX0_no 1 = .ok (.getfield 59, 3) := dk_180 0 59 (dk_at dksX0_no_0 1 rfl rfl)
theorem dX0_no_4 : decode cX0_no 4 = .ok (.ifnonnull 8, 3) := dk_199 0 8 (dk_at dksX0_no_0 4 rfl rfl)
theorem dX0_no_7 : decode cX0_no 7 = .ok (.bipush (-3), 2) := dk_16 253 (dk_at dksX0_no_0 7 rfl rfl)
theorem dX0_no_9 : decode cX0_no 9 = .ok (.goto 24, 3) := dk_167 0 24 (dk_at dksX0_no_0 9 rfl rfl)
theorem dX0_no_12 : decode cX0_no 12 = .ok (.iload_n 1, 1) := dk_27 (dk_at dksX0_no_0 12 rfl rfl)
theorem dX0_no_13 : decode cX0_no 13 = .ok (.i2l, 1) := dk_133 (dk_at dksX0_no_0 13 rfl rfl)
theorem dX0_no_14 : decode cX0_no 14 = .ok (.lconst 0, 1) := dk_9 (dk_at dksX0_no_0 14 rfl rfl)
theorem dX0_no_15 : decode cX0_no 15 = .ok (.aload_n 0, 1) := dk_42 (dk_at dksX0_no_0 15 rfl rfl)
theorem dX0_no_16 : decode cX0_no 16 = .ok (.getfield 67, 3) := dk_180 0 67 (dk_at dksX0_no_0 16 rfl rfl)
theorem dX0_no_19 : decode cX0_no 19 = .ok (.iconst 1, 1) := dk_4 (dk_at dksX0_no_0 19 rfl rfl)
theorem dX0_no_20 : decode cX0_no 20 = .ok (.isub, 1) := dk_100 (dk_at dksX0_no_0 20 rfl rfl)
theorem dX0_no_21 : decode cX0_no 21 = .ok (.i2l, 1) := dk_133 (dk_at dksX0_no_0 21 rfl rfl)
theorem dX0_no_22 : decode cX0_no 22 = .ok (.invokestatic 124, 3) := dk_184 0 124 (dk_at dksX0_no_1 0 rfl rfl)
theorem dX0_no_25 : decode cX0_no 25 = .ok (.ifCond .eq 7, 3) := dk_153 0 7 (dk_at dksX0_no_1 3 rfl rfl)
theorem dX0_no_28 : decode cX0_no 28 = .ok (.iconst 0, 1) := dk_3 (dk_at dksX0_no_1 6 rfl rfl)
theorem dX0_no_29 : decode cX0_no 29 = .ok (.goto 4, 3) := dk_167 0 4 (dk_at dksX0_no_1 7 rfl rfl)
theorem dX0_no_32 : decode cX0_no 32 = .ok (.iconst (-1), 1) := dk_2 (dk_at dksX0_no_1 10 rfl rfl)
theorem dX0_no_33 : decode cX0_no 33 = .ok (.ireturn, 1) := dk_172 (dk_at dksX0_no_1 11 rfl rfl)
abbrev cX0_readsAs : ByteArray := prog_1_method_10_code
def yX0_readsAs : MethodName := ⟨RX0, "readsAs", "(LMacroGlass$Item;)I"⟩
def dkwX0_readsAs_0 : List UInt8 := [42, 182, 0, 128, 76, 43, 199, 0, 8, 16, 247, 167, 0, 7, 43, 180, 0, 132, 172]
abbrev dktX0_readsAs_0 : List UInt8 := dkwX0_readsAs_0 ++ []
theorem dksX0_readsAs_0 : cX0_readsAs.data.toList.drop 0 = dktX0_readsAs_0 := by decide +kernel
theorem dX0_readsAs_0 : decode cX0_readsAs 0 = .ok (.aload_n 0, 1) := dk_42 (dk_at dksX0_readsAs_0 0 rfl rfl)
theorem dX0_readsAs_1 : decode cX0_readsAs 1 = .ok (.invokevirtual 128, 3) := dk_182 0 128 (dk_at dksX0_readsAs_0 1 rfl rfl)
theorem dX0_readsAs_4 : decode cX0_readsAs 4 = .ok (.astore_n 1, 1) := dk_76 (dk_at dksX0_readsAs_0 4 rfl rfl)
theorem dX0_readsAs_5 : decode cX0_readsAs 5 = .ok (.aload_n 1, 1) := dk_43 (dk_at dksX0_readsAs_0 5 rfl rfl)
theorem dX0_readsAs_6 : decode cX0_readsAs 6 = .ok (.ifnonnull 8, 3) := dk_199 0 8 (dk_at dksX0_readsAs_0 6 rfl rfl)
theorem dX0_readsAs_9 : decode cX0_readsAs 9 = .ok (.bipush (-9), 2) := dk_16 247 (dk_at dksX0_readsAs_0 9 rfl rfl)
theorem dX0_readsAs_11 : decode cX0_readsAs 11 = .ok (.goto 7, 3) := dk_167 0 7 (dk_at dksX0_readsAs_0 11 rfl rfl)
theorem dX0_readsAs_14 : decode cX0_readsAs 14 = .ok (.aload_n 1, 1) := dk_43 (dk_at dksX0_readsAs_0 14 rfl rfl)
theorem dX0_readsAs_15 : decode cX0_readsAs 15 = .ok (.getfield 132, 3) := dk_180 0 132 (dk_at dksX0_readsAs_0 15 rfl rfl)
theorem dX0_readsAs_18 : decode cX0_readsAs 18 = .ok (.ireturn, 1) := dk_172 (dk_at dksX0_readsAs_0 18 rfl rfl)
abbrev cX0_letter : ByteArray := prog_1_method_12_code
def yX0_letter : MethodName := ⟨RX0, "letter", "(II)I"⟩
def dkwX0_letter_4 : List UInt8 := [167, 0, 5, 16, 247, 172]
abbrev dktX0_letter_4 : List UInt8 := dkwX0_letter_4 ++ []
def dkwX0_letter_3 : List UInt8 := [184, 0, 124, 153, 0, 22, 33, 16, 8, 21, 5, 4, 100, 28, 100, 104, 123, 20, 0, 54, 127, 136]
abbrev dktX0_letter_3 : List UInt8 := dkwX0_letter_3 ++ dktX0_letter_4
def dkwX0_letter_2 : List UInt8 := [21, 5, 104, 123, 9, 148, 158, 0, 9, 132, 5, 1, 167, 255, 241, 28, 133, 9, 21, 5, 4, 100, 133]
abbrev dktX0_letter_2 : List UInt8 := dkwX0_letter_2 ++ dktX0_letter_3
def dkwX0_letter_1 : List UInt8 := [154, 0, 5, 2, 172, 42, 180, 0, 32, 27, 50, 192, 0, 133, 180, 0, 163, 66, 3, 54, 5, 33, 16, 8]
abbrev dktX0_letter_1 : List UInt8 := dkwX0_letter_1 ++ dktX0_letter_2
def dkwX0_letter_0 : List UInt8 := [42, 27, 182, 0, 136, 153, 0, 9, 42, 27, 182, 0, 136, 172, 42, 180, 0, 32, 27, 50, 193, 0, 133]
abbrev dktX0_letter_0 : List UInt8 := dkwX0_letter_0 ++ dktX0_letter_1
theorem dksX0_letter_0 : cX0_letter.data.toList.drop 0 = dktX0_letter_0 := by decide +kernel
theorem dksX0_letter_1 : cX0_letter.data.toList.drop 23 = dktX0_letter_1 := dk_seg dksX0_letter_0 23 rfl rfl
theorem dksX0_letter_2 : cX0_letter.data.toList.drop 47 = dktX0_letter_2 := dk_seg dksX0_letter_1 24 rfl rfl
theorem dksX0_letter_3 : cX0_letter.data.toList.drop 70 = dktX0_letter_3 := dk_seg dksX0_letter_2 23 rfl rfl
theorem dksX0_letter_4 : cX0_letter.data.toList.drop 92 = dktX0_letter_4 := dk_seg dksX0_letter_3 22 rfl rfl
theorem dX0_letter_0 : decode cX0_letter 0 = .ok (.aload_n 0, 1) := dk_42 (dk_at dksX0_letter_0 0 rfl rfl)
theorem dX0_letter_1 : decode cX0_letter 1 = .ok (.iload_n 1, 1) := dk_27 (dk_at dksX0_letter_0 1 rfl rfl)
theorem dX0_letter_2 : decode cX0_letter 2 = .ok (.invokevirtual 136, 3) := dk_182 0 136 (dk_at dksX0_letter_0 2 rfl rfl)
theorem dX0_letter_5 : decode cX0_letter 5 = .ok (.ifCond .eq 9, 3) := dk_153 0 9 (dk_at dksX0_letter_0 5 rfl rfl)
theorem dX0_letter_8 : decode cX0_letter 8 = .ok (.aload_n 0, 1) := dk_42 (dk_at dksX0_letter_0 8 rfl rfl)
theorem dX0_letter_9 : decode cX0_letter 9 = .ok (.iload_n 1, 1) := dk_27 (dk_at dksX0_letter_0 9 rfl rfl)
theorem dX0_letter_10 : decode cX0_letter 10 = .ok (.invokevirtual 136, 3) := dk_182 0 136 (dk_at dksX0_letter_0 10 rfl rfl)
theorem dX0_letter_13 : decode cX0_letter 13 = .ok (.ireturn, 1) := dk_172 (dk_at dksX0_letter_0 13 rfl rfl)
theorem dX0_letter_14 : decode cX0_letter 14 = .ok (.aload_n 0, 1) := dk_42 (dk_at dksX0_letter_0 14 rfl rfl)
theorem dX0_letter_15 : decode cX0_letter 15 = .ok (.getfield 32, 3) := dk_180 0 32 (dk_at dksX0_letter_0 15 rfl rfl)
theorem dX0_letter_18 : decode cX0_letter 18 = .ok (.iload_n 1, 1) := dk_27 (dk_at dksX0_letter_0 18 rfl rfl)
theorem dX0_letter_19 : decode cX0_letter 19 = .ok (.aaload, 1) := dk_50 (dk_at dksX0_letter_0 19 rfl rfl)
theorem dX0_letter_20 : decode cX0_letter 20 = .ok (.instanceof 133, 3) := dk_193 0 133 (dk_at dksX0_letter_0 20 rfl rfl)
theorem dX0_letter_23 : decode cX0_letter 23 = .ok (.ifCond .ne 5, 3) := dk_154 0 5 (dk_at dksX0_letter_1 0 rfl rfl)
theorem dX0_letter_26 : decode cX0_letter 26 = .ok (.iconst (-1), 1) := dk_2 (dk_at dksX0_letter_1 3 rfl rfl)
theorem dX0_letter_27 : decode cX0_letter 27 = .ok (.ireturn, 1) := dk_172 (dk_at dksX0_letter_1 4 rfl rfl)
theorem dX0_letter_28 : decode cX0_letter 28 = .ok (.aload_n 0, 1) := dk_42 (dk_at dksX0_letter_1 5 rfl rfl)
theorem dX0_letter_29 : decode cX0_letter 29 = .ok (.getfield 32, 3) := dk_180 0 32 (dk_at dksX0_letter_1 6 rfl rfl)
theorem dX0_letter_32 : decode cX0_letter 32 = .ok (.iload_n 1, 1) := dk_27 (dk_at dksX0_letter_1 9 rfl rfl)
theorem dX0_letter_33 : decode cX0_letter 33 = .ok (.aaload, 1) := dk_50 (dk_at dksX0_letter_1 10 rfl rfl)
theorem dX0_letter_34 : decode cX0_letter 34 = .ok (.checkcast 133, 3) := dk_192 0 133 (dk_at dksX0_letter_1 11 rfl rfl)
theorem dX0_letter_37 : decode cX0_letter 37 = .ok (.getfield 163, 3) := dk_180 0 163 (dk_at dksX0_letter_1 14 rfl rfl)
theorem dX0_letter_40 : decode cX0_letter 40 = .ok (.lstore_n 3, 1) := dk_66 (dk_at dksX0_letter_1 17 rfl rfl)
theorem dX0_letter_41 : decode cX0_letter 41 = .ok (.iconst 0, 1) := dk_3 (dk_at dksX0_letter_1 18 rfl rfl)
theorem dX0_letter_42 : decode cX0_letter 42 = .ok (.istore 5, 2) := dk_54 5 (dk_at dksX0_letter_1 19 rfl rfl)
theorem dX0_letter_44 : decode cX0_letter 44 = .ok (.lload_n 3, 1) := dk_33 (dk_at dksX0_letter_1 21 rfl rfl)
theorem dX0_letter_45 : decode cX0_letter 45 = .ok (.bipush 8, 2) := dk_16 8 (dk_at dksX0_letter_1 22 rfl rfl)
theorem dX0_letter_47 : decode cX0_letter 47 = .ok (.iload 5, 2) := dk_21 5 (dk_at dksX0_letter_2 0 rfl rfl)
theorem dX0_letter_49 : decode cX0_letter 49 = .ok (.imul, 1) := dk_104 (dk_at dksX0_letter_2 2 rfl rfl)
theorem dX0_letter_50 : decode cX0_letter 50 = .ok (.lshr, 1) := dk_123 (dk_at dksX0_letter_2 3 rfl rfl)
theorem dX0_letter_51 : decode cX0_letter 51 = .ok (.lconst 0, 1) := dk_9 (dk_at dksX0_letter_2 4 rfl rfl)
theorem dX0_letter_52 : decode cX0_letter 52 = .ok (.lcmp, 1) := dk_148 (dk_at dksX0_letter_2 5 rfl rfl)
theorem dX0_letter_53 : decode cX0_letter 53 = .ok (.ifCond .le 9, 3) := dk_158 0 9 (dk_at dksX0_letter_2 6 rfl rfl)
theorem dX0_letter_56 : decode cX0_letter 56 = .ok (.iinc 5 1, 3) := dk_132 5 1 (dk_at dksX0_letter_2 9 rfl rfl)
theorem dX0_letter_59 : decode cX0_letter 59 = .ok (.goto (-15), 3) := dk_167 255 241 (dk_at dksX0_letter_2 12 rfl rfl)
theorem dX0_letter_62 : decode cX0_letter 62 = .ok (.iload_n 2, 1) := dk_28 (dk_at dksX0_letter_2 15 rfl rfl)
theorem dX0_letter_63 : decode cX0_letter 63 = .ok (.i2l, 1) := dk_133 (dk_at dksX0_letter_2 16 rfl rfl)
theorem dX0_letter_64 : decode cX0_letter 64 = .ok (.lconst 0, 1) := dk_9 (dk_at dksX0_letter_2 17 rfl rfl)
theorem dX0_letter_65 : decode cX0_letter 65 = .ok (.iload 5, 2) := dk_21 5 (dk_at dksX0_letter_2 18 rfl rfl)
theorem dX0_letter_67 : decode cX0_letter 67 = .ok (.iconst 1, 1) := dk_4 (dk_at dksX0_letter_2 20 rfl rfl)
theorem dX0_letter_68 : decode cX0_letter 68 = .ok (.isub, 1) := dk_100 (dk_at dksX0_letter_2 21 rfl rfl)
theorem dX0_letter_69 : decode cX0_letter 69 = .ok (.i2l, 1) := dk_133 (dk_at dksX0_letter_2 22 rfl rfl)
theorem dX0_letter_70 : decode cX0_letter 70 = .ok (.invokestatic 124, 3) := dk_184 0 124 (dk_at dksX0_letter_3 0 rfl rfl)
theorem dX0_letter_73 : decode cX0_letter 73 = .ok (.ifCond .eq 22, 3) := dk_153 0 22 (dk_at dksX0_letter_3 3 rfl rfl)
theorem dX0_letter_76 : decode cX0_letter 76 = .ok (.lload_n 3, 1) := dk_33 (dk_at dksX0_letter_3 6 rfl rfl)
theorem dX0_letter_77 : decode cX0_letter 77 = .ok (.bipush 8, 2) := dk_16 8 (dk_at dksX0_letter_3 7 rfl rfl)
theorem dX0_letter_79 : decode cX0_letter 79 = .ok (.iload 5, 2) := dk_21 5 (dk_at dksX0_letter_3 9 rfl rfl)
theorem dX0_letter_81 : decode cX0_letter 81 = .ok (.iconst 1, 1) := dk_4 (dk_at dksX0_letter_3 11 rfl rfl)
theorem dX0_letter_82 : decode cX0_letter 82 = .ok (.isub, 1) := dk_100 (dk_at dksX0_letter_3 12 rfl rfl)
theorem dX0_letter_83 : decode cX0_letter 83 = .ok (.iload_n 2, 1) := dk_28 (dk_at dksX0_letter_3 13 rfl rfl)
theorem dX0_letter_84 : decode cX0_letter 84 = .ok (.isub, 1) := dk_100 (dk_at dksX0_letter_3 14 rfl rfl)
theorem dX0_letter_85 : decode cX0_letter 85 = .ok (.imul, 1) := dk_104 (dk_at dksX0_letter_3 15 rfl rfl)
theorem dX0_letter_86 : decode cX0_letter 86 = .ok (.lshr, 1) := dk_123 (dk_at dksX0_letter_3 16 rfl rfl)
theorem dX0_letter_87 : decode cX0_letter 87 = .ok (.ldc2_w 54, 3) := dk_20 0 54 (dk_at dksX0_letter_3 17 rfl rfl)
theorem dX0_letter_90 : decode cX0_letter 90 = .ok (.land, 1) := dk_127 (dk_at dksX0_letter_3 20 rfl rfl)
theorem dX0_letter_91 : decode cX0_letter 91 = .ok (.l2i, 1) := dk_136 (dk_at dksX0_letter_3 21 rfl rfl)
theorem dX0_letter_92 : decode cX0_letter 92 = .ok (.goto 5, 3) := dk_167 0 5 (dk_at dksX0_letter_4 0 rfl rfl)
theorem dX0_letter_95 : decode cX0_letter 95 = .ok (.bipush (-9), 2) := dk_16 247 (dk_at dksX0_letter_4 3 rfl rfl)
theorem dX0_letter_97 : decode cX0_letter 97 = .ok (.ireturn, 1) := dk_172 (dk_at dksX0_letter_4 5 rfl rfl)
abbrev cX0_call : ByteArray := prog_1_method_15_code
def yX0_call : MethodName := ⟨RX0, "call", "(I)I"⟩
def dkwX0_call_1 : List UInt8 := [182, 0, 179, 172]
abbrev dktX0_call_1 : List UInt8 := dkwX0_call_1 ++ []
def dkwX0_call_0 : List UInt8 := [42, 27, 182, 0, 136, 153, 0, 11, 42, 27, 182, 0, 136, 167, 0, 13, 42, 42, 180, 0, 32, 27, 50]
abbrev dktX0_call_0 : List UInt8 := dkwX0_call_0 ++ dktX0_call_1
theorem dksX0_call_0 : cX0_call.data.toList.drop 0 = dktX0_call_0 := by decide +kernel
theorem dksX0_call_1 : cX0_call.data.toList.drop 23 = dktX0_call_1 := dk_seg dksX0_call_0 23 rfl rfl
theorem dX0_call_0 : decode cX0_call 0 = .ok (.aload_n 0, 1) := dk_42 (dk_at dksX0_call_0 0 rfl rfl)
theorem dX0_call_1 : decode cX0_call 1 = .ok (.iload_n 1, 1) := dk_27 (dk_at dksX0_call_0 1 rfl rfl)
theorem dX0_call_2 : decode cX0_call 2 = .ok (.invokevirtual 136, 3) := dk_182 0 136 (dk_at dksX0_call_0 2 rfl rfl)
theorem dX0_call_5 : decode cX0_call 5 = .ok (.ifCond .eq 11, 3) := dk_153 0 11 (dk_at dksX0_call_0 5 rfl rfl)
theorem dX0_call_8 : decode cX0_call 8 = .ok (.aload_n 0, 1) := dk_42 (dk_at dksX0_call_0 8 rfl rfl)
theorem dX0_call_9 : decode cX0_call 9 = .ok (.iload_n 1, 1) := dk_27 (dk_at dksX0_call_0 9 rfl rfl)
theorem dX0_call_10 : decode cX0_call 10 = .ok (.invokevirtual 136, 3) := dk_182 0 136 (dk_at dksX0_call_0 10 rfl rfl)
theorem dX0_call_13 : decode cX0_call 13 = .ok (.goto 13, 3) := dk_167 0 13 (dk_at dksX0_call_0 13 rfl rfl)
theorem dX0_call_16 : decode cX0_call 16 = .ok (.aload_n 0, 1) := dk_42 (dk_at dksX0_call_0 16 rfl rfl)
theorem dX0_call_17 : decode cX0_call 17 = .ok (.aload_n 0, 1) := dk_42 (dk_at dksX0_call_0 17 rfl rfl)
theorem dX0_call_18 : decode cX0_call 18 = .ok (.getfield 32, 3) := dk_180 0 32 (dk_at dksX0_call_0 18 rfl rfl)
theorem dX0_call_21 : decode cX0_call 21 = .ok (.iload_n 1, 1) := dk_27 (dk_at dksX0_call_0 21 rfl rfl)
theorem dX0_call_22 : decode cX0_call 22 = .ok (.aaload, 1) := dk_50 (dk_at dksX0_call_0 22 rfl rfl)
theorem dX0_call_23 : decode cX0_call 23 = .ok (.invokevirtual 179, 3) := dk_182 0 179 (dk_at dksX0_call_1 0 rfl rfl)
theorem dX0_call_26 : decode cX0_call 26 = .ok (.ireturn, 1) := dk_172 (dk_at dksX0_call_1 3 rfl rfl)
abbrev cX0_callOf : ByteArray := prog_1_method_14_code
def yX0_callOf : MethodName := ⟨RX0, "callOf", "(LMacroGlass$Item;)I"⟩
def dkwX0_callOf_2 : List UInt8 := [182, 0, 175, 16, 247, 160, 0, 7, 4, 167, 0, 4, 5, 172]
abbrev dktX0_callOf_2 : List UInt8 := dkwX0_callOf_2 ++ []
def dkwX0_callOf_1 : List UInt8 := [180, 0, 109, 182, 0, 171, 153, 0, 5, 4, 172, 44, 180, 0, 153, 77, 167, 255, 234, 42, 43, 192, 0, 157]
abbrev dktX0_callOf_1 : List UInt8 := dkwX0_callOf_1 ++ dktX0_callOf_2
def dkwX0_callOf_0 : List UInt8 := [43, 42, 180, 0, 109, 182, 0, 171, 154, 0, 5, 3, 172, 43, 180, 0, 153, 77, 44, 198, 0, 24, 44, 42]
abbrev dktX0_callOf_0 : List UInt8 := dkwX0_callOf_0 ++ dktX0_callOf_1
theorem dksX0_callOf_0 : cX0_callOf.data.toList.drop 0 = dktX0_callOf_0 := by decide +kernel
theorem dksX0_callOf_1 : cX0_callOf.data.toList.drop 24 = dktX0_callOf_1 := dk_seg dksX0_callOf_0 24 rfl rfl
theorem dksX0_callOf_2 : cX0_callOf.data.toList.drop 48 = dktX0_callOf_2 := dk_seg dksX0_callOf_1 24 rfl rfl
theorem dX0_callOf_0 : decode cX0_callOf 0 = .ok (.aload_n 1, 1) := dk_43 (dk_at dksX0_callOf_0 0 rfl rfl)
theorem dX0_callOf_1 : decode cX0_callOf 1 = .ok (.aload_n 0, 1) := dk_42 (dk_at dksX0_callOf_0 1 rfl rfl)
theorem dX0_callOf_2 : decode cX0_callOf 2 = .ok (.getfield 109, 3) := dk_180 0 109 (dk_at dksX0_callOf_0 2 rfl rfl)
theorem dX0_callOf_5 : decode cX0_callOf 5 = .ok (.invokevirtual 171, 3) := dk_182 0 171 (dk_at dksX0_callOf_0 5 rfl rfl)
theorem dX0_callOf_8 : decode cX0_callOf 8 = .ok (.ifCond .ne 5, 3) := dk_154 0 5 (dk_at dksX0_callOf_0 8 rfl rfl)
theorem dX0_callOf_11 : decode cX0_callOf 11 = .ok (.iconst 0, 1) := dk_3 (dk_at dksX0_callOf_0 11 rfl rfl)
theorem dX0_callOf_12 : decode cX0_callOf 12 = .ok (.ireturn, 1) := dk_172 (dk_at dksX0_callOf_0 12 rfl rfl)
theorem dX0_callOf_13 : decode cX0_callOf 13 = .ok (.aload_n 1, 1) := dk_43 (dk_at dksX0_callOf_0 13 rfl rfl)
theorem dX0_callOf_14 : decode cX0_callOf 14 = .ok (.getfield 153, 3) := dk_180 0 153 (dk_at dksX0_callOf_0 14 rfl rfl)
theorem dX0_callOf_17 : decode cX0_callOf 17 = .ok (.astore_n 2, 1) := dk_77 (dk_at dksX0_callOf_0 17 rfl rfl)
theorem dX0_callOf_18 : decode cX0_callOf 18 = .ok (.aload_n 2, 1) := dk_44 (dk_at dksX0_callOf_0 18 rfl rfl)
theorem dX0_callOf_19 : decode cX0_callOf 19 = .ok (.ifnull 24, 3) := dk_198 0 24 (dk_at dksX0_callOf_0 19 rfl rfl)
theorem dX0_callOf_22 : decode cX0_callOf 22 = .ok (.aload_n 2, 1) := dk_44 (dk_at dksX0_callOf_0 22 rfl rfl)
theorem dX0_callOf_23 : decode cX0_callOf 23 = .ok (.aload_n 0, 1) := dk_42 (dk_at dksX0_callOf_0 23 rfl rfl)
theorem dX0_callOf_24 : decode cX0_callOf 24 = .ok (.getfield 109, 3) := dk_180 0 109 (dk_at dksX0_callOf_1 0 rfl rfl)
theorem dX0_callOf_27 : decode cX0_callOf 27 = .ok (.invokevirtual 171, 3) := dk_182 0 171 (dk_at dksX0_callOf_1 3 rfl rfl)
theorem dX0_callOf_30 : decode cX0_callOf 30 = .ok (.ifCond .eq 5, 3) := dk_153 0 5 (dk_at dksX0_callOf_1 6 rfl rfl)
theorem dX0_callOf_33 : decode cX0_callOf 33 = .ok (.iconst 1, 1) := dk_4 (dk_at dksX0_callOf_1 9 rfl rfl)
theorem dX0_callOf_34 : decode cX0_callOf 34 = .ok (.ireturn, 1) := dk_172 (dk_at dksX0_callOf_1 10 rfl rfl)
theorem dX0_callOf_35 : decode cX0_callOf 35 = .ok (.aload_n 2, 1) := dk_44 (dk_at dksX0_callOf_1 11 rfl rfl)
theorem dX0_callOf_36 : decode cX0_callOf 36 = .ok (.getfield 153, 3) := dk_180 0 153 (dk_at dksX0_callOf_1 12 rfl rfl)
theorem dX0_callOf_39 : decode cX0_callOf 39 = .ok (.astore_n 2, 1) := dk_77 (dk_at dksX0_callOf_1 15 rfl rfl)
theorem dX0_callOf_40 : decode cX0_callOf 40 = .ok (.goto (-22), 3) := dk_167 255 234 (dk_at dksX0_callOf_1 16 rfl rfl)
theorem dX0_callOf_43 : decode cX0_callOf 43 = .ok (.aload_n 0, 1) := dk_42 (dk_at dksX0_callOf_1 19 rfl rfl)
theorem dX0_callOf_44 : decode cX0_callOf 44 = .ok (.aload_n 1, 1) := dk_43 (dk_at dksX0_callOf_1 20 rfl rfl)
theorem dX0_callOf_45 : decode cX0_callOf 45 = .ok (.checkcast 157, 3) := dk_192 0 157 (dk_at dksX0_callOf_1 21 rfl rfl)
theorem dX0_callOf_48 : decode cX0_callOf 48 = .ok (.invokevirtual 175, 3) := dk_182 0 175 (dk_at dksX0_callOf_2 0 rfl rfl)
theorem dX0_callOf_51 : decode cX0_callOf 51 = .ok (.bipush (-9), 2) := dk_16 247 (dk_at dksX0_callOf_2 3 rfl rfl)
theorem dX0_callOf_53 : decode cX0_callOf 53 = .ok (.if_icmp .ne 7, 3) := dk_160 0 7 (dk_at dksX0_callOf_2 5 rfl rfl)
theorem dX0_callOf_56 : decode cX0_callOf 56 = .ok (.iconst 1, 1) := dk_4 (dk_at dksX0_callOf_2 8 rfl rfl)
theorem dX0_callOf_57 : decode cX0_callOf 57 = .ok (.goto 4, 3) := dk_167 0 4 (dk_at dksX0_callOf_2 9 rfl rfl)
theorem dX0_callOf_60 : decode cX0_callOf 60 = .ok (.iconst 2, 1) := dk_5 (dk_at dksX0_callOf_2 12 rfl rfl)
theorem dX0_callOf_61 : decode cX0_callOf 61 = .ok (.ireturn, 1) := dk_172 (dk_at dksX0_callOf_2 13 rfl rfl)
abbrev cX0_ruleFor : ByteArray := prog_1_method_13_code
def yX0_ruleFor : MethodName := ⟨RX0, "ruleFor", "(LMacroGlass$List;)I"⟩
def dkwX0_ruleFor_1 : List UInt8 := [43, 182, 0, 167, 153, 0, 5, 28, 172, 132, 2, 1, 167, 255, 222, 16, 247, 172]
abbrev dktX0_ruleFor_1 : List UInt8 := dkwX0_ruleFor_1 ++ []
def dkwX0_ruleFor_0 : List UInt8 := [3, 61, 28, 42, 180, 0, 109, 182, 0, 85, 162, 0, 29, 42, 180, 0, 109, 28, 182, 0, 88, 192, 0, 92]
abbrev dktX0_ruleFor_0 : List UInt8 := dkwX0_ruleFor_0 ++ dktX0_ruleFor_1
theorem dksX0_ruleFor_0 : cX0_ruleFor.data.toList.drop 0 = dktX0_ruleFor_0 := by decide +kernel
theorem dksX0_ruleFor_1 : cX0_ruleFor.data.toList.drop 24 = dktX0_ruleFor_1 := dk_seg dksX0_ruleFor_0 24 rfl rfl
theorem dX0_ruleFor_0 : decode cX0_ruleFor 0 = .ok (.iconst 0, 1) := dk_3 (dk_at dksX0_ruleFor_0 0 rfl rfl)
theorem dX0_ruleFor_1 : decode cX0_ruleFor 1 = .ok (.istore_n 2, 1) := dk_61 (dk_at dksX0_ruleFor_0 1 rfl rfl)
theorem dX0_ruleFor_2 : decode cX0_ruleFor 2 = .ok (.iload_n 2, 1) := dk_28 (dk_at dksX0_ruleFor_0 2 rfl rfl)
theorem dX0_ruleFor_3 : decode cX0_ruleFor 3 = .ok (.aload_n 0, 1) := dk_42 (dk_at dksX0_ruleFor_0 3 rfl rfl)
theorem dX0_ruleFor_4 : decode cX0_ruleFor 4 = .ok (.getfield 109, 3) := dk_180 0 109 (dk_at dksX0_ruleFor_0 4 rfl rfl)
theorem dX0_ruleFor_7 : decode cX0_ruleFor 7 = .ok (.invokevirtual 85, 3) := dk_182 0 85 (dk_at dksX0_ruleFor_0 7 rfl rfl)
theorem dX0_ruleFor_10 : decode cX0_ruleFor 10 = .ok (.if_icmp .ge 29, 3) := dk_162 0 29 (dk_at dksX0_ruleFor_0 10 rfl rfl)
theorem dX0_ruleFor_13 : decode cX0_ruleFor 13 = .ok (.aload_n 0, 1) := dk_42 (dk_at dksX0_ruleFor_0 13 rfl rfl)
theorem dX0_ruleFor_14 : decode cX0_ruleFor 14 = .ok (.getfield 109, 3) := dk_180 0 109 (dk_at dksX0_ruleFor_0 14 rfl rfl)
theorem dX0_ruleFor_17 : decode cX0_ruleFor 17 = .ok (.iload_n 2, 1) := dk_28 (dk_at dksX0_ruleFor_0 17 rfl rfl)
theorem dX0_ruleFor_18 : decode cX0_ruleFor 18 = .ok (.invokevirtual 88, 3) := dk_182 0 88 (dk_at dksX0_ruleFor_0 18 rfl rfl)
theorem dX0_ruleFor_21 : decode cX0_ruleFor 21 = .ok (.checkcast 92, 3) := dk_192 0 92 (dk_at dksX0_ruleFor_0 21 rfl rfl)
theorem dX0_ruleFor_24 : decode cX0_ruleFor 24 = .ok (.aload_n 1, 1) := dk_43 (dk_at dksX0_ruleFor_1 0 rfl rfl)
theorem dX0_ruleFor_25 : decode cX0_ruleFor 25 = .ok (.invokevirtual 167, 3) := dk_182 0 167 (dk_at dksX0_ruleFor_1 1 rfl rfl)
theorem dX0_ruleFor_28 : decode cX0_ruleFor 28 = .ok (.ifCond .eq 5, 3) := dk_153 0 5 (dk_at dksX0_ruleFor_1 4 rfl rfl)
theorem dX0_ruleFor_31 : decode cX0_ruleFor 31 = .ok (.iload_n 2, 1) := dk_28 (dk_at dksX0_ruleFor_1 7 rfl rfl)
theorem dX0_ruleFor_32 : decode cX0_ruleFor 32 = .ok (.ireturn, 1) := dk_172 (dk_at dksX0_ruleFor_1 8 rfl rfl)
theorem dX0_ruleFor_33 : decode cX0_ruleFor 33 = .ok (.iinc 2 1, 3) := dk_132 2 1 (dk_at dksX0_ruleFor_1 9 rfl rfl)
theorem dX0_ruleFor_36 : decode cX0_ruleFor 36 = .ok (.goto (-34), 3) := dk_167 255 222 (dk_at dksX0_ruleFor_1 12 rfl rfl)
theorem dX0_ruleFor_39 : decode cX0_ruleFor 39 = .ok (.bipush (-9), 2) := dk_16 247 (dk_at dksX0_ruleFor_1 15 rfl rfl)
theorem dX0_ruleFor_41 : decode cX0_ruleFor 41 = .ok (.ireturn, 1) := dk_172 (dk_at dksX0_ruleFor_1 17 rfl rfl)
abbrev cX0_ready : ByteArray := prog_1_method_17_code
def yX0_ready : MethodName := ⟨RX0, "ready", "(I)I"⟩
def dkwX0_ready_0 : List UInt8 := [42, 180, 0, 59, 199, 0, 8, 16, 253, 167, 0, 9, 42, 27, 3, 182, 0, 182, 172]
abbrev dktX0_ready_0 : List UInt8 := dkwX0_ready_0 ++ []
theorem dksX0_ready_0 : cX0_ready.data.toList.drop 0 = dktX0_ready_0 := by decide +kernel
theorem dX0_ready_0 : decode cX0_ready 0 = .ok (.aload_n 0, 1) := dk_42 (dk_at dksX0_ready_0 0 rfl rfl)
theorem dX0_ready_1 : decode cX0_ready 1 = .ok (.getfield 59, 3) := dk_180 0 59 (dk_at dksX0_ready_0 1 rfl rfl)
theorem dX0_ready_4 : decode cX0_ready 4 = .ok (.ifnonnull 8, 3) := dk_199 0 8 (dk_at dksX0_ready_0 4 rfl rfl)
theorem dX0_ready_7 : decode cX0_ready 7 = .ok (.bipush (-3), 2) := dk_16 253 (dk_at dksX0_ready_0 7 rfl rfl)
theorem dX0_ready_9 : decode cX0_ready 9 = .ok (.goto 9, 3) := dk_167 0 9 (dk_at dksX0_ready_0 9 rfl rfl)
theorem dX0_ready_12 : decode cX0_ready 12 = .ok (.aload_n 0, 1) := dk_42 (dk_at dksX0_ready_0 12 rfl rfl)
theorem dX0_ready_13 : decode cX0_ready 13 = .ok (.iload_n 1, 1) := dk_27 (dk_at dksX0_ready_0 13 rfl rfl)
theorem dX0_ready_14 : decode cX0_ready 14 = .ok (.iconst 0, 1) := dk_3 (dk_at dksX0_ready_0 14 rfl rfl)
theorem dX0_ready_15 : decode cX0_ready 15 = .ok (.invokevirtual 182, 3) := dk_182 0 182 (dk_at dksX0_ready_0 15 rfl rfl)
theorem dX0_ready_18 : decode cX0_ready 18 = .ok (.ireturn, 1) := dk_172 (dk_at dksX0_ready_0 18 rfl rfl)
abbrev cX0_find : ByteArray := prog_1_method_16_code
def yX0_find : MethodName := ⟨RX0, "find", "(IZ)I"⟩
def dkwX0_find_2 : List UInt8 := [154, 0, 8, 29, 27, 160, 0, 7, 21, 5, 54, 4, 132, 3, 1, 132, 5, 1, 167, 255, 199, 21, 4, 172]
abbrev dktX0_find_2 : List UInt8 := dkwX0_find_2 ++ []
def dkwX0_find_1 : List UInt8 := [50, 182, 0, 140, 6, 160, 0, 34, 42, 42, 180, 0, 32, 21, 5, 50, 182, 0, 179, 5, 160, 0, 19, 28]
abbrev dktX0_find_1 : List UInt8 := dkwX0_find_1 ++ dktX0_find_2
def dkwX0_find_0 : List UInt8 := [3, 62, 16, 247, 54, 4, 3, 54, 5, 21, 5, 42, 180, 0, 67, 162, 0, 54, 42, 180, 0, 32, 21, 5]
abbrev dktX0_find_0 : List UInt8 := dkwX0_find_0 ++ dktX0_find_1
theorem dksX0_find_0 : cX0_find.data.toList.drop 0 = dktX0_find_0 := by decide +kernel
theorem dksX0_find_1 : cX0_find.data.toList.drop 24 = dktX0_find_1 := dk_seg dksX0_find_0 24 rfl rfl
theorem dksX0_find_2 : cX0_find.data.toList.drop 48 = dktX0_find_2 := dk_seg dksX0_find_1 24 rfl rfl
theorem dX0_find_0 : decode cX0_find 0 = .ok (.iconst 0, 1) := dk_3 (dk_at dksX0_find_0 0 rfl rfl)
theorem dX0_find_1 : decode cX0_find 1 = .ok (.istore_n 3, 1) := dk_62 (dk_at dksX0_find_0 1 rfl rfl)
theorem dX0_find_2 : decode cX0_find 2 = .ok (.bipush (-9), 2) := dk_16 247 (dk_at dksX0_find_0 2 rfl rfl)
theorem dX0_find_4 : decode cX0_find 4 = .ok (.istore 4, 2) := dk_54 4 (dk_at dksX0_find_0 4 rfl rfl)
theorem dX0_find_6 : decode cX0_find 6 = .ok (.iconst 0, 1) := dk_3 (dk_at dksX0_find_0 6 rfl rfl)
theorem dX0_find_7 : decode cX0_find 7 = .ok (.istore 5, 2) := dk_54 5 (dk_at dksX0_find_0 7 rfl rfl)
theorem dX0_find_9 : decode cX0_find 9 = .ok (.iload 5, 2) := dk_21 5 (dk_at dksX0_find_0 9 rfl rfl)
theorem dX0_find_11 : decode cX0_find 11 = .ok (.aload_n 0, 1) := dk_42 (dk_at dksX0_find_0 11 rfl rfl)
theorem dX0_find_12 : decode cX0_find 12 = .ok (.getfield 67, 3) := dk_180 0 67 (dk_at dksX0_find_0 12 rfl rfl)
theorem dX0_find_15 : decode cX0_find 15 = .ok (.if_icmp .ge 54, 3) := dk_162 0 54 (dk_at dksX0_find_0 15 rfl rfl)
theorem dX0_find_18 : decode cX0_find 18 = .ok (.aload_n 0, 1) := dk_42 (dk_at dksX0_find_0 18 rfl rfl)
theorem dX0_find_19 : decode cX0_find 19 = .ok (.getfield 32, 3) := dk_180 0 32 (dk_at dksX0_find_0 19 rfl rfl)
theorem dX0_find_22 : decode cX0_find 22 = .ok (.iload 5, 2) := dk_21 5 (dk_at dksX0_find_0 22 rfl rfl)
theorem dX0_find_24 : decode cX0_find 24 = .ok (.aaload, 1) := dk_50 (dk_at dksX0_find_1 0 rfl rfl)
theorem dX0_find_25 : decode cX0_find 25 = .ok (.invokevirtual 140, 3) := dk_182 0 140 (dk_at dksX0_find_1 1 rfl rfl)
theorem dX0_find_28 : decode cX0_find 28 = .ok (.iconst 3, 1) := dk_6 (dk_at dksX0_find_1 4 rfl rfl)
theorem dX0_find_29 : decode cX0_find 29 = .ok (.if_icmp .ne 34, 3) := dk_160 0 34 (dk_at dksX0_find_1 5 rfl rfl)
theorem dX0_find_32 : decode cX0_find 32 = .ok (.aload_n 0, 1) := dk_42 (dk_at dksX0_find_1 8 rfl rfl)
theorem dX0_find_33 : decode cX0_find 33 = .ok (.aload_n 0, 1) := dk_42 (dk_at dksX0_find_1 9 rfl rfl)
theorem dX0_find_34 : decode cX0_find 34 = .ok (.getfield 32, 3) := dk_180 0 32 (dk_at dksX0_find_1 10 rfl rfl)
theorem dX0_find_37 : decode cX0_find 37 = .ok (.iload 5, 2) := dk_21 5 (dk_at dksX0_find_1 13 rfl rfl)
theorem dX0_find_39 : decode cX0_find 39 = .ok (.aaload, 1) := dk_50 (dk_at dksX0_find_1 15 rfl rfl)
theorem dX0_find_40 : decode cX0_find 40 = .ok (.invokevirtual 179, 3) := dk_182 0 179 (dk_at dksX0_find_1 16 rfl rfl)
theorem dX0_find_43 : decode cX0_find 43 = .ok (.iconst 2, 1) := dk_5 (dk_at dksX0_find_1 19 rfl rfl)
theorem dX0_find_44 : decode cX0_find 44 = .ok (.if_icmp .ne 19, 3) := dk_160 0 19 (dk_at dksX0_find_1 20 rfl rfl)
theorem dX0_find_47 : decode cX0_find 47 = .ok (.iload_n 2, 1) := dk_28 (dk_at dksX0_find_1 23 rfl rfl)
theorem dX0_find_48 : decode cX0_find 48 = .ok (.ifCond .ne 8, 3) := dk_154 0 8 (dk_at dksX0_find_2 0 rfl rfl)
theorem dX0_find_51 : decode cX0_find 51 = .ok (.iload_n 3, 1) := dk_29 (dk_at dksX0_find_2 3 rfl rfl)
theorem dX0_find_52 : decode cX0_find 52 = .ok (.iload_n 1, 1) := dk_27 (dk_at dksX0_find_2 4 rfl rfl)
theorem dX0_find_53 : decode cX0_find 53 = .ok (.if_icmp .ne 7, 3) := dk_160 0 7 (dk_at dksX0_find_2 5 rfl rfl)
theorem dX0_find_56 : decode cX0_find 56 = .ok (.iload 5, 2) := dk_21 5 (dk_at dksX0_find_2 8 rfl rfl)
theorem dX0_find_58 : decode cX0_find 58 = .ok (.istore 4, 2) := dk_54 4 (dk_at dksX0_find_2 10 rfl rfl)
theorem dX0_find_60 : decode cX0_find 60 = .ok (.iinc 3 1, 3) := dk_132 3 1 (dk_at dksX0_find_2 12 rfl rfl)
theorem dX0_find_63 : decode cX0_find 63 = .ok (.iinc 5 1, 3) := dk_132 5 1 (dk_at dksX0_find_2 15 rfl rfl)
theorem dX0_find_66 : decode cX0_find 66 = .ok (.goto (-57), 3) := dk_167 255 199 (dk_at dksX0_find_2 18 rfl rfl)
theorem dX0_find_69 : decode cX0_find 69 = .ok (.iload 4, 2) := dk_21 4 (dk_at dksX0_find_2 21 rfl rfl)
theorem dX0_find_71 : decode cX0_find 71 = .ok (.ireturn, 1) := dk_172 (dk_at dksX0_find_2 23 rfl rfl)
abbrev cX0_unfold : ByteArray := prog_1_method_20_code
def yX0_unfold : MethodName := ⟨RX0, "unfold", "(I)I"⟩
def dkwX0_unfold_1 : List UInt8 := [5, 160, 0, 19, 42, 42, 180, 0, 32, 27, 50, 192, 0, 157, 182, 0, 232, 167, 0, 5, 16, 253, 172]
abbrev dktX0_unfold_1 : List UInt8 := dkwX0_unfold_1 ++ []
def dkwX0_unfold_0 : List UInt8 := [42, 27, 182, 0, 136, 153, 0, 9, 42, 27, 182, 0, 136, 172, 42, 42, 180, 0, 32, 27, 50, 182, 0, 179]
abbrev dktX0_unfold_0 : List UInt8 := dkwX0_unfold_0 ++ dktX0_unfold_1
theorem dksX0_unfold_0 : cX0_unfold.data.toList.drop 0 = dktX0_unfold_0 := by decide +kernel
theorem dksX0_unfold_1 : cX0_unfold.data.toList.drop 24 = dktX0_unfold_1 := dk_seg dksX0_unfold_0 24 rfl rfl
theorem dX0_unfold_0 : decode cX0_unfold 0 = .ok (.aload_n 0, 1) := dk_42 (dk_at dksX0_unfold_0 0 rfl rfl)
theorem dX0_unfold_1 : decode cX0_unfold 1 = .ok (.iload_n 1, 1) := dk_27 (dk_at dksX0_unfold_0 1 rfl rfl)
theorem dX0_unfold_2 : decode cX0_unfold 2 = .ok (.invokevirtual 136, 3) := dk_182 0 136 (dk_at dksX0_unfold_0 2 rfl rfl)
theorem dX0_unfold_5 : decode cX0_unfold 5 = .ok (.ifCond .eq 9, 3) := dk_153 0 9 (dk_at dksX0_unfold_0 5 rfl rfl)
theorem dX0_unfold_8 : decode cX0_unfold 8 = .ok (.aload_n 0, 1) := dk_42 (dk_at dksX0_unfold_0 8 rfl rfl)
theorem dX0_unfold_9 : decode cX0_unfold 9 = .ok (.iload_n 1, 1) := dk_27 (dk_at dksX0_unfold_0 9 rfl rfl)
theorem dX0_unfold_10 : decode cX0_unfold 10 = .ok (.invokevirtual 136, 3) := dk_182 0 136 (dk_at dksX0_unfold_0 10 rfl rfl)
theorem dX0_unfold_13 : decode cX0_unfold 13 = .ok (.ireturn, 1) := dk_172 (dk_at dksX0_unfold_0 13 rfl rfl)
theorem dX0_unfold_14 : decode cX0_unfold 14 = .ok (.aload_n 0, 1) := dk_42 (dk_at dksX0_unfold_0 14 rfl rfl)
theorem dX0_unfold_15 : decode cX0_unfold 15 = .ok (.aload_n 0, 1) := dk_42 (dk_at dksX0_unfold_0 15 rfl rfl)
theorem dX0_unfold_16 : decode cX0_unfold 16 = .ok (.getfield 32, 3) := dk_180 0 32 (dk_at dksX0_unfold_0 16 rfl rfl)
theorem dX0_unfold_19 : decode cX0_unfold 19 = .ok (.iload_n 1, 1) := dk_27 (dk_at dksX0_unfold_0 19 rfl rfl)
theorem dX0_unfold_20 : decode cX0_unfold 20 = .ok (.aaload, 1) := dk_50 (dk_at dksX0_unfold_0 20 rfl rfl)
theorem dX0_unfold_21 : decode cX0_unfold 21 = .ok (.invokevirtual 179, 3) := dk_182 0 179 (dk_at dksX0_unfold_0 21 rfl rfl)
theorem dX0_unfold_24 : decode cX0_unfold 24 = .ok (.iconst 2, 1) := dk_5 (dk_at dksX0_unfold_1 0 rfl rfl)
theorem dX0_unfold_25 : decode cX0_unfold 25 = .ok (.if_icmp .ne 19, 3) := dk_160 0 19 (dk_at dksX0_unfold_1 1 rfl rfl)
theorem dX0_unfold_28 : decode cX0_unfold 28 = .ok (.aload_n 0, 1) := dk_42 (dk_at dksX0_unfold_1 4 rfl rfl)
theorem dX0_unfold_29 : decode cX0_unfold 29 = .ok (.aload_n 0, 1) := dk_42 (dk_at dksX0_unfold_1 5 rfl rfl)
theorem dX0_unfold_30 : decode cX0_unfold 30 = .ok (.getfield 32, 3) := dk_180 0 32 (dk_at dksX0_unfold_1 6 rfl rfl)
theorem dX0_unfold_33 : decode cX0_unfold 33 = .ok (.iload_n 1, 1) := dk_27 (dk_at dksX0_unfold_1 9 rfl rfl)
theorem dX0_unfold_34 : decode cX0_unfold 34 = .ok (.aaload, 1) := dk_50 (dk_at dksX0_unfold_1 10 rfl rfl)
theorem dX0_unfold_35 : decode cX0_unfold 35 = .ok (.checkcast 157, 3) := dk_192 0 157 (dk_at dksX0_unfold_1 11 rfl rfl)
theorem dX0_unfold_38 : decode cX0_unfold 38 = .ok (.invokevirtual 232, 3) := dk_182 0 232 (dk_at dksX0_unfold_1 14 rfl rfl)
theorem dX0_unfold_41 : decode cX0_unfold 41 = .ok (.goto 5, 3) := dk_167 0 5 (dk_at dksX0_unfold_1 17 rfl rfl)
theorem dX0_unfold_44 : decode cX0_unfold 44 = .ok (.bipush (-3), 2) := dk_16 253 (dk_at dksX0_unfold_1 20 rfl rfl)
theorem dX0_unfold_46 : decode cX0_unfold 46 = .ok (.ireturn, 1) := dk_172 (dk_at dksX0_unfold_1 22 rfl rfl)
abbrev cX0_unfold_2 : ByteArray := prog_1_method_18_code
def yX0_unfold_2 : MethodName := ⟨RX0, "unfold", "(LMacroGlass$List;)I"⟩
def dkwX0_unfold_2_6 : List UInt8 := [182, 0, 85, 184, 0, 219, 181, 0, 113, 42, 43, 25, 6, 182, 0, 225, 28, 172]
abbrev dktX0_unfold_2_6 : List UInt8 := dkwX0_unfold_2_6 ++ []
def dkwX0_unfold_2_5 : List UInt8 := [187, 0, 210, 89, 28, 43, 25, 6, 183, 0, 212, 182, 0, 215, 87, 42, 16, 6, 42, 180, 0, 26]
abbrev dktX0_unfold_2_5 : List UInt8 := dkwX0_unfold_2_5 ++ dktX0_unfold_2_6
def dkwX0_unfold_2_4 : List UInt8 := [25, 4, 182, 0, 206, 58, 6, 42, 89, 180, 0, 203, 21, 5, 96, 181, 0, 203, 42, 180, 0, 26]
abbrev dktX0_unfold_2_4 : List UInt8 := dkwX0_unfold_2_4 ++ dktX0_unfold_2_5
def dkwX0_unfold_2_3 : List UInt8 := [17, 1, 44, 159, 0, 16, 42, 180, 0, 203, 21, 5, 96, 17, 117, 48, 164, 0, 6, 16, 252, 172, 45]
abbrev dktX0_unfold_2_3 : List UInt8 := dkwX0_unfold_2_3 ++ dktX0_unfold_2_4
def dkwX0_unfold_2_2 : List UInt8 := [180, 0, 67, 43, 182, 0, 200, 100, 21, 5, 96, 17, 1, 244, 163, 0, 29, 42, 180, 0, 26, 182, 0, 85]
abbrev dktX0_unfold_2_2 : List UInt8 := dkwX0_unfold_2_2 ++ dktX0_unfold_2_3
def dkwX0_unfold_2_1 : List UInt8 := [182, 0, 85, 4, 96, 182, 0, 186, 58, 4, 45, 180, 0, 190, 25, 4, 182, 0, 194, 54, 5, 42]
abbrev dktX0_unfold_2_1 : List UInt8 := dkwX0_unfold_2_1 ++ dktX0_unfold_2_2
def dkwX0_unfold_2_0 : List UInt8 := [42, 43, 182, 0, 175, 61, 42, 180, 0, 109, 28, 182, 0, 88, 192, 0, 92, 78, 45, 43, 42, 180, 0, 26]
abbrev dktX0_unfold_2_0 : List UInt8 := dkwX0_unfold_2_0 ++ dktX0_unfold_2_1
theorem dksX0_unfold_2_0 : cX0_unfold_2.data.toList.drop 0 = dktX0_unfold_2_0 := by decide +kernel
theorem dksX0_unfold_2_1 : cX0_unfold_2.data.toList.drop 24 = dktX0_unfold_2_1 := dk_seg dksX0_unfold_2_0 24 rfl rfl
theorem dksX0_unfold_2_2 : cX0_unfold_2.data.toList.drop 46 = dktX0_unfold_2_2 := dk_seg dksX0_unfold_2_1 22 rfl rfl
theorem dksX0_unfold_2_3 : cX0_unfold_2.data.toList.drop 70 = dktX0_unfold_2_3 := dk_seg dksX0_unfold_2_2 24 rfl rfl
theorem dksX0_unfold_2_4 : cX0_unfold_2.data.toList.drop 93 = dktX0_unfold_2_4 := dk_seg dksX0_unfold_2_3 23 rfl rfl
theorem dksX0_unfold_2_5 : cX0_unfold_2.data.toList.drop 115 = dktX0_unfold_2_5 := dk_seg dksX0_unfold_2_4 22 rfl rfl
theorem dksX0_unfold_2_6 : cX0_unfold_2.data.toList.drop 137 = dktX0_unfold_2_6 := dk_seg dksX0_unfold_2_5 22 rfl rfl
theorem dX0_unfold_2_0 : decode cX0_unfold_2 0 = .ok (.aload_n 0, 1) := dk_42 (dk_at dksX0_unfold_2_0 0 rfl rfl)
theorem dX0_unfold_2_1 : decode cX0_unfold_2 1 = .ok (.aload_n 1, 1) := dk_43 (dk_at dksX0_unfold_2_0 1 rfl rfl)
theorem dX0_unfold_2_2 : decode cX0_unfold_2 2 = .ok (.invokevirtual 175, 3) := dk_182 0 175 (dk_at dksX0_unfold_2_0 2 rfl rfl)
theorem dX0_unfold_2_5 : decode cX0_unfold_2 5 = .ok (.istore_n 2, 1) := dk_61 (dk_at dksX0_unfold_2_0 5 rfl rfl)
theorem dX0_unfold_2_6 : decode cX0_unfold_2 6 = .ok (.aload_n 0, 1) := dk_42 (dk_at dksX0_unfold_2_0 6 rfl rfl)
theorem dX0_unfold_2_7 : decode cX0_unfold_2 7 = .ok (.getfield 109, 3) := dk_180 0 109 (dk_at dksX0_unfold_2_0 7 rfl rfl)
theorem dX0_unfold_2_10 : decode cX0_unfold_2 10 = .ok (.iload_n 2, 1) := dk_28 (dk_at dksX0_unfold_2_0 10 rfl rfl)
theorem dX0_unfold_2_11 : decode cX0_unfold_2 11 = .ok (.invokevirtual 88, 3) := dk_182 0 88 (dk_at dksX0_unfold_2_0 11 rfl rfl)
theorem dX0_unfold_2_14 : decode cX0_unfold_2 14 = .ok (.checkcast 92, 3) := dk_192 0 92 (dk_at dksX0_unfold_2_0 14 rfl rfl)
theorem dX0_unfold_2_17 : decode cX0_unfold_2 17 = .ok (.astore_n 3, 1) := dk_78 (dk_at dksX0_unfold_2_0 17 rfl rfl)
theorem dX0_unfold_2_18 : decode cX0_unfold_2 18 = .ok (.aload_n 3, 1) := dk_45 (dk_at dksX0_unfold_2_0 18 rfl rfl)
theorem dX0_unfold_2_19 : decode cX0_unfold_2 19 = .ok (.aload_n 1, 1) := dk_43 (dk_at dksX0_unfold_2_0 19 rfl rfl)
theorem dX0_unfold_2_20 : decode cX0_unfold_2 20 = .ok (.aload_n 0, 1) := dk_42 (dk_at dksX0_unfold_2_0 20 rfl rfl)
theorem dX0_unfold_2_21 : decode cX0_unfold_2 21 = .ok (.getfield 26, 3) := dk_180 0 26 (dk_at dksX0_unfold_2_0 21 rfl rfl)
theorem dX0_unfold_2_24 : decode cX0_unfold_2 24 = .ok (.invokevirtual 85, 3) := dk_182 0 85 (dk_at dksX0_unfold_2_1 0 rfl rfl)
theorem dX0_unfold_2_27 : decode cX0_unfold_2 27 = .ok (.iconst 1, 1) := dk_4 (dk_at dksX0_unfold_2_1 3 rfl rfl)
theorem dX0_unfold_2_28 : decode cX0_unfold_2 28 = .ok (.iadd, 1) := dk_96 (dk_at dksX0_unfold_2_1 4 rfl rfl)
theorem dX0_unfold_2_29 : decode cX0_unfold_2 29 = .ok (.invokevirtual 186, 3) := dk_182 0 186 (dk_at dksX0_unfold_2_1 5 rfl rfl)
theorem dX0_unfold_2_32 : decode cX0_unfold_2 32 = .ok (.astore 4, 2) := dk_58 4 (dk_at dksX0_unfold_2_1 8 rfl rfl)
theorem dX0_unfold_2_34 : decode cX0_unfold_2 34 = .ok (.aload_n 3, 1) := dk_45 (dk_at dksX0_unfold_2_1 10 rfl rfl)
theorem dX0_unfold_2_35 : decode cX0_unfold_2 35 = .ok (.getfield 190, 3) := dk_180 0 190 (dk_at dksX0_unfold_2_1 11 rfl rfl)
theorem dX0_unfold_2_38 : decode cX0_unfold_2 38 = .ok (.aload 4, 2) := dk_25 4 (dk_at dksX0_unfold_2_1 14 rfl rfl)
theorem dX0_unfold_2_40 : decode cX0_unfold_2 40 = .ok (.invokevirtual 194, 3) := dk_182 0 194 (dk_at dksX0_unfold_2_1 16 rfl rfl)
theorem dX0_unfold_2_43 : decode cX0_unfold_2 43 = .ok (.istore 5, 2) := dk_54 5 (dk_at dksX0_unfold_2_1 19 rfl rfl)
theorem dX0_unfold_2_45 : decode cX0_unfold_2 45 = .ok (.aload_n 0, 1) := dk_42 (dk_at dksX0_unfold_2_1 21 rfl rfl)
theorem dX0_unfold_2_46 : decode cX0_unfold_2 46 = .ok (.getfield 67, 3) := dk_180 0 67 (dk_at dksX0_unfold_2_2 0 rfl rfl)
theorem dX0_unfold_2_49 : decode cX0_unfold_2 49 = .ok (.aload_n 1, 1) := dk_43 (dk_at dksX0_unfold_2_2 3 rfl rfl)
theorem dX0_unfold_2_50 : decode cX0_unfold_2 50 = .ok (.invokevirtual 200, 3) := dk_182 0 200 (dk_at dksX0_unfold_2_2 4 rfl rfl)
theorem dX0_unfold_2_53 : decode cX0_unfold_2 53 = .ok (.isub, 1) := dk_100 (dk_at dksX0_unfold_2_2 7 rfl rfl)
theorem dX0_unfold_2_54 : decode cX0_unfold_2 54 = .ok (.iload 5, 2) := dk_21 5 (dk_at dksX0_unfold_2_2 8 rfl rfl)
theorem dX0_unfold_2_56 : decode cX0_unfold_2 56 = .ok (.iadd, 1) := dk_96 (dk_at dksX0_unfold_2_2 10 rfl rfl)
theorem dX0_unfold_2_57 : decode cX0_unfold_2 57 = .ok (.sipush 500, 3) := dk_17 1 244 (dk_at dksX0_unfold_2_2 11 rfl rfl)
theorem dX0_unfold_2_60 : decode cX0_unfold_2 60 = .ok (.if_icmp .gt 29, 3) := dk_163 0 29 (dk_at dksX0_unfold_2_2 14 rfl rfl)
theorem dX0_unfold_2_63 : decode cX0_unfold_2 63 = .ok (.aload_n 0, 1) := dk_42 (dk_at dksX0_unfold_2_2 17 rfl rfl)
theorem dX0_unfold_2_64 : decode cX0_unfold_2 64 = .ok (.getfield 26, 3) := dk_180 0 26 (dk_at dksX0_unfold_2_2 18 rfl rfl)
theorem dX0_unfold_2_67 : decode cX0_unfold_2 67 = .ok (.invokevirtual 85, 3) := dk_182 0 85 (dk_at dksX0_unfold_2_2 21 rfl rfl)
theorem dX0_unfold_2_70 : decode cX0_unfold_2 70 = .ok (.sipush 300, 3) := dk_17 1 44 (dk_at dksX0_unfold_2_3 0 rfl rfl)
theorem dX0_unfold_2_73 : decode cX0_unfold_2 73 = .ok (.if_icmp .eq 16, 3) := dk_159 0 16 (dk_at dksX0_unfold_2_3 3 rfl rfl)
theorem dX0_unfold_2_76 : decode cX0_unfold_2 76 = .ok (.aload_n 0, 1) := dk_42 (dk_at dksX0_unfold_2_3 6 rfl rfl)
theorem dX0_unfold_2_77 : decode cX0_unfold_2 77 = .ok (.getfield 203, 3) := dk_180 0 203 (dk_at dksX0_unfold_2_3 7 rfl rfl)
theorem dX0_unfold_2_80 : decode cX0_unfold_2 80 = .ok (.iload 5, 2) := dk_21 5 (dk_at dksX0_unfold_2_3 10 rfl rfl)
theorem dX0_unfold_2_82 : decode cX0_unfold_2 82 = .ok (.iadd, 1) := dk_96 (dk_at dksX0_unfold_2_3 12 rfl rfl)
theorem dX0_unfold_2_83 : decode cX0_unfold_2 83 = .ok (.sipush 30000, 3) := dk_17 117 48 (dk_at dksX0_unfold_2_3 13 rfl rfl)
theorem dX0_unfold_2_86 : decode cX0_unfold_2 86 = .ok (.if_icmp .le 6, 3) := dk_164 0 6 (dk_at dksX0_unfold_2_3 16 rfl rfl)
theorem dX0_unfold_2_89 : decode cX0_unfold_2 89 = .ok (.bipush (-4), 2) := dk_16 252 (dk_at dksX0_unfold_2_3 19 rfl rfl)
theorem dX0_unfold_2_91 : decode cX0_unfold_2 91 = .ok (.ireturn, 1) := dk_172 (dk_at dksX0_unfold_2_3 21 rfl rfl)
theorem dX0_unfold_2_92 : decode cX0_unfold_2 92 = .ok (.aload_n 3, 1) := dk_45 (dk_at dksX0_unfold_2_3 22 rfl rfl)
theorem dX0_unfold_2_93 : decode cX0_unfold_2 93 = .ok (.aload 4, 2) := dk_25 4 (dk_at dksX0_unfold_2_4 0 rfl rfl)
theorem dX0_unfold_2_95 : decode cX0_unfold_2 95 = .ok (.invokevirtual 206, 3) := dk_182 0 206 (dk_at dksX0_unfold_2_4 2 rfl rfl)
theorem dX0_unfold_2_98 : decode cX0_unfold_2 98 = .ok (.astore 6, 2) := dk_58 6 (dk_at dksX0_unfold_2_4 5 rfl rfl)
theorem dX0_unfold_2_100 : decode cX0_unfold_2 100 = .ok (.aload_n 0, 1) := dk_42 (dk_at dksX0_unfold_2_4 7 rfl rfl)
theorem dX0_unfold_2_101 : decode cX0_unfold_2 101 = .ok (.dup, 1) := dk_89 (dk_at dksX0_unfold_2_4 8 rfl rfl)
theorem dX0_unfold_2_102 : decode cX0_unfold_2 102 = .ok (.getfield 203, 3) := dk_180 0 203 (dk_at dksX0_unfold_2_4 9 rfl rfl)
theorem dX0_unfold_2_105 : decode cX0_unfold_2 105 = .ok (.iload 5, 2) := dk_21 5 (dk_at dksX0_unfold_2_4 12 rfl rfl)
theorem dX0_unfold_2_107 : decode cX0_unfold_2 107 = .ok (.iadd, 1) := dk_96 (dk_at dksX0_unfold_2_4 14 rfl rfl)
theorem dX0_unfold_2_108 : decode cX0_unfold_2 108 = .ok (.putfield 203, 3) := dk_181 0 203 (dk_at dksX0_unfold_2_4 15 rfl rfl)
theorem dX0_unfold_2_111 : decode cX0_unfold_2 111 = .ok (.aload_n 0, 1) := dk_42 (dk_at dksX0_unfold_2_4 18 rfl rfl)
theorem dX0_unfold_2_112 : decode cX0_unfold_2 112 = .ok (.getfield 26, 3) := dk_180 0 26 (dk_at dksX0_unfold_2_4 19 rfl rfl)
theorem dX0_unfold_2_115 : decode cX0_unfold_2 115 = .ok (.new 210, 3) := dk_187 0 210 (dk_at dksX0_unfold_2_5 0 rfl rfl)
theorem dX0_unfold_2_118 : decode cX0_unfold_2 118 = .ok (.dup, 1) := dk_89 (dk_at dksX0_unfold_2_5 3 rfl rfl)
theorem dX0_unfold_2_119 : decode cX0_unfold_2 119 = .ok (.iload_n 2, 1) := dk_28 (dk_at dksX0_unfold_2_5 4 rfl rfl)
theorem dX0_unfold_2_120 : decode cX0_unfold_2 120 = .ok (.aload_n 1, 1) := dk_43 (dk_at dksX0_unfold_2_5 5 rfl rfl)
theorem dX0_unfold_2_121 : decode cX0_unfold_2 121 = .ok (.aload 6, 2) := dk_25 6 (dk_at dksX0_unfold_2_5 6 rfl rfl)
theorem dX0_unfold_2_123 : decode cX0_unfold_2 123 = .ok (.invokespecial 212, 3) := dk_183 0 212 (dk_at dksX0_unfold_2_5 8 rfl rfl)
theorem dX0_unfold_2_126 : decode cX0_unfold_2 126 = .ok (.invokevirtual 215, 3) := dk_182 0 215 (dk_at dksX0_unfold_2_5 11 rfl rfl)
theorem dX0_unfold_2_129 : decode cX0_unfold_2 129 = .ok (.pop, 1) := dk_87 (dk_at dksX0_unfold_2_5 14 rfl rfl)
theorem dX0_unfold_2_130 : decode cX0_unfold_2 130 = .ok (.aload_n 0, 1) := dk_42 (dk_at dksX0_unfold_2_5 15 rfl rfl)
theorem dX0_unfold_2_131 : decode cX0_unfold_2 131 = .ok (.bipush 6, 2) := dk_16 6 (dk_at dksX0_unfold_2_5 16 rfl rfl)
theorem dX0_unfold_2_133 : decode cX0_unfold_2 133 = .ok (.aload_n 0, 1) := dk_42 (dk_at dksX0_unfold_2_5 18 rfl rfl)
theorem dX0_unfold_2_134 : decode cX0_unfold_2 134 = .ok (.getfield 26, 3) := dk_180 0 26 (dk_at dksX0_unfold_2_5 19 rfl rfl)
theorem dX0_unfold_2_137 : decode cX0_unfold_2 137 = .ok (.invokevirtual 85, 3) := dk_182 0 85 (dk_at dksX0_unfold_2_6 0 rfl rfl)
theorem dX0_unfold_2_140 : decode cX0_unfold_2 140 = .ok (.invokestatic 219, 3) := dk_184 0 219 (dk_at dksX0_unfold_2_6 3 rfl rfl)
theorem dX0_unfold_2_143 : decode cX0_unfold_2 143 = .ok (.putfield 113, 3) := dk_181 0 113 (dk_at dksX0_unfold_2_6 6 rfl rfl)
theorem dX0_unfold_2_146 : decode cX0_unfold_2 146 = .ok (.aload_n 0, 1) := dk_42 (dk_at dksX0_unfold_2_6 9 rfl rfl)
theorem dX0_unfold_2_147 : decode cX0_unfold_2 147 = .ok (.aload_n 1, 1) := dk_43 (dk_at dksX0_unfold_2_6 10 rfl rfl)
theorem dX0_unfold_2_148 : decode cX0_unfold_2 148 = .ok (.aload 6, 2) := dk_25 6 (dk_at dksX0_unfold_2_6 11 rfl rfl)
theorem dX0_unfold_2_150 : decode cX0_unfold_2 150 = .ok (.invokevirtual 225, 3) := dk_182 0 225 (dk_at dksX0_unfold_2_6 13 rfl rfl)
theorem dX0_unfold_2_153 : decode cX0_unfold_2 153 = .ok (.iload_n 2, 1) := dk_28 (dk_at dksX0_unfold_2_6 16 rfl rfl)
theorem dX0_unfold_2_154 : decode cX0_unfold_2 154 = .ok (.ireturn, 1) := dk_172 (dk_at dksX0_unfold_2_6 17 rfl rfl)
abbrev cX0_put : ByteArray := prog_1_method_19_code
def yX0_put : MethodName := ⟨RX0, "put", "(LMacroGlass$Item;LMacroGlass$Item;)V"⟩
def dkwX0_put_1 : List UInt8 := [43, 44, 182, 0, 229, 42, 182, 0, 119, 177]
abbrev dktX0_put_1 : List UInt8 := dkwX0_put_1 ++ []
def dkwX0_put_0 : List UInt8 := [44, 1, 181, 0, 153, 43, 180, 0, 153, 199, 0, 11, 42, 44, 181, 0, 59, 167, 0, 12, 43, 180, 0, 153]
abbrev dktX0_put_0 : List UInt8 := dkwX0_put_0 ++ dktX0_put_1
theorem dksX0_put_0 : cX0_put.data.toList.drop 0 = dktX0_put_0 := by decide +kernel
theorem dksX0_put_1 : cX0_put.data.toList.drop 24 = dktX0_put_1 := dk_seg dksX0_put_0 24 rfl rfl
theorem dX0_put_0 : decode cX0_put 0 = .ok (.aload_n 2, 1) := dk_44 (dk_at dksX0_put_0 0 rfl rfl)
theorem dX0_put_1 : decode cX0_put 1 = .ok (.aconst_null, 1) := dk_1 (dk_at dksX0_put_0 1 rfl rfl)
theorem dX0_put_2 : decode cX0_put 2 = .ok (.putfield 153, 3) := dk_181 0 153 (dk_at dksX0_put_0 2 rfl rfl)
theorem dX0_put_5 : decode cX0_put 5 = .ok (.aload_n 1, 1) := dk_43 (dk_at dksX0_put_0 5 rfl rfl)
theorem dX0_put_6 : decode cX0_put 6 = .ok (.getfield 153, 3) := dk_180 0 153 (dk_at dksX0_put_0 6 rfl rfl)
theorem dX0_put_9 : decode cX0_put 9 = .ok (.ifnonnull 11, 3) := dk_199 0 11 (dk_at dksX0_put_0 9 rfl rfl)
theorem dX0_put_12 : decode cX0_put 12 = .ok (.aload_n 0, 1) := dk_42 (dk_at dksX0_put_0 12 rfl rfl)
theorem dX0_put_13 : decode cX0_put 13 = .ok (.aload_n 2, 1) := dk_44 (dk_at dksX0_put_0 13 rfl rfl)
theorem dX0_put_14 : decode cX0_put 14 = .ok (.putfield 59, 3) := dk_181 0 59 (dk_at dksX0_put_0 14 rfl rfl)
theorem dX0_put_17 : decode cX0_put 17 = .ok (.goto 12, 3) := dk_167 0 12 (dk_at dksX0_put_0 17 rfl rfl)
theorem dX0_put_20 : decode cX0_put 20 = .ok (.aload_n 1, 1) := dk_43 (dk_at dksX0_put_0 20 rfl rfl)
theorem dX0_put_21 : decode cX0_put 21 = .ok (.getfield 153, 3) := dk_180 0 153 (dk_at dksX0_put_0 21 rfl rfl)
theorem dX0_put_24 : decode cX0_put 24 = .ok (.aload_n 1, 1) := dk_43 (dk_at dksX0_put_1 0 rfl rfl)
theorem dX0_put_25 : decode cX0_put 25 = .ok (.aload_n 2, 1) := dk_44 (dk_at dksX0_put_1 1 rfl rfl)
theorem dX0_put_26 : decode cX0_put 26 = .ok (.invokevirtual 229, 3) := dk_182 0 229 (dk_at dksX0_put_1 2 rfl rfl)
theorem dX0_put_29 : decode cX0_put 29 = .ok (.aload_n 0, 1) := dk_42 (dk_at dksX0_put_1 5 rfl rfl)
theorem dX0_put_30 : decode cX0_put 30 = .ok (.invokevirtual 119, 3) := dk_182 0 119 (dk_at dksX0_put_1 6 rfl rfl)
theorem dX0_put_33 : decode cX0_put 33 = .ok (.return_, 1) := dk_177 (dk_at dksX0_put_1 9 rfl rfl)
abbrev cX0_run : ByteArray := prog_1_method_21_code
def yX0_run : MethodName := ⟨RX0, "run", "(IZ)I"⟩
def dkwX0_run_3 : List UInt8 := [167, 255, 212, 27, 172]
abbrev dktX0_run_3 : List UInt8 := dkwX0_run_3 ++ []
def dkwX0_run_2 : List UInt8 := [42, 180, 0, 32, 21, 4, 50, 192, 0, 157, 182, 0, 232, 16, 252, 160, 0, 5, 29, 172, 132, 3, 1]
abbrev dktX0_run_2 : List UInt8 := dkwX0_run_2 ++ dktX0_run_3
def dkwX0_run_1 : List UInt8 := [172, 3, 62, 29, 27, 162, 0, 45, 42, 3, 28, 182, 0, 182, 54, 4, 21, 4, 16, 247, 159, 0, 22, 42]
abbrev dktX0_run_1 : List UInt8 := dkwX0_run_1 ++ dktX0_run_2
def dkwX0_run_0 : List UInt8 := [42, 180, 0, 59, 199, 0, 6, 16, 253, 172, 27, 133, 10, 20, 0, 235, 184, 0, 124, 154, 0, 6, 16, 254]
abbrev dktX0_run_0 : List UInt8 := dkwX0_run_0 ++ dktX0_run_1
theorem dksX0_run_0 : cX0_run.data.toList.drop 0 = dktX0_run_0 := by decide +kernel
theorem dksX0_run_1 : cX0_run.data.toList.drop 24 = dktX0_run_1 := dk_seg dksX0_run_0 24 rfl rfl
theorem dksX0_run_2 : cX0_run.data.toList.drop 48 = dktX0_run_2 := dk_seg dksX0_run_1 24 rfl rfl
theorem dksX0_run_3 : cX0_run.data.toList.drop 71 = dktX0_run_3 := dk_seg dksX0_run_2 23 rfl rfl
theorem dX0_run_0 : decode cX0_run 0 = .ok (.aload_n 0, 1) := dk_42 (dk_at dksX0_run_0 0 rfl rfl)
theorem dX0_run_1 : decode cX0_run 1 = .ok (.getfield 59, 3) := dk_180 0 59 (dk_at dksX0_run_0 1 rfl rfl)
theorem dX0_run_4 : decode cX0_run 4 = .ok (.ifnonnull 6, 3) := dk_199 0 6 (dk_at dksX0_run_0 4 rfl rfl)
theorem dX0_run_7 : decode cX0_run 7 = .ok (.bipush (-3), 2) := dk_16 253 (dk_at dksX0_run_0 7 rfl rfl)
theorem dX0_run_9 : decode cX0_run 9 = .ok (.ireturn, 1) := dk_172 (dk_at dksX0_run_0 9 rfl rfl)
theorem dX0_run_10 : decode cX0_run 10 = .ok (.iload_n 1, 1) := dk_27 (dk_at dksX0_run_0 10 rfl rfl)
theorem dX0_run_11 : decode cX0_run 11 = .ok (.i2l, 1) := dk_133 (dk_at dksX0_run_0 11 rfl rfl)
theorem dX0_run_12 : decode cX0_run 12 = .ok (.lconst 1, 1) := dk_10 (dk_at dksX0_run_0 12 rfl rfl)
theorem dX0_run_13 : decode cX0_run 13 = .ok (.ldc2_w 235, 3) := dk_20 0 235 (dk_at dksX0_run_0 13 rfl rfl)
theorem dX0_run_16 : decode cX0_run 16 = .ok (.invokestatic 124, 3) := dk_184 0 124 (dk_at dksX0_run_0 16 rfl rfl)
theorem dX0_run_19 : decode cX0_run 19 = .ok (.ifCond .ne 6, 3) := dk_154 0 6 (dk_at dksX0_run_0 19 rfl rfl)
theorem dX0_run_22 : decode cX0_run 22 = .ok (.bipush (-2), 2) := dk_16 254 (dk_at dksX0_run_0 22 rfl rfl)
theorem dX0_run_24 : decode cX0_run 24 = .ok (.ireturn, 1) := dk_172 (dk_at dksX0_run_1 0 rfl rfl)
theorem dX0_run_25 : decode cX0_run 25 = .ok (.iconst 0, 1) := dk_3 (dk_at dksX0_run_1 1 rfl rfl)
theorem dX0_run_26 : decode cX0_run 26 = .ok (.istore_n 3, 1) := dk_62 (dk_at dksX0_run_1 2 rfl rfl)
theorem dX0_run_27 : decode cX0_run 27 = .ok (.iload_n 3, 1) := dk_29 (dk_at dksX0_run_1 3 rfl rfl)
theorem dX0_run_28 : decode cX0_run 28 = .ok (.iload_n 1, 1) := dk_27 (dk_at dksX0_run_1 4 rfl rfl)
theorem dX0_run_29 : decode cX0_run 29 = .ok (.if_icmp .ge 45, 3) := dk_162 0 45 (dk_at dksX0_run_1 5 rfl rfl)
theorem dX0_run_32 : decode cX0_run 32 = .ok (.aload_n 0, 1) := dk_42 (dk_at dksX0_run_1 8 rfl rfl)
theorem dX0_run_33 : decode cX0_run 33 = .ok (.iconst 0, 1) := dk_3 (dk_at dksX0_run_1 9 rfl rfl)
theorem dX0_run_34 : decode cX0_run 34 = .ok (.iload_n 2, 1) := dk_28 (dk_at dksX0_run_1 10 rfl rfl)
theorem dX0_run_35 : decode cX0_run 35 = .ok (.invokevirtual 182, 3) := dk_182 0 182 (dk_at dksX0_run_1 11 rfl rfl)
theorem dX0_run_38 : decode cX0_run 38 = .ok (.istore 4, 2) := dk_54 4 (dk_at dksX0_run_1 14 rfl rfl)
theorem dX0_run_40 : decode cX0_run 40 = .ok (.iload 4, 2) := dk_21 4 (dk_at dksX0_run_1 16 rfl rfl)
theorem dX0_run_42 : decode cX0_run 42 = .ok (.bipush (-9), 2) := dk_16 247 (dk_at dksX0_run_1 18 rfl rfl)
theorem dX0_run_44 : decode cX0_run 44 = .ok (.if_icmp .eq 22, 3) := dk_159 0 22 (dk_at dksX0_run_1 20 rfl rfl)
theorem dX0_run_47 : decode cX0_run 47 = .ok (.aload_n 0, 1) := dk_42 (dk_at dksX0_run_1 23 rfl rfl)
theorem dX0_run_48 : decode cX0_run 48 = .ok (.aload_n 0, 1) := dk_42 (dk_at dksX0_run_2 0 rfl rfl)
theorem dX0_run_49 : decode cX0_run 49 = .ok (.getfield 32, 3) := dk_180 0 32 (dk_at dksX0_run_2 1 rfl rfl)
theorem dX0_run_52 : decode cX0_run 52 = .ok (.iload 4, 2) := dk_21 4 (dk_at dksX0_run_2 4 rfl rfl)
theorem dX0_run_54 : decode cX0_run 54 = .ok (.aaload, 1) := dk_50 (dk_at dksX0_run_2 6 rfl rfl)
theorem dX0_run_55 : decode cX0_run 55 = .ok (.checkcast 157, 3) := dk_192 0 157 (dk_at dksX0_run_2 7 rfl rfl)
theorem dX0_run_58 : decode cX0_run 58 = .ok (.invokevirtual 232, 3) := dk_182 0 232 (dk_at dksX0_run_2 10 rfl rfl)
theorem dX0_run_61 : decode cX0_run 61 = .ok (.bipush (-4), 2) := dk_16 252 (dk_at dksX0_run_2 13 rfl rfl)
theorem dX0_run_63 : decode cX0_run 63 = .ok (.if_icmp .ne 5, 3) := dk_160 0 5 (dk_at dksX0_run_2 15 rfl rfl)
theorem dX0_run_66 : decode cX0_run 66 = .ok (.iload_n 3, 1) := dk_29 (dk_at dksX0_run_2 18 rfl rfl)
theorem dX0_run_67 : decode cX0_run 67 = .ok (.ireturn, 1) := dk_172 (dk_at dksX0_run_2 19 rfl rfl)
theorem dX0_run_68 : decode cX0_run 68 = .ok (.iinc 3 1, 3) := dk_132 3 1 (dk_at dksX0_run_2 20 rfl rfl)
theorem dX0_run_71 : decode cX0_run 71 = .ok (.goto (-44), 3) := dk_167 255 212 (dk_at dksX0_run_3 0 rfl rfl)
theorem dX0_run_74 : decode cX0_run 74 = .ok (.iload_n 1, 1) := dk_27 (dk_at dksX0_run_3 3 rfl rfl)
theorem dX0_run_75 : decode cX0_run 75 = .ok (.ireturn, 1) := dk_172 (dk_at dksX0_run_3 4 rfl rfl)
abbrev cX0_back : ByteArray := prog_1_method_22_code
def yX0_back : MethodName := ⟨RX0, "back", "()I"⟩
def dkwX0_back_4 : List UInt8 := [182, 0, 119, 42, 180, 0, 26, 182, 0, 85, 172]
abbrev dktX0_back_4 : List UInt8 := dkwX0_back_4 ++ []
def dkwX0_back_3 : List UInt8 := [43, 180, 0, 242, 181, 0, 59, 167, 0, 15, 44, 43, 180, 0, 240, 43, 180, 0, 242, 182, 0, 229, 42]
abbrev dktX0_back_3 : List UInt8 := dkwX0_back_3 ++ dktX0_back_4
def dkwX0_back_2 : List UInt8 := [181, 0, 113, 43, 180, 0, 240, 180, 0, 153, 77, 43, 180, 0, 242, 44, 181, 0, 245, 44, 199, 0, 14, 42]
abbrev dktX0_back_2 : List UInt8 := dkwX0_back_2 ++ dktX0_back_3
def dkwX0_back_1 : List UInt8 := [180, 0, 26, 182, 0, 85, 4, 100, 182, 0, 237, 192, 0, 210, 76, 42, 89, 180, 0, 113, 4, 100]
abbrev dktX0_back_1 : List UInt8 := dkwX0_back_1 ++ dktX0_back_2
def dkwX0_back_0 : List UInt8 := [42, 180, 0, 59, 198, 0, 10, 42, 180, 0, 113, 154, 0, 6, 16, 253, 172, 42, 180, 0, 26, 42]
abbrev dktX0_back_0 : List UInt8 := dkwX0_back_0 ++ dktX0_back_1
theorem dksX0_back_0 : cX0_back.data.toList.drop 0 = dktX0_back_0 := by decide +kernel
theorem dksX0_back_1 : cX0_back.data.toList.drop 22 = dktX0_back_1 := dk_seg dksX0_back_0 22 rfl rfl
theorem dksX0_back_2 : cX0_back.data.toList.drop 44 = dktX0_back_2 := dk_seg dksX0_back_1 22 rfl rfl
theorem dksX0_back_3 : cX0_back.data.toList.drop 68 = dktX0_back_3 := dk_seg dksX0_back_2 24 rfl rfl
theorem dksX0_back_4 : cX0_back.data.toList.drop 91 = dktX0_back_4 := dk_seg dksX0_back_3 23 rfl rfl
theorem dX0_back_0 : decode cX0_back 0 = .ok (.aload_n 0, 1) := dk_42 (dk_at dksX0_back_0 0 rfl rfl)
theorem dX0_back_1 : decode cX0_back 1 = .ok (.getfield 59, 3) := dk_180 0 59 (dk_at dksX0_back_0 1 rfl rfl)
theorem dX0_back_4 : decode cX0_back 4 = .ok (.ifnull 10, 3) := dk_198 0 10 (dk_at dksX0_back_0 4 rfl rfl)
theorem dX0_back_7 : decode cX0_back 7 = .ok (.aload_n 0, 1) := dk_42 (dk_at dksX0_back_0 7 rfl rfl)
theorem dX0_back_8 : decode cX0_back 8 = .ok (.getfield 113, 3) := dk_180 0 113 (dk_at dksX0_back_0 8 rfl rfl)
theorem dX0_back_11 : decode cX0_back 11 = .ok (.ifCond .ne 6, 3) := dk_154 0 6 (dk_at dksX0_back_0 11 rfl rfl)
theorem dX0_back_14 : decode cX0_back 14 = .ok (.bipush (-3), 2) := dk_16 253 (dk_at dksX0_back_0 14 rfl rfl)
theorem dX0_back_16 : decode cX0_back 16 = .ok (.ireturn, 1) := dk_172 (dk_at dksX0_back_0 16 rfl rfl)
theorem dX0_back_17 : decode cX0_back 17 = .ok (.aload_n 0, 1) := dk_42 (dk_at dksX0_back_0 17 rfl rfl)
theorem dX0_back_18 : decode cX0_back 18 = .ok (.getfield 26, 3) := dk_180 0 26 (dk_at dksX0_back_0 18 rfl rfl)
theorem dX0_back_21 : decode cX0_back 21 = .ok (.aload_n 0, 1) := dk_42 (dk_at dksX0_back_0 21 rfl rfl)
theorem dX0_back_22 : decode cX0_back 22 = .ok (.getfield 26, 3) := dk_180 0 26 (dk_at dksX0_back_1 0 rfl rfl)
theorem dX0_back_25 : decode cX0_back 25 = .ok (.invokevirtual 85, 3) := dk_182 0 85 (dk_at dksX0_back_1 3 rfl rfl)
theorem dX0_back_28 : decode cX0_back 28 = .ok (.iconst 1, 1) := dk_4 (dk_at dksX0_back_1 6 rfl rfl)
theorem dX0_back_29 : decode cX0_back 29 = .ok (.isub, 1) := dk_100 (dk_at dksX0_back_1 7 rfl rfl)
theorem dX0_back_30 : decode cX0_back 30 = .ok (.invokevirtual 237, 3) := dk_182 0 237 (dk_at dksX0_back_1 8 rfl rfl)
theorem dX0_back_33 : decode cX0_back 33 = .ok (.checkcast 210, 3) := dk_192 0 210 (dk_at dksX0_back_1 11 rfl rfl)
theorem dX0_back_36 : decode cX0_back 36 = .ok (.astore_n 1, 1) := dk_76 (dk_at dksX0_back_1 14 rfl rfl)
theorem dX0_back_37 : decode cX0_back 37 = .ok (.aload_n 0, 1) := dk_42 (dk_at dksX0_back_1 15 rfl rfl)
theorem dX0_back_38 : decode cX0_back 38 = .ok (.dup, 1) := dk_89 (dk_at dksX0_back_1 16 rfl rfl)
theorem dX0_back_39 : decode cX0_back 39 = .ok (.getfield 113, 3) := dk_180 0 113 (dk_at dksX0_back_1 17 rfl rfl)
theorem dX0_back_42 : decode cX0_back 42 = .ok (.iconst 1, 1) := dk_4 (dk_at dksX0_back_1 20 rfl rfl)
theorem dX0_back_43 : decode cX0_back 43 = .ok (.isub, 1) := dk_100 (dk_at dksX0_back_1 21 rfl rfl)
theorem dX0_back_44 : decode cX0_back 44 = .ok (.putfield 113, 3) := dk_181 0 113 (dk_at dksX0_back_2 0 rfl rfl)
theorem dX0_back_47 : decode cX0_back 47 = .ok (.aload_n 1, 1) := dk_43 (dk_at dksX0_back_2 3 rfl rfl)
theorem dX0_back_48 : decode cX0_back 48 = .ok (.getfield 240, 3) := dk_180 0 240 (dk_at dksX0_back_2 4 rfl rfl)
theorem dX0_back_51 : decode cX0_back 51 = .ok (.getfield 153, 3) := dk_180 0 153 (dk_at dksX0_back_2 7 rfl rfl)
theorem dX0_back_54 : decode cX0_back 54 = .ok (.astore_n 2, 1) := dk_77 (dk_at dksX0_back_2 10 rfl rfl)
theorem dX0_back_55 : decode cX0_back 55 = .ok (.aload_n 1, 1) := dk_43 (dk_at dksX0_back_2 11 rfl rfl)
theorem dX0_back_56 : decode cX0_back 56 = .ok (.getfield 242, 3) := dk_180 0 242 (dk_at dksX0_back_2 12 rfl rfl)
theorem dX0_back_59 : decode cX0_back 59 = .ok (.aload_n 2, 1) := dk_44 (dk_at dksX0_back_2 15 rfl rfl)
theorem dX0_back_60 : decode cX0_back 60 = .ok (.putfield 245, 3) := dk_181 0 245 (dk_at dksX0_back_2 16 rfl rfl)
theorem dX0_back_63 : decode cX0_back 63 = .ok (.aload_n 2, 1) := dk_44 (dk_at dksX0_back_2 19 rfl rfl)
theorem dX0_back_64 : decode cX0_back 64 = .ok (.ifnonnull 14, 3) := dk_199 0 14 (dk_at dksX0_back_2 20 rfl rfl)
theorem dX0_back_67 : decode cX0_back 67 = .ok (.aload_n 0, 1) := dk_42 (dk_at dksX0_back_2 23 rfl rfl)
theorem dX0_back_68 : decode cX0_back 68 = .ok (.aload_n 1, 1) := dk_43 (dk_at dksX0_back_3 0 rfl rfl)
theorem dX0_back_69 : decode cX0_back 69 = .ok (.getfield 242, 3) := dk_180 0 242 (dk_at dksX0_back_3 1 rfl rfl)
theorem dX0_back_72 : decode cX0_back 72 = .ok (.putfield 59, 3) := dk_181 0 59 (dk_at dksX0_back_3 4 rfl rfl)
theorem dX0_back_75 : decode cX0_back 75 = .ok (.goto 15, 3) := dk_167 0 15 (dk_at dksX0_back_3 7 rfl rfl)
theorem dX0_back_78 : decode cX0_back 78 = .ok (.aload_n 2, 1) := dk_44 (dk_at dksX0_back_3 10 rfl rfl)
theorem dX0_back_79 : decode cX0_back 79 = .ok (.aload_n 1, 1) := dk_43 (dk_at dksX0_back_3 11 rfl rfl)
theorem dX0_back_80 : decode cX0_back 80 = .ok (.getfield 240, 3) := dk_180 0 240 (dk_at dksX0_back_3 12 rfl rfl)
theorem dX0_back_83 : decode cX0_back 83 = .ok (.aload_n 1, 1) := dk_43 (dk_at dksX0_back_3 15 rfl rfl)
theorem dX0_back_84 : decode cX0_back 84 = .ok (.getfield 242, 3) := dk_180 0 242 (dk_at dksX0_back_3 16 rfl rfl)
theorem dX0_back_87 : decode cX0_back 87 = .ok (.invokevirtual 229, 3) := dk_182 0 229 (dk_at dksX0_back_3 19 rfl rfl)
theorem dX0_back_90 : decode cX0_back 90 = .ok (.aload_n 0, 1) := dk_42 (dk_at dksX0_back_3 22 rfl rfl)
theorem dX0_back_91 : decode cX0_back 91 = .ok (.invokevirtual 119, 3) := dk_182 0 119 (dk_at dksX0_back_4 0 rfl rfl)
theorem dX0_back_94 : decode cX0_back 94 = .ok (.aload_n 0, 1) := dk_42 (dk_at dksX0_back_4 3 rfl rfl)
theorem dX0_back_95 : decode cX0_back 95 = .ok (.getfield 26, 3) := dk_180 0 26 (dk_at dksX0_back_4 4 rfl rfl)
theorem dX0_back_98 : decode cX0_back 98 = .ok (.invokevirtual 85, 3) := dk_182 0 85 (dk_at dksX0_back_4 7 rfl rfl)
theorem dX0_back_101 : decode cX0_back 101 = .ok (.ireturn, 1) := dk_172 (dk_at dksX0_back_4 10 rfl rfl)
abbrev cX0_step : ByteArray := prog_1_method_23_code
def yX0_step : MethodName := ⟨RX0, "step", "(II)I"⟩
def dkwX0_step_4 : List UInt8 := [167, 0, 5, 16, 254, 172]
abbrev dktX0_step_4 : List UInt8 := dkwX0_step_4 ++ []
def dkwX0_step_3 : List UInt8 := [4, 160, 0, 11, 25, 4, 180, 0, 149, 167, 0, 18, 28, 5, 160, 0, 11, 25, 4, 180, 0, 150]
abbrev dktX0_step_3 : List UInt8 := dkwX0_step_3 ++ dktX0_step_4
def dkwX0_step_2 : List UInt8 := [180, 0, 246, 3, 182, 0, 88, 192, 0, 30, 58, 4, 28, 154, 0, 10, 45, 180, 0, 248, 167, 0, 31, 28]
abbrev dktX0_step_2 : List UInt8 := dkwX0_step_2 ++ dktX0_step_3
def dkwX0_step_1 : List UInt8 := [154, 0, 5, 2, 172, 42, 180, 0, 26, 27, 4, 100, 182, 0, 88, 192, 0, 210, 78, 45, 180, 0, 242]
abbrev dktX0_step_1 : List UInt8 := dkwX0_step_1 ++ dktX0_step_2
def dkwX0_step_0 : List UInt8 := [42, 180, 0, 59, 199, 0, 6, 16, 253, 172, 27, 133, 10, 42, 180, 0, 26, 182, 0, 85, 133, 184, 0, 124]
abbrev dktX0_step_0 : List UInt8 := dkwX0_step_0 ++ dktX0_step_1
theorem dksX0_step_0 : cX0_step.data.toList.drop 0 = dktX0_step_0 := by decide +kernel
theorem dksX0_step_1 : cX0_step.data.toList.drop 24 = dktX0_step_1 := dk_seg dksX0_step_0 24 rfl rfl
theorem dksX0_step_2 : cX0_step.data.toList.drop 47 = dktX0_step_2 := dk_seg dksX0_step_1 23 rfl rfl
theorem dksX0_step_3 : cX0_step.data.toList.drop 71 = dktX0_step_3 := dk_seg dksX0_step_2 24 rfl rfl
theorem dksX0_step_4 : cX0_step.data.toList.drop 93 = dktX0_step_4 := dk_seg dksX0_step_3 22 rfl rfl
theorem dX0_step_0 : decode cX0_step 0 = .ok (.aload_n 0, 1) := dk_42 (dk_at dksX0_step_0 0 rfl rfl)
theorem dX0_step_1 : decode cX0_step 1 = .ok (.getfield 59, 3) := dk_180 0 59 (dk_at dksX0_step_0 1 rfl rfl)
theorem dX0_step_4 : decode cX0_step 4 = .ok (.ifnonnull 6, 3) := dk_199 0 6 (dk_at dksX0_step_0 4 rfl rfl)
theorem dX0_step_7 : decode cX0_step 7 = .ok (.bipush (-3), 2) := dk_16 253 (dk_at dksX0_step_0 7 rfl rfl)
theorem dX0_step_9 : decode cX0_step 9 = .ok (.ireturn, 1) := dk_172 (dk_at dksX0_step_0 9 rfl rfl)
theorem dX0_step_10 : decode cX0_step 10 = .ok (.iload_n 1, 1) := dk_27 (dk_at dksX0_step_0 10 rfl rfl)
theorem dX0_step_11 : decode cX0_step 11 = .ok (.i2l, 1) := dk_133 (dk_at dksX0_step_0 11 rfl rfl)
theorem dX0_step_12 : decode cX0_step 12 = .ok (.lconst 1, 1) := dk_10 (dk_at dksX0_step_0 12 rfl rfl)
theorem dX0_step_13 : decode cX0_step 13 = .ok (.aload_n 0, 1) := dk_42 (dk_at dksX0_step_0 13 rfl rfl)
theorem dX0_step_14 : decode cX0_step 14 = .ok (.getfield 26, 3) := dk_180 0 26 (dk_at dksX0_step_0 14 rfl rfl)
theorem dX0_step_17 : decode cX0_step 17 = .ok (.invokevirtual 85, 3) := dk_182 0 85 (dk_at dksX0_step_0 17 rfl rfl)
theorem dX0_step_20 : decode cX0_step 20 = .ok (.i2l, 1) := dk_133 (dk_at dksX0_step_0 20 rfl rfl)
theorem dX0_step_21 : decode cX0_step 21 = .ok (.invokestatic 124, 3) := dk_184 0 124 (dk_at dksX0_step_0 21 rfl rfl)
theorem dX0_step_24 : decode cX0_step 24 = .ok (.ifCond .ne 5, 3) := dk_154 0 5 (dk_at dksX0_step_1 0 rfl rfl)
theorem dX0_step_27 : decode cX0_step 27 = .ok (.iconst (-1), 1) := dk_2 (dk_at dksX0_step_1 3 rfl rfl)
theorem dX0_step_28 : decode cX0_step 28 = .ok (.ireturn, 1) := dk_172 (dk_at dksX0_step_1 4 rfl rfl)
theorem dX0_step_29 : decode cX0_step 29 = .ok (.aload_n 0, 1) := dk_42 (dk_at dksX0_step_1 5 rfl rfl)
theorem dX0_step_30 : decode cX0_step 30 = .ok (.getfield 26, 3) := dk_180 0 26 (dk_at dksX0_step_1 6 rfl rfl)
theorem dX0_step_33 : decode cX0_step 33 = .ok (.iload_n 1, 1) := dk_27 (dk_at dksX0_step_1 9 rfl rfl)
theorem dX0_step_34 : decode cX0_step 34 = .ok (.iconst 1, 1) := dk_4 (dk_at dksX0_step_1 10 rfl rfl)
theorem dX0_step_35 : decode cX0_step 35 = .ok (.isub, 1) := dk_100 (dk_at dksX0_step_1 11 rfl rfl)
theorem dX0_step_36 : decode cX0_step 36 = .ok (.invokevirtual 88, 3) := dk_182 0 88 (dk_at dksX0_step_1 12 rfl rfl)
theorem dX0_step_39 : decode cX0_step 39 = .ok (.checkcast 210, 3) := dk_192 0 210 (dk_at dksX0_step_1 15 rfl rfl)
theorem dX0_step_42 : decode cX0_step 42 = .ok (.astore_n 3, 1) := dk_78 (dk_at dksX0_step_1 18 rfl rfl)
theorem dX0_step_43 : decode cX0_step 43 = .ok (.aload_n 3, 1) := dk_45 (dk_at dksX0_step_1 19 rfl rfl)
theorem dX0_step_44 : decode cX0_step 44 = .ok (.getfield 242, 3) := dk_180 0 242 (dk_at dksX0_step_1 20 rfl rfl)
theorem dX0_step_47 : decode cX0_step 47 = .ok (.getfield 246, 3) := dk_180 0 246 (dk_at dksX0_step_2 0 rfl rfl)
theorem dX0_step_50 : decode cX0_step 50 = .ok (.iconst 0, 1) := dk_3 (dk_at dksX0_step_2 3 rfl rfl)
theorem dX0_step_51 : decode cX0_step 51 = .ok (.invokevirtual 88, 3) := dk_182 0 88 (dk_at dksX0_step_2 4 rfl rfl)
theorem dX0_step_54 : decode cX0_step 54 = .ok (.checkcast 30, 3) := dk_192 0 30 (dk_at dksX0_step_2 7 rfl rfl)
theorem dX0_step_57 : decode cX0_step 57 = .ok (.astore 4, 2) := dk_58 4 (dk_at dksX0_step_2 10 rfl rfl)
theorem dX0_step_59 : decode cX0_step 59 = .ok (.iload_n 2, 1) := dk_28 (dk_at dksX0_step_2 12 rfl rfl)
theorem dX0_step_60 : decode cX0_step 60 = .ok (.ifCond .ne 10, 3) := dk_154 0 10 (dk_at dksX0_step_2 13 rfl rfl)
theorem dX0_step_63 : decode cX0_step 63 = .ok (.aload_n 3, 1) := dk_45 (dk_at dksX0_step_2 16 rfl rfl)
theorem dX0_step_64 : decode cX0_step 64 = .ok (.getfield 248, 3) := dk_180 0 248 (dk_at dksX0_step_2 17 rfl rfl)
theorem dX0_step_67 : decode cX0_step 67 = .ok (.goto 31, 3) := dk_167 0 31 (dk_at dksX0_step_2 20 rfl rfl)
theorem dX0_step_70 : decode cX0_step 70 = .ok (.iload_n 2, 1) := dk_28 (dk_at dksX0_step_2 23 rfl rfl)
theorem dX0_step_71 : decode cX0_step 71 = .ok (.iconst 1, 1) := dk_4 (dk_at dksX0_step_3 0 rfl rfl)
theorem dX0_step_72 : decode cX0_step 72 = .ok (.if_icmp .ne 11, 3) := dk_160 0 11 (dk_at dksX0_step_3 1 rfl rfl)
theorem dX0_step_75 : decode cX0_step 75 = .ok (.aload 4, 2) := dk_25 4 (dk_at dksX0_step_3 4 rfl rfl)
theorem dX0_step_77 : decode cX0_step 77 = .ok (.getfield 149, 3) := dk_180 0 149 (dk_at dksX0_step_3 6 rfl rfl)
theorem dX0_step_80 : decode cX0_step 80 = .ok (.goto 18, 3) := dk_167 0 18 (dk_at dksX0_step_3 9 rfl rfl)
theorem dX0_step_83 : decode cX0_step 83 = .ok (.iload_n 2, 1) := dk_28 (dk_at dksX0_step_3 12 rfl rfl)
theorem dX0_step_84 : decode cX0_step 84 = .ok (.iconst 2, 1) := dk_5 (dk_at dksX0_step_3 13 rfl rfl)
theorem dX0_step_85 : decode cX0_step 85 = .ok (.if_icmp .ne 11, 3) := dk_160 0 11 (dk_at dksX0_step_3 14 rfl rfl)
theorem dX0_step_88 : decode cX0_step 88 = .ok (.aload 4, 2) := dk_25 4 (dk_at dksX0_step_3 17 rfl rfl)
theorem dX0_step_90 : decode cX0_step 90 = .ok (.getfield 150, 3) := dk_180 0 150 (dk_at dksX0_step_3 19 rfl rfl)
theorem dX0_step_93 : decode cX0_step 93 = .ok (.goto 5, 3) := dk_167 0 5 (dk_at dksX0_step_4 0 rfl rfl)
theorem dX0_step_96 : decode cX0_step 96 = .ok (.bipush (-2), 2) := dk_16 254 (dk_at dksX0_step_4 3 rfl rfl)
theorem dX0_step_98 : decode cX0_step 98 = .ok (.ireturn, 1) := dk_172 (dk_at dksX0_step_4 5 rfl rfl)
abbrev cX0_maker : ByteArray := prog_1_method_24_code
def yX0_maker : MethodName := ⟨RX0, "maker", "(II)I"⟩
def dkwX0_maker_3 : List UInt8 := [167, 255, 213, 28, 155, 0, 7, 29, 154, 0, 8, 16, 247, 167, 0, 4, 29, 172]
abbrev dktX0_maker_3 : List UInt8 := dkwX0_maker_3 ++ []
def dkwX0_maker_2 : List UInt8 := [192, 0, 210, 180, 0, 242, 180, 0, 246, 3, 182, 0, 88, 192, 0, 30, 180, 0, 150, 62, 132, 4, 1]
abbrev dktX0_maker_2 : List UInt8 := dkwX0_maker_2 ++ dktX0_maker_3
def dkwX0_maker_1 : List UInt8 := [3, 54, 4, 21, 4, 28, 162, 0, 43, 29, 158, 0, 39, 42, 180, 0, 26, 29, 4, 100, 182, 0, 88]
abbrev dktX0_maker_1 : List UInt8 := dkwX0_maker_1 ++ dktX0_maker_2
def dkwX0_maker_0 : List UInt8 := [42, 27, 182, 0, 136, 153, 0, 9, 42, 27, 182, 0, 136, 172, 42, 180, 0, 32, 27, 50, 180, 0, 150, 62]
abbrev dktX0_maker_0 : List UInt8 := dkwX0_maker_0 ++ dktX0_maker_1
theorem dksX0_maker_0 : cX0_maker.data.toList.drop 0 = dktX0_maker_0 := by decide +kernel
theorem dksX0_maker_1 : cX0_maker.data.toList.drop 24 = dktX0_maker_1 := dk_seg dksX0_maker_0 24 rfl rfl
theorem dksX0_maker_2 : cX0_maker.data.toList.drop 47 = dktX0_maker_2 := dk_seg dksX0_maker_1 23 rfl rfl
theorem dksX0_maker_3 : cX0_maker.data.toList.drop 70 = dktX0_maker_3 := dk_seg dksX0_maker_2 23 rfl rfl
theorem dX0_maker_0 : decode cX0_maker 0 = .ok (.aload_n 0, 1) := dk_42 (dk_at dksX0_maker_0 0 rfl rfl)
theorem dX0_maker_1 : decode cX0_maker 1 = .ok (.iload_n 1, 1) := dk_27 (dk_at dksX0_maker_0 1 rfl rfl)
theorem dX0_maker_2 : decode cX0_maker 2 = .ok (.invokevirtual 136, 3) := dk_182 0 136 (dk_at dksX0_maker_0 2 rfl rfl)
theorem dX0_maker_5 : decode cX0_maker 5 = .ok (.ifCond .eq 9, 3) := dk_153 0 9 (dk_at dksX0_maker_0 5 rfl rfl)
theorem dX0_maker_8 : decode cX0_maker 8 = .ok (.aload_n 0, 1) := dk_42 (dk_at dksX0_maker_0 8 rfl rfl)
theorem dX0_maker_9 : decode cX0_maker 9 = .ok (.iload_n 1, 1) := dk_27 (dk_at dksX0_maker_0 9 rfl rfl)
theorem dX0_maker_10 : decode cX0_maker 10 = .ok (.invokevirtual 136, 3) := dk_182 0 136 (dk_at dksX0_maker_0 10 rfl rfl)
theorem dX0_maker_13 : decode cX0_maker 13 = .ok (.ireturn, 1) := dk_172 (dk_at dksX0_maker_0 13 rfl rfl)
theorem dX0_maker_14 : decode cX0_maker 14 = .ok (.aload_n 0, 1) := dk_42 (dk_at dksX0_maker_0 14 rfl rfl)
theorem dX0_maker_15 : decode cX0_maker 15 = .ok (.getfield 32, 3) := dk_180 0 32 (dk_at dksX0_maker_0 15 rfl rfl)
theorem dX0_maker_18 : decode cX0_maker 18 = .ok (.iload_n 1, 1) := dk_27 (dk_at dksX0_maker_0 18 rfl rfl)
theorem dX0_maker_19 : decode cX0_maker 19 = .ok (.aaload, 1) := dk_50 (dk_at dksX0_maker_0 19 rfl rfl)
theorem dX0_maker_20 : decode cX0_maker 20 = .ok (.getfield 150, 3) := dk_180 0 150 (dk_at dksX0_maker_0 20 rfl rfl)
theorem dX0_maker_23 : decode cX0_maker 23 = .ok (.istore_n 3, 1) := dk_62 (dk_at dksX0_maker_0 23 rfl rfl)
theorem dX0_maker_24 : decode cX0_maker 24 = .ok (.iconst 0, 1) := dk_3 (dk_at dksX0_maker_1 0 rfl rfl)
theorem dX0_maker_25 : decode cX0_maker 25 = .ok (.istore 4, 2) := dk_54 4 (dk_at dksX0_maker_1 1 rfl rfl)
theorem dX0_maker_27 : decode cX0_maker 27 = .ok (.iload 4, 2) := dk_21 4 (dk_at dksX0_maker_1 3 rfl rfl)
theorem dX0_maker_29 : decode cX0_maker 29 = .ok (.iload_n 2, 1) := dk_28 (dk_at dksX0_maker_1 5 rfl rfl)
theorem dX0_maker_30 : decode cX0_maker 30 = .ok (.if_icmp .ge 43, 3) := dk_162 0 43 (dk_at dksX0_maker_1 6 rfl rfl)
theorem dX0_maker_33 : decode cX0_maker 33 = .ok (.iload_n 3, 1) := dk_29 (dk_at dksX0_maker_1 9 rfl rfl)
theorem dX0_maker_34 : decode cX0_maker 34 = .ok (.ifCond .le 39, 3) := dk_158 0 39 (dk_at dksX0_maker_1 10 rfl rfl)
theorem dX0_maker_37 : decode cX0_maker 37 = .ok (.aload_n 0, 1) := dk_42 (dk_at dksX0_maker_1 13 rfl rfl)
theorem dX0_maker_38 : decode cX0_maker 38 = .ok (.getfield 26, 3) := dk_180 0 26 (dk_at dksX0_maker_1 14 rfl rfl)
theorem dX0_maker_41 : decode cX0_maker 41 = .ok (.iload_n 3, 1) := dk_29 (dk_at dksX0_maker_1 17 rfl rfl)
theorem dX0_maker_42 : decode cX0_maker 42 = .ok (.iconst 1, 1) := dk_4 (dk_at dksX0_maker_1 18 rfl rfl)
theorem dX0_maker_43 : decode cX0_maker 43 = .ok (.isub, 1) := dk_100 (dk_at dksX0_maker_1 19 rfl rfl)
theorem dX0_maker_44 : decode cX0_maker 44 = .ok (.invokevirtual 88, 3) := dk_182 0 88 (dk_at dksX0_maker_1 20 rfl rfl)
theorem dX0_maker_47 : decode cX0_maker 47 = .ok (.checkcast 210, 3) := dk_192 0 210 (dk_at dksX0_maker_2 0 rfl rfl)
theorem dX0_maker_50 : decode cX0_maker 50 = .ok (.getfield 242, 3) := dk_180 0 242 (dk_at dksX0_maker_2 3 rfl rfl)
theorem dX0_maker_53 : decode cX0_maker 53 = .ok (.getfield 246, 3) := dk_180 0 246 (dk_at dksX0_maker_2 6 rfl rfl)
theorem dX0_maker_56 : decode cX0_maker 56 = .ok (.iconst 0, 1) := dk_3 (dk_at dksX0_maker_2 9 rfl rfl)
theorem dX0_maker_57 : decode cX0_maker 57 = .ok (.invokevirtual 88, 3) := dk_182 0 88 (dk_at dksX0_maker_2 10 rfl rfl)
theorem dX0_maker_60 : decode cX0_maker 60 = .ok (.checkcast 30, 3) := dk_192 0 30 (dk_at dksX0_maker_2 13 rfl rfl)
theorem dX0_maker_63 : decode cX0_maker 63 = .ok (.getfield 150, 3) := dk_180 0 150 (dk_at dksX0_maker_2 16 rfl rfl)
theorem dX0_maker_66 : decode cX0_maker 66 = .ok (.istore_n 3, 1) := dk_62 (dk_at dksX0_maker_2 19 rfl rfl)
theorem dX0_maker_67 : decode cX0_maker 67 = .ok (.iinc 4 1, 3) := dk_132 4 1 (dk_at dksX0_maker_2 20 rfl rfl)
theorem dX0_maker_70 : decode cX0_maker 70 = .ok (.goto (-43), 3) := dk_167 255 213 (dk_at dksX0_maker_3 0 rfl rfl)
theorem dX0_maker_73 : decode cX0_maker 73 = .ok (.iload_n 2, 1) := dk_28 (dk_at dksX0_maker_3 3 rfl rfl)
theorem dX0_maker_74 : decode cX0_maker 74 = .ok (.ifCond .lt 7, 3) := dk_155 0 7 (dk_at dksX0_maker_3 4 rfl rfl)
theorem dX0_maker_77 : decode cX0_maker 77 = .ok (.iload_n 3, 1) := dk_29 (dk_at dksX0_maker_3 7 rfl rfl)
theorem dX0_maker_78 : decode cX0_maker 78 = .ok (.ifCond .ne 8, 3) := dk_154 0 8 (dk_at dksX0_maker_3 8 rfl rfl)
theorem dX0_maker_81 : decode cX0_maker 81 = .ok (.bipush (-9), 2) := dk_16 247 (dk_at dksX0_maker_3 11 rfl rfl)
theorem dX0_maker_83 : decode cX0_maker 83 = .ok (.goto 4, 3) := dk_167 0 4 (dk_at dksX0_maker_3 13 rfl rfl)
theorem dX0_maker_86 : decode cX0_maker 86 = .ok (.iload_n 3, 1) := dk_29 (dk_at dksX0_maker_3 16 rfl rfl)
theorem dX0_maker_87 : decode cX0_maker 87 = .ok (.ireturn, 1) := dk_172 (dk_at dksX0_maker_3 17 rfl rfl)
abbrev cX0_came : ByteArray := prog_1_method_25_code
def yX0_came : MethodName := ⟨RX0, "came", "(I)I"⟩
def dkwX0_came_2 : List UInt8 := [160, 0, 7, 4, 167, 0, 4, 3, 96, 61, 132, 3, 1, 167, 255, 224, 28, 172]
abbrev dktX0_came_2 : List UInt8 := dkwX0_came_2 ++ []
def dkwX0_came_1 : List UInt8 := [172, 3, 61, 3, 62, 29, 42, 180, 0, 67, 162, 0, 30, 28, 42, 180, 0, 32, 29, 50, 180, 0, 149, 27]
abbrev dktX0_came_1 : List UInt8 := dkwX0_came_1 ++ dktX0_came_2
def dkwX0_came_0 : List UInt8 := [42, 180, 0, 59, 199, 0, 6, 16, 253, 172, 27, 133, 9, 20, 0, 251, 184, 0, 124, 154, 0, 6, 16, 254]
abbrev dktX0_came_0 : List UInt8 := dkwX0_came_0 ++ dktX0_came_1
theorem dksX0_came_0 : cX0_came.data.toList.drop 0 = dktX0_came_0 := by decide +kernel
theorem dksX0_came_1 : cX0_came.data.toList.drop 24 = dktX0_came_1 := dk_seg dksX0_came_0 24 rfl rfl
theorem dksX0_came_2 : cX0_came.data.toList.drop 48 = dktX0_came_2 := dk_seg dksX0_came_1 24 rfl rfl
theorem dX0_came_0 : decode cX0_came 0 = .ok (.aload_n 0, 1) := dk_42 (dk_at dksX0_came_0 0 rfl rfl)
theorem dX0_came_1 : decode cX0_came 1 = .ok (.getfield 59, 3) := dk_180 0 59 (dk_at dksX0_came_0 1 rfl rfl)
theorem dX0_came_4 : decode cX0_came 4 = .ok (.ifnonnull 6, 3) := dk_199 0 6 (dk_at dksX0_came_0 4 rfl rfl)
theorem dX0_came_7 : decode cX0_came 7 = .ok (.bipush (-3), 2) := dk_16 253 (dk_at dksX0_came_0 7 rfl rfl)
theorem dX0_came_9 : decode cX0_came 9 = .ok (.ireturn, 1) := dk_172 (dk_at dksX0_came_0 9 rfl rfl)
theorem dX0_came_10 : decode cX0_came 10 = .ok (.iload_n 1, 1) := dk_27 (dk_at dksX0_came_0 10 rfl rfl)
theorem dX0_came_11 : decode cX0_came 11 = .ok (.i2l, 1) := dk_133 (dk_at dksX0_came_0 11 rfl rfl)
theorem dX0_came_12 : decode cX0_came 12 = .ok (.lconst 0, 1) := dk_9 (dk_at dksX0_came_0 12 rfl rfl)
theorem dX0_came_13 : decode cX0_came 13 = .ok (.ldc2_w 251, 3) := dk_20 0 251 (dk_at dksX0_came_0 13 rfl rfl)
theorem dX0_came_16 : decode cX0_came 16 = .ok (.invokestatic 124, 3) := dk_184 0 124 (dk_at dksX0_came_0 16 rfl rfl)
theorem dX0_came_19 : decode cX0_came 19 = .ok (.ifCond .ne 6, 3) := dk_154 0 6 (dk_at dksX0_came_0 19 rfl rfl)
theorem dX0_came_22 : decode cX0_came 22 = .ok (.bipush (-2), 2) := dk_16 254 (dk_at dksX0_came_0 22 rfl rfl)
theorem dX0_came_24 : decode cX0_came 24 = .ok (.ireturn, 1) := dk_172 (dk_at dksX0_came_1 0 rfl rfl)
theorem dX0_came_25 : decode cX0_came 25 = .ok (.iconst 0, 1) := dk_3 (dk_at dksX0_came_1 1 rfl rfl)
theorem dX0_came_26 : decode cX0_came 26 = .ok (.istore_n 2, 1) := dk_61 (dk_at dksX0_came_1 2 rfl rfl)
theorem dX0_came_27 : decode cX0_came 27 = .ok (.iconst 0, 1) := dk_3 (dk_at dksX0_came_1 3 rfl rfl)
theorem dX0_came_28 : decode cX0_came 28 = .ok (.istore_n 3, 1) := dk_62 (dk_at dksX0_came_1 4 rfl rfl)
theorem dX0_came_29 : decode cX0_came 29 = .ok (.iload_n 3, 1) := dk_29 (dk_at dksX0_came_1 5 rfl rfl)
theorem dX0_came_30 : decode cX0_came 30 = .ok (.aload_n 0, 1) := dk_42 (dk_at dksX0_came_1 6 rfl rfl)
theorem dX0_came_31 : decode cX0_came 31 = .ok (.getfield 67, 3) := dk_180 0 67 (dk_at dksX0_came_1 7 rfl rfl)
theorem dX0_came_34 : decode cX0_came 34 = .ok (.if_icmp .ge 30, 3) := dk_162 0 30 (dk_at dksX0_came_1 10 rfl rfl)
theorem dX0_came_37 : decode cX0_came 37 = .ok (.iload_n 2, 1) := dk_28 (dk_at dksX0_came_1 13 rfl rfl)
theorem dX0_came_38 : decode cX0_came 38 = .ok (.aload_n 0, 1) := dk_42 (dk_at dksX0_came_1 14 rfl rfl)
theorem dX0_came_39 : decode cX0_came 39 = .ok (.getfield 32, 3) := dk_180 0 32 (dk_at dksX0_came_1 15 rfl rfl)
theorem dX0_came_42 : decode cX0_came 42 = .ok (.iload_n 3, 1) := dk_29 (dk_at dksX0_came_1 18 rfl rfl)
theorem dX0_came_43 : decode cX0_came 43 = .ok (.aaload, 1) := dk_50 (dk_at dksX0_came_1 19 rfl rfl)
theorem dX0_came_44 : decode cX0_came 44 = .ok (.getfield 149, 3) := dk_180 0 149 (dk_at dksX0_came_1 20 rfl rfl)
theorem dX0_came_47 : decode cX0_came 47 = .ok (.iload_n 1, 1) := dk_27 (dk_at dksX0_came_1 23 rfl rfl)
theorem dX0_came_48 : decode cX0_came 48 = .ok (.if_icmp .ne 7, 3) := dk_160 0 7 (dk_at dksX0_came_2 0 rfl rfl)
theorem dX0_came_51 : decode cX0_came 51 = .ok (.iconst 1, 1) := dk_4 (dk_at dksX0_came_2 3 rfl rfl)
theorem dX0_came_52 : decode cX0_came 52 = .ok (.goto 4, 3) := dk_167 0 4 (dk_at dksX0_came_2 4 rfl rfl)
theorem dX0_came_55 : decode cX0_came 55 = .ok (.iconst 0, 1) := dk_3 (dk_at dksX0_came_2 7 rfl rfl)
theorem dX0_came_56 : decode cX0_came 56 = .ok (.iadd, 1) := dk_96 (dk_at dksX0_came_2 8 rfl rfl)
theorem dX0_came_57 : decode cX0_came 57 = .ok (.istore_n 2, 1) := dk_61 (dk_at dksX0_came_2 9 rfl rfl)
theorem dX0_came_58 : decode cX0_came 58 = .ok (.iinc 3 1, 3) := dk_132 3 1 (dk_at dksX0_came_2 10 rfl rfl)
theorem dX0_came_61 : decode cX0_came 61 = .ok (.goto (-32), 3) := dk_167 255 224 (dk_at dksX0_came_2 13 rfl rfl)
theorem dX0_came_64 : decode cX0_came 64 = .ok (.iload_n 2, 1) := dk_28 (dk_at dksX0_came_2 16 rfl rfl)
theorem dX0_came_65 : decode cX0_came 65 = .ok (.ireturn, 1) := dk_172 (dk_at dksX0_came_2 17 rfl rfl)
abbrev cX0_keep : ByteArray := prog_1_method_28_code
def yX0_keep : MethodName := ⟨RX0, "keep", "()I"⟩
def dkwX0_keep_4 : List UInt8 := [167, 255, 185, 42, 180, 0, 67, 172]
abbrev dktX0_keep_4 : List UInt8 := dkwX0_keep_4 ++ []
def dkwX0_keep_3 : List UInt8 := [50, 184, 1, 0, 80, 42, 180, 0, 51, 27, 42, 180, 0, 32, 27, 50, 184, 0, 159, 79, 132, 1, 1]
abbrev dktX0_keep_3 : List UInt8 := dkwX0_keep_3 ++ dktX0_keep_4
def dkwX0_keep_2 : List UInt8 := [180, 0, 44, 27, 42, 180, 0, 32, 27, 50, 184, 0, 253, 79, 42, 180, 0, 47, 27, 42, 180, 0, 32, 27]
abbrev dktX0_keep_2 : List UInt8 := dkwX0_keep_2 ++ dktX0_keep_3
def dkwX0_keep_1 : List UInt8 := [180, 0, 67, 162, 0, 69, 42, 180, 0, 40, 27, 42, 180, 0, 32, 27, 50, 182, 0, 140, 79, 42]
abbrev dktX0_keep_1 : List UInt8 := dkwX0_keep_1 ++ dktX0_keep_2
def dkwX0_keep_0 : List UInt8 := [42, 180, 0, 59, 199, 0, 6, 16, 253, 172, 42, 42, 180, 0, 67, 181, 0, 36, 3, 60, 27, 42]
abbrev dktX0_keep_0 : List UInt8 := dkwX0_keep_0 ++ dktX0_keep_1
theorem dksX0_keep_0 : cX0_keep.data.toList.drop 0 = dktX0_keep_0 := by decide +kernel
theorem dksX0_keep_1 : cX0_keep.data.toList.drop 22 = dktX0_keep_1 := dk_seg dksX0_keep_0 22 rfl rfl
theorem dksX0_keep_2 : cX0_keep.data.toList.drop 44 = dktX0_keep_2 := dk_seg dksX0_keep_1 22 rfl rfl
theorem dksX0_keep_3 : cX0_keep.data.toList.drop 68 = dktX0_keep_3 := dk_seg dksX0_keep_2 24 rfl rfl
theorem dksX0_keep_4 : cX0_keep.data.toList.drop 91 = dktX0_keep_4 := dk_seg dksX0_keep_3 23 rfl rfl
theorem dX0_keep_0 : decode cX0_keep 0 = .ok (.aload_n 0, 1) := dk_42 (dk_at dksX0_keep_0 0 rfl rfl)
theorem dX0_keep_1 : decode cX0_keep 1 = .ok (.getfield 59, 3) := dk_180 0 59 (dk_at dksX0_keep_0 1 rfl rfl)
theorem dX0_keep_4 : decode cX0_keep 4 = .ok (.ifnonnull 6, 3) := dk_199 0 6 (dk_at dksX0_keep_0 4 rfl rfl)
theorem dX0_keep_7 : decode cX0_keep 7 = .ok (.bipush (-3), 2) := dk_16 253 (dk_at dksX0_keep_0 7 rfl rfl)
theorem dX0_keep_9 : decode cX0_keep 9 = .ok (.ireturn, 1) := dk_172 (dk_at dksX0_keep_0 9 rfl rfl)
theorem dX0_keep_10 : decode cX0_keep 10 = .ok (.aload_n 0, 1) := dk_42 (dk_at dksX0_keep_0 10 rfl rfl)
theorem dX0_keep_11 : decode cX0_keep 11 = .ok (.aload_n 0, 1) := dk_42 (dk_at dksX0_keep_0 11 rfl rfl)
theorem dX0_keep_12 : decode cX0_keep 12 = .ok (.getfield 67, 3) := dk_180 0 67 (dk_at dksX0_keep_0 12 rfl rfl)
theorem dX0_keep_15 : decode cX0_keep 15 = .ok (.putfield 36, 3) := dk_181 0 36 (dk_at dksX0_keep_0 15 rfl rfl)
theorem dX0_keep_18 : decode cX0_keep 18 = .ok (.iconst 0, 1) := dk_3 (dk_at dksX0_keep_0 18 rfl rfl)
theorem dX0_keep_19 : decode cX0_keep 19 = .ok (.istore_n 1, 1) := dk_60 (dk_at dksX0_keep_0 19 rfl rfl)
theorem dX0_keep_20 : decode cX0_keep 20 = .ok (.iload_n 1, 1) := dk_27 (dk_at dksX0_keep_0 20 rfl rfl)
theorem dX0_keep_21 : decode cX0_keep 21 = .ok (.aload_n 0, 1) := dk_42 (dk_at dksX0_keep_0 21 rfl rfl)
theorem dX0_keep_22 : decode cX0_keep 22 = .ok (.getfield 67, 3) := dk_180 0 67 (dk_at dksX0_keep_1 0 rfl rfl)
theorem dX0_keep_25 : decode cX0_keep 25 = .ok (.if_icmp .ge 69, 3) := dk_162 0 69 (dk_at dksX0_keep_1 3 rfl rfl)
theorem dX0_keep_28 : decode cX0_keep 28 = .ok (.aload_n 0, 1) := dk_42 (dk_at dksX0_keep_1 6 rfl rfl)
theorem dX0_keep_29 : decode cX0_keep 29 = .ok (.getfield 40, 3) := dk_180 0 40 (dk_at dksX0_keep_1 7 rfl rfl)
theorem dX0_keep_32 : decode cX0_keep 32 = .ok (.iload_n 1, 1) := dk_27 (dk_at dksX0_keep_1 10 rfl rfl)
theorem dX0_keep_33 : decode cX0_keep 33 = .ok (.aload_n 0, 1) := dk_42 (dk_at dksX0_keep_1 11 rfl rfl)
theorem dX0_keep_34 : decode cX0_keep 34 = .ok (.getfield 32, 3) := dk_180 0 32 (dk_at dksX0_keep_1 12 rfl rfl)
theorem dX0_keep_37 : decode cX0_keep 37 = .ok (.iload_n 1, 1) := dk_27 (dk_at dksX0_keep_1 15 rfl rfl)
theorem dX0_keep_38 : decode cX0_keep 38 = .ok (.aaload, 1) := dk_50 (dk_at dksX0_keep_1 16 rfl rfl)
theorem dX0_keep_39 : decode cX0_keep 39 = .ok (.invokevirtual 140, 3) := dk_182 0 140 (dk_at dksX0_keep_1 17 rfl rfl)
theorem dX0_keep_42 : decode cX0_keep 42 = .ok (.iastore, 1) := dk_79 (dk_at dksX0_keep_1 20 rfl rfl)
theorem dX0_keep_43 : decode cX0_keep 43 = .ok (.aload_n 0, 1) := dk_42 (dk_at dksX0_keep_1 21 rfl rfl)
theorem dX0_keep_44 : decode cX0_keep 44 = .ok (.getfield 44, 3) := dk_180 0 44 (dk_at dksX0_keep_2 0 rfl rfl)
theorem dX0_keep_47 : decode cX0_keep 47 = .ok (.iload_n 1, 1) := dk_27 (dk_at dksX0_keep_2 3 rfl rfl)
theorem dX0_keep_48 : decode cX0_keep 48 = .ok (.aload_n 0, 1) := dk_42 (dk_at dksX0_keep_2 4 rfl rfl)
theorem dX0_keep_49 : decode cX0_keep 49 = .ok (.getfield 32, 3) := dk_180 0 32 (dk_at dksX0_keep_2 5 rfl rfl)
theorem dX0_keep_52 : decode cX0_keep 52 = .ok (.iload_n 1, 1) := dk_27 (dk_at dksX0_keep_2 8 rfl rfl)
theorem dX0_keep_53 : decode cX0_keep 53 = .ok (.aaload, 1) := dk_50 (dk_at dksX0_keep_2 9 rfl rfl)
theorem dX0_keep_54 : decode cX0_keep 54 = .ok (.invokestatic 253, 3) := dk_184 0 253 (dk_at dksX0_keep_2 10 rfl rfl)
theorem dX0_keep_57 : decode cX0_keep 57 = .ok (.iastore, 1) := dk_79 (dk_at dksX0_keep_2 13 rfl rfl)
theorem dX0_keep_58 : decode cX0_keep 58 = .ok (.aload_n 0, 1) := dk_42 (dk_at dksX0_keep_2 14 rfl rfl)
theorem dX0_keep_59 : decode cX0_keep 59 = .ok (.getfield 47, 3) := dk_180 0 47 (dk_at dksX0_keep_2 15 rfl rfl)
theorem dX0_keep_62 : decode cX0_keep 62 = .ok (.iload_n 1, 1) := dk_27 (dk_at dksX0_keep_2 18 rfl rfl)
theorem dX0_keep_63 : decode cX0_keep 63 = .ok (.aload_n 0, 1) := dk_42 (dk_at dksX0_keep_2 19 rfl rfl)
theorem dX0_keep_64 : decode cX0_keep 64 = .ok (.getfield 32, 3) := dk_180 0 32 (dk_at dksX0_keep_2 20 rfl rfl)
theorem dX0_keep_67 : decode cX0_keep 67 = .ok (.iload_n 1, 1) := dk_27 (dk_at dksX0_keep_2 23 rfl rfl)
theorem dX0_keep_68 : decode cX0_keep 68 = .ok (.aaload, 1) := dk_50 (dk_at dksX0_keep_3 0 rfl rfl)
theorem dX0_keep_69 : decode cX0_keep 69 = .ok (.invokestatic 256, 3) := dk_184 1 0 (dk_at dksX0_keep_3 1 rfl rfl)
theorem dX0_keep_72 : decode cX0_keep 72 = .ok (.lastore, 1) := dk_80 (dk_at dksX0_keep_3 4 rfl rfl)
theorem dX0_keep_73 : decode cX0_keep 73 = .ok (.aload_n 0, 1) := dk_42 (dk_at dksX0_keep_3 5 rfl rfl)
theorem dX0_keep_74 : decode cX0_keep 74 = .ok (.getfield 51, 3) := dk_180 0 51 (dk_at dksX0_keep_3 6 rfl rfl)
theorem dX0_keep_77 : decode cX0_keep 77 = .ok (.iload_n 1, 1) := dk_27 (dk_at dksX0_keep_3 9 rfl rfl)
theorem dX0_keep_78 : decode cX0_keep 78 = .ok (.aload_n 0, 1) := dk_42 (dk_at dksX0_keep_3 10 rfl rfl)
theorem dX0_keep_79 : decode cX0_keep 79 = .ok (.getfield 32, 3) := dk_180 0 32 (dk_at dksX0_keep_3 11 rfl rfl)
theorem dX0_keep_82 : decode cX0_keep 82 = .ok (.iload_n 1, 1) := dk_27 (dk_at dksX0_keep_3 14 rfl rfl)
theorem dX0_keep_83 : decode cX0_keep 83 = .ok (.aaload, 1) := dk_50 (dk_at dksX0_keep_3 15 rfl rfl)
theorem dX0_keep_84 : decode cX0_keep 84 = .ok (.invokestatic 159, 3) := dk_184 0 159 (dk_at dksX0_keep_3 16 rfl rfl)
theorem dX0_keep_87 : decode cX0_keep 87 = .ok (.iastore, 1) := dk_79 (dk_at dksX0_keep_3 19 rfl rfl)
theorem dX0_keep_88 : decode cX0_keep 88 = .ok (.iinc 1 1, 3) := dk_132 1 1 (dk_at dksX0_keep_3 20 rfl rfl)
theorem dX0_keep_91 : decode cX0_keep 91 = .ok (.goto (-71), 3) := dk_167 255 185 (dk_at dksX0_keep_4 0 rfl rfl)
theorem dX0_keep_94 : decode cX0_keep 94 = .ok (.aload_n 0, 1) := dk_42 (dk_at dksX0_keep_4 3 rfl rfl)
theorem dX0_keep_95 : decode cX0_keep 95 = .ok (.getfield 67, 3) := dk_180 0 67 (dk_at dksX0_keep_4 4 rfl rfl)
theorem dX0_keep_98 : decode cX0_keep 98 = .ok (.ireturn, 1) := dk_172 (dk_at dksX0_keep_4 7 rfl rfl)
abbrev cX0_sizeOf : ByteArray := prog_1_method_26_code
def yX0_sizeOf : MethodName := ⟨RX0, "sizeOf", "(LMacroGlass$Item;)I"⟩
def dkwX0_sizeOf_0 : List UInt8 := [42, 182, 0, 140, 154, 0, 10, 42, 182, 0, 143, 167, 0, 7, 42, 182, 0, 142, 172]
abbrev dktX0_sizeOf_0 : List UInt8 := dkwX0_sizeOf_0 ++ []
theorem dksX0_sizeOf_0 : cX0_sizeOf.data.toList.drop 0 = dktX0_sizeOf_0 := by decide +kernel
theorem dX0_sizeOf_0 : decode cX0_sizeOf 0 = .ok (.aload_n 0, 1) := dk_42 (dk_at dksX0_sizeOf_0 0 rfl rfl)
theorem dX0_sizeOf_1 : decode cX0_sizeOf 1 = .ok (.invokevirtual 140, 3) := dk_182 0 140 (dk_at dksX0_sizeOf_0 1 rfl rfl)
theorem dX0_sizeOf_4 : decode cX0_sizeOf 4 = .ok (.ifCond .ne 10, 3) := dk_154 0 10 (dk_at dksX0_sizeOf_0 4 rfl rfl)
theorem dX0_sizeOf_7 : decode cX0_sizeOf 7 = .ok (.aload_n 0, 1) := dk_42 (dk_at dksX0_sizeOf_0 7 rfl rfl)
theorem dX0_sizeOf_8 : decode cX0_sizeOf 8 = .ok (.invokevirtual 143, 3) := dk_182 0 143 (dk_at dksX0_sizeOf_0 8 rfl rfl)
theorem dX0_sizeOf_11 : decode cX0_sizeOf 11 = .ok (.goto 7, 3) := dk_167 0 7 (dk_at dksX0_sizeOf_0 11 rfl rfl)
theorem dX0_sizeOf_14 : decode cX0_sizeOf 14 = .ok (.aload_n 0, 1) := dk_42 (dk_at dksX0_sizeOf_0 14 rfl rfl)
theorem dX0_sizeOf_15 : decode cX0_sizeOf 15 = .ok (.invokevirtual 142, 3) := dk_182 0 142 (dk_at dksX0_sizeOf_0 15 rfl rfl)
theorem dX0_sizeOf_18 : decode cX0_sizeOf 18 = .ok (.ireturn, 1) := dk_172 (dk_at dksX0_sizeOf_0 18 rfl rfl)
abbrev cX0_lettersOf : ByteArray := prog_1_method_27_code
def yX0_lettersOf : MethodName := ⟨RX0, "lettersOf", "(LMacroGlass$Item;)J"⟩
def dkwX0_lettersOf_0 : List UInt8 := [42, 193, 0, 133, 153, 0, 13, 42, 192, 0, 133, 180, 0, 163, 167, 0, 4, 9, 173]
abbrev dktX0_lettersOf_0 : List UInt8 := dkwX0_lettersOf_0 ++ []
theorem dksX0_lettersOf_0 : cX0_lettersOf.data.toList.drop 0 = dktX0_lettersOf_0 := by decide +kernel
theorem dX0_lettersOf_0 : decode cX0_lettersOf 0 = .ok (.aload_n 0, 1) := dk_42 (dk_at dksX0_lettersOf_0 0 rfl rfl)
theorem dX0_lettersOf_1 : decode cX0_lettersOf 1 = .ok (.instanceof 133, 3) := dk_193 0 133 (dk_at dksX0_lettersOf_0 1 rfl rfl)
theorem dX0_lettersOf_4 : decode cX0_lettersOf 4 = .ok (.ifCond .eq 13, 3) := dk_153 0 13 (dk_at dksX0_lettersOf_0 4 rfl rfl)
theorem dX0_lettersOf_7 : decode cX0_lettersOf 7 = .ok (.aload_n 0, 1) := dk_42 (dk_at dksX0_lettersOf_0 7 rfl rfl)
theorem dX0_lettersOf_8 : decode cX0_lettersOf 8 = .ok (.checkcast 133, 3) := dk_192 0 133 (dk_at dksX0_lettersOf_0 8 rfl rfl)
theorem dX0_lettersOf_11 : decode cX0_lettersOf 11 = .ok (.getfield 163, 3) := dk_180 0 163 (dk_at dksX0_lettersOf_0 11 rfl rfl)
theorem dX0_lettersOf_14 : decode cX0_lettersOf 14 = .ok (.goto 4, 3) := dk_167 0 4 (dk_at dksX0_lettersOf_0 14 rfl rfl)
theorem dX0_lettersOf_17 : decode cX0_lettersOf 17 = .ok (.lconst 0, 1) := dk_9 (dk_at dksX0_lettersOf_0 17 rfl rfl)
theorem dX0_lettersOf_18 : decode cX0_lettersOf 18 = .ok (.lreturn, 1) := dk_173 (dk_at dksX0_lettersOf_0 18 rfl rfl)
abbrev cX0_alike : ByteArray := prog_1_method_29_code
def yX0_alike : MethodName := ⟨RX0, "alike", "()I"⟩
def dkwX0_alike_6 : List UInt8 := [167, 255, 154, 27, 153, 0, 7, 4, 167, 0, 4, 3, 172]
abbrev dktX0_alike_6 : List UInt8 := dkwX0_alike_6 ++ []
def dkwX0_alike_5 : List UInt8 := [47, 42, 180, 0, 32, 28, 50, 184, 1, 0, 148, 154, 0, 7, 4, 167, 0, 4, 3, 60, 132, 2, 1]
abbrev dktX0_alike_5 : List UInt8 := dkwX0_alike_5 ++ dktX0_alike_6
def dkwX0_alike_4 : List UInt8 := [160, 0, 42, 42, 180, 0, 51, 28, 46, 29, 160, 0, 32, 29, 16, 247, 160, 0, 22, 42, 180, 0, 47, 28]
abbrev dktX0_alike_4 : List UInt8 := dkwX0_alike_4 ++ dktX0_alike_5
def dkwX0_alike_3 : List UInt8 := [50, 182, 0, 140, 160, 0, 60, 42, 180, 0, 44, 28, 46, 42, 180, 0, 32, 28, 50, 184, 0, 253]
abbrev dktX0_alike_3 : List UInt8 := dkwX0_alike_3 ++ dktX0_alike_4
def dkwX0_alike_2 : List UInt8 := [153, 0, 96, 42, 180, 0, 32, 28, 50, 184, 0, 159, 62, 42, 180, 0, 40, 28, 46, 42, 180, 0, 32, 28]
abbrev dktX0_alike_2 : List UInt8 := dkwX0_alike_2 ++ dktX0_alike_3
def dkwX0_alike_1 : List UInt8 := [180, 0, 36, 160, 0, 7, 4, 167, 0, 4, 3, 60, 3, 61, 28, 42, 180, 0, 67, 162, 0, 100, 27]
abbrev dktX0_alike_1 : List UInt8 := dkwX0_alike_1 ++ dktX0_alike_2
def dkwX0_alike_0 : List UInt8 := [42, 180, 0, 59, 198, 0, 12, 42, 180, 0, 36, 16, 247, 160, 0, 6, 16, 253, 172, 42, 180, 0, 67, 42]
abbrev dktX0_alike_0 : List UInt8 := dkwX0_alike_0 ++ dktX0_alike_1
theorem dksX0_alike_0 : cX0_alike.data.toList.drop 0 = dktX0_alike_0 := by decide +kernel
theorem dksX0_alike_1 : cX0_alike.data.toList.drop 24 = dktX0_alike_1 := dk_seg dksX0_alike_0 24 rfl rfl
theorem dksX0_alike_2 : cX0_alike.data.toList.drop 47 = dktX0_alike_2 := dk_seg dksX0_alike_1 23 rfl rfl
theorem dksX0_alike_3 : cX0_alike.data.toList.drop 71 = dktX0_alike_3 := dk_seg dksX0_alike_2 24 rfl rfl
theorem dksX0_alike_4 : cX0_alike.data.toList.drop 93 = dktX0_alike_4 := dk_seg dksX0_alike_3 22 rfl rfl
theorem dksX0_alike_5 : cX0_alike.data.toList.drop 117 = dktX0_alike_5 := dk_seg dksX0_alike_4 24 rfl rfl
theorem dksX0_alike_6 : cX0_alike.data.toList.drop 140 = dktX0_alike_6 := dk_seg dksX0_alike_5 23 rfl rfl
theorem dX0_alike_0 : decode cX0_alike 0 = .ok (.aload_n 0, 1) := dk_42 (dk_at dksX0_alike_0 0 rfl rfl)
theorem dX0_alike_1 : decode cX0_alike 1 = .ok (.getfield 59, 3) := dk_180 0 59 (dk_at dksX0_alike_0 1 rfl rfl)
theorem dX0_alike_4 : decode cX0_alike 4 = .ok (.ifnull 12, 3) := dk_198 0 12 (dk_at dksX0_alike_0 4 rfl rfl)
theorem dX0_alike_7 : decode cX0_alike 7 = .ok (.aload_n 0, 1) := dk_42 (dk_at dksX0_alike_0 7 rfl rfl)
theorem dX0_alike_8 : decode cX0_alike 8 = .ok (.getfield 36, 3) := dk_180 0 36 (dk_at dksX0_alike_0 8 rfl rfl)
theorem dX0_alike_11 : decode cX0_alike 11 = .ok (.bipush (-9), 2) := dk_16 247 (dk_at dksX0_alike_0 11 rfl rfl)
theorem dX0_alike_13 : decode cX0_alike 13 = .ok (.if_icmp .ne 6, 3) := dk_160 0 6 (dk_at dksX0_alike_0 13 rfl rfl)
theorem dX0_alike_16 : decode cX0_alike 16 = .ok (.bipush (-3), 2) := dk_16 253 (dk_at dksX0_alike_0 16 rfl rfl)
theorem dX0_alike_18 : decode cX0_alike 18 = .ok (.ireturn, 1) := dk_172 (dk_at dksX0_alike_0 18 rfl rfl)
theorem dX0_alike_19 : decode cX0_alike 19 = .ok (.aload_n 0, 1) := dk_42 (dk_at dksX0_alike_0 19 rfl rfl)
theorem dX0_alike_20 : decode cX0_alike 20 = .ok (.getfield 67, 3) := dk_180 0 67 (dk_at dksX0_alike_0 20 rfl rfl)
theorem dX0_alike_23 : decode cX0_alike 23 = .ok (.aload_n 0, 1) := dk_42 (dk_at dksX0_alike_0 23 rfl rfl)
theorem dX0_alike_24 : decode cX0_alike 24 = .ok (.getfield 36, 3) := dk_180 0 36 (dk_at dksX0_alike_1 0 rfl rfl)
theorem dX0_alike_27 : decode cX0_alike 27 = .ok (.if_icmp .ne 7, 3) := dk_160 0 7 (dk_at dksX0_alike_1 3 rfl rfl)
theorem dX0_alike_30 : decode cX0_alike 30 = .ok (.iconst 1, 1) := dk_4 (dk_at dksX0_alike_1 6 rfl rfl)
theorem dX0_alike_31 : decode cX0_alike 31 = .ok (.goto 4, 3) := dk_167 0 4 (dk_at dksX0_alike_1 7 rfl rfl)
theorem dX0_alike_34 : decode cX0_alike 34 = .ok (.iconst 0, 1) := dk_3 (dk_at dksX0_alike_1 10 rfl rfl)
theorem dX0_alike_35 : decode cX0_alike 35 = .ok (.istore_n 1, 1) := dk_60 (dk_at dksX0_alike_1 11 rfl rfl)
theorem dX0_alike_36 : decode cX0_alike 36 = .ok (.iconst 0, 1) := dk_3 (dk_at dksX0_alike_1 12 rfl rfl)
theorem dX0_alike_37 : decode cX0_alike 37 = .ok (.istore_n 2, 1) := dk_61 (dk_at dksX0_alike_1 13 rfl rfl)
theorem dX0_alike_38 : decode cX0_alike 38 = .ok (.iload_n 2, 1) := dk_28 (dk_at dksX0_alike_1 14 rfl rfl)
theorem dX0_alike_39 : decode cX0_alike 39 = .ok (.aload_n 0, 1) := dk_42 (dk_at dksX0_alike_1 15 rfl rfl)
theorem dX0_alike_40 : decode cX0_alike 40 = .ok (.getfield 67, 3) := dk_180 0 67 (dk_at dksX0_alike_1 16 rfl rfl)
theorem dX0_alike_43 : decode cX0_alike 43 = .ok (.if_icmp .ge 100, 3) := dk_162 0 100 (dk_at dksX0_alike_1 19 rfl rfl)
theorem dX0_alike_46 : decode cX0_alike 46 = .ok (.iload_n 1, 1) := dk_27 (dk_at dksX0_alike_1 22 rfl rfl)
theorem dX0_alike_47 : decode cX0_alike 47 = .ok (.ifCond .eq 96, 3) := dk_153 0 96 (dk_at dksX0_alike_2 0 rfl rfl)
theorem dX0_alike_50 : decode cX0_alike 50 = .ok (.aload_n 0, 1) := dk_42 (dk_at dksX0_alike_2 3 rfl rfl)
theorem dX0_alike_51 : decode cX0_alike 51 = .ok (.getfield 32, 3) := dk_180 0 32 (dk_at dksX0_alike_2 4 rfl rfl)
theorem dX0_alike_54 : decode cX0_alike 54 = .ok (.iload_n 2, 1) := dk_28 (dk_at dksX0_alike_2 7 rfl rfl)
theorem dX0_alike_55 : decode cX0_alike 55 = .ok (.aaload, 1) := dk_50 (dk_at dksX0_alike_2 8 rfl rfl)
theorem dX0_alike_56 : decode cX0_alike 56 = .ok (.invokestatic 159, 3) := dk_184 0 159 (dk_at dksX0_alike_2 9 rfl rfl)
theorem dX0_alike_59 : decode cX0_alike 59 = .ok (.istore_n 3, 1) := dk_62 (dk_at dksX0_alike_2 12 rfl rfl)
theorem dX0_alike_60 : decode cX0_alike 60 = .ok (.aload_n 0, 1) := dk_42 (dk_at dksX0_alike_2 13 rfl rfl)
theorem dX0_alike_61 : decode cX0_alike 61 = .ok (.getfield 40, 3) := dk_180 0 40 (dk_at dksX0_alike_2 14 rfl rfl)
theorem dX0_alike_64 : decode cX0_alike 64 = .ok (.iload_n 2, 1) := dk_28 (dk_at dksX0_alike_2 17 rfl rfl)
theorem dX0_alike_65 : decode cX0_alike 65 = .ok (.iaload, 1) := dk_46 (dk_at dksX0_alike_2 18 rfl rfl)
theorem dX0_alike_66 : decode cX0_alike 66 = .ok (.aload_n 0, 1) := dk_42 (dk_at dksX0_alike_2 19 rfl rfl)
theorem dX0_alike_67 : decode cX0_alike 67 = .ok (.getfield 32, 3) := dk_180 0 32 (dk_at dksX0_alike_2 20 rfl rfl)
theorem dX0_alike_70 : decode cX0_alike 70 = .ok (.iload_n 2, 1) := dk_28 (dk_at dksX0_alike_2 23 rfl rfl)
theorem dX0_alike_71 : decode cX0_alike 71 = .ok (.aaload, 1) := dk_50 (dk_at dksX0_alike_3 0 rfl rfl)
theorem dX0_alike_72 : decode cX0_alike 72 = .ok (.invokevirtual 140, 3) := dk_182 0 140 (dk_at dksX0_alike_3 1 rfl rfl)
theorem dX0_alike_75 : decode cX0_alike 75 = .ok (.if_icmp .ne 60, 3) := dk_160 0 60 (dk_at dksX0_alike_3 4 rfl rfl)
theorem dX0_alike_78 : decode cX0_alike 78 = .ok (.aload_n 0, 1) := dk_42 (dk_at dksX0_alike_3 7 rfl rfl)
theorem dX0_alike_79 : decode cX0_alike 79 = .ok (.getfield 44, 3) := dk_180 0 44 (dk_at dksX0_alike_3 8 rfl rfl)
theorem dX0_alike_82 : decode cX0_alike 82 = .ok (.iload_n 2, 1) := dk_28 (dk_at dksX0_alike_3 11 rfl rfl)
theorem dX0_alike_83 : decode cX0_alike 83 = .ok (.iaload, 1) := dk_46 (dk_at dksX0_alike_3 12 rfl rfl)
theorem dX0_alike_84 : decode cX0_alike 84 = .ok (.aload_n 0, 1) := dk_42 (dk_at dksX0_alike_3 13 rfl rfl)
theorem dX0_alike_85 : decode cX0_alike 85 = .ok (.getfield 32, 3) := dk_180 0 32 (dk_at dksX0_alike_3 14 rfl rfl)
theorem dX0_alike_88 : decode cX0_alike 88 = .ok (.iload_n 2, 1) := dk_28 (dk_at dksX0_alike_3 17 rfl rfl)
theorem dX0_alike_89 : decode cX0_alike 89 = .ok (.aaload, 1) := dk_50 (dk_at dksX0_alike_3 18 rfl rfl)
theorem dX0_alike_90 : decode cX0_alike 90 = .ok (.invokestatic 253, 3) := dk_184 0 253 (dk_at dksX0_alike_3 19 rfl rfl)
theorem dX0_alike_93 : decode cX0_alike 93 = .ok (.if_icmp .ne 42, 3) := dk_160 0 42 (dk_at dksX0_alike_4 0 rfl rfl)
theorem dX0_alike_96 : decode cX0_alike 96 = .ok (.aload_n 0, 1) := dk_42 (dk_at dksX0_alike_4 3 rfl rfl)
theorem dX0_alike_97 : decode cX0_alike 97 = .ok (.getfield 51, 3) := dk_180 0 51 (dk_at dksX0_alike_4 4 rfl rfl)
theorem dX0_alike_100 : decode cX0_alike 100 = .ok (.iload_n 2, 1) := dk_28 (dk_at dksX0_alike_4 7 rfl rfl)
theorem dX0_alike_101 : decode cX0_alike 101 = .ok (.iaload, 1) := dk_46 (dk_at dksX0_alike_4 8 rfl rfl)
theorem dX0_alike_102 : decode cX0_alike 102 = .ok (.iload_n 3, 1) := dk_29 (dk_at dksX0_alike_4 9 rfl rfl)
theorem dX0_alike_103 : decode cX0_alike 103 = .ok (.if_icmp .ne 32, 3) := dk_160 0 32 (dk_at dksX0_alike_4 10 rfl rfl)
theorem dX0_alike_106 : decode cX0_alike 106 = .ok (.iload_n 3, 1) := dk_29 (dk_at dksX0_alike_4 13 rfl rfl)
theorem dX0_alike_107 : decode cX0_alike 107 = .ok (.bipush (-9), 2) := dk_16 247 (dk_at dksX0_alike_4 14 rfl rfl)
theorem dX0_alike_109 : decode cX0_alike 109 = .ok (.if_icmp .ne 22, 3) := dk_160 0 22 (dk_at dksX0_alike_4 16 rfl rfl)
theorem dX0_alike_112 : decode cX0_alike 112 = .ok (.aload_n 0, 1) := dk_42 (dk_at dksX0_alike_4 19 rfl rfl)
theorem dX0_alike_113 : decode cX0_alike 113 = .ok (.getfield 47, 3) := dk_180 0 47 (dk_at dksX0_alike_4 20 rfl rfl)
theorem dX0_alike_116 : decode cX0_alike 116 = .ok (.iload_n 2, 1) := dk_28 (dk_at dksX0_alike_4 23 rfl rfl)
theorem dX0_alike_117 : decode cX0_alike 117 = .ok (.laload, 1) := dk_47 (dk_at dksX0_alike_5 0 rfl rfl)
theorem dX0_alike_118 : decode cX0_alike 118 = .ok (.aload_n 0, 1) := dk_42 (dk_at dksX0_alike_5 1 rfl rfl)
theorem dX0_alike_119 : decode cX0_alike 119 = .ok (.getfield 32, 3) := dk_180 0 32 (dk_at dksX0_alike_5 2 rfl rfl)
theorem dX0_alike_122 : decode cX0_alike 122 = .ok (.iload_n 2, 1) := dk_28 (dk_at dksX0_alike_5 5 rfl rfl)
theorem dX0_alike_123 : decode cX0_alike 123 = .ok (.aaload, 1) := dk_50 (dk_at dksX0_alike_5 6 rfl rfl)
theorem dX0_alike_124 : decode cX0_alike 124 = .ok (.invokestatic 256, 3) := dk_184 1 0 (dk_at dksX0_alike_5 7 rfl rfl)
theorem dX0_alike_127 : decode cX0_alike 127 = .ok (.lcmp, 1) := dk_148 (dk_at dksX0_alike_5 10 rfl rfl)
theorem dX0_alike_128 : decode cX0_alike 128 = .ok (.ifCond .ne 7, 3) := dk_154 0 7 (dk_at dksX0_alike_5 11 rfl rfl)
theorem dX0_alike_131 : decode cX0_alike 131 = .ok (.iconst 1, 1) := dk_4 (dk_at dksX0_alike_5 14 rfl rfl)
theorem dX0_alike_132 : decode cX0_alike 132 = .ok (.goto 4, 3) := dk_167 0 4 (dk_at dksX0_alike_5 15 rfl rfl)
theorem dX0_alike_135 : decode cX0_alike 135 = .ok (.iconst 0, 1) := dk_3 (dk_at dksX0_alike_5 18 rfl rfl)
theorem dX0_alike_136 : decode cX0_alike 136 = .ok (.istore_n 1, 1) := dk_60 (dk_at dksX0_alike_5 19 rfl rfl)
theorem dX0_alike_137 : decode cX0_alike 137 = .ok (.iinc 2 1, 3) := dk_132 2 1 (dk_at dksX0_alike_5 20 rfl rfl)
theorem dX0_alike_140 : decode cX0_alike 140 = .ok (.goto (-102), 3) := dk_167 255 154 (dk_at dksX0_alike_6 0 rfl rfl)
theorem dX0_alike_143 : decode cX0_alike 143 = .ok (.iload_n 1, 1) := dk_27 (dk_at dksX0_alike_6 3 rfl rfl)
theorem dX0_alike_144 : decode cX0_alike 144 = .ok (.ifCond .eq 7, 3) := dk_153 0 7 (dk_at dksX0_alike_6 4 rfl rfl)
theorem dX0_alike_147 : decode cX0_alike 147 = .ok (.iconst 1, 1) := dk_4 (dk_at dksX0_alike_6 7 rfl rfl)
theorem dX0_alike_148 : decode cX0_alike 148 = .ok (.goto 4, 3) := dk_167 0 4 (dk_at dksX0_alike_6 8 rfl rfl)
theorem dX0_alike_151 : decode cX0_alike 151 = .ok (.iconst 0, 1) := dk_3 (dk_at dksX0_alike_6 11 rfl rfl)
theorem dX0_alike_152 : decode cX0_alike 152 = .ok (.ireturn, 1) := dk_172 (dk_at dksX0_alike_6 12 rfl rfl)
abbrev cX0_count : ByteArray := prog_1_method_30_code
def yX0_count : MethodName := ⟨RX0, "count", "(I)I"⟩
def dkwX0_count_9 : List UInt8 := [27, 16, 6, 160, 0, 10, 42, 180, 0, 113, 167, 0, 5, 21, 4, 172]
abbrev dktX0_count_9 : List UInt8 := dkwX0_count_9 ++ []
def dkwX0_count_8 : List UInt8 := [182, 0, 85, 167, 0, 36, 27, 6, 160, 0, 7, 28, 167, 0, 27, 27, 7, 160, 0, 7, 29, 167, 0, 18]
abbrev dktX0_count_8 : List UInt8 := dkwX0_count_8 ++ dktX0_count_9
def dkwX0_count_7 : List UInt8 := [27, 4, 160, 0, 13, 42, 180, 0, 109, 182, 0, 85, 167, 0, 51, 27, 5, 160, 0, 13, 42, 180, 0, 26]
abbrev dktX0_count_7 : List UInt8 := dkwX0_count_7 ++ dktX0_count_8
def dkwX0_count_6 : List UInt8 := [167, 0, 4, 3, 96, 54, 4, 132, 5, 1, 167, 255, 167, 27, 154, 0, 10, 42, 180, 0, 67, 167, 0, 66]
abbrev dktX0_count_6 : List UInt8 := dkwX0_count_6 ++ dktX0_count_7
def dkwX0_count_5 : List UInt8 := [50, 182, 0, 140, 4, 160, 0, 20, 42, 180, 0, 32, 21, 5, 50, 182, 0, 128, 199, 0, 7, 4]
abbrev dktX0_count_5 : List UInt8 := dkwX0_count_5 ++ dktX0_count_6
def dkwX0_count_4 : List UInt8 := [96, 61, 29, 21, 6, 4, 164, 0, 7, 4, 167, 0, 4, 3, 96, 62, 21, 4, 42, 180, 0, 32, 21, 5]
abbrev dktX0_count_4 : List UInt8 := dkwX0_count_4 ++ dktX0_count_5
def dkwX0_count_3 : List UInt8 := [42, 42, 180, 0, 32, 21, 5, 50, 182, 0, 179, 54, 6, 28, 21, 6, 158, 0, 7, 4, 167, 0, 4, 3]
abbrev dktX0_count_3 : List UInt8 := dkwX0_count_3 ++ dktX0_count_4
def dkwX0_count_2 : List UInt8 := [199, 0, 5, 3, 172, 3, 61, 3, 62, 3, 54, 4, 3, 54, 5, 21, 5, 42, 180, 0, 67, 162, 0, 86]
abbrev dktX0_count_2 : List UInt8 := dkwX0_count_2 ++ dktX0_count_3
def dkwX0_count_1 : List UInt8 := [180, 0, 203, 172, 27, 133, 9, 20, 1, 4, 184, 0, 124, 154, 0, 6, 16, 254, 172, 42, 180, 0, 59]
abbrev dktX0_count_1 : List UInt8 := dkwX0_count_1 ++ dktX0_count_2
def dkwX0_count_0 : List UInt8 := [27, 8, 159, 0, 9, 27, 16, 8, 160, 0, 20, 27, 8, 160, 0, 10, 42, 180, 0, 56, 167, 0, 7, 42]
abbrev dktX0_count_0 : List UInt8 := dkwX0_count_0 ++ dktX0_count_1
theorem dksX0_count_0 : cX0_count.data.toList.drop 0 = dktX0_count_0 := by decide +kernel
theorem dksX0_count_1 : cX0_count.data.toList.drop 24 = dktX0_count_1 := dk_seg dksX0_count_0 24 rfl rfl
theorem dksX0_count_2 : cX0_count.data.toList.drop 47 = dktX0_count_2 := dk_seg dksX0_count_1 23 rfl rfl
theorem dksX0_count_3 : cX0_count.data.toList.drop 71 = dktX0_count_3 := dk_seg dksX0_count_2 24 rfl rfl
theorem dksX0_count_4 : cX0_count.data.toList.drop 95 = dktX0_count_4 := dk_seg dksX0_count_3 24 rfl rfl
theorem dksX0_count_5 : cX0_count.data.toList.drop 119 = dktX0_count_5 := dk_seg dksX0_count_4 24 rfl rfl
theorem dksX0_count_6 : cX0_count.data.toList.drop 141 = dktX0_count_6 := dk_seg dksX0_count_5 22 rfl rfl
theorem dksX0_count_7 : cX0_count.data.toList.drop 165 = dktX0_count_7 := dk_seg dksX0_count_6 24 rfl rfl
theorem dksX0_count_8 : cX0_count.data.toList.drop 189 = dktX0_count_8 := dk_seg dksX0_count_7 24 rfl rfl
theorem dksX0_count_9 : cX0_count.data.toList.drop 213 = dktX0_count_9 := dk_seg dksX0_count_8 24 rfl rfl
theorem dX0_count_0 : decode cX0_count 0 = .ok (.iload_n 1, 1) := dk_27 (dk_at dksX0_count_0 0 rfl rfl)
theorem dX0_count_1 : decode cX0_count 1 = .ok (.iconst 5, 1) := dk_8 (dk_at dksX0_count_0 1 rfl rfl)
theorem dX0_count_2 : decode cX0_count 2 = .ok (.if_icmp .eq 9, 3) := dk_159 0 9 (dk_at dksX0_count_0 2 rfl rfl)
theorem dX0_count_5 : decode cX0_count 5 = .ok (.iload_n 1, 1) := dk_27 (dk_at dksX0_count_0 5 rfl rfl)
theorem dX0_count_6 : decode cX0_count 6 = .ok (.bipush 8, 2) := dk_16 8 (dk_at dksX0_count_0 6 rfl rfl)
theorem dX0_count_8 : decode cX0_count 8 = .ok (.if_icmp .ne 20, 3) := dk_160 0 20 (dk_at dksX0_count_0 8 rfl rfl)
theorem dX0_count_11 : decode cX0_count 11 = .ok (.iload_n 1, 1) := dk_27 (dk_at dksX0_count_0 11 rfl rfl)
theorem dX0_count_12 : decode cX0_count 12 = .ok (.iconst 5, 1) := dk_8 (dk_at dksX0_count_0 12 rfl rfl)
theorem dX0_count_13 : decode cX0_count 13 = .ok (.if_icmp .ne 10, 3) := dk_160 0 10 (dk_at dksX0_count_0 13 rfl rfl)
theorem dX0_count_16 : decode cX0_count 16 = .ok (.aload_n 0, 1) := dk_42 (dk_at dksX0_count_0 16 rfl rfl)
theorem dX0_count_17 : decode cX0_count 17 = .ok (.getfield 56, 3) := dk_180 0 56 (dk_at dksX0_count_0 17 rfl rfl)
theorem dX0_count_20 : decode cX0_count 20 = .ok (.goto 7, 3) := dk_167 0 7 (dk_at dksX0_count_0 20 rfl rfl)
theorem dX0_count_23 : decode cX0_count 23 = .ok (.aload_n 0, 1) := dk_42 (dk_at dksX0_count_0 23 rfl rfl)
theorem dX0_count_24 : decode cX0_count 24 = .ok (.getfield 203, 3) := dk_180 0 203 (dk_at dksX0_count_1 0 rfl rfl)
theorem dX0_count_27 : decode cX0_count 27 = .ok (.ireturn, 1) := dk_172 (dk_at dksX0_count_1 3 rfl rfl)
theorem dX0_count_28 : decode cX0_count 28 = .ok (.iload_n 1, 1) := dk_27 (dk_at dksX0_count_1 4 rfl rfl)
theorem dX0_count_29 : decode cX0_count 29 = .ok (.i2l, 1) := dk_133 (dk_at dksX0_count_1 5 rfl rfl)
theorem dX0_count_30 : decode cX0_count 30 = .ok (.lconst 0, 1) := dk_9 (dk_at dksX0_count_1 6 rfl rfl)
theorem dX0_count_31 : decode cX0_count 31 = .ok (.ldc2_w 260, 3) := dk_20 1 4 (dk_at dksX0_count_1 7 rfl rfl)
theorem dX0_count_34 : decode cX0_count 34 = .ok (.invokestatic 124, 3) := dk_184 0 124 (dk_at dksX0_count_1 10 rfl rfl)
theorem dX0_count_37 : decode cX0_count 37 = .ok (.ifCond .ne 6, 3) := dk_154 0 6 (dk_at dksX0_count_1 13 rfl rfl)
theorem dX0_count_40 : decode cX0_count 40 = .ok (.bipush (-2), 2) := dk_16 254 (dk_at dksX0_count_1 16 rfl rfl)
theorem dX0_count_42 : decode cX0_count 42 = .ok (.ireturn, 1) := dk_172 (dk_at dksX0_count_1 18 rfl rfl)
theorem dX0_count_43 : decode cX0_count 43 = .ok (.aload_n 0, 1) := dk_42 (dk_at dksX0_count_1 19 rfl rfl)
theorem dX0_count_44 : decode cX0_count 44 = .ok (.getfield 59, 3) := dk_180 0 59 (dk_at dksX0_count_1 20 rfl rfl)
theorem dX0_count_47 : decode cX0_count 47 = .ok (.ifnonnull 5, 3) := dk_199 0 5 (dk_at dksX0_count_2 0 rfl rfl)
theorem dX0_count_50 : decode cX0_count 50 = .ok (.iconst 0, 1) := dk_3 (dk_at dksX0_count_2 3 rfl rfl)
theorem dX0_count_51 : decode cX0_count 51 = .ok (.ireturn, 1) := dk_172 (dk_at dksX0_count_2 4 rfl rfl)
theorem dX0_count_52 : decode cX0_count 52 = .ok (.iconst 0, 1) := dk_3 (dk_at dksX0_count_2 5 rfl rfl)
theorem dX0_count_53 : decode cX0_count 53 = .ok (.istore_n 2, 1) := dk_61 (dk_at dksX0_count_2 6 rfl rfl)
theorem dX0_count_54 : decode cX0_count 54 = .ok (.iconst 0, 1) := dk_3 (dk_at dksX0_count_2 7 rfl rfl)
theorem dX0_count_55 : decode cX0_count 55 = .ok (.istore_n 3, 1) := dk_62 (dk_at dksX0_count_2 8 rfl rfl)
theorem dX0_count_56 : decode cX0_count 56 = .ok (.iconst 0, 1) := dk_3 (dk_at dksX0_count_2 9 rfl rfl)
theorem dX0_count_57 : decode cX0_count 57 = .ok (.istore 4, 2) := dk_54 4 (dk_at dksX0_count_2 10 rfl rfl)
theorem dX0_count_59 : decode cX0_count 59 = .ok (.iconst 0, 1) := dk_3 (dk_at dksX0_count_2 12 rfl rfl)
theorem dX0_count_60 : decode cX0_count 60 = .ok (.istore 5, 2) := dk_54 5 (dk_at dksX0_count_2 13 rfl rfl)
theorem dX0_count_62 : decode cX0_count 62 = .ok (.iload 5, 2) := dk_21 5 (dk_at dksX0_count_2 15 rfl rfl)
theorem dX0_count_64 : decode cX0_count 64 = .ok (.aload_n 0, 1) := dk_42 (dk_at dksX0_count_2 17 rfl rfl)
theorem dX0_count_65 : decode cX0_count 65 = .ok (.getfield 67, 3) := dk_180 0 67 (dk_at dksX0_count_2 18 rfl rfl)
theorem dX0_count_68 : decode cX0_count 68 = .ok (.if_icmp .ge 86, 3) := dk_162 0 86 (dk_at dksX0_count_2 21 rfl rfl)
theorem dX0_count_71 : decode cX0_count 71 = .ok (.aload_n 0, 1) := dk_42 (dk_at dksX0_count_3 0 rfl rfl)
theorem dX0_count_72 : decode cX0_count 72 = .ok (.aload_n 0, 1) := dk_42 (dk_at dksX0_count_3 1 rfl rfl)
theorem dX0_count_73 : decode cX0_count 73 = .ok (.getfield 32, 3) := dk_180 0 32 (dk_at dksX0_count_3 2 rfl rfl)
theorem dX0_count_76 : decode cX0_count 76 = .ok (.iload 5, 2) := dk_21 5 (dk_at dksX0_count_3 5 rfl rfl)
theorem dX0_count_78 : decode cX0_count 78 = .ok (.aaload, 1) := dk_50 (dk_at dksX0_count_3 7 rfl rfl)
theorem dX0_count_79 : decode cX0_count 79 = .ok (.invokevirtual 179, 3) := dk_182 0 179 (dk_at dksX0_count_3 8 rfl rfl)
theorem dX0_count_82 : decode cX0_count 82 = .ok (.istore 6, 2) := dk_54 6 (dk_at dksX0_count_3 11 rfl rfl)
theorem dX0_count_84 : decode cX0_count 84 = .ok (.iload_n 2, 1) := dk_28 (dk_at dksX0_count_3 13 rfl rfl)
theorem dX0_count_85 : decode cX0_count 85 = .ok (.iload 6, 2) := dk_21 6 (dk_at dksX0_count_3 14 rfl rfl)
theorem dX0_count_87 : decode cX0_count 87 = .ok (.ifCond .le 7, 3) := dk_158 0 7 (dk_at dksX0_count_3 16 rfl rfl)
theorem dX0_count_90 : decode cX0_count 90 = .ok (.iconst 1, 1) := dk_4 (dk_at dksX0_count_3 19 rfl rfl)
theorem dX0_count_91 : decode cX0_count 91 = .ok (.goto 4, 3) := dk_167 0 4 (dk_at dksX0_count_3 20 rfl rfl)
theorem dX0_count_94 : decode cX0_count 94 = .ok (.iconst 0, 1) := dk_3 (dk_at dksX0_count_3 23 rfl rfl)
theorem dX0_count_95 : decode cX0_count 95 = .ok (.iadd, 1) := dk_96 (dk_at dksX0_count_4 0 rfl rfl)
theorem dX0_count_96 : decode cX0_count 96 = .ok (.istore_n 2, 1) := dk_61 (dk_at dksX0_count_4 1 rfl rfl)
theorem dX0_count_97 : decode cX0_count 97 = .ok (.iload_n 3, 1) := dk_29 (dk_at dksX0_count_4 2 rfl rfl)
theorem dX0_count_98 : decode cX0_count 98 = .ok (.iload 6, 2) := dk_21 6 (dk_at dksX0_count_4 3 rfl rfl)
theorem dX0_count_100 : decode cX0_count 100 = .ok (.iconst 1, 1) := dk_4 (dk_at dksX0_count_4 5 rfl rfl)
theorem dX0_count_101 : decode cX0_count 101 = .ok (.if_icmp .le 7, 3) := dk_164 0 7 (dk_at dksX0_count_4 6 rfl rfl)
theorem dX0_count_104 : decode cX0_count 104 = .ok (.iconst 1, 1) := dk_4 (dk_at dksX0_count_4 9 rfl rfl)
theorem dX0_count_105 : decode cX0_count 105 = .ok (.goto 4, 3) := dk_167 0 4 (dk_at dksX0_count_4 10 rfl rfl)
theorem dX0_count_108 : decode cX0_count 108 = .ok (.iconst 0, 1) := dk_3 (dk_at dksX0_count_4 13 rfl rfl)
theorem dX0_count_109 : decode cX0_count 109 = .ok (.iadd, 1) := dk_96 (dk_at dksX0_count_4 14 rfl rfl)
theorem dX0_count_110 : decode cX0_count 110 = .ok (.istore_n 3, 1) := dk_62 (dk_at dksX0_count_4 15 rfl rfl)
theorem dX0_count_111 : decode cX0_count 111 = .ok (.iload 4, 2) := dk_21 4 (dk_at dksX0_count_4 16 rfl rfl)
theorem dX0_count_113 : decode cX0_count 113 = .ok (.aload_n 0, 1) := dk_42 (dk_at dksX0_count_4 18 rfl rfl)
theorem dX0_count_114 : decode cX0_count 114 = .ok (.getfield 32, 3) := dk_180 0 32 (dk_at dksX0_count_4 19 rfl rfl)
theorem dX0_count_117 : decode cX0_count 117 = .ok (.iload 5, 2) := dk_21 5 (dk_at dksX0_count_4 22 rfl rfl)
theorem dX0_count_119 : decode cX0_count 119 = .ok (.aaload, 1) := dk_50 (dk_at dksX0_count_5 0 rfl rfl)
theorem dX0_count_120 : decode cX0_count 120 = .ok (.invokevirtual 140, 3) := dk_182 0 140 (dk_at dksX0_count_5 1 rfl rfl)
theorem dX0_count_123 : decode cX0_count 123 = .ok (.iconst 1, 1) := dk_4 (dk_at dksX0_count_5 4 rfl rfl)
theorem dX0_count_124 : decode cX0_count 124 = .ok (.if_icmp .ne 20, 3) := dk_160 0 20 (dk_at dksX0_count_5 5 rfl rfl)
theorem dX0_count_127 : decode cX0_count 127 = .ok (.aload_n 0, 1) := dk_42 (dk_at dksX0_count_5 8 rfl rfl)
theorem dX0_count_128 : decode cX0_count 128 = .ok (.getfield 32, 3) := dk_180 0 32 (dk_at dksX0_count_5 9 rfl rfl)
theorem dX0_count_131 : decode cX0_count 131 = .ok (.iload 5, 2) := dk_21 5 (dk_at dksX0_count_5 12 rfl rfl)
theorem dX0_count_133 : decode cX0_count 133 = .ok (.aaload, 1) := dk_50 (dk_at dksX0_count_5 14 rfl rfl)
theorem dX0_count_134 : decode cX0_count 134 = .ok (.invokevirtual 128, 3) := dk_182 0 128 (dk_at dksX0_count_5 15 rfl rfl)
theorem dX0_count_137 : decode cX0_count 137 = .ok (.ifnonnull 7, 3) := dk_199 0 7 (dk_at dksX0_count_5 18 rfl rfl)
theorem dX0_count_140 : decode cX0_count 140 = .ok (.iconst 1, 1) := dk_4 (dk_at dksX0_count_5 21 rfl rfl)
theorem dX0_count_141 : decode cX0_count 141 = .ok (.goto 4, 3) := dk_167 0 4 (dk_at dksX0_count_6 0 rfl rfl)
theorem dX0_count_144 : decode cX0_count 144 = .ok (.iconst 0, 1) := dk_3 (dk_at dksX0_count_6 3 rfl rfl)
theorem dX0_count_145 : decode cX0_count 145 = .ok (.iadd, 1) := dk_96 (dk_at dksX0_count_6 4 rfl rfl)
theorem dX0_count_146 : decode cX0_count 146 = .ok (.istore 4, 2) := dk_54 4 (dk_at dksX0_count_6 5 rfl rfl)
theorem dX0_count_148 : decode cX0_count 148 = .ok (.iinc 5 1, 3) := dk_132 5 1 (dk_at dksX0_count_6 7 rfl rfl)
theorem dX0_count_151 : decode cX0_count 151 = .ok (.goto (-89), 3) := dk_167 255 167 (dk_at dksX0_count_6 10 rfl rfl)
theorem dX0_count_154 : decode cX0_count 154 = .ok (.iload_n 1, 1) := dk_27 (dk_at dksX0_count_6 13 rfl rfl)
theorem dX0_count_155 : decode cX0_count 155 = .ok (.ifCond .ne 10, 3) := dk_154 0 10 (dk_at dksX0_count_6 14 rfl rfl)
theorem dX0_count_158 : decode cX0_count 158 = .ok (.aload_n 0, 1) := dk_42 (dk_at dksX0_count_6 17 rfl rfl)
theorem dX0_count_159 : decode cX0_count 159 = .ok (.getfield 67, 3) := dk_180 0 67 (dk_at dksX0_count_6 18 rfl rfl)
theorem dX0_count_162 : decode cX0_count 162 = .ok (.goto 66, 3) := dk_167 0 66 (dk_at dksX0_count_6 21 rfl rfl)
theorem dX0_count_165 : decode cX0_count 165 = .ok (.iload_n 1, 1) := dk_27 (dk_at dksX0_count_7 0 rfl rfl)
theorem dX0_count_166 : decode cX0_count 166 = .ok (.iconst 1, 1) := dk_4 (dk_at dksX0_count_7 1 rfl rfl)
theorem dX0_count_167 : decode cX0_count 167 = .ok (.if_icmp .ne 13, 3) := dk_160 0 13 (dk_at dksX0_count_7 2 rfl rfl)
theorem dX0_count_170 : decode cX0_count 170 = .ok (.aload_n 0, 1) := dk_42 (dk_at dksX0_count_7 5 rfl rfl)
theorem dX0_count_171 : decode cX0_count 171 = .ok (.getfield 109, 3) := dk_180 0 109 (dk_at dksX0_count_7 6 rfl rfl)
theorem dX0_count_174 : decode cX0_count 174 = .ok (.invokevirtual 85, 3) := dk_182 0 85 (dk_at dksX0_count_7 9 rfl rfl)
theorem dX0_count_177 : decode cX0_count 177 = .ok (.goto 51, 3) := dk_167 0 51 (dk_at dksX0_count_7 12 rfl rfl)
theorem dX0_count_180 : decode cX0_count 180 = .ok (.iload_n 1, 1) := dk_27 (dk_at dksX0_count_7 15 rfl rfl)
theorem dX0_count_181 : decode cX0_count 181 = .ok (.iconst 2, 1) := dk_5 (dk_at dksX0_count_7 16 rfl rfl)
theorem dX0_count_182 : decode cX0_count 182 = .ok (.if_icmp .ne 13, 3) := dk_160 0 13 (dk_at dksX0_count_7 17 rfl rfl)
theorem dX0_count_185 : decode cX0_count 185 = .ok (.aload_n 0, 1) := dk_42 (dk_at dksX0_count_7 20 rfl rfl)
theorem dX0_count_186 : decode cX0_count 186 = .ok (.getfield 26, 3) := dk_180 0 26 (dk_at dksX0_count_7 21 rfl rfl)
theorem dX0_count_189 : decode cX0_count 189 = .ok (.invokevirtual 85, 3) := dk_182 0 85 (dk_at dksX0_count_8 0 rfl rfl)
theorem dX0_count_192 : decode cX0_count 192 = .ok (.goto 36, 3) := dk_167 0 36 (dk_at dksX0_count_8 3 rfl rfl)
theorem dX0_count_195 : decode cX0_count 195 = .ok (.iload_n 1, 1) := dk_27 (dk_at dksX0_count_8 6 rfl rfl)
theorem dX0_count_196 : decode cX0_count 196 = .ok (.iconst 3, 1) := dk_6 (dk_at dksX0_count_8 7 rfl rfl)
theorem dX0_count_197 : decode cX0_count 197 = .ok (.if_icmp .ne 7, 3) := dk_160 0 7 (dk_at dksX0_count_8 8 rfl rfl)
theorem dX0_count_200 : decode cX0_count 200 = .ok (.iload_n 2, 1) := dk_28 (dk_at dksX0_count_8 11 rfl rfl)
theorem dX0_count_201 : decode cX0_count 201 = .ok (.goto 27, 3) := dk_167 0 27 (dk_at dksX0_count_8 12 rfl rfl)
theorem dX0_count_204 : decode cX0_count 204 = .ok (.iload_n 1, 1) := dk_27 (dk_at dksX0_count_8 15 rfl rfl)
theorem dX0_count_205 : decode cX0_count 205 = .ok (.iconst 4, 1) := dk_7 (dk_at dksX0_count_8 16 rfl rfl)
theorem dX0_count_206 : decode cX0_count 206 = .ok (.if_icmp .ne 7, 3) := dk_160 0 7 (dk_at dksX0_count_8 17 rfl rfl)
theorem dX0_count_209 : decode cX0_count 209 = .ok (.iload_n 3, 1) := dk_29 (dk_at dksX0_count_8 20 rfl rfl)
theorem dX0_count_210 : decode cX0_count 210 = .ok (.goto 18, 3) := dk_167 0 18 (dk_at dksX0_count_8 21 rfl rfl)
theorem dX0_count_213 : decode cX0_count 213 = .ok (.iload_n 1, 1) := dk_27 (dk_at dksX0_count_9 0 rfl rfl)
theorem dX0_count_214 : decode cX0_count 214 = .ok (.bipush 6, 2) := dk_16 6 (dk_at dksX0_count_9 1 rfl rfl)
theorem dX0_count_216 : decode cX0_count 216 = .ok (.if_icmp .ne 10, 3) := dk_160 0 10 (dk_at dksX0_count_9 3 rfl rfl)
theorem dX0_count_219 : decode cX0_count 219 = .ok (.aload_n 0, 1) := dk_42 (dk_at dksX0_count_9 6 rfl rfl)
theorem dX0_count_220 : decode cX0_count 220 = .ok (.getfield 113, 3) := dk_180 0 113 (dk_at dksX0_count_9 7 rfl rfl)
theorem dX0_count_223 : decode cX0_count 223 = .ok (.goto 5, 3) := dk_167 0 5 (dk_at dksX0_count_9 10 rfl rfl)
theorem dX0_count_226 : decode cX0_count 226 = .ok (.iload 4, 2) := dk_21 4 (dk_at dksX0_count_9 13 rfl rfl)
theorem dX0_count_228 : decode cX0_count 228 = .ok (.ireturn, 1) := dk_172 (dk_at dksX0_count_9 15 rfl rfl)
theorem q66 : (Jvm.Cond.initialized "MacroGlass") ∈ lw_all := lw_g (lw_at lw_m1 1 rfl) rfl
theorem q101 : (Jvm.Cond.instantiable "MacroGlass" (15 : Nat)) ∈ lw_all := lw_g (lw_at lw_m1 36 rfl) rfl
theorem q103 : (Jvm.Cond.instanceMethod ({ cls := "MacroGlass", name := "<init>", desc := "()V" } : Jvm.MethodName)) ∈ lw_all := lw_g (lw_at lw_m1 38 rfl) rfl
theorem q104 : (Jvm.Cond.code ({ cls := "MacroGlass", name := "<init>", desc := "()V" } : Jvm.MethodName) prog_1_method_3_code (1 : Nat) (Option.none : Option Jvm.ClassFile.FieldType)) ∈ lw_all := lw_g (lw_at lw_m1 39 rfl) rfl
theorem q105 : (Jvm.Cond.methodLink "MacroGlass" (11 : Nat) ({ cls := "java/lang/Object", name := "<init>", desc := "()V" } : Jvm.MethodName)) ∈ lw_all := lw_g (lw_at lw_m1 40 rfl) rfl
theorem q108 : (Jvm.Cond.classLink "MacroGlass" (23 : Nat) "java/util/ArrayList") ∈ lw_all := lw_g (lw_at lw_m1 43 rfl) rfl
theorem q110 : (Jvm.Cond.methodLink "MacroGlass" (25 : Nat) ({ cls := "java/util/ArrayList", name := "<init>", desc := "()V" } : Jvm.MethodName)) ∈ lw_all := lw_g (lw_at lw_m1 45 rfl) rfl
theorem q135 : (Jvm.Cond.classLink "MacroGlass" (30 : Nat) "MacroGlass$Item") ∈ lw_all := lw_g (lw_at lw_m1 70 rfl) rfl
theorem q137 : (Jvm.Cond.fieldLink "MacroGlass" (19 : Nat) "MacroGlass" "tape" "[B") ∈ lw_all := lw_g (lw_at lw_m1 72 rfl) rfl
theorem q138 : (Jvm.Cond.fieldLink "MacroGlass" (56 : Nat) "MacroGlass" "fed" "I") ∈ lw_all := lw_g (lw_at lw_m1 73 rfl) rfl
theorem q139 : (Jvm.Cond.fieldLink "MacroGlass" (116 : Nat) "MacroGlass" "fault" "I") ∈ lw_all := lw_g (lw_at lw_m1 74 rfl) rfl
theorem q140 : (Jvm.Cond.fieldLink "MacroGlass" (109 : Nat) "MacroGlass" "rules" "Ljava/util/ArrayList;") ∈ lw_all := lw_g (lw_at lw_m1 75 rfl) rfl
theorem q141 : (Jvm.Cond.fieldLink "MacroGlass" (59 : Nat) "MacroGlass" "term" "LMacroGlass$Item;") ∈ lw_all := lw_g (lw_at lw_m1 76 rfl) rfl
theorem q142 : (Jvm.Cond.fieldLink "MacroGlass" (26 : Nat) "MacroGlass" "steps" "Ljava/util/ArrayList;") ∈ lw_all := lw_g (lw_at lw_m1 77 rfl) rfl
theorem q143 : (Jvm.Cond.fieldLink "MacroGlass" (113 : Nat) "MacroGlass" "backs" "I") ∈ lw_all := lw_g (lw_at lw_m1 78 rfl) rfl
theorem q144 : (Jvm.Cond.fieldLink "MacroGlass" (203 : Nat) "MacroGlass" "made" "I") ∈ lw_all := lw_g (lw_at lw_m1 79 rfl) rfl
theorem q145 : (Jvm.Cond.fieldLink "MacroGlass" (32 : Nat) "MacroGlass" "row" "[LMacroGlass$Item;") ∈ lw_all := lw_g (lw_at lw_m1 80 rfl) rfl
theorem q146 : (Jvm.Cond.fieldLink "MacroGlass" (67 : Nat) "MacroGlass" "items" "I") ∈ lw_all := lw_g (lw_at lw_m1 81 rfl) rfl
theorem q147 : (Jvm.Cond.fieldLink "MacroGlass" (36 : Nat) "MacroGlass" "kept" "I") ∈ lw_all := lw_g (lw_at lw_m1 82 rfl) rfl
theorem q148 : (Jvm.Cond.fieldLink "MacroGlass" (40 : Nat) "MacroGlass" "keptKind" "[I") ∈ lw_all := lw_g (lw_at lw_m1 83 rfl) rfl
theorem q149 : (Jvm.Cond.fieldLink "MacroGlass" (44 : Nat) "MacroGlass" "keptSize" "[I") ∈ lw_all := lw_g (lw_at lw_m1 84 rfl) rfl
theorem q150 : (Jvm.Cond.fieldLink "MacroGlass" (47 : Nat) "MacroGlass" "keptLetters" "[J") ∈ lw_all := lw_g (lw_at lw_m1 85 rfl) rfl
theorem q151 : (Jvm.Cond.fieldLink "MacroGlass" (51 : Nat) "MacroGlass" "keptReads" "[I") ∈ lw_all := lw_g (lw_at lw_m1 86 rfl) rfl
theorem q152 : (Jvm.Cond.laysFinal "MacroGlass" "MacroGlass" "tape" "[B") ∈ lw_all := lw_g (lw_at lw_m1 87 rfl) rfl
theorem q153 : (Jvm.Cond.soleField "MacroGlass" "tape") ∈ lw_all := lw_g (lw_at lw_m1 88 rfl) rfl
theorem q154 : (Jvm.Cond.lays "MacroGlass" "MacroGlass" "fed" "I") ∈ lw_all := lw_g (lw_at lw_m1 89 rfl) rfl
theorem q155 : (Jvm.Cond.soleField "MacroGlass" "fed") ∈ lw_all := lw_g (lw_at lw_m1 90 rfl) rfl
theorem q156 : (Jvm.Cond.lays "MacroGlass" "MacroGlass" "fault" "I") ∈ lw_all := lw_g (lw_at lw_m1 91 rfl) rfl
theorem q157 : (Jvm.Cond.soleField "MacroGlass" "fault") ∈ lw_all := lw_g (lw_at lw_m1 92 rfl) rfl
theorem q158 : (Jvm.Cond.lays "MacroGlass" "MacroGlass" "rules" "Ljava/util/ArrayList;") ∈ lw_all := lw_g (lw_at lw_m1 93 rfl) rfl
theorem q159 : (Jvm.Cond.soleField "MacroGlass" "rules") ∈ lw_all := lw_g (lw_at lw_m1 94 rfl) rfl
theorem q160 : (Jvm.Cond.lays "MacroGlass" "MacroGlass" "term" "LMacroGlass$Item;") ∈ lw_all := lw_g (lw_at lw_m1 95 rfl) rfl
theorem q161 : (Jvm.Cond.soleField "MacroGlass" "term") ∈ lw_all := lw_g (lw_at lw_m1 96 rfl) rfl
theorem q162 : (Jvm.Cond.laysFinal "MacroGlass" "MacroGlass" "steps" "Ljava/util/ArrayList;") ∈ lw_all := lw_g (lw_at lw_m1 97 rfl) rfl
theorem q163 : (Jvm.Cond.soleField "MacroGlass" "steps") ∈ lw_all := lw_g (lw_at lw_m1 98 rfl) rfl
theorem q164 : (Jvm.Cond.lays "MacroGlass" "MacroGlass" "backs" "I") ∈ lw_all := lw_g (lw_at lw_m1 99 rfl) rfl
theorem q165 : (Jvm.Cond.soleField "MacroGlass" "backs") ∈ lw_all := lw_g (lw_at lw_m1 100 rfl) rfl
theorem q166 : (Jvm.Cond.lays "MacroGlass" "MacroGlass" "made" "I") ∈ lw_all := lw_g (lw_at lw_m1 101 rfl) rfl
theorem q167 : (Jvm.Cond.soleField "MacroGlass" "made") ∈ lw_all := lw_g (lw_at lw_m1 102 rfl) rfl
theorem q168 : (Jvm.Cond.laysFinal "MacroGlass" "MacroGlass" "row" "[LMacroGlass$Item;") ∈ lw_all := lw_g (lw_at lw_m1 103 rfl) rfl
theorem q169 : (Jvm.Cond.soleField "MacroGlass" "row") ∈ lw_all := lw_g (lw_at lw_m1 104 rfl) rfl
theorem q170 : (Jvm.Cond.lays "MacroGlass" "MacroGlass" "items" "I") ∈ lw_all := lw_g (lw_at lw_m1 105 rfl) rfl
theorem q171 : (Jvm.Cond.soleField "MacroGlass" "items") ∈ lw_all := lw_g (lw_at lw_m1 106 rfl) rfl
theorem q172 : (Jvm.Cond.lays "MacroGlass" "MacroGlass" "kept" "I") ∈ lw_all := lw_g (lw_at lw_m1 107 rfl) rfl
theorem q173 : (Jvm.Cond.soleField "MacroGlass" "kept") ∈ lw_all := lw_g (lw_at lw_m1 108 rfl) rfl
theorem q174 : (Jvm.Cond.laysFinal "MacroGlass" "MacroGlass" "keptKind" "[I") ∈ lw_all := lw_g (lw_at lw_m1 109 rfl) rfl
theorem q175 : (Jvm.Cond.soleField "MacroGlass" "keptKind") ∈ lw_all := lw_g (lw_at lw_m1 110 rfl) rfl
theorem q176 : (Jvm.Cond.laysFinal "MacroGlass" "MacroGlass" "keptSize" "[I") ∈ lw_all := lw_g (lw_at lw_m1 111 rfl) rfl
theorem q177 : (Jvm.Cond.soleField "MacroGlass" "keptSize") ∈ lw_all := lw_g (lw_at lw_m1 112 rfl) rfl
theorem q178 : (Jvm.Cond.laysFinal "MacroGlass" "MacroGlass" "keptLetters" "[J") ∈ lw_all := lw_g (lw_at lw_m1 113 rfl) rfl
theorem q179 : (Jvm.Cond.soleField "MacroGlass" "keptLetters") ∈ lw_all := lw_g (lw_at lw_m1 114 rfl) rfl
theorem q180 : (Jvm.Cond.laysFinal "MacroGlass" "MacroGlass" "keptReads" "[I") ∈ lw_all := lw_g (lw_at lw_m1 115 rfl) rfl
theorem q181 : (Jvm.Cond.soleField "MacroGlass" "keptReads") ∈ lw_all := lw_g (lw_at lw_m1 116 rfl) rfl
theorem q182 : (Jvm.Cond.superclass "MacroGlass" "java/lang/Object") ∈ lw_all := lw_g (lw_at lw_m1 117 rfl) rfl
theorem q186 : (Jvm.Cond.instanceMethod ({ cls := "MacroGlass", name := "feed", desc := "(J)I" } : Jvm.MethodName)) ∈ lw_all := lw_g (lw_at lw_m1 121 rfl) rfl
theorem q187 : (Jvm.Cond.selects "MacroGlass" ({ cls := "MacroGlass", name := "feed", desc := "(J)I" } : Jvm.MethodName) ({ cls := "MacroGlass", name := "feed", desc := "(J)I" } : Jvm.MethodName)) ∈ lw_all := lw_g (lw_at lw_m1 122 rfl) rfl
theorem q188 : (Jvm.Cond.code ({ cls := "MacroGlass", name := "feed", desc := "(J)I" } : Jvm.MethodName) prog_1_method_4_code (5 : Nat) (Option.some Jvm.ClassFile.FieldType.int)) ∈ lw_all := lw_g (lw_at lw_m1 123 rfl) rfl
theorem q189 : (Jvm.Cond.constantLong "MacroGlass" (54 : Nat) (255 : Int64)) ∈ lw_all := lw_g (lw_at lw_m1 124 rfl) rfl
theorem q191 : (Jvm.Cond.instanceMethod ({ cls := "MacroGlass", name := "read", desc := "()I" } : Jvm.MethodName)) ∈ lw_all := lw_g (lw_at lw_m1 126 rfl) rfl
theorem q192 : (Jvm.Cond.selects "MacroGlass" ({ cls := "MacroGlass", name := "read", desc := "()I" } : Jvm.MethodName) ({ cls := "MacroGlass", name := "read", desc := "()I" } : Jvm.MethodName)) ∈ lw_all := lw_g (lw_at lw_m1 127 rfl) rfl
theorem q193 : (Jvm.Cond.codeWith ({ cls := "MacroGlass", name := "read", desc := "()I" } : Jvm.MethodName) prog_1_method_6_code (5 : Nat) (Option.some Jvm.ClassFile.FieldType.int) [((0 : Nat), (134 : Nat), (135 : Nat), (101 : Nat))]) ∈ lw_all := lw_g (lw_at lw_m1 128 rfl) rfl
theorem q194 : (Jvm.Cond.classLink "MacroGlass" (101 : Nat) "MacroGlass$Wrong") ∈ lw_all := lw_g (lw_at lw_m1 129 rfl) rfl
theorem q195 : (Jvm.Cond.classLink "MacroGlass" (70 : Nat) "MacroGlass$Parser") ∈ lw_all := lw_g (lw_at lw_m1 130 rfl) rfl
theorem q197 : (Jvm.Cond.methodLink "MacroGlass" (72 : Nat) ({ cls := "MacroGlass$Parser", name := "<init>", desc := "([BI)V" } : Jvm.MethodName)) ∈ lw_all := lw_g (lw_at lw_m1 132 rfl) rfl
theorem q211 : (Jvm.Cond.fieldLinkNest "MacroGlass" (82 : Nat) "MacroGlass$Parser" "rules" "Ljava/util/ArrayList;" "MacroGlass") ∈ lw_tbl := lw_at lw_m1 146 rfl
theorem q229 : (Jvm.Cond.methodLink "MacroGlass" (75 : Nat) ({ cls := "MacroGlass$Parser", name := "program", desc := "()LMacroGlass$Item;" } : Jvm.MethodName)) ∈ lw_all := lw_g (lw_at lw_m1 164 rfl) rfl
theorem q248 : (Jvm.Cond.static ({ cls := "MacroGlass", name := "in", desc := "(JJJ)Z" } : Jvm.MethodName)) ∈ lw_all := lw_g (lw_at lw_m1 183 rfl) rfl
theorem q249 : (Jvm.Cond.code ({ cls := "MacroGlass", name := "in", desc := "(JJJ)Z" } : Jvm.MethodName) prog_1_method_1_code (6 : Nat) (Option.some Jvm.ClassFile.FieldType.boolean)) ∈ lw_all := lw_g (lw_at lw_m1 184 rfl) rfl
theorem q271 : (Jvm.Cond.static ({ cls := "MacroGlass", name := "word", desc := "(Ljava/lang/String;)J" } : Jvm.MethodName)) ∈ lw_all := lw_g (lw_at lw_m1 206 rfl) rfl
theorem q272 : (Jvm.Cond.code ({ cls := "MacroGlass", name := "word", desc := "(Ljava/lang/String;)J" } : Jvm.MethodName) prog_1_method_2_code (4 : Nat) (Option.some Jvm.ClassFile.FieldType.long)) ∈ lw_all := lw_g (lw_at lw_m1 207 rfl) rfl
theorem q273 : (Jvm.Cond.methodLink "MacroGlass" (1 : Nat) ({ cls := "java/lang/String", name := "length", desc := "()I" } : Jvm.MethodName)) ∈ lw_all := lw_g (lw_at lw_m1 208 rfl) rfl
theorem q283 : (Jvm.Cond.methodLink "MacroGlass" (7 : Nat) ({ cls := "java/lang/String", name := "charAt", desc := "(I)C" } : Jvm.MethodName)) ∈ lw_all := lw_g (lw_at lw_m1 218 rfl) rfl
theorem q380 : (Jvm.Cond.fieldLinkNest "MacroGlass" (122 : Nat) "MacroGlass$Wrong" "kind" "I" "MacroGlass") ∈ lw_tbl := lw_at lw_m2 75 rfl
theorem q382 : (Jvm.Cond.fieldLinkNest "MacroGlass" (123 : Nat) "MacroGlass$Wrong" "place" "I" "MacroGlass") ∈ lw_tbl := lw_at lw_m2 77 rfl
theorem q482 : (Jvm.Cond.selects "MacroGlass" ({ cls := "java/lang/Object", name := "getClass", desc := "()Ljava/lang/Class;" } : Jvm.MethodName) ({ cls := "java/lang/Object", name := "getClass", desc := "()Ljava/lang/Class;" } : Jvm.MethodName)) ∈ lw_all := lw_g (lw_at lw_m2 177 rfl) rfl
theorem q566 : (Jvm.Cond.fieldLink "MacroGlass" (190 : Nat) "MacroGlass$Rule" "template" "LMacroGlass$Part;") ∈ lw_all := lw_g (lw_at lw_m3 21 rfl) rfl
theorem q596 : (Jvm.Cond.fieldLinkNest "MacroGlass" (246 : Nat) "MacroGlass$List" "items" "Ljava/util/ArrayList;" "MacroGlass") ∈ lw_tbl := lw_at lw_m3 51 rfl
theorem q605 : (Jvm.Cond.fieldLink "MacroGlass" (149 : Nat) "MacroGlass$Item" "place" "I") ∈ lw_all := lw_g (lw_at lw_m3 60 rfl) rfl
theorem q613 : (Jvm.Cond.fieldLink "MacroGlass" (150 : Nat) "MacroGlass$Item" "maker" "I") ∈ lw_all := lw_g (lw_at lw_m3 68 rfl) rfl
theorem q618 : (Jvm.Cond.fieldLink "MacroGlass" (153 : Nat) "MacroGlass$Item" "in" "LMacroGlass$List;") ∈ lw_all := lw_g (lw_at lw_m3 73 rfl) rfl
theorem q620 : (Jvm.Cond.fieldLink "MacroGlass" (245 : Nat) "MacroGlass$List" "in" "LMacroGlass$List;") ∈ lw_all := lw_g (lw_at lw_m3 75 rfl) rfl
theorem q623 : (Jvm.Cond.fieldLink "MacroGlass" (132 : Nat) "MacroGlass$Name" "number" "I") ∈ lw_all := lw_g (lw_at lw_m3 78 rfl) rfl
theorem q625 : (Jvm.Cond.fieldLink "MacroGlass" (156 : Nat) "MacroGlass$List" "number" "I") ∈ lw_all := lw_g (lw_at lw_m3 80 rfl) rfl
theorem q673 : (Jvm.Cond.fieldLinkNest "MacroGlass" (163 : Nat) "MacroGlass$Name" "letters" "J" "MacroGlass") ∈ lw_tbl := lw_at lw_m3 128 rfl
theorem q708 : (Jvm.Cond.classLink "MacroGlass" (79 : Nat) "MacroGlass$Check") ∈ lw_all := lw_g (lw_at lw_m3 163 rfl) rfl
theorem q710 : (Jvm.Cond.methodLinkNest "MacroGlass" (81 : Nat) ({ cls := "MacroGlass$Check", name := "<init>", desc := "()V" } : Jvm.MethodName) "MacroGlass") ∈ lw_tbl := lw_at lw_m3 165 rfl
theorem q715 : (Jvm.Cond.fieldLinkNest "MacroGlass" (103 : Nat) "MacroGlass$Check" "kind" "I" "MacroGlass") ∈ lw_tbl := lw_at lw_m3 170 rfl
theorem q717 : (Jvm.Cond.fieldLinkNest "MacroGlass" (98 : Nat) "MacroGlass$Check" "place" "I" "MacroGlass") ∈ lw_tbl := lw_at lw_m3 172 rfl
theorem q723 : (Jvm.Cond.methodLink "MacroGlass" (85 : Nat) ({ cls := "java/util/ArrayList", name := "size", desc := "()I" } : Jvm.MethodName)) ∈ lw_all := lw_g (lw_at lw_m3 178 rfl) rfl
theorem q724 : (Jvm.Cond.methodLink "MacroGlass" (88 : Nat) ({ cls := "java/util/ArrayList", name := "get", desc := "(I)Ljava/lang/Object;" } : Jvm.MethodName)) ∈ lw_all := lw_g (lw_at lw_m3 179 rfl) rfl
theorem q725 : (Jvm.Cond.classLink "MacroGlass" (92 : Nat) "MacroGlass$Rule") ∈ lw_all := lw_g (lw_at lw_m3 180 rfl) rfl
theorem q726 : (Jvm.Cond.methodLink "MacroGlass" (94 : Nat) ({ cls := "MacroGlass$Rule", name := "check", desc := "(LMacroGlass$Check;)V" } : Jvm.MethodName)) ∈ lw_all := lw_g (lw_at lw_m3 181 rfl) rfl
theorem q762 : (Jvm.Cond.methodLink "MacroGlass" (106 : Nat) ({ cls := "MacroGlass$Wrong", name := "<init>", desc := "(II)V" } : Jvm.MethodName)) ∈ lw_all := lw_g (lw_at lw_m3 217 rfl) rfl
theorem q763 : (Jvm.Cond.methodLink "MacroGlass" (110 : Nat) ({ cls := "java/util/ArrayList", name := "clear", desc := "()V" } : Jvm.MethodName)) ∈ lw_all := lw_g (lw_at lw_m3 218 rfl) rfl
theorem q767 : (Jvm.Cond.methodLink "MacroGlass" (119 : Nat) ({ cls := "MacroGlass", name := "number", desc := "()V" } : Jvm.MethodName)) ∈ lw_all := lw_g (lw_at lw_m3 222 rfl) rfl
theorem q768 : (Jvm.Cond.privateMethod ({ cls := "MacroGlass", name := "number", desc := "()V" } : Jvm.MethodName)) ∈ lw_tbl := lw_at lw_m3 223 rfl
theorem q769 : (Jvm.Cond.instanceMethod ({ cls := "MacroGlass", name := "number", desc := "()V" } : Jvm.MethodName)) ∈ lw_all := lw_g (lw_at lw_m3 224 rfl) rfl
theorem q770 : (Jvm.Cond.code ({ cls := "MacroGlass", name := "number", desc := "()V" } : Jvm.MethodName) prog_1_method_5_code (1 : Nat) (Option.none : Option Jvm.ClassFile.FieldType)) ∈ lw_all := lw_g (lw_at lw_m3 225 rfl) rfl
theorem q771 : (Jvm.Cond.methodLink "MacroGlass" (63 : Nat) ({ cls := "MacroGlass$Item", name := "lay", desc := "([LMacroGlass$Item;I)I" } : Jvm.MethodName)) ∈ lw_all := lw_g (lw_at lw_m3 226 rfl) rfl
theorem q783 : (Jvm.Cond.instanceMethod ({ cls := "MacroGlass", name := "fault", desc := "()I" } : Jvm.MethodName)) ∈ lw_all := lw_g (lw_at lw_m3 238 rfl) rfl
theorem q784 : (Jvm.Cond.selects "MacroGlass" ({ cls := "MacroGlass", name := "fault", desc := "()I" } : Jvm.MethodName) ({ cls := "MacroGlass", name := "fault", desc := "()I" } : Jvm.MethodName)) ∈ lw_all := lw_g (lw_at lw_m3 239 rfl) rfl
theorem q785 : (Jvm.Cond.code ({ cls := "MacroGlass", name := "fault", desc := "()I" } : Jvm.MethodName) prog_1_method_7_code (1 : Nat) (Option.some Jvm.ClassFile.FieldType.int)) ∈ lw_all := lw_g (lw_at lw_m4 0 rfl) rfl
theorem q787 : (Jvm.Cond.instanceMethod ({ cls := "MacroGlass", name := "cut", desc := "()I" } : Jvm.MethodName)) ∈ lw_all := lw_g (lw_at lw_m4 2 rfl) rfl
theorem q788 : (Jvm.Cond.selects "MacroGlass" ({ cls := "MacroGlass", name := "cut", desc := "()I" } : Jvm.MethodName) ({ cls := "MacroGlass", name := "cut", desc := "()I" } : Jvm.MethodName)) ∈ lw_all := lw_g (lw_at lw_m4 3 rfl) rfl
theorem q789 : (Jvm.Cond.code ({ cls := "MacroGlass", name := "cut", desc := "()I" } : Jvm.MethodName) prog_1_method_8_code (2 : Nat) (Option.some Jvm.ClassFile.FieldType.int)) ∈ lw_all := lw_g (lw_at lw_m4 4 rfl) rfl
theorem q791 : (Jvm.Cond.instanceMethod ({ cls := "MacroGlass", name := "item", desc := "(II)I" } : Jvm.MethodName)) ∈ lw_all := lw_g (lw_at lw_m4 6 rfl) rfl
theorem q792 : (Jvm.Cond.selects "MacroGlass" ({ cls := "MacroGlass", name := "item", desc := "(II)I" } : Jvm.MethodName) ({ cls := "MacroGlass", name := "item", desc := "(II)I" } : Jvm.MethodName)) ∈ lw_all := lw_g (lw_at lw_m4 7 rfl) rfl
theorem q793 : (Jvm.Cond.code ({ cls := "MacroGlass", name := "item", desc := "(II)I" } : Jvm.MethodName) prog_1_method_11_code (4 : Nat) (Option.some Jvm.ClassFile.FieldType.int)) ∈ lw_all := lw_g (lw_at lw_m4 8 rfl) rfl
theorem q794 : (Jvm.Cond.methodLink "MacroGlass" (136 : Nat) ({ cls := "MacroGlass", name := "no", desc := "(I)I" } : Jvm.MethodName)) ∈ lw_all := lw_g (lw_at lw_m4 9 rfl) rfl
theorem q795 : (Jvm.Cond.privateMethod ({ cls := "MacroGlass", name := "no", desc := "(I)I" } : Jvm.MethodName)) ∈ lw_tbl := lw_at lw_m4 10 rfl
theorem q796 : (Jvm.Cond.instanceMethod ({ cls := "MacroGlass", name := "no", desc := "(I)I" } : Jvm.MethodName)) ∈ lw_all := lw_g (lw_at lw_m4 11 rfl) rfl
theorem q797 : (Jvm.Cond.code ({ cls := "MacroGlass", name := "no", desc := "(I)I" } : Jvm.MethodName) prog_1_method_9_code (2 : Nat) (Option.some Jvm.ClassFile.FieldType.int)) ∈ lw_all := lw_g (lw_at lw_m4 12 rfl) rfl
theorem q798 : (Jvm.Cond.methodLink "MacroGlass" (124 : Nat) ({ cls := "MacroGlass", name := "in", desc := "(JJJ)Z" } : Jvm.MethodName)) ∈ lw_all := lw_g (lw_at lw_m4 13 rfl) rfl
theorem q799 : (Jvm.Cond.methodLink "MacroGlass" (140 : Nat) ({ cls := "MacroGlass$Item", name := "kind", desc := "()I" } : Jvm.MethodName)) ∈ lw_all := lw_g (lw_at lw_m4 14 rfl) rfl
theorem q811 : (Jvm.Cond.methodLink "MacroGlass" (142 : Nat) ({ cls := "MacroGlass$Item", name := "size", desc := "()I" } : Jvm.MethodName)) ∈ lw_all := lw_g (lw_at lw_m4 26 rfl) rfl
theorem q820 : (Jvm.Cond.methodLink "MacroGlass" (143 : Nat) ({ cls := "MacroGlass$Item", name := "value", desc := "()I" } : Jvm.MethodName)) ∈ lw_all := lw_g (lw_at lw_m4 35 rfl) rfl
theorem q829 : (Jvm.Cond.methodLink "MacroGlass" (146 : Nat) ({ cls := "MacroGlass$Item", name := "mark", desc := "()I" } : Jvm.MethodName)) ∈ lw_all := lw_g (lw_at lw_m4 44 rfl) rfl
theorem q838 : (Jvm.Cond.methodLink "MacroGlass" (159 : Nat) ({ cls := "MacroGlass", name := "readsAs", desc := "(LMacroGlass$Item;)I" } : Jvm.MethodName)) ∈ lw_all := lw_g (lw_at lw_m4 53 rfl) rfl
theorem q839 : (Jvm.Cond.static ({ cls := "MacroGlass", name := "readsAs", desc := "(LMacroGlass$Item;)I" } : Jvm.MethodName)) ∈ lw_all := lw_g (lw_at lw_m4 54 rfl) rfl
theorem q840 : (Jvm.Cond.code ({ cls := "MacroGlass", name := "readsAs", desc := "(LMacroGlass$Item;)I" } : Jvm.MethodName) prog_1_method_10_code (2 : Nat) (Option.some Jvm.ClassFile.FieldType.int)) ∈ lw_all := lw_g (lw_at lw_m4 55 rfl) rfl
theorem q841 : (Jvm.Cond.methodLink "MacroGlass" (128 : Nat) ({ cls := "MacroGlass$Item", name := "reads", desc := "()LMacroGlass$Name;" } : Jvm.MethodName)) ∈ lw_all := lw_g (lw_at lw_m4 56 rfl) rfl
theorem q863 : (Jvm.Cond.instanceMethod ({ cls := "MacroGlass", name := "letter", desc := "(II)I" } : Jvm.MethodName)) ∈ lw_all := lw_g (lw_at lw_m4 78 rfl) rfl
theorem q864 : (Jvm.Cond.selects "MacroGlass" ({ cls := "MacroGlass", name := "letter", desc := "(II)I" } : Jvm.MethodName) ({ cls := "MacroGlass", name := "letter", desc := "(II)I" } : Jvm.MethodName)) ∈ lw_all := lw_g (lw_at lw_m4 79 rfl) rfl
theorem q865 : (Jvm.Cond.code ({ cls := "MacroGlass", name := "letter", desc := "(II)I" } : Jvm.MethodName) prog_1_method_12_code (6 : Nat) (Option.some Jvm.ClassFile.FieldType.int)) ∈ lw_all := lw_g (lw_at lw_m4 80 rfl) rfl
theorem q866 : (Jvm.Cond.classLink "MacroGlass" (133 : Nat) "MacroGlass$Name") ∈ lw_all := lw_g (lw_at lw_m4 81 rfl) rfl
theorem q868 : (Jvm.Cond.instanceMethod ({ cls := "MacroGlass", name := "call", desc := "(I)I" } : Jvm.MethodName)) ∈ lw_all := lw_g (lw_at lw_m4 83 rfl) rfl
theorem q869 : (Jvm.Cond.selects "MacroGlass" ({ cls := "MacroGlass", name := "call", desc := "(I)I" } : Jvm.MethodName) ({ cls := "MacroGlass", name := "call", desc := "(I)I" } : Jvm.MethodName)) ∈ lw_all := lw_g (lw_at lw_m4 84 rfl) rfl
theorem q870 : (Jvm.Cond.code ({ cls := "MacroGlass", name := "call", desc := "(I)I" } : Jvm.MethodName) prog_1_method_15_code (2 : Nat) (Option.some Jvm.ClassFile.FieldType.int)) ∈ lw_all := lw_g (lw_at lw_m4 85 rfl) rfl
theorem q871 : (Jvm.Cond.methodLink "MacroGlass" (179 : Nat) ({ cls := "MacroGlass", name := "callOf", desc := "(LMacroGlass$Item;)I" } : Jvm.MethodName)) ∈ lw_all := lw_g (lw_at lw_m4 86 rfl) rfl
theorem q872 : (Jvm.Cond.privateMethod ({ cls := "MacroGlass", name := "callOf", desc := "(LMacroGlass$Item;)I" } : Jvm.MethodName)) ∈ lw_tbl := lw_at lw_m4 87 rfl
theorem q873 : (Jvm.Cond.instanceMethod ({ cls := "MacroGlass", name := "callOf", desc := "(LMacroGlass$Item;)I" } : Jvm.MethodName)) ∈ lw_all := lw_g (lw_at lw_m4 88 rfl) rfl
theorem q874 : (Jvm.Cond.code ({ cls := "MacroGlass", name := "callOf", desc := "(LMacroGlass$Item;)I" } : Jvm.MethodName) prog_1_method_14_code (3 : Nat) (Option.some Jvm.ClassFile.FieldType.int)) ∈ lw_all := lw_g (lw_at lw_m4 89 rfl) rfl
theorem q875 : (Jvm.Cond.methodLink "MacroGlass" (171 : Nat) ({ cls := "MacroGlass$Item", name := "isCall", desc := "(Ljava/util/ArrayList;)Z" } : Jvm.MethodName)) ∈ lw_all := lw_g (lw_at lw_m4 90 rfl) rfl
theorem q886 : (Jvm.Cond.classLink "MacroGlass" (157 : Nat) "MacroGlass$List") ∈ lw_all := lw_g (lw_at lw_m4 101 rfl) rfl
theorem q887 : (Jvm.Cond.methodLink "MacroGlass" (175 : Nat) ({ cls := "MacroGlass", name := "ruleFor", desc := "(LMacroGlass$List;)I" } : Jvm.MethodName)) ∈ lw_all := lw_g (lw_at lw_m4 102 rfl) rfl
theorem q888 : (Jvm.Cond.privateMethod ({ cls := "MacroGlass", name := "ruleFor", desc := "(LMacroGlass$List;)I" } : Jvm.MethodName)) ∈ lw_tbl := lw_at lw_m4 103 rfl
theorem q889 : (Jvm.Cond.instanceMethod ({ cls := "MacroGlass", name := "ruleFor", desc := "(LMacroGlass$List;)I" } : Jvm.MethodName)) ∈ lw_all := lw_g (lw_at lw_m4 104 rfl) rfl
theorem q890 : (Jvm.Cond.code ({ cls := "MacroGlass", name := "ruleFor", desc := "(LMacroGlass$List;)I" } : Jvm.MethodName) prog_1_method_13_code (3 : Nat) (Option.some Jvm.ClassFile.FieldType.int)) ∈ lw_all := lw_g (lw_at lw_m4 105 rfl) rfl
theorem q891 : (Jvm.Cond.methodLink "MacroGlass" (167 : Nat) ({ cls := "MacroGlass$Rule", name := "fits", desc := "(LMacroGlass$List;)Z" } : Jvm.MethodName)) ∈ lw_all := lw_g (lw_at lw_m4 106 rfl) rfl
theorem q949 : (Jvm.Cond.instanceMethod ({ cls := "MacroGlass", name := "ready", desc := "(I)I" } : Jvm.MethodName)) ∈ lw_all := lw_g (lw_at lw_m4 164 rfl) rfl
theorem q950 : (Jvm.Cond.selects "MacroGlass" ({ cls := "MacroGlass", name := "ready", desc := "(I)I" } : Jvm.MethodName) ({ cls := "MacroGlass", name := "ready", desc := "(I)I" } : Jvm.MethodName)) ∈ lw_all := lw_g (lw_at lw_m4 165 rfl) rfl
theorem q951 : (Jvm.Cond.code ({ cls := "MacroGlass", name := "ready", desc := "(I)I" } : Jvm.MethodName) prog_1_method_17_code (2 : Nat) (Option.some Jvm.ClassFile.FieldType.int)) ∈ lw_all := lw_g (lw_at lw_m4 166 rfl) rfl
theorem q952 : (Jvm.Cond.methodLink "MacroGlass" (182 : Nat) ({ cls := "MacroGlass", name := "find", desc := "(IZ)I" } : Jvm.MethodName)) ∈ lw_all := lw_g (lw_at lw_m4 167 rfl) rfl
theorem q953 : (Jvm.Cond.privateMethod ({ cls := "MacroGlass", name := "find", desc := "(IZ)I" } : Jvm.MethodName)) ∈ lw_tbl := lw_at lw_m4 168 rfl
theorem q954 : (Jvm.Cond.instanceMethod ({ cls := "MacroGlass", name := "find", desc := "(IZ)I" } : Jvm.MethodName)) ∈ lw_all := lw_g (lw_at lw_m4 169 rfl) rfl
theorem q955 : (Jvm.Cond.code ({ cls := "MacroGlass", name := "find", desc := "(IZ)I" } : Jvm.MethodName) prog_1_method_16_code (6 : Nat) (Option.some Jvm.ClassFile.FieldType.int)) ∈ lw_all := lw_g (lw_at lw_m4 170 rfl) rfl
theorem q957 : (Jvm.Cond.instanceMethod ({ cls := "MacroGlass", name := "unfold", desc := "(I)I" } : Jvm.MethodName)) ∈ lw_all := lw_g (lw_at lw_m4 172 rfl) rfl
theorem q958 : (Jvm.Cond.selects "MacroGlass" ({ cls := "MacroGlass", name := "unfold", desc := "(I)I" } : Jvm.MethodName) ({ cls := "MacroGlass", name := "unfold", desc := "(I)I" } : Jvm.MethodName)) ∈ lw_all := lw_g (lw_at lw_m4 173 rfl) rfl
theorem q959 : (Jvm.Cond.code ({ cls := "MacroGlass", name := "unfold", desc := "(I)I" } : Jvm.MethodName) prog_1_method_20_code (2 : Nat) (Option.some Jvm.ClassFile.FieldType.int)) ∈ lw_all := lw_g (lw_at lw_m4 174 rfl) rfl
theorem q960 : (Jvm.Cond.methodLink "MacroGlass" (232 : Nat) ({ cls := "MacroGlass", name := "unfold", desc := "(LMacroGlass$List;)I" } : Jvm.MethodName)) ∈ lw_all := lw_g (lw_at lw_m4 175 rfl) rfl
theorem q961 : (Jvm.Cond.privateMethod ({ cls := "MacroGlass", name := "unfold", desc := "(LMacroGlass$List;)I" } : Jvm.MethodName)) ∈ lw_tbl := lw_at lw_m4 176 rfl
theorem q962 : (Jvm.Cond.instanceMethod ({ cls := "MacroGlass", name := "unfold", desc := "(LMacroGlass$List;)I" } : Jvm.MethodName)) ∈ lw_all := lw_g (lw_at lw_m4 177 rfl) rfl
theorem q963 : (Jvm.Cond.code ({ cls := "MacroGlass", name := "unfold", desc := "(LMacroGlass$List;)I" } : Jvm.MethodName) prog_1_method_18_code (7 : Nat) (Option.some Jvm.ClassFile.FieldType.int)) ∈ lw_all := lw_g (lw_at lw_m4 178 rfl) rfl
theorem q964 : (Jvm.Cond.methodLink "MacroGlass" (186 : Nat) ({ cls := "MacroGlass$Rule", name := "readied", desc := "(LMacroGlass$List;I)LMacroGlass$Build;" } : Jvm.MethodName)) ∈ lw_all := lw_g (lw_at lw_m4 179 rfl) rfl
theorem q998 : (Jvm.Cond.methodLink "MacroGlass" (194 : Nat) ({ cls := "MacroGlass$Part", name := "makes", desc := "(LMacroGlass$Build;)I" } : Jvm.MethodName)) ∈ lw_all := lw_g (lw_at lw_m4 213 rfl) rfl
theorem q1032 : (Jvm.Cond.methodLink "MacroGlass" (200 : Nat) ({ cls := "MacroGlass$List", name := "all", desc := "()I" } : Jvm.MethodName)) ∈ lw_all := lw_g (lw_at lw_m5 7 rfl) rfl
theorem q1033 : (Jvm.Cond.methodLink "MacroGlass" (206 : Nat) ({ cls := "MacroGlass$Rule", name := "build", desc := "(LMacroGlass$Build;)LMacroGlass$Item;" } : Jvm.MethodName)) ∈ lw_all := lw_g (lw_at lw_m5 8 rfl) rfl
theorem q1085 : (Jvm.Cond.classLink "MacroGlass" (210 : Nat) "MacroGlass$Step") ∈ lw_all := lw_g (lw_at lw_m5 60 rfl) rfl
theorem q1087 : (Jvm.Cond.methodLink "MacroGlass" (212 : Nat) ({ cls := "MacroGlass$Step", name := "<init>", desc := "(ILMacroGlass$List;LMacroGlass$Item;)V" } : Jvm.MethodName)) ∈ lw_all := lw_g (lw_at lw_m5 62 rfl) rfl
theorem q1092 : (Jvm.Cond.fieldLinkNest "MacroGlass" (248 : Nat) "MacroGlass$Step" "rule" "I" "MacroGlass") ∈ lw_tbl := lw_at lw_m5 67 rfl
theorem q1094 : (Jvm.Cond.fieldLinkNest "MacroGlass" (242 : Nat) "MacroGlass$Step" "call" "LMacroGlass$List;" "MacroGlass") ∈ lw_tbl := lw_at lw_m5 69 rfl
theorem q1096 : (Jvm.Cond.fieldLinkNest "MacroGlass" (240 : Nat) "MacroGlass$Step" "made" "LMacroGlass$Item;" "MacroGlass") ∈ lw_tbl := lw_at lw_m5 71 rfl
theorem q1104 : (Jvm.Cond.methodLink "MacroGlass" (215 : Nat) ({ cls := "java/util/ArrayList", name := "add", desc := "(Ljava/lang/Object;)Z" } : Jvm.MethodName)) ∈ lw_all := lw_g (lw_at lw_m5 79 rfl) rfl
theorem q1105 : (Jvm.Cond.methodLink "MacroGlass" (219 : Nat) ({ cls := "java/lang/Math", name := "min", desc := "(II)I" } : Jvm.MethodName)) ∈ lw_all := lw_g (lw_at lw_m5 80 rfl) rfl
theorem q1106 : (Jvm.Cond.methodLink "MacroGlass" (225 : Nat) ({ cls := "MacroGlass", name := "put", desc := "(LMacroGlass$Item;LMacroGlass$Item;)V" } : Jvm.MethodName)) ∈ lw_all := lw_g (lw_at lw_m5 81 rfl) rfl
theorem q1107 : (Jvm.Cond.privateMethod ({ cls := "MacroGlass", name := "put", desc := "(LMacroGlass$Item;LMacroGlass$Item;)V" } : Jvm.MethodName)) ∈ lw_tbl := lw_at lw_m5 82 rfl
theorem q1108 : (Jvm.Cond.instanceMethod ({ cls := "MacroGlass", name := "put", desc := "(LMacroGlass$Item;LMacroGlass$Item;)V" } : Jvm.MethodName)) ∈ lw_all := lw_g (lw_at lw_m5 83 rfl) rfl
theorem q1109 : (Jvm.Cond.code ({ cls := "MacroGlass", name := "put", desc := "(LMacroGlass$Item;LMacroGlass$Item;)V" } : Jvm.MethodName) prog_1_method_19_code (3 : Nat) (Option.none : Option Jvm.ClassFile.FieldType)) ∈ lw_all := lw_g (lw_at lw_m5 84 rfl) rfl
theorem q1110 : (Jvm.Cond.methodLink "MacroGlass" (229 : Nat) ({ cls := "MacroGlass$List", name := "replace", desc := "(LMacroGlass$Item;LMacroGlass$Item;)V" } : Jvm.MethodName)) ∈ lw_all := lw_g (lw_at lw_m5 85 rfl) rfl
theorem q1119 : (Jvm.Cond.instanceMethod ({ cls := "MacroGlass", name := "run", desc := "(IZ)I" } : Jvm.MethodName)) ∈ lw_all := lw_g (lw_at lw_m5 94 rfl) rfl
theorem q1120 : (Jvm.Cond.selects "MacroGlass" ({ cls := "MacroGlass", name := "run", desc := "(IZ)I" } : Jvm.MethodName) ({ cls := "MacroGlass", name := "run", desc := "(IZ)I" } : Jvm.MethodName)) ∈ lw_all := lw_g (lw_at lw_m5 95 rfl) rfl
theorem q1121 : (Jvm.Cond.code ({ cls := "MacroGlass", name := "run", desc := "(IZ)I" } : Jvm.MethodName) prog_1_method_21_code (5 : Nat) (Option.some Jvm.ClassFile.FieldType.int)) ∈ lw_all := lw_g (lw_at lw_m5 96 rfl) rfl
theorem q1122 : (Jvm.Cond.constantLong "MacroGlass" (235 : Nat) (300 : Int64)) ∈ lw_all := lw_g (lw_at lw_m5 97 rfl) rfl
theorem q1124 : (Jvm.Cond.instanceMethod ({ cls := "MacroGlass", name := "back", desc := "()I" } : Jvm.MethodName)) ∈ lw_all := lw_g (lw_at lw_m5 99 rfl) rfl
theorem q1125 : (Jvm.Cond.selects "MacroGlass" ({ cls := "MacroGlass", name := "back", desc := "()I" } : Jvm.MethodName) ({ cls := "MacroGlass", name := "back", desc := "()I" } : Jvm.MethodName)) ∈ lw_all := lw_g (lw_at lw_m5 100 rfl) rfl
theorem q1126 : (Jvm.Cond.code ({ cls := "MacroGlass", name := "back", desc := "()I" } : Jvm.MethodName) prog_1_method_22_code (3 : Nat) (Option.some Jvm.ClassFile.FieldType.int)) ∈ lw_all := lw_g (lw_at lw_m5 101 rfl) rfl
theorem q1127 : (Jvm.Cond.methodLink "MacroGlass" (237 : Nat) ({ cls := "java/util/ArrayList", name := "remove", desc := "(I)Ljava/lang/Object;" } : Jvm.MethodName)) ∈ lw_all := lw_g (lw_at lw_m5 102 rfl) rfl
theorem q1137 : (Jvm.Cond.instanceMethod ({ cls := "MacroGlass", name := "step", desc := "(II)I" } : Jvm.MethodName)) ∈ lw_all := lw_g (lw_at lw_m5 112 rfl) rfl
theorem q1138 : (Jvm.Cond.selects "MacroGlass" ({ cls := "MacroGlass", name := "step", desc := "(II)I" } : Jvm.MethodName) ({ cls := "MacroGlass", name := "step", desc := "(II)I" } : Jvm.MethodName)) ∈ lw_all := lw_g (lw_at lw_m5 113 rfl) rfl
theorem q1139 : (Jvm.Cond.code ({ cls := "MacroGlass", name := "step", desc := "(II)I" } : Jvm.MethodName) prog_1_method_23_code (5 : Nat) (Option.some Jvm.ClassFile.FieldType.int)) ∈ lw_all := lw_g (lw_at lw_m5 114 rfl) rfl
theorem q1141 : (Jvm.Cond.instanceMethod ({ cls := "MacroGlass", name := "maker", desc := "(II)I" } : Jvm.MethodName)) ∈ lw_all := lw_g (lw_at lw_m5 116 rfl) rfl
theorem q1142 : (Jvm.Cond.selects "MacroGlass" ({ cls := "MacroGlass", name := "maker", desc := "(II)I" } : Jvm.MethodName) ({ cls := "MacroGlass", name := "maker", desc := "(II)I" } : Jvm.MethodName)) ∈ lw_all := lw_g (lw_at lw_m5 117 rfl) rfl
theorem q1143 : (Jvm.Cond.code ({ cls := "MacroGlass", name := "maker", desc := "(II)I" } : Jvm.MethodName) prog_1_method_24_code (5 : Nat) (Option.some Jvm.ClassFile.FieldType.int)) ∈ lw_all := lw_g (lw_at lw_m5 118 rfl) rfl
theorem q1145 : (Jvm.Cond.instanceMethod ({ cls := "MacroGlass", name := "came", desc := "(I)I" } : Jvm.MethodName)) ∈ lw_all := lw_g (lw_at lw_m5 120 rfl) rfl
theorem q1146 : (Jvm.Cond.selects "MacroGlass" ({ cls := "MacroGlass", name := "came", desc := "(I)I" } : Jvm.MethodName) ({ cls := "MacroGlass", name := "came", desc := "(I)I" } : Jvm.MethodName)) ∈ lw_all := lw_g (lw_at lw_m5 121 rfl) rfl
theorem q1147 : (Jvm.Cond.code ({ cls := "MacroGlass", name := "came", desc := "(I)I" } : Jvm.MethodName) prog_1_method_25_code (4 : Nat) (Option.some Jvm.ClassFile.FieldType.int)) ∈ lw_all := lw_g (lw_at lw_m5 122 rfl) rfl
theorem q1148 : (Jvm.Cond.constantLong "MacroGlass" (251 : Nat) (499 : Int64)) ∈ lw_all := lw_g (lw_at lw_m5 123 rfl) rfl
theorem q1150 : (Jvm.Cond.instanceMethod ({ cls := "MacroGlass", name := "keep", desc := "()I" } : Jvm.MethodName)) ∈ lw_all := lw_g (lw_at lw_m5 125 rfl) rfl
theorem q1151 : (Jvm.Cond.selects "MacroGlass" ({ cls := "MacroGlass", name := "keep", desc := "()I" } : Jvm.MethodName) ({ cls := "MacroGlass", name := "keep", desc := "()I" } : Jvm.MethodName)) ∈ lw_all := lw_g (lw_at lw_m5 126 rfl) rfl
theorem q1152 : (Jvm.Cond.code ({ cls := "MacroGlass", name := "keep", desc := "()I" } : Jvm.MethodName) prog_1_method_28_code (2 : Nat) (Option.some Jvm.ClassFile.FieldType.int)) ∈ lw_all := lw_g (lw_at lw_m5 127 rfl) rfl
theorem q1153 : (Jvm.Cond.methodLink "MacroGlass" (253 : Nat) ({ cls := "MacroGlass", name := "sizeOf", desc := "(LMacroGlass$Item;)I" } : Jvm.MethodName)) ∈ lw_all := lw_g (lw_at lw_m5 128 rfl) rfl
theorem q1154 : (Jvm.Cond.static ({ cls := "MacroGlass", name := "sizeOf", desc := "(LMacroGlass$Item;)I" } : Jvm.MethodName)) ∈ lw_all := lw_g (lw_at lw_m5 129 rfl) rfl
theorem q1155 : (Jvm.Cond.code ({ cls := "MacroGlass", name := "sizeOf", desc := "(LMacroGlass$Item;)I" } : Jvm.MethodName) prog_1_method_26_code (1 : Nat) (Option.some Jvm.ClassFile.FieldType.int)) ∈ lw_all := lw_g (lw_at lw_m5 130 rfl) rfl
theorem q1156 : (Jvm.Cond.methodLink "MacroGlass" (256 : Nat) ({ cls := "MacroGlass", name := "lettersOf", desc := "(LMacroGlass$Item;)J" } : Jvm.MethodName)) ∈ lw_all := lw_g (lw_at lw_m5 131 rfl) rfl
theorem q1157 : (Jvm.Cond.static ({ cls := "MacroGlass", name := "lettersOf", desc := "(LMacroGlass$Item;)J" } : Jvm.MethodName)) ∈ lw_all := lw_g (lw_at lw_m5 132 rfl) rfl
theorem q1158 : (Jvm.Cond.code ({ cls := "MacroGlass", name := "lettersOf", desc := "(LMacroGlass$Item;)J" } : Jvm.MethodName) prog_1_method_27_code (1 : Nat) (Option.some Jvm.ClassFile.FieldType.long)) ∈ lw_all := lw_g (lw_at lw_m5 133 rfl) rfl
theorem q1160 : (Jvm.Cond.instanceMethod ({ cls := "MacroGlass", name := "alike", desc := "()I" } : Jvm.MethodName)) ∈ lw_all := lw_g (lw_at lw_m5 135 rfl) rfl
theorem q1161 : (Jvm.Cond.selects "MacroGlass" ({ cls := "MacroGlass", name := "alike", desc := "()I" } : Jvm.MethodName) ({ cls := "MacroGlass", name := "alike", desc := "()I" } : Jvm.MethodName)) ∈ lw_all := lw_g (lw_at lw_m5 136 rfl) rfl
theorem q1162 : (Jvm.Cond.code ({ cls := "MacroGlass", name := "alike", desc := "()I" } : Jvm.MethodName) prog_1_method_29_code (4 : Nat) (Option.some Jvm.ClassFile.FieldType.int)) ∈ lw_all := lw_g (lw_at lw_m5 137 rfl) rfl
theorem q1164 : (Jvm.Cond.instanceMethod ({ cls := "MacroGlass", name := "count", desc := "(I)I" } : Jvm.MethodName)) ∈ lw_all := lw_g (lw_at lw_m5 139 rfl) rfl
theorem q1165 : (Jvm.Cond.selects "MacroGlass" ({ cls := "MacroGlass", name := "count", desc := "(I)I" } : Jvm.MethodName) ({ cls := "MacroGlass", name := "count", desc := "(I)I" } : Jvm.MethodName)) ∈ lw_all := lw_g (lw_at lw_m5 140 rfl) rfl
theorem q1166 : (Jvm.Cond.code ({ cls := "MacroGlass", name := "count", desc := "(I)I" } : Jvm.MethodName) prog_1_method_30_code (7 : Nat) (Option.some Jvm.ClassFile.FieldType.int)) ∈ lw_all := lw_g (lw_at lw_m5 141 rfl) rfl
theorem q1167 : (Jvm.Cond.constantLong "MacroGlass" (260 : Nat) (7 : Int64)) ∈ lw_all := lw_g (lw_at lw_m5 142 rfl) rfl
theorem q1692 : (Jvm.Cond.castable "MacroGlass" "java/lang/Object") ∈ lw_tbl := lw_at lw_m7 187 rfl
theorem in_X0 : ∀ w ∈ wsX00, w ∈ lw_all := lw_in wsX00 [152, 154, 156, 158, 160, 162, 164, 166, 168, 170, 172, 174, 176, 178, 180] (by decide +kernel) (by decide +kernel)

/-! MacroGlass$Parser -/
set_option maxRecDepth 100000
def RX2 : String := "MacroGlass$Parser"
def TX2 : u_T := fun k => match k with
  | 0 => ("MacroGlass$Parser", "tape", "[B", true)
  | 1 => ("MacroGlass$Parser", "size", "I", true)
  | 2 => ("MacroGlass$Parser", "at", "I", false)
  | 3 => ("MacroGlass$Parser", "sort", "I", false)
  | 4 => ("MacroGlass$Parser", "begin", "I", false)
  | 5 => ("MacroGlass$Parser", "word", "J", false)
  | 6 => ("MacroGlass$Parser", "deep", "I", false)
  | _ => ("MacroGlass$Parser", "rules", "Ljava/util/ArrayList;", true)
def tyX2 : Nat → FieldType := fun k => match k with
  | 0 => .array .byte
  | 1 => .int
  | 2 => .int
  | 3 => .int
  | 4 => .int
  | 5 => .long
  | 6 => .int
  | _ => .object "java/util/ArrayList"
abbrev wsX20 : List Cond := u_ws RX2 TX2 8
theorem nmX2 : ∀ a, a < 8 → ∀ b, b < 8 → a ≠ b → (TX2 a).2.1 ≠ (TX2 b).2.1 := by decide +kernel
theorem tyX2_ok : ∀ k, k < 8 → parseFieldDescriptor (TX2 k).2.2.1 = some (tyX2 k) := by decide +kernel
abbrev cX2_init : ByteArray := prog_9_method_1_code
def yX2_init : MethodName := ⟨RX2, "<init>", "([BI)V"⟩
def dkwX2_init_1 : List UInt8 := [181, 0, 22, 177]
abbrev dktX2_init_1 : List UInt8 := dkwX2_init_1 ++ []
def dkwX2_init_0 : List UInt8 := [42, 183, 0, 3, 42, 187, 0, 9, 89, 183, 0, 11, 181, 0, 12, 42, 43, 181, 0, 18, 42, 28]
abbrev dktX2_init_0 : List UInt8 := dkwX2_init_0 ++ dktX2_init_1
theorem dksX2_init_0 : cX2_init.data.toList.drop 0 = dktX2_init_0 := by decide +kernel
theorem dksX2_init_1 : cX2_init.data.toList.drop 22 = dktX2_init_1 := dk_seg dksX2_init_0 22 rfl rfl
theorem dX2_init_0 : decode cX2_init 0 = .ok (.aload_n 0, 1) := dk_42 (dk_at dksX2_init_0 0 rfl rfl)
theorem dX2_init_1 : decode cX2_init 1 = .ok (.invokespecial 3, 3) := dk_183 0 3 (dk_at dksX2_init_0 1 rfl rfl)
theorem dX2_init_4 : decode cX2_init 4 = .ok (.aload_n 0, 1) := dk_42 (dk_at dksX2_init_0 4 rfl rfl)
theorem dX2_init_5 : decode cX2_init 5 = .ok (.new 9, 3) := dk_187 0 9 (dk_at dksX2_init_0 5 rfl rfl)
theorem dX2_init_8 : decode cX2_init 8 = .ok (.dup, 1) := dk_89 (dk_at dksX2_init_0 8 rfl rfl)
theorem dX2_init_9 : decode cX2_init 9 = .ok (.invokespecial 11, 3) := dk_183 0 11 (dk_at dksX2_init_0 9 rfl rfl)
theorem dX2_init_12 : decode cX2_init 12 = .ok (.putfield 12, 3) := dk_181 0 12 (dk_at dksX2_init_0 12 rfl rfl)
theorem dX2_init_15 : decode cX2_init 15 = .ok (.aload_n 0, 1) := dk_42 (dk_at dksX2_init_0 15 rfl rfl)
theorem dX2_init_16 : decode cX2_init 16 = .ok (.aload_n 1, 1) := dk_43 (dk_at dksX2_init_0 16 rfl rfl)
theorem dX2_init_17 : decode cX2_init 17 = .ok (.putfield 18, 3) := dk_181 0 18 (dk_at dksX2_init_0 17 rfl rfl)
theorem dX2_init_20 : decode cX2_init 20 = .ok (.aload_n 0, 1) := dk_42 (dk_at dksX2_init_0 20 rfl rfl)
theorem dX2_init_21 : decode cX2_init 21 = .ok (.iload_n 2, 1) := dk_28 (dk_at dksX2_init_0 21 rfl rfl)
theorem dX2_init_22 : decode cX2_init 22 = .ok (.putfield 22, 3) := dk_181 0 22 (dk_at dksX2_init_1 0 rfl rfl)
theorem dX2_init_25 : decode cX2_init 25 = .ok (.return_, 1) := dk_177 (dk_at dksX2_init_1 3 rfl rfl)
abbrev cX2_program : ByteArray := prog_9_method_11_code
def yX2_program : MethodName := ⟨RX2, "program", "()LMacroGlass$Item;"⟩
def dkwX2_program_6 : List UInt8 := [180, 0, 113, 3, 182, 0, 116, 192, 0, 120, 77, 44, 1, 181, 0, 122, 44, 176]
abbrev dktX2_program_6 : List UInt8 := dkwX2_program_6 ++ []
def dkwX2_program_5 : List UInt8 := [42, 43, 182, 0, 109, 42, 42, 180, 0, 52, 154, 0, 7, 4, 167, 0, 4, 3, 182, 0, 83, 43]
abbrev dktX2_program_5 : List UInt8 := dkwX2_program_5 ++ dktX2_program_6
def dkwX2_program_4 : List UInt8 := [167, 0, 4, 3, 182, 0, 83, 42, 182, 0, 103, 167, 255, 155, 187, 0, 106, 89, 3, 3, 183, 0, 108, 76]
abbrev dktX2_program_4 : List UInt8 := dkwX2_program_4 ++ dktX2_program_5
def dkwX2_program_3 : List UInt8 := [181, 0, 48, 29, 154, 0, 6, 167, 0, 31, 42, 42, 180, 0, 12, 182, 0, 100, 16, 12, 162, 0, 7, 4]
abbrev dktX2_program_3 : List UInt8 := dkwX2_program_3 ++ dktX2_program_4
def dkwX2_program_2 : List UInt8 := [167, 0, 4, 3, 62, 42, 27, 181, 0, 42, 42, 28, 181, 0, 45, 42, 6, 181, 0, 52, 42, 20, 0, 64]
abbrev dktX2_program_2 : List UInt8 := dkwX2_program_2 ++ dktX2_program_3
def dkwX2_program_1 : List UInt8 := [182, 0, 87, 42, 18, 93, 182, 0, 94, 154, 0, 12, 42, 18, 98, 182, 0, 94, 153, 0, 7, 4]
abbrev dktX2_program_1 : List UInt8 := dkwX2_program_1 ++ dktX2_program_2
def dkwX2_program_0 : List UInt8 := [42, 182, 0, 87, 42, 16, 40, 182, 0, 77, 153, 0, 98, 42, 180, 0, 42, 60, 42, 180, 0, 45, 61, 42]
abbrev dktX2_program_0 : List UInt8 := dkwX2_program_0 ++ dktX2_program_1
theorem dksX2_program_0 : cX2_program.data.toList.drop 0 = dktX2_program_0 := by decide +kernel
theorem dksX2_program_1 : cX2_program.data.toList.drop 24 = dktX2_program_1 := dk_seg dksX2_program_0 24 rfl rfl
theorem dksX2_program_2 : cX2_program.data.toList.drop 46 = dktX2_program_2 := dk_seg dksX2_program_1 22 rfl rfl
theorem dksX2_program_3 : cX2_program.data.toList.drop 70 = dktX2_program_3 := dk_seg dksX2_program_2 24 rfl rfl
theorem dksX2_program_4 : cX2_program.data.toList.drop 94 = dktX2_program_4 := dk_seg dksX2_program_3 24 rfl rfl
theorem dksX2_program_5 : cX2_program.data.toList.drop 118 = dktX2_program_5 := dk_seg dksX2_program_4 24 rfl rfl
theorem dksX2_program_6 : cX2_program.data.toList.drop 140 = dktX2_program_6 := dk_seg dksX2_program_5 22 rfl rfl
theorem dX2_program_0 : decode cX2_program 0 = .ok (.aload_n 0, 1) := dk_42 (dk_at dksX2_program_0 0 rfl rfl)
theorem dX2_program_1 : decode cX2_program 1 = .ok (.invokevirtual 87, 3) := dk_182 0 87 (dk_at dksX2_program_0 1 rfl rfl)
theorem dX2_program_4 : decode cX2_program 4 = .ok (.aload_n 0, 1) := dk_42 (dk_at dksX2_program_0 4 rfl rfl)
theorem dX2_program_5 : decode cX2_program 5 = .ok (.bipush 40, 2) := dk_16 40 (dk_at dksX2_program_0 5 rfl rfl)
theorem dX2_program_7 : decode cX2_program 7 = .ok (.invokevirtual 77, 3) := dk_182 0 77 (dk_at dksX2_program_0 7 rfl rfl)
theorem dX2_program_10 : decode cX2_program 10 = .ok (.ifCond .eq 98, 3) := dk_153 0 98 (dk_at dksX2_program_0 10 rfl rfl)
theorem dX2_program_13 : decode cX2_program 13 = .ok (.aload_n 0, 1) := dk_42 (dk_at dksX2_program_0 13 rfl rfl)
theorem dX2_program_14 : decode cX2_program 14 = .ok (.getfield 42, 3) := dk_180 0 42 (dk_at dksX2_program_0 14 rfl rfl)
theorem dX2_program_17 : decode cX2_program 17 = .ok (.istore_n 1, 1) := dk_60 (dk_at dksX2_program_0 17 rfl rfl)
theorem dX2_program_18 : decode cX2_program 18 = .ok (.aload_n 0, 1) := dk_42 (dk_at dksX2_program_0 18 rfl rfl)
theorem dX2_program_19 : decode cX2_program 19 = .ok (.getfield 45, 3) := dk_180 0 45 (dk_at dksX2_program_0 19 rfl rfl)
theorem dX2_program_22 : decode cX2_program 22 = .ok (.istore_n 2, 1) := dk_61 (dk_at dksX2_program_0 22 rfl rfl)
theorem dX2_program_23 : decode cX2_program 23 = .ok (.aload_n 0, 1) := dk_42 (dk_at dksX2_program_0 23 rfl rfl)
theorem dX2_program_24 : decode cX2_program 24 = .ok (.invokevirtual 87, 3) := dk_182 0 87 (dk_at dksX2_program_1 0 rfl rfl)
theorem dX2_program_27 : decode cX2_program 27 = .ok (.aload_n 0, 1) := dk_42 (dk_at dksX2_program_1 3 rfl rfl)
theorem dX2_program_28 : decode cX2_program 28 = .ok (.ldc 93, 2) := dk_18 93 (dk_at dksX2_program_1 4 rfl rfl)
theorem dX2_program_30 : decode cX2_program 30 = .ok (.invokevirtual 94, 3) := dk_182 0 94 (dk_at dksX2_program_1 6 rfl rfl)
theorem dX2_program_33 : decode cX2_program 33 = .ok (.ifCond .ne 12, 3) := dk_154 0 12 (dk_at dksX2_program_1 9 rfl rfl)
theorem dX2_program_36 : decode cX2_program 36 = .ok (.aload_n 0, 1) := dk_42 (dk_at dksX2_program_1 12 rfl rfl)
theorem dX2_program_37 : decode cX2_program 37 = .ok (.ldc 98, 2) := dk_18 98 (dk_at dksX2_program_1 13 rfl rfl)
theorem dX2_program_39 : decode cX2_program 39 = .ok (.invokevirtual 94, 3) := dk_182 0 94 (dk_at dksX2_program_1 15 rfl rfl)
theorem dX2_program_42 : decode cX2_program 42 = .ok (.ifCond .eq 7, 3) := dk_153 0 7 (dk_at dksX2_program_1 18 rfl rfl)
theorem dX2_program_45 : decode cX2_program 45 = .ok (.iconst 1, 1) := dk_4 (dk_at dksX2_program_1 21 rfl rfl)
theorem dX2_program_46 : decode cX2_program 46 = .ok (.goto 4, 3) := dk_167 0 4 (dk_at dksX2_program_2 0 rfl rfl)
theorem dX2_program_49 : decode cX2_program 49 = .ok (.iconst 0, 1) := dk_3 (dk_at dksX2_program_2 3 rfl rfl)
theorem dX2_program_50 : decode cX2_program 50 = .ok (.istore_n 3, 1) := dk_62 (dk_at dksX2_program_2 4 rfl rfl)
theorem dX2_program_51 : decode cX2_program 51 = .ok (.aload_n 0, 1) := dk_42 (dk_at dksX2_program_2 5 rfl rfl)
theorem dX2_program_52 : decode cX2_program 52 = .ok (.iload_n 1, 1) := dk_27 (dk_at dksX2_program_2 6 rfl rfl)
theorem dX2_program_53 : decode cX2_program 53 = .ok (.putfield 42, 3) := dk_181 0 42 (dk_at dksX2_program_2 7 rfl rfl)
theorem dX2_program_56 : decode cX2_program 56 = .ok (.aload_n 0, 1) := dk_42 (dk_at dksX2_program_2 10 rfl rfl)
theorem dX2_program_57 : decode cX2_program 57 = .ok (.iload_n 2, 1) := dk_28 (dk_at dksX2_program_2 11 rfl rfl)
theorem dX2_program_58 : decode cX2_program 58 = .ok (.putfield 45, 3) := dk_181 0 45 (dk_at dksX2_program_2 12 rfl rfl)
theorem dX2_program_61 : decode cX2_program 61 = .ok (.aload_n 0, 1) := dk_42 (dk_at dksX2_program_2 15 rfl rfl)
theorem dX2_program_62 : decode cX2_program 62 = .ok (.iconst 3, 1) := dk_6 (dk_at dksX2_program_2 16 rfl rfl)
theorem dX2_program_63 : decode cX2_program 63 = .ok (.putfield 52, 3) := dk_181 0 52 (dk_at dksX2_program_2 17 rfl rfl)
theorem dX2_program_66 : decode cX2_program 66 = .ok (.aload_n 0, 1) := dk_42 (dk_at dksX2_program_2 20 rfl rfl)
theorem dX2_program_67 : decode cX2_program 67 = .ok (.ldc2_w 64, 3) := dk_20 0 64 (dk_at dksX2_program_2 21 rfl rfl)
theorem dX2_program_70 : decode cX2_program 70 = .ok (.putfield 48, 3) := dk_181 0 48 (dk_at dksX2_program_3 0 rfl rfl)
theorem dX2_program_73 : decode cX2_program 73 = .ok (.iload_n 3, 1) := dk_29 (dk_at dksX2_program_3 3 rfl rfl)
theorem dX2_program_74 : decode cX2_program 74 = .ok (.ifCond .ne 6, 3) := dk_154 0 6 (dk_at dksX2_program_3 4 rfl rfl)
theorem dX2_program_77 : decode cX2_program 77 = .ok (.goto 31, 3) := dk_167 0 31 (dk_at dksX2_program_3 7 rfl rfl)
theorem dX2_program_80 : decode cX2_program 80 = .ok (.aload_n 0, 1) := dk_42 (dk_at dksX2_program_3 10 rfl rfl)
theorem dX2_program_81 : decode cX2_program 81 = .ok (.aload_n 0, 1) := dk_42 (dk_at dksX2_program_3 11 rfl rfl)
theorem dX2_program_82 : decode cX2_program 82 = .ok (.getfield 12, 3) := dk_180 0 12 (dk_at dksX2_program_3 12 rfl rfl)
theorem dX2_program_85 : decode cX2_program 85 = .ok (.invokevirtual 100, 3) := dk_182 0 100 (dk_at dksX2_program_3 15 rfl rfl)
theorem dX2_program_88 : decode cX2_program 88 = .ok (.bipush 12, 2) := dk_16 12 (dk_at dksX2_program_3 18 rfl rfl)
theorem dX2_program_90 : decode cX2_program 90 = .ok (.if_icmp .ge 7, 3) := dk_162 0 7 (dk_at dksX2_program_3 20 rfl rfl)
theorem dX2_program_93 : decode cX2_program 93 = .ok (.iconst 1, 1) := dk_4 (dk_at dksX2_program_3 23 rfl rfl)
theorem dX2_program_94 : decode cX2_program 94 = .ok (.goto 4, 3) := dk_167 0 4 (dk_at dksX2_program_4 0 rfl rfl)
theorem dX2_program_97 : decode cX2_program 97 = .ok (.iconst 0, 1) := dk_3 (dk_at dksX2_program_4 3 rfl rfl)
theorem dX2_program_98 : decode cX2_program 98 = .ok (.invokevirtual 83, 3) := dk_182 0 83 (dk_at dksX2_program_4 4 rfl rfl)
theorem dX2_program_101 : decode cX2_program 101 = .ok (.aload_n 0, 1) := dk_42 (dk_at dksX2_program_4 7 rfl rfl)
theorem dX2_program_102 : decode cX2_program 102 = .ok (.invokevirtual 103, 3) := dk_182 0 103 (dk_at dksX2_program_4 8 rfl rfl)
theorem dX2_program_105 : decode cX2_program 105 = .ok (.goto (-101), 3) := dk_167 255 155 (dk_at dksX2_program_4 11 rfl rfl)
theorem dX2_program_108 : decode cX2_program 108 = .ok (.new 106, 3) := dk_187 0 106 (dk_at dksX2_program_4 14 rfl rfl)
theorem dX2_program_111 : decode cX2_program 111 = .ok (.dup, 1) := dk_89 (dk_at dksX2_program_4 17 rfl rfl)
theorem dX2_program_112 : decode cX2_program 112 = .ok (.iconst 0, 1) := dk_3 (dk_at dksX2_program_4 18 rfl rfl)
theorem dX2_program_113 : decode cX2_program 113 = .ok (.iconst 0, 1) := dk_3 (dk_at dksX2_program_4 19 rfl rfl)
theorem dX2_program_114 : decode cX2_program 114 = .ok (.invokespecial 108, 3) := dk_183 0 108 (dk_at dksX2_program_4 20 rfl rfl)
theorem dX2_program_117 : decode cX2_program 117 = .ok (.astore_n 1, 1) := dk_76 (dk_at dksX2_program_4 23 rfl rfl)
theorem dX2_program_118 : decode cX2_program 118 = .ok (.aload_n 0, 1) := dk_42 (dk_at dksX2_program_5 0 rfl rfl)
theorem dX2_program_119 : decode cX2_program 119 = .ok (.aload_n 1, 1) := dk_43 (dk_at dksX2_program_5 1 rfl rfl)
theorem dX2_program_120 : decode cX2_program 120 = .ok (.invokevirtual 109, 3) := dk_182 0 109 (dk_at dksX2_program_5 2 rfl rfl)
theorem dX2_program_123 : decode cX2_program 123 = .ok (.aload_n 0, 1) := dk_42 (dk_at dksX2_program_5 5 rfl rfl)
theorem dX2_program_124 : decode cX2_program 124 = .ok (.aload_n 0, 1) := dk_42 (dk_at dksX2_program_5 6 rfl rfl)
theorem dX2_program_125 : decode cX2_program 125 = .ok (.getfield 52, 3) := dk_180 0 52 (dk_at dksX2_program_5 7 rfl rfl)
theorem dX2_program_128 : decode cX2_program 128 = .ok (.ifCond .ne 7, 3) := dk_154 0 7 (dk_at dksX2_program_5 10 rfl rfl)
theorem dX2_program_131 : decode cX2_program 131 = .ok (.iconst 1, 1) := dk_4 (dk_at dksX2_program_5 13 rfl rfl)
theorem dX2_program_132 : decode cX2_program 132 = .ok (.goto 4, 3) := dk_167 0 4 (dk_at dksX2_program_5 14 rfl rfl)
theorem dX2_program_135 : decode cX2_program 135 = .ok (.iconst 0, 1) := dk_3 (dk_at dksX2_program_5 17 rfl rfl)
theorem dX2_program_136 : decode cX2_program 136 = .ok (.invokevirtual 83, 3) := dk_182 0 83 (dk_at dksX2_program_5 18 rfl rfl)
theorem dX2_program_139 : decode cX2_program 139 = .ok (.aload_n 1, 1) := dk_43 (dk_at dksX2_program_5 21 rfl rfl)
theorem dX2_program_140 : decode cX2_program 140 = .ok (.getfield 113, 3) := dk_180 0 113 (dk_at dksX2_program_6 0 rfl rfl)
theorem dX2_program_143 : decode cX2_program 143 = .ok (.iconst 0, 1) := dk_3 (dk_at dksX2_program_6 3 rfl rfl)
theorem dX2_program_144 : decode cX2_program 144 = .ok (.invokevirtual 116, 3) := dk_182 0 116 (dk_at dksX2_program_6 4 rfl rfl)
theorem dX2_program_147 : decode cX2_program 147 = .ok (.checkcast 120, 3) := dk_192 0 120 (dk_at dksX2_program_6 7 rfl rfl)
theorem dX2_program_150 : decode cX2_program 150 = .ok (.astore_n 2, 1) := dk_77 (dk_at dksX2_program_6 10 rfl rfl)
theorem dX2_program_151 : decode cX2_program 151 = .ok (.aload_n 2, 1) := dk_44 (dk_at dksX2_program_6 11 rfl rfl)
theorem dX2_program_152 : decode cX2_program 152 = .ok (.aconst_null, 1) := dk_1 (dk_at dksX2_program_6 12 rfl rfl)
theorem dX2_program_153 : decode cX2_program 153 = .ok (.putfield 122, 3) := dk_181 0 122 (dk_at dksX2_program_6 13 rfl rfl)
theorem dX2_program_156 : decode cX2_program 156 = .ok (.aload_n 2, 1) := dk_44 (dk_at dksX2_program_6 16 rfl rfl)
theorem dX2_program_157 : decode cX2_program 157 = .ok (.areturn, 1) := dk_176 (dk_at dksX2_program_6 17 rfl rfl)
abbrev cX2_next : ByteArray := prog_9_method_5_code
def yX2_next : MethodName := ⟨RX2, "next", "()V"⟩
def dkwX2_next_15 : List UInt8 := [153, 0, 14, 42, 180, 0, 48, 20, 0, 70, 148, 154, 0, 7, 6, 167, 0, 4, 7, 181, 0, 52, 177]
abbrev dktX2_next_15 : List UInt8 := dkwX2_next_15 ++ []
def dkwX2_next_14 : List UInt8 := [153, 0, 36, 42, 180, 0, 48, 20, 0, 66, 148, 153, 0, 25, 42, 180, 0, 48, 20, 0, 68, 148]
abbrev dktX2_next_14 : List UInt8 := dkwX2_next_14 ++ dktX2_next_15
def dkwX2_next_13 : List UInt8 := [181, 0, 48, 42, 89, 180, 0, 42, 4, 96, 181, 0, 42, 42, 42, 180, 0, 48, 20, 0, 64, 148]
abbrev dktX2_next_13 : List UInt8 := dkwX2_next_13 ++ dktX2_next_14
def dkwX2_next_12 : List UInt8 := [164, 0, 7, 7, 167, 0, 4, 5, 181, 0, 52, 167, 0, 79, 42, 42, 42, 180, 0, 42, 182, 0, 26, 133]
abbrev dktX2_next_12 : List UInt8 := dkwX2_next_12 ++ dktX2_next_13
def dkwX2_next_11 : List UInt8 := [180, 0, 42, 4, 96, 181, 0, 42, 167, 255, 193, 42, 42, 180, 0, 42, 42, 180, 0, 45, 100, 16, 6]
abbrev dktX2_next_11 : List UInt8 := dkwX2_next_11 ++ dktX2_next_12
def dkwX2_next_10 : List UInt8 := [121, 42, 42, 180, 0, 42, 182, 0, 26, 133, 129, 167, 0, 7, 42, 180, 0, 48, 181, 0, 48, 42, 89]
abbrev dktX2_next_10 : List UInt8 := dkwX2_next_10 ++ dktX2_next_11
def dkwX2_next_9 : List UInt8 := [153, 0, 58, 42, 42, 180, 0, 42, 42, 180, 0, 45, 100, 16, 6, 162, 0, 23, 42, 180, 0, 48, 16, 8]
abbrev dktX2_next_9 : List UInt8 := dkwX2_next_9 ++ dktX2_next_10
def dkwX2_next_8 : List UInt8 := [167, 0, 182, 42, 42, 180, 0, 42, 182, 0, 61, 153, 0, 95, 42, 42, 180, 0, 42, 182, 0, 61]
abbrev dktX2_next_8 : List UInt8 := dkwX2_next_8 ++ dktX2_next_9
def dkwX2_next_7 : List UInt8 := [42, 180, 0, 42, 42, 180, 0, 45, 100, 16, 6, 164, 0, 7, 7, 167, 0, 4, 4, 181, 0, 52]
abbrev dktX2_next_7 : List UInt8 := dkwX2_next_7 ++ dktX2_next_8
def dkwX2_next_6 : List UInt8 := [167, 0, 7, 42, 180, 0, 48, 181, 0, 48, 42, 89, 180, 0, 42, 4, 96, 181, 0, 42, 167, 255, 188, 42]
abbrev dktX2_next_6 : List UInt8 := dkwX2_next_6 ++ dktX2_next_7
def dkwX2_next_5 : List UInt8 := [20, 0, 59, 42, 180, 0, 48, 105, 42, 42, 180, 0, 42, 182, 0, 26, 133, 97, 20, 0, 30, 101]
abbrev dktX2_next_5 : List UInt8 := dkwX2_next_5 ++ dktX2_next_6
def dkwX2_next_4 : List UInt8 := [180, 0, 42, 182, 0, 55, 153, 0, 63, 42, 42, 180, 0, 42, 42, 180, 0, 45, 100, 16, 6, 162, 0, 28]
abbrev dktX2_next_4 : List UInt8 := dkwX2_next_4 ++ dktX2_next_5
def dkwX2_next_3 : List UInt8 := [160, 0, 11, 42, 3, 181, 0, 52, 167, 1, 34, 42, 42, 180, 0, 42, 182, 0, 55, 153, 0, 100, 42, 42]
abbrev dktX2_next_3 : List UInt8 := dkwX2_next_3 ++ dktX2_next_4
def dkwX2_next_2 : List UInt8 := [167, 255, 209, 42, 42, 180, 0, 42, 181, 0, 45, 42, 9, 181, 0, 48, 42, 180, 0, 42, 42, 180, 0, 22]
abbrev dktX2_next_2 : List UInt8 := dkwX2_next_2 ++ dktX2_next_3
def dkwX2_next_1 : List UInt8 := [42, 42, 180, 0, 42, 182, 0, 26, 16, 10, 160, 0, 16, 42, 89, 180, 0, 42, 4, 96, 181, 0, 42]
abbrev dktX2_next_1 : List UInt8 := dkwX2_next_1 ++ dktX2_next_2
def dkwX2_next_0 : List UInt8 := [42, 180, 0, 42, 42, 180, 0, 22, 162, 0, 42, 42, 42, 180, 0, 42, 182, 0, 26, 16, 32, 159, 0, 16]
abbrev dktX2_next_0 : List UInt8 := dkwX2_next_0 ++ dktX2_next_1
theorem dksX2_next_0 : cX2_next.data.toList.drop 0 = dktX2_next_0 := by decide +kernel
theorem dksX2_next_1 : cX2_next.data.toList.drop 24 = dktX2_next_1 := dk_seg dksX2_next_0 24 rfl rfl
theorem dksX2_next_2 : cX2_next.data.toList.drop 47 = dktX2_next_2 := dk_seg dksX2_next_1 23 rfl rfl
theorem dksX2_next_3 : cX2_next.data.toList.drop 71 = dktX2_next_3 := dk_seg dksX2_next_2 24 rfl rfl
theorem dksX2_next_4 : cX2_next.data.toList.drop 95 = dktX2_next_4 := dk_seg dksX2_next_3 24 rfl rfl
theorem dksX2_next_5 : cX2_next.data.toList.drop 119 = dktX2_next_5 := dk_seg dksX2_next_4 24 rfl rfl
theorem dksX2_next_6 : cX2_next.data.toList.drop 141 = dktX2_next_6 := dk_seg dksX2_next_5 22 rfl rfl
theorem dksX2_next_7 : cX2_next.data.toList.drop 165 = dktX2_next_7 := dk_seg dksX2_next_6 24 rfl rfl
theorem dksX2_next_8 : cX2_next.data.toList.drop 187 = dktX2_next_8 := dk_seg dksX2_next_7 22 rfl rfl
theorem dksX2_next_9 : cX2_next.data.toList.drop 209 = dktX2_next_9 := dk_seg dksX2_next_8 22 rfl rfl
theorem dksX2_next_10 : cX2_next.data.toList.drop 233 = dktX2_next_10 := dk_seg dksX2_next_9 24 rfl rfl
theorem dksX2_next_11 : cX2_next.data.toList.drop 256 = dktX2_next_11 := dk_seg dksX2_next_10 23 rfl rfl
theorem dksX2_next_12 : cX2_next.data.toList.drop 279 = dktX2_next_12 := dk_seg dksX2_next_11 23 rfl rfl
theorem dksX2_next_13 : cX2_next.data.toList.drop 303 = dktX2_next_13 := dk_seg dksX2_next_12 24 rfl rfl
theorem dksX2_next_14 : cX2_next.data.toList.drop 325 = dktX2_next_14 := dk_seg dksX2_next_13 22 rfl rfl
theorem dksX2_next_15 : cX2_next.data.toList.drop 347 = dktX2_next_15 := dk_seg dksX2_next_14 22 rfl rfl
theorem dX2_next_0 : decode cX2_next 0 = .ok (.aload_n 0, 1) := dk_42 (dk_at dksX2_next_0 0 rfl rfl)
theorem dX2_next_1 : decode cX2_next 1 = .ok (.getfield 42, 3) := dk_180 0 42 (dk_at dksX2_next_0 1 rfl rfl)
theorem dX2_next_4 : decode cX2_next 4 = .ok (.aload_n 0, 1) := dk_42 (dk_at dksX2_next_0 4 rfl rfl)
theorem dX2_next_5 : decode cX2_next 5 = .ok (.getfield 22, 3) := dk_180 0 22 (dk_at dksX2_next_0 5 rfl rfl)
theorem dX2_next_8 : decode cX2_next 8 = .ok (.if_icmp .ge 42, 3) := dk_162 0 42 (dk_at dksX2_next_0 8 rfl rfl)
theorem dX2_next_11 : decode cX2_next 11 = .ok (.aload_n 0, 1) := dk_42 (dk_at dksX2_next_0 11 rfl rfl)
theorem dX2_next_12 : decode cX2_next 12 = .ok (.aload_n 0, 1) := dk_42 (dk_at dksX2_next_0 12 rfl rfl)
theorem dX2_next_13 : decode cX2_next 13 = .ok (.getfield 42, 3) := dk_180 0 42 (dk_at dksX2_next_0 13 rfl rfl)
theorem dX2_next_16 : decode cX2_next 16 = .ok (.invokevirtual 26, 3) := dk_182 0 26 (dk_at dksX2_next_0 16 rfl rfl)
theorem dX2_next_19 : decode cX2_next 19 = .ok (.bipush 32, 2) := dk_16 32 (dk_at dksX2_next_0 19 rfl rfl)
theorem dX2_next_21 : decode cX2_next 21 = .ok (.if_icmp .eq 16, 3) := dk_159 0 16 (dk_at dksX2_next_0 21 rfl rfl)
theorem dX2_next_24 : decode cX2_next 24 = .ok (.aload_n 0, 1) := dk_42 (dk_at dksX2_next_1 0 rfl rfl)
theorem dX2_next_25 : decode cX2_next 25 = .ok (.aload_n 0, 1) := dk_42 (dk_at dksX2_next_1 1 rfl rfl)
theorem dX2_next_26 : decode cX2_next 26 = .ok (.getfield 42, 3) := dk_180 0 42 (dk_at dksX2_next_1 2 rfl rfl)
theorem dX2_next_29 : decode cX2_next 29 = .ok (.invokevirtual 26, 3) := dk_182 0 26 (dk_at dksX2_next_1 5 rfl rfl)
theorem dX2_next_32 : decode cX2_next 32 = .ok (.bipush 10, 2) := dk_16 10 (dk_at dksX2_next_1 8 rfl rfl)
theorem dX2_next_34 : decode cX2_next 34 = .ok (.if_icmp .ne 16, 3) := dk_160 0 16 (dk_at dksX2_next_1 10 rfl rfl)
theorem dX2_next_37 : decode cX2_next 37 = .ok (.aload_n 0, 1) := dk_42 (dk_at dksX2_next_1 13 rfl rfl)
theorem dX2_next_38 : decode cX2_next 38 = .ok (.dup, 1) := dk_89 (dk_at dksX2_next_1 14 rfl rfl)
theorem dX2_next_39 : decode cX2_next 39 = .ok (.getfield 42, 3) := dk_180 0 42 (dk_at dksX2_next_1 15 rfl rfl)
theorem dX2_next_42 : decode cX2_next 42 = .ok (.iconst 1, 1) := dk_4 (dk_at dksX2_next_1 18 rfl rfl)
theorem dX2_next_43 : decode cX2_next 43 = .ok (.iadd, 1) := dk_96 (dk_at dksX2_next_1 19 rfl rfl)
theorem dX2_next_44 : decode cX2_next 44 = .ok (.putfield 42, 3) := dk_181 0 42 (dk_at dksX2_next_1 20 rfl rfl)
theorem dX2_next_47 : decode cX2_next 47 = .ok (.goto (-47), 3) := dk_167 255 209 (dk_at dksX2_next_2 0 rfl rfl)
theorem dX2_next_50 : decode cX2_next 50 = .ok (.aload_n 0, 1) := dk_42 (dk_at dksX2_next_2 3 rfl rfl)
theorem dX2_next_51 : decode cX2_next 51 = .ok (.aload_n 0, 1) := dk_42 (dk_at dksX2_next_2 4 rfl rfl)
theorem dX2_next_52 : decode cX2_next 52 = .ok (.getfield 42, 3) := dk_180 0 42 (dk_at dksX2_next_2 5 rfl rfl)
theorem dX2_next_55 : decode cX2_next 55 = .ok (.putfield 45, 3) := dk_181 0 45 (dk_at dksX2_next_2 8 rfl rfl)
theorem dX2_next_58 : decode cX2_next 58 = .ok (.aload_n 0, 1) := dk_42 (dk_at dksX2_next_2 11 rfl rfl)
theorem dX2_next_59 : decode cX2_next 59 = .ok (.lconst 0, 1) := dk_9 (dk_at dksX2_next_2 12 rfl rfl)
theorem dX2_next_60 : decode cX2_next 60 = .ok (.putfield 48, 3) := dk_181 0 48 (dk_at dksX2_next_2 13 rfl rfl)
theorem dX2_next_63 : decode cX2_next 63 = .ok (.aload_n 0, 1) := dk_42 (dk_at dksX2_next_2 16 rfl rfl)
theorem dX2_next_64 : decode cX2_next 64 = .ok (.getfield 42, 3) := dk_180 0 42 (dk_at dksX2_next_2 17 rfl rfl)
theorem dX2_next_67 : decode cX2_next 67 = .ok (.aload_n 0, 1) := dk_42 (dk_at dksX2_next_2 20 rfl rfl)
theorem dX2_next_68 : decode cX2_next 68 = .ok (.getfield 22, 3) := dk_180 0 22 (dk_at dksX2_next_2 21 rfl rfl)
theorem dX2_next_71 : decode cX2_next 71 = .ok (.if_icmp .ne 11, 3) := dk_160 0 11 (dk_at dksX2_next_3 0 rfl rfl)
theorem dX2_next_74 : decode cX2_next 74 = .ok (.aload_n 0, 1) := dk_42 (dk_at dksX2_next_3 3 rfl rfl)
theorem dX2_next_75 : decode cX2_next 75 = .ok (.iconst 0, 1) := dk_3 (dk_at dksX2_next_3 4 rfl rfl)
theorem dX2_next_76 : decode cX2_next 76 = .ok (.putfield 52, 3) := dk_181 0 52 (dk_at dksX2_next_3 5 rfl rfl)
theorem dX2_next_79 : decode cX2_next 79 = .ok (.goto 290, 3) := dk_167 1 34 (dk_at dksX2_next_3 8 rfl rfl)
theorem dX2_next_82 : decode cX2_next 82 = .ok (.aload_n 0, 1) := dk_42 (dk_at dksX2_next_3 11 rfl rfl)
theorem dX2_next_83 : decode cX2_next 83 = .ok (.aload_n 0, 1) := dk_42 (dk_at dksX2_next_3 12 rfl rfl)
theorem dX2_next_84 : decode cX2_next 84 = .ok (.getfield 42, 3) := dk_180 0 42 (dk_at dksX2_next_3 13 rfl rfl)
theorem dX2_next_87 : decode cX2_next 87 = .ok (.invokevirtual 55, 3) := dk_182 0 55 (dk_at dksX2_next_3 16 rfl rfl)
theorem dX2_next_90 : decode cX2_next 90 = .ok (.ifCond .eq 100, 3) := dk_153 0 100 (dk_at dksX2_next_3 19 rfl rfl)
theorem dX2_next_93 : decode cX2_next 93 = .ok (.aload_n 0, 1) := dk_42 (dk_at dksX2_next_3 22 rfl rfl)
theorem dX2_next_94 : decode cX2_next 94 = .ok (.aload_n 0, 1) := dk_42 (dk_at dksX2_next_3 23 rfl rfl)
theorem dX2_next_95 : decode cX2_next 95 = .ok (.getfield 42, 3) := dk_180 0 42 (dk_at dksX2_next_4 0 rfl rfl)
theorem dX2_next_98 : decode cX2_next 98 = .ok (.invokevirtual 55, 3) := dk_182 0 55 (dk_at dksX2_next_4 3 rfl rfl)
theorem dX2_next_101 : decode cX2_next 101 = .ok (.ifCond .eq 63, 3) := dk_153 0 63 (dk_at dksX2_next_4 6 rfl rfl)
theorem dX2_next_104 : decode cX2_next 104 = .ok (.aload_n 0, 1) := dk_42 (dk_at dksX2_next_4 9 rfl rfl)
theorem dX2_next_105 : decode cX2_next 105 = .ok (.aload_n 0, 1) := dk_42 (dk_at dksX2_next_4 10 rfl rfl)
theorem dX2_next_106 : decode cX2_next 106 = .ok (.getfield 42, 3) := dk_180 0 42 (dk_at dksX2_next_4 11 rfl rfl)
theorem dX2_next_109 : decode cX2_next 109 = .ok (.aload_n 0, 1) := dk_42 (dk_at dksX2_next_4 14 rfl rfl)
theorem dX2_next_110 : decode cX2_next 110 = .ok (.getfield 45, 3) := dk_180 0 45 (dk_at dksX2_next_4 15 rfl rfl)
theorem dX2_next_113 : decode cX2_next 113 = .ok (.isub, 1) := dk_100 (dk_at dksX2_next_4 18 rfl rfl)
theorem dX2_next_114 : decode cX2_next 114 = .ok (.bipush 6, 2) := dk_16 6 (dk_at dksX2_next_4 19 rfl rfl)
theorem dX2_next_116 : decode cX2_next 116 = .ok (.if_icmp .ge 28, 3) := dk_162 0 28 (dk_at dksX2_next_4 21 rfl rfl)
theorem dX2_next_119 : decode cX2_next 119 = .ok (.ldc2_w 59, 3) := dk_20 0 59 (dk_at dksX2_next_5 0 rfl rfl)
theorem dX2_next_122 : decode cX2_next 122 = .ok (.aload_n 0, 1) := dk_42 (dk_at dksX2_next_5 3 rfl rfl)
theorem dX2_next_123 : decode cX2_next 123 = .ok (.getfield 48, 3) := dk_180 0 48 (dk_at dksX2_next_5 4 rfl rfl)
theorem dX2_next_126 : decode cX2_next 126 = .ok (.lmul, 1) := dk_105 (dk_at dksX2_next_5 7 rfl rfl)
theorem dX2_next_127 : decode cX2_next 127 = .ok (.aload_n 0, 1) := dk_42 (dk_at dksX2_next_5 8 rfl rfl)
theorem dX2_next_128 : decode cX2_next 128 = .ok (.aload_n 0, 1) := dk_42 (dk_at dksX2_next_5 9 rfl rfl)
theorem dX2_next_129 : decode cX2_next 129 = .ok (.getfield 42, 3) := dk_180 0 42 (dk_at dksX2_next_5 10 rfl rfl)
theorem dX2_next_132 : decode cX2_next 132 = .ok (.invokevirtual 26, 3) := dk_182 0 26 (dk_at dksX2_next_5 13 rfl rfl)
theorem dX2_next_135 : decode cX2_next 135 = .ok (.i2l, 1) := dk_133 (dk_at dksX2_next_5 16 rfl rfl)
theorem dX2_next_136 : decode cX2_next 136 = .ok (.ladd, 1) := dk_97 (dk_at dksX2_next_5 17 rfl rfl)
theorem dX2_next_137 : decode cX2_next 137 = .ok (.ldc2_w 30, 3) := dk_20 0 30 (dk_at dksX2_next_5 18 rfl rfl)
theorem dX2_next_140 : decode cX2_next 140 = .ok (.lsub, 1) := dk_101 (dk_at dksX2_next_5 21 rfl rfl)
theorem dX2_next_141 : decode cX2_next 141 = .ok (.goto 7, 3) := dk_167 0 7 (dk_at dksX2_next_6 0 rfl rfl)
theorem dX2_next_144 : decode cX2_next 144 = .ok (.aload_n 0, 1) := dk_42 (dk_at dksX2_next_6 3 rfl rfl)
theorem dX2_next_145 : decode cX2_next 145 = .ok (.getfield 48, 3) := dk_180 0 48 (dk_at dksX2_next_6 4 rfl rfl)
theorem dX2_next_148 : decode cX2_next 148 = .ok (.putfield 48, 3) := dk_181 0 48 (dk_at dksX2_next_6 7 rfl rfl)
theorem dX2_next_151 : decode cX2_next 151 = .ok (.aload_n 0, 1) := dk_42 (dk_at dksX2_next_6 10 rfl rfl)
theorem dX2_next_152 : decode cX2_next 152 = .ok (.dup, 1) := dk_89 (dk_at dksX2_next_6 11 rfl rfl)
theorem dX2_next_153 : decode cX2_next 153 = .ok (.getfield 42, 3) := dk_180 0 42 (dk_at dksX2_next_6 12 rfl rfl)
theorem dX2_next_156 : decode cX2_next 156 = .ok (.iconst 1, 1) := dk_4 (dk_at dksX2_next_6 15 rfl rfl)
theorem dX2_next_157 : decode cX2_next 157 = .ok (.iadd, 1) := dk_96 (dk_at dksX2_next_6 16 rfl rfl)
theorem dX2_next_158 : decode cX2_next 158 = .ok (.putfield 42, 3) := dk_181 0 42 (dk_at dksX2_next_6 17 rfl rfl)
theorem dX2_next_161 : decode cX2_next 161 = .ok (.goto (-68), 3) := dk_167 255 188 (dk_at dksX2_next_6 20 rfl rfl)
theorem dX2_next_164 : decode cX2_next 164 = .ok (.aload_n 0, 1) := dk_42 (dk_at dksX2_next_6 23 rfl rfl)
theorem dX2_next_165 : decode cX2_next 165 = .ok (.aload_n 0, 1) := dk_42 (dk_at dksX2_next_7 0 rfl rfl)
theorem dX2_next_166 : decode cX2_next 166 = .ok (.getfield 42, 3) := dk_180 0 42 (dk_at dksX2_next_7 1 rfl rfl)
theorem dX2_next_169 : decode cX2_next 169 = .ok (.aload_n 0, 1) := dk_42 (dk_at dksX2_next_7 4 rfl rfl)
theorem dX2_next_170 : decode cX2_next 170 = .ok (.getfield 45, 3) := dk_180 0 45 (dk_at dksX2_next_7 5 rfl rfl)
theorem dX2_next_173 : decode cX2_next 173 = .ok (.isub, 1) := dk_100 (dk_at dksX2_next_7 8 rfl rfl)
theorem dX2_next_174 : decode cX2_next 174 = .ok (.bipush 6, 2) := dk_16 6 (dk_at dksX2_next_7 9 rfl rfl)
theorem dX2_next_176 : decode cX2_next 176 = .ok (.if_icmp .le 7, 3) := dk_164 0 7 (dk_at dksX2_next_7 11 rfl rfl)
theorem dX2_next_179 : decode cX2_next 179 = .ok (.iconst 4, 1) := dk_7 (dk_at dksX2_next_7 14 rfl rfl)
theorem dX2_next_180 : decode cX2_next 180 = .ok (.goto 4, 3) := dk_167 0 4 (dk_at dksX2_next_7 15 rfl rfl)
theorem dX2_next_183 : decode cX2_next 183 = .ok (.iconst 1, 1) := dk_4 (dk_at dksX2_next_7 18 rfl rfl)
theorem dX2_next_184 : decode cX2_next 184 = .ok (.putfield 52, 3) := dk_181 0 52 (dk_at dksX2_next_7 19 rfl rfl)
theorem dX2_next_187 : decode cX2_next 187 = .ok (.goto 182, 3) := dk_167 0 182 (dk_at dksX2_next_8 0 rfl rfl)
theorem dX2_next_190 : decode cX2_next 190 = .ok (.aload_n 0, 1) := dk_42 (dk_at dksX2_next_8 3 rfl rfl)
theorem dX2_next_191 : decode cX2_next 191 = .ok (.aload_n 0, 1) := dk_42 (dk_at dksX2_next_8 4 rfl rfl)
theorem dX2_next_192 : decode cX2_next 192 = .ok (.getfield 42, 3) := dk_180 0 42 (dk_at dksX2_next_8 5 rfl rfl)
theorem dX2_next_195 : decode cX2_next 195 = .ok (.invokevirtual 61, 3) := dk_182 0 61 (dk_at dksX2_next_8 8 rfl rfl)
theorem dX2_next_198 : decode cX2_next 198 = .ok (.ifCond .eq 95, 3) := dk_153 0 95 (dk_at dksX2_next_8 11 rfl rfl)
theorem dX2_next_201 : decode cX2_next 201 = .ok (.aload_n 0, 1) := dk_42 (dk_at dksX2_next_8 14 rfl rfl)
theorem dX2_next_202 : decode cX2_next 202 = .ok (.aload_n 0, 1) := dk_42 (dk_at dksX2_next_8 15 rfl rfl)
theorem dX2_next_203 : decode cX2_next 203 = .ok (.getfield 42, 3) := dk_180 0 42 (dk_at dksX2_next_8 16 rfl rfl)
theorem dX2_next_206 : decode cX2_next 206 = .ok (.invokevirtual 61, 3) := dk_182 0 61 (dk_at dksX2_next_8 19 rfl rfl)
theorem dX2_next_209 : decode cX2_next 209 = .ok (.ifCond .eq 58, 3) := dk_153 0 58 (dk_at dksX2_next_9 0 rfl rfl)
theorem dX2_next_212 : decode cX2_next 212 = .ok (.aload_n 0, 1) := dk_42 (dk_at dksX2_next_9 3 rfl rfl)
theorem dX2_next_213 : decode cX2_next 213 = .ok (.aload_n 0, 1) := dk_42 (dk_at dksX2_next_9 4 rfl rfl)
theorem dX2_next_214 : decode cX2_next 214 = .ok (.getfield 42, 3) := dk_180 0 42 (dk_at dksX2_next_9 5 rfl rfl)
theorem dX2_next_217 : decode cX2_next 217 = .ok (.aload_n 0, 1) := dk_42 (dk_at dksX2_next_9 8 rfl rfl)
theorem dX2_next_218 : decode cX2_next 218 = .ok (.getfield 45, 3) := dk_180 0 45 (dk_at dksX2_next_9 9 rfl rfl)
theorem dX2_next_221 : decode cX2_next 221 = .ok (.isub, 1) := dk_100 (dk_at dksX2_next_9 12 rfl rfl)
theorem dX2_next_222 : decode cX2_next 222 = .ok (.bipush 6, 2) := dk_16 6 (dk_at dksX2_next_9 13 rfl rfl)
theorem dX2_next_224 : decode cX2_next 224 = .ok (.if_icmp .ge 23, 3) := dk_162 0 23 (dk_at dksX2_next_9 15 rfl rfl)
theorem dX2_next_227 : decode cX2_next 227 = .ok (.aload_n 0, 1) := dk_42 (dk_at dksX2_next_9 18 rfl rfl)
theorem dX2_next_228 : decode cX2_next 228 = .ok (.getfield 48, 3) := dk_180 0 48 (dk_at dksX2_next_9 19 rfl rfl)
theorem dX2_next_231 : decode cX2_next 231 = .ok (.bipush 8, 2) := dk_16 8 (dk_at dksX2_next_9 22 rfl rfl)
theorem dX2_next_233 : decode cX2_next 233 = .ok (.lshl, 1) := dk_121 (dk_at dksX2_next_10 0 rfl rfl)
theorem dX2_next_234 : decode cX2_next 234 = .ok (.aload_n 0, 1) := dk_42 (dk_at dksX2_next_10 1 rfl rfl)
theorem dX2_next_235 : decode cX2_next 235 = .ok (.aload_n 0, 1) := dk_42 (dk_at dksX2_next_10 2 rfl rfl)
theorem dX2_next_236 : decode cX2_next 236 = .ok (.getfield 42, 3) := dk_180 0 42 (dk_at dksX2_next_10 3 rfl rfl)
theorem dX2_next_239 : decode cX2_next 239 = .ok (.invokevirtual 26, 3) := dk_182 0 26 (dk_at dksX2_next_10 6 rfl rfl)
theorem dX2_next_242 : decode cX2_next 242 = .ok (.i2l, 1) := dk_133 (dk_at dksX2_next_10 9 rfl rfl)
theorem dX2_next_243 : decode cX2_next 243 = .ok (.lor, 1) := dk_129 (dk_at dksX2_next_10 10 rfl rfl)
theorem dX2_next_244 : decode cX2_next 244 = .ok (.goto 7, 3) := dk_167 0 7 (dk_at dksX2_next_10 11 rfl rfl)
theorem dX2_next_247 : decode cX2_next 247 = .ok (.aload_n 0, 1) := dk_42 (dk_at dksX2_next_10 14 rfl rfl)
theorem dX2_next_248 : decode cX2_next 248 = .ok (.getfield 48, 3) := dk_180 0 48 (dk_at dksX2_next_10 15 rfl rfl)
theorem dX2_next_251 : decode cX2_next 251 = .ok (.putfield 48, 3) := dk_181 0 48 (dk_at dksX2_next_10 18 rfl rfl)
theorem dX2_next_254 : decode cX2_next 254 = .ok (.aload_n 0, 1) := dk_42 (dk_at dksX2_next_10 21 rfl rfl)
theorem dX2_next_255 : decode cX2_next 255 = .ok (.dup, 1) := dk_89 (dk_at dksX2_next_10 22 rfl rfl)
theorem dX2_next_256 : decode cX2_next 256 = .ok (.getfield 42, 3) := dk_180 0 42 (dk_at dksX2_next_11 0 rfl rfl)
theorem dX2_next_259 : decode cX2_next 259 = .ok (.iconst 1, 1) := dk_4 (dk_at dksX2_next_11 3 rfl rfl)
theorem dX2_next_260 : decode cX2_next 260 = .ok (.iadd, 1) := dk_96 (dk_at dksX2_next_11 4 rfl rfl)
theorem dX2_next_261 : decode cX2_next 261 = .ok (.putfield 42, 3) := dk_181 0 42 (dk_at dksX2_next_11 5 rfl rfl)
theorem dX2_next_264 : decode cX2_next 264 = .ok (.goto (-63), 3) := dk_167 255 193 (dk_at dksX2_next_11 8 rfl rfl)
theorem dX2_next_267 : decode cX2_next 267 = .ok (.aload_n 0, 1) := dk_42 (dk_at dksX2_next_11 11 rfl rfl)
theorem dX2_next_268 : decode cX2_next 268 = .ok (.aload_n 0, 1) := dk_42 (dk_at dksX2_next_11 12 rfl rfl)
theorem dX2_next_269 : decode cX2_next 269 = .ok (.getfield 42, 3) := dk_180 0 42 (dk_at dksX2_next_11 13 rfl rfl)
theorem dX2_next_272 : decode cX2_next 272 = .ok (.aload_n 0, 1) := dk_42 (dk_at dksX2_next_11 16 rfl rfl)
theorem dX2_next_273 : decode cX2_next 273 = .ok (.getfield 45, 3) := dk_180 0 45 (dk_at dksX2_next_11 17 rfl rfl)
theorem dX2_next_276 : decode cX2_next 276 = .ok (.isub, 1) := dk_100 (dk_at dksX2_next_11 20 rfl rfl)
theorem dX2_next_277 : decode cX2_next 277 = .ok (.bipush 6, 2) := dk_16 6 (dk_at dksX2_next_11 21 rfl rfl)
theorem dX2_next_279 : decode cX2_next 279 = .ok (.if_icmp .le 7, 3) := dk_164 0 7 (dk_at dksX2_next_12 0 rfl rfl)
theorem dX2_next_282 : decode cX2_next 282 = .ok (.iconst 4, 1) := dk_7 (dk_at dksX2_next_12 3 rfl rfl)
theorem dX2_next_283 : decode cX2_next 283 = .ok (.goto 4, 3) := dk_167 0 4 (dk_at dksX2_next_12 4 rfl rfl)
theorem dX2_next_286 : decode cX2_next 286 = .ok (.iconst 2, 1) := dk_5 (dk_at dksX2_next_12 7 rfl rfl)
theorem dX2_next_287 : decode cX2_next 287 = .ok (.putfield 52, 3) := dk_181 0 52 (dk_at dksX2_next_12 8 rfl rfl)
theorem dX2_next_290 : decode cX2_next 290 = .ok (.goto 79, 3) := dk_167 0 79 (dk_at dksX2_next_12 11 rfl rfl)
theorem dX2_next_293 : decode cX2_next 293 = .ok (.aload_n 0, 1) := dk_42 (dk_at dksX2_next_12 14 rfl rfl)
theorem dX2_next_294 : decode cX2_next 294 = .ok (.aload_n 0, 1) := dk_42 (dk_at dksX2_next_12 15 rfl rfl)
theorem dX2_next_295 : decode cX2_next 295 = .ok (.aload_n 0, 1) := dk_42 (dk_at dksX2_next_12 16 rfl rfl)
theorem dX2_next_296 : decode cX2_next 296 = .ok (.getfield 42, 3) := dk_180 0 42 (dk_at dksX2_next_12 17 rfl rfl)
theorem dX2_next_299 : decode cX2_next 299 = .ok (.invokevirtual 26, 3) := dk_182 0 26 (dk_at dksX2_next_12 20 rfl rfl)
theorem dX2_next_302 : decode cX2_next 302 = .ok (.i2l, 1) := dk_133 (dk_at dksX2_next_12 23 rfl rfl)
theorem dX2_next_303 : decode cX2_next 303 = .ok (.putfield 48, 3) := dk_181 0 48 (dk_at dksX2_next_13 0 rfl rfl)
theorem dX2_next_306 : decode cX2_next 306 = .ok (.aload_n 0, 1) := dk_42 (dk_at dksX2_next_13 3 rfl rfl)
theorem dX2_next_307 : decode cX2_next 307 = .ok (.dup, 1) := dk_89 (dk_at dksX2_next_13 4 rfl rfl)
theorem dX2_next_308 : decode cX2_next 308 = .ok (.getfield 42, 3) := dk_180 0 42 (dk_at dksX2_next_13 5 rfl rfl)
theorem dX2_next_311 : decode cX2_next 311 = .ok (.iconst 1, 1) := dk_4 (dk_at dksX2_next_13 8 rfl rfl)
theorem dX2_next_312 : decode cX2_next 312 = .ok (.iadd, 1) := dk_96 (dk_at dksX2_next_13 9 rfl rfl)
theorem dX2_next_313 : decode cX2_next 313 = .ok (.putfield 42, 3) := dk_181 0 42 (dk_at dksX2_next_13 10 rfl rfl)
theorem dX2_next_316 : decode cX2_next 316 = .ok (.aload_n 0, 1) := dk_42 (dk_at dksX2_next_13 13 rfl rfl)
theorem dX2_next_317 : decode cX2_next 317 = .ok (.aload_n 0, 1) := dk_42 (dk_at dksX2_next_13 14 rfl rfl)
theorem dX2_next_318 : decode cX2_next 318 = .ok (.getfield 48, 3) := dk_180 0 48 (dk_at dksX2_next_13 15 rfl rfl)
theorem dX2_next_321 : decode cX2_next 321 = .ok (.ldc2_w 64, 3) := dk_20 0 64 (dk_at dksX2_next_13 18 rfl rfl)
theorem dX2_next_324 : decode cX2_next 324 = .ok (.lcmp, 1) := dk_148 (dk_at dksX2_next_13 21 rfl rfl)
theorem dX2_next_325 : decode cX2_next 325 = .ok (.ifCond .eq 36, 3) := dk_153 0 36 (dk_at dksX2_next_14 0 rfl rfl)
theorem dX2_next_328 : decode cX2_next 328 = .ok (.aload_n 0, 1) := dk_42 (dk_at dksX2_next_14 3 rfl rfl)
theorem dX2_next_329 : decode cX2_next 329 = .ok (.getfield 48, 3) := dk_180 0 48 (dk_at dksX2_next_14 4 rfl rfl)
theorem dX2_next_332 : decode cX2_next 332 = .ok (.ldc2_w 66, 3) := dk_20 0 66 (dk_at dksX2_next_14 7 rfl rfl)
theorem dX2_next_335 : decode cX2_next 335 = .ok (.lcmp, 1) := dk_148 (dk_at dksX2_next_14 10 rfl rfl)
theorem dX2_next_336 : decode cX2_next 336 = .ok (.ifCond .eq 25, 3) := dk_153 0 25 (dk_at dksX2_next_14 11 rfl rfl)
theorem dX2_next_339 : decode cX2_next 339 = .ok (.aload_n 0, 1) := dk_42 (dk_at dksX2_next_14 14 rfl rfl)
theorem dX2_next_340 : decode cX2_next 340 = .ok (.getfield 48, 3) := dk_180 0 48 (dk_at dksX2_next_14 15 rfl rfl)
theorem dX2_next_343 : decode cX2_next 343 = .ok (.ldc2_w 68, 3) := dk_20 0 68 (dk_at dksX2_next_14 18 rfl rfl)
theorem dX2_next_346 : decode cX2_next 346 = .ok (.lcmp, 1) := dk_148 (dk_at dksX2_next_14 21 rfl rfl)
theorem dX2_next_347 : decode cX2_next 347 = .ok (.ifCond .eq 14, 3) := dk_153 0 14 (dk_at dksX2_next_15 0 rfl rfl)
theorem dX2_next_350 : decode cX2_next 350 = .ok (.aload_n 0, 1) := dk_42 (dk_at dksX2_next_15 3 rfl rfl)
theorem dX2_next_351 : decode cX2_next 351 = .ok (.getfield 48, 3) := dk_180 0 48 (dk_at dksX2_next_15 4 rfl rfl)
theorem dX2_next_354 : decode cX2_next 354 = .ok (.ldc2_w 70, 3) := dk_20 0 70 (dk_at dksX2_next_15 7 rfl rfl)
theorem dX2_next_357 : decode cX2_next 357 = .ok (.lcmp, 1) := dk_148 (dk_at dksX2_next_15 10 rfl rfl)
theorem dX2_next_358 : decode cX2_next 358 = .ok (.ifCond .ne 7, 3) := dk_154 0 7 (dk_at dksX2_next_15 11 rfl rfl)
theorem dX2_next_361 : decode cX2_next 361 = .ok (.iconst 3, 1) := dk_6 (dk_at dksX2_next_15 14 rfl rfl)
theorem dX2_next_362 : decode cX2_next 362 = .ok (.goto 4, 3) := dk_167 0 4 (dk_at dksX2_next_15 15 rfl rfl)
theorem dX2_next_365 : decode cX2_next 365 = .ok (.iconst 4, 1) := dk_7 (dk_at dksX2_next_15 18 rfl rfl)
theorem dX2_next_366 : decode cX2_next 366 = .ok (.putfield 52, 3) := dk_181 0 52 (dk_at dksX2_next_15 19 rfl rfl)
theorem dX2_next_369 : decode cX2_next 369 = .ok (.return_, 1) := dk_177 (dk_at dksX2_next_15 22 rfl rfl)
abbrev cX2_byteOf : ByteArray := prog_9_method_2_code
def yX2_byteOf : MethodName := ⟨RX2, "byteOf", "(I)I"⟩
def dkwX2_byteOf_0 : List UInt8 := [27, 42, 180, 0, 22, 162, 0, 16, 42, 180, 0, 18, 27, 51, 17, 0, 255, 126, 167, 0, 4, 3, 172]
abbrev dktX2_byteOf_0 : List UInt8 := dkwX2_byteOf_0 ++ []
theorem dksX2_byteOf_0 : cX2_byteOf.data.toList.drop 0 = dktX2_byteOf_0 := by decide +kernel
theorem dX2_byteOf_0 : decode cX2_byteOf 0 = .ok (.iload_n 1, 1) := dk_27 (dk_at dksX2_byteOf_0 0 rfl rfl)
theorem dX2_byteOf_1 : decode cX2_byteOf 1 = .ok (.aload_n 0, 1) := dk_42 (dk_at dksX2_byteOf_0 1 rfl rfl)
theorem dX2_byteOf_2 : decode cX2_byteOf 2 = .ok (.getfield 22, 3) := dk_180 0 22 (dk_at dksX2_byteOf_0 2 rfl rfl)
theorem dX2_byteOf_5 : decode cX2_byteOf 5 = .ok (.if_icmp .ge 16, 3) := dk_162 0 16 (dk_at dksX2_byteOf_0 5 rfl rfl)
theorem dX2_byteOf_8 : decode cX2_byteOf 8 = .ok (.aload_n 0, 1) := dk_42 (dk_at dksX2_byteOf_0 8 rfl rfl)
theorem dX2_byteOf_9 : decode cX2_byteOf 9 = .ok (.getfield 18, 3) := dk_180 0 18 (dk_at dksX2_byteOf_0 9 rfl rfl)
theorem dX2_byteOf_12 : decode cX2_byteOf 12 = .ok (.iload_n 1, 1) := dk_27 (dk_at dksX2_byteOf_0 12 rfl rfl)
theorem dX2_byteOf_13 : decode cX2_byteOf 13 = .ok (.baload, 1) := dk_51 (dk_at dksX2_byteOf_0 13 rfl rfl)
theorem dX2_byteOf_14 : decode cX2_byteOf 14 = .ok (.sipush 255, 3) := dk_17 0 255 (dk_at dksX2_byteOf_0 14 rfl rfl)
theorem dX2_byteOf_17 : decode cX2_byteOf 17 = .ok (.iand, 1) := dk_126 (dk_at dksX2_byteOf_0 17 rfl rfl)
theorem dX2_byteOf_18 : decode cX2_byteOf 18 = .ok (.goto 4, 3) := dk_167 0 4 (dk_at dksX2_byteOf_0 18 rfl rfl)
theorem dX2_byteOf_21 : decode cX2_byteOf 21 = .ok (.iconst 0, 1) := dk_3 (dk_at dksX2_byteOf_0 21 rfl rfl)
theorem dX2_byteOf_22 : decode cX2_byteOf 22 = .ok (.ireturn, 1) := dk_172 (dk_at dksX2_byteOf_0 22 rfl rfl)
abbrev cX2_isDigit : ByteArray := prog_9_method_3_code
def yX2_isDigit : MethodName := ⟨RX2, "isDigit", "(I)Z"⟩
def dkwX2_isDigit_0 : List UInt8 := [42, 27, 182, 0, 26, 133, 20, 0, 30, 20, 0, 32, 184, 0, 34, 172]
abbrev dktX2_isDigit_0 : List UInt8 := dkwX2_isDigit_0 ++ []
theorem dksX2_isDigit_0 : cX2_isDigit.data.toList.drop 0 = dktX2_isDigit_0 := by decide +kernel
theorem dX2_isDigit_0 : decode cX2_isDigit 0 = .ok (.aload_n 0, 1) := dk_42 (dk_at dksX2_isDigit_0 0 rfl rfl)
theorem dX2_isDigit_1 : decode cX2_isDigit 1 = .ok (.iload_n 1, 1) := dk_27 (dk_at dksX2_isDigit_0 1 rfl rfl)
theorem dX2_isDigit_2 : decode cX2_isDigit 2 = .ok (.invokevirtual 26, 3) := dk_182 0 26 (dk_at dksX2_isDigit_0 2 rfl rfl)
theorem dX2_isDigit_5 : decode cX2_isDigit 5 = .ok (.i2l, 1) := dk_133 (dk_at dksX2_isDigit_0 5 rfl rfl)
theorem dX2_isDigit_6 : decode cX2_isDigit 6 = .ok (.ldc2_w 30, 3) := dk_20 0 30 (dk_at dksX2_isDigit_0 6 rfl rfl)
theorem dX2_isDigit_9 : decode cX2_isDigit 9 = .ok (.ldc2_w 32, 3) := dk_20 0 32 (dk_at dksX2_isDigit_0 9 rfl rfl)
theorem dX2_isDigit_12 : decode cX2_isDigit 12 = .ok (.invokestatic 34, 3) := dk_184 0 34 (dk_at dksX2_isDigit_0 12 rfl rfl)
theorem dX2_isDigit_15 : decode cX2_isDigit 15 = .ok (.ireturn, 1) := dk_172 (dk_at dksX2_isDigit_0 15 rfl rfl)
abbrev cX2_isLetter : ByteArray := prog_9_method_4_code
def yX2_isLetter : MethodName := ⟨RX2, "isLetter", "(I)Z"⟩
def dkwX2_isLetter_0 : List UInt8 := [42, 27, 182, 0, 26, 133, 20, 0, 38, 20, 0, 40, 184, 0, 34, 172]
abbrev dktX2_isLetter_0 : List UInt8 := dkwX2_isLetter_0 ++ []
theorem dksX2_isLetter_0 : cX2_isLetter.data.toList.drop 0 = dktX2_isLetter_0 := by decide +kernel
theorem dX2_isLetter_0 : decode cX2_isLetter 0 = .ok (.aload_n 0, 1) := dk_42 (dk_at dksX2_isLetter_0 0 rfl rfl)
theorem dX2_isLetter_1 : decode cX2_isLetter 1 = .ok (.iload_n 1, 1) := dk_27 (dk_at dksX2_isLetter_0 1 rfl rfl)
theorem dX2_isLetter_2 : decode cX2_isLetter 2 = .ok (.invokevirtual 26, 3) := dk_182 0 26 (dk_at dksX2_isLetter_0 2 rfl rfl)
theorem dX2_isLetter_5 : decode cX2_isLetter 5 = .ok (.i2l, 1) := dk_133 (dk_at dksX2_isLetter_0 5 rfl rfl)
theorem dX2_isLetter_6 : decode cX2_isLetter 6 = .ok (.ldc2_w 38, 3) := dk_20 0 38 (dk_at dksX2_isLetter_0 6 rfl rfl)
theorem dX2_isLetter_9 : decode cX2_isLetter 9 = .ok (.ldc2_w 40, 3) := dk_20 0 40 (dk_at dksX2_isLetter_0 9 rfl rfl)
theorem dX2_isLetter_12 : decode cX2_isLetter 12 = .ok (.invokestatic 34, 3) := dk_184 0 34 (dk_at dksX2_isLetter_0 12 rfl rfl)
theorem dX2_isLetter_15 : decode cX2_isLetter 15 = .ok (.ireturn, 1) := dk_172 (dk_at dksX2_isLetter_0 15 rfl rfl)
abbrev cX2_isSign : ByteArray := prog_9_method_6_code
def yX2_isSign : MethodName := ⟨RX2, "isSign", "(I)Z"⟩
def dkwX2_isSign_0 : List UInt8 := [42, 180, 0, 52, 6, 160, 0, 17, 42, 180, 0, 48, 27, 133, 148, 154, 0, 7, 4, 167, 0, 4, 3, 172]
abbrev dktX2_isSign_0 : List UInt8 := dkwX2_isSign_0 ++ []
theorem dksX2_isSign_0 : cX2_isSign.data.toList.drop 0 = dktX2_isSign_0 := by decide +kernel
theorem dX2_isSign_0 : decode cX2_isSign 0 = .ok (.aload_n 0, 1) := dk_42 (dk_at dksX2_isSign_0 0 rfl rfl)
theorem dX2_isSign_1 : decode cX2_isSign 1 = .ok (.getfield 52, 3) := dk_180 0 52 (dk_at dksX2_isSign_0 1 rfl rfl)
theorem dX2_isSign_4 : decode cX2_isSign 4 = .ok (.iconst 3, 1) := dk_6 (dk_at dksX2_isSign_0 4 rfl rfl)
theorem dX2_isSign_5 : decode cX2_isSign 5 = .ok (.if_icmp .ne 17, 3) := dk_160 0 17 (dk_at dksX2_isSign_0 5 rfl rfl)
theorem dX2_isSign_8 : decode cX2_isSign 8 = .ok (.aload_n 0, 1) := dk_42 (dk_at dksX2_isSign_0 8 rfl rfl)
theorem dX2_isSign_9 : decode cX2_isSign 9 = .ok (.getfield 48, 3) := dk_180 0 48 (dk_at dksX2_isSign_0 9 rfl rfl)
theorem dX2_isSign_12 : decode cX2_isSign 12 = .ok (.iload_n 1, 1) := dk_27 (dk_at dksX2_isSign_0 12 rfl rfl)
theorem dX2_isSign_13 : decode cX2_isSign 13 = .ok (.i2l, 1) := dk_133 (dk_at dksX2_isSign_0 13 rfl rfl)
theorem dX2_isSign_14 : decode cX2_isSign 14 = .ok (.lcmp, 1) := dk_148 (dk_at dksX2_isSign_0 14 rfl rfl)
theorem dX2_isSign_15 : decode cX2_isSign 15 = .ok (.ifCond .ne 7, 3) := dk_154 0 7 (dk_at dksX2_isSign_0 15 rfl rfl)
theorem dX2_isSign_18 : decode cX2_isSign 18 = .ok (.iconst 1, 1) := dk_4 (dk_at dksX2_isSign_0 18 rfl rfl)
theorem dX2_isSign_19 : decode cX2_isSign 19 = .ok (.goto 4, 3) := dk_167 0 4 (dk_at dksX2_isSign_0 19 rfl rfl)
theorem dX2_isSign_22 : decode cX2_isSign 22 = .ok (.iconst 0, 1) := dk_3 (dk_at dksX2_isSign_0 22 rfl rfl)
theorem dX2_isSign_23 : decode cX2_isSign 23 = .ok (.ireturn, 1) := dk_172 (dk_at dksX2_isSign_0 23 rfl rfl)
abbrev cX2_isWord : ByteArray := prog_9_method_10_code
def yX2_isWord : MethodName := ⟨RX2, "isWord", "(Ljava/lang/String;)Z"⟩
def dkwX2_isWord_1 : List UInt8 := [3, 172]
abbrev dktX2_isWord_1 : List UInt8 := dkwX2_isWord_1 ++ []
def dkwX2_isWord_0 : List UInt8 := [42, 180, 0, 52, 5, 160, 0, 19, 42, 180, 0, 48, 43, 184, 0, 90, 148, 154, 0, 7, 4, 167, 0, 4]
abbrev dktX2_isWord_0 : List UInt8 := dkwX2_isWord_0 ++ dktX2_isWord_1
theorem dksX2_isWord_0 : cX2_isWord.data.toList.drop 0 = dktX2_isWord_0 := by decide +kernel
theorem dksX2_isWord_1 : cX2_isWord.data.toList.drop 24 = dktX2_isWord_1 := dk_seg dksX2_isWord_0 24 rfl rfl
theorem dX2_isWord_0 : decode cX2_isWord 0 = .ok (.aload_n 0, 1) := dk_42 (dk_at dksX2_isWord_0 0 rfl rfl)
theorem dX2_isWord_1 : decode cX2_isWord 1 = .ok (.getfield 52, 3) := dk_180 0 52 (dk_at dksX2_isWord_0 1 rfl rfl)
theorem dX2_isWord_4 : decode cX2_isWord 4 = .ok (.iconst 2, 1) := dk_5 (dk_at dksX2_isWord_0 4 rfl rfl)
theorem dX2_isWord_5 : decode cX2_isWord 5 = .ok (.if_icmp .ne 19, 3) := dk_160 0 19 (dk_at dksX2_isWord_0 5 rfl rfl)
theorem dX2_isWord_8 : decode cX2_isWord 8 = .ok (.aload_n 0, 1) := dk_42 (dk_at dksX2_isWord_0 8 rfl rfl)
theorem dX2_isWord_9 : decode cX2_isWord 9 = .ok (.getfield 48, 3) := dk_180 0 48 (dk_at dksX2_isWord_0 9 rfl rfl)
theorem dX2_isWord_12 : decode cX2_isWord 12 = .ok (.aload_n 1, 1) := dk_43 (dk_at dksX2_isWord_0 12 rfl rfl)
theorem dX2_isWord_13 : decode cX2_isWord 13 = .ok (.invokestatic 90, 3) := dk_184 0 90 (dk_at dksX2_isWord_0 13 rfl rfl)
theorem dX2_isWord_16 : decode cX2_isWord 16 = .ok (.lcmp, 1) := dk_148 (dk_at dksX2_isWord_0 16 rfl rfl)
theorem dX2_isWord_17 : decode cX2_isWord 17 = .ok (.ifCond .ne 7, 3) := dk_154 0 7 (dk_at dksX2_isWord_0 17 rfl rfl)
theorem dX2_isWord_20 : decode cX2_isWord 20 = .ok (.iconst 1, 1) := dk_4 (dk_at dksX2_isWord_0 20 rfl rfl)
theorem dX2_isWord_21 : decode cX2_isWord 21 = .ok (.goto 4, 3) := dk_167 0 4 (dk_at dksX2_isWord_0 21 rfl rfl)
theorem dX2_isWord_24 : decode cX2_isWord 24 = .ok (.iconst 0, 1) := dk_3 (dk_at dksX2_isWord_1 0 rfl rfl)
theorem dX2_isWord_25 : decode cX2_isWord 25 = .ok (.ireturn, 1) := dk_172 (dk_at dksX2_isWord_1 1 rfl rfl)
abbrev cX2_want : ByteArray := prog_9_method_7_code
def yX2_want : MethodName := ⟨RX2, "want", "(Z)V"⟩
def dkwX2_want_0 : List UInt8 := [27, 154, 0, 16, 187, 0, 72, 89, 4, 42, 180, 0, 45, 183, 0, 74, 191, 177]
abbrev dktX2_want_0 : List UInt8 := dkwX2_want_0 ++ []
theorem dksX2_want_0 : cX2_want.data.toList.drop 0 = dktX2_want_0 := by decide +kernel
theorem dX2_want_0 : decode cX2_want 0 = .ok (.iload_n 1, 1) := dk_27 (dk_at dksX2_want_0 0 rfl rfl)
theorem dX2_want_1 : decode cX2_want 1 = .ok (.ifCond .ne 16, 3) := dk_154 0 16 (dk_at dksX2_want_0 1 rfl rfl)
theorem dX2_want_4 : decode cX2_want 4 = .ok (.new 72, 3) := dk_187 0 72 (dk_at dksX2_want_0 4 rfl rfl)
theorem dX2_want_7 : decode cX2_want 7 = .ok (.dup, 1) := dk_89 (dk_at dksX2_want_0 7 rfl rfl)
theorem dX2_want_8 : decode cX2_want 8 = .ok (.iconst 1, 1) := dk_4 (dk_at dksX2_want_0 8 rfl rfl)
theorem dX2_want_9 : decode cX2_want 9 = .ok (.aload_n 0, 1) := dk_42 (dk_at dksX2_want_0 9 rfl rfl)
theorem dX2_want_10 : decode cX2_want 10 = .ok (.getfield 45, 3) := dk_180 0 45 (dk_at dksX2_want_0 10 rfl rfl)
theorem dX2_want_13 : decode cX2_want 13 = .ok (.invokespecial 74, 3) := dk_183 0 74 (dk_at dksX2_want_0 13 rfl rfl)
theorem dX2_want_16 : decode cX2_want 16 = .ok (.athrow, 1) := dk_191 (dk_at dksX2_want_0 16 rfl rfl)
theorem dX2_want_17 : decode cX2_want 17 = .ok (.return_, 1) := dk_177 (dk_at dksX2_want_0 17 rfl rfl)
abbrev cX2_rule : ByteArray := prog_9_method_12_code
def yX2_rule : MethodName := ⟨RX2, "rule", "()V"⟩
def dkwX2_rule_5 : List UInt8 := [187, 0, 148, 89, 32, 25, 4, 25, 5, 183, 0, 150, 182, 0, 151, 87, 177]
abbrev dktX2_rule_5 : List UInt8 := dkwX2_rule_5 ++ []
def dkwX2_rule_4 : List UInt8 := [180, 0, 12, 27, 153, 0, 18, 187, 0, 143, 89, 32, 25, 4, 25, 5, 183, 0, 145, 167, 0, 15]
abbrev dktX2_rule_4 : List UInt8 := dkwX2_rule_4 ++ dktX2_rule_5
def dkwX2_rule_3 : List UInt8 := [65, 42, 182, 0, 87, 42, 182, 0, 132, 58, 4, 42, 182, 0, 136, 58, 5, 42, 182, 0, 140, 42]
abbrev dktX2_rule_3 : List UInt8 := dkwX2_rule_3 ++ dktX2_rule_4
def dkwX2_rule_2 : List UInt8 := [154, 0, 16, 42, 18, 130, 182, 0, 94, 154, 0, 7, 4, 167, 0, 4, 3, 182, 0, 83, 42, 180, 0, 48]
abbrev dktX2_rule_2 : List UInt8 := dkwX2_rule_2 ++ dktX2_rule_3
def dkwX2_rule_1 : List UInt8 := [42, 18, 93, 182, 0, 94, 154, 0, 34, 42, 18, 98, 182, 0, 94, 154, 0, 25, 42, 18, 128, 182, 0, 94]
abbrev dktX2_rule_1 : List UInt8 := dkwX2_rule_1 ++ dktX2_rule_2
def dkwX2_rule_0 : List UInt8 := [42, 182, 0, 125, 42, 18, 98, 182, 0, 94, 60, 42, 182, 0, 87, 42, 42, 180, 0, 52, 5, 160, 0, 43]
abbrev dktX2_rule_0 : List UInt8 := dkwX2_rule_0 ++ dktX2_rule_1
theorem dksX2_rule_0 : cX2_rule.data.toList.drop 0 = dktX2_rule_0 := by decide +kernel
theorem dksX2_rule_1 : cX2_rule.data.toList.drop 24 = dktX2_rule_1 := dk_seg dksX2_rule_0 24 rfl rfl
theorem dksX2_rule_2 : cX2_rule.data.toList.drop 48 = dktX2_rule_2 := dk_seg dksX2_rule_1 24 rfl rfl
theorem dksX2_rule_3 : cX2_rule.data.toList.drop 72 = dktX2_rule_3 := dk_seg dksX2_rule_2 24 rfl rfl
theorem dksX2_rule_4 : cX2_rule.data.toList.drop 94 = dktX2_rule_4 := dk_seg dksX2_rule_3 22 rfl rfl
theorem dksX2_rule_5 : cX2_rule.data.toList.drop 116 = dktX2_rule_5 := dk_seg dksX2_rule_4 22 rfl rfl
theorem dX2_rule_0 : decode cX2_rule 0 = .ok (.aload_n 0, 1) := dk_42 (dk_at dksX2_rule_0 0 rfl rfl)
theorem dX2_rule_1 : decode cX2_rule 1 = .ok (.invokevirtual 125, 3) := dk_182 0 125 (dk_at dksX2_rule_0 1 rfl rfl)
theorem dX2_rule_4 : decode cX2_rule 4 = .ok (.aload_n 0, 1) := dk_42 (dk_at dksX2_rule_0 4 rfl rfl)
theorem dX2_rule_5 : decode cX2_rule 5 = .ok (.ldc 98, 2) := dk_18 98 (dk_at dksX2_rule_0 5 rfl rfl)
theorem dX2_rule_7 : decode cX2_rule 7 = .ok (.invokevirtual 94, 3) := dk_182 0 94 (dk_at dksX2_rule_0 7 rfl rfl)
theorem dX2_rule_10 : decode cX2_rule 10 = .ok (.istore_n 1, 1) := dk_60 (dk_at dksX2_rule_0 10 rfl rfl)
theorem dX2_rule_11 : decode cX2_rule 11 = .ok (.aload_n 0, 1) := dk_42 (dk_at dksX2_rule_0 11 rfl rfl)
theorem dX2_rule_12 : decode cX2_rule 12 = .ok (.invokevirtual 87, 3) := dk_182 0 87 (dk_at dksX2_rule_0 12 rfl rfl)
theorem dX2_rule_15 : decode cX2_rule 15 = .ok (.aload_n 0, 1) := dk_42 (dk_at dksX2_rule_0 15 rfl rfl)
theorem dX2_rule_16 : decode cX2_rule 16 = .ok (.aload_n 0, 1) := dk_42 (dk_at dksX2_rule_0 16 rfl rfl)
theorem dX2_rule_17 : decode cX2_rule 17 = .ok (.getfield 52, 3) := dk_180 0 52 (dk_at dksX2_rule_0 17 rfl rfl)
theorem dX2_rule_20 : decode cX2_rule 20 = .ok (.iconst 2, 1) := dk_5 (dk_at dksX2_rule_0 20 rfl rfl)
theorem dX2_rule_21 : decode cX2_rule 21 = .ok (.if_icmp .ne 43, 3) := dk_160 0 43 (dk_at dksX2_rule_0 21 rfl rfl)
theorem dX2_rule_24 : decode cX2_rule 24 = .ok (.aload_n 0, 1) := dk_42 (dk_at dksX2_rule_1 0 rfl rfl)
theorem dX2_rule_25 : decode cX2_rule 25 = .ok (.ldc 93, 2) := dk_18 93 (dk_at dksX2_rule_1 1 rfl rfl)
theorem dX2_rule_27 : decode cX2_rule 27 = .ok (.invokevirtual 94, 3) := dk_182 0 94 (dk_at dksX2_rule_1 3 rfl rfl)
theorem dX2_rule_30 : decode cX2_rule 30 = .ok (.ifCond .ne 34, 3) := dk_154 0 34 (dk_at dksX2_rule_1 6 rfl rfl)
theorem dX2_rule_33 : decode cX2_rule 33 = .ok (.aload_n 0, 1) := dk_42 (dk_at dksX2_rule_1 9 rfl rfl)
theorem dX2_rule_34 : decode cX2_rule 34 = .ok (.ldc 98, 2) := dk_18 98 (dk_at dksX2_rule_1 10 rfl rfl)
theorem dX2_rule_36 : decode cX2_rule 36 = .ok (.invokevirtual 94, 3) := dk_182 0 94 (dk_at dksX2_rule_1 12 rfl rfl)
theorem dX2_rule_39 : decode cX2_rule 39 = .ok (.ifCond .ne 25, 3) := dk_154 0 25 (dk_at dksX2_rule_1 15 rfl rfl)
theorem dX2_rule_42 : decode cX2_rule 42 = .ok (.aload_n 0, 1) := dk_42 (dk_at dksX2_rule_1 18 rfl rfl)
theorem dX2_rule_43 : decode cX2_rule 43 = .ok (.ldc 128, 2) := dk_18 128 (dk_at dksX2_rule_1 19 rfl rfl)
theorem dX2_rule_45 : decode cX2_rule 45 = .ok (.invokevirtual 94, 3) := dk_182 0 94 (dk_at dksX2_rule_1 21 rfl rfl)
theorem dX2_rule_48 : decode cX2_rule 48 = .ok (.ifCond .ne 16, 3) := dk_154 0 16 (dk_at dksX2_rule_2 0 rfl rfl)
theorem dX2_rule_51 : decode cX2_rule 51 = .ok (.aload_n 0, 1) := dk_42 (dk_at dksX2_rule_2 3 rfl rfl)
theorem dX2_rule_52 : decode cX2_rule 52 = .ok (.ldc 130, 2) := dk_18 130 (dk_at dksX2_rule_2 4 rfl rfl)
theorem dX2_rule_54 : decode cX2_rule 54 = .ok (.invokevirtual 94, 3) := dk_182 0 94 (dk_at dksX2_rule_2 6 rfl rfl)
theorem dX2_rule_57 : decode cX2_rule 57 = .ok (.ifCond .ne 7, 3) := dk_154 0 7 (dk_at dksX2_rule_2 9 rfl rfl)
theorem dX2_rule_60 : decode cX2_rule 60 = .ok (.iconst 1, 1) := dk_4 (dk_at dksX2_rule_2 12 rfl rfl)
theorem dX2_rule_61 : decode cX2_rule 61 = .ok (.goto 4, 3) := dk_167 0 4 (dk_at dksX2_rule_2 13 rfl rfl)
theorem dX2_rule_64 : decode cX2_rule 64 = .ok (.iconst 0, 1) := dk_3 (dk_at dksX2_rule_2 16 rfl rfl)
theorem dX2_rule_65 : decode cX2_rule 65 = .ok (.invokevirtual 83, 3) := dk_182 0 83 (dk_at dksX2_rule_2 17 rfl rfl)
theorem dX2_rule_68 : decode cX2_rule 68 = .ok (.aload_n 0, 1) := dk_42 (dk_at dksX2_rule_2 20 rfl rfl)
theorem dX2_rule_69 : decode cX2_rule 69 = .ok (.getfield 48, 3) := dk_180 0 48 (dk_at dksX2_rule_2 21 rfl rfl)
theorem dX2_rule_72 : decode cX2_rule 72 = .ok (.lstore_n 2, 1) := dk_65 (dk_at dksX2_rule_3 0 rfl rfl)
theorem dX2_rule_73 : decode cX2_rule 73 = .ok (.aload_n 0, 1) := dk_42 (dk_at dksX2_rule_3 1 rfl rfl)
theorem dX2_rule_74 : decode cX2_rule 74 = .ok (.invokevirtual 87, 3) := dk_182 0 87 (dk_at dksX2_rule_3 2 rfl rfl)
theorem dX2_rule_77 : decode cX2_rule 77 = .ok (.aload_n 0, 1) := dk_42 (dk_at dksX2_rule_3 5 rfl rfl)
theorem dX2_rule_78 : decode cX2_rule 78 = .ok (.invokevirtual 132, 3) := dk_182 0 132 (dk_at dksX2_rule_3 6 rfl rfl)
theorem dX2_rule_81 : decode cX2_rule 81 = .ok (.astore 4, 2) := dk_58 4 (dk_at dksX2_rule_3 9 rfl rfl)
theorem dX2_rule_83 : decode cX2_rule 83 = .ok (.aload_n 0, 1) := dk_42 (dk_at dksX2_rule_3 11 rfl rfl)
theorem dX2_rule_84 : decode cX2_rule 84 = .ok (.invokevirtual 136, 3) := dk_182 0 136 (dk_at dksX2_rule_3 12 rfl rfl)
theorem dX2_rule_87 : decode cX2_rule 87 = .ok (.astore 5, 2) := dk_58 5 (dk_at dksX2_rule_3 15 rfl rfl)
theorem dX2_rule_89 : decode cX2_rule 89 = .ok (.aload_n 0, 1) := dk_42 (dk_at dksX2_rule_3 17 rfl rfl)
theorem dX2_rule_90 : decode cX2_rule 90 = .ok (.invokevirtual 140, 3) := dk_182 0 140 (dk_at dksX2_rule_3 18 rfl rfl)
theorem dX2_rule_93 : decode cX2_rule 93 = .ok (.aload_n 0, 1) := dk_42 (dk_at dksX2_rule_3 21 rfl rfl)
theorem dX2_rule_94 : decode cX2_rule 94 = .ok (.getfield 12, 3) := dk_180 0 12 (dk_at dksX2_rule_4 0 rfl rfl)
theorem dX2_rule_97 : decode cX2_rule 97 = .ok (.iload_n 1, 1) := dk_27 (dk_at dksX2_rule_4 3 rfl rfl)
theorem dX2_rule_98 : decode cX2_rule 98 = .ok (.ifCond .eq 18, 3) := dk_153 0 18 (dk_at dksX2_rule_4 4 rfl rfl)
theorem dX2_rule_101 : decode cX2_rule 101 = .ok (.new 143, 3) := dk_187 0 143 (dk_at dksX2_rule_4 7 rfl rfl)
theorem dX2_rule_104 : decode cX2_rule 104 = .ok (.dup, 1) := dk_89 (dk_at dksX2_rule_4 10 rfl rfl)
theorem dX2_rule_105 : decode cX2_rule 105 = .ok (.lload_n 2, 1) := dk_32 (dk_at dksX2_rule_4 11 rfl rfl)
theorem dX2_rule_106 : decode cX2_rule 106 = .ok (.aload 4, 2) := dk_25 4 (dk_at dksX2_rule_4 12 rfl rfl)
theorem dX2_rule_108 : decode cX2_rule 108 = .ok (.aload 5, 2) := dk_25 5 (dk_at dksX2_rule_4 14 rfl rfl)
theorem dX2_rule_110 : decode cX2_rule 110 = .ok (.invokespecial 145, 3) := dk_183 0 145 (dk_at dksX2_rule_4 16 rfl rfl)
theorem dX2_rule_113 : decode cX2_rule 113 = .ok (.goto 15, 3) := dk_167 0 15 (dk_at dksX2_rule_4 19 rfl rfl)
theorem dX2_rule_116 : decode cX2_rule 116 = .ok (.new 148, 3) := dk_187 0 148 (dk_at dksX2_rule_5 0 rfl rfl)
theorem dX2_rule_119 : decode cX2_rule 119 = .ok (.dup, 1) := dk_89 (dk_at dksX2_rule_5 3 rfl rfl)
theorem dX2_rule_120 : decode cX2_rule 120 = .ok (.lload_n 2, 1) := dk_32 (dk_at dksX2_rule_5 4 rfl rfl)
theorem dX2_rule_121 : decode cX2_rule 121 = .ok (.aload 4, 2) := dk_25 4 (dk_at dksX2_rule_5 5 rfl rfl)
theorem dX2_rule_123 : decode cX2_rule 123 = .ok (.aload 5, 2) := dk_25 5 (dk_at dksX2_rule_5 7 rfl rfl)
theorem dX2_rule_125 : decode cX2_rule 125 = .ok (.invokespecial 150, 3) := dk_183 0 150 (dk_at dksX2_rule_5 9 rfl rfl)
theorem dX2_rule_128 : decode cX2_rule 128 = .ok (.invokevirtual 151, 3) := dk_182 0 151 (dk_at dksX2_rule_5 12 rfl rfl)
theorem dX2_rule_131 : decode cX2_rule 131 = .ok (.pop, 1) := dk_87 (dk_at dksX2_rule_5 15 rfl rfl)
theorem dX2_rule_132 : decode cX2_rule 132 = .ok (.return_, 1) := dk_177 (dk_at dksX2_rule_5 16 rfl rfl)
abbrev cX2_open : ByteArray := prog_9_method_8_code
def yX2_open : MethodName := ⟨RX2, "open", "()V"⟩
def dkwX2_open_1 : List UInt8 := [182, 0, 83, 42, 89, 180, 0, 80, 4, 96, 181, 0, 80, 42, 182, 0, 87, 177]
abbrev dktX2_open_1 : List UInt8 := dkwX2_open_1 ++ []
def dkwX2_open_0 : List UInt8 := [42, 42, 16, 40, 182, 0, 77, 153, 0, 16, 42, 180, 0, 80, 16, 12, 162, 0, 7, 4, 167, 0, 4, 3]
abbrev dktX2_open_0 : List UInt8 := dkwX2_open_0 ++ dktX2_open_1
theorem dksX2_open_0 : cX2_open.data.toList.drop 0 = dktX2_open_0 := by decide +kernel
theorem dksX2_open_1 : cX2_open.data.toList.drop 24 = dktX2_open_1 := dk_seg dksX2_open_0 24 rfl rfl
theorem dX2_open_0 : decode cX2_open 0 = .ok (.aload_n 0, 1) := dk_42 (dk_at dksX2_open_0 0 rfl rfl)
theorem dX2_open_1 : decode cX2_open 1 = .ok (.aload_n 0, 1) := dk_42 (dk_at dksX2_open_0 1 rfl rfl)
theorem dX2_open_2 : decode cX2_open 2 = .ok (.bipush 40, 2) := dk_16 40 (dk_at dksX2_open_0 2 rfl rfl)
theorem dX2_open_4 : decode cX2_open 4 = .ok (.invokevirtual 77, 3) := dk_182 0 77 (dk_at dksX2_open_0 4 rfl rfl)
theorem dX2_open_7 : decode cX2_open 7 = .ok (.ifCond .eq 16, 3) := dk_153 0 16 (dk_at dksX2_open_0 7 rfl rfl)
theorem dX2_open_10 : decode cX2_open 10 = .ok (.aload_n 0, 1) := dk_42 (dk_at dksX2_open_0 10 rfl rfl)
theorem dX2_open_11 : decode cX2_open 11 = .ok (.getfield 80, 3) := dk_180 0 80 (dk_at dksX2_open_0 11 rfl rfl)
theorem dX2_open_14 : decode cX2_open 14 = .ok (.bipush 12, 2) := dk_16 12 (dk_at dksX2_open_0 14 rfl rfl)
theorem dX2_open_16 : decode cX2_open 16 = .ok (.if_icmp .ge 7, 3) := dk_162 0 7 (dk_at dksX2_open_0 16 rfl rfl)
theorem dX2_open_19 : decode cX2_open 19 = .ok (.iconst 1, 1) := dk_4 (dk_at dksX2_open_0 19 rfl rfl)
theorem dX2_open_20 : decode cX2_open 20 = .ok (.goto 4, 3) := dk_167 0 4 (dk_at dksX2_open_0 20 rfl rfl)
theorem dX2_open_23 : decode cX2_open 23 = .ok (.iconst 0, 1) := dk_3 (dk_at dksX2_open_0 23 rfl rfl)
theorem dX2_open_24 : decode cX2_open 24 = .ok (.invokevirtual 83, 3) := dk_182 0 83 (dk_at dksX2_open_1 0 rfl rfl)
theorem dX2_open_27 : decode cX2_open 27 = .ok (.aload_n 0, 1) := dk_42 (dk_at dksX2_open_1 3 rfl rfl)
theorem dX2_open_28 : decode cX2_open 28 = .ok (.dup, 1) := dk_89 (dk_at dksX2_open_1 4 rfl rfl)
theorem dX2_open_29 : decode cX2_open 29 = .ok (.getfield 80, 3) := dk_180 0 80 (dk_at dksX2_open_1 5 rfl rfl)
theorem dX2_open_32 : decode cX2_open 32 = .ok (.iconst 1, 1) := dk_4 (dk_at dksX2_open_1 8 rfl rfl)
theorem dX2_open_33 : decode cX2_open 33 = .ok (.iadd, 1) := dk_96 (dk_at dksX2_open_1 9 rfl rfl)
theorem dX2_open_34 : decode cX2_open 34 = .ok (.putfield 80, 3) := dk_181 0 80 (dk_at dksX2_open_1 10 rfl rfl)
theorem dX2_open_37 : decode cX2_open 37 = .ok (.aload_n 0, 1) := dk_42 (dk_at dksX2_open_1 13 rfl rfl)
theorem dX2_open_38 : decode cX2_open 38 = .ok (.invokevirtual 87, 3) := dk_182 0 87 (dk_at dksX2_open_1 14 rfl rfl)
theorem dX2_open_41 : decode cX2_open 41 = .ok (.return_, 1) := dk_177 (dk_at dksX2_open_1 17 rfl rfl)
abbrev cX2_patterns : ByteArray := prog_9_method_13_code
def yX2_patterns : MethodName := ⟨RX2, "patterns", "()LMacroGlass$Parts;"⟩
def dkwX2_patterns_9 : List UInt8 := [182, 0, 151, 87, 167, 255, 62, 42, 182, 0, 140, 43, 176]
abbrev dktX2_patterns_9 : List UInt8 := dkwX2_patterns_9 ++ []
def dkwX2_patterns_8 : List UInt8 := [183, 0, 173, 182, 0, 151, 87, 42, 182, 0, 87, 167, 0, 15, 43, 180, 0, 160, 42, 182, 0, 132]
abbrev dktX2_patterns_8 : List UInt8 := dkwX2_patterns_8 ++ dktX2_patterns_9
def dkwX2_patterns_7 : List UInt8 := [160, 0, 7, 4, 167, 0, 4, 3, 182, 0, 83, 43, 180, 0, 160, 187, 0, 171, 89, 29, 42, 180, 0, 48]
abbrev dktX2_patterns_7 : List UInt8 := dkwX2_patterns_7 ++ dktX2_patterns_8
def dkwX2_patterns_6 : List UInt8 := [167, 0, 72, 42, 16, 33, 182, 0, 77, 153, 0, 51, 42, 182, 0, 87, 42, 42, 180, 0, 52, 5]
abbrev dktX2_patterns_6 : List UInt8 := dkwX2_patterns_6 ++ dktX2_patterns_7
def dkwX2_patterns_5 : List UInt8 := [154, 0, 7, 4, 167, 0, 4, 3, 183, 0, 168, 182, 0, 151, 87, 28, 154, 0, 7, 42, 182, 0, 87]
abbrev dktX2_patterns_5 : List UInt8 := dkwX2_patterns_5 ++ dktX2_patterns_6
def dkwX2_patterns_4 : List UInt8 := [182, 0, 77, 154, 0, 7, 4, 167, 0, 4, 3, 61, 43, 180, 0, 160, 187, 0, 166, 89, 29, 22, 4, 28]
abbrev dktX2_patterns_4 : List UInt8 := dkwX2_patterns_4 ++ dktX2_patterns_5
def dkwX2_patterns_3 : List UInt8 := [167, 0, 143, 42, 180, 0, 52, 5, 160, 0, 66, 42, 180, 0, 48, 55, 4, 42, 182, 0, 87, 42, 16, 42]
abbrev dktX2_patterns_3 : List UInt8 := dkwX2_patterns_3 ++ dktX2_patterns_4
def dkwX2_patterns_2 : List UInt8 := [180, 0, 160, 187, 0, 163, 89, 29, 42, 180, 0, 48, 136, 183, 0, 165, 182, 0, 151, 87, 42, 182, 0, 87]
abbrev dktX2_patterns_2 : List UInt8 := dkwX2_patterns_2 ++ dktX2_patterns_3
def dkwX2_patterns_1 : List UInt8 := [16, 41, 182, 0, 77, 154, 0, 187, 42, 180, 0, 45, 62, 42, 180, 0, 52, 4, 160, 0, 31, 43]
abbrev dktX2_patterns_1 : List UInt8 := dkwX2_patterns_1 ++ dktX2_patterns_2
def dkwX2_patterns_0 : List UInt8 := [187, 0, 155, 89, 42, 180, 0, 45, 183, 0, 157, 76, 42, 182, 0, 125, 4, 61, 28, 153, 0, 196, 42]
abbrev dktX2_patterns_0 : List UInt8 := dkwX2_patterns_0 ++ dktX2_patterns_1
theorem dksX2_patterns_0 : cX2_patterns.data.toList.drop 0 = dktX2_patterns_0 := by decide +kernel
theorem dksX2_patterns_1 : cX2_patterns.data.toList.drop 23 = dktX2_patterns_1 := dk_seg dksX2_patterns_0 23 rfl rfl
theorem dksX2_patterns_2 : cX2_patterns.data.toList.drop 45 = dktX2_patterns_2 := dk_seg dksX2_patterns_1 22 rfl rfl
theorem dksX2_patterns_3 : cX2_patterns.data.toList.drop 69 = dktX2_patterns_3 := dk_seg dksX2_patterns_2 24 rfl rfl
theorem dksX2_patterns_4 : cX2_patterns.data.toList.drop 93 = dktX2_patterns_4 := dk_seg dksX2_patterns_3 24 rfl rfl
theorem dksX2_patterns_5 : cX2_patterns.data.toList.drop 117 = dktX2_patterns_5 := dk_seg dksX2_patterns_4 24 rfl rfl
theorem dksX2_patterns_6 : cX2_patterns.data.toList.drop 140 = dktX2_patterns_6 := dk_seg dksX2_patterns_5 23 rfl rfl
theorem dksX2_patterns_7 : cX2_patterns.data.toList.drop 162 = dktX2_patterns_7 := dk_seg dksX2_patterns_6 22 rfl rfl
theorem dksX2_patterns_8 : cX2_patterns.data.toList.drop 186 = dktX2_patterns_8 := dk_seg dksX2_patterns_7 24 rfl rfl
theorem dksX2_patterns_9 : cX2_patterns.data.toList.drop 208 = dktX2_patterns_9 := dk_seg dksX2_patterns_8 22 rfl rfl
theorem dX2_patterns_0 : decode cX2_patterns 0 = .ok (.new 155, 3) := dk_187 0 155 (dk_at dksX2_patterns_0 0 rfl rfl)
theorem dX2_patterns_3 : decode cX2_patterns 3 = .ok (.dup, 1) := dk_89 (dk_at dksX2_patterns_0 3 rfl rfl)
theorem dX2_patterns_4 : decode cX2_patterns 4 = .ok (.aload_n 0, 1) := dk_42 (dk_at dksX2_patterns_0 4 rfl rfl)
theorem dX2_patterns_5 : decode cX2_patterns 5 = .ok (.getfield 45, 3) := dk_180 0 45 (dk_at dksX2_patterns_0 5 rfl rfl)
theorem dX2_patterns_8 : decode cX2_patterns 8 = .ok (.invokespecial 157, 3) := dk_183 0 157 (dk_at dksX2_patterns_0 8 rfl rfl)
theorem dX2_patterns_11 : decode cX2_patterns 11 = .ok (.astore_n 1, 1) := dk_76 (dk_at dksX2_patterns_0 11 rfl rfl)
theorem dX2_patterns_12 : decode cX2_patterns 12 = .ok (.aload_n 0, 1) := dk_42 (dk_at dksX2_patterns_0 12 rfl rfl)
theorem dX2_patterns_13 : decode cX2_patterns 13 = .ok (.invokevirtual 125, 3) := dk_182 0 125 (dk_at dksX2_patterns_0 13 rfl rfl)
theorem dX2_patterns_16 : decode cX2_patterns 16 = .ok (.iconst 1, 1) := dk_4 (dk_at dksX2_patterns_0 16 rfl rfl)
theorem dX2_patterns_17 : decode cX2_patterns 17 = .ok (.istore_n 2, 1) := dk_61 (dk_at dksX2_patterns_0 17 rfl rfl)
theorem dX2_patterns_18 : decode cX2_patterns 18 = .ok (.iload_n 2, 1) := dk_28 (dk_at dksX2_patterns_0 18 rfl rfl)
theorem dX2_patterns_19 : decode cX2_patterns 19 = .ok (.ifCond .eq 196, 3) := dk_153 0 196 (dk_at dksX2_patterns_0 19 rfl rfl)
theorem dX2_patterns_22 : decode cX2_patterns 22 = .ok (.aload_n 0, 1) := dk_42 (dk_at dksX2_patterns_0 22 rfl rfl)
theorem dX2_patterns_23 : decode cX2_patterns 23 = .ok (.bipush 41, 2) := dk_16 41 (dk_at dksX2_patterns_1 0 rfl rfl)
theorem dX2_patterns_25 : decode cX2_patterns 25 = .ok (.invokevirtual 77, 3) := dk_182 0 77 (dk_at dksX2_patterns_1 2 rfl rfl)
theorem dX2_patterns_28 : decode cX2_patterns 28 = .ok (.ifCond .ne 187, 3) := dk_154 0 187 (dk_at dksX2_patterns_1 5 rfl rfl)
theorem dX2_patterns_31 : decode cX2_patterns 31 = .ok (.aload_n 0, 1) := dk_42 (dk_at dksX2_patterns_1 8 rfl rfl)
theorem dX2_patterns_32 : decode cX2_patterns 32 = .ok (.getfield 45, 3) := dk_180 0 45 (dk_at dksX2_patterns_1 9 rfl rfl)
theorem dX2_patterns_35 : decode cX2_patterns 35 = .ok (.istore_n 3, 1) := dk_62 (dk_at dksX2_patterns_1 12 rfl rfl)
theorem dX2_patterns_36 : decode cX2_patterns 36 = .ok (.aload_n 0, 1) := dk_42 (dk_at dksX2_patterns_1 13 rfl rfl)
theorem dX2_patterns_37 : decode cX2_patterns 37 = .ok (.getfield 52, 3) := dk_180 0 52 (dk_at dksX2_patterns_1 14 rfl rfl)
theorem dX2_patterns_40 : decode cX2_patterns 40 = .ok (.iconst 1, 1) := dk_4 (dk_at dksX2_patterns_1 17 rfl rfl)
theorem dX2_patterns_41 : decode cX2_patterns 41 = .ok (.if_icmp .ne 31, 3) := dk_160 0 31 (dk_at dksX2_patterns_1 18 rfl rfl)
theorem dX2_patterns_44 : decode cX2_patterns 44 = .ok (.aload_n 1, 1) := dk_43 (dk_at dksX2_patterns_1 21 rfl rfl)
theorem dX2_patterns_45 : decode cX2_patterns 45 = .ok (.getfield 160, 3) := dk_180 0 160 (dk_at dksX2_patterns_2 0 rfl rfl)
theorem dX2_patterns_48 : decode cX2_patterns 48 = .ok (.new 163, 3) := dk_187 0 163 (dk_at dksX2_patterns_2 3 rfl rfl)
theorem dX2_patterns_51 : decode cX2_patterns 51 = .ok (.dup, 1) := dk_89 (dk_at dksX2_patterns_2 6 rfl rfl)
theorem dX2_patterns_52 : decode cX2_patterns 52 = .ok (.iload_n 3, 1) := dk_29 (dk_at dksX2_patterns_2 7 rfl rfl)
theorem dX2_patterns_53 : decode cX2_patterns 53 = .ok (.aload_n 0, 1) := dk_42 (dk_at dksX2_patterns_2 8 rfl rfl)
theorem dX2_patterns_54 : decode cX2_patterns 54 = .ok (.getfield 48, 3) := dk_180 0 48 (dk_at dksX2_patterns_2 9 rfl rfl)
theorem dX2_patterns_57 : decode cX2_patterns 57 = .ok (.l2i, 1) := dk_136 (dk_at dksX2_patterns_2 12 rfl rfl)
theorem dX2_patterns_58 : decode cX2_patterns 58 = .ok (.invokespecial 165, 3) := dk_183 0 165 (dk_at dksX2_patterns_2 13 rfl rfl)
theorem dX2_patterns_61 : decode cX2_patterns 61 = .ok (.invokevirtual 151, 3) := dk_182 0 151 (dk_at dksX2_patterns_2 16 rfl rfl)
theorem dX2_patterns_64 : decode cX2_patterns 64 = .ok (.pop, 1) := dk_87 (dk_at dksX2_patterns_2 19 rfl rfl)
theorem dX2_patterns_65 : decode cX2_patterns 65 = .ok (.aload_n 0, 1) := dk_42 (dk_at dksX2_patterns_2 20 rfl rfl)
theorem dX2_patterns_66 : decode cX2_patterns 66 = .ok (.invokevirtual 87, 3) := dk_182 0 87 (dk_at dksX2_patterns_2 21 rfl rfl)
theorem dX2_patterns_69 : decode cX2_patterns 69 = .ok (.goto 143, 3) := dk_167 0 143 (dk_at dksX2_patterns_3 0 rfl rfl)
theorem dX2_patterns_72 : decode cX2_patterns 72 = .ok (.aload_n 0, 1) := dk_42 (dk_at dksX2_patterns_3 3 rfl rfl)
theorem dX2_patterns_73 : decode cX2_patterns 73 = .ok (.getfield 52, 3) := dk_180 0 52 (dk_at dksX2_patterns_3 4 rfl rfl)
theorem dX2_patterns_76 : decode cX2_patterns 76 = .ok (.iconst 2, 1) := dk_5 (dk_at dksX2_patterns_3 7 rfl rfl)
theorem dX2_patterns_77 : decode cX2_patterns 77 = .ok (.if_icmp .ne 66, 3) := dk_160 0 66 (dk_at dksX2_patterns_3 8 rfl rfl)
theorem dX2_patterns_80 : decode cX2_patterns 80 = .ok (.aload_n 0, 1) := dk_42 (dk_at dksX2_patterns_3 11 rfl rfl)
theorem dX2_patterns_81 : decode cX2_patterns 81 = .ok (.getfield 48, 3) := dk_180 0 48 (dk_at dksX2_patterns_3 12 rfl rfl)
theorem dX2_patterns_84 : decode cX2_patterns 84 = .ok (.lstore 4, 2) := dk_55 4 (dk_at dksX2_patterns_3 15 rfl rfl)
theorem dX2_patterns_86 : decode cX2_patterns 86 = .ok (.aload_n 0, 1) := dk_42 (dk_at dksX2_patterns_3 17 rfl rfl)
theorem dX2_patterns_87 : decode cX2_patterns 87 = .ok (.invokevirtual 87, 3) := dk_182 0 87 (dk_at dksX2_patterns_3 18 rfl rfl)
theorem dX2_patterns_90 : decode cX2_patterns 90 = .ok (.aload_n 0, 1) := dk_42 (dk_at dksX2_patterns_3 21 rfl rfl)
theorem dX2_patterns_91 : decode cX2_patterns 91 = .ok (.bipush 42, 2) := dk_16 42 (dk_at dksX2_patterns_3 22 rfl rfl)
theorem dX2_patterns_93 : decode cX2_patterns 93 = .ok (.invokevirtual 77, 3) := dk_182 0 77 (dk_at dksX2_patterns_4 0 rfl rfl)
theorem dX2_patterns_96 : decode cX2_patterns 96 = .ok (.ifCond .ne 7, 3) := dk_154 0 7 (dk_at dksX2_patterns_4 3 rfl rfl)
theorem dX2_patterns_99 : decode cX2_patterns 99 = .ok (.iconst 1, 1) := dk_4 (dk_at dksX2_patterns_4 6 rfl rfl)
theorem dX2_patterns_100 : decode cX2_patterns 100 = .ok (.goto 4, 3) := dk_167 0 4 (dk_at dksX2_patterns_4 7 rfl rfl)
theorem dX2_patterns_103 : decode cX2_patterns 103 = .ok (.iconst 0, 1) := dk_3 (dk_at dksX2_patterns_4 10 rfl rfl)
theorem dX2_patterns_104 : decode cX2_patterns 104 = .ok (.istore_n 2, 1) := dk_61 (dk_at dksX2_patterns_4 11 rfl rfl)
theorem dX2_patterns_105 : decode cX2_patterns 105 = .ok (.aload_n 1, 1) := dk_43 (dk_at dksX2_patterns_4 12 rfl rfl)
theorem dX2_patterns_106 : decode cX2_patterns 106 = .ok (.getfield 160, 3) := dk_180 0 160 (dk_at dksX2_patterns_4 13 rfl rfl)
theorem dX2_patterns_109 : decode cX2_patterns 109 = .ok (.new 166, 3) := dk_187 0 166 (dk_at dksX2_patterns_4 16 rfl rfl)
theorem dX2_patterns_112 : decode cX2_patterns 112 = .ok (.dup, 1) := dk_89 (dk_at dksX2_patterns_4 19 rfl rfl)
theorem dX2_patterns_113 : decode cX2_patterns 113 = .ok (.iload_n 3, 1) := dk_29 (dk_at dksX2_patterns_4 20 rfl rfl)
theorem dX2_patterns_114 : decode cX2_patterns 114 = .ok (.lload 4, 2) := dk_22 4 (dk_at dksX2_patterns_4 21 rfl rfl)
theorem dX2_patterns_116 : decode cX2_patterns 116 = .ok (.iload_n 2, 1) := dk_28 (dk_at dksX2_patterns_4 23 rfl rfl)
theorem dX2_patterns_117 : decode cX2_patterns 117 = .ok (.ifCond .ne 7, 3) := dk_154 0 7 (dk_at dksX2_patterns_5 0 rfl rfl)
theorem dX2_patterns_120 : decode cX2_patterns 120 = .ok (.iconst 1, 1) := dk_4 (dk_at dksX2_patterns_5 3 rfl rfl)
theorem dX2_patterns_121 : decode cX2_patterns 121 = .ok (.goto 4, 3) := dk_167 0 4 (dk_at dksX2_patterns_5 4 rfl rfl)
theorem dX2_patterns_124 : decode cX2_patterns 124 = .ok (.iconst 0, 1) := dk_3 (dk_at dksX2_patterns_5 7 rfl rfl)
theorem dX2_patterns_125 : decode cX2_patterns 125 = .ok (.invokespecial 168, 3) := dk_183 0 168 (dk_at dksX2_patterns_5 8 rfl rfl)
theorem dX2_patterns_128 : decode cX2_patterns 128 = .ok (.invokevirtual 151, 3) := dk_182 0 151 (dk_at dksX2_patterns_5 11 rfl rfl)
theorem dX2_patterns_131 : decode cX2_patterns 131 = .ok (.pop, 1) := dk_87 (dk_at dksX2_patterns_5 14 rfl rfl)
theorem dX2_patterns_132 : decode cX2_patterns 132 = .ok (.iload_n 2, 1) := dk_28 (dk_at dksX2_patterns_5 15 rfl rfl)
theorem dX2_patterns_133 : decode cX2_patterns 133 = .ok (.ifCond .ne 7, 3) := dk_154 0 7 (dk_at dksX2_patterns_5 16 rfl rfl)
theorem dX2_patterns_136 : decode cX2_patterns 136 = .ok (.aload_n 0, 1) := dk_42 (dk_at dksX2_patterns_5 19 rfl rfl)
theorem dX2_patterns_137 : decode cX2_patterns 137 = .ok (.invokevirtual 87, 3) := dk_182 0 87 (dk_at dksX2_patterns_5 20 rfl rfl)
theorem dX2_patterns_140 : decode cX2_patterns 140 = .ok (.goto 72, 3) := dk_167 0 72 (dk_at dksX2_patterns_6 0 rfl rfl)
theorem dX2_patterns_143 : decode cX2_patterns 143 = .ok (.aload_n 0, 1) := dk_42 (dk_at dksX2_patterns_6 3 rfl rfl)
theorem dX2_patterns_144 : decode cX2_patterns 144 = .ok (.bipush 33, 2) := dk_16 33 (dk_at dksX2_patterns_6 4 rfl rfl)
theorem dX2_patterns_146 : decode cX2_patterns 146 = .ok (.invokevirtual 77, 3) := dk_182 0 77 (dk_at dksX2_patterns_6 6 rfl rfl)
theorem dX2_patterns_149 : decode cX2_patterns 149 = .ok (.ifCond .eq 51, 3) := dk_153 0 51 (dk_at dksX2_patterns_6 9 rfl rfl)
theorem dX2_patterns_152 : decode cX2_patterns 152 = .ok (.aload_n 0, 1) := dk_42 (dk_at dksX2_patterns_6 12 rfl rfl)
theorem dX2_patterns_153 : decode cX2_patterns 153 = .ok (.invokevirtual 87, 3) := dk_182 0 87 (dk_at dksX2_patterns_6 13 rfl rfl)
theorem dX2_patterns_156 : decode cX2_patterns 156 = .ok (.aload_n 0, 1) := dk_42 (dk_at dksX2_patterns_6 16 rfl rfl)
theorem dX2_patterns_157 : decode cX2_patterns 157 = .ok (.aload_n 0, 1) := dk_42 (dk_at dksX2_patterns_6 17 rfl rfl)
theorem dX2_patterns_158 : decode cX2_patterns 158 = .ok (.getfield 52, 3) := dk_180 0 52 (dk_at dksX2_patterns_6 18 rfl rfl)
theorem dX2_patterns_161 : decode cX2_patterns 161 = .ok (.iconst 2, 1) := dk_5 (dk_at dksX2_patterns_6 21 rfl rfl)
theorem dX2_patterns_162 : decode cX2_patterns 162 = .ok (.if_icmp .ne 7, 3) := dk_160 0 7 (dk_at dksX2_patterns_7 0 rfl rfl)
theorem dX2_patterns_165 : decode cX2_patterns 165 = .ok (.iconst 1, 1) := dk_4 (dk_at dksX2_patterns_7 3 rfl rfl)
theorem dX2_patterns_166 : decode cX2_patterns 166 = .ok (.goto 4, 3) := dk_167 0 4 (dk_at dksX2_patterns_7 4 rfl rfl)
theorem dX2_patterns_169 : decode cX2_patterns 169 = .ok (.iconst 0, 1) := dk_3 (dk_at dksX2_patterns_7 7 rfl rfl)
theorem dX2_patterns_170 : decode cX2_patterns 170 = .ok (.invokevirtual 83, 3) := dk_182 0 83 (dk_at dksX2_patterns_7 8 rfl rfl)
theorem dX2_patterns_173 : decode cX2_patterns 173 = .ok (.aload_n 1, 1) := dk_43 (dk_at dksX2_patterns_7 11 rfl rfl)
theorem dX2_patterns_174 : decode cX2_patterns 174 = .ok (.getfield 160, 3) := dk_180 0 160 (dk_at dksX2_patterns_7 12 rfl rfl)
theorem dX2_patterns_177 : decode cX2_patterns 177 = .ok (.new 171, 3) := dk_187 0 171 (dk_at dksX2_patterns_7 15 rfl rfl)
theorem dX2_patterns_180 : decode cX2_patterns 180 = .ok (.dup, 1) := dk_89 (dk_at dksX2_patterns_7 18 rfl rfl)
theorem dX2_patterns_181 : decode cX2_patterns 181 = .ok (.iload_n 3, 1) := dk_29 (dk_at dksX2_patterns_7 19 rfl rfl)
theorem dX2_patterns_182 : decode cX2_patterns 182 = .ok (.aload_n 0, 1) := dk_42 (dk_at dksX2_patterns_7 20 rfl rfl)
theorem dX2_patterns_183 : decode cX2_patterns 183 = .ok (.getfield 48, 3) := dk_180 0 48 (dk_at dksX2_patterns_7 21 rfl rfl)
theorem dX2_patterns_186 : decode cX2_patterns 186 = .ok (.invokespecial 173, 3) := dk_183 0 173 (dk_at dksX2_patterns_8 0 rfl rfl)
theorem dX2_patterns_189 : decode cX2_patterns 189 = .ok (.invokevirtual 151, 3) := dk_182 0 151 (dk_at dksX2_patterns_8 3 rfl rfl)
theorem dX2_patterns_192 : decode cX2_patterns 192 = .ok (.pop, 1) := dk_87 (dk_at dksX2_patterns_8 6 rfl rfl)
theorem dX2_patterns_193 : decode cX2_patterns 193 = .ok (.aload_n 0, 1) := dk_42 (dk_at dksX2_patterns_8 7 rfl rfl)
theorem dX2_patterns_194 : decode cX2_patterns 194 = .ok (.invokevirtual 87, 3) := dk_182 0 87 (dk_at dksX2_patterns_8 8 rfl rfl)
theorem dX2_patterns_197 : decode cX2_patterns 197 = .ok (.goto 15, 3) := dk_167 0 15 (dk_at dksX2_patterns_8 11 rfl rfl)
theorem dX2_patterns_200 : decode cX2_patterns 200 = .ok (.aload_n 1, 1) := dk_43 (dk_at dksX2_patterns_8 14 rfl rfl)
theorem dX2_patterns_201 : decode cX2_patterns 201 = .ok (.getfield 160, 3) := dk_180 0 160 (dk_at dksX2_patterns_8 15 rfl rfl)
theorem dX2_patterns_204 : decode cX2_patterns 204 = .ok (.aload_n 0, 1) := dk_42 (dk_at dksX2_patterns_8 18 rfl rfl)
theorem dX2_patterns_205 : decode cX2_patterns 205 = .ok (.invokevirtual 132, 3) := dk_182 0 132 (dk_at dksX2_patterns_8 19 rfl rfl)
theorem dX2_patterns_208 : decode cX2_patterns 208 = .ok (.invokevirtual 151, 3) := dk_182 0 151 (dk_at dksX2_patterns_9 0 rfl rfl)
theorem dX2_patterns_211 : decode cX2_patterns 211 = .ok (.pop, 1) := dk_87 (dk_at dksX2_patterns_9 3 rfl rfl)
theorem dX2_patterns_212 : decode cX2_patterns 212 = .ok (.goto (-194), 3) := dk_167 255 62 (dk_at dksX2_patterns_9 4 rfl rfl)
theorem dX2_patterns_215 : decode cX2_patterns 215 = .ok (.aload_n 0, 1) := dk_42 (dk_at dksX2_patterns_9 7 rfl rfl)
theorem dX2_patterns_216 : decode cX2_patterns 216 = .ok (.invokevirtual 140, 3) := dk_182 0 140 (dk_at dksX2_patterns_9 8 rfl rfl)
theorem dX2_patterns_219 : decode cX2_patterns 219 = .ok (.aload_n 1, 1) := dk_43 (dk_at dksX2_patterns_9 11 rfl rfl)
theorem dX2_patterns_220 : decode cX2_patterns 220 = .ok (.areturn, 1) := dk_176 (dk_at dksX2_patterns_9 12 rfl rfl)
abbrev cX2_close : ByteArray := prog_9_method_9_code
def yX2_close : MethodName := ⟨RX2, "close", "()V"⟩
def dkwX2_close_1 : List UInt8 := [177]
abbrev dktX2_close_1 : List UInt8 := dkwX2_close_1 ++ []
def dkwX2_close_0 : List UInt8 := [42, 42, 16, 41, 182, 0, 77, 182, 0, 83, 42, 89, 180, 0, 80, 4, 100, 181, 0, 80, 42, 182, 0, 87]
abbrev dktX2_close_0 : List UInt8 := dkwX2_close_0 ++ dktX2_close_1
theorem dksX2_close_0 : cX2_close.data.toList.drop 0 = dktX2_close_0 := by decide +kernel
theorem dksX2_close_1 : cX2_close.data.toList.drop 24 = dktX2_close_1 := dk_seg dksX2_close_0 24 rfl rfl
theorem dX2_close_0 : decode cX2_close 0 = .ok (.aload_n 0, 1) := dk_42 (dk_at dksX2_close_0 0 rfl rfl)
theorem dX2_close_1 : decode cX2_close 1 = .ok (.aload_n 0, 1) := dk_42 (dk_at dksX2_close_0 1 rfl rfl)
theorem dX2_close_2 : decode cX2_close 2 = .ok (.bipush 41, 2) := dk_16 41 (dk_at dksX2_close_0 2 rfl rfl)
theorem dX2_close_4 : decode cX2_close 4 = .ok (.invokevirtual 77, 3) := dk_182 0 77 (dk_at dksX2_close_0 4 rfl rfl)
theorem dX2_close_7 : decode cX2_close 7 = .ok (.invokevirtual 83, 3) := dk_182 0 83 (dk_at dksX2_close_0 7 rfl rfl)
theorem dX2_close_10 : decode cX2_close 10 = .ok (.aload_n 0, 1) := dk_42 (dk_at dksX2_close_0 10 rfl rfl)
theorem dX2_close_11 : decode cX2_close 11 = .ok (.dup, 1) := dk_89 (dk_at dksX2_close_0 11 rfl rfl)
theorem dX2_close_12 : decode cX2_close 12 = .ok (.getfield 80, 3) := dk_180 0 80 (dk_at dksX2_close_0 12 rfl rfl)
theorem dX2_close_15 : decode cX2_close 15 = .ok (.iconst 1, 1) := dk_4 (dk_at dksX2_close_0 15 rfl rfl)
theorem dX2_close_16 : decode cX2_close 16 = .ok (.isub, 1) := dk_100 (dk_at dksX2_close_0 16 rfl rfl)
theorem dX2_close_17 : decode cX2_close 17 = .ok (.putfield 80, 3) := dk_181 0 80 (dk_at dksX2_close_0 17 rfl rfl)
theorem dX2_close_20 : decode cX2_close 20 = .ok (.aload_n 0, 1) := dk_42 (dk_at dksX2_close_0 20 rfl rfl)
theorem dX2_close_21 : decode cX2_close 21 = .ok (.invokevirtual 87, 3) := dk_182 0 87 (dk_at dksX2_close_0 21 rfl rfl)
theorem dX2_close_24 : decode cX2_close 24 = .ok (.return_, 1) := dk_177 (dk_at dksX2_close_1 0 rfl rfl)
abbrev cX2_template : ByteArray := prog_9_method_14_code
def yX2_template : MethodName := ⟨RX2, "template", "()LMacroGlass$Part;"⟩
def dkwX2_template_7 : List UInt8 := [182, 0, 140, 44, 176]
abbrev dktX2_template_7 : List UInt8 := dkwX2_template_7 ++ []
def dkwX2_template_6 : List UInt8 := [182, 0, 87, 167, 255, 187, 44, 180, 0, 160, 42, 182, 0, 136, 182, 0, 151, 87, 167, 255, 172, 42]
abbrev dktX2_template_6 : List UInt8 := dkwX2_template_6 ++ dktX2_template_7
def dkwX2_template_5 : List UInt8 := [16, 42, 182, 0, 77, 183, 0, 168, 182, 0, 151, 87, 42, 16, 42, 182, 0, 77, 153, 0, 7, 42]
abbrev dktX2_template_5 : List UInt8 := dkwX2_template_5 ++ dktX2_template_6
def dkwX2_template_4 : List UInt8 := [62, 42, 180, 0, 48, 55, 4, 42, 182, 0, 87, 44, 180, 0, 160, 187, 0, 166, 89, 29, 22, 4, 42]
abbrev dktX2_template_4 : List UInt8 := dkwX2_template_4 ++ dktX2_template_5
def dkwX2_template_3 : List UInt8 := [182, 0, 125, 42, 16, 41, 182, 0, 77, 154, 0, 81, 42, 180, 0, 52, 5, 160, 0, 58, 42, 180, 0, 45]
abbrev dktX2_template_3 : List UInt8 := dkwX2_template_3 ++ dktX2_template_4
def dkwX2_template_2 : List UInt8 := [180, 0, 48, 3, 183, 0, 168, 77, 42, 182, 0, 87, 44, 176, 187, 0, 155, 89, 27, 183, 0, 157, 77, 42]
abbrev dktX2_template_2 : List UInt8 := dkwX2_template_2 ++ dktX2_template_3
def dkwX2_template_1 : List UInt8 := [183, 0, 165, 77, 42, 182, 0, 87, 44, 176, 42, 180, 0, 52, 5, 160, 0, 23, 187, 0, 166, 89, 27, 42]
abbrev dktX2_template_1 : List UInt8 := dkwX2_template_1 ++ dktX2_template_2
def dkwX2_template_0 : List UInt8 := [42, 180, 0, 45, 60, 42, 180, 0, 52, 4, 160, 0, 23, 187, 0, 163, 89, 27, 42, 180, 0, 48, 136]
abbrev dktX2_template_0 : List UInt8 := dkwX2_template_0 ++ dktX2_template_1
theorem dksX2_template_0 : cX2_template.data.toList.drop 0 = dktX2_template_0 := by decide +kernel
theorem dksX2_template_1 : cX2_template.data.toList.drop 23 = dktX2_template_1 := dk_seg dksX2_template_0 23 rfl rfl
theorem dksX2_template_2 : cX2_template.data.toList.drop 47 = dktX2_template_2 := dk_seg dksX2_template_1 24 rfl rfl
theorem dksX2_template_3 : cX2_template.data.toList.drop 71 = dktX2_template_3 := dk_seg dksX2_template_2 24 rfl rfl
theorem dksX2_template_4 : cX2_template.data.toList.drop 95 = dktX2_template_4 := dk_seg dksX2_template_3 24 rfl rfl
theorem dksX2_template_5 : cX2_template.data.toList.drop 118 = dktX2_template_5 := dk_seg dksX2_template_4 23 rfl rfl
theorem dksX2_template_6 : cX2_template.data.toList.drop 140 = dktX2_template_6 := dk_seg dksX2_template_5 22 rfl rfl
theorem dksX2_template_7 : cX2_template.data.toList.drop 162 = dktX2_template_7 := dk_seg dksX2_template_6 22 rfl rfl
theorem dX2_template_0 : decode cX2_template 0 = .ok (.aload_n 0, 1) := dk_42 (dk_at dksX2_template_0 0 rfl rfl)
theorem dX2_template_1 : decode cX2_template 1 = .ok (.getfield 45, 3) := dk_180 0 45 (dk_at dksX2_template_0 1 rfl rfl)
theorem dX2_template_4 : decode cX2_template 4 = .ok (.istore_n 1, 1) := dk_60 (dk_at dksX2_template_0 4 rfl rfl)
theorem dX2_template_5 : decode cX2_template 5 = .ok (.aload_n 0, 1) := dk_42 (dk_at dksX2_template_0 5 rfl rfl)
theorem dX2_template_6 : decode cX2_template 6 = .ok (.getfield 52, 3) := dk_180 0 52 (dk_at dksX2_template_0 6 rfl rfl)
theorem dX2_template_9 : decode cX2_template 9 = .ok (.iconst 1, 1) := dk_4 (dk_at dksX2_template_0 9 rfl rfl)
theorem dX2_template_10 : decode cX2_template 10 = .ok (.if_icmp .ne 23, 3) := dk_160 0 23 (dk_at dksX2_template_0 10 rfl rfl)
theorem dX2_template_13 : decode cX2_template 13 = .ok (.new 163, 3) := dk_187 0 163 (dk_at dksX2_template_0 13 rfl rfl)
theorem dX2_template_16 : decode cX2_template 16 = .ok (.dup, 1) := dk_89 (dk_at dksX2_template_0 16 rfl rfl)
theorem dX2_template_17 : decode cX2_template 17 = .ok (.iload_n 1, 1) := dk_27 (dk_at dksX2_template_0 17 rfl rfl)
theorem dX2_template_18 : decode cX2_template 18 = .ok (.aload_n 0, 1) := dk_42 (dk_at dksX2_template_0 18 rfl rfl)
theorem dX2_template_19 : decode cX2_template 19 = .ok (.getfield 48, 3) := dk_180 0 48 (dk_at dksX2_template_0 19 rfl rfl)
theorem dX2_template_22 : decode cX2_template 22 = .ok (.l2i, 1) := dk_136 (dk_at dksX2_template_0 22 rfl rfl)
theorem dX2_template_23 : decode cX2_template 23 = .ok (.invokespecial 165, 3) := dk_183 0 165 (dk_at dksX2_template_1 0 rfl rfl)
theorem dX2_template_26 : decode cX2_template 26 = .ok (.astore_n 2, 1) := dk_77 (dk_at dksX2_template_1 3 rfl rfl)
theorem dX2_template_27 : decode cX2_template 27 = .ok (.aload_n 0, 1) := dk_42 (dk_at dksX2_template_1 4 rfl rfl)
theorem dX2_template_28 : decode cX2_template 28 = .ok (.invokevirtual 87, 3) := dk_182 0 87 (dk_at dksX2_template_1 5 rfl rfl)
theorem dX2_template_31 : decode cX2_template 31 = .ok (.aload_n 2, 1) := dk_44 (dk_at dksX2_template_1 8 rfl rfl)
theorem dX2_template_32 : decode cX2_template 32 = .ok (.areturn, 1) := dk_176 (dk_at dksX2_template_1 9 rfl rfl)
theorem dX2_template_33 : decode cX2_template 33 = .ok (.aload_n 0, 1) := dk_42 (dk_at dksX2_template_1 10 rfl rfl)
theorem dX2_template_34 : decode cX2_template 34 = .ok (.getfield 52, 3) := dk_180 0 52 (dk_at dksX2_template_1 11 rfl rfl)
theorem dX2_template_37 : decode cX2_template 37 = .ok (.iconst 2, 1) := dk_5 (dk_at dksX2_template_1 14 rfl rfl)
theorem dX2_template_38 : decode cX2_template 38 = .ok (.if_icmp .ne 23, 3) := dk_160 0 23 (dk_at dksX2_template_1 15 rfl rfl)
theorem dX2_template_41 : decode cX2_template 41 = .ok (.new 166, 3) := dk_187 0 166 (dk_at dksX2_template_1 18 rfl rfl)
theorem dX2_template_44 : decode cX2_template 44 = .ok (.dup, 1) := dk_89 (dk_at dksX2_template_1 21 rfl rfl)
theorem dX2_template_45 : decode cX2_template 45 = .ok (.iload_n 1, 1) := dk_27 (dk_at dksX2_template_1 22 rfl rfl)
theorem dX2_template_46 : decode cX2_template 46 = .ok (.aload_n 0, 1) := dk_42 (dk_at dksX2_template_1 23 rfl rfl)
theorem dX2_template_47 : decode cX2_template 47 = .ok (.getfield 48, 3) := dk_180 0 48 (dk_at dksX2_template_2 0 rfl rfl)
theorem dX2_template_50 : decode cX2_template 50 = .ok (.iconst 0, 1) := dk_3 (dk_at dksX2_template_2 3 rfl rfl)
theorem dX2_template_51 : decode cX2_template 51 = .ok (.invokespecial 168, 3) := dk_183 0 168 (dk_at dksX2_template_2 4 rfl rfl)
theorem dX2_template_54 : decode cX2_template 54 = .ok (.astore_n 2, 1) := dk_77 (dk_at dksX2_template_2 7 rfl rfl)
theorem dX2_template_55 : decode cX2_template 55 = .ok (.aload_n 0, 1) := dk_42 (dk_at dksX2_template_2 8 rfl rfl)
theorem dX2_template_56 : decode cX2_template 56 = .ok (.invokevirtual 87, 3) := dk_182 0 87 (dk_at dksX2_template_2 9 rfl rfl)
theorem dX2_template_59 : decode cX2_template 59 = .ok (.aload_n 2, 1) := dk_44 (dk_at dksX2_template_2 12 rfl rfl)
theorem dX2_template_60 : decode cX2_template 60 = .ok (.areturn, 1) := dk_176 (dk_at dksX2_template_2 13 rfl rfl)
theorem dX2_template_61 : decode cX2_template 61 = .ok (.new 155, 3) := dk_187 0 155 (dk_at dksX2_template_2 14 rfl rfl)
theorem dX2_template_64 : decode cX2_template 64 = .ok (.dup, 1) := dk_89 (dk_at dksX2_template_2 17 rfl rfl)
theorem dX2_template_65 : decode cX2_template 65 = .ok (.iload_n 1, 1) := dk_27 (dk_at dksX2_template_2 18 rfl rfl)
theorem dX2_template_66 : decode cX2_template 66 = .ok (.invokespecial 157, 3) := dk_183 0 157 (dk_at dksX2_template_2 19 rfl rfl)
theorem dX2_template_69 : decode cX2_template 69 = .ok (.astore_n 2, 1) := dk_77 (dk_at dksX2_template_2 22 rfl rfl)
theorem dX2_template_70 : decode cX2_template 70 = .ok (.aload_n 0, 1) := dk_42 (dk_at dksX2_template_2 23 rfl rfl)
theorem dX2_template_71 : decode cX2_template 71 = .ok (.invokevirtual 125, 3) := dk_182 0 125 (dk_at dksX2_template_3 0 rfl rfl)
theorem dX2_template_74 : decode cX2_template 74 = .ok (.aload_n 0, 1) := dk_42 (dk_at dksX2_template_3 3 rfl rfl)
theorem dX2_template_75 : decode cX2_template 75 = .ok (.bipush 41, 2) := dk_16 41 (dk_at dksX2_template_3 4 rfl rfl)
theorem dX2_template_77 : decode cX2_template 77 = .ok (.invokevirtual 77, 3) := dk_182 0 77 (dk_at dksX2_template_3 6 rfl rfl)
theorem dX2_template_80 : decode cX2_template 80 = .ok (.ifCond .ne 81, 3) := dk_154 0 81 (dk_at dksX2_template_3 9 rfl rfl)
theorem dX2_template_83 : decode cX2_template 83 = .ok (.aload_n 0, 1) := dk_42 (dk_at dksX2_template_3 12 rfl rfl)
theorem dX2_template_84 : decode cX2_template 84 = .ok (.getfield 52, 3) := dk_180 0 52 (dk_at dksX2_template_3 13 rfl rfl)
theorem dX2_template_87 : decode cX2_template 87 = .ok (.iconst 2, 1) := dk_5 (dk_at dksX2_template_3 16 rfl rfl)
theorem dX2_template_88 : decode cX2_template 88 = .ok (.if_icmp .ne 58, 3) := dk_160 0 58 (dk_at dksX2_template_3 17 rfl rfl)
theorem dX2_template_91 : decode cX2_template 91 = .ok (.aload_n 0, 1) := dk_42 (dk_at dksX2_template_3 20 rfl rfl)
theorem dX2_template_92 : decode cX2_template 92 = .ok (.getfield 45, 3) := dk_180 0 45 (dk_at dksX2_template_3 21 rfl rfl)
theorem dX2_template_95 : decode cX2_template 95 = .ok (.istore_n 3, 1) := dk_62 (dk_at dksX2_template_4 0 rfl rfl)
theorem dX2_template_96 : decode cX2_template 96 = .ok (.aload_n 0, 1) := dk_42 (dk_at dksX2_template_4 1 rfl rfl)
theorem dX2_template_97 : decode cX2_template 97 = .ok (.getfield 48, 3) := dk_180 0 48 (dk_at dksX2_template_4 2 rfl rfl)
theorem dX2_template_100 : decode cX2_template 100 = .ok (.lstore 4, 2) := dk_55 4 (dk_at dksX2_template_4 5 rfl rfl)
theorem dX2_template_102 : decode cX2_template 102 = .ok (.aload_n 0, 1) := dk_42 (dk_at dksX2_template_4 7 rfl rfl)
theorem dX2_template_103 : decode cX2_template 103 = .ok (.invokevirtual 87, 3) := dk_182 0 87 (dk_at dksX2_template_4 8 rfl rfl)
theorem dX2_template_106 : decode cX2_template 106 = .ok (.aload_n 2, 1) := dk_44 (dk_at dksX2_template_4 11 rfl rfl)
theorem dX2_template_107 : decode cX2_template 107 = .ok (.getfield 160, 3) := dk_180 0 160 (dk_at dksX2_template_4 12 rfl rfl)
theorem dX2_template_110 : decode cX2_template 110 = .ok (.new 166, 3) := dk_187 0 166 (dk_at dksX2_template_4 15 rfl rfl)
theorem dX2_template_113 : decode cX2_template 113 = .ok (.dup, 1) := dk_89 (dk_at dksX2_template_4 18 rfl rfl)
theorem dX2_template_114 : decode cX2_template 114 = .ok (.iload_n 3, 1) := dk_29 (dk_at dksX2_template_4 19 rfl rfl)
theorem dX2_template_115 : decode cX2_template 115 = .ok (.lload 4, 2) := dk_22 4 (dk_at dksX2_template_4 20 rfl rfl)
theorem dX2_template_117 : decode cX2_template 117 = .ok (.aload_n 0, 1) := dk_42 (dk_at dksX2_template_4 22 rfl rfl)
theorem dX2_template_118 : decode cX2_template 118 = .ok (.bipush 42, 2) := dk_16 42 (dk_at dksX2_template_5 0 rfl rfl)
theorem dX2_template_120 : decode cX2_template 120 = .ok (.invokevirtual 77, 3) := dk_182 0 77 (dk_at dksX2_template_5 2 rfl rfl)
theorem dX2_template_123 : decode cX2_template 123 = .ok (.invokespecial 168, 3) := dk_183 0 168 (dk_at dksX2_template_5 5 rfl rfl)
theorem dX2_template_126 : decode cX2_template 126 = .ok (.invokevirtual 151, 3) := dk_182 0 151 (dk_at dksX2_template_5 8 rfl rfl)
theorem dX2_template_129 : decode cX2_template 129 = .ok (.pop, 1) := dk_87 (dk_at dksX2_template_5 11 rfl rfl)
theorem dX2_template_130 : decode cX2_template 130 = .ok (.aload_n 0, 1) := dk_42 (dk_at dksX2_template_5 12 rfl rfl)
theorem dX2_template_131 : decode cX2_template 131 = .ok (.bipush 42, 2) := dk_16 42 (dk_at dksX2_template_5 13 rfl rfl)
theorem dX2_template_133 : decode cX2_template 133 = .ok (.invokevirtual 77, 3) := dk_182 0 77 (dk_at dksX2_template_5 15 rfl rfl)
theorem dX2_template_136 : decode cX2_template 136 = .ok (.ifCond .eq 7, 3) := dk_153 0 7 (dk_at dksX2_template_5 18 rfl rfl)
theorem dX2_template_139 : decode cX2_template 139 = .ok (.aload_n 0, 1) := dk_42 (dk_at dksX2_template_5 21 rfl rfl)
theorem dX2_template_140 : decode cX2_template 140 = .ok (.invokevirtual 87, 3) := dk_182 0 87 (dk_at dksX2_template_6 0 rfl rfl)
theorem dX2_template_143 : decode cX2_template 143 = .ok (.goto (-69), 3) := dk_167 255 187 (dk_at dksX2_template_6 3 rfl rfl)
theorem dX2_template_146 : decode cX2_template 146 = .ok (.aload_n 2, 1) := dk_44 (dk_at dksX2_template_6 6 rfl rfl)
theorem dX2_template_147 : decode cX2_template 147 = .ok (.getfield 160, 3) := dk_180 0 160 (dk_at dksX2_template_6 7 rfl rfl)
theorem dX2_template_150 : decode cX2_template 150 = .ok (.aload_n 0, 1) := dk_42 (dk_at dksX2_template_6 10 rfl rfl)
theorem dX2_template_151 : decode cX2_template 151 = .ok (.invokevirtual 136, 3) := dk_182 0 136 (dk_at dksX2_template_6 11 rfl rfl)
theorem dX2_template_154 : decode cX2_template 154 = .ok (.invokevirtual 151, 3) := dk_182 0 151 (dk_at dksX2_template_6 14 rfl rfl)
theorem dX2_template_157 : decode cX2_template 157 = .ok (.pop, 1) := dk_87 (dk_at dksX2_template_6 17 rfl rfl)
theorem dX2_template_158 : decode cX2_template 158 = .ok (.goto (-84), 3) := dk_167 255 172 (dk_at dksX2_template_6 18 rfl rfl)
theorem dX2_template_161 : decode cX2_template 161 = .ok (.aload_n 0, 1) := dk_42 (dk_at dksX2_template_6 21 rfl rfl)
theorem dX2_template_162 : decode cX2_template 162 = .ok (.invokevirtual 140, 3) := dk_182 0 140 (dk_at dksX2_template_7 0 rfl rfl)
theorem dX2_template_165 : decode cX2_template 165 = .ok (.aload_n 2, 1) := dk_44 (dk_at dksX2_template_7 3 rfl rfl)
theorem dX2_template_166 : decode cX2_template 166 = .ok (.areturn, 1) := dk_176 (dk_at dksX2_template_7 4 rfl rfl)
abbrev cX2_term : ByteArray := prog_9_method_15_code
def yX2_term : MethodName := ⟨RX2, "term", "(LMacroGlass$List;)V"⟩
def dkwX2_term_4 : List UInt8 := [45, 182, 0, 109, 167, 255, 242, 42, 182, 0, 140, 45, 182, 0, 189, 43, 45, 182, 0, 181, 177]
abbrev dktX2_term_4 : List UInt8 := dkwX2_term_4 ++ []
def dkwX2_term_3 : List UInt8 := [187, 0, 106, 89, 28, 3, 183, 0, 108, 78, 42, 182, 0, 125, 42, 16, 41, 182, 0, 77, 154, 0, 11, 42]
abbrev dktX2_term_3 : List UInt8 := dkwX2_term_3 ++ dktX2_term_4
def dkwX2_term_2 : List UInt8 := [187, 0, 184, 89, 28, 3, 42, 180, 0, 48, 3, 183, 0, 186, 182, 0, 181, 42, 182, 0, 87, 167, 0, 47]
abbrev dktX2_term_2 : List UInt8 := dkwX2_term_2 ++ dktX2_term_3
def dkwX2_term_1 : List UInt8 := [136, 183, 0, 178, 182, 0, 181, 42, 182, 0, 87, 167, 0, 80, 42, 180, 0, 52, 5, 160, 0, 28, 43]
abbrev dktX2_term_1 : List UInt8 := dkwX2_term_1 ++ dktX2_term_2
def dkwX2_term_0 : List UInt8 := [42, 180, 0, 45, 61, 42, 180, 0, 52, 4, 160, 0, 28, 43, 187, 0, 176, 89, 28, 3, 42, 180, 0, 48]
abbrev dktX2_term_0 : List UInt8 := dkwX2_term_0 ++ dktX2_term_1
theorem dksX2_term_0 : cX2_term.data.toList.drop 0 = dktX2_term_0 := by decide +kernel
theorem dksX2_term_1 : cX2_term.data.toList.drop 24 = dktX2_term_1 := dk_seg dksX2_term_0 24 rfl rfl
theorem dksX2_term_2 : cX2_term.data.toList.drop 47 = dktX2_term_2 := dk_seg dksX2_term_1 23 rfl rfl
theorem dksX2_term_3 : cX2_term.data.toList.drop 71 = dktX2_term_3 := dk_seg dksX2_term_2 24 rfl rfl
theorem dksX2_term_4 : cX2_term.data.toList.drop 95 = dktX2_term_4 := dk_seg dksX2_term_3 24 rfl rfl
theorem dX2_term_0 : decode cX2_term 0 = .ok (.aload_n 0, 1) := dk_42 (dk_at dksX2_term_0 0 rfl rfl)
theorem dX2_term_1 : decode cX2_term 1 = .ok (.getfield 45, 3) := dk_180 0 45 (dk_at dksX2_term_0 1 rfl rfl)
theorem dX2_term_4 : decode cX2_term 4 = .ok (.istore_n 2, 1) := dk_61 (dk_at dksX2_term_0 4 rfl rfl)
theorem dX2_term_5 : decode cX2_term 5 = .ok (.aload_n 0, 1) := dk_42 (dk_at dksX2_term_0 5 rfl rfl)
theorem dX2_term_6 : decode cX2_term 6 = .ok (.getfield 52, 3) := dk_180 0 52 (dk_at dksX2_term_0 6 rfl rfl)
theorem dX2_term_9 : decode cX2_term 9 = .ok (.iconst 1, 1) := dk_4 (dk_at dksX2_term_0 9 rfl rfl)
theorem dX2_term_10 : decode cX2_term 10 = .ok (.if_icmp .ne 28, 3) := dk_160 0 28 (dk_at dksX2_term_0 10 rfl rfl)
theorem dX2_term_13 : decode cX2_term 13 = .ok (.aload_n 1, 1) := dk_43 (dk_at dksX2_term_0 13 rfl rfl)
theorem dX2_term_14 : decode cX2_term 14 = .ok (.new 176, 3) := dk_187 0 176 (dk_at dksX2_term_0 14 rfl rfl)
theorem dX2_term_17 : decode cX2_term 17 = .ok (.dup, 1) := dk_89 (dk_at dksX2_term_0 17 rfl rfl)
theorem dX2_term_18 : decode cX2_term 18 = .ok (.iload_n 2, 1) := dk_28 (dk_at dksX2_term_0 18 rfl rfl)
theorem dX2_term_19 : decode cX2_term 19 = .ok (.iconst 0, 1) := dk_3 (dk_at dksX2_term_0 19 rfl rfl)
theorem dX2_term_20 : decode cX2_term 20 = .ok (.aload_n 0, 1) := dk_42 (dk_at dksX2_term_0 20 rfl rfl)
theorem dX2_term_21 : decode cX2_term 21 = .ok (.getfield 48, 3) := dk_180 0 48 (dk_at dksX2_term_0 21 rfl rfl)
theorem dX2_term_24 : decode cX2_term 24 = .ok (.l2i, 1) := dk_136 (dk_at dksX2_term_1 0 rfl rfl)
theorem dX2_term_25 : decode cX2_term 25 = .ok (.invokespecial 178, 3) := dk_183 0 178 (dk_at dksX2_term_1 1 rfl rfl)
theorem dX2_term_28 : decode cX2_term 28 = .ok (.invokevirtual 181, 3) := dk_182 0 181 (dk_at dksX2_term_1 4 rfl rfl)
theorem dX2_term_31 : decode cX2_term 31 = .ok (.aload_n 0, 1) := dk_42 (dk_at dksX2_term_1 7 rfl rfl)
theorem dX2_term_32 : decode cX2_term 32 = .ok (.invokevirtual 87, 3) := dk_182 0 87 (dk_at dksX2_term_1 8 rfl rfl)
theorem dX2_term_35 : decode cX2_term 35 = .ok (.goto 80, 3) := dk_167 0 80 (dk_at dksX2_term_1 11 rfl rfl)
theorem dX2_term_38 : decode cX2_term 38 = .ok (.aload_n 0, 1) := dk_42 (dk_at dksX2_term_1 14 rfl rfl)
theorem dX2_term_39 : decode cX2_term 39 = .ok (.getfield 52, 3) := dk_180 0 52 (dk_at dksX2_term_1 15 rfl rfl)
theorem dX2_term_42 : decode cX2_term 42 = .ok (.iconst 2, 1) := dk_5 (dk_at dksX2_term_1 18 rfl rfl)
theorem dX2_term_43 : decode cX2_term 43 = .ok (.if_icmp .ne 28, 3) := dk_160 0 28 (dk_at dksX2_term_1 19 rfl rfl)
theorem dX2_term_46 : decode cX2_term 46 = .ok (.aload_n 1, 1) := dk_43 (dk_at dksX2_term_1 22 rfl rfl)
theorem dX2_term_47 : decode cX2_term 47 = .ok (.new 184, 3) := dk_187 0 184 (dk_at dksX2_term_2 0 rfl rfl)
theorem dX2_term_50 : decode cX2_term 50 = .ok (.dup, 1) := dk_89 (dk_at dksX2_term_2 3 rfl rfl)
theorem dX2_term_51 : decode cX2_term 51 = .ok (.iload_n 2, 1) := dk_28 (dk_at dksX2_term_2 4 rfl rfl)
theorem dX2_term_52 : decode cX2_term 52 = .ok (.iconst 0, 1) := dk_3 (dk_at dksX2_term_2 5 rfl rfl)
theorem dX2_term_53 : decode cX2_term 53 = .ok (.aload_n 0, 1) := dk_42 (dk_at dksX2_term_2 6 rfl rfl)
theorem dX2_term_54 : decode cX2_term 54 = .ok (.getfield 48, 3) := dk_180 0 48 (dk_at dksX2_term_2 7 rfl rfl)
theorem dX2_term_57 : decode cX2_term 57 = .ok (.iconst 0, 1) := dk_3 (dk_at dksX2_term_2 10 rfl rfl)
theorem dX2_term_58 : decode cX2_term 58 = .ok (.invokespecial 186, 3) := dk_183 0 186 (dk_at dksX2_term_2 11 rfl rfl)
theorem dX2_term_61 : decode cX2_term 61 = .ok (.invokevirtual 181, 3) := dk_182 0 181 (dk_at dksX2_term_2 14 rfl rfl)
theorem dX2_term_64 : decode cX2_term 64 = .ok (.aload_n 0, 1) := dk_42 (dk_at dksX2_term_2 17 rfl rfl)
theorem dX2_term_65 : decode cX2_term 65 = .ok (.invokevirtual 87, 3) := dk_182 0 87 (dk_at dksX2_term_2 18 rfl rfl)
theorem dX2_term_68 : decode cX2_term 68 = .ok (.goto 47, 3) := dk_167 0 47 (dk_at dksX2_term_2 21 rfl rfl)
theorem dX2_term_71 : decode cX2_term 71 = .ok (.new 106, 3) := dk_187 0 106 (dk_at dksX2_term_3 0 rfl rfl)
theorem dX2_term_74 : decode cX2_term 74 = .ok (.dup, 1) := dk_89 (dk_at dksX2_term_3 3 rfl rfl)
theorem dX2_term_75 : decode cX2_term 75 = .ok (.iload_n 2, 1) := dk_28 (dk_at dksX2_term_3 4 rfl rfl)
theorem dX2_term_76 : decode cX2_term 76 = .ok (.iconst 0, 1) := dk_3 (dk_at dksX2_term_3 5 rfl rfl)
theorem dX2_term_77 : decode cX2_term 77 = .ok (.invokespecial 108, 3) := dk_183 0 108 (dk_at dksX2_term_3 6 rfl rfl)
theorem dX2_term_80 : decode cX2_term 80 = .ok (.astore_n 3, 1) := dk_78 (dk_at dksX2_term_3 9 rfl rfl)
theorem dX2_term_81 : decode cX2_term 81 = .ok (.aload_n 0, 1) := dk_42 (dk_at dksX2_term_3 10 rfl rfl)
theorem dX2_term_82 : decode cX2_term 82 = .ok (.invokevirtual 125, 3) := dk_182 0 125 (dk_at dksX2_term_3 11 rfl rfl)
theorem dX2_term_85 : decode cX2_term 85 = .ok (.aload_n 0, 1) := dk_42 (dk_at dksX2_term_3 14 rfl rfl)
theorem dX2_term_86 : decode cX2_term 86 = .ok (.bipush 41, 2) := dk_16 41 (dk_at dksX2_term_3 15 rfl rfl)
theorem dX2_term_88 : decode cX2_term 88 = .ok (.invokevirtual 77, 3) := dk_182 0 77 (dk_at dksX2_term_3 17 rfl rfl)
theorem dX2_term_91 : decode cX2_term 91 = .ok (.ifCond .ne 11, 3) := dk_154 0 11 (dk_at dksX2_term_3 20 rfl rfl)
theorem dX2_term_94 : decode cX2_term 94 = .ok (.aload_n 0, 1) := dk_42 (dk_at dksX2_term_3 23 rfl rfl)
theorem dX2_term_95 : decode cX2_term 95 = .ok (.aload_n 3, 1) := dk_45 (dk_at dksX2_term_4 0 rfl rfl)
theorem dX2_term_96 : decode cX2_term 96 = .ok (.invokevirtual 109, 3) := dk_182 0 109 (dk_at dksX2_term_4 1 rfl rfl)
theorem dX2_term_99 : decode cX2_term 99 = .ok (.goto (-14), 3) := dk_167 255 242 (dk_at dksX2_term_4 4 rfl rfl)
theorem dX2_term_102 : decode cX2_term 102 = .ok (.aload_n 0, 1) := dk_42 (dk_at dksX2_term_4 7 rfl rfl)
theorem dX2_term_103 : decode cX2_term 103 = .ok (.invokevirtual 140, 3) := dk_182 0 140 (dk_at dksX2_term_4 8 rfl rfl)
theorem dX2_term_106 : decode cX2_term 106 = .ok (.aload_n 3, 1) := dk_45 (dk_at dksX2_term_4 11 rfl rfl)
theorem dX2_term_107 : decode cX2_term 107 = .ok (.invokevirtual 189, 3) := dk_182 0 189 (dk_at dksX2_term_4 12 rfl rfl)
theorem dX2_term_110 : decode cX2_term 110 = .ok (.aload_n 1, 1) := dk_43 (dk_at dksX2_term_4 15 rfl rfl)
theorem dX2_term_111 : decode cX2_term 111 = .ok (.aload_n 3, 1) := dk_45 (dk_at dksX2_term_4 16 rfl rfl)
theorem dX2_term_112 : decode cX2_term 112 = .ok (.invokevirtual 181, 3) := dk_182 0 181 (dk_at dksX2_term_4 17 rfl rfl)
theorem dX2_term_115 : decode cX2_term 115 = .ok (.return_, 1) := dk_177 (dk_at dksX2_term_4 20 rfl rfl)
theorem q71 : (Jvm.Cond.initialized "MacroGlass$Parser") ∈ lw_all := lw_g (lw_at lw_m1 6 rfl) rfl
theorem q196 : (Jvm.Cond.instantiable "MacroGlass$Parser" (8 : Nat)) ∈ lw_all := lw_g (lw_at lw_m1 131 rfl) rfl
theorem q198 : (Jvm.Cond.instanceMethod ({ cls := "MacroGlass$Parser", name := "<init>", desc := "([BI)V" } : Jvm.MethodName)) ∈ lw_all := lw_g (lw_at lw_m1 133 rfl) rfl
theorem q199 : (Jvm.Cond.code ({ cls := "MacroGlass$Parser", name := "<init>", desc := "([BI)V" } : Jvm.MethodName) prog_9_method_1_code (3 : Nat) (Option.none : Option Jvm.ClassFile.FieldType)) ∈ lw_all := lw_g (lw_at lw_m1 134 rfl) rfl
theorem q200 : (Jvm.Cond.methodLink "MacroGlass$Parser" (3 : Nat) ({ cls := "java/lang/Object", name := "<init>", desc := "()V" } : Jvm.MethodName)) ∈ lw_all := lw_g (lw_at lw_m1 135 rfl) rfl
theorem q201 : (Jvm.Cond.classLink "MacroGlass$Parser" (9 : Nat) "java/util/ArrayList") ∈ lw_all := lw_g (lw_at lw_m1 136 rfl) rfl
theorem q202 : (Jvm.Cond.methodLink "MacroGlass$Parser" (11 : Nat) ({ cls := "java/util/ArrayList", name := "<init>", desc := "()V" } : Jvm.MethodName)) ∈ lw_all := lw_g (lw_at lw_m1 137 rfl) rfl
theorem q203 : (Jvm.Cond.fieldLink "MacroGlass$Parser" (18 : Nat) "MacroGlass$Parser" "tape" "[B") ∈ lw_all := lw_g (lw_at lw_m1 138 rfl) rfl
theorem q204 : (Jvm.Cond.fieldLink "MacroGlass$Parser" (22 : Nat) "MacroGlass$Parser" "size" "I") ∈ lw_all := lw_g (lw_at lw_m1 139 rfl) rfl
theorem q205 : (Jvm.Cond.fieldLink "MacroGlass$Parser" (42 : Nat) "MacroGlass$Parser" "at" "I") ∈ lw_all := lw_g (lw_at lw_m1 140 rfl) rfl
theorem q206 : (Jvm.Cond.fieldLink "MacroGlass$Parser" (52 : Nat) "MacroGlass$Parser" "sort" "I") ∈ lw_all := lw_g (lw_at lw_m1 141 rfl) rfl
theorem q207 : (Jvm.Cond.fieldLink "MacroGlass$Parser" (45 : Nat) "MacroGlass$Parser" "begin" "I") ∈ lw_all := lw_g (lw_at lw_m1 142 rfl) rfl
theorem q208 : (Jvm.Cond.fieldLink "MacroGlass$Parser" (48 : Nat) "MacroGlass$Parser" "word" "J") ∈ lw_all := lw_g (lw_at lw_m1 143 rfl) rfl
theorem q209 : (Jvm.Cond.fieldLink "MacroGlass$Parser" (80 : Nat) "MacroGlass$Parser" "deep" "I") ∈ lw_all := lw_g (lw_at lw_m1 144 rfl) rfl
theorem q210 : (Jvm.Cond.fieldLink "MacroGlass$Parser" (12 : Nat) "MacroGlass$Parser" "rules" "Ljava/util/ArrayList;") ∈ lw_all := lw_g (lw_at lw_m1 145 rfl) rfl
theorem q212 : (Jvm.Cond.laysFinal "MacroGlass$Parser" "MacroGlass$Parser" "tape" "[B") ∈ lw_all := lw_g (lw_at lw_m1 147 rfl) rfl
theorem q213 : (Jvm.Cond.soleField "MacroGlass$Parser" "tape") ∈ lw_all := lw_g (lw_at lw_m1 148 rfl) rfl
theorem q214 : (Jvm.Cond.laysFinal "MacroGlass$Parser" "MacroGlass$Parser" "size" "I") ∈ lw_all := lw_g (lw_at lw_m1 149 rfl) rfl
theorem q215 : (Jvm.Cond.soleField "MacroGlass$Parser" "size") ∈ lw_all := lw_g (lw_at lw_m1 150 rfl) rfl
theorem q216 : (Jvm.Cond.lays "MacroGlass$Parser" "MacroGlass$Parser" "at" "I") ∈ lw_all := lw_g (lw_at lw_m1 151 rfl) rfl
theorem q217 : (Jvm.Cond.soleField "MacroGlass$Parser" "at") ∈ lw_all := lw_g (lw_at lw_m1 152 rfl) rfl
theorem q218 : (Jvm.Cond.lays "MacroGlass$Parser" "MacroGlass$Parser" "sort" "I") ∈ lw_all := lw_g (lw_at lw_m1 153 rfl) rfl
theorem q219 : (Jvm.Cond.soleField "MacroGlass$Parser" "sort") ∈ lw_all := lw_g (lw_at lw_m1 154 rfl) rfl
theorem q220 : (Jvm.Cond.lays "MacroGlass$Parser" "MacroGlass$Parser" "begin" "I") ∈ lw_all := lw_g (lw_at lw_m1 155 rfl) rfl
theorem q221 : (Jvm.Cond.soleField "MacroGlass$Parser" "begin") ∈ lw_all := lw_g (lw_at lw_m1 156 rfl) rfl
theorem q222 : (Jvm.Cond.lays "MacroGlass$Parser" "MacroGlass$Parser" "word" "J") ∈ lw_all := lw_g (lw_at lw_m1 157 rfl) rfl
theorem q223 : (Jvm.Cond.soleField "MacroGlass$Parser" "word") ∈ lw_all := lw_g (lw_at lw_m1 158 rfl) rfl
theorem q224 : (Jvm.Cond.lays "MacroGlass$Parser" "MacroGlass$Parser" "deep" "I") ∈ lw_all := lw_g (lw_at lw_m1 159 rfl) rfl
theorem q225 : (Jvm.Cond.soleField "MacroGlass$Parser" "deep") ∈ lw_all := lw_g (lw_at lw_m1 160 rfl) rfl
theorem q226 : (Jvm.Cond.laysFinal "MacroGlass$Parser" "MacroGlass$Parser" "rules" "Ljava/util/ArrayList;") ∈ lw_all := lw_g (lw_at lw_m1 161 rfl) rfl
theorem q227 : (Jvm.Cond.soleField "MacroGlass$Parser" "rules") ∈ lw_all := lw_g (lw_at lw_m1 162 rfl) rfl
theorem q228 : (Jvm.Cond.superclass "MacroGlass$Parser" "java/lang/Object") ∈ lw_all := lw_g (lw_at lw_m1 163 rfl) rfl
theorem q230 : (Jvm.Cond.instanceMethod ({ cls := "MacroGlass$Parser", name := "program", desc := "()LMacroGlass$Item;" } : Jvm.MethodName)) ∈ lw_all := lw_g (lw_at lw_m1 165 rfl) rfl
theorem q231 : (Jvm.Cond.selects "MacroGlass$Parser" ({ cls := "MacroGlass$Parser", name := "program", desc := "()LMacroGlass$Item;" } : Jvm.MethodName) ({ cls := "MacroGlass$Parser", name := "program", desc := "()LMacroGlass$Item;" } : Jvm.MethodName)) ∈ lw_all := lw_g (lw_at lw_m1 166 rfl) rfl
theorem q232 : (Jvm.Cond.code ({ cls := "MacroGlass$Parser", name := "program", desc := "()LMacroGlass$Item;" } : Jvm.MethodName) prog_9_method_11_code (4 : Nat) (Option.some (Jvm.ClassFile.FieldType.object "MacroGlass$Item"))) ∈ lw_all := lw_g (lw_at lw_m1 167 rfl) rfl
theorem q233 : (Jvm.Cond.methodLink "MacroGlass$Parser" (87 : Nat) ({ cls := "MacroGlass$Parser", name := "next", desc := "()V" } : Jvm.MethodName)) ∈ lw_all := lw_g (lw_at lw_m1 168 rfl) rfl
theorem q234 : (Jvm.Cond.privateMethod ({ cls := "MacroGlass$Parser", name := "next", desc := "()V" } : Jvm.MethodName)) ∈ lw_tbl := lw_at lw_m1 169 rfl
theorem q235 : (Jvm.Cond.instanceMethod ({ cls := "MacroGlass$Parser", name := "next", desc := "()V" } : Jvm.MethodName)) ∈ lw_all := lw_g (lw_at lw_m1 170 rfl) rfl
theorem q236 : (Jvm.Cond.code ({ cls := "MacroGlass$Parser", name := "next", desc := "()V" } : Jvm.MethodName) prog_9_method_5_code (1 : Nat) (Option.none : Option Jvm.ClassFile.FieldType)) ∈ lw_all := lw_g (lw_at lw_m1 171 rfl) rfl
theorem q237 : (Jvm.Cond.methodLink "MacroGlass$Parser" (26 : Nat) ({ cls := "MacroGlass$Parser", name := "byteOf", desc := "(I)I" } : Jvm.MethodName)) ∈ lw_all := lw_g (lw_at lw_m1 172 rfl) rfl
theorem q238 : (Jvm.Cond.privateMethod ({ cls := "MacroGlass$Parser", name := "byteOf", desc := "(I)I" } : Jvm.MethodName)) ∈ lw_tbl := lw_at lw_m1 173 rfl
theorem q239 : (Jvm.Cond.instanceMethod ({ cls := "MacroGlass$Parser", name := "byteOf", desc := "(I)I" } : Jvm.MethodName)) ∈ lw_all := lw_g (lw_at lw_m1 174 rfl) rfl
theorem q240 : (Jvm.Cond.code ({ cls := "MacroGlass$Parser", name := "byteOf", desc := "(I)I" } : Jvm.MethodName) prog_9_method_2_code (2 : Nat) (Option.some Jvm.ClassFile.FieldType.int)) ∈ lw_all := lw_g (lw_at lw_m1 175 rfl) rfl
theorem q241 : (Jvm.Cond.methodLink "MacroGlass$Parser" (55 : Nat) ({ cls := "MacroGlass$Parser", name := "isDigit", desc := "(I)Z" } : Jvm.MethodName)) ∈ lw_all := lw_g (lw_at lw_m1 176 rfl) rfl
theorem q242 : (Jvm.Cond.privateMethod ({ cls := "MacroGlass$Parser", name := "isDigit", desc := "(I)Z" } : Jvm.MethodName)) ∈ lw_tbl := lw_at lw_m1 177 rfl
theorem q243 : (Jvm.Cond.instanceMethod ({ cls := "MacroGlass$Parser", name := "isDigit", desc := "(I)Z" } : Jvm.MethodName)) ∈ lw_all := lw_g (lw_at lw_m1 178 rfl) rfl
theorem q244 : (Jvm.Cond.code ({ cls := "MacroGlass$Parser", name := "isDigit", desc := "(I)Z" } : Jvm.MethodName) prog_9_method_3_code (2 : Nat) (Option.some Jvm.ClassFile.FieldType.boolean)) ∈ lw_all := lw_g (lw_at lw_m1 179 rfl) rfl
theorem q245 : (Jvm.Cond.constantLong "MacroGlass$Parser" (30 : Nat) (48 : Int64)) ∈ lw_all := lw_g (lw_at lw_m1 180 rfl) rfl
theorem q246 : (Jvm.Cond.constantLong "MacroGlass$Parser" (32 : Nat) (57 : Int64)) ∈ lw_all := lw_g (lw_at lw_m1 181 rfl) rfl
theorem q247 : (Jvm.Cond.methodLinkNest "MacroGlass$Parser" (34 : Nat) ({ cls := "MacroGlass", name := "in", desc := "(JJJ)Z" } : Jvm.MethodName) "MacroGlass") ∈ lw_tbl := lw_at lw_m1 182 rfl
theorem q250 : (Jvm.Cond.constantLong "MacroGlass$Parser" (59 : Nat) (10 : Int64)) ∈ lw_all := lw_g (lw_at lw_m1 185 rfl) rfl
theorem q251 : (Jvm.Cond.methodLink "MacroGlass$Parser" (61 : Nat) ({ cls := "MacroGlass$Parser", name := "isLetter", desc := "(I)Z" } : Jvm.MethodName)) ∈ lw_all := lw_g (lw_at lw_m1 186 rfl) rfl
theorem q252 : (Jvm.Cond.privateMethod ({ cls := "MacroGlass$Parser", name := "isLetter", desc := "(I)Z" } : Jvm.MethodName)) ∈ lw_tbl := lw_at lw_m1 187 rfl
theorem q253 : (Jvm.Cond.instanceMethod ({ cls := "MacroGlass$Parser", name := "isLetter", desc := "(I)Z" } : Jvm.MethodName)) ∈ lw_all := lw_g (lw_at lw_m1 188 rfl) rfl
theorem q254 : (Jvm.Cond.code ({ cls := "MacroGlass$Parser", name := "isLetter", desc := "(I)Z" } : Jvm.MethodName) prog_9_method_4_code (2 : Nat) (Option.some Jvm.ClassFile.FieldType.boolean)) ∈ lw_all := lw_g (lw_at lw_m1 189 rfl) rfl
theorem q255 : (Jvm.Cond.constantLong "MacroGlass$Parser" (38 : Nat) (97 : Int64)) ∈ lw_all := lw_g (lw_at lw_m1 190 rfl) rfl
theorem q256 : (Jvm.Cond.constantLong "MacroGlass$Parser" (40 : Nat) (122 : Int64)) ∈ lw_all := lw_g (lw_at lw_m1 191 rfl) rfl
theorem q257 : (Jvm.Cond.constantLong "MacroGlass$Parser" (64 : Nat) (40 : Int64)) ∈ lw_all := lw_g (lw_at lw_m1 192 rfl) rfl
theorem q258 : (Jvm.Cond.constantLong "MacroGlass$Parser" (66 : Nat) (41 : Int64)) ∈ lw_all := lw_g (lw_at lw_m1 193 rfl) rfl
theorem q259 : (Jvm.Cond.constantLong "MacroGlass$Parser" (68 : Nat) (42 : Int64)) ∈ lw_all := lw_g (lw_at lw_m1 194 rfl) rfl
theorem q260 : (Jvm.Cond.constantLong "MacroGlass$Parser" (70 : Nat) (33 : Int64)) ∈ lw_all := lw_g (lw_at lw_m1 195 rfl) rfl
theorem q261 : (Jvm.Cond.methodLink "MacroGlass$Parser" (77 : Nat) ({ cls := "MacroGlass$Parser", name := "isSign", desc := "(I)Z" } : Jvm.MethodName)) ∈ lw_all := lw_g (lw_at lw_m1 196 rfl) rfl
theorem q262 : (Jvm.Cond.privateMethod ({ cls := "MacroGlass$Parser", name := "isSign", desc := "(I)Z" } : Jvm.MethodName)) ∈ lw_tbl := lw_at lw_m1 197 rfl
theorem q263 : (Jvm.Cond.instanceMethod ({ cls := "MacroGlass$Parser", name := "isSign", desc := "(I)Z" } : Jvm.MethodName)) ∈ lw_all := lw_g (lw_at lw_m1 198 rfl) rfl
theorem q264 : (Jvm.Cond.code ({ cls := "MacroGlass$Parser", name := "isSign", desc := "(I)Z" } : Jvm.MethodName) prog_9_method_6_code (2 : Nat) (Option.some Jvm.ClassFile.FieldType.boolean)) ∈ lw_all := lw_g (lw_at lw_m1 199 rfl) rfl
theorem q265 : (Jvm.Cond.stringRef "MacroGlass$Parser" (93 : Nat) "word") ∈ lw_tbl := lw_at lw_m1 200 rfl
theorem q266 : (Jvm.Cond.methodLink "MacroGlass$Parser" (94 : Nat) ({ cls := "MacroGlass$Parser", name := "isWord", desc := "(Ljava/lang/String;)Z" } : Jvm.MethodName)) ∈ lw_all := lw_g (lw_at lw_m1 201 rfl) rfl
theorem q267 : (Jvm.Cond.privateMethod ({ cls := "MacroGlass$Parser", name := "isWord", desc := "(Ljava/lang/String;)Z" } : Jvm.MethodName)) ∈ lw_tbl := lw_at lw_m1 202 rfl
theorem q268 : (Jvm.Cond.instanceMethod ({ cls := "MacroGlass$Parser", name := "isWord", desc := "(Ljava/lang/String;)Z" } : Jvm.MethodName)) ∈ lw_all := lw_g (lw_at lw_m1 203 rfl) rfl
theorem q269 : (Jvm.Cond.code ({ cls := "MacroGlass$Parser", name := "isWord", desc := "(Ljava/lang/String;)Z" } : Jvm.MethodName) prog_9_method_10_code (2 : Nat) (Option.some Jvm.ClassFile.FieldType.boolean)) ∈ lw_all := lw_g (lw_at lw_m1 204 rfl) rfl
theorem q270 : (Jvm.Cond.methodLinkNest "MacroGlass$Parser" (90 : Nat) ({ cls := "MacroGlass", name := "word", desc := "(Ljava/lang/String;)J" } : Jvm.MethodName) "MacroGlass") ∈ lw_tbl := lw_at lw_m1 205 rfl
theorem q321 : (Jvm.Cond.stringRef "MacroGlass$Parser" (98 : Nat) "raw") ∈ lw_tbl := lw_at lw_m2 16 rfl
theorem q322 : (Jvm.Cond.methodLink "MacroGlass$Parser" (100 : Nat) ({ cls := "java/util/ArrayList", name := "size", desc := "()I" } : Jvm.MethodName)) ∈ lw_all := lw_g (lw_at lw_m2 17 rfl) rfl
theorem q326 : (Jvm.Cond.methodLink "MacroGlass$Parser" (83 : Nat) ({ cls := "MacroGlass$Parser", name := "want", desc := "(Z)V" } : Jvm.MethodName)) ∈ lw_all := lw_g (lw_at lw_m2 21 rfl) rfl
theorem q327 : (Jvm.Cond.privateMethod ({ cls := "MacroGlass$Parser", name := "want", desc := "(Z)V" } : Jvm.MethodName)) ∈ lw_tbl := lw_at lw_m2 22 rfl
theorem q328 : (Jvm.Cond.instanceMethod ({ cls := "MacroGlass$Parser", name := "want", desc := "(Z)V" } : Jvm.MethodName)) ∈ lw_all := lw_g (lw_at lw_m2 23 rfl) rfl
theorem q329 : (Jvm.Cond.code ({ cls := "MacroGlass$Parser", name := "want", desc := "(Z)V" } : Jvm.MethodName) prog_9_method_7_code (2 : Nat) (Option.none : Option Jvm.ClassFile.FieldType)) ∈ lw_all := lw_g (lw_at lw_m2 24 rfl) rfl
theorem q330 : (Jvm.Cond.classLink "MacroGlass$Parser" (72 : Nat) "MacroGlass$Wrong") ∈ lw_all := lw_g (lw_at lw_m2 25 rfl) rfl
theorem q369 : (Jvm.Cond.methodLink "MacroGlass$Parser" (74 : Nat) ({ cls := "MacroGlass$Wrong", name := "<init>", desc := "(II)V" } : Jvm.MethodName)) ∈ lw_all := lw_g (lw_at lw_m2 64 rfl) rfl
theorem q399 : (Jvm.Cond.methodLink "MacroGlass$Parser" (103 : Nat) ({ cls := "MacroGlass$Parser", name := "rule", desc := "()V" } : Jvm.MethodName)) ∈ lw_all := lw_g (lw_at lw_m2 94 rfl) rfl
theorem q400 : (Jvm.Cond.privateMethod ({ cls := "MacroGlass$Parser", name := "rule", desc := "()V" } : Jvm.MethodName)) ∈ lw_tbl := lw_at lw_m2 95 rfl
theorem q401 : (Jvm.Cond.instanceMethod ({ cls := "MacroGlass$Parser", name := "rule", desc := "()V" } : Jvm.MethodName)) ∈ lw_all := lw_g (lw_at lw_m2 96 rfl) rfl
theorem q402 : (Jvm.Cond.code ({ cls := "MacroGlass$Parser", name := "rule", desc := "()V" } : Jvm.MethodName) prog_9_method_12_code (6 : Nat) (Option.none : Option Jvm.ClassFile.FieldType)) ∈ lw_all := lw_g (lw_at lw_m2 97 rfl) rfl
theorem q403 : (Jvm.Cond.methodLink "MacroGlass$Parser" (125 : Nat) ({ cls := "MacroGlass$Parser", name := "open", desc := "()V" } : Jvm.MethodName)) ∈ lw_all := lw_g (lw_at lw_m2 98 rfl) rfl
theorem q404 : (Jvm.Cond.privateMethod ({ cls := "MacroGlass$Parser", name := "open", desc := "()V" } : Jvm.MethodName)) ∈ lw_tbl := lw_at lw_m2 99 rfl
theorem q405 : (Jvm.Cond.instanceMethod ({ cls := "MacroGlass$Parser", name := "open", desc := "()V" } : Jvm.MethodName)) ∈ lw_all := lw_g (lw_at lw_m2 100 rfl) rfl
theorem q406 : (Jvm.Cond.code ({ cls := "MacroGlass$Parser", name := "open", desc := "()V" } : Jvm.MethodName) prog_9_method_8_code (1 : Nat) (Option.none : Option Jvm.ClassFile.FieldType)) ∈ lw_all := lw_g (lw_at lw_m2 101 rfl) rfl
theorem q407 : (Jvm.Cond.stringRef "MacroGlass$Parser" (128 : Nat) "let") ∈ lw_tbl := lw_at lw_m2 102 rfl
theorem q408 : (Jvm.Cond.stringRef "MacroGlass$Parser" (130 : Nat) "fun") ∈ lw_tbl := lw_at lw_m2 103 rfl
theorem q409 : (Jvm.Cond.methodLink "MacroGlass$Parser" (132 : Nat) ({ cls := "MacroGlass$Parser", name := "patterns", desc := "()LMacroGlass$Parts;" } : Jvm.MethodName)) ∈ lw_all := lw_g (lw_at lw_m2 104 rfl) rfl
theorem q410 : (Jvm.Cond.privateMethod ({ cls := "MacroGlass$Parser", name := "patterns", desc := "()LMacroGlass$Parts;" } : Jvm.MethodName)) ∈ lw_tbl := lw_at lw_m2 105 rfl
theorem q411 : (Jvm.Cond.instanceMethod ({ cls := "MacroGlass$Parser", name := "patterns", desc := "()LMacroGlass$Parts;" } : Jvm.MethodName)) ∈ lw_all := lw_g (lw_at lw_m2 106 rfl) rfl
theorem q412 : (Jvm.Cond.code ({ cls := "MacroGlass$Parser", name := "patterns", desc := "()LMacroGlass$Parts;" } : Jvm.MethodName) prog_9_method_13_code (6 : Nat) (Option.some (Jvm.ClassFile.FieldType.object "MacroGlass$Parts"))) ∈ lw_all := lw_g (lw_at lw_m2 107 rfl) rfl
theorem q413 : (Jvm.Cond.classLink "MacroGlass$Parser" (155 : Nat) "MacroGlass$Parts") ∈ lw_all := lw_g (lw_at lw_m2 108 rfl) rfl
theorem q415 : (Jvm.Cond.methodLink "MacroGlass$Parser" (157 : Nat) ({ cls := "MacroGlass$Parts", name := "<init>", desc := "(I)V" } : Jvm.MethodName)) ∈ lw_all := lw_g (lw_at lw_m2 110 rfl) rfl
theorem q425 : (Jvm.Cond.fieldLinkNest "MacroGlass$Parser" (160 : Nat) "MacroGlass$Parts" "parts" "Ljava/util/ArrayList;" "MacroGlass") ∈ lw_tbl := lw_at lw_m2 120 rfl
theorem q439 : (Jvm.Cond.classLink "MacroGlass$Parser" (163 : Nat) "MacroGlass$Fixed") ∈ lw_all := lw_g (lw_at lw_m2 134 rfl) rfl
theorem q441 : (Jvm.Cond.methodLink "MacroGlass$Parser" (165 : Nat) ({ cls := "MacroGlass$Fixed", name := "<init>", desc := "(II)V" } : Jvm.MethodName)) ∈ lw_all := lw_g (lw_at lw_m2 136 rfl) rfl
theorem q450 : (Jvm.Cond.methodLink "MacroGlass$Parser" (151 : Nat) ({ cls := "java/util/ArrayList", name := "add", desc := "(Ljava/lang/Object;)Z" } : Jvm.MethodName)) ∈ lw_all := lw_g (lw_at lw_m2 145 rfl) rfl
theorem q489 : (Jvm.Cond.selects "MacroGlass$Parser" ({ cls := "java/lang/Object", name := "getClass", desc := "()Ljava/lang/Class;" } : Jvm.MethodName) ({ cls := "java/lang/Object", name := "getClass", desc := "()Ljava/lang/Class;" } : Jvm.MethodName)) ∈ lw_all := lw_g (lw_at lw_m2 184 rfl) rfl
theorem q515 : (Jvm.Cond.classLink "MacroGlass$Parser" (166 : Nat) "MacroGlass$Var") ∈ lw_all := lw_g (lw_at lw_m2 210 rfl) rfl
theorem q517 : (Jvm.Cond.methodLink "MacroGlass$Parser" (168 : Nat) ({ cls := "MacroGlass$Var", name := "<init>", desc := "(IJZ)V" } : Jvm.MethodName)) ∈ lw_all := lw_g (lw_at lw_m2 212 rfl) rfl
theorem q535 : (Jvm.Cond.classLink "MacroGlass$Parser" (171 : Nat) "MacroGlass$Sign") ∈ lw_all := lw_g (lw_at lw_m2 230 rfl) rfl
theorem q537 : (Jvm.Cond.methodLink "MacroGlass$Parser" (173 : Nat) ({ cls := "MacroGlass$Sign", name := "<init>", desc := "(IJ)V" } : Jvm.MethodName)) ∈ lw_all := lw_g (lw_at lw_m2 232 rfl) rfl
theorem q545 : (Jvm.Cond.methodLink "MacroGlass$Parser" (140 : Nat) ({ cls := "MacroGlass$Parser", name := "close", desc := "()V" } : Jvm.MethodName)) ∈ lw_all := lw_g (lw_at lw_m3 0 rfl) rfl
theorem q546 : (Jvm.Cond.privateMethod ({ cls := "MacroGlass$Parser", name := "close", desc := "()V" } : Jvm.MethodName)) ∈ lw_tbl := lw_at lw_m3 1 rfl
theorem q547 : (Jvm.Cond.instanceMethod ({ cls := "MacroGlass$Parser", name := "close", desc := "()V" } : Jvm.MethodName)) ∈ lw_all := lw_g (lw_at lw_m3 2 rfl) rfl
theorem q548 : (Jvm.Cond.code ({ cls := "MacroGlass$Parser", name := "close", desc := "()V" } : Jvm.MethodName) prog_9_method_9_code (1 : Nat) (Option.none : Option Jvm.ClassFile.FieldType)) ∈ lw_all := lw_g (lw_at lw_m3 3 rfl) rfl
theorem q549 : (Jvm.Cond.methodLink "MacroGlass$Parser" (136 : Nat) ({ cls := "MacroGlass$Parser", name := "template", desc := "()LMacroGlass$Part;" } : Jvm.MethodName)) ∈ lw_all := lw_g (lw_at lw_m3 4 rfl) rfl
theorem q550 : (Jvm.Cond.privateMethod ({ cls := "MacroGlass$Parser", name := "template", desc := "()LMacroGlass$Part;" } : Jvm.MethodName)) ∈ lw_tbl := lw_at lw_m3 5 rfl
theorem q551 : (Jvm.Cond.instanceMethod ({ cls := "MacroGlass$Parser", name := "template", desc := "()LMacroGlass$Part;" } : Jvm.MethodName)) ∈ lw_all := lw_g (lw_at lw_m3 6 rfl) rfl
theorem q552 : (Jvm.Cond.code ({ cls := "MacroGlass$Parser", name := "template", desc := "()LMacroGlass$Part;" } : Jvm.MethodName) prog_9_method_14_code (6 : Nat) (Option.some (Jvm.ClassFile.FieldType.object "MacroGlass$Part"))) ∈ lw_all := lw_g (lw_at lw_m3 7 rfl) rfl
theorem q553 : (Jvm.Cond.classLink "MacroGlass$Parser" (143 : Nat) "MacroGlass$Raw") ∈ lw_all := lw_g (lw_at lw_m3 8 rfl) rfl
theorem q555 : (Jvm.Cond.methodLink "MacroGlass$Parser" (145 : Nat) ({ cls := "MacroGlass$Raw", name := "<init>", desc := "(JLMacroGlass$Parts;LMacroGlass$Part;)V" } : Jvm.MethodName)) ∈ lw_all := lw_g (lw_at lw_m3 10 rfl) rfl
theorem q574 : (Jvm.Cond.classLink "MacroGlass$Parser" (148 : Nat) "MacroGlass$Rule") ∈ lw_all := lw_g (lw_at lw_m3 29 rfl) rfl
theorem q576 : (Jvm.Cond.methodLink "MacroGlass$Parser" (150 : Nat) ({ cls := "MacroGlass$Rule", name := "<init>", desc := "(JLMacroGlass$Parts;LMacroGlass$Part;)V" } : Jvm.MethodName)) ∈ lw_all := lw_g (lw_at lw_m3 31 rfl) rfl
theorem q581 : (Jvm.Cond.classLink "MacroGlass$Parser" (106 : Nat) "MacroGlass$List") ∈ lw_all := lw_g (lw_at lw_m3 36 rfl) rfl
theorem q583 : (Jvm.Cond.methodLink "MacroGlass$Parser" (108 : Nat) ({ cls := "MacroGlass$List", name := "<init>", desc := "(II)V" } : Jvm.MethodName)) ∈ lw_all := lw_g (lw_at lw_m3 38 rfl) rfl
theorem q595 : (Jvm.Cond.fieldLinkNest "MacroGlass$Parser" (113 : Nat) "MacroGlass$List" "items" "Ljava/util/ArrayList;" "MacroGlass") ∈ lw_tbl := lw_at lw_m3 50 rfl
theorem q619 : (Jvm.Cond.fieldLink "MacroGlass$Parser" (122 : Nat) "MacroGlass$Item" "in" "LMacroGlass$List;") ∈ lw_all := lw_g (lw_at lw_m3 74 rfl) rfl
theorem q640 : (Jvm.Cond.methodLink "MacroGlass$Parser" (109 : Nat) ({ cls := "MacroGlass$Parser", name := "term", desc := "(LMacroGlass$List;)V" } : Jvm.MethodName)) ∈ lw_all := lw_g (lw_at lw_m3 95 rfl) rfl
theorem q641 : (Jvm.Cond.privateMethod ({ cls := "MacroGlass$Parser", name := "term", desc := "(LMacroGlass$List;)V" } : Jvm.MethodName)) ∈ lw_tbl := lw_at lw_m3 96 rfl
theorem q642 : (Jvm.Cond.instanceMethod ({ cls := "MacroGlass$Parser", name := "term", desc := "(LMacroGlass$List;)V" } : Jvm.MethodName)) ∈ lw_all := lw_g (lw_at lw_m3 97 rfl) rfl
theorem q643 : (Jvm.Cond.code ({ cls := "MacroGlass$Parser", name := "term", desc := "(LMacroGlass$List;)V" } : Jvm.MethodName) prog_9_method_15_code (4 : Nat) (Option.none : Option Jvm.ClassFile.FieldType)) ∈ lw_all := lw_g (lw_at lw_m3 98 rfl) rfl
theorem q644 : (Jvm.Cond.classLink "MacroGlass$Parser" (176 : Nat) "MacroGlass$Whole") ∈ lw_all := lw_g (lw_at lw_m3 99 rfl) rfl
theorem q646 : (Jvm.Cond.methodLink "MacroGlass$Parser" (178 : Nat) ({ cls := "MacroGlass$Whole", name := "<init>", desc := "(III)V" } : Jvm.MethodName)) ∈ lw_all := lw_g (lw_at lw_m3 101 rfl) rfl
theorem q658 : (Jvm.Cond.methodLink "MacroGlass$Parser" (181 : Nat) ({ cls := "MacroGlass$List", name := "add", desc := "(LMacroGlass$Item;)V" } : Jvm.MethodName)) ∈ lw_all := lw_g (lw_at lw_m3 113 rfl) rfl
theorem q663 : (Jvm.Cond.classLink "MacroGlass$Parser" (184 : Nat) "MacroGlass$Name") ∈ lw_all := lw_g (lw_at lw_m3 118 rfl) rfl
theorem q665 : (Jvm.Cond.methodLink "MacroGlass$Parser" (186 : Nat) ({ cls := "MacroGlass$Name", name := "<init>", desc := "(IIJI)V" } : Jvm.MethodName)) ∈ lw_all := lw_g (lw_at lw_m3 120 rfl) rfl
theorem q685 : (Jvm.Cond.methodLink "MacroGlass$Parser" (189 : Nat) ({ cls := "MacroGlass$List", name := "close", desc := "()V" } : Jvm.MethodName)) ∈ lw_all := lw_g (lw_at lw_m3 140 rfl) rfl
theorem q706 : (Jvm.Cond.methodLink "MacroGlass$Parser" (116 : Nat) ({ cls := "java/util/ArrayList", name := "get", desc := "(I)Ljava/lang/Object;" } : Jvm.MethodName)) ∈ lw_all := lw_g (lw_at lw_m3 161 rfl) rfl
theorem q707 : (Jvm.Cond.classLink "MacroGlass$Parser" (120 : Nat) "MacroGlass$Item") ∈ lw_all := lw_g (lw_at lw_m3 162 rfl) rfl
theorem q1695 : (Jvm.Cond.castable "MacroGlass$Parser" "java/lang/Object") ∈ lw_tbl := lw_at lw_m7 190 rfl
theorem in_X2 : ∀ w ∈ wsX20, w ∈ lw_all := lw_in wsX20 [212, 214, 216, 218, 220, 222, 224, 226] (by decide +kernel) (by decide +kernel)

/-! MacroGlass$Wrong -/
set_option maxRecDepth 100000
def RX3 : String := "MacroGlass$Wrong"
def TX3 : u_T := fun k => match k with
  | 0 => ("java/lang/Throwable", "cause", "Ljava/lang/Throwable;", false)
  | 1 => ("java/lang/Throwable", "stackTrace", "[Ljava/lang/StackTraceElement;", false)
  | 2 => ("java/lang/Throwable", "suppressedExceptions", "Ljava/util/List;", false)
  | 3 => ("java/lang/Throwable", "detailMessage", "Ljava/lang/String;", false)
  | 4 => ("java/lang/Throwable", "backtrace", "Ljava/lang/Object;", false)
  | 5 => ("java/lang/Throwable", "depth", "I", false)
  | 6 => ("MacroGlass$Wrong", "kind", "I", true)
  | _ => ("MacroGlass$Wrong", "place", "I", true)
def tyX3 : Nat → FieldType := fun k => match k with
  | 0 => .object "java/lang/Throwable"
  | 1 => .array (.object "java/lang/StackTraceElement")
  | 2 => .object "java/util/List"
  | 3 => .object "java/lang/String"
  | 4 => .object "java/lang/Object"
  | 5 => .int
  | 6 => .int
  | _ => .int
abbrev wsX30 : List Cond := u_ws RX3 TX3 8
theorem nmX3 : ∀ a, a < 8 → ∀ b, b < 8 → a ≠ b → (TX3 a).2.1 ≠ (TX3 b).2.1 := by decide +kernel
theorem tyX3_ok : ∀ k, k < 8 → parseFieldDescriptor (TX3 k).2.2.1 = some (tyX3 k) := by decide +kernel
abbrev cX3_init : ByteArray := prog_18_method_1_code
def yX3_init : MethodName := ⟨RX3, "<init>", "(II)V"⟩
def dkwX3_init_0 : List UInt8 := [42, 183, 0, 1, 42, 27, 181, 0, 7, 42, 28, 181, 0, 13, 177]
abbrev dktX3_init_0 : List UInt8 := dkwX3_init_0 ++ []
theorem dksX3_init_0 : cX3_init.data.toList.drop 0 = dktX3_init_0 := by decide +kernel
theorem dX3_init_0 : decode cX3_init 0 = .ok (.aload_n 0, 1) := dk_42 (dk_at dksX3_init_0 0 rfl rfl)
theorem dX3_init_1 : decode cX3_init 1 = .ok (.invokespecial 1, 3) := dk_183 0 1 (dk_at dksX3_init_0 1 rfl rfl)
theorem dX3_init_4 : decode cX3_init 4 = .ok (.aload_n 0, 1) := dk_42 (dk_at dksX3_init_0 4 rfl rfl)
theorem dX3_init_5 : decode cX3_init 5 = .ok (.iload_n 1, 1) := dk_27 (dk_at dksX3_init_0 5 rfl rfl)
theorem dX3_init_6 : decode cX3_init 6 = .ok (.putfield 7, 3) := dk_181 0 7 (dk_at dksX3_init_0 6 rfl rfl)
theorem dX3_init_9 : decode cX3_init 9 = .ok (.aload_n 0, 1) := dk_42 (dk_at dksX3_init_0 9 rfl rfl)
theorem dX3_init_10 : decode cX3_init 10 = .ok (.iload_n 2, 1) := dk_28 (dk_at dksX3_init_0 10 rfl rfl)
theorem dX3_init_11 : decode cX3_init 11 = .ok (.putfield 13, 3) := dk_181 0 13 (dk_at dksX3_init_0 11 rfl rfl)
theorem dX3_init_14 : decode cX3_init 14 = .ok (.return_, 1) := dk_177 (dk_at dksX3_init_0 14 rfl rfl)
theorem q79 : (Jvm.Cond.initialized "MacroGlass$Wrong") ∈ lw_all := lw_g (lw_at lw_m1 14 rfl) rfl
theorem q331 : (Jvm.Cond.instantiable "MacroGlass$Wrong" (8 : Nat)) ∈ lw_all := lw_g (lw_at lw_m2 26 rfl) rfl
theorem q332 : (Jvm.Cond.castable "MacroGlass$Wrong" "MacroGlass$Wrong") ∈ lw_tbl := lw_at lw_m2 27 rfl
theorem q339 : (Jvm.Cond.selects "MacroGlass$Wrong" ({ cls := "java/lang/Throwable", name := "fillInStackTrace", desc := "(I)Ljava/lang/Throwable;" } : Jvm.MethodName) ({ cls := "java/lang/Throwable", name := "fillInStackTrace", desc := "(I)Ljava/lang/Throwable;" } : Jvm.MethodName)) ∈ lw_all := lw_g (lw_at lw_m2 34 rfl) rfl
theorem q340 : (Jvm.Cond.selects "MacroGlass$Wrong" ({ cls := "java/lang/Throwable", name := "fillInStackTrace", desc := "()Ljava/lang/Throwable;" } : Jvm.MethodName) ({ cls := "java/lang/Throwable", name := "fillInStackTrace", desc := "()Ljava/lang/Throwable;" } : Jvm.MethodName)) ∈ lw_all := lw_g (lw_at lw_m2 35 rfl) rfl
theorem q341 : (Jvm.Cond.lays "MacroGlass$Wrong" "java/lang/Throwable" "cause" "Ljava/lang/Throwable;") ∈ lw_all := lw_g (lw_at lw_m2 36 rfl) rfl
theorem q343 : (Jvm.Cond.lays "MacroGlass$Wrong" "java/lang/Throwable" "stackTrace" "[Ljava/lang/StackTraceElement;") ∈ lw_all := lw_g (lw_at lw_m2 38 rfl) rfl
theorem q345 : (Jvm.Cond.lays "MacroGlass$Wrong" "java/lang/Throwable" "suppressedExceptions" "Ljava/util/List;") ∈ lw_all := lw_g (lw_at lw_m2 40 rfl) rfl
theorem q347 : (Jvm.Cond.lays "MacroGlass$Wrong" "java/lang/Throwable" "detailMessage" "Ljava/lang/String;") ∈ lw_all := lw_g (lw_at lw_m2 42 rfl) rfl
theorem q349 : (Jvm.Cond.lays "MacroGlass$Wrong" "java/lang/Throwable" "backtrace" "Ljava/lang/Object;") ∈ lw_all := lw_g (lw_at lw_m2 44 rfl) rfl
theorem q370 : (Jvm.Cond.instanceMethod ({ cls := "MacroGlass$Wrong", name := "<init>", desc := "(II)V" } : Jvm.MethodName)) ∈ lw_all := lw_g (lw_at lw_m2 65 rfl) rfl
theorem q371 : (Jvm.Cond.code ({ cls := "MacroGlass$Wrong", name := "<init>", desc := "(II)V" } : Jvm.MethodName) prog_18_method_1_code (3 : Nat) (Option.none : Option Jvm.ClassFile.FieldType)) ∈ lw_all := lw_g (lw_at lw_m2 66 rfl) rfl
theorem q372 : (Jvm.Cond.methodLink "MacroGlass$Wrong" (1 : Nat) ({ cls := "java/lang/RuntimeException", name := "<init>", desc := "()V" } : Jvm.MethodName)) ∈ lw_all := lw_g (lw_at lw_m2 67 rfl) rfl
theorem q379 : (Jvm.Cond.fieldLink "MacroGlass$Wrong" (7 : Nat) "MacroGlass$Wrong" "kind" "I") ∈ lw_all := lw_g (lw_at lw_m2 74 rfl) rfl
theorem q381 : (Jvm.Cond.fieldLink "MacroGlass$Wrong" (13 : Nat) "MacroGlass$Wrong" "place" "I") ∈ lw_all := lw_g (lw_at lw_m2 76 rfl) rfl
theorem q387 : (Jvm.Cond.laysFinal "MacroGlass$Wrong" "MacroGlass$Wrong" "kind" "I") ∈ lw_all := lw_g (lw_at lw_m2 82 rfl) rfl
theorem q388 : (Jvm.Cond.soleField "MacroGlass$Wrong" "kind") ∈ lw_all := lw_g (lw_at lw_m2 83 rfl) rfl
theorem q389 : (Jvm.Cond.laysFinal "MacroGlass$Wrong" "MacroGlass$Wrong" "place" "I") ∈ lw_all := lw_g (lw_at lw_m2 84 rfl) rfl
theorem q390 : (Jvm.Cond.soleField "MacroGlass$Wrong" "place") ∈ lw_all := lw_g (lw_at lw_m2 85 rfl) rfl
theorem q395 : (Jvm.Cond.lays "MacroGlass$Wrong" "java/lang/Throwable" "depth" "I") ∈ lw_all := lw_g (lw_at lw_m2 90 rfl) rfl
theorem q398 : (Jvm.Cond.superclass "MacroGlass$Wrong" "java/lang/RuntimeException") ∈ lw_all := lw_g (lw_at lw_m2 93 rfl) rfl
theorem q497 : (Jvm.Cond.selects "MacroGlass$Wrong" ({ cls := "java/lang/Object", name := "getClass", desc := "()Ljava/lang/Class;" } : Jvm.MethodName) ({ cls := "java/lang/Object", name := "getClass", desc := "()Ljava/lang/Class;" } : Jvm.MethodName)) ∈ lw_all := lw_g (lw_at lw_m2 192 rfl) rfl
theorem q1696 : (Jvm.Cond.castable "MacroGlass$Wrong" "java/lang/Object") ∈ lw_tbl := lw_at lw_m7 191 rfl
theorem in_X3 : ∀ w ∈ wsX30, w ∈ lw_all := lw_in wsX30 [341, 343, 345, 347, 349, 395, 387, 389] (by decide +kernel) (by decide +kernel)

/-! MacroGlass$Part -/
set_option maxRecDepth 100000
def RX4 : String := "MacroGlass$Part"
abbrev cX4_init : ByteArray := prog_10_method_1_code
def yX4_init : MethodName := ⟨RX4, "<init>", "(I)V"⟩
def dkwX4_init_0 : List UInt8 := [42, 183, 0, 1, 42, 27, 181, 0, 7, 177]
abbrev dktX4_init_0 : List UInt8 := dkwX4_init_0 ++ []
theorem dksX4_init_0 : cX4_init.data.toList.drop 0 = dktX4_init_0 := by decide +kernel
theorem dX4_init_0 : decode cX4_init 0 = .ok (.aload_n 0, 1) := dk_42 (dk_at dksX4_init_0 0 rfl rfl)
theorem dX4_init_1 : decode cX4_init 1 = .ok (.invokespecial 1, 3) := dk_183 0 1 (dk_at dksX4_init_0 1 rfl rfl)
theorem dX4_init_4 : decode cX4_init 4 = .ok (.aload_n 0, 1) := dk_42 (dk_at dksX4_init_0 4 rfl rfl)
theorem dX4_init_5 : decode cX4_init 5 = .ok (.iload_n 1, 1) := dk_27 (dk_at dksX4_init_0 5 rfl rfl)
theorem dX4_init_6 : decode cX4_init 6 = .ok (.putfield 7, 3) := dk_181 0 7 (dk_at dksX4_init_0 6 rfl rfl)
theorem dX4_init_9 : decode cX4_init 9 = .ok (.return_, 1) := dk_177 (dk_at dksX4_init_0 9 rfl rfl)
abbrev cX4_names : ByteArray := prog_10_method_5_code
def yX4_names : MethodName := ⟨RX4, "names", "(Ljava/util/ArrayList;)V"⟩
theorem dX4_names_0 : decode cX4_names 0 = .ok (.return_, 1) := by decide +kernel
theorem q80 : (Jvm.Cond.initialized "MacroGlass$Part") ∈ lw_all := lw_g (lw_at lw_m1 15 rfl) rfl
theorem q419 : (Jvm.Cond.instanceMethod ({ cls := "MacroGlass$Part", name := "<init>", desc := "(I)V" } : Jvm.MethodName)) ∈ lw_all := lw_g (lw_at lw_m2 114 rfl) rfl
theorem q420 : (Jvm.Cond.code ({ cls := "MacroGlass$Part", name := "<init>", desc := "(I)V" } : Jvm.MethodName) prog_10_method_1_code (2 : Nat) (Option.none : Option Jvm.ClassFile.FieldType)) ∈ lw_all := lw_g (lw_at lw_m2 115 rfl) rfl
theorem q421 : (Jvm.Cond.methodLink "MacroGlass$Part" (1 : Nat) ({ cls := "java/lang/Object", name := "<init>", desc := "()V" } : Jvm.MethodName)) ∈ lw_all := lw_g (lw_at lw_m2 116 rfl) rfl
theorem q426 : (Jvm.Cond.fieldLink "MacroGlass$Part" (7 : Nat) "MacroGlass$Part" "place" "I") ∈ lw_all := lw_g (lw_at lw_m2 121 rfl) rfl
theorem q437 : (Jvm.Cond.soleField "MacroGlass$Part" "place") ∈ lw_all := lw_g (lw_at lw_m2 132 rfl) rfl
theorem q742 : (Jvm.Cond.instanceMethod ({ cls := "MacroGlass$Part", name := "names", desc := "(Ljava/util/ArrayList;)V" } : Jvm.MethodName)) ∈ lw_all := lw_g (lw_at lw_m3 197 rfl) rfl
theorem q743 : (Jvm.Cond.sameMethod "MacroGlass$Part" "MacroGlass$Part" "names" "(Ljava/util/ArrayList;)V") ∈ lw_all := lw_g (lw_at lw_m3 198 rfl) rfl
theorem q753 : (Jvm.Cond.code ({ cls := "MacroGlass$Part", name := "names", desc := "(Ljava/util/ArrayList;)V" } : Jvm.MethodName) prog_10_method_5_code (2 : Nat) (Option.none : Option Jvm.ClassFile.FieldType)) ∈ lw_all := lw_g (lw_at lw_m3 208 rfl) rfl
theorem q927 : (Jvm.Cond.declares ({ cls := "MacroGlass$Part", name := "fits", desc := "(LMacroGlass$Item;Ljava/util/ArrayList;)Z" } : Jvm.MethodName)) ∈ lw_tbl := lw_at lw_m4 142 rfl
theorem q928 : (Jvm.Cond.sameMethod "MacroGlass$Part" "MacroGlass$Part" "fits" "(LMacroGlass$Item;Ljava/util/ArrayList;)Z") ∈ lw_all := lw_g (lw_at lw_m4 143 rfl) rfl
theorem q999 : (Jvm.Cond.declares ({ cls := "MacroGlass$Part", name := "makes", desc := "(LMacroGlass$Build;)I" } : Jvm.MethodName)) ∈ lw_tbl := lw_at lw_m4 214 rfl
theorem q1000 : (Jvm.Cond.sameMethod "MacroGlass$Part" "MacroGlass$Part" "makes" "(LMacroGlass$Build;)I") ∈ lw_all := lw_g (lw_at lw_m4 215 rfl) rfl
theorem q1042 : (Jvm.Cond.declares ({ cls := "MacroGlass$Part", name := "build", desc := "(LMacroGlass$Build;LMacroGlass$List;)V" } : Jvm.MethodName)) ∈ lw_tbl := lw_at lw_m5 17 rfl
theorem q1043 : (Jvm.Cond.sameMethod "MacroGlass$Part" "MacroGlass$Part" "build" "(LMacroGlass$Build;LMacroGlass$List;)V") ∈ lw_all := lw_g (lw_at lw_m5 18 rfl) rfl

/-! MacroGlass$Parts -/
set_option maxRecDepth 100000
def RX5 : String := "MacroGlass$Parts"
def TX5 : u_T := fun k => match k with
  | 0 => ("MacroGlass$Part", "place", "I", true)
  | _ => ("MacroGlass$Parts", "parts", "Ljava/util/ArrayList;", true)
def tyX5 : Nat → FieldType := fun k => match k with
  | 0 => .int
  | _ => .object "java/util/ArrayList"
abbrev wsX50 : List Cond := u_ws RX5 TX5 2
theorem nmX5 : ∀ a, a < 2 → ∀ b, b < 2 → a ≠ b → (TX5 a).2.1 ≠ (TX5 b).2.1 := by decide +kernel
theorem tyX5_ok : ∀ k, k < 2 → parseFieldDescriptor (TX5 k).2.2.1 = some (tyX5 k) := by decide +kernel
abbrev cX5_init : ByteArray := prog_11_method_1_code
def yX5_init : MethodName := ⟨RX5, "<init>", "(I)V"⟩
def dkwX5_init_0 : List UInt8 := [42, 27, 183, 0, 1, 42, 187, 0, 7, 89, 183, 0, 9, 181, 0, 12, 177]
abbrev dktX5_init_0 : List UInt8 := dkwX5_init_0 ++ []
theorem dksX5_init_0 : cX5_init.data.toList.drop 0 = dktX5_init_0 := by decide +kernel
theorem dX5_init_0 : decode cX5_init 0 = .ok (.aload_n 0, 1) := dk_42 (dk_at dksX5_init_0 0 rfl rfl)
theorem dX5_init_1 : decode cX5_init 1 = .ok (.iload_n 1, 1) := dk_27 (dk_at dksX5_init_0 1 rfl rfl)
theorem dX5_init_2 : decode cX5_init 2 = .ok (.invokespecial 1, 3) := dk_183 0 1 (dk_at dksX5_init_0 2 rfl rfl)
theorem dX5_init_5 : decode cX5_init 5 = .ok (.aload_n 0, 1) := dk_42 (dk_at dksX5_init_0 5 rfl rfl)
theorem dX5_init_6 : decode cX5_init 6 = .ok (.new 7, 3) := dk_187 0 7 (dk_at dksX5_init_0 6 rfl rfl)
theorem dX5_init_9 : decode cX5_init 9 = .ok (.dup, 1) := dk_89 (dk_at dksX5_init_0 9 rfl rfl)
theorem dX5_init_10 : decode cX5_init 10 = .ok (.invokespecial 9, 3) := dk_183 0 9 (dk_at dksX5_init_0 10 rfl rfl)
theorem dX5_init_13 : decode cX5_init 13 = .ok (.putfield 12, 3) := dk_181 0 12 (dk_at dksX5_init_0 13 rfl rfl)
theorem dX5_init_16 : decode cX5_init 16 = .ok (.return_, 1) := dk_177 (dk_at dksX5_init_0 16 rfl rfl)
abbrev cX5_names : ByteArray := prog_11_method_7_code
def yX5_names : MethodName := ⟨RX5, "names", "(Ljava/util/ArrayList;)V"⟩
def dkwX5_names_1 : List UInt8 := [43, 182, 0, 90, 132, 2, 1, 167, 255, 227, 177]
abbrev dktX5_names_1 : List UInt8 := dkwX5_names_1 ++ []
def dkwX5_names_0 : List UInt8 := [3, 61, 28, 42, 180, 0, 12, 182, 0, 24, 162, 0, 24, 42, 180, 0, 12, 28, 182, 0, 28, 192, 0, 2]
abbrev dktX5_names_0 : List UInt8 := dkwX5_names_0 ++ dktX5_names_1
theorem dksX5_names_0 : cX5_names.data.toList.drop 0 = dktX5_names_0 := by decide +kernel
theorem dksX5_names_1 : cX5_names.data.toList.drop 24 = dktX5_names_1 := dk_seg dksX5_names_0 24 rfl rfl
theorem dX5_names_0 : decode cX5_names 0 = .ok (.iconst 0, 1) := dk_3 (dk_at dksX5_names_0 0 rfl rfl)
theorem dX5_names_1 : decode cX5_names 1 = .ok (.istore_n 2, 1) := dk_61 (dk_at dksX5_names_0 1 rfl rfl)
theorem dX5_names_2 : decode cX5_names 2 = .ok (.iload_n 2, 1) := dk_28 (dk_at dksX5_names_0 2 rfl rfl)
theorem dX5_names_3 : decode cX5_names 3 = .ok (.aload_n 0, 1) := dk_42 (dk_at dksX5_names_0 3 rfl rfl)
theorem dX5_names_4 : decode cX5_names 4 = .ok (.getfield 12, 3) := dk_180 0 12 (dk_at dksX5_names_0 4 rfl rfl)
theorem dX5_names_7 : decode cX5_names 7 = .ok (.invokevirtual 24, 3) := dk_182 0 24 (dk_at dksX5_names_0 7 rfl rfl)
theorem dX5_names_10 : decode cX5_names 10 = .ok (.if_icmp .ge 24, 3) := dk_162 0 24 (dk_at dksX5_names_0 10 rfl rfl)
theorem dX5_names_13 : decode cX5_names 13 = .ok (.aload_n 0, 1) := dk_42 (dk_at dksX5_names_0 13 rfl rfl)
theorem dX5_names_14 : decode cX5_names 14 = .ok (.getfield 12, 3) := dk_180 0 12 (dk_at dksX5_names_0 14 rfl rfl)
theorem dX5_names_17 : decode cX5_names 17 = .ok (.iload_n 2, 1) := dk_28 (dk_at dksX5_names_0 17 rfl rfl)
theorem dX5_names_18 : decode cX5_names 18 = .ok (.invokevirtual 28, 3) := dk_182 0 28 (dk_at dksX5_names_0 18 rfl rfl)
theorem dX5_names_21 : decode cX5_names 21 = .ok (.checkcast 2, 3) := dk_192 0 2 (dk_at dksX5_names_0 21 rfl rfl)
theorem dX5_names_24 : decode cX5_names 24 = .ok (.aload_n 1, 1) := dk_43 (dk_at dksX5_names_1 0 rfl rfl)
theorem dX5_names_25 : decode cX5_names 25 = .ok (.invokevirtual 90, 3) := dk_182 0 90 (dk_at dksX5_names_1 1 rfl rfl)
theorem dX5_names_28 : decode cX5_names 28 = .ok (.iinc 2 1, 3) := dk_132 2 1 (dk_at dksX5_names_1 4 rfl rfl)
theorem dX5_names_31 : decode cX5_names 31 = .ok (.goto (-29), 3) := dk_167 255 227 (dk_at dksX5_names_1 7 rfl rfl)
theorem dX5_names_34 : decode cX5_names 34 = .ok (.return_, 1) := dk_177 (dk_at dksX5_names_1 10 rfl rfl)
abbrev cX5_fits : ByteArray := prog_11_method_3_code
def yX5_fits : MethodName := ⟨RX5, "fits", "(LMacroGlass$List;ILjava/util/ArrayList;)Z"⟩
def dkwX5_fits_6 : List UInt8 := [167, 0, 4, 3, 172]
abbrev dktX5_fits_6 : List UInt8 := dkwX5_fits_6 ++ []
def dkwX5_fits_5 : List UInt8 := [132, 4, 1, 132, 5, 1, 167, 255, 138, 21, 4, 43, 180, 0, 46, 182, 0, 24, 160, 0, 7, 4]
abbrev dktX5_fits_5 : List UInt8 := dkwX5_fits_5 ++ dktX5_fits_6
def dkwX5_fits_4 : List UInt8 := [25, 6, 43, 180, 0, 46, 21, 4, 182, 0, 28, 192, 0, 49, 45, 182, 0, 51, 154, 0, 5, 3, 172]
abbrev dktX5_fits_4 : List UInt8 := dkwX5_fits_4 ++ dktX5_fits_5
def dkwX5_fits_3 : List UInt8 := [180, 0, 46, 182, 0, 24, 54, 4, 167, 0, 41, 21, 4, 43, 180, 0, 46, 182, 0, 24, 159, 0, 24]
abbrev dktX5_fits_3 : List UInt8 := dkwX5_fits_3 ++ dktX5_fits_4
def dkwX5_fits_2 : List UInt8 := [153, 0, 35, 45, 198, 0, 19, 45, 25, 6, 192, 0, 32, 43, 21, 4, 184, 0, 38, 182, 0, 42, 87, 43]
abbrev dktX5_fits_2 : List UInt8 := dkwX5_fits_2 ++ dktX5_fits_3
def dkwX5_fits_1 : List UInt8 := [182, 0, 28, 192, 0, 2, 58, 6, 25, 6, 193, 0, 32, 153, 0, 46, 25, 6, 192, 0, 32, 180, 0, 34]
abbrev dktX5_fits_1 : List UInt8 := dkwX5_fits_1 ++ dktX5_fits_2
def dkwX5_fits_0 : List UInt8 := [28, 54, 4, 3, 54, 5, 21, 5, 42, 180, 0, 12, 182, 0, 24, 162, 0, 112, 42, 180, 0, 12, 21, 5]
abbrev dktX5_fits_0 : List UInt8 := dkwX5_fits_0 ++ dktX5_fits_1
theorem dksX5_fits_0 : cX5_fits.data.toList.drop 0 = dktX5_fits_0 := by decide +kernel
theorem dksX5_fits_1 : cX5_fits.data.toList.drop 24 = dktX5_fits_1 := dk_seg dksX5_fits_0 24 rfl rfl
theorem dksX5_fits_2 : cX5_fits.data.toList.drop 48 = dktX5_fits_2 := dk_seg dksX5_fits_1 24 rfl rfl
theorem dksX5_fits_3 : cX5_fits.data.toList.drop 72 = dktX5_fits_3 := dk_seg dksX5_fits_2 24 rfl rfl
theorem dksX5_fits_4 : cX5_fits.data.toList.drop 95 = dktX5_fits_4 := dk_seg dksX5_fits_3 23 rfl rfl
theorem dksX5_fits_5 : cX5_fits.data.toList.drop 118 = dktX5_fits_5 := dk_seg dksX5_fits_4 23 rfl rfl
theorem dksX5_fits_6 : cX5_fits.data.toList.drop 140 = dktX5_fits_6 := dk_seg dksX5_fits_5 22 rfl rfl
theorem dX5_fits_0 : decode cX5_fits 0 = .ok (.iload_n 2, 1) := dk_28 (dk_at dksX5_fits_0 0 rfl rfl)
theorem dX5_fits_1 : decode cX5_fits 1 = .ok (.istore 4, 2) := dk_54 4 (dk_at dksX5_fits_0 1 rfl rfl)
theorem dX5_fits_3 : decode cX5_fits 3 = .ok (.iconst 0, 1) := dk_3 (dk_at dksX5_fits_0 3 rfl rfl)
theorem dX5_fits_4 : decode cX5_fits 4 = .ok (.istore 5, 2) := dk_54 5 (dk_at dksX5_fits_0 4 rfl rfl)
theorem dX5_fits_6 : decode cX5_fits 6 = .ok (.iload 5, 2) := dk_21 5 (dk_at dksX5_fits_0 6 rfl rfl)
theorem dX5_fits_8 : decode cX5_fits 8 = .ok (.aload_n 0, 1) := dk_42 (dk_at dksX5_fits_0 8 rfl rfl)
theorem dX5_fits_9 : decode cX5_fits 9 = .ok (.getfield 12, 3) := dk_180 0 12 (dk_at dksX5_fits_0 9 rfl rfl)
theorem dX5_fits_12 : decode cX5_fits 12 = .ok (.invokevirtual 24, 3) := dk_182 0 24 (dk_at dksX5_fits_0 12 rfl rfl)
theorem dX5_fits_15 : decode cX5_fits 15 = .ok (.if_icmp .ge 112, 3) := dk_162 0 112 (dk_at dksX5_fits_0 15 rfl rfl)
theorem dX5_fits_18 : decode cX5_fits 18 = .ok (.aload_n 0, 1) := dk_42 (dk_at dksX5_fits_0 18 rfl rfl)
theorem dX5_fits_19 : decode cX5_fits 19 = .ok (.getfield 12, 3) := dk_180 0 12 (dk_at dksX5_fits_0 19 rfl rfl)
theorem dX5_fits_22 : decode cX5_fits 22 = .ok (.iload 5, 2) := dk_21 5 (dk_at dksX5_fits_0 22 rfl rfl)
theorem dX5_fits_24 : decode cX5_fits 24 = .ok (.invokevirtual 28, 3) := dk_182 0 28 (dk_at dksX5_fits_1 0 rfl rfl)
theorem dX5_fits_27 : decode cX5_fits 27 = .ok (.checkcast 2, 3) := dk_192 0 2 (dk_at dksX5_fits_1 3 rfl rfl)
theorem dX5_fits_30 : decode cX5_fits 30 = .ok (.astore 6, 2) := dk_58 6 (dk_at dksX5_fits_1 6 rfl rfl)
theorem dX5_fits_32 : decode cX5_fits 32 = .ok (.aload 6, 2) := dk_25 6 (dk_at dksX5_fits_1 8 rfl rfl)
theorem dX5_fits_34 : decode cX5_fits 34 = .ok (.instanceof 32, 3) := dk_193 0 32 (dk_at dksX5_fits_1 10 rfl rfl)
theorem dX5_fits_37 : decode cX5_fits 37 = .ok (.ifCond .eq 46, 3) := dk_153 0 46 (dk_at dksX5_fits_1 13 rfl rfl)
theorem dX5_fits_40 : decode cX5_fits 40 = .ok (.aload 6, 2) := dk_25 6 (dk_at dksX5_fits_1 16 rfl rfl)
theorem dX5_fits_42 : decode cX5_fits 42 = .ok (.checkcast 32, 3) := dk_192 0 32 (dk_at dksX5_fits_1 18 rfl rfl)
theorem dX5_fits_45 : decode cX5_fits 45 = .ok (.getfield 34, 3) := dk_180 0 34 (dk_at dksX5_fits_1 21 rfl rfl)
theorem dX5_fits_48 : decode cX5_fits 48 = .ok (.ifCond .eq 35, 3) := dk_153 0 35 (dk_at dksX5_fits_2 0 rfl rfl)
theorem dX5_fits_51 : decode cX5_fits 51 = .ok (.aload_n 3, 1) := dk_45 (dk_at dksX5_fits_2 3 rfl rfl)
theorem dX5_fits_52 : decode cX5_fits 52 = .ok (.ifnull 19, 3) := dk_198 0 19 (dk_at dksX5_fits_2 4 rfl rfl)
theorem dX5_fits_55 : decode cX5_fits 55 = .ok (.aload_n 3, 1) := dk_45 (dk_at dksX5_fits_2 7 rfl rfl)
theorem dX5_fits_56 : decode cX5_fits 56 = .ok (.aload 6, 2) := dk_25 6 (dk_at dksX5_fits_2 8 rfl rfl)
theorem dX5_fits_58 : decode cX5_fits 58 = .ok (.checkcast 32, 3) := dk_192 0 32 (dk_at dksX5_fits_2 10 rfl rfl)
theorem dX5_fits_61 : decode cX5_fits 61 = .ok (.aload_n 1, 1) := dk_43 (dk_at dksX5_fits_2 13 rfl rfl)
theorem dX5_fits_62 : decode cX5_fits 62 = .ok (.iload 4, 2) := dk_21 4 (dk_at dksX5_fits_2 14 rfl rfl)
theorem dX5_fits_64 : decode cX5_fits 64 = .ok (.invokestatic 38, 3) := dk_184 0 38 (dk_at dksX5_fits_2 16 rfl rfl)
theorem dX5_fits_67 : decode cX5_fits 67 = .ok (.invokevirtual 42, 3) := dk_182 0 42 (dk_at dksX5_fits_2 19 rfl rfl)
theorem dX5_fits_70 : decode cX5_fits 70 = .ok (.pop, 1) := dk_87 (dk_at dksX5_fits_2 22 rfl rfl)
theorem dX5_fits_71 : decode cX5_fits 71 = .ok (.aload_n 1, 1) := dk_43 (dk_at dksX5_fits_2 23 rfl rfl)
theorem dX5_fits_72 : decode cX5_fits 72 = .ok (.getfield 46, 3) := dk_180 0 46 (dk_at dksX5_fits_3 0 rfl rfl)
theorem dX5_fits_75 : decode cX5_fits 75 = .ok (.invokevirtual 24, 3) := dk_182 0 24 (dk_at dksX5_fits_3 3 rfl rfl)
theorem dX5_fits_78 : decode cX5_fits 78 = .ok (.istore 4, 2) := dk_54 4 (dk_at dksX5_fits_3 6 rfl rfl)
theorem dX5_fits_80 : decode cX5_fits 80 = .ok (.goto 41, 3) := dk_167 0 41 (dk_at dksX5_fits_3 8 rfl rfl)
theorem dX5_fits_83 : decode cX5_fits 83 = .ok (.iload 4, 2) := dk_21 4 (dk_at dksX5_fits_3 11 rfl rfl)
theorem dX5_fits_85 : decode cX5_fits 85 = .ok (.aload_n 1, 1) := dk_43 (dk_at dksX5_fits_3 13 rfl rfl)
theorem dX5_fits_86 : decode cX5_fits 86 = .ok (.getfield 46, 3) := dk_180 0 46 (dk_at dksX5_fits_3 14 rfl rfl)
theorem dX5_fits_89 : decode cX5_fits 89 = .ok (.invokevirtual 24, 3) := dk_182 0 24 (dk_at dksX5_fits_3 17 rfl rfl)
theorem dX5_fits_92 : decode cX5_fits 92 = .ok (.if_icmp .eq 24, 3) := dk_159 0 24 (dk_at dksX5_fits_3 20 rfl rfl)
theorem dX5_fits_95 : decode cX5_fits 95 = .ok (.aload 6, 2) := dk_25 6 (dk_at dksX5_fits_4 0 rfl rfl)
theorem dX5_fits_97 : decode cX5_fits 97 = .ok (.aload_n 1, 1) := dk_43 (dk_at dksX5_fits_4 2 rfl rfl)
theorem dX5_fits_98 : decode cX5_fits 98 = .ok (.getfield 46, 3) := dk_180 0 46 (dk_at dksX5_fits_4 3 rfl rfl)
theorem dX5_fits_101 : decode cX5_fits 101 = .ok (.iload 4, 2) := dk_21 4 (dk_at dksX5_fits_4 6 rfl rfl)
theorem dX5_fits_103 : decode cX5_fits 103 = .ok (.invokevirtual 28, 3) := dk_182 0 28 (dk_at dksX5_fits_4 8 rfl rfl)
theorem dX5_fits_106 : decode cX5_fits 106 = .ok (.checkcast 49, 3) := dk_192 0 49 (dk_at dksX5_fits_4 11 rfl rfl)
theorem dX5_fits_109 : decode cX5_fits 109 = .ok (.aload_n 3, 1) := dk_45 (dk_at dksX5_fits_4 14 rfl rfl)
theorem dX5_fits_110 : decode cX5_fits 110 = .ok (.invokevirtual 51, 3) := dk_182 0 51 (dk_at dksX5_fits_4 15 rfl rfl)
theorem dX5_fits_113 : decode cX5_fits 113 = .ok (.ifCond .ne 5, 3) := dk_154 0 5 (dk_at dksX5_fits_4 18 rfl rfl)
theorem dX5_fits_116 : decode cX5_fits 116 = .ok (.iconst 0, 1) := dk_3 (dk_at dksX5_fits_4 21 rfl rfl)
theorem dX5_fits_117 : decode cX5_fits 117 = .ok (.ireturn, 1) := dk_172 (dk_at dksX5_fits_4 22 rfl rfl)
theorem dX5_fits_118 : decode cX5_fits 118 = .ok (.iinc 4 1, 3) := dk_132 4 1 (dk_at dksX5_fits_5 0 rfl rfl)
theorem dX5_fits_121 : decode cX5_fits 121 = .ok (.iinc 5 1, 3) := dk_132 5 1 (dk_at dksX5_fits_5 3 rfl rfl)
theorem dX5_fits_124 : decode cX5_fits 124 = .ok (.goto (-118), 3) := dk_167 255 138 (dk_at dksX5_fits_5 6 rfl rfl)
theorem dX5_fits_127 : decode cX5_fits 127 = .ok (.iload 4, 2) := dk_21 4 (dk_at dksX5_fits_5 9 rfl rfl)
theorem dX5_fits_129 : decode cX5_fits 129 = .ok (.aload_n 1, 1) := dk_43 (dk_at dksX5_fits_5 11 rfl rfl)
theorem dX5_fits_130 : decode cX5_fits 130 = .ok (.getfield 46, 3) := dk_180 0 46 (dk_at dksX5_fits_5 12 rfl rfl)
theorem dX5_fits_133 : decode cX5_fits 133 = .ok (.invokevirtual 24, 3) := dk_182 0 24 (dk_at dksX5_fits_5 15 rfl rfl)
theorem dX5_fits_136 : decode cX5_fits 136 = .ok (.if_icmp .ne 7, 3) := dk_160 0 7 (dk_at dksX5_fits_5 18 rfl rfl)
theorem dX5_fits_139 : decode cX5_fits 139 = .ok (.iconst 1, 1) := dk_4 (dk_at dksX5_fits_5 21 rfl rfl)
theorem dX5_fits_140 : decode cX5_fits 140 = .ok (.goto 4, 3) := dk_167 0 4 (dk_at dksX5_fits_6 0 rfl rfl)
theorem dX5_fits_143 : decode cX5_fits 143 = .ok (.iconst 0, 1) := dk_3 (dk_at dksX5_fits_6 3 rfl rfl)
theorem dX5_fits_144 : decode cX5_fits 144 = .ok (.ireturn, 1) := dk_172 (dk_at dksX5_fits_6 4 rfl rfl)
abbrev cX5_rest : ByteArray := prog_11_method_4_code
def yX5_rest : MethodName := ⟨RX5, "rest", "(LMacroGlass$Var;LMacroGlass$List;I)LMacroGlass$Fit;"⟩
def dkwX5_rest_2 : List UInt8 := [132, 4, 1, 167, 255, 221, 45, 176]
abbrev dktX5_rest_2 : List UInt8 := dkwX5_rest_2 ++ []
def dkwX5_rest_1 : List UInt8 := [162, 0, 29, 45, 180, 0, 63, 43, 180, 0, 46, 21, 4, 182, 0, 28, 192, 0, 49, 182, 0, 42, 87]
abbrev dktX5_rest_1 : List UInt8 := dkwX5_rest_1 ++ dktX5_rest_2
def dkwX5_rest_0 : List UInt8 := [187, 0, 54, 89, 42, 180, 0, 56, 183, 0, 60, 78, 28, 54, 4, 21, 4, 43, 180, 0, 46, 182, 0, 24]
abbrev dktX5_rest_0 : List UInt8 := dkwX5_rest_0 ++ dktX5_rest_1
theorem dksX5_rest_0 : cX5_rest.data.toList.drop 0 = dktX5_rest_0 := by decide +kernel
theorem dksX5_rest_1 : cX5_rest.data.toList.drop 24 = dktX5_rest_1 := dk_seg dksX5_rest_0 24 rfl rfl
theorem dksX5_rest_2 : cX5_rest.data.toList.drop 47 = dktX5_rest_2 := dk_seg dksX5_rest_1 23 rfl rfl
theorem dX5_rest_0 : decode cX5_rest 0 = .ok (.new 54, 3) := dk_187 0 54 (dk_at dksX5_rest_0 0 rfl rfl)
theorem dX5_rest_3 : decode cX5_rest 3 = .ok (.dup, 1) := dk_89 (dk_at dksX5_rest_0 3 rfl rfl)
theorem dX5_rest_4 : decode cX5_rest 4 = .ok (.aload_n 0, 1) := dk_42 (dk_at dksX5_rest_0 4 rfl rfl)
theorem dX5_rest_5 : decode cX5_rest 5 = .ok (.getfield 56, 3) := dk_180 0 56 (dk_at dksX5_rest_0 5 rfl rfl)
theorem dX5_rest_8 : decode cX5_rest 8 = .ok (.invokespecial 60, 3) := dk_183 0 60 (dk_at dksX5_rest_0 8 rfl rfl)
theorem dX5_rest_11 : decode cX5_rest 11 = .ok (.astore_n 3, 1) := dk_78 (dk_at dksX5_rest_0 11 rfl rfl)
theorem dX5_rest_12 : decode cX5_rest 12 = .ok (.iload_n 2, 1) := dk_28 (dk_at dksX5_rest_0 12 rfl rfl)
theorem dX5_rest_13 : decode cX5_rest 13 = .ok (.istore 4, 2) := dk_54 4 (dk_at dksX5_rest_0 13 rfl rfl)
theorem dX5_rest_15 : decode cX5_rest 15 = .ok (.iload 4, 2) := dk_21 4 (dk_at dksX5_rest_0 15 rfl rfl)
theorem dX5_rest_17 : decode cX5_rest 17 = .ok (.aload_n 1, 1) := dk_43 (dk_at dksX5_rest_0 17 rfl rfl)
theorem dX5_rest_18 : decode cX5_rest 18 = .ok (.getfield 46, 3) := dk_180 0 46 (dk_at dksX5_rest_0 18 rfl rfl)
theorem dX5_rest_21 : decode cX5_rest 21 = .ok (.invokevirtual 24, 3) := dk_182 0 24 (dk_at dksX5_rest_0 21 rfl rfl)
theorem dX5_rest_24 : decode cX5_rest 24 = .ok (.if_icmp .ge 29, 3) := dk_162 0 29 (dk_at dksX5_rest_1 0 rfl rfl)
theorem dX5_rest_27 : decode cX5_rest 27 = .ok (.aload_n 3, 1) := dk_45 (dk_at dksX5_rest_1 3 rfl rfl)
theorem dX5_rest_28 : decode cX5_rest 28 = .ok (.getfield 63, 3) := dk_180 0 63 (dk_at dksX5_rest_1 4 rfl rfl)
theorem dX5_rest_31 : decode cX5_rest 31 = .ok (.aload_n 1, 1) := dk_43 (dk_at dksX5_rest_1 7 rfl rfl)
theorem dX5_rest_32 : decode cX5_rest 32 = .ok (.getfield 46, 3) := dk_180 0 46 (dk_at dksX5_rest_1 8 rfl rfl)
theorem dX5_rest_35 : decode cX5_rest 35 = .ok (.iload 4, 2) := dk_21 4 (dk_at dksX5_rest_1 11 rfl rfl)
theorem dX5_rest_37 : decode cX5_rest 37 = .ok (.invokevirtual 28, 3) := dk_182 0 28 (dk_at dksX5_rest_1 13 rfl rfl)
theorem dX5_rest_40 : decode cX5_rest 40 = .ok (.checkcast 49, 3) := dk_192 0 49 (dk_at dksX5_rest_1 16 rfl rfl)
theorem dX5_rest_43 : decode cX5_rest 43 = .ok (.invokevirtual 42, 3) := dk_182 0 42 (dk_at dksX5_rest_1 19 rfl rfl)
theorem dX5_rest_46 : decode cX5_rest 46 = .ok (.pop, 1) := dk_87 (dk_at dksX5_rest_1 22 rfl rfl)
theorem dX5_rest_47 : decode cX5_rest 47 = .ok (.iinc 4 1, 3) := dk_132 4 1 (dk_at dksX5_rest_2 0 rfl rfl)
theorem dX5_rest_50 : decode cX5_rest 50 = .ok (.goto (-35), 3) := dk_167 255 221 (dk_at dksX5_rest_2 3 rfl rfl)
theorem dX5_rest_53 : decode cX5_rest 53 = .ok (.aload_n 3, 1) := dk_45 (dk_at dksX5_rest_2 6 rfl rfl)
theorem dX5_rest_54 : decode cX5_rest 54 = .ok (.areturn, 1) := dk_176 (dk_at dksX5_rest_2 7 rfl rfl)
abbrev cX5_fits_2 : ByteArray := prog_11_method_2_code
def yX5_fits_2 : MethodName := ⟨RX5, "fits", "(LMacroGlass$Item;Ljava/util/ArrayList;)Z"⟩
def dkwX5_fits_2_1 : List UInt8 := [3, 172]
abbrev dktX5_fits_2_1 : List UInt8 := dkwX5_fits_2_1 ++ []
def dkwX5_fits_2_0 : List UInt8 := [43, 193, 0, 18, 153, 0, 20, 42, 43, 192, 0, 18, 3, 44, 182, 0, 20, 153, 0, 7, 4, 167, 0, 4]
abbrev dktX5_fits_2_0 : List UInt8 := dkwX5_fits_2_0 ++ dktX5_fits_2_1
theorem dksX5_fits_2_0 : cX5_fits_2.data.toList.drop 0 = dktX5_fits_2_0 := by decide +kernel
theorem dksX5_fits_2_1 : cX5_fits_2.data.toList.drop 24 = dktX5_fits_2_1 := dk_seg dksX5_fits_2_0 24 rfl rfl
theorem dX5_fits_2_0 : decode cX5_fits_2 0 = .ok (.aload_n 1, 1) := dk_43 (dk_at dksX5_fits_2_0 0 rfl rfl)
theorem dX5_fits_2_1 : decode cX5_fits_2 1 = .ok (.instanceof 18, 3) := dk_193 0 18 (dk_at dksX5_fits_2_0 1 rfl rfl)
theorem dX5_fits_2_4 : decode cX5_fits_2 4 = .ok (.ifCond .eq 20, 3) := dk_153 0 20 (dk_at dksX5_fits_2_0 4 rfl rfl)
theorem dX5_fits_2_7 : decode cX5_fits_2 7 = .ok (.aload_n 0, 1) := dk_42 (dk_at dksX5_fits_2_0 7 rfl rfl)
theorem dX5_fits_2_8 : decode cX5_fits_2 8 = .ok (.aload_n 1, 1) := dk_43 (dk_at dksX5_fits_2_0 8 rfl rfl)
theorem dX5_fits_2_9 : decode cX5_fits_2 9 = .ok (.checkcast 18, 3) := dk_192 0 18 (dk_at dksX5_fits_2_0 9 rfl rfl)
theorem dX5_fits_2_12 : decode cX5_fits_2 12 = .ok (.iconst 0, 1) := dk_3 (dk_at dksX5_fits_2_0 12 rfl rfl)
theorem dX5_fits_2_13 : decode cX5_fits_2 13 = .ok (.aload_n 2, 1) := dk_44 (dk_at dksX5_fits_2_0 13 rfl rfl)
theorem dX5_fits_2_14 : decode cX5_fits_2 14 = .ok (.invokevirtual 20, 3) := dk_182 0 20 (dk_at dksX5_fits_2_0 14 rfl rfl)
theorem dX5_fits_2_17 : decode cX5_fits_2 17 = .ok (.ifCond .eq 7, 3) := dk_153 0 7 (dk_at dksX5_fits_2_0 17 rfl rfl)
theorem dX5_fits_2_20 : decode cX5_fits_2 20 = .ok (.iconst 1, 1) := dk_4 (dk_at dksX5_fits_2_0 20 rfl rfl)
theorem dX5_fits_2_21 : decode cX5_fits_2 21 = .ok (.goto 4, 3) := dk_167 0 4 (dk_at dksX5_fits_2_0 21 rfl rfl)
theorem dX5_fits_2_24 : decode cX5_fits_2 24 = .ok (.iconst 0, 1) := dk_3 (dk_at dksX5_fits_2_1 0 rfl rfl)
theorem dX5_fits_2_25 : decode cX5_fits_2 25 = .ok (.ireturn, 1) := dk_172 (dk_at dksX5_fits_2_1 1 rfl rfl)
abbrev cX5_makes : ByteArray := prog_11_method_5_code
def yX5_makes : MethodName := ⟨RX5, "makes", "(LMacroGlass$Build;)I"⟩
def dkwX5_makes_1 : List UInt8 := [192, 0, 2, 43, 182, 0, 64, 96, 61, 132, 3, 1, 167, 255, 224, 28, 172]
abbrev dktX5_makes_1 : List UInt8 := dkwX5_makes_1 ++ []
def dkwX5_makes_0 : List UInt8 := [4, 61, 3, 62, 29, 42, 180, 0, 12, 182, 0, 24, 162, 0, 27, 28, 42, 180, 0, 12, 29, 182, 0, 28]
abbrev dktX5_makes_0 : List UInt8 := dkwX5_makes_0 ++ dktX5_makes_1
theorem dksX5_makes_0 : cX5_makes.data.toList.drop 0 = dktX5_makes_0 := by decide +kernel
theorem dksX5_makes_1 : cX5_makes.data.toList.drop 24 = dktX5_makes_1 := dk_seg dksX5_makes_0 24 rfl rfl
theorem dX5_makes_0 : decode cX5_makes 0 = .ok (.iconst 1, 1) := dk_4 (dk_at dksX5_makes_0 0 rfl rfl)
theorem dX5_makes_1 : decode cX5_makes 1 = .ok (.istore_n 2, 1) := dk_61 (dk_at dksX5_makes_0 1 rfl rfl)
theorem dX5_makes_2 : decode cX5_makes 2 = .ok (.iconst 0, 1) := dk_3 (dk_at dksX5_makes_0 2 rfl rfl)
theorem dX5_makes_3 : decode cX5_makes 3 = .ok (.istore_n 3, 1) := dk_62 (dk_at dksX5_makes_0 3 rfl rfl)
theorem dX5_makes_4 : decode cX5_makes 4 = .ok (.iload_n 3, 1) := dk_29 (dk_at dksX5_makes_0 4 rfl rfl)
theorem dX5_makes_5 : decode cX5_makes 5 = .ok (.aload_n 0, 1) := dk_42 (dk_at dksX5_makes_0 5 rfl rfl)
theorem dX5_makes_6 : decode cX5_makes 6 = .ok (.getfield 12, 3) := dk_180 0 12 (dk_at dksX5_makes_0 6 rfl rfl)
theorem dX5_makes_9 : decode cX5_makes 9 = .ok (.invokevirtual 24, 3) := dk_182 0 24 (dk_at dksX5_makes_0 9 rfl rfl)
theorem dX5_makes_12 : decode cX5_makes 12 = .ok (.if_icmp .ge 27, 3) := dk_162 0 27 (dk_at dksX5_makes_0 12 rfl rfl)
theorem dX5_makes_15 : decode cX5_makes 15 = .ok (.iload_n 2, 1) := dk_28 (dk_at dksX5_makes_0 15 rfl rfl)
theorem dX5_makes_16 : decode cX5_makes 16 = .ok (.aload_n 0, 1) := dk_42 (dk_at dksX5_makes_0 16 rfl rfl)
theorem dX5_makes_17 : decode cX5_makes 17 = .ok (.getfield 12, 3) := dk_180 0 12 (dk_at dksX5_makes_0 17 rfl rfl)
theorem dX5_makes_20 : decode cX5_makes 20 = .ok (.iload_n 3, 1) := dk_29 (dk_at dksX5_makes_0 20 rfl rfl)
theorem dX5_makes_21 : decode cX5_makes 21 = .ok (.invokevirtual 28, 3) := dk_182 0 28 (dk_at dksX5_makes_0 21 rfl rfl)
theorem dX5_makes_24 : decode cX5_makes 24 = .ok (.checkcast 2, 3) := dk_192 0 2 (dk_at dksX5_makes_1 0 rfl rfl)
theorem dX5_makes_27 : decode cX5_makes 27 = .ok (.aload_n 1, 1) := dk_43 (dk_at dksX5_makes_1 3 rfl rfl)
theorem dX5_makes_28 : decode cX5_makes 28 = .ok (.invokevirtual 64, 3) := dk_182 0 64 (dk_at dksX5_makes_1 4 rfl rfl)
theorem dX5_makes_31 : decode cX5_makes 31 = .ok (.iadd, 1) := dk_96 (dk_at dksX5_makes_1 7 rfl rfl)
theorem dX5_makes_32 : decode cX5_makes 32 = .ok (.istore_n 2, 1) := dk_61 (dk_at dksX5_makes_1 8 rfl rfl)
theorem dX5_makes_33 : decode cX5_makes 33 = .ok (.iinc 3 1, 3) := dk_132 3 1 (dk_at dksX5_makes_1 9 rfl rfl)
theorem dX5_makes_36 : decode cX5_makes 36 = .ok (.goto (-32), 3) := dk_167 255 224 (dk_at dksX5_makes_1 12 rfl rfl)
theorem dX5_makes_39 : decode cX5_makes 39 = .ok (.iload_n 2, 1) := dk_28 (dk_at dksX5_makes_1 15 rfl rfl)
theorem dX5_makes_40 : decode cX5_makes 40 = .ok (.ireturn, 1) := dk_172 (dk_at dksX5_makes_1 16 rfl rfl)
abbrev cX5_build : ByteArray := prog_11_method_6_code
def yX5_build : MethodName := ⟨RX5, "build", "(LMacroGlass$Build;LMacroGlass$List;)V"⟩
def dkwX5_build_2 : List UInt8 := [182, 0, 80, 132, 4, 1, 167, 255, 224, 45, 182, 0, 84, 44, 45, 182, 0, 87, 177]
abbrev dktX5_build_2 : List UInt8 := dkwX5_build_2 ++ []
def dkwX5_build_1 : List UInt8 := [180, 0, 12, 182, 0, 24, 162, 0, 26, 42, 180, 0, 12, 21, 4, 182, 0, 28, 192, 0, 2, 43, 45]
abbrev dktX5_build_1 : List UInt8 := dkwX5_build_1 ++ dktX5_build_2
def dkwX5_build_0 : List UInt8 := [187, 0, 18, 89, 42, 180, 0, 68, 43, 180, 0, 72, 183, 0, 77, 78, 3, 54, 4, 21, 4, 42]
abbrev dktX5_build_0 : List UInt8 := dkwX5_build_0 ++ dktX5_build_1
theorem dksX5_build_0 : cX5_build.data.toList.drop 0 = dktX5_build_0 := by decide +kernel
theorem dksX5_build_1 : cX5_build.data.toList.drop 22 = dktX5_build_1 := dk_seg dksX5_build_0 22 rfl rfl
theorem dksX5_build_2 : cX5_build.data.toList.drop 45 = dktX5_build_2 := dk_seg dksX5_build_1 23 rfl rfl
theorem dX5_build_0 : decode cX5_build 0 = .ok (.new 18, 3) := dk_187 0 18 (dk_at dksX5_build_0 0 rfl rfl)
theorem dX5_build_3 : decode cX5_build 3 = .ok (.dup, 1) := dk_89 (dk_at dksX5_build_0 3 rfl rfl)
theorem dX5_build_4 : decode cX5_build 4 = .ok (.aload_n 0, 1) := dk_42 (dk_at dksX5_build_0 4 rfl rfl)
theorem dX5_build_5 : decode cX5_build 5 = .ok (.getfield 68, 3) := dk_180 0 68 (dk_at dksX5_build_0 5 rfl rfl)
theorem dX5_build_8 : decode cX5_build 8 = .ok (.aload_n 1, 1) := dk_43 (dk_at dksX5_build_0 8 rfl rfl)
theorem dX5_build_9 : decode cX5_build 9 = .ok (.getfield 72, 3) := dk_180 0 72 (dk_at dksX5_build_0 9 rfl rfl)
theorem dX5_build_12 : decode cX5_build 12 = .ok (.invokespecial 77, 3) := dk_183 0 77 (dk_at dksX5_build_0 12 rfl rfl)
theorem dX5_build_15 : decode cX5_build 15 = .ok (.astore_n 3, 1) := dk_78 (dk_at dksX5_build_0 15 rfl rfl)
theorem dX5_build_16 : decode cX5_build 16 = .ok (.iconst 0, 1) := dk_3 (dk_at dksX5_build_0 16 rfl rfl)
theorem dX5_build_17 : decode cX5_build 17 = .ok (.istore 4, 2) := dk_54 4 (dk_at dksX5_build_0 17 rfl rfl)
theorem dX5_build_19 : decode cX5_build 19 = .ok (.iload 4, 2) := dk_21 4 (dk_at dksX5_build_0 19 rfl rfl)
theorem dX5_build_21 : decode cX5_build 21 = .ok (.aload_n 0, 1) := dk_42 (dk_at dksX5_build_0 21 rfl rfl)
theorem dX5_build_22 : decode cX5_build 22 = .ok (.getfield 12, 3) := dk_180 0 12 (dk_at dksX5_build_1 0 rfl rfl)
theorem dX5_build_25 : decode cX5_build 25 = .ok (.invokevirtual 24, 3) := dk_182 0 24 (dk_at dksX5_build_1 3 rfl rfl)
theorem dX5_build_28 : decode cX5_build 28 = .ok (.if_icmp .ge 26, 3) := dk_162 0 26 (dk_at dksX5_build_1 6 rfl rfl)
theorem dX5_build_31 : decode cX5_build 31 = .ok (.aload_n 0, 1) := dk_42 (dk_at dksX5_build_1 9 rfl rfl)
theorem dX5_build_32 : decode cX5_build 32 = .ok (.getfield 12, 3) := dk_180 0 12 (dk_at dksX5_build_1 10 rfl rfl)
theorem dX5_build_35 : decode cX5_build 35 = .ok (.iload 4, 2) := dk_21 4 (dk_at dksX5_build_1 13 rfl rfl)
theorem dX5_build_37 : decode cX5_build 37 = .ok (.invokevirtual 28, 3) := dk_182 0 28 (dk_at dksX5_build_1 15 rfl rfl)
theorem dX5_build_40 : decode cX5_build 40 = .ok (.checkcast 2, 3) := dk_192 0 2 (dk_at dksX5_build_1 18 rfl rfl)
theorem dX5_build_43 : decode cX5_build 43 = .ok (.aload_n 1, 1) := dk_43 (dk_at dksX5_build_1 21 rfl rfl)
theorem dX5_build_44 : decode cX5_build 44 = .ok (.aload_n 3, 1) := dk_45 (dk_at dksX5_build_1 22 rfl rfl)
theorem dX5_build_45 : decode cX5_build 45 = .ok (.invokevirtual 80, 3) := dk_182 0 80 (dk_at dksX5_build_2 0 rfl rfl)
theorem dX5_build_48 : decode cX5_build 48 = .ok (.iinc 4 1, 3) := dk_132 4 1 (dk_at dksX5_build_2 3 rfl rfl)
theorem dX5_build_51 : decode cX5_build 51 = .ok (.goto (-32), 3) := dk_167 255 224 (dk_at dksX5_build_2 6 rfl rfl)
theorem dX5_build_54 : decode cX5_build 54 = .ok (.aload_n 3, 1) := dk_45 (dk_at dksX5_build_2 9 rfl rfl)
theorem dX5_build_55 : decode cX5_build 55 = .ok (.invokevirtual 84, 3) := dk_182 0 84 (dk_at dksX5_build_2 10 rfl rfl)
theorem dX5_build_58 : decode cX5_build 58 = .ok (.aload_n 2, 1) := dk_44 (dk_at dksX5_build_2 13 rfl rfl)
theorem dX5_build_59 : decode cX5_build 59 = .ok (.aload_n 3, 1) := dk_45 (dk_at dksX5_build_2 14 rfl rfl)
theorem dX5_build_60 : decode cX5_build 60 = .ok (.invokevirtual 87, 3) := dk_182 0 87 (dk_at dksX5_build_2 15 rfl rfl)
theorem dX5_build_63 : decode cX5_build 63 = .ok (.return_, 1) := dk_177 (dk_at dksX5_build_2 18 rfl rfl)
theorem q81 : (Jvm.Cond.initialized "MacroGlass$Parts") ∈ lw_all := lw_g (lw_at lw_m1 16 rfl) rfl
theorem q414 : (Jvm.Cond.instantiable "MacroGlass$Parts" (2 : Nat)) ∈ lw_all := lw_g (lw_at lw_m2 109 rfl) rfl
theorem q416 : (Jvm.Cond.instanceMethod ({ cls := "MacroGlass$Parts", name := "<init>", desc := "(I)V" } : Jvm.MethodName)) ∈ lw_all := lw_g (lw_at lw_m2 111 rfl) rfl
theorem q417 : (Jvm.Cond.code ({ cls := "MacroGlass$Parts", name := "<init>", desc := "(I)V" } : Jvm.MethodName) prog_11_method_1_code (2 : Nat) (Option.none : Option Jvm.ClassFile.FieldType)) ∈ lw_all := lw_g (lw_at lw_m2 112 rfl) rfl
theorem q418 : (Jvm.Cond.methodLink "MacroGlass$Parts" (1 : Nat) ({ cls := "MacroGlass$Part", name := "<init>", desc := "(I)V" } : Jvm.MethodName)) ∈ lw_all := lw_g (lw_at lw_m2 113 rfl) rfl
theorem q422 : (Jvm.Cond.classLink "MacroGlass$Parts" (7 : Nat) "java/util/ArrayList") ∈ lw_all := lw_g (lw_at lw_m2 117 rfl) rfl
theorem q423 : (Jvm.Cond.methodLink "MacroGlass$Parts" (9 : Nat) ({ cls := "java/util/ArrayList", name := "<init>", desc := "()V" } : Jvm.MethodName)) ∈ lw_all := lw_g (lw_at lw_m2 118 rfl) rfl
theorem q424 : (Jvm.Cond.fieldLink "MacroGlass$Parts" (12 : Nat) "MacroGlass$Parts" "parts" "Ljava/util/ArrayList;") ∈ lw_all := lw_g (lw_at lw_m2 119 rfl) rfl
theorem q431 : (Jvm.Cond.fieldLink "MacroGlass$Parts" (68 : Nat) "MacroGlass$Parts" "place" "I") ∈ lw_all := lw_g (lw_at lw_m2 126 rfl) rfl
theorem q432 : (Jvm.Cond.sameField "MacroGlass$Parts" "MacroGlass$Part" "place" "I") ∈ lw_all := lw_g (lw_at lw_m2 127 rfl) rfl
theorem q434 : (Jvm.Cond.laysFinal "MacroGlass$Parts" "MacroGlass$Parts" "parts" "Ljava/util/ArrayList;") ∈ lw_all := lw_g (lw_at lw_m2 129 rfl) rfl
theorem q435 : (Jvm.Cond.soleField "MacroGlass$Parts" "parts") ∈ lw_all := lw_g (lw_at lw_m2 130 rfl) rfl
theorem q436 : (Jvm.Cond.laysFinal "MacroGlass$Parts" "MacroGlass$Part" "place" "I") ∈ lw_all := lw_g (lw_at lw_m2 131 rfl) rfl
theorem q438 : (Jvm.Cond.superclass "MacroGlass$Parts" "MacroGlass$Part") ∈ lw_all := lw_g (lw_at lw_m2 133 rfl) rfl
theorem q490 : (Jvm.Cond.selects "MacroGlass$Parts" ({ cls := "java/lang/Object", name := "getClass", desc := "()Ljava/lang/Class;" } : Jvm.MethodName) ({ cls := "java/lang/Object", name := "getClass", desc := "()Ljava/lang/Class;" } : Jvm.MethodName)) ∈ lw_all := lw_g (lw_at lw_m2 185 rfl) rfl
theorem q524 : (Jvm.Cond.fieldLink "MacroGlass$Parts" (56 : Nat) "MacroGlass$Var" "name" "J") ∈ lw_all := lw_g (lw_at lw_m2 219 rfl) rfl
theorem q527 : (Jvm.Cond.fieldLink "MacroGlass$Parts" (34 : Nat) "MacroGlass$Var" "isAll" "Z") ∈ lw_all := lw_g (lw_at lw_m2 222 rfl) rfl
theorem q594 : (Jvm.Cond.fieldLinkNest "MacroGlass$Parts" (46 : Nat) "MacroGlass$List" "items" "Ljava/util/ArrayList;" "MacroGlass") ∈ lw_tbl := lw_at lw_m3 49 rfl
theorem q735 : (Jvm.Cond.instanceMethod ({ cls := "MacroGlass$Parts", name := "names", desc := "(Ljava/util/ArrayList;)V" } : Jvm.MethodName)) ∈ lw_all := lw_g (lw_at lw_m3 190 rfl) rfl
theorem q736 : (Jvm.Cond.selects "MacroGlass$Parts" ({ cls := "MacroGlass$Parts", name := "names", desc := "(Ljava/util/ArrayList;)V" } : Jvm.MethodName) ({ cls := "MacroGlass$Parts", name := "names", desc := "(Ljava/util/ArrayList;)V" } : Jvm.MethodName)) ∈ lw_all := lw_g (lw_at lw_m3 191 rfl) rfl
theorem q737 : (Jvm.Cond.code ({ cls := "MacroGlass$Parts", name := "names", desc := "(Ljava/util/ArrayList;)V" } : Jvm.MethodName) prog_11_method_7_code (3 : Nat) (Option.none : Option Jvm.ClassFile.FieldType)) ∈ lw_all := lw_g (lw_at lw_m3 192 rfl) rfl
theorem q738 : (Jvm.Cond.methodLink "MacroGlass$Parts" (24 : Nat) ({ cls := "java/util/ArrayList", name := "size", desc := "()I" } : Jvm.MethodName)) ∈ lw_all := lw_g (lw_at lw_m3 193 rfl) rfl
theorem q739 : (Jvm.Cond.methodLink "MacroGlass$Parts" (28 : Nat) ({ cls := "java/util/ArrayList", name := "get", desc := "(I)Ljava/lang/Object;" } : Jvm.MethodName)) ∈ lw_all := lw_g (lw_at lw_m3 194 rfl) rfl
theorem q740 : (Jvm.Cond.classLink "MacroGlass$Parts" (2 : Nat) "MacroGlass$Part") ∈ lw_all := lw_g (lw_at lw_m3 195 rfl) rfl
theorem q741 : (Jvm.Cond.methodLink "MacroGlass$Parts" (90 : Nat) ({ cls := "MacroGlass$Part", name := "names", desc := "(Ljava/util/ArrayList;)V" } : Jvm.MethodName)) ∈ lw_all := lw_g (lw_at lw_m3 196 rfl) rfl
theorem q745 : (Jvm.Cond.selects "MacroGlass$Parts" ({ cls := "MacroGlass$Part", name := "names", desc := "(Ljava/util/ArrayList;)V" } : Jvm.MethodName) ({ cls := "MacroGlass$Parts", name := "names", desc := "(Ljava/util/ArrayList;)V" } : Jvm.MethodName)) ∈ lw_all := lw_g (lw_at lw_m3 200 rfl) rfl
theorem q899 : (Jvm.Cond.instanceMethod ({ cls := "MacroGlass$Parts", name := "fits", desc := "(LMacroGlass$List;ILjava/util/ArrayList;)Z" } : Jvm.MethodName)) ∈ lw_all := lw_g (lw_at lw_m4 114 rfl) rfl
theorem q900 : (Jvm.Cond.selects "MacroGlass$Parts" ({ cls := "MacroGlass$Parts", name := "fits", desc := "(LMacroGlass$List;ILjava/util/ArrayList;)Z" } : Jvm.MethodName) ({ cls := "MacroGlass$Parts", name := "fits", desc := "(LMacroGlass$List;ILjava/util/ArrayList;)Z" } : Jvm.MethodName)) ∈ lw_all := lw_g (lw_at lw_m4 115 rfl) rfl
theorem q901 : (Jvm.Cond.code ({ cls := "MacroGlass$Parts", name := "fits", desc := "(LMacroGlass$List;ILjava/util/ArrayList;)Z" } : Jvm.MethodName) prog_11_method_3_code (7 : Nat) (Option.some Jvm.ClassFile.FieldType.boolean)) ∈ lw_all := lw_g (lw_at lw_m4 116 rfl) rfl
theorem q902 : (Jvm.Cond.classLink "MacroGlass$Parts" (32 : Nat) "MacroGlass$Var") ∈ lw_all := lw_g (lw_at lw_m4 117 rfl) rfl
theorem q903 : (Jvm.Cond.methodLink "MacroGlass$Parts" (38 : Nat) ({ cls := "MacroGlass$Parts", name := "rest", desc := "(LMacroGlass$Var;LMacroGlass$List;I)LMacroGlass$Fit;" } : Jvm.MethodName)) ∈ lw_all := lw_g (lw_at lw_m4 118 rfl) rfl
theorem q904 : (Jvm.Cond.static ({ cls := "MacroGlass$Parts", name := "rest", desc := "(LMacroGlass$Var;LMacroGlass$List;I)LMacroGlass$Fit;" } : Jvm.MethodName)) ∈ lw_all := lw_g (lw_at lw_m4 119 rfl) rfl
theorem q905 : (Jvm.Cond.code ({ cls := "MacroGlass$Parts", name := "rest", desc := "(LMacroGlass$Var;LMacroGlass$List;I)LMacroGlass$Fit;" } : Jvm.MethodName) prog_11_method_4_code (5 : Nat) (Option.some (Jvm.ClassFile.FieldType.object "MacroGlass$Fit"))) ∈ lw_all := lw_g (lw_at lw_m4 120 rfl) rfl
theorem q906 : (Jvm.Cond.classLink "MacroGlass$Parts" (54 : Nat) "MacroGlass$Fit") ∈ lw_all := lw_g (lw_at lw_m4 121 rfl) rfl
theorem q908 : (Jvm.Cond.methodLink "MacroGlass$Parts" (60 : Nat) ({ cls := "MacroGlass$Fit", name := "<init>", desc := "(J)V" } : Jvm.MethodName)) ∈ lw_all := lw_g (lw_at lw_m4 123 rfl) rfl
theorem q918 : (Jvm.Cond.fieldLinkNest "MacroGlass$Parts" (63 : Nat) "MacroGlass$Fit" "items" "Ljava/util/ArrayList;" "MacroGlass") ∈ lw_tbl := lw_at lw_m4 133 rfl
theorem q924 : (Jvm.Cond.classLink "MacroGlass$Parts" (49 : Nat) "MacroGlass$Item") ∈ lw_all := lw_g (lw_at lw_m4 139 rfl) rfl
theorem q925 : (Jvm.Cond.methodLink "MacroGlass$Parts" (42 : Nat) ({ cls := "java/util/ArrayList", name := "add", desc := "(Ljava/lang/Object;)Z" } : Jvm.MethodName)) ∈ lw_all := lw_g (lw_at lw_m4 140 rfl) rfl
theorem q926 : (Jvm.Cond.methodLink "MacroGlass$Parts" (51 : Nat) ({ cls := "MacroGlass$Part", name := "fits", desc := "(LMacroGlass$Item;Ljava/util/ArrayList;)Z" } : Jvm.MethodName)) ∈ lw_all := lw_g (lw_at lw_m4 141 rfl) rfl
theorem q934 : (Jvm.Cond.selects "MacroGlass$Parts" ({ cls := "MacroGlass$Part", name := "fits", desc := "(LMacroGlass$Item;Ljava/util/ArrayList;)Z" } : Jvm.MethodName) ({ cls := "MacroGlass$Parts", name := "fits", desc := "(LMacroGlass$Item;Ljava/util/ArrayList;)Z" } : Jvm.MethodName)) ∈ lw_all := lw_g (lw_at lw_m4 149 rfl) rfl
theorem q935 : (Jvm.Cond.instanceMethod ({ cls := "MacroGlass$Parts", name := "fits", desc := "(LMacroGlass$Item;Ljava/util/ArrayList;)Z" } : Jvm.MethodName)) ∈ lw_all := lw_g (lw_at lw_m4 150 rfl) rfl
theorem q936 : (Jvm.Cond.code ({ cls := "MacroGlass$Parts", name := "fits", desc := "(LMacroGlass$Item;Ljava/util/ArrayList;)Z" } : Jvm.MethodName) prog_11_method_2_code (3 : Nat) (Option.some Jvm.ClassFile.FieldType.boolean)) ∈ lw_all := lw_g (lw_at lw_m4 151 rfl) rfl
theorem q937 : (Jvm.Cond.classLink "MacroGlass$Parts" (18 : Nat) "MacroGlass$List") ∈ lw_all := lw_g (lw_at lw_m4 152 rfl) rfl
theorem q938 : (Jvm.Cond.methodLink "MacroGlass$Parts" (20 : Nat) ({ cls := "MacroGlass$Parts", name := "fits", desc := "(LMacroGlass$List;ILjava/util/ArrayList;)Z" } : Jvm.MethodName)) ∈ lw_all := lw_g (lw_at lw_m4 153 rfl) rfl
theorem q988 : (Jvm.Cond.fieldLinkNest "MacroGlass$Parts" (72 : Nat) "MacroGlass$Build" "step" "I" "MacroGlass") ∈ lw_tbl := lw_at lw_m4 203 rfl
theorem q1004 : (Jvm.Cond.selects "MacroGlass$Parts" ({ cls := "MacroGlass$Part", name := "makes", desc := "(LMacroGlass$Build;)I" } : Jvm.MethodName) ({ cls := "MacroGlass$Parts", name := "makes", desc := "(LMacroGlass$Build;)I" } : Jvm.MethodName)) ∈ lw_all := lw_g (lw_at lw_m4 219 rfl) rfl
theorem q1005 : (Jvm.Cond.instanceMethod ({ cls := "MacroGlass$Parts", name := "makes", desc := "(LMacroGlass$Build;)I" } : Jvm.MethodName)) ∈ lw_all := lw_g (lw_at lw_m4 220 rfl) rfl
theorem q1006 : (Jvm.Cond.code ({ cls := "MacroGlass$Parts", name := "makes", desc := "(LMacroGlass$Build;)I" } : Jvm.MethodName) prog_11_method_5_code (4 : Nat) (Option.some Jvm.ClassFile.FieldType.int)) ∈ lw_all := lw_g (lw_at lw_m4 221 rfl) rfl
theorem q1007 : (Jvm.Cond.methodLink "MacroGlass$Parts" (64 : Nat) ({ cls := "MacroGlass$Part", name := "makes", desc := "(LMacroGlass$Build;)I" } : Jvm.MethodName)) ∈ lw_all := lw_g (lw_at lw_m4 222 rfl) rfl
theorem q1050 : (Jvm.Cond.selects "MacroGlass$Parts" ({ cls := "MacroGlass$Part", name := "build", desc := "(LMacroGlass$Build;LMacroGlass$List;)V" } : Jvm.MethodName) ({ cls := "MacroGlass$Parts", name := "build", desc := "(LMacroGlass$Build;LMacroGlass$List;)V" } : Jvm.MethodName)) ∈ lw_all := lw_g (lw_at lw_m5 25 rfl) rfl
theorem q1051 : (Jvm.Cond.instanceMethod ({ cls := "MacroGlass$Parts", name := "build", desc := "(LMacroGlass$Build;LMacroGlass$List;)V" } : Jvm.MethodName)) ∈ lw_all := lw_g (lw_at lw_m5 26 rfl) rfl
theorem q1052 : (Jvm.Cond.code ({ cls := "MacroGlass$Parts", name := "build", desc := "(LMacroGlass$Build;LMacroGlass$List;)V" } : Jvm.MethodName) prog_11_method_6_code (5 : Nat) (Option.none : Option Jvm.ClassFile.FieldType)) ∈ lw_all := lw_g (lw_at lw_m5 27 rfl) rfl
theorem q1053 : (Jvm.Cond.methodLink "MacroGlass$Parts" (77 : Nat) ({ cls := "MacroGlass$List", name := "<init>", desc := "(II)V" } : Jvm.MethodName)) ∈ lw_all := lw_g (lw_at lw_m5 28 rfl) rfl
theorem q1054 : (Jvm.Cond.methodLink "MacroGlass$Parts" (80 : Nat) ({ cls := "MacroGlass$Part", name := "build", desc := "(LMacroGlass$Build;LMacroGlass$List;)V" } : Jvm.MethodName)) ∈ lw_all := lw_g (lw_at lw_m5 29 rfl) rfl
theorem q1080 : (Jvm.Cond.methodLink "MacroGlass$Parts" (84 : Nat) ({ cls := "MacroGlass$List", name := "close", desc := "()V" } : Jvm.MethodName)) ∈ lw_all := lw_g (lw_at lw_m5 55 rfl) rfl
theorem q1081 : (Jvm.Cond.methodLink "MacroGlass$Parts" (87 : Nat) ({ cls := "MacroGlass$List", name := "add", desc := "(LMacroGlass$Item;)V" } : Jvm.MethodName)) ∈ lw_all := lw_g (lw_at lw_m5 56 rfl) rfl
theorem q1687 : (Jvm.Cond.castable "MacroGlass$Parts" "MacroGlass$Part") ∈ lw_tbl := lw_at lw_m7 182 rfl
theorem q1697 : (Jvm.Cond.castable "MacroGlass$Parts" "java/lang/Object") ∈ lw_tbl := lw_at lw_m7 192 rfl
theorem in_X5 : ∀ w ∈ wsX50, w ∈ lw_all := lw_in wsX50 [436, 434] (by decide +kernel) (by decide +kernel)

/-! MacroGlass$Fixed -/
set_option maxRecDepth 100000
def RX6 : String := "MacroGlass$Fixed"
def TX6 : u_T := fun k => match k with
  | 0 => ("MacroGlass$Part", "place", "I", true)
  | _ => ("MacroGlass$Fixed", "v", "I", true)
def tyX6 : Nat → FieldType := fun k => match k with
  | 0 => .int
  | _ => .int
abbrev wsX60 : List Cond := u_ws RX6 TX6 2
theorem nmX6 : ∀ a, a < 2 → ∀ b, b < 2 → a ≠ b → (TX6 a).2.1 ≠ (TX6 b).2.1 := by decide +kernel
theorem tyX6_ok : ∀ k, k < 2 → parseFieldDescriptor (TX6 k).2.2.1 = some (tyX6 k) := by decide +kernel
abbrev cX6_init : ByteArray := prog_5_method_1_code
def yX6_init : MethodName := ⟨RX6, "<init>", "(II)V"⟩
def dkwX6_init_0 : List UInt8 := [42, 27, 183, 0, 3, 42, 28, 181, 0, 9, 177]
abbrev dktX6_init_0 : List UInt8 := dkwX6_init_0 ++ []
theorem dksX6_init_0 : cX6_init.data.toList.drop 0 = dktX6_init_0 := by decide +kernel
theorem dX6_init_0 : decode cX6_init 0 = .ok (.aload_n 0, 1) := dk_42 (dk_at dksX6_init_0 0 rfl rfl)
theorem dX6_init_1 : decode cX6_init 1 = .ok (.iload_n 1, 1) := dk_27 (dk_at dksX6_init_0 1 rfl rfl)
theorem dX6_init_2 : decode cX6_init 2 = .ok (.invokespecial 3, 3) := dk_183 0 3 (dk_at dksX6_init_0 2 rfl rfl)
theorem dX6_init_5 : decode cX6_init 5 = .ok (.aload_n 0, 1) := dk_42 (dk_at dksX6_init_0 5 rfl rfl)
theorem dX6_init_6 : decode cX6_init 6 = .ok (.iload_n 2, 1) := dk_28 (dk_at dksX6_init_0 6 rfl rfl)
theorem dX6_init_7 : decode cX6_init 7 = .ok (.putfield 9, 3) := dk_181 0 9 (dk_at dksX6_init_0 7 rfl rfl)
theorem dX6_init_10 : decode cX6_init 10 = .ok (.return_, 1) := dk_177 (dk_at dksX6_init_0 10 rfl rfl)
abbrev cX6_fits : ByteArray := prog_5_method_2_code
def yX6_fits : MethodName := ⟨RX6, "fits", "(LMacroGlass$Item;Ljava/util/ArrayList;)Z"⟩
def dkwX6_fits_0 : List UInt8 := [43, 182, 0, 15, 154, 0, 18, 43, 182, 0, 21, 42, 180, 0, 9, 160, 0, 7, 4, 167, 0, 4, 3, 172]
abbrev dktX6_fits_0 : List UInt8 := dkwX6_fits_0 ++ []
theorem dksX6_fits_0 : cX6_fits.data.toList.drop 0 = dktX6_fits_0 := by decide +kernel
theorem dX6_fits_0 : decode cX6_fits 0 = .ok (.aload_n 1, 1) := dk_43 (dk_at dksX6_fits_0 0 rfl rfl)
theorem dX6_fits_1 : decode cX6_fits 1 = .ok (.invokevirtual 15, 3) := dk_182 0 15 (dk_at dksX6_fits_0 1 rfl rfl)
theorem dX6_fits_4 : decode cX6_fits 4 = .ok (.ifCond .ne 18, 3) := dk_154 0 18 (dk_at dksX6_fits_0 4 rfl rfl)
theorem dX6_fits_7 : decode cX6_fits 7 = .ok (.aload_n 1, 1) := dk_43 (dk_at dksX6_fits_0 7 rfl rfl)
theorem dX6_fits_8 : decode cX6_fits 8 = .ok (.invokevirtual 21, 3) := dk_182 0 21 (dk_at dksX6_fits_0 8 rfl rfl)
theorem dX6_fits_11 : decode cX6_fits 11 = .ok (.aload_n 0, 1) := dk_42 (dk_at dksX6_fits_0 11 rfl rfl)
theorem dX6_fits_12 : decode cX6_fits 12 = .ok (.getfield 9, 3) := dk_180 0 9 (dk_at dksX6_fits_0 12 rfl rfl)
theorem dX6_fits_15 : decode cX6_fits 15 = .ok (.if_icmp .ne 7, 3) := dk_160 0 7 (dk_at dksX6_fits_0 15 rfl rfl)
theorem dX6_fits_18 : decode cX6_fits 18 = .ok (.iconst 1, 1) := dk_4 (dk_at dksX6_fits_0 18 rfl rfl)
theorem dX6_fits_19 : decode cX6_fits 19 = .ok (.goto 4, 3) := dk_167 0 4 (dk_at dksX6_fits_0 19 rfl rfl)
theorem dX6_fits_22 : decode cX6_fits 22 = .ok (.iconst 0, 1) := dk_3 (dk_at dksX6_fits_0 22 rfl rfl)
theorem dX6_fits_23 : decode cX6_fits 23 = .ok (.ireturn, 1) := dk_172 (dk_at dksX6_fits_0 23 rfl rfl)
abbrev cX6_makes : ByteArray := prog_5_method_4_code
def yX6_makes : MethodName := ⟨RX6, "makes", "(LMacroGlass$Build;)I"⟩
theorem dX6_makes_0 : decode cX6_makes 0 = .ok (.iconst 1, 1) := by decide +kernel
theorem dX6_makes_1 : decode cX6_makes 1 = .ok (.ireturn, 1) := by decide +kernel
abbrev cX6_build : ByteArray := prog_5_method_3_code
def yX6_build : MethodName := ⟨RX6, "build", "(LMacroGlass$Build;LMacroGlass$List;)V"⟩
def dkwX6_build_0 : List UInt8 := [44, 187, 0, 24, 89, 42, 180, 0, 26, 43, 180, 0, 29, 42, 180, 0, 9, 183, 0, 34, 182, 0, 37, 177]
abbrev dktX6_build_0 : List UInt8 := dkwX6_build_0 ++ []
theorem dksX6_build_0 : cX6_build.data.toList.drop 0 = dktX6_build_0 := by decide +kernel
theorem dX6_build_0 : decode cX6_build 0 = .ok (.aload_n 2, 1) := dk_44 (dk_at dksX6_build_0 0 rfl rfl)
theorem dX6_build_1 : decode cX6_build 1 = .ok (.new 24, 3) := dk_187 0 24 (dk_at dksX6_build_0 1 rfl rfl)
theorem dX6_build_4 : decode cX6_build 4 = .ok (.dup, 1) := dk_89 (dk_at dksX6_build_0 4 rfl rfl)
theorem dX6_build_5 : decode cX6_build 5 = .ok (.aload_n 0, 1) := dk_42 (dk_at dksX6_build_0 5 rfl rfl)
theorem dX6_build_6 : decode cX6_build 6 = .ok (.getfield 26, 3) := dk_180 0 26 (dk_at dksX6_build_0 6 rfl rfl)
theorem dX6_build_9 : decode cX6_build 9 = .ok (.aload_n 1, 1) := dk_43 (dk_at dksX6_build_0 9 rfl rfl)
theorem dX6_build_10 : decode cX6_build 10 = .ok (.getfield 29, 3) := dk_180 0 29 (dk_at dksX6_build_0 10 rfl rfl)
theorem dX6_build_13 : decode cX6_build 13 = .ok (.aload_n 0, 1) := dk_42 (dk_at dksX6_build_0 13 rfl rfl)
theorem dX6_build_14 : decode cX6_build 14 = .ok (.getfield 9, 3) := dk_180 0 9 (dk_at dksX6_build_0 14 rfl rfl)
theorem dX6_build_17 : decode cX6_build 17 = .ok (.invokespecial 34, 3) := dk_183 0 34 (dk_at dksX6_build_0 17 rfl rfl)
theorem dX6_build_20 : decode cX6_build 20 = .ok (.invokevirtual 37, 3) := dk_182 0 37 (dk_at dksX6_build_0 20 rfl rfl)
theorem dX6_build_23 : decode cX6_build 23 = .ok (.return_, 1) := dk_177 (dk_at dksX6_build_0 23 rfl rfl)
theorem q82 : (Jvm.Cond.initialized "MacroGlass$Fixed") ∈ lw_all := lw_g (lw_at lw_m1 17 rfl) rfl
theorem q427 : (Jvm.Cond.fieldLink "MacroGlass$Fixed" (26 : Nat) "MacroGlass$Fixed" "place" "I") ∈ lw_all := lw_g (lw_at lw_m2 122 rfl) rfl
theorem q428 : (Jvm.Cond.sameField "MacroGlass$Fixed" "MacroGlass$Part" "place" "I") ∈ lw_all := lw_g (lw_at lw_m2 123 rfl) rfl
theorem q440 : (Jvm.Cond.instantiable "MacroGlass$Fixed" (2 : Nat)) ∈ lw_all := lw_g (lw_at lw_m2 135 rfl) rfl
theorem q442 : (Jvm.Cond.instanceMethod ({ cls := "MacroGlass$Fixed", name := "<init>", desc := "(II)V" } : Jvm.MethodName)) ∈ lw_all := lw_g (lw_at lw_m2 137 rfl) rfl
theorem q443 : (Jvm.Cond.code ({ cls := "MacroGlass$Fixed", name := "<init>", desc := "(II)V" } : Jvm.MethodName) prog_5_method_1_code (3 : Nat) (Option.none : Option Jvm.ClassFile.FieldType)) ∈ lw_all := lw_g (lw_at lw_m2 138 rfl) rfl
theorem q444 : (Jvm.Cond.methodLink "MacroGlass$Fixed" (3 : Nat) ({ cls := "MacroGlass$Part", name := "<init>", desc := "(I)V" } : Jvm.MethodName)) ∈ lw_all := lw_g (lw_at lw_m2 139 rfl) rfl
theorem q445 : (Jvm.Cond.fieldLink "MacroGlass$Fixed" (9 : Nat) "MacroGlass$Fixed" "v" "I") ∈ lw_all := lw_g (lw_at lw_m2 140 rfl) rfl
theorem q446 : (Jvm.Cond.laysFinal "MacroGlass$Fixed" "MacroGlass$Fixed" "v" "I") ∈ lw_all := lw_g (lw_at lw_m2 141 rfl) rfl
theorem q447 : (Jvm.Cond.soleField "MacroGlass$Fixed" "v") ∈ lw_all := lw_g (lw_at lw_m2 142 rfl) rfl
theorem q448 : (Jvm.Cond.laysFinal "MacroGlass$Fixed" "MacroGlass$Part" "place" "I") ∈ lw_all := lw_g (lw_at lw_m2 143 rfl) rfl
theorem q449 : (Jvm.Cond.superclass "MacroGlass$Fixed" "MacroGlass$Part") ∈ lw_all := lw_g (lw_at lw_m2 144 rfl) rfl
theorem q486 : (Jvm.Cond.selects "MacroGlass$Fixed" ({ cls := "java/lang/Object", name := "getClass", desc := "()Ljava/lang/Class;" } : Jvm.MethodName) ({ cls := "java/lang/Object", name := "getClass", desc := "()Ljava/lang/Class;" } : Jvm.MethodName)) ∈ lw_all := lw_g (lw_at lw_m2 181 rfl) rfl
theorem q744 : (Jvm.Cond.selects "MacroGlass$Fixed" ({ cls := "MacroGlass$Part", name := "names", desc := "(Ljava/util/ArrayList;)V" } : Jvm.MethodName) ({ cls := "MacroGlass$Part", name := "names", desc := "(Ljava/util/ArrayList;)V" } : Jvm.MethodName)) ∈ lw_all := lw_g (lw_at lw_m3 199 rfl) rfl
theorem q929 : (Jvm.Cond.selects "MacroGlass$Fixed" ({ cls := "MacroGlass$Part", name := "fits", desc := "(LMacroGlass$Item;Ljava/util/ArrayList;)Z" } : Jvm.MethodName) ({ cls := "MacroGlass$Fixed", name := "fits", desc := "(LMacroGlass$Item;Ljava/util/ArrayList;)Z" } : Jvm.MethodName)) ∈ lw_all := lw_g (lw_at lw_m4 144 rfl) rfl
theorem q930 : (Jvm.Cond.instanceMethod ({ cls := "MacroGlass$Fixed", name := "fits", desc := "(LMacroGlass$Item;Ljava/util/ArrayList;)Z" } : Jvm.MethodName)) ∈ lw_all := lw_g (lw_at lw_m4 145 rfl) rfl
theorem q931 : (Jvm.Cond.code ({ cls := "MacroGlass$Fixed", name := "fits", desc := "(LMacroGlass$Item;Ljava/util/ArrayList;)Z" } : Jvm.MethodName) prog_5_method_2_code (3 : Nat) (Option.some Jvm.ClassFile.FieldType.boolean)) ∈ lw_all := lw_g (lw_at lw_m4 146 rfl) rfl
theorem q932 : (Jvm.Cond.methodLink "MacroGlass$Fixed" (15 : Nat) ({ cls := "MacroGlass$Item", name := "kind", desc := "()I" } : Jvm.MethodName)) ∈ lw_all := lw_g (lw_at lw_m4 147 rfl) rfl
theorem q933 : (Jvm.Cond.methodLink "MacroGlass$Fixed" (21 : Nat) ({ cls := "MacroGlass$Item", name := "value", desc := "()I" } : Jvm.MethodName)) ∈ lw_all := lw_g (lw_at lw_m4 148 rfl) rfl
theorem q986 : (Jvm.Cond.fieldLinkNest "MacroGlass$Fixed" (29 : Nat) "MacroGlass$Build" "step" "I" "MacroGlass") ∈ lw_tbl := lw_at lw_m4 201 rfl
theorem q1001 : (Jvm.Cond.selects "MacroGlass$Fixed" ({ cls := "MacroGlass$Part", name := "makes", desc := "(LMacroGlass$Build;)I" } : Jvm.MethodName) ({ cls := "MacroGlass$Fixed", name := "makes", desc := "(LMacroGlass$Build;)I" } : Jvm.MethodName)) ∈ lw_all := lw_g (lw_at lw_m4 216 rfl) rfl
theorem q1002 : (Jvm.Cond.instanceMethod ({ cls := "MacroGlass$Fixed", name := "makes", desc := "(LMacroGlass$Build;)I" } : Jvm.MethodName)) ∈ lw_all := lw_g (lw_at lw_m4 217 rfl) rfl
theorem q1003 : (Jvm.Cond.code ({ cls := "MacroGlass$Fixed", name := "makes", desc := "(LMacroGlass$Build;)I" } : Jvm.MethodName) prog_5_method_4_code (2 : Nat) (Option.some Jvm.ClassFile.FieldType.int)) ∈ lw_all := lw_g (lw_at lw_m4 218 rfl) rfl
theorem q1044 : (Jvm.Cond.selects "MacroGlass$Fixed" ({ cls := "MacroGlass$Part", name := "build", desc := "(LMacroGlass$Build;LMacroGlass$List;)V" } : Jvm.MethodName) ({ cls := "MacroGlass$Fixed", name := "build", desc := "(LMacroGlass$Build;LMacroGlass$List;)V" } : Jvm.MethodName)) ∈ lw_all := lw_g (lw_at lw_m5 19 rfl) rfl
theorem q1045 : (Jvm.Cond.instanceMethod ({ cls := "MacroGlass$Fixed", name := "build", desc := "(LMacroGlass$Build;LMacroGlass$List;)V" } : Jvm.MethodName)) ∈ lw_all := lw_g (lw_at lw_m5 20 rfl) rfl
theorem q1046 : (Jvm.Cond.code ({ cls := "MacroGlass$Fixed", name := "build", desc := "(LMacroGlass$Build;LMacroGlass$List;)V" } : Jvm.MethodName) prog_5_method_3_code (3 : Nat) (Option.none : Option Jvm.ClassFile.FieldType)) ∈ lw_all := lw_g (lw_at lw_m5 21 rfl) rfl
theorem q1047 : (Jvm.Cond.classLink "MacroGlass$Fixed" (24 : Nat) "MacroGlass$Whole") ∈ lw_all := lw_g (lw_at lw_m5 22 rfl) rfl
theorem q1048 : (Jvm.Cond.methodLink "MacroGlass$Fixed" (34 : Nat) ({ cls := "MacroGlass$Whole", name := "<init>", desc := "(III)V" } : Jvm.MethodName)) ∈ lw_all := lw_g (lw_at lw_m5 23 rfl) rfl
theorem q1049 : (Jvm.Cond.methodLink "MacroGlass$Fixed" (37 : Nat) ({ cls := "MacroGlass$List", name := "add", desc := "(LMacroGlass$Item;)V" } : Jvm.MethodName)) ∈ lw_all := lw_g (lw_at lw_m5 24 rfl) rfl
theorem q1686 : (Jvm.Cond.castable "MacroGlass$Fixed" "MacroGlass$Part") ∈ lw_tbl := lw_at lw_m7 181 rfl
theorem q1698 : (Jvm.Cond.castable "MacroGlass$Fixed" "java/lang/Object") ∈ lw_tbl := lw_at lw_m7 193 rfl
theorem in_X6 : ∀ w ∈ wsX60, w ∈ lw_all := lw_in wsX60 [448, 446] (by decide +kernel) (by decide +kernel)

/-! MacroGlass$Var -/
set_option maxRecDepth 100000
def RX7 : String := "MacroGlass$Var"
def TX7 : u_T := fun k => match k with
  | 0 => ("MacroGlass$Part", "place", "I", true)
  | 1 => ("MacroGlass$Var", "name", "J", true)
  | _ => ("MacroGlass$Var", "isAll", "Z", true)
def tyX7 : Nat → FieldType := fun k => match k with
  | 0 => .int
  | 1 => .long
  | _ => .boolean
abbrev wsX70 : List Cond := u_ws RX7 TX7 3
theorem nmX7 : ∀ a, a < 3 → ∀ b, b < 3 → a ≠ b → (TX7 a).2.1 ≠ (TX7 b).2.1 := by decide +kernel
theorem tyX7_ok : ∀ k, k < 3 → parseFieldDescriptor (TX7 k).2.2.1 = some (tyX7 k) := by decide +kernel
abbrev cX7_init : ByteArray := prog_16_method_1_code
def yX7_init : MethodName := ⟨RX7, "<init>", "(IJZ)V"⟩
def dkwX7_init_0 : List UInt8 := [42, 27, 183, 0, 1, 42, 32, 181, 0, 7, 42, 21, 4, 181, 0, 13, 177]
abbrev dktX7_init_0 : List UInt8 := dkwX7_init_0 ++ []
theorem dksX7_init_0 : cX7_init.data.toList.drop 0 = dktX7_init_0 := by decide +kernel
theorem dX7_init_0 : decode cX7_init 0 = .ok (.aload_n 0, 1) := dk_42 (dk_at dksX7_init_0 0 rfl rfl)
theorem dX7_init_1 : decode cX7_init 1 = .ok (.iload_n 1, 1) := dk_27 (dk_at dksX7_init_0 1 rfl rfl)
theorem dX7_init_2 : decode cX7_init 2 = .ok (.invokespecial 1, 3) := dk_183 0 1 (dk_at dksX7_init_0 2 rfl rfl)
theorem dX7_init_5 : decode cX7_init 5 = .ok (.aload_n 0, 1) := dk_42 (dk_at dksX7_init_0 5 rfl rfl)
theorem dX7_init_6 : decode cX7_init 6 = .ok (.lload_n 2, 1) := dk_32 (dk_at dksX7_init_0 6 rfl rfl)
theorem dX7_init_7 : decode cX7_init 7 = .ok (.putfield 7, 3) := dk_181 0 7 (dk_at dksX7_init_0 7 rfl rfl)
theorem dX7_init_10 : decode cX7_init 10 = .ok (.aload_n 0, 1) := dk_42 (dk_at dksX7_init_0 10 rfl rfl)
theorem dX7_init_11 : decode cX7_init 11 = .ok (.iload 4, 2) := dk_21 4 (dk_at dksX7_init_0 11 rfl rfl)
theorem dX7_init_13 : decode cX7_init 13 = .ok (.putfield 13, 3) := dk_181 0 13 (dk_at dksX7_init_0 13 rfl rfl)
theorem dX7_init_16 : decode cX7_init 16 = .ok (.return_, 1) := dk_177 (dk_at dksX7_init_0 16 rfl rfl)
abbrev cX7_names : ByteArray := prog_16_method_5_code
def yX7_names : MethodName := ⟨RX7, "names", "(Ljava/util/ArrayList;)V"⟩
def dkwX7_names_0 : List UInt8 := [43, 42, 182, 0, 26, 87, 177]
abbrev dktX7_names_0 : List UInt8 := dkwX7_names_0 ++ []
theorem dksX7_names_0 : cX7_names.data.toList.drop 0 = dktX7_names_0 := by decide +kernel
theorem dX7_names_0 : decode cX7_names 0 = .ok (.aload_n 1, 1) := dk_43 (dk_at dksX7_names_0 0 rfl rfl)
theorem dX7_names_1 : decode cX7_names 1 = .ok (.aload_n 0, 1) := dk_42 (dk_at dksX7_names_0 1 rfl rfl)
theorem dX7_names_2 : decode cX7_names 2 = .ok (.invokevirtual 26, 3) := dk_182 0 26 (dk_at dksX7_names_0 2 rfl rfl)
theorem dX7_names_5 : decode cX7_names 5 = .ok (.pop, 1) := dk_87 (dk_at dksX7_names_0 5 rfl rfl)
theorem dX7_names_6 : decode cX7_names 6 = .ok (.return_, 1) := dk_177 (dk_at dksX7_names_0 6 rfl rfl)
abbrev cX7_fits : ByteArray := prog_16_method_2_code
def yX7_fits : MethodName := ⟨RX7, "fits", "(LMacroGlass$Item;Ljava/util/ArrayList;)Z"⟩
def dkwX7_fits_1 : List UInt8 := [87, 44, 45, 182, 0, 26, 87, 4, 172]
abbrev dktX7_fits_1 : List UInt8 := dkwX7_fits_1 ++ []
def dkwX7_fits_0 : List UInt8 := [44, 198, 0, 30, 187, 0, 17, 89, 42, 180, 0, 7, 183, 0, 19, 78, 45, 180, 0, 22, 43, 182, 0, 26]
abbrev dktX7_fits_0 : List UInt8 := dkwX7_fits_0 ++ dktX7_fits_1
theorem dksX7_fits_0 : cX7_fits.data.toList.drop 0 = dktX7_fits_0 := by decide +kernel
theorem dksX7_fits_1 : cX7_fits.data.toList.drop 24 = dktX7_fits_1 := dk_seg dksX7_fits_0 24 rfl rfl
theorem dX7_fits_0 : decode cX7_fits 0 = .ok (.aload_n 2, 1) := dk_44 (dk_at dksX7_fits_0 0 rfl rfl)
theorem dX7_fits_1 : decode cX7_fits 1 = .ok (.ifnull 30, 3) := dk_198 0 30 (dk_at dksX7_fits_0 1 rfl rfl)
theorem dX7_fits_4 : decode cX7_fits 4 = .ok (.new 17, 3) := dk_187 0 17 (dk_at dksX7_fits_0 4 rfl rfl)
theorem dX7_fits_7 : decode cX7_fits 7 = .ok (.dup, 1) := dk_89 (dk_at dksX7_fits_0 7 rfl rfl)
theorem dX7_fits_8 : decode cX7_fits 8 = .ok (.aload_n 0, 1) := dk_42 (dk_at dksX7_fits_0 8 rfl rfl)
theorem dX7_fits_9 : decode cX7_fits 9 = .ok (.getfield 7, 3) := dk_180 0 7 (dk_at dksX7_fits_0 9 rfl rfl)
theorem dX7_fits_12 : decode cX7_fits 12 = .ok (.invokespecial 19, 3) := dk_183 0 19 (dk_at dksX7_fits_0 12 rfl rfl)
theorem dX7_fits_15 : decode cX7_fits 15 = .ok (.astore_n 3, 1) := dk_78 (dk_at dksX7_fits_0 15 rfl rfl)
theorem dX7_fits_16 : decode cX7_fits 16 = .ok (.aload_n 3, 1) := dk_45 (dk_at dksX7_fits_0 16 rfl rfl)
theorem dX7_fits_17 : decode cX7_fits 17 = .ok (.getfield 22, 3) := dk_180 0 22 (dk_at dksX7_fits_0 17 rfl rfl)
theorem dX7_fits_20 : decode cX7_fits 20 = .ok (.aload_n 1, 1) := dk_43 (dk_at dksX7_fits_0 20 rfl rfl)
theorem dX7_fits_21 : decode cX7_fits 21 = .ok (.invokevirtual 26, 3) := dk_182 0 26 (dk_at dksX7_fits_0 21 rfl rfl)
theorem dX7_fits_24 : decode cX7_fits 24 = .ok (.pop, 1) := dk_87 (dk_at dksX7_fits_1 0 rfl rfl)
theorem dX7_fits_25 : decode cX7_fits 25 = .ok (.aload_n 2, 1) := dk_44 (dk_at dksX7_fits_1 1 rfl rfl)
theorem dX7_fits_26 : decode cX7_fits 26 = .ok (.aload_n 3, 1) := dk_45 (dk_at dksX7_fits_1 2 rfl rfl)
theorem dX7_fits_27 : decode cX7_fits 27 = .ok (.invokevirtual 26, 3) := dk_182 0 26 (dk_at dksX7_fits_1 3 rfl rfl)
theorem dX7_fits_30 : decode cX7_fits 30 = .ok (.pop, 1) := dk_87 (dk_at dksX7_fits_1 6 rfl rfl)
theorem dX7_fits_31 : decode cX7_fits 31 = .ok (.iconst 1, 1) := dk_4 (dk_at dksX7_fits_1 7 rfl rfl)
theorem dX7_fits_32 : decode cX7_fits 32 = .ok (.ireturn, 1) := dk_172 (dk_at dksX7_fits_1 8 rfl rfl)
abbrev cX7_makes : ByteArray := prog_16_method_4_code
def yX7_makes : MethodName := ⟨RX7, "makes", "(LMacroGlass$Build;)I"⟩
def dkwX7_makes_2 : List UInt8 := [182, 0, 62, 192, 0, 66, 182, 0, 72, 96, 62, 132, 4, 1, 167, 255, 219, 29, 172]
abbrev dktX7_makes_2 : List UInt8 := dkwX7_makes_2 ++ []
def dkwX7_makes_1 : List UInt8 := [198, 0, 39, 21, 4, 44, 180, 0, 22, 182, 0, 58, 162, 0, 27, 29, 44, 180, 0, 22, 21, 4]
abbrev dktX7_makes_1 : List UInt8 := dkwX7_makes_1 ++ dktX7_makes_2
def dkwX7_makes_0 : List UInt8 := [43, 42, 180, 0, 7, 182, 0, 32, 77, 44, 199, 0, 7, 4, 167, 0, 4, 3, 62, 3, 54, 4, 44]
abbrev dktX7_makes_0 : List UInt8 := dkwX7_makes_0 ++ dktX7_makes_1
theorem dksX7_makes_0 : cX7_makes.data.toList.drop 0 = dktX7_makes_0 := by decide +kernel
theorem dksX7_makes_1 : cX7_makes.data.toList.drop 23 = dktX7_makes_1 := dk_seg dksX7_makes_0 23 rfl rfl
theorem dksX7_makes_2 : cX7_makes.data.toList.drop 45 = dktX7_makes_2 := dk_seg dksX7_makes_1 22 rfl rfl
theorem dX7_makes_0 : decode cX7_makes 0 = .ok (.aload_n 1, 1) := dk_43 (dk_at dksX7_makes_0 0 rfl rfl)
theorem dX7_makes_1 : decode cX7_makes 1 = .ok (.aload_n 0, 1) := dk_42 (dk_at dksX7_makes_0 1 rfl rfl)
theorem dX7_makes_2 : decode cX7_makes 2 = .ok (.getfield 7, 3) := dk_180 0 7 (dk_at dksX7_makes_0 2 rfl rfl)
theorem dX7_makes_5 : decode cX7_makes 5 = .ok (.invokevirtual 32, 3) := dk_182 0 32 (dk_at dksX7_makes_0 5 rfl rfl)
theorem dX7_makes_8 : decode cX7_makes 8 = .ok (.astore_n 2, 1) := dk_77 (dk_at dksX7_makes_0 8 rfl rfl)
theorem dX7_makes_9 : decode cX7_makes 9 = .ok (.aload_n 2, 1) := dk_44 (dk_at dksX7_makes_0 9 rfl rfl)
theorem dX7_makes_10 : decode cX7_makes 10 = .ok (.ifnonnull 7, 3) := dk_199 0 7 (dk_at dksX7_makes_0 10 rfl rfl)
theorem dX7_makes_13 : decode cX7_makes 13 = .ok (.iconst 1, 1) := dk_4 (dk_at dksX7_makes_0 13 rfl rfl)
theorem dX7_makes_14 : decode cX7_makes 14 = .ok (.goto 4, 3) := dk_167 0 4 (dk_at dksX7_makes_0 14 rfl rfl)
theorem dX7_makes_17 : decode cX7_makes 17 = .ok (.iconst 0, 1) := dk_3 (dk_at dksX7_makes_0 17 rfl rfl)
theorem dX7_makes_18 : decode cX7_makes 18 = .ok (.istore_n 3, 1) := dk_62 (dk_at dksX7_makes_0 18 rfl rfl)
theorem dX7_makes_19 : decode cX7_makes 19 = .ok (.iconst 0, 1) := dk_3 (dk_at dksX7_makes_0 19 rfl rfl)
theorem dX7_makes_20 : decode cX7_makes 20 = .ok (.istore 4, 2) := dk_54 4 (dk_at dksX7_makes_0 20 rfl rfl)
theorem dX7_makes_22 : decode cX7_makes 22 = .ok (.aload_n 2, 1) := dk_44 (dk_at dksX7_makes_0 22 rfl rfl)
theorem dX7_makes_23 : decode cX7_makes 23 = .ok (.ifnull 39, 3) := dk_198 0 39 (dk_at dksX7_makes_1 0 rfl rfl)
theorem dX7_makes_26 : decode cX7_makes 26 = .ok (.iload 4, 2) := dk_21 4 (dk_at dksX7_makes_1 3 rfl rfl)
theorem dX7_makes_28 : decode cX7_makes 28 = .ok (.aload_n 2, 1) := dk_44 (dk_at dksX7_makes_1 5 rfl rfl)
theorem dX7_makes_29 : decode cX7_makes 29 = .ok (.getfield 22, 3) := dk_180 0 22 (dk_at dksX7_makes_1 6 rfl rfl)
theorem dX7_makes_32 : decode cX7_makes 32 = .ok (.invokevirtual 58, 3) := dk_182 0 58 (dk_at dksX7_makes_1 9 rfl rfl)
theorem dX7_makes_35 : decode cX7_makes 35 = .ok (.if_icmp .ge 27, 3) := dk_162 0 27 (dk_at dksX7_makes_1 12 rfl rfl)
theorem dX7_makes_38 : decode cX7_makes 38 = .ok (.iload_n 3, 1) := dk_29 (dk_at dksX7_makes_1 15 rfl rfl)
theorem dX7_makes_39 : decode cX7_makes 39 = .ok (.aload_n 2, 1) := dk_44 (dk_at dksX7_makes_1 16 rfl rfl)
theorem dX7_makes_40 : decode cX7_makes 40 = .ok (.getfield 22, 3) := dk_180 0 22 (dk_at dksX7_makes_1 17 rfl rfl)
theorem dX7_makes_43 : decode cX7_makes 43 = .ok (.iload 4, 2) := dk_21 4 (dk_at dksX7_makes_1 20 rfl rfl)
theorem dX7_makes_45 : decode cX7_makes 45 = .ok (.invokevirtual 62, 3) := dk_182 0 62 (dk_at dksX7_makes_2 0 rfl rfl)
theorem dX7_makes_48 : decode cX7_makes 48 = .ok (.checkcast 66, 3) := dk_192 0 66 (dk_at dksX7_makes_2 3 rfl rfl)
theorem dX7_makes_51 : decode cX7_makes 51 = .ok (.invokevirtual 72, 3) := dk_182 0 72 (dk_at dksX7_makes_2 6 rfl rfl)
theorem dX7_makes_54 : decode cX7_makes 54 = .ok (.iadd, 1) := dk_96 (dk_at dksX7_makes_2 9 rfl rfl)
theorem dX7_makes_55 : decode cX7_makes 55 = .ok (.istore_n 3, 1) := dk_62 (dk_at dksX7_makes_2 10 rfl rfl)
theorem dX7_makes_56 : decode cX7_makes 56 = .ok (.iinc 4 1, 3) := dk_132 4 1 (dk_at dksX7_makes_2 11 rfl rfl)
theorem dX7_makes_59 : decode cX7_makes 59 = .ok (.goto (-37), 3) := dk_167 255 219 (dk_at dksX7_makes_2 14 rfl rfl)
theorem dX7_makes_62 : decode cX7_makes 62 = .ok (.iload_n 3, 1) := dk_29 (dk_at dksX7_makes_2 17 rfl rfl)
theorem dX7_makes_63 : decode cX7_makes 63 = .ok (.ireturn, 1) := dk_172 (dk_at dksX7_makes_2 18 rfl rfl)
abbrev cX7_build : ByteArray := prog_16_method_3_code
def yX7_build : MethodName := ⟨RX7, "build", "(LMacroGlass$Build;LMacroGlass$List;)V"⟩
def dkwX7_build_3 : List UInt8 := [182, 0, 68, 182, 0, 53, 132, 4, 1, 167, 255, 222, 177]
abbrev dktX7_build_3 : List UInt8 := dkwX7_build_3 ++ []
def dkwX7_build_2 : List UInt8 := [180, 0, 22, 182, 0, 58, 162, 0, 28, 44, 45, 180, 0, 22, 21, 4, 182, 0, 62, 192, 0, 66]
abbrev dktX7_build_2 : List UInt8 := dkwX7_build_2 ++ dktX7_build_3
def dkwX7_build_1 : List UInt8 := [180, 0, 44, 42, 180, 0, 7, 43, 180, 0, 47, 183, 0, 50, 182, 0, 53, 177, 3, 54, 4, 21, 4, 45]
abbrev dktX7_build_1 : List UInt8 := dkwX7_build_1 ++ dktX7_build_2
def dkwX7_build_0 : List UInt8 := [43, 42, 180, 0, 7, 182, 0, 32, 78, 45, 199, 0, 31, 44, 187, 0, 38, 89, 42, 180, 0, 40, 43]
abbrev dktX7_build_0 : List UInt8 := dkwX7_build_0 ++ dktX7_build_1
theorem dksX7_build_0 : cX7_build.data.toList.drop 0 = dktX7_build_0 := by decide +kernel
theorem dksX7_build_1 : cX7_build.data.toList.drop 23 = dktX7_build_1 := dk_seg dksX7_build_0 23 rfl rfl
theorem dksX7_build_2 : cX7_build.data.toList.drop 47 = dktX7_build_2 := dk_seg dksX7_build_1 24 rfl rfl
theorem dksX7_build_3 : cX7_build.data.toList.drop 69 = dktX7_build_3 := dk_seg dksX7_build_2 22 rfl rfl
theorem dX7_build_0 : decode cX7_build 0 = .ok (.aload_n 1, 1) := dk_43 (dk_at dksX7_build_0 0 rfl rfl)
theorem dX7_build_1 : decode cX7_build 1 = .ok (.aload_n 0, 1) := dk_42 (dk_at dksX7_build_0 1 rfl rfl)
theorem dX7_build_2 : decode cX7_build 2 = .ok (.getfield 7, 3) := dk_180 0 7 (dk_at dksX7_build_0 2 rfl rfl)
theorem dX7_build_5 : decode cX7_build 5 = .ok (.invokevirtual 32, 3) := dk_182 0 32 (dk_at dksX7_build_0 5 rfl rfl)
theorem dX7_build_8 : decode cX7_build 8 = .ok (.astore_n 3, 1) := dk_78 (dk_at dksX7_build_0 8 rfl rfl)
theorem dX7_build_9 : decode cX7_build 9 = .ok (.aload_n 3, 1) := dk_45 (dk_at dksX7_build_0 9 rfl rfl)
theorem dX7_build_10 : decode cX7_build 10 = .ok (.ifnonnull 31, 3) := dk_199 0 31 (dk_at dksX7_build_0 10 rfl rfl)
theorem dX7_build_13 : decode cX7_build 13 = .ok (.aload_n 2, 1) := dk_44 (dk_at dksX7_build_0 13 rfl rfl)
theorem dX7_build_14 : decode cX7_build 14 = .ok (.new 38, 3) := dk_187 0 38 (dk_at dksX7_build_0 14 rfl rfl)
theorem dX7_build_17 : decode cX7_build 17 = .ok (.dup, 1) := dk_89 (dk_at dksX7_build_0 17 rfl rfl)
theorem dX7_build_18 : decode cX7_build 18 = .ok (.aload_n 0, 1) := dk_42 (dk_at dksX7_build_0 18 rfl rfl)
theorem dX7_build_19 : decode cX7_build 19 = .ok (.getfield 40, 3) := dk_180 0 40 (dk_at dksX7_build_0 19 rfl rfl)
theorem dX7_build_22 : decode cX7_build 22 = .ok (.aload_n 1, 1) := dk_43 (dk_at dksX7_build_0 22 rfl rfl)
theorem dX7_build_23 : decode cX7_build 23 = .ok (.getfield 44, 3) := dk_180 0 44 (dk_at dksX7_build_1 0 rfl rfl)
theorem dX7_build_26 : decode cX7_build 26 = .ok (.aload_n 0, 1) := dk_42 (dk_at dksX7_build_1 3 rfl rfl)
theorem dX7_build_27 : decode cX7_build 27 = .ok (.getfield 7, 3) := dk_180 0 7 (dk_at dksX7_build_1 4 rfl rfl)
theorem dX7_build_30 : decode cX7_build 30 = .ok (.aload_n 1, 1) := dk_43 (dk_at dksX7_build_1 7 rfl rfl)
theorem dX7_build_31 : decode cX7_build 31 = .ok (.getfield 47, 3) := dk_180 0 47 (dk_at dksX7_build_1 8 rfl rfl)
theorem dX7_build_34 : decode cX7_build 34 = .ok (.invokespecial 50, 3) := dk_183 0 50 (dk_at dksX7_build_1 11 rfl rfl)
theorem dX7_build_37 : decode cX7_build 37 = .ok (.invokevirtual 53, 3) := dk_182 0 53 (dk_at dksX7_build_1 14 rfl rfl)
theorem dX7_build_40 : decode cX7_build 40 = .ok (.return_, 1) := dk_177 (dk_at dksX7_build_1 17 rfl rfl)
theorem dX7_build_41 : decode cX7_build 41 = .ok (.iconst 0, 1) := dk_3 (dk_at dksX7_build_1 18 rfl rfl)
theorem dX7_build_42 : decode cX7_build 42 = .ok (.istore 4, 2) := dk_54 4 (dk_at dksX7_build_1 19 rfl rfl)
theorem dX7_build_44 : decode cX7_build 44 = .ok (.iload 4, 2) := dk_21 4 (dk_at dksX7_build_1 21 rfl rfl)
theorem dX7_build_46 : decode cX7_build 46 = .ok (.aload_n 3, 1) := dk_45 (dk_at dksX7_build_1 23 rfl rfl)
theorem dX7_build_47 : decode cX7_build 47 = .ok (.getfield 22, 3) := dk_180 0 22 (dk_at dksX7_build_2 0 rfl rfl)
theorem dX7_build_50 : decode cX7_build 50 = .ok (.invokevirtual 58, 3) := dk_182 0 58 (dk_at dksX7_build_2 3 rfl rfl)
theorem dX7_build_53 : decode cX7_build 53 = .ok (.if_icmp .ge 28, 3) := dk_162 0 28 (dk_at dksX7_build_2 6 rfl rfl)
theorem dX7_build_56 : decode cX7_build 56 = .ok (.aload_n 2, 1) := dk_44 (dk_at dksX7_build_2 9 rfl rfl)
theorem dX7_build_57 : decode cX7_build 57 = .ok (.aload_n 3, 1) := dk_45 (dk_at dksX7_build_2 10 rfl rfl)
theorem dX7_build_58 : decode cX7_build 58 = .ok (.getfield 22, 3) := dk_180 0 22 (dk_at dksX7_build_2 11 rfl rfl)
theorem dX7_build_61 : decode cX7_build 61 = .ok (.iload 4, 2) := dk_21 4 (dk_at dksX7_build_2 14 rfl rfl)
theorem dX7_build_63 : decode cX7_build 63 = .ok (.invokevirtual 62, 3) := dk_182 0 62 (dk_at dksX7_build_2 16 rfl rfl)
theorem dX7_build_66 : decode cX7_build 66 = .ok (.checkcast 66, 3) := dk_192 0 66 (dk_at dksX7_build_2 19 rfl rfl)
theorem dX7_build_69 : decode cX7_build 69 = .ok (.invokevirtual 68, 3) := dk_182 0 68 (dk_at dksX7_build_3 0 rfl rfl)
theorem dX7_build_72 : decode cX7_build 72 = .ok (.invokevirtual 53, 3) := dk_182 0 53 (dk_at dksX7_build_3 3 rfl rfl)
theorem dX7_build_75 : decode cX7_build 75 = .ok (.iinc 4 1, 3) := dk_132 4 1 (dk_at dksX7_build_3 6 rfl rfl)
theorem dX7_build_78 : decode cX7_build 78 = .ok (.goto (-34), 3) := dk_167 255 222 (dk_at dksX7_build_3 9 rfl rfl)
theorem dX7_build_81 : decode cX7_build 81 = .ok (.return_, 1) := dk_177 (dk_at dksX7_build_3 12 rfl rfl)
theorem q87 : (Jvm.Cond.initialized "MacroGlass$Var") ∈ lw_all := lw_g (lw_at lw_m1 22 rfl) rfl
theorem q429 : (Jvm.Cond.fieldLink "MacroGlass$Var" (40 : Nat) "MacroGlass$Var" "place" "I") ∈ lw_all := lw_g (lw_at lw_m2 124 rfl) rfl
theorem q430 : (Jvm.Cond.sameField "MacroGlass$Var" "MacroGlass$Part" "place" "I") ∈ lw_all := lw_g (lw_at lw_m2 125 rfl) rfl
theorem q495 : (Jvm.Cond.selects "MacroGlass$Var" ({ cls := "java/lang/Object", name := "getClass", desc := "()Ljava/lang/Class;" } : Jvm.MethodName) ({ cls := "java/lang/Object", name := "getClass", desc := "()Ljava/lang/Class;" } : Jvm.MethodName)) ∈ lw_all := lw_g (lw_at lw_m2 190 rfl) rfl
theorem q516 : (Jvm.Cond.instantiable "MacroGlass$Var" (3 : Nat)) ∈ lw_all := lw_g (lw_at lw_m2 211 rfl) rfl
theorem q518 : (Jvm.Cond.instanceMethod ({ cls := "MacroGlass$Var", name := "<init>", desc := "(IJZ)V" } : Jvm.MethodName)) ∈ lw_all := lw_g (lw_at lw_m2 213 rfl) rfl
theorem q519 : (Jvm.Cond.code ({ cls := "MacroGlass$Var", name := "<init>", desc := "(IJZ)V" } : Jvm.MethodName) prog_16_method_1_code (5 : Nat) (Option.none : Option Jvm.ClassFile.FieldType)) ∈ lw_all := lw_g (lw_at lw_m2 214 rfl) rfl
theorem q520 : (Jvm.Cond.methodLink "MacroGlass$Var" (1 : Nat) ({ cls := "MacroGlass$Part", name := "<init>", desc := "(I)V" } : Jvm.MethodName)) ∈ lw_all := lw_g (lw_at lw_m2 215 rfl) rfl
theorem q521 : (Jvm.Cond.fieldLink "MacroGlass$Var" (7 : Nat) "MacroGlass$Var" "name" "J") ∈ lw_all := lw_g (lw_at lw_m2 216 rfl) rfl
theorem q526 : (Jvm.Cond.fieldLink "MacroGlass$Var" (13 : Nat) "MacroGlass$Var" "isAll" "Z") ∈ lw_all := lw_g (lw_at lw_m2 221 rfl) rfl
theorem q529 : (Jvm.Cond.laysFinal "MacroGlass$Var" "MacroGlass$Var" "name" "J") ∈ lw_all := lw_g (lw_at lw_m2 224 rfl) rfl
theorem q530 : (Jvm.Cond.soleField "MacroGlass$Var" "name") ∈ lw_all := lw_g (lw_at lw_m2 225 rfl) rfl
theorem q531 : (Jvm.Cond.laysFinal "MacroGlass$Var" "MacroGlass$Var" "isAll" "Z") ∈ lw_all := lw_g (lw_at lw_m2 226 rfl) rfl
theorem q532 : (Jvm.Cond.soleField "MacroGlass$Var" "isAll") ∈ lw_all := lw_g (lw_at lw_m2 227 rfl) rfl
theorem q533 : (Jvm.Cond.laysFinal "MacroGlass$Var" "MacroGlass$Part" "place" "I") ∈ lw_all := lw_g (lw_at lw_m2 228 rfl) rfl
theorem q534 : (Jvm.Cond.superclass "MacroGlass$Var" "MacroGlass$Part") ∈ lw_all := lw_g (lw_at lw_m2 229 rfl) rfl
theorem q749 : (Jvm.Cond.selects "MacroGlass$Var" ({ cls := "MacroGlass$Part", name := "names", desc := "(Ljava/util/ArrayList;)V" } : Jvm.MethodName) ({ cls := "MacroGlass$Var", name := "names", desc := "(Ljava/util/ArrayList;)V" } : Jvm.MethodName)) ∈ lw_all := lw_g (lw_at lw_m3 204 rfl) rfl
theorem q750 : (Jvm.Cond.instanceMethod ({ cls := "MacroGlass$Var", name := "names", desc := "(Ljava/util/ArrayList;)V" } : Jvm.MethodName)) ∈ lw_all := lw_g (lw_at lw_m3 205 rfl) rfl
theorem q751 : (Jvm.Cond.code ({ cls := "MacroGlass$Var", name := "names", desc := "(Ljava/util/ArrayList;)V" } : Jvm.MethodName) prog_16_method_5_code (2 : Nat) (Option.none : Option Jvm.ClassFile.FieldType)) ∈ lw_all := lw_g (lw_at lw_m3 206 rfl) rfl
theorem q752 : (Jvm.Cond.methodLink "MacroGlass$Var" (26 : Nat) ({ cls := "java/util/ArrayList", name := "add", desc := "(Ljava/lang/Object;)Z" } : Jvm.MethodName)) ∈ lw_all := lw_g (lw_at lw_m3 207 rfl) rfl
theorem q917 : (Jvm.Cond.fieldLinkNest "MacroGlass$Var" (22 : Nat) "MacroGlass$Fit" "items" "Ljava/util/ArrayList;" "MacroGlass") ∈ lw_tbl := lw_at lw_m4 132 rfl
theorem q943 : (Jvm.Cond.selects "MacroGlass$Var" ({ cls := "MacroGlass$Part", name := "fits", desc := "(LMacroGlass$Item;Ljava/util/ArrayList;)Z" } : Jvm.MethodName) ({ cls := "MacroGlass$Var", name := "fits", desc := "(LMacroGlass$Item;Ljava/util/ArrayList;)Z" } : Jvm.MethodName)) ∈ lw_all := lw_g (lw_at lw_m4 158 rfl) rfl
theorem q944 : (Jvm.Cond.instanceMethod ({ cls := "MacroGlass$Var", name := "fits", desc := "(LMacroGlass$Item;Ljava/util/ArrayList;)Z" } : Jvm.MethodName)) ∈ lw_all := lw_g (lw_at lw_m4 159 rfl) rfl
theorem q945 : (Jvm.Cond.code ({ cls := "MacroGlass$Var", name := "fits", desc := "(LMacroGlass$Item;Ljava/util/ArrayList;)Z" } : Jvm.MethodName) prog_16_method_2_code (4 : Nat) (Option.some Jvm.ClassFile.FieldType.boolean)) ∈ lw_all := lw_g (lw_at lw_m4 160 rfl) rfl
theorem q946 : (Jvm.Cond.classLink "MacroGlass$Var" (17 : Nat) "MacroGlass$Fit") ∈ lw_all := lw_g (lw_at lw_m4 161 rfl) rfl
theorem q947 : (Jvm.Cond.methodLink "MacroGlass$Var" (19 : Nat) ({ cls := "MacroGlass$Fit", name := "<init>", desc := "(J)V" } : Jvm.MethodName)) ∈ lw_all := lw_g (lw_at lw_m4 162 rfl) rfl
theorem q987 : (Jvm.Cond.fieldLinkNest "MacroGlass$Var" (44 : Nat) "MacroGlass$Build" "step" "I" "MacroGlass") ∈ lw_tbl := lw_at lw_m4 202 rfl
theorem q990 : (Jvm.Cond.fieldLinkNest "MacroGlass$Var" (47 : Nat) "MacroGlass$Build" "mark" "I" "MacroGlass") ∈ lw_tbl := lw_at lw_m4 205 rfl
theorem q1008 : (Jvm.Cond.instanceMethod ({ cls := "MacroGlass$Var", name := "makes", desc := "(LMacroGlass$Build;)I" } : Jvm.MethodName)) ∈ lw_all := lw_g (lw_at lw_m4 223 rfl) rfl
theorem q1009 : (Jvm.Cond.code ({ cls := "MacroGlass$Var", name := "makes", desc := "(LMacroGlass$Build;)I" } : Jvm.MethodName) prog_16_method_4_code (5 : Nat) (Option.some Jvm.ClassFile.FieldType.int)) ∈ lw_all := lw_g (lw_at lw_m4 224 rfl) rfl
theorem q1010 : (Jvm.Cond.methodLink "MacroGlass$Var" (32 : Nat) ({ cls := "MacroGlass$Build", name := "of", desc := "(J)LMacroGlass$Fit;" } : Jvm.MethodName)) ∈ lw_all := lw_g (lw_at lw_m4 225 rfl) rfl
theorem q1017 : (Jvm.Cond.methodLink "MacroGlass$Var" (58 : Nat) ({ cls := "java/util/ArrayList", name := "size", desc := "()I" } : Jvm.MethodName)) ∈ lw_all := lw_g (lw_at lw_m4 232 rfl) rfl
theorem q1018 : (Jvm.Cond.methodLink "MacroGlass$Var" (62 : Nat) ({ cls := "java/util/ArrayList", name := "get", desc := "(I)Ljava/lang/Object;" } : Jvm.MethodName)) ∈ lw_all := lw_g (lw_at lw_m4 233 rfl) rfl
theorem q1019 : (Jvm.Cond.classLink "MacroGlass$Var" (66 : Nat) "MacroGlass$Item") ∈ lw_all := lw_g (lw_at lw_m4 234 rfl) rfl
theorem q1020 : (Jvm.Cond.methodLink "MacroGlass$Var" (72 : Nat) ({ cls := "MacroGlass$Item", name := "all", desc := "()I" } : Jvm.MethodName)) ∈ lw_all := lw_g (lw_at lw_m4 235 rfl) rfl
theorem q1031 : (Jvm.Cond.selects "MacroGlass$Var" ({ cls := "MacroGlass$Part", name := "makes", desc := "(LMacroGlass$Build;)I" } : Jvm.MethodName) ({ cls := "MacroGlass$Var", name := "makes", desc := "(LMacroGlass$Build;)I" } : Jvm.MethodName)) ∈ lw_all := lw_g (lw_at lw_m5 6 rfl) rfl
theorem q1055 : (Jvm.Cond.instanceMethod ({ cls := "MacroGlass$Var", name := "build", desc := "(LMacroGlass$Build;LMacroGlass$List;)V" } : Jvm.MethodName)) ∈ lw_all := lw_g (lw_at lw_m5 30 rfl) rfl
theorem q1056 : (Jvm.Cond.code ({ cls := "MacroGlass$Var", name := "build", desc := "(LMacroGlass$Build;LMacroGlass$List;)V" } : Jvm.MethodName) prog_16_method_3_code (5 : Nat) (Option.none : Option Jvm.ClassFile.FieldType)) ∈ lw_all := lw_g (lw_at lw_m5 31 rfl) rfl
theorem q1057 : (Jvm.Cond.classLink "MacroGlass$Var" (38 : Nat) "MacroGlass$Name") ∈ lw_all := lw_g (lw_at lw_m5 32 rfl) rfl
theorem q1058 : (Jvm.Cond.methodLink "MacroGlass$Var" (50 : Nat) ({ cls := "MacroGlass$Name", name := "<init>", desc := "(IIJI)V" } : Jvm.MethodName)) ∈ lw_all := lw_g (lw_at lw_m5 33 rfl) rfl
theorem q1059 : (Jvm.Cond.methodLink "MacroGlass$Var" (53 : Nat) ({ cls := "MacroGlass$List", name := "add", desc := "(LMacroGlass$Item;)V" } : Jvm.MethodName)) ∈ lw_all := lw_g (lw_at lw_m5 34 rfl) rfl
theorem q1060 : (Jvm.Cond.methodLink "MacroGlass$Var" (68 : Nat) ({ cls := "MacroGlass$Item", name := "copied", desc := "()LMacroGlass$Item;" } : Jvm.MethodName)) ∈ lw_all := lw_g (lw_at lw_m5 35 rfl) rfl
theorem q1083 : (Jvm.Cond.selects "MacroGlass$Var" ({ cls := "MacroGlass$Part", name := "build", desc := "(LMacroGlass$Build;LMacroGlass$List;)V" } : Jvm.MethodName) ({ cls := "MacroGlass$Var", name := "build", desc := "(LMacroGlass$Build;LMacroGlass$List;)V" } : Jvm.MethodName)) ∈ lw_all := lw_g (lw_at lw_m5 58 rfl) rfl
theorem q1689 : (Jvm.Cond.castable "MacroGlass$Var" "MacroGlass$Part") ∈ lw_tbl := lw_at lw_m7 184 rfl
theorem q1699 : (Jvm.Cond.castable "MacroGlass$Var" "java/lang/Object") ∈ lw_tbl := lw_at lw_m7 194 rfl
theorem in_X7 : ∀ w ∈ wsX70, w ∈ lw_all := lw_in wsX70 [533, 529, 531] (by decide +kernel) (by decide +kernel)

/-! MacroGlass$Sign -/
set_option maxRecDepth 100000
def RX8 : String := "MacroGlass$Sign"
def TX8 : u_T := fun k => match k with
  | 0 => ("MacroGlass$Part", "place", "I", true)
  | 1 => ("MacroGlass$Var", "name", "J", true)
  | _ => ("MacroGlass$Var", "isAll", "Z", true)
def tyX8 : Nat → FieldType := fun k => match k with
  | 0 => .int
  | 1 => .long
  | _ => .boolean
abbrev wsX80 : List Cond := u_ws RX8 TX8 3
theorem nmX8 : ∀ a, a < 3 → ∀ b, b < 3 → a ≠ b → (TX8 a).2.1 ≠ (TX8 b).2.1 := by decide +kernel
theorem tyX8_ok : ∀ k, k < 3 → parseFieldDescriptor (TX8 k).2.2.1 = some (tyX8 k) := by decide +kernel
abbrev cX8_init : ByteArray := prog_14_method_1_code
def yX8_init : MethodName := ⟨RX8, "<init>", "(IJ)V"⟩
def dkwX8_init_0 : List UInt8 := [42, 27, 32, 3, 183, 0, 1, 177]
abbrev dktX8_init_0 : List UInt8 := dkwX8_init_0 ++ []
theorem dksX8_init_0 : cX8_init.data.toList.drop 0 = dktX8_init_0 := by decide +kernel
theorem dX8_init_0 : decode cX8_init 0 = .ok (.aload_n 0, 1) := dk_42 (dk_at dksX8_init_0 0 rfl rfl)
theorem dX8_init_1 : decode cX8_init 1 = .ok (.iload_n 1, 1) := dk_27 (dk_at dksX8_init_0 1 rfl rfl)
theorem dX8_init_2 : decode cX8_init 2 = .ok (.lload_n 2, 1) := dk_32 (dk_at dksX8_init_0 2 rfl rfl)
theorem dX8_init_3 : decode cX8_init 3 = .ok (.iconst 0, 1) := dk_3 (dk_at dksX8_init_0 3 rfl rfl)
theorem dX8_init_4 : decode cX8_init 4 = .ok (.invokespecial 1, 3) := dk_183 0 1 (dk_at dksX8_init_0 4 rfl rfl)
theorem dX8_init_7 : decode cX8_init 7 = .ok (.return_, 1) := dk_177 (dk_at dksX8_init_0 7 rfl rfl)
abbrev cX8_names : ByteArray := prog_14_method_3_code
def yX8_names : MethodName := ⟨RX8, "names", "(Ljava/util/ArrayList;)V"⟩
theorem dX8_names_0 : decode cX8_names 0 = .ok (.return_, 1) := by decide +kernel
abbrev cX8_fits : ByteArray := prog_14_method_2_code
def yX8_fits : MethodName := ⟨RX8, "fits", "(LMacroGlass$Item;Ljava/util/ArrayList;)Z"⟩
def dkwX8_fits_1 : List UInt8 := [167, 0, 4, 3, 172]
abbrev dktX8_fits_1 : List UInt8 := dkwX8_fits_1 ++ []
def dkwX8_fits_0 : List UInt8 := [43, 193, 0, 7, 153, 0, 22, 43, 192, 0, 7, 180, 0, 9, 42, 180, 0, 13, 148, 154, 0, 7, 4]
abbrev dktX8_fits_0 : List UInt8 := dkwX8_fits_0 ++ dktX8_fits_1
theorem dksX8_fits_0 : cX8_fits.data.toList.drop 0 = dktX8_fits_0 := by decide +kernel
theorem dksX8_fits_1 : cX8_fits.data.toList.drop 23 = dktX8_fits_1 := dk_seg dksX8_fits_0 23 rfl rfl
theorem dX8_fits_0 : decode cX8_fits 0 = .ok (.aload_n 1, 1) := dk_43 (dk_at dksX8_fits_0 0 rfl rfl)
theorem dX8_fits_1 : decode cX8_fits 1 = .ok (.instanceof 7, 3) := dk_193 0 7 (dk_at dksX8_fits_0 1 rfl rfl)
theorem dX8_fits_4 : decode cX8_fits 4 = .ok (.ifCond .eq 22, 3) := dk_153 0 22 (dk_at dksX8_fits_0 4 rfl rfl)
theorem dX8_fits_7 : decode cX8_fits 7 = .ok (.aload_n 1, 1) := dk_43 (dk_at dksX8_fits_0 7 rfl rfl)
theorem dX8_fits_8 : decode cX8_fits 8 = .ok (.checkcast 7, 3) := dk_192 0 7 (dk_at dksX8_fits_0 8 rfl rfl)
theorem dX8_fits_11 : decode cX8_fits 11 = .ok (.getfield 9, 3) := dk_180 0 9 (dk_at dksX8_fits_0 11 rfl rfl)
theorem dX8_fits_14 : decode cX8_fits 14 = .ok (.aload_n 0, 1) := dk_42 (dk_at dksX8_fits_0 14 rfl rfl)
theorem dX8_fits_15 : decode cX8_fits 15 = .ok (.getfield 13, 3) := dk_180 0 13 (dk_at dksX8_fits_0 15 rfl rfl)
theorem dX8_fits_18 : decode cX8_fits 18 = .ok (.lcmp, 1) := dk_148 (dk_at dksX8_fits_0 18 rfl rfl)
theorem dX8_fits_19 : decode cX8_fits 19 = .ok (.ifCond .ne 7, 3) := dk_154 0 7 (dk_at dksX8_fits_0 19 rfl rfl)
theorem dX8_fits_22 : decode cX8_fits 22 = .ok (.iconst 1, 1) := dk_4 (dk_at dksX8_fits_0 22 rfl rfl)
theorem dX8_fits_23 : decode cX8_fits 23 = .ok (.goto 4, 3) := dk_167 0 4 (dk_at dksX8_fits_1 0 rfl rfl)
theorem dX8_fits_26 : decode cX8_fits 26 = .ok (.iconst 0, 1) := dk_3 (dk_at dksX8_fits_1 3 rfl rfl)
theorem dX8_fits_27 : decode cX8_fits 27 = .ok (.ireturn, 1) := dk_172 (dk_at dksX8_fits_1 4 rfl rfl)
theorem q88 : (Jvm.Cond.initialized "MacroGlass$Sign") ∈ lw_all := lw_g (lw_at lw_m1 23 rfl) rfl
theorem q493 : (Jvm.Cond.selects "MacroGlass$Sign" ({ cls := "java/lang/Object", name := "getClass", desc := "()Ljava/lang/Class;" } : Jvm.MethodName) ({ cls := "java/lang/Object", name := "getClass", desc := "()Ljava/lang/Class;" } : Jvm.MethodName)) ∈ lw_all := lw_g (lw_at lw_m2 188 rfl) rfl
theorem q522 : (Jvm.Cond.fieldLink "MacroGlass$Sign" (13 : Nat) "MacroGlass$Sign" "name" "J") ∈ lw_all := lw_g (lw_at lw_m2 217 rfl) rfl
theorem q523 : (Jvm.Cond.sameField "MacroGlass$Sign" "MacroGlass$Var" "name" "J") ∈ lw_all := lw_g (lw_at lw_m2 218 rfl) rfl
theorem q536 : (Jvm.Cond.instantiable "MacroGlass$Sign" (3 : Nat)) ∈ lw_all := lw_g (lw_at lw_m2 231 rfl) rfl
theorem q538 : (Jvm.Cond.instanceMethod ({ cls := "MacroGlass$Sign", name := "<init>", desc := "(IJ)V" } : Jvm.MethodName)) ∈ lw_all := lw_g (lw_at lw_m2 233 rfl) rfl
theorem q539 : (Jvm.Cond.code ({ cls := "MacroGlass$Sign", name := "<init>", desc := "(IJ)V" } : Jvm.MethodName) prog_14_method_1_code (4 : Nat) (Option.none : Option Jvm.ClassFile.FieldType)) ∈ lw_all := lw_g (lw_at lw_m2 234 rfl) rfl
theorem q540 : (Jvm.Cond.methodLink "MacroGlass$Sign" (1 : Nat) ({ cls := "MacroGlass$Var", name := "<init>", desc := "(IJZ)V" } : Jvm.MethodName)) ∈ lw_all := lw_g (lw_at lw_m2 235 rfl) rfl
theorem q541 : (Jvm.Cond.laysFinal "MacroGlass$Sign" "MacroGlass$Var" "name" "J") ∈ lw_all := lw_g (lw_at lw_m2 236 rfl) rfl
theorem q542 : (Jvm.Cond.laysFinal "MacroGlass$Sign" "MacroGlass$Var" "isAll" "Z") ∈ lw_all := lw_g (lw_at lw_m2 237 rfl) rfl
theorem q543 : (Jvm.Cond.laysFinal "MacroGlass$Sign" "MacroGlass$Part" "place" "I") ∈ lw_all := lw_g (lw_at lw_m2 238 rfl) rfl
theorem q544 : (Jvm.Cond.superclass "MacroGlass$Sign" "MacroGlass$Var") ∈ lw_all := lw_g (lw_at lw_m2 239 rfl) rfl
theorem q671 : (Jvm.Cond.fieldLinkNest "MacroGlass$Sign" (9 : Nat) "MacroGlass$Name" "letters" "J" "MacroGlass") ∈ lw_tbl := lw_at lw_m3 126 rfl
theorem q746 : (Jvm.Cond.selects "MacroGlass$Sign" ({ cls := "MacroGlass$Part", name := "names", desc := "(Ljava/util/ArrayList;)V" } : Jvm.MethodName) ({ cls := "MacroGlass$Sign", name := "names", desc := "(Ljava/util/ArrayList;)V" } : Jvm.MethodName)) ∈ lw_all := lw_g (lw_at lw_m3 201 rfl) rfl
theorem q747 : (Jvm.Cond.instanceMethod ({ cls := "MacroGlass$Sign", name := "names", desc := "(Ljava/util/ArrayList;)V" } : Jvm.MethodName)) ∈ lw_all := lw_g (lw_at lw_m3 202 rfl) rfl
theorem q748 : (Jvm.Cond.code ({ cls := "MacroGlass$Sign", name := "names", desc := "(Ljava/util/ArrayList;)V" } : Jvm.MethodName) prog_14_method_3_code (2 : Nat) (Option.none : Option Jvm.ClassFile.FieldType)) ∈ lw_all := lw_g (lw_at lw_m3 203 rfl) rfl
theorem q939 : (Jvm.Cond.selects "MacroGlass$Sign" ({ cls := "MacroGlass$Part", name := "fits", desc := "(LMacroGlass$Item;Ljava/util/ArrayList;)Z" } : Jvm.MethodName) ({ cls := "MacroGlass$Sign", name := "fits", desc := "(LMacroGlass$Item;Ljava/util/ArrayList;)Z" } : Jvm.MethodName)) ∈ lw_all := lw_g (lw_at lw_m4 154 rfl) rfl
theorem q940 : (Jvm.Cond.instanceMethod ({ cls := "MacroGlass$Sign", name := "fits", desc := "(LMacroGlass$Item;Ljava/util/ArrayList;)Z" } : Jvm.MethodName)) ∈ lw_all := lw_g (lw_at lw_m4 155 rfl) rfl
theorem q941 : (Jvm.Cond.code ({ cls := "MacroGlass$Sign", name := "fits", desc := "(LMacroGlass$Item;Ljava/util/ArrayList;)Z" } : Jvm.MethodName) prog_14_method_2_code (3 : Nat) (Option.some Jvm.ClassFile.FieldType.boolean)) ∈ lw_all := lw_g (lw_at lw_m4 156 rfl) rfl
theorem q942 : (Jvm.Cond.classLink "MacroGlass$Sign" (7 : Nat) "MacroGlass$Name") ∈ lw_all := lw_g (lw_at lw_m4 157 rfl) rfl
theorem q1030 : (Jvm.Cond.selects "MacroGlass$Sign" ({ cls := "MacroGlass$Part", name := "makes", desc := "(LMacroGlass$Build;)I" } : Jvm.MethodName) ({ cls := "MacroGlass$Var", name := "makes", desc := "(LMacroGlass$Build;)I" } : Jvm.MethodName)) ∈ lw_all := lw_g (lw_at lw_m5 5 rfl) rfl
theorem q1082 : (Jvm.Cond.selects "MacroGlass$Sign" ({ cls := "MacroGlass$Part", name := "build", desc := "(LMacroGlass$Build;LMacroGlass$List;)V" } : Jvm.MethodName) ({ cls := "MacroGlass$Var", name := "build", desc := "(LMacroGlass$Build;LMacroGlass$List;)V" } : Jvm.MethodName)) ∈ lw_all := lw_g (lw_at lw_m5 57 rfl) rfl
theorem q1688 : (Jvm.Cond.castable "MacroGlass$Sign" "MacroGlass$Part") ∈ lw_tbl := lw_at lw_m7 183 rfl
theorem q1690 : (Jvm.Cond.castable "MacroGlass$Sign" "MacroGlass$Var") ∈ lw_tbl := lw_at lw_m7 185 rfl
theorem q1700 : (Jvm.Cond.castable "MacroGlass$Sign" "java/lang/Object") ∈ lw_tbl := lw_at lw_m7 195 rfl
theorem in_X8 : ∀ w ∈ wsX80, w ∈ lw_all := lw_in wsX80 [543, 541, 542] (by decide +kernel) (by decide +kernel)

/-! MacroGlass$Rule -/
set_option maxRecDepth 100000
def RX9 : String := "MacroGlass$Rule"
def TX9 : u_T := fun k => match k with
  | 0 => ("MacroGlass$Rule", "word", "J", true)
  | 1 => ("MacroGlass$Rule", "patterns", "LMacroGlass$Parts;", true)
  | _ => ("MacroGlass$Rule", "template", "LMacroGlass$Part;", true)
def tyX9 : Nat → FieldType := fun k => match k with
  | 0 => .long
  | 1 => .object "MacroGlass$Parts"
  | _ => .object "MacroGlass$Part"
abbrev wsX90 : List Cond := u_ws RX9 TX9 3
theorem nmX9 : ∀ a, a < 3 → ∀ b, b < 3 → a ≠ b → (TX9 a).2.1 ≠ (TX9 b).2.1 := by decide +kernel
theorem tyX9_ok : ∀ k, k < 3 → parseFieldDescriptor (TX9 k).2.2.1 = some (tyX9 k) := by decide +kernel
abbrev cX9_init : ByteArray := prog_13_method_1_code
def yX9_init : MethodName := ⟨RX9, "<init>", "(JLMacroGlass$Parts;LMacroGlass$Part;)V"⟩
def dkwX9_init_0 : List UInt8 := [42, 183, 0, 3, 42, 31, 181, 0, 9, 42, 45, 181, 0, 15, 42, 25, 4, 181, 0, 19, 177]
abbrev dktX9_init_0 : List UInt8 := dkwX9_init_0 ++ []
theorem dksX9_init_0 : cX9_init.data.toList.drop 0 = dktX9_init_0 := by decide +kernel
theorem dX9_init_0 : decode cX9_init 0 = .ok (.aload_n 0, 1) := dk_42 (dk_at dksX9_init_0 0 rfl rfl)
theorem dX9_init_1 : decode cX9_init 1 = .ok (.invokespecial 3, 3) := dk_183 0 3 (dk_at dksX9_init_0 1 rfl rfl)
theorem dX9_init_4 : decode cX9_init 4 = .ok (.aload_n 0, 1) := dk_42 (dk_at dksX9_init_0 4 rfl rfl)
theorem dX9_init_5 : decode cX9_init 5 = .ok (.lload_n 1, 1) := dk_31 (dk_at dksX9_init_0 5 rfl rfl)
theorem dX9_init_6 : decode cX9_init 6 = .ok (.putfield 9, 3) := dk_181 0 9 (dk_at dksX9_init_0 6 rfl rfl)
theorem dX9_init_9 : decode cX9_init 9 = .ok (.aload_n 0, 1) := dk_42 (dk_at dksX9_init_0 9 rfl rfl)
theorem dX9_init_10 : decode cX9_init 10 = .ok (.aload_n 3, 1) := dk_45 (dk_at dksX9_init_0 10 rfl rfl)
theorem dX9_init_11 : decode cX9_init 11 = .ok (.putfield 15, 3) := dk_181 0 15 (dk_at dksX9_init_0 11 rfl rfl)
theorem dX9_init_14 : decode cX9_init 14 = .ok (.aload_n 0, 1) := dk_42 (dk_at dksX9_init_0 14 rfl rfl)
theorem dX9_init_15 : decode cX9_init 15 = .ok (.aload 4, 2) := dk_25 4 (dk_at dksX9_init_0 15 rfl rfl)
theorem dX9_init_17 : decode cX9_init 17 = .ok (.putfield 19, 3) := dk_181 0 19 (dk_at dksX9_init_0 17 rfl rfl)
theorem dX9_init_20 : decode cX9_init 20 = .ok (.return_, 1) := dk_177 (dk_at dksX9_init_0 20 rfl rfl)
abbrev cX9_check : ByteArray := prog_13_method_6_code
def yX9_check : MethodName := ⟨RX9, "check", "(LMacroGlass$Check;)V"⟩
def dkwX9_check_10 : List UInt8 := [132, 4, 1, 167, 255, 131, 177]
abbrev dktX9_check_10 : List UInt8 := dkwX9_check_10 ++ []
def dkwX9_check_9 : List UInt8 := [54, 6, 132, 7, 255, 167, 255, 195, 21, 6, 154, 0, 13, 43, 6, 25, 5, 180, 0, 80, 182, 0, 84]
abbrev dktX9_check_9 : List UInt8 := dkwX9_check_9 ++ dktX9_check_10
def dkwX9_check_8 : List UInt8 := [192, 0, 75, 180, 0, 90, 25, 5, 180, 0, 90, 160, 0, 7, 4, 167, 0, 9, 3, 167, 0, 5, 21, 6]
abbrev dktX9_check_8 : List UInt8 := dkwX9_check_8 ++ dktX9_check_9
def dkwX9_check_7 : List UInt8 := [182, 0, 29, 192, 0, 75, 180, 0, 77, 25, 5, 180, 0, 77, 148, 154, 0, 31, 44, 21, 7, 182, 0, 29]
abbrev dktX9_check_7 : List UInt8 := dkwX9_check_7 ++ dktX9_check_8
def dkwX9_check_6 : List UInt8 := [167, 0, 4, 3, 54, 6, 44, 182, 0, 71, 4, 100, 54, 7, 21, 7, 155, 0, 62, 44, 21, 7]
abbrev dktX9_check_6 : List UInt8 := dkwX9_check_6 ++ dktX9_check_7
def dkwX9_check_5 : List UInt8 := [162, 0, 122, 45, 21, 4, 182, 0, 29, 192, 0, 75, 58, 5, 25, 5, 180, 0, 90, 154, 0, 7, 4]
abbrev dktX9_check_5 : List UInt8 := dkwX9_check_5 ++ dktX9_check_6
def dkwX9_check_4 : List UInt8 := [89, 183, 0, 46, 78, 42, 180, 0, 19, 45, 182, 0, 89, 3, 54, 4, 21, 4, 45, 182, 0, 71]
abbrev dktX9_check_4 : List UInt8 := dkwX9_check_4 ++ dktX9_check_5
def dkwX9_check_3 : List UInt8 := [192, 0, 75, 180, 0, 80, 182, 0, 84, 132, 4, 1, 167, 255, 204, 132, 3, 1, 167, 255, 187, 187, 0, 30]
abbrev dktX9_check_3 : List UInt8 := dkwX9_check_3 ++ dktX9_check_4
def dkwX9_check_2 : List UInt8 := [44, 29, 182, 0, 29, 192, 0, 75, 180, 0, 77, 148, 154, 0, 19, 43, 5, 44, 29, 182, 0, 29]
abbrev dktX9_check_2 : List UInt8 := dkwX9_check_2 ++ dktX9_check_3
def dkwX9_check_1 : List UInt8 := [162, 0, 67, 3, 54, 4, 21, 4, 29, 162, 0, 52, 44, 21, 4, 182, 0, 29, 192, 0, 75, 180, 0, 77]
abbrev dktX9_check_1 : List UInt8 := dkwX9_check_1 ++ dktX9_check_2
def dkwX9_check_0 : List UInt8 := [187, 0, 30, 89, 183, 0, 46, 77, 42, 180, 0, 15, 44, 182, 0, 67, 3, 62, 29, 44, 182, 0, 71]
abbrev dktX9_check_0 : List UInt8 := dkwX9_check_0 ++ dktX9_check_1
theorem dksX9_check_0 : cX9_check.data.toList.drop 0 = dktX9_check_0 := by decide +kernel
theorem dksX9_check_1 : cX9_check.data.toList.drop 23 = dktX9_check_1 := dk_seg dksX9_check_0 23 rfl rfl
theorem dksX9_check_2 : cX9_check.data.toList.drop 47 = dktX9_check_2 := dk_seg dksX9_check_1 24 rfl rfl
theorem dksX9_check_3 : cX9_check.data.toList.drop 69 = dktX9_check_3 := dk_seg dksX9_check_2 22 rfl rfl
theorem dksX9_check_4 : cX9_check.data.toList.drop 93 = dktX9_check_4 := dk_seg dksX9_check_3 24 rfl rfl
theorem dksX9_check_5 : cX9_check.data.toList.drop 115 = dktX9_check_5 := dk_seg dksX9_check_4 22 rfl rfl
theorem dksX9_check_6 : cX9_check.data.toList.drop 138 = dktX9_check_6 := dk_seg dksX9_check_5 23 rfl rfl
theorem dksX9_check_7 : cX9_check.data.toList.drop 160 = dktX9_check_7 := dk_seg dksX9_check_6 22 rfl rfl
theorem dksX9_check_8 : cX9_check.data.toList.drop 184 = dktX9_check_8 := dk_seg dksX9_check_7 24 rfl rfl
theorem dksX9_check_9 : cX9_check.data.toList.drop 208 = dktX9_check_9 := dk_seg dksX9_check_8 24 rfl rfl
theorem dksX9_check_10 : cX9_check.data.toList.drop 231 = dktX9_check_10 := dk_seg dksX9_check_9 23 rfl rfl
theorem dX9_check_0 : decode cX9_check 0 = .ok (.new 30, 3) := dk_187 0 30 (dk_at dksX9_check_0 0 rfl rfl)
theorem dX9_check_3 : decode cX9_check 3 = .ok (.dup, 1) := dk_89 (dk_at dksX9_check_0 3 rfl rfl)
theorem dX9_check_4 : decode cX9_check 4 = .ok (.invokespecial 46, 3) := dk_183 0 46 (dk_at dksX9_check_0 4 rfl rfl)
theorem dX9_check_7 : decode cX9_check 7 = .ok (.astore_n 2, 1) := dk_77 (dk_at dksX9_check_0 7 rfl rfl)
theorem dX9_check_8 : decode cX9_check 8 = .ok (.aload_n 0, 1) := dk_42 (dk_at dksX9_check_0 8 rfl rfl)
theorem dX9_check_9 : decode cX9_check 9 = .ok (.getfield 15, 3) := dk_180 0 15 (dk_at dksX9_check_0 9 rfl rfl)
theorem dX9_check_12 : decode cX9_check 12 = .ok (.aload_n 2, 1) := dk_44 (dk_at dksX9_check_0 12 rfl rfl)
theorem dX9_check_13 : decode cX9_check 13 = .ok (.invokevirtual 67, 3) := dk_182 0 67 (dk_at dksX9_check_0 13 rfl rfl)
theorem dX9_check_16 : decode cX9_check 16 = .ok (.iconst 0, 1) := dk_3 (dk_at dksX9_check_0 16 rfl rfl)
theorem dX9_check_17 : decode cX9_check 17 = .ok (.istore_n 3, 1) := dk_62 (dk_at dksX9_check_0 17 rfl rfl)
theorem dX9_check_18 : decode cX9_check 18 = .ok (.iload_n 3, 1) := dk_29 (dk_at dksX9_check_0 18 rfl rfl)
theorem dX9_check_19 : decode cX9_check 19 = .ok (.aload_n 2, 1) := dk_44 (dk_at dksX9_check_0 19 rfl rfl)
theorem dX9_check_20 : decode cX9_check 20 = .ok (.invokevirtual 71, 3) := dk_182 0 71 (dk_at dksX9_check_0 20 rfl rfl)
theorem dX9_check_23 : decode cX9_check 23 = .ok (.if_icmp .ge 67, 3) := dk_162 0 67 (dk_at dksX9_check_1 0 rfl rfl)
theorem dX9_check_26 : decode cX9_check 26 = .ok (.iconst 0, 1) := dk_3 (dk_at dksX9_check_1 3 rfl rfl)
theorem dX9_check_27 : decode cX9_check 27 = .ok (.istore 4, 2) := dk_54 4 (dk_at dksX9_check_1 4 rfl rfl)
theorem dX9_check_29 : decode cX9_check 29 = .ok (.iload 4, 2) := dk_21 4 (dk_at dksX9_check_1 6 rfl rfl)
theorem dX9_check_31 : decode cX9_check 31 = .ok (.iload_n 3, 1) := dk_29 (dk_at dksX9_check_1 8 rfl rfl)
theorem dX9_check_32 : decode cX9_check 32 = .ok (.if_icmp .ge 52, 3) := dk_162 0 52 (dk_at dksX9_check_1 9 rfl rfl)
theorem dX9_check_35 : decode cX9_check 35 = .ok (.aload_n 2, 1) := dk_44 (dk_at dksX9_check_1 12 rfl rfl)
theorem dX9_check_36 : decode cX9_check 36 = .ok (.iload 4, 2) := dk_21 4 (dk_at dksX9_check_1 13 rfl rfl)
theorem dX9_check_38 : decode cX9_check 38 = .ok (.invokevirtual 29, 3) := dk_182 0 29 (dk_at dksX9_check_1 15 rfl rfl)
theorem dX9_check_41 : decode cX9_check 41 = .ok (.checkcast 75, 3) := dk_192 0 75 (dk_at dksX9_check_1 18 rfl rfl)
theorem dX9_check_44 : decode cX9_check 44 = .ok (.getfield 77, 3) := dk_180 0 77 (dk_at dksX9_check_1 21 rfl rfl)
theorem dX9_check_47 : decode cX9_check 47 = .ok (.aload_n 2, 1) := dk_44 (dk_at dksX9_check_2 0 rfl rfl)
theorem dX9_check_48 : decode cX9_check 48 = .ok (.iload_n 3, 1) := dk_29 (dk_at dksX9_check_2 1 rfl rfl)
theorem dX9_check_49 : decode cX9_check 49 = .ok (.invokevirtual 29, 3) := dk_182 0 29 (dk_at dksX9_check_2 2 rfl rfl)
theorem dX9_check_52 : decode cX9_check 52 = .ok (.checkcast 75, 3) := dk_192 0 75 (dk_at dksX9_check_2 5 rfl rfl)
theorem dX9_check_55 : decode cX9_check 55 = .ok (.getfield 77, 3) := dk_180 0 77 (dk_at dksX9_check_2 8 rfl rfl)
theorem dX9_check_58 : decode cX9_check 58 = .ok (.lcmp, 1) := dk_148 (dk_at dksX9_check_2 11 rfl rfl)
theorem dX9_check_59 : decode cX9_check 59 = .ok (.ifCond .ne 19, 3) := dk_154 0 19 (dk_at dksX9_check_2 12 rfl rfl)
theorem dX9_check_62 : decode cX9_check 62 = .ok (.aload_n 1, 1) := dk_43 (dk_at dksX9_check_2 15 rfl rfl)
theorem dX9_check_63 : decode cX9_check 63 = .ok (.iconst 2, 1) := dk_5 (dk_at dksX9_check_2 16 rfl rfl)
theorem dX9_check_64 : decode cX9_check 64 = .ok (.aload_n 2, 1) := dk_44 (dk_at dksX9_check_2 17 rfl rfl)
theorem dX9_check_65 : decode cX9_check 65 = .ok (.iload_n 3, 1) := dk_29 (dk_at dksX9_check_2 18 rfl rfl)
theorem dX9_check_66 : decode cX9_check 66 = .ok (.invokevirtual 29, 3) := dk_182 0 29 (dk_at dksX9_check_2 19 rfl rfl)
theorem dX9_check_69 : decode cX9_check 69 = .ok (.checkcast 75, 3) := dk_192 0 75 (dk_at dksX9_check_3 0 rfl rfl)
theorem dX9_check_72 : decode cX9_check 72 = .ok (.getfield 80, 3) := dk_180 0 80 (dk_at dksX9_check_3 3 rfl rfl)
theorem dX9_check_75 : decode cX9_check 75 = .ok (.invokevirtual 84, 3) := dk_182 0 84 (dk_at dksX9_check_3 6 rfl rfl)
theorem dX9_check_78 : decode cX9_check 78 = .ok (.iinc 4 1, 3) := dk_132 4 1 (dk_at dksX9_check_3 9 rfl rfl)
theorem dX9_check_81 : decode cX9_check 81 = .ok (.goto (-52), 3) := dk_167 255 204 (dk_at dksX9_check_3 12 rfl rfl)
theorem dX9_check_84 : decode cX9_check 84 = .ok (.iinc 3 1, 3) := dk_132 3 1 (dk_at dksX9_check_3 15 rfl rfl)
theorem dX9_check_87 : decode cX9_check 87 = .ok (.goto (-69), 3) := dk_167 255 187 (dk_at dksX9_check_3 18 rfl rfl)
theorem dX9_check_90 : decode cX9_check 90 = .ok (.new 30, 3) := dk_187 0 30 (dk_at dksX9_check_3 21 rfl rfl)
theorem dX9_check_93 : decode cX9_check 93 = .ok (.dup, 1) := dk_89 (dk_at dksX9_check_4 0 rfl rfl)
theorem dX9_check_94 : decode cX9_check 94 = .ok (.invokespecial 46, 3) := dk_183 0 46 (dk_at dksX9_check_4 1 rfl rfl)
theorem dX9_check_97 : decode cX9_check 97 = .ok (.astore_n 3, 1) := dk_78 (dk_at dksX9_check_4 4 rfl rfl)
theorem dX9_check_98 : decode cX9_check 98 = .ok (.aload_n 0, 1) := dk_42 (dk_at dksX9_check_4 5 rfl rfl)
theorem dX9_check_99 : decode cX9_check 99 = .ok (.getfield 19, 3) := dk_180 0 19 (dk_at dksX9_check_4 6 rfl rfl)
theorem dX9_check_102 : decode cX9_check 102 = .ok (.aload_n 3, 1) := dk_45 (dk_at dksX9_check_4 9 rfl rfl)
theorem dX9_check_103 : decode cX9_check 103 = .ok (.invokevirtual 89, 3) := dk_182 0 89 (dk_at dksX9_check_4 10 rfl rfl)
theorem dX9_check_106 : decode cX9_check 106 = .ok (.iconst 0, 1) := dk_3 (dk_at dksX9_check_4 13 rfl rfl)
theorem dX9_check_107 : decode cX9_check 107 = .ok (.istore 4, 2) := dk_54 4 (dk_at dksX9_check_4 14 rfl rfl)
theorem dX9_check_109 : decode cX9_check 109 = .ok (.iload 4, 2) := dk_21 4 (dk_at dksX9_check_4 16 rfl rfl)
theorem dX9_check_111 : decode cX9_check 111 = .ok (.aload_n 3, 1) := dk_45 (dk_at dksX9_check_4 18 rfl rfl)
theorem dX9_check_112 : decode cX9_check 112 = .ok (.invokevirtual 71, 3) := dk_182 0 71 (dk_at dksX9_check_4 19 rfl rfl)
theorem dX9_check_115 : decode cX9_check 115 = .ok (.if_icmp .ge 122, 3) := dk_162 0 122 (dk_at dksX9_check_5 0 rfl rfl)
theorem dX9_check_118 : decode cX9_check 118 = .ok (.aload_n 3, 1) := dk_45 (dk_at dksX9_check_5 3 rfl rfl)
theorem dX9_check_119 : decode cX9_check 119 = .ok (.iload 4, 2) := dk_21 4 (dk_at dksX9_check_5 4 rfl rfl)
theorem dX9_check_121 : decode cX9_check 121 = .ok (.invokevirtual 29, 3) := dk_182 0 29 (dk_at dksX9_check_5 6 rfl rfl)
theorem dX9_check_124 : decode cX9_check 124 = .ok (.checkcast 75, 3) := dk_192 0 75 (dk_at dksX9_check_5 9 rfl rfl)
theorem dX9_check_127 : decode cX9_check 127 = .ok (.astore 5, 2) := dk_58 5 (dk_at dksX9_check_5 12 rfl rfl)
theorem dX9_check_129 : decode cX9_check 129 = .ok (.aload 5, 2) := dk_25 5 (dk_at dksX9_check_5 14 rfl rfl)
theorem dX9_check_131 : decode cX9_check 131 = .ok (.getfield 90, 3) := dk_180 0 90 (dk_at dksX9_check_5 16 rfl rfl)
theorem dX9_check_134 : decode cX9_check 134 = .ok (.ifCond .ne 7, 3) := dk_154 0 7 (dk_at dksX9_check_5 19 rfl rfl)
theorem dX9_check_137 : decode cX9_check 137 = .ok (.iconst 1, 1) := dk_4 (dk_at dksX9_check_5 22 rfl rfl)
theorem dX9_check_138 : decode cX9_check 138 = .ok (.goto 4, 3) := dk_167 0 4 (dk_at dksX9_check_6 0 rfl rfl)
theorem dX9_check_141 : decode cX9_check 141 = .ok (.iconst 0, 1) := dk_3 (dk_at dksX9_check_6 3 rfl rfl)
theorem dX9_check_142 : decode cX9_check 142 = .ok (.istore 6, 2) := dk_54 6 (dk_at dksX9_check_6 4 rfl rfl)
theorem dX9_check_144 : decode cX9_check 144 = .ok (.aload_n 2, 1) := dk_44 (dk_at dksX9_check_6 6 rfl rfl)
theorem dX9_check_145 : decode cX9_check 145 = .ok (.invokevirtual 71, 3) := dk_182 0 71 (dk_at dksX9_check_6 7 rfl rfl)
theorem dX9_check_148 : decode cX9_check 148 = .ok (.iconst 1, 1) := dk_4 (dk_at dksX9_check_6 10 rfl rfl)
theorem dX9_check_149 : decode cX9_check 149 = .ok (.isub, 1) := dk_100 (dk_at dksX9_check_6 11 rfl rfl)
theorem dX9_check_150 : decode cX9_check 150 = .ok (.istore 7, 2) := dk_54 7 (dk_at dksX9_check_6 12 rfl rfl)
theorem dX9_check_152 : decode cX9_check 152 = .ok (.iload 7, 2) := dk_21 7 (dk_at dksX9_check_6 14 rfl rfl)
theorem dX9_check_154 : decode cX9_check 154 = .ok (.ifCond .lt 62, 3) := dk_155 0 62 (dk_at dksX9_check_6 16 rfl rfl)
theorem dX9_check_157 : decode cX9_check 157 = .ok (.aload_n 2, 1) := dk_44 (dk_at dksX9_check_6 19 rfl rfl)
theorem dX9_check_158 : decode cX9_check 158 = .ok (.iload 7, 2) := dk_21 7 (dk_at dksX9_check_6 20 rfl rfl)
theorem dX9_check_160 : decode cX9_check 160 = .ok (.invokevirtual 29, 3) := dk_182 0 29 (dk_at dksX9_check_7 0 rfl rfl)
theorem dX9_check_163 : decode cX9_check 163 = .ok (.checkcast 75, 3) := dk_192 0 75 (dk_at dksX9_check_7 3 rfl rfl)
theorem dX9_check_166 : decode cX9_check 166 = .ok (.getfield 77, 3) := dk_180 0 77 (dk_at dksX9_check_7 6 rfl rfl)
theorem dX9_check_169 : decode cX9_check 169 = .ok (.aload 5, 2) := dk_25 5 (dk_at dksX9_check_7 9 rfl rfl)
theorem dX9_check_171 : decode cX9_check 171 = .ok (.getfield 77, 3) := dk_180 0 77 (dk_at dksX9_check_7 11 rfl rfl)
theorem dX9_check_174 : decode cX9_check 174 = .ok (.lcmp, 1) := dk_148 (dk_at dksX9_check_7 14 rfl rfl)
theorem dX9_check_175 : decode cX9_check 175 = .ok (.ifCond .ne 31, 3) := dk_154 0 31 (dk_at dksX9_check_7 15 rfl rfl)
theorem dX9_check_178 : decode cX9_check 178 = .ok (.aload_n 2, 1) := dk_44 (dk_at dksX9_check_7 18 rfl rfl)
theorem dX9_check_179 : decode cX9_check 179 = .ok (.iload 7, 2) := dk_21 7 (dk_at dksX9_check_7 19 rfl rfl)
theorem dX9_check_181 : decode cX9_check 181 = .ok (.invokevirtual 29, 3) := dk_182 0 29 (dk_at dksX9_check_7 21 rfl rfl)
theorem dX9_check_184 : decode cX9_check 184 = .ok (.checkcast 75, 3) := dk_192 0 75 (dk_at dksX9_check_8 0 rfl rfl)
theorem dX9_check_187 : decode cX9_check 187 = .ok (.getfield 90, 3) := dk_180 0 90 (dk_at dksX9_check_8 3 rfl rfl)
theorem dX9_check_190 : decode cX9_check 190 = .ok (.aload 5, 2) := dk_25 5 (dk_at dksX9_check_8 6 rfl rfl)
theorem dX9_check_192 : decode cX9_check 192 = .ok (.getfield 90, 3) := dk_180 0 90 (dk_at dksX9_check_8 8 rfl rfl)
theorem dX9_check_195 : decode cX9_check 195 = .ok (.if_icmp .ne 7, 3) := dk_160 0 7 (dk_at dksX9_check_8 11 rfl rfl)
theorem dX9_check_198 : decode cX9_check 198 = .ok (.iconst 1, 1) := dk_4 (dk_at dksX9_check_8 14 rfl rfl)
theorem dX9_check_199 : decode cX9_check 199 = .ok (.goto 9, 3) := dk_167 0 9 (dk_at dksX9_check_8 15 rfl rfl)
theorem dX9_check_202 : decode cX9_check 202 = .ok (.iconst 0, 1) := dk_3 (dk_at dksX9_check_8 18 rfl rfl)
theorem dX9_check_203 : decode cX9_check 203 = .ok (.goto 5, 3) := dk_167 0 5 (dk_at dksX9_check_8 19 rfl rfl)
theorem dX9_check_206 : decode cX9_check 206 = .ok (.iload 6, 2) := dk_21 6 (dk_at dksX9_check_8 22 rfl rfl)
theorem dX9_check_208 : decode cX9_check 208 = .ok (.istore 6, 2) := dk_54 6 (dk_at dksX9_check_9 0 rfl rfl)
theorem dX9_check_210 : decode cX9_check 210 = .ok (.iinc 7 (-1), 3) := dk_132 7 255 (dk_at dksX9_check_9 2 rfl rfl)
theorem dX9_check_213 : decode cX9_check 213 = .ok (.goto (-61), 3) := dk_167 255 195 (dk_at dksX9_check_9 5 rfl rfl)
theorem dX9_check_216 : decode cX9_check 216 = .ok (.iload 6, 2) := dk_21 6 (dk_at dksX9_check_9 8 rfl rfl)
theorem dX9_check_218 : decode cX9_check 218 = .ok (.ifCond .ne 13, 3) := dk_154 0 13 (dk_at dksX9_check_9 10 rfl rfl)
theorem dX9_check_221 : decode cX9_check 221 = .ok (.aload_n 1, 1) := dk_43 (dk_at dksX9_check_9 13 rfl rfl)
theorem dX9_check_222 : decode cX9_check 222 = .ok (.iconst 3, 1) := dk_6 (dk_at dksX9_check_9 14 rfl rfl)
theorem dX9_check_223 : decode cX9_check 223 = .ok (.aload 5, 2) := dk_25 5 (dk_at dksX9_check_9 15 rfl rfl)
theorem dX9_check_225 : decode cX9_check 225 = .ok (.getfield 80, 3) := dk_180 0 80 (dk_at dksX9_check_9 17 rfl rfl)
theorem dX9_check_228 : decode cX9_check 228 = .ok (.invokevirtual 84, 3) := dk_182 0 84 (dk_at dksX9_check_9 20 rfl rfl)
theorem dX9_check_231 : decode cX9_check 231 = .ok (.iinc 4 1, 3) := dk_132 4 1 (dk_at dksX9_check_10 0 rfl rfl)
theorem dX9_check_234 : decode cX9_check 234 = .ok (.goto (-125), 3) := dk_167 255 131 (dk_at dksX9_check_10 3 rfl rfl)
theorem dX9_check_237 : decode cX9_check 237 = .ok (.return_, 1) := dk_177 (dk_at dksX9_check_10 6 rfl rfl)
abbrev cX9_fits : ByteArray := prog_13_method_2_code
def yX9_fits : MethodName := ⟨RX9, "fits", "(LMacroGlass$List;)Z"⟩
def dkwX9_fits_1 : List UInt8 := [180, 0, 15, 43, 4, 1, 182, 0, 40, 153, 0, 7, 4, 167, 0, 4, 3, 172]
abbrev dktX9_fits_1 : List UInt8 := dkwX9_fits_1 ++ []
def dkwX9_fits_0 : List UInt8 := [43, 180, 0, 23, 3, 182, 0, 29, 192, 0, 35, 180, 0, 37, 42, 180, 0, 9, 148, 154, 0, 20, 42]
abbrev dktX9_fits_0 : List UInt8 := dkwX9_fits_0 ++ dktX9_fits_1
theorem dksX9_fits_0 : cX9_fits.data.toList.drop 0 = dktX9_fits_0 := by decide +kernel
theorem dksX9_fits_1 : cX9_fits.data.toList.drop 23 = dktX9_fits_1 := dk_seg dksX9_fits_0 23 rfl rfl
theorem dX9_fits_0 : decode cX9_fits 0 = .ok (.aload_n 1, 1) := dk_43 (dk_at dksX9_fits_0 0 rfl rfl)
theorem dX9_fits_1 : decode cX9_fits 1 = .ok (.getfield 23, 3) := dk_180 0 23 (dk_at dksX9_fits_0 1 rfl rfl)
theorem dX9_fits_4 : decode cX9_fits 4 = .ok (.iconst 0, 1) := dk_3 (dk_at dksX9_fits_0 4 rfl rfl)
theorem dX9_fits_5 : decode cX9_fits 5 = .ok (.invokevirtual 29, 3) := dk_182 0 29 (dk_at dksX9_fits_0 5 rfl rfl)
theorem dX9_fits_8 : decode cX9_fits 8 = .ok (.checkcast 35, 3) := dk_192 0 35 (dk_at dksX9_fits_0 8 rfl rfl)
theorem dX9_fits_11 : decode cX9_fits 11 = .ok (.getfield 37, 3) := dk_180 0 37 (dk_at dksX9_fits_0 11 rfl rfl)
theorem dX9_fits_14 : decode cX9_fits 14 = .ok (.aload_n 0, 1) := dk_42 (dk_at dksX9_fits_0 14 rfl rfl)
theorem dX9_fits_15 : decode cX9_fits 15 = .ok (.getfield 9, 3) := dk_180 0 9 (dk_at dksX9_fits_0 15 rfl rfl)
theorem dX9_fits_18 : decode cX9_fits 18 = .ok (.lcmp, 1) := dk_148 (dk_at dksX9_fits_0 18 rfl rfl)
theorem dX9_fits_19 : decode cX9_fits 19 = .ok (.ifCond .ne 20, 3) := dk_154 0 20 (dk_at dksX9_fits_0 19 rfl rfl)
theorem dX9_fits_22 : decode cX9_fits 22 = .ok (.aload_n 0, 1) := dk_42 (dk_at dksX9_fits_0 22 rfl rfl)
theorem dX9_fits_23 : decode cX9_fits 23 = .ok (.getfield 15, 3) := dk_180 0 15 (dk_at dksX9_fits_1 0 rfl rfl)
theorem dX9_fits_26 : decode cX9_fits 26 = .ok (.aload_n 1, 1) := dk_43 (dk_at dksX9_fits_1 3 rfl rfl)
theorem dX9_fits_27 : decode cX9_fits 27 = .ok (.iconst 1, 1) := dk_4 (dk_at dksX9_fits_1 4 rfl rfl)
theorem dX9_fits_28 : decode cX9_fits 28 = .ok (.aconst_null, 1) := dk_1 (dk_at dksX9_fits_1 5 rfl rfl)
theorem dX9_fits_29 : decode cX9_fits 29 = .ok (.invokevirtual 40, 3) := dk_182 0 40 (dk_at dksX9_fits_1 6 rfl rfl)
theorem dX9_fits_32 : decode cX9_fits 32 = .ok (.ifCond .eq 7, 3) := dk_153 0 7 (dk_at dksX9_fits_1 9 rfl rfl)
theorem dX9_fits_35 : decode cX9_fits 35 = .ok (.iconst 1, 1) := dk_4 (dk_at dksX9_fits_1 12 rfl rfl)
theorem dX9_fits_36 : decode cX9_fits 36 = .ok (.goto 4, 3) := dk_167 0 4 (dk_at dksX9_fits_1 13 rfl rfl)
theorem dX9_fits_39 : decode cX9_fits 39 = .ok (.iconst 0, 1) := dk_3 (dk_at dksX9_fits_1 16 rfl rfl)
theorem dX9_fits_40 : decode cX9_fits 40 = .ok (.ireturn, 1) := dk_172 (dk_at dksX9_fits_1 17 rfl rfl)
abbrev cX9_readied : ByteArray := prog_13_method_3_code
def yX9_readied : MethodName := ⟨RX9, "readied", "(LMacroGlass$List;I)LMacroGlass$Build;"⟩
def dkwX9_readied_1 : List UInt8 := [45, 28, 42, 28, 43, 180, 0, 23, 3, 182, 0, 29, 192, 0, 35, 182, 0, 49, 183, 0, 53, 176]
abbrev dktX9_readied_1 : List UInt8 := dkwX9_readied_1 ++ []
def dkwX9_readied_0 : List UInt8 := [187, 0, 30, 89, 183, 0, 46, 78, 42, 180, 0, 15, 43, 4, 45, 182, 0, 40, 54, 4, 187, 0, 47, 89]
abbrev dktX9_readied_0 : List UInt8 := dkwX9_readied_0 ++ dktX9_readied_1
theorem dksX9_readied_0 : cX9_readied.data.toList.drop 0 = dktX9_readied_0 := by decide +kernel
theorem dksX9_readied_1 : cX9_readied.data.toList.drop 24 = dktX9_readied_1 := dk_seg dksX9_readied_0 24 rfl rfl
theorem dX9_readied_0 : decode cX9_readied 0 = .ok (.new 30, 3) := dk_187 0 30 (dk_at dksX9_readied_0 0 rfl rfl)
theorem dX9_readied_3 : decode cX9_readied 3 = .ok (.dup, 1) := dk_89 (dk_at dksX9_readied_0 3 rfl rfl)
theorem dX9_readied_4 : decode cX9_readied 4 = .ok (.invokespecial 46, 3) := dk_183 0 46 (dk_at dksX9_readied_0 4 rfl rfl)
theorem dX9_readied_7 : decode cX9_readied 7 = .ok (.astore_n 3, 1) := dk_78 (dk_at dksX9_readied_0 7 rfl rfl)
theorem dX9_readied_8 : decode cX9_readied 8 = .ok (.aload_n 0, 1) := dk_42 (dk_at dksX9_readied_0 8 rfl rfl)
theorem dX9_readied_9 : decode cX9_readied 9 = .ok (.getfield 15, 3) := dk_180 0 15 (dk_at dksX9_readied_0 9 rfl rfl)
theorem dX9_readied_12 : decode cX9_readied 12 = .ok (.aload_n 1, 1) := dk_43 (dk_at dksX9_readied_0 12 rfl rfl)
theorem dX9_readied_13 : decode cX9_readied 13 = .ok (.iconst 1, 1) := dk_4 (dk_at dksX9_readied_0 13 rfl rfl)
theorem dX9_readied_14 : decode cX9_readied 14 = .ok (.aload_n 3, 1) := dk_45 (dk_at dksX9_readied_0 14 rfl rfl)
theorem dX9_readied_15 : decode cX9_readied 15 = .ok (.invokevirtual 40, 3) := dk_182 0 40 (dk_at dksX9_readied_0 15 rfl rfl)
theorem dX9_readied_18 : decode cX9_readied 18 = .ok (.istore 4, 2) := dk_54 4 (dk_at dksX9_readied_0 18 rfl rfl)
theorem dX9_readied_20 : decode cX9_readied 20 = .ok (.new 47, 3) := dk_187 0 47 (dk_at dksX9_readied_0 20 rfl rfl)
theorem dX9_readied_23 : decode cX9_readied 23 = .ok (.dup, 1) := dk_89 (dk_at dksX9_readied_0 23 rfl rfl)
theorem dX9_readied_24 : decode cX9_readied 24 = .ok (.aload_n 3, 1) := dk_45 (dk_at dksX9_readied_1 0 rfl rfl)
theorem dX9_readied_25 : decode cX9_readied 25 = .ok (.iload_n 2, 1) := dk_28 (dk_at dksX9_readied_1 1 rfl rfl)
theorem dX9_readied_26 : decode cX9_readied 26 = .ok (.aload_n 0, 1) := dk_42 (dk_at dksX9_readied_1 2 rfl rfl)
theorem dX9_readied_27 : decode cX9_readied 27 = .ok (.iload_n 2, 1) := dk_28 (dk_at dksX9_readied_1 3 rfl rfl)
theorem dX9_readied_28 : decode cX9_readied 28 = .ok (.aload_n 1, 1) := dk_43 (dk_at dksX9_readied_1 4 rfl rfl)
theorem dX9_readied_29 : decode cX9_readied 29 = .ok (.getfield 23, 3) := dk_180 0 23 (dk_at dksX9_readied_1 5 rfl rfl)
theorem dX9_readied_32 : decode cX9_readied 32 = .ok (.iconst 0, 1) := dk_3 (dk_at dksX9_readied_1 8 rfl rfl)
theorem dX9_readied_33 : decode cX9_readied 33 = .ok (.invokevirtual 29, 3) := dk_182 0 29 (dk_at dksX9_readied_1 9 rfl rfl)
theorem dX9_readied_36 : decode cX9_readied 36 = .ok (.checkcast 35, 3) := dk_192 0 35 (dk_at dksX9_readied_1 12 rfl rfl)
theorem dX9_readied_39 : decode cX9_readied 39 = .ok (.invokevirtual 49, 3) := dk_182 0 49 (dk_at dksX9_readied_1 15 rfl rfl)
theorem dX9_readied_42 : decode cX9_readied 42 = .ok (.invokespecial 53, 3) := dk_183 0 53 (dk_at dksX9_readied_1 18 rfl rfl)
theorem dX9_readied_45 : decode cX9_readied 45 = .ok (.areturn, 1) := dk_176 (dk_at dksX9_readied_1 21 rfl rfl)
abbrev cX9_mark : ByteArray := prog_13_method_4_code
def yX9_mark : MethodName := ⟨RX9, "mark", "(ILMacroGlass$Name;)I"⟩
theorem dX9_mark_0 : decode cX9_mark 0 = .ok (.iload_n 1, 1) := by decide +kernel
theorem dX9_mark_1 : decode cX9_mark 1 = .ok (.ireturn, 1) := by decide +kernel
abbrev cX9_build : ByteArray := prog_13_method_5_code
def yX9_build : MethodName := ⟨RX9, "build", "(LMacroGlass$Build;)LMacroGlass$Item;"⟩
def dkwX9_build_1 : List UInt8 := [182, 0, 29, 192, 0, 65, 176]
abbrev dktX9_build_1 : List UInt8 := dkwX9_build_1 ++ []
def dkwX9_build_0 : List UInt8 := [187, 0, 24, 89, 3, 3, 183, 0, 56, 77, 42, 180, 0, 19, 43, 44, 182, 0, 59, 44, 180, 0, 23, 3]
abbrev dktX9_build_0 : List UInt8 := dkwX9_build_0 ++ dktX9_build_1
theorem dksX9_build_0 : cX9_build.data.toList.drop 0 = dktX9_build_0 := by decide +kernel
theorem dksX9_build_1 : cX9_build.data.toList.drop 24 = dktX9_build_1 := dk_seg dksX9_build_0 24 rfl rfl
theorem dX9_build_0 : decode cX9_build 0 = .ok (.new 24, 3) := dk_187 0 24 (dk_at dksX9_build_0 0 rfl rfl)
theorem dX9_build_3 : decode cX9_build 3 = .ok (.dup, 1) := dk_89 (dk_at dksX9_build_0 3 rfl rfl)
theorem dX9_build_4 : decode cX9_build 4 = .ok (.iconst 0, 1) := dk_3 (dk_at dksX9_build_0 4 rfl rfl)
theorem dX9_build_5 : decode cX9_build 5 = .ok (.iconst 0, 1) := dk_3 (dk_at dksX9_build_0 5 rfl rfl)
theorem dX9_build_6 : decode cX9_build 6 = .ok (.invokespecial 56, 3) := dk_183 0 56 (dk_at dksX9_build_0 6 rfl rfl)
theorem dX9_build_9 : decode cX9_build 9 = .ok (.astore_n 2, 1) := dk_77 (dk_at dksX9_build_0 9 rfl rfl)
theorem dX9_build_10 : decode cX9_build 10 = .ok (.aload_n 0, 1) := dk_42 (dk_at dksX9_build_0 10 rfl rfl)
theorem dX9_build_11 : decode cX9_build 11 = .ok (.getfield 19, 3) := dk_180 0 19 (dk_at dksX9_build_0 11 rfl rfl)
theorem dX9_build_14 : decode cX9_build 14 = .ok (.aload_n 1, 1) := dk_43 (dk_at dksX9_build_0 14 rfl rfl)
theorem dX9_build_15 : decode cX9_build 15 = .ok (.aload_n 2, 1) := dk_44 (dk_at dksX9_build_0 15 rfl rfl)
theorem dX9_build_16 : decode cX9_build 16 = .ok (.invokevirtual 59, 3) := dk_182 0 59 (dk_at dksX9_build_0 16 rfl rfl)
theorem dX9_build_19 : decode cX9_build 19 = .ok (.aload_n 2, 1) := dk_44 (dk_at dksX9_build_0 19 rfl rfl)
theorem dX9_build_20 : decode cX9_build 20 = .ok (.getfield 23, 3) := dk_180 0 23 (dk_at dksX9_build_0 20 rfl rfl)
theorem dX9_build_23 : decode cX9_build 23 = .ok (.iconst 0, 1) := dk_3 (dk_at dksX9_build_0 23 rfl rfl)
theorem dX9_build_24 : decode cX9_build 24 = .ok (.invokevirtual 29, 3) := dk_182 0 29 (dk_at dksX9_build_1 0 rfl rfl)
theorem dX9_build_27 : decode cX9_build 27 = .ok (.checkcast 65, 3) := dk_192 0 65 (dk_at dksX9_build_1 3 rfl rfl)
theorem dX9_build_30 : decode cX9_build 30 = .ok (.areturn, 1) := dk_176 (dk_at dksX9_build_1 6 rfl rfl)
theorem q89 : (Jvm.Cond.initialized "MacroGlass$Rule") ∈ lw_all := lw_g (lw_at lw_m1 24 rfl) rfl
theorem q433 : (Jvm.Cond.fieldLink "MacroGlass$Rule" (80 : Nat) "MacroGlass$Var" "place" "I") ∈ lw_all := lw_g (lw_at lw_m2 128 rfl) rfl
theorem q492 : (Jvm.Cond.selects "MacroGlass$Rule" ({ cls := "java/lang/Object", name := "getClass", desc := "()Ljava/lang/Class;" } : Jvm.MethodName) ({ cls := "java/lang/Object", name := "getClass", desc := "()Ljava/lang/Class;" } : Jvm.MethodName)) ∈ lw_all := lw_g (lw_at lw_m2 187 rfl) rfl
theorem q525 : (Jvm.Cond.fieldLink "MacroGlass$Rule" (77 : Nat) "MacroGlass$Var" "name" "J") ∈ lw_all := lw_g (lw_at lw_m2 220 rfl) rfl
theorem q528 : (Jvm.Cond.fieldLink "MacroGlass$Rule" (90 : Nat) "MacroGlass$Var" "isAll" "Z") ∈ lw_all := lw_g (lw_at lw_m2 223 rfl) rfl
theorem q559 : (Jvm.Cond.instanceMethod ({ cls := "MacroGlass$Rule", name := "<init>", desc := "(JLMacroGlass$Parts;LMacroGlass$Part;)V" } : Jvm.MethodName)) ∈ lw_all := lw_g (lw_at lw_m3 14 rfl) rfl
theorem q560 : (Jvm.Cond.code ({ cls := "MacroGlass$Rule", name := "<init>", desc := "(JLMacroGlass$Parts;LMacroGlass$Part;)V" } : Jvm.MethodName) prog_13_method_1_code (5 : Nat) (Option.none : Option Jvm.ClassFile.FieldType)) ∈ lw_all := lw_g (lw_at lw_m3 15 rfl) rfl
theorem q561 : (Jvm.Cond.methodLink "MacroGlass$Rule" (3 : Nat) ({ cls := "java/lang/Object", name := "<init>", desc := "()V" } : Jvm.MethodName)) ∈ lw_all := lw_g (lw_at lw_m3 16 rfl) rfl
theorem q562 : (Jvm.Cond.fieldLink "MacroGlass$Rule" (9 : Nat) "MacroGlass$Rule" "word" "J") ∈ lw_all := lw_g (lw_at lw_m3 17 rfl) rfl
theorem q564 : (Jvm.Cond.fieldLink "MacroGlass$Rule" (15 : Nat) "MacroGlass$Rule" "patterns" "LMacroGlass$Parts;") ∈ lw_all := lw_g (lw_at lw_m3 19 rfl) rfl
theorem q565 : (Jvm.Cond.fieldLink "MacroGlass$Rule" (19 : Nat) "MacroGlass$Rule" "template" "LMacroGlass$Part;") ∈ lw_all := lw_g (lw_at lw_m3 20 rfl) rfl
theorem q568 : (Jvm.Cond.soleField "MacroGlass$Rule" "word") ∈ lw_all := lw_g (lw_at lw_m3 23 rfl) rfl
theorem q570 : (Jvm.Cond.soleField "MacroGlass$Rule" "patterns") ∈ lw_all := lw_g (lw_at lw_m3 25 rfl) rfl
theorem q572 : (Jvm.Cond.soleField "MacroGlass$Rule" "template") ∈ lw_all := lw_g (lw_at lw_m3 27 rfl) rfl
theorem q575 : (Jvm.Cond.instantiable "MacroGlass$Rule" (3 : Nat)) ∈ lw_all := lw_g (lw_at lw_m3 30 rfl) rfl
theorem q577 : (Jvm.Cond.laysFinal "MacroGlass$Rule" "MacroGlass$Rule" "word" "J") ∈ lw_all := lw_g (lw_at lw_m3 32 rfl) rfl
theorem q578 : (Jvm.Cond.laysFinal "MacroGlass$Rule" "MacroGlass$Rule" "patterns" "LMacroGlass$Parts;") ∈ lw_all := lw_g (lw_at lw_m3 33 rfl) rfl
theorem q579 : (Jvm.Cond.laysFinal "MacroGlass$Rule" "MacroGlass$Rule" "template" "LMacroGlass$Part;") ∈ lw_all := lw_g (lw_at lw_m3 34 rfl) rfl
theorem q580 : (Jvm.Cond.superclass "MacroGlass$Rule" "java/lang/Object") ∈ lw_all := lw_g (lw_at lw_m3 35 rfl) rfl
theorem q593 : (Jvm.Cond.fieldLinkNest "MacroGlass$Rule" (23 : Nat) "MacroGlass$List" "items" "Ljava/util/ArrayList;" "MacroGlass") ∈ lw_tbl := lw_at lw_m3 48 rfl
theorem q670 : (Jvm.Cond.fieldLinkNest "MacroGlass$Rule" (37 : Nat) "MacroGlass$Name" "letters" "J" "MacroGlass") ∈ lw_tbl := lw_at lw_m3 125 rfl
theorem q727 : (Jvm.Cond.instanceMethod ({ cls := "MacroGlass$Rule", name := "check", desc := "(LMacroGlass$Check;)V" } : Jvm.MethodName)) ∈ lw_all := lw_g (lw_at lw_m3 182 rfl) rfl
theorem q728 : (Jvm.Cond.selects "MacroGlass$Rule" ({ cls := "MacroGlass$Rule", name := "check", desc := "(LMacroGlass$Check;)V" } : Jvm.MethodName) ({ cls := "MacroGlass$Rule", name := "check", desc := "(LMacroGlass$Check;)V" } : Jvm.MethodName)) ∈ lw_all := lw_g (lw_at lw_m3 183 rfl) rfl
theorem q729 : (Jvm.Cond.sameMethod "MacroGlass$Rule" "MacroGlass$Rule" "check" "(LMacroGlass$Check;)V") ∈ lw_all := lw_g (lw_at lw_m3 184 rfl) rfl
theorem q731 : (Jvm.Cond.code ({ cls := "MacroGlass$Rule", name := "check", desc := "(LMacroGlass$Check;)V" } : Jvm.MethodName) prog_13_method_6_code (8 : Nat) (Option.none : Option Jvm.ClassFile.FieldType)) ∈ lw_all := lw_g (lw_at lw_m3 186 rfl) rfl
theorem q732 : (Jvm.Cond.classLink "MacroGlass$Rule" (30 : Nat) "java/util/ArrayList") ∈ lw_all := lw_g (lw_at lw_m3 187 rfl) rfl
theorem q733 : (Jvm.Cond.methodLink "MacroGlass$Rule" (46 : Nat) ({ cls := "java/util/ArrayList", name := "<init>", desc := "()V" } : Jvm.MethodName)) ∈ lw_all := lw_g (lw_at lw_m3 188 rfl) rfl
theorem q734 : (Jvm.Cond.methodLink "MacroGlass$Rule" (67 : Nat) ({ cls := "MacroGlass$Parts", name := "names", desc := "(Ljava/util/ArrayList;)V" } : Jvm.MethodName)) ∈ lw_all := lw_g (lw_at lw_m3 189 rfl) rfl
theorem q754 : (Jvm.Cond.methodLink "MacroGlass$Rule" (71 : Nat) ({ cls := "java/util/ArrayList", name := "size", desc := "()I" } : Jvm.MethodName)) ∈ lw_all := lw_g (lw_at lw_m3 209 rfl) rfl
theorem q755 : (Jvm.Cond.methodLink "MacroGlass$Rule" (29 : Nat) ({ cls := "java/util/ArrayList", name := "get", desc := "(I)Ljava/lang/Object;" } : Jvm.MethodName)) ∈ lw_all := lw_g (lw_at lw_m3 210 rfl) rfl
theorem q756 : (Jvm.Cond.classLink "MacroGlass$Rule" (75 : Nat) "MacroGlass$Var") ∈ lw_all := lw_g (lw_at lw_m3 211 rfl) rfl
theorem q757 : (Jvm.Cond.methodLink "MacroGlass$Rule" (84 : Nat) ({ cls := "MacroGlass$Check", name := "wrong", desc := "(II)V" } : Jvm.MethodName)) ∈ lw_all := lw_g (lw_at lw_m3 212 rfl) rfl
theorem q761 : (Jvm.Cond.methodLink "MacroGlass$Rule" (89 : Nat) ({ cls := "MacroGlass$Part", name := "names", desc := "(Ljava/util/ArrayList;)V" } : Jvm.MethodName)) ∈ lw_all := lw_g (lw_at lw_m3 216 rfl) rfl
theorem q892 : (Jvm.Cond.instanceMethod ({ cls := "MacroGlass$Rule", name := "fits", desc := "(LMacroGlass$List;)Z" } : Jvm.MethodName)) ∈ lw_all := lw_g (lw_at lw_m4 107 rfl) rfl
theorem q893 : (Jvm.Cond.selects "MacroGlass$Rule" ({ cls := "MacroGlass$Rule", name := "fits", desc := "(LMacroGlass$List;)Z" } : Jvm.MethodName) ({ cls := "MacroGlass$Rule", name := "fits", desc := "(LMacroGlass$List;)Z" } : Jvm.MethodName)) ∈ lw_all := lw_g (lw_at lw_m4 108 rfl) rfl
theorem q894 : (Jvm.Cond.sameMethod "MacroGlass$Rule" "MacroGlass$Rule" "fits" "(LMacroGlass$List;)Z") ∈ lw_all := lw_g (lw_at lw_m4 109 rfl) rfl
theorem q896 : (Jvm.Cond.code ({ cls := "MacroGlass$Rule", name := "fits", desc := "(LMacroGlass$List;)Z" } : Jvm.MethodName) prog_13_method_2_code (2 : Nat) (Option.some Jvm.ClassFile.FieldType.boolean)) ∈ lw_all := lw_g (lw_at lw_m4 111 rfl) rfl
theorem q897 : (Jvm.Cond.classLink "MacroGlass$Rule" (35 : Nat) "MacroGlass$Name") ∈ lw_all := lw_g (lw_at lw_m4 112 rfl) rfl
theorem q898 : (Jvm.Cond.methodLink "MacroGlass$Rule" (40 : Nat) ({ cls := "MacroGlass$Parts", name := "fits", desc := "(LMacroGlass$List;ILjava/util/ArrayList;)Z" } : Jvm.MethodName)) ∈ lw_all := lw_g (lw_at lw_m4 113 rfl) rfl
theorem q965 : (Jvm.Cond.instanceMethod ({ cls := "MacroGlass$Rule", name := "readied", desc := "(LMacroGlass$List;I)LMacroGlass$Build;" } : Jvm.MethodName)) ∈ lw_all := lw_g (lw_at lw_m4 180 rfl) rfl
theorem q966 : (Jvm.Cond.selects "MacroGlass$Rule" ({ cls := "MacroGlass$Rule", name := "readied", desc := "(LMacroGlass$List;I)LMacroGlass$Build;" } : Jvm.MethodName) ({ cls := "MacroGlass$Rule", name := "readied", desc := "(LMacroGlass$List;I)LMacroGlass$Build;" } : Jvm.MethodName)) ∈ lw_all := lw_g (lw_at lw_m4 181 rfl) rfl
theorem q967 : (Jvm.Cond.sameMethod "MacroGlass$Rule" "MacroGlass$Rule" "readied" "(LMacroGlass$List;I)LMacroGlass$Build;") ∈ lw_all := lw_g (lw_at lw_m4 182 rfl) rfl
theorem q969 : (Jvm.Cond.code ({ cls := "MacroGlass$Rule", name := "readied", desc := "(LMacroGlass$List;I)LMacroGlass$Build;" } : Jvm.MethodName) prog_13_method_3_code (5 : Nat) (Option.some (Jvm.ClassFile.FieldType.object "MacroGlass$Build"))) ∈ lw_all := lw_g (lw_at lw_m4 184 rfl) rfl
theorem q970 : (Jvm.Cond.classLink "MacroGlass$Rule" (47 : Nat) "MacroGlass$Build") ∈ lw_all := lw_g (lw_at lw_m4 185 rfl) rfl
theorem q972 : (Jvm.Cond.methodLink "MacroGlass$Rule" (49 : Nat) ({ cls := "MacroGlass$Rule", name := "mark", desc := "(ILMacroGlass$Name;)I" } : Jvm.MethodName)) ∈ lw_all := lw_g (lw_at lw_m4 187 rfl) rfl
theorem q973 : (Jvm.Cond.instanceMethod ({ cls := "MacroGlass$Rule", name := "mark", desc := "(ILMacroGlass$Name;)I" } : Jvm.MethodName)) ∈ lw_all := lw_g (lw_at lw_m4 188 rfl) rfl
theorem q974 : (Jvm.Cond.selects "MacroGlass$Rule" ({ cls := "MacroGlass$Rule", name := "mark", desc := "(ILMacroGlass$Name;)I" } : Jvm.MethodName) ({ cls := "MacroGlass$Rule", name := "mark", desc := "(ILMacroGlass$Name;)I" } : Jvm.MethodName)) ∈ lw_all := lw_g (lw_at lw_m4 189 rfl) rfl
theorem q975 : (Jvm.Cond.sameMethod "MacroGlass$Rule" "MacroGlass$Rule" "mark" "(ILMacroGlass$Name;)I") ∈ lw_all := lw_g (lw_at lw_m4 190 rfl) rfl
theorem q979 : (Jvm.Cond.code ({ cls := "MacroGlass$Rule", name := "mark", desc := "(ILMacroGlass$Name;)I" } : Jvm.MethodName) prog_13_method_4_code (3 : Nat) (Option.some Jvm.ClassFile.FieldType.int)) ∈ lw_all := lw_g (lw_at lw_m4 194 rfl) rfl
theorem q980 : (Jvm.Cond.methodLink "MacroGlass$Rule" (53 : Nat) ({ cls := "MacroGlass$Build", name := "<init>", desc := "(Ljava/util/ArrayList;II)V" } : Jvm.MethodName)) ∈ lw_all := lw_g (lw_at lw_m4 195 rfl) rfl
theorem q1034 : (Jvm.Cond.instanceMethod ({ cls := "MacroGlass$Rule", name := "build", desc := "(LMacroGlass$Build;)LMacroGlass$Item;" } : Jvm.MethodName)) ∈ lw_all := lw_g (lw_at lw_m5 9 rfl) rfl
theorem q1035 : (Jvm.Cond.selects "MacroGlass$Rule" ({ cls := "MacroGlass$Rule", name := "build", desc := "(LMacroGlass$Build;)LMacroGlass$Item;" } : Jvm.MethodName) ({ cls := "MacroGlass$Rule", name := "build", desc := "(LMacroGlass$Build;)LMacroGlass$Item;" } : Jvm.MethodName)) ∈ lw_all := lw_g (lw_at lw_m5 10 rfl) rfl
theorem q1036 : (Jvm.Cond.sameMethod "MacroGlass$Rule" "MacroGlass$Rule" "build" "(LMacroGlass$Build;)LMacroGlass$Item;") ∈ lw_all := lw_g (lw_at lw_m5 11 rfl) rfl
theorem q1038 : (Jvm.Cond.code ({ cls := "MacroGlass$Rule", name := "build", desc := "(LMacroGlass$Build;)LMacroGlass$Item;" } : Jvm.MethodName) prog_13_method_5_code (3 : Nat) (Option.some (Jvm.ClassFile.FieldType.object "MacroGlass$Item"))) ∈ lw_all := lw_g (lw_at lw_m5 13 rfl) rfl
theorem q1039 : (Jvm.Cond.classLink "MacroGlass$Rule" (24 : Nat) "MacroGlass$List") ∈ lw_all := lw_g (lw_at lw_m5 14 rfl) rfl
theorem q1040 : (Jvm.Cond.methodLink "MacroGlass$Rule" (56 : Nat) ({ cls := "MacroGlass$List", name := "<init>", desc := "(II)V" } : Jvm.MethodName)) ∈ lw_all := lw_g (lw_at lw_m5 15 rfl) rfl
theorem q1041 : (Jvm.Cond.methodLink "MacroGlass$Rule" (59 : Nat) ({ cls := "MacroGlass$Part", name := "build", desc := "(LMacroGlass$Build;LMacroGlass$List;)V" } : Jvm.MethodName)) ∈ lw_all := lw_g (lw_at lw_m5 16 rfl) rfl
theorem q1084 : (Jvm.Cond.classLink "MacroGlass$Rule" (65 : Nat) "MacroGlass$Item") ∈ lw_all := lw_g (lw_at lw_m5 59 rfl) rfl
theorem q1702 : (Jvm.Cond.castable "MacroGlass$Rule" "java/lang/Object") ∈ lw_tbl := lw_at lw_m7 197 rfl
theorem in_X9 : ∀ w ∈ wsX90, w ∈ lw_all := lw_in wsX90 [577, 578, 579] (by decide +kernel) (by decide +kernel)

/-! MacroGlass$Raw -/
set_option maxRecDepth 100000
def RX10 : String := "MacroGlass$Raw"
def TX10 : u_T := fun k => match k with
  | 0 => ("MacroGlass$Rule", "word", "J", true)
  | 1 => ("MacroGlass$Rule", "patterns", "LMacroGlass$Parts;", true)
  | _ => ("MacroGlass$Rule", "template", "LMacroGlass$Part;", true)
def tyX10 : Nat → FieldType := fun k => match k with
  | 0 => .long
  | 1 => .object "MacroGlass$Parts"
  | _ => .object "MacroGlass$Part"
abbrev wsX100 : List Cond := u_ws RX10 TX10 3
theorem nmX10 : ∀ a, a < 3 → ∀ b, b < 3 → a ≠ b → (TX10 a).2.1 ≠ (TX10 b).2.1 := by decide +kernel
theorem tyX10_ok : ∀ k, k < 3 → parseFieldDescriptor (TX10 k).2.2.1 = some (tyX10 k) := by decide +kernel
abbrev cX10_init : ByteArray := prog_12_method_1_code
def yX10_init : MethodName := ⟨RX10, "<init>", "(JLMacroGlass$Parts;LMacroGlass$Part;)V"⟩
def dkwX10_init_0 : List UInt8 := [42, 31, 45, 25, 4, 183, 0, 1, 177]
abbrev dktX10_init_0 : List UInt8 := dkwX10_init_0 ++ []
theorem dksX10_init_0 : cX10_init.data.toList.drop 0 = dktX10_init_0 := by decide +kernel
theorem dX10_init_0 : decode cX10_init 0 = .ok (.aload_n 0, 1) := dk_42 (dk_at dksX10_init_0 0 rfl rfl)
theorem dX10_init_1 : decode cX10_init 1 = .ok (.lload_n 1, 1) := dk_31 (dk_at dksX10_init_0 1 rfl rfl)
theorem dX10_init_2 : decode cX10_init 2 = .ok (.aload_n 3, 1) := dk_45 (dk_at dksX10_init_0 2 rfl rfl)
theorem dX10_init_3 : decode cX10_init 3 = .ok (.aload 4, 2) := dk_25 4 (dk_at dksX10_init_0 3 rfl rfl)
theorem dX10_init_5 : decode cX10_init 5 = .ok (.invokespecial 1, 3) := dk_183 0 1 (dk_at dksX10_init_0 5 rfl rfl)
theorem dX10_init_8 : decode cX10_init 8 = .ok (.return_, 1) := dk_177 (dk_at dksX10_init_0 8 rfl rfl)
abbrev cX10_mark : ByteArray := prog_12_method_2_code
def yX10_mark : MethodName := ⟨RX10, "mark", "(ILMacroGlass$Name;)I"⟩
theorem dX10_mark_0 : decode cX10_mark 0 = .ok (.aload_n 2, 1) := by decide +kernel
theorem dX10_mark_1 : decode cX10_mark 1 = .ok (.getfield 7, 3) := by decide +kernel
theorem dX10_mark_4 : decode cX10_mark 4 = .ok (.ireturn, 1) := by decide +kernel
theorem q90 : (Jvm.Cond.initialized "MacroGlass$Raw") ∈ lw_all := lw_g (lw_at lw_m1 25 rfl) rfl
theorem q491 : (Jvm.Cond.selects "MacroGlass$Raw" ({ cls := "java/lang/Object", name := "getClass", desc := "()Ljava/lang/Class;" } : Jvm.MethodName) ({ cls := "java/lang/Object", name := "getClass", desc := "()Ljava/lang/Class;" } : Jvm.MethodName)) ∈ lw_all := lw_g (lw_at lw_m2 186 rfl) rfl
theorem q554 : (Jvm.Cond.instantiable "MacroGlass$Raw" (3 : Nat)) ∈ lw_all := lw_g (lw_at lw_m3 9 rfl) rfl
theorem q556 : (Jvm.Cond.instanceMethod ({ cls := "MacroGlass$Raw", name := "<init>", desc := "(JLMacroGlass$Parts;LMacroGlass$Part;)V" } : Jvm.MethodName)) ∈ lw_all := lw_g (lw_at lw_m3 11 rfl) rfl
theorem q557 : (Jvm.Cond.code ({ cls := "MacroGlass$Raw", name := "<init>", desc := "(JLMacroGlass$Parts;LMacroGlass$Part;)V" } : Jvm.MethodName) prog_12_method_1_code (5 : Nat) (Option.none : Option Jvm.ClassFile.FieldType)) ∈ lw_all := lw_g (lw_at lw_m3 12 rfl) rfl
theorem q558 : (Jvm.Cond.methodLink "MacroGlass$Raw" (1 : Nat) ({ cls := "MacroGlass$Rule", name := "<init>", desc := "(JLMacroGlass$Parts;LMacroGlass$Part;)V" } : Jvm.MethodName)) ∈ lw_all := lw_g (lw_at lw_m3 13 rfl) rfl
theorem q567 : (Jvm.Cond.laysFinal "MacroGlass$Raw" "MacroGlass$Rule" "word" "J") ∈ lw_all := lw_g (lw_at lw_m3 22 rfl) rfl
theorem q569 : (Jvm.Cond.laysFinal "MacroGlass$Raw" "MacroGlass$Rule" "patterns" "LMacroGlass$Parts;") ∈ lw_all := lw_g (lw_at lw_m3 24 rfl) rfl
theorem q571 : (Jvm.Cond.laysFinal "MacroGlass$Raw" "MacroGlass$Rule" "template" "LMacroGlass$Part;") ∈ lw_all := lw_g (lw_at lw_m3 26 rfl) rfl
theorem q573 : (Jvm.Cond.superclass "MacroGlass$Raw" "MacroGlass$Rule") ∈ lw_all := lw_g (lw_at lw_m3 28 rfl) rfl
theorem q675 : (Jvm.Cond.fieldLinkNest "MacroGlass$Raw" (7 : Nat) "MacroGlass$Name" "mark" "I" "MacroGlass") ∈ lw_tbl := lw_at lw_m3 130 rfl
theorem q730 : (Jvm.Cond.selects "MacroGlass$Raw" ({ cls := "MacroGlass$Rule", name := "check", desc := "(LMacroGlass$Check;)V" } : Jvm.MethodName) ({ cls := "MacroGlass$Rule", name := "check", desc := "(LMacroGlass$Check;)V" } : Jvm.MethodName)) ∈ lw_all := lw_g (lw_at lw_m3 185 rfl) rfl
theorem q895 : (Jvm.Cond.selects "MacroGlass$Raw" ({ cls := "MacroGlass$Rule", name := "fits", desc := "(LMacroGlass$List;)Z" } : Jvm.MethodName) ({ cls := "MacroGlass$Rule", name := "fits", desc := "(LMacroGlass$List;)Z" } : Jvm.MethodName)) ∈ lw_all := lw_g (lw_at lw_m4 110 rfl) rfl
theorem q968 : (Jvm.Cond.selects "MacroGlass$Raw" ({ cls := "MacroGlass$Rule", name := "readied", desc := "(LMacroGlass$List;I)LMacroGlass$Build;" } : Jvm.MethodName) ({ cls := "MacroGlass$Rule", name := "readied", desc := "(LMacroGlass$List;I)LMacroGlass$Build;" } : Jvm.MethodName)) ∈ lw_all := lw_g (lw_at lw_m4 183 rfl) rfl
theorem q976 : (Jvm.Cond.selects "MacroGlass$Raw" ({ cls := "MacroGlass$Rule", name := "mark", desc := "(ILMacroGlass$Name;)I" } : Jvm.MethodName) ({ cls := "MacroGlass$Raw", name := "mark", desc := "(ILMacroGlass$Name;)I" } : Jvm.MethodName)) ∈ lw_all := lw_g (lw_at lw_m4 191 rfl) rfl
theorem q977 : (Jvm.Cond.instanceMethod ({ cls := "MacroGlass$Raw", name := "mark", desc := "(ILMacroGlass$Name;)I" } : Jvm.MethodName)) ∈ lw_all := lw_g (lw_at lw_m4 192 rfl) rfl
theorem q978 : (Jvm.Cond.code ({ cls := "MacroGlass$Raw", name := "mark", desc := "(ILMacroGlass$Name;)I" } : Jvm.MethodName) prog_12_method_2_code (3 : Nat) (Option.some Jvm.ClassFile.FieldType.int)) ∈ lw_all := lw_g (lw_at lw_m4 193 rfl) rfl
theorem q1037 : (Jvm.Cond.selects "MacroGlass$Raw" ({ cls := "MacroGlass$Rule", name := "build", desc := "(LMacroGlass$Build;)LMacroGlass$Item;" } : Jvm.MethodName) ({ cls := "MacroGlass$Rule", name := "build", desc := "(LMacroGlass$Build;)LMacroGlass$Item;" } : Jvm.MethodName)) ∈ lw_all := lw_g (lw_at lw_m5 12 rfl) rfl
theorem q1685 : (Jvm.Cond.castable "MacroGlass$Raw" "MacroGlass$Rule") ∈ lw_tbl := lw_at lw_m7 180 rfl
theorem q1701 : (Jvm.Cond.castable "MacroGlass$Raw" "java/lang/Object") ∈ lw_tbl := lw_at lw_m7 196 rfl
theorem in_X10 : ∀ w ∈ wsX100, w ∈ lw_all := lw_in wsX100 [567, 569, 571] (by decide +kernel) (by decide +kernel)

/-! MacroGlass$Item -/
set_option maxRecDepth 100000
def RX11 : String := "MacroGlass$Item"
abbrev cX11_init : ByteArray := prog_6_method_1_code
def yX11_init : MethodName := ⟨RX11, "<init>", "(II)V"⟩
def dkwX11_init_0 : List UInt8 := [42, 183, 0, 3, 42, 27, 181, 0, 9, 42, 28, 181, 0, 15, 177]
abbrev dktX11_init_0 : List UInt8 := dkwX11_init_0 ++ []
theorem dksX11_init_0 : cX11_init.data.toList.drop 0 = dktX11_init_0 := by decide +kernel
theorem dX11_init_0 : decode cX11_init 0 = .ok (.aload_n 0, 1) := dk_42 (dk_at dksX11_init_0 0 rfl rfl)
theorem dX11_init_1 : decode cX11_init 1 = .ok (.invokespecial 3, 3) := dk_183 0 3 (dk_at dksX11_init_0 1 rfl rfl)
theorem dX11_init_4 : decode cX11_init 4 = .ok (.aload_n 0, 1) := dk_42 (dk_at dksX11_init_0 4 rfl rfl)
theorem dX11_init_5 : decode cX11_init 5 = .ok (.iload_n 1, 1) := dk_27 (dk_at dksX11_init_0 5 rfl rfl)
theorem dX11_init_6 : decode cX11_init 6 = .ok (.putfield 9, 3) := dk_181 0 9 (dk_at dksX11_init_0 6 rfl rfl)
theorem dX11_init_9 : decode cX11_init 9 = .ok (.aload_n 0, 1) := dk_42 (dk_at dksX11_init_0 9 rfl rfl)
theorem dX11_init_10 : decode cX11_init 10 = .ok (.iload_n 2, 1) := dk_28 (dk_at dksX11_init_0 10 rfl rfl)
theorem dX11_init_11 : decode cX11_init 11 = .ok (.putfield 15, 3) := dk_181 0 15 (dk_at dksX11_init_0 11 rfl rfl)
theorem dX11_init_14 : decode cX11_init 14 = .ok (.return_, 1) := dk_177 (dk_at dksX11_init_0 14 rfl rfl)
abbrev cX11_lay : ByteArray := prog_6_method_8_code
def yX11_lay : MethodName := ⟨RX11, "lay", "([LMacroGlass$Item;I)I"⟩
def dkwX11_lay_0 : List UInt8 := [43, 28, 42, 83, 42, 28, 181, 0, 18, 28, 4, 96, 172]
abbrev dktX11_lay_0 : List UInt8 := dkwX11_lay_0 ++ []
theorem dksX11_lay_0 : cX11_lay.data.toList.drop 0 = dktX11_lay_0 := by decide +kernel
theorem dX11_lay_0 : decode cX11_lay 0 = .ok (.aload_n 1, 1) := dk_43 (dk_at dksX11_lay_0 0 rfl rfl)
theorem dX11_lay_1 : decode cX11_lay 1 = .ok (.iload_n 2, 1) := dk_28 (dk_at dksX11_lay_0 1 rfl rfl)
theorem dX11_lay_2 : decode cX11_lay 2 = .ok (.aload_n 0, 1) := dk_42 (dk_at dksX11_lay_0 2 rfl rfl)
theorem dX11_lay_3 : decode cX11_lay 3 = .ok (.aastore, 1) := dk_83 (dk_at dksX11_lay_0 3 rfl rfl)
theorem dX11_lay_4 : decode cX11_lay 4 = .ok (.aload_n 0, 1) := dk_42 (dk_at dksX11_lay_0 4 rfl rfl)
theorem dX11_lay_5 : decode cX11_lay 5 = .ok (.iload_n 2, 1) := dk_28 (dk_at dksX11_lay_0 5 rfl rfl)
theorem dX11_lay_6 : decode cX11_lay 6 = .ok (.putfield 18, 3) := dk_181 0 18 (dk_at dksX11_lay_0 6 rfl rfl)
theorem dX11_lay_9 : decode cX11_lay 9 = .ok (.iload_n 2, 1) := dk_28 (dk_at dksX11_lay_0 9 rfl rfl)
theorem dX11_lay_10 : decode cX11_lay 10 = .ok (.iconst 1, 1) := dk_4 (dk_at dksX11_lay_0 10 rfl rfl)
theorem dX11_lay_11 : decode cX11_lay 11 = .ok (.iadd, 1) := dk_96 (dk_at dksX11_lay_0 11 rfl rfl)
theorem dX11_lay_12 : decode cX11_lay 12 = .ok (.ireturn, 1) := dk_172 (dk_at dksX11_lay_0 12 rfl rfl)
abbrev cX11_size : ByteArray := prog_6_method_4_code
def yX11_size : MethodName := ⟨RX11, "size", "()I"⟩
theorem dX11_size_0 : decode cX11_size 0 = .ok (.iconst 0, 1) := by decide +kernel
theorem dX11_size_1 : decode cX11_size 1 = .ok (.ireturn, 1) := by decide +kernel
abbrev cX11_value : ByteArray := prog_6_method_5_code
def yX11_value : MethodName := ⟨RX11, "value", "()I"⟩
theorem dX11_value_0 : decode cX11_value 0 = .ok (.iconst 0, 1) := by decide +kernel
theorem dX11_value_1 : decode cX11_value 1 = .ok (.ireturn, 1) := by decide +kernel
abbrev cX11_mark : ByteArray := prog_6_method_6_code
def yX11_mark : MethodName := ⟨RX11, "mark", "()I"⟩
theorem dX11_mark_0 : decode cX11_mark 0 = .ok (.bipush (-9), 2) := by decide +kernel
theorem dX11_mark_2 : decode cX11_mark 2 = .ok (.ireturn, 1) := by decide +kernel
abbrev cX11_reads : ByteArray := prog_6_method_9_code
def yX11_reads : MethodName := ⟨RX11, "reads", "()LMacroGlass$Name;"⟩
theorem dX11_reads_0 : decode cX11_reads 0 = .ok (.aconst_null, 1) := by decide +kernel
theorem dX11_reads_1 : decode cX11_reads 1 = .ok (.areturn, 1) := by decide +kernel
abbrev cX11_isCall : ByteArray := prog_6_method_10_code
def yX11_isCall : MethodName := ⟨RX11, "isCall", "(Ljava/util/ArrayList;)Z"⟩
theorem dX11_isCall_0 : decode cX11_isCall 0 = .ok (.iconst 0, 1) := by decide +kernel
theorem dX11_isCall_1 : decode cX11_isCall 1 = .ok (.ireturn, 1) := by decide +kernel
abbrev cX11_all : ByteArray := prog_6_method_7_code
def yX11_all : MethodName := ⟨RX11, "all", "()I"⟩
theorem dX11_all_0 : decode cX11_all 0 = .ok (.iconst 1, 1) := by decide +kernel
theorem dX11_all_1 : decode cX11_all 1 = .ok (.ireturn, 1) := by decide +kernel
theorem q91 : (Jvm.Cond.initialized "MacroGlass$Item") ∈ lw_all := lw_g (lw_at lw_m1 26 rfl) rfl
theorem q587 : (Jvm.Cond.instanceMethod ({ cls := "MacroGlass$Item", name := "<init>", desc := "(II)V" } : Jvm.MethodName)) ∈ lw_all := lw_g (lw_at lw_m3 42 rfl) rfl
theorem q588 : (Jvm.Cond.code ({ cls := "MacroGlass$Item", name := "<init>", desc := "(II)V" } : Jvm.MethodName) prog_6_method_1_code (3 : Nat) (Option.none : Option Jvm.ClassFile.FieldType)) ∈ lw_all := lw_g (lw_at lw_m3 43 rfl) rfl
theorem q589 : (Jvm.Cond.methodLink "MacroGlass$Item" (3 : Nat) ({ cls := "java/lang/Object", name := "<init>", desc := "()V" } : Jvm.MethodName)) ∈ lw_all := lw_g (lw_at lw_m3 44 rfl) rfl
theorem q598 : (Jvm.Cond.fieldLink "MacroGlass$Item" (9 : Nat) "MacroGlass$Item" "place" "I") ∈ lw_all := lw_g (lw_at lw_m3 53 rfl) rfl
theorem q606 : (Jvm.Cond.fieldLink "MacroGlass$Item" (15 : Nat) "MacroGlass$Item" "maker" "I") ∈ lw_all := lw_g (lw_at lw_m3 61 rfl) rfl
theorem q622 : (Jvm.Cond.fieldLink "MacroGlass$Item" (18 : Nat) "MacroGlass$Item" "number" "I") ∈ lw_all := lw_g (lw_at lw_m3 77 rfl) rfl
theorem q632 : (Jvm.Cond.soleField "MacroGlass$Item" "place") ∈ lw_all := lw_g (lw_at lw_m3 87 rfl) rfl
theorem q634 : (Jvm.Cond.soleField "MacroGlass$Item" "maker") ∈ lw_all := lw_g (lw_at lw_m3 89 rfl) rfl
theorem q636 : (Jvm.Cond.soleField "MacroGlass$Item" "in") ∈ lw_all := lw_g (lw_at lw_m3 91 rfl) rfl
theorem q638 : (Jvm.Cond.soleField "MacroGlass$Item" "number") ∈ lw_all := lw_g (lw_at lw_m3 93 rfl) rfl
theorem q772 : (Jvm.Cond.instanceMethod ({ cls := "MacroGlass$Item", name := "lay", desc := "([LMacroGlass$Item;I)I" } : Jvm.MethodName)) ∈ lw_all := lw_g (lw_at lw_m3 227 rfl) rfl
theorem q773 : (Jvm.Cond.sameMethod "MacroGlass$Item" "MacroGlass$Item" "lay" "([LMacroGlass$Item;I)I") ∈ lw_all := lw_g (lw_at lw_m3 228 rfl) rfl
theorem q781 : (Jvm.Cond.code ({ cls := "MacroGlass$Item", name := "lay", desc := "([LMacroGlass$Item;I)I" } : Jvm.MethodName) prog_6_method_8_code (3 : Nat) (Option.some Jvm.ClassFile.FieldType.int)) ∈ lw_all := lw_g (lw_at lw_m3 236 rfl) rfl
theorem q800 : (Jvm.Cond.declares ({ cls := "MacroGlass$Item", name := "kind", desc := "()I" } : Jvm.MethodName)) ∈ lw_tbl := lw_at lw_m4 15 rfl
theorem q801 : (Jvm.Cond.sameMethod "MacroGlass$Item" "MacroGlass$Item" "kind" "()I") ∈ lw_all := lw_g (lw_at lw_m4 16 rfl) rfl
theorem q812 : (Jvm.Cond.instanceMethod ({ cls := "MacroGlass$Item", name := "size", desc := "()I" } : Jvm.MethodName)) ∈ lw_all := lw_g (lw_at lw_m4 27 rfl) rfl
theorem q813 : (Jvm.Cond.sameMethod "MacroGlass$Item" "MacroGlass$Item" "size" "()I") ∈ lw_all := lw_g (lw_at lw_m4 28 rfl) rfl
theorem q819 : (Jvm.Cond.code ({ cls := "MacroGlass$Item", name := "size", desc := "()I" } : Jvm.MethodName) prog_6_method_4_code (1 : Nat) (Option.some Jvm.ClassFile.FieldType.int)) ∈ lw_all := lw_g (lw_at lw_m4 34 rfl) rfl
theorem q821 : (Jvm.Cond.instanceMethod ({ cls := "MacroGlass$Item", name := "value", desc := "()I" } : Jvm.MethodName)) ∈ lw_all := lw_g (lw_at lw_m4 36 rfl) rfl
theorem q822 : (Jvm.Cond.sameMethod "MacroGlass$Item" "MacroGlass$Item" "value" "()I") ∈ lw_all := lw_g (lw_at lw_m4 37 rfl) rfl
theorem q828 : (Jvm.Cond.code ({ cls := "MacroGlass$Item", name := "value", desc := "()I" } : Jvm.MethodName) prog_6_method_5_code (1 : Nat) (Option.some Jvm.ClassFile.FieldType.int)) ∈ lw_all := lw_g (lw_at lw_m4 43 rfl) rfl
theorem q830 : (Jvm.Cond.instanceMethod ({ cls := "MacroGlass$Item", name := "mark", desc := "()I" } : Jvm.MethodName)) ∈ lw_all := lw_g (lw_at lw_m4 45 rfl) rfl
theorem q831 : (Jvm.Cond.sameMethod "MacroGlass$Item" "MacroGlass$Item" "mark" "()I") ∈ lw_all := lw_g (lw_at lw_m4 46 rfl) rfl
theorem q837 : (Jvm.Cond.code ({ cls := "MacroGlass$Item", name := "mark", desc := "()I" } : Jvm.MethodName) prog_6_method_6_code (1 : Nat) (Option.some Jvm.ClassFile.FieldType.int)) ∈ lw_all := lw_g (lw_at lw_m4 52 rfl) rfl
theorem q842 : (Jvm.Cond.instanceMethod ({ cls := "MacroGlass$Item", name := "reads", desc := "()LMacroGlass$Name;" } : Jvm.MethodName)) ∈ lw_all := lw_g (lw_at lw_m4 57 rfl) rfl
theorem q843 : (Jvm.Cond.sameMethod "MacroGlass$Item" "MacroGlass$Item" "reads" "()LMacroGlass$Name;") ∈ lw_all := lw_g (lw_at lw_m4 58 rfl) rfl
theorem q861 : (Jvm.Cond.code ({ cls := "MacroGlass$Item", name := "reads", desc := "()LMacroGlass$Name;" } : Jvm.MethodName) prog_6_method_9_code (1 : Nat) (Option.some (Jvm.ClassFile.FieldType.object "MacroGlass$Name"))) ∈ lw_all := lw_g (lw_at lw_m4 76 rfl) rfl
theorem q876 : (Jvm.Cond.instanceMethod ({ cls := "MacroGlass$Item", name := "isCall", desc := "(Ljava/util/ArrayList;)Z" } : Jvm.MethodName)) ∈ lw_all := lw_g (lw_at lw_m4 91 rfl) rfl
theorem q877 : (Jvm.Cond.sameMethod "MacroGlass$Item" "MacroGlass$Item" "isCall" "(Ljava/util/ArrayList;)Z") ∈ lw_all := lw_g (lw_at lw_m4 92 rfl) rfl
theorem q885 : (Jvm.Cond.code ({ cls := "MacroGlass$Item", name := "isCall", desc := "(Ljava/util/ArrayList;)Z" } : Jvm.MethodName) prog_6_method_10_code (2 : Nat) (Option.some Jvm.ClassFile.FieldType.boolean)) ∈ lw_all := lw_g (lw_at lw_m4 100 rfl) rfl
theorem q1021 : (Jvm.Cond.instanceMethod ({ cls := "MacroGlass$Item", name := "all", desc := "()I" } : Jvm.MethodName)) ∈ lw_all := lw_g (lw_at lw_m4 236 rfl) rfl
theorem q1022 : (Jvm.Cond.sameMethod "MacroGlass$Item" "MacroGlass$Item" "all" "()I") ∈ lw_all := lw_g (lw_at lw_m4 237 rfl) rfl
theorem q1029 : (Jvm.Cond.code ({ cls := "MacroGlass$Item", name := "all", desc := "()I" } : Jvm.MethodName) prog_6_method_7_code (1 : Nat) (Option.some Jvm.ClassFile.FieldType.int)) ∈ lw_all := lw_g (lw_at lw_m5 4 rfl) rfl
theorem q1061 : (Jvm.Cond.declares ({ cls := "MacroGlass$Item", name := "copied", desc := "()LMacroGlass$Item;" } : Jvm.MethodName)) ∈ lw_tbl := lw_at lw_m5 36 rfl
theorem q1062 : (Jvm.Cond.sameMethod "MacroGlass$Item" "MacroGlass$Item" "copied" "()LMacroGlass$Item;") ∈ lw_all := lw_g (lw_at lw_m5 37 rfl) rfl
theorem q1691 : (Jvm.Cond.castable "MacroGlass$Item" "java/lang/Object") ∈ lw_tbl := lw_at lw_m7 186 rfl

/-! MacroGlass$List -/
set_option maxRecDepth 100000
def RX12 : String := "MacroGlass$List"
def TX12 : u_T := fun k => match k with
  | 0 => ("MacroGlass$Item", "place", "I", true)
  | 1 => ("MacroGlass$Item", "maker", "I", true)
  | 2 => ("MacroGlass$Item", "in", "LMacroGlass$List;", false)
  | 3 => ("MacroGlass$Item", "number", "I", false)
  | 4 => ("MacroGlass$List", "items", "Ljava/util/ArrayList;", true)
  | _ => ("MacroGlass$List", "kind", "I", false)
def tyX12 : Nat → FieldType := fun k => match k with
  | 0 => .int
  | 1 => .int
  | 2 => .object "MacroGlass$List"
  | 3 => .int
  | 4 => .object "java/util/ArrayList"
  | _ => .int
abbrev wsX120 : List Cond := u_ws RX12 TX12 6
theorem nmX12 : ∀ a, a < 6 → ∀ b, b < 6 → a ≠ b → (TX12 a).2.1 ≠ (TX12 b).2.1 := by decide +kernel
theorem tyX12_ok : ∀ k, k < 6 → parseFieldDescriptor (TX12 k).2.2.1 = some (tyX12 k) := by decide +kernel
abbrev cX12_init : ByteArray := prog_7_method_1_code
def yX12_init : MethodName := ⟨RX12, "<init>", "(II)V"⟩
def dkwX12_init_0 : List UInt8 := [42, 27, 28, 183, 0, 3, 42, 187, 0, 9, 89, 183, 0, 11, 181, 0, 14, 42, 5, 181, 0, 20, 177]
abbrev dktX12_init_0 : List UInt8 := dkwX12_init_0 ++ []
theorem dksX12_init_0 : cX12_init.data.toList.drop 0 = dktX12_init_0 := by decide +kernel
theorem dX12_init_0 : decode cX12_init 0 = .ok (.aload_n 0, 1) := dk_42 (dk_at dksX12_init_0 0 rfl rfl)
theorem dX12_init_1 : decode cX12_init 1 = .ok (.iload_n 1, 1) := dk_27 (dk_at dksX12_init_0 1 rfl rfl)
theorem dX12_init_2 : decode cX12_init 2 = .ok (.iload_n 2, 1) := dk_28 (dk_at dksX12_init_0 2 rfl rfl)
theorem dX12_init_3 : decode cX12_init 3 = .ok (.invokespecial 3, 3) := dk_183 0 3 (dk_at dksX12_init_0 3 rfl rfl)
theorem dX12_init_6 : decode cX12_init 6 = .ok (.aload_n 0, 1) := dk_42 (dk_at dksX12_init_0 6 rfl rfl)
theorem dX12_init_7 : decode cX12_init 7 = .ok (.new 9, 3) := dk_187 0 9 (dk_at dksX12_init_0 7 rfl rfl)
theorem dX12_init_10 : decode cX12_init 10 = .ok (.dup, 1) := dk_89 (dk_at dksX12_init_0 10 rfl rfl)
theorem dX12_init_11 : decode cX12_init 11 = .ok (.invokespecial 11, 3) := dk_183 0 11 (dk_at dksX12_init_0 11 rfl rfl)
theorem dX12_init_14 : decode cX12_init 14 = .ok (.putfield 14, 3) := dk_181 0 14 (dk_at dksX12_init_0 14 rfl rfl)
theorem dX12_init_17 : decode cX12_init 17 = .ok (.aload_n 0, 1) := dk_42 (dk_at dksX12_init_0 17 rfl rfl)
theorem dX12_init_18 : decode cX12_init 18 = .ok (.iconst 2, 1) := dk_5 (dk_at dksX12_init_0 18 rfl rfl)
theorem dX12_init_19 : decode cX12_init 19 = .ok (.putfield 20, 3) := dk_181 0 20 (dk_at dksX12_init_0 19 rfl rfl)
theorem dX12_init_22 : decode cX12_init 22 = .ok (.return_, 1) := dk_177 (dk_at dksX12_init_0 22 rfl rfl)
abbrev cX12_add : ByteArray := prog_7_method_2_code
def yX12_add : MethodName := ⟨RX12, "add", "(LMacroGlass$Item;)V"⟩
def dkwX12_add_0 : List UInt8 := [43, 42, 181, 0, 24, 42, 180, 0, 14, 43, 182, 0, 28, 87, 177]
abbrev dktX12_add_0 : List UInt8 := dkwX12_add_0 ++ []
theorem dksX12_add_0 : cX12_add.data.toList.drop 0 = dktX12_add_0 := by decide +kernel
theorem dX12_add_0 : decode cX12_add 0 = .ok (.aload_n 1, 1) := dk_43 (dk_at dksX12_add_0 0 rfl rfl)
theorem dX12_add_1 : decode cX12_add 1 = .ok (.aload_n 0, 1) := dk_42 (dk_at dksX12_add_0 1 rfl rfl)
theorem dX12_add_2 : decode cX12_add 2 = .ok (.putfield 24, 3) := dk_181 0 24 (dk_at dksX12_add_0 2 rfl rfl)
theorem dX12_add_5 : decode cX12_add 5 = .ok (.aload_n 0, 1) := dk_42 (dk_at dksX12_add_0 5 rfl rfl)
theorem dX12_add_6 : decode cX12_add 6 = .ok (.getfield 14, 3) := dk_180 0 14 (dk_at dksX12_add_0 6 rfl rfl)
theorem dX12_add_9 : decode cX12_add 9 = .ok (.aload_n 1, 1) := dk_43 (dk_at dksX12_add_0 9 rfl rfl)
theorem dX12_add_10 : decode cX12_add 10 = .ok (.invokevirtual 28, 3) := dk_182 0 28 (dk_at dksX12_add_0 10 rfl rfl)
theorem dX12_add_13 : decode cX12_add 13 = .ok (.pop, 1) := dk_87 (dk_at dksX12_add_0 13 rfl rfl)
theorem dX12_add_14 : decode cX12_add 14 = .ok (.return_, 1) := dk_177 (dk_at dksX12_add_0 14 rfl rfl)
abbrev cX12_close : ByteArray := prog_7_method_3_code
def yX12_close : MethodName := ⟨RX12, "close", "()V"⟩
def dkwX12_close_6 : List UInt8 := [154, 0, 7, 8, 167, 0, 12, 27, 153, 0, 7, 6, 167, 0, 4, 5, 181, 0, 20, 177]
abbrev dktX12_close_6 : List UInt8 := dkwX12_close_6 ++ []
def dkwX12_close_5 : List UInt8 := [28, 153, 0, 28, 42, 180, 0, 14, 182, 0, 32, 6, 160, 0, 17, 33, 18, 52, 184, 0, 48, 148]
abbrev dktX12_close_5 : List UInt8 := dkwX12_close_5 ++ dktX12_close_6
def dkwX12_close_4 : List UInt8 := [180, 0, 14, 182, 0, 32, 7, 160, 0, 17, 33, 18, 46, 184, 0, 48, 148, 154, 0, 7, 7, 167, 0, 41]
abbrev dktX12_close_4 : List UInt8 := dkwX12_close_4 ++ dktX12_close_5
def dkwX12_close_3 : List UInt8 := [180, 0, 14, 3, 182, 0, 36, 192, 0, 40, 180, 0, 42, 167, 0, 4, 9, 66, 42, 28, 153, 0, 28, 42]
abbrev dktX12_close_3 : List UInt8 := dkwX12_close_3 ++ dktX12_close_4
def dkwX12_close_2 : List UInt8 := [180, 0, 14, 4, 182, 0, 36, 193, 0, 40, 153, 0, 7, 4, 167, 0, 4, 3, 61, 27, 153, 0, 20, 42]
abbrev dktX12_close_2 : List UInt8 := dkwX12_close_2 ++ dktX12_close_3
def dkwX12_close_1 : List UInt8 := [4, 167, 0, 4, 3, 60, 27, 153, 0, 32, 42, 180, 0, 14, 182, 0, 32, 4, 164, 0, 21, 42]
abbrev dktX12_close_1 : List UInt8 := dkwX12_close_1 ++ dktX12_close_2
def dkwX12_close_0 : List UInt8 := [42, 180, 0, 14, 182, 0, 32, 158, 0, 21, 42, 180, 0, 14, 3, 182, 0, 36, 193, 0, 40, 153, 0, 7]
abbrev dktX12_close_0 : List UInt8 := dkwX12_close_0 ++ dktX12_close_1
theorem dksX12_close_0 : cX12_close.data.toList.drop 0 = dktX12_close_0 := by decide +kernel
theorem dksX12_close_1 : cX12_close.data.toList.drop 24 = dktX12_close_1 := dk_seg dksX12_close_0 24 rfl rfl
theorem dksX12_close_2 : cX12_close.data.toList.drop 46 = dktX12_close_2 := dk_seg dksX12_close_1 22 rfl rfl
theorem dksX12_close_3 : cX12_close.data.toList.drop 70 = dktX12_close_3 := dk_seg dksX12_close_2 24 rfl rfl
theorem dksX12_close_4 : cX12_close.data.toList.drop 94 = dktX12_close_4 := dk_seg dksX12_close_3 24 rfl rfl
theorem dksX12_close_5 : cX12_close.data.toList.drop 118 = dktX12_close_5 := dk_seg dksX12_close_4 24 rfl rfl
theorem dksX12_close_6 : cX12_close.data.toList.drop 140 = dktX12_close_6 := dk_seg dksX12_close_5 22 rfl rfl
theorem dX12_close_0 : decode cX12_close 0 = .ok (.aload_n 0, 1) := dk_42 (dk_at dksX12_close_0 0 rfl rfl)
theorem dX12_close_1 : decode cX12_close 1 = .ok (.getfield 14, 3) := dk_180 0 14 (dk_at dksX12_close_0 1 rfl rfl)
theorem dX12_close_4 : decode cX12_close 4 = .ok (.invokevirtual 32, 3) := dk_182 0 32 (dk_at dksX12_close_0 4 rfl rfl)
theorem dX12_close_7 : decode cX12_close 7 = .ok (.ifCond .le 21, 3) := dk_158 0 21 (dk_at dksX12_close_0 7 rfl rfl)
theorem dX12_close_10 : decode cX12_close 10 = .ok (.aload_n 0, 1) := dk_42 (dk_at dksX12_close_0 10 rfl rfl)
theorem dX12_close_11 : decode cX12_close 11 = .ok (.getfield 14, 3) := dk_180 0 14 (dk_at dksX12_close_0 11 rfl rfl)
theorem dX12_close_14 : decode cX12_close 14 = .ok (.iconst 0, 1) := dk_3 (dk_at dksX12_close_0 14 rfl rfl)
theorem dX12_close_15 : decode cX12_close 15 = .ok (.invokevirtual 36, 3) := dk_182 0 36 (dk_at dksX12_close_0 15 rfl rfl)
theorem dX12_close_18 : decode cX12_close 18 = .ok (.instanceof 40, 3) := dk_193 0 40 (dk_at dksX12_close_0 18 rfl rfl)
theorem dX12_close_21 : decode cX12_close 21 = .ok (.ifCond .eq 7, 3) := dk_153 0 7 (dk_at dksX12_close_0 21 rfl rfl)
theorem dX12_close_24 : decode cX12_close 24 = .ok (.iconst 1, 1) := dk_4 (dk_at dksX12_close_1 0 rfl rfl)
theorem dX12_close_25 : decode cX12_close 25 = .ok (.goto 4, 3) := dk_167 0 4 (dk_at dksX12_close_1 1 rfl rfl)
theorem dX12_close_28 : decode cX12_close 28 = .ok (.iconst 0, 1) := dk_3 (dk_at dksX12_close_1 4 rfl rfl)
theorem dX12_close_29 : decode cX12_close 29 = .ok (.istore_n 1, 1) := dk_60 (dk_at dksX12_close_1 5 rfl rfl)
theorem dX12_close_30 : decode cX12_close 30 = .ok (.iload_n 1, 1) := dk_27 (dk_at dksX12_close_1 6 rfl rfl)
theorem dX12_close_31 : decode cX12_close 31 = .ok (.ifCond .eq 32, 3) := dk_153 0 32 (dk_at dksX12_close_1 7 rfl rfl)
theorem dX12_close_34 : decode cX12_close 34 = .ok (.aload_n 0, 1) := dk_42 (dk_at dksX12_close_1 10 rfl rfl)
theorem dX12_close_35 : decode cX12_close 35 = .ok (.getfield 14, 3) := dk_180 0 14 (dk_at dksX12_close_1 11 rfl rfl)
theorem dX12_close_38 : decode cX12_close 38 = .ok (.invokevirtual 32, 3) := dk_182 0 32 (dk_at dksX12_close_1 14 rfl rfl)
theorem dX12_close_41 : decode cX12_close 41 = .ok (.iconst 1, 1) := dk_4 (dk_at dksX12_close_1 17 rfl rfl)
theorem dX12_close_42 : decode cX12_close 42 = .ok (.if_icmp .le 21, 3) := dk_164 0 21 (dk_at dksX12_close_1 18 rfl rfl)
theorem dX12_close_45 : decode cX12_close 45 = .ok (.aload_n 0, 1) := dk_42 (dk_at dksX12_close_1 21 rfl rfl)
theorem dX12_close_46 : decode cX12_close 46 = .ok (.getfield 14, 3) := dk_180 0 14 (dk_at dksX12_close_2 0 rfl rfl)
theorem dX12_close_49 : decode cX12_close 49 = .ok (.iconst 1, 1) := dk_4 (dk_at dksX12_close_2 3 rfl rfl)
theorem dX12_close_50 : decode cX12_close 50 = .ok (.invokevirtual 36, 3) := dk_182 0 36 (dk_at dksX12_close_2 4 rfl rfl)
theorem dX12_close_53 : decode cX12_close 53 = .ok (.instanceof 40, 3) := dk_193 0 40 (dk_at dksX12_close_2 7 rfl rfl)
theorem dX12_close_56 : decode cX12_close 56 = .ok (.ifCond .eq 7, 3) := dk_153 0 7 (dk_at dksX12_close_2 10 rfl rfl)
theorem dX12_close_59 : decode cX12_close 59 = .ok (.iconst 1, 1) := dk_4 (dk_at dksX12_close_2 13 rfl rfl)
theorem dX12_close_60 : decode cX12_close 60 = .ok (.goto 4, 3) := dk_167 0 4 (dk_at dksX12_close_2 14 rfl rfl)
theorem dX12_close_63 : decode cX12_close 63 = .ok (.iconst 0, 1) := dk_3 (dk_at dksX12_close_2 17 rfl rfl)
theorem dX12_close_64 : decode cX12_close 64 = .ok (.istore_n 2, 1) := dk_61 (dk_at dksX12_close_2 18 rfl rfl)
theorem dX12_close_65 : decode cX12_close 65 = .ok (.iload_n 1, 1) := dk_27 (dk_at dksX12_close_2 19 rfl rfl)
theorem dX12_close_66 : decode cX12_close 66 = .ok (.ifCond .eq 20, 3) := dk_153 0 20 (dk_at dksX12_close_2 20 rfl rfl)
theorem dX12_close_69 : decode cX12_close 69 = .ok (.aload_n 0, 1) := dk_42 (dk_at dksX12_close_2 23 rfl rfl)
theorem dX12_close_70 : decode cX12_close 70 = .ok (.getfield 14, 3) := dk_180 0 14 (dk_at dksX12_close_3 0 rfl rfl)
theorem dX12_close_73 : decode cX12_close 73 = .ok (.iconst 0, 1) := dk_3 (dk_at dksX12_close_3 3 rfl rfl)
theorem dX12_close_74 : decode cX12_close 74 = .ok (.invokevirtual 36, 3) := dk_182 0 36 (dk_at dksX12_close_3 4 rfl rfl)
theorem dX12_close_77 : decode cX12_close 77 = .ok (.checkcast 40, 3) := dk_192 0 40 (dk_at dksX12_close_3 7 rfl rfl)
theorem dX12_close_80 : decode cX12_close 80 = .ok (.getfield 42, 3) := dk_180 0 42 (dk_at dksX12_close_3 10 rfl rfl)
theorem dX12_close_83 : decode cX12_close 83 = .ok (.goto 4, 3) := dk_167 0 4 (dk_at dksX12_close_3 13 rfl rfl)
theorem dX12_close_86 : decode cX12_close 86 = .ok (.lconst 0, 1) := dk_9 (dk_at dksX12_close_3 16 rfl rfl)
theorem dX12_close_87 : decode cX12_close 87 = .ok (.lstore_n 3, 1) := dk_66 (dk_at dksX12_close_3 17 rfl rfl)
theorem dX12_close_88 : decode cX12_close 88 = .ok (.aload_n 0, 1) := dk_42 (dk_at dksX12_close_3 18 rfl rfl)
theorem dX12_close_89 : decode cX12_close 89 = .ok (.iload_n 2, 1) := dk_28 (dk_at dksX12_close_3 19 rfl rfl)
theorem dX12_close_90 : decode cX12_close 90 = .ok (.ifCond .eq 28, 3) := dk_153 0 28 (dk_at dksX12_close_3 20 rfl rfl)
theorem dX12_close_93 : decode cX12_close 93 = .ok (.aload_n 0, 1) := dk_42 (dk_at dksX12_close_3 23 rfl rfl)
theorem dX12_close_94 : decode cX12_close 94 = .ok (.getfield 14, 3) := dk_180 0 14 (dk_at dksX12_close_4 0 rfl rfl)
theorem dX12_close_97 : decode cX12_close 97 = .ok (.invokevirtual 32, 3) := dk_182 0 32 (dk_at dksX12_close_4 3 rfl rfl)
theorem dX12_close_100 : decode cX12_close 100 = .ok (.iconst 4, 1) := dk_7 (dk_at dksX12_close_4 6 rfl rfl)
theorem dX12_close_101 : decode cX12_close 101 = .ok (.if_icmp .ne 17, 3) := dk_160 0 17 (dk_at dksX12_close_4 7 rfl rfl)
theorem dX12_close_104 : decode cX12_close 104 = .ok (.lload_n 3, 1) := dk_33 (dk_at dksX12_close_4 10 rfl rfl)
theorem dX12_close_105 : decode cX12_close 105 = .ok (.ldc 46, 2) := dk_18 46 (dk_at dksX12_close_4 11 rfl rfl)
theorem dX12_close_107 : decode cX12_close 107 = .ok (.invokestatic 48, 3) := dk_184 0 48 (dk_at dksX12_close_4 13 rfl rfl)
theorem dX12_close_110 : decode cX12_close 110 = .ok (.lcmp, 1) := dk_148 (dk_at dksX12_close_4 16 rfl rfl)
theorem dX12_close_111 : decode cX12_close 111 = .ok (.ifCond .ne 7, 3) := dk_154 0 7 (dk_at dksX12_close_4 17 rfl rfl)
theorem dX12_close_114 : decode cX12_close 114 = .ok (.iconst 4, 1) := dk_7 (dk_at dksX12_close_4 20 rfl rfl)
theorem dX12_close_115 : decode cX12_close 115 = .ok (.goto 41, 3) := dk_167 0 41 (dk_at dksX12_close_4 21 rfl rfl)
theorem dX12_close_118 : decode cX12_close 118 = .ok (.iload_n 2, 1) := dk_28 (dk_at dksX12_close_5 0 rfl rfl)
theorem dX12_close_119 : decode cX12_close 119 = .ok (.ifCond .eq 28, 3) := dk_153 0 28 (dk_at dksX12_close_5 1 rfl rfl)
theorem dX12_close_122 : decode cX12_close 122 = .ok (.aload_n 0, 1) := dk_42 (dk_at dksX12_close_5 4 rfl rfl)
theorem dX12_close_123 : decode cX12_close 123 = .ok (.getfield 14, 3) := dk_180 0 14 (dk_at dksX12_close_5 5 rfl rfl)
theorem dX12_close_126 : decode cX12_close 126 = .ok (.invokevirtual 32, 3) := dk_182 0 32 (dk_at dksX12_close_5 8 rfl rfl)
theorem dX12_close_129 : decode cX12_close 129 = .ok (.iconst 3, 1) := dk_6 (dk_at dksX12_close_5 11 rfl rfl)
theorem dX12_close_130 : decode cX12_close 130 = .ok (.if_icmp .ne 17, 3) := dk_160 0 17 (dk_at dksX12_close_5 12 rfl rfl)
theorem dX12_close_133 : decode cX12_close 133 = .ok (.lload_n 3, 1) := dk_33 (dk_at dksX12_close_5 15 rfl rfl)
theorem dX12_close_134 : decode cX12_close 134 = .ok (.ldc 52, 2) := dk_18 52 (dk_at dksX12_close_5 16 rfl rfl)
theorem dX12_close_136 : decode cX12_close 136 = .ok (.invokestatic 48, 3) := dk_184 0 48 (dk_at dksX12_close_5 18 rfl rfl)
theorem dX12_close_139 : decode cX12_close 139 = .ok (.lcmp, 1) := dk_148 (dk_at dksX12_close_5 21 rfl rfl)
theorem dX12_close_140 : decode cX12_close 140 = .ok (.ifCond .ne 7, 3) := dk_154 0 7 (dk_at dksX12_close_6 0 rfl rfl)
theorem dX12_close_143 : decode cX12_close 143 = .ok (.iconst 5, 1) := dk_8 (dk_at dksX12_close_6 3 rfl rfl)
theorem dX12_close_144 : decode cX12_close 144 = .ok (.goto 12, 3) := dk_167 0 12 (dk_at dksX12_close_6 4 rfl rfl)
theorem dX12_close_147 : decode cX12_close 147 = .ok (.iload_n 1, 1) := dk_27 (dk_at dksX12_close_6 7 rfl rfl)
theorem dX12_close_148 : decode cX12_close 148 = .ok (.ifCond .eq 7, 3) := dk_153 0 7 (dk_at dksX12_close_6 8 rfl rfl)
theorem dX12_close_151 : decode cX12_close 151 = .ok (.iconst 3, 1) := dk_6 (dk_at dksX12_close_6 11 rfl rfl)
theorem dX12_close_152 : decode cX12_close 152 = .ok (.goto 4, 3) := dk_167 0 4 (dk_at dksX12_close_6 12 rfl rfl)
theorem dX12_close_155 : decode cX12_close 155 = .ok (.iconst 2, 1) := dk_5 (dk_at dksX12_close_6 15 rfl rfl)
theorem dX12_close_156 : decode cX12_close 156 = .ok (.putfield 20, 3) := dk_181 0 20 (dk_at dksX12_close_6 16 rfl rfl)
theorem dX12_close_159 : decode cX12_close 159 = .ok (.return_, 1) := dk_177 (dk_at dksX12_close_6 19 rfl rfl)
abbrev cX12_lay : ByteArray := prog_7_method_8_code
def yX12_lay : MethodName := ⟨RX12, "lay", "([LMacroGlass$Item;I)I"⟩
def dkwX12_lay_2 : List UInt8 := [172]
abbrev dktX12_lay_2 : List UInt8 := dkwX12_lay_2 ++ []
def dkwX12_lay_1 : List UInt8 := [180, 0, 14, 21, 4, 182, 0, 36, 192, 0, 4, 43, 29, 182, 0, 71, 62, 132, 4, 1, 167, 255, 223, 29]
abbrev dktX12_lay_1 : List UInt8 := dkwX12_lay_1 ++ dktX12_lay_2
def dkwX12_lay_0 : List UInt8 := [42, 43, 28, 183, 0, 71, 62, 3, 54, 4, 21, 4, 42, 180, 0, 14, 182, 0, 32, 162, 0, 27, 42]
abbrev dktX12_lay_0 : List UInt8 := dkwX12_lay_0 ++ dktX12_lay_1
theorem dksX12_lay_0 : cX12_lay.data.toList.drop 0 = dktX12_lay_0 := by decide +kernel
theorem dksX12_lay_1 : cX12_lay.data.toList.drop 23 = dktX12_lay_1 := dk_seg dksX12_lay_0 23 rfl rfl
theorem dksX12_lay_2 : cX12_lay.data.toList.drop 47 = dktX12_lay_2 := dk_seg dksX12_lay_1 24 rfl rfl
theorem dX12_lay_0 : decode cX12_lay 0 = .ok (.aload_n 0, 1) := dk_42 (dk_at dksX12_lay_0 0 rfl rfl)
theorem dX12_lay_1 : decode cX12_lay 1 = .ok (.aload_n 1, 1) := dk_43 (dk_at dksX12_lay_0 1 rfl rfl)
theorem dX12_lay_2 : decode cX12_lay 2 = .ok (.iload_n 2, 1) := dk_28 (dk_at dksX12_lay_0 2 rfl rfl)
theorem dX12_lay_3 : decode cX12_lay 3 = .ok (.invokespecial 71, 3) := dk_183 0 71 (dk_at dksX12_lay_0 3 rfl rfl)
theorem dX12_lay_6 : decode cX12_lay 6 = .ok (.istore_n 3, 1) := dk_62 (dk_at dksX12_lay_0 6 rfl rfl)
theorem dX12_lay_7 : decode cX12_lay 7 = .ok (.iconst 0, 1) := dk_3 (dk_at dksX12_lay_0 7 rfl rfl)
theorem dX12_lay_8 : decode cX12_lay 8 = .ok (.istore 4, 2) := dk_54 4 (dk_at dksX12_lay_0 8 rfl rfl)
theorem dX12_lay_10 : decode cX12_lay 10 = .ok (.iload 4, 2) := dk_21 4 (dk_at dksX12_lay_0 10 rfl rfl)
theorem dX12_lay_12 : decode cX12_lay 12 = .ok (.aload_n 0, 1) := dk_42 (dk_at dksX12_lay_0 12 rfl rfl)
theorem dX12_lay_13 : decode cX12_lay 13 = .ok (.getfield 14, 3) := dk_180 0 14 (dk_at dksX12_lay_0 13 rfl rfl)
theorem dX12_lay_16 : decode cX12_lay 16 = .ok (.invokevirtual 32, 3) := dk_182 0 32 (dk_at dksX12_lay_0 16 rfl rfl)
theorem dX12_lay_19 : decode cX12_lay 19 = .ok (.if_icmp .ge 27, 3) := dk_162 0 27 (dk_at dksX12_lay_0 19 rfl rfl)
theorem dX12_lay_22 : decode cX12_lay 22 = .ok (.aload_n 0, 1) := dk_42 (dk_at dksX12_lay_0 22 rfl rfl)
theorem dX12_lay_23 : decode cX12_lay 23 = .ok (.getfield 14, 3) := dk_180 0 14 (dk_at dksX12_lay_1 0 rfl rfl)
theorem dX12_lay_26 : decode cX12_lay 26 = .ok (.iload 4, 2) := dk_21 4 (dk_at dksX12_lay_1 3 rfl rfl)
theorem dX12_lay_28 : decode cX12_lay 28 = .ok (.invokevirtual 36, 3) := dk_182 0 36 (dk_at dksX12_lay_1 5 rfl rfl)
theorem dX12_lay_31 : decode cX12_lay 31 = .ok (.checkcast 4, 3) := dk_192 0 4 (dk_at dksX12_lay_1 8 rfl rfl)
theorem dX12_lay_34 : decode cX12_lay 34 = .ok (.aload_n 1, 1) := dk_43 (dk_at dksX12_lay_1 11 rfl rfl)
theorem dX12_lay_35 : decode cX12_lay 35 = .ok (.iload_n 3, 1) := dk_29 (dk_at dksX12_lay_1 12 rfl rfl)
theorem dX12_lay_36 : decode cX12_lay 36 = .ok (.invokevirtual 71, 3) := dk_182 0 71 (dk_at dksX12_lay_1 13 rfl rfl)
theorem dX12_lay_39 : decode cX12_lay 39 = .ok (.istore_n 3, 1) := dk_62 (dk_at dksX12_lay_1 16 rfl rfl)
theorem dX12_lay_40 : decode cX12_lay 40 = .ok (.iinc 4 1, 3) := dk_132 4 1 (dk_at dksX12_lay_1 17 rfl rfl)
theorem dX12_lay_43 : decode cX12_lay 43 = .ok (.goto (-33), 3) := dk_167 255 223 (dk_at dksX12_lay_1 20 rfl rfl)
theorem dX12_lay_46 : decode cX12_lay 46 = .ok (.iload_n 3, 1) := dk_29 (dk_at dksX12_lay_1 23 rfl rfl)
theorem dX12_lay_47 : decode cX12_lay 47 = .ok (.ireturn, 1) := dk_172 (dk_at dksX12_lay_2 0 rfl rfl)
abbrev cX12_kind : ByteArray := prog_7_method_4_code
def yX12_kind : MethodName := ⟨RX12, "kind", "()I"⟩
theorem dX12_kind_0 : decode cX12_kind 0 = .ok (.aload_n 0, 1) := by decide +kernel
theorem dX12_kind_1 : decode cX12_kind 1 = .ok (.getfield 20, 3) := by decide +kernel
theorem dX12_kind_4 : decode cX12_kind 4 = .ok (.ireturn, 1) := by decide +kernel
abbrev cX12_size : ByteArray := prog_7_method_6_code
def yX12_size : MethodName := ⟨RX12, "size", "()I"⟩
def dkwX12_size_0 : List UInt8 := [42, 180, 0, 14, 182, 0, 32, 172]
abbrev dktX12_size_0 : List UInt8 := dkwX12_size_0 ++ []
theorem dksX12_size_0 : cX12_size.data.toList.drop 0 = dktX12_size_0 := by decide +kernel
theorem dX12_size_0 : decode cX12_size 0 = .ok (.aload_n 0, 1) := dk_42 (dk_at dksX12_size_0 0 rfl rfl)
theorem dX12_size_1 : decode cX12_size 1 = .ok (.getfield 14, 3) := dk_180 0 14 (dk_at dksX12_size_0 1 rfl rfl)
theorem dX12_size_4 : decode cX12_size 4 = .ok (.invokevirtual 32, 3) := dk_182 0 32 (dk_at dksX12_size_0 4 rfl rfl)
theorem dX12_size_7 : decode cX12_size 7 = .ok (.ireturn, 1) := dk_172 (dk_at dksX12_size_0 7 rfl rfl)
abbrev cX12_binder : ByteArray := prog_7_method_9_code
def yX12_binder : MethodName := ⟨RX12, "binder", "()LMacroGlass$Name;"⟩
def dkwX12_binder_1 : List UInt8 := [192, 0, 40, 167, 0, 4, 1, 176]
abbrev dktX12_binder_1 : List UInt8 := dkwX12_binder_1 ++ []
def dkwX12_binder_0 : List UInt8 := [42, 180, 0, 20, 7, 159, 0, 11, 42, 180, 0, 20, 8, 160, 0, 17, 42, 180, 0, 14, 4, 182, 0, 36]
abbrev dktX12_binder_0 : List UInt8 := dkwX12_binder_0 ++ dktX12_binder_1
theorem dksX12_binder_0 : cX12_binder.data.toList.drop 0 = dktX12_binder_0 := by decide +kernel
theorem dksX12_binder_1 : cX12_binder.data.toList.drop 24 = dktX12_binder_1 := dk_seg dksX12_binder_0 24 rfl rfl
theorem dX12_binder_0 : decode cX12_binder 0 = .ok (.aload_n 0, 1) := dk_42 (dk_at dksX12_binder_0 0 rfl rfl)
theorem dX12_binder_1 : decode cX12_binder 1 = .ok (.getfield 20, 3) := dk_180 0 20 (dk_at dksX12_binder_0 1 rfl rfl)
theorem dX12_binder_4 : decode cX12_binder 4 = .ok (.iconst 4, 1) := dk_7 (dk_at dksX12_binder_0 4 rfl rfl)
theorem dX12_binder_5 : decode cX12_binder 5 = .ok (.if_icmp .eq 11, 3) := dk_159 0 11 (dk_at dksX12_binder_0 5 rfl rfl)
theorem dX12_binder_8 : decode cX12_binder 8 = .ok (.aload_n 0, 1) := dk_42 (dk_at dksX12_binder_0 8 rfl rfl)
theorem dX12_binder_9 : decode cX12_binder 9 = .ok (.getfield 20, 3) := dk_180 0 20 (dk_at dksX12_binder_0 9 rfl rfl)
theorem dX12_binder_12 : decode cX12_binder 12 = .ok (.iconst 5, 1) := dk_8 (dk_at dksX12_binder_0 12 rfl rfl)
theorem dX12_binder_13 : decode cX12_binder 13 = .ok (.if_icmp .ne 17, 3) := dk_160 0 17 (dk_at dksX12_binder_0 13 rfl rfl)
theorem dX12_binder_16 : decode cX12_binder 16 = .ok (.aload_n 0, 1) := dk_42 (dk_at dksX12_binder_0 16 rfl rfl)
theorem dX12_binder_17 : decode cX12_binder 17 = .ok (.getfield 14, 3) := dk_180 0 14 (dk_at dksX12_binder_0 17 rfl rfl)
theorem dX12_binder_20 : decode cX12_binder 20 = .ok (.iconst 1, 1) := dk_4 (dk_at dksX12_binder_0 20 rfl rfl)
theorem dX12_binder_21 : decode cX12_binder 21 = .ok (.invokevirtual 36, 3) := dk_182 0 36 (dk_at dksX12_binder_0 21 rfl rfl)
theorem dX12_binder_24 : decode cX12_binder 24 = .ok (.checkcast 40, 3) := dk_192 0 40 (dk_at dksX12_binder_1 0 rfl rfl)
theorem dX12_binder_27 : decode cX12_binder 27 = .ok (.goto 4, 3) := dk_167 0 4 (dk_at dksX12_binder_1 3 rfl rfl)
theorem dX12_binder_30 : decode cX12_binder 30 = .ok (.aconst_null, 1) := dk_1 (dk_at dksX12_binder_1 6 rfl rfl)
theorem dX12_binder_31 : decode cX12_binder 31 = .ok (.areturn, 1) := dk_176 (dk_at dksX12_binder_1 7 rfl rfl)
abbrev cX12_last : ByteArray := prog_7_method_10_code
def yX12_last : MethodName := ⟨RX12, "last", "()LMacroGlass$Item;"⟩
def dkwX12_last_0 : List UInt8 := [42, 180, 0, 14, 42, 180, 0, 14, 182, 0, 32, 4, 100, 182, 0, 36, 192, 0, 4, 176]
abbrev dktX12_last_0 : List UInt8 := dkwX12_last_0 ++ []
theorem dksX12_last_0 : cX12_last.data.toList.drop 0 = dktX12_last_0 := by decide +kernel
theorem dX12_last_0 : decode cX12_last 0 = .ok (.aload_n 0, 1) := dk_42 (dk_at dksX12_last_0 0 rfl rfl)
theorem dX12_last_1 : decode cX12_last 1 = .ok (.getfield 14, 3) := dk_180 0 14 (dk_at dksX12_last_0 1 rfl rfl)
theorem dX12_last_4 : decode cX12_last 4 = .ok (.aload_n 0, 1) := dk_42 (dk_at dksX12_last_0 4 rfl rfl)
theorem dX12_last_5 : decode cX12_last 5 = .ok (.getfield 14, 3) := dk_180 0 14 (dk_at dksX12_last_0 5 rfl rfl)
theorem dX12_last_8 : decode cX12_last 8 = .ok (.invokevirtual 32, 3) := dk_182 0 32 (dk_at dksX12_last_0 8 rfl rfl)
theorem dX12_last_11 : decode cX12_last 11 = .ok (.iconst 1, 1) := dk_4 (dk_at dksX12_last_0 11 rfl rfl)
theorem dX12_last_12 : decode cX12_last 12 = .ok (.isub, 1) := dk_100 (dk_at dksX12_last_0 12 rfl rfl)
theorem dX12_last_13 : decode cX12_last 13 = .ok (.invokevirtual 36, 3) := dk_182 0 36 (dk_at dksX12_last_0 13 rfl rfl)
theorem dX12_last_16 : decode cX12_last 16 = .ok (.checkcast 4, 3) := dk_192 0 4 (dk_at dksX12_last_0 16 rfl rfl)
theorem dX12_last_19 : decode cX12_last 19 = .ok (.areturn, 1) := dk_176 (dk_at dksX12_last_0 19 rfl rfl)
abbrev cX12_isCall : ByteArray := prog_7_method_11_code
def yX12_isCall : MethodName := ⟨RX12, "isCall", "(Ljava/util/ArrayList;)Z"⟩
def dkwX12_isCall_4 : List UInt8 := [132, 3, 1, 167, 255, 206, 28, 172]
abbrev dktX12_isCall_4 : List UInt8 := dkwX12_isCall_4 ++ []
def dkwX12_isCall_3 : List UInt8 := [180, 0, 14, 3, 182, 0, 36, 192, 0, 40, 180, 0, 42, 148, 154, 0, 7, 4, 167, 0, 4, 3, 61]
abbrev dktX12_isCall_3 : List UInt8 := dkwX12_isCall_3 ++ dktX12_isCall_4
def dkwX12_isCall_2 : List UInt8 := [182, 0, 32, 162, 0, 48, 28, 154, 0, 32, 43, 29, 182, 0, 36, 192, 0, 79, 180, 0, 81, 42]
abbrev dktX12_isCall_2 : List UInt8 := dkwX12_isCall_2 ++ dktX12_isCall_3
def dkwX12_isCall_1 : List UInt8 := [180, 0, 14, 3, 182, 0, 36, 192, 0, 4, 182, 0, 75, 198, 0, 5, 3, 172, 3, 61, 3, 62, 29, 43]
abbrev dktX12_isCall_1 : List UInt8 := dkwX12_isCall_1 ++ dktX12_isCall_2
def dkwX12_isCall_0 : List UInt8 := [42, 180, 0, 20, 6, 160, 0, 34, 42, 180, 0, 14, 3, 182, 0, 36, 193, 0, 40, 153, 0, 20, 42]
abbrev dktX12_isCall_0 : List UInt8 := dkwX12_isCall_0 ++ dktX12_isCall_1
theorem dksX12_isCall_0 : cX12_isCall.data.toList.drop 0 = dktX12_isCall_0 := by decide +kernel
theorem dksX12_isCall_1 : cX12_isCall.data.toList.drop 23 = dktX12_isCall_1 := dk_seg dksX12_isCall_0 23 rfl rfl
theorem dksX12_isCall_2 : cX12_isCall.data.toList.drop 47 = dktX12_isCall_2 := dk_seg dksX12_isCall_1 24 rfl rfl
theorem dksX12_isCall_3 : cX12_isCall.data.toList.drop 69 = dktX12_isCall_3 := dk_seg dksX12_isCall_2 22 rfl rfl
theorem dksX12_isCall_4 : cX12_isCall.data.toList.drop 92 = dktX12_isCall_4 := dk_seg dksX12_isCall_3 23 rfl rfl
theorem dX12_isCall_0 : decode cX12_isCall 0 = .ok (.aload_n 0, 1) := dk_42 (dk_at dksX12_isCall_0 0 rfl rfl)
theorem dX12_isCall_1 : decode cX12_isCall 1 = .ok (.getfield 20, 3) := dk_180 0 20 (dk_at dksX12_isCall_0 1 rfl rfl)
theorem dX12_isCall_4 : decode cX12_isCall 4 = .ok (.iconst 3, 1) := dk_6 (dk_at dksX12_isCall_0 4 rfl rfl)
theorem dX12_isCall_5 : decode cX12_isCall 5 = .ok (.if_icmp .ne 34, 3) := dk_160 0 34 (dk_at dksX12_isCall_0 5 rfl rfl)
theorem dX12_isCall_8 : decode cX12_isCall 8 = .ok (.aload_n 0, 1) := dk_42 (dk_at dksX12_isCall_0 8 rfl rfl)
theorem dX12_isCall_9 : decode cX12_isCall 9 = .ok (.getfield 14, 3) := dk_180 0 14 (dk_at dksX12_isCall_0 9 rfl rfl)
theorem dX12_isCall_12 : decode cX12_isCall 12 = .ok (.iconst 0, 1) := dk_3 (dk_at dksX12_isCall_0 12 rfl rfl)
theorem dX12_isCall_13 : decode cX12_isCall 13 = .ok (.invokevirtual 36, 3) := dk_182 0 36 (dk_at dksX12_isCall_0 13 rfl rfl)
theorem dX12_isCall_16 : decode cX12_isCall 16 = .ok (.instanceof 40, 3) := dk_193 0 40 (dk_at dksX12_isCall_0 16 rfl rfl)
theorem dX12_isCall_19 : decode cX12_isCall 19 = .ok (.ifCond .eq 20, 3) := dk_153 0 20 (dk_at dksX12_isCall_0 19 rfl rfl)
theorem dX12_isCall_22 : decode cX12_isCall 22 = .ok (.aload_n 0, 1) := dk_42 (dk_at dksX12_isCall_0 22 rfl rfl)
theorem dX12_isCall_23 : decode cX12_isCall 23 = .ok (.getfield 14, 3) := dk_180 0 14 (dk_at dksX12_isCall_1 0 rfl rfl)
theorem dX12_isCall_26 : decode cX12_isCall 26 = .ok (.iconst 0, 1) := dk_3 (dk_at dksX12_isCall_1 3 rfl rfl)
theorem dX12_isCall_27 : decode cX12_isCall 27 = .ok (.invokevirtual 36, 3) := dk_182 0 36 (dk_at dksX12_isCall_1 4 rfl rfl)
theorem dX12_isCall_30 : decode cX12_isCall 30 = .ok (.checkcast 4, 3) := dk_192 0 4 (dk_at dksX12_isCall_1 7 rfl rfl)
theorem dX12_isCall_33 : decode cX12_isCall 33 = .ok (.invokevirtual 75, 3) := dk_182 0 75 (dk_at dksX12_isCall_1 10 rfl rfl)
theorem dX12_isCall_36 : decode cX12_isCall 36 = .ok (.ifnull 5, 3) := dk_198 0 5 (dk_at dksX12_isCall_1 13 rfl rfl)
theorem dX12_isCall_39 : decode cX12_isCall 39 = .ok (.iconst 0, 1) := dk_3 (dk_at dksX12_isCall_1 16 rfl rfl)
theorem dX12_isCall_40 : decode cX12_isCall 40 = .ok (.ireturn, 1) := dk_172 (dk_at dksX12_isCall_1 17 rfl rfl)
theorem dX12_isCall_41 : decode cX12_isCall 41 = .ok (.iconst 0, 1) := dk_3 (dk_at dksX12_isCall_1 18 rfl rfl)
theorem dX12_isCall_42 : decode cX12_isCall 42 = .ok (.istore_n 2, 1) := dk_61 (dk_at dksX12_isCall_1 19 rfl rfl)
theorem dX12_isCall_43 : decode cX12_isCall 43 = .ok (.iconst 0, 1) := dk_3 (dk_at dksX12_isCall_1 20 rfl rfl)
theorem dX12_isCall_44 : decode cX12_isCall 44 = .ok (.istore_n 3, 1) := dk_62 (dk_at dksX12_isCall_1 21 rfl rfl)
theorem dX12_isCall_45 : decode cX12_isCall 45 = .ok (.iload_n 3, 1) := dk_29 (dk_at dksX12_isCall_1 22 rfl rfl)
theorem dX12_isCall_46 : decode cX12_isCall 46 = .ok (.aload_n 1, 1) := dk_43 (dk_at dksX12_isCall_1 23 rfl rfl)
theorem dX12_isCall_47 : decode cX12_isCall 47 = .ok (.invokevirtual 32, 3) := dk_182 0 32 (dk_at dksX12_isCall_2 0 rfl rfl)
theorem dX12_isCall_50 : decode cX12_isCall 50 = .ok (.if_icmp .ge 48, 3) := dk_162 0 48 (dk_at dksX12_isCall_2 3 rfl rfl)
theorem dX12_isCall_53 : decode cX12_isCall 53 = .ok (.iload_n 2, 1) := dk_28 (dk_at dksX12_isCall_2 6 rfl rfl)
theorem dX12_isCall_54 : decode cX12_isCall 54 = .ok (.ifCond .ne 32, 3) := dk_154 0 32 (dk_at dksX12_isCall_2 7 rfl rfl)
theorem dX12_isCall_57 : decode cX12_isCall 57 = .ok (.aload_n 1, 1) := dk_43 (dk_at dksX12_isCall_2 10 rfl rfl)
theorem dX12_isCall_58 : decode cX12_isCall 58 = .ok (.iload_n 3, 1) := dk_29 (dk_at dksX12_isCall_2 11 rfl rfl)
theorem dX12_isCall_59 : decode cX12_isCall 59 = .ok (.invokevirtual 36, 3) := dk_182 0 36 (dk_at dksX12_isCall_2 12 rfl rfl)
theorem dX12_isCall_62 : decode cX12_isCall 62 = .ok (.checkcast 79, 3) := dk_192 0 79 (dk_at dksX12_isCall_2 15 rfl rfl)
theorem dX12_isCall_65 : decode cX12_isCall 65 = .ok (.getfield 81, 3) := dk_180 0 81 (dk_at dksX12_isCall_2 18 rfl rfl)
theorem dX12_isCall_68 : decode cX12_isCall 68 = .ok (.aload_n 0, 1) := dk_42 (dk_at dksX12_isCall_2 21 rfl rfl)
theorem dX12_isCall_69 : decode cX12_isCall 69 = .ok (.getfield 14, 3) := dk_180 0 14 (dk_at dksX12_isCall_3 0 rfl rfl)
theorem dX12_isCall_72 : decode cX12_isCall 72 = .ok (.iconst 0, 1) := dk_3 (dk_at dksX12_isCall_3 3 rfl rfl)
theorem dX12_isCall_73 : decode cX12_isCall 73 = .ok (.invokevirtual 36, 3) := dk_182 0 36 (dk_at dksX12_isCall_3 4 rfl rfl)
theorem dX12_isCall_76 : decode cX12_isCall 76 = .ok (.checkcast 40, 3) := dk_192 0 40 (dk_at dksX12_isCall_3 7 rfl rfl)
theorem dX12_isCall_79 : decode cX12_isCall 79 = .ok (.getfield 42, 3) := dk_180 0 42 (dk_at dksX12_isCall_3 10 rfl rfl)
theorem dX12_isCall_82 : decode cX12_isCall 82 = .ok (.lcmp, 1) := dk_148 (dk_at dksX12_isCall_3 13 rfl rfl)
theorem dX12_isCall_83 : decode cX12_isCall 83 = .ok (.ifCond .ne 7, 3) := dk_154 0 7 (dk_at dksX12_isCall_3 14 rfl rfl)
theorem dX12_isCall_86 : decode cX12_isCall 86 = .ok (.iconst 1, 1) := dk_4 (dk_at dksX12_isCall_3 17 rfl rfl)
theorem dX12_isCall_87 : decode cX12_isCall 87 = .ok (.goto 4, 3) := dk_167 0 4 (dk_at dksX12_isCall_3 18 rfl rfl)
theorem dX12_isCall_90 : decode cX12_isCall 90 = .ok (.iconst 0, 1) := dk_3 (dk_at dksX12_isCall_3 21 rfl rfl)
theorem dX12_isCall_91 : decode cX12_isCall 91 = .ok (.istore_n 2, 1) := dk_61 (dk_at dksX12_isCall_3 22 rfl rfl)
theorem dX12_isCall_92 : decode cX12_isCall 92 = .ok (.iinc 3 1, 3) := dk_132 3 1 (dk_at dksX12_isCall_4 0 rfl rfl)
theorem dX12_isCall_95 : decode cX12_isCall 95 = .ok (.goto (-50), 3) := dk_167 255 206 (dk_at dksX12_isCall_4 3 rfl rfl)
theorem dX12_isCall_98 : decode cX12_isCall 98 = .ok (.iload_n 2, 1) := dk_28 (dk_at dksX12_isCall_4 6 rfl rfl)
theorem dX12_isCall_99 : decode cX12_isCall 99 = .ok (.ireturn, 1) := dk_172 (dk_at dksX12_isCall_4 7 rfl rfl)
abbrev cX12_all : ByteArray := prog_7_method_7_code
def yX12_all : MethodName := ⟨RX12, "all", "()I"⟩
def dkwX12_all_1 : List UInt8 := [182, 0, 36, 192, 0, 4, 182, 0, 68, 96, 60, 132, 2, 1, 167, 255, 225, 27, 172]
abbrev dktX12_all_1 : List UInt8 := dkwX12_all_1 ++ []
def dkwX12_all_0 : List UInt8 := [42, 183, 0, 68, 60, 3, 61, 28, 42, 180, 0, 14, 182, 0, 32, 162, 0, 26, 27, 42, 180, 0, 14, 28]
abbrev dktX12_all_0 : List UInt8 := dkwX12_all_0 ++ dktX12_all_1
theorem dksX12_all_0 : cX12_all.data.toList.drop 0 = dktX12_all_0 := by decide +kernel
theorem dksX12_all_1 : cX12_all.data.toList.drop 24 = dktX12_all_1 := dk_seg dksX12_all_0 24 rfl rfl
theorem dX12_all_0 : decode cX12_all 0 = .ok (.aload_n 0, 1) := dk_42 (dk_at dksX12_all_0 0 rfl rfl)
theorem dX12_all_1 : decode cX12_all 1 = .ok (.invokespecial 68, 3) := dk_183 0 68 (dk_at dksX12_all_0 1 rfl rfl)
theorem dX12_all_4 : decode cX12_all 4 = .ok (.istore_n 1, 1) := dk_60 (dk_at dksX12_all_0 4 rfl rfl)
theorem dX12_all_5 : decode cX12_all 5 = .ok (.iconst 0, 1) := dk_3 (dk_at dksX12_all_0 5 rfl rfl)
theorem dX12_all_6 : decode cX12_all 6 = .ok (.istore_n 2, 1) := dk_61 (dk_at dksX12_all_0 6 rfl rfl)
theorem dX12_all_7 : decode cX12_all 7 = .ok (.iload_n 2, 1) := dk_28 (dk_at dksX12_all_0 7 rfl rfl)
theorem dX12_all_8 : decode cX12_all 8 = .ok (.aload_n 0, 1) := dk_42 (dk_at dksX12_all_0 8 rfl rfl)
theorem dX12_all_9 : decode cX12_all 9 = .ok (.getfield 14, 3) := dk_180 0 14 (dk_at dksX12_all_0 9 rfl rfl)
theorem dX12_all_12 : decode cX12_all 12 = .ok (.invokevirtual 32, 3) := dk_182 0 32 (dk_at dksX12_all_0 12 rfl rfl)
theorem dX12_all_15 : decode cX12_all 15 = .ok (.if_icmp .ge 26, 3) := dk_162 0 26 (dk_at dksX12_all_0 15 rfl rfl)
theorem dX12_all_18 : decode cX12_all 18 = .ok (.iload_n 1, 1) := dk_27 (dk_at dksX12_all_0 18 rfl rfl)
theorem dX12_all_19 : decode cX12_all 19 = .ok (.aload_n 0, 1) := dk_42 (dk_at dksX12_all_0 19 rfl rfl)
theorem dX12_all_20 : decode cX12_all 20 = .ok (.getfield 14, 3) := dk_180 0 14 (dk_at dksX12_all_0 20 rfl rfl)
theorem dX12_all_23 : decode cX12_all 23 = .ok (.iload_n 2, 1) := dk_28 (dk_at dksX12_all_0 23 rfl rfl)
theorem dX12_all_24 : decode cX12_all 24 = .ok (.invokevirtual 36, 3) := dk_182 0 36 (dk_at dksX12_all_1 0 rfl rfl)
theorem dX12_all_27 : decode cX12_all 27 = .ok (.checkcast 4, 3) := dk_192 0 4 (dk_at dksX12_all_1 3 rfl rfl)
theorem dX12_all_30 : decode cX12_all 30 = .ok (.invokevirtual 68, 3) := dk_182 0 68 (dk_at dksX12_all_1 6 rfl rfl)
theorem dX12_all_33 : decode cX12_all 33 = .ok (.iadd, 1) := dk_96 (dk_at dksX12_all_1 9 rfl rfl)
theorem dX12_all_34 : decode cX12_all 34 = .ok (.istore_n 1, 1) := dk_60 (dk_at dksX12_all_1 10 rfl rfl)
theorem dX12_all_35 : decode cX12_all 35 = .ok (.iinc 2 1, 3) := dk_132 2 1 (dk_at dksX12_all_1 11 rfl rfl)
theorem dX12_all_38 : decode cX12_all 38 = .ok (.goto (-31), 3) := dk_167 255 225 (dk_at dksX12_all_1 14 rfl rfl)
theorem dX12_all_41 : decode cX12_all 41 = .ok (.iload_n 1, 1) := dk_27 (dk_at dksX12_all_1 17 rfl rfl)
theorem dX12_all_42 : decode cX12_all 42 = .ok (.ireturn, 1) := dk_172 (dk_at dksX12_all_1 18 rfl rfl)
abbrev cX12_copied : ByteArray := prog_7_method_5_code
def yX12_copied : MethodName := ⟨RX12, "copied", "()LMacroGlass$Item;"⟩
def dkwX12_copied_2 : List UInt8 := [132, 2, 1, 167, 255, 224, 43, 42, 180, 0, 20, 181, 0, 20, 43, 176]
abbrev dktX12_copied_2 : List UInt8 := dkwX12_copied_2 ++ []
def dkwX12_copied_1 : List UInt8 := [182, 0, 32, 162, 0, 27, 43, 42, 180, 0, 14, 28, 182, 0, 36, 192, 0, 4, 182, 0, 61, 182, 0, 65]
abbrev dktX12_copied_1 : List UInt8 := dkwX12_copied_1 ++ dktX12_copied_2
def dkwX12_copied_0 : List UInt8 := [187, 0, 15, 89, 42, 180, 0, 54, 42, 180, 0, 57, 183, 0, 60, 76, 3, 61, 28, 42, 180, 0, 14]
abbrev dktX12_copied_0 : List UInt8 := dkwX12_copied_0 ++ dktX12_copied_1
theorem dksX12_copied_0 : cX12_copied.data.toList.drop 0 = dktX12_copied_0 := by decide +kernel
theorem dksX12_copied_1 : cX12_copied.data.toList.drop 23 = dktX12_copied_1 := dk_seg dksX12_copied_0 23 rfl rfl
theorem dksX12_copied_2 : cX12_copied.data.toList.drop 47 = dktX12_copied_2 := dk_seg dksX12_copied_1 24 rfl rfl
theorem dX12_copied_0 : decode cX12_copied 0 = .ok (.new 15, 3) := dk_187 0 15 (dk_at dksX12_copied_0 0 rfl rfl)
theorem dX12_copied_3 : decode cX12_copied 3 = .ok (.dup, 1) := dk_89 (dk_at dksX12_copied_0 3 rfl rfl)
theorem dX12_copied_4 : decode cX12_copied 4 = .ok (.aload_n 0, 1) := dk_42 (dk_at dksX12_copied_0 4 rfl rfl)
theorem dX12_copied_5 : decode cX12_copied 5 = .ok (.getfield 54, 3) := dk_180 0 54 (dk_at dksX12_copied_0 5 rfl rfl)
theorem dX12_copied_8 : decode cX12_copied 8 = .ok (.aload_n 0, 1) := dk_42 (dk_at dksX12_copied_0 8 rfl rfl)
theorem dX12_copied_9 : decode cX12_copied 9 = .ok (.getfield 57, 3) := dk_180 0 57 (dk_at dksX12_copied_0 9 rfl rfl)
theorem dX12_copied_12 : decode cX12_copied 12 = .ok (.invokespecial 60, 3) := dk_183 0 60 (dk_at dksX12_copied_0 12 rfl rfl)
theorem dX12_copied_15 : decode cX12_copied 15 = .ok (.astore_n 1, 1) := dk_76 (dk_at dksX12_copied_0 15 rfl rfl)
theorem dX12_copied_16 : decode cX12_copied 16 = .ok (.iconst 0, 1) := dk_3 (dk_at dksX12_copied_0 16 rfl rfl)
theorem dX12_copied_17 : decode cX12_copied 17 = .ok (.istore_n 2, 1) := dk_61 (dk_at dksX12_copied_0 17 rfl rfl)
theorem dX12_copied_18 : decode cX12_copied 18 = .ok (.iload_n 2, 1) := dk_28 (dk_at dksX12_copied_0 18 rfl rfl)
theorem dX12_copied_19 : decode cX12_copied 19 = .ok (.aload_n 0, 1) := dk_42 (dk_at dksX12_copied_0 19 rfl rfl)
theorem dX12_copied_20 : decode cX12_copied 20 = .ok (.getfield 14, 3) := dk_180 0 14 (dk_at dksX12_copied_0 20 rfl rfl)
theorem dX12_copied_23 : decode cX12_copied 23 = .ok (.invokevirtual 32, 3) := dk_182 0 32 (dk_at dksX12_copied_1 0 rfl rfl)
theorem dX12_copied_26 : decode cX12_copied 26 = .ok (.if_icmp .ge 27, 3) := dk_162 0 27 (dk_at dksX12_copied_1 3 rfl rfl)
theorem dX12_copied_29 : decode cX12_copied 29 = .ok (.aload_n 1, 1) := dk_43 (dk_at dksX12_copied_1 6 rfl rfl)
theorem dX12_copied_30 : decode cX12_copied 30 = .ok (.aload_n 0, 1) := dk_42 (dk_at dksX12_copied_1 7 rfl rfl)
theorem dX12_copied_31 : decode cX12_copied 31 = .ok (.getfield 14, 3) := dk_180 0 14 (dk_at dksX12_copied_1 8 rfl rfl)
theorem dX12_copied_34 : decode cX12_copied 34 = .ok (.iload_n 2, 1) := dk_28 (dk_at dksX12_copied_1 11 rfl rfl)
theorem dX12_copied_35 : decode cX12_copied 35 = .ok (.invokevirtual 36, 3) := dk_182 0 36 (dk_at dksX12_copied_1 12 rfl rfl)
theorem dX12_copied_38 : decode cX12_copied 38 = .ok (.checkcast 4, 3) := dk_192 0 4 (dk_at dksX12_copied_1 15 rfl rfl)
theorem dX12_copied_41 : decode cX12_copied 41 = .ok (.invokevirtual 61, 3) := dk_182 0 61 (dk_at dksX12_copied_1 18 rfl rfl)
theorem dX12_copied_44 : decode cX12_copied 44 = .ok (.invokevirtual 65, 3) := dk_182 0 65 (dk_at dksX12_copied_1 21 rfl rfl)
theorem dX12_copied_47 : decode cX12_copied 47 = .ok (.iinc 2 1, 3) := dk_132 2 1 (dk_at dksX12_copied_2 0 rfl rfl)
theorem dX12_copied_50 : decode cX12_copied 50 = .ok (.goto (-32), 3) := dk_167 255 224 (dk_at dksX12_copied_2 3 rfl rfl)
theorem dX12_copied_53 : decode cX12_copied 53 = .ok (.aload_n 1, 1) := dk_43 (dk_at dksX12_copied_2 6 rfl rfl)
theorem dX12_copied_54 : decode cX12_copied 54 = .ok (.aload_n 0, 1) := dk_42 (dk_at dksX12_copied_2 7 rfl rfl)
theorem dX12_copied_55 : decode cX12_copied 55 = .ok (.getfield 20, 3) := dk_180 0 20 (dk_at dksX12_copied_2 8 rfl rfl)
theorem dX12_copied_58 : decode cX12_copied 58 = .ok (.putfield 20, 3) := dk_181 0 20 (dk_at dksX12_copied_2 11 rfl rfl)
theorem dX12_copied_61 : decode cX12_copied 61 = .ok (.aload_n 1, 1) := dk_43 (dk_at dksX12_copied_2 14 rfl rfl)
theorem dX12_copied_62 : decode cX12_copied 62 = .ok (.areturn, 1) := dk_176 (dk_at dksX12_copied_2 15 rfl rfl)
abbrev cX12_replace : ByteArray := prog_7_method_12_code
def yX12_replace : MethodName := ⟨RX12, "replace", "(LMacroGlass$Item;LMacroGlass$Item;)V"⟩
def dkwX12_replace_1 : List UInt8 := [29, 44, 182, 0, 83, 87, 44, 42, 181, 0, 24, 177]
abbrev dktX12_replace_1 : List UInt8 := dkwX12_replace_1 ++ []
def dkwX12_replace_0 : List UInt8 := [3, 62, 42, 180, 0, 14, 29, 182, 0, 36, 43, 165, 0, 9, 132, 3, 1, 167, 255, 241, 42, 180, 0, 14]
abbrev dktX12_replace_0 : List UInt8 := dkwX12_replace_0 ++ dktX12_replace_1
theorem dksX12_replace_0 : cX12_replace.data.toList.drop 0 = dktX12_replace_0 := by decide +kernel
theorem dksX12_replace_1 : cX12_replace.data.toList.drop 24 = dktX12_replace_1 := dk_seg dksX12_replace_0 24 rfl rfl
theorem dX12_replace_0 : decode cX12_replace 0 = .ok (.iconst 0, 1) := dk_3 (dk_at dksX12_replace_0 0 rfl rfl)
theorem dX12_replace_1 : decode cX12_replace 1 = .ok (.istore_n 3, 1) := dk_62 (dk_at dksX12_replace_0 1 rfl rfl)
theorem dX12_replace_2 : decode cX12_replace 2 = .ok (.aload_n 0, 1) := dk_42 (dk_at dksX12_replace_0 2 rfl rfl)
theorem dX12_replace_3 : decode cX12_replace 3 = .ok (.getfield 14, 3) := dk_180 0 14 (dk_at dksX12_replace_0 3 rfl rfl)
theorem dX12_replace_6 : decode cX12_replace 6 = .ok (.iload_n 3, 1) := dk_29 (dk_at dksX12_replace_0 6 rfl rfl)
theorem dX12_replace_7 : decode cX12_replace 7 = .ok (.invokevirtual 36, 3) := dk_182 0 36 (dk_at dksX12_replace_0 7 rfl rfl)
theorem dX12_replace_10 : decode cX12_replace 10 = .ok (.aload_n 1, 1) := dk_43 (dk_at dksX12_replace_0 10 rfl rfl)
theorem dX12_replace_11 : decode cX12_replace 11 = .ok (.if_acmp .eq 9, 3) := dk_165 0 9 (dk_at dksX12_replace_0 11 rfl rfl)
theorem dX12_replace_14 : decode cX12_replace 14 = .ok (.iinc 3 1, 3) := dk_132 3 1 (dk_at dksX12_replace_0 14 rfl rfl)
theorem dX12_replace_17 : decode cX12_replace 17 = .ok (.goto (-15), 3) := dk_167 255 241 (dk_at dksX12_replace_0 17 rfl rfl)
theorem dX12_replace_20 : decode cX12_replace 20 = .ok (.aload_n 0, 1) := dk_42 (dk_at dksX12_replace_0 20 rfl rfl)
theorem dX12_replace_21 : decode cX12_replace 21 = .ok (.getfield 14, 3) := dk_180 0 14 (dk_at dksX12_replace_0 21 rfl rfl)
theorem dX12_replace_24 : decode cX12_replace 24 = .ok (.iload_n 3, 1) := dk_29 (dk_at dksX12_replace_1 0 rfl rfl)
theorem dX12_replace_25 : decode cX12_replace 25 = .ok (.aload_n 2, 1) := dk_44 (dk_at dksX12_replace_1 1 rfl rfl)
theorem dX12_replace_26 : decode cX12_replace 26 = .ok (.invokevirtual 83, 3) := dk_182 0 83 (dk_at dksX12_replace_1 2 rfl rfl)
theorem dX12_replace_29 : decode cX12_replace 29 = .ok (.pop, 1) := dk_87 (dk_at dksX12_replace_1 5 rfl rfl)
theorem dX12_replace_30 : decode cX12_replace 30 = .ok (.aload_n 2, 1) := dk_44 (dk_at dksX12_replace_1 6 rfl rfl)
theorem dX12_replace_31 : decode cX12_replace 31 = .ok (.aload_n 0, 1) := dk_42 (dk_at dksX12_replace_1 7 rfl rfl)
theorem dX12_replace_32 : decode cX12_replace 32 = .ok (.putfield 24, 3) := dk_181 0 24 (dk_at dksX12_replace_1 8 rfl rfl)
theorem dX12_replace_35 : decode cX12_replace 35 = .ok (.return_, 1) := dk_177 (dk_at dksX12_replace_1 11 rfl rfl)
theorem q92 : (Jvm.Cond.initialized "MacroGlass$List") ∈ lw_all := lw_g (lw_at lw_m1 27 rfl) rfl
theorem q487 : (Jvm.Cond.selects "MacroGlass$List" ({ cls := "java/lang/Object", name := "getClass", desc := "()Ljava/lang/Class;" } : Jvm.MethodName) ({ cls := "java/lang/Object", name := "getClass", desc := "()Ljava/lang/Class;" } : Jvm.MethodName)) ∈ lw_all := lw_g (lw_at lw_m2 182 rfl) rfl
theorem q563 : (Jvm.Cond.fieldLink "MacroGlass$List" (81 : Nat) "MacroGlass$Rule" "word" "J") ∈ lw_all := lw_g (lw_at lw_m3 18 rfl) rfl
theorem q582 : (Jvm.Cond.instantiable "MacroGlass$List" (6 : Nat)) ∈ lw_all := lw_g (lw_at lw_m3 37 rfl) rfl
theorem q584 : (Jvm.Cond.instanceMethod ({ cls := "MacroGlass$List", name := "<init>", desc := "(II)V" } : Jvm.MethodName)) ∈ lw_all := lw_g (lw_at lw_m3 39 rfl) rfl
theorem q585 : (Jvm.Cond.code ({ cls := "MacroGlass$List", name := "<init>", desc := "(II)V" } : Jvm.MethodName) prog_7_method_1_code (3 : Nat) (Option.none : Option Jvm.ClassFile.FieldType)) ∈ lw_all := lw_g (lw_at lw_m3 40 rfl) rfl
theorem q586 : (Jvm.Cond.methodLink "MacroGlass$List" (3 : Nat) ({ cls := "MacroGlass$Item", name := "<init>", desc := "(II)V" } : Jvm.MethodName)) ∈ lw_all := lw_g (lw_at lw_m3 41 rfl) rfl
theorem q590 : (Jvm.Cond.classLink "MacroGlass$List" (9 : Nat) "java/util/ArrayList") ∈ lw_all := lw_g (lw_at lw_m3 45 rfl) rfl
theorem q591 : (Jvm.Cond.methodLink "MacroGlass$List" (11 : Nat) ({ cls := "java/util/ArrayList", name := "<init>", desc := "()V" } : Jvm.MethodName)) ∈ lw_all := lw_g (lw_at lw_m3 46 rfl) rfl
theorem q592 : (Jvm.Cond.fieldLink "MacroGlass$List" (14 : Nat) "MacroGlass$List" "items" "Ljava/util/ArrayList;") ∈ lw_all := lw_g (lw_at lw_m3 47 rfl) rfl
theorem q597 : (Jvm.Cond.fieldLink "MacroGlass$List" (20 : Nat) "MacroGlass$List" "kind" "I") ∈ lw_all := lw_g (lw_at lw_m3 52 rfl) rfl
theorem q603 : (Jvm.Cond.fieldLink "MacroGlass$List" (54 : Nat) "MacroGlass$List" "place" "I") ∈ lw_all := lw_g (lw_at lw_m3 58 rfl) rfl
theorem q604 : (Jvm.Cond.sameField "MacroGlass$List" "MacroGlass$Item" "place" "I") ∈ lw_all := lw_g (lw_at lw_m3 59 rfl) rfl
theorem q611 : (Jvm.Cond.fieldLink "MacroGlass$List" (57 : Nat) "MacroGlass$List" "maker" "I") ∈ lw_all := lw_g (lw_at lw_m3 66 rfl) rfl
theorem q612 : (Jvm.Cond.sameField "MacroGlass$List" "MacroGlass$Item" "maker" "I") ∈ lw_all := lw_g (lw_at lw_m3 67 rfl) rfl
theorem q614 : (Jvm.Cond.fieldLink "MacroGlass$List" (24 : Nat) "MacroGlass$Item" "in" "LMacroGlass$List;") ∈ lw_all := lw_g (lw_at lw_m3 69 rfl) rfl
theorem q621 : (Jvm.Cond.sameField "MacroGlass$List" "MacroGlass$Item" "in" "LMacroGlass$List;") ∈ lw_all := lw_g (lw_at lw_m3 76 rfl) rfl
theorem q626 : (Jvm.Cond.sameField "MacroGlass$List" "MacroGlass$Item" "number" "I") ∈ lw_all := lw_g (lw_at lw_m3 81 rfl) rfl
theorem q627 : (Jvm.Cond.laysFinal "MacroGlass$List" "MacroGlass$List" "items" "Ljava/util/ArrayList;") ∈ lw_all := lw_g (lw_at lw_m3 82 rfl) rfl
theorem q628 : (Jvm.Cond.soleField "MacroGlass$List" "items") ∈ lw_all := lw_g (lw_at lw_m3 83 rfl) rfl
theorem q629 : (Jvm.Cond.lays "MacroGlass$List" "MacroGlass$List" "kind" "I") ∈ lw_all := lw_g (lw_at lw_m3 84 rfl) rfl
theorem q630 : (Jvm.Cond.soleField "MacroGlass$List" "kind") ∈ lw_all := lw_g (lw_at lw_m3 85 rfl) rfl
theorem q631 : (Jvm.Cond.laysFinal "MacroGlass$List" "MacroGlass$Item" "place" "I") ∈ lw_all := lw_g (lw_at lw_m3 86 rfl) rfl
theorem q633 : (Jvm.Cond.laysFinal "MacroGlass$List" "MacroGlass$Item" "maker" "I") ∈ lw_all := lw_g (lw_at lw_m3 88 rfl) rfl
theorem q635 : (Jvm.Cond.lays "MacroGlass$List" "MacroGlass$Item" "in" "LMacroGlass$List;") ∈ lw_all := lw_g (lw_at lw_m3 90 rfl) rfl
theorem q637 : (Jvm.Cond.lays "MacroGlass$List" "MacroGlass$Item" "number" "I") ∈ lw_all := lw_g (lw_at lw_m3 92 rfl) rfl
theorem q639 : (Jvm.Cond.superclass "MacroGlass$List" "MacroGlass$Item") ∈ lw_all := lw_g (lw_at lw_m3 94 rfl) rfl
theorem q659 : (Jvm.Cond.instanceMethod ({ cls := "MacroGlass$List", name := "add", desc := "(LMacroGlass$Item;)V" } : Jvm.MethodName)) ∈ lw_all := lw_g (lw_at lw_m3 114 rfl) rfl
theorem q660 : (Jvm.Cond.selects "MacroGlass$List" ({ cls := "MacroGlass$List", name := "add", desc := "(LMacroGlass$Item;)V" } : Jvm.MethodName) ({ cls := "MacroGlass$List", name := "add", desc := "(LMacroGlass$Item;)V" } : Jvm.MethodName)) ∈ lw_all := lw_g (lw_at lw_m3 115 rfl) rfl
theorem q661 : (Jvm.Cond.code ({ cls := "MacroGlass$List", name := "add", desc := "(LMacroGlass$Item;)V" } : Jvm.MethodName) prog_7_method_2_code (2 : Nat) (Option.none : Option Jvm.ClassFile.FieldType)) ∈ lw_all := lw_g (lw_at lw_m3 116 rfl) rfl
theorem q662 : (Jvm.Cond.methodLink "MacroGlass$List" (28 : Nat) ({ cls := "java/util/ArrayList", name := "add", desc := "(Ljava/lang/Object;)Z" } : Jvm.MethodName)) ∈ lw_all := lw_g (lw_at lw_m3 117 rfl) rfl
theorem q672 : (Jvm.Cond.fieldLinkNest "MacroGlass$List" (42 : Nat) "MacroGlass$Name" "letters" "J" "MacroGlass") ∈ lw_tbl := lw_at lw_m3 127 rfl
theorem q686 : (Jvm.Cond.instanceMethod ({ cls := "MacroGlass$List", name := "close", desc := "()V" } : Jvm.MethodName)) ∈ lw_all := lw_g (lw_at lw_m3 141 rfl) rfl
theorem q687 : (Jvm.Cond.selects "MacroGlass$List" ({ cls := "MacroGlass$List", name := "close", desc := "()V" } : Jvm.MethodName) ({ cls := "MacroGlass$List", name := "close", desc := "()V" } : Jvm.MethodName)) ∈ lw_all := lw_g (lw_at lw_m3 142 rfl) rfl
theorem q688 : (Jvm.Cond.code ({ cls := "MacroGlass$List", name := "close", desc := "()V" } : Jvm.MethodName) prog_7_method_3_code (5 : Nat) (Option.none : Option Jvm.ClassFile.FieldType)) ∈ lw_all := lw_g (lw_at lw_m3 143 rfl) rfl
theorem q689 : (Jvm.Cond.methodLink "MacroGlass$List" (32 : Nat) ({ cls := "java/util/ArrayList", name := "size", desc := "()I" } : Jvm.MethodName)) ∈ lw_all := lw_g (lw_at lw_m3 144 rfl) rfl
theorem q690 : (Jvm.Cond.methodLink "MacroGlass$List" (36 : Nat) ({ cls := "java/util/ArrayList", name := "get", desc := "(I)Ljava/lang/Object;" } : Jvm.MethodName)) ∈ lw_all := lw_g (lw_at lw_m3 145 rfl) rfl
theorem q702 : (Jvm.Cond.classLink "MacroGlass$List" (40 : Nat) "MacroGlass$Name") ∈ lw_all := lw_g (lw_at lw_m3 157 rfl) rfl
theorem q703 : (Jvm.Cond.stringRef "MacroGlass$List" (46 : Nat) "let") ∈ lw_tbl := lw_at lw_m3 158 rfl
theorem q704 : (Jvm.Cond.methodLinkNest "MacroGlass$List" (48 : Nat) ({ cls := "MacroGlass", name := "word", desc := "(Ljava/lang/String;)J" } : Jvm.MethodName) "MacroGlass") ∈ lw_tbl := lw_at lw_m3 159 rfl
theorem q705 : (Jvm.Cond.stringRef "MacroGlass$List" (52 : Nat) "fun") ∈ lw_tbl := lw_at lw_m3 160 rfl
theorem q774 : (Jvm.Cond.selects "MacroGlass$List" ({ cls := "MacroGlass$Item", name := "lay", desc := "([LMacroGlass$Item;I)I" } : Jvm.MethodName) ({ cls := "MacroGlass$List", name := "lay", desc := "([LMacroGlass$Item;I)I" } : Jvm.MethodName)) ∈ lw_all := lw_g (lw_at lw_m3 229 rfl) rfl
theorem q775 : (Jvm.Cond.instanceMethod ({ cls := "MacroGlass$List", name := "lay", desc := "([LMacroGlass$Item;I)I" } : Jvm.MethodName)) ∈ lw_all := lw_g (lw_at lw_m3 230 rfl) rfl
theorem q776 : (Jvm.Cond.code ({ cls := "MacroGlass$List", name := "lay", desc := "([LMacroGlass$Item;I)I" } : Jvm.MethodName) prog_7_method_8_code (5 : Nat) (Option.some Jvm.ClassFile.FieldType.int)) ∈ lw_all := lw_g (lw_at lw_m3 231 rfl) rfl
theorem q777 : (Jvm.Cond.methodLink "MacroGlass$List" (71 : Nat) ({ cls := "MacroGlass$Item", name := "lay", desc := "([LMacroGlass$Item;I)I" } : Jvm.MethodName)) ∈ lw_all := lw_g (lw_at lw_m3 232 rfl) rfl
theorem q778 : (Jvm.Cond.classLink "MacroGlass$List" (4 : Nat) "MacroGlass$Item") ∈ lw_all := lw_g (lw_at lw_m3 233 rfl) rfl
theorem q802 : (Jvm.Cond.selects "MacroGlass$List" ({ cls := "MacroGlass$Item", name := "kind", desc := "()I" } : Jvm.MethodName) ({ cls := "MacroGlass$List", name := "kind", desc := "()I" } : Jvm.MethodName)) ∈ lw_all := lw_g (lw_at lw_m4 17 rfl) rfl
theorem q803 : (Jvm.Cond.instanceMethod ({ cls := "MacroGlass$List", name := "kind", desc := "()I" } : Jvm.MethodName)) ∈ lw_all := lw_g (lw_at lw_m4 18 rfl) rfl
theorem q804 : (Jvm.Cond.code ({ cls := "MacroGlass$List", name := "kind", desc := "()I" } : Jvm.MethodName) prog_7_method_4_code (1 : Nat) (Option.some Jvm.ClassFile.FieldType.int)) ∈ lw_all := lw_g (lw_at lw_m4 19 rfl) rfl
theorem q814 : (Jvm.Cond.selects "MacroGlass$List" ({ cls := "MacroGlass$Item", name := "size", desc := "()I" } : Jvm.MethodName) ({ cls := "MacroGlass$List", name := "size", desc := "()I" } : Jvm.MethodName)) ∈ lw_all := lw_g (lw_at lw_m4 29 rfl) rfl
theorem q815 : (Jvm.Cond.instanceMethod ({ cls := "MacroGlass$List", name := "size", desc := "()I" } : Jvm.MethodName)) ∈ lw_all := lw_g (lw_at lw_m4 30 rfl) rfl
theorem q816 : (Jvm.Cond.code ({ cls := "MacroGlass$List", name := "size", desc := "()I" } : Jvm.MethodName) prog_7_method_6_code (1 : Nat) (Option.some Jvm.ClassFile.FieldType.int)) ∈ lw_all := lw_g (lw_at lw_m4 31 rfl) rfl
theorem q823 : (Jvm.Cond.selects "MacroGlass$List" ({ cls := "MacroGlass$Item", name := "value", desc := "()I" } : Jvm.MethodName) ({ cls := "MacroGlass$Item", name := "value", desc := "()I" } : Jvm.MethodName)) ∈ lw_all := lw_g (lw_at lw_m4 38 rfl) rfl
theorem q832 : (Jvm.Cond.selects "MacroGlass$List" ({ cls := "MacroGlass$Item", name := "mark", desc := "()I" } : Jvm.MethodName) ({ cls := "MacroGlass$Item", name := "mark", desc := "()I" } : Jvm.MethodName)) ∈ lw_all := lw_g (lw_at lw_m4 47 rfl) rfl
theorem q844 : (Jvm.Cond.selects "MacroGlass$List" ({ cls := "MacroGlass$Item", name := "reads", desc := "()LMacroGlass$Name;" } : Jvm.MethodName) ({ cls := "MacroGlass$Item", name := "reads", desc := "()LMacroGlass$Name;" } : Jvm.MethodName)) ∈ lw_all := lw_g (lw_at lw_m4 59 rfl) rfl
theorem q849 : (Jvm.Cond.instanceMethod ({ cls := "MacroGlass$List", name := "binder", desc := "()LMacroGlass$Name;" } : Jvm.MethodName)) ∈ lw_all := lw_g (lw_at lw_m4 64 rfl) rfl
theorem q850 : (Jvm.Cond.selects "MacroGlass$List" ({ cls := "MacroGlass$List", name := "binder", desc := "()LMacroGlass$Name;" } : Jvm.MethodName) ({ cls := "MacroGlass$List", name := "binder", desc := "()LMacroGlass$Name;" } : Jvm.MethodName)) ∈ lw_all := lw_g (lw_at lw_m4 65 rfl) rfl
theorem q851 : (Jvm.Cond.code ({ cls := "MacroGlass$List", name := "binder", desc := "()LMacroGlass$Name;" } : Jvm.MethodName) prog_7_method_9_code (1 : Nat) (Option.some (Jvm.ClassFile.FieldType.object "MacroGlass$Name"))) ∈ lw_all := lw_g (lw_at lw_m4 66 rfl) rfl
theorem q853 : (Jvm.Cond.instanceMethod ({ cls := "MacroGlass$List", name := "last", desc := "()LMacroGlass$Item;" } : Jvm.MethodName)) ∈ lw_all := lw_g (lw_at lw_m4 68 rfl) rfl
theorem q854 : (Jvm.Cond.selects "MacroGlass$List" ({ cls := "MacroGlass$List", name := "last", desc := "()LMacroGlass$Item;" } : Jvm.MethodName) ({ cls := "MacroGlass$List", name := "last", desc := "()LMacroGlass$Item;" } : Jvm.MethodName)) ∈ lw_all := lw_g (lw_at lw_m4 69 rfl) rfl
theorem q855 : (Jvm.Cond.code ({ cls := "MacroGlass$List", name := "last", desc := "()LMacroGlass$Item;" } : Jvm.MethodName) prog_7_method_10_code (1 : Nat) (Option.some (Jvm.ClassFile.FieldType.object "MacroGlass$Item"))) ∈ lw_all := lw_g (lw_at lw_m4 70 rfl) rfl
theorem q878 : (Jvm.Cond.selects "MacroGlass$List" ({ cls := "MacroGlass$Item", name := "isCall", desc := "(Ljava/util/ArrayList;)Z" } : Jvm.MethodName) ({ cls := "MacroGlass$List", name := "isCall", desc := "(Ljava/util/ArrayList;)Z" } : Jvm.MethodName)) ∈ lw_all := lw_g (lw_at lw_m4 93 rfl) rfl
theorem q879 : (Jvm.Cond.instanceMethod ({ cls := "MacroGlass$List", name := "isCall", desc := "(Ljava/util/ArrayList;)Z" } : Jvm.MethodName)) ∈ lw_all := lw_g (lw_at lw_m4 94 rfl) rfl
theorem q880 : (Jvm.Cond.code ({ cls := "MacroGlass$List", name := "isCall", desc := "(Ljava/util/ArrayList;)Z" } : Jvm.MethodName) prog_7_method_11_code (4 : Nat) (Option.some Jvm.ClassFile.FieldType.boolean)) ∈ lw_all := lw_g (lw_at lw_m4 95 rfl) rfl
theorem q881 : (Jvm.Cond.methodLink "MacroGlass$List" (75 : Nat) ({ cls := "MacroGlass$Item", name := "reads", desc := "()LMacroGlass$Name;" } : Jvm.MethodName)) ∈ lw_all := lw_g (lw_at lw_m4 96 rfl) rfl
theorem q882 : (Jvm.Cond.classLink "MacroGlass$List" (79 : Nat) "MacroGlass$Rule") ∈ lw_all := lw_g (lw_at lw_m4 97 rfl) rfl
theorem q1023 : (Jvm.Cond.selects "MacroGlass$List" ({ cls := "MacroGlass$Item", name := "all", desc := "()I" } : Jvm.MethodName) ({ cls := "MacroGlass$List", name := "all", desc := "()I" } : Jvm.MethodName)) ∈ lw_all := lw_g (lw_at lw_m4 238 rfl) rfl
theorem q1024 : (Jvm.Cond.instanceMethod ({ cls := "MacroGlass$List", name := "all", desc := "()I" } : Jvm.MethodName)) ∈ lw_all := lw_g (lw_at lw_m4 239 rfl) rfl
theorem q1025 : (Jvm.Cond.code ({ cls := "MacroGlass$List", name := "all", desc := "()I" } : Jvm.MethodName) prog_7_method_7_code (3 : Nat) (Option.some Jvm.ClassFile.FieldType.int)) ∈ lw_all := lw_g (lw_at lw_m5 0 rfl) rfl
theorem q1026 : (Jvm.Cond.methodLink "MacroGlass$List" (68 : Nat) ({ cls := "MacroGlass$Item", name := "all", desc := "()I" } : Jvm.MethodName)) ∈ lw_all := lw_g (lw_at lw_m5 1 rfl) rfl
theorem q1063 : (Jvm.Cond.selects "MacroGlass$List" ({ cls := "MacroGlass$Item", name := "copied", desc := "()LMacroGlass$Item;" } : Jvm.MethodName) ({ cls := "MacroGlass$List", name := "copied", desc := "()LMacroGlass$Item;" } : Jvm.MethodName)) ∈ lw_all := lw_g (lw_at lw_m5 38 rfl) rfl
theorem q1064 : (Jvm.Cond.instanceMethod ({ cls := "MacroGlass$List", name := "copied", desc := "()LMacroGlass$Item;" } : Jvm.MethodName)) ∈ lw_all := lw_g (lw_at lw_m5 39 rfl) rfl
theorem q1065 : (Jvm.Cond.code ({ cls := "MacroGlass$List", name := "copied", desc := "()LMacroGlass$Item;" } : Jvm.MethodName) prog_7_method_5_code (3 : Nat) (Option.some (Jvm.ClassFile.FieldType.object "MacroGlass$Item"))) ∈ lw_all := lw_g (lw_at lw_m5 40 rfl) rfl
theorem q1066 : (Jvm.Cond.classLink "MacroGlass$List" (15 : Nat) "MacroGlass$List") ∈ lw_all := lw_g (lw_at lw_m5 41 rfl) rfl
theorem q1067 : (Jvm.Cond.methodLink "MacroGlass$List" (60 : Nat) ({ cls := "MacroGlass$List", name := "<init>", desc := "(II)V" } : Jvm.MethodName)) ∈ lw_all := lw_g (lw_at lw_m5 42 rfl) rfl
theorem q1068 : (Jvm.Cond.methodLink "MacroGlass$List" (61 : Nat) ({ cls := "MacroGlass$Item", name := "copied", desc := "()LMacroGlass$Item;" } : Jvm.MethodName)) ∈ lw_all := lw_g (lw_at lw_m5 43 rfl) rfl
theorem q1077 : (Jvm.Cond.methodLink "MacroGlass$List" (65 : Nat) ({ cls := "MacroGlass$List", name := "add", desc := "(LMacroGlass$Item;)V" } : Jvm.MethodName)) ∈ lw_all := lw_g (lw_at lw_m5 52 rfl) rfl
theorem q1111 : (Jvm.Cond.instanceMethod ({ cls := "MacroGlass$List", name := "replace", desc := "(LMacroGlass$Item;LMacroGlass$Item;)V" } : Jvm.MethodName)) ∈ lw_all := lw_g (lw_at lw_m5 86 rfl) rfl
theorem q1112 : (Jvm.Cond.selects "MacroGlass$List" ({ cls := "MacroGlass$List", name := "replace", desc := "(LMacroGlass$Item;LMacroGlass$Item;)V" } : Jvm.MethodName) ({ cls := "MacroGlass$List", name := "replace", desc := "(LMacroGlass$Item;LMacroGlass$Item;)V" } : Jvm.MethodName)) ∈ lw_all := lw_g (lw_at lw_m5 87 rfl) rfl
theorem q1113 : (Jvm.Cond.code ({ cls := "MacroGlass$List", name := "replace", desc := "(LMacroGlass$Item;LMacroGlass$Item;)V" } : Jvm.MethodName) prog_7_method_12_code (4 : Nat) (Option.none : Option Jvm.ClassFile.FieldType)) ∈ lw_all := lw_g (lw_at lw_m5 88 rfl) rfl
theorem q1114 : (Jvm.Cond.methodLink "MacroGlass$List" (83 : Nat) ({ cls := "java/util/ArrayList", name := "set", desc := "(ILjava/lang/Object;)Ljava/lang/Object;" } : Jvm.MethodName)) ∈ lw_all := lw_g (lw_at lw_m5 89 rfl) rfl
theorem q1681 : (Jvm.Cond.selects "MacroGlass$List" ({ cls := "MacroGlass$List", name := "all", desc := "()I" } : Jvm.MethodName) ({ cls := "MacroGlass$List", name := "all", desc := "()I" } : Jvm.MethodName)) ∈ lw_all := lw_g (lw_at lw_m7 176 rfl) rfl
theorem q1682 : (Jvm.Cond.castable "MacroGlass$List" "MacroGlass$Item") ∈ lw_tbl := lw_at lw_m7 177 rfl
theorem q1703 : (Jvm.Cond.castable "MacroGlass$List" "java/lang/Object") ∈ lw_tbl := lw_at lw_m7 198 rfl
theorem in_X12 : ∀ w ∈ wsX120, w ∈ lw_all := lw_in wsX120 [631, 633, 635, 637, 627, 629] (by decide +kernel) (by decide +kernel)

/-! MacroGlass$Whole -/
set_option maxRecDepth 100000
def RX13 : String := "MacroGlass$Whole"
def TX13 : u_T := fun k => match k with
  | 0 => ("MacroGlass$Item", "place", "I", true)
  | 1 => ("MacroGlass$Item", "maker", "I", true)
  | 2 => ("MacroGlass$Item", "in", "LMacroGlass$List;", false)
  | 3 => ("MacroGlass$Item", "number", "I", false)
  | _ => ("MacroGlass$Whole", "v", "I", true)
def tyX13 : Nat → FieldType := fun k => match k with
  | 0 => .int
  | 1 => .int
  | 2 => .object "MacroGlass$List"
  | 3 => .int
  | _ => .int
abbrev wsX130 : List Cond := u_ws RX13 TX13 5
theorem nmX13 : ∀ a, a < 5 → ∀ b, b < 5 → a ≠ b → (TX13 a).2.1 ≠ (TX13 b).2.1 := by decide +kernel
theorem tyX13_ok : ∀ k, k < 5 → parseFieldDescriptor (TX13 k).2.2.1 = some (tyX13 k) := by decide +kernel
abbrev cX13_init : ByteArray := prog_17_method_1_code
def yX13_init : MethodName := ⟨RX13, "<init>", "(III)V"⟩
def dkwX13_init_0 : List UInt8 := [42, 27, 28, 183, 0, 3, 42, 29, 181, 0, 9, 177]
abbrev dktX13_init_0 : List UInt8 := dkwX13_init_0 ++ []
theorem dksX13_init_0 : cX13_init.data.toList.drop 0 = dktX13_init_0 := by decide +kernel
theorem dX13_init_0 : decode cX13_init 0 = .ok (.aload_n 0, 1) := dk_42 (dk_at dksX13_init_0 0 rfl rfl)
theorem dX13_init_1 : decode cX13_init 1 = .ok (.iload_n 1, 1) := dk_27 (dk_at dksX13_init_0 1 rfl rfl)
theorem dX13_init_2 : decode cX13_init 2 = .ok (.iload_n 2, 1) := dk_28 (dk_at dksX13_init_0 2 rfl rfl)
theorem dX13_init_3 : decode cX13_init 3 = .ok (.invokespecial 3, 3) := dk_183 0 3 (dk_at dksX13_init_0 3 rfl rfl)
theorem dX13_init_6 : decode cX13_init 6 = .ok (.aload_n 0, 1) := dk_42 (dk_at dksX13_init_0 6 rfl rfl)
theorem dX13_init_7 : decode cX13_init 7 = .ok (.iload_n 3, 1) := dk_29 (dk_at dksX13_init_0 7 rfl rfl)
theorem dX13_init_8 : decode cX13_init 8 = .ok (.putfield 9, 3) := dk_181 0 9 (dk_at dksX13_init_0 8 rfl rfl)
theorem dX13_init_11 : decode cX13_init 11 = .ok (.return_, 1) := dk_177 (dk_at dksX13_init_0 11 rfl rfl)
abbrev cX13_kind : ByteArray := prog_17_method_2_code
def yX13_kind : MethodName := ⟨RX13, "kind", "()I"⟩
theorem dX13_kind_0 : decode cX13_kind 0 = .ok (.iconst 0, 1) := by decide +kernel
theorem dX13_kind_1 : decode cX13_kind 1 = .ok (.ireturn, 1) := by decide +kernel
abbrev cX13_value : ByteArray := prog_17_method_4_code
def yX13_value : MethodName := ⟨RX13, "value", "()I"⟩
theorem dX13_value_0 : decode cX13_value 0 = .ok (.aload_n 0, 1) := by decide +kernel
theorem dX13_value_1 : decode cX13_value 1 = .ok (.getfield 9, 3) := by decide +kernel
theorem dX13_value_4 : decode cX13_value 4 = .ok (.ireturn, 1) := by decide +kernel
abbrev cX13_copied : ByteArray := prog_17_method_3_code
def yX13_copied : MethodName := ⟨RX13, "copied", "()LMacroGlass$Item;"⟩
def dkwX13_copied_0 : List UInt8 := [187, 0, 10, 89, 42, 180, 0, 15, 42, 180, 0, 18, 42, 180, 0, 9, 183, 0, 21, 176]
abbrev dktX13_copied_0 : List UInt8 := dkwX13_copied_0 ++ []
theorem dksX13_copied_0 : cX13_copied.data.toList.drop 0 = dktX13_copied_0 := by decide +kernel
theorem dX13_copied_0 : decode cX13_copied 0 = .ok (.new 10, 3) := dk_187 0 10 (dk_at dksX13_copied_0 0 rfl rfl)
theorem dX13_copied_3 : decode cX13_copied 3 = .ok (.dup, 1) := dk_89 (dk_at dksX13_copied_0 3 rfl rfl)
theorem dX13_copied_4 : decode cX13_copied 4 = .ok (.aload_n 0, 1) := dk_42 (dk_at dksX13_copied_0 4 rfl rfl)
theorem dX13_copied_5 : decode cX13_copied 5 = .ok (.getfield 15, 3) := dk_180 0 15 (dk_at dksX13_copied_0 5 rfl rfl)
theorem dX13_copied_8 : decode cX13_copied 8 = .ok (.aload_n 0, 1) := dk_42 (dk_at dksX13_copied_0 8 rfl rfl)
theorem dX13_copied_9 : decode cX13_copied 9 = .ok (.getfield 18, 3) := dk_180 0 18 (dk_at dksX13_copied_0 9 rfl rfl)
theorem dX13_copied_12 : decode cX13_copied 12 = .ok (.aload_n 0, 1) := dk_42 (dk_at dksX13_copied_0 12 rfl rfl)
theorem dX13_copied_13 : decode cX13_copied 13 = .ok (.getfield 9, 3) := dk_180 0 9 (dk_at dksX13_copied_0 13 rfl rfl)
theorem dX13_copied_16 : decode cX13_copied 16 = .ok (.invokespecial 21, 3) := dk_183 0 21 (dk_at dksX13_copied_0 16 rfl rfl)
theorem dX13_copied_19 : decode cX13_copied 19 = .ok (.areturn, 1) := dk_176 (dk_at dksX13_copied_0 19 rfl rfl)
theorem q93 : (Jvm.Cond.initialized "MacroGlass$Whole") ∈ lw_all := lw_g (lw_at lw_m1 28 rfl) rfl
theorem q496 : (Jvm.Cond.selects "MacroGlass$Whole" ({ cls := "java/lang/Object", name := "getClass", desc := "()Ljava/lang/Class;" } : Jvm.MethodName) ({ cls := "java/lang/Object", name := "getClass", desc := "()Ljava/lang/Class;" } : Jvm.MethodName)) ∈ lw_all := lw_g (lw_at lw_m2 191 rfl) rfl
theorem q601 : (Jvm.Cond.fieldLink "MacroGlass$Whole" (15 : Nat) "MacroGlass$Whole" "place" "I") ∈ lw_all := lw_g (lw_at lw_m3 56 rfl) rfl
theorem q602 : (Jvm.Cond.sameField "MacroGlass$Whole" "MacroGlass$Item" "place" "I") ∈ lw_all := lw_g (lw_at lw_m3 57 rfl) rfl
theorem q609 : (Jvm.Cond.fieldLink "MacroGlass$Whole" (18 : Nat) "MacroGlass$Whole" "maker" "I") ∈ lw_all := lw_g (lw_at lw_m3 64 rfl) rfl
theorem q610 : (Jvm.Cond.sameField "MacroGlass$Whole" "MacroGlass$Item" "maker" "I") ∈ lw_all := lw_g (lw_at lw_m3 65 rfl) rfl
theorem q645 : (Jvm.Cond.instantiable "MacroGlass$Whole" (5 : Nat)) ∈ lw_all := lw_g (lw_at lw_m3 100 rfl) rfl
theorem q647 : (Jvm.Cond.instanceMethod ({ cls := "MacroGlass$Whole", name := "<init>", desc := "(III)V" } : Jvm.MethodName)) ∈ lw_all := lw_g (lw_at lw_m3 102 rfl) rfl
theorem q648 : (Jvm.Cond.code ({ cls := "MacroGlass$Whole", name := "<init>", desc := "(III)V" } : Jvm.MethodName) prog_17_method_1_code (4 : Nat) (Option.none : Option Jvm.ClassFile.FieldType)) ∈ lw_all := lw_g (lw_at lw_m3 103 rfl) rfl
theorem q649 : (Jvm.Cond.methodLink "MacroGlass$Whole" (3 : Nat) ({ cls := "MacroGlass$Item", name := "<init>", desc := "(II)V" } : Jvm.MethodName)) ∈ lw_all := lw_g (lw_at lw_m3 104 rfl) rfl
theorem q650 : (Jvm.Cond.fieldLink "MacroGlass$Whole" (9 : Nat) "MacroGlass$Whole" "v" "I") ∈ lw_all := lw_g (lw_at lw_m3 105 rfl) rfl
theorem q651 : (Jvm.Cond.laysFinal "MacroGlass$Whole" "MacroGlass$Whole" "v" "I") ∈ lw_all := lw_g (lw_at lw_m3 106 rfl) rfl
theorem q652 : (Jvm.Cond.soleField "MacroGlass$Whole" "v") ∈ lw_all := lw_g (lw_at lw_m3 107 rfl) rfl
theorem q653 : (Jvm.Cond.laysFinal "MacroGlass$Whole" "MacroGlass$Item" "place" "I") ∈ lw_all := lw_g (lw_at lw_m3 108 rfl) rfl
theorem q654 : (Jvm.Cond.laysFinal "MacroGlass$Whole" "MacroGlass$Item" "maker" "I") ∈ lw_all := lw_g (lw_at lw_m3 109 rfl) rfl
theorem q655 : (Jvm.Cond.lays "MacroGlass$Whole" "MacroGlass$Item" "in" "LMacroGlass$List;") ∈ lw_all := lw_g (lw_at lw_m3 110 rfl) rfl
theorem q656 : (Jvm.Cond.lays "MacroGlass$Whole" "MacroGlass$Item" "number" "I") ∈ lw_all := lw_g (lw_at lw_m3 111 rfl) rfl
theorem q657 : (Jvm.Cond.superclass "MacroGlass$Whole" "MacroGlass$Item") ∈ lw_all := lw_g (lw_at lw_m3 112 rfl) rfl
theorem q780 : (Jvm.Cond.selects "MacroGlass$Whole" ({ cls := "MacroGlass$Item", name := "lay", desc := "([LMacroGlass$Item;I)I" } : Jvm.MethodName) ({ cls := "MacroGlass$Item", name := "lay", desc := "([LMacroGlass$Item;I)I" } : Jvm.MethodName)) ∈ lw_all := lw_g (lw_at lw_m3 235 rfl) rfl
theorem q808 : (Jvm.Cond.selects "MacroGlass$Whole" ({ cls := "MacroGlass$Item", name := "kind", desc := "()I" } : Jvm.MethodName) ({ cls := "MacroGlass$Whole", name := "kind", desc := "()I" } : Jvm.MethodName)) ∈ lw_all := lw_g (lw_at lw_m4 23 rfl) rfl
theorem q809 : (Jvm.Cond.instanceMethod ({ cls := "MacroGlass$Whole", name := "kind", desc := "()I" } : Jvm.MethodName)) ∈ lw_all := lw_g (lw_at lw_m4 24 rfl) rfl
theorem q810 : (Jvm.Cond.code ({ cls := "MacroGlass$Whole", name := "kind", desc := "()I" } : Jvm.MethodName) prog_17_method_2_code (1 : Nat) (Option.some Jvm.ClassFile.FieldType.int)) ∈ lw_all := lw_g (lw_at lw_m4 25 rfl) rfl
theorem q818 : (Jvm.Cond.selects "MacroGlass$Whole" ({ cls := "MacroGlass$Item", name := "size", desc := "()I" } : Jvm.MethodName) ({ cls := "MacroGlass$Item", name := "size", desc := "()I" } : Jvm.MethodName)) ∈ lw_all := lw_g (lw_at lw_m4 33 rfl) rfl
theorem q825 : (Jvm.Cond.selects "MacroGlass$Whole" ({ cls := "MacroGlass$Item", name := "value", desc := "()I" } : Jvm.MethodName) ({ cls := "MacroGlass$Whole", name := "value", desc := "()I" } : Jvm.MethodName)) ∈ lw_all := lw_g (lw_at lw_m4 40 rfl) rfl
theorem q826 : (Jvm.Cond.instanceMethod ({ cls := "MacroGlass$Whole", name := "value", desc := "()I" } : Jvm.MethodName)) ∈ lw_all := lw_g (lw_at lw_m4 41 rfl) rfl
theorem q827 : (Jvm.Cond.code ({ cls := "MacroGlass$Whole", name := "value", desc := "()I" } : Jvm.MethodName) prog_17_method_4_code (1 : Nat) (Option.some Jvm.ClassFile.FieldType.int)) ∈ lw_all := lw_g (lw_at lw_m4 42 rfl) rfl
theorem q836 : (Jvm.Cond.selects "MacroGlass$Whole" ({ cls := "MacroGlass$Item", name := "mark", desc := "()I" } : Jvm.MethodName) ({ cls := "MacroGlass$Item", name := "mark", desc := "()I" } : Jvm.MethodName)) ∈ lw_all := lw_g (lw_at lw_m4 51 rfl) rfl
theorem q860 : (Jvm.Cond.selects "MacroGlass$Whole" ({ cls := "MacroGlass$Item", name := "reads", desc := "()LMacroGlass$Name;" } : Jvm.MethodName) ({ cls := "MacroGlass$Item", name := "reads", desc := "()LMacroGlass$Name;" } : Jvm.MethodName)) ∈ lw_all := lw_g (lw_at lw_m4 75 rfl) rfl
theorem q884 : (Jvm.Cond.selects "MacroGlass$Whole" ({ cls := "MacroGlass$Item", name := "isCall", desc := "(Ljava/util/ArrayList;)Z" } : Jvm.MethodName) ({ cls := "MacroGlass$Item", name := "isCall", desc := "(Ljava/util/ArrayList;)Z" } : Jvm.MethodName)) ∈ lw_all := lw_g (lw_at lw_m4 99 rfl) rfl
theorem q1028 : (Jvm.Cond.selects "MacroGlass$Whole" ({ cls := "MacroGlass$Item", name := "all", desc := "()I" } : Jvm.MethodName) ({ cls := "MacroGlass$Item", name := "all", desc := "()I" } : Jvm.MethodName)) ∈ lw_all := lw_g (lw_at lw_m5 3 rfl) rfl
theorem q1073 : (Jvm.Cond.instanceMethod ({ cls := "MacroGlass$Whole", name := "copied", desc := "()LMacroGlass$Item;" } : Jvm.MethodName)) ∈ lw_all := lw_g (lw_at lw_m5 48 rfl) rfl
theorem q1074 : (Jvm.Cond.code ({ cls := "MacroGlass$Whole", name := "copied", desc := "()LMacroGlass$Item;" } : Jvm.MethodName) prog_17_method_3_code (1 : Nat) (Option.some (Jvm.ClassFile.FieldType.object "MacroGlass$Item"))) ∈ lw_all := lw_g (lw_at lw_m5 49 rfl) rfl
theorem q1075 : (Jvm.Cond.classLink "MacroGlass$Whole" (10 : Nat) "MacroGlass$Whole") ∈ lw_all := lw_g (lw_at lw_m5 50 rfl) rfl
theorem q1076 : (Jvm.Cond.methodLink "MacroGlass$Whole" (21 : Nat) ({ cls := "MacroGlass$Whole", name := "<init>", desc := "(III)V" } : Jvm.MethodName)) ∈ lw_all := lw_g (lw_at lw_m5 51 rfl) rfl
theorem q1079 : (Jvm.Cond.selects "MacroGlass$Whole" ({ cls := "MacroGlass$Item", name := "copied", desc := "()LMacroGlass$Item;" } : Jvm.MethodName) ({ cls := "MacroGlass$Whole", name := "copied", desc := "()LMacroGlass$Item;" } : Jvm.MethodName)) ∈ lw_all := lw_g (lw_at lw_m5 54 rfl) rfl
theorem q1684 : (Jvm.Cond.castable "MacroGlass$Whole" "MacroGlass$Item") ∈ lw_tbl := lw_at lw_m7 179 rfl
theorem q1704 : (Jvm.Cond.castable "MacroGlass$Whole" "java/lang/Object") ∈ lw_tbl := lw_at lw_m7 199 rfl
theorem in_X13 : ∀ w ∈ wsX130, w ∈ lw_all := lw_in wsX130 [653, 654, 655, 656, 651] (by decide +kernel) (by decide +kernel)

/-! MacroGlass$Name -/
set_option maxRecDepth 100000
def RX14 : String := "MacroGlass$Name"
def TX14 : u_T := fun k => match k with
  | 0 => ("MacroGlass$Item", "place", "I", true)
  | 1 => ("MacroGlass$Item", "maker", "I", true)
  | 2 => ("MacroGlass$Item", "in", "LMacroGlass$List;", false)
  | 3 => ("MacroGlass$Item", "number", "I", false)
  | 4 => ("MacroGlass$Name", "letters", "J", true)
  | _ => ("MacroGlass$Name", "mark", "I", true)
def tyX14 : Nat → FieldType := fun k => match k with
  | 0 => .int
  | 1 => .int
  | 2 => .object "MacroGlass$List"
  | 3 => .int
  | 4 => .long
  | _ => .int
abbrev wsX140 : List Cond := u_ws RX14 TX14 6
theorem nmX14 : ∀ a, a < 6 → ∀ b, b < 6 → a ≠ b → (TX14 a).2.1 ≠ (TX14 b).2.1 := by decide +kernel
theorem tyX14_ok : ∀ k, k < 6 → parseFieldDescriptor (TX14 k).2.2.1 = some (tyX14 k) := by decide +kernel
abbrev cX14_init : ByteArray := prog_8_method_1_code
def yX14_init : MethodName := ⟨RX14, "<init>", "(IIJI)V"⟩
def dkwX14_init_0 : List UInt8 := [42, 27, 28, 183, 0, 3, 42, 33, 181, 0, 9, 42, 21, 5, 181, 0, 15, 177]
abbrev dktX14_init_0 : List UInt8 := dkwX14_init_0 ++ []
theorem dksX14_init_0 : cX14_init.data.toList.drop 0 = dktX14_init_0 := by decide +kernel
theorem dX14_init_0 : decode cX14_init 0 = .ok (.aload_n 0, 1) := dk_42 (dk_at dksX14_init_0 0 rfl rfl)
theorem dX14_init_1 : decode cX14_init 1 = .ok (.iload_n 1, 1) := dk_27 (dk_at dksX14_init_0 1 rfl rfl)
theorem dX14_init_2 : decode cX14_init 2 = .ok (.iload_n 2, 1) := dk_28 (dk_at dksX14_init_0 2 rfl rfl)
theorem dX14_init_3 : decode cX14_init 3 = .ok (.invokespecial 3, 3) := dk_183 0 3 (dk_at dksX14_init_0 3 rfl rfl)
theorem dX14_init_6 : decode cX14_init 6 = .ok (.aload_n 0, 1) := dk_42 (dk_at dksX14_init_0 6 rfl rfl)
theorem dX14_init_7 : decode cX14_init 7 = .ok (.lload_n 3, 1) := dk_33 (dk_at dksX14_init_0 7 rfl rfl)
theorem dX14_init_8 : decode cX14_init 8 = .ok (.putfield 9, 3) := dk_181 0 9 (dk_at dksX14_init_0 8 rfl rfl)
theorem dX14_init_11 : decode cX14_init 11 = .ok (.aload_n 0, 1) := dk_42 (dk_at dksX14_init_0 11 rfl rfl)
theorem dX14_init_12 : decode cX14_init 12 = .ok (.iload 5, 2) := dk_21 5 (dk_at dksX14_init_0 12 rfl rfl)
theorem dX14_init_14 : decode cX14_init 14 = .ok (.putfield 15, 3) := dk_181 0 15 (dk_at dksX14_init_0 14 rfl rfl)
theorem dX14_init_17 : decode cX14_init 17 = .ok (.return_, 1) := dk_177 (dk_at dksX14_init_0 17 rfl rfl)
abbrev cX14_kind : ByteArray := prog_8_method_2_code
def yX14_kind : MethodName := ⟨RX14, "kind", "()I"⟩
theorem dX14_kind_0 : decode cX14_kind 0 = .ok (.iconst 1, 1) := by decide +kernel
theorem dX14_kind_1 : decode cX14_kind 1 = .ok (.ireturn, 1) := by decide +kernel
abbrev cX14_mark : ByteArray := prog_8_method_4_code
def yX14_mark : MethodName := ⟨RX14, "mark", "()I"⟩
theorem dX14_mark_0 : decode cX14_mark 0 = .ok (.aload_n 0, 1) := by decide +kernel
theorem dX14_mark_1 : decode cX14_mark 1 = .ok (.getfield 15, 3) := by decide +kernel
theorem dX14_mark_4 : decode cX14_mark 4 = .ok (.ireturn, 1) := by decide +kernel
abbrev cX14_reads : ByteArray := prog_8_method_6_code
def yX14_reads : MethodName := ⟨RX14, "reads", "()LMacroGlass$Name;"⟩
def dkwX14_reads_3 : List UInt8 := [1, 176]
abbrev dktX14_reads_3 : List UInt8 := dkwX14_reads_3 ++ []
def dkwX14_reads_2 : List UInt8 := [166, 0, 19, 44, 182, 0, 32, 42, 182, 0, 43, 153, 0, 8, 44, 182, 0, 32, 176, 44, 76, 167, 255, 211]
abbrev dktX14_reads_2 : List UInt8 := dkwX14_reads_2 ++ dktX14_reads_3
def dkwX14_reads_1 : List UInt8 := [180, 0, 38, 198, 0, 44, 43, 180, 0, 38, 77, 44, 182, 0, 32, 198, 0, 27, 44, 182, 0, 39, 43]
abbrev dktX14_reads_1 : List UInt8 := dkwX14_reads_1 ++ dktX14_reads_2
def dkwX14_reads_0 : List UInt8 := [42, 180, 0, 28, 198, 0, 16, 42, 180, 0, 28, 182, 0, 32, 42, 166, 0, 5, 42, 176, 42, 76, 43]
abbrev dktX14_reads_0 : List UInt8 := dkwX14_reads_0 ++ dktX14_reads_1
theorem dksX14_reads_0 : cX14_reads.data.toList.drop 0 = dktX14_reads_0 := by decide +kernel
theorem dksX14_reads_1 : cX14_reads.data.toList.drop 23 = dktX14_reads_1 := dk_seg dksX14_reads_0 23 rfl rfl
theorem dksX14_reads_2 : cX14_reads.data.toList.drop 46 = dktX14_reads_2 := dk_seg dksX14_reads_1 23 rfl rfl
theorem dksX14_reads_3 : cX14_reads.data.toList.drop 70 = dktX14_reads_3 := dk_seg dksX14_reads_2 24 rfl rfl
theorem dX14_reads_0 : decode cX14_reads 0 = .ok (.aload_n 0, 1) := dk_42 (dk_at dksX14_reads_0 0 rfl rfl)
theorem dX14_reads_1 : decode cX14_reads 1 = .ok (.getfield 28, 3) := dk_180 0 28 (dk_at dksX14_reads_0 1 rfl rfl)
theorem dX14_reads_4 : decode cX14_reads 4 = .ok (.ifnull 16, 3) := dk_198 0 16 (dk_at dksX14_reads_0 4 rfl rfl)
theorem dX14_reads_7 : decode cX14_reads 7 = .ok (.aload_n 0, 1) := dk_42 (dk_at dksX14_reads_0 7 rfl rfl)
theorem dX14_reads_8 : decode cX14_reads 8 = .ok (.getfield 28, 3) := dk_180 0 28 (dk_at dksX14_reads_0 8 rfl rfl)
theorem dX14_reads_11 : decode cX14_reads 11 = .ok (.invokevirtual 32, 3) := dk_182 0 32 (dk_at dksX14_reads_0 11 rfl rfl)
theorem dX14_reads_14 : decode cX14_reads 14 = .ok (.aload_n 0, 1) := dk_42 (dk_at dksX14_reads_0 14 rfl rfl)
theorem dX14_reads_15 : decode cX14_reads 15 = .ok (.if_acmp .ne 5, 3) := dk_166 0 5 (dk_at dksX14_reads_0 15 rfl rfl)
theorem dX14_reads_18 : decode cX14_reads 18 = .ok (.aload_n 0, 1) := dk_42 (dk_at dksX14_reads_0 18 rfl rfl)
theorem dX14_reads_19 : decode cX14_reads 19 = .ok (.areturn, 1) := dk_176 (dk_at dksX14_reads_0 19 rfl rfl)
theorem dX14_reads_20 : decode cX14_reads 20 = .ok (.aload_n 0, 1) := dk_42 (dk_at dksX14_reads_0 20 rfl rfl)
theorem dX14_reads_21 : decode cX14_reads 21 = .ok (.astore_n 1, 1) := dk_76 (dk_at dksX14_reads_0 21 rfl rfl)
theorem dX14_reads_22 : decode cX14_reads 22 = .ok (.aload_n 1, 1) := dk_43 (dk_at dksX14_reads_0 22 rfl rfl)
theorem dX14_reads_23 : decode cX14_reads 23 = .ok (.getfield 38, 3) := dk_180 0 38 (dk_at dksX14_reads_1 0 rfl rfl)
theorem dX14_reads_26 : decode cX14_reads 26 = .ok (.ifnull 44, 3) := dk_198 0 44 (dk_at dksX14_reads_1 3 rfl rfl)
theorem dX14_reads_29 : decode cX14_reads 29 = .ok (.aload_n 1, 1) := dk_43 (dk_at dksX14_reads_1 6 rfl rfl)
theorem dX14_reads_30 : decode cX14_reads 30 = .ok (.getfield 38, 3) := dk_180 0 38 (dk_at dksX14_reads_1 7 rfl rfl)
theorem dX14_reads_33 : decode cX14_reads 33 = .ok (.astore_n 2, 1) := dk_77 (dk_at dksX14_reads_1 10 rfl rfl)
theorem dX14_reads_34 : decode cX14_reads 34 = .ok (.aload_n 2, 1) := dk_44 (dk_at dksX14_reads_1 11 rfl rfl)
theorem dX14_reads_35 : decode cX14_reads 35 = .ok (.invokevirtual 32, 3) := dk_182 0 32 (dk_at dksX14_reads_1 12 rfl rfl)
theorem dX14_reads_38 : decode cX14_reads 38 = .ok (.ifnull 27, 3) := dk_198 0 27 (dk_at dksX14_reads_1 15 rfl rfl)
theorem dX14_reads_41 : decode cX14_reads 41 = .ok (.aload_n 2, 1) := dk_44 (dk_at dksX14_reads_1 18 rfl rfl)
theorem dX14_reads_42 : decode cX14_reads 42 = .ok (.invokevirtual 39, 3) := dk_182 0 39 (dk_at dksX14_reads_1 19 rfl rfl)
theorem dX14_reads_45 : decode cX14_reads 45 = .ok (.aload_n 1, 1) := dk_43 (dk_at dksX14_reads_1 22 rfl rfl)
theorem dX14_reads_46 : decode cX14_reads 46 = .ok (.if_acmp .ne 19, 3) := dk_166 0 19 (dk_at dksX14_reads_2 0 rfl rfl)
theorem dX14_reads_49 : decode cX14_reads 49 = .ok (.aload_n 2, 1) := dk_44 (dk_at dksX14_reads_2 3 rfl rfl)
theorem dX14_reads_50 : decode cX14_reads 50 = .ok (.invokevirtual 32, 3) := dk_182 0 32 (dk_at dksX14_reads_2 4 rfl rfl)
theorem dX14_reads_53 : decode cX14_reads 53 = .ok (.aload_n 0, 1) := dk_42 (dk_at dksX14_reads_2 7 rfl rfl)
theorem dX14_reads_54 : decode cX14_reads 54 = .ok (.invokevirtual 43, 3) := dk_182 0 43 (dk_at dksX14_reads_2 8 rfl rfl)
theorem dX14_reads_57 : decode cX14_reads 57 = .ok (.ifCond .eq 8, 3) := dk_153 0 8 (dk_at dksX14_reads_2 11 rfl rfl)
theorem dX14_reads_60 : decode cX14_reads 60 = .ok (.aload_n 2, 1) := dk_44 (dk_at dksX14_reads_2 14 rfl rfl)
theorem dX14_reads_61 : decode cX14_reads 61 = .ok (.invokevirtual 32, 3) := dk_182 0 32 (dk_at dksX14_reads_2 15 rfl rfl)
theorem dX14_reads_64 : decode cX14_reads 64 = .ok (.areturn, 1) := dk_176 (dk_at dksX14_reads_2 18 rfl rfl)
theorem dX14_reads_65 : decode cX14_reads 65 = .ok (.aload_n 2, 1) := dk_44 (dk_at dksX14_reads_2 19 rfl rfl)
theorem dX14_reads_66 : decode cX14_reads 66 = .ok (.astore_n 1, 1) := dk_76 (dk_at dksX14_reads_2 20 rfl rfl)
theorem dX14_reads_67 : decode cX14_reads 67 = .ok (.goto (-45), 3) := dk_167 255 211 (dk_at dksX14_reads_2 21 rfl rfl)
theorem dX14_reads_70 : decode cX14_reads 70 = .ok (.aconst_null, 1) := dk_1 (dk_at dksX14_reads_3 0 rfl rfl)
theorem dX14_reads_71 : decode cX14_reads 71 = .ok (.areturn, 1) := dk_176 (dk_at dksX14_reads_3 1 rfl rfl)
abbrev cX14_isLike : ByteArray := prog_8_method_5_code
def yX14_isLike : MethodName := ⟨RX14, "isLike", "(LMacroGlass$Name;)Z"⟩
def dkwX14_isLike_1 : List UInt8 := [167, 0, 4, 3, 172]
abbrev dktX14_isLike_1 : List UInt8 := dkwX14_isLike_1 ++ []
def dkwX14_isLike_0 : List UInt8 := [42, 180, 0, 9, 43, 180, 0, 9, 148, 154, 0, 18, 42, 180, 0, 15, 43, 180, 0, 15, 160, 0, 7, 4]
abbrev dktX14_isLike_0 : List UInt8 := dkwX14_isLike_0 ++ dktX14_isLike_1
theorem dksX14_isLike_0 : cX14_isLike.data.toList.drop 0 = dktX14_isLike_0 := by decide +kernel
theorem dksX14_isLike_1 : cX14_isLike.data.toList.drop 24 = dktX14_isLike_1 := dk_seg dksX14_isLike_0 24 rfl rfl
theorem dX14_isLike_0 : decode cX14_isLike 0 = .ok (.aload_n 0, 1) := dk_42 (dk_at dksX14_isLike_0 0 rfl rfl)
theorem dX14_isLike_1 : decode cX14_isLike 1 = .ok (.getfield 9, 3) := dk_180 0 9 (dk_at dksX14_isLike_0 1 rfl rfl)
theorem dX14_isLike_4 : decode cX14_isLike 4 = .ok (.aload_n 1, 1) := dk_43 (dk_at dksX14_isLike_0 4 rfl rfl)
theorem dX14_isLike_5 : decode cX14_isLike 5 = .ok (.getfield 9, 3) := dk_180 0 9 (dk_at dksX14_isLike_0 5 rfl rfl)
theorem dX14_isLike_8 : decode cX14_isLike 8 = .ok (.lcmp, 1) := dk_148 (dk_at dksX14_isLike_0 8 rfl rfl)
theorem dX14_isLike_9 : decode cX14_isLike 9 = .ok (.ifCond .ne 18, 3) := dk_154 0 18 (dk_at dksX14_isLike_0 9 rfl rfl)
theorem dX14_isLike_12 : decode cX14_isLike 12 = .ok (.aload_n 0, 1) := dk_42 (dk_at dksX14_isLike_0 12 rfl rfl)
theorem dX14_isLike_13 : decode cX14_isLike 13 = .ok (.getfield 15, 3) := dk_180 0 15 (dk_at dksX14_isLike_0 13 rfl rfl)
theorem dX14_isLike_16 : decode cX14_isLike 16 = .ok (.aload_n 1, 1) := dk_43 (dk_at dksX14_isLike_0 16 rfl rfl)
theorem dX14_isLike_17 : decode cX14_isLike 17 = .ok (.getfield 15, 3) := dk_180 0 15 (dk_at dksX14_isLike_0 17 rfl rfl)
theorem dX14_isLike_20 : decode cX14_isLike 20 = .ok (.if_icmp .ne 7, 3) := dk_160 0 7 (dk_at dksX14_isLike_0 20 rfl rfl)
theorem dX14_isLike_23 : decode cX14_isLike 23 = .ok (.iconst 1, 1) := dk_4 (dk_at dksX14_isLike_0 23 rfl rfl)
theorem dX14_isLike_24 : decode cX14_isLike 24 = .ok (.goto 4, 3) := dk_167 0 4 (dk_at dksX14_isLike_1 0 rfl rfl)
theorem dX14_isLike_27 : decode cX14_isLike 27 = .ok (.iconst 0, 1) := dk_3 (dk_at dksX14_isLike_1 3 rfl rfl)
theorem dX14_isLike_28 : decode cX14_isLike 28 = .ok (.ireturn, 1) := dk_172 (dk_at dksX14_isLike_1 4 rfl rfl)
abbrev cX14_copied : ByteArray := prog_8_method_3_code
def yX14_copied : MethodName := ⟨RX14, "copied", "()LMacroGlass$Item;"⟩
def dkwX14_copied_0 : List UInt8 := [187, 0, 10, 89, 42, 180, 0, 19, 42, 180, 0, 22, 42, 180, 0, 9, 42, 180, 0, 15, 183, 0, 25, 176]
abbrev dktX14_copied_0 : List UInt8 := dkwX14_copied_0 ++ []
theorem dksX14_copied_0 : cX14_copied.data.toList.drop 0 = dktX14_copied_0 := by decide +kernel
theorem dX14_copied_0 : decode cX14_copied 0 = .ok (.new 10, 3) := dk_187 0 10 (dk_at dksX14_copied_0 0 rfl rfl)
theorem dX14_copied_3 : decode cX14_copied 3 = .ok (.dup, 1) := dk_89 (dk_at dksX14_copied_0 3 rfl rfl)
theorem dX14_copied_4 : decode cX14_copied 4 = .ok (.aload_n 0, 1) := dk_42 (dk_at dksX14_copied_0 4 rfl rfl)
theorem dX14_copied_5 : decode cX14_copied 5 = .ok (.getfield 19, 3) := dk_180 0 19 (dk_at dksX14_copied_0 5 rfl rfl)
theorem dX14_copied_8 : decode cX14_copied 8 = .ok (.aload_n 0, 1) := dk_42 (dk_at dksX14_copied_0 8 rfl rfl)
theorem dX14_copied_9 : decode cX14_copied 9 = .ok (.getfield 22, 3) := dk_180 0 22 (dk_at dksX14_copied_0 9 rfl rfl)
theorem dX14_copied_12 : decode cX14_copied 12 = .ok (.aload_n 0, 1) := dk_42 (dk_at dksX14_copied_0 12 rfl rfl)
theorem dX14_copied_13 : decode cX14_copied 13 = .ok (.getfield 9, 3) := dk_180 0 9 (dk_at dksX14_copied_0 13 rfl rfl)
theorem dX14_copied_16 : decode cX14_copied 16 = .ok (.aload_n 0, 1) := dk_42 (dk_at dksX14_copied_0 16 rfl rfl)
theorem dX14_copied_17 : decode cX14_copied 17 = .ok (.getfield 15, 3) := dk_180 0 15 (dk_at dksX14_copied_0 17 rfl rfl)
theorem dX14_copied_20 : decode cX14_copied 20 = .ok (.invokespecial 25, 3) := dk_183 0 25 (dk_at dksX14_copied_0 20 rfl rfl)
theorem dX14_copied_23 : decode cX14_copied 23 = .ok (.areturn, 1) := dk_176 (dk_at dksX14_copied_0 23 rfl rfl)
theorem q94 : (Jvm.Cond.initialized "MacroGlass$Name") ∈ lw_all := lw_g (lw_at lw_m1 29 rfl) rfl
theorem q488 : (Jvm.Cond.selects "MacroGlass$Name" ({ cls := "java/lang/Object", name := "getClass", desc := "()Ljava/lang/Class;" } : Jvm.MethodName) ({ cls := "java/lang/Object", name := "getClass", desc := "()Ljava/lang/Class;" } : Jvm.MethodName)) ∈ lw_all := lw_g (lw_at lw_m2 183 rfl) rfl
theorem q599 : (Jvm.Cond.fieldLink "MacroGlass$Name" (19 : Nat) "MacroGlass$Name" "place" "I") ∈ lw_all := lw_g (lw_at lw_m3 54 rfl) rfl
theorem q600 : (Jvm.Cond.sameField "MacroGlass$Name" "MacroGlass$Item" "place" "I") ∈ lw_all := lw_g (lw_at lw_m3 55 rfl) rfl
theorem q607 : (Jvm.Cond.fieldLink "MacroGlass$Name" (22 : Nat) "MacroGlass$Name" "maker" "I") ∈ lw_all := lw_g (lw_at lw_m3 62 rfl) rfl
theorem q608 : (Jvm.Cond.sameField "MacroGlass$Name" "MacroGlass$Item" "maker" "I") ∈ lw_all := lw_g (lw_at lw_m3 63 rfl) rfl
theorem q615 : (Jvm.Cond.fieldLink "MacroGlass$Name" (28 : Nat) "MacroGlass$Name" "in" "LMacroGlass$List;") ∈ lw_all := lw_g (lw_at lw_m3 70 rfl) rfl
theorem q616 : (Jvm.Cond.sameField "MacroGlass$Name" "MacroGlass$Item" "in" "LMacroGlass$List;") ∈ lw_all := lw_g (lw_at lw_m3 71 rfl) rfl
theorem q617 : (Jvm.Cond.fieldLink "MacroGlass$Name" (38 : Nat) "MacroGlass$Item" "in" "LMacroGlass$List;") ∈ lw_all := lw_g (lw_at lw_m3 72 rfl) rfl
theorem q624 : (Jvm.Cond.sameField "MacroGlass$Name" "MacroGlass$Item" "number" "I") ∈ lw_all := lw_g (lw_at lw_m3 79 rfl) rfl
theorem q664 : (Jvm.Cond.instantiable "MacroGlass$Name" (6 : Nat)) ∈ lw_all := lw_g (lw_at lw_m3 119 rfl) rfl
theorem q666 : (Jvm.Cond.instanceMethod ({ cls := "MacroGlass$Name", name := "<init>", desc := "(IIJI)V" } : Jvm.MethodName)) ∈ lw_all := lw_g (lw_at lw_m3 121 rfl) rfl
theorem q667 : (Jvm.Cond.code ({ cls := "MacroGlass$Name", name := "<init>", desc := "(IIJI)V" } : Jvm.MethodName) prog_8_method_1_code (6 : Nat) (Option.none : Option Jvm.ClassFile.FieldType)) ∈ lw_all := lw_g (lw_at lw_m3 122 rfl) rfl
theorem q668 : (Jvm.Cond.methodLink "MacroGlass$Name" (3 : Nat) ({ cls := "MacroGlass$Item", name := "<init>", desc := "(II)V" } : Jvm.MethodName)) ∈ lw_all := lw_g (lw_at lw_m3 123 rfl) rfl
theorem q669 : (Jvm.Cond.fieldLink "MacroGlass$Name" (9 : Nat) "MacroGlass$Name" "letters" "J") ∈ lw_all := lw_g (lw_at lw_m3 124 rfl) rfl
theorem q674 : (Jvm.Cond.fieldLink "MacroGlass$Name" (15 : Nat) "MacroGlass$Name" "mark" "I") ∈ lw_all := lw_g (lw_at lw_m3 129 rfl) rfl
theorem q676 : (Jvm.Cond.laysFinal "MacroGlass$Name" "MacroGlass$Name" "letters" "J") ∈ lw_all := lw_g (lw_at lw_m3 131 rfl) rfl
theorem q677 : (Jvm.Cond.soleField "MacroGlass$Name" "letters") ∈ lw_all := lw_g (lw_at lw_m3 132 rfl) rfl
theorem q678 : (Jvm.Cond.laysFinal "MacroGlass$Name" "MacroGlass$Name" "mark" "I") ∈ lw_all := lw_g (lw_at lw_m3 133 rfl) rfl
theorem q679 : (Jvm.Cond.soleField "MacroGlass$Name" "mark") ∈ lw_all := lw_g (lw_at lw_m3 134 rfl) rfl
theorem q680 : (Jvm.Cond.laysFinal "MacroGlass$Name" "MacroGlass$Item" "place" "I") ∈ lw_all := lw_g (lw_at lw_m3 135 rfl) rfl
theorem q681 : (Jvm.Cond.laysFinal "MacroGlass$Name" "MacroGlass$Item" "maker" "I") ∈ lw_all := lw_g (lw_at lw_m3 136 rfl) rfl
theorem q682 : (Jvm.Cond.lays "MacroGlass$Name" "MacroGlass$Item" "in" "LMacroGlass$List;") ∈ lw_all := lw_g (lw_at lw_m3 137 rfl) rfl
theorem q683 : (Jvm.Cond.lays "MacroGlass$Name" "MacroGlass$Item" "number" "I") ∈ lw_all := lw_g (lw_at lw_m3 138 rfl) rfl
theorem q684 : (Jvm.Cond.superclass "MacroGlass$Name" "MacroGlass$Item") ∈ lw_all := lw_g (lw_at lw_m3 139 rfl) rfl
theorem q779 : (Jvm.Cond.selects "MacroGlass$Name" ({ cls := "MacroGlass$Item", name := "lay", desc := "([LMacroGlass$Item;I)I" } : Jvm.MethodName) ({ cls := "MacroGlass$Item", name := "lay", desc := "([LMacroGlass$Item;I)I" } : Jvm.MethodName)) ∈ lw_all := lw_g (lw_at lw_m3 234 rfl) rfl
theorem q805 : (Jvm.Cond.selects "MacroGlass$Name" ({ cls := "MacroGlass$Item", name := "kind", desc := "()I" } : Jvm.MethodName) ({ cls := "MacroGlass$Name", name := "kind", desc := "()I" } : Jvm.MethodName)) ∈ lw_all := lw_g (lw_at lw_m4 20 rfl) rfl
theorem q806 : (Jvm.Cond.instanceMethod ({ cls := "MacroGlass$Name", name := "kind", desc := "()I" } : Jvm.MethodName)) ∈ lw_all := lw_g (lw_at lw_m4 21 rfl) rfl
theorem q807 : (Jvm.Cond.code ({ cls := "MacroGlass$Name", name := "kind", desc := "()I" } : Jvm.MethodName) prog_8_method_2_code (1 : Nat) (Option.some Jvm.ClassFile.FieldType.int)) ∈ lw_all := lw_g (lw_at lw_m4 22 rfl) rfl
theorem q817 : (Jvm.Cond.selects "MacroGlass$Name" ({ cls := "MacroGlass$Item", name := "size", desc := "()I" } : Jvm.MethodName) ({ cls := "MacroGlass$Item", name := "size", desc := "()I" } : Jvm.MethodName)) ∈ lw_all := lw_g (lw_at lw_m4 32 rfl) rfl
theorem q824 : (Jvm.Cond.selects "MacroGlass$Name" ({ cls := "MacroGlass$Item", name := "value", desc := "()I" } : Jvm.MethodName) ({ cls := "MacroGlass$Item", name := "value", desc := "()I" } : Jvm.MethodName)) ∈ lw_all := lw_g (lw_at lw_m4 39 rfl) rfl
theorem q833 : (Jvm.Cond.selects "MacroGlass$Name" ({ cls := "MacroGlass$Item", name := "mark", desc := "()I" } : Jvm.MethodName) ({ cls := "MacroGlass$Name", name := "mark", desc := "()I" } : Jvm.MethodName)) ∈ lw_all := lw_g (lw_at lw_m4 48 rfl) rfl
theorem q834 : (Jvm.Cond.instanceMethod ({ cls := "MacroGlass$Name", name := "mark", desc := "()I" } : Jvm.MethodName)) ∈ lw_all := lw_g (lw_at lw_m4 49 rfl) rfl
theorem q835 : (Jvm.Cond.code ({ cls := "MacroGlass$Name", name := "mark", desc := "()I" } : Jvm.MethodName) prog_8_method_4_code (1 : Nat) (Option.some Jvm.ClassFile.FieldType.int)) ∈ lw_all := lw_g (lw_at lw_m4 50 rfl) rfl
theorem q845 : (Jvm.Cond.selects "MacroGlass$Name" ({ cls := "MacroGlass$Item", name := "reads", desc := "()LMacroGlass$Name;" } : Jvm.MethodName) ({ cls := "MacroGlass$Name", name := "reads", desc := "()LMacroGlass$Name;" } : Jvm.MethodName)) ∈ lw_all := lw_g (lw_at lw_m4 60 rfl) rfl
theorem q846 : (Jvm.Cond.instanceMethod ({ cls := "MacroGlass$Name", name := "reads", desc := "()LMacroGlass$Name;" } : Jvm.MethodName)) ∈ lw_all := lw_g (lw_at lw_m4 61 rfl) rfl
theorem q847 : (Jvm.Cond.code ({ cls := "MacroGlass$Name", name := "reads", desc := "()LMacroGlass$Name;" } : Jvm.MethodName) prog_8_method_6_code (3 : Nat) (Option.some (Jvm.ClassFile.FieldType.object "MacroGlass$Name"))) ∈ lw_all := lw_g (lw_at lw_m4 62 rfl) rfl
theorem q848 : (Jvm.Cond.methodLink "MacroGlass$Name" (32 : Nat) ({ cls := "MacroGlass$List", name := "binder", desc := "()LMacroGlass$Name;" } : Jvm.MethodName)) ∈ lw_all := lw_g (lw_at lw_m4 63 rfl) rfl
theorem q852 : (Jvm.Cond.methodLink "MacroGlass$Name" (39 : Nat) ({ cls := "MacroGlass$List", name := "last", desc := "()LMacroGlass$Item;" } : Jvm.MethodName)) ∈ lw_all := lw_g (lw_at lw_m4 67 rfl) rfl
theorem q856 : (Jvm.Cond.methodLink "MacroGlass$Name" (43 : Nat) ({ cls := "MacroGlass$Name", name := "isLike", desc := "(LMacroGlass$Name;)Z" } : Jvm.MethodName)) ∈ lw_all := lw_g (lw_at lw_m4 71 rfl) rfl
theorem q857 : (Jvm.Cond.instanceMethod ({ cls := "MacroGlass$Name", name := "isLike", desc := "(LMacroGlass$Name;)Z" } : Jvm.MethodName)) ∈ lw_all := lw_g (lw_at lw_m4 72 rfl) rfl
theorem q858 : (Jvm.Cond.selects "MacroGlass$Name" ({ cls := "MacroGlass$Name", name := "isLike", desc := "(LMacroGlass$Name;)Z" } : Jvm.MethodName) ({ cls := "MacroGlass$Name", name := "isLike", desc := "(LMacroGlass$Name;)Z" } : Jvm.MethodName)) ∈ lw_all := lw_g (lw_at lw_m4 73 rfl) rfl
theorem q859 : (Jvm.Cond.code ({ cls := "MacroGlass$Name", name := "isLike", desc := "(LMacroGlass$Name;)Z" } : Jvm.MethodName) prog_8_method_5_code (2 : Nat) (Option.some Jvm.ClassFile.FieldType.boolean)) ∈ lw_all := lw_g (lw_at lw_m4 74 rfl) rfl
theorem q883 : (Jvm.Cond.selects "MacroGlass$Name" ({ cls := "MacroGlass$Item", name := "isCall", desc := "(Ljava/util/ArrayList;)Z" } : Jvm.MethodName) ({ cls := "MacroGlass$Item", name := "isCall", desc := "(Ljava/util/ArrayList;)Z" } : Jvm.MethodName)) ∈ lw_all := lw_g (lw_at lw_m4 98 rfl) rfl
theorem q1027 : (Jvm.Cond.selects "MacroGlass$Name" ({ cls := "MacroGlass$Item", name := "all", desc := "()I" } : Jvm.MethodName) ({ cls := "MacroGlass$Item", name := "all", desc := "()I" } : Jvm.MethodName)) ∈ lw_all := lw_g (lw_at lw_m5 2 rfl) rfl
theorem q1069 : (Jvm.Cond.instanceMethod ({ cls := "MacroGlass$Name", name := "copied", desc := "()LMacroGlass$Item;" } : Jvm.MethodName)) ∈ lw_all := lw_g (lw_at lw_m5 44 rfl) rfl
theorem q1070 : (Jvm.Cond.code ({ cls := "MacroGlass$Name", name := "copied", desc := "()LMacroGlass$Item;" } : Jvm.MethodName) prog_8_method_3_code (1 : Nat) (Option.some (Jvm.ClassFile.FieldType.object "MacroGlass$Item"))) ∈ lw_all := lw_g (lw_at lw_m5 45 rfl) rfl
theorem q1071 : (Jvm.Cond.classLink "MacroGlass$Name" (10 : Nat) "MacroGlass$Name") ∈ lw_all := lw_g (lw_at lw_m5 46 rfl) rfl
theorem q1072 : (Jvm.Cond.methodLink "MacroGlass$Name" (25 : Nat) ({ cls := "MacroGlass$Name", name := "<init>", desc := "(IIJI)V" } : Jvm.MethodName)) ∈ lw_all := lw_g (lw_at lw_m5 47 rfl) rfl
theorem q1078 : (Jvm.Cond.selects "MacroGlass$Name" ({ cls := "MacroGlass$Item", name := "copied", desc := "()LMacroGlass$Item;" } : Jvm.MethodName) ({ cls := "MacroGlass$Name", name := "copied", desc := "()LMacroGlass$Item;" } : Jvm.MethodName)) ∈ lw_all := lw_g (lw_at lw_m5 53 rfl) rfl
theorem q1683 : (Jvm.Cond.castable "MacroGlass$Name" "MacroGlass$Item") ∈ lw_tbl := lw_at lw_m7 178 rfl
theorem q1705 : (Jvm.Cond.castable "MacroGlass$Name" "java/lang/Object") ∈ lw_tbl := lw_at lw_m7 200 rfl
theorem in_X14 : ∀ w ∈ wsX140, w ∈ lw_all := lw_in wsX140 [680, 681, 682, 683, 676, 678] (by decide +kernel) (by decide +kernel)

/-! MacroGlass$Check -/
set_option maxRecDepth 100000
def RX15 : String := "MacroGlass$Check"
def TX15 : u_T := fun k => match k with
  | 0 => ("MacroGlass$Check", "kind", "I", false)
  | _ => ("MacroGlass$Check", "place", "I", false)
def tyX15 : Nat → FieldType := fun k => match k with
  | 0 => .int
  | _ => .int
abbrev wsX150 : List Cond := u_ws RX15 TX15 2
theorem nmX15 : ∀ a, a < 2 → ∀ b, b < 2 → a ≠ b → (TX15 a).2.1 ≠ (TX15 b).2.1 := by decide +kernel
theorem tyX15_ok : ∀ k, k < 2 → parseFieldDescriptor (TX15 k).2.2.1 = some (tyX15 k) := by decide +kernel
abbrev cX15_init : ByteArray := prog_3_method_1_code
def yX15_init : MethodName := ⟨RX15, "<init>", "()V"⟩
def dkwX15_init_0 : List UInt8 := [42, 183, 0, 3, 42, 16, 247, 181, 0, 9, 177]
abbrev dktX15_init_0 : List UInt8 := dkwX15_init_0 ++ []
theorem dksX15_init_0 : cX15_init.data.toList.drop 0 = dktX15_init_0 := by decide +kernel
theorem dX15_init_0 : decode cX15_init 0 = .ok (.aload_n 0, 1) := dk_42 (dk_at dksX15_init_0 0 rfl rfl)
theorem dX15_init_1 : decode cX15_init 1 = .ok (.invokespecial 3, 3) := dk_183 0 3 (dk_at dksX15_init_0 1 rfl rfl)
theorem dX15_init_4 : decode cX15_init 4 = .ok (.aload_n 0, 1) := dk_42 (dk_at dksX15_init_0 4 rfl rfl)
theorem dX15_init_5 : decode cX15_init 5 = .ok (.bipush (-9), 2) := dk_16 247 (dk_at dksX15_init_0 5 rfl rfl)
theorem dX15_init_7 : decode cX15_init 7 = .ok (.putfield 9, 3) := dk_181 0 9 (dk_at dksX15_init_0 7 rfl rfl)
theorem dX15_init_10 : decode cX15_init 10 = .ok (.return_, 1) := dk_177 (dk_at dksX15_init_0 10 rfl rfl)
abbrev cX15_wrong : ByteArray := prog_3_method_2_code
def yX15_wrong : MethodName := ⟨RX15, "wrong", "(II)V"⟩
def dkwX15_wrong_1 : List UInt8 := [181, 0, 9, 177]
abbrev dktX15_wrong_1 : List UInt8 := dkwX15_wrong_1 ++ []
def dkwX15_wrong_0 : List UInt8 := [42, 180, 0, 9, 16, 247, 159, 0, 11, 28, 42, 180, 0, 9, 162, 0, 13, 42, 27, 181, 0, 15, 42, 28]
abbrev dktX15_wrong_0 : List UInt8 := dkwX15_wrong_0 ++ dktX15_wrong_1
theorem dksX15_wrong_0 : cX15_wrong.data.toList.drop 0 = dktX15_wrong_0 := by decide +kernel
theorem dksX15_wrong_1 : cX15_wrong.data.toList.drop 24 = dktX15_wrong_1 := dk_seg dksX15_wrong_0 24 rfl rfl
theorem dX15_wrong_0 : decode cX15_wrong 0 = .ok (.aload_n 0, 1) := dk_42 (dk_at dksX15_wrong_0 0 rfl rfl)
theorem dX15_wrong_1 : decode cX15_wrong 1 = .ok (.getfield 9, 3) := dk_180 0 9 (dk_at dksX15_wrong_0 1 rfl rfl)
theorem dX15_wrong_4 : decode cX15_wrong 4 = .ok (.bipush (-9), 2) := dk_16 247 (dk_at dksX15_wrong_0 4 rfl rfl)
theorem dX15_wrong_6 : decode cX15_wrong 6 = .ok (.if_icmp .eq 11, 3) := dk_159 0 11 (dk_at dksX15_wrong_0 6 rfl rfl)
theorem dX15_wrong_9 : decode cX15_wrong 9 = .ok (.iload_n 2, 1) := dk_28 (dk_at dksX15_wrong_0 9 rfl rfl)
theorem dX15_wrong_10 : decode cX15_wrong 10 = .ok (.aload_n 0, 1) := dk_42 (dk_at dksX15_wrong_0 10 rfl rfl)
theorem dX15_wrong_11 : decode cX15_wrong 11 = .ok (.getfield 9, 3) := dk_180 0 9 (dk_at dksX15_wrong_0 11 rfl rfl)
theorem dX15_wrong_14 : decode cX15_wrong 14 = .ok (.if_icmp .ge 13, 3) := dk_162 0 13 (dk_at dksX15_wrong_0 14 rfl rfl)
theorem dX15_wrong_17 : decode cX15_wrong 17 = .ok (.aload_n 0, 1) := dk_42 (dk_at dksX15_wrong_0 17 rfl rfl)
theorem dX15_wrong_18 : decode cX15_wrong 18 = .ok (.iload_n 1, 1) := dk_27 (dk_at dksX15_wrong_0 18 rfl rfl)
theorem dX15_wrong_19 : decode cX15_wrong 19 = .ok (.putfield 15, 3) := dk_181 0 15 (dk_at dksX15_wrong_0 19 rfl rfl)
theorem dX15_wrong_22 : decode cX15_wrong 22 = .ok (.aload_n 0, 1) := dk_42 (dk_at dksX15_wrong_0 22 rfl rfl)
theorem dX15_wrong_23 : decode cX15_wrong 23 = .ok (.iload_n 2, 1) := dk_28 (dk_at dksX15_wrong_0 23 rfl rfl)
theorem dX15_wrong_24 : decode cX15_wrong 24 = .ok (.putfield 9, 3) := dk_181 0 9 (dk_at dksX15_wrong_1 0 rfl rfl)
theorem dX15_wrong_27 : decode cX15_wrong 27 = .ok (.return_, 1) := dk_177 (dk_at dksX15_wrong_1 3 rfl rfl)
theorem q96 : (Jvm.Cond.initialized "MacroGlass$Check") ∈ lw_all := lw_g (lw_at lw_m1 31 rfl) rfl
theorem q484 : (Jvm.Cond.selects "MacroGlass$Check" ({ cls := "java/lang/Object", name := "getClass", desc := "()Ljava/lang/Class;" } : Jvm.MethodName) ({ cls := "java/lang/Object", name := "getClass", desc := "()Ljava/lang/Class;" } : Jvm.MethodName)) ∈ lw_all := lw_g (lw_at lw_m2 179 rfl) rfl
theorem q709 : (Jvm.Cond.instantiable "MacroGlass$Check" (2 : Nat)) ∈ lw_all := lw_g (lw_at lw_m3 164 rfl) rfl
theorem q711 : (Jvm.Cond.instanceMethod ({ cls := "MacroGlass$Check", name := "<init>", desc := "()V" } : Jvm.MethodName)) ∈ lw_all := lw_g (lw_at lw_m3 166 rfl) rfl
theorem q712 : (Jvm.Cond.code ({ cls := "MacroGlass$Check", name := "<init>", desc := "()V" } : Jvm.MethodName) prog_3_method_1_code (1 : Nat) (Option.none : Option Jvm.ClassFile.FieldType)) ∈ lw_all := lw_g (lw_at lw_m3 167 rfl) rfl
theorem q713 : (Jvm.Cond.methodLink "MacroGlass$Check" (3 : Nat) ({ cls := "java/lang/Object", name := "<init>", desc := "()V" } : Jvm.MethodName)) ∈ lw_all := lw_g (lw_at lw_m3 168 rfl) rfl
theorem q714 : (Jvm.Cond.fieldLink "MacroGlass$Check" (15 : Nat) "MacroGlass$Check" "kind" "I") ∈ lw_all := lw_g (lw_at lw_m3 169 rfl) rfl
theorem q716 : (Jvm.Cond.fieldLink "MacroGlass$Check" (9 : Nat) "MacroGlass$Check" "place" "I") ∈ lw_all := lw_g (lw_at lw_m3 171 rfl) rfl
theorem q718 : (Jvm.Cond.lays "MacroGlass$Check" "MacroGlass$Check" "kind" "I") ∈ lw_all := lw_g (lw_at lw_m3 173 rfl) rfl
theorem q719 : (Jvm.Cond.soleField "MacroGlass$Check" "kind") ∈ lw_all := lw_g (lw_at lw_m3 174 rfl) rfl
theorem q720 : (Jvm.Cond.lays "MacroGlass$Check" "MacroGlass$Check" "place" "I") ∈ lw_all := lw_g (lw_at lw_m3 175 rfl) rfl
theorem q721 : (Jvm.Cond.soleField "MacroGlass$Check" "place") ∈ lw_all := lw_g (lw_at lw_m3 176 rfl) rfl
theorem q722 : (Jvm.Cond.superclass "MacroGlass$Check" "java/lang/Object") ∈ lw_all := lw_g (lw_at lw_m3 177 rfl) rfl
theorem q758 : (Jvm.Cond.instanceMethod ({ cls := "MacroGlass$Check", name := "wrong", desc := "(II)V" } : Jvm.MethodName)) ∈ lw_all := lw_g (lw_at lw_m3 213 rfl) rfl
theorem q759 : (Jvm.Cond.selects "MacroGlass$Check" ({ cls := "MacroGlass$Check", name := "wrong", desc := "(II)V" } : Jvm.MethodName) ({ cls := "MacroGlass$Check", name := "wrong", desc := "(II)V" } : Jvm.MethodName)) ∈ lw_all := lw_g (lw_at lw_m3 214 rfl) rfl
theorem q760 : (Jvm.Cond.code ({ cls := "MacroGlass$Check", name := "wrong", desc := "(II)V" } : Jvm.MethodName) prog_3_method_2_code (3 : Nat) (Option.none : Option Jvm.ClassFile.FieldType)) ∈ lw_all := lw_g (lw_at lw_m3 215 rfl) rfl
theorem q1706 : (Jvm.Cond.castable "MacroGlass$Check" "java/lang/Object") ∈ lw_tbl := lw_at lw_m7 201 rfl
theorem in_X15 : ∀ w ∈ wsX150, w ∈ lw_all := lw_in wsX150 [718, 720] (by decide +kernel) (by decide +kernel)

/-! MacroGlass$Fit -/
set_option maxRecDepth 100000
def RX16 : String := "MacroGlass$Fit"
def TX16 : u_T := fun k => match k with
  | 0 => ("MacroGlass$Fit", "name", "J", true)
  | _ => ("MacroGlass$Fit", "items", "Ljava/util/ArrayList;", true)
def tyX16 : Nat → FieldType := fun k => match k with
  | 0 => .long
  | _ => .object "java/util/ArrayList"
abbrev wsX160 : List Cond := u_ws RX16 TX16 2
theorem nmX16 : ∀ a, a < 2 → ∀ b, b < 2 → a ≠ b → (TX16 a).2.1 ≠ (TX16 b).2.1 := by decide +kernel
theorem tyX16_ok : ∀ k, k < 2 → parseFieldDescriptor (TX16 k).2.2.1 = some (tyX16 k) := by decide +kernel
abbrev cX16_init : ByteArray := prog_4_method_1_code
def yX16_init : MethodName := ⟨RX16, "<init>", "(J)V"⟩
def dkwX16_init_0 : List UInt8 := [42, 183, 0, 1, 42, 187, 0, 7, 89, 183, 0, 9, 181, 0, 10, 42, 31, 181, 0, 16, 177]
abbrev dktX16_init_0 : List UInt8 := dkwX16_init_0 ++ []
theorem dksX16_init_0 : cX16_init.data.toList.drop 0 = dktX16_init_0 := by decide +kernel
theorem dX16_init_0 : decode cX16_init 0 = .ok (.aload_n 0, 1) := dk_42 (dk_at dksX16_init_0 0 rfl rfl)
theorem dX16_init_1 : decode cX16_init 1 = .ok (.invokespecial 1, 3) := dk_183 0 1 (dk_at dksX16_init_0 1 rfl rfl)
theorem dX16_init_4 : decode cX16_init 4 = .ok (.aload_n 0, 1) := dk_42 (dk_at dksX16_init_0 4 rfl rfl)
theorem dX16_init_5 : decode cX16_init 5 = .ok (.new 7, 3) := dk_187 0 7 (dk_at dksX16_init_0 5 rfl rfl)
theorem dX16_init_8 : decode cX16_init 8 = .ok (.dup, 1) := dk_89 (dk_at dksX16_init_0 8 rfl rfl)
theorem dX16_init_9 : decode cX16_init 9 = .ok (.invokespecial 9, 3) := dk_183 0 9 (dk_at dksX16_init_0 9 rfl rfl)
theorem dX16_init_12 : decode cX16_init 12 = .ok (.putfield 10, 3) := dk_181 0 10 (dk_at dksX16_init_0 12 rfl rfl)
theorem dX16_init_15 : decode cX16_init 15 = .ok (.aload_n 0, 1) := dk_42 (dk_at dksX16_init_0 15 rfl rfl)
theorem dX16_init_16 : decode cX16_init 16 = .ok (.lload_n 1, 1) := dk_31 (dk_at dksX16_init_0 16 rfl rfl)
theorem dX16_init_17 : decode cX16_init 17 = .ok (.putfield 16, 3) := dk_181 0 16 (dk_at dksX16_init_0 17 rfl rfl)
theorem dX16_init_20 : decode cX16_init 20 = .ok (.return_, 1) := dk_177 (dk_at dksX16_init_0 20 rfl rfl)
theorem q97 : (Jvm.Cond.initialized "MacroGlass$Fit") ∈ lw_all := lw_g (lw_at lw_m1 32 rfl) rfl
theorem q485 : (Jvm.Cond.selects "MacroGlass$Fit" ({ cls := "java/lang/Object", name := "getClass", desc := "()Ljava/lang/Class;" } : Jvm.MethodName) ({ cls := "java/lang/Object", name := "getClass", desc := "()Ljava/lang/Class;" } : Jvm.MethodName)) ∈ lw_all := lw_g (lw_at lw_m2 180 rfl) rfl
theorem q907 : (Jvm.Cond.instantiable "MacroGlass$Fit" (2 : Nat)) ∈ lw_all := lw_g (lw_at lw_m4 122 rfl) rfl
theorem q909 : (Jvm.Cond.instanceMethod ({ cls := "MacroGlass$Fit", name := "<init>", desc := "(J)V" } : Jvm.MethodName)) ∈ lw_all := lw_g (lw_at lw_m4 124 rfl) rfl
theorem q910 : (Jvm.Cond.code ({ cls := "MacroGlass$Fit", name := "<init>", desc := "(J)V" } : Jvm.MethodName) prog_4_method_1_code (3 : Nat) (Option.none : Option Jvm.ClassFile.FieldType)) ∈ lw_all := lw_g (lw_at lw_m4 125 rfl) rfl
theorem q911 : (Jvm.Cond.methodLink "MacroGlass$Fit" (1 : Nat) ({ cls := "java/lang/Object", name := "<init>", desc := "()V" } : Jvm.MethodName)) ∈ lw_all := lw_g (lw_at lw_m4 126 rfl) rfl
theorem q912 : (Jvm.Cond.classLink "MacroGlass$Fit" (7 : Nat) "java/util/ArrayList") ∈ lw_all := lw_g (lw_at lw_m4 127 rfl) rfl
theorem q913 : (Jvm.Cond.methodLink "MacroGlass$Fit" (9 : Nat) ({ cls := "java/util/ArrayList", name := "<init>", desc := "()V" } : Jvm.MethodName)) ∈ lw_all := lw_g (lw_at lw_m4 128 rfl) rfl
theorem q914 : (Jvm.Cond.fieldLink "MacroGlass$Fit" (16 : Nat) "MacroGlass$Fit" "name" "J") ∈ lw_all := lw_g (lw_at lw_m4 129 rfl) rfl
theorem q916 : (Jvm.Cond.fieldLink "MacroGlass$Fit" (10 : Nat) "MacroGlass$Fit" "items" "Ljava/util/ArrayList;") ∈ lw_all := lw_g (lw_at lw_m4 131 rfl) rfl
theorem q919 : (Jvm.Cond.laysFinal "MacroGlass$Fit" "MacroGlass$Fit" "name" "J") ∈ lw_all := lw_g (lw_at lw_m4 134 rfl) rfl
theorem q920 : (Jvm.Cond.soleField "MacroGlass$Fit" "name") ∈ lw_all := lw_g (lw_at lw_m4 135 rfl) rfl
theorem q921 : (Jvm.Cond.laysFinal "MacroGlass$Fit" "MacroGlass$Fit" "items" "Ljava/util/ArrayList;") ∈ lw_all := lw_g (lw_at lw_m4 136 rfl) rfl
theorem q922 : (Jvm.Cond.soleField "MacroGlass$Fit" "items") ∈ lw_all := lw_g (lw_at lw_m4 137 rfl) rfl
theorem q923 : (Jvm.Cond.superclass "MacroGlass$Fit" "java/lang/Object") ∈ lw_all := lw_g (lw_at lw_m4 138 rfl) rfl
theorem q1707 : (Jvm.Cond.castable "MacroGlass$Fit" "java/lang/Object") ∈ lw_tbl := lw_at lw_m7 202 rfl
theorem in_X16 : ∀ w ∈ wsX160, w ∈ lw_all := lw_in wsX160 [919, 921] (by decide +kernel) (by decide +kernel)

/-! MacroGlass$Build -/
set_option maxRecDepth 100000
def RX17 : String := "MacroGlass$Build"
def TX17 : u_T := fun k => match k with
  | 0 => ("MacroGlass$Build", "fits", "Ljava/util/ArrayList;", true)
  | 1 => ("MacroGlass$Build", "step", "I", true)
  | _ => ("MacroGlass$Build", "mark", "I", true)
def tyX17 : Nat → FieldType := fun k => match k with
  | 0 => .object "java/util/ArrayList"
  | 1 => .int
  | _ => .int
abbrev wsX170 : List Cond := u_ws RX17 TX17 3
theorem nmX17 : ∀ a, a < 3 → ∀ b, b < 3 → a ≠ b → (TX17 a).2.1 ≠ (TX17 b).2.1 := by decide +kernel
theorem tyX17_ok : ∀ k, k < 3 → parseFieldDescriptor (TX17 k).2.2.1 = some (tyX17 k) := by decide +kernel
abbrev cX17_init : ByteArray := prog_2_method_1_code
def yX17_init : MethodName := ⟨RX17, "<init>", "(Ljava/util/ArrayList;II)V"⟩
def dkwX17_init_0 : List UInt8 := [42, 183, 0, 1, 42, 43, 181, 0, 7, 42, 28, 181, 0, 13, 42, 29, 181, 0, 17, 177]
abbrev dktX17_init_0 : List UInt8 := dkwX17_init_0 ++ []
theorem dksX17_init_0 : cX17_init.data.toList.drop 0 = dktX17_init_0 := by decide +kernel
theorem dX17_init_0 : decode cX17_init 0 = .ok (.aload_n 0, 1) := dk_42 (dk_at dksX17_init_0 0 rfl rfl)
theorem dX17_init_1 : decode cX17_init 1 = .ok (.invokespecial 1, 3) := dk_183 0 1 (dk_at dksX17_init_0 1 rfl rfl)
theorem dX17_init_4 : decode cX17_init 4 = .ok (.aload_n 0, 1) := dk_42 (dk_at dksX17_init_0 4 rfl rfl)
theorem dX17_init_5 : decode cX17_init 5 = .ok (.aload_n 1, 1) := dk_43 (dk_at dksX17_init_0 5 rfl rfl)
theorem dX17_init_6 : decode cX17_init 6 = .ok (.putfield 7, 3) := dk_181 0 7 (dk_at dksX17_init_0 6 rfl rfl)
theorem dX17_init_9 : decode cX17_init 9 = .ok (.aload_n 0, 1) := dk_42 (dk_at dksX17_init_0 9 rfl rfl)
theorem dX17_init_10 : decode cX17_init 10 = .ok (.iload_n 2, 1) := dk_28 (dk_at dksX17_init_0 10 rfl rfl)
theorem dX17_init_11 : decode cX17_init 11 = .ok (.putfield 13, 3) := dk_181 0 13 (dk_at dksX17_init_0 11 rfl rfl)
theorem dX17_init_14 : decode cX17_init 14 = .ok (.aload_n 0, 1) := dk_42 (dk_at dksX17_init_0 14 rfl rfl)
theorem dX17_init_15 : decode cX17_init 15 = .ok (.iload_n 3, 1) := dk_29 (dk_at dksX17_init_0 15 rfl rfl)
theorem dX17_init_16 : decode cX17_init 16 = .ok (.putfield 17, 3) := dk_181 0 17 (dk_at dksX17_init_0 16 rfl rfl)
theorem dX17_init_19 : decode cX17_init 19 = .ok (.return_, 1) := dk_177 (dk_at dksX17_init_0 19 rfl rfl)
abbrev cX17_of : ByteArray := prog_2_method_2_code
def yX17_of : MethodName := ⟨RX17, "of", "(J)LMacroGlass$Fit;"⟩
def dkwX17_of_2 : List UInt8 := [167, 255, 211, 1, 176]
abbrev dktX17_of_2 : List UInt8 := dkwX17_of_2 ++ []
def dkwX17_of_1 : List UInt8 := [180, 0, 32, 31, 148, 154, 0, 15, 42, 180, 0, 7, 29, 182, 0, 26, 192, 0, 30, 176, 132, 3, 1]
abbrev dktX17_of_1 : List UInt8 := dkwX17_of_1 ++ dktX17_of_2
def dkwX17_of_0 : List UInt8 := [3, 62, 29, 42, 180, 0, 7, 182, 0, 20, 162, 0, 40, 42, 180, 0, 7, 29, 182, 0, 26, 192, 0, 30]
abbrev dktX17_of_0 : List UInt8 := dkwX17_of_0 ++ dktX17_of_1
theorem dksX17_of_0 : cX17_of.data.toList.drop 0 = dktX17_of_0 := by decide +kernel
theorem dksX17_of_1 : cX17_of.data.toList.drop 24 = dktX17_of_1 := dk_seg dksX17_of_0 24 rfl rfl
theorem dksX17_of_2 : cX17_of.data.toList.drop 47 = dktX17_of_2 := dk_seg dksX17_of_1 23 rfl rfl
theorem dX17_of_0 : decode cX17_of 0 = .ok (.iconst 0, 1) := dk_3 (dk_at dksX17_of_0 0 rfl rfl)
theorem dX17_of_1 : decode cX17_of 1 = .ok (.istore_n 3, 1) := dk_62 (dk_at dksX17_of_0 1 rfl rfl)
theorem dX17_of_2 : decode cX17_of 2 = .ok (.iload_n 3, 1) := dk_29 (dk_at dksX17_of_0 2 rfl rfl)
theorem dX17_of_3 : decode cX17_of 3 = .ok (.aload_n 0, 1) := dk_42 (dk_at dksX17_of_0 3 rfl rfl)
theorem dX17_of_4 : decode cX17_of 4 = .ok (.getfield 7, 3) := dk_180 0 7 (dk_at dksX17_of_0 4 rfl rfl)
theorem dX17_of_7 : decode cX17_of 7 = .ok (.invokevirtual 20, 3) := dk_182 0 20 (dk_at dksX17_of_0 7 rfl rfl)
theorem dX17_of_10 : decode cX17_of 10 = .ok (.if_icmp .ge 40, 3) := dk_162 0 40 (dk_at dksX17_of_0 10 rfl rfl)
theorem dX17_of_13 : decode cX17_of 13 = .ok (.aload_n 0, 1) := dk_42 (dk_at dksX17_of_0 13 rfl rfl)
theorem dX17_of_14 : decode cX17_of 14 = .ok (.getfield 7, 3) := dk_180 0 7 (dk_at dksX17_of_0 14 rfl rfl)
theorem dX17_of_17 : decode cX17_of 17 = .ok (.iload_n 3, 1) := dk_29 (dk_at dksX17_of_0 17 rfl rfl)
theorem dX17_of_18 : decode cX17_of 18 = .ok (.invokevirtual 26, 3) := dk_182 0 26 (dk_at dksX17_of_0 18 rfl rfl)
theorem dX17_of_21 : decode cX17_of 21 = .ok (.checkcast 30, 3) := dk_192 0 30 (dk_at dksX17_of_0 21 rfl rfl)
theorem dX17_of_24 : decode cX17_of 24 = .ok (.getfield 32, 3) := dk_180 0 32 (dk_at dksX17_of_1 0 rfl rfl)
theorem dX17_of_27 : decode cX17_of 27 = .ok (.lload_n 1, 1) := dk_31 (dk_at dksX17_of_1 3 rfl rfl)
theorem dX17_of_28 : decode cX17_of 28 = .ok (.lcmp, 1) := dk_148 (dk_at dksX17_of_1 4 rfl rfl)
theorem dX17_of_29 : decode cX17_of 29 = .ok (.ifCond .ne 15, 3) := dk_154 0 15 (dk_at dksX17_of_1 5 rfl rfl)
theorem dX17_of_32 : decode cX17_of 32 = .ok (.aload_n 0, 1) := dk_42 (dk_at dksX17_of_1 8 rfl rfl)
theorem dX17_of_33 : decode cX17_of 33 = .ok (.getfield 7, 3) := dk_180 0 7 (dk_at dksX17_of_1 9 rfl rfl)
theorem dX17_of_36 : decode cX17_of 36 = .ok (.iload_n 3, 1) := dk_29 (dk_at dksX17_of_1 12 rfl rfl)
theorem dX17_of_37 : decode cX17_of 37 = .ok (.invokevirtual 26, 3) := dk_182 0 26 (dk_at dksX17_of_1 13 rfl rfl)
theorem dX17_of_40 : decode cX17_of 40 = .ok (.checkcast 30, 3) := dk_192 0 30 (dk_at dksX17_of_1 16 rfl rfl)
theorem dX17_of_43 : decode cX17_of 43 = .ok (.areturn, 1) := dk_176 (dk_at dksX17_of_1 19 rfl rfl)
theorem dX17_of_44 : decode cX17_of 44 = .ok (.iinc 3 1, 3) := dk_132 3 1 (dk_at dksX17_of_1 20 rfl rfl)
theorem dX17_of_47 : decode cX17_of 47 = .ok (.goto (-45), 3) := dk_167 255 211 (dk_at dksX17_of_2 0 rfl rfl)
theorem dX17_of_50 : decode cX17_of 50 = .ok (.aconst_null, 1) := dk_1 (dk_at dksX17_of_2 3 rfl rfl)
theorem dX17_of_51 : decode cX17_of 51 = .ok (.areturn, 1) := dk_176 (dk_at dksX17_of_2 4 rfl rfl)
theorem q98 : (Jvm.Cond.initialized "MacroGlass$Build") ∈ lw_all := lw_g (lw_at lw_m1 33 rfl) rfl
theorem q483 : (Jvm.Cond.selects "MacroGlass$Build" ({ cls := "java/lang/Object", name := "getClass", desc := "()Ljava/lang/Class;" } : Jvm.MethodName) ({ cls := "java/lang/Object", name := "getClass", desc := "()Ljava/lang/Class;" } : Jvm.MethodName)) ∈ lw_all := lw_g (lw_at lw_m2 178 rfl) rfl
theorem q915 : (Jvm.Cond.fieldLinkNest "MacroGlass$Build" (32 : Nat) "MacroGlass$Fit" "name" "J" "MacroGlass") ∈ lw_tbl := lw_at lw_m4 130 rfl
theorem q971 : (Jvm.Cond.instantiable "MacroGlass$Build" (3 : Nat)) ∈ lw_all := lw_g (lw_at lw_m4 186 rfl) rfl
theorem q981 : (Jvm.Cond.instanceMethod ({ cls := "MacroGlass$Build", name := "<init>", desc := "(Ljava/util/ArrayList;II)V" } : Jvm.MethodName)) ∈ lw_all := lw_g (lw_at lw_m4 196 rfl) rfl
theorem q982 : (Jvm.Cond.code ({ cls := "MacroGlass$Build", name := "<init>", desc := "(Ljava/util/ArrayList;II)V" } : Jvm.MethodName) prog_2_method_1_code (4 : Nat) (Option.none : Option Jvm.ClassFile.FieldType)) ∈ lw_all := lw_g (lw_at lw_m4 197 rfl) rfl
theorem q983 : (Jvm.Cond.methodLink "MacroGlass$Build" (1 : Nat) ({ cls := "java/lang/Object", name := "<init>", desc := "()V" } : Jvm.MethodName)) ∈ lw_all := lw_g (lw_at lw_m4 198 rfl) rfl
theorem q984 : (Jvm.Cond.fieldLink "MacroGlass$Build" (7 : Nat) "MacroGlass$Build" "fits" "Ljava/util/ArrayList;") ∈ lw_all := lw_g (lw_at lw_m4 199 rfl) rfl
theorem q985 : (Jvm.Cond.fieldLink "MacroGlass$Build" (13 : Nat) "MacroGlass$Build" "step" "I") ∈ lw_all := lw_g (lw_at lw_m4 200 rfl) rfl
theorem q989 : (Jvm.Cond.fieldLink "MacroGlass$Build" (17 : Nat) "MacroGlass$Build" "mark" "I") ∈ lw_all := lw_g (lw_at lw_m4 204 rfl) rfl
theorem q991 : (Jvm.Cond.laysFinal "MacroGlass$Build" "MacroGlass$Build" "fits" "Ljava/util/ArrayList;") ∈ lw_all := lw_g (lw_at lw_m4 206 rfl) rfl
theorem q992 : (Jvm.Cond.soleField "MacroGlass$Build" "fits") ∈ lw_all := lw_g (lw_at lw_m4 207 rfl) rfl
theorem q993 : (Jvm.Cond.laysFinal "MacroGlass$Build" "MacroGlass$Build" "step" "I") ∈ lw_all := lw_g (lw_at lw_m4 208 rfl) rfl
theorem q994 : (Jvm.Cond.soleField "MacroGlass$Build" "step") ∈ lw_all := lw_g (lw_at lw_m4 209 rfl) rfl
theorem q995 : (Jvm.Cond.laysFinal "MacroGlass$Build" "MacroGlass$Build" "mark" "I") ∈ lw_all := lw_g (lw_at lw_m4 210 rfl) rfl
theorem q996 : (Jvm.Cond.soleField "MacroGlass$Build" "mark") ∈ lw_all := lw_g (lw_at lw_m4 211 rfl) rfl
theorem q997 : (Jvm.Cond.superclass "MacroGlass$Build" "java/lang/Object") ∈ lw_all := lw_g (lw_at lw_m4 212 rfl) rfl
theorem q1011 : (Jvm.Cond.instanceMethod ({ cls := "MacroGlass$Build", name := "of", desc := "(J)LMacroGlass$Fit;" } : Jvm.MethodName)) ∈ lw_all := lw_g (lw_at lw_m4 226 rfl) rfl
theorem q1012 : (Jvm.Cond.selects "MacroGlass$Build" ({ cls := "MacroGlass$Build", name := "of", desc := "(J)LMacroGlass$Fit;" } : Jvm.MethodName) ({ cls := "MacroGlass$Build", name := "of", desc := "(J)LMacroGlass$Fit;" } : Jvm.MethodName)) ∈ lw_all := lw_g (lw_at lw_m4 227 rfl) rfl
theorem q1013 : (Jvm.Cond.code ({ cls := "MacroGlass$Build", name := "of", desc := "(J)LMacroGlass$Fit;" } : Jvm.MethodName) prog_2_method_2_code (4 : Nat) (Option.some (Jvm.ClassFile.FieldType.object "MacroGlass$Fit"))) ∈ lw_all := lw_g (lw_at lw_m4 228 rfl) rfl
theorem q1014 : (Jvm.Cond.methodLink "MacroGlass$Build" (20 : Nat) ({ cls := "java/util/ArrayList", name := "size", desc := "()I" } : Jvm.MethodName)) ∈ lw_all := lw_g (lw_at lw_m4 229 rfl) rfl
theorem q1015 : (Jvm.Cond.methodLink "MacroGlass$Build" (26 : Nat) ({ cls := "java/util/ArrayList", name := "get", desc := "(I)Ljava/lang/Object;" } : Jvm.MethodName)) ∈ lw_all := lw_g (lw_at lw_m4 230 rfl) rfl
theorem q1016 : (Jvm.Cond.classLink "MacroGlass$Build" (30 : Nat) "MacroGlass$Fit") ∈ lw_all := lw_g (lw_at lw_m4 231 rfl) rfl
theorem q1708 : (Jvm.Cond.castable "MacroGlass$Build" "java/lang/Object") ∈ lw_tbl := lw_at lw_m7 203 rfl
theorem in_X17 : ∀ w ∈ wsX170, w ∈ lw_all := lw_in wsX170 [991, 993, 995] (by decide +kernel) (by decide +kernel)

/-! MacroGlass$Step -/
set_option maxRecDepth 100000
def RX18 : String := "MacroGlass$Step"
def TX18 : u_T := fun k => match k with
  | 0 => ("MacroGlass$Step", "rule", "I", true)
  | 1 => ("MacroGlass$Step", "call", "LMacroGlass$List;", true)
  | _ => ("MacroGlass$Step", "made", "LMacroGlass$Item;", true)
def tyX18 : Nat → FieldType := fun k => match k with
  | 0 => .int
  | 1 => .object "MacroGlass$List"
  | _ => .object "MacroGlass$Item"
abbrev wsX180 : List Cond := u_ws RX18 TX18 3
theorem nmX18 : ∀ a, a < 3 → ∀ b, b < 3 → a ≠ b → (TX18 a).2.1 ≠ (TX18 b).2.1 := by decide +kernel
theorem tyX18_ok : ∀ k, k < 3 → parseFieldDescriptor (TX18 k).2.2.1 = some (tyX18 k) := by decide +kernel
abbrev cX18_init : ByteArray := prog_15_method_1_code
def yX18_init : MethodName := ⟨RX18, "<init>", "(ILMacroGlass$List;LMacroGlass$Item;)V"⟩
def dkwX18_init_0 : List UInt8 := [42, 183, 0, 1, 42, 27, 181, 0, 7, 42, 44, 181, 0, 13, 42, 45, 181, 0, 17, 177]
abbrev dktX18_init_0 : List UInt8 := dkwX18_init_0 ++ []
theorem dksX18_init_0 : cX18_init.data.toList.drop 0 = dktX18_init_0 := by decide +kernel
theorem dX18_init_0 : decode cX18_init 0 = .ok (.aload_n 0, 1) := dk_42 (dk_at dksX18_init_0 0 rfl rfl)
theorem dX18_init_1 : decode cX18_init 1 = .ok (.invokespecial 1, 3) := dk_183 0 1 (dk_at dksX18_init_0 1 rfl rfl)
theorem dX18_init_4 : decode cX18_init 4 = .ok (.aload_n 0, 1) := dk_42 (dk_at dksX18_init_0 4 rfl rfl)
theorem dX18_init_5 : decode cX18_init 5 = .ok (.iload_n 1, 1) := dk_27 (dk_at dksX18_init_0 5 rfl rfl)
theorem dX18_init_6 : decode cX18_init 6 = .ok (.putfield 7, 3) := dk_181 0 7 (dk_at dksX18_init_0 6 rfl rfl)
theorem dX18_init_9 : decode cX18_init 9 = .ok (.aload_n 0, 1) := dk_42 (dk_at dksX18_init_0 9 rfl rfl)
theorem dX18_init_10 : decode cX18_init 10 = .ok (.aload_n 2, 1) := dk_44 (dk_at dksX18_init_0 10 rfl rfl)
theorem dX18_init_11 : decode cX18_init 11 = .ok (.putfield 13, 3) := dk_181 0 13 (dk_at dksX18_init_0 11 rfl rfl)
theorem dX18_init_14 : decode cX18_init 14 = .ok (.aload_n 0, 1) := dk_42 (dk_at dksX18_init_0 14 rfl rfl)
theorem dX18_init_15 : decode cX18_init 15 = .ok (.aload_n 3, 1) := dk_45 (dk_at dksX18_init_0 15 rfl rfl)
theorem dX18_init_16 : decode cX18_init 16 = .ok (.putfield 17, 3) := dk_181 0 17 (dk_at dksX18_init_0 16 rfl rfl)
theorem dX18_init_19 : decode cX18_init 19 = .ok (.return_, 1) := dk_177 (dk_at dksX18_init_0 19 rfl rfl)
theorem q99 : (Jvm.Cond.initialized "MacroGlass$Step") ∈ lw_all := lw_g (lw_at lw_m1 34 rfl) rfl
theorem q494 : (Jvm.Cond.selects "MacroGlass$Step" ({ cls := "java/lang/Object", name := "getClass", desc := "()Ljava/lang/Class;" } : Jvm.MethodName) ({ cls := "java/lang/Object", name := "getClass", desc := "()Ljava/lang/Class;" } : Jvm.MethodName)) ∈ lw_all := lw_g (lw_at lw_m2 189 rfl) rfl
theorem q1086 : (Jvm.Cond.instantiable "MacroGlass$Step" (3 : Nat)) ∈ lw_all := lw_g (lw_at lw_m5 61 rfl) rfl
theorem q1088 : (Jvm.Cond.instanceMethod ({ cls := "MacroGlass$Step", name := "<init>", desc := "(ILMacroGlass$List;LMacroGlass$Item;)V" } : Jvm.MethodName)) ∈ lw_all := lw_g (lw_at lw_m5 63 rfl) rfl
theorem q1089 : (Jvm.Cond.code ({ cls := "MacroGlass$Step", name := "<init>", desc := "(ILMacroGlass$List;LMacroGlass$Item;)V" } : Jvm.MethodName) prog_15_method_1_code (4 : Nat) (Option.none : Option Jvm.ClassFile.FieldType)) ∈ lw_all := lw_g (lw_at lw_m5 64 rfl) rfl
theorem q1090 : (Jvm.Cond.methodLink "MacroGlass$Step" (1 : Nat) ({ cls := "java/lang/Object", name := "<init>", desc := "()V" } : Jvm.MethodName)) ∈ lw_all := lw_g (lw_at lw_m5 65 rfl) rfl
theorem q1091 : (Jvm.Cond.fieldLink "MacroGlass$Step" (7 : Nat) "MacroGlass$Step" "rule" "I") ∈ lw_all := lw_g (lw_at lw_m5 66 rfl) rfl
theorem q1093 : (Jvm.Cond.fieldLink "MacroGlass$Step" (13 : Nat) "MacroGlass$Step" "call" "LMacroGlass$List;") ∈ lw_all := lw_g (lw_at lw_m5 68 rfl) rfl
theorem q1095 : (Jvm.Cond.fieldLink "MacroGlass$Step" (17 : Nat) "MacroGlass$Step" "made" "LMacroGlass$Item;") ∈ lw_all := lw_g (lw_at lw_m5 70 rfl) rfl
theorem q1097 : (Jvm.Cond.laysFinal "MacroGlass$Step" "MacroGlass$Step" "rule" "I") ∈ lw_all := lw_g (lw_at lw_m5 72 rfl) rfl
theorem q1098 : (Jvm.Cond.soleField "MacroGlass$Step" "rule") ∈ lw_all := lw_g (lw_at lw_m5 73 rfl) rfl
theorem q1099 : (Jvm.Cond.laysFinal "MacroGlass$Step" "MacroGlass$Step" "call" "LMacroGlass$List;") ∈ lw_all := lw_g (lw_at lw_m5 74 rfl) rfl
theorem q1100 : (Jvm.Cond.soleField "MacroGlass$Step" "call") ∈ lw_all := lw_g (lw_at lw_m5 75 rfl) rfl
theorem q1101 : (Jvm.Cond.laysFinal "MacroGlass$Step" "MacroGlass$Step" "made" "LMacroGlass$Item;") ∈ lw_all := lw_g (lw_at lw_m5 76 rfl) rfl
theorem q1102 : (Jvm.Cond.soleField "MacroGlass$Step" "made") ∈ lw_all := lw_g (lw_at lw_m5 77 rfl) rfl
theorem q1103 : (Jvm.Cond.superclass "MacroGlass$Step" "java/lang/Object") ∈ lw_all := lw_g (lw_at lw_m5 78 rfl) rfl
theorem q1709 : (Jvm.Cond.castable "MacroGlass$Step" "java/lang/Object") ∈ lw_tbl := lw_at lw_m7 204 rfl
theorem in_X18 : ∀ w ∈ wsX180, w ∈ lw_all := lw_in wsX180 [1097, 1099, 1101] (by decide +kernel) (by decide +kernel)
