/-! FrameSheets -/
set_option maxRecDepth 100000
def RX0 : String := "FrameSheets"
def TX0 : u_T := fun k => match k with
  | 0 => ("FrameSheets", "finding", "I", false)
  | 1 => ("FrameSheets", "findings", "[I", true)
  | 2 => ("FrameSheets", "asked", "I", false)
  | 3 => ("FrameSheets", "rows", "[[I", true)
  | 4 => ("FrameSheets", "texts", "[[B", true)
  | 5 => ("FrameSheets", "many", "I", false)
  | 6 => ("FrameSheets", "wide", "I", false)
  | 7 => ("FrameSheets", "high", "I", false)
  | 8 => ("FrameSheets", "bleed", "I", false)
  | 9 => ("FrameSheets", "frames", "[LFrameSheets$Frame;", true)
  | 10 => ("FrameSheets", "rule", "LFrameSheets$Rule;", false)
  | 11 => ("FrameSheets", "reading", "[B", false)
  | 12 => ("FrameSheets", "readAt", "I", false)
  | 13 => ("FrameSheets", "tokenAt", "I", false)
  | 14 => ("FrameSheets", "readNumber", "I", false)
  | 15 => ("FrameSheets", "readMany", "I", false)
  | 16 => ("FrameSheets", "readWide", "I", false)
  | 17 => ("FrameSheets", "readHigh", "I", false)
  | 18 => ("FrameSheets", "readBleed", "I", false)
  | 19 => ("FrameSheets", "readFrames", "[LFrameSheets$Frame;", true)
  | 20 => ("FrameSheets", "freeMany", "I", false)
  | 21 => ("FrameSheets", "freeX", "[I", true)
  | 22 => ("FrameSheets", "freeY", "[I", true)
  | 23 => ("FrameSheets", "freeW", "[I", true)
  | 24 => ("FrameSheets", "freeH", "[I", true)
  | 25 => ("FrameSheets", "keep0", "[Z", true)
  | 26 => ("FrameSheets", "bestFirst", "I", false)
  | 27 => ("FrameSheets", "bestSecond", "I", false)
  | 28 => ("FrameSheets", "bestFree", "I", false)
  | 29 => ("FrameSheets", "bestTurned", "Z", false)
  | 30 => ("FrameSheets", "deedMany", "I", false)
  | 31 => ("FrameSheets", "ahead", "[I", true)
  | 32 => ("FrameSheets", "kept", "[LFrameSheets$Kept;", true)
  | 33 => ("FrameSheets", "aside", "[I", true)
  | 34 => ("FrameSheets", "wouldNot", "I", false)
  | 35 => ("FrameSheets", "wouldPages", "I", false)
  | 36 => ("FrameSheets", "wouldLast", "I", false)
  | _ => ("FrameSheets", "h0", "J", false)
def tyX0 : Nat → FieldType := fun k => match k with
  | 0 => .int
  | 1 => .array .int
  | 2 => .int
  | 3 => .array (.array .int)
  | 4 => .array (.array .byte)
  | 5 => .int
  | 6 => .int
  | 7 => .int
  | 8 => .int
  | 9 => .array (.object "FrameSheets$Frame")
  | 10 => .object "FrameSheets$Rule"
  | 11 => .array .byte
  | 12 => .int
  | 13 => .int
  | 14 => .int
  | 15 => .int
  | 16 => .int
  | 17 => .int
  | 18 => .int
  | 19 => .array (.object "FrameSheets$Frame")
  | 20 => .int
  | 21 => .array .int
  | 22 => .array .int
  | 23 => .array .int
  | 24 => .array .int
  | 25 => .array .boolean
  | 26 => .int
  | 27 => .int
  | 28 => .int
  | 29 => .boolean
  | 30 => .int
  | 31 => .array .int
  | 32 => .array (.object "FrameSheets$Kept")
  | 33 => .array .int
  | 34 => .int
  | 35 => .int
  | 36 => .int
  | _ => .long
abbrev wsX00 : List Cond := u_ws RX0 TX0 38
set_option maxRecDepth 100000 in
theorem nmX0 : ∀ a, a < 38 → ∀ b, b < 38 → a ≠ b → (TX0 a).2.1 ≠ (TX0 b).2.1 := by decide +kernel
set_option maxRecDepth 100000 in
theorem tyX0_ok : ∀ k, k < 38 → parseFieldDescriptor (TX0 k).2.2.1 = some (tyX0 k) := by decide +kernel
abbrev cX0_init : ByteArray := prog_1_method_4_code
def yX0_init : MethodName := ⟨RX0, "<init>", "()V"⟩
def dkwX0_init_5 : List UInt8 := [189, 0, 66, 181, 0, 68, 42, 16, 33, 188, 10, 181, 0, 72, 42, 3, 181, 0, 75, 177]
abbrev dktX0_init_5 : List UInt8 := dkwX0_init_5 ++ []
def dkwX0_init_4 : List UInt8 := [181, 0, 56, 42, 17, 2, 0, 188, 4, 181, 0, 59, 42, 17, 5, 40, 188, 10, 181, 0, 63, 42, 6]
abbrev dktX0_init_4 : List UInt8 := dkwX0_init_4 ++ dktX0_init_5
def dkwX0_init_3 : List UInt8 := [17, 2, 0, 188, 10, 181, 0, 50, 42, 17, 2, 0, 188, 10, 181, 0, 53, 42, 17, 2, 0, 188, 10]
abbrev dktX0_init_3 : List UInt8 := dkwX0_init_3 ++ dktX0_init_4
def dkwX0_init_2 : List UInt8 := [181, 0, 40, 42, 16, 8, 189, 0, 31, 181, 0, 44, 42, 17, 2, 0, 188, 10, 181, 0, 47, 42]
abbrev dktX0_init_2 : List UInt8 := dkwX0_init_2 ++ dktX0_init_3
def dkwX0_init_1 : List UInt8 := [189, 0, 25, 181, 0, 27, 42, 16, 8, 189, 0, 31, 181, 0, 33, 42, 187, 0, 37, 89, 183, 0, 39]
abbrev dktX0_init_1 : List UInt8 := dkwX0_init_1 ++ dktX0_init_2
def dkwX0_init_0 : List UInt8 := [42, 183, 0, 14, 42, 16, 6, 188, 10, 181, 0, 7, 42, 16, 6, 189, 0, 20, 181, 0, 21, 42, 7]
abbrev dktX0_init_0 : List UInt8 := dkwX0_init_0 ++ dktX0_init_1
theorem dksX0_init_0 : cX0_init.data.toList.drop 0 = dktX0_init_0 := by decide +kernel
theorem dksX0_init_1 : cX0_init.data.toList.drop 23 = dktX0_init_1 := dk_seg dksX0_init_0 23 rfl rfl
theorem dksX0_init_2 : cX0_init.data.toList.drop 46 = dktX0_init_2 := dk_seg dksX0_init_1 23 rfl rfl
theorem dksX0_init_3 : cX0_init.data.toList.drop 68 = dktX0_init_3 := dk_seg dksX0_init_2 22 rfl rfl
theorem dksX0_init_4 : cX0_init.data.toList.drop 91 = dktX0_init_4 := dk_seg dksX0_init_3 23 rfl rfl
theorem dksX0_init_5 : cX0_init.data.toList.drop 114 = dktX0_init_5 := dk_seg dksX0_init_4 23 rfl rfl
theorem dX0_init_0 : decode cX0_init 0 = .ok (.aload_n 0, 1) := dk_42 (dk_at dksX0_init_0 0 rfl rfl)
theorem dX0_init_1 : decode cX0_init 1 = .ok (.invokespecial 14, 3) := dk_183 0 14 (dk_at dksX0_init_0 1 rfl rfl)
theorem dX0_init_4 : decode cX0_init 4 = .ok (.aload_n 0, 1) := dk_42 (dk_at dksX0_init_0 4 rfl rfl)
theorem dX0_init_5 : decode cX0_init 5 = .ok (.bipush 6, 2) := dk_16 6 (dk_at dksX0_init_0 5 rfl rfl)
theorem dX0_init_7 : decode cX0_init 7 = .ok (.newarray .int, 2) := dk_188_10 (dk_at dksX0_init_0 7 rfl rfl)
theorem dX0_init_9 : decode cX0_init 9 = .ok (.putfield 7, 3) := dk_181 0 7 (dk_at dksX0_init_0 9 rfl rfl)
theorem dX0_init_12 : decode cX0_init 12 = .ok (.aload_n 0, 1) := dk_42 (dk_at dksX0_init_0 12 rfl rfl)
theorem dX0_init_13 : decode cX0_init 13 = .ok (.bipush 6, 2) := dk_16 6 (dk_at dksX0_init_0 13 rfl rfl)
theorem dX0_init_15 : decode cX0_init 15 = .ok (.anewarray 20, 3) := dk_189 0 20 (dk_at dksX0_init_0 15 rfl rfl)
theorem dX0_init_18 : decode cX0_init 18 = .ok (.putfield 21, 3) := dk_181 0 21 (dk_at dksX0_init_0 18 rfl rfl)
theorem dX0_init_21 : decode cX0_init 21 = .ok (.aload_n 0, 1) := dk_42 (dk_at dksX0_init_0 21 rfl rfl)
theorem dX0_init_22 : decode cX0_init 22 = .ok (.iconst 4, 1) := dk_7 (dk_at dksX0_init_0 22 rfl rfl)
theorem dX0_init_23 : decode cX0_init 23 = .ok (.anewarray 25, 3) := dk_189 0 25 (dk_at dksX0_init_1 0 rfl rfl)
theorem dX0_init_26 : decode cX0_init 26 = .ok (.putfield 27, 3) := dk_181 0 27 (dk_at dksX0_init_1 3 rfl rfl)
theorem dX0_init_29 : decode cX0_init 29 = .ok (.aload_n 0, 1) := dk_42 (dk_at dksX0_init_1 6 rfl rfl)
theorem dX0_init_30 : decode cX0_init 30 = .ok (.bipush 8, 2) := dk_16 8 (dk_at dksX0_init_1 7 rfl rfl)
theorem dX0_init_32 : decode cX0_init 32 = .ok (.anewarray 31, 3) := dk_189 0 31 (dk_at dksX0_init_1 9 rfl rfl)
theorem dX0_init_35 : decode cX0_init 35 = .ok (.putfield 33, 3) := dk_181 0 33 (dk_at dksX0_init_1 12 rfl rfl)
theorem dX0_init_38 : decode cX0_init 38 = .ok (.aload_n 0, 1) := dk_42 (dk_at dksX0_init_1 15 rfl rfl)
theorem dX0_init_39 : decode cX0_init 39 = .ok (.new 37, 3) := dk_187 0 37 (dk_at dksX0_init_1 16 rfl rfl)
theorem dX0_init_42 : decode cX0_init 42 = .ok (.dup, 1) := dk_89 (dk_at dksX0_init_1 19 rfl rfl)
theorem dX0_init_43 : decode cX0_init 43 = .ok (.invokespecial 39, 3) := dk_183 0 39 (dk_at dksX0_init_1 20 rfl rfl)
theorem dX0_init_46 : decode cX0_init 46 = .ok (.putfield 40, 3) := dk_181 0 40 (dk_at dksX0_init_2 0 rfl rfl)
theorem dX0_init_49 : decode cX0_init 49 = .ok (.aload_n 0, 1) := dk_42 (dk_at dksX0_init_2 3 rfl rfl)
theorem dX0_init_50 : decode cX0_init 50 = .ok (.bipush 8, 2) := dk_16 8 (dk_at dksX0_init_2 4 rfl rfl)
theorem dX0_init_52 : decode cX0_init 52 = .ok (.anewarray 31, 3) := dk_189 0 31 (dk_at dksX0_init_2 6 rfl rfl)
theorem dX0_init_55 : decode cX0_init 55 = .ok (.putfield 44, 3) := dk_181 0 44 (dk_at dksX0_init_2 9 rfl rfl)
theorem dX0_init_58 : decode cX0_init 58 = .ok (.aload_n 0, 1) := dk_42 (dk_at dksX0_init_2 12 rfl rfl)
theorem dX0_init_59 : decode cX0_init 59 = .ok (.sipush 512, 3) := dk_17 2 0 (dk_at dksX0_init_2 13 rfl rfl)
theorem dX0_init_62 : decode cX0_init 62 = .ok (.newarray .int, 2) := dk_188_10 (dk_at dksX0_init_2 16 rfl rfl)
theorem dX0_init_64 : decode cX0_init 64 = .ok (.putfield 47, 3) := dk_181 0 47 (dk_at dksX0_init_2 18 rfl rfl)
theorem dX0_init_67 : decode cX0_init 67 = .ok (.aload_n 0, 1) := dk_42 (dk_at dksX0_init_2 21 rfl rfl)
theorem dX0_init_68 : decode cX0_init 68 = .ok (.sipush 512, 3) := dk_17 2 0 (dk_at dksX0_init_3 0 rfl rfl)
theorem dX0_init_71 : decode cX0_init 71 = .ok (.newarray .int, 2) := dk_188_10 (dk_at dksX0_init_3 3 rfl rfl)
theorem dX0_init_73 : decode cX0_init 73 = .ok (.putfield 50, 3) := dk_181 0 50 (dk_at dksX0_init_3 5 rfl rfl)
theorem dX0_init_76 : decode cX0_init 76 = .ok (.aload_n 0, 1) := dk_42 (dk_at dksX0_init_3 8 rfl rfl)
theorem dX0_init_77 : decode cX0_init 77 = .ok (.sipush 512, 3) := dk_17 2 0 (dk_at dksX0_init_3 9 rfl rfl)
theorem dX0_init_80 : decode cX0_init 80 = .ok (.newarray .int, 2) := dk_188_10 (dk_at dksX0_init_3 12 rfl rfl)
theorem dX0_init_82 : decode cX0_init 82 = .ok (.putfield 53, 3) := dk_181 0 53 (dk_at dksX0_init_3 14 rfl rfl)
theorem dX0_init_85 : decode cX0_init 85 = .ok (.aload_n 0, 1) := dk_42 (dk_at dksX0_init_3 17 rfl rfl)
theorem dX0_init_86 : decode cX0_init 86 = .ok (.sipush 512, 3) := dk_17 2 0 (dk_at dksX0_init_3 18 rfl rfl)
theorem dX0_init_89 : decode cX0_init 89 = .ok (.newarray .int, 2) := dk_188_10 (dk_at dksX0_init_3 21 rfl rfl)
theorem dX0_init_91 : decode cX0_init 91 = .ok (.putfield 56, 3) := dk_181 0 56 (dk_at dksX0_init_4 0 rfl rfl)
theorem dX0_init_94 : decode cX0_init 94 = .ok (.aload_n 0, 1) := dk_42 (dk_at dksX0_init_4 3 rfl rfl)
theorem dX0_init_95 : decode cX0_init 95 = .ok (.sipush 512, 3) := dk_17 2 0 (dk_at dksX0_init_4 4 rfl rfl)
theorem dX0_init_98 : decode cX0_init 98 = .ok (.newarray .boolean, 2) := dk_188_4 (dk_at dksX0_init_4 7 rfl rfl)
theorem dX0_init_100 : decode cX0_init 100 = .ok (.putfield 59, 3) := dk_181 0 59 (dk_at dksX0_init_4 9 rfl rfl)
theorem dX0_init_103 : decode cX0_init 103 = .ok (.aload_n 0, 1) := dk_42 (dk_at dksX0_init_4 12 rfl rfl)
theorem dX0_init_104 : decode cX0_init 104 = .ok (.sipush 1320, 3) := dk_17 5 40 (dk_at dksX0_init_4 13 rfl rfl)
theorem dX0_init_107 : decode cX0_init 107 = .ok (.newarray .int, 2) := dk_188_10 (dk_at dksX0_init_4 16 rfl rfl)
theorem dX0_init_109 : decode cX0_init 109 = .ok (.putfield 63, 3) := dk_181 0 63 (dk_at dksX0_init_4 18 rfl rfl)
theorem dX0_init_112 : decode cX0_init 112 = .ok (.aload_n 0, 1) := dk_42 (dk_at dksX0_init_4 21 rfl rfl)
theorem dX0_init_113 : decode cX0_init 113 = .ok (.iconst 3, 1) := dk_6 (dk_at dksX0_init_4 22 rfl rfl)
theorem dX0_init_114 : decode cX0_init 114 = .ok (.anewarray 66, 3) := dk_189 0 66 (dk_at dksX0_init_5 0 rfl rfl)
theorem dX0_init_117 : decode cX0_init 117 = .ok (.putfield 68, 3) := dk_181 0 68 (dk_at dksX0_init_5 3 rfl rfl)
theorem dX0_init_120 : decode cX0_init 120 = .ok (.aload_n 0, 1) := dk_42 (dk_at dksX0_init_5 6 rfl rfl)
theorem dX0_init_121 : decode cX0_init 121 = .ok (.bipush 33, 2) := dk_16 33 (dk_at dksX0_init_5 7 rfl rfl)
theorem dX0_init_123 : decode cX0_init 123 = .ok (.newarray .int, 2) := dk_188_10 (dk_at dksX0_init_5 9 rfl rfl)
theorem dX0_init_125 : decode cX0_init 125 = .ok (.putfield 72, 3) := dk_181 0 72 (dk_at dksX0_init_5 11 rfl rfl)
theorem dX0_init_128 : decode cX0_init 128 = .ok (.aload_n 0, 1) := dk_42 (dk_at dksX0_init_5 14 rfl rfl)
theorem dX0_init_129 : decode cX0_init 129 = .ok (.iconst 0, 1) := dk_3 (dk_at dksX0_init_5 15 rfl rfl)
theorem dX0_init_130 : decode cX0_init 130 = .ok (.putfield 75, 3) := dk_181 0 75 (dk_at dksX0_init_5 16 rfl rfl)
theorem dX0_init_133 : decode cX0_init 133 = .ok (.return_, 1) := dk_177 (dk_at dksX0_init_5 19 rfl rfl)
abbrev cX0_row : ByteArray := prog_1_method_7_code
def yX0_row : MethodName := ⟨RX0, "row", "(II)I"⟩
def dkwX0_row_1 : List UInt8 := [28, 172, 78, 42, 8, 182, 0, 88, 172]
abbrev dktX0_row_1 : List UInt8 := dkwX0_row_1 ++ []
def dkwX0_row_0 : List UInt8 := [27, 184, 0, 82, 153, 0, 9, 28, 16, 40, 164, 0, 5, 2, 172, 42, 180, 0, 21, 27, 28, 188, 10, 83]
abbrev dktX0_row_0 : List UInt8 := dkwX0_row_0 ++ dktX0_row_1
theorem dksX0_row_0 : cX0_row.data.toList.drop 0 = dktX0_row_0 := by decide +kernel
theorem dksX0_row_1 : cX0_row.data.toList.drop 24 = dktX0_row_1 := dk_seg dksX0_row_0 24 rfl rfl
theorem dX0_row_0 : decode cX0_row 0 = .ok (.iload_n 1, 1) := dk_27 (dk_at dksX0_row_0 0 rfl rfl)
theorem dX0_row_1 : decode cX0_row 1 = .ok (.invokestatic 82, 3) := dk_184 0 82 (dk_at dksX0_row_0 1 rfl rfl)
theorem dX0_row_4 : decode cX0_row 4 = .ok (.ifCond .eq 9, 3) := dk_153 0 9 (dk_at dksX0_row_0 4 rfl rfl)
theorem dX0_row_7 : decode cX0_row 7 = .ok (.iload_n 2, 1) := dk_28 (dk_at dksX0_row_0 7 rfl rfl)
theorem dX0_row_8 : decode cX0_row 8 = .ok (.bipush 40, 2) := dk_16 40 (dk_at dksX0_row_0 8 rfl rfl)
theorem dX0_row_10 : decode cX0_row 10 = .ok (.if_icmp .le 5, 3) := dk_164 0 5 (dk_at dksX0_row_0 10 rfl rfl)
theorem dX0_row_13 : decode cX0_row 13 = .ok (.iconst (-1), 1) := dk_2 (dk_at dksX0_row_0 13 rfl rfl)
theorem dX0_row_14 : decode cX0_row 14 = .ok (.ireturn, 1) := dk_172 (dk_at dksX0_row_0 14 rfl rfl)
theorem dX0_row_15 : decode cX0_row 15 = .ok (.aload_n 0, 1) := dk_42 (dk_at dksX0_row_0 15 rfl rfl)
theorem dX0_row_16 : decode cX0_row 16 = .ok (.getfield 21, 3) := dk_180 0 21 (dk_at dksX0_row_0 16 rfl rfl)
theorem dX0_row_19 : decode cX0_row 19 = .ok (.iload_n 1, 1) := dk_27 (dk_at dksX0_row_0 19 rfl rfl)
theorem dX0_row_20 : decode cX0_row 20 = .ok (.iload_n 2, 1) := dk_28 (dk_at dksX0_row_0 20 rfl rfl)
theorem dX0_row_21 : decode cX0_row 21 = .ok (.newarray .int, 2) := dk_188_10 (dk_at dksX0_row_0 21 rfl rfl)
theorem dX0_row_23 : decode cX0_row 23 = .ok (.aastore, 1) := dk_83 (dk_at dksX0_row_0 23 rfl rfl)
theorem dX0_row_24 : decode cX0_row 24 = .ok (.iload_n 2, 1) := dk_28 (dk_at dksX0_row_1 0 rfl rfl)
theorem dX0_row_25 : decode cX0_row 25 = .ok (.ireturn, 1) := dk_172 (dk_at dksX0_row_1 1 rfl rfl)
theorem dX0_row_26 : decode cX0_row 26 = .ok (.astore_n 3, 1) := dk_78 (dk_at dksX0_row_1 2 rfl rfl)
theorem dX0_row_27 : decode cX0_row 27 = .ok (.aload_n 0, 1) := dk_42 (dk_at dksX0_row_1 3 rfl rfl)
theorem dX0_row_28 : decode cX0_row 28 = .ok (.iconst 5, 1) := dk_8 (dk_at dksX0_row_1 4 rfl rfl)
theorem dX0_row_29 : decode cX0_row 29 = .ok (.invokevirtual 88, 3) := dk_182 0 88 (dk_at dksX0_row_1 5 rfl rfl)
theorem dX0_row_32 : decode cX0_row 32 = .ok (.ireturn, 1) := dk_172 (dk_at dksX0_row_1 8 rfl rfl)
abbrev cX0_isRow : ByteArray := prog_1_method_5_code
def yX0_isRow : MethodName := ⟨RX0, "isRow", "(I)Z"⟩
def dkwX0_isRow_0 : List UInt8 := [26, 3, 8, 184, 0, 78, 172]
abbrev dktX0_isRow_0 : List UInt8 := dkwX0_isRow_0 ++ []
theorem dksX0_isRow_0 : cX0_isRow.data.toList.drop 0 = dktX0_isRow_0 := by decide +kernel
theorem dX0_isRow_0 : decode cX0_isRow 0 = .ok (.iload_n 0, 1) := dk_26 (dk_at dksX0_isRow_0 0 rfl rfl)
theorem dX0_isRow_1 : decode cX0_isRow 1 = .ok (.iconst 0, 1) := dk_3 (dk_at dksX0_isRow_0 1 rfl rfl)
theorem dX0_isRow_2 : decode cX0_isRow 2 = .ok (.iconst 5, 1) := dk_8 (dk_at dksX0_isRow_0 2 rfl rfl)
theorem dX0_isRow_3 : decode cX0_isRow 3 = .ok (.invokestatic 78, 3) := dk_184 0 78 (dk_at dksX0_isRow_0 3 rfl rfl)
theorem dX0_isRow_6 : decode cX0_isRow 6 = .ok (.ireturn, 1) := dk_172 (dk_at dksX0_isRow_0 6 rfl rfl)
abbrev cX0_isIn : ByteArray := prog_1_method_1_code
def yX0_isIn : MethodName := ⟨RX0, "isIn", "(III)Z"⟩
def dkwX0_isIn_0 : List UInt8 := [26, 27, 161, 0, 12, 26, 28, 163, 0, 7, 4, 167, 0, 4, 3, 172]
abbrev dktX0_isIn_0 : List UInt8 := dkwX0_isIn_0 ++ []
theorem dksX0_isIn_0 : cX0_isIn.data.toList.drop 0 = dktX0_isIn_0 := by decide +kernel
theorem dX0_isIn_0 : decode cX0_isIn 0 = .ok (.iload_n 0, 1) := dk_26 (dk_at dksX0_isIn_0 0 rfl rfl)
theorem dX0_isIn_1 : decode cX0_isIn 1 = .ok (.iload_n 1, 1) := dk_27 (dk_at dksX0_isIn_0 1 rfl rfl)
theorem dX0_isIn_2 : decode cX0_isIn 2 = .ok (.if_icmp .lt 12, 3) := dk_161 0 12 (dk_at dksX0_isIn_0 2 rfl rfl)
theorem dX0_isIn_5 : decode cX0_isIn 5 = .ok (.iload_n 0, 1) := dk_26 (dk_at dksX0_isIn_0 5 rfl rfl)
theorem dX0_isIn_6 : decode cX0_isIn 6 = .ok (.iload_n 2, 1) := dk_28 (dk_at dksX0_isIn_0 6 rfl rfl)
theorem dX0_isIn_7 : decode cX0_isIn 7 = .ok (.if_icmp .gt 7, 3) := dk_163 0 7 (dk_at dksX0_isIn_0 7 rfl rfl)
theorem dX0_isIn_10 : decode cX0_isIn 10 = .ok (.iconst 1, 1) := dk_4 (dk_at dksX0_isIn_0 10 rfl rfl)
theorem dX0_isIn_11 : decode cX0_isIn 11 = .ok (.goto 4, 3) := dk_167 0 4 (dk_at dksX0_isIn_0 11 rfl rfl)
theorem dX0_isIn_14 : decode cX0_isIn 14 = .ok (.iconst 0, 1) := dk_3 (dk_at dksX0_isIn_0 14 rfl rfl)
theorem dX0_isIn_15 : decode cX0_isIn 15 = .ok (.ireturn, 1) := dk_172 (dk_at dksX0_isIn_0 15 rfl rfl)
abbrev cX0_found : ByteArray := prog_1_method_2_code
def yX0_found : MethodName := ⟨RX0, "found", "(I)I"⟩
def dkwX0_found_0 : List UInt8 := [42, 27, 181, 0, 1, 42, 180, 0, 7, 27, 92, 46, 4, 96, 79, 16, 253, 172]
abbrev dktX0_found_0 : List UInt8 := dkwX0_found_0 ++ []
theorem dksX0_found_0 : cX0_found.data.toList.drop 0 = dktX0_found_0 := by decide +kernel
theorem dX0_found_0 : decode cX0_found 0 = .ok (.aload_n 0, 1) := dk_42 (dk_at dksX0_found_0 0 rfl rfl)
theorem dX0_found_1 : decode cX0_found 1 = .ok (.iload_n 1, 1) := dk_27 (dk_at dksX0_found_0 1 rfl rfl)
theorem dX0_found_2 : decode cX0_found 2 = .ok (.putfield 1, 3) := dk_181 0 1 (dk_at dksX0_found_0 2 rfl rfl)
theorem dX0_found_5 : decode cX0_found 5 = .ok (.aload_n 0, 1) := dk_42 (dk_at dksX0_found_0 5 rfl rfl)
theorem dX0_found_6 : decode cX0_found 6 = .ok (.getfield 7, 3) := dk_180 0 7 (dk_at dksX0_found_0 6 rfl rfl)
theorem dX0_found_9 : decode cX0_found 9 = .ok (.iload_n 1, 1) := dk_27 (dk_at dksX0_found_0 9 rfl rfl)
theorem dX0_found_10 : decode cX0_found 10 = .ok (.dup2, 1) := dk_92 (dk_at dksX0_found_0 10 rfl rfl)
theorem dX0_found_11 : decode cX0_found 11 = .ok (.iaload, 1) := dk_46 (dk_at dksX0_found_0 11 rfl rfl)
theorem dX0_found_12 : decode cX0_found 12 = .ok (.iconst 1, 1) := dk_4 (dk_at dksX0_found_0 12 rfl rfl)
theorem dX0_found_13 : decode cX0_found 13 = .ok (.iadd, 1) := dk_96 (dk_at dksX0_found_0 13 rfl rfl)
theorem dX0_found_14 : decode cX0_found 14 = .ok (.iastore, 1) := dk_79 (dk_at dksX0_found_0 14 rfl rfl)
theorem dX0_found_15 : decode cX0_found 15 = .ok (.bipush (-3), 2) := dk_16 253 (dk_at dksX0_found_0 15 rfl rfl)
theorem dX0_found_17 : decode cX0_found 17 = .ok (.ireturn, 1) := dk_172 (dk_at dksX0_found_0 17 rfl rfl)
abbrev cX0_lay : ByteArray := prog_1_method_8_code
def yX0_lay : MethodName := ⟨RX0, "lay", "(III)I"⟩
def dkwX0_lay_1 : List UInt8 := [21, 4, 172]
abbrev dktX0_lay_1 : List UInt8 := dkwX0_lay_1 ++ []
def dkwX0_lay_0 : List UInt8 := [42, 27, 28, 182, 0, 92, 54, 4, 21, 4, 4, 160, 0, 12, 42, 180, 0, 21, 27, 50, 28, 29, 79]
abbrev dktX0_lay_0 : List UInt8 := dkwX0_lay_0 ++ dktX0_lay_1
theorem dksX0_lay_0 : cX0_lay.data.toList.drop 0 = dktX0_lay_0 := by decide +kernel
theorem dksX0_lay_1 : cX0_lay.data.toList.drop 23 = dktX0_lay_1 := dk_seg dksX0_lay_0 23 rfl rfl
theorem dX0_lay_0 : decode cX0_lay 0 = .ok (.aload_n 0, 1) := dk_42 (dk_at dksX0_lay_0 0 rfl rfl)
theorem dX0_lay_1 : decode cX0_lay 1 = .ok (.iload_n 1, 1) := dk_27 (dk_at dksX0_lay_0 1 rfl rfl)
theorem dX0_lay_2 : decode cX0_lay 2 = .ok (.iload_n 2, 1) := dk_28 (dk_at dksX0_lay_0 2 rfl rfl)
theorem dX0_lay_3 : decode cX0_lay 3 = .ok (.invokevirtual 92, 3) := dk_182 0 92 (dk_at dksX0_lay_0 3 rfl rfl)
theorem dX0_lay_6 : decode cX0_lay 6 = .ok (.istore 4, 2) := dk_54 4 (dk_at dksX0_lay_0 6 rfl rfl)
theorem dX0_lay_8 : decode cX0_lay 8 = .ok (.iload 4, 2) := dk_21 4 (dk_at dksX0_lay_0 8 rfl rfl)
theorem dX0_lay_10 : decode cX0_lay 10 = .ok (.iconst 1, 1) := dk_4 (dk_at dksX0_lay_0 10 rfl rfl)
theorem dX0_lay_11 : decode cX0_lay 11 = .ok (.if_icmp .ne 12, 3) := dk_160 0 12 (dk_at dksX0_lay_0 11 rfl rfl)
theorem dX0_lay_14 : decode cX0_lay 14 = .ok (.aload_n 0, 1) := dk_42 (dk_at dksX0_lay_0 14 rfl rfl)
theorem dX0_lay_15 : decode cX0_lay 15 = .ok (.getfield 21, 3) := dk_180 0 21 (dk_at dksX0_lay_0 15 rfl rfl)
theorem dX0_lay_18 : decode cX0_lay 18 = .ok (.iload_n 1, 1) := dk_27 (dk_at dksX0_lay_0 18 rfl rfl)
theorem dX0_lay_19 : decode cX0_lay 19 = .ok (.aaload, 1) := dk_50 (dk_at dksX0_lay_0 19 rfl rfl)
theorem dX0_lay_20 : decode cX0_lay 20 = .ok (.iload_n 2, 1) := dk_28 (dk_at dksX0_lay_0 20 rfl rfl)
theorem dX0_lay_21 : decode cX0_lay 21 = .ok (.iload_n 3, 1) := dk_29 (dk_at dksX0_lay_0 21 rfl rfl)
theorem dX0_lay_22 : decode cX0_lay 22 = .ok (.iastore, 1) := dk_79 (dk_at dksX0_lay_0 22 rfl rfl)
theorem dX0_lay_23 : decode cX0_lay 23 = .ok (.iload 4, 2) := dk_21 4 (dk_at dksX0_lay_1 0 rfl rfl)
theorem dX0_lay_25 : decode cX0_lay 25 = .ok (.ireturn, 1) := dk_172 (dk_at dksX0_lay_1 2 rfl rfl)
abbrev cX0_at : ByteArray := prog_1_method_9_code
def yX0_at : MethodName := ⟨RX0, "at", "(II)I"⟩
def dkwX0_at_1 : List UInt8 := [42, 4, 182, 0, 88, 172, 78, 42, 5, 182, 0, 88, 172]
abbrev dktX0_at_1 : List UInt8 := dkwX0_at_1 ++ []
def dkwX0_at_0 : List UInt8 := [27, 184, 0, 82, 154, 0, 5, 2, 172, 42, 42, 180, 0, 21, 27, 50, 28, 46, 4, 182, 0, 96, 172, 78]
abbrev dktX0_at_0 : List UInt8 := dkwX0_at_0 ++ dktX0_at_1
theorem dksX0_at_0 : cX0_at.data.toList.drop 0 = dktX0_at_0 := by decide +kernel
theorem dksX0_at_1 : cX0_at.data.toList.drop 24 = dktX0_at_1 := dk_seg dksX0_at_0 24 rfl rfl
theorem dX0_at_0 : decode cX0_at 0 = .ok (.iload_n 1, 1) := dk_27 (dk_at dksX0_at_0 0 rfl rfl)
theorem dX0_at_1 : decode cX0_at 1 = .ok (.invokestatic 82, 3) := dk_184 0 82 (dk_at dksX0_at_0 1 rfl rfl)
theorem dX0_at_4 : decode cX0_at 4 = .ok (.ifCond .ne 5, 3) := dk_154 0 5 (dk_at dksX0_at_0 4 rfl rfl)
theorem dX0_at_7 : decode cX0_at 7 = .ok (.iconst (-1), 1) := dk_2 (dk_at dksX0_at_0 7 rfl rfl)
theorem dX0_at_8 : decode cX0_at 8 = .ok (.ireturn, 1) := dk_172 (dk_at dksX0_at_0 8 rfl rfl)
theorem dX0_at_9 : decode cX0_at 9 = .ok (.aload_n 0, 1) := dk_42 (dk_at dksX0_at_0 9 rfl rfl)
theorem dX0_at_10 : decode cX0_at 10 = .ok (.aload_n 0, 1) := dk_42 (dk_at dksX0_at_0 10 rfl rfl)
theorem dX0_at_11 : decode cX0_at 11 = .ok (.getfield 21, 3) := dk_180 0 21 (dk_at dksX0_at_0 11 rfl rfl)
theorem dX0_at_14 : decode cX0_at 14 = .ok (.iload_n 1, 1) := dk_27 (dk_at dksX0_at_0 14 rfl rfl)
theorem dX0_at_15 : decode cX0_at 15 = .ok (.aaload, 1) := dk_50 (dk_at dksX0_at_0 15 rfl rfl)
theorem dX0_at_16 : decode cX0_at 16 = .ok (.iload_n 2, 1) := dk_28 (dk_at dksX0_at_0 16 rfl rfl)
theorem dX0_at_17 : decode cX0_at 17 = .ok (.iaload, 1) := dk_46 (dk_at dksX0_at_0 17 rfl rfl)
theorem dX0_at_18 : decode cX0_at 18 = .ok (.iconst 1, 1) := dk_4 (dk_at dksX0_at_0 18 rfl rfl)
theorem dX0_at_19 : decode cX0_at 19 = .ok (.invokevirtual 96, 3) := dk_182 0 96 (dk_at dksX0_at_0 19 rfl rfl)
theorem dX0_at_22 : decode cX0_at 22 = .ok (.ireturn, 1) := dk_172 (dk_at dksX0_at_0 22 rfl rfl)
theorem dX0_at_23 : decode cX0_at 23 = .ok (.astore_n 3, 1) := dk_78 (dk_at dksX0_at_0 23 rfl rfl)
theorem dX0_at_24 : decode cX0_at 24 = .ok (.aload_n 0, 1) := dk_42 (dk_at dksX0_at_1 0 rfl rfl)
theorem dX0_at_25 : decode cX0_at 25 = .ok (.iconst 1, 1) := dk_4 (dk_at dksX0_at_1 1 rfl rfl)
theorem dX0_at_26 : decode cX0_at 26 = .ok (.invokevirtual 88, 3) := dk_182 0 88 (dk_at dksX0_at_1 2 rfl rfl)
theorem dX0_at_29 : decode cX0_at 29 = .ok (.ireturn, 1) := dk_172 (dk_at dksX0_at_1 5 rfl rfl)
theorem dX0_at_30 : decode cX0_at 30 = .ok (.astore_n 3, 1) := dk_78 (dk_at dksX0_at_1 6 rfl rfl)
theorem dX0_at_31 : decode cX0_at 31 = .ok (.aload_n 0, 1) := dk_42 (dk_at dksX0_at_1 7 rfl rfl)
theorem dX0_at_32 : decode cX0_at 32 = .ok (.iconst 2, 1) := dk_5 (dk_at dksX0_at_1 8 rfl rfl)
theorem dX0_at_33 : decode cX0_at 33 = .ok (.invokevirtual 88, 3) := dk_182 0 88 (dk_at dksX0_at_1 9 rfl rfl)
theorem dX0_at_36 : decode cX0_at 36 = .ok (.ireturn, 1) := dk_172 (dk_at dksX0_at_1 12 rfl rfl)
abbrev cX0_ask : ByteArray := prog_1_method_3_code
def yX0_ask : MethodName := ⟨RX0, "ask", "(II)I"⟩
def dkwX0_ask_0 : List UInt8 := [42, 27, 181, 0, 11, 28, 172]
abbrev dktX0_ask_0 : List UInt8 := dkwX0_ask_0 ++ []
theorem dksX0_ask_0 : cX0_ask.data.toList.drop 0 = dktX0_ask_0 := by decide +kernel
theorem dX0_ask_0 : decode cX0_ask 0 = .ok (.aload_n 0, 1) := dk_42 (dk_at dksX0_ask_0 0 rfl rfl)
theorem dX0_ask_1 : decode cX0_ask 1 = .ok (.iload_n 1, 1) := dk_27 (dk_at dksX0_ask_0 1 rfl rfl)
theorem dX0_ask_2 : decode cX0_ask 2 = .ok (.putfield 11, 3) := dk_181 0 11 (dk_at dksX0_ask_0 2 rfl rfl)
theorem dX0_ask_5 : decode cX0_ask 5 = .ok (.iload_n 2, 1) := dk_28 (dk_at dksX0_ask_0 5 rfl rfl)
theorem dX0_ask_6 : decode cX0_ask 6 = .ok (.ireturn, 1) := dk_172 (dk_at dksX0_ask_0 6 rfl rfl)
abbrev cX0_tear : ByteArray := prog_1_method_10_code
def yX0_tear : MethodName := ⟨RX0, "tear", "(I)I"⟩
def dkwX0_tear_1 : List UInt8 := [42, 180, 0, 21, 27, 1, 83, 4, 172]
abbrev dktX0_tear_1 : List UInt8 := dkwX0_tear_1 ++ []
def dkwX0_tear_0 : List UInt8 := [27, 184, 0, 82, 154, 0, 5, 2, 172, 42, 180, 0, 21, 27, 50, 199, 0, 9, 42, 4, 182, 0, 88, 172]
abbrev dktX0_tear_0 : List UInt8 := dkwX0_tear_0 ++ dktX0_tear_1
theorem dksX0_tear_0 : cX0_tear.data.toList.drop 0 = dktX0_tear_0 := by decide +kernel
theorem dksX0_tear_1 : cX0_tear.data.toList.drop 24 = dktX0_tear_1 := dk_seg dksX0_tear_0 24 rfl rfl
theorem dX0_tear_0 : decode cX0_tear 0 = .ok (.iload_n 1, 1) := dk_27 (dk_at dksX0_tear_0 0 rfl rfl)
theorem dX0_tear_1 : decode cX0_tear 1 = .ok (.invokestatic 82, 3) := dk_184 0 82 (dk_at dksX0_tear_0 1 rfl rfl)
theorem dX0_tear_4 : decode cX0_tear 4 = .ok (.ifCond .ne 5, 3) := dk_154 0 5 (dk_at dksX0_tear_0 4 rfl rfl)
theorem dX0_tear_7 : decode cX0_tear 7 = .ok (.iconst (-1), 1) := dk_2 (dk_at dksX0_tear_0 7 rfl rfl)
theorem dX0_tear_8 : decode cX0_tear 8 = .ok (.ireturn, 1) := dk_172 (dk_at dksX0_tear_0 8 rfl rfl)
theorem dX0_tear_9 : decode cX0_tear 9 = .ok (.aload_n 0, 1) := dk_42 (dk_at dksX0_tear_0 9 rfl rfl)
theorem dX0_tear_10 : decode cX0_tear 10 = .ok (.getfield 21, 3) := dk_180 0 21 (dk_at dksX0_tear_0 10 rfl rfl)
theorem dX0_tear_13 : decode cX0_tear 13 = .ok (.iload_n 1, 1) := dk_27 (dk_at dksX0_tear_0 13 rfl rfl)
theorem dX0_tear_14 : decode cX0_tear 14 = .ok (.aaload, 1) := dk_50 (dk_at dksX0_tear_0 14 rfl rfl)
theorem dX0_tear_15 : decode cX0_tear 15 = .ok (.ifnonnull 9, 3) := dk_199 0 9 (dk_at dksX0_tear_0 15 rfl rfl)
theorem dX0_tear_18 : decode cX0_tear 18 = .ok (.aload_n 0, 1) := dk_42 (dk_at dksX0_tear_0 18 rfl rfl)
theorem dX0_tear_19 : decode cX0_tear 19 = .ok (.iconst 1, 1) := dk_4 (dk_at dksX0_tear_0 19 rfl rfl)
theorem dX0_tear_20 : decode cX0_tear 20 = .ok (.invokevirtual 88, 3) := dk_182 0 88 (dk_at dksX0_tear_0 20 rfl rfl)
theorem dX0_tear_23 : decode cX0_tear 23 = .ok (.ireturn, 1) := dk_172 (dk_at dksX0_tear_0 23 rfl rfl)
theorem dX0_tear_24 : decode cX0_tear 24 = .ok (.aload_n 0, 1) := dk_42 (dk_at dksX0_tear_1 0 rfl rfl)
theorem dX0_tear_25 : decode cX0_tear 25 = .ok (.getfield 21, 3) := dk_180 0 21 (dk_at dksX0_tear_1 1 rfl rfl)
theorem dX0_tear_28 : decode cX0_tear 28 = .ok (.iload_n 1, 1) := dk_27 (dk_at dksX0_tear_1 4 rfl rfl)
theorem dX0_tear_29 : decode cX0_tear 29 = .ok (.aconst_null, 1) := dk_1 (dk_at dksX0_tear_1 5 rfl rfl)
theorem dX0_tear_30 : decode cX0_tear 30 = .ok (.aastore, 1) := dk_83 (dk_at dksX0_tear_1 6 rfl rfl)
theorem dX0_tear_31 : decode cX0_tear 31 = .ok (.iconst 1, 1) := dk_4 (dk_at dksX0_tear_1 7 rfl rfl)
theorem dX0_tear_32 : decode cX0_tear 32 = .ok (.ireturn, 1) := dk_172 (dk_at dksX0_tear_1 8 rfl rfl)
abbrev cX0_copy : ByteArray := prog_1_method_11_code
def yX0_copy : MethodName := ⟨RX0, "copy", "(IIIII)I"⟩
def dkwX0_copy_2 : List UInt8 := [4, 172, 58, 6, 42, 4, 182, 0, 88, 172, 58, 6, 42, 5, 182, 0, 88, 172]
abbrev dktX0_copy_2 : List UInt8 := dkwX0_copy_2 ++ []
def dkwX0_copy_1 : List UInt8 := [182, 0, 88, 172, 42, 180, 0, 21, 27, 50, 28, 42, 180, 0, 21, 29, 50, 21, 4, 21, 5, 184, 0, 103]
abbrev dktX0_copy_1 : List UInt8 := dkwX0_copy_1 ++ dktX0_copy_2
def dkwX0_copy_0 : List UInt8 := [27, 184, 0, 82, 153, 0, 10, 29, 184, 0, 82, 154, 0, 5, 2, 172, 21, 5, 156, 0, 9, 42, 8]
abbrev dktX0_copy_0 : List UInt8 := dkwX0_copy_0 ++ dktX0_copy_1
theorem dksX0_copy_0 : cX0_copy.data.toList.drop 0 = dktX0_copy_0 := by decide +kernel
theorem dksX0_copy_1 : cX0_copy.data.toList.drop 23 = dktX0_copy_1 := dk_seg dksX0_copy_0 23 rfl rfl
theorem dksX0_copy_2 : cX0_copy.data.toList.drop 47 = dktX0_copy_2 := dk_seg dksX0_copy_1 24 rfl rfl
theorem dX0_copy_0 : decode cX0_copy 0 = .ok (.iload_n 1, 1) := dk_27 (dk_at dksX0_copy_0 0 rfl rfl)
theorem dX0_copy_1 : decode cX0_copy 1 = .ok (.invokestatic 82, 3) := dk_184 0 82 (dk_at dksX0_copy_0 1 rfl rfl)
theorem dX0_copy_4 : decode cX0_copy 4 = .ok (.ifCond .eq 10, 3) := dk_153 0 10 (dk_at dksX0_copy_0 4 rfl rfl)
theorem dX0_copy_7 : decode cX0_copy 7 = .ok (.iload_n 3, 1) := dk_29 (dk_at dksX0_copy_0 7 rfl rfl)
theorem dX0_copy_8 : decode cX0_copy 8 = .ok (.invokestatic 82, 3) := dk_184 0 82 (dk_at dksX0_copy_0 8 rfl rfl)
theorem dX0_copy_11 : decode cX0_copy 11 = .ok (.ifCond .ne 5, 3) := dk_154 0 5 (dk_at dksX0_copy_0 11 rfl rfl)
theorem dX0_copy_14 : decode cX0_copy 14 = .ok (.iconst (-1), 1) := dk_2 (dk_at dksX0_copy_0 14 rfl rfl)
theorem dX0_copy_15 : decode cX0_copy 15 = .ok (.ireturn, 1) := dk_172 (dk_at dksX0_copy_0 15 rfl rfl)
theorem dX0_copy_16 : decode cX0_copy 16 = .ok (.iload 5, 2) := dk_21 5 (dk_at dksX0_copy_0 16 rfl rfl)
theorem dX0_copy_18 : decode cX0_copy 18 = .ok (.ifCond .ge 9, 3) := dk_156 0 9 (dk_at dksX0_copy_0 18 rfl rfl)
theorem dX0_copy_21 : decode cX0_copy 21 = .ok (.aload_n 0, 1) := dk_42 (dk_at dksX0_copy_0 21 rfl rfl)
theorem dX0_copy_22 : decode cX0_copy 22 = .ok (.iconst 5, 1) := dk_8 (dk_at dksX0_copy_0 22 rfl rfl)
theorem dX0_copy_23 : decode cX0_copy 23 = .ok (.invokevirtual 88, 3) := dk_182 0 88 (dk_at dksX0_copy_1 0 rfl rfl)
theorem dX0_copy_26 : decode cX0_copy 26 = .ok (.ireturn, 1) := dk_172 (dk_at dksX0_copy_1 3 rfl rfl)
theorem dX0_copy_27 : decode cX0_copy 27 = .ok (.aload_n 0, 1) := dk_42 (dk_at dksX0_copy_1 4 rfl rfl)
theorem dX0_copy_28 : decode cX0_copy 28 = .ok (.getfield 21, 3) := dk_180 0 21 (dk_at dksX0_copy_1 5 rfl rfl)
theorem dX0_copy_31 : decode cX0_copy 31 = .ok (.iload_n 1, 1) := dk_27 (dk_at dksX0_copy_1 8 rfl rfl)
theorem dX0_copy_32 : decode cX0_copy 32 = .ok (.aaload, 1) := dk_50 (dk_at dksX0_copy_1 9 rfl rfl)
theorem dX0_copy_33 : decode cX0_copy 33 = .ok (.iload_n 2, 1) := dk_28 (dk_at dksX0_copy_1 10 rfl rfl)
theorem dX0_copy_34 : decode cX0_copy 34 = .ok (.aload_n 0, 1) := dk_42 (dk_at dksX0_copy_1 11 rfl rfl)
theorem dX0_copy_35 : decode cX0_copy 35 = .ok (.getfield 21, 3) := dk_180 0 21 (dk_at dksX0_copy_1 12 rfl rfl)
theorem dX0_copy_38 : decode cX0_copy 38 = .ok (.iload_n 3, 1) := dk_29 (dk_at dksX0_copy_1 15 rfl rfl)
theorem dX0_copy_39 : decode cX0_copy 39 = .ok (.aaload, 1) := dk_50 (dk_at dksX0_copy_1 16 rfl rfl)
theorem dX0_copy_40 : decode cX0_copy 40 = .ok (.iload 4, 2) := dk_21 4 (dk_at dksX0_copy_1 17 rfl rfl)
theorem dX0_copy_42 : decode cX0_copy 42 = .ok (.iload 5, 2) := dk_21 5 (dk_at dksX0_copy_1 19 rfl rfl)
theorem dX0_copy_44 : decode cX0_copy 44 = .ok (.invokestatic 103, 3) := dk_184 0 103 (dk_at dksX0_copy_1 21 rfl rfl)
theorem dX0_copy_47 : decode cX0_copy 47 = .ok (.iconst 1, 1) := dk_4 (dk_at dksX0_copy_2 0 rfl rfl)
theorem dX0_copy_48 : decode cX0_copy 48 = .ok (.ireturn, 1) := dk_172 (dk_at dksX0_copy_2 1 rfl rfl)
theorem dX0_copy_49 : decode cX0_copy 49 = .ok (.astore 6, 2) := dk_58 6 (dk_at dksX0_copy_2 2 rfl rfl)
theorem dX0_copy_51 : decode cX0_copy 51 = .ok (.aload_n 0, 1) := dk_42 (dk_at dksX0_copy_2 4 rfl rfl)
theorem dX0_copy_52 : decode cX0_copy 52 = .ok (.iconst 1, 1) := dk_4 (dk_at dksX0_copy_2 5 rfl rfl)
theorem dX0_copy_53 : decode cX0_copy 53 = .ok (.invokevirtual 88, 3) := dk_182 0 88 (dk_at dksX0_copy_2 6 rfl rfl)
theorem dX0_copy_56 : decode cX0_copy 56 = .ok (.ireturn, 1) := dk_172 (dk_at dksX0_copy_2 9 rfl rfl)
theorem dX0_copy_57 : decode cX0_copy 57 = .ok (.astore 6, 2) := dk_58 6 (dk_at dksX0_copy_2 10 rfl rfl)
theorem dX0_copy_59 : decode cX0_copy 59 = .ok (.aload_n 0, 1) := dk_42 (dk_at dksX0_copy_2 12 rfl rfl)
theorem dX0_copy_60 : decode cX0_copy 60 = .ok (.iconst 2, 1) := dk_5 (dk_at dksX0_copy_2 13 rfl rfl)
theorem dX0_copy_61 : decode cX0_copy 61 = .ok (.invokevirtual 88, 3) := dk_182 0 88 (dk_at dksX0_copy_2 14 rfl rfl)
theorem dX0_copy_64 : decode cX0_copy 64 = .ok (.ireturn, 1) := dk_172 (dk_at dksX0_copy_2 17 rfl rfl)
abbrev cX0_mean : ByteArray := prog_1_method_12_code
def yX0_mean : MethodName := ⟨RX0, "mean", "(I)I"⟩
def dkwX0_mean_3 : List UInt8 := [42, 4, 182, 0, 88, 172, 77, 42, 7, 182, 0, 88, 172]
abbrev dktX0_mean_3 : List UInt8 := dkwX0_mean_3 ++ []
def dkwX0_mean_2 : List UInt8 := [132, 6, 1, 167, 255, 233, 42, 32, 42, 180, 0, 21, 27, 50, 190, 133, 109, 136, 4, 182, 0, 96, 172, 77]
abbrev dktX0_mean_2 : List UInt8 := dkwX0_mean_2 ++ dktX0_mean_3
def dkwX0_mean_1 : List UInt8 := [3, 54, 6, 21, 6, 21, 5, 162, 0, 22, 25, 4, 21, 6, 46, 54, 7, 32, 21, 7, 133, 97, 65]
abbrev dktX0_mean_1 : List UInt8 := dkwX0_mean_1 ++ dktX0_mean_2
def dkwX0_mean_0 : List UInt8 := [27, 184, 0, 82, 154, 0, 5, 2, 172, 9, 65, 42, 180, 0, 21, 27, 50, 58, 4, 25, 4, 190, 54, 5]
abbrev dktX0_mean_0 : List UInt8 := dkwX0_mean_0 ++ dktX0_mean_1
theorem dksX0_mean_0 : cX0_mean.data.toList.drop 0 = dktX0_mean_0 := by decide +kernel
theorem dksX0_mean_1 : cX0_mean.data.toList.drop 24 = dktX0_mean_1 := dk_seg dksX0_mean_0 24 rfl rfl
theorem dksX0_mean_2 : cX0_mean.data.toList.drop 47 = dktX0_mean_2 := dk_seg dksX0_mean_1 23 rfl rfl
theorem dksX0_mean_3 : cX0_mean.data.toList.drop 71 = dktX0_mean_3 := dk_seg dksX0_mean_2 24 rfl rfl
theorem dX0_mean_0 : decode cX0_mean 0 = .ok (.iload_n 1, 1) := dk_27 (dk_at dksX0_mean_0 0 rfl rfl)
theorem dX0_mean_1 : decode cX0_mean 1 = .ok (.invokestatic 82, 3) := dk_184 0 82 (dk_at dksX0_mean_0 1 rfl rfl)
theorem dX0_mean_4 : decode cX0_mean 4 = .ok (.ifCond .ne 5, 3) := dk_154 0 5 (dk_at dksX0_mean_0 4 rfl rfl)
theorem dX0_mean_7 : decode cX0_mean 7 = .ok (.iconst (-1), 1) := dk_2 (dk_at dksX0_mean_0 7 rfl rfl)
theorem dX0_mean_8 : decode cX0_mean 8 = .ok (.ireturn, 1) := dk_172 (dk_at dksX0_mean_0 8 rfl rfl)
theorem dX0_mean_9 : decode cX0_mean 9 = .ok (.lconst 0, 1) := dk_9 (dk_at dksX0_mean_0 9 rfl rfl)
theorem dX0_mean_10 : decode cX0_mean 10 = .ok (.lstore_n 2, 1) := dk_65 (dk_at dksX0_mean_0 10 rfl rfl)
theorem dX0_mean_11 : decode cX0_mean 11 = .ok (.aload_n 0, 1) := dk_42 (dk_at dksX0_mean_0 11 rfl rfl)
theorem dX0_mean_12 : decode cX0_mean 12 = .ok (.getfield 21, 3) := dk_180 0 21 (dk_at dksX0_mean_0 12 rfl rfl)
theorem dX0_mean_15 : decode cX0_mean 15 = .ok (.iload_n 1, 1) := dk_27 (dk_at dksX0_mean_0 15 rfl rfl)
theorem dX0_mean_16 : decode cX0_mean 16 = .ok (.aaload, 1) := dk_50 (dk_at dksX0_mean_0 16 rfl rfl)
theorem dX0_mean_17 : decode cX0_mean 17 = .ok (.astore 4, 2) := dk_58 4 (dk_at dksX0_mean_0 17 rfl rfl)
theorem dX0_mean_19 : decode cX0_mean 19 = .ok (.aload 4, 2) := dk_25 4 (dk_at dksX0_mean_0 19 rfl rfl)
theorem dX0_mean_21 : decode cX0_mean 21 = .ok (.arraylength, 1) := dk_190 (dk_at dksX0_mean_0 21 rfl rfl)
theorem dX0_mean_22 : decode cX0_mean 22 = .ok (.istore 5, 2) := dk_54 5 (dk_at dksX0_mean_0 22 rfl rfl)
theorem dX0_mean_24 : decode cX0_mean 24 = .ok (.iconst 0, 1) := dk_3 (dk_at dksX0_mean_1 0 rfl rfl)
theorem dX0_mean_25 : decode cX0_mean 25 = .ok (.istore 6, 2) := dk_54 6 (dk_at dksX0_mean_1 1 rfl rfl)
theorem dX0_mean_27 : decode cX0_mean 27 = .ok (.iload 6, 2) := dk_21 6 (dk_at dksX0_mean_1 3 rfl rfl)
theorem dX0_mean_29 : decode cX0_mean 29 = .ok (.iload 5, 2) := dk_21 5 (dk_at dksX0_mean_1 5 rfl rfl)
theorem dX0_mean_31 : decode cX0_mean 31 = .ok (.if_icmp .ge 22, 3) := dk_162 0 22 (dk_at dksX0_mean_1 7 rfl rfl)
theorem dX0_mean_34 : decode cX0_mean 34 = .ok (.aload 4, 2) := dk_25 4 (dk_at dksX0_mean_1 10 rfl rfl)
theorem dX0_mean_36 : decode cX0_mean 36 = .ok (.iload 6, 2) := dk_21 6 (dk_at dksX0_mean_1 12 rfl rfl)
theorem dX0_mean_38 : decode cX0_mean 38 = .ok (.iaload, 1) := dk_46 (dk_at dksX0_mean_1 14 rfl rfl)
theorem dX0_mean_39 : decode cX0_mean 39 = .ok (.istore 7, 2) := dk_54 7 (dk_at dksX0_mean_1 15 rfl rfl)
theorem dX0_mean_41 : decode cX0_mean 41 = .ok (.lload_n 2, 1) := dk_32 (dk_at dksX0_mean_1 17 rfl rfl)
theorem dX0_mean_42 : decode cX0_mean 42 = .ok (.iload 7, 2) := dk_21 7 (dk_at dksX0_mean_1 18 rfl rfl)
theorem dX0_mean_44 : decode cX0_mean 44 = .ok (.i2l, 1) := dk_133 (dk_at dksX0_mean_1 20 rfl rfl)
theorem dX0_mean_45 : decode cX0_mean 45 = .ok (.ladd, 1) := dk_97 (dk_at dksX0_mean_1 21 rfl rfl)
theorem dX0_mean_46 : decode cX0_mean 46 = .ok (.lstore_n 2, 1) := dk_65 (dk_at dksX0_mean_1 22 rfl rfl)
theorem dX0_mean_47 : decode cX0_mean 47 = .ok (.iinc 6 1, 3) := dk_132 6 1 (dk_at dksX0_mean_2 0 rfl rfl)
theorem dX0_mean_50 : decode cX0_mean 50 = .ok (.goto (-23), 3) := dk_167 255 233 (dk_at dksX0_mean_2 3 rfl rfl)
theorem dX0_mean_53 : decode cX0_mean 53 = .ok (.aload_n 0, 1) := dk_42 (dk_at dksX0_mean_2 6 rfl rfl)
theorem dX0_mean_54 : decode cX0_mean 54 = .ok (.lload_n 2, 1) := dk_32 (dk_at dksX0_mean_2 7 rfl rfl)
theorem dX0_mean_55 : decode cX0_mean 55 = .ok (.aload_n 0, 1) := dk_42 (dk_at dksX0_mean_2 8 rfl rfl)
theorem dX0_mean_56 : decode cX0_mean 56 = .ok (.getfield 21, 3) := dk_180 0 21 (dk_at dksX0_mean_2 9 rfl rfl)
theorem dX0_mean_59 : decode cX0_mean 59 = .ok (.iload_n 1, 1) := dk_27 (dk_at dksX0_mean_2 12 rfl rfl)
theorem dX0_mean_60 : decode cX0_mean 60 = .ok (.aaload, 1) := dk_50 (dk_at dksX0_mean_2 13 rfl rfl)
theorem dX0_mean_61 : decode cX0_mean 61 = .ok (.arraylength, 1) := dk_190 (dk_at dksX0_mean_2 14 rfl rfl)
theorem dX0_mean_62 : decode cX0_mean 62 = .ok (.i2l, 1) := dk_133 (dk_at dksX0_mean_2 15 rfl rfl)
theorem dX0_mean_63 : decode cX0_mean 63 = .ok (.ldiv, 1) := dk_109 (dk_at dksX0_mean_2 16 rfl rfl)
theorem dX0_mean_64 : decode cX0_mean 64 = .ok (.l2i, 1) := dk_136 (dk_at dksX0_mean_2 17 rfl rfl)
theorem dX0_mean_65 : decode cX0_mean 65 = .ok (.iconst 1, 1) := dk_4 (dk_at dksX0_mean_2 18 rfl rfl)
theorem dX0_mean_66 : decode cX0_mean 66 = .ok (.invokevirtual 96, 3) := dk_182 0 96 (dk_at dksX0_mean_2 19 rfl rfl)
theorem dX0_mean_69 : decode cX0_mean 69 = .ok (.ireturn, 1) := dk_172 (dk_at dksX0_mean_2 22 rfl rfl)
theorem dX0_mean_70 : decode cX0_mean 70 = .ok (.astore_n 2, 1) := dk_77 (dk_at dksX0_mean_2 23 rfl rfl)
theorem dX0_mean_71 : decode cX0_mean 71 = .ok (.aload_n 0, 1) := dk_42 (dk_at dksX0_mean_3 0 rfl rfl)
theorem dX0_mean_72 : decode cX0_mean 72 = .ok (.iconst 1, 1) := dk_4 (dk_at dksX0_mean_3 1 rfl rfl)
theorem dX0_mean_73 : decode cX0_mean 73 = .ok (.invokevirtual 88, 3) := dk_182 0 88 (dk_at dksX0_mean_3 2 rfl rfl)
theorem dX0_mean_76 : decode cX0_mean 76 = .ok (.ireturn, 1) := dk_172 (dk_at dksX0_mean_3 5 rfl rfl)
theorem dX0_mean_77 : decode cX0_mean 77 = .ok (.astore_n 2, 1) := dk_77 (dk_at dksX0_mean_3 6 rfl rfl)
theorem dX0_mean_78 : decode cX0_mean 78 = .ok (.aload_n 0, 1) := dk_42 (dk_at dksX0_mean_3 7 rfl rfl)
theorem dX0_mean_79 : decode cX0_mean 79 = .ok (.iconst 4, 1) := dk_7 (dk_at dksX0_mean_3 8 rfl rfl)
theorem dX0_mean_80 : decode cX0_mean 80 = .ok (.invokevirtual 88, 3) := dk_182 0 88 (dk_at dksX0_mean_3 9 rfl rfl)
theorem dX0_mean_83 : decode cX0_mean 83 = .ok (.ireturn, 1) := dk_172 (dk_at dksX0_mean_3 12 rfl rfl)
abbrev cX0_text : ByteArray := prog_1_method_13_code
def yX0_text : MethodName := ⟨RX0, "text", "(II)I"⟩
def dkwX0_text_2 : List UInt8 := [172, 78, 42, 8, 182, 0, 88, 172]
abbrev dktX0_text_2 : List UInt8 := dkwX0_text_2 ++ []
def dkwX0_text_1 : List UInt8 := [28, 162, 0, 15, 45, 21, 4, 16, 32, 84, 132, 4, 1, 167, 255, 241, 42, 180, 0, 27, 27, 45, 83, 28]
abbrev dktX0_text_1 : List UInt8 := dkwX0_text_1 ++ dktX0_text_2
def dkwX0_text_0 : List UInt8 := [27, 184, 0, 113, 153, 0, 9, 28, 16, 120, 164, 0, 5, 2, 172, 28, 188, 8, 78, 3, 54, 4, 21, 4]
abbrev dktX0_text_0 : List UInt8 := dkwX0_text_0 ++ dktX0_text_1
theorem dksX0_text_0 : cX0_text.data.toList.drop 0 = dktX0_text_0 := by decide +kernel
theorem dksX0_text_1 : cX0_text.data.toList.drop 24 = dktX0_text_1 := dk_seg dksX0_text_0 24 rfl rfl
theorem dksX0_text_2 : cX0_text.data.toList.drop 48 = dktX0_text_2 := dk_seg dksX0_text_1 24 rfl rfl
theorem dX0_text_0 : decode cX0_text 0 = .ok (.iload_n 1, 1) := dk_27 (dk_at dksX0_text_0 0 rfl rfl)
theorem dX0_text_1 : decode cX0_text 1 = .ok (.invokestatic 113, 3) := dk_184 0 113 (dk_at dksX0_text_0 1 rfl rfl)
theorem dX0_text_4 : decode cX0_text 4 = .ok (.ifCond .eq 9, 3) := dk_153 0 9 (dk_at dksX0_text_0 4 rfl rfl)
theorem dX0_text_7 : decode cX0_text 7 = .ok (.iload_n 2, 1) := dk_28 (dk_at dksX0_text_0 7 rfl rfl)
theorem dX0_text_8 : decode cX0_text 8 = .ok (.bipush 120, 2) := dk_16 120 (dk_at dksX0_text_0 8 rfl rfl)
theorem dX0_text_10 : decode cX0_text 10 = .ok (.if_icmp .le 5, 3) := dk_164 0 5 (dk_at dksX0_text_0 10 rfl rfl)
theorem dX0_text_13 : decode cX0_text 13 = .ok (.iconst (-1), 1) := dk_2 (dk_at dksX0_text_0 13 rfl rfl)
theorem dX0_text_14 : decode cX0_text 14 = .ok (.ireturn, 1) := dk_172 (dk_at dksX0_text_0 14 rfl rfl)
theorem dX0_text_15 : decode cX0_text 15 = .ok (.iload_n 2, 1) := dk_28 (dk_at dksX0_text_0 15 rfl rfl)
theorem dX0_text_16 : decode cX0_text 16 = .ok (.newarray .byte, 2) := dk_188_8 (dk_at dksX0_text_0 16 rfl rfl)
theorem dX0_text_18 : decode cX0_text 18 = .ok (.astore_n 3, 1) := dk_78 (dk_at dksX0_text_0 18 rfl rfl)
theorem dX0_text_19 : decode cX0_text 19 = .ok (.iconst 0, 1) := dk_3 (dk_at dksX0_text_0 19 rfl rfl)
theorem dX0_text_20 : decode cX0_text 20 = .ok (.istore 4, 2) := dk_54 4 (dk_at dksX0_text_0 20 rfl rfl)
theorem dX0_text_22 : decode cX0_text 22 = .ok (.iload 4, 2) := dk_21 4 (dk_at dksX0_text_0 22 rfl rfl)
theorem dX0_text_24 : decode cX0_text 24 = .ok (.iload_n 2, 1) := dk_28 (dk_at dksX0_text_1 0 rfl rfl)
theorem dX0_text_25 : decode cX0_text 25 = .ok (.if_icmp .ge 15, 3) := dk_162 0 15 (dk_at dksX0_text_1 1 rfl rfl)
theorem dX0_text_28 : decode cX0_text 28 = .ok (.aload_n 3, 1) := dk_45 (dk_at dksX0_text_1 4 rfl rfl)
theorem dX0_text_29 : decode cX0_text 29 = .ok (.iload 4, 2) := dk_21 4 (dk_at dksX0_text_1 5 rfl rfl)
theorem dX0_text_31 : decode cX0_text 31 = .ok (.bipush 32, 2) := dk_16 32 (dk_at dksX0_text_1 7 rfl rfl)
theorem dX0_text_33 : decode cX0_text 33 = .ok (.bastore, 1) := dk_84 (dk_at dksX0_text_1 9 rfl rfl)
theorem dX0_text_34 : decode cX0_text 34 = .ok (.iinc 4 1, 3) := dk_132 4 1 (dk_at dksX0_text_1 10 rfl rfl)
theorem dX0_text_37 : decode cX0_text 37 = .ok (.goto (-15), 3) := dk_167 255 241 (dk_at dksX0_text_1 13 rfl rfl)
theorem dX0_text_40 : decode cX0_text 40 = .ok (.aload_n 0, 1) := dk_42 (dk_at dksX0_text_1 16 rfl rfl)
theorem dX0_text_41 : decode cX0_text 41 = .ok (.getfield 27, 3) := dk_180 0 27 (dk_at dksX0_text_1 17 rfl rfl)
theorem dX0_text_44 : decode cX0_text 44 = .ok (.iload_n 1, 1) := dk_27 (dk_at dksX0_text_1 20 rfl rfl)
theorem dX0_text_45 : decode cX0_text 45 = .ok (.aload_n 3, 1) := dk_45 (dk_at dksX0_text_1 21 rfl rfl)
theorem dX0_text_46 : decode cX0_text 46 = .ok (.aastore, 1) := dk_83 (dk_at dksX0_text_1 22 rfl rfl)
theorem dX0_text_47 : decode cX0_text 47 = .ok (.iload_n 2, 1) := dk_28 (dk_at dksX0_text_1 23 rfl rfl)
theorem dX0_text_48 : decode cX0_text 48 = .ok (.ireturn, 1) := dk_172 (dk_at dksX0_text_2 0 rfl rfl)
theorem dX0_text_49 : decode cX0_text 49 = .ok (.astore_n 3, 1) := dk_78 (dk_at dksX0_text_2 1 rfl rfl)
theorem dX0_text_50 : decode cX0_text 50 = .ok (.aload_n 0, 1) := dk_42 (dk_at dksX0_text_2 2 rfl rfl)
theorem dX0_text_51 : decode cX0_text 51 = .ok (.iconst 5, 1) := dk_8 (dk_at dksX0_text_2 3 rfl rfl)
theorem dX0_text_52 : decode cX0_text 52 = .ok (.invokevirtual 88, 3) := dk_182 0 88 (dk_at dksX0_text_2 4 rfl rfl)
theorem dX0_text_55 : decode cX0_text 55 = .ok (.ireturn, 1) := dk_172 (dk_at dksX0_text_2 7 rfl rfl)
abbrev cX0_isText : ByteArray := prog_1_method_6_code
def yX0_isText : MethodName := ⟨RX0, "isText", "(I)Z"⟩
def dkwX0_isText_0 : List UInt8 := [26, 3, 6, 184, 0, 78, 172]
abbrev dktX0_isText_0 : List UInt8 := dkwX0_isText_0 ++ []
theorem dksX0_isText_0 : cX0_isText.data.toList.drop 0 = dktX0_isText_0 := by decide +kernel
theorem dX0_isText_0 : decode cX0_isText 0 = .ok (.iload_n 0, 1) := dk_26 (dk_at dksX0_isText_0 0 rfl rfl)
theorem dX0_isText_1 : decode cX0_isText 1 = .ok (.iconst 0, 1) := dk_3 (dk_at dksX0_isText_0 1 rfl rfl)
theorem dX0_isText_2 : decode cX0_isText 2 = .ok (.iconst 3, 1) := dk_6 (dk_at dksX0_isText_0 2 rfl rfl)
theorem dX0_isText_3 : decode cX0_isText 3 = .ok (.invokestatic 78, 3) := dk_184 0 78 (dk_at dksX0_isText_0 3 rfl rfl)
theorem dX0_isText_6 : decode cX0_isText 6 = .ok (.ireturn, 1) := dk_172 (dk_at dksX0_isText_0 6 rfl rfl)
abbrev cX0_put : ByteArray := prog_1_method_14_code
def yX0_put : MethodName := ⟨RX0, "put", "(III)I"⟩
def dkwX0_put_2 : List UInt8 := [182, 0, 88, 172]
abbrev dktX0_put_2 : List UInt8 := dkwX0_put_2 ++ []
def dkwX0_put_1 : List UInt8 := [50, 28, 29, 145, 84, 21, 4, 17, 3, 232, 96, 172, 58, 4, 42, 4, 182, 0, 88, 172, 58, 4, 42, 5]
abbrev dktX0_put_1 : List UInt8 := dkwX0_put_1 ++ dktX0_put_2
def dkwX0_put_0 : List UInt8 := [27, 184, 0, 113, 154, 0, 5, 2, 172, 42, 180, 0, 27, 27, 50, 28, 51, 54, 4, 42, 180, 0, 27, 27]
abbrev dktX0_put_0 : List UInt8 := dkwX0_put_0 ++ dktX0_put_1
theorem dksX0_put_0 : cX0_put.data.toList.drop 0 = dktX0_put_0 := by decide +kernel
theorem dksX0_put_1 : cX0_put.data.toList.drop 24 = dktX0_put_1 := dk_seg dksX0_put_0 24 rfl rfl
theorem dksX0_put_2 : cX0_put.data.toList.drop 48 = dktX0_put_2 := dk_seg dksX0_put_1 24 rfl rfl
theorem dX0_put_0 : decode cX0_put 0 = .ok (.iload_n 1, 1) := dk_27 (dk_at dksX0_put_0 0 rfl rfl)
theorem dX0_put_1 : decode cX0_put 1 = .ok (.invokestatic 113, 3) := dk_184 0 113 (dk_at dksX0_put_0 1 rfl rfl)
theorem dX0_put_4 : decode cX0_put 4 = .ok (.ifCond .ne 5, 3) := dk_154 0 5 (dk_at dksX0_put_0 4 rfl rfl)
theorem dX0_put_7 : decode cX0_put 7 = .ok (.iconst (-1), 1) := dk_2 (dk_at dksX0_put_0 7 rfl rfl)
theorem dX0_put_8 : decode cX0_put 8 = .ok (.ireturn, 1) := dk_172 (dk_at dksX0_put_0 8 rfl rfl)
theorem dX0_put_9 : decode cX0_put 9 = .ok (.aload_n 0, 1) := dk_42 (dk_at dksX0_put_0 9 rfl rfl)
theorem dX0_put_10 : decode cX0_put 10 = .ok (.getfield 27, 3) := dk_180 0 27 (dk_at dksX0_put_0 10 rfl rfl)
theorem dX0_put_13 : decode cX0_put 13 = .ok (.iload_n 1, 1) := dk_27 (dk_at dksX0_put_0 13 rfl rfl)
theorem dX0_put_14 : decode cX0_put 14 = .ok (.aaload, 1) := dk_50 (dk_at dksX0_put_0 14 rfl rfl)
theorem dX0_put_15 : decode cX0_put 15 = .ok (.iload_n 2, 1) := dk_28 (dk_at dksX0_put_0 15 rfl rfl)
theorem dX0_put_16 : decode cX0_put 16 = .ok (.baload, 1) := dk_51 (dk_at dksX0_put_0 16 rfl rfl)
theorem dX0_put_17 : decode cX0_put 17 = .ok (.istore 4, 2) := dk_54 4 (dk_at dksX0_put_0 17 rfl rfl)
theorem dX0_put_19 : decode cX0_put 19 = .ok (.aload_n 0, 1) := dk_42 (dk_at dksX0_put_0 19 rfl rfl)
theorem dX0_put_20 : decode cX0_put 20 = .ok (.getfield 27, 3) := dk_180 0 27 (dk_at dksX0_put_0 20 rfl rfl)
theorem dX0_put_23 : decode cX0_put 23 = .ok (.iload_n 1, 1) := dk_27 (dk_at dksX0_put_0 23 rfl rfl)
theorem dX0_put_24 : decode cX0_put 24 = .ok (.aaload, 1) := dk_50 (dk_at dksX0_put_1 0 rfl rfl)
theorem dX0_put_25 : decode cX0_put 25 = .ok (.iload_n 2, 1) := dk_28 (dk_at dksX0_put_1 1 rfl rfl)
theorem dX0_put_26 : decode cX0_put 26 = .ok (.iload_n 3, 1) := dk_29 (dk_at dksX0_put_1 2 rfl rfl)
theorem dX0_put_27 : decode cX0_put 27 = .ok (.i2b, 1) := dk_145 (dk_at dksX0_put_1 3 rfl rfl)
theorem dX0_put_28 : decode cX0_put 28 = .ok (.bastore, 1) := dk_84 (dk_at dksX0_put_1 4 rfl rfl)
theorem dX0_put_29 : decode cX0_put 29 = .ok (.iload 4, 2) := dk_21 4 (dk_at dksX0_put_1 5 rfl rfl)
theorem dX0_put_31 : decode cX0_put 31 = .ok (.sipush 1000, 3) := dk_17 3 232 (dk_at dksX0_put_1 7 rfl rfl)
theorem dX0_put_34 : decode cX0_put 34 = .ok (.iadd, 1) := dk_96 (dk_at dksX0_put_1 10 rfl rfl)
theorem dX0_put_35 : decode cX0_put 35 = .ok (.ireturn, 1) := dk_172 (dk_at dksX0_put_1 11 rfl rfl)
theorem dX0_put_36 : decode cX0_put 36 = .ok (.astore 4, 2) := dk_58 4 (dk_at dksX0_put_1 12 rfl rfl)
theorem dX0_put_38 : decode cX0_put 38 = .ok (.aload_n 0, 1) := dk_42 (dk_at dksX0_put_1 14 rfl rfl)
theorem dX0_put_39 : decode cX0_put 39 = .ok (.iconst 1, 1) := dk_4 (dk_at dksX0_put_1 15 rfl rfl)
theorem dX0_put_40 : decode cX0_put 40 = .ok (.invokevirtual 88, 3) := dk_182 0 88 (dk_at dksX0_put_1 16 rfl rfl)
theorem dX0_put_43 : decode cX0_put 43 = .ok (.ireturn, 1) := dk_172 (dk_at dksX0_put_1 19 rfl rfl)
theorem dX0_put_44 : decode cX0_put 44 = .ok (.astore 4, 2) := dk_58 4 (dk_at dksX0_put_1 20 rfl rfl)
theorem dX0_put_46 : decode cX0_put 46 = .ok (.aload_n 0, 1) := dk_42 (dk_at dksX0_put_1 22 rfl rfl)
theorem dX0_put_47 : decode cX0_put 47 = .ok (.iconst 2, 1) := dk_5 (dk_at dksX0_put_1 23 rfl rfl)
theorem dX0_put_48 : decode cX0_put 48 = .ok (.invokevirtual 88, 3) := dk_182 0 88 (dk_at dksX0_put_2 0 rfl rfl)
theorem dX0_put_51 : decode cX0_put 51 = .ok (.ireturn, 1) := dk_172 (dk_at dksX0_put_2 3 rfl rfl)
abbrev cX0_fault : ByteArray := prog_1_method_28_code
def yX0_fault : MethodName := ⟨RX0, "fault", "(I)I"⟩
def dkwX0_fault_1 : List UInt8 := [167, 0, 13, 42, 42, 180, 0, 27, 27, 50, 182, 0, 241, 172]
abbrev dktX0_fault_1 : List UInt8 := dkwX0_fault_1 ++ []
def dkwX0_fault_0 : List UInt8 := [27, 184, 0, 113, 154, 0, 5, 2, 172, 42, 180, 0, 27, 27, 50, 199, 0, 11, 42, 4, 182, 0, 88]
abbrev dktX0_fault_0 : List UInt8 := dkwX0_fault_0 ++ dktX0_fault_1
theorem dksX0_fault_0 : cX0_fault.data.toList.drop 0 = dktX0_fault_0 := by decide +kernel
theorem dksX0_fault_1 : cX0_fault.data.toList.drop 23 = dktX0_fault_1 := dk_seg dksX0_fault_0 23 rfl rfl
theorem dX0_fault_0 : decode cX0_fault 0 = .ok (.iload_n 1, 1) := dk_27 (dk_at dksX0_fault_0 0 rfl rfl)
theorem dX0_fault_1 : decode cX0_fault 1 = .ok (.invokestatic 113, 3) := dk_184 0 113 (dk_at dksX0_fault_0 1 rfl rfl)
theorem dX0_fault_4 : decode cX0_fault 4 = .ok (.ifCond .ne 5, 3) := dk_154 0 5 (dk_at dksX0_fault_0 4 rfl rfl)
theorem dX0_fault_7 : decode cX0_fault 7 = .ok (.iconst (-1), 1) := dk_2 (dk_at dksX0_fault_0 7 rfl rfl)
theorem dX0_fault_8 : decode cX0_fault 8 = .ok (.ireturn, 1) := dk_172 (dk_at dksX0_fault_0 8 rfl rfl)
theorem dX0_fault_9 : decode cX0_fault 9 = .ok (.aload_n 0, 1) := dk_42 (dk_at dksX0_fault_0 9 rfl rfl)
theorem dX0_fault_10 : decode cX0_fault 10 = .ok (.getfield 27, 3) := dk_180 0 27 (dk_at dksX0_fault_0 10 rfl rfl)
theorem dX0_fault_13 : decode cX0_fault 13 = .ok (.iload_n 1, 1) := dk_27 (dk_at dksX0_fault_0 13 rfl rfl)
theorem dX0_fault_14 : decode cX0_fault 14 = .ok (.aaload, 1) := dk_50 (dk_at dksX0_fault_0 14 rfl rfl)
theorem dX0_fault_15 : decode cX0_fault 15 = .ok (.ifnonnull 11, 3) := dk_199 0 11 (dk_at dksX0_fault_0 15 rfl rfl)
theorem dX0_fault_18 : decode cX0_fault 18 = .ok (.aload_n 0, 1) := dk_42 (dk_at dksX0_fault_0 18 rfl rfl)
theorem dX0_fault_19 : decode cX0_fault 19 = .ok (.iconst 1, 1) := dk_4 (dk_at dksX0_fault_0 19 rfl rfl)
theorem dX0_fault_20 : decode cX0_fault 20 = .ok (.invokevirtual 88, 3) := dk_182 0 88 (dk_at dksX0_fault_0 20 rfl rfl)
theorem dX0_fault_23 : decode cX0_fault 23 = .ok (.goto 13, 3) := dk_167 0 13 (dk_at dksX0_fault_1 0 rfl rfl)
theorem dX0_fault_26 : decode cX0_fault 26 = .ok (.aload_n 0, 1) := dk_42 (dk_at dksX0_fault_1 3 rfl rfl)
theorem dX0_fault_27 : decode cX0_fault 27 = .ok (.aload_n 0, 1) := dk_42 (dk_at dksX0_fault_1 4 rfl rfl)
theorem dX0_fault_28 : decode cX0_fault 28 = .ok (.getfield 27, 3) := dk_180 0 27 (dk_at dksX0_fault_1 5 rfl rfl)
theorem dX0_fault_31 : decode cX0_fault 31 = .ok (.iload_n 1, 1) := dk_27 (dk_at dksX0_fault_1 8 rfl rfl)
theorem dX0_fault_32 : decode cX0_fault 32 = .ok (.aaload, 1) := dk_50 (dk_at dksX0_fault_1 9 rfl rfl)
theorem dX0_fault_33 : decode cX0_fault 33 = .ok (.invokevirtual 241, 3) := dk_182 0 241 (dk_at dksX0_fault_1 10 rfl rfl)
theorem dX0_fault_36 : decode cX0_fault 36 = .ok (.ireturn, 1) := dk_172 (dk_at dksX0_fault_1 13 rfl rfl)
abbrev cX0_reads : ByteArray := prog_1_method_27_code
def yX0_reads : MethodName := ⟨RX0, "reads", "([B)I"⟩
def dkwX0_reads_3 : List UInt8 := [154, 0, 8, 43, 190, 167, 0, 5, 16, 247, 172]
abbrev dktX0_reads_3 : List UInt8 := dkwX0_reads_3 ++ []
def dkwX0_reads_2 : List UInt8 := [182, 0, 238, 154, 0, 8, 42, 180, 0, 170, 172, 42, 182, 0, 173, 167, 255, 231, 42, 180, 0, 209]
abbrev dktX0_reads_2 : List UInt8 := dkwX0_reads_2 ++ dktX0_reads_3
def dkwX0_reads_1 : List UInt8 := [181, 0, 199, 42, 16, 247, 181, 0, 206, 42, 182, 0, 173, 42, 180, 0, 161, 43, 190, 162, 0, 22, 42]
abbrev dktX0_reads_1 : List UInt8 := dkwX0_reads_1 ++ dktX0_reads_2
def dkwX0_reads_0 : List UInt8 := [42, 43, 181, 0, 164, 42, 3, 181, 0, 161, 42, 3, 181, 0, 209, 42, 3, 181, 0, 192, 42, 3]
abbrev dktX0_reads_0 : List UInt8 := dkwX0_reads_0 ++ dktX0_reads_1
theorem dksX0_reads_0 : cX0_reads.data.toList.drop 0 = dktX0_reads_0 := by decide +kernel
theorem dksX0_reads_1 : cX0_reads.data.toList.drop 22 = dktX0_reads_1 := dk_seg dksX0_reads_0 22 rfl rfl
theorem dksX0_reads_2 : cX0_reads.data.toList.drop 45 = dktX0_reads_2 := dk_seg dksX0_reads_1 23 rfl rfl
theorem dksX0_reads_3 : cX0_reads.data.toList.drop 67 = dktX0_reads_3 := dk_seg dksX0_reads_2 22 rfl rfl
theorem dX0_reads_0 : decode cX0_reads 0 = .ok (.aload_n 0, 1) := dk_42 (dk_at dksX0_reads_0 0 rfl rfl)
theorem dX0_reads_1 : decode cX0_reads 1 = .ok (.aload_n 1, 1) := dk_43 (dk_at dksX0_reads_0 1 rfl rfl)
theorem dX0_reads_2 : decode cX0_reads 2 = .ok (.putfield 164, 3) := dk_181 0 164 (dk_at dksX0_reads_0 2 rfl rfl)
theorem dX0_reads_5 : decode cX0_reads 5 = .ok (.aload_n 0, 1) := dk_42 (dk_at dksX0_reads_0 5 rfl rfl)
theorem dX0_reads_6 : decode cX0_reads 6 = .ok (.iconst 0, 1) := dk_3 (dk_at dksX0_reads_0 6 rfl rfl)
theorem dX0_reads_7 : decode cX0_reads 7 = .ok (.putfield 161, 3) := dk_181 0 161 (dk_at dksX0_reads_0 7 rfl rfl)
theorem dX0_reads_10 : decode cX0_reads 10 = .ok (.aload_n 0, 1) := dk_42 (dk_at dksX0_reads_0 10 rfl rfl)
theorem dX0_reads_11 : decode cX0_reads 11 = .ok (.iconst 0, 1) := dk_3 (dk_at dksX0_reads_0 11 rfl rfl)
theorem dX0_reads_12 : decode cX0_reads 12 = .ok (.putfield 209, 3) := dk_181 0 209 (dk_at dksX0_reads_0 12 rfl rfl)
theorem dX0_reads_15 : decode cX0_reads 15 = .ok (.aload_n 0, 1) := dk_42 (dk_at dksX0_reads_0 15 rfl rfl)
theorem dX0_reads_16 : decode cX0_reads 16 = .ok (.iconst 0, 1) := dk_3 (dk_at dksX0_reads_0 16 rfl rfl)
theorem dX0_reads_17 : decode cX0_reads 17 = .ok (.putfield 192, 3) := dk_181 0 192 (dk_at dksX0_reads_0 17 rfl rfl)
theorem dX0_reads_20 : decode cX0_reads 20 = .ok (.aload_n 0, 1) := dk_42 (dk_at dksX0_reads_0 20 rfl rfl)
theorem dX0_reads_21 : decode cX0_reads 21 = .ok (.iconst 0, 1) := dk_3 (dk_at dksX0_reads_0 21 rfl rfl)
theorem dX0_reads_22 : decode cX0_reads 22 = .ok (.putfield 199, 3) := dk_181 0 199 (dk_at dksX0_reads_1 0 rfl rfl)
theorem dX0_reads_25 : decode cX0_reads 25 = .ok (.aload_n 0, 1) := dk_42 (dk_at dksX0_reads_1 3 rfl rfl)
theorem dX0_reads_26 : decode cX0_reads 26 = .ok (.bipush (-9), 2) := dk_16 247 (dk_at dksX0_reads_1 4 rfl rfl)
theorem dX0_reads_28 : decode cX0_reads 28 = .ok (.putfield 206, 3) := dk_181 0 206 (dk_at dksX0_reads_1 6 rfl rfl)
theorem dX0_reads_31 : decode cX0_reads 31 = .ok (.aload_n 0, 1) := dk_42 (dk_at dksX0_reads_1 9 rfl rfl)
theorem dX0_reads_32 : decode cX0_reads 32 = .ok (.invokevirtual 173, 3) := dk_182 0 173 (dk_at dksX0_reads_1 10 rfl rfl)
theorem dX0_reads_35 : decode cX0_reads 35 = .ok (.aload_n 0, 1) := dk_42 (dk_at dksX0_reads_1 13 rfl rfl)
theorem dX0_reads_36 : decode cX0_reads 36 = .ok (.getfield 161, 3) := dk_180 0 161 (dk_at dksX0_reads_1 14 rfl rfl)
theorem dX0_reads_39 : decode cX0_reads 39 = .ok (.aload_n 1, 1) := dk_43 (dk_at dksX0_reads_1 17 rfl rfl)
theorem dX0_reads_40 : decode cX0_reads 40 = .ok (.arraylength, 1) := dk_190 (dk_at dksX0_reads_1 18 rfl rfl)
theorem dX0_reads_41 : decode cX0_reads 41 = .ok (.if_icmp .ge 22, 3) := dk_162 0 22 (dk_at dksX0_reads_1 19 rfl rfl)
theorem dX0_reads_44 : decode cX0_reads 44 = .ok (.aload_n 0, 1) := dk_42 (dk_at dksX0_reads_1 22 rfl rfl)
theorem dX0_reads_45 : decode cX0_reads 45 = .ok (.invokevirtual 238, 3) := dk_182 0 238 (dk_at dksX0_reads_2 0 rfl rfl)
theorem dX0_reads_48 : decode cX0_reads 48 = .ok (.ifCond .ne 8, 3) := dk_154 0 8 (dk_at dksX0_reads_2 3 rfl rfl)
theorem dX0_reads_51 : decode cX0_reads 51 = .ok (.aload_n 0, 1) := dk_42 (dk_at dksX0_reads_2 6 rfl rfl)
theorem dX0_reads_52 : decode cX0_reads 52 = .ok (.getfield 170, 3) := dk_180 0 170 (dk_at dksX0_reads_2 7 rfl rfl)
theorem dX0_reads_55 : decode cX0_reads 55 = .ok (.ireturn, 1) := dk_172 (dk_at dksX0_reads_2 10 rfl rfl)
theorem dX0_reads_56 : decode cX0_reads 56 = .ok (.aload_n 0, 1) := dk_42 (dk_at dksX0_reads_2 11 rfl rfl)
theorem dX0_reads_57 : decode cX0_reads 57 = .ok (.invokevirtual 173, 3) := dk_182 0 173 (dk_at dksX0_reads_2 12 rfl rfl)
theorem dX0_reads_60 : decode cX0_reads 60 = .ok (.goto (-25), 3) := dk_167 255 231 (dk_at dksX0_reads_2 15 rfl rfl)
theorem dX0_reads_63 : decode cX0_reads 63 = .ok (.aload_n 0, 1) := dk_42 (dk_at dksX0_reads_2 18 rfl rfl)
theorem dX0_reads_64 : decode cX0_reads 64 = .ok (.getfield 209, 3) := dk_180 0 209 (dk_at dksX0_reads_2 19 rfl rfl)
theorem dX0_reads_67 : decode cX0_reads 67 = .ok (.ifCond .ne 8, 3) := dk_154 0 8 (dk_at dksX0_reads_3 0 rfl rfl)
theorem dX0_reads_70 : decode cX0_reads 70 = .ok (.aload_n 1, 1) := dk_43 (dk_at dksX0_reads_3 3 rfl rfl)
theorem dX0_reads_71 : decode cX0_reads 71 = .ok (.arraylength, 1) := dk_190 (dk_at dksX0_reads_3 4 rfl rfl)
theorem dX0_reads_72 : decode cX0_reads 72 = .ok (.goto 5, 3) := dk_167 0 5 (dk_at dksX0_reads_3 5 rfl rfl)
theorem dX0_reads_75 : decode cX0_reads 75 = .ok (.bipush (-9), 2) := dk_16 247 (dk_at dksX0_reads_3 8 rfl rfl)
theorem dX0_reads_77 : decode cX0_reads 77 = .ok (.ireturn, 1) := dk_172 (dk_at dksX0_reads_3 10 rfl rfl)
abbrev cX0_skips : ByteArray := prog_1_method_19_code
def yX0_skips : MethodName := ⟨RX0, "skips", "()V"⟩
def dkwX0_skips_1 : List UInt8 := [180, 0, 161, 181, 0, 170, 177]
abbrev dktX0_skips_1 : List UInt8 := dkwX0_skips_1 ++ []
def dkwX0_skips_0 : List UInt8 := [42, 182, 0, 167, 16, 32, 160, 0, 16, 42, 89, 180, 0, 161, 4, 96, 181, 0, 161, 167, 255, 237, 42, 42]
abbrev dktX0_skips_0 : List UInt8 := dkwX0_skips_0 ++ dktX0_skips_1
theorem dksX0_skips_0 : cX0_skips.data.toList.drop 0 = dktX0_skips_0 := by decide +kernel
theorem dksX0_skips_1 : cX0_skips.data.toList.drop 24 = dktX0_skips_1 := dk_seg dksX0_skips_0 24 rfl rfl
theorem dX0_skips_0 : decode cX0_skips 0 = .ok (.aload_n 0, 1) := dk_42 (dk_at dksX0_skips_0 0 rfl rfl)
theorem dX0_skips_1 : decode cX0_skips 1 = .ok (.invokevirtual 167, 3) := dk_182 0 167 (dk_at dksX0_skips_0 1 rfl rfl)
theorem dX0_skips_4 : decode cX0_skips 4 = .ok (.bipush 32, 2) := dk_16 32 (dk_at dksX0_skips_0 4 rfl rfl)
theorem dX0_skips_6 : decode cX0_skips 6 = .ok (.if_icmp .ne 16, 3) := dk_160 0 16 (dk_at dksX0_skips_0 6 rfl rfl)
theorem dX0_skips_9 : decode cX0_skips 9 = .ok (.aload_n 0, 1) := dk_42 (dk_at dksX0_skips_0 9 rfl rfl)
theorem dX0_skips_10 : decode cX0_skips 10 = .ok (.dup, 1) := dk_89 (dk_at dksX0_skips_0 10 rfl rfl)
theorem dX0_skips_11 : decode cX0_skips 11 = .ok (.getfield 161, 3) := dk_180 0 161 (dk_at dksX0_skips_0 11 rfl rfl)
theorem dX0_skips_14 : decode cX0_skips 14 = .ok (.iconst 1, 1) := dk_4 (dk_at dksX0_skips_0 14 rfl rfl)
theorem dX0_skips_15 : decode cX0_skips 15 = .ok (.iadd, 1) := dk_96 (dk_at dksX0_skips_0 15 rfl rfl)
theorem dX0_skips_16 : decode cX0_skips 16 = .ok (.putfield 161, 3) := dk_181 0 161 (dk_at dksX0_skips_0 16 rfl rfl)
theorem dX0_skips_19 : decode cX0_skips 19 = .ok (.goto (-19), 3) := dk_167 255 237 (dk_at dksX0_skips_0 19 rfl rfl)
theorem dX0_skips_22 : decode cX0_skips 22 = .ok (.aload_n 0, 1) := dk_42 (dk_at dksX0_skips_0 22 rfl rfl)
theorem dX0_skips_23 : decode cX0_skips 23 = .ok (.aload_n 0, 1) := dk_42 (dk_at dksX0_skips_0 23 rfl rfl)
theorem dX0_skips_24 : decode cX0_skips 24 = .ok (.getfield 161, 3) := dk_180 0 161 (dk_at dksX0_skips_1 0 rfl rfl)
theorem dX0_skips_27 : decode cX0_skips 27 = .ok (.putfield 170, 3) := dk_181 0 170 (dk_at dksX0_skips_1 3 rfl rfl)
theorem dX0_skips_30 : decode cX0_skips 30 = .ok (.return_, 1) := dk_177 (dk_at dksX0_skips_1 6 rfl rfl)
abbrev cX0_sign : ByteArray := prog_1_method_18_code
def yX0_sign : MethodName := ⟨RX0, "sign", "()I"⟩
def dkwX0_sign_1 : List UInt8 := [16, 247, 172]
abbrev dktX0_sign_1 : List UInt8 := dkwX0_sign_1 ++ []
def dkwX0_sign_0 : List UInt8 := [42, 180, 0, 161, 42, 180, 0, 164, 190, 162, 0, 15, 42, 180, 0, 164, 42, 180, 0, 161, 51, 167, 0, 5]
abbrev dktX0_sign_0 : List UInt8 := dkwX0_sign_0 ++ dktX0_sign_1
theorem dksX0_sign_0 : cX0_sign.data.toList.drop 0 = dktX0_sign_0 := by decide +kernel
theorem dksX0_sign_1 : cX0_sign.data.toList.drop 24 = dktX0_sign_1 := dk_seg dksX0_sign_0 24 rfl rfl
theorem dX0_sign_0 : decode cX0_sign 0 = .ok (.aload_n 0, 1) := dk_42 (dk_at dksX0_sign_0 0 rfl rfl)
theorem dX0_sign_1 : decode cX0_sign 1 = .ok (.getfield 161, 3) := dk_180 0 161 (dk_at dksX0_sign_0 1 rfl rfl)
theorem dX0_sign_4 : decode cX0_sign 4 = .ok (.aload_n 0, 1) := dk_42 (dk_at dksX0_sign_0 4 rfl rfl)
theorem dX0_sign_5 : decode cX0_sign 5 = .ok (.getfield 164, 3) := dk_180 0 164 (dk_at dksX0_sign_0 5 rfl rfl)
theorem dX0_sign_8 : decode cX0_sign 8 = .ok (.arraylength, 1) := dk_190 (dk_at dksX0_sign_0 8 rfl rfl)
theorem dX0_sign_9 : decode cX0_sign 9 = .ok (.if_icmp .ge 15, 3) := dk_162 0 15 (dk_at dksX0_sign_0 9 rfl rfl)
theorem dX0_sign_12 : decode cX0_sign 12 = .ok (.aload_n 0, 1) := dk_42 (dk_at dksX0_sign_0 12 rfl rfl)
theorem dX0_sign_13 : decode cX0_sign 13 = .ok (.getfield 164, 3) := dk_180 0 164 (dk_at dksX0_sign_0 13 rfl rfl)
theorem dX0_sign_16 : decode cX0_sign 16 = .ok (.aload_n 0, 1) := dk_42 (dk_at dksX0_sign_0 16 rfl rfl)
theorem dX0_sign_17 : decode cX0_sign 17 = .ok (.getfield 161, 3) := dk_180 0 161 (dk_at dksX0_sign_0 17 rfl rfl)
theorem dX0_sign_20 : decode cX0_sign 20 = .ok (.baload, 1) := dk_51 (dk_at dksX0_sign_0 20 rfl rfl)
theorem dX0_sign_21 : decode cX0_sign 21 = .ok (.goto 5, 3) := dk_167 0 5 (dk_at dksX0_sign_0 21 rfl rfl)
theorem dX0_sign_24 : decode cX0_sign 24 = .ok (.bipush (-9), 2) := dk_16 247 (dk_at dksX0_sign_1 0 rfl rfl)
theorem dX0_sign_26 : decode cX0_sign 26 = .ok (.ireturn, 1) := dk_172 (dk_at dksX0_sign_1 2 rfl rfl)
abbrev cX0_readsStatement : ByteArray := prog_1_method_26_code
def yX0_readsStatement : MethodName := ⟨RX0, "readsStatement", "()Z"⟩
def dkwX0_readsStatement_7 : List UInt8 := [180, 0, 209, 16, 8, 162, 0, 16, 42, 21, 4, 182, 0, 235, 153, 0, 7, 4, 167, 0, 4, 3, 172]
abbrev dktX0_readsStatement_7 : List UInt8 := dkwX0_readsStatement_7 ++ []
def dkwX0_readsStatement_6 : List UInt8 := [172, 43, 184, 0, 231, 54, 4, 21, 4, 16, 247, 159, 0, 32, 42, 180, 0, 192, 158, 0, 25, 42]
abbrev dktX0_readsStatement_6 : List UInt8 := dkwX0_readsStatement_6 ++ dktX0_readsStatement_7
def dkwX0_readsStatement_5 : List UInt8 := [42, 182, 0, 225, 172, 42, 180, 0, 192, 158, 0, 14, 42, 182, 0, 228, 153, 0, 7, 4, 167, 0, 4, 3]
abbrev dktX0_readsStatement_5 : List UInt8 := dkwX0_readsStatement_5 ++ dktX0_readsStatement_6
def dkwX0_readsStatement_4 : List UInt8 := [171, 0, 0, 0, 0, 51, 0, 0, 0, 2, 0, 0, 0, 0, 0, 0, 0, 26, 0, 0, 0, 1, 0, 0, 0, 31]
abbrev dktX0_readsStatement_4 : List UInt8 := dkwX0_readsStatement_4 ++ dktX0_readsStatement_5
def dkwX0_readsStatement_3 : List UInt8 := [62, 29]
abbrev dktX0_readsStatement_3 : List UInt8 := dkwX0_readsStatement_3 ++ dktX0_readsStatement_4
def dkwX0_readsStatement_2 : List UInt8 := [44, 18, 221, 182, 0, 139, 153, 0, 19, 3, 62, 167, 0, 14, 44, 18, 223, 182, 0, 139, 153, 0, 5, 4]
abbrev dktX0_readsStatement_2 : List UInt8 := dkwX0_readsStatement_2 ++ dktX0_readsStatement_3
def dkwX0_readsStatement_1 : List UInt8 := [171, 0, 0, 0, 0, 0, 0, 53, 0, 0, 0, 2, 0, 52, 98, 143, 0, 0, 0, 28, 5, 151, 159, 58, 0, 0, 0, 42]
abbrev dktX0_readsStatement_1 : List UInt8 := dkwX0_readsStatement_1 ++ dktX0_readsStatement_2
def dkwX0_readsStatement_0 : List UInt8 := [42, 182, 0, 216, 76, 43, 182, 0, 220, 77, 2, 62, 44, 182, 0, 131]
abbrev dktX0_readsStatement_0 : List UInt8 := dkwX0_readsStatement_0 ++ dktX0_readsStatement_1
theorem dksX0_readsStatement_0 : cX0_readsStatement.data.toList.drop 0 = dktX0_readsStatement_0 := by decide +kernel
theorem dksX0_readsStatement_1 : cX0_readsStatement.data.toList.drop 16 = dktX0_readsStatement_1 := dk_seg dksX0_readsStatement_0 16 rfl rfl
theorem dksX0_readsStatement_2 : cX0_readsStatement.data.toList.drop 44 = dktX0_readsStatement_2 := dk_seg dksX0_readsStatement_1 28 rfl rfl
theorem dksX0_readsStatement_3 : cX0_readsStatement.data.toList.drop 68 = dktX0_readsStatement_3 := dk_seg dksX0_readsStatement_2 24 rfl rfl
theorem dksX0_readsStatement_4 : cX0_readsStatement.data.toList.drop 70 = dktX0_readsStatement_4 := dk_seg dksX0_readsStatement_3 2 rfl rfl
theorem dksX0_readsStatement_5 : cX0_readsStatement.data.toList.drop 96 = dktX0_readsStatement_5 := dk_seg dksX0_readsStatement_4 26 rfl rfl
theorem dksX0_readsStatement_6 : cX0_readsStatement.data.toList.drop 120 = dktX0_readsStatement_6 := dk_seg dksX0_readsStatement_5 24 rfl rfl
theorem dksX0_readsStatement_7 : cX0_readsStatement.data.toList.drop 142 = dktX0_readsStatement_7 := dk_seg dksX0_readsStatement_6 22 rfl rfl
theorem dX0_readsStatement_0 : decode cX0_readsStatement 0 = .ok (.aload_n 0, 1) := dk_42 (dk_at dksX0_readsStatement_0 0 rfl rfl)
theorem dX0_readsStatement_1 : decode cX0_readsStatement 1 = .ok (.invokevirtual 216, 3) := dk_182 0 216 (dk_at dksX0_readsStatement_0 1 rfl rfl)
theorem dX0_readsStatement_4 : decode cX0_readsStatement 4 = .ok (.astore_n 1, 1) := dk_76 (dk_at dksX0_readsStatement_0 4 rfl rfl)
theorem dX0_readsStatement_5 : decode cX0_readsStatement 5 = .ok (.aload_n 1, 1) := dk_43 (dk_at dksX0_readsStatement_0 5 rfl rfl)
theorem dX0_readsStatement_6 : decode cX0_readsStatement 6 = .ok (.invokevirtual 220, 3) := dk_182 0 220 (dk_at dksX0_readsStatement_0 6 rfl rfl)
theorem dX0_readsStatement_9 : decode cX0_readsStatement 9 = .ok (.astore_n 2, 1) := dk_77 (dk_at dksX0_readsStatement_0 9 rfl rfl)
theorem dX0_readsStatement_10 : decode cX0_readsStatement 10 = .ok (.iconst (-1), 1) := dk_2 (dk_at dksX0_readsStatement_0 10 rfl rfl)
theorem dX0_readsStatement_11 : decode cX0_readsStatement 11 = .ok (.istore_n 3, 1) := dk_62 (dk_at dksX0_readsStatement_0 11 rfl rfl)
theorem dX0_readsStatement_12 : decode cX0_readsStatement 12 = .ok (.aload_n 2, 1) := dk_44 (dk_at dksX0_readsStatement_0 12 rfl rfl)
theorem dX0_readsStatement_13 : decode cX0_readsStatement 13 = .ok (.invokevirtual 131, 3) := dk_182 0 131 (dk_at dksX0_readsStatement_0 13 rfl rfl)
theorem dX0_readsStatement_16 : decode cX0_readsStatement 16 = .ok (.lookupswitch 53 #[(3433103, 28), (93822778, 42)], 28) := by decide +kernel
theorem dX0_readsStatement_44 : decode cX0_readsStatement 44 = .ok (.aload_n 2, 1) := dk_44 (dk_at dksX0_readsStatement_2 0 rfl rfl)
theorem dX0_readsStatement_45 : decode cX0_readsStatement 45 = .ok (.ldc 221, 2) := dk_18 221 (dk_at dksX0_readsStatement_2 1 rfl rfl)
theorem dX0_readsStatement_47 : decode cX0_readsStatement 47 = .ok (.invokevirtual 139, 3) := dk_182 0 139 (dk_at dksX0_readsStatement_2 3 rfl rfl)
theorem dX0_readsStatement_50 : decode cX0_readsStatement 50 = .ok (.ifCond .eq 19, 3) := dk_153 0 19 (dk_at dksX0_readsStatement_2 6 rfl rfl)
theorem dX0_readsStatement_53 : decode cX0_readsStatement 53 = .ok (.iconst 0, 1) := dk_3 (dk_at dksX0_readsStatement_2 9 rfl rfl)
theorem dX0_readsStatement_54 : decode cX0_readsStatement 54 = .ok (.istore_n 3, 1) := dk_62 (dk_at dksX0_readsStatement_2 10 rfl rfl)
theorem dX0_readsStatement_55 : decode cX0_readsStatement 55 = .ok (.goto 14, 3) := dk_167 0 14 (dk_at dksX0_readsStatement_2 11 rfl rfl)
theorem dX0_readsStatement_58 : decode cX0_readsStatement 58 = .ok (.aload_n 2, 1) := dk_44 (dk_at dksX0_readsStatement_2 14 rfl rfl)
theorem dX0_readsStatement_59 : decode cX0_readsStatement 59 = .ok (.ldc 223, 2) := dk_18 223 (dk_at dksX0_readsStatement_2 15 rfl rfl)
theorem dX0_readsStatement_61 : decode cX0_readsStatement 61 = .ok (.invokevirtual 139, 3) := dk_182 0 139 (dk_at dksX0_readsStatement_2 17 rfl rfl)
theorem dX0_readsStatement_64 : decode cX0_readsStatement 64 = .ok (.ifCond .eq 5, 3) := dk_153 0 5 (dk_at dksX0_readsStatement_2 20 rfl rfl)
theorem dX0_readsStatement_67 : decode cX0_readsStatement 67 = .ok (.iconst 1, 1) := dk_4 (dk_at dksX0_readsStatement_2 23 rfl rfl)
theorem dX0_readsStatement_68 : decode cX0_readsStatement 68 = .ok (.istore_n 3, 1) := dk_62 (dk_at dksX0_readsStatement_3 0 rfl rfl)
theorem dX0_readsStatement_69 : decode cX0_readsStatement 69 = .ok (.iload_n 3, 1) := dk_29 (dk_at dksX0_readsStatement_3 1 rfl rfl)
theorem dX0_readsStatement_70 : decode cX0_readsStatement 70 = .ok (.lookupswitch 51 #[(0, 26), (1, 31)], 26) := by decide +kernel
theorem dX0_readsStatement_96 : decode cX0_readsStatement 96 = .ok (.aload_n 0, 1) := dk_42 (dk_at dksX0_readsStatement_5 0 rfl rfl)
theorem dX0_readsStatement_97 : decode cX0_readsStatement 97 = .ok (.invokevirtual 225, 3) := dk_182 0 225 (dk_at dksX0_readsStatement_5 1 rfl rfl)
theorem dX0_readsStatement_100 : decode cX0_readsStatement 100 = .ok (.ireturn, 1) := dk_172 (dk_at dksX0_readsStatement_5 4 rfl rfl)
theorem dX0_readsStatement_101 : decode cX0_readsStatement 101 = .ok (.aload_n 0, 1) := dk_42 (dk_at dksX0_readsStatement_5 5 rfl rfl)
theorem dX0_readsStatement_102 : decode cX0_readsStatement 102 = .ok (.getfield 192, 3) := dk_180 0 192 (dk_at dksX0_readsStatement_5 6 rfl rfl)
theorem dX0_readsStatement_105 : decode cX0_readsStatement 105 = .ok (.ifCond .le 14, 3) := dk_158 0 14 (dk_at dksX0_readsStatement_5 9 rfl rfl)
theorem dX0_readsStatement_108 : decode cX0_readsStatement 108 = .ok (.aload_n 0, 1) := dk_42 (dk_at dksX0_readsStatement_5 12 rfl rfl)
theorem dX0_readsStatement_109 : decode cX0_readsStatement 109 = .ok (.invokevirtual 228, 3) := dk_182 0 228 (dk_at dksX0_readsStatement_5 13 rfl rfl)
theorem dX0_readsStatement_112 : decode cX0_readsStatement 112 = .ok (.ifCond .eq 7, 3) := dk_153 0 7 (dk_at dksX0_readsStatement_5 16 rfl rfl)
theorem dX0_readsStatement_115 : decode cX0_readsStatement 115 = .ok (.iconst 1, 1) := dk_4 (dk_at dksX0_readsStatement_5 19 rfl rfl)
theorem dX0_readsStatement_116 : decode cX0_readsStatement 116 = .ok (.goto 4, 3) := dk_167 0 4 (dk_at dksX0_readsStatement_5 20 rfl rfl)
theorem dX0_readsStatement_119 : decode cX0_readsStatement 119 = .ok (.iconst 0, 1) := dk_3 (dk_at dksX0_readsStatement_5 23 rfl rfl)
theorem dX0_readsStatement_120 : decode cX0_readsStatement 120 = .ok (.ireturn, 1) := dk_172 (dk_at dksX0_readsStatement_6 0 rfl rfl)
theorem dX0_readsStatement_121 : decode cX0_readsStatement 121 = .ok (.aload_n 1, 1) := dk_43 (dk_at dksX0_readsStatement_6 1 rfl rfl)
theorem dX0_readsStatement_122 : decode cX0_readsStatement 122 = .ok (.invokestatic 231, 3) := dk_184 0 231 (dk_at dksX0_readsStatement_6 2 rfl rfl)
theorem dX0_readsStatement_125 : decode cX0_readsStatement 125 = .ok (.istore 4, 2) := dk_54 4 (dk_at dksX0_readsStatement_6 5 rfl rfl)
theorem dX0_readsStatement_127 : decode cX0_readsStatement 127 = .ok (.iload 4, 2) := dk_21 4 (dk_at dksX0_readsStatement_6 7 rfl rfl)
theorem dX0_readsStatement_129 : decode cX0_readsStatement 129 = .ok (.bipush (-9), 2) := dk_16 247 (dk_at dksX0_readsStatement_6 9 rfl rfl)
theorem dX0_readsStatement_131 : decode cX0_readsStatement 131 = .ok (.if_icmp .eq 32, 3) := dk_159 0 32 (dk_at dksX0_readsStatement_6 11 rfl rfl)
theorem dX0_readsStatement_134 : decode cX0_readsStatement 134 = .ok (.aload_n 0, 1) := dk_42 (dk_at dksX0_readsStatement_6 14 rfl rfl)
theorem dX0_readsStatement_135 : decode cX0_readsStatement 135 = .ok (.getfield 192, 3) := dk_180 0 192 (dk_at dksX0_readsStatement_6 15 rfl rfl)
theorem dX0_readsStatement_138 : decode cX0_readsStatement 138 = .ok (.ifCond .le 25, 3) := dk_158 0 25 (dk_at dksX0_readsStatement_6 18 rfl rfl)
theorem dX0_readsStatement_141 : decode cX0_readsStatement 141 = .ok (.aload_n 0, 1) := dk_42 (dk_at dksX0_readsStatement_6 21 rfl rfl)
theorem dX0_readsStatement_142 : decode cX0_readsStatement 142 = .ok (.getfield 209, 3) := dk_180 0 209 (dk_at dksX0_readsStatement_7 0 rfl rfl)
theorem dX0_readsStatement_145 : decode cX0_readsStatement 145 = .ok (.bipush 8, 2) := dk_16 8 (dk_at dksX0_readsStatement_7 3 rfl rfl)
theorem dX0_readsStatement_147 : decode cX0_readsStatement 147 = .ok (.if_icmp .ge 16, 3) := dk_162 0 16 (dk_at dksX0_readsStatement_7 5 rfl rfl)
theorem dX0_readsStatement_150 : decode cX0_readsStatement 150 = .ok (.aload_n 0, 1) := dk_42 (dk_at dksX0_readsStatement_7 8 rfl rfl)
theorem dX0_readsStatement_151 : decode cX0_readsStatement 151 = .ok (.iload 4, 2) := dk_21 4 (dk_at dksX0_readsStatement_7 9 rfl rfl)
theorem dX0_readsStatement_153 : decode cX0_readsStatement 153 = .ok (.invokevirtual 235, 3) := dk_182 0 235 (dk_at dksX0_readsStatement_7 11 rfl rfl)
theorem dX0_readsStatement_156 : decode cX0_readsStatement 156 = .ok (.ifCond .eq 7, 3) := dk_153 0 7 (dk_at dksX0_readsStatement_7 14 rfl rfl)
theorem dX0_readsStatement_159 : decode cX0_readsStatement 159 = .ok (.iconst 1, 1) := dk_4 (dk_at dksX0_readsStatement_7 17 rfl rfl)
theorem dX0_readsStatement_160 : decode cX0_readsStatement 160 = .ok (.goto 4, 3) := dk_167 0 4 (dk_at dksX0_readsStatement_7 18 rfl rfl)
theorem dX0_readsStatement_163 : decode cX0_readsStatement 163 = .ok (.iconst 0, 1) := dk_3 (dk_at dksX0_readsStatement_7 21 rfl rfl)
theorem dX0_readsStatement_164 : decode cX0_readsStatement 164 = .ok (.ireturn, 1) := dk_172 (dk_at dksX0_readsStatement_7 22 rfl rfl)
abbrev cX0_readsWord : ByteArray := prog_1_method_22_code
def yX0_readsWord : MethodName := ⟨RX0, "readsWord", "()Ljava/lang/StringBuilder;"⟩
def dkwX0_readsWord_2 : List UInt8 := [167, 255, 222, 43, 176]
abbrev dktX0_readsWord_2 : List UInt8 := dkwX0_readsWord_2 ++ []
def dkwX0_readsWord_1 : List UInt8 := [153, 0, 26, 43, 42, 182, 0, 167, 146, 182, 0, 188, 87, 42, 89, 180, 0, 161, 4, 96, 181, 0, 161]
abbrev dktX0_readsWord_1 : List UInt8 := dkwX0_readsWord_1 ++ dktX0_readsWord_2
def dkwX0_readsWord_0 : List UInt8 := [42, 182, 0, 173, 187, 0, 185, 89, 183, 0, 187, 76, 42, 182, 0, 167, 16, 97, 16, 122, 184, 0, 78]
abbrev dktX0_readsWord_0 : List UInt8 := dkwX0_readsWord_0 ++ dktX0_readsWord_1
theorem dksX0_readsWord_0 : cX0_readsWord.data.toList.drop 0 = dktX0_readsWord_0 := by decide +kernel
theorem dksX0_readsWord_1 : cX0_readsWord.data.toList.drop 23 = dktX0_readsWord_1 := dk_seg dksX0_readsWord_0 23 rfl rfl
theorem dksX0_readsWord_2 : cX0_readsWord.data.toList.drop 46 = dktX0_readsWord_2 := dk_seg dksX0_readsWord_1 23 rfl rfl
theorem dX0_readsWord_0 : decode cX0_readsWord 0 = .ok (.aload_n 0, 1) := dk_42 (dk_at dksX0_readsWord_0 0 rfl rfl)
theorem dX0_readsWord_1 : decode cX0_readsWord 1 = .ok (.invokevirtual 173, 3) := dk_182 0 173 (dk_at dksX0_readsWord_0 1 rfl rfl)
theorem dX0_readsWord_4 : decode cX0_readsWord 4 = .ok (.new 185, 3) := dk_187 0 185 (dk_at dksX0_readsWord_0 4 rfl rfl)
theorem dX0_readsWord_7 : decode cX0_readsWord 7 = .ok (.dup, 1) := dk_89 (dk_at dksX0_readsWord_0 7 rfl rfl)
theorem dX0_readsWord_8 : decode cX0_readsWord 8 = .ok (.invokespecial 187, 3) := dk_183 0 187 (dk_at dksX0_readsWord_0 8 rfl rfl)
theorem dX0_readsWord_11 : decode cX0_readsWord 11 = .ok (.astore_n 1, 1) := dk_76 (dk_at dksX0_readsWord_0 11 rfl rfl)
theorem dX0_readsWord_12 : decode cX0_readsWord 12 = .ok (.aload_n 0, 1) := dk_42 (dk_at dksX0_readsWord_0 12 rfl rfl)
theorem dX0_readsWord_13 : decode cX0_readsWord 13 = .ok (.invokevirtual 167, 3) := dk_182 0 167 (dk_at dksX0_readsWord_0 13 rfl rfl)
theorem dX0_readsWord_16 : decode cX0_readsWord 16 = .ok (.bipush 97, 2) := dk_16 97 (dk_at dksX0_readsWord_0 16 rfl rfl)
theorem dX0_readsWord_18 : decode cX0_readsWord 18 = .ok (.bipush 122, 2) := dk_16 122 (dk_at dksX0_readsWord_0 18 rfl rfl)
theorem dX0_readsWord_20 : decode cX0_readsWord 20 = .ok (.invokestatic 78, 3) := dk_184 0 78 (dk_at dksX0_readsWord_0 20 rfl rfl)
theorem dX0_readsWord_23 : decode cX0_readsWord 23 = .ok (.ifCond .eq 26, 3) := dk_153 0 26 (dk_at dksX0_readsWord_1 0 rfl rfl)
theorem dX0_readsWord_26 : decode cX0_readsWord 26 = .ok (.aload_n 1, 1) := dk_43 (dk_at dksX0_readsWord_1 3 rfl rfl)
theorem dX0_readsWord_27 : decode cX0_readsWord 27 = .ok (.aload_n 0, 1) := dk_42 (dk_at dksX0_readsWord_1 4 rfl rfl)
theorem dX0_readsWord_28 : decode cX0_readsWord 28 = .ok (.invokevirtual 167, 3) := dk_182 0 167 (dk_at dksX0_readsWord_1 5 rfl rfl)
theorem dX0_readsWord_31 : decode cX0_readsWord 31 = .ok (.i2c, 1) := dk_146 (dk_at dksX0_readsWord_1 8 rfl rfl)
theorem dX0_readsWord_32 : decode cX0_readsWord 32 = .ok (.invokevirtual 188, 3) := dk_182 0 188 (dk_at dksX0_readsWord_1 9 rfl rfl)
theorem dX0_readsWord_35 : decode cX0_readsWord 35 = .ok (.pop, 1) := dk_87 (dk_at dksX0_readsWord_1 12 rfl rfl)
theorem dX0_readsWord_36 : decode cX0_readsWord 36 = .ok (.aload_n 0, 1) := dk_42 (dk_at dksX0_readsWord_1 13 rfl rfl)
theorem dX0_readsWord_37 : decode cX0_readsWord 37 = .ok (.dup, 1) := dk_89 (dk_at dksX0_readsWord_1 14 rfl rfl)
theorem dX0_readsWord_38 : decode cX0_readsWord 38 = .ok (.getfield 161, 3) := dk_180 0 161 (dk_at dksX0_readsWord_1 15 rfl rfl)
theorem dX0_readsWord_41 : decode cX0_readsWord 41 = .ok (.iconst 1, 1) := dk_4 (dk_at dksX0_readsWord_1 18 rfl rfl)
theorem dX0_readsWord_42 : decode cX0_readsWord 42 = .ok (.iadd, 1) := dk_96 (dk_at dksX0_readsWord_1 19 rfl rfl)
theorem dX0_readsWord_43 : decode cX0_readsWord 43 = .ok (.putfield 161, 3) := dk_181 0 161 (dk_at dksX0_readsWord_1 20 rfl rfl)
theorem dX0_readsWord_46 : decode cX0_readsWord 46 = .ok (.goto (-34), 3) := dk_167 255 222 (dk_at dksX0_readsWord_2 0 rfl rfl)
theorem dX0_readsWord_49 : decode cX0_readsWord 49 = .ok (.aload_n 1, 1) := dk_43 (dk_at dksX0_readsWord_2 3 rfl rfl)
theorem dX0_readsWord_50 : decode cX0_readsWord 50 = .ok (.areturn, 1) := dk_176 (dk_at dksX0_readsWord_2 4 rfl rfl)
abbrev cX0_readsPage : ByteArray := prog_1_method_23_code
def yX0_readsPage : MethodName := ⟨RX0, "readsPage", "()Z"⟩
def dkwX0_readsPage_2 : List UInt8 := [154, 0, 5, 3, 172, 42, 27, 181, 0, 192, 4, 172]
abbrev dktX0_readsPage_2 : List UInt8 := dkwX0_readsPage_2 ++ []
def dkwX0_readsPage_1 : List UInt8 := [42, 7, 16, 16, 182, 0, 195, 154, 0, 5, 3, 172, 42, 42, 180, 0, 182, 181, 0, 199, 42, 182, 0, 202]
abbrev dktX0_readsPage_1 : List UInt8 := dkwX0_readsPage_1 ++ dktX0_readsPage_2
def dkwX0_readsPage_0 : List UInt8 := [42, 180, 0, 192, 157, 0, 13, 42, 7, 16, 16, 182, 0, 195, 154, 0, 5, 3, 172, 42, 180, 0, 182, 60]
abbrev dktX0_readsPage_0 : List UInt8 := dkwX0_readsPage_0 ++ dktX0_readsPage_1
theorem dksX0_readsPage_0 : cX0_readsPage.data.toList.drop 0 = dktX0_readsPage_0 := by decide +kernel
theorem dksX0_readsPage_1 : cX0_readsPage.data.toList.drop 24 = dktX0_readsPage_1 := dk_seg dksX0_readsPage_0 24 rfl rfl
theorem dksX0_readsPage_2 : cX0_readsPage.data.toList.drop 48 = dktX0_readsPage_2 := dk_seg dksX0_readsPage_1 24 rfl rfl
theorem dX0_readsPage_0 : decode cX0_readsPage 0 = .ok (.aload_n 0, 1) := dk_42 (dk_at dksX0_readsPage_0 0 rfl rfl)
theorem dX0_readsPage_1 : decode cX0_readsPage 1 = .ok (.getfield 192, 3) := dk_180 0 192 (dk_at dksX0_readsPage_0 1 rfl rfl)
theorem dX0_readsPage_4 : decode cX0_readsPage 4 = .ok (.ifCond .gt 13, 3) := dk_157 0 13 (dk_at dksX0_readsPage_0 4 rfl rfl)
theorem dX0_readsPage_7 : decode cX0_readsPage 7 = .ok (.aload_n 0, 1) := dk_42 (dk_at dksX0_readsPage_0 7 rfl rfl)
theorem dX0_readsPage_8 : decode cX0_readsPage 8 = .ok (.iconst 4, 1) := dk_7 (dk_at dksX0_readsPage_0 8 rfl rfl)
theorem dX0_readsPage_9 : decode cX0_readsPage 9 = .ok (.bipush 16, 2) := dk_16 16 (dk_at dksX0_readsPage_0 9 rfl rfl)
theorem dX0_readsPage_11 : decode cX0_readsPage 11 = .ok (.invokevirtual 195, 3) := dk_182 0 195 (dk_at dksX0_readsPage_0 11 rfl rfl)
theorem dX0_readsPage_14 : decode cX0_readsPage 14 = .ok (.ifCond .ne 5, 3) := dk_154 0 5 (dk_at dksX0_readsPage_0 14 rfl rfl)
theorem dX0_readsPage_17 : decode cX0_readsPage 17 = .ok (.iconst 0, 1) := dk_3 (dk_at dksX0_readsPage_0 17 rfl rfl)
theorem dX0_readsPage_18 : decode cX0_readsPage 18 = .ok (.ireturn, 1) := dk_172 (dk_at dksX0_readsPage_0 18 rfl rfl)
theorem dX0_readsPage_19 : decode cX0_readsPage 19 = .ok (.aload_n 0, 1) := dk_42 (dk_at dksX0_readsPage_0 19 rfl rfl)
theorem dX0_readsPage_20 : decode cX0_readsPage 20 = .ok (.getfield 182, 3) := dk_180 0 182 (dk_at dksX0_readsPage_0 20 rfl rfl)
theorem dX0_readsPage_23 : decode cX0_readsPage 23 = .ok (.istore_n 1, 1) := dk_60 (dk_at dksX0_readsPage_0 23 rfl rfl)
theorem dX0_readsPage_24 : decode cX0_readsPage 24 = .ok (.aload_n 0, 1) := dk_42 (dk_at dksX0_readsPage_1 0 rfl rfl)
theorem dX0_readsPage_25 : decode cX0_readsPage 25 = .ok (.iconst 4, 1) := dk_7 (dk_at dksX0_readsPage_1 1 rfl rfl)
theorem dX0_readsPage_26 : decode cX0_readsPage 26 = .ok (.bipush 16, 2) := dk_16 16 (dk_at dksX0_readsPage_1 2 rfl rfl)
theorem dX0_readsPage_28 : decode cX0_readsPage 28 = .ok (.invokevirtual 195, 3) := dk_182 0 195 (dk_at dksX0_readsPage_1 4 rfl rfl)
theorem dX0_readsPage_31 : decode cX0_readsPage 31 = .ok (.ifCond .ne 5, 3) := dk_154 0 5 (dk_at dksX0_readsPage_1 7 rfl rfl)
theorem dX0_readsPage_34 : decode cX0_readsPage 34 = .ok (.iconst 0, 1) := dk_3 (dk_at dksX0_readsPage_1 10 rfl rfl)
theorem dX0_readsPage_35 : decode cX0_readsPage 35 = .ok (.ireturn, 1) := dk_172 (dk_at dksX0_readsPage_1 11 rfl rfl)
theorem dX0_readsPage_36 : decode cX0_readsPage 36 = .ok (.aload_n 0, 1) := dk_42 (dk_at dksX0_readsPage_1 12 rfl rfl)
theorem dX0_readsPage_37 : decode cX0_readsPage 37 = .ok (.aload_n 0, 1) := dk_42 (dk_at dksX0_readsPage_1 13 rfl rfl)
theorem dX0_readsPage_38 : decode cX0_readsPage 38 = .ok (.getfield 182, 3) := dk_180 0 182 (dk_at dksX0_readsPage_1 14 rfl rfl)
theorem dX0_readsPage_41 : decode cX0_readsPage 41 = .ok (.putfield 199, 3) := dk_181 0 199 (dk_at dksX0_readsPage_1 17 rfl rfl)
theorem dX0_readsPage_44 : decode cX0_readsPage 44 = .ok (.aload_n 0, 1) := dk_42 (dk_at dksX0_readsPage_1 20 rfl rfl)
theorem dX0_readsPage_45 : decode cX0_readsPage 45 = .ok (.invokevirtual 202, 3) := dk_182 0 202 (dk_at dksX0_readsPage_1 21 rfl rfl)
theorem dX0_readsPage_48 : decode cX0_readsPage 48 = .ok (.ifCond .ne 5, 3) := dk_154 0 5 (dk_at dksX0_readsPage_2 0 rfl rfl)
theorem dX0_readsPage_51 : decode cX0_readsPage 51 = .ok (.iconst 0, 1) := dk_3 (dk_at dksX0_readsPage_2 3 rfl rfl)
theorem dX0_readsPage_52 : decode cX0_readsPage 52 = .ok (.ireturn, 1) := dk_172 (dk_at dksX0_readsPage_2 4 rfl rfl)
theorem dX0_readsPage_53 : decode cX0_readsPage 53 = .ok (.aload_n 0, 1) := dk_42 (dk_at dksX0_readsPage_2 5 rfl rfl)
theorem dX0_readsPage_54 : decode cX0_readsPage 54 = .ok (.iload_n 1, 1) := dk_27 (dk_at dksX0_readsPage_2 6 rfl rfl)
theorem dX0_readsPage_55 : decode cX0_readsPage 55 = .ok (.putfield 192, 3) := dk_181 0 192 (dk_at dksX0_readsPage_2 7 rfl rfl)
theorem dX0_readsPage_58 : decode cX0_readsPage 58 = .ok (.iconst 1, 1) := dk_4 (dk_at dksX0_readsPage_2 10 rfl rfl)
theorem dX0_readsPage_59 : decode cX0_readsPage 59 = .ok (.ireturn, 1) := dk_172 (dk_at dksX0_readsPage_2 11 rfl rfl)
abbrev cX0_readsNumber : ByteArray := prog_1_method_20_code
def yX0_readsNumber : MethodName := ⟨RX0, "readsNumber", "(II)Z"⟩
def dkwX0_readsNumber_3 : List UInt8 := [27, 28, 184, 0, 78, 153, 0, 7, 4, 167, 0, 4, 3, 172]
abbrev dktX0_readsNumber_3 : List UInt8 := dkwX0_readsNumber_3 ++ []
def dkwX0_readsNumber_2 : List UInt8 := [89, 180, 0, 161, 4, 96, 181, 0, 161, 167, 255, 209, 42, 21, 4, 181, 0, 182, 29, 158, 0, 17, 21, 4]
abbrev dktX0_readsNumber_2 : List UInt8 := dkwX0_readsNumber_2 ++ dktX0_readsNumber_3
def dkwX0_readsNumber_1 : List UInt8 := [18, 176, 16, 10, 21, 4, 104, 42, 182, 0, 167, 96, 16, 48, 100, 184, 0, 177, 54, 4, 132, 3, 1, 42]
abbrev dktX0_readsNumber_1 : List UInt8 := dkwX0_readsNumber_1 ++ dktX0_readsNumber_2
def dkwX0_readsNumber_0 : List UInt8 := [42, 182, 0, 173, 3, 62, 3, 54, 4, 42, 182, 0, 167, 16, 48, 16, 57, 184, 0, 78, 153, 0, 39]
abbrev dktX0_readsNumber_0 : List UInt8 := dkwX0_readsNumber_0 ++ dktX0_readsNumber_1
theorem dksX0_readsNumber_0 : cX0_readsNumber.data.toList.drop 0 = dktX0_readsNumber_0 := by decide +kernel
theorem dksX0_readsNumber_1 : cX0_readsNumber.data.toList.drop 23 = dktX0_readsNumber_1 := dk_seg dksX0_readsNumber_0 23 rfl rfl
theorem dksX0_readsNumber_2 : cX0_readsNumber.data.toList.drop 47 = dktX0_readsNumber_2 := dk_seg dksX0_readsNumber_1 24 rfl rfl
theorem dksX0_readsNumber_3 : cX0_readsNumber.data.toList.drop 71 = dktX0_readsNumber_3 := dk_seg dksX0_readsNumber_2 24 rfl rfl
theorem dX0_readsNumber_0 : decode cX0_readsNumber 0 = .ok (.aload_n 0, 1) := dk_42 (dk_at dksX0_readsNumber_0 0 rfl rfl)
theorem dX0_readsNumber_1 : decode cX0_readsNumber 1 = .ok (.invokevirtual 173, 3) := dk_182 0 173 (dk_at dksX0_readsNumber_0 1 rfl rfl)
theorem dX0_readsNumber_4 : decode cX0_readsNumber 4 = .ok (.iconst 0, 1) := dk_3 (dk_at dksX0_readsNumber_0 4 rfl rfl)
theorem dX0_readsNumber_5 : decode cX0_readsNumber 5 = .ok (.istore_n 3, 1) := dk_62 (dk_at dksX0_readsNumber_0 5 rfl rfl)
theorem dX0_readsNumber_6 : decode cX0_readsNumber 6 = .ok (.iconst 0, 1) := dk_3 (dk_at dksX0_readsNumber_0 6 rfl rfl)
theorem dX0_readsNumber_7 : decode cX0_readsNumber 7 = .ok (.istore 4, 2) := dk_54 4 (dk_at dksX0_readsNumber_0 7 rfl rfl)
theorem dX0_readsNumber_9 : decode cX0_readsNumber 9 = .ok (.aload_n 0, 1) := dk_42 (dk_at dksX0_readsNumber_0 9 rfl rfl)
theorem dX0_readsNumber_10 : decode cX0_readsNumber 10 = .ok (.invokevirtual 167, 3) := dk_182 0 167 (dk_at dksX0_readsNumber_0 10 rfl rfl)
theorem dX0_readsNumber_13 : decode cX0_readsNumber 13 = .ok (.bipush 48, 2) := dk_16 48 (dk_at dksX0_readsNumber_0 13 rfl rfl)
theorem dX0_readsNumber_15 : decode cX0_readsNumber 15 = .ok (.bipush 57, 2) := dk_16 57 (dk_at dksX0_readsNumber_0 15 rfl rfl)
theorem dX0_readsNumber_17 : decode cX0_readsNumber 17 = .ok (.invokestatic 78, 3) := dk_184 0 78 (dk_at dksX0_readsNumber_0 17 rfl rfl)
theorem dX0_readsNumber_20 : decode cX0_readsNumber 20 = .ok (.ifCond .eq 39, 3) := dk_153 0 39 (dk_at dksX0_readsNumber_0 20 rfl rfl)
theorem dX0_readsNumber_23 : decode cX0_readsNumber 23 = .ok (.ldc 176, 2) := dk_18 176 (dk_at dksX0_readsNumber_1 0 rfl rfl)
theorem dX0_readsNumber_25 : decode cX0_readsNumber 25 = .ok (.bipush 10, 2) := dk_16 10 (dk_at dksX0_readsNumber_1 2 rfl rfl)
theorem dX0_readsNumber_27 : decode cX0_readsNumber 27 = .ok (.iload 4, 2) := dk_21 4 (dk_at dksX0_readsNumber_1 4 rfl rfl)
theorem dX0_readsNumber_29 : decode cX0_readsNumber 29 = .ok (.imul, 1) := dk_104 (dk_at dksX0_readsNumber_1 6 rfl rfl)
theorem dX0_readsNumber_30 : decode cX0_readsNumber 30 = .ok (.aload_n 0, 1) := dk_42 (dk_at dksX0_readsNumber_1 7 rfl rfl)
theorem dX0_readsNumber_31 : decode cX0_readsNumber 31 = .ok (.invokevirtual 167, 3) := dk_182 0 167 (dk_at dksX0_readsNumber_1 8 rfl rfl)
theorem dX0_readsNumber_34 : decode cX0_readsNumber 34 = .ok (.iadd, 1) := dk_96 (dk_at dksX0_readsNumber_1 11 rfl rfl)
theorem dX0_readsNumber_35 : decode cX0_readsNumber 35 = .ok (.bipush 48, 2) := dk_16 48 (dk_at dksX0_readsNumber_1 12 rfl rfl)
theorem dX0_readsNumber_37 : decode cX0_readsNumber 37 = .ok (.isub, 1) := dk_100 (dk_at dksX0_readsNumber_1 14 rfl rfl)
theorem dX0_readsNumber_38 : decode cX0_readsNumber 38 = .ok (.invokestatic 177, 3) := dk_184 0 177 (dk_at dksX0_readsNumber_1 15 rfl rfl)
theorem dX0_readsNumber_41 : decode cX0_readsNumber 41 = .ok (.istore 4, 2) := dk_54 4 (dk_at dksX0_readsNumber_1 18 rfl rfl)
theorem dX0_readsNumber_43 : decode cX0_readsNumber 43 = .ok (.iinc 3 1, 3) := dk_132 3 1 (dk_at dksX0_readsNumber_1 20 rfl rfl)
theorem dX0_readsNumber_46 : decode cX0_readsNumber 46 = .ok (.aload_n 0, 1) := dk_42 (dk_at dksX0_readsNumber_1 23 rfl rfl)
theorem dX0_readsNumber_47 : decode cX0_readsNumber 47 = .ok (.dup, 1) := dk_89 (dk_at dksX0_readsNumber_2 0 rfl rfl)
theorem dX0_readsNumber_48 : decode cX0_readsNumber 48 = .ok (.getfield 161, 3) := dk_180 0 161 (dk_at dksX0_readsNumber_2 1 rfl rfl)
theorem dX0_readsNumber_51 : decode cX0_readsNumber 51 = .ok (.iconst 1, 1) := dk_4 (dk_at dksX0_readsNumber_2 4 rfl rfl)
theorem dX0_readsNumber_52 : decode cX0_readsNumber 52 = .ok (.iadd, 1) := dk_96 (dk_at dksX0_readsNumber_2 5 rfl rfl)
theorem dX0_readsNumber_53 : decode cX0_readsNumber 53 = .ok (.putfield 161, 3) := dk_181 0 161 (dk_at dksX0_readsNumber_2 6 rfl rfl)
theorem dX0_readsNumber_56 : decode cX0_readsNumber 56 = .ok (.goto (-47), 3) := dk_167 255 209 (dk_at dksX0_readsNumber_2 9 rfl rfl)
theorem dX0_readsNumber_59 : decode cX0_readsNumber 59 = .ok (.aload_n 0, 1) := dk_42 (dk_at dksX0_readsNumber_2 12 rfl rfl)
theorem dX0_readsNumber_60 : decode cX0_readsNumber 60 = .ok (.iload 4, 2) := dk_21 4 (dk_at dksX0_readsNumber_2 13 rfl rfl)
theorem dX0_readsNumber_62 : decode cX0_readsNumber 62 = .ok (.putfield 182, 3) := dk_181 0 182 (dk_at dksX0_readsNumber_2 15 rfl rfl)
theorem dX0_readsNumber_65 : decode cX0_readsNumber 65 = .ok (.iload_n 3, 1) := dk_29 (dk_at dksX0_readsNumber_2 18 rfl rfl)
theorem dX0_readsNumber_66 : decode cX0_readsNumber 66 = .ok (.ifCond .le 17, 3) := dk_158 0 17 (dk_at dksX0_readsNumber_2 19 rfl rfl)
theorem dX0_readsNumber_69 : decode cX0_readsNumber 69 = .ok (.iload 4, 2) := dk_21 4 (dk_at dksX0_readsNumber_2 22 rfl rfl)
theorem dX0_readsNumber_71 : decode cX0_readsNumber 71 = .ok (.iload_n 1, 1) := dk_27 (dk_at dksX0_readsNumber_3 0 rfl rfl)
theorem dX0_readsNumber_72 : decode cX0_readsNumber 72 = .ok (.iload_n 2, 1) := dk_28 (dk_at dksX0_readsNumber_3 1 rfl rfl)
theorem dX0_readsNumber_73 : decode cX0_readsNumber 73 = .ok (.invokestatic 78, 3) := dk_184 0 78 (dk_at dksX0_readsNumber_3 2 rfl rfl)
theorem dX0_readsNumber_76 : decode cX0_readsNumber 76 = .ok (.ifCond .eq 7, 3) := dk_153 0 7 (dk_at dksX0_readsNumber_3 5 rfl rfl)
theorem dX0_readsNumber_79 : decode cX0_readsNumber 79 = .ok (.iconst 1, 1) := dk_4 (dk_at dksX0_readsNumber_3 8 rfl rfl)
theorem dX0_readsNumber_80 : decode cX0_readsNumber 80 = .ok (.goto 4, 3) := dk_167 0 4 (dk_at dksX0_readsNumber_3 9 rfl rfl)
theorem dX0_readsNumber_83 : decode cX0_readsNumber 83 = .ok (.iconst 0, 1) := dk_3 (dk_at dksX0_readsNumber_3 12 rfl rfl)
theorem dX0_readsNumber_84 : decode cX0_readsNumber 84 = .ok (.ireturn, 1) := dk_172 (dk_at dksX0_readsNumber_3 13 rfl rfl)
abbrev cX0_readsEnd : ByteArray := prog_1_method_21_code
def yX0_readsEnd : MethodName := ⟨RX0, "readsEnd", "()Z"⟩
def dkwX0_readsEnd_1 : List UInt8 := [181, 0, 161, 4, 172]
abbrev dktX0_readsEnd_1 : List UInt8 := dkwX0_readsEnd_1 ++ []
def dkwX0_readsEnd_0 : List UInt8 := [42, 182, 0, 173, 42, 182, 0, 167, 16, 59, 159, 0, 5, 3, 172, 42, 89, 180, 0, 161, 4, 96]
abbrev dktX0_readsEnd_0 : List UInt8 := dkwX0_readsEnd_0 ++ dktX0_readsEnd_1
theorem dksX0_readsEnd_0 : cX0_readsEnd.data.toList.drop 0 = dktX0_readsEnd_0 := by decide +kernel
theorem dksX0_readsEnd_1 : cX0_readsEnd.data.toList.drop 22 = dktX0_readsEnd_1 := dk_seg dksX0_readsEnd_0 22 rfl rfl
theorem dX0_readsEnd_0 : decode cX0_readsEnd 0 = .ok (.aload_n 0, 1) := dk_42 (dk_at dksX0_readsEnd_0 0 rfl rfl)
theorem dX0_readsEnd_1 : decode cX0_readsEnd 1 = .ok (.invokevirtual 173, 3) := dk_182 0 173 (dk_at dksX0_readsEnd_0 1 rfl rfl)
theorem dX0_readsEnd_4 : decode cX0_readsEnd 4 = .ok (.aload_n 0, 1) := dk_42 (dk_at dksX0_readsEnd_0 4 rfl rfl)
theorem dX0_readsEnd_5 : decode cX0_readsEnd 5 = .ok (.invokevirtual 167, 3) := dk_182 0 167 (dk_at dksX0_readsEnd_0 5 rfl rfl)
theorem dX0_readsEnd_8 : decode cX0_readsEnd 8 = .ok (.bipush 59, 2) := dk_16 59 (dk_at dksX0_readsEnd_0 8 rfl rfl)
theorem dX0_readsEnd_10 : decode cX0_readsEnd 10 = .ok (.if_icmp .eq 5, 3) := dk_159 0 5 (dk_at dksX0_readsEnd_0 10 rfl rfl)
theorem dX0_readsEnd_13 : decode cX0_readsEnd 13 = .ok (.iconst 0, 1) := dk_3 (dk_at dksX0_readsEnd_0 13 rfl rfl)
theorem dX0_readsEnd_14 : decode cX0_readsEnd 14 = .ok (.ireturn, 1) := dk_172 (dk_at dksX0_readsEnd_0 14 rfl rfl)
theorem dX0_readsEnd_15 : decode cX0_readsEnd 15 = .ok (.aload_n 0, 1) := dk_42 (dk_at dksX0_readsEnd_0 15 rfl rfl)
theorem dX0_readsEnd_16 : decode cX0_readsEnd 16 = .ok (.dup, 1) := dk_89 (dk_at dksX0_readsEnd_0 16 rfl rfl)
theorem dX0_readsEnd_17 : decode cX0_readsEnd 17 = .ok (.getfield 161, 3) := dk_180 0 161 (dk_at dksX0_readsEnd_0 17 rfl rfl)
theorem dX0_readsEnd_20 : decode cX0_readsEnd 20 = .ok (.iconst 1, 1) := dk_4 (dk_at dksX0_readsEnd_0 20 rfl rfl)
theorem dX0_readsEnd_21 : decode cX0_readsEnd 21 = .ok (.iadd, 1) := dk_96 (dk_at dksX0_readsEnd_0 21 rfl rfl)
theorem dX0_readsEnd_22 : decode cX0_readsEnd 22 = .ok (.putfield 161, 3) := dk_181 0 161 (dk_at dksX0_readsEnd_1 0 rfl rfl)
theorem dX0_readsEnd_25 : decode cX0_readsEnd 25 = .ok (.iconst 1, 1) := dk_4 (dk_at dksX0_readsEnd_1 3 rfl rfl)
theorem dX0_readsEnd_26 : decode cX0_readsEnd 26 = .ok (.ireturn, 1) := dk_172 (dk_at dksX0_readsEnd_1 4 rfl rfl)
abbrev cX0_readsBleed : ByteArray := prog_1_method_24_code
def yX0_readsBleed : MethodName := ⟨RX0, "readsBleed", "()Z"⟩
def dkwX0_readsBleed_1 : List UInt8 := [60, 42, 182, 0, 202, 154, 0, 5, 3, 172, 42, 27, 181, 0, 206, 4, 172]
abbrev dktX0_readsBleed_1 : List UInt8 := dkwX0_readsBleed_1 ++ []
def dkwX0_readsBleed_0 : List UInt8 := [42, 180, 0, 206, 16, 247, 160, 0, 12, 42, 3, 5, 182, 0, 195, 154, 0, 5, 3, 172, 42, 180, 0, 182]
abbrev dktX0_readsBleed_0 : List UInt8 := dkwX0_readsBleed_0 ++ dktX0_readsBleed_1
theorem dksX0_readsBleed_0 : cX0_readsBleed.data.toList.drop 0 = dktX0_readsBleed_0 := by decide +kernel
theorem dksX0_readsBleed_1 : cX0_readsBleed.data.toList.drop 24 = dktX0_readsBleed_1 := dk_seg dksX0_readsBleed_0 24 rfl rfl
theorem dX0_readsBleed_0 : decode cX0_readsBleed 0 = .ok (.aload_n 0, 1) := dk_42 (dk_at dksX0_readsBleed_0 0 rfl rfl)
theorem dX0_readsBleed_1 : decode cX0_readsBleed 1 = .ok (.getfield 206, 3) := dk_180 0 206 (dk_at dksX0_readsBleed_0 1 rfl rfl)
theorem dX0_readsBleed_4 : decode cX0_readsBleed 4 = .ok (.bipush (-9), 2) := dk_16 247 (dk_at dksX0_readsBleed_0 4 rfl rfl)
theorem dX0_readsBleed_6 : decode cX0_readsBleed 6 = .ok (.if_icmp .ne 12, 3) := dk_160 0 12 (dk_at dksX0_readsBleed_0 6 rfl rfl)
theorem dX0_readsBleed_9 : decode cX0_readsBleed 9 = .ok (.aload_n 0, 1) := dk_42 (dk_at dksX0_readsBleed_0 9 rfl rfl)
theorem dX0_readsBleed_10 : decode cX0_readsBleed 10 = .ok (.iconst 0, 1) := dk_3 (dk_at dksX0_readsBleed_0 10 rfl rfl)
theorem dX0_readsBleed_11 : decode cX0_readsBleed 11 = .ok (.iconst 2, 1) := dk_5 (dk_at dksX0_readsBleed_0 11 rfl rfl)
theorem dX0_readsBleed_12 : decode cX0_readsBleed 12 = .ok (.invokevirtual 195, 3) := dk_182 0 195 (dk_at dksX0_readsBleed_0 12 rfl rfl)
theorem dX0_readsBleed_15 : decode cX0_readsBleed 15 = .ok (.ifCond .ne 5, 3) := dk_154 0 5 (dk_at dksX0_readsBleed_0 15 rfl rfl)
theorem dX0_readsBleed_18 : decode cX0_readsBleed 18 = .ok (.iconst 0, 1) := dk_3 (dk_at dksX0_readsBleed_0 18 rfl rfl)
theorem dX0_readsBleed_19 : decode cX0_readsBleed 19 = .ok (.ireturn, 1) := dk_172 (dk_at dksX0_readsBleed_0 19 rfl rfl)
theorem dX0_readsBleed_20 : decode cX0_readsBleed 20 = .ok (.aload_n 0, 1) := dk_42 (dk_at dksX0_readsBleed_0 20 rfl rfl)
theorem dX0_readsBleed_21 : decode cX0_readsBleed 21 = .ok (.getfield 182, 3) := dk_180 0 182 (dk_at dksX0_readsBleed_0 21 rfl rfl)
theorem dX0_readsBleed_24 : decode cX0_readsBleed 24 = .ok (.istore_n 1, 1) := dk_60 (dk_at dksX0_readsBleed_1 0 rfl rfl)
theorem dX0_readsBleed_25 : decode cX0_readsBleed 25 = .ok (.aload_n 0, 1) := dk_42 (dk_at dksX0_readsBleed_1 1 rfl rfl)
theorem dX0_readsBleed_26 : decode cX0_readsBleed 26 = .ok (.invokevirtual 202, 3) := dk_182 0 202 (dk_at dksX0_readsBleed_1 2 rfl rfl)
theorem dX0_readsBleed_29 : decode cX0_readsBleed 29 = .ok (.ifCond .ne 5, 3) := dk_154 0 5 (dk_at dksX0_readsBleed_1 5 rfl rfl)
theorem dX0_readsBleed_32 : decode cX0_readsBleed 32 = .ok (.iconst 0, 1) := dk_3 (dk_at dksX0_readsBleed_1 8 rfl rfl)
theorem dX0_readsBleed_33 : decode cX0_readsBleed 33 = .ok (.ireturn, 1) := dk_172 (dk_at dksX0_readsBleed_1 9 rfl rfl)
theorem dX0_readsBleed_34 : decode cX0_readsBleed 34 = .ok (.aload_n 0, 1) := dk_42 (dk_at dksX0_readsBleed_1 10 rfl rfl)
theorem dX0_readsBleed_35 : decode cX0_readsBleed 35 = .ok (.iload_n 1, 1) := dk_27 (dk_at dksX0_readsBleed_1 11 rfl rfl)
theorem dX0_readsBleed_36 : decode cX0_readsBleed 36 = .ok (.putfield 206, 3) := dk_181 0 206 (dk_at dksX0_readsBleed_1 12 rfl rfl)
theorem dX0_readsBleed_39 : decode cX0_readsBleed 39 = .ok (.iconst 1, 1) := dk_4 (dk_at dksX0_readsBleed_1 15 rfl rfl)
theorem dX0_readsBleed_40 : decode cX0_readsBleed 40 = .ok (.ireturn, 1) := dk_172 (dk_at dksX0_readsBleed_1 16 rfl rfl)
abbrev cX0_kindBy : ByteArray := prog_1_method_16_code
def yX0_kindBy : MethodName := ⟨RX0, "kindBy", "(Ljava/lang/CharSequence;)I"⟩
def dkwX0_kindBy_6 : List UInt8 := [3, 172, 4, 172, 5, 172, 6, 172, 16, 247, 172]
abbrev dktX0_kindBy_6 : List UInt8 := dkwX0_kindBy_6 ++ []
def dkwX0_kindBy_5 : List UInt8 := [170, 0, 0, 0, 0, 38, 0, 0, 0, 0, 0, 0, 0, 3, 0, 0, 0, 30, 0, 0, 0, 32, 0, 0, 0, 34, 0, 0, 0, 36]
abbrev dktX0_kindBy_5 : List UInt8 := dkwX0_kindBy_5 ++ dktX0_kindBy_6
def dkwX0_kindBy_4 : List UInt8 := [153, 0, 5, 6, 61, 28]
abbrev dktX0_kindBy_4 : List UInt8 := dkwX0_kindBy_4 ++ dktX0_kindBy_5
def dkwX0_kindBy_3 : List UInt8 := [61, 167, 0, 28, 43, 18, 145, 182, 0, 139, 153, 0, 19, 5, 61, 167, 0, 14, 43, 18, 147, 182, 0, 139]
abbrev dktX0_kindBy_3 : List UInt8 := dkwX0_kindBy_3 ++ dktX0_kindBy_4
def dkwX0_kindBy_2 : List UInt8 := [43, 18, 137, 182, 0, 139, 153, 0, 47, 3, 61, 167, 0, 42, 43, 18, 143, 182, 0, 139, 153, 0, 33, 4]
abbrev dktX0_kindBy_2 : List UInt8 := dkwX0_kindBy_2 ++ dktX0_kindBy_3
def dkwX0_kindBy_1 : List UInt8 := [171, 0, 0, 0, 0, 0, 96, 0, 0, 0, 4, 173, 140, 116, 44, 0, 0, 0, 71, 0, 49, 60, 121, 0, 0, 0, 57, 0, 50, 197, 171, 0, 0, 0, 85, 5, 210, 169, 109, 0, 0, 0, 43]
abbrev dktX0_kindBy_1 : List UInt8 := dkwX0_kindBy_1 ++ dktX0_kindBy_2
def dkwX0_kindBy_0 : List UInt8 := [42, 185, 0, 125, 1, 0, 76, 2, 61, 43, 182, 0, 131]
abbrev dktX0_kindBy_0 : List UInt8 := dkwX0_kindBy_0 ++ dktX0_kindBy_1
theorem dksX0_kindBy_0 : cX0_kindBy.data.toList.drop 0 = dktX0_kindBy_0 := by decide +kernel
theorem dksX0_kindBy_1 : cX0_kindBy.data.toList.drop 13 = dktX0_kindBy_1 := dk_seg dksX0_kindBy_0 13 rfl rfl
theorem dksX0_kindBy_2 : cX0_kindBy.data.toList.drop 56 = dktX0_kindBy_2 := dk_seg dksX0_kindBy_1 43 rfl rfl
theorem dksX0_kindBy_3 : cX0_kindBy.data.toList.drop 80 = dktX0_kindBy_3 := dk_seg dksX0_kindBy_2 24 rfl rfl
theorem dksX0_kindBy_4 : cX0_kindBy.data.toList.drop 104 = dktX0_kindBy_4 := dk_seg dksX0_kindBy_3 24 rfl rfl
theorem dksX0_kindBy_5 : cX0_kindBy.data.toList.drop 110 = dktX0_kindBy_5 := dk_seg dksX0_kindBy_4 6 rfl rfl
theorem dksX0_kindBy_6 : cX0_kindBy.data.toList.drop 140 = dktX0_kindBy_6 := dk_seg dksX0_kindBy_5 30 rfl rfl
theorem dX0_kindBy_0 : decode cX0_kindBy 0 = .ok (.aload_n 0, 1) := dk_42 (dk_at dksX0_kindBy_0 0 rfl rfl)
theorem dX0_kindBy_1 : decode cX0_kindBy 1 = .ok (.invokeinterface 125 1, 5) := by decide +kernel
theorem dX0_kindBy_6 : decode cX0_kindBy 6 = .ok (.astore_n 1, 1) := dk_76 (dk_at dksX0_kindBy_0 6 rfl rfl)
theorem dX0_kindBy_7 : decode cX0_kindBy 7 = .ok (.iconst (-1), 1) := dk_2 (dk_at dksX0_kindBy_0 7 rfl rfl)
theorem dX0_kindBy_8 : decode cX0_kindBy 8 = .ok (.istore_n 2, 1) := dk_61 (dk_at dksX0_kindBy_0 8 rfl rfl)
theorem dX0_kindBy_9 : decode cX0_kindBy 9 = .ok (.aload_n 1, 1) := dk_43 (dk_at dksX0_kindBy_0 9 rfl rfl)
theorem dX0_kindBy_10 : decode cX0_kindBy 10 = .ok (.invokevirtual 131, 3) := dk_182 0 131 (dk_at dksX0_kindBy_0 10 rfl rfl)
theorem dX0_kindBy_13 : decode cX0_kindBy 13 = .ok (.lookupswitch 96 #[(-1383304148, 71), (3226745, 57), (3327403, 85), (97692013, 43)], 43) := by decide +kernel
theorem dX0_kindBy_56 : decode cX0_kindBy 56 = .ok (.aload_n 1, 1) := dk_43 (dk_at dksX0_kindBy_2 0 rfl rfl)
theorem dX0_kindBy_57 : decode cX0_kindBy 57 = .ok (.ldc 137, 2) := dk_18 137 (dk_at dksX0_kindBy_2 1 rfl rfl)
theorem dX0_kindBy_59 : decode cX0_kindBy 59 = .ok (.invokevirtual 139, 3) := dk_182 0 139 (dk_at dksX0_kindBy_2 3 rfl rfl)
theorem dX0_kindBy_62 : decode cX0_kindBy 62 = .ok (.ifCond .eq 47, 3) := dk_153 0 47 (dk_at dksX0_kindBy_2 6 rfl rfl)
theorem dX0_kindBy_65 : decode cX0_kindBy 65 = .ok (.iconst 0, 1) := dk_3 (dk_at dksX0_kindBy_2 9 rfl rfl)
theorem dX0_kindBy_66 : decode cX0_kindBy 66 = .ok (.istore_n 2, 1) := dk_61 (dk_at dksX0_kindBy_2 10 rfl rfl)
theorem dX0_kindBy_67 : decode cX0_kindBy 67 = .ok (.goto 42, 3) := dk_167 0 42 (dk_at dksX0_kindBy_2 11 rfl rfl)
theorem dX0_kindBy_70 : decode cX0_kindBy 70 = .ok (.aload_n 1, 1) := dk_43 (dk_at dksX0_kindBy_2 14 rfl rfl)
theorem dX0_kindBy_71 : decode cX0_kindBy 71 = .ok (.ldc 143, 2) := dk_18 143 (dk_at dksX0_kindBy_2 15 rfl rfl)
theorem dX0_kindBy_73 : decode cX0_kindBy 73 = .ok (.invokevirtual 139, 3) := dk_182 0 139 (dk_at dksX0_kindBy_2 17 rfl rfl)
theorem dX0_kindBy_76 : decode cX0_kindBy 76 = .ok (.ifCond .eq 33, 3) := dk_153 0 33 (dk_at dksX0_kindBy_2 20 rfl rfl)
theorem dX0_kindBy_79 : decode cX0_kindBy 79 = .ok (.iconst 1, 1) := dk_4 (dk_at dksX0_kindBy_2 23 rfl rfl)
theorem dX0_kindBy_80 : decode cX0_kindBy 80 = .ok (.istore_n 2, 1) := dk_61 (dk_at dksX0_kindBy_3 0 rfl rfl)
theorem dX0_kindBy_81 : decode cX0_kindBy 81 = .ok (.goto 28, 3) := dk_167 0 28 (dk_at dksX0_kindBy_3 1 rfl rfl)
theorem dX0_kindBy_84 : decode cX0_kindBy 84 = .ok (.aload_n 1, 1) := dk_43 (dk_at dksX0_kindBy_3 4 rfl rfl)
theorem dX0_kindBy_85 : decode cX0_kindBy 85 = .ok (.ldc 145, 2) := dk_18 145 (dk_at dksX0_kindBy_3 5 rfl rfl)
theorem dX0_kindBy_87 : decode cX0_kindBy 87 = .ok (.invokevirtual 139, 3) := dk_182 0 139 (dk_at dksX0_kindBy_3 7 rfl rfl)
theorem dX0_kindBy_90 : decode cX0_kindBy 90 = .ok (.ifCond .eq 19, 3) := dk_153 0 19 (dk_at dksX0_kindBy_3 10 rfl rfl)
theorem dX0_kindBy_93 : decode cX0_kindBy 93 = .ok (.iconst 2, 1) := dk_5 (dk_at dksX0_kindBy_3 13 rfl rfl)
theorem dX0_kindBy_94 : decode cX0_kindBy 94 = .ok (.istore_n 2, 1) := dk_61 (dk_at dksX0_kindBy_3 14 rfl rfl)
theorem dX0_kindBy_95 : decode cX0_kindBy 95 = .ok (.goto 14, 3) := dk_167 0 14 (dk_at dksX0_kindBy_3 15 rfl rfl)
theorem dX0_kindBy_98 : decode cX0_kindBy 98 = .ok (.aload_n 1, 1) := dk_43 (dk_at dksX0_kindBy_3 18 rfl rfl)
theorem dX0_kindBy_99 : decode cX0_kindBy 99 = .ok (.ldc 147, 2) := dk_18 147 (dk_at dksX0_kindBy_3 19 rfl rfl)
theorem dX0_kindBy_101 : decode cX0_kindBy 101 = .ok (.invokevirtual 139, 3) := dk_182 0 139 (dk_at dksX0_kindBy_3 21 rfl rfl)
theorem dX0_kindBy_104 : decode cX0_kindBy 104 = .ok (.ifCond .eq 5, 3) := dk_153 0 5 (dk_at dksX0_kindBy_4 0 rfl rfl)
theorem dX0_kindBy_107 : decode cX0_kindBy 107 = .ok (.iconst 3, 1) := dk_6 (dk_at dksX0_kindBy_4 3 rfl rfl)
theorem dX0_kindBy_108 : decode cX0_kindBy 108 = .ok (.istore_n 2, 1) := dk_61 (dk_at dksX0_kindBy_4 4 rfl rfl)
theorem dX0_kindBy_109 : decode cX0_kindBy 109 = .ok (.iload_n 2, 1) := dk_28 (dk_at dksX0_kindBy_4 5 rfl rfl)
theorem dX0_kindBy_110 : decode cX0_kindBy 110 = .ok (.tableswitch 38 0 3 #[30, 32, 34, 36], 30) := by decide +kernel
theorem dX0_kindBy_140 : decode cX0_kindBy 140 = .ok (.iconst 0, 1) := dk_3 (dk_at dksX0_kindBy_6 0 rfl rfl)
theorem dX0_kindBy_141 : decode cX0_kindBy 141 = .ok (.ireturn, 1) := dk_172 (dk_at dksX0_kindBy_6 1 rfl rfl)
theorem dX0_kindBy_142 : decode cX0_kindBy 142 = .ok (.iconst 1, 1) := dk_4 (dk_at dksX0_kindBy_6 2 rfl rfl)
theorem dX0_kindBy_143 : decode cX0_kindBy 143 = .ok (.ireturn, 1) := dk_172 (dk_at dksX0_kindBy_6 3 rfl rfl)
theorem dX0_kindBy_144 : decode cX0_kindBy 144 = .ok (.iconst 2, 1) := dk_5 (dk_at dksX0_kindBy_6 4 rfl rfl)
theorem dX0_kindBy_145 : decode cX0_kindBy 145 = .ok (.ireturn, 1) := dk_172 (dk_at dksX0_kindBy_6 5 rfl rfl)
theorem dX0_kindBy_146 : decode cX0_kindBy 146 = .ok (.iconst 3, 1) := dk_6 (dk_at dksX0_kindBy_6 6 rfl rfl)
theorem dX0_kindBy_147 : decode cX0_kindBy 147 = .ok (.ireturn, 1) := dk_172 (dk_at dksX0_kindBy_6 7 rfl rfl)
theorem dX0_kindBy_148 : decode cX0_kindBy 148 = .ok (.bipush (-9), 2) := dk_16 247 (dk_at dksX0_kindBy_6 8 rfl rfl)
theorem dX0_kindBy_150 : decode cX0_kindBy 150 = .ok (.ireturn, 1) := dk_172 (dk_at dksX0_kindBy_6 10 rfl rfl)
abbrev cX0_readsFrame : ByteArray := prog_1_method_25_code
def yX0_readsFrame : MethodName := ⟨RX0, "readsFrame", "(I)Z"⟩
def dkwX0_readsFrame_4 : List UInt8 := [42, 180, 0, 209, 27, 44, 184, 0, 212, 83, 42, 89, 180, 0, 209, 4, 96, 181, 0, 209, 4, 172]
abbrev dktX0_readsFrame_4 : List UInt8 := dkwX0_readsFrame_4 ++ []
def dkwX0_readsFrame_3 : List UInt8 := [161, 0, 5, 3, 172, 132, 3, 1, 167, 255, 185, 42, 182, 0, 202, 154, 0, 5, 3, 172, 42, 180, 0, 44]
abbrev dktX0_readsFrame_3 : List UInt8 := dkwX0_readsFrame_3 ++ dktX0_readsFrame_4
def dkwX0_readsFrame_2 : List UInt8 := [180, 0, 182, 79, 29, 6, 164, 0, 22, 44, 29, 46, 44, 29, 5, 100, 46, 96, 44, 29, 7, 100, 46]
abbrev dktX0_readsFrame_2 : List UInt8 := dkwX0_readsFrame_2 ++ dktX0_readsFrame_3
def dkwX0_readsFrame_1 : List UInt8 := [29, 5, 162, 0, 8, 16, 16, 167, 0, 5, 16, 9, 182, 0, 195, 154, 0, 5, 3, 172, 44, 29, 42]
abbrev dktX0_readsFrame_1 : List UInt8 := dkwX0_readsFrame_1 ++ dktX0_readsFrame_2
def dkwX0_readsFrame_0 : List UInt8 := [16, 6, 188, 10, 77, 3, 62, 29, 16, 6, 162, 0, 71, 42, 29, 5, 162, 0, 7, 4, 167, 0, 4, 3]
abbrev dktX0_readsFrame_0 : List UInt8 := dkwX0_readsFrame_0 ++ dktX0_readsFrame_1
theorem dksX0_readsFrame_0 : cX0_readsFrame.data.toList.drop 0 = dktX0_readsFrame_0 := by decide +kernel
theorem dksX0_readsFrame_1 : cX0_readsFrame.data.toList.drop 24 = dktX0_readsFrame_1 := dk_seg dksX0_readsFrame_0 24 rfl rfl
theorem dksX0_readsFrame_2 : cX0_readsFrame.data.toList.drop 47 = dktX0_readsFrame_2 := dk_seg dksX0_readsFrame_1 23 rfl rfl
theorem dksX0_readsFrame_3 : cX0_readsFrame.data.toList.drop 70 = dktX0_readsFrame_3 := dk_seg dksX0_readsFrame_2 23 rfl rfl
theorem dksX0_readsFrame_4 : cX0_readsFrame.data.toList.drop 94 = dktX0_readsFrame_4 := dk_seg dksX0_readsFrame_3 24 rfl rfl
theorem dX0_readsFrame_0 : decode cX0_readsFrame 0 = .ok (.bipush 6, 2) := dk_16 6 (dk_at dksX0_readsFrame_0 0 rfl rfl)
theorem dX0_readsFrame_2 : decode cX0_readsFrame 2 = .ok (.newarray .int, 2) := dk_188_10 (dk_at dksX0_readsFrame_0 2 rfl rfl)
theorem dX0_readsFrame_4 : decode cX0_readsFrame 4 = .ok (.astore_n 2, 1) := dk_77 (dk_at dksX0_readsFrame_0 4 rfl rfl)
theorem dX0_readsFrame_5 : decode cX0_readsFrame 5 = .ok (.iconst 0, 1) := dk_3 (dk_at dksX0_readsFrame_0 5 rfl rfl)
theorem dX0_readsFrame_6 : decode cX0_readsFrame 6 = .ok (.istore_n 3, 1) := dk_62 (dk_at dksX0_readsFrame_0 6 rfl rfl)
theorem dX0_readsFrame_7 : decode cX0_readsFrame 7 = .ok (.iload_n 3, 1) := dk_29 (dk_at dksX0_readsFrame_0 7 rfl rfl)
theorem dX0_readsFrame_8 : decode cX0_readsFrame 8 = .ok (.bipush 6, 2) := dk_16 6 (dk_at dksX0_readsFrame_0 8 rfl rfl)
theorem dX0_readsFrame_10 : decode cX0_readsFrame 10 = .ok (.if_icmp .ge 71, 3) := dk_162 0 71 (dk_at dksX0_readsFrame_0 10 rfl rfl)
theorem dX0_readsFrame_13 : decode cX0_readsFrame 13 = .ok (.aload_n 0, 1) := dk_42 (dk_at dksX0_readsFrame_0 13 rfl rfl)
theorem dX0_readsFrame_14 : decode cX0_readsFrame 14 = .ok (.iload_n 3, 1) := dk_29 (dk_at dksX0_readsFrame_0 14 rfl rfl)
theorem dX0_readsFrame_15 : decode cX0_readsFrame 15 = .ok (.iconst 2, 1) := dk_5 (dk_at dksX0_readsFrame_0 15 rfl rfl)
theorem dX0_readsFrame_16 : decode cX0_readsFrame 16 = .ok (.if_icmp .ge 7, 3) := dk_162 0 7 (dk_at dksX0_readsFrame_0 16 rfl rfl)
theorem dX0_readsFrame_19 : decode cX0_readsFrame 19 = .ok (.iconst 1, 1) := dk_4 (dk_at dksX0_readsFrame_0 19 rfl rfl)
theorem dX0_readsFrame_20 : decode cX0_readsFrame 20 = .ok (.goto 4, 3) := dk_167 0 4 (dk_at dksX0_readsFrame_0 20 rfl rfl)
theorem dX0_readsFrame_23 : decode cX0_readsFrame 23 = .ok (.iconst 0, 1) := dk_3 (dk_at dksX0_readsFrame_0 23 rfl rfl)
theorem dX0_readsFrame_24 : decode cX0_readsFrame 24 = .ok (.iload_n 3, 1) := dk_29 (dk_at dksX0_readsFrame_1 0 rfl rfl)
theorem dX0_readsFrame_25 : decode cX0_readsFrame 25 = .ok (.iconst 2, 1) := dk_5 (dk_at dksX0_readsFrame_1 1 rfl rfl)
theorem dX0_readsFrame_26 : decode cX0_readsFrame 26 = .ok (.if_icmp .ge 8, 3) := dk_162 0 8 (dk_at dksX0_readsFrame_1 2 rfl rfl)
theorem dX0_readsFrame_29 : decode cX0_readsFrame 29 = .ok (.bipush 16, 2) := dk_16 16 (dk_at dksX0_readsFrame_1 5 rfl rfl)
theorem dX0_readsFrame_31 : decode cX0_readsFrame 31 = .ok (.goto 5, 3) := dk_167 0 5 (dk_at dksX0_readsFrame_1 7 rfl rfl)
theorem dX0_readsFrame_34 : decode cX0_readsFrame 34 = .ok (.bipush 9, 2) := dk_16 9 (dk_at dksX0_readsFrame_1 10 rfl rfl)
theorem dX0_readsFrame_36 : decode cX0_readsFrame 36 = .ok (.invokevirtual 195, 3) := dk_182 0 195 (dk_at dksX0_readsFrame_1 12 rfl rfl)
theorem dX0_readsFrame_39 : decode cX0_readsFrame 39 = .ok (.ifCond .ne 5, 3) := dk_154 0 5 (dk_at dksX0_readsFrame_1 15 rfl rfl)
theorem dX0_readsFrame_42 : decode cX0_readsFrame 42 = .ok (.iconst 0, 1) := dk_3 (dk_at dksX0_readsFrame_1 18 rfl rfl)
theorem dX0_readsFrame_43 : decode cX0_readsFrame 43 = .ok (.ireturn, 1) := dk_172 (dk_at dksX0_readsFrame_1 19 rfl rfl)
theorem dX0_readsFrame_44 : decode cX0_readsFrame 44 = .ok (.aload_n 2, 1) := dk_44 (dk_at dksX0_readsFrame_1 20 rfl rfl)
theorem dX0_readsFrame_45 : decode cX0_readsFrame 45 = .ok (.iload_n 3, 1) := dk_29 (dk_at dksX0_readsFrame_1 21 rfl rfl)
theorem dX0_readsFrame_46 : decode cX0_readsFrame 46 = .ok (.aload_n 0, 1) := dk_42 (dk_at dksX0_readsFrame_1 22 rfl rfl)
theorem dX0_readsFrame_47 : decode cX0_readsFrame 47 = .ok (.getfield 182, 3) := dk_180 0 182 (dk_at dksX0_readsFrame_2 0 rfl rfl)
theorem dX0_readsFrame_50 : decode cX0_readsFrame 50 = .ok (.iastore, 1) := dk_79 (dk_at dksX0_readsFrame_2 3 rfl rfl)
theorem dX0_readsFrame_51 : decode cX0_readsFrame 51 = .ok (.iload_n 3, 1) := dk_29 (dk_at dksX0_readsFrame_2 4 rfl rfl)
theorem dX0_readsFrame_52 : decode cX0_readsFrame 52 = .ok (.iconst 3, 1) := dk_6 (dk_at dksX0_readsFrame_2 5 rfl rfl)
theorem dX0_readsFrame_53 : decode cX0_readsFrame 53 = .ok (.if_icmp .le 22, 3) := dk_164 0 22 (dk_at dksX0_readsFrame_2 6 rfl rfl)
theorem dX0_readsFrame_56 : decode cX0_readsFrame 56 = .ok (.aload_n 2, 1) := dk_44 (dk_at dksX0_readsFrame_2 9 rfl rfl)
theorem dX0_readsFrame_57 : decode cX0_readsFrame 57 = .ok (.iload_n 3, 1) := dk_29 (dk_at dksX0_readsFrame_2 10 rfl rfl)
theorem dX0_readsFrame_58 : decode cX0_readsFrame 58 = .ok (.iaload, 1) := dk_46 (dk_at dksX0_readsFrame_2 11 rfl rfl)
theorem dX0_readsFrame_59 : decode cX0_readsFrame 59 = .ok (.aload_n 2, 1) := dk_44 (dk_at dksX0_readsFrame_2 12 rfl rfl)
theorem dX0_readsFrame_60 : decode cX0_readsFrame 60 = .ok (.iload_n 3, 1) := dk_29 (dk_at dksX0_readsFrame_2 13 rfl rfl)
theorem dX0_readsFrame_61 : decode cX0_readsFrame 61 = .ok (.iconst 2, 1) := dk_5 (dk_at dksX0_readsFrame_2 14 rfl rfl)
theorem dX0_readsFrame_62 : decode cX0_readsFrame 62 = .ok (.isub, 1) := dk_100 (dk_at dksX0_readsFrame_2 15 rfl rfl)
theorem dX0_readsFrame_63 : decode cX0_readsFrame 63 = .ok (.iaload, 1) := dk_46 (dk_at dksX0_readsFrame_2 16 rfl rfl)
theorem dX0_readsFrame_64 : decode cX0_readsFrame 64 = .ok (.iadd, 1) := dk_96 (dk_at dksX0_readsFrame_2 17 rfl rfl)
theorem dX0_readsFrame_65 : decode cX0_readsFrame 65 = .ok (.aload_n 2, 1) := dk_44 (dk_at dksX0_readsFrame_2 18 rfl rfl)
theorem dX0_readsFrame_66 : decode cX0_readsFrame 66 = .ok (.iload_n 3, 1) := dk_29 (dk_at dksX0_readsFrame_2 19 rfl rfl)
theorem dX0_readsFrame_67 : decode cX0_readsFrame 67 = .ok (.iconst 4, 1) := dk_7 (dk_at dksX0_readsFrame_2 20 rfl rfl)
theorem dX0_readsFrame_68 : decode cX0_readsFrame 68 = .ok (.isub, 1) := dk_100 (dk_at dksX0_readsFrame_2 21 rfl rfl)
theorem dX0_readsFrame_69 : decode cX0_readsFrame 69 = .ok (.iaload, 1) := dk_46 (dk_at dksX0_readsFrame_2 22 rfl rfl)
theorem dX0_readsFrame_70 : decode cX0_readsFrame 70 = .ok (.if_icmp .lt 5, 3) := dk_161 0 5 (dk_at dksX0_readsFrame_3 0 rfl rfl)
theorem dX0_readsFrame_73 : decode cX0_readsFrame 73 = .ok (.iconst 0, 1) := dk_3 (dk_at dksX0_readsFrame_3 3 rfl rfl)
theorem dX0_readsFrame_74 : decode cX0_readsFrame 74 = .ok (.ireturn, 1) := dk_172 (dk_at dksX0_readsFrame_3 4 rfl rfl)
theorem dX0_readsFrame_75 : decode cX0_readsFrame 75 = .ok (.iinc 3 1, 3) := dk_132 3 1 (dk_at dksX0_readsFrame_3 5 rfl rfl)
theorem dX0_readsFrame_78 : decode cX0_readsFrame 78 = .ok (.goto (-71), 3) := dk_167 255 185 (dk_at dksX0_readsFrame_3 8 rfl rfl)
theorem dX0_readsFrame_81 : decode cX0_readsFrame 81 = .ok (.aload_n 0, 1) := dk_42 (dk_at dksX0_readsFrame_3 11 rfl rfl)
theorem dX0_readsFrame_82 : decode cX0_readsFrame 82 = .ok (.invokevirtual 202, 3) := dk_182 0 202 (dk_at dksX0_readsFrame_3 12 rfl rfl)
theorem dX0_readsFrame_85 : decode cX0_readsFrame 85 = .ok (.ifCond .ne 5, 3) := dk_154 0 5 (dk_at dksX0_readsFrame_3 15 rfl rfl)
theorem dX0_readsFrame_88 : decode cX0_readsFrame 88 = .ok (.iconst 0, 1) := dk_3 (dk_at dksX0_readsFrame_3 18 rfl rfl)
theorem dX0_readsFrame_89 : decode cX0_readsFrame 89 = .ok (.ireturn, 1) := dk_172 (dk_at dksX0_readsFrame_3 19 rfl rfl)
theorem dX0_readsFrame_90 : decode cX0_readsFrame 90 = .ok (.aload_n 0, 1) := dk_42 (dk_at dksX0_readsFrame_3 20 rfl rfl)
theorem dX0_readsFrame_91 : decode cX0_readsFrame 91 = .ok (.getfield 44, 3) := dk_180 0 44 (dk_at dksX0_readsFrame_3 21 rfl rfl)
theorem dX0_readsFrame_94 : decode cX0_readsFrame 94 = .ok (.aload_n 0, 1) := dk_42 (dk_at dksX0_readsFrame_4 0 rfl rfl)
theorem dX0_readsFrame_95 : decode cX0_readsFrame 95 = .ok (.getfield 209, 3) := dk_180 0 209 (dk_at dksX0_readsFrame_4 1 rfl rfl)
theorem dX0_readsFrame_98 : decode cX0_readsFrame 98 = .ok (.iload_n 1, 1) := dk_27 (dk_at dksX0_readsFrame_4 4 rfl rfl)
theorem dX0_readsFrame_99 : decode cX0_readsFrame 99 = .ok (.aload_n 2, 1) := dk_44 (dk_at dksX0_readsFrame_4 5 rfl rfl)
theorem dX0_readsFrame_100 : decode cX0_readsFrame 100 = .ok (.invokestatic 212, 3) := dk_184 0 212 (dk_at dksX0_readsFrame_4 6 rfl rfl)
theorem dX0_readsFrame_103 : decode cX0_readsFrame 103 = .ok (.aastore, 1) := dk_83 (dk_at dksX0_readsFrame_4 9 rfl rfl)
theorem dX0_readsFrame_104 : decode cX0_readsFrame 104 = .ok (.aload_n 0, 1) := dk_42 (dk_at dksX0_readsFrame_4 10 rfl rfl)
theorem dX0_readsFrame_105 : decode cX0_readsFrame 105 = .ok (.dup, 1) := dk_89 (dk_at dksX0_readsFrame_4 11 rfl rfl)
theorem dX0_readsFrame_106 : decode cX0_readsFrame 106 = .ok (.getfield 209, 3) := dk_180 0 209 (dk_at dksX0_readsFrame_4 12 rfl rfl)
theorem dX0_readsFrame_109 : decode cX0_readsFrame 109 = .ok (.iconst 1, 1) := dk_4 (dk_at dksX0_readsFrame_4 15 rfl rfl)
theorem dX0_readsFrame_110 : decode cX0_readsFrame 110 = .ok (.iadd, 1) := dk_96 (dk_at dksX0_readsFrame_4 16 rfl rfl)
theorem dX0_readsFrame_111 : decode cX0_readsFrame 111 = .ok (.putfield 209, 3) := dk_181 0 209 (dk_at dksX0_readsFrame_4 17 rfl rfl)
theorem dX0_readsFrame_114 : decode cX0_readsFrame 114 = .ok (.iconst 1, 1) := dk_4 (dk_at dksX0_readsFrame_4 20 rfl rfl)
theorem dX0_readsFrame_115 : decode cX0_readsFrame 115 = .ok (.ireturn, 1) := dk_172 (dk_at dksX0_readsFrame_4 21 rfl rfl)
abbrev cX0_newFrame : ByteArray := prog_1_method_17_code
def yX0_newFrame : MethodName := ⟨RX0, "newFrame", "(I[I)LFrameSheets$Frame;"⟩
def dkwX0_newFrame_4 : List UInt8 := [167, 0, 17, 187, 0, 31, 89, 43, 3, 46, 43, 4, 46, 44, 183, 0, 160, 176]
abbrev dktX0_newFrame_4 : List UInt8 := dkwX0_newFrame_4 ++ []
def dkwX0_newFrame_3 : List UInt8 := [43, 4, 46, 44, 183, 0, 156, 167, 0, 34, 187, 0, 157, 89, 43, 3, 46, 43, 4, 46, 44, 183, 0, 159]
abbrev dktX0_newFrame_3 : List UInt8 := dkwX0_newFrame_3 ++ dktX0_newFrame_4
def dkwX0_newFrame_2 : List UInt8 := [187, 0, 149, 89, 43, 3, 46, 43, 4, 46, 44, 183, 0, 151, 167, 0, 51, 187, 0, 154, 89, 43, 3, 46]
abbrev dktX0_newFrame_2 : List UInt8 := dkwX0_newFrame_2 ++ dktX0_newFrame_3
def dkwX0_newFrame_1 : List UInt8 := [170, 0, 0, 0, 0, 0, 78, 0, 0, 0, 1, 0, 0, 0, 3, 0, 0, 0, 27, 0, 0, 0, 44, 0, 0, 0, 61]
abbrev dktX0_newFrame_1 : List UInt8 := dkwX0_newFrame_1 ++ dktX0_newFrame_2
def dkwX0_newFrame_0 : List UInt8 := [7, 188, 10, 77, 43, 5, 44, 3, 7, 184, 0, 103, 26]
abbrev dktX0_newFrame_0 : List UInt8 := dkwX0_newFrame_0 ++ dktX0_newFrame_1
theorem dksX0_newFrame_0 : cX0_newFrame.data.toList.drop 0 = dktX0_newFrame_0 := by decide +kernel
theorem dksX0_newFrame_1 : cX0_newFrame.data.toList.drop 13 = dktX0_newFrame_1 := dk_seg dksX0_newFrame_0 13 rfl rfl
theorem dksX0_newFrame_2 : cX0_newFrame.data.toList.drop 40 = dktX0_newFrame_2 := dk_seg dksX0_newFrame_1 27 rfl rfl
theorem dksX0_newFrame_3 : cX0_newFrame.data.toList.drop 64 = dktX0_newFrame_3 := dk_seg dksX0_newFrame_2 24 rfl rfl
theorem dksX0_newFrame_4 : cX0_newFrame.data.toList.drop 88 = dktX0_newFrame_4 := dk_seg dksX0_newFrame_3 24 rfl rfl
theorem dX0_newFrame_0 : decode cX0_newFrame 0 = .ok (.iconst 4, 1) := dk_7 (dk_at dksX0_newFrame_0 0 rfl rfl)
theorem dX0_newFrame_1 : decode cX0_newFrame 1 = .ok (.newarray .int, 2) := dk_188_10 (dk_at dksX0_newFrame_0 1 rfl rfl)
theorem dX0_newFrame_3 : decode cX0_newFrame 3 = .ok (.astore_n 2, 1) := dk_77 (dk_at dksX0_newFrame_0 3 rfl rfl)
theorem dX0_newFrame_4 : decode cX0_newFrame 4 = .ok (.aload_n 1, 1) := dk_43 (dk_at dksX0_newFrame_0 4 rfl rfl)
theorem dX0_newFrame_5 : decode cX0_newFrame 5 = .ok (.iconst 2, 1) := dk_5 (dk_at dksX0_newFrame_0 5 rfl rfl)
theorem dX0_newFrame_6 : decode cX0_newFrame 6 = .ok (.aload_n 2, 1) := dk_44 (dk_at dksX0_newFrame_0 6 rfl rfl)
theorem dX0_newFrame_7 : decode cX0_newFrame 7 = .ok (.iconst 0, 1) := dk_3 (dk_at dksX0_newFrame_0 7 rfl rfl)
theorem dX0_newFrame_8 : decode cX0_newFrame 8 = .ok (.iconst 4, 1) := dk_7 (dk_at dksX0_newFrame_0 8 rfl rfl)
theorem dX0_newFrame_9 : decode cX0_newFrame 9 = .ok (.invokestatic 103, 3) := dk_184 0 103 (dk_at dksX0_newFrame_0 9 rfl rfl)
theorem dX0_newFrame_12 : decode cX0_newFrame 12 = .ok (.iload_n 0, 1) := dk_26 (dk_at dksX0_newFrame_0 12 rfl rfl)
theorem dX0_newFrame_13 : decode cX0_newFrame 13 = .ok (.tableswitch 78 1 3 #[27, 44, 61], 27) := by decide +kernel
theorem dX0_newFrame_40 : decode cX0_newFrame 40 = .ok (.new 149, 3) := dk_187 0 149 (dk_at dksX0_newFrame_2 0 rfl rfl)
theorem dX0_newFrame_43 : decode cX0_newFrame 43 = .ok (.dup, 1) := dk_89 (dk_at dksX0_newFrame_2 3 rfl rfl)
theorem dX0_newFrame_44 : decode cX0_newFrame 44 = .ok (.aload_n 1, 1) := dk_43 (dk_at dksX0_newFrame_2 4 rfl rfl)
theorem dX0_newFrame_45 : decode cX0_newFrame 45 = .ok (.iconst 0, 1) := dk_3 (dk_at dksX0_newFrame_2 5 rfl rfl)
theorem dX0_newFrame_46 : decode cX0_newFrame 46 = .ok (.iaload, 1) := dk_46 (dk_at dksX0_newFrame_2 6 rfl rfl)
theorem dX0_newFrame_47 : decode cX0_newFrame 47 = .ok (.aload_n 1, 1) := dk_43 (dk_at dksX0_newFrame_2 7 rfl rfl)
theorem dX0_newFrame_48 : decode cX0_newFrame 48 = .ok (.iconst 1, 1) := dk_4 (dk_at dksX0_newFrame_2 8 rfl rfl)
theorem dX0_newFrame_49 : decode cX0_newFrame 49 = .ok (.iaload, 1) := dk_46 (dk_at dksX0_newFrame_2 9 rfl rfl)
theorem dX0_newFrame_50 : decode cX0_newFrame 50 = .ok (.aload_n 2, 1) := dk_44 (dk_at dksX0_newFrame_2 10 rfl rfl)
theorem dX0_newFrame_51 : decode cX0_newFrame 51 = .ok (.invokespecial 151, 3) := dk_183 0 151 (dk_at dksX0_newFrame_2 11 rfl rfl)
theorem dX0_newFrame_54 : decode cX0_newFrame 54 = .ok (.goto 51, 3) := dk_167 0 51 (dk_at dksX0_newFrame_2 14 rfl rfl)
theorem dX0_newFrame_57 : decode cX0_newFrame 57 = .ok (.new 154, 3) := dk_187 0 154 (dk_at dksX0_newFrame_2 17 rfl rfl)
theorem dX0_newFrame_60 : decode cX0_newFrame 60 = .ok (.dup, 1) := dk_89 (dk_at dksX0_newFrame_2 20 rfl rfl)
theorem dX0_newFrame_61 : decode cX0_newFrame 61 = .ok (.aload_n 1, 1) := dk_43 (dk_at dksX0_newFrame_2 21 rfl rfl)
theorem dX0_newFrame_62 : decode cX0_newFrame 62 = .ok (.iconst 0, 1) := dk_3 (dk_at dksX0_newFrame_2 22 rfl rfl)
theorem dX0_newFrame_63 : decode cX0_newFrame 63 = .ok (.iaload, 1) := dk_46 (dk_at dksX0_newFrame_2 23 rfl rfl)
theorem dX0_newFrame_64 : decode cX0_newFrame 64 = .ok (.aload_n 1, 1) := dk_43 (dk_at dksX0_newFrame_3 0 rfl rfl)
theorem dX0_newFrame_65 : decode cX0_newFrame 65 = .ok (.iconst 1, 1) := dk_4 (dk_at dksX0_newFrame_3 1 rfl rfl)
theorem dX0_newFrame_66 : decode cX0_newFrame 66 = .ok (.iaload, 1) := dk_46 (dk_at dksX0_newFrame_3 2 rfl rfl)
theorem dX0_newFrame_67 : decode cX0_newFrame 67 = .ok (.aload_n 2, 1) := dk_44 (dk_at dksX0_newFrame_3 3 rfl rfl)
theorem dX0_newFrame_68 : decode cX0_newFrame 68 = .ok (.invokespecial 156, 3) := dk_183 0 156 (dk_at dksX0_newFrame_3 4 rfl rfl)
theorem dX0_newFrame_71 : decode cX0_newFrame 71 = .ok (.goto 34, 3) := dk_167 0 34 (dk_at dksX0_newFrame_3 7 rfl rfl)
theorem dX0_newFrame_74 : decode cX0_newFrame 74 = .ok (.new 157, 3) := dk_187 0 157 (dk_at dksX0_newFrame_3 10 rfl rfl)
theorem dX0_newFrame_77 : decode cX0_newFrame 77 = .ok (.dup, 1) := dk_89 (dk_at dksX0_newFrame_3 13 rfl rfl)
theorem dX0_newFrame_78 : decode cX0_newFrame 78 = .ok (.aload_n 1, 1) := dk_43 (dk_at dksX0_newFrame_3 14 rfl rfl)
theorem dX0_newFrame_79 : decode cX0_newFrame 79 = .ok (.iconst 0, 1) := dk_3 (dk_at dksX0_newFrame_3 15 rfl rfl)
theorem dX0_newFrame_80 : decode cX0_newFrame 80 = .ok (.iaload, 1) := dk_46 (dk_at dksX0_newFrame_3 16 rfl rfl)
theorem dX0_newFrame_81 : decode cX0_newFrame 81 = .ok (.aload_n 1, 1) := dk_43 (dk_at dksX0_newFrame_3 17 rfl rfl)
theorem dX0_newFrame_82 : decode cX0_newFrame 82 = .ok (.iconst 1, 1) := dk_4 (dk_at dksX0_newFrame_3 18 rfl rfl)
theorem dX0_newFrame_83 : decode cX0_newFrame 83 = .ok (.iaload, 1) := dk_46 (dk_at dksX0_newFrame_3 19 rfl rfl)
theorem dX0_newFrame_84 : decode cX0_newFrame 84 = .ok (.aload_n 2, 1) := dk_44 (dk_at dksX0_newFrame_3 20 rfl rfl)
theorem dX0_newFrame_85 : decode cX0_newFrame 85 = .ok (.invokespecial 159, 3) := dk_183 0 159 (dk_at dksX0_newFrame_3 21 rfl rfl)
theorem dX0_newFrame_88 : decode cX0_newFrame 88 = .ok (.goto 17, 3) := dk_167 0 17 (dk_at dksX0_newFrame_4 0 rfl rfl)
theorem dX0_newFrame_91 : decode cX0_newFrame 91 = .ok (.new 31, 3) := dk_187 0 31 (dk_at dksX0_newFrame_4 3 rfl rfl)
theorem dX0_newFrame_94 : decode cX0_newFrame 94 = .ok (.dup, 1) := dk_89 (dk_at dksX0_newFrame_4 6 rfl rfl)
theorem dX0_newFrame_95 : decode cX0_newFrame 95 = .ok (.aload_n 1, 1) := dk_43 (dk_at dksX0_newFrame_4 7 rfl rfl)
theorem dX0_newFrame_96 : decode cX0_newFrame 96 = .ok (.iconst 0, 1) := dk_3 (dk_at dksX0_newFrame_4 8 rfl rfl)
theorem dX0_newFrame_97 : decode cX0_newFrame 97 = .ok (.iaload, 1) := dk_46 (dk_at dksX0_newFrame_4 9 rfl rfl)
theorem dX0_newFrame_98 : decode cX0_newFrame 98 = .ok (.aload_n 1, 1) := dk_43 (dk_at dksX0_newFrame_4 10 rfl rfl)
theorem dX0_newFrame_99 : decode cX0_newFrame 99 = .ok (.iconst 1, 1) := dk_4 (dk_at dksX0_newFrame_4 11 rfl rfl)
theorem dX0_newFrame_100 : decode cX0_newFrame 100 = .ok (.iaload, 1) := dk_46 (dk_at dksX0_newFrame_4 12 rfl rfl)
theorem dX0_newFrame_101 : decode cX0_newFrame 101 = .ok (.aload_n 2, 1) := dk_44 (dk_at dksX0_newFrame_4 13 rfl rfl)
theorem dX0_newFrame_102 : decode cX0_newFrame 102 = .ok (.invokespecial 160, 3) := dk_183 0 160 (dk_at dksX0_newFrame_4 14 rfl rfl)
theorem dX0_newFrame_105 : decode cX0_newFrame 105 = .ok (.areturn, 1) := dk_176 (dk_at dksX0_newFrame_4 17 rfl rfl)
abbrev cX0_sheet : ByteArray := prog_1_method_29_code
def yX0_sheet : MethodName := ⟨RX0, "sheet", "(I)I"⟩
def dkwX0_sheet_6 : List UInt8 := [172]
abbrev dktX0_sheet_6 : List UInt8 := dkwX0_sheet_6 ++ []
def dkwX0_sheet_5 : List UInt8 := [3, 61, 28, 6, 162, 0, 16, 42, 180, 0, 68, 28, 1, 83, 132, 2, 1, 167, 255, 241, 42, 180, 0, 245]
abbrev dktX0_sheet_5 : List UInt8 := dkwX0_sheet_5 ++ dktX0_sheet_6
def dkwX0_sheet_4 : List UInt8 := [180, 0, 33, 3, 42, 180, 0, 245, 184, 0, 103, 42, 3, 184, 1, 0, 181, 0, 40, 42, 3, 181, 0, 75]
abbrev dktX0_sheet_4 : List UInt8 := dkwX0_sheet_4 ++ dktX0_sheet_5
def dkwX0_sheet_3 : List UInt8 := [16, 247, 160, 0, 7, 3, 167, 0, 7, 42, 180, 0, 206, 181, 0, 254, 42, 180, 0, 44, 3, 42]
abbrev dktX0_sheet_3 : List UInt8 := dkwX0_sheet_3 ++ dktX0_sheet_4
def dkwX0_sheet_2 : List UInt8 := [181, 0, 245, 42, 42, 180, 0, 192, 181, 0, 248, 42, 42, 180, 0, 199, 181, 0, 251, 42, 42, 180, 0, 206]
abbrev dktX0_sheet_2 : List UInt8 := dkwX0_sheet_2 ++ dktX0_sheet_3
def dkwX0_sheet_1 : List UInt8 := [42, 42, 180, 0, 27, 27, 50, 182, 0, 241, 16, 247, 159, 0, 6, 16, 252, 172, 42, 42, 180, 0, 209]
abbrev dktX0_sheet_1 : List UInt8 := dkwX0_sheet_1 ++ dktX0_sheet_2
def dkwX0_sheet_0 : List UInt8 := [27, 184, 0, 113, 154, 0, 5, 2, 172, 42, 180, 0, 27, 27, 50, 199, 0, 9, 42, 4, 182, 0, 88, 172]
abbrev dktX0_sheet_0 : List UInt8 := dkwX0_sheet_0 ++ dktX0_sheet_1
theorem dksX0_sheet_0 : cX0_sheet.data.toList.drop 0 = dktX0_sheet_0 := by decide +kernel
theorem dksX0_sheet_1 : cX0_sheet.data.toList.drop 24 = dktX0_sheet_1 := dk_seg dksX0_sheet_0 24 rfl rfl
theorem dksX0_sheet_2 : cX0_sheet.data.toList.drop 47 = dktX0_sheet_2 := dk_seg dksX0_sheet_1 23 rfl rfl
theorem dksX0_sheet_3 : cX0_sheet.data.toList.drop 71 = dktX0_sheet_3 := dk_seg dksX0_sheet_2 24 rfl rfl
theorem dksX0_sheet_4 : cX0_sheet.data.toList.drop 93 = dktX0_sheet_4 := dk_seg dksX0_sheet_3 22 rfl rfl
theorem dksX0_sheet_5 : cX0_sheet.data.toList.drop 117 = dktX0_sheet_5 := dk_seg dksX0_sheet_4 24 rfl rfl
theorem dksX0_sheet_6 : cX0_sheet.data.toList.drop 141 = dktX0_sheet_6 := dk_seg dksX0_sheet_5 24 rfl rfl
theorem dX0_sheet_0 : decode cX0_sheet 0 = .ok (.iload_n 1, 1) := dk_27 (dk_at dksX0_sheet_0 0 rfl rfl)
theorem dX0_sheet_1 : decode cX0_sheet 1 = .ok (.invokestatic 113, 3) := dk_184 0 113 (dk_at dksX0_sheet_0 1 rfl rfl)
theorem dX0_sheet_4 : decode cX0_sheet 4 = .ok (.ifCond .ne 5, 3) := dk_154 0 5 (dk_at dksX0_sheet_0 4 rfl rfl)
theorem dX0_sheet_7 : decode cX0_sheet 7 = .ok (.iconst (-1), 1) := dk_2 (dk_at dksX0_sheet_0 7 rfl rfl)
theorem dX0_sheet_8 : decode cX0_sheet 8 = .ok (.ireturn, 1) := dk_172 (dk_at dksX0_sheet_0 8 rfl rfl)
theorem dX0_sheet_9 : decode cX0_sheet 9 = .ok (.aload_n 0, 1) := dk_42 (dk_at dksX0_sheet_0 9 rfl rfl)
theorem dX0_sheet_10 : decode cX0_sheet 10 = .ok (.getfield 27, 3) := dk_180 0 27 (dk_at dksX0_sheet_0 10 rfl rfl)
theorem dX0_sheet_13 : decode cX0_sheet 13 = .ok (.iload_n 1, 1) := dk_27 (dk_at dksX0_sheet_0 13 rfl rfl)
theorem dX0_sheet_14 : decode cX0_sheet 14 = .ok (.aaload, 1) := dk_50 (dk_at dksX0_sheet_0 14 rfl rfl)
theorem dX0_sheet_15 : decode cX0_sheet 15 = .ok (.ifnonnull 9, 3) := dk_199 0 9 (dk_at dksX0_sheet_0 15 rfl rfl)
theorem dX0_sheet_18 : decode cX0_sheet 18 = .ok (.aload_n 0, 1) := dk_42 (dk_at dksX0_sheet_0 18 rfl rfl)
theorem dX0_sheet_19 : decode cX0_sheet 19 = .ok (.iconst 1, 1) := dk_4 (dk_at dksX0_sheet_0 19 rfl rfl)
theorem dX0_sheet_20 : decode cX0_sheet 20 = .ok (.invokevirtual 88, 3) := dk_182 0 88 (dk_at dksX0_sheet_0 20 rfl rfl)
theorem dX0_sheet_23 : decode cX0_sheet 23 = .ok (.ireturn, 1) := dk_172 (dk_at dksX0_sheet_0 23 rfl rfl)
theorem dX0_sheet_24 : decode cX0_sheet 24 = .ok (.aload_n 0, 1) := dk_42 (dk_at dksX0_sheet_1 0 rfl rfl)
theorem dX0_sheet_25 : decode cX0_sheet 25 = .ok (.aload_n 0, 1) := dk_42 (dk_at dksX0_sheet_1 1 rfl rfl)
theorem dX0_sheet_26 : decode cX0_sheet 26 = .ok (.getfield 27, 3) := dk_180 0 27 (dk_at dksX0_sheet_1 2 rfl rfl)
theorem dX0_sheet_29 : decode cX0_sheet 29 = .ok (.iload_n 1, 1) := dk_27 (dk_at dksX0_sheet_1 5 rfl rfl)
theorem dX0_sheet_30 : decode cX0_sheet 30 = .ok (.aaload, 1) := dk_50 (dk_at dksX0_sheet_1 6 rfl rfl)
theorem dX0_sheet_31 : decode cX0_sheet 31 = .ok (.invokevirtual 241, 3) := dk_182 0 241 (dk_at dksX0_sheet_1 7 rfl rfl)
theorem dX0_sheet_34 : decode cX0_sheet 34 = .ok (.bipush (-9), 2) := dk_16 247 (dk_at dksX0_sheet_1 10 rfl rfl)
theorem dX0_sheet_36 : decode cX0_sheet 36 = .ok (.if_icmp .eq 6, 3) := dk_159 0 6 (dk_at dksX0_sheet_1 12 rfl rfl)
theorem dX0_sheet_39 : decode cX0_sheet 39 = .ok (.bipush (-4), 2) := dk_16 252 (dk_at dksX0_sheet_1 15 rfl rfl)
theorem dX0_sheet_41 : decode cX0_sheet 41 = .ok (.ireturn, 1) := dk_172 (dk_at dksX0_sheet_1 17 rfl rfl)
theorem dX0_sheet_42 : decode cX0_sheet 42 = .ok (.aload_n 0, 1) := dk_42 (dk_at dksX0_sheet_1 18 rfl rfl)
theorem dX0_sheet_43 : decode cX0_sheet 43 = .ok (.aload_n 0, 1) := dk_42 (dk_at dksX0_sheet_1 19 rfl rfl)
theorem dX0_sheet_44 : decode cX0_sheet 44 = .ok (.getfield 209, 3) := dk_180 0 209 (dk_at dksX0_sheet_1 20 rfl rfl)
theorem dX0_sheet_47 : decode cX0_sheet 47 = .ok (.putfield 245, 3) := dk_181 0 245 (dk_at dksX0_sheet_2 0 rfl rfl)
theorem dX0_sheet_50 : decode cX0_sheet 50 = .ok (.aload_n 0, 1) := dk_42 (dk_at dksX0_sheet_2 3 rfl rfl)
theorem dX0_sheet_51 : decode cX0_sheet 51 = .ok (.aload_n 0, 1) := dk_42 (dk_at dksX0_sheet_2 4 rfl rfl)
theorem dX0_sheet_52 : decode cX0_sheet 52 = .ok (.getfield 192, 3) := dk_180 0 192 (dk_at dksX0_sheet_2 5 rfl rfl)
theorem dX0_sheet_55 : decode cX0_sheet 55 = .ok (.putfield 248, 3) := dk_181 0 248 (dk_at dksX0_sheet_2 8 rfl rfl)
theorem dX0_sheet_58 : decode cX0_sheet 58 = .ok (.aload_n 0, 1) := dk_42 (dk_at dksX0_sheet_2 11 rfl rfl)
theorem dX0_sheet_59 : decode cX0_sheet 59 = .ok (.aload_n 0, 1) := dk_42 (dk_at dksX0_sheet_2 12 rfl rfl)
theorem dX0_sheet_60 : decode cX0_sheet 60 = .ok (.getfield 199, 3) := dk_180 0 199 (dk_at dksX0_sheet_2 13 rfl rfl)
theorem dX0_sheet_63 : decode cX0_sheet 63 = .ok (.putfield 251, 3) := dk_181 0 251 (dk_at dksX0_sheet_2 16 rfl rfl)
theorem dX0_sheet_66 : decode cX0_sheet 66 = .ok (.aload_n 0, 1) := dk_42 (dk_at dksX0_sheet_2 19 rfl rfl)
theorem dX0_sheet_67 : decode cX0_sheet 67 = .ok (.aload_n 0, 1) := dk_42 (dk_at dksX0_sheet_2 20 rfl rfl)
theorem dX0_sheet_68 : decode cX0_sheet 68 = .ok (.getfield 206, 3) := dk_180 0 206 (dk_at dksX0_sheet_2 21 rfl rfl)
theorem dX0_sheet_71 : decode cX0_sheet 71 = .ok (.bipush (-9), 2) := dk_16 247 (dk_at dksX0_sheet_3 0 rfl rfl)
theorem dX0_sheet_73 : decode cX0_sheet 73 = .ok (.if_icmp .ne 7, 3) := dk_160 0 7 (dk_at dksX0_sheet_3 2 rfl rfl)
theorem dX0_sheet_76 : decode cX0_sheet 76 = .ok (.iconst 0, 1) := dk_3 (dk_at dksX0_sheet_3 5 rfl rfl)
theorem dX0_sheet_77 : decode cX0_sheet 77 = .ok (.goto 7, 3) := dk_167 0 7 (dk_at dksX0_sheet_3 6 rfl rfl)
theorem dX0_sheet_80 : decode cX0_sheet 80 = .ok (.aload_n 0, 1) := dk_42 (dk_at dksX0_sheet_3 9 rfl rfl)
theorem dX0_sheet_81 : decode cX0_sheet 81 = .ok (.getfield 206, 3) := dk_180 0 206 (dk_at dksX0_sheet_3 10 rfl rfl)
theorem dX0_sheet_84 : decode cX0_sheet 84 = .ok (.putfield 254, 3) := dk_181 0 254 (dk_at dksX0_sheet_3 13 rfl rfl)
theorem dX0_sheet_87 : decode cX0_sheet 87 = .ok (.aload_n 0, 1) := dk_42 (dk_at dksX0_sheet_3 16 rfl rfl)
theorem dX0_sheet_88 : decode cX0_sheet 88 = .ok (.getfield 44, 3) := dk_180 0 44 (dk_at dksX0_sheet_3 17 rfl rfl)
theorem dX0_sheet_91 : decode cX0_sheet 91 = .ok (.iconst 0, 1) := dk_3 (dk_at dksX0_sheet_3 20 rfl rfl)
theorem dX0_sheet_92 : decode cX0_sheet 92 = .ok (.aload_n 0, 1) := dk_42 (dk_at dksX0_sheet_3 21 rfl rfl)
theorem dX0_sheet_93 : decode cX0_sheet 93 = .ok (.getfield 33, 3) := dk_180 0 33 (dk_at dksX0_sheet_4 0 rfl rfl)
theorem dX0_sheet_96 : decode cX0_sheet 96 = .ok (.iconst 0, 1) := dk_3 (dk_at dksX0_sheet_4 3 rfl rfl)
theorem dX0_sheet_97 : decode cX0_sheet 97 = .ok (.aload_n 0, 1) := dk_42 (dk_at dksX0_sheet_4 4 rfl rfl)
theorem dX0_sheet_98 : decode cX0_sheet 98 = .ok (.getfield 245, 3) := dk_180 0 245 (dk_at dksX0_sheet_4 5 rfl rfl)
theorem dX0_sheet_101 : decode cX0_sheet 101 = .ok (.invokestatic 103, 3) := dk_184 0 103 (dk_at dksX0_sheet_4 8 rfl rfl)
theorem dX0_sheet_104 : decode cX0_sheet 104 = .ok (.aload_n 0, 1) := dk_42 (dk_at dksX0_sheet_4 11 rfl rfl)
theorem dX0_sheet_105 : decode cX0_sheet 105 = .ok (.iconst 0, 1) := dk_3 (dk_at dksX0_sheet_4 12 rfl rfl)
theorem dX0_sheet_106 : decode cX0_sheet 106 = .ok (.invokestatic 256, 3) := dk_184 1 0 (dk_at dksX0_sheet_4 13 rfl rfl)
theorem dX0_sheet_109 : decode cX0_sheet 109 = .ok (.putfield 40, 3) := dk_181 0 40 (dk_at dksX0_sheet_4 16 rfl rfl)
theorem dX0_sheet_112 : decode cX0_sheet 112 = .ok (.aload_n 0, 1) := dk_42 (dk_at dksX0_sheet_4 19 rfl rfl)
theorem dX0_sheet_113 : decode cX0_sheet 113 = .ok (.iconst 0, 1) := dk_3 (dk_at dksX0_sheet_4 20 rfl rfl)
theorem dX0_sheet_114 : decode cX0_sheet 114 = .ok (.putfield 75, 3) := dk_181 0 75 (dk_at dksX0_sheet_4 21 rfl rfl)
theorem dX0_sheet_117 : decode cX0_sheet 117 = .ok (.iconst 0, 1) := dk_3 (dk_at dksX0_sheet_5 0 rfl rfl)
theorem dX0_sheet_118 : decode cX0_sheet 118 = .ok (.istore_n 2, 1) := dk_61 (dk_at dksX0_sheet_5 1 rfl rfl)
theorem dX0_sheet_119 : decode cX0_sheet 119 = .ok (.iload_n 2, 1) := dk_28 (dk_at dksX0_sheet_5 2 rfl rfl)
theorem dX0_sheet_120 : decode cX0_sheet 120 = .ok (.iconst 3, 1) := dk_6 (dk_at dksX0_sheet_5 3 rfl rfl)
theorem dX0_sheet_121 : decode cX0_sheet 121 = .ok (.if_icmp .ge 16, 3) := dk_162 0 16 (dk_at dksX0_sheet_5 4 rfl rfl)
theorem dX0_sheet_124 : decode cX0_sheet 124 = .ok (.aload_n 0, 1) := dk_42 (dk_at dksX0_sheet_5 7 rfl rfl)
theorem dX0_sheet_125 : decode cX0_sheet 125 = .ok (.getfield 68, 3) := dk_180 0 68 (dk_at dksX0_sheet_5 8 rfl rfl)
theorem dX0_sheet_128 : decode cX0_sheet 128 = .ok (.iload_n 2, 1) := dk_28 (dk_at dksX0_sheet_5 11 rfl rfl)
theorem dX0_sheet_129 : decode cX0_sheet 129 = .ok (.aconst_null, 1) := dk_1 (dk_at dksX0_sheet_5 12 rfl rfl)
theorem dX0_sheet_130 : decode cX0_sheet 130 = .ok (.aastore, 1) := dk_83 (dk_at dksX0_sheet_5 13 rfl rfl)
theorem dX0_sheet_131 : decode cX0_sheet 131 = .ok (.iinc 2 1, 3) := dk_132 2 1 (dk_at dksX0_sheet_5 14 rfl rfl)
theorem dX0_sheet_134 : decode cX0_sheet 134 = .ok (.goto (-15), 3) := dk_167 255 241 (dk_at dksX0_sheet_5 17 rfl rfl)
theorem dX0_sheet_137 : decode cX0_sheet 137 = .ok (.aload_n 0, 1) := dk_42 (dk_at dksX0_sheet_5 20 rfl rfl)
theorem dX0_sheet_138 : decode cX0_sheet 138 = .ok (.getfield 245, 3) := dk_180 0 245 (dk_at dksX0_sheet_5 21 rfl rfl)
theorem dX0_sheet_141 : decode cX0_sheet 141 = .ok (.ireturn, 1) := dk_172 (dk_at dksX0_sheet_6 0 rfl rfl)
abbrev cX0_newRule : ByteArray := prog_1_method_15_code
def yX0_newRule : MethodName := ⟨RX0, "newRule", "(I)LFrameSheets$Rule;"⟩
def dkwX0_newRule_3 : List UInt8 := [183, 0, 121, 167, 0, 10, 187, 0, 122, 89, 183, 0, 124, 176]
abbrev dktX0_newRule_3 : List UInt8 := dkwX0_newRule_3 ++ []
def dkwX0_newRule_2 : List UInt8 := [187, 0, 37, 89, 183, 0, 39, 167, 0, 30, 187, 0, 116, 89, 183, 0, 118, 167, 0, 20, 187, 0, 119, 89]
abbrev dktX0_newRule_2 : List UInt8 := dkwX0_newRule_2 ++ dktX0_newRule_3
def dkwX0_newRule_1 : List UInt8 := [170, 0, 0, 0, 0, 0, 57, 0, 0, 0, 0, 0, 0, 0, 2, 0, 0, 0, 27, 0, 0, 0, 37, 0, 0, 0, 47]
abbrev dktX0_newRule_1 : List UInt8 := dkwX0_newRule_1 ++ dktX0_newRule_2
def dkwX0_newRule_0 : List UInt8 := [26]
abbrev dktX0_newRule_0 : List UInt8 := dkwX0_newRule_0 ++ dktX0_newRule_1
theorem dksX0_newRule_0 : cX0_newRule.data.toList.drop 0 = dktX0_newRule_0 := by decide +kernel
theorem dksX0_newRule_1 : cX0_newRule.data.toList.drop 1 = dktX0_newRule_1 := dk_seg dksX0_newRule_0 1 rfl rfl
theorem dksX0_newRule_2 : cX0_newRule.data.toList.drop 28 = dktX0_newRule_2 := dk_seg dksX0_newRule_1 27 rfl rfl
theorem dksX0_newRule_3 : cX0_newRule.data.toList.drop 52 = dktX0_newRule_3 := dk_seg dksX0_newRule_2 24 rfl rfl
theorem dX0_newRule_0 : decode cX0_newRule 0 = .ok (.iload_n 0, 1) := dk_26 (dk_at dksX0_newRule_0 0 rfl rfl)
theorem dX0_newRule_1 : decode cX0_newRule 1 = .ok (.tableswitch 57 0 2 #[27, 37, 47], 27) := by decide +kernel
theorem dX0_newRule_28 : decode cX0_newRule 28 = .ok (.new 37, 3) := dk_187 0 37 (dk_at dksX0_newRule_2 0 rfl rfl)
theorem dX0_newRule_31 : decode cX0_newRule 31 = .ok (.dup, 1) := dk_89 (dk_at dksX0_newRule_2 3 rfl rfl)
theorem dX0_newRule_32 : decode cX0_newRule 32 = .ok (.invokespecial 39, 3) := dk_183 0 39 (dk_at dksX0_newRule_2 4 rfl rfl)
theorem dX0_newRule_35 : decode cX0_newRule 35 = .ok (.goto 30, 3) := dk_167 0 30 (dk_at dksX0_newRule_2 7 rfl rfl)
theorem dX0_newRule_38 : decode cX0_newRule 38 = .ok (.new 116, 3) := dk_187 0 116 (dk_at dksX0_newRule_2 10 rfl rfl)
theorem dX0_newRule_41 : decode cX0_newRule 41 = .ok (.dup, 1) := dk_89 (dk_at dksX0_newRule_2 13 rfl rfl)
theorem dX0_newRule_42 : decode cX0_newRule 42 = .ok (.invokespecial 118, 3) := dk_183 0 118 (dk_at dksX0_newRule_2 14 rfl rfl)
theorem dX0_newRule_45 : decode cX0_newRule 45 = .ok (.goto 20, 3) := dk_167 0 20 (dk_at dksX0_newRule_2 17 rfl rfl)
theorem dX0_newRule_48 : decode cX0_newRule 48 = .ok (.new 119, 3) := dk_187 0 119 (dk_at dksX0_newRule_2 20 rfl rfl)
theorem dX0_newRule_51 : decode cX0_newRule 51 = .ok (.dup, 1) := dk_89 (dk_at dksX0_newRule_2 23 rfl rfl)
theorem dX0_newRule_52 : decode cX0_newRule 52 = .ok (.invokespecial 121, 3) := dk_183 0 121 (dk_at dksX0_newRule_3 0 rfl rfl)
theorem dX0_newRule_55 : decode cX0_newRule 55 = .ok (.goto 10, 3) := dk_167 0 10 (dk_at dksX0_newRule_3 3 rfl rfl)
theorem dX0_newRule_58 : decode cX0_newRule 58 = .ok (.new 122, 3) := dk_187 0 122 (dk_at dksX0_newRule_3 6 rfl rfl)
theorem dX0_newRule_61 : decode cX0_newRule 61 = .ok (.dup, 1) := dk_89 (dk_at dksX0_newRule_3 9 rfl rfl)
theorem dX0_newRule_62 : decode cX0_newRule 62 = .ok (.invokespecial 124, 3) := dk_183 0 124 (dk_at dksX0_newRule_3 10 rfl rfl)
theorem dX0_newRule_65 : decode cX0_newRule 65 = .ok (.areturn, 1) := dk_176 (dk_at dksX0_newRule_3 13 rfl rfl)
abbrev cX0_write : ByteArray := prog_1_method_30_code
def yX0_write : MethodName := ⟨RX0, "write", "(I)I"⟩
def dkwX0_write_7 : List UInt8 := [182, 1, 27, 145, 84, 132, 4, 1, 167, 255, 235, 42, 180, 0, 27, 27, 45, 83, 45, 190, 172]
abbrev dktX0_write_7 : List UInt8 := dkwX0_write_7 ++ []
def dkwX0_write_6 : List UInt8 := [182, 1, 24, 188, 8, 78, 3, 54, 4, 21, 4, 45, 190, 162, 0, 20, 45, 21, 4, 44, 21, 4]
abbrev dktX0_write_6 : List UInt8 := dkwX0_write_6 ++ dktX0_write_7
def dkwX0_write_5 : List UInt8 := [182, 1, 6, 87, 132, 3, 1, 167, 255, 231, 44, 182, 1, 24, 16, 120, 164, 0, 6, 16, 250, 172, 44]
abbrev dktX0_write_5 : List UInt8 := dkwX0_write_5 ++ dktX0_write_6
def dkwX0_write_4 : List UInt8 := [182, 0, 188, 87, 3, 62, 29, 42, 180, 0, 245, 162, 0, 23, 44, 42, 180, 0, 33, 29, 50, 182, 1, 21]
abbrev dktX0_write_4 : List UInt8 := dkwX0_write_4 ++ dktX0_write_5
def dkwX0_write_3 : List UInt8 := [180, 0, 254, 158, 0, 23, 44, 19, 1, 19, 182, 1, 6, 42, 180, 0, 254, 182, 1, 9, 16, 59]
abbrev dktX0_write_3 : List UInt8 := dkwX0_write_3 ++ dktX0_write_4
def dkwX0_write_2 : List UInt8 := [182, 1, 6, 42, 180, 0, 251, 182, 1, 9, 19, 1, 14, 182, 1, 6, 182, 0, 220, 183, 1, 16, 77, 42]
abbrev dktX0_write_2 : List UInt8 := dkwX0_write_2 ++ dktX0_write_3
def dkwX0_write_1 : List UInt8 := [187, 0, 185, 89, 183, 0, 187, 19, 1, 4, 182, 1, 6, 42, 180, 0, 248, 182, 1, 9, 19, 1, 12]
abbrev dktX0_write_1 : List UInt8 := dkwX0_write_1 ++ dktX0_write_2
def dkwX0_write_0 : List UInt8 := [27, 184, 0, 113, 154, 0, 5, 2, 172, 42, 180, 0, 245, 154, 0, 6, 16, 252, 172, 187, 0, 185, 89]
abbrev dktX0_write_0 : List UInt8 := dkwX0_write_0 ++ dktX0_write_1
theorem dksX0_write_0 : cX0_write.data.toList.drop 0 = dktX0_write_0 := by decide +kernel
theorem dksX0_write_1 : cX0_write.data.toList.drop 23 = dktX0_write_1 := dk_seg dksX0_write_0 23 rfl rfl
theorem dksX0_write_2 : cX0_write.data.toList.drop 46 = dktX0_write_2 := dk_seg dksX0_write_1 23 rfl rfl
theorem dksX0_write_3 : cX0_write.data.toList.drop 70 = dktX0_write_3 := dk_seg dksX0_write_2 24 rfl rfl
theorem dksX0_write_4 : cX0_write.data.toList.drop 92 = dktX0_write_4 := dk_seg dksX0_write_3 22 rfl rfl
theorem dksX0_write_5 : cX0_write.data.toList.drop 116 = dktX0_write_5 := dk_seg dksX0_write_4 24 rfl rfl
theorem dksX0_write_6 : cX0_write.data.toList.drop 139 = dktX0_write_6 := dk_seg dksX0_write_5 23 rfl rfl
theorem dksX0_write_7 : cX0_write.data.toList.drop 161 = dktX0_write_7 := dk_seg dksX0_write_6 22 rfl rfl
theorem dX0_write_0 : decode cX0_write 0 = .ok (.iload_n 1, 1) := dk_27 (dk_at dksX0_write_0 0 rfl rfl)
theorem dX0_write_1 : decode cX0_write 1 = .ok (.invokestatic 113, 3) := dk_184 0 113 (dk_at dksX0_write_0 1 rfl rfl)
theorem dX0_write_4 : decode cX0_write 4 = .ok (.ifCond .ne 5, 3) := dk_154 0 5 (dk_at dksX0_write_0 4 rfl rfl)
theorem dX0_write_7 : decode cX0_write 7 = .ok (.iconst (-1), 1) := dk_2 (dk_at dksX0_write_0 7 rfl rfl)
theorem dX0_write_8 : decode cX0_write 8 = .ok (.ireturn, 1) := dk_172 (dk_at dksX0_write_0 8 rfl rfl)
theorem dX0_write_9 : decode cX0_write 9 = .ok (.aload_n 0, 1) := dk_42 (dk_at dksX0_write_0 9 rfl rfl)
theorem dX0_write_10 : decode cX0_write 10 = .ok (.getfield 245, 3) := dk_180 0 245 (dk_at dksX0_write_0 10 rfl rfl)
theorem dX0_write_13 : decode cX0_write 13 = .ok (.ifCond .ne 6, 3) := dk_154 0 6 (dk_at dksX0_write_0 13 rfl rfl)
theorem dX0_write_16 : decode cX0_write 16 = .ok (.bipush (-4), 2) := dk_16 252 (dk_at dksX0_write_0 16 rfl rfl)
theorem dX0_write_18 : decode cX0_write 18 = .ok (.ireturn, 1) := dk_172 (dk_at dksX0_write_0 18 rfl rfl)
theorem dX0_write_19 : decode cX0_write 19 = .ok (.new 185, 3) := dk_187 0 185 (dk_at dksX0_write_0 19 rfl rfl)
theorem dX0_write_22 : decode cX0_write 22 = .ok (.dup, 1) := dk_89 (dk_at dksX0_write_0 22 rfl rfl)
theorem dX0_write_23 : decode cX0_write 23 = .ok (.new 185, 3) := dk_187 0 185 (dk_at dksX0_write_1 0 rfl rfl)
theorem dX0_write_26 : decode cX0_write 26 = .ok (.dup, 1) := dk_89 (dk_at dksX0_write_1 3 rfl rfl)
theorem dX0_write_27 : decode cX0_write 27 = .ok (.invokespecial 187, 3) := dk_183 0 187 (dk_at dksX0_write_1 4 rfl rfl)
theorem dX0_write_30 : decode cX0_write 30 = .ok (.ldc_w 260, 3) := dk_19 1 4 (dk_at dksX0_write_1 7 rfl rfl)
theorem dX0_write_33 : decode cX0_write 33 = .ok (.invokevirtual 262, 3) := dk_182 1 6 (dk_at dksX0_write_1 10 rfl rfl)
theorem dX0_write_36 : decode cX0_write 36 = .ok (.aload_n 0, 1) := dk_42 (dk_at dksX0_write_1 13 rfl rfl)
theorem dX0_write_37 : decode cX0_write 37 = .ok (.getfield 248, 3) := dk_180 0 248 (dk_at dksX0_write_1 14 rfl rfl)
theorem dX0_write_40 : decode cX0_write 40 = .ok (.invokevirtual 265, 3) := dk_182 1 9 (dk_at dksX0_write_1 17 rfl rfl)
theorem dX0_write_43 : decode cX0_write 43 = .ok (.ldc_w 268, 3) := dk_19 1 12 (dk_at dksX0_write_1 20 rfl rfl)
theorem dX0_write_46 : decode cX0_write 46 = .ok (.invokevirtual 262, 3) := dk_182 1 6 (dk_at dksX0_write_2 0 rfl rfl)
theorem dX0_write_49 : decode cX0_write 49 = .ok (.aload_n 0, 1) := dk_42 (dk_at dksX0_write_2 3 rfl rfl)
theorem dX0_write_50 : decode cX0_write 50 = .ok (.getfield 251, 3) := dk_180 0 251 (dk_at dksX0_write_2 4 rfl rfl)
theorem dX0_write_53 : decode cX0_write 53 = .ok (.invokevirtual 265, 3) := dk_182 1 9 (dk_at dksX0_write_2 7 rfl rfl)
theorem dX0_write_56 : decode cX0_write 56 = .ok (.ldc_w 270, 3) := dk_19 1 14 (dk_at dksX0_write_2 10 rfl rfl)
theorem dX0_write_59 : decode cX0_write 59 = .ok (.invokevirtual 262, 3) := dk_182 1 6 (dk_at dksX0_write_2 13 rfl rfl)
theorem dX0_write_62 : decode cX0_write 62 = .ok (.invokevirtual 220, 3) := dk_182 0 220 (dk_at dksX0_write_2 16 rfl rfl)
theorem dX0_write_65 : decode cX0_write 65 = .ok (.invokespecial 272, 3) := dk_183 1 16 (dk_at dksX0_write_2 19 rfl rfl)
theorem dX0_write_68 : decode cX0_write 68 = .ok (.astore_n 2, 1) := dk_77 (dk_at dksX0_write_2 22 rfl rfl)
theorem dX0_write_69 : decode cX0_write 69 = .ok (.aload_n 0, 1) := dk_42 (dk_at dksX0_write_2 23 rfl rfl)
theorem dX0_write_70 : decode cX0_write 70 = .ok (.getfield 254, 3) := dk_180 0 254 (dk_at dksX0_write_3 0 rfl rfl)
theorem dX0_write_73 : decode cX0_write 73 = .ok (.ifCond .le 23, 3) := dk_158 0 23 (dk_at dksX0_write_3 3 rfl rfl)
theorem dX0_write_76 : decode cX0_write 76 = .ok (.aload_n 2, 1) := dk_44 (dk_at dksX0_write_3 6 rfl rfl)
theorem dX0_write_77 : decode cX0_write 77 = .ok (.ldc_w 275, 3) := dk_19 1 19 (dk_at dksX0_write_3 7 rfl rfl)
theorem dX0_write_80 : decode cX0_write 80 = .ok (.invokevirtual 262, 3) := dk_182 1 6 (dk_at dksX0_write_3 10 rfl rfl)
theorem dX0_write_83 : decode cX0_write 83 = .ok (.aload_n 0, 1) := dk_42 (dk_at dksX0_write_3 13 rfl rfl)
theorem dX0_write_84 : decode cX0_write 84 = .ok (.getfield 254, 3) := dk_180 0 254 (dk_at dksX0_write_3 14 rfl rfl)
theorem dX0_write_87 : decode cX0_write 87 = .ok (.invokevirtual 265, 3) := dk_182 1 9 (dk_at dksX0_write_3 17 rfl rfl)
theorem dX0_write_90 : decode cX0_write 90 = .ok (.bipush 59, 2) := dk_16 59 (dk_at dksX0_write_3 20 rfl rfl)
theorem dX0_write_92 : decode cX0_write 92 = .ok (.invokevirtual 188, 3) := dk_182 0 188 (dk_at dksX0_write_4 0 rfl rfl)
theorem dX0_write_95 : decode cX0_write 95 = .ok (.pop, 1) := dk_87 (dk_at dksX0_write_4 3 rfl rfl)
theorem dX0_write_96 : decode cX0_write 96 = .ok (.iconst 0, 1) := dk_3 (dk_at dksX0_write_4 4 rfl rfl)
theorem dX0_write_97 : decode cX0_write 97 = .ok (.istore_n 3, 1) := dk_62 (dk_at dksX0_write_4 5 rfl rfl)
theorem dX0_write_98 : decode cX0_write 98 = .ok (.iload_n 3, 1) := dk_29 (dk_at dksX0_write_4 6 rfl rfl)
theorem dX0_write_99 : decode cX0_write 99 = .ok (.aload_n 0, 1) := dk_42 (dk_at dksX0_write_4 7 rfl rfl)
theorem dX0_write_100 : decode cX0_write 100 = .ok (.getfield 245, 3) := dk_180 0 245 (dk_at dksX0_write_4 8 rfl rfl)
theorem dX0_write_103 : decode cX0_write 103 = .ok (.if_icmp .ge 23, 3) := dk_162 0 23 (dk_at dksX0_write_4 11 rfl rfl)
theorem dX0_write_106 : decode cX0_write 106 = .ok (.aload_n 2, 1) := dk_44 (dk_at dksX0_write_4 14 rfl rfl)
theorem dX0_write_107 : decode cX0_write 107 = .ok (.aload_n 0, 1) := dk_42 (dk_at dksX0_write_4 15 rfl rfl)
theorem dX0_write_108 : decode cX0_write 108 = .ok (.getfield 33, 3) := dk_180 0 33 (dk_at dksX0_write_4 16 rfl rfl)
theorem dX0_write_111 : decode cX0_write 111 = .ok (.iload_n 3, 1) := dk_29 (dk_at dksX0_write_4 19 rfl rfl)
theorem dX0_write_112 : decode cX0_write 112 = .ok (.aaload, 1) := dk_50 (dk_at dksX0_write_4 20 rfl rfl)
theorem dX0_write_113 : decode cX0_write 113 = .ok (.invokevirtual 277, 3) := dk_182 1 21 (dk_at dksX0_write_4 21 rfl rfl)
theorem dX0_write_116 : decode cX0_write 116 = .ok (.invokevirtual 262, 3) := dk_182 1 6 (dk_at dksX0_write_5 0 rfl rfl)
theorem dX0_write_119 : decode cX0_write 119 = .ok (.pop, 1) := dk_87 (dk_at dksX0_write_5 3 rfl rfl)
theorem dX0_write_120 : decode cX0_write 120 = .ok (.iinc 3 1, 3) := dk_132 3 1 (dk_at dksX0_write_5 4 rfl rfl)
theorem dX0_write_123 : decode cX0_write 123 = .ok (.goto (-25), 3) := dk_167 255 231 (dk_at dksX0_write_5 7 rfl rfl)
theorem dX0_write_126 : decode cX0_write 126 = .ok (.aload_n 2, 1) := dk_44 (dk_at dksX0_write_5 10 rfl rfl)
theorem dX0_write_127 : decode cX0_write 127 = .ok (.invokevirtual 280, 3) := dk_182 1 24 (dk_at dksX0_write_5 11 rfl rfl)
theorem dX0_write_130 : decode cX0_write 130 = .ok (.bipush 120, 2) := dk_16 120 (dk_at dksX0_write_5 14 rfl rfl)
theorem dX0_write_132 : decode cX0_write 132 = .ok (.if_icmp .le 6, 3) := dk_164 0 6 (dk_at dksX0_write_5 16 rfl rfl)
theorem dX0_write_135 : decode cX0_write 135 = .ok (.bipush (-6), 2) := dk_16 250 (dk_at dksX0_write_5 19 rfl rfl)
theorem dX0_write_137 : decode cX0_write 137 = .ok (.ireturn, 1) := dk_172 (dk_at dksX0_write_5 21 rfl rfl)
theorem dX0_write_138 : decode cX0_write 138 = .ok (.aload_n 2, 1) := dk_44 (dk_at dksX0_write_5 22 rfl rfl)
theorem dX0_write_139 : decode cX0_write 139 = .ok (.invokevirtual 280, 3) := dk_182 1 24 (dk_at dksX0_write_6 0 rfl rfl)
theorem dX0_write_142 : decode cX0_write 142 = .ok (.newarray .byte, 2) := dk_188_8 (dk_at dksX0_write_6 3 rfl rfl)
theorem dX0_write_144 : decode cX0_write 144 = .ok (.astore_n 3, 1) := dk_78 (dk_at dksX0_write_6 5 rfl rfl)
theorem dX0_write_145 : decode cX0_write 145 = .ok (.iconst 0, 1) := dk_3 (dk_at dksX0_write_6 6 rfl rfl)
theorem dX0_write_146 : decode cX0_write 146 = .ok (.istore 4, 2) := dk_54 4 (dk_at dksX0_write_6 7 rfl rfl)
theorem dX0_write_148 : decode cX0_write 148 = .ok (.iload 4, 2) := dk_21 4 (dk_at dksX0_write_6 9 rfl rfl)
theorem dX0_write_150 : decode cX0_write 150 = .ok (.aload_n 3, 1) := dk_45 (dk_at dksX0_write_6 11 rfl rfl)
theorem dX0_write_151 : decode cX0_write 151 = .ok (.arraylength, 1) := dk_190 (dk_at dksX0_write_6 12 rfl rfl)
theorem dX0_write_152 : decode cX0_write 152 = .ok (.if_icmp .ge 20, 3) := dk_162 0 20 (dk_at dksX0_write_6 13 rfl rfl)
theorem dX0_write_155 : decode cX0_write 155 = .ok (.aload_n 3, 1) := dk_45 (dk_at dksX0_write_6 16 rfl rfl)
theorem dX0_write_156 : decode cX0_write 156 = .ok (.iload 4, 2) := dk_21 4 (dk_at dksX0_write_6 17 rfl rfl)
theorem dX0_write_158 : decode cX0_write 158 = .ok (.aload_n 2, 1) := dk_44 (dk_at dksX0_write_6 19 rfl rfl)
theorem dX0_write_159 : decode cX0_write 159 = .ok (.iload 4, 2) := dk_21 4 (dk_at dksX0_write_6 20 rfl rfl)
theorem dX0_write_161 : decode cX0_write 161 = .ok (.invokevirtual 283, 3) := dk_182 1 27 (dk_at dksX0_write_7 0 rfl rfl)
theorem dX0_write_164 : decode cX0_write 164 = .ok (.i2b, 1) := dk_145 (dk_at dksX0_write_7 3 rfl rfl)
theorem dX0_write_165 : decode cX0_write 165 = .ok (.bastore, 1) := dk_84 (dk_at dksX0_write_7 4 rfl rfl)
theorem dX0_write_166 : decode cX0_write 166 = .ok (.iinc 4 1, 3) := dk_132 4 1 (dk_at dksX0_write_7 5 rfl rfl)
theorem dX0_write_169 : decode cX0_write 169 = .ok (.goto (-21), 3) := dk_167 255 235 (dk_at dksX0_write_7 8 rfl rfl)
theorem dX0_write_172 : decode cX0_write 172 = .ok (.aload_n 0, 1) := dk_42 (dk_at dksX0_write_7 11 rfl rfl)
theorem dX0_write_173 : decode cX0_write 173 = .ok (.getfield 27, 3) := dk_180 0 27 (dk_at dksX0_write_7 12 rfl rfl)
theorem dX0_write_176 : decode cX0_write 176 = .ok (.iload_n 1, 1) := dk_27 (dk_at dksX0_write_7 15 rfl rfl)
theorem dX0_write_177 : decode cX0_write 177 = .ok (.aload_n 3, 1) := dk_45 (dk_at dksX0_write_7 16 rfl rfl)
theorem dX0_write_178 : decode cX0_write 178 = .ok (.aastore, 1) := dk_83 (dk_at dksX0_write_7 17 rfl rfl)
theorem dX0_write_179 : decode cX0_write 179 = .ok (.aload_n 3, 1) := dk_45 (dk_at dksX0_write_7 18 rfl rfl)
theorem dX0_write_180 : decode cX0_write 180 = .ok (.arraylength, 1) := dk_190 (dk_at dksX0_write_7 19 rfl rfl)
theorem dX0_write_181 : decode cX0_write 181 = .ok (.ireturn, 1) := dk_172 (dk_at dksX0_write_7 20 rfl rfl)
abbrev cX0_frame : ByteArray := prog_1_method_33_code
def yX0_frame : MethodName := ⟨RX0, "frame", "(II)I"⟩
def dkwX0_frame_1 : List UInt8 := [28, 42, 180, 0, 254, 182, 1, 36, 4, 182, 0, 96, 167, 0, 4, 2, 172]
abbrev dktX0_frame_1 : List UInt8 := dkwX0_frame_1 ++ []
def dkwX0_frame_0 : List UInt8 := [42, 27, 182, 1, 33, 153, 0, 34, 28, 3, 7, 184, 0, 78, 153, 0, 25, 42, 42, 180, 0, 33, 27, 50]
abbrev dktX0_frame_0 : List UInt8 := dkwX0_frame_0 ++ dktX0_frame_1
theorem dksX0_frame_0 : cX0_frame.data.toList.drop 0 = dktX0_frame_0 := by decide +kernel
theorem dksX0_frame_1 : cX0_frame.data.toList.drop 24 = dktX0_frame_1 := dk_seg dksX0_frame_0 24 rfl rfl
theorem dX0_frame_0 : decode cX0_frame 0 = .ok (.aload_n 0, 1) := dk_42 (dk_at dksX0_frame_0 0 rfl rfl)
theorem dX0_frame_1 : decode cX0_frame 1 = .ok (.iload_n 1, 1) := dk_27 (dk_at dksX0_frame_0 1 rfl rfl)
theorem dX0_frame_2 : decode cX0_frame 2 = .ok (.invokevirtual 289, 3) := dk_182 1 33 (dk_at dksX0_frame_0 2 rfl rfl)
theorem dX0_frame_5 : decode cX0_frame 5 = .ok (.ifCond .eq 34, 3) := dk_153 0 34 (dk_at dksX0_frame_0 5 rfl rfl)
theorem dX0_frame_8 : decode cX0_frame 8 = .ok (.iload_n 2, 1) := dk_28 (dk_at dksX0_frame_0 8 rfl rfl)
theorem dX0_frame_9 : decode cX0_frame 9 = .ok (.iconst 0, 1) := dk_3 (dk_at dksX0_frame_0 9 rfl rfl)
theorem dX0_frame_10 : decode cX0_frame 10 = .ok (.iconst 4, 1) := dk_7 (dk_at dksX0_frame_0 10 rfl rfl)
theorem dX0_frame_11 : decode cX0_frame 11 = .ok (.invokestatic 78, 3) := dk_184 0 78 (dk_at dksX0_frame_0 11 rfl rfl)
theorem dX0_frame_14 : decode cX0_frame 14 = .ok (.ifCond .eq 25, 3) := dk_153 0 25 (dk_at dksX0_frame_0 14 rfl rfl)
theorem dX0_frame_17 : decode cX0_frame 17 = .ok (.aload_n 0, 1) := dk_42 (dk_at dksX0_frame_0 17 rfl rfl)
theorem dX0_frame_18 : decode cX0_frame 18 = .ok (.aload_n 0, 1) := dk_42 (dk_at dksX0_frame_0 18 rfl rfl)
theorem dX0_frame_19 : decode cX0_frame 19 = .ok (.getfield 33, 3) := dk_180 0 33 (dk_at dksX0_frame_0 19 rfl rfl)
theorem dX0_frame_22 : decode cX0_frame 22 = .ok (.iload_n 1, 1) := dk_27 (dk_at dksX0_frame_0 22 rfl rfl)
theorem dX0_frame_23 : decode cX0_frame 23 = .ok (.aaload, 1) := dk_50 (dk_at dksX0_frame_0 23 rfl rfl)
theorem dX0_frame_24 : decode cX0_frame 24 = .ok (.iload_n 2, 1) := dk_28 (dk_at dksX0_frame_1 0 rfl rfl)
theorem dX0_frame_25 : decode cX0_frame 25 = .ok (.aload_n 0, 1) := dk_42 (dk_at dksX0_frame_1 1 rfl rfl)
theorem dX0_frame_26 : decode cX0_frame 26 = .ok (.getfield 254, 3) := dk_180 0 254 (dk_at dksX0_frame_1 2 rfl rfl)
theorem dX0_frame_29 : decode cX0_frame 29 = .ok (.invokevirtual 292, 3) := dk_182 1 36 (dk_at dksX0_frame_1 5 rfl rfl)
theorem dX0_frame_32 : decode cX0_frame 32 = .ok (.iconst 1, 1) := dk_4 (dk_at dksX0_frame_1 8 rfl rfl)
theorem dX0_frame_33 : decode cX0_frame 33 = .ok (.invokevirtual 96, 3) := dk_182 0 96 (dk_at dksX0_frame_1 9 rfl rfl)
theorem dX0_frame_36 : decode cX0_frame 36 = .ok (.goto 4, 3) := dk_167 0 4 (dk_at dksX0_frame_1 12 rfl rfl)
theorem dX0_frame_39 : decode cX0_frame 39 = .ok (.iconst (-1), 1) := dk_2 (dk_at dksX0_frame_1 15 rfl rfl)
theorem dX0_frame_40 : decode cX0_frame 40 = .ok (.ireturn, 1) := dk_172 (dk_at dksX0_frame_1 16 rfl rfl)
abbrev cX0_isFrame : ByteArray := prog_1_method_31_code
def yX0_isFrame : MethodName := ⟨RX0, "isFrame", "(I)Z"⟩
def dkwX0_isFrame_0 : List UInt8 := [27, 3, 42, 180, 0, 245, 4, 100, 184, 0, 78, 172]
abbrev dktX0_isFrame_0 : List UInt8 := dkwX0_isFrame_0 ++ []
theorem dksX0_isFrame_0 : cX0_isFrame.data.toList.drop 0 = dktX0_isFrame_0 := by decide +kernel
theorem dX0_isFrame_0 : decode cX0_isFrame 0 = .ok (.iload_n 1, 1) := dk_27 (dk_at dksX0_isFrame_0 0 rfl rfl)
theorem dX0_isFrame_1 : decode cX0_isFrame 1 = .ok (.iconst 0, 1) := dk_3 (dk_at dksX0_isFrame_0 1 rfl rfl)
theorem dX0_isFrame_2 : decode cX0_isFrame 2 = .ok (.aload_n 0, 1) := dk_42 (dk_at dksX0_isFrame_0 2 rfl rfl)
theorem dX0_isFrame_3 : decode cX0_isFrame 3 = .ok (.getfield 245, 3) := dk_180 0 245 (dk_at dksX0_isFrame_0 3 rfl rfl)
theorem dX0_isFrame_6 : decode cX0_isFrame 6 = .ok (.iconst 1, 1) := dk_4 (dk_at dksX0_isFrame_0 6 rfl rfl)
theorem dX0_isFrame_7 : decode cX0_isFrame 7 = .ok (.isub, 1) := dk_100 (dk_at dksX0_isFrame_0 7 rfl rfl)
theorem dX0_isFrame_8 : decode cX0_isFrame 8 = .ok (.invokestatic 78, 3) := dk_184 0 78 (dk_at dksX0_isFrame_0 8 rfl rfl)
theorem dX0_isFrame_11 : decode cX0_isFrame 11 = .ok (.ireturn, 1) := dk_172 (dk_at dksX0_isFrame_0 11 rfl rfl)
abbrev cX0_place : ByteArray := prog_1_method_34_code
def yX0_place : MethodName := ⟨RX0, "place", "(II)I"⟩
def dkwX0_place_1 : List UInt8 := [153, 0, 21, 42, 42, 180, 0, 33, 27, 50, 28, 182, 1, 42, 4, 182, 0, 96, 167, 0, 5, 16, 247, 172]
abbrev dktX0_place_1 : List UInt8 := dkwX0_place_1 ++ []
def dkwX0_place_0 : List UInt8 := [42, 27, 182, 1, 33, 153, 0, 12, 28, 3, 6, 184, 0, 78, 154, 0, 5, 2, 172, 42, 27, 182, 1, 39]
abbrev dktX0_place_0 : List UInt8 := dkwX0_place_0 ++ dktX0_place_1
theorem dksX0_place_0 : cX0_place.data.toList.drop 0 = dktX0_place_0 := by decide +kernel
theorem dksX0_place_1 : cX0_place.data.toList.drop 24 = dktX0_place_1 := dk_seg dksX0_place_0 24 rfl rfl
theorem dX0_place_0 : decode cX0_place 0 = .ok (.aload_n 0, 1) := dk_42 (dk_at dksX0_place_0 0 rfl rfl)
theorem dX0_place_1 : decode cX0_place 1 = .ok (.iload_n 1, 1) := dk_27 (dk_at dksX0_place_0 1 rfl rfl)
theorem dX0_place_2 : decode cX0_place 2 = .ok (.invokevirtual 289, 3) := dk_182 1 33 (dk_at dksX0_place_0 2 rfl rfl)
theorem dX0_place_5 : decode cX0_place 5 = .ok (.ifCond .eq 12, 3) := dk_153 0 12 (dk_at dksX0_place_0 5 rfl rfl)
theorem dX0_place_8 : decode cX0_place 8 = .ok (.iload_n 2, 1) := dk_28 (dk_at dksX0_place_0 8 rfl rfl)
theorem dX0_place_9 : decode cX0_place 9 = .ok (.iconst 0, 1) := dk_3 (dk_at dksX0_place_0 9 rfl rfl)
theorem dX0_place_10 : decode cX0_place 10 = .ok (.iconst 3, 1) := dk_6 (dk_at dksX0_place_0 10 rfl rfl)
theorem dX0_place_11 : decode cX0_place 11 = .ok (.invokestatic 78, 3) := dk_184 0 78 (dk_at dksX0_place_0 11 rfl rfl)
theorem dX0_place_14 : decode cX0_place 14 = .ok (.ifCond .ne 5, 3) := dk_154 0 5 (dk_at dksX0_place_0 14 rfl rfl)
theorem dX0_place_17 : decode cX0_place 17 = .ok (.iconst (-1), 1) := dk_2 (dk_at dksX0_place_0 17 rfl rfl)
theorem dX0_place_18 : decode cX0_place 18 = .ok (.ireturn, 1) := dk_172 (dk_at dksX0_place_0 18 rfl rfl)
theorem dX0_place_19 : decode cX0_place 19 = .ok (.aload_n 0, 1) := dk_42 (dk_at dksX0_place_0 19 rfl rfl)
theorem dX0_place_20 : decode cX0_place 20 = .ok (.iload_n 1, 1) := dk_27 (dk_at dksX0_place_0 20 rfl rfl)
theorem dX0_place_21 : decode cX0_place 21 = .ok (.invokevirtual 295, 3) := dk_182 1 39 (dk_at dksX0_place_0 21 rfl rfl)
theorem dX0_place_24 : decode cX0_place 24 = .ok (.ifCond .eq 21, 3) := dk_153 0 21 (dk_at dksX0_place_1 0 rfl rfl)
theorem dX0_place_27 : decode cX0_place 27 = .ok (.aload_n 0, 1) := dk_42 (dk_at dksX0_place_1 3 rfl rfl)
theorem dX0_place_28 : decode cX0_place 28 = .ok (.aload_n 0, 1) := dk_42 (dk_at dksX0_place_1 4 rfl rfl)
theorem dX0_place_29 : decode cX0_place 29 = .ok (.getfield 33, 3) := dk_180 0 33 (dk_at dksX0_place_1 5 rfl rfl)
theorem dX0_place_32 : decode cX0_place 32 = .ok (.iload_n 1, 1) := dk_27 (dk_at dksX0_place_1 8 rfl rfl)
theorem dX0_place_33 : decode cX0_place 33 = .ok (.aaload, 1) := dk_50 (dk_at dksX0_place_1 9 rfl rfl)
theorem dX0_place_34 : decode cX0_place 34 = .ok (.iload_n 2, 1) := dk_28 (dk_at dksX0_place_1 10 rfl rfl)
theorem dX0_place_35 : decode cX0_place 35 = .ok (.invokevirtual 298, 3) := dk_182 1 42 (dk_at dksX0_place_1 11 rfl rfl)
theorem dX0_place_38 : decode cX0_place 38 = .ok (.iconst 1, 1) := dk_4 (dk_at dksX0_place_1 14 rfl rfl)
theorem dX0_place_39 : decode cX0_place 39 = .ok (.invokevirtual 96, 3) := dk_182 0 96 (dk_at dksX0_place_1 15 rfl rfl)
theorem dX0_place_42 : decode cX0_place 42 = .ok (.goto 5, 3) := dk_167 0 5 (dk_at dksX0_place_1 18 rfl rfl)
theorem dX0_place_45 : decode cX0_place 45 = .ok (.bipush (-9), 2) := dk_16 247 (dk_at dksX0_place_1 21 rfl rfl)
theorem dX0_place_47 : decode cX0_place 47 = .ok (.ireturn, 1) := dk_172 (dk_at dksX0_place_1 23 rfl rfl)
abbrev cX0_isSet : ByteArray := prog_1_method_32_code
def yX0_isSet : MethodName := ⟨RX0, "isSet", "(I)Z"⟩
def dkwX0_isSet_0 : List UInt8 := [42, 180, 0, 33, 27, 50, 180, 1, 31, 16, 247, 159, 0, 7, 4, 167, 0, 4, 3, 172]
abbrev dktX0_isSet_0 : List UInt8 := dkwX0_isSet_0 ++ []
theorem dksX0_isSet_0 : cX0_isSet.data.toList.drop 0 = dktX0_isSet_0 := by decide +kernel
theorem dX0_isSet_0 : decode cX0_isSet 0 = .ok (.aload_n 0, 1) := dk_42 (dk_at dksX0_isSet_0 0 rfl rfl)
theorem dX0_isSet_1 : decode cX0_isSet 1 = .ok (.getfield 33, 3) := dk_180 0 33 (dk_at dksX0_isSet_0 1 rfl rfl)
theorem dX0_isSet_4 : decode cX0_isSet 4 = .ok (.iload_n 1, 1) := dk_27 (dk_at dksX0_isSet_0 4 rfl rfl)
theorem dX0_isSet_5 : decode cX0_isSet 5 = .ok (.aaload, 1) := dk_50 (dk_at dksX0_isSet_0 5 rfl rfl)
theorem dX0_isSet_6 : decode cX0_isSet 6 = .ok (.getfield 287, 3) := dk_180 1 31 (dk_at dksX0_isSet_0 6 rfl rfl)
theorem dX0_isSet_9 : decode cX0_isSet 9 = .ok (.bipush (-9), 2) := dk_16 247 (dk_at dksX0_isSet_0 9 rfl rfl)
theorem dX0_isSet_11 : decode cX0_isSet 11 = .ok (.if_icmp .eq 7, 3) := dk_159 0 7 (dk_at dksX0_isSet_0 11 rfl rfl)
theorem dX0_isSet_14 : decode cX0_isSet 14 = .ok (.iconst 1, 1) := dk_4 (dk_at dksX0_isSet_0 14 rfl rfl)
theorem dX0_isSet_15 : decode cX0_isSet 15 = .ok (.goto 4, 3) := dk_167 0 4 (dk_at dksX0_isSet_0 15 rfl rfl)
theorem dX0_isSet_18 : decode cX0_isSet 18 = .ok (.iconst 0, 1) := dk_3 (dk_at dksX0_isSet_0 18 rfl rfl)
theorem dX0_isSet_19 : decode cX0_isSet 19 = .ok (.ireturn, 1) := dk_172 (dk_at dksX0_isSet_0 19 rfl rfl)
abbrev cX0_mark : ByteArray := prog_1_method_35_code
def yX0_mark : MethodName := ⟨RX0, "mark", "(II)I"⟩
def dkwX0_mark_4 : List UInt8 := [45, 192, 0, 157, 182, 1, 51, 172, 58, 4, 42, 6, 182, 0, 88, 172]
abbrev dktX0_mark_4 : List UInt8 := dkwX0_mark_4 ++ []
def dkwX0_mark_3 : List UInt8 := [45, 192, 0, 149, 182, 1, 45, 167, 0, 24, 45, 192, 0, 154, 42, 180, 0, 254, 182, 1, 48, 167, 0, 10]
abbrev dktX0_mark_3 : List UInt8 := dkwX0_mark_3 ++ dktX0_mark_4
def dkwX0_mark_2 : List UInt8 := [171, 0, 0, 0, 49, 0, 0, 0, 2, 0, 0, 0, 1, 0, 0, 0, 25, 0, 0, 0, 2, 0, 0, 0, 35]
abbrev dktX0_mark_2 : List UInt8 := dkwX0_mark_2 ++ dktX0_mark_3
def dkwX0_mark_1 : List UInt8 := [50, 78, 28]
abbrev dktX0_mark_1 : List UInt8 := dkwX0_mark_1 ++ dktX0_mark_2
def dkwX0_mark_0 : List UInt8 := [42, 27, 182, 1, 33, 153, 0, 12, 28, 4, 6, 184, 0, 78, 154, 0, 5, 2, 172, 42, 180, 0, 33, 27]
abbrev dktX0_mark_0 : List UInt8 := dkwX0_mark_0 ++ dktX0_mark_1
theorem dksX0_mark_0 : cX0_mark.data.toList.drop 0 = dktX0_mark_0 := by decide +kernel
theorem dksX0_mark_1 : cX0_mark.data.toList.drop 24 = dktX0_mark_1 := dk_seg dksX0_mark_0 24 rfl rfl
theorem dksX0_mark_2 : cX0_mark.data.toList.drop 27 = dktX0_mark_2 := dk_seg dksX0_mark_1 3 rfl rfl
theorem dksX0_mark_3 : cX0_mark.data.toList.drop 52 = dktX0_mark_3 := dk_seg dksX0_mark_2 25 rfl rfl
theorem dksX0_mark_4 : cX0_mark.data.toList.drop 76 = dktX0_mark_4 := dk_seg dksX0_mark_3 24 rfl rfl
theorem dX0_mark_0 : decode cX0_mark 0 = .ok (.aload_n 0, 1) := dk_42 (dk_at dksX0_mark_0 0 rfl rfl)
theorem dX0_mark_1 : decode cX0_mark 1 = .ok (.iload_n 1, 1) := dk_27 (dk_at dksX0_mark_0 1 rfl rfl)
theorem dX0_mark_2 : decode cX0_mark 2 = .ok (.invokevirtual 289, 3) := dk_182 1 33 (dk_at dksX0_mark_0 2 rfl rfl)
theorem dX0_mark_5 : decode cX0_mark 5 = .ok (.ifCond .eq 12, 3) := dk_153 0 12 (dk_at dksX0_mark_0 5 rfl rfl)
theorem dX0_mark_8 : decode cX0_mark 8 = .ok (.iload_n 2, 1) := dk_28 (dk_at dksX0_mark_0 8 rfl rfl)
theorem dX0_mark_9 : decode cX0_mark 9 = .ok (.iconst 1, 1) := dk_4 (dk_at dksX0_mark_0 9 rfl rfl)
theorem dX0_mark_10 : decode cX0_mark 10 = .ok (.iconst 3, 1) := dk_6 (dk_at dksX0_mark_0 10 rfl rfl)
theorem dX0_mark_11 : decode cX0_mark 11 = .ok (.invokestatic 78, 3) := dk_184 0 78 (dk_at dksX0_mark_0 11 rfl rfl)
theorem dX0_mark_14 : decode cX0_mark 14 = .ok (.ifCond .ne 5, 3) := dk_154 0 5 (dk_at dksX0_mark_0 14 rfl rfl)
theorem dX0_mark_17 : decode cX0_mark 17 = .ok (.iconst (-1), 1) := dk_2 (dk_at dksX0_mark_0 17 rfl rfl)
theorem dX0_mark_18 : decode cX0_mark 18 = .ok (.ireturn, 1) := dk_172 (dk_at dksX0_mark_0 18 rfl rfl)
theorem dX0_mark_19 : decode cX0_mark 19 = .ok (.aload_n 0, 1) := dk_42 (dk_at dksX0_mark_0 19 rfl rfl)
theorem dX0_mark_20 : decode cX0_mark 20 = .ok (.getfield 33, 3) := dk_180 0 33 (dk_at dksX0_mark_0 20 rfl rfl)
theorem dX0_mark_23 : decode cX0_mark 23 = .ok (.iload_n 1, 1) := dk_27 (dk_at dksX0_mark_0 23 rfl rfl)
theorem dX0_mark_24 : decode cX0_mark 24 = .ok (.aaload, 1) := dk_50 (dk_at dksX0_mark_1 0 rfl rfl)
theorem dX0_mark_25 : decode cX0_mark 25 = .ok (.astore_n 3, 1) := dk_78 (dk_at dksX0_mark_1 1 rfl rfl)
theorem dX0_mark_26 : decode cX0_mark 26 = .ok (.iload_n 2, 1) := dk_28 (dk_at dksX0_mark_1 2 rfl rfl)
theorem dX0_mark_27 : decode cX0_mark 27 = .ok (.lookupswitch 49 #[(1, 25), (2, 35)], 25) := by decide +kernel
theorem dX0_mark_52 : decode cX0_mark 52 = .ok (.aload_n 3, 1) := dk_45 (dk_at dksX0_mark_3 0 rfl rfl)
theorem dX0_mark_53 : decode cX0_mark 53 = .ok (.checkcast 149, 3) := dk_192 0 149 (dk_at dksX0_mark_3 1 rfl rfl)
theorem dX0_mark_56 : decode cX0_mark 56 = .ok (.invokevirtual 301, 3) := dk_182 1 45 (dk_at dksX0_mark_3 4 rfl rfl)
theorem dX0_mark_59 : decode cX0_mark 59 = .ok (.goto 24, 3) := dk_167 0 24 (dk_at dksX0_mark_3 7 rfl rfl)
theorem dX0_mark_62 : decode cX0_mark 62 = .ok (.aload_n 3, 1) := dk_45 (dk_at dksX0_mark_3 10 rfl rfl)
theorem dX0_mark_63 : decode cX0_mark 63 = .ok (.checkcast 154, 3) := dk_192 0 154 (dk_at dksX0_mark_3 11 rfl rfl)
theorem dX0_mark_66 : decode cX0_mark 66 = .ok (.aload_n 0, 1) := dk_42 (dk_at dksX0_mark_3 14 rfl rfl)
theorem dX0_mark_67 : decode cX0_mark 67 = .ok (.getfield 254, 3) := dk_180 0 254 (dk_at dksX0_mark_3 15 rfl rfl)
theorem dX0_mark_70 : decode cX0_mark 70 = .ok (.invokevirtual 304, 3) := dk_182 1 48 (dk_at dksX0_mark_3 18 rfl rfl)
theorem dX0_mark_73 : decode cX0_mark 73 = .ok (.goto 10, 3) := dk_167 0 10 (dk_at dksX0_mark_3 21 rfl rfl)
theorem dX0_mark_76 : decode cX0_mark 76 = .ok (.aload_n 3, 1) := dk_45 (dk_at dksX0_mark_4 0 rfl rfl)
theorem dX0_mark_77 : decode cX0_mark 77 = .ok (.checkcast 157, 3) := dk_192 0 157 (dk_at dksX0_mark_4 1 rfl rfl)
theorem dX0_mark_80 : decode cX0_mark 80 = .ok (.invokevirtual 307, 3) := dk_182 1 51 (dk_at dksX0_mark_4 4 rfl rfl)
theorem dX0_mark_83 : decode cX0_mark 83 = .ok (.ireturn, 1) := dk_172 (dk_at dksX0_mark_4 7 rfl rfl)
theorem dX0_mark_84 : decode cX0_mark 84 = .ok (.astore 4, 2) := dk_58 4 (dk_at dksX0_mark_4 8 rfl rfl)
theorem dX0_mark_86 : decode cX0_mark 86 = .ok (.aload_n 0, 1) := dk_42 (dk_at dksX0_mark_4 10 rfl rfl)
theorem dX0_mark_87 : decode cX0_mark 87 = .ok (.iconst 3, 1) := dk_6 (dk_at dksX0_mark_4 11 rfl rfl)
theorem dX0_mark_88 : decode cX0_mark 88 = .ok (.invokevirtual 88, 3) := dk_182 0 88 (dk_at dksX0_mark_4 12 rfl rfl)
theorem dX0_mark_91 : decode cX0_mark 91 = .ok (.ireturn, 1) := dk_172 (dk_at dksX0_mark_4 15 rfl rfl)
abbrev cX0_set : ByteArray := prog_1_method_52_code
def yX0_set : MethodName := ⟨RX0, "set", "(I)I"⟩
def dkwX0_set_3 : List UInt8 := [182, 1, 161, 42, 180, 0, 33, 27, 50, 28, 181, 1, 31, 28, 172]
abbrev dktX0_set_3 : List UInt8 := dkwX0_set_3 ++ []
def dkwX0_set_2 : List UInt8 := [42, 180, 0, 33, 27, 50, 16, 247, 181, 1, 31, 42, 180, 0, 75, 16, 40, 160, 0, 6, 16, 254, 172, 42]
abbrev dktX0_set_2 : List UInt8 := dkwX0_set_2 ++ dktX0_set_3
def dkwX0_set_1 : List UInt8 := [180, 0, 33, 27, 50, 182, 1, 157, 154, 0, 6, 16, 250, 172, 42, 180, 0, 33, 27, 50, 180, 1, 31, 61]
abbrev dktX0_set_1 : List UInt8 := dkwX0_set_1 ++ dktX0_set_2
def dkwX0_set_0 : List UInt8 := [42, 27, 182, 1, 33, 154, 0, 5, 2, 172, 42, 27, 182, 1, 39, 153, 0, 6, 16, 252, 172, 42, 42]
abbrev dktX0_set_0 : List UInt8 := dkwX0_set_0 ++ dktX0_set_1
theorem dksX0_set_0 : cX0_set.data.toList.drop 0 = dktX0_set_0 := by decide +kernel
theorem dksX0_set_1 : cX0_set.data.toList.drop 23 = dktX0_set_1 := dk_seg dksX0_set_0 23 rfl rfl
theorem dksX0_set_2 : cX0_set.data.toList.drop 47 = dktX0_set_2 := dk_seg dksX0_set_1 24 rfl rfl
theorem dksX0_set_3 : cX0_set.data.toList.drop 71 = dktX0_set_3 := dk_seg dksX0_set_2 24 rfl rfl
theorem dX0_set_0 : decode cX0_set 0 = .ok (.aload_n 0, 1) := dk_42 (dk_at dksX0_set_0 0 rfl rfl)
theorem dX0_set_1 : decode cX0_set 1 = .ok (.iload_n 1, 1) := dk_27 (dk_at dksX0_set_0 1 rfl rfl)
theorem dX0_set_2 : decode cX0_set 2 = .ok (.invokevirtual 289, 3) := dk_182 1 33 (dk_at dksX0_set_0 2 rfl rfl)
theorem dX0_set_5 : decode cX0_set 5 = .ok (.ifCond .ne 5, 3) := dk_154 0 5 (dk_at dksX0_set_0 5 rfl rfl)
theorem dX0_set_8 : decode cX0_set 8 = .ok (.iconst (-1), 1) := dk_2 (dk_at dksX0_set_0 8 rfl rfl)
theorem dX0_set_9 : decode cX0_set 9 = .ok (.ireturn, 1) := dk_172 (dk_at dksX0_set_0 9 rfl rfl)
theorem dX0_set_10 : decode cX0_set 10 = .ok (.aload_n 0, 1) := dk_42 (dk_at dksX0_set_0 10 rfl rfl)
theorem dX0_set_11 : decode cX0_set 11 = .ok (.iload_n 1, 1) := dk_27 (dk_at dksX0_set_0 11 rfl rfl)
theorem dX0_set_12 : decode cX0_set 12 = .ok (.invokevirtual 295, 3) := dk_182 1 39 (dk_at dksX0_set_0 12 rfl rfl)
theorem dX0_set_15 : decode cX0_set 15 = .ok (.ifCond .eq 6, 3) := dk_153 0 6 (dk_at dksX0_set_0 15 rfl rfl)
theorem dX0_set_18 : decode cX0_set 18 = .ok (.bipush (-4), 2) := dk_16 252 (dk_at dksX0_set_0 18 rfl rfl)
theorem dX0_set_20 : decode cX0_set 20 = .ok (.ireturn, 1) := dk_172 (dk_at dksX0_set_0 20 rfl rfl)
theorem dX0_set_21 : decode cX0_set 21 = .ok (.aload_n 0, 1) := dk_42 (dk_at dksX0_set_0 21 rfl rfl)
theorem dX0_set_22 : decode cX0_set 22 = .ok (.aload_n 0, 1) := dk_42 (dk_at dksX0_set_0 22 rfl rfl)
theorem dX0_set_23 : decode cX0_set 23 = .ok (.getfield 33, 3) := dk_180 0 33 (dk_at dksX0_set_1 0 rfl rfl)
theorem dX0_set_26 : decode cX0_set 26 = .ok (.iload_n 1, 1) := dk_27 (dk_at dksX0_set_1 3 rfl rfl)
theorem dX0_set_27 : decode cX0_set 27 = .ok (.aaload, 1) := dk_50 (dk_at dksX0_set_1 4 rfl rfl)
theorem dX0_set_28 : decode cX0_set 28 = .ok (.invokevirtual 413, 3) := dk_182 1 157 (dk_at dksX0_set_1 5 rfl rfl)
theorem dX0_set_31 : decode cX0_set 31 = .ok (.ifCond .ne 6, 3) := dk_154 0 6 (dk_at dksX0_set_1 8 rfl rfl)
theorem dX0_set_34 : decode cX0_set 34 = .ok (.bipush (-6), 2) := dk_16 250 (dk_at dksX0_set_1 11 rfl rfl)
theorem dX0_set_36 : decode cX0_set 36 = .ok (.ireturn, 1) := dk_172 (dk_at dksX0_set_1 13 rfl rfl)
theorem dX0_set_37 : decode cX0_set 37 = .ok (.aload_n 0, 1) := dk_42 (dk_at dksX0_set_1 14 rfl rfl)
theorem dX0_set_38 : decode cX0_set 38 = .ok (.getfield 33, 3) := dk_180 0 33 (dk_at dksX0_set_1 15 rfl rfl)
theorem dX0_set_41 : decode cX0_set 41 = .ok (.iload_n 1, 1) := dk_27 (dk_at dksX0_set_1 18 rfl rfl)
theorem dX0_set_42 : decode cX0_set 42 = .ok (.aaload, 1) := dk_50 (dk_at dksX0_set_1 19 rfl rfl)
theorem dX0_set_43 : decode cX0_set 43 = .ok (.getfield 287, 3) := dk_180 1 31 (dk_at dksX0_set_1 20 rfl rfl)
theorem dX0_set_46 : decode cX0_set 46 = .ok (.istore_n 2, 1) := dk_61 (dk_at dksX0_set_1 23 rfl rfl)
theorem dX0_set_47 : decode cX0_set 47 = .ok (.aload_n 0, 1) := dk_42 (dk_at dksX0_set_2 0 rfl rfl)
theorem dX0_set_48 : decode cX0_set 48 = .ok (.getfield 33, 3) := dk_180 0 33 (dk_at dksX0_set_2 1 rfl rfl)
theorem dX0_set_51 : decode cX0_set 51 = .ok (.iload_n 1, 1) := dk_27 (dk_at dksX0_set_2 4 rfl rfl)
theorem dX0_set_52 : decode cX0_set 52 = .ok (.aaload, 1) := dk_50 (dk_at dksX0_set_2 5 rfl rfl)
theorem dX0_set_53 : decode cX0_set 53 = .ok (.bipush (-9), 2) := dk_16 247 (dk_at dksX0_set_2 6 rfl rfl)
theorem dX0_set_55 : decode cX0_set 55 = .ok (.putfield 287, 3) := dk_181 1 31 (dk_at dksX0_set_2 8 rfl rfl)
theorem dX0_set_58 : decode cX0_set 58 = .ok (.aload_n 0, 1) := dk_42 (dk_at dksX0_set_2 11 rfl rfl)
theorem dX0_set_59 : decode cX0_set 59 = .ok (.getfield 75, 3) := dk_180 0 75 (dk_at dksX0_set_2 12 rfl rfl)
theorem dX0_set_62 : decode cX0_set 62 = .ok (.bipush 40, 2) := dk_16 40 (dk_at dksX0_set_2 15 rfl rfl)
theorem dX0_set_64 : decode cX0_set 64 = .ok (.if_icmp .ne 6, 3) := dk_160 0 6 (dk_at dksX0_set_2 17 rfl rfl)
theorem dX0_set_67 : decode cX0_set 67 = .ok (.bipush (-2), 2) := dk_16 254 (dk_at dksX0_set_2 20 rfl rfl)
theorem dX0_set_69 : decode cX0_set 69 = .ok (.ireturn, 1) := dk_172 (dk_at dksX0_set_2 22 rfl rfl)
theorem dX0_set_70 : decode cX0_set 70 = .ok (.aload_n 0, 1) := dk_42 (dk_at dksX0_set_2 23 rfl rfl)
theorem dX0_set_71 : decode cX0_set 71 = .ok (.invokevirtual 417, 3) := dk_182 1 161 (dk_at dksX0_set_3 0 rfl rfl)
theorem dX0_set_74 : decode cX0_set 74 = .ok (.aload_n 0, 1) := dk_42 (dk_at dksX0_set_3 3 rfl rfl)
theorem dX0_set_75 : decode cX0_set 75 = .ok (.getfield 33, 3) := dk_180 0 33 (dk_at dksX0_set_3 4 rfl rfl)
theorem dX0_set_78 : decode cX0_set 78 = .ok (.iload_n 1, 1) := dk_27 (dk_at dksX0_set_3 7 rfl rfl)
theorem dX0_set_79 : decode cX0_set 79 = .ok (.aaload, 1) := dk_50 (dk_at dksX0_set_3 8 rfl rfl)
theorem dX0_set_80 : decode cX0_set 80 = .ok (.iload_n 2, 1) := dk_28 (dk_at dksX0_set_3 9 rfl rfl)
theorem dX0_set_81 : decode cX0_set 81 = .ok (.putfield 287, 3) := dk_181 1 31 (dk_at dksX0_set_3 10 rfl rfl)
theorem dX0_set_84 : decode cX0_set 84 = .ok (.iload_n 2, 1) := dk_28 (dk_at dksX0_set_3 13 rfl rfl)
theorem dX0_set_85 : decode cX0_set 85 = .ok (.ireturn, 1) := dk_172 (dk_at dksX0_set_3 14 rfl rfl)
abbrev cX0_sets : ByteArray := prog_1_method_48_code
def yX0_sets : MethodName := ⟨RX0, "sets", "(LFrameSheets$Frame;)Z"⟩
def dkwX0_sets_1 : List UInt8 := [153, 0, 5, 4, 172, 132, 3, 1, 167, 255, 231, 3, 172]
abbrev dktX0_sets_1 : List UInt8 := dkwX0_sets_1 ++ []
def dkwX0_sets_0 : List UInt8 := [42, 182, 1, 143, 61, 3, 62, 29, 28, 163, 0, 26, 29, 16, 8, 162, 0, 20, 42, 43, 29, 182, 1, 146]
abbrev dktX0_sets_0 : List UInt8 := dkwX0_sets_0 ++ dktX0_sets_1
theorem dksX0_sets_0 : cX0_sets.data.toList.drop 0 = dktX0_sets_0 := by decide +kernel
theorem dksX0_sets_1 : cX0_sets.data.toList.drop 24 = dktX0_sets_1 := dk_seg dksX0_sets_0 24 rfl rfl
theorem dX0_sets_0 : decode cX0_sets 0 = .ok (.aload_n 0, 1) := dk_42 (dk_at dksX0_sets_0 0 rfl rfl)
theorem dX0_sets_1 : decode cX0_sets 1 = .ok (.invokevirtual 399, 3) := dk_182 1 143 (dk_at dksX0_sets_0 1 rfl rfl)
theorem dX0_sets_4 : decode cX0_sets 4 = .ok (.istore_n 2, 1) := dk_61 (dk_at dksX0_sets_0 4 rfl rfl)
theorem dX0_sets_5 : decode cX0_sets 5 = .ok (.iconst 0, 1) := dk_3 (dk_at dksX0_sets_0 5 rfl rfl)
theorem dX0_sets_6 : decode cX0_sets 6 = .ok (.istore_n 3, 1) := dk_62 (dk_at dksX0_sets_0 6 rfl rfl)
theorem dX0_sets_7 : decode cX0_sets 7 = .ok (.iload_n 3, 1) := dk_29 (dk_at dksX0_sets_0 7 rfl rfl)
theorem dX0_sets_8 : decode cX0_sets 8 = .ok (.iload_n 2, 1) := dk_28 (dk_at dksX0_sets_0 8 rfl rfl)
theorem dX0_sets_9 : decode cX0_sets 9 = .ok (.if_icmp .gt 26, 3) := dk_163 0 26 (dk_at dksX0_sets_0 9 rfl rfl)
theorem dX0_sets_12 : decode cX0_sets 12 = .ok (.iload_n 3, 1) := dk_29 (dk_at dksX0_sets_0 12 rfl rfl)
theorem dX0_sets_13 : decode cX0_sets 13 = .ok (.bipush 8, 2) := dk_16 8 (dk_at dksX0_sets_0 13 rfl rfl)
theorem dX0_sets_15 : decode cX0_sets 15 = .ok (.if_icmp .ge 20, 3) := dk_162 0 20 (dk_at dksX0_sets_0 15 rfl rfl)
theorem dX0_sets_18 : decode cX0_sets 18 = .ok (.aload_n 0, 1) := dk_42 (dk_at dksX0_sets_0 18 rfl rfl)
theorem dX0_sets_19 : decode cX0_sets 19 = .ok (.aload_n 1, 1) := dk_43 (dk_at dksX0_sets_0 19 rfl rfl)
theorem dX0_sets_20 : decode cX0_sets 20 = .ok (.iload_n 3, 1) := dk_29 (dk_at dksX0_sets_0 20 rfl rfl)
theorem dX0_sets_21 : decode cX0_sets 21 = .ok (.invokevirtual 402, 3) := dk_182 1 146 (dk_at dksX0_sets_0 21 rfl rfl)
theorem dX0_sets_24 : decode cX0_sets 24 = .ok (.ifCond .eq 5, 3) := dk_153 0 5 (dk_at dksX0_sets_1 0 rfl rfl)
theorem dX0_sets_27 : decode cX0_sets 27 = .ok (.iconst 1, 1) := dk_4 (dk_at dksX0_sets_1 3 rfl rfl)
theorem dX0_sets_28 : decode cX0_sets 28 = .ok (.ireturn, 1) := dk_172 (dk_at dksX0_sets_1 4 rfl rfl)
theorem dX0_sets_29 : decode cX0_sets 29 = .ok (.iinc 3 1, 3) := dk_132 3 1 (dk_at dksX0_sets_1 5 rfl rfl)
theorem dX0_sets_32 : decode cX0_sets 32 = .ok (.goto (-25), 3) := dk_167 255 231 (dk_at dksX0_sets_1 8 rfl rfl)
theorem dX0_sets_35 : decode cX0_sets 35 = .ok (.iconst 0, 1) := dk_3 (dk_at dksX0_sets_1 11 rfl rfl)
theorem dX0_sets_36 : decode cX0_sets 36 = .ok (.ireturn, 1) := dk_172 (dk_at dksX0_sets_1 12 rfl rfl)
abbrev cX0_pageMany : ByteArray := prog_1_method_44_code
def yX0_pageMany : MethodName := ⟨RX0, "pageMany", "()I"⟩
def dkwX0_pageMany_2 : List UInt8 := [27, 172]
abbrev dktX0_pageMany_2 : List UInt8 := dkwX0_pageMany_2 ++ []
def dkwX0_pageMany_1 : List UInt8 := [180, 0, 33, 28, 50, 180, 1, 31, 4, 96, 167, 0, 4, 3, 184, 1, 100, 60, 132, 2, 1, 167, 255, 217]
abbrev dktX0_pageMany_1 : List UInt8 := dkwX0_pageMany_1 ++ dktX0_pageMany_2
def dkwX0_pageMany_0 : List UInt8 := [3, 60, 3, 61, 28, 42, 180, 0, 245, 162, 0, 37, 27, 42, 28, 182, 1, 39, 153, 0, 17, 42]
abbrev dktX0_pageMany_0 : List UInt8 := dkwX0_pageMany_0 ++ dktX0_pageMany_1
theorem dksX0_pageMany_0 : cX0_pageMany.data.toList.drop 0 = dktX0_pageMany_0 := by decide +kernel
theorem dksX0_pageMany_1 : cX0_pageMany.data.toList.drop 22 = dktX0_pageMany_1 := dk_seg dksX0_pageMany_0 22 rfl rfl
theorem dksX0_pageMany_2 : cX0_pageMany.data.toList.drop 46 = dktX0_pageMany_2 := dk_seg dksX0_pageMany_1 24 rfl rfl
theorem dX0_pageMany_0 : decode cX0_pageMany 0 = .ok (.iconst 0, 1) := dk_3 (dk_at dksX0_pageMany_0 0 rfl rfl)
theorem dX0_pageMany_1 : decode cX0_pageMany 1 = .ok (.istore_n 1, 1) := dk_60 (dk_at dksX0_pageMany_0 1 rfl rfl)
theorem dX0_pageMany_2 : decode cX0_pageMany 2 = .ok (.iconst 0, 1) := dk_3 (dk_at dksX0_pageMany_0 2 rfl rfl)
theorem dX0_pageMany_3 : decode cX0_pageMany 3 = .ok (.istore_n 2, 1) := dk_61 (dk_at dksX0_pageMany_0 3 rfl rfl)
theorem dX0_pageMany_4 : decode cX0_pageMany 4 = .ok (.iload_n 2, 1) := dk_28 (dk_at dksX0_pageMany_0 4 rfl rfl)
theorem dX0_pageMany_5 : decode cX0_pageMany 5 = .ok (.aload_n 0, 1) := dk_42 (dk_at dksX0_pageMany_0 5 rfl rfl)
theorem dX0_pageMany_6 : decode cX0_pageMany 6 = .ok (.getfield 245, 3) := dk_180 0 245 (dk_at dksX0_pageMany_0 6 rfl rfl)
theorem dX0_pageMany_9 : decode cX0_pageMany 9 = .ok (.if_icmp .ge 37, 3) := dk_162 0 37 (dk_at dksX0_pageMany_0 9 rfl rfl)
theorem dX0_pageMany_12 : decode cX0_pageMany 12 = .ok (.iload_n 1, 1) := dk_27 (dk_at dksX0_pageMany_0 12 rfl rfl)
theorem dX0_pageMany_13 : decode cX0_pageMany 13 = .ok (.aload_n 0, 1) := dk_42 (dk_at dksX0_pageMany_0 13 rfl rfl)
theorem dX0_pageMany_14 : decode cX0_pageMany 14 = .ok (.iload_n 2, 1) := dk_28 (dk_at dksX0_pageMany_0 14 rfl rfl)
theorem dX0_pageMany_15 : decode cX0_pageMany 15 = .ok (.invokevirtual 295, 3) := dk_182 1 39 (dk_at dksX0_pageMany_0 15 rfl rfl)
theorem dX0_pageMany_18 : decode cX0_pageMany 18 = .ok (.ifCond .eq 17, 3) := dk_153 0 17 (dk_at dksX0_pageMany_0 18 rfl rfl)
theorem dX0_pageMany_21 : decode cX0_pageMany 21 = .ok (.aload_n 0, 1) := dk_42 (dk_at dksX0_pageMany_0 21 rfl rfl)
theorem dX0_pageMany_22 : decode cX0_pageMany 22 = .ok (.getfield 33, 3) := dk_180 0 33 (dk_at dksX0_pageMany_1 0 rfl rfl)
theorem dX0_pageMany_25 : decode cX0_pageMany 25 = .ok (.iload_n 2, 1) := dk_28 (dk_at dksX0_pageMany_1 3 rfl rfl)
theorem dX0_pageMany_26 : decode cX0_pageMany 26 = .ok (.aaload, 1) := dk_50 (dk_at dksX0_pageMany_1 4 rfl rfl)
theorem dX0_pageMany_27 : decode cX0_pageMany 27 = .ok (.getfield 287, 3) := dk_180 1 31 (dk_at dksX0_pageMany_1 5 rfl rfl)
theorem dX0_pageMany_30 : decode cX0_pageMany 30 = .ok (.iconst 1, 1) := dk_4 (dk_at dksX0_pageMany_1 8 rfl rfl)
theorem dX0_pageMany_31 : decode cX0_pageMany 31 = .ok (.iadd, 1) := dk_96 (dk_at dksX0_pageMany_1 9 rfl rfl)
theorem dX0_pageMany_32 : decode cX0_pageMany 32 = .ok (.goto 4, 3) := dk_167 0 4 (dk_at dksX0_pageMany_1 10 rfl rfl)
theorem dX0_pageMany_35 : decode cX0_pageMany 35 = .ok (.iconst 0, 1) := dk_3 (dk_at dksX0_pageMany_1 13 rfl rfl)
theorem dX0_pageMany_36 : decode cX0_pageMany 36 = .ok (.invokestatic 356, 3) := dk_184 1 100 (dk_at dksX0_pageMany_1 14 rfl rfl)
theorem dX0_pageMany_39 : decode cX0_pageMany 39 = .ok (.istore_n 1, 1) := dk_60 (dk_at dksX0_pageMany_1 17 rfl rfl)
theorem dX0_pageMany_40 : decode cX0_pageMany 40 = .ok (.iinc 2 1, 3) := dk_132 2 1 (dk_at dksX0_pageMany_1 18 rfl rfl)
theorem dX0_pageMany_43 : decode cX0_pageMany 43 = .ok (.goto (-39), 3) := dk_167 255 217 (dk_at dksX0_pageMany_1 21 rfl rfl)
theorem dX0_pageMany_46 : decode cX0_pageMany 46 = .ok (.iload_n 1, 1) := dk_27 (dk_at dksX0_pageMany_2 0 rfl rfl)
theorem dX0_pageMany_47 : decode cX0_pageMany 47 = .ok (.ireturn, 1) := dk_172 (dk_at dksX0_pageMany_2 1 rfl rfl)
abbrev cX0_setsOn : ByteArray := prog_1_method_47_code
def yX0_setsOn : MethodName := ⟨RX0, "setsOn", "(LFrameSheets$Frame;I)Z"⟩
def dkwX0_setsOn_4 : List UInt8 := [43, 42, 180, 1, 132, 181, 1, 69, 4, 172]
abbrev dktX0_setsOn_4 : List UInt8 := dkwX0_setsOn_4 ++ []
def dkwX0_setsOn_3 : List UInt8 := [180, 0, 47, 42, 180, 1, 129, 46, 181, 1, 66, 43, 42, 180, 0, 50, 42, 180, 1, 129, 46, 181, 1, 77]
abbrev dktX0_setsOn_3 : List UInt8 := dkwX0_setsOn_3 ++ dktX0_setsOn_4
def dkwX0_setsOn_2 : List UInt8 := [132, 3, 1, 167, 255, 231, 42, 180, 1, 129, 16, 247, 160, 0, 5, 3, 172, 43, 28, 181, 1, 31, 43, 42]
abbrev dktX0_setsOn_2 : List UInt8 := dkwX0_setsOn_2 ++ dktX0_setsOn_3
def dkwX0_setsOn_1 : List UInt8 := [62, 29, 42, 180, 1, 56, 162, 0, 23, 42, 43, 29, 3, 182, 1, 139, 42, 43, 29, 4, 182, 1, 139]
abbrev dktX0_setsOn_1 : List UInt8 := dkwX0_setsOn_1 ++ dktX0_setsOn_2
def dkwX0_setsOn_0 : List UInt8 := [42, 28, 182, 1, 135, 42, 18, 176, 181, 1, 123, 42, 18, 176, 181, 1, 126, 42, 16, 247, 181, 1, 129, 3]
abbrev dktX0_setsOn_0 : List UInt8 := dkwX0_setsOn_0 ++ dktX0_setsOn_1
theorem dksX0_setsOn_0 : cX0_setsOn.data.toList.drop 0 = dktX0_setsOn_0 := by decide +kernel
theorem dksX0_setsOn_1 : cX0_setsOn.data.toList.drop 24 = dktX0_setsOn_1 := dk_seg dksX0_setsOn_0 24 rfl rfl
theorem dksX0_setsOn_2 : cX0_setsOn.data.toList.drop 47 = dktX0_setsOn_2 := dk_seg dksX0_setsOn_1 23 rfl rfl
theorem dksX0_setsOn_3 : cX0_setsOn.data.toList.drop 71 = dktX0_setsOn_3 := dk_seg dksX0_setsOn_2 24 rfl rfl
theorem dksX0_setsOn_4 : cX0_setsOn.data.toList.drop 95 = dktX0_setsOn_4 := dk_seg dksX0_setsOn_3 24 rfl rfl
theorem dX0_setsOn_0 : decode cX0_setsOn 0 = .ok (.aload_n 0, 1) := dk_42 (dk_at dksX0_setsOn_0 0 rfl rfl)
theorem dX0_setsOn_1 : decode cX0_setsOn 1 = .ok (.iload_n 2, 1) := dk_28 (dk_at dksX0_setsOn_0 1 rfl rfl)
theorem dX0_setsOn_2 : decode cX0_setsOn 2 = .ok (.invokevirtual 391, 3) := dk_182 1 135 (dk_at dksX0_setsOn_0 2 rfl rfl)
theorem dX0_setsOn_5 : decode cX0_setsOn 5 = .ok (.aload_n 0, 1) := dk_42 (dk_at dksX0_setsOn_0 5 rfl rfl)
theorem dX0_setsOn_6 : decode cX0_setsOn 6 = .ok (.ldc 176, 2) := dk_18 176 (dk_at dksX0_setsOn_0 6 rfl rfl)
theorem dX0_setsOn_8 : decode cX0_setsOn 8 = .ok (.putfield 379, 3) := dk_181 1 123 (dk_at dksX0_setsOn_0 8 rfl rfl)
theorem dX0_setsOn_11 : decode cX0_setsOn 11 = .ok (.aload_n 0, 1) := dk_42 (dk_at dksX0_setsOn_0 11 rfl rfl)
theorem dX0_setsOn_12 : decode cX0_setsOn 12 = .ok (.ldc 176, 2) := dk_18 176 (dk_at dksX0_setsOn_0 12 rfl rfl)
theorem dX0_setsOn_14 : decode cX0_setsOn 14 = .ok (.putfield 382, 3) := dk_181 1 126 (dk_at dksX0_setsOn_0 14 rfl rfl)
theorem dX0_setsOn_17 : decode cX0_setsOn 17 = .ok (.aload_n 0, 1) := dk_42 (dk_at dksX0_setsOn_0 17 rfl rfl)
theorem dX0_setsOn_18 : decode cX0_setsOn 18 = .ok (.bipush (-9), 2) := dk_16 247 (dk_at dksX0_setsOn_0 18 rfl rfl)
theorem dX0_setsOn_20 : decode cX0_setsOn 20 = .ok (.putfield 385, 3) := dk_181 1 129 (dk_at dksX0_setsOn_0 20 rfl rfl)
theorem dX0_setsOn_23 : decode cX0_setsOn 23 = .ok (.iconst 0, 1) := dk_3 (dk_at dksX0_setsOn_0 23 rfl rfl)
theorem dX0_setsOn_24 : decode cX0_setsOn 24 = .ok (.istore_n 3, 1) := dk_62 (dk_at dksX0_setsOn_1 0 rfl rfl)
theorem dX0_setsOn_25 : decode cX0_setsOn 25 = .ok (.iload_n 3, 1) := dk_29 (dk_at dksX0_setsOn_1 1 rfl rfl)
theorem dX0_setsOn_26 : decode cX0_setsOn 26 = .ok (.aload_n 0, 1) := dk_42 (dk_at dksX0_setsOn_1 2 rfl rfl)
theorem dX0_setsOn_27 : decode cX0_setsOn 27 = .ok (.getfield 312, 3) := dk_180 1 56 (dk_at dksX0_setsOn_1 3 rfl rfl)
theorem dX0_setsOn_30 : decode cX0_setsOn 30 = .ok (.if_icmp .ge 23, 3) := dk_162 0 23 (dk_at dksX0_setsOn_1 6 rfl rfl)
theorem dX0_setsOn_33 : decode cX0_setsOn 33 = .ok (.aload_n 0, 1) := dk_42 (dk_at dksX0_setsOn_1 9 rfl rfl)
theorem dX0_setsOn_34 : decode cX0_setsOn 34 = .ok (.aload_n 1, 1) := dk_43 (dk_at dksX0_setsOn_1 10 rfl rfl)
theorem dX0_setsOn_35 : decode cX0_setsOn 35 = .ok (.iload_n 3, 1) := dk_29 (dk_at dksX0_setsOn_1 11 rfl rfl)
theorem dX0_setsOn_36 : decode cX0_setsOn 36 = .ok (.iconst 0, 1) := dk_3 (dk_at dksX0_setsOn_1 12 rfl rfl)
theorem dX0_setsOn_37 : decode cX0_setsOn 37 = .ok (.invokevirtual 395, 3) := dk_182 1 139 (dk_at dksX0_setsOn_1 13 rfl rfl)
theorem dX0_setsOn_40 : decode cX0_setsOn 40 = .ok (.aload_n 0, 1) := dk_42 (dk_at dksX0_setsOn_1 16 rfl rfl)
theorem dX0_setsOn_41 : decode cX0_setsOn 41 = .ok (.aload_n 1, 1) := dk_43 (dk_at dksX0_setsOn_1 17 rfl rfl)
theorem dX0_setsOn_42 : decode cX0_setsOn 42 = .ok (.iload_n 3, 1) := dk_29 (dk_at dksX0_setsOn_1 18 rfl rfl)
theorem dX0_setsOn_43 : decode cX0_setsOn 43 = .ok (.iconst 1, 1) := dk_4 (dk_at dksX0_setsOn_1 19 rfl rfl)
theorem dX0_setsOn_44 : decode cX0_setsOn 44 = .ok (.invokevirtual 395, 3) := dk_182 1 139 (dk_at dksX0_setsOn_1 20 rfl rfl)
theorem dX0_setsOn_47 : decode cX0_setsOn 47 = .ok (.iinc 3 1, 3) := dk_132 3 1 (dk_at dksX0_setsOn_2 0 rfl rfl)
theorem dX0_setsOn_50 : decode cX0_setsOn 50 = .ok (.goto (-25), 3) := dk_167 255 231 (dk_at dksX0_setsOn_2 3 rfl rfl)
theorem dX0_setsOn_53 : decode cX0_setsOn 53 = .ok (.aload_n 0, 1) := dk_42 (dk_at dksX0_setsOn_2 6 rfl rfl)
theorem dX0_setsOn_54 : decode cX0_setsOn 54 = .ok (.getfield 385, 3) := dk_180 1 129 (dk_at dksX0_setsOn_2 7 rfl rfl)
theorem dX0_setsOn_57 : decode cX0_setsOn 57 = .ok (.bipush (-9), 2) := dk_16 247 (dk_at dksX0_setsOn_2 10 rfl rfl)
theorem dX0_setsOn_59 : decode cX0_setsOn 59 = .ok (.if_icmp .ne 5, 3) := dk_160 0 5 (dk_at dksX0_setsOn_2 12 rfl rfl)
theorem dX0_setsOn_62 : decode cX0_setsOn 62 = .ok (.iconst 0, 1) := dk_3 (dk_at dksX0_setsOn_2 15 rfl rfl)
theorem dX0_setsOn_63 : decode cX0_setsOn 63 = .ok (.ireturn, 1) := dk_172 (dk_at dksX0_setsOn_2 16 rfl rfl)
theorem dX0_setsOn_64 : decode cX0_setsOn 64 = .ok (.aload_n 1, 1) := dk_43 (dk_at dksX0_setsOn_2 17 rfl rfl)
theorem dX0_setsOn_65 : decode cX0_setsOn 65 = .ok (.iload_n 2, 1) := dk_28 (dk_at dksX0_setsOn_2 18 rfl rfl)
theorem dX0_setsOn_66 : decode cX0_setsOn 66 = .ok (.putfield 287, 3) := dk_181 1 31 (dk_at dksX0_setsOn_2 19 rfl rfl)
theorem dX0_setsOn_69 : decode cX0_setsOn 69 = .ok (.aload_n 1, 1) := dk_43 (dk_at dksX0_setsOn_2 22 rfl rfl)
theorem dX0_setsOn_70 : decode cX0_setsOn 70 = .ok (.aload_n 0, 1) := dk_42 (dk_at dksX0_setsOn_2 23 rfl rfl)
theorem dX0_setsOn_71 : decode cX0_setsOn 71 = .ok (.getfield 47, 3) := dk_180 0 47 (dk_at dksX0_setsOn_3 0 rfl rfl)
theorem dX0_setsOn_74 : decode cX0_setsOn 74 = .ok (.aload_n 0, 1) := dk_42 (dk_at dksX0_setsOn_3 3 rfl rfl)
theorem dX0_setsOn_75 : decode cX0_setsOn 75 = .ok (.getfield 385, 3) := dk_180 1 129 (dk_at dksX0_setsOn_3 4 rfl rfl)
theorem dX0_setsOn_78 : decode cX0_setsOn 78 = .ok (.iaload, 1) := dk_46 (dk_at dksX0_setsOn_3 7 rfl rfl)
theorem dX0_setsOn_79 : decode cX0_setsOn 79 = .ok (.putfield 322, 3) := dk_181 1 66 (dk_at dksX0_setsOn_3 8 rfl rfl)
theorem dX0_setsOn_82 : decode cX0_setsOn 82 = .ok (.aload_n 1, 1) := dk_43 (dk_at dksX0_setsOn_3 11 rfl rfl)
theorem dX0_setsOn_83 : decode cX0_setsOn 83 = .ok (.aload_n 0, 1) := dk_42 (dk_at dksX0_setsOn_3 12 rfl rfl)
theorem dX0_setsOn_84 : decode cX0_setsOn 84 = .ok (.getfield 50, 3) := dk_180 0 50 (dk_at dksX0_setsOn_3 13 rfl rfl)
theorem dX0_setsOn_87 : decode cX0_setsOn 87 = .ok (.aload_n 0, 1) := dk_42 (dk_at dksX0_setsOn_3 16 rfl rfl)
theorem dX0_setsOn_88 : decode cX0_setsOn 88 = .ok (.getfield 385, 3) := dk_180 1 129 (dk_at dksX0_setsOn_3 17 rfl rfl)
theorem dX0_setsOn_91 : decode cX0_setsOn 91 = .ok (.iaload, 1) := dk_46 (dk_at dksX0_setsOn_3 20 rfl rfl)
theorem dX0_setsOn_92 : decode cX0_setsOn 92 = .ok (.putfield 333, 3) := dk_181 1 77 (dk_at dksX0_setsOn_3 21 rfl rfl)
theorem dX0_setsOn_95 : decode cX0_setsOn 95 = .ok (.aload_n 1, 1) := dk_43 (dk_at dksX0_setsOn_4 0 rfl rfl)
theorem dX0_setsOn_96 : decode cX0_setsOn 96 = .ok (.aload_n 0, 1) := dk_42 (dk_at dksX0_setsOn_4 1 rfl rfl)
theorem dX0_setsOn_97 : decode cX0_setsOn 97 = .ok (.getfield 388, 3) := dk_180 1 132 (dk_at dksX0_setsOn_4 2 rfl rfl)
theorem dX0_setsOn_100 : decode cX0_setsOn 100 = .ok (.putfield 325, 3) := dk_181 1 69 (dk_at dksX0_setsOn_4 5 rfl rfl)
theorem dX0_setsOn_103 : decode cX0_setsOn 103 = .ok (.iconst 1, 1) := dk_4 (dk_at dksX0_setsOn_4 8 rfl rfl)
theorem dX0_setsOn_104 : decode cX0_setsOn 104 = .ok (.ireturn, 1) := dk_172 (dk_at dksX0_setsOn_4 9 rfl rfl)
abbrev cX0_setFree : ByteArray := prog_1_method_43_code
def yX0_setFree : MethodName := ⟨RX0, "setFree", "(I)V"⟩
def dkwX0_setFree_2 : List UInt8 := [28, 50, 182, 1, 93, 132, 2, 1, 167, 255, 222, 42, 182, 1, 97, 177]
abbrev dktX0_setFree_2 : List UInt8 := dkwX0_setFree_2 ++ []
def dkwX0_setFree_1 : List UInt8 := [180, 0, 245, 162, 0, 32, 42, 180, 0, 33, 28, 50, 180, 1, 31, 27, 160, 0, 13, 42, 42, 180, 0, 33]
abbrev dktX0_setFree_1 : List UInt8 := dkwX0_setFree_1 ++ dktX0_setFree_2
def dkwX0_setFree_0 : List UInt8 := [42, 3, 181, 1, 56, 42, 3, 3, 42, 180, 0, 248, 42, 180, 0, 251, 182, 1, 83, 3, 61, 28, 42]
abbrev dktX0_setFree_0 : List UInt8 := dkwX0_setFree_0 ++ dktX0_setFree_1
theorem dksX0_setFree_0 : cX0_setFree.data.toList.drop 0 = dktX0_setFree_0 := by decide +kernel
theorem dksX0_setFree_1 : cX0_setFree.data.toList.drop 23 = dktX0_setFree_1 := dk_seg dksX0_setFree_0 23 rfl rfl
theorem dksX0_setFree_2 : cX0_setFree.data.toList.drop 47 = dktX0_setFree_2 := dk_seg dksX0_setFree_1 24 rfl rfl
theorem dX0_setFree_0 : decode cX0_setFree 0 = .ok (.aload_n 0, 1) := dk_42 (dk_at dksX0_setFree_0 0 rfl rfl)
theorem dX0_setFree_1 : decode cX0_setFree 1 = .ok (.iconst 0, 1) := dk_3 (dk_at dksX0_setFree_0 1 rfl rfl)
theorem dX0_setFree_2 : decode cX0_setFree 2 = .ok (.putfield 312, 3) := dk_181 1 56 (dk_at dksX0_setFree_0 2 rfl rfl)
theorem dX0_setFree_5 : decode cX0_setFree 5 = .ok (.aload_n 0, 1) := dk_42 (dk_at dksX0_setFree_0 5 rfl rfl)
theorem dX0_setFree_6 : decode cX0_setFree 6 = .ok (.iconst 0, 1) := dk_3 (dk_at dksX0_setFree_0 6 rfl rfl)
theorem dX0_setFree_7 : decode cX0_setFree 7 = .ok (.iconst 0, 1) := dk_3 (dk_at dksX0_setFree_0 7 rfl rfl)
theorem dX0_setFree_8 : decode cX0_setFree 8 = .ok (.aload_n 0, 1) := dk_42 (dk_at dksX0_setFree_0 8 rfl rfl)
theorem dX0_setFree_9 : decode cX0_setFree 9 = .ok (.getfield 248, 3) := dk_180 0 248 (dk_at dksX0_setFree_0 9 rfl rfl)
theorem dX0_setFree_12 : decode cX0_setFree 12 = .ok (.aload_n 0, 1) := dk_42 (dk_at dksX0_setFree_0 12 rfl rfl)
theorem dX0_setFree_13 : decode cX0_setFree 13 = .ok (.getfield 251, 3) := dk_180 0 251 (dk_at dksX0_setFree_0 13 rfl rfl)
theorem dX0_setFree_16 : decode cX0_setFree 16 = .ok (.invokevirtual 339, 3) := dk_182 1 83 (dk_at dksX0_setFree_0 16 rfl rfl)
theorem dX0_setFree_19 : decode cX0_setFree 19 = .ok (.iconst 0, 1) := dk_3 (dk_at dksX0_setFree_0 19 rfl rfl)
theorem dX0_setFree_20 : decode cX0_setFree 20 = .ok (.istore_n 2, 1) := dk_61 (dk_at dksX0_setFree_0 20 rfl rfl)
theorem dX0_setFree_21 : decode cX0_setFree 21 = .ok (.iload_n 2, 1) := dk_28 (dk_at dksX0_setFree_0 21 rfl rfl)
theorem dX0_setFree_22 : decode cX0_setFree 22 = .ok (.aload_n 0, 1) := dk_42 (dk_at dksX0_setFree_0 22 rfl rfl)
theorem dX0_setFree_23 : decode cX0_setFree 23 = .ok (.getfield 245, 3) := dk_180 0 245 (dk_at dksX0_setFree_1 0 rfl rfl)
theorem dX0_setFree_26 : decode cX0_setFree 26 = .ok (.if_icmp .ge 32, 3) := dk_162 0 32 (dk_at dksX0_setFree_1 3 rfl rfl)
theorem dX0_setFree_29 : decode cX0_setFree 29 = .ok (.aload_n 0, 1) := dk_42 (dk_at dksX0_setFree_1 6 rfl rfl)
theorem dX0_setFree_30 : decode cX0_setFree 30 = .ok (.getfield 33, 3) := dk_180 0 33 (dk_at dksX0_setFree_1 7 rfl rfl)
theorem dX0_setFree_33 : decode cX0_setFree 33 = .ok (.iload_n 2, 1) := dk_28 (dk_at dksX0_setFree_1 10 rfl rfl)
theorem dX0_setFree_34 : decode cX0_setFree 34 = .ok (.aaload, 1) := dk_50 (dk_at dksX0_setFree_1 11 rfl rfl)
theorem dX0_setFree_35 : decode cX0_setFree 35 = .ok (.getfield 287, 3) := dk_180 1 31 (dk_at dksX0_setFree_1 12 rfl rfl)
theorem dX0_setFree_38 : decode cX0_setFree 38 = .ok (.iload_n 1, 1) := dk_27 (dk_at dksX0_setFree_1 15 rfl rfl)
theorem dX0_setFree_39 : decode cX0_setFree 39 = .ok (.if_icmp .ne 13, 3) := dk_160 0 13 (dk_at dksX0_setFree_1 16 rfl rfl)
theorem dX0_setFree_42 : decode cX0_setFree 42 = .ok (.aload_n 0, 1) := dk_42 (dk_at dksX0_setFree_1 19 rfl rfl)
theorem dX0_setFree_43 : decode cX0_setFree 43 = .ok (.aload_n 0, 1) := dk_42 (dk_at dksX0_setFree_1 20 rfl rfl)
theorem dX0_setFree_44 : decode cX0_setFree 44 = .ok (.getfield 33, 3) := dk_180 0 33 (dk_at dksX0_setFree_1 21 rfl rfl)
theorem dX0_setFree_47 : decode cX0_setFree 47 = .ok (.iload_n 2, 1) := dk_28 (dk_at dksX0_setFree_2 0 rfl rfl)
theorem dX0_setFree_48 : decode cX0_setFree 48 = .ok (.aaload, 1) := dk_50 (dk_at dksX0_setFree_2 1 rfl rfl)
theorem dX0_setFree_49 : decode cX0_setFree 49 = .ok (.invokevirtual 349, 3) := dk_182 1 93 (dk_at dksX0_setFree_2 2 rfl rfl)
theorem dX0_setFree_52 : decode cX0_setFree 52 = .ok (.iinc 2 1, 3) := dk_132 2 1 (dk_at dksX0_setFree_2 5 rfl rfl)
theorem dX0_setFree_55 : decode cX0_setFree 55 = .ok (.goto (-34), 3) := dk_167 255 222 (dk_at dksX0_setFree_2 8 rfl rfl)
theorem dX0_setFree_58 : decode cX0_setFree 58 = .ok (.aload_n 0, 1) := dk_42 (dk_at dksX0_setFree_2 11 rfl rfl)
theorem dX0_setFree_59 : decode cX0_setFree 59 = .ok (.invokevirtual 353, 3) := dk_182 1 97 (dk_at dksX0_setFree_2 12 rfl rfl)
theorem dX0_setFree_62 : decode cX0_setFree 62 = .ok (.return_, 1) := dk_177 (dk_at dksX0_setFree_2 15 rfl rfl)
abbrev cX0_comesFree : ByteArray := prog_1_method_36_code
def yX0_comesFree : MethodName := ⟨RX0, "comesFree", "(IIII)V"⟩
def dkwX0_comesFree_2 : List UInt8 := [21, 4, 79, 42, 89, 180, 1, 56, 4, 96, 181, 1, 56, 177]
abbrev dktX0_comesFree_2 : List UInt8 := dkwX0_comesFree_2 ++ []
def dkwX0_comesFree_1 : List UInt8 := [180, 1, 56, 28, 79, 42, 180, 0, 53, 42, 180, 1, 56, 29, 79, 42, 180, 0, 56, 42, 180, 1, 56]
abbrev dktX0_comesFree_1 : List UInt8 := dkwX0_comesFree_1 ++ dktX0_comesFree_2
def dkwX0_comesFree_0 : List UInt8 := [29, 158, 0, 59, 21, 4, 158, 0, 54, 42, 180, 0, 47, 42, 180, 1, 56, 27, 79, 42, 180, 0, 50, 42]
abbrev dktX0_comesFree_0 : List UInt8 := dkwX0_comesFree_0 ++ dktX0_comesFree_1
theorem dksX0_comesFree_0 : cX0_comesFree.data.toList.drop 0 = dktX0_comesFree_0 := by decide +kernel
theorem dksX0_comesFree_1 : cX0_comesFree.data.toList.drop 24 = dktX0_comesFree_1 := dk_seg dksX0_comesFree_0 24 rfl rfl
theorem dksX0_comesFree_2 : cX0_comesFree.data.toList.drop 47 = dktX0_comesFree_2 := dk_seg dksX0_comesFree_1 23 rfl rfl
theorem dX0_comesFree_0 : decode cX0_comesFree 0 = .ok (.iload_n 3, 1) := dk_29 (dk_at dksX0_comesFree_0 0 rfl rfl)
theorem dX0_comesFree_1 : decode cX0_comesFree 1 = .ok (.ifCond .le 59, 3) := dk_158 0 59 (dk_at dksX0_comesFree_0 1 rfl rfl)
theorem dX0_comesFree_4 : decode cX0_comesFree 4 = .ok (.iload 4, 2) := dk_21 4 (dk_at dksX0_comesFree_0 4 rfl rfl)
theorem dX0_comesFree_6 : decode cX0_comesFree 6 = .ok (.ifCond .le 54, 3) := dk_158 0 54 (dk_at dksX0_comesFree_0 6 rfl rfl)
theorem dX0_comesFree_9 : decode cX0_comesFree 9 = .ok (.aload_n 0, 1) := dk_42 (dk_at dksX0_comesFree_0 9 rfl rfl)
theorem dX0_comesFree_10 : decode cX0_comesFree 10 = .ok (.getfield 47, 3) := dk_180 0 47 (dk_at dksX0_comesFree_0 10 rfl rfl)
theorem dX0_comesFree_13 : decode cX0_comesFree 13 = .ok (.aload_n 0, 1) := dk_42 (dk_at dksX0_comesFree_0 13 rfl rfl)
theorem dX0_comesFree_14 : decode cX0_comesFree 14 = .ok (.getfield 312, 3) := dk_180 1 56 (dk_at dksX0_comesFree_0 14 rfl rfl)
theorem dX0_comesFree_17 : decode cX0_comesFree 17 = .ok (.iload_n 1, 1) := dk_27 (dk_at dksX0_comesFree_0 17 rfl rfl)
theorem dX0_comesFree_18 : decode cX0_comesFree 18 = .ok (.iastore, 1) := dk_79 (dk_at dksX0_comesFree_0 18 rfl rfl)
theorem dX0_comesFree_19 : decode cX0_comesFree 19 = .ok (.aload_n 0, 1) := dk_42 (dk_at dksX0_comesFree_0 19 rfl rfl)
theorem dX0_comesFree_20 : decode cX0_comesFree 20 = .ok (.getfield 50, 3) := dk_180 0 50 (dk_at dksX0_comesFree_0 20 rfl rfl)
theorem dX0_comesFree_23 : decode cX0_comesFree 23 = .ok (.aload_n 0, 1) := dk_42 (dk_at dksX0_comesFree_0 23 rfl rfl)
theorem dX0_comesFree_24 : decode cX0_comesFree 24 = .ok (.getfield 312, 3) := dk_180 1 56 (dk_at dksX0_comesFree_1 0 rfl rfl)
theorem dX0_comesFree_27 : decode cX0_comesFree 27 = .ok (.iload_n 2, 1) := dk_28 (dk_at dksX0_comesFree_1 3 rfl rfl)
theorem dX0_comesFree_28 : decode cX0_comesFree 28 = .ok (.iastore, 1) := dk_79 (dk_at dksX0_comesFree_1 4 rfl rfl)
theorem dX0_comesFree_29 : decode cX0_comesFree 29 = .ok (.aload_n 0, 1) := dk_42 (dk_at dksX0_comesFree_1 5 rfl rfl)
theorem dX0_comesFree_30 : decode cX0_comesFree 30 = .ok (.getfield 53, 3) := dk_180 0 53 (dk_at dksX0_comesFree_1 6 rfl rfl)
theorem dX0_comesFree_33 : decode cX0_comesFree 33 = .ok (.aload_n 0, 1) := dk_42 (dk_at dksX0_comesFree_1 9 rfl rfl)
theorem dX0_comesFree_34 : decode cX0_comesFree 34 = .ok (.getfield 312, 3) := dk_180 1 56 (dk_at dksX0_comesFree_1 10 rfl rfl)
theorem dX0_comesFree_37 : decode cX0_comesFree 37 = .ok (.iload_n 3, 1) := dk_29 (dk_at dksX0_comesFree_1 13 rfl rfl)
theorem dX0_comesFree_38 : decode cX0_comesFree 38 = .ok (.iastore, 1) := dk_79 (dk_at dksX0_comesFree_1 14 rfl rfl)
theorem dX0_comesFree_39 : decode cX0_comesFree 39 = .ok (.aload_n 0, 1) := dk_42 (dk_at dksX0_comesFree_1 15 rfl rfl)
theorem dX0_comesFree_40 : decode cX0_comesFree 40 = .ok (.getfield 56, 3) := dk_180 0 56 (dk_at dksX0_comesFree_1 16 rfl rfl)
theorem dX0_comesFree_43 : decode cX0_comesFree 43 = .ok (.aload_n 0, 1) := dk_42 (dk_at dksX0_comesFree_1 19 rfl rfl)
theorem dX0_comesFree_44 : decode cX0_comesFree 44 = .ok (.getfield 312, 3) := dk_180 1 56 (dk_at dksX0_comesFree_1 20 rfl rfl)
theorem dX0_comesFree_47 : decode cX0_comesFree 47 = .ok (.iload 4, 2) := dk_21 4 (dk_at dksX0_comesFree_2 0 rfl rfl)
theorem dX0_comesFree_49 : decode cX0_comesFree 49 = .ok (.iastore, 1) := dk_79 (dk_at dksX0_comesFree_2 2 rfl rfl)
theorem dX0_comesFree_50 : decode cX0_comesFree 50 = .ok (.aload_n 0, 1) := dk_42 (dk_at dksX0_comesFree_2 3 rfl rfl)
theorem dX0_comesFree_51 : decode cX0_comesFree 51 = .ok (.dup, 1) := dk_89 (dk_at dksX0_comesFree_2 4 rfl rfl)
theorem dX0_comesFree_52 : decode cX0_comesFree 52 = .ok (.getfield 312, 3) := dk_180 1 56 (dk_at dksX0_comesFree_2 5 rfl rfl)
theorem dX0_comesFree_55 : decode cX0_comesFree 55 = .ok (.iconst 1, 1) := dk_4 (dk_at dksX0_comesFree_2 8 rfl rfl)
theorem dX0_comesFree_56 : decode cX0_comesFree 56 = .ok (.iadd, 1) := dk_96 (dk_at dksX0_comesFree_2 9 rfl rfl)
theorem dX0_comesFree_57 : decode cX0_comesFree 57 = .ok (.putfield 312, 3) := dk_181 1 56 (dk_at dksX0_comesFree_2 10 rfl rfl)
theorem dX0_comesFree_60 : decode cX0_comesFree 60 = .ok (.return_, 1) := dk_177 (dk_at dksX0_comesFree_2 13 rfl rfl)
abbrev cX0_cuts : ByteArray := prog_1_method_40_code
def yX0_cuts : MethodName := ⟨RX0, "cuts", "(LFrameSheets$Frame;)V"⟩
def dkwX0_cuts_10 : List UInt8 := [182, 1, 62, 132, 5, 1, 132, 6, 1, 167, 255, 223, 42, 21, 5, 181, 1, 56, 42, 182, 1, 87, 177]
abbrev dktX0_cuts_10 : List UInt8 := dkwX0_cuts_10 ++ []
def dkwX0_cuts_9 : List UInt8 := [21, 6, 42, 180, 1, 56, 162, 0, 30, 42, 180, 0, 53, 21, 6, 46, 158, 0, 14, 42, 21, 6, 21, 5]
abbrev dktX0_cuts_9 : List UInt8 := dkwX0_cuts_9 ++ dktX0_cuts_10
def dkwX0_cuts_8 : List UInt8 := [21, 7, 29, 21, 9, 21, 8, 21, 10, 96, 29, 100, 182, 1, 83, 132, 6, 1, 167, 255, 97, 3, 54, 6]
abbrev dktX0_cuts_8 : List UInt8 := dkwX0_cuts_8 ++ dktX0_cuts_9
def dkwX0_cuts_7 : List UInt8 := [100, 21, 10, 182, 1, 83, 42, 21, 7, 21, 8, 21, 9, 43, 180, 1, 77, 21, 8, 100, 182, 1, 83, 42]
abbrev dktX0_cuts_7 : List UInt8 := dkwX0_cuts_7 ++ dktX0_cuts_8
def dkwX0_cuts_6 : List UInt8 := [21, 8, 43, 180, 1, 66, 21, 7, 100, 21, 10, 182, 1, 83, 42, 28, 21, 8, 21, 7, 21, 9, 96, 28]
abbrev dktX0_cuts_6 : List UInt8 := dkwX0_cuts_6 ++ dktX0_cuts_7
def dkwX0_cuts_5 : List UInt8 := [21, 10, 96, 43, 180, 1, 77, 163, 0, 6, 167, 0, 77, 42, 180, 0, 53, 21, 6, 3, 79, 42, 21, 7]
abbrev dktX0_cuts_5 : List UInt8 := dkwX0_cuts_5 ++ dktX0_cuts_6
def dkwX0_cuts_4 : List UInt8 := [162, 0, 110, 21, 7, 21, 9, 96, 43, 180, 1, 66, 164, 0, 98, 21, 8, 29, 162, 0, 92, 21, 8]
abbrev dktX0_cuts_4 : List UInt8 := dkwX0_cuts_4 ++ dktX0_cuts_5
def dkwX0_cuts_3 : List UInt8 := [54, 8, 42, 180, 0, 53, 21, 6, 46, 54, 9, 42, 180, 0, 56, 21, 6, 46, 54, 10, 21, 7, 28]
abbrev dktX0_cuts_3 : List UInt8 := dkwX0_cuts_3 ++ dktX0_cuts_4
def dkwX0_cuts_2 : List UInt8 := [21, 6, 21, 4, 162, 0, 158, 42, 180, 0, 47, 21, 6, 46, 54, 7, 42, 180, 0, 50, 21, 6, 46]
abbrev dktX0_cuts_2 : List UInt8 := dkwX0_cuts_2 ++ dktX0_cuts_3
def dkwX0_cuts_1 : List UInt8 := [180, 0, 254, 43, 180, 1, 69, 182, 1, 80, 96, 62, 42, 180, 1, 56, 54, 4, 3, 54, 5, 3, 54, 6]
abbrev dktX0_cuts_1 : List UInt8 := dkwX0_cuts_1 ++ dktX0_cuts_2
def dkwX0_cuts_0 : List UInt8 := [43, 180, 1, 66, 43, 42, 180, 0, 254, 43, 180, 1, 69, 182, 1, 73, 96, 61, 43, 180, 1, 77, 43, 42]
abbrev dktX0_cuts_0 : List UInt8 := dkwX0_cuts_0 ++ dktX0_cuts_1
theorem dksX0_cuts_0 : cX0_cuts.data.toList.drop 0 = dktX0_cuts_0 := by decide +kernel
theorem dksX0_cuts_1 : cX0_cuts.data.toList.drop 24 = dktX0_cuts_1 := dk_seg dksX0_cuts_0 24 rfl rfl
theorem dksX0_cuts_2 : cX0_cuts.data.toList.drop 48 = dktX0_cuts_2 := dk_seg dksX0_cuts_1 24 rfl rfl
theorem dksX0_cuts_3 : cX0_cuts.data.toList.drop 71 = dktX0_cuts_3 := dk_seg dksX0_cuts_2 23 rfl rfl
theorem dksX0_cuts_4 : cX0_cuts.data.toList.drop 94 = dktX0_cuts_4 := dk_seg dksX0_cuts_3 23 rfl rfl
theorem dksX0_cuts_5 : cX0_cuts.data.toList.drop 117 = dktX0_cuts_5 := dk_seg dksX0_cuts_4 23 rfl rfl
theorem dksX0_cuts_6 : cX0_cuts.data.toList.drop 141 = dktX0_cuts_6 := dk_seg dksX0_cuts_5 24 rfl rfl
theorem dksX0_cuts_7 : cX0_cuts.data.toList.drop 165 = dktX0_cuts_7 := dk_seg dksX0_cuts_6 24 rfl rfl
theorem dksX0_cuts_8 : cX0_cuts.data.toList.drop 189 = dktX0_cuts_8 := dk_seg dksX0_cuts_7 24 rfl rfl
theorem dksX0_cuts_9 : cX0_cuts.data.toList.drop 213 = dktX0_cuts_9 := dk_seg dksX0_cuts_8 24 rfl rfl
theorem dksX0_cuts_10 : cX0_cuts.data.toList.drop 237 = dktX0_cuts_10 := dk_seg dksX0_cuts_9 24 rfl rfl
theorem dX0_cuts_0 : decode cX0_cuts 0 = .ok (.aload_n 1, 1) := dk_43 (dk_at dksX0_cuts_0 0 rfl rfl)
theorem dX0_cuts_1 : decode cX0_cuts 1 = .ok (.getfield 322, 3) := dk_180 1 66 (dk_at dksX0_cuts_0 1 rfl rfl)
theorem dX0_cuts_4 : decode cX0_cuts 4 = .ok (.aload_n 1, 1) := dk_43 (dk_at dksX0_cuts_0 4 rfl rfl)
theorem dX0_cuts_5 : decode cX0_cuts 5 = .ok (.aload_n 0, 1) := dk_42 (dk_at dksX0_cuts_0 5 rfl rfl)
theorem dX0_cuts_6 : decode cX0_cuts 6 = .ok (.getfield 254, 3) := dk_180 0 254 (dk_at dksX0_cuts_0 6 rfl rfl)
theorem dX0_cuts_9 : decode cX0_cuts 9 = .ok (.aload_n 1, 1) := dk_43 (dk_at dksX0_cuts_0 9 rfl rfl)
theorem dX0_cuts_10 : decode cX0_cuts 10 = .ok (.getfield 325, 3) := dk_180 1 69 (dk_at dksX0_cuts_0 10 rfl rfl)
theorem dX0_cuts_13 : decode cX0_cuts 13 = .ok (.invokevirtual 329, 3) := dk_182 1 73 (dk_at dksX0_cuts_0 13 rfl rfl)
theorem dX0_cuts_16 : decode cX0_cuts 16 = .ok (.iadd, 1) := dk_96 (dk_at dksX0_cuts_0 16 rfl rfl)
theorem dX0_cuts_17 : decode cX0_cuts 17 = .ok (.istore_n 2, 1) := dk_61 (dk_at dksX0_cuts_0 17 rfl rfl)
theorem dX0_cuts_18 : decode cX0_cuts 18 = .ok (.aload_n 1, 1) := dk_43 (dk_at dksX0_cuts_0 18 rfl rfl)
theorem dX0_cuts_19 : decode cX0_cuts 19 = .ok (.getfield 333, 3) := dk_180 1 77 (dk_at dksX0_cuts_0 19 rfl rfl)
theorem dX0_cuts_22 : decode cX0_cuts 22 = .ok (.aload_n 1, 1) := dk_43 (dk_at dksX0_cuts_0 22 rfl rfl)
theorem dX0_cuts_23 : decode cX0_cuts 23 = .ok (.aload_n 0, 1) := dk_42 (dk_at dksX0_cuts_0 23 rfl rfl)
theorem dX0_cuts_24 : decode cX0_cuts 24 = .ok (.getfield 254, 3) := dk_180 0 254 (dk_at dksX0_cuts_1 0 rfl rfl)
theorem dX0_cuts_27 : decode cX0_cuts 27 = .ok (.aload_n 1, 1) := dk_43 (dk_at dksX0_cuts_1 3 rfl rfl)
theorem dX0_cuts_28 : decode cX0_cuts 28 = .ok (.getfield 325, 3) := dk_180 1 69 (dk_at dksX0_cuts_1 4 rfl rfl)
theorem dX0_cuts_31 : decode cX0_cuts 31 = .ok (.invokevirtual 336, 3) := dk_182 1 80 (dk_at dksX0_cuts_1 7 rfl rfl)
theorem dX0_cuts_34 : decode cX0_cuts 34 = .ok (.iadd, 1) := dk_96 (dk_at dksX0_cuts_1 10 rfl rfl)
theorem dX0_cuts_35 : decode cX0_cuts 35 = .ok (.istore_n 3, 1) := dk_62 (dk_at dksX0_cuts_1 11 rfl rfl)
theorem dX0_cuts_36 : decode cX0_cuts 36 = .ok (.aload_n 0, 1) := dk_42 (dk_at dksX0_cuts_1 12 rfl rfl)
theorem dX0_cuts_37 : decode cX0_cuts 37 = .ok (.getfield 312, 3) := dk_180 1 56 (dk_at dksX0_cuts_1 13 rfl rfl)
theorem dX0_cuts_40 : decode cX0_cuts 40 = .ok (.istore 4, 2) := dk_54 4 (dk_at dksX0_cuts_1 16 rfl rfl)
theorem dX0_cuts_42 : decode cX0_cuts 42 = .ok (.iconst 0, 1) := dk_3 (dk_at dksX0_cuts_1 18 rfl rfl)
theorem dX0_cuts_43 : decode cX0_cuts 43 = .ok (.istore 5, 2) := dk_54 5 (dk_at dksX0_cuts_1 19 rfl rfl)
theorem dX0_cuts_45 : decode cX0_cuts 45 = .ok (.iconst 0, 1) := dk_3 (dk_at dksX0_cuts_1 21 rfl rfl)
theorem dX0_cuts_46 : decode cX0_cuts 46 = .ok (.istore 6, 2) := dk_54 6 (dk_at dksX0_cuts_1 22 rfl rfl)
theorem dX0_cuts_48 : decode cX0_cuts 48 = .ok (.iload 6, 2) := dk_21 6 (dk_at dksX0_cuts_2 0 rfl rfl)
theorem dX0_cuts_50 : decode cX0_cuts 50 = .ok (.iload 4, 2) := dk_21 4 (dk_at dksX0_cuts_2 2 rfl rfl)
theorem dX0_cuts_52 : decode cX0_cuts 52 = .ok (.if_icmp .ge 158, 3) := dk_162 0 158 (dk_at dksX0_cuts_2 4 rfl rfl)
theorem dX0_cuts_55 : decode cX0_cuts 55 = .ok (.aload_n 0, 1) := dk_42 (dk_at dksX0_cuts_2 7 rfl rfl)
theorem dX0_cuts_56 : decode cX0_cuts 56 = .ok (.getfield 47, 3) := dk_180 0 47 (dk_at dksX0_cuts_2 8 rfl rfl)
theorem dX0_cuts_59 : decode cX0_cuts 59 = .ok (.iload 6, 2) := dk_21 6 (dk_at dksX0_cuts_2 11 rfl rfl)
theorem dX0_cuts_61 : decode cX0_cuts 61 = .ok (.iaload, 1) := dk_46 (dk_at dksX0_cuts_2 13 rfl rfl)
theorem dX0_cuts_62 : decode cX0_cuts 62 = .ok (.istore 7, 2) := dk_54 7 (dk_at dksX0_cuts_2 14 rfl rfl)
theorem dX0_cuts_64 : decode cX0_cuts 64 = .ok (.aload_n 0, 1) := dk_42 (dk_at dksX0_cuts_2 16 rfl rfl)
theorem dX0_cuts_65 : decode cX0_cuts 65 = .ok (.getfield 50, 3) := dk_180 0 50 (dk_at dksX0_cuts_2 17 rfl rfl)
theorem dX0_cuts_68 : decode cX0_cuts 68 = .ok (.iload 6, 2) := dk_21 6 (dk_at dksX0_cuts_2 20 rfl rfl)
theorem dX0_cuts_70 : decode cX0_cuts 70 = .ok (.iaload, 1) := dk_46 (dk_at dksX0_cuts_2 22 rfl rfl)
theorem dX0_cuts_71 : decode cX0_cuts 71 = .ok (.istore 8, 2) := dk_54 8 (dk_at dksX0_cuts_3 0 rfl rfl)
theorem dX0_cuts_73 : decode cX0_cuts 73 = .ok (.aload_n 0, 1) := dk_42 (dk_at dksX0_cuts_3 2 rfl rfl)
theorem dX0_cuts_74 : decode cX0_cuts 74 = .ok (.getfield 53, 3) := dk_180 0 53 (dk_at dksX0_cuts_3 3 rfl rfl)
theorem dX0_cuts_77 : decode cX0_cuts 77 = .ok (.iload 6, 2) := dk_21 6 (dk_at dksX0_cuts_3 6 rfl rfl)
theorem dX0_cuts_79 : decode cX0_cuts 79 = .ok (.iaload, 1) := dk_46 (dk_at dksX0_cuts_3 8 rfl rfl)
theorem dX0_cuts_80 : decode cX0_cuts 80 = .ok (.istore 9, 2) := dk_54 9 (dk_at dksX0_cuts_3 9 rfl rfl)
theorem dX0_cuts_82 : decode cX0_cuts 82 = .ok (.aload_n 0, 1) := dk_42 (dk_at dksX0_cuts_3 11 rfl rfl)
theorem dX0_cuts_83 : decode cX0_cuts 83 = .ok (.getfield 56, 3) := dk_180 0 56 (dk_at dksX0_cuts_3 12 rfl rfl)
theorem dX0_cuts_86 : decode cX0_cuts 86 = .ok (.iload 6, 2) := dk_21 6 (dk_at dksX0_cuts_3 15 rfl rfl)
theorem dX0_cuts_88 : decode cX0_cuts 88 = .ok (.iaload, 1) := dk_46 (dk_at dksX0_cuts_3 17 rfl rfl)
theorem dX0_cuts_89 : decode cX0_cuts 89 = .ok (.istore 10, 2) := dk_54 10 (dk_at dksX0_cuts_3 18 rfl rfl)
theorem dX0_cuts_91 : decode cX0_cuts 91 = .ok (.iload 7, 2) := dk_21 7 (dk_at dksX0_cuts_3 20 rfl rfl)
theorem dX0_cuts_93 : decode cX0_cuts 93 = .ok (.iload_n 2, 1) := dk_28 (dk_at dksX0_cuts_3 22 rfl rfl)
theorem dX0_cuts_94 : decode cX0_cuts 94 = .ok (.if_icmp .ge 110, 3) := dk_162 0 110 (dk_at dksX0_cuts_4 0 rfl rfl)
theorem dX0_cuts_97 : decode cX0_cuts 97 = .ok (.iload 7, 2) := dk_21 7 (dk_at dksX0_cuts_4 3 rfl rfl)
theorem dX0_cuts_99 : decode cX0_cuts 99 = .ok (.iload 9, 2) := dk_21 9 (dk_at dksX0_cuts_4 5 rfl rfl)
theorem dX0_cuts_101 : decode cX0_cuts 101 = .ok (.iadd, 1) := dk_96 (dk_at dksX0_cuts_4 7 rfl rfl)
theorem dX0_cuts_102 : decode cX0_cuts 102 = .ok (.aload_n 1, 1) := dk_43 (dk_at dksX0_cuts_4 8 rfl rfl)
theorem dX0_cuts_103 : decode cX0_cuts 103 = .ok (.getfield 322, 3) := dk_180 1 66 (dk_at dksX0_cuts_4 9 rfl rfl)
theorem dX0_cuts_106 : decode cX0_cuts 106 = .ok (.if_icmp .le 98, 3) := dk_164 0 98 (dk_at dksX0_cuts_4 12 rfl rfl)
theorem dX0_cuts_109 : decode cX0_cuts 109 = .ok (.iload 8, 2) := dk_21 8 (dk_at dksX0_cuts_4 15 rfl rfl)
theorem dX0_cuts_111 : decode cX0_cuts 111 = .ok (.iload_n 3, 1) := dk_29 (dk_at dksX0_cuts_4 17 rfl rfl)
theorem dX0_cuts_112 : decode cX0_cuts 112 = .ok (.if_icmp .ge 92, 3) := dk_162 0 92 (dk_at dksX0_cuts_4 18 rfl rfl)
theorem dX0_cuts_115 : decode cX0_cuts 115 = .ok (.iload 8, 2) := dk_21 8 (dk_at dksX0_cuts_4 21 rfl rfl)
theorem dX0_cuts_117 : decode cX0_cuts 117 = .ok (.iload 10, 2) := dk_21 10 (dk_at dksX0_cuts_5 0 rfl rfl)
theorem dX0_cuts_119 : decode cX0_cuts 119 = .ok (.iadd, 1) := dk_96 (dk_at dksX0_cuts_5 2 rfl rfl)
theorem dX0_cuts_120 : decode cX0_cuts 120 = .ok (.aload_n 1, 1) := dk_43 (dk_at dksX0_cuts_5 3 rfl rfl)
theorem dX0_cuts_121 : decode cX0_cuts 121 = .ok (.getfield 333, 3) := dk_180 1 77 (dk_at dksX0_cuts_5 4 rfl rfl)
theorem dX0_cuts_124 : decode cX0_cuts 124 = .ok (.if_icmp .gt 6, 3) := dk_163 0 6 (dk_at dksX0_cuts_5 7 rfl rfl)
theorem dX0_cuts_127 : decode cX0_cuts 127 = .ok (.goto 77, 3) := dk_167 0 77 (dk_at dksX0_cuts_5 10 rfl rfl)
theorem dX0_cuts_130 : decode cX0_cuts 130 = .ok (.aload_n 0, 1) := dk_42 (dk_at dksX0_cuts_5 13 rfl rfl)
theorem dX0_cuts_131 : decode cX0_cuts 131 = .ok (.getfield 53, 3) := dk_180 0 53 (dk_at dksX0_cuts_5 14 rfl rfl)
theorem dX0_cuts_134 : decode cX0_cuts 134 = .ok (.iload 6, 2) := dk_21 6 (dk_at dksX0_cuts_5 17 rfl rfl)
theorem dX0_cuts_136 : decode cX0_cuts 136 = .ok (.iconst 0, 1) := dk_3 (dk_at dksX0_cuts_5 19 rfl rfl)
theorem dX0_cuts_137 : decode cX0_cuts 137 = .ok (.iastore, 1) := dk_79 (dk_at dksX0_cuts_5 20 rfl rfl)
theorem dX0_cuts_138 : decode cX0_cuts 138 = .ok (.aload_n 0, 1) := dk_42 (dk_at dksX0_cuts_5 21 rfl rfl)
theorem dX0_cuts_139 : decode cX0_cuts 139 = .ok (.iload 7, 2) := dk_21 7 (dk_at dksX0_cuts_5 22 rfl rfl)
theorem dX0_cuts_141 : decode cX0_cuts 141 = .ok (.iload 8, 2) := dk_21 8 (dk_at dksX0_cuts_6 0 rfl rfl)
theorem dX0_cuts_143 : decode cX0_cuts 143 = .ok (.aload_n 1, 1) := dk_43 (dk_at dksX0_cuts_6 2 rfl rfl)
theorem dX0_cuts_144 : decode cX0_cuts 144 = .ok (.getfield 322, 3) := dk_180 1 66 (dk_at dksX0_cuts_6 3 rfl rfl)
theorem dX0_cuts_147 : decode cX0_cuts 147 = .ok (.iload 7, 2) := dk_21 7 (dk_at dksX0_cuts_6 6 rfl rfl)
theorem dX0_cuts_149 : decode cX0_cuts 149 = .ok (.isub, 1) := dk_100 (dk_at dksX0_cuts_6 8 rfl rfl)
theorem dX0_cuts_150 : decode cX0_cuts 150 = .ok (.iload 10, 2) := dk_21 10 (dk_at dksX0_cuts_6 9 rfl rfl)
theorem dX0_cuts_152 : decode cX0_cuts 152 = .ok (.invokevirtual 339, 3) := dk_182 1 83 (dk_at dksX0_cuts_6 11 rfl rfl)
theorem dX0_cuts_155 : decode cX0_cuts 155 = .ok (.aload_n 0, 1) := dk_42 (dk_at dksX0_cuts_6 14 rfl rfl)
theorem dX0_cuts_156 : decode cX0_cuts 156 = .ok (.iload_n 2, 1) := dk_28 (dk_at dksX0_cuts_6 15 rfl rfl)
theorem dX0_cuts_157 : decode cX0_cuts 157 = .ok (.iload 8, 2) := dk_21 8 (dk_at dksX0_cuts_6 16 rfl rfl)
theorem dX0_cuts_159 : decode cX0_cuts 159 = .ok (.iload 7, 2) := dk_21 7 (dk_at dksX0_cuts_6 18 rfl rfl)
theorem dX0_cuts_161 : decode cX0_cuts 161 = .ok (.iload 9, 2) := dk_21 9 (dk_at dksX0_cuts_6 20 rfl rfl)
theorem dX0_cuts_163 : decode cX0_cuts 163 = .ok (.iadd, 1) := dk_96 (dk_at dksX0_cuts_6 22 rfl rfl)
theorem dX0_cuts_164 : decode cX0_cuts 164 = .ok (.iload_n 2, 1) := dk_28 (dk_at dksX0_cuts_6 23 rfl rfl)
theorem dX0_cuts_165 : decode cX0_cuts 165 = .ok (.isub, 1) := dk_100 (dk_at dksX0_cuts_7 0 rfl rfl)
theorem dX0_cuts_166 : decode cX0_cuts 166 = .ok (.iload 10, 2) := dk_21 10 (dk_at dksX0_cuts_7 1 rfl rfl)
theorem dX0_cuts_168 : decode cX0_cuts 168 = .ok (.invokevirtual 339, 3) := dk_182 1 83 (dk_at dksX0_cuts_7 3 rfl rfl)
theorem dX0_cuts_171 : decode cX0_cuts 171 = .ok (.aload_n 0, 1) := dk_42 (dk_at dksX0_cuts_7 6 rfl rfl)
theorem dX0_cuts_172 : decode cX0_cuts 172 = .ok (.iload 7, 2) := dk_21 7 (dk_at dksX0_cuts_7 7 rfl rfl)
theorem dX0_cuts_174 : decode cX0_cuts 174 = .ok (.iload 8, 2) := dk_21 8 (dk_at dksX0_cuts_7 9 rfl rfl)
theorem dX0_cuts_176 : decode cX0_cuts 176 = .ok (.iload 9, 2) := dk_21 9 (dk_at dksX0_cuts_7 11 rfl rfl)
theorem dX0_cuts_178 : decode cX0_cuts 178 = .ok (.aload_n 1, 1) := dk_43 (dk_at dksX0_cuts_7 13 rfl rfl)
theorem dX0_cuts_179 : decode cX0_cuts 179 = .ok (.getfield 333, 3) := dk_180 1 77 (dk_at dksX0_cuts_7 14 rfl rfl)
theorem dX0_cuts_182 : decode cX0_cuts 182 = .ok (.iload 8, 2) := dk_21 8 (dk_at dksX0_cuts_7 17 rfl rfl)
theorem dX0_cuts_184 : decode cX0_cuts 184 = .ok (.isub, 1) := dk_100 (dk_at dksX0_cuts_7 19 rfl rfl)
theorem dX0_cuts_185 : decode cX0_cuts 185 = .ok (.invokevirtual 339, 3) := dk_182 1 83 (dk_at dksX0_cuts_7 20 rfl rfl)
theorem dX0_cuts_188 : decode cX0_cuts 188 = .ok (.aload_n 0, 1) := dk_42 (dk_at dksX0_cuts_7 23 rfl rfl)
theorem dX0_cuts_189 : decode cX0_cuts 189 = .ok (.iload 7, 2) := dk_21 7 (dk_at dksX0_cuts_8 0 rfl rfl)
theorem dX0_cuts_191 : decode cX0_cuts 191 = .ok (.iload_n 3, 1) := dk_29 (dk_at dksX0_cuts_8 2 rfl rfl)
theorem dX0_cuts_192 : decode cX0_cuts 192 = .ok (.iload 9, 2) := dk_21 9 (dk_at dksX0_cuts_8 3 rfl rfl)
theorem dX0_cuts_194 : decode cX0_cuts 194 = .ok (.iload 8, 2) := dk_21 8 (dk_at dksX0_cuts_8 5 rfl rfl)
theorem dX0_cuts_196 : decode cX0_cuts 196 = .ok (.iload 10, 2) := dk_21 10 (dk_at dksX0_cuts_8 7 rfl rfl)
theorem dX0_cuts_198 : decode cX0_cuts 198 = .ok (.iadd, 1) := dk_96 (dk_at dksX0_cuts_8 9 rfl rfl)
theorem dX0_cuts_199 : decode cX0_cuts 199 = .ok (.iload_n 3, 1) := dk_29 (dk_at dksX0_cuts_8 10 rfl rfl)
theorem dX0_cuts_200 : decode cX0_cuts 200 = .ok (.isub, 1) := dk_100 (dk_at dksX0_cuts_8 11 rfl rfl)
theorem dX0_cuts_201 : decode cX0_cuts 201 = .ok (.invokevirtual 339, 3) := dk_182 1 83 (dk_at dksX0_cuts_8 12 rfl rfl)
theorem dX0_cuts_204 : decode cX0_cuts 204 = .ok (.iinc 6 1, 3) := dk_132 6 1 (dk_at dksX0_cuts_8 15 rfl rfl)
theorem dX0_cuts_207 : decode cX0_cuts 207 = .ok (.goto (-159), 3) := dk_167 255 97 (dk_at dksX0_cuts_8 18 rfl rfl)
theorem dX0_cuts_210 : decode cX0_cuts 210 = .ok (.iconst 0, 1) := dk_3 (dk_at dksX0_cuts_8 21 rfl rfl)
theorem dX0_cuts_211 : decode cX0_cuts 211 = .ok (.istore 6, 2) := dk_54 6 (dk_at dksX0_cuts_8 22 rfl rfl)
theorem dX0_cuts_213 : decode cX0_cuts 213 = .ok (.iload 6, 2) := dk_21 6 (dk_at dksX0_cuts_9 0 rfl rfl)
theorem dX0_cuts_215 : decode cX0_cuts 215 = .ok (.aload_n 0, 1) := dk_42 (dk_at dksX0_cuts_9 2 rfl rfl)
theorem dX0_cuts_216 : decode cX0_cuts 216 = .ok (.getfield 312, 3) := dk_180 1 56 (dk_at dksX0_cuts_9 3 rfl rfl)
theorem dX0_cuts_219 : decode cX0_cuts 219 = .ok (.if_icmp .ge 30, 3) := dk_162 0 30 (dk_at dksX0_cuts_9 6 rfl rfl)
theorem dX0_cuts_222 : decode cX0_cuts 222 = .ok (.aload_n 0, 1) := dk_42 (dk_at dksX0_cuts_9 9 rfl rfl)
theorem dX0_cuts_223 : decode cX0_cuts 223 = .ok (.getfield 53, 3) := dk_180 0 53 (dk_at dksX0_cuts_9 10 rfl rfl)
theorem dX0_cuts_226 : decode cX0_cuts 226 = .ok (.iload 6, 2) := dk_21 6 (dk_at dksX0_cuts_9 13 rfl rfl)
theorem dX0_cuts_228 : decode cX0_cuts 228 = .ok (.iaload, 1) := dk_46 (dk_at dksX0_cuts_9 15 rfl rfl)
theorem dX0_cuts_229 : decode cX0_cuts 229 = .ok (.ifCond .le 14, 3) := dk_158 0 14 (dk_at dksX0_cuts_9 16 rfl rfl)
theorem dX0_cuts_232 : decode cX0_cuts 232 = .ok (.aload_n 0, 1) := dk_42 (dk_at dksX0_cuts_9 19 rfl rfl)
theorem dX0_cuts_233 : decode cX0_cuts 233 = .ok (.iload 6, 2) := dk_21 6 (dk_at dksX0_cuts_9 20 rfl rfl)
theorem dX0_cuts_235 : decode cX0_cuts 235 = .ok (.iload 5, 2) := dk_21 5 (dk_at dksX0_cuts_9 22 rfl rfl)
theorem dX0_cuts_237 : decode cX0_cuts 237 = .ok (.invokevirtual 318, 3) := dk_182 1 62 (dk_at dksX0_cuts_10 0 rfl rfl)
theorem dX0_cuts_240 : decode cX0_cuts 240 = .ok (.iinc 5 1, 3) := dk_132 5 1 (dk_at dksX0_cuts_10 3 rfl rfl)
theorem dX0_cuts_243 : decode cX0_cuts 243 = .ok (.iinc 6 1, 3) := dk_132 6 1 (dk_at dksX0_cuts_10 6 rfl rfl)
theorem dX0_cuts_246 : decode cX0_cuts 246 = .ok (.goto (-33), 3) := dk_167 255 223 (dk_at dksX0_cuts_10 9 rfl rfl)
theorem dX0_cuts_249 : decode cX0_cuts 249 = .ok (.aload_n 0, 1) := dk_42 (dk_at dksX0_cuts_10 12 rfl rfl)
theorem dX0_cuts_250 : decode cX0_cuts 250 = .ok (.iload 5, 2) := dk_21 5 (dk_at dksX0_cuts_10 13 rfl rfl)
theorem dX0_cuts_252 : decode cX0_cuts 252 = .ok (.putfield 312, 3) := dk_181 1 56 (dk_at dksX0_cuts_10 15 rfl rfl)
theorem dX0_cuts_255 : decode cX0_cuts 255 = .ok (.aload_n 0, 1) := dk_42 (dk_at dksX0_cuts_10 18 rfl rfl)
theorem dX0_cuts_256 : decode cX0_cuts 256 = .ok (.invokevirtual 343, 3) := dk_182 1 87 (dk_at dksX0_cuts_10 19 rfl rfl)
theorem dX0_cuts_259 : decode cX0_cuts 259 = .ok (.return_, 1) := dk_177 (dk_at dksX0_cuts_10 22 rfl rfl)
abbrev cX0_movesFree : ByteArray := prog_1_method_37_code
def yX0_movesFree : MethodName := ⟨RX0, "movesFree", "(II)V"⟩
def dkwX0_movesFree_2 : List UInt8 := [177]
abbrev dktX0_movesFree_2 : List UInt8 := dkwX0_movesFree_2 ++ []
def dkwX0_movesFree_1 : List UInt8 := [42, 180, 0, 53, 28, 42, 180, 0, 53, 27, 46, 79, 42, 180, 0, 56, 28, 42, 180, 0, 56, 27, 46, 79]
abbrev dktX0_movesFree_1 : List UInt8 := dkwX0_movesFree_1 ++ dktX0_movesFree_2
def dkwX0_movesFree_0 : List UInt8 := [42, 180, 0, 47, 28, 42, 180, 0, 47, 27, 46, 79, 42, 180, 0, 50, 28, 42, 180, 0, 50, 27, 46, 79]
abbrev dktX0_movesFree_0 : List UInt8 := dkwX0_movesFree_0 ++ dktX0_movesFree_1
theorem dksX0_movesFree_0 : cX0_movesFree.data.toList.drop 0 = dktX0_movesFree_0 := by decide +kernel
theorem dksX0_movesFree_1 : cX0_movesFree.data.toList.drop 24 = dktX0_movesFree_1 := dk_seg dksX0_movesFree_0 24 rfl rfl
theorem dksX0_movesFree_2 : cX0_movesFree.data.toList.drop 48 = dktX0_movesFree_2 := dk_seg dksX0_movesFree_1 24 rfl rfl
theorem dX0_movesFree_0 : decode cX0_movesFree 0 = .ok (.aload_n 0, 1) := dk_42 (dk_at dksX0_movesFree_0 0 rfl rfl)
theorem dX0_movesFree_1 : decode cX0_movesFree 1 = .ok (.getfield 47, 3) := dk_180 0 47 (dk_at dksX0_movesFree_0 1 rfl rfl)
theorem dX0_movesFree_4 : decode cX0_movesFree 4 = .ok (.iload_n 2, 1) := dk_28 (dk_at dksX0_movesFree_0 4 rfl rfl)
theorem dX0_movesFree_5 : decode cX0_movesFree 5 = .ok (.aload_n 0, 1) := dk_42 (dk_at dksX0_movesFree_0 5 rfl rfl)
theorem dX0_movesFree_6 : decode cX0_movesFree 6 = .ok (.getfield 47, 3) := dk_180 0 47 (dk_at dksX0_movesFree_0 6 rfl rfl)
theorem dX0_movesFree_9 : decode cX0_movesFree 9 = .ok (.iload_n 1, 1) := dk_27 (dk_at dksX0_movesFree_0 9 rfl rfl)
theorem dX0_movesFree_10 : decode cX0_movesFree 10 = .ok (.iaload, 1) := dk_46 (dk_at dksX0_movesFree_0 10 rfl rfl)
theorem dX0_movesFree_11 : decode cX0_movesFree 11 = .ok (.iastore, 1) := dk_79 (dk_at dksX0_movesFree_0 11 rfl rfl)
theorem dX0_movesFree_12 : decode cX0_movesFree 12 = .ok (.aload_n 0, 1) := dk_42 (dk_at dksX0_movesFree_0 12 rfl rfl)
theorem dX0_movesFree_13 : decode cX0_movesFree 13 = .ok (.getfield 50, 3) := dk_180 0 50 (dk_at dksX0_movesFree_0 13 rfl rfl)
theorem dX0_movesFree_16 : decode cX0_movesFree 16 = .ok (.iload_n 2, 1) := dk_28 (dk_at dksX0_movesFree_0 16 rfl rfl)
theorem dX0_movesFree_17 : decode cX0_movesFree 17 = .ok (.aload_n 0, 1) := dk_42 (dk_at dksX0_movesFree_0 17 rfl rfl)
theorem dX0_movesFree_18 : decode cX0_movesFree 18 = .ok (.getfield 50, 3) := dk_180 0 50 (dk_at dksX0_movesFree_0 18 rfl rfl)
theorem dX0_movesFree_21 : decode cX0_movesFree 21 = .ok (.iload_n 1, 1) := dk_27 (dk_at dksX0_movesFree_0 21 rfl rfl)
theorem dX0_movesFree_22 : decode cX0_movesFree 22 = .ok (.iaload, 1) := dk_46 (dk_at dksX0_movesFree_0 22 rfl rfl)
theorem dX0_movesFree_23 : decode cX0_movesFree 23 = .ok (.iastore, 1) := dk_79 (dk_at dksX0_movesFree_0 23 rfl rfl)
theorem dX0_movesFree_24 : decode cX0_movesFree 24 = .ok (.aload_n 0, 1) := dk_42 (dk_at dksX0_movesFree_1 0 rfl rfl)
theorem dX0_movesFree_25 : decode cX0_movesFree 25 = .ok (.getfield 53, 3) := dk_180 0 53 (dk_at dksX0_movesFree_1 1 rfl rfl)
theorem dX0_movesFree_28 : decode cX0_movesFree 28 = .ok (.iload_n 2, 1) := dk_28 (dk_at dksX0_movesFree_1 4 rfl rfl)
theorem dX0_movesFree_29 : decode cX0_movesFree 29 = .ok (.aload_n 0, 1) := dk_42 (dk_at dksX0_movesFree_1 5 rfl rfl)
theorem dX0_movesFree_30 : decode cX0_movesFree 30 = .ok (.getfield 53, 3) := dk_180 0 53 (dk_at dksX0_movesFree_1 6 rfl rfl)
theorem dX0_movesFree_33 : decode cX0_movesFree 33 = .ok (.iload_n 1, 1) := dk_27 (dk_at dksX0_movesFree_1 9 rfl rfl)
theorem dX0_movesFree_34 : decode cX0_movesFree 34 = .ok (.iaload, 1) := dk_46 (dk_at dksX0_movesFree_1 10 rfl rfl)
theorem dX0_movesFree_35 : decode cX0_movesFree 35 = .ok (.iastore, 1) := dk_79 (dk_at dksX0_movesFree_1 11 rfl rfl)
theorem dX0_movesFree_36 : decode cX0_movesFree 36 = .ok (.aload_n 0, 1) := dk_42 (dk_at dksX0_movesFree_1 12 rfl rfl)
theorem dX0_movesFree_37 : decode cX0_movesFree 37 = .ok (.getfield 56, 3) := dk_180 0 56 (dk_at dksX0_movesFree_1 13 rfl rfl)
theorem dX0_movesFree_40 : decode cX0_movesFree 40 = .ok (.iload_n 2, 1) := dk_28 (dk_at dksX0_movesFree_1 16 rfl rfl)
theorem dX0_movesFree_41 : decode cX0_movesFree 41 = .ok (.aload_n 0, 1) := dk_42 (dk_at dksX0_movesFree_1 17 rfl rfl)
theorem dX0_movesFree_42 : decode cX0_movesFree 42 = .ok (.getfield 56, 3) := dk_180 0 56 (dk_at dksX0_movesFree_1 18 rfl rfl)
theorem dX0_movesFree_45 : decode cX0_movesFree 45 = .ok (.iload_n 1, 1) := dk_27 (dk_at dksX0_movesFree_1 21 rfl rfl)
theorem dX0_movesFree_46 : decode cX0_movesFree 46 = .ok (.iaload, 1) := dk_46 (dk_at dksX0_movesFree_1 22 rfl rfl)
theorem dX0_movesFree_47 : decode cX0_movesFree 47 = .ok (.iastore, 1) := dk_79 (dk_at dksX0_movesFree_1 23 rfl rfl)
theorem dX0_movesFree_48 : decode cX0_movesFree 48 = .ok (.return_, 1) := dk_177 (dk_at dksX0_movesFree_2 0 rfl rfl)
abbrev cX0_prunes : ByteArray := prog_1_method_39_code
def yX0_prunes : MethodName := ⟨RX0, "prunes", "()V"⟩
def dkwX0_prunes_5 : List UInt8 := [132, 2, 1, 167, 255, 227, 42, 27, 181, 1, 56, 177]
abbrev dktX0_prunes_5 : List UInt8 := dkwX0_prunes_5 ++ []
def dkwX0_prunes_4 : List UInt8 := [180, 1, 56, 162, 0, 27, 42, 180, 0, 59, 28, 51, 153, 0, 12, 42, 28, 27, 182, 1, 62, 132, 1, 1]
abbrev dktX0_prunes_4 : List UInt8 := dkwX0_prunes_4 ++ dktX0_prunes_5
def dkwX0_prunes_3 : List UInt8 := [62, 132, 4, 1, 167, 255, 198, 42, 180, 0, 59, 28, 29, 84, 132, 2, 1, 167, 255, 172, 3, 61, 28, 42]
abbrev dktX0_prunes_3 : List UInt8 := dkwX0_prunes_3 ++ dktX0_prunes_4
def dkwX0_prunes_2 : List UInt8 := [21, 4, 182, 1, 59, 153, 0, 14, 21, 5, 153, 0, 13, 21, 4, 28, 164, 0, 7, 4, 167, 0, 4, 3]
abbrev dktX0_prunes_2 : List UInt8 := dkwX0_prunes_2 ++ dktX0_prunes_3
def dkwX0_prunes_1 : List UInt8 := [162, 0, 55, 29, 153, 0, 51, 42, 21, 4, 28, 182, 1, 59, 54, 5, 21, 4, 28, 159, 0, 24, 42, 28]
abbrev dktX0_prunes_1 : List UInt8 := dkwX0_prunes_1 ++ dktX0_prunes_2
def dkwX0_prunes_0 : List UInt8 := [3, 60, 3, 61, 28, 42, 180, 1, 56, 162, 0, 82, 4, 62, 3, 54, 4, 21, 4, 42, 180, 1, 56]
abbrev dktX0_prunes_0 : List UInt8 := dkwX0_prunes_0 ++ dktX0_prunes_1
theorem dksX0_prunes_0 : cX0_prunes.data.toList.drop 0 = dktX0_prunes_0 := by decide +kernel
theorem dksX0_prunes_1 : cX0_prunes.data.toList.drop 23 = dktX0_prunes_1 := dk_seg dksX0_prunes_0 23 rfl rfl
theorem dksX0_prunes_2 : cX0_prunes.data.toList.drop 47 = dktX0_prunes_2 := dk_seg dksX0_prunes_1 24 rfl rfl
theorem dksX0_prunes_3 : cX0_prunes.data.toList.drop 71 = dktX0_prunes_3 := dk_seg dksX0_prunes_2 24 rfl rfl
theorem dksX0_prunes_4 : cX0_prunes.data.toList.drop 95 = dktX0_prunes_4 := dk_seg dksX0_prunes_3 24 rfl rfl
theorem dksX0_prunes_5 : cX0_prunes.data.toList.drop 119 = dktX0_prunes_5 := dk_seg dksX0_prunes_4 24 rfl rfl
theorem dX0_prunes_0 : decode cX0_prunes 0 = .ok (.iconst 0, 1) := dk_3 (dk_at dksX0_prunes_0 0 rfl rfl)
theorem dX0_prunes_1 : decode cX0_prunes 1 = .ok (.istore_n 1, 1) := dk_60 (dk_at dksX0_prunes_0 1 rfl rfl)
theorem dX0_prunes_2 : decode cX0_prunes 2 = .ok (.iconst 0, 1) := dk_3 (dk_at dksX0_prunes_0 2 rfl rfl)
theorem dX0_prunes_3 : decode cX0_prunes 3 = .ok (.istore_n 2, 1) := dk_61 (dk_at dksX0_prunes_0 3 rfl rfl)
theorem dX0_prunes_4 : decode cX0_prunes 4 = .ok (.iload_n 2, 1) := dk_28 (dk_at dksX0_prunes_0 4 rfl rfl)
theorem dX0_prunes_5 : decode cX0_prunes 5 = .ok (.aload_n 0, 1) := dk_42 (dk_at dksX0_prunes_0 5 rfl rfl)
theorem dX0_prunes_6 : decode cX0_prunes 6 = .ok (.getfield 312, 3) := dk_180 1 56 (dk_at dksX0_prunes_0 6 rfl rfl)
theorem dX0_prunes_9 : decode cX0_prunes 9 = .ok (.if_icmp .ge 82, 3) := dk_162 0 82 (dk_at dksX0_prunes_0 9 rfl rfl)
theorem dX0_prunes_12 : decode cX0_prunes 12 = .ok (.iconst 1, 1) := dk_4 (dk_at dksX0_prunes_0 12 rfl rfl)
theorem dX0_prunes_13 : decode cX0_prunes 13 = .ok (.istore_n 3, 1) := dk_62 (dk_at dksX0_prunes_0 13 rfl rfl)
theorem dX0_prunes_14 : decode cX0_prunes 14 = .ok (.iconst 0, 1) := dk_3 (dk_at dksX0_prunes_0 14 rfl rfl)
theorem dX0_prunes_15 : decode cX0_prunes 15 = .ok (.istore 4, 2) := dk_54 4 (dk_at dksX0_prunes_0 15 rfl rfl)
theorem dX0_prunes_17 : decode cX0_prunes 17 = .ok (.iload 4, 2) := dk_21 4 (dk_at dksX0_prunes_0 17 rfl rfl)
theorem dX0_prunes_19 : decode cX0_prunes 19 = .ok (.aload_n 0, 1) := dk_42 (dk_at dksX0_prunes_0 19 rfl rfl)
theorem dX0_prunes_20 : decode cX0_prunes 20 = .ok (.getfield 312, 3) := dk_180 1 56 (dk_at dksX0_prunes_0 20 rfl rfl)
theorem dX0_prunes_23 : decode cX0_prunes 23 = .ok (.if_icmp .ge 55, 3) := dk_162 0 55 (dk_at dksX0_prunes_1 0 rfl rfl)
theorem dX0_prunes_26 : decode cX0_prunes 26 = .ok (.iload_n 3, 1) := dk_29 (dk_at dksX0_prunes_1 3 rfl rfl)
theorem dX0_prunes_27 : decode cX0_prunes 27 = .ok (.ifCond .eq 51, 3) := dk_153 0 51 (dk_at dksX0_prunes_1 4 rfl rfl)
theorem dX0_prunes_30 : decode cX0_prunes 30 = .ok (.aload_n 0, 1) := dk_42 (dk_at dksX0_prunes_1 7 rfl rfl)
theorem dX0_prunes_31 : decode cX0_prunes 31 = .ok (.iload 4, 2) := dk_21 4 (dk_at dksX0_prunes_1 8 rfl rfl)
theorem dX0_prunes_33 : decode cX0_prunes 33 = .ok (.iload_n 2, 1) := dk_28 (dk_at dksX0_prunes_1 10 rfl rfl)
theorem dX0_prunes_34 : decode cX0_prunes 34 = .ok (.invokevirtual 315, 3) := dk_182 1 59 (dk_at dksX0_prunes_1 11 rfl rfl)
theorem dX0_prunes_37 : decode cX0_prunes 37 = .ok (.istore 5, 2) := dk_54 5 (dk_at dksX0_prunes_1 14 rfl rfl)
theorem dX0_prunes_39 : decode cX0_prunes 39 = .ok (.iload 4, 2) := dk_21 4 (dk_at dksX0_prunes_1 16 rfl rfl)
theorem dX0_prunes_41 : decode cX0_prunes 41 = .ok (.iload_n 2, 1) := dk_28 (dk_at dksX0_prunes_1 18 rfl rfl)
theorem dX0_prunes_42 : decode cX0_prunes 42 = .ok (.if_icmp .eq 24, 3) := dk_159 0 24 (dk_at dksX0_prunes_1 19 rfl rfl)
theorem dX0_prunes_45 : decode cX0_prunes 45 = .ok (.aload_n 0, 1) := dk_42 (dk_at dksX0_prunes_1 22 rfl rfl)
theorem dX0_prunes_46 : decode cX0_prunes 46 = .ok (.iload_n 2, 1) := dk_28 (dk_at dksX0_prunes_1 23 rfl rfl)
theorem dX0_prunes_47 : decode cX0_prunes 47 = .ok (.iload 4, 2) := dk_21 4 (dk_at dksX0_prunes_2 0 rfl rfl)
theorem dX0_prunes_49 : decode cX0_prunes 49 = .ok (.invokevirtual 315, 3) := dk_182 1 59 (dk_at dksX0_prunes_2 2 rfl rfl)
theorem dX0_prunes_52 : decode cX0_prunes 52 = .ok (.ifCond .eq 14, 3) := dk_153 0 14 (dk_at dksX0_prunes_2 5 rfl rfl)
theorem dX0_prunes_55 : decode cX0_prunes 55 = .ok (.iload 5, 2) := dk_21 5 (dk_at dksX0_prunes_2 8 rfl rfl)
theorem dX0_prunes_57 : decode cX0_prunes 57 = .ok (.ifCond .eq 13, 3) := dk_153 0 13 (dk_at dksX0_prunes_2 10 rfl rfl)
theorem dX0_prunes_60 : decode cX0_prunes 60 = .ok (.iload 4, 2) := dk_21 4 (dk_at dksX0_prunes_2 13 rfl rfl)
theorem dX0_prunes_62 : decode cX0_prunes 62 = .ok (.iload_n 2, 1) := dk_28 (dk_at dksX0_prunes_2 15 rfl rfl)
theorem dX0_prunes_63 : decode cX0_prunes 63 = .ok (.if_icmp .le 7, 3) := dk_164 0 7 (dk_at dksX0_prunes_2 16 rfl rfl)
theorem dX0_prunes_66 : decode cX0_prunes 66 = .ok (.iconst 1, 1) := dk_4 (dk_at dksX0_prunes_2 19 rfl rfl)
theorem dX0_prunes_67 : decode cX0_prunes 67 = .ok (.goto 4, 3) := dk_167 0 4 (dk_at dksX0_prunes_2 20 rfl rfl)
theorem dX0_prunes_70 : decode cX0_prunes 70 = .ok (.iconst 0, 1) := dk_3 (dk_at dksX0_prunes_2 23 rfl rfl)
theorem dX0_prunes_71 : decode cX0_prunes 71 = .ok (.istore_n 3, 1) := dk_62 (dk_at dksX0_prunes_3 0 rfl rfl)
theorem dX0_prunes_72 : decode cX0_prunes 72 = .ok (.iinc 4 1, 3) := dk_132 4 1 (dk_at dksX0_prunes_3 1 rfl rfl)
theorem dX0_prunes_75 : decode cX0_prunes 75 = .ok (.goto (-58), 3) := dk_167 255 198 (dk_at dksX0_prunes_3 4 rfl rfl)
theorem dX0_prunes_78 : decode cX0_prunes 78 = .ok (.aload_n 0, 1) := dk_42 (dk_at dksX0_prunes_3 7 rfl rfl)
theorem dX0_prunes_79 : decode cX0_prunes 79 = .ok (.getfield 59, 3) := dk_180 0 59 (dk_at dksX0_prunes_3 8 rfl rfl)
theorem dX0_prunes_82 : decode cX0_prunes 82 = .ok (.iload_n 2, 1) := dk_28 (dk_at dksX0_prunes_3 11 rfl rfl)
theorem dX0_prunes_83 : decode cX0_prunes 83 = .ok (.iload_n 3, 1) := dk_29 (dk_at dksX0_prunes_3 12 rfl rfl)
theorem dX0_prunes_84 : decode cX0_prunes 84 = .ok (.bastore, 1) := dk_84 (dk_at dksX0_prunes_3 13 rfl rfl)
theorem dX0_prunes_85 : decode cX0_prunes 85 = .ok (.iinc 2 1, 3) := dk_132 2 1 (dk_at dksX0_prunes_3 14 rfl rfl)
theorem dX0_prunes_88 : decode cX0_prunes 88 = .ok (.goto (-84), 3) := dk_167 255 172 (dk_at dksX0_prunes_3 17 rfl rfl)
theorem dX0_prunes_91 : decode cX0_prunes 91 = .ok (.iconst 0, 1) := dk_3 (dk_at dksX0_prunes_3 20 rfl rfl)
theorem dX0_prunes_92 : decode cX0_prunes 92 = .ok (.istore_n 2, 1) := dk_61 (dk_at dksX0_prunes_3 21 rfl rfl)
theorem dX0_prunes_93 : decode cX0_prunes 93 = .ok (.iload_n 2, 1) := dk_28 (dk_at dksX0_prunes_3 22 rfl rfl)
theorem dX0_prunes_94 : decode cX0_prunes 94 = .ok (.aload_n 0, 1) := dk_42 (dk_at dksX0_prunes_3 23 rfl rfl)
theorem dX0_prunes_95 : decode cX0_prunes 95 = .ok (.getfield 312, 3) := dk_180 1 56 (dk_at dksX0_prunes_4 0 rfl rfl)
theorem dX0_prunes_98 : decode cX0_prunes 98 = .ok (.if_icmp .ge 27, 3) := dk_162 0 27 (dk_at dksX0_prunes_4 3 rfl rfl)
theorem dX0_prunes_101 : decode cX0_prunes 101 = .ok (.aload_n 0, 1) := dk_42 (dk_at dksX0_prunes_4 6 rfl rfl)
theorem dX0_prunes_102 : decode cX0_prunes 102 = .ok (.getfield 59, 3) := dk_180 0 59 (dk_at dksX0_prunes_4 7 rfl rfl)
theorem dX0_prunes_105 : decode cX0_prunes 105 = .ok (.iload_n 2, 1) := dk_28 (dk_at dksX0_prunes_4 10 rfl rfl)
theorem dX0_prunes_106 : decode cX0_prunes 106 = .ok (.baload, 1) := dk_51 (dk_at dksX0_prunes_4 11 rfl rfl)
theorem dX0_prunes_107 : decode cX0_prunes 107 = .ok (.ifCond .eq 12, 3) := dk_153 0 12 (dk_at dksX0_prunes_4 12 rfl rfl)
theorem dX0_prunes_110 : decode cX0_prunes 110 = .ok (.aload_n 0, 1) := dk_42 (dk_at dksX0_prunes_4 15 rfl rfl)
theorem dX0_prunes_111 : decode cX0_prunes 111 = .ok (.iload_n 2, 1) := dk_28 (dk_at dksX0_prunes_4 16 rfl rfl)
theorem dX0_prunes_112 : decode cX0_prunes 112 = .ok (.iload_n 1, 1) := dk_27 (dk_at dksX0_prunes_4 17 rfl rfl)
theorem dX0_prunes_113 : decode cX0_prunes 113 = .ok (.invokevirtual 318, 3) := dk_182 1 62 (dk_at dksX0_prunes_4 18 rfl rfl)
theorem dX0_prunes_116 : decode cX0_prunes 116 = .ok (.iinc 1 1, 3) := dk_132 1 1 (dk_at dksX0_prunes_4 21 rfl rfl)
theorem dX0_prunes_119 : decode cX0_prunes 119 = .ok (.iinc 2 1, 3) := dk_132 2 1 (dk_at dksX0_prunes_5 0 rfl rfl)
theorem dX0_prunes_122 : decode cX0_prunes 122 = .ok (.goto (-29), 3) := dk_167 255 227 (dk_at dksX0_prunes_5 3 rfl rfl)
theorem dX0_prunes_125 : decode cX0_prunes 125 = .ok (.aload_n 0, 1) := dk_42 (dk_at dksX0_prunes_5 6 rfl rfl)
theorem dX0_prunes_126 : decode cX0_prunes 126 = .ok (.iload_n 1, 1) := dk_27 (dk_at dksX0_prunes_5 7 rfl rfl)
theorem dX0_prunes_127 : decode cX0_prunes 127 = .ok (.putfield 312, 3) := dk_181 1 56 (dk_at dksX0_prunes_5 8 rfl rfl)
theorem dX0_prunes_130 : decode cX0_prunes 130 = .ok (.return_, 1) := dk_177 (dk_at dksX0_prunes_5 11 rfl rfl)
abbrev cX0_isWithin : ByteArray := prog_1_method_38_code
def yX0_isWithin : MethodName := ⟨RX0, "isWithin", "(II)Z"⟩
def dkwX0_isWithin_4 : List UInt8 := [167, 0, 4, 3, 172]
abbrev dktX0_isWithin_4 : List UInt8 := dkwX0_isWithin_4 ++ []
def dkwX0_isWithin_3 : List UInt8 := [180, 0, 56, 27, 46, 96, 42, 180, 0, 50, 28, 46, 42, 180, 0, 56, 28, 46, 96, 163, 0, 7, 4]
abbrev dktX0_isWithin_3 : List UInt8 := dkwX0_isWithin_3 ++ dktX0_isWithin_4
def dkwX0_isWithin_2 : List UInt8 := [180, 0, 47, 28, 46, 42, 180, 0, 53, 28, 46, 96, 163, 0, 36, 42, 180, 0, 50, 27, 46, 42]
abbrev dktX0_isWithin_2 : List UInt8 := dkwX0_isWithin_2 ++ dktX0_isWithin_3
def dkwX0_isWithin_1 : List UInt8 := [180, 0, 50, 28, 46, 161, 0, 65, 42, 180, 0, 47, 27, 46, 42, 180, 0, 53, 27, 46, 96, 42]
abbrev dktX0_isWithin_1 : List UInt8 := dkwX0_isWithin_1 ++ dktX0_isWithin_2
def dkwX0_isWithin_0 : List UInt8 := [42, 180, 0, 47, 27, 46, 42, 180, 0, 47, 28, 46, 161, 0, 80, 42, 180, 0, 50, 27, 46, 42]
abbrev dktX0_isWithin_0 : List UInt8 := dkwX0_isWithin_0 ++ dktX0_isWithin_1
theorem dksX0_isWithin_0 : cX0_isWithin.data.toList.drop 0 = dktX0_isWithin_0 := by decide +kernel
theorem dksX0_isWithin_1 : cX0_isWithin.data.toList.drop 22 = dktX0_isWithin_1 := dk_seg dksX0_isWithin_0 22 rfl rfl
theorem dksX0_isWithin_2 : cX0_isWithin.data.toList.drop 44 = dktX0_isWithin_2 := dk_seg dksX0_isWithin_1 22 rfl rfl
theorem dksX0_isWithin_3 : cX0_isWithin.data.toList.drop 66 = dktX0_isWithin_3 := dk_seg dksX0_isWithin_2 22 rfl rfl
theorem dksX0_isWithin_4 : cX0_isWithin.data.toList.drop 89 = dktX0_isWithin_4 := dk_seg dksX0_isWithin_3 23 rfl rfl
theorem dX0_isWithin_0 : decode cX0_isWithin 0 = .ok (.aload_n 0, 1) := dk_42 (dk_at dksX0_isWithin_0 0 rfl rfl)
theorem dX0_isWithin_1 : decode cX0_isWithin 1 = .ok (.getfield 47, 3) := dk_180 0 47 (dk_at dksX0_isWithin_0 1 rfl rfl)
theorem dX0_isWithin_4 : decode cX0_isWithin 4 = .ok (.iload_n 1, 1) := dk_27 (dk_at dksX0_isWithin_0 4 rfl rfl)
theorem dX0_isWithin_5 : decode cX0_isWithin 5 = .ok (.iaload, 1) := dk_46 (dk_at dksX0_isWithin_0 5 rfl rfl)
theorem dX0_isWithin_6 : decode cX0_isWithin 6 = .ok (.aload_n 0, 1) := dk_42 (dk_at dksX0_isWithin_0 6 rfl rfl)
theorem dX0_isWithin_7 : decode cX0_isWithin 7 = .ok (.getfield 47, 3) := dk_180 0 47 (dk_at dksX0_isWithin_0 7 rfl rfl)
theorem dX0_isWithin_10 : decode cX0_isWithin 10 = .ok (.iload_n 2, 1) := dk_28 (dk_at dksX0_isWithin_0 10 rfl rfl)
theorem dX0_isWithin_11 : decode cX0_isWithin 11 = .ok (.iaload, 1) := dk_46 (dk_at dksX0_isWithin_0 11 rfl rfl)
theorem dX0_isWithin_12 : decode cX0_isWithin 12 = .ok (.if_icmp .lt 80, 3) := dk_161 0 80 (dk_at dksX0_isWithin_0 12 rfl rfl)
theorem dX0_isWithin_15 : decode cX0_isWithin 15 = .ok (.aload_n 0, 1) := dk_42 (dk_at dksX0_isWithin_0 15 rfl rfl)
theorem dX0_isWithin_16 : decode cX0_isWithin 16 = .ok (.getfield 50, 3) := dk_180 0 50 (dk_at dksX0_isWithin_0 16 rfl rfl)
theorem dX0_isWithin_19 : decode cX0_isWithin 19 = .ok (.iload_n 1, 1) := dk_27 (dk_at dksX0_isWithin_0 19 rfl rfl)
theorem dX0_isWithin_20 : decode cX0_isWithin 20 = .ok (.iaload, 1) := dk_46 (dk_at dksX0_isWithin_0 20 rfl rfl)
theorem dX0_isWithin_21 : decode cX0_isWithin 21 = .ok (.aload_n 0, 1) := dk_42 (dk_at dksX0_isWithin_0 21 rfl rfl)
theorem dX0_isWithin_22 : decode cX0_isWithin 22 = .ok (.getfield 50, 3) := dk_180 0 50 (dk_at dksX0_isWithin_1 0 rfl rfl)
theorem dX0_isWithin_25 : decode cX0_isWithin 25 = .ok (.iload_n 2, 1) := dk_28 (dk_at dksX0_isWithin_1 3 rfl rfl)
theorem dX0_isWithin_26 : decode cX0_isWithin 26 = .ok (.iaload, 1) := dk_46 (dk_at dksX0_isWithin_1 4 rfl rfl)
theorem dX0_isWithin_27 : decode cX0_isWithin 27 = .ok (.if_icmp .lt 65, 3) := dk_161 0 65 (dk_at dksX0_isWithin_1 5 rfl rfl)
theorem dX0_isWithin_30 : decode cX0_isWithin 30 = .ok (.aload_n 0, 1) := dk_42 (dk_at dksX0_isWithin_1 8 rfl rfl)
theorem dX0_isWithin_31 : decode cX0_isWithin 31 = .ok (.getfield 47, 3) := dk_180 0 47 (dk_at dksX0_isWithin_1 9 rfl rfl)
theorem dX0_isWithin_34 : decode cX0_isWithin 34 = .ok (.iload_n 1, 1) := dk_27 (dk_at dksX0_isWithin_1 12 rfl rfl)
theorem dX0_isWithin_35 : decode cX0_isWithin 35 = .ok (.iaload, 1) := dk_46 (dk_at dksX0_isWithin_1 13 rfl rfl)
theorem dX0_isWithin_36 : decode cX0_isWithin 36 = .ok (.aload_n 0, 1) := dk_42 (dk_at dksX0_isWithin_1 14 rfl rfl)
theorem dX0_isWithin_37 : decode cX0_isWithin 37 = .ok (.getfield 53, 3) := dk_180 0 53 (dk_at dksX0_isWithin_1 15 rfl rfl)
theorem dX0_isWithin_40 : decode cX0_isWithin 40 = .ok (.iload_n 1, 1) := dk_27 (dk_at dksX0_isWithin_1 18 rfl rfl)
theorem dX0_isWithin_41 : decode cX0_isWithin 41 = .ok (.iaload, 1) := dk_46 (dk_at dksX0_isWithin_1 19 rfl rfl)
theorem dX0_isWithin_42 : decode cX0_isWithin 42 = .ok (.iadd, 1) := dk_96 (dk_at dksX0_isWithin_1 20 rfl rfl)
theorem dX0_isWithin_43 : decode cX0_isWithin 43 = .ok (.aload_n 0, 1) := dk_42 (dk_at dksX0_isWithin_1 21 rfl rfl)
theorem dX0_isWithin_44 : decode cX0_isWithin 44 = .ok (.getfield 47, 3) := dk_180 0 47 (dk_at dksX0_isWithin_2 0 rfl rfl)
theorem dX0_isWithin_47 : decode cX0_isWithin 47 = .ok (.iload_n 2, 1) := dk_28 (dk_at dksX0_isWithin_2 3 rfl rfl)
theorem dX0_isWithin_48 : decode cX0_isWithin 48 = .ok (.iaload, 1) := dk_46 (dk_at dksX0_isWithin_2 4 rfl rfl)
theorem dX0_isWithin_49 : decode cX0_isWithin 49 = .ok (.aload_n 0, 1) := dk_42 (dk_at dksX0_isWithin_2 5 rfl rfl)
theorem dX0_isWithin_50 : decode cX0_isWithin 50 = .ok (.getfield 53, 3) := dk_180 0 53 (dk_at dksX0_isWithin_2 6 rfl rfl)
theorem dX0_isWithin_53 : decode cX0_isWithin 53 = .ok (.iload_n 2, 1) := dk_28 (dk_at dksX0_isWithin_2 9 rfl rfl)
theorem dX0_isWithin_54 : decode cX0_isWithin 54 = .ok (.iaload, 1) := dk_46 (dk_at dksX0_isWithin_2 10 rfl rfl)
theorem dX0_isWithin_55 : decode cX0_isWithin 55 = .ok (.iadd, 1) := dk_96 (dk_at dksX0_isWithin_2 11 rfl rfl)
theorem dX0_isWithin_56 : decode cX0_isWithin 56 = .ok (.if_icmp .gt 36, 3) := dk_163 0 36 (dk_at dksX0_isWithin_2 12 rfl rfl)
theorem dX0_isWithin_59 : decode cX0_isWithin 59 = .ok (.aload_n 0, 1) := dk_42 (dk_at dksX0_isWithin_2 15 rfl rfl)
theorem dX0_isWithin_60 : decode cX0_isWithin 60 = .ok (.getfield 50, 3) := dk_180 0 50 (dk_at dksX0_isWithin_2 16 rfl rfl)
theorem dX0_isWithin_63 : decode cX0_isWithin 63 = .ok (.iload_n 1, 1) := dk_27 (dk_at dksX0_isWithin_2 19 rfl rfl)
theorem dX0_isWithin_64 : decode cX0_isWithin 64 = .ok (.iaload, 1) := dk_46 (dk_at dksX0_isWithin_2 20 rfl rfl)
theorem dX0_isWithin_65 : decode cX0_isWithin 65 = .ok (.aload_n 0, 1) := dk_42 (dk_at dksX0_isWithin_2 21 rfl rfl)
theorem dX0_isWithin_66 : decode cX0_isWithin 66 = .ok (.getfield 56, 3) := dk_180 0 56 (dk_at dksX0_isWithin_3 0 rfl rfl)
theorem dX0_isWithin_69 : decode cX0_isWithin 69 = .ok (.iload_n 1, 1) := dk_27 (dk_at dksX0_isWithin_3 3 rfl rfl)
theorem dX0_isWithin_70 : decode cX0_isWithin 70 = .ok (.iaload, 1) := dk_46 (dk_at dksX0_isWithin_3 4 rfl rfl)
theorem dX0_isWithin_71 : decode cX0_isWithin 71 = .ok (.iadd, 1) := dk_96 (dk_at dksX0_isWithin_3 5 rfl rfl)
theorem dX0_isWithin_72 : decode cX0_isWithin 72 = .ok (.aload_n 0, 1) := dk_42 (dk_at dksX0_isWithin_3 6 rfl rfl)
theorem dX0_isWithin_73 : decode cX0_isWithin 73 = .ok (.getfield 50, 3) := dk_180 0 50 (dk_at dksX0_isWithin_3 7 rfl rfl)
theorem dX0_isWithin_76 : decode cX0_isWithin 76 = .ok (.iload_n 2, 1) := dk_28 (dk_at dksX0_isWithin_3 10 rfl rfl)
theorem dX0_isWithin_77 : decode cX0_isWithin 77 = .ok (.iaload, 1) := dk_46 (dk_at dksX0_isWithin_3 11 rfl rfl)
theorem dX0_isWithin_78 : decode cX0_isWithin 78 = .ok (.aload_n 0, 1) := dk_42 (dk_at dksX0_isWithin_3 12 rfl rfl)
theorem dX0_isWithin_79 : decode cX0_isWithin 79 = .ok (.getfield 56, 3) := dk_180 0 56 (dk_at dksX0_isWithin_3 13 rfl rfl)
theorem dX0_isWithin_82 : decode cX0_isWithin 82 = .ok (.iload_n 2, 1) := dk_28 (dk_at dksX0_isWithin_3 16 rfl rfl)
theorem dX0_isWithin_83 : decode cX0_isWithin 83 = .ok (.iaload, 1) := dk_46 (dk_at dksX0_isWithin_3 17 rfl rfl)
theorem dX0_isWithin_84 : decode cX0_isWithin 84 = .ok (.iadd, 1) := dk_96 (dk_at dksX0_isWithin_3 18 rfl rfl)
theorem dX0_isWithin_85 : decode cX0_isWithin 85 = .ok (.if_icmp .gt 7, 3) := dk_163 0 7 (dk_at dksX0_isWithin_3 19 rfl rfl)
theorem dX0_isWithin_88 : decode cX0_isWithin 88 = .ok (.iconst 1, 1) := dk_4 (dk_at dksX0_isWithin_3 22 rfl rfl)
theorem dX0_isWithin_89 : decode cX0_isWithin 89 = .ok (.goto 4, 3) := dk_167 0 4 (dk_at dksX0_isWithin_4 0 rfl rfl)
theorem dX0_isWithin_92 : decode cX0_isWithin 92 = .ok (.iconst 0, 1) := dk_3 (dk_at dksX0_isWithin_4 3 rfl rfl)
theorem dX0_isWithin_93 : decode cX0_isWithin 93 = .ok (.ireturn, 1) := dk_172 (dk_at dksX0_isWithin_4 4 rfl rfl)
abbrev cX0_sorts : ByteArray := prog_1_method_42_code
def yX0_sorts : MethodName := ⟨RX0, "sorts", "()V"⟩
def dkwX0_sorts_2 : List UInt8 := [167, 255, 228, 42, 17, 1, 255, 28, 182, 1, 62, 132, 1, 1, 167, 255, 196, 177]
abbrev dktX0_sorts_2 : List UInt8 := dkwX0_sorts_2 ++ []
def dkwX0_sorts_1 : List UInt8 := [42, 17, 1, 255, 28, 4, 100, 182, 1, 90, 153, 0, 17, 42, 28, 4, 100, 28, 182, 1, 62, 132, 2, 255]
abbrev dktX0_sorts_1 : List UInt8 := dkwX0_sorts_1 ++ dktX0_sorts_2
def dkwX0_sorts_0 : List UInt8 := [4, 60, 27, 42, 180, 1, 56, 162, 0, 58, 42, 27, 17, 1, 255, 182, 1, 62, 27, 61, 28, 158, 0, 30]
abbrev dktX0_sorts_0 : List UInt8 := dkwX0_sorts_0 ++ dktX0_sorts_1
theorem dksX0_sorts_0 : cX0_sorts.data.toList.drop 0 = dktX0_sorts_0 := by decide +kernel
theorem dksX0_sorts_1 : cX0_sorts.data.toList.drop 24 = dktX0_sorts_1 := dk_seg dksX0_sorts_0 24 rfl rfl
theorem dksX0_sorts_2 : cX0_sorts.data.toList.drop 48 = dktX0_sorts_2 := dk_seg dksX0_sorts_1 24 rfl rfl
theorem dX0_sorts_0 : decode cX0_sorts 0 = .ok (.iconst 1, 1) := dk_4 (dk_at dksX0_sorts_0 0 rfl rfl)
theorem dX0_sorts_1 : decode cX0_sorts 1 = .ok (.istore_n 1, 1) := dk_60 (dk_at dksX0_sorts_0 1 rfl rfl)
theorem dX0_sorts_2 : decode cX0_sorts 2 = .ok (.iload_n 1, 1) := dk_27 (dk_at dksX0_sorts_0 2 rfl rfl)
theorem dX0_sorts_3 : decode cX0_sorts 3 = .ok (.aload_n 0, 1) := dk_42 (dk_at dksX0_sorts_0 3 rfl rfl)
theorem dX0_sorts_4 : decode cX0_sorts 4 = .ok (.getfield 312, 3) := dk_180 1 56 (dk_at dksX0_sorts_0 4 rfl rfl)
theorem dX0_sorts_7 : decode cX0_sorts 7 = .ok (.if_icmp .ge 58, 3) := dk_162 0 58 (dk_at dksX0_sorts_0 7 rfl rfl)
theorem dX0_sorts_10 : decode cX0_sorts 10 = .ok (.aload_n 0, 1) := dk_42 (dk_at dksX0_sorts_0 10 rfl rfl)
theorem dX0_sorts_11 : decode cX0_sorts 11 = .ok (.iload_n 1, 1) := dk_27 (dk_at dksX0_sorts_0 11 rfl rfl)
theorem dX0_sorts_12 : decode cX0_sorts 12 = .ok (.sipush 511, 3) := dk_17 1 255 (dk_at dksX0_sorts_0 12 rfl rfl)
theorem dX0_sorts_15 : decode cX0_sorts 15 = .ok (.invokevirtual 318, 3) := dk_182 1 62 (dk_at dksX0_sorts_0 15 rfl rfl)
theorem dX0_sorts_18 : decode cX0_sorts 18 = .ok (.iload_n 1, 1) := dk_27 (dk_at dksX0_sorts_0 18 rfl rfl)
theorem dX0_sorts_19 : decode cX0_sorts 19 = .ok (.istore_n 2, 1) := dk_61 (dk_at dksX0_sorts_0 19 rfl rfl)
theorem dX0_sorts_20 : decode cX0_sorts 20 = .ok (.iload_n 2, 1) := dk_28 (dk_at dksX0_sorts_0 20 rfl rfl)
theorem dX0_sorts_21 : decode cX0_sorts 21 = .ok (.ifCond .le 30, 3) := dk_158 0 30 (dk_at dksX0_sorts_0 21 rfl rfl)
theorem dX0_sorts_24 : decode cX0_sorts 24 = .ok (.aload_n 0, 1) := dk_42 (dk_at dksX0_sorts_1 0 rfl rfl)
theorem dX0_sorts_25 : decode cX0_sorts 25 = .ok (.sipush 511, 3) := dk_17 1 255 (dk_at dksX0_sorts_1 1 rfl rfl)
theorem dX0_sorts_28 : decode cX0_sorts 28 = .ok (.iload_n 2, 1) := dk_28 (dk_at dksX0_sorts_1 4 rfl rfl)
theorem dX0_sorts_29 : decode cX0_sorts 29 = .ok (.iconst 1, 1) := dk_4 (dk_at dksX0_sorts_1 5 rfl rfl)
theorem dX0_sorts_30 : decode cX0_sorts 30 = .ok (.isub, 1) := dk_100 (dk_at dksX0_sorts_1 6 rfl rfl)
theorem dX0_sorts_31 : decode cX0_sorts 31 = .ok (.invokevirtual 346, 3) := dk_182 1 90 (dk_at dksX0_sorts_1 7 rfl rfl)
theorem dX0_sorts_34 : decode cX0_sorts 34 = .ok (.ifCond .eq 17, 3) := dk_153 0 17 (dk_at dksX0_sorts_1 10 rfl rfl)
theorem dX0_sorts_37 : decode cX0_sorts 37 = .ok (.aload_n 0, 1) := dk_42 (dk_at dksX0_sorts_1 13 rfl rfl)
theorem dX0_sorts_38 : decode cX0_sorts 38 = .ok (.iload_n 2, 1) := dk_28 (dk_at dksX0_sorts_1 14 rfl rfl)
theorem dX0_sorts_39 : decode cX0_sorts 39 = .ok (.iconst 1, 1) := dk_4 (dk_at dksX0_sorts_1 15 rfl rfl)
theorem dX0_sorts_40 : decode cX0_sorts 40 = .ok (.isub, 1) := dk_100 (dk_at dksX0_sorts_1 16 rfl rfl)
theorem dX0_sorts_41 : decode cX0_sorts 41 = .ok (.iload_n 2, 1) := dk_28 (dk_at dksX0_sorts_1 17 rfl rfl)
theorem dX0_sorts_42 : decode cX0_sorts 42 = .ok (.invokevirtual 318, 3) := dk_182 1 62 (dk_at dksX0_sorts_1 18 rfl rfl)
theorem dX0_sorts_45 : decode cX0_sorts 45 = .ok (.iinc 2 (-1), 3) := dk_132 2 255 (dk_at dksX0_sorts_1 21 rfl rfl)
theorem dX0_sorts_48 : decode cX0_sorts 48 = .ok (.goto (-28), 3) := dk_167 255 228 (dk_at dksX0_sorts_2 0 rfl rfl)
theorem dX0_sorts_51 : decode cX0_sorts 51 = .ok (.aload_n 0, 1) := dk_42 (dk_at dksX0_sorts_2 3 rfl rfl)
theorem dX0_sorts_52 : decode cX0_sorts 52 = .ok (.sipush 511, 3) := dk_17 1 255 (dk_at dksX0_sorts_2 4 rfl rfl)
theorem dX0_sorts_55 : decode cX0_sorts 55 = .ok (.iload_n 2, 1) := dk_28 (dk_at dksX0_sorts_2 7 rfl rfl)
theorem dX0_sorts_56 : decode cX0_sorts 56 = .ok (.invokevirtual 318, 3) := dk_182 1 62 (dk_at dksX0_sorts_2 8 rfl rfl)
theorem dX0_sorts_59 : decode cX0_sorts 59 = .ok (.iinc 1 1, 3) := dk_132 1 1 (dk_at dksX0_sorts_2 11 rfl rfl)
theorem dX0_sorts_62 : decode cX0_sorts 62 = .ok (.goto (-60), 3) := dk_167 255 196 (dk_at dksX0_sorts_2 14 rfl rfl)
theorem dX0_sorts_65 : decode cX0_sorts 65 = .ok (.return_, 1) := dk_177 (dk_at dksX0_sorts_2 17 rfl rfl)
abbrev cX0_isAhead : ByteArray := prog_1_method_41_code
def yX0_isAhead : MethodName := ⟨RX0, "isAhead", "(II)Z"⟩
def dkwX0_isAhead_5 : List UInt8 := [180, 0, 56, 28, 46, 162, 0, 7, 4, 167, 0, 4, 3, 172]
abbrev dktX0_isAhead_5 : List UInt8 := dkwX0_isAhead_5 ++ []
def dkwX0_isAhead_4 : List UInt8 := [180, 0, 53, 28, 46, 162, 0, 7, 4, 167, 0, 27, 3, 167, 0, 23, 42, 180, 0, 56, 27, 46, 42]
abbrev dktX0_isAhead_4 : List UInt8 := dkwX0_isAhead_4 ++ dktX0_isAhead_5
def dkwX0_isAhead_3 : List UInt8 := [3, 172, 42, 180, 0, 53, 27, 46, 42, 180, 0, 53, 28, 46, 159, 0, 26, 42, 180, 0, 53, 27, 46, 42]
abbrev dktX0_isAhead_3 : List UInt8 := dkwX0_isAhead_3 ++ dktX0_isAhead_4
def dkwX0_isAhead_2 : List UInt8 := [28, 46, 159, 0, 24, 42, 180, 0, 47, 27, 46, 42, 180, 0, 47, 28, 46, 162, 0, 7, 4, 167, 0, 4]
abbrev dktX0_isAhead_2 : List UInt8 := dkwX0_isAhead_2 ++ dktX0_isAhead_3
def dkwX0_isAhead_1 : List UInt8 := [180, 0, 50, 28, 46, 162, 0, 7, 4, 167, 0, 4, 3, 172, 42, 180, 0, 47, 27, 46, 42, 180, 0, 47]
abbrev dktX0_isAhead_1 : List UInt8 := dkwX0_isAhead_1 ++ dktX0_isAhead_2
def dkwX0_isAhead_0 : List UInt8 := [42, 180, 0, 50, 27, 46, 42, 180, 0, 50, 28, 46, 159, 0, 24, 42, 180, 0, 50, 27, 46, 42]
abbrev dktX0_isAhead_0 : List UInt8 := dkwX0_isAhead_0 ++ dktX0_isAhead_1
theorem dksX0_isAhead_0 : cX0_isAhead.data.toList.drop 0 = dktX0_isAhead_0 := by decide +kernel
theorem dksX0_isAhead_1 : cX0_isAhead.data.toList.drop 22 = dktX0_isAhead_1 := dk_seg dksX0_isAhead_0 22 rfl rfl
theorem dksX0_isAhead_2 : cX0_isAhead.data.toList.drop 46 = dktX0_isAhead_2 := dk_seg dksX0_isAhead_1 24 rfl rfl
theorem dksX0_isAhead_3 : cX0_isAhead.data.toList.drop 70 = dktX0_isAhead_3 := dk_seg dksX0_isAhead_2 24 rfl rfl
theorem dksX0_isAhead_4 : cX0_isAhead.data.toList.drop 94 = dktX0_isAhead_4 := dk_seg dksX0_isAhead_3 24 rfl rfl
theorem dksX0_isAhead_5 : cX0_isAhead.data.toList.drop 117 = dktX0_isAhead_5 := dk_seg dksX0_isAhead_4 23 rfl rfl
theorem dX0_isAhead_0 : decode cX0_isAhead 0 = .ok (.aload_n 0, 1) := dk_42 (dk_at dksX0_isAhead_0 0 rfl rfl)
theorem dX0_isAhead_1 : decode cX0_isAhead 1 = .ok (.getfield 50, 3) := dk_180 0 50 (dk_at dksX0_isAhead_0 1 rfl rfl)
theorem dX0_isAhead_4 : decode cX0_isAhead 4 = .ok (.iload_n 1, 1) := dk_27 (dk_at dksX0_isAhead_0 4 rfl rfl)
theorem dX0_isAhead_5 : decode cX0_isAhead 5 = .ok (.iaload, 1) := dk_46 (dk_at dksX0_isAhead_0 5 rfl rfl)
theorem dX0_isAhead_6 : decode cX0_isAhead 6 = .ok (.aload_n 0, 1) := dk_42 (dk_at dksX0_isAhead_0 6 rfl rfl)
theorem dX0_isAhead_7 : decode cX0_isAhead 7 = .ok (.getfield 50, 3) := dk_180 0 50 (dk_at dksX0_isAhead_0 7 rfl rfl)
theorem dX0_isAhead_10 : decode cX0_isAhead 10 = .ok (.iload_n 2, 1) := dk_28 (dk_at dksX0_isAhead_0 10 rfl rfl)
theorem dX0_isAhead_11 : decode cX0_isAhead 11 = .ok (.iaload, 1) := dk_46 (dk_at dksX0_isAhead_0 11 rfl rfl)
theorem dX0_isAhead_12 : decode cX0_isAhead 12 = .ok (.if_icmp .eq 24, 3) := dk_159 0 24 (dk_at dksX0_isAhead_0 12 rfl rfl)
theorem dX0_isAhead_15 : decode cX0_isAhead 15 = .ok (.aload_n 0, 1) := dk_42 (dk_at dksX0_isAhead_0 15 rfl rfl)
theorem dX0_isAhead_16 : decode cX0_isAhead 16 = .ok (.getfield 50, 3) := dk_180 0 50 (dk_at dksX0_isAhead_0 16 rfl rfl)
theorem dX0_isAhead_19 : decode cX0_isAhead 19 = .ok (.iload_n 1, 1) := dk_27 (dk_at dksX0_isAhead_0 19 rfl rfl)
theorem dX0_isAhead_20 : decode cX0_isAhead 20 = .ok (.iaload, 1) := dk_46 (dk_at dksX0_isAhead_0 20 rfl rfl)
theorem dX0_isAhead_21 : decode cX0_isAhead 21 = .ok (.aload_n 0, 1) := dk_42 (dk_at dksX0_isAhead_0 21 rfl rfl)
theorem dX0_isAhead_22 : decode cX0_isAhead 22 = .ok (.getfield 50, 3) := dk_180 0 50 (dk_at dksX0_isAhead_1 0 rfl rfl)
theorem dX0_isAhead_25 : decode cX0_isAhead 25 = .ok (.iload_n 2, 1) := dk_28 (dk_at dksX0_isAhead_1 3 rfl rfl)
theorem dX0_isAhead_26 : decode cX0_isAhead 26 = .ok (.iaload, 1) := dk_46 (dk_at dksX0_isAhead_1 4 rfl rfl)
theorem dX0_isAhead_27 : decode cX0_isAhead 27 = .ok (.if_icmp .ge 7, 3) := dk_162 0 7 (dk_at dksX0_isAhead_1 5 rfl rfl)
theorem dX0_isAhead_30 : decode cX0_isAhead 30 = .ok (.iconst 1, 1) := dk_4 (dk_at dksX0_isAhead_1 8 rfl rfl)
theorem dX0_isAhead_31 : decode cX0_isAhead 31 = .ok (.goto 4, 3) := dk_167 0 4 (dk_at dksX0_isAhead_1 9 rfl rfl)
theorem dX0_isAhead_34 : decode cX0_isAhead 34 = .ok (.iconst 0, 1) := dk_3 (dk_at dksX0_isAhead_1 12 rfl rfl)
theorem dX0_isAhead_35 : decode cX0_isAhead 35 = .ok (.ireturn, 1) := dk_172 (dk_at dksX0_isAhead_1 13 rfl rfl)
theorem dX0_isAhead_36 : decode cX0_isAhead 36 = .ok (.aload_n 0, 1) := dk_42 (dk_at dksX0_isAhead_1 14 rfl rfl)
theorem dX0_isAhead_37 : decode cX0_isAhead 37 = .ok (.getfield 47, 3) := dk_180 0 47 (dk_at dksX0_isAhead_1 15 rfl rfl)
theorem dX0_isAhead_40 : decode cX0_isAhead 40 = .ok (.iload_n 1, 1) := dk_27 (dk_at dksX0_isAhead_1 18 rfl rfl)
theorem dX0_isAhead_41 : decode cX0_isAhead 41 = .ok (.iaload, 1) := dk_46 (dk_at dksX0_isAhead_1 19 rfl rfl)
theorem dX0_isAhead_42 : decode cX0_isAhead 42 = .ok (.aload_n 0, 1) := dk_42 (dk_at dksX0_isAhead_1 20 rfl rfl)
theorem dX0_isAhead_43 : decode cX0_isAhead 43 = .ok (.getfield 47, 3) := dk_180 0 47 (dk_at dksX0_isAhead_1 21 rfl rfl)
theorem dX0_isAhead_46 : decode cX0_isAhead 46 = .ok (.iload_n 2, 1) := dk_28 (dk_at dksX0_isAhead_2 0 rfl rfl)
theorem dX0_isAhead_47 : decode cX0_isAhead 47 = .ok (.iaload, 1) := dk_46 (dk_at dksX0_isAhead_2 1 rfl rfl)
theorem dX0_isAhead_48 : decode cX0_isAhead 48 = .ok (.if_icmp .eq 24, 3) := dk_159 0 24 (dk_at dksX0_isAhead_2 2 rfl rfl)
theorem dX0_isAhead_51 : decode cX0_isAhead 51 = .ok (.aload_n 0, 1) := dk_42 (dk_at dksX0_isAhead_2 5 rfl rfl)
theorem dX0_isAhead_52 : decode cX0_isAhead 52 = .ok (.getfield 47, 3) := dk_180 0 47 (dk_at dksX0_isAhead_2 6 rfl rfl)
theorem dX0_isAhead_55 : decode cX0_isAhead 55 = .ok (.iload_n 1, 1) := dk_27 (dk_at dksX0_isAhead_2 9 rfl rfl)
theorem dX0_isAhead_56 : decode cX0_isAhead 56 = .ok (.iaload, 1) := dk_46 (dk_at dksX0_isAhead_2 10 rfl rfl)
theorem dX0_isAhead_57 : decode cX0_isAhead 57 = .ok (.aload_n 0, 1) := dk_42 (dk_at dksX0_isAhead_2 11 rfl rfl)
theorem dX0_isAhead_58 : decode cX0_isAhead 58 = .ok (.getfield 47, 3) := dk_180 0 47 (dk_at dksX0_isAhead_2 12 rfl rfl)
theorem dX0_isAhead_61 : decode cX0_isAhead 61 = .ok (.iload_n 2, 1) := dk_28 (dk_at dksX0_isAhead_2 15 rfl rfl)
theorem dX0_isAhead_62 : decode cX0_isAhead 62 = .ok (.iaload, 1) := dk_46 (dk_at dksX0_isAhead_2 16 rfl rfl)
theorem dX0_isAhead_63 : decode cX0_isAhead 63 = .ok (.if_icmp .ge 7, 3) := dk_162 0 7 (dk_at dksX0_isAhead_2 17 rfl rfl)
theorem dX0_isAhead_66 : decode cX0_isAhead 66 = .ok (.iconst 1, 1) := dk_4 (dk_at dksX0_isAhead_2 20 rfl rfl)
theorem dX0_isAhead_67 : decode cX0_isAhead 67 = .ok (.goto 4, 3) := dk_167 0 4 (dk_at dksX0_isAhead_2 21 rfl rfl)
theorem dX0_isAhead_70 : decode cX0_isAhead 70 = .ok (.iconst 0, 1) := dk_3 (dk_at dksX0_isAhead_3 0 rfl rfl)
theorem dX0_isAhead_71 : decode cX0_isAhead 71 = .ok (.ireturn, 1) := dk_172 (dk_at dksX0_isAhead_3 1 rfl rfl)
theorem dX0_isAhead_72 : decode cX0_isAhead 72 = .ok (.aload_n 0, 1) := dk_42 (dk_at dksX0_isAhead_3 2 rfl rfl)
theorem dX0_isAhead_73 : decode cX0_isAhead 73 = .ok (.getfield 53, 3) := dk_180 0 53 (dk_at dksX0_isAhead_3 3 rfl rfl)
theorem dX0_isAhead_76 : decode cX0_isAhead 76 = .ok (.iload_n 1, 1) := dk_27 (dk_at dksX0_isAhead_3 6 rfl rfl)
theorem dX0_isAhead_77 : decode cX0_isAhead 77 = .ok (.iaload, 1) := dk_46 (dk_at dksX0_isAhead_3 7 rfl rfl)
theorem dX0_isAhead_78 : decode cX0_isAhead 78 = .ok (.aload_n 0, 1) := dk_42 (dk_at dksX0_isAhead_3 8 rfl rfl)
theorem dX0_isAhead_79 : decode cX0_isAhead 79 = .ok (.getfield 53, 3) := dk_180 0 53 (dk_at dksX0_isAhead_3 9 rfl rfl)
theorem dX0_isAhead_82 : decode cX0_isAhead 82 = .ok (.iload_n 2, 1) := dk_28 (dk_at dksX0_isAhead_3 12 rfl rfl)
theorem dX0_isAhead_83 : decode cX0_isAhead 83 = .ok (.iaload, 1) := dk_46 (dk_at dksX0_isAhead_3 13 rfl rfl)
theorem dX0_isAhead_84 : decode cX0_isAhead 84 = .ok (.if_icmp .eq 26, 3) := dk_159 0 26 (dk_at dksX0_isAhead_3 14 rfl rfl)
theorem dX0_isAhead_87 : decode cX0_isAhead 87 = .ok (.aload_n 0, 1) := dk_42 (dk_at dksX0_isAhead_3 17 rfl rfl)
theorem dX0_isAhead_88 : decode cX0_isAhead 88 = .ok (.getfield 53, 3) := dk_180 0 53 (dk_at dksX0_isAhead_3 18 rfl rfl)
theorem dX0_isAhead_91 : decode cX0_isAhead 91 = .ok (.iload_n 1, 1) := dk_27 (dk_at dksX0_isAhead_3 21 rfl rfl)
theorem dX0_isAhead_92 : decode cX0_isAhead 92 = .ok (.iaload, 1) := dk_46 (dk_at dksX0_isAhead_3 22 rfl rfl)
theorem dX0_isAhead_93 : decode cX0_isAhead 93 = .ok (.aload_n 0, 1) := dk_42 (dk_at dksX0_isAhead_3 23 rfl rfl)
theorem dX0_isAhead_94 : decode cX0_isAhead 94 = .ok (.getfield 53, 3) := dk_180 0 53 (dk_at dksX0_isAhead_4 0 rfl rfl)
theorem dX0_isAhead_97 : decode cX0_isAhead 97 = .ok (.iload_n 2, 1) := dk_28 (dk_at dksX0_isAhead_4 3 rfl rfl)
theorem dX0_isAhead_98 : decode cX0_isAhead 98 = .ok (.iaload, 1) := dk_46 (dk_at dksX0_isAhead_4 4 rfl rfl)
theorem dX0_isAhead_99 : decode cX0_isAhead 99 = .ok (.if_icmp .ge 7, 3) := dk_162 0 7 (dk_at dksX0_isAhead_4 5 rfl rfl)
theorem dX0_isAhead_102 : decode cX0_isAhead 102 = .ok (.iconst 1, 1) := dk_4 (dk_at dksX0_isAhead_4 8 rfl rfl)
theorem dX0_isAhead_103 : decode cX0_isAhead 103 = .ok (.goto 27, 3) := dk_167 0 27 (dk_at dksX0_isAhead_4 9 rfl rfl)
theorem dX0_isAhead_106 : decode cX0_isAhead 106 = .ok (.iconst 0, 1) := dk_3 (dk_at dksX0_isAhead_4 12 rfl rfl)
theorem dX0_isAhead_107 : decode cX0_isAhead 107 = .ok (.goto 23, 3) := dk_167 0 23 (dk_at dksX0_isAhead_4 13 rfl rfl)
theorem dX0_isAhead_110 : decode cX0_isAhead 110 = .ok (.aload_n 0, 1) := dk_42 (dk_at dksX0_isAhead_4 16 rfl rfl)
theorem dX0_isAhead_111 : decode cX0_isAhead 111 = .ok (.getfield 56, 3) := dk_180 0 56 (dk_at dksX0_isAhead_4 17 rfl rfl)
theorem dX0_isAhead_114 : decode cX0_isAhead 114 = .ok (.iload_n 1, 1) := dk_27 (dk_at dksX0_isAhead_4 20 rfl rfl)
theorem dX0_isAhead_115 : decode cX0_isAhead 115 = .ok (.iaload, 1) := dk_46 (dk_at dksX0_isAhead_4 21 rfl rfl)
theorem dX0_isAhead_116 : decode cX0_isAhead 116 = .ok (.aload_n 0, 1) := dk_42 (dk_at dksX0_isAhead_4 22 rfl rfl)
theorem dX0_isAhead_117 : decode cX0_isAhead 117 = .ok (.getfield 56, 3) := dk_180 0 56 (dk_at dksX0_isAhead_5 0 rfl rfl)
theorem dX0_isAhead_120 : decode cX0_isAhead 120 = .ok (.iload_n 2, 1) := dk_28 (dk_at dksX0_isAhead_5 3 rfl rfl)
theorem dX0_isAhead_121 : decode cX0_isAhead 121 = .ok (.iaload, 1) := dk_46 (dk_at dksX0_isAhead_5 4 rfl rfl)
theorem dX0_isAhead_122 : decode cX0_isAhead 122 = .ok (.if_icmp .ge 7, 3) := dk_162 0 7 (dk_at dksX0_isAhead_5 5 rfl rfl)
theorem dX0_isAhead_125 : decode cX0_isAhead 125 = .ok (.iconst 1, 1) := dk_4 (dk_at dksX0_isAhead_5 8 rfl rfl)
theorem dX0_isAhead_126 : decode cX0_isAhead 126 = .ok (.goto 4, 3) := dk_167 0 4 (dk_at dksX0_isAhead_5 9 rfl rfl)
theorem dX0_isAhead_129 : decode cX0_isAhead 129 = .ok (.iconst 0, 1) := dk_3 (dk_at dksX0_isAhead_5 12 rfl rfl)
theorem dX0_isAhead_130 : decode cX0_isAhead 130 = .ok (.ireturn, 1) := dk_172 (dk_at dksX0_isAhead_5 13 rfl rfl)
abbrev cX0_tries : ByteArray := prog_1_method_46_code
def yX0_tries : MethodName := ⟨RX0, "tries", "(LFrameSheets$Frame;IZ)V"⟩
def dkwX0_tries_7 : List UInt8 := [42, 28, 181, 1, 129, 42, 29, 181, 1, 132, 177]
abbrev dktX0_tries_7 : List UInt8 := dkwX0_tries_7 ++ []
def dkwX0_tries_6 : List UInt8 := [160, 0, 34, 21, 8, 42, 180, 1, 126, 162, 0, 25, 42, 21, 7, 181, 1, 123, 42, 21, 8, 181, 1, 126]
abbrev dktX0_tries_6 : List UInt8 := dkwX0_tries_6 ++ dktX0_tries_7
def dkwX0_tries_5 : List UInt8 := [46, 185, 1, 119, 4, 0, 54, 8, 21, 7, 42, 180, 1, 123, 161, 0, 21, 21, 7, 42, 180, 1, 123]
abbrev dktX0_tries_5 : List UInt8 := dkwX0_tries_5 ++ dktX0_tries_6
def dkwX0_tries_4 : List UInt8 := [182, 1, 80, 96, 185, 1, 113, 5, 0, 54, 7, 42, 180, 0, 40, 21, 4, 21, 5, 42, 180, 0, 47, 28]
abbrev dktX0_tries_4 : List UInt8 := dkwX0_tries_4 ++ dktX0_tries_5
def dkwX0_tries_3 : List UInt8 := [42, 180, 0, 40, 21, 4, 21, 5, 21, 6, 42, 180, 0, 50, 28, 46, 43, 42, 180, 0, 254, 29]
abbrev dktX0_tries_3 : List UInt8 := dkwX0_tries_3 ++ dktX0_tries_4
def dkwX0_tries_2 : List UInt8 := [42, 180, 0, 53, 28, 46, 42, 180, 0, 56, 28, 46, 104, 43, 42, 180, 0, 254, 182, 1, 110, 100, 54, 6]
abbrev dktX0_tries_2 : List UInt8 := dkwX0_tries_2 ++ dktX0_tries_3
def dkwX0_tries_1 : List UInt8 := [182, 1, 73, 100, 54, 4, 42, 180, 0, 56, 28, 46, 43, 42, 180, 0, 254, 29, 182, 1, 80, 100, 54, 5]
abbrev dktX0_tries_1 : List UInt8 := dkwX0_tries_1 ++ dktX0_tries_2
def dkwX0_tries_0 : List UInt8 := [42, 43, 28, 29, 182, 1, 106, 154, 0, 4, 177, 42, 180, 0, 53, 28, 46, 43, 42, 180, 0, 254, 29]
abbrev dktX0_tries_0 : List UInt8 := dkwX0_tries_0 ++ dktX0_tries_1
theorem dksX0_tries_0 : cX0_tries.data.toList.drop 0 = dktX0_tries_0 := by decide +kernel
theorem dksX0_tries_1 : cX0_tries.data.toList.drop 23 = dktX0_tries_1 := dk_seg dksX0_tries_0 23 rfl rfl
theorem dksX0_tries_2 : cX0_tries.data.toList.drop 47 = dktX0_tries_2 := dk_seg dksX0_tries_1 24 rfl rfl
theorem dksX0_tries_3 : cX0_tries.data.toList.drop 71 = dktX0_tries_3 := dk_seg dksX0_tries_2 24 rfl rfl
theorem dksX0_tries_4 : cX0_tries.data.toList.drop 93 = dktX0_tries_4 := dk_seg dksX0_tries_3 22 rfl rfl
theorem dksX0_tries_5 : cX0_tries.data.toList.drop 117 = dktX0_tries_5 := dk_seg dksX0_tries_4 24 rfl rfl
theorem dksX0_tries_6 : cX0_tries.data.toList.drop 140 = dktX0_tries_6 := dk_seg dksX0_tries_5 23 rfl rfl
theorem dksX0_tries_7 : cX0_tries.data.toList.drop 164 = dktX0_tries_7 := dk_seg dksX0_tries_6 24 rfl rfl
theorem dX0_tries_0 : decode cX0_tries 0 = .ok (.aload_n 0, 1) := dk_42 (dk_at dksX0_tries_0 0 rfl rfl)
theorem dX0_tries_1 : decode cX0_tries 1 = .ok (.aload_n 1, 1) := dk_43 (dk_at dksX0_tries_0 1 rfl rfl)
theorem dX0_tries_2 : decode cX0_tries 2 = .ok (.iload_n 2, 1) := dk_28 (dk_at dksX0_tries_0 2 rfl rfl)
theorem dX0_tries_3 : decode cX0_tries 3 = .ok (.iload_n 3, 1) := dk_29 (dk_at dksX0_tries_0 3 rfl rfl)
theorem dX0_tries_4 : decode cX0_tries 4 = .ok (.invokevirtual 362, 3) := dk_182 1 106 (dk_at dksX0_tries_0 4 rfl rfl)
theorem dX0_tries_7 : decode cX0_tries 7 = .ok (.ifCond .ne 4, 3) := dk_154 0 4 (dk_at dksX0_tries_0 7 rfl rfl)
theorem dX0_tries_10 : decode cX0_tries 10 = .ok (.return_, 1) := dk_177 (dk_at dksX0_tries_0 10 rfl rfl)
theorem dX0_tries_11 : decode cX0_tries 11 = .ok (.aload_n 0, 1) := dk_42 (dk_at dksX0_tries_0 11 rfl rfl)
theorem dX0_tries_12 : decode cX0_tries 12 = .ok (.getfield 53, 3) := dk_180 0 53 (dk_at dksX0_tries_0 12 rfl rfl)
theorem dX0_tries_15 : decode cX0_tries 15 = .ok (.iload_n 2, 1) := dk_28 (dk_at dksX0_tries_0 15 rfl rfl)
theorem dX0_tries_16 : decode cX0_tries 16 = .ok (.iaload, 1) := dk_46 (dk_at dksX0_tries_0 16 rfl rfl)
theorem dX0_tries_17 : decode cX0_tries 17 = .ok (.aload_n 1, 1) := dk_43 (dk_at dksX0_tries_0 17 rfl rfl)
theorem dX0_tries_18 : decode cX0_tries 18 = .ok (.aload_n 0, 1) := dk_42 (dk_at dksX0_tries_0 18 rfl rfl)
theorem dX0_tries_19 : decode cX0_tries 19 = .ok (.getfield 254, 3) := dk_180 0 254 (dk_at dksX0_tries_0 19 rfl rfl)
theorem dX0_tries_22 : decode cX0_tries 22 = .ok (.iload_n 3, 1) := dk_29 (dk_at dksX0_tries_0 22 rfl rfl)
theorem dX0_tries_23 : decode cX0_tries 23 = .ok (.invokevirtual 329, 3) := dk_182 1 73 (dk_at dksX0_tries_1 0 rfl rfl)
theorem dX0_tries_26 : decode cX0_tries 26 = .ok (.isub, 1) := dk_100 (dk_at dksX0_tries_1 3 rfl rfl)
theorem dX0_tries_27 : decode cX0_tries 27 = .ok (.istore 4, 2) := dk_54 4 (dk_at dksX0_tries_1 4 rfl rfl)
theorem dX0_tries_29 : decode cX0_tries 29 = .ok (.aload_n 0, 1) := dk_42 (dk_at dksX0_tries_1 6 rfl rfl)
theorem dX0_tries_30 : decode cX0_tries 30 = .ok (.getfield 56, 3) := dk_180 0 56 (dk_at dksX0_tries_1 7 rfl rfl)
theorem dX0_tries_33 : decode cX0_tries 33 = .ok (.iload_n 2, 1) := dk_28 (dk_at dksX0_tries_1 10 rfl rfl)
theorem dX0_tries_34 : decode cX0_tries 34 = .ok (.iaload, 1) := dk_46 (dk_at dksX0_tries_1 11 rfl rfl)
theorem dX0_tries_35 : decode cX0_tries 35 = .ok (.aload_n 1, 1) := dk_43 (dk_at dksX0_tries_1 12 rfl rfl)
theorem dX0_tries_36 : decode cX0_tries 36 = .ok (.aload_n 0, 1) := dk_42 (dk_at dksX0_tries_1 13 rfl rfl)
theorem dX0_tries_37 : decode cX0_tries 37 = .ok (.getfield 254, 3) := dk_180 0 254 (dk_at dksX0_tries_1 14 rfl rfl)
theorem dX0_tries_40 : decode cX0_tries 40 = .ok (.iload_n 3, 1) := dk_29 (dk_at dksX0_tries_1 17 rfl rfl)
theorem dX0_tries_41 : decode cX0_tries 41 = .ok (.invokevirtual 336, 3) := dk_182 1 80 (dk_at dksX0_tries_1 18 rfl rfl)
theorem dX0_tries_44 : decode cX0_tries 44 = .ok (.isub, 1) := dk_100 (dk_at dksX0_tries_1 21 rfl rfl)
theorem dX0_tries_45 : decode cX0_tries 45 = .ok (.istore 5, 2) := dk_54 5 (dk_at dksX0_tries_1 22 rfl rfl)
theorem dX0_tries_47 : decode cX0_tries 47 = .ok (.aload_n 0, 1) := dk_42 (dk_at dksX0_tries_2 0 rfl rfl)
theorem dX0_tries_48 : decode cX0_tries 48 = .ok (.getfield 53, 3) := dk_180 0 53 (dk_at dksX0_tries_2 1 rfl rfl)
theorem dX0_tries_51 : decode cX0_tries 51 = .ok (.iload_n 2, 1) := dk_28 (dk_at dksX0_tries_2 4 rfl rfl)
theorem dX0_tries_52 : decode cX0_tries 52 = .ok (.iaload, 1) := dk_46 (dk_at dksX0_tries_2 5 rfl rfl)
theorem dX0_tries_53 : decode cX0_tries 53 = .ok (.aload_n 0, 1) := dk_42 (dk_at dksX0_tries_2 6 rfl rfl)
theorem dX0_tries_54 : decode cX0_tries 54 = .ok (.getfield 56, 3) := dk_180 0 56 (dk_at dksX0_tries_2 7 rfl rfl)
theorem dX0_tries_57 : decode cX0_tries 57 = .ok (.iload_n 2, 1) := dk_28 (dk_at dksX0_tries_2 10 rfl rfl)
theorem dX0_tries_58 : decode cX0_tries 58 = .ok (.iaload, 1) := dk_46 (dk_at dksX0_tries_2 11 rfl rfl)
theorem dX0_tries_59 : decode cX0_tries 59 = .ok (.imul, 1) := dk_104 (dk_at dksX0_tries_2 12 rfl rfl)
theorem dX0_tries_60 : decode cX0_tries 60 = .ok (.aload_n 1, 1) := dk_43 (dk_at dksX0_tries_2 13 rfl rfl)
theorem dX0_tries_61 : decode cX0_tries 61 = .ok (.aload_n 0, 1) := dk_42 (dk_at dksX0_tries_2 14 rfl rfl)
theorem dX0_tries_62 : decode cX0_tries 62 = .ok (.getfield 254, 3) := dk_180 0 254 (dk_at dksX0_tries_2 15 rfl rfl)
theorem dX0_tries_65 : decode cX0_tries 65 = .ok (.invokevirtual 366, 3) := dk_182 1 110 (dk_at dksX0_tries_2 18 rfl rfl)
theorem dX0_tries_68 : decode cX0_tries 68 = .ok (.isub, 1) := dk_100 (dk_at dksX0_tries_2 21 rfl rfl)
theorem dX0_tries_69 : decode cX0_tries 69 = .ok (.istore 6, 2) := dk_54 6 (dk_at dksX0_tries_2 22 rfl rfl)
theorem dX0_tries_71 : decode cX0_tries 71 = .ok (.aload_n 0, 1) := dk_42 (dk_at dksX0_tries_3 0 rfl rfl)
theorem dX0_tries_72 : decode cX0_tries 72 = .ok (.getfield 40, 3) := dk_180 0 40 (dk_at dksX0_tries_3 1 rfl rfl)
theorem dX0_tries_75 : decode cX0_tries 75 = .ok (.iload 4, 2) := dk_21 4 (dk_at dksX0_tries_3 4 rfl rfl)
theorem dX0_tries_77 : decode cX0_tries 77 = .ok (.iload 5, 2) := dk_21 5 (dk_at dksX0_tries_3 6 rfl rfl)
theorem dX0_tries_79 : decode cX0_tries 79 = .ok (.iload 6, 2) := dk_21 6 (dk_at dksX0_tries_3 8 rfl rfl)
theorem dX0_tries_81 : decode cX0_tries 81 = .ok (.aload_n 0, 1) := dk_42 (dk_at dksX0_tries_3 10 rfl rfl)
theorem dX0_tries_82 : decode cX0_tries 82 = .ok (.getfield 50, 3) := dk_180 0 50 (dk_at dksX0_tries_3 11 rfl rfl)
theorem dX0_tries_85 : decode cX0_tries 85 = .ok (.iload_n 2, 1) := dk_28 (dk_at dksX0_tries_3 14 rfl rfl)
theorem dX0_tries_86 : decode cX0_tries 86 = .ok (.iaload, 1) := dk_46 (dk_at dksX0_tries_3 15 rfl rfl)
theorem dX0_tries_87 : decode cX0_tries 87 = .ok (.aload_n 1, 1) := dk_43 (dk_at dksX0_tries_3 16 rfl rfl)
theorem dX0_tries_88 : decode cX0_tries 88 = .ok (.aload_n 0, 1) := dk_42 (dk_at dksX0_tries_3 17 rfl rfl)
theorem dX0_tries_89 : decode cX0_tries 89 = .ok (.getfield 254, 3) := dk_180 0 254 (dk_at dksX0_tries_3 18 rfl rfl)
theorem dX0_tries_92 : decode cX0_tries 92 = .ok (.iload_n 3, 1) := dk_29 (dk_at dksX0_tries_3 21 rfl rfl)
theorem dX0_tries_93 : decode cX0_tries 93 = .ok (.invokevirtual 336, 3) := dk_182 1 80 (dk_at dksX0_tries_4 0 rfl rfl)
theorem dX0_tries_96 : decode cX0_tries 96 = .ok (.iadd, 1) := dk_96 (dk_at dksX0_tries_4 3 rfl rfl)
theorem dX0_tries_97 : decode cX0_tries 97 = .ok (.invokeinterface 369 5, 5) := by decide +kernel
theorem dX0_tries_102 : decode cX0_tries 102 = .ok (.istore 7, 2) := dk_54 7 (dk_at dksX0_tries_4 9 rfl rfl)
theorem dX0_tries_104 : decode cX0_tries 104 = .ok (.aload_n 0, 1) := dk_42 (dk_at dksX0_tries_4 11 rfl rfl)
theorem dX0_tries_105 : decode cX0_tries 105 = .ok (.getfield 40, 3) := dk_180 0 40 (dk_at dksX0_tries_4 12 rfl rfl)
theorem dX0_tries_108 : decode cX0_tries 108 = .ok (.iload 4, 2) := dk_21 4 (dk_at dksX0_tries_4 15 rfl rfl)
theorem dX0_tries_110 : decode cX0_tries 110 = .ok (.iload 5, 2) := dk_21 5 (dk_at dksX0_tries_4 17 rfl rfl)
theorem dX0_tries_112 : decode cX0_tries 112 = .ok (.aload_n 0, 1) := dk_42 (dk_at dksX0_tries_4 19 rfl rfl)
theorem dX0_tries_113 : decode cX0_tries 113 = .ok (.getfield 47, 3) := dk_180 0 47 (dk_at dksX0_tries_4 20 rfl rfl)
theorem dX0_tries_116 : decode cX0_tries 116 = .ok (.iload_n 2, 1) := dk_28 (dk_at dksX0_tries_4 23 rfl rfl)
theorem dX0_tries_117 : decode cX0_tries 117 = .ok (.iaload, 1) := dk_46 (dk_at dksX0_tries_5 0 rfl rfl)
theorem dX0_tries_118 : decode cX0_tries 118 = .ok (.invokeinterface 375 4, 5) := by decide +kernel
theorem dX0_tries_123 : decode cX0_tries 123 = .ok (.istore 8, 2) := dk_54 8 (dk_at dksX0_tries_5 6 rfl rfl)
theorem dX0_tries_125 : decode cX0_tries 125 = .ok (.iload 7, 2) := dk_21 7 (dk_at dksX0_tries_5 8 rfl rfl)
theorem dX0_tries_127 : decode cX0_tries 127 = .ok (.aload_n 0, 1) := dk_42 (dk_at dksX0_tries_5 10 rfl rfl)
theorem dX0_tries_128 : decode cX0_tries 128 = .ok (.getfield 379, 3) := dk_180 1 123 (dk_at dksX0_tries_5 11 rfl rfl)
theorem dX0_tries_131 : decode cX0_tries 131 = .ok (.if_icmp .lt 21, 3) := dk_161 0 21 (dk_at dksX0_tries_5 14 rfl rfl)
theorem dX0_tries_134 : decode cX0_tries 134 = .ok (.iload 7, 2) := dk_21 7 (dk_at dksX0_tries_5 17 rfl rfl)
theorem dX0_tries_136 : decode cX0_tries 136 = .ok (.aload_n 0, 1) := dk_42 (dk_at dksX0_tries_5 19 rfl rfl)
theorem dX0_tries_137 : decode cX0_tries 137 = .ok (.getfield 379, 3) := dk_180 1 123 (dk_at dksX0_tries_5 20 rfl rfl)
theorem dX0_tries_140 : decode cX0_tries 140 = .ok (.if_icmp .ne 34, 3) := dk_160 0 34 (dk_at dksX0_tries_6 0 rfl rfl)
theorem dX0_tries_143 : decode cX0_tries 143 = .ok (.iload 8, 2) := dk_21 8 (dk_at dksX0_tries_6 3 rfl rfl)
theorem dX0_tries_145 : decode cX0_tries 145 = .ok (.aload_n 0, 1) := dk_42 (dk_at dksX0_tries_6 5 rfl rfl)
theorem dX0_tries_146 : decode cX0_tries 146 = .ok (.getfield 382, 3) := dk_180 1 126 (dk_at dksX0_tries_6 6 rfl rfl)
theorem dX0_tries_149 : decode cX0_tries 149 = .ok (.if_icmp .ge 25, 3) := dk_162 0 25 (dk_at dksX0_tries_6 9 rfl rfl)
theorem dX0_tries_152 : decode cX0_tries 152 = .ok (.aload_n 0, 1) := dk_42 (dk_at dksX0_tries_6 12 rfl rfl)
theorem dX0_tries_153 : decode cX0_tries 153 = .ok (.iload 7, 2) := dk_21 7 (dk_at dksX0_tries_6 13 rfl rfl)
theorem dX0_tries_155 : decode cX0_tries 155 = .ok (.putfield 379, 3) := dk_181 1 123 (dk_at dksX0_tries_6 15 rfl rfl)
theorem dX0_tries_158 : decode cX0_tries 158 = .ok (.aload_n 0, 1) := dk_42 (dk_at dksX0_tries_6 18 rfl rfl)
theorem dX0_tries_159 : decode cX0_tries 159 = .ok (.iload 8, 2) := dk_21 8 (dk_at dksX0_tries_6 19 rfl rfl)
theorem dX0_tries_161 : decode cX0_tries 161 = .ok (.putfield 382, 3) := dk_181 1 126 (dk_at dksX0_tries_6 21 rfl rfl)
theorem dX0_tries_164 : decode cX0_tries 164 = .ok (.aload_n 0, 1) := dk_42 (dk_at dksX0_tries_7 0 rfl rfl)
theorem dX0_tries_165 : decode cX0_tries 165 = .ok (.iload_n 2, 1) := dk_28 (dk_at dksX0_tries_7 1 rfl rfl)
theorem dX0_tries_166 : decode cX0_tries 166 = .ok (.putfield 385, 3) := dk_181 1 129 (dk_at dksX0_tries_7 2 rfl rfl)
theorem dX0_tries_169 : decode cX0_tries 169 = .ok (.aload_n 0, 1) := dk_42 (dk_at dksX0_tries_7 5 rfl rfl)
theorem dX0_tries_170 : decode cX0_tries 170 = .ok (.iload_n 3, 1) := dk_29 (dk_at dksX0_tries_7 6 rfl rfl)
theorem dX0_tries_171 : decode cX0_tries 171 = .ok (.putfield 388, 3) := dk_181 1 132 (dk_at dksX0_tries_7 7 rfl rfl)
theorem dX0_tries_174 : decode cX0_tries 174 = .ok (.return_, 1) := dk_177 (dk_at dksX0_tries_7 10 rfl rfl)
abbrev cX0_hasRoom : ByteArray := prog_1_method_45_code
def yX0_hasRoom : MethodName := ⟨RX0, "hasRoom", "(LFrameSheets$Frame;IZ)Z"⟩
def dkwX0_hasRoom_2 : List UInt8 := [167, 0, 4, 3, 172]
abbrev dktX0_hasRoom_2 : List UInt8 := dkwX0_hasRoom_2 ++ []
def dkwX0_hasRoom_1 : List UInt8 := [182, 1, 80, 42, 180, 0, 56, 28, 46, 163, 0, 18, 29, 153, 0, 10, 43, 182, 1, 103, 153, 0, 7, 4]
abbrev dktX0_hasRoom_1 : List UInt8 := dkwX0_hasRoom_1 ++ dktX0_hasRoom_2
def dkwX0_hasRoom_0 : List UInt8 := [43, 42, 180, 0, 254, 29, 182, 1, 73, 42, 180, 0, 53, 28, 46, 163, 0, 36, 43, 42, 180, 0, 254, 29]
abbrev dktX0_hasRoom_0 : List UInt8 := dkwX0_hasRoom_0 ++ dktX0_hasRoom_1
theorem dksX0_hasRoom_0 : cX0_hasRoom.data.toList.drop 0 = dktX0_hasRoom_0 := by decide +kernel
theorem dksX0_hasRoom_1 : cX0_hasRoom.data.toList.drop 24 = dktX0_hasRoom_1 := dk_seg dksX0_hasRoom_0 24 rfl rfl
theorem dksX0_hasRoom_2 : cX0_hasRoom.data.toList.drop 48 = dktX0_hasRoom_2 := dk_seg dksX0_hasRoom_1 24 rfl rfl
theorem dX0_hasRoom_0 : decode cX0_hasRoom 0 = .ok (.aload_n 1, 1) := dk_43 (dk_at dksX0_hasRoom_0 0 rfl rfl)
theorem dX0_hasRoom_1 : decode cX0_hasRoom 1 = .ok (.aload_n 0, 1) := dk_42 (dk_at dksX0_hasRoom_0 1 rfl rfl)
theorem dX0_hasRoom_2 : decode cX0_hasRoom 2 = .ok (.getfield 254, 3) := dk_180 0 254 (dk_at dksX0_hasRoom_0 2 rfl rfl)
theorem dX0_hasRoom_5 : decode cX0_hasRoom 5 = .ok (.iload_n 3, 1) := dk_29 (dk_at dksX0_hasRoom_0 5 rfl rfl)
theorem dX0_hasRoom_6 : decode cX0_hasRoom 6 = .ok (.invokevirtual 329, 3) := dk_182 1 73 (dk_at dksX0_hasRoom_0 6 rfl rfl)
theorem dX0_hasRoom_9 : decode cX0_hasRoom 9 = .ok (.aload_n 0, 1) := dk_42 (dk_at dksX0_hasRoom_0 9 rfl rfl)
theorem dX0_hasRoom_10 : decode cX0_hasRoom 10 = .ok (.getfield 53, 3) := dk_180 0 53 (dk_at dksX0_hasRoom_0 10 rfl rfl)
theorem dX0_hasRoom_13 : decode cX0_hasRoom 13 = .ok (.iload_n 2, 1) := dk_28 (dk_at dksX0_hasRoom_0 13 rfl rfl)
theorem dX0_hasRoom_14 : decode cX0_hasRoom 14 = .ok (.iaload, 1) := dk_46 (dk_at dksX0_hasRoom_0 14 rfl rfl)
theorem dX0_hasRoom_15 : decode cX0_hasRoom 15 = .ok (.if_icmp .gt 36, 3) := dk_163 0 36 (dk_at dksX0_hasRoom_0 15 rfl rfl)
theorem dX0_hasRoom_18 : decode cX0_hasRoom 18 = .ok (.aload_n 1, 1) := dk_43 (dk_at dksX0_hasRoom_0 18 rfl rfl)
theorem dX0_hasRoom_19 : decode cX0_hasRoom 19 = .ok (.aload_n 0, 1) := dk_42 (dk_at dksX0_hasRoom_0 19 rfl rfl)
theorem dX0_hasRoom_20 : decode cX0_hasRoom 20 = .ok (.getfield 254, 3) := dk_180 0 254 (dk_at dksX0_hasRoom_0 20 rfl rfl)
theorem dX0_hasRoom_23 : decode cX0_hasRoom 23 = .ok (.iload_n 3, 1) := dk_29 (dk_at dksX0_hasRoom_0 23 rfl rfl)
theorem dX0_hasRoom_24 : decode cX0_hasRoom 24 = .ok (.invokevirtual 336, 3) := dk_182 1 80 (dk_at dksX0_hasRoom_1 0 rfl rfl)
theorem dX0_hasRoom_27 : decode cX0_hasRoom 27 = .ok (.aload_n 0, 1) := dk_42 (dk_at dksX0_hasRoom_1 3 rfl rfl)
theorem dX0_hasRoom_28 : decode cX0_hasRoom 28 = .ok (.getfield 56, 3) := dk_180 0 56 (dk_at dksX0_hasRoom_1 4 rfl rfl)
theorem dX0_hasRoom_31 : decode cX0_hasRoom 31 = .ok (.iload_n 2, 1) := dk_28 (dk_at dksX0_hasRoom_1 7 rfl rfl)
theorem dX0_hasRoom_32 : decode cX0_hasRoom 32 = .ok (.iaload, 1) := dk_46 (dk_at dksX0_hasRoom_1 8 rfl rfl)
theorem dX0_hasRoom_33 : decode cX0_hasRoom 33 = .ok (.if_icmp .gt 18, 3) := dk_163 0 18 (dk_at dksX0_hasRoom_1 9 rfl rfl)
theorem dX0_hasRoom_36 : decode cX0_hasRoom 36 = .ok (.iload_n 3, 1) := dk_29 (dk_at dksX0_hasRoom_1 12 rfl rfl)
theorem dX0_hasRoom_37 : decode cX0_hasRoom 37 = .ok (.ifCond .eq 10, 3) := dk_153 0 10 (dk_at dksX0_hasRoom_1 13 rfl rfl)
theorem dX0_hasRoom_40 : decode cX0_hasRoom 40 = .ok (.aload_n 1, 1) := dk_43 (dk_at dksX0_hasRoom_1 16 rfl rfl)
theorem dX0_hasRoom_41 : decode cX0_hasRoom 41 = .ok (.invokevirtual 359, 3) := dk_182 1 103 (dk_at dksX0_hasRoom_1 17 rfl rfl)
theorem dX0_hasRoom_44 : decode cX0_hasRoom 44 = .ok (.ifCond .eq 7, 3) := dk_153 0 7 (dk_at dksX0_hasRoom_1 20 rfl rfl)
theorem dX0_hasRoom_47 : decode cX0_hasRoom 47 = .ok (.iconst 1, 1) := dk_4 (dk_at dksX0_hasRoom_1 23 rfl rfl)
theorem dX0_hasRoom_48 : decode cX0_hasRoom 48 = .ok (.goto 4, 3) := dk_167 0 4 (dk_at dksX0_hasRoom_2 0 rfl rfl)
theorem dX0_hasRoom_51 : decode cX0_hasRoom 51 = .ok (.iconst 0, 1) := dk_3 (dk_at dksX0_hasRoom_2 3 rfl rfl)
theorem dX0_hasRoom_52 : decode cX0_hasRoom 52 = .ok (.ireturn, 1) := dk_172 (dk_at dksX0_hasRoom_2 4 rfl rfl)
abbrev cX0_note : ByteArray := prog_1_method_51_code
def yX0_note : MethodName := ⟨RX0, "note", "()V"⟩
def dkwX0_note_1 : List UInt8 := [181, 0, 75, 177]
abbrev dktX0_note_1 : List UInt8 := dkwX0_note_1 ++ []
def dkwX0_note_0 : List UInt8 := [42, 42, 180, 0, 63, 16, 33, 42, 180, 0, 75, 104, 182, 1, 153, 42, 89, 180, 0, 75, 4, 96]
abbrev dktX0_note_0 : List UInt8 := dkwX0_note_0 ++ dktX0_note_1
theorem dksX0_note_0 : cX0_note.data.toList.drop 0 = dktX0_note_0 := by decide +kernel
theorem dksX0_note_1 : cX0_note.data.toList.drop 22 = dktX0_note_1 := dk_seg dksX0_note_0 22 rfl rfl
theorem dX0_note_0 : decode cX0_note 0 = .ok (.aload_n 0, 1) := dk_42 (dk_at dksX0_note_0 0 rfl rfl)
theorem dX0_note_1 : decode cX0_note 1 = .ok (.aload_n 0, 1) := dk_42 (dk_at dksX0_note_0 1 rfl rfl)
theorem dX0_note_2 : decode cX0_note 2 = .ok (.getfield 63, 3) := dk_180 0 63 (dk_at dksX0_note_0 2 rfl rfl)
theorem dX0_note_5 : decode cX0_note 5 = .ok (.bipush 33, 2) := dk_16 33 (dk_at dksX0_note_0 5 rfl rfl)
theorem dX0_note_7 : decode cX0_note 7 = .ok (.aload_n 0, 1) := dk_42 (dk_at dksX0_note_0 7 rfl rfl)
theorem dX0_note_8 : decode cX0_note 8 = .ok (.getfield 75, 3) := dk_180 0 75 (dk_at dksX0_note_0 8 rfl rfl)
theorem dX0_note_11 : decode cX0_note 11 = .ok (.imul, 1) := dk_104 (dk_at dksX0_note_0 11 rfl rfl)
theorem dX0_note_12 : decode cX0_note 12 = .ok (.invokevirtual 409, 3) := dk_182 1 153 (dk_at dksX0_note_0 12 rfl rfl)
theorem dX0_note_15 : decode cX0_note 15 = .ok (.aload_n 0, 1) := dk_42 (dk_at dksX0_note_0 15 rfl rfl)
theorem dX0_note_16 : decode cX0_note 16 = .ok (.dup, 1) := dk_89 (dk_at dksX0_note_0 16 rfl rfl)
theorem dX0_note_17 : decode cX0_note 17 = .ok (.getfield 75, 3) := dk_180 0 75 (dk_at dksX0_note_0 17 rfl rfl)
theorem dX0_note_20 : decode cX0_note 20 = .ok (.iconst 1, 1) := dk_4 (dk_at dksX0_note_0 20 rfl rfl)
theorem dX0_note_21 : decode cX0_note 21 = .ok (.iadd, 1) := dk_96 (dk_at dksX0_note_0 21 rfl rfl)
theorem dX0_note_22 : decode cX0_note 22 = .ok (.putfield 75, 3) := dk_181 0 75 (dk_at dksX0_note_1 0 rfl rfl)
theorem dX0_note_25 : decode cX0_note 25 = .ok (.return_, 1) := dk_177 (dk_at dksX0_note_1 3 rfl rfl)
abbrev cX0_write_2 : ByteArray := prog_1_method_49_code
def yX0_write_2 : MethodName := ⟨RX0, "write", "([II)V"⟩
def dkwX0_write_2_3 : List UInt8 := [167, 255, 212, 132, 3, 1, 167, 255, 197, 177]
abbrev dktX0_write_2_3 : List UInt8 := dkwX0_write_2_3 ++ []
def dkwX0_write_2_2 : List UInt8 := [162, 0, 17, 42, 180, 0, 33, 29, 50, 21, 4, 182, 1, 42, 167, 0, 4, 3, 79, 132, 4, 1]
abbrev dktX0_write_2_2 : List UInt8 := dkwX0_write_2_2 ++ dktX0_write_2_3
def dkwX0_write_2_1 : List UInt8 := [21, 4, 7, 162, 0, 44, 43, 28, 4, 96, 7, 29, 104, 96, 21, 4, 96, 29, 42, 180, 0, 245]
abbrev dktX0_write_2_1 : List UInt8 := dkwX0_write_2_1 ++ dktX0_write_2_2
def dkwX0_write_2_0 : List UInt8 := [43, 28, 42, 180, 0, 40, 185, 1, 150, 1, 0, 79, 3, 62, 29, 16, 8, 162, 0, 59, 3, 54, 4]
abbrev dktX0_write_2_0 : List UInt8 := dkwX0_write_2_0 ++ dktX0_write_2_1
theorem dksX0_write_2_0 : cX0_write_2.data.toList.drop 0 = dktX0_write_2_0 := by decide +kernel
theorem dksX0_write_2_1 : cX0_write_2.data.toList.drop 23 = dktX0_write_2_1 := dk_seg dksX0_write_2_0 23 rfl rfl
theorem dksX0_write_2_2 : cX0_write_2.data.toList.drop 45 = dktX0_write_2_2 := dk_seg dksX0_write_2_1 22 rfl rfl
theorem dksX0_write_2_3 : cX0_write_2.data.toList.drop 67 = dktX0_write_2_3 := dk_seg dksX0_write_2_2 22 rfl rfl
theorem dX0_write_2_0 : decode cX0_write_2 0 = .ok (.aload_n 1, 1) := dk_43 (dk_at dksX0_write_2_0 0 rfl rfl)
theorem dX0_write_2_1 : decode cX0_write_2 1 = .ok (.iload_n 2, 1) := dk_28 (dk_at dksX0_write_2_0 1 rfl rfl)
theorem dX0_write_2_2 : decode cX0_write_2 2 = .ok (.aload_n 0, 1) := dk_42 (dk_at dksX0_write_2_0 2 rfl rfl)
theorem dX0_write_2_3 : decode cX0_write_2 3 = .ok (.getfield 40, 3) := dk_180 0 40 (dk_at dksX0_write_2_0 3 rfl rfl)
theorem dX0_write_2_6 : decode cX0_write_2 6 = .ok (.invokeinterface 406 1, 5) := by decide +kernel
theorem dX0_write_2_11 : decode cX0_write_2 11 = .ok (.iastore, 1) := dk_79 (dk_at dksX0_write_2_0 11 rfl rfl)
theorem dX0_write_2_12 : decode cX0_write_2 12 = .ok (.iconst 0, 1) := dk_3 (dk_at dksX0_write_2_0 12 rfl rfl)
theorem dX0_write_2_13 : decode cX0_write_2 13 = .ok (.istore_n 3, 1) := dk_62 (dk_at dksX0_write_2_0 13 rfl rfl)
theorem dX0_write_2_14 : decode cX0_write_2 14 = .ok (.iload_n 3, 1) := dk_29 (dk_at dksX0_write_2_0 14 rfl rfl)
theorem dX0_write_2_15 : decode cX0_write_2 15 = .ok (.bipush 8, 2) := dk_16 8 (dk_at dksX0_write_2_0 15 rfl rfl)
theorem dX0_write_2_17 : decode cX0_write_2 17 = .ok (.if_icmp .ge 59, 3) := dk_162 0 59 (dk_at dksX0_write_2_0 17 rfl rfl)
theorem dX0_write_2_20 : decode cX0_write_2 20 = .ok (.iconst 0, 1) := dk_3 (dk_at dksX0_write_2_0 20 rfl rfl)
theorem dX0_write_2_21 : decode cX0_write_2 21 = .ok (.istore 4, 2) := dk_54 4 (dk_at dksX0_write_2_0 21 rfl rfl)
theorem dX0_write_2_23 : decode cX0_write_2 23 = .ok (.iload 4, 2) := dk_21 4 (dk_at dksX0_write_2_1 0 rfl rfl)
theorem dX0_write_2_25 : decode cX0_write_2 25 = .ok (.iconst 4, 1) := dk_7 (dk_at dksX0_write_2_1 2 rfl rfl)
theorem dX0_write_2_26 : decode cX0_write_2 26 = .ok (.if_icmp .ge 44, 3) := dk_162 0 44 (dk_at dksX0_write_2_1 3 rfl rfl)
theorem dX0_write_2_29 : decode cX0_write_2 29 = .ok (.aload_n 1, 1) := dk_43 (dk_at dksX0_write_2_1 6 rfl rfl)
theorem dX0_write_2_30 : decode cX0_write_2 30 = .ok (.iload_n 2, 1) := dk_28 (dk_at dksX0_write_2_1 7 rfl rfl)
theorem dX0_write_2_31 : decode cX0_write_2 31 = .ok (.iconst 1, 1) := dk_4 (dk_at dksX0_write_2_1 8 rfl rfl)
theorem dX0_write_2_32 : decode cX0_write_2 32 = .ok (.iadd, 1) := dk_96 (dk_at dksX0_write_2_1 9 rfl rfl)
theorem dX0_write_2_33 : decode cX0_write_2 33 = .ok (.iconst 4, 1) := dk_7 (dk_at dksX0_write_2_1 10 rfl rfl)
theorem dX0_write_2_34 : decode cX0_write_2 34 = .ok (.iload_n 3, 1) := dk_29 (dk_at dksX0_write_2_1 11 rfl rfl)
theorem dX0_write_2_35 : decode cX0_write_2 35 = .ok (.imul, 1) := dk_104 (dk_at dksX0_write_2_1 12 rfl rfl)
theorem dX0_write_2_36 : decode cX0_write_2 36 = .ok (.iadd, 1) := dk_96 (dk_at dksX0_write_2_1 13 rfl rfl)
theorem dX0_write_2_37 : decode cX0_write_2 37 = .ok (.iload 4, 2) := dk_21 4 (dk_at dksX0_write_2_1 14 rfl rfl)
theorem dX0_write_2_39 : decode cX0_write_2 39 = .ok (.iadd, 1) := dk_96 (dk_at dksX0_write_2_1 16 rfl rfl)
theorem dX0_write_2_40 : decode cX0_write_2 40 = .ok (.iload_n 3, 1) := dk_29 (dk_at dksX0_write_2_1 17 rfl rfl)
theorem dX0_write_2_41 : decode cX0_write_2 41 = .ok (.aload_n 0, 1) := dk_42 (dk_at dksX0_write_2_1 18 rfl rfl)
theorem dX0_write_2_42 : decode cX0_write_2 42 = .ok (.getfield 245, 3) := dk_180 0 245 (dk_at dksX0_write_2_1 19 rfl rfl)
theorem dX0_write_2_45 : decode cX0_write_2 45 = .ok (.if_icmp .ge 17, 3) := dk_162 0 17 (dk_at dksX0_write_2_2 0 rfl rfl)
theorem dX0_write_2_48 : decode cX0_write_2 48 = .ok (.aload_n 0, 1) := dk_42 (dk_at dksX0_write_2_2 3 rfl rfl)
theorem dX0_write_2_49 : decode cX0_write_2 49 = .ok (.getfield 33, 3) := dk_180 0 33 (dk_at dksX0_write_2_2 4 rfl rfl)
theorem dX0_write_2_52 : decode cX0_write_2 52 = .ok (.iload_n 3, 1) := dk_29 (dk_at dksX0_write_2_2 7 rfl rfl)
theorem dX0_write_2_53 : decode cX0_write_2 53 = .ok (.aaload, 1) := dk_50 (dk_at dksX0_write_2_2 8 rfl rfl)
theorem dX0_write_2_54 : decode cX0_write_2 54 = .ok (.iload 4, 2) := dk_21 4 (dk_at dksX0_write_2_2 9 rfl rfl)
theorem dX0_write_2_56 : decode cX0_write_2 56 = .ok (.invokevirtual 298, 3) := dk_182 1 42 (dk_at dksX0_write_2_2 11 rfl rfl)
theorem dX0_write_2_59 : decode cX0_write_2 59 = .ok (.goto 4, 3) := dk_167 0 4 (dk_at dksX0_write_2_2 14 rfl rfl)
theorem dX0_write_2_62 : decode cX0_write_2 62 = .ok (.iconst 0, 1) := dk_3 (dk_at dksX0_write_2_2 17 rfl rfl)
theorem dX0_write_2_63 : decode cX0_write_2 63 = .ok (.iastore, 1) := dk_79 (dk_at dksX0_write_2_2 18 rfl rfl)
theorem dX0_write_2_64 : decode cX0_write_2 64 = .ok (.iinc 4 1, 3) := dk_132 4 1 (dk_at dksX0_write_2_2 19 rfl rfl)
theorem dX0_write_2_67 : decode cX0_write_2 67 = .ok (.goto (-44), 3) := dk_167 255 212 (dk_at dksX0_write_2_3 0 rfl rfl)
theorem dX0_write_2_70 : decode cX0_write_2 70 = .ok (.iinc 3 1, 3) := dk_132 3 1 (dk_at dksX0_write_2_3 3 rfl rfl)
theorem dX0_write_2_73 : decode cX0_write_2 73 = .ok (.goto (-59), 3) := dk_167 255 197 (dk_at dksX0_write_2_3 6 rfl rfl)
theorem dX0_write_2_76 : decode cX0_write_2 76 = .ok (.return_, 1) := dk_177 (dk_at dksX0_write_2_3 9 rfl rfl)
abbrev cX0_lift : ByteArray := prog_1_method_54_code
def yX0_lift : MethodName := ⟨RX0, "lift", "(I)I"⟩
def dkwX0_lift_2 : List UInt8 := [172]
abbrev dktX0_lift_2 : List UInt8 := dkwX0_lift_2 ++ []
def dkwX0_lift_1 : List UInt8 := [180, 0, 75, 16, 40, 160, 0, 6, 16, 254, 172, 42, 182, 1, 161, 42, 27, 182, 1, 164, 42, 182, 1, 143]
abbrev dktX0_lift_1 : List UInt8 := dkwX0_lift_1 ++ dktX0_lift_2
def dkwX0_lift_0 : List UInt8 := [42, 27, 182, 1, 33, 154, 0, 5, 2, 172, 42, 27, 182, 1, 39, 154, 0, 6, 16, 252, 172, 42]
abbrev dktX0_lift_0 : List UInt8 := dkwX0_lift_0 ++ dktX0_lift_1
theorem dksX0_lift_0 : cX0_lift.data.toList.drop 0 = dktX0_lift_0 := by decide +kernel
theorem dksX0_lift_1 : cX0_lift.data.toList.drop 22 = dktX0_lift_1 := dk_seg dksX0_lift_0 22 rfl rfl
theorem dksX0_lift_2 : cX0_lift.data.toList.drop 46 = dktX0_lift_2 := dk_seg dksX0_lift_1 24 rfl rfl
theorem dX0_lift_0 : decode cX0_lift 0 = .ok (.aload_n 0, 1) := dk_42 (dk_at dksX0_lift_0 0 rfl rfl)
theorem dX0_lift_1 : decode cX0_lift 1 = .ok (.iload_n 1, 1) := dk_27 (dk_at dksX0_lift_0 1 rfl rfl)
theorem dX0_lift_2 : decode cX0_lift 2 = .ok (.invokevirtual 289, 3) := dk_182 1 33 (dk_at dksX0_lift_0 2 rfl rfl)
theorem dX0_lift_5 : decode cX0_lift 5 = .ok (.ifCond .ne 5, 3) := dk_154 0 5 (dk_at dksX0_lift_0 5 rfl rfl)
theorem dX0_lift_8 : decode cX0_lift 8 = .ok (.iconst (-1), 1) := dk_2 (dk_at dksX0_lift_0 8 rfl rfl)
theorem dX0_lift_9 : decode cX0_lift 9 = .ok (.ireturn, 1) := dk_172 (dk_at dksX0_lift_0 9 rfl rfl)
theorem dX0_lift_10 : decode cX0_lift 10 = .ok (.aload_n 0, 1) := dk_42 (dk_at dksX0_lift_0 10 rfl rfl)
theorem dX0_lift_11 : decode cX0_lift 11 = .ok (.iload_n 1, 1) := dk_27 (dk_at dksX0_lift_0 11 rfl rfl)
theorem dX0_lift_12 : decode cX0_lift 12 = .ok (.invokevirtual 295, 3) := dk_182 1 39 (dk_at dksX0_lift_0 12 rfl rfl)
theorem dX0_lift_15 : decode cX0_lift 15 = .ok (.ifCond .ne 6, 3) := dk_154 0 6 (dk_at dksX0_lift_0 15 rfl rfl)
theorem dX0_lift_18 : decode cX0_lift 18 = .ok (.bipush (-4), 2) := dk_16 252 (dk_at dksX0_lift_0 18 rfl rfl)
theorem dX0_lift_20 : decode cX0_lift 20 = .ok (.ireturn, 1) := dk_172 (dk_at dksX0_lift_0 20 rfl rfl)
theorem dX0_lift_21 : decode cX0_lift 21 = .ok (.aload_n 0, 1) := dk_42 (dk_at dksX0_lift_0 21 rfl rfl)
theorem dX0_lift_22 : decode cX0_lift 22 = .ok (.getfield 75, 3) := dk_180 0 75 (dk_at dksX0_lift_1 0 rfl rfl)
theorem dX0_lift_25 : decode cX0_lift 25 = .ok (.bipush 40, 2) := dk_16 40 (dk_at dksX0_lift_1 3 rfl rfl)
theorem dX0_lift_27 : decode cX0_lift 27 = .ok (.if_icmp .ne 6, 3) := dk_160 0 6 (dk_at dksX0_lift_1 5 rfl rfl)
theorem dX0_lift_30 : decode cX0_lift 30 = .ok (.bipush (-2), 2) := dk_16 254 (dk_at dksX0_lift_1 8 rfl rfl)
theorem dX0_lift_32 : decode cX0_lift 32 = .ok (.ireturn, 1) := dk_172 (dk_at dksX0_lift_1 10 rfl rfl)
theorem dX0_lift_33 : decode cX0_lift 33 = .ok (.aload_n 0, 1) := dk_42 (dk_at dksX0_lift_1 11 rfl rfl)
theorem dX0_lift_34 : decode cX0_lift 34 = .ok (.invokevirtual 417, 3) := dk_182 1 161 (dk_at dksX0_lift_1 12 rfl rfl)
theorem dX0_lift_37 : decode cX0_lift 37 = .ok (.aload_n 0, 1) := dk_42 (dk_at dksX0_lift_1 15 rfl rfl)
theorem dX0_lift_38 : decode cX0_lift 38 = .ok (.iload_n 1, 1) := dk_27 (dk_at dksX0_lift_1 16 rfl rfl)
theorem dX0_lift_39 : decode cX0_lift 39 = .ok (.invokevirtual 420, 3) := dk_182 1 164 (dk_at dksX0_lift_1 17 rfl rfl)
theorem dX0_lift_42 : decode cX0_lift 42 = .ok (.aload_n 0, 1) := dk_42 (dk_at dksX0_lift_1 20 rfl rfl)
theorem dX0_lift_43 : decode cX0_lift 43 = .ok (.invokevirtual 399, 3) := dk_182 1 143 (dk_at dksX0_lift_1 21 rfl rfl)
theorem dX0_lift_46 : decode cX0_lift 46 = .ok (.ireturn, 1) := dk_172 (dk_at dksX0_lift_2 0 rfl rfl)
abbrev cX0_lifts : ByteArray := prog_1_method_53_code
def yX0_lifts : MethodName := ⟨RX0, "lifts", "(I)V"⟩
def dkwX0_lifts_0 : List UInt8 := [42, 180, 0, 33, 27, 50, 16, 247, 181, 1, 31, 177]
abbrev dktX0_lifts_0 : List UInt8 := dkwX0_lifts_0 ++ []
theorem dksX0_lifts_0 : cX0_lifts.data.toList.drop 0 = dktX0_lifts_0 := by decide +kernel
theorem dX0_lifts_0 : decode cX0_lifts 0 = .ok (.aload_n 0, 1) := dk_42 (dk_at dksX0_lifts_0 0 rfl rfl)
theorem dX0_lifts_1 : decode cX0_lifts 1 = .ok (.getfield 33, 3) := dk_180 0 33 (dk_at dksX0_lifts_0 1 rfl rfl)
theorem dX0_lifts_4 : decode cX0_lifts 4 = .ok (.iload_n 1, 1) := dk_27 (dk_at dksX0_lifts_0 4 rfl rfl)
theorem dX0_lifts_5 : decode cX0_lifts 5 = .ok (.aaload, 1) := dk_50 (dk_at dksX0_lifts_0 5 rfl rfl)
theorem dX0_lifts_6 : decode cX0_lifts 6 = .ok (.bipush (-9), 2) := dk_16 247 (dk_at dksX0_lifts_0 6 rfl rfl)
theorem dX0_lifts_8 : decode cX0_lifts 8 = .ok (.putfield 287, 3) := dk_181 1 31 (dk_at dksX0_lifts_0 8 rfl rfl)
theorem dX0_lifts_11 : decode cX0_lifts 11 = .ok (.return_, 1) := dk_177 (dk_at dksX0_lifts_0 11 rfl rfl)
abbrev cX0_all : ByteArray := prog_1_method_57_code
def yX0_all : MethodName := ⟨RX0, "all", "(I)I"⟩
def dkwX0_all_1 : List UInt8 := [160, 0, 6, 16, 254, 172, 42, 182, 1, 161, 42, 27, 182, 1, 173, 87, 42, 182, 1, 143, 172]
abbrev dktX0_all_1 : List UInt8 := dkwX0_all_1 ++ []
def dkwX0_all_0 : List UInt8 := [27, 3, 5, 184, 0, 78, 153, 0, 10, 42, 180, 0, 245, 154, 0, 5, 2, 172, 42, 180, 0, 75, 16, 40]
abbrev dktX0_all_0 : List UInt8 := dkwX0_all_0 ++ dktX0_all_1
theorem dksX0_all_0 : cX0_all.data.toList.drop 0 = dktX0_all_0 := by decide +kernel
theorem dksX0_all_1 : cX0_all.data.toList.drop 24 = dktX0_all_1 := dk_seg dksX0_all_0 24 rfl rfl
theorem dX0_all_0 : decode cX0_all 0 = .ok (.iload_n 1, 1) := dk_27 (dk_at dksX0_all_0 0 rfl rfl)
theorem dX0_all_1 : decode cX0_all 1 = .ok (.iconst 0, 1) := dk_3 (dk_at dksX0_all_0 1 rfl rfl)
theorem dX0_all_2 : decode cX0_all 2 = .ok (.iconst 2, 1) := dk_5 (dk_at dksX0_all_0 2 rfl rfl)
theorem dX0_all_3 : decode cX0_all 3 = .ok (.invokestatic 78, 3) := dk_184 0 78 (dk_at dksX0_all_0 3 rfl rfl)
theorem dX0_all_6 : decode cX0_all 6 = .ok (.ifCond .eq 10, 3) := dk_153 0 10 (dk_at dksX0_all_0 6 rfl rfl)
theorem dX0_all_9 : decode cX0_all 9 = .ok (.aload_n 0, 1) := dk_42 (dk_at dksX0_all_0 9 rfl rfl)
theorem dX0_all_10 : decode cX0_all 10 = .ok (.getfield 245, 3) := dk_180 0 245 (dk_at dksX0_all_0 10 rfl rfl)
theorem dX0_all_13 : decode cX0_all 13 = .ok (.ifCond .ne 5, 3) := dk_154 0 5 (dk_at dksX0_all_0 13 rfl rfl)
theorem dX0_all_16 : decode cX0_all 16 = .ok (.iconst (-1), 1) := dk_2 (dk_at dksX0_all_0 16 rfl rfl)
theorem dX0_all_17 : decode cX0_all 17 = .ok (.ireturn, 1) := dk_172 (dk_at dksX0_all_0 17 rfl rfl)
theorem dX0_all_18 : decode cX0_all 18 = .ok (.aload_n 0, 1) := dk_42 (dk_at dksX0_all_0 18 rfl rfl)
theorem dX0_all_19 : decode cX0_all 19 = .ok (.getfield 75, 3) := dk_180 0 75 (dk_at dksX0_all_0 19 rfl rfl)
theorem dX0_all_22 : decode cX0_all 22 = .ok (.bipush 40, 2) := dk_16 40 (dk_at dksX0_all_0 22 rfl rfl)
theorem dX0_all_24 : decode cX0_all 24 = .ok (.if_icmp .ne 6, 3) := dk_160 0 6 (dk_at dksX0_all_1 0 rfl rfl)
theorem dX0_all_27 : decode cX0_all 27 = .ok (.bipush (-2), 2) := dk_16 254 (dk_at dksX0_all_1 3 rfl rfl)
theorem dX0_all_29 : decode cX0_all 29 = .ok (.ireturn, 1) := dk_172 (dk_at dksX0_all_1 5 rfl rfl)
theorem dX0_all_30 : decode cX0_all 30 = .ok (.aload_n 0, 1) := dk_42 (dk_at dksX0_all_1 6 rfl rfl)
theorem dX0_all_31 : decode cX0_all 31 = .ok (.invokevirtual 417, 3) := dk_182 1 161 (dk_at dksX0_all_1 7 rfl rfl)
theorem dX0_all_34 : decode cX0_all 34 = .ok (.aload_n 0, 1) := dk_42 (dk_at dksX0_all_1 10 rfl rfl)
theorem dX0_all_35 : decode cX0_all 35 = .ok (.iload_n 1, 1) := dk_27 (dk_at dksX0_all_1 11 rfl rfl)
theorem dX0_all_36 : decode cX0_all 36 = .ok (.invokevirtual 429, 3) := dk_182 1 173 (dk_at dksX0_all_1 12 rfl rfl)
theorem dX0_all_39 : decode cX0_all 39 = .ok (.pop, 1) := dk_87 (dk_at dksX0_all_1 15 rfl rfl)
theorem dX0_all_40 : decode cX0_all 40 = .ok (.aload_n 0, 1) := dk_42 (dk_at dksX0_all_1 16 rfl rfl)
theorem dX0_all_41 : decode cX0_all 41 = .ok (.invokevirtual 399, 3) := dk_182 1 143 (dk_at dksX0_all_1 17 rfl rfl)
theorem dX0_all_44 : decode cX0_all 44 = .ok (.ireturn, 1) := dk_172 (dk_at dksX0_all_1 20 rfl rfl)
abbrev cX0_setsAll : ByteArray := prog_1_method_56_code
def yX0_setsAll : MethodName := ⟨RX0, "setsAll", "(I)I"⟩
def dkwX0_setsAll_6 : List UInt8 := [21, 4, 120, 2, 130, 126, 61, 167, 255, 140, 29, 172]
abbrev dktX0_setsAll_6 : List UInt8 := dkwX0_setsAll_6 ++ []
def dkwX0_setsAll_5 : List UInt8 := [180, 0, 33, 21, 4, 50, 182, 1, 157, 153, 0, 7, 3, 167, 0, 7, 4, 21, 4, 120, 128, 62, 28, 4]
abbrev dktX0_setsAll_5 : List UInt8 := dkwX0_setsAll_5 ++ dktX0_setsAll_6
def dkwX0_setsAll_4 : List UInt8 := [182, 1, 170, 161, 0, 8, 21, 5, 167, 0, 5, 21, 4, 54, 4, 132, 5, 255, 167, 255, 193, 29, 42, 42]
abbrev dktX0_setsAll_4 : List UInt8 := dkwX0_setsAll_4 ++ dktX0_setsAll_5
def dkwX0_setsAll_3 : List UInt8 := [21, 6, 153, 0, 32, 21, 4, 16, 247, 159, 0, 20, 42, 21, 5, 27, 182, 1, 170, 42, 21, 4, 27]
abbrev dktX0_setsAll_3 : List UInt8 := dkwX0_setsAll_3 ++ dktX0_setsAll_4
def dkwX0_setsAll_2 : List UInt8 := [54, 5, 21, 5, 155, 0, 64, 28, 21, 5, 122, 4, 126, 4, 160, 0, 7, 4, 167, 0, 4, 3, 54, 6]
abbrev dktX0_setsAll_2 : List UInt8 := dkwX0_setsAll_2 ++ dktX0_setsAll_3
def dkwX0_setsAll_1 : List UInt8 := [180, 0, 245, 120, 4, 100, 61, 3, 62, 28, 153, 0, 118, 16, 247, 54, 4, 42, 180, 0, 245, 4, 100]
abbrev dktX0_setsAll_1 : List UInt8 := dkwX0_setsAll_1 ++ dktX0_setsAll_2
def dkwX0_setsAll_0 : List UInt8 := [3, 61, 28, 42, 180, 0, 245, 162, 0, 14, 42, 28, 182, 1, 164, 132, 2, 1, 167, 255, 240, 4, 42]
abbrev dktX0_setsAll_0 : List UInt8 := dkwX0_setsAll_0 ++ dktX0_setsAll_1
theorem dksX0_setsAll_0 : cX0_setsAll.data.toList.drop 0 = dktX0_setsAll_0 := by decide +kernel
theorem dksX0_setsAll_1 : cX0_setsAll.data.toList.drop 23 = dktX0_setsAll_1 := dk_seg dksX0_setsAll_0 23 rfl rfl
theorem dksX0_setsAll_2 : cX0_setsAll.data.toList.drop 46 = dktX0_setsAll_2 := dk_seg dksX0_setsAll_1 23 rfl rfl
theorem dksX0_setsAll_3 : cX0_setsAll.data.toList.drop 70 = dktX0_setsAll_3 := dk_seg dksX0_setsAll_2 24 rfl rfl
theorem dksX0_setsAll_4 : cX0_setsAll.data.toList.drop 93 = dktX0_setsAll_4 := dk_seg dksX0_setsAll_3 23 rfl rfl
theorem dksX0_setsAll_5 : cX0_setsAll.data.toList.drop 117 = dktX0_setsAll_5 := dk_seg dksX0_setsAll_4 24 rfl rfl
theorem dksX0_setsAll_6 : cX0_setsAll.data.toList.drop 141 = dktX0_setsAll_6 := dk_seg dksX0_setsAll_5 24 rfl rfl
theorem dX0_setsAll_0 : decode cX0_setsAll 0 = .ok (.iconst 0, 1) := dk_3 (dk_at dksX0_setsAll_0 0 rfl rfl)
theorem dX0_setsAll_1 : decode cX0_setsAll 1 = .ok (.istore_n 2, 1) := dk_61 (dk_at dksX0_setsAll_0 1 rfl rfl)
theorem dX0_setsAll_2 : decode cX0_setsAll 2 = .ok (.iload_n 2, 1) := dk_28 (dk_at dksX0_setsAll_0 2 rfl rfl)
theorem dX0_setsAll_3 : decode cX0_setsAll 3 = .ok (.aload_n 0, 1) := dk_42 (dk_at dksX0_setsAll_0 3 rfl rfl)
theorem dX0_setsAll_4 : decode cX0_setsAll 4 = .ok (.getfield 245, 3) := dk_180 0 245 (dk_at dksX0_setsAll_0 4 rfl rfl)
theorem dX0_setsAll_7 : decode cX0_setsAll 7 = .ok (.if_icmp .ge 14, 3) := dk_162 0 14 (dk_at dksX0_setsAll_0 7 rfl rfl)
theorem dX0_setsAll_10 : decode cX0_setsAll 10 = .ok (.aload_n 0, 1) := dk_42 (dk_at dksX0_setsAll_0 10 rfl rfl)
theorem dX0_setsAll_11 : decode cX0_setsAll 11 = .ok (.iload_n 2, 1) := dk_28 (dk_at dksX0_setsAll_0 11 rfl rfl)
theorem dX0_setsAll_12 : decode cX0_setsAll 12 = .ok (.invokevirtual 420, 3) := dk_182 1 164 (dk_at dksX0_setsAll_0 12 rfl rfl)
theorem dX0_setsAll_15 : decode cX0_setsAll 15 = .ok (.iinc 2 1, 3) := dk_132 2 1 (dk_at dksX0_setsAll_0 15 rfl rfl)
theorem dX0_setsAll_18 : decode cX0_setsAll 18 = .ok (.goto (-16), 3) := dk_167 255 240 (dk_at dksX0_setsAll_0 18 rfl rfl)
theorem dX0_setsAll_21 : decode cX0_setsAll 21 = .ok (.iconst 1, 1) := dk_4 (dk_at dksX0_setsAll_0 21 rfl rfl)
theorem dX0_setsAll_22 : decode cX0_setsAll 22 = .ok (.aload_n 0, 1) := dk_42 (dk_at dksX0_setsAll_0 22 rfl rfl)
theorem dX0_setsAll_23 : decode cX0_setsAll 23 = .ok (.getfield 245, 3) := dk_180 0 245 (dk_at dksX0_setsAll_1 0 rfl rfl)
theorem dX0_setsAll_26 : decode cX0_setsAll 26 = .ok (.ishl, 1) := dk_120 (dk_at dksX0_setsAll_1 3 rfl rfl)
theorem dX0_setsAll_27 : decode cX0_setsAll 27 = .ok (.iconst 1, 1) := dk_4 (dk_at dksX0_setsAll_1 4 rfl rfl)
theorem dX0_setsAll_28 : decode cX0_setsAll 28 = .ok (.isub, 1) := dk_100 (dk_at dksX0_setsAll_1 5 rfl rfl)
theorem dX0_setsAll_29 : decode cX0_setsAll 29 = .ok (.istore_n 2, 1) := dk_61 (dk_at dksX0_setsAll_1 6 rfl rfl)
theorem dX0_setsAll_30 : decode cX0_setsAll 30 = .ok (.iconst 0, 1) := dk_3 (dk_at dksX0_setsAll_1 7 rfl rfl)
theorem dX0_setsAll_31 : decode cX0_setsAll 31 = .ok (.istore_n 3, 1) := dk_62 (dk_at dksX0_setsAll_1 8 rfl rfl)
theorem dX0_setsAll_32 : decode cX0_setsAll 32 = .ok (.iload_n 2, 1) := dk_28 (dk_at dksX0_setsAll_1 9 rfl rfl)
theorem dX0_setsAll_33 : decode cX0_setsAll 33 = .ok (.ifCond .eq 118, 3) := dk_153 0 118 (dk_at dksX0_setsAll_1 10 rfl rfl)
theorem dX0_setsAll_36 : decode cX0_setsAll 36 = .ok (.bipush (-9), 2) := dk_16 247 (dk_at dksX0_setsAll_1 13 rfl rfl)
theorem dX0_setsAll_38 : decode cX0_setsAll 38 = .ok (.istore 4, 2) := dk_54 4 (dk_at dksX0_setsAll_1 15 rfl rfl)
theorem dX0_setsAll_40 : decode cX0_setsAll 40 = .ok (.aload_n 0, 1) := dk_42 (dk_at dksX0_setsAll_1 17 rfl rfl)
theorem dX0_setsAll_41 : decode cX0_setsAll 41 = .ok (.getfield 245, 3) := dk_180 0 245 (dk_at dksX0_setsAll_1 18 rfl rfl)
theorem dX0_setsAll_44 : decode cX0_setsAll 44 = .ok (.iconst 1, 1) := dk_4 (dk_at dksX0_setsAll_1 21 rfl rfl)
theorem dX0_setsAll_45 : decode cX0_setsAll 45 = .ok (.isub, 1) := dk_100 (dk_at dksX0_setsAll_1 22 rfl rfl)
theorem dX0_setsAll_46 : decode cX0_setsAll 46 = .ok (.istore 5, 2) := dk_54 5 (dk_at dksX0_setsAll_2 0 rfl rfl)
theorem dX0_setsAll_48 : decode cX0_setsAll 48 = .ok (.iload 5, 2) := dk_21 5 (dk_at dksX0_setsAll_2 2 rfl rfl)
theorem dX0_setsAll_50 : decode cX0_setsAll 50 = .ok (.ifCond .lt 64, 3) := dk_155 0 64 (dk_at dksX0_setsAll_2 4 rfl rfl)
theorem dX0_setsAll_53 : decode cX0_setsAll 53 = .ok (.iload_n 2, 1) := dk_28 (dk_at dksX0_setsAll_2 7 rfl rfl)
theorem dX0_setsAll_54 : decode cX0_setsAll 54 = .ok (.iload 5, 2) := dk_21 5 (dk_at dksX0_setsAll_2 8 rfl rfl)
theorem dX0_setsAll_56 : decode cX0_setsAll 56 = .ok (.ishr, 1) := dk_122 (dk_at dksX0_setsAll_2 10 rfl rfl)
theorem dX0_setsAll_57 : decode cX0_setsAll 57 = .ok (.iconst 1, 1) := dk_4 (dk_at dksX0_setsAll_2 11 rfl rfl)
theorem dX0_setsAll_58 : decode cX0_setsAll 58 = .ok (.iand, 1) := dk_126 (dk_at dksX0_setsAll_2 12 rfl rfl)
theorem dX0_setsAll_59 : decode cX0_setsAll 59 = .ok (.iconst 1, 1) := dk_4 (dk_at dksX0_setsAll_2 13 rfl rfl)
theorem dX0_setsAll_60 : decode cX0_setsAll 60 = .ok (.if_icmp .ne 7, 3) := dk_160 0 7 (dk_at dksX0_setsAll_2 14 rfl rfl)
theorem dX0_setsAll_63 : decode cX0_setsAll 63 = .ok (.iconst 1, 1) := dk_4 (dk_at dksX0_setsAll_2 17 rfl rfl)
theorem dX0_setsAll_64 : decode cX0_setsAll 64 = .ok (.goto 4, 3) := dk_167 0 4 (dk_at dksX0_setsAll_2 18 rfl rfl)
theorem dX0_setsAll_67 : decode cX0_setsAll 67 = .ok (.iconst 0, 1) := dk_3 (dk_at dksX0_setsAll_2 21 rfl rfl)
theorem dX0_setsAll_68 : decode cX0_setsAll 68 = .ok (.istore 6, 2) := dk_54 6 (dk_at dksX0_setsAll_2 22 rfl rfl)
theorem dX0_setsAll_70 : decode cX0_setsAll 70 = .ok (.iload 6, 2) := dk_21 6 (dk_at dksX0_setsAll_3 0 rfl rfl)
theorem dX0_setsAll_72 : decode cX0_setsAll 72 = .ok (.ifCond .eq 32, 3) := dk_153 0 32 (dk_at dksX0_setsAll_3 2 rfl rfl)
theorem dX0_setsAll_75 : decode cX0_setsAll 75 = .ok (.iload 4, 2) := dk_21 4 (dk_at dksX0_setsAll_3 5 rfl rfl)
theorem dX0_setsAll_77 : decode cX0_setsAll 77 = .ok (.bipush (-9), 2) := dk_16 247 (dk_at dksX0_setsAll_3 7 rfl rfl)
theorem dX0_setsAll_79 : decode cX0_setsAll 79 = .ok (.if_icmp .eq 20, 3) := dk_159 0 20 (dk_at dksX0_setsAll_3 9 rfl rfl)
theorem dX0_setsAll_82 : decode cX0_setsAll 82 = .ok (.aload_n 0, 1) := dk_42 (dk_at dksX0_setsAll_3 12 rfl rfl)
theorem dX0_setsAll_83 : decode cX0_setsAll 83 = .ok (.iload 5, 2) := dk_21 5 (dk_at dksX0_setsAll_3 13 rfl rfl)
theorem dX0_setsAll_85 : decode cX0_setsAll 85 = .ok (.iload_n 1, 1) := dk_27 (dk_at dksX0_setsAll_3 15 rfl rfl)
theorem dX0_setsAll_86 : decode cX0_setsAll 86 = .ok (.invokevirtual 426, 3) := dk_182 1 170 (dk_at dksX0_setsAll_3 16 rfl rfl)
theorem dX0_setsAll_89 : decode cX0_setsAll 89 = .ok (.aload_n 0, 1) := dk_42 (dk_at dksX0_setsAll_3 19 rfl rfl)
theorem dX0_setsAll_90 : decode cX0_setsAll 90 = .ok (.iload 4, 2) := dk_21 4 (dk_at dksX0_setsAll_3 20 rfl rfl)
theorem dX0_setsAll_92 : decode cX0_setsAll 92 = .ok (.iload_n 1, 1) := dk_27 (dk_at dksX0_setsAll_3 22 rfl rfl)
theorem dX0_setsAll_93 : decode cX0_setsAll 93 = .ok (.invokevirtual 426, 3) := dk_182 1 170 (dk_at dksX0_setsAll_4 0 rfl rfl)
theorem dX0_setsAll_96 : decode cX0_setsAll 96 = .ok (.if_icmp .lt 8, 3) := dk_161 0 8 (dk_at dksX0_setsAll_4 3 rfl rfl)
theorem dX0_setsAll_99 : decode cX0_setsAll 99 = .ok (.iload 5, 2) := dk_21 5 (dk_at dksX0_setsAll_4 6 rfl rfl)
theorem dX0_setsAll_101 : decode cX0_setsAll 101 = .ok (.goto 5, 3) := dk_167 0 5 (dk_at dksX0_setsAll_4 8 rfl rfl)
theorem dX0_setsAll_104 : decode cX0_setsAll 104 = .ok (.iload 4, 2) := dk_21 4 (dk_at dksX0_setsAll_4 11 rfl rfl)
theorem dX0_setsAll_106 : decode cX0_setsAll 106 = .ok (.istore 4, 2) := dk_54 4 (dk_at dksX0_setsAll_4 13 rfl rfl)
theorem dX0_setsAll_108 : decode cX0_setsAll 108 = .ok (.iinc 5 (-1), 3) := dk_132 5 255 (dk_at dksX0_setsAll_4 15 rfl rfl)
theorem dX0_setsAll_111 : decode cX0_setsAll 111 = .ok (.goto (-63), 3) := dk_167 255 193 (dk_at dksX0_setsAll_4 18 rfl rfl)
theorem dX0_setsAll_114 : decode cX0_setsAll 114 = .ok (.iload_n 3, 1) := dk_29 (dk_at dksX0_setsAll_4 21 rfl rfl)
theorem dX0_setsAll_115 : decode cX0_setsAll 115 = .ok (.aload_n 0, 1) := dk_42 (dk_at dksX0_setsAll_4 22 rfl rfl)
theorem dX0_setsAll_116 : decode cX0_setsAll 116 = .ok (.aload_n 0, 1) := dk_42 (dk_at dksX0_setsAll_4 23 rfl rfl)
theorem dX0_setsAll_117 : decode cX0_setsAll 117 = .ok (.getfield 33, 3) := dk_180 0 33 (dk_at dksX0_setsAll_5 0 rfl rfl)
theorem dX0_setsAll_120 : decode cX0_setsAll 120 = .ok (.iload 4, 2) := dk_21 4 (dk_at dksX0_setsAll_5 3 rfl rfl)
theorem dX0_setsAll_122 : decode cX0_setsAll 122 = .ok (.aaload, 1) := dk_50 (dk_at dksX0_setsAll_5 5 rfl rfl)
theorem dX0_setsAll_123 : decode cX0_setsAll 123 = .ok (.invokevirtual 413, 3) := dk_182 1 157 (dk_at dksX0_setsAll_5 6 rfl rfl)
theorem dX0_setsAll_126 : decode cX0_setsAll 126 = .ok (.ifCond .eq 7, 3) := dk_153 0 7 (dk_at dksX0_setsAll_5 9 rfl rfl)
theorem dX0_setsAll_129 : decode cX0_setsAll 129 = .ok (.iconst 0, 1) := dk_3 (dk_at dksX0_setsAll_5 12 rfl rfl)
theorem dX0_setsAll_130 : decode cX0_setsAll 130 = .ok (.goto 7, 3) := dk_167 0 7 (dk_at dksX0_setsAll_5 13 rfl rfl)
theorem dX0_setsAll_133 : decode cX0_setsAll 133 = .ok (.iconst 1, 1) := dk_4 (dk_at dksX0_setsAll_5 16 rfl rfl)
theorem dX0_setsAll_134 : decode cX0_setsAll 134 = .ok (.iload 4, 2) := dk_21 4 (dk_at dksX0_setsAll_5 17 rfl rfl)
theorem dX0_setsAll_136 : decode cX0_setsAll 136 = .ok (.ishl, 1) := dk_120 (dk_at dksX0_setsAll_5 19 rfl rfl)
theorem dX0_setsAll_137 : decode cX0_setsAll 137 = .ok (.ior, 1) := dk_128 (dk_at dksX0_setsAll_5 20 rfl rfl)
theorem dX0_setsAll_138 : decode cX0_setsAll 138 = .ok (.istore_n 3, 1) := dk_62 (dk_at dksX0_setsAll_5 21 rfl rfl)
theorem dX0_setsAll_139 : decode cX0_setsAll 139 = .ok (.iload_n 2, 1) := dk_28 (dk_at dksX0_setsAll_5 22 rfl rfl)
theorem dX0_setsAll_140 : decode cX0_setsAll 140 = .ok (.iconst 1, 1) := dk_4 (dk_at dksX0_setsAll_5 23 rfl rfl)
theorem dX0_setsAll_141 : decode cX0_setsAll 141 = .ok (.iload 4, 2) := dk_21 4 (dk_at dksX0_setsAll_6 0 rfl rfl)
theorem dX0_setsAll_143 : decode cX0_setsAll 143 = .ok (.ishl, 1) := dk_120 (dk_at dksX0_setsAll_6 2 rfl rfl)
theorem dX0_setsAll_144 : decode cX0_setsAll 144 = .ok (.iconst (-1), 1) := dk_2 (dk_at dksX0_setsAll_6 3 rfl rfl)
theorem dX0_setsAll_145 : decode cX0_setsAll 145 = .ok (.ixor, 1) := dk_130 (dk_at dksX0_setsAll_6 4 rfl rfl)
theorem dX0_setsAll_146 : decode cX0_setsAll 146 = .ok (.iand, 1) := dk_126 (dk_at dksX0_setsAll_6 5 rfl rfl)
theorem dX0_setsAll_147 : decode cX0_setsAll 147 = .ok (.istore_n 2, 1) := dk_61 (dk_at dksX0_setsAll_6 6 rfl rfl)
theorem dX0_setsAll_148 : decode cX0_setsAll 148 = .ok (.goto (-116), 3) := dk_167 255 140 (dk_at dksX0_setsAll_6 7 rfl rfl)
theorem dX0_setsAll_151 : decode cX0_setsAll 151 = .ok (.iload_n 3, 1) := dk_29 (dk_at dksX0_setsAll_6 10 rfl rfl)
theorem dX0_setsAll_152 : decode cX0_setsAll 152 = .ok (.ireturn, 1) := dk_172 (dk_at dksX0_setsAll_6 11 rfl rfl)
abbrev cX0_keyOf : ByteArray := prog_1_method_55_code
def yX0_keyOf : MethodName := ⟨RX0, "keyOf", "(II)I"⟩
def dkwX0_keyOf_2 : List UInt8 := [180, 0, 33, 27, 50, 42, 180, 0, 254, 182, 1, 110, 167, 0, 9, 29, 21, 4, 184, 1, 167, 172]
abbrev dktX0_keyOf_2 : List UInt8 := dkwX0_keyOf_2 ++ []
def dkwX0_keyOf_1 : List UInt8 := [180, 0, 254, 3, 182, 1, 80, 54, 4, 28, 154, 0, 7, 3, 167, 0, 30, 28, 4, 160, 0, 19, 42]
abbrev dktX0_keyOf_1 : List UInt8 := dkwX0_keyOf_1 ++ dktX0_keyOf_2
def dkwX0_keyOf_0 : List UInt8 := [42, 180, 0, 33, 27, 50, 42, 180, 0, 254, 3, 182, 1, 73, 62, 42, 180, 0, 33, 27, 50, 42]
abbrev dktX0_keyOf_0 : List UInt8 := dkwX0_keyOf_0 ++ dktX0_keyOf_1
theorem dksX0_keyOf_0 : cX0_keyOf.data.toList.drop 0 = dktX0_keyOf_0 := by decide +kernel
theorem dksX0_keyOf_1 : cX0_keyOf.data.toList.drop 22 = dktX0_keyOf_1 := dk_seg dksX0_keyOf_0 22 rfl rfl
theorem dksX0_keyOf_2 : cX0_keyOf.data.toList.drop 45 = dktX0_keyOf_2 := dk_seg dksX0_keyOf_1 23 rfl rfl
theorem dX0_keyOf_0 : decode cX0_keyOf 0 = .ok (.aload_n 0, 1) := dk_42 (dk_at dksX0_keyOf_0 0 rfl rfl)
theorem dX0_keyOf_1 : decode cX0_keyOf 1 = .ok (.getfield 33, 3) := dk_180 0 33 (dk_at dksX0_keyOf_0 1 rfl rfl)
theorem dX0_keyOf_4 : decode cX0_keyOf 4 = .ok (.iload_n 1, 1) := dk_27 (dk_at dksX0_keyOf_0 4 rfl rfl)
theorem dX0_keyOf_5 : decode cX0_keyOf 5 = .ok (.aaload, 1) := dk_50 (dk_at dksX0_keyOf_0 5 rfl rfl)
theorem dX0_keyOf_6 : decode cX0_keyOf 6 = .ok (.aload_n 0, 1) := dk_42 (dk_at dksX0_keyOf_0 6 rfl rfl)
theorem dX0_keyOf_7 : decode cX0_keyOf 7 = .ok (.getfield 254, 3) := dk_180 0 254 (dk_at dksX0_keyOf_0 7 rfl rfl)
theorem dX0_keyOf_10 : decode cX0_keyOf 10 = .ok (.iconst 0, 1) := dk_3 (dk_at dksX0_keyOf_0 10 rfl rfl)
theorem dX0_keyOf_11 : decode cX0_keyOf 11 = .ok (.invokevirtual 329, 3) := dk_182 1 73 (dk_at dksX0_keyOf_0 11 rfl rfl)
theorem dX0_keyOf_14 : decode cX0_keyOf 14 = .ok (.istore_n 3, 1) := dk_62 (dk_at dksX0_keyOf_0 14 rfl rfl)
theorem dX0_keyOf_15 : decode cX0_keyOf 15 = .ok (.aload_n 0, 1) := dk_42 (dk_at dksX0_keyOf_0 15 rfl rfl)
theorem dX0_keyOf_16 : decode cX0_keyOf 16 = .ok (.getfield 33, 3) := dk_180 0 33 (dk_at dksX0_keyOf_0 16 rfl rfl)
theorem dX0_keyOf_19 : decode cX0_keyOf 19 = .ok (.iload_n 1, 1) := dk_27 (dk_at dksX0_keyOf_0 19 rfl rfl)
theorem dX0_keyOf_20 : decode cX0_keyOf 20 = .ok (.aaload, 1) := dk_50 (dk_at dksX0_keyOf_0 20 rfl rfl)
theorem dX0_keyOf_21 : decode cX0_keyOf 21 = .ok (.aload_n 0, 1) := dk_42 (dk_at dksX0_keyOf_0 21 rfl rfl)
theorem dX0_keyOf_22 : decode cX0_keyOf 22 = .ok (.getfield 254, 3) := dk_180 0 254 (dk_at dksX0_keyOf_1 0 rfl rfl)
theorem dX0_keyOf_25 : decode cX0_keyOf 25 = .ok (.iconst 0, 1) := dk_3 (dk_at dksX0_keyOf_1 3 rfl rfl)
theorem dX0_keyOf_26 : decode cX0_keyOf 26 = .ok (.invokevirtual 336, 3) := dk_182 1 80 (dk_at dksX0_keyOf_1 4 rfl rfl)
theorem dX0_keyOf_29 : decode cX0_keyOf 29 = .ok (.istore 4, 2) := dk_54 4 (dk_at dksX0_keyOf_1 7 rfl rfl)
theorem dX0_keyOf_31 : decode cX0_keyOf 31 = .ok (.iload_n 2, 1) := dk_28 (dk_at dksX0_keyOf_1 9 rfl rfl)
theorem dX0_keyOf_32 : decode cX0_keyOf 32 = .ok (.ifCond .ne 7, 3) := dk_154 0 7 (dk_at dksX0_keyOf_1 10 rfl rfl)
theorem dX0_keyOf_35 : decode cX0_keyOf 35 = .ok (.iconst 0, 1) := dk_3 (dk_at dksX0_keyOf_1 13 rfl rfl)
theorem dX0_keyOf_36 : decode cX0_keyOf 36 = .ok (.goto 30, 3) := dk_167 0 30 (dk_at dksX0_keyOf_1 14 rfl rfl)
theorem dX0_keyOf_39 : decode cX0_keyOf 39 = .ok (.iload_n 2, 1) := dk_28 (dk_at dksX0_keyOf_1 17 rfl rfl)
theorem dX0_keyOf_40 : decode cX0_keyOf 40 = .ok (.iconst 1, 1) := dk_4 (dk_at dksX0_keyOf_1 18 rfl rfl)
theorem dX0_keyOf_41 : decode cX0_keyOf 41 = .ok (.if_icmp .ne 19, 3) := dk_160 0 19 (dk_at dksX0_keyOf_1 19 rfl rfl)
theorem dX0_keyOf_44 : decode cX0_keyOf 44 = .ok (.aload_n 0, 1) := dk_42 (dk_at dksX0_keyOf_1 22 rfl rfl)
theorem dX0_keyOf_45 : decode cX0_keyOf 45 = .ok (.getfield 33, 3) := dk_180 0 33 (dk_at dksX0_keyOf_2 0 rfl rfl)
theorem dX0_keyOf_48 : decode cX0_keyOf 48 = .ok (.iload_n 1, 1) := dk_27 (dk_at dksX0_keyOf_2 3 rfl rfl)
theorem dX0_keyOf_49 : decode cX0_keyOf 49 = .ok (.aaload, 1) := dk_50 (dk_at dksX0_keyOf_2 4 rfl rfl)
theorem dX0_keyOf_50 : decode cX0_keyOf 50 = .ok (.aload_n 0, 1) := dk_42 (dk_at dksX0_keyOf_2 5 rfl rfl)
theorem dX0_keyOf_51 : decode cX0_keyOf 51 = .ok (.getfield 254, 3) := dk_180 0 254 (dk_at dksX0_keyOf_2 6 rfl rfl)
theorem dX0_keyOf_54 : decode cX0_keyOf 54 = .ok (.invokevirtual 366, 3) := dk_182 1 110 (dk_at dksX0_keyOf_2 9 rfl rfl)
theorem dX0_keyOf_57 : decode cX0_keyOf 57 = .ok (.goto 9, 3) := dk_167 0 9 (dk_at dksX0_keyOf_2 12 rfl rfl)
theorem dX0_keyOf_60 : decode cX0_keyOf 60 = .ok (.iload_n 3, 1) := dk_29 (dk_at dksX0_keyOf_2 15 rfl rfl)
theorem dX0_keyOf_61 : decode cX0_keyOf 61 = .ok (.iload 4, 2) := dk_21 4 (dk_at dksX0_keyOf_2 16 rfl rfl)
theorem dX0_keyOf_63 : decode cX0_keyOf 63 = .ok (.invokestatic 423, 3) := dk_184 1 167 (dk_at dksX0_keyOf_2 18 rfl rfl)
theorem dX0_keyOf_66 : decode cX0_keyOf 66 = .ok (.ireturn, 1) := dk_172 (dk_at dksX0_keyOf_2 21 rfl rfl)
abbrev cX0_rule : ByteArray := prog_1_method_58_code
def yX0_rule : MethodName := ⟨RX0, "rule", "(I)I"⟩
def dkwX0_rule_2 : List UInt8 := [16, 254, 172, 42, 182, 1, 161, 42, 27, 184, 1, 0, 181, 0, 40, 28, 172]
abbrev dktX0_rule_2 : List UInt8 := dkwX0_rule_2 ++ []
def dkwX0_rule_1 : List UInt8 := [180, 0, 245, 153, 0, 8, 28, 27, 160, 0, 6, 16, 252, 172, 42, 180, 0, 75, 16, 40, 160, 0, 6]
abbrev dktX0_rule_1 : List UInt8 := dkwX0_rule_1 ++ dktX0_rule_2
def dkwX0_rule_0 : List UInt8 := [27, 3, 6, 184, 0, 78, 154, 0, 5, 2, 172, 42, 180, 0, 40, 185, 1, 150, 1, 0, 61, 42]
abbrev dktX0_rule_0 : List UInt8 := dkwX0_rule_0 ++ dktX0_rule_1
theorem dksX0_rule_0 : cX0_rule.data.toList.drop 0 = dktX0_rule_0 := by decide +kernel
theorem dksX0_rule_1 : cX0_rule.data.toList.drop 22 = dktX0_rule_1 := dk_seg dksX0_rule_0 22 rfl rfl
theorem dksX0_rule_2 : cX0_rule.data.toList.drop 45 = dktX0_rule_2 := dk_seg dksX0_rule_1 23 rfl rfl
theorem dX0_rule_0 : decode cX0_rule 0 = .ok (.iload_n 1, 1) := dk_27 (dk_at dksX0_rule_0 0 rfl rfl)
theorem dX0_rule_1 : decode cX0_rule 1 = .ok (.iconst 0, 1) := dk_3 (dk_at dksX0_rule_0 1 rfl rfl)
theorem dX0_rule_2 : decode cX0_rule 2 = .ok (.iconst 3, 1) := dk_6 (dk_at dksX0_rule_0 2 rfl rfl)
theorem dX0_rule_3 : decode cX0_rule 3 = .ok (.invokestatic 78, 3) := dk_184 0 78 (dk_at dksX0_rule_0 3 rfl rfl)
theorem dX0_rule_6 : decode cX0_rule 6 = .ok (.ifCond .ne 5, 3) := dk_154 0 5 (dk_at dksX0_rule_0 6 rfl rfl)
theorem dX0_rule_9 : decode cX0_rule 9 = .ok (.iconst (-1), 1) := dk_2 (dk_at dksX0_rule_0 9 rfl rfl)
theorem dX0_rule_10 : decode cX0_rule 10 = .ok (.ireturn, 1) := dk_172 (dk_at dksX0_rule_0 10 rfl rfl)
theorem dX0_rule_11 : decode cX0_rule 11 = .ok (.aload_n 0, 1) := dk_42 (dk_at dksX0_rule_0 11 rfl rfl)
theorem dX0_rule_12 : decode cX0_rule 12 = .ok (.getfield 40, 3) := dk_180 0 40 (dk_at dksX0_rule_0 12 rfl rfl)
theorem dX0_rule_15 : decode cX0_rule 15 = .ok (.invokeinterface 406 1, 5) := by decide +kernel
theorem dX0_rule_20 : decode cX0_rule 20 = .ok (.istore_n 2, 1) := dk_61 (dk_at dksX0_rule_0 20 rfl rfl)
theorem dX0_rule_21 : decode cX0_rule 21 = .ok (.aload_n 0, 1) := dk_42 (dk_at dksX0_rule_0 21 rfl rfl)
theorem dX0_rule_22 : decode cX0_rule 22 = .ok (.getfield 245, 3) := dk_180 0 245 (dk_at dksX0_rule_1 0 rfl rfl)
theorem dX0_rule_25 : decode cX0_rule 25 = .ok (.ifCond .eq 8, 3) := dk_153 0 8 (dk_at dksX0_rule_1 3 rfl rfl)
theorem dX0_rule_28 : decode cX0_rule 28 = .ok (.iload_n 2, 1) := dk_28 (dk_at dksX0_rule_1 6 rfl rfl)
theorem dX0_rule_29 : decode cX0_rule 29 = .ok (.iload_n 1, 1) := dk_27 (dk_at dksX0_rule_1 7 rfl rfl)
theorem dX0_rule_30 : decode cX0_rule 30 = .ok (.if_icmp .ne 6, 3) := dk_160 0 6 (dk_at dksX0_rule_1 8 rfl rfl)
theorem dX0_rule_33 : decode cX0_rule 33 = .ok (.bipush (-4), 2) := dk_16 252 (dk_at dksX0_rule_1 11 rfl rfl)
theorem dX0_rule_35 : decode cX0_rule 35 = .ok (.ireturn, 1) := dk_172 (dk_at dksX0_rule_1 13 rfl rfl)
theorem dX0_rule_36 : decode cX0_rule 36 = .ok (.aload_n 0, 1) := dk_42 (dk_at dksX0_rule_1 14 rfl rfl)
theorem dX0_rule_37 : decode cX0_rule 37 = .ok (.getfield 75, 3) := dk_180 0 75 (dk_at dksX0_rule_1 15 rfl rfl)
theorem dX0_rule_40 : decode cX0_rule 40 = .ok (.bipush 40, 2) := dk_16 40 (dk_at dksX0_rule_1 18 rfl rfl)
theorem dX0_rule_42 : decode cX0_rule 42 = .ok (.if_icmp .ne 6, 3) := dk_160 0 6 (dk_at dksX0_rule_1 20 rfl rfl)
theorem dX0_rule_45 : decode cX0_rule 45 = .ok (.bipush (-2), 2) := dk_16 254 (dk_at dksX0_rule_2 0 rfl rfl)
theorem dX0_rule_47 : decode cX0_rule 47 = .ok (.ireturn, 1) := dk_172 (dk_at dksX0_rule_2 2 rfl rfl)
theorem dX0_rule_48 : decode cX0_rule 48 = .ok (.aload_n 0, 1) := dk_42 (dk_at dksX0_rule_2 3 rfl rfl)
theorem dX0_rule_49 : decode cX0_rule 49 = .ok (.invokevirtual 417, 3) := dk_182 1 161 (dk_at dksX0_rule_2 4 rfl rfl)
theorem dX0_rule_52 : decode cX0_rule 52 = .ok (.aload_n 0, 1) := dk_42 (dk_at dksX0_rule_2 7 rfl rfl)
theorem dX0_rule_53 : decode cX0_rule 53 = .ok (.iload_n 1, 1) := dk_27 (dk_at dksX0_rule_2 8 rfl rfl)
theorem dX0_rule_54 : decode cX0_rule 54 = .ok (.invokestatic 256, 3) := dk_184 1 0 (dk_at dksX0_rule_2 9 rfl rfl)
theorem dX0_rule_57 : decode cX0_rule 57 = .ok (.putfield 40, 3) := dk_181 0 40 (dk_at dksX0_rule_2 12 rfl rfl)
theorem dX0_rule_60 : decode cX0_rule 60 = .ok (.iload_n 2, 1) := dk_28 (dk_at dksX0_rule_2 15 rfl rfl)
theorem dX0_rule_61 : decode cX0_rule 61 = .ok (.ireturn, 1) := dk_172 (dk_at dksX0_rule_2 16 rfl rfl)
abbrev cX0_undo : ByteArray := prog_1_method_59_code
def yX0_undo : MethodName := ⟨RX0, "undo", "(I)I"⟩
def dkwX0_undo_1 : List UInt8 := [158, 0, 20, 42, 42, 180, 0, 63, 16, 33, 27, 104, 182, 1, 176, 42, 27, 181, 0, 75, 28, 172]
abbrev dktX0_undo_1 : List UInt8 := dkwX0_undo_1 ++ []
def dkwX0_undo_0 : List UInt8 := [27, 3, 42, 180, 0, 75, 184, 0, 78, 154, 0, 5, 2, 172, 42, 180, 0, 75, 27, 100, 61, 28]
abbrev dktX0_undo_0 : List UInt8 := dkwX0_undo_0 ++ dktX0_undo_1
theorem dksX0_undo_0 : cX0_undo.data.toList.drop 0 = dktX0_undo_0 := by decide +kernel
theorem dksX0_undo_1 : cX0_undo.data.toList.drop 22 = dktX0_undo_1 := dk_seg dksX0_undo_0 22 rfl rfl
theorem dX0_undo_0 : decode cX0_undo 0 = .ok (.iload_n 1, 1) := dk_27 (dk_at dksX0_undo_0 0 rfl rfl)
theorem dX0_undo_1 : decode cX0_undo 1 = .ok (.iconst 0, 1) := dk_3 (dk_at dksX0_undo_0 1 rfl rfl)
theorem dX0_undo_2 : decode cX0_undo 2 = .ok (.aload_n 0, 1) := dk_42 (dk_at dksX0_undo_0 2 rfl rfl)
theorem dX0_undo_3 : decode cX0_undo 3 = .ok (.getfield 75, 3) := dk_180 0 75 (dk_at dksX0_undo_0 3 rfl rfl)
theorem dX0_undo_6 : decode cX0_undo 6 = .ok (.invokestatic 78, 3) := dk_184 0 78 (dk_at dksX0_undo_0 6 rfl rfl)
theorem dX0_undo_9 : decode cX0_undo 9 = .ok (.ifCond .ne 5, 3) := dk_154 0 5 (dk_at dksX0_undo_0 9 rfl rfl)
theorem dX0_undo_12 : decode cX0_undo 12 = .ok (.iconst (-1), 1) := dk_2 (dk_at dksX0_undo_0 12 rfl rfl)
theorem dX0_undo_13 : decode cX0_undo 13 = .ok (.ireturn, 1) := dk_172 (dk_at dksX0_undo_0 13 rfl rfl)
theorem dX0_undo_14 : decode cX0_undo 14 = .ok (.aload_n 0, 1) := dk_42 (dk_at dksX0_undo_0 14 rfl rfl)
theorem dX0_undo_15 : decode cX0_undo 15 = .ok (.getfield 75, 3) := dk_180 0 75 (dk_at dksX0_undo_0 15 rfl rfl)
theorem dX0_undo_18 : decode cX0_undo 18 = .ok (.iload_n 1, 1) := dk_27 (dk_at dksX0_undo_0 18 rfl rfl)
theorem dX0_undo_19 : decode cX0_undo 19 = .ok (.isub, 1) := dk_100 (dk_at dksX0_undo_0 19 rfl rfl)
theorem dX0_undo_20 : decode cX0_undo 20 = .ok (.istore_n 2, 1) := dk_61 (dk_at dksX0_undo_0 20 rfl rfl)
theorem dX0_undo_21 : decode cX0_undo 21 = .ok (.iload_n 2, 1) := dk_28 (dk_at dksX0_undo_0 21 rfl rfl)
theorem dX0_undo_22 : decode cX0_undo 22 = .ok (.ifCond .le 20, 3) := dk_158 0 20 (dk_at dksX0_undo_1 0 rfl rfl)
theorem dX0_undo_25 : decode cX0_undo 25 = .ok (.aload_n 0, 1) := dk_42 (dk_at dksX0_undo_1 3 rfl rfl)
theorem dX0_undo_26 : decode cX0_undo 26 = .ok (.aload_n 0, 1) := dk_42 (dk_at dksX0_undo_1 4 rfl rfl)
theorem dX0_undo_27 : decode cX0_undo 27 = .ok (.getfield 63, 3) := dk_180 0 63 (dk_at dksX0_undo_1 5 rfl rfl)
theorem dX0_undo_30 : decode cX0_undo 30 = .ok (.bipush 33, 2) := dk_16 33 (dk_at dksX0_undo_1 8 rfl rfl)
theorem dX0_undo_32 : decode cX0_undo 32 = .ok (.iload_n 1, 1) := dk_27 (dk_at dksX0_undo_1 10 rfl rfl)
theorem dX0_undo_33 : decode cX0_undo 33 = .ok (.imul, 1) := dk_104 (dk_at dksX0_undo_1 11 rfl rfl)
theorem dX0_undo_34 : decode cX0_undo 34 = .ok (.invokevirtual 432, 3) := dk_182 1 176 (dk_at dksX0_undo_1 12 rfl rfl)
theorem dX0_undo_37 : decode cX0_undo 37 = .ok (.aload_n 0, 1) := dk_42 (dk_at dksX0_undo_1 15 rfl rfl)
theorem dX0_undo_38 : decode cX0_undo 38 = .ok (.iload_n 1, 1) := dk_27 (dk_at dksX0_undo_1 16 rfl rfl)
theorem dX0_undo_39 : decode cX0_undo 39 = .ok (.putfield 75, 3) := dk_181 0 75 (dk_at dksX0_undo_1 17 rfl rfl)
theorem dX0_undo_42 : decode cX0_undo 42 = .ok (.iload_n 2, 1) := dk_28 (dk_at dksX0_undo_1 20 rfl rfl)
theorem dX0_undo_43 : decode cX0_undo 43 = .ok (.ireturn, 1) := dk_172 (dk_at dksX0_undo_1 21 rfl rfl)
abbrev cX0_readBack : ByteArray := prog_1_method_50_code
def yX0_readBack : MethodName := ⟨RX0, "readBack", "([II)V"⟩
def dkwX0_readBack_4 : List UInt8 := [167, 0, 4, 3, 181, 1, 69, 132, 3, 1, 167, 255, 164, 177]
abbrev dktX0_readBack_4 : List UInt8 := dkwX0_readBack_4 ++ []
def dkwX0_readBack_3 : List UInt8 := [181, 1, 77, 42, 180, 0, 33, 29, 50, 43, 28, 7, 96, 7, 29, 104, 96, 46, 4, 160, 0, 7, 4]
abbrev dktX0_readBack_3 : List UInt8 := dkwX0_readBack_3 ++ dktX0_readBack_4
def dkwX0_readBack_2 : List UInt8 := [7, 29, 104, 96, 46, 181, 1, 66, 42, 180, 0, 33, 29, 50, 43, 28, 6, 96, 7, 29, 104, 96, 46]
abbrev dktX0_readBack_2 : List UInt8 := dkwX0_readBack_2 ++ dktX0_readBack_3
def dkwX0_readBack_1 : List UInt8 := [29, 50, 43, 28, 4, 96, 7, 29, 104, 96, 46, 181, 1, 31, 42, 180, 0, 33, 29, 50, 43, 28, 5, 96]
abbrev dktX0_readBack_1 : List UInt8 := dkwX0_readBack_1 ++ dktX0_readBack_2
def dkwX0_readBack_0 : List UInt8 := [42, 43, 28, 46, 184, 1, 0, 181, 0, 40, 3, 62, 29, 42, 180, 0, 245, 162, 0, 90, 42, 180, 0, 33]
abbrev dktX0_readBack_0 : List UInt8 := dkwX0_readBack_0 ++ dktX0_readBack_1
theorem dksX0_readBack_0 : cX0_readBack.data.toList.drop 0 = dktX0_readBack_0 := by decide +kernel
theorem dksX0_readBack_1 : cX0_readBack.data.toList.drop 24 = dktX0_readBack_1 := dk_seg dksX0_readBack_0 24 rfl rfl
theorem dksX0_readBack_2 : cX0_readBack.data.toList.drop 48 = dktX0_readBack_2 := dk_seg dksX0_readBack_1 24 rfl rfl
theorem dksX0_readBack_3 : cX0_readBack.data.toList.drop 71 = dktX0_readBack_3 := dk_seg dksX0_readBack_2 23 rfl rfl
theorem dksX0_readBack_4 : cX0_readBack.data.toList.drop 94 = dktX0_readBack_4 := dk_seg dksX0_readBack_3 23 rfl rfl
theorem dX0_readBack_0 : decode cX0_readBack 0 = .ok (.aload_n 0, 1) := dk_42 (dk_at dksX0_readBack_0 0 rfl rfl)
theorem dX0_readBack_1 : decode cX0_readBack 1 = .ok (.aload_n 1, 1) := dk_43 (dk_at dksX0_readBack_0 1 rfl rfl)
theorem dX0_readBack_2 : decode cX0_readBack 2 = .ok (.iload_n 2, 1) := dk_28 (dk_at dksX0_readBack_0 2 rfl rfl)
theorem dX0_readBack_3 : decode cX0_readBack 3 = .ok (.iaload, 1) := dk_46 (dk_at dksX0_readBack_0 3 rfl rfl)
theorem dX0_readBack_4 : decode cX0_readBack 4 = .ok (.invokestatic 256, 3) := dk_184 1 0 (dk_at dksX0_readBack_0 4 rfl rfl)
theorem dX0_readBack_7 : decode cX0_readBack 7 = .ok (.putfield 40, 3) := dk_181 0 40 (dk_at dksX0_readBack_0 7 rfl rfl)
theorem dX0_readBack_10 : decode cX0_readBack 10 = .ok (.iconst 0, 1) := dk_3 (dk_at dksX0_readBack_0 10 rfl rfl)
theorem dX0_readBack_11 : decode cX0_readBack 11 = .ok (.istore_n 3, 1) := dk_62 (dk_at dksX0_readBack_0 11 rfl rfl)
theorem dX0_readBack_12 : decode cX0_readBack 12 = .ok (.iload_n 3, 1) := dk_29 (dk_at dksX0_readBack_0 12 rfl rfl)
theorem dX0_readBack_13 : decode cX0_readBack 13 = .ok (.aload_n 0, 1) := dk_42 (dk_at dksX0_readBack_0 13 rfl rfl)
theorem dX0_readBack_14 : decode cX0_readBack 14 = .ok (.getfield 245, 3) := dk_180 0 245 (dk_at dksX0_readBack_0 14 rfl rfl)
theorem dX0_readBack_17 : decode cX0_readBack 17 = .ok (.if_icmp .ge 90, 3) := dk_162 0 90 (dk_at dksX0_readBack_0 17 rfl rfl)
theorem dX0_readBack_20 : decode cX0_readBack 20 = .ok (.aload_n 0, 1) := dk_42 (dk_at dksX0_readBack_0 20 rfl rfl)
theorem dX0_readBack_21 : decode cX0_readBack 21 = .ok (.getfield 33, 3) := dk_180 0 33 (dk_at dksX0_readBack_0 21 rfl rfl)
theorem dX0_readBack_24 : decode cX0_readBack 24 = .ok (.iload_n 3, 1) := dk_29 (dk_at dksX0_readBack_1 0 rfl rfl)
theorem dX0_readBack_25 : decode cX0_readBack 25 = .ok (.aaload, 1) := dk_50 (dk_at dksX0_readBack_1 1 rfl rfl)
theorem dX0_readBack_26 : decode cX0_readBack 26 = .ok (.aload_n 1, 1) := dk_43 (dk_at dksX0_readBack_1 2 rfl rfl)
theorem dX0_readBack_27 : decode cX0_readBack 27 = .ok (.iload_n 2, 1) := dk_28 (dk_at dksX0_readBack_1 3 rfl rfl)
theorem dX0_readBack_28 : decode cX0_readBack 28 = .ok (.iconst 1, 1) := dk_4 (dk_at dksX0_readBack_1 4 rfl rfl)
theorem dX0_readBack_29 : decode cX0_readBack 29 = .ok (.iadd, 1) := dk_96 (dk_at dksX0_readBack_1 5 rfl rfl)
theorem dX0_readBack_30 : decode cX0_readBack 30 = .ok (.iconst 4, 1) := dk_7 (dk_at dksX0_readBack_1 6 rfl rfl)
theorem dX0_readBack_31 : decode cX0_readBack 31 = .ok (.iload_n 3, 1) := dk_29 (dk_at dksX0_readBack_1 7 rfl rfl)
theorem dX0_readBack_32 : decode cX0_readBack 32 = .ok (.imul, 1) := dk_104 (dk_at dksX0_readBack_1 8 rfl rfl)
theorem dX0_readBack_33 : decode cX0_readBack 33 = .ok (.iadd, 1) := dk_96 (dk_at dksX0_readBack_1 9 rfl rfl)
theorem dX0_readBack_34 : decode cX0_readBack 34 = .ok (.iaload, 1) := dk_46 (dk_at dksX0_readBack_1 10 rfl rfl)
theorem dX0_readBack_35 : decode cX0_readBack 35 = .ok (.putfield 287, 3) := dk_181 1 31 (dk_at dksX0_readBack_1 11 rfl rfl)
theorem dX0_readBack_38 : decode cX0_readBack 38 = .ok (.aload_n 0, 1) := dk_42 (dk_at dksX0_readBack_1 14 rfl rfl)
theorem dX0_readBack_39 : decode cX0_readBack 39 = .ok (.getfield 33, 3) := dk_180 0 33 (dk_at dksX0_readBack_1 15 rfl rfl)
theorem dX0_readBack_42 : decode cX0_readBack 42 = .ok (.iload_n 3, 1) := dk_29 (dk_at dksX0_readBack_1 18 rfl rfl)
theorem dX0_readBack_43 : decode cX0_readBack 43 = .ok (.aaload, 1) := dk_50 (dk_at dksX0_readBack_1 19 rfl rfl)
theorem dX0_readBack_44 : decode cX0_readBack 44 = .ok (.aload_n 1, 1) := dk_43 (dk_at dksX0_readBack_1 20 rfl rfl)
theorem dX0_readBack_45 : decode cX0_readBack 45 = .ok (.iload_n 2, 1) := dk_28 (dk_at dksX0_readBack_1 21 rfl rfl)
theorem dX0_readBack_46 : decode cX0_readBack 46 = .ok (.iconst 2, 1) := dk_5 (dk_at dksX0_readBack_1 22 rfl rfl)
theorem dX0_readBack_47 : decode cX0_readBack 47 = .ok (.iadd, 1) := dk_96 (dk_at dksX0_readBack_1 23 rfl rfl)
theorem dX0_readBack_48 : decode cX0_readBack 48 = .ok (.iconst 4, 1) := dk_7 (dk_at dksX0_readBack_2 0 rfl rfl)
theorem dX0_readBack_49 : decode cX0_readBack 49 = .ok (.iload_n 3, 1) := dk_29 (dk_at dksX0_readBack_2 1 rfl rfl)
theorem dX0_readBack_50 : decode cX0_readBack 50 = .ok (.imul, 1) := dk_104 (dk_at dksX0_readBack_2 2 rfl rfl)
theorem dX0_readBack_51 : decode cX0_readBack 51 = .ok (.iadd, 1) := dk_96 (dk_at dksX0_readBack_2 3 rfl rfl)
theorem dX0_readBack_52 : decode cX0_readBack 52 = .ok (.iaload, 1) := dk_46 (dk_at dksX0_readBack_2 4 rfl rfl)
theorem dX0_readBack_53 : decode cX0_readBack 53 = .ok (.putfield 322, 3) := dk_181 1 66 (dk_at dksX0_readBack_2 5 rfl rfl)
theorem dX0_readBack_56 : decode cX0_readBack 56 = .ok (.aload_n 0, 1) := dk_42 (dk_at dksX0_readBack_2 8 rfl rfl)
theorem dX0_readBack_57 : decode cX0_readBack 57 = .ok (.getfield 33, 3) := dk_180 0 33 (dk_at dksX0_readBack_2 9 rfl rfl)
theorem dX0_readBack_60 : decode cX0_readBack 60 = .ok (.iload_n 3, 1) := dk_29 (dk_at dksX0_readBack_2 12 rfl rfl)
theorem dX0_readBack_61 : decode cX0_readBack 61 = .ok (.aaload, 1) := dk_50 (dk_at dksX0_readBack_2 13 rfl rfl)
theorem dX0_readBack_62 : decode cX0_readBack 62 = .ok (.aload_n 1, 1) := dk_43 (dk_at dksX0_readBack_2 14 rfl rfl)
theorem dX0_readBack_63 : decode cX0_readBack 63 = .ok (.iload_n 2, 1) := dk_28 (dk_at dksX0_readBack_2 15 rfl rfl)
theorem dX0_readBack_64 : decode cX0_readBack 64 = .ok (.iconst 3, 1) := dk_6 (dk_at dksX0_readBack_2 16 rfl rfl)
theorem dX0_readBack_65 : decode cX0_readBack 65 = .ok (.iadd, 1) := dk_96 (dk_at dksX0_readBack_2 17 rfl rfl)
theorem dX0_readBack_66 : decode cX0_readBack 66 = .ok (.iconst 4, 1) := dk_7 (dk_at dksX0_readBack_2 18 rfl rfl)
theorem dX0_readBack_67 : decode cX0_readBack 67 = .ok (.iload_n 3, 1) := dk_29 (dk_at dksX0_readBack_2 19 rfl rfl)
theorem dX0_readBack_68 : decode cX0_readBack 68 = .ok (.imul, 1) := dk_104 (dk_at dksX0_readBack_2 20 rfl rfl)
theorem dX0_readBack_69 : decode cX0_readBack 69 = .ok (.iadd, 1) := dk_96 (dk_at dksX0_readBack_2 21 rfl rfl)
theorem dX0_readBack_70 : decode cX0_readBack 70 = .ok (.iaload, 1) := dk_46 (dk_at dksX0_readBack_2 22 rfl rfl)
theorem dX0_readBack_71 : decode cX0_readBack 71 = .ok (.putfield 333, 3) := dk_181 1 77 (dk_at dksX0_readBack_3 0 rfl rfl)
theorem dX0_readBack_74 : decode cX0_readBack 74 = .ok (.aload_n 0, 1) := dk_42 (dk_at dksX0_readBack_3 3 rfl rfl)
theorem dX0_readBack_75 : decode cX0_readBack 75 = .ok (.getfield 33, 3) := dk_180 0 33 (dk_at dksX0_readBack_3 4 rfl rfl)
theorem dX0_readBack_78 : decode cX0_readBack 78 = .ok (.iload_n 3, 1) := dk_29 (dk_at dksX0_readBack_3 7 rfl rfl)
theorem dX0_readBack_79 : decode cX0_readBack 79 = .ok (.aaload, 1) := dk_50 (dk_at dksX0_readBack_3 8 rfl rfl)
theorem dX0_readBack_80 : decode cX0_readBack 80 = .ok (.aload_n 1, 1) := dk_43 (dk_at dksX0_readBack_3 9 rfl rfl)
theorem dX0_readBack_81 : decode cX0_readBack 81 = .ok (.iload_n 2, 1) := dk_28 (dk_at dksX0_readBack_3 10 rfl rfl)
theorem dX0_readBack_82 : decode cX0_readBack 82 = .ok (.iconst 4, 1) := dk_7 (dk_at dksX0_readBack_3 11 rfl rfl)
theorem dX0_readBack_83 : decode cX0_readBack 83 = .ok (.iadd, 1) := dk_96 (dk_at dksX0_readBack_3 12 rfl rfl)
theorem dX0_readBack_84 : decode cX0_readBack 84 = .ok (.iconst 4, 1) := dk_7 (dk_at dksX0_readBack_3 13 rfl rfl)
theorem dX0_readBack_85 : decode cX0_readBack 85 = .ok (.iload_n 3, 1) := dk_29 (dk_at dksX0_readBack_3 14 rfl rfl)
theorem dX0_readBack_86 : decode cX0_readBack 86 = .ok (.imul, 1) := dk_104 (dk_at dksX0_readBack_3 15 rfl rfl)
theorem dX0_readBack_87 : decode cX0_readBack 87 = .ok (.iadd, 1) := dk_96 (dk_at dksX0_readBack_3 16 rfl rfl)
theorem dX0_readBack_88 : decode cX0_readBack 88 = .ok (.iaload, 1) := dk_46 (dk_at dksX0_readBack_3 17 rfl rfl)
theorem dX0_readBack_89 : decode cX0_readBack 89 = .ok (.iconst 1, 1) := dk_4 (dk_at dksX0_readBack_3 18 rfl rfl)
theorem dX0_readBack_90 : decode cX0_readBack 90 = .ok (.if_icmp .ne 7, 3) := dk_160 0 7 (dk_at dksX0_readBack_3 19 rfl rfl)
theorem dX0_readBack_93 : decode cX0_readBack 93 = .ok (.iconst 1, 1) := dk_4 (dk_at dksX0_readBack_3 22 rfl rfl)
theorem dX0_readBack_94 : decode cX0_readBack 94 = .ok (.goto 4, 3) := dk_167 0 4 (dk_at dksX0_readBack_4 0 rfl rfl)
theorem dX0_readBack_97 : decode cX0_readBack 97 = .ok (.iconst 0, 1) := dk_3 (dk_at dksX0_readBack_4 3 rfl rfl)
theorem dX0_readBack_98 : decode cX0_readBack 98 = .ok (.putfield 325, 3) := dk_181 1 69 (dk_at dksX0_readBack_4 4 rfl rfl)
theorem dX0_readBack_101 : decode cX0_readBack 101 = .ok (.iinc 3 1, 3) := dk_132 3 1 (dk_at dksX0_readBack_4 7 rfl rfl)
theorem dX0_readBack_104 : decode cX0_readBack 104 = .ok (.goto (-92), 3) := dk_167 255 164 (dk_at dksX0_readBack_4 10 rfl rfl)
theorem dX0_readBack_107 : decode cX0_readBack 107 = .ok (.return_, 1) := dk_177 (dk_at dksX0_readBack_4 13 rfl rfl)
abbrev cX0_keep : ByteArray := prog_1_method_61_code
def yX0_keep : MethodName := ⟨RX0, "keep", "(I)I"⟩
def dkwX0_keep_3 : List UInt8 := [104, 184, 0, 103, 42, 44, 180, 1, 189, 3, 182, 1, 153, 42, 180, 0, 75, 172]
abbrev dktX0_keep_3 : List UInt8 := dkwX0_keep_3 ++ []
def dkwX0_keep_2 : List UInt8 := [44, 42, 180, 0, 75, 181, 1, 183, 42, 180, 0, 63, 3, 44, 180, 1, 186, 3, 16, 33, 42, 180, 0, 75]
abbrev dktX0_keep_2 : List UInt8 := dkwX0_keep_2 ++ dktX0_keep_3
def dkwX0_keep_1 : List UInt8 := [50, 199, 0, 16, 42, 180, 0, 68, 27, 187, 0, 66, 89, 183, 1, 182, 83, 42, 180, 0, 68, 27, 50, 77]
abbrev dktX0_keep_1 : List UInt8 := dkwX0_keep_1 ++ dktX0_keep_2
def dkwX0_keep_0 : List UInt8 := [27, 184, 1, 179, 154, 0, 5, 2, 172, 42, 180, 0, 245, 154, 0, 6, 16, 252, 172, 42, 180, 0, 68, 27]
abbrev dktX0_keep_0 : List UInt8 := dkwX0_keep_0 ++ dktX0_keep_1
theorem dksX0_keep_0 : cX0_keep.data.toList.drop 0 = dktX0_keep_0 := by decide +kernel
theorem dksX0_keep_1 : cX0_keep.data.toList.drop 24 = dktX0_keep_1 := dk_seg dksX0_keep_0 24 rfl rfl
theorem dksX0_keep_2 : cX0_keep.data.toList.drop 48 = dktX0_keep_2 := dk_seg dksX0_keep_1 24 rfl rfl
theorem dksX0_keep_3 : cX0_keep.data.toList.drop 72 = dktX0_keep_3 := dk_seg dksX0_keep_2 24 rfl rfl
theorem dX0_keep_0 : decode cX0_keep 0 = .ok (.iload_n 1, 1) := dk_27 (dk_at dksX0_keep_0 0 rfl rfl)
theorem dX0_keep_1 : decode cX0_keep 1 = .ok (.invokestatic 435, 3) := dk_184 1 179 (dk_at dksX0_keep_0 1 rfl rfl)
theorem dX0_keep_4 : decode cX0_keep 4 = .ok (.ifCond .ne 5, 3) := dk_154 0 5 (dk_at dksX0_keep_0 4 rfl rfl)
theorem dX0_keep_7 : decode cX0_keep 7 = .ok (.iconst (-1), 1) := dk_2 (dk_at dksX0_keep_0 7 rfl rfl)
theorem dX0_keep_8 : decode cX0_keep 8 = .ok (.ireturn, 1) := dk_172 (dk_at dksX0_keep_0 8 rfl rfl)
theorem dX0_keep_9 : decode cX0_keep 9 = .ok (.aload_n 0, 1) := dk_42 (dk_at dksX0_keep_0 9 rfl rfl)
theorem dX0_keep_10 : decode cX0_keep 10 = .ok (.getfield 245, 3) := dk_180 0 245 (dk_at dksX0_keep_0 10 rfl rfl)
theorem dX0_keep_13 : decode cX0_keep 13 = .ok (.ifCond .ne 6, 3) := dk_154 0 6 (dk_at dksX0_keep_0 13 rfl rfl)
theorem dX0_keep_16 : decode cX0_keep 16 = .ok (.bipush (-4), 2) := dk_16 252 (dk_at dksX0_keep_0 16 rfl rfl)
theorem dX0_keep_18 : decode cX0_keep 18 = .ok (.ireturn, 1) := dk_172 (dk_at dksX0_keep_0 18 rfl rfl)
theorem dX0_keep_19 : decode cX0_keep 19 = .ok (.aload_n 0, 1) := dk_42 (dk_at dksX0_keep_0 19 rfl rfl)
theorem dX0_keep_20 : decode cX0_keep 20 = .ok (.getfield 68, 3) := dk_180 0 68 (dk_at dksX0_keep_0 20 rfl rfl)
theorem dX0_keep_23 : decode cX0_keep 23 = .ok (.iload_n 1, 1) := dk_27 (dk_at dksX0_keep_0 23 rfl rfl)
theorem dX0_keep_24 : decode cX0_keep 24 = .ok (.aaload, 1) := dk_50 (dk_at dksX0_keep_1 0 rfl rfl)
theorem dX0_keep_25 : decode cX0_keep 25 = .ok (.ifnonnull 16, 3) := dk_199 0 16 (dk_at dksX0_keep_1 1 rfl rfl)
theorem dX0_keep_28 : decode cX0_keep 28 = .ok (.aload_n 0, 1) := dk_42 (dk_at dksX0_keep_1 4 rfl rfl)
theorem dX0_keep_29 : decode cX0_keep 29 = .ok (.getfield 68, 3) := dk_180 0 68 (dk_at dksX0_keep_1 5 rfl rfl)
theorem dX0_keep_32 : decode cX0_keep 32 = .ok (.iload_n 1, 1) := dk_27 (dk_at dksX0_keep_1 8 rfl rfl)
theorem dX0_keep_33 : decode cX0_keep 33 = .ok (.new 66, 3) := dk_187 0 66 (dk_at dksX0_keep_1 9 rfl rfl)
theorem dX0_keep_36 : decode cX0_keep 36 = .ok (.dup, 1) := dk_89 (dk_at dksX0_keep_1 12 rfl rfl)
theorem dX0_keep_37 : decode cX0_keep 37 = .ok (.invokespecial 438, 3) := dk_183 1 182 (dk_at dksX0_keep_1 13 rfl rfl)
theorem dX0_keep_40 : decode cX0_keep 40 = .ok (.aastore, 1) := dk_83 (dk_at dksX0_keep_1 16 rfl rfl)
theorem dX0_keep_41 : decode cX0_keep 41 = .ok (.aload_n 0, 1) := dk_42 (dk_at dksX0_keep_1 17 rfl rfl)
theorem dX0_keep_42 : decode cX0_keep 42 = .ok (.getfield 68, 3) := dk_180 0 68 (dk_at dksX0_keep_1 18 rfl rfl)
theorem dX0_keep_45 : decode cX0_keep 45 = .ok (.iload_n 1, 1) := dk_27 (dk_at dksX0_keep_1 21 rfl rfl)
theorem dX0_keep_46 : decode cX0_keep 46 = .ok (.aaload, 1) := dk_50 (dk_at dksX0_keep_1 22 rfl rfl)
theorem dX0_keep_47 : decode cX0_keep 47 = .ok (.astore_n 2, 1) := dk_77 (dk_at dksX0_keep_1 23 rfl rfl)
theorem dX0_keep_48 : decode cX0_keep 48 = .ok (.aload_n 2, 1) := dk_44 (dk_at dksX0_keep_2 0 rfl rfl)
theorem dX0_keep_49 : decode cX0_keep 49 = .ok (.aload_n 0, 1) := dk_42 (dk_at dksX0_keep_2 1 rfl rfl)
theorem dX0_keep_50 : decode cX0_keep 50 = .ok (.getfield 75, 3) := dk_180 0 75 (dk_at dksX0_keep_2 2 rfl rfl)
theorem dX0_keep_53 : decode cX0_keep 53 = .ok (.putfield 439, 3) := dk_181 1 183 (dk_at dksX0_keep_2 5 rfl rfl)
theorem dX0_keep_56 : decode cX0_keep 56 = .ok (.aload_n 0, 1) := dk_42 (dk_at dksX0_keep_2 8 rfl rfl)
theorem dX0_keep_57 : decode cX0_keep 57 = .ok (.getfield 63, 3) := dk_180 0 63 (dk_at dksX0_keep_2 9 rfl rfl)
theorem dX0_keep_60 : decode cX0_keep 60 = .ok (.iconst 0, 1) := dk_3 (dk_at dksX0_keep_2 12 rfl rfl)
theorem dX0_keep_61 : decode cX0_keep 61 = .ok (.aload_n 2, 1) := dk_44 (dk_at dksX0_keep_2 13 rfl rfl)
theorem dX0_keep_62 : decode cX0_keep 62 = .ok (.getfield 442, 3) := dk_180 1 186 (dk_at dksX0_keep_2 14 rfl rfl)
theorem dX0_keep_65 : decode cX0_keep 65 = .ok (.iconst 0, 1) := dk_3 (dk_at dksX0_keep_2 17 rfl rfl)
theorem dX0_keep_66 : decode cX0_keep 66 = .ok (.bipush 33, 2) := dk_16 33 (dk_at dksX0_keep_2 18 rfl rfl)
theorem dX0_keep_68 : decode cX0_keep 68 = .ok (.aload_n 0, 1) := dk_42 (dk_at dksX0_keep_2 20 rfl rfl)
theorem dX0_keep_69 : decode cX0_keep 69 = .ok (.getfield 75, 3) := dk_180 0 75 (dk_at dksX0_keep_2 21 rfl rfl)
theorem dX0_keep_72 : decode cX0_keep 72 = .ok (.imul, 1) := dk_104 (dk_at dksX0_keep_3 0 rfl rfl)
theorem dX0_keep_73 : decode cX0_keep 73 = .ok (.invokestatic 103, 3) := dk_184 0 103 (dk_at dksX0_keep_3 1 rfl rfl)
theorem dX0_keep_76 : decode cX0_keep 76 = .ok (.aload_n 0, 1) := dk_42 (dk_at dksX0_keep_3 4 rfl rfl)
theorem dX0_keep_77 : decode cX0_keep 77 = .ok (.aload_n 2, 1) := dk_44 (dk_at dksX0_keep_3 5 rfl rfl)
theorem dX0_keep_78 : decode cX0_keep 78 = .ok (.getfield 445, 3) := dk_180 1 189 (dk_at dksX0_keep_3 6 rfl rfl)
theorem dX0_keep_81 : decode cX0_keep 81 = .ok (.iconst 0, 1) := dk_3 (dk_at dksX0_keep_3 9 rfl rfl)
theorem dX0_keep_82 : decode cX0_keep 82 = .ok (.invokevirtual 409, 3) := dk_182 1 153 (dk_at dksX0_keep_3 10 rfl rfl)
theorem dX0_keep_85 : decode cX0_keep 85 = .ok (.aload_n 0, 1) := dk_42 (dk_at dksX0_keep_3 13 rfl rfl)
theorem dX0_keep_86 : decode cX0_keep 86 = .ok (.getfield 75, 3) := dk_180 0 75 (dk_at dksX0_keep_3 14 rfl rfl)
theorem dX0_keep_89 : decode cX0_keep 89 = .ok (.ireturn, 1) := dk_172 (dk_at dksX0_keep_3 17 rfl rfl)
abbrev cX0_isKept : ByteArray := prog_1_method_60_code
def yX0_isKept : MethodName := ⟨RX0, "isKept", "(I)Z"⟩
def dkwX0_isKept_0 : List UInt8 := [26, 3, 5, 184, 0, 78, 172]
abbrev dktX0_isKept_0 : List UInt8 := dkwX0_isKept_0 ++ []
theorem dksX0_isKept_0 : cX0_isKept.data.toList.drop 0 = dktX0_isKept_0 := by decide +kernel
theorem dX0_isKept_0 : decode cX0_isKept 0 = .ok (.iload_n 0, 1) := dk_26 (dk_at dksX0_isKept_0 0 rfl rfl)
theorem dX0_isKept_1 : decode cX0_isKept 1 = .ok (.iconst 0, 1) := dk_3 (dk_at dksX0_isKept_0 1 rfl rfl)
theorem dX0_isKept_2 : decode cX0_isKept 2 = .ok (.iconst 2, 1) := dk_5 (dk_at dksX0_isKept_0 2 rfl rfl)
theorem dX0_isKept_3 : decode cX0_isKept 3 = .ok (.invokestatic 78, 3) := dk_184 0 78 (dk_at dksX0_isKept_0 3 rfl rfl)
theorem dX0_isKept_6 : decode cX0_isKept 6 = .ok (.ireturn, 1) := dk_172 (dk_at dksX0_isKept_0 6 rfl rfl)
abbrev cX0_on : ByteArray := prog_1_method_62_code
def yX0_on : MethodName := ⟨RX0, "on", "(I)I"⟩
def dkwX0_on_3 : List UInt8 := [172]
abbrev dktX0_on_3 : List UInt8 := dkwX0_on_3 ++ []
def dkwX0_on_2 : List UInt8 := [3, 16, 33, 42, 180, 0, 75, 104, 184, 0, 103, 42, 44, 180, 1, 189, 3, 182, 1, 176, 42, 180, 0, 75]
abbrev dktX0_on_2 : List UInt8 := dkwX0_on_2 ++ dktX0_on_3
def dkwX0_on_1 : List UInt8 := [42, 180, 0, 68, 27, 50, 77, 42, 44, 180, 1, 183, 181, 0, 75, 44, 180, 1, 186, 3, 42, 180, 0, 63]
abbrev dktX0_on_1 : List UInt8 := dkwX0_on_1 ++ dktX0_on_2
def dkwX0_on_0 : List UInt8 := [27, 184, 1, 179, 154, 0, 5, 2, 172, 42, 180, 0, 68, 27, 50, 199, 0, 9, 42, 4, 182, 0, 88, 172]
abbrev dktX0_on_0 : List UInt8 := dkwX0_on_0 ++ dktX0_on_1
theorem dksX0_on_0 : cX0_on.data.toList.drop 0 = dktX0_on_0 := by decide +kernel
theorem dksX0_on_1 : cX0_on.data.toList.drop 24 = dktX0_on_1 := dk_seg dksX0_on_0 24 rfl rfl
theorem dksX0_on_2 : cX0_on.data.toList.drop 48 = dktX0_on_2 := dk_seg dksX0_on_1 24 rfl rfl
theorem dksX0_on_3 : cX0_on.data.toList.drop 72 = dktX0_on_3 := dk_seg dksX0_on_2 24 rfl rfl
theorem dX0_on_0 : decode cX0_on 0 = .ok (.iload_n 1, 1) := dk_27 (dk_at dksX0_on_0 0 rfl rfl)
theorem dX0_on_1 : decode cX0_on 1 = .ok (.invokestatic 435, 3) := dk_184 1 179 (dk_at dksX0_on_0 1 rfl rfl)
theorem dX0_on_4 : decode cX0_on 4 = .ok (.ifCond .ne 5, 3) := dk_154 0 5 (dk_at dksX0_on_0 4 rfl rfl)
theorem dX0_on_7 : decode cX0_on 7 = .ok (.iconst (-1), 1) := dk_2 (dk_at dksX0_on_0 7 rfl rfl)
theorem dX0_on_8 : decode cX0_on 8 = .ok (.ireturn, 1) := dk_172 (dk_at dksX0_on_0 8 rfl rfl)
theorem dX0_on_9 : decode cX0_on 9 = .ok (.aload_n 0, 1) := dk_42 (dk_at dksX0_on_0 9 rfl rfl)
theorem dX0_on_10 : decode cX0_on 10 = .ok (.getfield 68, 3) := dk_180 0 68 (dk_at dksX0_on_0 10 rfl rfl)
theorem dX0_on_13 : decode cX0_on 13 = .ok (.iload_n 1, 1) := dk_27 (dk_at dksX0_on_0 13 rfl rfl)
theorem dX0_on_14 : decode cX0_on 14 = .ok (.aaload, 1) := dk_50 (dk_at dksX0_on_0 14 rfl rfl)
theorem dX0_on_15 : decode cX0_on 15 = .ok (.ifnonnull 9, 3) := dk_199 0 9 (dk_at dksX0_on_0 15 rfl rfl)
theorem dX0_on_18 : decode cX0_on 18 = .ok (.aload_n 0, 1) := dk_42 (dk_at dksX0_on_0 18 rfl rfl)
theorem dX0_on_19 : decode cX0_on 19 = .ok (.iconst 1, 1) := dk_4 (dk_at dksX0_on_0 19 rfl rfl)
theorem dX0_on_20 : decode cX0_on 20 = .ok (.invokevirtual 88, 3) := dk_182 0 88 (dk_at dksX0_on_0 20 rfl rfl)
theorem dX0_on_23 : decode cX0_on 23 = .ok (.ireturn, 1) := dk_172 (dk_at dksX0_on_0 23 rfl rfl)
theorem dX0_on_24 : decode cX0_on 24 = .ok (.aload_n 0, 1) := dk_42 (dk_at dksX0_on_1 0 rfl rfl)
theorem dX0_on_25 : decode cX0_on 25 = .ok (.getfield 68, 3) := dk_180 0 68 (dk_at dksX0_on_1 1 rfl rfl)
theorem dX0_on_28 : decode cX0_on 28 = .ok (.iload_n 1, 1) := dk_27 (dk_at dksX0_on_1 4 rfl rfl)
theorem dX0_on_29 : decode cX0_on 29 = .ok (.aaload, 1) := dk_50 (dk_at dksX0_on_1 5 rfl rfl)
theorem dX0_on_30 : decode cX0_on 30 = .ok (.astore_n 2, 1) := dk_77 (dk_at dksX0_on_1 6 rfl rfl)
theorem dX0_on_31 : decode cX0_on 31 = .ok (.aload_n 0, 1) := dk_42 (dk_at dksX0_on_1 7 rfl rfl)
theorem dX0_on_32 : decode cX0_on 32 = .ok (.aload_n 2, 1) := dk_44 (dk_at dksX0_on_1 8 rfl rfl)
theorem dX0_on_33 : decode cX0_on 33 = .ok (.getfield 439, 3) := dk_180 1 183 (dk_at dksX0_on_1 9 rfl rfl)
theorem dX0_on_36 : decode cX0_on 36 = .ok (.putfield 75, 3) := dk_181 0 75 (dk_at dksX0_on_1 12 rfl rfl)
theorem dX0_on_39 : decode cX0_on 39 = .ok (.aload_n 2, 1) := dk_44 (dk_at dksX0_on_1 15 rfl rfl)
theorem dX0_on_40 : decode cX0_on 40 = .ok (.getfield 442, 3) := dk_180 1 186 (dk_at dksX0_on_1 16 rfl rfl)
theorem dX0_on_43 : decode cX0_on 43 = .ok (.iconst 0, 1) := dk_3 (dk_at dksX0_on_1 19 rfl rfl)
theorem dX0_on_44 : decode cX0_on 44 = .ok (.aload_n 0, 1) := dk_42 (dk_at dksX0_on_1 20 rfl rfl)
theorem dX0_on_45 : decode cX0_on 45 = .ok (.getfield 63, 3) := dk_180 0 63 (dk_at dksX0_on_1 21 rfl rfl)
theorem dX0_on_48 : decode cX0_on 48 = .ok (.iconst 0, 1) := dk_3 (dk_at dksX0_on_2 0 rfl rfl)
theorem dX0_on_49 : decode cX0_on 49 = .ok (.bipush 33, 2) := dk_16 33 (dk_at dksX0_on_2 1 rfl rfl)
theorem dX0_on_51 : decode cX0_on 51 = .ok (.aload_n 0, 1) := dk_42 (dk_at dksX0_on_2 3 rfl rfl)
theorem dX0_on_52 : decode cX0_on 52 = .ok (.getfield 75, 3) := dk_180 0 75 (dk_at dksX0_on_2 4 rfl rfl)
theorem dX0_on_55 : decode cX0_on 55 = .ok (.imul, 1) := dk_104 (dk_at dksX0_on_2 7 rfl rfl)
theorem dX0_on_56 : decode cX0_on 56 = .ok (.invokestatic 103, 3) := dk_184 0 103 (dk_at dksX0_on_2 8 rfl rfl)
theorem dX0_on_59 : decode cX0_on 59 = .ok (.aload_n 0, 1) := dk_42 (dk_at dksX0_on_2 11 rfl rfl)
theorem dX0_on_60 : decode cX0_on 60 = .ok (.aload_n 2, 1) := dk_44 (dk_at dksX0_on_2 12 rfl rfl)
theorem dX0_on_61 : decode cX0_on 61 = .ok (.getfield 445, 3) := dk_180 1 189 (dk_at dksX0_on_2 13 rfl rfl)
theorem dX0_on_64 : decode cX0_on 64 = .ok (.iconst 0, 1) := dk_3 (dk_at dksX0_on_2 16 rfl rfl)
theorem dX0_on_65 : decode cX0_on 65 = .ok (.invokevirtual 432, 3) := dk_182 1 176 (dk_at dksX0_on_2 17 rfl rfl)
theorem dX0_on_68 : decode cX0_on 68 = .ok (.aload_n 0, 1) := dk_42 (dk_at dksX0_on_2 20 rfl rfl)
theorem dX0_on_69 : decode cX0_on 69 = .ok (.getfield 75, 3) := dk_180 0 75 (dk_at dksX0_on_2 21 rfl rfl)
theorem dX0_on_72 : decode cX0_on 72 = .ok (.ireturn, 1) := dk_172 (dk_at dksX0_on_3 0 rfl rfl)
abbrev cX0_free : ByteArray := prog_1_method_65_code
def yX0_free : MethodName := ⟨RX0, "free", "(III)I"⟩
def dkwX0_free_2 : List UInt8 := [167, 0, 5, 16, 247, 172]
abbrev dktX0_free_2 : List UInt8 := dkwX0_free_2 ++ []
def dkwX0_free_1 : List UInt8 := [27, 182, 1, 135, 28, 42, 180, 1, 56, 162, 0, 17, 42, 42, 28, 29, 182, 1, 195, 4, 182, 0, 96]
abbrev dktX0_free_1 : List UInt8 := dkwX0_free_1 ++ dktX0_free_2
def dkwX0_free_0 : List UInt8 := [42, 27, 182, 1, 192, 153, 0, 16, 28, 155, 0, 12, 29, 3, 6, 184, 0, 78, 154, 0, 5, 2, 172, 42]
abbrev dktX0_free_0 : List UInt8 := dkwX0_free_0 ++ dktX0_free_1
theorem dksX0_free_0 : cX0_free.data.toList.drop 0 = dktX0_free_0 := by decide +kernel
theorem dksX0_free_1 : cX0_free.data.toList.drop 24 = dktX0_free_1 := dk_seg dksX0_free_0 24 rfl rfl
theorem dksX0_free_2 : cX0_free.data.toList.drop 47 = dktX0_free_2 := dk_seg dksX0_free_1 23 rfl rfl
theorem dX0_free_0 : decode cX0_free 0 = .ok (.aload_n 0, 1) := dk_42 (dk_at dksX0_free_0 0 rfl rfl)
theorem dX0_free_1 : decode cX0_free 1 = .ok (.iload_n 1, 1) := dk_27 (dk_at dksX0_free_0 1 rfl rfl)
theorem dX0_free_2 : decode cX0_free 2 = .ok (.invokevirtual 448, 3) := dk_182 1 192 (dk_at dksX0_free_0 2 rfl rfl)
theorem dX0_free_5 : decode cX0_free 5 = .ok (.ifCond .eq 16, 3) := dk_153 0 16 (dk_at dksX0_free_0 5 rfl rfl)
theorem dX0_free_8 : decode cX0_free 8 = .ok (.iload_n 2, 1) := dk_28 (dk_at dksX0_free_0 8 rfl rfl)
theorem dX0_free_9 : decode cX0_free 9 = .ok (.ifCond .lt 12, 3) := dk_155 0 12 (dk_at dksX0_free_0 9 rfl rfl)
theorem dX0_free_12 : decode cX0_free 12 = .ok (.iload_n 3, 1) := dk_29 (dk_at dksX0_free_0 12 rfl rfl)
theorem dX0_free_13 : decode cX0_free 13 = .ok (.iconst 0, 1) := dk_3 (dk_at dksX0_free_0 13 rfl rfl)
theorem dX0_free_14 : decode cX0_free 14 = .ok (.iconst 3, 1) := dk_6 (dk_at dksX0_free_0 14 rfl rfl)
theorem dX0_free_15 : decode cX0_free 15 = .ok (.invokestatic 78, 3) := dk_184 0 78 (dk_at dksX0_free_0 15 rfl rfl)
theorem dX0_free_18 : decode cX0_free 18 = .ok (.ifCond .ne 5, 3) := dk_154 0 5 (dk_at dksX0_free_0 18 rfl rfl)
theorem dX0_free_21 : decode cX0_free 21 = .ok (.iconst (-1), 1) := dk_2 (dk_at dksX0_free_0 21 rfl rfl)
theorem dX0_free_22 : decode cX0_free 22 = .ok (.ireturn, 1) := dk_172 (dk_at dksX0_free_0 22 rfl rfl)
theorem dX0_free_23 : decode cX0_free 23 = .ok (.aload_n 0, 1) := dk_42 (dk_at dksX0_free_0 23 rfl rfl)
theorem dX0_free_24 : decode cX0_free 24 = .ok (.iload_n 1, 1) := dk_27 (dk_at dksX0_free_1 0 rfl rfl)
theorem dX0_free_25 : decode cX0_free 25 = .ok (.invokevirtual 391, 3) := dk_182 1 135 (dk_at dksX0_free_1 1 rfl rfl)
theorem dX0_free_28 : decode cX0_free 28 = .ok (.iload_n 2, 1) := dk_28 (dk_at dksX0_free_1 4 rfl rfl)
theorem dX0_free_29 : decode cX0_free 29 = .ok (.aload_n 0, 1) := dk_42 (dk_at dksX0_free_1 5 rfl rfl)
theorem dX0_free_30 : decode cX0_free 30 = .ok (.getfield 312, 3) := dk_180 1 56 (dk_at dksX0_free_1 6 rfl rfl)
theorem dX0_free_33 : decode cX0_free 33 = .ok (.if_icmp .ge 17, 3) := dk_162 0 17 (dk_at dksX0_free_1 9 rfl rfl)
theorem dX0_free_36 : decode cX0_free 36 = .ok (.aload_n 0, 1) := dk_42 (dk_at dksX0_free_1 12 rfl rfl)
theorem dX0_free_37 : decode cX0_free 37 = .ok (.aload_n 0, 1) := dk_42 (dk_at dksX0_free_1 13 rfl rfl)
theorem dX0_free_38 : decode cX0_free 38 = .ok (.iload_n 2, 1) := dk_28 (dk_at dksX0_free_1 14 rfl rfl)
theorem dX0_free_39 : decode cX0_free 39 = .ok (.iload_n 3, 1) := dk_29 (dk_at dksX0_free_1 15 rfl rfl)
theorem dX0_free_40 : decode cX0_free 40 = .ok (.invokevirtual 451, 3) := dk_182 1 195 (dk_at dksX0_free_1 16 rfl rfl)
theorem dX0_free_43 : decode cX0_free 43 = .ok (.iconst 1, 1) := dk_4 (dk_at dksX0_free_1 19 rfl rfl)
theorem dX0_free_44 : decode cX0_free 44 = .ok (.invokevirtual 96, 3) := dk_182 0 96 (dk_at dksX0_free_1 20 rfl rfl)
theorem dX0_free_47 : decode cX0_free 47 = .ok (.goto 5, 3) := dk_167 0 5 (dk_at dksX0_free_2 0 rfl rfl)
theorem dX0_free_50 : decode cX0_free 50 = .ok (.bipush (-9), 2) := dk_16 247 (dk_at dksX0_free_2 3 rfl rfl)
theorem dX0_free_52 : decode cX0_free 52 = .ok (.ireturn, 1) := dk_172 (dk_at dksX0_free_2 5 rfl rfl)
abbrev cX0_isPage : ByteArray := prog_1_method_63_code
def yX0_isPage : MethodName := ⟨RX0, "isPage", "(I)Z"⟩
def dkwX0_isPage_0 : List UInt8 := [27, 3, 42, 182, 1, 143, 4, 100, 184, 0, 78, 172]
abbrev dktX0_isPage_0 : List UInt8 := dkwX0_isPage_0 ++ []
theorem dksX0_isPage_0 : cX0_isPage.data.toList.drop 0 = dktX0_isPage_0 := by decide +kernel
theorem dX0_isPage_0 : decode cX0_isPage 0 = .ok (.iload_n 1, 1) := dk_27 (dk_at dksX0_isPage_0 0 rfl rfl)
theorem dX0_isPage_1 : decode cX0_isPage 1 = .ok (.iconst 0, 1) := dk_3 (dk_at dksX0_isPage_0 1 rfl rfl)
theorem dX0_isPage_2 : decode cX0_isPage 2 = .ok (.aload_n 0, 1) := dk_42 (dk_at dksX0_isPage_0 2 rfl rfl)
theorem dX0_isPage_3 : decode cX0_isPage 3 = .ok (.invokevirtual 399, 3) := dk_182 1 143 (dk_at dksX0_isPage_0 3 rfl rfl)
theorem dX0_isPage_6 : decode cX0_isPage 6 = .ok (.iconst 1, 1) := dk_4 (dk_at dksX0_isPage_0 6 rfl rfl)
theorem dX0_isPage_7 : decode cX0_isPage 7 = .ok (.isub, 1) := dk_100 (dk_at dksX0_isPage_0 7 rfl rfl)
theorem dX0_isPage_8 : decode cX0_isPage 8 = .ok (.invokestatic 78, 3) := dk_184 0 78 (dk_at dksX0_isPage_0 8 rfl rfl)
theorem dX0_isPage_11 : decode cX0_isPage 11 = .ok (.ireturn, 1) := dk_172 (dk_at dksX0_isPage_0 11 rfl rfl)
abbrev cX0_freeTells : ByteArray := prog_1_method_64_code
def yX0_freeTells : MethodName := ⟨RX0, "freeTells", "(II)I"⟩
def dkwX0_freeTells_3 : List UInt8 := [167, 0, 9, 42, 180, 0, 56, 27, 46, 172]
abbrev dktX0_freeTells_3 : List UInt8 := dkwX0_freeTells_3 ++ []
def dkwX0_freeTells_2 : List UInt8 := [42, 180, 0, 47, 27, 46, 167, 0, 27, 42, 180, 0, 50, 27, 46, 167, 0, 18, 42, 180, 0, 53, 27, 46]
abbrev dktX0_freeTells_2 : List UInt8 := dkwX0_freeTells_2 ++ dktX0_freeTells_3
def dkwX0_freeTells_1 : List UInt8 := [170, 0, 0, 0, 0, 0, 54, 0, 0, 0, 0, 0, 0, 0, 2, 0, 0, 0, 27, 0, 0, 0, 36, 0, 0, 0, 45]
abbrev dktX0_freeTells_1 : List UInt8 := dkwX0_freeTells_1 ++ dktX0_freeTells_2
def dkwX0_freeTells_0 : List UInt8 := [28]
abbrev dktX0_freeTells_0 : List UInt8 := dkwX0_freeTells_0 ++ dktX0_freeTells_1
theorem dksX0_freeTells_0 : cX0_freeTells.data.toList.drop 0 = dktX0_freeTells_0 := by decide +kernel
theorem dksX0_freeTells_1 : cX0_freeTells.data.toList.drop 1 = dktX0_freeTells_1 := dk_seg dksX0_freeTells_0 1 rfl rfl
theorem dksX0_freeTells_2 : cX0_freeTells.data.toList.drop 28 = dktX0_freeTells_2 := dk_seg dksX0_freeTells_1 27 rfl rfl
theorem dksX0_freeTells_3 : cX0_freeTells.data.toList.drop 52 = dktX0_freeTells_3 := dk_seg dksX0_freeTells_2 24 rfl rfl
theorem dX0_freeTells_0 : decode cX0_freeTells 0 = .ok (.iload_n 2, 1) := dk_28 (dk_at dksX0_freeTells_0 0 rfl rfl)
theorem dX0_freeTells_1 : decode cX0_freeTells 1 = .ok (.tableswitch 54 0 2 #[27, 36, 45], 27) := by decide +kernel
theorem dX0_freeTells_28 : decode cX0_freeTells 28 = .ok (.aload_n 0, 1) := dk_42 (dk_at dksX0_freeTells_2 0 rfl rfl)
theorem dX0_freeTells_29 : decode cX0_freeTells 29 = .ok (.getfield 47, 3) := dk_180 0 47 (dk_at dksX0_freeTells_2 1 rfl rfl)
theorem dX0_freeTells_32 : decode cX0_freeTells 32 = .ok (.iload_n 1, 1) := dk_27 (dk_at dksX0_freeTells_2 4 rfl rfl)
theorem dX0_freeTells_33 : decode cX0_freeTells 33 = .ok (.iaload, 1) := dk_46 (dk_at dksX0_freeTells_2 5 rfl rfl)
theorem dX0_freeTells_34 : decode cX0_freeTells 34 = .ok (.goto 27, 3) := dk_167 0 27 (dk_at dksX0_freeTells_2 6 rfl rfl)
theorem dX0_freeTells_37 : decode cX0_freeTells 37 = .ok (.aload_n 0, 1) := dk_42 (dk_at dksX0_freeTells_2 9 rfl rfl)
theorem dX0_freeTells_38 : decode cX0_freeTells 38 = .ok (.getfield 50, 3) := dk_180 0 50 (dk_at dksX0_freeTells_2 10 rfl rfl)
theorem dX0_freeTells_41 : decode cX0_freeTells 41 = .ok (.iload_n 1, 1) := dk_27 (dk_at dksX0_freeTells_2 13 rfl rfl)
theorem dX0_freeTells_42 : decode cX0_freeTells 42 = .ok (.iaload, 1) := dk_46 (dk_at dksX0_freeTells_2 14 rfl rfl)
theorem dX0_freeTells_43 : decode cX0_freeTells 43 = .ok (.goto 18, 3) := dk_167 0 18 (dk_at dksX0_freeTells_2 15 rfl rfl)
theorem dX0_freeTells_46 : decode cX0_freeTells 46 = .ok (.aload_n 0, 1) := dk_42 (dk_at dksX0_freeTells_2 18 rfl rfl)
theorem dX0_freeTells_47 : decode cX0_freeTells 47 = .ok (.getfield 53, 3) := dk_180 0 53 (dk_at dksX0_freeTells_2 19 rfl rfl)
theorem dX0_freeTells_50 : decode cX0_freeTells 50 = .ok (.iload_n 1, 1) := dk_27 (dk_at dksX0_freeTells_2 22 rfl rfl)
theorem dX0_freeTells_51 : decode cX0_freeTells 51 = .ok (.iaload, 1) := dk_46 (dk_at dksX0_freeTells_2 23 rfl rfl)
theorem dX0_freeTells_52 : decode cX0_freeTells 52 = .ok (.goto 9, 3) := dk_167 0 9 (dk_at dksX0_freeTells_3 0 rfl rfl)
theorem dX0_freeTells_55 : decode cX0_freeTells 55 = .ok (.aload_n 0, 1) := dk_42 (dk_at dksX0_freeTells_3 3 rfl rfl)
theorem dX0_freeTells_56 : decode cX0_freeTells 56 = .ok (.getfield 56, 3) := dk_180 0 56 (dk_at dksX0_freeTells_3 4 rfl rfl)
theorem dX0_freeTells_59 : decode cX0_freeTells 59 = .ok (.iload_n 1, 1) := dk_27 (dk_at dksX0_freeTells_3 7 rfl rfl)
theorem dX0_freeTells_60 : decode cX0_freeTells 60 = .ok (.iaload, 1) := dk_46 (dk_at dksX0_freeTells_3 8 rfl rfl)
theorem dX0_freeTells_61 : decode cX0_freeTells 61 = .ok (.ireturn, 1) := dk_172 (dk_at dksX0_freeTells_3 9 rfl rfl)
abbrev cX0_seen : ByteArray := prog_1_method_67_code
def yX0_seen : MethodName := ⟨RX0, "seen", "(III)I"⟩
def dkwX0_seen_8 : List UInt8 := [182, 1, 214, 96, 21, 9, 96, 21, 4, 182, 0, 96, 172, 132, 4, 1, 167, 255, 93, 16, 247, 172]
abbrev dktX0_seen_8 : List UInt8 := dkwX0_seen_8 ++ []
def dkwX0_seen_7 : List UInt8 := [182, 1, 209, 4, 100, 184, 1, 206, 54, 9, 42, 16, 100, 25, 5, 182, 1, 211, 21, 8, 96, 104, 25, 5]
abbrev dktX0_seen_7 : List UInt8 := dkwX0_seen_7 ++ dktX0_seen_8
def dkwX0_seen_6 : List UInt8 := [184, 1, 206, 54, 8, 25, 5, 180, 1, 69, 153, 0, 8, 21, 6, 167, 0, 5, 21, 7, 25, 5]
abbrev dktX0_seen_6 : List UInt8 := dkwX0_seen_6 ++ dktX0_seen_7
def dkwX0_seen_5 : List UInt8 := [54, 7, 25, 5, 180, 1, 69, 153, 0, 8, 21, 7, 167, 0, 5, 21, 6, 25, 5, 182, 1, 204, 4, 100]
abbrev dktX0_seen_5 : List UInt8 := dkwX0_seen_5 ++ dktX0_seen_6
def dkwX0_seen_4 : List UInt8 := [182, 1, 201, 100, 54, 6, 29, 25, 5, 180, 1, 77, 100, 25, 5, 42, 180, 0, 254, 182, 1, 201, 100]
abbrev dktX0_seen_4 : List UInt8 := dkwX0_seen_4 ++ dktX0_seen_5
def dkwX0_seen_3 : List UInt8 := [180, 0, 254, 28, 29, 182, 1, 198, 153, 0, 122, 28, 25, 5, 180, 1, 66, 100, 25, 5, 42, 180, 0, 254]
abbrev dktX0_seen_3 : List UInt8 := dkwX0_seen_3 ++ dktX0_seen_4
def dkwX0_seen_2 : List UInt8 := [162, 0, 160, 42, 180, 0, 33, 21, 4, 50, 58, 5, 25, 5, 180, 1, 31, 27, 160, 0, 136, 25, 5, 42]
abbrev dktX0_seen_2 : List UInt8 := dkwX0_seen_2 ++ dktX0_seen_3
def dkwX0_seen_1 : List UInt8 := [42, 180, 0, 251, 4, 100, 184, 0, 78, 154, 0, 5, 2, 172, 3, 54, 4, 21, 4, 42, 180, 0, 245]
abbrev dktX0_seen_1 : List UInt8 := dkwX0_seen_1 ++ dktX0_seen_2
def dkwX0_seen_0 : List UInt8 := [42, 27, 182, 1, 192, 153, 0, 31, 28, 3, 42, 180, 0, 248, 4, 100, 184, 0, 78, 153, 0, 17, 29, 3]
abbrev dktX0_seen_0 : List UInt8 := dkwX0_seen_0 ++ dktX0_seen_1
theorem dksX0_seen_0 : cX0_seen.data.toList.drop 0 = dktX0_seen_0 := by decide +kernel
theorem dksX0_seen_1 : cX0_seen.data.toList.drop 24 = dktX0_seen_1 := dk_seg dksX0_seen_0 24 rfl rfl
theorem dksX0_seen_2 : cX0_seen.data.toList.drop 47 = dktX0_seen_2 := dk_seg dksX0_seen_1 23 rfl rfl
theorem dksX0_seen_3 : cX0_seen.data.toList.drop 71 = dktX0_seen_3 := dk_seg dksX0_seen_2 24 rfl rfl
theorem dksX0_seen_4 : cX0_seen.data.toList.drop 95 = dktX0_seen_4 := dk_seg dksX0_seen_3 24 rfl rfl
theorem dksX0_seen_5 : cX0_seen.data.toList.drop 118 = dktX0_seen_5 := dk_seg dksX0_seen_4 23 rfl rfl
theorem dksX0_seen_6 : cX0_seen.data.toList.drop 142 = dktX0_seen_6 := dk_seg dksX0_seen_5 24 rfl rfl
theorem dksX0_seen_7 : cX0_seen.data.toList.drop 164 = dktX0_seen_7 := dk_seg dksX0_seen_6 22 rfl rfl
theorem dksX0_seen_8 : cX0_seen.data.toList.drop 188 = dktX0_seen_8 := dk_seg dksX0_seen_7 24 rfl rfl
theorem dX0_seen_0 : decode cX0_seen 0 = .ok (.aload_n 0, 1) := dk_42 (dk_at dksX0_seen_0 0 rfl rfl)
theorem dX0_seen_1 : decode cX0_seen 1 = .ok (.iload_n 1, 1) := dk_27 (dk_at dksX0_seen_0 1 rfl rfl)
theorem dX0_seen_2 : decode cX0_seen 2 = .ok (.invokevirtual 448, 3) := dk_182 1 192 (dk_at dksX0_seen_0 2 rfl rfl)
theorem dX0_seen_5 : decode cX0_seen 5 = .ok (.ifCond .eq 31, 3) := dk_153 0 31 (dk_at dksX0_seen_0 5 rfl rfl)
theorem dX0_seen_8 : decode cX0_seen 8 = .ok (.iload_n 2, 1) := dk_28 (dk_at dksX0_seen_0 8 rfl rfl)
theorem dX0_seen_9 : decode cX0_seen 9 = .ok (.iconst 0, 1) := dk_3 (dk_at dksX0_seen_0 9 rfl rfl)
theorem dX0_seen_10 : decode cX0_seen 10 = .ok (.aload_n 0, 1) := dk_42 (dk_at dksX0_seen_0 10 rfl rfl)
theorem dX0_seen_11 : decode cX0_seen 11 = .ok (.getfield 248, 3) := dk_180 0 248 (dk_at dksX0_seen_0 11 rfl rfl)
theorem dX0_seen_14 : decode cX0_seen 14 = .ok (.iconst 1, 1) := dk_4 (dk_at dksX0_seen_0 14 rfl rfl)
theorem dX0_seen_15 : decode cX0_seen 15 = .ok (.isub, 1) := dk_100 (dk_at dksX0_seen_0 15 rfl rfl)
theorem dX0_seen_16 : decode cX0_seen 16 = .ok (.invokestatic 78, 3) := dk_184 0 78 (dk_at dksX0_seen_0 16 rfl rfl)
theorem dX0_seen_19 : decode cX0_seen 19 = .ok (.ifCond .eq 17, 3) := dk_153 0 17 (dk_at dksX0_seen_0 19 rfl rfl)
theorem dX0_seen_22 : decode cX0_seen 22 = .ok (.iload_n 3, 1) := dk_29 (dk_at dksX0_seen_0 22 rfl rfl)
theorem dX0_seen_23 : decode cX0_seen 23 = .ok (.iconst 0, 1) := dk_3 (dk_at dksX0_seen_0 23 rfl rfl)
theorem dX0_seen_24 : decode cX0_seen 24 = .ok (.aload_n 0, 1) := dk_42 (dk_at dksX0_seen_1 0 rfl rfl)
theorem dX0_seen_25 : decode cX0_seen 25 = .ok (.getfield 251, 3) := dk_180 0 251 (dk_at dksX0_seen_1 1 rfl rfl)
theorem dX0_seen_28 : decode cX0_seen 28 = .ok (.iconst 1, 1) := dk_4 (dk_at dksX0_seen_1 4 rfl rfl)
theorem dX0_seen_29 : decode cX0_seen 29 = .ok (.isub, 1) := dk_100 (dk_at dksX0_seen_1 5 rfl rfl)
theorem dX0_seen_30 : decode cX0_seen 30 = .ok (.invokestatic 78, 3) := dk_184 0 78 (dk_at dksX0_seen_1 6 rfl rfl)
theorem dX0_seen_33 : decode cX0_seen 33 = .ok (.ifCond .ne 5, 3) := dk_154 0 5 (dk_at dksX0_seen_1 9 rfl rfl)
theorem dX0_seen_36 : decode cX0_seen 36 = .ok (.iconst (-1), 1) := dk_2 (dk_at dksX0_seen_1 12 rfl rfl)
theorem dX0_seen_37 : decode cX0_seen 37 = .ok (.ireturn, 1) := dk_172 (dk_at dksX0_seen_1 13 rfl rfl)
theorem dX0_seen_38 : decode cX0_seen 38 = .ok (.iconst 0, 1) := dk_3 (dk_at dksX0_seen_1 14 rfl rfl)
theorem dX0_seen_39 : decode cX0_seen 39 = .ok (.istore 4, 2) := dk_54 4 (dk_at dksX0_seen_1 15 rfl rfl)
theorem dX0_seen_41 : decode cX0_seen 41 = .ok (.iload 4, 2) := dk_21 4 (dk_at dksX0_seen_1 17 rfl rfl)
theorem dX0_seen_43 : decode cX0_seen 43 = .ok (.aload_n 0, 1) := dk_42 (dk_at dksX0_seen_1 19 rfl rfl)
theorem dX0_seen_44 : decode cX0_seen 44 = .ok (.getfield 245, 3) := dk_180 0 245 (dk_at dksX0_seen_1 20 rfl rfl)
theorem dX0_seen_47 : decode cX0_seen 47 = .ok (.if_icmp .ge 160, 3) := dk_162 0 160 (dk_at dksX0_seen_2 0 rfl rfl)
theorem dX0_seen_50 : decode cX0_seen 50 = .ok (.aload_n 0, 1) := dk_42 (dk_at dksX0_seen_2 3 rfl rfl)
theorem dX0_seen_51 : decode cX0_seen 51 = .ok (.getfield 33, 3) := dk_180 0 33 (dk_at dksX0_seen_2 4 rfl rfl)
theorem dX0_seen_54 : decode cX0_seen 54 = .ok (.iload 4, 2) := dk_21 4 (dk_at dksX0_seen_2 7 rfl rfl)
theorem dX0_seen_56 : decode cX0_seen 56 = .ok (.aaload, 1) := dk_50 (dk_at dksX0_seen_2 9 rfl rfl)
theorem dX0_seen_57 : decode cX0_seen 57 = .ok (.astore 5, 2) := dk_58 5 (dk_at dksX0_seen_2 10 rfl rfl)
theorem dX0_seen_59 : decode cX0_seen 59 = .ok (.aload 5, 2) := dk_25 5 (dk_at dksX0_seen_2 12 rfl rfl)
theorem dX0_seen_61 : decode cX0_seen 61 = .ok (.getfield 287, 3) := dk_180 1 31 (dk_at dksX0_seen_2 14 rfl rfl)
theorem dX0_seen_64 : decode cX0_seen 64 = .ok (.iload_n 1, 1) := dk_27 (dk_at dksX0_seen_2 17 rfl rfl)
theorem dX0_seen_65 : decode cX0_seen 65 = .ok (.if_icmp .ne 136, 3) := dk_160 0 136 (dk_at dksX0_seen_2 18 rfl rfl)
theorem dX0_seen_68 : decode cX0_seen 68 = .ok (.aload 5, 2) := dk_25 5 (dk_at dksX0_seen_2 21 rfl rfl)
theorem dX0_seen_70 : decode cX0_seen 70 = .ok (.aload_n 0, 1) := dk_42 (dk_at dksX0_seen_2 23 rfl rfl)
theorem dX0_seen_71 : decode cX0_seen 71 = .ok (.getfield 254, 3) := dk_180 0 254 (dk_at dksX0_seen_3 0 rfl rfl)
theorem dX0_seen_74 : decode cX0_seen 74 = .ok (.iload_n 2, 1) := dk_28 (dk_at dksX0_seen_3 3 rfl rfl)
theorem dX0_seen_75 : decode cX0_seen 75 = .ok (.iload_n 3, 1) := dk_29 (dk_at dksX0_seen_3 4 rfl rfl)
theorem dX0_seen_76 : decode cX0_seen 76 = .ok (.invokevirtual 454, 3) := dk_182 1 198 (dk_at dksX0_seen_3 5 rfl rfl)
theorem dX0_seen_79 : decode cX0_seen 79 = .ok (.ifCond .eq 122, 3) := dk_153 0 122 (dk_at dksX0_seen_3 8 rfl rfl)
theorem dX0_seen_82 : decode cX0_seen 82 = .ok (.iload_n 2, 1) := dk_28 (dk_at dksX0_seen_3 11 rfl rfl)
theorem dX0_seen_83 : decode cX0_seen 83 = .ok (.aload 5, 2) := dk_25 5 (dk_at dksX0_seen_3 12 rfl rfl)
theorem dX0_seen_85 : decode cX0_seen 85 = .ok (.getfield 322, 3) := dk_180 1 66 (dk_at dksX0_seen_3 14 rfl rfl)
theorem dX0_seen_88 : decode cX0_seen 88 = .ok (.isub, 1) := dk_100 (dk_at dksX0_seen_3 17 rfl rfl)
theorem dX0_seen_89 : decode cX0_seen 89 = .ok (.aload 5, 2) := dk_25 5 (dk_at dksX0_seen_3 18 rfl rfl)
theorem dX0_seen_91 : decode cX0_seen 91 = .ok (.aload_n 0, 1) := dk_42 (dk_at dksX0_seen_3 20 rfl rfl)
theorem dX0_seen_92 : decode cX0_seen 92 = .ok (.getfield 254, 3) := dk_180 0 254 (dk_at dksX0_seen_3 21 rfl rfl)
theorem dX0_seen_95 : decode cX0_seen 95 = .ok (.invokevirtual 457, 3) := dk_182 1 201 (dk_at dksX0_seen_4 0 rfl rfl)
theorem dX0_seen_98 : decode cX0_seen 98 = .ok (.isub, 1) := dk_100 (dk_at dksX0_seen_4 3 rfl rfl)
theorem dX0_seen_99 : decode cX0_seen 99 = .ok (.istore 6, 2) := dk_54 6 (dk_at dksX0_seen_4 4 rfl rfl)
theorem dX0_seen_101 : decode cX0_seen 101 = .ok (.iload_n 3, 1) := dk_29 (dk_at dksX0_seen_4 6 rfl rfl)
theorem dX0_seen_102 : decode cX0_seen 102 = .ok (.aload 5, 2) := dk_25 5 (dk_at dksX0_seen_4 7 rfl rfl)
theorem dX0_seen_104 : decode cX0_seen 104 = .ok (.getfield 333, 3) := dk_180 1 77 (dk_at dksX0_seen_4 9 rfl rfl)
theorem dX0_seen_107 : decode cX0_seen 107 = .ok (.isub, 1) := dk_100 (dk_at dksX0_seen_4 12 rfl rfl)
theorem dX0_seen_108 : decode cX0_seen 108 = .ok (.aload 5, 2) := dk_25 5 (dk_at dksX0_seen_4 13 rfl rfl)
theorem dX0_seen_110 : decode cX0_seen 110 = .ok (.aload_n 0, 1) := dk_42 (dk_at dksX0_seen_4 15 rfl rfl)
theorem dX0_seen_111 : decode cX0_seen 111 = .ok (.getfield 254, 3) := dk_180 0 254 (dk_at dksX0_seen_4 16 rfl rfl)
theorem dX0_seen_114 : decode cX0_seen 114 = .ok (.invokevirtual 457, 3) := dk_182 1 201 (dk_at dksX0_seen_4 19 rfl rfl)
theorem dX0_seen_117 : decode cX0_seen 117 = .ok (.isub, 1) := dk_100 (dk_at dksX0_seen_4 22 rfl rfl)
theorem dX0_seen_118 : decode cX0_seen 118 = .ok (.istore 7, 2) := dk_54 7 (dk_at dksX0_seen_5 0 rfl rfl)
theorem dX0_seen_120 : decode cX0_seen 120 = .ok (.aload 5, 2) := dk_25 5 (dk_at dksX0_seen_5 2 rfl rfl)
theorem dX0_seen_122 : decode cX0_seen 122 = .ok (.getfield 325, 3) := dk_180 1 69 (dk_at dksX0_seen_5 4 rfl rfl)
theorem dX0_seen_125 : decode cX0_seen 125 = .ok (.ifCond .eq 8, 3) := dk_153 0 8 (dk_at dksX0_seen_5 7 rfl rfl)
theorem dX0_seen_128 : decode cX0_seen 128 = .ok (.iload 7, 2) := dk_21 7 (dk_at dksX0_seen_5 10 rfl rfl)
theorem dX0_seen_130 : decode cX0_seen 130 = .ok (.goto 5, 3) := dk_167 0 5 (dk_at dksX0_seen_5 12 rfl rfl)
theorem dX0_seen_133 : decode cX0_seen 133 = .ok (.iload 6, 2) := dk_21 6 (dk_at dksX0_seen_5 15 rfl rfl)
theorem dX0_seen_135 : decode cX0_seen 135 = .ok (.aload 5, 2) := dk_25 5 (dk_at dksX0_seen_5 17 rfl rfl)
theorem dX0_seen_137 : decode cX0_seen 137 = .ok (.invokevirtual 460, 3) := dk_182 1 204 (dk_at dksX0_seen_5 19 rfl rfl)
theorem dX0_seen_140 : decode cX0_seen 140 = .ok (.iconst 1, 1) := dk_4 (dk_at dksX0_seen_5 22 rfl rfl)
theorem dX0_seen_141 : decode cX0_seen 141 = .ok (.isub, 1) := dk_100 (dk_at dksX0_seen_5 23 rfl rfl)
theorem dX0_seen_142 : decode cX0_seen 142 = .ok (.invokestatic 462, 3) := dk_184 1 206 (dk_at dksX0_seen_6 0 rfl rfl)
theorem dX0_seen_145 : decode cX0_seen 145 = .ok (.istore 8, 2) := dk_54 8 (dk_at dksX0_seen_6 3 rfl rfl)
theorem dX0_seen_147 : decode cX0_seen 147 = .ok (.aload 5, 2) := dk_25 5 (dk_at dksX0_seen_6 5 rfl rfl)
theorem dX0_seen_149 : decode cX0_seen 149 = .ok (.getfield 325, 3) := dk_180 1 69 (dk_at dksX0_seen_6 7 rfl rfl)
theorem dX0_seen_152 : decode cX0_seen 152 = .ok (.ifCond .eq 8, 3) := dk_153 0 8 (dk_at dksX0_seen_6 10 rfl rfl)
theorem dX0_seen_155 : decode cX0_seen 155 = .ok (.iload 6, 2) := dk_21 6 (dk_at dksX0_seen_6 13 rfl rfl)
theorem dX0_seen_157 : decode cX0_seen 157 = .ok (.goto 5, 3) := dk_167 0 5 (dk_at dksX0_seen_6 15 rfl rfl)
theorem dX0_seen_160 : decode cX0_seen 160 = .ok (.iload 7, 2) := dk_21 7 (dk_at dksX0_seen_6 18 rfl rfl)
theorem dX0_seen_162 : decode cX0_seen 162 = .ok (.aload 5, 2) := dk_25 5 (dk_at dksX0_seen_6 20 rfl rfl)
theorem dX0_seen_164 : decode cX0_seen 164 = .ok (.invokevirtual 465, 3) := dk_182 1 209 (dk_at dksX0_seen_7 0 rfl rfl)
theorem dX0_seen_167 : decode cX0_seen 167 = .ok (.iconst 1, 1) := dk_4 (dk_at dksX0_seen_7 3 rfl rfl)
theorem dX0_seen_168 : decode cX0_seen 168 = .ok (.isub, 1) := dk_100 (dk_at dksX0_seen_7 4 rfl rfl)
theorem dX0_seen_169 : decode cX0_seen 169 = .ok (.invokestatic 462, 3) := dk_184 1 206 (dk_at dksX0_seen_7 5 rfl rfl)
theorem dX0_seen_172 : decode cX0_seen 172 = .ok (.istore 9, 2) := dk_54 9 (dk_at dksX0_seen_7 8 rfl rfl)
theorem dX0_seen_174 : decode cX0_seen 174 = .ok (.aload_n 0, 1) := dk_42 (dk_at dksX0_seen_7 10 rfl rfl)
theorem dX0_seen_175 : decode cX0_seen 175 = .ok (.bipush 100, 2) := dk_16 100 (dk_at dksX0_seen_7 11 rfl rfl)
theorem dX0_seen_177 : decode cX0_seen 177 = .ok (.aload 5, 2) := dk_25 5 (dk_at dksX0_seen_7 13 rfl rfl)
theorem dX0_seen_179 : decode cX0_seen 179 = .ok (.invokevirtual 467, 3) := dk_182 1 211 (dk_at dksX0_seen_7 15 rfl rfl)
theorem dX0_seen_182 : decode cX0_seen 182 = .ok (.iload 8, 2) := dk_21 8 (dk_at dksX0_seen_7 18 rfl rfl)
theorem dX0_seen_184 : decode cX0_seen 184 = .ok (.iadd, 1) := dk_96 (dk_at dksX0_seen_7 20 rfl rfl)
theorem dX0_seen_185 : decode cX0_seen 185 = .ok (.imul, 1) := dk_104 (dk_at dksX0_seen_7 21 rfl rfl)
theorem dX0_seen_186 : decode cX0_seen 186 = .ok (.aload 5, 2) := dk_25 5 (dk_at dksX0_seen_7 22 rfl rfl)
theorem dX0_seen_188 : decode cX0_seen 188 = .ok (.invokevirtual 470, 3) := dk_182 1 214 (dk_at dksX0_seen_8 0 rfl rfl)
theorem dX0_seen_191 : decode cX0_seen 191 = .ok (.iadd, 1) := dk_96 (dk_at dksX0_seen_8 3 rfl rfl)
theorem dX0_seen_192 : decode cX0_seen 192 = .ok (.iload 9, 2) := dk_21 9 (dk_at dksX0_seen_8 4 rfl rfl)
theorem dX0_seen_194 : decode cX0_seen 194 = .ok (.iadd, 1) := dk_96 (dk_at dksX0_seen_8 6 rfl rfl)
theorem dX0_seen_195 : decode cX0_seen 195 = .ok (.iload 4, 2) := dk_21 4 (dk_at dksX0_seen_8 7 rfl rfl)
theorem dX0_seen_197 : decode cX0_seen 197 = .ok (.invokevirtual 96, 3) := dk_182 0 96 (dk_at dksX0_seen_8 9 rfl rfl)
theorem dX0_seen_200 : decode cX0_seen 200 = .ok (.ireturn, 1) := dk_172 (dk_at dksX0_seen_8 12 rfl rfl)
theorem dX0_seen_201 : decode cX0_seen 201 = .ok (.iinc 4 1, 3) := dk_132 4 1 (dk_at dksX0_seen_8 13 rfl rfl)
theorem dX0_seen_204 : decode cX0_seen 204 = .ok (.goto (-163), 3) := dk_167 255 93 (dk_at dksX0_seen_8 16 rfl rfl)
theorem dX0_seen_207 : decode cX0_seen 207 = .ok (.bipush (-9), 2) := dk_16 247 (dk_at dksX0_seen_8 19 rfl rfl)
theorem dX0_seen_209 : decode cX0_seen 209 = .ok (.ireturn, 1) := dk_172 (dk_at dksX0_seen_8 21 rfl rfl)
abbrev cX0_nearest : ByteArray := prog_1_method_66_code
def yX0_nearest : MethodName := ⟨RX0, "nearest", "(II)I"⟩
def dkwX0_nearest_0 : List UInt8 := [3, 27, 26, 184, 0, 177, 184, 1, 100, 172]
abbrev dktX0_nearest_0 : List UInt8 := dkwX0_nearest_0 ++ []
theorem dksX0_nearest_0 : cX0_nearest.data.toList.drop 0 = dktX0_nearest_0 := by decide +kernel
theorem dX0_nearest_0 : decode cX0_nearest 0 = .ok (.iconst 0, 1) := dk_3 (dk_at dksX0_nearest_0 0 rfl rfl)
theorem dX0_nearest_1 : decode cX0_nearest 1 = .ok (.iload_n 1, 1) := dk_27 (dk_at dksX0_nearest_0 1 rfl rfl)
theorem dX0_nearest_2 : decode cX0_nearest 2 = .ok (.iload_n 0, 1) := dk_26 (dk_at dksX0_nearest_0 2 rfl rfl)
theorem dX0_nearest_3 : decode cX0_nearest 3 = .ok (.invokestatic 177, 3) := dk_184 0 177 (dk_at dksX0_nearest_0 3 rfl rfl)
theorem dX0_nearest_6 : decode cX0_nearest 6 = .ok (.invokestatic 356, 3) := dk_184 1 100 (dk_at dksX0_nearest_0 6 rfl rfl)
theorem dX0_nearest_9 : decode cX0_nearest 9 = .ok (.ireturn, 1) := dk_172 (dk_at dksX0_nearest_0 9 rfl rfl)
abbrev cX0_point : ByteArray := prog_1_method_68_code
def yX0_point : MethodName := ⟨RX0, "point", "(III)I"⟩
def dkwX0_point_8 : List UInt8 := [17, 39, 16, 25, 4, 180, 1, 31, 104, 16, 100, 21, 7, 104, 96, 21, 8, 96, 172]
abbrev dktX0_point_8 : List UInt8 := dkwX0_point_8 ++ []
def dkwX0_point_7 : List UInt8 := [182, 1, 201, 96, 25, 4, 180, 1, 69, 153, 0, 8, 21, 5, 167, 0, 5, 21, 6, 96, 54, 8]
abbrev dktX0_point_7 : List UInt8 := dkwX0_point_7 ++ dktX0_point_8
def dkwX0_point_6 : List UInt8 := [153, 0, 8, 21, 6, 167, 0, 5, 21, 5, 96, 54, 7, 25, 4, 180, 1, 77, 25, 4, 42, 180, 0, 254]
abbrev dktX0_point_6 : List UInt8 := dkwX0_point_6 ++ dktX0_point_7
def dkwX0_point_5 : List UInt8 := [16, 247, 172, 25, 4, 180, 1, 66, 25, 4, 42, 180, 0, 254, 182, 1, 201, 96, 25, 4, 180, 1, 69]
abbrev dktX0_point_5 : List UInt8 := dkwX0_point_5 ++ dktX0_point_6
def dkwX0_point_4 : List UInt8 := [100, 184, 0, 78, 153, 0, 19, 21, 6, 3, 25, 4, 182, 1, 209, 4, 100, 184, 0, 78, 154, 0, 6]
abbrev dktX0_point_4 : List UInt8 := dkwX0_point_4 ++ dktX0_point_5
def dkwX0_point_3 : List UInt8 := [182, 1, 211, 100, 54, 5, 29, 25, 4, 182, 1, 214, 100, 54, 6, 21, 5, 3, 25, 4, 182, 1, 204, 4]
abbrev dktX0_point_3 : List UInt8 := dkwX0_point_3 ++ dktX0_point_4
def dkwX0_point_2 : List UInt8 := [42, 27, 182, 1, 39, 154, 0, 6, 16, 252, 172, 42, 180, 0, 33, 27, 50, 58, 4, 28, 25, 4]
abbrev dktX0_point_2 : List UInt8 := dkwX0_point_2 ++ dktX0_point_3
def dkwX0_point_1 : List UInt8 := [153, 0, 22, 29, 3, 42, 180, 0, 33, 27, 50, 180, 1, 220, 4, 100, 184, 0, 78, 154, 0, 5, 2, 172]
abbrev dktX0_point_1 : List UInt8 := dkwX0_point_1 ++ dktX0_point_2
def dkwX0_point_0 : List UInt8 := [42, 27, 182, 1, 33, 153, 0, 41, 28, 3, 42, 180, 0, 33, 27, 50, 180, 1, 217, 4, 100, 184, 0, 78]
abbrev dktX0_point_0 : List UInt8 := dkwX0_point_0 ++ dktX0_point_1
theorem dksX0_point_0 : cX0_point.data.toList.drop 0 = dktX0_point_0 := by decide +kernel
theorem dksX0_point_1 : cX0_point.data.toList.drop 24 = dktX0_point_1 := dk_seg dksX0_point_0 24 rfl rfl
theorem dksX0_point_2 : cX0_point.data.toList.drop 48 = dktX0_point_2 := dk_seg dksX0_point_1 24 rfl rfl
theorem dksX0_point_3 : cX0_point.data.toList.drop 70 = dktX0_point_3 := dk_seg dksX0_point_2 22 rfl rfl
theorem dksX0_point_4 : cX0_point.data.toList.drop 94 = dktX0_point_4 := dk_seg dksX0_point_3 24 rfl rfl
theorem dksX0_point_5 : cX0_point.data.toList.drop 117 = dktX0_point_5 := dk_seg dksX0_point_4 23 rfl rfl
theorem dksX0_point_6 : cX0_point.data.toList.drop 140 = dktX0_point_6 := dk_seg dksX0_point_5 23 rfl rfl
theorem dksX0_point_7 : cX0_point.data.toList.drop 164 = dktX0_point_7 := dk_seg dksX0_point_6 24 rfl rfl
theorem dksX0_point_8 : cX0_point.data.toList.drop 186 = dktX0_point_8 := dk_seg dksX0_point_7 22 rfl rfl
theorem dX0_point_0 : decode cX0_point 0 = .ok (.aload_n 0, 1) := dk_42 (dk_at dksX0_point_0 0 rfl rfl)
theorem dX0_point_1 : decode cX0_point 1 = .ok (.iload_n 1, 1) := dk_27 (dk_at dksX0_point_0 1 rfl rfl)
theorem dX0_point_2 : decode cX0_point 2 = .ok (.invokevirtual 289, 3) := dk_182 1 33 (dk_at dksX0_point_0 2 rfl rfl)
theorem dX0_point_5 : decode cX0_point 5 = .ok (.ifCond .eq 41, 3) := dk_153 0 41 (dk_at dksX0_point_0 5 rfl rfl)
theorem dX0_point_8 : decode cX0_point 8 = .ok (.iload_n 2, 1) := dk_28 (dk_at dksX0_point_0 8 rfl rfl)
theorem dX0_point_9 : decode cX0_point 9 = .ok (.iconst 0, 1) := dk_3 (dk_at dksX0_point_0 9 rfl rfl)
theorem dX0_point_10 : decode cX0_point 10 = .ok (.aload_n 0, 1) := dk_42 (dk_at dksX0_point_0 10 rfl rfl)
theorem dX0_point_11 : decode cX0_point 11 = .ok (.getfield 33, 3) := dk_180 0 33 (dk_at dksX0_point_0 11 rfl rfl)
theorem dX0_point_14 : decode cX0_point 14 = .ok (.iload_n 1, 1) := dk_27 (dk_at dksX0_point_0 14 rfl rfl)
theorem dX0_point_15 : decode cX0_point 15 = .ok (.aaload, 1) := dk_50 (dk_at dksX0_point_0 15 rfl rfl)
theorem dX0_point_16 : decode cX0_point 16 = .ok (.getfield 473, 3) := dk_180 1 217 (dk_at dksX0_point_0 16 rfl rfl)
theorem dX0_point_19 : decode cX0_point 19 = .ok (.iconst 1, 1) := dk_4 (dk_at dksX0_point_0 19 rfl rfl)
theorem dX0_point_20 : decode cX0_point 20 = .ok (.isub, 1) := dk_100 (dk_at dksX0_point_0 20 rfl rfl)
theorem dX0_point_21 : decode cX0_point 21 = .ok (.invokestatic 78, 3) := dk_184 0 78 (dk_at dksX0_point_0 21 rfl rfl)
theorem dX0_point_24 : decode cX0_point 24 = .ok (.ifCond .eq 22, 3) := dk_153 0 22 (dk_at dksX0_point_1 0 rfl rfl)
theorem dX0_point_27 : decode cX0_point 27 = .ok (.iload_n 3, 1) := dk_29 (dk_at dksX0_point_1 3 rfl rfl)
theorem dX0_point_28 : decode cX0_point 28 = .ok (.iconst 0, 1) := dk_3 (dk_at dksX0_point_1 4 rfl rfl)
theorem dX0_point_29 : decode cX0_point 29 = .ok (.aload_n 0, 1) := dk_42 (dk_at dksX0_point_1 5 rfl rfl)
theorem dX0_point_30 : decode cX0_point 30 = .ok (.getfield 33, 3) := dk_180 0 33 (dk_at dksX0_point_1 6 rfl rfl)
theorem dX0_point_33 : decode cX0_point 33 = .ok (.iload_n 1, 1) := dk_27 (dk_at dksX0_point_1 9 rfl rfl)
theorem dX0_point_34 : decode cX0_point 34 = .ok (.aaload, 1) := dk_50 (dk_at dksX0_point_1 10 rfl rfl)
theorem dX0_point_35 : decode cX0_point 35 = .ok (.getfield 476, 3) := dk_180 1 220 (dk_at dksX0_point_1 11 rfl rfl)
theorem dX0_point_38 : decode cX0_point 38 = .ok (.iconst 1, 1) := dk_4 (dk_at dksX0_point_1 14 rfl rfl)
theorem dX0_point_39 : decode cX0_point 39 = .ok (.isub, 1) := dk_100 (dk_at dksX0_point_1 15 rfl rfl)
theorem dX0_point_40 : decode cX0_point 40 = .ok (.invokestatic 78, 3) := dk_184 0 78 (dk_at dksX0_point_1 16 rfl rfl)
theorem dX0_point_43 : decode cX0_point 43 = .ok (.ifCond .ne 5, 3) := dk_154 0 5 (dk_at dksX0_point_1 19 rfl rfl)
theorem dX0_point_46 : decode cX0_point 46 = .ok (.iconst (-1), 1) := dk_2 (dk_at dksX0_point_1 22 rfl rfl)
theorem dX0_point_47 : decode cX0_point 47 = .ok (.ireturn, 1) := dk_172 (dk_at dksX0_point_1 23 rfl rfl)
theorem dX0_point_48 : decode cX0_point 48 = .ok (.aload_n 0, 1) := dk_42 (dk_at dksX0_point_2 0 rfl rfl)
theorem dX0_point_49 : decode cX0_point 49 = .ok (.iload_n 1, 1) := dk_27 (dk_at dksX0_point_2 1 rfl rfl)
theorem dX0_point_50 : decode cX0_point 50 = .ok (.invokevirtual 295, 3) := dk_182 1 39 (dk_at dksX0_point_2 2 rfl rfl)
theorem dX0_point_53 : decode cX0_point 53 = .ok (.ifCond .ne 6, 3) := dk_154 0 6 (dk_at dksX0_point_2 5 rfl rfl)
theorem dX0_point_56 : decode cX0_point 56 = .ok (.bipush (-4), 2) := dk_16 252 (dk_at dksX0_point_2 8 rfl rfl)
theorem dX0_point_58 : decode cX0_point 58 = .ok (.ireturn, 1) := dk_172 (dk_at dksX0_point_2 10 rfl rfl)
theorem dX0_point_59 : decode cX0_point 59 = .ok (.aload_n 0, 1) := dk_42 (dk_at dksX0_point_2 11 rfl rfl)
theorem dX0_point_60 : decode cX0_point 60 = .ok (.getfield 33, 3) := dk_180 0 33 (dk_at dksX0_point_2 12 rfl rfl)
theorem dX0_point_63 : decode cX0_point 63 = .ok (.iload_n 1, 1) := dk_27 (dk_at dksX0_point_2 15 rfl rfl)
theorem dX0_point_64 : decode cX0_point 64 = .ok (.aaload, 1) := dk_50 (dk_at dksX0_point_2 16 rfl rfl)
theorem dX0_point_65 : decode cX0_point 65 = .ok (.astore 4, 2) := dk_58 4 (dk_at dksX0_point_2 17 rfl rfl)
theorem dX0_point_67 : decode cX0_point 67 = .ok (.iload_n 2, 1) := dk_28 (dk_at dksX0_point_2 19 rfl rfl)
theorem dX0_point_68 : decode cX0_point 68 = .ok (.aload 4, 2) := dk_25 4 (dk_at dksX0_point_2 20 rfl rfl)
theorem dX0_point_70 : decode cX0_point 70 = .ok (.invokevirtual 467, 3) := dk_182 1 211 (dk_at dksX0_point_3 0 rfl rfl)
theorem dX0_point_73 : decode cX0_point 73 = .ok (.isub, 1) := dk_100 (dk_at dksX0_point_3 3 rfl rfl)
theorem dX0_point_74 : decode cX0_point 74 = .ok (.istore 5, 2) := dk_54 5 (dk_at dksX0_point_3 4 rfl rfl)
theorem dX0_point_76 : decode cX0_point 76 = .ok (.iload_n 3, 1) := dk_29 (dk_at dksX0_point_3 6 rfl rfl)
theorem dX0_point_77 : decode cX0_point 77 = .ok (.aload 4, 2) := dk_25 4 (dk_at dksX0_point_3 7 rfl rfl)
theorem dX0_point_79 : decode cX0_point 79 = .ok (.invokevirtual 470, 3) := dk_182 1 214 (dk_at dksX0_point_3 9 rfl rfl)
theorem dX0_point_82 : decode cX0_point 82 = .ok (.isub, 1) := dk_100 (dk_at dksX0_point_3 12 rfl rfl)
theorem dX0_point_83 : decode cX0_point 83 = .ok (.istore 6, 2) := dk_54 6 (dk_at dksX0_point_3 13 rfl rfl)
theorem dX0_point_85 : decode cX0_point 85 = .ok (.iload 5, 2) := dk_21 5 (dk_at dksX0_point_3 15 rfl rfl)
theorem dX0_point_87 : decode cX0_point 87 = .ok (.iconst 0, 1) := dk_3 (dk_at dksX0_point_3 17 rfl rfl)
theorem dX0_point_88 : decode cX0_point 88 = .ok (.aload 4, 2) := dk_25 4 (dk_at dksX0_point_3 18 rfl rfl)
theorem dX0_point_90 : decode cX0_point 90 = .ok (.invokevirtual 460, 3) := dk_182 1 204 (dk_at dksX0_point_3 20 rfl rfl)
theorem dX0_point_93 : decode cX0_point 93 = .ok (.iconst 1, 1) := dk_4 (dk_at dksX0_point_3 23 rfl rfl)
theorem dX0_point_94 : decode cX0_point 94 = .ok (.isub, 1) := dk_100 (dk_at dksX0_point_4 0 rfl rfl)
theorem dX0_point_95 : decode cX0_point 95 = .ok (.invokestatic 78, 3) := dk_184 0 78 (dk_at dksX0_point_4 1 rfl rfl)
theorem dX0_point_98 : decode cX0_point 98 = .ok (.ifCond .eq 19, 3) := dk_153 0 19 (dk_at dksX0_point_4 4 rfl rfl)
theorem dX0_point_101 : decode cX0_point 101 = .ok (.iload 6, 2) := dk_21 6 (dk_at dksX0_point_4 7 rfl rfl)
theorem dX0_point_103 : decode cX0_point 103 = .ok (.iconst 0, 1) := dk_3 (dk_at dksX0_point_4 9 rfl rfl)
theorem dX0_point_104 : decode cX0_point 104 = .ok (.aload 4, 2) := dk_25 4 (dk_at dksX0_point_4 10 rfl rfl)
theorem dX0_point_106 : decode cX0_point 106 = .ok (.invokevirtual 465, 3) := dk_182 1 209 (dk_at dksX0_point_4 12 rfl rfl)
theorem dX0_point_109 : decode cX0_point 109 = .ok (.iconst 1, 1) := dk_4 (dk_at dksX0_point_4 15 rfl rfl)
theorem dX0_point_110 : decode cX0_point 110 = .ok (.isub, 1) := dk_100 (dk_at dksX0_point_4 16 rfl rfl)
theorem dX0_point_111 : decode cX0_point 111 = .ok (.invokestatic 78, 3) := dk_184 0 78 (dk_at dksX0_point_4 17 rfl rfl)
theorem dX0_point_114 : decode cX0_point 114 = .ok (.ifCond .ne 6, 3) := dk_154 0 6 (dk_at dksX0_point_4 20 rfl rfl)
theorem dX0_point_117 : decode cX0_point 117 = .ok (.bipush (-9), 2) := dk_16 247 (dk_at dksX0_point_5 0 rfl rfl)
theorem dX0_point_119 : decode cX0_point 119 = .ok (.ireturn, 1) := dk_172 (dk_at dksX0_point_5 2 rfl rfl)
theorem dX0_point_120 : decode cX0_point 120 = .ok (.aload 4, 2) := dk_25 4 (dk_at dksX0_point_5 3 rfl rfl)
theorem dX0_point_122 : decode cX0_point 122 = .ok (.getfield 322, 3) := dk_180 1 66 (dk_at dksX0_point_5 5 rfl rfl)
theorem dX0_point_125 : decode cX0_point 125 = .ok (.aload 4, 2) := dk_25 4 (dk_at dksX0_point_5 8 rfl rfl)
theorem dX0_point_127 : decode cX0_point 127 = .ok (.aload_n 0, 1) := dk_42 (dk_at dksX0_point_5 10 rfl rfl)
theorem dX0_point_128 : decode cX0_point 128 = .ok (.getfield 254, 3) := dk_180 0 254 (dk_at dksX0_point_5 11 rfl rfl)
theorem dX0_point_131 : decode cX0_point 131 = .ok (.invokevirtual 457, 3) := dk_182 1 201 (dk_at dksX0_point_5 14 rfl rfl)
theorem dX0_point_134 : decode cX0_point 134 = .ok (.iadd, 1) := dk_96 (dk_at dksX0_point_5 17 rfl rfl)
theorem dX0_point_135 : decode cX0_point 135 = .ok (.aload 4, 2) := dk_25 4 (dk_at dksX0_point_5 18 rfl rfl)
theorem dX0_point_137 : decode cX0_point 137 = .ok (.getfield 325, 3) := dk_180 1 69 (dk_at dksX0_point_5 20 rfl rfl)
theorem dX0_point_140 : decode cX0_point 140 = .ok (.ifCond .eq 8, 3) := dk_153 0 8 (dk_at dksX0_point_6 0 rfl rfl)
theorem dX0_point_143 : decode cX0_point 143 = .ok (.iload 6, 2) := dk_21 6 (dk_at dksX0_point_6 3 rfl rfl)
theorem dX0_point_145 : decode cX0_point 145 = .ok (.goto 5, 3) := dk_167 0 5 (dk_at dksX0_point_6 5 rfl rfl)
theorem dX0_point_148 : decode cX0_point 148 = .ok (.iload 5, 2) := dk_21 5 (dk_at dksX0_point_6 8 rfl rfl)
theorem dX0_point_150 : decode cX0_point 150 = .ok (.iadd, 1) := dk_96 (dk_at dksX0_point_6 10 rfl rfl)
theorem dX0_point_151 : decode cX0_point 151 = .ok (.istore 7, 2) := dk_54 7 (dk_at dksX0_point_6 11 rfl rfl)
theorem dX0_point_153 : decode cX0_point 153 = .ok (.aload 4, 2) := dk_25 4 (dk_at dksX0_point_6 13 rfl rfl)
theorem dX0_point_155 : decode cX0_point 155 = .ok (.getfield 333, 3) := dk_180 1 77 (dk_at dksX0_point_6 15 rfl rfl)
theorem dX0_point_158 : decode cX0_point 158 = .ok (.aload 4, 2) := dk_25 4 (dk_at dksX0_point_6 18 rfl rfl)
theorem dX0_point_160 : decode cX0_point 160 = .ok (.aload_n 0, 1) := dk_42 (dk_at dksX0_point_6 20 rfl rfl)
theorem dX0_point_161 : decode cX0_point 161 = .ok (.getfield 254, 3) := dk_180 0 254 (dk_at dksX0_point_6 21 rfl rfl)
theorem dX0_point_164 : decode cX0_point 164 = .ok (.invokevirtual 457, 3) := dk_182 1 201 (dk_at dksX0_point_7 0 rfl rfl)
theorem dX0_point_167 : decode cX0_point 167 = .ok (.iadd, 1) := dk_96 (dk_at dksX0_point_7 3 rfl rfl)
theorem dX0_point_168 : decode cX0_point 168 = .ok (.aload 4, 2) := dk_25 4 (dk_at dksX0_point_7 4 rfl rfl)
theorem dX0_point_170 : decode cX0_point 170 = .ok (.getfield 325, 3) := dk_180 1 69 (dk_at dksX0_point_7 6 rfl rfl)
theorem dX0_point_173 : decode cX0_point 173 = .ok (.ifCond .eq 8, 3) := dk_153 0 8 (dk_at dksX0_point_7 9 rfl rfl)
theorem dX0_point_176 : decode cX0_point 176 = .ok (.iload 5, 2) := dk_21 5 (dk_at dksX0_point_7 12 rfl rfl)
theorem dX0_point_178 : decode cX0_point 178 = .ok (.goto 5, 3) := dk_167 0 5 (dk_at dksX0_point_7 14 rfl rfl)
theorem dX0_point_181 : decode cX0_point 181 = .ok (.iload 6, 2) := dk_21 6 (dk_at dksX0_point_7 17 rfl rfl)
theorem dX0_point_183 : decode cX0_point 183 = .ok (.iadd, 1) := dk_96 (dk_at dksX0_point_7 19 rfl rfl)
theorem dX0_point_184 : decode cX0_point 184 = .ok (.istore 8, 2) := dk_54 8 (dk_at dksX0_point_7 20 rfl rfl)
theorem dX0_point_186 : decode cX0_point 186 = .ok (.sipush 10000, 3) := dk_17 39 16 (dk_at dksX0_point_8 0 rfl rfl)
theorem dX0_point_189 : decode cX0_point 189 = .ok (.aload 4, 2) := dk_25 4 (dk_at dksX0_point_8 3 rfl rfl)
theorem dX0_point_191 : decode cX0_point 191 = .ok (.getfield 287, 3) := dk_180 1 31 (dk_at dksX0_point_8 5 rfl rfl)
theorem dX0_point_194 : decode cX0_point 194 = .ok (.imul, 1) := dk_104 (dk_at dksX0_point_8 8 rfl rfl)
theorem dX0_point_195 : decode cX0_point 195 = .ok (.bipush 100, 2) := dk_16 100 (dk_at dksX0_point_8 9 rfl rfl)
theorem dX0_point_197 : decode cX0_point 197 = .ok (.iload 7, 2) := dk_21 7 (dk_at dksX0_point_8 11 rfl rfl)
theorem dX0_point_199 : decode cX0_point 199 = .ok (.imul, 1) := dk_104 (dk_at dksX0_point_8 13 rfl rfl)
theorem dX0_point_200 : decode cX0_point 200 = .ok (.iadd, 1) := dk_96 (dk_at dksX0_point_8 14 rfl rfl)
theorem dX0_point_201 : decode cX0_point 201 = .ok (.iload 8, 2) := dk_21 8 (dk_at dksX0_point_8 15 rfl rfl)
theorem dX0_point_203 : decode cX0_point 203 = .ok (.iadd, 1) := dk_96 (dk_at dksX0_point_8 17 rfl rfl)
theorem dX0_point_204 : decode cX0_point 204 = .ok (.ireturn, 1) := dk_172 (dk_at dksX0_point_8 18 rfl rfl)
abbrev cX0_used : ByteArray := prog_1_method_70_code
def yX0_used : MethodName := ⟨RX0, "used", "(I)I"⟩
def dkwX0_used_1 : List UInt8 := [180, 0, 248, 42, 180, 0, 251, 104, 108, 28, 182, 0, 96, 172]
abbrev dktX0_used_1 : List UInt8 := dkwX0_used_1 ++ []
def dkwX0_used_0 : List UInt8 := [42, 27, 182, 1, 192, 154, 0, 5, 2, 172, 42, 27, 182, 1, 223, 61, 42, 16, 100, 28, 104, 42]
abbrev dktX0_used_0 : List UInt8 := dkwX0_used_0 ++ dktX0_used_1
theorem dksX0_used_0 : cX0_used.data.toList.drop 0 = dktX0_used_0 := by decide +kernel
theorem dksX0_used_1 : cX0_used.data.toList.drop 22 = dktX0_used_1 := dk_seg dksX0_used_0 22 rfl rfl
theorem dX0_used_0 : decode cX0_used 0 = .ok (.aload_n 0, 1) := dk_42 (dk_at dksX0_used_0 0 rfl rfl)
theorem dX0_used_1 : decode cX0_used 1 = .ok (.iload_n 1, 1) := dk_27 (dk_at dksX0_used_0 1 rfl rfl)
theorem dX0_used_2 : decode cX0_used 2 = .ok (.invokevirtual 448, 3) := dk_182 1 192 (dk_at dksX0_used_0 2 rfl rfl)
theorem dX0_used_5 : decode cX0_used 5 = .ok (.ifCond .ne 5, 3) := dk_154 0 5 (dk_at dksX0_used_0 5 rfl rfl)
theorem dX0_used_8 : decode cX0_used 8 = .ok (.iconst (-1), 1) := dk_2 (dk_at dksX0_used_0 8 rfl rfl)
theorem dX0_used_9 : decode cX0_used 9 = .ok (.ireturn, 1) := dk_172 (dk_at dksX0_used_0 9 rfl rfl)
theorem dX0_used_10 : decode cX0_used 10 = .ok (.aload_n 0, 1) := dk_42 (dk_at dksX0_used_0 10 rfl rfl)
theorem dX0_used_11 : decode cX0_used 11 = .ok (.iload_n 1, 1) := dk_27 (dk_at dksX0_used_0 11 rfl rfl)
theorem dX0_used_12 : decode cX0_used 12 = .ok (.invokevirtual 479, 3) := dk_182 1 223 (dk_at dksX0_used_0 12 rfl rfl)
theorem dX0_used_15 : decode cX0_used 15 = .ok (.istore_n 2, 1) := dk_61 (dk_at dksX0_used_0 15 rfl rfl)
theorem dX0_used_16 : decode cX0_used 16 = .ok (.aload_n 0, 1) := dk_42 (dk_at dksX0_used_0 16 rfl rfl)
theorem dX0_used_17 : decode cX0_used 17 = .ok (.bipush 100, 2) := dk_16 100 (dk_at dksX0_used_0 17 rfl rfl)
theorem dX0_used_19 : decode cX0_used 19 = .ok (.iload_n 2, 1) := dk_28 (dk_at dksX0_used_0 19 rfl rfl)
theorem dX0_used_20 : decode cX0_used 20 = .ok (.imul, 1) := dk_104 (dk_at dksX0_used_0 20 rfl rfl)
theorem dX0_used_21 : decode cX0_used 21 = .ok (.aload_n 0, 1) := dk_42 (dk_at dksX0_used_0 21 rfl rfl)
theorem dX0_used_22 : decode cX0_used 22 = .ok (.getfield 248, 3) := dk_180 0 248 (dk_at dksX0_used_1 0 rfl rfl)
theorem dX0_used_25 : decode cX0_used 25 = .ok (.aload_n 0, 1) := dk_42 (dk_at dksX0_used_1 3 rfl rfl)
theorem dX0_used_26 : decode cX0_used 26 = .ok (.getfield 251, 3) := dk_180 0 251 (dk_at dksX0_used_1 4 rfl rfl)
theorem dX0_used_29 : decode cX0_used 29 = .ok (.imul, 1) := dk_104 (dk_at dksX0_used_1 7 rfl rfl)
theorem dX0_used_30 : decode cX0_used 30 = .ok (.idiv, 1) := dk_108 (dk_at dksX0_used_1 8 rfl rfl)
theorem dX0_used_31 : decode cX0_used 31 = .ok (.iload_n 2, 1) := dk_28 (dk_at dksX0_used_1 9 rfl rfl)
theorem dX0_used_32 : decode cX0_used 32 = .ok (.invokevirtual 96, 3) := dk_182 0 96 (dk_at dksX0_used_1 10 rfl rfl)
theorem dX0_used_35 : decode cX0_used 35 = .ok (.ireturn, 1) := dk_172 (dk_at dksX0_used_1 13 rfl rfl)
abbrev cX0_usedOf : ByteArray := prog_1_method_69_code
def yX0_usedOf : MethodName := ⟨RX0, "usedOf", "(I)I"⟩
def dkwX0_usedOf_2 : List UInt8 := [132, 3, 1, 167, 255, 212, 28, 172]
abbrev dktX0_usedOf_2 : List UInt8 := dkwX0_usedOf_2 ++ []
def dkwX0_usedOf_1 : List UInt8 := [160, 0, 19, 42, 180, 0, 33, 29, 50, 42, 180, 0, 254, 182, 1, 110, 167, 0, 4, 3, 96, 61]
abbrev dktX0_usedOf_1 : List UInt8 := dkwX0_usedOf_1 ++ dktX0_usedOf_2
def dkwX0_usedOf_0 : List UInt8 := [3, 61, 3, 62, 29, 42, 180, 0, 245, 162, 0, 42, 28, 42, 180, 0, 33, 29, 50, 180, 1, 31, 27]
abbrev dktX0_usedOf_0 : List UInt8 := dkwX0_usedOf_0 ++ dktX0_usedOf_1
theorem dksX0_usedOf_0 : cX0_usedOf.data.toList.drop 0 = dktX0_usedOf_0 := by decide +kernel
theorem dksX0_usedOf_1 : cX0_usedOf.data.toList.drop 23 = dktX0_usedOf_1 := dk_seg dksX0_usedOf_0 23 rfl rfl
theorem dksX0_usedOf_2 : cX0_usedOf.data.toList.drop 45 = dktX0_usedOf_2 := dk_seg dksX0_usedOf_1 22 rfl rfl
theorem dX0_usedOf_0 : decode cX0_usedOf 0 = .ok (.iconst 0, 1) := dk_3 (dk_at dksX0_usedOf_0 0 rfl rfl)
theorem dX0_usedOf_1 : decode cX0_usedOf 1 = .ok (.istore_n 2, 1) := dk_61 (dk_at dksX0_usedOf_0 1 rfl rfl)
theorem dX0_usedOf_2 : decode cX0_usedOf 2 = .ok (.iconst 0, 1) := dk_3 (dk_at dksX0_usedOf_0 2 rfl rfl)
theorem dX0_usedOf_3 : decode cX0_usedOf 3 = .ok (.istore_n 3, 1) := dk_62 (dk_at dksX0_usedOf_0 3 rfl rfl)
theorem dX0_usedOf_4 : decode cX0_usedOf 4 = .ok (.iload_n 3, 1) := dk_29 (dk_at dksX0_usedOf_0 4 rfl rfl)
theorem dX0_usedOf_5 : decode cX0_usedOf 5 = .ok (.aload_n 0, 1) := dk_42 (dk_at dksX0_usedOf_0 5 rfl rfl)
theorem dX0_usedOf_6 : decode cX0_usedOf 6 = .ok (.getfield 245, 3) := dk_180 0 245 (dk_at dksX0_usedOf_0 6 rfl rfl)
theorem dX0_usedOf_9 : decode cX0_usedOf 9 = .ok (.if_icmp .ge 42, 3) := dk_162 0 42 (dk_at dksX0_usedOf_0 9 rfl rfl)
theorem dX0_usedOf_12 : decode cX0_usedOf 12 = .ok (.iload_n 2, 1) := dk_28 (dk_at dksX0_usedOf_0 12 rfl rfl)
theorem dX0_usedOf_13 : decode cX0_usedOf 13 = .ok (.aload_n 0, 1) := dk_42 (dk_at dksX0_usedOf_0 13 rfl rfl)
theorem dX0_usedOf_14 : decode cX0_usedOf 14 = .ok (.getfield 33, 3) := dk_180 0 33 (dk_at dksX0_usedOf_0 14 rfl rfl)
theorem dX0_usedOf_17 : decode cX0_usedOf 17 = .ok (.iload_n 3, 1) := dk_29 (dk_at dksX0_usedOf_0 17 rfl rfl)
theorem dX0_usedOf_18 : decode cX0_usedOf 18 = .ok (.aaload, 1) := dk_50 (dk_at dksX0_usedOf_0 18 rfl rfl)
theorem dX0_usedOf_19 : decode cX0_usedOf 19 = .ok (.getfield 287, 3) := dk_180 1 31 (dk_at dksX0_usedOf_0 19 rfl rfl)
theorem dX0_usedOf_22 : decode cX0_usedOf 22 = .ok (.iload_n 1, 1) := dk_27 (dk_at dksX0_usedOf_0 22 rfl rfl)
theorem dX0_usedOf_23 : decode cX0_usedOf 23 = .ok (.if_icmp .ne 19, 3) := dk_160 0 19 (dk_at dksX0_usedOf_1 0 rfl rfl)
theorem dX0_usedOf_26 : decode cX0_usedOf 26 = .ok (.aload_n 0, 1) := dk_42 (dk_at dksX0_usedOf_1 3 rfl rfl)
theorem dX0_usedOf_27 : decode cX0_usedOf 27 = .ok (.getfield 33, 3) := dk_180 0 33 (dk_at dksX0_usedOf_1 4 rfl rfl)
theorem dX0_usedOf_30 : decode cX0_usedOf 30 = .ok (.iload_n 3, 1) := dk_29 (dk_at dksX0_usedOf_1 7 rfl rfl)
theorem dX0_usedOf_31 : decode cX0_usedOf 31 = .ok (.aaload, 1) := dk_50 (dk_at dksX0_usedOf_1 8 rfl rfl)
theorem dX0_usedOf_32 : decode cX0_usedOf 32 = .ok (.aload_n 0, 1) := dk_42 (dk_at dksX0_usedOf_1 9 rfl rfl)
theorem dX0_usedOf_33 : decode cX0_usedOf 33 = .ok (.getfield 254, 3) := dk_180 0 254 (dk_at dksX0_usedOf_1 10 rfl rfl)
theorem dX0_usedOf_36 : decode cX0_usedOf 36 = .ok (.invokevirtual 366, 3) := dk_182 1 110 (dk_at dksX0_usedOf_1 13 rfl rfl)
theorem dX0_usedOf_39 : decode cX0_usedOf 39 = .ok (.goto 4, 3) := dk_167 0 4 (dk_at dksX0_usedOf_1 16 rfl rfl)
theorem dX0_usedOf_42 : decode cX0_usedOf 42 = .ok (.iconst 0, 1) := dk_3 (dk_at dksX0_usedOf_1 19 rfl rfl)
theorem dX0_usedOf_43 : decode cX0_usedOf 43 = .ok (.iadd, 1) := dk_96 (dk_at dksX0_usedOf_1 20 rfl rfl)
theorem dX0_usedOf_44 : decode cX0_usedOf 44 = .ok (.istore_n 2, 1) := dk_61 (dk_at dksX0_usedOf_1 21 rfl rfl)
theorem dX0_usedOf_45 : decode cX0_usedOf 45 = .ok (.iinc 3 1, 3) := dk_132 3 1 (dk_at dksX0_usedOf_2 0 rfl rfl)
theorem dX0_usedOf_48 : decode cX0_usedOf 48 = .ok (.goto (-44), 3) := dk_167 255 212 (dk_at dksX0_usedOf_2 3 rfl rfl)
theorem dX0_usedOf_51 : decode cX0_usedOf 51 = .ok (.iload_n 2, 1) := dk_28 (dk_at dksX0_usedOf_2 6 rfl rfl)
theorem dX0_usedOf_52 : decode cX0_usedOf 52 = .ok (.ireturn, 1) := dk_172 (dk_at dksX0_usedOf_2 7 rfl rfl)
abbrev cX0_takes : ByteArray := prog_1_method_71_code
def yX0_takes : MethodName := ⟨RX0, "takes", "(I)I"⟩
def dkwX0_takes_5 : List UInt8 := [62, 132, 5, 1, 167, 255, 190, 132, 4, 1, 167, 255, 152, 42, 28, 29, 182, 0, 96, 172]
abbrev dktX0_takes_5 : List UInt8 := dkwX0_takes_5 ++ []
def dkwX0_takes_4 : List UInt8 := [180, 0, 33, 21, 5, 50, 21, 4, 4, 182, 1, 106, 153, 0, 10, 4, 21, 5, 120, 167, 0, 4, 3, 128]
abbrev dktX0_takes_4 : List UInt8 := dkwX0_takes_4 ++ dktX0_takes_5
def dkwX0_takes_3 : List UInt8 := [154, 0, 44, 42, 42, 180, 0, 33, 21, 5, 50, 21, 4, 3, 182, 1, 106, 154, 0, 20, 42, 42]
abbrev dktX0_takes_3 : List UInt8 := dkwX0_takes_3 ++ dktX0_takes_4
def dkwX0_takes_2 : List UInt8 := [184, 1, 100, 61, 3, 54, 5, 21, 5, 42, 180, 0, 245, 162, 0, 63, 29, 42, 21, 5, 182, 1, 39]
abbrev dktX0_takes_2 : List UInt8 := dkwX0_takes_2 ++ dktX0_takes_3
def dkwX0_takes_1 : List UInt8 := [42, 180, 1, 56, 162, 0, 101, 28, 42, 180, 0, 53, 21, 4, 46, 42, 180, 0, 56, 21, 4, 46, 104]
abbrev dktX0_takes_1 : List UInt8 := dkwX0_takes_1 ++ dktX0_takes_2
def dkwX0_takes_0 : List UInt8 := [42, 27, 182, 1, 192, 154, 0, 5, 2, 172, 42, 27, 182, 1, 135, 3, 61, 3, 62, 3, 54, 4, 21, 4]
abbrev dktX0_takes_0 : List UInt8 := dkwX0_takes_0 ++ dktX0_takes_1
theorem dksX0_takes_0 : cX0_takes.data.toList.drop 0 = dktX0_takes_0 := by decide +kernel
theorem dksX0_takes_1 : cX0_takes.data.toList.drop 24 = dktX0_takes_1 := dk_seg dksX0_takes_0 24 rfl rfl
theorem dksX0_takes_2 : cX0_takes.data.toList.drop 47 = dktX0_takes_2 := dk_seg dksX0_takes_1 23 rfl rfl
theorem dksX0_takes_3 : cX0_takes.data.toList.drop 70 = dktX0_takes_3 := dk_seg dksX0_takes_2 23 rfl rfl
theorem dksX0_takes_4 : cX0_takes.data.toList.drop 92 = dktX0_takes_4 := dk_seg dksX0_takes_3 22 rfl rfl
theorem dksX0_takes_5 : cX0_takes.data.toList.drop 116 = dktX0_takes_5 := dk_seg dksX0_takes_4 24 rfl rfl
theorem dX0_takes_0 : decode cX0_takes 0 = .ok (.aload_n 0, 1) := dk_42 (dk_at dksX0_takes_0 0 rfl rfl)
theorem dX0_takes_1 : decode cX0_takes 1 = .ok (.iload_n 1, 1) := dk_27 (dk_at dksX0_takes_0 1 rfl rfl)
theorem dX0_takes_2 : decode cX0_takes 2 = .ok (.invokevirtual 448, 3) := dk_182 1 192 (dk_at dksX0_takes_0 2 rfl rfl)
theorem dX0_takes_5 : decode cX0_takes 5 = .ok (.ifCond .ne 5, 3) := dk_154 0 5 (dk_at dksX0_takes_0 5 rfl rfl)
theorem dX0_takes_8 : decode cX0_takes 8 = .ok (.iconst (-1), 1) := dk_2 (dk_at dksX0_takes_0 8 rfl rfl)
theorem dX0_takes_9 : decode cX0_takes 9 = .ok (.ireturn, 1) := dk_172 (dk_at dksX0_takes_0 9 rfl rfl)
theorem dX0_takes_10 : decode cX0_takes 10 = .ok (.aload_n 0, 1) := dk_42 (dk_at dksX0_takes_0 10 rfl rfl)
theorem dX0_takes_11 : decode cX0_takes 11 = .ok (.iload_n 1, 1) := dk_27 (dk_at dksX0_takes_0 11 rfl rfl)
theorem dX0_takes_12 : decode cX0_takes 12 = .ok (.invokevirtual 391, 3) := dk_182 1 135 (dk_at dksX0_takes_0 12 rfl rfl)
theorem dX0_takes_15 : decode cX0_takes 15 = .ok (.iconst 0, 1) := dk_3 (dk_at dksX0_takes_0 15 rfl rfl)
theorem dX0_takes_16 : decode cX0_takes 16 = .ok (.istore_n 2, 1) := dk_61 (dk_at dksX0_takes_0 16 rfl rfl)
theorem dX0_takes_17 : decode cX0_takes 17 = .ok (.iconst 0, 1) := dk_3 (dk_at dksX0_takes_0 17 rfl rfl)
theorem dX0_takes_18 : decode cX0_takes 18 = .ok (.istore_n 3, 1) := dk_62 (dk_at dksX0_takes_0 18 rfl rfl)
theorem dX0_takes_19 : decode cX0_takes 19 = .ok (.iconst 0, 1) := dk_3 (dk_at dksX0_takes_0 19 rfl rfl)
theorem dX0_takes_20 : decode cX0_takes 20 = .ok (.istore 4, 2) := dk_54 4 (dk_at dksX0_takes_0 20 rfl rfl)
theorem dX0_takes_22 : decode cX0_takes 22 = .ok (.iload 4, 2) := dk_21 4 (dk_at dksX0_takes_0 22 rfl rfl)
theorem dX0_takes_24 : decode cX0_takes 24 = .ok (.aload_n 0, 1) := dk_42 (dk_at dksX0_takes_1 0 rfl rfl)
theorem dX0_takes_25 : decode cX0_takes 25 = .ok (.getfield 312, 3) := dk_180 1 56 (dk_at dksX0_takes_1 1 rfl rfl)
theorem dX0_takes_28 : decode cX0_takes 28 = .ok (.if_icmp .ge 101, 3) := dk_162 0 101 (dk_at dksX0_takes_1 4 rfl rfl)
theorem dX0_takes_31 : decode cX0_takes 31 = .ok (.iload_n 2, 1) := dk_28 (dk_at dksX0_takes_1 7 rfl rfl)
theorem dX0_takes_32 : decode cX0_takes 32 = .ok (.aload_n 0, 1) := dk_42 (dk_at dksX0_takes_1 8 rfl rfl)
theorem dX0_takes_33 : decode cX0_takes 33 = .ok (.getfield 53, 3) := dk_180 0 53 (dk_at dksX0_takes_1 9 rfl rfl)
theorem dX0_takes_36 : decode cX0_takes 36 = .ok (.iload 4, 2) := dk_21 4 (dk_at dksX0_takes_1 12 rfl rfl)
theorem dX0_takes_38 : decode cX0_takes 38 = .ok (.iaload, 1) := dk_46 (dk_at dksX0_takes_1 14 rfl rfl)
theorem dX0_takes_39 : decode cX0_takes 39 = .ok (.aload_n 0, 1) := dk_42 (dk_at dksX0_takes_1 15 rfl rfl)
theorem dX0_takes_40 : decode cX0_takes 40 = .ok (.getfield 56, 3) := dk_180 0 56 (dk_at dksX0_takes_1 16 rfl rfl)
theorem dX0_takes_43 : decode cX0_takes 43 = .ok (.iload 4, 2) := dk_21 4 (dk_at dksX0_takes_1 19 rfl rfl)
theorem dX0_takes_45 : decode cX0_takes 45 = .ok (.iaload, 1) := dk_46 (dk_at dksX0_takes_1 21 rfl rfl)
theorem dX0_takes_46 : decode cX0_takes 46 = .ok (.imul, 1) := dk_104 (dk_at dksX0_takes_1 22 rfl rfl)
theorem dX0_takes_47 : decode cX0_takes 47 = .ok (.invokestatic 356, 3) := dk_184 1 100 (dk_at dksX0_takes_2 0 rfl rfl)
theorem dX0_takes_50 : decode cX0_takes 50 = .ok (.istore_n 2, 1) := dk_61 (dk_at dksX0_takes_2 3 rfl rfl)
theorem dX0_takes_51 : decode cX0_takes 51 = .ok (.iconst 0, 1) := dk_3 (dk_at dksX0_takes_2 4 rfl rfl)
theorem dX0_takes_52 : decode cX0_takes 52 = .ok (.istore 5, 2) := dk_54 5 (dk_at dksX0_takes_2 5 rfl rfl)
theorem dX0_takes_54 : decode cX0_takes 54 = .ok (.iload 5, 2) := dk_21 5 (dk_at dksX0_takes_2 7 rfl rfl)
theorem dX0_takes_56 : decode cX0_takes 56 = .ok (.aload_n 0, 1) := dk_42 (dk_at dksX0_takes_2 9 rfl rfl)
theorem dX0_takes_57 : decode cX0_takes 57 = .ok (.getfield 245, 3) := dk_180 0 245 (dk_at dksX0_takes_2 10 rfl rfl)
theorem dX0_takes_60 : decode cX0_takes 60 = .ok (.if_icmp .ge 63, 3) := dk_162 0 63 (dk_at dksX0_takes_2 13 rfl rfl)
theorem dX0_takes_63 : decode cX0_takes 63 = .ok (.iload_n 3, 1) := dk_29 (dk_at dksX0_takes_2 16 rfl rfl)
theorem dX0_takes_64 : decode cX0_takes 64 = .ok (.aload_n 0, 1) := dk_42 (dk_at dksX0_takes_2 17 rfl rfl)
theorem dX0_takes_65 : decode cX0_takes 65 = .ok (.iload 5, 2) := dk_21 5 (dk_at dksX0_takes_2 18 rfl rfl)
theorem dX0_takes_67 : decode cX0_takes 67 = .ok (.invokevirtual 295, 3) := dk_182 1 39 (dk_at dksX0_takes_2 20 rfl rfl)
theorem dX0_takes_70 : decode cX0_takes 70 = .ok (.ifCond .ne 44, 3) := dk_154 0 44 (dk_at dksX0_takes_3 0 rfl rfl)
theorem dX0_takes_73 : decode cX0_takes 73 = .ok (.aload_n 0, 1) := dk_42 (dk_at dksX0_takes_3 3 rfl rfl)
theorem dX0_takes_74 : decode cX0_takes 74 = .ok (.aload_n 0, 1) := dk_42 (dk_at dksX0_takes_3 4 rfl rfl)
theorem dX0_takes_75 : decode cX0_takes 75 = .ok (.getfield 33, 3) := dk_180 0 33 (dk_at dksX0_takes_3 5 rfl rfl)
theorem dX0_takes_78 : decode cX0_takes 78 = .ok (.iload 5, 2) := dk_21 5 (dk_at dksX0_takes_3 8 rfl rfl)
theorem dX0_takes_80 : decode cX0_takes 80 = .ok (.aaload, 1) := dk_50 (dk_at dksX0_takes_3 10 rfl rfl)
theorem dX0_takes_81 : decode cX0_takes 81 = .ok (.iload 4, 2) := dk_21 4 (dk_at dksX0_takes_3 11 rfl rfl)
theorem dX0_takes_83 : decode cX0_takes 83 = .ok (.iconst 0, 1) := dk_3 (dk_at dksX0_takes_3 13 rfl rfl)
theorem dX0_takes_84 : decode cX0_takes 84 = .ok (.invokevirtual 362, 3) := dk_182 1 106 (dk_at dksX0_takes_3 14 rfl rfl)
theorem dX0_takes_87 : decode cX0_takes 87 = .ok (.ifCond .ne 20, 3) := dk_154 0 20 (dk_at dksX0_takes_3 17 rfl rfl)
theorem dX0_takes_90 : decode cX0_takes 90 = .ok (.aload_n 0, 1) := dk_42 (dk_at dksX0_takes_3 20 rfl rfl)
theorem dX0_takes_91 : decode cX0_takes 91 = .ok (.aload_n 0, 1) := dk_42 (dk_at dksX0_takes_3 21 rfl rfl)
theorem dX0_takes_92 : decode cX0_takes 92 = .ok (.getfield 33, 3) := dk_180 0 33 (dk_at dksX0_takes_4 0 rfl rfl)
theorem dX0_takes_95 : decode cX0_takes 95 = .ok (.iload 5, 2) := dk_21 5 (dk_at dksX0_takes_4 3 rfl rfl)
theorem dX0_takes_97 : decode cX0_takes 97 = .ok (.aaload, 1) := dk_50 (dk_at dksX0_takes_4 5 rfl rfl)
theorem dX0_takes_98 : decode cX0_takes 98 = .ok (.iload 4, 2) := dk_21 4 (dk_at dksX0_takes_4 6 rfl rfl)
theorem dX0_takes_100 : decode cX0_takes 100 = .ok (.iconst 1, 1) := dk_4 (dk_at dksX0_takes_4 8 rfl rfl)
theorem dX0_takes_101 : decode cX0_takes 101 = .ok (.invokevirtual 362, 3) := dk_182 1 106 (dk_at dksX0_takes_4 9 rfl rfl)
theorem dX0_takes_104 : decode cX0_takes 104 = .ok (.ifCond .eq 10, 3) := dk_153 0 10 (dk_at dksX0_takes_4 12 rfl rfl)
theorem dX0_takes_107 : decode cX0_takes 107 = .ok (.iconst 1, 1) := dk_4 (dk_at dksX0_takes_4 15 rfl rfl)
theorem dX0_takes_108 : decode cX0_takes 108 = .ok (.iload 5, 2) := dk_21 5 (dk_at dksX0_takes_4 16 rfl rfl)
theorem dX0_takes_110 : decode cX0_takes 110 = .ok (.ishl, 1) := dk_120 (dk_at dksX0_takes_4 18 rfl rfl)
theorem dX0_takes_111 : decode cX0_takes 111 = .ok (.goto 4, 3) := dk_167 0 4 (dk_at dksX0_takes_4 19 rfl rfl)
theorem dX0_takes_114 : decode cX0_takes 114 = .ok (.iconst 0, 1) := dk_3 (dk_at dksX0_takes_4 22 rfl rfl)
theorem dX0_takes_115 : decode cX0_takes 115 = .ok (.ior, 1) := dk_128 (dk_at dksX0_takes_4 23 rfl rfl)
theorem dX0_takes_116 : decode cX0_takes 116 = .ok (.istore_n 3, 1) := dk_62 (dk_at dksX0_takes_5 0 rfl rfl)
theorem dX0_takes_117 : decode cX0_takes 117 = .ok (.iinc 5 1, 3) := dk_132 5 1 (dk_at dksX0_takes_5 1 rfl rfl)
theorem dX0_takes_120 : decode cX0_takes 120 = .ok (.goto (-66), 3) := dk_167 255 190 (dk_at dksX0_takes_5 4 rfl rfl)
theorem dX0_takes_123 : decode cX0_takes 123 = .ok (.iinc 4 1, 3) := dk_132 4 1 (dk_at dksX0_takes_5 7 rfl rfl)
theorem dX0_takes_126 : decode cX0_takes 126 = .ok (.goto (-104), 3) := dk_167 255 152 (dk_at dksX0_takes_5 10 rfl rfl)
theorem dX0_takes_129 : decode cX0_takes 129 = .ok (.aload_n 0, 1) := dk_42 (dk_at dksX0_takes_5 13 rfl rfl)
theorem dX0_takes_130 : decode cX0_takes 130 = .ok (.iload_n 2, 1) := dk_28 (dk_at dksX0_takes_5 14 rfl rfl)
theorem dX0_takes_131 : decode cX0_takes 131 = .ok (.iload_n 3, 1) := dk_29 (dk_at dksX0_takes_5 15 rfl rfl)
theorem dX0_takes_132 : decode cX0_takes 132 = .ok (.invokevirtual 96, 3) := dk_182 0 96 (dk_at dksX0_takes_5 16 rfl rfl)
theorem dX0_takes_135 : decode cX0_takes 135 = .ok (.ireturn, 1) := dk_172 (dk_at dksX0_takes_5 19 rfl rfl)
abbrev cX0_would : ByteArray := prog_1_method_73_code
def yX0_would : MethodName := ⟨RX0, "would", "(II)I"⟩
def dkwX0_would_1 : List UInt8 := [154, 0, 5, 2, 172, 42, 27, 28, 182, 1, 235, 42, 42, 180, 1, 226, 42, 180, 1, 229, 182, 0, 96, 172]
abbrev dktX0_would_1 : List UInt8 := dkwX0_would_1 ++ []
def dkwX0_would_0 : List UInt8 := [27, 3, 6, 184, 0, 78, 153, 0, 19, 28, 3, 5, 184, 0, 78, 153, 0, 10, 42, 180, 0, 245]
abbrev dktX0_would_0 : List UInt8 := dkwX0_would_0 ++ dktX0_would_1
theorem dksX0_would_0 : cX0_would.data.toList.drop 0 = dktX0_would_0 := by decide +kernel
theorem dksX0_would_1 : cX0_would.data.toList.drop 22 = dktX0_would_1 := dk_seg dksX0_would_0 22 rfl rfl
theorem dX0_would_0 : decode cX0_would 0 = .ok (.iload_n 1, 1) := dk_27 (dk_at dksX0_would_0 0 rfl rfl)
theorem dX0_would_1 : decode cX0_would 1 = .ok (.iconst 0, 1) := dk_3 (dk_at dksX0_would_0 1 rfl rfl)
theorem dX0_would_2 : decode cX0_would 2 = .ok (.iconst 3, 1) := dk_6 (dk_at dksX0_would_0 2 rfl rfl)
theorem dX0_would_3 : decode cX0_would 3 = .ok (.invokestatic 78, 3) := dk_184 0 78 (dk_at dksX0_would_0 3 rfl rfl)
theorem dX0_would_6 : decode cX0_would 6 = .ok (.ifCond .eq 19, 3) := dk_153 0 19 (dk_at dksX0_would_0 6 rfl rfl)
theorem dX0_would_9 : decode cX0_would 9 = .ok (.iload_n 2, 1) := dk_28 (dk_at dksX0_would_0 9 rfl rfl)
theorem dX0_would_10 : decode cX0_would 10 = .ok (.iconst 0, 1) := dk_3 (dk_at dksX0_would_0 10 rfl rfl)
theorem dX0_would_11 : decode cX0_would 11 = .ok (.iconst 2, 1) := dk_5 (dk_at dksX0_would_0 11 rfl rfl)
theorem dX0_would_12 : decode cX0_would 12 = .ok (.invokestatic 78, 3) := dk_184 0 78 (dk_at dksX0_would_0 12 rfl rfl)
theorem dX0_would_15 : decode cX0_would 15 = .ok (.ifCond .eq 10, 3) := dk_153 0 10 (dk_at dksX0_would_0 15 rfl rfl)
theorem dX0_would_18 : decode cX0_would 18 = .ok (.aload_n 0, 1) := dk_42 (dk_at dksX0_would_0 18 rfl rfl)
theorem dX0_would_19 : decode cX0_would 19 = .ok (.getfield 245, 3) := dk_180 0 245 (dk_at dksX0_would_0 19 rfl rfl)
theorem dX0_would_22 : decode cX0_would 22 = .ok (.ifCond .ne 5, 3) := dk_154 0 5 (dk_at dksX0_would_1 0 rfl rfl)
theorem dX0_would_25 : decode cX0_would 25 = .ok (.iconst (-1), 1) := dk_2 (dk_at dksX0_would_1 3 rfl rfl)
theorem dX0_would_26 : decode cX0_would 26 = .ok (.ireturn, 1) := dk_172 (dk_at dksX0_would_1 4 rfl rfl)
theorem dX0_would_27 : decode cX0_would 27 = .ok (.aload_n 0, 1) := dk_42 (dk_at dksX0_would_1 5 rfl rfl)
theorem dX0_would_28 : decode cX0_would 28 = .ok (.iload_n 1, 1) := dk_27 (dk_at dksX0_would_1 6 rfl rfl)
theorem dX0_would_29 : decode cX0_would 29 = .ok (.iload_n 2, 1) := dk_28 (dk_at dksX0_would_1 7 rfl rfl)
theorem dX0_would_30 : decode cX0_would 30 = .ok (.invokevirtual 491, 3) := dk_182 1 235 (dk_at dksX0_would_1 8 rfl rfl)
theorem dX0_would_33 : decode cX0_would 33 = .ok (.aload_n 0, 1) := dk_42 (dk_at dksX0_would_1 11 rfl rfl)
theorem dX0_would_34 : decode cX0_would 34 = .ok (.aload_n 0, 1) := dk_42 (dk_at dksX0_would_1 12 rfl rfl)
theorem dX0_would_35 : decode cX0_would 35 = .ok (.getfield 482, 3) := dk_180 1 226 (dk_at dksX0_would_1 13 rfl rfl)
theorem dX0_would_38 : decode cX0_would 38 = .ok (.aload_n 0, 1) := dk_42 (dk_at dksX0_would_1 16 rfl rfl)
theorem dX0_would_39 : decode cX0_would 39 = .ok (.getfield 485, 3) := dk_180 1 229 (dk_at dksX0_would_1 17 rfl rfl)
theorem dX0_would_42 : decode cX0_would 42 = .ok (.invokevirtual 96, 3) := dk_182 0 96 (dk_at dksX0_would_1 20 rfl rfl)
theorem dX0_would_45 : decode cX0_would 45 = .ok (.ireturn, 1) := dk_172 (dk_at dksX0_would_1 23 rfl rfl)
abbrev cX0_tries_2 : ByteArray := prog_1_method_72_code
def yX0_tries_2 : MethodName := ⟨RX0, "tries", "(II)V"⟩
def dkwX0_tries_2_2 : List UInt8 := [181, 1, 232, 42, 42, 180, 0, 72, 3, 182, 1, 176, 177]
abbrev dktX0_tries_2_2 : List UInt8 := dkwX0_tries_2_2 ++ []
def dkwX0_tries_2_1 : List UInt8 := [181, 1, 226, 42, 42, 182, 1, 143, 181, 1, 229, 42, 42, 42, 180, 1, 229, 4, 100, 182, 1, 223]
abbrev dktX0_tries_2_1 : List UInt8 := dkwX0_tries_2_1 ++ dktX0_tries_2_2
def dkwX0_tries_2_0 : List UInt8 := [42, 42, 180, 0, 72, 3, 182, 1, 153, 42, 27, 184, 1, 0, 181, 0, 40, 42, 42, 28, 182, 1, 173]
abbrev dktX0_tries_2_0 : List UInt8 := dkwX0_tries_2_0 ++ dktX0_tries_2_1
theorem dksX0_tries_2_0 : cX0_tries_2.data.toList.drop 0 = dktX0_tries_2_0 := by decide +kernel
theorem dksX0_tries_2_1 : cX0_tries_2.data.toList.drop 23 = dktX0_tries_2_1 := dk_seg dksX0_tries_2_0 23 rfl rfl
theorem dksX0_tries_2_2 : cX0_tries_2.data.toList.drop 45 = dktX0_tries_2_2 := dk_seg dksX0_tries_2_1 22 rfl rfl
theorem dX0_tries_2_0 : decode cX0_tries_2 0 = .ok (.aload_n 0, 1) := dk_42 (dk_at dksX0_tries_2_0 0 rfl rfl)
theorem dX0_tries_2_1 : decode cX0_tries_2 1 = .ok (.aload_n 0, 1) := dk_42 (dk_at dksX0_tries_2_0 1 rfl rfl)
theorem dX0_tries_2_2 : decode cX0_tries_2 2 = .ok (.getfield 72, 3) := dk_180 0 72 (dk_at dksX0_tries_2_0 2 rfl rfl)
theorem dX0_tries_2_5 : decode cX0_tries_2 5 = .ok (.iconst 0, 1) := dk_3 (dk_at dksX0_tries_2_0 5 rfl rfl)
theorem dX0_tries_2_6 : decode cX0_tries_2 6 = .ok (.invokevirtual 409, 3) := dk_182 1 153 (dk_at dksX0_tries_2_0 6 rfl rfl)
theorem dX0_tries_2_9 : decode cX0_tries_2 9 = .ok (.aload_n 0, 1) := dk_42 (dk_at dksX0_tries_2_0 9 rfl rfl)
theorem dX0_tries_2_10 : decode cX0_tries_2 10 = .ok (.iload_n 1, 1) := dk_27 (dk_at dksX0_tries_2_0 10 rfl rfl)
theorem dX0_tries_2_11 : decode cX0_tries_2 11 = .ok (.invokestatic 256, 3) := dk_184 1 0 (dk_at dksX0_tries_2_0 11 rfl rfl)
theorem dX0_tries_2_14 : decode cX0_tries_2 14 = .ok (.putfield 40, 3) := dk_181 0 40 (dk_at dksX0_tries_2_0 14 rfl rfl)
theorem dX0_tries_2_17 : decode cX0_tries_2 17 = .ok (.aload_n 0, 1) := dk_42 (dk_at dksX0_tries_2_0 17 rfl rfl)
theorem dX0_tries_2_18 : decode cX0_tries_2 18 = .ok (.aload_n 0, 1) := dk_42 (dk_at dksX0_tries_2_0 18 rfl rfl)
theorem dX0_tries_2_19 : decode cX0_tries_2 19 = .ok (.iload_n 2, 1) := dk_28 (dk_at dksX0_tries_2_0 19 rfl rfl)
theorem dX0_tries_2_20 : decode cX0_tries_2 20 = .ok (.invokevirtual 429, 3) := dk_182 1 173 (dk_at dksX0_tries_2_0 20 rfl rfl)
theorem dX0_tries_2_23 : decode cX0_tries_2 23 = .ok (.putfield 482, 3) := dk_181 1 226 (dk_at dksX0_tries_2_1 0 rfl rfl)
theorem dX0_tries_2_26 : decode cX0_tries_2 26 = .ok (.aload_n 0, 1) := dk_42 (dk_at dksX0_tries_2_1 3 rfl rfl)
theorem dX0_tries_2_27 : decode cX0_tries_2 27 = .ok (.aload_n 0, 1) := dk_42 (dk_at dksX0_tries_2_1 4 rfl rfl)
theorem dX0_tries_2_28 : decode cX0_tries_2 28 = .ok (.invokevirtual 399, 3) := dk_182 1 143 (dk_at dksX0_tries_2_1 5 rfl rfl)
theorem dX0_tries_2_31 : decode cX0_tries_2 31 = .ok (.putfield 485, 3) := dk_181 1 229 (dk_at dksX0_tries_2_1 8 rfl rfl)
theorem dX0_tries_2_34 : decode cX0_tries_2 34 = .ok (.aload_n 0, 1) := dk_42 (dk_at dksX0_tries_2_1 11 rfl rfl)
theorem dX0_tries_2_35 : decode cX0_tries_2 35 = .ok (.aload_n 0, 1) := dk_42 (dk_at dksX0_tries_2_1 12 rfl rfl)
theorem dX0_tries_2_36 : decode cX0_tries_2 36 = .ok (.aload_n 0, 1) := dk_42 (dk_at dksX0_tries_2_1 13 rfl rfl)
theorem dX0_tries_2_37 : decode cX0_tries_2 37 = .ok (.getfield 485, 3) := dk_180 1 229 (dk_at dksX0_tries_2_1 14 rfl rfl)
theorem dX0_tries_2_40 : decode cX0_tries_2 40 = .ok (.iconst 1, 1) := dk_4 (dk_at dksX0_tries_2_1 17 rfl rfl)
theorem dX0_tries_2_41 : decode cX0_tries_2 41 = .ok (.isub, 1) := dk_100 (dk_at dksX0_tries_2_1 18 rfl rfl)
theorem dX0_tries_2_42 : decode cX0_tries_2 42 = .ok (.invokevirtual 479, 3) := dk_182 1 223 (dk_at dksX0_tries_2_1 19 rfl rfl)
theorem dX0_tries_2_45 : decode cX0_tries_2 45 = .ok (.putfield 488, 3) := dk_181 1 232 (dk_at dksX0_tries_2_2 0 rfl rfl)
theorem dX0_tries_2_48 : decode cX0_tries_2 48 = .ok (.aload_n 0, 1) := dk_42 (dk_at dksX0_tries_2_2 3 rfl rfl)
theorem dX0_tries_2_49 : decode cX0_tries_2 49 = .ok (.aload_n 0, 1) := dk_42 (dk_at dksX0_tries_2_2 4 rfl rfl)
theorem dX0_tries_2_50 : decode cX0_tries_2 50 = .ok (.getfield 72, 3) := dk_180 0 72 (dk_at dksX0_tries_2_2 5 rfl rfl)
theorem dX0_tries_2_53 : decode cX0_tries_2 53 = .ok (.iconst 0, 1) := dk_3 (dk_at dksX0_tries_2_2 8 rfl rfl)
theorem dX0_tries_2_54 : decode cX0_tries_2 54 = .ok (.invokevirtual 432, 3) := dk_182 1 176 (dk_at dksX0_tries_2_2 9 rfl rfl)
theorem dX0_tries_2_57 : decode cX0_tries_2 57 = .ok (.return_, 1) := dk_177 (dk_at dksX0_tries_2_2 12 rfl rfl)
abbrev cX0_best : ByteArray := prog_1_method_74_code
def yX0_best : MethodName := ⟨RX0, "best", "()I"⟩
def dkwX0_best_5 : List UInt8 := [182, 0, 96, 172]
abbrev dktX0_best_5 : List UInt8 := dkwX0_best_5 ++ []
def dkwX0_best_4 : List UInt8 := [21, 5, 96, 60, 42, 180, 1, 229, 62, 132, 5, 1, 167, 255, 179, 132, 4, 1, 167, 255, 164, 42, 29, 27]
abbrev dktX0_best_4 : List UInt8 := dkwX0_best_4 ++ dktX0_best_5
def dkwX0_best_3 : List UInt8 := [167, 0, 7, 42, 180, 1, 232, 96, 54, 6, 21, 6, 28, 162, 0, 20, 21, 6, 61, 16, 10, 21, 4, 104]
abbrev dktX0_best_3 : List UInt8 := dkwX0_best_3 ++ dktX0_best_4
def dkwX0_best_2 : List UInt8 := [184, 1, 237, 16, 100, 104, 42, 180, 1, 229, 96, 17, 3, 232, 104, 42, 180, 1, 229, 154, 0, 7, 3]
abbrev dktX0_best_2 : List UInt8 := dkwX0_best_2 ++ dktX0_best_3
def dkwX0_best_1 : List UInt8 := [162, 0, 92, 3, 54, 5, 21, 5, 6, 162, 0, 77, 42, 21, 4, 21, 5, 182, 1, 235, 42, 180, 1, 226]
abbrev dktX0_best_1 : List UInt8 := dkwX0_best_1 ++ dktX0_best_2
def dkwX0_best_0 : List UInt8 := [42, 180, 0, 245, 154, 0, 6, 16, 252, 172, 16, 247, 60, 18, 176, 61, 3, 62, 3, 54, 4, 21, 4, 7]
abbrev dktX0_best_0 : List UInt8 := dkwX0_best_0 ++ dktX0_best_1
theorem dksX0_best_0 : cX0_best.data.toList.drop 0 = dktX0_best_0 := by decide +kernel
theorem dksX0_best_1 : cX0_best.data.toList.drop 24 = dktX0_best_1 := dk_seg dksX0_best_0 24 rfl rfl
theorem dksX0_best_2 : cX0_best.data.toList.drop 48 = dktX0_best_2 := dk_seg dksX0_best_1 24 rfl rfl
theorem dksX0_best_3 : cX0_best.data.toList.drop 71 = dktX0_best_3 := dk_seg dksX0_best_2 23 rfl rfl
theorem dksX0_best_4 : cX0_best.data.toList.drop 95 = dktX0_best_4 := dk_seg dksX0_best_3 24 rfl rfl
theorem dksX0_best_5 : cX0_best.data.toList.drop 119 = dktX0_best_5 := dk_seg dksX0_best_4 24 rfl rfl
theorem dX0_best_0 : decode cX0_best 0 = .ok (.aload_n 0, 1) := dk_42 (dk_at dksX0_best_0 0 rfl rfl)
theorem dX0_best_1 : decode cX0_best 1 = .ok (.getfield 245, 3) := dk_180 0 245 (dk_at dksX0_best_0 1 rfl rfl)
theorem dX0_best_4 : decode cX0_best 4 = .ok (.ifCond .ne 6, 3) := dk_154 0 6 (dk_at dksX0_best_0 4 rfl rfl)
theorem dX0_best_7 : decode cX0_best 7 = .ok (.bipush (-4), 2) := dk_16 252 (dk_at dksX0_best_0 7 rfl rfl)
theorem dX0_best_9 : decode cX0_best 9 = .ok (.ireturn, 1) := dk_172 (dk_at dksX0_best_0 9 rfl rfl)
theorem dX0_best_10 : decode cX0_best 10 = .ok (.bipush (-9), 2) := dk_16 247 (dk_at dksX0_best_0 10 rfl rfl)
theorem dX0_best_12 : decode cX0_best 12 = .ok (.istore_n 1, 1) := dk_60 (dk_at dksX0_best_0 12 rfl rfl)
theorem dX0_best_13 : decode cX0_best 13 = .ok (.ldc 176, 2) := dk_18 176 (dk_at dksX0_best_0 13 rfl rfl)
theorem dX0_best_15 : decode cX0_best 15 = .ok (.istore_n 2, 1) := dk_61 (dk_at dksX0_best_0 15 rfl rfl)
theorem dX0_best_16 : decode cX0_best 16 = .ok (.iconst 0, 1) := dk_3 (dk_at dksX0_best_0 16 rfl rfl)
theorem dX0_best_17 : decode cX0_best 17 = .ok (.istore_n 3, 1) := dk_62 (dk_at dksX0_best_0 17 rfl rfl)
theorem dX0_best_18 : decode cX0_best 18 = .ok (.iconst 0, 1) := dk_3 (dk_at dksX0_best_0 18 rfl rfl)
theorem dX0_best_19 : decode cX0_best 19 = .ok (.istore 4, 2) := dk_54 4 (dk_at dksX0_best_0 19 rfl rfl)
theorem dX0_best_21 : decode cX0_best 21 = .ok (.iload 4, 2) := dk_21 4 (dk_at dksX0_best_0 21 rfl rfl)
theorem dX0_best_23 : decode cX0_best 23 = .ok (.iconst 4, 1) := dk_7 (dk_at dksX0_best_0 23 rfl rfl)
theorem dX0_best_24 : decode cX0_best 24 = .ok (.if_icmp .ge 92, 3) := dk_162 0 92 (dk_at dksX0_best_1 0 rfl rfl)
theorem dX0_best_27 : decode cX0_best 27 = .ok (.iconst 0, 1) := dk_3 (dk_at dksX0_best_1 3 rfl rfl)
theorem dX0_best_28 : decode cX0_best 28 = .ok (.istore 5, 2) := dk_54 5 (dk_at dksX0_best_1 4 rfl rfl)
theorem dX0_best_30 : decode cX0_best 30 = .ok (.iload 5, 2) := dk_21 5 (dk_at dksX0_best_1 6 rfl rfl)
theorem dX0_best_32 : decode cX0_best 32 = .ok (.iconst 3, 1) := dk_6 (dk_at dksX0_best_1 8 rfl rfl)
theorem dX0_best_33 : decode cX0_best 33 = .ok (.if_icmp .ge 77, 3) := dk_162 0 77 (dk_at dksX0_best_1 9 rfl rfl)
theorem dX0_best_36 : decode cX0_best 36 = .ok (.aload_n 0, 1) := dk_42 (dk_at dksX0_best_1 12 rfl rfl)
theorem dX0_best_37 : decode cX0_best 37 = .ok (.iload 4, 2) := dk_21 4 (dk_at dksX0_best_1 13 rfl rfl)
theorem dX0_best_39 : decode cX0_best 39 = .ok (.iload 5, 2) := dk_21 5 (dk_at dksX0_best_1 15 rfl rfl)
theorem dX0_best_41 : decode cX0_best 41 = .ok (.invokevirtual 491, 3) := dk_182 1 235 (dk_at dksX0_best_1 17 rfl rfl)
theorem dX0_best_44 : decode cX0_best 44 = .ok (.aload_n 0, 1) := dk_42 (dk_at dksX0_best_1 20 rfl rfl)
theorem dX0_best_45 : decode cX0_best 45 = .ok (.getfield 482, 3) := dk_180 1 226 (dk_at dksX0_best_1 21 rfl rfl)
theorem dX0_best_48 : decode cX0_best 48 = .ok (.invokestatic 493, 3) := dk_184 1 237 (dk_at dksX0_best_2 0 rfl rfl)
theorem dX0_best_51 : decode cX0_best 51 = .ok (.bipush 100, 2) := dk_16 100 (dk_at dksX0_best_2 3 rfl rfl)
theorem dX0_best_53 : decode cX0_best 53 = .ok (.imul, 1) := dk_104 (dk_at dksX0_best_2 5 rfl rfl)
theorem dX0_best_54 : decode cX0_best 54 = .ok (.aload_n 0, 1) := dk_42 (dk_at dksX0_best_2 6 rfl rfl)
theorem dX0_best_55 : decode cX0_best 55 = .ok (.getfield 485, 3) := dk_180 1 229 (dk_at dksX0_best_2 7 rfl rfl)
theorem dX0_best_58 : decode cX0_best 58 = .ok (.iadd, 1) := dk_96 (dk_at dksX0_best_2 10 rfl rfl)
theorem dX0_best_59 : decode cX0_best 59 = .ok (.sipush 1000, 3) := dk_17 3 232 (dk_at dksX0_best_2 11 rfl rfl)
theorem dX0_best_62 : decode cX0_best 62 = .ok (.imul, 1) := dk_104 (dk_at dksX0_best_2 14 rfl rfl)
theorem dX0_best_63 : decode cX0_best 63 = .ok (.aload_n 0, 1) := dk_42 (dk_at dksX0_best_2 15 rfl rfl)
theorem dX0_best_64 : decode cX0_best 64 = .ok (.getfield 485, 3) := dk_180 1 229 (dk_at dksX0_best_2 16 rfl rfl)
theorem dX0_best_67 : decode cX0_best 67 = .ok (.ifCond .ne 7, 3) := dk_154 0 7 (dk_at dksX0_best_2 19 rfl rfl)
theorem dX0_best_70 : decode cX0_best 70 = .ok (.iconst 0, 1) := dk_3 (dk_at dksX0_best_2 22 rfl rfl)
theorem dX0_best_71 : decode cX0_best 71 = .ok (.goto 7, 3) := dk_167 0 7 (dk_at dksX0_best_3 0 rfl rfl)
theorem dX0_best_74 : decode cX0_best 74 = .ok (.aload_n 0, 1) := dk_42 (dk_at dksX0_best_3 3 rfl rfl)
theorem dX0_best_75 : decode cX0_best 75 = .ok (.getfield 488, 3) := dk_180 1 232 (dk_at dksX0_best_3 4 rfl rfl)
theorem dX0_best_78 : decode cX0_best 78 = .ok (.iadd, 1) := dk_96 (dk_at dksX0_best_3 7 rfl rfl)
theorem dX0_best_79 : decode cX0_best 79 = .ok (.istore 6, 2) := dk_54 6 (dk_at dksX0_best_3 8 rfl rfl)
theorem dX0_best_81 : decode cX0_best 81 = .ok (.iload 6, 2) := dk_21 6 (dk_at dksX0_best_3 10 rfl rfl)
theorem dX0_best_83 : decode cX0_best 83 = .ok (.iload_n 2, 1) := dk_28 (dk_at dksX0_best_3 12 rfl rfl)
theorem dX0_best_84 : decode cX0_best 84 = .ok (.if_icmp .ge 20, 3) := dk_162 0 20 (dk_at dksX0_best_3 13 rfl rfl)
theorem dX0_best_87 : decode cX0_best 87 = .ok (.iload 6, 2) := dk_21 6 (dk_at dksX0_best_3 16 rfl rfl)
theorem dX0_best_89 : decode cX0_best 89 = .ok (.istore_n 2, 1) := dk_61 (dk_at dksX0_best_3 18 rfl rfl)
theorem dX0_best_90 : decode cX0_best 90 = .ok (.bipush 10, 2) := dk_16 10 (dk_at dksX0_best_3 19 rfl rfl)
theorem dX0_best_92 : decode cX0_best 92 = .ok (.iload 4, 2) := dk_21 4 (dk_at dksX0_best_3 21 rfl rfl)
theorem dX0_best_94 : decode cX0_best 94 = .ok (.imul, 1) := dk_104 (dk_at dksX0_best_3 23 rfl rfl)
theorem dX0_best_95 : decode cX0_best 95 = .ok (.iload 5, 2) := dk_21 5 (dk_at dksX0_best_4 0 rfl rfl)
theorem dX0_best_97 : decode cX0_best 97 = .ok (.iadd, 1) := dk_96 (dk_at dksX0_best_4 2 rfl rfl)
theorem dX0_best_98 : decode cX0_best 98 = .ok (.istore_n 1, 1) := dk_60 (dk_at dksX0_best_4 3 rfl rfl)
theorem dX0_best_99 : decode cX0_best 99 = .ok (.aload_n 0, 1) := dk_42 (dk_at dksX0_best_4 4 rfl rfl)
theorem dX0_best_100 : decode cX0_best 100 = .ok (.getfield 485, 3) := dk_180 1 229 (dk_at dksX0_best_4 5 rfl rfl)
theorem dX0_best_103 : decode cX0_best 103 = .ok (.istore_n 3, 1) := dk_62 (dk_at dksX0_best_4 8 rfl rfl)
theorem dX0_best_104 : decode cX0_best 104 = .ok (.iinc 5 1, 3) := dk_132 5 1 (dk_at dksX0_best_4 9 rfl rfl)
theorem dX0_best_107 : decode cX0_best 107 = .ok (.goto (-77), 3) := dk_167 255 179 (dk_at dksX0_best_4 12 rfl rfl)
theorem dX0_best_110 : decode cX0_best 110 = .ok (.iinc 4 1, 3) := dk_132 4 1 (dk_at dksX0_best_4 15 rfl rfl)
theorem dX0_best_113 : decode cX0_best 113 = .ok (.goto (-92), 3) := dk_167 255 164 (dk_at dksX0_best_4 18 rfl rfl)
theorem dX0_best_116 : decode cX0_best 116 = .ok (.aload_n 0, 1) := dk_42 (dk_at dksX0_best_4 21 rfl rfl)
theorem dX0_best_117 : decode cX0_best 117 = .ok (.iload_n 3, 1) := dk_29 (dk_at dksX0_best_4 22 rfl rfl)
theorem dX0_best_118 : decode cX0_best 118 = .ok (.iload_n 1, 1) := dk_27 (dk_at dksX0_best_4 23 rfl rfl)
theorem dX0_best_119 : decode cX0_best 119 = .ok (.invokevirtual 96, 3) := dk_182 0 96 (dk_at dksX0_best_5 0 rfl rfl)
theorem dX0_best_122 : decode cX0_best 122 = .ok (.ireturn, 1) := dk_172 (dk_at dksX0_best_5 3 rfl rfl)
abbrev cX0_lots : ByteArray := prog_1_method_77_code
def yX0_lots : MethodName := ⟨RX0, "lots", "(II)I"⟩
def dkwX0_lots_4 : List UInt8 := [20, 1, 249, 109, 20, 1, 251, 113, 136, 182, 1, 253, 132, 5, 1, 167, 255, 201, 42, 182, 2, 1, 172]
abbrev dktX0_lots_4 : List UInt8 := dkwX0_lots_4 ++ []
def dkwX0_lots_3 : List UInt8 := [182, 1, 161, 42, 33, 20, 1, 247, 109, 42, 180, 0, 245, 133, 113, 136, 33, 20, 1, 247, 113, 136, 33]
abbrev dktX0_lots_3 : List UInt8 := dkwX0_lots_3 ++ dktX0_lots_4
def dkwX0_lots_2 : List UInt8 := [133, 66, 3, 54, 5, 21, 5, 27, 162, 0, 55, 20, 1, 243, 33, 105, 20, 1, 245, 113, 66, 42]
abbrev dktX0_lots_2 : List UInt8 := dkwX0_lots_2 ++ dktX0_lots_3
def dkwX0_lots_1 : List UInt8 := [180, 0, 245, 154, 0, 6, 16, 252, 172, 42, 180, 0, 75, 27, 96, 16, 40, 164, 0, 6, 16, 254, 172, 28]
abbrev dktX0_lots_1 : List UInt8 := dkwX0_lots_1 ++ dktX0_lots_2
def dkwX0_lots_0 : List UInt8 := [27, 4, 16, 20, 184, 0, 78, 153, 0, 14, 28, 4, 19, 1, 242, 184, 0, 78, 154, 0, 5, 2, 172, 42]
abbrev dktX0_lots_0 : List UInt8 := dkwX0_lots_0 ++ dktX0_lots_1
theorem dksX0_lots_0 : cX0_lots.data.toList.drop 0 = dktX0_lots_0 := by decide +kernel
theorem dksX0_lots_1 : cX0_lots.data.toList.drop 24 = dktX0_lots_1 := dk_seg dksX0_lots_0 24 rfl rfl
theorem dksX0_lots_2 : cX0_lots.data.toList.drop 48 = dktX0_lots_2 := dk_seg dksX0_lots_1 24 rfl rfl
theorem dksX0_lots_3 : cX0_lots.data.toList.drop 70 = dktX0_lots_3 := dk_seg dksX0_lots_2 22 rfl rfl
theorem dksX0_lots_4 : cX0_lots.data.toList.drop 93 = dktX0_lots_4 := dk_seg dksX0_lots_3 23 rfl rfl
theorem dX0_lots_0 : decode cX0_lots 0 = .ok (.iload_n 1, 1) := dk_27 (dk_at dksX0_lots_0 0 rfl rfl)
theorem dX0_lots_1 : decode cX0_lots 1 = .ok (.iconst 1, 1) := dk_4 (dk_at dksX0_lots_0 1 rfl rfl)
theorem dX0_lots_2 : decode cX0_lots 2 = .ok (.bipush 20, 2) := dk_16 20 (dk_at dksX0_lots_0 2 rfl rfl)
theorem dX0_lots_4 : decode cX0_lots 4 = .ok (.invokestatic 78, 3) := dk_184 0 78 (dk_at dksX0_lots_0 4 rfl rfl)
theorem dX0_lots_7 : decode cX0_lots 7 = .ok (.ifCond .eq 14, 3) := dk_153 0 14 (dk_at dksX0_lots_0 7 rfl rfl)
theorem dX0_lots_10 : decode cX0_lots 10 = .ok (.iload_n 2, 1) := dk_28 (dk_at dksX0_lots_0 10 rfl rfl)
theorem dX0_lots_11 : decode cX0_lots 11 = .ok (.iconst 1, 1) := dk_4 (dk_at dksX0_lots_0 11 rfl rfl)
theorem dX0_lots_12 : decode cX0_lots 12 = .ok (.ldc_w 498, 3) := dk_19 1 242 (dk_at dksX0_lots_0 12 rfl rfl)
theorem dX0_lots_15 : decode cX0_lots 15 = .ok (.invokestatic 78, 3) := dk_184 0 78 (dk_at dksX0_lots_0 15 rfl rfl)
theorem dX0_lots_18 : decode cX0_lots 18 = .ok (.ifCond .ne 5, 3) := dk_154 0 5 (dk_at dksX0_lots_0 18 rfl rfl)
theorem dX0_lots_21 : decode cX0_lots 21 = .ok (.iconst (-1), 1) := dk_2 (dk_at dksX0_lots_0 21 rfl rfl)
theorem dX0_lots_22 : decode cX0_lots 22 = .ok (.ireturn, 1) := dk_172 (dk_at dksX0_lots_0 22 rfl rfl)
theorem dX0_lots_23 : decode cX0_lots 23 = .ok (.aload_n 0, 1) := dk_42 (dk_at dksX0_lots_0 23 rfl rfl)
theorem dX0_lots_24 : decode cX0_lots 24 = .ok (.getfield 245, 3) := dk_180 0 245 (dk_at dksX0_lots_1 0 rfl rfl)
theorem dX0_lots_27 : decode cX0_lots 27 = .ok (.ifCond .ne 6, 3) := dk_154 0 6 (dk_at dksX0_lots_1 3 rfl rfl)
theorem dX0_lots_30 : decode cX0_lots 30 = .ok (.bipush (-4), 2) := dk_16 252 (dk_at dksX0_lots_1 6 rfl rfl)
theorem dX0_lots_32 : decode cX0_lots 32 = .ok (.ireturn, 1) := dk_172 (dk_at dksX0_lots_1 8 rfl rfl)
theorem dX0_lots_33 : decode cX0_lots 33 = .ok (.aload_n 0, 1) := dk_42 (dk_at dksX0_lots_1 9 rfl rfl)
theorem dX0_lots_34 : decode cX0_lots 34 = .ok (.getfield 75, 3) := dk_180 0 75 (dk_at dksX0_lots_1 10 rfl rfl)
theorem dX0_lots_37 : decode cX0_lots 37 = .ok (.iload_n 1, 1) := dk_27 (dk_at dksX0_lots_1 13 rfl rfl)
theorem dX0_lots_38 : decode cX0_lots 38 = .ok (.iadd, 1) := dk_96 (dk_at dksX0_lots_1 14 rfl rfl)
theorem dX0_lots_39 : decode cX0_lots 39 = .ok (.bipush 40, 2) := dk_16 40 (dk_at dksX0_lots_1 15 rfl rfl)
theorem dX0_lots_41 : decode cX0_lots 41 = .ok (.if_icmp .le 6, 3) := dk_164 0 6 (dk_at dksX0_lots_1 17 rfl rfl)
theorem dX0_lots_44 : decode cX0_lots 44 = .ok (.bipush (-2), 2) := dk_16 254 (dk_at dksX0_lots_1 20 rfl rfl)
theorem dX0_lots_46 : decode cX0_lots 46 = .ok (.ireturn, 1) := dk_172 (dk_at dksX0_lots_1 22 rfl rfl)
theorem dX0_lots_47 : decode cX0_lots 47 = .ok (.iload_n 2, 1) := dk_28 (dk_at dksX0_lots_1 23 rfl rfl)
theorem dX0_lots_48 : decode cX0_lots 48 = .ok (.i2l, 1) := dk_133 (dk_at dksX0_lots_2 0 rfl rfl)
theorem dX0_lots_49 : decode cX0_lots 49 = .ok (.lstore_n 3, 1) := dk_66 (dk_at dksX0_lots_2 1 rfl rfl)
theorem dX0_lots_50 : decode cX0_lots 50 = .ok (.iconst 0, 1) := dk_3 (dk_at dksX0_lots_2 2 rfl rfl)
theorem dX0_lots_51 : decode cX0_lots 51 = .ok (.istore 5, 2) := dk_54 5 (dk_at dksX0_lots_2 3 rfl rfl)
theorem dX0_lots_53 : decode cX0_lots 53 = .ok (.iload 5, 2) := dk_21 5 (dk_at dksX0_lots_2 5 rfl rfl)
theorem dX0_lots_55 : decode cX0_lots 55 = .ok (.iload_n 1, 1) := dk_27 (dk_at dksX0_lots_2 7 rfl rfl)
theorem dX0_lots_56 : decode cX0_lots 56 = .ok (.if_icmp .ge 55, 3) := dk_162 0 55 (dk_at dksX0_lots_2 8 rfl rfl)
theorem dX0_lots_59 : decode cX0_lots 59 = .ok (.ldc2_w 499, 3) := dk_20 1 243 (dk_at dksX0_lots_2 11 rfl rfl)
theorem dX0_lots_62 : decode cX0_lots 62 = .ok (.lload_n 3, 1) := dk_33 (dk_at dksX0_lots_2 14 rfl rfl)
theorem dX0_lots_63 : decode cX0_lots 63 = .ok (.lmul, 1) := dk_105 (dk_at dksX0_lots_2 15 rfl rfl)
theorem dX0_lots_64 : decode cX0_lots 64 = .ok (.ldc2_w 501, 3) := dk_20 1 245 (dk_at dksX0_lots_2 16 rfl rfl)
theorem dX0_lots_67 : decode cX0_lots 67 = .ok (.lrem, 1) := dk_113 (dk_at dksX0_lots_2 19 rfl rfl)
theorem dX0_lots_68 : decode cX0_lots 68 = .ok (.lstore_n 3, 1) := dk_66 (dk_at dksX0_lots_2 20 rfl rfl)
theorem dX0_lots_69 : decode cX0_lots 69 = .ok (.aload_n 0, 1) := dk_42 (dk_at dksX0_lots_2 21 rfl rfl)
theorem dX0_lots_70 : decode cX0_lots 70 = .ok (.invokevirtual 417, 3) := dk_182 1 161 (dk_at dksX0_lots_3 0 rfl rfl)
theorem dX0_lots_73 : decode cX0_lots 73 = .ok (.aload_n 0, 1) := dk_42 (dk_at dksX0_lots_3 3 rfl rfl)
theorem dX0_lots_74 : decode cX0_lots 74 = .ok (.lload_n 3, 1) := dk_33 (dk_at dksX0_lots_3 4 rfl rfl)
theorem dX0_lots_75 : decode cX0_lots 75 = .ok (.ldc2_w 503, 3) := dk_20 1 247 (dk_at dksX0_lots_3 5 rfl rfl)
theorem dX0_lots_78 : decode cX0_lots 78 = .ok (.ldiv, 1) := dk_109 (dk_at dksX0_lots_3 8 rfl rfl)
theorem dX0_lots_79 : decode cX0_lots 79 = .ok (.aload_n 0, 1) := dk_42 (dk_at dksX0_lots_3 9 rfl rfl)
theorem dX0_lots_80 : decode cX0_lots 80 = .ok (.getfield 245, 3) := dk_180 0 245 (dk_at dksX0_lots_3 10 rfl rfl)
theorem dX0_lots_83 : decode cX0_lots 83 = .ok (.i2l, 1) := dk_133 (dk_at dksX0_lots_3 13 rfl rfl)
theorem dX0_lots_84 : decode cX0_lots 84 = .ok (.lrem, 1) := dk_113 (dk_at dksX0_lots_3 14 rfl rfl)
theorem dX0_lots_85 : decode cX0_lots 85 = .ok (.l2i, 1) := dk_136 (dk_at dksX0_lots_3 15 rfl rfl)
theorem dX0_lots_86 : decode cX0_lots 86 = .ok (.lload_n 3, 1) := dk_33 (dk_at dksX0_lots_3 16 rfl rfl)
theorem dX0_lots_87 : decode cX0_lots 87 = .ok (.ldc2_w 503, 3) := dk_20 1 247 (dk_at dksX0_lots_3 17 rfl rfl)
theorem dX0_lots_90 : decode cX0_lots 90 = .ok (.lrem, 1) := dk_113 (dk_at dksX0_lots_3 20 rfl rfl)
theorem dX0_lots_91 : decode cX0_lots 91 = .ok (.l2i, 1) := dk_136 (dk_at dksX0_lots_3 21 rfl rfl)
theorem dX0_lots_92 : decode cX0_lots 92 = .ok (.lload_n 3, 1) := dk_33 (dk_at dksX0_lots_3 22 rfl rfl)
theorem dX0_lots_93 : decode cX0_lots 93 = .ok (.ldc2_w 505, 3) := dk_20 1 249 (dk_at dksX0_lots_4 0 rfl rfl)
theorem dX0_lots_96 : decode cX0_lots 96 = .ok (.ldiv, 1) := dk_109 (dk_at dksX0_lots_4 3 rfl rfl)
theorem dX0_lots_97 : decode cX0_lots 97 = .ok (.ldc2_w 507, 3) := dk_20 1 251 (dk_at dksX0_lots_4 4 rfl rfl)
theorem dX0_lots_100 : decode cX0_lots 100 = .ok (.lrem, 1) := dk_113 (dk_at dksX0_lots_4 7 rfl rfl)
theorem dX0_lots_101 : decode cX0_lots 101 = .ok (.l2i, 1) := dk_136 (dk_at dksX0_lots_4 8 rfl rfl)
theorem dX0_lots_102 : decode cX0_lots 102 = .ok (.invokevirtual 509, 3) := dk_182 1 253 (dk_at dksX0_lots_4 9 rfl rfl)
theorem dX0_lots_105 : decode cX0_lots 105 = .ok (.iinc 5 1, 3) := dk_132 5 1 (dk_at dksX0_lots_4 12 rfl rfl)
theorem dX0_lots_108 : decode cX0_lots 108 = .ok (.goto (-55), 3) := dk_167 255 201 (dk_at dksX0_lots_4 15 rfl rfl)
theorem dX0_lots_111 : decode cX0_lots 111 = .ok (.aload_n 0, 1) := dk_42 (dk_at dksX0_lots_4 18 rfl rfl)
theorem dX0_lots_112 : decode cX0_lots 112 = .ok (.invokevirtual 513, 3) := dk_182 2 1 (dk_at dksX0_lots_4 19 rfl rfl)
theorem dX0_lots_115 : decode cX0_lots 115 = .ok (.ireturn, 1) := dk_172 (dk_at dksX0_lots_4 22 rfl rfl)
abbrev cX0_drawn : ByteArray := prog_1_method_75_code
def yX0_drawn : MethodName := ⟨RX0, "drawn", "(III)V"⟩
def dkwX0_drawn_2 : List UInt8 := [182, 1, 164, 177]
abbrev dktX0_drawn_2 : List UInt8 := dkwX0_drawn_2 ++ []
def dkwX0_drawn_1 : List UInt8 := [182, 1, 39, 154, 0, 22, 42, 42, 180, 0, 33, 27, 50, 182, 1, 157, 87, 167, 0, 8, 42, 27]
abbrev dktX0_drawn_1 : List UInt8 := dkwX0_drawn_1 ++ dktX0_drawn_2
def dkwX0_drawn_0 : List UInt8 := [28, 154, 0, 14, 42, 29, 184, 1, 0, 181, 0, 40, 167, 0, 35, 28, 8, 162, 0, 25, 42, 27]
abbrev dktX0_drawn_0 : List UInt8 := dkwX0_drawn_0 ++ dktX0_drawn_1
theorem dksX0_drawn_0 : cX0_drawn.data.toList.drop 0 = dktX0_drawn_0 := by decide +kernel
theorem dksX0_drawn_1 : cX0_drawn.data.toList.drop 22 = dktX0_drawn_1 := dk_seg dksX0_drawn_0 22 rfl rfl
theorem dksX0_drawn_2 : cX0_drawn.data.toList.drop 44 = dktX0_drawn_2 := dk_seg dksX0_drawn_1 22 rfl rfl
theorem dX0_drawn_0 : decode cX0_drawn 0 = .ok (.iload_n 2, 1) := dk_28 (dk_at dksX0_drawn_0 0 rfl rfl)
theorem dX0_drawn_1 : decode cX0_drawn 1 = .ok (.ifCond .ne 14, 3) := dk_154 0 14 (dk_at dksX0_drawn_0 1 rfl rfl)
theorem dX0_drawn_4 : decode cX0_drawn 4 = .ok (.aload_n 0, 1) := dk_42 (dk_at dksX0_drawn_0 4 rfl rfl)
theorem dX0_drawn_5 : decode cX0_drawn 5 = .ok (.iload_n 3, 1) := dk_29 (dk_at dksX0_drawn_0 5 rfl rfl)
theorem dX0_drawn_6 : decode cX0_drawn 6 = .ok (.invokestatic 256, 3) := dk_184 1 0 (dk_at dksX0_drawn_0 6 rfl rfl)
theorem dX0_drawn_9 : decode cX0_drawn 9 = .ok (.putfield 40, 3) := dk_181 0 40 (dk_at dksX0_drawn_0 9 rfl rfl)
theorem dX0_drawn_12 : decode cX0_drawn 12 = .ok (.goto 35, 3) := dk_167 0 35 (dk_at dksX0_drawn_0 12 rfl rfl)
theorem dX0_drawn_15 : decode cX0_drawn 15 = .ok (.iload_n 2, 1) := dk_28 (dk_at dksX0_drawn_0 15 rfl rfl)
theorem dX0_drawn_16 : decode cX0_drawn 16 = .ok (.iconst 5, 1) := dk_8 (dk_at dksX0_drawn_0 16 rfl rfl)
theorem dX0_drawn_17 : decode cX0_drawn 17 = .ok (.if_icmp .ge 25, 3) := dk_162 0 25 (dk_at dksX0_drawn_0 17 rfl rfl)
theorem dX0_drawn_20 : decode cX0_drawn 20 = .ok (.aload_n 0, 1) := dk_42 (dk_at dksX0_drawn_0 20 rfl rfl)
theorem dX0_drawn_21 : decode cX0_drawn 21 = .ok (.iload_n 1, 1) := dk_27 (dk_at dksX0_drawn_0 21 rfl rfl)
theorem dX0_drawn_22 : decode cX0_drawn 22 = .ok (.invokevirtual 295, 3) := dk_182 1 39 (dk_at dksX0_drawn_1 0 rfl rfl)
theorem dX0_drawn_25 : decode cX0_drawn 25 = .ok (.ifCond .ne 22, 3) := dk_154 0 22 (dk_at dksX0_drawn_1 3 rfl rfl)
theorem dX0_drawn_28 : decode cX0_drawn 28 = .ok (.aload_n 0, 1) := dk_42 (dk_at dksX0_drawn_1 6 rfl rfl)
theorem dX0_drawn_29 : decode cX0_drawn 29 = .ok (.aload_n 0, 1) := dk_42 (dk_at dksX0_drawn_1 7 rfl rfl)
theorem dX0_drawn_30 : decode cX0_drawn 30 = .ok (.getfield 33, 3) := dk_180 0 33 (dk_at dksX0_drawn_1 8 rfl rfl)
theorem dX0_drawn_33 : decode cX0_drawn 33 = .ok (.iload_n 1, 1) := dk_27 (dk_at dksX0_drawn_1 11 rfl rfl)
theorem dX0_drawn_34 : decode cX0_drawn 34 = .ok (.aaload, 1) := dk_50 (dk_at dksX0_drawn_1 12 rfl rfl)
theorem dX0_drawn_35 : decode cX0_drawn 35 = .ok (.invokevirtual 413, 3) := dk_182 1 157 (dk_at dksX0_drawn_1 13 rfl rfl)
theorem dX0_drawn_38 : decode cX0_drawn 38 = .ok (.pop, 1) := dk_87 (dk_at dksX0_drawn_1 16 rfl rfl)
theorem dX0_drawn_39 : decode cX0_drawn 39 = .ok (.goto 8, 3) := dk_167 0 8 (dk_at dksX0_drawn_1 17 rfl rfl)
theorem dX0_drawn_42 : decode cX0_drawn 42 = .ok (.aload_n 0, 1) := dk_42 (dk_at dksX0_drawn_1 20 rfl rfl)
theorem dX0_drawn_43 : decode cX0_drawn 43 = .ok (.iload_n 1, 1) := dk_27 (dk_at dksX0_drawn_1 21 rfl rfl)
theorem dX0_drawn_44 : decode cX0_drawn 44 = .ok (.invokevirtual 420, 3) := dk_182 1 164 (dk_at dksX0_drawn_2 0 rfl rfl)
theorem dX0_drawn_47 : decode cX0_drawn 47 = .ok (.return_, 1) := dk_177 (dk_at dksX0_drawn_2 3 rfl rfl)
abbrev cX0_setMany : ByteArray := prog_1_method_76_code
def yX0_setMany : MethodName := ⟨RX0, "setMany", "()I"⟩
def dkwX0_setMany_1 : List UInt8 := [167, 0, 4, 3, 96, 60, 132, 2, 1, 167, 255, 229, 27, 172]
abbrev dktX0_setMany_1 : List UInt8 := dkwX0_setMany_1 ++ []
def dkwX0_setMany_0 : List UInt8 := [3, 60, 3, 61, 28, 42, 180, 0, 245, 162, 0, 25, 27, 42, 28, 182, 1, 39, 153, 0, 7, 4]
abbrev dktX0_setMany_0 : List UInt8 := dkwX0_setMany_0 ++ dktX0_setMany_1
theorem dksX0_setMany_0 : cX0_setMany.data.toList.drop 0 = dktX0_setMany_0 := by decide +kernel
theorem dksX0_setMany_1 : cX0_setMany.data.toList.drop 22 = dktX0_setMany_1 := dk_seg dksX0_setMany_0 22 rfl rfl
theorem dX0_setMany_0 : decode cX0_setMany 0 = .ok (.iconst 0, 1) := dk_3 (dk_at dksX0_setMany_0 0 rfl rfl)
theorem dX0_setMany_1 : decode cX0_setMany 1 = .ok (.istore_n 1, 1) := dk_60 (dk_at dksX0_setMany_0 1 rfl rfl)
theorem dX0_setMany_2 : decode cX0_setMany 2 = .ok (.iconst 0, 1) := dk_3 (dk_at dksX0_setMany_0 2 rfl rfl)
theorem dX0_setMany_3 : decode cX0_setMany 3 = .ok (.istore_n 2, 1) := dk_61 (dk_at dksX0_setMany_0 3 rfl rfl)
theorem dX0_setMany_4 : decode cX0_setMany 4 = .ok (.iload_n 2, 1) := dk_28 (dk_at dksX0_setMany_0 4 rfl rfl)
theorem dX0_setMany_5 : decode cX0_setMany 5 = .ok (.aload_n 0, 1) := dk_42 (dk_at dksX0_setMany_0 5 rfl rfl)
theorem dX0_setMany_6 : decode cX0_setMany 6 = .ok (.getfield 245, 3) := dk_180 0 245 (dk_at dksX0_setMany_0 6 rfl rfl)
theorem dX0_setMany_9 : decode cX0_setMany 9 = .ok (.if_icmp .ge 25, 3) := dk_162 0 25 (dk_at dksX0_setMany_0 9 rfl rfl)
theorem dX0_setMany_12 : decode cX0_setMany 12 = .ok (.iload_n 1, 1) := dk_27 (dk_at dksX0_setMany_0 12 rfl rfl)
theorem dX0_setMany_13 : decode cX0_setMany 13 = .ok (.aload_n 0, 1) := dk_42 (dk_at dksX0_setMany_0 13 rfl rfl)
theorem dX0_setMany_14 : decode cX0_setMany 14 = .ok (.iload_n 2, 1) := dk_28 (dk_at dksX0_setMany_0 14 rfl rfl)
theorem dX0_setMany_15 : decode cX0_setMany 15 = .ok (.invokevirtual 295, 3) := dk_182 1 39 (dk_at dksX0_setMany_0 15 rfl rfl)
theorem dX0_setMany_18 : decode cX0_setMany 18 = .ok (.ifCond .eq 7, 3) := dk_153 0 7 (dk_at dksX0_setMany_0 18 rfl rfl)
theorem dX0_setMany_21 : decode cX0_setMany 21 = .ok (.iconst 1, 1) := dk_4 (dk_at dksX0_setMany_0 21 rfl rfl)
theorem dX0_setMany_22 : decode cX0_setMany 22 = .ok (.goto 4, 3) := dk_167 0 4 (dk_at dksX0_setMany_1 0 rfl rfl)
theorem dX0_setMany_25 : decode cX0_setMany 25 = .ok (.iconst 0, 1) := dk_3 (dk_at dksX0_setMany_1 3 rfl rfl)
theorem dX0_setMany_26 : decode cX0_setMany 26 = .ok (.iadd, 1) := dk_96 (dk_at dksX0_setMany_1 4 rfl rfl)
theorem dX0_setMany_27 : decode cX0_setMany 27 = .ok (.istore_n 1, 1) := dk_60 (dk_at dksX0_setMany_1 5 rfl rfl)
theorem dX0_setMany_28 : decode cX0_setMany 28 = .ok (.iinc 2 1, 3) := dk_132 2 1 (dk_at dksX0_setMany_1 6 rfl rfl)
theorem dX0_setMany_31 : decode cX0_setMany 31 = .ok (.goto (-27), 3) := dk_167 255 229 (dk_at dksX0_setMany_1 9 rfl rfl)
theorem dX0_setMany_34 : decode cX0_setMany 34 = .ok (.iload_n 1, 1) := dk_27 (dk_at dksX0_setMany_1 12 rfl rfl)
theorem dX0_setMany_35 : decode cX0_setMany 35 = .ok (.ireturn, 1) := dk_172 (dk_at dksX0_setMany_1 13 rfl rfl)
abbrev cX0_asked : ByteArray := prog_1_method_78_code
def yX0_asked : MethodName := ⟨RX0, "asked", "()I"⟩
theorem dX0_asked_0 : decode cX0_asked 0 = .ok (.aload_n 0, 1) := by decide +kernel
theorem dX0_asked_1 : decode cX0_asked 1 = .ok (.getfield 11, 3) := by decide +kernel
theorem dX0_asked_4 : decode cX0_asked 4 = .ok (.ireturn, 1) := by decide +kernel
abbrev cX0_count : ByteArray := prog_1_method_84_code
def yX0_count : MethodName := ⟨RX0, "count", "(I)I"⟩
def dkwX0_count_0 : List UInt8 := [27, 3, 16, 13, 184, 0, 78, 153, 0, 11, 42, 27, 182, 2, 16, 167, 0, 4, 2, 172]
abbrev dktX0_count_0 : List UInt8 := dkwX0_count_0 ++ []
theorem dksX0_count_0 : cX0_count.data.toList.drop 0 = dktX0_count_0 := by decide +kernel
theorem dX0_count_0 : decode cX0_count 0 = .ok (.iload_n 1, 1) := dk_27 (dk_at dksX0_count_0 0 rfl rfl)
theorem dX0_count_1 : decode cX0_count 1 = .ok (.iconst 0, 1) := dk_3 (dk_at dksX0_count_0 1 rfl rfl)
theorem dX0_count_2 : decode cX0_count 2 = .ok (.bipush 13, 2) := dk_16 13 (dk_at dksX0_count_0 2 rfl rfl)
theorem dX0_count_4 : decode cX0_count 4 = .ok (.invokestatic 78, 3) := dk_184 0 78 (dk_at dksX0_count_0 4 rfl rfl)
theorem dX0_count_7 : decode cX0_count 7 = .ok (.ifCond .eq 11, 3) := dk_153 0 11 (dk_at dksX0_count_0 7 rfl rfl)
theorem dX0_count_10 : decode cX0_count 10 = .ok (.aload_n 0, 1) := dk_42 (dk_at dksX0_count_0 10 rfl rfl)
theorem dX0_count_11 : decode cX0_count 11 = .ok (.iload_n 1, 1) := dk_27 (dk_at dksX0_count_0 11 rfl rfl)
theorem dX0_count_12 : decode cX0_count 12 = .ok (.invokevirtual 528, 3) := dk_182 2 16 (dk_at dksX0_count_0 12 rfl rfl)
theorem dX0_count_15 : decode cX0_count 15 = .ok (.goto 4, 3) := dk_167 0 4 (dk_at dksX0_count_0 15 rfl rfl)
theorem dX0_count_18 : decode cX0_count 18 = .ok (.iconst (-1), 1) := dk_2 (dk_at dksX0_count_0 18 rfl rfl)
theorem dX0_count_19 : decode cX0_count 19 = .ok (.ireturn, 1) := dk_172 (dk_at dksX0_count_0 19 rfl rfl)
abbrev cX0_countOf : ByteArray := prog_1_method_83_code
def yX0_countOf : MethodName := ⟨RX0, "countOf", "(I)I"⟩
def dkwX0_countOf_5 : List UInt8 := [182, 2, 10, 167, 0, 15, 42, 180, 0, 75, 167, 0, 8, 42, 27, 182, 2, 13, 172]
abbrev dktX0_countOf_5 : List UInt8 := dkwX0_countOf_5 ++ []
def dkwX0_countOf_4 : List UInt8 := [185, 1, 150, 1, 0, 167, 0, 36, 42, 182, 2, 4, 167, 0, 29, 42, 182, 2, 7, 167, 0, 22, 42]
abbrev dktX0_countOf_4 : List UInt8 := dkwX0_countOf_4 ++ dktX0_countOf_5
def dkwX0_countOf_3 : List UInt8 := [180, 0, 248, 167, 0, 62, 42, 180, 0, 251, 167, 0, 55, 42, 180, 0, 254, 167, 0, 48, 42, 180, 0, 40]
abbrev dktX0_countOf_3 : List UInt8 := dkwX0_countOf_3 ++ dktX0_countOf_4
def dkwX0_countOf_2 : List UInt8 := [42, 180, 0, 245, 167, 0, 83, 42, 182, 2, 1, 167, 0, 76, 42, 182, 1, 143, 167, 0, 69, 42]
abbrev dktX0_countOf_2 : List UInt8 := dkwX0_countOf_2 ++ dktX0_countOf_3
def dkwX0_countOf_1 : List UInt8 := [170, 0, 0, 0, 0, 0, 141, 0, 0, 0, 0, 0, 0, 0, 10, 0, 0, 0, 59, 0, 0, 0, 66, 0, 0, 0, 73, 0, 0, 0, 80, 0, 0, 0, 87, 0, 0, 0, 94, 0, 0, 0, 101, 0, 0, 0, 113, 0, 0, 0, 120, 0, 0, 0, 127, 0, 0, 0, 134]
abbrev dktX0_countOf_1 : List UInt8 := dkwX0_countOf_1 ++ dktX0_countOf_2
def dkwX0_countOf_0 : List UInt8 := [27]
abbrev dktX0_countOf_0 : List UInt8 := dkwX0_countOf_0 ++ dktX0_countOf_1
theorem dksX0_countOf_0 : cX0_countOf.data.toList.drop 0 = dktX0_countOf_0 := by decide +kernel
theorem dksX0_countOf_1 : cX0_countOf.data.toList.drop 1 = dktX0_countOf_1 := dk_seg dksX0_countOf_0 1 rfl rfl
theorem dksX0_countOf_2 : cX0_countOf.data.toList.drop 60 = dktX0_countOf_2 := dk_seg dksX0_countOf_1 59 rfl rfl
theorem dksX0_countOf_3 : cX0_countOf.data.toList.drop 82 = dktX0_countOf_3 := dk_seg dksX0_countOf_2 22 rfl rfl
theorem dksX0_countOf_4 : cX0_countOf.data.toList.drop 106 = dktX0_countOf_4 := dk_seg dksX0_countOf_3 24 rfl rfl
theorem dksX0_countOf_5 : cX0_countOf.data.toList.drop 129 = dktX0_countOf_5 := dk_seg dksX0_countOf_4 23 rfl rfl
theorem dX0_countOf_0 : decode cX0_countOf 0 = .ok (.iload_n 1, 1) := dk_27 (dk_at dksX0_countOf_0 0 rfl rfl)
theorem dX0_countOf_1 : decode cX0_countOf 1 = .ok (.tableswitch 141 0 10 #[59, 66, 73, 80, 87, 94, 101, 113, 120, 127, 134], 59) := by decide +kernel
theorem dX0_countOf_60 : decode cX0_countOf 60 = .ok (.aload_n 0, 1) := dk_42 (dk_at dksX0_countOf_2 0 rfl rfl)
theorem dX0_countOf_61 : decode cX0_countOf 61 = .ok (.getfield 245, 3) := dk_180 0 245 (dk_at dksX0_countOf_2 1 rfl rfl)
theorem dX0_countOf_64 : decode cX0_countOf 64 = .ok (.goto 83, 3) := dk_167 0 83 (dk_at dksX0_countOf_2 4 rfl rfl)
theorem dX0_countOf_67 : decode cX0_countOf 67 = .ok (.aload_n 0, 1) := dk_42 (dk_at dksX0_countOf_2 7 rfl rfl)
theorem dX0_countOf_68 : decode cX0_countOf 68 = .ok (.invokevirtual 513, 3) := dk_182 2 1 (dk_at dksX0_countOf_2 8 rfl rfl)
theorem dX0_countOf_71 : decode cX0_countOf 71 = .ok (.goto 76, 3) := dk_167 0 76 (dk_at dksX0_countOf_2 11 rfl rfl)
theorem dX0_countOf_74 : decode cX0_countOf 74 = .ok (.aload_n 0, 1) := dk_42 (dk_at dksX0_countOf_2 14 rfl rfl)
theorem dX0_countOf_75 : decode cX0_countOf 75 = .ok (.invokevirtual 399, 3) := dk_182 1 143 (dk_at dksX0_countOf_2 15 rfl rfl)
theorem dX0_countOf_78 : decode cX0_countOf 78 = .ok (.goto 69, 3) := dk_167 0 69 (dk_at dksX0_countOf_2 18 rfl rfl)
theorem dX0_countOf_81 : decode cX0_countOf 81 = .ok (.aload_n 0, 1) := dk_42 (dk_at dksX0_countOf_2 21 rfl rfl)
theorem dX0_countOf_82 : decode cX0_countOf 82 = .ok (.getfield 248, 3) := dk_180 0 248 (dk_at dksX0_countOf_3 0 rfl rfl)
theorem dX0_countOf_85 : decode cX0_countOf 85 = .ok (.goto 62, 3) := dk_167 0 62 (dk_at dksX0_countOf_3 3 rfl rfl)
theorem dX0_countOf_88 : decode cX0_countOf 88 = .ok (.aload_n 0, 1) := dk_42 (dk_at dksX0_countOf_3 6 rfl rfl)
theorem dX0_countOf_89 : decode cX0_countOf 89 = .ok (.getfield 251, 3) := dk_180 0 251 (dk_at dksX0_countOf_3 7 rfl rfl)
theorem dX0_countOf_92 : decode cX0_countOf 92 = .ok (.goto 55, 3) := dk_167 0 55 (dk_at dksX0_countOf_3 10 rfl rfl)
theorem dX0_countOf_95 : decode cX0_countOf 95 = .ok (.aload_n 0, 1) := dk_42 (dk_at dksX0_countOf_3 13 rfl rfl)
theorem dX0_countOf_96 : decode cX0_countOf 96 = .ok (.getfield 254, 3) := dk_180 0 254 (dk_at dksX0_countOf_3 14 rfl rfl)
theorem dX0_countOf_99 : decode cX0_countOf 99 = .ok (.goto 48, 3) := dk_167 0 48 (dk_at dksX0_countOf_3 17 rfl rfl)
theorem dX0_countOf_102 : decode cX0_countOf 102 = .ok (.aload_n 0, 1) := dk_42 (dk_at dksX0_countOf_3 20 rfl rfl)
theorem dX0_countOf_103 : decode cX0_countOf 103 = .ok (.getfield 40, 3) := dk_180 0 40 (dk_at dksX0_countOf_3 21 rfl rfl)
theorem dX0_countOf_106 : decode cX0_countOf 106 = .ok (.invokeinterface 406 1, 5) := by decide +kernel
theorem dX0_countOf_111 : decode cX0_countOf 111 = .ok (.goto 36, 3) := dk_167 0 36 (dk_at dksX0_countOf_4 5 rfl rfl)
theorem dX0_countOf_114 : decode cX0_countOf 114 = .ok (.aload_n 0, 1) := dk_42 (dk_at dksX0_countOf_4 8 rfl rfl)
theorem dX0_countOf_115 : decode cX0_countOf 115 = .ok (.invokevirtual 516, 3) := dk_182 2 4 (dk_at dksX0_countOf_4 9 rfl rfl)
theorem dX0_countOf_118 : decode cX0_countOf 118 = .ok (.goto 29, 3) := dk_167 0 29 (dk_at dksX0_countOf_4 12 rfl rfl)
theorem dX0_countOf_121 : decode cX0_countOf 121 = .ok (.aload_n 0, 1) := dk_42 (dk_at dksX0_countOf_4 15 rfl rfl)
theorem dX0_countOf_122 : decode cX0_countOf 122 = .ok (.invokevirtual 519, 3) := dk_182 2 7 (dk_at dksX0_countOf_4 16 rfl rfl)
theorem dX0_countOf_125 : decode cX0_countOf 125 = .ok (.goto 22, 3) := dk_167 0 22 (dk_at dksX0_countOf_4 19 rfl rfl)
theorem dX0_countOf_128 : decode cX0_countOf 128 = .ok (.aload_n 0, 1) := dk_42 (dk_at dksX0_countOf_4 22 rfl rfl)
theorem dX0_countOf_129 : decode cX0_countOf 129 = .ok (.invokevirtual 522, 3) := dk_182 2 10 (dk_at dksX0_countOf_5 0 rfl rfl)
theorem dX0_countOf_132 : decode cX0_countOf 132 = .ok (.goto 15, 3) := dk_167 0 15 (dk_at dksX0_countOf_5 3 rfl rfl)
theorem dX0_countOf_135 : decode cX0_countOf 135 = .ok (.aload_n 0, 1) := dk_42 (dk_at dksX0_countOf_5 6 rfl rfl)
theorem dX0_countOf_136 : decode cX0_countOf 136 = .ok (.getfield 75, 3) := dk_180 0 75 (dk_at dksX0_countOf_5 7 rfl rfl)
theorem dX0_countOf_139 : decode cX0_countOf 139 = .ok (.goto 8, 3) := dk_167 0 8 (dk_at dksX0_countOf_5 10 rfl rfl)
theorem dX0_countOf_142 : decode cX0_countOf 142 = .ok (.aload_n 0, 1) := dk_42 (dk_at dksX0_countOf_5 13 rfl rfl)
theorem dX0_countOf_143 : decode cX0_countOf 143 = .ok (.iload_n 1, 1) := dk_27 (dk_at dksX0_countOf_5 14 rfl rfl)
theorem dX0_countOf_144 : decode cX0_countOf 144 = .ok (.invokevirtual 525, 3) := dk_182 2 13 (dk_at dksX0_countOf_5 15 rfl rfl)
theorem dX0_countOf_147 : decode cX0_countOf 147 = .ok (.ireturn, 1) := dk_172 (dk_at dksX0_countOf_5 18 rfl rfl)
abbrev cX0_usedAll : ByteArray := prog_1_method_79_code
def yX0_usedAll : MethodName := ⟨RX0, "usedAll", "()I"⟩
def dkwX0_usedAll_1 : List UInt8 := [27, 172]
abbrev dktX0_usedAll_1 : List UInt8 := dkwX0_usedAll_1 ++ []
def dkwX0_usedAll_0 : List UInt8 := [3, 60, 3, 61, 28, 16, 8, 162, 0, 17, 27, 42, 28, 182, 1, 223, 96, 60, 132, 2, 1, 167, 255, 239]
abbrev dktX0_usedAll_0 : List UInt8 := dkwX0_usedAll_0 ++ dktX0_usedAll_1
theorem dksX0_usedAll_0 : cX0_usedAll.data.toList.drop 0 = dktX0_usedAll_0 := by decide +kernel
theorem dksX0_usedAll_1 : cX0_usedAll.data.toList.drop 24 = dktX0_usedAll_1 := dk_seg dksX0_usedAll_0 24 rfl rfl
theorem dX0_usedAll_0 : decode cX0_usedAll 0 = .ok (.iconst 0, 1) := dk_3 (dk_at dksX0_usedAll_0 0 rfl rfl)
theorem dX0_usedAll_1 : decode cX0_usedAll 1 = .ok (.istore_n 1, 1) := dk_60 (dk_at dksX0_usedAll_0 1 rfl rfl)
theorem dX0_usedAll_2 : decode cX0_usedAll 2 = .ok (.iconst 0, 1) := dk_3 (dk_at dksX0_usedAll_0 2 rfl rfl)
theorem dX0_usedAll_3 : decode cX0_usedAll 3 = .ok (.istore_n 2, 1) := dk_61 (dk_at dksX0_usedAll_0 3 rfl rfl)
theorem dX0_usedAll_4 : decode cX0_usedAll 4 = .ok (.iload_n 2, 1) := dk_28 (dk_at dksX0_usedAll_0 4 rfl rfl)
theorem dX0_usedAll_5 : decode cX0_usedAll 5 = .ok (.bipush 8, 2) := dk_16 8 (dk_at dksX0_usedAll_0 5 rfl rfl)
theorem dX0_usedAll_7 : decode cX0_usedAll 7 = .ok (.if_icmp .ge 17, 3) := dk_162 0 17 (dk_at dksX0_usedAll_0 7 rfl rfl)
theorem dX0_usedAll_10 : decode cX0_usedAll 10 = .ok (.iload_n 1, 1) := dk_27 (dk_at dksX0_usedAll_0 10 rfl rfl)
theorem dX0_usedAll_11 : decode cX0_usedAll 11 = .ok (.aload_n 0, 1) := dk_42 (dk_at dksX0_usedAll_0 11 rfl rfl)
theorem dX0_usedAll_12 : decode cX0_usedAll 12 = .ok (.iload_n 2, 1) := dk_28 (dk_at dksX0_usedAll_0 12 rfl rfl)
theorem dX0_usedAll_13 : decode cX0_usedAll 13 = .ok (.invokevirtual 479, 3) := dk_182 1 223 (dk_at dksX0_usedAll_0 13 rfl rfl)
theorem dX0_usedAll_16 : decode cX0_usedAll 16 = .ok (.iadd, 1) := dk_96 (dk_at dksX0_usedAll_0 16 rfl rfl)
theorem dX0_usedAll_17 : decode cX0_usedAll 17 = .ok (.istore_n 1, 1) := dk_60 (dk_at dksX0_usedAll_0 17 rfl rfl)
theorem dX0_usedAll_18 : decode cX0_usedAll 18 = .ok (.iinc 2 1, 3) := dk_132 2 1 (dk_at dksX0_usedAll_0 18 rfl rfl)
theorem dX0_usedAll_21 : decode cX0_usedAll 21 = .ok (.goto (-17), 3) := dk_167 255 239 (dk_at dksX0_usedAll_0 21 rfl rfl)
theorem dX0_usedAll_24 : decode cX0_usedAll 24 = .ok (.iload_n 1, 1) := dk_27 (dk_at dksX0_usedAll_1 0 rfl rfl)
theorem dX0_usedAll_25 : decode cX0_usedAll 25 = .ok (.ireturn, 1) := dk_172 (dk_at dksX0_usedAll_1 1 rfl rfl)
abbrev cX0_freeAll : ByteArray := prog_1_method_80_code
def yX0_freeAll : MethodName := ⟨RX0, "freeAll", "()I"⟩
def dkwX0_freeAll_1 : List UInt8 := [132, 2, 1, 167, 255, 233, 27, 172]
abbrev dktX0_freeAll_1 : List UInt8 := dkwX0_freeAll_1 ++ []
def dkwX0_freeAll_0 : List UInt8 := [3, 60, 3, 61, 28, 42, 182, 1, 143, 162, 0, 21, 42, 28, 182, 1, 135, 27, 42, 180, 1, 56, 96, 60]
abbrev dktX0_freeAll_0 : List UInt8 := dkwX0_freeAll_0 ++ dktX0_freeAll_1
theorem dksX0_freeAll_0 : cX0_freeAll.data.toList.drop 0 = dktX0_freeAll_0 := by decide +kernel
theorem dksX0_freeAll_1 : cX0_freeAll.data.toList.drop 24 = dktX0_freeAll_1 := dk_seg dksX0_freeAll_0 24 rfl rfl
theorem dX0_freeAll_0 : decode cX0_freeAll 0 = .ok (.iconst 0, 1) := dk_3 (dk_at dksX0_freeAll_0 0 rfl rfl)
theorem dX0_freeAll_1 : decode cX0_freeAll 1 = .ok (.istore_n 1, 1) := dk_60 (dk_at dksX0_freeAll_0 1 rfl rfl)
theorem dX0_freeAll_2 : decode cX0_freeAll 2 = .ok (.iconst 0, 1) := dk_3 (dk_at dksX0_freeAll_0 2 rfl rfl)
theorem dX0_freeAll_3 : decode cX0_freeAll 3 = .ok (.istore_n 2, 1) := dk_61 (dk_at dksX0_freeAll_0 3 rfl rfl)
theorem dX0_freeAll_4 : decode cX0_freeAll 4 = .ok (.iload_n 2, 1) := dk_28 (dk_at dksX0_freeAll_0 4 rfl rfl)
theorem dX0_freeAll_5 : decode cX0_freeAll 5 = .ok (.aload_n 0, 1) := dk_42 (dk_at dksX0_freeAll_0 5 rfl rfl)
theorem dX0_freeAll_6 : decode cX0_freeAll 6 = .ok (.invokevirtual 399, 3) := dk_182 1 143 (dk_at dksX0_freeAll_0 6 rfl rfl)
theorem dX0_freeAll_9 : decode cX0_freeAll 9 = .ok (.if_icmp .ge 21, 3) := dk_162 0 21 (dk_at dksX0_freeAll_0 9 rfl rfl)
theorem dX0_freeAll_12 : decode cX0_freeAll 12 = .ok (.aload_n 0, 1) := dk_42 (dk_at dksX0_freeAll_0 12 rfl rfl)
theorem dX0_freeAll_13 : decode cX0_freeAll 13 = .ok (.iload_n 2, 1) := dk_28 (dk_at dksX0_freeAll_0 13 rfl rfl)
theorem dX0_freeAll_14 : decode cX0_freeAll 14 = .ok (.invokevirtual 391, 3) := dk_182 1 135 (dk_at dksX0_freeAll_0 14 rfl rfl)
theorem dX0_freeAll_17 : decode cX0_freeAll 17 = .ok (.iload_n 1, 1) := dk_27 (dk_at dksX0_freeAll_0 17 rfl rfl)
theorem dX0_freeAll_18 : decode cX0_freeAll 18 = .ok (.aload_n 0, 1) := dk_42 (dk_at dksX0_freeAll_0 18 rfl rfl)
theorem dX0_freeAll_19 : decode cX0_freeAll 19 = .ok (.getfield 312, 3) := dk_180 1 56 (dk_at dksX0_freeAll_0 19 rfl rfl)
theorem dX0_freeAll_22 : decode cX0_freeAll 22 = .ok (.iadd, 1) := dk_96 (dk_at dksX0_freeAll_0 22 rfl rfl)
theorem dX0_freeAll_23 : decode cX0_freeAll 23 = .ok (.istore_n 1, 1) := dk_60 (dk_at dksX0_freeAll_0 23 rfl rfl)
theorem dX0_freeAll_24 : decode cX0_freeAll 24 = .ok (.iinc 2 1, 3) := dk_132 2 1 (dk_at dksX0_freeAll_1 0 rfl rfl)
theorem dX0_freeAll_27 : decode cX0_freeAll 27 = .ok (.goto (-23), 3) := dk_167 255 233 (dk_at dksX0_freeAll_1 3 rfl rfl)
theorem dX0_freeAll_30 : decode cX0_freeAll 30 = .ok (.iload_n 1, 1) := dk_27 (dk_at dksX0_freeAll_1 6 rfl rfl)
theorem dX0_freeAll_31 : decode cX0_freeAll 31 = .ok (.ireturn, 1) := dk_172 (dk_at dksX0_freeAll_1 7 rfl rfl)
abbrev cX0_turnedMany : ByteArray := prog_1_method_81_code
def yX0_turnedMany : MethodName := ⟨RX0, "turnedMany", "()I"⟩
def dkwX0_turnedMany_2 : List UInt8 := [27, 172]
abbrev dktX0_turnedMany_2 : List UInt8 := dkwX0_turnedMany_2 ++ []
def dkwX0_turnedMany_1 : List UInt8 := [180, 0, 33, 28, 50, 180, 1, 69, 153, 0, 7, 4, 167, 0, 4, 3, 96, 60, 132, 2, 1, 167, 255, 217]
abbrev dktX0_turnedMany_1 : List UInt8 := dkwX0_turnedMany_1 ++ dktX0_turnedMany_2
def dkwX0_turnedMany_0 : List UInt8 := [3, 60, 3, 61, 28, 42, 180, 0, 245, 162, 0, 37, 27, 42, 28, 182, 1, 39, 153, 0, 19, 42]
abbrev dktX0_turnedMany_0 : List UInt8 := dkwX0_turnedMany_0 ++ dktX0_turnedMany_1
theorem dksX0_turnedMany_0 : cX0_turnedMany.data.toList.drop 0 = dktX0_turnedMany_0 := by decide +kernel
theorem dksX0_turnedMany_1 : cX0_turnedMany.data.toList.drop 22 = dktX0_turnedMany_1 := dk_seg dksX0_turnedMany_0 22 rfl rfl
theorem dksX0_turnedMany_2 : cX0_turnedMany.data.toList.drop 46 = dktX0_turnedMany_2 := dk_seg dksX0_turnedMany_1 24 rfl rfl
theorem dX0_turnedMany_0 : decode cX0_turnedMany 0 = .ok (.iconst 0, 1) := dk_3 (dk_at dksX0_turnedMany_0 0 rfl rfl)
theorem dX0_turnedMany_1 : decode cX0_turnedMany 1 = .ok (.istore_n 1, 1) := dk_60 (dk_at dksX0_turnedMany_0 1 rfl rfl)
theorem dX0_turnedMany_2 : decode cX0_turnedMany 2 = .ok (.iconst 0, 1) := dk_3 (dk_at dksX0_turnedMany_0 2 rfl rfl)
theorem dX0_turnedMany_3 : decode cX0_turnedMany 3 = .ok (.istore_n 2, 1) := dk_61 (dk_at dksX0_turnedMany_0 3 rfl rfl)
theorem dX0_turnedMany_4 : decode cX0_turnedMany 4 = .ok (.iload_n 2, 1) := dk_28 (dk_at dksX0_turnedMany_0 4 rfl rfl)
theorem dX0_turnedMany_5 : decode cX0_turnedMany 5 = .ok (.aload_n 0, 1) := dk_42 (dk_at dksX0_turnedMany_0 5 rfl rfl)
theorem dX0_turnedMany_6 : decode cX0_turnedMany 6 = .ok (.getfield 245, 3) := dk_180 0 245 (dk_at dksX0_turnedMany_0 6 rfl rfl)
theorem dX0_turnedMany_9 : decode cX0_turnedMany 9 = .ok (.if_icmp .ge 37, 3) := dk_162 0 37 (dk_at dksX0_turnedMany_0 9 rfl rfl)
theorem dX0_turnedMany_12 : decode cX0_turnedMany 12 = .ok (.iload_n 1, 1) := dk_27 (dk_at dksX0_turnedMany_0 12 rfl rfl)
theorem dX0_turnedMany_13 : decode cX0_turnedMany 13 = .ok (.aload_n 0, 1) := dk_42 (dk_at dksX0_turnedMany_0 13 rfl rfl)
theorem dX0_turnedMany_14 : decode cX0_turnedMany 14 = .ok (.iload_n 2, 1) := dk_28 (dk_at dksX0_turnedMany_0 14 rfl rfl)
theorem dX0_turnedMany_15 : decode cX0_turnedMany 15 = .ok (.invokevirtual 295, 3) := dk_182 1 39 (dk_at dksX0_turnedMany_0 15 rfl rfl)
theorem dX0_turnedMany_18 : decode cX0_turnedMany 18 = .ok (.ifCond .eq 19, 3) := dk_153 0 19 (dk_at dksX0_turnedMany_0 18 rfl rfl)
theorem dX0_turnedMany_21 : decode cX0_turnedMany 21 = .ok (.aload_n 0, 1) := dk_42 (dk_at dksX0_turnedMany_0 21 rfl rfl)
theorem dX0_turnedMany_22 : decode cX0_turnedMany 22 = .ok (.getfield 33, 3) := dk_180 0 33 (dk_at dksX0_turnedMany_1 0 rfl rfl)
theorem dX0_turnedMany_25 : decode cX0_turnedMany 25 = .ok (.iload_n 2, 1) := dk_28 (dk_at dksX0_turnedMany_1 3 rfl rfl)
theorem dX0_turnedMany_26 : decode cX0_turnedMany 26 = .ok (.aaload, 1) := dk_50 (dk_at dksX0_turnedMany_1 4 rfl rfl)
theorem dX0_turnedMany_27 : decode cX0_turnedMany 27 = .ok (.getfield 325, 3) := dk_180 1 69 (dk_at dksX0_turnedMany_1 5 rfl rfl)
theorem dX0_turnedMany_30 : decode cX0_turnedMany 30 = .ok (.ifCond .eq 7, 3) := dk_153 0 7 (dk_at dksX0_turnedMany_1 8 rfl rfl)
theorem dX0_turnedMany_33 : decode cX0_turnedMany 33 = .ok (.iconst 1, 1) := dk_4 (dk_at dksX0_turnedMany_1 11 rfl rfl)
theorem dX0_turnedMany_34 : decode cX0_turnedMany 34 = .ok (.goto 4, 3) := dk_167 0 4 (dk_at dksX0_turnedMany_1 12 rfl rfl)
theorem dX0_turnedMany_37 : decode cX0_turnedMany 37 = .ok (.iconst 0, 1) := dk_3 (dk_at dksX0_turnedMany_1 15 rfl rfl)
theorem dX0_turnedMany_38 : decode cX0_turnedMany 38 = .ok (.iadd, 1) := dk_96 (dk_at dksX0_turnedMany_1 16 rfl rfl)
theorem dX0_turnedMany_39 : decode cX0_turnedMany 39 = .ok (.istore_n 1, 1) := dk_60 (dk_at dksX0_turnedMany_1 17 rfl rfl)
theorem dX0_turnedMany_40 : decode cX0_turnedMany 40 = .ok (.iinc 2 1, 3) := dk_132 2 1 (dk_at dksX0_turnedMany_1 18 rfl rfl)
theorem dX0_turnedMany_43 : decode cX0_turnedMany 43 = .ok (.goto (-39), 3) := dk_167 255 217 (dk_at dksX0_turnedMany_1 21 rfl rfl)
theorem dX0_turnedMany_46 : decode cX0_turnedMany 46 = .ok (.iload_n 1, 1) := dk_27 (dk_at dksX0_turnedMany_2 0 rfl rfl)
theorem dX0_turnedMany_47 : decode cX0_turnedMany 47 = .ok (.ireturn, 1) := dk_172 (dk_at dksX0_turnedMany_2 1 rfl rfl)
abbrev cX0_thereOf : ByteArray := prog_1_method_82_code
def yX0_thereOf : MethodName := ⟨RX0, "thereOf", "(I)I"⟩
def dkwX0_thereOf_3 : List UInt8 := [96, 61, 132, 3, 1, 167, 255, 184, 28, 172]
abbrev dktX0_thereOf_3 : List UInt8 := dkwX0_thereOf_3 ++ []
def dkwX0_thereOf_2 : List UInt8 := [16, 13, 160, 0, 21, 29, 6, 162, 0, 16, 42, 180, 0, 68, 29, 50, 198, 0, 7, 4, 167, 0, 4, 3]
abbrev dktX0_thereOf_2 : List UInt8 := dkwX0_thereOf_2 ++ dktX0_thereOf_3
def dkwX0_thereOf_1 : List UInt8 := [199, 0, 43, 27, 16, 12, 160, 0, 17, 29, 7, 162, 0, 12, 42, 180, 0, 27, 29, 50, 199, 0, 23, 27]
abbrev dktX0_thereOf_1 : List UInt8 := dkwX0_thereOf_1 ++ dktX0_thereOf_2
def dkwX0_thereOf_0 : List UInt8 := [3, 61, 3, 62, 29, 16, 6, 162, 0, 72, 28, 27, 16, 11, 160, 0, 12, 42, 180, 0, 21, 29, 50]
abbrev dktX0_thereOf_0 : List UInt8 := dkwX0_thereOf_0 ++ dktX0_thereOf_1
theorem dksX0_thereOf_0 : cX0_thereOf.data.toList.drop 0 = dktX0_thereOf_0 := by decide +kernel
theorem dksX0_thereOf_1 : cX0_thereOf.data.toList.drop 23 = dktX0_thereOf_1 := dk_seg dksX0_thereOf_0 23 rfl rfl
theorem dksX0_thereOf_2 : cX0_thereOf.data.toList.drop 47 = dktX0_thereOf_2 := dk_seg dksX0_thereOf_1 24 rfl rfl
theorem dksX0_thereOf_3 : cX0_thereOf.data.toList.drop 71 = dktX0_thereOf_3 := dk_seg dksX0_thereOf_2 24 rfl rfl
theorem dX0_thereOf_0 : decode cX0_thereOf 0 = .ok (.iconst 0, 1) := dk_3 (dk_at dksX0_thereOf_0 0 rfl rfl)
theorem dX0_thereOf_1 : decode cX0_thereOf 1 = .ok (.istore_n 2, 1) := dk_61 (dk_at dksX0_thereOf_0 1 rfl rfl)
theorem dX0_thereOf_2 : decode cX0_thereOf 2 = .ok (.iconst 0, 1) := dk_3 (dk_at dksX0_thereOf_0 2 rfl rfl)
theorem dX0_thereOf_3 : decode cX0_thereOf 3 = .ok (.istore_n 3, 1) := dk_62 (dk_at dksX0_thereOf_0 3 rfl rfl)
theorem dX0_thereOf_4 : decode cX0_thereOf 4 = .ok (.iload_n 3, 1) := dk_29 (dk_at dksX0_thereOf_0 4 rfl rfl)
theorem dX0_thereOf_5 : decode cX0_thereOf 5 = .ok (.bipush 6, 2) := dk_16 6 (dk_at dksX0_thereOf_0 5 rfl rfl)
theorem dX0_thereOf_7 : decode cX0_thereOf 7 = .ok (.if_icmp .ge 72, 3) := dk_162 0 72 (dk_at dksX0_thereOf_0 7 rfl rfl)
theorem dX0_thereOf_10 : decode cX0_thereOf 10 = .ok (.iload_n 2, 1) := dk_28 (dk_at dksX0_thereOf_0 10 rfl rfl)
theorem dX0_thereOf_11 : decode cX0_thereOf 11 = .ok (.iload_n 1, 1) := dk_27 (dk_at dksX0_thereOf_0 11 rfl rfl)
theorem dX0_thereOf_12 : decode cX0_thereOf 12 = .ok (.bipush 11, 2) := dk_16 11 (dk_at dksX0_thereOf_0 12 rfl rfl)
theorem dX0_thereOf_14 : decode cX0_thereOf 14 = .ok (.if_icmp .ne 12, 3) := dk_160 0 12 (dk_at dksX0_thereOf_0 14 rfl rfl)
theorem dX0_thereOf_17 : decode cX0_thereOf 17 = .ok (.aload_n 0, 1) := dk_42 (dk_at dksX0_thereOf_0 17 rfl rfl)
theorem dX0_thereOf_18 : decode cX0_thereOf 18 = .ok (.getfield 21, 3) := dk_180 0 21 (dk_at dksX0_thereOf_0 18 rfl rfl)
theorem dX0_thereOf_21 : decode cX0_thereOf 21 = .ok (.iload_n 3, 1) := dk_29 (dk_at dksX0_thereOf_0 21 rfl rfl)
theorem dX0_thereOf_22 : decode cX0_thereOf 22 = .ok (.aaload, 1) := dk_50 (dk_at dksX0_thereOf_0 22 rfl rfl)
theorem dX0_thereOf_23 : decode cX0_thereOf 23 = .ok (.ifnonnull 43, 3) := dk_199 0 43 (dk_at dksX0_thereOf_1 0 rfl rfl)
theorem dX0_thereOf_26 : decode cX0_thereOf 26 = .ok (.iload_n 1, 1) := dk_27 (dk_at dksX0_thereOf_1 3 rfl rfl)
theorem dX0_thereOf_27 : decode cX0_thereOf 27 = .ok (.bipush 12, 2) := dk_16 12 (dk_at dksX0_thereOf_1 4 rfl rfl)
theorem dX0_thereOf_29 : decode cX0_thereOf 29 = .ok (.if_icmp .ne 17, 3) := dk_160 0 17 (dk_at dksX0_thereOf_1 6 rfl rfl)
theorem dX0_thereOf_32 : decode cX0_thereOf 32 = .ok (.iload_n 3, 1) := dk_29 (dk_at dksX0_thereOf_1 9 rfl rfl)
theorem dX0_thereOf_33 : decode cX0_thereOf 33 = .ok (.iconst 4, 1) := dk_7 (dk_at dksX0_thereOf_1 10 rfl rfl)
theorem dX0_thereOf_34 : decode cX0_thereOf 34 = .ok (.if_icmp .ge 12, 3) := dk_162 0 12 (dk_at dksX0_thereOf_1 11 rfl rfl)
theorem dX0_thereOf_37 : decode cX0_thereOf 37 = .ok (.aload_n 0, 1) := dk_42 (dk_at dksX0_thereOf_1 14 rfl rfl)
theorem dX0_thereOf_38 : decode cX0_thereOf 38 = .ok (.getfield 27, 3) := dk_180 0 27 (dk_at dksX0_thereOf_1 15 rfl rfl)
theorem dX0_thereOf_41 : decode cX0_thereOf 41 = .ok (.iload_n 3, 1) := dk_29 (dk_at dksX0_thereOf_1 18 rfl rfl)
theorem dX0_thereOf_42 : decode cX0_thereOf 42 = .ok (.aaload, 1) := dk_50 (dk_at dksX0_thereOf_1 19 rfl rfl)
theorem dX0_thereOf_43 : decode cX0_thereOf 43 = .ok (.ifnonnull 23, 3) := dk_199 0 23 (dk_at dksX0_thereOf_1 20 rfl rfl)
theorem dX0_thereOf_46 : decode cX0_thereOf 46 = .ok (.iload_n 1, 1) := dk_27 (dk_at dksX0_thereOf_1 23 rfl rfl)
theorem dX0_thereOf_47 : decode cX0_thereOf 47 = .ok (.bipush 13, 2) := dk_16 13 (dk_at dksX0_thereOf_2 0 rfl rfl)
theorem dX0_thereOf_49 : decode cX0_thereOf 49 = .ok (.if_icmp .ne 21, 3) := dk_160 0 21 (dk_at dksX0_thereOf_2 2 rfl rfl)
theorem dX0_thereOf_52 : decode cX0_thereOf 52 = .ok (.iload_n 3, 1) := dk_29 (dk_at dksX0_thereOf_2 5 rfl rfl)
theorem dX0_thereOf_53 : decode cX0_thereOf 53 = .ok (.iconst 3, 1) := dk_6 (dk_at dksX0_thereOf_2 6 rfl rfl)
theorem dX0_thereOf_54 : decode cX0_thereOf 54 = .ok (.if_icmp .ge 16, 3) := dk_162 0 16 (dk_at dksX0_thereOf_2 7 rfl rfl)
theorem dX0_thereOf_57 : decode cX0_thereOf 57 = .ok (.aload_n 0, 1) := dk_42 (dk_at dksX0_thereOf_2 10 rfl rfl)
theorem dX0_thereOf_58 : decode cX0_thereOf 58 = .ok (.getfield 68, 3) := dk_180 0 68 (dk_at dksX0_thereOf_2 11 rfl rfl)
theorem dX0_thereOf_61 : decode cX0_thereOf 61 = .ok (.iload_n 3, 1) := dk_29 (dk_at dksX0_thereOf_2 14 rfl rfl)
theorem dX0_thereOf_62 : decode cX0_thereOf 62 = .ok (.aaload, 1) := dk_50 (dk_at dksX0_thereOf_2 15 rfl rfl)
theorem dX0_thereOf_63 : decode cX0_thereOf 63 = .ok (.ifnull 7, 3) := dk_198 0 7 (dk_at dksX0_thereOf_2 16 rfl rfl)
theorem dX0_thereOf_66 : decode cX0_thereOf 66 = .ok (.iconst 1, 1) := dk_4 (dk_at dksX0_thereOf_2 19 rfl rfl)
theorem dX0_thereOf_67 : decode cX0_thereOf 67 = .ok (.goto 4, 3) := dk_167 0 4 (dk_at dksX0_thereOf_2 20 rfl rfl)
theorem dX0_thereOf_70 : decode cX0_thereOf 70 = .ok (.iconst 0, 1) := dk_3 (dk_at dksX0_thereOf_2 23 rfl rfl)
theorem dX0_thereOf_71 : decode cX0_thereOf 71 = .ok (.iadd, 1) := dk_96 (dk_at dksX0_thereOf_3 0 rfl rfl)
theorem dX0_thereOf_72 : decode cX0_thereOf 72 = .ok (.istore_n 2, 1) := dk_61 (dk_at dksX0_thereOf_3 1 rfl rfl)
theorem dX0_thereOf_73 : decode cX0_thereOf 73 = .ok (.iinc 3 1, 3) := dk_132 3 1 (dk_at dksX0_thereOf_3 2 rfl rfl)
theorem dX0_thereOf_76 : decode cX0_thereOf 76 = .ok (.goto (-72), 3) := dk_167 255 184 (dk_at dksX0_thereOf_3 5 rfl rfl)
theorem dX0_thereOf_79 : decode cX0_thereOf 79 = .ok (.iload_n 2, 1) := dk_28 (dk_at dksX0_thereOf_3 8 rfl rfl)
theorem dX0_thereOf_80 : decode cX0_thereOf 80 = .ok (.ireturn, 1) := dk_172 (dk_at dksX0_thereOf_3 9 rfl rfl)
abbrev cX0_finding : ByteArray := prog_1_method_85_code
def yX0_finding : MethodName := ⟨RX0, "finding", "()I"⟩
theorem dX0_finding_0 : decode cX0_finding 0 = .ok (.aload_n 0, 1) := by decide +kernel
theorem dX0_finding_1 : decode cX0_finding 1 = .ok (.getfield 1, 3) := by decide +kernel
theorem dX0_finding_4 : decode cX0_finding 4 = .ok (.ireturn, 1) := by decide +kernel
abbrev cX0_findings : ByteArray := prog_1_method_86_code
def yX0_findings : MethodName := ⟨RX0, "findings", "(I)I"⟩
def dkwX0_findings_0 : List UInt8 := [27, 4, 8, 184, 0, 78, 153, 0, 12, 42, 180, 0, 7, 27, 46, 167, 0, 4, 2, 172]
abbrev dktX0_findings_0 : List UInt8 := dkwX0_findings_0 ++ []
theorem dksX0_findings_0 : cX0_findings.data.toList.drop 0 = dktX0_findings_0 := by decide +kernel
theorem dX0_findings_0 : decode cX0_findings 0 = .ok (.iload_n 1, 1) := dk_27 (dk_at dksX0_findings_0 0 rfl rfl)
theorem dX0_findings_1 : decode cX0_findings 1 = .ok (.iconst 1, 1) := dk_4 (dk_at dksX0_findings_0 1 rfl rfl)
theorem dX0_findings_2 : decode cX0_findings 2 = .ok (.iconst 5, 1) := dk_8 (dk_at dksX0_findings_0 2 rfl rfl)
theorem dX0_findings_3 : decode cX0_findings 3 = .ok (.invokestatic 78, 3) := dk_184 0 78 (dk_at dksX0_findings_0 3 rfl rfl)
theorem dX0_findings_6 : decode cX0_findings 6 = .ok (.ifCond .eq 12, 3) := dk_153 0 12 (dk_at dksX0_findings_0 6 rfl rfl)
theorem dX0_findings_9 : decode cX0_findings 9 = .ok (.aload_n 0, 1) := dk_42 (dk_at dksX0_findings_0 9 rfl rfl)
theorem dX0_findings_10 : decode cX0_findings 10 = .ok (.getfield 7, 3) := dk_180 0 7 (dk_at dksX0_findings_0 10 rfl rfl)
theorem dX0_findings_13 : decode cX0_findings 13 = .ok (.iload_n 1, 1) := dk_27 (dk_at dksX0_findings_0 13 rfl rfl)
theorem dX0_findings_14 : decode cX0_findings 14 = .ok (.iaload, 1) := dk_46 (dk_at dksX0_findings_0 14 rfl rfl)
theorem dX0_findings_15 : decode cX0_findings 15 = .ok (.goto 4, 3) := dk_167 0 4 (dk_at dksX0_findings_0 15 rfl rfl)
theorem dX0_findings_18 : decode cX0_findings 18 = .ok (.iconst (-1), 1) := dk_2 (dk_at dksX0_findings_0 18 rfl rfl)
theorem dX0_findings_19 : decode cX0_findings 19 = .ok (.ireturn, 1) := dk_172 (dk_at dksX0_findings_0 19 rfl rfl)
abbrev cX0_digest : ByteArray := prog_1_method_89_code
def yX0_digest : MethodName := ⟨RX0, "digest", "()J"⟩
def dkwX0_digest_7 : List UInt8 := [132, 6, 1, 167, 255, 237, 132, 3, 1, 167, 255, 198, 42, 180, 2, 21, 173]
abbrev dktX0_digest_7 : List UInt8 := dkwX0_digest_7 ++ []
def dkwX0_digest_6 : List UInt8 := [21, 5, 182, 2, 25, 3, 54, 6, 21, 6, 21, 5, 162, 0, 18, 42, 25, 4, 21, 6, 51, 182, 2, 25]
abbrev dktX0_digest_6 : List UInt8 := dkwX0_digest_6 ++ dktX0_digest_7
def dkwX0_digest_5 : List UInt8 := [162, 0, 59, 43, 29, 50, 58, 4, 25, 4, 199, 0, 7, 2, 167, 0, 6, 25, 4, 190, 54, 5, 42]
abbrev dktX0_digest_5 : List UInt8 := dkwX0_digest_5 ++ dktX0_digest_6
def dkwX0_digest_4 : List UInt8 := [132, 6, 1, 167, 255, 237, 132, 3, 1, 167, 255, 198, 42, 180, 0, 27, 76, 43, 190, 61, 3, 62, 29, 28]
abbrev dktX0_digest_4 : List UInt8 := dkwX0_digest_4 ++ dktX0_digest_5
def dkwX0_digest_3 : List UInt8 := [21, 5, 182, 2, 25, 3, 54, 6, 21, 6, 21, 5, 162, 0, 18, 42, 25, 4, 21, 6, 46, 182, 2, 25]
abbrev dktX0_digest_3 : List UInt8 := dkwX0_digest_3 ++ dktX0_digest_4
def dkwX0_digest_2 : List UInt8 := [162, 0, 59, 43, 29, 50, 58, 4, 25, 4, 199, 0, 7, 2, 167, 0, 6, 25, 4, 190, 54, 5, 42]
abbrev dktX0_digest_2 : List UInt8 := dkwX0_digest_2 ++ dktX0_digest_3
def dkwX0_digest_1 : List UInt8 := [132, 1, 1, 167, 255, 238, 42, 182, 2, 30, 42, 180, 0, 21, 76, 43, 190, 61, 3, 62, 29, 28]
abbrev dktX0_digest_1 : List UInt8 := dkwX0_digest_1 ++ dktX0_digest_2
def dkwX0_digest_0 : List UInt8 := [42, 20, 2, 28, 181, 2, 21, 3, 60, 27, 16, 13, 163, 0, 18, 42, 42, 27, 182, 2, 16, 182, 2, 25]
abbrev dktX0_digest_0 : List UInt8 := dkwX0_digest_0 ++ dktX0_digest_1
theorem dksX0_digest_0 : cX0_digest.data.toList.drop 0 = dktX0_digest_0 := by decide +kernel
theorem dksX0_digest_1 : cX0_digest.data.toList.drop 24 = dktX0_digest_1 := dk_seg dksX0_digest_0 24 rfl rfl
theorem dksX0_digest_2 : cX0_digest.data.toList.drop 46 = dktX0_digest_2 := dk_seg dksX0_digest_1 22 rfl rfl
theorem dksX0_digest_3 : cX0_digest.data.toList.drop 69 = dktX0_digest_3 := dk_seg dksX0_digest_2 23 rfl rfl
theorem dksX0_digest_4 : cX0_digest.data.toList.drop 93 = dktX0_digest_4 := dk_seg dksX0_digest_3 24 rfl rfl
theorem dksX0_digest_5 : cX0_digest.data.toList.drop 117 = dktX0_digest_5 := dk_seg dksX0_digest_4 24 rfl rfl
theorem dksX0_digest_6 : cX0_digest.data.toList.drop 140 = dktX0_digest_6 := dk_seg dksX0_digest_5 23 rfl rfl
theorem dksX0_digest_7 : cX0_digest.data.toList.drop 164 = dktX0_digest_7 := dk_seg dksX0_digest_6 24 rfl rfl
theorem dX0_digest_0 : decode cX0_digest 0 = .ok (.aload_n 0, 1) := dk_42 (dk_at dksX0_digest_0 0 rfl rfl)
theorem dX0_digest_1 : decode cX0_digest 1 = .ok (.ldc2_w 540, 3) := dk_20 2 28 (dk_at dksX0_digest_0 1 rfl rfl)
theorem dX0_digest_4 : decode cX0_digest 4 = .ok (.putfield 533, 3) := dk_181 2 21 (dk_at dksX0_digest_0 4 rfl rfl)
theorem dX0_digest_7 : decode cX0_digest 7 = .ok (.iconst 0, 1) := dk_3 (dk_at dksX0_digest_0 7 rfl rfl)
theorem dX0_digest_8 : decode cX0_digest 8 = .ok (.istore_n 1, 1) := dk_60 (dk_at dksX0_digest_0 8 rfl rfl)
theorem dX0_digest_9 : decode cX0_digest 9 = .ok (.iload_n 1, 1) := dk_27 (dk_at dksX0_digest_0 9 rfl rfl)
theorem dX0_digest_10 : decode cX0_digest 10 = .ok (.bipush 13, 2) := dk_16 13 (dk_at dksX0_digest_0 10 rfl rfl)
theorem dX0_digest_12 : decode cX0_digest 12 = .ok (.if_icmp .gt 18, 3) := dk_163 0 18 (dk_at dksX0_digest_0 12 rfl rfl)
theorem dX0_digest_15 : decode cX0_digest 15 = .ok (.aload_n 0, 1) := dk_42 (dk_at dksX0_digest_0 15 rfl rfl)
theorem dX0_digest_16 : decode cX0_digest 16 = .ok (.aload_n 0, 1) := dk_42 (dk_at dksX0_digest_0 16 rfl rfl)
theorem dX0_digest_17 : decode cX0_digest 17 = .ok (.iload_n 1, 1) := dk_27 (dk_at dksX0_digest_0 17 rfl rfl)
theorem dX0_digest_18 : decode cX0_digest 18 = .ok (.invokevirtual 528, 3) := dk_182 2 16 (dk_at dksX0_digest_0 18 rfl rfl)
theorem dX0_digest_21 : decode cX0_digest 21 = .ok (.invokevirtual 537, 3) := dk_182 2 25 (dk_at dksX0_digest_0 21 rfl rfl)
theorem dX0_digest_24 : decode cX0_digest 24 = .ok (.iinc 1 1, 3) := dk_132 1 1 (dk_at dksX0_digest_1 0 rfl rfl)
theorem dX0_digest_27 : decode cX0_digest 27 = .ok (.goto (-18), 3) := dk_167 255 238 (dk_at dksX0_digest_1 3 rfl rfl)
theorem dX0_digest_30 : decode cX0_digest 30 = .ok (.aload_n 0, 1) := dk_42 (dk_at dksX0_digest_1 6 rfl rfl)
theorem dX0_digest_31 : decode cX0_digest 31 = .ok (.invokevirtual 542, 3) := dk_182 2 30 (dk_at dksX0_digest_1 7 rfl rfl)
theorem dX0_digest_34 : decode cX0_digest 34 = .ok (.aload_n 0, 1) := dk_42 (dk_at dksX0_digest_1 10 rfl rfl)
theorem dX0_digest_35 : decode cX0_digest 35 = .ok (.getfield 21, 3) := dk_180 0 21 (dk_at dksX0_digest_1 11 rfl rfl)
theorem dX0_digest_38 : decode cX0_digest 38 = .ok (.astore_n 1, 1) := dk_76 (dk_at dksX0_digest_1 14 rfl rfl)
theorem dX0_digest_39 : decode cX0_digest 39 = .ok (.aload_n 1, 1) := dk_43 (dk_at dksX0_digest_1 15 rfl rfl)
theorem dX0_digest_40 : decode cX0_digest 40 = .ok (.arraylength, 1) := dk_190 (dk_at dksX0_digest_1 16 rfl rfl)
theorem dX0_digest_41 : decode cX0_digest 41 = .ok (.istore_n 2, 1) := dk_61 (dk_at dksX0_digest_1 17 rfl rfl)
theorem dX0_digest_42 : decode cX0_digest 42 = .ok (.iconst 0, 1) := dk_3 (dk_at dksX0_digest_1 18 rfl rfl)
theorem dX0_digest_43 : decode cX0_digest 43 = .ok (.istore_n 3, 1) := dk_62 (dk_at dksX0_digest_1 19 rfl rfl)
theorem dX0_digest_44 : decode cX0_digest 44 = .ok (.iload_n 3, 1) := dk_29 (dk_at dksX0_digest_1 20 rfl rfl)
theorem dX0_digest_45 : decode cX0_digest 45 = .ok (.iload_n 2, 1) := dk_28 (dk_at dksX0_digest_1 21 rfl rfl)
theorem dX0_digest_46 : decode cX0_digest 46 = .ok (.if_icmp .ge 59, 3) := dk_162 0 59 (dk_at dksX0_digest_2 0 rfl rfl)
theorem dX0_digest_49 : decode cX0_digest 49 = .ok (.aload_n 1, 1) := dk_43 (dk_at dksX0_digest_2 3 rfl rfl)
theorem dX0_digest_50 : decode cX0_digest 50 = .ok (.iload_n 3, 1) := dk_29 (dk_at dksX0_digest_2 4 rfl rfl)
theorem dX0_digest_51 : decode cX0_digest 51 = .ok (.aaload, 1) := dk_50 (dk_at dksX0_digest_2 5 rfl rfl)
theorem dX0_digest_52 : decode cX0_digest 52 = .ok (.astore 4, 2) := dk_58 4 (dk_at dksX0_digest_2 6 rfl rfl)
theorem dX0_digest_54 : decode cX0_digest 54 = .ok (.aload 4, 2) := dk_25 4 (dk_at dksX0_digest_2 8 rfl rfl)
theorem dX0_digest_56 : decode cX0_digest 56 = .ok (.ifnonnull 7, 3) := dk_199 0 7 (dk_at dksX0_digest_2 10 rfl rfl)
theorem dX0_digest_59 : decode cX0_digest 59 = .ok (.iconst (-1), 1) := dk_2 (dk_at dksX0_digest_2 13 rfl rfl)
theorem dX0_digest_60 : decode cX0_digest 60 = .ok (.goto 6, 3) := dk_167 0 6 (dk_at dksX0_digest_2 14 rfl rfl)
theorem dX0_digest_63 : decode cX0_digest 63 = .ok (.aload 4, 2) := dk_25 4 (dk_at dksX0_digest_2 17 rfl rfl)
theorem dX0_digest_65 : decode cX0_digest 65 = .ok (.arraylength, 1) := dk_190 (dk_at dksX0_digest_2 19 rfl rfl)
theorem dX0_digest_66 : decode cX0_digest 66 = .ok (.istore 5, 2) := dk_54 5 (dk_at dksX0_digest_2 20 rfl rfl)
theorem dX0_digest_68 : decode cX0_digest 68 = .ok (.aload_n 0, 1) := dk_42 (dk_at dksX0_digest_2 22 rfl rfl)
theorem dX0_digest_69 : decode cX0_digest 69 = .ok (.iload 5, 2) := dk_21 5 (dk_at dksX0_digest_3 0 rfl rfl)
theorem dX0_digest_71 : decode cX0_digest 71 = .ok (.invokevirtual 537, 3) := dk_182 2 25 (dk_at dksX0_digest_3 2 rfl rfl)
theorem dX0_digest_74 : decode cX0_digest 74 = .ok (.iconst 0, 1) := dk_3 (dk_at dksX0_digest_3 5 rfl rfl)
theorem dX0_digest_75 : decode cX0_digest 75 = .ok (.istore 6, 2) := dk_54 6 (dk_at dksX0_digest_3 6 rfl rfl)
theorem dX0_digest_77 : decode cX0_digest 77 = .ok (.iload 6, 2) := dk_21 6 (dk_at dksX0_digest_3 8 rfl rfl)
theorem dX0_digest_79 : decode cX0_digest 79 = .ok (.iload 5, 2) := dk_21 5 (dk_at dksX0_digest_3 10 rfl rfl)
theorem dX0_digest_81 : decode cX0_digest 81 = .ok (.if_icmp .ge 18, 3) := dk_162 0 18 (dk_at dksX0_digest_3 12 rfl rfl)
theorem dX0_digest_84 : decode cX0_digest 84 = .ok (.aload_n 0, 1) := dk_42 (dk_at dksX0_digest_3 15 rfl rfl)
theorem dX0_digest_85 : decode cX0_digest 85 = .ok (.aload 4, 2) := dk_25 4 (dk_at dksX0_digest_3 16 rfl rfl)
theorem dX0_digest_87 : decode cX0_digest 87 = .ok (.iload 6, 2) := dk_21 6 (dk_at dksX0_digest_3 18 rfl rfl)
theorem dX0_digest_89 : decode cX0_digest 89 = .ok (.iaload, 1) := dk_46 (dk_at dksX0_digest_3 20 rfl rfl)
theorem dX0_digest_90 : decode cX0_digest 90 = .ok (.invokevirtual 537, 3) := dk_182 2 25 (dk_at dksX0_digest_3 21 rfl rfl)
theorem dX0_digest_93 : decode cX0_digest 93 = .ok (.iinc 6 1, 3) := dk_132 6 1 (dk_at dksX0_digest_4 0 rfl rfl)
theorem dX0_digest_96 : decode cX0_digest 96 = .ok (.goto (-19), 3) := dk_167 255 237 (dk_at dksX0_digest_4 3 rfl rfl)
theorem dX0_digest_99 : decode cX0_digest 99 = .ok (.iinc 3 1, 3) := dk_132 3 1 (dk_at dksX0_digest_4 6 rfl rfl)
theorem dX0_digest_102 : decode cX0_digest 102 = .ok (.goto (-58), 3) := dk_167 255 198 (dk_at dksX0_digest_4 9 rfl rfl)
theorem dX0_digest_105 : decode cX0_digest 105 = .ok (.aload_n 0, 1) := dk_42 (dk_at dksX0_digest_4 12 rfl rfl)
theorem dX0_digest_106 : decode cX0_digest 106 = .ok (.getfield 27, 3) := dk_180 0 27 (dk_at dksX0_digest_4 13 rfl rfl)
theorem dX0_digest_109 : decode cX0_digest 109 = .ok (.astore_n 1, 1) := dk_76 (dk_at dksX0_digest_4 16 rfl rfl)
theorem dX0_digest_110 : decode cX0_digest 110 = .ok (.aload_n 1, 1) := dk_43 (dk_at dksX0_digest_4 17 rfl rfl)
theorem dX0_digest_111 : decode cX0_digest 111 = .ok (.arraylength, 1) := dk_190 (dk_at dksX0_digest_4 18 rfl rfl)
theorem dX0_digest_112 : decode cX0_digest 112 = .ok (.istore_n 2, 1) := dk_61 (dk_at dksX0_digest_4 19 rfl rfl)
theorem dX0_digest_113 : decode cX0_digest 113 = .ok (.iconst 0, 1) := dk_3 (dk_at dksX0_digest_4 20 rfl rfl)
theorem dX0_digest_114 : decode cX0_digest 114 = .ok (.istore_n 3, 1) := dk_62 (dk_at dksX0_digest_4 21 rfl rfl)
theorem dX0_digest_115 : decode cX0_digest 115 = .ok (.iload_n 3, 1) := dk_29 (dk_at dksX0_digest_4 22 rfl rfl)
theorem dX0_digest_116 : decode cX0_digest 116 = .ok (.iload_n 2, 1) := dk_28 (dk_at dksX0_digest_4 23 rfl rfl)
theorem dX0_digest_117 : decode cX0_digest 117 = .ok (.if_icmp .ge 59, 3) := dk_162 0 59 (dk_at dksX0_digest_5 0 rfl rfl)
theorem dX0_digest_120 : decode cX0_digest 120 = .ok (.aload_n 1, 1) := dk_43 (dk_at dksX0_digest_5 3 rfl rfl)
theorem dX0_digest_121 : decode cX0_digest 121 = .ok (.iload_n 3, 1) := dk_29 (dk_at dksX0_digest_5 4 rfl rfl)
theorem dX0_digest_122 : decode cX0_digest 122 = .ok (.aaload, 1) := dk_50 (dk_at dksX0_digest_5 5 rfl rfl)
theorem dX0_digest_123 : decode cX0_digest 123 = .ok (.astore 4, 2) := dk_58 4 (dk_at dksX0_digest_5 6 rfl rfl)
theorem dX0_digest_125 : decode cX0_digest 125 = .ok (.aload 4, 2) := dk_25 4 (dk_at dksX0_digest_5 8 rfl rfl)
theorem dX0_digest_127 : decode cX0_digest 127 = .ok (.ifnonnull 7, 3) := dk_199 0 7 (dk_at dksX0_digest_5 10 rfl rfl)
theorem dX0_digest_130 : decode cX0_digest 130 = .ok (.iconst (-1), 1) := dk_2 (dk_at dksX0_digest_5 13 rfl rfl)
theorem dX0_digest_131 : decode cX0_digest 131 = .ok (.goto 6, 3) := dk_167 0 6 (dk_at dksX0_digest_5 14 rfl rfl)
theorem dX0_digest_134 : decode cX0_digest 134 = .ok (.aload 4, 2) := dk_25 4 (dk_at dksX0_digest_5 17 rfl rfl)
theorem dX0_digest_136 : decode cX0_digest 136 = .ok (.arraylength, 1) := dk_190 (dk_at dksX0_digest_5 19 rfl rfl)
theorem dX0_digest_137 : decode cX0_digest 137 = .ok (.istore 5, 2) := dk_54 5 (dk_at dksX0_digest_5 20 rfl rfl)
theorem dX0_digest_139 : decode cX0_digest 139 = .ok (.aload_n 0, 1) := dk_42 (dk_at dksX0_digest_5 22 rfl rfl)
theorem dX0_digest_140 : decode cX0_digest 140 = .ok (.iload 5, 2) := dk_21 5 (dk_at dksX0_digest_6 0 rfl rfl)
theorem dX0_digest_142 : decode cX0_digest 142 = .ok (.invokevirtual 537, 3) := dk_182 2 25 (dk_at dksX0_digest_6 2 rfl rfl)
theorem dX0_digest_145 : decode cX0_digest 145 = .ok (.iconst 0, 1) := dk_3 (dk_at dksX0_digest_6 5 rfl rfl)
theorem dX0_digest_146 : decode cX0_digest 146 = .ok (.istore 6, 2) := dk_54 6 (dk_at dksX0_digest_6 6 rfl rfl)
theorem dX0_digest_148 : decode cX0_digest 148 = .ok (.iload 6, 2) := dk_21 6 (dk_at dksX0_digest_6 8 rfl rfl)
theorem dX0_digest_150 : decode cX0_digest 150 = .ok (.iload 5, 2) := dk_21 5 (dk_at dksX0_digest_6 10 rfl rfl)
theorem dX0_digest_152 : decode cX0_digest 152 = .ok (.if_icmp .ge 18, 3) := dk_162 0 18 (dk_at dksX0_digest_6 12 rfl rfl)
theorem dX0_digest_155 : decode cX0_digest 155 = .ok (.aload_n 0, 1) := dk_42 (dk_at dksX0_digest_6 15 rfl rfl)
theorem dX0_digest_156 : decode cX0_digest 156 = .ok (.aload 4, 2) := dk_25 4 (dk_at dksX0_digest_6 16 rfl rfl)
theorem dX0_digest_158 : decode cX0_digest 158 = .ok (.iload 6, 2) := dk_21 6 (dk_at dksX0_digest_6 18 rfl rfl)
theorem dX0_digest_160 : decode cX0_digest 160 = .ok (.baload, 1) := dk_51 (dk_at dksX0_digest_6 20 rfl rfl)
theorem dX0_digest_161 : decode cX0_digest 161 = .ok (.invokevirtual 537, 3) := dk_182 2 25 (dk_at dksX0_digest_6 21 rfl rfl)
theorem dX0_digest_164 : decode cX0_digest 164 = .ok (.iinc 6 1, 3) := dk_132 6 1 (dk_at dksX0_digest_7 0 rfl rfl)
theorem dX0_digest_167 : decode cX0_digest 167 = .ok (.goto (-19), 3) := dk_167 255 237 (dk_at dksX0_digest_7 3 rfl rfl)
theorem dX0_digest_170 : decode cX0_digest 170 = .ok (.iinc 3 1, 3) := dk_132 3 1 (dk_at dksX0_digest_7 6 rfl rfl)
theorem dX0_digest_173 : decode cX0_digest 173 = .ok (.goto (-58), 3) := dk_167 255 198 (dk_at dksX0_digest_7 9 rfl rfl)
theorem dX0_digest_176 : decode cX0_digest 176 = .ok (.aload_n 0, 1) := dk_42 (dk_at dksX0_digest_7 12 rfl rfl)
theorem dX0_digest_177 : decode cX0_digest 177 = .ok (.getfield 533, 3) := dk_180 2 21 (dk_at dksX0_digest_7 13 rfl rfl)
theorem dX0_digest_180 : decode cX0_digest 180 = .ok (.lreturn, 1) := dk_173 (dk_at dksX0_digest_7 16 rfl rfl)
abbrev cX0_mix : ByteArray := prog_1_method_87_code
def yX0_mix : MethodName := ⟨RX0, "mix", "(I)V"⟩
def dkwX0_mix_0 : List UInt8 := [42, 20, 2, 19, 42, 180, 2, 21, 105, 27, 133, 97, 181, 2, 21, 177]
abbrev dktX0_mix_0 : List UInt8 := dkwX0_mix_0 ++ []
theorem dksX0_mix_0 : cX0_mix.data.toList.drop 0 = dktX0_mix_0 := by decide +kernel
theorem dX0_mix_0 : decode cX0_mix 0 = .ok (.aload_n 0, 1) := dk_42 (dk_at dksX0_mix_0 0 rfl rfl)
theorem dX0_mix_1 : decode cX0_mix 1 = .ok (.ldc2_w 531, 3) := dk_20 2 19 (dk_at dksX0_mix_0 1 rfl rfl)
theorem dX0_mix_4 : decode cX0_mix 4 = .ok (.aload_n 0, 1) := dk_42 (dk_at dksX0_mix_0 4 rfl rfl)
theorem dX0_mix_5 : decode cX0_mix 5 = .ok (.getfield 533, 3) := dk_180 2 21 (dk_at dksX0_mix_0 5 rfl rfl)
theorem dX0_mix_8 : decode cX0_mix 8 = .ok (.lmul, 1) := dk_105 (dk_at dksX0_mix_0 8 rfl rfl)
theorem dX0_mix_9 : decode cX0_mix 9 = .ok (.iload_n 1, 1) := dk_27 (dk_at dksX0_mix_0 9 rfl rfl)
theorem dX0_mix_10 : decode cX0_mix 10 = .ok (.i2l, 1) := dk_133 (dk_at dksX0_mix_0 10 rfl rfl)
theorem dX0_mix_11 : decode cX0_mix 11 = .ok (.ladd, 1) := dk_97 (dk_at dksX0_mix_0 11 rfl rfl)
theorem dX0_mix_12 : decode cX0_mix 12 = .ok (.putfield 533, 3) := dk_181 2 21 (dk_at dksX0_mix_0 12 rfl rfl)
theorem dX0_mix_15 : decode cX0_mix 15 = .ok (.return_, 1) := dk_177 (dk_at dksX0_mix_0 15 rfl rfl)
abbrev cX0_mixSheet : ByteArray := prog_1_method_88_code
def yX0_mixSheet : MethodName := ⟨RX0, "mixSheet", "()V"⟩
def dkwX0_mixSheet_5 : List UInt8 := [25, 4, 199, 0, 7, 2, 167, 0, 8, 25, 4, 180, 1, 183, 182, 2, 25, 132, 3, 1, 167, 255, 225, 177]
abbrev dktX0_mixSheet_5 : List UInt8 := dkwX0_mixSheet_5 ++ []
def dkwX0_mixSheet_4 : List UInt8 := [167, 255, 166, 42, 180, 0, 68, 76, 43, 190, 61, 3, 62, 29, 28, 162, 0, 32, 43, 29, 50, 58, 4, 42]
abbrev dktX0_mixSheet_4 : List UInt8 := dkwX0_mixSheet_4 ++ dktX0_mixSheet_5
def dkwX0_mixSheet_3 : List UInt8 := [132, 2, 1, 167, 255, 226, 42, 27, 182, 1, 39, 154, 0, 8, 42, 2, 182, 2, 25, 132, 1, 1]
abbrev dktX0_mixSheet_3 : List UInt8 := dkwX0_mixSheet_3 ++ dktX0_mixSheet_4
def dkwX0_mixSheet_2 : List UInt8 := [42, 27, 182, 1, 39, 153, 0, 23, 42, 42, 180, 0, 33, 27, 50, 28, 182, 1, 42, 182, 2, 25]
abbrev dktX0_mixSheet_2 : List UInt8 := dkwX0_mixSheet_2 ++ dktX0_mixSheet_3
def dkwX0_mixSheet_1 : List UInt8 := [28, 42, 180, 0, 254, 182, 1, 36, 182, 2, 25, 132, 2, 1, 167, 255, 230, 3, 61, 28, 6, 163, 0, 31]
abbrev dktX0_mixSheet_1 : List UInt8 := dkwX0_mixSheet_1 ++ dktX0_mixSheet_2
def dkwX0_mixSheet_0 : List UInt8 := [3, 60, 27, 42, 180, 0, 245, 162, 0, 88, 3, 61, 28, 7, 163, 0, 27, 42, 42, 180, 0, 33, 27, 50]
abbrev dktX0_mixSheet_0 : List UInt8 := dkwX0_mixSheet_0 ++ dktX0_mixSheet_1
theorem dksX0_mixSheet_0 : cX0_mixSheet.data.toList.drop 0 = dktX0_mixSheet_0 := by decide +kernel
theorem dksX0_mixSheet_1 : cX0_mixSheet.data.toList.drop 24 = dktX0_mixSheet_1 := dk_seg dksX0_mixSheet_0 24 rfl rfl
theorem dksX0_mixSheet_2 : cX0_mixSheet.data.toList.drop 48 = dktX0_mixSheet_2 := dk_seg dksX0_mixSheet_1 24 rfl rfl
theorem dksX0_mixSheet_3 : cX0_mixSheet.data.toList.drop 70 = dktX0_mixSheet_3 := dk_seg dksX0_mixSheet_2 22 rfl rfl
theorem dksX0_mixSheet_4 : cX0_mixSheet.data.toList.drop 92 = dktX0_mixSheet_4 := dk_seg dksX0_mixSheet_3 22 rfl rfl
theorem dksX0_mixSheet_5 : cX0_mixSheet.data.toList.drop 116 = dktX0_mixSheet_5 := dk_seg dksX0_mixSheet_4 24 rfl rfl
theorem dX0_mixSheet_0 : decode cX0_mixSheet 0 = .ok (.iconst 0, 1) := dk_3 (dk_at dksX0_mixSheet_0 0 rfl rfl)
theorem dX0_mixSheet_1 : decode cX0_mixSheet 1 = .ok (.istore_n 1, 1) := dk_60 (dk_at dksX0_mixSheet_0 1 rfl rfl)
theorem dX0_mixSheet_2 : decode cX0_mixSheet 2 = .ok (.iload_n 1, 1) := dk_27 (dk_at dksX0_mixSheet_0 2 rfl rfl)
theorem dX0_mixSheet_3 : decode cX0_mixSheet 3 = .ok (.aload_n 0, 1) := dk_42 (dk_at dksX0_mixSheet_0 3 rfl rfl)
theorem dX0_mixSheet_4 : decode cX0_mixSheet 4 = .ok (.getfield 245, 3) := dk_180 0 245 (dk_at dksX0_mixSheet_0 4 rfl rfl)
theorem dX0_mixSheet_7 : decode cX0_mixSheet 7 = .ok (.if_icmp .ge 88, 3) := dk_162 0 88 (dk_at dksX0_mixSheet_0 7 rfl rfl)
theorem dX0_mixSheet_10 : decode cX0_mixSheet 10 = .ok (.iconst 0, 1) := dk_3 (dk_at dksX0_mixSheet_0 10 rfl rfl)
theorem dX0_mixSheet_11 : decode cX0_mixSheet 11 = .ok (.istore_n 2, 1) := dk_61 (dk_at dksX0_mixSheet_0 11 rfl rfl)
theorem dX0_mixSheet_12 : decode cX0_mixSheet 12 = .ok (.iload_n 2, 1) := dk_28 (dk_at dksX0_mixSheet_0 12 rfl rfl)
theorem dX0_mixSheet_13 : decode cX0_mixSheet 13 = .ok (.iconst 4, 1) := dk_7 (dk_at dksX0_mixSheet_0 13 rfl rfl)
theorem dX0_mixSheet_14 : decode cX0_mixSheet 14 = .ok (.if_icmp .gt 27, 3) := dk_163 0 27 (dk_at dksX0_mixSheet_0 14 rfl rfl)
theorem dX0_mixSheet_17 : decode cX0_mixSheet 17 = .ok (.aload_n 0, 1) := dk_42 (dk_at dksX0_mixSheet_0 17 rfl rfl)
theorem dX0_mixSheet_18 : decode cX0_mixSheet 18 = .ok (.aload_n 0, 1) := dk_42 (dk_at dksX0_mixSheet_0 18 rfl rfl)
theorem dX0_mixSheet_19 : decode cX0_mixSheet 19 = .ok (.getfield 33, 3) := dk_180 0 33 (dk_at dksX0_mixSheet_0 19 rfl rfl)
theorem dX0_mixSheet_22 : decode cX0_mixSheet 22 = .ok (.iload_n 1, 1) := dk_27 (dk_at dksX0_mixSheet_0 22 rfl rfl)
theorem dX0_mixSheet_23 : decode cX0_mixSheet 23 = .ok (.aaload, 1) := dk_50 (dk_at dksX0_mixSheet_0 23 rfl rfl)
theorem dX0_mixSheet_24 : decode cX0_mixSheet 24 = .ok (.iload_n 2, 1) := dk_28 (dk_at dksX0_mixSheet_1 0 rfl rfl)
theorem dX0_mixSheet_25 : decode cX0_mixSheet 25 = .ok (.aload_n 0, 1) := dk_42 (dk_at dksX0_mixSheet_1 1 rfl rfl)
theorem dX0_mixSheet_26 : decode cX0_mixSheet 26 = .ok (.getfield 254, 3) := dk_180 0 254 (dk_at dksX0_mixSheet_1 2 rfl rfl)
theorem dX0_mixSheet_29 : decode cX0_mixSheet 29 = .ok (.invokevirtual 292, 3) := dk_182 1 36 (dk_at dksX0_mixSheet_1 5 rfl rfl)
theorem dX0_mixSheet_32 : decode cX0_mixSheet 32 = .ok (.invokevirtual 537, 3) := dk_182 2 25 (dk_at dksX0_mixSheet_1 8 rfl rfl)
theorem dX0_mixSheet_35 : decode cX0_mixSheet 35 = .ok (.iinc 2 1, 3) := dk_132 2 1 (dk_at dksX0_mixSheet_1 11 rfl rfl)
theorem dX0_mixSheet_38 : decode cX0_mixSheet 38 = .ok (.goto (-26), 3) := dk_167 255 230 (dk_at dksX0_mixSheet_1 14 rfl rfl)
theorem dX0_mixSheet_41 : decode cX0_mixSheet 41 = .ok (.iconst 0, 1) := dk_3 (dk_at dksX0_mixSheet_1 17 rfl rfl)
theorem dX0_mixSheet_42 : decode cX0_mixSheet 42 = .ok (.istore_n 2, 1) := dk_61 (dk_at dksX0_mixSheet_1 18 rfl rfl)
theorem dX0_mixSheet_43 : decode cX0_mixSheet 43 = .ok (.iload_n 2, 1) := dk_28 (dk_at dksX0_mixSheet_1 19 rfl rfl)
theorem dX0_mixSheet_44 : decode cX0_mixSheet 44 = .ok (.iconst 3, 1) := dk_6 (dk_at dksX0_mixSheet_1 20 rfl rfl)
theorem dX0_mixSheet_45 : decode cX0_mixSheet 45 = .ok (.if_icmp .gt 31, 3) := dk_163 0 31 (dk_at dksX0_mixSheet_1 21 rfl rfl)
theorem dX0_mixSheet_48 : decode cX0_mixSheet 48 = .ok (.aload_n 0, 1) := dk_42 (dk_at dksX0_mixSheet_2 0 rfl rfl)
theorem dX0_mixSheet_49 : decode cX0_mixSheet 49 = .ok (.iload_n 1, 1) := dk_27 (dk_at dksX0_mixSheet_2 1 rfl rfl)
theorem dX0_mixSheet_50 : decode cX0_mixSheet 50 = .ok (.invokevirtual 295, 3) := dk_182 1 39 (dk_at dksX0_mixSheet_2 2 rfl rfl)
theorem dX0_mixSheet_53 : decode cX0_mixSheet 53 = .ok (.ifCond .eq 23, 3) := dk_153 0 23 (dk_at dksX0_mixSheet_2 5 rfl rfl)
theorem dX0_mixSheet_56 : decode cX0_mixSheet 56 = .ok (.aload_n 0, 1) := dk_42 (dk_at dksX0_mixSheet_2 8 rfl rfl)
theorem dX0_mixSheet_57 : decode cX0_mixSheet 57 = .ok (.aload_n 0, 1) := dk_42 (dk_at dksX0_mixSheet_2 9 rfl rfl)
theorem dX0_mixSheet_58 : decode cX0_mixSheet 58 = .ok (.getfield 33, 3) := dk_180 0 33 (dk_at dksX0_mixSheet_2 10 rfl rfl)
theorem dX0_mixSheet_61 : decode cX0_mixSheet 61 = .ok (.iload_n 1, 1) := dk_27 (dk_at dksX0_mixSheet_2 13 rfl rfl)
theorem dX0_mixSheet_62 : decode cX0_mixSheet 62 = .ok (.aaload, 1) := dk_50 (dk_at dksX0_mixSheet_2 14 rfl rfl)
theorem dX0_mixSheet_63 : decode cX0_mixSheet 63 = .ok (.iload_n 2, 1) := dk_28 (dk_at dksX0_mixSheet_2 15 rfl rfl)
theorem dX0_mixSheet_64 : decode cX0_mixSheet 64 = .ok (.invokevirtual 298, 3) := dk_182 1 42 (dk_at dksX0_mixSheet_2 16 rfl rfl)
theorem dX0_mixSheet_67 : decode cX0_mixSheet 67 = .ok (.invokevirtual 537, 3) := dk_182 2 25 (dk_at dksX0_mixSheet_2 19 rfl rfl)
theorem dX0_mixSheet_70 : decode cX0_mixSheet 70 = .ok (.iinc 2 1, 3) := dk_132 2 1 (dk_at dksX0_mixSheet_3 0 rfl rfl)
theorem dX0_mixSheet_73 : decode cX0_mixSheet 73 = .ok (.goto (-30), 3) := dk_167 255 226 (dk_at dksX0_mixSheet_3 3 rfl rfl)
theorem dX0_mixSheet_76 : decode cX0_mixSheet 76 = .ok (.aload_n 0, 1) := dk_42 (dk_at dksX0_mixSheet_3 6 rfl rfl)
theorem dX0_mixSheet_77 : decode cX0_mixSheet 77 = .ok (.iload_n 1, 1) := dk_27 (dk_at dksX0_mixSheet_3 7 rfl rfl)
theorem dX0_mixSheet_78 : decode cX0_mixSheet 78 = .ok (.invokevirtual 295, 3) := dk_182 1 39 (dk_at dksX0_mixSheet_3 8 rfl rfl)
theorem dX0_mixSheet_81 : decode cX0_mixSheet 81 = .ok (.ifCond .ne 8, 3) := dk_154 0 8 (dk_at dksX0_mixSheet_3 11 rfl rfl)
theorem dX0_mixSheet_84 : decode cX0_mixSheet 84 = .ok (.aload_n 0, 1) := dk_42 (dk_at dksX0_mixSheet_3 14 rfl rfl)
theorem dX0_mixSheet_85 : decode cX0_mixSheet 85 = .ok (.iconst (-1), 1) := dk_2 (dk_at dksX0_mixSheet_3 15 rfl rfl)
theorem dX0_mixSheet_86 : decode cX0_mixSheet 86 = .ok (.invokevirtual 537, 3) := dk_182 2 25 (dk_at dksX0_mixSheet_3 16 rfl rfl)
theorem dX0_mixSheet_89 : decode cX0_mixSheet 89 = .ok (.iinc 1 1, 3) := dk_132 1 1 (dk_at dksX0_mixSheet_3 19 rfl rfl)
theorem dX0_mixSheet_92 : decode cX0_mixSheet 92 = .ok (.goto (-90), 3) := dk_167 255 166 (dk_at dksX0_mixSheet_4 0 rfl rfl)
theorem dX0_mixSheet_95 : decode cX0_mixSheet 95 = .ok (.aload_n 0, 1) := dk_42 (dk_at dksX0_mixSheet_4 3 rfl rfl)
theorem dX0_mixSheet_96 : decode cX0_mixSheet 96 = .ok (.getfield 68, 3) := dk_180 0 68 (dk_at dksX0_mixSheet_4 4 rfl rfl)
theorem dX0_mixSheet_99 : decode cX0_mixSheet 99 = .ok (.astore_n 1, 1) := dk_76 (dk_at dksX0_mixSheet_4 7 rfl rfl)
theorem dX0_mixSheet_100 : decode cX0_mixSheet 100 = .ok (.aload_n 1, 1) := dk_43 (dk_at dksX0_mixSheet_4 8 rfl rfl)
theorem dX0_mixSheet_101 : decode cX0_mixSheet 101 = .ok (.arraylength, 1) := dk_190 (dk_at dksX0_mixSheet_4 9 rfl rfl)
theorem dX0_mixSheet_102 : decode cX0_mixSheet 102 = .ok (.istore_n 2, 1) := dk_61 (dk_at dksX0_mixSheet_4 10 rfl rfl)
theorem dX0_mixSheet_103 : decode cX0_mixSheet 103 = .ok (.iconst 0, 1) := dk_3 (dk_at dksX0_mixSheet_4 11 rfl rfl)
theorem dX0_mixSheet_104 : decode cX0_mixSheet 104 = .ok (.istore_n 3, 1) := dk_62 (dk_at dksX0_mixSheet_4 12 rfl rfl)
theorem dX0_mixSheet_105 : decode cX0_mixSheet 105 = .ok (.iload_n 3, 1) := dk_29 (dk_at dksX0_mixSheet_4 13 rfl rfl)
theorem dX0_mixSheet_106 : decode cX0_mixSheet 106 = .ok (.iload_n 2, 1) := dk_28 (dk_at dksX0_mixSheet_4 14 rfl rfl)
theorem dX0_mixSheet_107 : decode cX0_mixSheet 107 = .ok (.if_icmp .ge 32, 3) := dk_162 0 32 (dk_at dksX0_mixSheet_4 15 rfl rfl)
theorem dX0_mixSheet_110 : decode cX0_mixSheet 110 = .ok (.aload_n 1, 1) := dk_43 (dk_at dksX0_mixSheet_4 18 rfl rfl)
theorem dX0_mixSheet_111 : decode cX0_mixSheet 111 = .ok (.iload_n 3, 1) := dk_29 (dk_at dksX0_mixSheet_4 19 rfl rfl)
theorem dX0_mixSheet_112 : decode cX0_mixSheet 112 = .ok (.aaload, 1) := dk_50 (dk_at dksX0_mixSheet_4 20 rfl rfl)
theorem dX0_mixSheet_113 : decode cX0_mixSheet 113 = .ok (.astore 4, 2) := dk_58 4 (dk_at dksX0_mixSheet_4 21 rfl rfl)
theorem dX0_mixSheet_115 : decode cX0_mixSheet 115 = .ok (.aload_n 0, 1) := dk_42 (dk_at dksX0_mixSheet_4 23 rfl rfl)
theorem dX0_mixSheet_116 : decode cX0_mixSheet 116 = .ok (.aload 4, 2) := dk_25 4 (dk_at dksX0_mixSheet_5 0 rfl rfl)
theorem dX0_mixSheet_118 : decode cX0_mixSheet 118 = .ok (.ifnonnull 7, 3) := dk_199 0 7 (dk_at dksX0_mixSheet_5 2 rfl rfl)
theorem dX0_mixSheet_121 : decode cX0_mixSheet 121 = .ok (.iconst (-1), 1) := dk_2 (dk_at dksX0_mixSheet_5 5 rfl rfl)
theorem dX0_mixSheet_122 : decode cX0_mixSheet 122 = .ok (.goto 8, 3) := dk_167 0 8 (dk_at dksX0_mixSheet_5 6 rfl rfl)
theorem dX0_mixSheet_125 : decode cX0_mixSheet 125 = .ok (.aload 4, 2) := dk_25 4 (dk_at dksX0_mixSheet_5 9 rfl rfl)
theorem dX0_mixSheet_127 : decode cX0_mixSheet 127 = .ok (.getfield 439, 3) := dk_180 1 183 (dk_at dksX0_mixSheet_5 11 rfl rfl)
theorem dX0_mixSheet_130 : decode cX0_mixSheet 130 = .ok (.invokevirtual 537, 3) := dk_182 2 25 (dk_at dksX0_mixSheet_5 14 rfl rfl)
theorem dX0_mixSheet_133 : decode cX0_mixSheet 133 = .ok (.iinc 3 1, 3) := dk_132 3 1 (dk_at dksX0_mixSheet_5 17 rfl rfl)
theorem dX0_mixSheet_136 : decode cX0_mixSheet 136 = .ok (.goto (-31), 3) := dk_167 255 225 (dk_at dksX0_mixSheet_5 20 rfl rfl)
theorem dX0_mixSheet_139 : decode cX0_mixSheet 139 = .ok (.return_, 1) := dk_177 (dk_at dksX0_mixSheet_5 23 rfl rfl)
theorem q105 : (Jvm.Cond.initialized "FrameSheets") ∈ lw_all := lw_g (lw_at lw_m1 1 rfl) rfl
theorem q139 : (Jvm.Cond.instantiable "FrameSheets" (38 : Nat)) ∈ lw_all := lw_g (lw_at lw_m1 35 rfl) rfl
theorem q141 : (Jvm.Cond.instanceMethod ({ cls := "FrameSheets", name := "<init>", desc := "()V" } : Jvm.MethodName)) ∈ lw_all := lw_g (lw_at lw_m1 37 rfl) rfl
theorem q142 : (Jvm.Cond.code ({ cls := "FrameSheets", name := "<init>", desc := "()V" } : Jvm.MethodName) prog_1_method_4_code (1 : Nat) (Option.none : Option Jvm.ClassFile.FieldType)) ∈ lw_all := lw_g (lw_at lw_m1 38 rfl) rfl
theorem q143 : (Jvm.Cond.methodLink "FrameSheets" (14 : Nat) ({ cls := "java/lang/Object", name := "<init>", desc := "()V" } : Jvm.MethodName)) ∈ lw_all := lw_g (lw_at lw_m1 39 rfl) rfl
theorem q146 : (Jvm.Cond.classLink "FrameSheets" (20 : Nat) "[I") ∈ lw_all := lw_g (lw_at lw_m1 42 rfl) rfl
theorem q148 : (Jvm.Cond.classLink "FrameSheets" (25 : Nat) "[B") ∈ lw_all := lw_g (lw_at lw_m1 44 rfl) rfl
theorem q150 : (Jvm.Cond.classLink "FrameSheets" (31 : Nat) "FrameSheets$Frame") ∈ lw_all := lw_g (lw_at lw_m1 46 rfl) rfl
theorem q152 : (Jvm.Cond.classLink "FrameSheets" (37 : Nat) "FrameSheets$Shortest") ∈ lw_all := lw_g (lw_at lw_m1 48 rfl) rfl
theorem q154 : (Jvm.Cond.methodLinkNest "FrameSheets" (39 : Nat) ({ cls := "FrameSheets$Shortest", name := "<init>", desc := "()V" } : Jvm.MethodName) "FrameSheets") ∈ lw_tbl := lw_at lw_m1 50 rfl
theorem q160 : (Jvm.Cond.classLink "FrameSheets" (66 : Nat) "FrameSheets$Kept") ∈ lw_all := lw_g (lw_at lw_m1 56 rfl) rfl
theorem q162 : (Jvm.Cond.fieldLink "FrameSheets" (1 : Nat) "FrameSheets" "finding" "I") ∈ lw_all := lw_g (lw_at lw_m1 58 rfl) rfl
theorem q163 : (Jvm.Cond.fieldLink "FrameSheets" (7 : Nat) "FrameSheets" "findings" "[I") ∈ lw_all := lw_g (lw_at lw_m1 59 rfl) rfl
theorem q164 : (Jvm.Cond.fieldLink "FrameSheets" (11 : Nat) "FrameSheets" "asked" "I") ∈ lw_all := lw_g (lw_at lw_m1 60 rfl) rfl
theorem q165 : (Jvm.Cond.fieldLink "FrameSheets" (21 : Nat) "FrameSheets" "rows" "[[I") ∈ lw_all := lw_g (lw_at lw_m1 61 rfl) rfl
theorem q166 : (Jvm.Cond.fieldLink "FrameSheets" (27 : Nat) "FrameSheets" "texts" "[[B") ∈ lw_all := lw_g (lw_at lw_m1 62 rfl) rfl
theorem q167 : (Jvm.Cond.fieldLink "FrameSheets" (245 : Nat) "FrameSheets" "many" "I") ∈ lw_all := lw_g (lw_at lw_m1 63 rfl) rfl
theorem q168 : (Jvm.Cond.fieldLink "FrameSheets" (248 : Nat) "FrameSheets" "wide" "I") ∈ lw_all := lw_g (lw_at lw_m1 64 rfl) rfl
theorem q169 : (Jvm.Cond.fieldLink "FrameSheets" (251 : Nat) "FrameSheets" "high" "I") ∈ lw_all := lw_g (lw_at lw_m1 65 rfl) rfl
theorem q170 : (Jvm.Cond.fieldLink "FrameSheets" (254 : Nat) "FrameSheets" "bleed" "I") ∈ lw_all := lw_g (lw_at lw_m1 66 rfl) rfl
theorem q171 : (Jvm.Cond.fieldLink "FrameSheets" (33 : Nat) "FrameSheets" "frames" "[LFrameSheets$Frame;") ∈ lw_all := lw_g (lw_at lw_m1 67 rfl) rfl
theorem q172 : (Jvm.Cond.fieldLink "FrameSheets" (40 : Nat) "FrameSheets" "rule" "LFrameSheets$Rule;") ∈ lw_all := lw_g (lw_at lw_m1 68 rfl) rfl
theorem q173 : (Jvm.Cond.fieldLink "FrameSheets" (164 : Nat) "FrameSheets" "reading" "[B") ∈ lw_all := lw_g (lw_at lw_m1 69 rfl) rfl
theorem q174 : (Jvm.Cond.fieldLink "FrameSheets" (161 : Nat) "FrameSheets" "readAt" "I") ∈ lw_all := lw_g (lw_at lw_m1 70 rfl) rfl
theorem q175 : (Jvm.Cond.fieldLink "FrameSheets" (170 : Nat) "FrameSheets" "tokenAt" "I") ∈ lw_all := lw_g (lw_at lw_m1 71 rfl) rfl
theorem q176 : (Jvm.Cond.fieldLink "FrameSheets" (182 : Nat) "FrameSheets" "readNumber" "I") ∈ lw_all := lw_g (lw_at lw_m1 72 rfl) rfl
theorem q177 : (Jvm.Cond.fieldLink "FrameSheets" (209 : Nat) "FrameSheets" "readMany" "I") ∈ lw_all := lw_g (lw_at lw_m1 73 rfl) rfl
theorem q178 : (Jvm.Cond.fieldLink "FrameSheets" (192 : Nat) "FrameSheets" "readWide" "I") ∈ lw_all := lw_g (lw_at lw_m1 74 rfl) rfl
theorem q179 : (Jvm.Cond.fieldLink "FrameSheets" (199 : Nat) "FrameSheets" "readHigh" "I") ∈ lw_all := lw_g (lw_at lw_m1 75 rfl) rfl
theorem q180 : (Jvm.Cond.fieldLink "FrameSheets" (206 : Nat) "FrameSheets" "readBleed" "I") ∈ lw_all := lw_g (lw_at lw_m1 76 rfl) rfl
theorem q181 : (Jvm.Cond.fieldLink "FrameSheets" (44 : Nat) "FrameSheets" "readFrames" "[LFrameSheets$Frame;") ∈ lw_all := lw_g (lw_at lw_m1 77 rfl) rfl
theorem q182 : (Jvm.Cond.fieldLink "FrameSheets" (312 : Nat) "FrameSheets" "freeMany" "I") ∈ lw_all := lw_g (lw_at lw_m1 78 rfl) rfl
theorem q183 : (Jvm.Cond.fieldLink "FrameSheets" (47 : Nat) "FrameSheets" "freeX" "[I") ∈ lw_all := lw_g (lw_at lw_m1 79 rfl) rfl
theorem q184 : (Jvm.Cond.fieldLink "FrameSheets" (50 : Nat) "FrameSheets" "freeY" "[I") ∈ lw_all := lw_g (lw_at lw_m1 80 rfl) rfl
theorem q185 : (Jvm.Cond.fieldLink "FrameSheets" (53 : Nat) "FrameSheets" "freeW" "[I") ∈ lw_all := lw_g (lw_at lw_m1 81 rfl) rfl
theorem q186 : (Jvm.Cond.fieldLink "FrameSheets" (56 : Nat) "FrameSheets" "freeH" "[I") ∈ lw_all := lw_g (lw_at lw_m1 82 rfl) rfl
theorem q187 : (Jvm.Cond.fieldLink "FrameSheets" (59 : Nat) "FrameSheets" "keep0" "[Z") ∈ lw_all := lw_g (lw_at lw_m1 83 rfl) rfl
theorem q188 : (Jvm.Cond.fieldLink "FrameSheets" (379 : Nat) "FrameSheets" "bestFirst" "I") ∈ lw_all := lw_g (lw_at lw_m1 84 rfl) rfl
theorem q189 : (Jvm.Cond.fieldLink "FrameSheets" (382 : Nat) "FrameSheets" "bestSecond" "I") ∈ lw_all := lw_g (lw_at lw_m1 85 rfl) rfl
theorem q190 : (Jvm.Cond.fieldLink "FrameSheets" (385 : Nat) "FrameSheets" "bestFree" "I") ∈ lw_all := lw_g (lw_at lw_m1 86 rfl) rfl
theorem q191 : (Jvm.Cond.fieldLink "FrameSheets" (388 : Nat) "FrameSheets" "bestTurned" "Z") ∈ lw_all := lw_g (lw_at lw_m1 87 rfl) rfl
theorem q192 : (Jvm.Cond.fieldLink "FrameSheets" (75 : Nat) "FrameSheets" "deedMany" "I") ∈ lw_all := lw_g (lw_at lw_m1 88 rfl) rfl
theorem q193 : (Jvm.Cond.fieldLink "FrameSheets" (63 : Nat) "FrameSheets" "ahead" "[I") ∈ lw_all := lw_g (lw_at lw_m1 89 rfl) rfl
theorem q194 : (Jvm.Cond.fieldLink "FrameSheets" (68 : Nat) "FrameSheets" "kept" "[LFrameSheets$Kept;") ∈ lw_all := lw_g (lw_at lw_m1 90 rfl) rfl
theorem q195 : (Jvm.Cond.fieldLink "FrameSheets" (72 : Nat) "FrameSheets" "aside" "[I") ∈ lw_all := lw_g (lw_at lw_m1 91 rfl) rfl
theorem q196 : (Jvm.Cond.fieldLink "FrameSheets" (482 : Nat) "FrameSheets" "wouldNot" "I") ∈ lw_all := lw_g (lw_at lw_m1 92 rfl) rfl
theorem q197 : (Jvm.Cond.fieldLink "FrameSheets" (485 : Nat) "FrameSheets" "wouldPages" "I") ∈ lw_all := lw_g (lw_at lw_m1 93 rfl) rfl
theorem q198 : (Jvm.Cond.fieldLink "FrameSheets" (488 : Nat) "FrameSheets" "wouldLast" "I") ∈ lw_all := lw_g (lw_at lw_m1 94 rfl) rfl
theorem q199 : (Jvm.Cond.fieldLink "FrameSheets" (533 : Nat) "FrameSheets" "h0" "J") ∈ lw_all := lw_g (lw_at lw_m1 95 rfl) rfl
theorem q200 : (Jvm.Cond.lays "FrameSheets" "FrameSheets" "finding" "I") ∈ lw_all := lw_g (lw_at lw_m1 96 rfl) rfl
theorem q201 : (Jvm.Cond.soleField "FrameSheets" "finding") ∈ lw_all := lw_g (lw_at lw_m1 97 rfl) rfl
theorem q202 : (Jvm.Cond.laysFinal "FrameSheets" "FrameSheets" "findings" "[I") ∈ lw_all := lw_g (lw_at lw_m1 98 rfl) rfl
theorem q203 : (Jvm.Cond.soleField "FrameSheets" "findings") ∈ lw_all := lw_g (lw_at lw_m1 99 rfl) rfl
theorem q204 : (Jvm.Cond.lays "FrameSheets" "FrameSheets" "asked" "I") ∈ lw_all := lw_g (lw_at lw_m1 100 rfl) rfl
theorem q205 : (Jvm.Cond.soleField "FrameSheets" "asked") ∈ lw_all := lw_g (lw_at lw_m1 101 rfl) rfl
theorem q206 : (Jvm.Cond.laysFinal "FrameSheets" "FrameSheets" "rows" "[[I") ∈ lw_all := lw_g (lw_at lw_m1 102 rfl) rfl
theorem q207 : (Jvm.Cond.soleField "FrameSheets" "rows") ∈ lw_all := lw_g (lw_at lw_m1 103 rfl) rfl
theorem q208 : (Jvm.Cond.laysFinal "FrameSheets" "FrameSheets" "texts" "[[B") ∈ lw_all := lw_g (lw_at lw_m1 104 rfl) rfl
theorem q209 : (Jvm.Cond.soleField "FrameSheets" "texts") ∈ lw_all := lw_g (lw_at lw_m1 105 rfl) rfl
theorem q210 : (Jvm.Cond.lays "FrameSheets" "FrameSheets" "many" "I") ∈ lw_all := lw_g (lw_at lw_m1 106 rfl) rfl
theorem q211 : (Jvm.Cond.soleField "FrameSheets" "many") ∈ lw_all := lw_g (lw_at lw_m1 107 rfl) rfl
theorem q212 : (Jvm.Cond.lays "FrameSheets" "FrameSheets" "wide" "I") ∈ lw_all := lw_g (lw_at lw_m1 108 rfl) rfl
theorem q213 : (Jvm.Cond.soleField "FrameSheets" "wide") ∈ lw_all := lw_g (lw_at lw_m1 109 rfl) rfl
theorem q214 : (Jvm.Cond.lays "FrameSheets" "FrameSheets" "high" "I") ∈ lw_all := lw_g (lw_at lw_m1 110 rfl) rfl
theorem q215 : (Jvm.Cond.soleField "FrameSheets" "high") ∈ lw_all := lw_g (lw_at lw_m1 111 rfl) rfl
theorem q216 : (Jvm.Cond.lays "FrameSheets" "FrameSheets" "bleed" "I") ∈ lw_all := lw_g (lw_at lw_m1 112 rfl) rfl
theorem q217 : (Jvm.Cond.soleField "FrameSheets" "bleed") ∈ lw_all := lw_g (lw_at lw_m1 113 rfl) rfl
theorem q218 : (Jvm.Cond.laysFinal "FrameSheets" "FrameSheets" "frames" "[LFrameSheets$Frame;") ∈ lw_all := lw_g (lw_at lw_m1 114 rfl) rfl
theorem q219 : (Jvm.Cond.soleField "FrameSheets" "frames") ∈ lw_all := lw_g (lw_at lw_m1 115 rfl) rfl
theorem q220 : (Jvm.Cond.lays "FrameSheets" "FrameSheets" "rule" "LFrameSheets$Rule;") ∈ lw_all := lw_g (lw_at lw_m1 116 rfl) rfl
theorem q221 : (Jvm.Cond.soleField "FrameSheets" "rule") ∈ lw_all := lw_g (lw_at lw_m1 117 rfl) rfl
theorem q222 : (Jvm.Cond.lays "FrameSheets" "FrameSheets" "reading" "[B") ∈ lw_all := lw_g (lw_at lw_m1 118 rfl) rfl
theorem q223 : (Jvm.Cond.soleField "FrameSheets" "reading") ∈ lw_all := lw_g (lw_at lw_m1 119 rfl) rfl
theorem q224 : (Jvm.Cond.lays "FrameSheets" "FrameSheets" "readAt" "I") ∈ lw_all := lw_g (lw_at lw_m1 120 rfl) rfl
theorem q225 : (Jvm.Cond.soleField "FrameSheets" "readAt") ∈ lw_all := lw_g (lw_at lw_m1 121 rfl) rfl
theorem q226 : (Jvm.Cond.lays "FrameSheets" "FrameSheets" "tokenAt" "I") ∈ lw_all := lw_g (lw_at lw_m1 122 rfl) rfl
theorem q227 : (Jvm.Cond.soleField "FrameSheets" "tokenAt") ∈ lw_all := lw_g (lw_at lw_m1 123 rfl) rfl
theorem q228 : (Jvm.Cond.lays "FrameSheets" "FrameSheets" "readNumber" "I") ∈ lw_all := lw_g (lw_at lw_m1 124 rfl) rfl
theorem q229 : (Jvm.Cond.soleField "FrameSheets" "readNumber") ∈ lw_all := lw_g (lw_at lw_m1 125 rfl) rfl
theorem q230 : (Jvm.Cond.lays "FrameSheets" "FrameSheets" "readMany" "I") ∈ lw_all := lw_g (lw_at lw_m1 126 rfl) rfl
theorem q231 : (Jvm.Cond.soleField "FrameSheets" "readMany") ∈ lw_all := lw_g (lw_at lw_m1 127 rfl) rfl
theorem q232 : (Jvm.Cond.lays "FrameSheets" "FrameSheets" "readWide" "I") ∈ lw_all := lw_g (lw_at lw_m1 128 rfl) rfl
theorem q233 : (Jvm.Cond.soleField "FrameSheets" "readWide") ∈ lw_all := lw_g (lw_at lw_m1 129 rfl) rfl
theorem q234 : (Jvm.Cond.lays "FrameSheets" "FrameSheets" "readHigh" "I") ∈ lw_all := lw_g (lw_at lw_m1 130 rfl) rfl
theorem q235 : (Jvm.Cond.soleField "FrameSheets" "readHigh") ∈ lw_all := lw_g (lw_at lw_m1 131 rfl) rfl
theorem q236 : (Jvm.Cond.lays "FrameSheets" "FrameSheets" "readBleed" "I") ∈ lw_all := lw_g (lw_at lw_m1 132 rfl) rfl
theorem q237 : (Jvm.Cond.soleField "FrameSheets" "readBleed") ∈ lw_all := lw_g (lw_at lw_m1 133 rfl) rfl
theorem q238 : (Jvm.Cond.laysFinal "FrameSheets" "FrameSheets" "readFrames" "[LFrameSheets$Frame;") ∈ lw_all := lw_g (lw_at lw_m1 134 rfl) rfl
theorem q239 : (Jvm.Cond.soleField "FrameSheets" "readFrames") ∈ lw_all := lw_g (lw_at lw_m1 135 rfl) rfl
theorem q240 : (Jvm.Cond.lays "FrameSheets" "FrameSheets" "freeMany" "I") ∈ lw_all := lw_g (lw_at lw_m1 136 rfl) rfl
theorem q241 : (Jvm.Cond.soleField "FrameSheets" "freeMany") ∈ lw_all := lw_g (lw_at lw_m1 137 rfl) rfl
theorem q242 : (Jvm.Cond.laysFinal "FrameSheets" "FrameSheets" "freeX" "[I") ∈ lw_all := lw_g (lw_at lw_m1 138 rfl) rfl
theorem q243 : (Jvm.Cond.soleField "FrameSheets" "freeX") ∈ lw_all := lw_g (lw_at lw_m1 139 rfl) rfl
theorem q244 : (Jvm.Cond.laysFinal "FrameSheets" "FrameSheets" "freeY" "[I") ∈ lw_all := lw_g (lw_at lw_m1 140 rfl) rfl
theorem q245 : (Jvm.Cond.soleField "FrameSheets" "freeY") ∈ lw_all := lw_g (lw_at lw_m1 141 rfl) rfl
theorem q246 : (Jvm.Cond.laysFinal "FrameSheets" "FrameSheets" "freeW" "[I") ∈ lw_all := lw_g (lw_at lw_m1 142 rfl) rfl
theorem q247 : (Jvm.Cond.soleField "FrameSheets" "freeW") ∈ lw_all := lw_g (lw_at lw_m1 143 rfl) rfl
theorem q248 : (Jvm.Cond.laysFinal "FrameSheets" "FrameSheets" "freeH" "[I") ∈ lw_all := lw_g (lw_at lw_m1 144 rfl) rfl
theorem q249 : (Jvm.Cond.soleField "FrameSheets" "freeH") ∈ lw_all := lw_g (lw_at lw_m1 145 rfl) rfl
theorem q250 : (Jvm.Cond.laysFinal "FrameSheets" "FrameSheets" "keep0" "[Z") ∈ lw_all := lw_g (lw_at lw_m1 146 rfl) rfl
theorem q251 : (Jvm.Cond.soleField "FrameSheets" "keep0") ∈ lw_all := lw_g (lw_at lw_m1 147 rfl) rfl
theorem q252 : (Jvm.Cond.lays "FrameSheets" "FrameSheets" "bestFirst" "I") ∈ lw_all := lw_g (lw_at lw_m1 148 rfl) rfl
theorem q253 : (Jvm.Cond.soleField "FrameSheets" "bestFirst") ∈ lw_all := lw_g (lw_at lw_m1 149 rfl) rfl
theorem q254 : (Jvm.Cond.lays "FrameSheets" "FrameSheets" "bestSecond" "I") ∈ lw_all := lw_g (lw_at lw_m1 150 rfl) rfl
theorem q255 : (Jvm.Cond.soleField "FrameSheets" "bestSecond") ∈ lw_all := lw_g (lw_at lw_m1 151 rfl) rfl
theorem q256 : (Jvm.Cond.lays "FrameSheets" "FrameSheets" "bestFree" "I") ∈ lw_all := lw_g (lw_at lw_m1 152 rfl) rfl
theorem q257 : (Jvm.Cond.soleField "FrameSheets" "bestFree") ∈ lw_all := lw_g (lw_at lw_m1 153 rfl) rfl
theorem q258 : (Jvm.Cond.lays "FrameSheets" "FrameSheets" "bestTurned" "Z") ∈ lw_all := lw_g (lw_at lw_m1 154 rfl) rfl
theorem q259 : (Jvm.Cond.soleField "FrameSheets" "bestTurned") ∈ lw_all := lw_g (lw_at lw_m1 155 rfl) rfl
theorem q260 : (Jvm.Cond.lays "FrameSheets" "FrameSheets" "deedMany" "I") ∈ lw_all := lw_g (lw_at lw_m1 156 rfl) rfl
theorem q261 : (Jvm.Cond.soleField "FrameSheets" "deedMany") ∈ lw_all := lw_g (lw_at lw_m1 157 rfl) rfl
theorem q262 : (Jvm.Cond.laysFinal "FrameSheets" "FrameSheets" "ahead" "[I") ∈ lw_all := lw_g (lw_at lw_m1 158 rfl) rfl
theorem q263 : (Jvm.Cond.soleField "FrameSheets" "ahead") ∈ lw_all := lw_g (lw_at lw_m1 159 rfl) rfl
theorem q264 : (Jvm.Cond.laysFinal "FrameSheets" "FrameSheets" "kept" "[LFrameSheets$Kept;") ∈ lw_all := lw_g (lw_at lw_m1 160 rfl) rfl
theorem q265 : (Jvm.Cond.soleField "FrameSheets" "kept") ∈ lw_all := lw_g (lw_at lw_m1 161 rfl) rfl
theorem q266 : (Jvm.Cond.laysFinal "FrameSheets" "FrameSheets" "aside" "[I") ∈ lw_all := lw_g (lw_at lw_m1 162 rfl) rfl
theorem q267 : (Jvm.Cond.soleField "FrameSheets" "aside") ∈ lw_all := lw_g (lw_at lw_m1 163 rfl) rfl
theorem q268 : (Jvm.Cond.lays "FrameSheets" "FrameSheets" "wouldNot" "I") ∈ lw_all := lw_g (lw_at lw_m1 164 rfl) rfl
theorem q269 : (Jvm.Cond.soleField "FrameSheets" "wouldNot") ∈ lw_all := lw_g (lw_at lw_m1 165 rfl) rfl
theorem q270 : (Jvm.Cond.lays "FrameSheets" "FrameSheets" "wouldPages" "I") ∈ lw_all := lw_g (lw_at lw_m1 166 rfl) rfl
theorem q271 : (Jvm.Cond.soleField "FrameSheets" "wouldPages") ∈ lw_all := lw_g (lw_at lw_m1 167 rfl) rfl
theorem q272 : (Jvm.Cond.lays "FrameSheets" "FrameSheets" "wouldLast" "I") ∈ lw_all := lw_g (lw_at lw_m1 168 rfl) rfl
theorem q273 : (Jvm.Cond.soleField "FrameSheets" "wouldLast") ∈ lw_all := lw_g (lw_at lw_m1 169 rfl) rfl
theorem q274 : (Jvm.Cond.lays "FrameSheets" "FrameSheets" "h0" "J") ∈ lw_all := lw_g (lw_at lw_m1 170 rfl) rfl
theorem q275 : (Jvm.Cond.soleField "FrameSheets" "h0") ∈ lw_all := lw_g (lw_at lw_m1 171 rfl) rfl
theorem q276 : (Jvm.Cond.superclass "FrameSheets" "java/lang/Object") ∈ lw_all := lw_g (lw_at lw_m1 172 rfl) rfl
theorem q279 : (Jvm.Cond.instanceMethod ({ cls := "FrameSheets", name := "row", desc := "(II)I" } : Jvm.MethodName)) ∈ lw_all := lw_g (lw_at lw_m1 175 rfl) rfl
theorem q280 : (Jvm.Cond.selects "FrameSheets" ({ cls := "FrameSheets", name := "row", desc := "(II)I" } : Jvm.MethodName) ({ cls := "FrameSheets", name := "row", desc := "(II)I" } : Jvm.MethodName)) ∈ lw_all := lw_g (lw_at lw_m1 176 rfl) rfl
theorem q281 : (Jvm.Cond.codeWith ({ cls := "FrameSheets", name := "row", desc := "(II)I" } : Jvm.MethodName) prog_1_method_7_code (4 : Nat) (Option.some Jvm.ClassFile.FieldType.int) [((15 : Nat), (25 : Nat), (26 : Nat), (86 : Nat))]) ∈ lw_all := lw_g (lw_at lw_m1 177 rfl) rfl
theorem q282 : (Jvm.Cond.classLink "FrameSheets" (86 : Nat) "java/lang/NegativeArraySizeException") ∈ lw_all := lw_g (lw_at lw_m1 178 rfl) rfl
theorem q368 : (Jvm.Cond.methodLink "FrameSheets" (82 : Nat) ({ cls := "FrameSheets", name := "isRow", desc := "(I)Z" } : Jvm.MethodName)) ∈ lw_all := lw_g (lw_at lw_m2 24 rfl) rfl
theorem q369 : (Jvm.Cond.static ({ cls := "FrameSheets", name := "isRow", desc := "(I)Z" } : Jvm.MethodName)) ∈ lw_all := lw_g (lw_at lw_m2 25 rfl) rfl
theorem q370 : (Jvm.Cond.code ({ cls := "FrameSheets", name := "isRow", desc := "(I)Z" } : Jvm.MethodName) prog_1_method_5_code (1 : Nat) (Option.some Jvm.ClassFile.FieldType.boolean)) ∈ lw_all := lw_g (lw_at lw_m2 26 rfl) rfl
theorem q371 : (Jvm.Cond.methodLink "FrameSheets" (78 : Nat) ({ cls := "FrameSheets", name := "isIn", desc := "(III)Z" } : Jvm.MethodName)) ∈ lw_all := lw_g (lw_at lw_m2 27 rfl) rfl
theorem q372 : (Jvm.Cond.static ({ cls := "FrameSheets", name := "isIn", desc := "(III)Z" } : Jvm.MethodName)) ∈ lw_all := lw_g (lw_at lw_m2 28 rfl) rfl
theorem q373 : (Jvm.Cond.code ({ cls := "FrameSheets", name := "isIn", desc := "(III)Z" } : Jvm.MethodName) prog_1_method_1_code (3 : Nat) (Option.some Jvm.ClassFile.FieldType.boolean)) ∈ lw_all := lw_g (lw_at lw_m2 29 rfl) rfl
theorem q374 : (Jvm.Cond.methodLink "FrameSheets" (88 : Nat) ({ cls := "FrameSheets", name := "found", desc := "(I)I" } : Jvm.MethodName)) ∈ lw_all := lw_g (lw_at lw_m2 30 rfl) rfl
theorem q375 : (Jvm.Cond.privateMethod ({ cls := "FrameSheets", name := "found", desc := "(I)I" } : Jvm.MethodName)) ∈ lw_tbl := lw_at lw_m2 31 rfl
theorem q376 : (Jvm.Cond.instanceMethod ({ cls := "FrameSheets", name := "found", desc := "(I)I" } : Jvm.MethodName)) ∈ lw_all := lw_g (lw_at lw_m2 32 rfl) rfl
theorem q377 : (Jvm.Cond.code ({ cls := "FrameSheets", name := "found", desc := "(I)I" } : Jvm.MethodName) prog_1_method_2_code (2 : Nat) (Option.some Jvm.ClassFile.FieldType.int)) ∈ lw_all := lw_g (lw_at lw_m2 33 rfl) rfl
theorem q379 : (Jvm.Cond.instanceMethod ({ cls := "FrameSheets", name := "lay", desc := "(III)I" } : Jvm.MethodName)) ∈ lw_all := lw_g (lw_at lw_m2 35 rfl) rfl
theorem q380 : (Jvm.Cond.selects "FrameSheets" ({ cls := "FrameSheets", name := "lay", desc := "(III)I" } : Jvm.MethodName) ({ cls := "FrameSheets", name := "lay", desc := "(III)I" } : Jvm.MethodName)) ∈ lw_all := lw_g (lw_at lw_m2 36 rfl) rfl
theorem q381 : (Jvm.Cond.code ({ cls := "FrameSheets", name := "lay", desc := "(III)I" } : Jvm.MethodName) prog_1_method_8_code (5 : Nat) (Option.some Jvm.ClassFile.FieldType.int)) ∈ lw_all := lw_g (lw_at lw_m2 37 rfl) rfl
theorem q382 : (Jvm.Cond.methodLink "FrameSheets" (92 : Nat) ({ cls := "FrameSheets", name := "at", desc := "(II)I" } : Jvm.MethodName)) ∈ lw_all := lw_g (lw_at lw_m2 38 rfl) rfl
theorem q383 : (Jvm.Cond.instanceMethod ({ cls := "FrameSheets", name := "at", desc := "(II)I" } : Jvm.MethodName)) ∈ lw_all := lw_g (lw_at lw_m2 39 rfl) rfl
theorem q384 : (Jvm.Cond.selects "FrameSheets" ({ cls := "FrameSheets", name := "at", desc := "(II)I" } : Jvm.MethodName) ({ cls := "FrameSheets", name := "at", desc := "(II)I" } : Jvm.MethodName)) ∈ lw_all := lw_g (lw_at lw_m2 40 rfl) rfl
theorem q385 : (Jvm.Cond.codeWith ({ cls := "FrameSheets", name := "at", desc := "(II)I" } : Jvm.MethodName) prog_1_method_9_code (4 : Nat) (Option.some Jvm.ClassFile.FieldType.int) [((9 : Nat), (22 : Nat), (23 : Nat), (99 : Nat)), ((9 : Nat), (22 : Nat), (30 : Nat), (101 : Nat))]) ∈ lw_all := lw_g (lw_at lw_m2 41 rfl) rfl
theorem q386 : (Jvm.Cond.classLink "FrameSheets" (99 : Nat) "java/lang/NullPointerException") ∈ lw_all := lw_g (lw_at lw_m2 42 rfl) rfl
theorem q411 : (Jvm.Cond.classLink "FrameSheets" (101 : Nat) "java/lang/ArrayIndexOutOfBoundsException") ∈ lw_all := lw_g (lw_at lw_m2 67 rfl) rfl
theorem q430 : (Jvm.Cond.methodLink "FrameSheets" (96 : Nat) ({ cls := "FrameSheets", name := "ask", desc := "(II)I" } : Jvm.MethodName)) ∈ lw_all := lw_g (lw_at lw_m2 86 rfl) rfl
theorem q431 : (Jvm.Cond.privateMethod ({ cls := "FrameSheets", name := "ask", desc := "(II)I" } : Jvm.MethodName)) ∈ lw_tbl := lw_at lw_m2 87 rfl
theorem q432 : (Jvm.Cond.instanceMethod ({ cls := "FrameSheets", name := "ask", desc := "(II)I" } : Jvm.MethodName)) ∈ lw_all := lw_g (lw_at lw_m2 88 rfl) rfl
theorem q433 : (Jvm.Cond.code ({ cls := "FrameSheets", name := "ask", desc := "(II)I" } : Jvm.MethodName) prog_1_method_3_code (3 : Nat) (Option.some Jvm.ClassFile.FieldType.int)) ∈ lw_all := lw_g (lw_at lw_m2 89 rfl) rfl
theorem q436 : (Jvm.Cond.instanceMethod ({ cls := "FrameSheets", name := "tear", desc := "(I)I" } : Jvm.MethodName)) ∈ lw_all := lw_g (lw_at lw_m2 92 rfl) rfl
theorem q437 : (Jvm.Cond.selects "FrameSheets" ({ cls := "FrameSheets", name := "tear", desc := "(I)I" } : Jvm.MethodName) ({ cls := "FrameSheets", name := "tear", desc := "(I)I" } : Jvm.MethodName)) ∈ lw_all := lw_g (lw_at lw_m2 93 rfl) rfl
theorem q438 : (Jvm.Cond.code ({ cls := "FrameSheets", name := "tear", desc := "(I)I" } : Jvm.MethodName) prog_1_method_10_code (2 : Nat) (Option.some Jvm.ClassFile.FieldType.int)) ∈ lw_all := lw_g (lw_at lw_m2 94 rfl) rfl
theorem q440 : (Jvm.Cond.instanceMethod ({ cls := "FrameSheets", name := "copy", desc := "(IIIII)I" } : Jvm.MethodName)) ∈ lw_all := lw_g (lw_at lw_m2 96 rfl) rfl
theorem q441 : (Jvm.Cond.selects "FrameSheets" ({ cls := "FrameSheets", name := "copy", desc := "(IIIII)I" } : Jvm.MethodName) ({ cls := "FrameSheets", name := "copy", desc := "(IIIII)I" } : Jvm.MethodName)) ∈ lw_all := lw_g (lw_at lw_m2 97 rfl) rfl
theorem q442 : (Jvm.Cond.codeWith ({ cls := "FrameSheets", name := "copy", desc := "(IIIII)I" } : Jvm.MethodName) prog_1_method_11_code (7 : Nat) (Option.some Jvm.ClassFile.FieldType.int) [((27 : Nat), (48 : Nat), (49 : Nat), (99 : Nat)), ((27 : Nat), (48 : Nat), (57 : Nat), (109 : Nat))]) ∈ lw_all := lw_g (lw_at lw_m2 98 rfl) rfl
theorem q443 : (Jvm.Cond.classLink "FrameSheets" (109 : Nat) "java/lang/IndexOutOfBoundsException") ∈ lw_all := lw_g (lw_at lw_m2 99 rfl) rfl
theorem q444 : (Jvm.Cond.methodLink "FrameSheets" (103 : Nat) ({ cls := "java/lang/System", name := "arraycopy", desc := "(Ljava/lang/Object;ILjava/lang/Object;II)V" } : Jvm.MethodName)) ∈ lw_all := lw_g (lw_at lw_m2 100 rfl) rfl
theorem q448 : (Jvm.Cond.instanceMethod ({ cls := "FrameSheets", name := "mean", desc := "(I)I" } : Jvm.MethodName)) ∈ lw_all := lw_g (lw_at lw_m2 104 rfl) rfl
theorem q449 : (Jvm.Cond.selects "FrameSheets" ({ cls := "FrameSheets", name := "mean", desc := "(I)I" } : Jvm.MethodName) ({ cls := "FrameSheets", name := "mean", desc := "(I)I" } : Jvm.MethodName)) ∈ lw_all := lw_g (lw_at lw_m2 105 rfl) rfl
theorem q450 : (Jvm.Cond.codeWith ({ cls := "FrameSheets", name := "mean", desc := "(I)I" } : Jvm.MethodName) prog_1_method_12_code (8 : Nat) (Option.some Jvm.ClassFile.FieldType.int) [((9 : Nat), (69 : Nat), (70 : Nat), (99 : Nat)), ((9 : Nat), (69 : Nat), (77 : Nat), (111 : Nat))]) ∈ lw_all := lw_g (lw_at lw_m2 106 rfl) rfl
theorem q451 : (Jvm.Cond.classLink "FrameSheets" (111 : Nat) "java/lang/ArithmeticException") ∈ lw_all := lw_g (lw_at lw_m2 107 rfl) rfl
theorem q466 : (Jvm.Cond.instanceMethod ({ cls := "FrameSheets", name := "text", desc := "(II)I" } : Jvm.MethodName)) ∈ lw_all := lw_g (lw_at lw_m2 122 rfl) rfl
theorem q467 : (Jvm.Cond.selects "FrameSheets" ({ cls := "FrameSheets", name := "text", desc := "(II)I" } : Jvm.MethodName) ({ cls := "FrameSheets", name := "text", desc := "(II)I" } : Jvm.MethodName)) ∈ lw_all := lw_g (lw_at lw_m2 123 rfl) rfl
theorem q468 : (Jvm.Cond.codeWith ({ cls := "FrameSheets", name := "text", desc := "(II)I" } : Jvm.MethodName) prog_1_method_13_code (5 : Nat) (Option.some Jvm.ClassFile.FieldType.int) [((15 : Nat), (48 : Nat), (49 : Nat), (86 : Nat))]) ∈ lw_all := lw_g (lw_at lw_m2 124 rfl) rfl
theorem q469 : (Jvm.Cond.methodLink "FrameSheets" (113 : Nat) ({ cls := "FrameSheets", name := "isText", desc := "(I)Z" } : Jvm.MethodName)) ∈ lw_all := lw_g (lw_at lw_m2 125 rfl) rfl
theorem q470 : (Jvm.Cond.static ({ cls := "FrameSheets", name := "isText", desc := "(I)Z" } : Jvm.MethodName)) ∈ lw_all := lw_g (lw_at lw_m2 126 rfl) rfl
theorem q471 : (Jvm.Cond.code ({ cls := "FrameSheets", name := "isText", desc := "(I)Z" } : Jvm.MethodName) prog_1_method_6_code (1 : Nat) (Option.some Jvm.ClassFile.FieldType.boolean)) ∈ lw_all := lw_g (lw_at lw_m2 127 rfl) rfl
theorem q473 : (Jvm.Cond.instanceMethod ({ cls := "FrameSheets", name := "put", desc := "(III)I" } : Jvm.MethodName)) ∈ lw_all := lw_g (lw_at lw_m2 129 rfl) rfl
theorem q474 : (Jvm.Cond.selects "FrameSheets" ({ cls := "FrameSheets", name := "put", desc := "(III)I" } : Jvm.MethodName) ({ cls := "FrameSheets", name := "put", desc := "(III)I" } : Jvm.MethodName)) ∈ lw_all := lw_g (lw_at lw_m2 130 rfl) rfl
theorem q475 : (Jvm.Cond.codeWith ({ cls := "FrameSheets", name := "put", desc := "(III)I" } : Jvm.MethodName) prog_1_method_14_code (5 : Nat) (Option.some Jvm.ClassFile.FieldType.int) [((9 : Nat), (35 : Nat), (36 : Nat), (99 : Nat)), ((9 : Nat), (35 : Nat), (44 : Nat), (101 : Nat))]) ∈ lw_all := lw_g (lw_at lw_m2 131 rfl) rfl
theorem q477 : (Jvm.Cond.instanceMethod ({ cls := "FrameSheets", name := "fault", desc := "(I)I" } : Jvm.MethodName)) ∈ lw_all := lw_g (lw_at lw_m2 133 rfl) rfl
theorem q478 : (Jvm.Cond.selects "FrameSheets" ({ cls := "FrameSheets", name := "fault", desc := "(I)I" } : Jvm.MethodName) ({ cls := "FrameSheets", name := "fault", desc := "(I)I" } : Jvm.MethodName)) ∈ lw_all := lw_g (lw_at lw_m2 134 rfl) rfl
theorem q479 : (Jvm.Cond.code ({ cls := "FrameSheets", name := "fault", desc := "(I)I" } : Jvm.MethodName) prog_1_method_28_code (2 : Nat) (Option.some Jvm.ClassFile.FieldType.int)) ∈ lw_all := lw_g (lw_at lw_m2 135 rfl) rfl
theorem q480 : (Jvm.Cond.methodLink "FrameSheets" (241 : Nat) ({ cls := "FrameSheets", name := "reads", desc := "([B)I" } : Jvm.MethodName)) ∈ lw_all := lw_g (lw_at lw_m2 136 rfl) rfl
theorem q481 : (Jvm.Cond.privateMethod ({ cls := "FrameSheets", name := "reads", desc := "([B)I" } : Jvm.MethodName)) ∈ lw_tbl := lw_at lw_m2 137 rfl
theorem q482 : (Jvm.Cond.instanceMethod ({ cls := "FrameSheets", name := "reads", desc := "([B)I" } : Jvm.MethodName)) ∈ lw_all := lw_g (lw_at lw_m2 138 rfl) rfl
theorem q483 : (Jvm.Cond.code ({ cls := "FrameSheets", name := "reads", desc := "([B)I" } : Jvm.MethodName) prog_1_method_27_code (2 : Nat) (Option.some Jvm.ClassFile.FieldType.int)) ∈ lw_all := lw_g (lw_at lw_m2 139 rfl) rfl
theorem q484 : (Jvm.Cond.methodLink "FrameSheets" (173 : Nat) ({ cls := "FrameSheets", name := "skips", desc := "()V" } : Jvm.MethodName)) ∈ lw_all := lw_g (lw_at lw_m2 140 rfl) rfl
theorem q485 : (Jvm.Cond.privateMethod ({ cls := "FrameSheets", name := "skips", desc := "()V" } : Jvm.MethodName)) ∈ lw_tbl := lw_at lw_m2 141 rfl
theorem q486 : (Jvm.Cond.instanceMethod ({ cls := "FrameSheets", name := "skips", desc := "()V" } : Jvm.MethodName)) ∈ lw_all := lw_g (lw_at lw_m2 142 rfl) rfl
theorem q487 : (Jvm.Cond.code ({ cls := "FrameSheets", name := "skips", desc := "()V" } : Jvm.MethodName) prog_1_method_19_code (1 : Nat) (Option.none : Option Jvm.ClassFile.FieldType)) ∈ lw_all := lw_g (lw_at lw_m2 143 rfl) rfl
theorem q488 : (Jvm.Cond.methodLink "FrameSheets" (167 : Nat) ({ cls := "FrameSheets", name := "sign", desc := "()I" } : Jvm.MethodName)) ∈ lw_all := lw_g (lw_at lw_m2 144 rfl) rfl
theorem q489 : (Jvm.Cond.privateMethod ({ cls := "FrameSheets", name := "sign", desc := "()I" } : Jvm.MethodName)) ∈ lw_tbl := lw_at lw_m2 145 rfl
theorem q490 : (Jvm.Cond.instanceMethod ({ cls := "FrameSheets", name := "sign", desc := "()I" } : Jvm.MethodName)) ∈ lw_all := lw_g (lw_at lw_m2 146 rfl) rfl
theorem q491 : (Jvm.Cond.code ({ cls := "FrameSheets", name := "sign", desc := "()I" } : Jvm.MethodName) prog_1_method_18_code (1 : Nat) (Option.some Jvm.ClassFile.FieldType.int)) ∈ lw_all := lw_g (lw_at lw_m2 147 rfl) rfl
theorem q492 : (Jvm.Cond.methodLink "FrameSheets" (238 : Nat) ({ cls := "FrameSheets", name := "readsStatement", desc := "()Z" } : Jvm.MethodName)) ∈ lw_all := lw_g (lw_at lw_m2 148 rfl) rfl
theorem q493 : (Jvm.Cond.privateMethod ({ cls := "FrameSheets", name := "readsStatement", desc := "()Z" } : Jvm.MethodName)) ∈ lw_tbl := lw_at lw_m2 149 rfl
theorem q494 : (Jvm.Cond.instanceMethod ({ cls := "FrameSheets", name := "readsStatement", desc := "()Z" } : Jvm.MethodName)) ∈ lw_all := lw_g (lw_at lw_m2 150 rfl) rfl
theorem q495 : (Jvm.Cond.code ({ cls := "FrameSheets", name := "readsStatement", desc := "()Z" } : Jvm.MethodName) prog_1_method_26_code (5 : Nat) (Option.some Jvm.ClassFile.FieldType.boolean)) ∈ lw_all := lw_g (lw_at lw_m2 151 rfl) rfl
theorem q496 : (Jvm.Cond.methodLink "FrameSheets" (216 : Nat) ({ cls := "FrameSheets", name := "readsWord", desc := "()Ljava/lang/StringBuilder;" } : Jvm.MethodName)) ∈ lw_all := lw_g (lw_at lw_m2 152 rfl) rfl
theorem q497 : (Jvm.Cond.privateMethod ({ cls := "FrameSheets", name := "readsWord", desc := "()Ljava/lang/StringBuilder;" } : Jvm.MethodName)) ∈ lw_tbl := lw_at lw_m2 153 rfl
theorem q498 : (Jvm.Cond.instanceMethod ({ cls := "FrameSheets", name := "readsWord", desc := "()Ljava/lang/StringBuilder;" } : Jvm.MethodName)) ∈ lw_all := lw_g (lw_at lw_m2 154 rfl) rfl
theorem q499 : (Jvm.Cond.code ({ cls := "FrameSheets", name := "readsWord", desc := "()Ljava/lang/StringBuilder;" } : Jvm.MethodName) prog_1_method_22_code (2 : Nat) (Option.some (Jvm.ClassFile.FieldType.object "java/lang/StringBuilder"))) ∈ lw_all := lw_g (lw_at lw_m2 155 rfl) rfl
theorem q500 : (Jvm.Cond.classLink "FrameSheets" (185 : Nat) "java/lang/StringBuilder") ∈ lw_all := lw_g (lw_at lw_m2 156 rfl) rfl
theorem q502 : (Jvm.Cond.methodLink "FrameSheets" (187 : Nat) ({ cls := "java/lang/StringBuilder", name := "<init>", desc := "()V" } : Jvm.MethodName)) ∈ lw_all := lw_g (lw_at lw_m2 158 rfl) rfl
theorem q536 : (Jvm.Cond.methodLink "FrameSheets" (188 : Nat) ({ cls := "java/lang/StringBuilder", name := "append", desc := "(C)Ljava/lang/StringBuilder;" } : Jvm.MethodName)) ∈ lw_all := lw_g (lw_at lw_m2 192 rfl) rfl
theorem q629 : (Jvm.Cond.methodLink "FrameSheets" (220 : Nat) ({ cls := "java/lang/StringBuilder", name := "toString", desc := "()Ljava/lang/String;" } : Jvm.MethodName)) ∈ lw_all := lw_g (lw_at lw_m3 45 rfl) rfl
theorem q687 : (Jvm.Cond.methodLink "FrameSheets" (131 : Nat) ({ cls := "java/lang/String", name := "hashCode", desc := "()I" } : Jvm.MethodName)) ∈ lw_all := lw_g (lw_at lw_m3 103 rfl) rfl
theorem q740 : (Jvm.Cond.stringRef "FrameSheets" (221 : Nat) "page") ∈ lw_tbl := lw_at lw_m3 156 rfl
theorem q741 : (Jvm.Cond.methodLink "FrameSheets" (139 : Nat) ({ cls := "java/lang/String", name := "equals", desc := "(Ljava/lang/Object;)Z" } : Jvm.MethodName)) ∈ lw_all := lw_g (lw_at lw_m3 157 rfl) rfl
theorem q749 : (Jvm.Cond.stringRef "FrameSheets" (223 : Nat) "bleed") ∈ lw_tbl := lw_at lw_m3 165 rfl
theorem q750 : (Jvm.Cond.methodLink "FrameSheets" (225 : Nat) ({ cls := "FrameSheets", name := "readsPage", desc := "()Z" } : Jvm.MethodName)) ∈ lw_all := lw_g (lw_at lw_m3 166 rfl) rfl
theorem q751 : (Jvm.Cond.privateMethod ({ cls := "FrameSheets", name := "readsPage", desc := "()Z" } : Jvm.MethodName)) ∈ lw_tbl := lw_at lw_m3 167 rfl
theorem q752 : (Jvm.Cond.instanceMethod ({ cls := "FrameSheets", name := "readsPage", desc := "()Z" } : Jvm.MethodName)) ∈ lw_all := lw_g (lw_at lw_m3 168 rfl) rfl
theorem q753 : (Jvm.Cond.code ({ cls := "FrameSheets", name := "readsPage", desc := "()Z" } : Jvm.MethodName) prog_1_method_23_code (2 : Nat) (Option.some Jvm.ClassFile.FieldType.boolean)) ∈ lw_all := lw_g (lw_at lw_m3 169 rfl) rfl
theorem q754 : (Jvm.Cond.methodLink "FrameSheets" (195 : Nat) ({ cls := "FrameSheets", name := "readsNumber", desc := "(II)Z" } : Jvm.MethodName)) ∈ lw_all := lw_g (lw_at lw_m3 170 rfl) rfl
theorem q755 : (Jvm.Cond.privateMethod ({ cls := "FrameSheets", name := "readsNumber", desc := "(II)Z" } : Jvm.MethodName)) ∈ lw_tbl := lw_at lw_m3 171 rfl
theorem q756 : (Jvm.Cond.instanceMethod ({ cls := "FrameSheets", name := "readsNumber", desc := "(II)Z" } : Jvm.MethodName)) ∈ lw_all := lw_g (lw_at lw_m3 172 rfl) rfl
theorem q757 : (Jvm.Cond.code ({ cls := "FrameSheets", name := "readsNumber", desc := "(II)Z" } : Jvm.MethodName) prog_1_method_20_code (5 : Nat) (Option.some Jvm.ClassFile.FieldType.boolean)) ∈ lw_all := lw_g (lw_at lw_m3 173 rfl) rfl
theorem q758 : (Jvm.Cond.constant "FrameSheets" (176 : Nat) (1048576 : Int32)) ∈ lw_all := lw_g (lw_at lw_m3 174 rfl) rfl
theorem q759 : (Jvm.Cond.methodLink "FrameSheets" (177 : Nat) ({ cls := "java/lang/Math", name := "min", desc := "(II)I" } : Jvm.MethodName)) ∈ lw_all := lw_g (lw_at lw_m3 175 rfl) rfl
theorem q760 : (Jvm.Cond.methodLink "FrameSheets" (202 : Nat) ({ cls := "FrameSheets", name := "readsEnd", desc := "()Z" } : Jvm.MethodName)) ∈ lw_all := lw_g (lw_at lw_m3 176 rfl) rfl
theorem q761 : (Jvm.Cond.privateMethod ({ cls := "FrameSheets", name := "readsEnd", desc := "()Z" } : Jvm.MethodName)) ∈ lw_tbl := lw_at lw_m3 177 rfl
theorem q762 : (Jvm.Cond.instanceMethod ({ cls := "FrameSheets", name := "readsEnd", desc := "()Z" } : Jvm.MethodName)) ∈ lw_all := lw_g (lw_at lw_m3 178 rfl) rfl
theorem q763 : (Jvm.Cond.code ({ cls := "FrameSheets", name := "readsEnd", desc := "()Z" } : Jvm.MethodName) prog_1_method_21_code (1 : Nat) (Option.some Jvm.ClassFile.FieldType.boolean)) ∈ lw_all := lw_g (lw_at lw_m3 179 rfl) rfl
theorem q764 : (Jvm.Cond.methodLink "FrameSheets" (228 : Nat) ({ cls := "FrameSheets", name := "readsBleed", desc := "()Z" } : Jvm.MethodName)) ∈ lw_all := lw_g (lw_at lw_m3 180 rfl) rfl
theorem q765 : (Jvm.Cond.privateMethod ({ cls := "FrameSheets", name := "readsBleed", desc := "()Z" } : Jvm.MethodName)) ∈ lw_tbl := lw_at lw_m3 181 rfl
theorem q766 : (Jvm.Cond.instanceMethod ({ cls := "FrameSheets", name := "readsBleed", desc := "()Z" } : Jvm.MethodName)) ∈ lw_all := lw_g (lw_at lw_m3 182 rfl) rfl
theorem q767 : (Jvm.Cond.code ({ cls := "FrameSheets", name := "readsBleed", desc := "()Z" } : Jvm.MethodName) prog_1_method_24_code (2 : Nat) (Option.some Jvm.ClassFile.FieldType.boolean)) ∈ lw_all := lw_g (lw_at lw_m3 183 rfl) rfl
theorem q768 : (Jvm.Cond.methodLink "FrameSheets" (231 : Nat) ({ cls := "FrameSheets", name := "kindBy", desc := "(Ljava/lang/CharSequence;)I" } : Jvm.MethodName)) ∈ lw_all := lw_g (lw_at lw_m3 184 rfl) rfl
theorem q769 : (Jvm.Cond.static ({ cls := "FrameSheets", name := "kindBy", desc := "(Ljava/lang/CharSequence;)I" } : Jvm.MethodName)) ∈ lw_all := lw_g (lw_at lw_m3 185 rfl) rfl
theorem q770 : (Jvm.Cond.code ({ cls := "FrameSheets", name := "kindBy", desc := "(Ljava/lang/CharSequence;)I" } : Jvm.MethodName) prog_1_method_16_code (3 : Nat) (Option.some Jvm.ClassFile.FieldType.int)) ∈ lw_all := lw_g (lw_at lw_m3 186 rfl) rfl
theorem q771 : (Jvm.Cond.interfaceEntry "FrameSheets" (125 : Nat)) ∈ lw_tbl := lw_at lw_m3 187 rfl
theorem q772 : (Jvm.Cond.methodLink "FrameSheets" (125 : Nat) ({ cls := "java/lang/CharSequence", name := "toString", desc := "()Ljava/lang/String;" } : Jvm.MethodName)) ∈ lw_all := lw_g (lw_at lw_m3 188 rfl) rfl
theorem q785 : (Jvm.Cond.stringRef "FrameSheets" (137 : Nat) "frame") ∈ lw_tbl := lw_at lw_m3 201 rfl
theorem q786 : (Jvm.Cond.stringRef "FrameSheets" (143 : Nat) "icon") ∈ lw_tbl := lw_at lw_m3 202 rfl
theorem q787 : (Jvm.Cond.stringRef "FrameSheets" (145 : Nat) "border") ∈ lw_tbl := lw_at lw_m3 203 rfl
theorem q788 : (Jvm.Cond.stringRef "FrameSheets" (147 : Nat) "logo") ∈ lw_tbl := lw_at lw_m3 204 rfl
theorem q789 : (Jvm.Cond.methodLink "FrameSheets" (235 : Nat) ({ cls := "FrameSheets", name := "readsFrame", desc := "(I)Z" } : Jvm.MethodName)) ∈ lw_all := lw_g (lw_at lw_m3 205 rfl) rfl
theorem q790 : (Jvm.Cond.privateMethod ({ cls := "FrameSheets", name := "readsFrame", desc := "(I)Z" } : Jvm.MethodName)) ∈ lw_tbl := lw_at lw_m3 206 rfl
theorem q791 : (Jvm.Cond.instanceMethod ({ cls := "FrameSheets", name := "readsFrame", desc := "(I)Z" } : Jvm.MethodName)) ∈ lw_all := lw_g (lw_at lw_m3 207 rfl) rfl
theorem q792 : (Jvm.Cond.code ({ cls := "FrameSheets", name := "readsFrame", desc := "(I)Z" } : Jvm.MethodName) prog_1_method_25_code (4 : Nat) (Option.some Jvm.ClassFile.FieldType.boolean)) ∈ lw_all := lw_g (lw_at lw_m3 208 rfl) rfl
theorem q793 : (Jvm.Cond.methodLink "FrameSheets" (212 : Nat) ({ cls := "FrameSheets", name := "newFrame", desc := "(I[I)LFrameSheets$Frame;" } : Jvm.MethodName)) ∈ lw_all := lw_g (lw_at lw_m3 209 rfl) rfl
theorem q794 : (Jvm.Cond.static ({ cls := "FrameSheets", name := "newFrame", desc := "(I[I)LFrameSheets$Frame;" } : Jvm.MethodName)) ∈ lw_all := lw_g (lw_at lw_m3 210 rfl) rfl
theorem q795 : (Jvm.Cond.code ({ cls := "FrameSheets", name := "newFrame", desc := "(I[I)LFrameSheets$Frame;" } : Jvm.MethodName) prog_1_method_17_code (3 : Nat) (Option.some (Jvm.ClassFile.FieldType.object "FrameSheets$Frame"))) ∈ lw_all := lw_g (lw_at lw_m3 211 rfl) rfl
theorem q796 : (Jvm.Cond.classLink "FrameSheets" (149 : Nat) "FrameSheets$Icon") ∈ lw_all := lw_g (lw_at lw_m3 212 rfl) rfl
theorem q798 : (Jvm.Cond.methodLink "FrameSheets" (151 : Nat) ({ cls := "FrameSheets$Icon", name := "<init>", desc := "(II[I)V" } : Jvm.MethodName)) ∈ lw_all := lw_g (lw_at lw_m3 214 rfl) rfl
theorem q806 : (Jvm.Cond.fieldLinkNest "FrameSheets" (473 : Nat) "FrameSheets$Frame" "w" "I" "FrameSheets") ∈ lw_tbl := lw_at lw_m3 222 rfl
theorem q808 : (Jvm.Cond.fieldLinkNest "FrameSheets" (476 : Nat) "FrameSheets$Frame" "h" "I" "FrameSheets") ∈ lw_tbl := lw_at lw_m3 224 rfl
theorem q816 : (Jvm.Cond.fieldLinkNest "FrameSheets" (287 : Nat) "FrameSheets$Frame" "page" "I" "FrameSheets") ∈ lw_tbl := lw_at lw_m3 232 rfl
theorem q818 : (Jvm.Cond.fieldLinkNest "FrameSheets" (322 : Nat) "FrameSheets$Frame" "x" "I" "FrameSheets") ∈ lw_tbl := lw_at lw_m3 234 rfl
theorem q820 : (Jvm.Cond.fieldLinkNest "FrameSheets" (333 : Nat) "FrameSheets$Frame" "y" "I" "FrameSheets") ∈ lw_tbl := lw_at lw_m3 236 rfl
theorem q822 : (Jvm.Cond.fieldLinkNest "FrameSheets" (325 : Nat) "FrameSheets$Frame" "turned" "Z" "FrameSheets") ∈ lw_tbl := lw_at lw_m3 238 rfl
theorem q844 : (Jvm.Cond.classLink "FrameSheets" (154 : Nat) "FrameSheets$Border") ∈ lw_all := lw_g (lw_at lw_m4 20 rfl) rfl
theorem q846 : (Jvm.Cond.methodLink "FrameSheets" (156 : Nat) ({ cls := "FrameSheets$Border", name := "<init>", desc := "(II[I)V" } : Jvm.MethodName)) ∈ lw_all := lw_g (lw_at lw_m4 22 rfl) rfl
theorem q861 : (Jvm.Cond.classLink "FrameSheets" (157 : Nat) "FrameSheets$Logo") ∈ lw_all := lw_g (lw_at lw_m4 37 rfl) rfl
theorem q863 : (Jvm.Cond.methodLink "FrameSheets" (159 : Nat) ({ cls := "FrameSheets$Logo", name := "<init>", desc := "(II[I)V" } : Jvm.MethodName)) ∈ lw_all := lw_g (lw_at lw_m4 39 rfl) rfl
theorem q879 : (Jvm.Cond.methodLink "FrameSheets" (160 : Nat) ({ cls := "FrameSheets$Frame", name := "<init>", desc := "(II[I)V" } : Jvm.MethodName)) ∈ lw_all := lw_g (lw_at lw_m4 55 rfl) rfl
theorem q892 : (Jvm.Cond.instanceMethod ({ cls := "FrameSheets", name := "sheet", desc := "(I)I" } : Jvm.MethodName)) ∈ lw_all := lw_g (lw_at lw_m4 68 rfl) rfl
theorem q893 : (Jvm.Cond.selects "FrameSheets" ({ cls := "FrameSheets", name := "sheet", desc := "(I)I" } : Jvm.MethodName) ({ cls := "FrameSheets", name := "sheet", desc := "(I)I" } : Jvm.MethodName)) ∈ lw_all := lw_g (lw_at lw_m4 69 rfl) rfl
theorem q894 : (Jvm.Cond.code ({ cls := "FrameSheets", name := "sheet", desc := "(I)I" } : Jvm.MethodName) prog_1_method_29_code (3 : Nat) (Option.some Jvm.ClassFile.FieldType.int)) ∈ lw_all := lw_g (lw_at lw_m4 70 rfl) rfl
theorem q895 : (Jvm.Cond.methodLink "FrameSheets" (256 : Nat) ({ cls := "FrameSheets", name := "newRule", desc := "(I)LFrameSheets$Rule;" } : Jvm.MethodName)) ∈ lw_all := lw_g (lw_at lw_m4 71 rfl) rfl
theorem q896 : (Jvm.Cond.static ({ cls := "FrameSheets", name := "newRule", desc := "(I)LFrameSheets$Rule;" } : Jvm.MethodName)) ∈ lw_all := lw_g (lw_at lw_m4 72 rfl) rfl
theorem q897 : (Jvm.Cond.code ({ cls := "FrameSheets", name := "newRule", desc := "(I)LFrameSheets$Rule;" } : Jvm.MethodName) prog_1_method_15_code (1 : Nat) (Option.some (Jvm.ClassFile.FieldType.object "FrameSheets$Rule"))) ∈ lw_all := lw_g (lw_at lw_m4 73 rfl) rfl
theorem q898 : (Jvm.Cond.classLink "FrameSheets" (116 : Nat) "FrameSheets$Area") ∈ lw_all := lw_g (lw_at lw_m4 74 rfl) rfl
theorem q900 : (Jvm.Cond.methodLinkNest "FrameSheets" (118 : Nat) ({ cls := "FrameSheets$Area", name := "<init>", desc := "()V" } : Jvm.MethodName) "FrameSheets") ∈ lw_tbl := lw_at lw_m4 76 rfl
theorem q905 : (Jvm.Cond.classLink "FrameSheets" (119 : Nat) "FrameSheets$Lowest") ∈ lw_all := lw_g (lw_at lw_m4 81 rfl) rfl
theorem q907 : (Jvm.Cond.methodLinkNest "FrameSheets" (121 : Nat) ({ cls := "FrameSheets$Lowest", name := "<init>", desc := "()V" } : Jvm.MethodName) "FrameSheets") ∈ lw_tbl := lw_at lw_m4 83 rfl
theorem q912 : (Jvm.Cond.classLink "FrameSheets" (122 : Nat) "FrameSheets$Longest") ∈ lw_all := lw_g (lw_at lw_m4 88 rfl) rfl
theorem q914 : (Jvm.Cond.methodLinkNest "FrameSheets" (124 : Nat) ({ cls := "FrameSheets$Longest", name := "<init>", desc := "()V" } : Jvm.MethodName) "FrameSheets") ∈ lw_tbl := lw_at lw_m4 90 rfl
theorem q920 : (Jvm.Cond.instanceMethod ({ cls := "FrameSheets", name := "write", desc := "(I)I" } : Jvm.MethodName)) ∈ lw_all := lw_g (lw_at lw_m4 96 rfl) rfl
theorem q921 : (Jvm.Cond.selects "FrameSheets" ({ cls := "FrameSheets", name := "write", desc := "(I)I" } : Jvm.MethodName) ({ cls := "FrameSheets", name := "write", desc := "(I)I" } : Jvm.MethodName)) ∈ lw_all := lw_g (lw_at lw_m4 97 rfl) rfl
theorem q922 : (Jvm.Cond.code ({ cls := "FrameSheets", name := "write", desc := "(I)I" } : Jvm.MethodName) prog_1_method_30_code (5 : Nat) (Option.some Jvm.ClassFile.FieldType.int)) ∈ lw_all := lw_g (lw_at lw_m4 98 rfl) rfl
theorem q923 : (Jvm.Cond.stringRef "FrameSheets" (260 : Nat) "page ") ∈ lw_tbl := lw_at lw_m4 99 rfl
theorem q924 : (Jvm.Cond.methodLink "FrameSheets" (262 : Nat) ({ cls := "java/lang/StringBuilder", name := "append", desc := "(Ljava/lang/String;)Ljava/lang/StringBuilder;" } : Jvm.MethodName)) ∈ lw_all := lw_g (lw_at lw_m4 100 rfl) rfl
theorem q970 : (Jvm.Cond.methodLink "FrameSheets" (265 : Nat) ({ cls := "java/lang/StringBuilder", name := "append", desc := "(I)Ljava/lang/StringBuilder;" } : Jvm.MethodName)) ∈ lw_all := lw_g (lw_at lw_m4 146 rfl) rfl
theorem q995 : (Jvm.Cond.stringRef "FrameSheets" (268 : Nat) " ") ∈ lw_tbl := lw_at lw_m4 171 rfl
theorem q996 : (Jvm.Cond.stringRef "FrameSheets" (270 : Nat) ";") ∈ lw_tbl := lw_at lw_m4 172 rfl
theorem q997 : (Jvm.Cond.methodLink "FrameSheets" (272 : Nat) ({ cls := "java/lang/StringBuilder", name := "<init>", desc := "(Ljava/lang/String;)V" } : Jvm.MethodName)) ∈ lw_all := lw_g (lw_at lw_m4 173 rfl) rfl
theorem q1008 : (Jvm.Cond.stringRef "FrameSheets" (275 : Nat) "bleed ") ∈ lw_tbl := lw_at lw_m4 184 rfl
theorem q1009 : (Jvm.Cond.methodLink "FrameSheets" (277 : Nat) ({ cls := "FrameSheets$Frame", name := "written", desc := "()Ljava/lang/String;" } : Jvm.MethodName)) ∈ lw_all := lw_g (lw_at lw_m4 185 rfl) rfl
theorem q1040 : (Jvm.Cond.methodLink "FrameSheets" (280 : Nat) ({ cls := "java/lang/StringBuilder", name := "length", desc := "()I" } : Jvm.MethodName)) ∈ lw_all := lw_g (lw_at lw_m4 216 rfl) rfl
theorem q1041 : (Jvm.Cond.methodLink "FrameSheets" (283 : Nat) ({ cls := "java/lang/StringBuilder", name := "charAt", desc := "(I)C" } : Jvm.MethodName)) ∈ lw_all := lw_g (lw_at lw_m4 217 rfl) rfl
theorem q1052 : (Jvm.Cond.instanceMethod ({ cls := "FrameSheets", name := "frame", desc := "(II)I" } : Jvm.MethodName)) ∈ lw_all := lw_g (lw_at lw_m4 228 rfl) rfl
theorem q1053 : (Jvm.Cond.selects "FrameSheets" ({ cls := "FrameSheets", name := "frame", desc := "(II)I" } : Jvm.MethodName) ({ cls := "FrameSheets", name := "frame", desc := "(II)I" } : Jvm.MethodName)) ∈ lw_all := lw_g (lw_at lw_m4 229 rfl) rfl
theorem q1054 : (Jvm.Cond.code ({ cls := "FrameSheets", name := "frame", desc := "(II)I" } : Jvm.MethodName) prog_1_method_33_code (3 : Nat) (Option.some Jvm.ClassFile.FieldType.int)) ∈ lw_all := lw_g (lw_at lw_m4 230 rfl) rfl
theorem q1055 : (Jvm.Cond.methodLink "FrameSheets" (289 : Nat) ({ cls := "FrameSheets", name := "isFrame", desc := "(I)Z" } : Jvm.MethodName)) ∈ lw_all := lw_g (lw_at lw_m4 231 rfl) rfl
theorem q1056 : (Jvm.Cond.privateMethod ({ cls := "FrameSheets", name := "isFrame", desc := "(I)Z" } : Jvm.MethodName)) ∈ lw_tbl := lw_at lw_m4 232 rfl
theorem q1057 : (Jvm.Cond.instanceMethod ({ cls := "FrameSheets", name := "isFrame", desc := "(I)Z" } : Jvm.MethodName)) ∈ lw_all := lw_g (lw_at lw_m4 233 rfl) rfl
theorem q1058 : (Jvm.Cond.code ({ cls := "FrameSheets", name := "isFrame", desc := "(I)Z" } : Jvm.MethodName) prog_1_method_31_code (2 : Nat) (Option.some Jvm.ClassFile.FieldType.boolean)) ∈ lw_all := lw_g (lw_at lw_m4 234 rfl) rfl
theorem q1059 : (Jvm.Cond.methodLink "FrameSheets" (292 : Nat) ({ cls := "FrameSheets$Frame", name := "toldBy", desc := "(II)I" } : Jvm.MethodName)) ∈ lw_all := lw_g (lw_at lw_m4 235 rfl) rfl
theorem q1145 : (Jvm.Cond.instanceMethod ({ cls := "FrameSheets", name := "place", desc := "(II)I" } : Jvm.MethodName)) ∈ lw_all := lw_g (lw_at lw_m5 81 rfl) rfl
theorem q1146 : (Jvm.Cond.selects "FrameSheets" ({ cls := "FrameSheets", name := "place", desc := "(II)I" } : Jvm.MethodName) ({ cls := "FrameSheets", name := "place", desc := "(II)I" } : Jvm.MethodName)) ∈ lw_all := lw_g (lw_at lw_m5 82 rfl) rfl
theorem q1147 : (Jvm.Cond.code ({ cls := "FrameSheets", name := "place", desc := "(II)I" } : Jvm.MethodName) prog_1_method_34_code (3 : Nat) (Option.some Jvm.ClassFile.FieldType.int)) ∈ lw_all := lw_g (lw_at lw_m5 83 rfl) rfl
theorem q1148 : (Jvm.Cond.methodLink "FrameSheets" (295 : Nat) ({ cls := "FrameSheets", name := "isSet", desc := "(I)Z" } : Jvm.MethodName)) ∈ lw_all := lw_g (lw_at lw_m5 84 rfl) rfl
theorem q1149 : (Jvm.Cond.privateMethod ({ cls := "FrameSheets", name := "isSet", desc := "(I)Z" } : Jvm.MethodName)) ∈ lw_tbl := lw_at lw_m5 85 rfl
theorem q1150 : (Jvm.Cond.instanceMethod ({ cls := "FrameSheets", name := "isSet", desc := "(I)Z" } : Jvm.MethodName)) ∈ lw_all := lw_g (lw_at lw_m5 86 rfl) rfl
theorem q1151 : (Jvm.Cond.code ({ cls := "FrameSheets", name := "isSet", desc := "(I)Z" } : Jvm.MethodName) prog_1_method_32_code (2 : Nat) (Option.some Jvm.ClassFile.FieldType.boolean)) ∈ lw_all := lw_g (lw_at lw_m5 87 rfl) rfl
theorem q1152 : (Jvm.Cond.methodLink "FrameSheets" (298 : Nat) ({ cls := "FrameSheets$Frame", name := "placed", desc := "(I)I" } : Jvm.MethodName)) ∈ lw_all := lw_g (lw_at lw_m5 88 rfl) rfl
theorem q1161 : (Jvm.Cond.instanceMethod ({ cls := "FrameSheets", name := "mark", desc := "(II)I" } : Jvm.MethodName)) ∈ lw_all := lw_g (lw_at lw_m5 97 rfl) rfl
theorem q1162 : (Jvm.Cond.selects "FrameSheets" ({ cls := "FrameSheets", name := "mark", desc := "(II)I" } : Jvm.MethodName) ({ cls := "FrameSheets", name := "mark", desc := "(II)I" } : Jvm.MethodName)) ∈ lw_all := lw_g (lw_at lw_m5 98 rfl) rfl
theorem q1163 : (Jvm.Cond.codeWith ({ cls := "FrameSheets", name := "mark", desc := "(II)I" } : Jvm.MethodName) prog_1_method_35_code (5 : Nat) (Option.some Jvm.ClassFile.FieldType.int) [((26 : Nat), (83 : Nat), (84 : Nat), (310 : Nat))]) ∈ lw_all := lw_g (lw_at lw_m5 99 rfl) rfl
theorem q1164 : (Jvm.Cond.classLink "FrameSheets" (310 : Nat) "java/lang/ClassCastException") ∈ lw_all := lw_g (lw_at lw_m5 100 rfl) rfl
theorem q1178 : (Jvm.Cond.methodLink "FrameSheets" (301 : Nat) ({ cls := "FrameSheets$Icon", name := "longer", desc := "()I" } : Jvm.MethodName)) ∈ lw_all := lw_g (lw_at lw_m5 114 rfl) rfl
theorem q1196 : (Jvm.Cond.methodLink "FrameSheets" (304 : Nat) ({ cls := "FrameSheets$Border", name := "edges", desc := "(I)I" } : Jvm.MethodName)) ∈ lw_all := lw_g (lw_at lw_m5 132 rfl) rfl
theorem q1212 : (Jvm.Cond.methodLink "FrameSheets" (307 : Nat) ({ cls := "FrameSheets$Logo", name := "trims", desc := "()I" } : Jvm.MethodName)) ∈ lw_all := lw_g (lw_at lw_m5 148 rfl) rfl
theorem q1219 : (Jvm.Cond.instanceMethod ({ cls := "FrameSheets", name := "set", desc := "(I)I" } : Jvm.MethodName)) ∈ lw_all := lw_g (lw_at lw_m5 155 rfl) rfl
theorem q1220 : (Jvm.Cond.selects "FrameSheets" ({ cls := "FrameSheets", name := "set", desc := "(I)I" } : Jvm.MethodName) ({ cls := "FrameSheets", name := "set", desc := "(I)I" } : Jvm.MethodName)) ∈ lw_all := lw_g (lw_at lw_m5 156 rfl) rfl
theorem q1221 : (Jvm.Cond.code ({ cls := "FrameSheets", name := "set", desc := "(I)I" } : Jvm.MethodName) prog_1_method_52_code (3 : Nat) (Option.some Jvm.ClassFile.FieldType.int)) ∈ lw_all := lw_g (lw_at lw_m5 157 rfl) rfl
theorem q1222 : (Jvm.Cond.methodLink "FrameSheets" (413 : Nat) ({ cls := "FrameSheets", name := "sets", desc := "(LFrameSheets$Frame;)Z" } : Jvm.MethodName)) ∈ lw_all := lw_g (lw_at lw_m5 158 rfl) rfl
theorem q1223 : (Jvm.Cond.privateMethod ({ cls := "FrameSheets", name := "sets", desc := "(LFrameSheets$Frame;)Z" } : Jvm.MethodName)) ∈ lw_tbl := lw_at lw_m5 159 rfl
theorem q1224 : (Jvm.Cond.instanceMethod ({ cls := "FrameSheets", name := "sets", desc := "(LFrameSheets$Frame;)Z" } : Jvm.MethodName)) ∈ lw_all := lw_g (lw_at lw_m5 160 rfl) rfl
theorem q1225 : (Jvm.Cond.code ({ cls := "FrameSheets", name := "sets", desc := "(LFrameSheets$Frame;)Z" } : Jvm.MethodName) prog_1_method_48_code (4 : Nat) (Option.some Jvm.ClassFile.FieldType.boolean)) ∈ lw_all := lw_g (lw_at lw_m5 161 rfl) rfl
theorem q1226 : (Jvm.Cond.methodLink "FrameSheets" (399 : Nat) ({ cls := "FrameSheets", name := "pageMany", desc := "()I" } : Jvm.MethodName)) ∈ lw_all := lw_g (lw_at lw_m5 162 rfl) rfl
theorem q1227 : (Jvm.Cond.privateMethod ({ cls := "FrameSheets", name := "pageMany", desc := "()I" } : Jvm.MethodName)) ∈ lw_tbl := lw_at lw_m5 163 rfl
theorem q1228 : (Jvm.Cond.instanceMethod ({ cls := "FrameSheets", name := "pageMany", desc := "()I" } : Jvm.MethodName)) ∈ lw_all := lw_g (lw_at lw_m5 164 rfl) rfl
theorem q1229 : (Jvm.Cond.code ({ cls := "FrameSheets", name := "pageMany", desc := "()I" } : Jvm.MethodName) prog_1_method_44_code (3 : Nat) (Option.some Jvm.ClassFile.FieldType.int)) ∈ lw_all := lw_g (lw_at lw_m5 165 rfl) rfl
theorem q1230 : (Jvm.Cond.methodLink "FrameSheets" (356 : Nat) ({ cls := "java/lang/Math", name := "max", desc := "(II)I" } : Jvm.MethodName)) ∈ lw_all := lw_g (lw_at lw_m5 166 rfl) rfl
theorem q1231 : (Jvm.Cond.methodLink "FrameSheets" (402 : Nat) ({ cls := "FrameSheets", name := "setsOn", desc := "(LFrameSheets$Frame;I)Z" } : Jvm.MethodName)) ∈ lw_all := lw_g (lw_at lw_m5 167 rfl) rfl
theorem q1232 : (Jvm.Cond.privateMethod ({ cls := "FrameSheets", name := "setsOn", desc := "(LFrameSheets$Frame;I)Z" } : Jvm.MethodName)) ∈ lw_tbl := lw_at lw_m5 168 rfl
theorem q1233 : (Jvm.Cond.instanceMethod ({ cls := "FrameSheets", name := "setsOn", desc := "(LFrameSheets$Frame;I)Z" } : Jvm.MethodName)) ∈ lw_all := lw_g (lw_at lw_m5 169 rfl) rfl
theorem q1234 : (Jvm.Cond.code ({ cls := "FrameSheets", name := "setsOn", desc := "(LFrameSheets$Frame;I)Z" } : Jvm.MethodName) prog_1_method_47_code (4 : Nat) (Option.some Jvm.ClassFile.FieldType.boolean)) ∈ lw_all := lw_g (lw_at lw_m5 170 rfl) rfl
theorem q1235 : (Jvm.Cond.methodLink "FrameSheets" (391 : Nat) ({ cls := "FrameSheets", name := "setFree", desc := "(I)V" } : Jvm.MethodName)) ∈ lw_all := lw_g (lw_at lw_m5 171 rfl) rfl
theorem q1236 : (Jvm.Cond.privateMethod ({ cls := "FrameSheets", name := "setFree", desc := "(I)V" } : Jvm.MethodName)) ∈ lw_tbl := lw_at lw_m5 172 rfl
theorem q1237 : (Jvm.Cond.instanceMethod ({ cls := "FrameSheets", name := "setFree", desc := "(I)V" } : Jvm.MethodName)) ∈ lw_all := lw_g (lw_at lw_m5 173 rfl) rfl
theorem q1238 : (Jvm.Cond.code ({ cls := "FrameSheets", name := "setFree", desc := "(I)V" } : Jvm.MethodName) prog_1_method_43_code (3 : Nat) (Option.none : Option Jvm.ClassFile.FieldType)) ∈ lw_all := lw_g (lw_at lw_m5 174 rfl) rfl
theorem q1239 : (Jvm.Cond.methodLink "FrameSheets" (339 : Nat) ({ cls := "FrameSheets", name := "comesFree", desc := "(IIII)V" } : Jvm.MethodName)) ∈ lw_all := lw_g (lw_at lw_m5 175 rfl) rfl
theorem q1240 : (Jvm.Cond.privateMethod ({ cls := "FrameSheets", name := "comesFree", desc := "(IIII)V" } : Jvm.MethodName)) ∈ lw_tbl := lw_at lw_m5 176 rfl
theorem q1241 : (Jvm.Cond.instanceMethod ({ cls := "FrameSheets", name := "comesFree", desc := "(IIII)V" } : Jvm.MethodName)) ∈ lw_all := lw_g (lw_at lw_m5 177 rfl) rfl
theorem q1242 : (Jvm.Cond.code ({ cls := "FrameSheets", name := "comesFree", desc := "(IIII)V" } : Jvm.MethodName) prog_1_method_36_code (5 : Nat) (Option.none : Option Jvm.ClassFile.FieldType)) ∈ lw_all := lw_g (lw_at lw_m5 178 rfl) rfl
theorem q1243 : (Jvm.Cond.methodLink "FrameSheets" (349 : Nat) ({ cls := "FrameSheets", name := "cuts", desc := "(LFrameSheets$Frame;)V" } : Jvm.MethodName)) ∈ lw_all := lw_g (lw_at lw_m5 179 rfl) rfl
theorem q1244 : (Jvm.Cond.privateMethod ({ cls := "FrameSheets", name := "cuts", desc := "(LFrameSheets$Frame;)V" } : Jvm.MethodName)) ∈ lw_tbl := lw_at lw_m5 180 rfl
theorem q1245 : (Jvm.Cond.instanceMethod ({ cls := "FrameSheets", name := "cuts", desc := "(LFrameSheets$Frame;)V" } : Jvm.MethodName)) ∈ lw_all := lw_g (lw_at lw_m5 181 rfl) rfl
theorem q1246 : (Jvm.Cond.code ({ cls := "FrameSheets", name := "cuts", desc := "(LFrameSheets$Frame;)V" } : Jvm.MethodName) prog_1_method_40_code (11 : Nat) (Option.none : Option Jvm.ClassFile.FieldType)) ∈ lw_all := lw_g (lw_at lw_m5 182 rfl) rfl
theorem q1247 : (Jvm.Cond.methodLink "FrameSheets" (329 : Nat) ({ cls := "FrameSheets$Frame", name := "across", desc := "(IZ)I" } : Jvm.MethodName)) ∈ lw_all := lw_g (lw_at lw_m5 183 rfl) rfl
theorem q1248 : (Jvm.Cond.methodLink "FrameSheets" (336 : Nat) ({ cls := "FrameSheets$Frame", name := "down", desc := "(IZ)I" } : Jvm.MethodName)) ∈ lw_all := lw_g (lw_at lw_m5 184 rfl) rfl
theorem q1249 : (Jvm.Cond.methodLink "FrameSheets" (318 : Nat) ({ cls := "FrameSheets", name := "movesFree", desc := "(II)V" } : Jvm.MethodName)) ∈ lw_all := lw_g (lw_at lw_m5 185 rfl) rfl
theorem q1250 : (Jvm.Cond.privateMethod ({ cls := "FrameSheets", name := "movesFree", desc := "(II)V" } : Jvm.MethodName)) ∈ lw_tbl := lw_at lw_m5 186 rfl
theorem q1251 : (Jvm.Cond.instanceMethod ({ cls := "FrameSheets", name := "movesFree", desc := "(II)V" } : Jvm.MethodName)) ∈ lw_all := lw_g (lw_at lw_m5 187 rfl) rfl
theorem q1252 : (Jvm.Cond.code ({ cls := "FrameSheets", name := "movesFree", desc := "(II)V" } : Jvm.MethodName) prog_1_method_37_code (3 : Nat) (Option.none : Option Jvm.ClassFile.FieldType)) ∈ lw_all := lw_g (lw_at lw_m5 188 rfl) rfl
theorem q1253 : (Jvm.Cond.methodLink "FrameSheets" (343 : Nat) ({ cls := "FrameSheets", name := "prunes", desc := "()V" } : Jvm.MethodName)) ∈ lw_all := lw_g (lw_at lw_m5 189 rfl) rfl
theorem q1254 : (Jvm.Cond.privateMethod ({ cls := "FrameSheets", name := "prunes", desc := "()V" } : Jvm.MethodName)) ∈ lw_tbl := lw_at lw_m5 190 rfl
theorem q1255 : (Jvm.Cond.instanceMethod ({ cls := "FrameSheets", name := "prunes", desc := "()V" } : Jvm.MethodName)) ∈ lw_all := lw_g (lw_at lw_m5 191 rfl) rfl
theorem q1256 : (Jvm.Cond.code ({ cls := "FrameSheets", name := "prunes", desc := "()V" } : Jvm.MethodName) prog_1_method_39_code (6 : Nat) (Option.none : Option Jvm.ClassFile.FieldType)) ∈ lw_all := lw_g (lw_at lw_m5 192 rfl) rfl
theorem q1257 : (Jvm.Cond.methodLink "FrameSheets" (315 : Nat) ({ cls := "FrameSheets", name := "isWithin", desc := "(II)Z" } : Jvm.MethodName)) ∈ lw_all := lw_g (lw_at lw_m5 193 rfl) rfl
theorem q1258 : (Jvm.Cond.privateMethod ({ cls := "FrameSheets", name := "isWithin", desc := "(II)Z" } : Jvm.MethodName)) ∈ lw_tbl := lw_at lw_m5 194 rfl
theorem q1259 : (Jvm.Cond.instanceMethod ({ cls := "FrameSheets", name := "isWithin", desc := "(II)Z" } : Jvm.MethodName)) ∈ lw_all := lw_g (lw_at lw_m5 195 rfl) rfl
theorem q1260 : (Jvm.Cond.code ({ cls := "FrameSheets", name := "isWithin", desc := "(II)Z" } : Jvm.MethodName) prog_1_method_38_code (3 : Nat) (Option.some Jvm.ClassFile.FieldType.boolean)) ∈ lw_all := lw_g (lw_at lw_m5 196 rfl) rfl
theorem q1261 : (Jvm.Cond.methodLink "FrameSheets" (353 : Nat) ({ cls := "FrameSheets", name := "sorts", desc := "()V" } : Jvm.MethodName)) ∈ lw_all := lw_g (lw_at lw_m5 197 rfl) rfl
theorem q1262 : (Jvm.Cond.privateMethod ({ cls := "FrameSheets", name := "sorts", desc := "()V" } : Jvm.MethodName)) ∈ lw_tbl := lw_at lw_m5 198 rfl
theorem q1263 : (Jvm.Cond.instanceMethod ({ cls := "FrameSheets", name := "sorts", desc := "()V" } : Jvm.MethodName)) ∈ lw_all := lw_g (lw_at lw_m5 199 rfl) rfl
theorem q1264 : (Jvm.Cond.code ({ cls := "FrameSheets", name := "sorts", desc := "()V" } : Jvm.MethodName) prog_1_method_42_code (3 : Nat) (Option.none : Option Jvm.ClassFile.FieldType)) ∈ lw_all := lw_g (lw_at lw_m5 200 rfl) rfl
theorem q1265 : (Jvm.Cond.methodLink "FrameSheets" (346 : Nat) ({ cls := "FrameSheets", name := "isAhead", desc := "(II)Z" } : Jvm.MethodName)) ∈ lw_all := lw_g (lw_at lw_m5 201 rfl) rfl
theorem q1266 : (Jvm.Cond.privateMethod ({ cls := "FrameSheets", name := "isAhead", desc := "(II)Z" } : Jvm.MethodName)) ∈ lw_tbl := lw_at lw_m5 202 rfl
theorem q1267 : (Jvm.Cond.instanceMethod ({ cls := "FrameSheets", name := "isAhead", desc := "(II)Z" } : Jvm.MethodName)) ∈ lw_all := lw_g (lw_at lw_m5 203 rfl) rfl
theorem q1268 : (Jvm.Cond.code ({ cls := "FrameSheets", name := "isAhead", desc := "(II)Z" } : Jvm.MethodName) prog_1_method_41_code (3 : Nat) (Option.some Jvm.ClassFile.FieldType.boolean)) ∈ lw_all := lw_g (lw_at lw_m5 204 rfl) rfl
theorem q1269 : (Jvm.Cond.methodLink "FrameSheets" (395 : Nat) ({ cls := "FrameSheets", name := "tries", desc := "(LFrameSheets$Frame;IZ)V" } : Jvm.MethodName)) ∈ lw_all := lw_g (lw_at lw_m5 205 rfl) rfl
theorem q1270 : (Jvm.Cond.privateMethod ({ cls := "FrameSheets", name := "tries", desc := "(LFrameSheets$Frame;IZ)V" } : Jvm.MethodName)) ∈ lw_tbl := lw_at lw_m5 206 rfl
theorem q1271 : (Jvm.Cond.instanceMethod ({ cls := "FrameSheets", name := "tries", desc := "(LFrameSheets$Frame;IZ)V" } : Jvm.MethodName)) ∈ lw_all := lw_g (lw_at lw_m5 207 rfl) rfl
theorem q1272 : (Jvm.Cond.code ({ cls := "FrameSheets", name := "tries", desc := "(LFrameSheets$Frame;IZ)V" } : Jvm.MethodName) prog_1_method_46_code (9 : Nat) (Option.none : Option Jvm.ClassFile.FieldType)) ∈ lw_all := lw_g (lw_at lw_m5 208 rfl) rfl
theorem q1273 : (Jvm.Cond.methodLink "FrameSheets" (362 : Nat) ({ cls := "FrameSheets", name := "hasRoom", desc := "(LFrameSheets$Frame;IZ)Z" } : Jvm.MethodName)) ∈ lw_all := lw_g (lw_at lw_m5 209 rfl) rfl
theorem q1274 : (Jvm.Cond.privateMethod ({ cls := "FrameSheets", name := "hasRoom", desc := "(LFrameSheets$Frame;IZ)Z" } : Jvm.MethodName)) ∈ lw_tbl := lw_at lw_m5 210 rfl
theorem q1275 : (Jvm.Cond.instanceMethod ({ cls := "FrameSheets", name := "hasRoom", desc := "(LFrameSheets$Frame;IZ)Z" } : Jvm.MethodName)) ∈ lw_all := lw_g (lw_at lw_m5 211 rfl) rfl
theorem q1276 : (Jvm.Cond.code ({ cls := "FrameSheets", name := "hasRoom", desc := "(LFrameSheets$Frame;IZ)Z" } : Jvm.MethodName) prog_1_method_45_code (4 : Nat) (Option.some Jvm.ClassFile.FieldType.boolean)) ∈ lw_all := lw_g (lw_at lw_m5 212 rfl) rfl
theorem q1277 : (Jvm.Cond.methodLink "FrameSheets" (359 : Nat) ({ cls := "FrameSheets$Frame", name := "mayTurn", desc := "()Z" } : Jvm.MethodName)) ∈ lw_all := lw_g (lw_at lw_m5 213 rfl) rfl
theorem q1287 : (Jvm.Cond.methodLink "FrameSheets" (366 : Nat) ({ cls := "FrameSheets$Frame", name := "needs", desc := "(I)I" } : Jvm.MethodName)) ∈ lw_all := lw_g (lw_at lw_m5 223 rfl) rfl
theorem q1288 : (Jvm.Cond.interfaceEntry "FrameSheets" (369 : Nat)) ∈ lw_tbl := lw_at lw_m5 224 rfl
theorem q1289 : (Jvm.Cond.methodLink "FrameSheets" (369 : Nat) ({ cls := "FrameSheets$Rule", name := "first", desc := "(IIII)I" } : Jvm.MethodName)) ∈ lw_all := lw_g (lw_at lw_m5 225 rfl) rfl
theorem q1318 : (Jvm.Cond.interfaceEntry "FrameSheets" (375 : Nat)) ∈ lw_tbl := lw_at lw_m6 14 rfl
theorem q1319 : (Jvm.Cond.methodLink "FrameSheets" (375 : Nat) ({ cls := "FrameSheets$Rule", name := "second", desc := "(III)I" } : Jvm.MethodName)) ∈ lw_all := lw_g (lw_at lw_m6 15 rfl) rfl
theorem q1339 : (Jvm.Cond.methodLink "FrameSheets" (417 : Nat) ({ cls := "FrameSheets", name := "note", desc := "()V" } : Jvm.MethodName)) ∈ lw_all := lw_g (lw_at lw_m6 35 rfl) rfl
theorem q1340 : (Jvm.Cond.privateMethod ({ cls := "FrameSheets", name := "note", desc := "()V" } : Jvm.MethodName)) ∈ lw_tbl := lw_at lw_m6 36 rfl
theorem q1341 : (Jvm.Cond.instanceMethod ({ cls := "FrameSheets", name := "note", desc := "()V" } : Jvm.MethodName)) ∈ lw_all := lw_g (lw_at lw_m6 37 rfl) rfl
theorem q1342 : (Jvm.Cond.code ({ cls := "FrameSheets", name := "note", desc := "()V" } : Jvm.MethodName) prog_1_method_51_code (1 : Nat) (Option.none : Option Jvm.ClassFile.FieldType)) ∈ lw_all := lw_g (lw_at lw_m6 38 rfl) rfl
theorem q1343 : (Jvm.Cond.methodLink "FrameSheets" (409 : Nat) ({ cls := "FrameSheets", name := "write", desc := "([II)V" } : Jvm.MethodName)) ∈ lw_all := lw_g (lw_at lw_m6 39 rfl) rfl
theorem q1344 : (Jvm.Cond.privateMethod ({ cls := "FrameSheets", name := "write", desc := "([II)V" } : Jvm.MethodName)) ∈ lw_tbl := lw_at lw_m6 40 rfl
theorem q1345 : (Jvm.Cond.instanceMethod ({ cls := "FrameSheets", name := "write", desc := "([II)V" } : Jvm.MethodName)) ∈ lw_all := lw_g (lw_at lw_m6 41 rfl) rfl
theorem q1346 : (Jvm.Cond.code ({ cls := "FrameSheets", name := "write", desc := "([II)V" } : Jvm.MethodName) prog_1_method_49_code (5 : Nat) (Option.none : Option Jvm.ClassFile.FieldType)) ∈ lw_all := lw_g (lw_at lw_m6 42 rfl) rfl
theorem q1347 : (Jvm.Cond.interfaceEntry "FrameSheets" (406 : Nat)) ∈ lw_tbl := lw_at lw_m6 43 rfl
theorem q1348 : (Jvm.Cond.methodLink "FrameSheets" (406 : Nat) ({ cls := "FrameSheets$Rule", name := "number", desc := "()I" } : Jvm.MethodName)) ∈ lw_all := lw_g (lw_at lw_m6 44 rfl) rfl
theorem q1372 : (Jvm.Cond.instanceMethod ({ cls := "FrameSheets", name := "lift", desc := "(I)I" } : Jvm.MethodName)) ∈ lw_all := lw_g (lw_at lw_m6 68 rfl) rfl
theorem q1373 : (Jvm.Cond.selects "FrameSheets" ({ cls := "FrameSheets", name := "lift", desc := "(I)I" } : Jvm.MethodName) ({ cls := "FrameSheets", name := "lift", desc := "(I)I" } : Jvm.MethodName)) ∈ lw_all := lw_g (lw_at lw_m6 69 rfl) rfl
theorem q1374 : (Jvm.Cond.code ({ cls := "FrameSheets", name := "lift", desc := "(I)I" } : Jvm.MethodName) prog_1_method_54_code (2 : Nat) (Option.some Jvm.ClassFile.FieldType.int)) ∈ lw_all := lw_g (lw_at lw_m6 70 rfl) rfl
theorem q1375 : (Jvm.Cond.methodLink "FrameSheets" (420 : Nat) ({ cls := "FrameSheets", name := "lifts", desc := "(I)V" } : Jvm.MethodName)) ∈ lw_all := lw_g (lw_at lw_m6 71 rfl) rfl
theorem q1376 : (Jvm.Cond.privateMethod ({ cls := "FrameSheets", name := "lifts", desc := "(I)V" } : Jvm.MethodName)) ∈ lw_tbl := lw_at lw_m6 72 rfl
theorem q1377 : (Jvm.Cond.instanceMethod ({ cls := "FrameSheets", name := "lifts", desc := "(I)V" } : Jvm.MethodName)) ∈ lw_all := lw_g (lw_at lw_m6 73 rfl) rfl
theorem q1378 : (Jvm.Cond.code ({ cls := "FrameSheets", name := "lifts", desc := "(I)V" } : Jvm.MethodName) prog_1_method_53_code (2 : Nat) (Option.none : Option Jvm.ClassFile.FieldType)) ∈ lw_all := lw_g (lw_at lw_m6 74 rfl) rfl
theorem q1380 : (Jvm.Cond.instanceMethod ({ cls := "FrameSheets", name := "all", desc := "(I)I" } : Jvm.MethodName)) ∈ lw_all := lw_g (lw_at lw_m6 76 rfl) rfl
theorem q1381 : (Jvm.Cond.selects "FrameSheets" ({ cls := "FrameSheets", name := "all", desc := "(I)I" } : Jvm.MethodName) ({ cls := "FrameSheets", name := "all", desc := "(I)I" } : Jvm.MethodName)) ∈ lw_all := lw_g (lw_at lw_m6 77 rfl) rfl
theorem q1382 : (Jvm.Cond.code ({ cls := "FrameSheets", name := "all", desc := "(I)I" } : Jvm.MethodName) prog_1_method_57_code (2 : Nat) (Option.some Jvm.ClassFile.FieldType.int)) ∈ lw_all := lw_g (lw_at lw_m6 78 rfl) rfl
theorem q1383 : (Jvm.Cond.methodLink "FrameSheets" (429 : Nat) ({ cls := "FrameSheets", name := "setsAll", desc := "(I)I" } : Jvm.MethodName)) ∈ lw_all := lw_g (lw_at lw_m6 79 rfl) rfl
theorem q1384 : (Jvm.Cond.privateMethod ({ cls := "FrameSheets", name := "setsAll", desc := "(I)I" } : Jvm.MethodName)) ∈ lw_tbl := lw_at lw_m6 80 rfl
theorem q1385 : (Jvm.Cond.instanceMethod ({ cls := "FrameSheets", name := "setsAll", desc := "(I)I" } : Jvm.MethodName)) ∈ lw_all := lw_g (lw_at lw_m6 81 rfl) rfl
theorem q1386 : (Jvm.Cond.code ({ cls := "FrameSheets", name := "setsAll", desc := "(I)I" } : Jvm.MethodName) prog_1_method_56_code (7 : Nat) (Option.some Jvm.ClassFile.FieldType.int)) ∈ lw_all := lw_g (lw_at lw_m6 82 rfl) rfl
theorem q1387 : (Jvm.Cond.methodLink "FrameSheets" (426 : Nat) ({ cls := "FrameSheets", name := "keyOf", desc := "(II)I" } : Jvm.MethodName)) ∈ lw_all := lw_g (lw_at lw_m6 83 rfl) rfl
theorem q1388 : (Jvm.Cond.privateMethod ({ cls := "FrameSheets", name := "keyOf", desc := "(II)I" } : Jvm.MethodName)) ∈ lw_tbl := lw_at lw_m6 84 rfl
theorem q1389 : (Jvm.Cond.instanceMethod ({ cls := "FrameSheets", name := "keyOf", desc := "(II)I" } : Jvm.MethodName)) ∈ lw_all := lw_g (lw_at lw_m6 85 rfl) rfl
theorem q1390 : (Jvm.Cond.code ({ cls := "FrameSheets", name := "keyOf", desc := "(II)I" } : Jvm.MethodName) prog_1_method_55_code (5 : Nat) (Option.some Jvm.ClassFile.FieldType.int)) ∈ lw_all := lw_g (lw_at lw_m6 86 rfl) rfl
theorem q1391 : (Jvm.Cond.methodLink "FrameSheets" (423 : Nat) ({ cls := "FrameSheets$Rule", name := "greater", desc := "(II)I" } : Jvm.MethodName)) ∈ lw_all := lw_g (lw_at lw_m6 87 rfl) rfl
theorem q1393 : (Jvm.Cond.instanceMethod ({ cls := "FrameSheets", name := "rule", desc := "(I)I" } : Jvm.MethodName)) ∈ lw_all := lw_g (lw_at lw_m6 89 rfl) rfl
theorem q1394 : (Jvm.Cond.selects "FrameSheets" ({ cls := "FrameSheets", name := "rule", desc := "(I)I" } : Jvm.MethodName) ({ cls := "FrameSheets", name := "rule", desc := "(I)I" } : Jvm.MethodName)) ∈ lw_all := lw_g (lw_at lw_m6 90 rfl) rfl
theorem q1395 : (Jvm.Cond.code ({ cls := "FrameSheets", name := "rule", desc := "(I)I" } : Jvm.MethodName) prog_1_method_58_code (3 : Nat) (Option.some Jvm.ClassFile.FieldType.int)) ∈ lw_all := lw_g (lw_at lw_m6 91 rfl) rfl
theorem q1397 : (Jvm.Cond.instanceMethod ({ cls := "FrameSheets", name := "undo", desc := "(I)I" } : Jvm.MethodName)) ∈ lw_all := lw_g (lw_at lw_m6 93 rfl) rfl
theorem q1398 : (Jvm.Cond.selects "FrameSheets" ({ cls := "FrameSheets", name := "undo", desc := "(I)I" } : Jvm.MethodName) ({ cls := "FrameSheets", name := "undo", desc := "(I)I" } : Jvm.MethodName)) ∈ lw_all := lw_g (lw_at lw_m6 94 rfl) rfl
theorem q1399 : (Jvm.Cond.code ({ cls := "FrameSheets", name := "undo", desc := "(I)I" } : Jvm.MethodName) prog_1_method_59_code (3 : Nat) (Option.some Jvm.ClassFile.FieldType.int)) ∈ lw_all := lw_g (lw_at lw_m6 95 rfl) rfl
theorem q1400 : (Jvm.Cond.methodLink "FrameSheets" (432 : Nat) ({ cls := "FrameSheets", name := "readBack", desc := "([II)V" } : Jvm.MethodName)) ∈ lw_all := lw_g (lw_at lw_m6 96 rfl) rfl
theorem q1401 : (Jvm.Cond.privateMethod ({ cls := "FrameSheets", name := "readBack", desc := "([II)V" } : Jvm.MethodName)) ∈ lw_tbl := lw_at lw_m6 97 rfl
theorem q1402 : (Jvm.Cond.instanceMethod ({ cls := "FrameSheets", name := "readBack", desc := "([II)V" } : Jvm.MethodName)) ∈ lw_all := lw_g (lw_at lw_m6 98 rfl) rfl
theorem q1403 : (Jvm.Cond.code ({ cls := "FrameSheets", name := "readBack", desc := "([II)V" } : Jvm.MethodName) prog_1_method_50_code (4 : Nat) (Option.none : Option Jvm.ClassFile.FieldType)) ∈ lw_all := lw_g (lw_at lw_m6 99 rfl) rfl
theorem q1405 : (Jvm.Cond.instanceMethod ({ cls := "FrameSheets", name := "keep", desc := "(I)I" } : Jvm.MethodName)) ∈ lw_all := lw_g (lw_at lw_m6 101 rfl) rfl
theorem q1406 : (Jvm.Cond.selects "FrameSheets" ({ cls := "FrameSheets", name := "keep", desc := "(I)I" } : Jvm.MethodName) ({ cls := "FrameSheets", name := "keep", desc := "(I)I" } : Jvm.MethodName)) ∈ lw_all := lw_g (lw_at lw_m6 102 rfl) rfl
theorem q1407 : (Jvm.Cond.code ({ cls := "FrameSheets", name := "keep", desc := "(I)I" } : Jvm.MethodName) prog_1_method_61_code (3 : Nat) (Option.some Jvm.ClassFile.FieldType.int)) ∈ lw_all := lw_g (lw_at lw_m6 103 rfl) rfl
theorem q1408 : (Jvm.Cond.methodLink "FrameSheets" (435 : Nat) ({ cls := "FrameSheets", name := "isKept", desc := "(I)Z" } : Jvm.MethodName)) ∈ lw_all := lw_g (lw_at lw_m6 104 rfl) rfl
theorem q1409 : (Jvm.Cond.static ({ cls := "FrameSheets", name := "isKept", desc := "(I)Z" } : Jvm.MethodName)) ∈ lw_all := lw_g (lw_at lw_m6 105 rfl) rfl
theorem q1410 : (Jvm.Cond.code ({ cls := "FrameSheets", name := "isKept", desc := "(I)Z" } : Jvm.MethodName) prog_1_method_60_code (1 : Nat) (Option.some Jvm.ClassFile.FieldType.boolean)) ∈ lw_all := lw_g (lw_at lw_m6 106 rfl) rfl
theorem q1412 : (Jvm.Cond.methodLinkNest "FrameSheets" (438 : Nat) ({ cls := "FrameSheets$Kept", name := "<init>", desc := "()V" } : Jvm.MethodName) "FrameSheets") ∈ lw_tbl := lw_at lw_m6 108 rfl
theorem q1416 : (Jvm.Cond.fieldLinkNest "FrameSheets" (439 : Nat) "FrameSheets$Kept" "deeds" "I" "FrameSheets") ∈ lw_tbl := lw_at lw_m6 112 rfl
theorem q1418 : (Jvm.Cond.fieldLinkNest "FrameSheets" (442 : Nat) "FrameSheets$Kept" "notes" "[I" "FrameSheets") ∈ lw_tbl := lw_at lw_m6 114 rfl
theorem q1420 : (Jvm.Cond.fieldLinkNest "FrameSheets" (445 : Nat) "FrameSheets$Kept" "now" "[I" "FrameSheets") ∈ lw_tbl := lw_at lw_m6 116 rfl
theorem q1429 : (Jvm.Cond.instanceMethod ({ cls := "FrameSheets", name := "on", desc := "(I)I" } : Jvm.MethodName)) ∈ lw_all := lw_g (lw_at lw_m6 125 rfl) rfl
theorem q1430 : (Jvm.Cond.selects "FrameSheets" ({ cls := "FrameSheets", name := "on", desc := "(I)I" } : Jvm.MethodName) ({ cls := "FrameSheets", name := "on", desc := "(I)I" } : Jvm.MethodName)) ∈ lw_all := lw_g (lw_at lw_m6 126 rfl) rfl
theorem q1431 : (Jvm.Cond.code ({ cls := "FrameSheets", name := "on", desc := "(I)I" } : Jvm.MethodName) prog_1_method_62_code (3 : Nat) (Option.some Jvm.ClassFile.FieldType.int)) ∈ lw_all := lw_g (lw_at lw_m6 127 rfl) rfl
theorem q1433 : (Jvm.Cond.instanceMethod ({ cls := "FrameSheets", name := "free", desc := "(III)I" } : Jvm.MethodName)) ∈ lw_all := lw_g (lw_at lw_m6 129 rfl) rfl
theorem q1434 : (Jvm.Cond.selects "FrameSheets" ({ cls := "FrameSheets", name := "free", desc := "(III)I" } : Jvm.MethodName) ({ cls := "FrameSheets", name := "free", desc := "(III)I" } : Jvm.MethodName)) ∈ lw_all := lw_g (lw_at lw_m6 130 rfl) rfl
theorem q1435 : (Jvm.Cond.code ({ cls := "FrameSheets", name := "free", desc := "(III)I" } : Jvm.MethodName) prog_1_method_65_code (4 : Nat) (Option.some Jvm.ClassFile.FieldType.int)) ∈ lw_all := lw_g (lw_at lw_m6 131 rfl) rfl
theorem q1436 : (Jvm.Cond.methodLink "FrameSheets" (448 : Nat) ({ cls := "FrameSheets", name := "isPage", desc := "(I)Z" } : Jvm.MethodName)) ∈ lw_all := lw_g (lw_at lw_m6 132 rfl) rfl
theorem q1437 : (Jvm.Cond.privateMethod ({ cls := "FrameSheets", name := "isPage", desc := "(I)Z" } : Jvm.MethodName)) ∈ lw_tbl := lw_at lw_m6 133 rfl
theorem q1438 : (Jvm.Cond.instanceMethod ({ cls := "FrameSheets", name := "isPage", desc := "(I)Z" } : Jvm.MethodName)) ∈ lw_all := lw_g (lw_at lw_m6 134 rfl) rfl
theorem q1439 : (Jvm.Cond.code ({ cls := "FrameSheets", name := "isPage", desc := "(I)Z" } : Jvm.MethodName) prog_1_method_63_code (2 : Nat) (Option.some Jvm.ClassFile.FieldType.boolean)) ∈ lw_all := lw_g (lw_at lw_m6 135 rfl) rfl
theorem q1440 : (Jvm.Cond.methodLink "FrameSheets" (451 : Nat) ({ cls := "FrameSheets", name := "freeTells", desc := "(II)I" } : Jvm.MethodName)) ∈ lw_all := lw_g (lw_at lw_m6 136 rfl) rfl
theorem q1441 : (Jvm.Cond.privateMethod ({ cls := "FrameSheets", name := "freeTells", desc := "(II)I" } : Jvm.MethodName)) ∈ lw_tbl := lw_at lw_m6 137 rfl
theorem q1442 : (Jvm.Cond.instanceMethod ({ cls := "FrameSheets", name := "freeTells", desc := "(II)I" } : Jvm.MethodName)) ∈ lw_all := lw_g (lw_at lw_m6 138 rfl) rfl
theorem q1443 : (Jvm.Cond.code ({ cls := "FrameSheets", name := "freeTells", desc := "(II)I" } : Jvm.MethodName) prog_1_method_64_code (3 : Nat) (Option.some Jvm.ClassFile.FieldType.int)) ∈ lw_all := lw_g (lw_at lw_m6 139 rfl) rfl
theorem q1445 : (Jvm.Cond.instanceMethod ({ cls := "FrameSheets", name := "seen", desc := "(III)I" } : Jvm.MethodName)) ∈ lw_all := lw_g (lw_at lw_m6 141 rfl) rfl
theorem q1446 : (Jvm.Cond.selects "FrameSheets" ({ cls := "FrameSheets", name := "seen", desc := "(III)I" } : Jvm.MethodName) ({ cls := "FrameSheets", name := "seen", desc := "(III)I" } : Jvm.MethodName)) ∈ lw_all := lw_g (lw_at lw_m6 142 rfl) rfl
theorem q1447 : (Jvm.Cond.code ({ cls := "FrameSheets", name := "seen", desc := "(III)I" } : Jvm.MethodName) prog_1_method_67_code (10 : Nat) (Option.some Jvm.ClassFile.FieldType.int)) ∈ lw_all := lw_g (lw_at lw_m6 143 rfl) rfl
theorem q1448 : (Jvm.Cond.methodLink "FrameSheets" (454 : Nat) ({ cls := "FrameSheets$Frame", name := "takes", desc := "(III)Z" } : Jvm.MethodName)) ∈ lw_all := lw_g (lw_at lw_m6 144 rfl) rfl
theorem q1457 : (Jvm.Cond.methodLink "FrameSheets" (457 : Nat) ({ cls := "FrameSheets$Frame", name := "edge", desc := "(I)I" } : Jvm.MethodName)) ∈ lw_all := lw_g (lw_at lw_m6 153 rfl) rfl
theorem q1458 : (Jvm.Cond.methodLink "FrameSheets" (460 : Nat) ({ cls := "FrameSheets$Frame", name := "wide", desc := "()I" } : Jvm.MethodName)) ∈ lw_all := lw_g (lw_at lw_m6 154 rfl) rfl
theorem q1459 : (Jvm.Cond.methodLink "FrameSheets" (462 : Nat) ({ cls := "FrameSheets", name := "nearest", desc := "(II)I" } : Jvm.MethodName)) ∈ lw_all := lw_g (lw_at lw_m6 155 rfl) rfl
theorem q1460 : (Jvm.Cond.static ({ cls := "FrameSheets", name := "nearest", desc := "(II)I" } : Jvm.MethodName)) ∈ lw_all := lw_g (lw_at lw_m6 156 rfl) rfl
theorem q1461 : (Jvm.Cond.code ({ cls := "FrameSheets", name := "nearest", desc := "(II)I" } : Jvm.MethodName) prog_1_method_66_code (2 : Nat) (Option.some Jvm.ClassFile.FieldType.int)) ∈ lw_all := lw_g (lw_at lw_m6 157 rfl) rfl
theorem q1462 : (Jvm.Cond.methodLink "FrameSheets" (465 : Nat) ({ cls := "FrameSheets$Frame", name := "high", desc := "()I" } : Jvm.MethodName)) ∈ lw_all := lw_g (lw_at lw_m6 158 rfl) rfl
theorem q1463 : (Jvm.Cond.methodLink "FrameSheets" (467 : Nat) ({ cls := "FrameSheets$Frame", name := "firstColumn", desc := "()I" } : Jvm.MethodName)) ∈ lw_all := lw_g (lw_at lw_m6 159 rfl) rfl
theorem q1466 : (Jvm.Cond.methodLink "FrameSheets" (470 : Nat) ({ cls := "FrameSheets$Frame", name := "firstRow", desc := "()I" } : Jvm.MethodName)) ∈ lw_all := lw_g (lw_at lw_m6 162 rfl) rfl
theorem q1470 : (Jvm.Cond.instanceMethod ({ cls := "FrameSheets", name := "point", desc := "(III)I" } : Jvm.MethodName)) ∈ lw_all := lw_g (lw_at lw_m6 166 rfl) rfl
theorem q1471 : (Jvm.Cond.selects "FrameSheets" ({ cls := "FrameSheets", name := "point", desc := "(III)I" } : Jvm.MethodName) ({ cls := "FrameSheets", name := "point", desc := "(III)I" } : Jvm.MethodName)) ∈ lw_all := lw_g (lw_at lw_m6 167 rfl) rfl
theorem q1472 : (Jvm.Cond.code ({ cls := "FrameSheets", name := "point", desc := "(III)I" } : Jvm.MethodName) prog_1_method_68_code (9 : Nat) (Option.some Jvm.ClassFile.FieldType.int)) ∈ lw_all := lw_g (lw_at lw_m6 168 rfl) rfl
theorem q1474 : (Jvm.Cond.instanceMethod ({ cls := "FrameSheets", name := "used", desc := "(I)I" } : Jvm.MethodName)) ∈ lw_all := lw_g (lw_at lw_m6 170 rfl) rfl
theorem q1475 : (Jvm.Cond.selects "FrameSheets" ({ cls := "FrameSheets", name := "used", desc := "(I)I" } : Jvm.MethodName) ({ cls := "FrameSheets", name := "used", desc := "(I)I" } : Jvm.MethodName)) ∈ lw_all := lw_g (lw_at lw_m6 171 rfl) rfl
theorem q1476 : (Jvm.Cond.code ({ cls := "FrameSheets", name := "used", desc := "(I)I" } : Jvm.MethodName) prog_1_method_70_code (3 : Nat) (Option.some Jvm.ClassFile.FieldType.int)) ∈ lw_all := lw_g (lw_at lw_m6 172 rfl) rfl
theorem q1477 : (Jvm.Cond.methodLink "FrameSheets" (479 : Nat) ({ cls := "FrameSheets", name := "usedOf", desc := "(I)I" } : Jvm.MethodName)) ∈ lw_all := lw_g (lw_at lw_m6 173 rfl) rfl
theorem q1478 : (Jvm.Cond.privateMethod ({ cls := "FrameSheets", name := "usedOf", desc := "(I)I" } : Jvm.MethodName)) ∈ lw_tbl := lw_at lw_m6 174 rfl
theorem q1479 : (Jvm.Cond.instanceMethod ({ cls := "FrameSheets", name := "usedOf", desc := "(I)I" } : Jvm.MethodName)) ∈ lw_all := lw_g (lw_at lw_m6 175 rfl) rfl
theorem q1480 : (Jvm.Cond.code ({ cls := "FrameSheets", name := "usedOf", desc := "(I)I" } : Jvm.MethodName) prog_1_method_69_code (4 : Nat) (Option.some Jvm.ClassFile.FieldType.int)) ∈ lw_all := lw_g (lw_at lw_m6 176 rfl) rfl
theorem q1482 : (Jvm.Cond.instanceMethod ({ cls := "FrameSheets", name := "takes", desc := "(I)I" } : Jvm.MethodName)) ∈ lw_all := lw_g (lw_at lw_m6 178 rfl) rfl
theorem q1483 : (Jvm.Cond.selects "FrameSheets" ({ cls := "FrameSheets", name := "takes", desc := "(I)I" } : Jvm.MethodName) ({ cls := "FrameSheets", name := "takes", desc := "(I)I" } : Jvm.MethodName)) ∈ lw_all := lw_g (lw_at lw_m6 179 rfl) rfl
theorem q1484 : (Jvm.Cond.code ({ cls := "FrameSheets", name := "takes", desc := "(I)I" } : Jvm.MethodName) prog_1_method_71_code (6 : Nat) (Option.some Jvm.ClassFile.FieldType.int)) ∈ lw_all := lw_g (lw_at lw_m6 180 rfl) rfl
theorem q1486 : (Jvm.Cond.instanceMethod ({ cls := "FrameSheets", name := "would", desc := "(II)I" } : Jvm.MethodName)) ∈ lw_all := lw_g (lw_at lw_m6 182 rfl) rfl
theorem q1487 : (Jvm.Cond.selects "FrameSheets" ({ cls := "FrameSheets", name := "would", desc := "(II)I" } : Jvm.MethodName) ({ cls := "FrameSheets", name := "would", desc := "(II)I" } : Jvm.MethodName)) ∈ lw_all := lw_g (lw_at lw_m6 183 rfl) rfl
theorem q1488 : (Jvm.Cond.code ({ cls := "FrameSheets", name := "would", desc := "(II)I" } : Jvm.MethodName) prog_1_method_73_code (3 : Nat) (Option.some Jvm.ClassFile.FieldType.int)) ∈ lw_all := lw_g (lw_at lw_m6 184 rfl) rfl
theorem q1489 : (Jvm.Cond.methodLink "FrameSheets" (491 : Nat) ({ cls := "FrameSheets", name := "tries", desc := "(II)V" } : Jvm.MethodName)) ∈ lw_all := lw_g (lw_at lw_m6 185 rfl) rfl
theorem q1490 : (Jvm.Cond.privateMethod ({ cls := "FrameSheets", name := "tries", desc := "(II)V" } : Jvm.MethodName)) ∈ lw_tbl := lw_at lw_m6 186 rfl
theorem q1491 : (Jvm.Cond.instanceMethod ({ cls := "FrameSheets", name := "tries", desc := "(II)V" } : Jvm.MethodName)) ∈ lw_all := lw_g (lw_at lw_m6 187 rfl) rfl
theorem q1492 : (Jvm.Cond.code ({ cls := "FrameSheets", name := "tries", desc := "(II)V" } : Jvm.MethodName) prog_1_method_72_code (3 : Nat) (Option.none : Option Jvm.ClassFile.FieldType)) ∈ lw_all := lw_g (lw_at lw_m6 188 rfl) rfl
theorem q1494 : (Jvm.Cond.instanceMethod ({ cls := "FrameSheets", name := "best", desc := "()I" } : Jvm.MethodName)) ∈ lw_all := lw_g (lw_at lw_m6 190 rfl) rfl
theorem q1495 : (Jvm.Cond.selects "FrameSheets" ({ cls := "FrameSheets", name := "best", desc := "()I" } : Jvm.MethodName) ({ cls := "FrameSheets", name := "best", desc := "()I" } : Jvm.MethodName)) ∈ lw_all := lw_g (lw_at lw_m6 191 rfl) rfl
theorem q1496 : (Jvm.Cond.code ({ cls := "FrameSheets", name := "best", desc := "()I" } : Jvm.MethodName) prog_1_method_74_code (7 : Nat) (Option.some Jvm.ClassFile.FieldType.int)) ∈ lw_all := lw_g (lw_at lw_m6 192 rfl) rfl
theorem q1497 : (Jvm.Cond.methodLink "FrameSheets" (493 : Nat) ({ cls := "java/lang/Integer", name := "bitCount", desc := "(I)I" } : Jvm.MethodName)) ∈ lw_all := lw_g (lw_at lw_m6 193 rfl) rfl
theorem q1504 : (Jvm.Cond.instanceMethod ({ cls := "FrameSheets", name := "lots", desc := "(II)I" } : Jvm.MethodName)) ∈ lw_all := lw_g (lw_at lw_m6 200 rfl) rfl
theorem q1505 : (Jvm.Cond.selects "FrameSheets" ({ cls := "FrameSheets", name := "lots", desc := "(II)I" } : Jvm.MethodName) ({ cls := "FrameSheets", name := "lots", desc := "(II)I" } : Jvm.MethodName)) ∈ lw_all := lw_g (lw_at lw_m6 201 rfl) rfl
theorem q1506 : (Jvm.Cond.code ({ cls := "FrameSheets", name := "lots", desc := "(II)I" } : Jvm.MethodName) prog_1_method_77_code (6 : Nat) (Option.some Jvm.ClassFile.FieldType.int)) ∈ lw_all := lw_g (lw_at lw_m6 202 rfl) rfl
theorem q1507 : (Jvm.Cond.constant "FrameSheets" (498 : Nat) (2147483646 : Int32)) ∈ lw_all := lw_g (lw_at lw_m6 203 rfl) rfl
theorem q1508 : (Jvm.Cond.constantLong "FrameSheets" (499 : Nat) (48271 : Int64)) ∈ lw_all := lw_g (lw_at lw_m6 204 rfl) rfl
theorem q1509 : (Jvm.Cond.constantLong "FrameSheets" (501 : Nat) (2147483647 : Int64)) ∈ lw_all := lw_g (lw_at lw_m6 205 rfl) rfl
theorem q1510 : (Jvm.Cond.constantLong "FrameSheets" (503 : Nat) (8 : Int64)) ∈ lw_all := lw_g (lw_at lw_m6 206 rfl) rfl
theorem q1511 : (Jvm.Cond.constantLong "FrameSheets" (505 : Nat) (64 : Int64)) ∈ lw_all := lw_g (lw_at lw_m6 207 rfl) rfl
theorem q1512 : (Jvm.Cond.constantLong "FrameSheets" (507 : Nat) (4 : Int64)) ∈ lw_all := lw_g (lw_at lw_m6 208 rfl) rfl
theorem q1513 : (Jvm.Cond.methodLink "FrameSheets" (509 : Nat) ({ cls := "FrameSheets", name := "drawn", desc := "(III)V" } : Jvm.MethodName)) ∈ lw_all := lw_g (lw_at lw_m6 209 rfl) rfl
theorem q1514 : (Jvm.Cond.privateMethod ({ cls := "FrameSheets", name := "drawn", desc := "(III)V" } : Jvm.MethodName)) ∈ lw_tbl := lw_at lw_m6 210 rfl
theorem q1515 : (Jvm.Cond.instanceMethod ({ cls := "FrameSheets", name := "drawn", desc := "(III)V" } : Jvm.MethodName)) ∈ lw_all := lw_g (lw_at lw_m6 211 rfl) rfl
theorem q1516 : (Jvm.Cond.code ({ cls := "FrameSheets", name := "drawn", desc := "(III)V" } : Jvm.MethodName) prog_1_method_75_code (4 : Nat) (Option.none : Option Jvm.ClassFile.FieldType)) ∈ lw_all := lw_g (lw_at lw_m6 212 rfl) rfl
theorem q1517 : (Jvm.Cond.methodLink "FrameSheets" (513 : Nat) ({ cls := "FrameSheets", name := "setMany", desc := "()I" } : Jvm.MethodName)) ∈ lw_all := lw_g (lw_at lw_m6 213 rfl) rfl
theorem q1518 : (Jvm.Cond.privateMethod ({ cls := "FrameSheets", name := "setMany", desc := "()I" } : Jvm.MethodName)) ∈ lw_tbl := lw_at lw_m6 214 rfl
theorem q1519 : (Jvm.Cond.instanceMethod ({ cls := "FrameSheets", name := "setMany", desc := "()I" } : Jvm.MethodName)) ∈ lw_all := lw_g (lw_at lw_m6 215 rfl) rfl
theorem q1520 : (Jvm.Cond.code ({ cls := "FrameSheets", name := "setMany", desc := "()I" } : Jvm.MethodName) prog_1_method_76_code (3 : Nat) (Option.some Jvm.ClassFile.FieldType.int)) ∈ lw_all := lw_g (lw_at lw_m6 216 rfl) rfl
theorem q1522 : (Jvm.Cond.instanceMethod ({ cls := "FrameSheets", name := "asked", desc := "()I" } : Jvm.MethodName)) ∈ lw_all := lw_g (lw_at lw_m6 218 rfl) rfl
theorem q1523 : (Jvm.Cond.selects "FrameSheets" ({ cls := "FrameSheets", name := "asked", desc := "()I" } : Jvm.MethodName) ({ cls := "FrameSheets", name := "asked", desc := "()I" } : Jvm.MethodName)) ∈ lw_all := lw_g (lw_at lw_m6 219 rfl) rfl
theorem q1524 : (Jvm.Cond.code ({ cls := "FrameSheets", name := "asked", desc := "()I" } : Jvm.MethodName) prog_1_method_78_code (1 : Nat) (Option.some Jvm.ClassFile.FieldType.int)) ∈ lw_all := lw_g (lw_at lw_m6 220 rfl) rfl
theorem q1526 : (Jvm.Cond.instanceMethod ({ cls := "FrameSheets", name := "count", desc := "(I)I" } : Jvm.MethodName)) ∈ lw_all := lw_g (lw_at lw_m6 222 rfl) rfl
theorem q1527 : (Jvm.Cond.selects "FrameSheets" ({ cls := "FrameSheets", name := "count", desc := "(I)I" } : Jvm.MethodName) ({ cls := "FrameSheets", name := "count", desc := "(I)I" } : Jvm.MethodName)) ∈ lw_all := lw_g (lw_at lw_m6 223 rfl) rfl
theorem q1528 : (Jvm.Cond.code ({ cls := "FrameSheets", name := "count", desc := "(I)I" } : Jvm.MethodName) prog_1_method_84_code (2 : Nat) (Option.some Jvm.ClassFile.FieldType.int)) ∈ lw_all := lw_g (lw_at lw_m6 224 rfl) rfl
theorem q1529 : (Jvm.Cond.methodLink "FrameSheets" (528 : Nat) ({ cls := "FrameSheets", name := "countOf", desc := "(I)I" } : Jvm.MethodName)) ∈ lw_all := lw_g (lw_at lw_m6 225 rfl) rfl
theorem q1530 : (Jvm.Cond.privateMethod ({ cls := "FrameSheets", name := "countOf", desc := "(I)I" } : Jvm.MethodName)) ∈ lw_tbl := lw_at lw_m6 226 rfl
theorem q1531 : (Jvm.Cond.instanceMethod ({ cls := "FrameSheets", name := "countOf", desc := "(I)I" } : Jvm.MethodName)) ∈ lw_all := lw_g (lw_at lw_m6 227 rfl) rfl
theorem q1532 : (Jvm.Cond.code ({ cls := "FrameSheets", name := "countOf", desc := "(I)I" } : Jvm.MethodName) prog_1_method_83_code (2 : Nat) (Option.some Jvm.ClassFile.FieldType.int)) ∈ lw_all := lw_g (lw_at lw_m6 228 rfl) rfl
theorem q1533 : (Jvm.Cond.methodLink "FrameSheets" (516 : Nat) ({ cls := "FrameSheets", name := "usedAll", desc := "()I" } : Jvm.MethodName)) ∈ lw_all := lw_g (lw_at lw_m6 229 rfl) rfl
theorem q1534 : (Jvm.Cond.privateMethod ({ cls := "FrameSheets", name := "usedAll", desc := "()I" } : Jvm.MethodName)) ∈ lw_tbl := lw_at lw_m6 230 rfl
theorem q1535 : (Jvm.Cond.instanceMethod ({ cls := "FrameSheets", name := "usedAll", desc := "()I" } : Jvm.MethodName)) ∈ lw_all := lw_g (lw_at lw_m6 231 rfl) rfl
theorem q1536 : (Jvm.Cond.code ({ cls := "FrameSheets", name := "usedAll", desc := "()I" } : Jvm.MethodName) prog_1_method_79_code (3 : Nat) (Option.some Jvm.ClassFile.FieldType.int)) ∈ lw_all := lw_g (lw_at lw_m6 232 rfl) rfl
theorem q1537 : (Jvm.Cond.methodLink "FrameSheets" (519 : Nat) ({ cls := "FrameSheets", name := "freeAll", desc := "()I" } : Jvm.MethodName)) ∈ lw_all := lw_g (lw_at lw_m6 233 rfl) rfl
theorem q1538 : (Jvm.Cond.privateMethod ({ cls := "FrameSheets", name := "freeAll", desc := "()I" } : Jvm.MethodName)) ∈ lw_tbl := lw_at lw_m6 234 rfl
theorem q1539 : (Jvm.Cond.instanceMethod ({ cls := "FrameSheets", name := "freeAll", desc := "()I" } : Jvm.MethodName)) ∈ lw_all := lw_g (lw_at lw_m6 235 rfl) rfl
theorem q1540 : (Jvm.Cond.code ({ cls := "FrameSheets", name := "freeAll", desc := "()I" } : Jvm.MethodName) prog_1_method_80_code (3 : Nat) (Option.some Jvm.ClassFile.FieldType.int)) ∈ lw_all := lw_g (lw_at lw_m6 236 rfl) rfl
theorem q1541 : (Jvm.Cond.methodLink "FrameSheets" (522 : Nat) ({ cls := "FrameSheets", name := "turnedMany", desc := "()I" } : Jvm.MethodName)) ∈ lw_all := lw_g (lw_at lw_m6 237 rfl) rfl
theorem q1542 : (Jvm.Cond.privateMethod ({ cls := "FrameSheets", name := "turnedMany", desc := "()I" } : Jvm.MethodName)) ∈ lw_tbl := lw_at lw_m6 238 rfl
theorem q1543 : (Jvm.Cond.instanceMethod ({ cls := "FrameSheets", name := "turnedMany", desc := "()I" } : Jvm.MethodName)) ∈ lw_all := lw_g (lw_at lw_m6 239 rfl) rfl
theorem q1544 : (Jvm.Cond.code ({ cls := "FrameSheets", name := "turnedMany", desc := "()I" } : Jvm.MethodName) prog_1_method_81_code (3 : Nat) (Option.some Jvm.ClassFile.FieldType.int)) ∈ lw_all := lw_g (lw_at lw_m7 0 rfl) rfl
theorem q1545 : (Jvm.Cond.methodLink "FrameSheets" (525 : Nat) ({ cls := "FrameSheets", name := "thereOf", desc := "(I)I" } : Jvm.MethodName)) ∈ lw_all := lw_g (lw_at lw_m7 1 rfl) rfl
theorem q1546 : (Jvm.Cond.privateMethod ({ cls := "FrameSheets", name := "thereOf", desc := "(I)I" } : Jvm.MethodName)) ∈ lw_tbl := lw_at lw_m7 2 rfl
theorem q1547 : (Jvm.Cond.instanceMethod ({ cls := "FrameSheets", name := "thereOf", desc := "(I)I" } : Jvm.MethodName)) ∈ lw_all := lw_g (lw_at lw_m7 3 rfl) rfl
theorem q1548 : (Jvm.Cond.code ({ cls := "FrameSheets", name := "thereOf", desc := "(I)I" } : Jvm.MethodName) prog_1_method_82_code (4 : Nat) (Option.some Jvm.ClassFile.FieldType.int)) ∈ lw_all := lw_g (lw_at lw_m7 4 rfl) rfl
theorem q1550 : (Jvm.Cond.instanceMethod ({ cls := "FrameSheets", name := "finding", desc := "()I" } : Jvm.MethodName)) ∈ lw_all := lw_g (lw_at lw_m7 6 rfl) rfl
theorem q1551 : (Jvm.Cond.selects "FrameSheets" ({ cls := "FrameSheets", name := "finding", desc := "()I" } : Jvm.MethodName) ({ cls := "FrameSheets", name := "finding", desc := "()I" } : Jvm.MethodName)) ∈ lw_all := lw_g (lw_at lw_m7 7 rfl) rfl
theorem q1552 : (Jvm.Cond.code ({ cls := "FrameSheets", name := "finding", desc := "()I" } : Jvm.MethodName) prog_1_method_85_code (1 : Nat) (Option.some Jvm.ClassFile.FieldType.int)) ∈ lw_all := lw_g (lw_at lw_m7 8 rfl) rfl
theorem q1554 : (Jvm.Cond.instanceMethod ({ cls := "FrameSheets", name := "findings", desc := "(I)I" } : Jvm.MethodName)) ∈ lw_all := lw_g (lw_at lw_m7 10 rfl) rfl
theorem q1555 : (Jvm.Cond.selects "FrameSheets" ({ cls := "FrameSheets", name := "findings", desc := "(I)I" } : Jvm.MethodName) ({ cls := "FrameSheets", name := "findings", desc := "(I)I" } : Jvm.MethodName)) ∈ lw_all := lw_g (lw_at lw_m7 11 rfl) rfl
theorem q1556 : (Jvm.Cond.code ({ cls := "FrameSheets", name := "findings", desc := "(I)I" } : Jvm.MethodName) prog_1_method_86_code (2 : Nat) (Option.some Jvm.ClassFile.FieldType.int)) ∈ lw_all := lw_g (lw_at lw_m7 12 rfl) rfl
theorem q1558 : (Jvm.Cond.instanceMethod ({ cls := "FrameSheets", name := "digest", desc := "()J" } : Jvm.MethodName)) ∈ lw_all := lw_g (lw_at lw_m7 14 rfl) rfl
theorem q1559 : (Jvm.Cond.selects "FrameSheets" ({ cls := "FrameSheets", name := "digest", desc := "()J" } : Jvm.MethodName) ({ cls := "FrameSheets", name := "digest", desc := "()J" } : Jvm.MethodName)) ∈ lw_all := lw_g (lw_at lw_m7 15 rfl) rfl
theorem q1560 : (Jvm.Cond.code ({ cls := "FrameSheets", name := "digest", desc := "()J" } : Jvm.MethodName) prog_1_method_89_code (7 : Nat) (Option.some Jvm.ClassFile.FieldType.long)) ∈ lw_all := lw_g (lw_at lw_m7 16 rfl) rfl
theorem q1561 : (Jvm.Cond.constantLong "FrameSheets" (540 : Nat) (17 : Int64)) ∈ lw_all := lw_g (lw_at lw_m7 17 rfl) rfl
theorem q1562 : (Jvm.Cond.methodLink "FrameSheets" (537 : Nat) ({ cls := "FrameSheets", name := "mix", desc := "(I)V" } : Jvm.MethodName)) ∈ lw_all := lw_g (lw_at lw_m7 18 rfl) rfl
theorem q1563 : (Jvm.Cond.privateMethod ({ cls := "FrameSheets", name := "mix", desc := "(I)V" } : Jvm.MethodName)) ∈ lw_tbl := lw_at lw_m7 19 rfl
theorem q1564 : (Jvm.Cond.instanceMethod ({ cls := "FrameSheets", name := "mix", desc := "(I)V" } : Jvm.MethodName)) ∈ lw_all := lw_g (lw_at lw_m7 20 rfl) rfl
theorem q1565 : (Jvm.Cond.code ({ cls := "FrameSheets", name := "mix", desc := "(I)V" } : Jvm.MethodName) prog_1_method_87_code (2 : Nat) (Option.none : Option Jvm.ClassFile.FieldType)) ∈ lw_all := lw_g (lw_at lw_m7 21 rfl) rfl
theorem q1566 : (Jvm.Cond.constantLong "FrameSheets" (531 : Nat) (31 : Int64)) ∈ lw_all := lw_g (lw_at lw_m7 22 rfl) rfl
theorem q1567 : (Jvm.Cond.methodLink "FrameSheets" (542 : Nat) ({ cls := "FrameSheets", name := "mixSheet", desc := "()V" } : Jvm.MethodName)) ∈ lw_all := lw_g (lw_at lw_m7 23 rfl) rfl
theorem q1568 : (Jvm.Cond.privateMethod ({ cls := "FrameSheets", name := "mixSheet", desc := "()V" } : Jvm.MethodName)) ∈ lw_tbl := lw_at lw_m7 24 rfl
theorem q1569 : (Jvm.Cond.instanceMethod ({ cls := "FrameSheets", name := "mixSheet", desc := "()V" } : Jvm.MethodName)) ∈ lw_all := lw_g (lw_at lw_m7 25 rfl) rfl
theorem q1570 : (Jvm.Cond.code ({ cls := "FrameSheets", name := "mixSheet", desc := "()V" } : Jvm.MethodName) prog_1_method_88_code (5 : Nat) (Option.none : Option Jvm.ClassFile.FieldType)) ∈ lw_all := lw_g (lw_at lw_m7 26 rfl) rfl
theorem in_X0 : ∀ w ∈ wsX00, w ∈ lw_all := lw_in wsX00 [200, 202, 204, 206, 208, 210, 212, 214, 216, 218, 220, 222, 224, 226, 228, 230, 232, 234, 236, 238, 240, 242, 244, 246, 248, 250, 252, 254, 256, 258, 260, 262, 264, 266, 268, 270, 272, 274] (by decide +kernel) (by decide +kernel)
