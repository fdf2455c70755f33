/-! FrameSheetsModel -/
set_option maxRecDepth 100000
def RX2 : String := "FrameSheetsModel"
def TX2 : u_T := fun k => match k with
  | 0 => ("FrameSheetsModel", "told", "I", false)
  | 1 => ("FrameSheetsModel", "latest", "I", false)
  | 2 => ("FrameSheetsModel", "came", "[I", true)
  | 3 => ("FrameSheetsModel", "sizes", "[I", true)
  | 4 => ("FrameSheetsModel", "rows", "[I", true)
  | 5 => ("FrameSheetsModel", "copied", "[I", true)
  | 6 => ("FrameSheetsModel", "textSizes", "[I", true)
  | 7 => ("FrameSheetsModel", "bytes", "[B", true)
  | 8 => ("FrameSheetsModel", "wide", "I", false)
  | 9 => ("FrameSheetsModel", "high", "I", false)
  | 10 => ("FrameSheetsModel", "bleed", "I", false)
  | 11 => ("FrameSheetsModel", "frameMany", "I", false)
  | 12 => ("FrameSheetsModel", "given", "[I", true)
  | 13 => ("FrameSheetsModel", "readAt", "I", false)
  | 14 => ("FrameSheetsModel", "tokenAt", "I", false)
  | 15 => ("FrameSheetsModel", "token", "I", false)
  | 16 => ("FrameSheetsModel", "value", "I", false)
  | 17 => ("FrameSheetsModel", "faultAt", "I", false)
  | 18 => ("FrameSheetsModel", "readWide", "I", false)
  | 19 => ("FrameSheetsModel", "readHigh", "I", false)
  | 20 => ("FrameSheetsModel", "readBleed", "I", false)
  | 21 => ("FrameSheetsModel", "readMany", "I", false)
  | 22 => ("FrameSheetsModel", "read", "[I", true)
  | 23 => ("FrameSheetsModel", "now", "[I", true)
  | 24 => ("FrameSheetsModel", "outMany", "I", false)
  | 25 => ("FrameSheetsModel", "out", "[B", true)
  | 26 => ("FrameSheetsModel", "grid", "[I", true)
  | 27 => ("FrameSheetsModel", "freeMany", "I", false)
  | 28 => ("FrameSheetsModel", "freeX", "[I", true)
  | 29 => ("FrameSheetsModel", "freeY", "[I", true)
  | 30 => ("FrameSheetsModel", "freeW", "[I", true)
  | 31 => ("FrameSheetsModel", "freeH", "[I", true)
  | 32 => ("FrameSheetsModel", "bestAt", "I", false)
  | 33 => ("FrameSheetsModel", "bestTurned", "I", false)
  | 34 => ("FrameSheetsModel", "bestFirst", "I", false)
  | 35 => ("FrameSheetsModel", "bestSecond", "I", false)
  | 36 => ("FrameSheetsModel", "deedMany", "I", false)
  | 37 => ("FrameSheetsModel", "log", "[I", true)
  | 38 => ("FrameSheetsModel", "keptMany", "[I", true)
  | 39 => ("FrameSheetsModel", "kept", "[I", true)
  | 40 => ("FrameSheetsModel", "aside", "[I", true)
  | 41 => ("FrameSheetsModel", "wouldPages", "I", false)
  | 42 => ("FrameSheetsModel", "wouldMissing", "I", false)
  | 43 => ("FrameSheetsModel", "wouldLast", "I", false)
  | _ => ("FrameSheetsModel", "h", "J", false)
def tyX2 : Nat → FieldType := fun k => match k with
  | 0 => .int
  | 1 => .int
  | 2 => .array .int
  | 3 => .array .int
  | 4 => .array .int
  | 5 => .array .int
  | 6 => .array .int
  | 7 => .array .byte
  | 8 => .int
  | 9 => .int
  | 10 => .int
  | 11 => .int
  | 12 => .array .int
  | 13 => .int
  | 14 => .int
  | 15 => .int
  | 16 => .int
  | 17 => .int
  | 18 => .int
  | 19 => .int
  | 20 => .int
  | 21 => .int
  | 22 => .array .int
  | 23 => .array .int
  | 24 => .int
  | 25 => .array .byte
  | 26 => .array .int
  | 27 => .int
  | 28 => .array .int
  | 29 => .array .int
  | 30 => .array .int
  | 31 => .array .int
  | 32 => .int
  | 33 => .int
  | 34 => .int
  | 35 => .int
  | 36 => .int
  | 37 => .array .int
  | 38 => .array .int
  | 39 => .array .int
  | 40 => .array .int
  | 41 => .int
  | 42 => .int
  | 43 => .int
  | _ => .long
abbrev wsX20 : List Cond := u_ws RX2 TX2 45
set_option maxRecDepth 100000 in
theorem nmX2 : ∀ a, a < 45 → ∀ b, b < 45 → a ≠ b → (TX2 a).2.1 ≠ (TX2 b).2.1 := by decide +kernel
set_option maxRecDepth 100000 in
theorem tyX2_ok : ∀ k, k < 45 → parseFieldDescriptor (TX2 k).2.2.1 = some (tyX2 k) := by decide +kernel
abbrev cX2_init : ByteArray := prog_13_method_1_code
def yX2_init : MethodName := ⟨RX2, "<init>", "()V"⟩
def dkwX2_init_9 : List UInt8 := [180, 0, 59, 27, 2, 79, 132, 1, 1, 167, 255, 241, 177]
abbrev dktX2_init_9 : List UInt8 := dkwX2_init_9 ++ []
def dkwX2_init_8 : List UInt8 := [162, 0, 16, 42, 180, 0, 22, 27, 2, 79, 132, 1, 1, 167, 255, 241, 3, 60, 27, 6, 162, 0, 16, 42]
abbrev dktX2_init_8 : List UInt8 := dkwX2_init_8 ++ dktX2_init_9
def dkwX2_init_7 : List UInt8 := [27, 16, 6, 162, 0, 16, 42, 180, 0, 13, 27, 2, 79, 132, 1, 1, 167, 255, 240, 3, 60, 27, 7]
abbrev dktX2_init_7 : List UInt8 := dkwX2_init_7 ++ dktX2_init_8
def dkwX2_init_6 : List UInt8 := [188, 10, 181, 0, 59, 42, 17, 15, 219, 188, 10, 181, 0, 62, 42, 16, 33, 188, 10, 181, 0, 65, 3, 60]
abbrev dktX2_init_6 : List UInt8 := dkwX2_init_6 ++ dktX2_init_7
def dkwX2_init_5 : List UInt8 := [181, 0, 50, 42, 17, 16, 0, 188, 10, 181, 0, 53, 42, 17, 5, 40, 188, 10, 181, 0, 56, 42, 6]
abbrev dktX2_init_5 : List UInt8 := dkwX2_init_5 ++ dktX2_init_6
def dkwX2_init_4 : List UInt8 := [17, 16, 0, 188, 10, 181, 0, 44, 42, 17, 16, 0, 188, 10, 181, 0, 47, 42, 17, 16, 0, 188, 10]
abbrev dktX2_init_4 : List UInt8 := dkwX2_init_4 ++ dktX2_init_5
def dkwX2_init_3 : List UInt8 := [188, 10, 181, 0, 35, 42, 16, 120, 188, 8, 181, 0, 38, 42, 17, 1, 0, 188, 10, 181, 0, 41, 42]
abbrev dktX2_init_3 : List UInt8 := dkwX2_init_3 ++ dktX2_init_4
def dkwX2_init_2 : List UInt8 := [188, 8, 181, 0, 25, 42, 16, 56, 188, 10, 181, 0, 29, 42, 16, 56, 188, 10, 181, 0, 32, 42, 16, 33]
abbrev dktX2_init_2 : List UInt8 := dkwX2_init_2 ++ dktX2_init_3
def dkwX2_init_1 : List UInt8 := [188, 10, 181, 0, 16, 42, 16, 40, 188, 10, 181, 0, 19, 42, 7, 188, 10, 181, 0, 22, 42, 17, 1, 224]
abbrev dktX2_init_1 : List UInt8 := dkwX2_init_1 ++ dktX2_init_2
def dkwX2_init_0 : List UInt8 := [42, 183, 0, 1, 42, 16, 6, 188, 10, 181, 0, 7, 42, 16, 6, 188, 10, 181, 0, 13, 42, 17, 0, 240]
abbrev dktX2_init_0 : List UInt8 := dkwX2_init_0 ++ dktX2_init_1
theorem dksX2_init_0 : cX2_init.data.toList.drop 0 = dktX2_init_0 := by decide +kernel
theorem dksX2_init_1 : cX2_init.data.toList.drop 24 = dktX2_init_1 := dk_seg dksX2_init_0 24 rfl rfl
theorem dksX2_init_2 : cX2_init.data.toList.drop 48 = dktX2_init_2 := dk_seg dksX2_init_1 24 rfl rfl
theorem dksX2_init_3 : cX2_init.data.toList.drop 72 = dktX2_init_3 := dk_seg dksX2_init_2 24 rfl rfl
theorem dksX2_init_4 : cX2_init.data.toList.drop 95 = dktX2_init_4 := dk_seg dksX2_init_3 23 rfl rfl
theorem dksX2_init_5 : cX2_init.data.toList.drop 118 = dktX2_init_5 := dk_seg dksX2_init_4 23 rfl rfl
theorem dksX2_init_6 : cX2_init.data.toList.drop 141 = dktX2_init_6 := dk_seg dksX2_init_5 23 rfl rfl
theorem dksX2_init_7 : cX2_init.data.toList.drop 165 = dktX2_init_7 := dk_seg dksX2_init_6 24 rfl rfl
theorem dksX2_init_8 : cX2_init.data.toList.drop 188 = dktX2_init_8 := dk_seg dksX2_init_7 23 rfl rfl
theorem dksX2_init_9 : cX2_init.data.toList.drop 212 = dktX2_init_9 := dk_seg dksX2_init_8 24 rfl rfl
theorem dX2_init_0 : decode cX2_init 0 = .ok (.aload_n 0, 1) := dk_42 (dk_at dksX2_init_0 0 rfl rfl)
theorem dX2_init_1 : decode cX2_init 1 = .ok (.invokespecial 1, 3) := dk_183 0 1 (dk_at dksX2_init_0 1 rfl rfl)
theorem dX2_init_4 : decode cX2_init 4 = .ok (.aload_n 0, 1) := dk_42 (dk_at dksX2_init_0 4 rfl rfl)
theorem dX2_init_5 : decode cX2_init 5 = .ok (.bipush 6, 2) := dk_16 6 (dk_at dksX2_init_0 5 rfl rfl)
theorem dX2_init_7 : decode cX2_init 7 = .ok (.newarray .int, 2) := dk_188_10 (dk_at dksX2_init_0 7 rfl rfl)
theorem dX2_init_9 : decode cX2_init 9 = .ok (.putfield 7, 3) := dk_181 0 7 (dk_at dksX2_init_0 9 rfl rfl)
theorem dX2_init_12 : decode cX2_init 12 = .ok (.aload_n 0, 1) := dk_42 (dk_at dksX2_init_0 12 rfl rfl)
theorem dX2_init_13 : decode cX2_init 13 = .ok (.bipush 6, 2) := dk_16 6 (dk_at dksX2_init_0 13 rfl rfl)
theorem dX2_init_15 : decode cX2_init 15 = .ok (.newarray .int, 2) := dk_188_10 (dk_at dksX2_init_0 15 rfl rfl)
theorem dX2_init_17 : decode cX2_init 17 = .ok (.putfield 13, 3) := dk_181 0 13 (dk_at dksX2_init_0 17 rfl rfl)
theorem dX2_init_20 : decode cX2_init 20 = .ok (.aload_n 0, 1) := dk_42 (dk_at dksX2_init_0 20 rfl rfl)
theorem dX2_init_21 : decode cX2_init 21 = .ok (.sipush 240, 3) := dk_17 0 240 (dk_at dksX2_init_0 21 rfl rfl)
theorem dX2_init_24 : decode cX2_init 24 = .ok (.newarray .int, 2) := dk_188_10 (dk_at dksX2_init_1 0 rfl rfl)
theorem dX2_init_26 : decode cX2_init 26 = .ok (.putfield 16, 3) := dk_181 0 16 (dk_at dksX2_init_1 2 rfl rfl)
theorem dX2_init_29 : decode cX2_init 29 = .ok (.aload_n 0, 1) := dk_42 (dk_at dksX2_init_1 5 rfl rfl)
theorem dX2_init_30 : decode cX2_init 30 = .ok (.bipush 40, 2) := dk_16 40 (dk_at dksX2_init_1 6 rfl rfl)
theorem dX2_init_32 : decode cX2_init 32 = .ok (.newarray .int, 2) := dk_188_10 (dk_at dksX2_init_1 8 rfl rfl)
theorem dX2_init_34 : decode cX2_init 34 = .ok (.putfield 19, 3) := dk_181 0 19 (dk_at dksX2_init_1 10 rfl rfl)
theorem dX2_init_37 : decode cX2_init 37 = .ok (.aload_n 0, 1) := dk_42 (dk_at dksX2_init_1 13 rfl rfl)
theorem dX2_init_38 : decode cX2_init 38 = .ok (.iconst 4, 1) := dk_7 (dk_at dksX2_init_1 14 rfl rfl)
theorem dX2_init_39 : decode cX2_init 39 = .ok (.newarray .int, 2) := dk_188_10 (dk_at dksX2_init_1 15 rfl rfl)
theorem dX2_init_41 : decode cX2_init 41 = .ok (.putfield 22, 3) := dk_181 0 22 (dk_at dksX2_init_1 17 rfl rfl)
theorem dX2_init_44 : decode cX2_init 44 = .ok (.aload_n 0, 1) := dk_42 (dk_at dksX2_init_1 20 rfl rfl)
theorem dX2_init_45 : decode cX2_init 45 = .ok (.sipush 480, 3) := dk_17 1 224 (dk_at dksX2_init_1 21 rfl rfl)
theorem dX2_init_48 : decode cX2_init 48 = .ok (.newarray .byte, 2) := dk_188_8 (dk_at dksX2_init_2 0 rfl rfl)
theorem dX2_init_50 : decode cX2_init 50 = .ok (.putfield 25, 3) := dk_181 0 25 (dk_at dksX2_init_2 2 rfl rfl)
theorem dX2_init_53 : decode cX2_init 53 = .ok (.aload_n 0, 1) := dk_42 (dk_at dksX2_init_2 5 rfl rfl)
theorem dX2_init_54 : decode cX2_init 54 = .ok (.bipush 56, 2) := dk_16 56 (dk_at dksX2_init_2 6 rfl rfl)
theorem dX2_init_56 : decode cX2_init 56 = .ok (.newarray .int, 2) := dk_188_10 (dk_at dksX2_init_2 8 rfl rfl)
theorem dX2_init_58 : decode cX2_init 58 = .ok (.putfield 29, 3) := dk_181 0 29 (dk_at dksX2_init_2 10 rfl rfl)
theorem dX2_init_61 : decode cX2_init 61 = .ok (.aload_n 0, 1) := dk_42 (dk_at dksX2_init_2 13 rfl rfl)
theorem dX2_init_62 : decode cX2_init 62 = .ok (.bipush 56, 2) := dk_16 56 (dk_at dksX2_init_2 14 rfl rfl)
theorem dX2_init_64 : decode cX2_init 64 = .ok (.newarray .int, 2) := dk_188_10 (dk_at dksX2_init_2 16 rfl rfl)
theorem dX2_init_66 : decode cX2_init 66 = .ok (.putfield 32, 3) := dk_181 0 32 (dk_at dksX2_init_2 18 rfl rfl)
theorem dX2_init_69 : decode cX2_init 69 = .ok (.aload_n 0, 1) := dk_42 (dk_at dksX2_init_2 21 rfl rfl)
theorem dX2_init_70 : decode cX2_init 70 = .ok (.bipush 33, 2) := dk_16 33 (dk_at dksX2_init_2 22 rfl rfl)
theorem dX2_init_72 : decode cX2_init 72 = .ok (.newarray .int, 2) := dk_188_10 (dk_at dksX2_init_3 0 rfl rfl)
theorem dX2_init_74 : decode cX2_init 74 = .ok (.putfield 35, 3) := dk_181 0 35 (dk_at dksX2_init_3 2 rfl rfl)
theorem dX2_init_77 : decode cX2_init 77 = .ok (.aload_n 0, 1) := dk_42 (dk_at dksX2_init_3 5 rfl rfl)
theorem dX2_init_78 : decode cX2_init 78 = .ok (.bipush 120, 2) := dk_16 120 (dk_at dksX2_init_3 6 rfl rfl)
theorem dX2_init_80 : decode cX2_init 80 = .ok (.newarray .byte, 2) := dk_188_8 (dk_at dksX2_init_3 8 rfl rfl)
theorem dX2_init_82 : decode cX2_init 82 = .ok (.putfield 38, 3) := dk_181 0 38 (dk_at dksX2_init_3 10 rfl rfl)
theorem dX2_init_85 : decode cX2_init 85 = .ok (.aload_n 0, 1) := dk_42 (dk_at dksX2_init_3 13 rfl rfl)
theorem dX2_init_86 : decode cX2_init 86 = .ok (.sipush 256, 3) := dk_17 1 0 (dk_at dksX2_init_3 14 rfl rfl)
theorem dX2_init_89 : decode cX2_init 89 = .ok (.newarray .int, 2) := dk_188_10 (dk_at dksX2_init_3 17 rfl rfl)
theorem dX2_init_91 : decode cX2_init 91 = .ok (.putfield 41, 3) := dk_181 0 41 (dk_at dksX2_init_3 19 rfl rfl)
theorem dX2_init_94 : decode cX2_init 94 = .ok (.aload_n 0, 1) := dk_42 (dk_at dksX2_init_3 22 rfl rfl)
theorem dX2_init_95 : decode cX2_init 95 = .ok (.sipush 4096, 3) := dk_17 16 0 (dk_at dksX2_init_4 0 rfl rfl)
theorem dX2_init_98 : decode cX2_init 98 = .ok (.newarray .int, 2) := dk_188_10 (dk_at dksX2_init_4 3 rfl rfl)
theorem dX2_init_100 : decode cX2_init 100 = .ok (.putfield 44, 3) := dk_181 0 44 (dk_at dksX2_init_4 5 rfl rfl)
theorem dX2_init_103 : decode cX2_init 103 = .ok (.aload_n 0, 1) := dk_42 (dk_at dksX2_init_4 8 rfl rfl)
theorem dX2_init_104 : decode cX2_init 104 = .ok (.sipush 4096, 3) := dk_17 16 0 (dk_at dksX2_init_4 9 rfl rfl)
theorem dX2_init_107 : decode cX2_init 107 = .ok (.newarray .int, 2) := dk_188_10 (dk_at dksX2_init_4 12 rfl rfl)
theorem dX2_init_109 : decode cX2_init 109 = .ok (.putfield 47, 3) := dk_181 0 47 (dk_at dksX2_init_4 14 rfl rfl)
theorem dX2_init_112 : decode cX2_init 112 = .ok (.aload_n 0, 1) := dk_42 (dk_at dksX2_init_4 17 rfl rfl)
theorem dX2_init_113 : decode cX2_init 113 = .ok (.sipush 4096, 3) := dk_17 16 0 (dk_at dksX2_init_4 18 rfl rfl)
theorem dX2_init_116 : decode cX2_init 116 = .ok (.newarray .int, 2) := dk_188_10 (dk_at dksX2_init_4 21 rfl rfl)
theorem dX2_init_118 : decode cX2_init 118 = .ok (.putfield 50, 3) := dk_181 0 50 (dk_at dksX2_init_5 0 rfl rfl)
theorem dX2_init_121 : decode cX2_init 121 = .ok (.aload_n 0, 1) := dk_42 (dk_at dksX2_init_5 3 rfl rfl)
theorem dX2_init_122 : decode cX2_init 122 = .ok (.sipush 4096, 3) := dk_17 16 0 (dk_at dksX2_init_5 4 rfl rfl)
theorem dX2_init_125 : decode cX2_init 125 = .ok (.newarray .int, 2) := dk_188_10 (dk_at dksX2_init_5 7 rfl rfl)
theorem dX2_init_127 : decode cX2_init 127 = .ok (.putfield 53, 3) := dk_181 0 53 (dk_at dksX2_init_5 9 rfl rfl)
theorem dX2_init_130 : decode cX2_init 130 = .ok (.aload_n 0, 1) := dk_42 (dk_at dksX2_init_5 12 rfl rfl)
theorem dX2_init_131 : decode cX2_init 131 = .ok (.sipush 1320, 3) := dk_17 5 40 (dk_at dksX2_init_5 13 rfl rfl)
theorem dX2_init_134 : decode cX2_init 134 = .ok (.newarray .int, 2) := dk_188_10 (dk_at dksX2_init_5 16 rfl rfl)
theorem dX2_init_136 : decode cX2_init 136 = .ok (.putfield 56, 3) := dk_181 0 56 (dk_at dksX2_init_5 18 rfl rfl)
theorem dX2_init_139 : decode cX2_init 139 = .ok (.aload_n 0, 1) := dk_42 (dk_at dksX2_init_5 21 rfl rfl)
theorem dX2_init_140 : decode cX2_init 140 = .ok (.iconst 3, 1) := dk_6 (dk_at dksX2_init_5 22 rfl rfl)
theorem dX2_init_141 : decode cX2_init 141 = .ok (.newarray .int, 2) := dk_188_10 (dk_at dksX2_init_6 0 rfl rfl)
theorem dX2_init_143 : decode cX2_init 143 = .ok (.putfield 59, 3) := dk_181 0 59 (dk_at dksX2_init_6 2 rfl rfl)
theorem dX2_init_146 : decode cX2_init 146 = .ok (.aload_n 0, 1) := dk_42 (dk_at dksX2_init_6 5 rfl rfl)
theorem dX2_init_147 : decode cX2_init 147 = .ok (.sipush 4059, 3) := dk_17 15 219 (dk_at dksX2_init_6 6 rfl rfl)
theorem dX2_init_150 : decode cX2_init 150 = .ok (.newarray .int, 2) := dk_188_10 (dk_at dksX2_init_6 9 rfl rfl)
theorem dX2_init_152 : decode cX2_init 152 = .ok (.putfield 62, 3) := dk_181 0 62 (dk_at dksX2_init_6 11 rfl rfl)
theorem dX2_init_155 : decode cX2_init 155 = .ok (.aload_n 0, 1) := dk_42 (dk_at dksX2_init_6 14 rfl rfl)
theorem dX2_init_156 : decode cX2_init 156 = .ok (.bipush 33, 2) := dk_16 33 (dk_at dksX2_init_6 15 rfl rfl)
theorem dX2_init_158 : decode cX2_init 158 = .ok (.newarray .int, 2) := dk_188_10 (dk_at dksX2_init_6 17 rfl rfl)
theorem dX2_init_160 : decode cX2_init 160 = .ok (.putfield 65, 3) := dk_181 0 65 (dk_at dksX2_init_6 19 rfl rfl)
theorem dX2_init_163 : decode cX2_init 163 = .ok (.iconst 0, 1) := dk_3 (dk_at dksX2_init_6 22 rfl rfl)
theorem dX2_init_164 : decode cX2_init 164 = .ok (.istore_n 1, 1) := dk_60 (dk_at dksX2_init_6 23 rfl rfl)
theorem dX2_init_165 : decode cX2_init 165 = .ok (.iload_n 1, 1) := dk_27 (dk_at dksX2_init_7 0 rfl rfl)
theorem dX2_init_166 : decode cX2_init 166 = .ok (.bipush 6, 2) := dk_16 6 (dk_at dksX2_init_7 1 rfl rfl)
theorem dX2_init_168 : decode cX2_init 168 = .ok (.if_icmp .ge 16, 3) := dk_162 0 16 (dk_at dksX2_init_7 3 rfl rfl)
theorem dX2_init_171 : decode cX2_init 171 = .ok (.aload_n 0, 1) := dk_42 (dk_at dksX2_init_7 6 rfl rfl)
theorem dX2_init_172 : decode cX2_init 172 = .ok (.getfield 13, 3) := dk_180 0 13 (dk_at dksX2_init_7 7 rfl rfl)
theorem dX2_init_175 : decode cX2_init 175 = .ok (.iload_n 1, 1) := dk_27 (dk_at dksX2_init_7 10 rfl rfl)
theorem dX2_init_176 : decode cX2_init 176 = .ok (.iconst (-1), 1) := dk_2 (dk_at dksX2_init_7 11 rfl rfl)
theorem dX2_init_177 : decode cX2_init 177 = .ok (.iastore, 1) := dk_79 (dk_at dksX2_init_7 12 rfl rfl)
theorem dX2_init_178 : decode cX2_init 178 = .ok (.iinc 1 1, 3) := dk_132 1 1 (dk_at dksX2_init_7 13 rfl rfl)
theorem dX2_init_181 : decode cX2_init 181 = .ok (.goto (-16), 3) := dk_167 255 240 (dk_at dksX2_init_7 16 rfl rfl)
theorem dX2_init_184 : decode cX2_init 184 = .ok (.iconst 0, 1) := dk_3 (dk_at dksX2_init_7 19 rfl rfl)
theorem dX2_init_185 : decode cX2_init 185 = .ok (.istore_n 1, 1) := dk_60 (dk_at dksX2_init_7 20 rfl rfl)
theorem dX2_init_186 : decode cX2_init 186 = .ok (.iload_n 1, 1) := dk_27 (dk_at dksX2_init_7 21 rfl rfl)
theorem dX2_init_187 : decode cX2_init 187 = .ok (.iconst 4, 1) := dk_7 (dk_at dksX2_init_7 22 rfl rfl)
theorem dX2_init_188 : decode cX2_init 188 = .ok (.if_icmp .ge 16, 3) := dk_162 0 16 (dk_at dksX2_init_8 0 rfl rfl)
theorem dX2_init_191 : decode cX2_init 191 = .ok (.aload_n 0, 1) := dk_42 (dk_at dksX2_init_8 3 rfl rfl)
theorem dX2_init_192 : decode cX2_init 192 = .ok (.getfield 22, 3) := dk_180 0 22 (dk_at dksX2_init_8 4 rfl rfl)
theorem dX2_init_195 : decode cX2_init 195 = .ok (.iload_n 1, 1) := dk_27 (dk_at dksX2_init_8 7 rfl rfl)
theorem dX2_init_196 : decode cX2_init 196 = .ok (.iconst (-1), 1) := dk_2 (dk_at dksX2_init_8 8 rfl rfl)
theorem dX2_init_197 : decode cX2_init 197 = .ok (.iastore, 1) := dk_79 (dk_at dksX2_init_8 9 rfl rfl)
theorem dX2_init_198 : decode cX2_init 198 = .ok (.iinc 1 1, 3) := dk_132 1 1 (dk_at dksX2_init_8 10 rfl rfl)
theorem dX2_init_201 : decode cX2_init 201 = .ok (.goto (-15), 3) := dk_167 255 241 (dk_at dksX2_init_8 13 rfl rfl)
theorem dX2_init_204 : decode cX2_init 204 = .ok (.iconst 0, 1) := dk_3 (dk_at dksX2_init_8 16 rfl rfl)
theorem dX2_init_205 : decode cX2_init 205 = .ok (.istore_n 1, 1) := dk_60 (dk_at dksX2_init_8 17 rfl rfl)
theorem dX2_init_206 : decode cX2_init 206 = .ok (.iload_n 1, 1) := dk_27 (dk_at dksX2_init_8 18 rfl rfl)
theorem dX2_init_207 : decode cX2_init 207 = .ok (.iconst 3, 1) := dk_6 (dk_at dksX2_init_8 19 rfl rfl)
theorem dX2_init_208 : decode cX2_init 208 = .ok (.if_icmp .ge 16, 3) := dk_162 0 16 (dk_at dksX2_init_8 20 rfl rfl)
theorem dX2_init_211 : decode cX2_init 211 = .ok (.aload_n 0, 1) := dk_42 (dk_at dksX2_init_8 23 rfl rfl)
theorem dX2_init_212 : decode cX2_init 212 = .ok (.getfield 59, 3) := dk_180 0 59 (dk_at dksX2_init_9 0 rfl rfl)
theorem dX2_init_215 : decode cX2_init 215 = .ok (.iload_n 1, 1) := dk_27 (dk_at dksX2_init_9 3 rfl rfl)
theorem dX2_init_216 : decode cX2_init 216 = .ok (.iconst (-1), 1) := dk_2 (dk_at dksX2_init_9 4 rfl rfl)
theorem dX2_init_217 : decode cX2_init 217 = .ok (.iastore, 1) := dk_79 (dk_at dksX2_init_9 5 rfl rfl)
theorem dX2_init_218 : decode cX2_init 218 = .ok (.iinc 1 1, 3) := dk_132 1 1 (dk_at dksX2_init_9 6 rfl rfl)
theorem dX2_init_221 : decode cX2_init 221 = .ok (.goto (-15), 3) := dk_167 255 241 (dk_at dksX2_init_9 9 rfl rfl)
theorem dX2_init_224 : decode cX2_init 224 = .ok (.return_, 1) := dk_177 (dk_at dksX2_init_9 12 rfl rfl)
abbrev cX2_asked : ByteArray := prog_13_method_6_code
def yX2_asked : MethodName := ⟨RX2, "asked", "()I"⟩
theorem dX2_asked_0 : decode cX2_asked 0 = .ok (.aload_n 0, 1) := by decide +kernel
theorem dX2_asked_1 : decode cX2_asked 1 = .ok (.getfield 72, 3) := by decide +kernel
theorem dX2_asked_4 : decode cX2_asked 4 = .ok (.ireturn, 1) := by decide +kernel
abbrev cX2_finding : ByteArray := prog_13_method_7_code
def yX2_finding : MethodName := ⟨RX2, "finding", "()I"⟩
theorem dX2_finding_0 : decode cX2_finding 0 = .ok (.aload_n 0, 1) := by decide +kernel
theorem dX2_finding_1 : decode cX2_finding 1 = .ok (.getfield 68, 3) := by decide +kernel
theorem dX2_finding_4 : decode cX2_finding 4 = .ok (.ireturn, 1) := by decide +kernel
abbrev cX2_findings : ByteArray := prog_13_method_8_code
def yX2_findings : MethodName := ⟨RX2, "findings", "(I)I"⟩
def dkwX2_findings_0 : List UInt8 := [27, 4, 8, 184, 0, 75, 153, 0, 12, 42, 180, 0, 7, 27, 46, 167, 0, 4, 2, 172]
abbrev dktX2_findings_0 : List UInt8 := dkwX2_findings_0 ++ []
theorem dksX2_findings_0 : cX2_findings.data.toList.drop 0 = dktX2_findings_0 := by decide +kernel
theorem dX2_findings_0 : decode cX2_findings 0 = .ok (.iload_n 1, 1) := dk_27 (dk_at dksX2_findings_0 0 rfl rfl)
theorem dX2_findings_1 : decode cX2_findings 1 = .ok (.iconst 1, 1) := dk_4 (dk_at dksX2_findings_0 1 rfl rfl)
theorem dX2_findings_2 : decode cX2_findings 2 = .ok (.iconst 5, 1) := dk_8 (dk_at dksX2_findings_0 2 rfl rfl)
theorem dX2_findings_3 : decode cX2_findings 3 = .ok (.invokestatic 75, 3) := dk_184 0 75 (dk_at dksX2_findings_0 3 rfl rfl)
theorem dX2_findings_6 : decode cX2_findings 6 = .ok (.ifCond .eq 12, 3) := dk_153 0 12 (dk_at dksX2_findings_0 6 rfl rfl)
theorem dX2_findings_9 : decode cX2_findings 9 = .ok (.aload_n 0, 1) := dk_42 (dk_at dksX2_findings_0 9 rfl rfl)
theorem dX2_findings_10 : decode cX2_findings 10 = .ok (.getfield 7, 3) := dk_180 0 7 (dk_at dksX2_findings_0 10 rfl rfl)
theorem dX2_findings_13 : decode cX2_findings 13 = .ok (.iload_n 1, 1) := dk_27 (dk_at dksX2_findings_0 13 rfl rfl)
theorem dX2_findings_14 : decode cX2_findings 14 = .ok (.iaload, 1) := dk_46 (dk_at dksX2_findings_0 14 rfl rfl)
theorem dX2_findings_15 : decode cX2_findings 15 = .ok (.goto 4, 3) := dk_167 0 4 (dk_at dksX2_findings_0 15 rfl rfl)
theorem dX2_findings_18 : decode cX2_findings 18 = .ok (.iconst (-1), 1) := dk_2 (dk_at dksX2_findings_0 18 rfl rfl)
theorem dX2_findings_19 : decode cX2_findings 19 = .ok (.ireturn, 1) := dk_172 (dk_at dksX2_findings_0 19 rfl rfl)
abbrev cX2_in : ByteArray := prog_13_method_2_code
def yX2_in : MethodName := ⟨RX2, "in", "(III)Z"⟩
def dkwX2_in_0 : List UInt8 := [26, 27, 161, 0, 12, 26, 28, 163, 0, 7, 4, 167, 0, 4, 3, 172]
abbrev dktX2_in_0 : List UInt8 := dkwX2_in_0 ++ []
theorem dksX2_in_0 : cX2_in.data.toList.drop 0 = dktX2_in_0 := by decide +kernel
theorem dX2_in_0 : decode cX2_in 0 = .ok (.iload_n 0, 1) := dk_26 (dk_at dksX2_in_0 0 rfl rfl)
theorem dX2_in_1 : decode cX2_in 1 = .ok (.iload_n 1, 1) := dk_27 (dk_at dksX2_in_0 1 rfl rfl)
theorem dX2_in_2 : decode cX2_in 2 = .ok (.if_icmp .lt 12, 3) := dk_161 0 12 (dk_at dksX2_in_0 2 rfl rfl)
theorem dX2_in_5 : decode cX2_in 5 = .ok (.iload_n 0, 1) := dk_26 (dk_at dksX2_in_0 5 rfl rfl)
theorem dX2_in_6 : decode cX2_in 6 = .ok (.iload_n 2, 1) := dk_28 (dk_at dksX2_in_0 6 rfl rfl)
theorem dX2_in_7 : decode cX2_in 7 = .ok (.if_icmp .gt 7, 3) := dk_163 0 7 (dk_at dksX2_in_0 7 rfl rfl)
theorem dX2_in_10 : decode cX2_in 10 = .ok (.iconst 1, 1) := dk_4 (dk_at dksX2_in_0 10 rfl rfl)
theorem dX2_in_11 : decode cX2_in 11 = .ok (.goto 4, 3) := dk_167 0 4 (dk_at dksX2_in_0 11 rfl rfl)
theorem dX2_in_14 : decode cX2_in 14 = .ok (.iconst 0, 1) := dk_3 (dk_at dksX2_in_0 14 rfl rfl)
theorem dX2_in_15 : decode cX2_in 15 = .ok (.ireturn, 1) := dk_172 (dk_at dksX2_in_0 15 rfl rfl)
abbrev cX2_row : ByteArray := prog_13_method_11_code
def yX2_row : MethodName := ⟨RX2, "row", "(II)I"⟩
def dkwX2_row_2 : List UInt8 := [29, 96, 3, 79, 132, 3, 1, 167, 255, 235, 28, 172]
abbrev dktX2_row_2 : List UInt8 := dkwX2_row_2 ++ []
def dkwX2_row_1 : List UInt8 := [172, 42, 180, 0, 13, 27, 28, 79, 3, 62, 29, 16, 40, 162, 0, 21, 42, 180, 0, 16, 16, 40, 27, 104]
abbrev dktX2_row_1 : List UInt8 := dkwX2_row_1 ++ dktX2_row_2
def dkwX2_row_0 : List UInt8 := [27, 184, 0, 79, 153, 0, 9, 28, 16, 40, 164, 0, 5, 2, 172, 28, 156, 0, 9, 42, 8, 182, 0, 83]
abbrev dktX2_row_0 : List UInt8 := dkwX2_row_0 ++ dktX2_row_1
theorem dksX2_row_0 : cX2_row.data.toList.drop 0 = dktX2_row_0 := by decide +kernel
theorem dksX2_row_1 : cX2_row.data.toList.drop 24 = dktX2_row_1 := dk_seg dksX2_row_0 24 rfl rfl
theorem dksX2_row_2 : cX2_row.data.toList.drop 48 = dktX2_row_2 := dk_seg dksX2_row_1 24 rfl rfl
theorem dX2_row_0 : decode cX2_row 0 = .ok (.iload_n 1, 1) := dk_27 (dk_at dksX2_row_0 0 rfl rfl)
theorem dX2_row_1 : decode cX2_row 1 = .ok (.invokestatic 79, 3) := dk_184 0 79 (dk_at dksX2_row_0 1 rfl rfl)
theorem dX2_row_4 : decode cX2_row 4 = .ok (.ifCond .eq 9, 3) := dk_153 0 9 (dk_at dksX2_row_0 4 rfl rfl)
theorem dX2_row_7 : decode cX2_row 7 = .ok (.iload_n 2, 1) := dk_28 (dk_at dksX2_row_0 7 rfl rfl)
theorem dX2_row_8 : decode cX2_row 8 = .ok (.bipush 40, 2) := dk_16 40 (dk_at dksX2_row_0 8 rfl rfl)
theorem dX2_row_10 : decode cX2_row 10 = .ok (.if_icmp .le 5, 3) := dk_164 0 5 (dk_at dksX2_row_0 10 rfl rfl)
theorem dX2_row_13 : decode cX2_row 13 = .ok (.iconst (-1), 1) := dk_2 (dk_at dksX2_row_0 13 rfl rfl)
theorem dX2_row_14 : decode cX2_row 14 = .ok (.ireturn, 1) := dk_172 (dk_at dksX2_row_0 14 rfl rfl)
theorem dX2_row_15 : decode cX2_row 15 = .ok (.iload_n 2, 1) := dk_28 (dk_at dksX2_row_0 15 rfl rfl)
theorem dX2_row_16 : decode cX2_row 16 = .ok (.ifCond .ge 9, 3) := dk_156 0 9 (dk_at dksX2_row_0 16 rfl rfl)
theorem dX2_row_19 : decode cX2_row 19 = .ok (.aload_n 0, 1) := dk_42 (dk_at dksX2_row_0 19 rfl rfl)
theorem dX2_row_20 : decode cX2_row 20 = .ok (.iconst 5, 1) := dk_8 (dk_at dksX2_row_0 20 rfl rfl)
theorem dX2_row_21 : decode cX2_row 21 = .ok (.invokevirtual 83, 3) := dk_182 0 83 (dk_at dksX2_row_0 21 rfl rfl)
theorem dX2_row_24 : decode cX2_row 24 = .ok (.ireturn, 1) := dk_172 (dk_at dksX2_row_1 0 rfl rfl)
theorem dX2_row_25 : decode cX2_row 25 = .ok (.aload_n 0, 1) := dk_42 (dk_at dksX2_row_1 1 rfl rfl)
theorem dX2_row_26 : decode cX2_row 26 = .ok (.getfield 13, 3) := dk_180 0 13 (dk_at dksX2_row_1 2 rfl rfl)
theorem dX2_row_29 : decode cX2_row 29 = .ok (.iload_n 1, 1) := dk_27 (dk_at dksX2_row_1 5 rfl rfl)
theorem dX2_row_30 : decode cX2_row 30 = .ok (.iload_n 2, 1) := dk_28 (dk_at dksX2_row_1 6 rfl rfl)
theorem dX2_row_31 : decode cX2_row 31 = .ok (.iastore, 1) := dk_79 (dk_at dksX2_row_1 7 rfl rfl)
theorem dX2_row_32 : decode cX2_row 32 = .ok (.iconst 0, 1) := dk_3 (dk_at dksX2_row_1 8 rfl rfl)
theorem dX2_row_33 : decode cX2_row 33 = .ok (.istore_n 3, 1) := dk_62 (dk_at dksX2_row_1 9 rfl rfl)
theorem dX2_row_34 : decode cX2_row 34 = .ok (.iload_n 3, 1) := dk_29 (dk_at dksX2_row_1 10 rfl rfl)
theorem dX2_row_35 : decode cX2_row 35 = .ok (.bipush 40, 2) := dk_16 40 (dk_at dksX2_row_1 11 rfl rfl)
theorem dX2_row_37 : decode cX2_row 37 = .ok (.if_icmp .ge 21, 3) := dk_162 0 21 (dk_at dksX2_row_1 13 rfl rfl)
theorem dX2_row_40 : decode cX2_row 40 = .ok (.aload_n 0, 1) := dk_42 (dk_at dksX2_row_1 16 rfl rfl)
theorem dX2_row_41 : decode cX2_row 41 = .ok (.getfield 16, 3) := dk_180 0 16 (dk_at dksX2_row_1 17 rfl rfl)
theorem dX2_row_44 : decode cX2_row 44 = .ok (.bipush 40, 2) := dk_16 40 (dk_at dksX2_row_1 20 rfl rfl)
theorem dX2_row_46 : decode cX2_row 46 = .ok (.iload_n 1, 1) := dk_27 (dk_at dksX2_row_1 22 rfl rfl)
theorem dX2_row_47 : decode cX2_row 47 = .ok (.imul, 1) := dk_104 (dk_at dksX2_row_1 23 rfl rfl)
theorem dX2_row_48 : decode cX2_row 48 = .ok (.iload_n 3, 1) := dk_29 (dk_at dksX2_row_2 0 rfl rfl)
theorem dX2_row_49 : decode cX2_row 49 = .ok (.iadd, 1) := dk_96 (dk_at dksX2_row_2 1 rfl rfl)
theorem dX2_row_50 : decode cX2_row 50 = .ok (.iconst 0, 1) := dk_3 (dk_at dksX2_row_2 2 rfl rfl)
theorem dX2_row_51 : decode cX2_row 51 = .ok (.iastore, 1) := dk_79 (dk_at dksX2_row_2 3 rfl rfl)
theorem dX2_row_52 : decode cX2_row 52 = .ok (.iinc 3 1, 3) := dk_132 3 1 (dk_at dksX2_row_2 4 rfl rfl)
theorem dX2_row_55 : decode cX2_row 55 = .ok (.goto (-21), 3) := dk_167 255 235 (dk_at dksX2_row_2 7 rfl rfl)
theorem dX2_row_58 : decode cX2_row 58 = .ok (.iload_n 2, 1) := dk_28 (dk_at dksX2_row_2 10 rfl rfl)
theorem dX2_row_59 : decode cX2_row 59 = .ok (.ireturn, 1) := dk_172 (dk_at dksX2_row_2 11 rfl rfl)
abbrev cX2_isRow : ByteArray := prog_13_method_9_code
def yX2_isRow : MethodName := ⟨RX2, "isRow", "(I)Z"⟩
def dkwX2_isRow_0 : List UInt8 := [26, 3, 8, 184, 0, 75, 172]
abbrev dktX2_isRow_0 : List UInt8 := dkwX2_isRow_0 ++ []
theorem dksX2_isRow_0 : cX2_isRow.data.toList.drop 0 = dktX2_isRow_0 := by decide +kernel
theorem dX2_isRow_0 : decode cX2_isRow 0 = .ok (.iload_n 0, 1) := dk_26 (dk_at dksX2_isRow_0 0 rfl rfl)
theorem dX2_isRow_1 : decode cX2_isRow 1 = .ok (.iconst 0, 1) := dk_3 (dk_at dksX2_isRow_0 1 rfl rfl)
theorem dX2_isRow_2 : decode cX2_isRow 2 = .ok (.iconst 5, 1) := dk_8 (dk_at dksX2_isRow_0 2 rfl rfl)
theorem dX2_isRow_3 : decode cX2_isRow 3 = .ok (.invokestatic 75, 3) := dk_184 0 75 (dk_at dksX2_isRow_0 3 rfl rfl)
theorem dX2_isRow_6 : decode cX2_isRow 6 = .ok (.ireturn, 1) := dk_172 (dk_at dksX2_isRow_0 6 rfl rfl)
abbrev cX2_found : ByteArray := prog_13_method_4_code
def yX2_found : MethodName := ⟨RX2, "found", "(I)I"⟩
def dkwX2_found_0 : List UInt8 := [42, 27, 181, 0, 68, 42, 180, 0, 7, 27, 92, 46, 4, 96, 79, 16, 253, 172]
abbrev dktX2_found_0 : List UInt8 := dkwX2_found_0 ++ []
theorem dksX2_found_0 : cX2_found.data.toList.drop 0 = dktX2_found_0 := by decide +kernel
theorem dX2_found_0 : decode cX2_found 0 = .ok (.aload_n 0, 1) := dk_42 (dk_at dksX2_found_0 0 rfl rfl)
theorem dX2_found_1 : decode cX2_found 1 = .ok (.iload_n 1, 1) := dk_27 (dk_at dksX2_found_0 1 rfl rfl)
theorem dX2_found_2 : decode cX2_found 2 = .ok (.putfield 68, 3) := dk_181 0 68 (dk_at dksX2_found_0 2 rfl rfl)
theorem dX2_found_5 : decode cX2_found 5 = .ok (.aload_n 0, 1) := dk_42 (dk_at dksX2_found_0 5 rfl rfl)
theorem dX2_found_6 : decode cX2_found 6 = .ok (.getfield 7, 3) := dk_180 0 7 (dk_at dksX2_found_0 6 rfl rfl)
theorem dX2_found_9 : decode cX2_found 9 = .ok (.iload_n 1, 1) := dk_27 (dk_at dksX2_found_0 9 rfl rfl)
theorem dX2_found_10 : decode cX2_found 10 = .ok (.dup2, 1) := dk_92 (dk_at dksX2_found_0 10 rfl rfl)
theorem dX2_found_11 : decode cX2_found 11 = .ok (.iaload, 1) := dk_46 (dk_at dksX2_found_0 11 rfl rfl)
theorem dX2_found_12 : decode cX2_found 12 = .ok (.iconst 1, 1) := dk_4 (dk_at dksX2_found_0 12 rfl rfl)
theorem dX2_found_13 : decode cX2_found 13 = .ok (.iadd, 1) := dk_96 (dk_at dksX2_found_0 13 rfl rfl)
theorem dX2_found_14 : decode cX2_found 14 = .ok (.iastore, 1) := dk_79 (dk_at dksX2_found_0 14 rfl rfl)
theorem dX2_found_15 : decode cX2_found 15 = .ok (.bipush (-3), 2) := dk_16 253 (dk_at dksX2_found_0 15 rfl rfl)
theorem dX2_found_17 : decode cX2_found 17 = .ok (.ireturn, 1) := dk_172 (dk_at dksX2_found_0 17 rfl rfl)
abbrev cX2_lay : ByteArray := prog_13_method_12_code
def yX2_lay : MethodName := ⟨RX2, "lay", "(III)I"⟩
def dkwX2_lay_3 : List UInt8 := [182, 0, 91, 172]
abbrev dktX2_lay_3 : List UInt8 := dkwX2_lay_3 ++ []
def dkwX2_lay_2 : List UInt8 := [28, 182, 0, 87, 54, 4, 42, 180, 0, 16, 16, 40, 27, 104, 28, 96, 29, 79, 42, 21, 4, 4]
abbrev dktX2_lay_2 : List UInt8 := dkwX2_lay_2 ++ dktX2_lay_3
def dkwX2_lay_1 : List UInt8 := [28, 3, 42, 180, 0, 13, 27, 46, 4, 100, 184, 0, 75, 154, 0, 9, 42, 5, 182, 0, 83, 172, 42, 27]
abbrev dktX2_lay_1 : List UInt8 := dkwX2_lay_1 ++ dktX2_lay_2
def dkwX2_lay_0 : List UInt8 := [27, 184, 0, 79, 154, 0, 5, 2, 172, 42, 180, 0, 13, 27, 46, 156, 0, 9, 42, 4, 182, 0, 83, 172]
abbrev dktX2_lay_0 : List UInt8 := dkwX2_lay_0 ++ dktX2_lay_1
theorem dksX2_lay_0 : cX2_lay.data.toList.drop 0 = dktX2_lay_0 := by decide +kernel
theorem dksX2_lay_1 : cX2_lay.data.toList.drop 24 = dktX2_lay_1 := dk_seg dksX2_lay_0 24 rfl rfl
theorem dksX2_lay_2 : cX2_lay.data.toList.drop 48 = dktX2_lay_2 := dk_seg dksX2_lay_1 24 rfl rfl
theorem dksX2_lay_3 : cX2_lay.data.toList.drop 70 = dktX2_lay_3 := dk_seg dksX2_lay_2 22 rfl rfl
theorem dX2_lay_0 : decode cX2_lay 0 = .ok (.iload_n 1, 1) := dk_27 (dk_at dksX2_lay_0 0 rfl rfl)
theorem dX2_lay_1 : decode cX2_lay 1 = .ok (.invokestatic 79, 3) := dk_184 0 79 (dk_at dksX2_lay_0 1 rfl rfl)
theorem dX2_lay_4 : decode cX2_lay 4 = .ok (.ifCond .ne 5, 3) := dk_154 0 5 (dk_at dksX2_lay_0 4 rfl rfl)
theorem dX2_lay_7 : decode cX2_lay 7 = .ok (.iconst (-1), 1) := dk_2 (dk_at dksX2_lay_0 7 rfl rfl)
theorem dX2_lay_8 : decode cX2_lay 8 = .ok (.ireturn, 1) := dk_172 (dk_at dksX2_lay_0 8 rfl rfl)
theorem dX2_lay_9 : decode cX2_lay 9 = .ok (.aload_n 0, 1) := dk_42 (dk_at dksX2_lay_0 9 rfl rfl)
theorem dX2_lay_10 : decode cX2_lay 10 = .ok (.getfield 13, 3) := dk_180 0 13 (dk_at dksX2_lay_0 10 rfl rfl)
theorem dX2_lay_13 : decode cX2_lay 13 = .ok (.iload_n 1, 1) := dk_27 (dk_at dksX2_lay_0 13 rfl rfl)
theorem dX2_lay_14 : decode cX2_lay 14 = .ok (.iaload, 1) := dk_46 (dk_at dksX2_lay_0 14 rfl rfl)
theorem dX2_lay_15 : decode cX2_lay 15 = .ok (.ifCond .ge 9, 3) := dk_156 0 9 (dk_at dksX2_lay_0 15 rfl rfl)
theorem dX2_lay_18 : decode cX2_lay 18 = .ok (.aload_n 0, 1) := dk_42 (dk_at dksX2_lay_0 18 rfl rfl)
theorem dX2_lay_19 : decode cX2_lay 19 = .ok (.iconst 1, 1) := dk_4 (dk_at dksX2_lay_0 19 rfl rfl)
theorem dX2_lay_20 : decode cX2_lay 20 = .ok (.invokevirtual 83, 3) := dk_182 0 83 (dk_at dksX2_lay_0 20 rfl rfl)
theorem dX2_lay_23 : decode cX2_lay 23 = .ok (.ireturn, 1) := dk_172 (dk_at dksX2_lay_0 23 rfl rfl)
theorem dX2_lay_24 : decode cX2_lay 24 = .ok (.iload_n 2, 1) := dk_28 (dk_at dksX2_lay_1 0 rfl rfl)
theorem dX2_lay_25 : decode cX2_lay 25 = .ok (.iconst 0, 1) := dk_3 (dk_at dksX2_lay_1 1 rfl rfl)
theorem dX2_lay_26 : decode cX2_lay 26 = .ok (.aload_n 0, 1) := dk_42 (dk_at dksX2_lay_1 2 rfl rfl)
theorem dX2_lay_27 : decode cX2_lay 27 = .ok (.getfield 13, 3) := dk_180 0 13 (dk_at dksX2_lay_1 3 rfl rfl)
theorem dX2_lay_30 : decode cX2_lay 30 = .ok (.iload_n 1, 1) := dk_27 (dk_at dksX2_lay_1 6 rfl rfl)
theorem dX2_lay_31 : decode cX2_lay 31 = .ok (.iaload, 1) := dk_46 (dk_at dksX2_lay_1 7 rfl rfl)
theorem dX2_lay_32 : decode cX2_lay 32 = .ok (.iconst 1, 1) := dk_4 (dk_at dksX2_lay_1 8 rfl rfl)
theorem dX2_lay_33 : decode cX2_lay 33 = .ok (.isub, 1) := dk_100 (dk_at dksX2_lay_1 9 rfl rfl)
theorem dX2_lay_34 : decode cX2_lay 34 = .ok (.invokestatic 75, 3) := dk_184 0 75 (dk_at dksX2_lay_1 10 rfl rfl)
theorem dX2_lay_37 : decode cX2_lay 37 = .ok (.ifCond .ne 9, 3) := dk_154 0 9 (dk_at dksX2_lay_1 13 rfl rfl)
theorem dX2_lay_40 : decode cX2_lay 40 = .ok (.aload_n 0, 1) := dk_42 (dk_at dksX2_lay_1 16 rfl rfl)
theorem dX2_lay_41 : decode cX2_lay 41 = .ok (.iconst 2, 1) := dk_5 (dk_at dksX2_lay_1 17 rfl rfl)
theorem dX2_lay_42 : decode cX2_lay 42 = .ok (.invokevirtual 83, 3) := dk_182 0 83 (dk_at dksX2_lay_1 18 rfl rfl)
theorem dX2_lay_45 : decode cX2_lay 45 = .ok (.ireturn, 1) := dk_172 (dk_at dksX2_lay_1 21 rfl rfl)
theorem dX2_lay_46 : decode cX2_lay 46 = .ok (.aload_n 0, 1) := dk_42 (dk_at dksX2_lay_1 22 rfl rfl)
theorem dX2_lay_47 : decode cX2_lay 47 = .ok (.iload_n 1, 1) := dk_27 (dk_at dksX2_lay_1 23 rfl rfl)
theorem dX2_lay_48 : decode cX2_lay 48 = .ok (.iload_n 2, 1) := dk_28 (dk_at dksX2_lay_2 0 rfl rfl)
theorem dX2_lay_49 : decode cX2_lay 49 = .ok (.invokevirtual 87, 3) := dk_182 0 87 (dk_at dksX2_lay_2 1 rfl rfl)
theorem dX2_lay_52 : decode cX2_lay 52 = .ok (.istore 4, 2) := dk_54 4 (dk_at dksX2_lay_2 4 rfl rfl)
theorem dX2_lay_54 : decode cX2_lay 54 = .ok (.aload_n 0, 1) := dk_42 (dk_at dksX2_lay_2 6 rfl rfl)
theorem dX2_lay_55 : decode cX2_lay 55 = .ok (.getfield 16, 3) := dk_180 0 16 (dk_at dksX2_lay_2 7 rfl rfl)
theorem dX2_lay_58 : decode cX2_lay 58 = .ok (.bipush 40, 2) := dk_16 40 (dk_at dksX2_lay_2 10 rfl rfl)
theorem dX2_lay_60 : decode cX2_lay 60 = .ok (.iload_n 1, 1) := dk_27 (dk_at dksX2_lay_2 12 rfl rfl)
theorem dX2_lay_61 : decode cX2_lay 61 = .ok (.imul, 1) := dk_104 (dk_at dksX2_lay_2 13 rfl rfl)
theorem dX2_lay_62 : decode cX2_lay 62 = .ok (.iload_n 2, 1) := dk_28 (dk_at dksX2_lay_2 14 rfl rfl)
theorem dX2_lay_63 : decode cX2_lay 63 = .ok (.iadd, 1) := dk_96 (dk_at dksX2_lay_2 15 rfl rfl)
theorem dX2_lay_64 : decode cX2_lay 64 = .ok (.iload_n 3, 1) := dk_29 (dk_at dksX2_lay_2 16 rfl rfl)
theorem dX2_lay_65 : decode cX2_lay 65 = .ok (.iastore, 1) := dk_79 (dk_at dksX2_lay_2 17 rfl rfl)
theorem dX2_lay_66 : decode cX2_lay 66 = .ok (.aload_n 0, 1) := dk_42 (dk_at dksX2_lay_2 18 rfl rfl)
theorem dX2_lay_67 : decode cX2_lay 67 = .ok (.iload 4, 2) := dk_21 4 (dk_at dksX2_lay_2 19 rfl rfl)
theorem dX2_lay_69 : decode cX2_lay 69 = .ok (.iconst 1, 1) := dk_4 (dk_at dksX2_lay_2 21 rfl rfl)
theorem dX2_lay_70 : decode cX2_lay 70 = .ok (.invokevirtual 91, 3) := dk_182 0 91 (dk_at dksX2_lay_3 0 rfl rfl)
theorem dX2_lay_73 : decode cX2_lay 73 = .ok (.ireturn, 1) := dk_172 (dk_at dksX2_lay_3 3 rfl rfl)
abbrev cX2_rowAt : ByteArray := prog_13_method_10_code
def yX2_rowAt : MethodName := ⟨RX2, "rowAt", "(II)I"⟩
def dkwX2_rowAt_0 : List UInt8 := [42, 180, 0, 16, 16, 40, 27, 104, 28, 96, 46, 172]
abbrev dktX2_rowAt_0 : List UInt8 := dkwX2_rowAt_0 ++ []
theorem dksX2_rowAt_0 : cX2_rowAt.data.toList.drop 0 = dktX2_rowAt_0 := by decide +kernel
theorem dX2_rowAt_0 : decode cX2_rowAt 0 = .ok (.aload_n 0, 1) := dk_42 (dk_at dksX2_rowAt_0 0 rfl rfl)
theorem dX2_rowAt_1 : decode cX2_rowAt 1 = .ok (.getfield 16, 3) := dk_180 0 16 (dk_at dksX2_rowAt_0 1 rfl rfl)
theorem dX2_rowAt_4 : decode cX2_rowAt 4 = .ok (.bipush 40, 2) := dk_16 40 (dk_at dksX2_rowAt_0 4 rfl rfl)
theorem dX2_rowAt_6 : decode cX2_rowAt 6 = .ok (.iload_n 1, 1) := dk_27 (dk_at dksX2_rowAt_0 6 rfl rfl)
theorem dX2_rowAt_7 : decode cX2_rowAt 7 = .ok (.imul, 1) := dk_104 (dk_at dksX2_rowAt_0 7 rfl rfl)
theorem dX2_rowAt_8 : decode cX2_rowAt 8 = .ok (.iload_n 2, 1) := dk_28 (dk_at dksX2_rowAt_0 8 rfl rfl)
theorem dX2_rowAt_9 : decode cX2_rowAt 9 = .ok (.iadd, 1) := dk_96 (dk_at dksX2_rowAt_0 9 rfl rfl)
theorem dX2_rowAt_10 : decode cX2_rowAt 10 = .ok (.iaload, 1) := dk_46 (dk_at dksX2_rowAt_0 10 rfl rfl)
theorem dX2_rowAt_11 : decode cX2_rowAt 11 = .ok (.ireturn, 1) := dk_172 (dk_at dksX2_rowAt_0 11 rfl rfl)
abbrev cX2_tells : ByteArray := prog_13_method_5_code
def yX2_tells : MethodName := ⟨RX2, "tells", "(II)I"⟩
def dkwX2_tells_0 : List UInt8 := [42, 27, 181, 0, 72, 28, 172]
abbrev dktX2_tells_0 : List UInt8 := dkwX2_tells_0 ++ []
theorem dksX2_tells_0 : cX2_tells.data.toList.drop 0 = dktX2_tells_0 := by decide +kernel
theorem dX2_tells_0 : decode cX2_tells 0 = .ok (.aload_n 0, 1) := dk_42 (dk_at dksX2_tells_0 0 rfl rfl)
theorem dX2_tells_1 : decode cX2_tells 1 = .ok (.iload_n 1, 1) := dk_27 (dk_at dksX2_tells_0 1 rfl rfl)
theorem dX2_tells_2 : decode cX2_tells 2 = .ok (.putfield 72, 3) := dk_181 0 72 (dk_at dksX2_tells_0 2 rfl rfl)
theorem dX2_tells_5 : decode cX2_tells 5 = .ok (.iload_n 2, 1) := dk_28 (dk_at dksX2_tells_0 5 rfl rfl)
theorem dX2_tells_6 : decode cX2_tells 6 = .ok (.ireturn, 1) := dk_172 (dk_at dksX2_tells_0 6 rfl rfl)
abbrev cX2_at : ByteArray := prog_13_method_13_code
def yX2_at : MethodName := ⟨RX2, "at", "(II)I"⟩
def dkwX2_at_2 : List UInt8 := [182, 0, 91, 167, 0, 8, 42, 5, 182, 0, 83, 172]
abbrev dktX2_at_2 : List UInt8 := dkwX2_at_2 ++ []
def dkwX2_at_1 : List UInt8 := [28, 3, 42, 180, 0, 13, 27, 46, 4, 100, 184, 0, 75, 153, 0, 17, 42, 42, 27, 28, 182, 0, 87, 4]
abbrev dktX2_at_1 : List UInt8 := dkwX2_at_1 ++ dktX2_at_2
def dkwX2_at_0 : List UInt8 := [27, 184, 0, 79, 154, 0, 5, 2, 172, 42, 180, 0, 13, 27, 46, 156, 0, 9, 42, 4, 182, 0, 83, 172]
abbrev dktX2_at_0 : List UInt8 := dkwX2_at_0 ++ dktX2_at_1
theorem dksX2_at_0 : cX2_at.data.toList.drop 0 = dktX2_at_0 := by decide +kernel
theorem dksX2_at_1 : cX2_at.data.toList.drop 24 = dktX2_at_1 := dk_seg dksX2_at_0 24 rfl rfl
theorem dksX2_at_2 : cX2_at.data.toList.drop 48 = dktX2_at_2 := dk_seg dksX2_at_1 24 rfl rfl
theorem dX2_at_0 : decode cX2_at 0 = .ok (.iload_n 1, 1) := dk_27 (dk_at dksX2_at_0 0 rfl rfl)
theorem dX2_at_1 : decode cX2_at 1 = .ok (.invokestatic 79, 3) := dk_184 0 79 (dk_at dksX2_at_0 1 rfl rfl)
theorem dX2_at_4 : decode cX2_at 4 = .ok (.ifCond .ne 5, 3) := dk_154 0 5 (dk_at dksX2_at_0 4 rfl rfl)
theorem dX2_at_7 : decode cX2_at 7 = .ok (.iconst (-1), 1) := dk_2 (dk_at dksX2_at_0 7 rfl rfl)
theorem dX2_at_8 : decode cX2_at 8 = .ok (.ireturn, 1) := dk_172 (dk_at dksX2_at_0 8 rfl rfl)
theorem dX2_at_9 : decode cX2_at 9 = .ok (.aload_n 0, 1) := dk_42 (dk_at dksX2_at_0 9 rfl rfl)
theorem dX2_at_10 : decode cX2_at 10 = .ok (.getfield 13, 3) := dk_180 0 13 (dk_at dksX2_at_0 10 rfl rfl)
theorem dX2_at_13 : decode cX2_at 13 = .ok (.iload_n 1, 1) := dk_27 (dk_at dksX2_at_0 13 rfl rfl)
theorem dX2_at_14 : decode cX2_at 14 = .ok (.iaload, 1) := dk_46 (dk_at dksX2_at_0 14 rfl rfl)
theorem dX2_at_15 : decode cX2_at 15 = .ok (.ifCond .ge 9, 3) := dk_156 0 9 (dk_at dksX2_at_0 15 rfl rfl)
theorem dX2_at_18 : decode cX2_at 18 = .ok (.aload_n 0, 1) := dk_42 (dk_at dksX2_at_0 18 rfl rfl)
theorem dX2_at_19 : decode cX2_at 19 = .ok (.iconst 1, 1) := dk_4 (dk_at dksX2_at_0 19 rfl rfl)
theorem dX2_at_20 : decode cX2_at 20 = .ok (.invokevirtual 83, 3) := dk_182 0 83 (dk_at dksX2_at_0 20 rfl rfl)
theorem dX2_at_23 : decode cX2_at 23 = .ok (.ireturn, 1) := dk_172 (dk_at dksX2_at_0 23 rfl rfl)
theorem dX2_at_24 : decode cX2_at 24 = .ok (.iload_n 2, 1) := dk_28 (dk_at dksX2_at_1 0 rfl rfl)
theorem dX2_at_25 : decode cX2_at 25 = .ok (.iconst 0, 1) := dk_3 (dk_at dksX2_at_1 1 rfl rfl)
theorem dX2_at_26 : decode cX2_at 26 = .ok (.aload_n 0, 1) := dk_42 (dk_at dksX2_at_1 2 rfl rfl)
theorem dX2_at_27 : decode cX2_at 27 = .ok (.getfield 13, 3) := dk_180 0 13 (dk_at dksX2_at_1 3 rfl rfl)
theorem dX2_at_30 : decode cX2_at 30 = .ok (.iload_n 1, 1) := dk_27 (dk_at dksX2_at_1 6 rfl rfl)
theorem dX2_at_31 : decode cX2_at 31 = .ok (.iaload, 1) := dk_46 (dk_at dksX2_at_1 7 rfl rfl)
theorem dX2_at_32 : decode cX2_at 32 = .ok (.iconst 1, 1) := dk_4 (dk_at dksX2_at_1 8 rfl rfl)
theorem dX2_at_33 : decode cX2_at 33 = .ok (.isub, 1) := dk_100 (dk_at dksX2_at_1 9 rfl rfl)
theorem dX2_at_34 : decode cX2_at 34 = .ok (.invokestatic 75, 3) := dk_184 0 75 (dk_at dksX2_at_1 10 rfl rfl)
theorem dX2_at_37 : decode cX2_at 37 = .ok (.ifCond .eq 17, 3) := dk_153 0 17 (dk_at dksX2_at_1 13 rfl rfl)
theorem dX2_at_40 : decode cX2_at 40 = .ok (.aload_n 0, 1) := dk_42 (dk_at dksX2_at_1 16 rfl rfl)
theorem dX2_at_41 : decode cX2_at 41 = .ok (.aload_n 0, 1) := dk_42 (dk_at dksX2_at_1 17 rfl rfl)
theorem dX2_at_42 : decode cX2_at 42 = .ok (.iload_n 1, 1) := dk_27 (dk_at dksX2_at_1 18 rfl rfl)
theorem dX2_at_43 : decode cX2_at 43 = .ok (.iload_n 2, 1) := dk_28 (dk_at dksX2_at_1 19 rfl rfl)
theorem dX2_at_44 : decode cX2_at 44 = .ok (.invokevirtual 87, 3) := dk_182 0 87 (dk_at dksX2_at_1 20 rfl rfl)
theorem dX2_at_47 : decode cX2_at 47 = .ok (.iconst 1, 1) := dk_4 (dk_at dksX2_at_1 23 rfl rfl)
theorem dX2_at_48 : decode cX2_at 48 = .ok (.invokevirtual 91, 3) := dk_182 0 91 (dk_at dksX2_at_2 0 rfl rfl)
theorem dX2_at_51 : decode cX2_at 51 = .ok (.goto 8, 3) := dk_167 0 8 (dk_at dksX2_at_2 3 rfl rfl)
theorem dX2_at_54 : decode cX2_at 54 = .ok (.aload_n 0, 1) := dk_42 (dk_at dksX2_at_2 6 rfl rfl)
theorem dX2_at_55 : decode cX2_at 55 = .ok (.iconst 2, 1) := dk_5 (dk_at dksX2_at_2 7 rfl rfl)
theorem dX2_at_56 : decode cX2_at 56 = .ok (.invokevirtual 83, 3) := dk_182 0 83 (dk_at dksX2_at_2 8 rfl rfl)
theorem dX2_at_59 : decode cX2_at 59 = .ok (.ireturn, 1) := dk_172 (dk_at dksX2_at_2 11 rfl rfl)
abbrev cX2_tear : ByteArray := prog_13_method_14_code
def yX2_tear : MethodName := ⟨RX2, "tear", "(I)I"⟩
def dkwX2_tear_1 : List UInt8 := [42, 180, 0, 13, 27, 2, 79, 4, 172]
abbrev dktX2_tear_1 : List UInt8 := dkwX2_tear_1 ++ []
def dkwX2_tear_0 : List UInt8 := [27, 184, 0, 79, 154, 0, 5, 2, 172, 42, 180, 0, 13, 27, 46, 156, 0, 9, 42, 4, 182, 0, 83, 172]
abbrev dktX2_tear_0 : List UInt8 := dkwX2_tear_0 ++ dktX2_tear_1
theorem dksX2_tear_0 : cX2_tear.data.toList.drop 0 = dktX2_tear_0 := by decide +kernel
theorem dksX2_tear_1 : cX2_tear.data.toList.drop 24 = dktX2_tear_1 := dk_seg dksX2_tear_0 24 rfl rfl
theorem dX2_tear_0 : decode cX2_tear 0 = .ok (.iload_n 1, 1) := dk_27 (dk_at dksX2_tear_0 0 rfl rfl)
theorem dX2_tear_1 : decode cX2_tear 1 = .ok (.invokestatic 79, 3) := dk_184 0 79 (dk_at dksX2_tear_0 1 rfl rfl)
theorem dX2_tear_4 : decode cX2_tear 4 = .ok (.ifCond .ne 5, 3) := dk_154 0 5 (dk_at dksX2_tear_0 4 rfl rfl)
theorem dX2_tear_7 : decode cX2_tear 7 = .ok (.iconst (-1), 1) := dk_2 (dk_at dksX2_tear_0 7 rfl rfl)
theorem dX2_tear_8 : decode cX2_tear 8 = .ok (.ireturn, 1) := dk_172 (dk_at dksX2_tear_0 8 rfl rfl)
theorem dX2_tear_9 : decode cX2_tear 9 = .ok (.aload_n 0, 1) := dk_42 (dk_at dksX2_tear_0 9 rfl rfl)
theorem dX2_tear_10 : decode cX2_tear 10 = .ok (.getfield 13, 3) := dk_180 0 13 (dk_at dksX2_tear_0 10 rfl rfl)
theorem dX2_tear_13 : decode cX2_tear 13 = .ok (.iload_n 1, 1) := dk_27 (dk_at dksX2_tear_0 13 rfl rfl)
theorem dX2_tear_14 : decode cX2_tear 14 = .ok (.iaload, 1) := dk_46 (dk_at dksX2_tear_0 14 rfl rfl)
theorem dX2_tear_15 : decode cX2_tear 15 = .ok (.ifCond .ge 9, 3) := dk_156 0 9 (dk_at dksX2_tear_0 15 rfl rfl)
theorem dX2_tear_18 : decode cX2_tear 18 = .ok (.aload_n 0, 1) := dk_42 (dk_at dksX2_tear_0 18 rfl rfl)
theorem dX2_tear_19 : decode cX2_tear 19 = .ok (.iconst 1, 1) := dk_4 (dk_at dksX2_tear_0 19 rfl rfl)
theorem dX2_tear_20 : decode cX2_tear 20 = .ok (.invokevirtual 83, 3) := dk_182 0 83 (dk_at dksX2_tear_0 20 rfl rfl)
theorem dX2_tear_23 : decode cX2_tear 23 = .ok (.ireturn, 1) := dk_172 (dk_at dksX2_tear_0 23 rfl rfl)
theorem dX2_tear_24 : decode cX2_tear 24 = .ok (.aload_n 0, 1) := dk_42 (dk_at dksX2_tear_1 0 rfl rfl)
theorem dX2_tear_25 : decode cX2_tear 25 = .ok (.getfield 13, 3) := dk_180 0 13 (dk_at dksX2_tear_1 1 rfl rfl)
theorem dX2_tear_28 : decode cX2_tear 28 = .ok (.iload_n 1, 1) := dk_27 (dk_at dksX2_tear_1 4 rfl rfl)
theorem dX2_tear_29 : decode cX2_tear 29 = .ok (.iconst (-1), 1) := dk_2 (dk_at dksX2_tear_1 5 rfl rfl)
theorem dX2_tear_30 : decode cX2_tear 30 = .ok (.iastore, 1) := dk_79 (dk_at dksX2_tear_1 6 rfl rfl)
theorem dX2_tear_31 : decode cX2_tear 31 = .ok (.iconst 1, 1) := dk_4 (dk_at dksX2_tear_1 7 rfl rfl)
theorem dX2_tear_32 : decode cX2_tear 32 = .ok (.ireturn, 1) := dk_172 (dk_at dksX2_tear_1 8 rfl rfl)
abbrev cX2_copy : ByteArray := prog_13_method_15_code
def yX2_copy : MethodName := ⟨RX2, "copy", "(IIIII)I"⟩
def dkwX2_copy_7 : List UInt8 := [132, 6, 1, 167, 255, 224, 4, 172]
abbrev dktX2_copy_7 : List UInt8 := dkwX2_copy_7 ++ []
def dkwX2_copy_6 : List UInt8 := [42, 180, 0, 16, 16, 40, 29, 104, 21, 4, 96, 21, 6, 96, 42, 180, 0, 19, 21, 6, 46, 79]
abbrev dktX2_copy_6 : List UInt8 := dkwX2_copy_6 ++ dktX2_copy_7
def dkwX2_copy_5 : List UInt8 := [28, 21, 6, 96, 182, 0, 87, 79, 132, 6, 1, 167, 255, 230, 3, 54, 6, 21, 6, 21, 5, 162, 0, 31]
abbrev dktX2_copy_5 : List UInt8 := dkwX2_copy_5 ++ dktX2_copy_6
def dkwX2_copy_4 : List UInt8 := [42, 5, 182, 0, 83, 172, 3, 54, 6, 21, 6, 21, 5, 162, 0, 25, 42, 180, 0, 19, 21, 6, 42, 27]
abbrev dktX2_copy_4 : List UInt8 := dkwX2_copy_4 ++ dktX2_copy_5
def dkwX2_copy_3 : List UInt8 := [46, 133, 148, 157, 0, 21, 21, 4, 133, 21, 5, 133, 97, 42, 180, 0, 13, 29, 46, 133, 148, 158, 0, 9]
abbrev dktX2_copy_3 : List UInt8 := dkwX2_copy_3 ++ dktX2_copy_4
def dkwX2_copy_2 : List UInt8 := [182, 0, 83, 172, 28, 155, 0, 43, 21, 4, 155, 0, 38, 28, 133, 21, 5, 133, 97, 42, 180, 0, 13, 27]
abbrev dktX2_copy_2 : List UInt8 := dkwX2_copy_2 ++ dktX2_copy_3
def dkwX2_copy_1 : List UInt8 := [182, 0, 83, 172, 42, 180, 0, 13, 27, 46, 155, 0, 12, 42, 180, 0, 13, 29, 46, 156, 0, 9, 42, 4]
abbrev dktX2_copy_1 : List UInt8 := dkwX2_copy_1 ++ dktX2_copy_2
def dkwX2_copy_0 : List UInt8 := [27, 184, 0, 79, 153, 0, 10, 29, 184, 0, 79, 154, 0, 5, 2, 172, 21, 5, 156, 0, 9, 42, 8]
abbrev dktX2_copy_0 : List UInt8 := dkwX2_copy_0 ++ dktX2_copy_1
theorem dksX2_copy_0 : cX2_copy.data.toList.drop 0 = dktX2_copy_0 := by decide +kernel
theorem dksX2_copy_1 : cX2_copy.data.toList.drop 23 = dktX2_copy_1 := dk_seg dksX2_copy_0 23 rfl rfl
theorem dksX2_copy_2 : cX2_copy.data.toList.drop 47 = dktX2_copy_2 := dk_seg dksX2_copy_1 24 rfl rfl
theorem dksX2_copy_3 : cX2_copy.data.toList.drop 71 = dktX2_copy_3 := dk_seg dksX2_copy_2 24 rfl rfl
theorem dksX2_copy_4 : cX2_copy.data.toList.drop 95 = dktX2_copy_4 := dk_seg dksX2_copy_3 24 rfl rfl
theorem dksX2_copy_5 : cX2_copy.data.toList.drop 119 = dktX2_copy_5 := dk_seg dksX2_copy_4 24 rfl rfl
theorem dksX2_copy_6 : cX2_copy.data.toList.drop 143 = dktX2_copy_6 := dk_seg dksX2_copy_5 24 rfl rfl
theorem dksX2_copy_7 : cX2_copy.data.toList.drop 165 = dktX2_copy_7 := dk_seg dksX2_copy_6 22 rfl rfl
theorem dX2_copy_0 : decode cX2_copy 0 = .ok (.iload_n 1, 1) := dk_27 (dk_at dksX2_copy_0 0 rfl rfl)
theorem dX2_copy_1 : decode cX2_copy 1 = .ok (.invokestatic 79, 3) := dk_184 0 79 (dk_at dksX2_copy_0 1 rfl rfl)
theorem dX2_copy_4 : decode cX2_copy 4 = .ok (.ifCond .eq 10, 3) := dk_153 0 10 (dk_at dksX2_copy_0 4 rfl rfl)
theorem dX2_copy_7 : decode cX2_copy 7 = .ok (.iload_n 3, 1) := dk_29 (dk_at dksX2_copy_0 7 rfl rfl)
theorem dX2_copy_8 : decode cX2_copy 8 = .ok (.invokestatic 79, 3) := dk_184 0 79 (dk_at dksX2_copy_0 8 rfl rfl)
theorem dX2_copy_11 : decode cX2_copy 11 = .ok (.ifCond .ne 5, 3) := dk_154 0 5 (dk_at dksX2_copy_0 11 rfl rfl)
theorem dX2_copy_14 : decode cX2_copy 14 = .ok (.iconst (-1), 1) := dk_2 (dk_at dksX2_copy_0 14 rfl rfl)
theorem dX2_copy_15 : decode cX2_copy 15 = .ok (.ireturn, 1) := dk_172 (dk_at dksX2_copy_0 15 rfl rfl)
theorem dX2_copy_16 : decode cX2_copy 16 = .ok (.iload 5, 2) := dk_21 5 (dk_at dksX2_copy_0 16 rfl rfl)
theorem dX2_copy_18 : decode cX2_copy 18 = .ok (.ifCond .ge 9, 3) := dk_156 0 9 (dk_at dksX2_copy_0 18 rfl rfl)
theorem dX2_copy_21 : decode cX2_copy 21 = .ok (.aload_n 0, 1) := dk_42 (dk_at dksX2_copy_0 21 rfl rfl)
theorem dX2_copy_22 : decode cX2_copy 22 = .ok (.iconst 5, 1) := dk_8 (dk_at dksX2_copy_0 22 rfl rfl)
theorem dX2_copy_23 : decode cX2_copy 23 = .ok (.invokevirtual 83, 3) := dk_182 0 83 (dk_at dksX2_copy_1 0 rfl rfl)
theorem dX2_copy_26 : decode cX2_copy 26 = .ok (.ireturn, 1) := dk_172 (dk_at dksX2_copy_1 3 rfl rfl)
theorem dX2_copy_27 : decode cX2_copy 27 = .ok (.aload_n 0, 1) := dk_42 (dk_at dksX2_copy_1 4 rfl rfl)
theorem dX2_copy_28 : decode cX2_copy 28 = .ok (.getfield 13, 3) := dk_180 0 13 (dk_at dksX2_copy_1 5 rfl rfl)
theorem dX2_copy_31 : decode cX2_copy 31 = .ok (.iload_n 1, 1) := dk_27 (dk_at dksX2_copy_1 8 rfl rfl)
theorem dX2_copy_32 : decode cX2_copy 32 = .ok (.iaload, 1) := dk_46 (dk_at dksX2_copy_1 9 rfl rfl)
theorem dX2_copy_33 : decode cX2_copy 33 = .ok (.ifCond .lt 12, 3) := dk_155 0 12 (dk_at dksX2_copy_1 10 rfl rfl)
theorem dX2_copy_36 : decode cX2_copy 36 = .ok (.aload_n 0, 1) := dk_42 (dk_at dksX2_copy_1 13 rfl rfl)
theorem dX2_copy_37 : decode cX2_copy 37 = .ok (.getfield 13, 3) := dk_180 0 13 (dk_at dksX2_copy_1 14 rfl rfl)
theorem dX2_copy_40 : decode cX2_copy 40 = .ok (.iload_n 3, 1) := dk_29 (dk_at dksX2_copy_1 17 rfl rfl)
theorem dX2_copy_41 : decode cX2_copy 41 = .ok (.iaload, 1) := dk_46 (dk_at dksX2_copy_1 18 rfl rfl)
theorem dX2_copy_42 : decode cX2_copy 42 = .ok (.ifCond .ge 9, 3) := dk_156 0 9 (dk_at dksX2_copy_1 19 rfl rfl)
theorem dX2_copy_45 : decode cX2_copy 45 = .ok (.aload_n 0, 1) := dk_42 (dk_at dksX2_copy_1 22 rfl rfl)
theorem dX2_copy_46 : decode cX2_copy 46 = .ok (.iconst 1, 1) := dk_4 (dk_at dksX2_copy_1 23 rfl rfl)
theorem dX2_copy_47 : decode cX2_copy 47 = .ok (.invokevirtual 83, 3) := dk_182 0 83 (dk_at dksX2_copy_2 0 rfl rfl)
theorem dX2_copy_50 : decode cX2_copy 50 = .ok (.ireturn, 1) := dk_172 (dk_at dksX2_copy_2 3 rfl rfl)
theorem dX2_copy_51 : decode cX2_copy 51 = .ok (.iload_n 2, 1) := dk_28 (dk_at dksX2_copy_2 4 rfl rfl)
theorem dX2_copy_52 : decode cX2_copy 52 = .ok (.ifCond .lt 43, 3) := dk_155 0 43 (dk_at dksX2_copy_2 5 rfl rfl)
theorem dX2_copy_55 : decode cX2_copy 55 = .ok (.iload 4, 2) := dk_21 4 (dk_at dksX2_copy_2 8 rfl rfl)
theorem dX2_copy_57 : decode cX2_copy 57 = .ok (.ifCond .lt 38, 3) := dk_155 0 38 (dk_at dksX2_copy_2 10 rfl rfl)
theorem dX2_copy_60 : decode cX2_copy 60 = .ok (.iload_n 2, 1) := dk_28 (dk_at dksX2_copy_2 13 rfl rfl)
theorem dX2_copy_61 : decode cX2_copy 61 = .ok (.i2l, 1) := dk_133 (dk_at dksX2_copy_2 14 rfl rfl)
theorem dX2_copy_62 : decode cX2_copy 62 = .ok (.iload 5, 2) := dk_21 5 (dk_at dksX2_copy_2 15 rfl rfl)
theorem dX2_copy_64 : decode cX2_copy 64 = .ok (.i2l, 1) := dk_133 (dk_at dksX2_copy_2 17 rfl rfl)
theorem dX2_copy_65 : decode cX2_copy 65 = .ok (.ladd, 1) := dk_97 (dk_at dksX2_copy_2 18 rfl rfl)
theorem dX2_copy_66 : decode cX2_copy 66 = .ok (.aload_n 0, 1) := dk_42 (dk_at dksX2_copy_2 19 rfl rfl)
theorem dX2_copy_67 : decode cX2_copy 67 = .ok (.getfield 13, 3) := dk_180 0 13 (dk_at dksX2_copy_2 20 rfl rfl)
theorem dX2_copy_70 : decode cX2_copy 70 = .ok (.iload_n 1, 1) := dk_27 (dk_at dksX2_copy_2 23 rfl rfl)
theorem dX2_copy_71 : decode cX2_copy 71 = .ok (.iaload, 1) := dk_46 (dk_at dksX2_copy_3 0 rfl rfl)
theorem dX2_copy_72 : decode cX2_copy 72 = .ok (.i2l, 1) := dk_133 (dk_at dksX2_copy_3 1 rfl rfl)
theorem dX2_copy_73 : decode cX2_copy 73 = .ok (.lcmp, 1) := dk_148 (dk_at dksX2_copy_3 2 rfl rfl)
theorem dX2_copy_74 : decode cX2_copy 74 = .ok (.ifCond .gt 21, 3) := dk_157 0 21 (dk_at dksX2_copy_3 3 rfl rfl)
theorem dX2_copy_77 : decode cX2_copy 77 = .ok (.iload 4, 2) := dk_21 4 (dk_at dksX2_copy_3 6 rfl rfl)
theorem dX2_copy_79 : decode cX2_copy 79 = .ok (.i2l, 1) := dk_133 (dk_at dksX2_copy_3 8 rfl rfl)
theorem dX2_copy_80 : decode cX2_copy 80 = .ok (.iload 5, 2) := dk_21 5 (dk_at dksX2_copy_3 9 rfl rfl)
theorem dX2_copy_82 : decode cX2_copy 82 = .ok (.i2l, 1) := dk_133 (dk_at dksX2_copy_3 11 rfl rfl)
theorem dX2_copy_83 : decode cX2_copy 83 = .ok (.ladd, 1) := dk_97 (dk_at dksX2_copy_3 12 rfl rfl)
theorem dX2_copy_84 : decode cX2_copy 84 = .ok (.aload_n 0, 1) := dk_42 (dk_at dksX2_copy_3 13 rfl rfl)
theorem dX2_copy_85 : decode cX2_copy 85 = .ok (.getfield 13, 3) := dk_180 0 13 (dk_at dksX2_copy_3 14 rfl rfl)
theorem dX2_copy_88 : decode cX2_copy 88 = .ok (.iload_n 3, 1) := dk_29 (dk_at dksX2_copy_3 17 rfl rfl)
theorem dX2_copy_89 : decode cX2_copy 89 = .ok (.iaload, 1) := dk_46 (dk_at dksX2_copy_3 18 rfl rfl)
theorem dX2_copy_90 : decode cX2_copy 90 = .ok (.i2l, 1) := dk_133 (dk_at dksX2_copy_3 19 rfl rfl)
theorem dX2_copy_91 : decode cX2_copy 91 = .ok (.lcmp, 1) := dk_148 (dk_at dksX2_copy_3 20 rfl rfl)
theorem dX2_copy_92 : decode cX2_copy 92 = .ok (.ifCond .le 9, 3) := dk_158 0 9 (dk_at dksX2_copy_3 21 rfl rfl)
theorem dX2_copy_95 : decode cX2_copy 95 = .ok (.aload_n 0, 1) := dk_42 (dk_at dksX2_copy_4 0 rfl rfl)
theorem dX2_copy_96 : decode cX2_copy 96 = .ok (.iconst 2, 1) := dk_5 (dk_at dksX2_copy_4 1 rfl rfl)
theorem dX2_copy_97 : decode cX2_copy 97 = .ok (.invokevirtual 83, 3) := dk_182 0 83 (dk_at dksX2_copy_4 2 rfl rfl)
theorem dX2_copy_100 : decode cX2_copy 100 = .ok (.ireturn, 1) := dk_172 (dk_at dksX2_copy_4 5 rfl rfl)
theorem dX2_copy_101 : decode cX2_copy 101 = .ok (.iconst 0, 1) := dk_3 (dk_at dksX2_copy_4 6 rfl rfl)
theorem dX2_copy_102 : decode cX2_copy 102 = .ok (.istore 6, 2) := dk_54 6 (dk_at dksX2_copy_4 7 rfl rfl)
theorem dX2_copy_104 : decode cX2_copy 104 = .ok (.iload 6, 2) := dk_21 6 (dk_at dksX2_copy_4 9 rfl rfl)
theorem dX2_copy_106 : decode cX2_copy 106 = .ok (.iload 5, 2) := dk_21 5 (dk_at dksX2_copy_4 11 rfl rfl)
theorem dX2_copy_108 : decode cX2_copy 108 = .ok (.if_icmp .ge 25, 3) := dk_162 0 25 (dk_at dksX2_copy_4 13 rfl rfl)
theorem dX2_copy_111 : decode cX2_copy 111 = .ok (.aload_n 0, 1) := dk_42 (dk_at dksX2_copy_4 16 rfl rfl)
theorem dX2_copy_112 : decode cX2_copy 112 = .ok (.getfield 19, 3) := dk_180 0 19 (dk_at dksX2_copy_4 17 rfl rfl)
theorem dX2_copy_115 : decode cX2_copy 115 = .ok (.iload 6, 2) := dk_21 6 (dk_at dksX2_copy_4 20 rfl rfl)
theorem dX2_copy_117 : decode cX2_copy 117 = .ok (.aload_n 0, 1) := dk_42 (dk_at dksX2_copy_4 22 rfl rfl)
theorem dX2_copy_118 : decode cX2_copy 118 = .ok (.iload_n 1, 1) := dk_27 (dk_at dksX2_copy_4 23 rfl rfl)
theorem dX2_copy_119 : decode cX2_copy 119 = .ok (.iload_n 2, 1) := dk_28 (dk_at dksX2_copy_5 0 rfl rfl)
theorem dX2_copy_120 : decode cX2_copy 120 = .ok (.iload 6, 2) := dk_21 6 (dk_at dksX2_copy_5 1 rfl rfl)
theorem dX2_copy_122 : decode cX2_copy 122 = .ok (.iadd, 1) := dk_96 (dk_at dksX2_copy_5 3 rfl rfl)
theorem dX2_copy_123 : decode cX2_copy 123 = .ok (.invokevirtual 87, 3) := dk_182 0 87 (dk_at dksX2_copy_5 4 rfl rfl)
theorem dX2_copy_126 : decode cX2_copy 126 = .ok (.iastore, 1) := dk_79 (dk_at dksX2_copy_5 7 rfl rfl)
theorem dX2_copy_127 : decode cX2_copy 127 = .ok (.iinc 6 1, 3) := dk_132 6 1 (dk_at dksX2_copy_5 8 rfl rfl)
theorem dX2_copy_130 : decode cX2_copy 130 = .ok (.goto (-26), 3) := dk_167 255 230 (dk_at dksX2_copy_5 11 rfl rfl)
theorem dX2_copy_133 : decode cX2_copy 133 = .ok (.iconst 0, 1) := dk_3 (dk_at dksX2_copy_5 14 rfl rfl)
theorem dX2_copy_134 : decode cX2_copy 134 = .ok (.istore 6, 2) := dk_54 6 (dk_at dksX2_copy_5 15 rfl rfl)
theorem dX2_copy_136 : decode cX2_copy 136 = .ok (.iload 6, 2) := dk_21 6 (dk_at dksX2_copy_5 17 rfl rfl)
theorem dX2_copy_138 : decode cX2_copy 138 = .ok (.iload 5, 2) := dk_21 5 (dk_at dksX2_copy_5 19 rfl rfl)
theorem dX2_copy_140 : decode cX2_copy 140 = .ok (.if_icmp .ge 31, 3) := dk_162 0 31 (dk_at dksX2_copy_5 21 rfl rfl)
theorem dX2_copy_143 : decode cX2_copy 143 = .ok (.aload_n 0, 1) := dk_42 (dk_at dksX2_copy_6 0 rfl rfl)
theorem dX2_copy_144 : decode cX2_copy 144 = .ok (.getfield 16, 3) := dk_180 0 16 (dk_at dksX2_copy_6 1 rfl rfl)
theorem dX2_copy_147 : decode cX2_copy 147 = .ok (.bipush 40, 2) := dk_16 40 (dk_at dksX2_copy_6 4 rfl rfl)
theorem dX2_copy_149 : decode cX2_copy 149 = .ok (.iload_n 3, 1) := dk_29 (dk_at dksX2_copy_6 6 rfl rfl)
theorem dX2_copy_150 : decode cX2_copy 150 = .ok (.imul, 1) := dk_104 (dk_at dksX2_copy_6 7 rfl rfl)
theorem dX2_copy_151 : decode cX2_copy 151 = .ok (.iload 4, 2) := dk_21 4 (dk_at dksX2_copy_6 8 rfl rfl)
theorem dX2_copy_153 : decode cX2_copy 153 = .ok (.iadd, 1) := dk_96 (dk_at dksX2_copy_6 10 rfl rfl)
theorem dX2_copy_154 : decode cX2_copy 154 = .ok (.iload 6, 2) := dk_21 6 (dk_at dksX2_copy_6 11 rfl rfl)
theorem dX2_copy_156 : decode cX2_copy 156 = .ok (.iadd, 1) := dk_96 (dk_at dksX2_copy_6 13 rfl rfl)
theorem dX2_copy_157 : decode cX2_copy 157 = .ok (.aload_n 0, 1) := dk_42 (dk_at dksX2_copy_6 14 rfl rfl)
theorem dX2_copy_158 : decode cX2_copy 158 = .ok (.getfield 19, 3) := dk_180 0 19 (dk_at dksX2_copy_6 15 rfl rfl)
theorem dX2_copy_161 : decode cX2_copy 161 = .ok (.iload 6, 2) := dk_21 6 (dk_at dksX2_copy_6 18 rfl rfl)
theorem dX2_copy_163 : decode cX2_copy 163 = .ok (.iaload, 1) := dk_46 (dk_at dksX2_copy_6 20 rfl rfl)
theorem dX2_copy_164 : decode cX2_copy 164 = .ok (.iastore, 1) := dk_79 (dk_at dksX2_copy_6 21 rfl rfl)
theorem dX2_copy_165 : decode cX2_copy 165 = .ok (.iinc 6 1, 3) := dk_132 6 1 (dk_at dksX2_copy_7 0 rfl rfl)
theorem dX2_copy_168 : decode cX2_copy 168 = .ok (.goto (-32), 3) := dk_167 255 224 (dk_at dksX2_copy_7 3 rfl rfl)
theorem dX2_copy_171 : decode cX2_copy 171 = .ok (.iconst 1, 1) := dk_4 (dk_at dksX2_copy_7 6 rfl rfl)
theorem dX2_copy_172 : decode cX2_copy 172 = .ok (.ireturn, 1) := dk_172 (dk_at dksX2_copy_7 7 rfl rfl)
abbrev cX2_mean : ByteArray := prog_13_method_16_code
def yX2_mean : MethodName := ⟨RX2, "mean", "(I)I"⟩
def dkwX2_mean_3 : List UInt8 := [167, 255, 231, 42, 32, 42, 180, 0, 13, 27, 46, 133, 109, 136, 4, 182, 0, 91, 172]
abbrev dktX2_mean_3 : List UInt8 := dkwX2_mean_3 ++ []
def dkwX2_mean_2 : List UInt8 := [180, 0, 13, 27, 46, 162, 0, 20, 32, 42, 27, 21, 4, 182, 0, 87, 133, 97, 65, 132, 4, 1]
abbrev dktX2_mean_2 : List UInt8 := dkwX2_mean_2 ++ dktX2_mean_3
def dkwX2_mean_1 : List UInt8 := [42, 180, 0, 13, 27, 46, 154, 0, 9, 42, 7, 182, 0, 83, 172, 9, 65, 3, 54, 4, 21, 4, 42]
abbrev dktX2_mean_1 : List UInt8 := dkwX2_mean_1 ++ dktX2_mean_2
def dkwX2_mean_0 : List UInt8 := [27, 184, 0, 79, 154, 0, 5, 2, 172, 42, 180, 0, 13, 27, 46, 156, 0, 9, 42, 4, 182, 0, 83, 172]
abbrev dktX2_mean_0 : List UInt8 := dkwX2_mean_0 ++ dktX2_mean_1
theorem dksX2_mean_0 : cX2_mean.data.toList.drop 0 = dktX2_mean_0 := by decide +kernel
theorem dksX2_mean_1 : cX2_mean.data.toList.drop 24 = dktX2_mean_1 := dk_seg dksX2_mean_0 24 rfl rfl
theorem dksX2_mean_2 : cX2_mean.data.toList.drop 47 = dktX2_mean_2 := dk_seg dksX2_mean_1 23 rfl rfl
theorem dksX2_mean_3 : cX2_mean.data.toList.drop 69 = dktX2_mean_3 := dk_seg dksX2_mean_2 22 rfl rfl
theorem dX2_mean_0 : decode cX2_mean 0 = .ok (.iload_n 1, 1) := dk_27 (dk_at dksX2_mean_0 0 rfl rfl)
theorem dX2_mean_1 : decode cX2_mean 1 = .ok (.invokestatic 79, 3) := dk_184 0 79 (dk_at dksX2_mean_0 1 rfl rfl)
theorem dX2_mean_4 : decode cX2_mean 4 = .ok (.ifCond .ne 5, 3) := dk_154 0 5 (dk_at dksX2_mean_0 4 rfl rfl)
theorem dX2_mean_7 : decode cX2_mean 7 = .ok (.iconst (-1), 1) := dk_2 (dk_at dksX2_mean_0 7 rfl rfl)
theorem dX2_mean_8 : decode cX2_mean 8 = .ok (.ireturn, 1) := dk_172 (dk_at dksX2_mean_0 8 rfl rfl)
theorem dX2_mean_9 : decode cX2_mean 9 = .ok (.aload_n 0, 1) := dk_42 (dk_at dksX2_mean_0 9 rfl rfl)
theorem dX2_mean_10 : decode cX2_mean 10 = .ok (.getfield 13, 3) := dk_180 0 13 (dk_at dksX2_mean_0 10 rfl rfl)
theorem dX2_mean_13 : decode cX2_mean 13 = .ok (.iload_n 1, 1) := dk_27 (dk_at dksX2_mean_0 13 rfl rfl)
theorem dX2_mean_14 : decode cX2_mean 14 = .ok (.iaload, 1) := dk_46 (dk_at dksX2_mean_0 14 rfl rfl)
theorem dX2_mean_15 : decode cX2_mean 15 = .ok (.ifCond .ge 9, 3) := dk_156 0 9 (dk_at dksX2_mean_0 15 rfl rfl)
theorem dX2_mean_18 : decode cX2_mean 18 = .ok (.aload_n 0, 1) := dk_42 (dk_at dksX2_mean_0 18 rfl rfl)
theorem dX2_mean_19 : decode cX2_mean 19 = .ok (.iconst 1, 1) := dk_4 (dk_at dksX2_mean_0 19 rfl rfl)
theorem dX2_mean_20 : decode cX2_mean 20 = .ok (.invokevirtual 83, 3) := dk_182 0 83 (dk_at dksX2_mean_0 20 rfl rfl)
theorem dX2_mean_23 : decode cX2_mean 23 = .ok (.ireturn, 1) := dk_172 (dk_at dksX2_mean_0 23 rfl rfl)
theorem dX2_mean_24 : decode cX2_mean 24 = .ok (.aload_n 0, 1) := dk_42 (dk_at dksX2_mean_1 0 rfl rfl)
theorem dX2_mean_25 : decode cX2_mean 25 = .ok (.getfield 13, 3) := dk_180 0 13 (dk_at dksX2_mean_1 1 rfl rfl)
theorem dX2_mean_28 : decode cX2_mean 28 = .ok (.iload_n 1, 1) := dk_27 (dk_at dksX2_mean_1 4 rfl rfl)
theorem dX2_mean_29 : decode cX2_mean 29 = .ok (.iaload, 1) := dk_46 (dk_at dksX2_mean_1 5 rfl rfl)
theorem dX2_mean_30 : decode cX2_mean 30 = .ok (.ifCond .ne 9, 3) := dk_154 0 9 (dk_at dksX2_mean_1 6 rfl rfl)
theorem dX2_mean_33 : decode cX2_mean 33 = .ok (.aload_n 0, 1) := dk_42 (dk_at dksX2_mean_1 9 rfl rfl)
theorem dX2_mean_34 : decode cX2_mean 34 = .ok (.iconst 4, 1) := dk_7 (dk_at dksX2_mean_1 10 rfl rfl)
theorem dX2_mean_35 : decode cX2_mean 35 = .ok (.invokevirtual 83, 3) := dk_182 0 83 (dk_at dksX2_mean_1 11 rfl rfl)
theorem dX2_mean_38 : decode cX2_mean 38 = .ok (.ireturn, 1) := dk_172 (dk_at dksX2_mean_1 14 rfl rfl)
theorem dX2_mean_39 : decode cX2_mean 39 = .ok (.lconst 0, 1) := dk_9 (dk_at dksX2_mean_1 15 rfl rfl)
theorem dX2_mean_40 : decode cX2_mean 40 = .ok (.lstore_n 2, 1) := dk_65 (dk_at dksX2_mean_1 16 rfl rfl)
theorem dX2_mean_41 : decode cX2_mean 41 = .ok (.iconst 0, 1) := dk_3 (dk_at dksX2_mean_1 17 rfl rfl)
theorem dX2_mean_42 : decode cX2_mean 42 = .ok (.istore 4, 2) := dk_54 4 (dk_at dksX2_mean_1 18 rfl rfl)
theorem dX2_mean_44 : decode cX2_mean 44 = .ok (.iload 4, 2) := dk_21 4 (dk_at dksX2_mean_1 20 rfl rfl)
theorem dX2_mean_46 : decode cX2_mean 46 = .ok (.aload_n 0, 1) := dk_42 (dk_at dksX2_mean_1 22 rfl rfl)
theorem dX2_mean_47 : decode cX2_mean 47 = .ok (.getfield 13, 3) := dk_180 0 13 (dk_at dksX2_mean_2 0 rfl rfl)
theorem dX2_mean_50 : decode cX2_mean 50 = .ok (.iload_n 1, 1) := dk_27 (dk_at dksX2_mean_2 3 rfl rfl)
theorem dX2_mean_51 : decode cX2_mean 51 = .ok (.iaload, 1) := dk_46 (dk_at dksX2_mean_2 4 rfl rfl)
theorem dX2_mean_52 : decode cX2_mean 52 = .ok (.if_icmp .ge 20, 3) := dk_162 0 20 (dk_at dksX2_mean_2 5 rfl rfl)
theorem dX2_mean_55 : decode cX2_mean 55 = .ok (.lload_n 2, 1) := dk_32 (dk_at dksX2_mean_2 8 rfl rfl)
theorem dX2_mean_56 : decode cX2_mean 56 = .ok (.aload_n 0, 1) := dk_42 (dk_at dksX2_mean_2 9 rfl rfl)
theorem dX2_mean_57 : decode cX2_mean 57 = .ok (.iload_n 1, 1) := dk_27 (dk_at dksX2_mean_2 10 rfl rfl)
theorem dX2_mean_58 : decode cX2_mean 58 = .ok (.iload 4, 2) := dk_21 4 (dk_at dksX2_mean_2 11 rfl rfl)
theorem dX2_mean_60 : decode cX2_mean 60 = .ok (.invokevirtual 87, 3) := dk_182 0 87 (dk_at dksX2_mean_2 13 rfl rfl)
theorem dX2_mean_63 : decode cX2_mean 63 = .ok (.i2l, 1) := dk_133 (dk_at dksX2_mean_2 16 rfl rfl)
theorem dX2_mean_64 : decode cX2_mean 64 = .ok (.ladd, 1) := dk_97 (dk_at dksX2_mean_2 17 rfl rfl)
theorem dX2_mean_65 : decode cX2_mean 65 = .ok (.lstore_n 2, 1) := dk_65 (dk_at dksX2_mean_2 18 rfl rfl)
theorem dX2_mean_66 : decode cX2_mean 66 = .ok (.iinc 4 1, 3) := dk_132 4 1 (dk_at dksX2_mean_2 19 rfl rfl)
theorem dX2_mean_69 : decode cX2_mean 69 = .ok (.goto (-25), 3) := dk_167 255 231 (dk_at dksX2_mean_3 0 rfl rfl)
theorem dX2_mean_72 : decode cX2_mean 72 = .ok (.aload_n 0, 1) := dk_42 (dk_at dksX2_mean_3 3 rfl rfl)
theorem dX2_mean_73 : decode cX2_mean 73 = .ok (.lload_n 2, 1) := dk_32 (dk_at dksX2_mean_3 4 rfl rfl)
theorem dX2_mean_74 : decode cX2_mean 74 = .ok (.aload_n 0, 1) := dk_42 (dk_at dksX2_mean_3 5 rfl rfl)
theorem dX2_mean_75 : decode cX2_mean 75 = .ok (.getfield 13, 3) := dk_180 0 13 (dk_at dksX2_mean_3 6 rfl rfl)
theorem dX2_mean_78 : decode cX2_mean 78 = .ok (.iload_n 1, 1) := dk_27 (dk_at dksX2_mean_3 9 rfl rfl)
theorem dX2_mean_79 : decode cX2_mean 79 = .ok (.iaload, 1) := dk_46 (dk_at dksX2_mean_3 10 rfl rfl)
theorem dX2_mean_80 : decode cX2_mean 80 = .ok (.i2l, 1) := dk_133 (dk_at dksX2_mean_3 11 rfl rfl)
theorem dX2_mean_81 : decode cX2_mean 81 = .ok (.ldiv, 1) := dk_109 (dk_at dksX2_mean_3 12 rfl rfl)
theorem dX2_mean_82 : decode cX2_mean 82 = .ok (.l2i, 1) := dk_136 (dk_at dksX2_mean_3 13 rfl rfl)
theorem dX2_mean_83 : decode cX2_mean 83 = .ok (.iconst 1, 1) := dk_4 (dk_at dksX2_mean_3 14 rfl rfl)
theorem dX2_mean_84 : decode cX2_mean 84 = .ok (.invokevirtual 91, 3) := dk_182 0 91 (dk_at dksX2_mean_3 15 rfl rfl)
theorem dX2_mean_87 : decode cX2_mean 87 = .ok (.ireturn, 1) := dk_172 (dk_at dksX2_mean_3 18 rfl rfl)
abbrev cX2_text : ByteArray := prog_13_method_18_code
def yX2_text : MethodName := ⟨RX2, "text", "(II)I"⟩
def dkwX2_text_2 : List UInt8 := [29, 96, 16, 32, 84, 132, 3, 1, 167, 255, 234, 28, 172]
abbrev dktX2_text_2 : List UInt8 := dkwX2_text_2 ++ []
def dkwX2_text_1 : List UInt8 := [172, 42, 180, 0, 22, 27, 28, 79, 3, 62, 29, 16, 120, 162, 0, 22, 42, 180, 0, 25, 16, 120, 27, 104]
abbrev dktX2_text_1 : List UInt8 := dkwX2_text_1 ++ dktX2_text_2
def dkwX2_text_0 : List UInt8 := [27, 184, 0, 94, 153, 0, 9, 28, 16, 120, 164, 0, 5, 2, 172, 28, 156, 0, 9, 42, 8, 182, 0, 83]
abbrev dktX2_text_0 : List UInt8 := dkwX2_text_0 ++ dktX2_text_1
theorem dksX2_text_0 : cX2_text.data.toList.drop 0 = dktX2_text_0 := by decide +kernel
theorem dksX2_text_1 : cX2_text.data.toList.drop 24 = dktX2_text_1 := dk_seg dksX2_text_0 24 rfl rfl
theorem dksX2_text_2 : cX2_text.data.toList.drop 48 = dktX2_text_2 := dk_seg dksX2_text_1 24 rfl rfl
theorem dX2_text_0 : decode cX2_text 0 = .ok (.iload_n 1, 1) := dk_27 (dk_at dksX2_text_0 0 rfl rfl)
theorem dX2_text_1 : decode cX2_text 1 = .ok (.invokestatic 94, 3) := dk_184 0 94 (dk_at dksX2_text_0 1 rfl rfl)
theorem dX2_text_4 : decode cX2_text 4 = .ok (.ifCond .eq 9, 3) := dk_153 0 9 (dk_at dksX2_text_0 4 rfl rfl)
theorem dX2_text_7 : decode cX2_text 7 = .ok (.iload_n 2, 1) := dk_28 (dk_at dksX2_text_0 7 rfl rfl)
theorem dX2_text_8 : decode cX2_text 8 = .ok (.bipush 120, 2) := dk_16 120 (dk_at dksX2_text_0 8 rfl rfl)
theorem dX2_text_10 : decode cX2_text 10 = .ok (.if_icmp .le 5, 3) := dk_164 0 5 (dk_at dksX2_text_0 10 rfl rfl)
theorem dX2_text_13 : decode cX2_text 13 = .ok (.iconst (-1), 1) := dk_2 (dk_at dksX2_text_0 13 rfl rfl)
theorem dX2_text_14 : decode cX2_text 14 = .ok (.ireturn, 1) := dk_172 (dk_at dksX2_text_0 14 rfl rfl)
theorem dX2_text_15 : decode cX2_text 15 = .ok (.iload_n 2, 1) := dk_28 (dk_at dksX2_text_0 15 rfl rfl)
theorem dX2_text_16 : decode cX2_text 16 = .ok (.ifCond .ge 9, 3) := dk_156 0 9 (dk_at dksX2_text_0 16 rfl rfl)
theorem dX2_text_19 : decode cX2_text 19 = .ok (.aload_n 0, 1) := dk_42 (dk_at dksX2_text_0 19 rfl rfl)
theorem dX2_text_20 : decode cX2_text 20 = .ok (.iconst 5, 1) := dk_8 (dk_at dksX2_text_0 20 rfl rfl)
theorem dX2_text_21 : decode cX2_text 21 = .ok (.invokevirtual 83, 3) := dk_182 0 83 (dk_at dksX2_text_0 21 rfl rfl)
theorem dX2_text_24 : decode cX2_text 24 = .ok (.ireturn, 1) := dk_172 (dk_at dksX2_text_1 0 rfl rfl)
theorem dX2_text_25 : decode cX2_text 25 = .ok (.aload_n 0, 1) := dk_42 (dk_at dksX2_text_1 1 rfl rfl)
theorem dX2_text_26 : decode cX2_text 26 = .ok (.getfield 22, 3) := dk_180 0 22 (dk_at dksX2_text_1 2 rfl rfl)
theorem dX2_text_29 : decode cX2_text 29 = .ok (.iload_n 1, 1) := dk_27 (dk_at dksX2_text_1 5 rfl rfl)
theorem dX2_text_30 : decode cX2_text 30 = .ok (.iload_n 2, 1) := dk_28 (dk_at dksX2_text_1 6 rfl rfl)
theorem dX2_text_31 : decode cX2_text 31 = .ok (.iastore, 1) := dk_79 (dk_at dksX2_text_1 7 rfl rfl)
theorem dX2_text_32 : decode cX2_text 32 = .ok (.iconst 0, 1) := dk_3 (dk_at dksX2_text_1 8 rfl rfl)
theorem dX2_text_33 : decode cX2_text 33 = .ok (.istore_n 3, 1) := dk_62 (dk_at dksX2_text_1 9 rfl rfl)
theorem dX2_text_34 : decode cX2_text 34 = .ok (.iload_n 3, 1) := dk_29 (dk_at dksX2_text_1 10 rfl rfl)
theorem dX2_text_35 : decode cX2_text 35 = .ok (.bipush 120, 2) := dk_16 120 (dk_at dksX2_text_1 11 rfl rfl)
theorem dX2_text_37 : decode cX2_text 37 = .ok (.if_icmp .ge 22, 3) := dk_162 0 22 (dk_at dksX2_text_1 13 rfl rfl)
theorem dX2_text_40 : decode cX2_text 40 = .ok (.aload_n 0, 1) := dk_42 (dk_at dksX2_text_1 16 rfl rfl)
theorem dX2_text_41 : decode cX2_text 41 = .ok (.getfield 25, 3) := dk_180 0 25 (dk_at dksX2_text_1 17 rfl rfl)
theorem dX2_text_44 : decode cX2_text 44 = .ok (.bipush 120, 2) := dk_16 120 (dk_at dksX2_text_1 20 rfl rfl)
theorem dX2_text_46 : decode cX2_text 46 = .ok (.iload_n 1, 1) := dk_27 (dk_at dksX2_text_1 22 rfl rfl)
theorem dX2_text_47 : decode cX2_text 47 = .ok (.imul, 1) := dk_104 (dk_at dksX2_text_1 23 rfl rfl)
theorem dX2_text_48 : decode cX2_text 48 = .ok (.iload_n 3, 1) := dk_29 (dk_at dksX2_text_2 0 rfl rfl)
theorem dX2_text_49 : decode cX2_text 49 = .ok (.iadd, 1) := dk_96 (dk_at dksX2_text_2 1 rfl rfl)
theorem dX2_text_50 : decode cX2_text 50 = .ok (.bipush 32, 2) := dk_16 32 (dk_at dksX2_text_2 2 rfl rfl)
theorem dX2_text_52 : decode cX2_text 52 = .ok (.bastore, 1) := dk_84 (dk_at dksX2_text_2 4 rfl rfl)
theorem dX2_text_53 : decode cX2_text 53 = .ok (.iinc 3 1, 3) := dk_132 3 1 (dk_at dksX2_text_2 5 rfl rfl)
theorem dX2_text_56 : decode cX2_text 56 = .ok (.goto (-22), 3) := dk_167 255 234 (dk_at dksX2_text_2 8 rfl rfl)
theorem dX2_text_59 : decode cX2_text 59 = .ok (.iload_n 2, 1) := dk_28 (dk_at dksX2_text_2 11 rfl rfl)
theorem dX2_text_60 : decode cX2_text 60 = .ok (.ireturn, 1) := dk_172 (dk_at dksX2_text_2 12 rfl rfl)
abbrev cX2_isText : ByteArray := prog_13_method_17_code
def yX2_isText : MethodName := ⟨RX2, "isText", "(I)Z"⟩
def dkwX2_isText_0 : List UInt8 := [26, 3, 6, 184, 0, 75, 172]
abbrev dktX2_isText_0 : List UInt8 := dkwX2_isText_0 ++ []
theorem dksX2_isText_0 : cX2_isText.data.toList.drop 0 = dktX2_isText_0 := by decide +kernel
theorem dX2_isText_0 : decode cX2_isText 0 = .ok (.iload_n 0, 1) := dk_26 (dk_at dksX2_isText_0 0 rfl rfl)
theorem dX2_isText_1 : decode cX2_isText 1 = .ok (.iconst 0, 1) := dk_3 (dk_at dksX2_isText_0 1 rfl rfl)
theorem dX2_isText_2 : decode cX2_isText 2 = .ok (.iconst 3, 1) := dk_6 (dk_at dksX2_isText_0 2 rfl rfl)
theorem dX2_isText_3 : decode cX2_isText 3 = .ok (.invokestatic 75, 3) := dk_184 0 75 (dk_at dksX2_isText_0 3 rfl rfl)
theorem dX2_isText_6 : decode cX2_isText 6 = .ok (.ireturn, 1) := dk_172 (dk_at dksX2_isText_0 6 rfl rfl)
abbrev cX2_put : ByteArray := prog_13_method_19_code
def yX2_put : MethodName := ⟨RX2, "put", "(III)I"⟩
def dkwX2_put_3 : List UInt8 := [84, 17, 3, 232, 21, 4, 96, 172]
abbrev dktX2_put_3 : List UInt8 := dkwX2_put_3 ++ []
def dkwX2_put_2 : List UInt8 := [180, 0, 25, 16, 120, 27, 104, 28, 96, 51, 54, 4, 42, 180, 0, 25, 16, 120, 27, 104, 28, 96, 29, 145]
abbrev dktX2_put_2 : List UInt8 := dkwX2_put_2 ++ dktX2_put_3
def dkwX2_put_1 : List UInt8 := [28, 3, 42, 180, 0, 22, 27, 46, 4, 100, 184, 0, 75, 154, 0, 9, 42, 5, 182, 0, 83, 172, 42]
abbrev dktX2_put_1 : List UInt8 := dkwX2_put_1 ++ dktX2_put_2
def dkwX2_put_0 : List UInt8 := [27, 184, 0, 94, 154, 0, 5, 2, 172, 42, 180, 0, 22, 27, 46, 156, 0, 9, 42, 4, 182, 0, 83, 172]
abbrev dktX2_put_0 : List UInt8 := dkwX2_put_0 ++ dktX2_put_1
theorem dksX2_put_0 : cX2_put.data.toList.drop 0 = dktX2_put_0 := by decide +kernel
theorem dksX2_put_1 : cX2_put.data.toList.drop 24 = dktX2_put_1 := dk_seg dksX2_put_0 24 rfl rfl
theorem dksX2_put_2 : cX2_put.data.toList.drop 47 = dktX2_put_2 := dk_seg dksX2_put_1 23 rfl rfl
theorem dksX2_put_3 : cX2_put.data.toList.drop 71 = dktX2_put_3 := dk_seg dksX2_put_2 24 rfl rfl
theorem dX2_put_0 : decode cX2_put 0 = .ok (.iload_n 1, 1) := dk_27 (dk_at dksX2_put_0 0 rfl rfl)
theorem dX2_put_1 : decode cX2_put 1 = .ok (.invokestatic 94, 3) := dk_184 0 94 (dk_at dksX2_put_0 1 rfl rfl)
theorem dX2_put_4 : decode cX2_put 4 = .ok (.ifCond .ne 5, 3) := dk_154 0 5 (dk_at dksX2_put_0 4 rfl rfl)
theorem dX2_put_7 : decode cX2_put 7 = .ok (.iconst (-1), 1) := dk_2 (dk_at dksX2_put_0 7 rfl rfl)
theorem dX2_put_8 : decode cX2_put 8 = .ok (.ireturn, 1) := dk_172 (dk_at dksX2_put_0 8 rfl rfl)
theorem dX2_put_9 : decode cX2_put 9 = .ok (.aload_n 0, 1) := dk_42 (dk_at dksX2_put_0 9 rfl rfl)
theorem dX2_put_10 : decode cX2_put 10 = .ok (.getfield 22, 3) := dk_180 0 22 (dk_at dksX2_put_0 10 rfl rfl)
theorem dX2_put_13 : decode cX2_put 13 = .ok (.iload_n 1, 1) := dk_27 (dk_at dksX2_put_0 13 rfl rfl)
theorem dX2_put_14 : decode cX2_put 14 = .ok (.iaload, 1) := dk_46 (dk_at dksX2_put_0 14 rfl rfl)
theorem dX2_put_15 : decode cX2_put 15 = .ok (.ifCond .ge 9, 3) := dk_156 0 9 (dk_at dksX2_put_0 15 rfl rfl)
theorem dX2_put_18 : decode cX2_put 18 = .ok (.aload_n 0, 1) := dk_42 (dk_at dksX2_put_0 18 rfl rfl)
theorem dX2_put_19 : decode cX2_put 19 = .ok (.iconst 1, 1) := dk_4 (dk_at dksX2_put_0 19 rfl rfl)
theorem dX2_put_20 : decode cX2_put 20 = .ok (.invokevirtual 83, 3) := dk_182 0 83 (dk_at dksX2_put_0 20 rfl rfl)
theorem dX2_put_23 : decode cX2_put 23 = .ok (.ireturn, 1) := dk_172 (dk_at dksX2_put_0 23 rfl rfl)
theorem dX2_put_24 : decode cX2_put 24 = .ok (.iload_n 2, 1) := dk_28 (dk_at dksX2_put_1 0 rfl rfl)
theorem dX2_put_25 : decode cX2_put 25 = .ok (.iconst 0, 1) := dk_3 (dk_at dksX2_put_1 1 rfl rfl)
theorem dX2_put_26 : decode cX2_put 26 = .ok (.aload_n 0, 1) := dk_42 (dk_at dksX2_put_1 2 rfl rfl)
theorem dX2_put_27 : decode cX2_put 27 = .ok (.getfield 22, 3) := dk_180 0 22 (dk_at dksX2_put_1 3 rfl rfl)
theorem dX2_put_30 : decode cX2_put 30 = .ok (.iload_n 1, 1) := dk_27 (dk_at dksX2_put_1 6 rfl rfl)
theorem dX2_put_31 : decode cX2_put 31 = .ok (.iaload, 1) := dk_46 (dk_at dksX2_put_1 7 rfl rfl)
theorem dX2_put_32 : decode cX2_put 32 = .ok (.iconst 1, 1) := dk_4 (dk_at dksX2_put_1 8 rfl rfl)
theorem dX2_put_33 : decode cX2_put 33 = .ok (.isub, 1) := dk_100 (dk_at dksX2_put_1 9 rfl rfl)
theorem dX2_put_34 : decode cX2_put 34 = .ok (.invokestatic 75, 3) := dk_184 0 75 (dk_at dksX2_put_1 10 rfl rfl)
theorem dX2_put_37 : decode cX2_put 37 = .ok (.ifCond .ne 9, 3) := dk_154 0 9 (dk_at dksX2_put_1 13 rfl rfl)
theorem dX2_put_40 : decode cX2_put 40 = .ok (.aload_n 0, 1) := dk_42 (dk_at dksX2_put_1 16 rfl rfl)
theorem dX2_put_41 : decode cX2_put 41 = .ok (.iconst 2, 1) := dk_5 (dk_at dksX2_put_1 17 rfl rfl)
theorem dX2_put_42 : decode cX2_put 42 = .ok (.invokevirtual 83, 3) := dk_182 0 83 (dk_at dksX2_put_1 18 rfl rfl)
theorem dX2_put_45 : decode cX2_put 45 = .ok (.ireturn, 1) := dk_172 (dk_at dksX2_put_1 21 rfl rfl)
theorem dX2_put_46 : decode cX2_put 46 = .ok (.aload_n 0, 1) := dk_42 (dk_at dksX2_put_1 22 rfl rfl)
theorem dX2_put_47 : decode cX2_put 47 = .ok (.getfield 25, 3) := dk_180 0 25 (dk_at dksX2_put_2 0 rfl rfl)
theorem dX2_put_50 : decode cX2_put 50 = .ok (.bipush 120, 2) := dk_16 120 (dk_at dksX2_put_2 3 rfl rfl)
theorem dX2_put_52 : decode cX2_put 52 = .ok (.iload_n 1, 1) := dk_27 (dk_at dksX2_put_2 5 rfl rfl)
theorem dX2_put_53 : decode cX2_put 53 = .ok (.imul, 1) := dk_104 (dk_at dksX2_put_2 6 rfl rfl)
theorem dX2_put_54 : decode cX2_put 54 = .ok (.iload_n 2, 1) := dk_28 (dk_at dksX2_put_2 7 rfl rfl)
theorem dX2_put_55 : decode cX2_put 55 = .ok (.iadd, 1) := dk_96 (dk_at dksX2_put_2 8 rfl rfl)
theorem dX2_put_56 : decode cX2_put 56 = .ok (.baload, 1) := dk_51 (dk_at dksX2_put_2 9 rfl rfl)
theorem dX2_put_57 : decode cX2_put 57 = .ok (.istore 4, 2) := dk_54 4 (dk_at dksX2_put_2 10 rfl rfl)
theorem dX2_put_59 : decode cX2_put 59 = .ok (.aload_n 0, 1) := dk_42 (dk_at dksX2_put_2 12 rfl rfl)
theorem dX2_put_60 : decode cX2_put 60 = .ok (.getfield 25, 3) := dk_180 0 25 (dk_at dksX2_put_2 13 rfl rfl)
theorem dX2_put_63 : decode cX2_put 63 = .ok (.bipush 120, 2) := dk_16 120 (dk_at dksX2_put_2 16 rfl rfl)
theorem dX2_put_65 : decode cX2_put 65 = .ok (.iload_n 1, 1) := dk_27 (dk_at dksX2_put_2 18 rfl rfl)
theorem dX2_put_66 : decode cX2_put 66 = .ok (.imul, 1) := dk_104 (dk_at dksX2_put_2 19 rfl rfl)
theorem dX2_put_67 : decode cX2_put 67 = .ok (.iload_n 2, 1) := dk_28 (dk_at dksX2_put_2 20 rfl rfl)
theorem dX2_put_68 : decode cX2_put 68 = .ok (.iadd, 1) := dk_96 (dk_at dksX2_put_2 21 rfl rfl)
theorem dX2_put_69 : decode cX2_put 69 = .ok (.iload_n 3, 1) := dk_29 (dk_at dksX2_put_2 22 rfl rfl)
theorem dX2_put_70 : decode cX2_put 70 = .ok (.i2b, 1) := dk_145 (dk_at dksX2_put_2 23 rfl rfl)
theorem dX2_put_71 : decode cX2_put 71 = .ok (.bastore, 1) := dk_84 (dk_at dksX2_put_3 0 rfl rfl)
theorem dX2_put_72 : decode cX2_put 72 = .ok (.sipush 1000, 3) := dk_17 3 232 (dk_at dksX2_put_3 1 rfl rfl)
theorem dX2_put_75 : decode cX2_put 75 = .ok (.iload 4, 2) := dk_21 4 (dk_at dksX2_put_3 4 rfl rfl)
theorem dX2_put_77 : decode cX2_put 77 = .ok (.iadd, 1) := dk_96 (dk_at dksX2_put_3 6 rfl rfl)
theorem dX2_put_78 : decode cX2_put 78 = .ok (.ireturn, 1) := dk_172 (dk_at dksX2_put_3 7 rfl rfl)
abbrev cX2_fault : ByteArray := prog_13_method_34_code
def yX2_fault : MethodName := ⟨RX2, "fault", "(I)I"⟩
def dkwX2_fault_1 : List UInt8 := [182, 0, 83, 167, 0, 8, 42, 27, 182, 0, 167, 172]
abbrev dktX2_fault_1 : List UInt8 := dkwX2_fault_1 ++ []
def dkwX2_fault_0 : List UInt8 := [27, 184, 0, 94, 154, 0, 7, 2, 167, 0, 25, 42, 180, 0, 22, 27, 46, 156, 0, 11, 42, 4]
abbrev dktX2_fault_0 : List UInt8 := dkwX2_fault_0 ++ dktX2_fault_1
theorem dksX2_fault_0 : cX2_fault.data.toList.drop 0 = dktX2_fault_0 := by decide +kernel
theorem dksX2_fault_1 : cX2_fault.data.toList.drop 22 = dktX2_fault_1 := dk_seg dksX2_fault_0 22 rfl rfl
theorem dX2_fault_0 : decode cX2_fault 0 = .ok (.iload_n 1, 1) := dk_27 (dk_at dksX2_fault_0 0 rfl rfl)
theorem dX2_fault_1 : decode cX2_fault 1 = .ok (.invokestatic 94, 3) := dk_184 0 94 (dk_at dksX2_fault_0 1 rfl rfl)
theorem dX2_fault_4 : decode cX2_fault 4 = .ok (.ifCond .ne 7, 3) := dk_154 0 7 (dk_at dksX2_fault_0 4 rfl rfl)
theorem dX2_fault_7 : decode cX2_fault 7 = .ok (.iconst (-1), 1) := dk_2 (dk_at dksX2_fault_0 7 rfl rfl)
theorem dX2_fault_8 : decode cX2_fault 8 = .ok (.goto 25, 3) := dk_167 0 25 (dk_at dksX2_fault_0 8 rfl rfl)
theorem dX2_fault_11 : decode cX2_fault 11 = .ok (.aload_n 0, 1) := dk_42 (dk_at dksX2_fault_0 11 rfl rfl)
theorem dX2_fault_12 : decode cX2_fault 12 = .ok (.getfield 22, 3) := dk_180 0 22 (dk_at dksX2_fault_0 12 rfl rfl)
theorem dX2_fault_15 : decode cX2_fault 15 = .ok (.iload_n 1, 1) := dk_27 (dk_at dksX2_fault_0 15 rfl rfl)
theorem dX2_fault_16 : decode cX2_fault 16 = .ok (.iaload, 1) := dk_46 (dk_at dksX2_fault_0 16 rfl rfl)
theorem dX2_fault_17 : decode cX2_fault 17 = .ok (.ifCond .ge 11, 3) := dk_156 0 11 (dk_at dksX2_fault_0 17 rfl rfl)
theorem dX2_fault_20 : decode cX2_fault 20 = .ok (.aload_n 0, 1) := dk_42 (dk_at dksX2_fault_0 20 rfl rfl)
theorem dX2_fault_21 : decode cX2_fault 21 = .ok (.iconst 1, 1) := dk_4 (dk_at dksX2_fault_0 21 rfl rfl)
theorem dX2_fault_22 : decode cX2_fault 22 = .ok (.invokevirtual 83, 3) := dk_182 0 83 (dk_at dksX2_fault_1 0 rfl rfl)
theorem dX2_fault_25 : decode cX2_fault 25 = .ok (.goto 8, 3) := dk_167 0 8 (dk_at dksX2_fault_1 3 rfl rfl)
theorem dX2_fault_28 : decode cX2_fault 28 = .ok (.aload_n 0, 1) := dk_42 (dk_at dksX2_fault_1 6 rfl rfl)
theorem dX2_fault_29 : decode cX2_fault 29 = .ok (.iload_n 1, 1) := dk_27 (dk_at dksX2_fault_1 7 rfl rfl)
theorem dX2_fault_30 : decode cX2_fault 30 = .ok (.invokevirtual 167, 3) := dk_182 0 167 (dk_at dksX2_fault_1 8 rfl rfl)
theorem dX2_fault_33 : decode cX2_fault 33 = .ok (.ireturn, 1) := dk_172 (dk_at dksX2_fault_1 11 rfl rfl)
abbrev cX2_faultOf : ByteArray := prog_13_method_33_code
def yX2_faultOf : MethodName := ⟨RX2, "faultOf", "(I)I"⟩
def dkwX2_faultOf_3 : List UInt8 := [154, 0, 12, 42, 180, 0, 22, 27, 46, 167, 0, 5, 16, 247, 172]
abbrev dktX2_faultOf_3 : List UInt8 := dkwX2_faultOf_3 ++ []
def dkwX2_faultOf_2 : List UInt8 := [182, 0, 164, 154, 0, 8, 42, 180, 0, 122, 172, 42, 27, 182, 0, 103, 167, 255, 225, 42, 180, 0, 147]
abbrev dktX2_faultOf_2 : List UInt8 := dkwX2_faultOf_2 ++ dktX2_faultOf_3
def dkwX2_faultOf_1 : List UInt8 := [181, 0, 147, 42, 27, 182, 0, 103, 42, 180, 0, 97, 42, 180, 0, 22, 27, 46, 162, 0, 24, 42, 27]
abbrev dktX2_faultOf_1 : List UInt8 := dkwX2_faultOf_1 ++ dktX2_faultOf_2
def dkwX2_faultOf_0 : List UInt8 := [42, 3, 181, 0, 97, 42, 3, 181, 0, 135, 42, 3, 181, 0, 138, 42, 2, 181, 0, 144, 42, 3]
abbrev dktX2_faultOf_0 : List UInt8 := dkwX2_faultOf_0 ++ dktX2_faultOf_1
theorem dksX2_faultOf_0 : cX2_faultOf.data.toList.drop 0 = dktX2_faultOf_0 := by decide +kernel
theorem dksX2_faultOf_1 : cX2_faultOf.data.toList.drop 22 = dktX2_faultOf_1 := dk_seg dksX2_faultOf_0 22 rfl rfl
theorem dksX2_faultOf_2 : cX2_faultOf.data.toList.drop 45 = dktX2_faultOf_2 := dk_seg dksX2_faultOf_1 23 rfl rfl
theorem dksX2_faultOf_3 : cX2_faultOf.data.toList.drop 68 = dktX2_faultOf_3 := dk_seg dksX2_faultOf_2 23 rfl rfl
theorem dX2_faultOf_0 : decode cX2_faultOf 0 = .ok (.aload_n 0, 1) := dk_42 (dk_at dksX2_faultOf_0 0 rfl rfl)
theorem dX2_faultOf_1 : decode cX2_faultOf 1 = .ok (.iconst 0, 1) := dk_3 (dk_at dksX2_faultOf_0 1 rfl rfl)
theorem dX2_faultOf_2 : decode cX2_faultOf 2 = .ok (.putfield 97, 3) := dk_181 0 97 (dk_at dksX2_faultOf_0 2 rfl rfl)
theorem dX2_faultOf_5 : decode cX2_faultOf 5 = .ok (.aload_n 0, 1) := dk_42 (dk_at dksX2_faultOf_0 5 rfl rfl)
theorem dX2_faultOf_6 : decode cX2_faultOf 6 = .ok (.iconst 0, 1) := dk_3 (dk_at dksX2_faultOf_0 6 rfl rfl)
theorem dX2_faultOf_7 : decode cX2_faultOf 7 = .ok (.putfield 135, 3) := dk_181 0 135 (dk_at dksX2_faultOf_0 7 rfl rfl)
theorem dX2_faultOf_10 : decode cX2_faultOf 10 = .ok (.aload_n 0, 1) := dk_42 (dk_at dksX2_faultOf_0 10 rfl rfl)
theorem dX2_faultOf_11 : decode cX2_faultOf 11 = .ok (.iconst 0, 1) := dk_3 (dk_at dksX2_faultOf_0 11 rfl rfl)
theorem dX2_faultOf_12 : decode cX2_faultOf 12 = .ok (.putfield 138, 3) := dk_181 0 138 (dk_at dksX2_faultOf_0 12 rfl rfl)
theorem dX2_faultOf_15 : decode cX2_faultOf 15 = .ok (.aload_n 0, 1) := dk_42 (dk_at dksX2_faultOf_0 15 rfl rfl)
theorem dX2_faultOf_16 : decode cX2_faultOf 16 = .ok (.iconst (-1), 1) := dk_2 (dk_at dksX2_faultOf_0 16 rfl rfl)
theorem dX2_faultOf_17 : decode cX2_faultOf 17 = .ok (.putfield 144, 3) := dk_181 0 144 (dk_at dksX2_faultOf_0 17 rfl rfl)
theorem dX2_faultOf_20 : decode cX2_faultOf 20 = .ok (.aload_n 0, 1) := dk_42 (dk_at dksX2_faultOf_0 20 rfl rfl)
theorem dX2_faultOf_21 : decode cX2_faultOf 21 = .ok (.iconst 0, 1) := dk_3 (dk_at dksX2_faultOf_0 21 rfl rfl)
theorem dX2_faultOf_22 : decode cX2_faultOf 22 = .ok (.putfield 147, 3) := dk_181 0 147 (dk_at dksX2_faultOf_1 0 rfl rfl)
theorem dX2_faultOf_25 : decode cX2_faultOf 25 = .ok (.aload_n 0, 1) := dk_42 (dk_at dksX2_faultOf_1 3 rfl rfl)
theorem dX2_faultOf_26 : decode cX2_faultOf 26 = .ok (.iload_n 1, 1) := dk_27 (dk_at dksX2_faultOf_1 4 rfl rfl)
theorem dX2_faultOf_27 : decode cX2_faultOf 27 = .ok (.invokevirtual 103, 3) := dk_182 0 103 (dk_at dksX2_faultOf_1 5 rfl rfl)
theorem dX2_faultOf_30 : decode cX2_faultOf 30 = .ok (.aload_n 0, 1) := dk_42 (dk_at dksX2_faultOf_1 8 rfl rfl)
theorem dX2_faultOf_31 : decode cX2_faultOf 31 = .ok (.getfield 97, 3) := dk_180 0 97 (dk_at dksX2_faultOf_1 9 rfl rfl)
theorem dX2_faultOf_34 : decode cX2_faultOf 34 = .ok (.aload_n 0, 1) := dk_42 (dk_at dksX2_faultOf_1 12 rfl rfl)
theorem dX2_faultOf_35 : decode cX2_faultOf 35 = .ok (.getfield 22, 3) := dk_180 0 22 (dk_at dksX2_faultOf_1 13 rfl rfl)
theorem dX2_faultOf_38 : decode cX2_faultOf 38 = .ok (.iload_n 1, 1) := dk_27 (dk_at dksX2_faultOf_1 16 rfl rfl)
theorem dX2_faultOf_39 : decode cX2_faultOf 39 = .ok (.iaload, 1) := dk_46 (dk_at dksX2_faultOf_1 17 rfl rfl)
theorem dX2_faultOf_40 : decode cX2_faultOf 40 = .ok (.if_icmp .ge 24, 3) := dk_162 0 24 (dk_at dksX2_faultOf_1 18 rfl rfl)
theorem dX2_faultOf_43 : decode cX2_faultOf 43 = .ok (.aload_n 0, 1) := dk_42 (dk_at dksX2_faultOf_1 21 rfl rfl)
theorem dX2_faultOf_44 : decode cX2_faultOf 44 = .ok (.iload_n 1, 1) := dk_27 (dk_at dksX2_faultOf_1 22 rfl rfl)
theorem dX2_faultOf_45 : decode cX2_faultOf 45 = .ok (.invokevirtual 164, 3) := dk_182 0 164 (dk_at dksX2_faultOf_2 0 rfl rfl)
theorem dX2_faultOf_48 : decode cX2_faultOf 48 = .ok (.ifCond .ne 8, 3) := dk_154 0 8 (dk_at dksX2_faultOf_2 3 rfl rfl)
theorem dX2_faultOf_51 : decode cX2_faultOf 51 = .ok (.aload_n 0, 1) := dk_42 (dk_at dksX2_faultOf_2 6 rfl rfl)
theorem dX2_faultOf_52 : decode cX2_faultOf 52 = .ok (.getfield 122, 3) := dk_180 0 122 (dk_at dksX2_faultOf_2 7 rfl rfl)
theorem dX2_faultOf_55 : decode cX2_faultOf 55 = .ok (.ireturn, 1) := dk_172 (dk_at dksX2_faultOf_2 10 rfl rfl)
theorem dX2_faultOf_56 : decode cX2_faultOf 56 = .ok (.aload_n 0, 1) := dk_42 (dk_at dksX2_faultOf_2 11 rfl rfl)
theorem dX2_faultOf_57 : decode cX2_faultOf 57 = .ok (.iload_n 1, 1) := dk_27 (dk_at dksX2_faultOf_2 12 rfl rfl)
theorem dX2_faultOf_58 : decode cX2_faultOf 58 = .ok (.invokevirtual 103, 3) := dk_182 0 103 (dk_at dksX2_faultOf_2 13 rfl rfl)
theorem dX2_faultOf_61 : decode cX2_faultOf 61 = .ok (.goto (-31), 3) := dk_167 255 225 (dk_at dksX2_faultOf_2 16 rfl rfl)
theorem dX2_faultOf_64 : decode cX2_faultOf 64 = .ok (.aload_n 0, 1) := dk_42 (dk_at dksX2_faultOf_2 19 rfl rfl)
theorem dX2_faultOf_65 : decode cX2_faultOf 65 = .ok (.getfield 147, 3) := dk_180 0 147 (dk_at dksX2_faultOf_2 20 rfl rfl)
theorem dX2_faultOf_68 : decode cX2_faultOf 68 = .ok (.ifCond .ne 12, 3) := dk_154 0 12 (dk_at dksX2_faultOf_3 0 rfl rfl)
theorem dX2_faultOf_71 : decode cX2_faultOf 71 = .ok (.aload_n 0, 1) := dk_42 (dk_at dksX2_faultOf_3 3 rfl rfl)
theorem dX2_faultOf_72 : decode cX2_faultOf 72 = .ok (.getfield 22, 3) := dk_180 0 22 (dk_at dksX2_faultOf_3 4 rfl rfl)
theorem dX2_faultOf_75 : decode cX2_faultOf 75 = .ok (.iload_n 1, 1) := dk_27 (dk_at dksX2_faultOf_3 7 rfl rfl)
theorem dX2_faultOf_76 : decode cX2_faultOf 76 = .ok (.iaload, 1) := dk_46 (dk_at dksX2_faultOf_3 8 rfl rfl)
theorem dX2_faultOf_77 : decode cX2_faultOf 77 = .ok (.goto 5, 3) := dk_167 0 5 (dk_at dksX2_faultOf_3 9 rfl rfl)
theorem dX2_faultOf_80 : decode cX2_faultOf 80 = .ok (.bipush (-9), 2) := dk_16 247 (dk_at dksX2_faultOf_3 12 rfl rfl)
theorem dX2_faultOf_82 : decode cX2_faultOf 82 = .ok (.ireturn, 1) := dk_172 (dk_at dksX2_faultOf_3 14 rfl rfl)
abbrev cX2_blanks : ByteArray := prog_13_method_21_code
def yX2_blanks : MethodName := ⟨RX2, "blanks", "(I)V"⟩
def dkwX2_blanks_1 : List UInt8 := [167, 255, 232, 177]
abbrev dktX2_blanks_1 : List UInt8 := dkwX2_blanks_1 ++ []
def dkwX2_blanks_0 : List UInt8 := [42, 27, 42, 180, 0, 97, 182, 0, 100, 16, 32, 160, 0, 16, 42, 89, 180, 0, 97, 4, 96, 181, 0, 97]
abbrev dktX2_blanks_0 : List UInt8 := dkwX2_blanks_0 ++ dktX2_blanks_1
theorem dksX2_blanks_0 : cX2_blanks.data.toList.drop 0 = dktX2_blanks_0 := by decide +kernel
theorem dksX2_blanks_1 : cX2_blanks.data.toList.drop 24 = dktX2_blanks_1 := dk_seg dksX2_blanks_0 24 rfl rfl
theorem dX2_blanks_0 : decode cX2_blanks 0 = .ok (.aload_n 0, 1) := dk_42 (dk_at dksX2_blanks_0 0 rfl rfl)
theorem dX2_blanks_1 : decode cX2_blanks 1 = .ok (.iload_n 1, 1) := dk_27 (dk_at dksX2_blanks_0 1 rfl rfl)
theorem dX2_blanks_2 : decode cX2_blanks 2 = .ok (.aload_n 0, 1) := dk_42 (dk_at dksX2_blanks_0 2 rfl rfl)
theorem dX2_blanks_3 : decode cX2_blanks 3 = .ok (.getfield 97, 3) := dk_180 0 97 (dk_at dksX2_blanks_0 3 rfl rfl)
theorem dX2_blanks_6 : decode cX2_blanks 6 = .ok (.invokevirtual 100, 3) := dk_182 0 100 (dk_at dksX2_blanks_0 6 rfl rfl)
theorem dX2_blanks_9 : decode cX2_blanks 9 = .ok (.bipush 32, 2) := dk_16 32 (dk_at dksX2_blanks_0 9 rfl rfl)
theorem dX2_blanks_11 : decode cX2_blanks 11 = .ok (.if_icmp .ne 16, 3) := dk_160 0 16 (dk_at dksX2_blanks_0 11 rfl rfl)
theorem dX2_blanks_14 : decode cX2_blanks 14 = .ok (.aload_n 0, 1) := dk_42 (dk_at dksX2_blanks_0 14 rfl rfl)
theorem dX2_blanks_15 : decode cX2_blanks 15 = .ok (.dup, 1) := dk_89 (dk_at dksX2_blanks_0 15 rfl rfl)
theorem dX2_blanks_16 : decode cX2_blanks 16 = .ok (.getfield 97, 3) := dk_180 0 97 (dk_at dksX2_blanks_0 16 rfl rfl)
theorem dX2_blanks_19 : decode cX2_blanks 19 = .ok (.iconst 1, 1) := dk_4 (dk_at dksX2_blanks_0 19 rfl rfl)
theorem dX2_blanks_20 : decode cX2_blanks 20 = .ok (.iadd, 1) := dk_96 (dk_at dksX2_blanks_0 20 rfl rfl)
theorem dX2_blanks_21 : decode cX2_blanks 21 = .ok (.putfield 97, 3) := dk_181 0 97 (dk_at dksX2_blanks_0 21 rfl rfl)
theorem dX2_blanks_24 : decode cX2_blanks 24 = .ok (.goto (-24), 3) := dk_167 255 232 (dk_at dksX2_blanks_1 0 rfl rfl)
theorem dX2_blanks_27 : decode cX2_blanks 27 = .ok (.return_, 1) := dk_177 (dk_at dksX2_blanks_1 3 rfl rfl)
abbrev cX2_byteAt : ByteArray := prog_13_method_20_code
def yX2_byteAt : MethodName := ⟨RX2, "byteAt", "(II)I"⟩
def dkwX2_byteAt_1 : List UInt8 := [2, 172]
abbrev dktX2_byteAt_1 : List UInt8 := dkwX2_byteAt_1 ++ []
def dkwX2_byteAt_0 : List UInt8 := [28, 42, 180, 0, 22, 27, 46, 162, 0, 17, 42, 180, 0, 25, 16, 120, 27, 104, 28, 96, 51, 167, 0, 4]
abbrev dktX2_byteAt_0 : List UInt8 := dkwX2_byteAt_0 ++ dktX2_byteAt_1
theorem dksX2_byteAt_0 : cX2_byteAt.data.toList.drop 0 = dktX2_byteAt_0 := by decide +kernel
theorem dksX2_byteAt_1 : cX2_byteAt.data.toList.drop 24 = dktX2_byteAt_1 := dk_seg dksX2_byteAt_0 24 rfl rfl
theorem dX2_byteAt_0 : decode cX2_byteAt 0 = .ok (.iload_n 2, 1) := dk_28 (dk_at dksX2_byteAt_0 0 rfl rfl)
theorem dX2_byteAt_1 : decode cX2_byteAt 1 = .ok (.aload_n 0, 1) := dk_42 (dk_at dksX2_byteAt_0 1 rfl rfl)
theorem dX2_byteAt_2 : decode cX2_byteAt 2 = .ok (.getfield 22, 3) := dk_180 0 22 (dk_at dksX2_byteAt_0 2 rfl rfl)
theorem dX2_byteAt_5 : decode cX2_byteAt 5 = .ok (.iload_n 1, 1) := dk_27 (dk_at dksX2_byteAt_0 5 rfl rfl)
theorem dX2_byteAt_6 : decode cX2_byteAt 6 = .ok (.iaload, 1) := dk_46 (dk_at dksX2_byteAt_0 6 rfl rfl)
theorem dX2_byteAt_7 : decode cX2_byteAt 7 = .ok (.if_icmp .ge 17, 3) := dk_162 0 17 (dk_at dksX2_byteAt_0 7 rfl rfl)
theorem dX2_byteAt_10 : decode cX2_byteAt 10 = .ok (.aload_n 0, 1) := dk_42 (dk_at dksX2_byteAt_0 10 rfl rfl)
theorem dX2_byteAt_11 : decode cX2_byteAt 11 = .ok (.getfield 25, 3) := dk_180 0 25 (dk_at dksX2_byteAt_0 11 rfl rfl)
theorem dX2_byteAt_14 : decode cX2_byteAt 14 = .ok (.bipush 120, 2) := dk_16 120 (dk_at dksX2_byteAt_0 14 rfl rfl)
theorem dX2_byteAt_16 : decode cX2_byteAt 16 = .ok (.iload_n 1, 1) := dk_27 (dk_at dksX2_byteAt_0 16 rfl rfl)
theorem dX2_byteAt_17 : decode cX2_byteAt 17 = .ok (.imul, 1) := dk_104 (dk_at dksX2_byteAt_0 17 rfl rfl)
theorem dX2_byteAt_18 : decode cX2_byteAt 18 = .ok (.iload_n 2, 1) := dk_28 (dk_at dksX2_byteAt_0 18 rfl rfl)
theorem dX2_byteAt_19 : decode cX2_byteAt 19 = .ok (.iadd, 1) := dk_96 (dk_at dksX2_byteAt_0 19 rfl rfl)
theorem dX2_byteAt_20 : decode cX2_byteAt 20 = .ok (.baload, 1) := dk_51 (dk_at dksX2_byteAt_0 20 rfl rfl)
theorem dX2_byteAt_21 : decode cX2_byteAt 21 = .ok (.goto 4, 3) := dk_167 0 4 (dk_at dksX2_byteAt_0 21 rfl rfl)
theorem dX2_byteAt_24 : decode cX2_byteAt 24 = .ok (.iconst (-1), 1) := dk_2 (dk_at dksX2_byteAt_1 0 rfl rfl)
theorem dX2_byteAt_25 : decode cX2_byteAt 25 = .ok (.ireturn, 1) := dk_172 (dk_at dksX2_byteAt_1 1 rfl rfl)
abbrev cX2_readsOne : ByteArray := prog_13_method_32_code
def yX2_readsOne : MethodName := ⟨RX2, "readsOne", "(I)Z"⟩
def dkwX2_readsOne_5 : List UInt8 := [182, 0, 160, 172, 42, 27, 5, 182, 0, 160, 172, 42, 27, 6, 182, 0, 160, 172, 42, 182, 0, 128, 172]
abbrev dktX2_readsOne_5 : List UInt8 := dkwX2_readsOne_5 ++ []
def dkwX2_readsOne_4 : List UInt8 := [42, 27, 182, 0, 154, 172, 42, 27, 182, 0, 157, 172, 42, 27, 3, 182, 0, 160, 172, 42, 27, 4]
abbrev dktX2_readsOne_4 : List UInt8 := dkwX2_readsOne_4 ++ dktX2_readsOne_5
def dkwX2_readsOne_3 : List UInt8 := [171, 0, 0, 0, 97, 0, 0, 0, 6, 0, 2, 190, 41, 0, 0, 0, 76, 0, 3, 198, 39, 0, 0, 0, 90, 0, 4, 209, 203, 0, 0, 0, 57, 0, 19, 225, 78, 0, 0, 0, 63, 0, 54, 19, 217, 0, 0, 0, 69, 2, 52, 251, 232, 0, 0, 0, 83]
abbrev dktX2_readsOne_3 : List UInt8 := dkwX2_readsOne_3 ++ dktX2_readsOne_4
def dkwX2_readsOne_2 : List UInt8 := [159, 0, 8, 42, 182, 0, 128, 172, 28]
abbrev dktX2_readsOne_2 : List UInt8 := dkwX2_readsOne_2 ++ dktX2_readsOne_3
def dkwX2_readsOne_1 : List UInt8 := [18, 153, 160, 0, 7, 4, 167, 0, 4, 3, 42, 180, 0, 135, 154, 0, 7, 4, 167, 0, 4, 3]
abbrev dktX2_readsOne_1 : List UInt8 := dkwX2_readsOne_1 ++ dktX2_readsOne_2
def dkwX2_readsOne_0 : List UInt8 := [42, 27, 182, 0, 125, 42, 180, 0, 110, 4, 160, 0, 11, 42, 27, 182, 0, 150, 167, 0, 4, 3, 61, 28]
abbrev dktX2_readsOne_0 : List UInt8 := dkwX2_readsOne_0 ++ dktX2_readsOne_1
theorem dksX2_readsOne_0 : cX2_readsOne.data.toList.drop 0 = dktX2_readsOne_0 := by decide +kernel
theorem dksX2_readsOne_1 : cX2_readsOne.data.toList.drop 24 = dktX2_readsOne_1 := dk_seg dksX2_readsOne_0 24 rfl rfl
theorem dksX2_readsOne_2 : cX2_readsOne.data.toList.drop 46 = dktX2_readsOne_2 := dk_seg dksX2_readsOne_1 22 rfl rfl
theorem dksX2_readsOne_3 : cX2_readsOne.data.toList.drop 55 = dktX2_readsOne_3 := dk_seg dksX2_readsOne_2 9 rfl rfl
theorem dksX2_readsOne_4 : cX2_readsOne.data.toList.drop 112 = dktX2_readsOne_4 := dk_seg dksX2_readsOne_3 57 rfl rfl
theorem dksX2_readsOne_5 : cX2_readsOne.data.toList.drop 134 = dktX2_readsOne_5 := dk_seg dksX2_readsOne_4 22 rfl rfl
theorem dX2_readsOne_0 : decode cX2_readsOne 0 = .ok (.aload_n 0, 1) := dk_42 (dk_at dksX2_readsOne_0 0 rfl rfl)
theorem dX2_readsOne_1 : decode cX2_readsOne 1 = .ok (.iload_n 1, 1) := dk_27 (dk_at dksX2_readsOne_0 1 rfl rfl)
theorem dX2_readsOne_2 : decode cX2_readsOne 2 = .ok (.invokevirtual 125, 3) := dk_182 0 125 (dk_at dksX2_readsOne_0 2 rfl rfl)
theorem dX2_readsOne_5 : decode cX2_readsOne 5 = .ok (.aload_n 0, 1) := dk_42 (dk_at dksX2_readsOne_0 5 rfl rfl)
theorem dX2_readsOne_6 : decode cX2_readsOne 6 = .ok (.getfield 110, 3) := dk_180 0 110 (dk_at dksX2_readsOne_0 6 rfl rfl)
theorem dX2_readsOne_9 : decode cX2_readsOne 9 = .ok (.iconst 1, 1) := dk_4 (dk_at dksX2_readsOne_0 9 rfl rfl)
theorem dX2_readsOne_10 : decode cX2_readsOne 10 = .ok (.if_icmp .ne 11, 3) := dk_160 0 11 (dk_at dksX2_readsOne_0 10 rfl rfl)
theorem dX2_readsOne_13 : decode cX2_readsOne 13 = .ok (.aload_n 0, 1) := dk_42 (dk_at dksX2_readsOne_0 13 rfl rfl)
theorem dX2_readsOne_14 : decode cX2_readsOne 14 = .ok (.iload_n 1, 1) := dk_27 (dk_at dksX2_readsOne_0 14 rfl rfl)
theorem dX2_readsOne_15 : decode cX2_readsOne 15 = .ok (.invokevirtual 150, 3) := dk_182 0 150 (dk_at dksX2_readsOne_0 15 rfl rfl)
theorem dX2_readsOne_18 : decode cX2_readsOne 18 = .ok (.goto 4, 3) := dk_167 0 4 (dk_at dksX2_readsOne_0 18 rfl rfl)
theorem dX2_readsOne_21 : decode cX2_readsOne 21 = .ok (.iconst 0, 1) := dk_3 (dk_at dksX2_readsOne_0 21 rfl rfl)
theorem dX2_readsOne_22 : decode cX2_readsOne 22 = .ok (.istore_n 2, 1) := dk_61 (dk_at dksX2_readsOne_0 22 rfl rfl)
theorem dX2_readsOne_23 : decode cX2_readsOne 23 = .ok (.iload_n 2, 1) := dk_28 (dk_at dksX2_readsOne_0 23 rfl rfl)
theorem dX2_readsOne_24 : decode cX2_readsOne 24 = .ok (.ldc 153, 2) := dk_18 153 (dk_at dksX2_readsOne_1 0 rfl rfl)
theorem dX2_readsOne_26 : decode cX2_readsOne 26 = .ok (.if_icmp .ne 7, 3) := dk_160 0 7 (dk_at dksX2_readsOne_1 2 rfl rfl)
theorem dX2_readsOne_29 : decode cX2_readsOne 29 = .ok (.iconst 1, 1) := dk_4 (dk_at dksX2_readsOne_1 5 rfl rfl)
theorem dX2_readsOne_30 : decode cX2_readsOne 30 = .ok (.goto 4, 3) := dk_167 0 4 (dk_at dksX2_readsOne_1 6 rfl rfl)
theorem dX2_readsOne_33 : decode cX2_readsOne 33 = .ok (.iconst 0, 1) := dk_3 (dk_at dksX2_readsOne_1 9 rfl rfl)
theorem dX2_readsOne_34 : decode cX2_readsOne 34 = .ok (.aload_n 0, 1) := dk_42 (dk_at dksX2_readsOne_1 10 rfl rfl)
theorem dX2_readsOne_35 : decode cX2_readsOne 35 = .ok (.getfield 135, 3) := dk_180 0 135 (dk_at dksX2_readsOne_1 11 rfl rfl)
theorem dX2_readsOne_38 : decode cX2_readsOne 38 = .ok (.ifCond .ne 7, 3) := dk_154 0 7 (dk_at dksX2_readsOne_1 14 rfl rfl)
theorem dX2_readsOne_41 : decode cX2_readsOne 41 = .ok (.iconst 1, 1) := dk_4 (dk_at dksX2_readsOne_1 17 rfl rfl)
theorem dX2_readsOne_42 : decode cX2_readsOne 42 = .ok (.goto 4, 3) := dk_167 0 4 (dk_at dksX2_readsOne_1 18 rfl rfl)
theorem dX2_readsOne_45 : decode cX2_readsOne 45 = .ok (.iconst 0, 1) := dk_3 (dk_at dksX2_readsOne_1 21 rfl rfl)
theorem dX2_readsOne_46 : decode cX2_readsOne 46 = .ok (.if_icmp .eq 8, 3) := dk_159 0 8 (dk_at dksX2_readsOne_2 0 rfl rfl)
theorem dX2_readsOne_49 : decode cX2_readsOne 49 = .ok (.aload_n 0, 1) := dk_42 (dk_at dksX2_readsOne_2 3 rfl rfl)
theorem dX2_readsOne_50 : decode cX2_readsOne 50 = .ok (.invokevirtual 128, 3) := dk_182 0 128 (dk_at dksX2_readsOne_2 4 rfl rfl)
theorem dX2_readsOne_53 : decode cX2_readsOne 53 = .ok (.ireturn, 1) := dk_172 (dk_at dksX2_readsOne_2 7 rfl rfl)
theorem dX2_readsOne_54 : decode cX2_readsOne 54 = .ok (.iload_n 2, 1) := dk_28 (dk_at dksX2_readsOne_2 8 rfl rfl)
theorem dX2_readsOne_55 : decode cX2_readsOne 55 = .ok (.lookupswitch 97 #[(179753, 76), (247335, 90), (315851, 57), (1302862, 63), (3544025, 69), (37026792, 83)], 57) := by decide +kernel
theorem dX2_readsOne_112 : decode cX2_readsOne 112 = .ok (.aload_n 0, 1) := dk_42 (dk_at dksX2_readsOne_4 0 rfl rfl)
theorem dX2_readsOne_113 : decode cX2_readsOne 113 = .ok (.iload_n 1, 1) := dk_27 (dk_at dksX2_readsOne_4 1 rfl rfl)
theorem dX2_readsOne_114 : decode cX2_readsOne 114 = .ok (.invokevirtual 154, 3) := dk_182 0 154 (dk_at dksX2_readsOne_4 2 rfl rfl)
theorem dX2_readsOne_117 : decode cX2_readsOne 117 = .ok (.ireturn, 1) := dk_172 (dk_at dksX2_readsOne_4 5 rfl rfl)
theorem dX2_readsOne_118 : decode cX2_readsOne 118 = .ok (.aload_n 0, 1) := dk_42 (dk_at dksX2_readsOne_4 6 rfl rfl)
theorem dX2_readsOne_119 : decode cX2_readsOne 119 = .ok (.iload_n 1, 1) := dk_27 (dk_at dksX2_readsOne_4 7 rfl rfl)
theorem dX2_readsOne_120 : decode cX2_readsOne 120 = .ok (.invokevirtual 157, 3) := dk_182 0 157 (dk_at dksX2_readsOne_4 8 rfl rfl)
theorem dX2_readsOne_123 : decode cX2_readsOne 123 = .ok (.ireturn, 1) := dk_172 (dk_at dksX2_readsOne_4 11 rfl rfl)
theorem dX2_readsOne_124 : decode cX2_readsOne 124 = .ok (.aload_n 0, 1) := dk_42 (dk_at dksX2_readsOne_4 12 rfl rfl)
theorem dX2_readsOne_125 : decode cX2_readsOne 125 = .ok (.iload_n 1, 1) := dk_27 (dk_at dksX2_readsOne_4 13 rfl rfl)
theorem dX2_readsOne_126 : decode cX2_readsOne 126 = .ok (.iconst 0, 1) := dk_3 (dk_at dksX2_readsOne_4 14 rfl rfl)
theorem dX2_readsOne_127 : decode cX2_readsOne 127 = .ok (.invokevirtual 160, 3) := dk_182 0 160 (dk_at dksX2_readsOne_4 15 rfl rfl)
theorem dX2_readsOne_130 : decode cX2_readsOne 130 = .ok (.ireturn, 1) := dk_172 (dk_at dksX2_readsOne_4 18 rfl rfl)
theorem dX2_readsOne_131 : decode cX2_readsOne 131 = .ok (.aload_n 0, 1) := dk_42 (dk_at dksX2_readsOne_4 19 rfl rfl)
theorem dX2_readsOne_132 : decode cX2_readsOne 132 = .ok (.iload_n 1, 1) := dk_27 (dk_at dksX2_readsOne_4 20 rfl rfl)
theorem dX2_readsOne_133 : decode cX2_readsOne 133 = .ok (.iconst 1, 1) := dk_4 (dk_at dksX2_readsOne_4 21 rfl rfl)
theorem dX2_readsOne_134 : decode cX2_readsOne 134 = .ok (.invokevirtual 160, 3) := dk_182 0 160 (dk_at dksX2_readsOne_5 0 rfl rfl)
theorem dX2_readsOne_137 : decode cX2_readsOne 137 = .ok (.ireturn, 1) := dk_172 (dk_at dksX2_readsOne_5 3 rfl rfl)
theorem dX2_readsOne_138 : decode cX2_readsOne 138 = .ok (.aload_n 0, 1) := dk_42 (dk_at dksX2_readsOne_5 4 rfl rfl)
theorem dX2_readsOne_139 : decode cX2_readsOne 139 = .ok (.iload_n 1, 1) := dk_27 (dk_at dksX2_readsOne_5 5 rfl rfl)
theorem dX2_readsOne_140 : decode cX2_readsOne 140 = .ok (.iconst 2, 1) := dk_5 (dk_at dksX2_readsOne_5 6 rfl rfl)
theorem dX2_readsOne_141 : decode cX2_readsOne 141 = .ok (.invokevirtual 160, 3) := dk_182 0 160 (dk_at dksX2_readsOne_5 7 rfl rfl)
theorem dX2_readsOne_144 : decode cX2_readsOne 144 = .ok (.ireturn, 1) := dk_172 (dk_at dksX2_readsOne_5 10 rfl rfl)
theorem dX2_readsOne_145 : decode cX2_readsOne 145 = .ok (.aload_n 0, 1) := dk_42 (dk_at dksX2_readsOne_5 11 rfl rfl)
theorem dX2_readsOne_146 : decode cX2_readsOne 146 = .ok (.iload_n 1, 1) := dk_27 (dk_at dksX2_readsOne_5 12 rfl rfl)
theorem dX2_readsOne_147 : decode cX2_readsOne 147 = .ok (.iconst 3, 1) := dk_6 (dk_at dksX2_readsOne_5 13 rfl rfl)
theorem dX2_readsOne_148 : decode cX2_readsOne 148 = .ok (.invokevirtual 160, 3) := dk_182 0 160 (dk_at dksX2_readsOne_5 14 rfl rfl)
theorem dX2_readsOne_151 : decode cX2_readsOne 151 = .ok (.ireturn, 1) := dk_172 (dk_at dksX2_readsOne_5 17 rfl rfl)
theorem dX2_readsOne_152 : decode cX2_readsOne 152 = .ok (.aload_n 0, 1) := dk_42 (dk_at dksX2_readsOne_5 18 rfl rfl)
theorem dX2_readsOne_153 : decode cX2_readsOne 153 = .ok (.invokevirtual 128, 3) := dk_182 0 128 (dk_at dksX2_readsOne_5 19 rfl rfl)
theorem dX2_readsOne_156 : decode cX2_readsOne 156 = .ok (.ireturn, 1) := dk_172 (dk_at dksX2_readsOne_5 22 rfl rfl)
abbrev cX2_next : ByteArray := prog_13_method_24_code
def yX2_next : MethodName := ⟨RX2, "next", "(I)V"⟩
def dkwX2_next_7 : List UInt8 := [167, 0, 4, 7, 181, 0, 110, 42, 89, 180, 0, 97, 4, 96, 181, 0, 97, 177]
abbrev dktX2_next_7 : List UInt8 := dkwX2_next_7 ++ []
def dkwX2_next_6 : List UInt8 := [181, 0, 97, 167, 255, 199, 42, 42, 27, 42, 180, 0, 97, 182, 0, 100, 16, 59, 160, 0, 7, 6]
abbrev dktX2_next_6 : List UInt8 := dkwX2_next_6 ++ dktX2_next_7
def dkwX2_next_5 : List UInt8 := [27, 42, 180, 0, 97, 182, 0, 100, 96, 16, 48, 100, 181, 0, 119, 42, 89, 180, 0, 97, 4, 96]
abbrev dktX2_next_5 : List UInt8 := dkwX2_next_5 ++ dktX2_next_6
def dkwX2_next_4 : List UInt8 := [42, 42, 180, 0, 119, 16, 99, 164, 0, 9, 17, 3, 232, 167, 0, 23, 16, 10, 42, 180, 0, 119, 104, 42]
abbrev dktX2_next_4 : List UInt8 := dkwX2_next_4 ++ dktX2_next_5
def dkwX2_next_3 : List UInt8 := [182, 0, 116, 153, 0, 73, 42, 5, 181, 0, 110, 42, 3, 181, 0, 119, 42, 27, 182, 0, 116, 153, 0, 88]
abbrev dktX2_next_3 : List UInt8 := dkwX2_next_3 ++ dktX2_next_4
def dkwX2_next_2 : List UInt8 := [42, 27, 182, 0, 113, 153, 0, 127, 42, 89, 180, 0, 97, 4, 96, 181, 0, 97, 167, 255, 238, 42, 27]
abbrev dktX2_next_2 : List UInt8 := dkwX2_next_2 ++ dktX2_next_3
def dkwX2_next_1 : List UInt8 := [160, 0, 11, 42, 3, 181, 0, 110, 167, 0, 148, 42, 27, 182, 0, 113, 153, 0, 29, 42, 4, 181, 0, 110]
abbrev dktX2_next_1 : List UInt8 := dkwX2_next_1 ++ dktX2_next_2
def dkwX2_next_0 : List UInt8 := [42, 27, 182, 0, 103, 42, 42, 180, 0, 97, 181, 0, 107, 42, 180, 0, 97, 42, 180, 0, 22, 27, 46]
abbrev dktX2_next_0 : List UInt8 := dkwX2_next_0 ++ dktX2_next_1
theorem dksX2_next_0 : cX2_next.data.toList.drop 0 = dktX2_next_0 := by decide +kernel
theorem dksX2_next_1 : cX2_next.data.toList.drop 23 = dktX2_next_1 := dk_seg dksX2_next_0 23 rfl rfl
theorem dksX2_next_2 : cX2_next.data.toList.drop 47 = dktX2_next_2 := dk_seg dksX2_next_1 24 rfl rfl
theorem dksX2_next_3 : cX2_next.data.toList.drop 70 = dktX2_next_3 := dk_seg dksX2_next_2 23 rfl rfl
theorem dksX2_next_4 : cX2_next.data.toList.drop 94 = dktX2_next_4 := dk_seg dksX2_next_3 24 rfl rfl
theorem dksX2_next_5 : cX2_next.data.toList.drop 118 = dktX2_next_5 := dk_seg dksX2_next_4 24 rfl rfl
theorem dksX2_next_6 : cX2_next.data.toList.drop 140 = dktX2_next_6 := dk_seg dksX2_next_5 22 rfl rfl
theorem dksX2_next_7 : cX2_next.data.toList.drop 162 = dktX2_next_7 := dk_seg dksX2_next_6 22 rfl rfl
theorem dX2_next_0 : decode cX2_next 0 = .ok (.aload_n 0, 1) := dk_42 (dk_at dksX2_next_0 0 rfl rfl)
theorem dX2_next_1 : decode cX2_next 1 = .ok (.iload_n 1, 1) := dk_27 (dk_at dksX2_next_0 1 rfl rfl)
theorem dX2_next_2 : decode cX2_next 2 = .ok (.invokevirtual 103, 3) := dk_182 0 103 (dk_at dksX2_next_0 2 rfl rfl)
theorem dX2_next_5 : decode cX2_next 5 = .ok (.aload_n 0, 1) := dk_42 (dk_at dksX2_next_0 5 rfl rfl)
theorem dX2_next_6 : decode cX2_next 6 = .ok (.aload_n 0, 1) := dk_42 (dk_at dksX2_next_0 6 rfl rfl)
theorem dX2_next_7 : decode cX2_next 7 = .ok (.getfield 97, 3) := dk_180 0 97 (dk_at dksX2_next_0 7 rfl rfl)
theorem dX2_next_10 : decode cX2_next 10 = .ok (.putfield 107, 3) := dk_181 0 107 (dk_at dksX2_next_0 10 rfl rfl)
theorem dX2_next_13 : decode cX2_next 13 = .ok (.aload_n 0, 1) := dk_42 (dk_at dksX2_next_0 13 rfl rfl)
theorem dX2_next_14 : decode cX2_next 14 = .ok (.getfield 97, 3) := dk_180 0 97 (dk_at dksX2_next_0 14 rfl rfl)
theorem dX2_next_17 : decode cX2_next 17 = .ok (.aload_n 0, 1) := dk_42 (dk_at dksX2_next_0 17 rfl rfl)
theorem dX2_next_18 : decode cX2_next 18 = .ok (.getfield 22, 3) := dk_180 0 22 (dk_at dksX2_next_0 18 rfl rfl)
theorem dX2_next_21 : decode cX2_next 21 = .ok (.iload_n 1, 1) := dk_27 (dk_at dksX2_next_0 21 rfl rfl)
theorem dX2_next_22 : decode cX2_next 22 = .ok (.iaload, 1) := dk_46 (dk_at dksX2_next_0 22 rfl rfl)
theorem dX2_next_23 : decode cX2_next 23 = .ok (.if_icmp .ne 11, 3) := dk_160 0 11 (dk_at dksX2_next_1 0 rfl rfl)
theorem dX2_next_26 : decode cX2_next 26 = .ok (.aload_n 0, 1) := dk_42 (dk_at dksX2_next_1 3 rfl rfl)
theorem dX2_next_27 : decode cX2_next 27 = .ok (.iconst 0, 1) := dk_3 (dk_at dksX2_next_1 4 rfl rfl)
theorem dX2_next_28 : decode cX2_next 28 = .ok (.putfield 110, 3) := dk_181 0 110 (dk_at dksX2_next_1 5 rfl rfl)
theorem dX2_next_31 : decode cX2_next 31 = .ok (.goto 148, 3) := dk_167 0 148 (dk_at dksX2_next_1 8 rfl rfl)
theorem dX2_next_34 : decode cX2_next 34 = .ok (.aload_n 0, 1) := dk_42 (dk_at dksX2_next_1 11 rfl rfl)
theorem dX2_next_35 : decode cX2_next 35 = .ok (.iload_n 1, 1) := dk_27 (dk_at dksX2_next_1 12 rfl rfl)
theorem dX2_next_36 : decode cX2_next 36 = .ok (.invokevirtual 113, 3) := dk_182 0 113 (dk_at dksX2_next_1 13 rfl rfl)
theorem dX2_next_39 : decode cX2_next 39 = .ok (.ifCond .eq 29, 3) := dk_153 0 29 (dk_at dksX2_next_1 16 rfl rfl)
theorem dX2_next_42 : decode cX2_next 42 = .ok (.aload_n 0, 1) := dk_42 (dk_at dksX2_next_1 19 rfl rfl)
theorem dX2_next_43 : decode cX2_next 43 = .ok (.iconst 1, 1) := dk_4 (dk_at dksX2_next_1 20 rfl rfl)
theorem dX2_next_44 : decode cX2_next 44 = .ok (.putfield 110, 3) := dk_181 0 110 (dk_at dksX2_next_1 21 rfl rfl)
theorem dX2_next_47 : decode cX2_next 47 = .ok (.aload_n 0, 1) := dk_42 (dk_at dksX2_next_2 0 rfl rfl)
theorem dX2_next_48 : decode cX2_next 48 = .ok (.iload_n 1, 1) := dk_27 (dk_at dksX2_next_2 1 rfl rfl)
theorem dX2_next_49 : decode cX2_next 49 = .ok (.invokevirtual 113, 3) := dk_182 0 113 (dk_at dksX2_next_2 2 rfl rfl)
theorem dX2_next_52 : decode cX2_next 52 = .ok (.ifCond .eq 127, 3) := dk_153 0 127 (dk_at dksX2_next_2 5 rfl rfl)
theorem dX2_next_55 : decode cX2_next 55 = .ok (.aload_n 0, 1) := dk_42 (dk_at dksX2_next_2 8 rfl rfl)
theorem dX2_next_56 : decode cX2_next 56 = .ok (.dup, 1) := dk_89 (dk_at dksX2_next_2 9 rfl rfl)
theorem dX2_next_57 : decode cX2_next 57 = .ok (.getfield 97, 3) := dk_180 0 97 (dk_at dksX2_next_2 10 rfl rfl)
theorem dX2_next_60 : decode cX2_next 60 = .ok (.iconst 1, 1) := dk_4 (dk_at dksX2_next_2 13 rfl rfl)
theorem dX2_next_61 : decode cX2_next 61 = .ok (.iadd, 1) := dk_96 (dk_at dksX2_next_2 14 rfl rfl)
theorem dX2_next_62 : decode cX2_next 62 = .ok (.putfield 97, 3) := dk_181 0 97 (dk_at dksX2_next_2 15 rfl rfl)
theorem dX2_next_65 : decode cX2_next 65 = .ok (.goto (-18), 3) := dk_167 255 238 (dk_at dksX2_next_2 18 rfl rfl)
theorem dX2_next_68 : decode cX2_next 68 = .ok (.aload_n 0, 1) := dk_42 (dk_at dksX2_next_2 21 rfl rfl)
theorem dX2_next_69 : decode cX2_next 69 = .ok (.iload_n 1, 1) := dk_27 (dk_at dksX2_next_2 22 rfl rfl)
theorem dX2_next_70 : decode cX2_next 70 = .ok (.invokevirtual 116, 3) := dk_182 0 116 (dk_at dksX2_next_3 0 rfl rfl)
theorem dX2_next_73 : decode cX2_next 73 = .ok (.ifCond .eq 73, 3) := dk_153 0 73 (dk_at dksX2_next_3 3 rfl rfl)
theorem dX2_next_76 : decode cX2_next 76 = .ok (.aload_n 0, 1) := dk_42 (dk_at dksX2_next_3 6 rfl rfl)
theorem dX2_next_77 : decode cX2_next 77 = .ok (.iconst 2, 1) := dk_5 (dk_at dksX2_next_3 7 rfl rfl)
theorem dX2_next_78 : decode cX2_next 78 = .ok (.putfield 110, 3) := dk_181 0 110 (dk_at dksX2_next_3 8 rfl rfl)
theorem dX2_next_81 : decode cX2_next 81 = .ok (.aload_n 0, 1) := dk_42 (dk_at dksX2_next_3 11 rfl rfl)
theorem dX2_next_82 : decode cX2_next 82 = .ok (.iconst 0, 1) := dk_3 (dk_at dksX2_next_3 12 rfl rfl)
theorem dX2_next_83 : decode cX2_next 83 = .ok (.putfield 119, 3) := dk_181 0 119 (dk_at dksX2_next_3 13 rfl rfl)
theorem dX2_next_86 : decode cX2_next 86 = .ok (.aload_n 0, 1) := dk_42 (dk_at dksX2_next_3 16 rfl rfl)
theorem dX2_next_87 : decode cX2_next 87 = .ok (.iload_n 1, 1) := dk_27 (dk_at dksX2_next_3 17 rfl rfl)
theorem dX2_next_88 : decode cX2_next 88 = .ok (.invokevirtual 116, 3) := dk_182 0 116 (dk_at dksX2_next_3 18 rfl rfl)
theorem dX2_next_91 : decode cX2_next 91 = .ok (.ifCond .eq 88, 3) := dk_153 0 88 (dk_at dksX2_next_3 21 rfl rfl)
theorem dX2_next_94 : decode cX2_next 94 = .ok (.aload_n 0, 1) := dk_42 (dk_at dksX2_next_4 0 rfl rfl)
theorem dX2_next_95 : decode cX2_next 95 = .ok (.aload_n 0, 1) := dk_42 (dk_at dksX2_next_4 1 rfl rfl)
theorem dX2_next_96 : decode cX2_next 96 = .ok (.getfield 119, 3) := dk_180 0 119 (dk_at dksX2_next_4 2 rfl rfl)
theorem dX2_next_99 : decode cX2_next 99 = .ok (.bipush 99, 2) := dk_16 99 (dk_at dksX2_next_4 5 rfl rfl)
theorem dX2_next_101 : decode cX2_next 101 = .ok (.if_icmp .le 9, 3) := dk_164 0 9 (dk_at dksX2_next_4 7 rfl rfl)
theorem dX2_next_104 : decode cX2_next 104 = .ok (.sipush 1000, 3) := dk_17 3 232 (dk_at dksX2_next_4 10 rfl rfl)
theorem dX2_next_107 : decode cX2_next 107 = .ok (.goto 23, 3) := dk_167 0 23 (dk_at dksX2_next_4 13 rfl rfl)
theorem dX2_next_110 : decode cX2_next 110 = .ok (.bipush 10, 2) := dk_16 10 (dk_at dksX2_next_4 16 rfl rfl)
theorem dX2_next_112 : decode cX2_next 112 = .ok (.aload_n 0, 1) := dk_42 (dk_at dksX2_next_4 18 rfl rfl)
theorem dX2_next_113 : decode cX2_next 113 = .ok (.getfield 119, 3) := dk_180 0 119 (dk_at dksX2_next_4 19 rfl rfl)
theorem dX2_next_116 : decode cX2_next 116 = .ok (.imul, 1) := dk_104 (dk_at dksX2_next_4 22 rfl rfl)
theorem dX2_next_117 : decode cX2_next 117 = .ok (.aload_n 0, 1) := dk_42 (dk_at dksX2_next_4 23 rfl rfl)
theorem dX2_next_118 : decode cX2_next 118 = .ok (.iload_n 1, 1) := dk_27 (dk_at dksX2_next_5 0 rfl rfl)
theorem dX2_next_119 : decode cX2_next 119 = .ok (.aload_n 0, 1) := dk_42 (dk_at dksX2_next_5 1 rfl rfl)
theorem dX2_next_120 : decode cX2_next 120 = .ok (.getfield 97, 3) := dk_180 0 97 (dk_at dksX2_next_5 2 rfl rfl)
theorem dX2_next_123 : decode cX2_next 123 = .ok (.invokevirtual 100, 3) := dk_182 0 100 (dk_at dksX2_next_5 5 rfl rfl)
theorem dX2_next_126 : decode cX2_next 126 = .ok (.iadd, 1) := dk_96 (dk_at dksX2_next_5 8 rfl rfl)
theorem dX2_next_127 : decode cX2_next 127 = .ok (.bipush 48, 2) := dk_16 48 (dk_at dksX2_next_5 9 rfl rfl)
theorem dX2_next_129 : decode cX2_next 129 = .ok (.isub, 1) := dk_100 (dk_at dksX2_next_5 11 rfl rfl)
theorem dX2_next_130 : decode cX2_next 130 = .ok (.putfield 119, 3) := dk_181 0 119 (dk_at dksX2_next_5 12 rfl rfl)
theorem dX2_next_133 : decode cX2_next 133 = .ok (.aload_n 0, 1) := dk_42 (dk_at dksX2_next_5 15 rfl rfl)
theorem dX2_next_134 : decode cX2_next 134 = .ok (.dup, 1) := dk_89 (dk_at dksX2_next_5 16 rfl rfl)
theorem dX2_next_135 : decode cX2_next 135 = .ok (.getfield 97, 3) := dk_180 0 97 (dk_at dksX2_next_5 17 rfl rfl)
theorem dX2_next_138 : decode cX2_next 138 = .ok (.iconst 1, 1) := dk_4 (dk_at dksX2_next_5 20 rfl rfl)
theorem dX2_next_139 : decode cX2_next 139 = .ok (.iadd, 1) := dk_96 (dk_at dksX2_next_5 21 rfl rfl)
theorem dX2_next_140 : decode cX2_next 140 = .ok (.putfield 97, 3) := dk_181 0 97 (dk_at dksX2_next_6 0 rfl rfl)
theorem dX2_next_143 : decode cX2_next 143 = .ok (.goto (-57), 3) := dk_167 255 199 (dk_at dksX2_next_6 3 rfl rfl)
theorem dX2_next_146 : decode cX2_next 146 = .ok (.aload_n 0, 1) := dk_42 (dk_at dksX2_next_6 6 rfl rfl)
theorem dX2_next_147 : decode cX2_next 147 = .ok (.aload_n 0, 1) := dk_42 (dk_at dksX2_next_6 7 rfl rfl)
theorem dX2_next_148 : decode cX2_next 148 = .ok (.iload_n 1, 1) := dk_27 (dk_at dksX2_next_6 8 rfl rfl)
theorem dX2_next_149 : decode cX2_next 149 = .ok (.aload_n 0, 1) := dk_42 (dk_at dksX2_next_6 9 rfl rfl)
theorem dX2_next_150 : decode cX2_next 150 = .ok (.getfield 97, 3) := dk_180 0 97 (dk_at dksX2_next_6 10 rfl rfl)
theorem dX2_next_153 : decode cX2_next 153 = .ok (.invokevirtual 100, 3) := dk_182 0 100 (dk_at dksX2_next_6 13 rfl rfl)
theorem dX2_next_156 : decode cX2_next 156 = .ok (.bipush 59, 2) := dk_16 59 (dk_at dksX2_next_6 16 rfl rfl)
theorem dX2_next_158 : decode cX2_next 158 = .ok (.if_icmp .ne 7, 3) := dk_160 0 7 (dk_at dksX2_next_6 18 rfl rfl)
theorem dX2_next_161 : decode cX2_next 161 = .ok (.iconst 3, 1) := dk_6 (dk_at dksX2_next_6 21 rfl rfl)
theorem dX2_next_162 : decode cX2_next 162 = .ok (.goto 4, 3) := dk_167 0 4 (dk_at dksX2_next_7 0 rfl rfl)
theorem dX2_next_165 : decode cX2_next 165 = .ok (.iconst 4, 1) := dk_7 (dk_at dksX2_next_7 3 rfl rfl)
theorem dX2_next_166 : decode cX2_next 166 = .ok (.putfield 110, 3) := dk_181 0 110 (dk_at dksX2_next_7 4 rfl rfl)
theorem dX2_next_169 : decode cX2_next 169 = .ok (.aload_n 0, 1) := dk_42 (dk_at dksX2_next_7 7 rfl rfl)
theorem dX2_next_170 : decode cX2_next 170 = .ok (.dup, 1) := dk_89 (dk_at dksX2_next_7 8 rfl rfl)
theorem dX2_next_171 : decode cX2_next 171 = .ok (.getfield 97, 3) := dk_180 0 97 (dk_at dksX2_next_7 9 rfl rfl)
theorem dX2_next_174 : decode cX2_next 174 = .ok (.iconst 1, 1) := dk_4 (dk_at dksX2_next_7 12 rfl rfl)
theorem dX2_next_175 : decode cX2_next 175 = .ok (.iadd, 1) := dk_96 (dk_at dksX2_next_7 13 rfl rfl)
theorem dX2_next_176 : decode cX2_next 176 = .ok (.putfield 97, 3) := dk_181 0 97 (dk_at dksX2_next_7 14 rfl rfl)
theorem dX2_next_179 : decode cX2_next 179 = .ok (.return_, 1) := dk_177 (dk_at dksX2_next_7 17 rfl rfl)
abbrev cX2_isLetter : ByteArray := prog_13_method_22_code
def yX2_isLetter : MethodName := ⟨RX2, "isLetter", "(I)Z"⟩
def dkwX2_isLetter_1 : List UInt8 := [16, 122, 184, 0, 75, 153, 0, 7, 4, 167, 0, 4, 3, 172]
abbrev dktX2_isLetter_1 : List UInt8 := dkwX2_isLetter_1 ++ []
def dkwX2_isLetter_0 : List UInt8 := [42, 180, 0, 97, 42, 180, 0, 22, 27, 46, 162, 0, 26, 42, 27, 42, 180, 0, 97, 182, 0, 100, 16, 97]
abbrev dktX2_isLetter_0 : List UInt8 := dkwX2_isLetter_0 ++ dktX2_isLetter_1
theorem dksX2_isLetter_0 : cX2_isLetter.data.toList.drop 0 = dktX2_isLetter_0 := by decide +kernel
theorem dksX2_isLetter_1 : cX2_isLetter.data.toList.drop 24 = dktX2_isLetter_1 := dk_seg dksX2_isLetter_0 24 rfl rfl
theorem dX2_isLetter_0 : decode cX2_isLetter 0 = .ok (.aload_n 0, 1) := dk_42 (dk_at dksX2_isLetter_0 0 rfl rfl)
theorem dX2_isLetter_1 : decode cX2_isLetter 1 = .ok (.getfield 97, 3) := dk_180 0 97 (dk_at dksX2_isLetter_0 1 rfl rfl)
theorem dX2_isLetter_4 : decode cX2_isLetter 4 = .ok (.aload_n 0, 1) := dk_42 (dk_at dksX2_isLetter_0 4 rfl rfl)
theorem dX2_isLetter_5 : decode cX2_isLetter 5 = .ok (.getfield 22, 3) := dk_180 0 22 (dk_at dksX2_isLetter_0 5 rfl rfl)
theorem dX2_isLetter_8 : decode cX2_isLetter 8 = .ok (.iload_n 1, 1) := dk_27 (dk_at dksX2_isLetter_0 8 rfl rfl)
theorem dX2_isLetter_9 : decode cX2_isLetter 9 = .ok (.iaload, 1) := dk_46 (dk_at dksX2_isLetter_0 9 rfl rfl)
theorem dX2_isLetter_10 : decode cX2_isLetter 10 = .ok (.if_icmp .ge 26, 3) := dk_162 0 26 (dk_at dksX2_isLetter_0 10 rfl rfl)
theorem dX2_isLetter_13 : decode cX2_isLetter 13 = .ok (.aload_n 0, 1) := dk_42 (dk_at dksX2_isLetter_0 13 rfl rfl)
theorem dX2_isLetter_14 : decode cX2_isLetter 14 = .ok (.iload_n 1, 1) := dk_27 (dk_at dksX2_isLetter_0 14 rfl rfl)
theorem dX2_isLetter_15 : decode cX2_isLetter 15 = .ok (.aload_n 0, 1) := dk_42 (dk_at dksX2_isLetter_0 15 rfl rfl)
theorem dX2_isLetter_16 : decode cX2_isLetter 16 = .ok (.getfield 97, 3) := dk_180 0 97 (dk_at dksX2_isLetter_0 16 rfl rfl)
theorem dX2_isLetter_19 : decode cX2_isLetter 19 = .ok (.invokevirtual 100, 3) := dk_182 0 100 (dk_at dksX2_isLetter_0 19 rfl rfl)
theorem dX2_isLetter_22 : decode cX2_isLetter 22 = .ok (.bipush 97, 2) := dk_16 97 (dk_at dksX2_isLetter_0 22 rfl rfl)
theorem dX2_isLetter_24 : decode cX2_isLetter 24 = .ok (.bipush 122, 2) := dk_16 122 (dk_at dksX2_isLetter_1 0 rfl rfl)
theorem dX2_isLetter_26 : decode cX2_isLetter 26 = .ok (.invokestatic 75, 3) := dk_184 0 75 (dk_at dksX2_isLetter_1 2 rfl rfl)
theorem dX2_isLetter_29 : decode cX2_isLetter 29 = .ok (.ifCond .eq 7, 3) := dk_153 0 7 (dk_at dksX2_isLetter_1 5 rfl rfl)
theorem dX2_isLetter_32 : decode cX2_isLetter 32 = .ok (.iconst 1, 1) := dk_4 (dk_at dksX2_isLetter_1 8 rfl rfl)
theorem dX2_isLetter_33 : decode cX2_isLetter 33 = .ok (.goto 4, 3) := dk_167 0 4 (dk_at dksX2_isLetter_1 9 rfl rfl)
theorem dX2_isLetter_36 : decode cX2_isLetter 36 = .ok (.iconst 0, 1) := dk_3 (dk_at dksX2_isLetter_1 12 rfl rfl)
theorem dX2_isLetter_37 : decode cX2_isLetter 37 = .ok (.ireturn, 1) := dk_172 (dk_at dksX2_isLetter_1 13 rfl rfl)
abbrev cX2_isFigure : ByteArray := prog_13_method_23_code
def yX2_isFigure : MethodName := ⟨RX2, "isFigure", "(I)Z"⟩
def dkwX2_isFigure_1 : List UInt8 := [16, 57, 184, 0, 75, 153, 0, 7, 4, 167, 0, 4, 3, 172]
abbrev dktX2_isFigure_1 : List UInt8 := dkwX2_isFigure_1 ++ []
def dkwX2_isFigure_0 : List UInt8 := [42, 180, 0, 97, 42, 180, 0, 22, 27, 46, 162, 0, 26, 42, 27, 42, 180, 0, 97, 182, 0, 100, 16, 48]
abbrev dktX2_isFigure_0 : List UInt8 := dkwX2_isFigure_0 ++ dktX2_isFigure_1
theorem dksX2_isFigure_0 : cX2_isFigure.data.toList.drop 0 = dktX2_isFigure_0 := by decide +kernel
theorem dksX2_isFigure_1 : cX2_isFigure.data.toList.drop 24 = dktX2_isFigure_1 := dk_seg dksX2_isFigure_0 24 rfl rfl
theorem dX2_isFigure_0 : decode cX2_isFigure 0 = .ok (.aload_n 0, 1) := dk_42 (dk_at dksX2_isFigure_0 0 rfl rfl)
theorem dX2_isFigure_1 : decode cX2_isFigure 1 = .ok (.getfield 97, 3) := dk_180 0 97 (dk_at dksX2_isFigure_0 1 rfl rfl)
theorem dX2_isFigure_4 : decode cX2_isFigure 4 = .ok (.aload_n 0, 1) := dk_42 (dk_at dksX2_isFigure_0 4 rfl rfl)
theorem dX2_isFigure_5 : decode cX2_isFigure 5 = .ok (.getfield 22, 3) := dk_180 0 22 (dk_at dksX2_isFigure_0 5 rfl rfl)
theorem dX2_isFigure_8 : decode cX2_isFigure 8 = .ok (.iload_n 1, 1) := dk_27 (dk_at dksX2_isFigure_0 8 rfl rfl)
theorem dX2_isFigure_9 : decode cX2_isFigure 9 = .ok (.iaload, 1) := dk_46 (dk_at dksX2_isFigure_0 9 rfl rfl)
theorem dX2_isFigure_10 : decode cX2_isFigure 10 = .ok (.if_icmp .ge 26, 3) := dk_162 0 26 (dk_at dksX2_isFigure_0 10 rfl rfl)
theorem dX2_isFigure_13 : decode cX2_isFigure 13 = .ok (.aload_n 0, 1) := dk_42 (dk_at dksX2_isFigure_0 13 rfl rfl)
theorem dX2_isFigure_14 : decode cX2_isFigure 14 = .ok (.iload_n 1, 1) := dk_27 (dk_at dksX2_isFigure_0 14 rfl rfl)
theorem dX2_isFigure_15 : decode cX2_isFigure 15 = .ok (.aload_n 0, 1) := dk_42 (dk_at dksX2_isFigure_0 15 rfl rfl)
theorem dX2_isFigure_16 : decode cX2_isFigure 16 = .ok (.getfield 97, 3) := dk_180 0 97 (dk_at dksX2_isFigure_0 16 rfl rfl)
theorem dX2_isFigure_19 : decode cX2_isFigure 19 = .ok (.invokevirtual 100, 3) := dk_182 0 100 (dk_at dksX2_isFigure_0 19 rfl rfl)
theorem dX2_isFigure_22 : decode cX2_isFigure 22 = .ok (.bipush 48, 2) := dk_16 48 (dk_at dksX2_isFigure_0 22 rfl rfl)
theorem dX2_isFigure_24 : decode cX2_isFigure 24 = .ok (.bipush 57, 2) := dk_16 57 (dk_at dksX2_isFigure_1 0 rfl rfl)
theorem dX2_isFigure_26 : decode cX2_isFigure 26 = .ok (.invokestatic 75, 3) := dk_184 0 75 (dk_at dksX2_isFigure_1 2 rfl rfl)
theorem dX2_isFigure_29 : decode cX2_isFigure 29 = .ok (.ifCond .eq 7, 3) := dk_153 0 7 (dk_at dksX2_isFigure_1 5 rfl rfl)
theorem dX2_isFigure_32 : decode cX2_isFigure 32 = .ok (.iconst 1, 1) := dk_4 (dk_at dksX2_isFigure_1 8 rfl rfl)
theorem dX2_isFigure_33 : decode cX2_isFigure 33 = .ok (.goto 4, 3) := dk_167 0 4 (dk_at dksX2_isFigure_1 9 rfl rfl)
theorem dX2_isFigure_36 : decode cX2_isFigure 36 = .ok (.iconst 0, 1) := dk_3 (dk_at dksX2_isFigure_1 12 rfl rfl)
theorem dX2_isFigure_37 : decode cX2_isFigure 37 = .ok (.ireturn, 1) := dk_172 (dk_at dksX2_isFigure_1 13 rfl rfl)
abbrev cX2_word : ByteArray := prog_13_method_26_code
def yX2_word : MethodName := ⟨RX2, "word", "(I)I"⟩
def dkwX2_word_2 : List UInt8 := [42, 180, 0, 97, 42, 180, 0, 107, 100, 16, 6, 164, 0, 7, 3, 167, 0, 4, 28, 172]
abbrev dktX2_word_2 : List UInt8 := dkwX2_word_2 ++ []
def dkwX2_word_1 : List UInt8 := [162, 0, 24, 16, 27, 28, 104, 42, 27, 29, 182, 0, 100, 96, 16, 96, 100, 61, 132, 3, 1, 167, 255, 219]
abbrev dktX2_word_1 : List UInt8 := dkwX2_word_1 ++ dktX2_word_2
def dkwX2_word_0 : List UInt8 := [3, 61, 42, 180, 0, 107, 62, 29, 42, 180, 0, 97, 162, 0, 35, 29, 42, 180, 0, 107, 16, 6, 96]
abbrev dktX2_word_0 : List UInt8 := dkwX2_word_0 ++ dktX2_word_1
theorem dksX2_word_0 : cX2_word.data.toList.drop 0 = dktX2_word_0 := by decide +kernel
theorem dksX2_word_1 : cX2_word.data.toList.drop 23 = dktX2_word_1 := dk_seg dksX2_word_0 23 rfl rfl
theorem dksX2_word_2 : cX2_word.data.toList.drop 47 = dktX2_word_2 := dk_seg dksX2_word_1 24 rfl rfl
theorem dX2_word_0 : decode cX2_word 0 = .ok (.iconst 0, 1) := dk_3 (dk_at dksX2_word_0 0 rfl rfl)
theorem dX2_word_1 : decode cX2_word 1 = .ok (.istore_n 2, 1) := dk_61 (dk_at dksX2_word_0 1 rfl rfl)
theorem dX2_word_2 : decode cX2_word 2 = .ok (.aload_n 0, 1) := dk_42 (dk_at dksX2_word_0 2 rfl rfl)
theorem dX2_word_3 : decode cX2_word 3 = .ok (.getfield 107, 3) := dk_180 0 107 (dk_at dksX2_word_0 3 rfl rfl)
theorem dX2_word_6 : decode cX2_word 6 = .ok (.istore_n 3, 1) := dk_62 (dk_at dksX2_word_0 6 rfl rfl)
theorem dX2_word_7 : decode cX2_word 7 = .ok (.iload_n 3, 1) := dk_29 (dk_at dksX2_word_0 7 rfl rfl)
theorem dX2_word_8 : decode cX2_word 8 = .ok (.aload_n 0, 1) := dk_42 (dk_at dksX2_word_0 8 rfl rfl)
theorem dX2_word_9 : decode cX2_word 9 = .ok (.getfield 97, 3) := dk_180 0 97 (dk_at dksX2_word_0 9 rfl rfl)
theorem dX2_word_12 : decode cX2_word 12 = .ok (.if_icmp .ge 35, 3) := dk_162 0 35 (dk_at dksX2_word_0 12 rfl rfl)
theorem dX2_word_15 : decode cX2_word 15 = .ok (.iload_n 3, 1) := dk_29 (dk_at dksX2_word_0 15 rfl rfl)
theorem dX2_word_16 : decode cX2_word 16 = .ok (.aload_n 0, 1) := dk_42 (dk_at dksX2_word_0 16 rfl rfl)
theorem dX2_word_17 : decode cX2_word 17 = .ok (.getfield 107, 3) := dk_180 0 107 (dk_at dksX2_word_0 17 rfl rfl)
theorem dX2_word_20 : decode cX2_word 20 = .ok (.bipush 6, 2) := dk_16 6 (dk_at dksX2_word_0 20 rfl rfl)
theorem dX2_word_22 : decode cX2_word 22 = .ok (.iadd, 1) := dk_96 (dk_at dksX2_word_0 22 rfl rfl)
theorem dX2_word_23 : decode cX2_word 23 = .ok (.if_icmp .ge 24, 3) := dk_162 0 24 (dk_at dksX2_word_1 0 rfl rfl)
theorem dX2_word_26 : decode cX2_word 26 = .ok (.bipush 27, 2) := dk_16 27 (dk_at dksX2_word_1 3 rfl rfl)
theorem dX2_word_28 : decode cX2_word 28 = .ok (.iload_n 2, 1) := dk_28 (dk_at dksX2_word_1 5 rfl rfl)
theorem dX2_word_29 : decode cX2_word 29 = .ok (.imul, 1) := dk_104 (dk_at dksX2_word_1 6 rfl rfl)
theorem dX2_word_30 : decode cX2_word 30 = .ok (.aload_n 0, 1) := dk_42 (dk_at dksX2_word_1 7 rfl rfl)
theorem dX2_word_31 : decode cX2_word 31 = .ok (.iload_n 1, 1) := dk_27 (dk_at dksX2_word_1 8 rfl rfl)
theorem dX2_word_32 : decode cX2_word 32 = .ok (.iload_n 3, 1) := dk_29 (dk_at dksX2_word_1 9 rfl rfl)
theorem dX2_word_33 : decode cX2_word 33 = .ok (.invokevirtual 100, 3) := dk_182 0 100 (dk_at dksX2_word_1 10 rfl rfl)
theorem dX2_word_36 : decode cX2_word 36 = .ok (.iadd, 1) := dk_96 (dk_at dksX2_word_1 13 rfl rfl)
theorem dX2_word_37 : decode cX2_word 37 = .ok (.bipush 96, 2) := dk_16 96 (dk_at dksX2_word_1 14 rfl rfl)
theorem dX2_word_39 : decode cX2_word 39 = .ok (.isub, 1) := dk_100 (dk_at dksX2_word_1 16 rfl rfl)
theorem dX2_word_40 : decode cX2_word 40 = .ok (.istore_n 2, 1) := dk_61 (dk_at dksX2_word_1 17 rfl rfl)
theorem dX2_word_41 : decode cX2_word 41 = .ok (.iinc 3 1, 3) := dk_132 3 1 (dk_at dksX2_word_1 18 rfl rfl)
theorem dX2_word_44 : decode cX2_word 44 = .ok (.goto (-37), 3) := dk_167 255 219 (dk_at dksX2_word_1 21 rfl rfl)
theorem dX2_word_47 : decode cX2_word 47 = .ok (.aload_n 0, 1) := dk_42 (dk_at dksX2_word_2 0 rfl rfl)
theorem dX2_word_48 : decode cX2_word 48 = .ok (.getfield 97, 3) := dk_180 0 97 (dk_at dksX2_word_2 1 rfl rfl)
theorem dX2_word_51 : decode cX2_word 51 = .ok (.aload_n 0, 1) := dk_42 (dk_at dksX2_word_2 4 rfl rfl)
theorem dX2_word_52 : decode cX2_word 52 = .ok (.getfield 107, 3) := dk_180 0 107 (dk_at dksX2_word_2 5 rfl rfl)
theorem dX2_word_55 : decode cX2_word 55 = .ok (.isub, 1) := dk_100 (dk_at dksX2_word_2 8 rfl rfl)
theorem dX2_word_56 : decode cX2_word 56 = .ok (.bipush 6, 2) := dk_16 6 (dk_at dksX2_word_2 9 rfl rfl)
theorem dX2_word_58 : decode cX2_word 58 = .ok (.if_icmp .le 7, 3) := dk_164 0 7 (dk_at dksX2_word_2 11 rfl rfl)
theorem dX2_word_61 : decode cX2_word 61 = .ok (.iconst 0, 1) := dk_3 (dk_at dksX2_word_2 14 rfl rfl)
theorem dX2_word_62 : decode cX2_word 62 = .ok (.goto 4, 3) := dk_167 0 4 (dk_at dksX2_word_2 15 rfl rfl)
theorem dX2_word_65 : decode cX2_word 65 = .ok (.iload_n 2, 1) := dk_28 (dk_at dksX2_word_2 18 rfl rfl)
theorem dX2_word_66 : decode cX2_word 66 = .ok (.ireturn, 1) := dk_172 (dk_at dksX2_word_2 19 rfl rfl)
abbrev cX2_fails : ByteArray := prog_13_method_25_code
def yX2_fails : MethodName := ⟨RX2, "fails", "()Z"⟩
def dkwX2_fails_0 : List UInt8 := [42, 42, 180, 0, 107, 181, 0, 122, 3, 172]
abbrev dktX2_fails_0 : List UInt8 := dkwX2_fails_0 ++ []
theorem dksX2_fails_0 : cX2_fails.data.toList.drop 0 = dktX2_fails_0 := by decide +kernel
theorem dX2_fails_0 : decode cX2_fails 0 = .ok (.aload_n 0, 1) := dk_42 (dk_at dksX2_fails_0 0 rfl rfl)
theorem dX2_fails_1 : decode cX2_fails 1 = .ok (.aload_n 0, 1) := dk_42 (dk_at dksX2_fails_0 1 rfl rfl)
theorem dX2_fails_2 : decode cX2_fails 2 = .ok (.getfield 107, 3) := dk_180 0 107 (dk_at dksX2_fails_0 2 rfl rfl)
theorem dX2_fails_5 : decode cX2_fails 5 = .ok (.putfield 122, 3) := dk_181 0 122 (dk_at dksX2_fails_0 5 rfl rfl)
theorem dX2_fails_8 : decode cX2_fails 8 = .ok (.iconst 0, 1) := dk_3 (dk_at dksX2_fails_0 8 rfl rfl)
theorem dX2_fails_9 : decode cX2_fails 9 = .ok (.ireturn, 1) := dk_172 (dk_at dksX2_fails_0 9 rfl rfl)
abbrev cX2_readsPage : ByteArray := prog_13_method_29_code
def yX2_readsPage : MethodName := ⟨RX2, "readsPage", "(I)Z"⟩
def dkwX2_readsPage_1 : List UInt8 := [16, 16, 182, 0, 132, 154, 0, 5, 3, 172, 42, 42, 180, 0, 119, 181, 0, 138, 42, 27, 182, 0, 141, 172]
abbrev dktX2_readsPage_1 : List UInt8 := dkwX2_readsPage_1 ++ []
def dkwX2_readsPage_0 : List UInt8 := [42, 27, 7, 16, 16, 182, 0, 132, 154, 0, 5, 3, 172, 42, 42, 180, 0, 119, 181, 0, 135, 42, 27, 7]
abbrev dktX2_readsPage_0 : List UInt8 := dkwX2_readsPage_0 ++ dktX2_readsPage_1
theorem dksX2_readsPage_0 : cX2_readsPage.data.toList.drop 0 = dktX2_readsPage_0 := by decide +kernel
theorem dksX2_readsPage_1 : cX2_readsPage.data.toList.drop 24 = dktX2_readsPage_1 := dk_seg dksX2_readsPage_0 24 rfl rfl
theorem dX2_readsPage_0 : decode cX2_readsPage 0 = .ok (.aload_n 0, 1) := dk_42 (dk_at dksX2_readsPage_0 0 rfl rfl)
theorem dX2_readsPage_1 : decode cX2_readsPage 1 = .ok (.iload_n 1, 1) := dk_27 (dk_at dksX2_readsPage_0 1 rfl rfl)
theorem dX2_readsPage_2 : decode cX2_readsPage 2 = .ok (.iconst 4, 1) := dk_7 (dk_at dksX2_readsPage_0 2 rfl rfl)
theorem dX2_readsPage_3 : decode cX2_readsPage 3 = .ok (.bipush 16, 2) := dk_16 16 (dk_at dksX2_readsPage_0 3 rfl rfl)
theorem dX2_readsPage_5 : decode cX2_readsPage 5 = .ok (.invokevirtual 132, 3) := dk_182 0 132 (dk_at dksX2_readsPage_0 5 rfl rfl)
theorem dX2_readsPage_8 : decode cX2_readsPage 8 = .ok (.ifCond .ne 5, 3) := dk_154 0 5 (dk_at dksX2_readsPage_0 8 rfl rfl)
theorem dX2_readsPage_11 : decode cX2_readsPage 11 = .ok (.iconst 0, 1) := dk_3 (dk_at dksX2_readsPage_0 11 rfl rfl)
theorem dX2_readsPage_12 : decode cX2_readsPage 12 = .ok (.ireturn, 1) := dk_172 (dk_at dksX2_readsPage_0 12 rfl rfl)
theorem dX2_readsPage_13 : decode cX2_readsPage 13 = .ok (.aload_n 0, 1) := dk_42 (dk_at dksX2_readsPage_0 13 rfl rfl)
theorem dX2_readsPage_14 : decode cX2_readsPage 14 = .ok (.aload_n 0, 1) := dk_42 (dk_at dksX2_readsPage_0 14 rfl rfl)
theorem dX2_readsPage_15 : decode cX2_readsPage 15 = .ok (.getfield 119, 3) := dk_180 0 119 (dk_at dksX2_readsPage_0 15 rfl rfl)
theorem dX2_readsPage_18 : decode cX2_readsPage 18 = .ok (.putfield 135, 3) := dk_181 0 135 (dk_at dksX2_readsPage_0 18 rfl rfl)
theorem dX2_readsPage_21 : decode cX2_readsPage 21 = .ok (.aload_n 0, 1) := dk_42 (dk_at dksX2_readsPage_0 21 rfl rfl)
theorem dX2_readsPage_22 : decode cX2_readsPage 22 = .ok (.iload_n 1, 1) := dk_27 (dk_at dksX2_readsPage_0 22 rfl rfl)
theorem dX2_readsPage_23 : decode cX2_readsPage 23 = .ok (.iconst 4, 1) := dk_7 (dk_at dksX2_readsPage_0 23 rfl rfl)
theorem dX2_readsPage_24 : decode cX2_readsPage 24 = .ok (.bipush 16, 2) := dk_16 16 (dk_at dksX2_readsPage_1 0 rfl rfl)
theorem dX2_readsPage_26 : decode cX2_readsPage 26 = .ok (.invokevirtual 132, 3) := dk_182 0 132 (dk_at dksX2_readsPage_1 2 rfl rfl)
theorem dX2_readsPage_29 : decode cX2_readsPage 29 = .ok (.ifCond .ne 5, 3) := dk_154 0 5 (dk_at dksX2_readsPage_1 5 rfl rfl)
theorem dX2_readsPage_32 : decode cX2_readsPage 32 = .ok (.iconst 0, 1) := dk_3 (dk_at dksX2_readsPage_1 8 rfl rfl)
theorem dX2_readsPage_33 : decode cX2_readsPage 33 = .ok (.ireturn, 1) := dk_172 (dk_at dksX2_readsPage_1 9 rfl rfl)
theorem dX2_readsPage_34 : decode cX2_readsPage 34 = .ok (.aload_n 0, 1) := dk_42 (dk_at dksX2_readsPage_1 10 rfl rfl)
theorem dX2_readsPage_35 : decode cX2_readsPage 35 = .ok (.aload_n 0, 1) := dk_42 (dk_at dksX2_readsPage_1 11 rfl rfl)
theorem dX2_readsPage_36 : decode cX2_readsPage 36 = .ok (.getfield 119, 3) := dk_180 0 119 (dk_at dksX2_readsPage_1 12 rfl rfl)
theorem dX2_readsPage_39 : decode cX2_readsPage 39 = .ok (.putfield 138, 3) := dk_181 0 138 (dk_at dksX2_readsPage_1 15 rfl rfl)
theorem dX2_readsPage_42 : decode cX2_readsPage 42 = .ok (.aload_n 0, 1) := dk_42 (dk_at dksX2_readsPage_1 18 rfl rfl)
theorem dX2_readsPage_43 : decode cX2_readsPage 43 = .ok (.iload_n 1, 1) := dk_27 (dk_at dksX2_readsPage_1 19 rfl rfl)
theorem dX2_readsPage_44 : decode cX2_readsPage 44 = .ok (.invokevirtual 141, 3) := dk_182 0 141 (dk_at dksX2_readsPage_1 20 rfl rfl)
theorem dX2_readsPage_47 : decode cX2_readsPage 47 = .ok (.ireturn, 1) := dk_172 (dk_at dksX2_readsPage_1 23 rfl rfl)
abbrev cX2_number : ByteArray := prog_13_method_27_code
def yX2_number : MethodName := ⟨RX2, "number", "(III)Z"⟩
def dkwX2_number_1 : List UInt8 := [154, 0, 10, 42, 182, 0, 128, 153, 0, 7, 4, 167, 0, 4, 3, 172]
abbrev dktX2_number_1 : List UInt8 := dkwX2_number_1 ++ []
def dkwX2_number_0 : List UInt8 := [42, 27, 182, 0, 125, 42, 180, 0, 110, 5, 160, 0, 15, 42, 180, 0, 119, 28, 29, 184, 0, 75]
abbrev dktX2_number_0 : List UInt8 := dkwX2_number_0 ++ dktX2_number_1
theorem dksX2_number_0 : cX2_number.data.toList.drop 0 = dktX2_number_0 := by decide +kernel
theorem dksX2_number_1 : cX2_number.data.toList.drop 22 = dktX2_number_1 := dk_seg dksX2_number_0 22 rfl rfl
theorem dX2_number_0 : decode cX2_number 0 = .ok (.aload_n 0, 1) := dk_42 (dk_at dksX2_number_0 0 rfl rfl)
theorem dX2_number_1 : decode cX2_number 1 = .ok (.iload_n 1, 1) := dk_27 (dk_at dksX2_number_0 1 rfl rfl)
theorem dX2_number_2 : decode cX2_number 2 = .ok (.invokevirtual 125, 3) := dk_182 0 125 (dk_at dksX2_number_0 2 rfl rfl)
theorem dX2_number_5 : decode cX2_number 5 = .ok (.aload_n 0, 1) := dk_42 (dk_at dksX2_number_0 5 rfl rfl)
theorem dX2_number_6 : decode cX2_number 6 = .ok (.getfield 110, 3) := dk_180 0 110 (dk_at dksX2_number_0 6 rfl rfl)
theorem dX2_number_9 : decode cX2_number 9 = .ok (.iconst 2, 1) := dk_5 (dk_at dksX2_number_0 9 rfl rfl)
theorem dX2_number_10 : decode cX2_number 10 = .ok (.if_icmp .ne 15, 3) := dk_160 0 15 (dk_at dksX2_number_0 10 rfl rfl)
theorem dX2_number_13 : decode cX2_number 13 = .ok (.aload_n 0, 1) := dk_42 (dk_at dksX2_number_0 13 rfl rfl)
theorem dX2_number_14 : decode cX2_number 14 = .ok (.getfield 119, 3) := dk_180 0 119 (dk_at dksX2_number_0 14 rfl rfl)
theorem dX2_number_17 : decode cX2_number 17 = .ok (.iload_n 2, 1) := dk_28 (dk_at dksX2_number_0 17 rfl rfl)
theorem dX2_number_18 : decode cX2_number 18 = .ok (.iload_n 3, 1) := dk_29 (dk_at dksX2_number_0 18 rfl rfl)
theorem dX2_number_19 : decode cX2_number 19 = .ok (.invokestatic 75, 3) := dk_184 0 75 (dk_at dksX2_number_0 19 rfl rfl)
theorem dX2_number_22 : decode cX2_number 22 = .ok (.ifCond .ne 10, 3) := dk_154 0 10 (dk_at dksX2_number_1 0 rfl rfl)
theorem dX2_number_25 : decode cX2_number 25 = .ok (.aload_n 0, 1) := dk_42 (dk_at dksX2_number_1 3 rfl rfl)
theorem dX2_number_26 : decode cX2_number 26 = .ok (.invokevirtual 128, 3) := dk_182 0 128 (dk_at dksX2_number_1 4 rfl rfl)
theorem dX2_number_29 : decode cX2_number 29 = .ok (.ifCond .eq 7, 3) := dk_153 0 7 (dk_at dksX2_number_1 7 rfl rfl)
theorem dX2_number_32 : decode cX2_number 32 = .ok (.iconst 1, 1) := dk_4 (dk_at dksX2_number_1 10 rfl rfl)
theorem dX2_number_33 : decode cX2_number 33 = .ok (.goto 4, 3) := dk_167 0 4 (dk_at dksX2_number_1 11 rfl rfl)
theorem dX2_number_36 : decode cX2_number 36 = .ok (.iconst 0, 1) := dk_3 (dk_at dksX2_number_1 14 rfl rfl)
theorem dX2_number_37 : decode cX2_number 37 = .ok (.ireturn, 1) := dk_172 (dk_at dksX2_number_1 15 rfl rfl)
abbrev cX2_ends : ByteArray := prog_13_method_28_code
def yX2_ends : MethodName := ⟨RX2, "ends", "(I)Z"⟩
def dkwX2_ends_1 : List UInt8 := [3, 172]
abbrev dktX2_ends_1 : List UInt8 := dkwX2_ends_1 ++ []
def dkwX2_ends_0 : List UInt8 := [42, 27, 182, 0, 125, 42, 180, 0, 110, 6, 159, 0, 10, 42, 182, 0, 128, 153, 0, 7, 4, 167, 0, 4]
abbrev dktX2_ends_0 : List UInt8 := dkwX2_ends_0 ++ dktX2_ends_1
theorem dksX2_ends_0 : cX2_ends.data.toList.drop 0 = dktX2_ends_0 := by decide +kernel
theorem dksX2_ends_1 : cX2_ends.data.toList.drop 24 = dktX2_ends_1 := dk_seg dksX2_ends_0 24 rfl rfl
theorem dX2_ends_0 : decode cX2_ends 0 = .ok (.aload_n 0, 1) := dk_42 (dk_at dksX2_ends_0 0 rfl rfl)
theorem dX2_ends_1 : decode cX2_ends 1 = .ok (.iload_n 1, 1) := dk_27 (dk_at dksX2_ends_0 1 rfl rfl)
theorem dX2_ends_2 : decode cX2_ends 2 = .ok (.invokevirtual 125, 3) := dk_182 0 125 (dk_at dksX2_ends_0 2 rfl rfl)
theorem dX2_ends_5 : decode cX2_ends 5 = .ok (.aload_n 0, 1) := dk_42 (dk_at dksX2_ends_0 5 rfl rfl)
theorem dX2_ends_6 : decode cX2_ends 6 = .ok (.getfield 110, 3) := dk_180 0 110 (dk_at dksX2_ends_0 6 rfl rfl)
theorem dX2_ends_9 : decode cX2_ends 9 = .ok (.iconst 3, 1) := dk_6 (dk_at dksX2_ends_0 9 rfl rfl)
theorem dX2_ends_10 : decode cX2_ends 10 = .ok (.if_icmp .eq 10, 3) := dk_159 0 10 (dk_at dksX2_ends_0 10 rfl rfl)
theorem dX2_ends_13 : decode cX2_ends 13 = .ok (.aload_n 0, 1) := dk_42 (dk_at dksX2_ends_0 13 rfl rfl)
theorem dX2_ends_14 : decode cX2_ends 14 = .ok (.invokevirtual 128, 3) := dk_182 0 128 (dk_at dksX2_ends_0 14 rfl rfl)
theorem dX2_ends_17 : decode cX2_ends 17 = .ok (.ifCond .eq 7, 3) := dk_153 0 7 (dk_at dksX2_ends_0 17 rfl rfl)
theorem dX2_ends_20 : decode cX2_ends 20 = .ok (.iconst 1, 1) := dk_4 (dk_at dksX2_ends_0 20 rfl rfl)
theorem dX2_ends_21 : decode cX2_ends 21 = .ok (.goto 4, 3) := dk_167 0 4 (dk_at dksX2_ends_0 21 rfl rfl)
theorem dX2_ends_24 : decode cX2_ends 24 = .ok (.iconst 0, 1) := dk_3 (dk_at dksX2_ends_1 0 rfl rfl)
theorem dX2_ends_25 : decode cX2_ends 25 = .ok (.ireturn, 1) := dk_172 (dk_at dksX2_ends_1 1 rfl rfl)
abbrev cX2_readsBleed : ByteArray := prog_13_method_30_code
def yX2_readsBleed : MethodName := ⟨RX2, "readsBleed", "(I)Z"⟩
def dkwX2_readsBleed_1 : List UInt8 := [42, 42, 180, 0, 119, 181, 0, 144, 42, 27, 182, 0, 141, 172]
abbrev dktX2_readsBleed_1 : List UInt8 := dkwX2_readsBleed_1 ++ []
def dkwX2_readsBleed_0 : List UInt8 := [42, 180, 0, 144, 155, 0, 8, 42, 182, 0, 128, 172, 42, 27, 3, 5, 182, 0, 132, 154, 0, 5, 3, 172]
abbrev dktX2_readsBleed_0 : List UInt8 := dkwX2_readsBleed_0 ++ dktX2_readsBleed_1
theorem dksX2_readsBleed_0 : cX2_readsBleed.data.toList.drop 0 = dktX2_readsBleed_0 := by decide +kernel
theorem dksX2_readsBleed_1 : cX2_readsBleed.data.toList.drop 24 = dktX2_readsBleed_1 := dk_seg dksX2_readsBleed_0 24 rfl rfl
theorem dX2_readsBleed_0 : decode cX2_readsBleed 0 = .ok (.aload_n 0, 1) := dk_42 (dk_at dksX2_readsBleed_0 0 rfl rfl)
theorem dX2_readsBleed_1 : decode cX2_readsBleed 1 = .ok (.getfield 144, 3) := dk_180 0 144 (dk_at dksX2_readsBleed_0 1 rfl rfl)
theorem dX2_readsBleed_4 : decode cX2_readsBleed 4 = .ok (.ifCond .lt 8, 3) := dk_155 0 8 (dk_at dksX2_readsBleed_0 4 rfl rfl)
theorem dX2_readsBleed_7 : decode cX2_readsBleed 7 = .ok (.aload_n 0, 1) := dk_42 (dk_at dksX2_readsBleed_0 7 rfl rfl)
theorem dX2_readsBleed_8 : decode cX2_readsBleed 8 = .ok (.invokevirtual 128, 3) := dk_182 0 128 (dk_at dksX2_readsBleed_0 8 rfl rfl)
theorem dX2_readsBleed_11 : decode cX2_readsBleed 11 = .ok (.ireturn, 1) := dk_172 (dk_at dksX2_readsBleed_0 11 rfl rfl)
theorem dX2_readsBleed_12 : decode cX2_readsBleed 12 = .ok (.aload_n 0, 1) := dk_42 (dk_at dksX2_readsBleed_0 12 rfl rfl)
theorem dX2_readsBleed_13 : decode cX2_readsBleed 13 = .ok (.iload_n 1, 1) := dk_27 (dk_at dksX2_readsBleed_0 13 rfl rfl)
theorem dX2_readsBleed_14 : decode cX2_readsBleed 14 = .ok (.iconst 0, 1) := dk_3 (dk_at dksX2_readsBleed_0 14 rfl rfl)
theorem dX2_readsBleed_15 : decode cX2_readsBleed 15 = .ok (.iconst 2, 1) := dk_5 (dk_at dksX2_readsBleed_0 15 rfl rfl)
theorem dX2_readsBleed_16 : decode cX2_readsBleed 16 = .ok (.invokevirtual 132, 3) := dk_182 0 132 (dk_at dksX2_readsBleed_0 16 rfl rfl)
theorem dX2_readsBleed_19 : decode cX2_readsBleed 19 = .ok (.ifCond .ne 5, 3) := dk_154 0 5 (dk_at dksX2_readsBleed_0 19 rfl rfl)
theorem dX2_readsBleed_22 : decode cX2_readsBleed 22 = .ok (.iconst 0, 1) := dk_3 (dk_at dksX2_readsBleed_0 22 rfl rfl)
theorem dX2_readsBleed_23 : decode cX2_readsBleed 23 = .ok (.ireturn, 1) := dk_172 (dk_at dksX2_readsBleed_0 23 rfl rfl)
theorem dX2_readsBleed_24 : decode cX2_readsBleed 24 = .ok (.aload_n 0, 1) := dk_42 (dk_at dksX2_readsBleed_1 0 rfl rfl)
theorem dX2_readsBleed_25 : decode cX2_readsBleed 25 = .ok (.aload_n 0, 1) := dk_42 (dk_at dksX2_readsBleed_1 1 rfl rfl)
theorem dX2_readsBleed_26 : decode cX2_readsBleed 26 = .ok (.getfield 119, 3) := dk_180 0 119 (dk_at dksX2_readsBleed_1 2 rfl rfl)
theorem dX2_readsBleed_29 : decode cX2_readsBleed 29 = .ok (.putfield 144, 3) := dk_181 0 144 (dk_at dksX2_readsBleed_1 5 rfl rfl)
theorem dX2_readsBleed_32 : decode cX2_readsBleed 32 = .ok (.aload_n 0, 1) := dk_42 (dk_at dksX2_readsBleed_1 8 rfl rfl)
theorem dX2_readsBleed_33 : decode cX2_readsBleed 33 = .ok (.iload_n 1, 1) := dk_27 (dk_at dksX2_readsBleed_1 9 rfl rfl)
theorem dX2_readsBleed_34 : decode cX2_readsBleed 34 = .ok (.invokevirtual 141, 3) := dk_182 0 141 (dk_at dksX2_readsBleed_1 10 rfl rfl)
theorem dX2_readsBleed_37 : decode cX2_readsBleed 37 = .ok (.ireturn, 1) := dk_172 (dk_at dksX2_readsBleed_1 13 rfl rfl)
abbrev cX2_readsFrame : ByteArray := prog_13_method_31_code
def yX2_readsFrame : MethodName := ⟨RX2, "readsFrame", "(II)Z"⟩
def dkwX2_readsFrame_6 : List UInt8 := [181, 0, 147, 42, 27, 182, 0, 141, 172]
abbrev dktX2_readsFrame_6 : List UInt8 := dkwX2_readsFrame_6 ++ []
def dkwX2_readsFrame_5 : List UInt8 := [100, 46, 161, 0, 8, 42, 182, 0, 128, 172, 132, 4, 1, 167, 255, 158, 42, 89, 180, 0, 147, 4, 96]
abbrev dktX2_readsFrame_5 : List UInt8 := dkwX2_readsFrame_5 ++ dktX2_readsFrame_6
def dkwX2_readsFrame_4 : List UInt8 := [180, 0, 32, 29, 21, 4, 96, 5, 100, 46, 42, 180, 0, 119, 96, 42, 180, 0, 32, 29, 21, 4, 96, 7]
abbrev dktX2_readsFrame_4 : List UInt8 := dkwX2_readsFrame_4 ++ dktX2_readsFrame_5
def dkwX2_readsFrame_3 : List UInt8 := [3, 172, 42, 180, 0, 32, 29, 21, 4, 96, 42, 180, 0, 119, 79, 21, 4, 7, 164, 0, 38, 42]
abbrev dktX2_readsFrame_3 : List UInt8 := dkwX2_readsFrame_3 ++ dktX2_readsFrame_4
def dkwX2_readsFrame_2 : List UInt8 := [4, 167, 0, 4, 3, 21, 4, 6, 162, 0, 8, 16, 16, 167, 0, 5, 16, 9, 182, 0, 132, 154, 0, 5]
abbrev dktX2_readsFrame_2 : List UInt8 := dkwX2_readsFrame_2 ++ dktX2_readsFrame_3
def dkwX2_readsFrame_1 : List UInt8 := [180, 0, 32, 29, 28, 79, 4, 54, 4, 21, 4, 16, 7, 162, 0, 97, 42, 27, 21, 4, 6, 162, 0, 7]
abbrev dktX2_readsFrame_1 : List UInt8 := dkwX2_readsFrame_1 ++ dktX2_readsFrame_2
def dkwX2_readsFrame_0 : List UInt8 := [42, 180, 0, 147, 16, 8, 160, 0, 8, 42, 182, 0, 128, 172, 16, 7, 42, 180, 0, 147, 104, 62, 42]
abbrev dktX2_readsFrame_0 : List UInt8 := dkwX2_readsFrame_0 ++ dktX2_readsFrame_1
theorem dksX2_readsFrame_0 : cX2_readsFrame.data.toList.drop 0 = dktX2_readsFrame_0 := by decide +kernel
theorem dksX2_readsFrame_1 : cX2_readsFrame.data.toList.drop 23 = dktX2_readsFrame_1 := dk_seg dksX2_readsFrame_0 23 rfl rfl
theorem dksX2_readsFrame_2 : cX2_readsFrame.data.toList.drop 47 = dktX2_readsFrame_2 := dk_seg dksX2_readsFrame_1 24 rfl rfl
theorem dksX2_readsFrame_3 : cX2_readsFrame.data.toList.drop 71 = dktX2_readsFrame_3 := dk_seg dksX2_readsFrame_2 24 rfl rfl
theorem dksX2_readsFrame_4 : cX2_readsFrame.data.toList.drop 93 = dktX2_readsFrame_4 := dk_seg dksX2_readsFrame_3 22 rfl rfl
theorem dksX2_readsFrame_5 : cX2_readsFrame.data.toList.drop 117 = dktX2_readsFrame_5 := dk_seg dksX2_readsFrame_4 24 rfl rfl
theorem dksX2_readsFrame_6 : cX2_readsFrame.data.toList.drop 140 = dktX2_readsFrame_6 := dk_seg dksX2_readsFrame_5 23 rfl rfl
theorem dX2_readsFrame_0 : decode cX2_readsFrame 0 = .ok (.aload_n 0, 1) := dk_42 (dk_at dksX2_readsFrame_0 0 rfl rfl)
theorem dX2_readsFrame_1 : decode cX2_readsFrame 1 = .ok (.getfield 147, 3) := dk_180 0 147 (dk_at dksX2_readsFrame_0 1 rfl rfl)
theorem dX2_readsFrame_4 : decode cX2_readsFrame 4 = .ok (.bipush 8, 2) := dk_16 8 (dk_at dksX2_readsFrame_0 4 rfl rfl)
theorem dX2_readsFrame_6 : decode cX2_readsFrame 6 = .ok (.if_icmp .ne 8, 3) := dk_160 0 8 (dk_at dksX2_readsFrame_0 6 rfl rfl)
theorem dX2_readsFrame_9 : decode cX2_readsFrame 9 = .ok (.aload_n 0, 1) := dk_42 (dk_at dksX2_readsFrame_0 9 rfl rfl)
theorem dX2_readsFrame_10 : decode cX2_readsFrame 10 = .ok (.invokevirtual 128, 3) := dk_182 0 128 (dk_at dksX2_readsFrame_0 10 rfl rfl)
theorem dX2_readsFrame_13 : decode cX2_readsFrame 13 = .ok (.ireturn, 1) := dk_172 (dk_at dksX2_readsFrame_0 13 rfl rfl)
theorem dX2_readsFrame_14 : decode cX2_readsFrame 14 = .ok (.bipush 7, 2) := dk_16 7 (dk_at dksX2_readsFrame_0 14 rfl rfl)
theorem dX2_readsFrame_16 : decode cX2_readsFrame 16 = .ok (.aload_n 0, 1) := dk_42 (dk_at dksX2_readsFrame_0 16 rfl rfl)
theorem dX2_readsFrame_17 : decode cX2_readsFrame 17 = .ok (.getfield 147, 3) := dk_180 0 147 (dk_at dksX2_readsFrame_0 17 rfl rfl)
theorem dX2_readsFrame_20 : decode cX2_readsFrame 20 = .ok (.imul, 1) := dk_104 (dk_at dksX2_readsFrame_0 20 rfl rfl)
theorem dX2_readsFrame_21 : decode cX2_readsFrame 21 = .ok (.istore_n 3, 1) := dk_62 (dk_at dksX2_readsFrame_0 21 rfl rfl)
theorem dX2_readsFrame_22 : decode cX2_readsFrame 22 = .ok (.aload_n 0, 1) := dk_42 (dk_at dksX2_readsFrame_0 22 rfl rfl)
theorem dX2_readsFrame_23 : decode cX2_readsFrame 23 = .ok (.getfield 32, 3) := dk_180 0 32 (dk_at dksX2_readsFrame_1 0 rfl rfl)
theorem dX2_readsFrame_26 : decode cX2_readsFrame 26 = .ok (.iload_n 3, 1) := dk_29 (dk_at dksX2_readsFrame_1 3 rfl rfl)
theorem dX2_readsFrame_27 : decode cX2_readsFrame 27 = .ok (.iload_n 2, 1) := dk_28 (dk_at dksX2_readsFrame_1 4 rfl rfl)
theorem dX2_readsFrame_28 : decode cX2_readsFrame 28 = .ok (.iastore, 1) := dk_79 (dk_at dksX2_readsFrame_1 5 rfl rfl)
theorem dX2_readsFrame_29 : decode cX2_readsFrame 29 = .ok (.iconst 1, 1) := dk_4 (dk_at dksX2_readsFrame_1 6 rfl rfl)
theorem dX2_readsFrame_30 : decode cX2_readsFrame 30 = .ok (.istore 4, 2) := dk_54 4 (dk_at dksX2_readsFrame_1 7 rfl rfl)
theorem dX2_readsFrame_32 : decode cX2_readsFrame 32 = .ok (.iload 4, 2) := dk_21 4 (dk_at dksX2_readsFrame_1 9 rfl rfl)
theorem dX2_readsFrame_34 : decode cX2_readsFrame 34 = .ok (.bipush 7, 2) := dk_16 7 (dk_at dksX2_readsFrame_1 11 rfl rfl)
theorem dX2_readsFrame_36 : decode cX2_readsFrame 36 = .ok (.if_icmp .ge 97, 3) := dk_162 0 97 (dk_at dksX2_readsFrame_1 13 rfl rfl)
theorem dX2_readsFrame_39 : decode cX2_readsFrame 39 = .ok (.aload_n 0, 1) := dk_42 (dk_at dksX2_readsFrame_1 16 rfl rfl)
theorem dX2_readsFrame_40 : decode cX2_readsFrame 40 = .ok (.iload_n 1, 1) := dk_27 (dk_at dksX2_readsFrame_1 17 rfl rfl)
theorem dX2_readsFrame_41 : decode cX2_readsFrame 41 = .ok (.iload 4, 2) := dk_21 4 (dk_at dksX2_readsFrame_1 18 rfl rfl)
theorem dX2_readsFrame_43 : decode cX2_readsFrame 43 = .ok (.iconst 3, 1) := dk_6 (dk_at dksX2_readsFrame_1 20 rfl rfl)
theorem dX2_readsFrame_44 : decode cX2_readsFrame 44 = .ok (.if_icmp .ge 7, 3) := dk_162 0 7 (dk_at dksX2_readsFrame_1 21 rfl rfl)
theorem dX2_readsFrame_47 : decode cX2_readsFrame 47 = .ok (.iconst 1, 1) := dk_4 (dk_at dksX2_readsFrame_2 0 rfl rfl)
theorem dX2_readsFrame_48 : decode cX2_readsFrame 48 = .ok (.goto 4, 3) := dk_167 0 4 (dk_at dksX2_readsFrame_2 1 rfl rfl)
theorem dX2_readsFrame_51 : decode cX2_readsFrame 51 = .ok (.iconst 0, 1) := dk_3 (dk_at dksX2_readsFrame_2 4 rfl rfl)
theorem dX2_readsFrame_52 : decode cX2_readsFrame 52 = .ok (.iload 4, 2) := dk_21 4 (dk_at dksX2_readsFrame_2 5 rfl rfl)
theorem dX2_readsFrame_54 : decode cX2_readsFrame 54 = .ok (.iconst 3, 1) := dk_6 (dk_at dksX2_readsFrame_2 7 rfl rfl)
theorem dX2_readsFrame_55 : decode cX2_readsFrame 55 = .ok (.if_icmp .ge 8, 3) := dk_162 0 8 (dk_at dksX2_readsFrame_2 8 rfl rfl)
theorem dX2_readsFrame_58 : decode cX2_readsFrame 58 = .ok (.bipush 16, 2) := dk_16 16 (dk_at dksX2_readsFrame_2 11 rfl rfl)
theorem dX2_readsFrame_60 : decode cX2_readsFrame 60 = .ok (.goto 5, 3) := dk_167 0 5 (dk_at dksX2_readsFrame_2 13 rfl rfl)
theorem dX2_readsFrame_63 : decode cX2_readsFrame 63 = .ok (.bipush 9, 2) := dk_16 9 (dk_at dksX2_readsFrame_2 16 rfl rfl)
theorem dX2_readsFrame_65 : decode cX2_readsFrame 65 = .ok (.invokevirtual 132, 3) := dk_182 0 132 (dk_at dksX2_readsFrame_2 18 rfl rfl)
theorem dX2_readsFrame_68 : decode cX2_readsFrame 68 = .ok (.ifCond .ne 5, 3) := dk_154 0 5 (dk_at dksX2_readsFrame_2 21 rfl rfl)
theorem dX2_readsFrame_71 : decode cX2_readsFrame 71 = .ok (.iconst 0, 1) := dk_3 (dk_at dksX2_readsFrame_3 0 rfl rfl)
theorem dX2_readsFrame_72 : decode cX2_readsFrame 72 = .ok (.ireturn, 1) := dk_172 (dk_at dksX2_readsFrame_3 1 rfl rfl)
theorem dX2_readsFrame_73 : decode cX2_readsFrame 73 = .ok (.aload_n 0, 1) := dk_42 (dk_at dksX2_readsFrame_3 2 rfl rfl)
theorem dX2_readsFrame_74 : decode cX2_readsFrame 74 = .ok (.getfield 32, 3) := dk_180 0 32 (dk_at dksX2_readsFrame_3 3 rfl rfl)
theorem dX2_readsFrame_77 : decode cX2_readsFrame 77 = .ok (.iload_n 3, 1) := dk_29 (dk_at dksX2_readsFrame_3 6 rfl rfl)
theorem dX2_readsFrame_78 : decode cX2_readsFrame 78 = .ok (.iload 4, 2) := dk_21 4 (dk_at dksX2_readsFrame_3 7 rfl rfl)
theorem dX2_readsFrame_80 : decode cX2_readsFrame 80 = .ok (.iadd, 1) := dk_96 (dk_at dksX2_readsFrame_3 9 rfl rfl)
theorem dX2_readsFrame_81 : decode cX2_readsFrame 81 = .ok (.aload_n 0, 1) := dk_42 (dk_at dksX2_readsFrame_3 10 rfl rfl)
theorem dX2_readsFrame_82 : decode cX2_readsFrame 82 = .ok (.getfield 119, 3) := dk_180 0 119 (dk_at dksX2_readsFrame_3 11 rfl rfl)
theorem dX2_readsFrame_85 : decode cX2_readsFrame 85 = .ok (.iastore, 1) := dk_79 (dk_at dksX2_readsFrame_3 14 rfl rfl)
theorem dX2_readsFrame_86 : decode cX2_readsFrame 86 = .ok (.iload 4, 2) := dk_21 4 (dk_at dksX2_readsFrame_3 15 rfl rfl)
theorem dX2_readsFrame_88 : decode cX2_readsFrame 88 = .ok (.iconst 4, 1) := dk_7 (dk_at dksX2_readsFrame_3 17 rfl rfl)
theorem dX2_readsFrame_89 : decode cX2_readsFrame 89 = .ok (.if_icmp .le 38, 3) := dk_164 0 38 (dk_at dksX2_readsFrame_3 18 rfl rfl)
theorem dX2_readsFrame_92 : decode cX2_readsFrame 92 = .ok (.aload_n 0, 1) := dk_42 (dk_at dksX2_readsFrame_3 21 rfl rfl)
theorem dX2_readsFrame_93 : decode cX2_readsFrame 93 = .ok (.getfield 32, 3) := dk_180 0 32 (dk_at dksX2_readsFrame_4 0 rfl rfl)
theorem dX2_readsFrame_96 : decode cX2_readsFrame 96 = .ok (.iload_n 3, 1) := dk_29 (dk_at dksX2_readsFrame_4 3 rfl rfl)
theorem dX2_readsFrame_97 : decode cX2_readsFrame 97 = .ok (.iload 4, 2) := dk_21 4 (dk_at dksX2_readsFrame_4 4 rfl rfl)
theorem dX2_readsFrame_99 : decode cX2_readsFrame 99 = .ok (.iadd, 1) := dk_96 (dk_at dksX2_readsFrame_4 6 rfl rfl)
theorem dX2_readsFrame_100 : decode cX2_readsFrame 100 = .ok (.iconst 2, 1) := dk_5 (dk_at dksX2_readsFrame_4 7 rfl rfl)
theorem dX2_readsFrame_101 : decode cX2_readsFrame 101 = .ok (.isub, 1) := dk_100 (dk_at dksX2_readsFrame_4 8 rfl rfl)
theorem dX2_readsFrame_102 : decode cX2_readsFrame 102 = .ok (.iaload, 1) := dk_46 (dk_at dksX2_readsFrame_4 9 rfl rfl)
theorem dX2_readsFrame_103 : decode cX2_readsFrame 103 = .ok (.aload_n 0, 1) := dk_42 (dk_at dksX2_readsFrame_4 10 rfl rfl)
theorem dX2_readsFrame_104 : decode cX2_readsFrame 104 = .ok (.getfield 119, 3) := dk_180 0 119 (dk_at dksX2_readsFrame_4 11 rfl rfl)
theorem dX2_readsFrame_107 : decode cX2_readsFrame 107 = .ok (.iadd, 1) := dk_96 (dk_at dksX2_readsFrame_4 14 rfl rfl)
theorem dX2_readsFrame_108 : decode cX2_readsFrame 108 = .ok (.aload_n 0, 1) := dk_42 (dk_at dksX2_readsFrame_4 15 rfl rfl)
theorem dX2_readsFrame_109 : decode cX2_readsFrame 109 = .ok (.getfield 32, 3) := dk_180 0 32 (dk_at dksX2_readsFrame_4 16 rfl rfl)
theorem dX2_readsFrame_112 : decode cX2_readsFrame 112 = .ok (.iload_n 3, 1) := dk_29 (dk_at dksX2_readsFrame_4 19 rfl rfl)
theorem dX2_readsFrame_113 : decode cX2_readsFrame 113 = .ok (.iload 4, 2) := dk_21 4 (dk_at dksX2_readsFrame_4 20 rfl rfl)
theorem dX2_readsFrame_115 : decode cX2_readsFrame 115 = .ok (.iadd, 1) := dk_96 (dk_at dksX2_readsFrame_4 22 rfl rfl)
theorem dX2_readsFrame_116 : decode cX2_readsFrame 116 = .ok (.iconst 4, 1) := dk_7 (dk_at dksX2_readsFrame_4 23 rfl rfl)
theorem dX2_readsFrame_117 : decode cX2_readsFrame 117 = .ok (.isub, 1) := dk_100 (dk_at dksX2_readsFrame_5 0 rfl rfl)
theorem dX2_readsFrame_118 : decode cX2_readsFrame 118 = .ok (.iaload, 1) := dk_46 (dk_at dksX2_readsFrame_5 1 rfl rfl)
theorem dX2_readsFrame_119 : decode cX2_readsFrame 119 = .ok (.if_icmp .lt 8, 3) := dk_161 0 8 (dk_at dksX2_readsFrame_5 2 rfl rfl)
theorem dX2_readsFrame_122 : decode cX2_readsFrame 122 = .ok (.aload_n 0, 1) := dk_42 (dk_at dksX2_readsFrame_5 5 rfl rfl)
theorem dX2_readsFrame_123 : decode cX2_readsFrame 123 = .ok (.invokevirtual 128, 3) := dk_182 0 128 (dk_at dksX2_readsFrame_5 6 rfl rfl)
theorem dX2_readsFrame_126 : decode cX2_readsFrame 126 = .ok (.ireturn, 1) := dk_172 (dk_at dksX2_readsFrame_5 9 rfl rfl)
theorem dX2_readsFrame_127 : decode cX2_readsFrame 127 = .ok (.iinc 4 1, 3) := dk_132 4 1 (dk_at dksX2_readsFrame_5 10 rfl rfl)
theorem dX2_readsFrame_130 : decode cX2_readsFrame 130 = .ok (.goto (-98), 3) := dk_167 255 158 (dk_at dksX2_readsFrame_5 13 rfl rfl)
theorem dX2_readsFrame_133 : decode cX2_readsFrame 133 = .ok (.aload_n 0, 1) := dk_42 (dk_at dksX2_readsFrame_5 16 rfl rfl)
theorem dX2_readsFrame_134 : decode cX2_readsFrame 134 = .ok (.dup, 1) := dk_89 (dk_at dksX2_readsFrame_5 17 rfl rfl)
theorem dX2_readsFrame_135 : decode cX2_readsFrame 135 = .ok (.getfield 147, 3) := dk_180 0 147 (dk_at dksX2_readsFrame_5 18 rfl rfl)
theorem dX2_readsFrame_138 : decode cX2_readsFrame 138 = .ok (.iconst 1, 1) := dk_4 (dk_at dksX2_readsFrame_5 21 rfl rfl)
theorem dX2_readsFrame_139 : decode cX2_readsFrame 139 = .ok (.iadd, 1) := dk_96 (dk_at dksX2_readsFrame_5 22 rfl rfl)
theorem dX2_readsFrame_140 : decode cX2_readsFrame 140 = .ok (.putfield 147, 3) := dk_181 0 147 (dk_at dksX2_readsFrame_6 0 rfl rfl)
theorem dX2_readsFrame_143 : decode cX2_readsFrame 143 = .ok (.aload_n 0, 1) := dk_42 (dk_at dksX2_readsFrame_6 3 rfl rfl)
theorem dX2_readsFrame_144 : decode cX2_readsFrame 144 = .ok (.iload_n 1, 1) := dk_27 (dk_at dksX2_readsFrame_6 4 rfl rfl)
theorem dX2_readsFrame_145 : decode cX2_readsFrame 145 = .ok (.invokevirtual 141, 3) := dk_182 0 141 (dk_at dksX2_readsFrame_6 5 rfl rfl)
theorem dX2_readsFrame_148 : decode cX2_readsFrame 148 = .ok (.ireturn, 1) := dk_172 (dk_at dksX2_readsFrame_6 8 rfl rfl)
abbrev cX2_sheet : ByteArray := prog_13_method_35_code
def yX2_sheet : MethodName := ⟨RX2, "sheet", "(I)I"⟩
def dkwX2_sheet_6 : List UInt8 := [6, 162, 0, 16, 42, 180, 0, 59, 28, 2, 79, 132, 2, 1, 167, 255, 241, 42, 180, 0, 179, 172]
abbrev dktX2_sheet_6 : List UInt8 := dkwX2_sheet_6 ++ []
def dkwX2_sheet_5 : List UInt8 := [180, 0, 35, 28, 3, 79, 132, 2, 1, 167, 255, 240, 42, 182, 0, 182, 42, 3, 181, 0, 185, 3, 61, 28]
abbrev dktX2_sheet_5 : List UInt8 := dkwX2_sheet_5 ++ dktX2_sheet_6
def dkwX2_sheet_4 : List UInt8 := [42, 180, 0, 32, 28, 46, 79, 132, 2, 1, 167, 255, 235, 3, 61, 28, 16, 33, 162, 0, 16, 42]
abbrev dktX2_sheet_4 : List UInt8 := dkwX2_sheet_4 ++ dktX2_sheet_5
def dkwX2_sheet_3 : List UInt8 := [181, 0, 176, 42, 42, 180, 0, 147, 181, 0, 179, 3, 61, 28, 16, 56, 162, 0, 21, 42, 180, 0, 29, 28]
abbrev dktX2_sheet_3 : List UInt8 := dkwX2_sheet_3 ++ dktX2_sheet_4
def dkwX2_sheet_2 : List UInt8 := [180, 0, 138, 181, 0, 173, 42, 42, 180, 0, 144, 156, 0, 7, 3, 167, 0, 7, 42, 180, 0, 144]
abbrev dktX2_sheet_2 : List UInt8 := dkwX2_sheet_2 ++ dktX2_sheet_3
def dkwX2_sheet_1 : List UInt8 := [42, 27, 182, 0, 167, 16, 247, 159, 0, 6, 16, 252, 172, 42, 42, 180, 0, 135, 181, 0, 170, 42, 42]
abbrev dktX2_sheet_1 : List UInt8 := dkwX2_sheet_1 ++ dktX2_sheet_2
def dkwX2_sheet_0 : List UInt8 := [27, 184, 0, 94, 154, 0, 5, 2, 172, 42, 180, 0, 22, 27, 46, 156, 0, 9, 42, 4, 182, 0, 83, 172]
abbrev dktX2_sheet_0 : List UInt8 := dkwX2_sheet_0 ++ dktX2_sheet_1
theorem dksX2_sheet_0 : cX2_sheet.data.toList.drop 0 = dktX2_sheet_0 := by decide +kernel
theorem dksX2_sheet_1 : cX2_sheet.data.toList.drop 24 = dktX2_sheet_1 := dk_seg dksX2_sheet_0 24 rfl rfl
theorem dksX2_sheet_2 : cX2_sheet.data.toList.drop 47 = dktX2_sheet_2 := dk_seg dksX2_sheet_1 23 rfl rfl
theorem dksX2_sheet_3 : cX2_sheet.data.toList.drop 69 = dktX2_sheet_3 := dk_seg dksX2_sheet_2 22 rfl rfl
theorem dksX2_sheet_4 : cX2_sheet.data.toList.drop 93 = dktX2_sheet_4 := dk_seg dksX2_sheet_3 24 rfl rfl
theorem dksX2_sheet_5 : cX2_sheet.data.toList.drop 115 = dktX2_sheet_5 := dk_seg dksX2_sheet_4 22 rfl rfl
theorem dksX2_sheet_6 : cX2_sheet.data.toList.drop 139 = dktX2_sheet_6 := dk_seg dksX2_sheet_5 24 rfl rfl
theorem dX2_sheet_0 : decode cX2_sheet 0 = .ok (.iload_n 1, 1) := dk_27 (dk_at dksX2_sheet_0 0 rfl rfl)
theorem dX2_sheet_1 : decode cX2_sheet 1 = .ok (.invokestatic 94, 3) := dk_184 0 94 (dk_at dksX2_sheet_0 1 rfl rfl)
theorem dX2_sheet_4 : decode cX2_sheet 4 = .ok (.ifCond .ne 5, 3) := dk_154 0 5 (dk_at dksX2_sheet_0 4 rfl rfl)
theorem dX2_sheet_7 : decode cX2_sheet 7 = .ok (.iconst (-1), 1) := dk_2 (dk_at dksX2_sheet_0 7 rfl rfl)
theorem dX2_sheet_8 : decode cX2_sheet 8 = .ok (.ireturn, 1) := dk_172 (dk_at dksX2_sheet_0 8 rfl rfl)
theorem dX2_sheet_9 : decode cX2_sheet 9 = .ok (.aload_n 0, 1) := dk_42 (dk_at dksX2_sheet_0 9 rfl rfl)
theorem dX2_sheet_10 : decode cX2_sheet 10 = .ok (.getfield 22, 3) := dk_180 0 22 (dk_at dksX2_sheet_0 10 rfl rfl)
theorem dX2_sheet_13 : decode cX2_sheet 13 = .ok (.iload_n 1, 1) := dk_27 (dk_at dksX2_sheet_0 13 rfl rfl)
theorem dX2_sheet_14 : decode cX2_sheet 14 = .ok (.iaload, 1) := dk_46 (dk_at dksX2_sheet_0 14 rfl rfl)
theorem dX2_sheet_15 : decode cX2_sheet 15 = .ok (.ifCond .ge 9, 3) := dk_156 0 9 (dk_at dksX2_sheet_0 15 rfl rfl)
theorem dX2_sheet_18 : decode cX2_sheet 18 = .ok (.aload_n 0, 1) := dk_42 (dk_at dksX2_sheet_0 18 rfl rfl)
theorem dX2_sheet_19 : decode cX2_sheet 19 = .ok (.iconst 1, 1) := dk_4 (dk_at dksX2_sheet_0 19 rfl rfl)
theorem dX2_sheet_20 : decode cX2_sheet 20 = .ok (.invokevirtual 83, 3) := dk_182 0 83 (dk_at dksX2_sheet_0 20 rfl rfl)
theorem dX2_sheet_23 : decode cX2_sheet 23 = .ok (.ireturn, 1) := dk_172 (dk_at dksX2_sheet_0 23 rfl rfl)
theorem dX2_sheet_24 : decode cX2_sheet 24 = .ok (.aload_n 0, 1) := dk_42 (dk_at dksX2_sheet_1 0 rfl rfl)
theorem dX2_sheet_25 : decode cX2_sheet 25 = .ok (.iload_n 1, 1) := dk_27 (dk_at dksX2_sheet_1 1 rfl rfl)
theorem dX2_sheet_26 : decode cX2_sheet 26 = .ok (.invokevirtual 167, 3) := dk_182 0 167 (dk_at dksX2_sheet_1 2 rfl rfl)
theorem dX2_sheet_29 : decode cX2_sheet 29 = .ok (.bipush (-9), 2) := dk_16 247 (dk_at dksX2_sheet_1 5 rfl rfl)
theorem dX2_sheet_31 : decode cX2_sheet 31 = .ok (.if_icmp .eq 6, 3) := dk_159 0 6 (dk_at dksX2_sheet_1 7 rfl rfl)
theorem dX2_sheet_34 : decode cX2_sheet 34 = .ok (.bipush (-4), 2) := dk_16 252 (dk_at dksX2_sheet_1 10 rfl rfl)
theorem dX2_sheet_36 : decode cX2_sheet 36 = .ok (.ireturn, 1) := dk_172 (dk_at dksX2_sheet_1 12 rfl rfl)
theorem dX2_sheet_37 : decode cX2_sheet 37 = .ok (.aload_n 0, 1) := dk_42 (dk_at dksX2_sheet_1 13 rfl rfl)
theorem dX2_sheet_38 : decode cX2_sheet 38 = .ok (.aload_n 0, 1) := dk_42 (dk_at dksX2_sheet_1 14 rfl rfl)
theorem dX2_sheet_39 : decode cX2_sheet 39 = .ok (.getfield 135, 3) := dk_180 0 135 (dk_at dksX2_sheet_1 15 rfl rfl)
theorem dX2_sheet_42 : decode cX2_sheet 42 = .ok (.putfield 170, 3) := dk_181 0 170 (dk_at dksX2_sheet_1 18 rfl rfl)
theorem dX2_sheet_45 : decode cX2_sheet 45 = .ok (.aload_n 0, 1) := dk_42 (dk_at dksX2_sheet_1 21 rfl rfl)
theorem dX2_sheet_46 : decode cX2_sheet 46 = .ok (.aload_n 0, 1) := dk_42 (dk_at dksX2_sheet_1 22 rfl rfl)
theorem dX2_sheet_47 : decode cX2_sheet 47 = .ok (.getfield 138, 3) := dk_180 0 138 (dk_at dksX2_sheet_2 0 rfl rfl)
theorem dX2_sheet_50 : decode cX2_sheet 50 = .ok (.putfield 173, 3) := dk_181 0 173 (dk_at dksX2_sheet_2 3 rfl rfl)
theorem dX2_sheet_53 : decode cX2_sheet 53 = .ok (.aload_n 0, 1) := dk_42 (dk_at dksX2_sheet_2 6 rfl rfl)
theorem dX2_sheet_54 : decode cX2_sheet 54 = .ok (.aload_n 0, 1) := dk_42 (dk_at dksX2_sheet_2 7 rfl rfl)
theorem dX2_sheet_55 : decode cX2_sheet 55 = .ok (.getfield 144, 3) := dk_180 0 144 (dk_at dksX2_sheet_2 8 rfl rfl)
theorem dX2_sheet_58 : decode cX2_sheet 58 = .ok (.ifCond .ge 7, 3) := dk_156 0 7 (dk_at dksX2_sheet_2 11 rfl rfl)
theorem dX2_sheet_61 : decode cX2_sheet 61 = .ok (.iconst 0, 1) := dk_3 (dk_at dksX2_sheet_2 14 rfl rfl)
theorem dX2_sheet_62 : decode cX2_sheet 62 = .ok (.goto 7, 3) := dk_167 0 7 (dk_at dksX2_sheet_2 15 rfl rfl)
theorem dX2_sheet_65 : decode cX2_sheet 65 = .ok (.aload_n 0, 1) := dk_42 (dk_at dksX2_sheet_2 18 rfl rfl)
theorem dX2_sheet_66 : decode cX2_sheet 66 = .ok (.getfield 144, 3) := dk_180 0 144 (dk_at dksX2_sheet_2 19 rfl rfl)
theorem dX2_sheet_69 : decode cX2_sheet 69 = .ok (.putfield 176, 3) := dk_181 0 176 (dk_at dksX2_sheet_3 0 rfl rfl)
theorem dX2_sheet_72 : decode cX2_sheet 72 = .ok (.aload_n 0, 1) := dk_42 (dk_at dksX2_sheet_3 3 rfl rfl)
theorem dX2_sheet_73 : decode cX2_sheet 73 = .ok (.aload_n 0, 1) := dk_42 (dk_at dksX2_sheet_3 4 rfl rfl)
theorem dX2_sheet_74 : decode cX2_sheet 74 = .ok (.getfield 147, 3) := dk_180 0 147 (dk_at dksX2_sheet_3 5 rfl rfl)
theorem dX2_sheet_77 : decode cX2_sheet 77 = .ok (.putfield 179, 3) := dk_181 0 179 (dk_at dksX2_sheet_3 8 rfl rfl)
theorem dX2_sheet_80 : decode cX2_sheet 80 = .ok (.iconst 0, 1) := dk_3 (dk_at dksX2_sheet_3 11 rfl rfl)
theorem dX2_sheet_81 : decode cX2_sheet 81 = .ok (.istore_n 2, 1) := dk_61 (dk_at dksX2_sheet_3 12 rfl rfl)
theorem dX2_sheet_82 : decode cX2_sheet 82 = .ok (.iload_n 2, 1) := dk_28 (dk_at dksX2_sheet_3 13 rfl rfl)
theorem dX2_sheet_83 : decode cX2_sheet 83 = .ok (.bipush 56, 2) := dk_16 56 (dk_at dksX2_sheet_3 14 rfl rfl)
theorem dX2_sheet_85 : decode cX2_sheet 85 = .ok (.if_icmp .ge 21, 3) := dk_162 0 21 (dk_at dksX2_sheet_3 16 rfl rfl)
theorem dX2_sheet_88 : decode cX2_sheet 88 = .ok (.aload_n 0, 1) := dk_42 (dk_at dksX2_sheet_3 19 rfl rfl)
theorem dX2_sheet_89 : decode cX2_sheet 89 = .ok (.getfield 29, 3) := dk_180 0 29 (dk_at dksX2_sheet_3 20 rfl rfl)
theorem dX2_sheet_92 : decode cX2_sheet 92 = .ok (.iload_n 2, 1) := dk_28 (dk_at dksX2_sheet_3 23 rfl rfl)
theorem dX2_sheet_93 : decode cX2_sheet 93 = .ok (.aload_n 0, 1) := dk_42 (dk_at dksX2_sheet_4 0 rfl rfl)
theorem dX2_sheet_94 : decode cX2_sheet 94 = .ok (.getfield 32, 3) := dk_180 0 32 (dk_at dksX2_sheet_4 1 rfl rfl)
theorem dX2_sheet_97 : decode cX2_sheet 97 = .ok (.iload_n 2, 1) := dk_28 (dk_at dksX2_sheet_4 4 rfl rfl)
theorem dX2_sheet_98 : decode cX2_sheet 98 = .ok (.iaload, 1) := dk_46 (dk_at dksX2_sheet_4 5 rfl rfl)
theorem dX2_sheet_99 : decode cX2_sheet 99 = .ok (.iastore, 1) := dk_79 (dk_at dksX2_sheet_4 6 rfl rfl)
theorem dX2_sheet_100 : decode cX2_sheet 100 = .ok (.iinc 2 1, 3) := dk_132 2 1 (dk_at dksX2_sheet_4 7 rfl rfl)
theorem dX2_sheet_103 : decode cX2_sheet 103 = .ok (.goto (-21), 3) := dk_167 255 235 (dk_at dksX2_sheet_4 10 rfl rfl)
theorem dX2_sheet_106 : decode cX2_sheet 106 = .ok (.iconst 0, 1) := dk_3 (dk_at dksX2_sheet_4 13 rfl rfl)
theorem dX2_sheet_107 : decode cX2_sheet 107 = .ok (.istore_n 2, 1) := dk_61 (dk_at dksX2_sheet_4 14 rfl rfl)
theorem dX2_sheet_108 : decode cX2_sheet 108 = .ok (.iload_n 2, 1) := dk_28 (dk_at dksX2_sheet_4 15 rfl rfl)
theorem dX2_sheet_109 : decode cX2_sheet 109 = .ok (.bipush 33, 2) := dk_16 33 (dk_at dksX2_sheet_4 16 rfl rfl)
theorem dX2_sheet_111 : decode cX2_sheet 111 = .ok (.if_icmp .ge 16, 3) := dk_162 0 16 (dk_at dksX2_sheet_4 18 rfl rfl)
theorem dX2_sheet_114 : decode cX2_sheet 114 = .ok (.aload_n 0, 1) := dk_42 (dk_at dksX2_sheet_4 21 rfl rfl)
theorem dX2_sheet_115 : decode cX2_sheet 115 = .ok (.getfield 35, 3) := dk_180 0 35 (dk_at dksX2_sheet_5 0 rfl rfl)
theorem dX2_sheet_118 : decode cX2_sheet 118 = .ok (.iload_n 2, 1) := dk_28 (dk_at dksX2_sheet_5 3 rfl rfl)
theorem dX2_sheet_119 : decode cX2_sheet 119 = .ok (.iconst 0, 1) := dk_3 (dk_at dksX2_sheet_5 4 rfl rfl)
theorem dX2_sheet_120 : decode cX2_sheet 120 = .ok (.iastore, 1) := dk_79 (dk_at dksX2_sheet_5 5 rfl rfl)
theorem dX2_sheet_121 : decode cX2_sheet 121 = .ok (.iinc 2 1, 3) := dk_132 2 1 (dk_at dksX2_sheet_5 6 rfl rfl)
theorem dX2_sheet_124 : decode cX2_sheet 124 = .ok (.goto (-16), 3) := dk_167 255 240 (dk_at dksX2_sheet_5 9 rfl rfl)
theorem dX2_sheet_127 : decode cX2_sheet 127 = .ok (.aload_n 0, 1) := dk_42 (dk_at dksX2_sheet_5 12 rfl rfl)
theorem dX2_sheet_128 : decode cX2_sheet 128 = .ok (.invokevirtual 182, 3) := dk_182 0 182 (dk_at dksX2_sheet_5 13 rfl rfl)
theorem dX2_sheet_131 : decode cX2_sheet 131 = .ok (.aload_n 0, 1) := dk_42 (dk_at dksX2_sheet_5 16 rfl rfl)
theorem dX2_sheet_132 : decode cX2_sheet 132 = .ok (.iconst 0, 1) := dk_3 (dk_at dksX2_sheet_5 17 rfl rfl)
theorem dX2_sheet_133 : decode cX2_sheet 133 = .ok (.putfield 185, 3) := dk_181 0 185 (dk_at dksX2_sheet_5 18 rfl rfl)
theorem dX2_sheet_136 : decode cX2_sheet 136 = .ok (.iconst 0, 1) := dk_3 (dk_at dksX2_sheet_5 21 rfl rfl)
theorem dX2_sheet_137 : decode cX2_sheet 137 = .ok (.istore_n 2, 1) := dk_61 (dk_at dksX2_sheet_5 22 rfl rfl)
theorem dX2_sheet_138 : decode cX2_sheet 138 = .ok (.iload_n 2, 1) := dk_28 (dk_at dksX2_sheet_5 23 rfl rfl)
theorem dX2_sheet_139 : decode cX2_sheet 139 = .ok (.iconst 3, 1) := dk_6 (dk_at dksX2_sheet_6 0 rfl rfl)
theorem dX2_sheet_140 : decode cX2_sheet 140 = .ok (.if_icmp .ge 16, 3) := dk_162 0 16 (dk_at dksX2_sheet_6 1 rfl rfl)
theorem dX2_sheet_143 : decode cX2_sheet 143 = .ok (.aload_n 0, 1) := dk_42 (dk_at dksX2_sheet_6 4 rfl rfl)
theorem dX2_sheet_144 : decode cX2_sheet 144 = .ok (.getfield 59, 3) := dk_180 0 59 (dk_at dksX2_sheet_6 5 rfl rfl)
theorem dX2_sheet_147 : decode cX2_sheet 147 = .ok (.iload_n 2, 1) := dk_28 (dk_at dksX2_sheet_6 8 rfl rfl)
theorem dX2_sheet_148 : decode cX2_sheet 148 = .ok (.iconst (-1), 1) := dk_2 (dk_at dksX2_sheet_6 9 rfl rfl)
theorem dX2_sheet_149 : decode cX2_sheet 149 = .ok (.iastore, 1) := dk_79 (dk_at dksX2_sheet_6 10 rfl rfl)
theorem dX2_sheet_150 : decode cX2_sheet 150 = .ok (.iinc 2 1, 3) := dk_132 2 1 (dk_at dksX2_sheet_6 11 rfl rfl)
theorem dX2_sheet_153 : decode cX2_sheet 153 = .ok (.goto (-15), 3) := dk_167 255 241 (dk_at dksX2_sheet_6 14 rfl rfl)
theorem dX2_sheet_156 : decode cX2_sheet 156 = .ok (.aload_n 0, 1) := dk_42 (dk_at dksX2_sheet_6 17 rfl rfl)
theorem dX2_sheet_157 : decode cX2_sheet 157 = .ok (.getfield 179, 3) := dk_180 0 179 (dk_at dksX2_sheet_6 18 rfl rfl)
theorem dX2_sheet_160 : decode cX2_sheet 160 = .ok (.ireturn, 1) := dk_172 (dk_at dksX2_sheet_6 21 rfl rfl)
abbrev cX2_liftsAll : ByteArray := prog_13_method_51_code
def yX2_liftsAll : MethodName := ⟨RX2, "liftsAll", "()V"⟩
def dkwX2_liftsAll_2 : List UInt8 := [6, 96, 3, 79, 132, 1, 1, 167, 255, 203, 177]
abbrev dktX2_liftsAll_2 : List UInt8 := dkwX2_liftsAll_2 ++ []
def dkwX2_liftsAll_1 : List UInt8 := [27, 104, 4, 96, 3, 79, 42, 180, 0, 35, 7, 27, 104, 5, 96, 3, 79, 42, 180, 0, 35, 7, 27, 104]
abbrev dktX2_liftsAll_1 : List UInt8 := dkwX2_liftsAll_1 ++ dktX2_liftsAll_2
def dkwX2_liftsAll_0 : List UInt8 := [3, 60, 27, 16, 8, 162, 0, 53, 42, 180, 0, 35, 7, 27, 104, 3, 96, 2, 79, 42, 180, 0, 35, 7]
abbrev dktX2_liftsAll_0 : List UInt8 := dkwX2_liftsAll_0 ++ dktX2_liftsAll_1
theorem dksX2_liftsAll_0 : cX2_liftsAll.data.toList.drop 0 = dktX2_liftsAll_0 := by decide +kernel
theorem dksX2_liftsAll_1 : cX2_liftsAll.data.toList.drop 24 = dktX2_liftsAll_1 := dk_seg dksX2_liftsAll_0 24 rfl rfl
theorem dksX2_liftsAll_2 : cX2_liftsAll.data.toList.drop 48 = dktX2_liftsAll_2 := dk_seg dksX2_liftsAll_1 24 rfl rfl
theorem dX2_liftsAll_0 : decode cX2_liftsAll 0 = .ok (.iconst 0, 1) := dk_3 (dk_at dksX2_liftsAll_0 0 rfl rfl)
theorem dX2_liftsAll_1 : decode cX2_liftsAll 1 = .ok (.istore_n 1, 1) := dk_60 (dk_at dksX2_liftsAll_0 1 rfl rfl)
theorem dX2_liftsAll_2 : decode cX2_liftsAll 2 = .ok (.iload_n 1, 1) := dk_27 (dk_at dksX2_liftsAll_0 2 rfl rfl)
theorem dX2_liftsAll_3 : decode cX2_liftsAll 3 = .ok (.bipush 8, 2) := dk_16 8 (dk_at dksX2_liftsAll_0 3 rfl rfl)
theorem dX2_liftsAll_5 : decode cX2_liftsAll 5 = .ok (.if_icmp .ge 53, 3) := dk_162 0 53 (dk_at dksX2_liftsAll_0 5 rfl rfl)
theorem dX2_liftsAll_8 : decode cX2_liftsAll 8 = .ok (.aload_n 0, 1) := dk_42 (dk_at dksX2_liftsAll_0 8 rfl rfl)
theorem dX2_liftsAll_9 : decode cX2_liftsAll 9 = .ok (.getfield 35, 3) := dk_180 0 35 (dk_at dksX2_liftsAll_0 9 rfl rfl)
theorem dX2_liftsAll_12 : decode cX2_liftsAll 12 = .ok (.iconst 4, 1) := dk_7 (dk_at dksX2_liftsAll_0 12 rfl rfl)
theorem dX2_liftsAll_13 : decode cX2_liftsAll 13 = .ok (.iload_n 1, 1) := dk_27 (dk_at dksX2_liftsAll_0 13 rfl rfl)
theorem dX2_liftsAll_14 : decode cX2_liftsAll 14 = .ok (.imul, 1) := dk_104 (dk_at dksX2_liftsAll_0 14 rfl rfl)
theorem dX2_liftsAll_15 : decode cX2_liftsAll 15 = .ok (.iconst 0, 1) := dk_3 (dk_at dksX2_liftsAll_0 15 rfl rfl)
theorem dX2_liftsAll_16 : decode cX2_liftsAll 16 = .ok (.iadd, 1) := dk_96 (dk_at dksX2_liftsAll_0 16 rfl rfl)
theorem dX2_liftsAll_17 : decode cX2_liftsAll 17 = .ok (.iconst (-1), 1) := dk_2 (dk_at dksX2_liftsAll_0 17 rfl rfl)
theorem dX2_liftsAll_18 : decode cX2_liftsAll 18 = .ok (.iastore, 1) := dk_79 (dk_at dksX2_liftsAll_0 18 rfl rfl)
theorem dX2_liftsAll_19 : decode cX2_liftsAll 19 = .ok (.aload_n 0, 1) := dk_42 (dk_at dksX2_liftsAll_0 19 rfl rfl)
theorem dX2_liftsAll_20 : decode cX2_liftsAll 20 = .ok (.getfield 35, 3) := dk_180 0 35 (dk_at dksX2_liftsAll_0 20 rfl rfl)
theorem dX2_liftsAll_23 : decode cX2_liftsAll 23 = .ok (.iconst 4, 1) := dk_7 (dk_at dksX2_liftsAll_0 23 rfl rfl)
theorem dX2_liftsAll_24 : decode cX2_liftsAll 24 = .ok (.iload_n 1, 1) := dk_27 (dk_at dksX2_liftsAll_1 0 rfl rfl)
theorem dX2_liftsAll_25 : decode cX2_liftsAll 25 = .ok (.imul, 1) := dk_104 (dk_at dksX2_liftsAll_1 1 rfl rfl)
theorem dX2_liftsAll_26 : decode cX2_liftsAll 26 = .ok (.iconst 1, 1) := dk_4 (dk_at dksX2_liftsAll_1 2 rfl rfl)
theorem dX2_liftsAll_27 : decode cX2_liftsAll 27 = .ok (.iadd, 1) := dk_96 (dk_at dksX2_liftsAll_1 3 rfl rfl)
theorem dX2_liftsAll_28 : decode cX2_liftsAll 28 = .ok (.iconst 0, 1) := dk_3 (dk_at dksX2_liftsAll_1 4 rfl rfl)
theorem dX2_liftsAll_29 : decode cX2_liftsAll 29 = .ok (.iastore, 1) := dk_79 (dk_at dksX2_liftsAll_1 5 rfl rfl)
theorem dX2_liftsAll_30 : decode cX2_liftsAll 30 = .ok (.aload_n 0, 1) := dk_42 (dk_at dksX2_liftsAll_1 6 rfl rfl)
theorem dX2_liftsAll_31 : decode cX2_liftsAll 31 = .ok (.getfield 35, 3) := dk_180 0 35 (dk_at dksX2_liftsAll_1 7 rfl rfl)
theorem dX2_liftsAll_34 : decode cX2_liftsAll 34 = .ok (.iconst 4, 1) := dk_7 (dk_at dksX2_liftsAll_1 10 rfl rfl)
theorem dX2_liftsAll_35 : decode cX2_liftsAll 35 = .ok (.iload_n 1, 1) := dk_27 (dk_at dksX2_liftsAll_1 11 rfl rfl)
theorem dX2_liftsAll_36 : decode cX2_liftsAll 36 = .ok (.imul, 1) := dk_104 (dk_at dksX2_liftsAll_1 12 rfl rfl)
theorem dX2_liftsAll_37 : decode cX2_liftsAll 37 = .ok (.iconst 2, 1) := dk_5 (dk_at dksX2_liftsAll_1 13 rfl rfl)
theorem dX2_liftsAll_38 : decode cX2_liftsAll 38 = .ok (.iadd, 1) := dk_96 (dk_at dksX2_liftsAll_1 14 rfl rfl)
theorem dX2_liftsAll_39 : decode cX2_liftsAll 39 = .ok (.iconst 0, 1) := dk_3 (dk_at dksX2_liftsAll_1 15 rfl rfl)
theorem dX2_liftsAll_40 : decode cX2_liftsAll 40 = .ok (.iastore, 1) := dk_79 (dk_at dksX2_liftsAll_1 16 rfl rfl)
theorem dX2_liftsAll_41 : decode cX2_liftsAll 41 = .ok (.aload_n 0, 1) := dk_42 (dk_at dksX2_liftsAll_1 17 rfl rfl)
theorem dX2_liftsAll_42 : decode cX2_liftsAll 42 = .ok (.getfield 35, 3) := dk_180 0 35 (dk_at dksX2_liftsAll_1 18 rfl rfl)
theorem dX2_liftsAll_45 : decode cX2_liftsAll 45 = .ok (.iconst 4, 1) := dk_7 (dk_at dksX2_liftsAll_1 21 rfl rfl)
theorem dX2_liftsAll_46 : decode cX2_liftsAll 46 = .ok (.iload_n 1, 1) := dk_27 (dk_at dksX2_liftsAll_1 22 rfl rfl)
theorem dX2_liftsAll_47 : decode cX2_liftsAll 47 = .ok (.imul, 1) := dk_104 (dk_at dksX2_liftsAll_1 23 rfl rfl)
theorem dX2_liftsAll_48 : decode cX2_liftsAll 48 = .ok (.iconst 3, 1) := dk_6 (dk_at dksX2_liftsAll_2 0 rfl rfl)
theorem dX2_liftsAll_49 : decode cX2_liftsAll 49 = .ok (.iadd, 1) := dk_96 (dk_at dksX2_liftsAll_2 1 rfl rfl)
theorem dX2_liftsAll_50 : decode cX2_liftsAll 50 = .ok (.iconst 0, 1) := dk_3 (dk_at dksX2_liftsAll_2 2 rfl rfl)
theorem dX2_liftsAll_51 : decode cX2_liftsAll 51 = .ok (.iastore, 1) := dk_79 (dk_at dksX2_liftsAll_2 3 rfl rfl)
theorem dX2_liftsAll_52 : decode cX2_liftsAll 52 = .ok (.iinc 1 1, 3) := dk_132 1 1 (dk_at dksX2_liftsAll_2 4 rfl rfl)
theorem dX2_liftsAll_55 : decode cX2_liftsAll 55 = .ok (.goto (-53), 3) := dk_167 255 203 (dk_at dksX2_liftsAll_2 7 rfl rfl)
theorem dX2_liftsAll_58 : decode cX2_liftsAll 58 = .ok (.return_, 1) := dk_177 (dk_at dksX2_liftsAll_2 10 rfl rfl)
abbrev cX2_write : ByteArray := prog_13_method_39_code
def yX2_write : MethodName := ⟨RX2, "write", "(I)I"⟩
def dkwX2_write_10 : List UInt8 := [132, 2, 1, 167, 255, 217, 42, 180, 0, 188, 172]
abbrev dktX2_write_10 : List UInt8 := dkwX2_write_10 ++ []
def dkwX2_write_9 : List UInt8 := [104, 28, 96, 28, 42, 180, 0, 188, 162, 0, 12, 42, 180, 0, 38, 28, 51, 167, 0, 5, 16, 32, 84]
abbrev dktX2_write_9 : List UInt8 := dkwX2_write_9 ++ dktX2_write_10
def dkwX2_write_8 : List UInt8 := [180, 0, 22, 27, 42, 180, 0, 188, 79, 3, 61, 28, 16, 120, 162, 0, 39, 42, 180, 0, 25, 16, 120, 27]
abbrev dktX2_write_8 : List UInt8 := dkwX2_write_8 ++ dktX2_write_9
def dkwX2_write_7 : List UInt8 := [182, 0, 191, 132, 2, 1, 167, 255, 166, 42, 180, 0, 188, 16, 120, 164, 0, 6, 16, 250, 172, 42]
abbrev dktX2_write_7 : List UInt8 := dkwX2_write_7 ++ dktX2_write_8
def dkwX2_write_6 : List UInt8 := [42, 180, 0, 29, 16, 7, 28, 104, 21, 4, 96, 46, 182, 0, 197, 132, 4, 1, 167, 255, 230, 42, 16, 59]
abbrev dktX2_write_6 : List UInt8 := dkwX2_write_6 ++ dktX2_write_7
def dkwX2_write_5 : List UInt8 := [160, 0, 8, 18, 206, 167, 0, 5, 18, 207, 182, 0, 194, 4, 54, 4, 21, 4, 16, 7, 162, 0, 25, 42]
abbrev dktX2_write_5 : List UInt8 := dkwX2_write_5 ++ dktX2_write_6
def dkwX2_write_4 : List UInt8 := [62, 42, 29, 154, 0, 8, 18, 204, 167, 0, 25, 29, 4, 160, 0, 8, 18, 205, 167, 0, 15, 29, 5]
abbrev dktX2_write_4 : List UInt8 := dkwX2_write_4 ++ dktX2_write_5
def dkwX2_write_3 : List UInt8 := [182, 0, 197, 42, 16, 59, 182, 0, 191, 3, 61, 28, 42, 180, 0, 179, 162, 0, 88, 42, 28, 182, 0, 201]
abbrev dktX2_write_3 : List UInt8 := dkwX2_write_3 ++ dktX2_write_4
def dkwX2_write_2 : List UInt8 := [16, 59, 182, 0, 191, 42, 180, 0, 176, 158, 0, 23, 42, 18, 200, 182, 0, 194, 42, 42, 180, 0, 176]
abbrev dktX2_write_2 : List UInt8 := dkwX2_write_2 ++ dktX2_write_3
def dkwX2_write_1 : List UInt8 := [42, 18, 153, 182, 0, 194, 42, 42, 180, 0, 170, 182, 0, 197, 42, 42, 180, 0, 173, 182, 0, 197, 42]
abbrev dktX2_write_1 : List UInt8 := dkwX2_write_1 ++ dktX2_write_2
def dkwX2_write_0 : List UInt8 := [27, 184, 0, 94, 154, 0, 5, 2, 172, 42, 180, 0, 179, 154, 0, 6, 16, 252, 172, 42, 3, 181, 0, 188]
abbrev dktX2_write_0 : List UInt8 := dkwX2_write_0 ++ dktX2_write_1
theorem dksX2_write_0 : cX2_write.data.toList.drop 0 = dktX2_write_0 := by decide +kernel
theorem dksX2_write_1 : cX2_write.data.toList.drop 24 = dktX2_write_1 := dk_seg dksX2_write_0 24 rfl rfl
theorem dksX2_write_2 : cX2_write.data.toList.drop 47 = dktX2_write_2 := dk_seg dksX2_write_1 23 rfl rfl
theorem dksX2_write_3 : cX2_write.data.toList.drop 70 = dktX2_write_3 := dk_seg dksX2_write_2 23 rfl rfl
theorem dksX2_write_4 : cX2_write.data.toList.drop 94 = dktX2_write_4 := dk_seg dksX2_write_3 24 rfl rfl
theorem dksX2_write_5 : cX2_write.data.toList.drop 117 = dktX2_write_5 := dk_seg dksX2_write_4 23 rfl rfl
theorem dksX2_write_6 : cX2_write.data.toList.drop 141 = dktX2_write_6 := dk_seg dksX2_write_5 24 rfl rfl
theorem dksX2_write_7 : cX2_write.data.toList.drop 165 = dktX2_write_7 := dk_seg dksX2_write_6 24 rfl rfl
theorem dksX2_write_8 : cX2_write.data.toList.drop 187 = dktX2_write_8 := dk_seg dksX2_write_7 22 rfl rfl
theorem dksX2_write_9 : cX2_write.data.toList.drop 211 = dktX2_write_9 := dk_seg dksX2_write_8 24 rfl rfl
theorem dksX2_write_10 : cX2_write.data.toList.drop 234 = dktX2_write_10 := dk_seg dksX2_write_9 23 rfl rfl
theorem dX2_write_0 : decode cX2_write 0 = .ok (.iload_n 1, 1) := dk_27 (dk_at dksX2_write_0 0 rfl rfl)
theorem dX2_write_1 : decode cX2_write 1 = .ok (.invokestatic 94, 3) := dk_184 0 94 (dk_at dksX2_write_0 1 rfl rfl)
theorem dX2_write_4 : decode cX2_write 4 = .ok (.ifCond .ne 5, 3) := dk_154 0 5 (dk_at dksX2_write_0 4 rfl rfl)
theorem dX2_write_7 : decode cX2_write 7 = .ok (.iconst (-1), 1) := dk_2 (dk_at dksX2_write_0 7 rfl rfl)
theorem dX2_write_8 : decode cX2_write 8 = .ok (.ireturn, 1) := dk_172 (dk_at dksX2_write_0 8 rfl rfl)
theorem dX2_write_9 : decode cX2_write 9 = .ok (.aload_n 0, 1) := dk_42 (dk_at dksX2_write_0 9 rfl rfl)
theorem dX2_write_10 : decode cX2_write 10 = .ok (.getfield 179, 3) := dk_180 0 179 (dk_at dksX2_write_0 10 rfl rfl)
theorem dX2_write_13 : decode cX2_write 13 = .ok (.ifCond .ne 6, 3) := dk_154 0 6 (dk_at dksX2_write_0 13 rfl rfl)
theorem dX2_write_16 : decode cX2_write 16 = .ok (.bipush (-4), 2) := dk_16 252 (dk_at dksX2_write_0 16 rfl rfl)
theorem dX2_write_18 : decode cX2_write 18 = .ok (.ireturn, 1) := dk_172 (dk_at dksX2_write_0 18 rfl rfl)
theorem dX2_write_19 : decode cX2_write 19 = .ok (.aload_n 0, 1) := dk_42 (dk_at dksX2_write_0 19 rfl rfl)
theorem dX2_write_20 : decode cX2_write 20 = .ok (.iconst 0, 1) := dk_3 (dk_at dksX2_write_0 20 rfl rfl)
theorem dX2_write_21 : decode cX2_write 21 = .ok (.putfield 188, 3) := dk_181 0 188 (dk_at dksX2_write_0 21 rfl rfl)
theorem dX2_write_24 : decode cX2_write 24 = .ok (.aload_n 0, 1) := dk_42 (dk_at dksX2_write_1 0 rfl rfl)
theorem dX2_write_25 : decode cX2_write 25 = .ok (.ldc 153, 2) := dk_18 153 (dk_at dksX2_write_1 1 rfl rfl)
theorem dX2_write_27 : decode cX2_write 27 = .ok (.invokevirtual 194, 3) := dk_182 0 194 (dk_at dksX2_write_1 3 rfl rfl)
theorem dX2_write_30 : decode cX2_write 30 = .ok (.aload_n 0, 1) := dk_42 (dk_at dksX2_write_1 6 rfl rfl)
theorem dX2_write_31 : decode cX2_write 31 = .ok (.aload_n 0, 1) := dk_42 (dk_at dksX2_write_1 7 rfl rfl)
theorem dX2_write_32 : decode cX2_write 32 = .ok (.getfield 170, 3) := dk_180 0 170 (dk_at dksX2_write_1 8 rfl rfl)
theorem dX2_write_35 : decode cX2_write 35 = .ok (.invokevirtual 197, 3) := dk_182 0 197 (dk_at dksX2_write_1 11 rfl rfl)
theorem dX2_write_38 : decode cX2_write 38 = .ok (.aload_n 0, 1) := dk_42 (dk_at dksX2_write_1 14 rfl rfl)
theorem dX2_write_39 : decode cX2_write 39 = .ok (.aload_n 0, 1) := dk_42 (dk_at dksX2_write_1 15 rfl rfl)
theorem dX2_write_40 : decode cX2_write 40 = .ok (.getfield 173, 3) := dk_180 0 173 (dk_at dksX2_write_1 16 rfl rfl)
theorem dX2_write_43 : decode cX2_write 43 = .ok (.invokevirtual 197, 3) := dk_182 0 197 (dk_at dksX2_write_1 19 rfl rfl)
theorem dX2_write_46 : decode cX2_write 46 = .ok (.aload_n 0, 1) := dk_42 (dk_at dksX2_write_1 22 rfl rfl)
theorem dX2_write_47 : decode cX2_write 47 = .ok (.bipush 59, 2) := dk_16 59 (dk_at dksX2_write_2 0 rfl rfl)
theorem dX2_write_49 : decode cX2_write 49 = .ok (.invokevirtual 191, 3) := dk_182 0 191 (dk_at dksX2_write_2 2 rfl rfl)
theorem dX2_write_52 : decode cX2_write 52 = .ok (.aload_n 0, 1) := dk_42 (dk_at dksX2_write_2 5 rfl rfl)
theorem dX2_write_53 : decode cX2_write 53 = .ok (.getfield 176, 3) := dk_180 0 176 (dk_at dksX2_write_2 6 rfl rfl)
theorem dX2_write_56 : decode cX2_write 56 = .ok (.ifCond .le 23, 3) := dk_158 0 23 (dk_at dksX2_write_2 9 rfl rfl)
theorem dX2_write_59 : decode cX2_write 59 = .ok (.aload_n 0, 1) := dk_42 (dk_at dksX2_write_2 12 rfl rfl)
theorem dX2_write_60 : decode cX2_write 60 = .ok (.ldc 200, 2) := dk_18 200 (dk_at dksX2_write_2 13 rfl rfl)
theorem dX2_write_62 : decode cX2_write 62 = .ok (.invokevirtual 194, 3) := dk_182 0 194 (dk_at dksX2_write_2 15 rfl rfl)
theorem dX2_write_65 : decode cX2_write 65 = .ok (.aload_n 0, 1) := dk_42 (dk_at dksX2_write_2 18 rfl rfl)
theorem dX2_write_66 : decode cX2_write 66 = .ok (.aload_n 0, 1) := dk_42 (dk_at dksX2_write_2 19 rfl rfl)
theorem dX2_write_67 : decode cX2_write 67 = .ok (.getfield 176, 3) := dk_180 0 176 (dk_at dksX2_write_2 20 rfl rfl)
theorem dX2_write_70 : decode cX2_write 70 = .ok (.invokevirtual 197, 3) := dk_182 0 197 (dk_at dksX2_write_3 0 rfl rfl)
theorem dX2_write_73 : decode cX2_write 73 = .ok (.aload_n 0, 1) := dk_42 (dk_at dksX2_write_3 3 rfl rfl)
theorem dX2_write_74 : decode cX2_write 74 = .ok (.bipush 59, 2) := dk_16 59 (dk_at dksX2_write_3 4 rfl rfl)
theorem dX2_write_76 : decode cX2_write 76 = .ok (.invokevirtual 191, 3) := dk_182 0 191 (dk_at dksX2_write_3 6 rfl rfl)
theorem dX2_write_79 : decode cX2_write 79 = .ok (.iconst 0, 1) := dk_3 (dk_at dksX2_write_3 9 rfl rfl)
theorem dX2_write_80 : decode cX2_write 80 = .ok (.istore_n 2, 1) := dk_61 (dk_at dksX2_write_3 10 rfl rfl)
theorem dX2_write_81 : decode cX2_write 81 = .ok (.iload_n 2, 1) := dk_28 (dk_at dksX2_write_3 11 rfl rfl)
theorem dX2_write_82 : decode cX2_write 82 = .ok (.aload_n 0, 1) := dk_42 (dk_at dksX2_write_3 12 rfl rfl)
theorem dX2_write_83 : decode cX2_write 83 = .ok (.getfield 179, 3) := dk_180 0 179 (dk_at dksX2_write_3 13 rfl rfl)
theorem dX2_write_86 : decode cX2_write 86 = .ok (.if_icmp .ge 88, 3) := dk_162 0 88 (dk_at dksX2_write_3 16 rfl rfl)
theorem dX2_write_89 : decode cX2_write 89 = .ok (.aload_n 0, 1) := dk_42 (dk_at dksX2_write_3 19 rfl rfl)
theorem dX2_write_90 : decode cX2_write 90 = .ok (.iload_n 2, 1) := dk_28 (dk_at dksX2_write_3 20 rfl rfl)
theorem dX2_write_91 : decode cX2_write 91 = .ok (.invokevirtual 201, 3) := dk_182 0 201 (dk_at dksX2_write_3 21 rfl rfl)
theorem dX2_write_94 : decode cX2_write 94 = .ok (.istore_n 3, 1) := dk_62 (dk_at dksX2_write_4 0 rfl rfl)
theorem dX2_write_95 : decode cX2_write 95 = .ok (.aload_n 0, 1) := dk_42 (dk_at dksX2_write_4 1 rfl rfl)
theorem dX2_write_96 : decode cX2_write 96 = .ok (.iload_n 3, 1) := dk_29 (dk_at dksX2_write_4 2 rfl rfl)
theorem dX2_write_97 : decode cX2_write 97 = .ok (.ifCond .ne 8, 3) := dk_154 0 8 (dk_at dksX2_write_4 3 rfl rfl)
theorem dX2_write_100 : decode cX2_write 100 = .ok (.ldc 204, 2) := dk_18 204 (dk_at dksX2_write_4 6 rfl rfl)
theorem dX2_write_102 : decode cX2_write 102 = .ok (.goto 25, 3) := dk_167 0 25 (dk_at dksX2_write_4 8 rfl rfl)
theorem dX2_write_105 : decode cX2_write 105 = .ok (.iload_n 3, 1) := dk_29 (dk_at dksX2_write_4 11 rfl rfl)
theorem dX2_write_106 : decode cX2_write 106 = .ok (.iconst 1, 1) := dk_4 (dk_at dksX2_write_4 12 rfl rfl)
theorem dX2_write_107 : decode cX2_write 107 = .ok (.if_icmp .ne 8, 3) := dk_160 0 8 (dk_at dksX2_write_4 13 rfl rfl)
theorem dX2_write_110 : decode cX2_write 110 = .ok (.ldc 205, 2) := dk_18 205 (dk_at dksX2_write_4 16 rfl rfl)
theorem dX2_write_112 : decode cX2_write 112 = .ok (.goto 15, 3) := dk_167 0 15 (dk_at dksX2_write_4 18 rfl rfl)
theorem dX2_write_115 : decode cX2_write 115 = .ok (.iload_n 3, 1) := dk_29 (dk_at dksX2_write_4 21 rfl rfl)
theorem dX2_write_116 : decode cX2_write 116 = .ok (.iconst 2, 1) := dk_5 (dk_at dksX2_write_4 22 rfl rfl)
theorem dX2_write_117 : decode cX2_write 117 = .ok (.if_icmp .ne 8, 3) := dk_160 0 8 (dk_at dksX2_write_5 0 rfl rfl)
theorem dX2_write_120 : decode cX2_write 120 = .ok (.ldc 206, 2) := dk_18 206 (dk_at dksX2_write_5 3 rfl rfl)
theorem dX2_write_122 : decode cX2_write 122 = .ok (.goto 5, 3) := dk_167 0 5 (dk_at dksX2_write_5 5 rfl rfl)
theorem dX2_write_125 : decode cX2_write 125 = .ok (.ldc 207, 2) := dk_18 207 (dk_at dksX2_write_5 8 rfl rfl)
theorem dX2_write_127 : decode cX2_write 127 = .ok (.invokevirtual 194, 3) := dk_182 0 194 (dk_at dksX2_write_5 10 rfl rfl)
theorem dX2_write_130 : decode cX2_write 130 = .ok (.iconst 1, 1) := dk_4 (dk_at dksX2_write_5 13 rfl rfl)
theorem dX2_write_131 : decode cX2_write 131 = .ok (.istore 4, 2) := dk_54 4 (dk_at dksX2_write_5 14 rfl rfl)
theorem dX2_write_133 : decode cX2_write 133 = .ok (.iload 4, 2) := dk_21 4 (dk_at dksX2_write_5 16 rfl rfl)
theorem dX2_write_135 : decode cX2_write 135 = .ok (.bipush 7, 2) := dk_16 7 (dk_at dksX2_write_5 18 rfl rfl)
theorem dX2_write_137 : decode cX2_write 137 = .ok (.if_icmp .ge 25, 3) := dk_162 0 25 (dk_at dksX2_write_5 20 rfl rfl)
theorem dX2_write_140 : decode cX2_write 140 = .ok (.aload_n 0, 1) := dk_42 (dk_at dksX2_write_5 23 rfl rfl)
theorem dX2_write_141 : decode cX2_write 141 = .ok (.aload_n 0, 1) := dk_42 (dk_at dksX2_write_6 0 rfl rfl)
theorem dX2_write_142 : decode cX2_write 142 = .ok (.getfield 29, 3) := dk_180 0 29 (dk_at dksX2_write_6 1 rfl rfl)
theorem dX2_write_145 : decode cX2_write 145 = .ok (.bipush 7, 2) := dk_16 7 (dk_at dksX2_write_6 4 rfl rfl)
theorem dX2_write_147 : decode cX2_write 147 = .ok (.iload_n 2, 1) := dk_28 (dk_at dksX2_write_6 6 rfl rfl)
theorem dX2_write_148 : decode cX2_write 148 = .ok (.imul, 1) := dk_104 (dk_at dksX2_write_6 7 rfl rfl)
theorem dX2_write_149 : decode cX2_write 149 = .ok (.iload 4, 2) := dk_21 4 (dk_at dksX2_write_6 8 rfl rfl)
theorem dX2_write_151 : decode cX2_write 151 = .ok (.iadd, 1) := dk_96 (dk_at dksX2_write_6 10 rfl rfl)
theorem dX2_write_152 : decode cX2_write 152 = .ok (.iaload, 1) := dk_46 (dk_at dksX2_write_6 11 rfl rfl)
theorem dX2_write_153 : decode cX2_write 153 = .ok (.invokevirtual 197, 3) := dk_182 0 197 (dk_at dksX2_write_6 12 rfl rfl)
theorem dX2_write_156 : decode cX2_write 156 = .ok (.iinc 4 1, 3) := dk_132 4 1 (dk_at dksX2_write_6 15 rfl rfl)
theorem dX2_write_159 : decode cX2_write 159 = .ok (.goto (-26), 3) := dk_167 255 230 (dk_at dksX2_write_6 18 rfl rfl)
theorem dX2_write_162 : decode cX2_write 162 = .ok (.aload_n 0, 1) := dk_42 (dk_at dksX2_write_6 21 rfl rfl)
theorem dX2_write_163 : decode cX2_write 163 = .ok (.bipush 59, 2) := dk_16 59 (dk_at dksX2_write_6 22 rfl rfl)
theorem dX2_write_165 : decode cX2_write 165 = .ok (.invokevirtual 191, 3) := dk_182 0 191 (dk_at dksX2_write_7 0 rfl rfl)
theorem dX2_write_168 : decode cX2_write 168 = .ok (.iinc 2 1, 3) := dk_132 2 1 (dk_at dksX2_write_7 3 rfl rfl)
theorem dX2_write_171 : decode cX2_write 171 = .ok (.goto (-90), 3) := dk_167 255 166 (dk_at dksX2_write_7 6 rfl rfl)
theorem dX2_write_174 : decode cX2_write 174 = .ok (.aload_n 0, 1) := dk_42 (dk_at dksX2_write_7 9 rfl rfl)
theorem dX2_write_175 : decode cX2_write 175 = .ok (.getfield 188, 3) := dk_180 0 188 (dk_at dksX2_write_7 10 rfl rfl)
theorem dX2_write_178 : decode cX2_write 178 = .ok (.bipush 120, 2) := dk_16 120 (dk_at dksX2_write_7 13 rfl rfl)
theorem dX2_write_180 : decode cX2_write 180 = .ok (.if_icmp .le 6, 3) := dk_164 0 6 (dk_at dksX2_write_7 15 rfl rfl)
theorem dX2_write_183 : decode cX2_write 183 = .ok (.bipush (-6), 2) := dk_16 250 (dk_at dksX2_write_7 18 rfl rfl)
theorem dX2_write_185 : decode cX2_write 185 = .ok (.ireturn, 1) := dk_172 (dk_at dksX2_write_7 20 rfl rfl)
theorem dX2_write_186 : decode cX2_write 186 = .ok (.aload_n 0, 1) := dk_42 (dk_at dksX2_write_7 21 rfl rfl)
theorem dX2_write_187 : decode cX2_write 187 = .ok (.getfield 22, 3) := dk_180 0 22 (dk_at dksX2_write_8 0 rfl rfl)
theorem dX2_write_190 : decode cX2_write 190 = .ok (.iload_n 1, 1) := dk_27 (dk_at dksX2_write_8 3 rfl rfl)
theorem dX2_write_191 : decode cX2_write 191 = .ok (.aload_n 0, 1) := dk_42 (dk_at dksX2_write_8 4 rfl rfl)
theorem dX2_write_192 : decode cX2_write 192 = .ok (.getfield 188, 3) := dk_180 0 188 (dk_at dksX2_write_8 5 rfl rfl)
theorem dX2_write_195 : decode cX2_write 195 = .ok (.iastore, 1) := dk_79 (dk_at dksX2_write_8 8 rfl rfl)
theorem dX2_write_196 : decode cX2_write 196 = .ok (.iconst 0, 1) := dk_3 (dk_at dksX2_write_8 9 rfl rfl)
theorem dX2_write_197 : decode cX2_write 197 = .ok (.istore_n 2, 1) := dk_61 (dk_at dksX2_write_8 10 rfl rfl)
theorem dX2_write_198 : decode cX2_write 198 = .ok (.iload_n 2, 1) := dk_28 (dk_at dksX2_write_8 11 rfl rfl)
theorem dX2_write_199 : decode cX2_write 199 = .ok (.bipush 120, 2) := dk_16 120 (dk_at dksX2_write_8 12 rfl rfl)
theorem dX2_write_201 : decode cX2_write 201 = .ok (.if_icmp .ge 39, 3) := dk_162 0 39 (dk_at dksX2_write_8 14 rfl rfl)
theorem dX2_write_204 : decode cX2_write 204 = .ok (.aload_n 0, 1) := dk_42 (dk_at dksX2_write_8 17 rfl rfl)
theorem dX2_write_205 : decode cX2_write 205 = .ok (.getfield 25, 3) := dk_180 0 25 (dk_at dksX2_write_8 18 rfl rfl)
theorem dX2_write_208 : decode cX2_write 208 = .ok (.bipush 120, 2) := dk_16 120 (dk_at dksX2_write_8 21 rfl rfl)
theorem dX2_write_210 : decode cX2_write 210 = .ok (.iload_n 1, 1) := dk_27 (dk_at dksX2_write_8 23 rfl rfl)
theorem dX2_write_211 : decode cX2_write 211 = .ok (.imul, 1) := dk_104 (dk_at dksX2_write_9 0 rfl rfl)
theorem dX2_write_212 : decode cX2_write 212 = .ok (.iload_n 2, 1) := dk_28 (dk_at dksX2_write_9 1 rfl rfl)
theorem dX2_write_213 : decode cX2_write 213 = .ok (.iadd, 1) := dk_96 (dk_at dksX2_write_9 2 rfl rfl)
theorem dX2_write_214 : decode cX2_write 214 = .ok (.iload_n 2, 1) := dk_28 (dk_at dksX2_write_9 3 rfl rfl)
theorem dX2_write_215 : decode cX2_write 215 = .ok (.aload_n 0, 1) := dk_42 (dk_at dksX2_write_9 4 rfl rfl)
theorem dX2_write_216 : decode cX2_write 216 = .ok (.getfield 188, 3) := dk_180 0 188 (dk_at dksX2_write_9 5 rfl rfl)
theorem dX2_write_219 : decode cX2_write 219 = .ok (.if_icmp .ge 12, 3) := dk_162 0 12 (dk_at dksX2_write_9 8 rfl rfl)
theorem dX2_write_222 : decode cX2_write 222 = .ok (.aload_n 0, 1) := dk_42 (dk_at dksX2_write_9 11 rfl rfl)
theorem dX2_write_223 : decode cX2_write 223 = .ok (.getfield 38, 3) := dk_180 0 38 (dk_at dksX2_write_9 12 rfl rfl)
theorem dX2_write_226 : decode cX2_write 226 = .ok (.iload_n 2, 1) := dk_28 (dk_at dksX2_write_9 15 rfl rfl)
theorem dX2_write_227 : decode cX2_write 227 = .ok (.baload, 1) := dk_51 (dk_at dksX2_write_9 16 rfl rfl)
theorem dX2_write_228 : decode cX2_write 228 = .ok (.goto 5, 3) := dk_167 0 5 (dk_at dksX2_write_9 17 rfl rfl)
theorem dX2_write_231 : decode cX2_write 231 = .ok (.bipush 32, 2) := dk_16 32 (dk_at dksX2_write_9 20 rfl rfl)
theorem dX2_write_233 : decode cX2_write 233 = .ok (.bastore, 1) := dk_84 (dk_at dksX2_write_9 22 rfl rfl)
theorem dX2_write_234 : decode cX2_write 234 = .ok (.iinc 2 1, 3) := dk_132 2 1 (dk_at dksX2_write_10 0 rfl rfl)
theorem dX2_write_237 : decode cX2_write 237 = .ok (.goto (-39), 3) := dk_167 255 217 (dk_at dksX2_write_10 3 rfl rfl)
theorem dX2_write_240 : decode cX2_write 240 = .ok (.aload_n 0, 1) := dk_42 (dk_at dksX2_write_10 6 rfl rfl)
theorem dX2_write_241 : decode cX2_write 241 = .ok (.getfield 188, 3) := dk_180 0 188 (dk_at dksX2_write_10 7 rfl rfl)
theorem dX2_write_244 : decode cX2_write 244 = .ok (.ireturn, 1) := dk_172 (dk_at dksX2_write_10 10 rfl rfl)
abbrev cX2_writesWord : ByteArray := prog_13_method_37_code
def yX2_writesWord : MethodName := ⟨RX2, "writesWord", "(I)V"⟩
def dkwX2_writesWord_1 : List UInt8 := [16, 96, 27, 28, 108, 16, 27, 112, 96, 182, 0, 191, 28, 16, 27, 108, 61, 167, 255, 234, 177]
abbrev dktX2_writesWord_1 : List UInt8 := dkwX2_writesWord_1 ++ []
def dkwX2_writesWord_0 : List UInt8 := [4, 61, 27, 28, 108, 16, 27, 161, 0, 11, 28, 16, 27, 104, 61, 167, 255, 243, 28, 158, 0, 24, 42]
abbrev dktX2_writesWord_0 : List UInt8 := dkwX2_writesWord_0 ++ dktX2_writesWord_1
theorem dksX2_writesWord_0 : cX2_writesWord.data.toList.drop 0 = dktX2_writesWord_0 := by decide +kernel
theorem dksX2_writesWord_1 : cX2_writesWord.data.toList.drop 23 = dktX2_writesWord_1 := dk_seg dksX2_writesWord_0 23 rfl rfl
theorem dX2_writesWord_0 : decode cX2_writesWord 0 = .ok (.iconst 1, 1) := dk_4 (dk_at dksX2_writesWord_0 0 rfl rfl)
theorem dX2_writesWord_1 : decode cX2_writesWord 1 = .ok (.istore_n 2, 1) := dk_61 (dk_at dksX2_writesWord_0 1 rfl rfl)
theorem dX2_writesWord_2 : decode cX2_writesWord 2 = .ok (.iload_n 1, 1) := dk_27 (dk_at dksX2_writesWord_0 2 rfl rfl)
theorem dX2_writesWord_3 : decode cX2_writesWord 3 = .ok (.iload_n 2, 1) := dk_28 (dk_at dksX2_writesWord_0 3 rfl rfl)
theorem dX2_writesWord_4 : decode cX2_writesWord 4 = .ok (.idiv, 1) := dk_108 (dk_at dksX2_writesWord_0 4 rfl rfl)
theorem dX2_writesWord_5 : decode cX2_writesWord 5 = .ok (.bipush 27, 2) := dk_16 27 (dk_at dksX2_writesWord_0 5 rfl rfl)
theorem dX2_writesWord_7 : decode cX2_writesWord 7 = .ok (.if_icmp .lt 11, 3) := dk_161 0 11 (dk_at dksX2_writesWord_0 7 rfl rfl)
theorem dX2_writesWord_10 : decode cX2_writesWord 10 = .ok (.iload_n 2, 1) := dk_28 (dk_at dksX2_writesWord_0 10 rfl rfl)
theorem dX2_writesWord_11 : decode cX2_writesWord 11 = .ok (.bipush 27, 2) := dk_16 27 (dk_at dksX2_writesWord_0 11 rfl rfl)
theorem dX2_writesWord_13 : decode cX2_writesWord 13 = .ok (.imul, 1) := dk_104 (dk_at dksX2_writesWord_0 13 rfl rfl)
theorem dX2_writesWord_14 : decode cX2_writesWord 14 = .ok (.istore_n 2, 1) := dk_61 (dk_at dksX2_writesWord_0 14 rfl rfl)
theorem dX2_writesWord_15 : decode cX2_writesWord 15 = .ok (.goto (-13), 3) := dk_167 255 243 (dk_at dksX2_writesWord_0 15 rfl rfl)
theorem dX2_writesWord_18 : decode cX2_writesWord 18 = .ok (.iload_n 2, 1) := dk_28 (dk_at dksX2_writesWord_0 18 rfl rfl)
theorem dX2_writesWord_19 : decode cX2_writesWord 19 = .ok (.ifCond .le 24, 3) := dk_158 0 24 (dk_at dksX2_writesWord_0 19 rfl rfl)
theorem dX2_writesWord_22 : decode cX2_writesWord 22 = .ok (.aload_n 0, 1) := dk_42 (dk_at dksX2_writesWord_0 22 rfl rfl)
theorem dX2_writesWord_23 : decode cX2_writesWord 23 = .ok (.bipush 96, 2) := dk_16 96 (dk_at dksX2_writesWord_1 0 rfl rfl)
theorem dX2_writesWord_25 : decode cX2_writesWord 25 = .ok (.iload_n 1, 1) := dk_27 (dk_at dksX2_writesWord_1 2 rfl rfl)
theorem dX2_writesWord_26 : decode cX2_writesWord 26 = .ok (.iload_n 2, 1) := dk_28 (dk_at dksX2_writesWord_1 3 rfl rfl)
theorem dX2_writesWord_27 : decode cX2_writesWord 27 = .ok (.idiv, 1) := dk_108 (dk_at dksX2_writesWord_1 4 rfl rfl)
theorem dX2_writesWord_28 : decode cX2_writesWord 28 = .ok (.bipush 27, 2) := dk_16 27 (dk_at dksX2_writesWord_1 5 rfl rfl)
theorem dX2_writesWord_30 : decode cX2_writesWord 30 = .ok (.irem, 1) := dk_112 (dk_at dksX2_writesWord_1 7 rfl rfl)
theorem dX2_writesWord_31 : decode cX2_writesWord 31 = .ok (.iadd, 1) := dk_96 (dk_at dksX2_writesWord_1 8 rfl rfl)
theorem dX2_writesWord_32 : decode cX2_writesWord 32 = .ok (.invokevirtual 191, 3) := dk_182 0 191 (dk_at dksX2_writesWord_1 9 rfl rfl)
theorem dX2_writesWord_35 : decode cX2_writesWord 35 = .ok (.iload_n 2, 1) := dk_28 (dk_at dksX2_writesWord_1 12 rfl rfl)
theorem dX2_writesWord_36 : decode cX2_writesWord 36 = .ok (.bipush 27, 2) := dk_16 27 (dk_at dksX2_writesWord_1 13 rfl rfl)
theorem dX2_writesWord_38 : decode cX2_writesWord 38 = .ok (.idiv, 1) := dk_108 (dk_at dksX2_writesWord_1 15 rfl rfl)
theorem dX2_writesWord_39 : decode cX2_writesWord 39 = .ok (.istore_n 2, 1) := dk_61 (dk_at dksX2_writesWord_1 16 rfl rfl)
theorem dX2_writesWord_40 : decode cX2_writesWord 40 = .ok (.goto (-22), 3) := dk_167 255 234 (dk_at dksX2_writesWord_1 17 rfl rfl)
theorem dX2_writesWord_43 : decode cX2_writesWord 43 = .ok (.return_, 1) := dk_177 (dk_at dksX2_writesWord_1 20 rfl rfl)
abbrev cX2_writes : ByteArray := prog_13_method_36_code
def yX2_writes : MethodName := ⟨RX2, "writes", "(I)V"⟩
def dkwX2_writes_1 : List UInt8 := [180, 0, 188, 4, 96, 181, 0, 188, 177]
abbrev dktX2_writes_1 : List UInt8 := dkwX2_writes_1 ++ []
def dkwX2_writes_0 : List UInt8 := [42, 180, 0, 188, 16, 120, 162, 0, 14, 42, 180, 0, 38, 42, 180, 0, 188, 27, 145, 84, 42, 89]
abbrev dktX2_writes_0 : List UInt8 := dkwX2_writes_0 ++ dktX2_writes_1
theorem dksX2_writes_0 : cX2_writes.data.toList.drop 0 = dktX2_writes_0 := by decide +kernel
theorem dksX2_writes_1 : cX2_writes.data.toList.drop 22 = dktX2_writes_1 := dk_seg dksX2_writes_0 22 rfl rfl
theorem dX2_writes_0 : decode cX2_writes 0 = .ok (.aload_n 0, 1) := dk_42 (dk_at dksX2_writes_0 0 rfl rfl)
theorem dX2_writes_1 : decode cX2_writes 1 = .ok (.getfield 188, 3) := dk_180 0 188 (dk_at dksX2_writes_0 1 rfl rfl)
theorem dX2_writes_4 : decode cX2_writes 4 = .ok (.bipush 120, 2) := dk_16 120 (dk_at dksX2_writes_0 4 rfl rfl)
theorem dX2_writes_6 : decode cX2_writes 6 = .ok (.if_icmp .ge 14, 3) := dk_162 0 14 (dk_at dksX2_writes_0 6 rfl rfl)
theorem dX2_writes_9 : decode cX2_writes 9 = .ok (.aload_n 0, 1) := dk_42 (dk_at dksX2_writes_0 9 rfl rfl)
theorem dX2_writes_10 : decode cX2_writes 10 = .ok (.getfield 38, 3) := dk_180 0 38 (dk_at dksX2_writes_0 10 rfl rfl)
theorem dX2_writes_13 : decode cX2_writes 13 = .ok (.aload_n 0, 1) := dk_42 (dk_at dksX2_writes_0 13 rfl rfl)
theorem dX2_writes_14 : decode cX2_writes 14 = .ok (.getfield 188, 3) := dk_180 0 188 (dk_at dksX2_writes_0 14 rfl rfl)
theorem dX2_writes_17 : decode cX2_writes 17 = .ok (.iload_n 1, 1) := dk_27 (dk_at dksX2_writes_0 17 rfl rfl)
theorem dX2_writes_18 : decode cX2_writes 18 = .ok (.i2b, 1) := dk_145 (dk_at dksX2_writes_0 18 rfl rfl)
theorem dX2_writes_19 : decode cX2_writes 19 = .ok (.bastore, 1) := dk_84 (dk_at dksX2_writes_0 19 rfl rfl)
theorem dX2_writes_20 : decode cX2_writes 20 = .ok (.aload_n 0, 1) := dk_42 (dk_at dksX2_writes_0 20 rfl rfl)
theorem dX2_writes_21 : decode cX2_writes 21 = .ok (.dup, 1) := dk_89 (dk_at dksX2_writes_0 21 rfl rfl)
theorem dX2_writes_22 : decode cX2_writes 22 = .ok (.getfield 188, 3) := dk_180 0 188 (dk_at dksX2_writes_1 0 rfl rfl)
theorem dX2_writes_25 : decode cX2_writes 25 = .ok (.iconst 1, 1) := dk_4 (dk_at dksX2_writes_1 3 rfl rfl)
theorem dX2_writes_26 : decode cX2_writes 26 = .ok (.iadd, 1) := dk_96 (dk_at dksX2_writes_1 4 rfl rfl)
theorem dX2_writes_27 : decode cX2_writes 27 = .ok (.putfield 188, 3) := dk_181 0 188 (dk_at dksX2_writes_1 5 rfl rfl)
theorem dX2_writes_30 : decode cX2_writes 30 = .ok (.return_, 1) := dk_177 (dk_at dksX2_writes_1 8 rfl rfl)
abbrev cX2_writesNumber : ByteArray := prog_13_method_38_code
def yX2_writesNumber : MethodName := ⟨RX2, "writesNumber", "(I)V"⟩
def dkwX2_writesNumber_1 : List UInt8 := [16, 48, 27, 16, 10, 112, 96, 182, 0, 191, 177]
abbrev dktX2_writesNumber_1 : List UInt8 := dkwX2_writesNumber_1 ++ []
def dkwX2_writesNumber_0 : List UInt8 := [42, 16, 32, 182, 0, 191, 27, 16, 9, 164, 0, 14, 42, 16, 48, 27, 16, 10, 108, 96, 182, 0, 191, 42]
abbrev dktX2_writesNumber_0 : List UInt8 := dkwX2_writesNumber_0 ++ dktX2_writesNumber_1
theorem dksX2_writesNumber_0 : cX2_writesNumber.data.toList.drop 0 = dktX2_writesNumber_0 := by decide +kernel
theorem dksX2_writesNumber_1 : cX2_writesNumber.data.toList.drop 24 = dktX2_writesNumber_1 := dk_seg dksX2_writesNumber_0 24 rfl rfl
theorem dX2_writesNumber_0 : decode cX2_writesNumber 0 = .ok (.aload_n 0, 1) := dk_42 (dk_at dksX2_writesNumber_0 0 rfl rfl)
theorem dX2_writesNumber_1 : decode cX2_writesNumber 1 = .ok (.bipush 32, 2) := dk_16 32 (dk_at dksX2_writesNumber_0 1 rfl rfl)
theorem dX2_writesNumber_3 : decode cX2_writesNumber 3 = .ok (.invokevirtual 191, 3) := dk_182 0 191 (dk_at dksX2_writesNumber_0 3 rfl rfl)
theorem dX2_writesNumber_6 : decode cX2_writesNumber 6 = .ok (.iload_n 1, 1) := dk_27 (dk_at dksX2_writesNumber_0 6 rfl rfl)
theorem dX2_writesNumber_7 : decode cX2_writesNumber 7 = .ok (.bipush 9, 2) := dk_16 9 (dk_at dksX2_writesNumber_0 7 rfl rfl)
theorem dX2_writesNumber_9 : decode cX2_writesNumber 9 = .ok (.if_icmp .le 14, 3) := dk_164 0 14 (dk_at dksX2_writesNumber_0 9 rfl rfl)
theorem dX2_writesNumber_12 : decode cX2_writesNumber 12 = .ok (.aload_n 0, 1) := dk_42 (dk_at dksX2_writesNumber_0 12 rfl rfl)
theorem dX2_writesNumber_13 : decode cX2_writesNumber 13 = .ok (.bipush 48, 2) := dk_16 48 (dk_at dksX2_writesNumber_0 13 rfl rfl)
theorem dX2_writesNumber_15 : decode cX2_writesNumber 15 = .ok (.iload_n 1, 1) := dk_27 (dk_at dksX2_writesNumber_0 15 rfl rfl)
theorem dX2_writesNumber_16 : decode cX2_writesNumber 16 = .ok (.bipush 10, 2) := dk_16 10 (dk_at dksX2_writesNumber_0 16 rfl rfl)
theorem dX2_writesNumber_18 : decode cX2_writesNumber 18 = .ok (.idiv, 1) := dk_108 (dk_at dksX2_writesNumber_0 18 rfl rfl)
theorem dX2_writesNumber_19 : decode cX2_writesNumber 19 = .ok (.iadd, 1) := dk_96 (dk_at dksX2_writesNumber_0 19 rfl rfl)
theorem dX2_writesNumber_20 : decode cX2_writesNumber 20 = .ok (.invokevirtual 191, 3) := dk_182 0 191 (dk_at dksX2_writesNumber_0 20 rfl rfl)
theorem dX2_writesNumber_23 : decode cX2_writesNumber 23 = .ok (.aload_n 0, 1) := dk_42 (dk_at dksX2_writesNumber_0 23 rfl rfl)
theorem dX2_writesNumber_24 : decode cX2_writesNumber 24 = .ok (.bipush 48, 2) := dk_16 48 (dk_at dksX2_writesNumber_1 0 rfl rfl)
theorem dX2_writesNumber_26 : decode cX2_writesNumber 26 = .ok (.iload_n 1, 1) := dk_27 (dk_at dksX2_writesNumber_1 2 rfl rfl)
theorem dX2_writesNumber_27 : decode cX2_writesNumber 27 = .ok (.bipush 10, 2) := dk_16 10 (dk_at dksX2_writesNumber_1 3 rfl rfl)
theorem dX2_writesNumber_29 : decode cX2_writesNumber 29 = .ok (.irem, 1) := dk_112 (dk_at dksX2_writesNumber_1 5 rfl rfl)
theorem dX2_writesNumber_30 : decode cX2_writesNumber 30 = .ok (.iadd, 1) := dk_96 (dk_at dksX2_writesNumber_1 6 rfl rfl)
theorem dX2_writesNumber_31 : decode cX2_writesNumber 31 = .ok (.invokevirtual 191, 3) := dk_182 0 191 (dk_at dksX2_writesNumber_1 7 rfl rfl)
theorem dX2_writesNumber_34 : decode cX2_writesNumber 34 = .ok (.return_, 1) := dk_177 (dk_at dksX2_writesNumber_1 10 rfl rfl)
abbrev cX2_kindOf : ByteArray := prog_13_method_41_code
def yX2_kindOf : MethodName := ⟨RX2, "kindOf", "(I)I"⟩
def dkwX2_kindOf_0 : List UInt8 := [42, 180, 0, 29, 16, 7, 27, 104, 46, 172]
abbrev dktX2_kindOf_0 : List UInt8 := dkwX2_kindOf_0 ++ []
theorem dksX2_kindOf_0 : cX2_kindOf.data.toList.drop 0 = dktX2_kindOf_0 := by decide +kernel
theorem dX2_kindOf_0 : decode cX2_kindOf 0 = .ok (.aload_n 0, 1) := dk_42 (dk_at dksX2_kindOf_0 0 rfl rfl)
theorem dX2_kindOf_1 : decode cX2_kindOf 1 = .ok (.getfield 29, 3) := dk_180 0 29 (dk_at dksX2_kindOf_0 1 rfl rfl)
theorem dX2_kindOf_4 : decode cX2_kindOf 4 = .ok (.bipush 7, 2) := dk_16 7 (dk_at dksX2_kindOf_0 4 rfl rfl)
theorem dX2_kindOf_6 : decode cX2_kindOf 6 = .ok (.iload_n 1, 1) := dk_27 (dk_at dksX2_kindOf_0 6 rfl rfl)
theorem dX2_kindOf_7 : decode cX2_kindOf 7 = .ok (.imul, 1) := dk_104 (dk_at dksX2_kindOf_0 7 rfl rfl)
theorem dX2_kindOf_8 : decode cX2_kindOf 8 = .ok (.iaload, 1) := dk_46 (dk_at dksX2_kindOf_0 8 rfl rfl)
theorem dX2_kindOf_9 : decode cX2_kindOf 9 = .ok (.ireturn, 1) := dk_172 (dk_at dksX2_kindOf_0 9 rfl rfl)
abbrev cX2_frame : ByteArray := prog_13_method_52_code
def yX2_frame : MethodName := ⟨RX2, "frame", "(II)I"⟩
def dkwX2_frame_1 : List UInt8 := [182, 0, 226, 4, 182, 0, 91, 172]
abbrev dktX2_frame_1 : List UInt8 := dkwX2_frame_1 ++ []
def dkwX2_frame_0 : List UInt8 := [42, 27, 182, 0, 223, 153, 0, 12, 28, 3, 7, 184, 0, 75, 154, 0, 5, 2, 172, 42, 42, 27, 28]
abbrev dktX2_frame_0 : List UInt8 := dkwX2_frame_0 ++ dktX2_frame_1
theorem dksX2_frame_0 : cX2_frame.data.toList.drop 0 = dktX2_frame_0 := by decide +kernel
theorem dksX2_frame_1 : cX2_frame.data.toList.drop 23 = dktX2_frame_1 := dk_seg dksX2_frame_0 23 rfl rfl
theorem dX2_frame_0 : decode cX2_frame 0 = .ok (.aload_n 0, 1) := dk_42 (dk_at dksX2_frame_0 0 rfl rfl)
theorem dX2_frame_1 : decode cX2_frame 1 = .ok (.iload_n 1, 1) := dk_27 (dk_at dksX2_frame_0 1 rfl rfl)
theorem dX2_frame_2 : decode cX2_frame 2 = .ok (.invokevirtual 223, 3) := dk_182 0 223 (dk_at dksX2_frame_0 2 rfl rfl)
theorem dX2_frame_5 : decode cX2_frame 5 = .ok (.ifCond .eq 12, 3) := dk_153 0 12 (dk_at dksX2_frame_0 5 rfl rfl)
theorem dX2_frame_8 : decode cX2_frame 8 = .ok (.iload_n 2, 1) := dk_28 (dk_at dksX2_frame_0 8 rfl rfl)
theorem dX2_frame_9 : decode cX2_frame 9 = .ok (.iconst 0, 1) := dk_3 (dk_at dksX2_frame_0 9 rfl rfl)
theorem dX2_frame_10 : decode cX2_frame 10 = .ok (.iconst 4, 1) := dk_7 (dk_at dksX2_frame_0 10 rfl rfl)
theorem dX2_frame_11 : decode cX2_frame 11 = .ok (.invokestatic 75, 3) := dk_184 0 75 (dk_at dksX2_frame_0 11 rfl rfl)
theorem dX2_frame_14 : decode cX2_frame 14 = .ok (.ifCond .ne 5, 3) := dk_154 0 5 (dk_at dksX2_frame_0 14 rfl rfl)
theorem dX2_frame_17 : decode cX2_frame 17 = .ok (.iconst (-1), 1) := dk_2 (dk_at dksX2_frame_0 17 rfl rfl)
theorem dX2_frame_18 : decode cX2_frame 18 = .ok (.ireturn, 1) := dk_172 (dk_at dksX2_frame_0 18 rfl rfl)
theorem dX2_frame_19 : decode cX2_frame 19 = .ok (.aload_n 0, 1) := dk_42 (dk_at dksX2_frame_0 19 rfl rfl)
theorem dX2_frame_20 : decode cX2_frame 20 = .ok (.aload_n 0, 1) := dk_42 (dk_at dksX2_frame_0 20 rfl rfl)
theorem dX2_frame_21 : decode cX2_frame 21 = .ok (.iload_n 1, 1) := dk_27 (dk_at dksX2_frame_0 21 rfl rfl)
theorem dX2_frame_22 : decode cX2_frame 22 = .ok (.iload_n 2, 1) := dk_28 (dk_at dksX2_frame_0 22 rfl rfl)
theorem dX2_frame_23 : decode cX2_frame 23 = .ok (.invokevirtual 226, 3) := dk_182 0 226 (dk_at dksX2_frame_1 0 rfl rfl)
theorem dX2_frame_26 : decode cX2_frame 26 = .ok (.iconst 1, 1) := dk_4 (dk_at dksX2_frame_1 3 rfl rfl)
theorem dX2_frame_27 : decode cX2_frame 27 = .ok (.invokevirtual 91, 3) := dk_182 0 91 (dk_at dksX2_frame_1 4 rfl rfl)
theorem dX2_frame_30 : decode cX2_frame 30 = .ok (.ireturn, 1) := dk_172 (dk_at dksX2_frame_1 7 rfl rfl)
abbrev cX2_isFrame : ByteArray := prog_13_method_40_code
def yX2_isFrame : MethodName := ⟨RX2, "isFrame", "(I)Z"⟩
def dkwX2_isFrame_0 : List UInt8 := [27, 3, 42, 180, 0, 179, 4, 100, 184, 0, 75, 172]
abbrev dktX2_isFrame_0 : List UInt8 := dkwX2_isFrame_0 ++ []
theorem dksX2_isFrame_0 : cX2_isFrame.data.toList.drop 0 = dktX2_isFrame_0 := by decide +kernel
theorem dX2_isFrame_0 : decode cX2_isFrame 0 = .ok (.iload_n 1, 1) := dk_27 (dk_at dksX2_isFrame_0 0 rfl rfl)
theorem dX2_isFrame_1 : decode cX2_isFrame 1 = .ok (.iconst 0, 1) := dk_3 (dk_at dksX2_isFrame_0 1 rfl rfl)
theorem dX2_isFrame_2 : decode cX2_isFrame 2 = .ok (.aload_n 0, 1) := dk_42 (dk_at dksX2_isFrame_0 2 rfl rfl)
theorem dX2_isFrame_3 : decode cX2_isFrame 3 = .ok (.getfield 179, 3) := dk_180 0 179 (dk_at dksX2_isFrame_0 3 rfl rfl)
theorem dX2_isFrame_6 : decode cX2_isFrame 6 = .ok (.iconst 1, 1) := dk_4 (dk_at dksX2_isFrame_0 6 rfl rfl)
theorem dX2_isFrame_7 : decode cX2_isFrame 7 = .ok (.isub, 1) := dk_100 (dk_at dksX2_isFrame_0 7 rfl rfl)
theorem dX2_isFrame_8 : decode cX2_isFrame 8 = .ok (.invokestatic 75, 3) := dk_184 0 75 (dk_at dksX2_isFrame_0 8 rfl rfl)
theorem dX2_isFrame_11 : decode cX2_isFrame 11 = .ok (.ireturn, 1) := dk_172 (dk_at dksX2_isFrame_0 11 rfl rfl)
abbrev cX2_frameTells : ByteArray := prog_13_method_53_code
def yX2_frameTells : MethodName := ⟨RX2, "frameTells", "(II)I"⟩
def dkwX2_frameTells_3 : List UInt8 := [172, 42, 27, 3, 182, 0, 229, 172]
abbrev dktX2_frameTells_3 : List UInt8 := dkwX2_frameTells_3 ++ []
def dkwX2_frameTells_2 : List UInt8 := [42, 27, 182, 0, 201, 172, 42, 27, 182, 0, 214, 172, 42, 27, 182, 0, 217, 172, 42, 27, 3, 182, 0, 220]
abbrev dktX2_frameTells_2 : List UInt8 := dkwX2_frameTells_2 ++ dktX2_frameTells_3
def dkwX2_frameTells_1 : List UInt8 := [170, 0, 0, 0, 0, 0, 56, 0, 0, 0, 0, 0, 0, 0, 3, 0, 0, 0, 31, 0, 0, 0, 37, 0, 0, 0, 43, 0, 0, 0, 49]
abbrev dktX2_frameTells_1 : List UInt8 := dkwX2_frameTells_1 ++ dktX2_frameTells_2
def dkwX2_frameTells_0 : List UInt8 := [28]
abbrev dktX2_frameTells_0 : List UInt8 := dkwX2_frameTells_0 ++ dktX2_frameTells_1
theorem dksX2_frameTells_0 : cX2_frameTells.data.toList.drop 0 = dktX2_frameTells_0 := by decide +kernel
theorem dksX2_frameTells_1 : cX2_frameTells.data.toList.drop 1 = dktX2_frameTells_1 := dk_seg dksX2_frameTells_0 1 rfl rfl
theorem dksX2_frameTells_2 : cX2_frameTells.data.toList.drop 32 = dktX2_frameTells_2 := dk_seg dksX2_frameTells_1 31 rfl rfl
theorem dksX2_frameTells_3 : cX2_frameTells.data.toList.drop 56 = dktX2_frameTells_3 := dk_seg dksX2_frameTells_2 24 rfl rfl
theorem dX2_frameTells_0 : decode cX2_frameTells 0 = .ok (.iload_n 2, 1) := dk_28 (dk_at dksX2_frameTells_0 0 rfl rfl)
theorem dX2_frameTells_1 : decode cX2_frameTells 1 = .ok (.tableswitch 56 0 3 #[31, 37, 43, 49], 31) := by decide +kernel
theorem dX2_frameTells_32 : decode cX2_frameTells 32 = .ok (.aload_n 0, 1) := dk_42 (dk_at dksX2_frameTells_2 0 rfl rfl)
theorem dX2_frameTells_33 : decode cX2_frameTells 33 = .ok (.iload_n 1, 1) := dk_27 (dk_at dksX2_frameTells_2 1 rfl rfl)
theorem dX2_frameTells_34 : decode cX2_frameTells 34 = .ok (.invokevirtual 201, 3) := dk_182 0 201 (dk_at dksX2_frameTells_2 2 rfl rfl)
theorem dX2_frameTells_37 : decode cX2_frameTells 37 = .ok (.ireturn, 1) := dk_172 (dk_at dksX2_frameTells_2 5 rfl rfl)
theorem dX2_frameTells_38 : decode cX2_frameTells 38 = .ok (.aload_n 0, 1) := dk_42 (dk_at dksX2_frameTells_2 6 rfl rfl)
theorem dX2_frameTells_39 : decode cX2_frameTells 39 = .ok (.iload_n 1, 1) := dk_27 (dk_at dksX2_frameTells_2 7 rfl rfl)
theorem dX2_frameTells_40 : decode cX2_frameTells 40 = .ok (.invokevirtual 214, 3) := dk_182 0 214 (dk_at dksX2_frameTells_2 8 rfl rfl)
theorem dX2_frameTells_43 : decode cX2_frameTells 43 = .ok (.ireturn, 1) := dk_172 (dk_at dksX2_frameTells_2 11 rfl rfl)
theorem dX2_frameTells_44 : decode cX2_frameTells 44 = .ok (.aload_n 0, 1) := dk_42 (dk_at dksX2_frameTells_2 12 rfl rfl)
theorem dX2_frameTells_45 : decode cX2_frameTells 45 = .ok (.iload_n 1, 1) := dk_27 (dk_at dksX2_frameTells_2 13 rfl rfl)
theorem dX2_frameTells_46 : decode cX2_frameTells 46 = .ok (.invokevirtual 217, 3) := dk_182 0 217 (dk_at dksX2_frameTells_2 14 rfl rfl)
theorem dX2_frameTells_49 : decode cX2_frameTells 49 = .ok (.ireturn, 1) := dk_172 (dk_at dksX2_frameTells_2 17 rfl rfl)
theorem dX2_frameTells_50 : decode cX2_frameTells 50 = .ok (.aload_n 0, 1) := dk_42 (dk_at dksX2_frameTells_2 18 rfl rfl)
theorem dX2_frameTells_51 : decode cX2_frameTells 51 = .ok (.iload_n 1, 1) := dk_27 (dk_at dksX2_frameTells_2 19 rfl rfl)
theorem dX2_frameTells_52 : decode cX2_frameTells 52 = .ok (.iconst 0, 1) := dk_3 (dk_at dksX2_frameTells_2 20 rfl rfl)
theorem dX2_frameTells_53 : decode cX2_frameTells 53 = .ok (.invokevirtual 220, 3) := dk_182 0 220 (dk_at dksX2_frameTells_2 21 rfl rfl)
theorem dX2_frameTells_56 : decode cX2_frameTells 56 = .ok (.ireturn, 1) := dk_172 (dk_at dksX2_frameTells_3 0 rfl rfl)
theorem dX2_frameTells_57 : decode cX2_frameTells 57 = .ok (.aload_n 0, 1) := dk_42 (dk_at dksX2_frameTells_3 1 rfl rfl)
theorem dX2_frameTells_58 : decode cX2_frameTells 58 = .ok (.iload_n 1, 1) := dk_27 (dk_at dksX2_frameTells_3 2 rfl rfl)
theorem dX2_frameTells_59 : decode cX2_frameTells 59 = .ok (.iconst 0, 1) := dk_3 (dk_at dksX2_frameTells_3 3 rfl rfl)
theorem dX2_frameTells_60 : decode cX2_frameTells 60 = .ok (.invokevirtual 229, 3) := dk_182 0 229 (dk_at dksX2_frameTells_3 4 rfl rfl)
theorem dX2_frameTells_63 : decode cX2_frameTells 63 = .ok (.ireturn, 1) := dk_172 (dk_at dksX2_frameTells_3 7 rfl rfl)
abbrev cX2_across : ByteArray := prog_13_method_45_code
def yX2_across : MethodName := ⟨RX2, "across", "(I)I"⟩
def dkwX2_across_1 : List UInt8 := [42, 27, 6, 182, 0, 208, 100, 42, 27, 8, 182, 0, 208, 100, 172]
abbrev dktX2_across_1 : List UInt8 := dkwX2_across_1 ++ []
def dkwX2_across_0 : List UInt8 := [42, 27, 182, 0, 201, 6, 160, 0, 12, 42, 27, 4, 182, 0, 208, 167, 0, 23, 42, 27, 4, 182, 0, 208]
abbrev dktX2_across_0 : List UInt8 := dkwX2_across_0 ++ dktX2_across_1
theorem dksX2_across_0 : cX2_across.data.toList.drop 0 = dktX2_across_0 := by decide +kernel
theorem dksX2_across_1 : cX2_across.data.toList.drop 24 = dktX2_across_1 := dk_seg dksX2_across_0 24 rfl rfl
theorem dX2_across_0 : decode cX2_across 0 = .ok (.aload_n 0, 1) := dk_42 (dk_at dksX2_across_0 0 rfl rfl)
theorem dX2_across_1 : decode cX2_across 1 = .ok (.iload_n 1, 1) := dk_27 (dk_at dksX2_across_0 1 rfl rfl)
theorem dX2_across_2 : decode cX2_across 2 = .ok (.invokevirtual 201, 3) := dk_182 0 201 (dk_at dksX2_across_0 2 rfl rfl)
theorem dX2_across_5 : decode cX2_across 5 = .ok (.iconst 3, 1) := dk_6 (dk_at dksX2_across_0 5 rfl rfl)
theorem dX2_across_6 : decode cX2_across 6 = .ok (.if_icmp .ne 12, 3) := dk_160 0 12 (dk_at dksX2_across_0 6 rfl rfl)
theorem dX2_across_9 : decode cX2_across 9 = .ok (.aload_n 0, 1) := dk_42 (dk_at dksX2_across_0 9 rfl rfl)
theorem dX2_across_10 : decode cX2_across 10 = .ok (.iload_n 1, 1) := dk_27 (dk_at dksX2_across_0 10 rfl rfl)
theorem dX2_across_11 : decode cX2_across 11 = .ok (.iconst 1, 1) := dk_4 (dk_at dksX2_across_0 11 rfl rfl)
theorem dX2_across_12 : decode cX2_across 12 = .ok (.invokevirtual 208, 3) := dk_182 0 208 (dk_at dksX2_across_0 12 rfl rfl)
theorem dX2_across_15 : decode cX2_across 15 = .ok (.goto 23, 3) := dk_167 0 23 (dk_at dksX2_across_0 15 rfl rfl)
theorem dX2_across_18 : decode cX2_across 18 = .ok (.aload_n 0, 1) := dk_42 (dk_at dksX2_across_0 18 rfl rfl)
theorem dX2_across_19 : decode cX2_across 19 = .ok (.iload_n 1, 1) := dk_27 (dk_at dksX2_across_0 19 rfl rfl)
theorem dX2_across_20 : decode cX2_across 20 = .ok (.iconst 1, 1) := dk_4 (dk_at dksX2_across_0 20 rfl rfl)
theorem dX2_across_21 : decode cX2_across 21 = .ok (.invokevirtual 208, 3) := dk_182 0 208 (dk_at dksX2_across_0 21 rfl rfl)
theorem dX2_across_24 : decode cX2_across 24 = .ok (.aload_n 0, 1) := dk_42 (dk_at dksX2_across_1 0 rfl rfl)
theorem dX2_across_25 : decode cX2_across 25 = .ok (.iload_n 1, 1) := dk_27 (dk_at dksX2_across_1 1 rfl rfl)
theorem dX2_across_26 : decode cX2_across 26 = .ok (.iconst 3, 1) := dk_6 (dk_at dksX2_across_1 2 rfl rfl)
theorem dX2_across_27 : decode cX2_across 27 = .ok (.invokevirtual 208, 3) := dk_182 0 208 (dk_at dksX2_across_1 3 rfl rfl)
theorem dX2_across_30 : decode cX2_across 30 = .ok (.isub, 1) := dk_100 (dk_at dksX2_across_1 6 rfl rfl)
theorem dX2_across_31 : decode cX2_across 31 = .ok (.aload_n 0, 1) := dk_42 (dk_at dksX2_across_1 7 rfl rfl)
theorem dX2_across_32 : decode cX2_across 32 = .ok (.iload_n 1, 1) := dk_27 (dk_at dksX2_across_1 8 rfl rfl)
theorem dX2_across_33 : decode cX2_across 33 = .ok (.iconst 5, 1) := dk_8 (dk_at dksX2_across_1 9 rfl rfl)
theorem dX2_across_34 : decode cX2_across 34 = .ok (.invokevirtual 208, 3) := dk_182 0 208 (dk_at dksX2_across_1 10 rfl rfl)
theorem dX2_across_37 : decode cX2_across 37 = .ok (.isub, 1) := dk_100 (dk_at dksX2_across_1 13 rfl rfl)
theorem dX2_across_38 : decode cX2_across 38 = .ok (.ireturn, 1) := dk_172 (dk_at dksX2_across_1 14 rfl rfl)
abbrev cX2_of : ByteArray := prog_13_method_42_code
def yX2_of : MethodName := ⟨RX2, "of", "(II)I"⟩
def dkwX2_of_0 : List UInt8 := [42, 180, 0, 29, 16, 7, 27, 104, 28, 96, 46, 172]
abbrev dktX2_of_0 : List UInt8 := dkwX2_of_0 ++ []
theorem dksX2_of_0 : cX2_of.data.toList.drop 0 = dktX2_of_0 := by decide +kernel
theorem dX2_of_0 : decode cX2_of 0 = .ok (.aload_n 0, 1) := dk_42 (dk_at dksX2_of_0 0 rfl rfl)
theorem dX2_of_1 : decode cX2_of 1 = .ok (.getfield 29, 3) := dk_180 0 29 (dk_at dksX2_of_0 1 rfl rfl)
theorem dX2_of_4 : decode cX2_of 4 = .ok (.bipush 7, 2) := dk_16 7 (dk_at dksX2_of_0 4 rfl rfl)
theorem dX2_of_6 : decode cX2_of 6 = .ok (.iload_n 1, 1) := dk_27 (dk_at dksX2_of_0 6 rfl rfl)
theorem dX2_of_7 : decode cX2_of 7 = .ok (.imul, 1) := dk_104 (dk_at dksX2_of_0 7 rfl rfl)
theorem dX2_of_8 : decode cX2_of 8 = .ok (.iload_n 2, 1) := dk_28 (dk_at dksX2_of_0 8 rfl rfl)
theorem dX2_of_9 : decode cX2_of 9 = .ok (.iadd, 1) := dk_96 (dk_at dksX2_of_0 9 rfl rfl)
theorem dX2_of_10 : decode cX2_of 10 = .ok (.iaload, 1) := dk_46 (dk_at dksX2_of_0 10 rfl rfl)
theorem dX2_of_11 : decode cX2_of 11 = .ok (.ireturn, 1) := dk_172 (dk_at dksX2_of_0 11 rfl rfl)
abbrev cX2_down : ByteArray := prog_13_method_46_code
def yX2_down : MethodName := ⟨RX2, "down", "(I)I"⟩
def dkwX2_down_1 : List UInt8 := [42, 27, 7, 182, 0, 208, 100, 42, 27, 16, 6, 182, 0, 208, 100, 172]
abbrev dktX2_down_1 : List UInt8 := dkwX2_down_1 ++ []
def dkwX2_down_0 : List UInt8 := [42, 27, 182, 0, 201, 6, 160, 0, 12, 42, 27, 5, 182, 0, 208, 167, 0, 24, 42, 27, 5, 182, 0, 208]
abbrev dktX2_down_0 : List UInt8 := dkwX2_down_0 ++ dktX2_down_1
theorem dksX2_down_0 : cX2_down.data.toList.drop 0 = dktX2_down_0 := by decide +kernel
theorem dksX2_down_1 : cX2_down.data.toList.drop 24 = dktX2_down_1 := dk_seg dksX2_down_0 24 rfl rfl
theorem dX2_down_0 : decode cX2_down 0 = .ok (.aload_n 0, 1) := dk_42 (dk_at dksX2_down_0 0 rfl rfl)
theorem dX2_down_1 : decode cX2_down 1 = .ok (.iload_n 1, 1) := dk_27 (dk_at dksX2_down_0 1 rfl rfl)
theorem dX2_down_2 : decode cX2_down 2 = .ok (.invokevirtual 201, 3) := dk_182 0 201 (dk_at dksX2_down_0 2 rfl rfl)
theorem dX2_down_5 : decode cX2_down 5 = .ok (.iconst 3, 1) := dk_6 (dk_at dksX2_down_0 5 rfl rfl)
theorem dX2_down_6 : decode cX2_down 6 = .ok (.if_icmp .ne 12, 3) := dk_160 0 12 (dk_at dksX2_down_0 6 rfl rfl)
theorem dX2_down_9 : decode cX2_down 9 = .ok (.aload_n 0, 1) := dk_42 (dk_at dksX2_down_0 9 rfl rfl)
theorem dX2_down_10 : decode cX2_down 10 = .ok (.iload_n 1, 1) := dk_27 (dk_at dksX2_down_0 10 rfl rfl)
theorem dX2_down_11 : decode cX2_down 11 = .ok (.iconst 2, 1) := dk_5 (dk_at dksX2_down_0 11 rfl rfl)
theorem dX2_down_12 : decode cX2_down 12 = .ok (.invokevirtual 208, 3) := dk_182 0 208 (dk_at dksX2_down_0 12 rfl rfl)
theorem dX2_down_15 : decode cX2_down 15 = .ok (.goto 24, 3) := dk_167 0 24 (dk_at dksX2_down_0 15 rfl rfl)
theorem dX2_down_18 : decode cX2_down 18 = .ok (.aload_n 0, 1) := dk_42 (dk_at dksX2_down_0 18 rfl rfl)
theorem dX2_down_19 : decode cX2_down 19 = .ok (.iload_n 1, 1) := dk_27 (dk_at dksX2_down_0 19 rfl rfl)
theorem dX2_down_20 : decode cX2_down 20 = .ok (.iconst 2, 1) := dk_5 (dk_at dksX2_down_0 20 rfl rfl)
theorem dX2_down_21 : decode cX2_down 21 = .ok (.invokevirtual 208, 3) := dk_182 0 208 (dk_at dksX2_down_0 21 rfl rfl)
theorem dX2_down_24 : decode cX2_down 24 = .ok (.aload_n 0, 1) := dk_42 (dk_at dksX2_down_1 0 rfl rfl)
theorem dX2_down_25 : decode cX2_down 25 = .ok (.iload_n 1, 1) := dk_27 (dk_at dksX2_down_1 1 rfl rfl)
theorem dX2_down_26 : decode cX2_down 26 = .ok (.iconst 4, 1) := dk_7 (dk_at dksX2_down_1 2 rfl rfl)
theorem dX2_down_27 : decode cX2_down 27 = .ok (.invokevirtual 208, 3) := dk_182 0 208 (dk_at dksX2_down_1 3 rfl rfl)
theorem dX2_down_30 : decode cX2_down 30 = .ok (.isub, 1) := dk_100 (dk_at dksX2_down_1 6 rfl rfl)
theorem dX2_down_31 : decode cX2_down 31 = .ok (.aload_n 0, 1) := dk_42 (dk_at dksX2_down_1 7 rfl rfl)
theorem dX2_down_32 : decode cX2_down 32 = .ok (.iload_n 1, 1) := dk_27 (dk_at dksX2_down_1 8 rfl rfl)
theorem dX2_down_33 : decode cX2_down 33 = .ok (.bipush 6, 2) := dk_16 6 (dk_at dksX2_down_1 9 rfl rfl)
theorem dX2_down_35 : decode cX2_down 35 = .ok (.invokevirtual 208, 3) := dk_182 0 208 (dk_at dksX2_down_1 11 rfl rfl)
theorem dX2_down_38 : decode cX2_down 38 = .ok (.isub, 1) := dk_100 (dk_at dksX2_down_1 14 rfl rfl)
theorem dX2_down_39 : decode cX2_down 39 = .ok (.ireturn, 1) := dk_172 (dk_at dksX2_down_1 15 rfl rfl)
abbrev cX2_needX : ByteArray := prog_13_method_48_code
def yX2_needX : MethodName := ⟨RX2, "needX", "(II)I"⟩
def dkwX2_needX_1 : List UInt8 := [96, 172]
abbrev dktX2_needX_1 : List UInt8 := dkwX2_needX_1 ++ []
def dkwX2_needX_0 : List UInt8 := [5, 42, 27, 182, 0, 211, 104, 28, 154, 0, 11, 42, 27, 182, 0, 214, 167, 0, 8, 42, 27, 182, 0, 217]
abbrev dktX2_needX_0 : List UInt8 := dkwX2_needX_0 ++ dktX2_needX_1
theorem dksX2_needX_0 : cX2_needX.data.toList.drop 0 = dktX2_needX_0 := by decide +kernel
theorem dksX2_needX_1 : cX2_needX.data.toList.drop 24 = dktX2_needX_1 := dk_seg dksX2_needX_0 24 rfl rfl
theorem dX2_needX_0 : decode cX2_needX 0 = .ok (.iconst 2, 1) := dk_5 (dk_at dksX2_needX_0 0 rfl rfl)
theorem dX2_needX_1 : decode cX2_needX 1 = .ok (.aload_n 0, 1) := dk_42 (dk_at dksX2_needX_0 1 rfl rfl)
theorem dX2_needX_2 : decode cX2_needX 2 = .ok (.iload_n 1, 1) := dk_27 (dk_at dksX2_needX_0 2 rfl rfl)
theorem dX2_needX_3 : decode cX2_needX 3 = .ok (.invokevirtual 211, 3) := dk_182 0 211 (dk_at dksX2_needX_0 3 rfl rfl)
theorem dX2_needX_6 : decode cX2_needX 6 = .ok (.imul, 1) := dk_104 (dk_at dksX2_needX_0 6 rfl rfl)
theorem dX2_needX_7 : decode cX2_needX 7 = .ok (.iload_n 2, 1) := dk_28 (dk_at dksX2_needX_0 7 rfl rfl)
theorem dX2_needX_8 : decode cX2_needX 8 = .ok (.ifCond .ne 11, 3) := dk_154 0 11 (dk_at dksX2_needX_0 8 rfl rfl)
theorem dX2_needX_11 : decode cX2_needX 11 = .ok (.aload_n 0, 1) := dk_42 (dk_at dksX2_needX_0 11 rfl rfl)
theorem dX2_needX_12 : decode cX2_needX 12 = .ok (.iload_n 1, 1) := dk_27 (dk_at dksX2_needX_0 12 rfl rfl)
theorem dX2_needX_13 : decode cX2_needX 13 = .ok (.invokevirtual 214, 3) := dk_182 0 214 (dk_at dksX2_needX_0 13 rfl rfl)
theorem dX2_needX_16 : decode cX2_needX 16 = .ok (.goto 8, 3) := dk_167 0 8 (dk_at dksX2_needX_0 16 rfl rfl)
theorem dX2_needX_19 : decode cX2_needX 19 = .ok (.aload_n 0, 1) := dk_42 (dk_at dksX2_needX_0 19 rfl rfl)
theorem dX2_needX_20 : decode cX2_needX 20 = .ok (.iload_n 1, 1) := dk_27 (dk_at dksX2_needX_0 20 rfl rfl)
theorem dX2_needX_21 : decode cX2_needX 21 = .ok (.invokevirtual 217, 3) := dk_182 0 217 (dk_at dksX2_needX_0 21 rfl rfl)
theorem dX2_needX_24 : decode cX2_needX 24 = .ok (.iadd, 1) := dk_96 (dk_at dksX2_needX_1 0 rfl rfl)
theorem dX2_needX_25 : decode cX2_needX 25 = .ok (.ireturn, 1) := dk_172 (dk_at dksX2_needX_1 1 rfl rfl)
abbrev cX2_edge : ByteArray := prog_13_method_47_code
def yX2_edge : MethodName := ⟨RX2, "edge", "(I)I"⟩
def dkwX2_edge_0 : List UInt8 := [42, 180, 0, 176, 42, 27, 182, 0, 201, 5, 160, 0, 7, 4, 167, 0, 4, 3, 96, 172]
abbrev dktX2_edge_0 : List UInt8 := dkwX2_edge_0 ++ []
theorem dksX2_edge_0 : cX2_edge.data.toList.drop 0 = dktX2_edge_0 := by decide +kernel
theorem dX2_edge_0 : decode cX2_edge 0 = .ok (.aload_n 0, 1) := dk_42 (dk_at dksX2_edge_0 0 rfl rfl)
theorem dX2_edge_1 : decode cX2_edge 1 = .ok (.getfield 176, 3) := dk_180 0 176 (dk_at dksX2_edge_0 1 rfl rfl)
theorem dX2_edge_4 : decode cX2_edge 4 = .ok (.aload_n 0, 1) := dk_42 (dk_at dksX2_edge_0 4 rfl rfl)
theorem dX2_edge_5 : decode cX2_edge 5 = .ok (.iload_n 1, 1) := dk_27 (dk_at dksX2_edge_0 5 rfl rfl)
theorem dX2_edge_6 : decode cX2_edge 6 = .ok (.invokevirtual 201, 3) := dk_182 0 201 (dk_at dksX2_edge_0 6 rfl rfl)
theorem dX2_edge_9 : decode cX2_edge 9 = .ok (.iconst 2, 1) := dk_5 (dk_at dksX2_edge_0 9 rfl rfl)
theorem dX2_edge_10 : decode cX2_edge 10 = .ok (.if_icmp .ne 7, 3) := dk_160 0 7 (dk_at dksX2_edge_0 10 rfl rfl)
theorem dX2_edge_13 : decode cX2_edge 13 = .ok (.iconst 1, 1) := dk_4 (dk_at dksX2_edge_0 13 rfl rfl)
theorem dX2_edge_14 : decode cX2_edge 14 = .ok (.goto 4, 3) := dk_167 0 4 (dk_at dksX2_edge_0 14 rfl rfl)
theorem dX2_edge_17 : decode cX2_edge 17 = .ok (.iconst 0, 1) := dk_3 (dk_at dksX2_edge_0 17 rfl rfl)
theorem dX2_edge_18 : decode cX2_edge 18 = .ok (.iadd, 1) := dk_96 (dk_at dksX2_edge_0 18 rfl rfl)
theorem dX2_edge_19 : decode cX2_edge 19 = .ok (.ireturn, 1) := dk_172 (dk_at dksX2_edge_0 19 rfl rfl)
abbrev cX2_needY : ByteArray := prog_13_method_49_code
def yX2_needY : MethodName := ⟨RX2, "needY", "(II)I"⟩
def dkwX2_needY_0 : List UInt8 := [42, 27, 4, 28, 100, 182, 0, 220, 172]
abbrev dktX2_needY_0 : List UInt8 := dkwX2_needY_0 ++ []
theorem dksX2_needY_0 : cX2_needY.data.toList.drop 0 = dktX2_needY_0 := by decide +kernel
theorem dX2_needY_0 : decode cX2_needY 0 = .ok (.aload_n 0, 1) := dk_42 (dk_at dksX2_needY_0 0 rfl rfl)
theorem dX2_needY_1 : decode cX2_needY 1 = .ok (.iload_n 1, 1) := dk_27 (dk_at dksX2_needY_0 1 rfl rfl)
theorem dX2_needY_2 : decode cX2_needY 2 = .ok (.iconst 1, 1) := dk_4 (dk_at dksX2_needY_0 2 rfl rfl)
theorem dX2_needY_3 : decode cX2_needY 3 = .ok (.iload_n 2, 1) := dk_28 (dk_at dksX2_needY_0 3 rfl rfl)
theorem dX2_needY_4 : decode cX2_needY 4 = .ok (.isub, 1) := dk_100 (dk_at dksX2_needY_0 4 rfl rfl)
theorem dX2_needY_5 : decode cX2_needY 5 = .ok (.invokevirtual 220, 3) := dk_182 0 220 (dk_at dksX2_needY_0 5 rfl rfl)
theorem dX2_needY_8 : decode cX2_needY 8 = .ok (.ireturn, 1) := dk_172 (dk_at dksX2_needY_0 8 rfl rfl)
abbrev cX2_place : ByteArray := prog_13_method_54_code
def yX2_place : MethodName := ⟨RX2, "place", "(II)I"⟩
def dkwX2_place_1 : List UInt8 := [153, 0, 21, 42, 42, 180, 0, 35, 7, 27, 104, 28, 96, 46, 4, 182, 0, 91, 167, 0, 5, 16, 247, 172]
abbrev dktX2_place_1 : List UInt8 := dkwX2_place_1 ++ []
def dkwX2_place_0 : List UInt8 := [42, 27, 182, 0, 223, 153, 0, 12, 28, 3, 6, 184, 0, 75, 154, 0, 5, 2, 172, 42, 27, 182, 0, 232]
abbrev dktX2_place_0 : List UInt8 := dkwX2_place_0 ++ dktX2_place_1
theorem dksX2_place_0 : cX2_place.data.toList.drop 0 = dktX2_place_0 := by decide +kernel
theorem dksX2_place_1 : cX2_place.data.toList.drop 24 = dktX2_place_1 := dk_seg dksX2_place_0 24 rfl rfl
theorem dX2_place_0 : decode cX2_place 0 = .ok (.aload_n 0, 1) := dk_42 (dk_at dksX2_place_0 0 rfl rfl)
theorem dX2_place_1 : decode cX2_place 1 = .ok (.iload_n 1, 1) := dk_27 (dk_at dksX2_place_0 1 rfl rfl)
theorem dX2_place_2 : decode cX2_place 2 = .ok (.invokevirtual 223, 3) := dk_182 0 223 (dk_at dksX2_place_0 2 rfl rfl)
theorem dX2_place_5 : decode cX2_place 5 = .ok (.ifCond .eq 12, 3) := dk_153 0 12 (dk_at dksX2_place_0 5 rfl rfl)
theorem dX2_place_8 : decode cX2_place 8 = .ok (.iload_n 2, 1) := dk_28 (dk_at dksX2_place_0 8 rfl rfl)
theorem dX2_place_9 : decode cX2_place 9 = .ok (.iconst 0, 1) := dk_3 (dk_at dksX2_place_0 9 rfl rfl)
theorem dX2_place_10 : decode cX2_place 10 = .ok (.iconst 3, 1) := dk_6 (dk_at dksX2_place_0 10 rfl rfl)
theorem dX2_place_11 : decode cX2_place 11 = .ok (.invokestatic 75, 3) := dk_184 0 75 (dk_at dksX2_place_0 11 rfl rfl)
theorem dX2_place_14 : decode cX2_place 14 = .ok (.ifCond .ne 5, 3) := dk_154 0 5 (dk_at dksX2_place_0 14 rfl rfl)
theorem dX2_place_17 : decode cX2_place 17 = .ok (.iconst (-1), 1) := dk_2 (dk_at dksX2_place_0 17 rfl rfl)
theorem dX2_place_18 : decode cX2_place 18 = .ok (.ireturn, 1) := dk_172 (dk_at dksX2_place_0 18 rfl rfl)
theorem dX2_place_19 : decode cX2_place 19 = .ok (.aload_n 0, 1) := dk_42 (dk_at dksX2_place_0 19 rfl rfl)
theorem dX2_place_20 : decode cX2_place 20 = .ok (.iload_n 1, 1) := dk_27 (dk_at dksX2_place_0 20 rfl rfl)
theorem dX2_place_21 : decode cX2_place 21 = .ok (.invokevirtual 232, 3) := dk_182 0 232 (dk_at dksX2_place_0 21 rfl rfl)
theorem dX2_place_24 : decode cX2_place 24 = .ok (.ifCond .eq 21, 3) := dk_153 0 21 (dk_at dksX2_place_1 0 rfl rfl)
theorem dX2_place_27 : decode cX2_place 27 = .ok (.aload_n 0, 1) := dk_42 (dk_at dksX2_place_1 3 rfl rfl)
theorem dX2_place_28 : decode cX2_place 28 = .ok (.aload_n 0, 1) := dk_42 (dk_at dksX2_place_1 4 rfl rfl)
theorem dX2_place_29 : decode cX2_place 29 = .ok (.getfield 35, 3) := dk_180 0 35 (dk_at dksX2_place_1 5 rfl rfl)
theorem dX2_place_32 : decode cX2_place 32 = .ok (.iconst 4, 1) := dk_7 (dk_at dksX2_place_1 8 rfl rfl)
theorem dX2_place_33 : decode cX2_place 33 = .ok (.iload_n 1, 1) := dk_27 (dk_at dksX2_place_1 9 rfl rfl)
theorem dX2_place_34 : decode cX2_place 34 = .ok (.imul, 1) := dk_104 (dk_at dksX2_place_1 10 rfl rfl)
theorem dX2_place_35 : decode cX2_place 35 = .ok (.iload_n 2, 1) := dk_28 (dk_at dksX2_place_1 11 rfl rfl)
theorem dX2_place_36 : decode cX2_place 36 = .ok (.iadd, 1) := dk_96 (dk_at dksX2_place_1 12 rfl rfl)
theorem dX2_place_37 : decode cX2_place 37 = .ok (.iaload, 1) := dk_46 (dk_at dksX2_place_1 13 rfl rfl)
theorem dX2_place_38 : decode cX2_place 38 = .ok (.iconst 1, 1) := dk_4 (dk_at dksX2_place_1 14 rfl rfl)
theorem dX2_place_39 : decode cX2_place 39 = .ok (.invokevirtual 91, 3) := dk_182 0 91 (dk_at dksX2_place_1 15 rfl rfl)
theorem dX2_place_42 : decode cX2_place 42 = .ok (.goto 5, 3) := dk_167 0 5 (dk_at dksX2_place_1 18 rfl rfl)
theorem dX2_place_45 : decode cX2_place 45 = .ok (.bipush (-9), 2) := dk_16 247 (dk_at dksX2_place_1 21 rfl rfl)
theorem dX2_place_47 : decode cX2_place 47 = .ok (.ireturn, 1) := dk_172 (dk_at dksX2_place_1 23 rfl rfl)
abbrev cX2_isSet : ByteArray := prog_13_method_50_code
def yX2_isSet : MethodName := ⟨RX2, "isSet", "(I)Z"⟩
def dkwX2_isSet_0 : List UInt8 := [42, 180, 0, 35, 7, 27, 104, 3, 96, 46, 155, 0, 7, 4, 167, 0, 4, 3, 172]
abbrev dktX2_isSet_0 : List UInt8 := dkwX2_isSet_0 ++ []
theorem dksX2_isSet_0 : cX2_isSet.data.toList.drop 0 = dktX2_isSet_0 := by decide +kernel
theorem dX2_isSet_0 : decode cX2_isSet 0 = .ok (.aload_n 0, 1) := dk_42 (dk_at dksX2_isSet_0 0 rfl rfl)
theorem dX2_isSet_1 : decode cX2_isSet 1 = .ok (.getfield 35, 3) := dk_180 0 35 (dk_at dksX2_isSet_0 1 rfl rfl)
theorem dX2_isSet_4 : decode cX2_isSet 4 = .ok (.iconst 4, 1) := dk_7 (dk_at dksX2_isSet_0 4 rfl rfl)
theorem dX2_isSet_5 : decode cX2_isSet 5 = .ok (.iload_n 1, 1) := dk_27 (dk_at dksX2_isSet_0 5 rfl rfl)
theorem dX2_isSet_6 : decode cX2_isSet 6 = .ok (.imul, 1) := dk_104 (dk_at dksX2_isSet_0 6 rfl rfl)
theorem dX2_isSet_7 : decode cX2_isSet 7 = .ok (.iconst 0, 1) := dk_3 (dk_at dksX2_isSet_0 7 rfl rfl)
theorem dX2_isSet_8 : decode cX2_isSet 8 = .ok (.iadd, 1) := dk_96 (dk_at dksX2_isSet_0 8 rfl rfl)
theorem dX2_isSet_9 : decode cX2_isSet 9 = .ok (.iaload, 1) := dk_46 (dk_at dksX2_isSet_0 9 rfl rfl)
theorem dX2_isSet_10 : decode cX2_isSet 10 = .ok (.ifCond .lt 7, 3) := dk_155 0 7 (dk_at dksX2_isSet_0 10 rfl rfl)
theorem dX2_isSet_13 : decode cX2_isSet 13 = .ok (.iconst 1, 1) := dk_4 (dk_at dksX2_isSet_0 13 rfl rfl)
theorem dX2_isSet_14 : decode cX2_isSet 14 = .ok (.goto 4, 3) := dk_167 0 4 (dk_at dksX2_isSet_0 14 rfl rfl)
theorem dX2_isSet_17 : decode cX2_isSet 17 = .ok (.iconst 0, 1) := dk_3 (dk_at dksX2_isSet_0 17 rfl rfl)
theorem dX2_isSet_18 : decode cX2_isSet 18 = .ok (.ireturn, 1) := dk_172 (dk_at dksX2_isSet_0 18 rfl rfl)
abbrev cX2_mark : ByteArray := prog_13_method_55_code
def yX2_mark : MethodName := ⟨RX2, "mark", "(II)I"⟩
def dkwX2_mark_6 : List UInt8 := [42, 27, 5, 182, 0, 208, 42, 27, 7, 182, 0, 208, 100, 42, 27, 16, 6, 182, 0, 208, 100, 104, 100, 172]
abbrev dktX2_mark_6 : List UInt8 := dkwX2_mark_6 ++ []
def dkwX2_mark_5 : List UInt8 := [182, 0, 208, 104, 42, 27, 4, 182, 0, 208, 42, 27, 6, 182, 0, 208, 100, 42, 27, 8, 182, 0, 208, 100]
abbrev dktX2_mark_5 : List UInt8 := dkwX2_mark_5 ++ dktX2_mark_6
def dkwX2_mark_4 : List UInt8 := [42, 27, 182, 0, 214, 42, 27, 182, 0, 217, 104, 100, 167, 0, 59, 42, 27, 4, 182, 0, 208, 42, 27, 5]
abbrev dktX2_mark_4 : List UInt8 := dkwX2_mark_4 ++ dktX2_mark_5
def dkwX2_mark_3 : List UInt8 := [167, 0, 5, 21, 4, 172, 28, 5, 160, 0, 31, 42, 27, 3, 182, 0, 220, 42, 27, 3, 182, 0, 229, 104]
abbrev dktX2_mark_3 : List UInt8 := dkwX2_mark_3 ++ dktX2_mark_4
def dkwX2_mark_2 : List UInt8 := [160, 0, 30, 42, 27, 182, 0, 214, 42, 27, 182, 0, 217, 100, 54, 4, 21, 4, 156, 0, 9, 21, 4, 116]
abbrev dktX2_mark_2 : List UInt8 := dkwX2_mark_2 ++ dktX2_mark_3
def dkwX2_mark_1 : List UInt8 := [62, 29, 28, 159, 0, 19, 29, 6, 160, 0, 8, 28, 4, 159, 0, 9, 42, 6, 182, 0, 83, 172, 28, 4]
abbrev dktX2_mark_1 : List UInt8 := dkwX2_mark_1 ++ dktX2_mark_2
def dkwX2_mark_0 : List UInt8 := [42, 27, 182, 0, 223, 153, 0, 12, 28, 4, 6, 184, 0, 75, 154, 0, 5, 2, 172, 42, 27, 182, 0, 201]
abbrev dktX2_mark_0 : List UInt8 := dkwX2_mark_0 ++ dktX2_mark_1
theorem dksX2_mark_0 : cX2_mark.data.toList.drop 0 = dktX2_mark_0 := by decide +kernel
theorem dksX2_mark_1 : cX2_mark.data.toList.drop 24 = dktX2_mark_1 := dk_seg dksX2_mark_0 24 rfl rfl
theorem dksX2_mark_2 : cX2_mark.data.toList.drop 48 = dktX2_mark_2 := dk_seg dksX2_mark_1 24 rfl rfl
theorem dksX2_mark_3 : cX2_mark.data.toList.drop 72 = dktX2_mark_3 := dk_seg dksX2_mark_2 24 rfl rfl
theorem dksX2_mark_4 : cX2_mark.data.toList.drop 96 = dktX2_mark_4 := dk_seg dksX2_mark_3 24 rfl rfl
theorem dksX2_mark_5 : cX2_mark.data.toList.drop 120 = dktX2_mark_5 := dk_seg dksX2_mark_4 24 rfl rfl
theorem dksX2_mark_6 : cX2_mark.data.toList.drop 144 = dktX2_mark_6 := dk_seg dksX2_mark_5 24 rfl rfl
theorem dX2_mark_0 : decode cX2_mark 0 = .ok (.aload_n 0, 1) := dk_42 (dk_at dksX2_mark_0 0 rfl rfl)
theorem dX2_mark_1 : decode cX2_mark 1 = .ok (.iload_n 1, 1) := dk_27 (dk_at dksX2_mark_0 1 rfl rfl)
theorem dX2_mark_2 : decode cX2_mark 2 = .ok (.invokevirtual 223, 3) := dk_182 0 223 (dk_at dksX2_mark_0 2 rfl rfl)
theorem dX2_mark_5 : decode cX2_mark 5 = .ok (.ifCond .eq 12, 3) := dk_153 0 12 (dk_at dksX2_mark_0 5 rfl rfl)
theorem dX2_mark_8 : decode cX2_mark 8 = .ok (.iload_n 2, 1) := dk_28 (dk_at dksX2_mark_0 8 rfl rfl)
theorem dX2_mark_9 : decode cX2_mark 9 = .ok (.iconst 1, 1) := dk_4 (dk_at dksX2_mark_0 9 rfl rfl)
theorem dX2_mark_10 : decode cX2_mark 10 = .ok (.iconst 3, 1) := dk_6 (dk_at dksX2_mark_0 10 rfl rfl)
theorem dX2_mark_11 : decode cX2_mark 11 = .ok (.invokestatic 75, 3) := dk_184 0 75 (dk_at dksX2_mark_0 11 rfl rfl)
theorem dX2_mark_14 : decode cX2_mark 14 = .ok (.ifCond .ne 5, 3) := dk_154 0 5 (dk_at dksX2_mark_0 14 rfl rfl)
theorem dX2_mark_17 : decode cX2_mark 17 = .ok (.iconst (-1), 1) := dk_2 (dk_at dksX2_mark_0 17 rfl rfl)
theorem dX2_mark_18 : decode cX2_mark 18 = .ok (.ireturn, 1) := dk_172 (dk_at dksX2_mark_0 18 rfl rfl)
theorem dX2_mark_19 : decode cX2_mark 19 = .ok (.aload_n 0, 1) := dk_42 (dk_at dksX2_mark_0 19 rfl rfl)
theorem dX2_mark_20 : decode cX2_mark 20 = .ok (.iload_n 1, 1) := dk_27 (dk_at dksX2_mark_0 20 rfl rfl)
theorem dX2_mark_21 : decode cX2_mark 21 = .ok (.invokevirtual 201, 3) := dk_182 0 201 (dk_at dksX2_mark_0 21 rfl rfl)
theorem dX2_mark_24 : decode cX2_mark 24 = .ok (.istore_n 3, 1) := dk_62 (dk_at dksX2_mark_1 0 rfl rfl)
theorem dX2_mark_25 : decode cX2_mark 25 = .ok (.iload_n 3, 1) := dk_29 (dk_at dksX2_mark_1 1 rfl rfl)
theorem dX2_mark_26 : decode cX2_mark 26 = .ok (.iload_n 2, 1) := dk_28 (dk_at dksX2_mark_1 2 rfl rfl)
theorem dX2_mark_27 : decode cX2_mark 27 = .ok (.if_icmp .eq 19, 3) := dk_159 0 19 (dk_at dksX2_mark_1 3 rfl rfl)
theorem dX2_mark_30 : decode cX2_mark 30 = .ok (.iload_n 3, 1) := dk_29 (dk_at dksX2_mark_1 6 rfl rfl)
theorem dX2_mark_31 : decode cX2_mark 31 = .ok (.iconst 3, 1) := dk_6 (dk_at dksX2_mark_1 7 rfl rfl)
theorem dX2_mark_32 : decode cX2_mark 32 = .ok (.if_icmp .ne 8, 3) := dk_160 0 8 (dk_at dksX2_mark_1 8 rfl rfl)
theorem dX2_mark_35 : decode cX2_mark 35 = .ok (.iload_n 2, 1) := dk_28 (dk_at dksX2_mark_1 11 rfl rfl)
theorem dX2_mark_36 : decode cX2_mark 36 = .ok (.iconst 1, 1) := dk_4 (dk_at dksX2_mark_1 12 rfl rfl)
theorem dX2_mark_37 : decode cX2_mark 37 = .ok (.if_icmp .eq 9, 3) := dk_159 0 9 (dk_at dksX2_mark_1 13 rfl rfl)
theorem dX2_mark_40 : decode cX2_mark 40 = .ok (.aload_n 0, 1) := dk_42 (dk_at dksX2_mark_1 16 rfl rfl)
theorem dX2_mark_41 : decode cX2_mark 41 = .ok (.iconst 3, 1) := dk_6 (dk_at dksX2_mark_1 17 rfl rfl)
theorem dX2_mark_42 : decode cX2_mark 42 = .ok (.invokevirtual 83, 3) := dk_182 0 83 (dk_at dksX2_mark_1 18 rfl rfl)
theorem dX2_mark_45 : decode cX2_mark 45 = .ok (.ireturn, 1) := dk_172 (dk_at dksX2_mark_1 21 rfl rfl)
theorem dX2_mark_46 : decode cX2_mark 46 = .ok (.iload_n 2, 1) := dk_28 (dk_at dksX2_mark_1 22 rfl rfl)
theorem dX2_mark_47 : decode cX2_mark 47 = .ok (.iconst 1, 1) := dk_4 (dk_at dksX2_mark_1 23 rfl rfl)
theorem dX2_mark_48 : decode cX2_mark 48 = .ok (.if_icmp .ne 30, 3) := dk_160 0 30 (dk_at dksX2_mark_2 0 rfl rfl)
theorem dX2_mark_51 : decode cX2_mark 51 = .ok (.aload_n 0, 1) := dk_42 (dk_at dksX2_mark_2 3 rfl rfl)
theorem dX2_mark_52 : decode cX2_mark 52 = .ok (.iload_n 1, 1) := dk_27 (dk_at dksX2_mark_2 4 rfl rfl)
theorem dX2_mark_53 : decode cX2_mark 53 = .ok (.invokevirtual 214, 3) := dk_182 0 214 (dk_at dksX2_mark_2 5 rfl rfl)
theorem dX2_mark_56 : decode cX2_mark 56 = .ok (.aload_n 0, 1) := dk_42 (dk_at dksX2_mark_2 8 rfl rfl)
theorem dX2_mark_57 : decode cX2_mark 57 = .ok (.iload_n 1, 1) := dk_27 (dk_at dksX2_mark_2 9 rfl rfl)
theorem dX2_mark_58 : decode cX2_mark 58 = .ok (.invokevirtual 217, 3) := dk_182 0 217 (dk_at dksX2_mark_2 10 rfl rfl)
theorem dX2_mark_61 : decode cX2_mark 61 = .ok (.isub, 1) := dk_100 (dk_at dksX2_mark_2 13 rfl rfl)
theorem dX2_mark_62 : decode cX2_mark 62 = .ok (.istore 4, 2) := dk_54 4 (dk_at dksX2_mark_2 14 rfl rfl)
theorem dX2_mark_64 : decode cX2_mark 64 = .ok (.iload 4, 2) := dk_21 4 (dk_at dksX2_mark_2 16 rfl rfl)
theorem dX2_mark_66 : decode cX2_mark 66 = .ok (.ifCond .ge 9, 3) := dk_156 0 9 (dk_at dksX2_mark_2 18 rfl rfl)
theorem dX2_mark_69 : decode cX2_mark 69 = .ok (.iload 4, 2) := dk_21 4 (dk_at dksX2_mark_2 21 rfl rfl)
theorem dX2_mark_71 : decode cX2_mark 71 = .ok (.ineg, 1) := dk_116 (dk_at dksX2_mark_2 23 rfl rfl)
theorem dX2_mark_72 : decode cX2_mark 72 = .ok (.goto 5, 3) := dk_167 0 5 (dk_at dksX2_mark_3 0 rfl rfl)
theorem dX2_mark_75 : decode cX2_mark 75 = .ok (.iload 4, 2) := dk_21 4 (dk_at dksX2_mark_3 3 rfl rfl)
theorem dX2_mark_77 : decode cX2_mark 77 = .ok (.ireturn, 1) := dk_172 (dk_at dksX2_mark_3 5 rfl rfl)
theorem dX2_mark_78 : decode cX2_mark 78 = .ok (.iload_n 2, 1) := dk_28 (dk_at dksX2_mark_3 6 rfl rfl)
theorem dX2_mark_79 : decode cX2_mark 79 = .ok (.iconst 2, 1) := dk_5 (dk_at dksX2_mark_3 7 rfl rfl)
theorem dX2_mark_80 : decode cX2_mark 80 = .ok (.if_icmp .ne 31, 3) := dk_160 0 31 (dk_at dksX2_mark_3 8 rfl rfl)
theorem dX2_mark_83 : decode cX2_mark 83 = .ok (.aload_n 0, 1) := dk_42 (dk_at dksX2_mark_3 11 rfl rfl)
theorem dX2_mark_84 : decode cX2_mark 84 = .ok (.iload_n 1, 1) := dk_27 (dk_at dksX2_mark_3 12 rfl rfl)
theorem dX2_mark_85 : decode cX2_mark 85 = .ok (.iconst 0, 1) := dk_3 (dk_at dksX2_mark_3 13 rfl rfl)
theorem dX2_mark_86 : decode cX2_mark 86 = .ok (.invokevirtual 220, 3) := dk_182 0 220 (dk_at dksX2_mark_3 14 rfl rfl)
theorem dX2_mark_89 : decode cX2_mark 89 = .ok (.aload_n 0, 1) := dk_42 (dk_at dksX2_mark_3 17 rfl rfl)
theorem dX2_mark_90 : decode cX2_mark 90 = .ok (.iload_n 1, 1) := dk_27 (dk_at dksX2_mark_3 18 rfl rfl)
theorem dX2_mark_91 : decode cX2_mark 91 = .ok (.iconst 0, 1) := dk_3 (dk_at dksX2_mark_3 19 rfl rfl)
theorem dX2_mark_92 : decode cX2_mark 92 = .ok (.invokevirtual 229, 3) := dk_182 0 229 (dk_at dksX2_mark_3 20 rfl rfl)
theorem dX2_mark_95 : decode cX2_mark 95 = .ok (.imul, 1) := dk_104 (dk_at dksX2_mark_3 23 rfl rfl)
theorem dX2_mark_96 : decode cX2_mark 96 = .ok (.aload_n 0, 1) := dk_42 (dk_at dksX2_mark_4 0 rfl rfl)
theorem dX2_mark_97 : decode cX2_mark 97 = .ok (.iload_n 1, 1) := dk_27 (dk_at dksX2_mark_4 1 rfl rfl)
theorem dX2_mark_98 : decode cX2_mark 98 = .ok (.invokevirtual 214, 3) := dk_182 0 214 (dk_at dksX2_mark_4 2 rfl rfl)
theorem dX2_mark_101 : decode cX2_mark 101 = .ok (.aload_n 0, 1) := dk_42 (dk_at dksX2_mark_4 5 rfl rfl)
theorem dX2_mark_102 : decode cX2_mark 102 = .ok (.iload_n 1, 1) := dk_27 (dk_at dksX2_mark_4 6 rfl rfl)
theorem dX2_mark_103 : decode cX2_mark 103 = .ok (.invokevirtual 217, 3) := dk_182 0 217 (dk_at dksX2_mark_4 7 rfl rfl)
theorem dX2_mark_106 : decode cX2_mark 106 = .ok (.imul, 1) := dk_104 (dk_at dksX2_mark_4 10 rfl rfl)
theorem dX2_mark_107 : decode cX2_mark 107 = .ok (.isub, 1) := dk_100 (dk_at dksX2_mark_4 11 rfl rfl)
theorem dX2_mark_108 : decode cX2_mark 108 = .ok (.goto 59, 3) := dk_167 0 59 (dk_at dksX2_mark_4 12 rfl rfl)
theorem dX2_mark_111 : decode cX2_mark 111 = .ok (.aload_n 0, 1) := dk_42 (dk_at dksX2_mark_4 15 rfl rfl)
theorem dX2_mark_112 : decode cX2_mark 112 = .ok (.iload_n 1, 1) := dk_27 (dk_at dksX2_mark_4 16 rfl rfl)
theorem dX2_mark_113 : decode cX2_mark 113 = .ok (.iconst 1, 1) := dk_4 (dk_at dksX2_mark_4 17 rfl rfl)
theorem dX2_mark_114 : decode cX2_mark 114 = .ok (.invokevirtual 208, 3) := dk_182 0 208 (dk_at dksX2_mark_4 18 rfl rfl)
theorem dX2_mark_117 : decode cX2_mark 117 = .ok (.aload_n 0, 1) := dk_42 (dk_at dksX2_mark_4 21 rfl rfl)
theorem dX2_mark_118 : decode cX2_mark 118 = .ok (.iload_n 1, 1) := dk_27 (dk_at dksX2_mark_4 22 rfl rfl)
theorem dX2_mark_119 : decode cX2_mark 119 = .ok (.iconst 2, 1) := dk_5 (dk_at dksX2_mark_4 23 rfl rfl)
theorem dX2_mark_120 : decode cX2_mark 120 = .ok (.invokevirtual 208, 3) := dk_182 0 208 (dk_at dksX2_mark_5 0 rfl rfl)
theorem dX2_mark_123 : decode cX2_mark 123 = .ok (.imul, 1) := dk_104 (dk_at dksX2_mark_5 3 rfl rfl)
theorem dX2_mark_124 : decode cX2_mark 124 = .ok (.aload_n 0, 1) := dk_42 (dk_at dksX2_mark_5 4 rfl rfl)
theorem dX2_mark_125 : decode cX2_mark 125 = .ok (.iload_n 1, 1) := dk_27 (dk_at dksX2_mark_5 5 rfl rfl)
theorem dX2_mark_126 : decode cX2_mark 126 = .ok (.iconst 1, 1) := dk_4 (dk_at dksX2_mark_5 6 rfl rfl)
theorem dX2_mark_127 : decode cX2_mark 127 = .ok (.invokevirtual 208, 3) := dk_182 0 208 (dk_at dksX2_mark_5 7 rfl rfl)
theorem dX2_mark_130 : decode cX2_mark 130 = .ok (.aload_n 0, 1) := dk_42 (dk_at dksX2_mark_5 10 rfl rfl)
theorem dX2_mark_131 : decode cX2_mark 131 = .ok (.iload_n 1, 1) := dk_27 (dk_at dksX2_mark_5 11 rfl rfl)
theorem dX2_mark_132 : decode cX2_mark 132 = .ok (.iconst 3, 1) := dk_6 (dk_at dksX2_mark_5 12 rfl rfl)
theorem dX2_mark_133 : decode cX2_mark 133 = .ok (.invokevirtual 208, 3) := dk_182 0 208 (dk_at dksX2_mark_5 13 rfl rfl)
theorem dX2_mark_136 : decode cX2_mark 136 = .ok (.isub, 1) := dk_100 (dk_at dksX2_mark_5 16 rfl rfl)
theorem dX2_mark_137 : decode cX2_mark 137 = .ok (.aload_n 0, 1) := dk_42 (dk_at dksX2_mark_5 17 rfl rfl)
theorem dX2_mark_138 : decode cX2_mark 138 = .ok (.iload_n 1, 1) := dk_27 (dk_at dksX2_mark_5 18 rfl rfl)
theorem dX2_mark_139 : decode cX2_mark 139 = .ok (.iconst 5, 1) := dk_8 (dk_at dksX2_mark_5 19 rfl rfl)
theorem dX2_mark_140 : decode cX2_mark 140 = .ok (.invokevirtual 208, 3) := dk_182 0 208 (dk_at dksX2_mark_5 20 rfl rfl)
theorem dX2_mark_143 : decode cX2_mark 143 = .ok (.isub, 1) := dk_100 (dk_at dksX2_mark_5 23 rfl rfl)
theorem dX2_mark_144 : decode cX2_mark 144 = .ok (.aload_n 0, 1) := dk_42 (dk_at dksX2_mark_6 0 rfl rfl)
theorem dX2_mark_145 : decode cX2_mark 145 = .ok (.iload_n 1, 1) := dk_27 (dk_at dksX2_mark_6 1 rfl rfl)
theorem dX2_mark_146 : decode cX2_mark 146 = .ok (.iconst 2, 1) := dk_5 (dk_at dksX2_mark_6 2 rfl rfl)
theorem dX2_mark_147 : decode cX2_mark 147 = .ok (.invokevirtual 208, 3) := dk_182 0 208 (dk_at dksX2_mark_6 3 rfl rfl)
theorem dX2_mark_150 : decode cX2_mark 150 = .ok (.aload_n 0, 1) := dk_42 (dk_at dksX2_mark_6 6 rfl rfl)
theorem dX2_mark_151 : decode cX2_mark 151 = .ok (.iload_n 1, 1) := dk_27 (dk_at dksX2_mark_6 7 rfl rfl)
theorem dX2_mark_152 : decode cX2_mark 152 = .ok (.iconst 4, 1) := dk_7 (dk_at dksX2_mark_6 8 rfl rfl)
theorem dX2_mark_153 : decode cX2_mark 153 = .ok (.invokevirtual 208, 3) := dk_182 0 208 (dk_at dksX2_mark_6 9 rfl rfl)
theorem dX2_mark_156 : decode cX2_mark 156 = .ok (.isub, 1) := dk_100 (dk_at dksX2_mark_6 12 rfl rfl)
theorem dX2_mark_157 : decode cX2_mark 157 = .ok (.aload_n 0, 1) := dk_42 (dk_at dksX2_mark_6 13 rfl rfl)
theorem dX2_mark_158 : decode cX2_mark 158 = .ok (.iload_n 1, 1) := dk_27 (dk_at dksX2_mark_6 14 rfl rfl)
theorem dX2_mark_159 : decode cX2_mark 159 = .ok (.bipush 6, 2) := dk_16 6 (dk_at dksX2_mark_6 15 rfl rfl)
theorem dX2_mark_161 : decode cX2_mark 161 = .ok (.invokevirtual 208, 3) := dk_182 0 208 (dk_at dksX2_mark_6 17 rfl rfl)
theorem dX2_mark_164 : decode cX2_mark 164 = .ok (.isub, 1) := dk_100 (dk_at dksX2_mark_6 20 rfl rfl)
theorem dX2_mark_165 : decode cX2_mark 165 = .ok (.imul, 1) := dk_104 (dk_at dksX2_mark_6 21 rfl rfl)
theorem dX2_mark_166 : decode cX2_mark 166 = .ok (.isub, 1) := dk_100 (dk_at dksX2_mark_6 22 rfl rfl)
theorem dX2_mark_167 : decode cX2_mark 167 = .ok (.ireturn, 1) := dk_172 (dk_at dksX2_mark_6 23 rfl rfl)
abbrev cX2_undo : ByteArray := prog_13_method_71_code
def yX2_undo : MethodName := ⟨RX2, "undo", "(I)I"⟩
def dkwX2_undo_2 : List UInt8 := [46, 79, 132, 3, 1, 167, 255, 226, 42, 27, 181, 0, 185, 28, 172]
abbrev dktX2_undo_2 : List UInt8 := dkwX2_undo_2 ++ []
def dkwX2_undo_1 : List UInt8 := [16, 33, 162, 0, 30, 28, 158, 0, 26, 42, 180, 0, 35, 29, 42, 180, 0, 56, 16, 33, 27, 104, 29, 96]
abbrev dktX2_undo_1 : List UInt8 := dkwX2_undo_1 ++ dktX2_undo_2
def dkwX2_undo_0 : List UInt8 := [27, 3, 42, 180, 0, 185, 184, 0, 75, 154, 0, 5, 2, 172, 42, 180, 0, 185, 27, 100, 61, 3, 62, 29]
abbrev dktX2_undo_0 : List UInt8 := dkwX2_undo_0 ++ dktX2_undo_1
theorem dksX2_undo_0 : cX2_undo.data.toList.drop 0 = dktX2_undo_0 := by decide +kernel
theorem dksX2_undo_1 : cX2_undo.data.toList.drop 24 = dktX2_undo_1 := dk_seg dksX2_undo_0 24 rfl rfl
theorem dksX2_undo_2 : cX2_undo.data.toList.drop 48 = dktX2_undo_2 := dk_seg dksX2_undo_1 24 rfl rfl
theorem dX2_undo_0 : decode cX2_undo 0 = .ok (.iload_n 1, 1) := dk_27 (dk_at dksX2_undo_0 0 rfl rfl)
theorem dX2_undo_1 : decode cX2_undo 1 = .ok (.iconst 0, 1) := dk_3 (dk_at dksX2_undo_0 1 rfl rfl)
theorem dX2_undo_2 : decode cX2_undo 2 = .ok (.aload_n 0, 1) := dk_42 (dk_at dksX2_undo_0 2 rfl rfl)
theorem dX2_undo_3 : decode cX2_undo 3 = .ok (.getfield 185, 3) := dk_180 0 185 (dk_at dksX2_undo_0 3 rfl rfl)
theorem dX2_undo_6 : decode cX2_undo 6 = .ok (.invokestatic 75, 3) := dk_184 0 75 (dk_at dksX2_undo_0 6 rfl rfl)
theorem dX2_undo_9 : decode cX2_undo 9 = .ok (.ifCond .ne 5, 3) := dk_154 0 5 (dk_at dksX2_undo_0 9 rfl rfl)
theorem dX2_undo_12 : decode cX2_undo 12 = .ok (.iconst (-1), 1) := dk_2 (dk_at dksX2_undo_0 12 rfl rfl)
theorem dX2_undo_13 : decode cX2_undo 13 = .ok (.ireturn, 1) := dk_172 (dk_at dksX2_undo_0 13 rfl rfl)
theorem dX2_undo_14 : decode cX2_undo 14 = .ok (.aload_n 0, 1) := dk_42 (dk_at dksX2_undo_0 14 rfl rfl)
theorem dX2_undo_15 : decode cX2_undo 15 = .ok (.getfield 185, 3) := dk_180 0 185 (dk_at dksX2_undo_0 15 rfl rfl)
theorem dX2_undo_18 : decode cX2_undo 18 = .ok (.iload_n 1, 1) := dk_27 (dk_at dksX2_undo_0 18 rfl rfl)
theorem dX2_undo_19 : decode cX2_undo 19 = .ok (.isub, 1) := dk_100 (dk_at dksX2_undo_0 19 rfl rfl)
theorem dX2_undo_20 : decode cX2_undo 20 = .ok (.istore_n 2, 1) := dk_61 (dk_at dksX2_undo_0 20 rfl rfl)
theorem dX2_undo_21 : decode cX2_undo 21 = .ok (.iconst 0, 1) := dk_3 (dk_at dksX2_undo_0 21 rfl rfl)
theorem dX2_undo_22 : decode cX2_undo 22 = .ok (.istore_n 3, 1) := dk_62 (dk_at dksX2_undo_0 22 rfl rfl)
theorem dX2_undo_23 : decode cX2_undo 23 = .ok (.iload_n 3, 1) := dk_29 (dk_at dksX2_undo_0 23 rfl rfl)
theorem dX2_undo_24 : decode cX2_undo 24 = .ok (.bipush 33, 2) := dk_16 33 (dk_at dksX2_undo_1 0 rfl rfl)
theorem dX2_undo_26 : decode cX2_undo 26 = .ok (.if_icmp .ge 30, 3) := dk_162 0 30 (dk_at dksX2_undo_1 2 rfl rfl)
theorem dX2_undo_29 : decode cX2_undo 29 = .ok (.iload_n 2, 1) := dk_28 (dk_at dksX2_undo_1 5 rfl rfl)
theorem dX2_undo_30 : decode cX2_undo 30 = .ok (.ifCond .le 26, 3) := dk_158 0 26 (dk_at dksX2_undo_1 6 rfl rfl)
theorem dX2_undo_33 : decode cX2_undo 33 = .ok (.aload_n 0, 1) := dk_42 (dk_at dksX2_undo_1 9 rfl rfl)
theorem dX2_undo_34 : decode cX2_undo 34 = .ok (.getfield 35, 3) := dk_180 0 35 (dk_at dksX2_undo_1 10 rfl rfl)
theorem dX2_undo_37 : decode cX2_undo 37 = .ok (.iload_n 3, 1) := dk_29 (dk_at dksX2_undo_1 13 rfl rfl)
theorem dX2_undo_38 : decode cX2_undo 38 = .ok (.aload_n 0, 1) := dk_42 (dk_at dksX2_undo_1 14 rfl rfl)
theorem dX2_undo_39 : decode cX2_undo 39 = .ok (.getfield 56, 3) := dk_180 0 56 (dk_at dksX2_undo_1 15 rfl rfl)
theorem dX2_undo_42 : decode cX2_undo 42 = .ok (.bipush 33, 2) := dk_16 33 (dk_at dksX2_undo_1 18 rfl rfl)
theorem dX2_undo_44 : decode cX2_undo 44 = .ok (.iload_n 1, 1) := dk_27 (dk_at dksX2_undo_1 20 rfl rfl)
theorem dX2_undo_45 : decode cX2_undo 45 = .ok (.imul, 1) := dk_104 (dk_at dksX2_undo_1 21 rfl rfl)
theorem dX2_undo_46 : decode cX2_undo 46 = .ok (.iload_n 3, 1) := dk_29 (dk_at dksX2_undo_1 22 rfl rfl)
theorem dX2_undo_47 : decode cX2_undo 47 = .ok (.iadd, 1) := dk_96 (dk_at dksX2_undo_1 23 rfl rfl)
theorem dX2_undo_48 : decode cX2_undo 48 = .ok (.iaload, 1) := dk_46 (dk_at dksX2_undo_2 0 rfl rfl)
theorem dX2_undo_49 : decode cX2_undo 49 = .ok (.iastore, 1) := dk_79 (dk_at dksX2_undo_2 1 rfl rfl)
theorem dX2_undo_50 : decode cX2_undo 50 = .ok (.iinc 3 1, 3) := dk_132 3 1 (dk_at dksX2_undo_2 2 rfl rfl)
theorem dX2_undo_53 : decode cX2_undo 53 = .ok (.goto (-30), 3) := dk_167 255 226 (dk_at dksX2_undo_2 5 rfl rfl)
theorem dX2_undo_56 : decode cX2_undo 56 = .ok (.aload_n 0, 1) := dk_42 (dk_at dksX2_undo_2 8 rfl rfl)
theorem dX2_undo_57 : decode cX2_undo 57 = .ok (.iload_n 1, 1) := dk_27 (dk_at dksX2_undo_2 9 rfl rfl)
theorem dX2_undo_58 : decode cX2_undo 58 = .ok (.putfield 185, 3) := dk_181 0 185 (dk_at dksX2_undo_2 10 rfl rfl)
theorem dX2_undo_61 : decode cX2_undo 61 = .ok (.iload_n 2, 1) := dk_28 (dk_at dksX2_undo_2 13 rfl rfl)
theorem dX2_undo_62 : decode cX2_undo 62 = .ok (.ireturn, 1) := dk_172 (dk_at dksX2_undo_2 14 rfl rfl)
abbrev cX2_keep : ByteArray := prog_13_method_72_code
def yX2_keep : MethodName := ⟨RX2, "keep", "(I)I"⟩
def dkwX2_keep_4 : List UInt8 := [180, 0, 56, 28, 46, 79, 132, 2, 1, 167, 255, 221, 42, 180, 0, 185, 172]
abbrev dktX2_keep_4 : List UInt8 := dkwX2_keep_4 ++ []
def dkwX2_keep_3 : List UInt8 := [180, 0, 185, 104, 162, 0, 30, 42, 180, 0, 62, 17, 5, 73, 27, 104, 16, 33, 96, 28, 96, 42]
abbrev dktX2_keep_3 : List UInt8 := dkwX2_keep_3 ++ dktX2_keep_4
def dkwX2_keep_2 : List UInt8 := [27, 104, 28, 96, 42, 180, 0, 35, 28, 46, 79, 132, 2, 1, 167, 255, 229, 3, 61, 28, 16, 33, 42]
abbrev dktX2_keep_2 : List UInt8 := dkwX2_keep_2 ++ dktX2_keep_3
def dkwX2_keep_1 : List UInt8 := [180, 0, 59, 27, 42, 180, 0, 185, 79, 3, 61, 28, 16, 33, 162, 0, 27, 42, 180, 0, 62, 17, 5, 73]
abbrev dktX2_keep_1 : List UInt8 := dkwX2_keep_1 ++ dktX2_keep_2
def dkwX2_keep_0 : List UInt8 := [27, 3, 5, 184, 0, 75, 154, 0, 5, 2, 172, 42, 180, 0, 179, 154, 0, 6, 16, 252, 172, 42]
abbrev dktX2_keep_0 : List UInt8 := dkwX2_keep_0 ++ dktX2_keep_1
theorem dksX2_keep_0 : cX2_keep.data.toList.drop 0 = dktX2_keep_0 := by decide +kernel
theorem dksX2_keep_1 : cX2_keep.data.toList.drop 22 = dktX2_keep_1 := dk_seg dksX2_keep_0 22 rfl rfl
theorem dksX2_keep_2 : cX2_keep.data.toList.drop 46 = dktX2_keep_2 := dk_seg dksX2_keep_1 24 rfl rfl
theorem dksX2_keep_3 : cX2_keep.data.toList.drop 69 = dktX2_keep_3 := dk_seg dksX2_keep_2 23 rfl rfl
theorem dksX2_keep_4 : cX2_keep.data.toList.drop 91 = dktX2_keep_4 := dk_seg dksX2_keep_3 22 rfl rfl
theorem dX2_keep_0 : decode cX2_keep 0 = .ok (.iload_n 1, 1) := dk_27 (dk_at dksX2_keep_0 0 rfl rfl)
theorem dX2_keep_1 : decode cX2_keep 1 = .ok (.iconst 0, 1) := dk_3 (dk_at dksX2_keep_0 1 rfl rfl)
theorem dX2_keep_2 : decode cX2_keep 2 = .ok (.iconst 2, 1) := dk_5 (dk_at dksX2_keep_0 2 rfl rfl)
theorem dX2_keep_3 : decode cX2_keep 3 = .ok (.invokestatic 75, 3) := dk_184 0 75 (dk_at dksX2_keep_0 3 rfl rfl)
theorem dX2_keep_6 : decode cX2_keep 6 = .ok (.ifCond .ne 5, 3) := dk_154 0 5 (dk_at dksX2_keep_0 6 rfl rfl)
theorem dX2_keep_9 : decode cX2_keep 9 = .ok (.iconst (-1), 1) := dk_2 (dk_at dksX2_keep_0 9 rfl rfl)
theorem dX2_keep_10 : decode cX2_keep 10 = .ok (.ireturn, 1) := dk_172 (dk_at dksX2_keep_0 10 rfl rfl)
theorem dX2_keep_11 : decode cX2_keep 11 = .ok (.aload_n 0, 1) := dk_42 (dk_at dksX2_keep_0 11 rfl rfl)
theorem dX2_keep_12 : decode cX2_keep 12 = .ok (.getfield 179, 3) := dk_180 0 179 (dk_at dksX2_keep_0 12 rfl rfl)
theorem dX2_keep_15 : decode cX2_keep 15 = .ok (.ifCond .ne 6, 3) := dk_154 0 6 (dk_at dksX2_keep_0 15 rfl rfl)
theorem dX2_keep_18 : decode cX2_keep 18 = .ok (.bipush (-4), 2) := dk_16 252 (dk_at dksX2_keep_0 18 rfl rfl)
theorem dX2_keep_20 : decode cX2_keep 20 = .ok (.ireturn, 1) := dk_172 (dk_at dksX2_keep_0 20 rfl rfl)
theorem dX2_keep_21 : decode cX2_keep 21 = .ok (.aload_n 0, 1) := dk_42 (dk_at dksX2_keep_0 21 rfl rfl)
theorem dX2_keep_22 : decode cX2_keep 22 = .ok (.getfield 59, 3) := dk_180 0 59 (dk_at dksX2_keep_1 0 rfl rfl)
theorem dX2_keep_25 : decode cX2_keep 25 = .ok (.iload_n 1, 1) := dk_27 (dk_at dksX2_keep_1 3 rfl rfl)
theorem dX2_keep_26 : decode cX2_keep 26 = .ok (.aload_n 0, 1) := dk_42 (dk_at dksX2_keep_1 4 rfl rfl)
theorem dX2_keep_27 : decode cX2_keep 27 = .ok (.getfield 185, 3) := dk_180 0 185 (dk_at dksX2_keep_1 5 rfl rfl)
theorem dX2_keep_30 : decode cX2_keep 30 = .ok (.iastore, 1) := dk_79 (dk_at dksX2_keep_1 8 rfl rfl)
theorem dX2_keep_31 : decode cX2_keep 31 = .ok (.iconst 0, 1) := dk_3 (dk_at dksX2_keep_1 9 rfl rfl)
theorem dX2_keep_32 : decode cX2_keep 32 = .ok (.istore_n 2, 1) := dk_61 (dk_at dksX2_keep_1 10 rfl rfl)
theorem dX2_keep_33 : decode cX2_keep 33 = .ok (.iload_n 2, 1) := dk_28 (dk_at dksX2_keep_1 11 rfl rfl)
theorem dX2_keep_34 : decode cX2_keep 34 = .ok (.bipush 33, 2) := dk_16 33 (dk_at dksX2_keep_1 12 rfl rfl)
theorem dX2_keep_36 : decode cX2_keep 36 = .ok (.if_icmp .ge 27, 3) := dk_162 0 27 (dk_at dksX2_keep_1 14 rfl rfl)
theorem dX2_keep_39 : decode cX2_keep 39 = .ok (.aload_n 0, 1) := dk_42 (dk_at dksX2_keep_1 17 rfl rfl)
theorem dX2_keep_40 : decode cX2_keep 40 = .ok (.getfield 62, 3) := dk_180 0 62 (dk_at dksX2_keep_1 18 rfl rfl)
theorem dX2_keep_43 : decode cX2_keep 43 = .ok (.sipush 1353, 3) := dk_17 5 73 (dk_at dksX2_keep_1 21 rfl rfl)
theorem dX2_keep_46 : decode cX2_keep 46 = .ok (.iload_n 1, 1) := dk_27 (dk_at dksX2_keep_2 0 rfl rfl)
theorem dX2_keep_47 : decode cX2_keep 47 = .ok (.imul, 1) := dk_104 (dk_at dksX2_keep_2 1 rfl rfl)
theorem dX2_keep_48 : decode cX2_keep 48 = .ok (.iload_n 2, 1) := dk_28 (dk_at dksX2_keep_2 2 rfl rfl)
theorem dX2_keep_49 : decode cX2_keep 49 = .ok (.iadd, 1) := dk_96 (dk_at dksX2_keep_2 3 rfl rfl)
theorem dX2_keep_50 : decode cX2_keep 50 = .ok (.aload_n 0, 1) := dk_42 (dk_at dksX2_keep_2 4 rfl rfl)
theorem dX2_keep_51 : decode cX2_keep 51 = .ok (.getfield 35, 3) := dk_180 0 35 (dk_at dksX2_keep_2 5 rfl rfl)
theorem dX2_keep_54 : decode cX2_keep 54 = .ok (.iload_n 2, 1) := dk_28 (dk_at dksX2_keep_2 8 rfl rfl)
theorem dX2_keep_55 : decode cX2_keep 55 = .ok (.iaload, 1) := dk_46 (dk_at dksX2_keep_2 9 rfl rfl)
theorem dX2_keep_56 : decode cX2_keep 56 = .ok (.iastore, 1) := dk_79 (dk_at dksX2_keep_2 10 rfl rfl)
theorem dX2_keep_57 : decode cX2_keep 57 = .ok (.iinc 2 1, 3) := dk_132 2 1 (dk_at dksX2_keep_2 11 rfl rfl)
theorem dX2_keep_60 : decode cX2_keep 60 = .ok (.goto (-27), 3) := dk_167 255 229 (dk_at dksX2_keep_2 14 rfl rfl)
theorem dX2_keep_63 : decode cX2_keep 63 = .ok (.iconst 0, 1) := dk_3 (dk_at dksX2_keep_2 17 rfl rfl)
theorem dX2_keep_64 : decode cX2_keep 64 = .ok (.istore_n 2, 1) := dk_61 (dk_at dksX2_keep_2 18 rfl rfl)
theorem dX2_keep_65 : decode cX2_keep 65 = .ok (.iload_n 2, 1) := dk_28 (dk_at dksX2_keep_2 19 rfl rfl)
theorem dX2_keep_66 : decode cX2_keep 66 = .ok (.bipush 33, 2) := dk_16 33 (dk_at dksX2_keep_2 20 rfl rfl)
theorem dX2_keep_68 : decode cX2_keep 68 = .ok (.aload_n 0, 1) := dk_42 (dk_at dksX2_keep_2 22 rfl rfl)
theorem dX2_keep_69 : decode cX2_keep 69 = .ok (.getfield 185, 3) := dk_180 0 185 (dk_at dksX2_keep_3 0 rfl rfl)
theorem dX2_keep_72 : decode cX2_keep 72 = .ok (.imul, 1) := dk_104 (dk_at dksX2_keep_3 3 rfl rfl)
theorem dX2_keep_73 : decode cX2_keep 73 = .ok (.if_icmp .ge 30, 3) := dk_162 0 30 (dk_at dksX2_keep_3 4 rfl rfl)
theorem dX2_keep_76 : decode cX2_keep 76 = .ok (.aload_n 0, 1) := dk_42 (dk_at dksX2_keep_3 7 rfl rfl)
theorem dX2_keep_77 : decode cX2_keep 77 = .ok (.getfield 62, 3) := dk_180 0 62 (dk_at dksX2_keep_3 8 rfl rfl)
theorem dX2_keep_80 : decode cX2_keep 80 = .ok (.sipush 1353, 3) := dk_17 5 73 (dk_at dksX2_keep_3 11 rfl rfl)
theorem dX2_keep_83 : decode cX2_keep 83 = .ok (.iload_n 1, 1) := dk_27 (dk_at dksX2_keep_3 14 rfl rfl)
theorem dX2_keep_84 : decode cX2_keep 84 = .ok (.imul, 1) := dk_104 (dk_at dksX2_keep_3 15 rfl rfl)
theorem dX2_keep_85 : decode cX2_keep 85 = .ok (.bipush 33, 2) := dk_16 33 (dk_at dksX2_keep_3 16 rfl rfl)
theorem dX2_keep_87 : decode cX2_keep 87 = .ok (.iadd, 1) := dk_96 (dk_at dksX2_keep_3 18 rfl rfl)
theorem dX2_keep_88 : decode cX2_keep 88 = .ok (.iload_n 2, 1) := dk_28 (dk_at dksX2_keep_3 19 rfl rfl)
theorem dX2_keep_89 : decode cX2_keep 89 = .ok (.iadd, 1) := dk_96 (dk_at dksX2_keep_3 20 rfl rfl)
theorem dX2_keep_90 : decode cX2_keep 90 = .ok (.aload_n 0, 1) := dk_42 (dk_at dksX2_keep_3 21 rfl rfl)
theorem dX2_keep_91 : decode cX2_keep 91 = .ok (.getfield 56, 3) := dk_180 0 56 (dk_at dksX2_keep_4 0 rfl rfl)
theorem dX2_keep_94 : decode cX2_keep 94 = .ok (.iload_n 2, 1) := dk_28 (dk_at dksX2_keep_4 3 rfl rfl)
theorem dX2_keep_95 : decode cX2_keep 95 = .ok (.iaload, 1) := dk_46 (dk_at dksX2_keep_4 4 rfl rfl)
theorem dX2_keep_96 : decode cX2_keep 96 = .ok (.iastore, 1) := dk_79 (dk_at dksX2_keep_4 5 rfl rfl)
theorem dX2_keep_97 : decode cX2_keep 97 = .ok (.iinc 2 1, 3) := dk_132 2 1 (dk_at dksX2_keep_4 6 rfl rfl)
theorem dX2_keep_100 : decode cX2_keep 100 = .ok (.goto (-35), 3) := dk_167 255 221 (dk_at dksX2_keep_4 9 rfl rfl)
theorem dX2_keep_103 : decode cX2_keep 103 = .ok (.aload_n 0, 1) := dk_42 (dk_at dksX2_keep_4 12 rfl rfl)
theorem dX2_keep_104 : decode cX2_keep 104 = .ok (.getfield 185, 3) := dk_180 0 185 (dk_at dksX2_keep_4 13 rfl rfl)
theorem dX2_keep_107 : decode cX2_keep 107 = .ok (.ireturn, 1) := dk_172 (dk_at dksX2_keep_4 16 rfl rfl)
abbrev cX2_on : ByteArray := prog_13_method_73_code
def yX2_on : MethodName := ⟨RX2, "on", "(I)I"⟩
def dkwX2_on_4 : List UInt8 := [27, 104, 16, 33, 96, 28, 96, 46, 79, 132, 2, 1, 167, 255, 221, 42, 180, 0, 185, 172]
abbrev dktX2_on_4 : List UInt8 := dkwX2_on_4 ++ []
def dkwX2_on_3 : List UInt8 := [61, 28, 16, 33, 42, 180, 0, 185, 104, 162, 0, 30, 42, 180, 0, 56, 28, 42, 180, 0, 62, 17, 5, 73]
abbrev dktX2_on_3 : List UInt8 := dkwX2_on_3 ++ dktX2_on_4
def dkwX2_on_2 : List UInt8 := [180, 0, 35, 28, 42, 180, 0, 62, 17, 5, 73, 27, 104, 28, 96, 46, 79, 132, 2, 1, 167, 255, 229, 3]
abbrev dktX2_on_2 : List UInt8 := dkwX2_on_2 ++ dktX2_on_3
def dkwX2_on_1 : List UInt8 := [182, 0, 83, 172, 42, 42, 180, 0, 59, 27, 46, 181, 0, 185, 3, 61, 28, 16, 33, 162, 0, 27, 42]
abbrev dktX2_on_1 : List UInt8 := dkwX2_on_1 ++ dktX2_on_2
def dkwX2_on_0 : List UInt8 := [27, 3, 5, 184, 0, 75, 154, 0, 5, 2, 172, 42, 180, 0, 59, 27, 46, 156, 0, 9, 42, 4]
abbrev dktX2_on_0 : List UInt8 := dkwX2_on_0 ++ dktX2_on_1
theorem dksX2_on_0 : cX2_on.data.toList.drop 0 = dktX2_on_0 := by decide +kernel
theorem dksX2_on_1 : cX2_on.data.toList.drop 22 = dktX2_on_1 := dk_seg dksX2_on_0 22 rfl rfl
theorem dksX2_on_2 : cX2_on.data.toList.drop 45 = dktX2_on_2 := dk_seg dksX2_on_1 23 rfl rfl
theorem dksX2_on_3 : cX2_on.data.toList.drop 69 = dktX2_on_3 := dk_seg dksX2_on_2 24 rfl rfl
theorem dksX2_on_4 : cX2_on.data.toList.drop 93 = dktX2_on_4 := dk_seg dksX2_on_3 24 rfl rfl
theorem dX2_on_0 : decode cX2_on 0 = .ok (.iload_n 1, 1) := dk_27 (dk_at dksX2_on_0 0 rfl rfl)
theorem dX2_on_1 : decode cX2_on 1 = .ok (.iconst 0, 1) := dk_3 (dk_at dksX2_on_0 1 rfl rfl)
theorem dX2_on_2 : decode cX2_on 2 = .ok (.iconst 2, 1) := dk_5 (dk_at dksX2_on_0 2 rfl rfl)
theorem dX2_on_3 : decode cX2_on 3 = .ok (.invokestatic 75, 3) := dk_184 0 75 (dk_at dksX2_on_0 3 rfl rfl)
theorem dX2_on_6 : decode cX2_on 6 = .ok (.ifCond .ne 5, 3) := dk_154 0 5 (dk_at dksX2_on_0 6 rfl rfl)
theorem dX2_on_9 : decode cX2_on 9 = .ok (.iconst (-1), 1) := dk_2 (dk_at dksX2_on_0 9 rfl rfl)
theorem dX2_on_10 : decode cX2_on 10 = .ok (.ireturn, 1) := dk_172 (dk_at dksX2_on_0 10 rfl rfl)
theorem dX2_on_11 : decode cX2_on 11 = .ok (.aload_n 0, 1) := dk_42 (dk_at dksX2_on_0 11 rfl rfl)
theorem dX2_on_12 : decode cX2_on 12 = .ok (.getfield 59, 3) := dk_180 0 59 (dk_at dksX2_on_0 12 rfl rfl)
theorem dX2_on_15 : decode cX2_on 15 = .ok (.iload_n 1, 1) := dk_27 (dk_at dksX2_on_0 15 rfl rfl)
theorem dX2_on_16 : decode cX2_on 16 = .ok (.iaload, 1) := dk_46 (dk_at dksX2_on_0 16 rfl rfl)
theorem dX2_on_17 : decode cX2_on 17 = .ok (.ifCond .ge 9, 3) := dk_156 0 9 (dk_at dksX2_on_0 17 rfl rfl)
theorem dX2_on_20 : decode cX2_on 20 = .ok (.aload_n 0, 1) := dk_42 (dk_at dksX2_on_0 20 rfl rfl)
theorem dX2_on_21 : decode cX2_on 21 = .ok (.iconst 1, 1) := dk_4 (dk_at dksX2_on_0 21 rfl rfl)
theorem dX2_on_22 : decode cX2_on 22 = .ok (.invokevirtual 83, 3) := dk_182 0 83 (dk_at dksX2_on_1 0 rfl rfl)
theorem dX2_on_25 : decode cX2_on 25 = .ok (.ireturn, 1) := dk_172 (dk_at dksX2_on_1 3 rfl rfl)
theorem dX2_on_26 : decode cX2_on 26 = .ok (.aload_n 0, 1) := dk_42 (dk_at dksX2_on_1 4 rfl rfl)
theorem dX2_on_27 : decode cX2_on 27 = .ok (.aload_n 0, 1) := dk_42 (dk_at dksX2_on_1 5 rfl rfl)
theorem dX2_on_28 : decode cX2_on 28 = .ok (.getfield 59, 3) := dk_180 0 59 (dk_at dksX2_on_1 6 rfl rfl)
theorem dX2_on_31 : decode cX2_on 31 = .ok (.iload_n 1, 1) := dk_27 (dk_at dksX2_on_1 9 rfl rfl)
theorem dX2_on_32 : decode cX2_on 32 = .ok (.iaload, 1) := dk_46 (dk_at dksX2_on_1 10 rfl rfl)
theorem dX2_on_33 : decode cX2_on 33 = .ok (.putfield 185, 3) := dk_181 0 185 (dk_at dksX2_on_1 11 rfl rfl)
theorem dX2_on_36 : decode cX2_on 36 = .ok (.iconst 0, 1) := dk_3 (dk_at dksX2_on_1 14 rfl rfl)
theorem dX2_on_37 : decode cX2_on 37 = .ok (.istore_n 2, 1) := dk_61 (dk_at dksX2_on_1 15 rfl rfl)
theorem dX2_on_38 : decode cX2_on 38 = .ok (.iload_n 2, 1) := dk_28 (dk_at dksX2_on_1 16 rfl rfl)
theorem dX2_on_39 : decode cX2_on 39 = .ok (.bipush 33, 2) := dk_16 33 (dk_at dksX2_on_1 17 rfl rfl)
theorem dX2_on_41 : decode cX2_on 41 = .ok (.if_icmp .ge 27, 3) := dk_162 0 27 (dk_at dksX2_on_1 19 rfl rfl)
theorem dX2_on_44 : decode cX2_on 44 = .ok (.aload_n 0, 1) := dk_42 (dk_at dksX2_on_1 22 rfl rfl)
theorem dX2_on_45 : decode cX2_on 45 = .ok (.getfield 35, 3) := dk_180 0 35 (dk_at dksX2_on_2 0 rfl rfl)
theorem dX2_on_48 : decode cX2_on 48 = .ok (.iload_n 2, 1) := dk_28 (dk_at dksX2_on_2 3 rfl rfl)
theorem dX2_on_49 : decode cX2_on 49 = .ok (.aload_n 0, 1) := dk_42 (dk_at dksX2_on_2 4 rfl rfl)
theorem dX2_on_50 : decode cX2_on 50 = .ok (.getfield 62, 3) := dk_180 0 62 (dk_at dksX2_on_2 5 rfl rfl)
theorem dX2_on_53 : decode cX2_on 53 = .ok (.sipush 1353, 3) := dk_17 5 73 (dk_at dksX2_on_2 8 rfl rfl)
theorem dX2_on_56 : decode cX2_on 56 = .ok (.iload_n 1, 1) := dk_27 (dk_at dksX2_on_2 11 rfl rfl)
theorem dX2_on_57 : decode cX2_on 57 = .ok (.imul, 1) := dk_104 (dk_at dksX2_on_2 12 rfl rfl)
theorem dX2_on_58 : decode cX2_on 58 = .ok (.iload_n 2, 1) := dk_28 (dk_at dksX2_on_2 13 rfl rfl)
theorem dX2_on_59 : decode cX2_on 59 = .ok (.iadd, 1) := dk_96 (dk_at dksX2_on_2 14 rfl rfl)
theorem dX2_on_60 : decode cX2_on 60 = .ok (.iaload, 1) := dk_46 (dk_at dksX2_on_2 15 rfl rfl)
theorem dX2_on_61 : decode cX2_on 61 = .ok (.iastore, 1) := dk_79 (dk_at dksX2_on_2 16 rfl rfl)
theorem dX2_on_62 : decode cX2_on 62 = .ok (.iinc 2 1, 3) := dk_132 2 1 (dk_at dksX2_on_2 17 rfl rfl)
theorem dX2_on_65 : decode cX2_on 65 = .ok (.goto (-27), 3) := dk_167 255 229 (dk_at dksX2_on_2 20 rfl rfl)
theorem dX2_on_68 : decode cX2_on 68 = .ok (.iconst 0, 1) := dk_3 (dk_at dksX2_on_2 23 rfl rfl)
theorem dX2_on_69 : decode cX2_on 69 = .ok (.istore_n 2, 1) := dk_61 (dk_at dksX2_on_3 0 rfl rfl)
theorem dX2_on_70 : decode cX2_on 70 = .ok (.iload_n 2, 1) := dk_28 (dk_at dksX2_on_3 1 rfl rfl)
theorem dX2_on_71 : decode cX2_on 71 = .ok (.bipush 33, 2) := dk_16 33 (dk_at dksX2_on_3 2 rfl rfl)
theorem dX2_on_73 : decode cX2_on 73 = .ok (.aload_n 0, 1) := dk_42 (dk_at dksX2_on_3 4 rfl rfl)
theorem dX2_on_74 : decode cX2_on 74 = .ok (.getfield 185, 3) := dk_180 0 185 (dk_at dksX2_on_3 5 rfl rfl)
theorem dX2_on_77 : decode cX2_on 77 = .ok (.imul, 1) := dk_104 (dk_at dksX2_on_3 8 rfl rfl)
theorem dX2_on_78 : decode cX2_on 78 = .ok (.if_icmp .ge 30, 3) := dk_162 0 30 (dk_at dksX2_on_3 9 rfl rfl)
theorem dX2_on_81 : decode cX2_on 81 = .ok (.aload_n 0, 1) := dk_42 (dk_at dksX2_on_3 12 rfl rfl)
theorem dX2_on_82 : decode cX2_on 82 = .ok (.getfield 56, 3) := dk_180 0 56 (dk_at dksX2_on_3 13 rfl rfl)
theorem dX2_on_85 : decode cX2_on 85 = .ok (.iload_n 2, 1) := dk_28 (dk_at dksX2_on_3 16 rfl rfl)
theorem dX2_on_86 : decode cX2_on 86 = .ok (.aload_n 0, 1) := dk_42 (dk_at dksX2_on_3 17 rfl rfl)
theorem dX2_on_87 : decode cX2_on 87 = .ok (.getfield 62, 3) := dk_180 0 62 (dk_at dksX2_on_3 18 rfl rfl)
theorem dX2_on_90 : decode cX2_on 90 = .ok (.sipush 1353, 3) := dk_17 5 73 (dk_at dksX2_on_3 21 rfl rfl)
theorem dX2_on_93 : decode cX2_on 93 = .ok (.iload_n 1, 1) := dk_27 (dk_at dksX2_on_4 0 rfl rfl)
theorem dX2_on_94 : decode cX2_on 94 = .ok (.imul, 1) := dk_104 (dk_at dksX2_on_4 1 rfl rfl)
theorem dX2_on_95 : decode cX2_on 95 = .ok (.bipush 33, 2) := dk_16 33 (dk_at dksX2_on_4 2 rfl rfl)
theorem dX2_on_97 : decode cX2_on 97 = .ok (.iadd, 1) := dk_96 (dk_at dksX2_on_4 4 rfl rfl)
theorem dX2_on_98 : decode cX2_on 98 = .ok (.iload_n 2, 1) := dk_28 (dk_at dksX2_on_4 5 rfl rfl)
theorem dX2_on_99 : decode cX2_on 99 = .ok (.iadd, 1) := dk_96 (dk_at dksX2_on_4 6 rfl rfl)
theorem dX2_on_100 : decode cX2_on 100 = .ok (.iaload, 1) := dk_46 (dk_at dksX2_on_4 7 rfl rfl)
theorem dX2_on_101 : decode cX2_on 101 = .ok (.iastore, 1) := dk_79 (dk_at dksX2_on_4 8 rfl rfl)
theorem dX2_on_102 : decode cX2_on 102 = .ok (.iinc 2 1, 3) := dk_132 2 1 (dk_at dksX2_on_4 9 rfl rfl)
theorem dX2_on_105 : decode cX2_on 105 = .ok (.goto (-35), 3) := dk_167 255 221 (dk_at dksX2_on_4 12 rfl rfl)
theorem dX2_on_108 : decode cX2_on 108 = .ok (.aload_n 0, 1) := dk_42 (dk_at dksX2_on_4 15 rfl rfl)
theorem dX2_on_109 : decode cX2_on 109 = .ok (.getfield 185, 3) := dk_180 0 185 (dk_at dksX2_on_4 16 rfl rfl)
theorem dX2_on_112 : decode cX2_on 112 = .ok (.ireturn, 1) := dk_172 (dk_at dksX2_on_4 19 rfl rfl)
abbrev cX2_set : ByteArray := prog_13_method_74_code
def yX2_set : MethodName := ⟨RX2, "set", "(I)I"⟩
def dkwX2_set_2 : List UInt8 := [172, 42, 182, 1, 37, 42, 27, 28, 182, 1, 33, 28, 172]
abbrev dktX2_set_2 : List UInt8 := dkwX2_set_2 ++ []
def dkwX2_set_1 : List UInt8 := [182, 1, 30, 61, 28, 16, 247, 160, 0, 6, 16, 250, 172, 42, 180, 0, 185, 16, 40, 160, 0, 6, 16, 254]
abbrev dktX2_set_1 : List UInt8 := dkwX2_set_1 ++ dktX2_set_2
def dkwX2_set_0 : List UInt8 := [42, 27, 182, 0, 223, 154, 0, 5, 2, 172, 42, 27, 182, 0, 232, 153, 0, 6, 16, 252, 172, 42, 27]
abbrev dktX2_set_0 : List UInt8 := dkwX2_set_0 ++ dktX2_set_1
theorem dksX2_set_0 : cX2_set.data.toList.drop 0 = dktX2_set_0 := by decide +kernel
theorem dksX2_set_1 : cX2_set.data.toList.drop 23 = dktX2_set_1 := dk_seg dksX2_set_0 23 rfl rfl
theorem dksX2_set_2 : cX2_set.data.toList.drop 47 = dktX2_set_2 := dk_seg dksX2_set_1 24 rfl rfl
theorem dX2_set_0 : decode cX2_set 0 = .ok (.aload_n 0, 1) := dk_42 (dk_at dksX2_set_0 0 rfl rfl)
theorem dX2_set_1 : decode cX2_set 1 = .ok (.iload_n 1, 1) := dk_27 (dk_at dksX2_set_0 1 rfl rfl)
theorem dX2_set_2 : decode cX2_set 2 = .ok (.invokevirtual 223, 3) := dk_182 0 223 (dk_at dksX2_set_0 2 rfl rfl)
theorem dX2_set_5 : decode cX2_set 5 = .ok (.ifCond .ne 5, 3) := dk_154 0 5 (dk_at dksX2_set_0 5 rfl rfl)
theorem dX2_set_8 : decode cX2_set 8 = .ok (.iconst (-1), 1) := dk_2 (dk_at dksX2_set_0 8 rfl rfl)
theorem dX2_set_9 : decode cX2_set 9 = .ok (.ireturn, 1) := dk_172 (dk_at dksX2_set_0 9 rfl rfl)
theorem dX2_set_10 : decode cX2_set 10 = .ok (.aload_n 0, 1) := dk_42 (dk_at dksX2_set_0 10 rfl rfl)
theorem dX2_set_11 : decode cX2_set 11 = .ok (.iload_n 1, 1) := dk_27 (dk_at dksX2_set_0 11 rfl rfl)
theorem dX2_set_12 : decode cX2_set 12 = .ok (.invokevirtual 232, 3) := dk_182 0 232 (dk_at dksX2_set_0 12 rfl rfl)
theorem dX2_set_15 : decode cX2_set 15 = .ok (.ifCond .eq 6, 3) := dk_153 0 6 (dk_at dksX2_set_0 15 rfl rfl)
theorem dX2_set_18 : decode cX2_set 18 = .ok (.bipush (-4), 2) := dk_16 252 (dk_at dksX2_set_0 18 rfl rfl)
theorem dX2_set_20 : decode cX2_set 20 = .ok (.ireturn, 1) := dk_172 (dk_at dksX2_set_0 20 rfl rfl)
theorem dX2_set_21 : decode cX2_set 21 = .ok (.aload_n 0, 1) := dk_42 (dk_at dksX2_set_0 21 rfl rfl)
theorem dX2_set_22 : decode cX2_set 22 = .ok (.iload_n 1, 1) := dk_27 (dk_at dksX2_set_0 22 rfl rfl)
theorem dX2_set_23 : decode cX2_set 23 = .ok (.invokevirtual 286, 3) := dk_182 1 30 (dk_at dksX2_set_1 0 rfl rfl)
theorem dX2_set_26 : decode cX2_set 26 = .ok (.istore_n 2, 1) := dk_61 (dk_at dksX2_set_1 3 rfl rfl)
theorem dX2_set_27 : decode cX2_set 27 = .ok (.iload_n 2, 1) := dk_28 (dk_at dksX2_set_1 4 rfl rfl)
theorem dX2_set_28 : decode cX2_set 28 = .ok (.bipush (-9), 2) := dk_16 247 (dk_at dksX2_set_1 5 rfl rfl)
theorem dX2_set_30 : decode cX2_set 30 = .ok (.if_icmp .ne 6, 3) := dk_160 0 6 (dk_at dksX2_set_1 7 rfl rfl)
theorem dX2_set_33 : decode cX2_set 33 = .ok (.bipush (-6), 2) := dk_16 250 (dk_at dksX2_set_1 10 rfl rfl)
theorem dX2_set_35 : decode cX2_set 35 = .ok (.ireturn, 1) := dk_172 (dk_at dksX2_set_1 12 rfl rfl)
theorem dX2_set_36 : decode cX2_set 36 = .ok (.aload_n 0, 1) := dk_42 (dk_at dksX2_set_1 13 rfl rfl)
theorem dX2_set_37 : decode cX2_set 37 = .ok (.getfield 185, 3) := dk_180 0 185 (dk_at dksX2_set_1 14 rfl rfl)
theorem dX2_set_40 : decode cX2_set 40 = .ok (.bipush 40, 2) := dk_16 40 (dk_at dksX2_set_1 17 rfl rfl)
theorem dX2_set_42 : decode cX2_set 42 = .ok (.if_icmp .ne 6, 3) := dk_160 0 6 (dk_at dksX2_set_1 19 rfl rfl)
theorem dX2_set_45 : decode cX2_set 45 = .ok (.bipush (-2), 2) := dk_16 254 (dk_at dksX2_set_1 22 rfl rfl)
theorem dX2_set_47 : decode cX2_set 47 = .ok (.ireturn, 1) := dk_172 (dk_at dksX2_set_2 0 rfl rfl)
theorem dX2_set_48 : decode cX2_set 48 = .ok (.aload_n 0, 1) := dk_42 (dk_at dksX2_set_2 1 rfl rfl)
theorem dX2_set_49 : decode cX2_set 49 = .ok (.invokevirtual 293, 3) := dk_182 1 37 (dk_at dksX2_set_2 2 rfl rfl)
theorem dX2_set_52 : decode cX2_set 52 = .ok (.aload_n 0, 1) := dk_42 (dk_at dksX2_set_2 5 rfl rfl)
theorem dX2_set_53 : decode cX2_set 53 = .ok (.iload_n 1, 1) := dk_27 (dk_at dksX2_set_2 6 rfl rfl)
theorem dX2_set_54 : decode cX2_set 54 = .ok (.iload_n 2, 1) := dk_28 (dk_at dksX2_set_2 7 rfl rfl)
theorem dX2_set_55 : decode cX2_set 55 = .ok (.invokevirtual 289, 3) := dk_182 1 33 (dk_at dksX2_set_2 8 rfl rfl)
theorem dX2_set_58 : decode cX2_set 58 = .ok (.iload_n 2, 1) := dk_28 (dk_at dksX2_set_2 11 rfl rfl)
theorem dX2_set_59 : decode cX2_set 59 = .ok (.ireturn, 1) := dk_172 (dk_at dksX2_set_2 12 rfl rfl)
abbrev cX2_findsPage : ByteArray := prog_13_method_65_code
def yX2_findsPage : MethodName := ⟨RX2, "findsPage", "(I)I"⟩
def dkwX2_findsPage_2 : List UInt8 := [172]
abbrev dktX2_findsPage_2 : List UInt8 := dkwX2_findsPage_2 ++ []
def dkwX2_findsPage_1 : List UInt8 := [27, 42, 180, 0, 35, 16, 32, 46, 182, 1, 21, 153, 0, 5, 29, 172, 132, 3, 1, 167, 255, 220, 16, 247]
abbrev dktX2_findsPage_1 : List UInt8 := dkwX2_findsPage_1 ++ dktX2_findsPage_2
def dkwX2_findsPage_0 : List UInt8 := [42, 182, 1, 14, 61, 3, 62, 29, 28, 163, 0, 37, 29, 16, 8, 162, 0, 31, 42, 29, 182, 1, 18, 42]
abbrev dktX2_findsPage_0 : List UInt8 := dkwX2_findsPage_0 ++ dktX2_findsPage_1
theorem dksX2_findsPage_0 : cX2_findsPage.data.toList.drop 0 = dktX2_findsPage_0 := by decide +kernel
theorem dksX2_findsPage_1 : cX2_findsPage.data.toList.drop 24 = dktX2_findsPage_1 := dk_seg dksX2_findsPage_0 24 rfl rfl
theorem dksX2_findsPage_2 : cX2_findsPage.data.toList.drop 48 = dktX2_findsPage_2 := dk_seg dksX2_findsPage_1 24 rfl rfl
theorem dX2_findsPage_0 : decode cX2_findsPage 0 = .ok (.aload_n 0, 1) := dk_42 (dk_at dksX2_findsPage_0 0 rfl rfl)
theorem dX2_findsPage_1 : decode cX2_findsPage 1 = .ok (.invokevirtual 270, 3) := dk_182 1 14 (dk_at dksX2_findsPage_0 1 rfl rfl)
theorem dX2_findsPage_4 : decode cX2_findsPage 4 = .ok (.istore_n 2, 1) := dk_61 (dk_at dksX2_findsPage_0 4 rfl rfl)
theorem dX2_findsPage_5 : decode cX2_findsPage 5 = .ok (.iconst 0, 1) := dk_3 (dk_at dksX2_findsPage_0 5 rfl rfl)
theorem dX2_findsPage_6 : decode cX2_findsPage 6 = .ok (.istore_n 3, 1) := dk_62 (dk_at dksX2_findsPage_0 6 rfl rfl)
theorem dX2_findsPage_7 : decode cX2_findsPage 7 = .ok (.iload_n 3, 1) := dk_29 (dk_at dksX2_findsPage_0 7 rfl rfl)
theorem dX2_findsPage_8 : decode cX2_findsPage 8 = .ok (.iload_n 2, 1) := dk_28 (dk_at dksX2_findsPage_0 8 rfl rfl)
theorem dX2_findsPage_9 : decode cX2_findsPage 9 = .ok (.if_icmp .gt 37, 3) := dk_163 0 37 (dk_at dksX2_findsPage_0 9 rfl rfl)
theorem dX2_findsPage_12 : decode cX2_findsPage 12 = .ok (.iload_n 3, 1) := dk_29 (dk_at dksX2_findsPage_0 12 rfl rfl)
theorem dX2_findsPage_13 : decode cX2_findsPage 13 = .ok (.bipush 8, 2) := dk_16 8 (dk_at dksX2_findsPage_0 13 rfl rfl)
theorem dX2_findsPage_15 : decode cX2_findsPage 15 = .ok (.if_icmp .ge 31, 3) := dk_162 0 31 (dk_at dksX2_findsPage_0 15 rfl rfl)
theorem dX2_findsPage_18 : decode cX2_findsPage 18 = .ok (.aload_n 0, 1) := dk_42 (dk_at dksX2_findsPage_0 18 rfl rfl)
theorem dX2_findsPage_19 : decode cX2_findsPage 19 = .ok (.iload_n 3, 1) := dk_29 (dk_at dksX2_findsPage_0 19 rfl rfl)
theorem dX2_findsPage_20 : decode cX2_findsPage 20 = .ok (.invokevirtual 274, 3) := dk_182 1 18 (dk_at dksX2_findsPage_0 20 rfl rfl)
theorem dX2_findsPage_23 : decode cX2_findsPage 23 = .ok (.aload_n 0, 1) := dk_42 (dk_at dksX2_findsPage_0 23 rfl rfl)
theorem dX2_findsPage_24 : decode cX2_findsPage 24 = .ok (.iload_n 1, 1) := dk_27 (dk_at dksX2_findsPage_1 0 rfl rfl)
theorem dX2_findsPage_25 : decode cX2_findsPage 25 = .ok (.aload_n 0, 1) := dk_42 (dk_at dksX2_findsPage_1 1 rfl rfl)
theorem dX2_findsPage_26 : decode cX2_findsPage 26 = .ok (.getfield 35, 3) := dk_180 0 35 (dk_at dksX2_findsPage_1 2 rfl rfl)
theorem dX2_findsPage_29 : decode cX2_findsPage 29 = .ok (.bipush 32, 2) := dk_16 32 (dk_at dksX2_findsPage_1 5 rfl rfl)
theorem dX2_findsPage_31 : decode cX2_findsPage 31 = .ok (.iaload, 1) := dk_46 (dk_at dksX2_findsPage_1 7 rfl rfl)
theorem dX2_findsPage_32 : decode cX2_findsPage 32 = .ok (.invokevirtual 277, 3) := dk_182 1 21 (dk_at dksX2_findsPage_1 8 rfl rfl)
theorem dX2_findsPage_35 : decode cX2_findsPage 35 = .ok (.ifCond .eq 5, 3) := dk_153 0 5 (dk_at dksX2_findsPage_1 11 rfl rfl)
theorem dX2_findsPage_38 : decode cX2_findsPage 38 = .ok (.iload_n 3, 1) := dk_29 (dk_at dksX2_findsPage_1 14 rfl rfl)
theorem dX2_findsPage_39 : decode cX2_findsPage 39 = .ok (.ireturn, 1) := dk_172 (dk_at dksX2_findsPage_1 15 rfl rfl)
theorem dX2_findsPage_40 : decode cX2_findsPage 40 = .ok (.iinc 3 1, 3) := dk_132 3 1 (dk_at dksX2_findsPage_1 16 rfl rfl)
theorem dX2_findsPage_43 : decode cX2_findsPage 43 = .ok (.goto (-36), 3) := dk_167 255 220 (dk_at dksX2_findsPage_1 19 rfl rfl)
theorem dX2_findsPage_46 : decode cX2_findsPage 46 = .ok (.bipush (-9), 2) := dk_16 247 (dk_at dksX2_findsPage_1 22 rfl rfl)
theorem dX2_findsPage_48 : decode cX2_findsPage 48 = .ok (.ireturn, 1) := dk_172 (dk_at dksX2_findsPage_2 0 rfl rfl)
abbrev cX2_pageMany : ByteArray := prog_13_method_56_code
def yX2_pageMany : MethodName := ⟨RX2, "pageMany", "()I"⟩
def dkwX2_pageMany_2 : List UInt8 := [167, 255, 214, 27, 172]
abbrev dktX2_pageMany_2 : List UInt8 := dkwX2_pageMany_2 ++ []
def dkwX2_pageMany_1 : List UInt8 := [161, 0, 18, 42, 180, 0, 35, 7, 28, 104, 3, 96, 46, 4, 96, 167, 0, 4, 27, 60, 132, 2, 1]
abbrev dktX2_pageMany_1 : List UInt8 := dkwX2_pageMany_1 ++ dktX2_pageMany_2
def dkwX2_pageMany_0 : List UInt8 := [3, 60, 3, 61, 28, 42, 180, 0, 179, 162, 0, 40, 42, 180, 0, 35, 7, 28, 104, 3, 96, 46, 27]
abbrev dktX2_pageMany_0 : List UInt8 := dkwX2_pageMany_0 ++ dktX2_pageMany_1
theorem dksX2_pageMany_0 : cX2_pageMany.data.toList.drop 0 = dktX2_pageMany_0 := by decide +kernel
theorem dksX2_pageMany_1 : cX2_pageMany.data.toList.drop 23 = dktX2_pageMany_1 := dk_seg dksX2_pageMany_0 23 rfl rfl
theorem dksX2_pageMany_2 : cX2_pageMany.data.toList.drop 46 = dktX2_pageMany_2 := dk_seg dksX2_pageMany_1 23 rfl rfl
theorem dX2_pageMany_0 : decode cX2_pageMany 0 = .ok (.iconst 0, 1) := dk_3 (dk_at dksX2_pageMany_0 0 rfl rfl)
theorem dX2_pageMany_1 : decode cX2_pageMany 1 = .ok (.istore_n 1, 1) := dk_60 (dk_at dksX2_pageMany_0 1 rfl rfl)
theorem dX2_pageMany_2 : decode cX2_pageMany 2 = .ok (.iconst 0, 1) := dk_3 (dk_at dksX2_pageMany_0 2 rfl rfl)
theorem dX2_pageMany_3 : decode cX2_pageMany 3 = .ok (.istore_n 2, 1) := dk_61 (dk_at dksX2_pageMany_0 3 rfl rfl)
theorem dX2_pageMany_4 : decode cX2_pageMany 4 = .ok (.iload_n 2, 1) := dk_28 (dk_at dksX2_pageMany_0 4 rfl rfl)
theorem dX2_pageMany_5 : decode cX2_pageMany 5 = .ok (.aload_n 0, 1) := dk_42 (dk_at dksX2_pageMany_0 5 rfl rfl)
theorem dX2_pageMany_6 : decode cX2_pageMany 6 = .ok (.getfield 179, 3) := dk_180 0 179 (dk_at dksX2_pageMany_0 6 rfl rfl)
theorem dX2_pageMany_9 : decode cX2_pageMany 9 = .ok (.if_icmp .ge 40, 3) := dk_162 0 40 (dk_at dksX2_pageMany_0 9 rfl rfl)
theorem dX2_pageMany_12 : decode cX2_pageMany 12 = .ok (.aload_n 0, 1) := dk_42 (dk_at dksX2_pageMany_0 12 rfl rfl)
theorem dX2_pageMany_13 : decode cX2_pageMany 13 = .ok (.getfield 35, 3) := dk_180 0 35 (dk_at dksX2_pageMany_0 13 rfl rfl)
theorem dX2_pageMany_16 : decode cX2_pageMany 16 = .ok (.iconst 4, 1) := dk_7 (dk_at dksX2_pageMany_0 16 rfl rfl)
theorem dX2_pageMany_17 : decode cX2_pageMany 17 = .ok (.iload_n 2, 1) := dk_28 (dk_at dksX2_pageMany_0 17 rfl rfl)
theorem dX2_pageMany_18 : decode cX2_pageMany 18 = .ok (.imul, 1) := dk_104 (dk_at dksX2_pageMany_0 18 rfl rfl)
theorem dX2_pageMany_19 : decode cX2_pageMany 19 = .ok (.iconst 0, 1) := dk_3 (dk_at dksX2_pageMany_0 19 rfl rfl)
theorem dX2_pageMany_20 : decode cX2_pageMany 20 = .ok (.iadd, 1) := dk_96 (dk_at dksX2_pageMany_0 20 rfl rfl)
theorem dX2_pageMany_21 : decode cX2_pageMany 21 = .ok (.iaload, 1) := dk_46 (dk_at dksX2_pageMany_0 21 rfl rfl)
theorem dX2_pageMany_22 : decode cX2_pageMany 22 = .ok (.iload_n 1, 1) := dk_27 (dk_at dksX2_pageMany_0 22 rfl rfl)
theorem dX2_pageMany_23 : decode cX2_pageMany 23 = .ok (.if_icmp .lt 18, 3) := dk_161 0 18 (dk_at dksX2_pageMany_1 0 rfl rfl)
theorem dX2_pageMany_26 : decode cX2_pageMany 26 = .ok (.aload_n 0, 1) := dk_42 (dk_at dksX2_pageMany_1 3 rfl rfl)
theorem dX2_pageMany_27 : decode cX2_pageMany 27 = .ok (.getfield 35, 3) := dk_180 0 35 (dk_at dksX2_pageMany_1 4 rfl rfl)
theorem dX2_pageMany_30 : decode cX2_pageMany 30 = .ok (.iconst 4, 1) := dk_7 (dk_at dksX2_pageMany_1 7 rfl rfl)
theorem dX2_pageMany_31 : decode cX2_pageMany 31 = .ok (.iload_n 2, 1) := dk_28 (dk_at dksX2_pageMany_1 8 rfl rfl)
theorem dX2_pageMany_32 : decode cX2_pageMany 32 = .ok (.imul, 1) := dk_104 (dk_at dksX2_pageMany_1 9 rfl rfl)
theorem dX2_pageMany_33 : decode cX2_pageMany 33 = .ok (.iconst 0, 1) := dk_3 (dk_at dksX2_pageMany_1 10 rfl rfl)
theorem dX2_pageMany_34 : decode cX2_pageMany 34 = .ok (.iadd, 1) := dk_96 (dk_at dksX2_pageMany_1 11 rfl rfl)
theorem dX2_pageMany_35 : decode cX2_pageMany 35 = .ok (.iaload, 1) := dk_46 (dk_at dksX2_pageMany_1 12 rfl rfl)
theorem dX2_pageMany_36 : decode cX2_pageMany 36 = .ok (.iconst 1, 1) := dk_4 (dk_at dksX2_pageMany_1 13 rfl rfl)
theorem dX2_pageMany_37 : decode cX2_pageMany 37 = .ok (.iadd, 1) := dk_96 (dk_at dksX2_pageMany_1 14 rfl rfl)
theorem dX2_pageMany_38 : decode cX2_pageMany 38 = .ok (.goto 4, 3) := dk_167 0 4 (dk_at dksX2_pageMany_1 15 rfl rfl)
theorem dX2_pageMany_41 : decode cX2_pageMany 41 = .ok (.iload_n 1, 1) := dk_27 (dk_at dksX2_pageMany_1 18 rfl rfl)
theorem dX2_pageMany_42 : decode cX2_pageMany 42 = .ok (.istore_n 1, 1) := dk_60 (dk_at dksX2_pageMany_1 19 rfl rfl)
theorem dX2_pageMany_43 : decode cX2_pageMany 43 = .ok (.iinc 2 1, 3) := dk_132 2 1 (dk_at dksX2_pageMany_1 20 rfl rfl)
theorem dX2_pageMany_46 : decode cX2_pageMany 46 = .ok (.goto (-42), 3) := dk_167 255 214 (dk_at dksX2_pageMany_2 0 rfl rfl)
theorem dX2_pageMany_49 : decode cX2_pageMany 49 = .ok (.iload_n 1, 1) := dk_27 (dk_at dksX2_pageMany_2 3 rfl rfl)
theorem dX2_pageMany_50 : decode cX2_pageMany 50 = .ok (.ireturn, 1) := dk_172 (dk_at dksX2_pageMany_2 4 rfl rfl)
abbrev cX2_layFree : ByteArray := prog_13_method_60_code
def yX2_layFree : MethodName := ⟨RX2, "layFree", "(I)V"⟩
def dkwX2_layFree_7 : List UInt8 := [132, 2, 1, 167, 255, 100, 177]
abbrev dktX2_layFree_7 : List UInt8 := dkwX2_layFree_7 ++ []
def dkwX2_layFree_6 : List UInt8 := [42, 89, 180, 0, 242, 4, 96, 181, 0, 242, 132, 5, 1, 167, 255, 141, 132, 3, 1, 167, 255, 116]
abbrev dktX2_layFree_6 : List UInt8 := dkwX2_layFree_6 ++ dktX2_layFree_7
def dkwX2_layFree_5 : List UInt8 := [28, 79, 42, 180, 0, 50, 42, 180, 0, 242, 21, 5, 79, 42, 180, 0, 53, 42, 180, 0, 242, 21, 6, 79]
abbrev dktX2_layFree_5 : List UInt8 := dkwX2_layFree_5 ++ dktX2_layFree_6
def dkwX2_layFree_4 : List UInt8 := [182, 0, 245, 153, 0, 55, 42, 180, 0, 44, 42, 180, 0, 242, 29, 79, 42, 180, 0, 47, 42, 180, 0, 242]
abbrev dktX2_layFree_4 : List UInt8 := dkwX2_layFree_4 ++ dktX2_layFree_5
def dkwX2_layFree_3 : List UInt8 := [4, 182, 0, 235, 153, 0, 9, 132, 6, 1, 167, 255, 231, 21, 6, 54, 4, 42, 29, 28, 21, 5, 21, 6]
abbrev dktX2_layFree_3 : List UInt8 := dkwX2_layFree_3 ++ dktX2_layFree_4
def dkwX2_layFree_2 : List UInt8 := [182, 0, 235, 153, 0, 109, 4, 54, 6, 21, 6, 21, 4, 162, 0, 24, 42, 29, 28, 21, 6, 96, 21, 5]
abbrev dktX2_layFree_2 : List UInt8 := dkwX2_layFree_2 ++ dktX2_layFree_3
def dkwX2_layFree_1 : List UInt8 := [180, 0, 170, 162, 0, 138, 42, 180, 0, 173, 28, 100, 54, 4, 4, 54, 5, 42, 29, 28, 21, 5, 4]
abbrev dktX2_layFree_1 : List UInt8 := dkwX2_layFree_1 ++ dktX2_layFree_2
def dkwX2_layFree_0 : List UInt8 := [42, 27, 182, 0, 239, 42, 3, 181, 0, 242, 3, 61, 28, 42, 180, 0, 173, 162, 0, 154, 3, 62, 29, 42]
abbrev dktX2_layFree_0 : List UInt8 := dkwX2_layFree_0 ++ dktX2_layFree_1
theorem dksX2_layFree_0 : cX2_layFree.data.toList.drop 0 = dktX2_layFree_0 := by decide +kernel
theorem dksX2_layFree_1 : cX2_layFree.data.toList.drop 24 = dktX2_layFree_1 := dk_seg dksX2_layFree_0 24 rfl rfl
theorem dksX2_layFree_2 : cX2_layFree.data.toList.drop 47 = dktX2_layFree_2 := dk_seg dksX2_layFree_1 23 rfl rfl
theorem dksX2_layFree_3 : cX2_layFree.data.toList.drop 71 = dktX2_layFree_3 := dk_seg dksX2_layFree_2 24 rfl rfl
theorem dksX2_layFree_4 : cX2_layFree.data.toList.drop 95 = dktX2_layFree_4 := dk_seg dksX2_layFree_3 24 rfl rfl
theorem dksX2_layFree_5 : cX2_layFree.data.toList.drop 119 = dktX2_layFree_5 := dk_seg dksX2_layFree_4 24 rfl rfl
theorem dksX2_layFree_6 : cX2_layFree.data.toList.drop 143 = dktX2_layFree_6 := dk_seg dksX2_layFree_5 24 rfl rfl
theorem dksX2_layFree_7 : cX2_layFree.data.toList.drop 165 = dktX2_layFree_7 := dk_seg dksX2_layFree_6 22 rfl rfl
theorem dX2_layFree_0 : decode cX2_layFree 0 = .ok (.aload_n 0, 1) := dk_42 (dk_at dksX2_layFree_0 0 rfl rfl)
theorem dX2_layFree_1 : decode cX2_layFree 1 = .ok (.iload_n 1, 1) := dk_27 (dk_at dksX2_layFree_0 1 rfl rfl)
theorem dX2_layFree_2 : decode cX2_layFree 2 = .ok (.invokevirtual 239, 3) := dk_182 0 239 (dk_at dksX2_layFree_0 2 rfl rfl)
theorem dX2_layFree_5 : decode cX2_layFree 5 = .ok (.aload_n 0, 1) := dk_42 (dk_at dksX2_layFree_0 5 rfl rfl)
theorem dX2_layFree_6 : decode cX2_layFree 6 = .ok (.iconst 0, 1) := dk_3 (dk_at dksX2_layFree_0 6 rfl rfl)
theorem dX2_layFree_7 : decode cX2_layFree 7 = .ok (.putfield 242, 3) := dk_181 0 242 (dk_at dksX2_layFree_0 7 rfl rfl)
theorem dX2_layFree_10 : decode cX2_layFree 10 = .ok (.iconst 0, 1) := dk_3 (dk_at dksX2_layFree_0 10 rfl rfl)
theorem dX2_layFree_11 : decode cX2_layFree 11 = .ok (.istore_n 2, 1) := dk_61 (dk_at dksX2_layFree_0 11 rfl rfl)
theorem dX2_layFree_12 : decode cX2_layFree 12 = .ok (.iload_n 2, 1) := dk_28 (dk_at dksX2_layFree_0 12 rfl rfl)
theorem dX2_layFree_13 : decode cX2_layFree 13 = .ok (.aload_n 0, 1) := dk_42 (dk_at dksX2_layFree_0 13 rfl rfl)
theorem dX2_layFree_14 : decode cX2_layFree 14 = .ok (.getfield 173, 3) := dk_180 0 173 (dk_at dksX2_layFree_0 14 rfl rfl)
theorem dX2_layFree_17 : decode cX2_layFree 17 = .ok (.if_icmp .ge 154, 3) := dk_162 0 154 (dk_at dksX2_layFree_0 17 rfl rfl)
theorem dX2_layFree_20 : decode cX2_layFree 20 = .ok (.iconst 0, 1) := dk_3 (dk_at dksX2_layFree_0 20 rfl rfl)
theorem dX2_layFree_21 : decode cX2_layFree 21 = .ok (.istore_n 3, 1) := dk_62 (dk_at dksX2_layFree_0 21 rfl rfl)
theorem dX2_layFree_22 : decode cX2_layFree 22 = .ok (.iload_n 3, 1) := dk_29 (dk_at dksX2_layFree_0 22 rfl rfl)
theorem dX2_layFree_23 : decode cX2_layFree 23 = .ok (.aload_n 0, 1) := dk_42 (dk_at dksX2_layFree_0 23 rfl rfl)
theorem dX2_layFree_24 : decode cX2_layFree 24 = .ok (.getfield 170, 3) := dk_180 0 170 (dk_at dksX2_layFree_1 0 rfl rfl)
theorem dX2_layFree_27 : decode cX2_layFree 27 = .ok (.if_icmp .ge 138, 3) := dk_162 0 138 (dk_at dksX2_layFree_1 3 rfl rfl)
theorem dX2_layFree_30 : decode cX2_layFree 30 = .ok (.aload_n 0, 1) := dk_42 (dk_at dksX2_layFree_1 6 rfl rfl)
theorem dX2_layFree_31 : decode cX2_layFree 31 = .ok (.getfield 173, 3) := dk_180 0 173 (dk_at dksX2_layFree_1 7 rfl rfl)
theorem dX2_layFree_34 : decode cX2_layFree 34 = .ok (.iload_n 2, 1) := dk_28 (dk_at dksX2_layFree_1 10 rfl rfl)
theorem dX2_layFree_35 : decode cX2_layFree 35 = .ok (.isub, 1) := dk_100 (dk_at dksX2_layFree_1 11 rfl rfl)
theorem dX2_layFree_36 : decode cX2_layFree 36 = .ok (.istore 4, 2) := dk_54 4 (dk_at dksX2_layFree_1 12 rfl rfl)
theorem dX2_layFree_38 : decode cX2_layFree 38 = .ok (.iconst 1, 1) := dk_4 (dk_at dksX2_layFree_1 14 rfl rfl)
theorem dX2_layFree_39 : decode cX2_layFree 39 = .ok (.istore 5, 2) := dk_54 5 (dk_at dksX2_layFree_1 15 rfl rfl)
theorem dX2_layFree_41 : decode cX2_layFree 41 = .ok (.aload_n 0, 1) := dk_42 (dk_at dksX2_layFree_1 17 rfl rfl)
theorem dX2_layFree_42 : decode cX2_layFree 42 = .ok (.iload_n 3, 1) := dk_29 (dk_at dksX2_layFree_1 18 rfl rfl)
theorem dX2_layFree_43 : decode cX2_layFree 43 = .ok (.iload_n 2, 1) := dk_28 (dk_at dksX2_layFree_1 19 rfl rfl)
theorem dX2_layFree_44 : decode cX2_layFree 44 = .ok (.iload 5, 2) := dk_21 5 (dk_at dksX2_layFree_1 20 rfl rfl)
theorem dX2_layFree_46 : decode cX2_layFree 46 = .ok (.iconst 1, 1) := dk_4 (dk_at dksX2_layFree_1 22 rfl rfl)
theorem dX2_layFree_47 : decode cX2_layFree 47 = .ok (.invokevirtual 235, 3) := dk_182 0 235 (dk_at dksX2_layFree_2 0 rfl rfl)
theorem dX2_layFree_50 : decode cX2_layFree 50 = .ok (.ifCond .eq 109, 3) := dk_153 0 109 (dk_at dksX2_layFree_2 3 rfl rfl)
theorem dX2_layFree_53 : decode cX2_layFree 53 = .ok (.iconst 1, 1) := dk_4 (dk_at dksX2_layFree_2 6 rfl rfl)
theorem dX2_layFree_54 : decode cX2_layFree 54 = .ok (.istore 6, 2) := dk_54 6 (dk_at dksX2_layFree_2 7 rfl rfl)
theorem dX2_layFree_56 : decode cX2_layFree 56 = .ok (.iload 6, 2) := dk_21 6 (dk_at dksX2_layFree_2 9 rfl rfl)
theorem dX2_layFree_58 : decode cX2_layFree 58 = .ok (.iload 4, 2) := dk_21 4 (dk_at dksX2_layFree_2 11 rfl rfl)
theorem dX2_layFree_60 : decode cX2_layFree 60 = .ok (.if_icmp .ge 24, 3) := dk_162 0 24 (dk_at dksX2_layFree_2 13 rfl rfl)
theorem dX2_layFree_63 : decode cX2_layFree 63 = .ok (.aload_n 0, 1) := dk_42 (dk_at dksX2_layFree_2 16 rfl rfl)
theorem dX2_layFree_64 : decode cX2_layFree 64 = .ok (.iload_n 3, 1) := dk_29 (dk_at dksX2_layFree_2 17 rfl rfl)
theorem dX2_layFree_65 : decode cX2_layFree 65 = .ok (.iload_n 2, 1) := dk_28 (dk_at dksX2_layFree_2 18 rfl rfl)
theorem dX2_layFree_66 : decode cX2_layFree 66 = .ok (.iload 6, 2) := dk_21 6 (dk_at dksX2_layFree_2 19 rfl rfl)
theorem dX2_layFree_68 : decode cX2_layFree 68 = .ok (.iadd, 1) := dk_96 (dk_at dksX2_layFree_2 21 rfl rfl)
theorem dX2_layFree_69 : decode cX2_layFree 69 = .ok (.iload 5, 2) := dk_21 5 (dk_at dksX2_layFree_2 22 rfl rfl)
theorem dX2_layFree_71 : decode cX2_layFree 71 = .ok (.iconst 1, 1) := dk_4 (dk_at dksX2_layFree_3 0 rfl rfl)
theorem dX2_layFree_72 : decode cX2_layFree 72 = .ok (.invokevirtual 235, 3) := dk_182 0 235 (dk_at dksX2_layFree_3 1 rfl rfl)
theorem dX2_layFree_75 : decode cX2_layFree 75 = .ok (.ifCond .eq 9, 3) := dk_153 0 9 (dk_at dksX2_layFree_3 4 rfl rfl)
theorem dX2_layFree_78 : decode cX2_layFree 78 = .ok (.iinc 6 1, 3) := dk_132 6 1 (dk_at dksX2_layFree_3 7 rfl rfl)
theorem dX2_layFree_81 : decode cX2_layFree 81 = .ok (.goto (-25), 3) := dk_167 255 231 (dk_at dksX2_layFree_3 10 rfl rfl)
theorem dX2_layFree_84 : decode cX2_layFree 84 = .ok (.iload 6, 2) := dk_21 6 (dk_at dksX2_layFree_3 13 rfl rfl)
theorem dX2_layFree_86 : decode cX2_layFree 86 = .ok (.istore 4, 2) := dk_54 4 (dk_at dksX2_layFree_3 15 rfl rfl)
theorem dX2_layFree_88 : decode cX2_layFree 88 = .ok (.aload_n 0, 1) := dk_42 (dk_at dksX2_layFree_3 17 rfl rfl)
theorem dX2_layFree_89 : decode cX2_layFree 89 = .ok (.iload_n 3, 1) := dk_29 (dk_at dksX2_layFree_3 18 rfl rfl)
theorem dX2_layFree_90 : decode cX2_layFree 90 = .ok (.iload_n 2, 1) := dk_28 (dk_at dksX2_layFree_3 19 rfl rfl)
theorem dX2_layFree_91 : decode cX2_layFree 91 = .ok (.iload 5, 2) := dk_21 5 (dk_at dksX2_layFree_3 20 rfl rfl)
theorem dX2_layFree_93 : decode cX2_layFree 93 = .ok (.iload 6, 2) := dk_21 6 (dk_at dksX2_layFree_3 22 rfl rfl)
theorem dX2_layFree_95 : decode cX2_layFree 95 = .ok (.invokevirtual 245, 3) := dk_182 0 245 (dk_at dksX2_layFree_4 0 rfl rfl)
theorem dX2_layFree_98 : decode cX2_layFree 98 = .ok (.ifCond .eq 55, 3) := dk_153 0 55 (dk_at dksX2_layFree_4 3 rfl rfl)
theorem dX2_layFree_101 : decode cX2_layFree 101 = .ok (.aload_n 0, 1) := dk_42 (dk_at dksX2_layFree_4 6 rfl rfl)
theorem dX2_layFree_102 : decode cX2_layFree 102 = .ok (.getfield 44, 3) := dk_180 0 44 (dk_at dksX2_layFree_4 7 rfl rfl)
theorem dX2_layFree_105 : decode cX2_layFree 105 = .ok (.aload_n 0, 1) := dk_42 (dk_at dksX2_layFree_4 10 rfl rfl)
theorem dX2_layFree_106 : decode cX2_layFree 106 = .ok (.getfield 242, 3) := dk_180 0 242 (dk_at dksX2_layFree_4 11 rfl rfl)
theorem dX2_layFree_109 : decode cX2_layFree 109 = .ok (.iload_n 3, 1) := dk_29 (dk_at dksX2_layFree_4 14 rfl rfl)
theorem dX2_layFree_110 : decode cX2_layFree 110 = .ok (.iastore, 1) := dk_79 (dk_at dksX2_layFree_4 15 rfl rfl)
theorem dX2_layFree_111 : decode cX2_layFree 111 = .ok (.aload_n 0, 1) := dk_42 (dk_at dksX2_layFree_4 16 rfl rfl)
theorem dX2_layFree_112 : decode cX2_layFree 112 = .ok (.getfield 47, 3) := dk_180 0 47 (dk_at dksX2_layFree_4 17 rfl rfl)
theorem dX2_layFree_115 : decode cX2_layFree 115 = .ok (.aload_n 0, 1) := dk_42 (dk_at dksX2_layFree_4 20 rfl rfl)
theorem dX2_layFree_116 : decode cX2_layFree 116 = .ok (.getfield 242, 3) := dk_180 0 242 (dk_at dksX2_layFree_4 21 rfl rfl)
theorem dX2_layFree_119 : decode cX2_layFree 119 = .ok (.iload_n 2, 1) := dk_28 (dk_at dksX2_layFree_5 0 rfl rfl)
theorem dX2_layFree_120 : decode cX2_layFree 120 = .ok (.iastore, 1) := dk_79 (dk_at dksX2_layFree_5 1 rfl rfl)
theorem dX2_layFree_121 : decode cX2_layFree 121 = .ok (.aload_n 0, 1) := dk_42 (dk_at dksX2_layFree_5 2 rfl rfl)
theorem dX2_layFree_122 : decode cX2_layFree 122 = .ok (.getfield 50, 3) := dk_180 0 50 (dk_at dksX2_layFree_5 3 rfl rfl)
theorem dX2_layFree_125 : decode cX2_layFree 125 = .ok (.aload_n 0, 1) := dk_42 (dk_at dksX2_layFree_5 6 rfl rfl)
theorem dX2_layFree_126 : decode cX2_layFree 126 = .ok (.getfield 242, 3) := dk_180 0 242 (dk_at dksX2_layFree_5 7 rfl rfl)
theorem dX2_layFree_129 : decode cX2_layFree 129 = .ok (.iload 5, 2) := dk_21 5 (dk_at dksX2_layFree_5 10 rfl rfl)
theorem dX2_layFree_131 : decode cX2_layFree 131 = .ok (.iastore, 1) := dk_79 (dk_at dksX2_layFree_5 12 rfl rfl)
theorem dX2_layFree_132 : decode cX2_layFree 132 = .ok (.aload_n 0, 1) := dk_42 (dk_at dksX2_layFree_5 13 rfl rfl)
theorem dX2_layFree_133 : decode cX2_layFree 133 = .ok (.getfield 53, 3) := dk_180 0 53 (dk_at dksX2_layFree_5 14 rfl rfl)
theorem dX2_layFree_136 : decode cX2_layFree 136 = .ok (.aload_n 0, 1) := dk_42 (dk_at dksX2_layFree_5 17 rfl rfl)
theorem dX2_layFree_137 : decode cX2_layFree 137 = .ok (.getfield 242, 3) := dk_180 0 242 (dk_at dksX2_layFree_5 18 rfl rfl)
theorem dX2_layFree_140 : decode cX2_layFree 140 = .ok (.iload 6, 2) := dk_21 6 (dk_at dksX2_layFree_5 21 rfl rfl)
theorem dX2_layFree_142 : decode cX2_layFree 142 = .ok (.iastore, 1) := dk_79 (dk_at dksX2_layFree_5 23 rfl rfl)
theorem dX2_layFree_143 : decode cX2_layFree 143 = .ok (.aload_n 0, 1) := dk_42 (dk_at dksX2_layFree_6 0 rfl rfl)
theorem dX2_layFree_144 : decode cX2_layFree 144 = .ok (.dup, 1) := dk_89 (dk_at dksX2_layFree_6 1 rfl rfl)
theorem dX2_layFree_145 : decode cX2_layFree 145 = .ok (.getfield 242, 3) := dk_180 0 242 (dk_at dksX2_layFree_6 2 rfl rfl)
theorem dX2_layFree_148 : decode cX2_layFree 148 = .ok (.iconst 1, 1) := dk_4 (dk_at dksX2_layFree_6 5 rfl rfl)
theorem dX2_layFree_149 : decode cX2_layFree 149 = .ok (.iadd, 1) := dk_96 (dk_at dksX2_layFree_6 6 rfl rfl)
theorem dX2_layFree_150 : decode cX2_layFree 150 = .ok (.putfield 242, 3) := dk_181 0 242 (dk_at dksX2_layFree_6 7 rfl rfl)
theorem dX2_layFree_153 : decode cX2_layFree 153 = .ok (.iinc 5 1, 3) := dk_132 5 1 (dk_at dksX2_layFree_6 10 rfl rfl)
theorem dX2_layFree_156 : decode cX2_layFree 156 = .ok (.goto (-115), 3) := dk_167 255 141 (dk_at dksX2_layFree_6 13 rfl rfl)
theorem dX2_layFree_159 : decode cX2_layFree 159 = .ok (.iinc 3 1, 3) := dk_132 3 1 (dk_at dksX2_layFree_6 16 rfl rfl)
theorem dX2_layFree_162 : decode cX2_layFree 162 = .ok (.goto (-140), 3) := dk_167 255 116 (dk_at dksX2_layFree_6 19 rfl rfl)
theorem dX2_layFree_165 : decode cX2_layFree 165 = .ok (.iinc 2 1, 3) := dk_132 2 1 (dk_at dksX2_layFree_7 0 rfl rfl)
theorem dX2_layFree_168 : decode cX2_layFree 168 = .ok (.goto (-156), 3) := dk_167 255 100 (dk_at dksX2_layFree_7 3 rfl rfl)
theorem dX2_layFree_171 : decode cX2_layFree 171 = .ok (.return_, 1) := dk_177 (dk_at dksX2_layFree_7 6 rfl rfl)
abbrev cX2_layGrid : ByteArray := prog_13_method_57_code
def yX2_layGrid : MethodName := ⟨RX2, "layGrid", "(I)V"⟩
def dkwX2_layGrid_5 : List UInt8 := [28, 79, 132, 5, 1, 167, 255, 206, 132, 4, 1, 167, 255, 186, 132, 2, 1, 167, 255, 144, 177]
abbrev dktX2_layGrid_5 : List UInt8 := dkwX2_layGrid_5 ++ []
def dkwX2_layGrid_4 : List UInt8 := [7, 28, 104, 5, 96, 46, 21, 4, 96, 104, 42, 180, 0, 35, 7, 28, 104, 4, 96, 46, 96, 21, 5, 96]
abbrev dktX2_layGrid_4 : List UInt8 := dkwX2_layGrid_4 ++ dktX2_layGrid_5
def dkwX2_layGrid_3 : List UInt8 := [3, 54, 5, 21, 5, 42, 28, 29, 182, 0, 220, 162, 0, 45, 42, 180, 0, 41, 16, 16, 42, 180, 0, 35]
abbrev dktX2_layGrid_3 : List UInt8 := dkwX2_layGrid_3 ++ dktX2_layGrid_4
def dkwX2_layGrid_2 : List UInt8 := [180, 0, 35, 7, 28, 104, 6, 96, 46, 62, 3, 54, 4, 21, 4, 42, 28, 29, 182, 0, 229, 162, 0, 65]
abbrev dktX2_layGrid_2 : List UInt8 := dkwX2_layGrid_2 ++ dktX2_layGrid_3
def dkwX2_layGrid_1 : List UInt8 := [61, 28, 42, 180, 0, 179, 162, 0, 110, 42, 180, 0, 35, 7, 28, 104, 3, 96, 46, 27, 160, 0, 90, 42]
abbrev dktX2_layGrid_1 : List UInt8 := dkwX2_layGrid_1 ++ dktX2_layGrid_2
def dkwX2_layGrid_0 : List UInt8 := [3, 61, 28, 17, 1, 0, 162, 0, 17, 42, 180, 0, 41, 28, 16, 247, 79, 132, 2, 1, 167, 255, 238, 3]
abbrev dktX2_layGrid_0 : List UInt8 := dkwX2_layGrid_0 ++ dktX2_layGrid_1
theorem dksX2_layGrid_0 : cX2_layGrid.data.toList.drop 0 = dktX2_layGrid_0 := by decide +kernel
theorem dksX2_layGrid_1 : cX2_layGrid.data.toList.drop 24 = dktX2_layGrid_1 := dk_seg dksX2_layGrid_0 24 rfl rfl
theorem dksX2_layGrid_2 : cX2_layGrid.data.toList.drop 48 = dktX2_layGrid_2 := dk_seg dksX2_layGrid_1 24 rfl rfl
theorem dksX2_layGrid_3 : cX2_layGrid.data.toList.drop 72 = dktX2_layGrid_3 := dk_seg dksX2_layGrid_2 24 rfl rfl
theorem dksX2_layGrid_4 : cX2_layGrid.data.toList.drop 96 = dktX2_layGrid_4 := dk_seg dksX2_layGrid_3 24 rfl rfl
theorem dksX2_layGrid_5 : cX2_layGrid.data.toList.drop 120 = dktX2_layGrid_5 := dk_seg dksX2_layGrid_4 24 rfl rfl
theorem dX2_layGrid_0 : decode cX2_layGrid 0 = .ok (.iconst 0, 1) := dk_3 (dk_at dksX2_layGrid_0 0 rfl rfl)
theorem dX2_layGrid_1 : decode cX2_layGrid 1 = .ok (.istore_n 2, 1) := dk_61 (dk_at dksX2_layGrid_0 1 rfl rfl)
theorem dX2_layGrid_2 : decode cX2_layGrid 2 = .ok (.iload_n 2, 1) := dk_28 (dk_at dksX2_layGrid_0 2 rfl rfl)
theorem dX2_layGrid_3 : decode cX2_layGrid 3 = .ok (.sipush 256, 3) := dk_17 1 0 (dk_at dksX2_layGrid_0 3 rfl rfl)
theorem dX2_layGrid_6 : decode cX2_layGrid 6 = .ok (.if_icmp .ge 17, 3) := dk_162 0 17 (dk_at dksX2_layGrid_0 6 rfl rfl)
theorem dX2_layGrid_9 : decode cX2_layGrid 9 = .ok (.aload_n 0, 1) := dk_42 (dk_at dksX2_layGrid_0 9 rfl rfl)
theorem dX2_layGrid_10 : decode cX2_layGrid 10 = .ok (.getfield 41, 3) := dk_180 0 41 (dk_at dksX2_layGrid_0 10 rfl rfl)
theorem dX2_layGrid_13 : decode cX2_layGrid 13 = .ok (.iload_n 2, 1) := dk_28 (dk_at dksX2_layGrid_0 13 rfl rfl)
theorem dX2_layGrid_14 : decode cX2_layGrid 14 = .ok (.bipush (-9), 2) := dk_16 247 (dk_at dksX2_layGrid_0 14 rfl rfl)
theorem dX2_layGrid_16 : decode cX2_layGrid 16 = .ok (.iastore, 1) := dk_79 (dk_at dksX2_layGrid_0 16 rfl rfl)
theorem dX2_layGrid_17 : decode cX2_layGrid 17 = .ok (.iinc 2 1, 3) := dk_132 2 1 (dk_at dksX2_layGrid_0 17 rfl rfl)
theorem dX2_layGrid_20 : decode cX2_layGrid 20 = .ok (.goto (-18), 3) := dk_167 255 238 (dk_at dksX2_layGrid_0 20 rfl rfl)
theorem dX2_layGrid_23 : decode cX2_layGrid 23 = .ok (.iconst 0, 1) := dk_3 (dk_at dksX2_layGrid_0 23 rfl rfl)
theorem dX2_layGrid_24 : decode cX2_layGrid 24 = .ok (.istore_n 2, 1) := dk_61 (dk_at dksX2_layGrid_1 0 rfl rfl)
theorem dX2_layGrid_25 : decode cX2_layGrid 25 = .ok (.iload_n 2, 1) := dk_28 (dk_at dksX2_layGrid_1 1 rfl rfl)
theorem dX2_layGrid_26 : decode cX2_layGrid 26 = .ok (.aload_n 0, 1) := dk_42 (dk_at dksX2_layGrid_1 2 rfl rfl)
theorem dX2_layGrid_27 : decode cX2_layGrid 27 = .ok (.getfield 179, 3) := dk_180 0 179 (dk_at dksX2_layGrid_1 3 rfl rfl)
theorem dX2_layGrid_30 : decode cX2_layGrid 30 = .ok (.if_icmp .ge 110, 3) := dk_162 0 110 (dk_at dksX2_layGrid_1 6 rfl rfl)
theorem dX2_layGrid_33 : decode cX2_layGrid 33 = .ok (.aload_n 0, 1) := dk_42 (dk_at dksX2_layGrid_1 9 rfl rfl)
theorem dX2_layGrid_34 : decode cX2_layGrid 34 = .ok (.getfield 35, 3) := dk_180 0 35 (dk_at dksX2_layGrid_1 10 rfl rfl)
theorem dX2_layGrid_37 : decode cX2_layGrid 37 = .ok (.iconst 4, 1) := dk_7 (dk_at dksX2_layGrid_1 13 rfl rfl)
theorem dX2_layGrid_38 : decode cX2_layGrid 38 = .ok (.iload_n 2, 1) := dk_28 (dk_at dksX2_layGrid_1 14 rfl rfl)
theorem dX2_layGrid_39 : decode cX2_layGrid 39 = .ok (.imul, 1) := dk_104 (dk_at dksX2_layGrid_1 15 rfl rfl)
theorem dX2_layGrid_40 : decode cX2_layGrid 40 = .ok (.iconst 0, 1) := dk_3 (dk_at dksX2_layGrid_1 16 rfl rfl)
theorem dX2_layGrid_41 : decode cX2_layGrid 41 = .ok (.iadd, 1) := dk_96 (dk_at dksX2_layGrid_1 17 rfl rfl)
theorem dX2_layGrid_42 : decode cX2_layGrid 42 = .ok (.iaload, 1) := dk_46 (dk_at dksX2_layGrid_1 18 rfl rfl)
theorem dX2_layGrid_43 : decode cX2_layGrid 43 = .ok (.iload_n 1, 1) := dk_27 (dk_at dksX2_layGrid_1 19 rfl rfl)
theorem dX2_layGrid_44 : decode cX2_layGrid 44 = .ok (.if_icmp .ne 90, 3) := dk_160 0 90 (dk_at dksX2_layGrid_1 20 rfl rfl)
theorem dX2_layGrid_47 : decode cX2_layGrid 47 = .ok (.aload_n 0, 1) := dk_42 (dk_at dksX2_layGrid_1 23 rfl rfl)
theorem dX2_layGrid_48 : decode cX2_layGrid 48 = .ok (.getfield 35, 3) := dk_180 0 35 (dk_at dksX2_layGrid_2 0 rfl rfl)
theorem dX2_layGrid_51 : decode cX2_layGrid 51 = .ok (.iconst 4, 1) := dk_7 (dk_at dksX2_layGrid_2 3 rfl rfl)
theorem dX2_layGrid_52 : decode cX2_layGrid 52 = .ok (.iload_n 2, 1) := dk_28 (dk_at dksX2_layGrid_2 4 rfl rfl)
theorem dX2_layGrid_53 : decode cX2_layGrid 53 = .ok (.imul, 1) := dk_104 (dk_at dksX2_layGrid_2 5 rfl rfl)
theorem dX2_layGrid_54 : decode cX2_layGrid 54 = .ok (.iconst 3, 1) := dk_6 (dk_at dksX2_layGrid_2 6 rfl rfl)
theorem dX2_layGrid_55 : decode cX2_layGrid 55 = .ok (.iadd, 1) := dk_96 (dk_at dksX2_layGrid_2 7 rfl rfl)
theorem dX2_layGrid_56 : decode cX2_layGrid 56 = .ok (.iaload, 1) := dk_46 (dk_at dksX2_layGrid_2 8 rfl rfl)
theorem dX2_layGrid_57 : decode cX2_layGrid 57 = .ok (.istore_n 3, 1) := dk_62 (dk_at dksX2_layGrid_2 9 rfl rfl)
theorem dX2_layGrid_58 : decode cX2_layGrid 58 = .ok (.iconst 0, 1) := dk_3 (dk_at dksX2_layGrid_2 10 rfl rfl)
theorem dX2_layGrid_59 : decode cX2_layGrid 59 = .ok (.istore 4, 2) := dk_54 4 (dk_at dksX2_layGrid_2 11 rfl rfl)
theorem dX2_layGrid_61 : decode cX2_layGrid 61 = .ok (.iload 4, 2) := dk_21 4 (dk_at dksX2_layGrid_2 13 rfl rfl)
theorem dX2_layGrid_63 : decode cX2_layGrid 63 = .ok (.aload_n 0, 1) := dk_42 (dk_at dksX2_layGrid_2 15 rfl rfl)
theorem dX2_layGrid_64 : decode cX2_layGrid 64 = .ok (.iload_n 2, 1) := dk_28 (dk_at dksX2_layGrid_2 16 rfl rfl)
theorem dX2_layGrid_65 : decode cX2_layGrid 65 = .ok (.iload_n 3, 1) := dk_29 (dk_at dksX2_layGrid_2 17 rfl rfl)
theorem dX2_layGrid_66 : decode cX2_layGrid 66 = .ok (.invokevirtual 229, 3) := dk_182 0 229 (dk_at dksX2_layGrid_2 18 rfl rfl)
theorem dX2_layGrid_69 : decode cX2_layGrid 69 = .ok (.if_icmp .ge 65, 3) := dk_162 0 65 (dk_at dksX2_layGrid_2 21 rfl rfl)
theorem dX2_layGrid_72 : decode cX2_layGrid 72 = .ok (.iconst 0, 1) := dk_3 (dk_at dksX2_layGrid_3 0 rfl rfl)
theorem dX2_layGrid_73 : decode cX2_layGrid 73 = .ok (.istore 5, 2) := dk_54 5 (dk_at dksX2_layGrid_3 1 rfl rfl)
theorem dX2_layGrid_75 : decode cX2_layGrid 75 = .ok (.iload 5, 2) := dk_21 5 (dk_at dksX2_layGrid_3 3 rfl rfl)
theorem dX2_layGrid_77 : decode cX2_layGrid 77 = .ok (.aload_n 0, 1) := dk_42 (dk_at dksX2_layGrid_3 5 rfl rfl)
theorem dX2_layGrid_78 : decode cX2_layGrid 78 = .ok (.iload_n 2, 1) := dk_28 (dk_at dksX2_layGrid_3 6 rfl rfl)
theorem dX2_layGrid_79 : decode cX2_layGrid 79 = .ok (.iload_n 3, 1) := dk_29 (dk_at dksX2_layGrid_3 7 rfl rfl)
theorem dX2_layGrid_80 : decode cX2_layGrid 80 = .ok (.invokevirtual 220, 3) := dk_182 0 220 (dk_at dksX2_layGrid_3 8 rfl rfl)
theorem dX2_layGrid_83 : decode cX2_layGrid 83 = .ok (.if_icmp .ge 45, 3) := dk_162 0 45 (dk_at dksX2_layGrid_3 11 rfl rfl)
theorem dX2_layGrid_86 : decode cX2_layGrid 86 = .ok (.aload_n 0, 1) := dk_42 (dk_at dksX2_layGrid_3 14 rfl rfl)
theorem dX2_layGrid_87 : decode cX2_layGrid 87 = .ok (.getfield 41, 3) := dk_180 0 41 (dk_at dksX2_layGrid_3 15 rfl rfl)
theorem dX2_layGrid_90 : decode cX2_layGrid 90 = .ok (.bipush 16, 2) := dk_16 16 (dk_at dksX2_layGrid_3 18 rfl rfl)
theorem dX2_layGrid_92 : decode cX2_layGrid 92 = .ok (.aload_n 0, 1) := dk_42 (dk_at dksX2_layGrid_3 20 rfl rfl)
theorem dX2_layGrid_93 : decode cX2_layGrid 93 = .ok (.getfield 35, 3) := dk_180 0 35 (dk_at dksX2_layGrid_3 21 rfl rfl)
theorem dX2_layGrid_96 : decode cX2_layGrid 96 = .ok (.iconst 4, 1) := dk_7 (dk_at dksX2_layGrid_4 0 rfl rfl)
theorem dX2_layGrid_97 : decode cX2_layGrid 97 = .ok (.iload_n 2, 1) := dk_28 (dk_at dksX2_layGrid_4 1 rfl rfl)
theorem dX2_layGrid_98 : decode cX2_layGrid 98 = .ok (.imul, 1) := dk_104 (dk_at dksX2_layGrid_4 2 rfl rfl)
theorem dX2_layGrid_99 : decode cX2_layGrid 99 = .ok (.iconst 2, 1) := dk_5 (dk_at dksX2_layGrid_4 3 rfl rfl)
theorem dX2_layGrid_100 : decode cX2_layGrid 100 = .ok (.iadd, 1) := dk_96 (dk_at dksX2_layGrid_4 4 rfl rfl)
theorem dX2_layGrid_101 : decode cX2_layGrid 101 = .ok (.iaload, 1) := dk_46 (dk_at dksX2_layGrid_4 5 rfl rfl)
theorem dX2_layGrid_102 : decode cX2_layGrid 102 = .ok (.iload 4, 2) := dk_21 4 (dk_at dksX2_layGrid_4 6 rfl rfl)
theorem dX2_layGrid_104 : decode cX2_layGrid 104 = .ok (.iadd, 1) := dk_96 (dk_at dksX2_layGrid_4 8 rfl rfl)
theorem dX2_layGrid_105 : decode cX2_layGrid 105 = .ok (.imul, 1) := dk_104 (dk_at dksX2_layGrid_4 9 rfl rfl)
theorem dX2_layGrid_106 : decode cX2_layGrid 106 = .ok (.aload_n 0, 1) := dk_42 (dk_at dksX2_layGrid_4 10 rfl rfl)
theorem dX2_layGrid_107 : decode cX2_layGrid 107 = .ok (.getfield 35, 3) := dk_180 0 35 (dk_at dksX2_layGrid_4 11 rfl rfl)
theorem dX2_layGrid_110 : decode cX2_layGrid 110 = .ok (.iconst 4, 1) := dk_7 (dk_at dksX2_layGrid_4 14 rfl rfl)
theorem dX2_layGrid_111 : decode cX2_layGrid 111 = .ok (.iload_n 2, 1) := dk_28 (dk_at dksX2_layGrid_4 15 rfl rfl)
theorem dX2_layGrid_112 : decode cX2_layGrid 112 = .ok (.imul, 1) := dk_104 (dk_at dksX2_layGrid_4 16 rfl rfl)
theorem dX2_layGrid_113 : decode cX2_layGrid 113 = .ok (.iconst 1, 1) := dk_4 (dk_at dksX2_layGrid_4 17 rfl rfl)
theorem dX2_layGrid_114 : decode cX2_layGrid 114 = .ok (.iadd, 1) := dk_96 (dk_at dksX2_layGrid_4 18 rfl rfl)
theorem dX2_layGrid_115 : decode cX2_layGrid 115 = .ok (.iaload, 1) := dk_46 (dk_at dksX2_layGrid_4 19 rfl rfl)
theorem dX2_layGrid_116 : decode cX2_layGrid 116 = .ok (.iadd, 1) := dk_96 (dk_at dksX2_layGrid_4 20 rfl rfl)
theorem dX2_layGrid_117 : decode cX2_layGrid 117 = .ok (.iload 5, 2) := dk_21 5 (dk_at dksX2_layGrid_4 21 rfl rfl)
theorem dX2_layGrid_119 : decode cX2_layGrid 119 = .ok (.iadd, 1) := dk_96 (dk_at dksX2_layGrid_4 23 rfl rfl)
theorem dX2_layGrid_120 : decode cX2_layGrid 120 = .ok (.iload_n 2, 1) := dk_28 (dk_at dksX2_layGrid_5 0 rfl rfl)
theorem dX2_layGrid_121 : decode cX2_layGrid 121 = .ok (.iastore, 1) := dk_79 (dk_at dksX2_layGrid_5 1 rfl rfl)
theorem dX2_layGrid_122 : decode cX2_layGrid 122 = .ok (.iinc 5 1, 3) := dk_132 5 1 (dk_at dksX2_layGrid_5 2 rfl rfl)
theorem dX2_layGrid_125 : decode cX2_layGrid 125 = .ok (.goto (-50), 3) := dk_167 255 206 (dk_at dksX2_layGrid_5 5 rfl rfl)
theorem dX2_layGrid_128 : decode cX2_layGrid 128 = .ok (.iinc 4 1, 3) := dk_132 4 1 (dk_at dksX2_layGrid_5 8 rfl rfl)
theorem dX2_layGrid_131 : decode cX2_layGrid 131 = .ok (.goto (-70), 3) := dk_167 255 186 (dk_at dksX2_layGrid_5 11 rfl rfl)
theorem dX2_layGrid_134 : decode cX2_layGrid 134 = .ok (.iinc 2 1, 3) := dk_132 2 1 (dk_at dksX2_layGrid_5 14 rfl rfl)
theorem dX2_layGrid_137 : decode cX2_layGrid 137 = .ok (.goto (-112), 3) := dk_167 255 144 (dk_at dksX2_layGrid_5 17 rfl rfl)
theorem dX2_layGrid_140 : decode cX2_layGrid 140 = .ok (.return_, 1) := dk_177 (dk_at dksX2_layGrid_5 20 rfl rfl)
abbrev cX2_isFree : ByteArray := prog_13_method_58_code
def yX2_isFree : MethodName := ⟨RX2, "isFree", "(IIII)Z"⟩
def dkwX2_isFree_3 : List UInt8 := [159, 0, 5, 3, 172, 132, 6, 1, 167, 255, 225, 132, 5, 1, 167, 255, 207, 4, 172]
abbrev dktX2_isFree_3 : List UInt8 := dkwX2_isFree_3 ++ []
def dkwX2_isFree_2 : List UInt8 := [21, 6, 27, 29, 96, 162, 0, 29, 42, 180, 0, 41, 16, 16, 21, 5, 104, 21, 6, 96, 46, 16, 247]
abbrev dktX2_isFree_2 : List UInt8 := dkwX2_isFree_2 ++ dktX2_isFree_3
def dkwX2_isFree_1 : List UInt8 := [180, 0, 173, 164, 0, 5, 3, 172, 28, 54, 5, 21, 5, 28, 21, 4, 96, 162, 0, 46, 27, 54, 6]
abbrev dktX2_isFree_1 : List UInt8 := dkwX2_isFree_1 ++ dktX2_isFree_2
def dkwX2_isFree_0 : List UInt8 := [27, 155, 0, 28, 28, 155, 0, 24, 27, 29, 96, 42, 180, 0, 170, 163, 0, 14, 28, 21, 4, 96, 42]
abbrev dktX2_isFree_0 : List UInt8 := dkwX2_isFree_0 ++ dktX2_isFree_1
theorem dksX2_isFree_0 : cX2_isFree.data.toList.drop 0 = dktX2_isFree_0 := by decide +kernel
theorem dksX2_isFree_1 : cX2_isFree.data.toList.drop 23 = dktX2_isFree_1 := dk_seg dksX2_isFree_0 23 rfl rfl
theorem dksX2_isFree_2 : cX2_isFree.data.toList.drop 46 = dktX2_isFree_2 := dk_seg dksX2_isFree_1 23 rfl rfl
theorem dksX2_isFree_3 : cX2_isFree.data.toList.drop 69 = dktX2_isFree_3 := dk_seg dksX2_isFree_2 23 rfl rfl
theorem dX2_isFree_0 : decode cX2_isFree 0 = .ok (.iload_n 1, 1) := dk_27 (dk_at dksX2_isFree_0 0 rfl rfl)
theorem dX2_isFree_1 : decode cX2_isFree 1 = .ok (.ifCond .lt 28, 3) := dk_155 0 28 (dk_at dksX2_isFree_0 1 rfl rfl)
theorem dX2_isFree_4 : decode cX2_isFree 4 = .ok (.iload_n 2, 1) := dk_28 (dk_at dksX2_isFree_0 4 rfl rfl)
theorem dX2_isFree_5 : decode cX2_isFree 5 = .ok (.ifCond .lt 24, 3) := dk_155 0 24 (dk_at dksX2_isFree_0 5 rfl rfl)
theorem dX2_isFree_8 : decode cX2_isFree 8 = .ok (.iload_n 1, 1) := dk_27 (dk_at dksX2_isFree_0 8 rfl rfl)
theorem dX2_isFree_9 : decode cX2_isFree 9 = .ok (.iload_n 3, 1) := dk_29 (dk_at dksX2_isFree_0 9 rfl rfl)
theorem dX2_isFree_10 : decode cX2_isFree 10 = .ok (.iadd, 1) := dk_96 (dk_at dksX2_isFree_0 10 rfl rfl)
theorem dX2_isFree_11 : decode cX2_isFree 11 = .ok (.aload_n 0, 1) := dk_42 (dk_at dksX2_isFree_0 11 rfl rfl)
theorem dX2_isFree_12 : decode cX2_isFree 12 = .ok (.getfield 170, 3) := dk_180 0 170 (dk_at dksX2_isFree_0 12 rfl rfl)
theorem dX2_isFree_15 : decode cX2_isFree 15 = .ok (.if_icmp .gt 14, 3) := dk_163 0 14 (dk_at dksX2_isFree_0 15 rfl rfl)
theorem dX2_isFree_18 : decode cX2_isFree 18 = .ok (.iload_n 2, 1) := dk_28 (dk_at dksX2_isFree_0 18 rfl rfl)
theorem dX2_isFree_19 : decode cX2_isFree 19 = .ok (.iload 4, 2) := dk_21 4 (dk_at dksX2_isFree_0 19 rfl rfl)
theorem dX2_isFree_21 : decode cX2_isFree 21 = .ok (.iadd, 1) := dk_96 (dk_at dksX2_isFree_0 21 rfl rfl)
theorem dX2_isFree_22 : decode cX2_isFree 22 = .ok (.aload_n 0, 1) := dk_42 (dk_at dksX2_isFree_0 22 rfl rfl)
theorem dX2_isFree_23 : decode cX2_isFree 23 = .ok (.getfield 173, 3) := dk_180 0 173 (dk_at dksX2_isFree_1 0 rfl rfl)
theorem dX2_isFree_26 : decode cX2_isFree 26 = .ok (.if_icmp .le 5, 3) := dk_164 0 5 (dk_at dksX2_isFree_1 3 rfl rfl)
theorem dX2_isFree_29 : decode cX2_isFree 29 = .ok (.iconst 0, 1) := dk_3 (dk_at dksX2_isFree_1 6 rfl rfl)
theorem dX2_isFree_30 : decode cX2_isFree 30 = .ok (.ireturn, 1) := dk_172 (dk_at dksX2_isFree_1 7 rfl rfl)
theorem dX2_isFree_31 : decode cX2_isFree 31 = .ok (.iload_n 2, 1) := dk_28 (dk_at dksX2_isFree_1 8 rfl rfl)
theorem dX2_isFree_32 : decode cX2_isFree 32 = .ok (.istore 5, 2) := dk_54 5 (dk_at dksX2_isFree_1 9 rfl rfl)
theorem dX2_isFree_34 : decode cX2_isFree 34 = .ok (.iload 5, 2) := dk_21 5 (dk_at dksX2_isFree_1 11 rfl rfl)
theorem dX2_isFree_36 : decode cX2_isFree 36 = .ok (.iload_n 2, 1) := dk_28 (dk_at dksX2_isFree_1 13 rfl rfl)
theorem dX2_isFree_37 : decode cX2_isFree 37 = .ok (.iload 4, 2) := dk_21 4 (dk_at dksX2_isFree_1 14 rfl rfl)
theorem dX2_isFree_39 : decode cX2_isFree 39 = .ok (.iadd, 1) := dk_96 (dk_at dksX2_isFree_1 16 rfl rfl)
theorem dX2_isFree_40 : decode cX2_isFree 40 = .ok (.if_icmp .ge 46, 3) := dk_162 0 46 (dk_at dksX2_isFree_1 17 rfl rfl)
theorem dX2_isFree_43 : decode cX2_isFree 43 = .ok (.iload_n 1, 1) := dk_27 (dk_at dksX2_isFree_1 20 rfl rfl)
theorem dX2_isFree_44 : decode cX2_isFree 44 = .ok (.istore 6, 2) := dk_54 6 (dk_at dksX2_isFree_1 21 rfl rfl)
theorem dX2_isFree_46 : decode cX2_isFree 46 = .ok (.iload 6, 2) := dk_21 6 (dk_at dksX2_isFree_2 0 rfl rfl)
theorem dX2_isFree_48 : decode cX2_isFree 48 = .ok (.iload_n 1, 1) := dk_27 (dk_at dksX2_isFree_2 2 rfl rfl)
theorem dX2_isFree_49 : decode cX2_isFree 49 = .ok (.iload_n 3, 1) := dk_29 (dk_at dksX2_isFree_2 3 rfl rfl)
theorem dX2_isFree_50 : decode cX2_isFree 50 = .ok (.iadd, 1) := dk_96 (dk_at dksX2_isFree_2 4 rfl rfl)
theorem dX2_isFree_51 : decode cX2_isFree 51 = .ok (.if_icmp .ge 29, 3) := dk_162 0 29 (dk_at dksX2_isFree_2 5 rfl rfl)
theorem dX2_isFree_54 : decode cX2_isFree 54 = .ok (.aload_n 0, 1) := dk_42 (dk_at dksX2_isFree_2 8 rfl rfl)
theorem dX2_isFree_55 : decode cX2_isFree 55 = .ok (.getfield 41, 3) := dk_180 0 41 (dk_at dksX2_isFree_2 9 rfl rfl)
theorem dX2_isFree_58 : decode cX2_isFree 58 = .ok (.bipush 16, 2) := dk_16 16 (dk_at dksX2_isFree_2 12 rfl rfl)
theorem dX2_isFree_60 : decode cX2_isFree 60 = .ok (.iload 5, 2) := dk_21 5 (dk_at dksX2_isFree_2 14 rfl rfl)
theorem dX2_isFree_62 : decode cX2_isFree 62 = .ok (.imul, 1) := dk_104 (dk_at dksX2_isFree_2 16 rfl rfl)
theorem dX2_isFree_63 : decode cX2_isFree 63 = .ok (.iload 6, 2) := dk_21 6 (dk_at dksX2_isFree_2 17 rfl rfl)
theorem dX2_isFree_65 : decode cX2_isFree 65 = .ok (.iadd, 1) := dk_96 (dk_at dksX2_isFree_2 19 rfl rfl)
theorem dX2_isFree_66 : decode cX2_isFree 66 = .ok (.iaload, 1) := dk_46 (dk_at dksX2_isFree_2 20 rfl rfl)
theorem dX2_isFree_67 : decode cX2_isFree 67 = .ok (.bipush (-9), 2) := dk_16 247 (dk_at dksX2_isFree_2 21 rfl rfl)
theorem dX2_isFree_69 : decode cX2_isFree 69 = .ok (.if_icmp .eq 5, 3) := dk_159 0 5 (dk_at dksX2_isFree_3 0 rfl rfl)
theorem dX2_isFree_72 : decode cX2_isFree 72 = .ok (.iconst 0, 1) := dk_3 (dk_at dksX2_isFree_3 3 rfl rfl)
theorem dX2_isFree_73 : decode cX2_isFree 73 = .ok (.ireturn, 1) := dk_172 (dk_at dksX2_isFree_3 4 rfl rfl)
theorem dX2_isFree_74 : decode cX2_isFree 74 = .ok (.iinc 6 1, 3) := dk_132 6 1 (dk_at dksX2_isFree_3 5 rfl rfl)
theorem dX2_isFree_77 : decode cX2_isFree 77 = .ok (.goto (-31), 3) := dk_167 255 225 (dk_at dksX2_isFree_3 8 rfl rfl)
theorem dX2_isFree_80 : decode cX2_isFree 80 = .ok (.iinc 5 1, 3) := dk_132 5 1 (dk_at dksX2_isFree_3 11 rfl rfl)
theorem dX2_isFree_83 : decode cX2_isFree 83 = .ok (.goto (-49), 3) := dk_167 255 207 (dk_at dksX2_isFree_3 14 rfl rfl)
theorem dX2_isFree_86 : decode cX2_isFree 86 = .ok (.iconst 1, 1) := dk_4 (dk_at dksX2_isFree_3 17 rfl rfl)
theorem dX2_isFree_87 : decode cX2_isFree 87 = .ok (.ireturn, 1) := dk_172 (dk_at dksX2_isFree_3 18 rfl rfl)
abbrev cX2_isGreatest : ByteArray := prog_13_method_59_code
def yX2_isGreatest : MethodName := ⟨RX2, "isGreatest", "(IIII)Z"⟩
def dkwX2_isGreatest_2 : List UInt8 := [4, 182, 0, 235, 154, 0, 7, 4, 167, 0, 4, 3, 172]
abbrev dktX2_isGreatest_2 : List UInt8 := dkwX2_isGreatest_2 ++ []
def dkwX2_isGreatest_1 : List UInt8 := [154, 0, 35, 42, 27, 29, 96, 28, 4, 21, 4, 182, 0, 235, 154, 0, 21, 42, 27, 28, 21, 4, 96, 29]
abbrev dktX2_isGreatest_1 : List UInt8 := dkwX2_isGreatest_1 ++ dktX2_isGreatest_2
def dkwX2_isGreatest_0 : List UInt8 := [42, 27, 4, 100, 28, 4, 21, 4, 182, 0, 235, 154, 0, 48, 42, 27, 28, 4, 100, 29, 4, 182, 0, 235]
abbrev dktX2_isGreatest_0 : List UInt8 := dkwX2_isGreatest_0 ++ dktX2_isGreatest_1
theorem dksX2_isGreatest_0 : cX2_isGreatest.data.toList.drop 0 = dktX2_isGreatest_0 := by decide +kernel
theorem dksX2_isGreatest_1 : cX2_isGreatest.data.toList.drop 24 = dktX2_isGreatest_1 := dk_seg dksX2_isGreatest_0 24 rfl rfl
theorem dksX2_isGreatest_2 : cX2_isGreatest.data.toList.drop 48 = dktX2_isGreatest_2 := dk_seg dksX2_isGreatest_1 24 rfl rfl
theorem dX2_isGreatest_0 : decode cX2_isGreatest 0 = .ok (.aload_n 0, 1) := dk_42 (dk_at dksX2_isGreatest_0 0 rfl rfl)
theorem dX2_isGreatest_1 : decode cX2_isGreatest 1 = .ok (.iload_n 1, 1) := dk_27 (dk_at dksX2_isGreatest_0 1 rfl rfl)
theorem dX2_isGreatest_2 : decode cX2_isGreatest 2 = .ok (.iconst 1, 1) := dk_4 (dk_at dksX2_isGreatest_0 2 rfl rfl)
theorem dX2_isGreatest_3 : decode cX2_isGreatest 3 = .ok (.isub, 1) := dk_100 (dk_at dksX2_isGreatest_0 3 rfl rfl)
theorem dX2_isGreatest_4 : decode cX2_isGreatest 4 = .ok (.iload_n 2, 1) := dk_28 (dk_at dksX2_isGreatest_0 4 rfl rfl)
theorem dX2_isGreatest_5 : decode cX2_isGreatest 5 = .ok (.iconst 1, 1) := dk_4 (dk_at dksX2_isGreatest_0 5 rfl rfl)
theorem dX2_isGreatest_6 : decode cX2_isGreatest 6 = .ok (.iload 4, 2) := dk_21 4 (dk_at dksX2_isGreatest_0 6 rfl rfl)
theorem dX2_isGreatest_8 : decode cX2_isGreatest 8 = .ok (.invokevirtual 235, 3) := dk_182 0 235 (dk_at dksX2_isGreatest_0 8 rfl rfl)
theorem dX2_isGreatest_11 : decode cX2_isGreatest 11 = .ok (.ifCond .ne 48, 3) := dk_154 0 48 (dk_at dksX2_isGreatest_0 11 rfl rfl)
theorem dX2_isGreatest_14 : decode cX2_isGreatest 14 = .ok (.aload_n 0, 1) := dk_42 (dk_at dksX2_isGreatest_0 14 rfl rfl)
theorem dX2_isGreatest_15 : decode cX2_isGreatest 15 = .ok (.iload_n 1, 1) := dk_27 (dk_at dksX2_isGreatest_0 15 rfl rfl)
theorem dX2_isGreatest_16 : decode cX2_isGreatest 16 = .ok (.iload_n 2, 1) := dk_28 (dk_at dksX2_isGreatest_0 16 rfl rfl)
theorem dX2_isGreatest_17 : decode cX2_isGreatest 17 = .ok (.iconst 1, 1) := dk_4 (dk_at dksX2_isGreatest_0 17 rfl rfl)
theorem dX2_isGreatest_18 : decode cX2_isGreatest 18 = .ok (.isub, 1) := dk_100 (dk_at dksX2_isGreatest_0 18 rfl rfl)
theorem dX2_isGreatest_19 : decode cX2_isGreatest 19 = .ok (.iload_n 3, 1) := dk_29 (dk_at dksX2_isGreatest_0 19 rfl rfl)
theorem dX2_isGreatest_20 : decode cX2_isGreatest 20 = .ok (.iconst 1, 1) := dk_4 (dk_at dksX2_isGreatest_0 20 rfl rfl)
theorem dX2_isGreatest_21 : decode cX2_isGreatest 21 = .ok (.invokevirtual 235, 3) := dk_182 0 235 (dk_at dksX2_isGreatest_0 21 rfl rfl)
theorem dX2_isGreatest_24 : decode cX2_isGreatest 24 = .ok (.ifCond .ne 35, 3) := dk_154 0 35 (dk_at dksX2_isGreatest_1 0 rfl rfl)
theorem dX2_isGreatest_27 : decode cX2_isGreatest 27 = .ok (.aload_n 0, 1) := dk_42 (dk_at dksX2_isGreatest_1 3 rfl rfl)
theorem dX2_isGreatest_28 : decode cX2_isGreatest 28 = .ok (.iload_n 1, 1) := dk_27 (dk_at dksX2_isGreatest_1 4 rfl rfl)
theorem dX2_isGreatest_29 : decode cX2_isGreatest 29 = .ok (.iload_n 3, 1) := dk_29 (dk_at dksX2_isGreatest_1 5 rfl rfl)
theorem dX2_isGreatest_30 : decode cX2_isGreatest 30 = .ok (.iadd, 1) := dk_96 (dk_at dksX2_isGreatest_1 6 rfl rfl)
theorem dX2_isGreatest_31 : decode cX2_isGreatest 31 = .ok (.iload_n 2, 1) := dk_28 (dk_at dksX2_isGreatest_1 7 rfl rfl)
theorem dX2_isGreatest_32 : decode cX2_isGreatest 32 = .ok (.iconst 1, 1) := dk_4 (dk_at dksX2_isGreatest_1 8 rfl rfl)
theorem dX2_isGreatest_33 : decode cX2_isGreatest 33 = .ok (.iload 4, 2) := dk_21 4 (dk_at dksX2_isGreatest_1 9 rfl rfl)
theorem dX2_isGreatest_35 : decode cX2_isGreatest 35 = .ok (.invokevirtual 235, 3) := dk_182 0 235 (dk_at dksX2_isGreatest_1 11 rfl rfl)
theorem dX2_isGreatest_38 : decode cX2_isGreatest 38 = .ok (.ifCond .ne 21, 3) := dk_154 0 21 (dk_at dksX2_isGreatest_1 14 rfl rfl)
theorem dX2_isGreatest_41 : decode cX2_isGreatest 41 = .ok (.aload_n 0, 1) := dk_42 (dk_at dksX2_isGreatest_1 17 rfl rfl)
theorem dX2_isGreatest_42 : decode cX2_isGreatest 42 = .ok (.iload_n 1, 1) := dk_27 (dk_at dksX2_isGreatest_1 18 rfl rfl)
theorem dX2_isGreatest_43 : decode cX2_isGreatest 43 = .ok (.iload_n 2, 1) := dk_28 (dk_at dksX2_isGreatest_1 19 rfl rfl)
theorem dX2_isGreatest_44 : decode cX2_isGreatest 44 = .ok (.iload 4, 2) := dk_21 4 (dk_at dksX2_isGreatest_1 20 rfl rfl)
theorem dX2_isGreatest_46 : decode cX2_isGreatest 46 = .ok (.iadd, 1) := dk_96 (dk_at dksX2_isGreatest_1 22 rfl rfl)
theorem dX2_isGreatest_47 : decode cX2_isGreatest 47 = .ok (.iload_n 3, 1) := dk_29 (dk_at dksX2_isGreatest_1 23 rfl rfl)
theorem dX2_isGreatest_48 : decode cX2_isGreatest 48 = .ok (.iconst 1, 1) := dk_4 (dk_at dksX2_isGreatest_2 0 rfl rfl)
theorem dX2_isGreatest_49 : decode cX2_isGreatest 49 = .ok (.invokevirtual 235, 3) := dk_182 0 235 (dk_at dksX2_isGreatest_2 1 rfl rfl)
theorem dX2_isGreatest_52 : decode cX2_isGreatest 52 = .ok (.ifCond .ne 7, 3) := dk_154 0 7 (dk_at dksX2_isGreatest_2 4 rfl rfl)
theorem dX2_isGreatest_55 : decode cX2_isGreatest 55 = .ok (.iconst 1, 1) := dk_4 (dk_at dksX2_isGreatest_2 7 rfl rfl)
theorem dX2_isGreatest_56 : decode cX2_isGreatest 56 = .ok (.goto 4, 3) := dk_167 0 4 (dk_at dksX2_isGreatest_2 8 rfl rfl)
theorem dX2_isGreatest_59 : decode cX2_isGreatest 59 = .ok (.iconst 0, 1) := dk_3 (dk_at dksX2_isGreatest_2 11 rfl rfl)
theorem dX2_isGreatest_60 : decode cX2_isGreatest 60 = .ok (.ireturn, 1) := dk_172 (dk_at dksX2_isGreatest_2 12 rfl rfl)
abbrev cX2_findsRoom : ByteArray := prog_13_method_64_code
def yX2_findsRoom : MethodName := ⟨RX2, "findsRoom", "(II)Z"⟩
def dkwX2_findsRoom_7 : List UInt8 := [4, 167, 0, 4, 3, 172]
abbrev dktX2_findsRoom_7 : List UInt8 := dkwX2_findsRoom_7 ++ []
def dkwX2_findsRoom_6 : List UInt8 := [181, 1, 8, 132, 4, 1, 167, 255, 130, 132, 3, 1, 167, 255, 113, 42, 180, 0, 248, 16, 247, 159, 0, 7]
abbrev dktX2_findsRoom_6 : List UInt8 := dkwX2_findsRoom_6 ++ dktX2_findsRoom_7
def dkwX2_findsRoom_5 : List UInt8 := [162, 0, 26, 42, 29, 181, 0, 248, 42, 21, 4, 181, 1, 11, 42, 21, 5, 181, 1, 5, 42, 21, 6]
abbrev dktX2_findsRoom_5 : List UInt8 := dkwX2_findsRoom_5 ++ dktX2_findsRoom_6
def dkwX2_findsRoom_4 : List UInt8 := [42, 180, 1, 5, 161, 0, 21, 21, 5, 42, 180, 1, 5, 160, 0, 35, 21, 6, 42, 180, 1, 8]
abbrev dktX2_findsRoom_4 : List UInt8 := dkwX2_findsRoom_4 ++ dktX2_findsRoom_5
def dkwX2_findsRoom_3 : List UInt8 := [54, 5, 42, 28, 29, 27, 21, 4, 182, 1, 2, 54, 6, 42, 180, 0, 248, 16, 247, 159, 0, 30, 21, 5]
abbrev dktX2_findsRoom_3 : List UInt8 := dkwX2_findsRoom_3 ++ dktX2_findsRoom_4
def dkwX2_findsRoom_2 : List UInt8 := [21, 4, 182, 0, 229, 42, 180, 0, 53, 29, 46, 163, 0, 84, 42, 28, 29, 27, 21, 4, 182, 0, 254]
abbrev dktX2_findsRoom_2 : List UInt8 := dkwX2_findsRoom_2 ++ dktX2_findsRoom_3
def dkwX2_findsRoom_1 : List UInt8 := [182, 0, 251, 162, 0, 122, 42, 27, 21, 4, 182, 0, 220, 42, 180, 0, 50, 29, 46, 163, 0, 100, 42, 27]
abbrev dktX2_findsRoom_1 : List UInt8 := dkwX2_findsRoom_1 ++ dktX2_findsRoom_2
def dkwX2_findsRoom_0 : List UInt8 := [42, 16, 247, 181, 0, 248, 3, 62, 29, 42, 180, 0, 242, 162, 0, 141, 3, 54, 4, 21, 4, 42, 27]
abbrev dktX2_findsRoom_0 : List UInt8 := dkwX2_findsRoom_0 ++ dktX2_findsRoom_1
theorem dksX2_findsRoom_0 : cX2_findsRoom.data.toList.drop 0 = dktX2_findsRoom_0 := by decide +kernel
theorem dksX2_findsRoom_1 : cX2_findsRoom.data.toList.drop 23 = dktX2_findsRoom_1 := dk_seg dksX2_findsRoom_0 23 rfl rfl
theorem dksX2_findsRoom_2 : cX2_findsRoom.data.toList.drop 47 = dktX2_findsRoom_2 := dk_seg dksX2_findsRoom_1 24 rfl rfl
theorem dksX2_findsRoom_3 : cX2_findsRoom.data.toList.drop 70 = dktX2_findsRoom_3 := dk_seg dksX2_findsRoom_2 23 rfl rfl
theorem dksX2_findsRoom_4 : cX2_findsRoom.data.toList.drop 94 = dktX2_findsRoom_4 := dk_seg dksX2_findsRoom_3 24 rfl rfl
theorem dksX2_findsRoom_5 : cX2_findsRoom.data.toList.drop 116 = dktX2_findsRoom_5 := dk_seg dksX2_findsRoom_4 22 rfl rfl
theorem dksX2_findsRoom_6 : cX2_findsRoom.data.toList.drop 139 = dktX2_findsRoom_6 := dk_seg dksX2_findsRoom_5 23 rfl rfl
theorem dksX2_findsRoom_7 : cX2_findsRoom.data.toList.drop 163 = dktX2_findsRoom_7 := dk_seg dksX2_findsRoom_6 24 rfl rfl
theorem dX2_findsRoom_0 : decode cX2_findsRoom 0 = .ok (.aload_n 0, 1) := dk_42 (dk_at dksX2_findsRoom_0 0 rfl rfl)
theorem dX2_findsRoom_1 : decode cX2_findsRoom 1 = .ok (.bipush (-9), 2) := dk_16 247 (dk_at dksX2_findsRoom_0 1 rfl rfl)
theorem dX2_findsRoom_3 : decode cX2_findsRoom 3 = .ok (.putfield 248, 3) := dk_181 0 248 (dk_at dksX2_findsRoom_0 3 rfl rfl)
theorem dX2_findsRoom_6 : decode cX2_findsRoom 6 = .ok (.iconst 0, 1) := dk_3 (dk_at dksX2_findsRoom_0 6 rfl rfl)
theorem dX2_findsRoom_7 : decode cX2_findsRoom 7 = .ok (.istore_n 3, 1) := dk_62 (dk_at dksX2_findsRoom_0 7 rfl rfl)
theorem dX2_findsRoom_8 : decode cX2_findsRoom 8 = .ok (.iload_n 3, 1) := dk_29 (dk_at dksX2_findsRoom_0 8 rfl rfl)
theorem dX2_findsRoom_9 : decode cX2_findsRoom 9 = .ok (.aload_n 0, 1) := dk_42 (dk_at dksX2_findsRoom_0 9 rfl rfl)
theorem dX2_findsRoom_10 : decode cX2_findsRoom 10 = .ok (.getfield 242, 3) := dk_180 0 242 (dk_at dksX2_findsRoom_0 10 rfl rfl)
theorem dX2_findsRoom_13 : decode cX2_findsRoom 13 = .ok (.if_icmp .ge 141, 3) := dk_162 0 141 (dk_at dksX2_findsRoom_0 13 rfl rfl)
theorem dX2_findsRoom_16 : decode cX2_findsRoom 16 = .ok (.iconst 0, 1) := dk_3 (dk_at dksX2_findsRoom_0 16 rfl rfl)
theorem dX2_findsRoom_17 : decode cX2_findsRoom 17 = .ok (.istore 4, 2) := dk_54 4 (dk_at dksX2_findsRoom_0 17 rfl rfl)
theorem dX2_findsRoom_19 : decode cX2_findsRoom 19 = .ok (.iload 4, 2) := dk_21 4 (dk_at dksX2_findsRoom_0 19 rfl rfl)
theorem dX2_findsRoom_21 : decode cX2_findsRoom 21 = .ok (.aload_n 0, 1) := dk_42 (dk_at dksX2_findsRoom_0 21 rfl rfl)
theorem dX2_findsRoom_22 : decode cX2_findsRoom 22 = .ok (.iload_n 1, 1) := dk_27 (dk_at dksX2_findsRoom_0 22 rfl rfl)
theorem dX2_findsRoom_23 : decode cX2_findsRoom 23 = .ok (.invokevirtual 251, 3) := dk_182 0 251 (dk_at dksX2_findsRoom_1 0 rfl rfl)
theorem dX2_findsRoom_26 : decode cX2_findsRoom 26 = .ok (.if_icmp .ge 122, 3) := dk_162 0 122 (dk_at dksX2_findsRoom_1 3 rfl rfl)
theorem dX2_findsRoom_29 : decode cX2_findsRoom 29 = .ok (.aload_n 0, 1) := dk_42 (dk_at dksX2_findsRoom_1 6 rfl rfl)
theorem dX2_findsRoom_30 : decode cX2_findsRoom 30 = .ok (.iload_n 1, 1) := dk_27 (dk_at dksX2_findsRoom_1 7 rfl rfl)
theorem dX2_findsRoom_31 : decode cX2_findsRoom 31 = .ok (.iload 4, 2) := dk_21 4 (dk_at dksX2_findsRoom_1 8 rfl rfl)
theorem dX2_findsRoom_33 : decode cX2_findsRoom 33 = .ok (.invokevirtual 220, 3) := dk_182 0 220 (dk_at dksX2_findsRoom_1 10 rfl rfl)
theorem dX2_findsRoom_36 : decode cX2_findsRoom 36 = .ok (.aload_n 0, 1) := dk_42 (dk_at dksX2_findsRoom_1 13 rfl rfl)
theorem dX2_findsRoom_37 : decode cX2_findsRoom 37 = .ok (.getfield 50, 3) := dk_180 0 50 (dk_at dksX2_findsRoom_1 14 rfl rfl)
theorem dX2_findsRoom_40 : decode cX2_findsRoom 40 = .ok (.iload_n 3, 1) := dk_29 (dk_at dksX2_findsRoom_1 17 rfl rfl)
theorem dX2_findsRoom_41 : decode cX2_findsRoom 41 = .ok (.iaload, 1) := dk_46 (dk_at dksX2_findsRoom_1 18 rfl rfl)
theorem dX2_findsRoom_42 : decode cX2_findsRoom 42 = .ok (.if_icmp .gt 100, 3) := dk_163 0 100 (dk_at dksX2_findsRoom_1 19 rfl rfl)
theorem dX2_findsRoom_45 : decode cX2_findsRoom 45 = .ok (.aload_n 0, 1) := dk_42 (dk_at dksX2_findsRoom_1 22 rfl rfl)
theorem dX2_findsRoom_46 : decode cX2_findsRoom 46 = .ok (.iload_n 1, 1) := dk_27 (dk_at dksX2_findsRoom_1 23 rfl rfl)
theorem dX2_findsRoom_47 : decode cX2_findsRoom 47 = .ok (.iload 4, 2) := dk_21 4 (dk_at dksX2_findsRoom_2 0 rfl rfl)
theorem dX2_findsRoom_49 : decode cX2_findsRoom 49 = .ok (.invokevirtual 229, 3) := dk_182 0 229 (dk_at dksX2_findsRoom_2 2 rfl rfl)
theorem dX2_findsRoom_52 : decode cX2_findsRoom 52 = .ok (.aload_n 0, 1) := dk_42 (dk_at dksX2_findsRoom_2 5 rfl rfl)
theorem dX2_findsRoom_53 : decode cX2_findsRoom 53 = .ok (.getfield 53, 3) := dk_180 0 53 (dk_at dksX2_findsRoom_2 6 rfl rfl)
theorem dX2_findsRoom_56 : decode cX2_findsRoom 56 = .ok (.iload_n 3, 1) := dk_29 (dk_at dksX2_findsRoom_2 9 rfl rfl)
theorem dX2_findsRoom_57 : decode cX2_findsRoom 57 = .ok (.iaload, 1) := dk_46 (dk_at dksX2_findsRoom_2 10 rfl rfl)
theorem dX2_findsRoom_58 : decode cX2_findsRoom 58 = .ok (.if_icmp .gt 84, 3) := dk_163 0 84 (dk_at dksX2_findsRoom_2 11 rfl rfl)
theorem dX2_findsRoom_61 : decode cX2_findsRoom 61 = .ok (.aload_n 0, 1) := dk_42 (dk_at dksX2_findsRoom_2 14 rfl rfl)
theorem dX2_findsRoom_62 : decode cX2_findsRoom 62 = .ok (.iload_n 2, 1) := dk_28 (dk_at dksX2_findsRoom_2 15 rfl rfl)
theorem dX2_findsRoom_63 : decode cX2_findsRoom 63 = .ok (.iload_n 3, 1) := dk_29 (dk_at dksX2_findsRoom_2 16 rfl rfl)
theorem dX2_findsRoom_64 : decode cX2_findsRoom 64 = .ok (.iload_n 1, 1) := dk_27 (dk_at dksX2_findsRoom_2 17 rfl rfl)
theorem dX2_findsRoom_65 : decode cX2_findsRoom 65 = .ok (.iload 4, 2) := dk_21 4 (dk_at dksX2_findsRoom_2 18 rfl rfl)
theorem dX2_findsRoom_67 : decode cX2_findsRoom 67 = .ok (.invokevirtual 254, 3) := dk_182 0 254 (dk_at dksX2_findsRoom_2 20 rfl rfl)
theorem dX2_findsRoom_70 : decode cX2_findsRoom 70 = .ok (.istore 5, 2) := dk_54 5 (dk_at dksX2_findsRoom_3 0 rfl rfl)
theorem dX2_findsRoom_72 : decode cX2_findsRoom 72 = .ok (.aload_n 0, 1) := dk_42 (dk_at dksX2_findsRoom_3 2 rfl rfl)
theorem dX2_findsRoom_73 : decode cX2_findsRoom 73 = .ok (.iload_n 2, 1) := dk_28 (dk_at dksX2_findsRoom_3 3 rfl rfl)
theorem dX2_findsRoom_74 : decode cX2_findsRoom 74 = .ok (.iload_n 3, 1) := dk_29 (dk_at dksX2_findsRoom_3 4 rfl rfl)
theorem dX2_findsRoom_75 : decode cX2_findsRoom 75 = .ok (.iload_n 1, 1) := dk_27 (dk_at dksX2_findsRoom_3 5 rfl rfl)
theorem dX2_findsRoom_76 : decode cX2_findsRoom 76 = .ok (.iload 4, 2) := dk_21 4 (dk_at dksX2_findsRoom_3 6 rfl rfl)
theorem dX2_findsRoom_78 : decode cX2_findsRoom 78 = .ok (.invokevirtual 258, 3) := dk_182 1 2 (dk_at dksX2_findsRoom_3 8 rfl rfl)
theorem dX2_findsRoom_81 : decode cX2_findsRoom 81 = .ok (.istore 6, 2) := dk_54 6 (dk_at dksX2_findsRoom_3 11 rfl rfl)
theorem dX2_findsRoom_83 : decode cX2_findsRoom 83 = .ok (.aload_n 0, 1) := dk_42 (dk_at dksX2_findsRoom_3 13 rfl rfl)
theorem dX2_findsRoom_84 : decode cX2_findsRoom 84 = .ok (.getfield 248, 3) := dk_180 0 248 (dk_at dksX2_findsRoom_3 14 rfl rfl)
theorem dX2_findsRoom_87 : decode cX2_findsRoom 87 = .ok (.bipush (-9), 2) := dk_16 247 (dk_at dksX2_findsRoom_3 17 rfl rfl)
theorem dX2_findsRoom_89 : decode cX2_findsRoom 89 = .ok (.if_icmp .eq 30, 3) := dk_159 0 30 (dk_at dksX2_findsRoom_3 19 rfl rfl)
theorem dX2_findsRoom_92 : decode cX2_findsRoom 92 = .ok (.iload 5, 2) := dk_21 5 (dk_at dksX2_findsRoom_3 22 rfl rfl)
theorem dX2_findsRoom_94 : decode cX2_findsRoom 94 = .ok (.aload_n 0, 1) := dk_42 (dk_at dksX2_findsRoom_4 0 rfl rfl)
theorem dX2_findsRoom_95 : decode cX2_findsRoom 95 = .ok (.getfield 261, 3) := dk_180 1 5 (dk_at dksX2_findsRoom_4 1 rfl rfl)
theorem dX2_findsRoom_98 : decode cX2_findsRoom 98 = .ok (.if_icmp .lt 21, 3) := dk_161 0 21 (dk_at dksX2_findsRoom_4 4 rfl rfl)
theorem dX2_findsRoom_101 : decode cX2_findsRoom 101 = .ok (.iload 5, 2) := dk_21 5 (dk_at dksX2_findsRoom_4 7 rfl rfl)
theorem dX2_findsRoom_103 : decode cX2_findsRoom 103 = .ok (.aload_n 0, 1) := dk_42 (dk_at dksX2_findsRoom_4 9 rfl rfl)
theorem dX2_findsRoom_104 : decode cX2_findsRoom 104 = .ok (.getfield 261, 3) := dk_180 1 5 (dk_at dksX2_findsRoom_4 10 rfl rfl)
theorem dX2_findsRoom_107 : decode cX2_findsRoom 107 = .ok (.if_icmp .ne 35, 3) := dk_160 0 35 (dk_at dksX2_findsRoom_4 13 rfl rfl)
theorem dX2_findsRoom_110 : decode cX2_findsRoom 110 = .ok (.iload 6, 2) := dk_21 6 (dk_at dksX2_findsRoom_4 16 rfl rfl)
theorem dX2_findsRoom_112 : decode cX2_findsRoom 112 = .ok (.aload_n 0, 1) := dk_42 (dk_at dksX2_findsRoom_4 18 rfl rfl)
theorem dX2_findsRoom_113 : decode cX2_findsRoom 113 = .ok (.getfield 264, 3) := dk_180 1 8 (dk_at dksX2_findsRoom_4 19 rfl rfl)
theorem dX2_findsRoom_116 : decode cX2_findsRoom 116 = .ok (.if_icmp .ge 26, 3) := dk_162 0 26 (dk_at dksX2_findsRoom_5 0 rfl rfl)
theorem dX2_findsRoom_119 : decode cX2_findsRoom 119 = .ok (.aload_n 0, 1) := dk_42 (dk_at dksX2_findsRoom_5 3 rfl rfl)
theorem dX2_findsRoom_120 : decode cX2_findsRoom 120 = .ok (.iload_n 3, 1) := dk_29 (dk_at dksX2_findsRoom_5 4 rfl rfl)
theorem dX2_findsRoom_121 : decode cX2_findsRoom 121 = .ok (.putfield 248, 3) := dk_181 0 248 (dk_at dksX2_findsRoom_5 5 rfl rfl)
theorem dX2_findsRoom_124 : decode cX2_findsRoom 124 = .ok (.aload_n 0, 1) := dk_42 (dk_at dksX2_findsRoom_5 8 rfl rfl)
theorem dX2_findsRoom_125 : decode cX2_findsRoom 125 = .ok (.iload 4, 2) := dk_21 4 (dk_at dksX2_findsRoom_5 9 rfl rfl)
theorem dX2_findsRoom_127 : decode cX2_findsRoom 127 = .ok (.putfield 267, 3) := dk_181 1 11 (dk_at dksX2_findsRoom_5 11 rfl rfl)
theorem dX2_findsRoom_130 : decode cX2_findsRoom 130 = .ok (.aload_n 0, 1) := dk_42 (dk_at dksX2_findsRoom_5 14 rfl rfl)
theorem dX2_findsRoom_131 : decode cX2_findsRoom 131 = .ok (.iload 5, 2) := dk_21 5 (dk_at dksX2_findsRoom_5 15 rfl rfl)
theorem dX2_findsRoom_133 : decode cX2_findsRoom 133 = .ok (.putfield 261, 3) := dk_181 1 5 (dk_at dksX2_findsRoom_5 17 rfl rfl)
theorem dX2_findsRoom_136 : decode cX2_findsRoom 136 = .ok (.aload_n 0, 1) := dk_42 (dk_at dksX2_findsRoom_5 20 rfl rfl)
theorem dX2_findsRoom_137 : decode cX2_findsRoom 137 = .ok (.iload 6, 2) := dk_21 6 (dk_at dksX2_findsRoom_5 21 rfl rfl)
theorem dX2_findsRoom_139 : decode cX2_findsRoom 139 = .ok (.putfield 264, 3) := dk_181 1 8 (dk_at dksX2_findsRoom_6 0 rfl rfl)
theorem dX2_findsRoom_142 : decode cX2_findsRoom 142 = .ok (.iinc 4 1, 3) := dk_132 4 1 (dk_at dksX2_findsRoom_6 3 rfl rfl)
theorem dX2_findsRoom_145 : decode cX2_findsRoom 145 = .ok (.goto (-126), 3) := dk_167 255 130 (dk_at dksX2_findsRoom_6 6 rfl rfl)
theorem dX2_findsRoom_148 : decode cX2_findsRoom 148 = .ok (.iinc 3 1, 3) := dk_132 3 1 (dk_at dksX2_findsRoom_6 9 rfl rfl)
theorem dX2_findsRoom_151 : decode cX2_findsRoom 151 = .ok (.goto (-143), 3) := dk_167 255 113 (dk_at dksX2_findsRoom_6 12 rfl rfl)
theorem dX2_findsRoom_154 : decode cX2_findsRoom 154 = .ok (.aload_n 0, 1) := dk_42 (dk_at dksX2_findsRoom_6 15 rfl rfl)
theorem dX2_findsRoom_155 : decode cX2_findsRoom 155 = .ok (.getfield 248, 3) := dk_180 0 248 (dk_at dksX2_findsRoom_6 16 rfl rfl)
theorem dX2_findsRoom_158 : decode cX2_findsRoom 158 = .ok (.bipush (-9), 2) := dk_16 247 (dk_at dksX2_findsRoom_6 19 rfl rfl)
theorem dX2_findsRoom_160 : decode cX2_findsRoom 160 = .ok (.if_icmp .eq 7, 3) := dk_159 0 7 (dk_at dksX2_findsRoom_6 21 rfl rfl)
theorem dX2_findsRoom_163 : decode cX2_findsRoom 163 = .ok (.iconst 1, 1) := dk_4 (dk_at dksX2_findsRoom_7 0 rfl rfl)
theorem dX2_findsRoom_164 : decode cX2_findsRoom 164 = .ok (.goto 4, 3) := dk_167 0 4 (dk_at dksX2_findsRoom_7 1 rfl rfl)
theorem dX2_findsRoom_167 : decode cX2_findsRoom 167 = .ok (.iconst 0, 1) := dk_3 (dk_at dksX2_findsRoom_7 4 rfl rfl)
theorem dX2_findsRoom_168 : decode cX2_findsRoom 168 = .ok (.ireturn, 1) := dk_172 (dk_at dksX2_findsRoom_7 5 rfl rfl)
abbrev cX2_turns : ByteArray := prog_13_method_63_code
def yX2_turns : MethodName := ⟨RX2, "turns", "(I)I"⟩
def dkwX2_turns_0 : List UInt8 := [42, 27, 182, 0, 201, 4, 159, 0, 12, 42, 27, 182, 0, 201, 6, 160, 0, 7, 4, 167, 0, 4, 5, 172]
abbrev dktX2_turns_0 : List UInt8 := dkwX2_turns_0 ++ []
theorem dksX2_turns_0 : cX2_turns.data.toList.drop 0 = dktX2_turns_0 := by decide +kernel
theorem dX2_turns_0 : decode cX2_turns 0 = .ok (.aload_n 0, 1) := dk_42 (dk_at dksX2_turns_0 0 rfl rfl)
theorem dX2_turns_1 : decode cX2_turns 1 = .ok (.iload_n 1, 1) := dk_27 (dk_at dksX2_turns_0 1 rfl rfl)
theorem dX2_turns_2 : decode cX2_turns 2 = .ok (.invokevirtual 201, 3) := dk_182 0 201 (dk_at dksX2_turns_0 2 rfl rfl)
theorem dX2_turns_5 : decode cX2_turns 5 = .ok (.iconst 1, 1) := dk_4 (dk_at dksX2_turns_0 5 rfl rfl)
theorem dX2_turns_6 : decode cX2_turns 6 = .ok (.if_icmp .eq 12, 3) := dk_159 0 12 (dk_at dksX2_turns_0 6 rfl rfl)
theorem dX2_turns_9 : decode cX2_turns 9 = .ok (.aload_n 0, 1) := dk_42 (dk_at dksX2_turns_0 9 rfl rfl)
theorem dX2_turns_10 : decode cX2_turns 10 = .ok (.iload_n 1, 1) := dk_27 (dk_at dksX2_turns_0 10 rfl rfl)
theorem dX2_turns_11 : decode cX2_turns 11 = .ok (.invokevirtual 201, 3) := dk_182 0 201 (dk_at dksX2_turns_0 11 rfl rfl)
theorem dX2_turns_14 : decode cX2_turns 14 = .ok (.iconst 3, 1) := dk_6 (dk_at dksX2_turns_0 14 rfl rfl)
theorem dX2_turns_15 : decode cX2_turns 15 = .ok (.if_icmp .ne 7, 3) := dk_160 0 7 (dk_at dksX2_turns_0 15 rfl rfl)
theorem dX2_turns_18 : decode cX2_turns 18 = .ok (.iconst 1, 1) := dk_4 (dk_at dksX2_turns_0 18 rfl rfl)
theorem dX2_turns_19 : decode cX2_turns 19 = .ok (.goto 4, 3) := dk_167 0 4 (dk_at dksX2_turns_0 19 rfl rfl)
theorem dX2_turns_22 : decode cX2_turns 22 = .ok (.iconst 2, 1) := dk_5 (dk_at dksX2_turns_0 22 rfl rfl)
theorem dX2_turns_23 : decode cX2_turns 23 = .ok (.ireturn, 1) := dk_172 (dk_at dksX2_turns_0 23 rfl rfl)
abbrev cX2_first : ByteArray := prog_13_method_61_code
def yX2_first : MethodName := ⟨RX2, "first", "(IIII)I"⟩
def dkwX2_first_6 : List UInt8 := [167, 0, 5, 21, 6, 172]
abbrev dktX2_first_6 : List UInt8 := dkwX2_first_6 ++ []
def dkwX2_first_5 : List UInt8 := [180, 0, 47, 28, 46, 42, 29, 21, 4, 182, 0, 229, 96, 172, 21, 5, 21, 6, 164, 0, 8, 21, 5]
abbrev dktX2_first_5 : List UInt8 := dkwX2_first_5 ++ dktX2_first_6
def dkwX2_first_4 : List UInt8 := [180, 0, 53, 28, 46, 104, 42, 29, 21, 4, 182, 0, 220, 42, 29, 21, 4, 182, 0, 229, 104, 100, 172, 42]
abbrev dktX2_first_4 : List UInt8 := dkwX2_first_4 ++ dktX2_first_5
def dkwX2_first_3 : List UInt8 := [21, 5, 21, 6, 162, 0, 8, 21, 5, 167, 0, 5, 21, 6, 172, 42, 180, 0, 50, 28, 46, 42]
abbrev dktX2_first_3 : List UInt8 := dkwX2_first_3 ++ dktX2_first_4
def dkwX2_first_2 : List UInt8 := [170, 0, 0, 0, 0, 0, 87, 0, 0, 0, 0, 0, 0, 0, 2, 0, 0, 0, 27, 0, 0, 0, 42, 0, 0, 0, 72]
abbrev dktX2_first_2 : List UInt8 := dkwX2_first_2 ++ dktX2_first_3
def dkwX2_first_1 : List UInt8 := [21, 4, 182, 0, 229, 100, 54, 6, 27]
abbrev dktX2_first_1 : List UInt8 := dkwX2_first_1 ++ dktX2_first_2
def dkwX2_first_0 : List UInt8 := [42, 180, 0, 50, 28, 46, 42, 29, 21, 4, 182, 0, 220, 100, 54, 5, 42, 180, 0, 53, 28, 46, 42, 29]
abbrev dktX2_first_0 : List UInt8 := dkwX2_first_0 ++ dktX2_first_1
theorem dksX2_first_0 : cX2_first.data.toList.drop 0 = dktX2_first_0 := by decide +kernel
theorem dksX2_first_1 : cX2_first.data.toList.drop 24 = dktX2_first_1 := dk_seg dksX2_first_0 24 rfl rfl
theorem dksX2_first_2 : cX2_first.data.toList.drop 33 = dktX2_first_2 := dk_seg dksX2_first_1 9 rfl rfl
theorem dksX2_first_3 : cX2_first.data.toList.drop 60 = dktX2_first_3 := dk_seg dksX2_first_2 27 rfl rfl
theorem dksX2_first_4 : cX2_first.data.toList.drop 82 = dktX2_first_4 := dk_seg dksX2_first_3 22 rfl rfl
theorem dksX2_first_5 : cX2_first.data.toList.drop 106 = dktX2_first_5 := dk_seg dksX2_first_4 24 rfl rfl
theorem dksX2_first_6 : cX2_first.data.toList.drop 129 = dktX2_first_6 := dk_seg dksX2_first_5 23 rfl rfl
theorem dX2_first_0 : decode cX2_first 0 = .ok (.aload_n 0, 1) := dk_42 (dk_at dksX2_first_0 0 rfl rfl)
theorem dX2_first_1 : decode cX2_first 1 = .ok (.getfield 50, 3) := dk_180 0 50 (dk_at dksX2_first_0 1 rfl rfl)
theorem dX2_first_4 : decode cX2_first 4 = .ok (.iload_n 2, 1) := dk_28 (dk_at dksX2_first_0 4 rfl rfl)
theorem dX2_first_5 : decode cX2_first 5 = .ok (.iaload, 1) := dk_46 (dk_at dksX2_first_0 5 rfl rfl)
theorem dX2_first_6 : decode cX2_first 6 = .ok (.aload_n 0, 1) := dk_42 (dk_at dksX2_first_0 6 rfl rfl)
theorem dX2_first_7 : decode cX2_first 7 = .ok (.iload_n 3, 1) := dk_29 (dk_at dksX2_first_0 7 rfl rfl)
theorem dX2_first_8 : decode cX2_first 8 = .ok (.iload 4, 2) := dk_21 4 (dk_at dksX2_first_0 8 rfl rfl)
theorem dX2_first_10 : decode cX2_first 10 = .ok (.invokevirtual 220, 3) := dk_182 0 220 (dk_at dksX2_first_0 10 rfl rfl)
theorem dX2_first_13 : decode cX2_first 13 = .ok (.isub, 1) := dk_100 (dk_at dksX2_first_0 13 rfl rfl)
theorem dX2_first_14 : decode cX2_first 14 = .ok (.istore 5, 2) := dk_54 5 (dk_at dksX2_first_0 14 rfl rfl)
theorem dX2_first_16 : decode cX2_first 16 = .ok (.aload_n 0, 1) := dk_42 (dk_at dksX2_first_0 16 rfl rfl)
theorem dX2_first_17 : decode cX2_first 17 = .ok (.getfield 53, 3) := dk_180 0 53 (dk_at dksX2_first_0 17 rfl rfl)
theorem dX2_first_20 : decode cX2_first 20 = .ok (.iload_n 2, 1) := dk_28 (dk_at dksX2_first_0 20 rfl rfl)
theorem dX2_first_21 : decode cX2_first 21 = .ok (.iaload, 1) := dk_46 (dk_at dksX2_first_0 21 rfl rfl)
theorem dX2_first_22 : decode cX2_first 22 = .ok (.aload_n 0, 1) := dk_42 (dk_at dksX2_first_0 22 rfl rfl)
theorem dX2_first_23 : decode cX2_first 23 = .ok (.iload_n 3, 1) := dk_29 (dk_at dksX2_first_0 23 rfl rfl)
theorem dX2_first_24 : decode cX2_first 24 = .ok (.iload 4, 2) := dk_21 4 (dk_at dksX2_first_1 0 rfl rfl)
theorem dX2_first_26 : decode cX2_first 26 = .ok (.invokevirtual 229, 3) := dk_182 0 229 (dk_at dksX2_first_1 2 rfl rfl)
theorem dX2_first_29 : decode cX2_first 29 = .ok (.isub, 1) := dk_100 (dk_at dksX2_first_1 5 rfl rfl)
theorem dX2_first_30 : decode cX2_first 30 = .ok (.istore 6, 2) := dk_54 6 (dk_at dksX2_first_1 6 rfl rfl)
theorem dX2_first_32 : decode cX2_first 32 = .ok (.iload_n 1, 1) := dk_27 (dk_at dksX2_first_1 8 rfl rfl)
theorem dX2_first_33 : decode cX2_first 33 = .ok (.tableswitch 87 0 2 #[27, 42, 72], 27) := by decide +kernel
theorem dX2_first_60 : decode cX2_first 60 = .ok (.iload 5, 2) := dk_21 5 (dk_at dksX2_first_3 0 rfl rfl)
theorem dX2_first_62 : decode cX2_first 62 = .ok (.iload 6, 2) := dk_21 6 (dk_at dksX2_first_3 2 rfl rfl)
theorem dX2_first_64 : decode cX2_first 64 = .ok (.if_icmp .ge 8, 3) := dk_162 0 8 (dk_at dksX2_first_3 4 rfl rfl)
theorem dX2_first_67 : decode cX2_first 67 = .ok (.iload 5, 2) := dk_21 5 (dk_at dksX2_first_3 7 rfl rfl)
theorem dX2_first_69 : decode cX2_first 69 = .ok (.goto 5, 3) := dk_167 0 5 (dk_at dksX2_first_3 9 rfl rfl)
theorem dX2_first_72 : decode cX2_first 72 = .ok (.iload 6, 2) := dk_21 6 (dk_at dksX2_first_3 12 rfl rfl)
theorem dX2_first_74 : decode cX2_first 74 = .ok (.ireturn, 1) := dk_172 (dk_at dksX2_first_3 14 rfl rfl)
theorem dX2_first_75 : decode cX2_first 75 = .ok (.aload_n 0, 1) := dk_42 (dk_at dksX2_first_3 15 rfl rfl)
theorem dX2_first_76 : decode cX2_first 76 = .ok (.getfield 50, 3) := dk_180 0 50 (dk_at dksX2_first_3 16 rfl rfl)
theorem dX2_first_79 : decode cX2_first 79 = .ok (.iload_n 2, 1) := dk_28 (dk_at dksX2_first_3 19 rfl rfl)
theorem dX2_first_80 : decode cX2_first 80 = .ok (.iaload, 1) := dk_46 (dk_at dksX2_first_3 20 rfl rfl)
theorem dX2_first_81 : decode cX2_first 81 = .ok (.aload_n 0, 1) := dk_42 (dk_at dksX2_first_3 21 rfl rfl)
theorem dX2_first_82 : decode cX2_first 82 = .ok (.getfield 53, 3) := dk_180 0 53 (dk_at dksX2_first_4 0 rfl rfl)
theorem dX2_first_85 : decode cX2_first 85 = .ok (.iload_n 2, 1) := dk_28 (dk_at dksX2_first_4 3 rfl rfl)
theorem dX2_first_86 : decode cX2_first 86 = .ok (.iaload, 1) := dk_46 (dk_at dksX2_first_4 4 rfl rfl)
theorem dX2_first_87 : decode cX2_first 87 = .ok (.imul, 1) := dk_104 (dk_at dksX2_first_4 5 rfl rfl)
theorem dX2_first_88 : decode cX2_first 88 = .ok (.aload_n 0, 1) := dk_42 (dk_at dksX2_first_4 6 rfl rfl)
theorem dX2_first_89 : decode cX2_first 89 = .ok (.iload_n 3, 1) := dk_29 (dk_at dksX2_first_4 7 rfl rfl)
theorem dX2_first_90 : decode cX2_first 90 = .ok (.iload 4, 2) := dk_21 4 (dk_at dksX2_first_4 8 rfl rfl)
theorem dX2_first_92 : decode cX2_first 92 = .ok (.invokevirtual 220, 3) := dk_182 0 220 (dk_at dksX2_first_4 10 rfl rfl)
theorem dX2_first_95 : decode cX2_first 95 = .ok (.aload_n 0, 1) := dk_42 (dk_at dksX2_first_4 13 rfl rfl)
theorem dX2_first_96 : decode cX2_first 96 = .ok (.iload_n 3, 1) := dk_29 (dk_at dksX2_first_4 14 rfl rfl)
theorem dX2_first_97 : decode cX2_first 97 = .ok (.iload 4, 2) := dk_21 4 (dk_at dksX2_first_4 15 rfl rfl)
theorem dX2_first_99 : decode cX2_first 99 = .ok (.invokevirtual 229, 3) := dk_182 0 229 (dk_at dksX2_first_4 17 rfl rfl)
theorem dX2_first_102 : decode cX2_first 102 = .ok (.imul, 1) := dk_104 (dk_at dksX2_first_4 20 rfl rfl)
theorem dX2_first_103 : decode cX2_first 103 = .ok (.isub, 1) := dk_100 (dk_at dksX2_first_4 21 rfl rfl)
theorem dX2_first_104 : decode cX2_first 104 = .ok (.ireturn, 1) := dk_172 (dk_at dksX2_first_4 22 rfl rfl)
theorem dX2_first_105 : decode cX2_first 105 = .ok (.aload_n 0, 1) := dk_42 (dk_at dksX2_first_4 23 rfl rfl)
theorem dX2_first_106 : decode cX2_first 106 = .ok (.getfield 47, 3) := dk_180 0 47 (dk_at dksX2_first_5 0 rfl rfl)
theorem dX2_first_109 : decode cX2_first 109 = .ok (.iload_n 2, 1) := dk_28 (dk_at dksX2_first_5 3 rfl rfl)
theorem dX2_first_110 : decode cX2_first 110 = .ok (.iaload, 1) := dk_46 (dk_at dksX2_first_5 4 rfl rfl)
theorem dX2_first_111 : decode cX2_first 111 = .ok (.aload_n 0, 1) := dk_42 (dk_at dksX2_first_5 5 rfl rfl)
theorem dX2_first_112 : decode cX2_first 112 = .ok (.iload_n 3, 1) := dk_29 (dk_at dksX2_first_5 6 rfl rfl)
theorem dX2_first_113 : decode cX2_first 113 = .ok (.iload 4, 2) := dk_21 4 (dk_at dksX2_first_5 7 rfl rfl)
theorem dX2_first_115 : decode cX2_first 115 = .ok (.invokevirtual 229, 3) := dk_182 0 229 (dk_at dksX2_first_5 9 rfl rfl)
theorem dX2_first_118 : decode cX2_first 118 = .ok (.iadd, 1) := dk_96 (dk_at dksX2_first_5 12 rfl rfl)
theorem dX2_first_119 : decode cX2_first 119 = .ok (.ireturn, 1) := dk_172 (dk_at dksX2_first_5 13 rfl rfl)
theorem dX2_first_120 : decode cX2_first 120 = .ok (.iload 5, 2) := dk_21 5 (dk_at dksX2_first_5 14 rfl rfl)
theorem dX2_first_122 : decode cX2_first 122 = .ok (.iload 6, 2) := dk_21 6 (dk_at dksX2_first_5 16 rfl rfl)
theorem dX2_first_124 : decode cX2_first 124 = .ok (.if_icmp .le 8, 3) := dk_164 0 8 (dk_at dksX2_first_5 18 rfl rfl)
theorem dX2_first_127 : decode cX2_first 127 = .ok (.iload 5, 2) := dk_21 5 (dk_at dksX2_first_5 21 rfl rfl)
theorem dX2_first_129 : decode cX2_first 129 = .ok (.goto 5, 3) := dk_167 0 5 (dk_at dksX2_first_6 0 rfl rfl)
theorem dX2_first_132 : decode cX2_first 132 = .ok (.iload 6, 2) := dk_21 6 (dk_at dksX2_first_6 3 rfl rfl)
theorem dX2_first_134 : decode cX2_first 134 = .ok (.ireturn, 1) := dk_172 (dk_at dksX2_first_6 5 rfl rfl)
abbrev cX2_second : ByteArray := prog_13_method_62_code
def yX2_second : MethodName := ⟨RX2, "second", "(IIII)I"⟩
def dkwX2_second_3 : List UInt8 := [162, 0, 8, 21, 5, 167, 0, 5, 21, 6, 172]
abbrev dktX2_second_3 : List UInt8 := dkwX2_second_3 ++ []
def dkwX2_second_2 : List UInt8 := [21, 6, 167, 0, 31, 27, 5, 160, 0, 12, 42, 180, 0, 44, 28, 46, 167, 0, 17, 21, 5, 21, 6]
abbrev dktX2_second_2 : List UInt8 := dkwX2_second_2 ++ dktX2_second_3
def dkwX2_second_1 : List UInt8 := [21, 4, 182, 0, 229, 100, 54, 6, 27, 154, 0, 20, 21, 5, 21, 6, 164, 0, 8, 21, 5, 167, 0, 36]
abbrev dktX2_second_1 : List UInt8 := dkwX2_second_1 ++ dktX2_second_2
def dkwX2_second_0 : List UInt8 := [42, 180, 0, 50, 28, 46, 42, 29, 21, 4, 182, 0, 220, 100, 54, 5, 42, 180, 0, 53, 28, 46, 42, 29]
abbrev dktX2_second_0 : List UInt8 := dkwX2_second_0 ++ dktX2_second_1
theorem dksX2_second_0 : cX2_second.data.toList.drop 0 = dktX2_second_0 := by decide +kernel
theorem dksX2_second_1 : cX2_second.data.toList.drop 24 = dktX2_second_1 := dk_seg dksX2_second_0 24 rfl rfl
theorem dksX2_second_2 : cX2_second.data.toList.drop 48 = dktX2_second_2 := dk_seg dksX2_second_1 24 rfl rfl
theorem dksX2_second_3 : cX2_second.data.toList.drop 71 = dktX2_second_3 := dk_seg dksX2_second_2 23 rfl rfl
theorem dX2_second_0 : decode cX2_second 0 = .ok (.aload_n 0, 1) := dk_42 (dk_at dksX2_second_0 0 rfl rfl)
theorem dX2_second_1 : decode cX2_second 1 = .ok (.getfield 50, 3) := dk_180 0 50 (dk_at dksX2_second_0 1 rfl rfl)
theorem dX2_second_4 : decode cX2_second 4 = .ok (.iload_n 2, 1) := dk_28 (dk_at dksX2_second_0 4 rfl rfl)
theorem dX2_second_5 : decode cX2_second 5 = .ok (.iaload, 1) := dk_46 (dk_at dksX2_second_0 5 rfl rfl)
theorem dX2_second_6 : decode cX2_second 6 = .ok (.aload_n 0, 1) := dk_42 (dk_at dksX2_second_0 6 rfl rfl)
theorem dX2_second_7 : decode cX2_second 7 = .ok (.iload_n 3, 1) := dk_29 (dk_at dksX2_second_0 7 rfl rfl)
theorem dX2_second_8 : decode cX2_second 8 = .ok (.iload 4, 2) := dk_21 4 (dk_at dksX2_second_0 8 rfl rfl)
theorem dX2_second_10 : decode cX2_second 10 = .ok (.invokevirtual 220, 3) := dk_182 0 220 (dk_at dksX2_second_0 10 rfl rfl)
theorem dX2_second_13 : decode cX2_second 13 = .ok (.isub, 1) := dk_100 (dk_at dksX2_second_0 13 rfl rfl)
theorem dX2_second_14 : decode cX2_second 14 = .ok (.istore 5, 2) := dk_54 5 (dk_at dksX2_second_0 14 rfl rfl)
theorem dX2_second_16 : decode cX2_second 16 = .ok (.aload_n 0, 1) := dk_42 (dk_at dksX2_second_0 16 rfl rfl)
theorem dX2_second_17 : decode cX2_second 17 = .ok (.getfield 53, 3) := dk_180 0 53 (dk_at dksX2_second_0 17 rfl rfl)
theorem dX2_second_20 : decode cX2_second 20 = .ok (.iload_n 2, 1) := dk_28 (dk_at dksX2_second_0 20 rfl rfl)
theorem dX2_second_21 : decode cX2_second 21 = .ok (.iaload, 1) := dk_46 (dk_at dksX2_second_0 21 rfl rfl)
theorem dX2_second_22 : decode cX2_second 22 = .ok (.aload_n 0, 1) := dk_42 (dk_at dksX2_second_0 22 rfl rfl)
theorem dX2_second_23 : decode cX2_second 23 = .ok (.iload_n 3, 1) := dk_29 (dk_at dksX2_second_0 23 rfl rfl)
theorem dX2_second_24 : decode cX2_second 24 = .ok (.iload 4, 2) := dk_21 4 (dk_at dksX2_second_1 0 rfl rfl)
theorem dX2_second_26 : decode cX2_second 26 = .ok (.invokevirtual 229, 3) := dk_182 0 229 (dk_at dksX2_second_1 2 rfl rfl)
theorem dX2_second_29 : decode cX2_second 29 = .ok (.isub, 1) := dk_100 (dk_at dksX2_second_1 5 rfl rfl)
theorem dX2_second_30 : decode cX2_second 30 = .ok (.istore 6, 2) := dk_54 6 (dk_at dksX2_second_1 6 rfl rfl)
theorem dX2_second_32 : decode cX2_second 32 = .ok (.iload_n 1, 1) := dk_27 (dk_at dksX2_second_1 8 rfl rfl)
theorem dX2_second_33 : decode cX2_second 33 = .ok (.ifCond .ne 20, 3) := dk_154 0 20 (dk_at dksX2_second_1 9 rfl rfl)
theorem dX2_second_36 : decode cX2_second 36 = .ok (.iload 5, 2) := dk_21 5 (dk_at dksX2_second_1 12 rfl rfl)
theorem dX2_second_38 : decode cX2_second 38 = .ok (.iload 6, 2) := dk_21 6 (dk_at dksX2_second_1 14 rfl rfl)
theorem dX2_second_40 : decode cX2_second 40 = .ok (.if_icmp .le 8, 3) := dk_164 0 8 (dk_at dksX2_second_1 16 rfl rfl)
theorem dX2_second_43 : decode cX2_second 43 = .ok (.iload 5, 2) := dk_21 5 (dk_at dksX2_second_1 19 rfl rfl)
theorem dX2_second_45 : decode cX2_second 45 = .ok (.goto 36, 3) := dk_167 0 36 (dk_at dksX2_second_1 21 rfl rfl)
theorem dX2_second_48 : decode cX2_second 48 = .ok (.iload 6, 2) := dk_21 6 (dk_at dksX2_second_2 0 rfl rfl)
theorem dX2_second_50 : decode cX2_second 50 = .ok (.goto 31, 3) := dk_167 0 31 (dk_at dksX2_second_2 2 rfl rfl)
theorem dX2_second_53 : decode cX2_second 53 = .ok (.iload_n 1, 1) := dk_27 (dk_at dksX2_second_2 5 rfl rfl)
theorem dX2_second_54 : decode cX2_second 54 = .ok (.iconst 2, 1) := dk_5 (dk_at dksX2_second_2 6 rfl rfl)
theorem dX2_second_55 : decode cX2_second 55 = .ok (.if_icmp .ne 12, 3) := dk_160 0 12 (dk_at dksX2_second_2 7 rfl rfl)
theorem dX2_second_58 : decode cX2_second 58 = .ok (.aload_n 0, 1) := dk_42 (dk_at dksX2_second_2 10 rfl rfl)
theorem dX2_second_59 : decode cX2_second 59 = .ok (.getfield 44, 3) := dk_180 0 44 (dk_at dksX2_second_2 11 rfl rfl)
theorem dX2_second_62 : decode cX2_second 62 = .ok (.iload_n 2, 1) := dk_28 (dk_at dksX2_second_2 14 rfl rfl)
theorem dX2_second_63 : decode cX2_second 63 = .ok (.iaload, 1) := dk_46 (dk_at dksX2_second_2 15 rfl rfl)
theorem dX2_second_64 : decode cX2_second 64 = .ok (.goto 17, 3) := dk_167 0 17 (dk_at dksX2_second_2 16 rfl rfl)
theorem dX2_second_67 : decode cX2_second 67 = .ok (.iload 5, 2) := dk_21 5 (dk_at dksX2_second_2 19 rfl rfl)
theorem dX2_second_69 : decode cX2_second 69 = .ok (.iload 6, 2) := dk_21 6 (dk_at dksX2_second_2 21 rfl rfl)
theorem dX2_second_71 : decode cX2_second 71 = .ok (.if_icmp .ge 8, 3) := dk_162 0 8 (dk_at dksX2_second_3 0 rfl rfl)
theorem dX2_second_74 : decode cX2_second 74 = .ok (.iload 5, 2) := dk_21 5 (dk_at dksX2_second_3 3 rfl rfl)
theorem dX2_second_76 : decode cX2_second 76 = .ok (.goto 5, 3) := dk_167 0 5 (dk_at dksX2_second_3 5 rfl rfl)
theorem dX2_second_79 : decode cX2_second 79 = .ok (.iload 6, 2) := dk_21 6 (dk_at dksX2_second_3 8 rfl rfl)
theorem dX2_second_81 : decode cX2_second 81 = .ok (.ireturn, 1) := dk_172 (dk_at dksX2_second_3 10 rfl rfl)
abbrev cX2_remember : ByteArray := prog_13_method_70_code
def yX2_remember : MethodName := ⟨RX2, "remember", "()V"⟩
def dkwX2_remember_1 : List UInt8 := [180, 0, 35, 27, 46, 79, 132, 1, 1, 167, 255, 227, 42, 89, 180, 0, 185, 4, 96, 181, 0, 185, 177]
abbrev dktX2_remember_1 : List UInt8 := dkwX2_remember_1 ++ []
def dkwX2_remember_0 : List UInt8 := [3, 60, 27, 16, 33, 162, 0, 29, 42, 180, 0, 56, 16, 33, 42, 180, 0, 185, 104, 27, 96, 42]
abbrev dktX2_remember_0 : List UInt8 := dkwX2_remember_0 ++ dktX2_remember_1
theorem dksX2_remember_0 : cX2_remember.data.toList.drop 0 = dktX2_remember_0 := by decide +kernel
theorem dksX2_remember_1 : cX2_remember.data.toList.drop 22 = dktX2_remember_1 := dk_seg dksX2_remember_0 22 rfl rfl
theorem dX2_remember_0 : decode cX2_remember 0 = .ok (.iconst 0, 1) := dk_3 (dk_at dksX2_remember_0 0 rfl rfl)
theorem dX2_remember_1 : decode cX2_remember 1 = .ok (.istore_n 1, 1) := dk_60 (dk_at dksX2_remember_0 1 rfl rfl)
theorem dX2_remember_2 : decode cX2_remember 2 = .ok (.iload_n 1, 1) := dk_27 (dk_at dksX2_remember_0 2 rfl rfl)
theorem dX2_remember_3 : decode cX2_remember 3 = .ok (.bipush 33, 2) := dk_16 33 (dk_at dksX2_remember_0 3 rfl rfl)
theorem dX2_remember_5 : decode cX2_remember 5 = .ok (.if_icmp .ge 29, 3) := dk_162 0 29 (dk_at dksX2_remember_0 5 rfl rfl)
theorem dX2_remember_8 : decode cX2_remember 8 = .ok (.aload_n 0, 1) := dk_42 (dk_at dksX2_remember_0 8 rfl rfl)
theorem dX2_remember_9 : decode cX2_remember 9 = .ok (.getfield 56, 3) := dk_180 0 56 (dk_at dksX2_remember_0 9 rfl rfl)
theorem dX2_remember_12 : decode cX2_remember 12 = .ok (.bipush 33, 2) := dk_16 33 (dk_at dksX2_remember_0 12 rfl rfl)
theorem dX2_remember_14 : decode cX2_remember 14 = .ok (.aload_n 0, 1) := dk_42 (dk_at dksX2_remember_0 14 rfl rfl)
theorem dX2_remember_15 : decode cX2_remember 15 = .ok (.getfield 185, 3) := dk_180 0 185 (dk_at dksX2_remember_0 15 rfl rfl)
theorem dX2_remember_18 : decode cX2_remember 18 = .ok (.imul, 1) := dk_104 (dk_at dksX2_remember_0 18 rfl rfl)
theorem dX2_remember_19 : decode cX2_remember 19 = .ok (.iload_n 1, 1) := dk_27 (dk_at dksX2_remember_0 19 rfl rfl)
theorem dX2_remember_20 : decode cX2_remember 20 = .ok (.iadd, 1) := dk_96 (dk_at dksX2_remember_0 20 rfl rfl)
theorem dX2_remember_21 : decode cX2_remember 21 = .ok (.aload_n 0, 1) := dk_42 (dk_at dksX2_remember_0 21 rfl rfl)
theorem dX2_remember_22 : decode cX2_remember 22 = .ok (.getfield 35, 3) := dk_180 0 35 (dk_at dksX2_remember_1 0 rfl rfl)
theorem dX2_remember_25 : decode cX2_remember 25 = .ok (.iload_n 1, 1) := dk_27 (dk_at dksX2_remember_1 3 rfl rfl)
theorem dX2_remember_26 : decode cX2_remember 26 = .ok (.iaload, 1) := dk_46 (dk_at dksX2_remember_1 4 rfl rfl)
theorem dX2_remember_27 : decode cX2_remember 27 = .ok (.iastore, 1) := dk_79 (dk_at dksX2_remember_1 5 rfl rfl)
theorem dX2_remember_28 : decode cX2_remember 28 = .ok (.iinc 1 1, 3) := dk_132 1 1 (dk_at dksX2_remember_1 6 rfl rfl)
theorem dX2_remember_31 : decode cX2_remember 31 = .ok (.goto (-29), 3) := dk_167 255 227 (dk_at dksX2_remember_1 9 rfl rfl)
theorem dX2_remember_34 : decode cX2_remember 34 = .ok (.aload_n 0, 1) := dk_42 (dk_at dksX2_remember_1 12 rfl rfl)
theorem dX2_remember_35 : decode cX2_remember 35 = .ok (.dup, 1) := dk_89 (dk_at dksX2_remember_1 13 rfl rfl)
theorem dX2_remember_36 : decode cX2_remember 36 = .ok (.getfield 185, 3) := dk_180 0 185 (dk_at dksX2_remember_1 14 rfl rfl)
theorem dX2_remember_39 : decode cX2_remember 39 = .ok (.iconst 1, 1) := dk_4 (dk_at dksX2_remember_1 17 rfl rfl)
theorem dX2_remember_40 : decode cX2_remember 40 = .ok (.iadd, 1) := dk_96 (dk_at dksX2_remember_1 18 rfl rfl)
theorem dX2_remember_41 : decode cX2_remember 41 = .ok (.putfield 185, 3) := dk_181 0 185 (dk_at dksX2_remember_1 19 rfl rfl)
theorem dX2_remember_44 : decode cX2_remember 44 = .ok (.return_, 1) := dk_177 (dk_at dksX2_remember_1 22 rfl rfl)
abbrev cX2_sets : ByteArray := prog_13_method_66_code
def yX2_sets : MethodName := ⟨RX2, "sets", "(II)V"⟩
def dkwX2_sets_2 : List UInt8 := [79, 42, 180, 0, 35, 7, 27, 104, 6, 96, 42, 180, 1, 11, 79, 177]
abbrev dktX2_sets_2 : List UInt8 := dkwX2_sets_2 ++ []
def dkwX2_sets_1 : List UInt8 := [42, 180, 0, 248, 46, 79, 42, 180, 0, 35, 7, 27, 104, 5, 96, 42, 180, 0, 47, 42, 180, 0, 248, 46]
abbrev dktX2_sets_1 : List UInt8 := dkwX2_sets_1 ++ dktX2_sets_2
def dkwX2_sets_0 : List UInt8 := [42, 180, 0, 35, 7, 27, 104, 3, 96, 28, 79, 42, 180, 0, 35, 7, 27, 104, 4, 96, 42, 180, 0, 44]
abbrev dktX2_sets_0 : List UInt8 := dkwX2_sets_0 ++ dktX2_sets_1
theorem dksX2_sets_0 : cX2_sets.data.toList.drop 0 = dktX2_sets_0 := by decide +kernel
theorem dksX2_sets_1 : cX2_sets.data.toList.drop 24 = dktX2_sets_1 := dk_seg dksX2_sets_0 24 rfl rfl
theorem dksX2_sets_2 : cX2_sets.data.toList.drop 48 = dktX2_sets_2 := dk_seg dksX2_sets_1 24 rfl rfl
theorem dX2_sets_0 : decode cX2_sets 0 = .ok (.aload_n 0, 1) := dk_42 (dk_at dksX2_sets_0 0 rfl rfl)
theorem dX2_sets_1 : decode cX2_sets 1 = .ok (.getfield 35, 3) := dk_180 0 35 (dk_at dksX2_sets_0 1 rfl rfl)
theorem dX2_sets_4 : decode cX2_sets 4 = .ok (.iconst 4, 1) := dk_7 (dk_at dksX2_sets_0 4 rfl rfl)
theorem dX2_sets_5 : decode cX2_sets 5 = .ok (.iload_n 1, 1) := dk_27 (dk_at dksX2_sets_0 5 rfl rfl)
theorem dX2_sets_6 : decode cX2_sets 6 = .ok (.imul, 1) := dk_104 (dk_at dksX2_sets_0 6 rfl rfl)
theorem dX2_sets_7 : decode cX2_sets 7 = .ok (.iconst 0, 1) := dk_3 (dk_at dksX2_sets_0 7 rfl rfl)
theorem dX2_sets_8 : decode cX2_sets 8 = .ok (.iadd, 1) := dk_96 (dk_at dksX2_sets_0 8 rfl rfl)
theorem dX2_sets_9 : decode cX2_sets 9 = .ok (.iload_n 2, 1) := dk_28 (dk_at dksX2_sets_0 9 rfl rfl)
theorem dX2_sets_10 : decode cX2_sets 10 = .ok (.iastore, 1) := dk_79 (dk_at dksX2_sets_0 10 rfl rfl)
theorem dX2_sets_11 : decode cX2_sets 11 = .ok (.aload_n 0, 1) := dk_42 (dk_at dksX2_sets_0 11 rfl rfl)
theorem dX2_sets_12 : decode cX2_sets 12 = .ok (.getfield 35, 3) := dk_180 0 35 (dk_at dksX2_sets_0 12 rfl rfl)
theorem dX2_sets_15 : decode cX2_sets 15 = .ok (.iconst 4, 1) := dk_7 (dk_at dksX2_sets_0 15 rfl rfl)
theorem dX2_sets_16 : decode cX2_sets 16 = .ok (.iload_n 1, 1) := dk_27 (dk_at dksX2_sets_0 16 rfl rfl)
theorem dX2_sets_17 : decode cX2_sets 17 = .ok (.imul, 1) := dk_104 (dk_at dksX2_sets_0 17 rfl rfl)
theorem dX2_sets_18 : decode cX2_sets 18 = .ok (.iconst 1, 1) := dk_4 (dk_at dksX2_sets_0 18 rfl rfl)
theorem dX2_sets_19 : decode cX2_sets 19 = .ok (.iadd, 1) := dk_96 (dk_at dksX2_sets_0 19 rfl rfl)
theorem dX2_sets_20 : decode cX2_sets 20 = .ok (.aload_n 0, 1) := dk_42 (dk_at dksX2_sets_0 20 rfl rfl)
theorem dX2_sets_21 : decode cX2_sets 21 = .ok (.getfield 44, 3) := dk_180 0 44 (dk_at dksX2_sets_0 21 rfl rfl)
theorem dX2_sets_24 : decode cX2_sets 24 = .ok (.aload_n 0, 1) := dk_42 (dk_at dksX2_sets_1 0 rfl rfl)
theorem dX2_sets_25 : decode cX2_sets 25 = .ok (.getfield 248, 3) := dk_180 0 248 (dk_at dksX2_sets_1 1 rfl rfl)
theorem dX2_sets_28 : decode cX2_sets 28 = .ok (.iaload, 1) := dk_46 (dk_at dksX2_sets_1 4 rfl rfl)
theorem dX2_sets_29 : decode cX2_sets 29 = .ok (.iastore, 1) := dk_79 (dk_at dksX2_sets_1 5 rfl rfl)
theorem dX2_sets_30 : decode cX2_sets 30 = .ok (.aload_n 0, 1) := dk_42 (dk_at dksX2_sets_1 6 rfl rfl)
theorem dX2_sets_31 : decode cX2_sets 31 = .ok (.getfield 35, 3) := dk_180 0 35 (dk_at dksX2_sets_1 7 rfl rfl)
theorem dX2_sets_34 : decode cX2_sets 34 = .ok (.iconst 4, 1) := dk_7 (dk_at dksX2_sets_1 10 rfl rfl)
theorem dX2_sets_35 : decode cX2_sets 35 = .ok (.iload_n 1, 1) := dk_27 (dk_at dksX2_sets_1 11 rfl rfl)
theorem dX2_sets_36 : decode cX2_sets 36 = .ok (.imul, 1) := dk_104 (dk_at dksX2_sets_1 12 rfl rfl)
theorem dX2_sets_37 : decode cX2_sets 37 = .ok (.iconst 2, 1) := dk_5 (dk_at dksX2_sets_1 13 rfl rfl)
theorem dX2_sets_38 : decode cX2_sets 38 = .ok (.iadd, 1) := dk_96 (dk_at dksX2_sets_1 14 rfl rfl)
theorem dX2_sets_39 : decode cX2_sets 39 = .ok (.aload_n 0, 1) := dk_42 (dk_at dksX2_sets_1 15 rfl rfl)
theorem dX2_sets_40 : decode cX2_sets 40 = .ok (.getfield 47, 3) := dk_180 0 47 (dk_at dksX2_sets_1 16 rfl rfl)
theorem dX2_sets_43 : decode cX2_sets 43 = .ok (.aload_n 0, 1) := dk_42 (dk_at dksX2_sets_1 19 rfl rfl)
theorem dX2_sets_44 : decode cX2_sets 44 = .ok (.getfield 248, 3) := dk_180 0 248 (dk_at dksX2_sets_1 20 rfl rfl)
theorem dX2_sets_47 : decode cX2_sets 47 = .ok (.iaload, 1) := dk_46 (dk_at dksX2_sets_1 23 rfl rfl)
theorem dX2_sets_48 : decode cX2_sets 48 = .ok (.iastore, 1) := dk_79 (dk_at dksX2_sets_2 0 rfl rfl)
theorem dX2_sets_49 : decode cX2_sets 49 = .ok (.aload_n 0, 1) := dk_42 (dk_at dksX2_sets_2 1 rfl rfl)
theorem dX2_sets_50 : decode cX2_sets 50 = .ok (.getfield 35, 3) := dk_180 0 35 (dk_at dksX2_sets_2 2 rfl rfl)
theorem dX2_sets_53 : decode cX2_sets 53 = .ok (.iconst 4, 1) := dk_7 (dk_at dksX2_sets_2 5 rfl rfl)
theorem dX2_sets_54 : decode cX2_sets 54 = .ok (.iload_n 1, 1) := dk_27 (dk_at dksX2_sets_2 6 rfl rfl)
theorem dX2_sets_55 : decode cX2_sets 55 = .ok (.imul, 1) := dk_104 (dk_at dksX2_sets_2 7 rfl rfl)
theorem dX2_sets_56 : decode cX2_sets 56 = .ok (.iconst 3, 1) := dk_6 (dk_at dksX2_sets_2 8 rfl rfl)
theorem dX2_sets_57 : decode cX2_sets 57 = .ok (.iadd, 1) := dk_96 (dk_at dksX2_sets_2 9 rfl rfl)
theorem dX2_sets_58 : decode cX2_sets 58 = .ok (.aload_n 0, 1) := dk_42 (dk_at dksX2_sets_2 10 rfl rfl)
theorem dX2_sets_59 : decode cX2_sets 59 = .ok (.getfield 267, 3) := dk_180 1 11 (dk_at dksX2_sets_2 11 rfl rfl)
theorem dX2_sets_62 : decode cX2_sets 62 = .ok (.iastore, 1) := dk_79 (dk_at dksX2_sets_2 14 rfl rfl)
theorem dX2_sets_63 : decode cX2_sets 63 = .ok (.return_, 1) := dk_177 (dk_at dksX2_sets_2 15 rfl rfl)
abbrev cX2_lift : ByteArray := prog_13_method_75_code
def yX2_lift : MethodName := ⟨RX2, "lift", "(I)I"⟩
def dkwX2_lift_2 : List UInt8 := [172]
abbrev dktX2_lift_2 : List UInt8 := dkwX2_lift_2 ++ []
def dkwX2_lift_1 : List UInt8 := [180, 0, 185, 16, 40, 160, 0, 6, 16, 254, 172, 42, 182, 1, 37, 42, 27, 182, 1, 40, 42, 182, 1, 14]
abbrev dktX2_lift_1 : List UInt8 := dkwX2_lift_1 ++ dktX2_lift_2
def dkwX2_lift_0 : List UInt8 := [42, 27, 182, 0, 223, 154, 0, 5, 2, 172, 42, 27, 182, 0, 232, 154, 0, 6, 16, 252, 172, 42]
abbrev dktX2_lift_0 : List UInt8 := dkwX2_lift_0 ++ dktX2_lift_1
theorem dksX2_lift_0 : cX2_lift.data.toList.drop 0 = dktX2_lift_0 := by decide +kernel
theorem dksX2_lift_1 : cX2_lift.data.toList.drop 22 = dktX2_lift_1 := dk_seg dksX2_lift_0 22 rfl rfl
theorem dksX2_lift_2 : cX2_lift.data.toList.drop 46 = dktX2_lift_2 := dk_seg dksX2_lift_1 24 rfl rfl
theorem dX2_lift_0 : decode cX2_lift 0 = .ok (.aload_n 0, 1) := dk_42 (dk_at dksX2_lift_0 0 rfl rfl)
theorem dX2_lift_1 : decode cX2_lift 1 = .ok (.iload_n 1, 1) := dk_27 (dk_at dksX2_lift_0 1 rfl rfl)
theorem dX2_lift_2 : decode cX2_lift 2 = .ok (.invokevirtual 223, 3) := dk_182 0 223 (dk_at dksX2_lift_0 2 rfl rfl)
theorem dX2_lift_5 : decode cX2_lift 5 = .ok (.ifCond .ne 5, 3) := dk_154 0 5 (dk_at dksX2_lift_0 5 rfl rfl)
theorem dX2_lift_8 : decode cX2_lift 8 = .ok (.iconst (-1), 1) := dk_2 (dk_at dksX2_lift_0 8 rfl rfl)
theorem dX2_lift_9 : decode cX2_lift 9 = .ok (.ireturn, 1) := dk_172 (dk_at dksX2_lift_0 9 rfl rfl)
theorem dX2_lift_10 : decode cX2_lift 10 = .ok (.aload_n 0, 1) := dk_42 (dk_at dksX2_lift_0 10 rfl rfl)
theorem dX2_lift_11 : decode cX2_lift 11 = .ok (.iload_n 1, 1) := dk_27 (dk_at dksX2_lift_0 11 rfl rfl)
theorem dX2_lift_12 : decode cX2_lift 12 = .ok (.invokevirtual 232, 3) := dk_182 0 232 (dk_at dksX2_lift_0 12 rfl rfl)
theorem dX2_lift_15 : decode cX2_lift 15 = .ok (.ifCond .ne 6, 3) := dk_154 0 6 (dk_at dksX2_lift_0 15 rfl rfl)
theorem dX2_lift_18 : decode cX2_lift 18 = .ok (.bipush (-4), 2) := dk_16 252 (dk_at dksX2_lift_0 18 rfl rfl)
theorem dX2_lift_20 : decode cX2_lift 20 = .ok (.ireturn, 1) := dk_172 (dk_at dksX2_lift_0 20 rfl rfl)
theorem dX2_lift_21 : decode cX2_lift 21 = .ok (.aload_n 0, 1) := dk_42 (dk_at dksX2_lift_0 21 rfl rfl)
theorem dX2_lift_22 : decode cX2_lift 22 = .ok (.getfield 185, 3) := dk_180 0 185 (dk_at dksX2_lift_1 0 rfl rfl)
theorem dX2_lift_25 : decode cX2_lift 25 = .ok (.bipush 40, 2) := dk_16 40 (dk_at dksX2_lift_1 3 rfl rfl)
theorem dX2_lift_27 : decode cX2_lift 27 = .ok (.if_icmp .ne 6, 3) := dk_160 0 6 (dk_at dksX2_lift_1 5 rfl rfl)
theorem dX2_lift_30 : decode cX2_lift 30 = .ok (.bipush (-2), 2) := dk_16 254 (dk_at dksX2_lift_1 8 rfl rfl)
theorem dX2_lift_32 : decode cX2_lift 32 = .ok (.ireturn, 1) := dk_172 (dk_at dksX2_lift_1 10 rfl rfl)
theorem dX2_lift_33 : decode cX2_lift 33 = .ok (.aload_n 0, 1) := dk_42 (dk_at dksX2_lift_1 11 rfl rfl)
theorem dX2_lift_34 : decode cX2_lift 34 = .ok (.invokevirtual 293, 3) := dk_182 1 37 (dk_at dksX2_lift_1 12 rfl rfl)
theorem dX2_lift_37 : decode cX2_lift 37 = .ok (.aload_n 0, 1) := dk_42 (dk_at dksX2_lift_1 15 rfl rfl)
theorem dX2_lift_38 : decode cX2_lift 38 = .ok (.iload_n 1, 1) := dk_27 (dk_at dksX2_lift_1 16 rfl rfl)
theorem dX2_lift_39 : decode cX2_lift 39 = .ok (.invokevirtual 296, 3) := dk_182 1 40 (dk_at dksX2_lift_1 17 rfl rfl)
theorem dX2_lift_42 : decode cX2_lift 42 = .ok (.aload_n 0, 1) := dk_42 (dk_at dksX2_lift_1 20 rfl rfl)
theorem dX2_lift_43 : decode cX2_lift 43 = .ok (.invokevirtual 270, 3) := dk_182 1 14 (dk_at dksX2_lift_1 21 rfl rfl)
theorem dX2_lift_46 : decode cX2_lift 46 = .ok (.ireturn, 1) := dk_172 (dk_at dksX2_lift_2 0 rfl rfl)
abbrev cX2_lifts : ByteArray := prog_13_method_67_code
def yX2_lifts : MethodName := ⟨RX2, "lifts", "(I)V"⟩
def dkwX2_lifts_1 : List UInt8 := [180, 0, 35, 7, 27, 104, 5, 96, 3, 79, 42, 180, 0, 35, 7, 27, 104, 6, 96, 3, 79, 177]
abbrev dktX2_lifts_1 : List UInt8 := dkwX2_lifts_1 ++ []
def dkwX2_lifts_0 : List UInt8 := [42, 180, 0, 35, 7, 27, 104, 3, 96, 2, 79, 42, 180, 0, 35, 7, 27, 104, 4, 96, 3, 79, 42]
abbrev dktX2_lifts_0 : List UInt8 := dkwX2_lifts_0 ++ dktX2_lifts_1
theorem dksX2_lifts_0 : cX2_lifts.data.toList.drop 0 = dktX2_lifts_0 := by decide +kernel
theorem dksX2_lifts_1 : cX2_lifts.data.toList.drop 23 = dktX2_lifts_1 := dk_seg dksX2_lifts_0 23 rfl rfl
theorem dX2_lifts_0 : decode cX2_lifts 0 = .ok (.aload_n 0, 1) := dk_42 (dk_at dksX2_lifts_0 0 rfl rfl)
theorem dX2_lifts_1 : decode cX2_lifts 1 = .ok (.getfield 35, 3) := dk_180 0 35 (dk_at dksX2_lifts_0 1 rfl rfl)
theorem dX2_lifts_4 : decode cX2_lifts 4 = .ok (.iconst 4, 1) := dk_7 (dk_at dksX2_lifts_0 4 rfl rfl)
theorem dX2_lifts_5 : decode cX2_lifts 5 = .ok (.iload_n 1, 1) := dk_27 (dk_at dksX2_lifts_0 5 rfl rfl)
theorem dX2_lifts_6 : decode cX2_lifts 6 = .ok (.imul, 1) := dk_104 (dk_at dksX2_lifts_0 6 rfl rfl)
theorem dX2_lifts_7 : decode cX2_lifts 7 = .ok (.iconst 0, 1) := dk_3 (dk_at dksX2_lifts_0 7 rfl rfl)
theorem dX2_lifts_8 : decode cX2_lifts 8 = .ok (.iadd, 1) := dk_96 (dk_at dksX2_lifts_0 8 rfl rfl)
theorem dX2_lifts_9 : decode cX2_lifts 9 = .ok (.iconst (-1), 1) := dk_2 (dk_at dksX2_lifts_0 9 rfl rfl)
theorem dX2_lifts_10 : decode cX2_lifts 10 = .ok (.iastore, 1) := dk_79 (dk_at dksX2_lifts_0 10 rfl rfl)
theorem dX2_lifts_11 : decode cX2_lifts 11 = .ok (.aload_n 0, 1) := dk_42 (dk_at dksX2_lifts_0 11 rfl rfl)
theorem dX2_lifts_12 : decode cX2_lifts 12 = .ok (.getfield 35, 3) := dk_180 0 35 (dk_at dksX2_lifts_0 12 rfl rfl)
theorem dX2_lifts_15 : decode cX2_lifts 15 = .ok (.iconst 4, 1) := dk_7 (dk_at dksX2_lifts_0 15 rfl rfl)
theorem dX2_lifts_16 : decode cX2_lifts 16 = .ok (.iload_n 1, 1) := dk_27 (dk_at dksX2_lifts_0 16 rfl rfl)
theorem dX2_lifts_17 : decode cX2_lifts 17 = .ok (.imul, 1) := dk_104 (dk_at dksX2_lifts_0 17 rfl rfl)
theorem dX2_lifts_18 : decode cX2_lifts 18 = .ok (.iconst 1, 1) := dk_4 (dk_at dksX2_lifts_0 18 rfl rfl)
theorem dX2_lifts_19 : decode cX2_lifts 19 = .ok (.iadd, 1) := dk_96 (dk_at dksX2_lifts_0 19 rfl rfl)
theorem dX2_lifts_20 : decode cX2_lifts 20 = .ok (.iconst 0, 1) := dk_3 (dk_at dksX2_lifts_0 20 rfl rfl)
theorem dX2_lifts_21 : decode cX2_lifts 21 = .ok (.iastore, 1) := dk_79 (dk_at dksX2_lifts_0 21 rfl rfl)
theorem dX2_lifts_22 : decode cX2_lifts 22 = .ok (.aload_n 0, 1) := dk_42 (dk_at dksX2_lifts_0 22 rfl rfl)
theorem dX2_lifts_23 : decode cX2_lifts 23 = .ok (.getfield 35, 3) := dk_180 0 35 (dk_at dksX2_lifts_1 0 rfl rfl)
theorem dX2_lifts_26 : decode cX2_lifts 26 = .ok (.iconst 4, 1) := dk_7 (dk_at dksX2_lifts_1 3 rfl rfl)
theorem dX2_lifts_27 : decode cX2_lifts 27 = .ok (.iload_n 1, 1) := dk_27 (dk_at dksX2_lifts_1 4 rfl rfl)
theorem dX2_lifts_28 : decode cX2_lifts 28 = .ok (.imul, 1) := dk_104 (dk_at dksX2_lifts_1 5 rfl rfl)
theorem dX2_lifts_29 : decode cX2_lifts 29 = .ok (.iconst 2, 1) := dk_5 (dk_at dksX2_lifts_1 6 rfl rfl)
theorem dX2_lifts_30 : decode cX2_lifts 30 = .ok (.iadd, 1) := dk_96 (dk_at dksX2_lifts_1 7 rfl rfl)
theorem dX2_lifts_31 : decode cX2_lifts 31 = .ok (.iconst 0, 1) := dk_3 (dk_at dksX2_lifts_1 8 rfl rfl)
theorem dX2_lifts_32 : decode cX2_lifts 32 = .ok (.iastore, 1) := dk_79 (dk_at dksX2_lifts_1 9 rfl rfl)
theorem dX2_lifts_33 : decode cX2_lifts 33 = .ok (.aload_n 0, 1) := dk_42 (dk_at dksX2_lifts_1 10 rfl rfl)
theorem dX2_lifts_34 : decode cX2_lifts 34 = .ok (.getfield 35, 3) := dk_180 0 35 (dk_at dksX2_lifts_1 11 rfl rfl)
theorem dX2_lifts_37 : decode cX2_lifts 37 = .ok (.iconst 4, 1) := dk_7 (dk_at dksX2_lifts_1 14 rfl rfl)
theorem dX2_lifts_38 : decode cX2_lifts 38 = .ok (.iload_n 1, 1) := dk_27 (dk_at dksX2_lifts_1 15 rfl rfl)
theorem dX2_lifts_39 : decode cX2_lifts 39 = .ok (.imul, 1) := dk_104 (dk_at dksX2_lifts_1 16 rfl rfl)
theorem dX2_lifts_40 : decode cX2_lifts 40 = .ok (.iconst 3, 1) := dk_6 (dk_at dksX2_lifts_1 17 rfl rfl)
theorem dX2_lifts_41 : decode cX2_lifts 41 = .ok (.iadd, 1) := dk_96 (dk_at dksX2_lifts_1 18 rfl rfl)
theorem dX2_lifts_42 : decode cX2_lifts 42 = .ok (.iconst 0, 1) := dk_3 (dk_at dksX2_lifts_1 19 rfl rfl)
theorem dX2_lifts_43 : decode cX2_lifts 43 = .ok (.iastore, 1) := dk_79 (dk_at dksX2_lifts_1 20 rfl rfl)
theorem dX2_lifts_44 : decode cX2_lifts 44 = .ok (.return_, 1) := dk_177 (dk_at dksX2_lifts_1 21 rfl rfl)
abbrev cX2_all : ByteArray := prog_13_method_76_code
def yX2_all : MethodName := ⟨RX2, "all", "(I)I"⟩
def dkwX2_all_1 : List UInt8 := [160, 0, 6, 16, 254, 172, 42, 182, 1, 37, 42, 27, 182, 1, 43, 42, 182, 1, 14, 172]
abbrev dktX2_all_1 : List UInt8 := dkwX2_all_1 ++ []
def dkwX2_all_0 : List UInt8 := [27, 3, 5, 184, 0, 75, 153, 0, 10, 42, 180, 0, 179, 154, 0, 5, 2, 172, 42, 180, 0, 185, 16, 40]
abbrev dktX2_all_0 : List UInt8 := dkwX2_all_0 ++ dktX2_all_1
theorem dksX2_all_0 : cX2_all.data.toList.drop 0 = dktX2_all_0 := by decide +kernel
theorem dksX2_all_1 : cX2_all.data.toList.drop 24 = dktX2_all_1 := dk_seg dksX2_all_0 24 rfl rfl
theorem dX2_all_0 : decode cX2_all 0 = .ok (.iload_n 1, 1) := dk_27 (dk_at dksX2_all_0 0 rfl rfl)
theorem dX2_all_1 : decode cX2_all 1 = .ok (.iconst 0, 1) := dk_3 (dk_at dksX2_all_0 1 rfl rfl)
theorem dX2_all_2 : decode cX2_all 2 = .ok (.iconst 2, 1) := dk_5 (dk_at dksX2_all_0 2 rfl rfl)
theorem dX2_all_3 : decode cX2_all 3 = .ok (.invokestatic 75, 3) := dk_184 0 75 (dk_at dksX2_all_0 3 rfl rfl)
theorem dX2_all_6 : decode cX2_all 6 = .ok (.ifCond .eq 10, 3) := dk_153 0 10 (dk_at dksX2_all_0 6 rfl rfl)
theorem dX2_all_9 : decode cX2_all 9 = .ok (.aload_n 0, 1) := dk_42 (dk_at dksX2_all_0 9 rfl rfl)
theorem dX2_all_10 : decode cX2_all 10 = .ok (.getfield 179, 3) := dk_180 0 179 (dk_at dksX2_all_0 10 rfl rfl)
theorem dX2_all_13 : decode cX2_all 13 = .ok (.ifCond .ne 5, 3) := dk_154 0 5 (dk_at dksX2_all_0 13 rfl rfl)
theorem dX2_all_16 : decode cX2_all 16 = .ok (.iconst (-1), 1) := dk_2 (dk_at dksX2_all_0 16 rfl rfl)
theorem dX2_all_17 : decode cX2_all 17 = .ok (.ireturn, 1) := dk_172 (dk_at dksX2_all_0 17 rfl rfl)
theorem dX2_all_18 : decode cX2_all 18 = .ok (.aload_n 0, 1) := dk_42 (dk_at dksX2_all_0 18 rfl rfl)
theorem dX2_all_19 : decode cX2_all 19 = .ok (.getfield 185, 3) := dk_180 0 185 (dk_at dksX2_all_0 19 rfl rfl)
theorem dX2_all_22 : decode cX2_all 22 = .ok (.bipush 40, 2) := dk_16 40 (dk_at dksX2_all_0 22 rfl rfl)
theorem dX2_all_24 : decode cX2_all 24 = .ok (.if_icmp .ne 6, 3) := dk_160 0 6 (dk_at dksX2_all_1 0 rfl rfl)
theorem dX2_all_27 : decode cX2_all 27 = .ok (.bipush (-2), 2) := dk_16 254 (dk_at dksX2_all_1 3 rfl rfl)
theorem dX2_all_29 : decode cX2_all 29 = .ok (.ireturn, 1) := dk_172 (dk_at dksX2_all_1 5 rfl rfl)
theorem dX2_all_30 : decode cX2_all 30 = .ok (.aload_n 0, 1) := dk_42 (dk_at dksX2_all_1 6 rfl rfl)
theorem dX2_all_31 : decode cX2_all 31 = .ok (.invokevirtual 293, 3) := dk_182 1 37 (dk_at dksX2_all_1 7 rfl rfl)
theorem dX2_all_34 : decode cX2_all 34 = .ok (.aload_n 0, 1) := dk_42 (dk_at dksX2_all_1 10 rfl rfl)
theorem dX2_all_35 : decode cX2_all 35 = .ok (.iload_n 1, 1) := dk_27 (dk_at dksX2_all_1 11 rfl rfl)
theorem dX2_all_36 : decode cX2_all 36 = .ok (.invokevirtual 299, 3) := dk_182 1 43 (dk_at dksX2_all_1 12 rfl rfl)
theorem dX2_all_39 : decode cX2_all 39 = .ok (.aload_n 0, 1) := dk_42 (dk_at dksX2_all_1 15 rfl rfl)
theorem dX2_all_40 : decode cX2_all 40 = .ok (.invokevirtual 270, 3) := dk_182 1 14 (dk_at dksX2_all_1 16 rfl rfl)
theorem dX2_all_43 : decode cX2_all 43 = .ok (.ireturn, 1) := dk_172 (dk_at dksX2_all_1 19 rfl rfl)
abbrev cX2_setsAll : ByteArray := prog_13_method_69_code
def yX2_setsAll : MethodName := ⟨RX2, "setsAll", "(I)V"⟩
def dkwX2_setsAll_5 : List UInt8 := [167, 255, 151, 177]
abbrev dktX2_setsAll_5 : List UInt8 := dkwX2_setsAll_5 ++ []
def dkwX2_setsAll_4 : List UInt8 := [182, 1, 30, 54, 5, 21, 5, 16, 247, 159, 0, 11, 42, 21, 4, 21, 5, 182, 1, 33, 132, 3, 1]
abbrev dktX2_setsAll_4 : List UInt8 := dkwX2_setsAll_4 ++ dktX2_setsAll_5
def dkwX2_setsAll_3 : List UInt8 := [167, 0, 5, 21, 4, 54, 4, 132, 5, 1, 167, 255, 202, 28, 4, 21, 4, 120, 128, 61, 42, 21, 4]
abbrev dktX2_setsAll_3 : List UInt8 := dkwX2_setsAll_3 ++ dktX2_setsAll_4
def dkwX2_setsAll_2 : List UInt8 := [159, 0, 20, 42, 21, 5, 27, 182, 1, 27, 42, 21, 4, 27, 182, 1, 27, 164, 0, 8, 21, 5]
abbrev dktX2_setsAll_2 : List UInt8 := dkwX2_setsAll_2 ++ dktX2_setsAll_3
def dkwX2_setsAll_1 : List UInt8 := [21, 5, 42, 180, 0, 179, 162, 0, 51, 28, 21, 5, 184, 1, 24, 154, 0, 32, 21, 4, 16, 247]
abbrev dktX2_setsAll_1 : List UInt8 := dkwX2_setsAll_1 ++ dktX2_setsAll_2
def dkwX2_setsAll_0 : List UInt8 := [42, 182, 0, 182, 3, 61, 3, 62, 29, 42, 180, 0, 179, 162, 0, 103, 16, 247, 54, 4, 3, 54, 5]
abbrev dktX2_setsAll_0 : List UInt8 := dkwX2_setsAll_0 ++ dktX2_setsAll_1
theorem dksX2_setsAll_0 : cX2_setsAll.data.toList.drop 0 = dktX2_setsAll_0 := by decide +kernel
theorem dksX2_setsAll_1 : cX2_setsAll.data.toList.drop 23 = dktX2_setsAll_1 := dk_seg dksX2_setsAll_0 23 rfl rfl
theorem dksX2_setsAll_2 : cX2_setsAll.data.toList.drop 45 = dktX2_setsAll_2 := dk_seg dksX2_setsAll_1 22 rfl rfl
theorem dksX2_setsAll_3 : cX2_setsAll.data.toList.drop 67 = dktX2_setsAll_3 := dk_seg dksX2_setsAll_2 22 rfl rfl
theorem dksX2_setsAll_4 : cX2_setsAll.data.toList.drop 90 = dktX2_setsAll_4 := dk_seg dksX2_setsAll_3 23 rfl rfl
theorem dksX2_setsAll_5 : cX2_setsAll.data.toList.drop 113 = dktX2_setsAll_5 := dk_seg dksX2_setsAll_4 23 rfl rfl
theorem dX2_setsAll_0 : decode cX2_setsAll 0 = .ok (.aload_n 0, 1) := dk_42 (dk_at dksX2_setsAll_0 0 rfl rfl)
theorem dX2_setsAll_1 : decode cX2_setsAll 1 = .ok (.invokevirtual 182, 3) := dk_182 0 182 (dk_at dksX2_setsAll_0 1 rfl rfl)
theorem dX2_setsAll_4 : decode cX2_setsAll 4 = .ok (.iconst 0, 1) := dk_3 (dk_at dksX2_setsAll_0 4 rfl rfl)
theorem dX2_setsAll_5 : decode cX2_setsAll 5 = .ok (.istore_n 2, 1) := dk_61 (dk_at dksX2_setsAll_0 5 rfl rfl)
theorem dX2_setsAll_6 : decode cX2_setsAll 6 = .ok (.iconst 0, 1) := dk_3 (dk_at dksX2_setsAll_0 6 rfl rfl)
theorem dX2_setsAll_7 : decode cX2_setsAll 7 = .ok (.istore_n 3, 1) := dk_62 (dk_at dksX2_setsAll_0 7 rfl rfl)
theorem dX2_setsAll_8 : decode cX2_setsAll 8 = .ok (.iload_n 3, 1) := dk_29 (dk_at dksX2_setsAll_0 8 rfl rfl)
theorem dX2_setsAll_9 : decode cX2_setsAll 9 = .ok (.aload_n 0, 1) := dk_42 (dk_at dksX2_setsAll_0 9 rfl rfl)
theorem dX2_setsAll_10 : decode cX2_setsAll 10 = .ok (.getfield 179, 3) := dk_180 0 179 (dk_at dksX2_setsAll_0 10 rfl rfl)
theorem dX2_setsAll_13 : decode cX2_setsAll 13 = .ok (.if_icmp .ge 103, 3) := dk_162 0 103 (dk_at dksX2_setsAll_0 13 rfl rfl)
theorem dX2_setsAll_16 : decode cX2_setsAll 16 = .ok (.bipush (-9), 2) := dk_16 247 (dk_at dksX2_setsAll_0 16 rfl rfl)
theorem dX2_setsAll_18 : decode cX2_setsAll 18 = .ok (.istore 4, 2) := dk_54 4 (dk_at dksX2_setsAll_0 18 rfl rfl)
theorem dX2_setsAll_20 : decode cX2_setsAll 20 = .ok (.iconst 0, 1) := dk_3 (dk_at dksX2_setsAll_0 20 rfl rfl)
theorem dX2_setsAll_21 : decode cX2_setsAll 21 = .ok (.istore 5, 2) := dk_54 5 (dk_at dksX2_setsAll_0 21 rfl rfl)
theorem dX2_setsAll_23 : decode cX2_setsAll 23 = .ok (.iload 5, 2) := dk_21 5 (dk_at dksX2_setsAll_1 0 rfl rfl)
theorem dX2_setsAll_25 : decode cX2_setsAll 25 = .ok (.aload_n 0, 1) := dk_42 (dk_at dksX2_setsAll_1 2 rfl rfl)
theorem dX2_setsAll_26 : decode cX2_setsAll 26 = .ok (.getfield 179, 3) := dk_180 0 179 (dk_at dksX2_setsAll_1 3 rfl rfl)
theorem dX2_setsAll_29 : decode cX2_setsAll 29 = .ok (.if_icmp .ge 51, 3) := dk_162 0 51 (dk_at dksX2_setsAll_1 6 rfl rfl)
theorem dX2_setsAll_32 : decode cX2_setsAll 32 = .ok (.iload_n 2, 1) := dk_28 (dk_at dksX2_setsAll_1 9 rfl rfl)
theorem dX2_setsAll_33 : decode cX2_setsAll 33 = .ok (.iload 5, 2) := dk_21 5 (dk_at dksX2_setsAll_1 10 rfl rfl)
theorem dX2_setsAll_35 : decode cX2_setsAll 35 = .ok (.invokestatic 280, 3) := dk_184 1 24 (dk_at dksX2_setsAll_1 12 rfl rfl)
theorem dX2_setsAll_38 : decode cX2_setsAll 38 = .ok (.ifCond .ne 32, 3) := dk_154 0 32 (dk_at dksX2_setsAll_1 15 rfl rfl)
theorem dX2_setsAll_41 : decode cX2_setsAll 41 = .ok (.iload 4, 2) := dk_21 4 (dk_at dksX2_setsAll_1 18 rfl rfl)
theorem dX2_setsAll_43 : decode cX2_setsAll 43 = .ok (.bipush (-9), 2) := dk_16 247 (dk_at dksX2_setsAll_1 20 rfl rfl)
theorem dX2_setsAll_45 : decode cX2_setsAll 45 = .ok (.if_icmp .eq 20, 3) := dk_159 0 20 (dk_at dksX2_setsAll_2 0 rfl rfl)
theorem dX2_setsAll_48 : decode cX2_setsAll 48 = .ok (.aload_n 0, 1) := dk_42 (dk_at dksX2_setsAll_2 3 rfl rfl)
theorem dX2_setsAll_49 : decode cX2_setsAll 49 = .ok (.iload 5, 2) := dk_21 5 (dk_at dksX2_setsAll_2 4 rfl rfl)
theorem dX2_setsAll_51 : decode cX2_setsAll 51 = .ok (.iload_n 1, 1) := dk_27 (dk_at dksX2_setsAll_2 6 rfl rfl)
theorem dX2_setsAll_52 : decode cX2_setsAll 52 = .ok (.invokevirtual 283, 3) := dk_182 1 27 (dk_at dksX2_setsAll_2 7 rfl rfl)
theorem dX2_setsAll_55 : decode cX2_setsAll 55 = .ok (.aload_n 0, 1) := dk_42 (dk_at dksX2_setsAll_2 10 rfl rfl)
theorem dX2_setsAll_56 : decode cX2_setsAll 56 = .ok (.iload 4, 2) := dk_21 4 (dk_at dksX2_setsAll_2 11 rfl rfl)
theorem dX2_setsAll_58 : decode cX2_setsAll 58 = .ok (.iload_n 1, 1) := dk_27 (dk_at dksX2_setsAll_2 13 rfl rfl)
theorem dX2_setsAll_59 : decode cX2_setsAll 59 = .ok (.invokevirtual 283, 3) := dk_182 1 27 (dk_at dksX2_setsAll_2 14 rfl rfl)
theorem dX2_setsAll_62 : decode cX2_setsAll 62 = .ok (.if_icmp .le 8, 3) := dk_164 0 8 (dk_at dksX2_setsAll_2 17 rfl rfl)
theorem dX2_setsAll_65 : decode cX2_setsAll 65 = .ok (.iload 5, 2) := dk_21 5 (dk_at dksX2_setsAll_2 20 rfl rfl)
theorem dX2_setsAll_67 : decode cX2_setsAll 67 = .ok (.goto 5, 3) := dk_167 0 5 (dk_at dksX2_setsAll_3 0 rfl rfl)
theorem dX2_setsAll_70 : decode cX2_setsAll 70 = .ok (.iload 4, 2) := dk_21 4 (dk_at dksX2_setsAll_3 3 rfl rfl)
theorem dX2_setsAll_72 : decode cX2_setsAll 72 = .ok (.istore 4, 2) := dk_54 4 (dk_at dksX2_setsAll_3 5 rfl rfl)
theorem dX2_setsAll_74 : decode cX2_setsAll 74 = .ok (.iinc 5 1, 3) := dk_132 5 1 (dk_at dksX2_setsAll_3 7 rfl rfl)
theorem dX2_setsAll_77 : decode cX2_setsAll 77 = .ok (.goto (-54), 3) := dk_167 255 202 (dk_at dksX2_setsAll_3 10 rfl rfl)
theorem dX2_setsAll_80 : decode cX2_setsAll 80 = .ok (.iload_n 2, 1) := dk_28 (dk_at dksX2_setsAll_3 13 rfl rfl)
theorem dX2_setsAll_81 : decode cX2_setsAll 81 = .ok (.iconst 1, 1) := dk_4 (dk_at dksX2_setsAll_3 14 rfl rfl)
theorem dX2_setsAll_82 : decode cX2_setsAll 82 = .ok (.iload 4, 2) := dk_21 4 (dk_at dksX2_setsAll_3 15 rfl rfl)
theorem dX2_setsAll_84 : decode cX2_setsAll 84 = .ok (.ishl, 1) := dk_120 (dk_at dksX2_setsAll_3 17 rfl rfl)
theorem dX2_setsAll_85 : decode cX2_setsAll 85 = .ok (.ior, 1) := dk_128 (dk_at dksX2_setsAll_3 18 rfl rfl)
theorem dX2_setsAll_86 : decode cX2_setsAll 86 = .ok (.istore_n 2, 1) := dk_61 (dk_at dksX2_setsAll_3 19 rfl rfl)
theorem dX2_setsAll_87 : decode cX2_setsAll 87 = .ok (.aload_n 0, 1) := dk_42 (dk_at dksX2_setsAll_3 20 rfl rfl)
theorem dX2_setsAll_88 : decode cX2_setsAll 88 = .ok (.iload 4, 2) := dk_21 4 (dk_at dksX2_setsAll_3 21 rfl rfl)
theorem dX2_setsAll_90 : decode cX2_setsAll 90 = .ok (.invokevirtual 286, 3) := dk_182 1 30 (dk_at dksX2_setsAll_4 0 rfl rfl)
theorem dX2_setsAll_93 : decode cX2_setsAll 93 = .ok (.istore 5, 2) := dk_54 5 (dk_at dksX2_setsAll_4 3 rfl rfl)
theorem dX2_setsAll_95 : decode cX2_setsAll 95 = .ok (.iload 5, 2) := dk_21 5 (dk_at dksX2_setsAll_4 5 rfl rfl)
theorem dX2_setsAll_97 : decode cX2_setsAll 97 = .ok (.bipush (-9), 2) := dk_16 247 (dk_at dksX2_setsAll_4 7 rfl rfl)
theorem dX2_setsAll_99 : decode cX2_setsAll 99 = .ok (.if_icmp .eq 11, 3) := dk_159 0 11 (dk_at dksX2_setsAll_4 9 rfl rfl)
theorem dX2_setsAll_102 : decode cX2_setsAll 102 = .ok (.aload_n 0, 1) := dk_42 (dk_at dksX2_setsAll_4 12 rfl rfl)
theorem dX2_setsAll_103 : decode cX2_setsAll 103 = .ok (.iload 4, 2) := dk_21 4 (dk_at dksX2_setsAll_4 13 rfl rfl)
theorem dX2_setsAll_105 : decode cX2_setsAll 105 = .ok (.iload 5, 2) := dk_21 5 (dk_at dksX2_setsAll_4 15 rfl rfl)
theorem dX2_setsAll_107 : decode cX2_setsAll 107 = .ok (.invokevirtual 289, 3) := dk_182 1 33 (dk_at dksX2_setsAll_4 17 rfl rfl)
theorem dX2_setsAll_110 : decode cX2_setsAll 110 = .ok (.iinc 3 1, 3) := dk_132 3 1 (dk_at dksX2_setsAll_4 20 rfl rfl)
theorem dX2_setsAll_113 : decode cX2_setsAll 113 = .ok (.goto (-105), 3) := dk_167 255 151 (dk_at dksX2_setsAll_5 0 rfl rfl)
theorem dX2_setsAll_116 : decode cX2_setsAll 116 = .ok (.return_, 1) := dk_177 (dk_at dksX2_setsAll_5 3 rfl rfl)
abbrev cX2_has : ByteArray := prog_13_method_3_code
def yX2_has : MethodName := ⟨RX2, "has", "(II)Z"⟩
def dkwX2_has_0 : List UInt8 := [26, 27, 122, 4, 126, 4, 160, 0, 7, 4, 167, 0, 4, 3, 172]
abbrev dktX2_has_0 : List UInt8 := dkwX2_has_0 ++ []
theorem dksX2_has_0 : cX2_has.data.toList.drop 0 = dktX2_has_0 := by decide +kernel
theorem dX2_has_0 : decode cX2_has 0 = .ok (.iload_n 0, 1) := dk_26 (dk_at dksX2_has_0 0 rfl rfl)
theorem dX2_has_1 : decode cX2_has 1 = .ok (.iload_n 1, 1) := dk_27 (dk_at dksX2_has_0 1 rfl rfl)
theorem dX2_has_2 : decode cX2_has 2 = .ok (.ishr, 1) := dk_122 (dk_at dksX2_has_0 2 rfl rfl)
theorem dX2_has_3 : decode cX2_has 3 = .ok (.iconst 1, 1) := dk_4 (dk_at dksX2_has_0 3 rfl rfl)
theorem dX2_has_4 : decode cX2_has 4 = .ok (.iand, 1) := dk_126 (dk_at dksX2_has_0 4 rfl rfl)
theorem dX2_has_5 : decode cX2_has 5 = .ok (.iconst 1, 1) := dk_4 (dk_at dksX2_has_0 5 rfl rfl)
theorem dX2_has_6 : decode cX2_has 6 = .ok (.if_icmp .ne 7, 3) := dk_160 0 7 (dk_at dksX2_has_0 6 rfl rfl)
theorem dX2_has_9 : decode cX2_has 9 = .ok (.iconst 1, 1) := dk_4 (dk_at dksX2_has_0 9 rfl rfl)
theorem dX2_has_10 : decode cX2_has 10 = .ok (.goto 4, 3) := dk_167 0 4 (dk_at dksX2_has_0 10 rfl rfl)
theorem dX2_has_13 : decode cX2_has 13 = .ok (.iconst 0, 1) := dk_3 (dk_at dksX2_has_0 13 rfl rfl)
theorem dX2_has_14 : decode cX2_has 14 = .ok (.ireturn, 1) := dk_172 (dk_at dksX2_has_0 14 rfl rfl)
abbrev cX2_weight : ByteArray := prog_13_method_68_code
def yX2_weight : MethodName := ⟨RX2, "weight", "(II)I"⟩
def dkwX2_weight_1 : List UInt8 := [4, 160, 0, 10, 29, 21, 4, 104, 167, 0, 15, 29, 21, 4, 164, 0, 7, 29, 167, 0, 5, 21, 4, 172]
abbrev dktX2_weight_1 : List UInt8 := dkwX2_weight_1 ++ []
def dkwX2_weight_0 : List UInt8 := [42, 27, 3, 182, 0, 220, 62, 42, 27, 3, 182, 0, 229, 54, 4, 28, 154, 0, 7, 3, 167, 0, 27, 28]
abbrev dktX2_weight_0 : List UInt8 := dkwX2_weight_0 ++ dktX2_weight_1
theorem dksX2_weight_0 : cX2_weight.data.toList.drop 0 = dktX2_weight_0 := by decide +kernel
theorem dksX2_weight_1 : cX2_weight.data.toList.drop 24 = dktX2_weight_1 := dk_seg dksX2_weight_0 24 rfl rfl
theorem dX2_weight_0 : decode cX2_weight 0 = .ok (.aload_n 0, 1) := dk_42 (dk_at dksX2_weight_0 0 rfl rfl)
theorem dX2_weight_1 : decode cX2_weight 1 = .ok (.iload_n 1, 1) := dk_27 (dk_at dksX2_weight_0 1 rfl rfl)
theorem dX2_weight_2 : decode cX2_weight 2 = .ok (.iconst 0, 1) := dk_3 (dk_at dksX2_weight_0 2 rfl rfl)
theorem dX2_weight_3 : decode cX2_weight 3 = .ok (.invokevirtual 220, 3) := dk_182 0 220 (dk_at dksX2_weight_0 3 rfl rfl)
theorem dX2_weight_6 : decode cX2_weight 6 = .ok (.istore_n 3, 1) := dk_62 (dk_at dksX2_weight_0 6 rfl rfl)
theorem dX2_weight_7 : decode cX2_weight 7 = .ok (.aload_n 0, 1) := dk_42 (dk_at dksX2_weight_0 7 rfl rfl)
theorem dX2_weight_8 : decode cX2_weight 8 = .ok (.iload_n 1, 1) := dk_27 (dk_at dksX2_weight_0 8 rfl rfl)
theorem dX2_weight_9 : decode cX2_weight 9 = .ok (.iconst 0, 1) := dk_3 (dk_at dksX2_weight_0 9 rfl rfl)
theorem dX2_weight_10 : decode cX2_weight 10 = .ok (.invokevirtual 229, 3) := dk_182 0 229 (dk_at dksX2_weight_0 10 rfl rfl)
theorem dX2_weight_13 : decode cX2_weight 13 = .ok (.istore 4, 2) := dk_54 4 (dk_at dksX2_weight_0 13 rfl rfl)
theorem dX2_weight_15 : decode cX2_weight 15 = .ok (.iload_n 2, 1) := dk_28 (dk_at dksX2_weight_0 15 rfl rfl)
theorem dX2_weight_16 : decode cX2_weight 16 = .ok (.ifCond .ne 7, 3) := dk_154 0 7 (dk_at dksX2_weight_0 16 rfl rfl)
theorem dX2_weight_19 : decode cX2_weight 19 = .ok (.iconst 0, 1) := dk_3 (dk_at dksX2_weight_0 19 rfl rfl)
theorem dX2_weight_20 : decode cX2_weight 20 = .ok (.goto 27, 3) := dk_167 0 27 (dk_at dksX2_weight_0 20 rfl rfl)
theorem dX2_weight_23 : decode cX2_weight 23 = .ok (.iload_n 2, 1) := dk_28 (dk_at dksX2_weight_0 23 rfl rfl)
theorem dX2_weight_24 : decode cX2_weight 24 = .ok (.iconst 1, 1) := dk_4 (dk_at dksX2_weight_1 0 rfl rfl)
theorem dX2_weight_25 : decode cX2_weight 25 = .ok (.if_icmp .ne 10, 3) := dk_160 0 10 (dk_at dksX2_weight_1 1 rfl rfl)
theorem dX2_weight_28 : decode cX2_weight 28 = .ok (.iload_n 3, 1) := dk_29 (dk_at dksX2_weight_1 4 rfl rfl)
theorem dX2_weight_29 : decode cX2_weight 29 = .ok (.iload 4, 2) := dk_21 4 (dk_at dksX2_weight_1 5 rfl rfl)
theorem dX2_weight_31 : decode cX2_weight 31 = .ok (.imul, 1) := dk_104 (dk_at dksX2_weight_1 7 rfl rfl)
theorem dX2_weight_32 : decode cX2_weight 32 = .ok (.goto 15, 3) := dk_167 0 15 (dk_at dksX2_weight_1 8 rfl rfl)
theorem dX2_weight_35 : decode cX2_weight 35 = .ok (.iload_n 3, 1) := dk_29 (dk_at dksX2_weight_1 11 rfl rfl)
theorem dX2_weight_36 : decode cX2_weight 36 = .ok (.iload 4, 2) := dk_21 4 (dk_at dksX2_weight_1 12 rfl rfl)
theorem dX2_weight_38 : decode cX2_weight 38 = .ok (.if_icmp .le 7, 3) := dk_164 0 7 (dk_at dksX2_weight_1 14 rfl rfl)
theorem dX2_weight_41 : decode cX2_weight 41 = .ok (.iload_n 3, 1) := dk_29 (dk_at dksX2_weight_1 17 rfl rfl)
theorem dX2_weight_42 : decode cX2_weight 42 = .ok (.goto 5, 3) := dk_167 0 5 (dk_at dksX2_weight_1 18 rfl rfl)
theorem dX2_weight_45 : decode cX2_weight 45 = .ok (.iload 4, 2) := dk_21 4 (dk_at dksX2_weight_1 21 rfl rfl)
theorem dX2_weight_47 : decode cX2_weight 47 = .ok (.ireturn, 1) := dk_172 (dk_at dksX2_weight_1 23 rfl rfl)
abbrev cX2_rule : ByteArray := prog_13_method_77_code
def yX2_rule : MethodName := ⟨RX2, "rule", "(I)I"⟩
def dkwX2_rule_2 : List UInt8 := [182, 1, 37, 42, 180, 0, 35, 16, 32, 27, 79, 28, 172]
abbrev dktX2_rule_2 : List UInt8 := dkwX2_rule_2 ++ []
def dkwX2_rule_1 : List UInt8 := [153, 0, 8, 28, 27, 160, 0, 6, 16, 252, 172, 42, 180, 0, 185, 16, 40, 160, 0, 6, 16, 254, 172, 42]
abbrev dktX2_rule_1 : List UInt8 := dkwX2_rule_1 ++ dktX2_rule_2
def dkwX2_rule_0 : List UInt8 := [27, 3, 6, 184, 0, 75, 154, 0, 5, 2, 172, 42, 180, 0, 35, 16, 32, 46, 61, 42, 180, 0, 179]
abbrev dktX2_rule_0 : List UInt8 := dkwX2_rule_0 ++ dktX2_rule_1
theorem dksX2_rule_0 : cX2_rule.data.toList.drop 0 = dktX2_rule_0 := by decide +kernel
theorem dksX2_rule_1 : cX2_rule.data.toList.drop 23 = dktX2_rule_1 := dk_seg dksX2_rule_0 23 rfl rfl
theorem dksX2_rule_2 : cX2_rule.data.toList.drop 47 = dktX2_rule_2 := dk_seg dksX2_rule_1 24 rfl rfl
theorem dX2_rule_0 : decode cX2_rule 0 = .ok (.iload_n 1, 1) := dk_27 (dk_at dksX2_rule_0 0 rfl rfl)
theorem dX2_rule_1 : decode cX2_rule 1 = .ok (.iconst 0, 1) := dk_3 (dk_at dksX2_rule_0 1 rfl rfl)
theorem dX2_rule_2 : decode cX2_rule 2 = .ok (.iconst 3, 1) := dk_6 (dk_at dksX2_rule_0 2 rfl rfl)
theorem dX2_rule_3 : decode cX2_rule 3 = .ok (.invokestatic 75, 3) := dk_184 0 75 (dk_at dksX2_rule_0 3 rfl rfl)
theorem dX2_rule_6 : decode cX2_rule 6 = .ok (.ifCond .ne 5, 3) := dk_154 0 5 (dk_at dksX2_rule_0 6 rfl rfl)
theorem dX2_rule_9 : decode cX2_rule 9 = .ok (.iconst (-1), 1) := dk_2 (dk_at dksX2_rule_0 9 rfl rfl)
theorem dX2_rule_10 : decode cX2_rule 10 = .ok (.ireturn, 1) := dk_172 (dk_at dksX2_rule_0 10 rfl rfl)
theorem dX2_rule_11 : decode cX2_rule 11 = .ok (.aload_n 0, 1) := dk_42 (dk_at dksX2_rule_0 11 rfl rfl)
theorem dX2_rule_12 : decode cX2_rule 12 = .ok (.getfield 35, 3) := dk_180 0 35 (dk_at dksX2_rule_0 12 rfl rfl)
theorem dX2_rule_15 : decode cX2_rule 15 = .ok (.bipush 32, 2) := dk_16 32 (dk_at dksX2_rule_0 15 rfl rfl)
theorem dX2_rule_17 : decode cX2_rule 17 = .ok (.iaload, 1) := dk_46 (dk_at dksX2_rule_0 17 rfl rfl)
theorem dX2_rule_18 : decode cX2_rule 18 = .ok (.istore_n 2, 1) := dk_61 (dk_at dksX2_rule_0 18 rfl rfl)
theorem dX2_rule_19 : decode cX2_rule 19 = .ok (.aload_n 0, 1) := dk_42 (dk_at dksX2_rule_0 19 rfl rfl)
theorem dX2_rule_20 : decode cX2_rule 20 = .ok (.getfield 179, 3) := dk_180 0 179 (dk_at dksX2_rule_0 20 rfl rfl)
theorem dX2_rule_23 : decode cX2_rule 23 = .ok (.ifCond .eq 8, 3) := dk_153 0 8 (dk_at dksX2_rule_1 0 rfl rfl)
theorem dX2_rule_26 : decode cX2_rule 26 = .ok (.iload_n 2, 1) := dk_28 (dk_at dksX2_rule_1 3 rfl rfl)
theorem dX2_rule_27 : decode cX2_rule 27 = .ok (.iload_n 1, 1) := dk_27 (dk_at dksX2_rule_1 4 rfl rfl)
theorem dX2_rule_28 : decode cX2_rule 28 = .ok (.if_icmp .ne 6, 3) := dk_160 0 6 (dk_at dksX2_rule_1 5 rfl rfl)
theorem dX2_rule_31 : decode cX2_rule 31 = .ok (.bipush (-4), 2) := dk_16 252 (dk_at dksX2_rule_1 8 rfl rfl)
theorem dX2_rule_33 : decode cX2_rule 33 = .ok (.ireturn, 1) := dk_172 (dk_at dksX2_rule_1 10 rfl rfl)
theorem dX2_rule_34 : decode cX2_rule 34 = .ok (.aload_n 0, 1) := dk_42 (dk_at dksX2_rule_1 11 rfl rfl)
theorem dX2_rule_35 : decode cX2_rule 35 = .ok (.getfield 185, 3) := dk_180 0 185 (dk_at dksX2_rule_1 12 rfl rfl)
theorem dX2_rule_38 : decode cX2_rule 38 = .ok (.bipush 40, 2) := dk_16 40 (dk_at dksX2_rule_1 15 rfl rfl)
theorem dX2_rule_40 : decode cX2_rule 40 = .ok (.if_icmp .ne 6, 3) := dk_160 0 6 (dk_at dksX2_rule_1 17 rfl rfl)
theorem dX2_rule_43 : decode cX2_rule 43 = .ok (.bipush (-2), 2) := dk_16 254 (dk_at dksX2_rule_1 20 rfl rfl)
theorem dX2_rule_45 : decode cX2_rule 45 = .ok (.ireturn, 1) := dk_172 (dk_at dksX2_rule_1 22 rfl rfl)
theorem dX2_rule_46 : decode cX2_rule 46 = .ok (.aload_n 0, 1) := dk_42 (dk_at dksX2_rule_1 23 rfl rfl)
theorem dX2_rule_47 : decode cX2_rule 47 = .ok (.invokevirtual 293, 3) := dk_182 1 37 (dk_at dksX2_rule_2 0 rfl rfl)
theorem dX2_rule_50 : decode cX2_rule 50 = .ok (.aload_n 0, 1) := dk_42 (dk_at dksX2_rule_2 3 rfl rfl)
theorem dX2_rule_51 : decode cX2_rule 51 = .ok (.getfield 35, 3) := dk_180 0 35 (dk_at dksX2_rule_2 4 rfl rfl)
theorem dX2_rule_54 : decode cX2_rule 54 = .ok (.bipush 32, 2) := dk_16 32 (dk_at dksX2_rule_2 7 rfl rfl)
theorem dX2_rule_56 : decode cX2_rule 56 = .ok (.iload_n 1, 1) := dk_27 (dk_at dksX2_rule_2 9 rfl rfl)
theorem dX2_rule_57 : decode cX2_rule 57 = .ok (.iastore, 1) := dk_79 (dk_at dksX2_rule_2 10 rfl rfl)
theorem dX2_rule_58 : decode cX2_rule 58 = .ok (.iload_n 2, 1) := dk_28 (dk_at dksX2_rule_2 11 rfl rfl)
theorem dX2_rule_59 : decode cX2_rule 59 = .ok (.ireturn, 1) := dk_172 (dk_at dksX2_rule_2 12 rfl rfl)
abbrev cX2_free : ByteArray := prog_13_method_79_code
def yX2_free : MethodName := ⟨RX2, "free", "(III)I"⟩
def dkwX2_free_3 : List UInt8 := [42, 180, 0, 50, 28, 46, 167, 0, 9, 42, 180, 0, 53, 28, 46, 4, 182, 0, 91, 172]
abbrev dktX2_free_3 : List UInt8 := dkwX2_free_3 ++ []
def dkwX2_free_2 : List UInt8 := [28, 46, 167, 0, 37, 29, 4, 160, 0, 12, 42, 180, 0, 47, 28, 46, 167, 0, 23, 29, 5, 160, 0, 12]
abbrev dktX2_free_2 : List UInt8 := dkwX2_free_2 ++ dktX2_free_3
def dkwX2_free_1 : List UInt8 := [27, 182, 1, 18, 28, 42, 180, 0, 242, 161, 0, 6, 16, 247, 172, 42, 29, 154, 0, 12, 42, 180, 0, 44]
abbrev dktX2_free_1 : List UInt8 := dkwX2_free_1 ++ dktX2_free_2
def dkwX2_free_0 : List UInt8 := [42, 27, 182, 1, 46, 153, 0, 16, 28, 155, 0, 12, 29, 3, 6, 184, 0, 75, 154, 0, 5, 2, 172, 42]
abbrev dktX2_free_0 : List UInt8 := dkwX2_free_0 ++ dktX2_free_1
theorem dksX2_free_0 : cX2_free.data.toList.drop 0 = dktX2_free_0 := by decide +kernel
theorem dksX2_free_1 : cX2_free.data.toList.drop 24 = dktX2_free_1 := dk_seg dksX2_free_0 24 rfl rfl
theorem dksX2_free_2 : cX2_free.data.toList.drop 48 = dktX2_free_2 := dk_seg dksX2_free_1 24 rfl rfl
theorem dksX2_free_3 : cX2_free.data.toList.drop 72 = dktX2_free_3 := dk_seg dksX2_free_2 24 rfl rfl
theorem dX2_free_0 : decode cX2_free 0 = .ok (.aload_n 0, 1) := dk_42 (dk_at dksX2_free_0 0 rfl rfl)
theorem dX2_free_1 : decode cX2_free 1 = .ok (.iload_n 1, 1) := dk_27 (dk_at dksX2_free_0 1 rfl rfl)
theorem dX2_free_2 : decode cX2_free 2 = .ok (.invokevirtual 302, 3) := dk_182 1 46 (dk_at dksX2_free_0 2 rfl rfl)
theorem dX2_free_5 : decode cX2_free 5 = .ok (.ifCond .eq 16, 3) := dk_153 0 16 (dk_at dksX2_free_0 5 rfl rfl)
theorem dX2_free_8 : decode cX2_free 8 = .ok (.iload_n 2, 1) := dk_28 (dk_at dksX2_free_0 8 rfl rfl)
theorem dX2_free_9 : decode cX2_free 9 = .ok (.ifCond .lt 12, 3) := dk_155 0 12 (dk_at dksX2_free_0 9 rfl rfl)
theorem dX2_free_12 : decode cX2_free 12 = .ok (.iload_n 3, 1) := dk_29 (dk_at dksX2_free_0 12 rfl rfl)
theorem dX2_free_13 : decode cX2_free 13 = .ok (.iconst 0, 1) := dk_3 (dk_at dksX2_free_0 13 rfl rfl)
theorem dX2_free_14 : decode cX2_free 14 = .ok (.iconst 3, 1) := dk_6 (dk_at dksX2_free_0 14 rfl rfl)
theorem dX2_free_15 : decode cX2_free 15 = .ok (.invokestatic 75, 3) := dk_184 0 75 (dk_at dksX2_free_0 15 rfl rfl)
theorem dX2_free_18 : decode cX2_free 18 = .ok (.ifCond .ne 5, 3) := dk_154 0 5 (dk_at dksX2_free_0 18 rfl rfl)
theorem dX2_free_21 : decode cX2_free 21 = .ok (.iconst (-1), 1) := dk_2 (dk_at dksX2_free_0 21 rfl rfl)
theorem dX2_free_22 : decode cX2_free 22 = .ok (.ireturn, 1) := dk_172 (dk_at dksX2_free_0 22 rfl rfl)
theorem dX2_free_23 : decode cX2_free 23 = .ok (.aload_n 0, 1) := dk_42 (dk_at dksX2_free_0 23 rfl rfl)
theorem dX2_free_24 : decode cX2_free 24 = .ok (.iload_n 1, 1) := dk_27 (dk_at dksX2_free_1 0 rfl rfl)
theorem dX2_free_25 : decode cX2_free 25 = .ok (.invokevirtual 274, 3) := dk_182 1 18 (dk_at dksX2_free_1 1 rfl rfl)
theorem dX2_free_28 : decode cX2_free 28 = .ok (.iload_n 2, 1) := dk_28 (dk_at dksX2_free_1 4 rfl rfl)
theorem dX2_free_29 : decode cX2_free 29 = .ok (.aload_n 0, 1) := dk_42 (dk_at dksX2_free_1 5 rfl rfl)
theorem dX2_free_30 : decode cX2_free 30 = .ok (.getfield 242, 3) := dk_180 0 242 (dk_at dksX2_free_1 6 rfl rfl)
theorem dX2_free_33 : decode cX2_free 33 = .ok (.if_icmp .lt 6, 3) := dk_161 0 6 (dk_at dksX2_free_1 9 rfl rfl)
theorem dX2_free_36 : decode cX2_free 36 = .ok (.bipush (-9), 2) := dk_16 247 (dk_at dksX2_free_1 12 rfl rfl)
theorem dX2_free_38 : decode cX2_free 38 = .ok (.ireturn, 1) := dk_172 (dk_at dksX2_free_1 14 rfl rfl)
theorem dX2_free_39 : decode cX2_free 39 = .ok (.aload_n 0, 1) := dk_42 (dk_at dksX2_free_1 15 rfl rfl)
theorem dX2_free_40 : decode cX2_free 40 = .ok (.iload_n 3, 1) := dk_29 (dk_at dksX2_free_1 16 rfl rfl)
theorem dX2_free_41 : decode cX2_free 41 = .ok (.ifCond .ne 12, 3) := dk_154 0 12 (dk_at dksX2_free_1 17 rfl rfl)
theorem dX2_free_44 : decode cX2_free 44 = .ok (.aload_n 0, 1) := dk_42 (dk_at dksX2_free_1 20 rfl rfl)
theorem dX2_free_45 : decode cX2_free 45 = .ok (.getfield 44, 3) := dk_180 0 44 (dk_at dksX2_free_1 21 rfl rfl)
theorem dX2_free_48 : decode cX2_free 48 = .ok (.iload_n 2, 1) := dk_28 (dk_at dksX2_free_2 0 rfl rfl)
theorem dX2_free_49 : decode cX2_free 49 = .ok (.iaload, 1) := dk_46 (dk_at dksX2_free_2 1 rfl rfl)
theorem dX2_free_50 : decode cX2_free 50 = .ok (.goto 37, 3) := dk_167 0 37 (dk_at dksX2_free_2 2 rfl rfl)
theorem dX2_free_53 : decode cX2_free 53 = .ok (.iload_n 3, 1) := dk_29 (dk_at dksX2_free_2 5 rfl rfl)
theorem dX2_free_54 : decode cX2_free 54 = .ok (.iconst 1, 1) := dk_4 (dk_at dksX2_free_2 6 rfl rfl)
theorem dX2_free_55 : decode cX2_free 55 = .ok (.if_icmp .ne 12, 3) := dk_160 0 12 (dk_at dksX2_free_2 7 rfl rfl)
theorem dX2_free_58 : decode cX2_free 58 = .ok (.aload_n 0, 1) := dk_42 (dk_at dksX2_free_2 10 rfl rfl)
theorem dX2_free_59 : decode cX2_free 59 = .ok (.getfield 47, 3) := dk_180 0 47 (dk_at dksX2_free_2 11 rfl rfl)
theorem dX2_free_62 : decode cX2_free 62 = .ok (.iload_n 2, 1) := dk_28 (dk_at dksX2_free_2 14 rfl rfl)
theorem dX2_free_63 : decode cX2_free 63 = .ok (.iaload, 1) := dk_46 (dk_at dksX2_free_2 15 rfl rfl)
theorem dX2_free_64 : decode cX2_free 64 = .ok (.goto 23, 3) := dk_167 0 23 (dk_at dksX2_free_2 16 rfl rfl)
theorem dX2_free_67 : decode cX2_free 67 = .ok (.iload_n 3, 1) := dk_29 (dk_at dksX2_free_2 19 rfl rfl)
theorem dX2_free_68 : decode cX2_free 68 = .ok (.iconst 2, 1) := dk_5 (dk_at dksX2_free_2 20 rfl rfl)
theorem dX2_free_69 : decode cX2_free 69 = .ok (.if_icmp .ne 12, 3) := dk_160 0 12 (dk_at dksX2_free_2 21 rfl rfl)
theorem dX2_free_72 : decode cX2_free 72 = .ok (.aload_n 0, 1) := dk_42 (dk_at dksX2_free_3 0 rfl rfl)
theorem dX2_free_73 : decode cX2_free 73 = .ok (.getfield 50, 3) := dk_180 0 50 (dk_at dksX2_free_3 1 rfl rfl)
theorem dX2_free_76 : decode cX2_free 76 = .ok (.iload_n 2, 1) := dk_28 (dk_at dksX2_free_3 4 rfl rfl)
theorem dX2_free_77 : decode cX2_free 77 = .ok (.iaload, 1) := dk_46 (dk_at dksX2_free_3 5 rfl rfl)
theorem dX2_free_78 : decode cX2_free 78 = .ok (.goto 9, 3) := dk_167 0 9 (dk_at dksX2_free_3 6 rfl rfl)
theorem dX2_free_81 : decode cX2_free 81 = .ok (.aload_n 0, 1) := dk_42 (dk_at dksX2_free_3 9 rfl rfl)
theorem dX2_free_82 : decode cX2_free 82 = .ok (.getfield 53, 3) := dk_180 0 53 (dk_at dksX2_free_3 10 rfl rfl)
theorem dX2_free_85 : decode cX2_free 85 = .ok (.iload_n 2, 1) := dk_28 (dk_at dksX2_free_3 13 rfl rfl)
theorem dX2_free_86 : decode cX2_free 86 = .ok (.iaload, 1) := dk_46 (dk_at dksX2_free_3 14 rfl rfl)
theorem dX2_free_87 : decode cX2_free 87 = .ok (.iconst 1, 1) := dk_4 (dk_at dksX2_free_3 15 rfl rfl)
theorem dX2_free_88 : decode cX2_free 88 = .ok (.invokevirtual 91, 3) := dk_182 0 91 (dk_at dksX2_free_3 16 rfl rfl)
theorem dX2_free_91 : decode cX2_free 91 = .ok (.ireturn, 1) := dk_172 (dk_at dksX2_free_3 19 rfl rfl)
abbrev cX2_isPage : ByteArray := prog_13_method_78_code
def yX2_isPage : MethodName := ⟨RX2, "isPage", "(I)Z"⟩
def dkwX2_isPage_0 : List UInt8 := [27, 3, 42, 182, 1, 14, 4, 100, 184, 0, 75, 172]
abbrev dktX2_isPage_0 : List UInt8 := dkwX2_isPage_0 ++ []
theorem dksX2_isPage_0 : cX2_isPage.data.toList.drop 0 = dktX2_isPage_0 := by decide +kernel
theorem dX2_isPage_0 : decode cX2_isPage 0 = .ok (.iload_n 1, 1) := dk_27 (dk_at dksX2_isPage_0 0 rfl rfl)
theorem dX2_isPage_1 : decode cX2_isPage 1 = .ok (.iconst 0, 1) := dk_3 (dk_at dksX2_isPage_0 1 rfl rfl)
theorem dX2_isPage_2 : decode cX2_isPage 2 = .ok (.aload_n 0, 1) := dk_42 (dk_at dksX2_isPage_0 2 rfl rfl)
theorem dX2_isPage_3 : decode cX2_isPage 3 = .ok (.invokevirtual 270, 3) := dk_182 1 14 (dk_at dksX2_isPage_0 3 rfl rfl)
theorem dX2_isPage_6 : decode cX2_isPage 6 = .ok (.iconst 1, 1) := dk_4 (dk_at dksX2_isPage_0 6 rfl rfl)
theorem dX2_isPage_7 : decode cX2_isPage 7 = .ok (.isub, 1) := dk_100 (dk_at dksX2_isPage_0 7 rfl rfl)
theorem dX2_isPage_8 : decode cX2_isPage 8 = .ok (.invokestatic 75, 3) := dk_184 0 75 (dk_at dksX2_isPage_0 8 rfl rfl)
theorem dX2_isPage_11 : decode cX2_isPage 11 = .ok (.ireturn, 1) := dk_172 (dk_at dksX2_isPage_0 11 rfl rfl)
abbrev cX2_seen : ByteArray := prog_13_method_81_code
def yX2_seen : MethodName := ⟨RX2, "seen", "(III)I"⟩
def dkwX2_seen_8 : List UInt8 := [182, 1, 55, 96, 54, 9, 42, 16, 100, 21, 8, 104, 21, 9, 96, 21, 4, 182, 0, 91, 172]
abbrev dktX2_seen_8 : List UInt8 := dkwX2_seen_8 ++ []
def dkwX2_seen_7 : List UInt8 := [153, 0, 8, 21, 5, 167, 0, 5, 21, 6, 42, 21, 4, 182, 0, 217, 4, 100, 184, 1, 49, 42, 21, 4]
abbrev dktX2_seen_7 : List UInt8 := dkwX2_seen_7 ++ dktX2_seen_8
def dkwX2_seen_6 : List UInt8 := [21, 5, 42, 21, 4, 182, 0, 214, 4, 100, 184, 1, 49, 42, 21, 4, 182, 1, 52, 96, 54, 8, 21, 7]
abbrev dktX2_seen_6 : List UInt8 := dkwX2_seen_6 ++ dktX2_seen_7
def dkwX2_seen_5 : List UInt8 := [6, 96, 46, 4, 160, 0, 7, 4, 167, 0, 4, 3, 54, 7, 21, 7, 153, 0, 8, 21, 6, 167, 0, 5]
abbrev dktX2_seen_5 : List UInt8 := dkwX2_seen_5 ++ dktX2_seen_6
def dkwX2_seen_4 : List UInt8 := [21, 4, 104, 5, 96, 46, 100, 42, 21, 4, 182, 0, 211, 100, 54, 6, 42, 180, 0, 35, 7, 21, 4, 104]
abbrev dktX2_seen_4 : List UInt8 := dkwX2_seen_4 ++ dktX2_seen_5
def dkwX2_seen_3 : List UInt8 := [7, 21, 4, 104, 4, 96, 46, 100, 42, 21, 4, 182, 0, 211, 100, 54, 5, 29, 42, 180, 0, 35, 7]
abbrev dktX2_seen_3 : List UInt8 := dkwX2_seen_3 ++ dktX2_seen_4
def dkwX2_seen_2 : List UInt8 := [16, 16, 29, 104, 28, 96, 46, 54, 4, 21, 4, 16, 247, 160, 0, 6, 16, 247, 172, 28, 42, 180, 0, 35]
abbrev dktX2_seen_2 : List UInt8 := dkwX2_seen_2 ++ dktX2_seen_3
def dkwX2_seen_1 : List UInt8 := [42, 180, 0, 173, 4, 100, 184, 0, 75, 154, 0, 5, 2, 172, 42, 27, 182, 0, 239, 42, 180, 0, 41]
abbrev dktX2_seen_1 : List UInt8 := dkwX2_seen_1 ++ dktX2_seen_2
def dkwX2_seen_0 : List UInt8 := [42, 27, 182, 1, 46, 153, 0, 31, 28, 3, 42, 180, 0, 170, 4, 100, 184, 0, 75, 153, 0, 17, 29, 3]
abbrev dktX2_seen_0 : List UInt8 := dkwX2_seen_0 ++ dktX2_seen_1
theorem dksX2_seen_0 : cX2_seen.data.toList.drop 0 = dktX2_seen_0 := by decide +kernel
theorem dksX2_seen_1 : cX2_seen.data.toList.drop 24 = dktX2_seen_1 := dk_seg dksX2_seen_0 24 rfl rfl
theorem dksX2_seen_2 : cX2_seen.data.toList.drop 47 = dktX2_seen_2 := dk_seg dksX2_seen_1 23 rfl rfl
theorem dksX2_seen_3 : cX2_seen.data.toList.drop 71 = dktX2_seen_3 := dk_seg dksX2_seen_2 24 rfl rfl
theorem dksX2_seen_4 : cX2_seen.data.toList.drop 94 = dktX2_seen_4 := dk_seg dksX2_seen_3 23 rfl rfl
theorem dksX2_seen_5 : cX2_seen.data.toList.drop 118 = dktX2_seen_5 := dk_seg dksX2_seen_4 24 rfl rfl
theorem dksX2_seen_6 : cX2_seen.data.toList.drop 142 = dktX2_seen_6 := dk_seg dksX2_seen_5 24 rfl rfl
theorem dksX2_seen_7 : cX2_seen.data.toList.drop 166 = dktX2_seen_7 := dk_seg dksX2_seen_6 24 rfl rfl
theorem dksX2_seen_8 : cX2_seen.data.toList.drop 190 = dktX2_seen_8 := dk_seg dksX2_seen_7 24 rfl rfl
theorem dX2_seen_0 : decode cX2_seen 0 = .ok (.aload_n 0, 1) := dk_42 (dk_at dksX2_seen_0 0 rfl rfl)
theorem dX2_seen_1 : decode cX2_seen 1 = .ok (.iload_n 1, 1) := dk_27 (dk_at dksX2_seen_0 1 rfl rfl)
theorem dX2_seen_2 : decode cX2_seen 2 = .ok (.invokevirtual 302, 3) := dk_182 1 46 (dk_at dksX2_seen_0 2 rfl rfl)
theorem dX2_seen_5 : decode cX2_seen 5 = .ok (.ifCond .eq 31, 3) := dk_153 0 31 (dk_at dksX2_seen_0 5 rfl rfl)
theorem dX2_seen_8 : decode cX2_seen 8 = .ok (.iload_n 2, 1) := dk_28 (dk_at dksX2_seen_0 8 rfl rfl)
theorem dX2_seen_9 : decode cX2_seen 9 = .ok (.iconst 0, 1) := dk_3 (dk_at dksX2_seen_0 9 rfl rfl)
theorem dX2_seen_10 : decode cX2_seen 10 = .ok (.aload_n 0, 1) := dk_42 (dk_at dksX2_seen_0 10 rfl rfl)
theorem dX2_seen_11 : decode cX2_seen 11 = .ok (.getfield 170, 3) := dk_180 0 170 (dk_at dksX2_seen_0 11 rfl rfl)
theorem dX2_seen_14 : decode cX2_seen 14 = .ok (.iconst 1, 1) := dk_4 (dk_at dksX2_seen_0 14 rfl rfl)
theorem dX2_seen_15 : decode cX2_seen 15 = .ok (.isub, 1) := dk_100 (dk_at dksX2_seen_0 15 rfl rfl)
theorem dX2_seen_16 : decode cX2_seen 16 = .ok (.invokestatic 75, 3) := dk_184 0 75 (dk_at dksX2_seen_0 16 rfl rfl)
theorem dX2_seen_19 : decode cX2_seen 19 = .ok (.ifCond .eq 17, 3) := dk_153 0 17 (dk_at dksX2_seen_0 19 rfl rfl)
theorem dX2_seen_22 : decode cX2_seen 22 = .ok (.iload_n 3, 1) := dk_29 (dk_at dksX2_seen_0 22 rfl rfl)
theorem dX2_seen_23 : decode cX2_seen 23 = .ok (.iconst 0, 1) := dk_3 (dk_at dksX2_seen_0 23 rfl rfl)
theorem dX2_seen_24 : decode cX2_seen 24 = .ok (.aload_n 0, 1) := dk_42 (dk_at dksX2_seen_1 0 rfl rfl)
theorem dX2_seen_25 : decode cX2_seen 25 = .ok (.getfield 173, 3) := dk_180 0 173 (dk_at dksX2_seen_1 1 rfl rfl)
theorem dX2_seen_28 : decode cX2_seen 28 = .ok (.iconst 1, 1) := dk_4 (dk_at dksX2_seen_1 4 rfl rfl)
theorem dX2_seen_29 : decode cX2_seen 29 = .ok (.isub, 1) := dk_100 (dk_at dksX2_seen_1 5 rfl rfl)
theorem dX2_seen_30 : decode cX2_seen 30 = .ok (.invokestatic 75, 3) := dk_184 0 75 (dk_at dksX2_seen_1 6 rfl rfl)
theorem dX2_seen_33 : decode cX2_seen 33 = .ok (.ifCond .ne 5, 3) := dk_154 0 5 (dk_at dksX2_seen_1 9 rfl rfl)
theorem dX2_seen_36 : decode cX2_seen 36 = .ok (.iconst (-1), 1) := dk_2 (dk_at dksX2_seen_1 12 rfl rfl)
theorem dX2_seen_37 : decode cX2_seen 37 = .ok (.ireturn, 1) := dk_172 (dk_at dksX2_seen_1 13 rfl rfl)
theorem dX2_seen_38 : decode cX2_seen 38 = .ok (.aload_n 0, 1) := dk_42 (dk_at dksX2_seen_1 14 rfl rfl)
theorem dX2_seen_39 : decode cX2_seen 39 = .ok (.iload_n 1, 1) := dk_27 (dk_at dksX2_seen_1 15 rfl rfl)
theorem dX2_seen_40 : decode cX2_seen 40 = .ok (.invokevirtual 239, 3) := dk_182 0 239 (dk_at dksX2_seen_1 16 rfl rfl)
theorem dX2_seen_43 : decode cX2_seen 43 = .ok (.aload_n 0, 1) := dk_42 (dk_at dksX2_seen_1 19 rfl rfl)
theorem dX2_seen_44 : decode cX2_seen 44 = .ok (.getfield 41, 3) := dk_180 0 41 (dk_at dksX2_seen_1 20 rfl rfl)
theorem dX2_seen_47 : decode cX2_seen 47 = .ok (.bipush 16, 2) := dk_16 16 (dk_at dksX2_seen_2 0 rfl rfl)
theorem dX2_seen_49 : decode cX2_seen 49 = .ok (.iload_n 3, 1) := dk_29 (dk_at dksX2_seen_2 2 rfl rfl)
theorem dX2_seen_50 : decode cX2_seen 50 = .ok (.imul, 1) := dk_104 (dk_at dksX2_seen_2 3 rfl rfl)
theorem dX2_seen_51 : decode cX2_seen 51 = .ok (.iload_n 2, 1) := dk_28 (dk_at dksX2_seen_2 4 rfl rfl)
theorem dX2_seen_52 : decode cX2_seen 52 = .ok (.iadd, 1) := dk_96 (dk_at dksX2_seen_2 5 rfl rfl)
theorem dX2_seen_53 : decode cX2_seen 53 = .ok (.iaload, 1) := dk_46 (dk_at dksX2_seen_2 6 rfl rfl)
theorem dX2_seen_54 : decode cX2_seen 54 = .ok (.istore 4, 2) := dk_54 4 (dk_at dksX2_seen_2 7 rfl rfl)
theorem dX2_seen_56 : decode cX2_seen 56 = .ok (.iload 4, 2) := dk_21 4 (dk_at dksX2_seen_2 9 rfl rfl)
theorem dX2_seen_58 : decode cX2_seen 58 = .ok (.bipush (-9), 2) := dk_16 247 (dk_at dksX2_seen_2 11 rfl rfl)
theorem dX2_seen_60 : decode cX2_seen 60 = .ok (.if_icmp .ne 6, 3) := dk_160 0 6 (dk_at dksX2_seen_2 13 rfl rfl)
theorem dX2_seen_63 : decode cX2_seen 63 = .ok (.bipush (-9), 2) := dk_16 247 (dk_at dksX2_seen_2 16 rfl rfl)
theorem dX2_seen_65 : decode cX2_seen 65 = .ok (.ireturn, 1) := dk_172 (dk_at dksX2_seen_2 18 rfl rfl)
theorem dX2_seen_66 : decode cX2_seen 66 = .ok (.iload_n 2, 1) := dk_28 (dk_at dksX2_seen_2 19 rfl rfl)
theorem dX2_seen_67 : decode cX2_seen 67 = .ok (.aload_n 0, 1) := dk_42 (dk_at dksX2_seen_2 20 rfl rfl)
theorem dX2_seen_68 : decode cX2_seen 68 = .ok (.getfield 35, 3) := dk_180 0 35 (dk_at dksX2_seen_2 21 rfl rfl)
theorem dX2_seen_71 : decode cX2_seen 71 = .ok (.iconst 4, 1) := dk_7 (dk_at dksX2_seen_3 0 rfl rfl)
theorem dX2_seen_72 : decode cX2_seen 72 = .ok (.iload 4, 2) := dk_21 4 (dk_at dksX2_seen_3 1 rfl rfl)
theorem dX2_seen_74 : decode cX2_seen 74 = .ok (.imul, 1) := dk_104 (dk_at dksX2_seen_3 3 rfl rfl)
theorem dX2_seen_75 : decode cX2_seen 75 = .ok (.iconst 1, 1) := dk_4 (dk_at dksX2_seen_3 4 rfl rfl)
theorem dX2_seen_76 : decode cX2_seen 76 = .ok (.iadd, 1) := dk_96 (dk_at dksX2_seen_3 5 rfl rfl)
theorem dX2_seen_77 : decode cX2_seen 77 = .ok (.iaload, 1) := dk_46 (dk_at dksX2_seen_3 6 rfl rfl)
theorem dX2_seen_78 : decode cX2_seen 78 = .ok (.isub, 1) := dk_100 (dk_at dksX2_seen_3 7 rfl rfl)
theorem dX2_seen_79 : decode cX2_seen 79 = .ok (.aload_n 0, 1) := dk_42 (dk_at dksX2_seen_3 8 rfl rfl)
theorem dX2_seen_80 : decode cX2_seen 80 = .ok (.iload 4, 2) := dk_21 4 (dk_at dksX2_seen_3 9 rfl rfl)
theorem dX2_seen_82 : decode cX2_seen 82 = .ok (.invokevirtual 211, 3) := dk_182 0 211 (dk_at dksX2_seen_3 11 rfl rfl)
theorem dX2_seen_85 : decode cX2_seen 85 = .ok (.isub, 1) := dk_100 (dk_at dksX2_seen_3 14 rfl rfl)
theorem dX2_seen_86 : decode cX2_seen 86 = .ok (.istore 5, 2) := dk_54 5 (dk_at dksX2_seen_3 15 rfl rfl)
theorem dX2_seen_88 : decode cX2_seen 88 = .ok (.iload_n 3, 1) := dk_29 (dk_at dksX2_seen_3 17 rfl rfl)
theorem dX2_seen_89 : decode cX2_seen 89 = .ok (.aload_n 0, 1) := dk_42 (dk_at dksX2_seen_3 18 rfl rfl)
theorem dX2_seen_90 : decode cX2_seen 90 = .ok (.getfield 35, 3) := dk_180 0 35 (dk_at dksX2_seen_3 19 rfl rfl)
theorem dX2_seen_93 : decode cX2_seen 93 = .ok (.iconst 4, 1) := dk_7 (dk_at dksX2_seen_3 22 rfl rfl)
theorem dX2_seen_94 : decode cX2_seen 94 = .ok (.iload 4, 2) := dk_21 4 (dk_at dksX2_seen_4 0 rfl rfl)
theorem dX2_seen_96 : decode cX2_seen 96 = .ok (.imul, 1) := dk_104 (dk_at dksX2_seen_4 2 rfl rfl)
theorem dX2_seen_97 : decode cX2_seen 97 = .ok (.iconst 2, 1) := dk_5 (dk_at dksX2_seen_4 3 rfl rfl)
theorem dX2_seen_98 : decode cX2_seen 98 = .ok (.iadd, 1) := dk_96 (dk_at dksX2_seen_4 4 rfl rfl)
theorem dX2_seen_99 : decode cX2_seen 99 = .ok (.iaload, 1) := dk_46 (dk_at dksX2_seen_4 5 rfl rfl)
theorem dX2_seen_100 : decode cX2_seen 100 = .ok (.isub, 1) := dk_100 (dk_at dksX2_seen_4 6 rfl rfl)
theorem dX2_seen_101 : decode cX2_seen 101 = .ok (.aload_n 0, 1) := dk_42 (dk_at dksX2_seen_4 7 rfl rfl)
theorem dX2_seen_102 : decode cX2_seen 102 = .ok (.iload 4, 2) := dk_21 4 (dk_at dksX2_seen_4 8 rfl rfl)
theorem dX2_seen_104 : decode cX2_seen 104 = .ok (.invokevirtual 211, 3) := dk_182 0 211 (dk_at dksX2_seen_4 10 rfl rfl)
theorem dX2_seen_107 : decode cX2_seen 107 = .ok (.isub, 1) := dk_100 (dk_at dksX2_seen_4 13 rfl rfl)
theorem dX2_seen_108 : decode cX2_seen 108 = .ok (.istore 6, 2) := dk_54 6 (dk_at dksX2_seen_4 14 rfl rfl)
theorem dX2_seen_110 : decode cX2_seen 110 = .ok (.aload_n 0, 1) := dk_42 (dk_at dksX2_seen_4 16 rfl rfl)
theorem dX2_seen_111 : decode cX2_seen 111 = .ok (.getfield 35, 3) := dk_180 0 35 (dk_at dksX2_seen_4 17 rfl rfl)
theorem dX2_seen_114 : decode cX2_seen 114 = .ok (.iconst 4, 1) := dk_7 (dk_at dksX2_seen_4 20 rfl rfl)
theorem dX2_seen_115 : decode cX2_seen 115 = .ok (.iload 4, 2) := dk_21 4 (dk_at dksX2_seen_4 21 rfl rfl)
theorem dX2_seen_117 : decode cX2_seen 117 = .ok (.imul, 1) := dk_104 (dk_at dksX2_seen_4 23 rfl rfl)
theorem dX2_seen_118 : decode cX2_seen 118 = .ok (.iconst 3, 1) := dk_6 (dk_at dksX2_seen_5 0 rfl rfl)
theorem dX2_seen_119 : decode cX2_seen 119 = .ok (.iadd, 1) := dk_96 (dk_at dksX2_seen_5 1 rfl rfl)
theorem dX2_seen_120 : decode cX2_seen 120 = .ok (.iaload, 1) := dk_46 (dk_at dksX2_seen_5 2 rfl rfl)
theorem dX2_seen_121 : decode cX2_seen 121 = .ok (.iconst 1, 1) := dk_4 (dk_at dksX2_seen_5 3 rfl rfl)
theorem dX2_seen_122 : decode cX2_seen 122 = .ok (.if_icmp .ne 7, 3) := dk_160 0 7 (dk_at dksX2_seen_5 4 rfl rfl)
theorem dX2_seen_125 : decode cX2_seen 125 = .ok (.iconst 1, 1) := dk_4 (dk_at dksX2_seen_5 7 rfl rfl)
theorem dX2_seen_126 : decode cX2_seen 126 = .ok (.goto 4, 3) := dk_167 0 4 (dk_at dksX2_seen_5 8 rfl rfl)
theorem dX2_seen_129 : decode cX2_seen 129 = .ok (.iconst 0, 1) := dk_3 (dk_at dksX2_seen_5 11 rfl rfl)
theorem dX2_seen_130 : decode cX2_seen 130 = .ok (.istore 7, 2) := dk_54 7 (dk_at dksX2_seen_5 12 rfl rfl)
theorem dX2_seen_132 : decode cX2_seen 132 = .ok (.iload 7, 2) := dk_21 7 (dk_at dksX2_seen_5 14 rfl rfl)
theorem dX2_seen_134 : decode cX2_seen 134 = .ok (.ifCond .eq 8, 3) := dk_153 0 8 (dk_at dksX2_seen_5 16 rfl rfl)
theorem dX2_seen_137 : decode cX2_seen 137 = .ok (.iload 6, 2) := dk_21 6 (dk_at dksX2_seen_5 19 rfl rfl)
theorem dX2_seen_139 : decode cX2_seen 139 = .ok (.goto 5, 3) := dk_167 0 5 (dk_at dksX2_seen_5 21 rfl rfl)
theorem dX2_seen_142 : decode cX2_seen 142 = .ok (.iload 5, 2) := dk_21 5 (dk_at dksX2_seen_6 0 rfl rfl)
theorem dX2_seen_144 : decode cX2_seen 144 = .ok (.aload_n 0, 1) := dk_42 (dk_at dksX2_seen_6 2 rfl rfl)
theorem dX2_seen_145 : decode cX2_seen 145 = .ok (.iload 4, 2) := dk_21 4 (dk_at dksX2_seen_6 3 rfl rfl)
theorem dX2_seen_147 : decode cX2_seen 147 = .ok (.invokevirtual 214, 3) := dk_182 0 214 (dk_at dksX2_seen_6 5 rfl rfl)
theorem dX2_seen_150 : decode cX2_seen 150 = .ok (.iconst 1, 1) := dk_4 (dk_at dksX2_seen_6 8 rfl rfl)
theorem dX2_seen_151 : decode cX2_seen 151 = .ok (.isub, 1) := dk_100 (dk_at dksX2_seen_6 9 rfl rfl)
theorem dX2_seen_152 : decode cX2_seen 152 = .ok (.invokestatic 305, 3) := dk_184 1 49 (dk_at dksX2_seen_6 10 rfl rfl)
theorem dX2_seen_155 : decode cX2_seen 155 = .ok (.aload_n 0, 1) := dk_42 (dk_at dksX2_seen_6 13 rfl rfl)
theorem dX2_seen_156 : decode cX2_seen 156 = .ok (.iload 4, 2) := dk_21 4 (dk_at dksX2_seen_6 14 rfl rfl)
theorem dX2_seen_158 : decode cX2_seen 158 = .ok (.invokevirtual 308, 3) := dk_182 1 52 (dk_at dksX2_seen_6 16 rfl rfl)
theorem dX2_seen_161 : decode cX2_seen 161 = .ok (.iadd, 1) := dk_96 (dk_at dksX2_seen_6 19 rfl rfl)
theorem dX2_seen_162 : decode cX2_seen 162 = .ok (.istore 8, 2) := dk_54 8 (dk_at dksX2_seen_6 20 rfl rfl)
theorem dX2_seen_164 : decode cX2_seen 164 = .ok (.iload 7, 2) := dk_21 7 (dk_at dksX2_seen_6 22 rfl rfl)
theorem dX2_seen_166 : decode cX2_seen 166 = .ok (.ifCond .eq 8, 3) := dk_153 0 8 (dk_at dksX2_seen_7 0 rfl rfl)
theorem dX2_seen_169 : decode cX2_seen 169 = .ok (.iload 5, 2) := dk_21 5 (dk_at dksX2_seen_7 3 rfl rfl)
theorem dX2_seen_171 : decode cX2_seen 171 = .ok (.goto 5, 3) := dk_167 0 5 (dk_at dksX2_seen_7 5 rfl rfl)
theorem dX2_seen_174 : decode cX2_seen 174 = .ok (.iload 6, 2) := dk_21 6 (dk_at dksX2_seen_7 8 rfl rfl)
theorem dX2_seen_176 : decode cX2_seen 176 = .ok (.aload_n 0, 1) := dk_42 (dk_at dksX2_seen_7 10 rfl rfl)
theorem dX2_seen_177 : decode cX2_seen 177 = .ok (.iload 4, 2) := dk_21 4 (dk_at dksX2_seen_7 11 rfl rfl)
theorem dX2_seen_179 : decode cX2_seen 179 = .ok (.invokevirtual 217, 3) := dk_182 0 217 (dk_at dksX2_seen_7 13 rfl rfl)
theorem dX2_seen_182 : decode cX2_seen 182 = .ok (.iconst 1, 1) := dk_4 (dk_at dksX2_seen_7 16 rfl rfl)
theorem dX2_seen_183 : decode cX2_seen 183 = .ok (.isub, 1) := dk_100 (dk_at dksX2_seen_7 17 rfl rfl)
theorem dX2_seen_184 : decode cX2_seen 184 = .ok (.invokestatic 305, 3) := dk_184 1 49 (dk_at dksX2_seen_7 18 rfl rfl)
theorem dX2_seen_187 : decode cX2_seen 187 = .ok (.aload_n 0, 1) := dk_42 (dk_at dksX2_seen_7 21 rfl rfl)
theorem dX2_seen_188 : decode cX2_seen 188 = .ok (.iload 4, 2) := dk_21 4 (dk_at dksX2_seen_7 22 rfl rfl)
theorem dX2_seen_190 : decode cX2_seen 190 = .ok (.invokevirtual 311, 3) := dk_182 1 55 (dk_at dksX2_seen_8 0 rfl rfl)
theorem dX2_seen_193 : decode cX2_seen 193 = .ok (.iadd, 1) := dk_96 (dk_at dksX2_seen_8 3 rfl rfl)
theorem dX2_seen_194 : decode cX2_seen 194 = .ok (.istore 9, 2) := dk_54 9 (dk_at dksX2_seen_8 4 rfl rfl)
theorem dX2_seen_196 : decode cX2_seen 196 = .ok (.aload_n 0, 1) := dk_42 (dk_at dksX2_seen_8 6 rfl rfl)
theorem dX2_seen_197 : decode cX2_seen 197 = .ok (.bipush 100, 2) := dk_16 100 (dk_at dksX2_seen_8 7 rfl rfl)
theorem dX2_seen_199 : decode cX2_seen 199 = .ok (.iload 8, 2) := dk_21 8 (dk_at dksX2_seen_8 9 rfl rfl)
theorem dX2_seen_201 : decode cX2_seen 201 = .ok (.imul, 1) := dk_104 (dk_at dksX2_seen_8 11 rfl rfl)
theorem dX2_seen_202 : decode cX2_seen 202 = .ok (.iload 9, 2) := dk_21 9 (dk_at dksX2_seen_8 12 rfl rfl)
theorem dX2_seen_204 : decode cX2_seen 204 = .ok (.iadd, 1) := dk_96 (dk_at dksX2_seen_8 14 rfl rfl)
theorem dX2_seen_205 : decode cX2_seen 205 = .ok (.iload 4, 2) := dk_21 4 (dk_at dksX2_seen_8 15 rfl rfl)
theorem dX2_seen_207 : decode cX2_seen 207 = .ok (.invokevirtual 91, 3) := dk_182 0 91 (dk_at dksX2_seen_8 17 rfl rfl)
theorem dX2_seen_210 : decode cX2_seen 210 = .ok (.ireturn, 1) := dk_172 (dk_at dksX2_seen_8 20 rfl rfl)
abbrev cX2_clamped : ByteArray := prog_13_method_80_code
def yX2_clamped : MethodName := ⟨RX2, "clamped", "(II)I"⟩
def dkwX2_clamped_0 : List UInt8 := [26, 156, 0, 7, 3, 167, 0, 13, 26, 27, 164, 0, 7, 27, 167, 0, 4, 26, 172]
abbrev dktX2_clamped_0 : List UInt8 := dkwX2_clamped_0 ++ []
theorem dksX2_clamped_0 : cX2_clamped.data.toList.drop 0 = dktX2_clamped_0 := by decide +kernel
theorem dX2_clamped_0 : decode cX2_clamped 0 = .ok (.iload_n 0, 1) := dk_26 (dk_at dksX2_clamped_0 0 rfl rfl)
theorem dX2_clamped_1 : decode cX2_clamped 1 = .ok (.ifCond .ge 7, 3) := dk_156 0 7 (dk_at dksX2_clamped_0 1 rfl rfl)
theorem dX2_clamped_4 : decode cX2_clamped 4 = .ok (.iconst 0, 1) := dk_3 (dk_at dksX2_clamped_0 4 rfl rfl)
theorem dX2_clamped_5 : decode cX2_clamped 5 = .ok (.goto 13, 3) := dk_167 0 13 (dk_at dksX2_clamped_0 5 rfl rfl)
theorem dX2_clamped_8 : decode cX2_clamped 8 = .ok (.iload_n 0, 1) := dk_26 (dk_at dksX2_clamped_0 8 rfl rfl)
theorem dX2_clamped_9 : decode cX2_clamped 9 = .ok (.iload_n 1, 1) := dk_27 (dk_at dksX2_clamped_0 9 rfl rfl)
theorem dX2_clamped_10 : decode cX2_clamped 10 = .ok (.if_icmp .le 7, 3) := dk_164 0 7 (dk_at dksX2_clamped_0 10 rfl rfl)
theorem dX2_clamped_13 : decode cX2_clamped 13 = .ok (.iload_n 1, 1) := dk_27 (dk_at dksX2_clamped_0 13 rfl rfl)
theorem dX2_clamped_14 : decode cX2_clamped 14 = .ok (.goto 4, 3) := dk_167 0 4 (dk_at dksX2_clamped_0 14 rfl rfl)
theorem dX2_clamped_17 : decode cX2_clamped 17 = .ok (.iload_n 0, 1) := dk_26 (dk_at dksX2_clamped_0 17 rfl rfl)
theorem dX2_clamped_18 : decode cX2_clamped 18 = .ok (.ireturn, 1) := dk_172 (dk_at dksX2_clamped_0 18 rfl rfl)
abbrev cX2_leftOf : ByteArray := prog_13_method_43_code
def yX2_leftOf : MethodName := ⟨RX2, "leftOf", "(I)I"⟩
def dkwX2_leftOf_0 : List UInt8 := [42, 27, 182, 0, 201, 6, 160, 0, 7, 3, 167, 0, 9, 42, 27, 6, 182, 0, 208, 172]
abbrev dktX2_leftOf_0 : List UInt8 := dkwX2_leftOf_0 ++ []
theorem dksX2_leftOf_0 : cX2_leftOf.data.toList.drop 0 = dktX2_leftOf_0 := by decide +kernel
theorem dX2_leftOf_0 : decode cX2_leftOf 0 = .ok (.aload_n 0, 1) := dk_42 (dk_at dksX2_leftOf_0 0 rfl rfl)
theorem dX2_leftOf_1 : decode cX2_leftOf 1 = .ok (.iload_n 1, 1) := dk_27 (dk_at dksX2_leftOf_0 1 rfl rfl)
theorem dX2_leftOf_2 : decode cX2_leftOf 2 = .ok (.invokevirtual 201, 3) := dk_182 0 201 (dk_at dksX2_leftOf_0 2 rfl rfl)
theorem dX2_leftOf_5 : decode cX2_leftOf 5 = .ok (.iconst 3, 1) := dk_6 (dk_at dksX2_leftOf_0 5 rfl rfl)
theorem dX2_leftOf_6 : decode cX2_leftOf 6 = .ok (.if_icmp .ne 7, 3) := dk_160 0 7 (dk_at dksX2_leftOf_0 6 rfl rfl)
theorem dX2_leftOf_9 : decode cX2_leftOf 9 = .ok (.iconst 0, 1) := dk_3 (dk_at dksX2_leftOf_0 9 rfl rfl)
theorem dX2_leftOf_10 : decode cX2_leftOf 10 = .ok (.goto 9, 3) := dk_167 0 9 (dk_at dksX2_leftOf_0 10 rfl rfl)
theorem dX2_leftOf_13 : decode cX2_leftOf 13 = .ok (.aload_n 0, 1) := dk_42 (dk_at dksX2_leftOf_0 13 rfl rfl)
theorem dX2_leftOf_14 : decode cX2_leftOf 14 = .ok (.iload_n 1, 1) := dk_27 (dk_at dksX2_leftOf_0 14 rfl rfl)
theorem dX2_leftOf_15 : decode cX2_leftOf 15 = .ok (.iconst 3, 1) := dk_6 (dk_at dksX2_leftOf_0 15 rfl rfl)
theorem dX2_leftOf_16 : decode cX2_leftOf 16 = .ok (.invokevirtual 208, 3) := dk_182 0 208 (dk_at dksX2_leftOf_0 16 rfl rfl)
theorem dX2_leftOf_19 : decode cX2_leftOf 19 = .ok (.ireturn, 1) := dk_172 (dk_at dksX2_leftOf_0 19 rfl rfl)
abbrev cX2_aboveOf : ByteArray := prog_13_method_44_code
def yX2_aboveOf : MethodName := ⟨RX2, "aboveOf", "(I)I"⟩
def dkwX2_aboveOf_0 : List UInt8 := [42, 27, 182, 0, 201, 6, 160, 0, 7, 3, 167, 0, 9, 42, 27, 7, 182, 0, 208, 172]
abbrev dktX2_aboveOf_0 : List UInt8 := dkwX2_aboveOf_0 ++ []
theorem dksX2_aboveOf_0 : cX2_aboveOf.data.toList.drop 0 = dktX2_aboveOf_0 := by decide +kernel
theorem dX2_aboveOf_0 : decode cX2_aboveOf 0 = .ok (.aload_n 0, 1) := dk_42 (dk_at dksX2_aboveOf_0 0 rfl rfl)
theorem dX2_aboveOf_1 : decode cX2_aboveOf 1 = .ok (.iload_n 1, 1) := dk_27 (dk_at dksX2_aboveOf_0 1 rfl rfl)
theorem dX2_aboveOf_2 : decode cX2_aboveOf 2 = .ok (.invokevirtual 201, 3) := dk_182 0 201 (dk_at dksX2_aboveOf_0 2 rfl rfl)
theorem dX2_aboveOf_5 : decode cX2_aboveOf 5 = .ok (.iconst 3, 1) := dk_6 (dk_at dksX2_aboveOf_0 5 rfl rfl)
theorem dX2_aboveOf_6 : decode cX2_aboveOf 6 = .ok (.if_icmp .ne 7, 3) := dk_160 0 7 (dk_at dksX2_aboveOf_0 6 rfl rfl)
theorem dX2_aboveOf_9 : decode cX2_aboveOf 9 = .ok (.iconst 0, 1) := dk_3 (dk_at dksX2_aboveOf_0 9 rfl rfl)
theorem dX2_aboveOf_10 : decode cX2_aboveOf 10 = .ok (.goto 9, 3) := dk_167 0 9 (dk_at dksX2_aboveOf_0 10 rfl rfl)
theorem dX2_aboveOf_13 : decode cX2_aboveOf 13 = .ok (.aload_n 0, 1) := dk_42 (dk_at dksX2_aboveOf_0 13 rfl rfl)
theorem dX2_aboveOf_14 : decode cX2_aboveOf 14 = .ok (.iload_n 1, 1) := dk_27 (dk_at dksX2_aboveOf_0 14 rfl rfl)
theorem dX2_aboveOf_15 : decode cX2_aboveOf 15 = .ok (.iconst 4, 1) := dk_7 (dk_at dksX2_aboveOf_0 15 rfl rfl)
theorem dX2_aboveOf_16 : decode cX2_aboveOf 16 = .ok (.invokevirtual 208, 3) := dk_182 0 208 (dk_at dksX2_aboveOf_0 16 rfl rfl)
theorem dX2_aboveOf_19 : decode cX2_aboveOf 19 = .ok (.ireturn, 1) := dk_172 (dk_at dksX2_aboveOf_0 19 rfl rfl)
abbrev cX2_point : ByteArray := prog_13_method_82_code
def yX2_point : MethodName := ⟨RX2, "point", "(III)I"⟩
def dkwX2_point_9 : List UInt8 := [96, 172]
abbrev dktX2_point_9 : List UInt8 := dkwX2_point_9 ++ []
def dkwX2_point_8 : List UInt8 := [54, 8, 17, 39, 16, 42, 180, 0, 35, 7, 27, 104, 3, 96, 46, 104, 16, 100, 21, 7, 104, 96, 21, 8]
abbrev dktX2_point_8 : List UInt8 := dkwX2_point_8 ++ dktX2_point_9
def dkwX2_point_7 : List UInt8 := [27, 104, 5, 96, 46, 42, 27, 182, 0, 211, 96, 21, 6, 153, 0, 8, 21, 4, 167, 0, 5, 21, 5, 96]
abbrev dktX2_point_7 : List UInt8 := dkwX2_point_7 ++ dktX2_point_8
def dkwX2_point_6 : List UInt8 := [182, 0, 211, 96, 21, 6, 153, 0, 8, 21, 5, 167, 0, 5, 21, 4, 96, 54, 7, 42, 180, 0, 35, 7]
abbrev dktX2_point_6 : List UInt8 := dkwX2_point_6 ++ dktX2_point_7
def dkwX2_point_5 : List UInt8 := [160, 0, 7, 4, 167, 0, 4, 3, 54, 6, 42, 180, 0, 35, 7, 27, 104, 4, 96, 46, 42, 27]
abbrev dktX2_point_5 : List UInt8 := dkwX2_point_5 ++ dktX2_point_6
def dkwX2_point_4 : List UInt8 := [4, 100, 184, 0, 75, 154, 0, 6, 16, 247, 172, 42, 180, 0, 35, 7, 27, 104, 6, 96, 46, 4]
abbrev dktX2_point_4 : List UInt8 := dkwX2_point_4 ++ dktX2_point_5
def dkwX2_point_3 : List UInt8 := [21, 4, 3, 42, 27, 182, 0, 214, 4, 100, 184, 0, 75, 153, 0, 19, 21, 5, 3, 42, 27, 182, 0, 217]
abbrev dktX2_point_3 : List UInt8 := dkwX2_point_3 ++ dktX2_point_4
def dkwX2_point_2 : List UInt8 := [154, 0, 6, 16, 252, 172, 28, 42, 27, 182, 1, 52, 100, 54, 4, 29, 42, 27, 182, 1, 55, 100, 54, 5]
abbrev dktX2_point_2 : List UInt8 := dkwX2_point_2 ++ dktX2_point_3
def dkwX2_point_1 : List UInt8 := [29, 3, 42, 27, 5, 182, 0, 208, 4, 100, 184, 0, 75, 154, 0, 5, 2, 172, 42, 27, 182, 0, 232]
abbrev dktX2_point_1 : List UInt8 := dkwX2_point_1 ++ dktX2_point_2
def dkwX2_point_0 : List UInt8 := [42, 27, 182, 0, 223, 153, 0, 35, 28, 3, 42, 27, 4, 182, 0, 208, 4, 100, 184, 0, 75, 153, 0, 19]
abbrev dktX2_point_0 : List UInt8 := dkwX2_point_0 ++ dktX2_point_1
theorem dksX2_point_0 : cX2_point.data.toList.drop 0 = dktX2_point_0 := by decide +kernel
theorem dksX2_point_1 : cX2_point.data.toList.drop 24 = dktX2_point_1 := dk_seg dksX2_point_0 24 rfl rfl
theorem dksX2_point_2 : cX2_point.data.toList.drop 47 = dktX2_point_2 := dk_seg dksX2_point_1 23 rfl rfl
theorem dksX2_point_3 : cX2_point.data.toList.drop 71 = dktX2_point_3 := dk_seg dksX2_point_2 24 rfl rfl
theorem dksX2_point_4 : cX2_point.data.toList.drop 95 = dktX2_point_4 := dk_seg dksX2_point_3 24 rfl rfl
theorem dksX2_point_5 : cX2_point.data.toList.drop 117 = dktX2_point_5 := dk_seg dksX2_point_4 22 rfl rfl
theorem dksX2_point_6 : cX2_point.data.toList.drop 139 = dktX2_point_6 := dk_seg dksX2_point_5 22 rfl rfl
theorem dksX2_point_7 : cX2_point.data.toList.drop 163 = dktX2_point_7 := dk_seg dksX2_point_6 24 rfl rfl
theorem dksX2_point_8 : cX2_point.data.toList.drop 187 = dktX2_point_8 := dk_seg dksX2_point_7 24 rfl rfl
theorem dksX2_point_9 : cX2_point.data.toList.drop 211 = dktX2_point_9 := dk_seg dksX2_point_8 24 rfl rfl
theorem dX2_point_0 : decode cX2_point 0 = .ok (.aload_n 0, 1) := dk_42 (dk_at dksX2_point_0 0 rfl rfl)
theorem dX2_point_1 : decode cX2_point 1 = .ok (.iload_n 1, 1) := dk_27 (dk_at dksX2_point_0 1 rfl rfl)
theorem dX2_point_2 : decode cX2_point 2 = .ok (.invokevirtual 223, 3) := dk_182 0 223 (dk_at dksX2_point_0 2 rfl rfl)
theorem dX2_point_5 : decode cX2_point 5 = .ok (.ifCond .eq 35, 3) := dk_153 0 35 (dk_at dksX2_point_0 5 rfl rfl)
theorem dX2_point_8 : decode cX2_point 8 = .ok (.iload_n 2, 1) := dk_28 (dk_at dksX2_point_0 8 rfl rfl)
theorem dX2_point_9 : decode cX2_point 9 = .ok (.iconst 0, 1) := dk_3 (dk_at dksX2_point_0 9 rfl rfl)
theorem dX2_point_10 : decode cX2_point 10 = .ok (.aload_n 0, 1) := dk_42 (dk_at dksX2_point_0 10 rfl rfl)
theorem dX2_point_11 : decode cX2_point 11 = .ok (.iload_n 1, 1) := dk_27 (dk_at dksX2_point_0 11 rfl rfl)
theorem dX2_point_12 : decode cX2_point 12 = .ok (.iconst 1, 1) := dk_4 (dk_at dksX2_point_0 12 rfl rfl)
theorem dX2_point_13 : decode cX2_point 13 = .ok (.invokevirtual 208, 3) := dk_182 0 208 (dk_at dksX2_point_0 13 rfl rfl)
theorem dX2_point_16 : decode cX2_point 16 = .ok (.iconst 1, 1) := dk_4 (dk_at dksX2_point_0 16 rfl rfl)
theorem dX2_point_17 : decode cX2_point 17 = .ok (.isub, 1) := dk_100 (dk_at dksX2_point_0 17 rfl rfl)
theorem dX2_point_18 : decode cX2_point 18 = .ok (.invokestatic 75, 3) := dk_184 0 75 (dk_at dksX2_point_0 18 rfl rfl)
theorem dX2_point_21 : decode cX2_point 21 = .ok (.ifCond .eq 19, 3) := dk_153 0 19 (dk_at dksX2_point_0 21 rfl rfl)
theorem dX2_point_24 : decode cX2_point 24 = .ok (.iload_n 3, 1) := dk_29 (dk_at dksX2_point_1 0 rfl rfl)
theorem dX2_point_25 : decode cX2_point 25 = .ok (.iconst 0, 1) := dk_3 (dk_at dksX2_point_1 1 rfl rfl)
theorem dX2_point_26 : decode cX2_point 26 = .ok (.aload_n 0, 1) := dk_42 (dk_at dksX2_point_1 2 rfl rfl)
theorem dX2_point_27 : decode cX2_point 27 = .ok (.iload_n 1, 1) := dk_27 (dk_at dksX2_point_1 3 rfl rfl)
theorem dX2_point_28 : decode cX2_point 28 = .ok (.iconst 2, 1) := dk_5 (dk_at dksX2_point_1 4 rfl rfl)
theorem dX2_point_29 : decode cX2_point 29 = .ok (.invokevirtual 208, 3) := dk_182 0 208 (dk_at dksX2_point_1 5 rfl rfl)
theorem dX2_point_32 : decode cX2_point 32 = .ok (.iconst 1, 1) := dk_4 (dk_at dksX2_point_1 8 rfl rfl)
theorem dX2_point_33 : decode cX2_point 33 = .ok (.isub, 1) := dk_100 (dk_at dksX2_point_1 9 rfl rfl)
theorem dX2_point_34 : decode cX2_point 34 = .ok (.invokestatic 75, 3) := dk_184 0 75 (dk_at dksX2_point_1 10 rfl rfl)
theorem dX2_point_37 : decode cX2_point 37 = .ok (.ifCond .ne 5, 3) := dk_154 0 5 (dk_at dksX2_point_1 13 rfl rfl)
theorem dX2_point_40 : decode cX2_point 40 = .ok (.iconst (-1), 1) := dk_2 (dk_at dksX2_point_1 16 rfl rfl)
theorem dX2_point_41 : decode cX2_point 41 = .ok (.ireturn, 1) := dk_172 (dk_at dksX2_point_1 17 rfl rfl)
theorem dX2_point_42 : decode cX2_point 42 = .ok (.aload_n 0, 1) := dk_42 (dk_at dksX2_point_1 18 rfl rfl)
theorem dX2_point_43 : decode cX2_point 43 = .ok (.iload_n 1, 1) := dk_27 (dk_at dksX2_point_1 19 rfl rfl)
theorem dX2_point_44 : decode cX2_point 44 = .ok (.invokevirtual 232, 3) := dk_182 0 232 (dk_at dksX2_point_1 20 rfl rfl)
theorem dX2_point_47 : decode cX2_point 47 = .ok (.ifCond .ne 6, 3) := dk_154 0 6 (dk_at dksX2_point_2 0 rfl rfl)
theorem dX2_point_50 : decode cX2_point 50 = .ok (.bipush (-4), 2) := dk_16 252 (dk_at dksX2_point_2 3 rfl rfl)
theorem dX2_point_52 : decode cX2_point 52 = .ok (.ireturn, 1) := dk_172 (dk_at dksX2_point_2 5 rfl rfl)
theorem dX2_point_53 : decode cX2_point 53 = .ok (.iload_n 2, 1) := dk_28 (dk_at dksX2_point_2 6 rfl rfl)
theorem dX2_point_54 : decode cX2_point 54 = .ok (.aload_n 0, 1) := dk_42 (dk_at dksX2_point_2 7 rfl rfl)
theorem dX2_point_55 : decode cX2_point 55 = .ok (.iload_n 1, 1) := dk_27 (dk_at dksX2_point_2 8 rfl rfl)
theorem dX2_point_56 : decode cX2_point 56 = .ok (.invokevirtual 308, 3) := dk_182 1 52 (dk_at dksX2_point_2 9 rfl rfl)
theorem dX2_point_59 : decode cX2_point 59 = .ok (.isub, 1) := dk_100 (dk_at dksX2_point_2 12 rfl rfl)
theorem dX2_point_60 : decode cX2_point 60 = .ok (.istore 4, 2) := dk_54 4 (dk_at dksX2_point_2 13 rfl rfl)
theorem dX2_point_62 : decode cX2_point 62 = .ok (.iload_n 3, 1) := dk_29 (dk_at dksX2_point_2 15 rfl rfl)
theorem dX2_point_63 : decode cX2_point 63 = .ok (.aload_n 0, 1) := dk_42 (dk_at dksX2_point_2 16 rfl rfl)
theorem dX2_point_64 : decode cX2_point 64 = .ok (.iload_n 1, 1) := dk_27 (dk_at dksX2_point_2 17 rfl rfl)
theorem dX2_point_65 : decode cX2_point 65 = .ok (.invokevirtual 311, 3) := dk_182 1 55 (dk_at dksX2_point_2 18 rfl rfl)
theorem dX2_point_68 : decode cX2_point 68 = .ok (.isub, 1) := dk_100 (dk_at dksX2_point_2 21 rfl rfl)
theorem dX2_point_69 : decode cX2_point 69 = .ok (.istore 5, 2) := dk_54 5 (dk_at dksX2_point_2 22 rfl rfl)
theorem dX2_point_71 : decode cX2_point 71 = .ok (.iload 4, 2) := dk_21 4 (dk_at dksX2_point_3 0 rfl rfl)
theorem dX2_point_73 : decode cX2_point 73 = .ok (.iconst 0, 1) := dk_3 (dk_at dksX2_point_3 2 rfl rfl)
theorem dX2_point_74 : decode cX2_point 74 = .ok (.aload_n 0, 1) := dk_42 (dk_at dksX2_point_3 3 rfl rfl)
theorem dX2_point_75 : decode cX2_point 75 = .ok (.iload_n 1, 1) := dk_27 (dk_at dksX2_point_3 4 rfl rfl)
theorem dX2_point_76 : decode cX2_point 76 = .ok (.invokevirtual 214, 3) := dk_182 0 214 (dk_at dksX2_point_3 5 rfl rfl)
theorem dX2_point_79 : decode cX2_point 79 = .ok (.iconst 1, 1) := dk_4 (dk_at dksX2_point_3 8 rfl rfl)
theorem dX2_point_80 : decode cX2_point 80 = .ok (.isub, 1) := dk_100 (dk_at dksX2_point_3 9 rfl rfl)
theorem dX2_point_81 : decode cX2_point 81 = .ok (.invokestatic 75, 3) := dk_184 0 75 (dk_at dksX2_point_3 10 rfl rfl)
theorem dX2_point_84 : decode cX2_point 84 = .ok (.ifCond .eq 19, 3) := dk_153 0 19 (dk_at dksX2_point_3 13 rfl rfl)
theorem dX2_point_87 : decode cX2_point 87 = .ok (.iload 5, 2) := dk_21 5 (dk_at dksX2_point_3 16 rfl rfl)
theorem dX2_point_89 : decode cX2_point 89 = .ok (.iconst 0, 1) := dk_3 (dk_at dksX2_point_3 18 rfl rfl)
theorem dX2_point_90 : decode cX2_point 90 = .ok (.aload_n 0, 1) := dk_42 (dk_at dksX2_point_3 19 rfl rfl)
theorem dX2_point_91 : decode cX2_point 91 = .ok (.iload_n 1, 1) := dk_27 (dk_at dksX2_point_3 20 rfl rfl)
theorem dX2_point_92 : decode cX2_point 92 = .ok (.invokevirtual 217, 3) := dk_182 0 217 (dk_at dksX2_point_3 21 rfl rfl)
theorem dX2_point_95 : decode cX2_point 95 = .ok (.iconst 1, 1) := dk_4 (dk_at dksX2_point_4 0 rfl rfl)
theorem dX2_point_96 : decode cX2_point 96 = .ok (.isub, 1) := dk_100 (dk_at dksX2_point_4 1 rfl rfl)
theorem dX2_point_97 : decode cX2_point 97 = .ok (.invokestatic 75, 3) := dk_184 0 75 (dk_at dksX2_point_4 2 rfl rfl)
theorem dX2_point_100 : decode cX2_point 100 = .ok (.ifCond .ne 6, 3) := dk_154 0 6 (dk_at dksX2_point_4 5 rfl rfl)
theorem dX2_point_103 : decode cX2_point 103 = .ok (.bipush (-9), 2) := dk_16 247 (dk_at dksX2_point_4 8 rfl rfl)
theorem dX2_point_105 : decode cX2_point 105 = .ok (.ireturn, 1) := dk_172 (dk_at dksX2_point_4 10 rfl rfl)
theorem dX2_point_106 : decode cX2_point 106 = .ok (.aload_n 0, 1) := dk_42 (dk_at dksX2_point_4 11 rfl rfl)
theorem dX2_point_107 : decode cX2_point 107 = .ok (.getfield 35, 3) := dk_180 0 35 (dk_at dksX2_point_4 12 rfl rfl)
theorem dX2_point_110 : decode cX2_point 110 = .ok (.iconst 4, 1) := dk_7 (dk_at dksX2_point_4 15 rfl rfl)
theorem dX2_point_111 : decode cX2_point 111 = .ok (.iload_n 1, 1) := dk_27 (dk_at dksX2_point_4 16 rfl rfl)
theorem dX2_point_112 : decode cX2_point 112 = .ok (.imul, 1) := dk_104 (dk_at dksX2_point_4 17 rfl rfl)
theorem dX2_point_113 : decode cX2_point 113 = .ok (.iconst 3, 1) := dk_6 (dk_at dksX2_point_4 18 rfl rfl)
theorem dX2_point_114 : decode cX2_point 114 = .ok (.iadd, 1) := dk_96 (dk_at dksX2_point_4 19 rfl rfl)
theorem dX2_point_115 : decode cX2_point 115 = .ok (.iaload, 1) := dk_46 (dk_at dksX2_point_4 20 rfl rfl)
theorem dX2_point_116 : decode cX2_point 116 = .ok (.iconst 1, 1) := dk_4 (dk_at dksX2_point_4 21 rfl rfl)
theorem dX2_point_117 : decode cX2_point 117 = .ok (.if_icmp .ne 7, 3) := dk_160 0 7 (dk_at dksX2_point_5 0 rfl rfl)
theorem dX2_point_120 : decode cX2_point 120 = .ok (.iconst 1, 1) := dk_4 (dk_at dksX2_point_5 3 rfl rfl)
theorem dX2_point_121 : decode cX2_point 121 = .ok (.goto 4, 3) := dk_167 0 4 (dk_at dksX2_point_5 4 rfl rfl)
theorem dX2_point_124 : decode cX2_point 124 = .ok (.iconst 0, 1) := dk_3 (dk_at dksX2_point_5 7 rfl rfl)
theorem dX2_point_125 : decode cX2_point 125 = .ok (.istore 6, 2) := dk_54 6 (dk_at dksX2_point_5 8 rfl rfl)
theorem dX2_point_127 : decode cX2_point 127 = .ok (.aload_n 0, 1) := dk_42 (dk_at dksX2_point_5 10 rfl rfl)
theorem dX2_point_128 : decode cX2_point 128 = .ok (.getfield 35, 3) := dk_180 0 35 (dk_at dksX2_point_5 11 rfl rfl)
theorem dX2_point_131 : decode cX2_point 131 = .ok (.iconst 4, 1) := dk_7 (dk_at dksX2_point_5 14 rfl rfl)
theorem dX2_point_132 : decode cX2_point 132 = .ok (.iload_n 1, 1) := dk_27 (dk_at dksX2_point_5 15 rfl rfl)
theorem dX2_point_133 : decode cX2_point 133 = .ok (.imul, 1) := dk_104 (dk_at dksX2_point_5 16 rfl rfl)
theorem dX2_point_134 : decode cX2_point 134 = .ok (.iconst 1, 1) := dk_4 (dk_at dksX2_point_5 17 rfl rfl)
theorem dX2_point_135 : decode cX2_point 135 = .ok (.iadd, 1) := dk_96 (dk_at dksX2_point_5 18 rfl rfl)
theorem dX2_point_136 : decode cX2_point 136 = .ok (.iaload, 1) := dk_46 (dk_at dksX2_point_5 19 rfl rfl)
theorem dX2_point_137 : decode cX2_point 137 = .ok (.aload_n 0, 1) := dk_42 (dk_at dksX2_point_5 20 rfl rfl)
theorem dX2_point_138 : decode cX2_point 138 = .ok (.iload_n 1, 1) := dk_27 (dk_at dksX2_point_5 21 rfl rfl)
theorem dX2_point_139 : decode cX2_point 139 = .ok (.invokevirtual 211, 3) := dk_182 0 211 (dk_at dksX2_point_6 0 rfl rfl)
theorem dX2_point_142 : decode cX2_point 142 = .ok (.iadd, 1) := dk_96 (dk_at dksX2_point_6 3 rfl rfl)
theorem dX2_point_143 : decode cX2_point 143 = .ok (.iload 6, 2) := dk_21 6 (dk_at dksX2_point_6 4 rfl rfl)
theorem dX2_point_145 : decode cX2_point 145 = .ok (.ifCond .eq 8, 3) := dk_153 0 8 (dk_at dksX2_point_6 6 rfl rfl)
theorem dX2_point_148 : decode cX2_point 148 = .ok (.iload 5, 2) := dk_21 5 (dk_at dksX2_point_6 9 rfl rfl)
theorem dX2_point_150 : decode cX2_point 150 = .ok (.goto 5, 3) := dk_167 0 5 (dk_at dksX2_point_6 11 rfl rfl)
theorem dX2_point_153 : decode cX2_point 153 = .ok (.iload 4, 2) := dk_21 4 (dk_at dksX2_point_6 14 rfl rfl)
theorem dX2_point_155 : decode cX2_point 155 = .ok (.iadd, 1) := dk_96 (dk_at dksX2_point_6 16 rfl rfl)
theorem dX2_point_156 : decode cX2_point 156 = .ok (.istore 7, 2) := dk_54 7 (dk_at dksX2_point_6 17 rfl rfl)
theorem dX2_point_158 : decode cX2_point 158 = .ok (.aload_n 0, 1) := dk_42 (dk_at dksX2_point_6 19 rfl rfl)
theorem dX2_point_159 : decode cX2_point 159 = .ok (.getfield 35, 3) := dk_180 0 35 (dk_at dksX2_point_6 20 rfl rfl)
theorem dX2_point_162 : decode cX2_point 162 = .ok (.iconst 4, 1) := dk_7 (dk_at dksX2_point_6 23 rfl rfl)
theorem dX2_point_163 : decode cX2_point 163 = .ok (.iload_n 1, 1) := dk_27 (dk_at dksX2_point_7 0 rfl rfl)
theorem dX2_point_164 : decode cX2_point 164 = .ok (.imul, 1) := dk_104 (dk_at dksX2_point_7 1 rfl rfl)
theorem dX2_point_165 : decode cX2_point 165 = .ok (.iconst 2, 1) := dk_5 (dk_at dksX2_point_7 2 rfl rfl)
theorem dX2_point_166 : decode cX2_point 166 = .ok (.iadd, 1) := dk_96 (dk_at dksX2_point_7 3 rfl rfl)
theorem dX2_point_167 : decode cX2_point 167 = .ok (.iaload, 1) := dk_46 (dk_at dksX2_point_7 4 rfl rfl)
theorem dX2_point_168 : decode cX2_point 168 = .ok (.aload_n 0, 1) := dk_42 (dk_at dksX2_point_7 5 rfl rfl)
theorem dX2_point_169 : decode cX2_point 169 = .ok (.iload_n 1, 1) := dk_27 (dk_at dksX2_point_7 6 rfl rfl)
theorem dX2_point_170 : decode cX2_point 170 = .ok (.invokevirtual 211, 3) := dk_182 0 211 (dk_at dksX2_point_7 7 rfl rfl)
theorem dX2_point_173 : decode cX2_point 173 = .ok (.iadd, 1) := dk_96 (dk_at dksX2_point_7 10 rfl rfl)
theorem dX2_point_174 : decode cX2_point 174 = .ok (.iload 6, 2) := dk_21 6 (dk_at dksX2_point_7 11 rfl rfl)
theorem dX2_point_176 : decode cX2_point 176 = .ok (.ifCond .eq 8, 3) := dk_153 0 8 (dk_at dksX2_point_7 13 rfl rfl)
theorem dX2_point_179 : decode cX2_point 179 = .ok (.iload 4, 2) := dk_21 4 (dk_at dksX2_point_7 16 rfl rfl)
theorem dX2_point_181 : decode cX2_point 181 = .ok (.goto 5, 3) := dk_167 0 5 (dk_at dksX2_point_7 18 rfl rfl)
theorem dX2_point_184 : decode cX2_point 184 = .ok (.iload 5, 2) := dk_21 5 (dk_at dksX2_point_7 21 rfl rfl)
theorem dX2_point_186 : decode cX2_point 186 = .ok (.iadd, 1) := dk_96 (dk_at dksX2_point_7 23 rfl rfl)
theorem dX2_point_187 : decode cX2_point 187 = .ok (.istore 8, 2) := dk_54 8 (dk_at dksX2_point_8 0 rfl rfl)
theorem dX2_point_189 : decode cX2_point 189 = .ok (.sipush 10000, 3) := dk_17 39 16 (dk_at dksX2_point_8 2 rfl rfl)
theorem dX2_point_192 : decode cX2_point 192 = .ok (.aload_n 0, 1) := dk_42 (dk_at dksX2_point_8 5 rfl rfl)
theorem dX2_point_193 : decode cX2_point 193 = .ok (.getfield 35, 3) := dk_180 0 35 (dk_at dksX2_point_8 6 rfl rfl)
theorem dX2_point_196 : decode cX2_point 196 = .ok (.iconst 4, 1) := dk_7 (dk_at dksX2_point_8 9 rfl rfl)
theorem dX2_point_197 : decode cX2_point 197 = .ok (.iload_n 1, 1) := dk_27 (dk_at dksX2_point_8 10 rfl rfl)
theorem dX2_point_198 : decode cX2_point 198 = .ok (.imul, 1) := dk_104 (dk_at dksX2_point_8 11 rfl rfl)
theorem dX2_point_199 : decode cX2_point 199 = .ok (.iconst 0, 1) := dk_3 (dk_at dksX2_point_8 12 rfl rfl)
theorem dX2_point_200 : decode cX2_point 200 = .ok (.iadd, 1) := dk_96 (dk_at dksX2_point_8 13 rfl rfl)
theorem dX2_point_201 : decode cX2_point 201 = .ok (.iaload, 1) := dk_46 (dk_at dksX2_point_8 14 rfl rfl)
theorem dX2_point_202 : decode cX2_point 202 = .ok (.imul, 1) := dk_104 (dk_at dksX2_point_8 15 rfl rfl)
theorem dX2_point_203 : decode cX2_point 203 = .ok (.bipush 100, 2) := dk_16 100 (dk_at dksX2_point_8 16 rfl rfl)
theorem dX2_point_205 : decode cX2_point 205 = .ok (.iload 7, 2) := dk_21 7 (dk_at dksX2_point_8 18 rfl rfl)
theorem dX2_point_207 : decode cX2_point 207 = .ok (.imul, 1) := dk_104 (dk_at dksX2_point_8 20 rfl rfl)
theorem dX2_point_208 : decode cX2_point 208 = .ok (.iadd, 1) := dk_96 (dk_at dksX2_point_8 21 rfl rfl)
theorem dX2_point_209 : decode cX2_point 209 = .ok (.iload 8, 2) := dk_21 8 (dk_at dksX2_point_8 22 rfl rfl)
theorem dX2_point_211 : decode cX2_point 211 = .ok (.iadd, 1) := dk_96 (dk_at dksX2_point_9 0 rfl rfl)
theorem dX2_point_212 : decode cX2_point 212 = .ok (.ireturn, 1) := dk_172 (dk_at dksX2_point_9 1 rfl rfl)
abbrev cX2_used : ByteArray := prog_13_method_84_code
def yX2_used : MethodName := ⟨RX2, "used", "(I)I"⟩
def dkwX2_used_1 : List UInt8 := [180, 0, 170, 42, 180, 0, 173, 104, 108, 28, 182, 0, 91, 172]
abbrev dktX2_used_1 : List UInt8 := dkwX2_used_1 ++ []
def dkwX2_used_0 : List UInt8 := [42, 27, 182, 1, 46, 154, 0, 5, 2, 172, 42, 27, 182, 1, 58, 61, 42, 16, 100, 28, 104, 42]
abbrev dktX2_used_0 : List UInt8 := dkwX2_used_0 ++ dktX2_used_1
theorem dksX2_used_0 : cX2_used.data.toList.drop 0 = dktX2_used_0 := by decide +kernel
theorem dksX2_used_1 : cX2_used.data.toList.drop 22 = dktX2_used_1 := dk_seg dksX2_used_0 22 rfl rfl
theorem dX2_used_0 : decode cX2_used 0 = .ok (.aload_n 0, 1) := dk_42 (dk_at dksX2_used_0 0 rfl rfl)
theorem dX2_used_1 : decode cX2_used 1 = .ok (.iload_n 1, 1) := dk_27 (dk_at dksX2_used_0 1 rfl rfl)
theorem dX2_used_2 : decode cX2_used 2 = .ok (.invokevirtual 302, 3) := dk_182 1 46 (dk_at dksX2_used_0 2 rfl rfl)
theorem dX2_used_5 : decode cX2_used 5 = .ok (.ifCond .ne 5, 3) := dk_154 0 5 (dk_at dksX2_used_0 5 rfl rfl)
theorem dX2_used_8 : decode cX2_used 8 = .ok (.iconst (-1), 1) := dk_2 (dk_at dksX2_used_0 8 rfl rfl)
theorem dX2_used_9 : decode cX2_used 9 = .ok (.ireturn, 1) := dk_172 (dk_at dksX2_used_0 9 rfl rfl)
theorem dX2_used_10 : decode cX2_used 10 = .ok (.aload_n 0, 1) := dk_42 (dk_at dksX2_used_0 10 rfl rfl)
theorem dX2_used_11 : decode cX2_used 11 = .ok (.iload_n 1, 1) := dk_27 (dk_at dksX2_used_0 11 rfl rfl)
theorem dX2_used_12 : decode cX2_used 12 = .ok (.invokevirtual 314, 3) := dk_182 1 58 (dk_at dksX2_used_0 12 rfl rfl)
theorem dX2_used_15 : decode cX2_used 15 = .ok (.istore_n 2, 1) := dk_61 (dk_at dksX2_used_0 15 rfl rfl)
theorem dX2_used_16 : decode cX2_used 16 = .ok (.aload_n 0, 1) := dk_42 (dk_at dksX2_used_0 16 rfl rfl)
theorem dX2_used_17 : decode cX2_used 17 = .ok (.bipush 100, 2) := dk_16 100 (dk_at dksX2_used_0 17 rfl rfl)
theorem dX2_used_19 : decode cX2_used 19 = .ok (.iload_n 2, 1) := dk_28 (dk_at dksX2_used_0 19 rfl rfl)
theorem dX2_used_20 : decode cX2_used 20 = .ok (.imul, 1) := dk_104 (dk_at dksX2_used_0 20 rfl rfl)
theorem dX2_used_21 : decode cX2_used 21 = .ok (.aload_n 0, 1) := dk_42 (dk_at dksX2_used_0 21 rfl rfl)
theorem dX2_used_22 : decode cX2_used 22 = .ok (.getfield 170, 3) := dk_180 0 170 (dk_at dksX2_used_1 0 rfl rfl)
theorem dX2_used_25 : decode cX2_used 25 = .ok (.aload_n 0, 1) := dk_42 (dk_at dksX2_used_1 3 rfl rfl)
theorem dX2_used_26 : decode cX2_used 26 = .ok (.getfield 173, 3) := dk_180 0 173 (dk_at dksX2_used_1 4 rfl rfl)
theorem dX2_used_29 : decode cX2_used 29 = .ok (.imul, 1) := dk_104 (dk_at dksX2_used_1 7 rfl rfl)
theorem dX2_used_30 : decode cX2_used 30 = .ok (.idiv, 1) := dk_108 (dk_at dksX2_used_1 8 rfl rfl)
theorem dX2_used_31 : decode cX2_used 31 = .ok (.iload_n 2, 1) := dk_28 (dk_at dksX2_used_1 9 rfl rfl)
theorem dX2_used_32 : decode cX2_used 32 = .ok (.invokevirtual 91, 3) := dk_182 0 91 (dk_at dksX2_used_1 10 rfl rfl)
theorem dX2_used_35 : decode cX2_used 35 = .ok (.ireturn, 1) := dk_172 (dk_at dksX2_used_1 13 rfl rfl)
abbrev cX2_takenOf : ByteArray := prog_13_method_83_code
def yX2_takenOf : MethodName := ⟨RX2, "takenOf", "(I)I"⟩
def dkwX2_takenOf_2 : List UInt8 := [132, 3, 1, 167, 255, 211, 28, 172]
abbrev dktX2_takenOf_2 : List UInt8 := dkwX2_takenOf_2 ++ []
def dkwX2_takenOf_1 : List UInt8 := [160, 0, 19, 42, 29, 3, 182, 0, 220, 42, 29, 3, 182, 0, 229, 104, 167, 0, 4, 3, 96, 61]
abbrev dktX2_takenOf_1 : List UInt8 := dkwX2_takenOf_1 ++ dktX2_takenOf_2
def dkwX2_takenOf_0 : List UInt8 := [3, 61, 3, 62, 29, 42, 180, 0, 179, 162, 0, 43, 28, 42, 180, 0, 35, 7, 29, 104, 3, 96, 46, 27]
abbrev dktX2_takenOf_0 : List UInt8 := dkwX2_takenOf_0 ++ dktX2_takenOf_1
theorem dksX2_takenOf_0 : cX2_takenOf.data.toList.drop 0 = dktX2_takenOf_0 := by decide +kernel
theorem dksX2_takenOf_1 : cX2_takenOf.data.toList.drop 24 = dktX2_takenOf_1 := dk_seg dksX2_takenOf_0 24 rfl rfl
theorem dksX2_takenOf_2 : cX2_takenOf.data.toList.drop 46 = dktX2_takenOf_2 := dk_seg dksX2_takenOf_1 22 rfl rfl
theorem dX2_takenOf_0 : decode cX2_takenOf 0 = .ok (.iconst 0, 1) := dk_3 (dk_at dksX2_takenOf_0 0 rfl rfl)
theorem dX2_takenOf_1 : decode cX2_takenOf 1 = .ok (.istore_n 2, 1) := dk_61 (dk_at dksX2_takenOf_0 1 rfl rfl)
theorem dX2_takenOf_2 : decode cX2_takenOf 2 = .ok (.iconst 0, 1) := dk_3 (dk_at dksX2_takenOf_0 2 rfl rfl)
theorem dX2_takenOf_3 : decode cX2_takenOf 3 = .ok (.istore_n 3, 1) := dk_62 (dk_at dksX2_takenOf_0 3 rfl rfl)
theorem dX2_takenOf_4 : decode cX2_takenOf 4 = .ok (.iload_n 3, 1) := dk_29 (dk_at dksX2_takenOf_0 4 rfl rfl)
theorem dX2_takenOf_5 : decode cX2_takenOf 5 = .ok (.aload_n 0, 1) := dk_42 (dk_at dksX2_takenOf_0 5 rfl rfl)
theorem dX2_takenOf_6 : decode cX2_takenOf 6 = .ok (.getfield 179, 3) := dk_180 0 179 (dk_at dksX2_takenOf_0 6 rfl rfl)
theorem dX2_takenOf_9 : decode cX2_takenOf 9 = .ok (.if_icmp .ge 43, 3) := dk_162 0 43 (dk_at dksX2_takenOf_0 9 rfl rfl)
theorem dX2_takenOf_12 : decode cX2_takenOf 12 = .ok (.iload_n 2, 1) := dk_28 (dk_at dksX2_takenOf_0 12 rfl rfl)
theorem dX2_takenOf_13 : decode cX2_takenOf 13 = .ok (.aload_n 0, 1) := dk_42 (dk_at dksX2_takenOf_0 13 rfl rfl)
theorem dX2_takenOf_14 : decode cX2_takenOf 14 = .ok (.getfield 35, 3) := dk_180 0 35 (dk_at dksX2_takenOf_0 14 rfl rfl)
theorem dX2_takenOf_17 : decode cX2_takenOf 17 = .ok (.iconst 4, 1) := dk_7 (dk_at dksX2_takenOf_0 17 rfl rfl)
theorem dX2_takenOf_18 : decode cX2_takenOf 18 = .ok (.iload_n 3, 1) := dk_29 (dk_at dksX2_takenOf_0 18 rfl rfl)
theorem dX2_takenOf_19 : decode cX2_takenOf 19 = .ok (.imul, 1) := dk_104 (dk_at dksX2_takenOf_0 19 rfl rfl)
theorem dX2_takenOf_20 : decode cX2_takenOf 20 = .ok (.iconst 0, 1) := dk_3 (dk_at dksX2_takenOf_0 20 rfl rfl)
theorem dX2_takenOf_21 : decode cX2_takenOf 21 = .ok (.iadd, 1) := dk_96 (dk_at dksX2_takenOf_0 21 rfl rfl)
theorem dX2_takenOf_22 : decode cX2_takenOf 22 = .ok (.iaload, 1) := dk_46 (dk_at dksX2_takenOf_0 22 rfl rfl)
theorem dX2_takenOf_23 : decode cX2_takenOf 23 = .ok (.iload_n 1, 1) := dk_27 (dk_at dksX2_takenOf_0 23 rfl rfl)
theorem dX2_takenOf_24 : decode cX2_takenOf 24 = .ok (.if_icmp .ne 19, 3) := dk_160 0 19 (dk_at dksX2_takenOf_1 0 rfl rfl)
theorem dX2_takenOf_27 : decode cX2_takenOf 27 = .ok (.aload_n 0, 1) := dk_42 (dk_at dksX2_takenOf_1 3 rfl rfl)
theorem dX2_takenOf_28 : decode cX2_takenOf 28 = .ok (.iload_n 3, 1) := dk_29 (dk_at dksX2_takenOf_1 4 rfl rfl)
theorem dX2_takenOf_29 : decode cX2_takenOf 29 = .ok (.iconst 0, 1) := dk_3 (dk_at dksX2_takenOf_1 5 rfl rfl)
theorem dX2_takenOf_30 : decode cX2_takenOf 30 = .ok (.invokevirtual 220, 3) := dk_182 0 220 (dk_at dksX2_takenOf_1 6 rfl rfl)
theorem dX2_takenOf_33 : decode cX2_takenOf 33 = .ok (.aload_n 0, 1) := dk_42 (dk_at dksX2_takenOf_1 9 rfl rfl)
theorem dX2_takenOf_34 : decode cX2_takenOf 34 = .ok (.iload_n 3, 1) := dk_29 (dk_at dksX2_takenOf_1 10 rfl rfl)
theorem dX2_takenOf_35 : decode cX2_takenOf 35 = .ok (.iconst 0, 1) := dk_3 (dk_at dksX2_takenOf_1 11 rfl rfl)
theorem dX2_takenOf_36 : decode cX2_takenOf 36 = .ok (.invokevirtual 229, 3) := dk_182 0 229 (dk_at dksX2_takenOf_1 12 rfl rfl)
theorem dX2_takenOf_39 : decode cX2_takenOf 39 = .ok (.imul, 1) := dk_104 (dk_at dksX2_takenOf_1 15 rfl rfl)
theorem dX2_takenOf_40 : decode cX2_takenOf 40 = .ok (.goto 4, 3) := dk_167 0 4 (dk_at dksX2_takenOf_1 16 rfl rfl)
theorem dX2_takenOf_43 : decode cX2_takenOf 43 = .ok (.iconst 0, 1) := dk_3 (dk_at dksX2_takenOf_1 19 rfl rfl)
theorem dX2_takenOf_44 : decode cX2_takenOf 44 = .ok (.iadd, 1) := dk_96 (dk_at dksX2_takenOf_1 20 rfl rfl)
theorem dX2_takenOf_45 : decode cX2_takenOf 45 = .ok (.istore_n 2, 1) := dk_61 (dk_at dksX2_takenOf_1 21 rfl rfl)
theorem dX2_takenOf_46 : decode cX2_takenOf 46 = .ok (.iinc 3 1, 3) := dk_132 3 1 (dk_at dksX2_takenOf_2 0 rfl rfl)
theorem dX2_takenOf_49 : decode cX2_takenOf 49 = .ok (.goto (-45), 3) := dk_167 255 211 (dk_at dksX2_takenOf_2 3 rfl rfl)
theorem dX2_takenOf_52 : decode cX2_takenOf 52 = .ok (.iload_n 2, 1) := dk_28 (dk_at dksX2_takenOf_2 6 rfl rfl)
theorem dX2_takenOf_53 : decode cX2_takenOf 53 = .ok (.ireturn, 1) := dk_172 (dk_at dksX2_takenOf_2 7 rfl rfl)
abbrev cX2_takes : ByteArray := prog_13_method_85_code
def yX2_takes : MethodName := ⟨RX2, "takes", "(I)I"⟩
def dkwX2_takes_5 : List UInt8 := [132, 4, 1, 167, 255, 205, 42, 29, 28, 182, 0, 91, 172]
abbrev dktX2_takes_5 : List UInt8 := dkwX2_takes_5 ++ []
def dkwX2_takes_4 : List UInt8 := [164, 0, 21, 42, 180, 0, 50, 21, 4, 46, 42, 180, 0, 53, 21, 4, 46, 104, 167, 0, 4, 29, 62]
abbrev dktX2_takes_4 : List UInt8 := dkwX2_takes_4 ++ dktX2_takes_5
def dkwX2_takes_3 : List UInt8 := [42, 180, 0, 242, 162, 0, 48, 42, 180, 0, 50, 21, 4, 46, 42, 180, 0, 53, 21, 4, 46, 104, 29]
abbrev dktX2_takes_3 : List UInt8 := dkwX2_takes_3 ++ dktX2_takes_4
def dkwX2_takes_2 : List UInt8 := [153, 0, 10, 4, 21, 4, 120, 167, 0, 4, 3, 128, 61, 132, 4, 1, 167, 255, 214, 3, 54, 4, 21, 4]
abbrev dktX2_takes_2 : List UInt8 := dkwX2_takes_2 ++ dktX2_takes_3
def dkwX2_takes_1 : List UInt8 := [42, 180, 0, 179, 162, 0, 39, 28, 42, 21, 4, 182, 0, 232, 154, 0, 20, 42, 21, 4, 3, 182, 1, 21]
abbrev dktX2_takes_1 : List UInt8 := dkwX2_takes_1 ++ dktX2_takes_2
def dkwX2_takes_0 : List UInt8 := [42, 27, 182, 1, 46, 154, 0, 5, 2, 172, 42, 27, 182, 1, 18, 3, 61, 3, 62, 3, 54, 4, 21, 4]
abbrev dktX2_takes_0 : List UInt8 := dkwX2_takes_0 ++ dktX2_takes_1
theorem dksX2_takes_0 : cX2_takes.data.toList.drop 0 = dktX2_takes_0 := by decide +kernel
theorem dksX2_takes_1 : cX2_takes.data.toList.drop 24 = dktX2_takes_1 := dk_seg dksX2_takes_0 24 rfl rfl
theorem dksX2_takes_2 : cX2_takes.data.toList.drop 48 = dktX2_takes_2 := dk_seg dksX2_takes_1 24 rfl rfl
theorem dksX2_takes_3 : cX2_takes.data.toList.drop 72 = dktX2_takes_3 := dk_seg dksX2_takes_2 24 rfl rfl
theorem dksX2_takes_4 : cX2_takes.data.toList.drop 95 = dktX2_takes_4 := dk_seg dksX2_takes_3 23 rfl rfl
theorem dksX2_takes_5 : cX2_takes.data.toList.drop 118 = dktX2_takes_5 := dk_seg dksX2_takes_4 23 rfl rfl
theorem dX2_takes_0 : decode cX2_takes 0 = .ok (.aload_n 0, 1) := dk_42 (dk_at dksX2_takes_0 0 rfl rfl)
theorem dX2_takes_1 : decode cX2_takes 1 = .ok (.iload_n 1, 1) := dk_27 (dk_at dksX2_takes_0 1 rfl rfl)
theorem dX2_takes_2 : decode cX2_takes 2 = .ok (.invokevirtual 302, 3) := dk_182 1 46 (dk_at dksX2_takes_0 2 rfl rfl)
theorem dX2_takes_5 : decode cX2_takes 5 = .ok (.ifCond .ne 5, 3) := dk_154 0 5 (dk_at dksX2_takes_0 5 rfl rfl)
theorem dX2_takes_8 : decode cX2_takes 8 = .ok (.iconst (-1), 1) := dk_2 (dk_at dksX2_takes_0 8 rfl rfl)
theorem dX2_takes_9 : decode cX2_takes 9 = .ok (.ireturn, 1) := dk_172 (dk_at dksX2_takes_0 9 rfl rfl)
theorem dX2_takes_10 : decode cX2_takes 10 = .ok (.aload_n 0, 1) := dk_42 (dk_at dksX2_takes_0 10 rfl rfl)
theorem dX2_takes_11 : decode cX2_takes 11 = .ok (.iload_n 1, 1) := dk_27 (dk_at dksX2_takes_0 11 rfl rfl)
theorem dX2_takes_12 : decode cX2_takes 12 = .ok (.invokevirtual 274, 3) := dk_182 1 18 (dk_at dksX2_takes_0 12 rfl rfl)
theorem dX2_takes_15 : decode cX2_takes 15 = .ok (.iconst 0, 1) := dk_3 (dk_at dksX2_takes_0 15 rfl rfl)
theorem dX2_takes_16 : decode cX2_takes 16 = .ok (.istore_n 2, 1) := dk_61 (dk_at dksX2_takes_0 16 rfl rfl)
theorem dX2_takes_17 : decode cX2_takes 17 = .ok (.iconst 0, 1) := dk_3 (dk_at dksX2_takes_0 17 rfl rfl)
theorem dX2_takes_18 : decode cX2_takes 18 = .ok (.istore_n 3, 1) := dk_62 (dk_at dksX2_takes_0 18 rfl rfl)
theorem dX2_takes_19 : decode cX2_takes 19 = .ok (.iconst 0, 1) := dk_3 (dk_at dksX2_takes_0 19 rfl rfl)
theorem dX2_takes_20 : decode cX2_takes 20 = .ok (.istore 4, 2) := dk_54 4 (dk_at dksX2_takes_0 20 rfl rfl)
theorem dX2_takes_22 : decode cX2_takes 22 = .ok (.iload 4, 2) := dk_21 4 (dk_at dksX2_takes_0 22 rfl rfl)
theorem dX2_takes_24 : decode cX2_takes 24 = .ok (.aload_n 0, 1) := dk_42 (dk_at dksX2_takes_1 0 rfl rfl)
theorem dX2_takes_25 : decode cX2_takes 25 = .ok (.getfield 179, 3) := dk_180 0 179 (dk_at dksX2_takes_1 1 rfl rfl)
theorem dX2_takes_28 : decode cX2_takes 28 = .ok (.if_icmp .ge 39, 3) := dk_162 0 39 (dk_at dksX2_takes_1 4 rfl rfl)
theorem dX2_takes_31 : decode cX2_takes 31 = .ok (.iload_n 2, 1) := dk_28 (dk_at dksX2_takes_1 7 rfl rfl)
theorem dX2_takes_32 : decode cX2_takes 32 = .ok (.aload_n 0, 1) := dk_42 (dk_at dksX2_takes_1 8 rfl rfl)
theorem dX2_takes_33 : decode cX2_takes 33 = .ok (.iload 4, 2) := dk_21 4 (dk_at dksX2_takes_1 9 rfl rfl)
theorem dX2_takes_35 : decode cX2_takes 35 = .ok (.invokevirtual 232, 3) := dk_182 0 232 (dk_at dksX2_takes_1 11 rfl rfl)
theorem dX2_takes_38 : decode cX2_takes 38 = .ok (.ifCond .ne 20, 3) := dk_154 0 20 (dk_at dksX2_takes_1 14 rfl rfl)
theorem dX2_takes_41 : decode cX2_takes 41 = .ok (.aload_n 0, 1) := dk_42 (dk_at dksX2_takes_1 17 rfl rfl)
theorem dX2_takes_42 : decode cX2_takes 42 = .ok (.iload 4, 2) := dk_21 4 (dk_at dksX2_takes_1 18 rfl rfl)
theorem dX2_takes_44 : decode cX2_takes 44 = .ok (.iconst 0, 1) := dk_3 (dk_at dksX2_takes_1 20 rfl rfl)
theorem dX2_takes_45 : decode cX2_takes 45 = .ok (.invokevirtual 277, 3) := dk_182 1 21 (dk_at dksX2_takes_1 21 rfl rfl)
theorem dX2_takes_48 : decode cX2_takes 48 = .ok (.ifCond .eq 10, 3) := dk_153 0 10 (dk_at dksX2_takes_2 0 rfl rfl)
theorem dX2_takes_51 : decode cX2_takes 51 = .ok (.iconst 1, 1) := dk_4 (dk_at dksX2_takes_2 3 rfl rfl)
theorem dX2_takes_52 : decode cX2_takes 52 = .ok (.iload 4, 2) := dk_21 4 (dk_at dksX2_takes_2 4 rfl rfl)
theorem dX2_takes_54 : decode cX2_takes 54 = .ok (.ishl, 1) := dk_120 (dk_at dksX2_takes_2 6 rfl rfl)
theorem dX2_takes_55 : decode cX2_takes 55 = .ok (.goto 4, 3) := dk_167 0 4 (dk_at dksX2_takes_2 7 rfl rfl)
theorem dX2_takes_58 : decode cX2_takes 58 = .ok (.iconst 0, 1) := dk_3 (dk_at dksX2_takes_2 10 rfl rfl)
theorem dX2_takes_59 : decode cX2_takes 59 = .ok (.ior, 1) := dk_128 (dk_at dksX2_takes_2 11 rfl rfl)
theorem dX2_takes_60 : decode cX2_takes 60 = .ok (.istore_n 2, 1) := dk_61 (dk_at dksX2_takes_2 12 rfl rfl)
theorem dX2_takes_61 : decode cX2_takes 61 = .ok (.iinc 4 1, 3) := dk_132 4 1 (dk_at dksX2_takes_2 13 rfl rfl)
theorem dX2_takes_64 : decode cX2_takes 64 = .ok (.goto (-42), 3) := dk_167 255 214 (dk_at dksX2_takes_2 16 rfl rfl)
theorem dX2_takes_67 : decode cX2_takes 67 = .ok (.iconst 0, 1) := dk_3 (dk_at dksX2_takes_2 19 rfl rfl)
theorem dX2_takes_68 : decode cX2_takes 68 = .ok (.istore 4, 2) := dk_54 4 (dk_at dksX2_takes_2 20 rfl rfl)
theorem dX2_takes_70 : decode cX2_takes 70 = .ok (.iload 4, 2) := dk_21 4 (dk_at dksX2_takes_2 22 rfl rfl)
theorem dX2_takes_72 : decode cX2_takes 72 = .ok (.aload_n 0, 1) := dk_42 (dk_at dksX2_takes_3 0 rfl rfl)
theorem dX2_takes_73 : decode cX2_takes 73 = .ok (.getfield 242, 3) := dk_180 0 242 (dk_at dksX2_takes_3 1 rfl rfl)
theorem dX2_takes_76 : decode cX2_takes 76 = .ok (.if_icmp .ge 48, 3) := dk_162 0 48 (dk_at dksX2_takes_3 4 rfl rfl)
theorem dX2_takes_79 : decode cX2_takes 79 = .ok (.aload_n 0, 1) := dk_42 (dk_at dksX2_takes_3 7 rfl rfl)
theorem dX2_takes_80 : decode cX2_takes 80 = .ok (.getfield 50, 3) := dk_180 0 50 (dk_at dksX2_takes_3 8 rfl rfl)
theorem dX2_takes_83 : decode cX2_takes 83 = .ok (.iload 4, 2) := dk_21 4 (dk_at dksX2_takes_3 11 rfl rfl)
theorem dX2_takes_85 : decode cX2_takes 85 = .ok (.iaload, 1) := dk_46 (dk_at dksX2_takes_3 13 rfl rfl)
theorem dX2_takes_86 : decode cX2_takes 86 = .ok (.aload_n 0, 1) := dk_42 (dk_at dksX2_takes_3 14 rfl rfl)
theorem dX2_takes_87 : decode cX2_takes 87 = .ok (.getfield 53, 3) := dk_180 0 53 (dk_at dksX2_takes_3 15 rfl rfl)
theorem dX2_takes_90 : decode cX2_takes 90 = .ok (.iload 4, 2) := dk_21 4 (dk_at dksX2_takes_3 18 rfl rfl)
theorem dX2_takes_92 : decode cX2_takes 92 = .ok (.iaload, 1) := dk_46 (dk_at dksX2_takes_3 20 rfl rfl)
theorem dX2_takes_93 : decode cX2_takes 93 = .ok (.imul, 1) := dk_104 (dk_at dksX2_takes_3 21 rfl rfl)
theorem dX2_takes_94 : decode cX2_takes 94 = .ok (.iload_n 3, 1) := dk_29 (dk_at dksX2_takes_3 22 rfl rfl)
theorem dX2_takes_95 : decode cX2_takes 95 = .ok (.if_icmp .le 21, 3) := dk_164 0 21 (dk_at dksX2_takes_4 0 rfl rfl)
theorem dX2_takes_98 : decode cX2_takes 98 = .ok (.aload_n 0, 1) := dk_42 (dk_at dksX2_takes_4 3 rfl rfl)
theorem dX2_takes_99 : decode cX2_takes 99 = .ok (.getfield 50, 3) := dk_180 0 50 (dk_at dksX2_takes_4 4 rfl rfl)
theorem dX2_takes_102 : decode cX2_takes 102 = .ok (.iload 4, 2) := dk_21 4 (dk_at dksX2_takes_4 7 rfl rfl)
theorem dX2_takes_104 : decode cX2_takes 104 = .ok (.iaload, 1) := dk_46 (dk_at dksX2_takes_4 9 rfl rfl)
theorem dX2_takes_105 : decode cX2_takes 105 = .ok (.aload_n 0, 1) := dk_42 (dk_at dksX2_takes_4 10 rfl rfl)
theorem dX2_takes_106 : decode cX2_takes 106 = .ok (.getfield 53, 3) := dk_180 0 53 (dk_at dksX2_takes_4 11 rfl rfl)
theorem dX2_takes_109 : decode cX2_takes 109 = .ok (.iload 4, 2) := dk_21 4 (dk_at dksX2_takes_4 14 rfl rfl)
theorem dX2_takes_111 : decode cX2_takes 111 = .ok (.iaload, 1) := dk_46 (dk_at dksX2_takes_4 16 rfl rfl)
theorem dX2_takes_112 : decode cX2_takes 112 = .ok (.imul, 1) := dk_104 (dk_at dksX2_takes_4 17 rfl rfl)
theorem dX2_takes_113 : decode cX2_takes 113 = .ok (.goto 4, 3) := dk_167 0 4 (dk_at dksX2_takes_4 18 rfl rfl)
theorem dX2_takes_116 : decode cX2_takes 116 = .ok (.iload_n 3, 1) := dk_29 (dk_at dksX2_takes_4 21 rfl rfl)
theorem dX2_takes_117 : decode cX2_takes 117 = .ok (.istore_n 3, 1) := dk_62 (dk_at dksX2_takes_4 22 rfl rfl)
theorem dX2_takes_118 : decode cX2_takes 118 = .ok (.iinc 4 1, 3) := dk_132 4 1 (dk_at dksX2_takes_5 0 rfl rfl)
theorem dX2_takes_121 : decode cX2_takes 121 = .ok (.goto (-51), 3) := dk_167 255 205 (dk_at dksX2_takes_5 3 rfl rfl)
theorem dX2_takes_124 : decode cX2_takes 124 = .ok (.aload_n 0, 1) := dk_42 (dk_at dksX2_takes_5 6 rfl rfl)
theorem dX2_takes_125 : decode cX2_takes 125 = .ok (.iload_n 3, 1) := dk_29 (dk_at dksX2_takes_5 7 rfl rfl)
theorem dX2_takes_126 : decode cX2_takes 126 = .ok (.iload_n 2, 1) := dk_28 (dk_at dksX2_takes_5 8 rfl rfl)
theorem dX2_takes_127 : decode cX2_takes 127 = .ok (.invokevirtual 91, 3) := dk_182 0 91 (dk_at dksX2_takes_5 9 rfl rfl)
theorem dX2_takes_130 : decode cX2_takes 130 = .ok (.ireturn, 1) := dk_172 (dk_at dksX2_takes_5 12 rfl rfl)
abbrev cX2_would : ByteArray := prog_13_method_87_code
def yX2_would : MethodName := ⟨RX2, "would", "(II)I"⟩
def dkwX2_would_1 : List UInt8 := [154, 0, 5, 2, 172, 42, 27, 28, 182, 1, 70, 42, 42, 180, 1, 64, 42, 180, 1, 61, 182, 0, 91, 172]
abbrev dktX2_would_1 : List UInt8 := dkwX2_would_1 ++ []
def dkwX2_would_0 : List UInt8 := [27, 3, 6, 184, 0, 75, 153, 0, 19, 28, 3, 5, 184, 0, 75, 153, 0, 10, 42, 180, 0, 179]
abbrev dktX2_would_0 : List UInt8 := dkwX2_would_0 ++ dktX2_would_1
theorem dksX2_would_0 : cX2_would.data.toList.drop 0 = dktX2_would_0 := by decide +kernel
theorem dksX2_would_1 : cX2_would.data.toList.drop 22 = dktX2_would_1 := dk_seg dksX2_would_0 22 rfl rfl
theorem dX2_would_0 : decode cX2_would 0 = .ok (.iload_n 1, 1) := dk_27 (dk_at dksX2_would_0 0 rfl rfl)
theorem dX2_would_1 : decode cX2_would 1 = .ok (.iconst 0, 1) := dk_3 (dk_at dksX2_would_0 1 rfl rfl)
theorem dX2_would_2 : decode cX2_would 2 = .ok (.iconst 3, 1) := dk_6 (dk_at dksX2_would_0 2 rfl rfl)
theorem dX2_would_3 : decode cX2_would 3 = .ok (.invokestatic 75, 3) := dk_184 0 75 (dk_at dksX2_would_0 3 rfl rfl)
theorem dX2_would_6 : decode cX2_would 6 = .ok (.ifCond .eq 19, 3) := dk_153 0 19 (dk_at dksX2_would_0 6 rfl rfl)
theorem dX2_would_9 : decode cX2_would 9 = .ok (.iload_n 2, 1) := dk_28 (dk_at dksX2_would_0 9 rfl rfl)
theorem dX2_would_10 : decode cX2_would 10 = .ok (.iconst 0, 1) := dk_3 (dk_at dksX2_would_0 10 rfl rfl)
theorem dX2_would_11 : decode cX2_would 11 = .ok (.iconst 2, 1) := dk_5 (dk_at dksX2_would_0 11 rfl rfl)
theorem dX2_would_12 : decode cX2_would 12 = .ok (.invokestatic 75, 3) := dk_184 0 75 (dk_at dksX2_would_0 12 rfl rfl)
theorem dX2_would_15 : decode cX2_would 15 = .ok (.ifCond .eq 10, 3) := dk_153 0 10 (dk_at dksX2_would_0 15 rfl rfl)
theorem dX2_would_18 : decode cX2_would 18 = .ok (.aload_n 0, 1) := dk_42 (dk_at dksX2_would_0 18 rfl rfl)
theorem dX2_would_19 : decode cX2_would 19 = .ok (.getfield 179, 3) := dk_180 0 179 (dk_at dksX2_would_0 19 rfl rfl)
theorem dX2_would_22 : decode cX2_would 22 = .ok (.ifCond .ne 5, 3) := dk_154 0 5 (dk_at dksX2_would_1 0 rfl rfl)
theorem dX2_would_25 : decode cX2_would 25 = .ok (.iconst (-1), 1) := dk_2 (dk_at dksX2_would_1 3 rfl rfl)
theorem dX2_would_26 : decode cX2_would 26 = .ok (.ireturn, 1) := dk_172 (dk_at dksX2_would_1 4 rfl rfl)
theorem dX2_would_27 : decode cX2_would 27 = .ok (.aload_n 0, 1) := dk_42 (dk_at dksX2_would_1 5 rfl rfl)
theorem dX2_would_28 : decode cX2_would 28 = .ok (.iload_n 1, 1) := dk_27 (dk_at dksX2_would_1 6 rfl rfl)
theorem dX2_would_29 : decode cX2_would 29 = .ok (.iload_n 2, 1) := dk_28 (dk_at dksX2_would_1 7 rfl rfl)
theorem dX2_would_30 : decode cX2_would 30 = .ok (.invokevirtual 326, 3) := dk_182 1 70 (dk_at dksX2_would_1 8 rfl rfl)
theorem dX2_would_33 : decode cX2_would 33 = .ok (.aload_n 0, 1) := dk_42 (dk_at dksX2_would_1 11 rfl rfl)
theorem dX2_would_34 : decode cX2_would 34 = .ok (.aload_n 0, 1) := dk_42 (dk_at dksX2_would_1 12 rfl rfl)
theorem dX2_would_35 : decode cX2_would 35 = .ok (.getfield 320, 3) := dk_180 1 64 (dk_at dksX2_would_1 13 rfl rfl)
theorem dX2_would_38 : decode cX2_would 38 = .ok (.aload_n 0, 1) := dk_42 (dk_at dksX2_would_1 16 rfl rfl)
theorem dX2_would_39 : decode cX2_would 39 = .ok (.getfield 317, 3) := dk_180 1 61 (dk_at dksX2_would_1 17 rfl rfl)
theorem dX2_would_42 : decode cX2_would 42 = .ok (.invokevirtual 91, 3) := dk_182 0 91 (dk_at dksX2_would_1 20 rfl rfl)
theorem dX2_would_45 : decode cX2_would 45 = .ok (.ireturn, 1) := dk_172 (dk_at dksX2_would_1 23 rfl rfl)
abbrev cX2_tries : ByteArray := prog_13_method_86_code
def yX2_tries : MethodName := ⟨RX2, "tries", "(II)V"⟩
def dkwX2_tries_6 : List UInt8 := [167, 255, 235, 177]
abbrev dktX2_tries_6 : List UInt8 := dkwX2_tries_6 ++ []
def dkwX2_tries_5 : List UInt8 := [3, 62, 29, 16, 33, 162, 0, 21, 42, 180, 0, 35, 29, 42, 180, 0, 65, 29, 46, 79, 132, 3, 1]
abbrev dktX2_tries_5 : List UInt8 := dkwX2_tries_5 ++ dktX2_tries_6
def dkwX2_tries_4 : List UInt8 := [42, 180, 1, 61, 154, 0, 7, 3, 167, 0, 13, 42, 42, 180, 1, 61, 4, 100, 182, 1, 58, 181, 1, 67]
abbrev dktX2_tries_4 : List UInt8 := dkwX2_tries_4 ++ dktX2_tries_5
def dkwX2_tries_3 : List UInt8 := [182, 0, 232, 153, 0, 7, 3, 167, 0, 6, 4, 29, 120, 128, 181, 1, 64, 132, 3, 1, 167, 255, 221, 42]
abbrev dktX2_tries_3 : List UInt8 := dkwX2_tries_3 ++ dktX2_tries_4
def dkwX2_tries_2 : List UInt8 := [42, 3, 181, 1, 64, 3, 62, 29, 42, 180, 0, 179, 162, 0, 33, 42, 89, 180, 1, 64, 42, 29]
abbrev dktX2_tries_2 : List UInt8 := dkwX2_tries_2 ++ dktX2_tries_3
def dkwX2_tries_1 : List UInt8 := [167, 255, 235, 42, 180, 0, 35, 16, 32, 27, 79, 42, 28, 182, 1, 43, 42, 42, 182, 1, 14, 181, 1, 61]
abbrev dktX2_tries_1 : List UInt8 := dkwX2_tries_1 ++ dktX2_tries_2
def dkwX2_tries_0 : List UInt8 := [3, 62, 29, 16, 33, 162, 0, 21, 42, 180, 0, 65, 29, 42, 180, 0, 35, 29, 46, 79, 132, 3, 1]
abbrev dktX2_tries_0 : List UInt8 := dkwX2_tries_0 ++ dktX2_tries_1
theorem dksX2_tries_0 : cX2_tries.data.toList.drop 0 = dktX2_tries_0 := by decide +kernel
theorem dksX2_tries_1 : cX2_tries.data.toList.drop 23 = dktX2_tries_1 := dk_seg dksX2_tries_0 23 rfl rfl
theorem dksX2_tries_2 : cX2_tries.data.toList.drop 47 = dktX2_tries_2 := dk_seg dksX2_tries_1 24 rfl rfl
theorem dksX2_tries_3 : cX2_tries.data.toList.drop 69 = dktX2_tries_3 := dk_seg dksX2_tries_2 22 rfl rfl
theorem dksX2_tries_4 : cX2_tries.data.toList.drop 93 = dktX2_tries_4 := dk_seg dksX2_tries_3 24 rfl rfl
theorem dksX2_tries_5 : cX2_tries.data.toList.drop 117 = dktX2_tries_5 := dk_seg dksX2_tries_4 24 rfl rfl
theorem dksX2_tries_6 : cX2_tries.data.toList.drop 140 = dktX2_tries_6 := dk_seg dksX2_tries_5 23 rfl rfl
theorem dX2_tries_0 : decode cX2_tries 0 = .ok (.iconst 0, 1) := dk_3 (dk_at dksX2_tries_0 0 rfl rfl)
theorem dX2_tries_1 : decode cX2_tries 1 = .ok (.istore_n 3, 1) := dk_62 (dk_at dksX2_tries_0 1 rfl rfl)
theorem dX2_tries_2 : decode cX2_tries 2 = .ok (.iload_n 3, 1) := dk_29 (dk_at dksX2_tries_0 2 rfl rfl)
theorem dX2_tries_3 : decode cX2_tries 3 = .ok (.bipush 33, 2) := dk_16 33 (dk_at dksX2_tries_0 3 rfl rfl)
theorem dX2_tries_5 : decode cX2_tries 5 = .ok (.if_icmp .ge 21, 3) := dk_162 0 21 (dk_at dksX2_tries_0 5 rfl rfl)
theorem dX2_tries_8 : decode cX2_tries 8 = .ok (.aload_n 0, 1) := dk_42 (dk_at dksX2_tries_0 8 rfl rfl)
theorem dX2_tries_9 : decode cX2_tries 9 = .ok (.getfield 65, 3) := dk_180 0 65 (dk_at dksX2_tries_0 9 rfl rfl)
theorem dX2_tries_12 : decode cX2_tries 12 = .ok (.iload_n 3, 1) := dk_29 (dk_at dksX2_tries_0 12 rfl rfl)
theorem dX2_tries_13 : decode cX2_tries 13 = .ok (.aload_n 0, 1) := dk_42 (dk_at dksX2_tries_0 13 rfl rfl)
theorem dX2_tries_14 : decode cX2_tries 14 = .ok (.getfield 35, 3) := dk_180 0 35 (dk_at dksX2_tries_0 14 rfl rfl)
theorem dX2_tries_17 : decode cX2_tries 17 = .ok (.iload_n 3, 1) := dk_29 (dk_at dksX2_tries_0 17 rfl rfl)
theorem dX2_tries_18 : decode cX2_tries 18 = .ok (.iaload, 1) := dk_46 (dk_at dksX2_tries_0 18 rfl rfl)
theorem dX2_tries_19 : decode cX2_tries 19 = .ok (.iastore, 1) := dk_79 (dk_at dksX2_tries_0 19 rfl rfl)
theorem dX2_tries_20 : decode cX2_tries 20 = .ok (.iinc 3 1, 3) := dk_132 3 1 (dk_at dksX2_tries_0 20 rfl rfl)
theorem dX2_tries_23 : decode cX2_tries 23 = .ok (.goto (-21), 3) := dk_167 255 235 (dk_at dksX2_tries_1 0 rfl rfl)
theorem dX2_tries_26 : decode cX2_tries 26 = .ok (.aload_n 0, 1) := dk_42 (dk_at dksX2_tries_1 3 rfl rfl)
theorem dX2_tries_27 : decode cX2_tries 27 = .ok (.getfield 35, 3) := dk_180 0 35 (dk_at dksX2_tries_1 4 rfl rfl)
theorem dX2_tries_30 : decode cX2_tries 30 = .ok (.bipush 32, 2) := dk_16 32 (dk_at dksX2_tries_1 7 rfl rfl)
theorem dX2_tries_32 : decode cX2_tries 32 = .ok (.iload_n 1, 1) := dk_27 (dk_at dksX2_tries_1 9 rfl rfl)
theorem dX2_tries_33 : decode cX2_tries 33 = .ok (.iastore, 1) := dk_79 (dk_at dksX2_tries_1 10 rfl rfl)
theorem dX2_tries_34 : decode cX2_tries 34 = .ok (.aload_n 0, 1) := dk_42 (dk_at dksX2_tries_1 11 rfl rfl)
theorem dX2_tries_35 : decode cX2_tries 35 = .ok (.iload_n 2, 1) := dk_28 (dk_at dksX2_tries_1 12 rfl rfl)
theorem dX2_tries_36 : decode cX2_tries 36 = .ok (.invokevirtual 299, 3) := dk_182 1 43 (dk_at dksX2_tries_1 13 rfl rfl)
theorem dX2_tries_39 : decode cX2_tries 39 = .ok (.aload_n 0, 1) := dk_42 (dk_at dksX2_tries_1 16 rfl rfl)
theorem dX2_tries_40 : decode cX2_tries 40 = .ok (.aload_n 0, 1) := dk_42 (dk_at dksX2_tries_1 17 rfl rfl)
theorem dX2_tries_41 : decode cX2_tries 41 = .ok (.invokevirtual 270, 3) := dk_182 1 14 (dk_at dksX2_tries_1 18 rfl rfl)
theorem dX2_tries_44 : decode cX2_tries 44 = .ok (.putfield 317, 3) := dk_181 1 61 (dk_at dksX2_tries_1 21 rfl rfl)
theorem dX2_tries_47 : decode cX2_tries 47 = .ok (.aload_n 0, 1) := dk_42 (dk_at dksX2_tries_2 0 rfl rfl)
theorem dX2_tries_48 : decode cX2_tries 48 = .ok (.iconst 0, 1) := dk_3 (dk_at dksX2_tries_2 1 rfl rfl)
theorem dX2_tries_49 : decode cX2_tries 49 = .ok (.putfield 320, 3) := dk_181 1 64 (dk_at dksX2_tries_2 2 rfl rfl)
theorem dX2_tries_52 : decode cX2_tries 52 = .ok (.iconst 0, 1) := dk_3 (dk_at dksX2_tries_2 5 rfl rfl)
theorem dX2_tries_53 : decode cX2_tries 53 = .ok (.istore_n 3, 1) := dk_62 (dk_at dksX2_tries_2 6 rfl rfl)
theorem dX2_tries_54 : decode cX2_tries 54 = .ok (.iload_n 3, 1) := dk_29 (dk_at dksX2_tries_2 7 rfl rfl)
theorem dX2_tries_55 : decode cX2_tries 55 = .ok (.aload_n 0, 1) := dk_42 (dk_at dksX2_tries_2 8 rfl rfl)
theorem dX2_tries_56 : decode cX2_tries 56 = .ok (.getfield 179, 3) := dk_180 0 179 (dk_at dksX2_tries_2 9 rfl rfl)
theorem dX2_tries_59 : decode cX2_tries 59 = .ok (.if_icmp .ge 33, 3) := dk_162 0 33 (dk_at dksX2_tries_2 12 rfl rfl)
theorem dX2_tries_62 : decode cX2_tries 62 = .ok (.aload_n 0, 1) := dk_42 (dk_at dksX2_tries_2 15 rfl rfl)
theorem dX2_tries_63 : decode cX2_tries 63 = .ok (.dup, 1) := dk_89 (dk_at dksX2_tries_2 16 rfl rfl)
theorem dX2_tries_64 : decode cX2_tries 64 = .ok (.getfield 320, 3) := dk_180 1 64 (dk_at dksX2_tries_2 17 rfl rfl)
theorem dX2_tries_67 : decode cX2_tries 67 = .ok (.aload_n 0, 1) := dk_42 (dk_at dksX2_tries_2 20 rfl rfl)
theorem dX2_tries_68 : decode cX2_tries 68 = .ok (.iload_n 3, 1) := dk_29 (dk_at dksX2_tries_2 21 rfl rfl)
theorem dX2_tries_69 : decode cX2_tries 69 = .ok (.invokevirtual 232, 3) := dk_182 0 232 (dk_at dksX2_tries_3 0 rfl rfl)
theorem dX2_tries_72 : decode cX2_tries 72 = .ok (.ifCond .eq 7, 3) := dk_153 0 7 (dk_at dksX2_tries_3 3 rfl rfl)
theorem dX2_tries_75 : decode cX2_tries 75 = .ok (.iconst 0, 1) := dk_3 (dk_at dksX2_tries_3 6 rfl rfl)
theorem dX2_tries_76 : decode cX2_tries 76 = .ok (.goto 6, 3) := dk_167 0 6 (dk_at dksX2_tries_3 7 rfl rfl)
theorem dX2_tries_79 : decode cX2_tries 79 = .ok (.iconst 1, 1) := dk_4 (dk_at dksX2_tries_3 10 rfl rfl)
theorem dX2_tries_80 : decode cX2_tries 80 = .ok (.iload_n 3, 1) := dk_29 (dk_at dksX2_tries_3 11 rfl rfl)
theorem dX2_tries_81 : decode cX2_tries 81 = .ok (.ishl, 1) := dk_120 (dk_at dksX2_tries_3 12 rfl rfl)
theorem dX2_tries_82 : decode cX2_tries 82 = .ok (.ior, 1) := dk_128 (dk_at dksX2_tries_3 13 rfl rfl)
theorem dX2_tries_83 : decode cX2_tries 83 = .ok (.putfield 320, 3) := dk_181 1 64 (dk_at dksX2_tries_3 14 rfl rfl)
theorem dX2_tries_86 : decode cX2_tries 86 = .ok (.iinc 3 1, 3) := dk_132 3 1 (dk_at dksX2_tries_3 17 rfl rfl)
theorem dX2_tries_89 : decode cX2_tries 89 = .ok (.goto (-35), 3) := dk_167 255 221 (dk_at dksX2_tries_3 20 rfl rfl)
theorem dX2_tries_92 : decode cX2_tries 92 = .ok (.aload_n 0, 1) := dk_42 (dk_at dksX2_tries_3 23 rfl rfl)
theorem dX2_tries_93 : decode cX2_tries 93 = .ok (.aload_n 0, 1) := dk_42 (dk_at dksX2_tries_4 0 rfl rfl)
theorem dX2_tries_94 : decode cX2_tries 94 = .ok (.getfield 317, 3) := dk_180 1 61 (dk_at dksX2_tries_4 1 rfl rfl)
theorem dX2_tries_97 : decode cX2_tries 97 = .ok (.ifCond .ne 7, 3) := dk_154 0 7 (dk_at dksX2_tries_4 4 rfl rfl)
theorem dX2_tries_100 : decode cX2_tries 100 = .ok (.iconst 0, 1) := dk_3 (dk_at dksX2_tries_4 7 rfl rfl)
theorem dX2_tries_101 : decode cX2_tries 101 = .ok (.goto 13, 3) := dk_167 0 13 (dk_at dksX2_tries_4 8 rfl rfl)
theorem dX2_tries_104 : decode cX2_tries 104 = .ok (.aload_n 0, 1) := dk_42 (dk_at dksX2_tries_4 11 rfl rfl)
theorem dX2_tries_105 : decode cX2_tries 105 = .ok (.aload_n 0, 1) := dk_42 (dk_at dksX2_tries_4 12 rfl rfl)
theorem dX2_tries_106 : decode cX2_tries 106 = .ok (.getfield 317, 3) := dk_180 1 61 (dk_at dksX2_tries_4 13 rfl rfl)
theorem dX2_tries_109 : decode cX2_tries 109 = .ok (.iconst 1, 1) := dk_4 (dk_at dksX2_tries_4 16 rfl rfl)
theorem dX2_tries_110 : decode cX2_tries 110 = .ok (.isub, 1) := dk_100 (dk_at dksX2_tries_4 17 rfl rfl)
theorem dX2_tries_111 : decode cX2_tries 111 = .ok (.invokevirtual 314, 3) := dk_182 1 58 (dk_at dksX2_tries_4 18 rfl rfl)
theorem dX2_tries_114 : decode cX2_tries 114 = .ok (.putfield 323, 3) := dk_181 1 67 (dk_at dksX2_tries_4 21 rfl rfl)
theorem dX2_tries_117 : decode cX2_tries 117 = .ok (.iconst 0, 1) := dk_3 (dk_at dksX2_tries_5 0 rfl rfl)
theorem dX2_tries_118 : decode cX2_tries 118 = .ok (.istore_n 3, 1) := dk_62 (dk_at dksX2_tries_5 1 rfl rfl)
theorem dX2_tries_119 : decode cX2_tries 119 = .ok (.iload_n 3, 1) := dk_29 (dk_at dksX2_tries_5 2 rfl rfl)
theorem dX2_tries_120 : decode cX2_tries 120 = .ok (.bipush 33, 2) := dk_16 33 (dk_at dksX2_tries_5 3 rfl rfl)
theorem dX2_tries_122 : decode cX2_tries 122 = .ok (.if_icmp .ge 21, 3) := dk_162 0 21 (dk_at dksX2_tries_5 5 rfl rfl)
theorem dX2_tries_125 : decode cX2_tries 125 = .ok (.aload_n 0, 1) := dk_42 (dk_at dksX2_tries_5 8 rfl rfl)
theorem dX2_tries_126 : decode cX2_tries 126 = .ok (.getfield 35, 3) := dk_180 0 35 (dk_at dksX2_tries_5 9 rfl rfl)
theorem dX2_tries_129 : decode cX2_tries 129 = .ok (.iload_n 3, 1) := dk_29 (dk_at dksX2_tries_5 12 rfl rfl)
theorem dX2_tries_130 : decode cX2_tries 130 = .ok (.aload_n 0, 1) := dk_42 (dk_at dksX2_tries_5 13 rfl rfl)
theorem dX2_tries_131 : decode cX2_tries 131 = .ok (.getfield 65, 3) := dk_180 0 65 (dk_at dksX2_tries_5 14 rfl rfl)
theorem dX2_tries_134 : decode cX2_tries 134 = .ok (.iload_n 3, 1) := dk_29 (dk_at dksX2_tries_5 17 rfl rfl)
theorem dX2_tries_135 : decode cX2_tries 135 = .ok (.iaload, 1) := dk_46 (dk_at dksX2_tries_5 18 rfl rfl)
theorem dX2_tries_136 : decode cX2_tries 136 = .ok (.iastore, 1) := dk_79 (dk_at dksX2_tries_5 19 rfl rfl)
theorem dX2_tries_137 : decode cX2_tries 137 = .ok (.iinc 3 1, 3) := dk_132 3 1 (dk_at dksX2_tries_5 20 rfl rfl)
theorem dX2_tries_140 : decode cX2_tries 140 = .ok (.goto (-21), 3) := dk_167 255 235 (dk_at dksX2_tries_6 0 rfl rfl)
theorem dX2_tries_143 : decode cX2_tries 143 = .ok (.return_, 1) := dk_177 (dk_at dksX2_tries_6 3 rfl rfl)
abbrev cX2_best : ByteArray := prog_13_method_89_code
def yX2_best : MethodName := ⟨RX2, "best", "()I"⟩
def dkwX2_best_6 : List UInt8 := [167, 255, 137, 42, 29, 27, 182, 0, 91, 172]
abbrev dktX2_best_6 : List UInt8 := dkwX2_best_6 ++ []
def dkwX2_best_5 : List UInt8 := [184, 1, 73, 61, 42, 180, 1, 61, 62, 42, 180, 1, 67, 54, 4, 132, 6, 1, 167, 255, 152, 132, 5, 1]
abbrev dktX2_best_5 : List UInt8 := dkwX2_best_5 ++ dktX2_best_6
def dkwX2_best_4 : List UInt8 := [16, 247, 159, 0, 8, 21, 7, 156, 0, 31, 16, 10, 21, 5, 104, 21, 6, 96, 60, 42, 180, 1, 64]
abbrev dktX2_best_4 : List UInt8 := dkwX2_best_4 ++ dktX2_best_5
def dkwX2_best_3 : List UInt8 := [21, 7, 54, 7, 21, 7, 154, 0, 13, 42, 180, 1, 67, 21, 4, 100, 167, 0, 5, 21, 7, 54, 7, 27]
abbrev dktX2_best_3 : List UInt8 := dkwX2_best_3 ++ dktX2_best_4
def dkwX2_best_2 : List UInt8 := [180, 1, 64, 184, 1, 73, 28, 100, 54, 7, 21, 7, 154, 0, 12, 42, 180, 1, 61, 29, 100, 167, 0, 5]
abbrev dktX2_best_2 : List UInt8 := dkwX2_best_2 ++ dktX2_best_3
def dkwX2_best_1 : List UInt8 := [21, 5, 7, 162, 0, 119, 3, 54, 6, 21, 6, 6, 162, 0, 104, 42, 21, 5, 21, 6, 182, 1, 70, 42]
abbrev dktX2_best_1 : List UInt8 := dkwX2_best_1 ++ dktX2_best_2
def dkwX2_best_0 : List UInt8 := [42, 180, 0, 179, 154, 0, 6, 16, 252, 172, 16, 247, 60, 3, 61, 3, 62, 3, 54, 4, 3, 54, 5]
abbrev dktX2_best_0 : List UInt8 := dkwX2_best_0 ++ dktX2_best_1
theorem dksX2_best_0 : cX2_best.data.toList.drop 0 = dktX2_best_0 := by decide +kernel
theorem dksX2_best_1 : cX2_best.data.toList.drop 23 = dktX2_best_1 := dk_seg dksX2_best_0 23 rfl rfl
theorem dksX2_best_2 : cX2_best.data.toList.drop 47 = dktX2_best_2 := dk_seg dksX2_best_1 24 rfl rfl
theorem dksX2_best_3 : cX2_best.data.toList.drop 71 = dktX2_best_3 := dk_seg dksX2_best_2 24 rfl rfl
theorem dksX2_best_4 : cX2_best.data.toList.drop 95 = dktX2_best_4 := dk_seg dksX2_best_3 24 rfl rfl
theorem dksX2_best_5 : cX2_best.data.toList.drop 118 = dktX2_best_5 := dk_seg dksX2_best_4 23 rfl rfl
theorem dksX2_best_6 : cX2_best.data.toList.drop 142 = dktX2_best_6 := dk_seg dksX2_best_5 24 rfl rfl
theorem dX2_best_0 : decode cX2_best 0 = .ok (.aload_n 0, 1) := dk_42 (dk_at dksX2_best_0 0 rfl rfl)
theorem dX2_best_1 : decode cX2_best 1 = .ok (.getfield 179, 3) := dk_180 0 179 (dk_at dksX2_best_0 1 rfl rfl)
theorem dX2_best_4 : decode cX2_best 4 = .ok (.ifCond .ne 6, 3) := dk_154 0 6 (dk_at dksX2_best_0 4 rfl rfl)
theorem dX2_best_7 : decode cX2_best 7 = .ok (.bipush (-4), 2) := dk_16 252 (dk_at dksX2_best_0 7 rfl rfl)
theorem dX2_best_9 : decode cX2_best 9 = .ok (.ireturn, 1) := dk_172 (dk_at dksX2_best_0 9 rfl rfl)
theorem dX2_best_10 : decode cX2_best 10 = .ok (.bipush (-9), 2) := dk_16 247 (dk_at dksX2_best_0 10 rfl rfl)
theorem dX2_best_12 : decode cX2_best 12 = .ok (.istore_n 1, 1) := dk_60 (dk_at dksX2_best_0 12 rfl rfl)
theorem dX2_best_13 : decode cX2_best 13 = .ok (.iconst 0, 1) := dk_3 (dk_at dksX2_best_0 13 rfl rfl)
theorem dX2_best_14 : decode cX2_best 14 = .ok (.istore_n 2, 1) := dk_61 (dk_at dksX2_best_0 14 rfl rfl)
theorem dX2_best_15 : decode cX2_best 15 = .ok (.iconst 0, 1) := dk_3 (dk_at dksX2_best_0 15 rfl rfl)
theorem dX2_best_16 : decode cX2_best 16 = .ok (.istore_n 3, 1) := dk_62 (dk_at dksX2_best_0 16 rfl rfl)
theorem dX2_best_17 : decode cX2_best 17 = .ok (.iconst 0, 1) := dk_3 (dk_at dksX2_best_0 17 rfl rfl)
theorem dX2_best_18 : decode cX2_best 18 = .ok (.istore 4, 2) := dk_54 4 (dk_at dksX2_best_0 18 rfl rfl)
theorem dX2_best_20 : decode cX2_best 20 = .ok (.iconst 0, 1) := dk_3 (dk_at dksX2_best_0 20 rfl rfl)
theorem dX2_best_21 : decode cX2_best 21 = .ok (.istore 5, 2) := dk_54 5 (dk_at dksX2_best_0 21 rfl rfl)
theorem dX2_best_23 : decode cX2_best 23 = .ok (.iload 5, 2) := dk_21 5 (dk_at dksX2_best_1 0 rfl rfl)
theorem dX2_best_25 : decode cX2_best 25 = .ok (.iconst 4, 1) := dk_7 (dk_at dksX2_best_1 2 rfl rfl)
theorem dX2_best_26 : decode cX2_best 26 = .ok (.if_icmp .ge 119, 3) := dk_162 0 119 (dk_at dksX2_best_1 3 rfl rfl)
theorem dX2_best_29 : decode cX2_best 29 = .ok (.iconst 0, 1) := dk_3 (dk_at dksX2_best_1 6 rfl rfl)
theorem dX2_best_30 : decode cX2_best 30 = .ok (.istore 6, 2) := dk_54 6 (dk_at dksX2_best_1 7 rfl rfl)
theorem dX2_best_32 : decode cX2_best 32 = .ok (.iload 6, 2) := dk_21 6 (dk_at dksX2_best_1 9 rfl rfl)
theorem dX2_best_34 : decode cX2_best 34 = .ok (.iconst 3, 1) := dk_6 (dk_at dksX2_best_1 11 rfl rfl)
theorem dX2_best_35 : decode cX2_best 35 = .ok (.if_icmp .ge 104, 3) := dk_162 0 104 (dk_at dksX2_best_1 12 rfl rfl)
theorem dX2_best_38 : decode cX2_best 38 = .ok (.aload_n 0, 1) := dk_42 (dk_at dksX2_best_1 15 rfl rfl)
theorem dX2_best_39 : decode cX2_best 39 = .ok (.iload 5, 2) := dk_21 5 (dk_at dksX2_best_1 16 rfl rfl)
theorem dX2_best_41 : decode cX2_best 41 = .ok (.iload 6, 2) := dk_21 6 (dk_at dksX2_best_1 18 rfl rfl)
theorem dX2_best_43 : decode cX2_best 43 = .ok (.invokevirtual 326, 3) := dk_182 1 70 (dk_at dksX2_best_1 20 rfl rfl)
theorem dX2_best_46 : decode cX2_best 46 = .ok (.aload_n 0, 1) := dk_42 (dk_at dksX2_best_1 23 rfl rfl)
theorem dX2_best_47 : decode cX2_best 47 = .ok (.getfield 320, 3) := dk_180 1 64 (dk_at dksX2_best_2 0 rfl rfl)
theorem dX2_best_50 : decode cX2_best 50 = .ok (.invokestatic 329, 3) := dk_184 1 73 (dk_at dksX2_best_2 3 rfl rfl)
theorem dX2_best_53 : decode cX2_best 53 = .ok (.iload_n 2, 1) := dk_28 (dk_at dksX2_best_2 6 rfl rfl)
theorem dX2_best_54 : decode cX2_best 54 = .ok (.isub, 1) := dk_100 (dk_at dksX2_best_2 7 rfl rfl)
theorem dX2_best_55 : decode cX2_best 55 = .ok (.istore 7, 2) := dk_54 7 (dk_at dksX2_best_2 8 rfl rfl)
theorem dX2_best_57 : decode cX2_best 57 = .ok (.iload 7, 2) := dk_21 7 (dk_at dksX2_best_2 10 rfl rfl)
theorem dX2_best_59 : decode cX2_best 59 = .ok (.ifCond .ne 12, 3) := dk_154 0 12 (dk_at dksX2_best_2 12 rfl rfl)
theorem dX2_best_62 : decode cX2_best 62 = .ok (.aload_n 0, 1) := dk_42 (dk_at dksX2_best_2 15 rfl rfl)
theorem dX2_best_63 : decode cX2_best 63 = .ok (.getfield 317, 3) := dk_180 1 61 (dk_at dksX2_best_2 16 rfl rfl)
theorem dX2_best_66 : decode cX2_best 66 = .ok (.iload_n 3, 1) := dk_29 (dk_at dksX2_best_2 19 rfl rfl)
theorem dX2_best_67 : decode cX2_best 67 = .ok (.isub, 1) := dk_100 (dk_at dksX2_best_2 20 rfl rfl)
theorem dX2_best_68 : decode cX2_best 68 = .ok (.goto 5, 3) := dk_167 0 5 (dk_at dksX2_best_2 21 rfl rfl)
theorem dX2_best_71 : decode cX2_best 71 = .ok (.iload 7, 2) := dk_21 7 (dk_at dksX2_best_3 0 rfl rfl)
theorem dX2_best_73 : decode cX2_best 73 = .ok (.istore 7, 2) := dk_54 7 (dk_at dksX2_best_3 2 rfl rfl)
theorem dX2_best_75 : decode cX2_best 75 = .ok (.iload 7, 2) := dk_21 7 (dk_at dksX2_best_3 4 rfl rfl)
theorem dX2_best_77 : decode cX2_best 77 = .ok (.ifCond .ne 13, 3) := dk_154 0 13 (dk_at dksX2_best_3 6 rfl rfl)
theorem dX2_best_80 : decode cX2_best 80 = .ok (.aload_n 0, 1) := dk_42 (dk_at dksX2_best_3 9 rfl rfl)
theorem dX2_best_81 : decode cX2_best 81 = .ok (.getfield 323, 3) := dk_180 1 67 (dk_at dksX2_best_3 10 rfl rfl)
theorem dX2_best_84 : decode cX2_best 84 = .ok (.iload 4, 2) := dk_21 4 (dk_at dksX2_best_3 13 rfl rfl)
theorem dX2_best_86 : decode cX2_best 86 = .ok (.isub, 1) := dk_100 (dk_at dksX2_best_3 15 rfl rfl)
theorem dX2_best_87 : decode cX2_best 87 = .ok (.goto 5, 3) := dk_167 0 5 (dk_at dksX2_best_3 16 rfl rfl)
theorem dX2_best_90 : decode cX2_best 90 = .ok (.iload 7, 2) := dk_21 7 (dk_at dksX2_best_3 19 rfl rfl)
theorem dX2_best_92 : decode cX2_best 92 = .ok (.istore 7, 2) := dk_54 7 (dk_at dksX2_best_3 21 rfl rfl)
theorem dX2_best_94 : decode cX2_best 94 = .ok (.iload_n 1, 1) := dk_27 (dk_at dksX2_best_3 23 rfl rfl)
theorem dX2_best_95 : decode cX2_best 95 = .ok (.bipush (-9), 2) := dk_16 247 (dk_at dksX2_best_4 0 rfl rfl)
theorem dX2_best_97 : decode cX2_best 97 = .ok (.if_icmp .eq 8, 3) := dk_159 0 8 (dk_at dksX2_best_4 2 rfl rfl)
theorem dX2_best_100 : decode cX2_best 100 = .ok (.iload 7, 2) := dk_21 7 (dk_at dksX2_best_4 5 rfl rfl)
theorem dX2_best_102 : decode cX2_best 102 = .ok (.ifCond .ge 31, 3) := dk_156 0 31 (dk_at dksX2_best_4 7 rfl rfl)
theorem dX2_best_105 : decode cX2_best 105 = .ok (.bipush 10, 2) := dk_16 10 (dk_at dksX2_best_4 10 rfl rfl)
theorem dX2_best_107 : decode cX2_best 107 = .ok (.iload 5, 2) := dk_21 5 (dk_at dksX2_best_4 12 rfl rfl)
theorem dX2_best_109 : decode cX2_best 109 = .ok (.imul, 1) := dk_104 (dk_at dksX2_best_4 14 rfl rfl)
theorem dX2_best_110 : decode cX2_best 110 = .ok (.iload 6, 2) := dk_21 6 (dk_at dksX2_best_4 15 rfl rfl)
theorem dX2_best_112 : decode cX2_best 112 = .ok (.iadd, 1) := dk_96 (dk_at dksX2_best_4 17 rfl rfl)
theorem dX2_best_113 : decode cX2_best 113 = .ok (.istore_n 1, 1) := dk_60 (dk_at dksX2_best_4 18 rfl rfl)
theorem dX2_best_114 : decode cX2_best 114 = .ok (.aload_n 0, 1) := dk_42 (dk_at dksX2_best_4 19 rfl rfl)
theorem dX2_best_115 : decode cX2_best 115 = .ok (.getfield 320, 3) := dk_180 1 64 (dk_at dksX2_best_4 20 rfl rfl)
theorem dX2_best_118 : decode cX2_best 118 = .ok (.invokestatic 329, 3) := dk_184 1 73 (dk_at dksX2_best_5 0 rfl rfl)
theorem dX2_best_121 : decode cX2_best 121 = .ok (.istore_n 2, 1) := dk_61 (dk_at dksX2_best_5 3 rfl rfl)
theorem dX2_best_122 : decode cX2_best 122 = .ok (.aload_n 0, 1) := dk_42 (dk_at dksX2_best_5 4 rfl rfl)
theorem dX2_best_123 : decode cX2_best 123 = .ok (.getfield 317, 3) := dk_180 1 61 (dk_at dksX2_best_5 5 rfl rfl)
theorem dX2_best_126 : decode cX2_best 126 = .ok (.istore_n 3, 1) := dk_62 (dk_at dksX2_best_5 8 rfl rfl)
theorem dX2_best_127 : decode cX2_best 127 = .ok (.aload_n 0, 1) := dk_42 (dk_at dksX2_best_5 9 rfl rfl)
theorem dX2_best_128 : decode cX2_best 128 = .ok (.getfield 323, 3) := dk_180 1 67 (dk_at dksX2_best_5 10 rfl rfl)
theorem dX2_best_131 : decode cX2_best 131 = .ok (.istore 4, 2) := dk_54 4 (dk_at dksX2_best_5 13 rfl rfl)
theorem dX2_best_133 : decode cX2_best 133 = .ok (.iinc 6 1, 3) := dk_132 6 1 (dk_at dksX2_best_5 15 rfl rfl)
theorem dX2_best_136 : decode cX2_best 136 = .ok (.goto (-104), 3) := dk_167 255 152 (dk_at dksX2_best_5 18 rfl rfl)
theorem dX2_best_139 : decode cX2_best 139 = .ok (.iinc 5 1, 3) := dk_132 5 1 (dk_at dksX2_best_5 21 rfl rfl)
theorem dX2_best_142 : decode cX2_best 142 = .ok (.goto (-119), 3) := dk_167 255 137 (dk_at dksX2_best_6 0 rfl rfl)
theorem dX2_best_145 : decode cX2_best 145 = .ok (.aload_n 0, 1) := dk_42 (dk_at dksX2_best_6 3 rfl rfl)
theorem dX2_best_146 : decode cX2_best 146 = .ok (.iload_n 3, 1) := dk_29 (dk_at dksX2_best_6 4 rfl rfl)
theorem dX2_best_147 : decode cX2_best 147 = .ok (.iload_n 1, 1) := dk_27 (dk_at dksX2_best_6 5 rfl rfl)
theorem dX2_best_148 : decode cX2_best 148 = .ok (.invokevirtual 91, 3) := dk_182 0 91 (dk_at dksX2_best_6 6 rfl rfl)
theorem dX2_best_151 : decode cX2_best 151 = .ok (.ireturn, 1) := dk_172 (dk_at dksX2_best_6 9 rfl rfl)
abbrev cX2_bitsOf : ByteArray := prog_13_method_88_code
def yX2_bitsOf : MethodName := ⟨RX2, "bitsOf", "(I)I"⟩
def dkwX2_bitsOf_0 : List UInt8 := [3, 60, 26, 61, 28, 153, 0, 15, 132, 1, 1, 28, 28, 4, 100, 126, 61, 167, 255, 243, 27, 172]
abbrev dktX2_bitsOf_0 : List UInt8 := dkwX2_bitsOf_0 ++ []
theorem dksX2_bitsOf_0 : cX2_bitsOf.data.toList.drop 0 = dktX2_bitsOf_0 := by decide +kernel
theorem dX2_bitsOf_0 : decode cX2_bitsOf 0 = .ok (.iconst 0, 1) := dk_3 (dk_at dksX2_bitsOf_0 0 rfl rfl)
theorem dX2_bitsOf_1 : decode cX2_bitsOf 1 = .ok (.istore_n 1, 1) := dk_60 (dk_at dksX2_bitsOf_0 1 rfl rfl)
theorem dX2_bitsOf_2 : decode cX2_bitsOf 2 = .ok (.iload_n 0, 1) := dk_26 (dk_at dksX2_bitsOf_0 2 rfl rfl)
theorem dX2_bitsOf_3 : decode cX2_bitsOf 3 = .ok (.istore_n 2, 1) := dk_61 (dk_at dksX2_bitsOf_0 3 rfl rfl)
theorem dX2_bitsOf_4 : decode cX2_bitsOf 4 = .ok (.iload_n 2, 1) := dk_28 (dk_at dksX2_bitsOf_0 4 rfl rfl)
theorem dX2_bitsOf_5 : decode cX2_bitsOf 5 = .ok (.ifCond .eq 15, 3) := dk_153 0 15 (dk_at dksX2_bitsOf_0 5 rfl rfl)
theorem dX2_bitsOf_8 : decode cX2_bitsOf 8 = .ok (.iinc 1 1, 3) := dk_132 1 1 (dk_at dksX2_bitsOf_0 8 rfl rfl)
theorem dX2_bitsOf_11 : decode cX2_bitsOf 11 = .ok (.iload_n 2, 1) := dk_28 (dk_at dksX2_bitsOf_0 11 rfl rfl)
theorem dX2_bitsOf_12 : decode cX2_bitsOf 12 = .ok (.iload_n 2, 1) := dk_28 (dk_at dksX2_bitsOf_0 12 rfl rfl)
theorem dX2_bitsOf_13 : decode cX2_bitsOf 13 = .ok (.iconst 1, 1) := dk_4 (dk_at dksX2_bitsOf_0 13 rfl rfl)
theorem dX2_bitsOf_14 : decode cX2_bitsOf 14 = .ok (.isub, 1) := dk_100 (dk_at dksX2_bitsOf_0 14 rfl rfl)
theorem dX2_bitsOf_15 : decode cX2_bitsOf 15 = .ok (.iand, 1) := dk_126 (dk_at dksX2_bitsOf_0 15 rfl rfl)
theorem dX2_bitsOf_16 : decode cX2_bitsOf 16 = .ok (.istore_n 2, 1) := dk_61 (dk_at dksX2_bitsOf_0 16 rfl rfl)
theorem dX2_bitsOf_17 : decode cX2_bitsOf 17 = .ok (.goto (-13), 3) := dk_167 255 243 (dk_at dksX2_bitsOf_0 17 rfl rfl)
theorem dX2_bitsOf_20 : decode cX2_bitsOf 20 = .ok (.iload_n 1, 1) := dk_27 (dk_at dksX2_bitsOf_0 20 rfl rfl)
theorem dX2_bitsOf_21 : decode cX2_bitsOf 21 = .ok (.ireturn, 1) := dk_172 (dk_at dksX2_bitsOf_0 21 rfl rfl)
abbrev cX2_lots : ByteArray := prog_13_method_90_code
def yX2_lots : MethodName := ⟨RX2, "lots", "(II)I"⟩
def dkwX2_lots_7 : List UInt8 := [21, 6, 21, 8, 182, 1, 33, 132, 5, 1, 167, 255, 134, 42, 182, 1, 87, 172]
abbrev dktX2_lots_7 : List UInt8 := dkwX2_lots_7 ++ []
def dkwX2_lots_6 : List UInt8 := [153, 0, 8, 16, 247, 167, 0, 9, 42, 21, 6, 182, 1, 30, 54, 8, 21, 8, 16, 247, 159, 0, 11, 42]
abbrev dktX2_lots_6 : List UInt8 := dkwX2_lots_6 ++ dktX2_lots_7
def dkwX2_lots_5 : List UInt8 := [167, 0, 55, 21, 7, 7, 164, 0, 12, 42, 21, 6, 182, 1, 40, 167, 0, 40, 42, 21, 6, 182, 0, 232]
abbrev dktX2_lots_5 : List UInt8 := dkwX2_lots_5 ++ dktX2_lots_6
def dkwX2_lots_4 : List UInt8 := [54, 7, 21, 7, 154, 0, 23, 42, 180, 0, 35, 16, 32, 33, 20, 1, 83, 109, 20, 1, 85, 113, 136, 79]
abbrev dktX2_lots_4 : List UInt8 := dkwX2_lots_4 ++ dktX2_lots_5
def dkwX2_lots_3 : List UInt8 := [182, 1, 37, 33, 20, 1, 81, 109, 42, 180, 0, 179, 133, 113, 136, 54, 6, 33, 20, 1, 81, 113, 136]
abbrev dktX2_lots_3 : List UInt8 := dkwX2_lots_3 ++ dktX2_lots_4
def dkwX2_lots_2 : List UInt8 := [133, 66, 3, 54, 5, 21, 5, 27, 162, 0, 122, 33, 20, 1, 77, 105, 20, 1, 79, 113, 66, 42]
abbrev dktX2_lots_2 : List UInt8 := dkwX2_lots_2 ++ dktX2_lots_3
def dkwX2_lots_1 : List UInt8 := [180, 0, 179, 154, 0, 6, 16, 252, 172, 42, 180, 0, 185, 27, 96, 16, 40, 164, 0, 6, 16, 254, 172, 28]
abbrev dktX2_lots_1 : List UInt8 := dkwX2_lots_1 ++ dktX2_lots_2
def dkwX2_lots_0 : List UInt8 := [27, 4, 16, 20, 184, 0, 75, 153, 0, 14, 28, 4, 19, 1, 76, 184, 0, 75, 154, 0, 5, 2, 172, 42]
abbrev dktX2_lots_0 : List UInt8 := dkwX2_lots_0 ++ dktX2_lots_1
theorem dksX2_lots_0 : cX2_lots.data.toList.drop 0 = dktX2_lots_0 := by decide +kernel
theorem dksX2_lots_1 : cX2_lots.data.toList.drop 24 = dktX2_lots_1 := dk_seg dksX2_lots_0 24 rfl rfl
theorem dksX2_lots_2 : cX2_lots.data.toList.drop 48 = dktX2_lots_2 := dk_seg dksX2_lots_1 24 rfl rfl
theorem dksX2_lots_3 : cX2_lots.data.toList.drop 70 = dktX2_lots_3 := dk_seg dksX2_lots_2 22 rfl rfl
theorem dksX2_lots_4 : cX2_lots.data.toList.drop 93 = dktX2_lots_4 := dk_seg dksX2_lots_3 23 rfl rfl
theorem dksX2_lots_5 : cX2_lots.data.toList.drop 117 = dktX2_lots_5 := dk_seg dksX2_lots_4 24 rfl rfl
theorem dksX2_lots_6 : cX2_lots.data.toList.drop 141 = dktX2_lots_6 := dk_seg dksX2_lots_5 24 rfl rfl
theorem dksX2_lots_7 : cX2_lots.data.toList.drop 165 = dktX2_lots_7 := dk_seg dksX2_lots_6 24 rfl rfl
theorem dX2_lots_0 : decode cX2_lots 0 = .ok (.iload_n 1, 1) := dk_27 (dk_at dksX2_lots_0 0 rfl rfl)
theorem dX2_lots_1 : decode cX2_lots 1 = .ok (.iconst 1, 1) := dk_4 (dk_at dksX2_lots_0 1 rfl rfl)
theorem dX2_lots_2 : decode cX2_lots 2 = .ok (.bipush 20, 2) := dk_16 20 (dk_at dksX2_lots_0 2 rfl rfl)
theorem dX2_lots_4 : decode cX2_lots 4 = .ok (.invokestatic 75, 3) := dk_184 0 75 (dk_at dksX2_lots_0 4 rfl rfl)
theorem dX2_lots_7 : decode cX2_lots 7 = .ok (.ifCond .eq 14, 3) := dk_153 0 14 (dk_at dksX2_lots_0 7 rfl rfl)
theorem dX2_lots_10 : decode cX2_lots 10 = .ok (.iload_n 2, 1) := dk_28 (dk_at dksX2_lots_0 10 rfl rfl)
theorem dX2_lots_11 : decode cX2_lots 11 = .ok (.iconst 1, 1) := dk_4 (dk_at dksX2_lots_0 11 rfl rfl)
theorem dX2_lots_12 : decode cX2_lots 12 = .ok (.ldc_w 332, 3) := dk_19 1 76 (dk_at dksX2_lots_0 12 rfl rfl)
theorem dX2_lots_15 : decode cX2_lots 15 = .ok (.invokestatic 75, 3) := dk_184 0 75 (dk_at dksX2_lots_0 15 rfl rfl)
theorem dX2_lots_18 : decode cX2_lots 18 = .ok (.ifCond .ne 5, 3) := dk_154 0 5 (dk_at dksX2_lots_0 18 rfl rfl)
theorem dX2_lots_21 : decode cX2_lots 21 = .ok (.iconst (-1), 1) := dk_2 (dk_at dksX2_lots_0 21 rfl rfl)
theorem dX2_lots_22 : decode cX2_lots 22 = .ok (.ireturn, 1) := dk_172 (dk_at dksX2_lots_0 22 rfl rfl)
theorem dX2_lots_23 : decode cX2_lots 23 = .ok (.aload_n 0, 1) := dk_42 (dk_at dksX2_lots_0 23 rfl rfl)
theorem dX2_lots_24 : decode cX2_lots 24 = .ok (.getfield 179, 3) := dk_180 0 179 (dk_at dksX2_lots_1 0 rfl rfl)
theorem dX2_lots_27 : decode cX2_lots 27 = .ok (.ifCond .ne 6, 3) := dk_154 0 6 (dk_at dksX2_lots_1 3 rfl rfl)
theorem dX2_lots_30 : decode cX2_lots 30 = .ok (.bipush (-4), 2) := dk_16 252 (dk_at dksX2_lots_1 6 rfl rfl)
theorem dX2_lots_32 : decode cX2_lots 32 = .ok (.ireturn, 1) := dk_172 (dk_at dksX2_lots_1 8 rfl rfl)
theorem dX2_lots_33 : decode cX2_lots 33 = .ok (.aload_n 0, 1) := dk_42 (dk_at dksX2_lots_1 9 rfl rfl)
theorem dX2_lots_34 : decode cX2_lots 34 = .ok (.getfield 185, 3) := dk_180 0 185 (dk_at dksX2_lots_1 10 rfl rfl)
theorem dX2_lots_37 : decode cX2_lots 37 = .ok (.iload_n 1, 1) := dk_27 (dk_at dksX2_lots_1 13 rfl rfl)
theorem dX2_lots_38 : decode cX2_lots 38 = .ok (.iadd, 1) := dk_96 (dk_at dksX2_lots_1 14 rfl rfl)
theorem dX2_lots_39 : decode cX2_lots 39 = .ok (.bipush 40, 2) := dk_16 40 (dk_at dksX2_lots_1 15 rfl rfl)
theorem dX2_lots_41 : decode cX2_lots 41 = .ok (.if_icmp .le 6, 3) := dk_164 0 6 (dk_at dksX2_lots_1 17 rfl rfl)
theorem dX2_lots_44 : decode cX2_lots 44 = .ok (.bipush (-2), 2) := dk_16 254 (dk_at dksX2_lots_1 20 rfl rfl)
theorem dX2_lots_46 : decode cX2_lots 46 = .ok (.ireturn, 1) := dk_172 (dk_at dksX2_lots_1 22 rfl rfl)
theorem dX2_lots_47 : decode cX2_lots 47 = .ok (.iload_n 2, 1) := dk_28 (dk_at dksX2_lots_1 23 rfl rfl)
theorem dX2_lots_48 : decode cX2_lots 48 = .ok (.i2l, 1) := dk_133 (dk_at dksX2_lots_2 0 rfl rfl)
theorem dX2_lots_49 : decode cX2_lots 49 = .ok (.lstore_n 3, 1) := dk_66 (dk_at dksX2_lots_2 1 rfl rfl)
theorem dX2_lots_50 : decode cX2_lots 50 = .ok (.iconst 0, 1) := dk_3 (dk_at dksX2_lots_2 2 rfl rfl)
theorem dX2_lots_51 : decode cX2_lots 51 = .ok (.istore 5, 2) := dk_54 5 (dk_at dksX2_lots_2 3 rfl rfl)
theorem dX2_lots_53 : decode cX2_lots 53 = .ok (.iload 5, 2) := dk_21 5 (dk_at dksX2_lots_2 5 rfl rfl)
theorem dX2_lots_55 : decode cX2_lots 55 = .ok (.iload_n 1, 1) := dk_27 (dk_at dksX2_lots_2 7 rfl rfl)
theorem dX2_lots_56 : decode cX2_lots 56 = .ok (.if_icmp .ge 122, 3) := dk_162 0 122 (dk_at dksX2_lots_2 8 rfl rfl)
theorem dX2_lots_59 : decode cX2_lots 59 = .ok (.lload_n 3, 1) := dk_33 (dk_at dksX2_lots_2 11 rfl rfl)
theorem dX2_lots_60 : decode cX2_lots 60 = .ok (.ldc2_w 333, 3) := dk_20 1 77 (dk_at dksX2_lots_2 12 rfl rfl)
theorem dX2_lots_63 : decode cX2_lots 63 = .ok (.lmul, 1) := dk_105 (dk_at dksX2_lots_2 15 rfl rfl)
theorem dX2_lots_64 : decode cX2_lots 64 = .ok (.ldc2_w 335, 3) := dk_20 1 79 (dk_at dksX2_lots_2 16 rfl rfl)
theorem dX2_lots_67 : decode cX2_lots 67 = .ok (.lrem, 1) := dk_113 (dk_at dksX2_lots_2 19 rfl rfl)
theorem dX2_lots_68 : decode cX2_lots 68 = .ok (.lstore_n 3, 1) := dk_66 (dk_at dksX2_lots_2 20 rfl rfl)
theorem dX2_lots_69 : decode cX2_lots 69 = .ok (.aload_n 0, 1) := dk_42 (dk_at dksX2_lots_2 21 rfl rfl)
theorem dX2_lots_70 : decode cX2_lots 70 = .ok (.invokevirtual 293, 3) := dk_182 1 37 (dk_at dksX2_lots_3 0 rfl rfl)
theorem dX2_lots_73 : decode cX2_lots 73 = .ok (.lload_n 3, 1) := dk_33 (dk_at dksX2_lots_3 3 rfl rfl)
theorem dX2_lots_74 : decode cX2_lots 74 = .ok (.ldc2_w 337, 3) := dk_20 1 81 (dk_at dksX2_lots_3 4 rfl rfl)
theorem dX2_lots_77 : decode cX2_lots 77 = .ok (.ldiv, 1) := dk_109 (dk_at dksX2_lots_3 7 rfl rfl)
theorem dX2_lots_78 : decode cX2_lots 78 = .ok (.aload_n 0, 1) := dk_42 (dk_at dksX2_lots_3 8 rfl rfl)
theorem dX2_lots_79 : decode cX2_lots 79 = .ok (.getfield 179, 3) := dk_180 0 179 (dk_at dksX2_lots_3 9 rfl rfl)
theorem dX2_lots_82 : decode cX2_lots 82 = .ok (.i2l, 1) := dk_133 (dk_at dksX2_lots_3 12 rfl rfl)
theorem dX2_lots_83 : decode cX2_lots 83 = .ok (.lrem, 1) := dk_113 (dk_at dksX2_lots_3 13 rfl rfl)
theorem dX2_lots_84 : decode cX2_lots 84 = .ok (.l2i, 1) := dk_136 (dk_at dksX2_lots_3 14 rfl rfl)
theorem dX2_lots_85 : decode cX2_lots 85 = .ok (.istore 6, 2) := dk_54 6 (dk_at dksX2_lots_3 15 rfl rfl)
theorem dX2_lots_87 : decode cX2_lots 87 = .ok (.lload_n 3, 1) := dk_33 (dk_at dksX2_lots_3 17 rfl rfl)
theorem dX2_lots_88 : decode cX2_lots 88 = .ok (.ldc2_w 337, 3) := dk_20 1 81 (dk_at dksX2_lots_3 18 rfl rfl)
theorem dX2_lots_91 : decode cX2_lots 91 = .ok (.lrem, 1) := dk_113 (dk_at dksX2_lots_3 21 rfl rfl)
theorem dX2_lots_92 : decode cX2_lots 92 = .ok (.l2i, 1) := dk_136 (dk_at dksX2_lots_3 22 rfl rfl)
theorem dX2_lots_93 : decode cX2_lots 93 = .ok (.istore 7, 2) := dk_54 7 (dk_at dksX2_lots_4 0 rfl rfl)
theorem dX2_lots_95 : decode cX2_lots 95 = .ok (.iload 7, 2) := dk_21 7 (dk_at dksX2_lots_4 2 rfl rfl)
theorem dX2_lots_97 : decode cX2_lots 97 = .ok (.ifCond .ne 23, 3) := dk_154 0 23 (dk_at dksX2_lots_4 4 rfl rfl)
theorem dX2_lots_100 : decode cX2_lots 100 = .ok (.aload_n 0, 1) := dk_42 (dk_at dksX2_lots_4 7 rfl rfl)
theorem dX2_lots_101 : decode cX2_lots 101 = .ok (.getfield 35, 3) := dk_180 0 35 (dk_at dksX2_lots_4 8 rfl rfl)
theorem dX2_lots_104 : decode cX2_lots 104 = .ok (.bipush 32, 2) := dk_16 32 (dk_at dksX2_lots_4 11 rfl rfl)
theorem dX2_lots_106 : decode cX2_lots 106 = .ok (.lload_n 3, 1) := dk_33 (dk_at dksX2_lots_4 13 rfl rfl)
theorem dX2_lots_107 : decode cX2_lots 107 = .ok (.ldc2_w 339, 3) := dk_20 1 83 (dk_at dksX2_lots_4 14 rfl rfl)
theorem dX2_lots_110 : decode cX2_lots 110 = .ok (.ldiv, 1) := dk_109 (dk_at dksX2_lots_4 17 rfl rfl)
theorem dX2_lots_111 : decode cX2_lots 111 = .ok (.ldc2_w 341, 3) := dk_20 1 85 (dk_at dksX2_lots_4 18 rfl rfl)
theorem dX2_lots_114 : decode cX2_lots 114 = .ok (.lrem, 1) := dk_113 (dk_at dksX2_lots_4 21 rfl rfl)
theorem dX2_lots_115 : decode cX2_lots 115 = .ok (.l2i, 1) := dk_136 (dk_at dksX2_lots_4 22 rfl rfl)
theorem dX2_lots_116 : decode cX2_lots 116 = .ok (.iastore, 1) := dk_79 (dk_at dksX2_lots_4 23 rfl rfl)
theorem dX2_lots_117 : decode cX2_lots 117 = .ok (.goto 55, 3) := dk_167 0 55 (dk_at dksX2_lots_5 0 rfl rfl)
theorem dX2_lots_120 : decode cX2_lots 120 = .ok (.iload 7, 2) := dk_21 7 (dk_at dksX2_lots_5 3 rfl rfl)
theorem dX2_lots_122 : decode cX2_lots 122 = .ok (.iconst 4, 1) := dk_7 (dk_at dksX2_lots_5 5 rfl rfl)
theorem dX2_lots_123 : decode cX2_lots 123 = .ok (.if_icmp .le 12, 3) := dk_164 0 12 (dk_at dksX2_lots_5 6 rfl rfl)
theorem dX2_lots_126 : decode cX2_lots 126 = .ok (.aload_n 0, 1) := dk_42 (dk_at dksX2_lots_5 9 rfl rfl)
theorem dX2_lots_127 : decode cX2_lots 127 = .ok (.iload 6, 2) := dk_21 6 (dk_at dksX2_lots_5 10 rfl rfl)
theorem dX2_lots_129 : decode cX2_lots 129 = .ok (.invokevirtual 296, 3) := dk_182 1 40 (dk_at dksX2_lots_5 12 rfl rfl)
theorem dX2_lots_132 : decode cX2_lots 132 = .ok (.goto 40, 3) := dk_167 0 40 (dk_at dksX2_lots_5 15 rfl rfl)
theorem dX2_lots_135 : decode cX2_lots 135 = .ok (.aload_n 0, 1) := dk_42 (dk_at dksX2_lots_5 18 rfl rfl)
theorem dX2_lots_136 : decode cX2_lots 136 = .ok (.iload 6, 2) := dk_21 6 (dk_at dksX2_lots_5 19 rfl rfl)
theorem dX2_lots_138 : decode cX2_lots 138 = .ok (.invokevirtual 232, 3) := dk_182 0 232 (dk_at dksX2_lots_5 21 rfl rfl)
theorem dX2_lots_141 : decode cX2_lots 141 = .ok (.ifCond .eq 8, 3) := dk_153 0 8 (dk_at dksX2_lots_6 0 rfl rfl)
theorem dX2_lots_144 : decode cX2_lots 144 = .ok (.bipush (-9), 2) := dk_16 247 (dk_at dksX2_lots_6 3 rfl rfl)
theorem dX2_lots_146 : decode cX2_lots 146 = .ok (.goto 9, 3) := dk_167 0 9 (dk_at dksX2_lots_6 5 rfl rfl)
theorem dX2_lots_149 : decode cX2_lots 149 = .ok (.aload_n 0, 1) := dk_42 (dk_at dksX2_lots_6 8 rfl rfl)
theorem dX2_lots_150 : decode cX2_lots 150 = .ok (.iload 6, 2) := dk_21 6 (dk_at dksX2_lots_6 9 rfl rfl)
theorem dX2_lots_152 : decode cX2_lots 152 = .ok (.invokevirtual 286, 3) := dk_182 1 30 (dk_at dksX2_lots_6 11 rfl rfl)
theorem dX2_lots_155 : decode cX2_lots 155 = .ok (.istore 8, 2) := dk_54 8 (dk_at dksX2_lots_6 14 rfl rfl)
theorem dX2_lots_157 : decode cX2_lots 157 = .ok (.iload 8, 2) := dk_21 8 (dk_at dksX2_lots_6 16 rfl rfl)
theorem dX2_lots_159 : decode cX2_lots 159 = .ok (.bipush (-9), 2) := dk_16 247 (dk_at dksX2_lots_6 18 rfl rfl)
theorem dX2_lots_161 : decode cX2_lots 161 = .ok (.if_icmp .eq 11, 3) := dk_159 0 11 (dk_at dksX2_lots_6 20 rfl rfl)
theorem dX2_lots_164 : decode cX2_lots 164 = .ok (.aload_n 0, 1) := dk_42 (dk_at dksX2_lots_6 23 rfl rfl)
theorem dX2_lots_165 : decode cX2_lots 165 = .ok (.iload 6, 2) := dk_21 6 (dk_at dksX2_lots_7 0 rfl rfl)
theorem dX2_lots_167 : decode cX2_lots 167 = .ok (.iload 8, 2) := dk_21 8 (dk_at dksX2_lots_7 2 rfl rfl)
theorem dX2_lots_169 : decode cX2_lots 169 = .ok (.invokevirtual 289, 3) := dk_182 1 33 (dk_at dksX2_lots_7 4 rfl rfl)
theorem dX2_lots_172 : decode cX2_lots 172 = .ok (.iinc 5 1, 3) := dk_132 5 1 (dk_at dksX2_lots_7 7 rfl rfl)
theorem dX2_lots_175 : decode cX2_lots 175 = .ok (.goto (-122), 3) := dk_167 255 134 (dk_at dksX2_lots_7 10 rfl rfl)
theorem dX2_lots_178 : decode cX2_lots 178 = .ok (.aload_n 0, 1) := dk_42 (dk_at dksX2_lots_7 13 rfl rfl)
theorem dX2_lots_179 : decode cX2_lots 179 = .ok (.invokevirtual 343, 3) := dk_182 1 87 (dk_at dksX2_lots_7 14 rfl rfl)
theorem dX2_lots_182 : decode cX2_lots 182 = .ok (.ireturn, 1) := dk_172 (dk_at dksX2_lots_7 17 rfl rfl)
abbrev cX2_setMany : ByteArray := prog_13_method_91_code
def yX2_setMany : MethodName := ⟨RX2, "setMany", "()I"⟩
def dkwX2_setMany_1 : List UInt8 := [167, 0, 4, 3, 96, 60, 132, 2, 1, 167, 255, 229, 27, 172]
abbrev dktX2_setMany_1 : List UInt8 := dkwX2_setMany_1 ++ []
def dkwX2_setMany_0 : List UInt8 := [3, 60, 3, 61, 28, 42, 180, 0, 179, 162, 0, 25, 27, 42, 28, 182, 0, 232, 153, 0, 7, 4]
abbrev dktX2_setMany_0 : List UInt8 := dkwX2_setMany_0 ++ dktX2_setMany_1
theorem dksX2_setMany_0 : cX2_setMany.data.toList.drop 0 = dktX2_setMany_0 := by decide +kernel
theorem dksX2_setMany_1 : cX2_setMany.data.toList.drop 22 = dktX2_setMany_1 := dk_seg dksX2_setMany_0 22 rfl rfl
theorem dX2_setMany_0 : decode cX2_setMany 0 = .ok (.iconst 0, 1) := dk_3 (dk_at dksX2_setMany_0 0 rfl rfl)
theorem dX2_setMany_1 : decode cX2_setMany 1 = .ok (.istore_n 1, 1) := dk_60 (dk_at dksX2_setMany_0 1 rfl rfl)
theorem dX2_setMany_2 : decode cX2_setMany 2 = .ok (.iconst 0, 1) := dk_3 (dk_at dksX2_setMany_0 2 rfl rfl)
theorem dX2_setMany_3 : decode cX2_setMany 3 = .ok (.istore_n 2, 1) := dk_61 (dk_at dksX2_setMany_0 3 rfl rfl)
theorem dX2_setMany_4 : decode cX2_setMany 4 = .ok (.iload_n 2, 1) := dk_28 (dk_at dksX2_setMany_0 4 rfl rfl)
theorem dX2_setMany_5 : decode cX2_setMany 5 = .ok (.aload_n 0, 1) := dk_42 (dk_at dksX2_setMany_0 5 rfl rfl)
theorem dX2_setMany_6 : decode cX2_setMany 6 = .ok (.getfield 179, 3) := dk_180 0 179 (dk_at dksX2_setMany_0 6 rfl rfl)
theorem dX2_setMany_9 : decode cX2_setMany 9 = .ok (.if_icmp .ge 25, 3) := dk_162 0 25 (dk_at dksX2_setMany_0 9 rfl rfl)
theorem dX2_setMany_12 : decode cX2_setMany 12 = .ok (.iload_n 1, 1) := dk_27 (dk_at dksX2_setMany_0 12 rfl rfl)
theorem dX2_setMany_13 : decode cX2_setMany 13 = .ok (.aload_n 0, 1) := dk_42 (dk_at dksX2_setMany_0 13 rfl rfl)
theorem dX2_setMany_14 : decode cX2_setMany 14 = .ok (.iload_n 2, 1) := dk_28 (dk_at dksX2_setMany_0 14 rfl rfl)
theorem dX2_setMany_15 : decode cX2_setMany 15 = .ok (.invokevirtual 232, 3) := dk_182 0 232 (dk_at dksX2_setMany_0 15 rfl rfl)
theorem dX2_setMany_18 : decode cX2_setMany 18 = .ok (.ifCond .eq 7, 3) := dk_153 0 7 (dk_at dksX2_setMany_0 18 rfl rfl)
theorem dX2_setMany_21 : decode cX2_setMany 21 = .ok (.iconst 1, 1) := dk_4 (dk_at dksX2_setMany_0 21 rfl rfl)
theorem dX2_setMany_22 : decode cX2_setMany 22 = .ok (.goto 4, 3) := dk_167 0 4 (dk_at dksX2_setMany_1 0 rfl rfl)
theorem dX2_setMany_25 : decode cX2_setMany 25 = .ok (.iconst 0, 1) := dk_3 (dk_at dksX2_setMany_1 3 rfl rfl)
theorem dX2_setMany_26 : decode cX2_setMany 26 = .ok (.iadd, 1) := dk_96 (dk_at dksX2_setMany_1 4 rfl rfl)
theorem dX2_setMany_27 : decode cX2_setMany 27 = .ok (.istore_n 1, 1) := dk_60 (dk_at dksX2_setMany_1 5 rfl rfl)
theorem dX2_setMany_28 : decode cX2_setMany 28 = .ok (.iinc 2 1, 3) := dk_132 2 1 (dk_at dksX2_setMany_1 6 rfl rfl)
theorem dX2_setMany_31 : decode cX2_setMany 31 = .ok (.goto (-27), 3) := dk_167 255 229 (dk_at dksX2_setMany_1 9 rfl rfl)
theorem dX2_setMany_34 : decode cX2_setMany 34 = .ok (.iload_n 1, 1) := dk_27 (dk_at dksX2_setMany_1 12 rfl rfl)
theorem dX2_setMany_35 : decode cX2_setMany 35 = .ok (.ireturn, 1) := dk_172 (dk_at dksX2_setMany_1 13 rfl rfl)
abbrev cX2_count : ByteArray := prog_13_method_95_code
def yX2_count : MethodName := ⟨RX2, "count", "(I)I"⟩
def dkwX2_count_0 : List UInt8 := [27, 3, 16, 13, 184, 0, 75, 153, 0, 11, 42, 27, 182, 1, 96, 167, 0, 4, 2, 172]
abbrev dktX2_count_0 : List UInt8 := dkwX2_count_0 ++ []
theorem dksX2_count_0 : cX2_count.data.toList.drop 0 = dktX2_count_0 := by decide +kernel
theorem dX2_count_0 : decode cX2_count 0 = .ok (.iload_n 1, 1) := dk_27 (dk_at dksX2_count_0 0 rfl rfl)
theorem dX2_count_1 : decode cX2_count 1 = .ok (.iconst 0, 1) := dk_3 (dk_at dksX2_count_0 1 rfl rfl)
theorem dX2_count_2 : decode cX2_count 2 = .ok (.bipush 13, 2) := dk_16 13 (dk_at dksX2_count_0 2 rfl rfl)
theorem dX2_count_4 : decode cX2_count 4 = .ok (.invokestatic 75, 3) := dk_184 0 75 (dk_at dksX2_count_0 4 rfl rfl)
theorem dX2_count_7 : decode cX2_count 7 = .ok (.ifCond .eq 11, 3) := dk_153 0 11 (dk_at dksX2_count_0 7 rfl rfl)
theorem dX2_count_10 : decode cX2_count 10 = .ok (.aload_n 0, 1) := dk_42 (dk_at dksX2_count_0 10 rfl rfl)
theorem dX2_count_11 : decode cX2_count 11 = .ok (.iload_n 1, 1) := dk_27 (dk_at dksX2_count_0 11 rfl rfl)
theorem dX2_count_12 : decode cX2_count 12 = .ok (.invokevirtual 352, 3) := dk_182 1 96 (dk_at dksX2_count_0 12 rfl rfl)
theorem dX2_count_15 : decode cX2_count 15 = .ok (.goto 4, 3) := dk_167 0 4 (dk_at dksX2_count_0 15 rfl rfl)
theorem dX2_count_18 : decode cX2_count 18 = .ok (.iconst (-1), 1) := dk_2 (dk_at dksX2_count_0 18 rfl rfl)
theorem dX2_count_19 : decode cX2_count 19 = .ok (.ireturn, 1) := dk_172 (dk_at dksX2_count_0 19 rfl rfl)
abbrev cX2_counted : ByteArray := prog_13_method_94_code
def yX2_counted : MethodName := ⟨RX2, "counted", "(I)I"⟩
def dkwX2_counted_9 : List UInt8 := [155, 0, 7, 4, 167, 0, 4, 3, 96, 61, 132, 3, 1, 167, 255, 231, 28, 172]
abbrev dktX2_counted_9 : List UInt8 := dkwX2_counted_9 ++ []
def dkwX2_counted_8 : List UInt8 := [132, 3, 1, 167, 255, 231, 28, 172, 3, 62, 29, 6, 162, 0, 26, 28, 42, 180, 0, 59, 29, 46]
abbrev dktX2_counted_8 : List UInt8 := dkwX2_counted_8 ++ dktX2_counted_9
def dkwX2_counted_7 : List UInt8 := [62, 29, 7, 162, 0, 26, 28, 42, 180, 0, 22, 29, 46, 155, 0, 7, 4, 167, 0, 4, 3, 96, 61]
abbrev dktX2_counted_7 : List UInt8 := dkwX2_counted_7 ++ dktX2_counted_8
def dkwX2_counted_6 : List UInt8 := [180, 0, 13, 29, 46, 155, 0, 7, 4, 167, 0, 4, 3, 96, 61, 132, 3, 1, 167, 255, 230, 28, 172, 3]
abbrev dktX2_counted_6 : List UInt8 := dkwX2_counted_6 ++ dktX2_counted_7
def dkwX2_counted_5 : List UInt8 := [132, 3, 1, 167, 255, 232, 28, 172, 42, 180, 0, 185, 172, 3, 62, 29, 16, 6, 162, 0, 26, 28, 42]
abbrev dktX2_counted_5 : List UInt8 := dkwX2_counted_5 ++ dktX2_counted_6
def dkwX2_counted_4 : List UInt8 := [3, 62, 29, 42, 180, 0, 179, 162, 0, 22, 28, 42, 180, 0, 35, 7, 29, 104, 6, 96, 46, 96, 61]
abbrev dktX2_counted_4 : List UInt8 := dkwX2_counted_4 ++ dktX2_counted_5
def dkwX2_counted_3 : List UInt8 := [172, 42, 180, 0, 176, 172, 42, 180, 0, 35, 16, 32, 46, 172, 42, 182, 1, 90, 172, 42, 182, 1, 93, 172]
abbrev dktX2_counted_3 : List UInt8 := dkwX2_counted_3 ++ dktX2_counted_4
def dkwX2_counted_2 : List UInt8 := [42, 180, 0, 179, 172, 42, 182, 1, 87, 172, 42, 182, 1, 14, 172, 42, 180, 0, 170, 172, 42, 180, 0, 173]
abbrev dktX2_counted_2 : List UInt8 := dkwX2_counted_2 ++ dktX2_counted_3
def dkwX2_counted_1 : List UInt8 := [170, 0, 0, 0, 214, 0, 0, 0, 0, 0, 0, 0, 12, 0, 0, 0, 65, 0, 0, 0, 70, 0, 0, 0, 75, 0, 0, 0, 80, 0, 0, 0, 85, 0, 0, 0, 90, 0, 0, 0, 95, 0, 0, 0, 103, 0, 0, 0, 108, 0, 0, 0, 113, 0, 0, 0, 144, 0, 0, 0, 149, 0, 0, 0, 182]
abbrev dktX2_counted_1 : List UInt8 := dkwX2_counted_1 ++ dktX2_counted_2
def dkwX2_counted_0 : List UInt8 := [3, 61, 27]
abbrev dktX2_counted_0 : List UInt8 := dkwX2_counted_0 ++ dktX2_counted_1
theorem dksX2_counted_0 : cX2_counted.data.toList.drop 0 = dktX2_counted_0 := by decide +kernel
theorem dksX2_counted_1 : cX2_counted.data.toList.drop 3 = dktX2_counted_1 := dk_seg dksX2_counted_0 3 rfl rfl
theorem dksX2_counted_2 : cX2_counted.data.toList.drop 68 = dktX2_counted_2 := dk_seg dksX2_counted_1 65 rfl rfl
theorem dksX2_counted_3 : cX2_counted.data.toList.drop 92 = dktX2_counted_3 := dk_seg dksX2_counted_2 24 rfl rfl
theorem dksX2_counted_4 : cX2_counted.data.toList.drop 116 = dktX2_counted_4 := dk_seg dksX2_counted_3 24 rfl rfl
theorem dksX2_counted_5 : cX2_counted.data.toList.drop 139 = dktX2_counted_5 := dk_seg dksX2_counted_4 23 rfl rfl
theorem dksX2_counted_6 : cX2_counted.data.toList.drop 162 = dktX2_counted_6 := dk_seg dksX2_counted_5 23 rfl rfl
theorem dksX2_counted_7 : cX2_counted.data.toList.drop 186 = dktX2_counted_7 := dk_seg dksX2_counted_6 24 rfl rfl
theorem dksX2_counted_8 : cX2_counted.data.toList.drop 209 = dktX2_counted_8 := dk_seg dksX2_counted_7 23 rfl rfl
theorem dksX2_counted_9 : cX2_counted.data.toList.drop 231 = dktX2_counted_9 := dk_seg dksX2_counted_8 22 rfl rfl
theorem dX2_counted_0 : decode cX2_counted 0 = .ok (.iconst 0, 1) := dk_3 (dk_at dksX2_counted_0 0 rfl rfl)
theorem dX2_counted_1 : decode cX2_counted 1 = .ok (.istore_n 2, 1) := dk_61 (dk_at dksX2_counted_0 1 rfl rfl)
theorem dX2_counted_2 : decode cX2_counted 2 = .ok (.iload_n 1, 1) := dk_27 (dk_at dksX2_counted_0 2 rfl rfl)
theorem dX2_counted_3 : decode cX2_counted 3 = .ok (.tableswitch 214 0 12 #[65, 70, 75, 80, 85, 90, 95, 103, 108, 113, 144, 149, 182], 65) := by decide +kernel
theorem dX2_counted_68 : decode cX2_counted 68 = .ok (.aload_n 0, 1) := dk_42 (dk_at dksX2_counted_2 0 rfl rfl)
theorem dX2_counted_69 : decode cX2_counted 69 = .ok (.getfield 179, 3) := dk_180 0 179 (dk_at dksX2_counted_2 1 rfl rfl)
theorem dX2_counted_72 : decode cX2_counted 72 = .ok (.ireturn, 1) := dk_172 (dk_at dksX2_counted_2 4 rfl rfl)
theorem dX2_counted_73 : decode cX2_counted 73 = .ok (.aload_n 0, 1) := dk_42 (dk_at dksX2_counted_2 5 rfl rfl)
theorem dX2_counted_74 : decode cX2_counted 74 = .ok (.invokevirtual 343, 3) := dk_182 1 87 (dk_at dksX2_counted_2 6 rfl rfl)
theorem dX2_counted_77 : decode cX2_counted 77 = .ok (.ireturn, 1) := dk_172 (dk_at dksX2_counted_2 9 rfl rfl)
theorem dX2_counted_78 : decode cX2_counted 78 = .ok (.aload_n 0, 1) := dk_42 (dk_at dksX2_counted_2 10 rfl rfl)
theorem dX2_counted_79 : decode cX2_counted 79 = .ok (.invokevirtual 270, 3) := dk_182 1 14 (dk_at dksX2_counted_2 11 rfl rfl)
theorem dX2_counted_82 : decode cX2_counted 82 = .ok (.ireturn, 1) := dk_172 (dk_at dksX2_counted_2 14 rfl rfl)
theorem dX2_counted_83 : decode cX2_counted 83 = .ok (.aload_n 0, 1) := dk_42 (dk_at dksX2_counted_2 15 rfl rfl)
theorem dX2_counted_84 : decode cX2_counted 84 = .ok (.getfield 170, 3) := dk_180 0 170 (dk_at dksX2_counted_2 16 rfl rfl)
theorem dX2_counted_87 : decode cX2_counted 87 = .ok (.ireturn, 1) := dk_172 (dk_at dksX2_counted_2 19 rfl rfl)
theorem dX2_counted_88 : decode cX2_counted 88 = .ok (.aload_n 0, 1) := dk_42 (dk_at dksX2_counted_2 20 rfl rfl)
theorem dX2_counted_89 : decode cX2_counted 89 = .ok (.getfield 173, 3) := dk_180 0 173 (dk_at dksX2_counted_2 21 rfl rfl)
theorem dX2_counted_92 : decode cX2_counted 92 = .ok (.ireturn, 1) := dk_172 (dk_at dksX2_counted_3 0 rfl rfl)
theorem dX2_counted_93 : decode cX2_counted 93 = .ok (.aload_n 0, 1) := dk_42 (dk_at dksX2_counted_3 1 rfl rfl)
theorem dX2_counted_94 : decode cX2_counted 94 = .ok (.getfield 176, 3) := dk_180 0 176 (dk_at dksX2_counted_3 2 rfl rfl)
theorem dX2_counted_97 : decode cX2_counted 97 = .ok (.ireturn, 1) := dk_172 (dk_at dksX2_counted_3 5 rfl rfl)
theorem dX2_counted_98 : decode cX2_counted 98 = .ok (.aload_n 0, 1) := dk_42 (dk_at dksX2_counted_3 6 rfl rfl)
theorem dX2_counted_99 : decode cX2_counted 99 = .ok (.getfield 35, 3) := dk_180 0 35 (dk_at dksX2_counted_3 7 rfl rfl)
theorem dX2_counted_102 : decode cX2_counted 102 = .ok (.bipush 32, 2) := dk_16 32 (dk_at dksX2_counted_3 10 rfl rfl)
theorem dX2_counted_104 : decode cX2_counted 104 = .ok (.iaload, 1) := dk_46 (dk_at dksX2_counted_3 12 rfl rfl)
theorem dX2_counted_105 : decode cX2_counted 105 = .ok (.ireturn, 1) := dk_172 (dk_at dksX2_counted_3 13 rfl rfl)
theorem dX2_counted_106 : decode cX2_counted 106 = .ok (.aload_n 0, 1) := dk_42 (dk_at dksX2_counted_3 14 rfl rfl)
theorem dX2_counted_107 : decode cX2_counted 107 = .ok (.invokevirtual 346, 3) := dk_182 1 90 (dk_at dksX2_counted_3 15 rfl rfl)
theorem dX2_counted_110 : decode cX2_counted 110 = .ok (.ireturn, 1) := dk_172 (dk_at dksX2_counted_3 18 rfl rfl)
theorem dX2_counted_111 : decode cX2_counted 111 = .ok (.aload_n 0, 1) := dk_42 (dk_at dksX2_counted_3 19 rfl rfl)
theorem dX2_counted_112 : decode cX2_counted 112 = .ok (.invokevirtual 349, 3) := dk_182 1 93 (dk_at dksX2_counted_3 20 rfl rfl)
theorem dX2_counted_115 : decode cX2_counted 115 = .ok (.ireturn, 1) := dk_172 (dk_at dksX2_counted_3 23 rfl rfl)
theorem dX2_counted_116 : decode cX2_counted 116 = .ok (.iconst 0, 1) := dk_3 (dk_at dksX2_counted_4 0 rfl rfl)
theorem dX2_counted_117 : decode cX2_counted 117 = .ok (.istore_n 3, 1) := dk_62 (dk_at dksX2_counted_4 1 rfl rfl)
theorem dX2_counted_118 : decode cX2_counted 118 = .ok (.iload_n 3, 1) := dk_29 (dk_at dksX2_counted_4 2 rfl rfl)
theorem dX2_counted_119 : decode cX2_counted 119 = .ok (.aload_n 0, 1) := dk_42 (dk_at dksX2_counted_4 3 rfl rfl)
theorem dX2_counted_120 : decode cX2_counted 120 = .ok (.getfield 179, 3) := dk_180 0 179 (dk_at dksX2_counted_4 4 rfl rfl)
theorem dX2_counted_123 : decode cX2_counted 123 = .ok (.if_icmp .ge 22, 3) := dk_162 0 22 (dk_at dksX2_counted_4 7 rfl rfl)
theorem dX2_counted_126 : decode cX2_counted 126 = .ok (.iload_n 2, 1) := dk_28 (dk_at dksX2_counted_4 10 rfl rfl)
theorem dX2_counted_127 : decode cX2_counted 127 = .ok (.aload_n 0, 1) := dk_42 (dk_at dksX2_counted_4 11 rfl rfl)
theorem dX2_counted_128 : decode cX2_counted 128 = .ok (.getfield 35, 3) := dk_180 0 35 (dk_at dksX2_counted_4 12 rfl rfl)
theorem dX2_counted_131 : decode cX2_counted 131 = .ok (.iconst 4, 1) := dk_7 (dk_at dksX2_counted_4 15 rfl rfl)
theorem dX2_counted_132 : decode cX2_counted 132 = .ok (.iload_n 3, 1) := dk_29 (dk_at dksX2_counted_4 16 rfl rfl)
theorem dX2_counted_133 : decode cX2_counted 133 = .ok (.imul, 1) := dk_104 (dk_at dksX2_counted_4 17 rfl rfl)
theorem dX2_counted_134 : decode cX2_counted 134 = .ok (.iconst 3, 1) := dk_6 (dk_at dksX2_counted_4 18 rfl rfl)
theorem dX2_counted_135 : decode cX2_counted 135 = .ok (.iadd, 1) := dk_96 (dk_at dksX2_counted_4 19 rfl rfl)
theorem dX2_counted_136 : decode cX2_counted 136 = .ok (.iaload, 1) := dk_46 (dk_at dksX2_counted_4 20 rfl rfl)
theorem dX2_counted_137 : decode cX2_counted 137 = .ok (.iadd, 1) := dk_96 (dk_at dksX2_counted_4 21 rfl rfl)
theorem dX2_counted_138 : decode cX2_counted 138 = .ok (.istore_n 2, 1) := dk_61 (dk_at dksX2_counted_4 22 rfl rfl)
theorem dX2_counted_139 : decode cX2_counted 139 = .ok (.iinc 3 1, 3) := dk_132 3 1 (dk_at dksX2_counted_5 0 rfl rfl)
theorem dX2_counted_142 : decode cX2_counted 142 = .ok (.goto (-24), 3) := dk_167 255 232 (dk_at dksX2_counted_5 3 rfl rfl)
theorem dX2_counted_145 : decode cX2_counted 145 = .ok (.iload_n 2, 1) := dk_28 (dk_at dksX2_counted_5 6 rfl rfl)
theorem dX2_counted_146 : decode cX2_counted 146 = .ok (.ireturn, 1) := dk_172 (dk_at dksX2_counted_5 7 rfl rfl)
theorem dX2_counted_147 : decode cX2_counted 147 = .ok (.aload_n 0, 1) := dk_42 (dk_at dksX2_counted_5 8 rfl rfl)
theorem dX2_counted_148 : decode cX2_counted 148 = .ok (.getfield 185, 3) := dk_180 0 185 (dk_at dksX2_counted_5 9 rfl rfl)
theorem dX2_counted_151 : decode cX2_counted 151 = .ok (.ireturn, 1) := dk_172 (dk_at dksX2_counted_5 12 rfl rfl)
theorem dX2_counted_152 : decode cX2_counted 152 = .ok (.iconst 0, 1) := dk_3 (dk_at dksX2_counted_5 13 rfl rfl)
theorem dX2_counted_153 : decode cX2_counted 153 = .ok (.istore_n 3, 1) := dk_62 (dk_at dksX2_counted_5 14 rfl rfl)
theorem dX2_counted_154 : decode cX2_counted 154 = .ok (.iload_n 3, 1) := dk_29 (dk_at dksX2_counted_5 15 rfl rfl)
theorem dX2_counted_155 : decode cX2_counted 155 = .ok (.bipush 6, 2) := dk_16 6 (dk_at dksX2_counted_5 16 rfl rfl)
theorem dX2_counted_157 : decode cX2_counted 157 = .ok (.if_icmp .ge 26, 3) := dk_162 0 26 (dk_at dksX2_counted_5 18 rfl rfl)
theorem dX2_counted_160 : decode cX2_counted 160 = .ok (.iload_n 2, 1) := dk_28 (dk_at dksX2_counted_5 21 rfl rfl)
theorem dX2_counted_161 : decode cX2_counted 161 = .ok (.aload_n 0, 1) := dk_42 (dk_at dksX2_counted_5 22 rfl rfl)
theorem dX2_counted_162 : decode cX2_counted 162 = .ok (.getfield 13, 3) := dk_180 0 13 (dk_at dksX2_counted_6 0 rfl rfl)
theorem dX2_counted_165 : decode cX2_counted 165 = .ok (.iload_n 3, 1) := dk_29 (dk_at dksX2_counted_6 3 rfl rfl)
theorem dX2_counted_166 : decode cX2_counted 166 = .ok (.iaload, 1) := dk_46 (dk_at dksX2_counted_6 4 rfl rfl)
theorem dX2_counted_167 : decode cX2_counted 167 = .ok (.ifCond .lt 7, 3) := dk_155 0 7 (dk_at dksX2_counted_6 5 rfl rfl)
theorem dX2_counted_170 : decode cX2_counted 170 = .ok (.iconst 1, 1) := dk_4 (dk_at dksX2_counted_6 8 rfl rfl)
theorem dX2_counted_171 : decode cX2_counted 171 = .ok (.goto 4, 3) := dk_167 0 4 (dk_at dksX2_counted_6 9 rfl rfl)
theorem dX2_counted_174 : decode cX2_counted 174 = .ok (.iconst 0, 1) := dk_3 (dk_at dksX2_counted_6 12 rfl rfl)
theorem dX2_counted_175 : decode cX2_counted 175 = .ok (.iadd, 1) := dk_96 (dk_at dksX2_counted_6 13 rfl rfl)
theorem dX2_counted_176 : decode cX2_counted 176 = .ok (.istore_n 2, 1) := dk_61 (dk_at dksX2_counted_6 14 rfl rfl)
theorem dX2_counted_177 : decode cX2_counted 177 = .ok (.iinc 3 1, 3) := dk_132 3 1 (dk_at dksX2_counted_6 15 rfl rfl)
theorem dX2_counted_180 : decode cX2_counted 180 = .ok (.goto (-26), 3) := dk_167 255 230 (dk_at dksX2_counted_6 18 rfl rfl)
theorem dX2_counted_183 : decode cX2_counted 183 = .ok (.iload_n 2, 1) := dk_28 (dk_at dksX2_counted_6 21 rfl rfl)
theorem dX2_counted_184 : decode cX2_counted 184 = .ok (.ireturn, 1) := dk_172 (dk_at dksX2_counted_6 22 rfl rfl)
theorem dX2_counted_185 : decode cX2_counted 185 = .ok (.iconst 0, 1) := dk_3 (dk_at dksX2_counted_6 23 rfl rfl)
theorem dX2_counted_186 : decode cX2_counted 186 = .ok (.istore_n 3, 1) := dk_62 (dk_at dksX2_counted_7 0 rfl rfl)
theorem dX2_counted_187 : decode cX2_counted 187 = .ok (.iload_n 3, 1) := dk_29 (dk_at dksX2_counted_7 1 rfl rfl)
theorem dX2_counted_188 : decode cX2_counted 188 = .ok (.iconst 4, 1) := dk_7 (dk_at dksX2_counted_7 2 rfl rfl)
theorem dX2_counted_189 : decode cX2_counted 189 = .ok (.if_icmp .ge 26, 3) := dk_162 0 26 (dk_at dksX2_counted_7 3 rfl rfl)
theorem dX2_counted_192 : decode cX2_counted 192 = .ok (.iload_n 2, 1) := dk_28 (dk_at dksX2_counted_7 6 rfl rfl)
theorem dX2_counted_193 : decode cX2_counted 193 = .ok (.aload_n 0, 1) := dk_42 (dk_at dksX2_counted_7 7 rfl rfl)
theorem dX2_counted_194 : decode cX2_counted 194 = .ok (.getfield 22, 3) := dk_180 0 22 (dk_at dksX2_counted_7 8 rfl rfl)
theorem dX2_counted_197 : decode cX2_counted 197 = .ok (.iload_n 3, 1) := dk_29 (dk_at dksX2_counted_7 11 rfl rfl)
theorem dX2_counted_198 : decode cX2_counted 198 = .ok (.iaload, 1) := dk_46 (dk_at dksX2_counted_7 12 rfl rfl)
theorem dX2_counted_199 : decode cX2_counted 199 = .ok (.ifCond .lt 7, 3) := dk_155 0 7 (dk_at dksX2_counted_7 13 rfl rfl)
theorem dX2_counted_202 : decode cX2_counted 202 = .ok (.iconst 1, 1) := dk_4 (dk_at dksX2_counted_7 16 rfl rfl)
theorem dX2_counted_203 : decode cX2_counted 203 = .ok (.goto 4, 3) := dk_167 0 4 (dk_at dksX2_counted_7 17 rfl rfl)
theorem dX2_counted_206 : decode cX2_counted 206 = .ok (.iconst 0, 1) := dk_3 (dk_at dksX2_counted_7 20 rfl rfl)
theorem dX2_counted_207 : decode cX2_counted 207 = .ok (.iadd, 1) := dk_96 (dk_at dksX2_counted_7 21 rfl rfl)
theorem dX2_counted_208 : decode cX2_counted 208 = .ok (.istore_n 2, 1) := dk_61 (dk_at dksX2_counted_7 22 rfl rfl)
theorem dX2_counted_209 : decode cX2_counted 209 = .ok (.iinc 3 1, 3) := dk_132 3 1 (dk_at dksX2_counted_8 0 rfl rfl)
theorem dX2_counted_212 : decode cX2_counted 212 = .ok (.goto (-25), 3) := dk_167 255 231 (dk_at dksX2_counted_8 3 rfl rfl)
theorem dX2_counted_215 : decode cX2_counted 215 = .ok (.iload_n 2, 1) := dk_28 (dk_at dksX2_counted_8 6 rfl rfl)
theorem dX2_counted_216 : decode cX2_counted 216 = .ok (.ireturn, 1) := dk_172 (dk_at dksX2_counted_8 7 rfl rfl)
theorem dX2_counted_217 : decode cX2_counted 217 = .ok (.iconst 0, 1) := dk_3 (dk_at dksX2_counted_8 8 rfl rfl)
theorem dX2_counted_218 : decode cX2_counted 218 = .ok (.istore_n 3, 1) := dk_62 (dk_at dksX2_counted_8 9 rfl rfl)
theorem dX2_counted_219 : decode cX2_counted 219 = .ok (.iload_n 3, 1) := dk_29 (dk_at dksX2_counted_8 10 rfl rfl)
theorem dX2_counted_220 : decode cX2_counted 220 = .ok (.iconst 3, 1) := dk_6 (dk_at dksX2_counted_8 11 rfl rfl)
theorem dX2_counted_221 : decode cX2_counted 221 = .ok (.if_icmp .ge 26, 3) := dk_162 0 26 (dk_at dksX2_counted_8 12 rfl rfl)
theorem dX2_counted_224 : decode cX2_counted 224 = .ok (.iload_n 2, 1) := dk_28 (dk_at dksX2_counted_8 15 rfl rfl)
theorem dX2_counted_225 : decode cX2_counted 225 = .ok (.aload_n 0, 1) := dk_42 (dk_at dksX2_counted_8 16 rfl rfl)
theorem dX2_counted_226 : decode cX2_counted 226 = .ok (.getfield 59, 3) := dk_180 0 59 (dk_at dksX2_counted_8 17 rfl rfl)
theorem dX2_counted_229 : decode cX2_counted 229 = .ok (.iload_n 3, 1) := dk_29 (dk_at dksX2_counted_8 20 rfl rfl)
theorem dX2_counted_230 : decode cX2_counted 230 = .ok (.iaload, 1) := dk_46 (dk_at dksX2_counted_8 21 rfl rfl)
theorem dX2_counted_231 : decode cX2_counted 231 = .ok (.ifCond .lt 7, 3) := dk_155 0 7 (dk_at dksX2_counted_9 0 rfl rfl)
theorem dX2_counted_234 : decode cX2_counted 234 = .ok (.iconst 1, 1) := dk_4 (dk_at dksX2_counted_9 3 rfl rfl)
theorem dX2_counted_235 : decode cX2_counted 235 = .ok (.goto 4, 3) := dk_167 0 4 (dk_at dksX2_counted_9 4 rfl rfl)
theorem dX2_counted_238 : decode cX2_counted 238 = .ok (.iconst 0, 1) := dk_3 (dk_at dksX2_counted_9 7 rfl rfl)
theorem dX2_counted_239 : decode cX2_counted 239 = .ok (.iadd, 1) := dk_96 (dk_at dksX2_counted_9 8 rfl rfl)
theorem dX2_counted_240 : decode cX2_counted 240 = .ok (.istore_n 2, 1) := dk_61 (dk_at dksX2_counted_9 9 rfl rfl)
theorem dX2_counted_241 : decode cX2_counted 241 = .ok (.iinc 3 1, 3) := dk_132 3 1 (dk_at dksX2_counted_9 10 rfl rfl)
theorem dX2_counted_244 : decode cX2_counted 244 = .ok (.goto (-25), 3) := dk_167 255 231 (dk_at dksX2_counted_9 13 rfl rfl)
theorem dX2_counted_247 : decode cX2_counted 247 = .ok (.iload_n 2, 1) := dk_28 (dk_at dksX2_counted_9 16 rfl rfl)
theorem dX2_counted_248 : decode cX2_counted 248 = .ok (.ireturn, 1) := dk_172 (dk_at dksX2_counted_9 17 rfl rfl)
abbrev cX2_allTaken : ByteArray := prog_13_method_92_code
def yX2_allTaken : MethodName := ⟨RX2, "allTaken", "()I"⟩
def dkwX2_allTaken_1 : List UInt8 := [167, 255, 237, 27, 172]
abbrev dktX2_allTaken_1 : List UInt8 := dkwX2_allTaken_1 ++ []
def dkwX2_allTaken_0 : List UInt8 := [3, 60, 3, 61, 28, 42, 182, 1, 14, 162, 0, 17, 27, 42, 28, 182, 1, 58, 96, 60, 132, 2, 1]
abbrev dktX2_allTaken_0 : List UInt8 := dkwX2_allTaken_0 ++ dktX2_allTaken_1
theorem dksX2_allTaken_0 : cX2_allTaken.data.toList.drop 0 = dktX2_allTaken_0 := by decide +kernel
theorem dksX2_allTaken_1 : cX2_allTaken.data.toList.drop 23 = dktX2_allTaken_1 := dk_seg dksX2_allTaken_0 23 rfl rfl
theorem dX2_allTaken_0 : decode cX2_allTaken 0 = .ok (.iconst 0, 1) := dk_3 (dk_at dksX2_allTaken_0 0 rfl rfl)
theorem dX2_allTaken_1 : decode cX2_allTaken 1 = .ok (.istore_n 1, 1) := dk_60 (dk_at dksX2_allTaken_0 1 rfl rfl)
theorem dX2_allTaken_2 : decode cX2_allTaken 2 = .ok (.iconst 0, 1) := dk_3 (dk_at dksX2_allTaken_0 2 rfl rfl)
theorem dX2_allTaken_3 : decode cX2_allTaken 3 = .ok (.istore_n 2, 1) := dk_61 (dk_at dksX2_allTaken_0 3 rfl rfl)
theorem dX2_allTaken_4 : decode cX2_allTaken 4 = .ok (.iload_n 2, 1) := dk_28 (dk_at dksX2_allTaken_0 4 rfl rfl)
theorem dX2_allTaken_5 : decode cX2_allTaken 5 = .ok (.aload_n 0, 1) := dk_42 (dk_at dksX2_allTaken_0 5 rfl rfl)
theorem dX2_allTaken_6 : decode cX2_allTaken 6 = .ok (.invokevirtual 270, 3) := dk_182 1 14 (dk_at dksX2_allTaken_0 6 rfl rfl)
theorem dX2_allTaken_9 : decode cX2_allTaken 9 = .ok (.if_icmp .ge 17, 3) := dk_162 0 17 (dk_at dksX2_allTaken_0 9 rfl rfl)
theorem dX2_allTaken_12 : decode cX2_allTaken 12 = .ok (.iload_n 1, 1) := dk_27 (dk_at dksX2_allTaken_0 12 rfl rfl)
theorem dX2_allTaken_13 : decode cX2_allTaken 13 = .ok (.aload_n 0, 1) := dk_42 (dk_at dksX2_allTaken_0 13 rfl rfl)
theorem dX2_allTaken_14 : decode cX2_allTaken 14 = .ok (.iload_n 2, 1) := dk_28 (dk_at dksX2_allTaken_0 14 rfl rfl)
theorem dX2_allTaken_15 : decode cX2_allTaken 15 = .ok (.invokevirtual 314, 3) := dk_182 1 58 (dk_at dksX2_allTaken_0 15 rfl rfl)
theorem dX2_allTaken_18 : decode cX2_allTaken 18 = .ok (.iadd, 1) := dk_96 (dk_at dksX2_allTaken_0 18 rfl rfl)
theorem dX2_allTaken_19 : decode cX2_allTaken 19 = .ok (.istore_n 1, 1) := dk_60 (dk_at dksX2_allTaken_0 19 rfl rfl)
theorem dX2_allTaken_20 : decode cX2_allTaken 20 = .ok (.iinc 2 1, 3) := dk_132 2 1 (dk_at dksX2_allTaken_0 20 rfl rfl)
theorem dX2_allTaken_23 : decode cX2_allTaken 23 = .ok (.goto (-19), 3) := dk_167 255 237 (dk_at dksX2_allTaken_1 0 rfl rfl)
theorem dX2_allTaken_26 : decode cX2_allTaken 26 = .ok (.iload_n 1, 1) := dk_27 (dk_at dksX2_allTaken_1 3 rfl rfl)
theorem dX2_allTaken_27 : decode cX2_allTaken 27 = .ok (.ireturn, 1) := dk_172 (dk_at dksX2_allTaken_1 4 rfl rfl)
abbrev cX2_allFree : ByteArray := prog_13_method_93_code
def yX2_allFree : MethodName := ⟨RX2, "allFree", "()I"⟩
def dkwX2_allFree_1 : List UInt8 := [132, 2, 1, 167, 255, 233, 27, 172]
abbrev dktX2_allFree_1 : List UInt8 := dkwX2_allFree_1 ++ []
def dkwX2_allFree_0 : List UInt8 := [3, 60, 3, 61, 28, 42, 182, 1, 14, 162, 0, 21, 42, 28, 182, 1, 18, 27, 42, 180, 0, 242, 96, 60]
abbrev dktX2_allFree_0 : List UInt8 := dkwX2_allFree_0 ++ dktX2_allFree_1
theorem dksX2_allFree_0 : cX2_allFree.data.toList.drop 0 = dktX2_allFree_0 := by decide +kernel
theorem dksX2_allFree_1 : cX2_allFree.data.toList.drop 24 = dktX2_allFree_1 := dk_seg dksX2_allFree_0 24 rfl rfl
theorem dX2_allFree_0 : decode cX2_allFree 0 = .ok (.iconst 0, 1) := dk_3 (dk_at dksX2_allFree_0 0 rfl rfl)
theorem dX2_allFree_1 : decode cX2_allFree 1 = .ok (.istore_n 1, 1) := dk_60 (dk_at dksX2_allFree_0 1 rfl rfl)
theorem dX2_allFree_2 : decode cX2_allFree 2 = .ok (.iconst 0, 1) := dk_3 (dk_at dksX2_allFree_0 2 rfl rfl)
theorem dX2_allFree_3 : decode cX2_allFree 3 = .ok (.istore_n 2, 1) := dk_61 (dk_at dksX2_allFree_0 3 rfl rfl)
theorem dX2_allFree_4 : decode cX2_allFree 4 = .ok (.iload_n 2, 1) := dk_28 (dk_at dksX2_allFree_0 4 rfl rfl)
theorem dX2_allFree_5 : decode cX2_allFree 5 = .ok (.aload_n 0, 1) := dk_42 (dk_at dksX2_allFree_0 5 rfl rfl)
theorem dX2_allFree_6 : decode cX2_allFree 6 = .ok (.invokevirtual 270, 3) := dk_182 1 14 (dk_at dksX2_allFree_0 6 rfl rfl)
theorem dX2_allFree_9 : decode cX2_allFree 9 = .ok (.if_icmp .ge 21, 3) := dk_162 0 21 (dk_at dksX2_allFree_0 9 rfl rfl)
theorem dX2_allFree_12 : decode cX2_allFree 12 = .ok (.aload_n 0, 1) := dk_42 (dk_at dksX2_allFree_0 12 rfl rfl)
theorem dX2_allFree_13 : decode cX2_allFree 13 = .ok (.iload_n 2, 1) := dk_28 (dk_at dksX2_allFree_0 13 rfl rfl)
theorem dX2_allFree_14 : decode cX2_allFree 14 = .ok (.invokevirtual 274, 3) := dk_182 1 18 (dk_at dksX2_allFree_0 14 rfl rfl)
theorem dX2_allFree_17 : decode cX2_allFree 17 = .ok (.iload_n 1, 1) := dk_27 (dk_at dksX2_allFree_0 17 rfl rfl)
theorem dX2_allFree_18 : decode cX2_allFree 18 = .ok (.aload_n 0, 1) := dk_42 (dk_at dksX2_allFree_0 18 rfl rfl)
theorem dX2_allFree_19 : decode cX2_allFree 19 = .ok (.getfield 242, 3) := dk_180 0 242 (dk_at dksX2_allFree_0 19 rfl rfl)
theorem dX2_allFree_22 : decode cX2_allFree 22 = .ok (.iadd, 1) := dk_96 (dk_at dksX2_allFree_0 22 rfl rfl)
theorem dX2_allFree_23 : decode cX2_allFree 23 = .ok (.istore_n 1, 1) := dk_60 (dk_at dksX2_allFree_0 23 rfl rfl)
theorem dX2_allFree_24 : decode cX2_allFree 24 = .ok (.iinc 2 1, 3) := dk_132 2 1 (dk_at dksX2_allFree_1 0 rfl rfl)
theorem dX2_allFree_27 : decode cX2_allFree 27 = .ok (.goto (-23), 3) := dk_167 255 233 (dk_at dksX2_allFree_1 3 rfl rfl)
theorem dX2_allFree_30 : decode cX2_allFree 30 = .ok (.iload_n 1, 1) := dk_27 (dk_at dksX2_allFree_1 6 rfl rfl)
theorem dX2_allFree_31 : decode cX2_allFree 31 = .ok (.ireturn, 1) := dk_172 (dk_at dksX2_allFree_1 7 rfl rfl)
abbrev cX2_digest : ByteArray := prog_13_method_97_code
def yX2_digest : MethodName := ⟨RX2, "digest", "()J"⟩
def dkwX2_digest_11 : List UInt8 := [167, 255, 203, 42, 180, 1, 101, 173]
abbrev dktX2_digest_11 : List UInt8 := dkwX2_digest_11 ++ []
def dkwX2_digest_10 : List UInt8 := [180, 0, 25, 16, 120, 27, 104, 28, 96, 51, 133, 182, 1, 107, 132, 2, 1, 167, 255, 227, 132, 1, 1]
abbrev dktX2_digest_10 : List UInt8 := dkwX2_digest_10 ++ dktX2_digest_11
def dkwX2_digest_9 : List UInt8 := [180, 0, 22, 27, 46, 133, 182, 1, 107, 3, 61, 28, 42, 180, 0, 22, 27, 46, 162, 0, 25, 42, 42]
abbrev dktX2_digest_9 : List UInt8 := dkwX2_digest_9 ++ dktX2_digest_10
def dkwX2_digest_8 : List UInt8 := [182, 1, 107, 132, 2, 1, 167, 255, 232, 132, 1, 1, 167, 255, 207, 3, 60, 27, 7, 162, 0, 54, 42, 42]
abbrev dktX2_digest_8 : List UInt8 := dkwX2_digest_8 ++ dktX2_digest_9
def dkwX2_digest_7 : List UInt8 := [133, 182, 1, 107, 3, 61, 28, 42, 180, 0, 13, 27, 46, 162, 0, 20, 42, 42, 27, 28, 182, 0, 87, 133]
abbrev dktX2_digest_7 : List UInt8 := dkwX2_digest_7 ++ dktX2_digest_8
def dkwX2_digest_6 : List UInt8 := [182, 1, 107, 132, 1, 1, 167, 255, 237, 3, 60, 27, 16, 6, 162, 0, 49, 42, 42, 180, 0, 13, 27, 46]
abbrev dktX2_digest_6 : List UInt8 := dkwX2_digest_6 ++ dktX2_digest_7
def dkwX2_digest_5 : List UInt8 := [167, 255, 207, 132, 1, 1, 167, 255, 167, 3, 60, 27, 6, 162, 0, 20, 42, 42, 180, 0, 59, 27, 46, 133]
abbrev dktX2_digest_5 : List UInt8 := dkwX2_digest_5 ++ dktX2_digest_6
def dkwX2_digest_4 : List UInt8 := [42, 180, 0, 35, 7, 27, 104, 28, 96, 46, 133, 167, 0, 6, 20, 1, 111, 182, 1, 107, 132, 2, 1]
abbrev dktX2_digest_4 : List UInt8 := dkwX2_digest_4 ++ dktX2_digest_5
def dkwX2_digest_3 : List UInt8 := [27, 182, 0, 232, 153, 0, 7, 7, 167, 0, 4, 4, 162, 0, 38, 42, 42, 27, 182, 0, 232, 153, 0, 17]
abbrev dktX2_digest_3 : List UInt8 := dkwX2_digest_3 ++ dktX2_digest_4
def dkwX2_digest_2 : List UInt8 := [162, 0, 20, 42, 42, 27, 28, 182, 0, 226, 133, 182, 1, 107, 132, 2, 1, 167, 255, 237, 3, 61, 28, 42]
abbrev dktX2_digest_2 : List UInt8 := dkwX2_digest_2 ++ dktX2_digest_3
def dkwX2_digest_1 : List UInt8 := [182, 1, 107, 132, 1, 1, 167, 255, 237, 3, 60, 27, 42, 180, 0, 179, 162, 0, 87, 3, 61, 28, 8]
abbrev dktX2_digest_1 : List UInt8 := dkwX2_digest_1 ++ dktX2_digest_2
def dkwX2_digest_0 : List UInt8 := [42, 20, 1, 105, 181, 1, 101, 3, 60, 27, 16, 14, 162, 0, 19, 42, 42, 27, 182, 1, 96, 133]
abbrev dktX2_digest_0 : List UInt8 := dkwX2_digest_0 ++ dktX2_digest_1
theorem dksX2_digest_0 : cX2_digest.data.toList.drop 0 = dktX2_digest_0 := by decide +kernel
theorem dksX2_digest_1 : cX2_digest.data.toList.drop 22 = dktX2_digest_1 := dk_seg dksX2_digest_0 22 rfl rfl
theorem dksX2_digest_2 : cX2_digest.data.toList.drop 45 = dktX2_digest_2 := dk_seg dksX2_digest_1 23 rfl rfl
theorem dksX2_digest_3 : cX2_digest.data.toList.drop 69 = dktX2_digest_3 := dk_seg dksX2_digest_2 24 rfl rfl
theorem dksX2_digest_4 : cX2_digest.data.toList.drop 93 = dktX2_digest_4 := dk_seg dksX2_digest_3 24 rfl rfl
theorem dksX2_digest_5 : cX2_digest.data.toList.drop 116 = dktX2_digest_5 := dk_seg dksX2_digest_4 23 rfl rfl
theorem dksX2_digest_6 : cX2_digest.data.toList.drop 140 = dktX2_digest_6 := dk_seg dksX2_digest_5 24 rfl rfl
theorem dksX2_digest_7 : cX2_digest.data.toList.drop 164 = dktX2_digest_7 := dk_seg dksX2_digest_6 24 rfl rfl
theorem dksX2_digest_8 : cX2_digest.data.toList.drop 188 = dktX2_digest_8 := dk_seg dksX2_digest_7 24 rfl rfl
theorem dksX2_digest_9 : cX2_digest.data.toList.drop 212 = dktX2_digest_9 := dk_seg dksX2_digest_8 24 rfl rfl
theorem dksX2_digest_10 : cX2_digest.data.toList.drop 235 = dktX2_digest_10 := dk_seg dksX2_digest_9 23 rfl rfl
theorem dksX2_digest_11 : cX2_digest.data.toList.drop 258 = dktX2_digest_11 := dk_seg dksX2_digest_10 23 rfl rfl
theorem dX2_digest_0 : decode cX2_digest 0 = .ok (.aload_n 0, 1) := dk_42 (dk_at dksX2_digest_0 0 rfl rfl)
theorem dX2_digest_1 : decode cX2_digest 1 = .ok (.ldc2_w 361, 3) := dk_20 1 105 (dk_at dksX2_digest_0 1 rfl rfl)
theorem dX2_digest_4 : decode cX2_digest 4 = .ok (.putfield 357, 3) := dk_181 1 101 (dk_at dksX2_digest_0 4 rfl rfl)
theorem dX2_digest_7 : decode cX2_digest 7 = .ok (.iconst 0, 1) := dk_3 (dk_at dksX2_digest_0 7 rfl rfl)
theorem dX2_digest_8 : decode cX2_digest 8 = .ok (.istore_n 1, 1) := dk_60 (dk_at dksX2_digest_0 8 rfl rfl)
theorem dX2_digest_9 : decode cX2_digest 9 = .ok (.iload_n 1, 1) := dk_27 (dk_at dksX2_digest_0 9 rfl rfl)
theorem dX2_digest_10 : decode cX2_digest 10 = .ok (.bipush 14, 2) := dk_16 14 (dk_at dksX2_digest_0 10 rfl rfl)
theorem dX2_digest_12 : decode cX2_digest 12 = .ok (.if_icmp .ge 19, 3) := dk_162 0 19 (dk_at dksX2_digest_0 12 rfl rfl)
theorem dX2_digest_15 : decode cX2_digest 15 = .ok (.aload_n 0, 1) := dk_42 (dk_at dksX2_digest_0 15 rfl rfl)
theorem dX2_digest_16 : decode cX2_digest 16 = .ok (.aload_n 0, 1) := dk_42 (dk_at dksX2_digest_0 16 rfl rfl)
theorem dX2_digest_17 : decode cX2_digest 17 = .ok (.iload_n 1, 1) := dk_27 (dk_at dksX2_digest_0 17 rfl rfl)
theorem dX2_digest_18 : decode cX2_digest 18 = .ok (.invokevirtual 352, 3) := dk_182 1 96 (dk_at dksX2_digest_0 18 rfl rfl)
theorem dX2_digest_21 : decode cX2_digest 21 = .ok (.i2l, 1) := dk_133 (dk_at dksX2_digest_0 21 rfl rfl)
theorem dX2_digest_22 : decode cX2_digest 22 = .ok (.invokevirtual 363, 3) := dk_182 1 107 (dk_at dksX2_digest_1 0 rfl rfl)
theorem dX2_digest_25 : decode cX2_digest 25 = .ok (.iinc 1 1, 3) := dk_132 1 1 (dk_at dksX2_digest_1 3 rfl rfl)
theorem dX2_digest_28 : decode cX2_digest 28 = .ok (.goto (-19), 3) := dk_167 255 237 (dk_at dksX2_digest_1 6 rfl rfl)
theorem dX2_digest_31 : decode cX2_digest 31 = .ok (.iconst 0, 1) := dk_3 (dk_at dksX2_digest_1 9 rfl rfl)
theorem dX2_digest_32 : decode cX2_digest 32 = .ok (.istore_n 1, 1) := dk_60 (dk_at dksX2_digest_1 10 rfl rfl)
theorem dX2_digest_33 : decode cX2_digest 33 = .ok (.iload_n 1, 1) := dk_27 (dk_at dksX2_digest_1 11 rfl rfl)
theorem dX2_digest_34 : decode cX2_digest 34 = .ok (.aload_n 0, 1) := dk_42 (dk_at dksX2_digest_1 12 rfl rfl)
theorem dX2_digest_35 : decode cX2_digest 35 = .ok (.getfield 179, 3) := dk_180 0 179 (dk_at dksX2_digest_1 13 rfl rfl)
theorem dX2_digest_38 : decode cX2_digest 38 = .ok (.if_icmp .ge 87, 3) := dk_162 0 87 (dk_at dksX2_digest_1 16 rfl rfl)
theorem dX2_digest_41 : decode cX2_digest 41 = .ok (.iconst 0, 1) := dk_3 (dk_at dksX2_digest_1 19 rfl rfl)
theorem dX2_digest_42 : decode cX2_digest 42 = .ok (.istore_n 2, 1) := dk_61 (dk_at dksX2_digest_1 20 rfl rfl)
theorem dX2_digest_43 : decode cX2_digest 43 = .ok (.iload_n 2, 1) := dk_28 (dk_at dksX2_digest_1 21 rfl rfl)
theorem dX2_digest_44 : decode cX2_digest 44 = .ok (.iconst 5, 1) := dk_8 (dk_at dksX2_digest_1 22 rfl rfl)
theorem dX2_digest_45 : decode cX2_digest 45 = .ok (.if_icmp .ge 20, 3) := dk_162 0 20 (dk_at dksX2_digest_2 0 rfl rfl)
theorem dX2_digest_48 : decode cX2_digest 48 = .ok (.aload_n 0, 1) := dk_42 (dk_at dksX2_digest_2 3 rfl rfl)
theorem dX2_digest_49 : decode cX2_digest 49 = .ok (.aload_n 0, 1) := dk_42 (dk_at dksX2_digest_2 4 rfl rfl)
theorem dX2_digest_50 : decode cX2_digest 50 = .ok (.iload_n 1, 1) := dk_27 (dk_at dksX2_digest_2 5 rfl rfl)
theorem dX2_digest_51 : decode cX2_digest 51 = .ok (.iload_n 2, 1) := dk_28 (dk_at dksX2_digest_2 6 rfl rfl)
theorem dX2_digest_52 : decode cX2_digest 52 = .ok (.invokevirtual 226, 3) := dk_182 0 226 (dk_at dksX2_digest_2 7 rfl rfl)
theorem dX2_digest_55 : decode cX2_digest 55 = .ok (.i2l, 1) := dk_133 (dk_at dksX2_digest_2 10 rfl rfl)
theorem dX2_digest_56 : decode cX2_digest 56 = .ok (.invokevirtual 363, 3) := dk_182 1 107 (dk_at dksX2_digest_2 11 rfl rfl)
theorem dX2_digest_59 : decode cX2_digest 59 = .ok (.iinc 2 1, 3) := dk_132 2 1 (dk_at dksX2_digest_2 14 rfl rfl)
theorem dX2_digest_62 : decode cX2_digest 62 = .ok (.goto (-19), 3) := dk_167 255 237 (dk_at dksX2_digest_2 17 rfl rfl)
theorem dX2_digest_65 : decode cX2_digest 65 = .ok (.iconst 0, 1) := dk_3 (dk_at dksX2_digest_2 20 rfl rfl)
theorem dX2_digest_66 : decode cX2_digest 66 = .ok (.istore_n 2, 1) := dk_61 (dk_at dksX2_digest_2 21 rfl rfl)
theorem dX2_digest_67 : decode cX2_digest 67 = .ok (.iload_n 2, 1) := dk_28 (dk_at dksX2_digest_2 22 rfl rfl)
theorem dX2_digest_68 : decode cX2_digest 68 = .ok (.aload_n 0, 1) := dk_42 (dk_at dksX2_digest_2 23 rfl rfl)
theorem dX2_digest_69 : decode cX2_digest 69 = .ok (.iload_n 1, 1) := dk_27 (dk_at dksX2_digest_3 0 rfl rfl)
theorem dX2_digest_70 : decode cX2_digest 70 = .ok (.invokevirtual 232, 3) := dk_182 0 232 (dk_at dksX2_digest_3 1 rfl rfl)
theorem dX2_digest_73 : decode cX2_digest 73 = .ok (.ifCond .eq 7, 3) := dk_153 0 7 (dk_at dksX2_digest_3 4 rfl rfl)
theorem dX2_digest_76 : decode cX2_digest 76 = .ok (.iconst 4, 1) := dk_7 (dk_at dksX2_digest_3 7 rfl rfl)
theorem dX2_digest_77 : decode cX2_digest 77 = .ok (.goto 4, 3) := dk_167 0 4 (dk_at dksX2_digest_3 8 rfl rfl)
theorem dX2_digest_80 : decode cX2_digest 80 = .ok (.iconst 1, 1) := dk_4 (dk_at dksX2_digest_3 11 rfl rfl)
theorem dX2_digest_81 : decode cX2_digest 81 = .ok (.if_icmp .ge 38, 3) := dk_162 0 38 (dk_at dksX2_digest_3 12 rfl rfl)
theorem dX2_digest_84 : decode cX2_digest 84 = .ok (.aload_n 0, 1) := dk_42 (dk_at dksX2_digest_3 15 rfl rfl)
theorem dX2_digest_85 : decode cX2_digest 85 = .ok (.aload_n 0, 1) := dk_42 (dk_at dksX2_digest_3 16 rfl rfl)
theorem dX2_digest_86 : decode cX2_digest 86 = .ok (.iload_n 1, 1) := dk_27 (dk_at dksX2_digest_3 17 rfl rfl)
theorem dX2_digest_87 : decode cX2_digest 87 = .ok (.invokevirtual 232, 3) := dk_182 0 232 (dk_at dksX2_digest_3 18 rfl rfl)
theorem dX2_digest_90 : decode cX2_digest 90 = .ok (.ifCond .eq 17, 3) := dk_153 0 17 (dk_at dksX2_digest_3 21 rfl rfl)
theorem dX2_digest_93 : decode cX2_digest 93 = .ok (.aload_n 0, 1) := dk_42 (dk_at dksX2_digest_4 0 rfl rfl)
theorem dX2_digest_94 : decode cX2_digest 94 = .ok (.getfield 35, 3) := dk_180 0 35 (dk_at dksX2_digest_4 1 rfl rfl)
theorem dX2_digest_97 : decode cX2_digest 97 = .ok (.iconst 4, 1) := dk_7 (dk_at dksX2_digest_4 4 rfl rfl)
theorem dX2_digest_98 : decode cX2_digest 98 = .ok (.iload_n 1, 1) := dk_27 (dk_at dksX2_digest_4 5 rfl rfl)
theorem dX2_digest_99 : decode cX2_digest 99 = .ok (.imul, 1) := dk_104 (dk_at dksX2_digest_4 6 rfl rfl)
theorem dX2_digest_100 : decode cX2_digest 100 = .ok (.iload_n 2, 1) := dk_28 (dk_at dksX2_digest_4 7 rfl rfl)
theorem dX2_digest_101 : decode cX2_digest 101 = .ok (.iadd, 1) := dk_96 (dk_at dksX2_digest_4 8 rfl rfl)
theorem dX2_digest_102 : decode cX2_digest 102 = .ok (.iaload, 1) := dk_46 (dk_at dksX2_digest_4 9 rfl rfl)
theorem dX2_digest_103 : decode cX2_digest 103 = .ok (.i2l, 1) := dk_133 (dk_at dksX2_digest_4 10 rfl rfl)
theorem dX2_digest_104 : decode cX2_digest 104 = .ok (.goto 6, 3) := dk_167 0 6 (dk_at dksX2_digest_4 11 rfl rfl)
theorem dX2_digest_107 : decode cX2_digest 107 = .ok (.ldc2_w 367, 3) := dk_20 1 111 (dk_at dksX2_digest_4 14 rfl rfl)
theorem dX2_digest_110 : decode cX2_digest 110 = .ok (.invokevirtual 363, 3) := dk_182 1 107 (dk_at dksX2_digest_4 17 rfl rfl)
theorem dX2_digest_113 : decode cX2_digest 113 = .ok (.iinc 2 1, 3) := dk_132 2 1 (dk_at dksX2_digest_4 20 rfl rfl)
theorem dX2_digest_116 : decode cX2_digest 116 = .ok (.goto (-49), 3) := dk_167 255 207 (dk_at dksX2_digest_5 0 rfl rfl)
theorem dX2_digest_119 : decode cX2_digest 119 = .ok (.iinc 1 1, 3) := dk_132 1 1 (dk_at dksX2_digest_5 3 rfl rfl)
theorem dX2_digest_122 : decode cX2_digest 122 = .ok (.goto (-89), 3) := dk_167 255 167 (dk_at dksX2_digest_5 6 rfl rfl)
theorem dX2_digest_125 : decode cX2_digest 125 = .ok (.iconst 0, 1) := dk_3 (dk_at dksX2_digest_5 9 rfl rfl)
theorem dX2_digest_126 : decode cX2_digest 126 = .ok (.istore_n 1, 1) := dk_60 (dk_at dksX2_digest_5 10 rfl rfl)
theorem dX2_digest_127 : decode cX2_digest 127 = .ok (.iload_n 1, 1) := dk_27 (dk_at dksX2_digest_5 11 rfl rfl)
theorem dX2_digest_128 : decode cX2_digest 128 = .ok (.iconst 3, 1) := dk_6 (dk_at dksX2_digest_5 12 rfl rfl)
theorem dX2_digest_129 : decode cX2_digest 129 = .ok (.if_icmp .ge 20, 3) := dk_162 0 20 (dk_at dksX2_digest_5 13 rfl rfl)
theorem dX2_digest_132 : decode cX2_digest 132 = .ok (.aload_n 0, 1) := dk_42 (dk_at dksX2_digest_5 16 rfl rfl)
theorem dX2_digest_133 : decode cX2_digest 133 = .ok (.aload_n 0, 1) := dk_42 (dk_at dksX2_digest_5 17 rfl rfl)
theorem dX2_digest_134 : decode cX2_digest 134 = .ok (.getfield 59, 3) := dk_180 0 59 (dk_at dksX2_digest_5 18 rfl rfl)
theorem dX2_digest_137 : decode cX2_digest 137 = .ok (.iload_n 1, 1) := dk_27 (dk_at dksX2_digest_5 21 rfl rfl)
theorem dX2_digest_138 : decode cX2_digest 138 = .ok (.iaload, 1) := dk_46 (dk_at dksX2_digest_5 22 rfl rfl)
theorem dX2_digest_139 : decode cX2_digest 139 = .ok (.i2l, 1) := dk_133 (dk_at dksX2_digest_5 23 rfl rfl)
theorem dX2_digest_140 : decode cX2_digest 140 = .ok (.invokevirtual 363, 3) := dk_182 1 107 (dk_at dksX2_digest_6 0 rfl rfl)
theorem dX2_digest_143 : decode cX2_digest 143 = .ok (.iinc 1 1, 3) := dk_132 1 1 (dk_at dksX2_digest_6 3 rfl rfl)
theorem dX2_digest_146 : decode cX2_digest 146 = .ok (.goto (-19), 3) := dk_167 255 237 (dk_at dksX2_digest_6 6 rfl rfl)
theorem dX2_digest_149 : decode cX2_digest 149 = .ok (.iconst 0, 1) := dk_3 (dk_at dksX2_digest_6 9 rfl rfl)
theorem dX2_digest_150 : decode cX2_digest 150 = .ok (.istore_n 1, 1) := dk_60 (dk_at dksX2_digest_6 10 rfl rfl)
theorem dX2_digest_151 : decode cX2_digest 151 = .ok (.iload_n 1, 1) := dk_27 (dk_at dksX2_digest_6 11 rfl rfl)
theorem dX2_digest_152 : decode cX2_digest 152 = .ok (.bipush 6, 2) := dk_16 6 (dk_at dksX2_digest_6 12 rfl rfl)
theorem dX2_digest_154 : decode cX2_digest 154 = .ok (.if_icmp .ge 49, 3) := dk_162 0 49 (dk_at dksX2_digest_6 14 rfl rfl)
theorem dX2_digest_157 : decode cX2_digest 157 = .ok (.aload_n 0, 1) := dk_42 (dk_at dksX2_digest_6 17 rfl rfl)
theorem dX2_digest_158 : decode cX2_digest 158 = .ok (.aload_n 0, 1) := dk_42 (dk_at dksX2_digest_6 18 rfl rfl)
theorem dX2_digest_159 : decode cX2_digest 159 = .ok (.getfield 13, 3) := dk_180 0 13 (dk_at dksX2_digest_6 19 rfl rfl)
theorem dX2_digest_162 : decode cX2_digest 162 = .ok (.iload_n 1, 1) := dk_27 (dk_at dksX2_digest_6 22 rfl rfl)
theorem dX2_digest_163 : decode cX2_digest 163 = .ok (.iaload, 1) := dk_46 (dk_at dksX2_digest_6 23 rfl rfl)
theorem dX2_digest_164 : decode cX2_digest 164 = .ok (.i2l, 1) := dk_133 (dk_at dksX2_digest_7 0 rfl rfl)
theorem dX2_digest_165 : decode cX2_digest 165 = .ok (.invokevirtual 363, 3) := dk_182 1 107 (dk_at dksX2_digest_7 1 rfl rfl)
theorem dX2_digest_168 : decode cX2_digest 168 = .ok (.iconst 0, 1) := dk_3 (dk_at dksX2_digest_7 4 rfl rfl)
theorem dX2_digest_169 : decode cX2_digest 169 = .ok (.istore_n 2, 1) := dk_61 (dk_at dksX2_digest_7 5 rfl rfl)
theorem dX2_digest_170 : decode cX2_digest 170 = .ok (.iload_n 2, 1) := dk_28 (dk_at dksX2_digest_7 6 rfl rfl)
theorem dX2_digest_171 : decode cX2_digest 171 = .ok (.aload_n 0, 1) := dk_42 (dk_at dksX2_digest_7 7 rfl rfl)
theorem dX2_digest_172 : decode cX2_digest 172 = .ok (.getfield 13, 3) := dk_180 0 13 (dk_at dksX2_digest_7 8 rfl rfl)
theorem dX2_digest_175 : decode cX2_digest 175 = .ok (.iload_n 1, 1) := dk_27 (dk_at dksX2_digest_7 11 rfl rfl)
theorem dX2_digest_176 : decode cX2_digest 176 = .ok (.iaload, 1) := dk_46 (dk_at dksX2_digest_7 12 rfl rfl)
theorem dX2_digest_177 : decode cX2_digest 177 = .ok (.if_icmp .ge 20, 3) := dk_162 0 20 (dk_at dksX2_digest_7 13 rfl rfl)
theorem dX2_digest_180 : decode cX2_digest 180 = .ok (.aload_n 0, 1) := dk_42 (dk_at dksX2_digest_7 16 rfl rfl)
theorem dX2_digest_181 : decode cX2_digest 181 = .ok (.aload_n 0, 1) := dk_42 (dk_at dksX2_digest_7 17 rfl rfl)
theorem dX2_digest_182 : decode cX2_digest 182 = .ok (.iload_n 1, 1) := dk_27 (dk_at dksX2_digest_7 18 rfl rfl)
theorem dX2_digest_183 : decode cX2_digest 183 = .ok (.iload_n 2, 1) := dk_28 (dk_at dksX2_digest_7 19 rfl rfl)
theorem dX2_digest_184 : decode cX2_digest 184 = .ok (.invokevirtual 87, 3) := dk_182 0 87 (dk_at dksX2_digest_7 20 rfl rfl)
theorem dX2_digest_187 : decode cX2_digest 187 = .ok (.i2l, 1) := dk_133 (dk_at dksX2_digest_7 23 rfl rfl)
theorem dX2_digest_188 : decode cX2_digest 188 = .ok (.invokevirtual 363, 3) := dk_182 1 107 (dk_at dksX2_digest_8 0 rfl rfl)
theorem dX2_digest_191 : decode cX2_digest 191 = .ok (.iinc 2 1, 3) := dk_132 2 1 (dk_at dksX2_digest_8 3 rfl rfl)
theorem dX2_digest_194 : decode cX2_digest 194 = .ok (.goto (-24), 3) := dk_167 255 232 (dk_at dksX2_digest_8 6 rfl rfl)
theorem dX2_digest_197 : decode cX2_digest 197 = .ok (.iinc 1 1, 3) := dk_132 1 1 (dk_at dksX2_digest_8 9 rfl rfl)
theorem dX2_digest_200 : decode cX2_digest 200 = .ok (.goto (-49), 3) := dk_167 255 207 (dk_at dksX2_digest_8 12 rfl rfl)
theorem dX2_digest_203 : decode cX2_digest 203 = .ok (.iconst 0, 1) := dk_3 (dk_at dksX2_digest_8 15 rfl rfl)
theorem dX2_digest_204 : decode cX2_digest 204 = .ok (.istore_n 1, 1) := dk_60 (dk_at dksX2_digest_8 16 rfl rfl)
theorem dX2_digest_205 : decode cX2_digest 205 = .ok (.iload_n 1, 1) := dk_27 (dk_at dksX2_digest_8 17 rfl rfl)
theorem dX2_digest_206 : decode cX2_digest 206 = .ok (.iconst 4, 1) := dk_7 (dk_at dksX2_digest_8 18 rfl rfl)
theorem dX2_digest_207 : decode cX2_digest 207 = .ok (.if_icmp .ge 54, 3) := dk_162 0 54 (dk_at dksX2_digest_8 19 rfl rfl)
theorem dX2_digest_210 : decode cX2_digest 210 = .ok (.aload_n 0, 1) := dk_42 (dk_at dksX2_digest_8 22 rfl rfl)
theorem dX2_digest_211 : decode cX2_digest 211 = .ok (.aload_n 0, 1) := dk_42 (dk_at dksX2_digest_8 23 rfl rfl)
theorem dX2_digest_212 : decode cX2_digest 212 = .ok (.getfield 22, 3) := dk_180 0 22 (dk_at dksX2_digest_9 0 rfl rfl)
theorem dX2_digest_215 : decode cX2_digest 215 = .ok (.iload_n 1, 1) := dk_27 (dk_at dksX2_digest_9 3 rfl rfl)
theorem dX2_digest_216 : decode cX2_digest 216 = .ok (.iaload, 1) := dk_46 (dk_at dksX2_digest_9 4 rfl rfl)
theorem dX2_digest_217 : decode cX2_digest 217 = .ok (.i2l, 1) := dk_133 (dk_at dksX2_digest_9 5 rfl rfl)
theorem dX2_digest_218 : decode cX2_digest 218 = .ok (.invokevirtual 363, 3) := dk_182 1 107 (dk_at dksX2_digest_9 6 rfl rfl)
theorem dX2_digest_221 : decode cX2_digest 221 = .ok (.iconst 0, 1) := dk_3 (dk_at dksX2_digest_9 9 rfl rfl)
theorem dX2_digest_222 : decode cX2_digest 222 = .ok (.istore_n 2, 1) := dk_61 (dk_at dksX2_digest_9 10 rfl rfl)
theorem dX2_digest_223 : decode cX2_digest 223 = .ok (.iload_n 2, 1) := dk_28 (dk_at dksX2_digest_9 11 rfl rfl)
theorem dX2_digest_224 : decode cX2_digest 224 = .ok (.aload_n 0, 1) := dk_42 (dk_at dksX2_digest_9 12 rfl rfl)
theorem dX2_digest_225 : decode cX2_digest 225 = .ok (.getfield 22, 3) := dk_180 0 22 (dk_at dksX2_digest_9 13 rfl rfl)
theorem dX2_digest_228 : decode cX2_digest 228 = .ok (.iload_n 1, 1) := dk_27 (dk_at dksX2_digest_9 16 rfl rfl)
theorem dX2_digest_229 : decode cX2_digest 229 = .ok (.iaload, 1) := dk_46 (dk_at dksX2_digest_9 17 rfl rfl)
theorem dX2_digest_230 : decode cX2_digest 230 = .ok (.if_icmp .ge 25, 3) := dk_162 0 25 (dk_at dksX2_digest_9 18 rfl rfl)
theorem dX2_digest_233 : decode cX2_digest 233 = .ok (.aload_n 0, 1) := dk_42 (dk_at dksX2_digest_9 21 rfl rfl)
theorem dX2_digest_234 : decode cX2_digest 234 = .ok (.aload_n 0, 1) := dk_42 (dk_at dksX2_digest_9 22 rfl rfl)
theorem dX2_digest_235 : decode cX2_digest 235 = .ok (.getfield 25, 3) := dk_180 0 25 (dk_at dksX2_digest_10 0 rfl rfl)
theorem dX2_digest_238 : decode cX2_digest 238 = .ok (.bipush 120, 2) := dk_16 120 (dk_at dksX2_digest_10 3 rfl rfl)
theorem dX2_digest_240 : decode cX2_digest 240 = .ok (.iload_n 1, 1) := dk_27 (dk_at dksX2_digest_10 5 rfl rfl)
theorem dX2_digest_241 : decode cX2_digest 241 = .ok (.imul, 1) := dk_104 (dk_at dksX2_digest_10 6 rfl rfl)
theorem dX2_digest_242 : decode cX2_digest 242 = .ok (.iload_n 2, 1) := dk_28 (dk_at dksX2_digest_10 7 rfl rfl)
theorem dX2_digest_243 : decode cX2_digest 243 = .ok (.iadd, 1) := dk_96 (dk_at dksX2_digest_10 8 rfl rfl)
theorem dX2_digest_244 : decode cX2_digest 244 = .ok (.baload, 1) := dk_51 (dk_at dksX2_digest_10 9 rfl rfl)
theorem dX2_digest_245 : decode cX2_digest 245 = .ok (.i2l, 1) := dk_133 (dk_at dksX2_digest_10 10 rfl rfl)
theorem dX2_digest_246 : decode cX2_digest 246 = .ok (.invokevirtual 363, 3) := dk_182 1 107 (dk_at dksX2_digest_10 11 rfl rfl)
theorem dX2_digest_249 : decode cX2_digest 249 = .ok (.iinc 2 1, 3) := dk_132 2 1 (dk_at dksX2_digest_10 14 rfl rfl)
theorem dX2_digest_252 : decode cX2_digest 252 = .ok (.goto (-29), 3) := dk_167 255 227 (dk_at dksX2_digest_10 17 rfl rfl)
theorem dX2_digest_255 : decode cX2_digest 255 = .ok (.iinc 1 1, 3) := dk_132 1 1 (dk_at dksX2_digest_10 20 rfl rfl)
theorem dX2_digest_258 : decode cX2_digest 258 = .ok (.goto (-53), 3) := dk_167 255 203 (dk_at dksX2_digest_11 0 rfl rfl)
theorem dX2_digest_261 : decode cX2_digest 261 = .ok (.aload_n 0, 1) := dk_42 (dk_at dksX2_digest_11 3 rfl rfl)
theorem dX2_digest_262 : decode cX2_digest 262 = .ok (.getfield 357, 3) := dk_180 1 101 (dk_at dksX2_digest_11 4 rfl rfl)
theorem dX2_digest_265 : decode cX2_digest 265 = .ok (.lreturn, 1) := dk_173 (dk_at dksX2_digest_11 7 rfl rfl)
abbrev cX2_adds : ByteArray := prog_13_method_96_code
def yX2_adds : MethodName := ⟨RX2, "adds", "(J)V"⟩
def dkwX2_adds_0 : List UInt8 := [42, 20, 1, 99, 42, 180, 1, 101, 105, 31, 97, 181, 1, 101, 177]
abbrev dktX2_adds_0 : List UInt8 := dkwX2_adds_0 ++ []
theorem dksX2_adds_0 : cX2_adds.data.toList.drop 0 = dktX2_adds_0 := by decide +kernel
theorem dX2_adds_0 : decode cX2_adds 0 = .ok (.aload_n 0, 1) := dk_42 (dk_at dksX2_adds_0 0 rfl rfl)
theorem dX2_adds_1 : decode cX2_adds 1 = .ok (.ldc2_w 355, 3) := dk_20 1 99 (dk_at dksX2_adds_0 1 rfl rfl)
theorem dX2_adds_4 : decode cX2_adds 4 = .ok (.aload_n 0, 1) := dk_42 (dk_at dksX2_adds_0 4 rfl rfl)
theorem dX2_adds_5 : decode cX2_adds 5 = .ok (.getfield 357, 3) := dk_180 1 101 (dk_at dksX2_adds_0 5 rfl rfl)
theorem dX2_adds_8 : decode cX2_adds 8 = .ok (.lmul, 1) := dk_105 (dk_at dksX2_adds_0 8 rfl rfl)
theorem dX2_adds_9 : decode cX2_adds 9 = .ok (.lload_n 1, 1) := dk_31 (dk_at dksX2_adds_0 9 rfl rfl)
theorem dX2_adds_10 : decode cX2_adds 10 = .ok (.ladd, 1) := dk_97 (dk_at dksX2_adds_0 10 rfl rfl)
theorem dX2_adds_11 : decode cX2_adds 11 = .ok (.putfield 357, 3) := dk_181 1 101 (dk_at dksX2_adds_0 11 rfl rfl)
theorem dX2_adds_14 : decode cX2_adds 14 = .ok (.return_, 1) := dk_177 (dk_at dksX2_adds_0 14 rfl rfl)
theorem q107 : (Jvm.Cond.initialized "FrameSheetsModel") ∈ lw_all := lw_g (lw_at lw_m1 3 rfl) rfl
theorem q1572 : (Jvm.Cond.instantiable "FrameSheetsModel" (45 : Nat)) ∈ lw_all := lw_g (lw_at lw_m7 28 rfl) rfl
theorem q1574 : (Jvm.Cond.instanceMethod ({ cls := "FrameSheetsModel", name := "<init>", desc := "()V" } : Jvm.MethodName)) ∈ lw_all := lw_g (lw_at lw_m7 30 rfl) rfl
theorem q1575 : (Jvm.Cond.code ({ cls := "FrameSheetsModel", name := "<init>", desc := "()V" } : Jvm.MethodName) prog_13_method_1_code (2 : Nat) (Option.none : Option Jvm.ClassFile.FieldType)) ∈ lw_all := lw_g (lw_at lw_m7 31 rfl) rfl
theorem q1576 : (Jvm.Cond.methodLink "FrameSheetsModel" (1 : Nat) ({ cls := "java/lang/Object", name := "<init>", desc := "()V" } : Jvm.MethodName)) ∈ lw_all := lw_g (lw_at lw_m7 32 rfl) rfl
theorem q1577 : (Jvm.Cond.fieldLink "FrameSheetsModel" (72 : Nat) "FrameSheetsModel" "told" "I") ∈ lw_all := lw_g (lw_at lw_m7 33 rfl) rfl
theorem q1578 : (Jvm.Cond.fieldLink "FrameSheetsModel" (68 : Nat) "FrameSheetsModel" "latest" "I") ∈ lw_all := lw_g (lw_at lw_m7 34 rfl) rfl
theorem q1579 : (Jvm.Cond.fieldLink "FrameSheetsModel" (7 : Nat) "FrameSheetsModel" "came" "[I") ∈ lw_all := lw_g (lw_at lw_m7 35 rfl) rfl
theorem q1580 : (Jvm.Cond.fieldLink "FrameSheetsModel" (13 : Nat) "FrameSheetsModel" "sizes" "[I") ∈ lw_all := lw_g (lw_at lw_m7 36 rfl) rfl
theorem q1581 : (Jvm.Cond.fieldLink "FrameSheetsModel" (16 : Nat) "FrameSheetsModel" "rows" "[I") ∈ lw_all := lw_g (lw_at lw_m7 37 rfl) rfl
theorem q1582 : (Jvm.Cond.fieldLink "FrameSheetsModel" (19 : Nat) "FrameSheetsModel" "copied" "[I") ∈ lw_all := lw_g (lw_at lw_m7 38 rfl) rfl
theorem q1583 : (Jvm.Cond.fieldLink "FrameSheetsModel" (22 : Nat) "FrameSheetsModel" "textSizes" "[I") ∈ lw_all := lw_g (lw_at lw_m7 39 rfl) rfl
theorem q1584 : (Jvm.Cond.fieldLink "FrameSheetsModel" (25 : Nat) "FrameSheetsModel" "bytes" "[B") ∈ lw_all := lw_g (lw_at lw_m7 40 rfl) rfl
theorem q1585 : (Jvm.Cond.fieldLink "FrameSheetsModel" (170 : Nat) "FrameSheetsModel" "wide" "I") ∈ lw_all := lw_g (lw_at lw_m7 41 rfl) rfl
theorem q1586 : (Jvm.Cond.fieldLink "FrameSheetsModel" (173 : Nat) "FrameSheetsModel" "high" "I") ∈ lw_all := lw_g (lw_at lw_m7 42 rfl) rfl
theorem q1587 : (Jvm.Cond.fieldLink "FrameSheetsModel" (176 : Nat) "FrameSheetsModel" "bleed" "I") ∈ lw_all := lw_g (lw_at lw_m7 43 rfl) rfl
theorem q1588 : (Jvm.Cond.fieldLink "FrameSheetsModel" (179 : Nat) "FrameSheetsModel" "frameMany" "I") ∈ lw_all := lw_g (lw_at lw_m7 44 rfl) rfl
theorem q1589 : (Jvm.Cond.fieldLink "FrameSheetsModel" (29 : Nat) "FrameSheetsModel" "given" "[I") ∈ lw_all := lw_g (lw_at lw_m7 45 rfl) rfl
theorem q1590 : (Jvm.Cond.fieldLink "FrameSheetsModel" (97 : Nat) "FrameSheetsModel" "readAt" "I") ∈ lw_all := lw_g (lw_at lw_m7 46 rfl) rfl
theorem q1591 : (Jvm.Cond.fieldLink "FrameSheetsModel" (107 : Nat) "FrameSheetsModel" "tokenAt" "I") ∈ lw_all := lw_g (lw_at lw_m7 47 rfl) rfl
theorem q1592 : (Jvm.Cond.fieldLink "FrameSheetsModel" (110 : Nat) "FrameSheetsModel" "token" "I") ∈ lw_all := lw_g (lw_at lw_m7 48 rfl) rfl
theorem q1593 : (Jvm.Cond.fieldLink "FrameSheetsModel" (119 : Nat) "FrameSheetsModel" "value" "I") ∈ lw_all := lw_g (lw_at lw_m7 49 rfl) rfl
theorem q1594 : (Jvm.Cond.fieldLink "FrameSheetsModel" (122 : Nat) "FrameSheetsModel" "faultAt" "I") ∈ lw_all := lw_g (lw_at lw_m7 50 rfl) rfl
theorem q1595 : (Jvm.Cond.fieldLink "FrameSheetsModel" (135 : Nat) "FrameSheetsModel" "readWide" "I") ∈ lw_all := lw_g (lw_at lw_m7 51 rfl) rfl
theorem q1596 : (Jvm.Cond.fieldLink "FrameSheetsModel" (138 : Nat) "FrameSheetsModel" "readHigh" "I") ∈ lw_all := lw_g (lw_at lw_m7 52 rfl) rfl
theorem q1597 : (Jvm.Cond.fieldLink "FrameSheetsModel" (144 : Nat) "FrameSheetsModel" "readBleed" "I") ∈ lw_all := lw_g (lw_at lw_m7 53 rfl) rfl
theorem q1598 : (Jvm.Cond.fieldLink "FrameSheetsModel" (147 : Nat) "FrameSheetsModel" "readMany" "I") ∈ lw_all := lw_g (lw_at lw_m7 54 rfl) rfl
theorem q1599 : (Jvm.Cond.fieldLink "FrameSheetsModel" (32 : Nat) "FrameSheetsModel" "read" "[I") ∈ lw_all := lw_g (lw_at lw_m7 55 rfl) rfl
theorem q1600 : (Jvm.Cond.fieldLink "FrameSheetsModel" (35 : Nat) "FrameSheetsModel" "now" "[I") ∈ lw_all := lw_g (lw_at lw_m7 56 rfl) rfl
theorem q1601 : (Jvm.Cond.fieldLink "FrameSheetsModel" (188 : Nat) "FrameSheetsModel" "outMany" "I") ∈ lw_all := lw_g (lw_at lw_m7 57 rfl) rfl
theorem q1602 : (Jvm.Cond.fieldLink "FrameSheetsModel" (38 : Nat) "FrameSheetsModel" "out" "[B") ∈ lw_all := lw_g (lw_at lw_m7 58 rfl) rfl
theorem q1603 : (Jvm.Cond.fieldLink "FrameSheetsModel" (41 : Nat) "FrameSheetsModel" "grid" "[I") ∈ lw_all := lw_g (lw_at lw_m7 59 rfl) rfl
theorem q1604 : (Jvm.Cond.fieldLink "FrameSheetsModel" (242 : Nat) "FrameSheetsModel" "freeMany" "I") ∈ lw_all := lw_g (lw_at lw_m7 60 rfl) rfl
theorem q1605 : (Jvm.Cond.fieldLink "FrameSheetsModel" (44 : Nat) "FrameSheetsModel" "freeX" "[I") ∈ lw_all := lw_g (lw_at lw_m7 61 rfl) rfl
theorem q1606 : (Jvm.Cond.fieldLink "FrameSheetsModel" (47 : Nat) "FrameSheetsModel" "freeY" "[I") ∈ lw_all := lw_g (lw_at lw_m7 62 rfl) rfl
theorem q1607 : (Jvm.Cond.fieldLink "FrameSheetsModel" (50 : Nat) "FrameSheetsModel" "freeW" "[I") ∈ lw_all := lw_g (lw_at lw_m7 63 rfl) rfl
theorem q1608 : (Jvm.Cond.fieldLink "FrameSheetsModel" (53 : Nat) "FrameSheetsModel" "freeH" "[I") ∈ lw_all := lw_g (lw_at lw_m7 64 rfl) rfl
theorem q1609 : (Jvm.Cond.fieldLink "FrameSheetsModel" (248 : Nat) "FrameSheetsModel" "bestAt" "I") ∈ lw_all := lw_g (lw_at lw_m7 65 rfl) rfl
theorem q1610 : (Jvm.Cond.fieldLink "FrameSheetsModel" (267 : Nat) "FrameSheetsModel" "bestTurned" "I") ∈ lw_all := lw_g (lw_at lw_m7 66 rfl) rfl
theorem q1611 : (Jvm.Cond.fieldLink "FrameSheetsModel" (261 : Nat) "FrameSheetsModel" "bestFirst" "I") ∈ lw_all := lw_g (lw_at lw_m7 67 rfl) rfl
theorem q1612 : (Jvm.Cond.fieldLink "FrameSheetsModel" (264 : Nat) "FrameSheetsModel" "bestSecond" "I") ∈ lw_all := lw_g (lw_at lw_m7 68 rfl) rfl
theorem q1613 : (Jvm.Cond.fieldLink "FrameSheetsModel" (185 : Nat) "FrameSheetsModel" "deedMany" "I") ∈ lw_all := lw_g (lw_at lw_m7 69 rfl) rfl
theorem q1614 : (Jvm.Cond.fieldLink "FrameSheetsModel" (56 : Nat) "FrameSheetsModel" "log" "[I") ∈ lw_all := lw_g (lw_at lw_m7 70 rfl) rfl
theorem q1615 : (Jvm.Cond.fieldLink "FrameSheetsModel" (59 : Nat) "FrameSheetsModel" "keptMany" "[I") ∈ lw_all := lw_g (lw_at lw_m7 71 rfl) rfl
theorem q1616 : (Jvm.Cond.fieldLink "FrameSheetsModel" (62 : Nat) "FrameSheetsModel" "kept" "[I") ∈ lw_all := lw_g (lw_at lw_m7 72 rfl) rfl
theorem q1617 : (Jvm.Cond.fieldLink "FrameSheetsModel" (65 : Nat) "FrameSheetsModel" "aside" "[I") ∈ lw_all := lw_g (lw_at lw_m7 73 rfl) rfl
theorem q1618 : (Jvm.Cond.fieldLink "FrameSheetsModel" (317 : Nat) "FrameSheetsModel" "wouldPages" "I") ∈ lw_all := lw_g (lw_at lw_m7 74 rfl) rfl
theorem q1619 : (Jvm.Cond.fieldLink "FrameSheetsModel" (320 : Nat) "FrameSheetsModel" "wouldMissing" "I") ∈ lw_all := lw_g (lw_at lw_m7 75 rfl) rfl
theorem q1620 : (Jvm.Cond.fieldLink "FrameSheetsModel" (323 : Nat) "FrameSheetsModel" "wouldLast" "I") ∈ lw_all := lw_g (lw_at lw_m7 76 rfl) rfl
theorem q1621 : (Jvm.Cond.fieldLink "FrameSheetsModel" (357 : Nat) "FrameSheetsModel" "h" "J") ∈ lw_all := lw_g (lw_at lw_m7 77 rfl) rfl
theorem q1622 : (Jvm.Cond.lays "FrameSheetsModel" "FrameSheetsModel" "told" "I") ∈ lw_all := lw_g (lw_at lw_m7 78 rfl) rfl
theorem q1623 : (Jvm.Cond.soleField "FrameSheetsModel" "told") ∈ lw_all := lw_g (lw_at lw_m7 79 rfl) rfl
theorem q1624 : (Jvm.Cond.lays "FrameSheetsModel" "FrameSheetsModel" "latest" "I") ∈ lw_all := lw_g (lw_at lw_m7 80 rfl) rfl
theorem q1625 : (Jvm.Cond.soleField "FrameSheetsModel" "latest") ∈ lw_all := lw_g (lw_at lw_m7 81 rfl) rfl
theorem q1626 : (Jvm.Cond.laysFinal "FrameSheetsModel" "FrameSheetsModel" "came" "[I") ∈ lw_all := lw_g (lw_at lw_m7 82 rfl) rfl
theorem q1627 : (Jvm.Cond.soleField "FrameSheetsModel" "came") ∈ lw_all := lw_g (lw_at lw_m7 83 rfl) rfl
theorem q1628 : (Jvm.Cond.laysFinal "FrameSheetsModel" "FrameSheetsModel" "sizes" "[I") ∈ lw_all := lw_g (lw_at lw_m7 84 rfl) rfl
theorem q1629 : (Jvm.Cond.soleField "FrameSheetsModel" "sizes") ∈ lw_all := lw_g (lw_at lw_m7 85 rfl) rfl
theorem q1630 : (Jvm.Cond.laysFinal "FrameSheetsModel" "FrameSheetsModel" "rows" "[I") ∈ lw_all := lw_g (lw_at lw_m7 86 rfl) rfl
theorem q1631 : (Jvm.Cond.soleField "FrameSheetsModel" "rows") ∈ lw_all := lw_g (lw_at lw_m7 87 rfl) rfl
theorem q1632 : (Jvm.Cond.laysFinal "FrameSheetsModel" "FrameSheetsModel" "copied" "[I") ∈ lw_all := lw_g (lw_at lw_m7 88 rfl) rfl
theorem q1633 : (Jvm.Cond.soleField "FrameSheetsModel" "copied") ∈ lw_all := lw_g (lw_at lw_m7 89 rfl) rfl
theorem q1634 : (Jvm.Cond.laysFinal "FrameSheetsModel" "FrameSheetsModel" "textSizes" "[I") ∈ lw_all := lw_g (lw_at lw_m7 90 rfl) rfl
theorem q1635 : (Jvm.Cond.soleField "FrameSheetsModel" "textSizes") ∈ lw_all := lw_g (lw_at lw_m7 91 rfl) rfl
theorem q1636 : (Jvm.Cond.laysFinal "FrameSheetsModel" "FrameSheetsModel" "bytes" "[B") ∈ lw_all := lw_g (lw_at lw_m7 92 rfl) rfl
theorem q1637 : (Jvm.Cond.soleField "FrameSheetsModel" "bytes") ∈ lw_all := lw_g (lw_at lw_m7 93 rfl) rfl
theorem q1638 : (Jvm.Cond.lays "FrameSheetsModel" "FrameSheetsModel" "wide" "I") ∈ lw_all := lw_g (lw_at lw_m7 94 rfl) rfl
theorem q1639 : (Jvm.Cond.soleField "FrameSheetsModel" "wide") ∈ lw_all := lw_g (lw_at lw_m7 95 rfl) rfl
theorem q1640 : (Jvm.Cond.lays "FrameSheetsModel" "FrameSheetsModel" "high" "I") ∈ lw_all := lw_g (lw_at lw_m7 96 rfl) rfl
theorem q1641 : (Jvm.Cond.soleField "FrameSheetsModel" "high") ∈ lw_all := lw_g (lw_at lw_m7 97 rfl) rfl
theorem q1642 : (Jvm.Cond.lays "FrameSheetsModel" "FrameSheetsModel" "bleed" "I") ∈ lw_all := lw_g (lw_at lw_m7 98 rfl) rfl
theorem q1643 : (Jvm.Cond.soleField "FrameSheetsModel" "bleed") ∈ lw_all := lw_g (lw_at lw_m7 99 rfl) rfl
theorem q1644 : (Jvm.Cond.lays "FrameSheetsModel" "FrameSheetsModel" "frameMany" "I") ∈ lw_all := lw_g (lw_at lw_m7 100 rfl) rfl
theorem q1645 : (Jvm.Cond.soleField "FrameSheetsModel" "frameMany") ∈ lw_all := lw_g (lw_at lw_m7 101 rfl) rfl
theorem q1646 : (Jvm.Cond.laysFinal "FrameSheetsModel" "FrameSheetsModel" "given" "[I") ∈ lw_all := lw_g (lw_at lw_m7 102 rfl) rfl
theorem q1647 : (Jvm.Cond.soleField "FrameSheetsModel" "given") ∈ lw_all := lw_g (lw_at lw_m7 103 rfl) rfl
theorem q1648 : (Jvm.Cond.lays "FrameSheetsModel" "FrameSheetsModel" "readAt" "I") ∈ lw_all := lw_g (lw_at lw_m7 104 rfl) rfl
theorem q1649 : (Jvm.Cond.soleField "FrameSheetsModel" "readAt") ∈ lw_all := lw_g (lw_at lw_m7 105 rfl) rfl
theorem q1650 : (Jvm.Cond.lays "FrameSheetsModel" "FrameSheetsModel" "tokenAt" "I") ∈ lw_all := lw_g (lw_at lw_m7 106 rfl) rfl
theorem q1651 : (Jvm.Cond.soleField "FrameSheetsModel" "tokenAt") ∈ lw_all := lw_g (lw_at lw_m7 107 rfl) rfl
theorem q1652 : (Jvm.Cond.lays "FrameSheetsModel" "FrameSheetsModel" "token" "I") ∈ lw_all := lw_g (lw_at lw_m7 108 rfl) rfl
theorem q1653 : (Jvm.Cond.soleField "FrameSheetsModel" "token") ∈ lw_all := lw_g (lw_at lw_m7 109 rfl) rfl
theorem q1654 : (Jvm.Cond.lays "FrameSheetsModel" "FrameSheetsModel" "value" "I") ∈ lw_all := lw_g (lw_at lw_m7 110 rfl) rfl
theorem q1655 : (Jvm.Cond.soleField "FrameSheetsModel" "value") ∈ lw_all := lw_g (lw_at lw_m7 111 rfl) rfl
theorem q1656 : (Jvm.Cond.lays "FrameSheetsModel" "FrameSheetsModel" "faultAt" "I") ∈ lw_all := lw_g (lw_at lw_m7 112 rfl) rfl
theorem q1657 : (Jvm.Cond.soleField "FrameSheetsModel" "faultAt") ∈ lw_all := lw_g (lw_at lw_m7 113 rfl) rfl
theorem q1658 : (Jvm.Cond.lays "FrameSheetsModel" "FrameSheetsModel" "readWide" "I") ∈ lw_all := lw_g (lw_at lw_m7 114 rfl) rfl
theorem q1659 : (Jvm.Cond.soleField "FrameSheetsModel" "readWide") ∈ lw_all := lw_g (lw_at lw_m7 115 rfl) rfl
theorem q1660 : (Jvm.Cond.lays "FrameSheetsModel" "FrameSheetsModel" "readHigh" "I") ∈ lw_all := lw_g (lw_at lw_m7 116 rfl) rfl
theorem q1661 : (Jvm.Cond.soleField "FrameSheetsModel" "readHigh") ∈ lw_all := lw_g (lw_at lw_m7 117 rfl) rfl
theorem q1662 : (Jvm.Cond.lays "FrameSheetsModel" "FrameSheetsModel" "readBleed" "I") ∈ lw_all := lw_g (lw_at lw_m7 118 rfl) rfl
theorem q1663 : (Jvm.Cond.soleField "FrameSheetsModel" "readBleed") ∈ lw_all := lw_g (lw_at lw_m7 119 rfl) rfl
theorem q1664 : (Jvm.Cond.lays "FrameSheetsModel" "FrameSheetsModel" "readMany" "I") ∈ lw_all := lw_g (lw_at lw_m7 120 rfl) rfl
theorem q1665 : (Jvm.Cond.soleField "FrameSheetsModel" "readMany") ∈ lw_all := lw_g (lw_at lw_m7 121 rfl) rfl
theorem q1666 : (Jvm.Cond.laysFinal "FrameSheetsModel" "FrameSheetsModel" "read" "[I") ∈ lw_all := lw_g (lw_at lw_m7 122 rfl) rfl
theorem q1667 : (Jvm.Cond.soleField "FrameSheetsModel" "read") ∈ lw_all := lw_g (lw_at lw_m7 123 rfl) rfl
theorem q1668 : (Jvm.Cond.laysFinal "FrameSheetsModel" "FrameSheetsModel" "now" "[I") ∈ lw_all := lw_g (lw_at lw_m7 124 rfl) rfl
theorem q1669 : (Jvm.Cond.soleField "FrameSheetsModel" "now") ∈ lw_all := lw_g (lw_at lw_m7 125 rfl) rfl
theorem q1670 : (Jvm.Cond.lays "FrameSheetsModel" "FrameSheetsModel" "outMany" "I") ∈ lw_all := lw_g (lw_at lw_m7 126 rfl) rfl
theorem q1671 : (Jvm.Cond.soleField "FrameSheetsModel" "outMany") ∈ lw_all := lw_g (lw_at lw_m7 127 rfl) rfl
theorem q1672 : (Jvm.Cond.laysFinal "FrameSheetsModel" "FrameSheetsModel" "out" "[B") ∈ lw_all := lw_g (lw_at lw_m7 128 rfl) rfl
theorem q1673 : (Jvm.Cond.soleField "FrameSheetsModel" "out") ∈ lw_all := lw_g (lw_at lw_m7 129 rfl) rfl
theorem q1674 : (Jvm.Cond.laysFinal "FrameSheetsModel" "FrameSheetsModel" "grid" "[I") ∈ lw_all := lw_g (lw_at lw_m7 130 rfl) rfl
theorem q1675 : (Jvm.Cond.soleField "FrameSheetsModel" "grid") ∈ lw_all := lw_g (lw_at lw_m7 131 rfl) rfl
theorem q1676 : (Jvm.Cond.lays "FrameSheetsModel" "FrameSheetsModel" "freeMany" "I") ∈ lw_all := lw_g (lw_at lw_m7 132 rfl) rfl
theorem q1677 : (Jvm.Cond.soleField "FrameSheetsModel" "freeMany") ∈ lw_all := lw_g (lw_at lw_m7 133 rfl) rfl
theorem q1678 : (Jvm.Cond.laysFinal "FrameSheetsModel" "FrameSheetsModel" "freeX" "[I") ∈ lw_all := lw_g (lw_at lw_m7 134 rfl) rfl
theorem q1679 : (Jvm.Cond.soleField "FrameSheetsModel" "freeX") ∈ lw_all := lw_g (lw_at lw_m7 135 rfl) rfl
theorem q1680 : (Jvm.Cond.laysFinal "FrameSheetsModel" "FrameSheetsModel" "freeY" "[I") ∈ lw_all := lw_g (lw_at lw_m7 136 rfl) rfl
theorem q1681 : (Jvm.Cond.soleField "FrameSheetsModel" "freeY") ∈ lw_all := lw_g (lw_at lw_m7 137 rfl) rfl
theorem q1682 : (Jvm.Cond.laysFinal "FrameSheetsModel" "FrameSheetsModel" "freeW" "[I") ∈ lw_all := lw_g (lw_at lw_m7 138 rfl) rfl
theorem q1683 : (Jvm.Cond.soleField "FrameSheetsModel" "freeW") ∈ lw_all := lw_g (lw_at lw_m7 139 rfl) rfl
theorem q1684 : (Jvm.Cond.laysFinal "FrameSheetsModel" "FrameSheetsModel" "freeH" "[I") ∈ lw_all := lw_g (lw_at lw_m7 140 rfl) rfl
theorem q1685 : (Jvm.Cond.soleField "FrameSheetsModel" "freeH") ∈ lw_all := lw_g (lw_at lw_m7 141 rfl) rfl
theorem q1686 : (Jvm.Cond.lays "FrameSheetsModel" "FrameSheetsModel" "bestAt" "I") ∈ lw_all := lw_g (lw_at lw_m7 142 rfl) rfl
theorem q1687 : (Jvm.Cond.soleField "FrameSheetsModel" "bestAt") ∈ lw_all := lw_g (lw_at lw_m7 143 rfl) rfl
theorem q1688 : (Jvm.Cond.lays "FrameSheetsModel" "FrameSheetsModel" "bestTurned" "I") ∈ lw_all := lw_g (lw_at lw_m7 144 rfl) rfl
theorem q1689 : (Jvm.Cond.soleField "FrameSheetsModel" "bestTurned") ∈ lw_all := lw_g (lw_at lw_m7 145 rfl) rfl
theorem q1690 : (Jvm.Cond.lays "FrameSheetsModel" "FrameSheetsModel" "bestFirst" "I") ∈ lw_all := lw_g (lw_at lw_m7 146 rfl) rfl
theorem q1691 : (Jvm.Cond.soleField "FrameSheetsModel" "bestFirst") ∈ lw_all := lw_g (lw_at lw_m7 147 rfl) rfl
theorem q1692 : (Jvm.Cond.lays "FrameSheetsModel" "FrameSheetsModel" "bestSecond" "I") ∈ lw_all := lw_g (lw_at lw_m7 148 rfl) rfl
theorem q1693 : (Jvm.Cond.soleField "FrameSheetsModel" "bestSecond") ∈ lw_all := lw_g (lw_at lw_m7 149 rfl) rfl
theorem q1694 : (Jvm.Cond.lays "FrameSheetsModel" "FrameSheetsModel" "deedMany" "I") ∈ lw_all := lw_g (lw_at lw_m7 150 rfl) rfl
theorem q1695 : (Jvm.Cond.soleField "FrameSheetsModel" "deedMany") ∈ lw_all := lw_g (lw_at lw_m7 151 rfl) rfl
theorem q1696 : (Jvm.Cond.laysFinal "FrameSheetsModel" "FrameSheetsModel" "log" "[I") ∈ lw_all := lw_g (lw_at lw_m7 152 rfl) rfl
theorem q1697 : (Jvm.Cond.soleField "FrameSheetsModel" "log") ∈ lw_all := lw_g (lw_at lw_m7 153 rfl) rfl
theorem q1698 : (Jvm.Cond.laysFinal "FrameSheetsModel" "FrameSheetsModel" "keptMany" "[I") ∈ lw_all := lw_g (lw_at lw_m7 154 rfl) rfl
theorem q1699 : (Jvm.Cond.soleField "FrameSheetsModel" "keptMany") ∈ lw_all := lw_g (lw_at lw_m7 155 rfl) rfl
theorem q1700 : (Jvm.Cond.laysFinal "FrameSheetsModel" "FrameSheetsModel" "kept" "[I") ∈ lw_all := lw_g (lw_at lw_m7 156 rfl) rfl
theorem q1701 : (Jvm.Cond.soleField "FrameSheetsModel" "kept") ∈ lw_all := lw_g (lw_at lw_m7 157 rfl) rfl
theorem q1702 : (Jvm.Cond.laysFinal "FrameSheetsModel" "FrameSheetsModel" "aside" "[I") ∈ lw_all := lw_g (lw_at lw_m7 158 rfl) rfl
theorem q1703 : (Jvm.Cond.soleField "FrameSheetsModel" "aside") ∈ lw_all := lw_g (lw_at lw_m7 159 rfl) rfl
theorem q1704 : (Jvm.Cond.lays "FrameSheetsModel" "FrameSheetsModel" "wouldPages" "I") ∈ lw_all := lw_g (lw_at lw_m7 160 rfl) rfl
theorem q1705 : (Jvm.Cond.soleField "FrameSheetsModel" "wouldPages") ∈ lw_all := lw_g (lw_at lw_m7 161 rfl) rfl
theorem q1706 : (Jvm.Cond.lays "FrameSheetsModel" "FrameSheetsModel" "wouldMissing" "I") ∈ lw_all := lw_g (lw_at lw_m7 162 rfl) rfl
theorem q1707 : (Jvm.Cond.soleField "FrameSheetsModel" "wouldMissing") ∈ lw_all := lw_g (lw_at lw_m7 163 rfl) rfl
theorem q1708 : (Jvm.Cond.lays "FrameSheetsModel" "FrameSheetsModel" "wouldLast" "I") ∈ lw_all := lw_g (lw_at lw_m7 164 rfl) rfl
theorem q1709 : (Jvm.Cond.soleField "FrameSheetsModel" "wouldLast") ∈ lw_all := lw_g (lw_at lw_m7 165 rfl) rfl
theorem q1710 : (Jvm.Cond.lays "FrameSheetsModel" "FrameSheetsModel" "h" "J") ∈ lw_all := lw_g (lw_at lw_m7 166 rfl) rfl
theorem q1711 : (Jvm.Cond.soleField "FrameSheetsModel" "h") ∈ lw_all := lw_g (lw_at lw_m7 167 rfl) rfl
theorem q1712 : (Jvm.Cond.superclass "FrameSheetsModel" "java/lang/Object") ∈ lw_all := lw_g (lw_at lw_m7 168 rfl) rfl
theorem q1714 : (Jvm.Cond.instanceMethod ({ cls := "FrameSheetsModel", name := "asked", desc := "()I" } : Jvm.MethodName)) ∈ lw_all := lw_g (lw_at lw_m7 170 rfl) rfl
theorem q1715 : (Jvm.Cond.selects "FrameSheetsModel" ({ cls := "FrameSheetsModel", name := "asked", desc := "()I" } : Jvm.MethodName) ({ cls := "FrameSheetsModel", name := "asked", desc := "()I" } : Jvm.MethodName)) ∈ lw_all := lw_g (lw_at lw_m7 171 rfl) rfl
theorem q1716 : (Jvm.Cond.code ({ cls := "FrameSheetsModel", name := "asked", desc := "()I" } : Jvm.MethodName) prog_13_method_6_code (1 : Nat) (Option.some Jvm.ClassFile.FieldType.int)) ∈ lw_all := lw_g (lw_at lw_m7 172 rfl) rfl
theorem q1718 : (Jvm.Cond.instanceMethod ({ cls := "FrameSheetsModel", name := "finding", desc := "()I" } : Jvm.MethodName)) ∈ lw_all := lw_g (lw_at lw_m7 174 rfl) rfl
theorem q1719 : (Jvm.Cond.selects "FrameSheetsModel" ({ cls := "FrameSheetsModel", name := "finding", desc := "()I" } : Jvm.MethodName) ({ cls := "FrameSheetsModel", name := "finding", desc := "()I" } : Jvm.MethodName)) ∈ lw_all := lw_g (lw_at lw_m7 175 rfl) rfl
theorem q1720 : (Jvm.Cond.code ({ cls := "FrameSheetsModel", name := "finding", desc := "()I" } : Jvm.MethodName) prog_13_method_7_code (1 : Nat) (Option.some Jvm.ClassFile.FieldType.int)) ∈ lw_all := lw_g (lw_at lw_m7 176 rfl) rfl
theorem q1722 : (Jvm.Cond.instanceMethod ({ cls := "FrameSheetsModel", name := "findings", desc := "(I)I" } : Jvm.MethodName)) ∈ lw_all := lw_g (lw_at lw_m7 178 rfl) rfl
theorem q1723 : (Jvm.Cond.selects "FrameSheetsModel" ({ cls := "FrameSheetsModel", name := "findings", desc := "(I)I" } : Jvm.MethodName) ({ cls := "FrameSheetsModel", name := "findings", desc := "(I)I" } : Jvm.MethodName)) ∈ lw_all := lw_g (lw_at lw_m7 179 rfl) rfl
theorem q1724 : (Jvm.Cond.code ({ cls := "FrameSheetsModel", name := "findings", desc := "(I)I" } : Jvm.MethodName) prog_13_method_8_code (2 : Nat) (Option.some Jvm.ClassFile.FieldType.int)) ∈ lw_all := lw_g (lw_at lw_m7 180 rfl) rfl
theorem q1725 : (Jvm.Cond.methodLink "FrameSheetsModel" (75 : Nat) ({ cls := "FrameSheetsModel", name := "in", desc := "(III)Z" } : Jvm.MethodName)) ∈ lw_all := lw_g (lw_at lw_m7 181 rfl) rfl
theorem q1726 : (Jvm.Cond.static ({ cls := "FrameSheetsModel", name := "in", desc := "(III)Z" } : Jvm.MethodName)) ∈ lw_all := lw_g (lw_at lw_m7 182 rfl) rfl
theorem q1727 : (Jvm.Cond.code ({ cls := "FrameSheetsModel", name := "in", desc := "(III)Z" } : Jvm.MethodName) prog_13_method_2_code (3 : Nat) (Option.some Jvm.ClassFile.FieldType.boolean)) ∈ lw_all := lw_g (lw_at lw_m7 183 rfl) rfl
theorem q1729 : (Jvm.Cond.instanceMethod ({ cls := "FrameSheetsModel", name := "row", desc := "(II)I" } : Jvm.MethodName)) ∈ lw_all := lw_g (lw_at lw_m7 185 rfl) rfl
theorem q1730 : (Jvm.Cond.selects "FrameSheetsModel" ({ cls := "FrameSheetsModel", name := "row", desc := "(II)I" } : Jvm.MethodName) ({ cls := "FrameSheetsModel", name := "row", desc := "(II)I" } : Jvm.MethodName)) ∈ lw_all := lw_g (lw_at lw_m7 186 rfl) rfl
theorem q1731 : (Jvm.Cond.code ({ cls := "FrameSheetsModel", name := "row", desc := "(II)I" } : Jvm.MethodName) prog_13_method_11_code (4 : Nat) (Option.some Jvm.ClassFile.FieldType.int)) ∈ lw_all := lw_g (lw_at lw_m7 187 rfl) rfl
theorem q1732 : (Jvm.Cond.methodLink "FrameSheetsModel" (79 : Nat) ({ cls := "FrameSheetsModel", name := "isRow", desc := "(I)Z" } : Jvm.MethodName)) ∈ lw_all := lw_g (lw_at lw_m7 188 rfl) rfl
theorem q1733 : (Jvm.Cond.static ({ cls := "FrameSheetsModel", name := "isRow", desc := "(I)Z" } : Jvm.MethodName)) ∈ lw_all := lw_g (lw_at lw_m7 189 rfl) rfl
theorem q1734 : (Jvm.Cond.code ({ cls := "FrameSheetsModel", name := "isRow", desc := "(I)Z" } : Jvm.MethodName) prog_13_method_9_code (1 : Nat) (Option.some Jvm.ClassFile.FieldType.boolean)) ∈ lw_all := lw_g (lw_at lw_m7 190 rfl) rfl
theorem q1735 : (Jvm.Cond.methodLink "FrameSheetsModel" (83 : Nat) ({ cls := "FrameSheetsModel", name := "found", desc := "(I)I" } : Jvm.MethodName)) ∈ lw_all := lw_g (lw_at lw_m7 191 rfl) rfl
theorem q1736 : (Jvm.Cond.privateMethod ({ cls := "FrameSheetsModel", name := "found", desc := "(I)I" } : Jvm.MethodName)) ∈ lw_tbl := lw_at lw_m7 192 rfl
theorem q1737 : (Jvm.Cond.instanceMethod ({ cls := "FrameSheetsModel", name := "found", desc := "(I)I" } : Jvm.MethodName)) ∈ lw_all := lw_g (lw_at lw_m7 193 rfl) rfl
theorem q1738 : (Jvm.Cond.code ({ cls := "FrameSheetsModel", name := "found", desc := "(I)I" } : Jvm.MethodName) prog_13_method_4_code (2 : Nat) (Option.some Jvm.ClassFile.FieldType.int)) ∈ lw_all := lw_g (lw_at lw_m7 194 rfl) rfl
theorem q1740 : (Jvm.Cond.instanceMethod ({ cls := "FrameSheetsModel", name := "lay", desc := "(III)I" } : Jvm.MethodName)) ∈ lw_all := lw_g (lw_at lw_m7 196 rfl) rfl
theorem q1741 : (Jvm.Cond.selects "FrameSheetsModel" ({ cls := "FrameSheetsModel", name := "lay", desc := "(III)I" } : Jvm.MethodName) ({ cls := "FrameSheetsModel", name := "lay", desc := "(III)I" } : Jvm.MethodName)) ∈ lw_all := lw_g (lw_at lw_m7 197 rfl) rfl
theorem q1742 : (Jvm.Cond.code ({ cls := "FrameSheetsModel", name := "lay", desc := "(III)I" } : Jvm.MethodName) prog_13_method_12_code (5 : Nat) (Option.some Jvm.ClassFile.FieldType.int)) ∈ lw_all := lw_g (lw_at lw_m7 198 rfl) rfl
theorem q1743 : (Jvm.Cond.methodLink "FrameSheetsModel" (87 : Nat) ({ cls := "FrameSheetsModel", name := "rowAt", desc := "(II)I" } : Jvm.MethodName)) ∈ lw_all := lw_g (lw_at lw_m7 199 rfl) rfl
theorem q1744 : (Jvm.Cond.privateMethod ({ cls := "FrameSheetsModel", name := "rowAt", desc := "(II)I" } : Jvm.MethodName)) ∈ lw_tbl := lw_at lw_m7 200 rfl
theorem q1745 : (Jvm.Cond.instanceMethod ({ cls := "FrameSheetsModel", name := "rowAt", desc := "(II)I" } : Jvm.MethodName)) ∈ lw_all := lw_g (lw_at lw_m7 201 rfl) rfl
theorem q1746 : (Jvm.Cond.code ({ cls := "FrameSheetsModel", name := "rowAt", desc := "(II)I" } : Jvm.MethodName) prog_13_method_10_code (3 : Nat) (Option.some Jvm.ClassFile.FieldType.int)) ∈ lw_all := lw_g (lw_at lw_m7 202 rfl) rfl
theorem q1747 : (Jvm.Cond.methodLink "FrameSheetsModel" (91 : Nat) ({ cls := "FrameSheetsModel", name := "tells", desc := "(II)I" } : Jvm.MethodName)) ∈ lw_all := lw_g (lw_at lw_m7 203 rfl) rfl
theorem q1748 : (Jvm.Cond.privateMethod ({ cls := "FrameSheetsModel", name := "tells", desc := "(II)I" } : Jvm.MethodName)) ∈ lw_tbl := lw_at lw_m7 204 rfl
theorem q1749 : (Jvm.Cond.instanceMethod ({ cls := "FrameSheetsModel", name := "tells", desc := "(II)I" } : Jvm.MethodName)) ∈ lw_all := lw_g (lw_at lw_m7 205 rfl) rfl
theorem q1750 : (Jvm.Cond.code ({ cls := "FrameSheetsModel", name := "tells", desc := "(II)I" } : Jvm.MethodName) prog_13_method_5_code (3 : Nat) (Option.some Jvm.ClassFile.FieldType.int)) ∈ lw_all := lw_g (lw_at lw_m7 206 rfl) rfl
theorem q1752 : (Jvm.Cond.instanceMethod ({ cls := "FrameSheetsModel", name := "at", desc := "(II)I" } : Jvm.MethodName)) ∈ lw_all := lw_g (lw_at lw_m7 208 rfl) rfl
theorem q1753 : (Jvm.Cond.selects "FrameSheetsModel" ({ cls := "FrameSheetsModel", name := "at", desc := "(II)I" } : Jvm.MethodName) ({ cls := "FrameSheetsModel", name := "at", desc := "(II)I" } : Jvm.MethodName)) ∈ lw_all := lw_g (lw_at lw_m7 209 rfl) rfl
theorem q1754 : (Jvm.Cond.code ({ cls := "FrameSheetsModel", name := "at", desc := "(II)I" } : Jvm.MethodName) prog_13_method_13_code (3 : Nat) (Option.some Jvm.ClassFile.FieldType.int)) ∈ lw_all := lw_g (lw_at lw_m7 210 rfl) rfl
theorem q1756 : (Jvm.Cond.instanceMethod ({ cls := "FrameSheetsModel", name := "tear", desc := "(I)I" } : Jvm.MethodName)) ∈ lw_all := lw_g (lw_at lw_m7 212 rfl) rfl
theorem q1757 : (Jvm.Cond.selects "FrameSheetsModel" ({ cls := "FrameSheetsModel", name := "tear", desc := "(I)I" } : Jvm.MethodName) ({ cls := "FrameSheetsModel", name := "tear", desc := "(I)I" } : Jvm.MethodName)) ∈ lw_all := lw_g (lw_at lw_m7 213 rfl) rfl
theorem q1758 : (Jvm.Cond.code ({ cls := "FrameSheetsModel", name := "tear", desc := "(I)I" } : Jvm.MethodName) prog_13_method_14_code (2 : Nat) (Option.some Jvm.ClassFile.FieldType.int)) ∈ lw_all := lw_g (lw_at lw_m7 214 rfl) rfl
theorem q1760 : (Jvm.Cond.instanceMethod ({ cls := "FrameSheetsModel", name := "copy", desc := "(IIIII)I" } : Jvm.MethodName)) ∈ lw_all := lw_g (lw_at lw_m7 216 rfl) rfl
theorem q1761 : (Jvm.Cond.selects "FrameSheetsModel" ({ cls := "FrameSheetsModel", name := "copy", desc := "(IIIII)I" } : Jvm.MethodName) ({ cls := "FrameSheetsModel", name := "copy", desc := "(IIIII)I" } : Jvm.MethodName)) ∈ lw_all := lw_g (lw_at lw_m7 217 rfl) rfl
theorem q1762 : (Jvm.Cond.code ({ cls := "FrameSheetsModel", name := "copy", desc := "(IIIII)I" } : Jvm.MethodName) prog_13_method_15_code (7 : Nat) (Option.some Jvm.ClassFile.FieldType.int)) ∈ lw_all := lw_g (lw_at lw_m7 218 rfl) rfl
theorem q1764 : (Jvm.Cond.instanceMethod ({ cls := "FrameSheetsModel", name := "mean", desc := "(I)I" } : Jvm.MethodName)) ∈ lw_all := lw_g (lw_at lw_m7 220 rfl) rfl
theorem q1765 : (Jvm.Cond.selects "FrameSheetsModel" ({ cls := "FrameSheetsModel", name := "mean", desc := "(I)I" } : Jvm.MethodName) ({ cls := "FrameSheetsModel", name := "mean", desc := "(I)I" } : Jvm.MethodName)) ∈ lw_all := lw_g (lw_at lw_m7 221 rfl) rfl
theorem q1766 : (Jvm.Cond.code ({ cls := "FrameSheetsModel", name := "mean", desc := "(I)I" } : Jvm.MethodName) prog_13_method_16_code (5 : Nat) (Option.some Jvm.ClassFile.FieldType.int)) ∈ lw_all := lw_g (lw_at lw_m7 222 rfl) rfl
theorem q1768 : (Jvm.Cond.instanceMethod ({ cls := "FrameSheetsModel", name := "text", desc := "(II)I" } : Jvm.MethodName)) ∈ lw_all := lw_g (lw_at lw_m7 224 rfl) rfl
theorem q1769 : (Jvm.Cond.selects "FrameSheetsModel" ({ cls := "FrameSheetsModel", name := "text", desc := "(II)I" } : Jvm.MethodName) ({ cls := "FrameSheetsModel", name := "text", desc := "(II)I" } : Jvm.MethodName)) ∈ lw_all := lw_g (lw_at lw_m7 225 rfl) rfl
theorem q1770 : (Jvm.Cond.code ({ cls := "FrameSheetsModel", name := "text", desc := "(II)I" } : Jvm.MethodName) prog_13_method_18_code (4 : Nat) (Option.some Jvm.ClassFile.FieldType.int)) ∈ lw_all := lw_g (lw_at lw_m7 226 rfl) rfl
theorem q1771 : (Jvm.Cond.methodLink "FrameSheetsModel" (94 : Nat) ({ cls := "FrameSheetsModel", name := "isText", desc := "(I)Z" } : Jvm.MethodName)) ∈ lw_all := lw_g (lw_at lw_m7 227 rfl) rfl
theorem q1772 : (Jvm.Cond.static ({ cls := "FrameSheetsModel", name := "isText", desc := "(I)Z" } : Jvm.MethodName)) ∈ lw_all := lw_g (lw_at lw_m7 228 rfl) rfl
theorem q1773 : (Jvm.Cond.code ({ cls := "FrameSheetsModel", name := "isText", desc := "(I)Z" } : Jvm.MethodName) prog_13_method_17_code (1 : Nat) (Option.some Jvm.ClassFile.FieldType.boolean)) ∈ lw_all := lw_g (lw_at lw_m7 229 rfl) rfl
theorem q1775 : (Jvm.Cond.instanceMethod ({ cls := "FrameSheetsModel", name := "put", desc := "(III)I" } : Jvm.MethodName)) ∈ lw_all := lw_g (lw_at lw_m7 231 rfl) rfl
theorem q1776 : (Jvm.Cond.selects "FrameSheetsModel" ({ cls := "FrameSheetsModel", name := "put", desc := "(III)I" } : Jvm.MethodName) ({ cls := "FrameSheetsModel", name := "put", desc := "(III)I" } : Jvm.MethodName)) ∈ lw_all := lw_g (lw_at lw_m7 232 rfl) rfl
theorem q1777 : (Jvm.Cond.code ({ cls := "FrameSheetsModel", name := "put", desc := "(III)I" } : Jvm.MethodName) prog_13_method_19_code (5 : Nat) (Option.some Jvm.ClassFile.FieldType.int)) ∈ lw_all := lw_g (lw_at lw_m7 233 rfl) rfl
theorem q1779 : (Jvm.Cond.instanceMethod ({ cls := "FrameSheetsModel", name := "fault", desc := "(I)I" } : Jvm.MethodName)) ∈ lw_all := lw_g (lw_at lw_m7 235 rfl) rfl
theorem q1780 : (Jvm.Cond.selects "FrameSheetsModel" ({ cls := "FrameSheetsModel", name := "fault", desc := "(I)I" } : Jvm.MethodName) ({ cls := "FrameSheetsModel", name := "fault", desc := "(I)I" } : Jvm.MethodName)) ∈ lw_all := lw_g (lw_at lw_m7 236 rfl) rfl
theorem q1781 : (Jvm.Cond.code ({ cls := "FrameSheetsModel", name := "fault", desc := "(I)I" } : Jvm.MethodName) prog_13_method_34_code (2 : Nat) (Option.some Jvm.ClassFile.FieldType.int)) ∈ lw_all := lw_g (lw_at lw_m7 237 rfl) rfl
theorem q1782 : (Jvm.Cond.methodLink "FrameSheetsModel" (167 : Nat) ({ cls := "FrameSheetsModel", name := "faultOf", desc := "(I)I" } : Jvm.MethodName)) ∈ lw_all := lw_g (lw_at lw_m7 238 rfl) rfl
theorem q1783 : (Jvm.Cond.privateMethod ({ cls := "FrameSheetsModel", name := "faultOf", desc := "(I)I" } : Jvm.MethodName)) ∈ lw_tbl := lw_at lw_m7 239 rfl
theorem q1784 : (Jvm.Cond.instanceMethod ({ cls := "FrameSheetsModel", name := "faultOf", desc := "(I)I" } : Jvm.MethodName)) ∈ lw_all := lw_g (lw_at lw_m8 0 rfl) rfl
theorem q1785 : (Jvm.Cond.code ({ cls := "FrameSheetsModel", name := "faultOf", desc := "(I)I" } : Jvm.MethodName) prog_13_method_33_code (2 : Nat) (Option.some Jvm.ClassFile.FieldType.int)) ∈ lw_all := lw_g (lw_at lw_m8 1 rfl) rfl
theorem q1786 : (Jvm.Cond.methodLink "FrameSheetsModel" (103 : Nat) ({ cls := "FrameSheetsModel", name := "blanks", desc := "(I)V" } : Jvm.MethodName)) ∈ lw_all := lw_g (lw_at lw_m8 2 rfl) rfl
theorem q1787 : (Jvm.Cond.privateMethod ({ cls := "FrameSheetsModel", name := "blanks", desc := "(I)V" } : Jvm.MethodName)) ∈ lw_tbl := lw_at lw_m8 3 rfl
theorem q1788 : (Jvm.Cond.instanceMethod ({ cls := "FrameSheetsModel", name := "blanks", desc := "(I)V" } : Jvm.MethodName)) ∈ lw_all := lw_g (lw_at lw_m8 4 rfl) rfl
theorem q1789 : (Jvm.Cond.code ({ cls := "FrameSheetsModel", name := "blanks", desc := "(I)V" } : Jvm.MethodName) prog_13_method_21_code (2 : Nat) (Option.none : Option Jvm.ClassFile.FieldType)) ∈ lw_all := lw_g (lw_at lw_m8 5 rfl) rfl
theorem q1790 : (Jvm.Cond.methodLink "FrameSheetsModel" (100 : Nat) ({ cls := "FrameSheetsModel", name := "byteAt", desc := "(II)I" } : Jvm.MethodName)) ∈ lw_all := lw_g (lw_at lw_m8 6 rfl) rfl
theorem q1791 : (Jvm.Cond.privateMethod ({ cls := "FrameSheetsModel", name := "byteAt", desc := "(II)I" } : Jvm.MethodName)) ∈ lw_tbl := lw_at lw_m8 7 rfl
theorem q1792 : (Jvm.Cond.instanceMethod ({ cls := "FrameSheetsModel", name := "byteAt", desc := "(II)I" } : Jvm.MethodName)) ∈ lw_all := lw_g (lw_at lw_m8 8 rfl) rfl
theorem q1793 : (Jvm.Cond.code ({ cls := "FrameSheetsModel", name := "byteAt", desc := "(II)I" } : Jvm.MethodName) prog_13_method_20_code (3 : Nat) (Option.some Jvm.ClassFile.FieldType.int)) ∈ lw_all := lw_g (lw_at lw_m8 9 rfl) rfl
theorem q1794 : (Jvm.Cond.methodLink "FrameSheetsModel" (164 : Nat) ({ cls := "FrameSheetsModel", name := "readsOne", desc := "(I)Z" } : Jvm.MethodName)) ∈ lw_all := lw_g (lw_at lw_m8 10 rfl) rfl
theorem q1795 : (Jvm.Cond.privateMethod ({ cls := "FrameSheetsModel", name := "readsOne", desc := "(I)Z" } : Jvm.MethodName)) ∈ lw_tbl := lw_at lw_m8 11 rfl
theorem q1796 : (Jvm.Cond.instanceMethod ({ cls := "FrameSheetsModel", name := "readsOne", desc := "(I)Z" } : Jvm.MethodName)) ∈ lw_all := lw_g (lw_at lw_m8 12 rfl) rfl
theorem q1797 : (Jvm.Cond.code ({ cls := "FrameSheetsModel", name := "readsOne", desc := "(I)Z" } : Jvm.MethodName) prog_13_method_32_code (3 : Nat) (Option.some Jvm.ClassFile.FieldType.boolean)) ∈ lw_all := lw_g (lw_at lw_m8 13 rfl) rfl
theorem q1798 : (Jvm.Cond.methodLink "FrameSheetsModel" (125 : Nat) ({ cls := "FrameSheetsModel", name := "next", desc := "(I)V" } : Jvm.MethodName)) ∈ lw_all := lw_g (lw_at lw_m8 14 rfl) rfl
theorem q1799 : (Jvm.Cond.privateMethod ({ cls := "FrameSheetsModel", name := "next", desc := "(I)V" } : Jvm.MethodName)) ∈ lw_tbl := lw_at lw_m8 15 rfl
theorem q1800 : (Jvm.Cond.instanceMethod ({ cls := "FrameSheetsModel", name := "next", desc := "(I)V" } : Jvm.MethodName)) ∈ lw_all := lw_g (lw_at lw_m8 16 rfl) rfl
theorem q1801 : (Jvm.Cond.code ({ cls := "FrameSheetsModel", name := "next", desc := "(I)V" } : Jvm.MethodName) prog_13_method_24_code (2 : Nat) (Option.none : Option Jvm.ClassFile.FieldType)) ∈ lw_all := lw_g (lw_at lw_m8 17 rfl) rfl
theorem q1802 : (Jvm.Cond.methodLink "FrameSheetsModel" (113 : Nat) ({ cls := "FrameSheetsModel", name := "isLetter", desc := "(I)Z" } : Jvm.MethodName)) ∈ lw_all := lw_g (lw_at lw_m8 18 rfl) rfl
theorem q1803 : (Jvm.Cond.privateMethod ({ cls := "FrameSheetsModel", name := "isLetter", desc := "(I)Z" } : Jvm.MethodName)) ∈ lw_tbl := lw_at lw_m8 19 rfl
theorem q1804 : (Jvm.Cond.instanceMethod ({ cls := "FrameSheetsModel", name := "isLetter", desc := "(I)Z" } : Jvm.MethodName)) ∈ lw_all := lw_g (lw_at lw_m8 20 rfl) rfl
theorem q1805 : (Jvm.Cond.code ({ cls := "FrameSheetsModel", name := "isLetter", desc := "(I)Z" } : Jvm.MethodName) prog_13_method_22_code (2 : Nat) (Option.some Jvm.ClassFile.FieldType.boolean)) ∈ lw_all := lw_g (lw_at lw_m8 21 rfl) rfl
theorem q1806 : (Jvm.Cond.methodLink "FrameSheetsModel" (116 : Nat) ({ cls := "FrameSheetsModel", name := "isFigure", desc := "(I)Z" } : Jvm.MethodName)) ∈ lw_all := lw_g (lw_at lw_m8 22 rfl) rfl
theorem q1807 : (Jvm.Cond.privateMethod ({ cls := "FrameSheetsModel", name := "isFigure", desc := "(I)Z" } : Jvm.MethodName)) ∈ lw_tbl := lw_at lw_m8 23 rfl
theorem q1808 : (Jvm.Cond.instanceMethod ({ cls := "FrameSheetsModel", name := "isFigure", desc := "(I)Z" } : Jvm.MethodName)) ∈ lw_all := lw_g (lw_at lw_m8 24 rfl) rfl
theorem q1809 : (Jvm.Cond.code ({ cls := "FrameSheetsModel", name := "isFigure", desc := "(I)Z" } : Jvm.MethodName) prog_13_method_23_code (2 : Nat) (Option.some Jvm.ClassFile.FieldType.boolean)) ∈ lw_all := lw_g (lw_at lw_m8 25 rfl) rfl
theorem q1810 : (Jvm.Cond.methodLink "FrameSheetsModel" (150 : Nat) ({ cls := "FrameSheetsModel", name := "word", desc := "(I)I" } : Jvm.MethodName)) ∈ lw_all := lw_g (lw_at lw_m8 26 rfl) rfl
theorem q1811 : (Jvm.Cond.privateMethod ({ cls := "FrameSheetsModel", name := "word", desc := "(I)I" } : Jvm.MethodName)) ∈ lw_tbl := lw_at lw_m8 27 rfl
theorem q1812 : (Jvm.Cond.instanceMethod ({ cls := "FrameSheetsModel", name := "word", desc := "(I)I" } : Jvm.MethodName)) ∈ lw_all := lw_g (lw_at lw_m8 28 rfl) rfl
theorem q1813 : (Jvm.Cond.code ({ cls := "FrameSheetsModel", name := "word", desc := "(I)I" } : Jvm.MethodName) prog_13_method_26_code (4 : Nat) (Option.some Jvm.ClassFile.FieldType.int)) ∈ lw_all := lw_g (lw_at lw_m8 29 rfl) rfl
theorem q1814 : (Jvm.Cond.constant "FrameSheetsModel" (153 : Nat) (315851 : Int32)) ∈ lw_all := lw_g (lw_at lw_m8 30 rfl) rfl
theorem q1815 : (Jvm.Cond.methodLink "FrameSheetsModel" (128 : Nat) ({ cls := "FrameSheetsModel", name := "fails", desc := "()Z" } : Jvm.MethodName)) ∈ lw_all := lw_g (lw_at lw_m8 31 rfl) rfl
theorem q1816 : (Jvm.Cond.privateMethod ({ cls := "FrameSheetsModel", name := "fails", desc := "()Z" } : Jvm.MethodName)) ∈ lw_tbl := lw_at lw_m8 32 rfl
theorem q1817 : (Jvm.Cond.instanceMethod ({ cls := "FrameSheetsModel", name := "fails", desc := "()Z" } : Jvm.MethodName)) ∈ lw_all := lw_g (lw_at lw_m8 33 rfl) rfl
theorem q1818 : (Jvm.Cond.code ({ cls := "FrameSheetsModel", name := "fails", desc := "()Z" } : Jvm.MethodName) prog_13_method_25_code (1 : Nat) (Option.some Jvm.ClassFile.FieldType.boolean)) ∈ lw_all := lw_g (lw_at lw_m8 34 rfl) rfl
theorem q1819 : (Jvm.Cond.methodLink "FrameSheetsModel" (154 : Nat) ({ cls := "FrameSheetsModel", name := "readsPage", desc := "(I)Z" } : Jvm.MethodName)) ∈ lw_all := lw_g (lw_at lw_m8 35 rfl) rfl
theorem q1820 : (Jvm.Cond.privateMethod ({ cls := "FrameSheetsModel", name := "readsPage", desc := "(I)Z" } : Jvm.MethodName)) ∈ lw_tbl := lw_at lw_m8 36 rfl
theorem q1821 : (Jvm.Cond.instanceMethod ({ cls := "FrameSheetsModel", name := "readsPage", desc := "(I)Z" } : Jvm.MethodName)) ∈ lw_all := lw_g (lw_at lw_m8 37 rfl) rfl
theorem q1822 : (Jvm.Cond.code ({ cls := "FrameSheetsModel", name := "readsPage", desc := "(I)Z" } : Jvm.MethodName) prog_13_method_29_code (2 : Nat) (Option.some Jvm.ClassFile.FieldType.boolean)) ∈ lw_all := lw_g (lw_at lw_m8 38 rfl) rfl
theorem q1823 : (Jvm.Cond.methodLink "FrameSheetsModel" (132 : Nat) ({ cls := "FrameSheetsModel", name := "number", desc := "(III)Z" } : Jvm.MethodName)) ∈ lw_all := lw_g (lw_at lw_m8 39 rfl) rfl
theorem q1824 : (Jvm.Cond.privateMethod ({ cls := "FrameSheetsModel", name := "number", desc := "(III)Z" } : Jvm.MethodName)) ∈ lw_tbl := lw_at lw_m8 40 rfl
theorem q1825 : (Jvm.Cond.instanceMethod ({ cls := "FrameSheetsModel", name := "number", desc := "(III)Z" } : Jvm.MethodName)) ∈ lw_all := lw_g (lw_at lw_m8 41 rfl) rfl
theorem q1826 : (Jvm.Cond.code ({ cls := "FrameSheetsModel", name := "number", desc := "(III)Z" } : Jvm.MethodName) prog_13_method_27_code (4 : Nat) (Option.some Jvm.ClassFile.FieldType.boolean)) ∈ lw_all := lw_g (lw_at lw_m8 42 rfl) rfl
theorem q1827 : (Jvm.Cond.methodLink "FrameSheetsModel" (141 : Nat) ({ cls := "FrameSheetsModel", name := "ends", desc := "(I)Z" } : Jvm.MethodName)) ∈ lw_all := lw_g (lw_at lw_m8 43 rfl) rfl
theorem q1828 : (Jvm.Cond.privateMethod ({ cls := "FrameSheetsModel", name := "ends", desc := "(I)Z" } : Jvm.MethodName)) ∈ lw_tbl := lw_at lw_m8 44 rfl
theorem q1829 : (Jvm.Cond.instanceMethod ({ cls := "FrameSheetsModel", name := "ends", desc := "(I)Z" } : Jvm.MethodName)) ∈ lw_all := lw_g (lw_at lw_m8 45 rfl) rfl
theorem q1830 : (Jvm.Cond.code ({ cls := "FrameSheetsModel", name := "ends", desc := "(I)Z" } : Jvm.MethodName) prog_13_method_28_code (2 : Nat) (Option.some Jvm.ClassFile.FieldType.boolean)) ∈ lw_all := lw_g (lw_at lw_m8 46 rfl) rfl
theorem q1831 : (Jvm.Cond.methodLink "FrameSheetsModel" (157 : Nat) ({ cls := "FrameSheetsModel", name := "readsBleed", desc := "(I)Z" } : Jvm.MethodName)) ∈ lw_all := lw_g (lw_at lw_m8 47 rfl) rfl
theorem q1832 : (Jvm.Cond.privateMethod ({ cls := "FrameSheetsModel", name := "readsBleed", desc := "(I)Z" } : Jvm.MethodName)) ∈ lw_tbl := lw_at lw_m8 48 rfl
theorem q1833 : (Jvm.Cond.instanceMethod ({ cls := "FrameSheetsModel", name := "readsBleed", desc := "(I)Z" } : Jvm.MethodName)) ∈ lw_all := lw_g (lw_at lw_m8 49 rfl) rfl
theorem q1834 : (Jvm.Cond.code ({ cls := "FrameSheetsModel", name := "readsBleed", desc := "(I)Z" } : Jvm.MethodName) prog_13_method_30_code (2 : Nat) (Option.some Jvm.ClassFile.FieldType.boolean)) ∈ lw_all := lw_g (lw_at lw_m8 50 rfl) rfl
theorem q1835 : (Jvm.Cond.methodLink "FrameSheetsModel" (160 : Nat) ({ cls := "FrameSheetsModel", name := "readsFrame", desc := "(II)Z" } : Jvm.MethodName)) ∈ lw_all := lw_g (lw_at lw_m8 51 rfl) rfl
theorem q1836 : (Jvm.Cond.privateMethod ({ cls := "FrameSheetsModel", name := "readsFrame", desc := "(II)Z" } : Jvm.MethodName)) ∈ lw_tbl := lw_at lw_m8 52 rfl
theorem q1837 : (Jvm.Cond.instanceMethod ({ cls := "FrameSheetsModel", name := "readsFrame", desc := "(II)Z" } : Jvm.MethodName)) ∈ lw_all := lw_g (lw_at lw_m8 53 rfl) rfl
theorem q1838 : (Jvm.Cond.code ({ cls := "FrameSheetsModel", name := "readsFrame", desc := "(II)Z" } : Jvm.MethodName) prog_13_method_31_code (5 : Nat) (Option.some Jvm.ClassFile.FieldType.boolean)) ∈ lw_all := lw_g (lw_at lw_m8 54 rfl) rfl
theorem q1840 : (Jvm.Cond.instanceMethod ({ cls := "FrameSheetsModel", name := "sheet", desc := "(I)I" } : Jvm.MethodName)) ∈ lw_all := lw_g (lw_at lw_m8 56 rfl) rfl
theorem q1841 : (Jvm.Cond.selects "FrameSheetsModel" ({ cls := "FrameSheetsModel", name := "sheet", desc := "(I)I" } : Jvm.MethodName) ({ cls := "FrameSheetsModel", name := "sheet", desc := "(I)I" } : Jvm.MethodName)) ∈ lw_all := lw_g (lw_at lw_m8 57 rfl) rfl
theorem q1842 : (Jvm.Cond.code ({ cls := "FrameSheetsModel", name := "sheet", desc := "(I)I" } : Jvm.MethodName) prog_13_method_35_code (3 : Nat) (Option.some Jvm.ClassFile.FieldType.int)) ∈ lw_all := lw_g (lw_at lw_m8 58 rfl) rfl
theorem q1843 : (Jvm.Cond.methodLink "FrameSheetsModel" (182 : Nat) ({ cls := "FrameSheetsModel", name := "liftsAll", desc := "()V" } : Jvm.MethodName)) ∈ lw_all := lw_g (lw_at lw_m8 59 rfl) rfl
theorem q1844 : (Jvm.Cond.privateMethod ({ cls := "FrameSheetsModel", name := "liftsAll", desc := "()V" } : Jvm.MethodName)) ∈ lw_tbl := lw_at lw_m8 60 rfl
theorem q1845 : (Jvm.Cond.instanceMethod ({ cls := "FrameSheetsModel", name := "liftsAll", desc := "()V" } : Jvm.MethodName)) ∈ lw_all := lw_g (lw_at lw_m8 61 rfl) rfl
theorem q1846 : (Jvm.Cond.code ({ cls := "FrameSheetsModel", name := "liftsAll", desc := "()V" } : Jvm.MethodName) prog_13_method_51_code (2 : Nat) (Option.none : Option Jvm.ClassFile.FieldType)) ∈ lw_all := lw_g (lw_at lw_m8 62 rfl) rfl
theorem q1848 : (Jvm.Cond.instanceMethod ({ cls := "FrameSheetsModel", name := "write", desc := "(I)I" } : Jvm.MethodName)) ∈ lw_all := lw_g (lw_at lw_m8 64 rfl) rfl
theorem q1849 : (Jvm.Cond.selects "FrameSheetsModel" ({ cls := "FrameSheetsModel", name := "write", desc := "(I)I" } : Jvm.MethodName) ({ cls := "FrameSheetsModel", name := "write", desc := "(I)I" } : Jvm.MethodName)) ∈ lw_all := lw_g (lw_at lw_m8 65 rfl) rfl
theorem q1850 : (Jvm.Cond.code ({ cls := "FrameSheetsModel", name := "write", desc := "(I)I" } : Jvm.MethodName) prog_13_method_39_code (5 : Nat) (Option.some Jvm.ClassFile.FieldType.int)) ∈ lw_all := lw_g (lw_at lw_m8 66 rfl) rfl
theorem q1851 : (Jvm.Cond.methodLink "FrameSheetsModel" (194 : Nat) ({ cls := "FrameSheetsModel", name := "writesWord", desc := "(I)V" } : Jvm.MethodName)) ∈ lw_all := lw_g (lw_at lw_m8 67 rfl) rfl
theorem q1852 : (Jvm.Cond.privateMethod ({ cls := "FrameSheetsModel", name := "writesWord", desc := "(I)V" } : Jvm.MethodName)) ∈ lw_tbl := lw_at lw_m8 68 rfl
theorem q1853 : (Jvm.Cond.instanceMethod ({ cls := "FrameSheetsModel", name := "writesWord", desc := "(I)V" } : Jvm.MethodName)) ∈ lw_all := lw_g (lw_at lw_m8 69 rfl) rfl
theorem q1854 : (Jvm.Cond.code ({ cls := "FrameSheetsModel", name := "writesWord", desc := "(I)V" } : Jvm.MethodName) prog_13_method_37_code (3 : Nat) (Option.none : Option Jvm.ClassFile.FieldType)) ∈ lw_all := lw_g (lw_at lw_m8 70 rfl) rfl
theorem q1855 : (Jvm.Cond.methodLink "FrameSheetsModel" (191 : Nat) ({ cls := "FrameSheetsModel", name := "writes", desc := "(I)V" } : Jvm.MethodName)) ∈ lw_all := lw_g (lw_at lw_m8 71 rfl) rfl
theorem q1856 : (Jvm.Cond.privateMethod ({ cls := "FrameSheetsModel", name := "writes", desc := "(I)V" } : Jvm.MethodName)) ∈ lw_tbl := lw_at lw_m8 72 rfl
theorem q1857 : (Jvm.Cond.instanceMethod ({ cls := "FrameSheetsModel", name := "writes", desc := "(I)V" } : Jvm.MethodName)) ∈ lw_all := lw_g (lw_at lw_m8 73 rfl) rfl
theorem q1858 : (Jvm.Cond.code ({ cls := "FrameSheetsModel", name := "writes", desc := "(I)V" } : Jvm.MethodName) prog_13_method_36_code (2 : Nat) (Option.none : Option Jvm.ClassFile.FieldType)) ∈ lw_all := lw_g (lw_at lw_m8 74 rfl) rfl
theorem q1859 : (Jvm.Cond.methodLink "FrameSheetsModel" (197 : Nat) ({ cls := "FrameSheetsModel", name := "writesNumber", desc := "(I)V" } : Jvm.MethodName)) ∈ lw_all := lw_g (lw_at lw_m8 75 rfl) rfl
theorem q1860 : (Jvm.Cond.privateMethod ({ cls := "FrameSheetsModel", name := "writesNumber", desc := "(I)V" } : Jvm.MethodName)) ∈ lw_tbl := lw_at lw_m8 76 rfl
theorem q1861 : (Jvm.Cond.instanceMethod ({ cls := "FrameSheetsModel", name := "writesNumber", desc := "(I)V" } : Jvm.MethodName)) ∈ lw_all := lw_g (lw_at lw_m8 77 rfl) rfl
theorem q1862 : (Jvm.Cond.code ({ cls := "FrameSheetsModel", name := "writesNumber", desc := "(I)V" } : Jvm.MethodName) prog_13_method_38_code (2 : Nat) (Option.none : Option Jvm.ClassFile.FieldType)) ∈ lw_all := lw_g (lw_at lw_m8 78 rfl) rfl
theorem q1863 : (Jvm.Cond.constant "FrameSheetsModel" (200 : Nat) (1302862 : Int32)) ∈ lw_all := lw_g (lw_at lw_m8 79 rfl) rfl
theorem q1864 : (Jvm.Cond.methodLink "FrameSheetsModel" (201 : Nat) ({ cls := "FrameSheetsModel", name := "kindOf", desc := "(I)I" } : Jvm.MethodName)) ∈ lw_all := lw_g (lw_at lw_m8 80 rfl) rfl
theorem q1865 : (Jvm.Cond.privateMethod ({ cls := "FrameSheetsModel", name := "kindOf", desc := "(I)I" } : Jvm.MethodName)) ∈ lw_tbl := lw_at lw_m8 81 rfl
theorem q1866 : (Jvm.Cond.instanceMethod ({ cls := "FrameSheetsModel", name := "kindOf", desc := "(I)I" } : Jvm.MethodName)) ∈ lw_all := lw_g (lw_at lw_m8 82 rfl) rfl
theorem q1867 : (Jvm.Cond.code ({ cls := "FrameSheetsModel", name := "kindOf", desc := "(I)I" } : Jvm.MethodName) prog_13_method_41_code (2 : Nat) (Option.some Jvm.ClassFile.FieldType.int)) ∈ lw_all := lw_g (lw_at lw_m8 83 rfl) rfl
theorem q1868 : (Jvm.Cond.constant "FrameSheetsModel" (204 : Nat) (3544025 : Int32)) ∈ lw_all := lw_g (lw_at lw_m8 84 rfl) rfl
theorem q1869 : (Jvm.Cond.constant "FrameSheetsModel" (205 : Nat) (179753 : Int32)) ∈ lw_all := lw_g (lw_at lw_m8 85 rfl) rfl
theorem q1870 : (Jvm.Cond.constant "FrameSheetsModel" (206 : Nat) (37026792 : Int32)) ∈ lw_all := lw_g (lw_at lw_m8 86 rfl) rfl
theorem q1871 : (Jvm.Cond.constant "FrameSheetsModel" (207 : Nat) (247335 : Int32)) ∈ lw_all := lw_g (lw_at lw_m8 87 rfl) rfl
theorem q1873 : (Jvm.Cond.instanceMethod ({ cls := "FrameSheetsModel", name := "frame", desc := "(II)I" } : Jvm.MethodName)) ∈ lw_all := lw_g (lw_at lw_m8 89 rfl) rfl
theorem q1874 : (Jvm.Cond.selects "FrameSheetsModel" ({ cls := "FrameSheetsModel", name := "frame", desc := "(II)I" } : Jvm.MethodName) ({ cls := "FrameSheetsModel", name := "frame", desc := "(II)I" } : Jvm.MethodName)) ∈ lw_all := lw_g (lw_at lw_m8 90 rfl) rfl
theorem q1875 : (Jvm.Cond.code ({ cls := "FrameSheetsModel", name := "frame", desc := "(II)I" } : Jvm.MethodName) prog_13_method_52_code (3 : Nat) (Option.some Jvm.ClassFile.FieldType.int)) ∈ lw_all := lw_g (lw_at lw_m8 91 rfl) rfl
theorem q1876 : (Jvm.Cond.methodLink "FrameSheetsModel" (223 : Nat) ({ cls := "FrameSheetsModel", name := "isFrame", desc := "(I)Z" } : Jvm.MethodName)) ∈ lw_all := lw_g (lw_at lw_m8 92 rfl) rfl
theorem q1877 : (Jvm.Cond.privateMethod ({ cls := "FrameSheetsModel", name := "isFrame", desc := "(I)Z" } : Jvm.MethodName)) ∈ lw_tbl := lw_at lw_m8 93 rfl
theorem q1878 : (Jvm.Cond.instanceMethod ({ cls := "FrameSheetsModel", name := "isFrame", desc := "(I)Z" } : Jvm.MethodName)) ∈ lw_all := lw_g (lw_at lw_m8 94 rfl) rfl
theorem q1879 : (Jvm.Cond.code ({ cls := "FrameSheetsModel", name := "isFrame", desc := "(I)Z" } : Jvm.MethodName) prog_13_method_40_code (2 : Nat) (Option.some Jvm.ClassFile.FieldType.boolean)) ∈ lw_all := lw_g (lw_at lw_m8 95 rfl) rfl
theorem q1880 : (Jvm.Cond.methodLink "FrameSheetsModel" (226 : Nat) ({ cls := "FrameSheetsModel", name := "frameTells", desc := "(II)I" } : Jvm.MethodName)) ∈ lw_all := lw_g (lw_at lw_m8 96 rfl) rfl
theorem q1881 : (Jvm.Cond.privateMethod ({ cls := "FrameSheetsModel", name := "frameTells", desc := "(II)I" } : Jvm.MethodName)) ∈ lw_tbl := lw_at lw_m8 97 rfl
theorem q1882 : (Jvm.Cond.instanceMethod ({ cls := "FrameSheetsModel", name := "frameTells", desc := "(II)I" } : Jvm.MethodName)) ∈ lw_all := lw_g (lw_at lw_m8 98 rfl) rfl
theorem q1883 : (Jvm.Cond.code ({ cls := "FrameSheetsModel", name := "frameTells", desc := "(II)I" } : Jvm.MethodName) prog_13_method_53_code (3 : Nat) (Option.some Jvm.ClassFile.FieldType.int)) ∈ lw_all := lw_g (lw_at lw_m8 99 rfl) rfl
theorem q1884 : (Jvm.Cond.methodLink "FrameSheetsModel" (214 : Nat) ({ cls := "FrameSheetsModel", name := "across", desc := "(I)I" } : Jvm.MethodName)) ∈ lw_all := lw_g (lw_at lw_m8 100 rfl) rfl
theorem q1885 : (Jvm.Cond.privateMethod ({ cls := "FrameSheetsModel", name := "across", desc := "(I)I" } : Jvm.MethodName)) ∈ lw_tbl := lw_at lw_m8 101 rfl
theorem q1886 : (Jvm.Cond.instanceMethod ({ cls := "FrameSheetsModel", name := "across", desc := "(I)I" } : Jvm.MethodName)) ∈ lw_all := lw_g (lw_at lw_m8 102 rfl) rfl
theorem q1887 : (Jvm.Cond.code ({ cls := "FrameSheetsModel", name := "across", desc := "(I)I" } : Jvm.MethodName) prog_13_method_45_code (2 : Nat) (Option.some Jvm.ClassFile.FieldType.int)) ∈ lw_all := lw_g (lw_at lw_m8 103 rfl) rfl
theorem q1888 : (Jvm.Cond.methodLink "FrameSheetsModel" (208 : Nat) ({ cls := "FrameSheetsModel", name := "of", desc := "(II)I" } : Jvm.MethodName)) ∈ lw_all := lw_g (lw_at lw_m8 104 rfl) rfl
theorem q1889 : (Jvm.Cond.privateMethod ({ cls := "FrameSheetsModel", name := "of", desc := "(II)I" } : Jvm.MethodName)) ∈ lw_tbl := lw_at lw_m8 105 rfl
theorem q1890 : (Jvm.Cond.instanceMethod ({ cls := "FrameSheetsModel", name := "of", desc := "(II)I" } : Jvm.MethodName)) ∈ lw_all := lw_g (lw_at lw_m8 106 rfl) rfl
theorem q1891 : (Jvm.Cond.code ({ cls := "FrameSheetsModel", name := "of", desc := "(II)I" } : Jvm.MethodName) prog_13_method_42_code (3 : Nat) (Option.some Jvm.ClassFile.FieldType.int)) ∈ lw_all := lw_g (lw_at lw_m8 107 rfl) rfl
theorem q1892 : (Jvm.Cond.methodLink "FrameSheetsModel" (217 : Nat) ({ cls := "FrameSheetsModel", name := "down", desc := "(I)I" } : Jvm.MethodName)) ∈ lw_all := lw_g (lw_at lw_m8 108 rfl) rfl
theorem q1893 : (Jvm.Cond.privateMethod ({ cls := "FrameSheetsModel", name := "down", desc := "(I)I" } : Jvm.MethodName)) ∈ lw_tbl := lw_at lw_m8 109 rfl
theorem q1894 : (Jvm.Cond.instanceMethod ({ cls := "FrameSheetsModel", name := "down", desc := "(I)I" } : Jvm.MethodName)) ∈ lw_all := lw_g (lw_at lw_m8 110 rfl) rfl
theorem q1895 : (Jvm.Cond.code ({ cls := "FrameSheetsModel", name := "down", desc := "(I)I" } : Jvm.MethodName) prog_13_method_46_code (2 : Nat) (Option.some Jvm.ClassFile.FieldType.int)) ∈ lw_all := lw_g (lw_at lw_m8 111 rfl) rfl
theorem q1896 : (Jvm.Cond.methodLink "FrameSheetsModel" (220 : Nat) ({ cls := "FrameSheetsModel", name := "needX", desc := "(II)I" } : Jvm.MethodName)) ∈ lw_all := lw_g (lw_at lw_m8 112 rfl) rfl
theorem q1897 : (Jvm.Cond.privateMethod ({ cls := "FrameSheetsModel", name := "needX", desc := "(II)I" } : Jvm.MethodName)) ∈ lw_tbl := lw_at lw_m8 113 rfl
theorem q1898 : (Jvm.Cond.instanceMethod ({ cls := "FrameSheetsModel", name := "needX", desc := "(II)I" } : Jvm.MethodName)) ∈ lw_all := lw_g (lw_at lw_m8 114 rfl) rfl
theorem q1899 : (Jvm.Cond.code ({ cls := "FrameSheetsModel", name := "needX", desc := "(II)I" } : Jvm.MethodName) prog_13_method_48_code (3 : Nat) (Option.some Jvm.ClassFile.FieldType.int)) ∈ lw_all := lw_g (lw_at lw_m8 115 rfl) rfl
theorem q1900 : (Jvm.Cond.methodLink "FrameSheetsModel" (211 : Nat) ({ cls := "FrameSheetsModel", name := "edge", desc := "(I)I" } : Jvm.MethodName)) ∈ lw_all := lw_g (lw_at lw_m8 116 rfl) rfl
theorem q1901 : (Jvm.Cond.privateMethod ({ cls := "FrameSheetsModel", name := "edge", desc := "(I)I" } : Jvm.MethodName)) ∈ lw_tbl := lw_at lw_m8 117 rfl
theorem q1902 : (Jvm.Cond.instanceMethod ({ cls := "FrameSheetsModel", name := "edge", desc := "(I)I" } : Jvm.MethodName)) ∈ lw_all := lw_g (lw_at lw_m8 118 rfl) rfl
theorem q1903 : (Jvm.Cond.code ({ cls := "FrameSheetsModel", name := "edge", desc := "(I)I" } : Jvm.MethodName) prog_13_method_47_code (2 : Nat) (Option.some Jvm.ClassFile.FieldType.int)) ∈ lw_all := lw_g (lw_at lw_m8 119 rfl) rfl
theorem q1904 : (Jvm.Cond.methodLink "FrameSheetsModel" (229 : Nat) ({ cls := "FrameSheetsModel", name := "needY", desc := "(II)I" } : Jvm.MethodName)) ∈ lw_all := lw_g (lw_at lw_m8 120 rfl) rfl
theorem q1905 : (Jvm.Cond.privateMethod ({ cls := "FrameSheetsModel", name := "needY", desc := "(II)I" } : Jvm.MethodName)) ∈ lw_tbl := lw_at lw_m8 121 rfl
theorem q1906 : (Jvm.Cond.instanceMethod ({ cls := "FrameSheetsModel", name := "needY", desc := "(II)I" } : Jvm.MethodName)) ∈ lw_all := lw_g (lw_at lw_m8 122 rfl) rfl
theorem q1907 : (Jvm.Cond.code ({ cls := "FrameSheetsModel", name := "needY", desc := "(II)I" } : Jvm.MethodName) prog_13_method_49_code (3 : Nat) (Option.some Jvm.ClassFile.FieldType.int)) ∈ lw_all := lw_g (lw_at lw_m8 123 rfl) rfl
theorem q1909 : (Jvm.Cond.instanceMethod ({ cls := "FrameSheetsModel", name := "place", desc := "(II)I" } : Jvm.MethodName)) ∈ lw_all := lw_g (lw_at lw_m8 125 rfl) rfl
theorem q1910 : (Jvm.Cond.selects "FrameSheetsModel" ({ cls := "FrameSheetsModel", name := "place", desc := "(II)I" } : Jvm.MethodName) ({ cls := "FrameSheetsModel", name := "place", desc := "(II)I" } : Jvm.MethodName)) ∈ lw_all := lw_g (lw_at lw_m8 126 rfl) rfl
theorem q1911 : (Jvm.Cond.code ({ cls := "FrameSheetsModel", name := "place", desc := "(II)I" } : Jvm.MethodName) prog_13_method_54_code (3 : Nat) (Option.some Jvm.ClassFile.FieldType.int)) ∈ lw_all := lw_g (lw_at lw_m8 127 rfl) rfl
theorem q1912 : (Jvm.Cond.methodLink "FrameSheetsModel" (232 : Nat) ({ cls := "FrameSheetsModel", name := "isSet", desc := "(I)Z" } : Jvm.MethodName)) ∈ lw_all := lw_g (lw_at lw_m8 128 rfl) rfl
theorem q1913 : (Jvm.Cond.privateMethod ({ cls := "FrameSheetsModel", name := "isSet", desc := "(I)Z" } : Jvm.MethodName)) ∈ lw_tbl := lw_at lw_m8 129 rfl
theorem q1914 : (Jvm.Cond.instanceMethod ({ cls := "FrameSheetsModel", name := "isSet", desc := "(I)Z" } : Jvm.MethodName)) ∈ lw_all := lw_g (lw_at lw_m8 130 rfl) rfl
theorem q1915 : (Jvm.Cond.code ({ cls := "FrameSheetsModel", name := "isSet", desc := "(I)Z" } : Jvm.MethodName) prog_13_method_50_code (2 : Nat) (Option.some Jvm.ClassFile.FieldType.boolean)) ∈ lw_all := lw_g (lw_at lw_m8 131 rfl) rfl
theorem q1917 : (Jvm.Cond.instanceMethod ({ cls := "FrameSheetsModel", name := "mark", desc := "(II)I" } : Jvm.MethodName)) ∈ lw_all := lw_g (lw_at lw_m8 133 rfl) rfl
theorem q1918 : (Jvm.Cond.selects "FrameSheetsModel" ({ cls := "FrameSheetsModel", name := "mark", desc := "(II)I" } : Jvm.MethodName) ({ cls := "FrameSheetsModel", name := "mark", desc := "(II)I" } : Jvm.MethodName)) ∈ lw_all := lw_g (lw_at lw_m8 134 rfl) rfl
theorem q1919 : (Jvm.Cond.code ({ cls := "FrameSheetsModel", name := "mark", desc := "(II)I" } : Jvm.MethodName) prog_13_method_55_code (5 : Nat) (Option.some Jvm.ClassFile.FieldType.int)) ∈ lw_all := lw_g (lw_at lw_m8 135 rfl) rfl
theorem q1921 : (Jvm.Cond.instanceMethod ({ cls := "FrameSheetsModel", name := "undo", desc := "(I)I" } : Jvm.MethodName)) ∈ lw_all := lw_g (lw_at lw_m8 137 rfl) rfl
theorem q1922 : (Jvm.Cond.selects "FrameSheetsModel" ({ cls := "FrameSheetsModel", name := "undo", desc := "(I)I" } : Jvm.MethodName) ({ cls := "FrameSheetsModel", name := "undo", desc := "(I)I" } : Jvm.MethodName)) ∈ lw_all := lw_g (lw_at lw_m8 138 rfl) rfl
theorem q1923 : (Jvm.Cond.code ({ cls := "FrameSheetsModel", name := "undo", desc := "(I)I" } : Jvm.MethodName) prog_13_method_71_code (4 : Nat) (Option.some Jvm.ClassFile.FieldType.int)) ∈ lw_all := lw_g (lw_at lw_m8 139 rfl) rfl
theorem q1925 : (Jvm.Cond.instanceMethod ({ cls := "FrameSheetsModel", name := "keep", desc := "(I)I" } : Jvm.MethodName)) ∈ lw_all := lw_g (lw_at lw_m8 141 rfl) rfl
theorem q1926 : (Jvm.Cond.selects "FrameSheetsModel" ({ cls := "FrameSheetsModel", name := "keep", desc := "(I)I" } : Jvm.MethodName) ({ cls := "FrameSheetsModel", name := "keep", desc := "(I)I" } : Jvm.MethodName)) ∈ lw_all := lw_g (lw_at lw_m8 142 rfl) rfl
theorem q1927 : (Jvm.Cond.code ({ cls := "FrameSheetsModel", name := "keep", desc := "(I)I" } : Jvm.MethodName) prog_13_method_72_code (3 : Nat) (Option.some Jvm.ClassFile.FieldType.int)) ∈ lw_all := lw_g (lw_at lw_m8 143 rfl) rfl
theorem q1929 : (Jvm.Cond.instanceMethod ({ cls := "FrameSheetsModel", name := "on", desc := "(I)I" } : Jvm.MethodName)) ∈ lw_all := lw_g (lw_at lw_m8 145 rfl) rfl
theorem q1930 : (Jvm.Cond.selects "FrameSheetsModel" ({ cls := "FrameSheetsModel", name := "on", desc := "(I)I" } : Jvm.MethodName) ({ cls := "FrameSheetsModel", name := "on", desc := "(I)I" } : Jvm.MethodName)) ∈ lw_all := lw_g (lw_at lw_m8 146 rfl) rfl
theorem q1931 : (Jvm.Cond.code ({ cls := "FrameSheetsModel", name := "on", desc := "(I)I" } : Jvm.MethodName) prog_13_method_73_code (3 : Nat) (Option.some Jvm.ClassFile.FieldType.int)) ∈ lw_all := lw_g (lw_at lw_m8 147 rfl) rfl
theorem q1933 : (Jvm.Cond.instanceMethod ({ cls := "FrameSheetsModel", name := "set", desc := "(I)I" } : Jvm.MethodName)) ∈ lw_all := lw_g (lw_at lw_m8 149 rfl) rfl
theorem q1934 : (Jvm.Cond.selects "FrameSheetsModel" ({ cls := "FrameSheetsModel", name := "set", desc := "(I)I" } : Jvm.MethodName) ({ cls := "FrameSheetsModel", name := "set", desc := "(I)I" } : Jvm.MethodName)) ∈ lw_all := lw_g (lw_at lw_m8 150 rfl) rfl
theorem q1935 : (Jvm.Cond.code ({ cls := "FrameSheetsModel", name := "set", desc := "(I)I" } : Jvm.MethodName) prog_13_method_74_code (3 : Nat) (Option.some Jvm.ClassFile.FieldType.int)) ∈ lw_all := lw_g (lw_at lw_m8 151 rfl) rfl
theorem q1936 : (Jvm.Cond.methodLink "FrameSheetsModel" (286 : Nat) ({ cls := "FrameSheetsModel", name := "findsPage", desc := "(I)I" } : Jvm.MethodName)) ∈ lw_all := lw_g (lw_at lw_m8 152 rfl) rfl
theorem q1937 : (Jvm.Cond.privateMethod ({ cls := "FrameSheetsModel", name := "findsPage", desc := "(I)I" } : Jvm.MethodName)) ∈ lw_tbl := lw_at lw_m8 153 rfl
theorem q1938 : (Jvm.Cond.instanceMethod ({ cls := "FrameSheetsModel", name := "findsPage", desc := "(I)I" } : Jvm.MethodName)) ∈ lw_all := lw_g (lw_at lw_m8 154 rfl) rfl
theorem q1939 : (Jvm.Cond.code ({ cls := "FrameSheetsModel", name := "findsPage", desc := "(I)I" } : Jvm.MethodName) prog_13_method_65_code (4 : Nat) (Option.some Jvm.ClassFile.FieldType.int)) ∈ lw_all := lw_g (lw_at lw_m8 155 rfl) rfl
theorem q1940 : (Jvm.Cond.methodLink "FrameSheetsModel" (270 : Nat) ({ cls := "FrameSheetsModel", name := "pageMany", desc := "()I" } : Jvm.MethodName)) ∈ lw_all := lw_g (lw_at lw_m8 156 rfl) rfl
theorem q1941 : (Jvm.Cond.privateMethod ({ cls := "FrameSheetsModel", name := "pageMany", desc := "()I" } : Jvm.MethodName)) ∈ lw_tbl := lw_at lw_m8 157 rfl
theorem q1942 : (Jvm.Cond.instanceMethod ({ cls := "FrameSheetsModel", name := "pageMany", desc := "()I" } : Jvm.MethodName)) ∈ lw_all := lw_g (lw_at lw_m8 158 rfl) rfl
theorem q1943 : (Jvm.Cond.code ({ cls := "FrameSheetsModel", name := "pageMany", desc := "()I" } : Jvm.MethodName) prog_13_method_56_code (3 : Nat) (Option.some Jvm.ClassFile.FieldType.int)) ∈ lw_all := lw_g (lw_at lw_m8 159 rfl) rfl
theorem q1944 : (Jvm.Cond.methodLink "FrameSheetsModel" (274 : Nat) ({ cls := "FrameSheetsModel", name := "layFree", desc := "(I)V" } : Jvm.MethodName)) ∈ lw_all := lw_g (lw_at lw_m8 160 rfl) rfl
theorem q1945 : (Jvm.Cond.privateMethod ({ cls := "FrameSheetsModel", name := "layFree", desc := "(I)V" } : Jvm.MethodName)) ∈ lw_tbl := lw_at lw_m8 161 rfl
theorem q1946 : (Jvm.Cond.instanceMethod ({ cls := "FrameSheetsModel", name := "layFree", desc := "(I)V" } : Jvm.MethodName)) ∈ lw_all := lw_g (lw_at lw_m8 162 rfl) rfl
theorem q1947 : (Jvm.Cond.code ({ cls := "FrameSheetsModel", name := "layFree", desc := "(I)V" } : Jvm.MethodName) prog_13_method_60_code (7 : Nat) (Option.none : Option Jvm.ClassFile.FieldType)) ∈ lw_all := lw_g (lw_at lw_m8 163 rfl) rfl
theorem q1948 : (Jvm.Cond.methodLink "FrameSheetsModel" (239 : Nat) ({ cls := "FrameSheetsModel", name := "layGrid", desc := "(I)V" } : Jvm.MethodName)) ∈ lw_all := lw_g (lw_at lw_m8 164 rfl) rfl
theorem q1949 : (Jvm.Cond.privateMethod ({ cls := "FrameSheetsModel", name := "layGrid", desc := "(I)V" } : Jvm.MethodName)) ∈ lw_tbl := lw_at lw_m8 165 rfl
theorem q1950 : (Jvm.Cond.instanceMethod ({ cls := "FrameSheetsModel", name := "layGrid", desc := "(I)V" } : Jvm.MethodName)) ∈ lw_all := lw_g (lw_at lw_m8 166 rfl) rfl
theorem q1951 : (Jvm.Cond.code ({ cls := "FrameSheetsModel", name := "layGrid", desc := "(I)V" } : Jvm.MethodName) prog_13_method_57_code (6 : Nat) (Option.none : Option Jvm.ClassFile.FieldType)) ∈ lw_all := lw_g (lw_at lw_m8 167 rfl) rfl
theorem q1952 : (Jvm.Cond.methodLink "FrameSheetsModel" (235 : Nat) ({ cls := "FrameSheetsModel", name := "isFree", desc := "(IIII)Z" } : Jvm.MethodName)) ∈ lw_all := lw_g (lw_at lw_m8 168 rfl) rfl
theorem q1953 : (Jvm.Cond.privateMethod ({ cls := "FrameSheetsModel", name := "isFree", desc := "(IIII)Z" } : Jvm.MethodName)) ∈ lw_tbl := lw_at lw_m8 169 rfl
theorem q1954 : (Jvm.Cond.instanceMethod ({ cls := "FrameSheetsModel", name := "isFree", desc := "(IIII)Z" } : Jvm.MethodName)) ∈ lw_all := lw_g (lw_at lw_m8 170 rfl) rfl
theorem q1955 : (Jvm.Cond.code ({ cls := "FrameSheetsModel", name := "isFree", desc := "(IIII)Z" } : Jvm.MethodName) prog_13_method_58_code (7 : Nat) (Option.some Jvm.ClassFile.FieldType.boolean)) ∈ lw_all := lw_g (lw_at lw_m8 171 rfl) rfl
theorem q1956 : (Jvm.Cond.methodLink "FrameSheetsModel" (245 : Nat) ({ cls := "FrameSheetsModel", name := "isGreatest", desc := "(IIII)Z" } : Jvm.MethodName)) ∈ lw_all := lw_g (lw_at lw_m8 172 rfl) rfl
theorem q1957 : (Jvm.Cond.privateMethod ({ cls := "FrameSheetsModel", name := "isGreatest", desc := "(IIII)Z" } : Jvm.MethodName)) ∈ lw_tbl := lw_at lw_m8 173 rfl
theorem q1958 : (Jvm.Cond.instanceMethod ({ cls := "FrameSheetsModel", name := "isGreatest", desc := "(IIII)Z" } : Jvm.MethodName)) ∈ lw_all := lw_g (lw_at lw_m8 174 rfl) rfl
theorem q1959 : (Jvm.Cond.code ({ cls := "FrameSheetsModel", name := "isGreatest", desc := "(IIII)Z" } : Jvm.MethodName) prog_13_method_59_code (5 : Nat) (Option.some Jvm.ClassFile.FieldType.boolean)) ∈ lw_all := lw_g (lw_at lw_m8 175 rfl) rfl
theorem q1960 : (Jvm.Cond.methodLink "FrameSheetsModel" (277 : Nat) ({ cls := "FrameSheetsModel", name := "findsRoom", desc := "(II)Z" } : Jvm.MethodName)) ∈ lw_all := lw_g (lw_at lw_m8 176 rfl) rfl
theorem q1961 : (Jvm.Cond.privateMethod ({ cls := "FrameSheetsModel", name := "findsRoom", desc := "(II)Z" } : Jvm.MethodName)) ∈ lw_tbl := lw_at lw_m8 177 rfl
theorem q1962 : (Jvm.Cond.instanceMethod ({ cls := "FrameSheetsModel", name := "findsRoom", desc := "(II)Z" } : Jvm.MethodName)) ∈ lw_all := lw_g (lw_at lw_m8 178 rfl) rfl
theorem q1963 : (Jvm.Cond.code ({ cls := "FrameSheetsModel", name := "findsRoom", desc := "(II)Z" } : Jvm.MethodName) prog_13_method_64_code (7 : Nat) (Option.some Jvm.ClassFile.FieldType.boolean)) ∈ lw_all := lw_g (lw_at lw_m8 179 rfl) rfl
theorem q1964 : (Jvm.Cond.methodLink "FrameSheetsModel" (251 : Nat) ({ cls := "FrameSheetsModel", name := "turns", desc := "(I)I" } : Jvm.MethodName)) ∈ lw_all := lw_g (lw_at lw_m8 180 rfl) rfl
theorem q1965 : (Jvm.Cond.privateMethod ({ cls := "FrameSheetsModel", name := "turns", desc := "(I)I" } : Jvm.MethodName)) ∈ lw_tbl := lw_at lw_m8 181 rfl
theorem q1966 : (Jvm.Cond.instanceMethod ({ cls := "FrameSheetsModel", name := "turns", desc := "(I)I" } : Jvm.MethodName)) ∈ lw_all := lw_g (lw_at lw_m8 182 rfl) rfl
theorem q1967 : (Jvm.Cond.code ({ cls := "FrameSheetsModel", name := "turns", desc := "(I)I" } : Jvm.MethodName) prog_13_method_63_code (2 : Nat) (Option.some Jvm.ClassFile.FieldType.int)) ∈ lw_all := lw_g (lw_at lw_m8 183 rfl) rfl
theorem q1968 : (Jvm.Cond.methodLink "FrameSheetsModel" (254 : Nat) ({ cls := "FrameSheetsModel", name := "first", desc := "(IIII)I" } : Jvm.MethodName)) ∈ lw_all := lw_g (lw_at lw_m8 184 rfl) rfl
theorem q1969 : (Jvm.Cond.privateMethod ({ cls := "FrameSheetsModel", name := "first", desc := "(IIII)I" } : Jvm.MethodName)) ∈ lw_tbl := lw_at lw_m8 185 rfl
theorem q1970 : (Jvm.Cond.instanceMethod ({ cls := "FrameSheetsModel", name := "first", desc := "(IIII)I" } : Jvm.MethodName)) ∈ lw_all := lw_g (lw_at lw_m8 186 rfl) rfl
theorem q1971 : (Jvm.Cond.code ({ cls := "FrameSheetsModel", name := "first", desc := "(IIII)I" } : Jvm.MethodName) prog_13_method_61_code (7 : Nat) (Option.some Jvm.ClassFile.FieldType.int)) ∈ lw_all := lw_g (lw_at lw_m8 187 rfl) rfl
theorem q1972 : (Jvm.Cond.methodLink "FrameSheetsModel" (258 : Nat) ({ cls := "FrameSheetsModel", name := "second", desc := "(IIII)I" } : Jvm.MethodName)) ∈ lw_all := lw_g (lw_at lw_m8 188 rfl) rfl
theorem q1973 : (Jvm.Cond.privateMethod ({ cls := "FrameSheetsModel", name := "second", desc := "(IIII)I" } : Jvm.MethodName)) ∈ lw_tbl := lw_at lw_m8 189 rfl
theorem q1974 : (Jvm.Cond.instanceMethod ({ cls := "FrameSheetsModel", name := "second", desc := "(IIII)I" } : Jvm.MethodName)) ∈ lw_all := lw_g (lw_at lw_m8 190 rfl) rfl
theorem q1975 : (Jvm.Cond.code ({ cls := "FrameSheetsModel", name := "second", desc := "(IIII)I" } : Jvm.MethodName) prog_13_method_62_code (7 : Nat) (Option.some Jvm.ClassFile.FieldType.int)) ∈ lw_all := lw_g (lw_at lw_m8 191 rfl) rfl
theorem q1976 : (Jvm.Cond.methodLink "FrameSheetsModel" (293 : Nat) ({ cls := "FrameSheetsModel", name := "remember", desc := "()V" } : Jvm.MethodName)) ∈ lw_all := lw_g (lw_at lw_m8 192 rfl) rfl
theorem q1977 : (Jvm.Cond.privateMethod ({ cls := "FrameSheetsModel", name := "remember", desc := "()V" } : Jvm.MethodName)) ∈ lw_tbl := lw_at lw_m8 193 rfl
theorem q1978 : (Jvm.Cond.instanceMethod ({ cls := "FrameSheetsModel", name := "remember", desc := "()V" } : Jvm.MethodName)) ∈ lw_all := lw_g (lw_at lw_m8 194 rfl) rfl
theorem q1979 : (Jvm.Cond.code ({ cls := "FrameSheetsModel", name := "remember", desc := "()V" } : Jvm.MethodName) prog_13_method_70_code (2 : Nat) (Option.none : Option Jvm.ClassFile.FieldType)) ∈ lw_all := lw_g (lw_at lw_m8 195 rfl) rfl
theorem q1980 : (Jvm.Cond.methodLink "FrameSheetsModel" (289 : Nat) ({ cls := "FrameSheetsModel", name := "sets", desc := "(II)V" } : Jvm.MethodName)) ∈ lw_all := lw_g (lw_at lw_m8 196 rfl) rfl
theorem q1981 : (Jvm.Cond.privateMethod ({ cls := "FrameSheetsModel", name := "sets", desc := "(II)V" } : Jvm.MethodName)) ∈ lw_tbl := lw_at lw_m8 197 rfl
theorem q1982 : (Jvm.Cond.instanceMethod ({ cls := "FrameSheetsModel", name := "sets", desc := "(II)V" } : Jvm.MethodName)) ∈ lw_all := lw_g (lw_at lw_m8 198 rfl) rfl
theorem q1983 : (Jvm.Cond.code ({ cls := "FrameSheetsModel", name := "sets", desc := "(II)V" } : Jvm.MethodName) prog_13_method_66_code (3 : Nat) (Option.none : Option Jvm.ClassFile.FieldType)) ∈ lw_all := lw_g (lw_at lw_m8 199 rfl) rfl
theorem q1985 : (Jvm.Cond.instanceMethod ({ cls := "FrameSheetsModel", name := "lift", desc := "(I)I" } : Jvm.MethodName)) ∈ lw_all := lw_g (lw_at lw_m8 201 rfl) rfl
theorem q1986 : (Jvm.Cond.selects "FrameSheetsModel" ({ cls := "FrameSheetsModel", name := "lift", desc := "(I)I" } : Jvm.MethodName) ({ cls := "FrameSheetsModel", name := "lift", desc := "(I)I" } : Jvm.MethodName)) ∈ lw_all := lw_g (lw_at lw_m8 202 rfl) rfl
theorem q1987 : (Jvm.Cond.code ({ cls := "FrameSheetsModel", name := "lift", desc := "(I)I" } : Jvm.MethodName) prog_13_method_75_code (2 : Nat) (Option.some Jvm.ClassFile.FieldType.int)) ∈ lw_all := lw_g (lw_at lw_m8 203 rfl) rfl
theorem q1988 : (Jvm.Cond.methodLink "FrameSheetsModel" (296 : Nat) ({ cls := "FrameSheetsModel", name := "lifts", desc := "(I)V" } : Jvm.MethodName)) ∈ lw_all := lw_g (lw_at lw_m8 204 rfl) rfl
theorem q1989 : (Jvm.Cond.privateMethod ({ cls := "FrameSheetsModel", name := "lifts", desc := "(I)V" } : Jvm.MethodName)) ∈ lw_tbl := lw_at lw_m8 205 rfl
theorem q1990 : (Jvm.Cond.instanceMethod ({ cls := "FrameSheetsModel", name := "lifts", desc := "(I)V" } : Jvm.MethodName)) ∈ lw_all := lw_g (lw_at lw_m8 206 rfl) rfl
theorem q1991 : (Jvm.Cond.code ({ cls := "FrameSheetsModel", name := "lifts", desc := "(I)V" } : Jvm.MethodName) prog_13_method_67_code (2 : Nat) (Option.none : Option Jvm.ClassFile.FieldType)) ∈ lw_all := lw_g (lw_at lw_m8 207 rfl) rfl
theorem q1993 : (Jvm.Cond.instanceMethod ({ cls := "FrameSheetsModel", name := "all", desc := "(I)I" } : Jvm.MethodName)) ∈ lw_all := lw_g (lw_at lw_m8 209 rfl) rfl
theorem q1994 : (Jvm.Cond.selects "FrameSheetsModel" ({ cls := "FrameSheetsModel", name := "all", desc := "(I)I" } : Jvm.MethodName) ({ cls := "FrameSheetsModel", name := "all", desc := "(I)I" } : Jvm.MethodName)) ∈ lw_all := lw_g (lw_at lw_m8 210 rfl) rfl
theorem q1995 : (Jvm.Cond.code ({ cls := "FrameSheetsModel", name := "all", desc := "(I)I" } : Jvm.MethodName) prog_13_method_76_code (2 : Nat) (Option.some Jvm.ClassFile.FieldType.int)) ∈ lw_all := lw_g (lw_at lw_m8 211 rfl) rfl
theorem q1996 : (Jvm.Cond.methodLink "FrameSheetsModel" (299 : Nat) ({ cls := "FrameSheetsModel", name := "setsAll", desc := "(I)V" } : Jvm.MethodName)) ∈ lw_all := lw_g (lw_at lw_m8 212 rfl) rfl
theorem q1997 : (Jvm.Cond.privateMethod ({ cls := "FrameSheetsModel", name := "setsAll", desc := "(I)V" } : Jvm.MethodName)) ∈ lw_tbl := lw_at lw_m8 213 rfl
theorem q1998 : (Jvm.Cond.instanceMethod ({ cls := "FrameSheetsModel", name := "setsAll", desc := "(I)V" } : Jvm.MethodName)) ∈ lw_all := lw_g (lw_at lw_m8 214 rfl) rfl
theorem q1999 : (Jvm.Cond.code ({ cls := "FrameSheetsModel", name := "setsAll", desc := "(I)V" } : Jvm.MethodName) prog_13_method_69_code (6 : Nat) (Option.none : Option Jvm.ClassFile.FieldType)) ∈ lw_all := lw_g (lw_at lw_m8 215 rfl) rfl
theorem q2000 : (Jvm.Cond.methodLink "FrameSheetsModel" (280 : Nat) ({ cls := "FrameSheetsModel", name := "has", desc := "(II)Z" } : Jvm.MethodName)) ∈ lw_all := lw_g (lw_at lw_m8 216 rfl) rfl
theorem q2001 : (Jvm.Cond.static ({ cls := "FrameSheetsModel", name := "has", desc := "(II)Z" } : Jvm.MethodName)) ∈ lw_all := lw_g (lw_at lw_m8 217 rfl) rfl
theorem q2002 : (Jvm.Cond.code ({ cls := "FrameSheetsModel", name := "has", desc := "(II)Z" } : Jvm.MethodName) prog_13_method_3_code (2 : Nat) (Option.some Jvm.ClassFile.FieldType.boolean)) ∈ lw_all := lw_g (lw_at lw_m8 218 rfl) rfl
theorem q2003 : (Jvm.Cond.methodLink "FrameSheetsModel" (283 : Nat) ({ cls := "FrameSheetsModel", name := "weight", desc := "(II)I" } : Jvm.MethodName)) ∈ lw_all := lw_g (lw_at lw_m8 219 rfl) rfl
theorem q2004 : (Jvm.Cond.privateMethod ({ cls := "FrameSheetsModel", name := "weight", desc := "(II)I" } : Jvm.MethodName)) ∈ lw_tbl := lw_at lw_m8 220 rfl
theorem q2005 : (Jvm.Cond.instanceMethod ({ cls := "FrameSheetsModel", name := "weight", desc := "(II)I" } : Jvm.MethodName)) ∈ lw_all := lw_g (lw_at lw_m8 221 rfl) rfl
theorem q2006 : (Jvm.Cond.code ({ cls := "FrameSheetsModel", name := "weight", desc := "(II)I" } : Jvm.MethodName) prog_13_method_68_code (5 : Nat) (Option.some Jvm.ClassFile.FieldType.int)) ∈ lw_all := lw_g (lw_at lw_m8 222 rfl) rfl
theorem q2008 : (Jvm.Cond.instanceMethod ({ cls := "FrameSheetsModel", name := "rule", desc := "(I)I" } : Jvm.MethodName)) ∈ lw_all := lw_g (lw_at lw_m8 224 rfl) rfl
theorem q2009 : (Jvm.Cond.selects "FrameSheetsModel" ({ cls := "FrameSheetsModel", name := "rule", desc := "(I)I" } : Jvm.MethodName) ({ cls := "FrameSheetsModel", name := "rule", desc := "(I)I" } : Jvm.MethodName)) ∈ lw_all := lw_g (lw_at lw_m8 225 rfl) rfl
theorem q2010 : (Jvm.Cond.code ({ cls := "FrameSheetsModel", name := "rule", desc := "(I)I" } : Jvm.MethodName) prog_13_method_77_code (3 : Nat) (Option.some Jvm.ClassFile.FieldType.int)) ∈ lw_all := lw_g (lw_at lw_m8 226 rfl) rfl
theorem q2012 : (Jvm.Cond.instanceMethod ({ cls := "FrameSheetsModel", name := "free", desc := "(III)I" } : Jvm.MethodName)) ∈ lw_all := lw_g (lw_at lw_m8 228 rfl) rfl
theorem q2013 : (Jvm.Cond.selects "FrameSheetsModel" ({ cls := "FrameSheetsModel", name := "free", desc := "(III)I" } : Jvm.MethodName) ({ cls := "FrameSheetsModel", name := "free", desc := "(III)I" } : Jvm.MethodName)) ∈ lw_all := lw_g (lw_at lw_m8 229 rfl) rfl
theorem q2014 : (Jvm.Cond.code ({ cls := "FrameSheetsModel", name := "free", desc := "(III)I" } : Jvm.MethodName) prog_13_method_79_code (4 : Nat) (Option.some Jvm.ClassFile.FieldType.int)) ∈ lw_all := lw_g (lw_at lw_m8 230 rfl) rfl
theorem q2015 : (Jvm.Cond.methodLink "FrameSheetsModel" (302 : Nat) ({ cls := "FrameSheetsModel", name := "isPage", desc := "(I)Z" } : Jvm.MethodName)) ∈ lw_all := lw_g (lw_at lw_m8 231 rfl) rfl
theorem q2016 : (Jvm.Cond.privateMethod ({ cls := "FrameSheetsModel", name := "isPage", desc := "(I)Z" } : Jvm.MethodName)) ∈ lw_tbl := lw_at lw_m8 232 rfl
theorem q2017 : (Jvm.Cond.instanceMethod ({ cls := "FrameSheetsModel", name := "isPage", desc := "(I)Z" } : Jvm.MethodName)) ∈ lw_all := lw_g (lw_at lw_m8 233 rfl) rfl
theorem q2018 : (Jvm.Cond.code ({ cls := "FrameSheetsModel", name := "isPage", desc := "(I)Z" } : Jvm.MethodName) prog_13_method_78_code (2 : Nat) (Option.some Jvm.ClassFile.FieldType.boolean)) ∈ lw_all := lw_g (lw_at lw_m8 234 rfl) rfl
theorem q2020 : (Jvm.Cond.instanceMethod ({ cls := "FrameSheetsModel", name := "seen", desc := "(III)I" } : Jvm.MethodName)) ∈ lw_all := lw_g (lw_at lw_m8 236 rfl) rfl
theorem q2021 : (Jvm.Cond.selects "FrameSheetsModel" ({ cls := "FrameSheetsModel", name := "seen", desc := "(III)I" } : Jvm.MethodName) ({ cls := "FrameSheetsModel", name := "seen", desc := "(III)I" } : Jvm.MethodName)) ∈ lw_all := lw_g (lw_at lw_m8 237 rfl) rfl
theorem q2022 : (Jvm.Cond.code ({ cls := "FrameSheetsModel", name := "seen", desc := "(III)I" } : Jvm.MethodName) prog_13_method_81_code (10 : Nat) (Option.some Jvm.ClassFile.FieldType.int)) ∈ lw_all := lw_g (lw_at lw_m8 238 rfl) rfl
theorem q2023 : (Jvm.Cond.methodLink "FrameSheetsModel" (305 : Nat) ({ cls := "FrameSheetsModel", name := "clamped", desc := "(II)I" } : Jvm.MethodName)) ∈ lw_all := lw_g (lw_at lw_m8 239 rfl) rfl
theorem q2024 : (Jvm.Cond.static ({ cls := "FrameSheetsModel", name := "clamped", desc := "(II)I" } : Jvm.MethodName)) ∈ lw_all := lw_g (lw_at lw_m9 0 rfl) rfl
theorem q2025 : (Jvm.Cond.code ({ cls := "FrameSheetsModel", name := "clamped", desc := "(II)I" } : Jvm.MethodName) prog_13_method_80_code (2 : Nat) (Option.some Jvm.ClassFile.FieldType.int)) ∈ lw_all := lw_g (lw_at lw_m9 1 rfl) rfl
theorem q2026 : (Jvm.Cond.methodLink "FrameSheetsModel" (308 : Nat) ({ cls := "FrameSheetsModel", name := "leftOf", desc := "(I)I" } : Jvm.MethodName)) ∈ lw_all := lw_g (lw_at lw_m9 2 rfl) rfl
theorem q2027 : (Jvm.Cond.privateMethod ({ cls := "FrameSheetsModel", name := "leftOf", desc := "(I)I" } : Jvm.MethodName)) ∈ lw_tbl := lw_at lw_m9 3 rfl
theorem q2028 : (Jvm.Cond.instanceMethod ({ cls := "FrameSheetsModel", name := "leftOf", desc := "(I)I" } : Jvm.MethodName)) ∈ lw_all := lw_g (lw_at lw_m9 4 rfl) rfl
theorem q2029 : (Jvm.Cond.code ({ cls := "FrameSheetsModel", name := "leftOf", desc := "(I)I" } : Jvm.MethodName) prog_13_method_43_code (2 : Nat) (Option.some Jvm.ClassFile.FieldType.int)) ∈ lw_all := lw_g (lw_at lw_m9 5 rfl) rfl
theorem q2030 : (Jvm.Cond.methodLink "FrameSheetsModel" (311 : Nat) ({ cls := "FrameSheetsModel", name := "aboveOf", desc := "(I)I" } : Jvm.MethodName)) ∈ lw_all := lw_g (lw_at lw_m9 6 rfl) rfl
theorem q2031 : (Jvm.Cond.privateMethod ({ cls := "FrameSheetsModel", name := "aboveOf", desc := "(I)I" } : Jvm.MethodName)) ∈ lw_tbl := lw_at lw_m9 7 rfl
theorem q2032 : (Jvm.Cond.instanceMethod ({ cls := "FrameSheetsModel", name := "aboveOf", desc := "(I)I" } : Jvm.MethodName)) ∈ lw_all := lw_g (lw_at lw_m9 8 rfl) rfl
theorem q2033 : (Jvm.Cond.code ({ cls := "FrameSheetsModel", name := "aboveOf", desc := "(I)I" } : Jvm.MethodName) prog_13_method_44_code (2 : Nat) (Option.some Jvm.ClassFile.FieldType.int)) ∈ lw_all := lw_g (lw_at lw_m9 9 rfl) rfl
theorem q2035 : (Jvm.Cond.instanceMethod ({ cls := "FrameSheetsModel", name := "point", desc := "(III)I" } : Jvm.MethodName)) ∈ lw_all := lw_g (lw_at lw_m9 11 rfl) rfl
theorem q2036 : (Jvm.Cond.selects "FrameSheetsModel" ({ cls := "FrameSheetsModel", name := "point", desc := "(III)I" } : Jvm.MethodName) ({ cls := "FrameSheetsModel", name := "point", desc := "(III)I" } : Jvm.MethodName)) ∈ lw_all := lw_g (lw_at lw_m9 12 rfl) rfl
theorem q2037 : (Jvm.Cond.code ({ cls := "FrameSheetsModel", name := "point", desc := "(III)I" } : Jvm.MethodName) prog_13_method_82_code (9 : Nat) (Option.some Jvm.ClassFile.FieldType.int)) ∈ lw_all := lw_g (lw_at lw_m9 13 rfl) rfl
theorem q2039 : (Jvm.Cond.instanceMethod ({ cls := "FrameSheetsModel", name := "used", desc := "(I)I" } : Jvm.MethodName)) ∈ lw_all := lw_g (lw_at lw_m9 15 rfl) rfl
theorem q2040 : (Jvm.Cond.selects "FrameSheetsModel" ({ cls := "FrameSheetsModel", name := "used", desc := "(I)I" } : Jvm.MethodName) ({ cls := "FrameSheetsModel", name := "used", desc := "(I)I" } : Jvm.MethodName)) ∈ lw_all := lw_g (lw_at lw_m9 16 rfl) rfl
theorem q2041 : (Jvm.Cond.code ({ cls := "FrameSheetsModel", name := "used", desc := "(I)I" } : Jvm.MethodName) prog_13_method_84_code (3 : Nat) (Option.some Jvm.ClassFile.FieldType.int)) ∈ lw_all := lw_g (lw_at lw_m9 17 rfl) rfl
theorem q2042 : (Jvm.Cond.methodLink "FrameSheetsModel" (314 : Nat) ({ cls := "FrameSheetsModel", name := "takenOf", desc := "(I)I" } : Jvm.MethodName)) ∈ lw_all := lw_g (lw_at lw_m9 18 rfl) rfl
theorem q2043 : (Jvm.Cond.privateMethod ({ cls := "FrameSheetsModel", name := "takenOf", desc := "(I)I" } : Jvm.MethodName)) ∈ lw_tbl := lw_at lw_m9 19 rfl
theorem q2044 : (Jvm.Cond.instanceMethod ({ cls := "FrameSheetsModel", name := "takenOf", desc := "(I)I" } : Jvm.MethodName)) ∈ lw_all := lw_g (lw_at lw_m9 20 rfl) rfl
theorem q2045 : (Jvm.Cond.code ({ cls := "FrameSheetsModel", name := "takenOf", desc := "(I)I" } : Jvm.MethodName) prog_13_method_83_code (4 : Nat) (Option.some Jvm.ClassFile.FieldType.int)) ∈ lw_all := lw_g (lw_at lw_m9 21 rfl) rfl
theorem q2047 : (Jvm.Cond.instanceMethod ({ cls := "FrameSheetsModel", name := "takes", desc := "(I)I" } : Jvm.MethodName)) ∈ lw_all := lw_g (lw_at lw_m9 23 rfl) rfl
theorem q2048 : (Jvm.Cond.selects "FrameSheetsModel" ({ cls := "FrameSheetsModel", name := "takes", desc := "(I)I" } : Jvm.MethodName) ({ cls := "FrameSheetsModel", name := "takes", desc := "(I)I" } : Jvm.MethodName)) ∈ lw_all := lw_g (lw_at lw_m9 24 rfl) rfl
theorem q2049 : (Jvm.Cond.code ({ cls := "FrameSheetsModel", name := "takes", desc := "(I)I" } : Jvm.MethodName) prog_13_method_85_code (5 : Nat) (Option.some Jvm.ClassFile.FieldType.int)) ∈ lw_all := lw_g (lw_at lw_m9 25 rfl) rfl
theorem q2051 : (Jvm.Cond.instanceMethod ({ cls := "FrameSheetsModel", name := "would", desc := "(II)I" } : Jvm.MethodName)) ∈ lw_all := lw_g (lw_at lw_m9 27 rfl) rfl
theorem q2052 : (Jvm.Cond.selects "FrameSheetsModel" ({ cls := "FrameSheetsModel", name := "would", desc := "(II)I" } : Jvm.MethodName) ({ cls := "FrameSheetsModel", name := "would", desc := "(II)I" } : Jvm.MethodName)) ∈ lw_all := lw_g (lw_at lw_m9 28 rfl) rfl
theorem q2053 : (Jvm.Cond.code ({ cls := "FrameSheetsModel", name := "would", desc := "(II)I" } : Jvm.MethodName) prog_13_method_87_code (3 : Nat) (Option.some Jvm.ClassFile.FieldType.int)) ∈ lw_all := lw_g (lw_at lw_m9 29 rfl) rfl
theorem q2054 : (Jvm.Cond.methodLink "FrameSheetsModel" (326 : Nat) ({ cls := "FrameSheetsModel", name := "tries", desc := "(II)V" } : Jvm.MethodName)) ∈ lw_all := lw_g (lw_at lw_m9 30 rfl) rfl
theorem q2055 : (Jvm.Cond.privateMethod ({ cls := "FrameSheetsModel", name := "tries", desc := "(II)V" } : Jvm.MethodName)) ∈ lw_tbl := lw_at lw_m9 31 rfl
theorem q2056 : (Jvm.Cond.instanceMethod ({ cls := "FrameSheetsModel", name := "tries", desc := "(II)V" } : Jvm.MethodName)) ∈ lw_all := lw_g (lw_at lw_m9 32 rfl) rfl
theorem q2057 : (Jvm.Cond.code ({ cls := "FrameSheetsModel", name := "tries", desc := "(II)V" } : Jvm.MethodName) prog_13_method_86_code (4 : Nat) (Option.none : Option Jvm.ClassFile.FieldType)) ∈ lw_all := lw_g (lw_at lw_m9 33 rfl) rfl
theorem q2059 : (Jvm.Cond.instanceMethod ({ cls := "FrameSheetsModel", name := "best", desc := "()I" } : Jvm.MethodName)) ∈ lw_all := lw_g (lw_at lw_m9 35 rfl) rfl
theorem q2060 : (Jvm.Cond.selects "FrameSheetsModel" ({ cls := "FrameSheetsModel", name := "best", desc := "()I" } : Jvm.MethodName) ({ cls := "FrameSheetsModel", name := "best", desc := "()I" } : Jvm.MethodName)) ∈ lw_all := lw_g (lw_at lw_m9 36 rfl) rfl
theorem q2061 : (Jvm.Cond.code ({ cls := "FrameSheetsModel", name := "best", desc := "()I" } : Jvm.MethodName) prog_13_method_89_code (8 : Nat) (Option.some Jvm.ClassFile.FieldType.int)) ∈ lw_all := lw_g (lw_at lw_m9 37 rfl) rfl
theorem q2062 : (Jvm.Cond.methodLink "FrameSheetsModel" (329 : Nat) ({ cls := "FrameSheetsModel", name := "bitsOf", desc := "(I)I" } : Jvm.MethodName)) ∈ lw_all := lw_g (lw_at lw_m9 38 rfl) rfl
theorem q2063 : (Jvm.Cond.static ({ cls := "FrameSheetsModel", name := "bitsOf", desc := "(I)I" } : Jvm.MethodName)) ∈ lw_all := lw_g (lw_at lw_m9 39 rfl) rfl
theorem q2064 : (Jvm.Cond.code ({ cls := "FrameSheetsModel", name := "bitsOf", desc := "(I)I" } : Jvm.MethodName) prog_13_method_88_code (3 : Nat) (Option.some Jvm.ClassFile.FieldType.int)) ∈ lw_all := lw_g (lw_at lw_m9 40 rfl) rfl
theorem q2066 : (Jvm.Cond.instanceMethod ({ cls := "FrameSheetsModel", name := "lots", desc := "(II)I" } : Jvm.MethodName)) ∈ lw_all := lw_g (lw_at lw_m9 42 rfl) rfl
theorem q2067 : (Jvm.Cond.selects "FrameSheetsModel" ({ cls := "FrameSheetsModel", name := "lots", desc := "(II)I" } : Jvm.MethodName) ({ cls := "FrameSheetsModel", name := "lots", desc := "(II)I" } : Jvm.MethodName)) ∈ lw_all := lw_g (lw_at lw_m9 43 rfl) rfl
theorem q2068 : (Jvm.Cond.code ({ cls := "FrameSheetsModel", name := "lots", desc := "(II)I" } : Jvm.MethodName) prog_13_method_90_code (9 : Nat) (Option.some Jvm.ClassFile.FieldType.int)) ∈ lw_all := lw_g (lw_at lw_m9 44 rfl) rfl
theorem q2069 : (Jvm.Cond.constant "FrameSheetsModel" (332 : Nat) (2147483646 : Int32)) ∈ lw_all := lw_g (lw_at lw_m9 45 rfl) rfl
theorem q2070 : (Jvm.Cond.constantLong "FrameSheetsModel" (333 : Nat) (48271 : Int64)) ∈ lw_all := lw_g (lw_at lw_m9 46 rfl) rfl
theorem q2071 : (Jvm.Cond.constantLong "FrameSheetsModel" (335 : Nat) (2147483647 : Int64)) ∈ lw_all := lw_g (lw_at lw_m9 47 rfl) rfl
theorem q2072 : (Jvm.Cond.constantLong "FrameSheetsModel" (337 : Nat) (8 : Int64)) ∈ lw_all := lw_g (lw_at lw_m9 48 rfl) rfl
theorem q2073 : (Jvm.Cond.constantLong "FrameSheetsModel" (339 : Nat) (64 : Int64)) ∈ lw_all := lw_g (lw_at lw_m9 49 rfl) rfl
theorem q2074 : (Jvm.Cond.constantLong "FrameSheetsModel" (341 : Nat) (4 : Int64)) ∈ lw_all := lw_g (lw_at lw_m9 50 rfl) rfl
theorem q2075 : (Jvm.Cond.methodLink "FrameSheetsModel" (343 : Nat) ({ cls := "FrameSheetsModel", name := "setMany", desc := "()I" } : Jvm.MethodName)) ∈ lw_all := lw_g (lw_at lw_m9 51 rfl) rfl
theorem q2076 : (Jvm.Cond.privateMethod ({ cls := "FrameSheetsModel", name := "setMany", desc := "()I" } : Jvm.MethodName)) ∈ lw_tbl := lw_at lw_m9 52 rfl
theorem q2077 : (Jvm.Cond.instanceMethod ({ cls := "FrameSheetsModel", name := "setMany", desc := "()I" } : Jvm.MethodName)) ∈ lw_all := lw_g (lw_at lw_m9 53 rfl) rfl
theorem q2078 : (Jvm.Cond.code ({ cls := "FrameSheetsModel", name := "setMany", desc := "()I" } : Jvm.MethodName) prog_13_method_91_code (3 : Nat) (Option.some Jvm.ClassFile.FieldType.int)) ∈ lw_all := lw_g (lw_at lw_m9 54 rfl) rfl
theorem q2080 : (Jvm.Cond.instanceMethod ({ cls := "FrameSheetsModel", name := "count", desc := "(I)I" } : Jvm.MethodName)) ∈ lw_all := lw_g (lw_at lw_m9 56 rfl) rfl
theorem q2081 : (Jvm.Cond.selects "FrameSheetsModel" ({ cls := "FrameSheetsModel", name := "count", desc := "(I)I" } : Jvm.MethodName) ({ cls := "FrameSheetsModel", name := "count", desc := "(I)I" } : Jvm.MethodName)) ∈ lw_all := lw_g (lw_at lw_m9 57 rfl) rfl
theorem q2082 : (Jvm.Cond.code ({ cls := "FrameSheetsModel", name := "count", desc := "(I)I" } : Jvm.MethodName) prog_13_method_95_code (2 : Nat) (Option.some Jvm.ClassFile.FieldType.int)) ∈ lw_all := lw_g (lw_at lw_m9 58 rfl) rfl
theorem q2083 : (Jvm.Cond.methodLink "FrameSheetsModel" (352 : Nat) ({ cls := "FrameSheetsModel", name := "counted", desc := "(I)I" } : Jvm.MethodName)) ∈ lw_all := lw_g (lw_at lw_m9 59 rfl) rfl
theorem q2084 : (Jvm.Cond.privateMethod ({ cls := "FrameSheetsModel", name := "counted", desc := "(I)I" } : Jvm.MethodName)) ∈ lw_tbl := lw_at lw_m9 60 rfl
theorem q2085 : (Jvm.Cond.instanceMethod ({ cls := "FrameSheetsModel", name := "counted", desc := "(I)I" } : Jvm.MethodName)) ∈ lw_all := lw_g (lw_at lw_m9 61 rfl) rfl
theorem q2086 : (Jvm.Cond.code ({ cls := "FrameSheetsModel", name := "counted", desc := "(I)I" } : Jvm.MethodName) prog_13_method_94_code (4 : Nat) (Option.some Jvm.ClassFile.FieldType.int)) ∈ lw_all := lw_g (lw_at lw_m9 62 rfl) rfl
theorem q2087 : (Jvm.Cond.methodLink "FrameSheetsModel" (346 : Nat) ({ cls := "FrameSheetsModel", name := "allTaken", desc := "()I" } : Jvm.MethodName)) ∈ lw_all := lw_g (lw_at lw_m9 63 rfl) rfl
theorem q2088 : (Jvm.Cond.privateMethod ({ cls := "FrameSheetsModel", name := "allTaken", desc := "()I" } : Jvm.MethodName)) ∈ lw_tbl := lw_at lw_m9 64 rfl
theorem q2089 : (Jvm.Cond.instanceMethod ({ cls := "FrameSheetsModel", name := "allTaken", desc := "()I" } : Jvm.MethodName)) ∈ lw_all := lw_g (lw_at lw_m9 65 rfl) rfl
theorem q2090 : (Jvm.Cond.code ({ cls := "FrameSheetsModel", name := "allTaken", desc := "()I" } : Jvm.MethodName) prog_13_method_92_code (3 : Nat) (Option.some Jvm.ClassFile.FieldType.int)) ∈ lw_all := lw_g (lw_at lw_m9 66 rfl) rfl
theorem q2091 : (Jvm.Cond.methodLink "FrameSheetsModel" (349 : Nat) ({ cls := "FrameSheetsModel", name := "allFree", desc := "()I" } : Jvm.MethodName)) ∈ lw_all := lw_g (lw_at lw_m9 67 rfl) rfl
theorem q2092 : (Jvm.Cond.privateMethod ({ cls := "FrameSheetsModel", name := "allFree", desc := "()I" } : Jvm.MethodName)) ∈ lw_tbl := lw_at lw_m9 68 rfl
theorem q2093 : (Jvm.Cond.instanceMethod ({ cls := "FrameSheetsModel", name := "allFree", desc := "()I" } : Jvm.MethodName)) ∈ lw_all := lw_g (lw_at lw_m9 69 rfl) rfl
theorem q2094 : (Jvm.Cond.code ({ cls := "FrameSheetsModel", name := "allFree", desc := "()I" } : Jvm.MethodName) prog_13_method_93_code (3 : Nat) (Option.some Jvm.ClassFile.FieldType.int)) ∈ lw_all := lw_g (lw_at lw_m9 70 rfl) rfl
theorem q2096 : (Jvm.Cond.instanceMethod ({ cls := "FrameSheetsModel", name := "digest", desc := "()J" } : Jvm.MethodName)) ∈ lw_all := lw_g (lw_at lw_m9 72 rfl) rfl
theorem q2097 : (Jvm.Cond.selects "FrameSheetsModel" ({ cls := "FrameSheetsModel", name := "digest", desc := "()J" } : Jvm.MethodName) ({ cls := "FrameSheetsModel", name := "digest", desc := "()J" } : Jvm.MethodName)) ∈ lw_all := lw_g (lw_at lw_m9 73 rfl) rfl
theorem q2098 : (Jvm.Cond.code ({ cls := "FrameSheetsModel", name := "digest", desc := "()J" } : Jvm.MethodName) prog_13_method_97_code (3 : Nat) (Option.some Jvm.ClassFile.FieldType.long)) ∈ lw_all := lw_g (lw_at lw_m9 74 rfl) rfl
theorem q2099 : (Jvm.Cond.constantLong "FrameSheetsModel" (361 : Nat) (17 : Int64)) ∈ lw_all := lw_g (lw_at lw_m9 75 rfl) rfl
theorem q2100 : (Jvm.Cond.methodLink "FrameSheetsModel" (363 : Nat) ({ cls := "FrameSheetsModel", name := "adds", desc := "(J)V" } : Jvm.MethodName)) ∈ lw_all := lw_g (lw_at lw_m9 76 rfl) rfl
theorem q2101 : (Jvm.Cond.privateMethod ({ cls := "FrameSheetsModel", name := "adds", desc := "(J)V" } : Jvm.MethodName)) ∈ lw_tbl := lw_at lw_m9 77 rfl
theorem q2102 : (Jvm.Cond.instanceMethod ({ cls := "FrameSheetsModel", name := "adds", desc := "(J)V" } : Jvm.MethodName)) ∈ lw_all := lw_g (lw_at lw_m9 78 rfl) rfl
theorem q2103 : (Jvm.Cond.code ({ cls := "FrameSheetsModel", name := "adds", desc := "(J)V" } : Jvm.MethodName) prog_13_method_96_code (3 : Nat) (Option.none : Option Jvm.ClassFile.FieldType)) ∈ lw_all := lw_g (lw_at lw_m9 79 rfl) rfl
theorem q2104 : (Jvm.Cond.constantLong "FrameSheetsModel" (355 : Nat) (31 : Int64)) ∈ lw_all := lw_g (lw_at lw_m9 80 rfl) rfl
theorem q2105 : (Jvm.Cond.constantLong "FrameSheetsModel" (367 : Nat) (-1 : Int64)) ∈ lw_all := lw_g (lw_at lw_m9 81 rfl) rfl
theorem in_X2 : ∀ w ∈ wsX20, w ∈ lw_all := lw_in wsX20 [1622, 1624, 1626, 1628, 1630, 1632, 1634, 1636, 1638, 1640, 1642, 1644, 1646, 1648, 1650, 1652, 1654, 1656, 1658, 1660, 1662, 1664, 1666, 1668, 1670, 1672, 1674, 1676, 1678, 1680, 1682, 1684, 1686, 1688, 1690, 1692, 1694, 1696, 1698, 1700, 1702, 1704, 1706, 1708, 1710] (by decide +kernel) (by decide +kernel)
