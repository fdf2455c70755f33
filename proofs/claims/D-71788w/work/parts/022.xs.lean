/-! FrameSheets$Shortest -/
set_option maxRecDepth 100000
def RX1 : String := "FrameSheets$Shortest"
abbrev cX1_init : ByteArray := prog_11_method_1_code
def yX1_init : MethodName := ⟨RX1, "<init>", "()V"⟩
theorem dX1_init_0 : decode cX1_init 0 = .ok (.aload_n 0, 1) := by decide +kernel
theorem dX1_init_1 : decode cX1_init 1 = .ok (.invokespecial 1, 3) := by decide +kernel
theorem dX1_init_4 : decode cX1_init 4 = .ok (.return_, 1) := by decide +kernel
abbrev cX1_first : ByteArray := prog_11_method_3_code
def yX1_first : MethodName := ⟨RX1, "first", "(IIII)I"⟩
def dkwX1_first_0 : List UInt8 := [27, 28, 184, 0, 7, 172]
abbrev dktX1_first_0 : List UInt8 := dkwX1_first_0 ++ []
theorem dksX1_first_0 : cX1_first.data.toList.drop 0 = dktX1_first_0 := by decide +kernel
theorem dX1_first_0 : decode cX1_first 0 = .ok (.iload_n 1, 1) := dk_27 (dk_at dksX1_first_0 0 rfl rfl)
theorem dX1_first_1 : decode cX1_first 1 = .ok (.iload_n 2, 1) := dk_28 (dk_at dksX1_first_0 1 rfl rfl)
theorem dX1_first_2 : decode cX1_first 2 = .ok (.invokestatic 7, 3) := dk_184 0 7 (dk_at dksX1_first_0 2 rfl rfl)
theorem dX1_first_5 : decode cX1_first 5 = .ok (.ireturn, 1) := dk_172 (dk_at dksX1_first_0 5 rfl rfl)
abbrev cX1_second : ByteArray := prog_11_method_4_code
def yX1_second : MethodName := ⟨RX1, "second", "(III)I"⟩
def dkwX1_second_0 : List UInt8 := [27, 28, 184, 0, 13, 172]
abbrev dktX1_second_0 : List UInt8 := dkwX1_second_0 ++ []
theorem dksX1_second_0 : cX1_second.data.toList.drop 0 = dktX1_second_0 := by decide +kernel
theorem dX1_second_0 : decode cX1_second 0 = .ok (.iload_n 1, 1) := dk_27 (dk_at dksX1_second_0 0 rfl rfl)
theorem dX1_second_1 : decode cX1_second 1 = .ok (.iload_n 2, 1) := dk_28 (dk_at dksX1_second_0 1 rfl rfl)
theorem dX1_second_2 : decode cX1_second 2 = .ok (.invokestatic 13, 3) := dk_184 0 13 (dk_at dksX1_second_0 2 rfl rfl)
theorem dX1_second_5 : decode cX1_second 5 = .ok (.ireturn, 1) := dk_172 (dk_at dksX1_second_0 5 rfl rfl)
abbrev cX1_number : ByteArray := prog_11_method_2_code
def yX1_number : MethodName := ⟨RX1, "number", "()I"⟩
theorem dX1_number_0 : decode cX1_number 0 = .ok (.iconst 0, 1) := by decide +kernel
theorem dX1_number_1 : decode cX1_number 1 = .ok (.ireturn, 1) := by decide +kernel
theorem q106 : (Jvm.Cond.initialized "FrameSheets$Shortest") ∈ lw_all := lw_g (lw_at lw_m1 2 rfl) rfl
theorem q153 : (Jvm.Cond.instantiable "FrameSheets$Shortest" (0 : Nat)) ∈ lw_all := lw_g (lw_at lw_m1 49 rfl) rfl
theorem q155 : (Jvm.Cond.instanceMethod ({ cls := "FrameSheets$Shortest", name := "<init>", desc := "()V" } : Jvm.MethodName)) ∈ lw_all := lw_g (lw_at lw_m1 51 rfl) rfl
theorem q156 : (Jvm.Cond.code ({ cls := "FrameSheets$Shortest", name := "<init>", desc := "()V" } : Jvm.MethodName) prog_11_method_1_code (1 : Nat) (Option.none : Option Jvm.ClassFile.FieldType)) ∈ lw_all := lw_g (lw_at lw_m1 52 rfl) rfl
theorem q157 : (Jvm.Cond.methodLink "FrameSheets$Shortest" (1 : Nat) ({ cls := "java/lang/Object", name := "<init>", desc := "()V" } : Jvm.MethodName)) ∈ lw_all := lw_g (lw_at lw_m1 53 rfl) rfl
theorem q158 : (Jvm.Cond.superclass "FrameSheets$Shortest" "java/lang/Object") ∈ lw_all := lw_g (lw_at lw_m1 54 rfl) rfl
theorem q1311 : (Jvm.Cond.castable "FrameSheets$Shortest" "FrameSheets$Rule") ∈ lw_tbl := lw_at lw_m6 7 rfl
theorem q1312 : (Jvm.Cond.selects "FrameSheets$Shortest" ({ cls := "FrameSheets$Rule", name := "first", desc := "(IIII)I" } : Jvm.MethodName) ({ cls := "FrameSheets$Shortest", name := "first", desc := "(IIII)I" } : Jvm.MethodName)) ∈ lw_all := lw_g (lw_at lw_m6 8 rfl) rfl
theorem q1313 : (Jvm.Cond.unhidden "FrameSheets$Shortest" "first" "(IIII)I") ∈ lw_tbl := lw_at lw_m6 9 rfl
theorem q1314 : (Jvm.Cond.instanceMethod ({ cls := "FrameSheets$Shortest", name := "first", desc := "(IIII)I" } : Jvm.MethodName)) ∈ lw_all := lw_g (lw_at lw_m6 10 rfl) rfl
theorem q1315 : (Jvm.Cond.publicMethod ({ cls := "FrameSheets$Shortest", name := "first", desc := "(IIII)I" } : Jvm.MethodName)) ∈ lw_tbl := lw_at lw_m6 11 rfl
theorem q1316 : (Jvm.Cond.code ({ cls := "FrameSheets$Shortest", name := "first", desc := "(IIII)I" } : Jvm.MethodName) prog_11_method_3_code (5 : Nat) (Option.some Jvm.ClassFile.FieldType.int)) ∈ lw_all := lw_g (lw_at lw_m6 12 rfl) rfl
theorem q1317 : (Jvm.Cond.methodLink "FrameSheets$Shortest" (7 : Nat) ({ cls := "FrameSheets$Rule", name := "less", desc := "(II)I" } : Jvm.MethodName)) ∈ lw_all := lw_g (lw_at lw_m6 13 rfl) rfl
theorem q1333 : (Jvm.Cond.selects "FrameSheets$Shortest" ({ cls := "FrameSheets$Rule", name := "second", desc := "(III)I" } : Jvm.MethodName) ({ cls := "FrameSheets$Shortest", name := "second", desc := "(III)I" } : Jvm.MethodName)) ∈ lw_all := lw_g (lw_at lw_m6 29 rfl) rfl
theorem q1334 : (Jvm.Cond.unhidden "FrameSheets$Shortest" "second" "(III)I") ∈ lw_tbl := lw_at lw_m6 30 rfl
theorem q1335 : (Jvm.Cond.instanceMethod ({ cls := "FrameSheets$Shortest", name := "second", desc := "(III)I" } : Jvm.MethodName)) ∈ lw_all := lw_g (lw_at lw_m6 31 rfl) rfl
theorem q1336 : (Jvm.Cond.publicMethod ({ cls := "FrameSheets$Shortest", name := "second", desc := "(III)I" } : Jvm.MethodName)) ∈ lw_tbl := lw_at lw_m6 32 rfl
theorem q1337 : (Jvm.Cond.code ({ cls := "FrameSheets$Shortest", name := "second", desc := "(III)I" } : Jvm.MethodName) prog_11_method_4_code (4 : Nat) (Option.some Jvm.ClassFile.FieldType.int)) ∈ lw_all := lw_g (lw_at lw_m6 33 rfl) rfl
theorem q1338 : (Jvm.Cond.methodLink "FrameSheets$Shortest" (13 : Nat) ({ cls := "FrameSheets$Rule", name := "greater", desc := "(II)I" } : Jvm.MethodName)) ∈ lw_all := lw_g (lw_at lw_m6 34 rfl) rfl
theorem q1366 : (Jvm.Cond.selects "FrameSheets$Shortest" ({ cls := "FrameSheets$Rule", name := "number", desc := "()I" } : Jvm.MethodName) ({ cls := "FrameSheets$Shortest", name := "number", desc := "()I" } : Jvm.MethodName)) ∈ lw_all := lw_g (lw_at lw_m6 62 rfl) rfl
theorem q1367 : (Jvm.Cond.unhidden "FrameSheets$Shortest" "number" "()I") ∈ lw_tbl := lw_at lw_m6 63 rfl
theorem q1368 : (Jvm.Cond.instanceMethod ({ cls := "FrameSheets$Shortest", name := "number", desc := "()I" } : Jvm.MethodName)) ∈ lw_all := lw_g (lw_at lw_m6 64 rfl) rfl
theorem q1369 : (Jvm.Cond.publicMethod ({ cls := "FrameSheets$Shortest", name := "number", desc := "()I" } : Jvm.MethodName)) ∈ lw_tbl := lw_at lw_m6 65 rfl
theorem q1370 : (Jvm.Cond.code ({ cls := "FrameSheets$Shortest", name := "number", desc := "()I" } : Jvm.MethodName) prog_11_method_2_code (1 : Nat) (Option.some Jvm.ClassFile.FieldType.int)) ∈ lw_all := lw_g (lw_at lw_m6 66 rfl) rfl

/-! FrameSheets$Frame -/
set_option maxRecDepth 100000
def RX3 : String := "FrameSheets$Frame"
def TX3 : u_T := fun k => match k with
  | 0 => ("FrameSheets$Frame", "w", "I", true)
  | 1 => ("FrameSheets$Frame", "h", "I", true)
  | 2 => ("FrameSheets$Frame", "left", "I", true)
  | 3 => ("FrameSheets$Frame", "above", "I", true)
  | 4 => ("FrameSheets$Frame", "right", "I", true)
  | 5 => ("FrameSheets$Frame", "below", "I", true)
  | 6 => ("FrameSheets$Frame", "page", "I", false)
  | 7 => ("FrameSheets$Frame", "x", "I", false)
  | 8 => ("FrameSheets$Frame", "y", "I", false)
  | _ => ("FrameSheets$Frame", "turned", "Z", false)
def tyX3 : Nat → FieldType := fun k => match k with
  | 0 => .int
  | 1 => .int
  | 2 => .int
  | 3 => .int
  | 4 => .int
  | 5 => .int
  | 6 => .int
  | 7 => .int
  | 8 => .int
  | _ => .boolean
abbrev wsX30 : List Cond := u_ws RX3 TX3 10
theorem nmX3 : ∀ a, a < 10 → ∀ b, b < 10 → a ≠ b → (TX3 a).2.1 ≠ (TX3 b).2.1 := by decide +kernel
theorem tyX3_ok : ∀ k, k < 10 → parseFieldDescriptor (TX3 k).2.2.1 = some (tyX3 k) := by decide +kernel
abbrev cX3_init : ByteArray := prog_4_method_1_code
def yX3_init : MethodName := ⟨RX3, "<init>", "(II[I)V"⟩
def dkwX3_init_2 : List UInt8 := [177]
abbrev dktX3_init_2 : List UInt8 := dkwX3_init_2 ++ []
def dkwX3_init_1 : List UInt8 := [181, 0, 21, 42, 45, 4, 46, 181, 0, 24, 42, 45, 5, 46, 181, 0, 27, 42, 45, 6, 46, 181, 0, 30]
abbrev dktX3_init_1 : List UInt8 := dkwX3_init_1 ++ dktX3_init_2
def dkwX3_init_0 : List UInt8 := [42, 183, 0, 3, 42, 16, 247, 181, 0, 9, 42, 27, 181, 0, 15, 42, 28, 181, 0, 18, 42, 45, 3, 46]
abbrev dktX3_init_0 : List UInt8 := dkwX3_init_0 ++ dktX3_init_1
theorem dksX3_init_0 : cX3_init.data.toList.drop 0 = dktX3_init_0 := by decide +kernel
theorem dksX3_init_1 : cX3_init.data.toList.drop 24 = dktX3_init_1 := dk_seg dksX3_init_0 24 rfl rfl
theorem dksX3_init_2 : cX3_init.data.toList.drop 48 = dktX3_init_2 := dk_seg dksX3_init_1 24 rfl rfl
theorem dX3_init_0 : decode cX3_init 0 = .ok (.aload_n 0, 1) := dk_42 (dk_at dksX3_init_0 0 rfl rfl)
theorem dX3_init_1 : decode cX3_init 1 = .ok (.invokespecial 3, 3) := dk_183 0 3 (dk_at dksX3_init_0 1 rfl rfl)
theorem dX3_init_4 : decode cX3_init 4 = .ok (.aload_n 0, 1) := dk_42 (dk_at dksX3_init_0 4 rfl rfl)
theorem dX3_init_5 : decode cX3_init 5 = .ok (.bipush (-9), 2) := dk_16 247 (dk_at dksX3_init_0 5 rfl rfl)
theorem dX3_init_7 : decode cX3_init 7 = .ok (.putfield 9, 3) := dk_181 0 9 (dk_at dksX3_init_0 7 rfl rfl)
theorem dX3_init_10 : decode cX3_init 10 = .ok (.aload_n 0, 1) := dk_42 (dk_at dksX3_init_0 10 rfl rfl)
theorem dX3_init_11 : decode cX3_init 11 = .ok (.iload_n 1, 1) := dk_27 (dk_at dksX3_init_0 11 rfl rfl)
theorem dX3_init_12 : decode cX3_init 12 = .ok (.putfield 15, 3) := dk_181 0 15 (dk_at dksX3_init_0 12 rfl rfl)
theorem dX3_init_15 : decode cX3_init 15 = .ok (.aload_n 0, 1) := dk_42 (dk_at dksX3_init_0 15 rfl rfl)
theorem dX3_init_16 : decode cX3_init 16 = .ok (.iload_n 2, 1) := dk_28 (dk_at dksX3_init_0 16 rfl rfl)
theorem dX3_init_17 : decode cX3_init 17 = .ok (.putfield 18, 3) := dk_181 0 18 (dk_at dksX3_init_0 17 rfl rfl)
theorem dX3_init_20 : decode cX3_init 20 = .ok (.aload_n 0, 1) := dk_42 (dk_at dksX3_init_0 20 rfl rfl)
theorem dX3_init_21 : decode cX3_init 21 = .ok (.aload_n 3, 1) := dk_45 (dk_at dksX3_init_0 21 rfl rfl)
theorem dX3_init_22 : decode cX3_init 22 = .ok (.iconst 0, 1) := dk_3 (dk_at dksX3_init_0 22 rfl rfl)
theorem dX3_init_23 : decode cX3_init 23 = .ok (.iaload, 1) := dk_46 (dk_at dksX3_init_0 23 rfl rfl)
theorem dX3_init_24 : decode cX3_init 24 = .ok (.putfield 21, 3) := dk_181 0 21 (dk_at dksX3_init_1 0 rfl rfl)
theorem dX3_init_27 : decode cX3_init 27 = .ok (.aload_n 0, 1) := dk_42 (dk_at dksX3_init_1 3 rfl rfl)
theorem dX3_init_28 : decode cX3_init 28 = .ok (.aload_n 3, 1) := dk_45 (dk_at dksX3_init_1 4 rfl rfl)
theorem dX3_init_29 : decode cX3_init 29 = .ok (.iconst 1, 1) := dk_4 (dk_at dksX3_init_1 5 rfl rfl)
theorem dX3_init_30 : decode cX3_init 30 = .ok (.iaload, 1) := dk_46 (dk_at dksX3_init_1 6 rfl rfl)
theorem dX3_init_31 : decode cX3_init 31 = .ok (.putfield 24, 3) := dk_181 0 24 (dk_at dksX3_init_1 7 rfl rfl)
theorem dX3_init_34 : decode cX3_init 34 = .ok (.aload_n 0, 1) := dk_42 (dk_at dksX3_init_1 10 rfl rfl)
theorem dX3_init_35 : decode cX3_init 35 = .ok (.aload_n 3, 1) := dk_45 (dk_at dksX3_init_1 11 rfl rfl)
theorem dX3_init_36 : decode cX3_init 36 = .ok (.iconst 2, 1) := dk_5 (dk_at dksX3_init_1 12 rfl rfl)
theorem dX3_init_37 : decode cX3_init 37 = .ok (.iaload, 1) := dk_46 (dk_at dksX3_init_1 13 rfl rfl)
theorem dX3_init_38 : decode cX3_init 38 = .ok (.putfield 27, 3) := dk_181 0 27 (dk_at dksX3_init_1 14 rfl rfl)
theorem dX3_init_41 : decode cX3_init 41 = .ok (.aload_n 0, 1) := dk_42 (dk_at dksX3_init_1 17 rfl rfl)
theorem dX3_init_42 : decode cX3_init 42 = .ok (.aload_n 3, 1) := dk_45 (dk_at dksX3_init_1 18 rfl rfl)
theorem dX3_init_43 : decode cX3_init 43 = .ok (.iconst 3, 1) := dk_6 (dk_at dksX3_init_1 19 rfl rfl)
theorem dX3_init_44 : decode cX3_init 44 = .ok (.iaload, 1) := dk_46 (dk_at dksX3_init_1 20 rfl rfl)
theorem dX3_init_45 : decode cX3_init 45 = .ok (.putfield 30, 3) := dk_181 0 30 (dk_at dksX3_init_1 21 rfl rfl)
theorem dX3_init_48 : decode cX3_init 48 = .ok (.return_, 1) := dk_177 (dk_at dksX3_init_2 0 rfl rfl)
abbrev cX3_written : ByteArray := prog_4_method_17_code
def yX3_written : MethodName := ⟨RX3, "written", "()Ljava/lang/String;"⟩
def dkwX3_written_4 : List UInt8 := [182, 0, 86, 176]
abbrev dktX3_written_4 : List UInt8 := dkwX3_written_4 ++ []
def dkwX3_written_3 : List UInt8 := [180, 0, 27, 182, 0, 83, 16, 32, 182, 0, 79, 42, 180, 0, 30, 182, 0, 83, 16, 59, 182, 0, 79]
abbrev dktX3_written_3 : List UInt8 := dkwX3_written_3 ++ dktX3_written_4
def dkwX3_written_2 : List UInt8 := [182, 0, 83, 16, 32, 182, 0, 79, 42, 180, 0, 24, 182, 0, 83, 87, 43, 16, 32, 182, 0, 79, 42]
abbrev dktX3_written_2 : List UInt8 := dkwX3_written_2 ++ dktX3_written_3
def dkwX3_written_1 : List UInt8 := [182, 0, 83, 16, 32, 182, 0, 79, 42, 180, 0, 18, 182, 0, 83, 16, 32, 182, 0, 79, 42, 180, 0, 21]
abbrev dktX3_written_1 : List UInt8 := dkwX3_written_1 ++ dktX3_written_2
def dkwX3_written_0 : List UInt8 := [187, 0, 70, 89, 42, 182, 0, 72, 183, 0, 76, 76, 43, 16, 32, 182, 0, 79, 42, 180, 0, 15]
abbrev dktX3_written_0 : List UInt8 := dkwX3_written_0 ++ dktX3_written_1
theorem dksX3_written_0 : cX3_written.data.toList.drop 0 = dktX3_written_0 := by decide +kernel
theorem dksX3_written_1 : cX3_written.data.toList.drop 22 = dktX3_written_1 := dk_seg dksX3_written_0 22 rfl rfl
theorem dksX3_written_2 : cX3_written.data.toList.drop 46 = dktX3_written_2 := dk_seg dksX3_written_1 24 rfl rfl
theorem dksX3_written_3 : cX3_written.data.toList.drop 69 = dktX3_written_3 := dk_seg dksX3_written_2 23 rfl rfl
theorem dksX3_written_4 : cX3_written.data.toList.drop 92 = dktX3_written_4 := dk_seg dksX3_written_3 23 rfl rfl
theorem dX3_written_0 : decode cX3_written 0 = .ok (.new 70, 3) := dk_187 0 70 (dk_at dksX3_written_0 0 rfl rfl)
theorem dX3_written_3 : decode cX3_written 3 = .ok (.dup, 1) := dk_89 (dk_at dksX3_written_0 3 rfl rfl)
theorem dX3_written_4 : decode cX3_written 4 = .ok (.aload_n 0, 1) := dk_42 (dk_at dksX3_written_0 4 rfl rfl)
theorem dX3_written_5 : decode cX3_written 5 = .ok (.invokevirtual 72, 3) := dk_182 0 72 (dk_at dksX3_written_0 5 rfl rfl)
theorem dX3_written_8 : decode cX3_written 8 = .ok (.invokespecial 76, 3) := dk_183 0 76 (dk_at dksX3_written_0 8 rfl rfl)
theorem dX3_written_11 : decode cX3_written 11 = .ok (.astore_n 1, 1) := dk_76 (dk_at dksX3_written_0 11 rfl rfl)
theorem dX3_written_12 : decode cX3_written 12 = .ok (.aload_n 1, 1) := dk_43 (dk_at dksX3_written_0 12 rfl rfl)
theorem dX3_written_13 : decode cX3_written 13 = .ok (.bipush 32, 2) := dk_16 32 (dk_at dksX3_written_0 13 rfl rfl)
theorem dX3_written_15 : decode cX3_written 15 = .ok (.invokevirtual 79, 3) := dk_182 0 79 (dk_at dksX3_written_0 15 rfl rfl)
theorem dX3_written_18 : decode cX3_written 18 = .ok (.aload_n 0, 1) := dk_42 (dk_at dksX3_written_0 18 rfl rfl)
theorem dX3_written_19 : decode cX3_written 19 = .ok (.getfield 15, 3) := dk_180 0 15 (dk_at dksX3_written_0 19 rfl rfl)
theorem dX3_written_22 : decode cX3_written 22 = .ok (.invokevirtual 83, 3) := dk_182 0 83 (dk_at dksX3_written_1 0 rfl rfl)
theorem dX3_written_25 : decode cX3_written 25 = .ok (.bipush 32, 2) := dk_16 32 (dk_at dksX3_written_1 3 rfl rfl)
theorem dX3_written_27 : decode cX3_written 27 = .ok (.invokevirtual 79, 3) := dk_182 0 79 (dk_at dksX3_written_1 5 rfl rfl)
theorem dX3_written_30 : decode cX3_written 30 = .ok (.aload_n 0, 1) := dk_42 (dk_at dksX3_written_1 8 rfl rfl)
theorem dX3_written_31 : decode cX3_written 31 = .ok (.getfield 18, 3) := dk_180 0 18 (dk_at dksX3_written_1 9 rfl rfl)
theorem dX3_written_34 : decode cX3_written 34 = .ok (.invokevirtual 83, 3) := dk_182 0 83 (dk_at dksX3_written_1 12 rfl rfl)
theorem dX3_written_37 : decode cX3_written 37 = .ok (.bipush 32, 2) := dk_16 32 (dk_at dksX3_written_1 15 rfl rfl)
theorem dX3_written_39 : decode cX3_written 39 = .ok (.invokevirtual 79, 3) := dk_182 0 79 (dk_at dksX3_written_1 17 rfl rfl)
theorem dX3_written_42 : decode cX3_written 42 = .ok (.aload_n 0, 1) := dk_42 (dk_at dksX3_written_1 20 rfl rfl)
theorem dX3_written_43 : decode cX3_written 43 = .ok (.getfield 21, 3) := dk_180 0 21 (dk_at dksX3_written_1 21 rfl rfl)
theorem dX3_written_46 : decode cX3_written 46 = .ok (.invokevirtual 83, 3) := dk_182 0 83 (dk_at dksX3_written_2 0 rfl rfl)
theorem dX3_written_49 : decode cX3_written 49 = .ok (.bipush 32, 2) := dk_16 32 (dk_at dksX3_written_2 3 rfl rfl)
theorem dX3_written_51 : decode cX3_written 51 = .ok (.invokevirtual 79, 3) := dk_182 0 79 (dk_at dksX3_written_2 5 rfl rfl)
theorem dX3_written_54 : decode cX3_written 54 = .ok (.aload_n 0, 1) := dk_42 (dk_at dksX3_written_2 8 rfl rfl)
theorem dX3_written_55 : decode cX3_written 55 = .ok (.getfield 24, 3) := dk_180 0 24 (dk_at dksX3_written_2 9 rfl rfl)
theorem dX3_written_58 : decode cX3_written 58 = .ok (.invokevirtual 83, 3) := dk_182 0 83 (dk_at dksX3_written_2 12 rfl rfl)
theorem dX3_written_61 : decode cX3_written 61 = .ok (.pop, 1) := dk_87 (dk_at dksX3_written_2 15 rfl rfl)
theorem dX3_written_62 : decode cX3_written 62 = .ok (.aload_n 1, 1) := dk_43 (dk_at dksX3_written_2 16 rfl rfl)
theorem dX3_written_63 : decode cX3_written 63 = .ok (.bipush 32, 2) := dk_16 32 (dk_at dksX3_written_2 17 rfl rfl)
theorem dX3_written_65 : decode cX3_written 65 = .ok (.invokevirtual 79, 3) := dk_182 0 79 (dk_at dksX3_written_2 19 rfl rfl)
theorem dX3_written_68 : decode cX3_written 68 = .ok (.aload_n 0, 1) := dk_42 (dk_at dksX3_written_2 22 rfl rfl)
theorem dX3_written_69 : decode cX3_written 69 = .ok (.getfield 27, 3) := dk_180 0 27 (dk_at dksX3_written_3 0 rfl rfl)
theorem dX3_written_72 : decode cX3_written 72 = .ok (.invokevirtual 83, 3) := dk_182 0 83 (dk_at dksX3_written_3 3 rfl rfl)
theorem dX3_written_75 : decode cX3_written 75 = .ok (.bipush 32, 2) := dk_16 32 (dk_at dksX3_written_3 6 rfl rfl)
theorem dX3_written_77 : decode cX3_written 77 = .ok (.invokevirtual 79, 3) := dk_182 0 79 (dk_at dksX3_written_3 8 rfl rfl)
theorem dX3_written_80 : decode cX3_written 80 = .ok (.aload_n 0, 1) := dk_42 (dk_at dksX3_written_3 11 rfl rfl)
theorem dX3_written_81 : decode cX3_written 81 = .ok (.getfield 30, 3) := dk_180 0 30 (dk_at dksX3_written_3 12 rfl rfl)
theorem dX3_written_84 : decode cX3_written 84 = .ok (.invokevirtual 83, 3) := dk_182 0 83 (dk_at dksX3_written_3 15 rfl rfl)
theorem dX3_written_87 : decode cX3_written 87 = .ok (.bipush 59, 2) := dk_16 59 (dk_at dksX3_written_3 18 rfl rfl)
theorem dX3_written_89 : decode cX3_written 89 = .ok (.invokevirtual 79, 3) := dk_182 0 79 (dk_at dksX3_written_3 20 rfl rfl)
theorem dX3_written_92 : decode cX3_written 92 = .ok (.invokevirtual 86, 3) := dk_182 0 86 (dk_at dksX3_written_4 0 rfl rfl)
theorem dX3_written_95 : decode cX3_written 95 = .ok (.areturn, 1) := dk_176 (dk_at dksX3_written_4 3 rfl rfl)
abbrev cX3_word : ByteArray := prog_4_method_4_code
def yX3_word : MethodName := ⟨RX3, "word", "()Ljava/lang/String;"⟩
theorem dX3_word_0 : decode cX3_word 0 = .ok (.ldc 33, 2) := by decide +kernel
theorem dX3_word_2 : decode cX3_word 2 = .ok (.areturn, 1) := by decide +kernel
abbrev cX3_toldBy : ByteArray := prog_4_method_15_code
def yX3_toldBy : MethodName := ⟨RX3, "toldBy", "(II)I"⟩
def dkwX3_toldBy_3 : List UInt8 := [182, 0, 46, 167, 0, 9, 42, 28, 3, 182, 0, 50, 172]
abbrev dktX3_toldBy_3 : List UInt8 := dkwX3_toldBy_3 ++ []
def dkwX3_toldBy_2 : List UInt8 := [42, 182, 0, 67, 167, 0, 32, 42, 182, 0, 39, 167, 0, 25, 42, 182, 0, 35, 167, 0, 18, 42, 28, 3]
abbrev dktX3_toldBy_2 : List UInt8 := dkwX3_toldBy_2 ++ dktX3_toldBy_3
def dkwX3_toldBy_1 : List UInt8 := [170, 0, 0, 0, 0, 0, 61, 0, 0, 0, 0, 0, 0, 0, 3, 0, 0, 0, 31, 0, 0, 0, 38, 0, 0, 0, 45, 0, 0, 0, 52]
abbrev dktX3_toldBy_1 : List UInt8 := dkwX3_toldBy_1 ++ dktX3_toldBy_2
def dkwX3_toldBy_0 : List UInt8 := [27]
abbrev dktX3_toldBy_0 : List UInt8 := dkwX3_toldBy_0 ++ dktX3_toldBy_1
theorem dksX3_toldBy_0 : cX3_toldBy.data.toList.drop 0 = dktX3_toldBy_0 := by decide +kernel
theorem dksX3_toldBy_1 : cX3_toldBy.data.toList.drop 1 = dktX3_toldBy_1 := dk_seg dksX3_toldBy_0 1 rfl rfl
theorem dksX3_toldBy_2 : cX3_toldBy.data.toList.drop 32 = dktX3_toldBy_2 := dk_seg dksX3_toldBy_1 31 rfl rfl
theorem dksX3_toldBy_3 : cX3_toldBy.data.toList.drop 56 = dktX3_toldBy_3 := dk_seg dksX3_toldBy_2 24 rfl rfl
theorem dX3_toldBy_0 : decode cX3_toldBy 0 = .ok (.iload_n 1, 1) := dk_27 (dk_at dksX3_toldBy_0 0 rfl rfl)
theorem dX3_toldBy_1 : decode cX3_toldBy 1 = .ok (.tableswitch 61 0 3 #[31, 38, 45, 52], 31) := by decide +kernel
theorem dX3_toldBy_32 : decode cX3_toldBy 32 = .ok (.aload_n 0, 1) := dk_42 (dk_at dksX3_toldBy_2 0 rfl rfl)
theorem dX3_toldBy_33 : decode cX3_toldBy 33 = .ok (.invokevirtual 67, 3) := dk_182 0 67 (dk_at dksX3_toldBy_2 1 rfl rfl)
theorem dX3_toldBy_36 : decode cX3_toldBy 36 = .ok (.goto 32, 3) := dk_167 0 32 (dk_at dksX3_toldBy_2 4 rfl rfl)
theorem dX3_toldBy_39 : decode cX3_toldBy 39 = .ok (.aload_n 0, 1) := dk_42 (dk_at dksX3_toldBy_2 7 rfl rfl)
theorem dX3_toldBy_40 : decode cX3_toldBy 40 = .ok (.invokevirtual 39, 3) := dk_182 0 39 (dk_at dksX3_toldBy_2 8 rfl rfl)
theorem dX3_toldBy_43 : decode cX3_toldBy 43 = .ok (.goto 25, 3) := dk_167 0 25 (dk_at dksX3_toldBy_2 11 rfl rfl)
theorem dX3_toldBy_46 : decode cX3_toldBy 46 = .ok (.aload_n 0, 1) := dk_42 (dk_at dksX3_toldBy_2 14 rfl rfl)
theorem dX3_toldBy_47 : decode cX3_toldBy 47 = .ok (.invokevirtual 35, 3) := dk_182 0 35 (dk_at dksX3_toldBy_2 15 rfl rfl)
theorem dX3_toldBy_50 : decode cX3_toldBy 50 = .ok (.goto 18, 3) := dk_167 0 18 (dk_at dksX3_toldBy_2 18 rfl rfl)
theorem dX3_toldBy_53 : decode cX3_toldBy 53 = .ok (.aload_n 0, 1) := dk_42 (dk_at dksX3_toldBy_2 21 rfl rfl)
theorem dX3_toldBy_54 : decode cX3_toldBy 54 = .ok (.iload_n 2, 1) := dk_28 (dk_at dksX3_toldBy_2 22 rfl rfl)
theorem dX3_toldBy_55 : decode cX3_toldBy 55 = .ok (.iconst 0, 1) := dk_3 (dk_at dksX3_toldBy_2 23 rfl rfl)
theorem dX3_toldBy_56 : decode cX3_toldBy 56 = .ok (.invokevirtual 46, 3) := dk_182 0 46 (dk_at dksX3_toldBy_3 0 rfl rfl)
theorem dX3_toldBy_59 : decode cX3_toldBy 59 = .ok (.goto 9, 3) := dk_167 0 9 (dk_at dksX3_toldBy_3 3 rfl rfl)
theorem dX3_toldBy_62 : decode cX3_toldBy 62 = .ok (.aload_n 0, 1) := dk_42 (dk_at dksX3_toldBy_3 6 rfl rfl)
theorem dX3_toldBy_63 : decode cX3_toldBy 63 = .ok (.iload_n 2, 1) := dk_28 (dk_at dksX3_toldBy_3 7 rfl rfl)
theorem dX3_toldBy_64 : decode cX3_toldBy 64 = .ok (.iconst 0, 1) := dk_3 (dk_at dksX3_toldBy_3 8 rfl rfl)
theorem dX3_toldBy_65 : decode cX3_toldBy 65 = .ok (.invokevirtual 50, 3) := dk_182 0 50 (dk_at dksX3_toldBy_3 9 rfl rfl)
theorem dX3_toldBy_68 : decode cX3_toldBy 68 = .ok (.ireturn, 1) := dk_172 (dk_at dksX3_toldBy_3 12 rfl rfl)
abbrev cX3_kind : ByteArray := prog_4_method_2_code
def yX3_kind : MethodName := ⟨RX3, "kind", "()I"⟩
theorem dX3_kind_0 : decode cX3_kind 0 = .ok (.iconst 0, 1) := by decide +kernel
theorem dX3_kind_1 : decode cX3_kind 1 = .ok (.ireturn, 1) := by decide +kernel
abbrev cX3_firstColumn : ByteArray := prog_4_method_7_code
def yX3_firstColumn : MethodName := ⟨RX3, "firstColumn", "()I"⟩
theorem dX3_firstColumn_0 : decode cX3_firstColumn 0 = .ok (.aload_n 0, 1) := by decide +kernel
theorem dX3_firstColumn_1 : decode cX3_firstColumn 1 = .ok (.getfield 21, 3) := by decide +kernel
theorem dX3_firstColumn_4 : decode cX3_firstColumn 4 = .ok (.ireturn, 1) := by decide +kernel
abbrev cX3_wide : ByteArray := prog_4_method_9_code
def yX3_wide : MethodName := ⟨RX3, "wide", "()I"⟩
def dkwX3_wide_0 : List UInt8 := [42, 180, 0, 15, 42, 180, 0, 21, 100, 42, 180, 0, 27, 100, 172]
abbrev dktX3_wide_0 : List UInt8 := dkwX3_wide_0 ++ []
theorem dksX3_wide_0 : cX3_wide.data.toList.drop 0 = dktX3_wide_0 := by decide +kernel
theorem dX3_wide_0 : decode cX3_wide 0 = .ok (.aload_n 0, 1) := dk_42 (dk_at dksX3_wide_0 0 rfl rfl)
theorem dX3_wide_1 : decode cX3_wide 1 = .ok (.getfield 15, 3) := dk_180 0 15 (dk_at dksX3_wide_0 1 rfl rfl)
theorem dX3_wide_4 : decode cX3_wide 4 = .ok (.aload_n 0, 1) := dk_42 (dk_at dksX3_wide_0 4 rfl rfl)
theorem dX3_wide_5 : decode cX3_wide 5 = .ok (.getfield 21, 3) := dk_180 0 21 (dk_at dksX3_wide_0 5 rfl rfl)
theorem dX3_wide_8 : decode cX3_wide 8 = .ok (.isub, 1) := dk_100 (dk_at dksX3_wide_0 8 rfl rfl)
theorem dX3_wide_9 : decode cX3_wide 9 = .ok (.aload_n 0, 1) := dk_42 (dk_at dksX3_wide_0 9 rfl rfl)
theorem dX3_wide_10 : decode cX3_wide 10 = .ok (.getfield 27, 3) := dk_180 0 27 (dk_at dksX3_wide_0 10 rfl rfl)
theorem dX3_wide_13 : decode cX3_wide 13 = .ok (.isub, 1) := dk_100 (dk_at dksX3_wide_0 13 rfl rfl)
theorem dX3_wide_14 : decode cX3_wide 14 = .ok (.ireturn, 1) := dk_172 (dk_at dksX3_wide_0 14 rfl rfl)
abbrev cX3_firstRow : ByteArray := prog_4_method_8_code
def yX3_firstRow : MethodName := ⟨RX3, "firstRow", "()I"⟩
theorem dX3_firstRow_0 : decode cX3_firstRow 0 = .ok (.aload_n 0, 1) := by decide +kernel
theorem dX3_firstRow_1 : decode cX3_firstRow 1 = .ok (.getfield 24, 3) := by decide +kernel
theorem dX3_firstRow_4 : decode cX3_firstRow 4 = .ok (.ireturn, 1) := by decide +kernel
abbrev cX3_high : ByteArray := prog_4_method_10_code
def yX3_high : MethodName := ⟨RX3, "high", "()I"⟩
def dkwX3_high_0 : List UInt8 := [42, 180, 0, 18, 42, 180, 0, 24, 100, 42, 180, 0, 30, 100, 172]
abbrev dktX3_high_0 : List UInt8 := dkwX3_high_0 ++ []
theorem dksX3_high_0 : cX3_high.data.toList.drop 0 = dktX3_high_0 := by decide +kernel
theorem dX3_high_0 : decode cX3_high 0 = .ok (.aload_n 0, 1) := dk_42 (dk_at dksX3_high_0 0 rfl rfl)
theorem dX3_high_1 : decode cX3_high 1 = .ok (.getfield 18, 3) := dk_180 0 18 (dk_at dksX3_high_0 1 rfl rfl)
theorem dX3_high_4 : decode cX3_high 4 = .ok (.aload_n 0, 1) := dk_42 (dk_at dksX3_high_0 4 rfl rfl)
theorem dX3_high_5 : decode cX3_high 5 = .ok (.getfield 24, 3) := dk_180 0 24 (dk_at dksX3_high_0 5 rfl rfl)
theorem dX3_high_8 : decode cX3_high 8 = .ok (.isub, 1) := dk_100 (dk_at dksX3_high_0 8 rfl rfl)
theorem dX3_high_9 : decode cX3_high 9 = .ok (.aload_n 0, 1) := dk_42 (dk_at dksX3_high_0 9 rfl rfl)
theorem dX3_high_10 : decode cX3_high 10 = .ok (.getfield 30, 3) := dk_180 0 30 (dk_at dksX3_high_0 10 rfl rfl)
theorem dX3_high_13 : decode cX3_high 13 = .ok (.isub, 1) := dk_100 (dk_at dksX3_high_0 13 rfl rfl)
theorem dX3_high_14 : decode cX3_high 14 = .ok (.ireturn, 1) := dk_172 (dk_at dksX3_high_0 14 rfl rfl)
abbrev cX3_across : ByteArray := prog_4_method_11_code
def yX3_across : MethodName := ⟨RX3, "across", "(IZ)I"⟩
def dkwX3_across_0 : List UInt8 := [28, 153, 0, 10, 42, 182, 0, 35, 167, 0, 7, 42, 182, 0, 39, 5, 42, 27, 182, 0, 42, 104, 96, 172]
abbrev dktX3_across_0 : List UInt8 := dkwX3_across_0 ++ []
theorem dksX3_across_0 : cX3_across.data.toList.drop 0 = dktX3_across_0 := by decide +kernel
theorem dX3_across_0 : decode cX3_across 0 = .ok (.iload_n 2, 1) := dk_28 (dk_at dksX3_across_0 0 rfl rfl)
theorem dX3_across_1 : decode cX3_across 1 = .ok (.ifCond .eq 10, 3) := dk_153 0 10 (dk_at dksX3_across_0 1 rfl rfl)
theorem dX3_across_4 : decode cX3_across 4 = .ok (.aload_n 0, 1) := dk_42 (dk_at dksX3_across_0 4 rfl rfl)
theorem dX3_across_5 : decode cX3_across 5 = .ok (.invokevirtual 35, 3) := dk_182 0 35 (dk_at dksX3_across_0 5 rfl rfl)
theorem dX3_across_8 : decode cX3_across 8 = .ok (.goto 7, 3) := dk_167 0 7 (dk_at dksX3_across_0 8 rfl rfl)
theorem dX3_across_11 : decode cX3_across 11 = .ok (.aload_n 0, 1) := dk_42 (dk_at dksX3_across_0 11 rfl rfl)
theorem dX3_across_12 : decode cX3_across 12 = .ok (.invokevirtual 39, 3) := dk_182 0 39 (dk_at dksX3_across_0 12 rfl rfl)
theorem dX3_across_15 : decode cX3_across 15 = .ok (.iconst 2, 1) := dk_5 (dk_at dksX3_across_0 15 rfl rfl)
theorem dX3_across_16 : decode cX3_across 16 = .ok (.aload_n 0, 1) := dk_42 (dk_at dksX3_across_0 16 rfl rfl)
theorem dX3_across_17 : decode cX3_across 17 = .ok (.iload_n 1, 1) := dk_27 (dk_at dksX3_across_0 17 rfl rfl)
theorem dX3_across_18 : decode cX3_across 18 = .ok (.invokevirtual 42, 3) := dk_182 0 42 (dk_at dksX3_across_0 18 rfl rfl)
theorem dX3_across_21 : decode cX3_across 21 = .ok (.imul, 1) := dk_104 (dk_at dksX3_across_0 21 rfl rfl)
theorem dX3_across_22 : decode cX3_across 22 = .ok (.iadd, 1) := dk_96 (dk_at dksX3_across_0 22 rfl rfl)
theorem dX3_across_23 : decode cX3_across 23 = .ok (.ireturn, 1) := dk_172 (dk_at dksX3_across_0 23 rfl rfl)
abbrev cX3_edge : ByteArray := prog_4_method_6_code
def yX3_edge : MethodName := ⟨RX3, "edge", "(I)I"⟩
theorem dX3_edge_0 : decode cX3_edge 0 = .ok (.iload_n 1, 1) := by decide +kernel
theorem dX3_edge_1 : decode cX3_edge 1 = .ok (.ireturn, 1) := by decide +kernel
abbrev cX3_down : ByteArray := prog_4_method_12_code
def yX3_down : MethodName := ⟨RX3, "down", "(IZ)I"⟩
def dkwX3_down_0 : List UInt8 := [28, 153, 0, 10, 42, 182, 0, 39, 167, 0, 7, 42, 182, 0, 35, 5, 42, 27, 182, 0, 42, 104, 96, 172]
abbrev dktX3_down_0 : List UInt8 := dkwX3_down_0 ++ []
theorem dksX3_down_0 : cX3_down.data.toList.drop 0 = dktX3_down_0 := by decide +kernel
theorem dX3_down_0 : decode cX3_down 0 = .ok (.iload_n 2, 1) := dk_28 (dk_at dksX3_down_0 0 rfl rfl)
theorem dX3_down_1 : decode cX3_down 1 = .ok (.ifCond .eq 10, 3) := dk_153 0 10 (dk_at dksX3_down_0 1 rfl rfl)
theorem dX3_down_4 : decode cX3_down 4 = .ok (.aload_n 0, 1) := dk_42 (dk_at dksX3_down_0 4 rfl rfl)
theorem dX3_down_5 : decode cX3_down 5 = .ok (.invokevirtual 39, 3) := dk_182 0 39 (dk_at dksX3_down_0 5 rfl rfl)
theorem dX3_down_8 : decode cX3_down 8 = .ok (.goto 7, 3) := dk_167 0 7 (dk_at dksX3_down_0 8 rfl rfl)
theorem dX3_down_11 : decode cX3_down 11 = .ok (.aload_n 0, 1) := dk_42 (dk_at dksX3_down_0 11 rfl rfl)
theorem dX3_down_12 : decode cX3_down 12 = .ok (.invokevirtual 35, 3) := dk_182 0 35 (dk_at dksX3_down_0 12 rfl rfl)
theorem dX3_down_15 : decode cX3_down 15 = .ok (.iconst 2, 1) := dk_5 (dk_at dksX3_down_0 15 rfl rfl)
theorem dX3_down_16 : decode cX3_down 16 = .ok (.aload_n 0, 1) := dk_42 (dk_at dksX3_down_0 16 rfl rfl)
theorem dX3_down_17 : decode cX3_down 17 = .ok (.iload_n 1, 1) := dk_27 (dk_at dksX3_down_0 17 rfl rfl)
theorem dX3_down_18 : decode cX3_down 18 = .ok (.invokevirtual 42, 3) := dk_182 0 42 (dk_at dksX3_down_0 18 rfl rfl)
theorem dX3_down_21 : decode cX3_down 21 = .ok (.imul, 1) := dk_104 (dk_at dksX3_down_0 21 rfl rfl)
theorem dX3_down_22 : decode cX3_down 22 = .ok (.iadd, 1) := dk_96 (dk_at dksX3_down_0 22 rfl rfl)
theorem dX3_down_23 : decode cX3_down 23 = .ok (.ireturn, 1) := dk_172 (dk_at dksX3_down_0 23 rfl rfl)
abbrev cX3_placed : ByteArray := prog_4_method_16_code
def yX3_placed : MethodName := ⟨RX3, "placed", "(I)I"⟩
def dkwX3_placed_3 : List UInt8 := [180, 0, 56, 153, 0, 7, 4, 167, 0, 4, 3, 172]
abbrev dktX3_placed_3 : List UInt8 := dkwX3_placed_3 ++ []
def dkwX3_placed_2 : List UInt8 := [42, 180, 0, 9, 167, 0, 29, 42, 180, 0, 53, 167, 0, 22, 42, 180, 0, 64, 167, 0, 15, 42]
abbrev dktX3_placed_2 : List UInt8 := dkwX3_placed_2 ++ dktX3_placed_3
def dkwX3_placed_1 : List UInt8 := [170, 0, 0, 0, 0, 0, 48, 0, 0, 0, 0, 0, 0, 0, 2, 0, 0, 0, 27, 0, 0, 0, 34, 0, 0, 0, 41]
abbrev dktX3_placed_1 : List UInt8 := dkwX3_placed_1 ++ dktX3_placed_2
def dkwX3_placed_0 : List UInt8 := [27]
abbrev dktX3_placed_0 : List UInt8 := dkwX3_placed_0 ++ dktX3_placed_1
theorem dksX3_placed_0 : cX3_placed.data.toList.drop 0 = dktX3_placed_0 := by decide +kernel
theorem dksX3_placed_1 : cX3_placed.data.toList.drop 1 = dktX3_placed_1 := dk_seg dksX3_placed_0 1 rfl rfl
theorem dksX3_placed_2 : cX3_placed.data.toList.drop 28 = dktX3_placed_2 := dk_seg dksX3_placed_1 27 rfl rfl
theorem dksX3_placed_3 : cX3_placed.data.toList.drop 50 = dktX3_placed_3 := dk_seg dksX3_placed_2 22 rfl rfl
theorem dX3_placed_0 : decode cX3_placed 0 = .ok (.iload_n 1, 1) := dk_27 (dk_at dksX3_placed_0 0 rfl rfl)
theorem dX3_placed_1 : decode cX3_placed 1 = .ok (.tableswitch 48 0 2 #[27, 34, 41], 27) := by decide +kernel
theorem dX3_placed_28 : decode cX3_placed 28 = .ok (.aload_n 0, 1) := dk_42 (dk_at dksX3_placed_2 0 rfl rfl)
theorem dX3_placed_29 : decode cX3_placed 29 = .ok (.getfield 9, 3) := dk_180 0 9 (dk_at dksX3_placed_2 1 rfl rfl)
theorem dX3_placed_32 : decode cX3_placed 32 = .ok (.goto 29, 3) := dk_167 0 29 (dk_at dksX3_placed_2 4 rfl rfl)
theorem dX3_placed_35 : decode cX3_placed 35 = .ok (.aload_n 0, 1) := dk_42 (dk_at dksX3_placed_2 7 rfl rfl)
theorem dX3_placed_36 : decode cX3_placed 36 = .ok (.getfield 53, 3) := dk_180 0 53 (dk_at dksX3_placed_2 8 rfl rfl)
theorem dX3_placed_39 : decode cX3_placed 39 = .ok (.goto 22, 3) := dk_167 0 22 (dk_at dksX3_placed_2 11 rfl rfl)
theorem dX3_placed_42 : decode cX3_placed 42 = .ok (.aload_n 0, 1) := dk_42 (dk_at dksX3_placed_2 14 rfl rfl)
theorem dX3_placed_43 : decode cX3_placed 43 = .ok (.getfield 64, 3) := dk_180 0 64 (dk_at dksX3_placed_2 15 rfl rfl)
theorem dX3_placed_46 : decode cX3_placed 46 = .ok (.goto 15, 3) := dk_167 0 15 (dk_at dksX3_placed_2 18 rfl rfl)
theorem dX3_placed_49 : decode cX3_placed 49 = .ok (.aload_n 0, 1) := dk_42 (dk_at dksX3_placed_2 21 rfl rfl)
theorem dX3_placed_50 : decode cX3_placed 50 = .ok (.getfield 56, 3) := dk_180 0 56 (dk_at dksX3_placed_3 0 rfl rfl)
theorem dX3_placed_53 : decode cX3_placed 53 = .ok (.ifCond .eq 7, 3) := dk_153 0 7 (dk_at dksX3_placed_3 3 rfl rfl)
theorem dX3_placed_56 : decode cX3_placed 56 = .ok (.iconst 1, 1) := dk_4 (dk_at dksX3_placed_3 6 rfl rfl)
theorem dX3_placed_57 : decode cX3_placed 57 = .ok (.goto 4, 3) := dk_167 0 4 (dk_at dksX3_placed_3 7 rfl rfl)
theorem dX3_placed_60 : decode cX3_placed 60 = .ok (.iconst 0, 1) := dk_3 (dk_at dksX3_placed_3 10 rfl rfl)
theorem dX3_placed_61 : decode cX3_placed 61 = .ok (.ireturn, 1) := dk_172 (dk_at dksX3_placed_3 11 rfl rfl)
abbrev cX3_needs : ByteArray := prog_4_method_13_code
def yX3_needs : MethodName := ⟨RX3, "needs", "(I)I"⟩
def dkwX3_needs_0 : List UInt8 := [42, 27, 3, 182, 0, 46, 42, 27, 3, 182, 0, 50, 104, 172]
abbrev dktX3_needs_0 : List UInt8 := dkwX3_needs_0 ++ []
theorem dksX3_needs_0 : cX3_needs.data.toList.drop 0 = dktX3_needs_0 := by decide +kernel
theorem dX3_needs_0 : decode cX3_needs 0 = .ok (.aload_n 0, 1) := dk_42 (dk_at dksX3_needs_0 0 rfl rfl)
theorem dX3_needs_1 : decode cX3_needs 1 = .ok (.iload_n 1, 1) := dk_27 (dk_at dksX3_needs_0 1 rfl rfl)
theorem dX3_needs_2 : decode cX3_needs 2 = .ok (.iconst 0, 1) := dk_3 (dk_at dksX3_needs_0 2 rfl rfl)
theorem dX3_needs_3 : decode cX3_needs 3 = .ok (.invokevirtual 46, 3) := dk_182 0 46 (dk_at dksX3_needs_0 3 rfl rfl)
theorem dX3_needs_6 : decode cX3_needs 6 = .ok (.aload_n 0, 1) := dk_42 (dk_at dksX3_needs_0 6 rfl rfl)
theorem dX3_needs_7 : decode cX3_needs 7 = .ok (.iload_n 1, 1) := dk_27 (dk_at dksX3_needs_0 7 rfl rfl)
theorem dX3_needs_8 : decode cX3_needs 8 = .ok (.iconst 0, 1) := dk_3 (dk_at dksX3_needs_0 8 rfl rfl)
theorem dX3_needs_9 : decode cX3_needs 9 = .ok (.invokevirtual 50, 3) := dk_182 0 50 (dk_at dksX3_needs_0 9 rfl rfl)
theorem dX3_needs_12 : decode cX3_needs 12 = .ok (.imul, 1) := dk_104 (dk_at dksX3_needs_0 12 rfl rfl)
theorem dX3_needs_13 : decode cX3_needs 13 = .ok (.ireturn, 1) := dk_172 (dk_at dksX3_needs_0 13 rfl rfl)
abbrev cX3_mayTurn : ByteArray := prog_4_method_5_code
def yX3_mayTurn : MethodName := ⟨RX3, "mayTurn", "()Z"⟩
theorem dX3_mayTurn_0 : decode cX3_mayTurn 0 = .ok (.iconst 1, 1) := by decide +kernel
theorem dX3_mayTurn_1 : decode cX3_mayTurn 1 = .ok (.ireturn, 1) := by decide +kernel
abbrev cX3_takes : ByteArray := prog_4_method_14_code
def yX3_takes : MethodName := ⟨RX3, "takes", "(III)Z"⟩
def dkwX3_takes_2 : List UInt8 := [184, 0, 60, 153, 0, 7, 4, 167, 0, 4, 3, 172]
abbrev dktX3_takes_2 : List UInt8 := dkwX3_takes_2 ++ []
def dkwX3_takes_1 : List UInt8 := [153, 0, 34, 29, 42, 180, 0, 64, 42, 180, 0, 64, 42, 27, 42, 180, 0, 56, 182, 0, 50, 96, 4, 100]
abbrev dktX3_takes_1 : List UInt8 := dkwX3_takes_1 ++ dktX3_takes_2
def dkwX3_takes_0 : List UInt8 := [28, 42, 180, 0, 53, 42, 180, 0, 53, 42, 27, 42, 180, 0, 56, 182, 0, 46, 96, 4, 100, 184, 0, 60]
abbrev dktX3_takes_0 : List UInt8 := dkwX3_takes_0 ++ dktX3_takes_1
theorem dksX3_takes_0 : cX3_takes.data.toList.drop 0 = dktX3_takes_0 := by decide +kernel
theorem dksX3_takes_1 : cX3_takes.data.toList.drop 24 = dktX3_takes_1 := dk_seg dksX3_takes_0 24 rfl rfl
theorem dksX3_takes_2 : cX3_takes.data.toList.drop 48 = dktX3_takes_2 := dk_seg dksX3_takes_1 24 rfl rfl
theorem dX3_takes_0 : decode cX3_takes 0 = .ok (.iload_n 2, 1) := dk_28 (dk_at dksX3_takes_0 0 rfl rfl)
theorem dX3_takes_1 : decode cX3_takes 1 = .ok (.aload_n 0, 1) := dk_42 (dk_at dksX3_takes_0 1 rfl rfl)
theorem dX3_takes_2 : decode cX3_takes 2 = .ok (.getfield 53, 3) := dk_180 0 53 (dk_at dksX3_takes_0 2 rfl rfl)
theorem dX3_takes_5 : decode cX3_takes 5 = .ok (.aload_n 0, 1) := dk_42 (dk_at dksX3_takes_0 5 rfl rfl)
theorem dX3_takes_6 : decode cX3_takes 6 = .ok (.getfield 53, 3) := dk_180 0 53 (dk_at dksX3_takes_0 6 rfl rfl)
theorem dX3_takes_9 : decode cX3_takes 9 = .ok (.aload_n 0, 1) := dk_42 (dk_at dksX3_takes_0 9 rfl rfl)
theorem dX3_takes_10 : decode cX3_takes 10 = .ok (.iload_n 1, 1) := dk_27 (dk_at dksX3_takes_0 10 rfl rfl)
theorem dX3_takes_11 : decode cX3_takes 11 = .ok (.aload_n 0, 1) := dk_42 (dk_at dksX3_takes_0 11 rfl rfl)
theorem dX3_takes_12 : decode cX3_takes 12 = .ok (.getfield 56, 3) := dk_180 0 56 (dk_at dksX3_takes_0 12 rfl rfl)
theorem dX3_takes_15 : decode cX3_takes 15 = .ok (.invokevirtual 46, 3) := dk_182 0 46 (dk_at dksX3_takes_0 15 rfl rfl)
theorem dX3_takes_18 : decode cX3_takes 18 = .ok (.iadd, 1) := dk_96 (dk_at dksX3_takes_0 18 rfl rfl)
theorem dX3_takes_19 : decode cX3_takes 19 = .ok (.iconst 1, 1) := dk_4 (dk_at dksX3_takes_0 19 rfl rfl)
theorem dX3_takes_20 : decode cX3_takes 20 = .ok (.isub, 1) := dk_100 (dk_at dksX3_takes_0 20 rfl rfl)
theorem dX3_takes_21 : decode cX3_takes 21 = .ok (.invokestatic 60, 3) := dk_184 0 60 (dk_at dksX3_takes_0 21 rfl rfl)
theorem dX3_takes_24 : decode cX3_takes 24 = .ok (.ifCond .eq 34, 3) := dk_153 0 34 (dk_at dksX3_takes_1 0 rfl rfl)
theorem dX3_takes_27 : decode cX3_takes 27 = .ok (.iload_n 3, 1) := dk_29 (dk_at dksX3_takes_1 3 rfl rfl)
theorem dX3_takes_28 : decode cX3_takes 28 = .ok (.aload_n 0, 1) := dk_42 (dk_at dksX3_takes_1 4 rfl rfl)
theorem dX3_takes_29 : decode cX3_takes 29 = .ok (.getfield 64, 3) := dk_180 0 64 (dk_at dksX3_takes_1 5 rfl rfl)
theorem dX3_takes_32 : decode cX3_takes 32 = .ok (.aload_n 0, 1) := dk_42 (dk_at dksX3_takes_1 8 rfl rfl)
theorem dX3_takes_33 : decode cX3_takes 33 = .ok (.getfield 64, 3) := dk_180 0 64 (dk_at dksX3_takes_1 9 rfl rfl)
theorem dX3_takes_36 : decode cX3_takes 36 = .ok (.aload_n 0, 1) := dk_42 (dk_at dksX3_takes_1 12 rfl rfl)
theorem dX3_takes_37 : decode cX3_takes 37 = .ok (.iload_n 1, 1) := dk_27 (dk_at dksX3_takes_1 13 rfl rfl)
theorem dX3_takes_38 : decode cX3_takes 38 = .ok (.aload_n 0, 1) := dk_42 (dk_at dksX3_takes_1 14 rfl rfl)
theorem dX3_takes_39 : decode cX3_takes 39 = .ok (.getfield 56, 3) := dk_180 0 56 (dk_at dksX3_takes_1 15 rfl rfl)
theorem dX3_takes_42 : decode cX3_takes 42 = .ok (.invokevirtual 50, 3) := dk_182 0 50 (dk_at dksX3_takes_1 18 rfl rfl)
theorem dX3_takes_45 : decode cX3_takes 45 = .ok (.iadd, 1) := dk_96 (dk_at dksX3_takes_1 21 rfl rfl)
theorem dX3_takes_46 : decode cX3_takes 46 = .ok (.iconst 1, 1) := dk_4 (dk_at dksX3_takes_1 22 rfl rfl)
theorem dX3_takes_47 : decode cX3_takes 47 = .ok (.isub, 1) := dk_100 (dk_at dksX3_takes_1 23 rfl rfl)
theorem dX3_takes_48 : decode cX3_takes 48 = .ok (.invokestatic 60, 3) := dk_184 0 60 (dk_at dksX3_takes_2 0 rfl rfl)
theorem dX3_takes_51 : decode cX3_takes 51 = .ok (.ifCond .eq 7, 3) := dk_153 0 7 (dk_at dksX3_takes_2 3 rfl rfl)
theorem dX3_takes_54 : decode cX3_takes 54 = .ok (.iconst 1, 1) := dk_4 (dk_at dksX3_takes_2 6 rfl rfl)
theorem dX3_takes_55 : decode cX3_takes 55 = .ok (.goto 4, 3) := dk_167 0 4 (dk_at dksX3_takes_2 7 rfl rfl)
theorem dX3_takes_58 : decode cX3_takes 58 = .ok (.iconst 0, 1) := dk_3 (dk_at dksX3_takes_2 10 rfl rfl)
theorem dX3_takes_59 : decode cX3_takes 59 = .ok (.ireturn, 1) := dk_172 (dk_at dksX3_takes_2 11 rfl rfl)
theorem q126 : (Jvm.Cond.initialized "FrameSheets$Frame") ∈ lw_all := lw_g (lw_at lw_m1 22 rfl) rfl
theorem q802 : (Jvm.Cond.instanceMethod ({ cls := "FrameSheets$Frame", name := "<init>", desc := "(II[I)V" } : Jvm.MethodName)) ∈ lw_all := lw_g (lw_at lw_m3 218 rfl) rfl
theorem q803 : (Jvm.Cond.code ({ cls := "FrameSheets$Frame", name := "<init>", desc := "(II[I)V" } : Jvm.MethodName) prog_4_method_1_code (4 : Nat) (Option.none : Option Jvm.ClassFile.FieldType)) ∈ lw_all := lw_g (lw_at lw_m3 219 rfl) rfl
theorem q804 : (Jvm.Cond.methodLink "FrameSheets$Frame" (3 : Nat) ({ cls := "java/lang/Object", name := "<init>", desc := "()V" } : Jvm.MethodName)) ∈ lw_all := lw_g (lw_at lw_m3 220 rfl) rfl
theorem q805 : (Jvm.Cond.fieldLink "FrameSheets$Frame" (15 : Nat) "FrameSheets$Frame" "w" "I") ∈ lw_all := lw_g (lw_at lw_m3 221 rfl) rfl
theorem q807 : (Jvm.Cond.fieldLink "FrameSheets$Frame" (18 : Nat) "FrameSheets$Frame" "h" "I") ∈ lw_all := lw_g (lw_at lw_m3 223 rfl) rfl
theorem q809 : (Jvm.Cond.fieldLink "FrameSheets$Frame" (21 : Nat) "FrameSheets$Frame" "left" "I") ∈ lw_all := lw_g (lw_at lw_m3 225 rfl) rfl
theorem q810 : (Jvm.Cond.fieldLink "FrameSheets$Frame" (24 : Nat) "FrameSheets$Frame" "above" "I") ∈ lw_all := lw_g (lw_at lw_m3 226 rfl) rfl
theorem q811 : (Jvm.Cond.fieldLink "FrameSheets$Frame" (27 : Nat) "FrameSheets$Frame" "right" "I") ∈ lw_all := lw_g (lw_at lw_m3 227 rfl) rfl
theorem q813 : (Jvm.Cond.fieldLink "FrameSheets$Frame" (30 : Nat) "FrameSheets$Frame" "below" "I") ∈ lw_all := lw_g (lw_at lw_m3 229 rfl) rfl
theorem q815 : (Jvm.Cond.fieldLink "FrameSheets$Frame" (9 : Nat) "FrameSheets$Frame" "page" "I") ∈ lw_all := lw_g (lw_at lw_m3 231 rfl) rfl
theorem q817 : (Jvm.Cond.fieldLink "FrameSheets$Frame" (53 : Nat) "FrameSheets$Frame" "x" "I") ∈ lw_all := lw_g (lw_at lw_m3 233 rfl) rfl
theorem q819 : (Jvm.Cond.fieldLink "FrameSheets$Frame" (64 : Nat) "FrameSheets$Frame" "y" "I") ∈ lw_all := lw_g (lw_at lw_m3 235 rfl) rfl
theorem q821 : (Jvm.Cond.fieldLink "FrameSheets$Frame" (56 : Nat) "FrameSheets$Frame" "turned" "Z") ∈ lw_all := lw_g (lw_at lw_m3 237 rfl) rfl
theorem q824 : (Jvm.Cond.soleField "FrameSheets$Frame" "w") ∈ lw_all := lw_g (lw_at lw_m4 0 rfl) rfl
theorem q826 : (Jvm.Cond.soleField "FrameSheets$Frame" "h") ∈ lw_all := lw_g (lw_at lw_m4 2 rfl) rfl
theorem q828 : (Jvm.Cond.soleField "FrameSheets$Frame" "left") ∈ lw_all := lw_g (lw_at lw_m4 4 rfl) rfl
theorem q830 : (Jvm.Cond.soleField "FrameSheets$Frame" "above") ∈ lw_all := lw_g (lw_at lw_m4 6 rfl) rfl
theorem q832 : (Jvm.Cond.soleField "FrameSheets$Frame" "right") ∈ lw_all := lw_g (lw_at lw_m4 8 rfl) rfl
theorem q834 : (Jvm.Cond.soleField "FrameSheets$Frame" "below") ∈ lw_all := lw_g (lw_at lw_m4 10 rfl) rfl
theorem q836 : (Jvm.Cond.soleField "FrameSheets$Frame" "page") ∈ lw_all := lw_g (lw_at lw_m4 12 rfl) rfl
theorem q838 : (Jvm.Cond.soleField "FrameSheets$Frame" "x") ∈ lw_all := lw_g (lw_at lw_m4 14 rfl) rfl
theorem q840 : (Jvm.Cond.soleField "FrameSheets$Frame" "y") ∈ lw_all := lw_g (lw_at lw_m4 16 rfl) rfl
theorem q842 : (Jvm.Cond.soleField "FrameSheets$Frame" "turned") ∈ lw_all := lw_g (lw_at lw_m4 18 rfl) rfl
theorem q878 : (Jvm.Cond.instantiable "FrameSheets$Frame" (10 : Nat)) ∈ lw_all := lw_g (lw_at lw_m4 54 rfl) rfl
theorem q880 : (Jvm.Cond.laysFinal "FrameSheets$Frame" "FrameSheets$Frame" "w" "I") ∈ lw_all := lw_g (lw_at lw_m4 56 rfl) rfl
theorem q881 : (Jvm.Cond.laysFinal "FrameSheets$Frame" "FrameSheets$Frame" "h" "I") ∈ lw_all := lw_g (lw_at lw_m4 57 rfl) rfl
theorem q882 : (Jvm.Cond.laysFinal "FrameSheets$Frame" "FrameSheets$Frame" "left" "I") ∈ lw_all := lw_g (lw_at lw_m4 58 rfl) rfl
theorem q883 : (Jvm.Cond.laysFinal "FrameSheets$Frame" "FrameSheets$Frame" "above" "I") ∈ lw_all := lw_g (lw_at lw_m4 59 rfl) rfl
theorem q884 : (Jvm.Cond.laysFinal "FrameSheets$Frame" "FrameSheets$Frame" "right" "I") ∈ lw_all := lw_g (lw_at lw_m4 60 rfl) rfl
theorem q885 : (Jvm.Cond.laysFinal "FrameSheets$Frame" "FrameSheets$Frame" "below" "I") ∈ lw_all := lw_g (lw_at lw_m4 61 rfl) rfl
theorem q886 : (Jvm.Cond.lays "FrameSheets$Frame" "FrameSheets$Frame" "page" "I") ∈ lw_all := lw_g (lw_at lw_m4 62 rfl) rfl
theorem q887 : (Jvm.Cond.lays "FrameSheets$Frame" "FrameSheets$Frame" "x" "I") ∈ lw_all := lw_g (lw_at lw_m4 63 rfl) rfl
theorem q888 : (Jvm.Cond.lays "FrameSheets$Frame" "FrameSheets$Frame" "y" "I") ∈ lw_all := lw_g (lw_at lw_m4 64 rfl) rfl
theorem q889 : (Jvm.Cond.lays "FrameSheets$Frame" "FrameSheets$Frame" "turned" "Z") ∈ lw_all := lw_g (lw_at lw_m4 65 rfl) rfl
theorem q890 : (Jvm.Cond.superclass "FrameSheets$Frame" "java/lang/Object") ∈ lw_all := lw_g (lw_at lw_m4 66 rfl) rfl
theorem q1010 : (Jvm.Cond.instanceMethod ({ cls := "FrameSheets$Frame", name := "written", desc := "()Ljava/lang/String;" } : Jvm.MethodName)) ∈ lw_all := lw_g (lw_at lw_m4 186 rfl) rfl
theorem q1011 : (Jvm.Cond.selects "FrameSheets$Frame" ({ cls := "FrameSheets$Frame", name := "written", desc := "()Ljava/lang/String;" } : Jvm.MethodName) ({ cls := "FrameSheets$Frame", name := "written", desc := "()Ljava/lang/String;" } : Jvm.MethodName)) ∈ lw_all := lw_g (lw_at lw_m4 187 rfl) rfl
theorem q1012 : (Jvm.Cond.sameMethod "FrameSheets$Frame" "FrameSheets$Frame" "written" "()Ljava/lang/String;") ∈ lw_all := lw_g (lw_at lw_m4 188 rfl) rfl
theorem q1016 : (Jvm.Cond.code ({ cls := "FrameSheets$Frame", name := "written", desc := "()Ljava/lang/String;" } : Jvm.MethodName) prog_4_method_17_code (2 : Nat) (Option.some (Jvm.ClassFile.FieldType.object "java/lang/String"))) ∈ lw_all := lw_g (lw_at lw_m4 192 rfl) rfl
theorem q1017 : (Jvm.Cond.classLink "FrameSheets$Frame" (70 : Nat) "java/lang/StringBuilder") ∈ lw_all := lw_g (lw_at lw_m4 193 rfl) rfl
theorem q1018 : (Jvm.Cond.methodLink "FrameSheets$Frame" (72 : Nat) ({ cls := "FrameSheets$Frame", name := "word", desc := "()Ljava/lang/String;" } : Jvm.MethodName)) ∈ lw_all := lw_g (lw_at lw_m4 194 rfl) rfl
theorem q1019 : (Jvm.Cond.instanceMethod ({ cls := "FrameSheets$Frame", name := "word", desc := "()Ljava/lang/String;" } : Jvm.MethodName)) ∈ lw_all := lw_g (lw_at lw_m4 195 rfl) rfl
theorem q1020 : (Jvm.Cond.selects "FrameSheets$Frame" ({ cls := "FrameSheets$Frame", name := "word", desc := "()Ljava/lang/String;" } : Jvm.MethodName) ({ cls := "FrameSheets$Frame", name := "word", desc := "()Ljava/lang/String;" } : Jvm.MethodName)) ∈ lw_all := lw_g (lw_at lw_m4 196 rfl) rfl
theorem q1021 : (Jvm.Cond.sameMethod "FrameSheets$Frame" "FrameSheets$Frame" "word" "()Ljava/lang/String;") ∈ lw_all := lw_g (lw_at lw_m4 197 rfl) rfl
theorem q1034 : (Jvm.Cond.code ({ cls := "FrameSheets$Frame", name := "word", desc := "()Ljava/lang/String;" } : Jvm.MethodName) prog_4_method_4_code (1 : Nat) (Option.some (Jvm.ClassFile.FieldType.object "java/lang/String"))) ∈ lw_all := lw_g (lw_at lw_m4 210 rfl) rfl
theorem q1035 : (Jvm.Cond.stringRef "FrameSheets$Frame" (33 : Nat) "frame") ∈ lw_tbl := lw_at lw_m4 211 rfl
theorem q1036 : (Jvm.Cond.methodLink "FrameSheets$Frame" (76 : Nat) ({ cls := "java/lang/StringBuilder", name := "<init>", desc := "(Ljava/lang/String;)V" } : Jvm.MethodName)) ∈ lw_all := lw_g (lw_at lw_m4 212 rfl) rfl
theorem q1037 : (Jvm.Cond.methodLink "FrameSheets$Frame" (79 : Nat) ({ cls := "java/lang/StringBuilder", name := "append", desc := "(C)Ljava/lang/StringBuilder;" } : Jvm.MethodName)) ∈ lw_all := lw_g (lw_at lw_m4 213 rfl) rfl
theorem q1038 : (Jvm.Cond.methodLink "FrameSheets$Frame" (83 : Nat) ({ cls := "java/lang/StringBuilder", name := "append", desc := "(I)Ljava/lang/StringBuilder;" } : Jvm.MethodName)) ∈ lw_all := lw_g (lw_at lw_m4 214 rfl) rfl
theorem q1039 : (Jvm.Cond.methodLink "FrameSheets$Frame" (86 : Nat) ({ cls := "java/lang/StringBuilder", name := "toString", desc := "()Ljava/lang/String;" } : Jvm.MethodName)) ∈ lw_all := lw_g (lw_at lw_m4 215 rfl) rfl
theorem q1060 : (Jvm.Cond.instanceMethod ({ cls := "FrameSheets$Frame", name := "toldBy", desc := "(II)I" } : Jvm.MethodName)) ∈ lw_all := lw_g (lw_at lw_m4 236 rfl) rfl
theorem q1061 : (Jvm.Cond.selects "FrameSheets$Frame" ({ cls := "FrameSheets$Frame", name := "toldBy", desc := "(II)I" } : Jvm.MethodName) ({ cls := "FrameSheets$Frame", name := "toldBy", desc := "(II)I" } : Jvm.MethodName)) ∈ lw_all := lw_g (lw_at lw_m4 237 rfl) rfl
theorem q1062 : (Jvm.Cond.sameMethod "FrameSheets$Frame" "FrameSheets$Frame" "toldBy" "(II)I") ∈ lw_all := lw_g (lw_at lw_m4 238 rfl) rfl
theorem q1066 : (Jvm.Cond.code ({ cls := "FrameSheets$Frame", name := "toldBy", desc := "(II)I" } : Jvm.MethodName) prog_4_method_15_code (3 : Nat) (Option.some Jvm.ClassFile.FieldType.int)) ∈ lw_all := lw_g (lw_at lw_m5 2 rfl) rfl
theorem q1067 : (Jvm.Cond.methodLink "FrameSheets$Frame" (67 : Nat) ({ cls := "FrameSheets$Frame", name := "kind", desc := "()I" } : Jvm.MethodName)) ∈ lw_all := lw_g (lw_at lw_m5 3 rfl) rfl
theorem q1068 : (Jvm.Cond.instanceMethod ({ cls := "FrameSheets$Frame", name := "kind", desc := "()I" } : Jvm.MethodName)) ∈ lw_all := lw_g (lw_at lw_m5 4 rfl) rfl
theorem q1069 : (Jvm.Cond.selects "FrameSheets$Frame" ({ cls := "FrameSheets$Frame", name := "kind", desc := "()I" } : Jvm.MethodName) ({ cls := "FrameSheets$Frame", name := "kind", desc := "()I" } : Jvm.MethodName)) ∈ lw_all := lw_g (lw_at lw_m5 5 rfl) rfl
theorem q1070 : (Jvm.Cond.sameMethod "FrameSheets$Frame" "FrameSheets$Frame" "kind" "()I") ∈ lw_all := lw_g (lw_at lw_m5 6 rfl) rfl
theorem q1080 : (Jvm.Cond.code ({ cls := "FrameSheets$Frame", name := "kind", desc := "()I" } : Jvm.MethodName) prog_4_method_2_code (1 : Nat) (Option.some Jvm.ClassFile.FieldType.int)) ∈ lw_all := lw_g (lw_at lw_m5 16 rfl) rfl
theorem q1081 : (Jvm.Cond.methodLink "FrameSheets$Frame" (39 : Nat) ({ cls := "FrameSheets$Frame", name := "wide", desc := "()I" } : Jvm.MethodName)) ∈ lw_all := lw_g (lw_at lw_m5 17 rfl) rfl
theorem q1082 : (Jvm.Cond.instanceMethod ({ cls := "FrameSheets$Frame", name := "wide", desc := "()I" } : Jvm.MethodName)) ∈ lw_all := lw_g (lw_at lw_m5 18 rfl) rfl
theorem q1083 : (Jvm.Cond.selects "FrameSheets$Frame" ({ cls := "FrameSheets$Frame", name := "wide", desc := "()I" } : Jvm.MethodName) ({ cls := "FrameSheets$Frame", name := "wide", desc := "()I" } : Jvm.MethodName)) ∈ lw_all := lw_g (lw_at lw_m5 19 rfl) rfl
theorem q1084 : (Jvm.Cond.sameMethod "FrameSheets$Frame" "FrameSheets$Frame" "wide" "()I") ∈ lw_all := lw_g (lw_at lw_m5 20 rfl) rfl
theorem q1092 : (Jvm.Cond.declares ({ cls := "FrameSheets$Frame", name := "wide", desc := "()I" } : Jvm.MethodName)) ∈ lw_tbl := lw_at lw_m5 28 rfl
theorem q1095 : (Jvm.Cond.declares ({ cls := "FrameSheets$Frame", name := "firstColumn", desc := "()I" } : Jvm.MethodName)) ∈ lw_tbl := lw_at lw_m5 31 rfl
theorem q1096 : (Jvm.Cond.instanceMethod ({ cls := "FrameSheets$Frame", name := "firstColumn", desc := "()I" } : Jvm.MethodName)) ∈ lw_all := lw_g (lw_at lw_m5 32 rfl) rfl
theorem q1097 : (Jvm.Cond.code ({ cls := "FrameSheets$Frame", name := "firstColumn", desc := "()I" } : Jvm.MethodName) prog_4_method_7_code (1 : Nat) (Option.some Jvm.ClassFile.FieldType.int)) ∈ lw_all := lw_g (lw_at lw_m5 33 rfl) rfl
theorem q1098 : (Jvm.Cond.code ({ cls := "FrameSheets$Frame", name := "wide", desc := "()I" } : Jvm.MethodName) prog_4_method_9_code (1 : Nat) (Option.some Jvm.ClassFile.FieldType.int)) ∈ lw_all := lw_g (lw_at lw_m5 34 rfl) rfl
theorem q1099 : (Jvm.Cond.methodLink "FrameSheets$Frame" (35 : Nat) ({ cls := "FrameSheets$Frame", name := "high", desc := "()I" } : Jvm.MethodName)) ∈ lw_all := lw_g (lw_at lw_m5 35 rfl) rfl
theorem q1100 : (Jvm.Cond.instanceMethod ({ cls := "FrameSheets$Frame", name := "high", desc := "()I" } : Jvm.MethodName)) ∈ lw_all := lw_g (lw_at lw_m5 36 rfl) rfl
theorem q1101 : (Jvm.Cond.selects "FrameSheets$Frame" ({ cls := "FrameSheets$Frame", name := "high", desc := "()I" } : Jvm.MethodName) ({ cls := "FrameSheets$Frame", name := "high", desc := "()I" } : Jvm.MethodName)) ∈ lw_all := lw_g (lw_at lw_m5 37 rfl) rfl
theorem q1102 : (Jvm.Cond.sameMethod "FrameSheets$Frame" "FrameSheets$Frame" "high" "()I") ∈ lw_all := lw_g (lw_at lw_m5 38 rfl) rfl
theorem q1110 : (Jvm.Cond.declares ({ cls := "FrameSheets$Frame", name := "high", desc := "()I" } : Jvm.MethodName)) ∈ lw_tbl := lw_at lw_m5 46 rfl
theorem q1113 : (Jvm.Cond.declares ({ cls := "FrameSheets$Frame", name := "firstRow", desc := "()I" } : Jvm.MethodName)) ∈ lw_tbl := lw_at lw_m5 49 rfl
theorem q1114 : (Jvm.Cond.instanceMethod ({ cls := "FrameSheets$Frame", name := "firstRow", desc := "()I" } : Jvm.MethodName)) ∈ lw_all := lw_g (lw_at lw_m5 50 rfl) rfl
theorem q1115 : (Jvm.Cond.code ({ cls := "FrameSheets$Frame", name := "firstRow", desc := "()I" } : Jvm.MethodName) prog_4_method_8_code (1 : Nat) (Option.some Jvm.ClassFile.FieldType.int)) ∈ lw_all := lw_g (lw_at lw_m5 51 rfl) rfl
theorem q1116 : (Jvm.Cond.code ({ cls := "FrameSheets$Frame", name := "high", desc := "()I" } : Jvm.MethodName) prog_4_method_10_code (1 : Nat) (Option.some Jvm.ClassFile.FieldType.int)) ∈ lw_all := lw_g (lw_at lw_m5 52 rfl) rfl
theorem q1117 : (Jvm.Cond.methodLink "FrameSheets$Frame" (46 : Nat) ({ cls := "FrameSheets$Frame", name := "across", desc := "(IZ)I" } : Jvm.MethodName)) ∈ lw_all := lw_g (lw_at lw_m5 53 rfl) rfl
theorem q1118 : (Jvm.Cond.instanceMethod ({ cls := "FrameSheets$Frame", name := "across", desc := "(IZ)I" } : Jvm.MethodName)) ∈ lw_all := lw_g (lw_at lw_m5 54 rfl) rfl
theorem q1119 : (Jvm.Cond.selects "FrameSheets$Frame" ({ cls := "FrameSheets$Frame", name := "across", desc := "(IZ)I" } : Jvm.MethodName) ({ cls := "FrameSheets$Frame", name := "across", desc := "(IZ)I" } : Jvm.MethodName)) ∈ lw_all := lw_g (lw_at lw_m5 55 rfl) rfl
theorem q1120 : (Jvm.Cond.sameMethod "FrameSheets$Frame" "FrameSheets$Frame" "across" "(IZ)I") ∈ lw_all := lw_g (lw_at lw_m5 56 rfl) rfl
theorem q1124 : (Jvm.Cond.code ({ cls := "FrameSheets$Frame", name := "across", desc := "(IZ)I" } : Jvm.MethodName) prog_4_method_11_code (3 : Nat) (Option.some Jvm.ClassFile.FieldType.int)) ∈ lw_all := lw_g (lw_at lw_m5 60 rfl) rfl
theorem q1125 : (Jvm.Cond.methodLink "FrameSheets$Frame" (42 : Nat) ({ cls := "FrameSheets$Frame", name := "edge", desc := "(I)I" } : Jvm.MethodName)) ∈ lw_all := lw_g (lw_at lw_m5 61 rfl) rfl
theorem q1126 : (Jvm.Cond.instanceMethod ({ cls := "FrameSheets$Frame", name := "edge", desc := "(I)I" } : Jvm.MethodName)) ∈ lw_all := lw_g (lw_at lw_m5 62 rfl) rfl
theorem q1127 : (Jvm.Cond.selects "FrameSheets$Frame" ({ cls := "FrameSheets$Frame", name := "edge", desc := "(I)I" } : Jvm.MethodName) ({ cls := "FrameSheets$Frame", name := "edge", desc := "(I)I" } : Jvm.MethodName)) ∈ lw_all := lw_g (lw_at lw_m5 63 rfl) rfl
theorem q1128 : (Jvm.Cond.sameMethod "FrameSheets$Frame" "FrameSheets$Frame" "edge" "(I)I") ∈ lw_all := lw_g (lw_at lw_m5 64 rfl) rfl
theorem q1135 : (Jvm.Cond.code ({ cls := "FrameSheets$Frame", name := "edge", desc := "(I)I" } : Jvm.MethodName) prog_4_method_6_code (2 : Nat) (Option.some Jvm.ClassFile.FieldType.int)) ∈ lw_all := lw_g (lw_at lw_m5 71 rfl) rfl
theorem q1136 : (Jvm.Cond.methodLink "FrameSheets$Frame" (50 : Nat) ({ cls := "FrameSheets$Frame", name := "down", desc := "(IZ)I" } : Jvm.MethodName)) ∈ lw_all := lw_g (lw_at lw_m5 72 rfl) rfl
theorem q1137 : (Jvm.Cond.instanceMethod ({ cls := "FrameSheets$Frame", name := "down", desc := "(IZ)I" } : Jvm.MethodName)) ∈ lw_all := lw_g (lw_at lw_m5 73 rfl) rfl
theorem q1138 : (Jvm.Cond.selects "FrameSheets$Frame" ({ cls := "FrameSheets$Frame", name := "down", desc := "(IZ)I" } : Jvm.MethodName) ({ cls := "FrameSheets$Frame", name := "down", desc := "(IZ)I" } : Jvm.MethodName)) ∈ lw_all := lw_g (lw_at lw_m5 74 rfl) rfl
theorem q1139 : (Jvm.Cond.sameMethod "FrameSheets$Frame" "FrameSheets$Frame" "down" "(IZ)I") ∈ lw_all := lw_g (lw_at lw_m5 75 rfl) rfl
theorem q1143 : (Jvm.Cond.code ({ cls := "FrameSheets$Frame", name := "down", desc := "(IZ)I" } : Jvm.MethodName) prog_4_method_12_code (3 : Nat) (Option.some Jvm.ClassFile.FieldType.int)) ∈ lw_all := lw_g (lw_at lw_m5 79 rfl) rfl
theorem q1153 : (Jvm.Cond.instanceMethod ({ cls := "FrameSheets$Frame", name := "placed", desc := "(I)I" } : Jvm.MethodName)) ∈ lw_all := lw_g (lw_at lw_m5 89 rfl) rfl
theorem q1154 : (Jvm.Cond.selects "FrameSheets$Frame" ({ cls := "FrameSheets$Frame", name := "placed", desc := "(I)I" } : Jvm.MethodName) ({ cls := "FrameSheets$Frame", name := "placed", desc := "(I)I" } : Jvm.MethodName)) ∈ lw_all := lw_g (lw_at lw_m5 90 rfl) rfl
theorem q1155 : (Jvm.Cond.sameMethod "FrameSheets$Frame" "FrameSheets$Frame" "placed" "(I)I") ∈ lw_all := lw_g (lw_at lw_m5 91 rfl) rfl
theorem q1159 : (Jvm.Cond.code ({ cls := "FrameSheets$Frame", name := "placed", desc := "(I)I" } : Jvm.MethodName) prog_4_method_16_code (2 : Nat) (Option.some Jvm.ClassFile.FieldType.int)) ∈ lw_all := lw_g (lw_at lw_m5 95 rfl) rfl
theorem q1202 : (Jvm.Cond.declares ({ cls := "FrameSheets$Frame", name := "needs", desc := "(I)I" } : Jvm.MethodName)) ∈ lw_tbl := lw_at lw_m5 138 rfl
theorem q1204 : (Jvm.Cond.instanceMethod ({ cls := "FrameSheets$Frame", name := "needs", desc := "(I)I" } : Jvm.MethodName)) ∈ lw_all := lw_g (lw_at lw_m5 140 rfl) rfl
theorem q1205 : (Jvm.Cond.code ({ cls := "FrameSheets$Frame", name := "needs", desc := "(I)I" } : Jvm.MethodName) prog_4_method_13_code (2 : Nat) (Option.some Jvm.ClassFile.FieldType.int)) ∈ lw_all := lw_g (lw_at lw_m5 141 rfl) rfl
theorem q1278 : (Jvm.Cond.instanceMethod ({ cls := "FrameSheets$Frame", name := "mayTurn", desc := "()Z" } : Jvm.MethodName)) ∈ lw_all := lw_g (lw_at lw_m5 214 rfl) rfl
theorem q1279 : (Jvm.Cond.selects "FrameSheets$Frame" ({ cls := "FrameSheets$Frame", name := "mayTurn", desc := "()Z" } : Jvm.MethodName) ({ cls := "FrameSheets$Frame", name := "mayTurn", desc := "()Z" } : Jvm.MethodName)) ∈ lw_all := lw_g (lw_at lw_m5 215 rfl) rfl
theorem q1280 : (Jvm.Cond.sameMethod "FrameSheets$Frame" "FrameSheets$Frame" "mayTurn" "()Z") ∈ lw_all := lw_g (lw_at lw_m5 216 rfl) rfl
theorem q1286 : (Jvm.Cond.code ({ cls := "FrameSheets$Frame", name := "mayTurn", desc := "()Z" } : Jvm.MethodName) prog_4_method_5_code (1 : Nat) (Option.some Jvm.ClassFile.FieldType.boolean)) ∈ lw_all := lw_g (lw_at lw_m5 222 rfl) rfl
theorem q1449 : (Jvm.Cond.instanceMethod ({ cls := "FrameSheets$Frame", name := "takes", desc := "(III)Z" } : Jvm.MethodName)) ∈ lw_all := lw_g (lw_at lw_m6 145 rfl) rfl
theorem q1450 : (Jvm.Cond.selects "FrameSheets$Frame" ({ cls := "FrameSheets$Frame", name := "takes", desc := "(III)Z" } : Jvm.MethodName) ({ cls := "FrameSheets$Frame", name := "takes", desc := "(III)Z" } : Jvm.MethodName)) ∈ lw_all := lw_g (lw_at lw_m6 146 rfl) rfl
theorem q1451 : (Jvm.Cond.sameMethod "FrameSheets$Frame" "FrameSheets$Frame" "takes" "(III)Z") ∈ lw_all := lw_g (lw_at lw_m6 147 rfl) rfl
theorem q1455 : (Jvm.Cond.code ({ cls := "FrameSheets$Frame", name := "takes", desc := "(III)Z" } : Jvm.MethodName) prog_4_method_14_code (4 : Nat) (Option.some Jvm.ClassFile.FieldType.boolean)) ∈ lw_all := lw_g (lw_at lw_m6 151 rfl) rfl
theorem q1456 : (Jvm.Cond.methodLinkNest "FrameSheets$Frame" (60 : Nat) ({ cls := "FrameSheets", name := "isIn", desc := "(III)Z" } : Jvm.MethodName) "FrameSheets") ∈ lw_tbl := lw_at lw_m6 152 rfl
theorem q2121 : (Jvm.Cond.sameMethod "FrameSheets$Frame" "FrameSheets$Frame" "needs" "(I)I") ∈ lw_all := lw_g (lw_at lw_m9 97 rfl) rfl
theorem q2123 : (Jvm.Cond.selects "FrameSheets$Frame" ({ cls := "FrameSheets$Frame", name := "needs", desc := "(I)I" } : Jvm.MethodName) ({ cls := "FrameSheets$Frame", name := "needs", desc := "(I)I" } : Jvm.MethodName)) ∈ lw_all := lw_g (lw_at lw_m9 99 rfl) rfl
theorem q2126 : (Jvm.Cond.sameMethod "FrameSheets$Frame" "FrameSheets$Frame" "firstColumn" "()I") ∈ lw_all := lw_g (lw_at lw_m9 102 rfl) rfl
theorem q2128 : (Jvm.Cond.selects "FrameSheets$Frame" ({ cls := "FrameSheets$Frame", name := "firstColumn", desc := "()I" } : Jvm.MethodName) ({ cls := "FrameSheets$Frame", name := "firstColumn", desc := "()I" } : Jvm.MethodName)) ∈ lw_all := lw_g (lw_at lw_m9 104 rfl) rfl
theorem q2131 : (Jvm.Cond.sameMethod "FrameSheets$Frame" "FrameSheets$Frame" "firstRow" "()I") ∈ lw_all := lw_g (lw_at lw_m9 107 rfl) rfl
theorem q2133 : (Jvm.Cond.selects "FrameSheets$Frame" ({ cls := "FrameSheets$Frame", name := "firstRow", desc := "()I" } : Jvm.MethodName) ({ cls := "FrameSheets$Frame", name := "firstRow", desc := "()I" } : Jvm.MethodName)) ∈ lw_all := lw_g (lw_at lw_m9 109 rfl) rfl
theorem in_X3 : ∀ w ∈ wsX30, w ∈ lw_all := lw_in wsX30 [880, 881, 882, 883, 884, 885, 886, 887, 888, 889] (by decide +kernel) (by decide +kernel)

/-! FrameSheets$Icon -/
set_option maxRecDepth 100000
def RX4 : String := "FrameSheets$Icon"
def TX4 : u_T := fun k => match k with
  | 0 => ("FrameSheets$Frame", "w", "I", true)
  | 1 => ("FrameSheets$Frame", "h", "I", true)
  | 2 => ("FrameSheets$Frame", "left", "I", true)
  | 3 => ("FrameSheets$Frame", "above", "I", true)
  | 4 => ("FrameSheets$Frame", "right", "I", true)
  | 5 => ("FrameSheets$Frame", "below", "I", true)
  | 6 => ("FrameSheets$Frame", "page", "I", false)
  | 7 => ("FrameSheets$Frame", "x", "I", false)
  | 8 => ("FrameSheets$Frame", "y", "I", false)
  | _ => ("FrameSheets$Frame", "turned", "Z", false)
def tyX4 : Nat → FieldType := fun k => match k with
  | 0 => .int
  | 1 => .int
  | 2 => .int
  | 3 => .int
  | 4 => .int
  | 5 => .int
  | 6 => .int
  | 7 => .int
  | 8 => .int
  | _ => .boolean
abbrev wsX40 : List Cond := u_ws RX4 TX4 10
theorem nmX4 : ∀ a, a < 10 → ∀ b, b < 10 → a ≠ b → (TX4 a).2.1 ≠ (TX4 b).2.1 := by decide +kernel
theorem tyX4_ok : ∀ k, k < 10 → parseFieldDescriptor (TX4 k).2.2.1 = some (tyX4 k) := by decide +kernel
abbrev cX4_init : ByteArray := prog_5_method_1_code
def yX4_init : MethodName := ⟨RX4, "<init>", "(II[I)V"⟩
def dkwX4_init_0 : List UInt8 := [42, 27, 28, 45, 183, 0, 3, 177]
abbrev dktX4_init_0 : List UInt8 := dkwX4_init_0 ++ []
theorem dksX4_init_0 : cX4_init.data.toList.drop 0 = dktX4_init_0 := by decide +kernel
theorem dX4_init_0 : decode cX4_init 0 = .ok (.aload_n 0, 1) := dk_42 (dk_at dksX4_init_0 0 rfl rfl)
theorem dX4_init_1 : decode cX4_init 1 = .ok (.iload_n 1, 1) := dk_27 (dk_at dksX4_init_0 1 rfl rfl)
theorem dX4_init_2 : decode cX4_init 2 = .ok (.iload_n 2, 1) := dk_28 (dk_at dksX4_init_0 2 rfl rfl)
theorem dX4_init_3 : decode cX4_init 3 = .ok (.aload_n 3, 1) := dk_45 (dk_at dksX4_init_0 3 rfl rfl)
theorem dX4_init_4 : decode cX4_init 4 = .ok (.invokespecial 3, 3) := dk_183 0 3 (dk_at dksX4_init_0 4 rfl rfl)
theorem dX4_init_7 : decode cX4_init 7 = .ok (.return_, 1) := dk_177 (dk_at dksX4_init_0 7 rfl rfl)
abbrev cX4_word : ByteArray := prog_5_method_4_code
def yX4_word : MethodName := ⟨RX4, "word", "()Ljava/lang/String;"⟩
theorem dX4_word_0 : decode cX4_word 0 = .ok (.ldc 13, 2) := by decide +kernel
theorem dX4_word_2 : decode cX4_word 2 = .ok (.areturn, 1) := by decide +kernel
abbrev cX4_kind : ByteArray := prog_5_method_2_code
def yX4_kind : MethodName := ⟨RX4, "kind", "()I"⟩
theorem dX4_kind_0 : decode cX4_kind 0 = .ok (.iconst 1, 1) := by decide +kernel
theorem dX4_kind_1 : decode cX4_kind 1 = .ok (.ireturn, 1) := by decide +kernel
abbrev cX4_longer : ByteArray := prog_5_method_6_code
def yX4_longer : MethodName := ⟨RX4, "longer", "()I"⟩
def dkwX4_longer_0 : List UInt8 := [42, 182, 0, 15, 42, 182, 0, 21, 184, 0, 24, 42, 182, 0, 15, 42, 182, 0, 21, 184, 0, 30, 100, 172]
abbrev dktX4_longer_0 : List UInt8 := dkwX4_longer_0 ++ []
theorem dksX4_longer_0 : cX4_longer.data.toList.drop 0 = dktX4_longer_0 := by decide +kernel
theorem dX4_longer_0 : decode cX4_longer 0 = .ok (.aload_n 0, 1) := dk_42 (dk_at dksX4_longer_0 0 rfl rfl)
theorem dX4_longer_1 : decode cX4_longer 1 = .ok (.invokevirtual 15, 3) := dk_182 0 15 (dk_at dksX4_longer_0 1 rfl rfl)
theorem dX4_longer_4 : decode cX4_longer 4 = .ok (.aload_n 0, 1) := dk_42 (dk_at dksX4_longer_0 4 rfl rfl)
theorem dX4_longer_5 : decode cX4_longer 5 = .ok (.invokevirtual 21, 3) := dk_182 0 21 (dk_at dksX4_longer_0 5 rfl rfl)
theorem dX4_longer_8 : decode cX4_longer 8 = .ok (.invokestatic 24, 3) := dk_184 0 24 (dk_at dksX4_longer_0 8 rfl rfl)
theorem dX4_longer_11 : decode cX4_longer 11 = .ok (.aload_n 0, 1) := dk_42 (dk_at dksX4_longer_0 11 rfl rfl)
theorem dX4_longer_12 : decode cX4_longer 12 = .ok (.invokevirtual 15, 3) := dk_182 0 15 (dk_at dksX4_longer_0 12 rfl rfl)
theorem dX4_longer_15 : decode cX4_longer 15 = .ok (.aload_n 0, 1) := dk_42 (dk_at dksX4_longer_0 15 rfl rfl)
theorem dX4_longer_16 : decode cX4_longer 16 = .ok (.invokevirtual 21, 3) := dk_182 0 21 (dk_at dksX4_longer_0 16 rfl rfl)
theorem dX4_longer_19 : decode cX4_longer 19 = .ok (.invokestatic 30, 3) := dk_184 0 30 (dk_at dksX4_longer_0 19 rfl rfl)
theorem dX4_longer_22 : decode cX4_longer 22 = .ok (.isub, 1) := dk_100 (dk_at dksX4_longer_0 22 rfl rfl)
theorem dX4_longer_23 : decode cX4_longer 23 = .ok (.ireturn, 1) := dk_172 (dk_at dksX4_longer_0 23 rfl rfl)
abbrev cX4_mayTurn : ByteArray := prog_5_method_5_code
def yX4_mayTurn : MethodName := ⟨RX4, "mayTurn", "()Z"⟩
theorem dX4_mayTurn_0 : decode cX4_mayTurn 0 = .ok (.iconst 0, 1) := by decide +kernel
theorem dX4_mayTurn_1 : decode cX4_mayTurn 1 = .ok (.ireturn, 1) := by decide +kernel
theorem q127 : (Jvm.Cond.initialized "FrameSheets$Icon") ∈ lw_all := lw_g (lw_at lw_m1 23 rfl) rfl
theorem q797 : (Jvm.Cond.instantiable "FrameSheets$Icon" (10 : Nat)) ∈ lw_all := lw_g (lw_at lw_m3 213 rfl) rfl
theorem q799 : (Jvm.Cond.instanceMethod ({ cls := "FrameSheets$Icon", name := "<init>", desc := "(II[I)V" } : Jvm.MethodName)) ∈ lw_all := lw_g (lw_at lw_m3 215 rfl) rfl
theorem q800 : (Jvm.Cond.code ({ cls := "FrameSheets$Icon", name := "<init>", desc := "(II[I)V" } : Jvm.MethodName) prog_5_method_1_code (4 : Nat) (Option.none : Option Jvm.ClassFile.FieldType)) ∈ lw_all := lw_g (lw_at lw_m3 216 rfl) rfl
theorem q801 : (Jvm.Cond.methodLink "FrameSheets$Icon" (3 : Nat) ({ cls := "FrameSheets$Frame", name := "<init>", desc := "(II[I)V" } : Jvm.MethodName)) ∈ lw_all := lw_g (lw_at lw_m3 217 rfl) rfl
theorem q823 : (Jvm.Cond.laysFinal "FrameSheets$Icon" "FrameSheets$Frame" "w" "I") ∈ lw_all := lw_g (lw_at lw_m3 239 rfl) rfl
theorem q825 : (Jvm.Cond.laysFinal "FrameSheets$Icon" "FrameSheets$Frame" "h" "I") ∈ lw_all := lw_g (lw_at lw_m4 1 rfl) rfl
theorem q827 : (Jvm.Cond.laysFinal "FrameSheets$Icon" "FrameSheets$Frame" "left" "I") ∈ lw_all := lw_g (lw_at lw_m4 3 rfl) rfl
theorem q829 : (Jvm.Cond.laysFinal "FrameSheets$Icon" "FrameSheets$Frame" "above" "I") ∈ lw_all := lw_g (lw_at lw_m4 5 rfl) rfl
theorem q831 : (Jvm.Cond.laysFinal "FrameSheets$Icon" "FrameSheets$Frame" "right" "I") ∈ lw_all := lw_g (lw_at lw_m4 7 rfl) rfl
theorem q833 : (Jvm.Cond.laysFinal "FrameSheets$Icon" "FrameSheets$Frame" "below" "I") ∈ lw_all := lw_g (lw_at lw_m4 9 rfl) rfl
theorem q835 : (Jvm.Cond.lays "FrameSheets$Icon" "FrameSheets$Frame" "page" "I") ∈ lw_all := lw_g (lw_at lw_m4 11 rfl) rfl
theorem q837 : (Jvm.Cond.lays "FrameSheets$Icon" "FrameSheets$Frame" "x" "I") ∈ lw_all := lw_g (lw_at lw_m4 13 rfl) rfl
theorem q839 : (Jvm.Cond.lays "FrameSheets$Icon" "FrameSheets$Frame" "y" "I") ∈ lw_all := lw_g (lw_at lw_m4 15 rfl) rfl
theorem q841 : (Jvm.Cond.lays "FrameSheets$Icon" "FrameSheets$Frame" "turned" "Z") ∈ lw_all := lw_g (lw_at lw_m4 17 rfl) rfl
theorem q843 : (Jvm.Cond.superclass "FrameSheets$Icon" "FrameSheets$Frame") ∈ lw_all := lw_g (lw_at lw_m4 19 rfl) rfl
theorem q1014 : (Jvm.Cond.selects "FrameSheets$Icon" ({ cls := "FrameSheets$Frame", name := "written", desc := "()Ljava/lang/String;" } : Jvm.MethodName) ({ cls := "FrameSheets$Frame", name := "written", desc := "()Ljava/lang/String;" } : Jvm.MethodName)) ∈ lw_all := lw_g (lw_at lw_m4 190 rfl) rfl
theorem q1026 : (Jvm.Cond.selects "FrameSheets$Icon" ({ cls := "FrameSheets$Frame", name := "word", desc := "()Ljava/lang/String;" } : Jvm.MethodName) ({ cls := "FrameSheets$Icon", name := "word", desc := "()Ljava/lang/String;" } : Jvm.MethodName)) ∈ lw_all := lw_g (lw_at lw_m4 202 rfl) rfl
theorem q1027 : (Jvm.Cond.instanceMethod ({ cls := "FrameSheets$Icon", name := "word", desc := "()Ljava/lang/String;" } : Jvm.MethodName)) ∈ lw_all := lw_g (lw_at lw_m4 203 rfl) rfl
theorem q1028 : (Jvm.Cond.code ({ cls := "FrameSheets$Icon", name := "word", desc := "()Ljava/lang/String;" } : Jvm.MethodName) prog_5_method_4_code (1 : Nat) (Option.some (Jvm.ClassFile.FieldType.object "java/lang/String"))) ∈ lw_all := lw_g (lw_at lw_m4 204 rfl) rfl
theorem q1029 : (Jvm.Cond.stringRef "FrameSheets$Icon" (13 : Nat) "icon") ∈ lw_tbl := lw_at lw_m4 205 rfl
theorem q1064 : (Jvm.Cond.selects "FrameSheets$Icon" ({ cls := "FrameSheets$Frame", name := "toldBy", desc := "(II)I" } : Jvm.MethodName) ({ cls := "FrameSheets$Frame", name := "toldBy", desc := "(II)I" } : Jvm.MethodName)) ∈ lw_all := lw_g (lw_at lw_m5 0 rfl) rfl
theorem q1074 : (Jvm.Cond.selects "FrameSheets$Icon" ({ cls := "FrameSheets$Frame", name := "kind", desc := "()I" } : Jvm.MethodName) ({ cls := "FrameSheets$Icon", name := "kind", desc := "()I" } : Jvm.MethodName)) ∈ lw_all := lw_g (lw_at lw_m5 10 rfl) rfl
theorem q1075 : (Jvm.Cond.instanceMethod ({ cls := "FrameSheets$Icon", name := "kind", desc := "()I" } : Jvm.MethodName)) ∈ lw_all := lw_g (lw_at lw_m5 11 rfl) rfl
theorem q1076 : (Jvm.Cond.code ({ cls := "FrameSheets$Icon", name := "kind", desc := "()I" } : Jvm.MethodName) prog_5_method_2_code (1 : Nat) (Option.some Jvm.ClassFile.FieldType.int)) ∈ lw_all := lw_g (lw_at lw_m5 12 rfl) rfl
theorem q1086 : (Jvm.Cond.selects "FrameSheets$Icon" ({ cls := "FrameSheets$Frame", name := "wide", desc := "()I" } : Jvm.MethodName) ({ cls := "FrameSheets$Frame", name := "wide", desc := "()I" } : Jvm.MethodName)) ∈ lw_all := lw_g (lw_at lw_m5 22 rfl) rfl
theorem q1091 : (Jvm.Cond.sameMethod "FrameSheets$Icon" "FrameSheets$Frame" "wide" "()I") ∈ lw_all := lw_g (lw_at lw_m5 27 rfl) rfl
theorem q1094 : (Jvm.Cond.sameMethod "FrameSheets$Icon" "FrameSheets$Frame" "firstColumn" "()I") ∈ lw_all := lw_g (lw_at lw_m5 30 rfl) rfl
theorem q1104 : (Jvm.Cond.selects "FrameSheets$Icon" ({ cls := "FrameSheets$Frame", name := "high", desc := "()I" } : Jvm.MethodName) ({ cls := "FrameSheets$Frame", name := "high", desc := "()I" } : Jvm.MethodName)) ∈ lw_all := lw_g (lw_at lw_m5 40 rfl) rfl
theorem q1109 : (Jvm.Cond.sameMethod "FrameSheets$Icon" "FrameSheets$Frame" "high" "()I") ∈ lw_all := lw_g (lw_at lw_m5 45 rfl) rfl
theorem q1112 : (Jvm.Cond.sameMethod "FrameSheets$Icon" "FrameSheets$Frame" "firstRow" "()I") ∈ lw_all := lw_g (lw_at lw_m5 48 rfl) rfl
theorem q1122 : (Jvm.Cond.selects "FrameSheets$Icon" ({ cls := "FrameSheets$Frame", name := "across", desc := "(IZ)I" } : Jvm.MethodName) ({ cls := "FrameSheets$Frame", name := "across", desc := "(IZ)I" } : Jvm.MethodName)) ∈ lw_all := lw_g (lw_at lw_m5 58 rfl) rfl
theorem q1133 : (Jvm.Cond.selects "FrameSheets$Icon" ({ cls := "FrameSheets$Frame", name := "edge", desc := "(I)I" } : Jvm.MethodName) ({ cls := "FrameSheets$Frame", name := "edge", desc := "(I)I" } : Jvm.MethodName)) ∈ lw_all := lw_g (lw_at lw_m5 69 rfl) rfl
theorem q1141 : (Jvm.Cond.selects "FrameSheets$Icon" ({ cls := "FrameSheets$Frame", name := "down", desc := "(IZ)I" } : Jvm.MethodName) ({ cls := "FrameSheets$Frame", name := "down", desc := "(IZ)I" } : Jvm.MethodName)) ∈ lw_all := lw_g (lw_at lw_m5 77 rfl) rfl
theorem q1157 : (Jvm.Cond.selects "FrameSheets$Icon" ({ cls := "FrameSheets$Frame", name := "placed", desc := "(I)I" } : Jvm.MethodName) ({ cls := "FrameSheets$Frame", name := "placed", desc := "(I)I" } : Jvm.MethodName)) ∈ lw_all := lw_g (lw_at lw_m5 93 rfl) rfl
theorem q1179 : (Jvm.Cond.instanceMethod ({ cls := "FrameSheets$Icon", name := "longer", desc := "()I" } : Jvm.MethodName)) ∈ lw_all := lw_g (lw_at lw_m5 115 rfl) rfl
theorem q1180 : (Jvm.Cond.selects "FrameSheets$Icon" ({ cls := "FrameSheets$Icon", name := "longer", desc := "()I" } : Jvm.MethodName) ({ cls := "FrameSheets$Icon", name := "longer", desc := "()I" } : Jvm.MethodName)) ∈ lw_all := lw_g (lw_at lw_m5 116 rfl) rfl
theorem q1181 : (Jvm.Cond.sameMethod "FrameSheets$Icon" "FrameSheets$Icon" "longer" "()I") ∈ lw_all := lw_g (lw_at lw_m5 117 rfl) rfl
theorem q1183 : (Jvm.Cond.code ({ cls := "FrameSheets$Icon", name := "longer", desc := "()I" } : Jvm.MethodName) prog_5_method_6_code (1 : Nat) (Option.some Jvm.ClassFile.FieldType.int)) ∈ lw_all := lw_g (lw_at lw_m5 119 rfl) rfl
theorem q1184 : (Jvm.Cond.methodLink "FrameSheets$Icon" (15 : Nat) ({ cls := "FrameSheets$Icon", name := "wide", desc := "()I" } : Jvm.MethodName)) ∈ lw_all := lw_g (lw_at lw_m5 120 rfl) rfl
theorem q1185 : (Jvm.Cond.selects "FrameSheets$Icon" ({ cls := "FrameSheets$Icon", name := "wide", desc := "()I" } : Jvm.MethodName) ({ cls := "FrameSheets$Frame", name := "wide", desc := "()I" } : Jvm.MethodName)) ∈ lw_all := lw_g (lw_at lw_m5 121 rfl) rfl
theorem q1187 : (Jvm.Cond.methodLink "FrameSheets$Icon" (21 : Nat) ({ cls := "FrameSheets$Icon", name := "high", desc := "()I" } : Jvm.MethodName)) ∈ lw_all := lw_g (lw_at lw_m5 123 rfl) rfl
theorem q1188 : (Jvm.Cond.selects "FrameSheets$Icon" ({ cls := "FrameSheets$Icon", name := "high", desc := "()I" } : Jvm.MethodName) ({ cls := "FrameSheets$Frame", name := "high", desc := "()I" } : Jvm.MethodName)) ∈ lw_all := lw_g (lw_at lw_m5 124 rfl) rfl
theorem q1190 : (Jvm.Cond.methodLink "FrameSheets$Icon" (24 : Nat) ({ cls := "FrameSheets$Rule", name := "greater", desc := "(II)I" } : Jvm.MethodName)) ∈ lw_all := lw_g (lw_at lw_m5 126 rfl) rfl
theorem q1193 : (Jvm.Cond.methodLink "FrameSheets$Icon" (30 : Nat) ({ cls := "FrameSheets$Rule", name := "less", desc := "(II)I" } : Jvm.MethodName)) ∈ lw_all := lw_g (lw_at lw_m5 129 rfl) rfl
theorem q1282 : (Jvm.Cond.selects "FrameSheets$Icon" ({ cls := "FrameSheets$Frame", name := "mayTurn", desc := "()Z" } : Jvm.MethodName) ({ cls := "FrameSheets$Icon", name := "mayTurn", desc := "()Z" } : Jvm.MethodName)) ∈ lw_all := lw_g (lw_at lw_m5 218 rfl) rfl
theorem q1283 : (Jvm.Cond.instanceMethod ({ cls := "FrameSheets$Icon", name := "mayTurn", desc := "()Z" } : Jvm.MethodName)) ∈ lw_all := lw_g (lw_at lw_m5 219 rfl) rfl
theorem q1284 : (Jvm.Cond.code ({ cls := "FrameSheets$Icon", name := "mayTurn", desc := "()Z" } : Jvm.MethodName) prog_5_method_5_code (1 : Nat) (Option.some Jvm.ClassFile.FieldType.boolean)) ∈ lw_all := lw_g (lw_at lw_m5 220 rfl) rfl
theorem q1453 : (Jvm.Cond.selects "FrameSheets$Icon" ({ cls := "FrameSheets$Frame", name := "takes", desc := "(III)Z" } : Jvm.MethodName) ({ cls := "FrameSheets$Frame", name := "takes", desc := "(III)Z" } : Jvm.MethodName)) ∈ lw_all := lw_g (lw_at lw_m6 149 rfl) rfl
theorem q2124 : (Jvm.Cond.selects "FrameSheets$Icon" ({ cls := "FrameSheets$Frame", name := "needs", desc := "(I)I" } : Jvm.MethodName) ({ cls := "FrameSheets$Frame", name := "needs", desc := "(I)I" } : Jvm.MethodName)) ∈ lw_all := lw_g (lw_at lw_m9 100 rfl) rfl
theorem q2129 : (Jvm.Cond.selects "FrameSheets$Icon" ({ cls := "FrameSheets$Frame", name := "firstColumn", desc := "()I" } : Jvm.MethodName) ({ cls := "FrameSheets$Frame", name := "firstColumn", desc := "()I" } : Jvm.MethodName)) ∈ lw_all := lw_g (lw_at lw_m9 105 rfl) rfl
theorem q2134 : (Jvm.Cond.selects "FrameSheets$Icon" ({ cls := "FrameSheets$Frame", name := "firstRow", desc := "()I" } : Jvm.MethodName) ({ cls := "FrameSheets$Frame", name := "firstRow", desc := "()I" } : Jvm.MethodName)) ∈ lw_all := lw_g (lw_at lw_m9 110 rfl) rfl
theorem q2139 : (Jvm.Cond.castable "FrameSheets$Icon" "FrameSheets$Frame") ∈ lw_tbl := lw_at lw_m9 115 rfl
theorem in_X4 : ∀ w ∈ wsX40, w ∈ lw_all := lw_in wsX40 [823, 825, 827, 829, 831, 833, 835, 837, 839, 841] (by decide +kernel) (by decide +kernel)

/-! FrameSheets$Border -/
set_option maxRecDepth 100000
def RX5 : String := "FrameSheets$Border"
def TX5 : u_T := fun k => match k with
  | 0 => ("FrameSheets$Frame", "w", "I", true)
  | 1 => ("FrameSheets$Frame", "h", "I", true)
  | 2 => ("FrameSheets$Frame", "left", "I", true)
  | 3 => ("FrameSheets$Frame", "above", "I", true)
  | 4 => ("FrameSheets$Frame", "right", "I", true)
  | 5 => ("FrameSheets$Frame", "below", "I", true)
  | 6 => ("FrameSheets$Frame", "page", "I", false)
  | 7 => ("FrameSheets$Frame", "x", "I", false)
  | 8 => ("FrameSheets$Frame", "y", "I", false)
  | _ => ("FrameSheets$Frame", "turned", "Z", false)
def tyX5 : Nat → FieldType := fun k => match k with
  | 0 => .int
  | 1 => .int
  | 2 => .int
  | 3 => .int
  | 4 => .int
  | 5 => .int
  | 6 => .int
  | 7 => .int
  | 8 => .int
  | _ => .boolean
abbrev wsX50 : List Cond := u_ws RX5 TX5 10
theorem nmX5 : ∀ a, a < 10 → ∀ b, b < 10 → a ≠ b → (TX5 a).2.1 ≠ (TX5 b).2.1 := by decide +kernel
theorem tyX5_ok : ∀ k, k < 10 → parseFieldDescriptor (TX5 k).2.2.1 = some (tyX5 k) := by decide +kernel
abbrev cX5_init : ByteArray := prog_3_method_1_code
def yX5_init : MethodName := ⟨RX5, "<init>", "(II[I)V"⟩
def dkwX5_init_0 : List UInt8 := [42, 27, 28, 45, 183, 0, 3, 177]
abbrev dktX5_init_0 : List UInt8 := dkwX5_init_0 ++ []
theorem dksX5_init_0 : cX5_init.data.toList.drop 0 = dktX5_init_0 := by decide +kernel
theorem dX5_init_0 : decode cX5_init 0 = .ok (.aload_n 0, 1) := dk_42 (dk_at dksX5_init_0 0 rfl rfl)
theorem dX5_init_1 : decode cX5_init 1 = .ok (.iload_n 1, 1) := dk_27 (dk_at dksX5_init_0 1 rfl rfl)
theorem dX5_init_2 : decode cX5_init 2 = .ok (.iload_n 2, 1) := dk_28 (dk_at dksX5_init_0 2 rfl rfl)
theorem dX5_init_3 : decode cX5_init 3 = .ok (.aload_n 3, 1) := dk_45 (dk_at dksX5_init_0 3 rfl rfl)
theorem dX5_init_4 : decode cX5_init 4 = .ok (.invokespecial 3, 3) := dk_183 0 3 (dk_at dksX5_init_0 4 rfl rfl)
theorem dX5_init_7 : decode cX5_init 7 = .ok (.return_, 1) := dk_177 (dk_at dksX5_init_0 7 rfl rfl)
abbrev cX5_word : ByteArray := prog_3_method_4_code
def yX5_word : MethodName := ⟨RX5, "word", "()Ljava/lang/String;"⟩
theorem dX5_word_0 : decode cX5_word 0 = .ok (.ldc 13, 2) := by decide +kernel
theorem dX5_word_2 : decode cX5_word 2 = .ok (.areturn, 1) := by decide +kernel
abbrev cX5_kind : ByteArray := prog_3_method_2_code
def yX5_kind : MethodName := ⟨RX5, "kind", "()I"⟩
theorem dX5_kind_0 : decode cX5_kind 0 = .ok (.iconst 2, 1) := by decide +kernel
theorem dX5_kind_1 : decode cX5_kind 1 = .ok (.ireturn, 1) := by decide +kernel
abbrev cX5_edge : ByteArray := prog_3_method_5_code
def yX5_edge : MethodName := ⟨RX5, "edge", "(I)I"⟩
def dkwX5_edge_0 : List UInt8 := [42, 27, 183, 0, 15, 4, 96, 172]
abbrev dktX5_edge_0 : List UInt8 := dkwX5_edge_0 ++ []
theorem dksX5_edge_0 : cX5_edge.data.toList.drop 0 = dktX5_edge_0 := by decide +kernel
theorem dX5_edge_0 : decode cX5_edge 0 = .ok (.aload_n 0, 1) := dk_42 (dk_at dksX5_edge_0 0 rfl rfl)
theorem dX5_edge_1 : decode cX5_edge 1 = .ok (.iload_n 1, 1) := dk_27 (dk_at dksX5_edge_0 1 rfl rfl)
theorem dX5_edge_2 : decode cX5_edge 2 = .ok (.invokespecial 15, 3) := dk_183 0 15 (dk_at dksX5_edge_0 2 rfl rfl)
theorem dX5_edge_5 : decode cX5_edge 5 = .ok (.iconst 1, 1) := dk_4 (dk_at dksX5_edge_0 5 rfl rfl)
theorem dX5_edge_6 : decode cX5_edge 6 = .ok (.iadd, 1) := dk_96 (dk_at dksX5_edge_0 6 rfl rfl)
theorem dX5_edge_7 : decode cX5_edge 7 = .ok (.ireturn, 1) := dk_172 (dk_at dksX5_edge_0 7 rfl rfl)
abbrev cX5_edges : ByteArray := prog_3_method_6_code
def yX5_edges : MethodName := ⟨RX5, "edges", "(I)I"⟩
def dkwX5_edges_0 : List UInt8 := [42, 27, 182, 0, 19, 42, 182, 0, 24, 42, 182, 0, 28, 104, 100, 172]
abbrev dktX5_edges_0 : List UInt8 := dkwX5_edges_0 ++ []
theorem dksX5_edges_0 : cX5_edges.data.toList.drop 0 = dktX5_edges_0 := by decide +kernel
theorem dX5_edges_0 : decode cX5_edges 0 = .ok (.aload_n 0, 1) := dk_42 (dk_at dksX5_edges_0 0 rfl rfl)
theorem dX5_edges_1 : decode cX5_edges 1 = .ok (.iload_n 1, 1) := dk_27 (dk_at dksX5_edges_0 1 rfl rfl)
theorem dX5_edges_2 : decode cX5_edges 2 = .ok (.invokevirtual 19, 3) := dk_182 0 19 (dk_at dksX5_edges_0 2 rfl rfl)
theorem dX5_edges_5 : decode cX5_edges 5 = .ok (.aload_n 0, 1) := dk_42 (dk_at dksX5_edges_0 5 rfl rfl)
theorem dX5_edges_6 : decode cX5_edges 6 = .ok (.invokevirtual 24, 3) := dk_182 0 24 (dk_at dksX5_edges_0 6 rfl rfl)
theorem dX5_edges_9 : decode cX5_edges 9 = .ok (.aload_n 0, 1) := dk_42 (dk_at dksX5_edges_0 9 rfl rfl)
theorem dX5_edges_10 : decode cX5_edges 10 = .ok (.invokevirtual 28, 3) := dk_182 0 28 (dk_at dksX5_edges_0 10 rfl rfl)
theorem dX5_edges_13 : decode cX5_edges 13 = .ok (.imul, 1) := dk_104 (dk_at dksX5_edges_0 13 rfl rfl)
theorem dX5_edges_14 : decode cX5_edges 14 = .ok (.isub, 1) := dk_100 (dk_at dksX5_edges_0 14 rfl rfl)
theorem dX5_edges_15 : decode cX5_edges 15 = .ok (.ireturn, 1) := dk_172 (dk_at dksX5_edges_0 15 rfl rfl)
theorem q128 : (Jvm.Cond.initialized "FrameSheets$Border") ∈ lw_all := lw_g (lw_at lw_m1 24 rfl) rfl
theorem q845 : (Jvm.Cond.instantiable "FrameSheets$Border" (10 : Nat)) ∈ lw_all := lw_g (lw_at lw_m4 21 rfl) rfl
theorem q847 : (Jvm.Cond.instanceMethod ({ cls := "FrameSheets$Border", name := "<init>", desc := "(II[I)V" } : Jvm.MethodName)) ∈ lw_all := lw_g (lw_at lw_m4 23 rfl) rfl
theorem q848 : (Jvm.Cond.code ({ cls := "FrameSheets$Border", name := "<init>", desc := "(II[I)V" } : Jvm.MethodName) prog_3_method_1_code (4 : Nat) (Option.none : Option Jvm.ClassFile.FieldType)) ∈ lw_all := lw_g (lw_at lw_m4 24 rfl) rfl
theorem q849 : (Jvm.Cond.methodLink "FrameSheets$Border" (3 : Nat) ({ cls := "FrameSheets$Frame", name := "<init>", desc := "(II[I)V" } : Jvm.MethodName)) ∈ lw_all := lw_g (lw_at lw_m4 25 rfl) rfl
theorem q850 : (Jvm.Cond.laysFinal "FrameSheets$Border" "FrameSheets$Frame" "w" "I") ∈ lw_all := lw_g (lw_at lw_m4 26 rfl) rfl
theorem q851 : (Jvm.Cond.laysFinal "FrameSheets$Border" "FrameSheets$Frame" "h" "I") ∈ lw_all := lw_g (lw_at lw_m4 27 rfl) rfl
theorem q852 : (Jvm.Cond.laysFinal "FrameSheets$Border" "FrameSheets$Frame" "left" "I") ∈ lw_all := lw_g (lw_at lw_m4 28 rfl) rfl
theorem q853 : (Jvm.Cond.laysFinal "FrameSheets$Border" "FrameSheets$Frame" "above" "I") ∈ lw_all := lw_g (lw_at lw_m4 29 rfl) rfl
theorem q854 : (Jvm.Cond.laysFinal "FrameSheets$Border" "FrameSheets$Frame" "right" "I") ∈ lw_all := lw_g (lw_at lw_m4 30 rfl) rfl
theorem q855 : (Jvm.Cond.laysFinal "FrameSheets$Border" "FrameSheets$Frame" "below" "I") ∈ lw_all := lw_g (lw_at lw_m4 31 rfl) rfl
theorem q856 : (Jvm.Cond.lays "FrameSheets$Border" "FrameSheets$Frame" "page" "I") ∈ lw_all := lw_g (lw_at lw_m4 32 rfl) rfl
theorem q857 : (Jvm.Cond.lays "FrameSheets$Border" "FrameSheets$Frame" "x" "I") ∈ lw_all := lw_g (lw_at lw_m4 33 rfl) rfl
theorem q858 : (Jvm.Cond.lays "FrameSheets$Border" "FrameSheets$Frame" "y" "I") ∈ lw_all := lw_g (lw_at lw_m4 34 rfl) rfl
theorem q859 : (Jvm.Cond.lays "FrameSheets$Border" "FrameSheets$Frame" "turned" "Z") ∈ lw_all := lw_g (lw_at lw_m4 35 rfl) rfl
theorem q860 : (Jvm.Cond.superclass "FrameSheets$Border" "FrameSheets$Frame") ∈ lw_all := lw_g (lw_at lw_m4 36 rfl) rfl
theorem q1013 : (Jvm.Cond.selects "FrameSheets$Border" ({ cls := "FrameSheets$Frame", name := "written", desc := "()Ljava/lang/String;" } : Jvm.MethodName) ({ cls := "FrameSheets$Frame", name := "written", desc := "()Ljava/lang/String;" } : Jvm.MethodName)) ∈ lw_all := lw_g (lw_at lw_m4 189 rfl) rfl
theorem q1022 : (Jvm.Cond.selects "FrameSheets$Border" ({ cls := "FrameSheets$Frame", name := "word", desc := "()Ljava/lang/String;" } : Jvm.MethodName) ({ cls := "FrameSheets$Border", name := "word", desc := "()Ljava/lang/String;" } : Jvm.MethodName)) ∈ lw_all := lw_g (lw_at lw_m4 198 rfl) rfl
theorem q1023 : (Jvm.Cond.instanceMethod ({ cls := "FrameSheets$Border", name := "word", desc := "()Ljava/lang/String;" } : Jvm.MethodName)) ∈ lw_all := lw_g (lw_at lw_m4 199 rfl) rfl
theorem q1024 : (Jvm.Cond.code ({ cls := "FrameSheets$Border", name := "word", desc := "()Ljava/lang/String;" } : Jvm.MethodName) prog_3_method_4_code (1 : Nat) (Option.some (Jvm.ClassFile.FieldType.object "java/lang/String"))) ∈ lw_all := lw_g (lw_at lw_m4 200 rfl) rfl
theorem q1025 : (Jvm.Cond.stringRef "FrameSheets$Border" (13 : Nat) "border") ∈ lw_tbl := lw_at lw_m4 201 rfl
theorem q1063 : (Jvm.Cond.selects "FrameSheets$Border" ({ cls := "FrameSheets$Frame", name := "toldBy", desc := "(II)I" } : Jvm.MethodName) ({ cls := "FrameSheets$Frame", name := "toldBy", desc := "(II)I" } : Jvm.MethodName)) ∈ lw_all := lw_g (lw_at lw_m4 239 rfl) rfl
theorem q1071 : (Jvm.Cond.selects "FrameSheets$Border" ({ cls := "FrameSheets$Frame", name := "kind", desc := "()I" } : Jvm.MethodName) ({ cls := "FrameSheets$Border", name := "kind", desc := "()I" } : Jvm.MethodName)) ∈ lw_all := lw_g (lw_at lw_m5 7 rfl) rfl
theorem q1072 : (Jvm.Cond.instanceMethod ({ cls := "FrameSheets$Border", name := "kind", desc := "()I" } : Jvm.MethodName)) ∈ lw_all := lw_g (lw_at lw_m5 8 rfl) rfl
theorem q1073 : (Jvm.Cond.code ({ cls := "FrameSheets$Border", name := "kind", desc := "()I" } : Jvm.MethodName) prog_3_method_2_code (1 : Nat) (Option.some Jvm.ClassFile.FieldType.int)) ∈ lw_all := lw_g (lw_at lw_m5 9 rfl) rfl
theorem q1085 : (Jvm.Cond.selects "FrameSheets$Border" ({ cls := "FrameSheets$Frame", name := "wide", desc := "()I" } : Jvm.MethodName) ({ cls := "FrameSheets$Frame", name := "wide", desc := "()I" } : Jvm.MethodName)) ∈ lw_all := lw_g (lw_at lw_m5 21 rfl) rfl
theorem q1103 : (Jvm.Cond.selects "FrameSheets$Border" ({ cls := "FrameSheets$Frame", name := "high", desc := "()I" } : Jvm.MethodName) ({ cls := "FrameSheets$Frame", name := "high", desc := "()I" } : Jvm.MethodName)) ∈ lw_all := lw_g (lw_at lw_m5 39 rfl) rfl
theorem q1121 : (Jvm.Cond.selects "FrameSheets$Border" ({ cls := "FrameSheets$Frame", name := "across", desc := "(IZ)I" } : Jvm.MethodName) ({ cls := "FrameSheets$Frame", name := "across", desc := "(IZ)I" } : Jvm.MethodName)) ∈ lw_all := lw_g (lw_at lw_m5 57 rfl) rfl
theorem q1129 : (Jvm.Cond.selects "FrameSheets$Border" ({ cls := "FrameSheets$Frame", name := "edge", desc := "(I)I" } : Jvm.MethodName) ({ cls := "FrameSheets$Border", name := "edge", desc := "(I)I" } : Jvm.MethodName)) ∈ lw_all := lw_g (lw_at lw_m5 65 rfl) rfl
theorem q1130 : (Jvm.Cond.instanceMethod ({ cls := "FrameSheets$Border", name := "edge", desc := "(I)I" } : Jvm.MethodName)) ∈ lw_all := lw_g (lw_at lw_m5 66 rfl) rfl
theorem q1131 : (Jvm.Cond.code ({ cls := "FrameSheets$Border", name := "edge", desc := "(I)I" } : Jvm.MethodName) prog_3_method_5_code (2 : Nat) (Option.some Jvm.ClassFile.FieldType.int)) ∈ lw_all := lw_g (lw_at lw_m5 67 rfl) rfl
theorem q1132 : (Jvm.Cond.methodLink "FrameSheets$Border" (15 : Nat) ({ cls := "FrameSheets$Frame", name := "edge", desc := "(I)I" } : Jvm.MethodName)) ∈ lw_all := lw_g (lw_at lw_m5 68 rfl) rfl
theorem q1140 : (Jvm.Cond.selects "FrameSheets$Border" ({ cls := "FrameSheets$Frame", name := "down", desc := "(IZ)I" } : Jvm.MethodName) ({ cls := "FrameSheets$Frame", name := "down", desc := "(IZ)I" } : Jvm.MethodName)) ∈ lw_all := lw_g (lw_at lw_m5 76 rfl) rfl
theorem q1156 : (Jvm.Cond.selects "FrameSheets$Border" ({ cls := "FrameSheets$Frame", name := "placed", desc := "(I)I" } : Jvm.MethodName) ({ cls := "FrameSheets$Frame", name := "placed", desc := "(I)I" } : Jvm.MethodName)) ∈ lw_all := lw_g (lw_at lw_m5 92 rfl) rfl
theorem q1197 : (Jvm.Cond.instanceMethod ({ cls := "FrameSheets$Border", name := "edges", desc := "(I)I" } : Jvm.MethodName)) ∈ lw_all := lw_g (lw_at lw_m5 133 rfl) rfl
theorem q1198 : (Jvm.Cond.selects "FrameSheets$Border" ({ cls := "FrameSheets$Border", name := "edges", desc := "(I)I" } : Jvm.MethodName) ({ cls := "FrameSheets$Border", name := "edges", desc := "(I)I" } : Jvm.MethodName)) ∈ lw_all := lw_g (lw_at lw_m5 134 rfl) rfl
theorem q1199 : (Jvm.Cond.code ({ cls := "FrameSheets$Border", name := "edges", desc := "(I)I" } : Jvm.MethodName) prog_3_method_6_code (2 : Nat) (Option.some Jvm.ClassFile.FieldType.int)) ∈ lw_all := lw_g (lw_at lw_m5 135 rfl) rfl
theorem q1200 : (Jvm.Cond.methodLink "FrameSheets$Border" (19 : Nat) ({ cls := "FrameSheets$Border", name := "needs", desc := "(I)I" } : Jvm.MethodName)) ∈ lw_all := lw_g (lw_at lw_m5 136 rfl) rfl
theorem q1201 : (Jvm.Cond.sameMethod "FrameSheets$Border" "FrameSheets$Frame" "needs" "(I)I") ∈ lw_all := lw_g (lw_at lw_m5 137 rfl) rfl
theorem q1203 : (Jvm.Cond.selects "FrameSheets$Border" ({ cls := "FrameSheets$Border", name := "needs", desc := "(I)I" } : Jvm.MethodName) ({ cls := "FrameSheets$Frame", name := "needs", desc := "(I)I" } : Jvm.MethodName)) ∈ lw_all := lw_g (lw_at lw_m5 139 rfl) rfl
theorem q1206 : (Jvm.Cond.methodLink "FrameSheets$Border" (24 : Nat) ({ cls := "FrameSheets$Border", name := "wide", desc := "()I" } : Jvm.MethodName)) ∈ lw_all := lw_g (lw_at lw_m5 142 rfl) rfl
theorem q1207 : (Jvm.Cond.sameMethod "FrameSheets$Border" "FrameSheets$Frame" "wide" "()I") ∈ lw_all := lw_g (lw_at lw_m5 143 rfl) rfl
theorem q1208 : (Jvm.Cond.selects "FrameSheets$Border" ({ cls := "FrameSheets$Border", name := "wide", desc := "()I" } : Jvm.MethodName) ({ cls := "FrameSheets$Frame", name := "wide", desc := "()I" } : Jvm.MethodName)) ∈ lw_all := lw_g (lw_at lw_m5 144 rfl) rfl
theorem q1209 : (Jvm.Cond.methodLink "FrameSheets$Border" (28 : Nat) ({ cls := "FrameSheets$Border", name := "high", desc := "()I" } : Jvm.MethodName)) ∈ lw_all := lw_g (lw_at lw_m5 145 rfl) rfl
theorem q1210 : (Jvm.Cond.sameMethod "FrameSheets$Border" "FrameSheets$Frame" "high" "()I") ∈ lw_all := lw_g (lw_at lw_m5 146 rfl) rfl
theorem q1211 : (Jvm.Cond.selects "FrameSheets$Border" ({ cls := "FrameSheets$Border", name := "high", desc := "()I" } : Jvm.MethodName) ({ cls := "FrameSheets$Frame", name := "high", desc := "()I" } : Jvm.MethodName)) ∈ lw_all := lw_g (lw_at lw_m5 147 rfl) rfl
theorem q1281 : (Jvm.Cond.selects "FrameSheets$Border" ({ cls := "FrameSheets$Frame", name := "mayTurn", desc := "()Z" } : Jvm.MethodName) ({ cls := "FrameSheets$Frame", name := "mayTurn", desc := "()Z" } : Jvm.MethodName)) ∈ lw_all := lw_g (lw_at lw_m5 217 rfl) rfl
theorem q1452 : (Jvm.Cond.selects "FrameSheets$Border" ({ cls := "FrameSheets$Frame", name := "takes", desc := "(III)Z" } : Jvm.MethodName) ({ cls := "FrameSheets$Frame", name := "takes", desc := "(III)Z" } : Jvm.MethodName)) ∈ lw_all := lw_g (lw_at lw_m6 148 rfl) rfl
theorem q2122 : (Jvm.Cond.selects "FrameSheets$Border" ({ cls := "FrameSheets$Frame", name := "needs", desc := "(I)I" } : Jvm.MethodName) ({ cls := "FrameSheets$Frame", name := "needs", desc := "(I)I" } : Jvm.MethodName)) ∈ lw_all := lw_g (lw_at lw_m9 98 rfl) rfl
theorem q2127 : (Jvm.Cond.selects "FrameSheets$Border" ({ cls := "FrameSheets$Frame", name := "firstColumn", desc := "()I" } : Jvm.MethodName) ({ cls := "FrameSheets$Frame", name := "firstColumn", desc := "()I" } : Jvm.MethodName)) ∈ lw_all := lw_g (lw_at lw_m9 103 rfl) rfl
theorem q2132 : (Jvm.Cond.selects "FrameSheets$Border" ({ cls := "FrameSheets$Frame", name := "firstRow", desc := "()I" } : Jvm.MethodName) ({ cls := "FrameSheets$Frame", name := "firstRow", desc := "()I" } : Jvm.MethodName)) ∈ lw_all := lw_g (lw_at lw_m9 108 rfl) rfl
theorem q2140 : (Jvm.Cond.castable "FrameSheets$Border" "FrameSheets$Frame") ∈ lw_tbl := lw_at lw_m9 116 rfl
theorem in_X5 : ∀ w ∈ wsX50, w ∈ lw_all := lw_in wsX50 [850, 851, 852, 853, 854, 855, 856, 857, 858, 859] (by decide +kernel) (by decide +kernel)

/-! FrameSheets$Logo -/
set_option maxRecDepth 100000
def RX6 : String := "FrameSheets$Logo"
def TX6 : u_T := fun k => match k with
  | 0 => ("FrameSheets$Frame", "w", "I", true)
  | 1 => ("FrameSheets$Frame", "h", "I", true)
  | 2 => ("FrameSheets$Frame", "left", "I", true)
  | 3 => ("FrameSheets$Frame", "above", "I", true)
  | 4 => ("FrameSheets$Frame", "right", "I", true)
  | 5 => ("FrameSheets$Frame", "below", "I", true)
  | 6 => ("FrameSheets$Frame", "page", "I", false)
  | 7 => ("FrameSheets$Frame", "x", "I", false)
  | 8 => ("FrameSheets$Frame", "y", "I", false)
  | _ => ("FrameSheets$Frame", "turned", "Z", false)
def tyX6 : Nat → FieldType := fun k => match k with
  | 0 => .int
  | 1 => .int
  | 2 => .int
  | 3 => .int
  | 4 => .int
  | 5 => .int
  | 6 => .int
  | 7 => .int
  | 8 => .int
  | _ => .boolean
abbrev wsX60 : List Cond := u_ws RX6 TX6 10
theorem nmX6 : ∀ a, a < 10 → ∀ b, b < 10 → a ≠ b → (TX6 a).2.1 ≠ (TX6 b).2.1 := by decide +kernel
theorem tyX6_ok : ∀ k, k < 10 → parseFieldDescriptor (TX6 k).2.2.1 = some (tyX6 k) := by decide +kernel
abbrev cX6_init : ByteArray := prog_7_method_1_code
def yX6_init : MethodName := ⟨RX6, "<init>", "(II[I)V"⟩
def dkwX6_init_0 : List UInt8 := [42, 27, 28, 45, 183, 0, 3, 177]
abbrev dktX6_init_0 : List UInt8 := dkwX6_init_0 ++ []
theorem dksX6_init_0 : cX6_init.data.toList.drop 0 = dktX6_init_0 := by decide +kernel
theorem dX6_init_0 : decode cX6_init 0 = .ok (.aload_n 0, 1) := dk_42 (dk_at dksX6_init_0 0 rfl rfl)
theorem dX6_init_1 : decode cX6_init 1 = .ok (.iload_n 1, 1) := dk_27 (dk_at dksX6_init_0 1 rfl rfl)
theorem dX6_init_2 : decode cX6_init 2 = .ok (.iload_n 2, 1) := dk_28 (dk_at dksX6_init_0 2 rfl rfl)
theorem dX6_init_3 : decode cX6_init 3 = .ok (.aload_n 3, 1) := dk_45 (dk_at dksX6_init_0 3 rfl rfl)
theorem dX6_init_4 : decode cX6_init 4 = .ok (.invokespecial 3, 3) := dk_183 0 3 (dk_at dksX6_init_0 4 rfl rfl)
theorem dX6_init_7 : decode cX6_init 7 = .ok (.return_, 1) := dk_177 (dk_at dksX6_init_0 7 rfl rfl)
abbrev cX6_word : ByteArray := prog_7_method_4_code
def yX6_word : MethodName := ⟨RX6, "word", "()Ljava/lang/String;"⟩
theorem dX6_word_0 : decode cX6_word 0 = .ok (.ldc 13, 2) := by decide +kernel
theorem dX6_word_2 : decode cX6_word 2 = .ok (.areturn, 1) := by decide +kernel
abbrev cX6_kind : ByteArray := prog_7_method_2_code
def yX6_kind : MethodName := ⟨RX6, "kind", "()I"⟩
theorem dX6_kind_0 : decode cX6_kind 0 = .ok (.iconst 3, 1) := by decide +kernel
theorem dX6_kind_1 : decode cX6_kind 1 = .ok (.ireturn, 1) := by decide +kernel
abbrev cX6_wide : ByteArray := prog_7_method_7_code
def yX6_wide : MethodName := ⟨RX6, "wide", "()I"⟩
def dkwX6_wide_0 : List UInt8 := [42, 183, 0, 15, 42, 183, 0, 19, 96, 42, 180, 0, 22, 96, 172]
abbrev dktX6_wide_0 : List UInt8 := dkwX6_wide_0 ++ []
theorem dksX6_wide_0 : cX6_wide.data.toList.drop 0 = dktX6_wide_0 := by decide +kernel
theorem dX6_wide_0 : decode cX6_wide 0 = .ok (.aload_n 0, 1) := dk_42 (dk_at dksX6_wide_0 0 rfl rfl)
theorem dX6_wide_1 : decode cX6_wide 1 = .ok (.invokespecial 15, 3) := dk_183 0 15 (dk_at dksX6_wide_0 1 rfl rfl)
theorem dX6_wide_4 : decode cX6_wide 4 = .ok (.aload_n 0, 1) := dk_42 (dk_at dksX6_wide_0 4 rfl rfl)
theorem dX6_wide_5 : decode cX6_wide 5 = .ok (.invokespecial 19, 3) := dk_183 0 19 (dk_at dksX6_wide_0 5 rfl rfl)
theorem dX6_wide_8 : decode cX6_wide 8 = .ok (.iadd, 1) := dk_96 (dk_at dksX6_wide_0 8 rfl rfl)
theorem dX6_wide_9 : decode cX6_wide 9 = .ok (.aload_n 0, 1) := dk_42 (dk_at dksX6_wide_0 9 rfl rfl)
theorem dX6_wide_10 : decode cX6_wide 10 = .ok (.getfield 22, 3) := dk_180 0 22 (dk_at dksX6_wide_0 10 rfl rfl)
theorem dX6_wide_13 : decode cX6_wide 13 = .ok (.iadd, 1) := dk_96 (dk_at dksX6_wide_0 13 rfl rfl)
theorem dX6_wide_14 : decode cX6_wide 14 = .ok (.ireturn, 1) := dk_172 (dk_at dksX6_wide_0 14 rfl rfl)
abbrev cX6_high : ByteArray := prog_7_method_8_code
def yX6_high : MethodName := ⟨RX6, "high", "()I"⟩
def dkwX6_high_0 : List UInt8 := [42, 183, 0, 28, 42, 183, 0, 31, 96, 42, 180, 0, 34, 96, 172]
abbrev dktX6_high_0 : List UInt8 := dkwX6_high_0 ++ []
theorem dksX6_high_0 : cX6_high.data.toList.drop 0 = dktX6_high_0 := by decide +kernel
theorem dX6_high_0 : decode cX6_high 0 = .ok (.aload_n 0, 1) := dk_42 (dk_at dksX6_high_0 0 rfl rfl)
theorem dX6_high_1 : decode cX6_high 1 = .ok (.invokespecial 28, 3) := dk_183 0 28 (dk_at dksX6_high_0 1 rfl rfl)
theorem dX6_high_4 : decode cX6_high 4 = .ok (.aload_n 0, 1) := dk_42 (dk_at dksX6_high_0 4 rfl rfl)
theorem dX6_high_5 : decode cX6_high 5 = .ok (.invokespecial 31, 3) := dk_183 0 31 (dk_at dksX6_high_0 5 rfl rfl)
theorem dX6_high_8 : decode cX6_high 8 = .ok (.iadd, 1) := dk_96 (dk_at dksX6_high_0 8 rfl rfl)
theorem dX6_high_9 : decode cX6_high 9 = .ok (.aload_n 0, 1) := dk_42 (dk_at dksX6_high_0 9 rfl rfl)
theorem dX6_high_10 : decode cX6_high 10 = .ok (.getfield 34, 3) := dk_180 0 34 (dk_at dksX6_high_0 10 rfl rfl)
theorem dX6_high_13 : decode cX6_high 13 = .ok (.iadd, 1) := dk_96 (dk_at dksX6_high_0 13 rfl rfl)
theorem dX6_high_14 : decode cX6_high 14 = .ok (.ireturn, 1) := dk_172 (dk_at dksX6_high_0 14 rfl rfl)
abbrev cX6_trims : ByteArray := prog_7_method_9_code
def yX6_trims : MethodName := ⟨RX6, "trims", "()I"⟩
def dkwX6_trims_0 : List UInt8 := [42, 182, 0, 37, 42, 182, 0, 40, 104, 42, 183, 0, 15, 42, 183, 0, 28, 104, 100, 172]
abbrev dktX6_trims_0 : List UInt8 := dkwX6_trims_0 ++ []
theorem dksX6_trims_0 : cX6_trims.data.toList.drop 0 = dktX6_trims_0 := by decide +kernel
theorem dX6_trims_0 : decode cX6_trims 0 = .ok (.aload_n 0, 1) := dk_42 (dk_at dksX6_trims_0 0 rfl rfl)
theorem dX6_trims_1 : decode cX6_trims 1 = .ok (.invokevirtual 37, 3) := dk_182 0 37 (dk_at dksX6_trims_0 1 rfl rfl)
theorem dX6_trims_4 : decode cX6_trims 4 = .ok (.aload_n 0, 1) := dk_42 (dk_at dksX6_trims_0 4 rfl rfl)
theorem dX6_trims_5 : decode cX6_trims 5 = .ok (.invokevirtual 40, 3) := dk_182 0 40 (dk_at dksX6_trims_0 5 rfl rfl)
theorem dX6_trims_8 : decode cX6_trims 8 = .ok (.imul, 1) := dk_104 (dk_at dksX6_trims_0 8 rfl rfl)
theorem dX6_trims_9 : decode cX6_trims 9 = .ok (.aload_n 0, 1) := dk_42 (dk_at dksX6_trims_0 9 rfl rfl)
theorem dX6_trims_10 : decode cX6_trims 10 = .ok (.invokespecial 15, 3) := dk_183 0 15 (dk_at dksX6_trims_0 10 rfl rfl)
theorem dX6_trims_13 : decode cX6_trims 13 = .ok (.aload_n 0, 1) := dk_42 (dk_at dksX6_trims_0 13 rfl rfl)
theorem dX6_trims_14 : decode cX6_trims 14 = .ok (.invokespecial 28, 3) := dk_183 0 28 (dk_at dksX6_trims_0 14 rfl rfl)
theorem dX6_trims_17 : decode cX6_trims 17 = .ok (.imul, 1) := dk_104 (dk_at dksX6_trims_0 17 rfl rfl)
theorem dX6_trims_18 : decode cX6_trims 18 = .ok (.isub, 1) := dk_100 (dk_at dksX6_trims_0 18 rfl rfl)
theorem dX6_trims_19 : decode cX6_trims 19 = .ok (.ireturn, 1) := dk_172 (dk_at dksX6_trims_0 19 rfl rfl)
abbrev cX6_firstColumn : ByteArray := prog_7_method_5_code
def yX6_firstColumn : MethodName := ⟨RX6, "firstColumn", "()I"⟩
theorem dX6_firstColumn_0 : decode cX6_firstColumn 0 = .ok (.iconst 0, 1) := by decide +kernel
theorem dX6_firstColumn_1 : decode cX6_firstColumn 1 = .ok (.ireturn, 1) := by decide +kernel
abbrev cX6_firstRow : ByteArray := prog_7_method_6_code
def yX6_firstRow : MethodName := ⟨RX6, "firstRow", "()I"⟩
theorem dX6_firstRow_0 : decode cX6_firstRow 0 = .ok (.iconst 0, 1) := by decide +kernel
theorem dX6_firstRow_1 : decode cX6_firstRow 1 = .ok (.ireturn, 1) := by decide +kernel
theorem q129 : (Jvm.Cond.initialized "FrameSheets$Logo") ∈ lw_all := lw_g (lw_at lw_m1 25 rfl) rfl
theorem q812 : (Jvm.Cond.fieldLinkNest "FrameSheets$Logo" (22 : Nat) "FrameSheets$Frame" "right" "I" "FrameSheets") ∈ lw_tbl := lw_at lw_m3 228 rfl
theorem q814 : (Jvm.Cond.fieldLinkNest "FrameSheets$Logo" (34 : Nat) "FrameSheets$Frame" "below" "I" "FrameSheets") ∈ lw_tbl := lw_at lw_m3 230 rfl
theorem q862 : (Jvm.Cond.instantiable "FrameSheets$Logo" (10 : Nat)) ∈ lw_all := lw_g (lw_at lw_m4 38 rfl) rfl
theorem q864 : (Jvm.Cond.instanceMethod ({ cls := "FrameSheets$Logo", name := "<init>", desc := "(II[I)V" } : Jvm.MethodName)) ∈ lw_all := lw_g (lw_at lw_m4 40 rfl) rfl
theorem q865 : (Jvm.Cond.code ({ cls := "FrameSheets$Logo", name := "<init>", desc := "(II[I)V" } : Jvm.MethodName) prog_7_method_1_code (4 : Nat) (Option.none : Option Jvm.ClassFile.FieldType)) ∈ lw_all := lw_g (lw_at lw_m4 41 rfl) rfl
theorem q866 : (Jvm.Cond.methodLink "FrameSheets$Logo" (3 : Nat) ({ cls := "FrameSheets$Icon", name := "<init>", desc := "(II[I)V" } : Jvm.MethodName)) ∈ lw_all := lw_g (lw_at lw_m4 42 rfl) rfl
theorem q867 : (Jvm.Cond.laysFinal "FrameSheets$Logo" "FrameSheets$Frame" "w" "I") ∈ lw_all := lw_g (lw_at lw_m4 43 rfl) rfl
theorem q868 : (Jvm.Cond.laysFinal "FrameSheets$Logo" "FrameSheets$Frame" "h" "I") ∈ lw_all := lw_g (lw_at lw_m4 44 rfl) rfl
theorem q869 : (Jvm.Cond.laysFinal "FrameSheets$Logo" "FrameSheets$Frame" "left" "I") ∈ lw_all := lw_g (lw_at lw_m4 45 rfl) rfl
theorem q870 : (Jvm.Cond.laysFinal "FrameSheets$Logo" "FrameSheets$Frame" "above" "I") ∈ lw_all := lw_g (lw_at lw_m4 46 rfl) rfl
theorem q871 : (Jvm.Cond.laysFinal "FrameSheets$Logo" "FrameSheets$Frame" "right" "I") ∈ lw_all := lw_g (lw_at lw_m4 47 rfl) rfl
theorem q872 : (Jvm.Cond.laysFinal "FrameSheets$Logo" "FrameSheets$Frame" "below" "I") ∈ lw_all := lw_g (lw_at lw_m4 48 rfl) rfl
theorem q873 : (Jvm.Cond.lays "FrameSheets$Logo" "FrameSheets$Frame" "page" "I") ∈ lw_all := lw_g (lw_at lw_m4 49 rfl) rfl
theorem q874 : (Jvm.Cond.lays "FrameSheets$Logo" "FrameSheets$Frame" "x" "I") ∈ lw_all := lw_g (lw_at lw_m4 50 rfl) rfl
theorem q875 : (Jvm.Cond.lays "FrameSheets$Logo" "FrameSheets$Frame" "y" "I") ∈ lw_all := lw_g (lw_at lw_m4 51 rfl) rfl
theorem q876 : (Jvm.Cond.lays "FrameSheets$Logo" "FrameSheets$Frame" "turned" "Z") ∈ lw_all := lw_g (lw_at lw_m4 52 rfl) rfl
theorem q877 : (Jvm.Cond.superclass "FrameSheets$Logo" "FrameSheets$Icon") ∈ lw_all := lw_g (lw_at lw_m4 53 rfl) rfl
theorem q1015 : (Jvm.Cond.selects "FrameSheets$Logo" ({ cls := "FrameSheets$Frame", name := "written", desc := "()Ljava/lang/String;" } : Jvm.MethodName) ({ cls := "FrameSheets$Frame", name := "written", desc := "()Ljava/lang/String;" } : Jvm.MethodName)) ∈ lw_all := lw_g (lw_at lw_m4 191 rfl) rfl
theorem q1030 : (Jvm.Cond.selects "FrameSheets$Logo" ({ cls := "FrameSheets$Frame", name := "word", desc := "()Ljava/lang/String;" } : Jvm.MethodName) ({ cls := "FrameSheets$Logo", name := "word", desc := "()Ljava/lang/String;" } : Jvm.MethodName)) ∈ lw_all := lw_g (lw_at lw_m4 206 rfl) rfl
theorem q1031 : (Jvm.Cond.instanceMethod ({ cls := "FrameSheets$Logo", name := "word", desc := "()Ljava/lang/String;" } : Jvm.MethodName)) ∈ lw_all := lw_g (lw_at lw_m4 207 rfl) rfl
theorem q1032 : (Jvm.Cond.code ({ cls := "FrameSheets$Logo", name := "word", desc := "()Ljava/lang/String;" } : Jvm.MethodName) prog_7_method_4_code (1 : Nat) (Option.some (Jvm.ClassFile.FieldType.object "java/lang/String"))) ∈ lw_all := lw_g (lw_at lw_m4 208 rfl) rfl
theorem q1033 : (Jvm.Cond.stringRef "FrameSheets$Logo" (13 : Nat) "logo") ∈ lw_tbl := lw_at lw_m4 209 rfl
theorem q1065 : (Jvm.Cond.selects "FrameSheets$Logo" ({ cls := "FrameSheets$Frame", name := "toldBy", desc := "(II)I" } : Jvm.MethodName) ({ cls := "FrameSheets$Frame", name := "toldBy", desc := "(II)I" } : Jvm.MethodName)) ∈ lw_all := lw_g (lw_at lw_m5 1 rfl) rfl
theorem q1077 : (Jvm.Cond.selects "FrameSheets$Logo" ({ cls := "FrameSheets$Frame", name := "kind", desc := "()I" } : Jvm.MethodName) ({ cls := "FrameSheets$Logo", name := "kind", desc := "()I" } : Jvm.MethodName)) ∈ lw_all := lw_g (lw_at lw_m5 13 rfl) rfl
theorem q1078 : (Jvm.Cond.instanceMethod ({ cls := "FrameSheets$Logo", name := "kind", desc := "()I" } : Jvm.MethodName)) ∈ lw_all := lw_g (lw_at lw_m5 14 rfl) rfl
theorem q1079 : (Jvm.Cond.code ({ cls := "FrameSheets$Logo", name := "kind", desc := "()I" } : Jvm.MethodName) prog_7_method_2_code (1 : Nat) (Option.some Jvm.ClassFile.FieldType.int)) ∈ lw_all := lw_g (lw_at lw_m5 15 rfl) rfl
theorem q1087 : (Jvm.Cond.selects "FrameSheets$Logo" ({ cls := "FrameSheets$Frame", name := "wide", desc := "()I" } : Jvm.MethodName) ({ cls := "FrameSheets$Logo", name := "wide", desc := "()I" } : Jvm.MethodName)) ∈ lw_all := lw_g (lw_at lw_m5 23 rfl) rfl
theorem q1088 : (Jvm.Cond.instanceMethod ({ cls := "FrameSheets$Logo", name := "wide", desc := "()I" } : Jvm.MethodName)) ∈ lw_all := lw_g (lw_at lw_m5 24 rfl) rfl
theorem q1089 : (Jvm.Cond.code ({ cls := "FrameSheets$Logo", name := "wide", desc := "()I" } : Jvm.MethodName) prog_7_method_7_code (1 : Nat) (Option.some Jvm.ClassFile.FieldType.int)) ∈ lw_all := lw_g (lw_at lw_m5 25 rfl) rfl
theorem q1090 : (Jvm.Cond.methodLink "FrameSheets$Logo" (15 : Nat) ({ cls := "FrameSheets$Icon", name := "wide", desc := "()I" } : Jvm.MethodName)) ∈ lw_all := lw_g (lw_at lw_m5 26 rfl) rfl
theorem q1093 : (Jvm.Cond.methodLink "FrameSheets$Logo" (19 : Nat) ({ cls := "FrameSheets$Icon", name := "firstColumn", desc := "()I" } : Jvm.MethodName)) ∈ lw_all := lw_g (lw_at lw_m5 29 rfl) rfl
theorem q1105 : (Jvm.Cond.selects "FrameSheets$Logo" ({ cls := "FrameSheets$Frame", name := "high", desc := "()I" } : Jvm.MethodName) ({ cls := "FrameSheets$Logo", name := "high", desc := "()I" } : Jvm.MethodName)) ∈ lw_all := lw_g (lw_at lw_m5 41 rfl) rfl
theorem q1106 : (Jvm.Cond.instanceMethod ({ cls := "FrameSheets$Logo", name := "high", desc := "()I" } : Jvm.MethodName)) ∈ lw_all := lw_g (lw_at lw_m5 42 rfl) rfl
theorem q1107 : (Jvm.Cond.code ({ cls := "FrameSheets$Logo", name := "high", desc := "()I" } : Jvm.MethodName) prog_7_method_8_code (1 : Nat) (Option.some Jvm.ClassFile.FieldType.int)) ∈ lw_all := lw_g (lw_at lw_m5 43 rfl) rfl
theorem q1108 : (Jvm.Cond.methodLink "FrameSheets$Logo" (28 : Nat) ({ cls := "FrameSheets$Icon", name := "high", desc := "()I" } : Jvm.MethodName)) ∈ lw_all := lw_g (lw_at lw_m5 44 rfl) rfl
theorem q1111 : (Jvm.Cond.methodLink "FrameSheets$Logo" (31 : Nat) ({ cls := "FrameSheets$Icon", name := "firstRow", desc := "()I" } : Jvm.MethodName)) ∈ lw_all := lw_g (lw_at lw_m5 47 rfl) rfl
theorem q1123 : (Jvm.Cond.selects "FrameSheets$Logo" ({ cls := "FrameSheets$Frame", name := "across", desc := "(IZ)I" } : Jvm.MethodName) ({ cls := "FrameSheets$Frame", name := "across", desc := "(IZ)I" } : Jvm.MethodName)) ∈ lw_all := lw_g (lw_at lw_m5 59 rfl) rfl
theorem q1134 : (Jvm.Cond.selects "FrameSheets$Logo" ({ cls := "FrameSheets$Frame", name := "edge", desc := "(I)I" } : Jvm.MethodName) ({ cls := "FrameSheets$Frame", name := "edge", desc := "(I)I" } : Jvm.MethodName)) ∈ lw_all := lw_g (lw_at lw_m5 70 rfl) rfl
theorem q1142 : (Jvm.Cond.selects "FrameSheets$Logo" ({ cls := "FrameSheets$Frame", name := "down", desc := "(IZ)I" } : Jvm.MethodName) ({ cls := "FrameSheets$Frame", name := "down", desc := "(IZ)I" } : Jvm.MethodName)) ∈ lw_all := lw_g (lw_at lw_m5 78 rfl) rfl
theorem q1158 : (Jvm.Cond.selects "FrameSheets$Logo" ({ cls := "FrameSheets$Frame", name := "placed", desc := "(I)I" } : Jvm.MethodName) ({ cls := "FrameSheets$Frame", name := "placed", desc := "(I)I" } : Jvm.MethodName)) ∈ lw_all := lw_g (lw_at lw_m5 94 rfl) rfl
theorem q1182 : (Jvm.Cond.selects "FrameSheets$Logo" ({ cls := "FrameSheets$Icon", name := "longer", desc := "()I" } : Jvm.MethodName) ({ cls := "FrameSheets$Icon", name := "longer", desc := "()I" } : Jvm.MethodName)) ∈ lw_all := lw_g (lw_at lw_m5 118 rfl) rfl
theorem q1186 : (Jvm.Cond.selects "FrameSheets$Logo" ({ cls := "FrameSheets$Icon", name := "wide", desc := "()I" } : Jvm.MethodName) ({ cls := "FrameSheets$Logo", name := "wide", desc := "()I" } : Jvm.MethodName)) ∈ lw_all := lw_g (lw_at lw_m5 122 rfl) rfl
theorem q1189 : (Jvm.Cond.selects "FrameSheets$Logo" ({ cls := "FrameSheets$Icon", name := "high", desc := "()I" } : Jvm.MethodName) ({ cls := "FrameSheets$Logo", name := "high", desc := "()I" } : Jvm.MethodName)) ∈ lw_all := lw_g (lw_at lw_m5 125 rfl) rfl
theorem q1213 : (Jvm.Cond.instanceMethod ({ cls := "FrameSheets$Logo", name := "trims", desc := "()I" } : Jvm.MethodName)) ∈ lw_all := lw_g (lw_at lw_m5 149 rfl) rfl
theorem q1214 : (Jvm.Cond.selects "FrameSheets$Logo" ({ cls := "FrameSheets$Logo", name := "trims", desc := "()I" } : Jvm.MethodName) ({ cls := "FrameSheets$Logo", name := "trims", desc := "()I" } : Jvm.MethodName)) ∈ lw_all := lw_g (lw_at lw_m5 150 rfl) rfl
theorem q1215 : (Jvm.Cond.code ({ cls := "FrameSheets$Logo", name := "trims", desc := "()I" } : Jvm.MethodName) prog_7_method_9_code (1 : Nat) (Option.some Jvm.ClassFile.FieldType.int)) ∈ lw_all := lw_g (lw_at lw_m5 151 rfl) rfl
theorem q1216 : (Jvm.Cond.methodLink "FrameSheets$Logo" (37 : Nat) ({ cls := "FrameSheets$Logo", name := "wide", desc := "()I" } : Jvm.MethodName)) ∈ lw_all := lw_g (lw_at lw_m5 152 rfl) rfl
theorem q1217 : (Jvm.Cond.methodLink "FrameSheets$Logo" (40 : Nat) ({ cls := "FrameSheets$Logo", name := "high", desc := "()I" } : Jvm.MethodName)) ∈ lw_all := lw_g (lw_at lw_m5 153 rfl) rfl
theorem q1285 : (Jvm.Cond.selects "FrameSheets$Logo" ({ cls := "FrameSheets$Frame", name := "mayTurn", desc := "()Z" } : Jvm.MethodName) ({ cls := "FrameSheets$Icon", name := "mayTurn", desc := "()Z" } : Jvm.MethodName)) ∈ lw_all := lw_g (lw_at lw_m5 221 rfl) rfl
theorem q1454 : (Jvm.Cond.selects "FrameSheets$Logo" ({ cls := "FrameSheets$Frame", name := "takes", desc := "(III)Z" } : Jvm.MethodName) ({ cls := "FrameSheets$Frame", name := "takes", desc := "(III)Z" } : Jvm.MethodName)) ∈ lw_all := lw_g (lw_at lw_m6 150 rfl) rfl
theorem q1464 : (Jvm.Cond.instanceMethod ({ cls := "FrameSheets$Logo", name := "firstColumn", desc := "()I" } : Jvm.MethodName)) ∈ lw_all := lw_g (lw_at lw_m6 160 rfl) rfl
theorem q1465 : (Jvm.Cond.code ({ cls := "FrameSheets$Logo", name := "firstColumn", desc := "()I" } : Jvm.MethodName) prog_7_method_5_code (1 : Nat) (Option.some Jvm.ClassFile.FieldType.int)) ∈ lw_all := lw_g (lw_at lw_m6 161 rfl) rfl
theorem q1467 : (Jvm.Cond.instanceMethod ({ cls := "FrameSheets$Logo", name := "firstRow", desc := "()I" } : Jvm.MethodName)) ∈ lw_all := lw_g (lw_at lw_m6 163 rfl) rfl
theorem q1468 : (Jvm.Cond.code ({ cls := "FrameSheets$Logo", name := "firstRow", desc := "()I" } : Jvm.MethodName) prog_7_method_6_code (1 : Nat) (Option.some Jvm.ClassFile.FieldType.int)) ∈ lw_all := lw_g (lw_at lw_m6 164 rfl) rfl
theorem q2119 : (Jvm.Cond.selects "FrameSheets$Logo" ({ cls := "FrameSheets$Logo", name := "wide", desc := "()I" } : Jvm.MethodName) ({ cls := "FrameSheets$Logo", name := "wide", desc := "()I" } : Jvm.MethodName)) ∈ lw_all := lw_g (lw_at lw_m9 95 rfl) rfl
theorem q2120 : (Jvm.Cond.selects "FrameSheets$Logo" ({ cls := "FrameSheets$Logo", name := "high", desc := "()I" } : Jvm.MethodName) ({ cls := "FrameSheets$Logo", name := "high", desc := "()I" } : Jvm.MethodName)) ∈ lw_all := lw_g (lw_at lw_m9 96 rfl) rfl
theorem q2125 : (Jvm.Cond.selects "FrameSheets$Logo" ({ cls := "FrameSheets$Frame", name := "needs", desc := "(I)I" } : Jvm.MethodName) ({ cls := "FrameSheets$Frame", name := "needs", desc := "(I)I" } : Jvm.MethodName)) ∈ lw_all := lw_g (lw_at lw_m9 101 rfl) rfl
theorem q2130 : (Jvm.Cond.selects "FrameSheets$Logo" ({ cls := "FrameSheets$Frame", name := "firstColumn", desc := "()I" } : Jvm.MethodName) ({ cls := "FrameSheets$Logo", name := "firstColumn", desc := "()I" } : Jvm.MethodName)) ∈ lw_all := lw_g (lw_at lw_m9 106 rfl) rfl
theorem q2135 : (Jvm.Cond.selects "FrameSheets$Logo" ({ cls := "FrameSheets$Frame", name := "firstRow", desc := "()I" } : Jvm.MethodName) ({ cls := "FrameSheets$Logo", name := "firstRow", desc := "()I" } : Jvm.MethodName)) ∈ lw_all := lw_g (lw_at lw_m9 111 rfl) rfl
theorem q2138 : (Jvm.Cond.castable "FrameSheets$Logo" "FrameSheets$Icon") ∈ lw_tbl := lw_at lw_m9 114 rfl
theorem q2141 : (Jvm.Cond.castable "FrameSheets$Logo" "FrameSheets$Frame") ∈ lw_tbl := lw_at lw_m9 117 rfl
theorem in_X6 : ∀ w ∈ wsX60, w ∈ lw_all := lw_in wsX60 [867, 868, 869, 870, 871, 872, 873, 874, 875, 876] (by decide +kernel) (by decide +kernel)

/-! FrameSheets$Area -/
set_option maxRecDepth 100000
def RX7 : String := "FrameSheets$Area"
abbrev cX7_init : ByteArray := prog_2_method_1_code
def yX7_init : MethodName := ⟨RX7, "<init>", "()V"⟩
theorem dX7_init_0 : decode cX7_init 0 = .ok (.aload_n 0, 1) := by decide +kernel
theorem dX7_init_1 : decode cX7_init 1 = .ok (.invokespecial 1, 3) := by decide +kernel
theorem dX7_init_4 : decode cX7_init 4 = .ok (.return_, 1) := by decide +kernel
abbrev cX7_first : ByteArray := prog_2_method_3_code
def yX7_first : MethodName := ⟨RX7, "first", "(IIII)I"⟩
theorem dX7_first_0 : decode cX7_first 0 = .ok (.iload_n 3, 1) := by decide +kernel
theorem dX7_first_1 : decode cX7_first 1 = .ok (.ireturn, 1) := by decide +kernel
abbrev cX7_number : ByteArray := prog_2_method_2_code
def yX7_number : MethodName := ⟨RX7, "number", "()I"⟩
theorem dX7_number_0 : decode cX7_number 0 = .ok (.iconst 1, 1) := by decide +kernel
theorem dX7_number_1 : decode cX7_number 1 = .ok (.ireturn, 1) := by decide +kernel
theorem q130 : (Jvm.Cond.initialized "FrameSheets$Area") ∈ lw_all := lw_g (lw_at lw_m1 26 rfl) rfl
theorem q899 : (Jvm.Cond.instantiable "FrameSheets$Area" (0 : Nat)) ∈ lw_all := lw_g (lw_at lw_m4 75 rfl) rfl
theorem q901 : (Jvm.Cond.instanceMethod ({ cls := "FrameSheets$Area", name := "<init>", desc := "()V" } : Jvm.MethodName)) ∈ lw_all := lw_g (lw_at lw_m4 77 rfl) rfl
theorem q902 : (Jvm.Cond.code ({ cls := "FrameSheets$Area", name := "<init>", desc := "()V" } : Jvm.MethodName) prog_2_method_1_code (1 : Nat) (Option.none : Option Jvm.ClassFile.FieldType)) ∈ lw_all := lw_g (lw_at lw_m4 78 rfl) rfl
theorem q903 : (Jvm.Cond.methodLink "FrameSheets$Area" (1 : Nat) ({ cls := "java/lang/Object", name := "<init>", desc := "()V" } : Jvm.MethodName)) ∈ lw_all := lw_g (lw_at lw_m4 79 rfl) rfl
theorem q904 : (Jvm.Cond.superclass "FrameSheets$Area" "java/lang/Object") ∈ lw_all := lw_g (lw_at lw_m4 80 rfl) rfl
theorem q1292 : (Jvm.Cond.castable "FrameSheets$Area" "FrameSheets$Rule") ∈ lw_tbl := lw_at lw_m5 228 rfl
theorem q1293 : (Jvm.Cond.selects "FrameSheets$Area" ({ cls := "FrameSheets$Rule", name := "first", desc := "(IIII)I" } : Jvm.MethodName) ({ cls := "FrameSheets$Area", name := "first", desc := "(IIII)I" } : Jvm.MethodName)) ∈ lw_all := lw_g (lw_at lw_m5 229 rfl) rfl
theorem q1294 : (Jvm.Cond.unhidden "FrameSheets$Area" "first" "(IIII)I") ∈ lw_tbl := lw_at lw_m5 230 rfl
theorem q1295 : (Jvm.Cond.instanceMethod ({ cls := "FrameSheets$Area", name := "first", desc := "(IIII)I" } : Jvm.MethodName)) ∈ lw_all := lw_g (lw_at lw_m5 231 rfl) rfl
theorem q1296 : (Jvm.Cond.publicMethod ({ cls := "FrameSheets$Area", name := "first", desc := "(IIII)I" } : Jvm.MethodName)) ∈ lw_tbl := lw_at lw_m5 232 rfl
theorem q1297 : (Jvm.Cond.code ({ cls := "FrameSheets$Area", name := "first", desc := "(IIII)I" } : Jvm.MethodName) prog_2_method_3_code (5 : Nat) (Option.some Jvm.ClassFile.FieldType.int)) ∈ lw_all := lw_g (lw_at lw_m5 233 rfl) rfl
theorem q1322 : (Jvm.Cond.unhidden "FrameSheets$Area" "second" "(III)I") ∈ lw_tbl := lw_at lw_m6 18 rfl
theorem q1351 : (Jvm.Cond.selects "FrameSheets$Area" ({ cls := "FrameSheets$Rule", name := "number", desc := "()I" } : Jvm.MethodName) ({ cls := "FrameSheets$Area", name := "number", desc := "()I" } : Jvm.MethodName)) ∈ lw_all := lw_g (lw_at lw_m6 47 rfl) rfl
theorem q1352 : (Jvm.Cond.unhidden "FrameSheets$Area" "number" "()I") ∈ lw_tbl := lw_at lw_m6 48 rfl
theorem q1353 : (Jvm.Cond.instanceMethod ({ cls := "FrameSheets$Area", name := "number", desc := "()I" } : Jvm.MethodName)) ∈ lw_all := lw_g (lw_at lw_m6 49 rfl) rfl
theorem q1354 : (Jvm.Cond.publicMethod ({ cls := "FrameSheets$Area", name := "number", desc := "()I" } : Jvm.MethodName)) ∈ lw_tbl := lw_at lw_m6 50 rfl
theorem q1355 : (Jvm.Cond.code ({ cls := "FrameSheets$Area", name := "number", desc := "()I" } : Jvm.MethodName) prog_2_method_2_code (1 : Nat) (Option.some Jvm.ClassFile.FieldType.int)) ∈ lw_all := lw_g (lw_at lw_m6 51 rfl) rfl

/-! FrameSheets$Lowest -/
set_option maxRecDepth 100000
def RX8 : String := "FrameSheets$Lowest"
abbrev cX8_init : ByteArray := prog_9_method_1_code
def yX8_init : MethodName := ⟨RX8, "<init>", "()V"⟩
theorem dX8_init_0 : decode cX8_init 0 = .ok (.aload_n 0, 1) := by decide +kernel
theorem dX8_init_1 : decode cX8_init 1 = .ok (.invokespecial 1, 3) := by decide +kernel
theorem dX8_init_4 : decode cX8_init 4 = .ok (.return_, 1) := by decide +kernel
abbrev cX8_first : ByteArray := prog_9_method_3_code
def yX8_first : MethodName := ⟨RX8, "first", "(IIII)I"⟩
theorem dX8_first_0 : decode cX8_first 0 = .ok (.iload 4, 2) := by decide +kernel
theorem dX8_first_2 : decode cX8_first 2 = .ok (.ireturn, 1) := by decide +kernel
abbrev cX8_second : ByteArray := prog_9_method_4_code
def yX8_second : MethodName := ⟨RX8, "second", "(III)I"⟩
theorem dX8_second_0 : decode cX8_second 0 = .ok (.iload_n 3, 1) := by decide +kernel
theorem dX8_second_1 : decode cX8_second 1 = .ok (.ireturn, 1) := by decide +kernel
abbrev cX8_number : ByteArray := prog_9_method_2_code
def yX8_number : MethodName := ⟨RX8, "number", "()I"⟩
theorem dX8_number_0 : decode cX8_number 0 = .ok (.iconst 2, 1) := by decide +kernel
theorem dX8_number_1 : decode cX8_number 1 = .ok (.ireturn, 1) := by decide +kernel
theorem q131 : (Jvm.Cond.initialized "FrameSheets$Lowest") ∈ lw_all := lw_g (lw_at lw_m1 27 rfl) rfl
theorem q906 : (Jvm.Cond.instantiable "FrameSheets$Lowest" (0 : Nat)) ∈ lw_all := lw_g (lw_at lw_m4 82 rfl) rfl
theorem q908 : (Jvm.Cond.instanceMethod ({ cls := "FrameSheets$Lowest", name := "<init>", desc := "()V" } : Jvm.MethodName)) ∈ lw_all := lw_g (lw_at lw_m4 84 rfl) rfl
theorem q909 : (Jvm.Cond.code ({ cls := "FrameSheets$Lowest", name := "<init>", desc := "()V" } : Jvm.MethodName) prog_9_method_1_code (1 : Nat) (Option.none : Option Jvm.ClassFile.FieldType)) ∈ lw_all := lw_g (lw_at lw_m4 85 rfl) rfl
theorem q910 : (Jvm.Cond.methodLink "FrameSheets$Lowest" (1 : Nat) ({ cls := "java/lang/Object", name := "<init>", desc := "()V" } : Jvm.MethodName)) ∈ lw_all := lw_g (lw_at lw_m4 86 rfl) rfl
theorem q911 : (Jvm.Cond.superclass "FrameSheets$Lowest" "java/lang/Object") ∈ lw_all := lw_g (lw_at lw_m4 87 rfl) rfl
theorem q1305 : (Jvm.Cond.castable "FrameSheets$Lowest" "FrameSheets$Rule") ∈ lw_tbl := lw_at lw_m6 1 rfl
theorem q1306 : (Jvm.Cond.selects "FrameSheets$Lowest" ({ cls := "FrameSheets$Rule", name := "first", desc := "(IIII)I" } : Jvm.MethodName) ({ cls := "FrameSheets$Lowest", name := "first", desc := "(IIII)I" } : Jvm.MethodName)) ∈ lw_all := lw_g (lw_at lw_m6 2 rfl) rfl
theorem q1307 : (Jvm.Cond.unhidden "FrameSheets$Lowest" "first" "(IIII)I") ∈ lw_tbl := lw_at lw_m6 3 rfl
theorem q1308 : (Jvm.Cond.instanceMethod ({ cls := "FrameSheets$Lowest", name := "first", desc := "(IIII)I" } : Jvm.MethodName)) ∈ lw_all := lw_g (lw_at lw_m6 4 rfl) rfl
theorem q1309 : (Jvm.Cond.publicMethod ({ cls := "FrameSheets$Lowest", name := "first", desc := "(IIII)I" } : Jvm.MethodName)) ∈ lw_tbl := lw_at lw_m6 5 rfl
theorem q1310 : (Jvm.Cond.code ({ cls := "FrameSheets$Lowest", name := "first", desc := "(IIII)I" } : Jvm.MethodName) prog_9_method_3_code (5 : Nat) (Option.some Jvm.ClassFile.FieldType.int)) ∈ lw_all := lw_g (lw_at lw_m6 6 rfl) rfl
theorem q1328 : (Jvm.Cond.selects "FrameSheets$Lowest" ({ cls := "FrameSheets$Rule", name := "second", desc := "(III)I" } : Jvm.MethodName) ({ cls := "FrameSheets$Lowest", name := "second", desc := "(III)I" } : Jvm.MethodName)) ∈ lw_all := lw_g (lw_at lw_m6 24 rfl) rfl
theorem q1329 : (Jvm.Cond.unhidden "FrameSheets$Lowest" "second" "(III)I") ∈ lw_tbl := lw_at lw_m6 25 rfl
theorem q1330 : (Jvm.Cond.instanceMethod ({ cls := "FrameSheets$Lowest", name := "second", desc := "(III)I" } : Jvm.MethodName)) ∈ lw_all := lw_g (lw_at lw_m6 26 rfl) rfl
theorem q1331 : (Jvm.Cond.publicMethod ({ cls := "FrameSheets$Lowest", name := "second", desc := "(III)I" } : Jvm.MethodName)) ∈ lw_tbl := lw_at lw_m6 27 rfl
theorem q1332 : (Jvm.Cond.code ({ cls := "FrameSheets$Lowest", name := "second", desc := "(III)I" } : Jvm.MethodName) prog_9_method_4_code (4 : Nat) (Option.some Jvm.ClassFile.FieldType.int)) ∈ lw_all := lw_g (lw_at lw_m6 28 rfl) rfl
theorem q1361 : (Jvm.Cond.selects "FrameSheets$Lowest" ({ cls := "FrameSheets$Rule", name := "number", desc := "()I" } : Jvm.MethodName) ({ cls := "FrameSheets$Lowest", name := "number", desc := "()I" } : Jvm.MethodName)) ∈ lw_all := lw_g (lw_at lw_m6 57 rfl) rfl
theorem q1362 : (Jvm.Cond.unhidden "FrameSheets$Lowest" "number" "()I") ∈ lw_tbl := lw_at lw_m6 58 rfl
theorem q1363 : (Jvm.Cond.instanceMethod ({ cls := "FrameSheets$Lowest", name := "number", desc := "()I" } : Jvm.MethodName)) ∈ lw_all := lw_g (lw_at lw_m6 59 rfl) rfl
theorem q1364 : (Jvm.Cond.publicMethod ({ cls := "FrameSheets$Lowest", name := "number", desc := "()I" } : Jvm.MethodName)) ∈ lw_tbl := lw_at lw_m6 60 rfl
theorem q1365 : (Jvm.Cond.code ({ cls := "FrameSheets$Lowest", name := "number", desc := "()I" } : Jvm.MethodName) prog_9_method_2_code (1 : Nat) (Option.some Jvm.ClassFile.FieldType.int)) ∈ lw_all := lw_g (lw_at lw_m6 61 rfl) rfl

/-! FrameSheets$Longest -/
set_option maxRecDepth 100000
def RX9 : String := "FrameSheets$Longest"
abbrev cX9_init : ByteArray := prog_8_method_1_code
def yX9_init : MethodName := ⟨RX9, "<init>", "()V"⟩
theorem dX9_init_0 : decode cX9_init 0 = .ok (.aload_n 0, 1) := by decide +kernel
theorem dX9_init_1 : decode cX9_init 1 = .ok (.invokespecial 1, 3) := by decide +kernel
theorem dX9_init_4 : decode cX9_init 4 = .ok (.return_, 1) := by decide +kernel
abbrev cX9_first : ByteArray := prog_8_method_3_code
def yX9_first : MethodName := ⟨RX9, "first", "(IIII)I"⟩
def dkwX9_first_0 : List UInt8 := [27, 28, 184, 0, 7, 172]
abbrev dktX9_first_0 : List UInt8 := dkwX9_first_0 ++ []
theorem dksX9_first_0 : cX9_first.data.toList.drop 0 = dktX9_first_0 := by decide +kernel
theorem dX9_first_0 : decode cX9_first 0 = .ok (.iload_n 1, 1) := dk_27 (dk_at dksX9_first_0 0 rfl rfl)
theorem dX9_first_1 : decode cX9_first 1 = .ok (.iload_n 2, 1) := dk_28 (dk_at dksX9_first_0 1 rfl rfl)
theorem dX9_first_2 : decode cX9_first 2 = .ok (.invokestatic 7, 3) := dk_184 0 7 (dk_at dksX9_first_0 2 rfl rfl)
theorem dX9_first_5 : decode cX9_first 5 = .ok (.ireturn, 1) := dk_172 (dk_at dksX9_first_0 5 rfl rfl)
abbrev cX9_number : ByteArray := prog_8_method_2_code
def yX9_number : MethodName := ⟨RX9, "number", "()I"⟩
theorem dX9_number_0 : decode cX9_number 0 = .ok (.iconst 3, 1) := by decide +kernel
theorem dX9_number_1 : decode cX9_number 1 = .ok (.ireturn, 1) := by decide +kernel
theorem q132 : (Jvm.Cond.initialized "FrameSheets$Longest") ∈ lw_all := lw_g (lw_at lw_m1 28 rfl) rfl
theorem q913 : (Jvm.Cond.instantiable "FrameSheets$Longest" (0 : Nat)) ∈ lw_all := lw_g (lw_at lw_m4 89 rfl) rfl
theorem q915 : (Jvm.Cond.instanceMethod ({ cls := "FrameSheets$Longest", name := "<init>", desc := "()V" } : Jvm.MethodName)) ∈ lw_all := lw_g (lw_at lw_m4 91 rfl) rfl
theorem q916 : (Jvm.Cond.code ({ cls := "FrameSheets$Longest", name := "<init>", desc := "()V" } : Jvm.MethodName) prog_8_method_1_code (1 : Nat) (Option.none : Option Jvm.ClassFile.FieldType)) ∈ lw_all := lw_g (lw_at lw_m4 92 rfl) rfl
theorem q917 : (Jvm.Cond.methodLink "FrameSheets$Longest" (1 : Nat) ({ cls := "java/lang/Object", name := "<init>", desc := "()V" } : Jvm.MethodName)) ∈ lw_all := lw_g (lw_at lw_m4 93 rfl) rfl
theorem q918 : (Jvm.Cond.superclass "FrameSheets$Longest" "java/lang/Object") ∈ lw_all := lw_g (lw_at lw_m4 94 rfl) rfl
theorem q1298 : (Jvm.Cond.castable "FrameSheets$Longest" "FrameSheets$Rule") ∈ lw_tbl := lw_at lw_m5 234 rfl
theorem q1299 : (Jvm.Cond.selects "FrameSheets$Longest" ({ cls := "FrameSheets$Rule", name := "first", desc := "(IIII)I" } : Jvm.MethodName) ({ cls := "FrameSheets$Longest", name := "first", desc := "(IIII)I" } : Jvm.MethodName)) ∈ lw_all := lw_g (lw_at lw_m5 235 rfl) rfl
theorem q1300 : (Jvm.Cond.unhidden "FrameSheets$Longest" "first" "(IIII)I") ∈ lw_tbl := lw_at lw_m5 236 rfl
theorem q1301 : (Jvm.Cond.instanceMethod ({ cls := "FrameSheets$Longest", name := "first", desc := "(IIII)I" } : Jvm.MethodName)) ∈ lw_all := lw_g (lw_at lw_m5 237 rfl) rfl
theorem q1302 : (Jvm.Cond.publicMethod ({ cls := "FrameSheets$Longest", name := "first", desc := "(IIII)I" } : Jvm.MethodName)) ∈ lw_tbl := lw_at lw_m5 238 rfl
theorem q1303 : (Jvm.Cond.code ({ cls := "FrameSheets$Longest", name := "first", desc := "(IIII)I" } : Jvm.MethodName) prog_8_method_3_code (5 : Nat) (Option.some Jvm.ClassFile.FieldType.int)) ∈ lw_all := lw_g (lw_at lw_m5 239 rfl) rfl
theorem q1304 : (Jvm.Cond.methodLink "FrameSheets$Longest" (7 : Nat) ({ cls := "FrameSheets$Rule", name := "greater", desc := "(II)I" } : Jvm.MethodName)) ∈ lw_all := lw_g (lw_at lw_m6 0 rfl) rfl
theorem q1327 : (Jvm.Cond.unhidden "FrameSheets$Longest" "second" "(III)I") ∈ lw_tbl := lw_at lw_m6 23 rfl
theorem q1356 : (Jvm.Cond.selects "FrameSheets$Longest" ({ cls := "FrameSheets$Rule", name := "number", desc := "()I" } : Jvm.MethodName) ({ cls := "FrameSheets$Longest", name := "number", desc := "()I" } : Jvm.MethodName)) ∈ lw_all := lw_g (lw_at lw_m6 52 rfl) rfl
theorem q1357 : (Jvm.Cond.unhidden "FrameSheets$Longest" "number" "()I") ∈ lw_tbl := lw_at lw_m6 53 rfl
theorem q1358 : (Jvm.Cond.instanceMethod ({ cls := "FrameSheets$Longest", name := "number", desc := "()I" } : Jvm.MethodName)) ∈ lw_all := lw_g (lw_at lw_m6 54 rfl) rfl
theorem q1359 : (Jvm.Cond.publicMethod ({ cls := "FrameSheets$Longest", name := "number", desc := "()I" } : Jvm.MethodName)) ∈ lw_tbl := lw_at lw_m6 55 rfl
theorem q1360 : (Jvm.Cond.code ({ cls := "FrameSheets$Longest", name := "number", desc := "()I" } : Jvm.MethodName) prog_8_method_2_code (1 : Nat) (Option.some Jvm.ClassFile.FieldType.int)) ∈ lw_all := lw_g (lw_at lw_m6 56 rfl) rfl

/-! FrameSheets$Rule -/
set_option maxRecDepth 100000
def RX10 : String := "FrameSheets$Rule"
abbrev cX10_greater : ByteArray := prog_10_method_2_code
def yX10_greater : MethodName := ⟨RX10, "greater", "(II)I"⟩
def dkwX10_greater_0 : List UInt8 := [26, 27, 162, 0, 7, 27, 167, 0, 4, 26, 172]
abbrev dktX10_greater_0 : List UInt8 := dkwX10_greater_0 ++ []
theorem dksX10_greater_0 : cX10_greater.data.toList.drop 0 = dktX10_greater_0 := by decide +kernel
theorem dX10_greater_0 : decode cX10_greater 0 = .ok (.iload_n 0, 1) := dk_26 (dk_at dksX10_greater_0 0 rfl rfl)
theorem dX10_greater_1 : decode cX10_greater 1 = .ok (.iload_n 1, 1) := dk_27 (dk_at dksX10_greater_0 1 rfl rfl)
theorem dX10_greater_2 : decode cX10_greater 2 = .ok (.if_icmp .ge 7, 3) := dk_162 0 7 (dk_at dksX10_greater_0 2 rfl rfl)
theorem dX10_greater_5 : decode cX10_greater 5 = .ok (.iload_n 1, 1) := dk_27 (dk_at dksX10_greater_0 5 rfl rfl)
theorem dX10_greater_6 : decode cX10_greater 6 = .ok (.goto 4, 3) := dk_167 0 4 (dk_at dksX10_greater_0 6 rfl rfl)
theorem dX10_greater_9 : decode cX10_greater 9 = .ok (.iload_n 0, 1) := dk_26 (dk_at dksX10_greater_0 9 rfl rfl)
theorem dX10_greater_10 : decode cX10_greater 10 = .ok (.ireturn, 1) := dk_172 (dk_at dksX10_greater_0 10 rfl rfl)
abbrev cX10_less : ByteArray := prog_10_method_1_code
def yX10_less : MethodName := ⟨RX10, "less", "(II)I"⟩
def dkwX10_less_0 : List UInt8 := [26, 27, 162, 0, 7, 26, 167, 0, 4, 27, 172]
abbrev dktX10_less_0 : List UInt8 := dkwX10_less_0 ++ []
theorem dksX10_less_0 : cX10_less.data.toList.drop 0 = dktX10_less_0 := by decide +kernel
theorem dX10_less_0 : decode cX10_less 0 = .ok (.iload_n 0, 1) := dk_26 (dk_at dksX10_less_0 0 rfl rfl)
theorem dX10_less_1 : decode cX10_less 1 = .ok (.iload_n 1, 1) := dk_27 (dk_at dksX10_less_0 1 rfl rfl)
theorem dX10_less_2 : decode cX10_less 2 = .ok (.if_icmp .ge 7, 3) := dk_162 0 7 (dk_at dksX10_less_0 2 rfl rfl)
theorem dX10_less_5 : decode cX10_less 5 = .ok (.iload_n 0, 1) := dk_26 (dk_at dksX10_less_0 5 rfl rfl)
theorem dX10_less_6 : decode cX10_less 6 = .ok (.goto 4, 3) := dk_167 0 4 (dk_at dksX10_less_0 6 rfl rfl)
theorem dX10_less_9 : decode cX10_less 9 = .ok (.iload_n 1, 1) := dk_27 (dk_at dksX10_less_0 9 rfl rfl)
theorem dX10_less_10 : decode cX10_less 10 = .ok (.ireturn, 1) := dk_172 (dk_at dksX10_less_0 10 rfl rfl)
abbrev cX10_second : ByteArray := prog_10_method_5_code
def yX10_second : MethodName := ⟨RX10, "second", "(III)I"⟩
def dkwX10_second_0 : List UInt8 := [27, 28, 184, 0, 1, 172]
abbrev dktX10_second_0 : List UInt8 := dkwX10_second_0 ++ []
theorem dksX10_second_0 : cX10_second.data.toList.drop 0 = dktX10_second_0 := by decide +kernel
theorem dX10_second_0 : decode cX10_second 0 = .ok (.iload_n 1, 1) := dk_27 (dk_at dksX10_second_0 0 rfl rfl)
theorem dX10_second_1 : decode cX10_second 1 = .ok (.iload_n 2, 1) := dk_28 (dk_at dksX10_second_0 1 rfl rfl)
theorem dX10_second_2 : decode cX10_second 2 = .ok (.invokestatic 1, 3) := dk_184 0 1 (dk_at dksX10_second_0 2 rfl rfl)
theorem dX10_second_5 : decode cX10_second 5 = .ok (.ireturn, 1) := dk_172 (dk_at dksX10_second_0 5 rfl rfl)
theorem q136 : (Jvm.Cond.initialized "FrameSheets$Rule") ∈ lw_all := lw_g (lw_at lw_m1 32 rfl) rfl
theorem q1191 : (Jvm.Cond.static ({ cls := "FrameSheets$Rule", name := "greater", desc := "(II)I" } : Jvm.MethodName)) ∈ lw_all := lw_g (lw_at lw_m5 127 rfl) rfl
theorem q1192 : (Jvm.Cond.code ({ cls := "FrameSheets$Rule", name := "greater", desc := "(II)I" } : Jvm.MethodName) prog_10_method_2_code (2 : Nat) (Option.some Jvm.ClassFile.FieldType.int)) ∈ lw_all := lw_g (lw_at lw_m5 128 rfl) rfl
theorem q1194 : (Jvm.Cond.static ({ cls := "FrameSheets$Rule", name := "less", desc := "(II)I" } : Jvm.MethodName)) ∈ lw_all := lw_g (lw_at lw_m5 130 rfl) rfl
theorem q1195 : (Jvm.Cond.code ({ cls := "FrameSheets$Rule", name := "less", desc := "(II)I" } : Jvm.MethodName) prog_10_method_1_code (2 : Nat) (Option.some Jvm.ClassFile.FieldType.int)) ∈ lw_all := lw_g (lw_at lw_m5 131 rfl) rfl
theorem q1290 : (Jvm.Cond.interfaceMethod "FrameSheets$Rule" "FrameSheets$Rule" "first" "(IIII)I") ∈ lw_tbl := lw_at lw_m5 226 rfl
theorem q1291 : (Jvm.Cond.declares ({ cls := "FrameSheets$Rule", name := "first", desc := "(IIII)I" } : Jvm.MethodName)) ∈ lw_tbl := lw_at lw_m5 227 rfl
theorem q1320 : (Jvm.Cond.interfaceMethod "FrameSheets$Rule" "FrameSheets$Rule" "second" "(III)I") ∈ lw_tbl := lw_at lw_m6 16 rfl
theorem q1321 : (Jvm.Cond.declares ({ cls := "FrameSheets$Rule", name := "second", desc := "(III)I" } : Jvm.MethodName)) ∈ lw_tbl := lw_at lw_m6 17 rfl
theorem q1323 : (Jvm.Cond.instanceMethod ({ cls := "FrameSheets$Rule", name := "second", desc := "(III)I" } : Jvm.MethodName)) ∈ lw_all := lw_g (lw_at lw_m6 19 rfl) rfl
theorem q1324 : (Jvm.Cond.publicMethod ({ cls := "FrameSheets$Rule", name := "second", desc := "(III)I" } : Jvm.MethodName)) ∈ lw_tbl := lw_at lw_m6 20 rfl
theorem q1325 : (Jvm.Cond.code ({ cls := "FrameSheets$Rule", name := "second", desc := "(III)I" } : Jvm.MethodName) prog_10_method_5_code (4 : Nat) (Option.some Jvm.ClassFile.FieldType.int)) ∈ lw_all := lw_g (lw_at lw_m6 21 rfl) rfl
theorem q1326 : (Jvm.Cond.methodLink "FrameSheets$Rule" (1 : Nat) ({ cls := "FrameSheets$Rule", name := "less", desc := "(II)I" } : Jvm.MethodName)) ∈ lw_all := lw_g (lw_at lw_m6 22 rfl) rfl
theorem q1349 : (Jvm.Cond.interfaceMethod "FrameSheets$Rule" "FrameSheets$Rule" "number" "()I") ∈ lw_tbl := lw_at lw_m6 45 rfl
theorem q1350 : (Jvm.Cond.declares ({ cls := "FrameSheets$Rule", name := "number", desc := "()I" } : Jvm.MethodName)) ∈ lw_tbl := lw_at lw_m6 46 rfl

/-! FrameSheets$Kept -/
set_option maxRecDepth 100000
def RX11 : String := "FrameSheets$Kept"
def TX11 : u_T := fun k => match k with
  | 0 => ("FrameSheets$Kept", "deeds", "I", false)
  | 1 => ("FrameSheets$Kept", "notes", "[I", true)
  | _ => ("FrameSheets$Kept", "now", "[I", true)
def tyX11 : Nat → FieldType := fun k => match k with
  | 0 => .int
  | 1 => .array .int
  | _ => .array .int
abbrev wsX110 : List Cond := u_ws RX11 TX11 3
theorem nmX11 : ∀ a, a < 3 → ∀ b, b < 3 → a ≠ b → (TX11 a).2.1 ≠ (TX11 b).2.1 := by decide +kernel
theorem tyX11_ok : ∀ k, k < 3 → parseFieldDescriptor (TX11 k).2.2.1 = some (tyX11 k) := by decide +kernel
abbrev cX11_init : ByteArray := prog_6_method_1_code
def yX11_init : MethodName := ⟨RX11, "<init>", "()V"⟩
def dkwX11_init_0 : List UInt8 := [42, 183, 0, 3, 42, 17, 5, 40, 188, 10, 181, 0, 9, 42, 16, 33, 188, 10, 181, 0, 15, 177]
abbrev dktX11_init_0 : List UInt8 := dkwX11_init_0 ++ []
theorem dksX11_init_0 : cX11_init.data.toList.drop 0 = dktX11_init_0 := by decide +kernel
theorem dX11_init_0 : decode cX11_init 0 = .ok (.aload_n 0, 1) := dk_42 (dk_at dksX11_init_0 0 rfl rfl)
theorem dX11_init_1 : decode cX11_init 1 = .ok (.invokespecial 3, 3) := dk_183 0 3 (dk_at dksX11_init_0 1 rfl rfl)
theorem dX11_init_4 : decode cX11_init 4 = .ok (.aload_n 0, 1) := dk_42 (dk_at dksX11_init_0 4 rfl rfl)
theorem dX11_init_5 : decode cX11_init 5 = .ok (.sipush 1320, 3) := dk_17 5 40 (dk_at dksX11_init_0 5 rfl rfl)
theorem dX11_init_8 : decode cX11_init 8 = .ok (.newarray .int, 2) := dk_188_10 (dk_at dksX11_init_0 8 rfl rfl)
theorem dX11_init_10 : decode cX11_init 10 = .ok (.putfield 9, 3) := dk_181 0 9 (dk_at dksX11_init_0 10 rfl rfl)
theorem dX11_init_13 : decode cX11_init 13 = .ok (.aload_n 0, 1) := dk_42 (dk_at dksX11_init_0 13 rfl rfl)
theorem dX11_init_14 : decode cX11_init 14 = .ok (.bipush 33, 2) := dk_16 33 (dk_at dksX11_init_0 14 rfl rfl)
theorem dX11_init_16 : decode cX11_init 16 = .ok (.newarray .int, 2) := dk_188_10 (dk_at dksX11_init_0 16 rfl rfl)
theorem dX11_init_18 : decode cX11_init 18 = .ok (.putfield 15, 3) := dk_181 0 15 (dk_at dksX11_init_0 18 rfl rfl)
theorem dX11_init_21 : decode cX11_init 21 = .ok (.return_, 1) := dk_177 (dk_at dksX11_init_0 21 rfl rfl)
theorem q137 : (Jvm.Cond.initialized "FrameSheets$Kept") ∈ lw_all := lw_g (lw_at lw_m1 33 rfl) rfl
theorem q1411 : (Jvm.Cond.instantiable "FrameSheets$Kept" (3 : Nat)) ∈ lw_all := lw_g (lw_at lw_m6 107 rfl) rfl
theorem q1413 : (Jvm.Cond.instanceMethod ({ cls := "FrameSheets$Kept", name := "<init>", desc := "()V" } : Jvm.MethodName)) ∈ lw_all := lw_g (lw_at lw_m6 109 rfl) rfl
theorem q1414 : (Jvm.Cond.code ({ cls := "FrameSheets$Kept", name := "<init>", desc := "()V" } : Jvm.MethodName) prog_6_method_1_code (1 : Nat) (Option.none : Option Jvm.ClassFile.FieldType)) ∈ lw_all := lw_g (lw_at lw_m6 110 rfl) rfl
theorem q1415 : (Jvm.Cond.methodLink "FrameSheets$Kept" (3 : Nat) ({ cls := "java/lang/Object", name := "<init>", desc := "()V" } : Jvm.MethodName)) ∈ lw_all := lw_g (lw_at lw_m6 111 rfl) rfl
theorem q1417 : (Jvm.Cond.fieldLink "FrameSheets$Kept" (9 : Nat) "FrameSheets$Kept" "notes" "[I") ∈ lw_all := lw_g (lw_at lw_m6 113 rfl) rfl
theorem q1419 : (Jvm.Cond.fieldLink "FrameSheets$Kept" (15 : Nat) "FrameSheets$Kept" "now" "[I") ∈ lw_all := lw_g (lw_at lw_m6 115 rfl) rfl
theorem q1421 : (Jvm.Cond.lays "FrameSheets$Kept" "FrameSheets$Kept" "deeds" "I") ∈ lw_all := lw_g (lw_at lw_m6 117 rfl) rfl
theorem q1422 : (Jvm.Cond.soleField "FrameSheets$Kept" "deeds") ∈ lw_all := lw_g (lw_at lw_m6 118 rfl) rfl
theorem q1423 : (Jvm.Cond.laysFinal "FrameSheets$Kept" "FrameSheets$Kept" "notes" "[I") ∈ lw_all := lw_g (lw_at lw_m6 119 rfl) rfl
theorem q1424 : (Jvm.Cond.soleField "FrameSheets$Kept" "notes") ∈ lw_all := lw_g (lw_at lw_m6 120 rfl) rfl
theorem q1425 : (Jvm.Cond.laysFinal "FrameSheets$Kept" "FrameSheets$Kept" "now" "[I") ∈ lw_all := lw_g (lw_at lw_m6 121 rfl) rfl
theorem q1426 : (Jvm.Cond.soleField "FrameSheets$Kept" "now") ∈ lw_all := lw_g (lw_at lw_m6 122 rfl) rfl
theorem q1427 : (Jvm.Cond.superclass "FrameSheets$Kept" "java/lang/Object") ∈ lw_all := lw_g (lw_at lw_m6 123 rfl) rfl
theorem in_X11 : ∀ w ∈ wsX110, w ∈ lw_all := lw_in wsX110 [1421, 1423, 1425] (by decide +kernel) (by decide +kernel)

