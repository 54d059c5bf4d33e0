/-! CavePearlsModel -/
set_option maxRecDepth 100000
def RX3 : String := "CavePearlsModel"
def TX3 : u_T := fun k => match k with
  | 0 => ("CavePearlsModel", "thrown", "I", false)
  | 1 => ("CavePearlsModel", "why", "I", false)
  | 2 => ("CavePearlsModel", "whyDetail", "I", false)
  | 3 => ("CavePearlsModel", "reasonNow", "I", false)
  | 4 => ("CavePearlsModel", "detailNow", "I", false)
  | 5 => ("CavePearlsModel", "w", "[I", true)
  | 6 => ("CavePearlsModel", "undos", "[I", true)
  | 7 => ("CavePearlsModel", "savedRow", "[I", true)
  | 8 => ("CavePearlsModel", "mind", "[I", true)
  | 9 => ("CavePearlsModel", "changes", "I", false)
  | 10 => ("CavePearlsModel", "firstChange", "I", false)
  | 11 => ("CavePearlsModel", "isSaved", "Z", false)
  | 12 => ("CavePearlsModel", "line", "[C", true)
  | 13 => ("CavePearlsModel", "lineLength", "I", false)
  | 14 => ("CavePearlsModel", "input", "[C", true)
  | 15 => ("CavePearlsModel", "length", "I", false)
  | 16 => ("CavePearlsModel", "at", "I", false)
  | 17 => ("CavePearlsModel", "numbers", "[I", true)
  | 18 => ("CavePearlsModel", "sort", "I", false)
  | _ => ("CavePearlsModel", "done", "I", false)
def tyX3 : Nat → FieldType := fun k => match k with
  | 0 => .int
  | 1 => .int
  | 2 => .int
  | 3 => .int
  | 4 => .int
  | 5 => .array .int
  | 6 => .array .int
  | 7 => .array .int
  | 8 => .array .int
  | 9 => .int
  | 10 => .int
  | 11 => .boolean
  | 12 => .array .char
  | 13 => .int
  | 14 => .array .char
  | 15 => .int
  | 16 => .int
  | 17 => .array .int
  | 18 => .int
  | _ => .int
abbrev wsX30 : List Cond := u_ws RX3 TX3 20
set_option maxRecDepth 100000 in
theorem nmX3 : ∀ a, a < 20 → ∀ b, b < 20 → a ≠ b → (TX3 a).2.1 ≠ (TX3 b).2.1 := by decide +kernel
set_option maxRecDepth 100000 in
theorem tyX3_ok : ∀ k, k < 20 → parseFieldDescriptor (TX3 k).2.2.1 = some (tyX3 k) := by decide +kernel
abbrev cX3_init : ByteArray := prog_31_method_1_code
def yX3_init : MethodName := ⟨RX3, "<init>", "()V"⟩
def dkwX3_init_3 : List UInt8 := [4, 79, 177]
abbrev dktX3_init_3 : List UInt8 := dkwX3_init_3 ++ []
def dkwX3_init_2 : List UInt8 := [181, 0, 22, 42, 16, 60, 188, 5, 181, 0, 26, 42, 5, 188, 10, 181, 0, 29, 42, 180, 0, 7, 16, 8]
abbrev dktX3_init_2 : List UInt8 := dkwX3_init_2 ++ dktX3_init_3
def dkwX3_init_1 : List UInt8 := [17, 0, 132, 188, 10, 181, 0, 16, 42, 17, 0, 132, 188, 10, 181, 0, 19, 42, 16, 40, 188, 5]
abbrev dktX3_init_1 : List UInt8 := dkwX3_init_1 ++ dktX3_init_2
def dkwX3_init_0 : List UInt8 := [42, 183, 0, 1, 42, 17, 0, 132, 188, 10, 181, 0, 7, 42, 17, 4, 32, 188, 10, 181, 0, 13, 42]
abbrev dktX3_init_0 : List UInt8 := dkwX3_init_0 ++ dktX3_init_1
theorem dksX3_init_0 : cX3_init.data.toList.drop 0 = dktX3_init_0 := by decide +kernel
theorem dksX3_init_1 : cX3_init.data.toList.drop 23 = dktX3_init_1 := dk_seg dksX3_init_0 23 rfl rfl
theorem dksX3_init_2 : cX3_init.data.toList.drop 45 = dktX3_init_2 := dk_seg dksX3_init_1 22 rfl rfl
theorem dksX3_init_3 : cX3_init.data.toList.drop 69 = dktX3_init_3 := dk_seg dksX3_init_2 24 rfl rfl
theorem dX3_init_0 : decode cX3_init 0 = .ok (.aload_n 0, 1) := dk_42 (dk_at dksX3_init_0 0 rfl rfl)
theorem dX3_init_1 : decode cX3_init 1 = .ok (.invokespecial 1, 3) := dk_183 0 1 (dk_at dksX3_init_0 1 rfl rfl)
theorem dX3_init_4 : decode cX3_init 4 = .ok (.aload_n 0, 1) := dk_42 (dk_at dksX3_init_0 4 rfl rfl)
theorem dX3_init_5 : decode cX3_init 5 = .ok (.sipush 132, 3) := dk_17 0 132 (dk_at dksX3_init_0 5 rfl rfl)
theorem dX3_init_8 : decode cX3_init 8 = .ok (.newarray .int, 2) := dk_188_10 (dk_at dksX3_init_0 8 rfl rfl)
theorem dX3_init_10 : decode cX3_init 10 = .ok (.putfield 7, 3) := dk_181 0 7 (dk_at dksX3_init_0 10 rfl rfl)
theorem dX3_init_13 : decode cX3_init 13 = .ok (.aload_n 0, 1) := dk_42 (dk_at dksX3_init_0 13 rfl rfl)
theorem dX3_init_14 : decode cX3_init 14 = .ok (.sipush 1056, 3) := dk_17 4 32 (dk_at dksX3_init_0 14 rfl rfl)
theorem dX3_init_17 : decode cX3_init 17 = .ok (.newarray .int, 2) := dk_188_10 (dk_at dksX3_init_0 17 rfl rfl)
theorem dX3_init_19 : decode cX3_init 19 = .ok (.putfield 13, 3) := dk_181 0 13 (dk_at dksX3_init_0 19 rfl rfl)
theorem dX3_init_22 : decode cX3_init 22 = .ok (.aload_n 0, 1) := dk_42 (dk_at dksX3_init_0 22 rfl rfl)
theorem dX3_init_23 : decode cX3_init 23 = .ok (.sipush 132, 3) := dk_17 0 132 (dk_at dksX3_init_1 0 rfl rfl)
theorem dX3_init_26 : decode cX3_init 26 = .ok (.newarray .int, 2) := dk_188_10 (dk_at dksX3_init_1 3 rfl rfl)
theorem dX3_init_28 : decode cX3_init 28 = .ok (.putfield 16, 3) := dk_181 0 16 (dk_at dksX3_init_1 5 rfl rfl)
theorem dX3_init_31 : decode cX3_init 31 = .ok (.aload_n 0, 1) := dk_42 (dk_at dksX3_init_1 8 rfl rfl)
theorem dX3_init_32 : decode cX3_init 32 = .ok (.sipush 132, 3) := dk_17 0 132 (dk_at dksX3_init_1 9 rfl rfl)
theorem dX3_init_35 : decode cX3_init 35 = .ok (.newarray .int, 2) := dk_188_10 (dk_at dksX3_init_1 12 rfl rfl)
theorem dX3_init_37 : decode cX3_init 37 = .ok (.putfield 19, 3) := dk_181 0 19 (dk_at dksX3_init_1 14 rfl rfl)
theorem dX3_init_40 : decode cX3_init 40 = .ok (.aload_n 0, 1) := dk_42 (dk_at dksX3_init_1 17 rfl rfl)
theorem dX3_init_41 : decode cX3_init 41 = .ok (.bipush 40, 2) := dk_16 40 (dk_at dksX3_init_1 18 rfl rfl)
theorem dX3_init_43 : decode cX3_init 43 = .ok (.newarray .char, 2) := dk_188_5 (dk_at dksX3_init_1 20 rfl rfl)
theorem dX3_init_45 : decode cX3_init 45 = .ok (.putfield 22, 3) := dk_181 0 22 (dk_at dksX3_init_2 0 rfl rfl)
theorem dX3_init_48 : decode cX3_init 48 = .ok (.aload_n 0, 1) := dk_42 (dk_at dksX3_init_2 3 rfl rfl)
theorem dX3_init_49 : decode cX3_init 49 = .ok (.bipush 60, 2) := dk_16 60 (dk_at dksX3_init_2 4 rfl rfl)
theorem dX3_init_51 : decode cX3_init 51 = .ok (.newarray .char, 2) := dk_188_5 (dk_at dksX3_init_2 6 rfl rfl)
theorem dX3_init_53 : decode cX3_init 53 = .ok (.putfield 26, 3) := dk_181 0 26 (dk_at dksX3_init_2 8 rfl rfl)
theorem dX3_init_56 : decode cX3_init 56 = .ok (.aload_n 0, 1) := dk_42 (dk_at dksX3_init_2 11 rfl rfl)
theorem dX3_init_57 : decode cX3_init 57 = .ok (.iconst 2, 1) := dk_5 (dk_at dksX3_init_2 12 rfl rfl)
theorem dX3_init_58 : decode cX3_init 58 = .ok (.newarray .int, 2) := dk_188_10 (dk_at dksX3_init_2 13 rfl rfl)
theorem dX3_init_60 : decode cX3_init 60 = .ok (.putfield 29, 3) := dk_181 0 29 (dk_at dksX3_init_2 15 rfl rfl)
theorem dX3_init_63 : decode cX3_init 63 = .ok (.aload_n 0, 1) := dk_42 (dk_at dksX3_init_2 18 rfl rfl)
theorem dX3_init_64 : decode cX3_init 64 = .ok (.getfield 7, 3) := dk_180 0 7 (dk_at dksX3_init_2 19 rfl rfl)
theorem dX3_init_67 : decode cX3_init 67 = .ok (.bipush 8, 2) := dk_16 8 (dk_at dksX3_init_2 22 rfl rfl)
theorem dX3_init_69 : decode cX3_init 69 = .ok (.iconst 1, 1) := dk_4 (dk_at dksX3_init_3 0 rfl rfl)
theorem dX3_init_70 : decode cX3_init 70 = .ok (.iastore, 1) := dk_79 (dk_at dksX3_init_3 1 rfl rfl)
theorem dX3_init_71 : decode cX3_init 71 = .ok (.return_, 1) := dk_177 (dk_at dksX3_init_3 2 rfl rfl)
abbrev cX3_thrown : ByteArray := prog_31_method_2_code
def yX3_thrown : MethodName := ⟨RX3, "thrown", "()I"⟩
theorem dX3_thrown_0 : decode cX3_thrown 0 = .ok (.aload_n 0, 1) := by decide +kernel
theorem dX3_thrown_1 : decode cX3_thrown 1 = .ok (.getfield 32, 3) := by decide +kernel
theorem dX3_thrown_4 : decode cX3_thrown 4 = .ok (.ireturn, 1) := by decide +kernel
abbrev cX3_addPool : ByteArray := prog_31_method_22_code
def yX3_addPool : MethodName := ⟨RX3, "addPool", "(I)I"⟩
def dkwX3_addPool_3 : List UInt8 := [4, 96, 79, 42, 180, 0, 7, 4, 46, 4, 100, 172]
abbrev dktX3_addPool_3 : List UInt8 := dkwX3_addPool_3 ++ []
def dkwX3_addPool_2 : List UInt8 := [180, 0, 7, 16, 16, 16, 10, 42, 180, 0, 7, 4, 46, 104, 96, 27, 79, 42, 180, 0, 7, 4, 92, 46]
abbrev dktX3_addPool_2 : List UInt8 := dkwX3_addPool_2 ++ dktX3_addPool_3
def dkwX3_addPool_1 : List UInt8 := [180, 0, 7, 4, 46, 16, 6, 160, 0, 12, 42, 5, 4, 16, 6, 182, 0, 52, 172, 42, 182, 0, 76, 42]
abbrev dktX3_addPool_1 : List UInt8 := dkwX3_addPool_1 ++ dktX3_addPool_2
def dkwX3_addPool_0 : List UInt8 := [42, 3, 181, 0, 32, 27, 8, 16, 99, 184, 0, 68, 154, 0, 9, 42, 4, 182, 0, 42, 172, 42]
abbrev dktX3_addPool_0 : List UInt8 := dkwX3_addPool_0 ++ dktX3_addPool_1
theorem dksX3_addPool_0 : cX3_addPool.data.toList.drop 0 = dktX3_addPool_0 := by decide +kernel
theorem dksX3_addPool_1 : cX3_addPool.data.toList.drop 22 = dktX3_addPool_1 := dk_seg dksX3_addPool_0 22 rfl rfl
theorem dksX3_addPool_2 : cX3_addPool.data.toList.drop 46 = dktX3_addPool_2 := dk_seg dksX3_addPool_1 24 rfl rfl
theorem dksX3_addPool_3 : cX3_addPool.data.toList.drop 70 = dktX3_addPool_3 := dk_seg dksX3_addPool_2 24 rfl rfl
theorem dX3_addPool_0 : decode cX3_addPool 0 = .ok (.aload_n 0, 1) := dk_42 (dk_at dksX3_addPool_0 0 rfl rfl)
theorem dX3_addPool_1 : decode cX3_addPool 1 = .ok (.iconst 0, 1) := dk_3 (dk_at dksX3_addPool_0 1 rfl rfl)
theorem dX3_addPool_2 : decode cX3_addPool 2 = .ok (.putfield 32, 3) := dk_181 0 32 (dk_at dksX3_addPool_0 2 rfl rfl)
theorem dX3_addPool_5 : decode cX3_addPool 5 = .ok (.iload_n 1, 1) := dk_27 (dk_at dksX3_addPool_0 5 rfl rfl)
theorem dX3_addPool_6 : decode cX3_addPool 6 = .ok (.iconst 5, 1) := dk_8 (dk_at dksX3_addPool_0 6 rfl rfl)
theorem dX3_addPool_7 : decode cX3_addPool 7 = .ok (.bipush 99, 2) := dk_16 99 (dk_at dksX3_addPool_0 7 rfl rfl)
theorem dX3_addPool_9 : decode cX3_addPool 9 = .ok (.invokestatic 68, 3) := dk_184 0 68 (dk_at dksX3_addPool_0 9 rfl rfl)
theorem dX3_addPool_12 : decode cX3_addPool 12 = .ok (.ifCond .ne 9, 3) := dk_154 0 9 (dk_at dksX3_addPool_0 12 rfl rfl)
theorem dX3_addPool_15 : decode cX3_addPool 15 = .ok (.aload_n 0, 1) := dk_42 (dk_at dksX3_addPool_0 15 rfl rfl)
theorem dX3_addPool_16 : decode cX3_addPool 16 = .ok (.iconst 1, 1) := dk_4 (dk_at dksX3_addPool_0 16 rfl rfl)
theorem dX3_addPool_17 : decode cX3_addPool 17 = .ok (.invokevirtual 42, 3) := dk_182 0 42 (dk_at dksX3_addPool_0 17 rfl rfl)
theorem dX3_addPool_20 : decode cX3_addPool 20 = .ok (.ireturn, 1) := dk_172 (dk_at dksX3_addPool_0 20 rfl rfl)
theorem dX3_addPool_21 : decode cX3_addPool 21 = .ok (.aload_n 0, 1) := dk_42 (dk_at dksX3_addPool_0 21 rfl rfl)
theorem dX3_addPool_22 : decode cX3_addPool 22 = .ok (.getfield 7, 3) := dk_180 0 7 (dk_at dksX3_addPool_1 0 rfl rfl)
theorem dX3_addPool_25 : decode cX3_addPool 25 = .ok (.iconst 1, 1) := dk_4 (dk_at dksX3_addPool_1 3 rfl rfl)
theorem dX3_addPool_26 : decode cX3_addPool 26 = .ok (.iaload, 1) := dk_46 (dk_at dksX3_addPool_1 4 rfl rfl)
theorem dX3_addPool_27 : decode cX3_addPool 27 = .ok (.bipush 6, 2) := dk_16 6 (dk_at dksX3_addPool_1 5 rfl rfl)
theorem dX3_addPool_29 : decode cX3_addPool 29 = .ok (.if_icmp .ne 12, 3) := dk_160 0 12 (dk_at dksX3_addPool_1 7 rfl rfl)
theorem dX3_addPool_32 : decode cX3_addPool 32 = .ok (.aload_n 0, 1) := dk_42 (dk_at dksX3_addPool_1 10 rfl rfl)
theorem dX3_addPool_33 : decode cX3_addPool 33 = .ok (.iconst 2, 1) := dk_5 (dk_at dksX3_addPool_1 11 rfl rfl)
theorem dX3_addPool_34 : decode cX3_addPool 34 = .ok (.iconst 1, 1) := dk_4 (dk_at dksX3_addPool_1 12 rfl rfl)
theorem dX3_addPool_35 : decode cX3_addPool 35 = .ok (.bipush 6, 2) := dk_16 6 (dk_at dksX3_addPool_1 13 rfl rfl)
theorem dX3_addPool_37 : decode cX3_addPool 37 = .ok (.invokevirtual 52, 3) := dk_182 0 52 (dk_at dksX3_addPool_1 15 rfl rfl)
theorem dX3_addPool_40 : decode cX3_addPool 40 = .ok (.ireturn, 1) := dk_172 (dk_at dksX3_addPool_1 18 rfl rfl)
theorem dX3_addPool_41 : decode cX3_addPool 41 = .ok (.aload_n 0, 1) := dk_42 (dk_at dksX3_addPool_1 19 rfl rfl)
theorem dX3_addPool_42 : decode cX3_addPool 42 = .ok (.invokevirtual 76, 3) := dk_182 0 76 (dk_at dksX3_addPool_1 20 rfl rfl)
theorem dX3_addPool_45 : decode cX3_addPool 45 = .ok (.aload_n 0, 1) := dk_42 (dk_at dksX3_addPool_1 23 rfl rfl)
theorem dX3_addPool_46 : decode cX3_addPool 46 = .ok (.getfield 7, 3) := dk_180 0 7 (dk_at dksX3_addPool_2 0 rfl rfl)
theorem dX3_addPool_49 : decode cX3_addPool 49 = .ok (.bipush 16, 2) := dk_16 16 (dk_at dksX3_addPool_2 3 rfl rfl)
theorem dX3_addPool_51 : decode cX3_addPool 51 = .ok (.bipush 10, 2) := dk_16 10 (dk_at dksX3_addPool_2 5 rfl rfl)
theorem dX3_addPool_53 : decode cX3_addPool 53 = .ok (.aload_n 0, 1) := dk_42 (dk_at dksX3_addPool_2 7 rfl rfl)
theorem dX3_addPool_54 : decode cX3_addPool 54 = .ok (.getfield 7, 3) := dk_180 0 7 (dk_at dksX3_addPool_2 8 rfl rfl)
theorem dX3_addPool_57 : decode cX3_addPool 57 = .ok (.iconst 1, 1) := dk_4 (dk_at dksX3_addPool_2 11 rfl rfl)
theorem dX3_addPool_58 : decode cX3_addPool 58 = .ok (.iaload, 1) := dk_46 (dk_at dksX3_addPool_2 12 rfl rfl)
theorem dX3_addPool_59 : decode cX3_addPool 59 = .ok (.imul, 1) := dk_104 (dk_at dksX3_addPool_2 13 rfl rfl)
theorem dX3_addPool_60 : decode cX3_addPool 60 = .ok (.iadd, 1) := dk_96 (dk_at dksX3_addPool_2 14 rfl rfl)
theorem dX3_addPool_61 : decode cX3_addPool 61 = .ok (.iload_n 1, 1) := dk_27 (dk_at dksX3_addPool_2 15 rfl rfl)
theorem dX3_addPool_62 : decode cX3_addPool 62 = .ok (.iastore, 1) := dk_79 (dk_at dksX3_addPool_2 16 rfl rfl)
theorem dX3_addPool_63 : decode cX3_addPool 63 = .ok (.aload_n 0, 1) := dk_42 (dk_at dksX3_addPool_2 17 rfl rfl)
theorem dX3_addPool_64 : decode cX3_addPool 64 = .ok (.getfield 7, 3) := dk_180 0 7 (dk_at dksX3_addPool_2 18 rfl rfl)
theorem dX3_addPool_67 : decode cX3_addPool 67 = .ok (.iconst 1, 1) := dk_4 (dk_at dksX3_addPool_2 21 rfl rfl)
theorem dX3_addPool_68 : decode cX3_addPool 68 = .ok (.dup2, 1) := dk_92 (dk_at dksX3_addPool_2 22 rfl rfl)
theorem dX3_addPool_69 : decode cX3_addPool 69 = .ok (.iaload, 1) := dk_46 (dk_at dksX3_addPool_2 23 rfl rfl)
theorem dX3_addPool_70 : decode cX3_addPool 70 = .ok (.iconst 1, 1) := dk_4 (dk_at dksX3_addPool_3 0 rfl rfl)
theorem dX3_addPool_71 : decode cX3_addPool 71 = .ok (.iadd, 1) := dk_96 (dk_at dksX3_addPool_3 1 rfl rfl)
theorem dX3_addPool_72 : decode cX3_addPool 72 = .ok (.iastore, 1) := dk_79 (dk_at dksX3_addPool_3 2 rfl rfl)
theorem dX3_addPool_73 : decode cX3_addPool 73 = .ok (.aload_n 0, 1) := dk_42 (dk_at dksX3_addPool_3 3 rfl rfl)
theorem dX3_addPool_74 : decode cX3_addPool 74 = .ok (.getfield 7, 3) := dk_180 0 7 (dk_at dksX3_addPool_3 4 rfl rfl)
theorem dX3_addPool_77 : decode cX3_addPool 77 = .ok (.iconst 1, 1) := dk_4 (dk_at dksX3_addPool_3 7 rfl rfl)
theorem dX3_addPool_78 : decode cX3_addPool 78 = .ok (.iaload, 1) := dk_46 (dk_at dksX3_addPool_3 8 rfl rfl)
theorem dX3_addPool_79 : decode cX3_addPool 79 = .ok (.iconst 1, 1) := dk_4 (dk_at dksX3_addPool_3 9 rfl rfl)
theorem dX3_addPool_80 : decode cX3_addPool 80 = .ok (.isub, 1) := dk_100 (dk_at dksX3_addPool_3 10 rfl rfl)
theorem dX3_addPool_81 : decode cX3_addPool 81 = .ok (.ireturn, 1) := dk_172 (dk_at dksX3_addPool_3 11 rfl rfl)
abbrev cX3_isBetween : ByteArray := prog_31_method_7_code
def yX3_isBetween : MethodName := ⟨RX3, "isBetween", "(III)Z"⟩
def dkwX3_isBetween_0 : List UInt8 := [27, 26, 163, 0, 12, 26, 28, 163, 0, 7, 4, 167, 0, 4, 3, 172]
abbrev dktX3_isBetween_0 : List UInt8 := dkwX3_isBetween_0 ++ []
theorem dksX3_isBetween_0 : cX3_isBetween.data.toList.drop 0 = dktX3_isBetween_0 := by decide +kernel
theorem dX3_isBetween_0 : decode cX3_isBetween 0 = .ok (.iload_n 1, 1) := dk_27 (dk_at dksX3_isBetween_0 0 rfl rfl)
theorem dX3_isBetween_1 : decode cX3_isBetween 1 = .ok (.iload_n 0, 1) := dk_26 (dk_at dksX3_isBetween_0 1 rfl rfl)
theorem dX3_isBetween_2 : decode cX3_isBetween 2 = .ok (.if_icmp .gt 12, 3) := dk_163 0 12 (dk_at dksX3_isBetween_0 2 rfl rfl)
theorem dX3_isBetween_5 : decode cX3_isBetween 5 = .ok (.iload_n 0, 1) := dk_26 (dk_at dksX3_isBetween_0 5 rfl rfl)
theorem dX3_isBetween_6 : decode cX3_isBetween 6 = .ok (.iload_n 2, 1) := dk_28 (dk_at dksX3_isBetween_0 6 rfl rfl)
theorem dX3_isBetween_7 : decode cX3_isBetween 7 = .ok (.if_icmp .gt 7, 3) := dk_163 0 7 (dk_at dksX3_isBetween_0 7 rfl rfl)
theorem dX3_isBetween_10 : decode cX3_isBetween 10 = .ok (.iconst 1, 1) := dk_4 (dk_at dksX3_isBetween_0 10 rfl rfl)
theorem dX3_isBetween_11 : decode cX3_isBetween 11 = .ok (.goto 4, 3) := dk_167 0 4 (dk_at dksX3_isBetween_0 11 rfl rfl)
theorem dX3_isBetween_14 : decode cX3_isBetween 14 = .ok (.iconst 0, 1) := dk_3 (dk_at dksX3_isBetween_0 14 rfl rfl)
theorem dX3_isBetween_15 : decode cX3_isBetween 15 = .ok (.ireturn, 1) := dk_172 (dk_at dksX3_isBetween_0 15 rfl rfl)
abbrev cX3_fails : ByteArray := prog_31_method_3_code
def yX3_fails : MethodName := ⟨RX3, "fails", "(I)I"⟩
def dkwX3_fails_0 : List UInt8 := [42, 27, 181, 0, 32, 3, 172]
abbrev dktX3_fails_0 : List UInt8 := dkwX3_fails_0 ++ []
theorem dksX3_fails_0 : cX3_fails.data.toList.drop 0 = dktX3_fails_0 := by decide +kernel
theorem dX3_fails_0 : decode cX3_fails 0 = .ok (.aload_n 0, 1) := dk_42 (dk_at dksX3_fails_0 0 rfl rfl)
theorem dX3_fails_1 : decode cX3_fails 1 = .ok (.iload_n 1, 1) := dk_27 (dk_at dksX3_fails_0 1 rfl rfl)
theorem dX3_fails_2 : decode cX3_fails 2 = .ok (.putfield 32, 3) := dk_181 0 32 (dk_at dksX3_fails_0 2 rfl rfl)
theorem dX3_fails_5 : decode cX3_fails 5 = .ok (.iconst 0, 1) := dk_3 (dk_at dksX3_fails_0 5 rfl rfl)
theorem dX3_fails_6 : decode cX3_fails 6 = .ok (.ireturn, 1) := dk_172 (dk_at dksX3_fails_0 6 rfl rfl)
abbrev cX3_refuses : ByteArray := prog_31_method_4_code
def yX3_refuses : MethodName := ⟨RX3, "refuses", "(III)I"⟩
def dkwX3_refuses_0 : List UInt8 := [42, 28, 181, 0, 36, 42, 29, 181, 0, 39, 42, 27, 182, 0, 42, 172]
abbrev dktX3_refuses_0 : List UInt8 := dkwX3_refuses_0 ++ []
theorem dksX3_refuses_0 : cX3_refuses.data.toList.drop 0 = dktX3_refuses_0 := by decide +kernel
theorem dX3_refuses_0 : decode cX3_refuses 0 = .ok (.aload_n 0, 1) := dk_42 (dk_at dksX3_refuses_0 0 rfl rfl)
theorem dX3_refuses_1 : decode cX3_refuses 1 = .ok (.iload_n 2, 1) := dk_28 (dk_at dksX3_refuses_0 1 rfl rfl)
theorem dX3_refuses_2 : decode cX3_refuses 2 = .ok (.putfield 36, 3) := dk_181 0 36 (dk_at dksX3_refuses_0 2 rfl rfl)
theorem dX3_refuses_5 : decode cX3_refuses 5 = .ok (.aload_n 0, 1) := dk_42 (dk_at dksX3_refuses_0 5 rfl rfl)
theorem dX3_refuses_6 : decode cX3_refuses 6 = .ok (.iload_n 3, 1) := dk_29 (dk_at dksX3_refuses_0 6 rfl rfl)
theorem dX3_refuses_7 : decode cX3_refuses 7 = .ok (.putfield 39, 3) := dk_181 0 39 (dk_at dksX3_refuses_0 7 rfl rfl)
theorem dX3_refuses_10 : decode cX3_refuses 10 = .ok (.aload_n 0, 1) := dk_42 (dk_at dksX3_refuses_0 10 rfl rfl)
theorem dX3_refuses_11 : decode cX3_refuses 11 = .ok (.iload_n 1, 1) := dk_27 (dk_at dksX3_refuses_0 11 rfl rfl)
theorem dX3_refuses_12 : decode cX3_refuses 12 = .ok (.invokevirtual 42, 3) := dk_182 0 42 (dk_at dksX3_refuses_0 12 rfl rfl)
theorem dX3_refuses_15 : decode cX3_refuses 15 = .ok (.ireturn, 1) := dk_172 (dk_at dksX3_refuses_0 15 rfl rfl)
abbrev cX3_remembers : ByteArray := prog_31_method_11_code
def yX3_remembers : MethodName := ⟨RX3, "remembers", "()V"⟩
def dkwX3_remembers_0 : List UInt8 := [42, 182, 0, 62, 42, 182, 0, 65, 177]
abbrev dktX3_remembers_0 : List UInt8 := dkwX3_remembers_0 ++ []
theorem dksX3_remembers_0 : cX3_remembers.data.toList.drop 0 = dktX3_remembers_0 := by decide +kernel
theorem dX3_remembers_0 : decode cX3_remembers 0 = .ok (.aload_n 0, 1) := dk_42 (dk_at dksX3_remembers_0 0 rfl rfl)
theorem dX3_remembers_1 : decode cX3_remembers 1 = .ok (.invokevirtual 62, 3) := dk_182 0 62 (dk_at dksX3_remembers_0 1 rfl rfl)
theorem dX3_remembers_4 : decode cX3_remembers 4 = .ok (.aload_n 0, 1) := dk_42 (dk_at dksX3_remembers_0 4 rfl rfl)
theorem dX3_remembers_5 : decode cX3_remembers 5 = .ok (.invokevirtual 65, 3) := dk_182 0 65 (dk_at dksX3_remembers_0 5 rfl rfl)
theorem dX3_remembers_8 : decode cX3_remembers 8 = .ok (.return_, 1) := dk_177 (dk_at dksX3_remembers_0 8 rfl rfl)
abbrev cX3_thinks : ByteArray := prog_31_method_8_code
def yX3_thinks : MethodName := ⟨RX3, "thinks", "()V"⟩
def dkwX3_thinks_1 : List UInt8 := [167, 255, 234, 177]
abbrev dktX3_thinks_1 : List UInt8 := dkwX3_thinks_1 ++ []
def dkwX3_thinks_0 : List UInt8 := [3, 60, 27, 17, 0, 132, 162, 0, 21, 42, 180, 0, 19, 27, 42, 180, 0, 7, 27, 46, 79, 132, 1, 1]
abbrev dktX3_thinks_0 : List UInt8 := dkwX3_thinks_0 ++ dktX3_thinks_1
theorem dksX3_thinks_0 : cX3_thinks.data.toList.drop 0 = dktX3_thinks_0 := by decide +kernel
theorem dksX3_thinks_1 : cX3_thinks.data.toList.drop 24 = dktX3_thinks_1 := dk_seg dksX3_thinks_0 24 rfl rfl
theorem dX3_thinks_0 : decode cX3_thinks 0 = .ok (.iconst 0, 1) := dk_3 (dk_at dksX3_thinks_0 0 rfl rfl)
theorem dX3_thinks_1 : decode cX3_thinks 1 = .ok (.istore_n 1, 1) := dk_60 (dk_at dksX3_thinks_0 1 rfl rfl)
theorem dX3_thinks_2 : decode cX3_thinks 2 = .ok (.iload_n 1, 1) := dk_27 (dk_at dksX3_thinks_0 2 rfl rfl)
theorem dX3_thinks_3 : decode cX3_thinks 3 = .ok (.sipush 132, 3) := dk_17 0 132 (dk_at dksX3_thinks_0 3 rfl rfl)
theorem dX3_thinks_6 : decode cX3_thinks 6 = .ok (.if_icmp .ge 21, 3) := dk_162 0 21 (dk_at dksX3_thinks_0 6 rfl rfl)
theorem dX3_thinks_9 : decode cX3_thinks 9 = .ok (.aload_n 0, 1) := dk_42 (dk_at dksX3_thinks_0 9 rfl rfl)
theorem dX3_thinks_10 : decode cX3_thinks 10 = .ok (.getfield 19, 3) := dk_180 0 19 (dk_at dksX3_thinks_0 10 rfl rfl)
theorem dX3_thinks_13 : decode cX3_thinks 13 = .ok (.iload_n 1, 1) := dk_27 (dk_at dksX3_thinks_0 13 rfl rfl)
theorem dX3_thinks_14 : decode cX3_thinks 14 = .ok (.aload_n 0, 1) := dk_42 (dk_at dksX3_thinks_0 14 rfl rfl)
theorem dX3_thinks_15 : decode cX3_thinks 15 = .ok (.getfield 7, 3) := dk_180 0 7 (dk_at dksX3_thinks_0 15 rfl rfl)
theorem dX3_thinks_18 : decode cX3_thinks 18 = .ok (.iload_n 1, 1) := dk_27 (dk_at dksX3_thinks_0 18 rfl rfl)
theorem dX3_thinks_19 : decode cX3_thinks 19 = .ok (.iaload, 1) := dk_46 (dk_at dksX3_thinks_0 19 rfl rfl)
theorem dX3_thinks_20 : decode cX3_thinks 20 = .ok (.iastore, 1) := dk_79 (dk_at dksX3_thinks_0 20 rfl rfl)
theorem dX3_thinks_21 : decode cX3_thinks 21 = .ok (.iinc 1 1, 3) := dk_132 1 1 (dk_at dksX3_thinks_0 21 rfl rfl)
theorem dX3_thinks_24 : decode cX3_thinks 24 = .ok (.goto (-22), 3) := dk_167 255 234 (dk_at dksX3_thinks_1 0 rfl rfl)
theorem dX3_thinks_27 : decode cX3_thinks 27 = .ok (.return_, 1) := dk_177 (dk_at dksX3_thinks_1 3 rfl rfl)
abbrev cX3_keepsMind : ByteArray := prog_31_method_10_code
def yX3_keepsMind : MethodName := ⟨RX3, "keepsMind", "()V"⟩
def dkwX3_keepsMind_3 : List UInt8 := [132, 2, 1, 167, 255, 228, 42, 89, 180, 0, 56, 4, 96, 181, 0, 56, 177]
abbrev dktX3_keepsMind_3 : List UInt8 := dkwX3_keepsMind_3 ++ []
def dkwX3_keepsMind_2 : List UInt8 := [17, 0, 132, 162, 0, 27, 42, 180, 0, 13, 17, 0, 132, 27, 104, 28, 96, 42, 180, 0, 19, 28, 46, 79]
abbrev dktX3_keepsMind_2 : List UInt8 := dkwX3_keepsMind_2 ++ dktX3_keepsMind_3
def dkwX3_keepsMind_1 : List UInt8 := [180, 0, 56, 4, 100, 181, 0, 56, 42, 180, 0, 59, 42, 180, 0, 56, 96, 16, 8, 112, 60, 3, 61, 28]
abbrev dktX3_keepsMind_1 : List UInt8 := dkwX3_keepsMind_1 ++ dktX3_keepsMind_2
def dkwX3_keepsMind_0 : List UInt8 := [42, 180, 0, 56, 16, 8, 160, 0, 26, 42, 42, 180, 0, 59, 4, 96, 16, 8, 112, 181, 0, 59, 42, 89]
abbrev dktX3_keepsMind_0 : List UInt8 := dkwX3_keepsMind_0 ++ dktX3_keepsMind_1
theorem dksX3_keepsMind_0 : cX3_keepsMind.data.toList.drop 0 = dktX3_keepsMind_0 := by decide +kernel
theorem dksX3_keepsMind_1 : cX3_keepsMind.data.toList.drop 24 = dktX3_keepsMind_1 := dk_seg dksX3_keepsMind_0 24 rfl rfl
theorem dksX3_keepsMind_2 : cX3_keepsMind.data.toList.drop 48 = dktX3_keepsMind_2 := dk_seg dksX3_keepsMind_1 24 rfl rfl
theorem dksX3_keepsMind_3 : cX3_keepsMind.data.toList.drop 72 = dktX3_keepsMind_3 := dk_seg dksX3_keepsMind_2 24 rfl rfl
theorem dX3_keepsMind_0 : decode cX3_keepsMind 0 = .ok (.aload_n 0, 1) := dk_42 (dk_at dksX3_keepsMind_0 0 rfl rfl)
theorem dX3_keepsMind_1 : decode cX3_keepsMind 1 = .ok (.getfield 56, 3) := dk_180 0 56 (dk_at dksX3_keepsMind_0 1 rfl rfl)
theorem dX3_keepsMind_4 : decode cX3_keepsMind 4 = .ok (.bipush 8, 2) := dk_16 8 (dk_at dksX3_keepsMind_0 4 rfl rfl)
theorem dX3_keepsMind_6 : decode cX3_keepsMind 6 = .ok (.if_icmp .ne 26, 3) := dk_160 0 26 (dk_at dksX3_keepsMind_0 6 rfl rfl)
theorem dX3_keepsMind_9 : decode cX3_keepsMind 9 = .ok (.aload_n 0, 1) := dk_42 (dk_at dksX3_keepsMind_0 9 rfl rfl)
theorem dX3_keepsMind_10 : decode cX3_keepsMind 10 = .ok (.aload_n 0, 1) := dk_42 (dk_at dksX3_keepsMind_0 10 rfl rfl)
theorem dX3_keepsMind_11 : decode cX3_keepsMind 11 = .ok (.getfield 59, 3) := dk_180 0 59 (dk_at dksX3_keepsMind_0 11 rfl rfl)
theorem dX3_keepsMind_14 : decode cX3_keepsMind 14 = .ok (.iconst 1, 1) := dk_4 (dk_at dksX3_keepsMind_0 14 rfl rfl)
theorem dX3_keepsMind_15 : decode cX3_keepsMind 15 = .ok (.iadd, 1) := dk_96 (dk_at dksX3_keepsMind_0 15 rfl rfl)
theorem dX3_keepsMind_16 : decode cX3_keepsMind 16 = .ok (.bipush 8, 2) := dk_16 8 (dk_at dksX3_keepsMind_0 16 rfl rfl)
theorem dX3_keepsMind_18 : decode cX3_keepsMind 18 = .ok (.irem, 1) := dk_112 (dk_at dksX3_keepsMind_0 18 rfl rfl)
theorem dX3_keepsMind_19 : decode cX3_keepsMind 19 = .ok (.putfield 59, 3) := dk_181 0 59 (dk_at dksX3_keepsMind_0 19 rfl rfl)
theorem dX3_keepsMind_22 : decode cX3_keepsMind 22 = .ok (.aload_n 0, 1) := dk_42 (dk_at dksX3_keepsMind_0 22 rfl rfl)
theorem dX3_keepsMind_23 : decode cX3_keepsMind 23 = .ok (.dup, 1) := dk_89 (dk_at dksX3_keepsMind_0 23 rfl rfl)
theorem dX3_keepsMind_24 : decode cX3_keepsMind 24 = .ok (.getfield 56, 3) := dk_180 0 56 (dk_at dksX3_keepsMind_1 0 rfl rfl)
theorem dX3_keepsMind_27 : decode cX3_keepsMind 27 = .ok (.iconst 1, 1) := dk_4 (dk_at dksX3_keepsMind_1 3 rfl rfl)
theorem dX3_keepsMind_28 : decode cX3_keepsMind 28 = .ok (.isub, 1) := dk_100 (dk_at dksX3_keepsMind_1 4 rfl rfl)
theorem dX3_keepsMind_29 : decode cX3_keepsMind 29 = .ok (.putfield 56, 3) := dk_181 0 56 (dk_at dksX3_keepsMind_1 5 rfl rfl)
theorem dX3_keepsMind_32 : decode cX3_keepsMind 32 = .ok (.aload_n 0, 1) := dk_42 (dk_at dksX3_keepsMind_1 8 rfl rfl)
theorem dX3_keepsMind_33 : decode cX3_keepsMind 33 = .ok (.getfield 59, 3) := dk_180 0 59 (dk_at dksX3_keepsMind_1 9 rfl rfl)
theorem dX3_keepsMind_36 : decode cX3_keepsMind 36 = .ok (.aload_n 0, 1) := dk_42 (dk_at dksX3_keepsMind_1 12 rfl rfl)
theorem dX3_keepsMind_37 : decode cX3_keepsMind 37 = .ok (.getfield 56, 3) := dk_180 0 56 (dk_at dksX3_keepsMind_1 13 rfl rfl)
theorem dX3_keepsMind_40 : decode cX3_keepsMind 40 = .ok (.iadd, 1) := dk_96 (dk_at dksX3_keepsMind_1 16 rfl rfl)
theorem dX3_keepsMind_41 : decode cX3_keepsMind 41 = .ok (.bipush 8, 2) := dk_16 8 (dk_at dksX3_keepsMind_1 17 rfl rfl)
theorem dX3_keepsMind_43 : decode cX3_keepsMind 43 = .ok (.irem, 1) := dk_112 (dk_at dksX3_keepsMind_1 19 rfl rfl)
theorem dX3_keepsMind_44 : decode cX3_keepsMind 44 = .ok (.istore_n 1, 1) := dk_60 (dk_at dksX3_keepsMind_1 20 rfl rfl)
theorem dX3_keepsMind_45 : decode cX3_keepsMind 45 = .ok (.iconst 0, 1) := dk_3 (dk_at dksX3_keepsMind_1 21 rfl rfl)
theorem dX3_keepsMind_46 : decode cX3_keepsMind 46 = .ok (.istore_n 2, 1) := dk_61 (dk_at dksX3_keepsMind_1 22 rfl rfl)
theorem dX3_keepsMind_47 : decode cX3_keepsMind 47 = .ok (.iload_n 2, 1) := dk_28 (dk_at dksX3_keepsMind_1 23 rfl rfl)
theorem dX3_keepsMind_48 : decode cX3_keepsMind 48 = .ok (.sipush 132, 3) := dk_17 0 132 (dk_at dksX3_keepsMind_2 0 rfl rfl)
theorem dX3_keepsMind_51 : decode cX3_keepsMind 51 = .ok (.if_icmp .ge 27, 3) := dk_162 0 27 (dk_at dksX3_keepsMind_2 3 rfl rfl)
theorem dX3_keepsMind_54 : decode cX3_keepsMind 54 = .ok (.aload_n 0, 1) := dk_42 (dk_at dksX3_keepsMind_2 6 rfl rfl)
theorem dX3_keepsMind_55 : decode cX3_keepsMind 55 = .ok (.getfield 13, 3) := dk_180 0 13 (dk_at dksX3_keepsMind_2 7 rfl rfl)
theorem dX3_keepsMind_58 : decode cX3_keepsMind 58 = .ok (.sipush 132, 3) := dk_17 0 132 (dk_at dksX3_keepsMind_2 10 rfl rfl)
theorem dX3_keepsMind_61 : decode cX3_keepsMind 61 = .ok (.iload_n 1, 1) := dk_27 (dk_at dksX3_keepsMind_2 13 rfl rfl)
theorem dX3_keepsMind_62 : decode cX3_keepsMind 62 = .ok (.imul, 1) := dk_104 (dk_at dksX3_keepsMind_2 14 rfl rfl)
theorem dX3_keepsMind_63 : decode cX3_keepsMind 63 = .ok (.iload_n 2, 1) := dk_28 (dk_at dksX3_keepsMind_2 15 rfl rfl)
theorem dX3_keepsMind_64 : decode cX3_keepsMind 64 = .ok (.iadd, 1) := dk_96 (dk_at dksX3_keepsMind_2 16 rfl rfl)
theorem dX3_keepsMind_65 : decode cX3_keepsMind 65 = .ok (.aload_n 0, 1) := dk_42 (dk_at dksX3_keepsMind_2 17 rfl rfl)
theorem dX3_keepsMind_66 : decode cX3_keepsMind 66 = .ok (.getfield 19, 3) := dk_180 0 19 (dk_at dksX3_keepsMind_2 18 rfl rfl)
theorem dX3_keepsMind_69 : decode cX3_keepsMind 69 = .ok (.iload_n 2, 1) := dk_28 (dk_at dksX3_keepsMind_2 21 rfl rfl)
theorem dX3_keepsMind_70 : decode cX3_keepsMind 70 = .ok (.iaload, 1) := dk_46 (dk_at dksX3_keepsMind_2 22 rfl rfl)
theorem dX3_keepsMind_71 : decode cX3_keepsMind 71 = .ok (.iastore, 1) := dk_79 (dk_at dksX3_keepsMind_2 23 rfl rfl)
theorem dX3_keepsMind_72 : decode cX3_keepsMind 72 = .ok (.iinc 2 1, 3) := dk_132 2 1 (dk_at dksX3_keepsMind_3 0 rfl rfl)
theorem dX3_keepsMind_75 : decode cX3_keepsMind 75 = .ok (.goto (-28), 3) := dk_167 255 228 (dk_at dksX3_keepsMind_3 3 rfl rfl)
theorem dX3_keepsMind_78 : decode cX3_keepsMind 78 = .ok (.aload_n 0, 1) := dk_42 (dk_at dksX3_keepsMind_3 6 rfl rfl)
theorem dX3_keepsMind_79 : decode cX3_keepsMind 79 = .ok (.dup, 1) := dk_89 (dk_at dksX3_keepsMind_3 7 rfl rfl)
theorem dX3_keepsMind_80 : decode cX3_keepsMind 80 = .ok (.getfield 56, 3) := dk_180 0 56 (dk_at dksX3_keepsMind_3 8 rfl rfl)
theorem dX3_keepsMind_83 : decode cX3_keepsMind 83 = .ok (.iconst 1, 1) := dk_4 (dk_at dksX3_keepsMind_3 11 rfl rfl)
theorem dX3_keepsMind_84 : decode cX3_keepsMind 84 = .ok (.iadd, 1) := dk_96 (dk_at dksX3_keepsMind_3 12 rfl rfl)
theorem dX3_keepsMind_85 : decode cX3_keepsMind 85 = .ok (.putfield 56, 3) := dk_181 0 56 (dk_at dksX3_keepsMind_3 13 rfl rfl)
theorem dX3_keepsMind_88 : decode cX3_keepsMind 88 = .ok (.return_, 1) := dk_177 (dk_at dksX3_keepsMind_3 16 rfl rfl)
abbrev cX3_pool : ByteArray := prog_31_method_24_code
def yX3_pool : MethodName := ⟨RX3, "pool", "(II)I"⟩
def dkwX3_pool_3 : List UInt8 := [16, 9, 182, 0, 72, 172, 42, 5, 182, 0, 42, 172]
abbrev dktX3_pool_3 : List UInt8 := dkwX3_pool_3 ++ []
def dkwX3_pool_2 : List UInt8 := [42, 27, 28, 182, 0, 72, 172, 42, 27, 182, 0, 86, 172, 42, 27, 16, 8, 182, 0, 72, 172, 42, 27]
abbrev dktX3_pool_2 : List UInt8 := dkwX3_pool_2 ++ dktX3_pool_3
def dkwX3_pool_1 : List UInt8 := [170, 0, 0, 0, 0, 0, 0, 69, 0, 0, 0, 0, 0, 0, 0, 5, 0, 0, 0, 40, 0, 0, 0, 40, 0, 0, 0, 40, 0, 0, 0, 47, 0, 0, 0, 53, 0, 0, 0, 61]
abbrev dktX3_pool_1 : List UInt8 := dkwX3_pool_1 ++ dktX3_pool_2
def dkwX3_pool_0 : List UInt8 := [42, 3, 181, 0, 32, 42, 27, 182, 0, 82, 154, 0, 9, 42, 4, 182, 0, 42, 172, 28]
abbrev dktX3_pool_0 : List UInt8 := dkwX3_pool_0 ++ dktX3_pool_1
theorem dksX3_pool_0 : cX3_pool.data.toList.drop 0 = dktX3_pool_0 := by decide +kernel
theorem dksX3_pool_1 : cX3_pool.data.toList.drop 20 = dktX3_pool_1 := dk_seg dksX3_pool_0 20 rfl rfl
theorem dksX3_pool_2 : cX3_pool.data.toList.drop 60 = dktX3_pool_2 := dk_seg dksX3_pool_1 40 rfl rfl
theorem dksX3_pool_3 : cX3_pool.data.toList.drop 83 = dktX3_pool_3 := dk_seg dksX3_pool_2 23 rfl rfl
theorem dX3_pool_0 : decode cX3_pool 0 = .ok (.aload_n 0, 1) := dk_42 (dk_at dksX3_pool_0 0 rfl rfl)
theorem dX3_pool_1 : decode cX3_pool 1 = .ok (.iconst 0, 1) := dk_3 (dk_at dksX3_pool_0 1 rfl rfl)
theorem dX3_pool_2 : decode cX3_pool 2 = .ok (.putfield 32, 3) := dk_181 0 32 (dk_at dksX3_pool_0 2 rfl rfl)
theorem dX3_pool_5 : decode cX3_pool 5 = .ok (.aload_n 0, 1) := dk_42 (dk_at dksX3_pool_0 5 rfl rfl)
theorem dX3_pool_6 : decode cX3_pool 6 = .ok (.iload_n 1, 1) := dk_27 (dk_at dksX3_pool_0 6 rfl rfl)
theorem dX3_pool_7 : decode cX3_pool 7 = .ok (.invokevirtual 82, 3) := dk_182 0 82 (dk_at dksX3_pool_0 7 rfl rfl)
theorem dX3_pool_10 : decode cX3_pool 10 = .ok (.ifCond .ne 9, 3) := dk_154 0 9 (dk_at dksX3_pool_0 10 rfl rfl)
theorem dX3_pool_13 : decode cX3_pool 13 = .ok (.aload_n 0, 1) := dk_42 (dk_at dksX3_pool_0 13 rfl rfl)
theorem dX3_pool_14 : decode cX3_pool 14 = .ok (.iconst 1, 1) := dk_4 (dk_at dksX3_pool_0 14 rfl rfl)
theorem dX3_pool_15 : decode cX3_pool 15 = .ok (.invokevirtual 42, 3) := dk_182 0 42 (dk_at dksX3_pool_0 15 rfl rfl)
theorem dX3_pool_18 : decode cX3_pool 18 = .ok (.ireturn, 1) := dk_172 (dk_at dksX3_pool_0 18 rfl rfl)
theorem dX3_pool_19 : decode cX3_pool 19 = .ok (.iload_n 2, 1) := dk_28 (dk_at dksX3_pool_0 19 rfl rfl)
theorem dX3_pool_20 : decode cX3_pool 20 = .ok (.tableswitch 69 0 5 #[40, 40, 40, 47, 53, 61], 40) := by decide +kernel
theorem dX3_pool_60 : decode cX3_pool 60 = .ok (.aload_n 0, 1) := dk_42 (dk_at dksX3_pool_2 0 rfl rfl)
theorem dX3_pool_61 : decode cX3_pool 61 = .ok (.iload_n 1, 1) := dk_27 (dk_at dksX3_pool_2 1 rfl rfl)
theorem dX3_pool_62 : decode cX3_pool 62 = .ok (.iload_n 2, 1) := dk_28 (dk_at dksX3_pool_2 2 rfl rfl)
theorem dX3_pool_63 : decode cX3_pool 63 = .ok (.invokevirtual 72, 3) := dk_182 0 72 (dk_at dksX3_pool_2 3 rfl rfl)
theorem dX3_pool_66 : decode cX3_pool 66 = .ok (.ireturn, 1) := dk_172 (dk_at dksX3_pool_2 6 rfl rfl)
theorem dX3_pool_67 : decode cX3_pool 67 = .ok (.aload_n 0, 1) := dk_42 (dk_at dksX3_pool_2 7 rfl rfl)
theorem dX3_pool_68 : decode cX3_pool 68 = .ok (.iload_n 1, 1) := dk_27 (dk_at dksX3_pool_2 8 rfl rfl)
theorem dX3_pool_69 : decode cX3_pool 69 = .ok (.invokevirtual 86, 3) := dk_182 0 86 (dk_at dksX3_pool_2 9 rfl rfl)
theorem dX3_pool_72 : decode cX3_pool 72 = .ok (.ireturn, 1) := dk_172 (dk_at dksX3_pool_2 12 rfl rfl)
theorem dX3_pool_73 : decode cX3_pool 73 = .ok (.aload_n 0, 1) := dk_42 (dk_at dksX3_pool_2 13 rfl rfl)
theorem dX3_pool_74 : decode cX3_pool 74 = .ok (.iload_n 1, 1) := dk_27 (dk_at dksX3_pool_2 14 rfl rfl)
theorem dX3_pool_75 : decode cX3_pool 75 = .ok (.bipush 8, 2) := dk_16 8 (dk_at dksX3_pool_2 15 rfl rfl)
theorem dX3_pool_77 : decode cX3_pool 77 = .ok (.invokevirtual 72, 3) := dk_182 0 72 (dk_at dksX3_pool_2 17 rfl rfl)
theorem dX3_pool_80 : decode cX3_pool 80 = .ok (.ireturn, 1) := dk_172 (dk_at dksX3_pool_2 20 rfl rfl)
theorem dX3_pool_81 : decode cX3_pool 81 = .ok (.aload_n 0, 1) := dk_42 (dk_at dksX3_pool_2 21 rfl rfl)
theorem dX3_pool_82 : decode cX3_pool 82 = .ok (.iload_n 1, 1) := dk_27 (dk_at dksX3_pool_2 22 rfl rfl)
theorem dX3_pool_83 : decode cX3_pool 83 = .ok (.bipush 9, 2) := dk_16 9 (dk_at dksX3_pool_3 0 rfl rfl)
theorem dX3_pool_85 : decode cX3_pool 85 = .ok (.invokevirtual 72, 3) := dk_182 0 72 (dk_at dksX3_pool_3 2 rfl rfl)
theorem dX3_pool_88 : decode cX3_pool 88 = .ok (.ireturn, 1) := dk_172 (dk_at dksX3_pool_3 5 rfl rfl)
theorem dX3_pool_89 : decode cX3_pool 89 = .ok (.aload_n 0, 1) := dk_42 (dk_at dksX3_pool_3 6 rfl rfl)
theorem dX3_pool_90 : decode cX3_pool 90 = .ok (.iconst 2, 1) := dk_5 (dk_at dksX3_pool_3 7 rfl rfl)
theorem dX3_pool_91 : decode cX3_pool 91 = .ok (.invokevirtual 42, 3) := dk_182 0 42 (dk_at dksX3_pool_3 8 rfl rfl)
theorem dX3_pool_94 : decode cX3_pool 94 = .ok (.ireturn, 1) := dk_172 (dk_at dksX3_pool_3 11 rfl rfl)
abbrev cX3_isPool : ByteArray := prog_31_method_17_code
def yX3_isPool : MethodName := ⟨RX3, "isPool", "(I)Z"⟩
def dkwX3_isPool_0 : List UInt8 := [27, 3, 42, 180, 0, 7, 4, 46, 4, 100, 184, 0, 68, 172]
abbrev dktX3_isPool_0 : List UInt8 := dkwX3_isPool_0 ++ []
theorem dksX3_isPool_0 : cX3_isPool.data.toList.drop 0 = dktX3_isPool_0 := by decide +kernel
theorem dX3_isPool_0 : decode cX3_isPool 0 = .ok (.iload_n 1, 1) := dk_27 (dk_at dksX3_isPool_0 0 rfl rfl)
theorem dX3_isPool_1 : decode cX3_isPool 1 = .ok (.iconst 0, 1) := dk_3 (dk_at dksX3_isPool_0 1 rfl rfl)
theorem dX3_isPool_2 : decode cX3_isPool 2 = .ok (.aload_n 0, 1) := dk_42 (dk_at dksX3_isPool_0 2 rfl rfl)
theorem dX3_isPool_3 : decode cX3_isPool 3 = .ok (.getfield 7, 3) := dk_180 0 7 (dk_at dksX3_isPool_0 3 rfl rfl)
theorem dX3_isPool_6 : decode cX3_isPool 6 = .ok (.iconst 1, 1) := dk_4 (dk_at dksX3_isPool_0 6 rfl rfl)
theorem dX3_isPool_7 : decode cX3_isPool 7 = .ok (.iaload, 1) := dk_46 (dk_at dksX3_isPool_0 7 rfl rfl)
theorem dX3_isPool_8 : decode cX3_isPool 8 = .ok (.iconst 1, 1) := dk_4 (dk_at dksX3_isPool_0 8 rfl rfl)
theorem dX3_isPool_9 : decode cX3_isPool 9 = .ok (.isub, 1) := dk_100 (dk_at dksX3_isPool_0 9 rfl rfl)
theorem dX3_isPool_10 : decode cX3_isPool 10 = .ok (.invokestatic 68, 3) := dk_184 0 68 (dk_at dksX3_isPool_0 10 rfl rfl)
theorem dX3_isPool_13 : decode cX3_isPool 13 = .ok (.ireturn, 1) := dk_172 (dk_at dksX3_isPool_0 13 rfl rfl)
abbrev cX3_ofPool : ByteArray := prog_31_method_12_code
def yX3_ofPool : MethodName := ⟨RX3, "ofPool", "(II)I"⟩
def dkwX3_ofPool_0 : List UInt8 := [42, 180, 0, 7, 16, 16, 16, 10, 27, 104, 96, 28, 96, 46, 172]
abbrev dktX3_ofPool_0 : List UInt8 := dkwX3_ofPool_0 ++ []
theorem dksX3_ofPool_0 : cX3_ofPool.data.toList.drop 0 = dktX3_ofPool_0 := by decide +kernel
theorem dX3_ofPool_0 : decode cX3_ofPool 0 = .ok (.aload_n 0, 1) := dk_42 (dk_at dksX3_ofPool_0 0 rfl rfl)
theorem dX3_ofPool_1 : decode cX3_ofPool 1 = .ok (.getfield 7, 3) := dk_180 0 7 (dk_at dksX3_ofPool_0 1 rfl rfl)
theorem dX3_ofPool_4 : decode cX3_ofPool 4 = .ok (.bipush 16, 2) := dk_16 16 (dk_at dksX3_ofPool_0 4 rfl rfl)
theorem dX3_ofPool_6 : decode cX3_ofPool 6 = .ok (.bipush 10, 2) := dk_16 10 (dk_at dksX3_ofPool_0 6 rfl rfl)
theorem dX3_ofPool_8 : decode cX3_ofPool 8 = .ok (.iload_n 1, 1) := dk_27 (dk_at dksX3_ofPool_0 8 rfl rfl)
theorem dX3_ofPool_9 : decode cX3_ofPool 9 = .ok (.imul, 1) := dk_104 (dk_at dksX3_ofPool_0 9 rfl rfl)
theorem dX3_ofPool_10 : decode cX3_ofPool 10 = .ok (.iadd, 1) := dk_96 (dk_at dksX3_ofPool_0 10 rfl rfl)
theorem dX3_ofPool_11 : decode cX3_ofPool 11 = .ok (.iload_n 2, 1) := dk_28 (dk_at dksX3_ofPool_0 11 rfl rfl)
theorem dX3_ofPool_12 : decode cX3_ofPool 12 = .ok (.iadd, 1) := dk_96 (dk_at dksX3_ofPool_0 12 rfl rfl)
theorem dX3_ofPool_13 : decode cX3_ofPool 13 = .ok (.iaload, 1) := dk_46 (dk_at dksX3_ofPool_0 13 rfl rfl)
theorem dX3_ofPool_14 : decode cX3_ofPool 14 = .ok (.ireturn, 1) := dk_172 (dk_at dksX3_ofPool_0 14 rfl rfl)
abbrev cX3_stonesOver : ByteArray := prog_31_method_23_code
def yX3_stonesOver : MethodName := ⟨RX3, "stonesOver", "(I)I"⟩
def dkwX3_stonesOver_1 : List UInt8 := [160, 0, 7, 4, 167, 0, 4, 3, 96, 61, 132, 3, 1, 167, 255, 225, 28, 172]
abbrev dktX3_stonesOver_1 : List UInt8 := dkwX3_stonesOver_1 ++ []
def dkwX3_stonesOver_0 : List UInt8 := [3, 61, 3, 62, 29, 42, 180, 0, 7, 5, 46, 162, 0, 27, 28, 42, 29, 3, 182, 0, 79, 27]
abbrev dktX3_stonesOver_0 : List UInt8 := dkwX3_stonesOver_0 ++ dktX3_stonesOver_1
theorem dksX3_stonesOver_0 : cX3_stonesOver.data.toList.drop 0 = dktX3_stonesOver_0 := by decide +kernel
theorem dksX3_stonesOver_1 : cX3_stonesOver.data.toList.drop 22 = dktX3_stonesOver_1 := dk_seg dksX3_stonesOver_0 22 rfl rfl
theorem dX3_stonesOver_0 : decode cX3_stonesOver 0 = .ok (.iconst 0, 1) := dk_3 (dk_at dksX3_stonesOver_0 0 rfl rfl)
theorem dX3_stonesOver_1 : decode cX3_stonesOver 1 = .ok (.istore_n 2, 1) := dk_61 (dk_at dksX3_stonesOver_0 1 rfl rfl)
theorem dX3_stonesOver_2 : decode cX3_stonesOver 2 = .ok (.iconst 0, 1) := dk_3 (dk_at dksX3_stonesOver_0 2 rfl rfl)
theorem dX3_stonesOver_3 : decode cX3_stonesOver 3 = .ok (.istore_n 3, 1) := dk_62 (dk_at dksX3_stonesOver_0 3 rfl rfl)
theorem dX3_stonesOver_4 : decode cX3_stonesOver 4 = .ok (.iload_n 3, 1) := dk_29 (dk_at dksX3_stonesOver_0 4 rfl rfl)
theorem dX3_stonesOver_5 : decode cX3_stonesOver 5 = .ok (.aload_n 0, 1) := dk_42 (dk_at dksX3_stonesOver_0 5 rfl rfl)
theorem dX3_stonesOver_6 : decode cX3_stonesOver 6 = .ok (.getfield 7, 3) := dk_180 0 7 (dk_at dksX3_stonesOver_0 6 rfl rfl)
theorem dX3_stonesOver_9 : decode cX3_stonesOver 9 = .ok (.iconst 2, 1) := dk_5 (dk_at dksX3_stonesOver_0 9 rfl rfl)
theorem dX3_stonesOver_10 : decode cX3_stonesOver 10 = .ok (.iaload, 1) := dk_46 (dk_at dksX3_stonesOver_0 10 rfl rfl)
theorem dX3_stonesOver_11 : decode cX3_stonesOver 11 = .ok (.if_icmp .ge 27, 3) := dk_162 0 27 (dk_at dksX3_stonesOver_0 11 rfl rfl)
theorem dX3_stonesOver_14 : decode cX3_stonesOver 14 = .ok (.iload_n 2, 1) := dk_28 (dk_at dksX3_stonesOver_0 14 rfl rfl)
theorem dX3_stonesOver_15 : decode cX3_stonesOver 15 = .ok (.aload_n 0, 1) := dk_42 (dk_at dksX3_stonesOver_0 15 rfl rfl)
theorem dX3_stonesOver_16 : decode cX3_stonesOver 16 = .ok (.iload_n 3, 1) := dk_29 (dk_at dksX3_stonesOver_0 16 rfl rfl)
theorem dX3_stonesOver_17 : decode cX3_stonesOver 17 = .ok (.iconst 0, 1) := dk_3 (dk_at dksX3_stonesOver_0 17 rfl rfl)
theorem dX3_stonesOver_18 : decode cX3_stonesOver 18 = .ok (.invokevirtual 79, 3) := dk_182 0 79 (dk_at dksX3_stonesOver_0 18 rfl rfl)
theorem dX3_stonesOver_21 : decode cX3_stonesOver 21 = .ok (.iload_n 1, 1) := dk_27 (dk_at dksX3_stonesOver_0 21 rfl rfl)
theorem dX3_stonesOver_22 : decode cX3_stonesOver 22 = .ok (.if_icmp .ne 7, 3) := dk_160 0 7 (dk_at dksX3_stonesOver_1 0 rfl rfl)
theorem dX3_stonesOver_25 : decode cX3_stonesOver 25 = .ok (.iconst 1, 1) := dk_4 (dk_at dksX3_stonesOver_1 3 rfl rfl)
theorem dX3_stonesOver_26 : decode cX3_stonesOver 26 = .ok (.goto 4, 3) := dk_167 0 4 (dk_at dksX3_stonesOver_1 4 rfl rfl)
theorem dX3_stonesOver_29 : decode cX3_stonesOver 29 = .ok (.iconst 0, 1) := dk_3 (dk_at dksX3_stonesOver_1 7 rfl rfl)
theorem dX3_stonesOver_30 : decode cX3_stonesOver 30 = .ok (.iadd, 1) := dk_96 (dk_at dksX3_stonesOver_1 8 rfl rfl)
theorem dX3_stonesOver_31 : decode cX3_stonesOver 31 = .ok (.istore_n 2, 1) := dk_61 (dk_at dksX3_stonesOver_1 9 rfl rfl)
theorem dX3_stonesOver_32 : decode cX3_stonesOver 32 = .ok (.iinc 3 1, 3) := dk_132 3 1 (dk_at dksX3_stonesOver_1 10 rfl rfl)
theorem dX3_stonesOver_35 : decode cX3_stonesOver 35 = .ok (.goto (-31), 3) := dk_167 255 225 (dk_at dksX3_stonesOver_1 13 rfl rfl)
theorem dX3_stonesOver_38 : decode cX3_stonesOver 38 = .ok (.iload_n 2, 1) := dk_28 (dk_at dksX3_stonesOver_1 16 rfl rfl)
theorem dX3_stonesOver_39 : decode cX3_stonesOver 39 = .ok (.ireturn, 1) := dk_172 (dk_at dksX3_stonesOver_1 17 rfl rfl)
abbrev cX3_ofStone : ByteArray := prog_31_method_15_code
def yX3_ofStone : MethodName := ⟨RX3, "ofStone", "(II)I"⟩
def dkwX3_ofStone_0 : List UInt8 := [42, 180, 0, 7, 16, 76, 8, 27, 104, 96, 28, 96, 46, 172]
abbrev dktX3_ofStone_0 : List UInt8 := dkwX3_ofStone_0 ++ []
theorem dksX3_ofStone_0 : cX3_ofStone.data.toList.drop 0 = dktX3_ofStone_0 := by decide +kernel
theorem dX3_ofStone_0 : decode cX3_ofStone 0 = .ok (.aload_n 0, 1) := dk_42 (dk_at dksX3_ofStone_0 0 rfl rfl)
theorem dX3_ofStone_1 : decode cX3_ofStone 1 = .ok (.getfield 7, 3) := dk_180 0 7 (dk_at dksX3_ofStone_0 1 rfl rfl)
theorem dX3_ofStone_4 : decode cX3_ofStone 4 = .ok (.bipush 76, 2) := dk_16 76 (dk_at dksX3_ofStone_0 4 rfl rfl)
theorem dX3_ofStone_6 : decode cX3_ofStone 6 = .ok (.iconst 5, 1) := dk_8 (dk_at dksX3_ofStone_0 6 rfl rfl)
theorem dX3_ofStone_7 : decode cX3_ofStone 7 = .ok (.iload_n 1, 1) := dk_27 (dk_at dksX3_ofStone_0 7 rfl rfl)
theorem dX3_ofStone_8 : decode cX3_ofStone 8 = .ok (.imul, 1) := dk_104 (dk_at dksX3_ofStone_0 8 rfl rfl)
theorem dX3_ofStone_9 : decode cX3_ofStone 9 = .ok (.iadd, 1) := dk_96 (dk_at dksX3_ofStone_0 9 rfl rfl)
theorem dX3_ofStone_10 : decode cX3_ofStone 10 = .ok (.iload_n 2, 1) := dk_28 (dk_at dksX3_ofStone_0 10 rfl rfl)
theorem dX3_ofStone_11 : decode cX3_ofStone 11 = .ok (.iadd, 1) := dk_96 (dk_at dksX3_ofStone_0 11 rfl rfl)
theorem dX3_ofStone_12 : decode cX3_ofStone 12 = .ok (.iaload, 1) := dk_46 (dk_at dksX3_ofStone_0 12 rfl rfl)
theorem dX3_ofStone_13 : decode cX3_ofStone 13 = .ok (.ireturn, 1) := dk_172 (dk_at dksX3_ofStone_0 13 rfl rfl)
abbrev cX3_addPearl : ByteArray := prog_31_method_25_code
def yX3_addPearl : MethodName := ⟨RX3, "addPearl", "(II)I"⟩
def dkwX3_addPearl_4 : List UInt8 := [96, 79, 42, 27, 5, 182, 0, 72, 4, 100, 172]
abbrev dktX3_addPearl_4 : List UInt8 := dkwX3_addPearl_4 ++ []
def dkwX3_addPearl_3 : List UInt8 := [27, 5, 182, 0, 72, 96, 28, 79, 42, 27, 5, 4, 182, 0, 89, 42, 180, 0, 7, 16, 14, 92, 46, 28]
abbrev dktX3_addPearl_3 : List UInt8 := dkwX3_addPearl_3 ++ dktX3_addPearl_4
def dkwX3_addPearl_2 : List UInt8 := [4, 8, 182, 0, 52, 172, 42, 182, 0, 76, 42, 180, 0, 7, 16, 16, 16, 10, 27, 104, 96, 6, 96, 42]
abbrev dktX3_addPearl_2 : List UInt8 := dkwX3_addPearl_2 ++ dktX3_addPearl_3
def dkwX3_addPearl_1 : List UInt8 := [184, 0, 68, 154, 0, 9, 42, 5, 182, 0, 42, 172, 42, 27, 5, 182, 0, 72, 8, 160, 0, 11, 42, 6]
abbrev dktX3_addPearl_1 : List UInt8 := dkwX3_addPearl_1 ++ dktX3_addPearl_2
def dkwX3_addPearl_0 : List UInt8 := [42, 3, 181, 0, 32, 42, 27, 182, 0, 82, 154, 0, 9, 42, 4, 182, 0, 42, 172, 28, 4, 16, 99]
abbrev dktX3_addPearl_0 : List UInt8 := dkwX3_addPearl_0 ++ dktX3_addPearl_1
theorem dksX3_addPearl_0 : cX3_addPearl.data.toList.drop 0 = dktX3_addPearl_0 := by decide +kernel
theorem dksX3_addPearl_1 : cX3_addPearl.data.toList.drop 23 = dktX3_addPearl_1 := dk_seg dksX3_addPearl_0 23 rfl rfl
theorem dksX3_addPearl_2 : cX3_addPearl.data.toList.drop 47 = dktX3_addPearl_2 := dk_seg dksX3_addPearl_1 24 rfl rfl
theorem dksX3_addPearl_3 : cX3_addPearl.data.toList.drop 71 = dktX3_addPearl_3 := dk_seg dksX3_addPearl_2 24 rfl rfl
theorem dksX3_addPearl_4 : cX3_addPearl.data.toList.drop 95 = dktX3_addPearl_4 := dk_seg dksX3_addPearl_3 24 rfl rfl
theorem dX3_addPearl_0 : decode cX3_addPearl 0 = .ok (.aload_n 0, 1) := dk_42 (dk_at dksX3_addPearl_0 0 rfl rfl)
theorem dX3_addPearl_1 : decode cX3_addPearl 1 = .ok (.iconst 0, 1) := dk_3 (dk_at dksX3_addPearl_0 1 rfl rfl)
theorem dX3_addPearl_2 : decode cX3_addPearl 2 = .ok (.putfield 32, 3) := dk_181 0 32 (dk_at dksX3_addPearl_0 2 rfl rfl)
theorem dX3_addPearl_5 : decode cX3_addPearl 5 = .ok (.aload_n 0, 1) := dk_42 (dk_at dksX3_addPearl_0 5 rfl rfl)
theorem dX3_addPearl_6 : decode cX3_addPearl 6 = .ok (.iload_n 1, 1) := dk_27 (dk_at dksX3_addPearl_0 6 rfl rfl)
theorem dX3_addPearl_7 : decode cX3_addPearl 7 = .ok (.invokevirtual 82, 3) := dk_182 0 82 (dk_at dksX3_addPearl_0 7 rfl rfl)
theorem dX3_addPearl_10 : decode cX3_addPearl 10 = .ok (.ifCond .ne 9, 3) := dk_154 0 9 (dk_at dksX3_addPearl_0 10 rfl rfl)
theorem dX3_addPearl_13 : decode cX3_addPearl 13 = .ok (.aload_n 0, 1) := dk_42 (dk_at dksX3_addPearl_0 13 rfl rfl)
theorem dX3_addPearl_14 : decode cX3_addPearl 14 = .ok (.iconst 1, 1) := dk_4 (dk_at dksX3_addPearl_0 14 rfl rfl)
theorem dX3_addPearl_15 : decode cX3_addPearl 15 = .ok (.invokevirtual 42, 3) := dk_182 0 42 (dk_at dksX3_addPearl_0 15 rfl rfl)
theorem dX3_addPearl_18 : decode cX3_addPearl 18 = .ok (.ireturn, 1) := dk_172 (dk_at dksX3_addPearl_0 18 rfl rfl)
theorem dX3_addPearl_19 : decode cX3_addPearl 19 = .ok (.iload_n 2, 1) := dk_28 (dk_at dksX3_addPearl_0 19 rfl rfl)
theorem dX3_addPearl_20 : decode cX3_addPearl 20 = .ok (.iconst 1, 1) := dk_4 (dk_at dksX3_addPearl_0 20 rfl rfl)
theorem dX3_addPearl_21 : decode cX3_addPearl 21 = .ok (.bipush 99, 2) := dk_16 99 (dk_at dksX3_addPearl_0 21 rfl rfl)
theorem dX3_addPearl_23 : decode cX3_addPearl 23 = .ok (.invokestatic 68, 3) := dk_184 0 68 (dk_at dksX3_addPearl_1 0 rfl rfl)
theorem dX3_addPearl_26 : decode cX3_addPearl 26 = .ok (.ifCond .ne 9, 3) := dk_154 0 9 (dk_at dksX3_addPearl_1 3 rfl rfl)
theorem dX3_addPearl_29 : decode cX3_addPearl 29 = .ok (.aload_n 0, 1) := dk_42 (dk_at dksX3_addPearl_1 6 rfl rfl)
theorem dX3_addPearl_30 : decode cX3_addPearl 30 = .ok (.iconst 2, 1) := dk_5 (dk_at dksX3_addPearl_1 7 rfl rfl)
theorem dX3_addPearl_31 : decode cX3_addPearl 31 = .ok (.invokevirtual 42, 3) := dk_182 0 42 (dk_at dksX3_addPearl_1 8 rfl rfl)
theorem dX3_addPearl_34 : decode cX3_addPearl 34 = .ok (.ireturn, 1) := dk_172 (dk_at dksX3_addPearl_1 11 rfl rfl)
theorem dX3_addPearl_35 : decode cX3_addPearl 35 = .ok (.aload_n 0, 1) := dk_42 (dk_at dksX3_addPearl_1 12 rfl rfl)
theorem dX3_addPearl_36 : decode cX3_addPearl 36 = .ok (.iload_n 1, 1) := dk_27 (dk_at dksX3_addPearl_1 13 rfl rfl)
theorem dX3_addPearl_37 : decode cX3_addPearl 37 = .ok (.iconst 2, 1) := dk_5 (dk_at dksX3_addPearl_1 14 rfl rfl)
theorem dX3_addPearl_38 : decode cX3_addPearl 38 = .ok (.invokevirtual 72, 3) := dk_182 0 72 (dk_at dksX3_addPearl_1 15 rfl rfl)
theorem dX3_addPearl_41 : decode cX3_addPearl 41 = .ok (.iconst 5, 1) := dk_8 (dk_at dksX3_addPearl_1 18 rfl rfl)
theorem dX3_addPearl_42 : decode cX3_addPearl 42 = .ok (.if_icmp .ne 11, 3) := dk_160 0 11 (dk_at dksX3_addPearl_1 19 rfl rfl)
theorem dX3_addPearl_45 : decode cX3_addPearl 45 = .ok (.aload_n 0, 1) := dk_42 (dk_at dksX3_addPearl_1 22 rfl rfl)
theorem dX3_addPearl_46 : decode cX3_addPearl 46 = .ok (.iconst 3, 1) := dk_6 (dk_at dksX3_addPearl_1 23 rfl rfl)
theorem dX3_addPearl_47 : decode cX3_addPearl 47 = .ok (.iconst 1, 1) := dk_4 (dk_at dksX3_addPearl_2 0 rfl rfl)
theorem dX3_addPearl_48 : decode cX3_addPearl 48 = .ok (.iconst 5, 1) := dk_8 (dk_at dksX3_addPearl_2 1 rfl rfl)
theorem dX3_addPearl_49 : decode cX3_addPearl 49 = .ok (.invokevirtual 52, 3) := dk_182 0 52 (dk_at dksX3_addPearl_2 2 rfl rfl)
theorem dX3_addPearl_52 : decode cX3_addPearl 52 = .ok (.ireturn, 1) := dk_172 (dk_at dksX3_addPearl_2 5 rfl rfl)
theorem dX3_addPearl_53 : decode cX3_addPearl 53 = .ok (.aload_n 0, 1) := dk_42 (dk_at dksX3_addPearl_2 6 rfl rfl)
theorem dX3_addPearl_54 : decode cX3_addPearl 54 = .ok (.invokevirtual 76, 3) := dk_182 0 76 (dk_at dksX3_addPearl_2 7 rfl rfl)
theorem dX3_addPearl_57 : decode cX3_addPearl 57 = .ok (.aload_n 0, 1) := dk_42 (dk_at dksX3_addPearl_2 10 rfl rfl)
theorem dX3_addPearl_58 : decode cX3_addPearl 58 = .ok (.getfield 7, 3) := dk_180 0 7 (dk_at dksX3_addPearl_2 11 rfl rfl)
theorem dX3_addPearl_61 : decode cX3_addPearl 61 = .ok (.bipush 16, 2) := dk_16 16 (dk_at dksX3_addPearl_2 14 rfl rfl)
theorem dX3_addPearl_63 : decode cX3_addPearl 63 = .ok (.bipush 10, 2) := dk_16 10 (dk_at dksX3_addPearl_2 16 rfl rfl)
theorem dX3_addPearl_65 : decode cX3_addPearl 65 = .ok (.iload_n 1, 1) := dk_27 (dk_at dksX3_addPearl_2 18 rfl rfl)
theorem dX3_addPearl_66 : decode cX3_addPearl 66 = .ok (.imul, 1) := dk_104 (dk_at dksX3_addPearl_2 19 rfl rfl)
theorem dX3_addPearl_67 : decode cX3_addPearl 67 = .ok (.iadd, 1) := dk_96 (dk_at dksX3_addPearl_2 20 rfl rfl)
theorem dX3_addPearl_68 : decode cX3_addPearl 68 = .ok (.iconst 3, 1) := dk_6 (dk_at dksX3_addPearl_2 21 rfl rfl)
theorem dX3_addPearl_69 : decode cX3_addPearl 69 = .ok (.iadd, 1) := dk_96 (dk_at dksX3_addPearl_2 22 rfl rfl)
theorem dX3_addPearl_70 : decode cX3_addPearl 70 = .ok (.aload_n 0, 1) := dk_42 (dk_at dksX3_addPearl_2 23 rfl rfl)
theorem dX3_addPearl_71 : decode cX3_addPearl 71 = .ok (.iload_n 1, 1) := dk_27 (dk_at dksX3_addPearl_3 0 rfl rfl)
theorem dX3_addPearl_72 : decode cX3_addPearl 72 = .ok (.iconst 2, 1) := dk_5 (dk_at dksX3_addPearl_3 1 rfl rfl)
theorem dX3_addPearl_73 : decode cX3_addPearl 73 = .ok (.invokevirtual 72, 3) := dk_182 0 72 (dk_at dksX3_addPearl_3 2 rfl rfl)
theorem dX3_addPearl_76 : decode cX3_addPearl 76 = .ok (.iadd, 1) := dk_96 (dk_at dksX3_addPearl_3 5 rfl rfl)
theorem dX3_addPearl_77 : decode cX3_addPearl 77 = .ok (.iload_n 2, 1) := dk_28 (dk_at dksX3_addPearl_3 6 rfl rfl)
theorem dX3_addPearl_78 : decode cX3_addPearl 78 = .ok (.iastore, 1) := dk_79 (dk_at dksX3_addPearl_3 7 rfl rfl)
theorem dX3_addPearl_79 : decode cX3_addPearl 79 = .ok (.aload_n 0, 1) := dk_42 (dk_at dksX3_addPearl_3 8 rfl rfl)
theorem dX3_addPearl_80 : decode cX3_addPearl 80 = .ok (.iload_n 1, 1) := dk_27 (dk_at dksX3_addPearl_3 9 rfl rfl)
theorem dX3_addPearl_81 : decode cX3_addPearl 81 = .ok (.iconst 2, 1) := dk_5 (dk_at dksX3_addPearl_3 10 rfl rfl)
theorem dX3_addPearl_82 : decode cX3_addPearl 82 = .ok (.iconst 1, 1) := dk_4 (dk_at dksX3_addPearl_3 11 rfl rfl)
theorem dX3_addPearl_83 : decode cX3_addPearl 83 = .ok (.invokevirtual 89, 3) := dk_182 0 89 (dk_at dksX3_addPearl_3 12 rfl rfl)
theorem dX3_addPearl_86 : decode cX3_addPearl 86 = .ok (.aload_n 0, 1) := dk_42 (dk_at dksX3_addPearl_3 15 rfl rfl)
theorem dX3_addPearl_87 : decode cX3_addPearl 87 = .ok (.getfield 7, 3) := dk_180 0 7 (dk_at dksX3_addPearl_3 16 rfl rfl)
theorem dX3_addPearl_90 : decode cX3_addPearl 90 = .ok (.bipush 14, 2) := dk_16 14 (dk_at dksX3_addPearl_3 19 rfl rfl)
theorem dX3_addPearl_92 : decode cX3_addPearl 92 = .ok (.dup2, 1) := dk_92 (dk_at dksX3_addPearl_3 21 rfl rfl)
theorem dX3_addPearl_93 : decode cX3_addPearl 93 = .ok (.iaload, 1) := dk_46 (dk_at dksX3_addPearl_3 22 rfl rfl)
theorem dX3_addPearl_94 : decode cX3_addPearl 94 = .ok (.iload_n 2, 1) := dk_28 (dk_at dksX3_addPearl_3 23 rfl rfl)
theorem dX3_addPearl_95 : decode cX3_addPearl 95 = .ok (.iadd, 1) := dk_96 (dk_at dksX3_addPearl_4 0 rfl rfl)
theorem dX3_addPearl_96 : decode cX3_addPearl 96 = .ok (.iastore, 1) := dk_79 (dk_at dksX3_addPearl_4 1 rfl rfl)
theorem dX3_addPearl_97 : decode cX3_addPearl 97 = .ok (.aload_n 0, 1) := dk_42 (dk_at dksX3_addPearl_4 2 rfl rfl)
theorem dX3_addPearl_98 : decode cX3_addPearl 98 = .ok (.iload_n 1, 1) := dk_27 (dk_at dksX3_addPearl_4 3 rfl rfl)
theorem dX3_addPearl_99 : decode cX3_addPearl 99 = .ok (.iconst 2, 1) := dk_5 (dk_at dksX3_addPearl_4 4 rfl rfl)
theorem dX3_addPearl_100 : decode cX3_addPearl 100 = .ok (.invokevirtual 72, 3) := dk_182 0 72 (dk_at dksX3_addPearl_4 5 rfl rfl)
theorem dX3_addPearl_103 : decode cX3_addPearl 103 = .ok (.iconst 1, 1) := dk_4 (dk_at dksX3_addPearl_4 8 rfl rfl)
theorem dX3_addPearl_104 : decode cX3_addPearl 104 = .ok (.isub, 1) := dk_100 (dk_at dksX3_addPearl_4 9 rfl rfl)
theorem dX3_addPearl_105 : decode cX3_addPearl 105 = .ok (.ireturn, 1) := dk_172 (dk_at dksX3_addPearl_4 10 rfl rfl)
abbrev cX3_addsPool : ByteArray := prog_31_method_13_code
def yX3_addsPool : MethodName := ⟨RX3, "addsPool", "(III)V"⟩
def dkwX3_addsPool_0 : List UInt8 := [42, 180, 0, 7, 16, 16, 16, 10, 27, 104, 96, 28, 96, 92, 46, 29, 96, 79, 177]
abbrev dktX3_addsPool_0 : List UInt8 := dkwX3_addsPool_0 ++ []
theorem dksX3_addsPool_0 : cX3_addsPool.data.toList.drop 0 = dktX3_addsPool_0 := by decide +kernel
theorem dX3_addsPool_0 : decode cX3_addsPool 0 = .ok (.aload_n 0, 1) := dk_42 (dk_at dksX3_addsPool_0 0 rfl rfl)
theorem dX3_addsPool_1 : decode cX3_addsPool 1 = .ok (.getfield 7, 3) := dk_180 0 7 (dk_at dksX3_addsPool_0 1 rfl rfl)
theorem dX3_addsPool_4 : decode cX3_addsPool 4 = .ok (.bipush 16, 2) := dk_16 16 (dk_at dksX3_addsPool_0 4 rfl rfl)
theorem dX3_addsPool_6 : decode cX3_addsPool 6 = .ok (.bipush 10, 2) := dk_16 10 (dk_at dksX3_addsPool_0 6 rfl rfl)
theorem dX3_addsPool_8 : decode cX3_addsPool 8 = .ok (.iload_n 1, 1) := dk_27 (dk_at dksX3_addsPool_0 8 rfl rfl)
theorem dX3_addsPool_9 : decode cX3_addsPool 9 = .ok (.imul, 1) := dk_104 (dk_at dksX3_addsPool_0 9 rfl rfl)
theorem dX3_addsPool_10 : decode cX3_addsPool 10 = .ok (.iadd, 1) := dk_96 (dk_at dksX3_addsPool_0 10 rfl rfl)
theorem dX3_addsPool_11 : decode cX3_addsPool 11 = .ok (.iload_n 2, 1) := dk_28 (dk_at dksX3_addsPool_0 11 rfl rfl)
theorem dX3_addsPool_12 : decode cX3_addsPool 12 = .ok (.iadd, 1) := dk_96 (dk_at dksX3_addsPool_0 12 rfl rfl)
theorem dX3_addsPool_13 : decode cX3_addsPool 13 = .ok (.dup2, 1) := dk_92 (dk_at dksX3_addsPool_0 13 rfl rfl)
theorem dX3_addsPool_14 : decode cX3_addsPool 14 = .ok (.iaload, 1) := dk_46 (dk_at dksX3_addsPool_0 14 rfl rfl)
theorem dX3_addsPool_15 : decode cX3_addsPool 15 = .ok (.iload_n 3, 1) := dk_29 (dk_at dksX3_addsPool_0 15 rfl rfl)
theorem dX3_addsPool_16 : decode cX3_addsPool 16 = .ok (.iadd, 1) := dk_96 (dk_at dksX3_addsPool_0 16 rfl rfl)
theorem dX3_addsPool_17 : decode cX3_addsPool 17 = .ok (.iastore, 1) := dk_79 (dk_at dksX3_addsPool_0 17 rfl rfl)
theorem dX3_addsPool_18 : decode cX3_addsPool 18 = .ok (.return_, 1) := dk_177 (dk_at dksX3_addsPool_0 18 rfl rfl)
abbrev cX3_takePearl : ByteArray := prog_31_method_26_code
def yX3_takePearl : MethodName := ⟨RX3, "takePearl", "(II)I"⟩
def dkwX3_takePearl_5 : List UInt8 := [182, 0, 72, 96, 3, 79, 42, 180, 0, 7, 16, 15, 92, 46, 29, 96, 79, 29, 172]
abbrev dktX3_takePearl_5 : List UInt8 := dkwX3_takePearl_5 ++ []
def dkwX3_takePearl_4 : List UInt8 := [27, 5, 2, 182, 0, 89, 42, 180, 0, 7, 16, 16, 16, 10, 27, 104, 96, 6, 96, 42, 27, 5]
abbrev dktX3_takePearl_4 : List UInt8 := dkwX3_takePearl_4 ++ dktX3_takePearl_5
def dkwX3_takePearl_3 : List UInt8 := [104, 96, 6, 96, 21, 4, 96, 4, 100, 42, 27, 21, 4, 182, 0, 97, 79, 132, 4, 1, 167, 255, 216, 42]
abbrev dktX3_takePearl_3 : List UInt8 := dkwX3_takePearl_3 ++ dktX3_takePearl_4
def dkwX3_takePearl_2 : List UInt8 := [4, 96, 54, 4, 21, 4, 42, 27, 5, 182, 0, 72, 162, 0, 35, 42, 180, 0, 7, 16, 16, 16, 10, 27]
abbrev dktX3_takePearl_2 : List UInt8 := dkwX3_takePearl_2 ++ dktX3_takePearl_3
def dkwX3_takePearl_1 : List UInt8 := [182, 0, 93, 154, 0, 9, 42, 5, 182, 0, 42, 172, 42, 182, 0, 76, 42, 27, 28, 182, 0, 97, 62, 28]
abbrev dktX3_takePearl_1 : List UInt8 := dkwX3_takePearl_1 ++ dktX3_takePearl_2
def dkwX3_takePearl_0 : List UInt8 := [42, 3, 181, 0, 32, 42, 27, 182, 0, 82, 154, 0, 9, 42, 4, 182, 0, 42, 172, 42, 27, 28]
abbrev dktX3_takePearl_0 : List UInt8 := dkwX3_takePearl_0 ++ dktX3_takePearl_1
theorem dksX3_takePearl_0 : cX3_takePearl.data.toList.drop 0 = dktX3_takePearl_0 := by decide +kernel
theorem dksX3_takePearl_1 : cX3_takePearl.data.toList.drop 22 = dktX3_takePearl_1 := dk_seg dksX3_takePearl_0 22 rfl rfl
theorem dksX3_takePearl_2 : cX3_takePearl.data.toList.drop 46 = dktX3_takePearl_2 := dk_seg dksX3_takePearl_1 24 rfl rfl
theorem dksX3_takePearl_3 : cX3_takePearl.data.toList.drop 70 = dktX3_takePearl_3 := dk_seg dksX3_takePearl_2 24 rfl rfl
theorem dksX3_takePearl_4 : cX3_takePearl.data.toList.drop 94 = dktX3_takePearl_4 := dk_seg dksX3_takePearl_3 24 rfl rfl
theorem dksX3_takePearl_5 : cX3_takePearl.data.toList.drop 116 = dktX3_takePearl_5 := dk_seg dksX3_takePearl_4 22 rfl rfl
theorem dX3_takePearl_0 : decode cX3_takePearl 0 = .ok (.aload_n 0, 1) := dk_42 (dk_at dksX3_takePearl_0 0 rfl rfl)
theorem dX3_takePearl_1 : decode cX3_takePearl 1 = .ok (.iconst 0, 1) := dk_3 (dk_at dksX3_takePearl_0 1 rfl rfl)
theorem dX3_takePearl_2 : decode cX3_takePearl 2 = .ok (.putfield 32, 3) := dk_181 0 32 (dk_at dksX3_takePearl_0 2 rfl rfl)
theorem dX3_takePearl_5 : decode cX3_takePearl 5 = .ok (.aload_n 0, 1) := dk_42 (dk_at dksX3_takePearl_0 5 rfl rfl)
theorem dX3_takePearl_6 : decode cX3_takePearl 6 = .ok (.iload_n 1, 1) := dk_27 (dk_at dksX3_takePearl_0 6 rfl rfl)
theorem dX3_takePearl_7 : decode cX3_takePearl 7 = .ok (.invokevirtual 82, 3) := dk_182 0 82 (dk_at dksX3_takePearl_0 7 rfl rfl)
theorem dX3_takePearl_10 : decode cX3_takePearl 10 = .ok (.ifCond .ne 9, 3) := dk_154 0 9 (dk_at dksX3_takePearl_0 10 rfl rfl)
theorem dX3_takePearl_13 : decode cX3_takePearl 13 = .ok (.aload_n 0, 1) := dk_42 (dk_at dksX3_takePearl_0 13 rfl rfl)
theorem dX3_takePearl_14 : decode cX3_takePearl 14 = .ok (.iconst 1, 1) := dk_4 (dk_at dksX3_takePearl_0 14 rfl rfl)
theorem dX3_takePearl_15 : decode cX3_takePearl 15 = .ok (.invokevirtual 42, 3) := dk_182 0 42 (dk_at dksX3_takePearl_0 15 rfl rfl)
theorem dX3_takePearl_18 : decode cX3_takePearl 18 = .ok (.ireturn, 1) := dk_172 (dk_at dksX3_takePearl_0 18 rfl rfl)
theorem dX3_takePearl_19 : decode cX3_takePearl 19 = .ok (.aload_n 0, 1) := dk_42 (dk_at dksX3_takePearl_0 19 rfl rfl)
theorem dX3_takePearl_20 : decode cX3_takePearl 20 = .ok (.iload_n 1, 1) := dk_27 (dk_at dksX3_takePearl_0 20 rfl rfl)
theorem dX3_takePearl_21 : decode cX3_takePearl 21 = .ok (.iload_n 2, 1) := dk_28 (dk_at dksX3_takePearl_0 21 rfl rfl)
theorem dX3_takePearl_22 : decode cX3_takePearl 22 = .ok (.invokevirtual 93, 3) := dk_182 0 93 (dk_at dksX3_takePearl_1 0 rfl rfl)
theorem dX3_takePearl_25 : decode cX3_takePearl 25 = .ok (.ifCond .ne 9, 3) := dk_154 0 9 (dk_at dksX3_takePearl_1 3 rfl rfl)
theorem dX3_takePearl_28 : decode cX3_takePearl 28 = .ok (.aload_n 0, 1) := dk_42 (dk_at dksX3_takePearl_1 6 rfl rfl)
theorem dX3_takePearl_29 : decode cX3_takePearl 29 = .ok (.iconst 2, 1) := dk_5 (dk_at dksX3_takePearl_1 7 rfl rfl)
theorem dX3_takePearl_30 : decode cX3_takePearl 30 = .ok (.invokevirtual 42, 3) := dk_182 0 42 (dk_at dksX3_takePearl_1 8 rfl rfl)
theorem dX3_takePearl_33 : decode cX3_takePearl 33 = .ok (.ireturn, 1) := dk_172 (dk_at dksX3_takePearl_1 11 rfl rfl)
theorem dX3_takePearl_34 : decode cX3_takePearl 34 = .ok (.aload_n 0, 1) := dk_42 (dk_at dksX3_takePearl_1 12 rfl rfl)
theorem dX3_takePearl_35 : decode cX3_takePearl 35 = .ok (.invokevirtual 76, 3) := dk_182 0 76 (dk_at dksX3_takePearl_1 13 rfl rfl)
theorem dX3_takePearl_38 : decode cX3_takePearl 38 = .ok (.aload_n 0, 1) := dk_42 (dk_at dksX3_takePearl_1 16 rfl rfl)
theorem dX3_takePearl_39 : decode cX3_takePearl 39 = .ok (.iload_n 1, 1) := dk_27 (dk_at dksX3_takePearl_1 17 rfl rfl)
theorem dX3_takePearl_40 : decode cX3_takePearl 40 = .ok (.iload_n 2, 1) := dk_28 (dk_at dksX3_takePearl_1 18 rfl rfl)
theorem dX3_takePearl_41 : decode cX3_takePearl 41 = .ok (.invokevirtual 97, 3) := dk_182 0 97 (dk_at dksX3_takePearl_1 19 rfl rfl)
theorem dX3_takePearl_44 : decode cX3_takePearl 44 = .ok (.istore_n 3, 1) := dk_62 (dk_at dksX3_takePearl_1 22 rfl rfl)
theorem dX3_takePearl_45 : decode cX3_takePearl 45 = .ok (.iload_n 2, 1) := dk_28 (dk_at dksX3_takePearl_1 23 rfl rfl)
theorem dX3_takePearl_46 : decode cX3_takePearl 46 = .ok (.iconst 1, 1) := dk_4 (dk_at dksX3_takePearl_2 0 rfl rfl)
theorem dX3_takePearl_47 : decode cX3_takePearl 47 = .ok (.iadd, 1) := dk_96 (dk_at dksX3_takePearl_2 1 rfl rfl)
theorem dX3_takePearl_48 : decode cX3_takePearl 48 = .ok (.istore 4, 2) := dk_54 4 (dk_at dksX3_takePearl_2 2 rfl rfl)
theorem dX3_takePearl_50 : decode cX3_takePearl 50 = .ok (.iload 4, 2) := dk_21 4 (dk_at dksX3_takePearl_2 4 rfl rfl)
theorem dX3_takePearl_52 : decode cX3_takePearl 52 = .ok (.aload_n 0, 1) := dk_42 (dk_at dksX3_takePearl_2 6 rfl rfl)
theorem dX3_takePearl_53 : decode cX3_takePearl 53 = .ok (.iload_n 1, 1) := dk_27 (dk_at dksX3_takePearl_2 7 rfl rfl)
theorem dX3_takePearl_54 : decode cX3_takePearl 54 = .ok (.iconst 2, 1) := dk_5 (dk_at dksX3_takePearl_2 8 rfl rfl)
theorem dX3_takePearl_55 : decode cX3_takePearl 55 = .ok (.invokevirtual 72, 3) := dk_182 0 72 (dk_at dksX3_takePearl_2 9 rfl rfl)
theorem dX3_takePearl_58 : decode cX3_takePearl 58 = .ok (.if_icmp .ge 35, 3) := dk_162 0 35 (dk_at dksX3_takePearl_2 12 rfl rfl)
theorem dX3_takePearl_61 : decode cX3_takePearl 61 = .ok (.aload_n 0, 1) := dk_42 (dk_at dksX3_takePearl_2 15 rfl rfl)
theorem dX3_takePearl_62 : decode cX3_takePearl 62 = .ok (.getfield 7, 3) := dk_180 0 7 (dk_at dksX3_takePearl_2 16 rfl rfl)
theorem dX3_takePearl_65 : decode cX3_takePearl 65 = .ok (.bipush 16, 2) := dk_16 16 (dk_at dksX3_takePearl_2 19 rfl rfl)
theorem dX3_takePearl_67 : decode cX3_takePearl 67 = .ok (.bipush 10, 2) := dk_16 10 (dk_at dksX3_takePearl_2 21 rfl rfl)
theorem dX3_takePearl_69 : decode cX3_takePearl 69 = .ok (.iload_n 1, 1) := dk_27 (dk_at dksX3_takePearl_2 23 rfl rfl)
theorem dX3_takePearl_70 : decode cX3_takePearl 70 = .ok (.imul, 1) := dk_104 (dk_at dksX3_takePearl_3 0 rfl rfl)
theorem dX3_takePearl_71 : decode cX3_takePearl 71 = .ok (.iadd, 1) := dk_96 (dk_at dksX3_takePearl_3 1 rfl rfl)
theorem dX3_takePearl_72 : decode cX3_takePearl 72 = .ok (.iconst 3, 1) := dk_6 (dk_at dksX3_takePearl_3 2 rfl rfl)
theorem dX3_takePearl_73 : decode cX3_takePearl 73 = .ok (.iadd, 1) := dk_96 (dk_at dksX3_takePearl_3 3 rfl rfl)
theorem dX3_takePearl_74 : decode cX3_takePearl 74 = .ok (.iload 4, 2) := dk_21 4 (dk_at dksX3_takePearl_3 4 rfl rfl)
theorem dX3_takePearl_76 : decode cX3_takePearl 76 = .ok (.iadd, 1) := dk_96 (dk_at dksX3_takePearl_3 6 rfl rfl)
theorem dX3_takePearl_77 : decode cX3_takePearl 77 = .ok (.iconst 1, 1) := dk_4 (dk_at dksX3_takePearl_3 7 rfl rfl)
theorem dX3_takePearl_78 : decode cX3_takePearl 78 = .ok (.isub, 1) := dk_100 (dk_at dksX3_takePearl_3 8 rfl rfl)
theorem dX3_takePearl_79 : decode cX3_takePearl 79 = .ok (.aload_n 0, 1) := dk_42 (dk_at dksX3_takePearl_3 9 rfl rfl)
theorem dX3_takePearl_80 : decode cX3_takePearl 80 = .ok (.iload_n 1, 1) := dk_27 (dk_at dksX3_takePearl_3 10 rfl rfl)
theorem dX3_takePearl_81 : decode cX3_takePearl 81 = .ok (.iload 4, 2) := dk_21 4 (dk_at dksX3_takePearl_3 11 rfl rfl)
theorem dX3_takePearl_83 : decode cX3_takePearl 83 = .ok (.invokevirtual 97, 3) := dk_182 0 97 (dk_at dksX3_takePearl_3 13 rfl rfl)
theorem dX3_takePearl_86 : decode cX3_takePearl 86 = .ok (.iastore, 1) := dk_79 (dk_at dksX3_takePearl_3 16 rfl rfl)
theorem dX3_takePearl_87 : decode cX3_takePearl 87 = .ok (.iinc 4 1, 3) := dk_132 4 1 (dk_at dksX3_takePearl_3 17 rfl rfl)
theorem dX3_takePearl_90 : decode cX3_takePearl 90 = .ok (.goto (-40), 3) := dk_167 255 216 (dk_at dksX3_takePearl_3 20 rfl rfl)
theorem dX3_takePearl_93 : decode cX3_takePearl 93 = .ok (.aload_n 0, 1) := dk_42 (dk_at dksX3_takePearl_3 23 rfl rfl)
theorem dX3_takePearl_94 : decode cX3_takePearl 94 = .ok (.iload_n 1, 1) := dk_27 (dk_at dksX3_takePearl_4 0 rfl rfl)
theorem dX3_takePearl_95 : decode cX3_takePearl 95 = .ok (.iconst 2, 1) := dk_5 (dk_at dksX3_takePearl_4 1 rfl rfl)
theorem dX3_takePearl_96 : decode cX3_takePearl 96 = .ok (.iconst (-1), 1) := dk_2 (dk_at dksX3_takePearl_4 2 rfl rfl)
theorem dX3_takePearl_97 : decode cX3_takePearl 97 = .ok (.invokevirtual 89, 3) := dk_182 0 89 (dk_at dksX3_takePearl_4 3 rfl rfl)
theorem dX3_takePearl_100 : decode cX3_takePearl 100 = .ok (.aload_n 0, 1) := dk_42 (dk_at dksX3_takePearl_4 6 rfl rfl)
theorem dX3_takePearl_101 : decode cX3_takePearl 101 = .ok (.getfield 7, 3) := dk_180 0 7 (dk_at dksX3_takePearl_4 7 rfl rfl)
theorem dX3_takePearl_104 : decode cX3_takePearl 104 = .ok (.bipush 16, 2) := dk_16 16 (dk_at dksX3_takePearl_4 10 rfl rfl)
theorem dX3_takePearl_106 : decode cX3_takePearl 106 = .ok (.bipush 10, 2) := dk_16 10 (dk_at dksX3_takePearl_4 12 rfl rfl)
theorem dX3_takePearl_108 : decode cX3_takePearl 108 = .ok (.iload_n 1, 1) := dk_27 (dk_at dksX3_takePearl_4 14 rfl rfl)
theorem dX3_takePearl_109 : decode cX3_takePearl 109 = .ok (.imul, 1) := dk_104 (dk_at dksX3_takePearl_4 15 rfl rfl)
theorem dX3_takePearl_110 : decode cX3_takePearl 110 = .ok (.iadd, 1) := dk_96 (dk_at dksX3_takePearl_4 16 rfl rfl)
theorem dX3_takePearl_111 : decode cX3_takePearl 111 = .ok (.iconst 3, 1) := dk_6 (dk_at dksX3_takePearl_4 17 rfl rfl)
theorem dX3_takePearl_112 : decode cX3_takePearl 112 = .ok (.iadd, 1) := dk_96 (dk_at dksX3_takePearl_4 18 rfl rfl)
theorem dX3_takePearl_113 : decode cX3_takePearl 113 = .ok (.aload_n 0, 1) := dk_42 (dk_at dksX3_takePearl_4 19 rfl rfl)
theorem dX3_takePearl_114 : decode cX3_takePearl 114 = .ok (.iload_n 1, 1) := dk_27 (dk_at dksX3_takePearl_4 20 rfl rfl)
theorem dX3_takePearl_115 : decode cX3_takePearl 115 = .ok (.iconst 2, 1) := dk_5 (dk_at dksX3_takePearl_4 21 rfl rfl)
theorem dX3_takePearl_116 : decode cX3_takePearl 116 = .ok (.invokevirtual 72, 3) := dk_182 0 72 (dk_at dksX3_takePearl_5 0 rfl rfl)
theorem dX3_takePearl_119 : decode cX3_takePearl 119 = .ok (.iadd, 1) := dk_96 (dk_at dksX3_takePearl_5 3 rfl rfl)
theorem dX3_takePearl_120 : decode cX3_takePearl 120 = .ok (.iconst 0, 1) := dk_3 (dk_at dksX3_takePearl_5 4 rfl rfl)
theorem dX3_takePearl_121 : decode cX3_takePearl 121 = .ok (.iastore, 1) := dk_79 (dk_at dksX3_takePearl_5 5 rfl rfl)
theorem dX3_takePearl_122 : decode cX3_takePearl 122 = .ok (.aload_n 0, 1) := dk_42 (dk_at dksX3_takePearl_5 6 rfl rfl)
theorem dX3_takePearl_123 : decode cX3_takePearl 123 = .ok (.getfield 7, 3) := dk_180 0 7 (dk_at dksX3_takePearl_5 7 rfl rfl)
theorem dX3_takePearl_126 : decode cX3_takePearl 126 = .ok (.bipush 15, 2) := dk_16 15 (dk_at dksX3_takePearl_5 10 rfl rfl)
theorem dX3_takePearl_128 : decode cX3_takePearl 128 = .ok (.dup2, 1) := dk_92 (dk_at dksX3_takePearl_5 12 rfl rfl)
theorem dX3_takePearl_129 : decode cX3_takePearl 129 = .ok (.iaload, 1) := dk_46 (dk_at dksX3_takePearl_5 13 rfl rfl)
theorem dX3_takePearl_130 : decode cX3_takePearl 130 = .ok (.iload_n 3, 1) := dk_29 (dk_at dksX3_takePearl_5 14 rfl rfl)
theorem dX3_takePearl_131 : decode cX3_takePearl 131 = .ok (.iadd, 1) := dk_96 (dk_at dksX3_takePearl_5 15 rfl rfl)
theorem dX3_takePearl_132 : decode cX3_takePearl 132 = .ok (.iastore, 1) := dk_79 (dk_at dksX3_takePearl_5 16 rfl rfl)
theorem dX3_takePearl_133 : decode cX3_takePearl 133 = .ok (.iload_n 3, 1) := dk_29 (dk_at dksX3_takePearl_5 17 rfl rfl)
theorem dX3_takePearl_134 : decode cX3_takePearl 134 = .ok (.ireturn, 1) := dk_172 (dk_at dksX3_takePearl_5 18 rfl rfl)
abbrev cX3_isPlace : ByteArray := prog_31_method_21_code
def yX3_isPlace : MethodName := ⟨RX3, "isPlace", "(II)Z"⟩
def dkwX3_isPlace_0 : List UInt8 := [28, 3, 42, 27, 5, 182, 0, 72, 4, 100, 184, 0, 68, 172]
abbrev dktX3_isPlace_0 : List UInt8 := dkwX3_isPlace_0 ++ []
theorem dksX3_isPlace_0 : cX3_isPlace.data.toList.drop 0 = dktX3_isPlace_0 := by decide +kernel
theorem dX3_isPlace_0 : decode cX3_isPlace 0 = .ok (.iload_n 2, 1) := dk_28 (dk_at dksX3_isPlace_0 0 rfl rfl)
theorem dX3_isPlace_1 : decode cX3_isPlace 1 = .ok (.iconst 0, 1) := dk_3 (dk_at dksX3_isPlace_0 1 rfl rfl)
theorem dX3_isPlace_2 : decode cX3_isPlace 2 = .ok (.aload_n 0, 1) := dk_42 (dk_at dksX3_isPlace_0 2 rfl rfl)
theorem dX3_isPlace_3 : decode cX3_isPlace 3 = .ok (.iload_n 1, 1) := dk_27 (dk_at dksX3_isPlace_0 3 rfl rfl)
theorem dX3_isPlace_4 : decode cX3_isPlace 4 = .ok (.iconst 2, 1) := dk_5 (dk_at dksX3_isPlace_0 4 rfl rfl)
theorem dX3_isPlace_5 : decode cX3_isPlace 5 = .ok (.invokevirtual 72, 3) := dk_182 0 72 (dk_at dksX3_isPlace_0 5 rfl rfl)
theorem dX3_isPlace_8 : decode cX3_isPlace 8 = .ok (.iconst 1, 1) := dk_4 (dk_at dksX3_isPlace_0 8 rfl rfl)
theorem dX3_isPlace_9 : decode cX3_isPlace 9 = .ok (.isub, 1) := dk_100 (dk_at dksX3_isPlace_0 9 rfl rfl)
theorem dX3_isPlace_10 : decode cX3_isPlace 10 = .ok (.invokestatic 68, 3) := dk_184 0 68 (dk_at dksX3_isPlace_0 10 rfl rfl)
theorem dX3_isPlace_13 : decode cX3_isPlace 13 = .ok (.ireturn, 1) := dk_172 (dk_at dksX3_isPlace_0 13 rfl rfl)
abbrev cX3_sizeOf : ByteArray := prog_31_method_14_code
def yX3_sizeOf : MethodName := ⟨RX3, "sizeOf", "(II)I"⟩
def dkwX3_sizeOf_0 : List UInt8 := [42, 180, 0, 7, 16, 16, 16, 10, 27, 104, 96, 6, 96, 28, 96, 46, 172]
abbrev dktX3_sizeOf_0 : List UInt8 := dkwX3_sizeOf_0 ++ []
theorem dksX3_sizeOf_0 : cX3_sizeOf.data.toList.drop 0 = dktX3_sizeOf_0 := by decide +kernel
theorem dX3_sizeOf_0 : decode cX3_sizeOf 0 = .ok (.aload_n 0, 1) := dk_42 (dk_at dksX3_sizeOf_0 0 rfl rfl)
theorem dX3_sizeOf_1 : decode cX3_sizeOf 1 = .ok (.getfield 7, 3) := dk_180 0 7 (dk_at dksX3_sizeOf_0 1 rfl rfl)
theorem dX3_sizeOf_4 : decode cX3_sizeOf 4 = .ok (.bipush 16, 2) := dk_16 16 (dk_at dksX3_sizeOf_0 4 rfl rfl)
theorem dX3_sizeOf_6 : decode cX3_sizeOf 6 = .ok (.bipush 10, 2) := dk_16 10 (dk_at dksX3_sizeOf_0 6 rfl rfl)
theorem dX3_sizeOf_8 : decode cX3_sizeOf 8 = .ok (.iload_n 1, 1) := dk_27 (dk_at dksX3_sizeOf_0 8 rfl rfl)
theorem dX3_sizeOf_9 : decode cX3_sizeOf 9 = .ok (.imul, 1) := dk_104 (dk_at dksX3_sizeOf_0 9 rfl rfl)
theorem dX3_sizeOf_10 : decode cX3_sizeOf 10 = .ok (.iadd, 1) := dk_96 (dk_at dksX3_sizeOf_0 10 rfl rfl)
theorem dX3_sizeOf_11 : decode cX3_sizeOf 11 = .ok (.iconst 3, 1) := dk_6 (dk_at dksX3_sizeOf_0 11 rfl rfl)
theorem dX3_sizeOf_12 : decode cX3_sizeOf 12 = .ok (.iadd, 1) := dk_96 (dk_at dksX3_sizeOf_0 12 rfl rfl)
theorem dX3_sizeOf_13 : decode cX3_sizeOf 13 = .ok (.iload_n 2, 1) := dk_28 (dk_at dksX3_sizeOf_0 13 rfl rfl)
theorem dX3_sizeOf_14 : decode cX3_sizeOf 14 = .ok (.iadd, 1) := dk_96 (dk_at dksX3_sizeOf_0 14 rfl rfl)
theorem dX3_sizeOf_15 : decode cX3_sizeOf 15 = .ok (.iaload, 1) := dk_46 (dk_at dksX3_sizeOf_0 15 rfl rfl)
theorem dX3_sizeOf_16 : decode cX3_sizeOf 16 = .ok (.ireturn, 1) := dk_172 (dk_at dksX3_sizeOf_0 16 rfl rfl)
abbrev cX3_pearl : ByteArray := prog_31_method_27_code
def yX3_pearl : MethodName := ⟨RX3, "pearl", "(II)I"⟩
def dkwX3_pearl_1 : List UInt8 := [182, 0, 93, 153, 0, 12, 42, 27, 28, 182, 0, 97, 167, 0, 8, 42, 5, 182, 0, 42, 172]
abbrev dktX3_pearl_1 : List UInt8 := dkwX3_pearl_1 ++ []
def dkwX3_pearl_0 : List UInt8 := [42, 3, 181, 0, 32, 42, 27, 182, 0, 82, 154, 0, 9, 42, 4, 182, 0, 42, 172, 42, 27, 28]
abbrev dktX3_pearl_0 : List UInt8 := dkwX3_pearl_0 ++ dktX3_pearl_1
theorem dksX3_pearl_0 : cX3_pearl.data.toList.drop 0 = dktX3_pearl_0 := by decide +kernel
theorem dksX3_pearl_1 : cX3_pearl.data.toList.drop 22 = dktX3_pearl_1 := dk_seg dksX3_pearl_0 22 rfl rfl
theorem dX3_pearl_0 : decode cX3_pearl 0 = .ok (.aload_n 0, 1) := dk_42 (dk_at dksX3_pearl_0 0 rfl rfl)
theorem dX3_pearl_1 : decode cX3_pearl 1 = .ok (.iconst 0, 1) := dk_3 (dk_at dksX3_pearl_0 1 rfl rfl)
theorem dX3_pearl_2 : decode cX3_pearl 2 = .ok (.putfield 32, 3) := dk_181 0 32 (dk_at dksX3_pearl_0 2 rfl rfl)
theorem dX3_pearl_5 : decode cX3_pearl 5 = .ok (.aload_n 0, 1) := dk_42 (dk_at dksX3_pearl_0 5 rfl rfl)
theorem dX3_pearl_6 : decode cX3_pearl 6 = .ok (.iload_n 1, 1) := dk_27 (dk_at dksX3_pearl_0 6 rfl rfl)
theorem dX3_pearl_7 : decode cX3_pearl 7 = .ok (.invokevirtual 82, 3) := dk_182 0 82 (dk_at dksX3_pearl_0 7 rfl rfl)
theorem dX3_pearl_10 : decode cX3_pearl 10 = .ok (.ifCond .ne 9, 3) := dk_154 0 9 (dk_at dksX3_pearl_0 10 rfl rfl)
theorem dX3_pearl_13 : decode cX3_pearl 13 = .ok (.aload_n 0, 1) := dk_42 (dk_at dksX3_pearl_0 13 rfl rfl)
theorem dX3_pearl_14 : decode cX3_pearl 14 = .ok (.iconst 1, 1) := dk_4 (dk_at dksX3_pearl_0 14 rfl rfl)
theorem dX3_pearl_15 : decode cX3_pearl 15 = .ok (.invokevirtual 42, 3) := dk_182 0 42 (dk_at dksX3_pearl_0 15 rfl rfl)
theorem dX3_pearl_18 : decode cX3_pearl 18 = .ok (.ireturn, 1) := dk_172 (dk_at dksX3_pearl_0 18 rfl rfl)
theorem dX3_pearl_19 : decode cX3_pearl 19 = .ok (.aload_n 0, 1) := dk_42 (dk_at dksX3_pearl_0 19 rfl rfl)
theorem dX3_pearl_20 : decode cX3_pearl 20 = .ok (.iload_n 1, 1) := dk_27 (dk_at dksX3_pearl_0 20 rfl rfl)
theorem dX3_pearl_21 : decode cX3_pearl 21 = .ok (.iload_n 2, 1) := dk_28 (dk_at dksX3_pearl_0 21 rfl rfl)
theorem dX3_pearl_22 : decode cX3_pearl 22 = .ok (.invokevirtual 93, 3) := dk_182 0 93 (dk_at dksX3_pearl_1 0 rfl rfl)
theorem dX3_pearl_25 : decode cX3_pearl 25 = .ok (.ifCond .eq 12, 3) := dk_153 0 12 (dk_at dksX3_pearl_1 3 rfl rfl)
theorem dX3_pearl_28 : decode cX3_pearl 28 = .ok (.aload_n 0, 1) := dk_42 (dk_at dksX3_pearl_1 6 rfl rfl)
theorem dX3_pearl_29 : decode cX3_pearl 29 = .ok (.iload_n 1, 1) := dk_27 (dk_at dksX3_pearl_1 7 rfl rfl)
theorem dX3_pearl_30 : decode cX3_pearl 30 = .ok (.iload_n 2, 1) := dk_28 (dk_at dksX3_pearl_1 8 rfl rfl)
theorem dX3_pearl_31 : decode cX3_pearl 31 = .ok (.invokevirtual 97, 3) := dk_182 0 97 (dk_at dksX3_pearl_1 9 rfl rfl)
theorem dX3_pearl_34 : decode cX3_pearl 34 = .ok (.goto 8, 3) := dk_167 0 8 (dk_at dksX3_pearl_1 12 rfl rfl)
theorem dX3_pearl_37 : decode cX3_pearl 37 = .ok (.aload_n 0, 1) := dk_42 (dk_at dksX3_pearl_1 15 rfl rfl)
theorem dX3_pearl_38 : decode cX3_pearl 38 = .ok (.iconst 2, 1) := dk_5 (dk_at dksX3_pearl_1 16 rfl rfl)
theorem dX3_pearl_39 : decode cX3_pearl 39 = .ok (.invokevirtual 42, 3) := dk_182 0 42 (dk_at dksX3_pearl_1 17 rfl rfl)
theorem dX3_pearl_42 : decode cX3_pearl 42 = .ok (.ireturn, 1) := dk_172 (dk_at dksX3_pearl_1 20 rfl rfl)
abbrev cX3_ranked : ByteArray := prog_31_method_29_code
def yX3_ranked : MethodName := ⟨RX3, "ranked", "(I)I"⟩
def dkwX3_ranked_2 : List UInt8 := [132, 3, 1, 167, 255, 226, 132, 2, 1, 167, 255, 208, 42, 4, 182, 0, 42, 172]
abbrev dktX3_ranked_2 : List UInt8 := dkwX3_ranked_2 ++ []
def dkwX3_ranked_1 : List UInt8 := [182, 0, 72, 162, 0, 26, 42, 28, 29, 182, 0, 100, 27, 160, 0, 10, 16, 10, 28, 104, 29, 96, 172]
abbrev dktX3_ranked_1 : List UInt8 := dkwX3_ranked_1 ++ dktX3_ranked_2
def dkwX3_ranked_0 : List UInt8 := [42, 3, 181, 0, 32, 3, 61, 28, 42, 180, 0, 7, 4, 46, 162, 0, 44, 3, 62, 29, 42, 28, 5]
abbrev dktX3_ranked_0 : List UInt8 := dkwX3_ranked_0 ++ dktX3_ranked_1
theorem dksX3_ranked_0 : cX3_ranked.data.toList.drop 0 = dktX3_ranked_0 := by decide +kernel
theorem dksX3_ranked_1 : cX3_ranked.data.toList.drop 23 = dktX3_ranked_1 := dk_seg dksX3_ranked_0 23 rfl rfl
theorem dksX3_ranked_2 : cX3_ranked.data.toList.drop 46 = dktX3_ranked_2 := dk_seg dksX3_ranked_1 23 rfl rfl
theorem dX3_ranked_0 : decode cX3_ranked 0 = .ok (.aload_n 0, 1) := dk_42 (dk_at dksX3_ranked_0 0 rfl rfl)
theorem dX3_ranked_1 : decode cX3_ranked 1 = .ok (.iconst 0, 1) := dk_3 (dk_at dksX3_ranked_0 1 rfl rfl)
theorem dX3_ranked_2 : decode cX3_ranked 2 = .ok (.putfield 32, 3) := dk_181 0 32 (dk_at dksX3_ranked_0 2 rfl rfl)
theorem dX3_ranked_5 : decode cX3_ranked 5 = .ok (.iconst 0, 1) := dk_3 (dk_at dksX3_ranked_0 5 rfl rfl)
theorem dX3_ranked_6 : decode cX3_ranked 6 = .ok (.istore_n 2, 1) := dk_61 (dk_at dksX3_ranked_0 6 rfl rfl)
theorem dX3_ranked_7 : decode cX3_ranked 7 = .ok (.iload_n 2, 1) := dk_28 (dk_at dksX3_ranked_0 7 rfl rfl)
theorem dX3_ranked_8 : decode cX3_ranked 8 = .ok (.aload_n 0, 1) := dk_42 (dk_at dksX3_ranked_0 8 rfl rfl)
theorem dX3_ranked_9 : decode cX3_ranked 9 = .ok (.getfield 7, 3) := dk_180 0 7 (dk_at dksX3_ranked_0 9 rfl rfl)
theorem dX3_ranked_12 : decode cX3_ranked 12 = .ok (.iconst 1, 1) := dk_4 (dk_at dksX3_ranked_0 12 rfl rfl)
theorem dX3_ranked_13 : decode cX3_ranked 13 = .ok (.iaload, 1) := dk_46 (dk_at dksX3_ranked_0 13 rfl rfl)
theorem dX3_ranked_14 : decode cX3_ranked 14 = .ok (.if_icmp .ge 44, 3) := dk_162 0 44 (dk_at dksX3_ranked_0 14 rfl rfl)
theorem dX3_ranked_17 : decode cX3_ranked 17 = .ok (.iconst 0, 1) := dk_3 (dk_at dksX3_ranked_0 17 rfl rfl)
theorem dX3_ranked_18 : decode cX3_ranked 18 = .ok (.istore_n 3, 1) := dk_62 (dk_at dksX3_ranked_0 18 rfl rfl)
theorem dX3_ranked_19 : decode cX3_ranked 19 = .ok (.iload_n 3, 1) := dk_29 (dk_at dksX3_ranked_0 19 rfl rfl)
theorem dX3_ranked_20 : decode cX3_ranked 20 = .ok (.aload_n 0, 1) := dk_42 (dk_at dksX3_ranked_0 20 rfl rfl)
theorem dX3_ranked_21 : decode cX3_ranked 21 = .ok (.iload_n 2, 1) := dk_28 (dk_at dksX3_ranked_0 21 rfl rfl)
theorem dX3_ranked_22 : decode cX3_ranked 22 = .ok (.iconst 2, 1) := dk_5 (dk_at dksX3_ranked_0 22 rfl rfl)
theorem dX3_ranked_23 : decode cX3_ranked 23 = .ok (.invokevirtual 72, 3) := dk_182 0 72 (dk_at dksX3_ranked_1 0 rfl rfl)
theorem dX3_ranked_26 : decode cX3_ranked 26 = .ok (.if_icmp .ge 26, 3) := dk_162 0 26 (dk_at dksX3_ranked_1 3 rfl rfl)
theorem dX3_ranked_29 : decode cX3_ranked 29 = .ok (.aload_n 0, 1) := dk_42 (dk_at dksX3_ranked_1 6 rfl rfl)
theorem dX3_ranked_30 : decode cX3_ranked 30 = .ok (.iload_n 2, 1) := dk_28 (dk_at dksX3_ranked_1 7 rfl rfl)
theorem dX3_ranked_31 : decode cX3_ranked 31 = .ok (.iload_n 3, 1) := dk_29 (dk_at dksX3_ranked_1 8 rfl rfl)
theorem dX3_ranked_32 : decode cX3_ranked 32 = .ok (.invokevirtual 100, 3) := dk_182 0 100 (dk_at dksX3_ranked_1 9 rfl rfl)
theorem dX3_ranked_35 : decode cX3_ranked 35 = .ok (.iload_n 1, 1) := dk_27 (dk_at dksX3_ranked_1 12 rfl rfl)
theorem dX3_ranked_36 : decode cX3_ranked 36 = .ok (.if_icmp .ne 10, 3) := dk_160 0 10 (dk_at dksX3_ranked_1 13 rfl rfl)
theorem dX3_ranked_39 : decode cX3_ranked 39 = .ok (.bipush 10, 2) := dk_16 10 (dk_at dksX3_ranked_1 16 rfl rfl)
theorem dX3_ranked_41 : decode cX3_ranked 41 = .ok (.iload_n 2, 1) := dk_28 (dk_at dksX3_ranked_1 18 rfl rfl)
theorem dX3_ranked_42 : decode cX3_ranked 42 = .ok (.imul, 1) := dk_104 (dk_at dksX3_ranked_1 19 rfl rfl)
theorem dX3_ranked_43 : decode cX3_ranked 43 = .ok (.iload_n 3, 1) := dk_29 (dk_at dksX3_ranked_1 20 rfl rfl)
theorem dX3_ranked_44 : decode cX3_ranked 44 = .ok (.iadd, 1) := dk_96 (dk_at dksX3_ranked_1 21 rfl rfl)
theorem dX3_ranked_45 : decode cX3_ranked 45 = .ok (.ireturn, 1) := dk_172 (dk_at dksX3_ranked_1 22 rfl rfl)
theorem dX3_ranked_46 : decode cX3_ranked 46 = .ok (.iinc 3 1, 3) := dk_132 3 1 (dk_at dksX3_ranked_2 0 rfl rfl)
theorem dX3_ranked_49 : decode cX3_ranked 49 = .ok (.goto (-30), 3) := dk_167 255 226 (dk_at dksX3_ranked_2 3 rfl rfl)
theorem dX3_ranked_52 : decode cX3_ranked 52 = .ok (.iinc 2 1, 3) := dk_132 2 1 (dk_at dksX3_ranked_2 6 rfl rfl)
theorem dX3_ranked_55 : decode cX3_ranked 55 = .ok (.goto (-48), 3) := dk_167 255 208 (dk_at dksX3_ranked_2 9 rfl rfl)
theorem dX3_ranked_58 : decode cX3_ranked 58 = .ok (.aload_n 0, 1) := dk_42 (dk_at dksX3_ranked_2 12 rfl rfl)
theorem dX3_ranked_59 : decode cX3_ranked 59 = .ok (.iconst 1, 1) := dk_4 (dk_at dksX3_ranked_2 13 rfl rfl)
theorem dX3_ranked_60 : decode cX3_ranked 60 = .ok (.invokevirtual 42, 3) := dk_182 0 42 (dk_at dksX3_ranked_2 14 rfl rfl)
theorem dX3_ranked_63 : decode cX3_ranked 63 = .ok (.ireturn, 1) := dk_172 (dk_at dksX3_ranked_2 17 rfl rfl)
abbrev cX3_aheadOf : ByteArray := prog_31_method_28_code
def yX3_aheadOf : MethodName := ⟨RX3, "aheadOf", "(II)I"⟩
def dkwX3_aheadOf_5 : List UInt8 := [29, 172]
abbrev dktX3_aheadOf_5 : List UInt8 := dkwX3_aheadOf_5 ++ []
def dkwX3_aheadOf_4 : List UInt8 := [21, 6, 153, 0, 7, 4, 167, 0, 4, 3, 96, 62, 132, 5, 1, 167, 255, 169, 132, 4, 1, 167, 255, 149]
abbrev dktX3_aheadOf_4 : List UInt8 := dkwX3_aheadOf_4 ++ dktX3_aheadOf_5
def dkwX3_aheadOf_3 : List UInt8 := [182, 0, 97, 163, 0, 25, 42, 21, 4, 21, 5, 182, 0, 97, 42, 27, 28, 182, 0, 97, 160, 0, 12]
abbrev dktX3_aheadOf_3 : List UInt8 := dkwX3_aheadOf_3 ++ dktX3_aheadOf_4
def dkwX3_aheadOf_2 : List UInt8 := [162, 0, 7, 4, 167, 0, 4, 3, 54, 6, 29, 42, 21, 4, 21, 5, 182, 0, 97, 42, 27, 28]
abbrev dktX3_aheadOf_2 : List UInt8 := dkwX3_aheadOf_2 ++ dktX3_aheadOf_3
def dkwX3_aheadOf_1 : List UInt8 := [5, 182, 0, 72, 162, 0, 81, 21, 4, 27, 161, 0, 15, 21, 4, 27, 160, 0, 13, 21, 5, 28]
abbrev dktX3_aheadOf_1 : List UInt8 := dkwX3_aheadOf_1 ++ dktX3_aheadOf_2
def dkwX3_aheadOf_0 : List UInt8 := [3, 62, 3, 54, 4, 21, 4, 42, 180, 0, 7, 4, 46, 162, 0, 102, 3, 54, 5, 21, 5, 42, 21, 4]
abbrev dktX3_aheadOf_0 : List UInt8 := dkwX3_aheadOf_0 ++ dktX3_aheadOf_1
theorem dksX3_aheadOf_0 : cX3_aheadOf.data.toList.drop 0 = dktX3_aheadOf_0 := by decide +kernel
theorem dksX3_aheadOf_1 : cX3_aheadOf.data.toList.drop 24 = dktX3_aheadOf_1 := dk_seg dksX3_aheadOf_0 24 rfl rfl
theorem dksX3_aheadOf_2 : cX3_aheadOf.data.toList.drop 46 = dktX3_aheadOf_2 := dk_seg dksX3_aheadOf_1 22 rfl rfl
theorem dksX3_aheadOf_3 : cX3_aheadOf.data.toList.drop 68 = dktX3_aheadOf_3 := dk_seg dksX3_aheadOf_2 22 rfl rfl
theorem dksX3_aheadOf_4 : cX3_aheadOf.data.toList.drop 91 = dktX3_aheadOf_4 := dk_seg dksX3_aheadOf_3 23 rfl rfl
theorem dksX3_aheadOf_5 : cX3_aheadOf.data.toList.drop 115 = dktX3_aheadOf_5 := dk_seg dksX3_aheadOf_4 24 rfl rfl
theorem dX3_aheadOf_0 : decode cX3_aheadOf 0 = .ok (.iconst 0, 1) := dk_3 (dk_at dksX3_aheadOf_0 0 rfl rfl)
theorem dX3_aheadOf_1 : decode cX3_aheadOf 1 = .ok (.istore_n 3, 1) := dk_62 (dk_at dksX3_aheadOf_0 1 rfl rfl)
theorem dX3_aheadOf_2 : decode cX3_aheadOf 2 = .ok (.iconst 0, 1) := dk_3 (dk_at dksX3_aheadOf_0 2 rfl rfl)
theorem dX3_aheadOf_3 : decode cX3_aheadOf 3 = .ok (.istore 4, 2) := dk_54 4 (dk_at dksX3_aheadOf_0 3 rfl rfl)
theorem dX3_aheadOf_5 : decode cX3_aheadOf 5 = .ok (.iload 4, 2) := dk_21 4 (dk_at dksX3_aheadOf_0 5 rfl rfl)
theorem dX3_aheadOf_7 : decode cX3_aheadOf 7 = .ok (.aload_n 0, 1) := dk_42 (dk_at dksX3_aheadOf_0 7 rfl rfl)
theorem dX3_aheadOf_8 : decode cX3_aheadOf 8 = .ok (.getfield 7, 3) := dk_180 0 7 (dk_at dksX3_aheadOf_0 8 rfl rfl)
theorem dX3_aheadOf_11 : decode cX3_aheadOf 11 = .ok (.iconst 1, 1) := dk_4 (dk_at dksX3_aheadOf_0 11 rfl rfl)
theorem dX3_aheadOf_12 : decode cX3_aheadOf 12 = .ok (.iaload, 1) := dk_46 (dk_at dksX3_aheadOf_0 12 rfl rfl)
theorem dX3_aheadOf_13 : decode cX3_aheadOf 13 = .ok (.if_icmp .ge 102, 3) := dk_162 0 102 (dk_at dksX3_aheadOf_0 13 rfl rfl)
theorem dX3_aheadOf_16 : decode cX3_aheadOf 16 = .ok (.iconst 0, 1) := dk_3 (dk_at dksX3_aheadOf_0 16 rfl rfl)
theorem dX3_aheadOf_17 : decode cX3_aheadOf 17 = .ok (.istore 5, 2) := dk_54 5 (dk_at dksX3_aheadOf_0 17 rfl rfl)
theorem dX3_aheadOf_19 : decode cX3_aheadOf 19 = .ok (.iload 5, 2) := dk_21 5 (dk_at dksX3_aheadOf_0 19 rfl rfl)
theorem dX3_aheadOf_21 : decode cX3_aheadOf 21 = .ok (.aload_n 0, 1) := dk_42 (dk_at dksX3_aheadOf_0 21 rfl rfl)
theorem dX3_aheadOf_22 : decode cX3_aheadOf 22 = .ok (.iload 4, 2) := dk_21 4 (dk_at dksX3_aheadOf_0 22 rfl rfl)
theorem dX3_aheadOf_24 : decode cX3_aheadOf 24 = .ok (.iconst 2, 1) := dk_5 (dk_at dksX3_aheadOf_1 0 rfl rfl)
theorem dX3_aheadOf_25 : decode cX3_aheadOf 25 = .ok (.invokevirtual 72, 3) := dk_182 0 72 (dk_at dksX3_aheadOf_1 1 rfl rfl)
theorem dX3_aheadOf_28 : decode cX3_aheadOf 28 = .ok (.if_icmp .ge 81, 3) := dk_162 0 81 (dk_at dksX3_aheadOf_1 4 rfl rfl)
theorem dX3_aheadOf_31 : decode cX3_aheadOf 31 = .ok (.iload 4, 2) := dk_21 4 (dk_at dksX3_aheadOf_1 7 rfl rfl)
theorem dX3_aheadOf_33 : decode cX3_aheadOf 33 = .ok (.iload_n 1, 1) := dk_27 (dk_at dksX3_aheadOf_1 9 rfl rfl)
theorem dX3_aheadOf_34 : decode cX3_aheadOf 34 = .ok (.if_icmp .lt 15, 3) := dk_161 0 15 (dk_at dksX3_aheadOf_1 10 rfl rfl)
theorem dX3_aheadOf_37 : decode cX3_aheadOf 37 = .ok (.iload 4, 2) := dk_21 4 (dk_at dksX3_aheadOf_1 13 rfl rfl)
theorem dX3_aheadOf_39 : decode cX3_aheadOf 39 = .ok (.iload_n 1, 1) := dk_27 (dk_at dksX3_aheadOf_1 15 rfl rfl)
theorem dX3_aheadOf_40 : decode cX3_aheadOf 40 = .ok (.if_icmp .ne 13, 3) := dk_160 0 13 (dk_at dksX3_aheadOf_1 16 rfl rfl)
theorem dX3_aheadOf_43 : decode cX3_aheadOf 43 = .ok (.iload 5, 2) := dk_21 5 (dk_at dksX3_aheadOf_1 19 rfl rfl)
theorem dX3_aheadOf_45 : decode cX3_aheadOf 45 = .ok (.iload_n 2, 1) := dk_28 (dk_at dksX3_aheadOf_1 21 rfl rfl)
theorem dX3_aheadOf_46 : decode cX3_aheadOf 46 = .ok (.if_icmp .ge 7, 3) := dk_162 0 7 (dk_at dksX3_aheadOf_2 0 rfl rfl)
theorem dX3_aheadOf_49 : decode cX3_aheadOf 49 = .ok (.iconst 1, 1) := dk_4 (dk_at dksX3_aheadOf_2 3 rfl rfl)
theorem dX3_aheadOf_50 : decode cX3_aheadOf 50 = .ok (.goto 4, 3) := dk_167 0 4 (dk_at dksX3_aheadOf_2 4 rfl rfl)
theorem dX3_aheadOf_53 : decode cX3_aheadOf 53 = .ok (.iconst 0, 1) := dk_3 (dk_at dksX3_aheadOf_2 7 rfl rfl)
theorem dX3_aheadOf_54 : decode cX3_aheadOf 54 = .ok (.istore 6, 2) := dk_54 6 (dk_at dksX3_aheadOf_2 8 rfl rfl)
theorem dX3_aheadOf_56 : decode cX3_aheadOf 56 = .ok (.iload_n 3, 1) := dk_29 (dk_at dksX3_aheadOf_2 10 rfl rfl)
theorem dX3_aheadOf_57 : decode cX3_aheadOf 57 = .ok (.aload_n 0, 1) := dk_42 (dk_at dksX3_aheadOf_2 11 rfl rfl)
theorem dX3_aheadOf_58 : decode cX3_aheadOf 58 = .ok (.iload 4, 2) := dk_21 4 (dk_at dksX3_aheadOf_2 12 rfl rfl)
theorem dX3_aheadOf_60 : decode cX3_aheadOf 60 = .ok (.iload 5, 2) := dk_21 5 (dk_at dksX3_aheadOf_2 14 rfl rfl)
theorem dX3_aheadOf_62 : decode cX3_aheadOf 62 = .ok (.invokevirtual 97, 3) := dk_182 0 97 (dk_at dksX3_aheadOf_2 16 rfl rfl)
theorem dX3_aheadOf_65 : decode cX3_aheadOf 65 = .ok (.aload_n 0, 1) := dk_42 (dk_at dksX3_aheadOf_2 19 rfl rfl)
theorem dX3_aheadOf_66 : decode cX3_aheadOf 66 = .ok (.iload_n 1, 1) := dk_27 (dk_at dksX3_aheadOf_2 20 rfl rfl)
theorem dX3_aheadOf_67 : decode cX3_aheadOf 67 = .ok (.iload_n 2, 1) := dk_28 (dk_at dksX3_aheadOf_2 21 rfl rfl)
theorem dX3_aheadOf_68 : decode cX3_aheadOf 68 = .ok (.invokevirtual 97, 3) := dk_182 0 97 (dk_at dksX3_aheadOf_3 0 rfl rfl)
theorem dX3_aheadOf_71 : decode cX3_aheadOf 71 = .ok (.if_icmp .gt 25, 3) := dk_163 0 25 (dk_at dksX3_aheadOf_3 3 rfl rfl)
theorem dX3_aheadOf_74 : decode cX3_aheadOf 74 = .ok (.aload_n 0, 1) := dk_42 (dk_at dksX3_aheadOf_3 6 rfl rfl)
theorem dX3_aheadOf_75 : decode cX3_aheadOf 75 = .ok (.iload 4, 2) := dk_21 4 (dk_at dksX3_aheadOf_3 7 rfl rfl)
theorem dX3_aheadOf_77 : decode cX3_aheadOf 77 = .ok (.iload 5, 2) := dk_21 5 (dk_at dksX3_aheadOf_3 9 rfl rfl)
theorem dX3_aheadOf_79 : decode cX3_aheadOf 79 = .ok (.invokevirtual 97, 3) := dk_182 0 97 (dk_at dksX3_aheadOf_3 11 rfl rfl)
theorem dX3_aheadOf_82 : decode cX3_aheadOf 82 = .ok (.aload_n 0, 1) := dk_42 (dk_at dksX3_aheadOf_3 14 rfl rfl)
theorem dX3_aheadOf_83 : decode cX3_aheadOf 83 = .ok (.iload_n 1, 1) := dk_27 (dk_at dksX3_aheadOf_3 15 rfl rfl)
theorem dX3_aheadOf_84 : decode cX3_aheadOf 84 = .ok (.iload_n 2, 1) := dk_28 (dk_at dksX3_aheadOf_3 16 rfl rfl)
theorem dX3_aheadOf_85 : decode cX3_aheadOf 85 = .ok (.invokevirtual 97, 3) := dk_182 0 97 (dk_at dksX3_aheadOf_3 17 rfl rfl)
theorem dX3_aheadOf_88 : decode cX3_aheadOf 88 = .ok (.if_icmp .ne 12, 3) := dk_160 0 12 (dk_at dksX3_aheadOf_3 20 rfl rfl)
theorem dX3_aheadOf_91 : decode cX3_aheadOf 91 = .ok (.iload 6, 2) := dk_21 6 (dk_at dksX3_aheadOf_4 0 rfl rfl)
theorem dX3_aheadOf_93 : decode cX3_aheadOf 93 = .ok (.ifCond .eq 7, 3) := dk_153 0 7 (dk_at dksX3_aheadOf_4 2 rfl rfl)
theorem dX3_aheadOf_96 : decode cX3_aheadOf 96 = .ok (.iconst 1, 1) := dk_4 (dk_at dksX3_aheadOf_4 5 rfl rfl)
theorem dX3_aheadOf_97 : decode cX3_aheadOf 97 = .ok (.goto 4, 3) := dk_167 0 4 (dk_at dksX3_aheadOf_4 6 rfl rfl)
theorem dX3_aheadOf_100 : decode cX3_aheadOf 100 = .ok (.iconst 0, 1) := dk_3 (dk_at dksX3_aheadOf_4 9 rfl rfl)
theorem dX3_aheadOf_101 : decode cX3_aheadOf 101 = .ok (.iadd, 1) := dk_96 (dk_at dksX3_aheadOf_4 10 rfl rfl)
theorem dX3_aheadOf_102 : decode cX3_aheadOf 102 = .ok (.istore_n 3, 1) := dk_62 (dk_at dksX3_aheadOf_4 11 rfl rfl)
theorem dX3_aheadOf_103 : decode cX3_aheadOf 103 = .ok (.iinc 5 1, 3) := dk_132 5 1 (dk_at dksX3_aheadOf_4 12 rfl rfl)
theorem dX3_aheadOf_106 : decode cX3_aheadOf 106 = .ok (.goto (-87), 3) := dk_167 255 169 (dk_at dksX3_aheadOf_4 15 rfl rfl)
theorem dX3_aheadOf_109 : decode cX3_aheadOf 109 = .ok (.iinc 4 1, 3) := dk_132 4 1 (dk_at dksX3_aheadOf_4 18 rfl rfl)
theorem dX3_aheadOf_112 : decode cX3_aheadOf 112 = .ok (.goto (-107), 3) := dk_167 255 149 (dk_at dksX3_aheadOf_4 21 rfl rfl)
theorem dX3_aheadOf_115 : decode cX3_aheadOf 115 = .ok (.iload_n 3, 1) := dk_29 (dk_at dksX3_aheadOf_5 0 rfl rfl)
theorem dX3_aheadOf_116 : decode cX3_aheadOf 116 = .ok (.ireturn, 1) := dk_172 (dk_at dksX3_aheadOf_5 1 rfl rfl)
abbrev cX3_addStone : ByteArray := prog_31_method_30_code
def yX3_addStone : MethodName := ⟨RX3, "addStone", "(II)I"⟩
def dkwX3_addStone_4 : List UInt8 := [180, 0, 7, 3, 46, 28, 96, 182, 0, 103, 29, 172]
abbrev dktX3_addStone_4 : List UInt8 := dkwX3_addStone_4 ++ []
def dkwX3_addStone_3 : List UInt8 := [92, 46, 4, 96, 79, 42, 29, 3, 27, 182, 0, 103, 42, 29, 4, 28, 182, 0, 103, 42, 29, 7, 42]
abbrev dktX3_addStone_3 : List UInt8 := dkwX3_addStone_3 ++ dktX3_addStone_4
def dkwX3_addStone_2 : List UInt8 := [6, 4, 16, 8, 182, 0, 52, 172, 42, 182, 0, 76, 42, 180, 0, 7, 5, 46, 62, 42, 180, 0, 7, 5]
abbrev dktX3_addStone_2 : List UInt8 := dkwX3_addStone_2 ++ dktX3_addStone_3
def dkwX3_addStone_1 : List UInt8 := [184, 0, 68, 154, 0, 9, 42, 5, 182, 0, 42, 172, 42, 180, 0, 7, 5, 46, 16, 8, 160, 0, 12, 42]
abbrev dktX3_addStone_1 : List UInt8 := dkwX3_addStone_1 ++ dktX3_addStone_2
def dkwX3_addStone_0 : List UInt8 := [42, 3, 181, 0, 32, 42, 27, 182, 0, 82, 154, 0, 9, 42, 4, 182, 0, 42, 172, 28, 4, 16, 20]
abbrev dktX3_addStone_0 : List UInt8 := dkwX3_addStone_0 ++ dktX3_addStone_1
theorem dksX3_addStone_0 : cX3_addStone.data.toList.drop 0 = dktX3_addStone_0 := by decide +kernel
theorem dksX3_addStone_1 : cX3_addStone.data.toList.drop 23 = dktX3_addStone_1 := dk_seg dksX3_addStone_0 23 rfl rfl
theorem dksX3_addStone_2 : cX3_addStone.data.toList.drop 47 = dktX3_addStone_2 := dk_seg dksX3_addStone_1 24 rfl rfl
theorem dksX3_addStone_3 : cX3_addStone.data.toList.drop 71 = dktX3_addStone_3 := dk_seg dksX3_addStone_2 24 rfl rfl
theorem dksX3_addStone_4 : cX3_addStone.data.toList.drop 94 = dktX3_addStone_4 := dk_seg dksX3_addStone_3 23 rfl rfl
theorem dX3_addStone_0 : decode cX3_addStone 0 = .ok (.aload_n 0, 1) := dk_42 (dk_at dksX3_addStone_0 0 rfl rfl)
theorem dX3_addStone_1 : decode cX3_addStone 1 = .ok (.iconst 0, 1) := dk_3 (dk_at dksX3_addStone_0 1 rfl rfl)
theorem dX3_addStone_2 : decode cX3_addStone 2 = .ok (.putfield 32, 3) := dk_181 0 32 (dk_at dksX3_addStone_0 2 rfl rfl)
theorem dX3_addStone_5 : decode cX3_addStone 5 = .ok (.aload_n 0, 1) := dk_42 (dk_at dksX3_addStone_0 5 rfl rfl)
theorem dX3_addStone_6 : decode cX3_addStone 6 = .ok (.iload_n 1, 1) := dk_27 (dk_at dksX3_addStone_0 6 rfl rfl)
theorem dX3_addStone_7 : decode cX3_addStone 7 = .ok (.invokevirtual 82, 3) := dk_182 0 82 (dk_at dksX3_addStone_0 7 rfl rfl)
theorem dX3_addStone_10 : decode cX3_addStone 10 = .ok (.ifCond .ne 9, 3) := dk_154 0 9 (dk_at dksX3_addStone_0 10 rfl rfl)
theorem dX3_addStone_13 : decode cX3_addStone 13 = .ok (.aload_n 0, 1) := dk_42 (dk_at dksX3_addStone_0 13 rfl rfl)
theorem dX3_addStone_14 : decode cX3_addStone 14 = .ok (.iconst 1, 1) := dk_4 (dk_at dksX3_addStone_0 14 rfl rfl)
theorem dX3_addStone_15 : decode cX3_addStone 15 = .ok (.invokevirtual 42, 3) := dk_182 0 42 (dk_at dksX3_addStone_0 15 rfl rfl)
theorem dX3_addStone_18 : decode cX3_addStone 18 = .ok (.ireturn, 1) := dk_172 (dk_at dksX3_addStone_0 18 rfl rfl)
theorem dX3_addStone_19 : decode cX3_addStone 19 = .ok (.iload_n 2, 1) := dk_28 (dk_at dksX3_addStone_0 19 rfl rfl)
theorem dX3_addStone_20 : decode cX3_addStone 20 = .ok (.iconst 1, 1) := dk_4 (dk_at dksX3_addStone_0 20 rfl rfl)
theorem dX3_addStone_21 : decode cX3_addStone 21 = .ok (.bipush 20, 2) := dk_16 20 (dk_at dksX3_addStone_0 21 rfl rfl)
theorem dX3_addStone_23 : decode cX3_addStone 23 = .ok (.invokestatic 68, 3) := dk_184 0 68 (dk_at dksX3_addStone_1 0 rfl rfl)
theorem dX3_addStone_26 : decode cX3_addStone 26 = .ok (.ifCond .ne 9, 3) := dk_154 0 9 (dk_at dksX3_addStone_1 3 rfl rfl)
theorem dX3_addStone_29 : decode cX3_addStone 29 = .ok (.aload_n 0, 1) := dk_42 (dk_at dksX3_addStone_1 6 rfl rfl)
theorem dX3_addStone_30 : decode cX3_addStone 30 = .ok (.iconst 2, 1) := dk_5 (dk_at dksX3_addStone_1 7 rfl rfl)
theorem dX3_addStone_31 : decode cX3_addStone 31 = .ok (.invokevirtual 42, 3) := dk_182 0 42 (dk_at dksX3_addStone_1 8 rfl rfl)
theorem dX3_addStone_34 : decode cX3_addStone 34 = .ok (.ireturn, 1) := dk_172 (dk_at dksX3_addStone_1 11 rfl rfl)
theorem dX3_addStone_35 : decode cX3_addStone 35 = .ok (.aload_n 0, 1) := dk_42 (dk_at dksX3_addStone_1 12 rfl rfl)
theorem dX3_addStone_36 : decode cX3_addStone 36 = .ok (.getfield 7, 3) := dk_180 0 7 (dk_at dksX3_addStone_1 13 rfl rfl)
theorem dX3_addStone_39 : decode cX3_addStone 39 = .ok (.iconst 2, 1) := dk_5 (dk_at dksX3_addStone_1 16 rfl rfl)
theorem dX3_addStone_40 : decode cX3_addStone 40 = .ok (.iaload, 1) := dk_46 (dk_at dksX3_addStone_1 17 rfl rfl)
theorem dX3_addStone_41 : decode cX3_addStone 41 = .ok (.bipush 8, 2) := dk_16 8 (dk_at dksX3_addStone_1 18 rfl rfl)
theorem dX3_addStone_43 : decode cX3_addStone 43 = .ok (.if_icmp .ne 12, 3) := dk_160 0 12 (dk_at dksX3_addStone_1 20 rfl rfl)
theorem dX3_addStone_46 : decode cX3_addStone 46 = .ok (.aload_n 0, 1) := dk_42 (dk_at dksX3_addStone_1 23 rfl rfl)
theorem dX3_addStone_47 : decode cX3_addStone 47 = .ok (.iconst 3, 1) := dk_6 (dk_at dksX3_addStone_2 0 rfl rfl)
theorem dX3_addStone_48 : decode cX3_addStone 48 = .ok (.iconst 1, 1) := dk_4 (dk_at dksX3_addStone_2 1 rfl rfl)
theorem dX3_addStone_49 : decode cX3_addStone 49 = .ok (.bipush 8, 2) := dk_16 8 (dk_at dksX3_addStone_2 2 rfl rfl)
theorem dX3_addStone_51 : decode cX3_addStone 51 = .ok (.invokevirtual 52, 3) := dk_182 0 52 (dk_at dksX3_addStone_2 4 rfl rfl)
theorem dX3_addStone_54 : decode cX3_addStone 54 = .ok (.ireturn, 1) := dk_172 (dk_at dksX3_addStone_2 7 rfl rfl)
theorem dX3_addStone_55 : decode cX3_addStone 55 = .ok (.aload_n 0, 1) := dk_42 (dk_at dksX3_addStone_2 8 rfl rfl)
theorem dX3_addStone_56 : decode cX3_addStone 56 = .ok (.invokevirtual 76, 3) := dk_182 0 76 (dk_at dksX3_addStone_2 9 rfl rfl)
theorem dX3_addStone_59 : decode cX3_addStone 59 = .ok (.aload_n 0, 1) := dk_42 (dk_at dksX3_addStone_2 12 rfl rfl)
theorem dX3_addStone_60 : decode cX3_addStone 60 = .ok (.getfield 7, 3) := dk_180 0 7 (dk_at dksX3_addStone_2 13 rfl rfl)
theorem dX3_addStone_63 : decode cX3_addStone 63 = .ok (.iconst 2, 1) := dk_5 (dk_at dksX3_addStone_2 16 rfl rfl)
theorem dX3_addStone_64 : decode cX3_addStone 64 = .ok (.iaload, 1) := dk_46 (dk_at dksX3_addStone_2 17 rfl rfl)
theorem dX3_addStone_65 : decode cX3_addStone 65 = .ok (.istore_n 3, 1) := dk_62 (dk_at dksX3_addStone_2 18 rfl rfl)
theorem dX3_addStone_66 : decode cX3_addStone 66 = .ok (.aload_n 0, 1) := dk_42 (dk_at dksX3_addStone_2 19 rfl rfl)
theorem dX3_addStone_67 : decode cX3_addStone 67 = .ok (.getfield 7, 3) := dk_180 0 7 (dk_at dksX3_addStone_2 20 rfl rfl)
theorem dX3_addStone_70 : decode cX3_addStone 70 = .ok (.iconst 2, 1) := dk_5 (dk_at dksX3_addStone_2 23 rfl rfl)
theorem dX3_addStone_71 : decode cX3_addStone 71 = .ok (.dup2, 1) := dk_92 (dk_at dksX3_addStone_3 0 rfl rfl)
theorem dX3_addStone_72 : decode cX3_addStone 72 = .ok (.iaload, 1) := dk_46 (dk_at dksX3_addStone_3 1 rfl rfl)
theorem dX3_addStone_73 : decode cX3_addStone 73 = .ok (.iconst 1, 1) := dk_4 (dk_at dksX3_addStone_3 2 rfl rfl)
theorem dX3_addStone_74 : decode cX3_addStone 74 = .ok (.iadd, 1) := dk_96 (dk_at dksX3_addStone_3 3 rfl rfl)
theorem dX3_addStone_75 : decode cX3_addStone 75 = .ok (.iastore, 1) := dk_79 (dk_at dksX3_addStone_3 4 rfl rfl)
theorem dX3_addStone_76 : decode cX3_addStone 76 = .ok (.aload_n 0, 1) := dk_42 (dk_at dksX3_addStone_3 5 rfl rfl)
theorem dX3_addStone_77 : decode cX3_addStone 77 = .ok (.iload_n 3, 1) := dk_29 (dk_at dksX3_addStone_3 6 rfl rfl)
theorem dX3_addStone_78 : decode cX3_addStone 78 = .ok (.iconst 0, 1) := dk_3 (dk_at dksX3_addStone_3 7 rfl rfl)
theorem dX3_addStone_79 : decode cX3_addStone 79 = .ok (.iload_n 1, 1) := dk_27 (dk_at dksX3_addStone_3 8 rfl rfl)
theorem dX3_addStone_80 : decode cX3_addStone 80 = .ok (.invokevirtual 103, 3) := dk_182 0 103 (dk_at dksX3_addStone_3 9 rfl rfl)
theorem dX3_addStone_83 : decode cX3_addStone 83 = .ok (.aload_n 0, 1) := dk_42 (dk_at dksX3_addStone_3 12 rfl rfl)
theorem dX3_addStone_84 : decode cX3_addStone 84 = .ok (.iload_n 3, 1) := dk_29 (dk_at dksX3_addStone_3 13 rfl rfl)
theorem dX3_addStone_85 : decode cX3_addStone 85 = .ok (.iconst 1, 1) := dk_4 (dk_at dksX3_addStone_3 14 rfl rfl)
theorem dX3_addStone_86 : decode cX3_addStone 86 = .ok (.iload_n 2, 1) := dk_28 (dk_at dksX3_addStone_3 15 rfl rfl)
theorem dX3_addStone_87 : decode cX3_addStone 87 = .ok (.invokevirtual 103, 3) := dk_182 0 103 (dk_at dksX3_addStone_3 16 rfl rfl)
theorem dX3_addStone_90 : decode cX3_addStone 90 = .ok (.aload_n 0, 1) := dk_42 (dk_at dksX3_addStone_3 19 rfl rfl)
theorem dX3_addStone_91 : decode cX3_addStone 91 = .ok (.iload_n 3, 1) := dk_29 (dk_at dksX3_addStone_3 20 rfl rfl)
theorem dX3_addStone_92 : decode cX3_addStone 92 = .ok (.iconst 4, 1) := dk_7 (dk_at dksX3_addStone_3 21 rfl rfl)
theorem dX3_addStone_93 : decode cX3_addStone 93 = .ok (.aload_n 0, 1) := dk_42 (dk_at dksX3_addStone_3 22 rfl rfl)
theorem dX3_addStone_94 : decode cX3_addStone 94 = .ok (.getfield 7, 3) := dk_180 0 7 (dk_at dksX3_addStone_4 0 rfl rfl)
theorem dX3_addStone_97 : decode cX3_addStone 97 = .ok (.iconst 0, 1) := dk_3 (dk_at dksX3_addStone_4 3 rfl rfl)
theorem dX3_addStone_98 : decode cX3_addStone 98 = .ok (.iaload, 1) := dk_46 (dk_at dksX3_addStone_4 4 rfl rfl)
theorem dX3_addStone_99 : decode cX3_addStone 99 = .ok (.iload_n 2, 1) := dk_28 (dk_at dksX3_addStone_4 5 rfl rfl)
theorem dX3_addStone_100 : decode cX3_addStone 100 = .ok (.iadd, 1) := dk_96 (dk_at dksX3_addStone_4 6 rfl rfl)
theorem dX3_addStone_101 : decode cX3_addStone 101 = .ok (.invokevirtual 103, 3) := dk_182 0 103 (dk_at dksX3_addStone_4 7 rfl rfl)
theorem dX3_addStone_104 : decode cX3_addStone 104 = .ok (.iload_n 3, 1) := dk_29 (dk_at dksX3_addStone_4 10 rfl rfl)
theorem dX3_addStone_105 : decode cX3_addStone 105 = .ok (.ireturn, 1) := dk_172 (dk_at dksX3_addStone_4 11 rfl rfl)
abbrev cX3_setsStone : ByteArray := prog_31_method_16_code
def yX3_setsStone : MethodName := ⟨RX3, "setsStone", "(III)V"⟩
def dkwX3_setsStone_0 : List UInt8 := [42, 180, 0, 7, 16, 76, 8, 27, 104, 96, 28, 96, 29, 79, 177]
abbrev dktX3_setsStone_0 : List UInt8 := dkwX3_setsStone_0 ++ []
theorem dksX3_setsStone_0 : cX3_setsStone.data.toList.drop 0 = dktX3_setsStone_0 := by decide +kernel
theorem dX3_setsStone_0 : decode cX3_setsStone 0 = .ok (.aload_n 0, 1) := dk_42 (dk_at dksX3_setsStone_0 0 rfl rfl)
theorem dX3_setsStone_1 : decode cX3_setsStone 1 = .ok (.getfield 7, 3) := dk_180 0 7 (dk_at dksX3_setsStone_0 1 rfl rfl)
theorem dX3_setsStone_4 : decode cX3_setsStone 4 = .ok (.bipush 76, 2) := dk_16 76 (dk_at dksX3_setsStone_0 4 rfl rfl)
theorem dX3_setsStone_6 : decode cX3_setsStone 6 = .ok (.iconst 5, 1) := dk_8 (dk_at dksX3_setsStone_0 6 rfl rfl)
theorem dX3_setsStone_7 : decode cX3_setsStone 7 = .ok (.iload_n 1, 1) := dk_27 (dk_at dksX3_setsStone_0 7 rfl rfl)
theorem dX3_setsStone_8 : decode cX3_setsStone 8 = .ok (.imul, 1) := dk_104 (dk_at dksX3_setsStone_0 8 rfl rfl)
theorem dX3_setsStone_9 : decode cX3_setsStone 9 = .ok (.iadd, 1) := dk_96 (dk_at dksX3_setsStone_0 9 rfl rfl)
theorem dX3_setsStone_10 : decode cX3_setsStone 10 = .ok (.iload_n 2, 1) := dk_28 (dk_at dksX3_setsStone_0 10 rfl rfl)
theorem dX3_setsStone_11 : decode cX3_setsStone 11 = .ok (.iadd, 1) := dk_96 (dk_at dksX3_setsStone_0 11 rfl rfl)
theorem dX3_setsStone_12 : decode cX3_setsStone 12 = .ok (.iload_n 3, 1) := dk_29 (dk_at dksX3_setsStone_0 12 rfl rfl)
theorem dX3_setsStone_13 : decode cX3_setsStone 13 = .ok (.iastore, 1) := dk_79 (dk_at dksX3_setsStone_0 13 rfl rfl)
theorem dX3_setsStone_14 : decode cX3_setsStone 14 = .ok (.return_, 1) := dk_177 (dk_at dksX3_setsStone_0 14 rfl rfl)
abbrev cX3_stone : ByteArray := prog_31_method_31_code
def yX3_stone : MethodName := ⟨RX3, "stone", "(II)I"⟩
def dkwX3_stone_2 : List UInt8 := [27, 28, 182, 0, 79, 167, 0, 8, 42, 5, 182, 0, 42, 172]
abbrev dktX3_stone_2 : List UInt8 := dkwX3_stone_2 ++ []
def dkwX3_stone_1 : List UInt8 := [42, 27, 7, 182, 0, 79, 42, 180, 0, 7, 3, 46, 100, 172, 28, 3, 6, 184, 0, 68, 153, 0, 12, 42]
abbrev dktX3_stone_1 : List UInt8 := dkwX3_stone_1 ++ dktX3_stone_2
def dkwX3_stone_0 : List UInt8 := [42, 3, 181, 0, 32, 42, 27, 182, 0, 106, 154, 0, 9, 42, 4, 182, 0, 42, 172, 28, 7, 160, 0, 17]
abbrev dktX3_stone_0 : List UInt8 := dkwX3_stone_0 ++ dktX3_stone_1
theorem dksX3_stone_0 : cX3_stone.data.toList.drop 0 = dktX3_stone_0 := by decide +kernel
theorem dksX3_stone_1 : cX3_stone.data.toList.drop 24 = dktX3_stone_1 := dk_seg dksX3_stone_0 24 rfl rfl
theorem dksX3_stone_2 : cX3_stone.data.toList.drop 48 = dktX3_stone_2 := dk_seg dksX3_stone_1 24 rfl rfl
theorem dX3_stone_0 : decode cX3_stone 0 = .ok (.aload_n 0, 1) := dk_42 (dk_at dksX3_stone_0 0 rfl rfl)
theorem dX3_stone_1 : decode cX3_stone 1 = .ok (.iconst 0, 1) := dk_3 (dk_at dksX3_stone_0 1 rfl rfl)
theorem dX3_stone_2 : decode cX3_stone 2 = .ok (.putfield 32, 3) := dk_181 0 32 (dk_at dksX3_stone_0 2 rfl rfl)
theorem dX3_stone_5 : decode cX3_stone 5 = .ok (.aload_n 0, 1) := dk_42 (dk_at dksX3_stone_0 5 rfl rfl)
theorem dX3_stone_6 : decode cX3_stone 6 = .ok (.iload_n 1, 1) := dk_27 (dk_at dksX3_stone_0 6 rfl rfl)
theorem dX3_stone_7 : decode cX3_stone 7 = .ok (.invokevirtual 106, 3) := dk_182 0 106 (dk_at dksX3_stone_0 7 rfl rfl)
theorem dX3_stone_10 : decode cX3_stone 10 = .ok (.ifCond .ne 9, 3) := dk_154 0 9 (dk_at dksX3_stone_0 10 rfl rfl)
theorem dX3_stone_13 : decode cX3_stone 13 = .ok (.aload_n 0, 1) := dk_42 (dk_at dksX3_stone_0 13 rfl rfl)
theorem dX3_stone_14 : decode cX3_stone 14 = .ok (.iconst 1, 1) := dk_4 (dk_at dksX3_stone_0 14 rfl rfl)
theorem dX3_stone_15 : decode cX3_stone 15 = .ok (.invokevirtual 42, 3) := dk_182 0 42 (dk_at dksX3_stone_0 15 rfl rfl)
theorem dX3_stone_18 : decode cX3_stone 18 = .ok (.ireturn, 1) := dk_172 (dk_at dksX3_stone_0 18 rfl rfl)
theorem dX3_stone_19 : decode cX3_stone 19 = .ok (.iload_n 2, 1) := dk_28 (dk_at dksX3_stone_0 19 rfl rfl)
theorem dX3_stone_20 : decode cX3_stone 20 = .ok (.iconst 4, 1) := dk_7 (dk_at dksX3_stone_0 20 rfl rfl)
theorem dX3_stone_21 : decode cX3_stone 21 = .ok (.if_icmp .ne 17, 3) := dk_160 0 17 (dk_at dksX3_stone_0 21 rfl rfl)
theorem dX3_stone_24 : decode cX3_stone 24 = .ok (.aload_n 0, 1) := dk_42 (dk_at dksX3_stone_1 0 rfl rfl)
theorem dX3_stone_25 : decode cX3_stone 25 = .ok (.iload_n 1, 1) := dk_27 (dk_at dksX3_stone_1 1 rfl rfl)
theorem dX3_stone_26 : decode cX3_stone 26 = .ok (.iconst 4, 1) := dk_7 (dk_at dksX3_stone_1 2 rfl rfl)
theorem dX3_stone_27 : decode cX3_stone 27 = .ok (.invokevirtual 79, 3) := dk_182 0 79 (dk_at dksX3_stone_1 3 rfl rfl)
theorem dX3_stone_30 : decode cX3_stone 30 = .ok (.aload_n 0, 1) := dk_42 (dk_at dksX3_stone_1 6 rfl rfl)
theorem dX3_stone_31 : decode cX3_stone 31 = .ok (.getfield 7, 3) := dk_180 0 7 (dk_at dksX3_stone_1 7 rfl rfl)
theorem dX3_stone_34 : decode cX3_stone 34 = .ok (.iconst 0, 1) := dk_3 (dk_at dksX3_stone_1 10 rfl rfl)
theorem dX3_stone_35 : decode cX3_stone 35 = .ok (.iaload, 1) := dk_46 (dk_at dksX3_stone_1 11 rfl rfl)
theorem dX3_stone_36 : decode cX3_stone 36 = .ok (.isub, 1) := dk_100 (dk_at dksX3_stone_1 12 rfl rfl)
theorem dX3_stone_37 : decode cX3_stone 37 = .ok (.ireturn, 1) := dk_172 (dk_at dksX3_stone_1 13 rfl rfl)
theorem dX3_stone_38 : decode cX3_stone 38 = .ok (.iload_n 2, 1) := dk_28 (dk_at dksX3_stone_1 14 rfl rfl)
theorem dX3_stone_39 : decode cX3_stone 39 = .ok (.iconst 0, 1) := dk_3 (dk_at dksX3_stone_1 15 rfl rfl)
theorem dX3_stone_40 : decode cX3_stone 40 = .ok (.iconst 3, 1) := dk_6 (dk_at dksX3_stone_1 16 rfl rfl)
theorem dX3_stone_41 : decode cX3_stone 41 = .ok (.invokestatic 68, 3) := dk_184 0 68 (dk_at dksX3_stone_1 17 rfl rfl)
theorem dX3_stone_44 : decode cX3_stone 44 = .ok (.ifCond .eq 12, 3) := dk_153 0 12 (dk_at dksX3_stone_1 20 rfl rfl)
theorem dX3_stone_47 : decode cX3_stone 47 = .ok (.aload_n 0, 1) := dk_42 (dk_at dksX3_stone_1 23 rfl rfl)
theorem dX3_stone_48 : decode cX3_stone 48 = .ok (.iload_n 1, 1) := dk_27 (dk_at dksX3_stone_2 0 rfl rfl)
theorem dX3_stone_49 : decode cX3_stone 49 = .ok (.iload_n 2, 1) := dk_28 (dk_at dksX3_stone_2 1 rfl rfl)
theorem dX3_stone_50 : decode cX3_stone 50 = .ok (.invokevirtual 79, 3) := dk_182 0 79 (dk_at dksX3_stone_2 2 rfl rfl)
theorem dX3_stone_53 : decode cX3_stone 53 = .ok (.goto 8, 3) := dk_167 0 8 (dk_at dksX3_stone_2 5 rfl rfl)
theorem dX3_stone_56 : decode cX3_stone 56 = .ok (.aload_n 0, 1) := dk_42 (dk_at dksX3_stone_2 8 rfl rfl)
theorem dX3_stone_57 : decode cX3_stone 57 = .ok (.iconst 2, 1) := dk_5 (dk_at dksX3_stone_2 9 rfl rfl)
theorem dX3_stone_58 : decode cX3_stone 58 = .ok (.invokevirtual 42, 3) := dk_182 0 42 (dk_at dksX3_stone_2 10 rfl rfl)
theorem dX3_stone_61 : decode cX3_stone 61 = .ok (.ireturn, 1) := dk_172 (dk_at dksX3_stone_2 13 rfl rfl)
abbrev cX3_isStone : ByteArray := prog_31_method_18_code
def yX3_isStone : MethodName := ⟨RX3, "isStone", "(I)Z"⟩
def dkwX3_isStone_0 : List UInt8 := [27, 3, 42, 180, 0, 7, 5, 46, 4, 100, 184, 0, 68, 172]
abbrev dktX3_isStone_0 : List UInt8 := dkwX3_isStone_0 ++ []
theorem dksX3_isStone_0 : cX3_isStone.data.toList.drop 0 = dktX3_isStone_0 := by decide +kernel
theorem dX3_isStone_0 : decode cX3_isStone 0 = .ok (.iload_n 1, 1) := dk_27 (dk_at dksX3_isStone_0 0 rfl rfl)
theorem dX3_isStone_1 : decode cX3_isStone 1 = .ok (.iconst 0, 1) := dk_3 (dk_at dksX3_isStone_0 1 rfl rfl)
theorem dX3_isStone_2 : decode cX3_isStone 2 = .ok (.aload_n 0, 1) := dk_42 (dk_at dksX3_isStone_0 2 rfl rfl)
theorem dX3_isStone_3 : decode cX3_isStone 3 = .ok (.getfield 7, 3) := dk_180 0 7 (dk_at dksX3_isStone_0 3 rfl rfl)
theorem dX3_isStone_6 : decode cX3_isStone 6 = .ok (.iconst 2, 1) := dk_5 (dk_at dksX3_isStone_0 6 rfl rfl)
theorem dX3_isStone_7 : decode cX3_isStone 7 = .ok (.iaload, 1) := dk_46 (dk_at dksX3_isStone_0 7 rfl rfl)
theorem dX3_isStone_8 : decode cX3_isStone 8 = .ok (.iconst 1, 1) := dk_4 (dk_at dksX3_isStone_0 8 rfl rfl)
theorem dX3_isStone_9 : decode cX3_isStone 9 = .ok (.isub, 1) := dk_100 (dk_at dksX3_isStone_0 9 rfl rfl)
theorem dX3_isStone_10 : decode cX3_isStone 10 = .ok (.invokestatic 68, 3) := dk_184 0 68 (dk_at dksX3_isStone_0 10 rfl rfl)
theorem dX3_isStone_13 : decode cX3_isStone 13 = .ok (.ireturn, 1) := dk_172 (dk_at dksX3_isStone_0 13 rfl rfl)
abbrev cX3_nextStone : ByteArray := prog_31_method_32_code
def yX3_nextStone : MethodName := ⟨RX3, "nextStone", "()I"⟩
def dkwX3_nextStone_2 : List UInt8 := [162, 0, 7, 28, 167, 0, 4, 27, 60, 132, 2, 1, 167, 255, 222, 27, 172]
abbrev dktX3_nextStone_2 : List UInt8 := dkwX3_nextStone_2 ++ []
def dkwX3_nextStone_1 : List UInt8 := [28, 42, 180, 0, 7, 5, 46, 162, 0, 30, 42, 28, 7, 182, 0, 79, 42, 27, 7, 182, 0, 79]
abbrev dktX3_nextStone_1 : List UInt8 := dkwX3_nextStone_1 ++ dktX3_nextStone_2
def dkwX3_nextStone_0 : List UInt8 := [42, 3, 181, 0, 32, 42, 180, 0, 7, 5, 46, 154, 0, 9, 42, 4, 182, 0, 42, 172, 3, 60, 4, 61]
abbrev dktX3_nextStone_0 : List UInt8 := dkwX3_nextStone_0 ++ dktX3_nextStone_1
theorem dksX3_nextStone_0 : cX3_nextStone.data.toList.drop 0 = dktX3_nextStone_0 := by decide +kernel
theorem dksX3_nextStone_1 : cX3_nextStone.data.toList.drop 24 = dktX3_nextStone_1 := dk_seg dksX3_nextStone_0 24 rfl rfl
theorem dksX3_nextStone_2 : cX3_nextStone.data.toList.drop 46 = dktX3_nextStone_2 := dk_seg dksX3_nextStone_1 22 rfl rfl
theorem dX3_nextStone_0 : decode cX3_nextStone 0 = .ok (.aload_n 0, 1) := dk_42 (dk_at dksX3_nextStone_0 0 rfl rfl)
theorem dX3_nextStone_1 : decode cX3_nextStone 1 = .ok (.iconst 0, 1) := dk_3 (dk_at dksX3_nextStone_0 1 rfl rfl)
theorem dX3_nextStone_2 : decode cX3_nextStone 2 = .ok (.putfield 32, 3) := dk_181 0 32 (dk_at dksX3_nextStone_0 2 rfl rfl)
theorem dX3_nextStone_5 : decode cX3_nextStone 5 = .ok (.aload_n 0, 1) := dk_42 (dk_at dksX3_nextStone_0 5 rfl rfl)
theorem dX3_nextStone_6 : decode cX3_nextStone 6 = .ok (.getfield 7, 3) := dk_180 0 7 (dk_at dksX3_nextStone_0 6 rfl rfl)
theorem dX3_nextStone_9 : decode cX3_nextStone 9 = .ok (.iconst 2, 1) := dk_5 (dk_at dksX3_nextStone_0 9 rfl rfl)
theorem dX3_nextStone_10 : decode cX3_nextStone 10 = .ok (.iaload, 1) := dk_46 (dk_at dksX3_nextStone_0 10 rfl rfl)
theorem dX3_nextStone_11 : decode cX3_nextStone 11 = .ok (.ifCond .ne 9, 3) := dk_154 0 9 (dk_at dksX3_nextStone_0 11 rfl rfl)
theorem dX3_nextStone_14 : decode cX3_nextStone 14 = .ok (.aload_n 0, 1) := dk_42 (dk_at dksX3_nextStone_0 14 rfl rfl)
theorem dX3_nextStone_15 : decode cX3_nextStone 15 = .ok (.iconst 1, 1) := dk_4 (dk_at dksX3_nextStone_0 15 rfl rfl)
theorem dX3_nextStone_16 : decode cX3_nextStone 16 = .ok (.invokevirtual 42, 3) := dk_182 0 42 (dk_at dksX3_nextStone_0 16 rfl rfl)
theorem dX3_nextStone_19 : decode cX3_nextStone 19 = .ok (.ireturn, 1) := dk_172 (dk_at dksX3_nextStone_0 19 rfl rfl)
theorem dX3_nextStone_20 : decode cX3_nextStone 20 = .ok (.iconst 0, 1) := dk_3 (dk_at dksX3_nextStone_0 20 rfl rfl)
theorem dX3_nextStone_21 : decode cX3_nextStone 21 = .ok (.istore_n 1, 1) := dk_60 (dk_at dksX3_nextStone_0 21 rfl rfl)
theorem dX3_nextStone_22 : decode cX3_nextStone 22 = .ok (.iconst 1, 1) := dk_4 (dk_at dksX3_nextStone_0 22 rfl rfl)
theorem dX3_nextStone_23 : decode cX3_nextStone 23 = .ok (.istore_n 2, 1) := dk_61 (dk_at dksX3_nextStone_0 23 rfl rfl)
theorem dX3_nextStone_24 : decode cX3_nextStone 24 = .ok (.iload_n 2, 1) := dk_28 (dk_at dksX3_nextStone_1 0 rfl rfl)
theorem dX3_nextStone_25 : decode cX3_nextStone 25 = .ok (.aload_n 0, 1) := dk_42 (dk_at dksX3_nextStone_1 1 rfl rfl)
theorem dX3_nextStone_26 : decode cX3_nextStone 26 = .ok (.getfield 7, 3) := dk_180 0 7 (dk_at dksX3_nextStone_1 2 rfl rfl)
theorem dX3_nextStone_29 : decode cX3_nextStone 29 = .ok (.iconst 2, 1) := dk_5 (dk_at dksX3_nextStone_1 5 rfl rfl)
theorem dX3_nextStone_30 : decode cX3_nextStone 30 = .ok (.iaload, 1) := dk_46 (dk_at dksX3_nextStone_1 6 rfl rfl)
theorem dX3_nextStone_31 : decode cX3_nextStone 31 = .ok (.if_icmp .ge 30, 3) := dk_162 0 30 (dk_at dksX3_nextStone_1 7 rfl rfl)
theorem dX3_nextStone_34 : decode cX3_nextStone 34 = .ok (.aload_n 0, 1) := dk_42 (dk_at dksX3_nextStone_1 10 rfl rfl)
theorem dX3_nextStone_35 : decode cX3_nextStone 35 = .ok (.iload_n 2, 1) := dk_28 (dk_at dksX3_nextStone_1 11 rfl rfl)
theorem dX3_nextStone_36 : decode cX3_nextStone 36 = .ok (.iconst 4, 1) := dk_7 (dk_at dksX3_nextStone_1 12 rfl rfl)
theorem dX3_nextStone_37 : decode cX3_nextStone 37 = .ok (.invokevirtual 79, 3) := dk_182 0 79 (dk_at dksX3_nextStone_1 13 rfl rfl)
theorem dX3_nextStone_40 : decode cX3_nextStone 40 = .ok (.aload_n 0, 1) := dk_42 (dk_at dksX3_nextStone_1 16 rfl rfl)
theorem dX3_nextStone_41 : decode cX3_nextStone 41 = .ok (.iload_n 1, 1) := dk_27 (dk_at dksX3_nextStone_1 17 rfl rfl)
theorem dX3_nextStone_42 : decode cX3_nextStone 42 = .ok (.iconst 4, 1) := dk_7 (dk_at dksX3_nextStone_1 18 rfl rfl)
theorem dX3_nextStone_43 : decode cX3_nextStone 43 = .ok (.invokevirtual 79, 3) := dk_182 0 79 (dk_at dksX3_nextStone_1 19 rfl rfl)
theorem dX3_nextStone_46 : decode cX3_nextStone 46 = .ok (.if_icmp .ge 7, 3) := dk_162 0 7 (dk_at dksX3_nextStone_2 0 rfl rfl)
theorem dX3_nextStone_49 : decode cX3_nextStone 49 = .ok (.iload_n 2, 1) := dk_28 (dk_at dksX3_nextStone_2 3 rfl rfl)
theorem dX3_nextStone_50 : decode cX3_nextStone 50 = .ok (.goto 4, 3) := dk_167 0 4 (dk_at dksX3_nextStone_2 4 rfl rfl)
theorem dX3_nextStone_53 : decode cX3_nextStone 53 = .ok (.iload_n 1, 1) := dk_27 (dk_at dksX3_nextStone_2 7 rfl rfl)
theorem dX3_nextStone_54 : decode cX3_nextStone 54 = .ok (.istore_n 1, 1) := dk_60 (dk_at dksX3_nextStone_2 8 rfl rfl)
theorem dX3_nextStone_55 : decode cX3_nextStone 55 = .ok (.iinc 2 1, 3) := dk_132 2 1 (dk_at dksX3_nextStone_2 9 rfl rfl)
theorem dX3_nextStone_58 : decode cX3_nextStone 58 = .ok (.goto (-34), 3) := dk_167 255 222 (dk_at dksX3_nextStone_2 12 rfl rfl)
theorem dX3_nextStone_61 : decode cX3_nextStone 61 = .ok (.iload_n 1, 1) := dk_27 (dk_at dksX3_nextStone_2 15 rfl rfl)
theorem dX3_nextStone_62 : decode cX3_nextStone 62 = .ok (.ireturn, 1) := dk_172 (dk_at dksX3_nextStone_2 16 rfl rfl)
abbrev cX3_enter : ByteArray := prog_31_method_35_code
def yX3_enter : MethodName := ⟨RX3, "enter", "(II)I"⟩
def dkwX3_enter_1 : List UInt8 := [182, 0, 76, 42, 27, 28, 182, 0, 118, 172]
abbrev dktX3_enter_1 : List UInt8 := dkwX3_enter_1 ++ []
def dkwX3_enter_0 : List UInt8 := [42, 3, 181, 0, 32, 42, 27, 28, 182, 0, 112, 62, 29, 153, 0, 9, 42, 29, 182, 0, 115, 172, 42]
abbrev dktX3_enter_0 : List UInt8 := dkwX3_enter_0 ++ dktX3_enter_1
theorem dksX3_enter_0 : cX3_enter.data.toList.drop 0 = dktX3_enter_0 := by decide +kernel
theorem dksX3_enter_1 : cX3_enter.data.toList.drop 23 = dktX3_enter_1 := dk_seg dksX3_enter_0 23 rfl rfl
theorem dX3_enter_0 : decode cX3_enter 0 = .ok (.aload_n 0, 1) := dk_42 (dk_at dksX3_enter_0 0 rfl rfl)
theorem dX3_enter_1 : decode cX3_enter 1 = .ok (.iconst 0, 1) := dk_3 (dk_at dksX3_enter_0 1 rfl rfl)
theorem dX3_enter_2 : decode cX3_enter 2 = .ok (.putfield 32, 3) := dk_181 0 32 (dk_at dksX3_enter_0 2 rfl rfl)
theorem dX3_enter_5 : decode cX3_enter 5 = .ok (.aload_n 0, 1) := dk_42 (dk_at dksX3_enter_0 5 rfl rfl)
theorem dX3_enter_6 : decode cX3_enter 6 = .ok (.iload_n 1, 1) := dk_27 (dk_at dksX3_enter_0 6 rfl rfl)
theorem dX3_enter_7 : decode cX3_enter 7 = .ok (.iload_n 2, 1) := dk_28 (dk_at dksX3_enter_0 7 rfl rfl)
theorem dX3_enter_8 : decode cX3_enter 8 = .ok (.invokevirtual 112, 3) := dk_182 0 112 (dk_at dksX3_enter_0 8 rfl rfl)
theorem dX3_enter_11 : decode cX3_enter 11 = .ok (.istore_n 3, 1) := dk_62 (dk_at dksX3_enter_0 11 rfl rfl)
theorem dX3_enter_12 : decode cX3_enter 12 = .ok (.iload_n 3, 1) := dk_29 (dk_at dksX3_enter_0 12 rfl rfl)
theorem dX3_enter_13 : decode cX3_enter 13 = .ok (.ifCond .eq 9, 3) := dk_153 0 9 (dk_at dksX3_enter_0 13 rfl rfl)
theorem dX3_enter_16 : decode cX3_enter 16 = .ok (.aload_n 0, 1) := dk_42 (dk_at dksX3_enter_0 16 rfl rfl)
theorem dX3_enter_17 : decode cX3_enter 17 = .ok (.iload_n 3, 1) := dk_29 (dk_at dksX3_enter_0 17 rfl rfl)
theorem dX3_enter_18 : decode cX3_enter 18 = .ok (.invokevirtual 115, 3) := dk_182 0 115 (dk_at dksX3_enter_0 18 rfl rfl)
theorem dX3_enter_21 : decode cX3_enter 21 = .ok (.ireturn, 1) := dk_172 (dk_at dksX3_enter_0 21 rfl rfl)
theorem dX3_enter_22 : decode cX3_enter 22 = .ok (.aload_n 0, 1) := dk_42 (dk_at dksX3_enter_0 22 rfl rfl)
theorem dX3_enter_23 : decode cX3_enter 23 = .ok (.invokevirtual 76, 3) := dk_182 0 76 (dk_at dksX3_enter_1 0 rfl rfl)
theorem dX3_enter_26 : decode cX3_enter 26 = .ok (.aload_n 0, 1) := dk_42 (dk_at dksX3_enter_1 3 rfl rfl)
theorem dX3_enter_27 : decode cX3_enter 27 = .ok (.iload_n 1, 1) := dk_27 (dk_at dksX3_enter_1 4 rfl rfl)
theorem dX3_enter_28 : decode cX3_enter 28 = .ok (.iload_n 2, 1) := dk_28 (dk_at dksX3_enter_1 5 rfl rfl)
theorem dX3_enter_29 : decode cX3_enter 29 = .ok (.invokevirtual 118, 3) := dk_182 0 118 (dk_at dksX3_enter_1 6 rfl rfl)
theorem dX3_enter_32 : decode cX3_enter 32 = .ok (.ireturn, 1) := dk_172 (dk_at dksX3_enter_1 9 rfl rfl)
abbrev cX3_notEnter : ByteArray := prog_31_method_33_code
def yX3_notEnter : MethodName := ⟨RX3, "notEnter", "(II)I"⟩
def dkwX3_notEnter_3 : List UInt8 := [167, 0, 4, 3, 172]
abbrev dktX3_notEnter_3 : List UInt8 := dkwX3_notEnter_3 ++ []
def dkwX3_notEnter_2 : List UInt8 := [16, 6, 46, 182, 0, 109, 172, 42, 180, 0, 7, 7, 46, 7, 160, 0, 13, 42, 5, 4, 7, 182, 0, 109]
abbrev dktX3_notEnter_2 : List UInt8 := dkwX3_notEnter_2 ++ dktX3_notEnter_3
def dkwX3_notEnter_1 : List UInt8 := [154, 0, 5, 4, 172, 42, 180, 0, 7, 16, 6, 46, 16, 80, 161, 0, 17, 42, 5, 8, 42, 180, 0, 7]
abbrev dktX3_notEnter_1 : List UInt8 := dkwX3_notEnter_1 ++ dktX3_notEnter_2
def dkwX3_notEnter_0 : List UInt8 := [42, 3, 181, 0, 46, 27, 4, 16, 20, 184, 0, 68, 153, 0, 13, 28, 4, 16, 60, 184, 0, 68]
abbrev dktX3_notEnter_0 : List UInt8 := dkwX3_notEnter_0 ++ dktX3_notEnter_1
theorem dksX3_notEnter_0 : cX3_notEnter.data.toList.drop 0 = dktX3_notEnter_0 := by decide +kernel
theorem dksX3_notEnter_1 : cX3_notEnter.data.toList.drop 22 = dktX3_notEnter_1 := dk_seg dksX3_notEnter_0 22 rfl rfl
theorem dksX3_notEnter_2 : cX3_notEnter.data.toList.drop 46 = dktX3_notEnter_2 := dk_seg dksX3_notEnter_1 24 rfl rfl
theorem dksX3_notEnter_3 : cX3_notEnter.data.toList.drop 70 = dktX3_notEnter_3 := dk_seg dksX3_notEnter_2 24 rfl rfl
theorem dX3_notEnter_0 : decode cX3_notEnter 0 = .ok (.aload_n 0, 1) := dk_42 (dk_at dksX3_notEnter_0 0 rfl rfl)
theorem dX3_notEnter_1 : decode cX3_notEnter 1 = .ok (.iconst 0, 1) := dk_3 (dk_at dksX3_notEnter_0 1 rfl rfl)
theorem dX3_notEnter_2 : decode cX3_notEnter 2 = .ok (.putfield 46, 3) := dk_181 0 46 (dk_at dksX3_notEnter_0 2 rfl rfl)
theorem dX3_notEnter_5 : decode cX3_notEnter 5 = .ok (.iload_n 1, 1) := dk_27 (dk_at dksX3_notEnter_0 5 rfl rfl)
theorem dX3_notEnter_6 : decode cX3_notEnter 6 = .ok (.iconst 1, 1) := dk_4 (dk_at dksX3_notEnter_0 6 rfl rfl)
theorem dX3_notEnter_7 : decode cX3_notEnter 7 = .ok (.bipush 20, 2) := dk_16 20 (dk_at dksX3_notEnter_0 7 rfl rfl)
theorem dX3_notEnter_9 : decode cX3_notEnter 9 = .ok (.invokestatic 68, 3) := dk_184 0 68 (dk_at dksX3_notEnter_0 9 rfl rfl)
theorem dX3_notEnter_12 : decode cX3_notEnter 12 = .ok (.ifCond .eq 13, 3) := dk_153 0 13 (dk_at dksX3_notEnter_0 12 rfl rfl)
theorem dX3_notEnter_15 : decode cX3_notEnter 15 = .ok (.iload_n 2, 1) := dk_28 (dk_at dksX3_notEnter_0 15 rfl rfl)
theorem dX3_notEnter_16 : decode cX3_notEnter 16 = .ok (.iconst 1, 1) := dk_4 (dk_at dksX3_notEnter_0 16 rfl rfl)
theorem dX3_notEnter_17 : decode cX3_notEnter 17 = .ok (.bipush 60, 2) := dk_16 60 (dk_at dksX3_notEnter_0 17 rfl rfl)
theorem dX3_notEnter_19 : decode cX3_notEnter 19 = .ok (.invokestatic 68, 3) := dk_184 0 68 (dk_at dksX3_notEnter_0 19 rfl rfl)
theorem dX3_notEnter_22 : decode cX3_notEnter 22 = .ok (.ifCond .ne 5, 3) := dk_154 0 5 (dk_at dksX3_notEnter_1 0 rfl rfl)
theorem dX3_notEnter_25 : decode cX3_notEnter 25 = .ok (.iconst 1, 1) := dk_4 (dk_at dksX3_notEnter_1 3 rfl rfl)
theorem dX3_notEnter_26 : decode cX3_notEnter 26 = .ok (.ireturn, 1) := dk_172 (dk_at dksX3_notEnter_1 4 rfl rfl)
theorem dX3_notEnter_27 : decode cX3_notEnter 27 = .ok (.aload_n 0, 1) := dk_42 (dk_at dksX3_notEnter_1 5 rfl rfl)
theorem dX3_notEnter_28 : decode cX3_notEnter 28 = .ok (.getfield 7, 3) := dk_180 0 7 (dk_at dksX3_notEnter_1 6 rfl rfl)
theorem dX3_notEnter_31 : decode cX3_notEnter 31 = .ok (.bipush 6, 2) := dk_16 6 (dk_at dksX3_notEnter_1 9 rfl rfl)
theorem dX3_notEnter_33 : decode cX3_notEnter 33 = .ok (.iaload, 1) := dk_46 (dk_at dksX3_notEnter_1 11 rfl rfl)
theorem dX3_notEnter_34 : decode cX3_notEnter 34 = .ok (.bipush 80, 2) := dk_16 80 (dk_at dksX3_notEnter_1 12 rfl rfl)
theorem dX3_notEnter_36 : decode cX3_notEnter 36 = .ok (.if_icmp .lt 17, 3) := dk_161 0 17 (dk_at dksX3_notEnter_1 14 rfl rfl)
theorem dX3_notEnter_39 : decode cX3_notEnter 39 = .ok (.aload_n 0, 1) := dk_42 (dk_at dksX3_notEnter_1 17 rfl rfl)
theorem dX3_notEnter_40 : decode cX3_notEnter 40 = .ok (.iconst 2, 1) := dk_5 (dk_at dksX3_notEnter_1 18 rfl rfl)
theorem dX3_notEnter_41 : decode cX3_notEnter 41 = .ok (.iconst 5, 1) := dk_8 (dk_at dksX3_notEnter_1 19 rfl rfl)
theorem dX3_notEnter_42 : decode cX3_notEnter 42 = .ok (.aload_n 0, 1) := dk_42 (dk_at dksX3_notEnter_1 20 rfl rfl)
theorem dX3_notEnter_43 : decode cX3_notEnter 43 = .ok (.getfield 7, 3) := dk_180 0 7 (dk_at dksX3_notEnter_1 21 rfl rfl)
theorem dX3_notEnter_46 : decode cX3_notEnter 46 = .ok (.bipush 6, 2) := dk_16 6 (dk_at dksX3_notEnter_2 0 rfl rfl)
theorem dX3_notEnter_48 : decode cX3_notEnter 48 = .ok (.iaload, 1) := dk_46 (dk_at dksX3_notEnter_2 2 rfl rfl)
theorem dX3_notEnter_49 : decode cX3_notEnter 49 = .ok (.invokevirtual 109, 3) := dk_182 0 109 (dk_at dksX3_notEnter_2 3 rfl rfl)
theorem dX3_notEnter_52 : decode cX3_notEnter 52 = .ok (.ireturn, 1) := dk_172 (dk_at dksX3_notEnter_2 6 rfl rfl)
theorem dX3_notEnter_53 : decode cX3_notEnter 53 = .ok (.aload_n 0, 1) := dk_42 (dk_at dksX3_notEnter_2 7 rfl rfl)
theorem dX3_notEnter_54 : decode cX3_notEnter 54 = .ok (.getfield 7, 3) := dk_180 0 7 (dk_at dksX3_notEnter_2 8 rfl rfl)
theorem dX3_notEnter_57 : decode cX3_notEnter 57 = .ok (.iconst 4, 1) := dk_7 (dk_at dksX3_notEnter_2 11 rfl rfl)
theorem dX3_notEnter_58 : decode cX3_notEnter 58 = .ok (.iaload, 1) := dk_46 (dk_at dksX3_notEnter_2 12 rfl rfl)
theorem dX3_notEnter_59 : decode cX3_notEnter 59 = .ok (.iconst 4, 1) := dk_7 (dk_at dksX3_notEnter_2 13 rfl rfl)
theorem dX3_notEnter_60 : decode cX3_notEnter 60 = .ok (.if_icmp .ne 13, 3) := dk_160 0 13 (dk_at dksX3_notEnter_2 14 rfl rfl)
theorem dX3_notEnter_63 : decode cX3_notEnter 63 = .ok (.aload_n 0, 1) := dk_42 (dk_at dksX3_notEnter_2 17 rfl rfl)
theorem dX3_notEnter_64 : decode cX3_notEnter 64 = .ok (.iconst 2, 1) := dk_5 (dk_at dksX3_notEnter_2 18 rfl rfl)
theorem dX3_notEnter_65 : decode cX3_notEnter 65 = .ok (.iconst 1, 1) := dk_4 (dk_at dksX3_notEnter_2 19 rfl rfl)
theorem dX3_notEnter_66 : decode cX3_notEnter 66 = .ok (.iconst 4, 1) := dk_7 (dk_at dksX3_notEnter_2 20 rfl rfl)
theorem dX3_notEnter_67 : decode cX3_notEnter 67 = .ok (.invokevirtual 109, 3) := dk_182 0 109 (dk_at dksX3_notEnter_2 21 rfl rfl)
theorem dX3_notEnter_70 : decode cX3_notEnter 70 = .ok (.goto 4, 3) := dk_167 0 4 (dk_at dksX3_notEnter_3 0 rfl rfl)
theorem dX3_notEnter_73 : decode cX3_notEnter 73 = .ok (.iconst 0, 1) := dk_3 (dk_at dksX3_notEnter_3 3 rfl rfl)
theorem dX3_notEnter_74 : decode cX3_notEnter 74 = .ok (.ireturn, 1) := dk_172 (dk_at dksX3_notEnter_3 4 rfl rfl)
abbrev cX3_isNot : ByteArray := prog_31_method_5_code
def yX3_isNot : MethodName := ⟨RX3, "isNot", "(III)I"⟩
def dkwX3_isNot_0 : List UInt8 := [42, 28, 181, 0, 46, 42, 29, 181, 0, 49, 27, 172]
abbrev dktX3_isNot_0 : List UInt8 := dkwX3_isNot_0 ++ []
theorem dksX3_isNot_0 : cX3_isNot.data.toList.drop 0 = dktX3_isNot_0 := by decide +kernel
theorem dX3_isNot_0 : decode cX3_isNot 0 = .ok (.aload_n 0, 1) := dk_42 (dk_at dksX3_isNot_0 0 rfl rfl)
theorem dX3_isNot_1 : decode cX3_isNot 1 = .ok (.iload_n 2, 1) := dk_28 (dk_at dksX3_isNot_0 1 rfl rfl)
theorem dX3_isNot_2 : decode cX3_isNot 2 = .ok (.putfield 46, 3) := dk_181 0 46 (dk_at dksX3_isNot_0 2 rfl rfl)
theorem dX3_isNot_5 : decode cX3_isNot 5 = .ok (.aload_n 0, 1) := dk_42 (dk_at dksX3_isNot_0 5 rfl rfl)
theorem dX3_isNot_6 : decode cX3_isNot 6 = .ok (.iload_n 3, 1) := dk_29 (dk_at dksX3_isNot_0 6 rfl rfl)
theorem dX3_isNot_7 : decode cX3_isNot 7 = .ok (.putfield 49, 3) := dk_181 0 49 (dk_at dksX3_isNot_0 7 rfl rfl)
theorem dX3_isNot_10 : decode cX3_isNot 10 = .ok (.iload_n 1, 1) := dk_27 (dk_at dksX3_isNot_0 10 rfl rfl)
theorem dX3_isNot_11 : decode cX3_isNot 11 = .ok (.ireturn, 1) := dk_172 (dk_at dksX3_isNot_0 11 rfl rfl)
abbrev cX3_failsNow : ByteArray := prog_31_method_6_code
def yX3_failsNow : MethodName := ⟨RX3, "failsNow", "(I)I"⟩
def dkwX3_failsNow_1 : List UInt8 := [27, 182, 0, 42, 172]
abbrev dktX3_failsNow_1 : List UInt8 := dkwX3_failsNow_1 ++ []
def dkwX3_failsNow_0 : List UInt8 := [42, 180, 0, 46, 158, 0, 19, 42, 27, 42, 180, 0, 46, 42, 180, 0, 49, 182, 0, 52, 167, 0, 8, 42]
abbrev dktX3_failsNow_0 : List UInt8 := dkwX3_failsNow_0 ++ dktX3_failsNow_1
theorem dksX3_failsNow_0 : cX3_failsNow.data.toList.drop 0 = dktX3_failsNow_0 := by decide +kernel
theorem dksX3_failsNow_1 : cX3_failsNow.data.toList.drop 24 = dktX3_failsNow_1 := dk_seg dksX3_failsNow_0 24 rfl rfl
theorem dX3_failsNow_0 : decode cX3_failsNow 0 = .ok (.aload_n 0, 1) := dk_42 (dk_at dksX3_failsNow_0 0 rfl rfl)
theorem dX3_failsNow_1 : decode cX3_failsNow 1 = .ok (.getfield 46, 3) := dk_180 0 46 (dk_at dksX3_failsNow_0 1 rfl rfl)
theorem dX3_failsNow_4 : decode cX3_failsNow 4 = .ok (.ifCond .le 19, 3) := dk_158 0 19 (dk_at dksX3_failsNow_0 4 rfl rfl)
theorem dX3_failsNow_7 : decode cX3_failsNow 7 = .ok (.aload_n 0, 1) := dk_42 (dk_at dksX3_failsNow_0 7 rfl rfl)
theorem dX3_failsNow_8 : decode cX3_failsNow 8 = .ok (.iload_n 1, 1) := dk_27 (dk_at dksX3_failsNow_0 8 rfl rfl)
theorem dX3_failsNow_9 : decode cX3_failsNow 9 = .ok (.aload_n 0, 1) := dk_42 (dk_at dksX3_failsNow_0 9 rfl rfl)
theorem dX3_failsNow_10 : decode cX3_failsNow 10 = .ok (.getfield 46, 3) := dk_180 0 46 (dk_at dksX3_failsNow_0 10 rfl rfl)
theorem dX3_failsNow_13 : decode cX3_failsNow 13 = .ok (.aload_n 0, 1) := dk_42 (dk_at dksX3_failsNow_0 13 rfl rfl)
theorem dX3_failsNow_14 : decode cX3_failsNow 14 = .ok (.getfield 49, 3) := dk_180 0 49 (dk_at dksX3_failsNow_0 14 rfl rfl)
theorem dX3_failsNow_17 : decode cX3_failsNow 17 = .ok (.invokevirtual 52, 3) := dk_182 0 52 (dk_at dksX3_failsNow_0 17 rfl rfl)
theorem dX3_failsNow_20 : decode cX3_failsNow 20 = .ok (.goto 8, 3) := dk_167 0 8 (dk_at dksX3_failsNow_0 20 rfl rfl)
theorem dX3_failsNow_23 : decode cX3_failsNow 23 = .ok (.aload_n 0, 1) := dk_42 (dk_at dksX3_failsNow_0 23 rfl rfl)
theorem dX3_failsNow_24 : decode cX3_failsNow 24 = .ok (.iload_n 1, 1) := dk_27 (dk_at dksX3_failsNow_1 0 rfl rfl)
theorem dX3_failsNow_25 : decode cX3_failsNow 25 = .ok (.invokevirtual 42, 3) := dk_182 0 42 (dk_at dksX3_failsNow_1 1 rfl rfl)
theorem dX3_failsNow_28 : decode cX3_failsNow 28 = .ok (.ireturn, 1) := dk_172 (dk_at dksX3_failsNow_1 4 rfl rfl)
abbrev cX3_enters : ByteArray := prog_31_method_34_code
def yX3_enters : MethodName := ⟨RX3, "enters", "(II)I"⟩
def dkwX3_enters_1 : List UInt8 := [4, 96, 28, 79, 42, 180, 0, 7, 7, 92, 46, 4, 96, 79, 42, 180, 0, 7, 7, 46, 4, 100, 172]
abbrev dktX3_enters_1 : List UInt8 := dkwX3_enters_1 ++ []
def dkwX3_enters_0 : List UInt8 := [16, 116, 5, 42, 180, 0, 7, 7, 46, 104, 96, 62, 42, 180, 0, 7, 29, 27, 79, 42, 180, 0, 7, 29]
abbrev dktX3_enters_0 : List UInt8 := dkwX3_enters_0 ++ dktX3_enters_1
theorem dksX3_enters_0 : cX3_enters.data.toList.drop 0 = dktX3_enters_0 := by decide +kernel
theorem dksX3_enters_1 : cX3_enters.data.toList.drop 24 = dktX3_enters_1 := dk_seg dksX3_enters_0 24 rfl rfl
theorem dX3_enters_0 : decode cX3_enters 0 = .ok (.bipush 116, 2) := dk_16 116 (dk_at dksX3_enters_0 0 rfl rfl)
theorem dX3_enters_2 : decode cX3_enters 2 = .ok (.iconst 2, 1) := dk_5 (dk_at dksX3_enters_0 2 rfl rfl)
theorem dX3_enters_3 : decode cX3_enters 3 = .ok (.aload_n 0, 1) := dk_42 (dk_at dksX3_enters_0 3 rfl rfl)
theorem dX3_enters_4 : decode cX3_enters 4 = .ok (.getfield 7, 3) := dk_180 0 7 (dk_at dksX3_enters_0 4 rfl rfl)
theorem dX3_enters_7 : decode cX3_enters 7 = .ok (.iconst 4, 1) := dk_7 (dk_at dksX3_enters_0 7 rfl rfl)
theorem dX3_enters_8 : decode cX3_enters 8 = .ok (.iaload, 1) := dk_46 (dk_at dksX3_enters_0 8 rfl rfl)
theorem dX3_enters_9 : decode cX3_enters 9 = .ok (.imul, 1) := dk_104 (dk_at dksX3_enters_0 9 rfl rfl)
theorem dX3_enters_10 : decode cX3_enters 10 = .ok (.iadd, 1) := dk_96 (dk_at dksX3_enters_0 10 rfl rfl)
theorem dX3_enters_11 : decode cX3_enters 11 = .ok (.istore_n 3, 1) := dk_62 (dk_at dksX3_enters_0 11 rfl rfl)
theorem dX3_enters_12 : decode cX3_enters 12 = .ok (.aload_n 0, 1) := dk_42 (dk_at dksX3_enters_0 12 rfl rfl)
theorem dX3_enters_13 : decode cX3_enters 13 = .ok (.getfield 7, 3) := dk_180 0 7 (dk_at dksX3_enters_0 13 rfl rfl)
theorem dX3_enters_16 : decode cX3_enters 16 = .ok (.iload_n 3, 1) := dk_29 (dk_at dksX3_enters_0 16 rfl rfl)
theorem dX3_enters_17 : decode cX3_enters 17 = .ok (.iload_n 1, 1) := dk_27 (dk_at dksX3_enters_0 17 rfl rfl)
theorem dX3_enters_18 : decode cX3_enters 18 = .ok (.iastore, 1) := dk_79 (dk_at dksX3_enters_0 18 rfl rfl)
theorem dX3_enters_19 : decode cX3_enters 19 = .ok (.aload_n 0, 1) := dk_42 (dk_at dksX3_enters_0 19 rfl rfl)
theorem dX3_enters_20 : decode cX3_enters 20 = .ok (.getfield 7, 3) := dk_180 0 7 (dk_at dksX3_enters_0 20 rfl rfl)
theorem dX3_enters_23 : decode cX3_enters 23 = .ok (.iload_n 3, 1) := dk_29 (dk_at dksX3_enters_0 23 rfl rfl)
theorem dX3_enters_24 : decode cX3_enters 24 = .ok (.iconst 1, 1) := dk_4 (dk_at dksX3_enters_1 0 rfl rfl)
theorem dX3_enters_25 : decode cX3_enters 25 = .ok (.iadd, 1) := dk_96 (dk_at dksX3_enters_1 1 rfl rfl)
theorem dX3_enters_26 : decode cX3_enters 26 = .ok (.iload_n 2, 1) := dk_28 (dk_at dksX3_enters_1 2 rfl rfl)
theorem dX3_enters_27 : decode cX3_enters 27 = .ok (.iastore, 1) := dk_79 (dk_at dksX3_enters_1 3 rfl rfl)
theorem dX3_enters_28 : decode cX3_enters 28 = .ok (.aload_n 0, 1) := dk_42 (dk_at dksX3_enters_1 4 rfl rfl)
theorem dX3_enters_29 : decode cX3_enters 29 = .ok (.getfield 7, 3) := dk_180 0 7 (dk_at dksX3_enters_1 5 rfl rfl)
theorem dX3_enters_32 : decode cX3_enters 32 = .ok (.iconst 4, 1) := dk_7 (dk_at dksX3_enters_1 8 rfl rfl)
theorem dX3_enters_33 : decode cX3_enters 33 = .ok (.dup2, 1) := dk_92 (dk_at dksX3_enters_1 9 rfl rfl)
theorem dX3_enters_34 : decode cX3_enters 34 = .ok (.iaload, 1) := dk_46 (dk_at dksX3_enters_1 10 rfl rfl)
theorem dX3_enters_35 : decode cX3_enters 35 = .ok (.iconst 1, 1) := dk_4 (dk_at dksX3_enters_1 11 rfl rfl)
theorem dX3_enters_36 : decode cX3_enters 36 = .ok (.iadd, 1) := dk_96 (dk_at dksX3_enters_1 12 rfl rfl)
theorem dX3_enters_37 : decode cX3_enters 37 = .ok (.iastore, 1) := dk_79 (dk_at dksX3_enters_1 13 rfl rfl)
theorem dX3_enters_38 : decode cX3_enters 38 = .ok (.aload_n 0, 1) := dk_42 (dk_at dksX3_enters_1 14 rfl rfl)
theorem dX3_enters_39 : decode cX3_enters 39 = .ok (.getfield 7, 3) := dk_180 0 7 (dk_at dksX3_enters_1 15 rfl rfl)
theorem dX3_enters_42 : decode cX3_enters 42 = .ok (.iconst 4, 1) := dk_7 (dk_at dksX3_enters_1 18 rfl rfl)
theorem dX3_enters_43 : decode cX3_enters 43 = .ok (.iaload, 1) := dk_46 (dk_at dksX3_enters_1 19 rfl rfl)
theorem dX3_enters_44 : decode cX3_enters 44 = .ok (.iconst 1, 1) := dk_4 (dk_at dksX3_enters_1 20 rfl rfl)
theorem dX3_enters_45 : decode cX3_enters 45 = .ok (.isub, 1) := dk_100 (dk_at dksX3_enters_1 21 rfl rfl)
theorem dX3_enters_46 : decode cX3_enters 46 = .ok (.ireturn, 1) := dk_172 (dk_at dksX3_enters_1 22 rfl rfl)
abbrev cX3_sendOut : ByteArray := prog_31_method_37_code
def yX3_sendOut : MethodName := ⟨RX3, "sendOut", "(I)I"⟩
def dkwX3_sendOut_1 : List UInt8 := [180, 0, 7, 16, 116, 5, 27, 104, 96, 46, 61, 42, 27, 182, 0, 124, 28, 172]
abbrev dktX3_sendOut_1 : List UInt8 := dkwX3_sendOut_1 ++ []
def dkwX3_sendOut_0 : List UInt8 := [42, 3, 181, 0, 32, 42, 27, 182, 0, 121, 154, 0, 9, 42, 4, 182, 0, 42, 172, 42, 182, 0, 76, 42]
abbrev dktX3_sendOut_0 : List UInt8 := dkwX3_sendOut_0 ++ dktX3_sendOut_1
theorem dksX3_sendOut_0 : cX3_sendOut.data.toList.drop 0 = dktX3_sendOut_0 := by decide +kernel
theorem dksX3_sendOut_1 : cX3_sendOut.data.toList.drop 24 = dktX3_sendOut_1 := dk_seg dksX3_sendOut_0 24 rfl rfl
theorem dX3_sendOut_0 : decode cX3_sendOut 0 = .ok (.aload_n 0, 1) := dk_42 (dk_at dksX3_sendOut_0 0 rfl rfl)
theorem dX3_sendOut_1 : decode cX3_sendOut 1 = .ok (.iconst 0, 1) := dk_3 (dk_at dksX3_sendOut_0 1 rfl rfl)
theorem dX3_sendOut_2 : decode cX3_sendOut 2 = .ok (.putfield 32, 3) := dk_181 0 32 (dk_at dksX3_sendOut_0 2 rfl rfl)
theorem dX3_sendOut_5 : decode cX3_sendOut 5 = .ok (.aload_n 0, 1) := dk_42 (dk_at dksX3_sendOut_0 5 rfl rfl)
theorem dX3_sendOut_6 : decode cX3_sendOut 6 = .ok (.iload_n 1, 1) := dk_27 (dk_at dksX3_sendOut_0 6 rfl rfl)
theorem dX3_sendOut_7 : decode cX3_sendOut 7 = .ok (.invokevirtual 121, 3) := dk_182 0 121 (dk_at dksX3_sendOut_0 7 rfl rfl)
theorem dX3_sendOut_10 : decode cX3_sendOut 10 = .ok (.ifCond .ne 9, 3) := dk_154 0 9 (dk_at dksX3_sendOut_0 10 rfl rfl)
theorem dX3_sendOut_13 : decode cX3_sendOut 13 = .ok (.aload_n 0, 1) := dk_42 (dk_at dksX3_sendOut_0 13 rfl rfl)
theorem dX3_sendOut_14 : decode cX3_sendOut 14 = .ok (.iconst 1, 1) := dk_4 (dk_at dksX3_sendOut_0 14 rfl rfl)
theorem dX3_sendOut_15 : decode cX3_sendOut 15 = .ok (.invokevirtual 42, 3) := dk_182 0 42 (dk_at dksX3_sendOut_0 15 rfl rfl)
theorem dX3_sendOut_18 : decode cX3_sendOut 18 = .ok (.ireturn, 1) := dk_172 (dk_at dksX3_sendOut_0 18 rfl rfl)
theorem dX3_sendOut_19 : decode cX3_sendOut 19 = .ok (.aload_n 0, 1) := dk_42 (dk_at dksX3_sendOut_0 19 rfl rfl)
theorem dX3_sendOut_20 : decode cX3_sendOut 20 = .ok (.invokevirtual 76, 3) := dk_182 0 76 (dk_at dksX3_sendOut_0 20 rfl rfl)
theorem dX3_sendOut_23 : decode cX3_sendOut 23 = .ok (.aload_n 0, 1) := dk_42 (dk_at dksX3_sendOut_0 23 rfl rfl)
theorem dX3_sendOut_24 : decode cX3_sendOut 24 = .ok (.getfield 7, 3) := dk_180 0 7 (dk_at dksX3_sendOut_1 0 rfl rfl)
theorem dX3_sendOut_27 : decode cX3_sendOut 27 = .ok (.bipush 116, 2) := dk_16 116 (dk_at dksX3_sendOut_1 3 rfl rfl)
theorem dX3_sendOut_29 : decode cX3_sendOut 29 = .ok (.iconst 2, 1) := dk_5 (dk_at dksX3_sendOut_1 5 rfl rfl)
theorem dX3_sendOut_30 : decode cX3_sendOut 30 = .ok (.iload_n 1, 1) := dk_27 (dk_at dksX3_sendOut_1 6 rfl rfl)
theorem dX3_sendOut_31 : decode cX3_sendOut 31 = .ok (.imul, 1) := dk_104 (dk_at dksX3_sendOut_1 7 rfl rfl)
theorem dX3_sendOut_32 : decode cX3_sendOut 32 = .ok (.iadd, 1) := dk_96 (dk_at dksX3_sendOut_1 8 rfl rfl)
theorem dX3_sendOut_33 : decode cX3_sendOut 33 = .ok (.iaload, 1) := dk_46 (dk_at dksX3_sendOut_1 9 rfl rfl)
theorem dX3_sendOut_34 : decode cX3_sendOut 34 = .ok (.istore_n 2, 1) := dk_61 (dk_at dksX3_sendOut_1 10 rfl rfl)
theorem dX3_sendOut_35 : decode cX3_sendOut 35 = .ok (.aload_n 0, 1) := dk_42 (dk_at dksX3_sendOut_1 11 rfl rfl)
theorem dX3_sendOut_36 : decode cX3_sendOut 36 = .ok (.iload_n 1, 1) := dk_27 (dk_at dksX3_sendOut_1 12 rfl rfl)
theorem dX3_sendOut_37 : decode cX3_sendOut 37 = .ok (.invokevirtual 124, 3) := dk_182 0 124 (dk_at dksX3_sendOut_1 13 rfl rfl)
theorem dX3_sendOut_40 : decode cX3_sendOut 40 = .ok (.iload_n 2, 1) := dk_28 (dk_at dksX3_sendOut_1 16 rfl rfl)
theorem dX3_sendOut_41 : decode cX3_sendOut 41 = .ok (.ireturn, 1) := dk_172 (dk_at dksX3_sendOut_1 17 rfl rfl)
abbrev cX3_isGroup : ByteArray := prog_31_method_20_code
def yX3_isGroup : MethodName := ⟨RX3, "isGroup", "(I)Z"⟩
def dkwX3_isGroup_0 : List UInt8 := [27, 3, 42, 180, 0, 7, 7, 46, 4, 100, 184, 0, 68, 172]
abbrev dktX3_isGroup_0 : List UInt8 := dkwX3_isGroup_0 ++ []
theorem dksX3_isGroup_0 : cX3_isGroup.data.toList.drop 0 = dktX3_isGroup_0 := by decide +kernel
theorem dX3_isGroup_0 : decode cX3_isGroup 0 = .ok (.iload_n 1, 1) := dk_27 (dk_at dksX3_isGroup_0 0 rfl rfl)
theorem dX3_isGroup_1 : decode cX3_isGroup 1 = .ok (.iconst 0, 1) := dk_3 (dk_at dksX3_isGroup_0 1 rfl rfl)
theorem dX3_isGroup_2 : decode cX3_isGroup 2 = .ok (.aload_n 0, 1) := dk_42 (dk_at dksX3_isGroup_0 2 rfl rfl)
theorem dX3_isGroup_3 : decode cX3_isGroup 3 = .ok (.getfield 7, 3) := dk_180 0 7 (dk_at dksX3_isGroup_0 3 rfl rfl)
theorem dX3_isGroup_6 : decode cX3_isGroup 6 = .ok (.iconst 4, 1) := dk_7 (dk_at dksX3_isGroup_0 6 rfl rfl)
theorem dX3_isGroup_7 : decode cX3_isGroup 7 = .ok (.iaload, 1) := dk_46 (dk_at dksX3_isGroup_0 7 rfl rfl)
theorem dX3_isGroup_8 : decode cX3_isGroup 8 = .ok (.iconst 1, 1) := dk_4 (dk_at dksX3_isGroup_0 8 rfl rfl)
theorem dX3_isGroup_9 : decode cX3_isGroup 9 = .ok (.isub, 1) := dk_100 (dk_at dksX3_isGroup_0 9 rfl rfl)
theorem dX3_isGroup_10 : decode cX3_isGroup 10 = .ok (.invokestatic 68, 3) := dk_184 0 68 (dk_at dksX3_isGroup_0 10 rfl rfl)
theorem dX3_isGroup_13 : decode cX3_isGroup 13 = .ok (.ireturn, 1) := dk_172 (dk_at dksX3_isGroup_0 13 rfl rfl)
abbrev cX3_goesOut : ByteArray := prog_31_method_36_code
def yX3_goesOut : MethodName := ⟨RX3, "goesOut", "(I)V"⟩
def dkwX3_goesOut_3 : List UInt8 := [180, 0, 7, 16, 116, 5, 42, 180, 0, 7, 7, 46, 104, 96, 4, 96, 3, 79, 177]
abbrev dktX3_goesOut_3 : List UInt8 := dkwX3_goesOut_3 ++ []
def dkwX3_goesOut_2 : List UInt8 := [7, 92, 46, 4, 100, 79, 42, 180, 0, 7, 16, 116, 5, 42, 180, 0, 7, 7, 46, 104, 96, 3, 79, 42]
abbrev dktX3_goesOut_2 : List UInt8 := dkwX3_goesOut_2 ++ dktX3_goesOut_3
def dkwX3_goesOut_1 : List UInt8 := [42, 180, 0, 7, 28, 42, 180, 0, 7, 28, 5, 96, 46, 79, 132, 2, 1, 167, 255, 222, 42, 180, 0, 7]
abbrev dktX3_goesOut_1 : List UInt8 := dkwX3_goesOut_1 ++ dktX3_goesOut_2
def dkwX3_goesOut_0 : List UInt8 := [16, 116, 5, 27, 104, 96, 61, 28, 16, 116, 5, 42, 180, 0, 7, 7, 46, 104, 96, 5, 100, 162, 0, 23]
abbrev dktX3_goesOut_0 : List UInt8 := dkwX3_goesOut_0 ++ dktX3_goesOut_1
theorem dksX3_goesOut_0 : cX3_goesOut.data.toList.drop 0 = dktX3_goesOut_0 := by decide +kernel
theorem dksX3_goesOut_1 : cX3_goesOut.data.toList.drop 24 = dktX3_goesOut_1 := dk_seg dksX3_goesOut_0 24 rfl rfl
theorem dksX3_goesOut_2 : cX3_goesOut.data.toList.drop 48 = dktX3_goesOut_2 := dk_seg dksX3_goesOut_1 24 rfl rfl
theorem dksX3_goesOut_3 : cX3_goesOut.data.toList.drop 72 = dktX3_goesOut_3 := dk_seg dksX3_goesOut_2 24 rfl rfl
theorem dX3_goesOut_0 : decode cX3_goesOut 0 = .ok (.bipush 116, 2) := dk_16 116 (dk_at dksX3_goesOut_0 0 rfl rfl)
theorem dX3_goesOut_2 : decode cX3_goesOut 2 = .ok (.iconst 2, 1) := dk_5 (dk_at dksX3_goesOut_0 2 rfl rfl)
theorem dX3_goesOut_3 : decode cX3_goesOut 3 = .ok (.iload_n 1, 1) := dk_27 (dk_at dksX3_goesOut_0 3 rfl rfl)
theorem dX3_goesOut_4 : decode cX3_goesOut 4 = .ok (.imul, 1) := dk_104 (dk_at dksX3_goesOut_0 4 rfl rfl)
theorem dX3_goesOut_5 : decode cX3_goesOut 5 = .ok (.iadd, 1) := dk_96 (dk_at dksX3_goesOut_0 5 rfl rfl)
theorem dX3_goesOut_6 : decode cX3_goesOut 6 = .ok (.istore_n 2, 1) := dk_61 (dk_at dksX3_goesOut_0 6 rfl rfl)
theorem dX3_goesOut_7 : decode cX3_goesOut 7 = .ok (.iload_n 2, 1) := dk_28 (dk_at dksX3_goesOut_0 7 rfl rfl)
theorem dX3_goesOut_8 : decode cX3_goesOut 8 = .ok (.bipush 116, 2) := dk_16 116 (dk_at dksX3_goesOut_0 8 rfl rfl)
theorem dX3_goesOut_10 : decode cX3_goesOut 10 = .ok (.iconst 2, 1) := dk_5 (dk_at dksX3_goesOut_0 10 rfl rfl)
theorem dX3_goesOut_11 : decode cX3_goesOut 11 = .ok (.aload_n 0, 1) := dk_42 (dk_at dksX3_goesOut_0 11 rfl rfl)
theorem dX3_goesOut_12 : decode cX3_goesOut 12 = .ok (.getfield 7, 3) := dk_180 0 7 (dk_at dksX3_goesOut_0 12 rfl rfl)
theorem dX3_goesOut_15 : decode cX3_goesOut 15 = .ok (.iconst 4, 1) := dk_7 (dk_at dksX3_goesOut_0 15 rfl rfl)
theorem dX3_goesOut_16 : decode cX3_goesOut 16 = .ok (.iaload, 1) := dk_46 (dk_at dksX3_goesOut_0 16 rfl rfl)
theorem dX3_goesOut_17 : decode cX3_goesOut 17 = .ok (.imul, 1) := dk_104 (dk_at dksX3_goesOut_0 17 rfl rfl)
theorem dX3_goesOut_18 : decode cX3_goesOut 18 = .ok (.iadd, 1) := dk_96 (dk_at dksX3_goesOut_0 18 rfl rfl)
theorem dX3_goesOut_19 : decode cX3_goesOut 19 = .ok (.iconst 2, 1) := dk_5 (dk_at dksX3_goesOut_0 19 rfl rfl)
theorem dX3_goesOut_20 : decode cX3_goesOut 20 = .ok (.isub, 1) := dk_100 (dk_at dksX3_goesOut_0 20 rfl rfl)
theorem dX3_goesOut_21 : decode cX3_goesOut 21 = .ok (.if_icmp .ge 23, 3) := dk_162 0 23 (dk_at dksX3_goesOut_0 21 rfl rfl)
theorem dX3_goesOut_24 : decode cX3_goesOut 24 = .ok (.aload_n 0, 1) := dk_42 (dk_at dksX3_goesOut_1 0 rfl rfl)
theorem dX3_goesOut_25 : decode cX3_goesOut 25 = .ok (.getfield 7, 3) := dk_180 0 7 (dk_at dksX3_goesOut_1 1 rfl rfl)
theorem dX3_goesOut_28 : decode cX3_goesOut 28 = .ok (.iload_n 2, 1) := dk_28 (dk_at dksX3_goesOut_1 4 rfl rfl)
theorem dX3_goesOut_29 : decode cX3_goesOut 29 = .ok (.aload_n 0, 1) := dk_42 (dk_at dksX3_goesOut_1 5 rfl rfl)
theorem dX3_goesOut_30 : decode cX3_goesOut 30 = .ok (.getfield 7, 3) := dk_180 0 7 (dk_at dksX3_goesOut_1 6 rfl rfl)
theorem dX3_goesOut_33 : decode cX3_goesOut 33 = .ok (.iload_n 2, 1) := dk_28 (dk_at dksX3_goesOut_1 9 rfl rfl)
theorem dX3_goesOut_34 : decode cX3_goesOut 34 = .ok (.iconst 2, 1) := dk_5 (dk_at dksX3_goesOut_1 10 rfl rfl)
theorem dX3_goesOut_35 : decode cX3_goesOut 35 = .ok (.iadd, 1) := dk_96 (dk_at dksX3_goesOut_1 11 rfl rfl)
theorem dX3_goesOut_36 : decode cX3_goesOut 36 = .ok (.iaload, 1) := dk_46 (dk_at dksX3_goesOut_1 12 rfl rfl)
theorem dX3_goesOut_37 : decode cX3_goesOut 37 = .ok (.iastore, 1) := dk_79 (dk_at dksX3_goesOut_1 13 rfl rfl)
theorem dX3_goesOut_38 : decode cX3_goesOut 38 = .ok (.iinc 2 1, 3) := dk_132 2 1 (dk_at dksX3_goesOut_1 14 rfl rfl)
theorem dX3_goesOut_41 : decode cX3_goesOut 41 = .ok (.goto (-34), 3) := dk_167 255 222 (dk_at dksX3_goesOut_1 17 rfl rfl)
theorem dX3_goesOut_44 : decode cX3_goesOut 44 = .ok (.aload_n 0, 1) := dk_42 (dk_at dksX3_goesOut_1 20 rfl rfl)
theorem dX3_goesOut_45 : decode cX3_goesOut 45 = .ok (.getfield 7, 3) := dk_180 0 7 (dk_at dksX3_goesOut_1 21 rfl rfl)
theorem dX3_goesOut_48 : decode cX3_goesOut 48 = .ok (.iconst 4, 1) := dk_7 (dk_at dksX3_goesOut_2 0 rfl rfl)
theorem dX3_goesOut_49 : decode cX3_goesOut 49 = .ok (.dup2, 1) := dk_92 (dk_at dksX3_goesOut_2 1 rfl rfl)
theorem dX3_goesOut_50 : decode cX3_goesOut 50 = .ok (.iaload, 1) := dk_46 (dk_at dksX3_goesOut_2 2 rfl rfl)
theorem dX3_goesOut_51 : decode cX3_goesOut 51 = .ok (.iconst 1, 1) := dk_4 (dk_at dksX3_goesOut_2 3 rfl rfl)
theorem dX3_goesOut_52 : decode cX3_goesOut 52 = .ok (.isub, 1) := dk_100 (dk_at dksX3_goesOut_2 4 rfl rfl)
theorem dX3_goesOut_53 : decode cX3_goesOut 53 = .ok (.iastore, 1) := dk_79 (dk_at dksX3_goesOut_2 5 rfl rfl)
theorem dX3_goesOut_54 : decode cX3_goesOut 54 = .ok (.aload_n 0, 1) := dk_42 (dk_at dksX3_goesOut_2 6 rfl rfl)
theorem dX3_goesOut_55 : decode cX3_goesOut 55 = .ok (.getfield 7, 3) := dk_180 0 7 (dk_at dksX3_goesOut_2 7 rfl rfl)
theorem dX3_goesOut_58 : decode cX3_goesOut 58 = .ok (.bipush 116, 2) := dk_16 116 (dk_at dksX3_goesOut_2 10 rfl rfl)
theorem dX3_goesOut_60 : decode cX3_goesOut 60 = .ok (.iconst 2, 1) := dk_5 (dk_at dksX3_goesOut_2 12 rfl rfl)
theorem dX3_goesOut_61 : decode cX3_goesOut 61 = .ok (.aload_n 0, 1) := dk_42 (dk_at dksX3_goesOut_2 13 rfl rfl)
theorem dX3_goesOut_62 : decode cX3_goesOut 62 = .ok (.getfield 7, 3) := dk_180 0 7 (dk_at dksX3_goesOut_2 14 rfl rfl)
theorem dX3_goesOut_65 : decode cX3_goesOut 65 = .ok (.iconst 4, 1) := dk_7 (dk_at dksX3_goesOut_2 17 rfl rfl)
theorem dX3_goesOut_66 : decode cX3_goesOut 66 = .ok (.iaload, 1) := dk_46 (dk_at dksX3_goesOut_2 18 rfl rfl)
theorem dX3_goesOut_67 : decode cX3_goesOut 67 = .ok (.imul, 1) := dk_104 (dk_at dksX3_goesOut_2 19 rfl rfl)
theorem dX3_goesOut_68 : decode cX3_goesOut 68 = .ok (.iadd, 1) := dk_96 (dk_at dksX3_goesOut_2 20 rfl rfl)
theorem dX3_goesOut_69 : decode cX3_goesOut 69 = .ok (.iconst 0, 1) := dk_3 (dk_at dksX3_goesOut_2 21 rfl rfl)
theorem dX3_goesOut_70 : decode cX3_goesOut 70 = .ok (.iastore, 1) := dk_79 (dk_at dksX3_goesOut_2 22 rfl rfl)
theorem dX3_goesOut_71 : decode cX3_goesOut 71 = .ok (.aload_n 0, 1) := dk_42 (dk_at dksX3_goesOut_2 23 rfl rfl)
theorem dX3_goesOut_72 : decode cX3_goesOut 72 = .ok (.getfield 7, 3) := dk_180 0 7 (dk_at dksX3_goesOut_3 0 rfl rfl)
theorem dX3_goesOut_75 : decode cX3_goesOut 75 = .ok (.bipush 116, 2) := dk_16 116 (dk_at dksX3_goesOut_3 3 rfl rfl)
theorem dX3_goesOut_77 : decode cX3_goesOut 77 = .ok (.iconst 2, 1) := dk_5 (dk_at dksX3_goesOut_3 5 rfl rfl)
theorem dX3_goesOut_78 : decode cX3_goesOut 78 = .ok (.aload_n 0, 1) := dk_42 (dk_at dksX3_goesOut_3 6 rfl rfl)
theorem dX3_goesOut_79 : decode cX3_goesOut 79 = .ok (.getfield 7, 3) := dk_180 0 7 (dk_at dksX3_goesOut_3 7 rfl rfl)
theorem dX3_goesOut_82 : decode cX3_goesOut 82 = .ok (.iconst 4, 1) := dk_7 (dk_at dksX3_goesOut_3 10 rfl rfl)
theorem dX3_goesOut_83 : decode cX3_goesOut 83 = .ok (.iaload, 1) := dk_46 (dk_at dksX3_goesOut_3 11 rfl rfl)
theorem dX3_goesOut_84 : decode cX3_goesOut 84 = .ok (.imul, 1) := dk_104 (dk_at dksX3_goesOut_3 12 rfl rfl)
theorem dX3_goesOut_85 : decode cX3_goesOut 85 = .ok (.iadd, 1) := dk_96 (dk_at dksX3_goesOut_3 13 rfl rfl)
theorem dX3_goesOut_86 : decode cX3_goesOut 86 = .ok (.iconst 1, 1) := dk_4 (dk_at dksX3_goesOut_3 14 rfl rfl)
theorem dX3_goesOut_87 : decode cX3_goesOut 87 = .ok (.iadd, 1) := dk_96 (dk_at dksX3_goesOut_3 15 rfl rfl)
theorem dX3_goesOut_88 : decode cX3_goesOut 88 = .ok (.iconst 0, 1) := dk_3 (dk_at dksX3_goesOut_3 16 rfl rfl)
theorem dX3_goesOut_89 : decode cX3_goesOut 89 = .ok (.iastore, 1) := dk_79 (dk_at dksX3_goesOut_3 17 rfl rfl)
theorem dX3_goesOut_90 : decode cX3_goesOut 90 = .ok (.return_, 1) := dk_177 (dk_at dksX3_goesOut_3 18 rfl rfl)
abbrev cX3_group : ByteArray := prog_31_method_38_code
def yX3_group : MethodName := ⟨RX3, "group", "(IZ)I"⟩
def dkwX3_group_1 : List UInt8 := [153, 0, 7, 4, 167, 0, 4, 3, 96, 46, 167, 0, 8, 42, 4, 182, 0, 42, 172]
abbrev dktX3_group_1 : List UInt8 := dkwX3_group_1 ++ []
def dkwX3_group_0 : List UInt8 := [42, 3, 181, 0, 32, 42, 27, 182, 0, 121, 153, 0, 27, 42, 180, 0, 7, 16, 116, 5, 27, 104, 96, 28]
abbrev dktX3_group_0 : List UInt8 := dkwX3_group_0 ++ dktX3_group_1
theorem dksX3_group_0 : cX3_group.data.toList.drop 0 = dktX3_group_0 := by decide +kernel
theorem dksX3_group_1 : cX3_group.data.toList.drop 24 = dktX3_group_1 := dk_seg dksX3_group_0 24 rfl rfl
theorem dX3_group_0 : decode cX3_group 0 = .ok (.aload_n 0, 1) := dk_42 (dk_at dksX3_group_0 0 rfl rfl)
theorem dX3_group_1 : decode cX3_group 1 = .ok (.iconst 0, 1) := dk_3 (dk_at dksX3_group_0 1 rfl rfl)
theorem dX3_group_2 : decode cX3_group 2 = .ok (.putfield 32, 3) := dk_181 0 32 (dk_at dksX3_group_0 2 rfl rfl)
theorem dX3_group_5 : decode cX3_group 5 = .ok (.aload_n 0, 1) := dk_42 (dk_at dksX3_group_0 5 rfl rfl)
theorem dX3_group_6 : decode cX3_group 6 = .ok (.iload_n 1, 1) := dk_27 (dk_at dksX3_group_0 6 rfl rfl)
theorem dX3_group_7 : decode cX3_group 7 = .ok (.invokevirtual 121, 3) := dk_182 0 121 (dk_at dksX3_group_0 7 rfl rfl)
theorem dX3_group_10 : decode cX3_group 10 = .ok (.ifCond .eq 27, 3) := dk_153 0 27 (dk_at dksX3_group_0 10 rfl rfl)
theorem dX3_group_13 : decode cX3_group 13 = .ok (.aload_n 0, 1) := dk_42 (dk_at dksX3_group_0 13 rfl rfl)
theorem dX3_group_14 : decode cX3_group 14 = .ok (.getfield 7, 3) := dk_180 0 7 (dk_at dksX3_group_0 14 rfl rfl)
theorem dX3_group_17 : decode cX3_group 17 = .ok (.bipush 116, 2) := dk_16 116 (dk_at dksX3_group_0 17 rfl rfl)
theorem dX3_group_19 : decode cX3_group 19 = .ok (.iconst 2, 1) := dk_5 (dk_at dksX3_group_0 19 rfl rfl)
theorem dX3_group_20 : decode cX3_group 20 = .ok (.iload_n 1, 1) := dk_27 (dk_at dksX3_group_0 20 rfl rfl)
theorem dX3_group_21 : decode cX3_group 21 = .ok (.imul, 1) := dk_104 (dk_at dksX3_group_0 21 rfl rfl)
theorem dX3_group_22 : decode cX3_group 22 = .ok (.iadd, 1) := dk_96 (dk_at dksX3_group_0 22 rfl rfl)
theorem dX3_group_23 : decode cX3_group 23 = .ok (.iload_n 2, 1) := dk_28 (dk_at dksX3_group_0 23 rfl rfl)
theorem dX3_group_24 : decode cX3_group 24 = .ok (.ifCond .eq 7, 3) := dk_153 0 7 (dk_at dksX3_group_1 0 rfl rfl)
theorem dX3_group_27 : decode cX3_group 27 = .ok (.iconst 1, 1) := dk_4 (dk_at dksX3_group_1 3 rfl rfl)
theorem dX3_group_28 : decode cX3_group 28 = .ok (.goto 4, 3) := dk_167 0 4 (dk_at dksX3_group_1 4 rfl rfl)
theorem dX3_group_31 : decode cX3_group 31 = .ok (.iconst 0, 1) := dk_3 (dk_at dksX3_group_1 7 rfl rfl)
theorem dX3_group_32 : decode cX3_group 32 = .ok (.iadd, 1) := dk_96 (dk_at dksX3_group_1 8 rfl rfl)
theorem dX3_group_33 : decode cX3_group 33 = .ok (.iaload, 1) := dk_46 (dk_at dksX3_group_1 9 rfl rfl)
theorem dX3_group_34 : decode cX3_group 34 = .ok (.goto 8, 3) := dk_167 0 8 (dk_at dksX3_group_1 10 rfl rfl)
theorem dX3_group_37 : decode cX3_group 37 = .ok (.aload_n 0, 1) := dk_42 (dk_at dksX3_group_1 13 rfl rfl)
theorem dX3_group_38 : decode cX3_group 38 = .ok (.iconst 1, 1) := dk_4 (dk_at dksX3_group_1 14 rfl rfl)
theorem dX3_group_39 : decode cX3_group 39 = .ok (.invokevirtual 42, 3) := dk_182 0 42 (dk_at dksX3_group_1 15 rfl rfl)
theorem dX3_group_42 : decode cX3_group 42 = .ok (.ireturn, 1) := dk_172 (dk_at dksX3_group_1 18 rfl rfl)
abbrev cX3_addLamp : ByteArray := prog_31_method_40_code
def yX3_addLamp : MethodName := ⟨RX3, "addLamp", "(I)I"⟩
def dkwX3_addLamp_3 : List UInt8 := [6, 46, 4, 100, 172]
abbrev dktX3_addLamp_3 : List UInt8 := dkwX3_addLamp_3 ++ []
def dkwX3_addLamp_2 : List UInt8 := [42, 180, 0, 7, 6, 46, 104, 96, 27, 79, 42, 180, 0, 7, 6, 92, 46, 4, 96, 79, 42, 180, 0, 7]
abbrev dktX3_addLamp_2 : List UInt8 := dkwX3_addLamp_2 ++ dktX3_addLamp_3
def dkwX3_addLamp_1 : List UInt8 := [46, 7, 160, 0, 11, 42, 5, 4, 7, 182, 0, 52, 172, 42, 182, 0, 76, 42, 180, 0, 7, 16, 124, 5]
abbrev dktX3_addLamp_1 : List UInt8 := dkwX3_addLamp_1 ++ dktX3_addLamp_2
def dkwX3_addLamp_0 : List UInt8 := [42, 3, 181, 0, 32, 42, 27, 182, 0, 82, 154, 0, 9, 42, 4, 182, 0, 42, 172, 42, 180, 0, 7, 6]
abbrev dktX3_addLamp_0 : List UInt8 := dkwX3_addLamp_0 ++ dktX3_addLamp_1
theorem dksX3_addLamp_0 : cX3_addLamp.data.toList.drop 0 = dktX3_addLamp_0 := by decide +kernel
theorem dksX3_addLamp_1 : cX3_addLamp.data.toList.drop 24 = dktX3_addLamp_1 := dk_seg dksX3_addLamp_0 24 rfl rfl
theorem dksX3_addLamp_2 : cX3_addLamp.data.toList.drop 48 = dktX3_addLamp_2 := dk_seg dksX3_addLamp_1 24 rfl rfl
theorem dksX3_addLamp_3 : cX3_addLamp.data.toList.drop 72 = dktX3_addLamp_3 := dk_seg dksX3_addLamp_2 24 rfl rfl
theorem dX3_addLamp_0 : decode cX3_addLamp 0 = .ok (.aload_n 0, 1) := dk_42 (dk_at dksX3_addLamp_0 0 rfl rfl)
theorem dX3_addLamp_1 : decode cX3_addLamp 1 = .ok (.iconst 0, 1) := dk_3 (dk_at dksX3_addLamp_0 1 rfl rfl)
theorem dX3_addLamp_2 : decode cX3_addLamp 2 = .ok (.putfield 32, 3) := dk_181 0 32 (dk_at dksX3_addLamp_0 2 rfl rfl)
theorem dX3_addLamp_5 : decode cX3_addLamp 5 = .ok (.aload_n 0, 1) := dk_42 (dk_at dksX3_addLamp_0 5 rfl rfl)
theorem dX3_addLamp_6 : decode cX3_addLamp 6 = .ok (.iload_n 1, 1) := dk_27 (dk_at dksX3_addLamp_0 6 rfl rfl)
theorem dX3_addLamp_7 : decode cX3_addLamp 7 = .ok (.invokevirtual 82, 3) := dk_182 0 82 (dk_at dksX3_addLamp_0 7 rfl rfl)
theorem dX3_addLamp_10 : decode cX3_addLamp 10 = .ok (.ifCond .ne 9, 3) := dk_154 0 9 (dk_at dksX3_addLamp_0 10 rfl rfl)
theorem dX3_addLamp_13 : decode cX3_addLamp 13 = .ok (.aload_n 0, 1) := dk_42 (dk_at dksX3_addLamp_0 13 rfl rfl)
theorem dX3_addLamp_14 : decode cX3_addLamp 14 = .ok (.iconst 1, 1) := dk_4 (dk_at dksX3_addLamp_0 14 rfl rfl)
theorem dX3_addLamp_15 : decode cX3_addLamp 15 = .ok (.invokevirtual 42, 3) := dk_182 0 42 (dk_at dksX3_addLamp_0 15 rfl rfl)
theorem dX3_addLamp_18 : decode cX3_addLamp 18 = .ok (.ireturn, 1) := dk_172 (dk_at dksX3_addLamp_0 18 rfl rfl)
theorem dX3_addLamp_19 : decode cX3_addLamp 19 = .ok (.aload_n 0, 1) := dk_42 (dk_at dksX3_addLamp_0 19 rfl rfl)
theorem dX3_addLamp_20 : decode cX3_addLamp 20 = .ok (.getfield 7, 3) := dk_180 0 7 (dk_at dksX3_addLamp_0 20 rfl rfl)
theorem dX3_addLamp_23 : decode cX3_addLamp 23 = .ok (.iconst 3, 1) := dk_6 (dk_at dksX3_addLamp_0 23 rfl rfl)
theorem dX3_addLamp_24 : decode cX3_addLamp 24 = .ok (.iaload, 1) := dk_46 (dk_at dksX3_addLamp_1 0 rfl rfl)
theorem dX3_addLamp_25 : decode cX3_addLamp 25 = .ok (.iconst 4, 1) := dk_7 (dk_at dksX3_addLamp_1 1 rfl rfl)
theorem dX3_addLamp_26 : decode cX3_addLamp 26 = .ok (.if_icmp .ne 11, 3) := dk_160 0 11 (dk_at dksX3_addLamp_1 2 rfl rfl)
theorem dX3_addLamp_29 : decode cX3_addLamp 29 = .ok (.aload_n 0, 1) := dk_42 (dk_at dksX3_addLamp_1 5 rfl rfl)
theorem dX3_addLamp_30 : decode cX3_addLamp 30 = .ok (.iconst 2, 1) := dk_5 (dk_at dksX3_addLamp_1 6 rfl rfl)
theorem dX3_addLamp_31 : decode cX3_addLamp 31 = .ok (.iconst 1, 1) := dk_4 (dk_at dksX3_addLamp_1 7 rfl rfl)
theorem dX3_addLamp_32 : decode cX3_addLamp 32 = .ok (.iconst 4, 1) := dk_7 (dk_at dksX3_addLamp_1 8 rfl rfl)
theorem dX3_addLamp_33 : decode cX3_addLamp 33 = .ok (.invokevirtual 52, 3) := dk_182 0 52 (dk_at dksX3_addLamp_1 9 rfl rfl)
theorem dX3_addLamp_36 : decode cX3_addLamp 36 = .ok (.ireturn, 1) := dk_172 (dk_at dksX3_addLamp_1 12 rfl rfl)
theorem dX3_addLamp_37 : decode cX3_addLamp 37 = .ok (.aload_n 0, 1) := dk_42 (dk_at dksX3_addLamp_1 13 rfl rfl)
theorem dX3_addLamp_38 : decode cX3_addLamp 38 = .ok (.invokevirtual 76, 3) := dk_182 0 76 (dk_at dksX3_addLamp_1 14 rfl rfl)
theorem dX3_addLamp_41 : decode cX3_addLamp 41 = .ok (.aload_n 0, 1) := dk_42 (dk_at dksX3_addLamp_1 17 rfl rfl)
theorem dX3_addLamp_42 : decode cX3_addLamp 42 = .ok (.getfield 7, 3) := dk_180 0 7 (dk_at dksX3_addLamp_1 18 rfl rfl)
theorem dX3_addLamp_45 : decode cX3_addLamp 45 = .ok (.bipush 124, 2) := dk_16 124 (dk_at dksX3_addLamp_1 21 rfl rfl)
theorem dX3_addLamp_47 : decode cX3_addLamp 47 = .ok (.iconst 2, 1) := dk_5 (dk_at dksX3_addLamp_1 23 rfl rfl)
theorem dX3_addLamp_48 : decode cX3_addLamp 48 = .ok (.aload_n 0, 1) := dk_42 (dk_at dksX3_addLamp_2 0 rfl rfl)
theorem dX3_addLamp_49 : decode cX3_addLamp 49 = .ok (.getfield 7, 3) := dk_180 0 7 (dk_at dksX3_addLamp_2 1 rfl rfl)
theorem dX3_addLamp_52 : decode cX3_addLamp 52 = .ok (.iconst 3, 1) := dk_6 (dk_at dksX3_addLamp_2 4 rfl rfl)
theorem dX3_addLamp_53 : decode cX3_addLamp 53 = .ok (.iaload, 1) := dk_46 (dk_at dksX3_addLamp_2 5 rfl rfl)
theorem dX3_addLamp_54 : decode cX3_addLamp 54 = .ok (.imul, 1) := dk_104 (dk_at dksX3_addLamp_2 6 rfl rfl)
theorem dX3_addLamp_55 : decode cX3_addLamp 55 = .ok (.iadd, 1) := dk_96 (dk_at dksX3_addLamp_2 7 rfl rfl)
theorem dX3_addLamp_56 : decode cX3_addLamp 56 = .ok (.iload_n 1, 1) := dk_27 (dk_at dksX3_addLamp_2 8 rfl rfl)
theorem dX3_addLamp_57 : decode cX3_addLamp 57 = .ok (.iastore, 1) := dk_79 (dk_at dksX3_addLamp_2 9 rfl rfl)
theorem dX3_addLamp_58 : decode cX3_addLamp 58 = .ok (.aload_n 0, 1) := dk_42 (dk_at dksX3_addLamp_2 10 rfl rfl)
theorem dX3_addLamp_59 : decode cX3_addLamp 59 = .ok (.getfield 7, 3) := dk_180 0 7 (dk_at dksX3_addLamp_2 11 rfl rfl)
theorem dX3_addLamp_62 : decode cX3_addLamp 62 = .ok (.iconst 3, 1) := dk_6 (dk_at dksX3_addLamp_2 14 rfl rfl)
theorem dX3_addLamp_63 : decode cX3_addLamp 63 = .ok (.dup2, 1) := dk_92 (dk_at dksX3_addLamp_2 15 rfl rfl)
theorem dX3_addLamp_64 : decode cX3_addLamp 64 = .ok (.iaload, 1) := dk_46 (dk_at dksX3_addLamp_2 16 rfl rfl)
theorem dX3_addLamp_65 : decode cX3_addLamp 65 = .ok (.iconst 1, 1) := dk_4 (dk_at dksX3_addLamp_2 17 rfl rfl)
theorem dX3_addLamp_66 : decode cX3_addLamp 66 = .ok (.iadd, 1) := dk_96 (dk_at dksX3_addLamp_2 18 rfl rfl)
theorem dX3_addLamp_67 : decode cX3_addLamp 67 = .ok (.iastore, 1) := dk_79 (dk_at dksX3_addLamp_2 19 rfl rfl)
theorem dX3_addLamp_68 : decode cX3_addLamp 68 = .ok (.aload_n 0, 1) := dk_42 (dk_at dksX3_addLamp_2 20 rfl rfl)
theorem dX3_addLamp_69 : decode cX3_addLamp 69 = .ok (.getfield 7, 3) := dk_180 0 7 (dk_at dksX3_addLamp_2 21 rfl rfl)
theorem dX3_addLamp_72 : decode cX3_addLamp 72 = .ok (.iconst 3, 1) := dk_6 (dk_at dksX3_addLamp_3 0 rfl rfl)
theorem dX3_addLamp_73 : decode cX3_addLamp 73 = .ok (.iaload, 1) := dk_46 (dk_at dksX3_addLamp_3 1 rfl rfl)
theorem dX3_addLamp_74 : decode cX3_addLamp 74 = .ok (.iconst 1, 1) := dk_4 (dk_at dksX3_addLamp_3 2 rfl rfl)
theorem dX3_addLamp_75 : decode cX3_addLamp 75 = .ok (.isub, 1) := dk_100 (dk_at dksX3_addLamp_3 3 rfl rfl)
theorem dX3_addLamp_76 : decode cX3_addLamp 76 = .ok (.ireturn, 1) := dk_172 (dk_at dksX3_addLamp_3 4 rfl rfl)
abbrev cX3_switchOn : ByteArray := prog_31_method_45_code
def yX3_switchOn : MethodName := ⟨RX3, "switchOn", "(II)I"⟩
def dkwX3_switchOn_1 : List UInt8 := [182, 0, 76, 42, 27, 28, 182, 0, 141, 172]
abbrev dktX3_switchOn_1 : List UInt8 := dkwX3_switchOn_1 ++ []
def dkwX3_switchOn_0 : List UInt8 := [42, 3, 181, 0, 32, 42, 27, 28, 182, 0, 138, 62, 29, 153, 0, 9, 42, 29, 182, 0, 115, 172, 42]
abbrev dktX3_switchOn_0 : List UInt8 := dkwX3_switchOn_0 ++ dktX3_switchOn_1
theorem dksX3_switchOn_0 : cX3_switchOn.data.toList.drop 0 = dktX3_switchOn_0 := by decide +kernel
theorem dksX3_switchOn_1 : cX3_switchOn.data.toList.drop 23 = dktX3_switchOn_1 := dk_seg dksX3_switchOn_0 23 rfl rfl
theorem dX3_switchOn_0 : decode cX3_switchOn 0 = .ok (.aload_n 0, 1) := dk_42 (dk_at dksX3_switchOn_0 0 rfl rfl)
theorem dX3_switchOn_1 : decode cX3_switchOn 1 = .ok (.iconst 0, 1) := dk_3 (dk_at dksX3_switchOn_0 1 rfl rfl)
theorem dX3_switchOn_2 : decode cX3_switchOn 2 = .ok (.putfield 32, 3) := dk_181 0 32 (dk_at dksX3_switchOn_0 2 rfl rfl)
theorem dX3_switchOn_5 : decode cX3_switchOn 5 = .ok (.aload_n 0, 1) := dk_42 (dk_at dksX3_switchOn_0 5 rfl rfl)
theorem dX3_switchOn_6 : decode cX3_switchOn 6 = .ok (.iload_n 1, 1) := dk_27 (dk_at dksX3_switchOn_0 6 rfl rfl)
theorem dX3_switchOn_7 : decode cX3_switchOn 7 = .ok (.iload_n 2, 1) := dk_28 (dk_at dksX3_switchOn_0 7 rfl rfl)
theorem dX3_switchOn_8 : decode cX3_switchOn 8 = .ok (.invokevirtual 138, 3) := dk_182 0 138 (dk_at dksX3_switchOn_0 8 rfl rfl)
theorem dX3_switchOn_11 : decode cX3_switchOn 11 = .ok (.istore_n 3, 1) := dk_62 (dk_at dksX3_switchOn_0 11 rfl rfl)
theorem dX3_switchOn_12 : decode cX3_switchOn 12 = .ok (.iload_n 3, 1) := dk_29 (dk_at dksX3_switchOn_0 12 rfl rfl)
theorem dX3_switchOn_13 : decode cX3_switchOn 13 = .ok (.ifCond .eq 9, 3) := dk_153 0 9 (dk_at dksX3_switchOn_0 13 rfl rfl)
theorem dX3_switchOn_16 : decode cX3_switchOn 16 = .ok (.aload_n 0, 1) := dk_42 (dk_at dksX3_switchOn_0 16 rfl rfl)
theorem dX3_switchOn_17 : decode cX3_switchOn 17 = .ok (.iload_n 3, 1) := dk_29 (dk_at dksX3_switchOn_0 17 rfl rfl)
theorem dX3_switchOn_18 : decode cX3_switchOn 18 = .ok (.invokevirtual 115, 3) := dk_182 0 115 (dk_at dksX3_switchOn_0 18 rfl rfl)
theorem dX3_switchOn_21 : decode cX3_switchOn 21 = .ok (.ireturn, 1) := dk_172 (dk_at dksX3_switchOn_0 21 rfl rfl)
theorem dX3_switchOn_22 : decode cX3_switchOn 22 = .ok (.aload_n 0, 1) := dk_42 (dk_at dksX3_switchOn_0 22 rfl rfl)
theorem dX3_switchOn_23 : decode cX3_switchOn 23 = .ok (.invokevirtual 76, 3) := dk_182 0 76 (dk_at dksX3_switchOn_1 0 rfl rfl)
theorem dX3_switchOn_26 : decode cX3_switchOn 26 = .ok (.aload_n 0, 1) := dk_42 (dk_at dksX3_switchOn_1 3 rfl rfl)
theorem dX3_switchOn_27 : decode cX3_switchOn 27 = .ok (.iload_n 1, 1) := dk_27 (dk_at dksX3_switchOn_1 4 rfl rfl)
theorem dX3_switchOn_28 : decode cX3_switchOn 28 = .ok (.iload_n 2, 1) := dk_28 (dk_at dksX3_switchOn_1 5 rfl rfl)
theorem dX3_switchOn_29 : decode cX3_switchOn 29 = .ok (.invokevirtual 141, 3) := dk_182 0 141 (dk_at dksX3_switchOn_1 6 rfl rfl)
theorem dX3_switchOn_32 : decode cX3_switchOn 32 = .ok (.ireturn, 1) := dk_172 (dk_at dksX3_switchOn_1 9 rfl rfl)
abbrev cX3_notOn : ByteArray := prog_31_method_43_code
def yX3_notOn : MethodName := ⟨RX3, "notOn", "(II)I"⟩
def dkwX3_notOn_2 : List UInt8 := [167, 0, 4, 3, 172]
abbrev dktX3_notOn_2 : List UInt8 := dkwX3_notOn_2 ++ []
def dkwX3_notOn_1 : List UInt8 := [154, 0, 5, 5, 172, 42, 27, 182, 0, 128, 158, 0, 17, 42, 6, 5, 42, 27, 182, 0, 128, 182, 0, 109]
abbrev dktX3_notOn_1 : List UInt8 := dkwX3_notOn_1 ++ dktX3_notOn_2
def dkwX3_notOn_0 : List UInt8 := [42, 3, 181, 0, 46, 42, 27, 182, 0, 131, 154, 0, 5, 4, 172, 28, 4, 16, 60, 184, 0, 68]
abbrev dktX3_notOn_0 : List UInt8 := dkwX3_notOn_0 ++ dktX3_notOn_1
theorem dksX3_notOn_0 : cX3_notOn.data.toList.drop 0 = dktX3_notOn_0 := by decide +kernel
theorem dksX3_notOn_1 : cX3_notOn.data.toList.drop 22 = dktX3_notOn_1 := dk_seg dksX3_notOn_0 22 rfl rfl
theorem dksX3_notOn_2 : cX3_notOn.data.toList.drop 46 = dktX3_notOn_2 := dk_seg dksX3_notOn_1 24 rfl rfl
theorem dX3_notOn_0 : decode cX3_notOn 0 = .ok (.aload_n 0, 1) := dk_42 (dk_at dksX3_notOn_0 0 rfl rfl)
theorem dX3_notOn_1 : decode cX3_notOn 1 = .ok (.iconst 0, 1) := dk_3 (dk_at dksX3_notOn_0 1 rfl rfl)
theorem dX3_notOn_2 : decode cX3_notOn 2 = .ok (.putfield 46, 3) := dk_181 0 46 (dk_at dksX3_notOn_0 2 rfl rfl)
theorem dX3_notOn_5 : decode cX3_notOn 5 = .ok (.aload_n 0, 1) := dk_42 (dk_at dksX3_notOn_0 5 rfl rfl)
theorem dX3_notOn_6 : decode cX3_notOn 6 = .ok (.iload_n 1, 1) := dk_27 (dk_at dksX3_notOn_0 6 rfl rfl)
theorem dX3_notOn_7 : decode cX3_notOn 7 = .ok (.invokevirtual 131, 3) := dk_182 0 131 (dk_at dksX3_notOn_0 7 rfl rfl)
theorem dX3_notOn_10 : decode cX3_notOn 10 = .ok (.ifCond .ne 5, 3) := dk_154 0 5 (dk_at dksX3_notOn_0 10 rfl rfl)
theorem dX3_notOn_13 : decode cX3_notOn 13 = .ok (.iconst 1, 1) := dk_4 (dk_at dksX3_notOn_0 13 rfl rfl)
theorem dX3_notOn_14 : decode cX3_notOn 14 = .ok (.ireturn, 1) := dk_172 (dk_at dksX3_notOn_0 14 rfl rfl)
theorem dX3_notOn_15 : decode cX3_notOn 15 = .ok (.iload_n 2, 1) := dk_28 (dk_at dksX3_notOn_0 15 rfl rfl)
theorem dX3_notOn_16 : decode cX3_notOn 16 = .ok (.iconst 1, 1) := dk_4 (dk_at dksX3_notOn_0 16 rfl rfl)
theorem dX3_notOn_17 : decode cX3_notOn 17 = .ok (.bipush 60, 2) := dk_16 60 (dk_at dksX3_notOn_0 17 rfl rfl)
theorem dX3_notOn_19 : decode cX3_notOn 19 = .ok (.invokestatic 68, 3) := dk_184 0 68 (dk_at dksX3_notOn_0 19 rfl rfl)
theorem dX3_notOn_22 : decode cX3_notOn 22 = .ok (.ifCond .ne 5, 3) := dk_154 0 5 (dk_at dksX3_notOn_1 0 rfl rfl)
theorem dX3_notOn_25 : decode cX3_notOn 25 = .ok (.iconst 2, 1) := dk_5 (dk_at dksX3_notOn_1 3 rfl rfl)
theorem dX3_notOn_26 : decode cX3_notOn 26 = .ok (.ireturn, 1) := dk_172 (dk_at dksX3_notOn_1 4 rfl rfl)
theorem dX3_notOn_27 : decode cX3_notOn 27 = .ok (.aload_n 0, 1) := dk_42 (dk_at dksX3_notOn_1 5 rfl rfl)
theorem dX3_notOn_28 : decode cX3_notOn 28 = .ok (.iload_n 1, 1) := dk_27 (dk_at dksX3_notOn_1 6 rfl rfl)
theorem dX3_notOn_29 : decode cX3_notOn 29 = .ok (.invokevirtual 128, 3) := dk_182 0 128 (dk_at dksX3_notOn_1 7 rfl rfl)
theorem dX3_notOn_32 : decode cX3_notOn 32 = .ok (.ifCond .le 17, 3) := dk_158 0 17 (dk_at dksX3_notOn_1 10 rfl rfl)
theorem dX3_notOn_35 : decode cX3_notOn 35 = .ok (.aload_n 0, 1) := dk_42 (dk_at dksX3_notOn_1 13 rfl rfl)
theorem dX3_notOn_36 : decode cX3_notOn 36 = .ok (.iconst 3, 1) := dk_6 (dk_at dksX3_notOn_1 14 rfl rfl)
theorem dX3_notOn_37 : decode cX3_notOn 37 = .ok (.iconst 2, 1) := dk_5 (dk_at dksX3_notOn_1 15 rfl rfl)
theorem dX3_notOn_38 : decode cX3_notOn 38 = .ok (.aload_n 0, 1) := dk_42 (dk_at dksX3_notOn_1 16 rfl rfl)
theorem dX3_notOn_39 : decode cX3_notOn 39 = .ok (.iload_n 1, 1) := dk_27 (dk_at dksX3_notOn_1 17 rfl rfl)
theorem dX3_notOn_40 : decode cX3_notOn 40 = .ok (.invokevirtual 128, 3) := dk_182 0 128 (dk_at dksX3_notOn_1 18 rfl rfl)
theorem dX3_notOn_43 : decode cX3_notOn 43 = .ok (.invokevirtual 109, 3) := dk_182 0 109 (dk_at dksX3_notOn_1 21 rfl rfl)
theorem dX3_notOn_46 : decode cX3_notOn 46 = .ok (.goto 4, 3) := dk_167 0 4 (dk_at dksX3_notOn_2 0 rfl rfl)
theorem dX3_notOn_49 : decode cX3_notOn 49 = .ok (.iconst 0, 1) := dk_3 (dk_at dksX3_notOn_2 3 rfl rfl)
theorem dX3_notOn_50 : decode cX3_notOn 50 = .ok (.ireturn, 1) := dk_172 (dk_at dksX3_notOn_2 4 rfl rfl)
abbrev cX3_isLamp : ByteArray := prog_31_method_19_code
def yX3_isLamp : MethodName := ⟨RX3, "isLamp", "(I)Z"⟩
def dkwX3_isLamp_0 : List UInt8 := [27, 3, 42, 180, 0, 7, 6, 46, 4, 100, 184, 0, 68, 172]
abbrev dktX3_isLamp_0 : List UInt8 := dkwX3_isLamp_0 ++ []
theorem dksX3_isLamp_0 : cX3_isLamp.data.toList.drop 0 = dktX3_isLamp_0 := by decide +kernel
theorem dX3_isLamp_0 : decode cX3_isLamp 0 = .ok (.iload_n 1, 1) := dk_27 (dk_at dksX3_isLamp_0 0 rfl rfl)
theorem dX3_isLamp_1 : decode cX3_isLamp 1 = .ok (.iconst 0, 1) := dk_3 (dk_at dksX3_isLamp_0 1 rfl rfl)
theorem dX3_isLamp_2 : decode cX3_isLamp 2 = .ok (.aload_n 0, 1) := dk_42 (dk_at dksX3_isLamp_0 2 rfl rfl)
theorem dX3_isLamp_3 : decode cX3_isLamp 3 = .ok (.getfield 7, 3) := dk_180 0 7 (dk_at dksX3_isLamp_0 3 rfl rfl)
theorem dX3_isLamp_6 : decode cX3_isLamp 6 = .ok (.iconst 3, 1) := dk_6 (dk_at dksX3_isLamp_0 6 rfl rfl)
theorem dX3_isLamp_7 : decode cX3_isLamp 7 = .ok (.iaload, 1) := dk_46 (dk_at dksX3_isLamp_0 7 rfl rfl)
theorem dX3_isLamp_8 : decode cX3_isLamp 8 = .ok (.iconst 1, 1) := dk_4 (dk_at dksX3_isLamp_0 8 rfl rfl)
theorem dX3_isLamp_9 : decode cX3_isLamp 9 = .ok (.isub, 1) := dk_100 (dk_at dksX3_isLamp_0 9 rfl rfl)
theorem dX3_isLamp_10 : decode cX3_isLamp 10 = .ok (.invokestatic 68, 3) := dk_184 0 68 (dk_at dksX3_isLamp_0 10 rfl rfl)
theorem dX3_isLamp_13 : decode cX3_isLamp 13 = .ok (.ireturn, 1) := dk_172 (dk_at dksX3_isLamp_0 13 rfl rfl)
abbrev cX3_minutesOf : ByteArray := prog_31_method_41_code
def yX3_minutesOf : MethodName := ⟨RX3, "minutesOf", "(I)I"⟩
def dkwX3_minutesOf_0 : List UInt8 := [42, 180, 0, 7, 16, 124, 5, 27, 104, 96, 4, 96, 46, 172]
abbrev dktX3_minutesOf_0 : List UInt8 := dkwX3_minutesOf_0 ++ []
theorem dksX3_minutesOf_0 : cX3_minutesOf.data.toList.drop 0 = dktX3_minutesOf_0 := by decide +kernel
theorem dX3_minutesOf_0 : decode cX3_minutesOf 0 = .ok (.aload_n 0, 1) := dk_42 (dk_at dksX3_minutesOf_0 0 rfl rfl)
theorem dX3_minutesOf_1 : decode cX3_minutesOf 1 = .ok (.getfield 7, 3) := dk_180 0 7 (dk_at dksX3_minutesOf_0 1 rfl rfl)
theorem dX3_minutesOf_4 : decode cX3_minutesOf 4 = .ok (.bipush 124, 2) := dk_16 124 (dk_at dksX3_minutesOf_0 4 rfl rfl)
theorem dX3_minutesOf_6 : decode cX3_minutesOf 6 = .ok (.iconst 2, 1) := dk_5 (dk_at dksX3_minutesOf_0 6 rfl rfl)
theorem dX3_minutesOf_7 : decode cX3_minutesOf 7 = .ok (.iload_n 1, 1) := dk_27 (dk_at dksX3_minutesOf_0 7 rfl rfl)
theorem dX3_minutesOf_8 : decode cX3_minutesOf 8 = .ok (.imul, 1) := dk_104 (dk_at dksX3_minutesOf_0 8 rfl rfl)
theorem dX3_minutesOf_9 : decode cX3_minutesOf 9 = .ok (.iadd, 1) := dk_96 (dk_at dksX3_minutesOf_0 9 rfl rfl)
theorem dX3_minutesOf_10 : decode cX3_minutesOf 10 = .ok (.iconst 1, 1) := dk_4 (dk_at dksX3_minutesOf_0 10 rfl rfl)
theorem dX3_minutesOf_11 : decode cX3_minutesOf 11 = .ok (.iadd, 1) := dk_96 (dk_at dksX3_minutesOf_0 11 rfl rfl)
theorem dX3_minutesOf_12 : decode cX3_minutesOf 12 = .ok (.iaload, 1) := dk_46 (dk_at dksX3_minutesOf_0 12 rfl rfl)
theorem dX3_minutesOf_13 : decode cX3_minutesOf 13 = .ok (.ireturn, 1) := dk_172 (dk_at dksX3_minutesOf_0 13 rfl rfl)
abbrev cX3_lights : ByteArray := prog_31_method_44_code
def yX3_lights : MethodName := ⟨RX3, "lights", "(II)I"⟩
def dkwX3_lights_0 : List UInt8 := [42, 180, 0, 7, 16, 124, 5, 27, 104, 96, 4, 96, 28, 79, 42, 182, 0, 134, 172]
abbrev dktX3_lights_0 : List UInt8 := dkwX3_lights_0 ++ []
theorem dksX3_lights_0 : cX3_lights.data.toList.drop 0 = dktX3_lights_0 := by decide +kernel
theorem dX3_lights_0 : decode cX3_lights 0 = .ok (.aload_n 0, 1) := dk_42 (dk_at dksX3_lights_0 0 rfl rfl)
theorem dX3_lights_1 : decode cX3_lights 1 = .ok (.getfield 7, 3) := dk_180 0 7 (dk_at dksX3_lights_0 1 rfl rfl)
theorem dX3_lights_4 : decode cX3_lights 4 = .ok (.bipush 124, 2) := dk_16 124 (dk_at dksX3_lights_0 4 rfl rfl)
theorem dX3_lights_6 : decode cX3_lights 6 = .ok (.iconst 2, 1) := dk_5 (dk_at dksX3_lights_0 6 rfl rfl)
theorem dX3_lights_7 : decode cX3_lights 7 = .ok (.iload_n 1, 1) := dk_27 (dk_at dksX3_lights_0 7 rfl rfl)
theorem dX3_lights_8 : decode cX3_lights 8 = .ok (.imul, 1) := dk_104 (dk_at dksX3_lights_0 8 rfl rfl)
theorem dX3_lights_9 : decode cX3_lights 9 = .ok (.iadd, 1) := dk_96 (dk_at dksX3_lights_0 9 rfl rfl)
theorem dX3_lights_10 : decode cX3_lights 10 = .ok (.iconst 1, 1) := dk_4 (dk_at dksX3_lights_0 10 rfl rfl)
theorem dX3_lights_11 : decode cX3_lights 11 = .ok (.iadd, 1) := dk_96 (dk_at dksX3_lights_0 11 rfl rfl)
theorem dX3_lights_12 : decode cX3_lights 12 = .ok (.iload_n 2, 1) := dk_28 (dk_at dksX3_lights_0 12 rfl rfl)
theorem dX3_lights_13 : decode cX3_lights 13 = .ok (.iastore, 1) := dk_79 (dk_at dksX3_lights_0 13 rfl rfl)
theorem dX3_lights_14 : decode cX3_lights 14 = .ok (.aload_n 0, 1) := dk_42 (dk_at dksX3_lights_0 14 rfl rfl)
theorem dX3_lights_15 : decode cX3_lights 15 = .ok (.invokevirtual 134, 3) := dk_182 0 134 (dk_at dksX3_lights_0 15 rfl rfl)
theorem dX3_lights_18 : decode cX3_lights 18 = .ok (.ireturn, 1) := dk_172 (dk_at dksX3_lights_0 18 rfl rfl)
abbrev cX3_lampsOn : ByteArray := prog_31_method_42_code
def yX3_lampsOn : MethodName := ⟨RX3, "lampsOn", "()I"⟩
def dkwX3_lampsOn_1 : List UInt8 := [167, 0, 4, 3, 96, 60, 132, 2, 1, 167, 255, 227, 27, 172]
abbrev dktX3_lampsOn_1 : List UInt8 := dkwX3_lampsOn_1 ++ []
def dkwX3_lampsOn_0 : List UInt8 := [3, 60, 3, 61, 28, 42, 180, 0, 7, 6, 46, 162, 0, 25, 27, 42, 28, 182, 0, 128, 158, 0, 7, 4]
abbrev dktX3_lampsOn_0 : List UInt8 := dkwX3_lampsOn_0 ++ dktX3_lampsOn_1
theorem dksX3_lampsOn_0 : cX3_lampsOn.data.toList.drop 0 = dktX3_lampsOn_0 := by decide +kernel
theorem dksX3_lampsOn_1 : cX3_lampsOn.data.toList.drop 24 = dktX3_lampsOn_1 := dk_seg dksX3_lampsOn_0 24 rfl rfl
theorem dX3_lampsOn_0 : decode cX3_lampsOn 0 = .ok (.iconst 0, 1) := dk_3 (dk_at dksX3_lampsOn_0 0 rfl rfl)
theorem dX3_lampsOn_1 : decode cX3_lampsOn 1 = .ok (.istore_n 1, 1) := dk_60 (dk_at dksX3_lampsOn_0 1 rfl rfl)
theorem dX3_lampsOn_2 : decode cX3_lampsOn 2 = .ok (.iconst 0, 1) := dk_3 (dk_at dksX3_lampsOn_0 2 rfl rfl)
theorem dX3_lampsOn_3 : decode cX3_lampsOn 3 = .ok (.istore_n 2, 1) := dk_61 (dk_at dksX3_lampsOn_0 3 rfl rfl)
theorem dX3_lampsOn_4 : decode cX3_lampsOn 4 = .ok (.iload_n 2, 1) := dk_28 (dk_at dksX3_lampsOn_0 4 rfl rfl)
theorem dX3_lampsOn_5 : decode cX3_lampsOn 5 = .ok (.aload_n 0, 1) := dk_42 (dk_at dksX3_lampsOn_0 5 rfl rfl)
theorem dX3_lampsOn_6 : decode cX3_lampsOn 6 = .ok (.getfield 7, 3) := dk_180 0 7 (dk_at dksX3_lampsOn_0 6 rfl rfl)
theorem dX3_lampsOn_9 : decode cX3_lampsOn 9 = .ok (.iconst 3, 1) := dk_6 (dk_at dksX3_lampsOn_0 9 rfl rfl)
theorem dX3_lampsOn_10 : decode cX3_lampsOn 10 = .ok (.iaload, 1) := dk_46 (dk_at dksX3_lampsOn_0 10 rfl rfl)
theorem dX3_lampsOn_11 : decode cX3_lampsOn 11 = .ok (.if_icmp .ge 25, 3) := dk_162 0 25 (dk_at dksX3_lampsOn_0 11 rfl rfl)
theorem dX3_lampsOn_14 : decode cX3_lampsOn 14 = .ok (.iload_n 1, 1) := dk_27 (dk_at dksX3_lampsOn_0 14 rfl rfl)
theorem dX3_lampsOn_15 : decode cX3_lampsOn 15 = .ok (.aload_n 0, 1) := dk_42 (dk_at dksX3_lampsOn_0 15 rfl rfl)
theorem dX3_lampsOn_16 : decode cX3_lampsOn 16 = .ok (.iload_n 2, 1) := dk_28 (dk_at dksX3_lampsOn_0 16 rfl rfl)
theorem dX3_lampsOn_17 : decode cX3_lampsOn 17 = .ok (.invokevirtual 128, 3) := dk_182 0 128 (dk_at dksX3_lampsOn_0 17 rfl rfl)
theorem dX3_lampsOn_20 : decode cX3_lampsOn 20 = .ok (.ifCond .le 7, 3) := dk_158 0 7 (dk_at dksX3_lampsOn_0 20 rfl rfl)
theorem dX3_lampsOn_23 : decode cX3_lampsOn 23 = .ok (.iconst 1, 1) := dk_4 (dk_at dksX3_lampsOn_0 23 rfl rfl)
theorem dX3_lampsOn_24 : decode cX3_lampsOn 24 = .ok (.goto 4, 3) := dk_167 0 4 (dk_at dksX3_lampsOn_1 0 rfl rfl)
theorem dX3_lampsOn_27 : decode cX3_lampsOn 27 = .ok (.iconst 0, 1) := dk_3 (dk_at dksX3_lampsOn_1 3 rfl rfl)
theorem dX3_lampsOn_28 : decode cX3_lampsOn 28 = .ok (.iadd, 1) := dk_96 (dk_at dksX3_lampsOn_1 4 rfl rfl)
theorem dX3_lampsOn_29 : decode cX3_lampsOn 29 = .ok (.istore_n 1, 1) := dk_60 (dk_at dksX3_lampsOn_1 5 rfl rfl)
theorem dX3_lampsOn_30 : decode cX3_lampsOn 30 = .ok (.iinc 2 1, 3) := dk_132 2 1 (dk_at dksX3_lampsOn_1 6 rfl rfl)
theorem dX3_lampsOn_33 : decode cX3_lampsOn 33 = .ok (.goto (-29), 3) := dk_167 255 227 (dk_at dksX3_lampsOn_1 9 rfl rfl)
theorem dX3_lampsOn_36 : decode cX3_lampsOn 36 = .ok (.iload_n 1, 1) := dk_27 (dk_at dksX3_lampsOn_1 12 rfl rfl)
theorem dX3_lampsOn_37 : decode cX3_lampsOn 37 = .ok (.ireturn, 1) := dk_172 (dk_at dksX3_lampsOn_1 13 rfl rfl)
abbrev cX3_switchOff : ByteArray := prog_31_method_48_code
def yX3_switchOff : MethodName := ⟨RX3, "switchOff", "(I)I"⟩
def dkwX3_switchOff_1 : List UInt8 := [182, 0, 76, 42, 27, 182, 0, 147, 172]
abbrev dktX3_switchOff_1 : List UInt8 := dkwX3_switchOff_1 ++ []
def dkwX3_switchOff_0 : List UInt8 := [42, 3, 181, 0, 32, 42, 27, 182, 0, 144, 61, 28, 153, 0, 9, 42, 28, 182, 0, 115, 172, 42]
abbrev dktX3_switchOff_0 : List UInt8 := dkwX3_switchOff_0 ++ dktX3_switchOff_1
theorem dksX3_switchOff_0 : cX3_switchOff.data.toList.drop 0 = dktX3_switchOff_0 := by decide +kernel
theorem dksX3_switchOff_1 : cX3_switchOff.data.toList.drop 22 = dktX3_switchOff_1 := dk_seg dksX3_switchOff_0 22 rfl rfl
theorem dX3_switchOff_0 : decode cX3_switchOff 0 = .ok (.aload_n 0, 1) := dk_42 (dk_at dksX3_switchOff_0 0 rfl rfl)
theorem dX3_switchOff_1 : decode cX3_switchOff 1 = .ok (.iconst 0, 1) := dk_3 (dk_at dksX3_switchOff_0 1 rfl rfl)
theorem dX3_switchOff_2 : decode cX3_switchOff 2 = .ok (.putfield 32, 3) := dk_181 0 32 (dk_at dksX3_switchOff_0 2 rfl rfl)
theorem dX3_switchOff_5 : decode cX3_switchOff 5 = .ok (.aload_n 0, 1) := dk_42 (dk_at dksX3_switchOff_0 5 rfl rfl)
theorem dX3_switchOff_6 : decode cX3_switchOff 6 = .ok (.iload_n 1, 1) := dk_27 (dk_at dksX3_switchOff_0 6 rfl rfl)
theorem dX3_switchOff_7 : decode cX3_switchOff 7 = .ok (.invokevirtual 144, 3) := dk_182 0 144 (dk_at dksX3_switchOff_0 7 rfl rfl)
theorem dX3_switchOff_10 : decode cX3_switchOff 10 = .ok (.istore_n 2, 1) := dk_61 (dk_at dksX3_switchOff_0 10 rfl rfl)
theorem dX3_switchOff_11 : decode cX3_switchOff 11 = .ok (.iload_n 2, 1) := dk_28 (dk_at dksX3_switchOff_0 11 rfl rfl)
theorem dX3_switchOff_12 : decode cX3_switchOff 12 = .ok (.ifCond .eq 9, 3) := dk_153 0 9 (dk_at dksX3_switchOff_0 12 rfl rfl)
theorem dX3_switchOff_15 : decode cX3_switchOff 15 = .ok (.aload_n 0, 1) := dk_42 (dk_at dksX3_switchOff_0 15 rfl rfl)
theorem dX3_switchOff_16 : decode cX3_switchOff 16 = .ok (.iload_n 2, 1) := dk_28 (dk_at dksX3_switchOff_0 16 rfl rfl)
theorem dX3_switchOff_17 : decode cX3_switchOff 17 = .ok (.invokevirtual 115, 3) := dk_182 0 115 (dk_at dksX3_switchOff_0 17 rfl rfl)
theorem dX3_switchOff_20 : decode cX3_switchOff 20 = .ok (.ireturn, 1) := dk_172 (dk_at dksX3_switchOff_0 20 rfl rfl)
theorem dX3_switchOff_21 : decode cX3_switchOff 21 = .ok (.aload_n 0, 1) := dk_42 (dk_at dksX3_switchOff_0 21 rfl rfl)
theorem dX3_switchOff_22 : decode cX3_switchOff 22 = .ok (.invokevirtual 76, 3) := dk_182 0 76 (dk_at dksX3_switchOff_1 0 rfl rfl)
theorem dX3_switchOff_25 : decode cX3_switchOff 25 = .ok (.aload_n 0, 1) := dk_42 (dk_at dksX3_switchOff_1 3 rfl rfl)
theorem dX3_switchOff_26 : decode cX3_switchOff 26 = .ok (.iload_n 1, 1) := dk_27 (dk_at dksX3_switchOff_1 4 rfl rfl)
theorem dX3_switchOff_27 : decode cX3_switchOff 27 = .ok (.invokevirtual 147, 3) := dk_182 0 147 (dk_at dksX3_switchOff_1 5 rfl rfl)
theorem dX3_switchOff_30 : decode cX3_switchOff 30 = .ok (.ireturn, 1) := dk_172 (dk_at dksX3_switchOff_1 8 rfl rfl)
abbrev cX3_notOff : ByteArray := prog_31_method_46_code
def yX3_notOff : MethodName := ⟨RX3, "notOff", "(I)I"⟩
def dkwX3_notOff_1 : List UInt8 := [5, 6, 27, 182, 0, 109, 167, 0, 4, 3, 172]
abbrev dktX3_notOff_1 : List UInt8 := dkwX3_notOff_1 ++ []
def dkwX3_notOff_0 : List UInt8 := [42, 3, 181, 0, 46, 42, 27, 182, 0, 131, 154, 0, 5, 4, 172, 42, 27, 182, 0, 128, 154, 0, 13, 42]
abbrev dktX3_notOff_0 : List UInt8 := dkwX3_notOff_0 ++ dktX3_notOff_1
theorem dksX3_notOff_0 : cX3_notOff.data.toList.drop 0 = dktX3_notOff_0 := by decide +kernel
theorem dksX3_notOff_1 : cX3_notOff.data.toList.drop 24 = dktX3_notOff_1 := dk_seg dksX3_notOff_0 24 rfl rfl
theorem dX3_notOff_0 : decode cX3_notOff 0 = .ok (.aload_n 0, 1) := dk_42 (dk_at dksX3_notOff_0 0 rfl rfl)
theorem dX3_notOff_1 : decode cX3_notOff 1 = .ok (.iconst 0, 1) := dk_3 (dk_at dksX3_notOff_0 1 rfl rfl)
theorem dX3_notOff_2 : decode cX3_notOff 2 = .ok (.putfield 46, 3) := dk_181 0 46 (dk_at dksX3_notOff_0 2 rfl rfl)
theorem dX3_notOff_5 : decode cX3_notOff 5 = .ok (.aload_n 0, 1) := dk_42 (dk_at dksX3_notOff_0 5 rfl rfl)
theorem dX3_notOff_6 : decode cX3_notOff 6 = .ok (.iload_n 1, 1) := dk_27 (dk_at dksX3_notOff_0 6 rfl rfl)
theorem dX3_notOff_7 : decode cX3_notOff 7 = .ok (.invokevirtual 131, 3) := dk_182 0 131 (dk_at dksX3_notOff_0 7 rfl rfl)
theorem dX3_notOff_10 : decode cX3_notOff 10 = .ok (.ifCond .ne 5, 3) := dk_154 0 5 (dk_at dksX3_notOff_0 10 rfl rfl)
theorem dX3_notOff_13 : decode cX3_notOff 13 = .ok (.iconst 1, 1) := dk_4 (dk_at dksX3_notOff_0 13 rfl rfl)
theorem dX3_notOff_14 : decode cX3_notOff 14 = .ok (.ireturn, 1) := dk_172 (dk_at dksX3_notOff_0 14 rfl rfl)
theorem dX3_notOff_15 : decode cX3_notOff 15 = .ok (.aload_n 0, 1) := dk_42 (dk_at dksX3_notOff_0 15 rfl rfl)
theorem dX3_notOff_16 : decode cX3_notOff 16 = .ok (.iload_n 1, 1) := dk_27 (dk_at dksX3_notOff_0 16 rfl rfl)
theorem dX3_notOff_17 : decode cX3_notOff 17 = .ok (.invokevirtual 128, 3) := dk_182 0 128 (dk_at dksX3_notOff_0 17 rfl rfl)
theorem dX3_notOff_20 : decode cX3_notOff 20 = .ok (.ifCond .ne 13, 3) := dk_154 0 13 (dk_at dksX3_notOff_0 20 rfl rfl)
theorem dX3_notOff_23 : decode cX3_notOff 23 = .ok (.aload_n 0, 1) := dk_42 (dk_at dksX3_notOff_0 23 rfl rfl)
theorem dX3_notOff_24 : decode cX3_notOff 24 = .ok (.iconst 2, 1) := dk_5 (dk_at dksX3_notOff_1 0 rfl rfl)
theorem dX3_notOff_25 : decode cX3_notOff 25 = .ok (.iconst 3, 1) := dk_6 (dk_at dksX3_notOff_1 1 rfl rfl)
theorem dX3_notOff_26 : decode cX3_notOff 26 = .ok (.iload_n 1, 1) := dk_27 (dk_at dksX3_notOff_1 2 rfl rfl)
theorem dX3_notOff_27 : decode cX3_notOff 27 = .ok (.invokevirtual 109, 3) := dk_182 0 109 (dk_at dksX3_notOff_1 3 rfl rfl)
theorem dX3_notOff_30 : decode cX3_notOff 30 = .ok (.goto 4, 3) := dk_167 0 4 (dk_at dksX3_notOff_1 6 rfl rfl)
theorem dX3_notOff_33 : decode cX3_notOff 33 = .ok (.iconst 0, 1) := dk_3 (dk_at dksX3_notOff_1 9 rfl rfl)
theorem dX3_notOff_34 : decode cX3_notOff 34 = .ok (.ireturn, 1) := dk_172 (dk_at dksX3_notOff_1 10 rfl rfl)
abbrev cX3_darkens : ByteArray := prog_31_method_47_code
def yX3_darkens : MethodName := ⟨RX3, "darkens", "(I)I"⟩
def dkwX3_darkens_0 : List UInt8 := [42, 27, 182, 0, 128, 61, 42, 180, 0, 7, 16, 124, 5, 27, 104, 96, 4, 96, 3, 79, 28, 172]
abbrev dktX3_darkens_0 : List UInt8 := dkwX3_darkens_0 ++ []
theorem dksX3_darkens_0 : cX3_darkens.data.toList.drop 0 = dktX3_darkens_0 := by decide +kernel
theorem dX3_darkens_0 : decode cX3_darkens 0 = .ok (.aload_n 0, 1) := dk_42 (dk_at dksX3_darkens_0 0 rfl rfl)
theorem dX3_darkens_1 : decode cX3_darkens 1 = .ok (.iload_n 1, 1) := dk_27 (dk_at dksX3_darkens_0 1 rfl rfl)
theorem dX3_darkens_2 : decode cX3_darkens 2 = .ok (.invokevirtual 128, 3) := dk_182 0 128 (dk_at dksX3_darkens_0 2 rfl rfl)
theorem dX3_darkens_5 : decode cX3_darkens 5 = .ok (.istore_n 2, 1) := dk_61 (dk_at dksX3_darkens_0 5 rfl rfl)
theorem dX3_darkens_6 : decode cX3_darkens 6 = .ok (.aload_n 0, 1) := dk_42 (dk_at dksX3_darkens_0 6 rfl rfl)
theorem dX3_darkens_7 : decode cX3_darkens 7 = .ok (.getfield 7, 3) := dk_180 0 7 (dk_at dksX3_darkens_0 7 rfl rfl)
theorem dX3_darkens_10 : decode cX3_darkens 10 = .ok (.bipush 124, 2) := dk_16 124 (dk_at dksX3_darkens_0 10 rfl rfl)
theorem dX3_darkens_12 : decode cX3_darkens 12 = .ok (.iconst 2, 1) := dk_5 (dk_at dksX3_darkens_0 12 rfl rfl)
theorem dX3_darkens_13 : decode cX3_darkens 13 = .ok (.iload_n 1, 1) := dk_27 (dk_at dksX3_darkens_0 13 rfl rfl)
theorem dX3_darkens_14 : decode cX3_darkens 14 = .ok (.imul, 1) := dk_104 (dk_at dksX3_darkens_0 14 rfl rfl)
theorem dX3_darkens_15 : decode cX3_darkens 15 = .ok (.iadd, 1) := dk_96 (dk_at dksX3_darkens_0 15 rfl rfl)
theorem dX3_darkens_16 : decode cX3_darkens 16 = .ok (.iconst 1, 1) := dk_4 (dk_at dksX3_darkens_0 16 rfl rfl)
theorem dX3_darkens_17 : decode cX3_darkens 17 = .ok (.iadd, 1) := dk_96 (dk_at dksX3_darkens_0 17 rfl rfl)
theorem dX3_darkens_18 : decode cX3_darkens 18 = .ok (.iconst 0, 1) := dk_3 (dk_at dksX3_darkens_0 18 rfl rfl)
theorem dX3_darkens_19 : decode cX3_darkens 19 = .ok (.iastore, 1) := dk_79 (dk_at dksX3_darkens_0 19 rfl rfl)
theorem dX3_darkens_20 : decode cX3_darkens 20 = .ok (.iload_n 2, 1) := dk_28 (dk_at dksX3_darkens_0 20 rfl rfl)
theorem dX3_darkens_21 : decode cX3_darkens 21 = .ok (.ireturn, 1) := dk_172 (dk_at dksX3_darkens_0 21 rfl rfl)
abbrev cX3_lamp : ByteArray := prog_31_method_49_code
def yX3_lamp : MethodName := ⟨RX3, "lamp", "(IZ)I"⟩
def dkwX3_lamp_1 : List UInt8 := [153, 0, 7, 4, 167, 0, 4, 3, 96, 46, 167, 0, 8, 42, 4, 182, 0, 42, 172]
abbrev dktX3_lamp_1 : List UInt8 := dkwX3_lamp_1 ++ []
def dkwX3_lamp_0 : List UInt8 := [42, 3, 181, 0, 32, 42, 27, 182, 0, 131, 153, 0, 27, 42, 180, 0, 7, 16, 124, 5, 27, 104, 96, 28]
abbrev dktX3_lamp_0 : List UInt8 := dkwX3_lamp_0 ++ dktX3_lamp_1
theorem dksX3_lamp_0 : cX3_lamp.data.toList.drop 0 = dktX3_lamp_0 := by decide +kernel
theorem dksX3_lamp_1 : cX3_lamp.data.toList.drop 24 = dktX3_lamp_1 := dk_seg dksX3_lamp_0 24 rfl rfl
theorem dX3_lamp_0 : decode cX3_lamp 0 = .ok (.aload_n 0, 1) := dk_42 (dk_at dksX3_lamp_0 0 rfl rfl)
theorem dX3_lamp_1 : decode cX3_lamp 1 = .ok (.iconst 0, 1) := dk_3 (dk_at dksX3_lamp_0 1 rfl rfl)
theorem dX3_lamp_2 : decode cX3_lamp 2 = .ok (.putfield 32, 3) := dk_181 0 32 (dk_at dksX3_lamp_0 2 rfl rfl)
theorem dX3_lamp_5 : decode cX3_lamp 5 = .ok (.aload_n 0, 1) := dk_42 (dk_at dksX3_lamp_0 5 rfl rfl)
theorem dX3_lamp_6 : decode cX3_lamp 6 = .ok (.iload_n 1, 1) := dk_27 (dk_at dksX3_lamp_0 6 rfl rfl)
theorem dX3_lamp_7 : decode cX3_lamp 7 = .ok (.invokevirtual 131, 3) := dk_182 0 131 (dk_at dksX3_lamp_0 7 rfl rfl)
theorem dX3_lamp_10 : decode cX3_lamp 10 = .ok (.ifCond .eq 27, 3) := dk_153 0 27 (dk_at dksX3_lamp_0 10 rfl rfl)
theorem dX3_lamp_13 : decode cX3_lamp 13 = .ok (.aload_n 0, 1) := dk_42 (dk_at dksX3_lamp_0 13 rfl rfl)
theorem dX3_lamp_14 : decode cX3_lamp 14 = .ok (.getfield 7, 3) := dk_180 0 7 (dk_at dksX3_lamp_0 14 rfl rfl)
theorem dX3_lamp_17 : decode cX3_lamp 17 = .ok (.bipush 124, 2) := dk_16 124 (dk_at dksX3_lamp_0 17 rfl rfl)
theorem dX3_lamp_19 : decode cX3_lamp 19 = .ok (.iconst 2, 1) := dk_5 (dk_at dksX3_lamp_0 19 rfl rfl)
theorem dX3_lamp_20 : decode cX3_lamp 20 = .ok (.iload_n 1, 1) := dk_27 (dk_at dksX3_lamp_0 20 rfl rfl)
theorem dX3_lamp_21 : decode cX3_lamp 21 = .ok (.imul, 1) := dk_104 (dk_at dksX3_lamp_0 21 rfl rfl)
theorem dX3_lamp_22 : decode cX3_lamp 22 = .ok (.iadd, 1) := dk_96 (dk_at dksX3_lamp_0 22 rfl rfl)
theorem dX3_lamp_23 : decode cX3_lamp 23 = .ok (.iload_n 2, 1) := dk_28 (dk_at dksX3_lamp_0 23 rfl rfl)
theorem dX3_lamp_24 : decode cX3_lamp 24 = .ok (.ifCond .eq 7, 3) := dk_153 0 7 (dk_at dksX3_lamp_1 0 rfl rfl)
theorem dX3_lamp_27 : decode cX3_lamp 27 = .ok (.iconst 1, 1) := dk_4 (dk_at dksX3_lamp_1 3 rfl rfl)
theorem dX3_lamp_28 : decode cX3_lamp 28 = .ok (.goto 4, 3) := dk_167 0 4 (dk_at dksX3_lamp_1 4 rfl rfl)
theorem dX3_lamp_31 : decode cX3_lamp 31 = .ok (.iconst 0, 1) := dk_3 (dk_at dksX3_lamp_1 7 rfl rfl)
theorem dX3_lamp_32 : decode cX3_lamp 32 = .ok (.iadd, 1) := dk_96 (dk_at dksX3_lamp_1 8 rfl rfl)
theorem dX3_lamp_33 : decode cX3_lamp 33 = .ok (.iaload, 1) := dk_46 (dk_at dksX3_lamp_1 9 rfl rfl)
theorem dX3_lamp_34 : decode cX3_lamp 34 = .ok (.goto 8, 3) := dk_167 0 8 (dk_at dksX3_lamp_1 10 rfl rfl)
theorem dX3_lamp_37 : decode cX3_lamp 37 = .ok (.aload_n 0, 1) := dk_42 (dk_at dksX3_lamp_1 13 rfl rfl)
theorem dX3_lamp_38 : decode cX3_lamp 38 = .ok (.iconst 1, 1) := dk_4 (dk_at dksX3_lamp_1 14 rfl rfl)
theorem dX3_lamp_39 : decode cX3_lamp 39 = .ok (.invokevirtual 42, 3) := dk_182 0 42 (dk_at dksX3_lamp_1 15 rfl rfl)
theorem dX3_lamp_42 : decode cX3_lamp 42 = .ok (.ireturn, 1) := dk_172 (dk_at dksX3_lamp_1 18 rfl rfl)
abbrev cX3_setDraught : ByteArray := prog_31_method_52_code
def yX3_setDraught : MethodName := ⟨RX3, "setDraught", "(I)I"⟩
def dkwX3_setDraught_1 : List UInt8 := [27, 182, 0, 153, 172]
abbrev dktX3_setDraught_1 : List UInt8 := dkwX3_setDraught_1 ++ []
def dkwX3_setDraught_0 : List UInt8 := [42, 3, 181, 0, 32, 42, 27, 182, 0, 150, 153, 0, 9, 42, 4, 182, 0, 42, 172, 42, 182, 0, 76, 42]
abbrev dktX3_setDraught_0 : List UInt8 := dkwX3_setDraught_0 ++ dktX3_setDraught_1
theorem dksX3_setDraught_0 : cX3_setDraught.data.toList.drop 0 = dktX3_setDraught_0 := by decide +kernel
theorem dksX3_setDraught_1 : cX3_setDraught.data.toList.drop 24 = dktX3_setDraught_1 := dk_seg dksX3_setDraught_0 24 rfl rfl
theorem dX3_setDraught_0 : decode cX3_setDraught 0 = .ok (.aload_n 0, 1) := dk_42 (dk_at dksX3_setDraught_0 0 rfl rfl)
theorem dX3_setDraught_1 : decode cX3_setDraught 1 = .ok (.iconst 0, 1) := dk_3 (dk_at dksX3_setDraught_0 1 rfl rfl)
theorem dX3_setDraught_2 : decode cX3_setDraught 2 = .ok (.putfield 32, 3) := dk_181 0 32 (dk_at dksX3_setDraught_0 2 rfl rfl)
theorem dX3_setDraught_5 : decode cX3_setDraught 5 = .ok (.aload_n 0, 1) := dk_42 (dk_at dksX3_setDraught_0 5 rfl rfl)
theorem dX3_setDraught_6 : decode cX3_setDraught 6 = .ok (.iload_n 1, 1) := dk_27 (dk_at dksX3_setDraught_0 6 rfl rfl)
theorem dX3_setDraught_7 : decode cX3_setDraught 7 = .ok (.invokevirtual 150, 3) := dk_182 0 150 (dk_at dksX3_setDraught_0 7 rfl rfl)
theorem dX3_setDraught_10 : decode cX3_setDraught 10 = .ok (.ifCond .eq 9, 3) := dk_153 0 9 (dk_at dksX3_setDraught_0 10 rfl rfl)
theorem dX3_setDraught_13 : decode cX3_setDraught 13 = .ok (.aload_n 0, 1) := dk_42 (dk_at dksX3_setDraught_0 13 rfl rfl)
theorem dX3_setDraught_14 : decode cX3_setDraught 14 = .ok (.iconst 1, 1) := dk_4 (dk_at dksX3_setDraught_0 14 rfl rfl)
theorem dX3_setDraught_15 : decode cX3_setDraught 15 = .ok (.invokevirtual 42, 3) := dk_182 0 42 (dk_at dksX3_setDraught_0 15 rfl rfl)
theorem dX3_setDraught_18 : decode cX3_setDraught 18 = .ok (.ireturn, 1) := dk_172 (dk_at dksX3_setDraught_0 18 rfl rfl)
theorem dX3_setDraught_19 : decode cX3_setDraught 19 = .ok (.aload_n 0, 1) := dk_42 (dk_at dksX3_setDraught_0 19 rfl rfl)
theorem dX3_setDraught_20 : decode cX3_setDraught 20 = .ok (.invokevirtual 76, 3) := dk_182 0 76 (dk_at dksX3_setDraught_0 20 rfl rfl)
theorem dX3_setDraught_23 : decode cX3_setDraught 23 = .ok (.aload_n 0, 1) := dk_42 (dk_at dksX3_setDraught_0 23 rfl rfl)
theorem dX3_setDraught_24 : decode cX3_setDraught 24 = .ok (.iload_n 1, 1) := dk_27 (dk_at dksX3_setDraught_1 0 rfl rfl)
theorem dX3_setDraught_25 : decode cX3_setDraught 25 = .ok (.invokevirtual 153, 3) := dk_182 0 153 (dk_at dksX3_setDraught_1 1 rfl rfl)
theorem dX3_setDraught_28 : decode cX3_setDraught 28 = .ok (.ireturn, 1) := dk_172 (dk_at dksX3_setDraught_1 4 rfl rfl)
abbrev cX3_notDraught : ByteArray := prog_31_method_50_code
def yX3_notDraught : MethodName := ⟨RX3, "notDraught", "(I)I"⟩
def dkwX3_notDraught_0 : List UInt8 := [42, 3, 181, 0, 46, 27, 3, 16, 9, 184, 0, 68, 153, 0, 7, 3, 167, 0, 4, 4, 172]
abbrev dktX3_notDraught_0 : List UInt8 := dkwX3_notDraught_0 ++ []
theorem dksX3_notDraught_0 : cX3_notDraught.data.toList.drop 0 = dktX3_notDraught_0 := by decide +kernel
theorem dX3_notDraught_0 : decode cX3_notDraught 0 = .ok (.aload_n 0, 1) := dk_42 (dk_at dksX3_notDraught_0 0 rfl rfl)
theorem dX3_notDraught_1 : decode cX3_notDraught 1 = .ok (.iconst 0, 1) := dk_3 (dk_at dksX3_notDraught_0 1 rfl rfl)
theorem dX3_notDraught_2 : decode cX3_notDraught 2 = .ok (.putfield 46, 3) := dk_181 0 46 (dk_at dksX3_notDraught_0 2 rfl rfl)
theorem dX3_notDraught_5 : decode cX3_notDraught 5 = .ok (.iload_n 1, 1) := dk_27 (dk_at dksX3_notDraught_0 5 rfl rfl)
theorem dX3_notDraught_6 : decode cX3_notDraught 6 = .ok (.iconst 0, 1) := dk_3 (dk_at dksX3_notDraught_0 6 rfl rfl)
theorem dX3_notDraught_7 : decode cX3_notDraught 7 = .ok (.bipush 9, 2) := dk_16 9 (dk_at dksX3_notDraught_0 7 rfl rfl)
theorem dX3_notDraught_9 : decode cX3_notDraught 9 = .ok (.invokestatic 68, 3) := dk_184 0 68 (dk_at dksX3_notDraught_0 9 rfl rfl)
theorem dX3_notDraught_12 : decode cX3_notDraught 12 = .ok (.ifCond .eq 7, 3) := dk_153 0 7 (dk_at dksX3_notDraught_0 12 rfl rfl)
theorem dX3_notDraught_15 : decode cX3_notDraught 15 = .ok (.iconst 0, 1) := dk_3 (dk_at dksX3_notDraught_0 15 rfl rfl)
theorem dX3_notDraught_16 : decode cX3_notDraught 16 = .ok (.goto 4, 3) := dk_167 0 4 (dk_at dksX3_notDraught_0 16 rfl rfl)
theorem dX3_notDraught_19 : decode cX3_notDraught 19 = .ok (.iconst 1, 1) := dk_4 (dk_at dksX3_notDraught_0 19 rfl rfl)
theorem dX3_notDraught_20 : decode cX3_notDraught 20 = .ok (.ireturn, 1) := dk_172 (dk_at dksX3_notDraught_0 20 rfl rfl)
abbrev cX3_draws : ByteArray := prog_31_method_51_code
def yX3_draws : MethodName := ⟨RX3, "draws", "(I)I"⟩
def dkwX3_draws_0 : List UInt8 := [42, 180, 0, 7, 16, 8, 46, 61, 42, 180, 0, 7, 16, 8, 27, 79, 28, 172]
abbrev dktX3_draws_0 : List UInt8 := dkwX3_draws_0 ++ []
theorem dksX3_draws_0 : cX3_draws.data.toList.drop 0 = dktX3_draws_0 := by decide +kernel
theorem dX3_draws_0 : decode cX3_draws 0 = .ok (.aload_n 0, 1) := dk_42 (dk_at dksX3_draws_0 0 rfl rfl)
theorem dX3_draws_1 : decode cX3_draws 1 = .ok (.getfield 7, 3) := dk_180 0 7 (dk_at dksX3_draws_0 1 rfl rfl)
theorem dX3_draws_4 : decode cX3_draws 4 = .ok (.bipush 8, 2) := dk_16 8 (dk_at dksX3_draws_0 4 rfl rfl)
theorem dX3_draws_6 : decode cX3_draws 6 = .ok (.iaload, 1) := dk_46 (dk_at dksX3_draws_0 6 rfl rfl)
theorem dX3_draws_7 : decode cX3_draws 7 = .ok (.istore_n 2, 1) := dk_61 (dk_at dksX3_draws_0 7 rfl rfl)
theorem dX3_draws_8 : decode cX3_draws 8 = .ok (.aload_n 0, 1) := dk_42 (dk_at dksX3_draws_0 8 rfl rfl)
theorem dX3_draws_9 : decode cX3_draws 9 = .ok (.getfield 7, 3) := dk_180 0 7 (dk_at dksX3_draws_0 9 rfl rfl)
theorem dX3_draws_12 : decode cX3_draws 12 = .ok (.bipush 8, 2) := dk_16 8 (dk_at dksX3_draws_0 12 rfl rfl)
theorem dX3_draws_14 : decode cX3_draws 14 = .ok (.iload_n 1, 1) := dk_27 (dk_at dksX3_draws_0 14 rfl rfl)
theorem dX3_draws_15 : decode cX3_draws 15 = .ok (.iastore, 1) := dk_79 (dk_at dksX3_draws_0 15 rfl rfl)
theorem dX3_draws_16 : decode cX3_draws 16 = .ok (.iload_n 2, 1) := dk_28 (dk_at dksX3_draws_0 16 rfl rfl)
theorem dX3_draws_17 : decode cX3_draws 17 = .ok (.ireturn, 1) := dk_172 (dk_at dksX3_draws_0 17 rfl rfl)
abbrev cX3_sweep : ByteArray := prog_31_method_55_code
def yX3_sweep : MethodName := ⟨RX3, "sweep", "()I"⟩
def dkwX3_sweep_1 : List UInt8 := [42, 182, 0, 159, 172]
abbrev dktX3_sweep_1 : List UInt8 := dkwX3_sweep_1 ++ []
def dkwX3_sweep_0 : List UInt8 := [42, 3, 181, 0, 32, 42, 182, 0, 156, 60, 27, 153, 0, 9, 42, 27, 182, 0, 115, 172, 42, 182, 0, 76]
abbrev dktX3_sweep_0 : List UInt8 := dkwX3_sweep_0 ++ dktX3_sweep_1
theorem dksX3_sweep_0 : cX3_sweep.data.toList.drop 0 = dktX3_sweep_0 := by decide +kernel
theorem dksX3_sweep_1 : cX3_sweep.data.toList.drop 24 = dktX3_sweep_1 := dk_seg dksX3_sweep_0 24 rfl rfl
theorem dX3_sweep_0 : decode cX3_sweep 0 = .ok (.aload_n 0, 1) := dk_42 (dk_at dksX3_sweep_0 0 rfl rfl)
theorem dX3_sweep_1 : decode cX3_sweep 1 = .ok (.iconst 0, 1) := dk_3 (dk_at dksX3_sweep_0 1 rfl rfl)
theorem dX3_sweep_2 : decode cX3_sweep 2 = .ok (.putfield 32, 3) := dk_181 0 32 (dk_at dksX3_sweep_0 2 rfl rfl)
theorem dX3_sweep_5 : decode cX3_sweep 5 = .ok (.aload_n 0, 1) := dk_42 (dk_at dksX3_sweep_0 5 rfl rfl)
theorem dX3_sweep_6 : decode cX3_sweep 6 = .ok (.invokevirtual 156, 3) := dk_182 0 156 (dk_at dksX3_sweep_0 6 rfl rfl)
theorem dX3_sweep_9 : decode cX3_sweep 9 = .ok (.istore_n 1, 1) := dk_60 (dk_at dksX3_sweep_0 9 rfl rfl)
theorem dX3_sweep_10 : decode cX3_sweep 10 = .ok (.iload_n 1, 1) := dk_27 (dk_at dksX3_sweep_0 10 rfl rfl)
theorem dX3_sweep_11 : decode cX3_sweep 11 = .ok (.ifCond .eq 9, 3) := dk_153 0 9 (dk_at dksX3_sweep_0 11 rfl rfl)
theorem dX3_sweep_14 : decode cX3_sweep 14 = .ok (.aload_n 0, 1) := dk_42 (dk_at dksX3_sweep_0 14 rfl rfl)
theorem dX3_sweep_15 : decode cX3_sweep 15 = .ok (.iload_n 1, 1) := dk_27 (dk_at dksX3_sweep_0 15 rfl rfl)
theorem dX3_sweep_16 : decode cX3_sweep 16 = .ok (.invokevirtual 115, 3) := dk_182 0 115 (dk_at dksX3_sweep_0 16 rfl rfl)
theorem dX3_sweep_19 : decode cX3_sweep 19 = .ok (.ireturn, 1) := dk_172 (dk_at dksX3_sweep_0 19 rfl rfl)
theorem dX3_sweep_20 : decode cX3_sweep 20 = .ok (.aload_n 0, 1) := dk_42 (dk_at dksX3_sweep_0 20 rfl rfl)
theorem dX3_sweep_21 : decode cX3_sweep 21 = .ok (.invokevirtual 76, 3) := dk_182 0 76 (dk_at dksX3_sweep_0 21 rfl rfl)
theorem dX3_sweep_24 : decode cX3_sweep 24 = .ok (.aload_n 0, 1) := dk_42 (dk_at dksX3_sweep_1 0 rfl rfl)
theorem dX3_sweep_25 : decode cX3_sweep 25 = .ok (.invokevirtual 159, 3) := dk_182 0 159 (dk_at dksX3_sweep_1 1 rfl rfl)
theorem dX3_sweep_28 : decode cX3_sweep 28 = .ok (.ireturn, 1) := dk_172 (dk_at dksX3_sweep_1 4 rfl rfl)
abbrev cX3_notSweep : ByteArray := prog_31_method_53_code
def yX3_notSweep : MethodName := ⟨RX3, "notSweep", "()I"⟩
def dkwX3_notSweep_1 : List UInt8 := [167, 0, 4, 3, 172]
abbrev dktX3_notSweep_1 : List UInt8 := dkwX3_notSweep_1 ++ []
def dkwX3_notSweep_0 : List UInt8 := [42, 3, 181, 0, 46, 42, 180, 0, 7, 16, 7, 46, 154, 0, 13, 42, 4, 7, 3, 182, 0, 109]
abbrev dktX3_notSweep_0 : List UInt8 := dkwX3_notSweep_0 ++ dktX3_notSweep_1
theorem dksX3_notSweep_0 : cX3_notSweep.data.toList.drop 0 = dktX3_notSweep_0 := by decide +kernel
theorem dksX3_notSweep_1 : cX3_notSweep.data.toList.drop 22 = dktX3_notSweep_1 := dk_seg dksX3_notSweep_0 22 rfl rfl
theorem dX3_notSweep_0 : decode cX3_notSweep 0 = .ok (.aload_n 0, 1) := dk_42 (dk_at dksX3_notSweep_0 0 rfl rfl)
theorem dX3_notSweep_1 : decode cX3_notSweep 1 = .ok (.iconst 0, 1) := dk_3 (dk_at dksX3_notSweep_0 1 rfl rfl)
theorem dX3_notSweep_2 : decode cX3_notSweep 2 = .ok (.putfield 46, 3) := dk_181 0 46 (dk_at dksX3_notSweep_0 2 rfl rfl)
theorem dX3_notSweep_5 : decode cX3_notSweep 5 = .ok (.aload_n 0, 1) := dk_42 (dk_at dksX3_notSweep_0 5 rfl rfl)
theorem dX3_notSweep_6 : decode cX3_notSweep 6 = .ok (.getfield 7, 3) := dk_180 0 7 (dk_at dksX3_notSweep_0 6 rfl rfl)
theorem dX3_notSweep_9 : decode cX3_notSweep 9 = .ok (.bipush 7, 2) := dk_16 7 (dk_at dksX3_notSweep_0 9 rfl rfl)
theorem dX3_notSweep_11 : decode cX3_notSweep 11 = .ok (.iaload, 1) := dk_46 (dk_at dksX3_notSweep_0 11 rfl rfl)
theorem dX3_notSweep_12 : decode cX3_notSweep 12 = .ok (.ifCond .ne 13, 3) := dk_154 0 13 (dk_at dksX3_notSweep_0 12 rfl rfl)
theorem dX3_notSweep_15 : decode cX3_notSweep 15 = .ok (.aload_n 0, 1) := dk_42 (dk_at dksX3_notSweep_0 15 rfl rfl)
theorem dX3_notSweep_16 : decode cX3_notSweep 16 = .ok (.iconst 1, 1) := dk_4 (dk_at dksX3_notSweep_0 16 rfl rfl)
theorem dX3_notSweep_17 : decode cX3_notSweep 17 = .ok (.iconst 4, 1) := dk_7 (dk_at dksX3_notSweep_0 17 rfl rfl)
theorem dX3_notSweep_18 : decode cX3_notSweep 18 = .ok (.iconst 0, 1) := dk_3 (dk_at dksX3_notSweep_0 18 rfl rfl)
theorem dX3_notSweep_19 : decode cX3_notSweep 19 = .ok (.invokevirtual 109, 3) := dk_182 0 109 (dk_at dksX3_notSweep_0 19 rfl rfl)
theorem dX3_notSweep_22 : decode cX3_notSweep 22 = .ok (.goto 4, 3) := dk_167 0 4 (dk_at dksX3_notSweep_1 0 rfl rfl)
theorem dX3_notSweep_25 : decode cX3_notSweep 25 = .ok (.iconst 0, 1) := dk_3 (dk_at dksX3_notSweep_1 3 rfl rfl)
theorem dX3_notSweep_26 : decode cX3_notSweep 26 = .ok (.ireturn, 1) := dk_172 (dk_at dksX3_notSweep_1 4 rfl rfl)
abbrev cX3_sweeps : ByteArray := prog_31_method_54_code
def yX3_sweeps : MethodName := ⟨RX3, "sweeps", "()I"⟩
def dkwX3_sweeps_0 : List UInt8 := [42, 180, 0, 7, 16, 7, 46, 60, 42, 180, 0, 7, 16, 7, 3, 79, 27, 172]
abbrev dktX3_sweeps_0 : List UInt8 := dkwX3_sweeps_0 ++ []
theorem dksX3_sweeps_0 : cX3_sweeps.data.toList.drop 0 = dktX3_sweeps_0 := by decide +kernel
theorem dX3_sweeps_0 : decode cX3_sweeps 0 = .ok (.aload_n 0, 1) := dk_42 (dk_at dksX3_sweeps_0 0 rfl rfl)
theorem dX3_sweeps_1 : decode cX3_sweeps 1 = .ok (.getfield 7, 3) := dk_180 0 7 (dk_at dksX3_sweeps_0 1 rfl rfl)
theorem dX3_sweeps_4 : decode cX3_sweeps 4 = .ok (.bipush 7, 2) := dk_16 7 (dk_at dksX3_sweeps_0 4 rfl rfl)
theorem dX3_sweeps_6 : decode cX3_sweeps 6 = .ok (.iaload, 1) := dk_46 (dk_at dksX3_sweeps_0 6 rfl rfl)
theorem dX3_sweeps_7 : decode cX3_sweeps 7 = .ok (.istore_n 1, 1) := dk_60 (dk_at dksX3_sweeps_0 7 rfl rfl)
theorem dX3_sweeps_8 : decode cX3_sweeps 8 = .ok (.aload_n 0, 1) := dk_42 (dk_at dksX3_sweeps_0 8 rfl rfl)
theorem dX3_sweeps_9 : decode cX3_sweeps 9 = .ok (.getfield 7, 3) := dk_180 0 7 (dk_at dksX3_sweeps_0 9 rfl rfl)
theorem dX3_sweeps_12 : decode cX3_sweeps 12 = .ok (.bipush 7, 2) := dk_16 7 (dk_at dksX3_sweeps_0 12 rfl rfl)
theorem dX3_sweeps_14 : decode cX3_sweeps 14 = .ok (.iconst 0, 1) := dk_3 (dk_at dksX3_sweeps_0 14 rfl rfl)
theorem dX3_sweeps_15 : decode cX3_sweeps 15 = .ok (.iastore, 1) := dk_79 (dk_at dksX3_sweeps_0 15 rfl rfl)
theorem dX3_sweeps_16 : decode cX3_sweeps 16 = .ok (.iload_n 1, 1) := dk_27 (dk_at dksX3_sweeps_0 16 rfl rfl)
theorem dX3_sweeps_17 : decode cX3_sweeps 17 = .ok (.ireturn, 1) := dk_172 (dk_at dksX3_sweeps_0 17 rfl rfl)
abbrev cX3_pass : ByteArray := prog_31_method_65_code
def yX3_pass : MethodName := ⟨RX3, "pass", "(I)I"⟩
def dkwX3_pass_1 : List UInt8 := [27, 182, 0, 189, 172]
abbrev dktX3_pass_1 : List UInt8 := dkwX3_pass_1 ++ []
def dkwX3_pass_0 : List UInt8 := [42, 3, 181, 0, 32, 42, 27, 182, 0, 186, 153, 0, 9, 42, 4, 182, 0, 42, 172, 42, 182, 0, 76, 42]
abbrev dktX3_pass_0 : List UInt8 := dkwX3_pass_0 ++ dktX3_pass_1
theorem dksX3_pass_0 : cX3_pass.data.toList.drop 0 = dktX3_pass_0 := by decide +kernel
theorem dksX3_pass_1 : cX3_pass.data.toList.drop 24 = dktX3_pass_1 := dk_seg dksX3_pass_0 24 rfl rfl
theorem dX3_pass_0 : decode cX3_pass 0 = .ok (.aload_n 0, 1) := dk_42 (dk_at dksX3_pass_0 0 rfl rfl)
theorem dX3_pass_1 : decode cX3_pass 1 = .ok (.iconst 0, 1) := dk_3 (dk_at dksX3_pass_0 1 rfl rfl)
theorem dX3_pass_2 : decode cX3_pass 2 = .ok (.putfield 32, 3) := dk_181 0 32 (dk_at dksX3_pass_0 2 rfl rfl)
theorem dX3_pass_5 : decode cX3_pass 5 = .ok (.aload_n 0, 1) := dk_42 (dk_at dksX3_pass_0 5 rfl rfl)
theorem dX3_pass_6 : decode cX3_pass 6 = .ok (.iload_n 1, 1) := dk_27 (dk_at dksX3_pass_0 6 rfl rfl)
theorem dX3_pass_7 : decode cX3_pass 7 = .ok (.invokevirtual 186, 3) := dk_182 0 186 (dk_at dksX3_pass_0 7 rfl rfl)
theorem dX3_pass_10 : decode cX3_pass 10 = .ok (.ifCond .eq 9, 3) := dk_153 0 9 (dk_at dksX3_pass_0 10 rfl rfl)
theorem dX3_pass_13 : decode cX3_pass 13 = .ok (.aload_n 0, 1) := dk_42 (dk_at dksX3_pass_0 13 rfl rfl)
theorem dX3_pass_14 : decode cX3_pass 14 = .ok (.iconst 1, 1) := dk_4 (dk_at dksX3_pass_0 14 rfl rfl)
theorem dX3_pass_15 : decode cX3_pass 15 = .ok (.invokevirtual 42, 3) := dk_182 0 42 (dk_at dksX3_pass_0 15 rfl rfl)
theorem dX3_pass_18 : decode cX3_pass 18 = .ok (.ireturn, 1) := dk_172 (dk_at dksX3_pass_0 18 rfl rfl)
theorem dX3_pass_19 : decode cX3_pass 19 = .ok (.aload_n 0, 1) := dk_42 (dk_at dksX3_pass_0 19 rfl rfl)
theorem dX3_pass_20 : decode cX3_pass 20 = .ok (.invokevirtual 76, 3) := dk_182 0 76 (dk_at dksX3_pass_0 20 rfl rfl)
theorem dX3_pass_23 : decode cX3_pass 23 = .ok (.aload_n 0, 1) := dk_42 (dk_at dksX3_pass_0 23 rfl rfl)
theorem dX3_pass_24 : decode cX3_pass 24 = .ok (.iload_n 1, 1) := dk_27 (dk_at dksX3_pass_1 0 rfl rfl)
theorem dX3_pass_25 : decode cX3_pass 25 = .ok (.invokevirtual 189, 3) := dk_182 0 189 (dk_at dksX3_pass_1 1 rfl rfl)
theorem dX3_pass_28 : decode cX3_pass 28 = .ok (.ireturn, 1) := dk_172 (dk_at dksX3_pass_1 4 rfl rfl)
abbrev cX3_notPass : ByteArray := prog_31_method_63_code
def yX3_notPass : MethodName := ⟨RX3, "notPass", "(I)I"⟩
def dkwX3_notPass_0 : List UInt8 := [42, 3, 181, 0, 46, 27, 4, 16, 120, 184, 0, 68, 153, 0, 7, 3, 167, 0, 4, 4, 172]
abbrev dktX3_notPass_0 : List UInt8 := dkwX3_notPass_0 ++ []
theorem dksX3_notPass_0 : cX3_notPass.data.toList.drop 0 = dktX3_notPass_0 := by decide +kernel
theorem dX3_notPass_0 : decode cX3_notPass 0 = .ok (.aload_n 0, 1) := dk_42 (dk_at dksX3_notPass_0 0 rfl rfl)
theorem dX3_notPass_1 : decode cX3_notPass 1 = .ok (.iconst 0, 1) := dk_3 (dk_at dksX3_notPass_0 1 rfl rfl)
theorem dX3_notPass_2 : decode cX3_notPass 2 = .ok (.putfield 46, 3) := dk_181 0 46 (dk_at dksX3_notPass_0 2 rfl rfl)
theorem dX3_notPass_5 : decode cX3_notPass 5 = .ok (.iload_n 1, 1) := dk_27 (dk_at dksX3_notPass_0 5 rfl rfl)
theorem dX3_notPass_6 : decode cX3_notPass 6 = .ok (.iconst 1, 1) := dk_4 (dk_at dksX3_notPass_0 6 rfl rfl)
theorem dX3_notPass_7 : decode cX3_notPass 7 = .ok (.bipush 120, 2) := dk_16 120 (dk_at dksX3_notPass_0 7 rfl rfl)
theorem dX3_notPass_9 : decode cX3_notPass 9 = .ok (.invokestatic 68, 3) := dk_184 0 68 (dk_at dksX3_notPass_0 9 rfl rfl)
theorem dX3_notPass_12 : decode cX3_notPass 12 = .ok (.ifCond .eq 7, 3) := dk_153 0 7 (dk_at dksX3_notPass_0 12 rfl rfl)
theorem dX3_notPass_15 : decode cX3_notPass 15 = .ok (.iconst 0, 1) := dk_3 (dk_at dksX3_notPass_0 15 rfl rfl)
theorem dX3_notPass_16 : decode cX3_notPass 16 = .ok (.goto 4, 3) := dk_167 0 4 (dk_at dksX3_notPass_0 16 rfl rfl)
theorem dX3_notPass_19 : decode cX3_notPass 19 = .ok (.iconst 1, 1) := dk_4 (dk_at dksX3_notPass_0 19 rfl rfl)
theorem dX3_notPass_20 : decode cX3_notPass 20 = .ok (.ireturn, 1) := dk_172 (dk_at dksX3_notPass_0 20 rfl rfl)
abbrev cX3_passes : ByteArray := prog_31_method_64_code
def yX3_passes : MethodName := ⟨RX3, "passes", "(I)I"⟩
def dkwX3_passes_1 : List UInt8 := [167, 255, 244, 42, 180, 0, 7, 16, 9, 46, 28, 100, 172]
abbrev dktX3_passes_1 : List UInt8 := dkwX3_passes_1 ++ []
def dkwX3_passes_0 : List UInt8 := [42, 180, 0, 7, 16, 9, 46, 61, 3, 62, 29, 27, 162, 0, 13, 42, 182, 0, 183, 132, 3, 1]
abbrev dktX3_passes_0 : List UInt8 := dkwX3_passes_0 ++ dktX3_passes_1
theorem dksX3_passes_0 : cX3_passes.data.toList.drop 0 = dktX3_passes_0 := by decide +kernel
theorem dksX3_passes_1 : cX3_passes.data.toList.drop 22 = dktX3_passes_1 := dk_seg dksX3_passes_0 22 rfl rfl
theorem dX3_passes_0 : decode cX3_passes 0 = .ok (.aload_n 0, 1) := dk_42 (dk_at dksX3_passes_0 0 rfl rfl)
theorem dX3_passes_1 : decode cX3_passes 1 = .ok (.getfield 7, 3) := dk_180 0 7 (dk_at dksX3_passes_0 1 rfl rfl)
theorem dX3_passes_4 : decode cX3_passes 4 = .ok (.bipush 9, 2) := dk_16 9 (dk_at dksX3_passes_0 4 rfl rfl)
theorem dX3_passes_6 : decode cX3_passes 6 = .ok (.iaload, 1) := dk_46 (dk_at dksX3_passes_0 6 rfl rfl)
theorem dX3_passes_7 : decode cX3_passes 7 = .ok (.istore_n 2, 1) := dk_61 (dk_at dksX3_passes_0 7 rfl rfl)
theorem dX3_passes_8 : decode cX3_passes 8 = .ok (.iconst 0, 1) := dk_3 (dk_at dksX3_passes_0 8 rfl rfl)
theorem dX3_passes_9 : decode cX3_passes 9 = .ok (.istore_n 3, 1) := dk_62 (dk_at dksX3_passes_0 9 rfl rfl)
theorem dX3_passes_10 : decode cX3_passes 10 = .ok (.iload_n 3, 1) := dk_29 (dk_at dksX3_passes_0 10 rfl rfl)
theorem dX3_passes_11 : decode cX3_passes 11 = .ok (.iload_n 1, 1) := dk_27 (dk_at dksX3_passes_0 11 rfl rfl)
theorem dX3_passes_12 : decode cX3_passes 12 = .ok (.if_icmp .ge 13, 3) := dk_162 0 13 (dk_at dksX3_passes_0 12 rfl rfl)
theorem dX3_passes_15 : decode cX3_passes 15 = .ok (.aload_n 0, 1) := dk_42 (dk_at dksX3_passes_0 15 rfl rfl)
theorem dX3_passes_16 : decode cX3_passes 16 = .ok (.invokevirtual 183, 3) := dk_182 0 183 (dk_at dksX3_passes_0 16 rfl rfl)
theorem dX3_passes_19 : decode cX3_passes 19 = .ok (.iinc 3 1, 3) := dk_132 3 1 (dk_at dksX3_passes_0 19 rfl rfl)
theorem dX3_passes_22 : decode cX3_passes 22 = .ok (.goto (-12), 3) := dk_167 255 244 (dk_at dksX3_passes_1 0 rfl rfl)
theorem dX3_passes_25 : decode cX3_passes 25 = .ok (.aload_n 0, 1) := dk_42 (dk_at dksX3_passes_1 3 rfl rfl)
theorem dX3_passes_26 : decode cX3_passes 26 = .ok (.getfield 7, 3) := dk_180 0 7 (dk_at dksX3_passes_1 4 rfl rfl)
theorem dX3_passes_29 : decode cX3_passes 29 = .ok (.bipush 9, 2) := dk_16 9 (dk_at dksX3_passes_1 7 rfl rfl)
theorem dX3_passes_31 : decode cX3_passes 31 = .ok (.iaload, 1) := dk_46 (dk_at dksX3_passes_1 9 rfl rfl)
theorem dX3_passes_32 : decode cX3_passes 32 = .ok (.iload_n 2, 1) := dk_28 (dk_at dksX3_passes_1 10 rfl rfl)
theorem dX3_passes_33 : decode cX3_passes 33 = .ok (.isub, 1) := dk_100 (dk_at dksX3_passes_1 11 rfl rfl)
theorem dX3_passes_34 : decode cX3_passes 34 = .ok (.ireturn, 1) := dk_172 (dk_at dksX3_passes_1 12 rfl rfl)
abbrev cX3_goesMinute : ByteArray := prog_31_method_62_code
def yX3_goesMinute : MethodName := ⟨RX3, "goesMinute", "()V"⟩
def dkwX3_goesMinute_2 : List UInt8 := [27, 182, 0, 177, 132, 1, 1, 167, 255, 223, 42, 182, 0, 180, 177]
abbrev dktX3_goesMinute_2 : List UInt8 := dkwX3_goesMinute_2 ++ []
def dkwX3_goesMinute_1 : List UInt8 := [180, 0, 7, 5, 46, 162, 0, 29, 42, 27, 7, 182, 0, 79, 42, 180, 0, 7, 3, 46, 160, 0, 8, 42]
abbrev dktX3_goesMinute_1 : List UInt8 := dkwX3_goesMinute_1 ++ dktX3_goesMinute_2
def dkwX3_goesMinute_0 : List UInt8 := [42, 180, 0, 7, 3, 92, 46, 4, 96, 79, 42, 182, 0, 171, 42, 182, 0, 174, 3, 60, 27, 42]
abbrev dktX3_goesMinute_0 : List UInt8 := dkwX3_goesMinute_0 ++ dktX3_goesMinute_1
theorem dksX3_goesMinute_0 : cX3_goesMinute.data.toList.drop 0 = dktX3_goesMinute_0 := by decide +kernel
theorem dksX3_goesMinute_1 : cX3_goesMinute.data.toList.drop 22 = dktX3_goesMinute_1 := dk_seg dksX3_goesMinute_0 22 rfl rfl
theorem dksX3_goesMinute_2 : cX3_goesMinute.data.toList.drop 46 = dktX3_goesMinute_2 := dk_seg dksX3_goesMinute_1 24 rfl rfl
theorem dX3_goesMinute_0 : decode cX3_goesMinute 0 = .ok (.aload_n 0, 1) := dk_42 (dk_at dksX3_goesMinute_0 0 rfl rfl)
theorem dX3_goesMinute_1 : decode cX3_goesMinute 1 = .ok (.getfield 7, 3) := dk_180 0 7 (dk_at dksX3_goesMinute_0 1 rfl rfl)
theorem dX3_goesMinute_4 : decode cX3_goesMinute 4 = .ok (.iconst 0, 1) := dk_3 (dk_at dksX3_goesMinute_0 4 rfl rfl)
theorem dX3_goesMinute_5 : decode cX3_goesMinute 5 = .ok (.dup2, 1) := dk_92 (dk_at dksX3_goesMinute_0 5 rfl rfl)
theorem dX3_goesMinute_6 : decode cX3_goesMinute 6 = .ok (.iaload, 1) := dk_46 (dk_at dksX3_goesMinute_0 6 rfl rfl)
theorem dX3_goesMinute_7 : decode cX3_goesMinute 7 = .ok (.iconst 1, 1) := dk_4 (dk_at dksX3_goesMinute_0 7 rfl rfl)
theorem dX3_goesMinute_8 : decode cX3_goesMinute 8 = .ok (.iadd, 1) := dk_96 (dk_at dksX3_goesMinute_0 8 rfl rfl)
theorem dX3_goesMinute_9 : decode cX3_goesMinute 9 = .ok (.iastore, 1) := dk_79 (dk_at dksX3_goesMinute_0 9 rfl rfl)
theorem dX3_goesMinute_10 : decode cX3_goesMinute 10 = .ok (.aload_n 0, 1) := dk_42 (dk_at dksX3_goesMinute_0 10 rfl rfl)
theorem dX3_goesMinute_11 : decode cX3_goesMinute 11 = .ok (.invokevirtual 171, 3) := dk_182 0 171 (dk_at dksX3_goesMinute_0 11 rfl rfl)
theorem dX3_goesMinute_14 : decode cX3_goesMinute 14 = .ok (.aload_n 0, 1) := dk_42 (dk_at dksX3_goesMinute_0 14 rfl rfl)
theorem dX3_goesMinute_15 : decode cX3_goesMinute 15 = .ok (.invokevirtual 174, 3) := dk_182 0 174 (dk_at dksX3_goesMinute_0 15 rfl rfl)
theorem dX3_goesMinute_18 : decode cX3_goesMinute 18 = .ok (.iconst 0, 1) := dk_3 (dk_at dksX3_goesMinute_0 18 rfl rfl)
theorem dX3_goesMinute_19 : decode cX3_goesMinute 19 = .ok (.istore_n 1, 1) := dk_60 (dk_at dksX3_goesMinute_0 19 rfl rfl)
theorem dX3_goesMinute_20 : decode cX3_goesMinute 20 = .ok (.iload_n 1, 1) := dk_27 (dk_at dksX3_goesMinute_0 20 rfl rfl)
theorem dX3_goesMinute_21 : decode cX3_goesMinute 21 = .ok (.aload_n 0, 1) := dk_42 (dk_at dksX3_goesMinute_0 21 rfl rfl)
theorem dX3_goesMinute_22 : decode cX3_goesMinute 22 = .ok (.getfield 7, 3) := dk_180 0 7 (dk_at dksX3_goesMinute_1 0 rfl rfl)
theorem dX3_goesMinute_25 : decode cX3_goesMinute 25 = .ok (.iconst 2, 1) := dk_5 (dk_at dksX3_goesMinute_1 3 rfl rfl)
theorem dX3_goesMinute_26 : decode cX3_goesMinute 26 = .ok (.iaload, 1) := dk_46 (dk_at dksX3_goesMinute_1 4 rfl rfl)
theorem dX3_goesMinute_27 : decode cX3_goesMinute 27 = .ok (.if_icmp .ge 29, 3) := dk_162 0 29 (dk_at dksX3_goesMinute_1 5 rfl rfl)
theorem dX3_goesMinute_30 : decode cX3_goesMinute 30 = .ok (.aload_n 0, 1) := dk_42 (dk_at dksX3_goesMinute_1 8 rfl rfl)
theorem dX3_goesMinute_31 : decode cX3_goesMinute 31 = .ok (.iload_n 1, 1) := dk_27 (dk_at dksX3_goesMinute_1 9 rfl rfl)
theorem dX3_goesMinute_32 : decode cX3_goesMinute 32 = .ok (.iconst 4, 1) := dk_7 (dk_at dksX3_goesMinute_1 10 rfl rfl)
theorem dX3_goesMinute_33 : decode cX3_goesMinute 33 = .ok (.invokevirtual 79, 3) := dk_182 0 79 (dk_at dksX3_goesMinute_1 11 rfl rfl)
theorem dX3_goesMinute_36 : decode cX3_goesMinute 36 = .ok (.aload_n 0, 1) := dk_42 (dk_at dksX3_goesMinute_1 14 rfl rfl)
theorem dX3_goesMinute_37 : decode cX3_goesMinute 37 = .ok (.getfield 7, 3) := dk_180 0 7 (dk_at dksX3_goesMinute_1 15 rfl rfl)
theorem dX3_goesMinute_40 : decode cX3_goesMinute 40 = .ok (.iconst 0, 1) := dk_3 (dk_at dksX3_goesMinute_1 18 rfl rfl)
theorem dX3_goesMinute_41 : decode cX3_goesMinute 41 = .ok (.iaload, 1) := dk_46 (dk_at dksX3_goesMinute_1 19 rfl rfl)
theorem dX3_goesMinute_42 : decode cX3_goesMinute 42 = .ok (.if_icmp .ne 8, 3) := dk_160 0 8 (dk_at dksX3_goesMinute_1 20 rfl rfl)
theorem dX3_goesMinute_45 : decode cX3_goesMinute 45 = .ok (.aload_n 0, 1) := dk_42 (dk_at dksX3_goesMinute_1 23 rfl rfl)
theorem dX3_goesMinute_46 : decode cX3_goesMinute 46 = .ok (.iload_n 1, 1) := dk_27 (dk_at dksX3_goesMinute_2 0 rfl rfl)
theorem dX3_goesMinute_47 : decode cX3_goesMinute 47 = .ok (.invokevirtual 177, 3) := dk_182 0 177 (dk_at dksX3_goesMinute_2 1 rfl rfl)
theorem dX3_goesMinute_50 : decode cX3_goesMinute 50 = .ok (.iinc 1 1, 3) := dk_132 1 1 (dk_at dksX3_goesMinute_2 4 rfl rfl)
theorem dX3_goesMinute_53 : decode cX3_goesMinute 53 = .ok (.goto (-33), 3) := dk_167 255 223 (dk_at dksX3_goesMinute_2 7 rfl rfl)
theorem dX3_goesMinute_56 : decode cX3_goesMinute 56 = .ok (.aload_n 0, 1) := dk_42 (dk_at dksX3_goesMinute_2 10 rfl rfl)
theorem dX3_goesMinute_57 : decode cX3_goesMinute 57 = .ok (.invokevirtual 180, 3) := dk_182 0 180 (dk_at dksX3_goesMinute_2 11 rfl rfl)
theorem dX3_goesMinute_60 : decode cX3_goesMinute 60 = .ok (.return_, 1) := dk_177 (dk_at dksX3_goesMinute_2 14 rfl rfl)
abbrev cX3_breathes : ByteArray := prog_31_method_59_code
def yX3_breathes : MethodName := ⟨RX3, "breathes", "()V"⟩
def dkwX3_breathes_7 : List UInt8 := [180, 0, 7, 16, 6, 46, 42, 180, 0, 7, 16, 8, 46, 100, 79, 177]
abbrev dktX3_breathes_7 : List UInt8 := dkwX3_breathes_7 ++ []
def dkwX3_breathes_6 : List UInt8 := [16, 6, 42, 180, 0, 7, 16, 6, 46, 42, 180, 0, 7, 16, 8, 46, 162, 0, 7, 3, 167, 0, 18, 42]
abbrev dktX3_breathes_6 : List UInt8 := dkwX3_breathes_6 ++ dktX3_breathes_7
def dkwX3_breathes_5 : List UInt8 := [28, 104, 96, 4, 96, 46, 154, 0, 8, 42, 28, 182, 0, 124, 132, 2, 255, 167, 255, 211, 42, 180, 0, 7]
abbrev dktX3_breathes_5 : List UInt8 := dkwX3_breathes_5 ++ dktX3_breathes_6
def dkwX3_breathes_4 : List UInt8 := [42, 180, 0, 7, 16, 116, 5, 28, 104, 96, 4, 96, 92, 46, 4, 100, 79, 42, 180, 0, 7, 16, 116, 5]
abbrev dktX3_breathes_4 : List UInt8 := dkwX3_breathes_4 ++ dktX3_breathes_5
def dkwX3_breathes_3 : List UInt8 := [180, 0, 7, 16, 7, 46, 27, 8, 108, 96, 79, 42, 180, 0, 7, 7, 46, 4, 100, 61, 28, 155, 0, 47]
abbrev dktX3_breathes_3 : List UInt8 := dkwX3_breathes_3 ++ dktX3_breathes_4
def dkwX3_breathes_2 : List UInt8 := [16, 7, 42, 180, 0, 7, 16, 7, 46, 27, 8, 108, 96, 16, 99, 164, 0, 8, 16, 99, 167, 0, 14, 42]
abbrev dktX3_breathes_2 : List UInt8 := dkwX3_breathes_2 ++ dktX3_breathes_3
def dkwX3_breathes_1 : List UInt8 := [164, 0, 8, 16, 100, 167, 0, 14, 42, 180, 0, 7, 16, 6, 46, 27, 7, 108, 96, 79, 42, 180, 0, 7]
abbrev dktX3_breathes_1 : List UInt8 := dkwX3_breathes_1 ++ dktX3_breathes_2
def dkwX3_breathes_0 : List UInt8 := [42, 182, 0, 168, 60, 42, 180, 0, 7, 16, 6, 42, 180, 0, 7, 16, 6, 46, 27, 7, 108, 96, 16, 100]
abbrev dktX3_breathes_0 : List UInt8 := dkwX3_breathes_0 ++ dktX3_breathes_1
theorem dksX3_breathes_0 : cX3_breathes.data.toList.drop 0 = dktX3_breathes_0 := by decide +kernel
theorem dksX3_breathes_1 : cX3_breathes.data.toList.drop 24 = dktX3_breathes_1 := dk_seg dksX3_breathes_0 24 rfl rfl
theorem dksX3_breathes_2 : cX3_breathes.data.toList.drop 48 = dktX3_breathes_2 := dk_seg dksX3_breathes_1 24 rfl rfl
theorem dksX3_breathes_3 : cX3_breathes.data.toList.drop 72 = dktX3_breathes_3 := dk_seg dksX3_breathes_2 24 rfl rfl
theorem dksX3_breathes_4 : cX3_breathes.data.toList.drop 96 = dktX3_breathes_4 := dk_seg dksX3_breathes_3 24 rfl rfl
theorem dksX3_breathes_5 : cX3_breathes.data.toList.drop 120 = dktX3_breathes_5 := dk_seg dksX3_breathes_4 24 rfl rfl
theorem dksX3_breathes_6 : cX3_breathes.data.toList.drop 144 = dktX3_breathes_6 := dk_seg dksX3_breathes_5 24 rfl rfl
theorem dksX3_breathes_7 : cX3_breathes.data.toList.drop 168 = dktX3_breathes_7 := dk_seg dksX3_breathes_6 24 rfl rfl
theorem dX3_breathes_0 : decode cX3_breathes 0 = .ok (.aload_n 0, 1) := dk_42 (dk_at dksX3_breathes_0 0 rfl rfl)
theorem dX3_breathes_1 : decode cX3_breathes 1 = .ok (.invokevirtual 168, 3) := dk_182 0 168 (dk_at dksX3_breathes_0 1 rfl rfl)
theorem dX3_breathes_4 : decode cX3_breathes 4 = .ok (.istore_n 1, 1) := dk_60 (dk_at dksX3_breathes_0 4 rfl rfl)
theorem dX3_breathes_5 : decode cX3_breathes 5 = .ok (.aload_n 0, 1) := dk_42 (dk_at dksX3_breathes_0 5 rfl rfl)
theorem dX3_breathes_6 : decode cX3_breathes 6 = .ok (.getfield 7, 3) := dk_180 0 7 (dk_at dksX3_breathes_0 6 rfl rfl)
theorem dX3_breathes_9 : decode cX3_breathes 9 = .ok (.bipush 6, 2) := dk_16 6 (dk_at dksX3_breathes_0 9 rfl rfl)
theorem dX3_breathes_11 : decode cX3_breathes 11 = .ok (.aload_n 0, 1) := dk_42 (dk_at dksX3_breathes_0 11 rfl rfl)
theorem dX3_breathes_12 : decode cX3_breathes 12 = .ok (.getfield 7, 3) := dk_180 0 7 (dk_at dksX3_breathes_0 12 rfl rfl)
theorem dX3_breathes_15 : decode cX3_breathes 15 = .ok (.bipush 6, 2) := dk_16 6 (dk_at dksX3_breathes_0 15 rfl rfl)
theorem dX3_breathes_17 : decode cX3_breathes 17 = .ok (.iaload, 1) := dk_46 (dk_at dksX3_breathes_0 17 rfl rfl)
theorem dX3_breathes_18 : decode cX3_breathes 18 = .ok (.iload_n 1, 1) := dk_27 (dk_at dksX3_breathes_0 18 rfl rfl)
theorem dX3_breathes_19 : decode cX3_breathes 19 = .ok (.iconst 4, 1) := dk_7 (dk_at dksX3_breathes_0 19 rfl rfl)
theorem dX3_breathes_20 : decode cX3_breathes 20 = .ok (.idiv, 1) := dk_108 (dk_at dksX3_breathes_0 20 rfl rfl)
theorem dX3_breathes_21 : decode cX3_breathes 21 = .ok (.iadd, 1) := dk_96 (dk_at dksX3_breathes_0 21 rfl rfl)
theorem dX3_breathes_22 : decode cX3_breathes 22 = .ok (.bipush 100, 2) := dk_16 100 (dk_at dksX3_breathes_0 22 rfl rfl)
theorem dX3_breathes_24 : decode cX3_breathes 24 = .ok (.if_icmp .le 8, 3) := dk_164 0 8 (dk_at dksX3_breathes_1 0 rfl rfl)
theorem dX3_breathes_27 : decode cX3_breathes 27 = .ok (.bipush 100, 2) := dk_16 100 (dk_at dksX3_breathes_1 3 rfl rfl)
theorem dX3_breathes_29 : decode cX3_breathes 29 = .ok (.goto 14, 3) := dk_167 0 14 (dk_at dksX3_breathes_1 5 rfl rfl)
theorem dX3_breathes_32 : decode cX3_breathes 32 = .ok (.aload_n 0, 1) := dk_42 (dk_at dksX3_breathes_1 8 rfl rfl)
theorem dX3_breathes_33 : decode cX3_breathes 33 = .ok (.getfield 7, 3) := dk_180 0 7 (dk_at dksX3_breathes_1 9 rfl rfl)
theorem dX3_breathes_36 : decode cX3_breathes 36 = .ok (.bipush 6, 2) := dk_16 6 (dk_at dksX3_breathes_1 12 rfl rfl)
theorem dX3_breathes_38 : decode cX3_breathes 38 = .ok (.iaload, 1) := dk_46 (dk_at dksX3_breathes_1 14 rfl rfl)
theorem dX3_breathes_39 : decode cX3_breathes 39 = .ok (.iload_n 1, 1) := dk_27 (dk_at dksX3_breathes_1 15 rfl rfl)
theorem dX3_breathes_40 : decode cX3_breathes 40 = .ok (.iconst 4, 1) := dk_7 (dk_at dksX3_breathes_1 16 rfl rfl)
theorem dX3_breathes_41 : decode cX3_breathes 41 = .ok (.idiv, 1) := dk_108 (dk_at dksX3_breathes_1 17 rfl rfl)
theorem dX3_breathes_42 : decode cX3_breathes 42 = .ok (.iadd, 1) := dk_96 (dk_at dksX3_breathes_1 18 rfl rfl)
theorem dX3_breathes_43 : decode cX3_breathes 43 = .ok (.iastore, 1) := dk_79 (dk_at dksX3_breathes_1 19 rfl rfl)
theorem dX3_breathes_44 : decode cX3_breathes 44 = .ok (.aload_n 0, 1) := dk_42 (dk_at dksX3_breathes_1 20 rfl rfl)
theorem dX3_breathes_45 : decode cX3_breathes 45 = .ok (.getfield 7, 3) := dk_180 0 7 (dk_at dksX3_breathes_1 21 rfl rfl)
theorem dX3_breathes_48 : decode cX3_breathes 48 = .ok (.bipush 7, 2) := dk_16 7 (dk_at dksX3_breathes_2 0 rfl rfl)
theorem dX3_breathes_50 : decode cX3_breathes 50 = .ok (.aload_n 0, 1) := dk_42 (dk_at dksX3_breathes_2 2 rfl rfl)
theorem dX3_breathes_51 : decode cX3_breathes 51 = .ok (.getfield 7, 3) := dk_180 0 7 (dk_at dksX3_breathes_2 3 rfl rfl)
theorem dX3_breathes_54 : decode cX3_breathes 54 = .ok (.bipush 7, 2) := dk_16 7 (dk_at dksX3_breathes_2 6 rfl rfl)
theorem dX3_breathes_56 : decode cX3_breathes 56 = .ok (.iaload, 1) := dk_46 (dk_at dksX3_breathes_2 8 rfl rfl)
theorem dX3_breathes_57 : decode cX3_breathes 57 = .ok (.iload_n 1, 1) := dk_27 (dk_at dksX3_breathes_2 9 rfl rfl)
theorem dX3_breathes_58 : decode cX3_breathes 58 = .ok (.iconst 5, 1) := dk_8 (dk_at dksX3_breathes_2 10 rfl rfl)
theorem dX3_breathes_59 : decode cX3_breathes 59 = .ok (.idiv, 1) := dk_108 (dk_at dksX3_breathes_2 11 rfl rfl)
theorem dX3_breathes_60 : decode cX3_breathes 60 = .ok (.iadd, 1) := dk_96 (dk_at dksX3_breathes_2 12 rfl rfl)
theorem dX3_breathes_61 : decode cX3_breathes 61 = .ok (.bipush 99, 2) := dk_16 99 (dk_at dksX3_breathes_2 13 rfl rfl)
theorem dX3_breathes_63 : decode cX3_breathes 63 = .ok (.if_icmp .le 8, 3) := dk_164 0 8 (dk_at dksX3_breathes_2 15 rfl rfl)
theorem dX3_breathes_66 : decode cX3_breathes 66 = .ok (.bipush 99, 2) := dk_16 99 (dk_at dksX3_breathes_2 18 rfl rfl)
theorem dX3_breathes_68 : decode cX3_breathes 68 = .ok (.goto 14, 3) := dk_167 0 14 (dk_at dksX3_breathes_2 20 rfl rfl)
theorem dX3_breathes_71 : decode cX3_breathes 71 = .ok (.aload_n 0, 1) := dk_42 (dk_at dksX3_breathes_2 23 rfl rfl)
theorem dX3_breathes_72 : decode cX3_breathes 72 = .ok (.getfield 7, 3) := dk_180 0 7 (dk_at dksX3_breathes_3 0 rfl rfl)
theorem dX3_breathes_75 : decode cX3_breathes 75 = .ok (.bipush 7, 2) := dk_16 7 (dk_at dksX3_breathes_3 3 rfl rfl)
theorem dX3_breathes_77 : decode cX3_breathes 77 = .ok (.iaload, 1) := dk_46 (dk_at dksX3_breathes_3 5 rfl rfl)
theorem dX3_breathes_78 : decode cX3_breathes 78 = .ok (.iload_n 1, 1) := dk_27 (dk_at dksX3_breathes_3 6 rfl rfl)
theorem dX3_breathes_79 : decode cX3_breathes 79 = .ok (.iconst 5, 1) := dk_8 (dk_at dksX3_breathes_3 7 rfl rfl)
theorem dX3_breathes_80 : decode cX3_breathes 80 = .ok (.idiv, 1) := dk_108 (dk_at dksX3_breathes_3 8 rfl rfl)
theorem dX3_breathes_81 : decode cX3_breathes 81 = .ok (.iadd, 1) := dk_96 (dk_at dksX3_breathes_3 9 rfl rfl)
theorem dX3_breathes_82 : decode cX3_breathes 82 = .ok (.iastore, 1) := dk_79 (dk_at dksX3_breathes_3 10 rfl rfl)
theorem dX3_breathes_83 : decode cX3_breathes 83 = .ok (.aload_n 0, 1) := dk_42 (dk_at dksX3_breathes_3 11 rfl rfl)
theorem dX3_breathes_84 : decode cX3_breathes 84 = .ok (.getfield 7, 3) := dk_180 0 7 (dk_at dksX3_breathes_3 12 rfl rfl)
theorem dX3_breathes_87 : decode cX3_breathes 87 = .ok (.iconst 4, 1) := dk_7 (dk_at dksX3_breathes_3 15 rfl rfl)
theorem dX3_breathes_88 : decode cX3_breathes 88 = .ok (.iaload, 1) := dk_46 (dk_at dksX3_breathes_3 16 rfl rfl)
theorem dX3_breathes_89 : decode cX3_breathes 89 = .ok (.iconst 1, 1) := dk_4 (dk_at dksX3_breathes_3 17 rfl rfl)
theorem dX3_breathes_90 : decode cX3_breathes 90 = .ok (.isub, 1) := dk_100 (dk_at dksX3_breathes_3 18 rfl rfl)
theorem dX3_breathes_91 : decode cX3_breathes 91 = .ok (.istore_n 2, 1) := dk_61 (dk_at dksX3_breathes_3 19 rfl rfl)
theorem dX3_breathes_92 : decode cX3_breathes 92 = .ok (.iload_n 2, 1) := dk_28 (dk_at dksX3_breathes_3 20 rfl rfl)
theorem dX3_breathes_93 : decode cX3_breathes 93 = .ok (.ifCond .lt 47, 3) := dk_155 0 47 (dk_at dksX3_breathes_3 21 rfl rfl)
theorem dX3_breathes_96 : decode cX3_breathes 96 = .ok (.aload_n 0, 1) := dk_42 (dk_at dksX3_breathes_4 0 rfl rfl)
theorem dX3_breathes_97 : decode cX3_breathes 97 = .ok (.getfield 7, 3) := dk_180 0 7 (dk_at dksX3_breathes_4 1 rfl rfl)
theorem dX3_breathes_100 : decode cX3_breathes 100 = .ok (.bipush 116, 2) := dk_16 116 (dk_at dksX3_breathes_4 4 rfl rfl)
theorem dX3_breathes_102 : decode cX3_breathes 102 = .ok (.iconst 2, 1) := dk_5 (dk_at dksX3_breathes_4 6 rfl rfl)
theorem dX3_breathes_103 : decode cX3_breathes 103 = .ok (.iload_n 2, 1) := dk_28 (dk_at dksX3_breathes_4 7 rfl rfl)
theorem dX3_breathes_104 : decode cX3_breathes 104 = .ok (.imul, 1) := dk_104 (dk_at dksX3_breathes_4 8 rfl rfl)
theorem dX3_breathes_105 : decode cX3_breathes 105 = .ok (.iadd, 1) := dk_96 (dk_at dksX3_breathes_4 9 rfl rfl)
theorem dX3_breathes_106 : decode cX3_breathes 106 = .ok (.iconst 1, 1) := dk_4 (dk_at dksX3_breathes_4 10 rfl rfl)
theorem dX3_breathes_107 : decode cX3_breathes 107 = .ok (.iadd, 1) := dk_96 (dk_at dksX3_breathes_4 11 rfl rfl)
theorem dX3_breathes_108 : decode cX3_breathes 108 = .ok (.dup2, 1) := dk_92 (dk_at dksX3_breathes_4 12 rfl rfl)
theorem dX3_breathes_109 : decode cX3_breathes 109 = .ok (.iaload, 1) := dk_46 (dk_at dksX3_breathes_4 13 rfl rfl)
theorem dX3_breathes_110 : decode cX3_breathes 110 = .ok (.iconst 1, 1) := dk_4 (dk_at dksX3_breathes_4 14 rfl rfl)
theorem dX3_breathes_111 : decode cX3_breathes 111 = .ok (.isub, 1) := dk_100 (dk_at dksX3_breathes_4 15 rfl rfl)
theorem dX3_breathes_112 : decode cX3_breathes 112 = .ok (.iastore, 1) := dk_79 (dk_at dksX3_breathes_4 16 rfl rfl)
theorem dX3_breathes_113 : decode cX3_breathes 113 = .ok (.aload_n 0, 1) := dk_42 (dk_at dksX3_breathes_4 17 rfl rfl)
theorem dX3_breathes_114 : decode cX3_breathes 114 = .ok (.getfield 7, 3) := dk_180 0 7 (dk_at dksX3_breathes_4 18 rfl rfl)
theorem dX3_breathes_117 : decode cX3_breathes 117 = .ok (.bipush 116, 2) := dk_16 116 (dk_at dksX3_breathes_4 21 rfl rfl)
theorem dX3_breathes_119 : decode cX3_breathes 119 = .ok (.iconst 2, 1) := dk_5 (dk_at dksX3_breathes_4 23 rfl rfl)
theorem dX3_breathes_120 : decode cX3_breathes 120 = .ok (.iload_n 2, 1) := dk_28 (dk_at dksX3_breathes_5 0 rfl rfl)
theorem dX3_breathes_121 : decode cX3_breathes 121 = .ok (.imul, 1) := dk_104 (dk_at dksX3_breathes_5 1 rfl rfl)
theorem dX3_breathes_122 : decode cX3_breathes 122 = .ok (.iadd, 1) := dk_96 (dk_at dksX3_breathes_5 2 rfl rfl)
theorem dX3_breathes_123 : decode cX3_breathes 123 = .ok (.iconst 1, 1) := dk_4 (dk_at dksX3_breathes_5 3 rfl rfl)
theorem dX3_breathes_124 : decode cX3_breathes 124 = .ok (.iadd, 1) := dk_96 (dk_at dksX3_breathes_5 4 rfl rfl)
theorem dX3_breathes_125 : decode cX3_breathes 125 = .ok (.iaload, 1) := dk_46 (dk_at dksX3_breathes_5 5 rfl rfl)
theorem dX3_breathes_126 : decode cX3_breathes 126 = .ok (.ifCond .ne 8, 3) := dk_154 0 8 (dk_at dksX3_breathes_5 6 rfl rfl)
theorem dX3_breathes_129 : decode cX3_breathes 129 = .ok (.aload_n 0, 1) := dk_42 (dk_at dksX3_breathes_5 9 rfl rfl)
theorem dX3_breathes_130 : decode cX3_breathes 130 = .ok (.iload_n 2, 1) := dk_28 (dk_at dksX3_breathes_5 10 rfl rfl)
theorem dX3_breathes_131 : decode cX3_breathes 131 = .ok (.invokevirtual 124, 3) := dk_182 0 124 (dk_at dksX3_breathes_5 11 rfl rfl)
theorem dX3_breathes_134 : decode cX3_breathes 134 = .ok (.iinc 2 (-1), 3) := dk_132 2 255 (dk_at dksX3_breathes_5 14 rfl rfl)
theorem dX3_breathes_137 : decode cX3_breathes 137 = .ok (.goto (-45), 3) := dk_167 255 211 (dk_at dksX3_breathes_5 17 rfl rfl)
theorem dX3_breathes_140 : decode cX3_breathes 140 = .ok (.aload_n 0, 1) := dk_42 (dk_at dksX3_breathes_5 20 rfl rfl)
theorem dX3_breathes_141 : decode cX3_breathes 141 = .ok (.getfield 7, 3) := dk_180 0 7 (dk_at dksX3_breathes_5 21 rfl rfl)
theorem dX3_breathes_144 : decode cX3_breathes 144 = .ok (.bipush 6, 2) := dk_16 6 (dk_at dksX3_breathes_6 0 rfl rfl)
theorem dX3_breathes_146 : decode cX3_breathes 146 = .ok (.aload_n 0, 1) := dk_42 (dk_at dksX3_breathes_6 2 rfl rfl)
theorem dX3_breathes_147 : decode cX3_breathes 147 = .ok (.getfield 7, 3) := dk_180 0 7 (dk_at dksX3_breathes_6 3 rfl rfl)
theorem dX3_breathes_150 : decode cX3_breathes 150 = .ok (.bipush 6, 2) := dk_16 6 (dk_at dksX3_breathes_6 6 rfl rfl)
theorem dX3_breathes_152 : decode cX3_breathes 152 = .ok (.iaload, 1) := dk_46 (dk_at dksX3_breathes_6 8 rfl rfl)
theorem dX3_breathes_153 : decode cX3_breathes 153 = .ok (.aload_n 0, 1) := dk_42 (dk_at dksX3_breathes_6 9 rfl rfl)
theorem dX3_breathes_154 : decode cX3_breathes 154 = .ok (.getfield 7, 3) := dk_180 0 7 (dk_at dksX3_breathes_6 10 rfl rfl)
theorem dX3_breathes_157 : decode cX3_breathes 157 = .ok (.bipush 8, 2) := dk_16 8 (dk_at dksX3_breathes_6 13 rfl rfl)
theorem dX3_breathes_159 : decode cX3_breathes 159 = .ok (.iaload, 1) := dk_46 (dk_at dksX3_breathes_6 15 rfl rfl)
theorem dX3_breathes_160 : decode cX3_breathes 160 = .ok (.if_icmp .ge 7, 3) := dk_162 0 7 (dk_at dksX3_breathes_6 16 rfl rfl)
theorem dX3_breathes_163 : decode cX3_breathes 163 = .ok (.iconst 0, 1) := dk_3 (dk_at dksX3_breathes_6 19 rfl rfl)
theorem dX3_breathes_164 : decode cX3_breathes 164 = .ok (.goto 18, 3) := dk_167 0 18 (dk_at dksX3_breathes_6 20 rfl rfl)
theorem dX3_breathes_167 : decode cX3_breathes 167 = .ok (.aload_n 0, 1) := dk_42 (dk_at dksX3_breathes_6 23 rfl rfl)
theorem dX3_breathes_168 : decode cX3_breathes 168 = .ok (.getfield 7, 3) := dk_180 0 7 (dk_at dksX3_breathes_7 0 rfl rfl)
theorem dX3_breathes_171 : decode cX3_breathes 171 = .ok (.bipush 6, 2) := dk_16 6 (dk_at dksX3_breathes_7 3 rfl rfl)
theorem dX3_breathes_173 : decode cX3_breathes 173 = .ok (.iaload, 1) := dk_46 (dk_at dksX3_breathes_7 5 rfl rfl)
theorem dX3_breathes_174 : decode cX3_breathes 174 = .ok (.aload_n 0, 1) := dk_42 (dk_at dksX3_breathes_7 6 rfl rfl)
theorem dX3_breathes_175 : decode cX3_breathes 175 = .ok (.getfield 7, 3) := dk_180 0 7 (dk_at dksX3_breathes_7 7 rfl rfl)
theorem dX3_breathes_178 : decode cX3_breathes 178 = .ok (.bipush 8, 2) := dk_16 8 (dk_at dksX3_breathes_7 10 rfl rfl)
theorem dX3_breathes_180 : decode cX3_breathes 180 = .ok (.iaload, 1) := dk_46 (dk_at dksX3_breathes_7 12 rfl rfl)
theorem dX3_breathes_181 : decode cX3_breathes 181 = .ok (.isub, 1) := dk_100 (dk_at dksX3_breathes_7 13 rfl rfl)
theorem dX3_breathes_182 : decode cX3_breathes 182 = .ok (.iastore, 1) := dk_79 (dk_at dksX3_breathes_7 14 rfl rfl)
theorem dX3_breathes_183 : decode cX3_breathes 183 = .ok (.return_, 1) := dk_177 (dk_at dksX3_breathes_7 15 rfl rfl)
abbrev cX3_persons : ByteArray := prog_31_method_39_code
def yX3_persons : MethodName := ⟨RX3, "persons", "()I"⟩
def dkwX3_persons_1 : List UInt8 := [96, 46, 96, 60, 132, 2, 1, 167, 255, 229, 27, 172]
abbrev dktX3_persons_1 : List UInt8 := dkwX3_persons_1 ++ []
def dkwX3_persons_0 : List UInt8 := [3, 60, 3, 61, 28, 42, 180, 0, 7, 7, 46, 162, 0, 23, 27, 42, 180, 0, 7, 16, 116, 5, 28, 104]
abbrev dktX3_persons_0 : List UInt8 := dkwX3_persons_0 ++ dktX3_persons_1
theorem dksX3_persons_0 : cX3_persons.data.toList.drop 0 = dktX3_persons_0 := by decide +kernel
theorem dksX3_persons_1 : cX3_persons.data.toList.drop 24 = dktX3_persons_1 := dk_seg dksX3_persons_0 24 rfl rfl
theorem dX3_persons_0 : decode cX3_persons 0 = .ok (.iconst 0, 1) := dk_3 (dk_at dksX3_persons_0 0 rfl rfl)
theorem dX3_persons_1 : decode cX3_persons 1 = .ok (.istore_n 1, 1) := dk_60 (dk_at dksX3_persons_0 1 rfl rfl)
theorem dX3_persons_2 : decode cX3_persons 2 = .ok (.iconst 0, 1) := dk_3 (dk_at dksX3_persons_0 2 rfl rfl)
theorem dX3_persons_3 : decode cX3_persons 3 = .ok (.istore_n 2, 1) := dk_61 (dk_at dksX3_persons_0 3 rfl rfl)
theorem dX3_persons_4 : decode cX3_persons 4 = .ok (.iload_n 2, 1) := dk_28 (dk_at dksX3_persons_0 4 rfl rfl)
theorem dX3_persons_5 : decode cX3_persons 5 = .ok (.aload_n 0, 1) := dk_42 (dk_at dksX3_persons_0 5 rfl rfl)
theorem dX3_persons_6 : decode cX3_persons 6 = .ok (.getfield 7, 3) := dk_180 0 7 (dk_at dksX3_persons_0 6 rfl rfl)
theorem dX3_persons_9 : decode cX3_persons 9 = .ok (.iconst 4, 1) := dk_7 (dk_at dksX3_persons_0 9 rfl rfl)
theorem dX3_persons_10 : decode cX3_persons 10 = .ok (.iaload, 1) := dk_46 (dk_at dksX3_persons_0 10 rfl rfl)
theorem dX3_persons_11 : decode cX3_persons 11 = .ok (.if_icmp .ge 23, 3) := dk_162 0 23 (dk_at dksX3_persons_0 11 rfl rfl)
theorem dX3_persons_14 : decode cX3_persons 14 = .ok (.iload_n 1, 1) := dk_27 (dk_at dksX3_persons_0 14 rfl rfl)
theorem dX3_persons_15 : decode cX3_persons 15 = .ok (.aload_n 0, 1) := dk_42 (dk_at dksX3_persons_0 15 rfl rfl)
theorem dX3_persons_16 : decode cX3_persons 16 = .ok (.getfield 7, 3) := dk_180 0 7 (dk_at dksX3_persons_0 16 rfl rfl)
theorem dX3_persons_19 : decode cX3_persons 19 = .ok (.bipush 116, 2) := dk_16 116 (dk_at dksX3_persons_0 19 rfl rfl)
theorem dX3_persons_21 : decode cX3_persons 21 = .ok (.iconst 2, 1) := dk_5 (dk_at dksX3_persons_0 21 rfl rfl)
theorem dX3_persons_22 : decode cX3_persons 22 = .ok (.iload_n 2, 1) := dk_28 (dk_at dksX3_persons_0 22 rfl rfl)
theorem dX3_persons_23 : decode cX3_persons 23 = .ok (.imul, 1) := dk_104 (dk_at dksX3_persons_0 23 rfl rfl)
theorem dX3_persons_24 : decode cX3_persons 24 = .ok (.iadd, 1) := dk_96 (dk_at dksX3_persons_1 0 rfl rfl)
theorem dX3_persons_25 : decode cX3_persons 25 = .ok (.iaload, 1) := dk_46 (dk_at dksX3_persons_1 1 rfl rfl)
theorem dX3_persons_26 : decode cX3_persons 26 = .ok (.iadd, 1) := dk_96 (dk_at dksX3_persons_1 2 rfl rfl)
theorem dX3_persons_27 : decode cX3_persons 27 = .ok (.istore_n 1, 1) := dk_60 (dk_at dksX3_persons_1 3 rfl rfl)
theorem dX3_persons_28 : decode cX3_persons 28 = .ok (.iinc 2 1, 3) := dk_132 2 1 (dk_at dksX3_persons_1 4 rfl rfl)
theorem dX3_persons_31 : decode cX3_persons 31 = .ok (.goto (-27), 3) := dk_167 255 229 (dk_at dksX3_persons_1 7 rfl rfl)
theorem dX3_persons_34 : decode cX3_persons 34 = .ok (.iload_n 1, 1) := dk_27 (dk_at dksX3_persons_1 10 rfl rfl)
theorem dX3_persons_35 : decode cX3_persons 35 = .ok (.ireturn, 1) := dk_172 (dk_at dksX3_persons_1 11 rfl rfl)
abbrev cX3_dries : ByteArray := prog_31_method_60_code
def yX3_dries : MethodName := ⟨RX3, "dries", "()V"⟩
def dkwX3_dries_5 : List UInt8 := [132, 1, 1, 167, 255, 214, 177]
abbrev dktX3_dries_5 : List UInt8 := dkwX3_dries_5 ++ []
def dkwX3_dries_4 : List UInt8 := [5, 27, 104, 96, 4, 96, 92, 46, 42, 27, 182, 0, 128, 158, 0, 7, 4, 167, 0, 4, 3, 100, 79]
abbrev dktX3_dries_4 : List UInt8 := dkwX3_dries_4 ++ dktX3_dries_5
def dkwX3_dries_3 : List UInt8 := [132, 1, 1, 167, 255, 185, 3, 60, 27, 42, 180, 0, 7, 6, 46, 162, 0, 38, 42, 180, 0, 7, 16, 124]
abbrev dktX3_dries_3 : List UInt8 := dkwX3_dries_3 ++ dktX3_dries_4
def dkwX3_dries_2 : List UInt8 := [182, 0, 72, 158, 0, 21, 42, 28, 4, 2, 182, 0, 89, 42, 180, 0, 7, 16, 11, 92, 46, 4, 96, 79]
abbrev dktX3_dries_2 : List UInt8 := dkwX3_dries_2 ++ dktX3_dries_3
def dkwX3_dries_1 : List UInt8 := [42, 27, 182, 0, 128, 158, 0, 41, 42, 180, 0, 7, 3, 46, 8, 112, 154, 0, 30, 42, 28, 4]
abbrev dktX3_dries_1 : List UInt8 := dkwX3_dries_1 ++ dktX3_dries_2
def dkwX3_dries_0 : List UInt8 := [3, 60, 27, 42, 180, 0, 7, 6, 46, 162, 0, 67, 42, 180, 0, 7, 16, 124, 5, 27, 104, 96, 46, 61]
abbrev dktX3_dries_0 : List UInt8 := dkwX3_dries_0 ++ dktX3_dries_1
theorem dksX3_dries_0 : cX3_dries.data.toList.drop 0 = dktX3_dries_0 := by decide +kernel
theorem dksX3_dries_1 : cX3_dries.data.toList.drop 24 = dktX3_dries_1 := dk_seg dksX3_dries_0 24 rfl rfl
theorem dksX3_dries_2 : cX3_dries.data.toList.drop 46 = dktX3_dries_2 := dk_seg dksX3_dries_1 22 rfl rfl
theorem dksX3_dries_3 : cX3_dries.data.toList.drop 70 = dktX3_dries_3 := dk_seg dksX3_dries_2 24 rfl rfl
theorem dksX3_dries_4 : cX3_dries.data.toList.drop 94 = dktX3_dries_4 := dk_seg dksX3_dries_3 24 rfl rfl
theorem dksX3_dries_5 : cX3_dries.data.toList.drop 117 = dktX3_dries_5 := dk_seg dksX3_dries_4 23 rfl rfl
theorem dX3_dries_0 : decode cX3_dries 0 = .ok (.iconst 0, 1) := dk_3 (dk_at dksX3_dries_0 0 rfl rfl)
theorem dX3_dries_1 : decode cX3_dries 1 = .ok (.istore_n 1, 1) := dk_60 (dk_at dksX3_dries_0 1 rfl rfl)
theorem dX3_dries_2 : decode cX3_dries 2 = .ok (.iload_n 1, 1) := dk_27 (dk_at dksX3_dries_0 2 rfl rfl)
theorem dX3_dries_3 : decode cX3_dries 3 = .ok (.aload_n 0, 1) := dk_42 (dk_at dksX3_dries_0 3 rfl rfl)
theorem dX3_dries_4 : decode cX3_dries 4 = .ok (.getfield 7, 3) := dk_180 0 7 (dk_at dksX3_dries_0 4 rfl rfl)
theorem dX3_dries_7 : decode cX3_dries 7 = .ok (.iconst 3, 1) := dk_6 (dk_at dksX3_dries_0 7 rfl rfl)
theorem dX3_dries_8 : decode cX3_dries 8 = .ok (.iaload, 1) := dk_46 (dk_at dksX3_dries_0 8 rfl rfl)
theorem dX3_dries_9 : decode cX3_dries 9 = .ok (.if_icmp .ge 67, 3) := dk_162 0 67 (dk_at dksX3_dries_0 9 rfl rfl)
theorem dX3_dries_12 : decode cX3_dries 12 = .ok (.aload_n 0, 1) := dk_42 (dk_at dksX3_dries_0 12 rfl rfl)
theorem dX3_dries_13 : decode cX3_dries 13 = .ok (.getfield 7, 3) := dk_180 0 7 (dk_at dksX3_dries_0 13 rfl rfl)
theorem dX3_dries_16 : decode cX3_dries 16 = .ok (.bipush 124, 2) := dk_16 124 (dk_at dksX3_dries_0 16 rfl rfl)
theorem dX3_dries_18 : decode cX3_dries 18 = .ok (.iconst 2, 1) := dk_5 (dk_at dksX3_dries_0 18 rfl rfl)
theorem dX3_dries_19 : decode cX3_dries 19 = .ok (.iload_n 1, 1) := dk_27 (dk_at dksX3_dries_0 19 rfl rfl)
theorem dX3_dries_20 : decode cX3_dries 20 = .ok (.imul, 1) := dk_104 (dk_at dksX3_dries_0 20 rfl rfl)
theorem dX3_dries_21 : decode cX3_dries 21 = .ok (.iadd, 1) := dk_96 (dk_at dksX3_dries_0 21 rfl rfl)
theorem dX3_dries_22 : decode cX3_dries 22 = .ok (.iaload, 1) := dk_46 (dk_at dksX3_dries_0 22 rfl rfl)
theorem dX3_dries_23 : decode cX3_dries 23 = .ok (.istore_n 2, 1) := dk_61 (dk_at dksX3_dries_0 23 rfl rfl)
theorem dX3_dries_24 : decode cX3_dries 24 = .ok (.aload_n 0, 1) := dk_42 (dk_at dksX3_dries_1 0 rfl rfl)
theorem dX3_dries_25 : decode cX3_dries 25 = .ok (.iload_n 1, 1) := dk_27 (dk_at dksX3_dries_1 1 rfl rfl)
theorem dX3_dries_26 : decode cX3_dries 26 = .ok (.invokevirtual 128, 3) := dk_182 0 128 (dk_at dksX3_dries_1 2 rfl rfl)
theorem dX3_dries_29 : decode cX3_dries 29 = .ok (.ifCond .le 41, 3) := dk_158 0 41 (dk_at dksX3_dries_1 5 rfl rfl)
theorem dX3_dries_32 : decode cX3_dries 32 = .ok (.aload_n 0, 1) := dk_42 (dk_at dksX3_dries_1 8 rfl rfl)
theorem dX3_dries_33 : decode cX3_dries 33 = .ok (.getfield 7, 3) := dk_180 0 7 (dk_at dksX3_dries_1 9 rfl rfl)
theorem dX3_dries_36 : decode cX3_dries 36 = .ok (.iconst 0, 1) := dk_3 (dk_at dksX3_dries_1 12 rfl rfl)
theorem dX3_dries_37 : decode cX3_dries 37 = .ok (.iaload, 1) := dk_46 (dk_at dksX3_dries_1 13 rfl rfl)
theorem dX3_dries_38 : decode cX3_dries 38 = .ok (.iconst 5, 1) := dk_8 (dk_at dksX3_dries_1 14 rfl rfl)
theorem dX3_dries_39 : decode cX3_dries 39 = .ok (.irem, 1) := dk_112 (dk_at dksX3_dries_1 15 rfl rfl)
theorem dX3_dries_40 : decode cX3_dries 40 = .ok (.ifCond .ne 30, 3) := dk_154 0 30 (dk_at dksX3_dries_1 16 rfl rfl)
theorem dX3_dries_43 : decode cX3_dries 43 = .ok (.aload_n 0, 1) := dk_42 (dk_at dksX3_dries_1 19 rfl rfl)
theorem dX3_dries_44 : decode cX3_dries 44 = .ok (.iload_n 2, 1) := dk_28 (dk_at dksX3_dries_1 20 rfl rfl)
theorem dX3_dries_45 : decode cX3_dries 45 = .ok (.iconst 1, 1) := dk_4 (dk_at dksX3_dries_1 21 rfl rfl)
theorem dX3_dries_46 : decode cX3_dries 46 = .ok (.invokevirtual 72, 3) := dk_182 0 72 (dk_at dksX3_dries_2 0 rfl rfl)
theorem dX3_dries_49 : decode cX3_dries 49 = .ok (.ifCond .le 21, 3) := dk_158 0 21 (dk_at dksX3_dries_2 3 rfl rfl)
theorem dX3_dries_52 : decode cX3_dries 52 = .ok (.aload_n 0, 1) := dk_42 (dk_at dksX3_dries_2 6 rfl rfl)
theorem dX3_dries_53 : decode cX3_dries 53 = .ok (.iload_n 2, 1) := dk_28 (dk_at dksX3_dries_2 7 rfl rfl)
theorem dX3_dries_54 : decode cX3_dries 54 = .ok (.iconst 1, 1) := dk_4 (dk_at dksX3_dries_2 8 rfl rfl)
theorem dX3_dries_55 : decode cX3_dries 55 = .ok (.iconst (-1), 1) := dk_2 (dk_at dksX3_dries_2 9 rfl rfl)
theorem dX3_dries_56 : decode cX3_dries 56 = .ok (.invokevirtual 89, 3) := dk_182 0 89 (dk_at dksX3_dries_2 10 rfl rfl)
theorem dX3_dries_59 : decode cX3_dries 59 = .ok (.aload_n 0, 1) := dk_42 (dk_at dksX3_dries_2 13 rfl rfl)
theorem dX3_dries_60 : decode cX3_dries 60 = .ok (.getfield 7, 3) := dk_180 0 7 (dk_at dksX3_dries_2 14 rfl rfl)
theorem dX3_dries_63 : decode cX3_dries 63 = .ok (.bipush 11, 2) := dk_16 11 (dk_at dksX3_dries_2 17 rfl rfl)
theorem dX3_dries_65 : decode cX3_dries 65 = .ok (.dup2, 1) := dk_92 (dk_at dksX3_dries_2 19 rfl rfl)
theorem dX3_dries_66 : decode cX3_dries 66 = .ok (.iaload, 1) := dk_46 (dk_at dksX3_dries_2 20 rfl rfl)
theorem dX3_dries_67 : decode cX3_dries 67 = .ok (.iconst 1, 1) := dk_4 (dk_at dksX3_dries_2 21 rfl rfl)
theorem dX3_dries_68 : decode cX3_dries 68 = .ok (.iadd, 1) := dk_96 (dk_at dksX3_dries_2 22 rfl rfl)
theorem dX3_dries_69 : decode cX3_dries 69 = .ok (.iastore, 1) := dk_79 (dk_at dksX3_dries_2 23 rfl rfl)
theorem dX3_dries_70 : decode cX3_dries 70 = .ok (.iinc 1 1, 3) := dk_132 1 1 (dk_at dksX3_dries_3 0 rfl rfl)
theorem dX3_dries_73 : decode cX3_dries 73 = .ok (.goto (-71), 3) := dk_167 255 185 (dk_at dksX3_dries_3 3 rfl rfl)
theorem dX3_dries_76 : decode cX3_dries 76 = .ok (.iconst 0, 1) := dk_3 (dk_at dksX3_dries_3 6 rfl rfl)
theorem dX3_dries_77 : decode cX3_dries 77 = .ok (.istore_n 1, 1) := dk_60 (dk_at dksX3_dries_3 7 rfl rfl)
theorem dX3_dries_78 : decode cX3_dries 78 = .ok (.iload_n 1, 1) := dk_27 (dk_at dksX3_dries_3 8 rfl rfl)
theorem dX3_dries_79 : decode cX3_dries 79 = .ok (.aload_n 0, 1) := dk_42 (dk_at dksX3_dries_3 9 rfl rfl)
theorem dX3_dries_80 : decode cX3_dries 80 = .ok (.getfield 7, 3) := dk_180 0 7 (dk_at dksX3_dries_3 10 rfl rfl)
theorem dX3_dries_83 : decode cX3_dries 83 = .ok (.iconst 3, 1) := dk_6 (dk_at dksX3_dries_3 13 rfl rfl)
theorem dX3_dries_84 : decode cX3_dries 84 = .ok (.iaload, 1) := dk_46 (dk_at dksX3_dries_3 14 rfl rfl)
theorem dX3_dries_85 : decode cX3_dries 85 = .ok (.if_icmp .ge 38, 3) := dk_162 0 38 (dk_at dksX3_dries_3 15 rfl rfl)
theorem dX3_dries_88 : decode cX3_dries 88 = .ok (.aload_n 0, 1) := dk_42 (dk_at dksX3_dries_3 18 rfl rfl)
theorem dX3_dries_89 : decode cX3_dries 89 = .ok (.getfield 7, 3) := dk_180 0 7 (dk_at dksX3_dries_3 19 rfl rfl)
theorem dX3_dries_92 : decode cX3_dries 92 = .ok (.bipush 124, 2) := dk_16 124 (dk_at dksX3_dries_3 22 rfl rfl)
theorem dX3_dries_94 : decode cX3_dries 94 = .ok (.iconst 2, 1) := dk_5 (dk_at dksX3_dries_4 0 rfl rfl)
theorem dX3_dries_95 : decode cX3_dries 95 = .ok (.iload_n 1, 1) := dk_27 (dk_at dksX3_dries_4 1 rfl rfl)
theorem dX3_dries_96 : decode cX3_dries 96 = .ok (.imul, 1) := dk_104 (dk_at dksX3_dries_4 2 rfl rfl)
theorem dX3_dries_97 : decode cX3_dries 97 = .ok (.iadd, 1) := dk_96 (dk_at dksX3_dries_4 3 rfl rfl)
theorem dX3_dries_98 : decode cX3_dries 98 = .ok (.iconst 1, 1) := dk_4 (dk_at dksX3_dries_4 4 rfl rfl)
theorem dX3_dries_99 : decode cX3_dries 99 = .ok (.iadd, 1) := dk_96 (dk_at dksX3_dries_4 5 rfl rfl)
theorem dX3_dries_100 : decode cX3_dries 100 = .ok (.dup2, 1) := dk_92 (dk_at dksX3_dries_4 6 rfl rfl)
theorem dX3_dries_101 : decode cX3_dries 101 = .ok (.iaload, 1) := dk_46 (dk_at dksX3_dries_4 7 rfl rfl)
theorem dX3_dries_102 : decode cX3_dries 102 = .ok (.aload_n 0, 1) := dk_42 (dk_at dksX3_dries_4 8 rfl rfl)
theorem dX3_dries_103 : decode cX3_dries 103 = .ok (.iload_n 1, 1) := dk_27 (dk_at dksX3_dries_4 9 rfl rfl)
theorem dX3_dries_104 : decode cX3_dries 104 = .ok (.invokevirtual 128, 3) := dk_182 0 128 (dk_at dksX3_dries_4 10 rfl rfl)
theorem dX3_dries_107 : decode cX3_dries 107 = .ok (.ifCond .le 7, 3) := dk_158 0 7 (dk_at dksX3_dries_4 13 rfl rfl)
theorem dX3_dries_110 : decode cX3_dries 110 = .ok (.iconst 1, 1) := dk_4 (dk_at dksX3_dries_4 16 rfl rfl)
theorem dX3_dries_111 : decode cX3_dries 111 = .ok (.goto 4, 3) := dk_167 0 4 (dk_at dksX3_dries_4 17 rfl rfl)
theorem dX3_dries_114 : decode cX3_dries 114 = .ok (.iconst 0, 1) := dk_3 (dk_at dksX3_dries_4 20 rfl rfl)
theorem dX3_dries_115 : decode cX3_dries 115 = .ok (.isub, 1) := dk_100 (dk_at dksX3_dries_4 21 rfl rfl)
theorem dX3_dries_116 : decode cX3_dries 116 = .ok (.iastore, 1) := dk_79 (dk_at dksX3_dries_4 22 rfl rfl)
theorem dX3_dries_117 : decode cX3_dries 117 = .ok (.iinc 1 1, 3) := dk_132 1 1 (dk_at dksX3_dries_5 0 rfl rfl)
theorem dX3_dries_120 : decode cX3_dries 120 = .ok (.goto (-42), 3) := dk_167 255 214 (dk_at dksX3_dries_5 3 rfl rfl)
theorem dX3_dries_123 : decode cX3_dries 123 = .ok (.return_, 1) := dk_177 (dk_at dksX3_dries_5 6 rfl rfl)
abbrev cX3_drips : ByteArray := prog_31_method_58_code
def yX3_drips : MethodName := ⟨RX3, "drips", "(I)V"⟩
def dkwX3_drips_7 : List UInt8 := [42, 27, 4, 182, 0, 79, 96, 5, 42, 27, 5, 182, 0, 79, 104, 96, 182, 0, 103, 177]
abbrev dktX3_drips_7 : List UInt8 := dkwX3_drips_7 ++ []
def dkwX3_drips_6 : List UInt8 := [16, 13, 92, 46, 29, 156, 0, 7, 4, 167, 0, 4, 3, 96, 79, 42, 27, 7, 42, 180, 0, 7, 3, 46]
abbrev dktX3_drips_6 : List UInt8 := dkwX3_drips_6 ++ dktX3_drips_7
def dkwX3_drips_5 : List UInt8 := [42, 180, 0, 7, 16, 12, 92, 46, 29, 158, 0, 7, 4, 167, 0, 4, 3, 96, 79, 42, 180, 0, 7]
abbrev dktX3_drips_5 : List UInt8 := dkwX3_drips_5 ++ dktX3_drips_6
def dkwX3_drips_4 : List UInt8 := [42, 180, 0, 7, 16, 16, 16, 10, 28, 104, 96, 6, 96, 42, 28, 182, 0, 162, 96, 92, 46, 29, 96, 79]
abbrev dktX3_drips_4 : List UInt8 := dkwX3_drips_4 ++ dktX3_drips_5
def dkwX3_drips_3 : List UInt8 := [182, 0, 89, 42, 180, 0, 7, 16, 10, 92, 46, 4, 96, 79, 42, 28, 182, 0, 165, 62, 29, 153, 0, 27]
abbrev dktX3_drips_3 : List UInt8 := dkwX3_drips_3 ++ dktX3_drips_4
def dkwX3_drips_2 : List UInt8 := [28, 3, 182, 0, 72, 162, 0, 13, 42, 28, 4, 4, 182, 0, 89, 167, 0, 22, 42, 28, 16, 9, 4]
abbrev dktX3_drips_2 : List UInt8 := dkwX3_drips_2 ++ dktX3_drips_3
def dkwX3_drips_1 : List UInt8 := [182, 0, 89, 42, 27, 6, 42, 27, 6, 182, 0, 79, 4, 96, 182, 0, 103, 42, 28, 4, 182, 0, 72, 42]
abbrev dktX3_drips_1 : List UInt8 := dkwX3_drips_1 ++ dktX3_drips_2
def dkwX3_drips_0 : List UInt8 := [42, 27, 3, 182, 0, 79, 61, 42, 180, 0, 7, 16, 9, 92, 46, 4, 96, 79, 42, 28, 16, 8, 4]
abbrev dktX3_drips_0 : List UInt8 := dkwX3_drips_0 ++ dktX3_drips_1
theorem dksX3_drips_0 : cX3_drips.data.toList.drop 0 = dktX3_drips_0 := by decide +kernel
theorem dksX3_drips_1 : cX3_drips.data.toList.drop 23 = dktX3_drips_1 := dk_seg dksX3_drips_0 23 rfl rfl
theorem dksX3_drips_2 : cX3_drips.data.toList.drop 47 = dktX3_drips_2 := dk_seg dksX3_drips_1 24 rfl rfl
theorem dksX3_drips_3 : cX3_drips.data.toList.drop 70 = dktX3_drips_3 := dk_seg dksX3_drips_2 23 rfl rfl
theorem dksX3_drips_4 : cX3_drips.data.toList.drop 94 = dktX3_drips_4 := dk_seg dksX3_drips_3 24 rfl rfl
theorem dksX3_drips_5 : cX3_drips.data.toList.drop 118 = dktX3_drips_5 := dk_seg dksX3_drips_4 24 rfl rfl
theorem dksX3_drips_6 : cX3_drips.data.toList.drop 141 = dktX3_drips_6 := dk_seg dksX3_drips_5 23 rfl rfl
theorem dksX3_drips_7 : cX3_drips.data.toList.drop 165 = dktX3_drips_7 := dk_seg dksX3_drips_6 24 rfl rfl
theorem dX3_drips_0 : decode cX3_drips 0 = .ok (.aload_n 0, 1) := dk_42 (dk_at dksX3_drips_0 0 rfl rfl)
theorem dX3_drips_1 : decode cX3_drips 1 = .ok (.iload_n 1, 1) := dk_27 (dk_at dksX3_drips_0 1 rfl rfl)
theorem dX3_drips_2 : decode cX3_drips 2 = .ok (.iconst 0, 1) := dk_3 (dk_at dksX3_drips_0 2 rfl rfl)
theorem dX3_drips_3 : decode cX3_drips 3 = .ok (.invokevirtual 79, 3) := dk_182 0 79 (dk_at dksX3_drips_0 3 rfl rfl)
theorem dX3_drips_6 : decode cX3_drips 6 = .ok (.istore_n 2, 1) := dk_61 (dk_at dksX3_drips_0 6 rfl rfl)
theorem dX3_drips_7 : decode cX3_drips 7 = .ok (.aload_n 0, 1) := dk_42 (dk_at dksX3_drips_0 7 rfl rfl)
theorem dX3_drips_8 : decode cX3_drips 8 = .ok (.getfield 7, 3) := dk_180 0 7 (dk_at dksX3_drips_0 8 rfl rfl)
theorem dX3_drips_11 : decode cX3_drips 11 = .ok (.bipush 9, 2) := dk_16 9 (dk_at dksX3_drips_0 11 rfl rfl)
theorem dX3_drips_13 : decode cX3_drips 13 = .ok (.dup2, 1) := dk_92 (dk_at dksX3_drips_0 13 rfl rfl)
theorem dX3_drips_14 : decode cX3_drips 14 = .ok (.iaload, 1) := dk_46 (dk_at dksX3_drips_0 14 rfl rfl)
theorem dX3_drips_15 : decode cX3_drips 15 = .ok (.iconst 1, 1) := dk_4 (dk_at dksX3_drips_0 15 rfl rfl)
theorem dX3_drips_16 : decode cX3_drips 16 = .ok (.iadd, 1) := dk_96 (dk_at dksX3_drips_0 16 rfl rfl)
theorem dX3_drips_17 : decode cX3_drips 17 = .ok (.iastore, 1) := dk_79 (dk_at dksX3_drips_0 17 rfl rfl)
theorem dX3_drips_18 : decode cX3_drips 18 = .ok (.aload_n 0, 1) := dk_42 (dk_at dksX3_drips_0 18 rfl rfl)
theorem dX3_drips_19 : decode cX3_drips 19 = .ok (.iload_n 2, 1) := dk_28 (dk_at dksX3_drips_0 19 rfl rfl)
theorem dX3_drips_20 : decode cX3_drips 20 = .ok (.bipush 8, 2) := dk_16 8 (dk_at dksX3_drips_0 20 rfl rfl)
theorem dX3_drips_22 : decode cX3_drips 22 = .ok (.iconst 1, 1) := dk_4 (dk_at dksX3_drips_0 22 rfl rfl)
theorem dX3_drips_23 : decode cX3_drips 23 = .ok (.invokevirtual 89, 3) := dk_182 0 89 (dk_at dksX3_drips_1 0 rfl rfl)
theorem dX3_drips_26 : decode cX3_drips 26 = .ok (.aload_n 0, 1) := dk_42 (dk_at dksX3_drips_1 3 rfl rfl)
theorem dX3_drips_27 : decode cX3_drips 27 = .ok (.iload_n 1, 1) := dk_27 (dk_at dksX3_drips_1 4 rfl rfl)
theorem dX3_drips_28 : decode cX3_drips 28 = .ok (.iconst 3, 1) := dk_6 (dk_at dksX3_drips_1 5 rfl rfl)
theorem dX3_drips_29 : decode cX3_drips 29 = .ok (.aload_n 0, 1) := dk_42 (dk_at dksX3_drips_1 6 rfl rfl)
theorem dX3_drips_30 : decode cX3_drips 30 = .ok (.iload_n 1, 1) := dk_27 (dk_at dksX3_drips_1 7 rfl rfl)
theorem dX3_drips_31 : decode cX3_drips 31 = .ok (.iconst 3, 1) := dk_6 (dk_at dksX3_drips_1 8 rfl rfl)
theorem dX3_drips_32 : decode cX3_drips 32 = .ok (.invokevirtual 79, 3) := dk_182 0 79 (dk_at dksX3_drips_1 9 rfl rfl)
theorem dX3_drips_35 : decode cX3_drips 35 = .ok (.iconst 1, 1) := dk_4 (dk_at dksX3_drips_1 12 rfl rfl)
theorem dX3_drips_36 : decode cX3_drips 36 = .ok (.iadd, 1) := dk_96 (dk_at dksX3_drips_1 13 rfl rfl)
theorem dX3_drips_37 : decode cX3_drips 37 = .ok (.invokevirtual 103, 3) := dk_182 0 103 (dk_at dksX3_drips_1 14 rfl rfl)
theorem dX3_drips_40 : decode cX3_drips 40 = .ok (.aload_n 0, 1) := dk_42 (dk_at dksX3_drips_1 17 rfl rfl)
theorem dX3_drips_41 : decode cX3_drips 41 = .ok (.iload_n 2, 1) := dk_28 (dk_at dksX3_drips_1 18 rfl rfl)
theorem dX3_drips_42 : decode cX3_drips 42 = .ok (.iconst 1, 1) := dk_4 (dk_at dksX3_drips_1 19 rfl rfl)
theorem dX3_drips_43 : decode cX3_drips 43 = .ok (.invokevirtual 72, 3) := dk_182 0 72 (dk_at dksX3_drips_1 20 rfl rfl)
theorem dX3_drips_46 : decode cX3_drips 46 = .ok (.aload_n 0, 1) := dk_42 (dk_at dksX3_drips_1 23 rfl rfl)
theorem dX3_drips_47 : decode cX3_drips 47 = .ok (.iload_n 2, 1) := dk_28 (dk_at dksX3_drips_2 0 rfl rfl)
theorem dX3_drips_48 : decode cX3_drips 48 = .ok (.iconst 0, 1) := dk_3 (dk_at dksX3_drips_2 1 rfl rfl)
theorem dX3_drips_49 : decode cX3_drips 49 = .ok (.invokevirtual 72, 3) := dk_182 0 72 (dk_at dksX3_drips_2 2 rfl rfl)
theorem dX3_drips_52 : decode cX3_drips 52 = .ok (.if_icmp .ge 13, 3) := dk_162 0 13 (dk_at dksX3_drips_2 5 rfl rfl)
theorem dX3_drips_55 : decode cX3_drips 55 = .ok (.aload_n 0, 1) := dk_42 (dk_at dksX3_drips_2 8 rfl rfl)
theorem dX3_drips_56 : decode cX3_drips 56 = .ok (.iload_n 2, 1) := dk_28 (dk_at dksX3_drips_2 9 rfl rfl)
theorem dX3_drips_57 : decode cX3_drips 57 = .ok (.iconst 1, 1) := dk_4 (dk_at dksX3_drips_2 10 rfl rfl)
theorem dX3_drips_58 : decode cX3_drips 58 = .ok (.iconst 1, 1) := dk_4 (dk_at dksX3_drips_2 11 rfl rfl)
theorem dX3_drips_59 : decode cX3_drips 59 = .ok (.invokevirtual 89, 3) := dk_182 0 89 (dk_at dksX3_drips_2 12 rfl rfl)
theorem dX3_drips_62 : decode cX3_drips 62 = .ok (.goto 22, 3) := dk_167 0 22 (dk_at dksX3_drips_2 15 rfl rfl)
theorem dX3_drips_65 : decode cX3_drips 65 = .ok (.aload_n 0, 1) := dk_42 (dk_at dksX3_drips_2 18 rfl rfl)
theorem dX3_drips_66 : decode cX3_drips 66 = .ok (.iload_n 2, 1) := dk_28 (dk_at dksX3_drips_2 19 rfl rfl)
theorem dX3_drips_67 : decode cX3_drips 67 = .ok (.bipush 9, 2) := dk_16 9 (dk_at dksX3_drips_2 20 rfl rfl)
theorem dX3_drips_69 : decode cX3_drips 69 = .ok (.iconst 1, 1) := dk_4 (dk_at dksX3_drips_2 22 rfl rfl)
theorem dX3_drips_70 : decode cX3_drips 70 = .ok (.invokevirtual 89, 3) := dk_182 0 89 (dk_at dksX3_drips_3 0 rfl rfl)
theorem dX3_drips_73 : decode cX3_drips 73 = .ok (.aload_n 0, 1) := dk_42 (dk_at dksX3_drips_3 3 rfl rfl)
theorem dX3_drips_74 : decode cX3_drips 74 = .ok (.getfield 7, 3) := dk_180 0 7 (dk_at dksX3_drips_3 4 rfl rfl)
theorem dX3_drips_77 : decode cX3_drips 77 = .ok (.bipush 10, 2) := dk_16 10 (dk_at dksX3_drips_3 7 rfl rfl)
theorem dX3_drips_79 : decode cX3_drips 79 = .ok (.dup2, 1) := dk_92 (dk_at dksX3_drips_3 9 rfl rfl)
theorem dX3_drips_80 : decode cX3_drips 80 = .ok (.iaload, 1) := dk_46 (dk_at dksX3_drips_3 10 rfl rfl)
theorem dX3_drips_81 : decode cX3_drips 81 = .ok (.iconst 1, 1) := dk_4 (dk_at dksX3_drips_3 11 rfl rfl)
theorem dX3_drips_82 : decode cX3_drips 82 = .ok (.iadd, 1) := dk_96 (dk_at dksX3_drips_3 12 rfl rfl)
theorem dX3_drips_83 : decode cX3_drips 83 = .ok (.iastore, 1) := dk_79 (dk_at dksX3_drips_3 13 rfl rfl)
theorem dX3_drips_84 : decode cX3_drips 84 = .ok (.aload_n 0, 1) := dk_42 (dk_at dksX3_drips_3 14 rfl rfl)
theorem dX3_drips_85 : decode cX3_drips 85 = .ok (.iload_n 2, 1) := dk_28 (dk_at dksX3_drips_3 15 rfl rfl)
theorem dX3_drips_86 : decode cX3_drips 86 = .ok (.invokevirtual 165, 3) := dk_182 0 165 (dk_at dksX3_drips_3 16 rfl rfl)
theorem dX3_drips_89 : decode cX3_drips 89 = .ok (.istore_n 3, 1) := dk_62 (dk_at dksX3_drips_3 19 rfl rfl)
theorem dX3_drips_90 : decode cX3_drips 90 = .ok (.iload_n 3, 1) := dk_29 (dk_at dksX3_drips_3 20 rfl rfl)
theorem dX3_drips_91 : decode cX3_drips 91 = .ok (.ifCond .eq 27, 3) := dk_153 0 27 (dk_at dksX3_drips_3 21 rfl rfl)
theorem dX3_drips_94 : decode cX3_drips 94 = .ok (.aload_n 0, 1) := dk_42 (dk_at dksX3_drips_4 0 rfl rfl)
theorem dX3_drips_95 : decode cX3_drips 95 = .ok (.getfield 7, 3) := dk_180 0 7 (dk_at dksX3_drips_4 1 rfl rfl)
theorem dX3_drips_98 : decode cX3_drips 98 = .ok (.bipush 16, 2) := dk_16 16 (dk_at dksX3_drips_4 4 rfl rfl)
theorem dX3_drips_100 : decode cX3_drips 100 = .ok (.bipush 10, 2) := dk_16 10 (dk_at dksX3_drips_4 6 rfl rfl)
theorem dX3_drips_102 : decode cX3_drips 102 = .ok (.iload_n 2, 1) := dk_28 (dk_at dksX3_drips_4 8 rfl rfl)
theorem dX3_drips_103 : decode cX3_drips 103 = .ok (.imul, 1) := dk_104 (dk_at dksX3_drips_4 9 rfl rfl)
theorem dX3_drips_104 : decode cX3_drips 104 = .ok (.iadd, 1) := dk_96 (dk_at dksX3_drips_4 10 rfl rfl)
theorem dX3_drips_105 : decode cX3_drips 105 = .ok (.iconst 3, 1) := dk_6 (dk_at dksX3_drips_4 11 rfl rfl)
theorem dX3_drips_106 : decode cX3_drips 106 = .ok (.iadd, 1) := dk_96 (dk_at dksX3_drips_4 12 rfl rfl)
theorem dX3_drips_107 : decode cX3_drips 107 = .ok (.aload_n 0, 1) := dk_42 (dk_at dksX3_drips_4 13 rfl rfl)
theorem dX3_drips_108 : decode cX3_drips 108 = .ok (.iload_n 2, 1) := dk_28 (dk_at dksX3_drips_4 14 rfl rfl)
theorem dX3_drips_109 : decode cX3_drips 109 = .ok (.invokevirtual 162, 3) := dk_182 0 162 (dk_at dksX3_drips_4 15 rfl rfl)
theorem dX3_drips_112 : decode cX3_drips 112 = .ok (.iadd, 1) := dk_96 (dk_at dksX3_drips_4 18 rfl rfl)
theorem dX3_drips_113 : decode cX3_drips 113 = .ok (.dup2, 1) := dk_92 (dk_at dksX3_drips_4 19 rfl rfl)
theorem dX3_drips_114 : decode cX3_drips 114 = .ok (.iaload, 1) := dk_46 (dk_at dksX3_drips_4 20 rfl rfl)
theorem dX3_drips_115 : decode cX3_drips 115 = .ok (.iload_n 3, 1) := dk_29 (dk_at dksX3_drips_4 21 rfl rfl)
theorem dX3_drips_116 : decode cX3_drips 116 = .ok (.iadd, 1) := dk_96 (dk_at dksX3_drips_4 22 rfl rfl)
theorem dX3_drips_117 : decode cX3_drips 117 = .ok (.iastore, 1) := dk_79 (dk_at dksX3_drips_4 23 rfl rfl)
theorem dX3_drips_118 : decode cX3_drips 118 = .ok (.aload_n 0, 1) := dk_42 (dk_at dksX3_drips_5 0 rfl rfl)
theorem dX3_drips_119 : decode cX3_drips 119 = .ok (.getfield 7, 3) := dk_180 0 7 (dk_at dksX3_drips_5 1 rfl rfl)
theorem dX3_drips_122 : decode cX3_drips 122 = .ok (.bipush 12, 2) := dk_16 12 (dk_at dksX3_drips_5 4 rfl rfl)
theorem dX3_drips_124 : decode cX3_drips 124 = .ok (.dup2, 1) := dk_92 (dk_at dksX3_drips_5 6 rfl rfl)
theorem dX3_drips_125 : decode cX3_drips 125 = .ok (.iaload, 1) := dk_46 (dk_at dksX3_drips_5 7 rfl rfl)
theorem dX3_drips_126 : decode cX3_drips 126 = .ok (.iload_n 3, 1) := dk_29 (dk_at dksX3_drips_5 8 rfl rfl)
theorem dX3_drips_127 : decode cX3_drips 127 = .ok (.ifCond .le 7, 3) := dk_158 0 7 (dk_at dksX3_drips_5 9 rfl rfl)
theorem dX3_drips_130 : decode cX3_drips 130 = .ok (.iconst 1, 1) := dk_4 (dk_at dksX3_drips_5 12 rfl rfl)
theorem dX3_drips_131 : decode cX3_drips 131 = .ok (.goto 4, 3) := dk_167 0 4 (dk_at dksX3_drips_5 13 rfl rfl)
theorem dX3_drips_134 : decode cX3_drips 134 = .ok (.iconst 0, 1) := dk_3 (dk_at dksX3_drips_5 16 rfl rfl)
theorem dX3_drips_135 : decode cX3_drips 135 = .ok (.iadd, 1) := dk_96 (dk_at dksX3_drips_5 17 rfl rfl)
theorem dX3_drips_136 : decode cX3_drips 136 = .ok (.iastore, 1) := dk_79 (dk_at dksX3_drips_5 18 rfl rfl)
theorem dX3_drips_137 : decode cX3_drips 137 = .ok (.aload_n 0, 1) := dk_42 (dk_at dksX3_drips_5 19 rfl rfl)
theorem dX3_drips_138 : decode cX3_drips 138 = .ok (.getfield 7, 3) := dk_180 0 7 (dk_at dksX3_drips_5 20 rfl rfl)
theorem dX3_drips_141 : decode cX3_drips 141 = .ok (.bipush 13, 2) := dk_16 13 (dk_at dksX3_drips_6 0 rfl rfl)
theorem dX3_drips_143 : decode cX3_drips 143 = .ok (.dup2, 1) := dk_92 (dk_at dksX3_drips_6 2 rfl rfl)
theorem dX3_drips_144 : decode cX3_drips 144 = .ok (.iaload, 1) := dk_46 (dk_at dksX3_drips_6 3 rfl rfl)
theorem dX3_drips_145 : decode cX3_drips 145 = .ok (.iload_n 3, 1) := dk_29 (dk_at dksX3_drips_6 4 rfl rfl)
theorem dX3_drips_146 : decode cX3_drips 146 = .ok (.ifCond .ge 7, 3) := dk_156 0 7 (dk_at dksX3_drips_6 5 rfl rfl)
theorem dX3_drips_149 : decode cX3_drips 149 = .ok (.iconst 1, 1) := dk_4 (dk_at dksX3_drips_6 8 rfl rfl)
theorem dX3_drips_150 : decode cX3_drips 150 = .ok (.goto 4, 3) := dk_167 0 4 (dk_at dksX3_drips_6 9 rfl rfl)
theorem dX3_drips_153 : decode cX3_drips 153 = .ok (.iconst 0, 1) := dk_3 (dk_at dksX3_drips_6 12 rfl rfl)
theorem dX3_drips_154 : decode cX3_drips 154 = .ok (.iadd, 1) := dk_96 (dk_at dksX3_drips_6 13 rfl rfl)
theorem dX3_drips_155 : decode cX3_drips 155 = .ok (.iastore, 1) := dk_79 (dk_at dksX3_drips_6 14 rfl rfl)
theorem dX3_drips_156 : decode cX3_drips 156 = .ok (.aload_n 0, 1) := dk_42 (dk_at dksX3_drips_6 15 rfl rfl)
theorem dX3_drips_157 : decode cX3_drips 157 = .ok (.iload_n 1, 1) := dk_27 (dk_at dksX3_drips_6 16 rfl rfl)
theorem dX3_drips_158 : decode cX3_drips 158 = .ok (.iconst 4, 1) := dk_7 (dk_at dksX3_drips_6 17 rfl rfl)
theorem dX3_drips_159 : decode cX3_drips 159 = .ok (.aload_n 0, 1) := dk_42 (dk_at dksX3_drips_6 18 rfl rfl)
theorem dX3_drips_160 : decode cX3_drips 160 = .ok (.getfield 7, 3) := dk_180 0 7 (dk_at dksX3_drips_6 19 rfl rfl)
theorem dX3_drips_163 : decode cX3_drips 163 = .ok (.iconst 0, 1) := dk_3 (dk_at dksX3_drips_6 22 rfl rfl)
theorem dX3_drips_164 : decode cX3_drips 164 = .ok (.iaload, 1) := dk_46 (dk_at dksX3_drips_6 23 rfl rfl)
theorem dX3_drips_165 : decode cX3_drips 165 = .ok (.aload_n 0, 1) := dk_42 (dk_at dksX3_drips_7 0 rfl rfl)
theorem dX3_drips_166 : decode cX3_drips 166 = .ok (.iload_n 1, 1) := dk_27 (dk_at dksX3_drips_7 1 rfl rfl)
theorem dX3_drips_167 : decode cX3_drips 167 = .ok (.iconst 1, 1) := dk_4 (dk_at dksX3_drips_7 2 rfl rfl)
theorem dX3_drips_168 : decode cX3_drips 168 = .ok (.invokevirtual 79, 3) := dk_182 0 79 (dk_at dksX3_drips_7 3 rfl rfl)
theorem dX3_drips_171 : decode cX3_drips 171 = .ok (.iadd, 1) := dk_96 (dk_at dksX3_drips_7 6 rfl rfl)
theorem dX3_drips_172 : decode cX3_drips 172 = .ok (.iconst 2, 1) := dk_5 (dk_at dksX3_drips_7 7 rfl rfl)
theorem dX3_drips_173 : decode cX3_drips 173 = .ok (.aload_n 0, 1) := dk_42 (dk_at dksX3_drips_7 8 rfl rfl)
theorem dX3_drips_174 : decode cX3_drips 174 = .ok (.iload_n 1, 1) := dk_27 (dk_at dksX3_drips_7 9 rfl rfl)
theorem dX3_drips_175 : decode cX3_drips 175 = .ok (.iconst 2, 1) := dk_5 (dk_at dksX3_drips_7 10 rfl rfl)
theorem dX3_drips_176 : decode cX3_drips 176 = .ok (.invokevirtual 79, 3) := dk_182 0 79 (dk_at dksX3_drips_7 11 rfl rfl)
theorem dX3_drips_179 : decode cX3_drips 179 = .ok (.imul, 1) := dk_104 (dk_at dksX3_drips_7 14 rfl rfl)
theorem dX3_drips_180 : decode cX3_drips 180 = .ok (.iadd, 1) := dk_96 (dk_at dksX3_drips_7 15 rfl rfl)
theorem dX3_drips_181 : decode cX3_drips 181 = .ok (.invokevirtual 103, 3) := dk_182 0 103 (dk_at dksX3_drips_7 16 rfl rfl)
theorem dX3_drips_184 : decode cX3_drips 184 = .ok (.return_, 1) := dk_177 (dk_at dksX3_drips_7 19 rfl rfl)
abbrev cX3_changeOf : ByteArray := prog_31_method_57_code
def yX3_changeOf : MethodName := ⟨RX3, "changeOf", "(I)I"⟩
def dkwX3_changeOf_2 : List UInt8 := [164, 0, 7, 2, 167, 0, 4, 3, 172]
abbrev dktX3_changeOf_2 : List UInt8 := dkwX3_changeOf_2 ++ []
def dkwX3_changeOf_1 : List UInt8 := [42, 27, 28, 182, 0, 97, 16, 99, 162, 0, 7, 4, 167, 0, 4, 3, 172, 42, 27, 28, 182, 0, 97, 4]
abbrev dktX3_changeOf_1 : List UInt8 := dkwX3_changeOf_1 ++ dktX3_changeOf_2
def dkwX3_changeOf_0 : List UInt8 := [42, 27, 182, 0, 162, 61, 28, 156, 0, 5, 3, 172, 42, 180, 0, 7, 16, 6, 46, 16, 50, 162, 0, 20]
abbrev dktX3_changeOf_0 : List UInt8 := dkwX3_changeOf_0 ++ dktX3_changeOf_1
theorem dksX3_changeOf_0 : cX3_changeOf.data.toList.drop 0 = dktX3_changeOf_0 := by decide +kernel
theorem dksX3_changeOf_1 : cX3_changeOf.data.toList.drop 24 = dktX3_changeOf_1 := dk_seg dksX3_changeOf_0 24 rfl rfl
theorem dksX3_changeOf_2 : cX3_changeOf.data.toList.drop 48 = dktX3_changeOf_2 := dk_seg dksX3_changeOf_1 24 rfl rfl
theorem dX3_changeOf_0 : decode cX3_changeOf 0 = .ok (.aload_n 0, 1) := dk_42 (dk_at dksX3_changeOf_0 0 rfl rfl)
theorem dX3_changeOf_1 : decode cX3_changeOf 1 = .ok (.iload_n 1, 1) := dk_27 (dk_at dksX3_changeOf_0 1 rfl rfl)
theorem dX3_changeOf_2 : decode cX3_changeOf 2 = .ok (.invokevirtual 162, 3) := dk_182 0 162 (dk_at dksX3_changeOf_0 2 rfl rfl)
theorem dX3_changeOf_5 : decode cX3_changeOf 5 = .ok (.istore_n 2, 1) := dk_61 (dk_at dksX3_changeOf_0 5 rfl rfl)
theorem dX3_changeOf_6 : decode cX3_changeOf 6 = .ok (.iload_n 2, 1) := dk_28 (dk_at dksX3_changeOf_0 6 rfl rfl)
theorem dX3_changeOf_7 : decode cX3_changeOf 7 = .ok (.ifCond .ge 5, 3) := dk_156 0 5 (dk_at dksX3_changeOf_0 7 rfl rfl)
theorem dX3_changeOf_10 : decode cX3_changeOf 10 = .ok (.iconst 0, 1) := dk_3 (dk_at dksX3_changeOf_0 10 rfl rfl)
theorem dX3_changeOf_11 : decode cX3_changeOf 11 = .ok (.ireturn, 1) := dk_172 (dk_at dksX3_changeOf_0 11 rfl rfl)
theorem dX3_changeOf_12 : decode cX3_changeOf 12 = .ok (.aload_n 0, 1) := dk_42 (dk_at dksX3_changeOf_0 12 rfl rfl)
theorem dX3_changeOf_13 : decode cX3_changeOf 13 = .ok (.getfield 7, 3) := dk_180 0 7 (dk_at dksX3_changeOf_0 13 rfl rfl)
theorem dX3_changeOf_16 : decode cX3_changeOf 16 = .ok (.bipush 6, 2) := dk_16 6 (dk_at dksX3_changeOf_0 16 rfl rfl)
theorem dX3_changeOf_18 : decode cX3_changeOf 18 = .ok (.iaload, 1) := dk_46 (dk_at dksX3_changeOf_0 18 rfl rfl)
theorem dX3_changeOf_19 : decode cX3_changeOf 19 = .ok (.bipush 50, 2) := dk_16 50 (dk_at dksX3_changeOf_0 19 rfl rfl)
theorem dX3_changeOf_21 : decode cX3_changeOf 21 = .ok (.if_icmp .ge 20, 3) := dk_162 0 20 (dk_at dksX3_changeOf_0 21 rfl rfl)
theorem dX3_changeOf_24 : decode cX3_changeOf 24 = .ok (.aload_n 0, 1) := dk_42 (dk_at dksX3_changeOf_1 0 rfl rfl)
theorem dX3_changeOf_25 : decode cX3_changeOf 25 = .ok (.iload_n 1, 1) := dk_27 (dk_at dksX3_changeOf_1 1 rfl rfl)
theorem dX3_changeOf_26 : decode cX3_changeOf 26 = .ok (.iload_n 2, 1) := dk_28 (dk_at dksX3_changeOf_1 2 rfl rfl)
theorem dX3_changeOf_27 : decode cX3_changeOf 27 = .ok (.invokevirtual 97, 3) := dk_182 0 97 (dk_at dksX3_changeOf_1 3 rfl rfl)
theorem dX3_changeOf_30 : decode cX3_changeOf 30 = .ok (.bipush 99, 2) := dk_16 99 (dk_at dksX3_changeOf_1 6 rfl rfl)
theorem dX3_changeOf_32 : decode cX3_changeOf 32 = .ok (.if_icmp .ge 7, 3) := dk_162 0 7 (dk_at dksX3_changeOf_1 8 rfl rfl)
theorem dX3_changeOf_35 : decode cX3_changeOf 35 = .ok (.iconst 1, 1) := dk_4 (dk_at dksX3_changeOf_1 11 rfl rfl)
theorem dX3_changeOf_36 : decode cX3_changeOf 36 = .ok (.goto 4, 3) := dk_167 0 4 (dk_at dksX3_changeOf_1 12 rfl rfl)
theorem dX3_changeOf_39 : decode cX3_changeOf 39 = .ok (.iconst 0, 1) := dk_3 (dk_at dksX3_changeOf_1 15 rfl rfl)
theorem dX3_changeOf_40 : decode cX3_changeOf 40 = .ok (.ireturn, 1) := dk_172 (dk_at dksX3_changeOf_1 16 rfl rfl)
theorem dX3_changeOf_41 : decode cX3_changeOf 41 = .ok (.aload_n 0, 1) := dk_42 (dk_at dksX3_changeOf_1 17 rfl rfl)
theorem dX3_changeOf_42 : decode cX3_changeOf 42 = .ok (.iload_n 1, 1) := dk_27 (dk_at dksX3_changeOf_1 18 rfl rfl)
theorem dX3_changeOf_43 : decode cX3_changeOf 43 = .ok (.iload_n 2, 1) := dk_28 (dk_at dksX3_changeOf_1 19 rfl rfl)
theorem dX3_changeOf_44 : decode cX3_changeOf 44 = .ok (.invokevirtual 97, 3) := dk_182 0 97 (dk_at dksX3_changeOf_1 20 rfl rfl)
theorem dX3_changeOf_47 : decode cX3_changeOf 47 = .ok (.iconst 1, 1) := dk_4 (dk_at dksX3_changeOf_1 23 rfl rfl)
theorem dX3_changeOf_48 : decode cX3_changeOf 48 = .ok (.if_icmp .le 7, 3) := dk_164 0 7 (dk_at dksX3_changeOf_2 0 rfl rfl)
theorem dX3_changeOf_51 : decode cX3_changeOf 51 = .ok (.iconst (-1), 1) := dk_2 (dk_at dksX3_changeOf_2 3 rfl rfl)
theorem dX3_changeOf_52 : decode cX3_changeOf 52 = .ok (.goto 4, 3) := dk_167 0 4 (dk_at dksX3_changeOf_2 4 rfl rfl)
theorem dX3_changeOf_55 : decode cX3_changeOf 55 = .ok (.iconst 0, 1) := dk_3 (dk_at dksX3_changeOf_2 7 rfl rfl)
theorem dX3_changeOf_56 : decode cX3_changeOf 56 = .ok (.ireturn, 1) := dk_172 (dk_at dksX3_changeOf_2 8 rfl rfl)
abbrev cX3_smallest : ByteArray := prog_31_method_56_code
def yX3_smallest : MethodName := ⟨RX3, "smallest", "(I)I"⟩
def dkwX3_smallest_1 : List UInt8 := [42, 27, 28, 182, 0, 97, 162, 0, 7, 29, 167, 0, 4, 28, 61, 132, 3, 1, 167, 255, 218, 28, 172]
abbrev dktX3_smallest_1 : List UInt8 := dkwX3_smallest_1 ++ []
def dkwX3_smallest_0 : List UInt8 := [2, 61, 3, 62, 29, 42, 27, 5, 182, 0, 72, 162, 0, 34, 28, 155, 0, 18, 42, 27, 29, 182, 0, 97]
abbrev dktX3_smallest_0 : List UInt8 := dkwX3_smallest_0 ++ dktX3_smallest_1
theorem dksX3_smallest_0 : cX3_smallest.data.toList.drop 0 = dktX3_smallest_0 := by decide +kernel
theorem dksX3_smallest_1 : cX3_smallest.data.toList.drop 24 = dktX3_smallest_1 := dk_seg dksX3_smallest_0 24 rfl rfl
theorem dX3_smallest_0 : decode cX3_smallest 0 = .ok (.iconst (-1), 1) := dk_2 (dk_at dksX3_smallest_0 0 rfl rfl)
theorem dX3_smallest_1 : decode cX3_smallest 1 = .ok (.istore_n 2, 1) := dk_61 (dk_at dksX3_smallest_0 1 rfl rfl)
theorem dX3_smallest_2 : decode cX3_smallest 2 = .ok (.iconst 0, 1) := dk_3 (dk_at dksX3_smallest_0 2 rfl rfl)
theorem dX3_smallest_3 : decode cX3_smallest 3 = .ok (.istore_n 3, 1) := dk_62 (dk_at dksX3_smallest_0 3 rfl rfl)
theorem dX3_smallest_4 : decode cX3_smallest 4 = .ok (.iload_n 3, 1) := dk_29 (dk_at dksX3_smallest_0 4 rfl rfl)
theorem dX3_smallest_5 : decode cX3_smallest 5 = .ok (.aload_n 0, 1) := dk_42 (dk_at dksX3_smallest_0 5 rfl rfl)
theorem dX3_smallest_6 : decode cX3_smallest 6 = .ok (.iload_n 1, 1) := dk_27 (dk_at dksX3_smallest_0 6 rfl rfl)
theorem dX3_smallest_7 : decode cX3_smallest 7 = .ok (.iconst 2, 1) := dk_5 (dk_at dksX3_smallest_0 7 rfl rfl)
theorem dX3_smallest_8 : decode cX3_smallest 8 = .ok (.invokevirtual 72, 3) := dk_182 0 72 (dk_at dksX3_smallest_0 8 rfl rfl)
theorem dX3_smallest_11 : decode cX3_smallest 11 = .ok (.if_icmp .ge 34, 3) := dk_162 0 34 (dk_at dksX3_smallest_0 11 rfl rfl)
theorem dX3_smallest_14 : decode cX3_smallest 14 = .ok (.iload_n 2, 1) := dk_28 (dk_at dksX3_smallest_0 14 rfl rfl)
theorem dX3_smallest_15 : decode cX3_smallest 15 = .ok (.ifCond .lt 18, 3) := dk_155 0 18 (dk_at dksX3_smallest_0 15 rfl rfl)
theorem dX3_smallest_18 : decode cX3_smallest 18 = .ok (.aload_n 0, 1) := dk_42 (dk_at dksX3_smallest_0 18 rfl rfl)
theorem dX3_smallest_19 : decode cX3_smallest 19 = .ok (.iload_n 1, 1) := dk_27 (dk_at dksX3_smallest_0 19 rfl rfl)
theorem dX3_smallest_20 : decode cX3_smallest 20 = .ok (.iload_n 3, 1) := dk_29 (dk_at dksX3_smallest_0 20 rfl rfl)
theorem dX3_smallest_21 : decode cX3_smallest 21 = .ok (.invokevirtual 97, 3) := dk_182 0 97 (dk_at dksX3_smallest_0 21 rfl rfl)
theorem dX3_smallest_24 : decode cX3_smallest 24 = .ok (.aload_n 0, 1) := dk_42 (dk_at dksX3_smallest_1 0 rfl rfl)
theorem dX3_smallest_25 : decode cX3_smallest 25 = .ok (.iload_n 1, 1) := dk_27 (dk_at dksX3_smallest_1 1 rfl rfl)
theorem dX3_smallest_26 : decode cX3_smallest 26 = .ok (.iload_n 2, 1) := dk_28 (dk_at dksX3_smallest_1 2 rfl rfl)
theorem dX3_smallest_27 : decode cX3_smallest 27 = .ok (.invokevirtual 97, 3) := dk_182 0 97 (dk_at dksX3_smallest_1 3 rfl rfl)
theorem dX3_smallest_30 : decode cX3_smallest 30 = .ok (.if_icmp .ge 7, 3) := dk_162 0 7 (dk_at dksX3_smallest_1 6 rfl rfl)
theorem dX3_smallest_33 : decode cX3_smallest 33 = .ok (.iload_n 3, 1) := dk_29 (dk_at dksX3_smallest_1 9 rfl rfl)
theorem dX3_smallest_34 : decode cX3_smallest 34 = .ok (.goto 4, 3) := dk_167 0 4 (dk_at dksX3_smallest_1 10 rfl rfl)
theorem dX3_smallest_37 : decode cX3_smallest 37 = .ok (.iload_n 2, 1) := dk_28 (dk_at dksX3_smallest_1 13 rfl rfl)
theorem dX3_smallest_38 : decode cX3_smallest 38 = .ok (.istore_n 2, 1) := dk_61 (dk_at dksX3_smallest_1 14 rfl rfl)
theorem dX3_smallest_39 : decode cX3_smallest 39 = .ok (.iinc 3 1, 3) := dk_132 3 1 (dk_at dksX3_smallest_1 15 rfl rfl)
theorem dX3_smallest_42 : decode cX3_smallest 42 = .ok (.goto (-38), 3) := dk_167 255 218 (dk_at dksX3_smallest_1 18 rfl rfl)
theorem dX3_smallest_45 : decode cX3_smallest 45 = .ok (.iload_n 2, 1) := dk_28 (dk_at dksX3_smallest_1 21 rfl rfl)
theorem dX3_smallest_46 : decode cX3_smallest 46 = .ok (.ireturn, 1) := dk_172 (dk_at dksX3_smallest_1 22 rfl rfl)
abbrev cX3_cracksBy : ByteArray := prog_31_method_61_code
def yX3_cracksBy : MethodName := ⟨RX3, "cracksBy", "()V"⟩
def dkwX3_cracksBy_4 : List UInt8 := [4, 96, 182, 0, 103, 177]
abbrev dktX3_cracksBy_4 : List UInt8 := dkwX3_cracksBy_4 ++ []
def dkwX3_cracksBy_3 : List UInt8 := [27, 155, 0, 28, 42, 27, 5, 182, 0, 79, 16, 9, 162, 0, 17, 42, 27, 5, 42, 27, 5, 182, 0, 79]
abbrev dktX3_cracksBy_3 : List UInt8 := dkwX3_cracksBy_3 ++ dktX3_cracksBy_4
def dkwX3_cracksBy_2 : List UInt8 := [182, 0, 79, 42, 27, 5, 182, 0, 79, 162, 0, 7, 28, 167, 0, 4, 27, 60, 132, 2, 1, 167, 255, 218]
abbrev dktX3_cracksBy_2 : List UInt8 := dkwX3_cracksBy_2 ++ dktX3_cracksBy_3
def dkwX3_cracksBy_1 : List UInt8 := [79, 2, 60, 3, 61, 28, 42, 180, 0, 7, 5, 46, 162, 0, 34, 27, 155, 0, 18, 42, 28, 5]
abbrev dktX3_cracksBy_1 : List UInt8 := dkwX3_cracksBy_1 ++ dktX3_cracksBy_2
def dkwX3_cracksBy_0 : List UInt8 := [42, 180, 0, 7, 16, 7, 46, 16, 30, 162, 0, 4, 177, 42, 180, 0, 7, 16, 7, 92, 46, 16, 30, 100]
abbrev dktX3_cracksBy_0 : List UInt8 := dkwX3_cracksBy_0 ++ dktX3_cracksBy_1
theorem dksX3_cracksBy_0 : cX3_cracksBy.data.toList.drop 0 = dktX3_cracksBy_0 := by decide +kernel
theorem dksX3_cracksBy_1 : cX3_cracksBy.data.toList.drop 24 = dktX3_cracksBy_1 := dk_seg dksX3_cracksBy_0 24 rfl rfl
theorem dksX3_cracksBy_2 : cX3_cracksBy.data.toList.drop 46 = dktX3_cracksBy_2 := dk_seg dksX3_cracksBy_1 22 rfl rfl
theorem dksX3_cracksBy_3 : cX3_cracksBy.data.toList.drop 70 = dktX3_cracksBy_3 := dk_seg dksX3_cracksBy_2 24 rfl rfl
theorem dksX3_cracksBy_4 : cX3_cracksBy.data.toList.drop 94 = dktX3_cracksBy_4 := dk_seg dksX3_cracksBy_3 24 rfl rfl
theorem dX3_cracksBy_0 : decode cX3_cracksBy 0 = .ok (.aload_n 0, 1) := dk_42 (dk_at dksX3_cracksBy_0 0 rfl rfl)
theorem dX3_cracksBy_1 : decode cX3_cracksBy 1 = .ok (.getfield 7, 3) := dk_180 0 7 (dk_at dksX3_cracksBy_0 1 rfl rfl)
theorem dX3_cracksBy_4 : decode cX3_cracksBy 4 = .ok (.bipush 7, 2) := dk_16 7 (dk_at dksX3_cracksBy_0 4 rfl rfl)
theorem dX3_cracksBy_6 : decode cX3_cracksBy 6 = .ok (.iaload, 1) := dk_46 (dk_at dksX3_cracksBy_0 6 rfl rfl)
theorem dX3_cracksBy_7 : decode cX3_cracksBy 7 = .ok (.bipush 30, 2) := dk_16 30 (dk_at dksX3_cracksBy_0 7 rfl rfl)
theorem dX3_cracksBy_9 : decode cX3_cracksBy 9 = .ok (.if_icmp .ge 4, 3) := dk_162 0 4 (dk_at dksX3_cracksBy_0 9 rfl rfl)
theorem dX3_cracksBy_12 : decode cX3_cracksBy 12 = .ok (.return_, 1) := dk_177 (dk_at dksX3_cracksBy_0 12 rfl rfl)
theorem dX3_cracksBy_13 : decode cX3_cracksBy 13 = .ok (.aload_n 0, 1) := dk_42 (dk_at dksX3_cracksBy_0 13 rfl rfl)
theorem dX3_cracksBy_14 : decode cX3_cracksBy 14 = .ok (.getfield 7, 3) := dk_180 0 7 (dk_at dksX3_cracksBy_0 14 rfl rfl)
theorem dX3_cracksBy_17 : decode cX3_cracksBy 17 = .ok (.bipush 7, 2) := dk_16 7 (dk_at dksX3_cracksBy_0 17 rfl rfl)
theorem dX3_cracksBy_19 : decode cX3_cracksBy 19 = .ok (.dup2, 1) := dk_92 (dk_at dksX3_cracksBy_0 19 rfl rfl)
theorem dX3_cracksBy_20 : decode cX3_cracksBy 20 = .ok (.iaload, 1) := dk_46 (dk_at dksX3_cracksBy_0 20 rfl rfl)
theorem dX3_cracksBy_21 : decode cX3_cracksBy 21 = .ok (.bipush 30, 2) := dk_16 30 (dk_at dksX3_cracksBy_0 21 rfl rfl)
theorem dX3_cracksBy_23 : decode cX3_cracksBy 23 = .ok (.isub, 1) := dk_100 (dk_at dksX3_cracksBy_0 23 rfl rfl)
theorem dX3_cracksBy_24 : decode cX3_cracksBy 24 = .ok (.iastore, 1) := dk_79 (dk_at dksX3_cracksBy_1 0 rfl rfl)
theorem dX3_cracksBy_25 : decode cX3_cracksBy 25 = .ok (.iconst (-1), 1) := dk_2 (dk_at dksX3_cracksBy_1 1 rfl rfl)
theorem dX3_cracksBy_26 : decode cX3_cracksBy 26 = .ok (.istore_n 1, 1) := dk_60 (dk_at dksX3_cracksBy_1 2 rfl rfl)
theorem dX3_cracksBy_27 : decode cX3_cracksBy 27 = .ok (.iconst 0, 1) := dk_3 (dk_at dksX3_cracksBy_1 3 rfl rfl)
theorem dX3_cracksBy_28 : decode cX3_cracksBy 28 = .ok (.istore_n 2, 1) := dk_61 (dk_at dksX3_cracksBy_1 4 rfl rfl)
theorem dX3_cracksBy_29 : decode cX3_cracksBy 29 = .ok (.iload_n 2, 1) := dk_28 (dk_at dksX3_cracksBy_1 5 rfl rfl)
theorem dX3_cracksBy_30 : decode cX3_cracksBy 30 = .ok (.aload_n 0, 1) := dk_42 (dk_at dksX3_cracksBy_1 6 rfl rfl)
theorem dX3_cracksBy_31 : decode cX3_cracksBy 31 = .ok (.getfield 7, 3) := dk_180 0 7 (dk_at dksX3_cracksBy_1 7 rfl rfl)
theorem dX3_cracksBy_34 : decode cX3_cracksBy 34 = .ok (.iconst 2, 1) := dk_5 (dk_at dksX3_cracksBy_1 10 rfl rfl)
theorem dX3_cracksBy_35 : decode cX3_cracksBy 35 = .ok (.iaload, 1) := dk_46 (dk_at dksX3_cracksBy_1 11 rfl rfl)
theorem dX3_cracksBy_36 : decode cX3_cracksBy 36 = .ok (.if_icmp .ge 34, 3) := dk_162 0 34 (dk_at dksX3_cracksBy_1 12 rfl rfl)
theorem dX3_cracksBy_39 : decode cX3_cracksBy 39 = .ok (.iload_n 1, 1) := dk_27 (dk_at dksX3_cracksBy_1 15 rfl rfl)
theorem dX3_cracksBy_40 : decode cX3_cracksBy 40 = .ok (.ifCond .lt 18, 3) := dk_155 0 18 (dk_at dksX3_cracksBy_1 16 rfl rfl)
theorem dX3_cracksBy_43 : decode cX3_cracksBy 43 = .ok (.aload_n 0, 1) := dk_42 (dk_at dksX3_cracksBy_1 19 rfl rfl)
theorem dX3_cracksBy_44 : decode cX3_cracksBy 44 = .ok (.iload_n 2, 1) := dk_28 (dk_at dksX3_cracksBy_1 20 rfl rfl)
theorem dX3_cracksBy_45 : decode cX3_cracksBy 45 = .ok (.iconst 2, 1) := dk_5 (dk_at dksX3_cracksBy_1 21 rfl rfl)
theorem dX3_cracksBy_46 : decode cX3_cracksBy 46 = .ok (.invokevirtual 79, 3) := dk_182 0 79 (dk_at dksX3_cracksBy_2 0 rfl rfl)
theorem dX3_cracksBy_49 : decode cX3_cracksBy 49 = .ok (.aload_n 0, 1) := dk_42 (dk_at dksX3_cracksBy_2 3 rfl rfl)
theorem dX3_cracksBy_50 : decode cX3_cracksBy 50 = .ok (.iload_n 1, 1) := dk_27 (dk_at dksX3_cracksBy_2 4 rfl rfl)
theorem dX3_cracksBy_51 : decode cX3_cracksBy 51 = .ok (.iconst 2, 1) := dk_5 (dk_at dksX3_cracksBy_2 5 rfl rfl)
theorem dX3_cracksBy_52 : decode cX3_cracksBy 52 = .ok (.invokevirtual 79, 3) := dk_182 0 79 (dk_at dksX3_cracksBy_2 6 rfl rfl)
theorem dX3_cracksBy_55 : decode cX3_cracksBy 55 = .ok (.if_icmp .ge 7, 3) := dk_162 0 7 (dk_at dksX3_cracksBy_2 9 rfl rfl)
theorem dX3_cracksBy_58 : decode cX3_cracksBy 58 = .ok (.iload_n 2, 1) := dk_28 (dk_at dksX3_cracksBy_2 12 rfl rfl)
theorem dX3_cracksBy_59 : decode cX3_cracksBy 59 = .ok (.goto 4, 3) := dk_167 0 4 (dk_at dksX3_cracksBy_2 13 rfl rfl)
theorem dX3_cracksBy_62 : decode cX3_cracksBy 62 = .ok (.iload_n 1, 1) := dk_27 (dk_at dksX3_cracksBy_2 16 rfl rfl)
theorem dX3_cracksBy_63 : decode cX3_cracksBy 63 = .ok (.istore_n 1, 1) := dk_60 (dk_at dksX3_cracksBy_2 17 rfl rfl)
theorem dX3_cracksBy_64 : decode cX3_cracksBy 64 = .ok (.iinc 2 1, 3) := dk_132 2 1 (dk_at dksX3_cracksBy_2 18 rfl rfl)
theorem dX3_cracksBy_67 : decode cX3_cracksBy 67 = .ok (.goto (-38), 3) := dk_167 255 218 (dk_at dksX3_cracksBy_2 21 rfl rfl)
theorem dX3_cracksBy_70 : decode cX3_cracksBy 70 = .ok (.iload_n 1, 1) := dk_27 (dk_at dksX3_cracksBy_3 0 rfl rfl)
theorem dX3_cracksBy_71 : decode cX3_cracksBy 71 = .ok (.ifCond .lt 28, 3) := dk_155 0 28 (dk_at dksX3_cracksBy_3 1 rfl rfl)
theorem dX3_cracksBy_74 : decode cX3_cracksBy 74 = .ok (.aload_n 0, 1) := dk_42 (dk_at dksX3_cracksBy_3 4 rfl rfl)
theorem dX3_cracksBy_75 : decode cX3_cracksBy 75 = .ok (.iload_n 1, 1) := dk_27 (dk_at dksX3_cracksBy_3 5 rfl rfl)
theorem dX3_cracksBy_76 : decode cX3_cracksBy 76 = .ok (.iconst 2, 1) := dk_5 (dk_at dksX3_cracksBy_3 6 rfl rfl)
theorem dX3_cracksBy_77 : decode cX3_cracksBy 77 = .ok (.invokevirtual 79, 3) := dk_182 0 79 (dk_at dksX3_cracksBy_3 7 rfl rfl)
theorem dX3_cracksBy_80 : decode cX3_cracksBy 80 = .ok (.bipush 9, 2) := dk_16 9 (dk_at dksX3_cracksBy_3 10 rfl rfl)
theorem dX3_cracksBy_82 : decode cX3_cracksBy 82 = .ok (.if_icmp .ge 17, 3) := dk_162 0 17 (dk_at dksX3_cracksBy_3 12 rfl rfl)
theorem dX3_cracksBy_85 : decode cX3_cracksBy 85 = .ok (.aload_n 0, 1) := dk_42 (dk_at dksX3_cracksBy_3 15 rfl rfl)
theorem dX3_cracksBy_86 : decode cX3_cracksBy 86 = .ok (.iload_n 1, 1) := dk_27 (dk_at dksX3_cracksBy_3 16 rfl rfl)
theorem dX3_cracksBy_87 : decode cX3_cracksBy 87 = .ok (.iconst 2, 1) := dk_5 (dk_at dksX3_cracksBy_3 17 rfl rfl)
theorem dX3_cracksBy_88 : decode cX3_cracksBy 88 = .ok (.aload_n 0, 1) := dk_42 (dk_at dksX3_cracksBy_3 18 rfl rfl)
theorem dX3_cracksBy_89 : decode cX3_cracksBy 89 = .ok (.iload_n 1, 1) := dk_27 (dk_at dksX3_cracksBy_3 19 rfl rfl)
theorem dX3_cracksBy_90 : decode cX3_cracksBy 90 = .ok (.iconst 2, 1) := dk_5 (dk_at dksX3_cracksBy_3 20 rfl rfl)
theorem dX3_cracksBy_91 : decode cX3_cracksBy 91 = .ok (.invokevirtual 79, 3) := dk_182 0 79 (dk_at dksX3_cracksBy_3 21 rfl rfl)
theorem dX3_cracksBy_94 : decode cX3_cracksBy 94 = .ok (.iconst 1, 1) := dk_4 (dk_at dksX3_cracksBy_4 0 rfl rfl)
theorem dX3_cracksBy_95 : decode cX3_cracksBy 95 = .ok (.iadd, 1) := dk_96 (dk_at dksX3_cracksBy_4 1 rfl rfl)
theorem dX3_cracksBy_96 : decode cX3_cracksBy 96 = .ok (.invokevirtual 103, 3) := dk_182 0 103 (dk_at dksX3_cracksBy_4 2 rfl rfl)
theorem dX3_cracksBy_99 : decode cX3_cracksBy 99 = .ok (.return_, 1) := dk_177 (dk_at dksX3_cracksBy_4 5 rfl rfl)
abbrev cX3_fullIn : ByteArray := prog_31_method_66_code
def yX3_fullIn : MethodName := ⟨RX3, "fullIn", "(I)I"⟩
def dkwX3_fullIn_3 : List UInt8 := [4, 167, 0, 4, 3, 62, 42, 182, 0, 192, 29, 153, 0, 7, 28, 167, 0, 8, 42, 5, 182, 0, 42, 172]
abbrev dktX3_fullIn_3 : List UInt8 := dkwX3_fullIn_3 ++ []
def dkwX3_fullIn_2 : List UInt8 := [182, 0, 183, 132, 2, 1, 167, 255, 227, 42, 27, 4, 182, 0, 72, 42, 27, 3, 182, 0, 72, 160, 0, 7]
abbrev dktX3_fullIn_2 : List UInt8 := dkwX3_fullIn_2 ++ dktX3_fullIn_3
def dkwX3_fullIn_1 : List UInt8 := [61, 28, 17, 0, 240, 162, 0, 28, 42, 27, 4, 182, 0, 72, 42, 27, 3, 182, 0, 72, 162, 0, 13, 42]
abbrev dktX3_fullIn_1 : List UInt8 := dkwX3_fullIn_1 ++ dktX3_fullIn_2
def dkwX3_fullIn_0 : List UInt8 := [42, 3, 181, 0, 32, 42, 27, 182, 0, 82, 154, 0, 9, 42, 4, 182, 0, 42, 172, 42, 182, 0, 62, 3]
abbrev dktX3_fullIn_0 : List UInt8 := dkwX3_fullIn_0 ++ dktX3_fullIn_1
theorem dksX3_fullIn_0 : cX3_fullIn.data.toList.drop 0 = dktX3_fullIn_0 := by decide +kernel
theorem dksX3_fullIn_1 : cX3_fullIn.data.toList.drop 24 = dktX3_fullIn_1 := dk_seg dksX3_fullIn_0 24 rfl rfl
theorem dksX3_fullIn_2 : cX3_fullIn.data.toList.drop 48 = dktX3_fullIn_2 := dk_seg dksX3_fullIn_1 24 rfl rfl
theorem dksX3_fullIn_3 : cX3_fullIn.data.toList.drop 72 = dktX3_fullIn_3 := dk_seg dksX3_fullIn_2 24 rfl rfl
theorem dX3_fullIn_0 : decode cX3_fullIn 0 = .ok (.aload_n 0, 1) := dk_42 (dk_at dksX3_fullIn_0 0 rfl rfl)
theorem dX3_fullIn_1 : decode cX3_fullIn 1 = .ok (.iconst 0, 1) := dk_3 (dk_at dksX3_fullIn_0 1 rfl rfl)
theorem dX3_fullIn_2 : decode cX3_fullIn 2 = .ok (.putfield 32, 3) := dk_181 0 32 (dk_at dksX3_fullIn_0 2 rfl rfl)
theorem dX3_fullIn_5 : decode cX3_fullIn 5 = .ok (.aload_n 0, 1) := dk_42 (dk_at dksX3_fullIn_0 5 rfl rfl)
theorem dX3_fullIn_6 : decode cX3_fullIn 6 = .ok (.iload_n 1, 1) := dk_27 (dk_at dksX3_fullIn_0 6 rfl rfl)
theorem dX3_fullIn_7 : decode cX3_fullIn 7 = .ok (.invokevirtual 82, 3) := dk_182 0 82 (dk_at dksX3_fullIn_0 7 rfl rfl)
theorem dX3_fullIn_10 : decode cX3_fullIn 10 = .ok (.ifCond .ne 9, 3) := dk_154 0 9 (dk_at dksX3_fullIn_0 10 rfl rfl)
theorem dX3_fullIn_13 : decode cX3_fullIn 13 = .ok (.aload_n 0, 1) := dk_42 (dk_at dksX3_fullIn_0 13 rfl rfl)
theorem dX3_fullIn_14 : decode cX3_fullIn 14 = .ok (.iconst 1, 1) := dk_4 (dk_at dksX3_fullIn_0 14 rfl rfl)
theorem dX3_fullIn_15 : decode cX3_fullIn 15 = .ok (.invokevirtual 42, 3) := dk_182 0 42 (dk_at dksX3_fullIn_0 15 rfl rfl)
theorem dX3_fullIn_18 : decode cX3_fullIn 18 = .ok (.ireturn, 1) := dk_172 (dk_at dksX3_fullIn_0 18 rfl rfl)
theorem dX3_fullIn_19 : decode cX3_fullIn 19 = .ok (.aload_n 0, 1) := dk_42 (dk_at dksX3_fullIn_0 19 rfl rfl)
theorem dX3_fullIn_20 : decode cX3_fullIn 20 = .ok (.invokevirtual 62, 3) := dk_182 0 62 (dk_at dksX3_fullIn_0 20 rfl rfl)
theorem dX3_fullIn_23 : decode cX3_fullIn 23 = .ok (.iconst 0, 1) := dk_3 (dk_at dksX3_fullIn_0 23 rfl rfl)
theorem dX3_fullIn_24 : decode cX3_fullIn 24 = .ok (.istore_n 2, 1) := dk_61 (dk_at dksX3_fullIn_1 0 rfl rfl)
theorem dX3_fullIn_25 : decode cX3_fullIn 25 = .ok (.iload_n 2, 1) := dk_28 (dk_at dksX3_fullIn_1 1 rfl rfl)
theorem dX3_fullIn_26 : decode cX3_fullIn 26 = .ok (.sipush 240, 3) := dk_17 0 240 (dk_at dksX3_fullIn_1 2 rfl rfl)
theorem dX3_fullIn_29 : decode cX3_fullIn 29 = .ok (.if_icmp .ge 28, 3) := dk_162 0 28 (dk_at dksX3_fullIn_1 5 rfl rfl)
theorem dX3_fullIn_32 : decode cX3_fullIn 32 = .ok (.aload_n 0, 1) := dk_42 (dk_at dksX3_fullIn_1 8 rfl rfl)
theorem dX3_fullIn_33 : decode cX3_fullIn 33 = .ok (.iload_n 1, 1) := dk_27 (dk_at dksX3_fullIn_1 9 rfl rfl)
theorem dX3_fullIn_34 : decode cX3_fullIn 34 = .ok (.iconst 1, 1) := dk_4 (dk_at dksX3_fullIn_1 10 rfl rfl)
theorem dX3_fullIn_35 : decode cX3_fullIn 35 = .ok (.invokevirtual 72, 3) := dk_182 0 72 (dk_at dksX3_fullIn_1 11 rfl rfl)
theorem dX3_fullIn_38 : decode cX3_fullIn 38 = .ok (.aload_n 0, 1) := dk_42 (dk_at dksX3_fullIn_1 14 rfl rfl)
theorem dX3_fullIn_39 : decode cX3_fullIn 39 = .ok (.iload_n 1, 1) := dk_27 (dk_at dksX3_fullIn_1 15 rfl rfl)
theorem dX3_fullIn_40 : decode cX3_fullIn 40 = .ok (.iconst 0, 1) := dk_3 (dk_at dksX3_fullIn_1 16 rfl rfl)
theorem dX3_fullIn_41 : decode cX3_fullIn 41 = .ok (.invokevirtual 72, 3) := dk_182 0 72 (dk_at dksX3_fullIn_1 17 rfl rfl)
theorem dX3_fullIn_44 : decode cX3_fullIn 44 = .ok (.if_icmp .ge 13, 3) := dk_162 0 13 (dk_at dksX3_fullIn_1 20 rfl rfl)
theorem dX3_fullIn_47 : decode cX3_fullIn 47 = .ok (.aload_n 0, 1) := dk_42 (dk_at dksX3_fullIn_1 23 rfl rfl)
theorem dX3_fullIn_48 : decode cX3_fullIn 48 = .ok (.invokevirtual 183, 3) := dk_182 0 183 (dk_at dksX3_fullIn_2 0 rfl rfl)
theorem dX3_fullIn_51 : decode cX3_fullIn 51 = .ok (.iinc 2 1, 3) := dk_132 2 1 (dk_at dksX3_fullIn_2 3 rfl rfl)
theorem dX3_fullIn_54 : decode cX3_fullIn 54 = .ok (.goto (-29), 3) := dk_167 255 227 (dk_at dksX3_fullIn_2 6 rfl rfl)
theorem dX3_fullIn_57 : decode cX3_fullIn 57 = .ok (.aload_n 0, 1) := dk_42 (dk_at dksX3_fullIn_2 9 rfl rfl)
theorem dX3_fullIn_58 : decode cX3_fullIn 58 = .ok (.iload_n 1, 1) := dk_27 (dk_at dksX3_fullIn_2 10 rfl rfl)
theorem dX3_fullIn_59 : decode cX3_fullIn 59 = .ok (.iconst 1, 1) := dk_4 (dk_at dksX3_fullIn_2 11 rfl rfl)
theorem dX3_fullIn_60 : decode cX3_fullIn 60 = .ok (.invokevirtual 72, 3) := dk_182 0 72 (dk_at dksX3_fullIn_2 12 rfl rfl)
theorem dX3_fullIn_63 : decode cX3_fullIn 63 = .ok (.aload_n 0, 1) := dk_42 (dk_at dksX3_fullIn_2 15 rfl rfl)
theorem dX3_fullIn_64 : decode cX3_fullIn 64 = .ok (.iload_n 1, 1) := dk_27 (dk_at dksX3_fullIn_2 16 rfl rfl)
theorem dX3_fullIn_65 : decode cX3_fullIn 65 = .ok (.iconst 0, 1) := dk_3 (dk_at dksX3_fullIn_2 17 rfl rfl)
theorem dX3_fullIn_66 : decode cX3_fullIn 66 = .ok (.invokevirtual 72, 3) := dk_182 0 72 (dk_at dksX3_fullIn_2 18 rfl rfl)
theorem dX3_fullIn_69 : decode cX3_fullIn 69 = .ok (.if_icmp .ne 7, 3) := dk_160 0 7 (dk_at dksX3_fullIn_2 21 rfl rfl)
theorem dX3_fullIn_72 : decode cX3_fullIn 72 = .ok (.iconst 1, 1) := dk_4 (dk_at dksX3_fullIn_3 0 rfl rfl)
theorem dX3_fullIn_73 : decode cX3_fullIn 73 = .ok (.goto 4, 3) := dk_167 0 4 (dk_at dksX3_fullIn_3 1 rfl rfl)
theorem dX3_fullIn_76 : decode cX3_fullIn 76 = .ok (.iconst 0, 1) := dk_3 (dk_at dksX3_fullIn_3 4 rfl rfl)
theorem dX3_fullIn_77 : decode cX3_fullIn 77 = .ok (.istore_n 3, 1) := dk_62 (dk_at dksX3_fullIn_3 5 rfl rfl)
theorem dX3_fullIn_78 : decode cX3_fullIn 78 = .ok (.aload_n 0, 1) := dk_42 (dk_at dksX3_fullIn_3 6 rfl rfl)
theorem dX3_fullIn_79 : decode cX3_fullIn 79 = .ok (.invokevirtual 192, 3) := dk_182 0 192 (dk_at dksX3_fullIn_3 7 rfl rfl)
theorem dX3_fullIn_82 : decode cX3_fullIn 82 = .ok (.iload_n 3, 1) := dk_29 (dk_at dksX3_fullIn_3 10 rfl rfl)
theorem dX3_fullIn_83 : decode cX3_fullIn 83 = .ok (.ifCond .eq 7, 3) := dk_153 0 7 (dk_at dksX3_fullIn_3 11 rfl rfl)
theorem dX3_fullIn_86 : decode cX3_fullIn 86 = .ok (.iload_n 2, 1) := dk_28 (dk_at dksX3_fullIn_3 14 rfl rfl)
theorem dX3_fullIn_87 : decode cX3_fullIn 87 = .ok (.goto 8, 3) := dk_167 0 8 (dk_at dksX3_fullIn_3 15 rfl rfl)
theorem dX3_fullIn_90 : decode cX3_fullIn 90 = .ok (.aload_n 0, 1) := dk_42 (dk_at dksX3_fullIn_3 18 rfl rfl)
theorem dX3_fullIn_91 : decode cX3_fullIn 91 = .ok (.iconst 2, 1) := dk_5 (dk_at dksX3_fullIn_3 19 rfl rfl)
theorem dX3_fullIn_92 : decode cX3_fullIn 92 = .ok (.invokevirtual 42, 3) := dk_182 0 42 (dk_at dksX3_fullIn_3 20 rfl rfl)
theorem dX3_fullIn_95 : decode cX3_fullIn 95 = .ok (.ireturn, 1) := dk_172 (dk_at dksX3_fullIn_3 23 rfl rfl)
abbrev cX3_forgets : ByteArray := prog_31_method_9_code
def yX3_forgets : MethodName := ⟨RX3, "forgets", "()V"⟩
def dkwX3_forgets_1 : List UInt8 := [167, 255, 234, 177]
abbrev dktX3_forgets_1 : List UInt8 := dkwX3_forgets_1 ++ []
def dkwX3_forgets_0 : List UInt8 := [3, 60, 27, 17, 0, 132, 162, 0, 21, 42, 180, 0, 7, 27, 42, 180, 0, 19, 27, 46, 79, 132, 1, 1]
abbrev dktX3_forgets_0 : List UInt8 := dkwX3_forgets_0 ++ dktX3_forgets_1
theorem dksX3_forgets_0 : cX3_forgets.data.toList.drop 0 = dktX3_forgets_0 := by decide +kernel
theorem dksX3_forgets_1 : cX3_forgets.data.toList.drop 24 = dktX3_forgets_1 := dk_seg dksX3_forgets_0 24 rfl rfl
theorem dX3_forgets_0 : decode cX3_forgets 0 = .ok (.iconst 0, 1) := dk_3 (dk_at dksX3_forgets_0 0 rfl rfl)
theorem dX3_forgets_1 : decode cX3_forgets 1 = .ok (.istore_n 1, 1) := dk_60 (dk_at dksX3_forgets_0 1 rfl rfl)
theorem dX3_forgets_2 : decode cX3_forgets 2 = .ok (.iload_n 1, 1) := dk_27 (dk_at dksX3_forgets_0 2 rfl rfl)
theorem dX3_forgets_3 : decode cX3_forgets 3 = .ok (.sipush 132, 3) := dk_17 0 132 (dk_at dksX3_forgets_0 3 rfl rfl)
theorem dX3_forgets_6 : decode cX3_forgets 6 = .ok (.if_icmp .ge 21, 3) := dk_162 0 21 (dk_at dksX3_forgets_0 6 rfl rfl)
theorem dX3_forgets_9 : decode cX3_forgets 9 = .ok (.aload_n 0, 1) := dk_42 (dk_at dksX3_forgets_0 9 rfl rfl)
theorem dX3_forgets_10 : decode cX3_forgets 10 = .ok (.getfield 7, 3) := dk_180 0 7 (dk_at dksX3_forgets_0 10 rfl rfl)
theorem dX3_forgets_13 : decode cX3_forgets 13 = .ok (.iload_n 1, 1) := dk_27 (dk_at dksX3_forgets_0 13 rfl rfl)
theorem dX3_forgets_14 : decode cX3_forgets 14 = .ok (.aload_n 0, 1) := dk_42 (dk_at dksX3_forgets_0 14 rfl rfl)
theorem dX3_forgets_15 : decode cX3_forgets 15 = .ok (.getfield 19, 3) := dk_180 0 19 (dk_at dksX3_forgets_0 15 rfl rfl)
theorem dX3_forgets_18 : decode cX3_forgets 18 = .ok (.iload_n 1, 1) := dk_27 (dk_at dksX3_forgets_0 18 rfl rfl)
theorem dX3_forgets_19 : decode cX3_forgets 19 = .ok (.iaload, 1) := dk_46 (dk_at dksX3_forgets_0 19 rfl rfl)
theorem dX3_forgets_20 : decode cX3_forgets 20 = .ok (.iastore, 1) := dk_79 (dk_at dksX3_forgets_0 20 rfl rfl)
theorem dX3_forgets_21 : decode cX3_forgets 21 = .ok (.iinc 1 1, 3) := dk_132 1 1 (dk_at dksX3_forgets_0 21 rfl rfl)
theorem dX3_forgets_24 : decode cX3_forgets 24 = .ok (.goto (-22), 3) := dk_167 255 234 (dk_at dksX3_forgets_1 0 rfl rfl)
theorem dX3_forgets_27 : decode cX3_forgets 27 = .ok (.return_, 1) := dk_177 (dk_at dksX3_forgets_1 3 rfl rfl)
abbrev cX3_sizeIn : ByteArray := prog_31_method_67_code
def yX3_sizeIn : MethodName := ⟨RX3, "sizeIn", "(III)I"⟩
def dkwX3_sizeIn_3 : List UInt8 := [182, 0, 192, 21, 4, 172]
abbrev dktX3_sizeIn_3 : List UInt8 := dkwX3_sizeIn_3 ++ []
def dkwX3_sizeIn_2 : List UInt8 := [6, 182, 0, 42, 172, 42, 182, 0, 62, 42, 29, 182, 0, 189, 87, 42, 27, 28, 182, 0, 97, 54, 4, 42]
abbrev dktX3_sizeIn_2 : List UInt8 := dkwX3_sizeIn_2 ++ dktX3_sizeIn_3
def dkwX3_sizeIn_1 : List UInt8 := [182, 0, 93, 154, 0, 9, 42, 5, 182, 0, 42, 172, 29, 3, 17, 0, 240, 184, 0, 68, 154, 0, 9, 42]
abbrev dktX3_sizeIn_1 : List UInt8 := dkwX3_sizeIn_1 ++ dktX3_sizeIn_2
def dkwX3_sizeIn_0 : List UInt8 := [42, 3, 181, 0, 32, 42, 27, 182, 0, 82, 154, 0, 9, 42, 4, 182, 0, 42, 172, 42, 27, 28]
abbrev dktX3_sizeIn_0 : List UInt8 := dkwX3_sizeIn_0 ++ dktX3_sizeIn_1
theorem dksX3_sizeIn_0 : cX3_sizeIn.data.toList.drop 0 = dktX3_sizeIn_0 := by decide +kernel
theorem dksX3_sizeIn_1 : cX3_sizeIn.data.toList.drop 22 = dktX3_sizeIn_1 := dk_seg dksX3_sizeIn_0 22 rfl rfl
theorem dksX3_sizeIn_2 : cX3_sizeIn.data.toList.drop 46 = dktX3_sizeIn_2 := dk_seg dksX3_sizeIn_1 24 rfl rfl
theorem dksX3_sizeIn_3 : cX3_sizeIn.data.toList.drop 70 = dktX3_sizeIn_3 := dk_seg dksX3_sizeIn_2 24 rfl rfl
theorem dX3_sizeIn_0 : decode cX3_sizeIn 0 = .ok (.aload_n 0, 1) := dk_42 (dk_at dksX3_sizeIn_0 0 rfl rfl)
theorem dX3_sizeIn_1 : decode cX3_sizeIn 1 = .ok (.iconst 0, 1) := dk_3 (dk_at dksX3_sizeIn_0 1 rfl rfl)
theorem dX3_sizeIn_2 : decode cX3_sizeIn 2 = .ok (.putfield 32, 3) := dk_181 0 32 (dk_at dksX3_sizeIn_0 2 rfl rfl)
theorem dX3_sizeIn_5 : decode cX3_sizeIn 5 = .ok (.aload_n 0, 1) := dk_42 (dk_at dksX3_sizeIn_0 5 rfl rfl)
theorem dX3_sizeIn_6 : decode cX3_sizeIn 6 = .ok (.iload_n 1, 1) := dk_27 (dk_at dksX3_sizeIn_0 6 rfl rfl)
theorem dX3_sizeIn_7 : decode cX3_sizeIn 7 = .ok (.invokevirtual 82, 3) := dk_182 0 82 (dk_at dksX3_sizeIn_0 7 rfl rfl)
theorem dX3_sizeIn_10 : decode cX3_sizeIn 10 = .ok (.ifCond .ne 9, 3) := dk_154 0 9 (dk_at dksX3_sizeIn_0 10 rfl rfl)
theorem dX3_sizeIn_13 : decode cX3_sizeIn 13 = .ok (.aload_n 0, 1) := dk_42 (dk_at dksX3_sizeIn_0 13 rfl rfl)
theorem dX3_sizeIn_14 : decode cX3_sizeIn 14 = .ok (.iconst 1, 1) := dk_4 (dk_at dksX3_sizeIn_0 14 rfl rfl)
theorem dX3_sizeIn_15 : decode cX3_sizeIn 15 = .ok (.invokevirtual 42, 3) := dk_182 0 42 (dk_at dksX3_sizeIn_0 15 rfl rfl)
theorem dX3_sizeIn_18 : decode cX3_sizeIn 18 = .ok (.ireturn, 1) := dk_172 (dk_at dksX3_sizeIn_0 18 rfl rfl)
theorem dX3_sizeIn_19 : decode cX3_sizeIn 19 = .ok (.aload_n 0, 1) := dk_42 (dk_at dksX3_sizeIn_0 19 rfl rfl)
theorem dX3_sizeIn_20 : decode cX3_sizeIn 20 = .ok (.iload_n 1, 1) := dk_27 (dk_at dksX3_sizeIn_0 20 rfl rfl)
theorem dX3_sizeIn_21 : decode cX3_sizeIn 21 = .ok (.iload_n 2, 1) := dk_28 (dk_at dksX3_sizeIn_0 21 rfl rfl)
theorem dX3_sizeIn_22 : decode cX3_sizeIn 22 = .ok (.invokevirtual 93, 3) := dk_182 0 93 (dk_at dksX3_sizeIn_1 0 rfl rfl)
theorem dX3_sizeIn_25 : decode cX3_sizeIn 25 = .ok (.ifCond .ne 9, 3) := dk_154 0 9 (dk_at dksX3_sizeIn_1 3 rfl rfl)
theorem dX3_sizeIn_28 : decode cX3_sizeIn 28 = .ok (.aload_n 0, 1) := dk_42 (dk_at dksX3_sizeIn_1 6 rfl rfl)
theorem dX3_sizeIn_29 : decode cX3_sizeIn 29 = .ok (.iconst 2, 1) := dk_5 (dk_at dksX3_sizeIn_1 7 rfl rfl)
theorem dX3_sizeIn_30 : decode cX3_sizeIn 30 = .ok (.invokevirtual 42, 3) := dk_182 0 42 (dk_at dksX3_sizeIn_1 8 rfl rfl)
theorem dX3_sizeIn_33 : decode cX3_sizeIn 33 = .ok (.ireturn, 1) := dk_172 (dk_at dksX3_sizeIn_1 11 rfl rfl)
theorem dX3_sizeIn_34 : decode cX3_sizeIn 34 = .ok (.iload_n 3, 1) := dk_29 (dk_at dksX3_sizeIn_1 12 rfl rfl)
theorem dX3_sizeIn_35 : decode cX3_sizeIn 35 = .ok (.iconst 0, 1) := dk_3 (dk_at dksX3_sizeIn_1 13 rfl rfl)
theorem dX3_sizeIn_36 : decode cX3_sizeIn 36 = .ok (.sipush 240, 3) := dk_17 0 240 (dk_at dksX3_sizeIn_1 14 rfl rfl)
theorem dX3_sizeIn_39 : decode cX3_sizeIn 39 = .ok (.invokestatic 68, 3) := dk_184 0 68 (dk_at dksX3_sizeIn_1 17 rfl rfl)
theorem dX3_sizeIn_42 : decode cX3_sizeIn 42 = .ok (.ifCond .ne 9, 3) := dk_154 0 9 (dk_at dksX3_sizeIn_1 20 rfl rfl)
theorem dX3_sizeIn_45 : decode cX3_sizeIn 45 = .ok (.aload_n 0, 1) := dk_42 (dk_at dksX3_sizeIn_1 23 rfl rfl)
theorem dX3_sizeIn_46 : decode cX3_sizeIn 46 = .ok (.iconst 3, 1) := dk_6 (dk_at dksX3_sizeIn_2 0 rfl rfl)
theorem dX3_sizeIn_47 : decode cX3_sizeIn 47 = .ok (.invokevirtual 42, 3) := dk_182 0 42 (dk_at dksX3_sizeIn_2 1 rfl rfl)
theorem dX3_sizeIn_50 : decode cX3_sizeIn 50 = .ok (.ireturn, 1) := dk_172 (dk_at dksX3_sizeIn_2 4 rfl rfl)
theorem dX3_sizeIn_51 : decode cX3_sizeIn 51 = .ok (.aload_n 0, 1) := dk_42 (dk_at dksX3_sizeIn_2 5 rfl rfl)
theorem dX3_sizeIn_52 : decode cX3_sizeIn 52 = .ok (.invokevirtual 62, 3) := dk_182 0 62 (dk_at dksX3_sizeIn_2 6 rfl rfl)
theorem dX3_sizeIn_55 : decode cX3_sizeIn 55 = .ok (.aload_n 0, 1) := dk_42 (dk_at dksX3_sizeIn_2 9 rfl rfl)
theorem dX3_sizeIn_56 : decode cX3_sizeIn 56 = .ok (.iload_n 3, 1) := dk_29 (dk_at dksX3_sizeIn_2 10 rfl rfl)
theorem dX3_sizeIn_57 : decode cX3_sizeIn 57 = .ok (.invokevirtual 189, 3) := dk_182 0 189 (dk_at dksX3_sizeIn_2 11 rfl rfl)
theorem dX3_sizeIn_60 : decode cX3_sizeIn 60 = .ok (.pop, 1) := dk_87 (dk_at dksX3_sizeIn_2 14 rfl rfl)
theorem dX3_sizeIn_61 : decode cX3_sizeIn 61 = .ok (.aload_n 0, 1) := dk_42 (dk_at dksX3_sizeIn_2 15 rfl rfl)
theorem dX3_sizeIn_62 : decode cX3_sizeIn 62 = .ok (.iload_n 1, 1) := dk_27 (dk_at dksX3_sizeIn_2 16 rfl rfl)
theorem dX3_sizeIn_63 : decode cX3_sizeIn 63 = .ok (.iload_n 2, 1) := dk_28 (dk_at dksX3_sizeIn_2 17 rfl rfl)
theorem dX3_sizeIn_64 : decode cX3_sizeIn 64 = .ok (.invokevirtual 97, 3) := dk_182 0 97 (dk_at dksX3_sizeIn_2 18 rfl rfl)
theorem dX3_sizeIn_67 : decode cX3_sizeIn 67 = .ok (.istore 4, 2) := dk_54 4 (dk_at dksX3_sizeIn_2 21 rfl rfl)
theorem dX3_sizeIn_69 : decode cX3_sizeIn 69 = .ok (.aload_n 0, 1) := dk_42 (dk_at dksX3_sizeIn_2 23 rfl rfl)
theorem dX3_sizeIn_70 : decode cX3_sizeIn 70 = .ok (.invokevirtual 192, 3) := dk_182 0 192 (dk_at dksX3_sizeIn_3 0 rfl rfl)
theorem dX3_sizeIn_73 : decode cX3_sizeIn 73 = .ok (.iload 4, 2) := dk_21 4 (dk_at dksX3_sizeIn_3 3 rfl rfl)
theorem dX3_sizeIn_75 : decode cX3_sizeIn 75 = .ok (.ireturn, 1) := dk_172 (dk_at dksX3_sizeIn_3 5 rfl rfl)
abbrev cX3_clearIn : ByteArray := prog_31_method_68_code
def yX3_clearIn : MethodName := ⟨RX3, "clearIn", "(I)I"⟩
def dkwX3_clearIn_3 : List UInt8 := [3, 62, 42, 182, 0, 192, 29, 153, 0, 7, 28, 167, 0, 8, 42, 5, 182, 0, 42, 172]
abbrev dktX3_clearIn_3 : List UInt8 := dkwX3_clearIn_3 ++ []
def dkwX3_clearIn_2 : List UInt8 := [182, 0, 183, 132, 2, 1, 167, 255, 231, 42, 180, 0, 7, 16, 6, 46, 27, 162, 0, 7, 4, 167, 0, 4]
abbrev dktX3_clearIn_2 : List UInt8 := dkwX3_clearIn_2 ++ dktX3_clearIn_3
def dkwX3_clearIn_1 : List UInt8 := [182, 0, 62, 3, 61, 28, 17, 0, 240, 162, 0, 24, 42, 180, 0, 7, 16, 6, 46, 27, 161, 0, 13, 42]
abbrev dktX3_clearIn_1 : List UInt8 := dkwX3_clearIn_1 ++ dktX3_clearIn_2
def dkwX3_clearIn_0 : List UInt8 := [42, 3, 181, 0, 32, 27, 4, 16, 100, 184, 0, 68, 154, 0, 9, 42, 4, 182, 0, 42, 172, 42]
abbrev dktX3_clearIn_0 : List UInt8 := dkwX3_clearIn_0 ++ dktX3_clearIn_1
theorem dksX3_clearIn_0 : cX3_clearIn.data.toList.drop 0 = dktX3_clearIn_0 := by decide +kernel
theorem dksX3_clearIn_1 : cX3_clearIn.data.toList.drop 22 = dktX3_clearIn_1 := dk_seg dksX3_clearIn_0 22 rfl rfl
theorem dksX3_clearIn_2 : cX3_clearIn.data.toList.drop 46 = dktX3_clearIn_2 := dk_seg dksX3_clearIn_1 24 rfl rfl
theorem dksX3_clearIn_3 : cX3_clearIn.data.toList.drop 70 = dktX3_clearIn_3 := dk_seg dksX3_clearIn_2 24 rfl rfl
theorem dX3_clearIn_0 : decode cX3_clearIn 0 = .ok (.aload_n 0, 1) := dk_42 (dk_at dksX3_clearIn_0 0 rfl rfl)
theorem dX3_clearIn_1 : decode cX3_clearIn 1 = .ok (.iconst 0, 1) := dk_3 (dk_at dksX3_clearIn_0 1 rfl rfl)
theorem dX3_clearIn_2 : decode cX3_clearIn 2 = .ok (.putfield 32, 3) := dk_181 0 32 (dk_at dksX3_clearIn_0 2 rfl rfl)
theorem dX3_clearIn_5 : decode cX3_clearIn 5 = .ok (.iload_n 1, 1) := dk_27 (dk_at dksX3_clearIn_0 5 rfl rfl)
theorem dX3_clearIn_6 : decode cX3_clearIn 6 = .ok (.iconst 1, 1) := dk_4 (dk_at dksX3_clearIn_0 6 rfl rfl)
theorem dX3_clearIn_7 : decode cX3_clearIn 7 = .ok (.bipush 100, 2) := dk_16 100 (dk_at dksX3_clearIn_0 7 rfl rfl)
theorem dX3_clearIn_9 : decode cX3_clearIn 9 = .ok (.invokestatic 68, 3) := dk_184 0 68 (dk_at dksX3_clearIn_0 9 rfl rfl)
theorem dX3_clearIn_12 : decode cX3_clearIn 12 = .ok (.ifCond .ne 9, 3) := dk_154 0 9 (dk_at dksX3_clearIn_0 12 rfl rfl)
theorem dX3_clearIn_15 : decode cX3_clearIn 15 = .ok (.aload_n 0, 1) := dk_42 (dk_at dksX3_clearIn_0 15 rfl rfl)
theorem dX3_clearIn_16 : decode cX3_clearIn 16 = .ok (.iconst 1, 1) := dk_4 (dk_at dksX3_clearIn_0 16 rfl rfl)
theorem dX3_clearIn_17 : decode cX3_clearIn 17 = .ok (.invokevirtual 42, 3) := dk_182 0 42 (dk_at dksX3_clearIn_0 17 rfl rfl)
theorem dX3_clearIn_20 : decode cX3_clearIn 20 = .ok (.ireturn, 1) := dk_172 (dk_at dksX3_clearIn_0 20 rfl rfl)
theorem dX3_clearIn_21 : decode cX3_clearIn 21 = .ok (.aload_n 0, 1) := dk_42 (dk_at dksX3_clearIn_0 21 rfl rfl)
theorem dX3_clearIn_22 : decode cX3_clearIn 22 = .ok (.invokevirtual 62, 3) := dk_182 0 62 (dk_at dksX3_clearIn_1 0 rfl rfl)
theorem dX3_clearIn_25 : decode cX3_clearIn 25 = .ok (.iconst 0, 1) := dk_3 (dk_at dksX3_clearIn_1 3 rfl rfl)
theorem dX3_clearIn_26 : decode cX3_clearIn 26 = .ok (.istore_n 2, 1) := dk_61 (dk_at dksX3_clearIn_1 4 rfl rfl)
theorem dX3_clearIn_27 : decode cX3_clearIn 27 = .ok (.iload_n 2, 1) := dk_28 (dk_at dksX3_clearIn_1 5 rfl rfl)
theorem dX3_clearIn_28 : decode cX3_clearIn 28 = .ok (.sipush 240, 3) := dk_17 0 240 (dk_at dksX3_clearIn_1 6 rfl rfl)
theorem dX3_clearIn_31 : decode cX3_clearIn 31 = .ok (.if_icmp .ge 24, 3) := dk_162 0 24 (dk_at dksX3_clearIn_1 9 rfl rfl)
theorem dX3_clearIn_34 : decode cX3_clearIn 34 = .ok (.aload_n 0, 1) := dk_42 (dk_at dksX3_clearIn_1 12 rfl rfl)
theorem dX3_clearIn_35 : decode cX3_clearIn 35 = .ok (.getfield 7, 3) := dk_180 0 7 (dk_at dksX3_clearIn_1 13 rfl rfl)
theorem dX3_clearIn_38 : decode cX3_clearIn 38 = .ok (.bipush 6, 2) := dk_16 6 (dk_at dksX3_clearIn_1 16 rfl rfl)
theorem dX3_clearIn_40 : decode cX3_clearIn 40 = .ok (.iaload, 1) := dk_46 (dk_at dksX3_clearIn_1 18 rfl rfl)
theorem dX3_clearIn_41 : decode cX3_clearIn 41 = .ok (.iload_n 1, 1) := dk_27 (dk_at dksX3_clearIn_1 19 rfl rfl)
theorem dX3_clearIn_42 : decode cX3_clearIn 42 = .ok (.if_icmp .lt 13, 3) := dk_161 0 13 (dk_at dksX3_clearIn_1 20 rfl rfl)
theorem dX3_clearIn_45 : decode cX3_clearIn 45 = .ok (.aload_n 0, 1) := dk_42 (dk_at dksX3_clearIn_1 23 rfl rfl)
theorem dX3_clearIn_46 : decode cX3_clearIn 46 = .ok (.invokevirtual 183, 3) := dk_182 0 183 (dk_at dksX3_clearIn_2 0 rfl rfl)
theorem dX3_clearIn_49 : decode cX3_clearIn 49 = .ok (.iinc 2 1, 3) := dk_132 2 1 (dk_at dksX3_clearIn_2 3 rfl rfl)
theorem dX3_clearIn_52 : decode cX3_clearIn 52 = .ok (.goto (-25), 3) := dk_167 255 231 (dk_at dksX3_clearIn_2 6 rfl rfl)
theorem dX3_clearIn_55 : decode cX3_clearIn 55 = .ok (.aload_n 0, 1) := dk_42 (dk_at dksX3_clearIn_2 9 rfl rfl)
theorem dX3_clearIn_56 : decode cX3_clearIn 56 = .ok (.getfield 7, 3) := dk_180 0 7 (dk_at dksX3_clearIn_2 10 rfl rfl)
theorem dX3_clearIn_59 : decode cX3_clearIn 59 = .ok (.bipush 6, 2) := dk_16 6 (dk_at dksX3_clearIn_2 13 rfl rfl)
theorem dX3_clearIn_61 : decode cX3_clearIn 61 = .ok (.iaload, 1) := dk_46 (dk_at dksX3_clearIn_2 15 rfl rfl)
theorem dX3_clearIn_62 : decode cX3_clearIn 62 = .ok (.iload_n 1, 1) := dk_27 (dk_at dksX3_clearIn_2 16 rfl rfl)
theorem dX3_clearIn_63 : decode cX3_clearIn 63 = .ok (.if_icmp .ge 7, 3) := dk_162 0 7 (dk_at dksX3_clearIn_2 17 rfl rfl)
theorem dX3_clearIn_66 : decode cX3_clearIn 66 = .ok (.iconst 1, 1) := dk_4 (dk_at dksX3_clearIn_2 20 rfl rfl)
theorem dX3_clearIn_67 : decode cX3_clearIn 67 = .ok (.goto 4, 3) := dk_167 0 4 (dk_at dksX3_clearIn_2 21 rfl rfl)
theorem dX3_clearIn_70 : decode cX3_clearIn 70 = .ok (.iconst 0, 1) := dk_3 (dk_at dksX3_clearIn_3 0 rfl rfl)
theorem dX3_clearIn_71 : decode cX3_clearIn 71 = .ok (.istore_n 3, 1) := dk_62 (dk_at dksX3_clearIn_3 1 rfl rfl)
theorem dX3_clearIn_72 : decode cX3_clearIn 72 = .ok (.aload_n 0, 1) := dk_42 (dk_at dksX3_clearIn_3 2 rfl rfl)
theorem dX3_clearIn_73 : decode cX3_clearIn 73 = .ok (.invokevirtual 192, 3) := dk_182 0 192 (dk_at dksX3_clearIn_3 3 rfl rfl)
theorem dX3_clearIn_76 : decode cX3_clearIn 76 = .ok (.iload_n 3, 1) := dk_29 (dk_at dksX3_clearIn_3 6 rfl rfl)
theorem dX3_clearIn_77 : decode cX3_clearIn 77 = .ok (.ifCond .eq 7, 3) := dk_153 0 7 (dk_at dksX3_clearIn_3 7 rfl rfl)
theorem dX3_clearIn_80 : decode cX3_clearIn 80 = .ok (.iload_n 2, 1) := dk_28 (dk_at dksX3_clearIn_3 10 rfl rfl)
theorem dX3_clearIn_81 : decode cX3_clearIn 81 = .ok (.goto 8, 3) := dk_167 0 8 (dk_at dksX3_clearIn_3 11 rfl rfl)
theorem dX3_clearIn_84 : decode cX3_clearIn 84 = .ok (.aload_n 0, 1) := dk_42 (dk_at dksX3_clearIn_3 14 rfl rfl)
theorem dX3_clearIn_85 : decode cX3_clearIn 85 = .ok (.iconst 2, 1) := dk_5 (dk_at dksX3_clearIn_3 15 rfl rfl)
theorem dX3_clearIn_86 : decode cX3_clearIn 86 = .ok (.invokevirtual 42, 3) := dk_182 0 42 (dk_at dksX3_clearIn_3 16 rfl rfl)
theorem dX3_clearIn_89 : decode cX3_clearIn 89 = .ok (.ireturn, 1) := dk_172 (dk_at dksX3_clearIn_3 19 rfl rfl)
abbrev cX3_leastDraught : ByteArray := prog_31_method_70_code
def yX3_leastDraught : MethodName := ⟨RX3, "leastDraught", "()I"⟩
def dkwX3_leastDraught_1 : List UInt8 := [132, 1, 1, 167, 255, 237, 42, 4, 182, 0, 42, 172]
abbrev dktX3_leastDraught_1 : List UInt8 := dkwX3_leastDraught_1 ++ []
def dkwX3_leastDraught_0 : List UInt8 := [42, 3, 181, 0, 32, 3, 60, 27, 16, 10, 162, 0, 19, 42, 27, 182, 0, 195, 153, 0, 5, 27, 172]
abbrev dktX3_leastDraught_0 : List UInt8 := dkwX3_leastDraught_0 ++ dktX3_leastDraught_1
theorem dksX3_leastDraught_0 : cX3_leastDraught.data.toList.drop 0 = dktX3_leastDraught_0 := by decide +kernel
theorem dksX3_leastDraught_1 : cX3_leastDraught.data.toList.drop 23 = dktX3_leastDraught_1 := dk_seg dksX3_leastDraught_0 23 rfl rfl
theorem dX3_leastDraught_0 : decode cX3_leastDraught 0 = .ok (.aload_n 0, 1) := dk_42 (dk_at dksX3_leastDraught_0 0 rfl rfl)
theorem dX3_leastDraught_1 : decode cX3_leastDraught 1 = .ok (.iconst 0, 1) := dk_3 (dk_at dksX3_leastDraught_0 1 rfl rfl)
theorem dX3_leastDraught_2 : decode cX3_leastDraught 2 = .ok (.putfield 32, 3) := dk_181 0 32 (dk_at dksX3_leastDraught_0 2 rfl rfl)
theorem dX3_leastDraught_5 : decode cX3_leastDraught 5 = .ok (.iconst 0, 1) := dk_3 (dk_at dksX3_leastDraught_0 5 rfl rfl)
theorem dX3_leastDraught_6 : decode cX3_leastDraught 6 = .ok (.istore_n 1, 1) := dk_60 (dk_at dksX3_leastDraught_0 6 rfl rfl)
theorem dX3_leastDraught_7 : decode cX3_leastDraught 7 = .ok (.iload_n 1, 1) := dk_27 (dk_at dksX3_leastDraught_0 7 rfl rfl)
theorem dX3_leastDraught_8 : decode cX3_leastDraught 8 = .ok (.bipush 10, 2) := dk_16 10 (dk_at dksX3_leastDraught_0 8 rfl rfl)
theorem dX3_leastDraught_10 : decode cX3_leastDraught 10 = .ok (.if_icmp .ge 19, 3) := dk_162 0 19 (dk_at dksX3_leastDraught_0 10 rfl rfl)
theorem dX3_leastDraught_13 : decode cX3_leastDraught 13 = .ok (.aload_n 0, 1) := dk_42 (dk_at dksX3_leastDraught_0 13 rfl rfl)
theorem dX3_leastDraught_14 : decode cX3_leastDraught 14 = .ok (.iload_n 1, 1) := dk_27 (dk_at dksX3_leastDraught_0 14 rfl rfl)
theorem dX3_leastDraught_15 : decode cX3_leastDraught 15 = .ok (.invokevirtual 195, 3) := dk_182 0 195 (dk_at dksX3_leastDraught_0 15 rfl rfl)
theorem dX3_leastDraught_18 : decode cX3_leastDraught 18 = .ok (.ifCond .eq 5, 3) := dk_153 0 5 (dk_at dksX3_leastDraught_0 18 rfl rfl)
theorem dX3_leastDraught_21 : decode cX3_leastDraught 21 = .ok (.iload_n 1, 1) := dk_27 (dk_at dksX3_leastDraught_0 21 rfl rfl)
theorem dX3_leastDraught_22 : decode cX3_leastDraught 22 = .ok (.ireturn, 1) := dk_172 (dk_at dksX3_leastDraught_0 22 rfl rfl)
theorem dX3_leastDraught_23 : decode cX3_leastDraught 23 = .ok (.iinc 1 1, 3) := dk_132 1 1 (dk_at dksX3_leastDraught_1 0 rfl rfl)
theorem dX3_leastDraught_26 : decode cX3_leastDraught 26 = .ok (.goto (-19), 3) := dk_167 255 237 (dk_at dksX3_leastDraught_1 3 rfl rfl)
theorem dX3_leastDraught_29 : decode cX3_leastDraught 29 = .ok (.aload_n 0, 1) := dk_42 (dk_at dksX3_leastDraught_1 6 rfl rfl)
theorem dX3_leastDraught_30 : decode cX3_leastDraught 30 = .ok (.iconst 1, 1) := dk_4 (dk_at dksX3_leastDraught_1 7 rfl rfl)
theorem dX3_leastDraught_31 : decode cX3_leastDraught 31 = .ok (.invokevirtual 42, 3) := dk_182 0 42 (dk_at dksX3_leastDraught_1 8 rfl rfl)
theorem dX3_leastDraught_34 : decode cX3_leastDraught 34 = .ok (.ireturn, 1) := dk_172 (dk_at dksX3_leastDraught_1 11 rfl rfl)
abbrev cX3_staysClear : ByteArray := prog_31_method_69_code
def yX3_staysClear : MethodName := ⟨RX3, "staysClear", "(I)Z"⟩
def dkwX3_staysClear_2 : List UInt8 := [61, 132, 3, 1, 167, 255, 221, 42, 182, 0, 192, 28, 172]
abbrev dktX3_staysClear_2 : List UInt8 := dkwX3_staysClear_2 ++ []
def dkwX3_staysClear_1 : List UInt8 := [153, 0, 31, 42, 182, 0, 183, 42, 180, 0, 7, 16, 6, 46, 16, 50, 162, 0, 7, 4, 167, 0, 4, 3]
abbrev dktX3_staysClear_1 : List UInt8 := dkwX3_staysClear_1 ++ dktX3_staysClear_2
def dkwX3_staysClear_0 : List UInt8 := [42, 182, 0, 62, 42, 180, 0, 7, 16, 8, 27, 79, 4, 61, 3, 62, 29, 16, 60, 162, 0, 35, 28]
abbrev dktX3_staysClear_0 : List UInt8 := dkwX3_staysClear_0 ++ dktX3_staysClear_1
theorem dksX3_staysClear_0 : cX3_staysClear.data.toList.drop 0 = dktX3_staysClear_0 := by decide +kernel
theorem dksX3_staysClear_1 : cX3_staysClear.data.toList.drop 23 = dktX3_staysClear_1 := dk_seg dksX3_staysClear_0 23 rfl rfl
theorem dksX3_staysClear_2 : cX3_staysClear.data.toList.drop 47 = dktX3_staysClear_2 := dk_seg dksX3_staysClear_1 24 rfl rfl
theorem dX3_staysClear_0 : decode cX3_staysClear 0 = .ok (.aload_n 0, 1) := dk_42 (dk_at dksX3_staysClear_0 0 rfl rfl)
theorem dX3_staysClear_1 : decode cX3_staysClear 1 = .ok (.invokevirtual 62, 3) := dk_182 0 62 (dk_at dksX3_staysClear_0 1 rfl rfl)
theorem dX3_staysClear_4 : decode cX3_staysClear 4 = .ok (.aload_n 0, 1) := dk_42 (dk_at dksX3_staysClear_0 4 rfl rfl)
theorem dX3_staysClear_5 : decode cX3_staysClear 5 = .ok (.getfield 7, 3) := dk_180 0 7 (dk_at dksX3_staysClear_0 5 rfl rfl)
theorem dX3_staysClear_8 : decode cX3_staysClear 8 = .ok (.bipush 8, 2) := dk_16 8 (dk_at dksX3_staysClear_0 8 rfl rfl)
theorem dX3_staysClear_10 : decode cX3_staysClear 10 = .ok (.iload_n 1, 1) := dk_27 (dk_at dksX3_staysClear_0 10 rfl rfl)
theorem dX3_staysClear_11 : decode cX3_staysClear 11 = .ok (.iastore, 1) := dk_79 (dk_at dksX3_staysClear_0 11 rfl rfl)
theorem dX3_staysClear_12 : decode cX3_staysClear 12 = .ok (.iconst 1, 1) := dk_4 (dk_at dksX3_staysClear_0 12 rfl rfl)
theorem dX3_staysClear_13 : decode cX3_staysClear 13 = .ok (.istore_n 2, 1) := dk_61 (dk_at dksX3_staysClear_0 13 rfl rfl)
theorem dX3_staysClear_14 : decode cX3_staysClear 14 = .ok (.iconst 0, 1) := dk_3 (dk_at dksX3_staysClear_0 14 rfl rfl)
theorem dX3_staysClear_15 : decode cX3_staysClear 15 = .ok (.istore_n 3, 1) := dk_62 (dk_at dksX3_staysClear_0 15 rfl rfl)
theorem dX3_staysClear_16 : decode cX3_staysClear 16 = .ok (.iload_n 3, 1) := dk_29 (dk_at dksX3_staysClear_0 16 rfl rfl)
theorem dX3_staysClear_17 : decode cX3_staysClear 17 = .ok (.bipush 60, 2) := dk_16 60 (dk_at dksX3_staysClear_0 17 rfl rfl)
theorem dX3_staysClear_19 : decode cX3_staysClear 19 = .ok (.if_icmp .ge 35, 3) := dk_162 0 35 (dk_at dksX3_staysClear_0 19 rfl rfl)
theorem dX3_staysClear_22 : decode cX3_staysClear 22 = .ok (.iload_n 2, 1) := dk_28 (dk_at dksX3_staysClear_0 22 rfl rfl)
theorem dX3_staysClear_23 : decode cX3_staysClear 23 = .ok (.ifCond .eq 31, 3) := dk_153 0 31 (dk_at dksX3_staysClear_1 0 rfl rfl)
theorem dX3_staysClear_26 : decode cX3_staysClear 26 = .ok (.aload_n 0, 1) := dk_42 (dk_at dksX3_staysClear_1 3 rfl rfl)
theorem dX3_staysClear_27 : decode cX3_staysClear 27 = .ok (.invokevirtual 183, 3) := dk_182 0 183 (dk_at dksX3_staysClear_1 4 rfl rfl)
theorem dX3_staysClear_30 : decode cX3_staysClear 30 = .ok (.aload_n 0, 1) := dk_42 (dk_at dksX3_staysClear_1 7 rfl rfl)
theorem dX3_staysClear_31 : decode cX3_staysClear 31 = .ok (.getfield 7, 3) := dk_180 0 7 (dk_at dksX3_staysClear_1 8 rfl rfl)
theorem dX3_staysClear_34 : decode cX3_staysClear 34 = .ok (.bipush 6, 2) := dk_16 6 (dk_at dksX3_staysClear_1 11 rfl rfl)
theorem dX3_staysClear_36 : decode cX3_staysClear 36 = .ok (.iaload, 1) := dk_46 (dk_at dksX3_staysClear_1 13 rfl rfl)
theorem dX3_staysClear_37 : decode cX3_staysClear 37 = .ok (.bipush 50, 2) := dk_16 50 (dk_at dksX3_staysClear_1 14 rfl rfl)
theorem dX3_staysClear_39 : decode cX3_staysClear 39 = .ok (.if_icmp .ge 7, 3) := dk_162 0 7 (dk_at dksX3_staysClear_1 16 rfl rfl)
theorem dX3_staysClear_42 : decode cX3_staysClear 42 = .ok (.iconst 1, 1) := dk_4 (dk_at dksX3_staysClear_1 19 rfl rfl)
theorem dX3_staysClear_43 : decode cX3_staysClear 43 = .ok (.goto 4, 3) := dk_167 0 4 (dk_at dksX3_staysClear_1 20 rfl rfl)
theorem dX3_staysClear_46 : decode cX3_staysClear 46 = .ok (.iconst 0, 1) := dk_3 (dk_at dksX3_staysClear_1 23 rfl rfl)
theorem dX3_staysClear_47 : decode cX3_staysClear 47 = .ok (.istore_n 2, 1) := dk_61 (dk_at dksX3_staysClear_2 0 rfl rfl)
theorem dX3_staysClear_48 : decode cX3_staysClear 48 = .ok (.iinc 3 1, 3) := dk_132 3 1 (dk_at dksX3_staysClear_2 1 rfl rfl)
theorem dX3_staysClear_51 : decode cX3_staysClear 51 = .ok (.goto (-35), 3) := dk_167 255 221 (dk_at dksX3_staysClear_2 4 rfl rfl)
theorem dX3_staysClear_54 : decode cX3_staysClear 54 = .ok (.aload_n 0, 1) := dk_42 (dk_at dksX3_staysClear_2 7 rfl rfl)
theorem dX3_staysClear_55 : decode cX3_staysClear 55 = .ok (.invokevirtual 192, 3) := dk_182 0 192 (dk_at dksX3_staysClear_2 8 rfl rfl)
theorem dX3_staysClear_58 : decode cX3_staysClear 58 = .ok (.iload_n 2, 1) := dk_28 (dk_at dksX3_staysClear_2 11 rfl rfl)
theorem dX3_staysClear_59 : decode cX3_staysClear 59 = .ok (.ireturn, 1) := dk_172 (dk_at dksX3_staysClear_2 12 rfl rfl)
abbrev cX3_line : ByteArray := prog_31_method_73_code
def yX3_line : MethodName := ⟨RX3, "line", "(I)I"⟩
def dkwX3_line_4 : List UInt8 := [42, 16, 33, 182, 0, 201, 132, 2, 1, 167, 255, 204, 42, 180, 0, 198, 172]
abbrev dktX3_line_4 : List UInt8 := dkwX3_line_4 ++ []
def dkwX3_line_3 : List UInt8 := [28, 182, 0, 97, 182, 0, 204, 28, 42, 27, 182, 0, 162, 160, 0, 17, 42, 27, 182, 0, 165, 153, 0, 9]
abbrev dktX3_line_3 : List UInt8 := dkwX3_line_3 ++ dktX3_line_4
def dkwX3_line_2 : List UInt8 := [182, 0, 204, 3, 61, 28, 42, 27, 5, 182, 0, 72, 162, 0, 48, 42, 16, 32, 182, 0, 201, 42, 42, 27]
abbrev dktX3_line_2 : List UInt8 := dkwX3_line_2 ++ dktX3_line_3
def dkwX3_line_1 : List UInt8 := [42, 42, 27, 4, 182, 0, 72, 182, 0, 204, 42, 16, 47, 182, 0, 201, 42, 42, 27, 3, 182, 0, 72]
abbrev dktX3_line_1 : List UInt8 := dkwX3_line_1 ++ dktX3_line_2
def dkwX3_line_0 : List UInt8 := [42, 3, 181, 0, 32, 42, 27, 182, 0, 82, 154, 0, 9, 42, 4, 182, 0, 42, 172, 42, 3, 181, 0, 198]
abbrev dktX3_line_0 : List UInt8 := dkwX3_line_0 ++ dktX3_line_1
theorem dksX3_line_0 : cX3_line.data.toList.drop 0 = dktX3_line_0 := by decide +kernel
theorem dksX3_line_1 : cX3_line.data.toList.drop 24 = dktX3_line_1 := dk_seg dksX3_line_0 24 rfl rfl
theorem dksX3_line_2 : cX3_line.data.toList.drop 47 = dktX3_line_2 := dk_seg dksX3_line_1 23 rfl rfl
theorem dksX3_line_3 : cX3_line.data.toList.drop 71 = dktX3_line_3 := dk_seg dksX3_line_2 24 rfl rfl
theorem dksX3_line_4 : cX3_line.data.toList.drop 95 = dktX3_line_4 := dk_seg dksX3_line_3 24 rfl rfl
theorem dX3_line_0 : decode cX3_line 0 = .ok (.aload_n 0, 1) := dk_42 (dk_at dksX3_line_0 0 rfl rfl)
theorem dX3_line_1 : decode cX3_line 1 = .ok (.iconst 0, 1) := dk_3 (dk_at dksX3_line_0 1 rfl rfl)
theorem dX3_line_2 : decode cX3_line 2 = .ok (.putfield 32, 3) := dk_181 0 32 (dk_at dksX3_line_0 2 rfl rfl)
theorem dX3_line_5 : decode cX3_line 5 = .ok (.aload_n 0, 1) := dk_42 (dk_at dksX3_line_0 5 rfl rfl)
theorem dX3_line_6 : decode cX3_line 6 = .ok (.iload_n 1, 1) := dk_27 (dk_at dksX3_line_0 6 rfl rfl)
theorem dX3_line_7 : decode cX3_line 7 = .ok (.invokevirtual 82, 3) := dk_182 0 82 (dk_at dksX3_line_0 7 rfl rfl)
theorem dX3_line_10 : decode cX3_line 10 = .ok (.ifCond .ne 9, 3) := dk_154 0 9 (dk_at dksX3_line_0 10 rfl rfl)
theorem dX3_line_13 : decode cX3_line 13 = .ok (.aload_n 0, 1) := dk_42 (dk_at dksX3_line_0 13 rfl rfl)
theorem dX3_line_14 : decode cX3_line 14 = .ok (.iconst 1, 1) := dk_4 (dk_at dksX3_line_0 14 rfl rfl)
theorem dX3_line_15 : decode cX3_line 15 = .ok (.invokevirtual 42, 3) := dk_182 0 42 (dk_at dksX3_line_0 15 rfl rfl)
theorem dX3_line_18 : decode cX3_line 18 = .ok (.ireturn, 1) := dk_172 (dk_at dksX3_line_0 18 rfl rfl)
theorem dX3_line_19 : decode cX3_line 19 = .ok (.aload_n 0, 1) := dk_42 (dk_at dksX3_line_0 19 rfl rfl)
theorem dX3_line_20 : decode cX3_line 20 = .ok (.iconst 0, 1) := dk_3 (dk_at dksX3_line_0 20 rfl rfl)
theorem dX3_line_21 : decode cX3_line 21 = .ok (.putfield 198, 3) := dk_181 0 198 (dk_at dksX3_line_0 21 rfl rfl)
theorem dX3_line_24 : decode cX3_line 24 = .ok (.aload_n 0, 1) := dk_42 (dk_at dksX3_line_1 0 rfl rfl)
theorem dX3_line_25 : decode cX3_line 25 = .ok (.aload_n 0, 1) := dk_42 (dk_at dksX3_line_1 1 rfl rfl)
theorem dX3_line_26 : decode cX3_line 26 = .ok (.iload_n 1, 1) := dk_27 (dk_at dksX3_line_1 2 rfl rfl)
theorem dX3_line_27 : decode cX3_line 27 = .ok (.iconst 1, 1) := dk_4 (dk_at dksX3_line_1 3 rfl rfl)
theorem dX3_line_28 : decode cX3_line 28 = .ok (.invokevirtual 72, 3) := dk_182 0 72 (dk_at dksX3_line_1 4 rfl rfl)
theorem dX3_line_31 : decode cX3_line 31 = .ok (.invokevirtual 204, 3) := dk_182 0 204 (dk_at dksX3_line_1 7 rfl rfl)
theorem dX3_line_34 : decode cX3_line 34 = .ok (.aload_n 0, 1) := dk_42 (dk_at dksX3_line_1 10 rfl rfl)
theorem dX3_line_35 : decode cX3_line 35 = .ok (.bipush 47, 2) := dk_16 47 (dk_at dksX3_line_1 11 rfl rfl)
theorem dX3_line_37 : decode cX3_line 37 = .ok (.invokevirtual 201, 3) := dk_182 0 201 (dk_at dksX3_line_1 13 rfl rfl)
theorem dX3_line_40 : decode cX3_line 40 = .ok (.aload_n 0, 1) := dk_42 (dk_at dksX3_line_1 16 rfl rfl)
theorem dX3_line_41 : decode cX3_line 41 = .ok (.aload_n 0, 1) := dk_42 (dk_at dksX3_line_1 17 rfl rfl)
theorem dX3_line_42 : decode cX3_line 42 = .ok (.iload_n 1, 1) := dk_27 (dk_at dksX3_line_1 18 rfl rfl)
theorem dX3_line_43 : decode cX3_line 43 = .ok (.iconst 0, 1) := dk_3 (dk_at dksX3_line_1 19 rfl rfl)
theorem dX3_line_44 : decode cX3_line 44 = .ok (.invokevirtual 72, 3) := dk_182 0 72 (dk_at dksX3_line_1 20 rfl rfl)
theorem dX3_line_47 : decode cX3_line 47 = .ok (.invokevirtual 204, 3) := dk_182 0 204 (dk_at dksX3_line_2 0 rfl rfl)
theorem dX3_line_50 : decode cX3_line 50 = .ok (.iconst 0, 1) := dk_3 (dk_at dksX3_line_2 3 rfl rfl)
theorem dX3_line_51 : decode cX3_line 51 = .ok (.istore_n 2, 1) := dk_61 (dk_at dksX3_line_2 4 rfl rfl)
theorem dX3_line_52 : decode cX3_line 52 = .ok (.iload_n 2, 1) := dk_28 (dk_at dksX3_line_2 5 rfl rfl)
theorem dX3_line_53 : decode cX3_line 53 = .ok (.aload_n 0, 1) := dk_42 (dk_at dksX3_line_2 6 rfl rfl)
theorem dX3_line_54 : decode cX3_line 54 = .ok (.iload_n 1, 1) := dk_27 (dk_at dksX3_line_2 7 rfl rfl)
theorem dX3_line_55 : decode cX3_line 55 = .ok (.iconst 2, 1) := dk_5 (dk_at dksX3_line_2 8 rfl rfl)
theorem dX3_line_56 : decode cX3_line 56 = .ok (.invokevirtual 72, 3) := dk_182 0 72 (dk_at dksX3_line_2 9 rfl rfl)
theorem dX3_line_59 : decode cX3_line 59 = .ok (.if_icmp .ge 48, 3) := dk_162 0 48 (dk_at dksX3_line_2 12 rfl rfl)
theorem dX3_line_62 : decode cX3_line 62 = .ok (.aload_n 0, 1) := dk_42 (dk_at dksX3_line_2 15 rfl rfl)
theorem dX3_line_63 : decode cX3_line 63 = .ok (.bipush 32, 2) := dk_16 32 (dk_at dksX3_line_2 16 rfl rfl)
theorem dX3_line_65 : decode cX3_line 65 = .ok (.invokevirtual 201, 3) := dk_182 0 201 (dk_at dksX3_line_2 18 rfl rfl)
theorem dX3_line_68 : decode cX3_line 68 = .ok (.aload_n 0, 1) := dk_42 (dk_at dksX3_line_2 21 rfl rfl)
theorem dX3_line_69 : decode cX3_line 69 = .ok (.aload_n 0, 1) := dk_42 (dk_at dksX3_line_2 22 rfl rfl)
theorem dX3_line_70 : decode cX3_line 70 = .ok (.iload_n 1, 1) := dk_27 (dk_at dksX3_line_2 23 rfl rfl)
theorem dX3_line_71 : decode cX3_line 71 = .ok (.iload_n 2, 1) := dk_28 (dk_at dksX3_line_3 0 rfl rfl)
theorem dX3_line_72 : decode cX3_line 72 = .ok (.invokevirtual 97, 3) := dk_182 0 97 (dk_at dksX3_line_3 1 rfl rfl)
theorem dX3_line_75 : decode cX3_line 75 = .ok (.invokevirtual 204, 3) := dk_182 0 204 (dk_at dksX3_line_3 4 rfl rfl)
theorem dX3_line_78 : decode cX3_line 78 = .ok (.iload_n 2, 1) := dk_28 (dk_at dksX3_line_3 7 rfl rfl)
theorem dX3_line_79 : decode cX3_line 79 = .ok (.aload_n 0, 1) := dk_42 (dk_at dksX3_line_3 8 rfl rfl)
theorem dX3_line_80 : decode cX3_line 80 = .ok (.iload_n 1, 1) := dk_27 (dk_at dksX3_line_3 9 rfl rfl)
theorem dX3_line_81 : decode cX3_line 81 = .ok (.invokevirtual 162, 3) := dk_182 0 162 (dk_at dksX3_line_3 10 rfl rfl)
theorem dX3_line_84 : decode cX3_line 84 = .ok (.if_icmp .ne 17, 3) := dk_160 0 17 (dk_at dksX3_line_3 13 rfl rfl)
theorem dX3_line_87 : decode cX3_line 87 = .ok (.aload_n 0, 1) := dk_42 (dk_at dksX3_line_3 16 rfl rfl)
theorem dX3_line_88 : decode cX3_line 88 = .ok (.iload_n 1, 1) := dk_27 (dk_at dksX3_line_3 17 rfl rfl)
theorem dX3_line_89 : decode cX3_line 89 = .ok (.invokevirtual 165, 3) := dk_182 0 165 (dk_at dksX3_line_3 18 rfl rfl)
theorem dX3_line_92 : decode cX3_line 92 = .ok (.ifCond .eq 9, 3) := dk_153 0 9 (dk_at dksX3_line_3 21 rfl rfl)
theorem dX3_line_95 : decode cX3_line 95 = .ok (.aload_n 0, 1) := dk_42 (dk_at dksX3_line_4 0 rfl rfl)
theorem dX3_line_96 : decode cX3_line 96 = .ok (.bipush 33, 2) := dk_16 33 (dk_at dksX3_line_4 1 rfl rfl)
theorem dX3_line_98 : decode cX3_line 98 = .ok (.invokevirtual 201, 3) := dk_182 0 201 (dk_at dksX3_line_4 3 rfl rfl)
theorem dX3_line_101 : decode cX3_line 101 = .ok (.iinc 2 1, 3) := dk_132 2 1 (dk_at dksX3_line_4 6 rfl rfl)
theorem dX3_line_104 : decode cX3_line 104 = .ok (.goto (-52), 3) := dk_167 255 204 (dk_at dksX3_line_4 9 rfl rfl)
theorem dX3_line_107 : decode cX3_line 107 = .ok (.aload_n 0, 1) := dk_42 (dk_at dksX3_line_4 12 rfl rfl)
theorem dX3_line_108 : decode cX3_line 108 = .ok (.getfield 198, 3) := dk_180 0 198 (dk_at dksX3_line_4 13 rfl rfl)
theorem dX3_line_111 : decode cX3_line 111 = .ok (.ireturn, 1) := dk_172 (dk_at dksX3_line_4 16 rfl rfl)
abbrev cX3_putsNumber : ByteArray := prog_31_method_72_code
def yX3_putsNumber : MethodName := ⟨RX3, "putsNumber", "(I)V"⟩
def dkwX3_putsNumber_1 : List UInt8 := [96, 182, 0, 201, 177]
abbrev dktX3_putsNumber_1 : List UInt8 := dkwX3_putsNumber_1 ++ []
def dkwX3_putsNumber_0 : List UInt8 := [27, 16, 9, 164, 0, 14, 42, 16, 48, 27, 16, 10, 108, 96, 182, 0, 201, 42, 16, 48, 27, 16, 10, 112]
abbrev dktX3_putsNumber_0 : List UInt8 := dkwX3_putsNumber_0 ++ dktX3_putsNumber_1
theorem dksX3_putsNumber_0 : cX3_putsNumber.data.toList.drop 0 = dktX3_putsNumber_0 := by decide +kernel
theorem dksX3_putsNumber_1 : cX3_putsNumber.data.toList.drop 24 = dktX3_putsNumber_1 := dk_seg dksX3_putsNumber_0 24 rfl rfl
theorem dX3_putsNumber_0 : decode cX3_putsNumber 0 = .ok (.iload_n 1, 1) := dk_27 (dk_at dksX3_putsNumber_0 0 rfl rfl)
theorem dX3_putsNumber_1 : decode cX3_putsNumber 1 = .ok (.bipush 9, 2) := dk_16 9 (dk_at dksX3_putsNumber_0 1 rfl rfl)
theorem dX3_putsNumber_3 : decode cX3_putsNumber 3 = .ok (.if_icmp .le 14, 3) := dk_164 0 14 (dk_at dksX3_putsNumber_0 3 rfl rfl)
theorem dX3_putsNumber_6 : decode cX3_putsNumber 6 = .ok (.aload_n 0, 1) := dk_42 (dk_at dksX3_putsNumber_0 6 rfl rfl)
theorem dX3_putsNumber_7 : decode cX3_putsNumber 7 = .ok (.bipush 48, 2) := dk_16 48 (dk_at dksX3_putsNumber_0 7 rfl rfl)
theorem dX3_putsNumber_9 : decode cX3_putsNumber 9 = .ok (.iload_n 1, 1) := dk_27 (dk_at dksX3_putsNumber_0 9 rfl rfl)
theorem dX3_putsNumber_10 : decode cX3_putsNumber 10 = .ok (.bipush 10, 2) := dk_16 10 (dk_at dksX3_putsNumber_0 10 rfl rfl)
theorem dX3_putsNumber_12 : decode cX3_putsNumber 12 = .ok (.idiv, 1) := dk_108 (dk_at dksX3_putsNumber_0 12 rfl rfl)
theorem dX3_putsNumber_13 : decode cX3_putsNumber 13 = .ok (.iadd, 1) := dk_96 (dk_at dksX3_putsNumber_0 13 rfl rfl)
theorem dX3_putsNumber_14 : decode cX3_putsNumber 14 = .ok (.invokevirtual 201, 3) := dk_182 0 201 (dk_at dksX3_putsNumber_0 14 rfl rfl)
theorem dX3_putsNumber_17 : decode cX3_putsNumber 17 = .ok (.aload_n 0, 1) := dk_42 (dk_at dksX3_putsNumber_0 17 rfl rfl)
theorem dX3_putsNumber_18 : decode cX3_putsNumber 18 = .ok (.bipush 48, 2) := dk_16 48 (dk_at dksX3_putsNumber_0 18 rfl rfl)
theorem dX3_putsNumber_20 : decode cX3_putsNumber 20 = .ok (.iload_n 1, 1) := dk_27 (dk_at dksX3_putsNumber_0 20 rfl rfl)
theorem dX3_putsNumber_21 : decode cX3_putsNumber 21 = .ok (.bipush 10, 2) := dk_16 10 (dk_at dksX3_putsNumber_0 21 rfl rfl)
theorem dX3_putsNumber_23 : decode cX3_putsNumber 23 = .ok (.irem, 1) := dk_112 (dk_at dksX3_putsNumber_0 23 rfl rfl)
theorem dX3_putsNumber_24 : decode cX3_putsNumber 24 = .ok (.iadd, 1) := dk_96 (dk_at dksX3_putsNumber_1 0 rfl rfl)
theorem dX3_putsNumber_25 : decode cX3_putsNumber 25 = .ok (.invokevirtual 201, 3) := dk_182 0 201 (dk_at dksX3_putsNumber_1 1 rfl rfl)
theorem dX3_putsNumber_28 : decode cX3_putsNumber 28 = .ok (.return_, 1) := dk_177 (dk_at dksX3_putsNumber_1 4 rfl rfl)
abbrev cX3_puts : ByteArray := prog_31_method_71_code
def yX3_puts : MethodName := ⟨RX3, "puts", "(I)V"⟩
def dkwX3_puts_0 : List UInt8 := [42, 180, 0, 22, 42, 180, 0, 198, 27, 146, 85, 42, 89, 180, 0, 198, 4, 96, 181, 0, 198, 177]
abbrev dktX3_puts_0 : List UInt8 := dkwX3_puts_0 ++ []
theorem dksX3_puts_0 : cX3_puts.data.toList.drop 0 = dktX3_puts_0 := by decide +kernel
theorem dX3_puts_0 : decode cX3_puts 0 = .ok (.aload_n 0, 1) := dk_42 (dk_at dksX3_puts_0 0 rfl rfl)
theorem dX3_puts_1 : decode cX3_puts 1 = .ok (.getfield 22, 3) := dk_180 0 22 (dk_at dksX3_puts_0 1 rfl rfl)
theorem dX3_puts_4 : decode cX3_puts 4 = .ok (.aload_n 0, 1) := dk_42 (dk_at dksX3_puts_0 4 rfl rfl)
theorem dX3_puts_5 : decode cX3_puts 5 = .ok (.getfield 198, 3) := dk_180 0 198 (dk_at dksX3_puts_0 5 rfl rfl)
theorem dX3_puts_8 : decode cX3_puts 8 = .ok (.iload_n 1, 1) := dk_27 (dk_at dksX3_puts_0 8 rfl rfl)
theorem dX3_puts_9 : decode cX3_puts 9 = .ok (.i2c, 1) := dk_146 (dk_at dksX3_puts_0 9 rfl rfl)
theorem dX3_puts_10 : decode cX3_puts 10 = .ok (.castore, 1) := dk_85 (dk_at dksX3_puts_0 10 rfl rfl)
theorem dX3_puts_11 : decode cX3_puts 11 = .ok (.aload_n 0, 1) := dk_42 (dk_at dksX3_puts_0 11 rfl rfl)
theorem dX3_puts_12 : decode cX3_puts 12 = .ok (.dup, 1) := dk_89 (dk_at dksX3_puts_0 12 rfl rfl)
theorem dX3_puts_13 : decode cX3_puts 13 = .ok (.getfield 198, 3) := dk_180 0 198 (dk_at dksX3_puts_0 13 rfl rfl)
theorem dX3_puts_16 : decode cX3_puts 16 = .ok (.iconst 1, 1) := dk_4 (dk_at dksX3_puts_0 16 rfl rfl)
theorem dX3_puts_17 : decode cX3_puts 17 = .ok (.iadd, 1) := dk_96 (dk_at dksX3_puts_0 17 rfl rfl)
theorem dX3_puts_18 : decode cX3_puts 18 = .ok (.putfield 198, 3) := dk_181 0 198 (dk_at dksX3_puts_0 18 rfl rfl)
theorem dX3_puts_21 : decode cX3_puts 21 = .ok (.return_, 1) := dk_177 (dk_at dksX3_puts_0 21 rfl rfl)
abbrev cX3_character : ByteArray := prog_31_method_74_code
def yX3_character : MethodName := ⟨RX3, "character", "(I)C"⟩
def dkwX3_character_1 : List UInt8 := [52, 167, 0, 9, 42, 4, 182, 0, 42, 146, 172]
abbrev dktX3_character_1 : List UInt8 := dkwX3_character_1 ++ []
def dkwX3_character_0 : List UInt8 := [42, 3, 181, 0, 32, 27, 3, 42, 180, 0, 198, 4, 100, 184, 0, 68, 153, 0, 12, 42, 180, 0, 22, 27]
abbrev dktX3_character_0 : List UInt8 := dkwX3_character_0 ++ dktX3_character_1
theorem dksX3_character_0 : cX3_character.data.toList.drop 0 = dktX3_character_0 := by decide +kernel
theorem dksX3_character_1 : cX3_character.data.toList.drop 24 = dktX3_character_1 := dk_seg dksX3_character_0 24 rfl rfl
theorem dX3_character_0 : decode cX3_character 0 = .ok (.aload_n 0, 1) := dk_42 (dk_at dksX3_character_0 0 rfl rfl)
theorem dX3_character_1 : decode cX3_character 1 = .ok (.iconst 0, 1) := dk_3 (dk_at dksX3_character_0 1 rfl rfl)
theorem dX3_character_2 : decode cX3_character 2 = .ok (.putfield 32, 3) := dk_181 0 32 (dk_at dksX3_character_0 2 rfl rfl)
theorem dX3_character_5 : decode cX3_character 5 = .ok (.iload_n 1, 1) := dk_27 (dk_at dksX3_character_0 5 rfl rfl)
theorem dX3_character_6 : decode cX3_character 6 = .ok (.iconst 0, 1) := dk_3 (dk_at dksX3_character_0 6 rfl rfl)
theorem dX3_character_7 : decode cX3_character 7 = .ok (.aload_n 0, 1) := dk_42 (dk_at dksX3_character_0 7 rfl rfl)
theorem dX3_character_8 : decode cX3_character 8 = .ok (.getfield 198, 3) := dk_180 0 198 (dk_at dksX3_character_0 8 rfl rfl)
theorem dX3_character_11 : decode cX3_character 11 = .ok (.iconst 1, 1) := dk_4 (dk_at dksX3_character_0 11 rfl rfl)
theorem dX3_character_12 : decode cX3_character 12 = .ok (.isub, 1) := dk_100 (dk_at dksX3_character_0 12 rfl rfl)
theorem dX3_character_13 : decode cX3_character 13 = .ok (.invokestatic 68, 3) := dk_184 0 68 (dk_at dksX3_character_0 13 rfl rfl)
theorem dX3_character_16 : decode cX3_character 16 = .ok (.ifCond .eq 12, 3) := dk_153 0 12 (dk_at dksX3_character_0 16 rfl rfl)
theorem dX3_character_19 : decode cX3_character 19 = .ok (.aload_n 0, 1) := dk_42 (dk_at dksX3_character_0 19 rfl rfl)
theorem dX3_character_20 : decode cX3_character 20 = .ok (.getfield 22, 3) := dk_180 0 22 (dk_at dksX3_character_0 20 rfl rfl)
theorem dX3_character_23 : decode cX3_character 23 = .ok (.iload_n 1, 1) := dk_27 (dk_at dksX3_character_0 23 rfl rfl)
theorem dX3_character_24 : decode cX3_character 24 = .ok (.caload, 1) := dk_52 (dk_at dksX3_character_1 0 rfl rfl)
theorem dX3_character_25 : decode cX3_character 25 = .ok (.goto 9, 3) := dk_167 0 9 (dk_at dksX3_character_1 1 rfl rfl)
theorem dX3_character_28 : decode cX3_character 28 = .ok (.aload_n 0, 1) := dk_42 (dk_at dksX3_character_1 4 rfl rfl)
theorem dX3_character_29 : decode cX3_character 29 = .ok (.iconst 1, 1) := dk_4 (dk_at dksX3_character_1 5 rfl rfl)
theorem dX3_character_30 : decode cX3_character 30 = .ok (.invokevirtual 42, 3) := dk_182 0 42 (dk_at dksX3_character_1 6 rfl rfl)
theorem dX3_character_33 : decode cX3_character 33 = .ok (.i2c, 1) := dk_146 (dk_at dksX3_character_1 9 rfl rfl)
theorem dX3_character_34 : decode cX3_character 34 = .ok (.ireturn, 1) := dk_172 (dk_at dksX3_character_1 10 rfl rfl)
abbrev cX3_dripsAgain : ByteArray := prog_31_method_78_code
def yX3_dripsAgain : MethodName := ⟨RX3, "dripsAgain", "()I"⟩
def dkwX3_dripsAgain_1 : List UInt8 := [96, 172]
abbrev dktX3_dripsAgain_1 : List UInt8 := dkwX3_dripsAgain_1 ++ []
def dkwX3_dripsAgain_0 : List UInt8 := [42, 3, 181, 0, 32, 42, 182, 0, 207, 42, 180, 0, 7, 16, 10, 46, 96, 42, 180, 0, 7, 16, 11, 46]
abbrev dktX3_dripsAgain_0 : List UInt8 := dkwX3_dripsAgain_0 ++ dktX3_dripsAgain_1
theorem dksX3_dripsAgain_0 : cX3_dripsAgain.data.toList.drop 0 = dktX3_dripsAgain_0 := by decide +kernel
theorem dksX3_dripsAgain_1 : cX3_dripsAgain.data.toList.drop 24 = dktX3_dripsAgain_1 := dk_seg dksX3_dripsAgain_0 24 rfl rfl
theorem dX3_dripsAgain_0 : decode cX3_dripsAgain 0 = .ok (.aload_n 0, 1) := dk_42 (dk_at dksX3_dripsAgain_0 0 rfl rfl)
theorem dX3_dripsAgain_1 : decode cX3_dripsAgain 1 = .ok (.iconst 0, 1) := dk_3 (dk_at dksX3_dripsAgain_0 1 rfl rfl)
theorem dX3_dripsAgain_2 : decode cX3_dripsAgain 2 = .ok (.putfield 32, 3) := dk_181 0 32 (dk_at dksX3_dripsAgain_0 2 rfl rfl)
theorem dX3_dripsAgain_5 : decode cX3_dripsAgain 5 = .ok (.aload_n 0, 1) := dk_42 (dk_at dksX3_dripsAgain_0 5 rfl rfl)
theorem dX3_dripsAgain_6 : decode cX3_dripsAgain 6 = .ok (.invokevirtual 207, 3) := dk_182 0 207 (dk_at dksX3_dripsAgain_0 6 rfl rfl)
theorem dX3_dripsAgain_9 : decode cX3_dripsAgain 9 = .ok (.aload_n 0, 1) := dk_42 (dk_at dksX3_dripsAgain_0 9 rfl rfl)
theorem dX3_dripsAgain_10 : decode cX3_dripsAgain 10 = .ok (.getfield 7, 3) := dk_180 0 7 (dk_at dksX3_dripsAgain_0 10 rfl rfl)
theorem dX3_dripsAgain_13 : decode cX3_dripsAgain 13 = .ok (.bipush 10, 2) := dk_16 10 (dk_at dksX3_dripsAgain_0 13 rfl rfl)
theorem dX3_dripsAgain_15 : decode cX3_dripsAgain 15 = .ok (.iaload, 1) := dk_46 (dk_at dksX3_dripsAgain_0 15 rfl rfl)
theorem dX3_dripsAgain_16 : decode cX3_dripsAgain 16 = .ok (.iadd, 1) := dk_96 (dk_at dksX3_dripsAgain_0 16 rfl rfl)
theorem dX3_dripsAgain_17 : decode cX3_dripsAgain 17 = .ok (.aload_n 0, 1) := dk_42 (dk_at dksX3_dripsAgain_0 17 rfl rfl)
theorem dX3_dripsAgain_18 : decode cX3_dripsAgain 18 = .ok (.getfield 7, 3) := dk_180 0 7 (dk_at dksX3_dripsAgain_0 18 rfl rfl)
theorem dX3_dripsAgain_21 : decode cX3_dripsAgain 21 = .ok (.bipush 11, 2) := dk_16 11 (dk_at dksX3_dripsAgain_0 21 rfl rfl)
theorem dX3_dripsAgain_23 : decode cX3_dripsAgain 23 = .ok (.iaload, 1) := dk_46 (dk_at dksX3_dripsAgain_0 23 rfl rfl)
theorem dX3_dripsAgain_24 : decode cX3_dripsAgain 24 = .ok (.iadd, 1) := dk_96 (dk_at dksX3_dripsAgain_1 0 rfl rfl)
theorem dX3_dripsAgain_25 : decode cX3_dripsAgain 25 = .ok (.ireturn, 1) := dk_172 (dk_at dksX3_dripsAgain_1 1 rfl rfl)
abbrev cX3_waters : ByteArray := prog_31_method_75_code
def yX3_waters : MethodName := ⟨RX3, "waters", "()I"⟩
def dkwX3_waters_1 : List UInt8 := [132, 2, 1, 167, 255, 234, 27, 172]
abbrev dktX3_waters_1 : List UInt8 := dkwX3_waters_1 ++ []
def dkwX3_waters_0 : List UInt8 := [3, 60, 3, 61, 28, 42, 180, 0, 7, 4, 46, 162, 0, 18, 27, 42, 28, 4, 182, 0, 72, 96, 60]
abbrev dktX3_waters_0 : List UInt8 := dkwX3_waters_0 ++ dktX3_waters_1
theorem dksX3_waters_0 : cX3_waters.data.toList.drop 0 = dktX3_waters_0 := by decide +kernel
theorem dksX3_waters_1 : cX3_waters.data.toList.drop 23 = dktX3_waters_1 := dk_seg dksX3_waters_0 23 rfl rfl
theorem dX3_waters_0 : decode cX3_waters 0 = .ok (.iconst 0, 1) := dk_3 (dk_at dksX3_waters_0 0 rfl rfl)
theorem dX3_waters_1 : decode cX3_waters 1 = .ok (.istore_n 1, 1) := dk_60 (dk_at dksX3_waters_0 1 rfl rfl)
theorem dX3_waters_2 : decode cX3_waters 2 = .ok (.iconst 0, 1) := dk_3 (dk_at dksX3_waters_0 2 rfl rfl)
theorem dX3_waters_3 : decode cX3_waters 3 = .ok (.istore_n 2, 1) := dk_61 (dk_at dksX3_waters_0 3 rfl rfl)
theorem dX3_waters_4 : decode cX3_waters 4 = .ok (.iload_n 2, 1) := dk_28 (dk_at dksX3_waters_0 4 rfl rfl)
theorem dX3_waters_5 : decode cX3_waters 5 = .ok (.aload_n 0, 1) := dk_42 (dk_at dksX3_waters_0 5 rfl rfl)
theorem dX3_waters_6 : decode cX3_waters 6 = .ok (.getfield 7, 3) := dk_180 0 7 (dk_at dksX3_waters_0 6 rfl rfl)
theorem dX3_waters_9 : decode cX3_waters 9 = .ok (.iconst 1, 1) := dk_4 (dk_at dksX3_waters_0 9 rfl rfl)
theorem dX3_waters_10 : decode cX3_waters 10 = .ok (.iaload, 1) := dk_46 (dk_at dksX3_waters_0 10 rfl rfl)
theorem dX3_waters_11 : decode cX3_waters 11 = .ok (.if_icmp .ge 18, 3) := dk_162 0 18 (dk_at dksX3_waters_0 11 rfl rfl)
theorem dX3_waters_14 : decode cX3_waters 14 = .ok (.iload_n 1, 1) := dk_27 (dk_at dksX3_waters_0 14 rfl rfl)
theorem dX3_waters_15 : decode cX3_waters 15 = .ok (.aload_n 0, 1) := dk_42 (dk_at dksX3_waters_0 15 rfl rfl)
theorem dX3_waters_16 : decode cX3_waters 16 = .ok (.iload_n 2, 1) := dk_28 (dk_at dksX3_waters_0 16 rfl rfl)
theorem dX3_waters_17 : decode cX3_waters 17 = .ok (.iconst 1, 1) := dk_4 (dk_at dksX3_waters_0 17 rfl rfl)
theorem dX3_waters_18 : decode cX3_waters 18 = .ok (.invokevirtual 72, 3) := dk_182 0 72 (dk_at dksX3_waters_0 18 rfl rfl)
theorem dX3_waters_21 : decode cX3_waters 21 = .ok (.iadd, 1) := dk_96 (dk_at dksX3_waters_0 21 rfl rfl)
theorem dX3_waters_22 : decode cX3_waters 22 = .ok (.istore_n 1, 1) := dk_60 (dk_at dksX3_waters_0 22 rfl rfl)
theorem dX3_waters_23 : decode cX3_waters 23 = .ok (.iinc 2 1, 3) := dk_132 2 1 (dk_at dksX3_waters_1 0 rfl rfl)
theorem dX3_waters_26 : decode cX3_waters 26 = .ok (.goto (-22), 3) := dk_167 255 234 (dk_at dksX3_waters_1 3 rfl rfl)
theorem dX3_waters_29 : decode cX3_waters 29 = .ok (.iload_n 1, 1) := dk_27 (dk_at dksX3_waters_1 6 rfl rfl)
theorem dX3_waters_30 : decode cX3_waters 30 = .ok (.ireturn, 1) := dk_172 (dk_at dksX3_waters_1 7 rfl rfl)
abbrev cX3_isBalanced : ByteArray := prog_31_method_79_code
def yX3_isBalanced : MethodName := ⟨RX3, "isBalanced", "()Z"⟩
def dkwX3_isBalanced_2 : List UInt8 := [172]
abbrev dktX3_isBalanced_2 : List UInt8 := dkwX3_isBalanced_2 ++ []
def dkwX3_isBalanced_1 : List UInt8 := [16, 13, 46, 100, 42, 182, 0, 210, 42, 180, 0, 7, 16, 15, 46, 96, 160, 0, 7, 4, 167, 0, 4, 3]
abbrev dktX3_isBalanced_1 : List UInt8 := dkwX3_isBalanced_1 ++ dktX3_isBalanced_2
def dkwX3_isBalanced_0 : List UInt8 := [42, 3, 181, 0, 32, 42, 180, 0, 7, 16, 14, 46, 42, 180, 0, 7, 16, 12, 46, 96, 42, 180, 0, 7]
abbrev dktX3_isBalanced_0 : List UInt8 := dkwX3_isBalanced_0 ++ dktX3_isBalanced_1
theorem dksX3_isBalanced_0 : cX3_isBalanced.data.toList.drop 0 = dktX3_isBalanced_0 := by decide +kernel
theorem dksX3_isBalanced_1 : cX3_isBalanced.data.toList.drop 24 = dktX3_isBalanced_1 := dk_seg dksX3_isBalanced_0 24 rfl rfl
theorem dksX3_isBalanced_2 : cX3_isBalanced.data.toList.drop 48 = dktX3_isBalanced_2 := dk_seg dksX3_isBalanced_1 24 rfl rfl
theorem dX3_isBalanced_0 : decode cX3_isBalanced 0 = .ok (.aload_n 0, 1) := dk_42 (dk_at dksX3_isBalanced_0 0 rfl rfl)
theorem dX3_isBalanced_1 : decode cX3_isBalanced 1 = .ok (.iconst 0, 1) := dk_3 (dk_at dksX3_isBalanced_0 1 rfl rfl)
theorem dX3_isBalanced_2 : decode cX3_isBalanced 2 = .ok (.putfield 32, 3) := dk_181 0 32 (dk_at dksX3_isBalanced_0 2 rfl rfl)
theorem dX3_isBalanced_5 : decode cX3_isBalanced 5 = .ok (.aload_n 0, 1) := dk_42 (dk_at dksX3_isBalanced_0 5 rfl rfl)
theorem dX3_isBalanced_6 : decode cX3_isBalanced 6 = .ok (.getfield 7, 3) := dk_180 0 7 (dk_at dksX3_isBalanced_0 6 rfl rfl)
theorem dX3_isBalanced_9 : decode cX3_isBalanced 9 = .ok (.bipush 14, 2) := dk_16 14 (dk_at dksX3_isBalanced_0 9 rfl rfl)
theorem dX3_isBalanced_11 : decode cX3_isBalanced 11 = .ok (.iaload, 1) := dk_46 (dk_at dksX3_isBalanced_0 11 rfl rfl)
theorem dX3_isBalanced_12 : decode cX3_isBalanced 12 = .ok (.aload_n 0, 1) := dk_42 (dk_at dksX3_isBalanced_0 12 rfl rfl)
theorem dX3_isBalanced_13 : decode cX3_isBalanced 13 = .ok (.getfield 7, 3) := dk_180 0 7 (dk_at dksX3_isBalanced_0 13 rfl rfl)
theorem dX3_isBalanced_16 : decode cX3_isBalanced 16 = .ok (.bipush 12, 2) := dk_16 12 (dk_at dksX3_isBalanced_0 16 rfl rfl)
theorem dX3_isBalanced_18 : decode cX3_isBalanced 18 = .ok (.iaload, 1) := dk_46 (dk_at dksX3_isBalanced_0 18 rfl rfl)
theorem dX3_isBalanced_19 : decode cX3_isBalanced 19 = .ok (.iadd, 1) := dk_96 (dk_at dksX3_isBalanced_0 19 rfl rfl)
theorem dX3_isBalanced_20 : decode cX3_isBalanced 20 = .ok (.aload_n 0, 1) := dk_42 (dk_at dksX3_isBalanced_0 20 rfl rfl)
theorem dX3_isBalanced_21 : decode cX3_isBalanced 21 = .ok (.getfield 7, 3) := dk_180 0 7 (dk_at dksX3_isBalanced_0 21 rfl rfl)
theorem dX3_isBalanced_24 : decode cX3_isBalanced 24 = .ok (.bipush 13, 2) := dk_16 13 (dk_at dksX3_isBalanced_1 0 rfl rfl)
theorem dX3_isBalanced_26 : decode cX3_isBalanced 26 = .ok (.iaload, 1) := dk_46 (dk_at dksX3_isBalanced_1 2 rfl rfl)
theorem dX3_isBalanced_27 : decode cX3_isBalanced 27 = .ok (.isub, 1) := dk_100 (dk_at dksX3_isBalanced_1 3 rfl rfl)
theorem dX3_isBalanced_28 : decode cX3_isBalanced 28 = .ok (.aload_n 0, 1) := dk_42 (dk_at dksX3_isBalanced_1 4 rfl rfl)
theorem dX3_isBalanced_29 : decode cX3_isBalanced 29 = .ok (.invokevirtual 210, 3) := dk_182 0 210 (dk_at dksX3_isBalanced_1 5 rfl rfl)
theorem dX3_isBalanced_32 : decode cX3_isBalanced 32 = .ok (.aload_n 0, 1) := dk_42 (dk_at dksX3_isBalanced_1 8 rfl rfl)
theorem dX3_isBalanced_33 : decode cX3_isBalanced 33 = .ok (.getfield 7, 3) := dk_180 0 7 (dk_at dksX3_isBalanced_1 9 rfl rfl)
theorem dX3_isBalanced_36 : decode cX3_isBalanced 36 = .ok (.bipush 15, 2) := dk_16 15 (dk_at dksX3_isBalanced_1 12 rfl rfl)
theorem dX3_isBalanced_38 : decode cX3_isBalanced 38 = .ok (.iaload, 1) := dk_46 (dk_at dksX3_isBalanced_1 14 rfl rfl)
theorem dX3_isBalanced_39 : decode cX3_isBalanced 39 = .ok (.iadd, 1) := dk_96 (dk_at dksX3_isBalanced_1 15 rfl rfl)
theorem dX3_isBalanced_40 : decode cX3_isBalanced 40 = .ok (.if_icmp .ne 7, 3) := dk_160 0 7 (dk_at dksX3_isBalanced_1 16 rfl rfl)
theorem dX3_isBalanced_43 : decode cX3_isBalanced 43 = .ok (.iconst 1, 1) := dk_4 (dk_at dksX3_isBalanced_1 19 rfl rfl)
theorem dX3_isBalanced_44 : decode cX3_isBalanced 44 = .ok (.goto 4, 3) := dk_167 0 4 (dk_at dksX3_isBalanced_1 20 rfl rfl)
theorem dX3_isBalanced_47 : decode cX3_isBalanced 47 = .ok (.iconst 0, 1) := dk_3 (dk_at dksX3_isBalanced_1 23 rfl rfl)
theorem dX3_isBalanced_48 : decode cX3_isBalanced 48 = .ok (.ireturn, 1) := dk_172 (dk_at dksX3_isBalanced_2 0 rfl rfl)
abbrev cX3_sizes : ByteArray := prog_31_method_77_code
def yX3_sizes : MethodName := ⟨RX3, "sizes", "()I"⟩
def dkwX3_sizes_2 : List UInt8 := [27, 172]
abbrev dktX3_sizes_2 : List UInt8 := dkwX3_sizes_2 ++ []
def dkwX3_sizes_1 : List UInt8 := [162, 0, 18, 27, 42, 28, 29, 182, 0, 97, 96, 60, 132, 3, 1, 167, 255, 234, 132, 2, 1, 167, 255, 216]
abbrev dktX3_sizes_1 : List UInt8 := dkwX3_sizes_1 ++ dktX3_sizes_2
def dkwX3_sizes_0 : List UInt8 := [3, 60, 3, 61, 28, 42, 180, 0, 7, 4, 46, 162, 0, 36, 3, 62, 29, 42, 28, 5, 182, 0, 72]
abbrev dktX3_sizes_0 : List UInt8 := dkwX3_sizes_0 ++ dktX3_sizes_1
theorem dksX3_sizes_0 : cX3_sizes.data.toList.drop 0 = dktX3_sizes_0 := by decide +kernel
theorem dksX3_sizes_1 : cX3_sizes.data.toList.drop 23 = dktX3_sizes_1 := dk_seg dksX3_sizes_0 23 rfl rfl
theorem dksX3_sizes_2 : cX3_sizes.data.toList.drop 47 = dktX3_sizes_2 := dk_seg dksX3_sizes_1 24 rfl rfl
theorem dX3_sizes_0 : decode cX3_sizes 0 = .ok (.iconst 0, 1) := dk_3 (dk_at dksX3_sizes_0 0 rfl rfl)
theorem dX3_sizes_1 : decode cX3_sizes 1 = .ok (.istore_n 1, 1) := dk_60 (dk_at dksX3_sizes_0 1 rfl rfl)
theorem dX3_sizes_2 : decode cX3_sizes 2 = .ok (.iconst 0, 1) := dk_3 (dk_at dksX3_sizes_0 2 rfl rfl)
theorem dX3_sizes_3 : decode cX3_sizes 3 = .ok (.istore_n 2, 1) := dk_61 (dk_at dksX3_sizes_0 3 rfl rfl)
theorem dX3_sizes_4 : decode cX3_sizes 4 = .ok (.iload_n 2, 1) := dk_28 (dk_at dksX3_sizes_0 4 rfl rfl)
theorem dX3_sizes_5 : decode cX3_sizes 5 = .ok (.aload_n 0, 1) := dk_42 (dk_at dksX3_sizes_0 5 rfl rfl)
theorem dX3_sizes_6 : decode cX3_sizes 6 = .ok (.getfield 7, 3) := dk_180 0 7 (dk_at dksX3_sizes_0 6 rfl rfl)
theorem dX3_sizes_9 : decode cX3_sizes 9 = .ok (.iconst 1, 1) := dk_4 (dk_at dksX3_sizes_0 9 rfl rfl)
theorem dX3_sizes_10 : decode cX3_sizes 10 = .ok (.iaload, 1) := dk_46 (dk_at dksX3_sizes_0 10 rfl rfl)
theorem dX3_sizes_11 : decode cX3_sizes 11 = .ok (.if_icmp .ge 36, 3) := dk_162 0 36 (dk_at dksX3_sizes_0 11 rfl rfl)
theorem dX3_sizes_14 : decode cX3_sizes 14 = .ok (.iconst 0, 1) := dk_3 (dk_at dksX3_sizes_0 14 rfl rfl)
theorem dX3_sizes_15 : decode cX3_sizes 15 = .ok (.istore_n 3, 1) := dk_62 (dk_at dksX3_sizes_0 15 rfl rfl)
theorem dX3_sizes_16 : decode cX3_sizes 16 = .ok (.iload_n 3, 1) := dk_29 (dk_at dksX3_sizes_0 16 rfl rfl)
theorem dX3_sizes_17 : decode cX3_sizes 17 = .ok (.aload_n 0, 1) := dk_42 (dk_at dksX3_sizes_0 17 rfl rfl)
theorem dX3_sizes_18 : decode cX3_sizes 18 = .ok (.iload_n 2, 1) := dk_28 (dk_at dksX3_sizes_0 18 rfl rfl)
theorem dX3_sizes_19 : decode cX3_sizes 19 = .ok (.iconst 2, 1) := dk_5 (dk_at dksX3_sizes_0 19 rfl rfl)
theorem dX3_sizes_20 : decode cX3_sizes 20 = .ok (.invokevirtual 72, 3) := dk_182 0 72 (dk_at dksX3_sizes_0 20 rfl rfl)
theorem dX3_sizes_23 : decode cX3_sizes 23 = .ok (.if_icmp .ge 18, 3) := dk_162 0 18 (dk_at dksX3_sizes_1 0 rfl rfl)
theorem dX3_sizes_26 : decode cX3_sizes 26 = .ok (.iload_n 1, 1) := dk_27 (dk_at dksX3_sizes_1 3 rfl rfl)
theorem dX3_sizes_27 : decode cX3_sizes 27 = .ok (.aload_n 0, 1) := dk_42 (dk_at dksX3_sizes_1 4 rfl rfl)
theorem dX3_sizes_28 : decode cX3_sizes 28 = .ok (.iload_n 2, 1) := dk_28 (dk_at dksX3_sizes_1 5 rfl rfl)
theorem dX3_sizes_29 : decode cX3_sizes 29 = .ok (.iload_n 3, 1) := dk_29 (dk_at dksX3_sizes_1 6 rfl rfl)
theorem dX3_sizes_30 : decode cX3_sizes 30 = .ok (.invokevirtual 97, 3) := dk_182 0 97 (dk_at dksX3_sizes_1 7 rfl rfl)
theorem dX3_sizes_33 : decode cX3_sizes 33 = .ok (.iadd, 1) := dk_96 (dk_at dksX3_sizes_1 10 rfl rfl)
theorem dX3_sizes_34 : decode cX3_sizes 34 = .ok (.istore_n 1, 1) := dk_60 (dk_at dksX3_sizes_1 11 rfl rfl)
theorem dX3_sizes_35 : decode cX3_sizes 35 = .ok (.iinc 3 1, 3) := dk_132 3 1 (dk_at dksX3_sizes_1 12 rfl rfl)
theorem dX3_sizes_38 : decode cX3_sizes 38 = .ok (.goto (-22), 3) := dk_167 255 234 (dk_at dksX3_sizes_1 15 rfl rfl)
theorem dX3_sizes_41 : decode cX3_sizes 41 = .ok (.iinc 2 1, 3) := dk_132 2 1 (dk_at dksX3_sizes_1 18 rfl rfl)
theorem dX3_sizes_44 : decode cX3_sizes 44 = .ok (.goto (-40), 3) := dk_167 255 216 (dk_at dksX3_sizes_1 21 rfl rfl)
theorem dX3_sizes_47 : decode cX3_sizes 47 = .ok (.iload_n 1, 1) := dk_27 (dk_at dksX3_sizes_2 0 rfl rfl)
theorem dX3_sizes_48 : decode cX3_sizes 48 = .ok (.ireturn, 1) := dk_172 (dk_at dksX3_sizes_2 1 rfl rfl)
abbrev cX3_meanSize : ByteArray := prog_31_method_80_code
def yX3_meanSize : MethodName := ⟨RX3, "meanSize", "()D"⟩
def dkwX3_meanSize_1 : List UInt8 := [182, 0, 210, 135, 42, 182, 0, 213, 135, 111, 175]
abbrev dktX3_meanSize_1 : List UInt8 := dkwX3_meanSize_1 ++ []
def dkwX3_meanSize_0 : List UInt8 := [42, 3, 181, 0, 32, 42, 182, 0, 213, 154, 0, 12, 42, 4, 182, 0, 42, 135, 167, 0, 14, 42]
abbrev dktX3_meanSize_0 : List UInt8 := dkwX3_meanSize_0 ++ dktX3_meanSize_1
theorem dksX3_meanSize_0 : cX3_meanSize.data.toList.drop 0 = dktX3_meanSize_0 := by decide +kernel
theorem dksX3_meanSize_1 : cX3_meanSize.data.toList.drop 22 = dktX3_meanSize_1 := dk_seg dksX3_meanSize_0 22 rfl rfl
theorem dX3_meanSize_0 : decode cX3_meanSize 0 = .ok (.aload_n 0, 1) := dk_42 (dk_at dksX3_meanSize_0 0 rfl rfl)
theorem dX3_meanSize_1 : decode cX3_meanSize 1 = .ok (.iconst 0, 1) := dk_3 (dk_at dksX3_meanSize_0 1 rfl rfl)
theorem dX3_meanSize_2 : decode cX3_meanSize 2 = .ok (.putfield 32, 3) := dk_181 0 32 (dk_at dksX3_meanSize_0 2 rfl rfl)
theorem dX3_meanSize_5 : decode cX3_meanSize 5 = .ok (.aload_n 0, 1) := dk_42 (dk_at dksX3_meanSize_0 5 rfl rfl)
theorem dX3_meanSize_6 : decode cX3_meanSize 6 = .ok (.invokevirtual 213, 3) := dk_182 0 213 (dk_at dksX3_meanSize_0 6 rfl rfl)
theorem dX3_meanSize_9 : decode cX3_meanSize 9 = .ok (.ifCond .ne 12, 3) := dk_154 0 12 (dk_at dksX3_meanSize_0 9 rfl rfl)
theorem dX3_meanSize_12 : decode cX3_meanSize 12 = .ok (.aload_n 0, 1) := dk_42 (dk_at dksX3_meanSize_0 12 rfl rfl)
theorem dX3_meanSize_13 : decode cX3_meanSize 13 = .ok (.iconst 1, 1) := dk_4 (dk_at dksX3_meanSize_0 13 rfl rfl)
theorem dX3_meanSize_14 : decode cX3_meanSize 14 = .ok (.invokevirtual 42, 3) := dk_182 0 42 (dk_at dksX3_meanSize_0 14 rfl rfl)
theorem dX3_meanSize_17 : decode cX3_meanSize 17 = .ok (.i2d, 1) := dk_135 (dk_at dksX3_meanSize_0 17 rfl rfl)
theorem dX3_meanSize_18 : decode cX3_meanSize 18 = .ok (.goto 14, 3) := dk_167 0 14 (dk_at dksX3_meanSize_0 18 rfl rfl)
theorem dX3_meanSize_21 : decode cX3_meanSize 21 = .ok (.aload_n 0, 1) := dk_42 (dk_at dksX3_meanSize_0 21 rfl rfl)
theorem dX3_meanSize_22 : decode cX3_meanSize 22 = .ok (.invokevirtual 210, 3) := dk_182 0 210 (dk_at dksX3_meanSize_1 0 rfl rfl)
theorem dX3_meanSize_25 : decode cX3_meanSize 25 = .ok (.i2d, 1) := dk_135 (dk_at dksX3_meanSize_1 3 rfl rfl)
theorem dX3_meanSize_26 : decode cX3_meanSize 26 = .ok (.aload_n 0, 1) := dk_42 (dk_at dksX3_meanSize_1 4 rfl rfl)
theorem dX3_meanSize_27 : decode cX3_meanSize 27 = .ok (.invokevirtual 213, 3) := dk_182 0 213 (dk_at dksX3_meanSize_1 5 rfl rfl)
theorem dX3_meanSize_30 : decode cX3_meanSize 30 = .ok (.i2d, 1) := dk_135 (dk_at dksX3_meanSize_1 8 rfl rfl)
theorem dX3_meanSize_31 : decode cX3_meanSize 31 = .ok (.ddiv, 1) := dk_111 (dk_at dksX3_meanSize_1 9 rfl rfl)
theorem dX3_meanSize_32 : decode cX3_meanSize 32 = .ok (.dreturn, 1) := dk_175 (dk_at dksX3_meanSize_1 10 rfl rfl)
abbrev cX3_pearls : ByteArray := prog_31_method_76_code
def yX3_pearls : MethodName := ⟨RX3, "pearls", "()I"⟩
def dkwX3_pearls_1 : List UInt8 := [132, 2, 1, 167, 255, 234, 27, 172]
abbrev dktX3_pearls_1 : List UInt8 := dkwX3_pearls_1 ++ []
def dkwX3_pearls_0 : List UInt8 := [3, 60, 3, 61, 28, 42, 180, 0, 7, 4, 46, 162, 0, 18, 27, 42, 28, 5, 182, 0, 72, 96, 60]
abbrev dktX3_pearls_0 : List UInt8 := dkwX3_pearls_0 ++ dktX3_pearls_1
theorem dksX3_pearls_0 : cX3_pearls.data.toList.drop 0 = dktX3_pearls_0 := by decide +kernel
theorem dksX3_pearls_1 : cX3_pearls.data.toList.drop 23 = dktX3_pearls_1 := dk_seg dksX3_pearls_0 23 rfl rfl
theorem dX3_pearls_0 : decode cX3_pearls 0 = .ok (.iconst 0, 1) := dk_3 (dk_at dksX3_pearls_0 0 rfl rfl)
theorem dX3_pearls_1 : decode cX3_pearls 1 = .ok (.istore_n 1, 1) := dk_60 (dk_at dksX3_pearls_0 1 rfl rfl)
theorem dX3_pearls_2 : decode cX3_pearls 2 = .ok (.iconst 0, 1) := dk_3 (dk_at dksX3_pearls_0 2 rfl rfl)
theorem dX3_pearls_3 : decode cX3_pearls 3 = .ok (.istore_n 2, 1) := dk_61 (dk_at dksX3_pearls_0 3 rfl rfl)
theorem dX3_pearls_4 : decode cX3_pearls 4 = .ok (.iload_n 2, 1) := dk_28 (dk_at dksX3_pearls_0 4 rfl rfl)
theorem dX3_pearls_5 : decode cX3_pearls 5 = .ok (.aload_n 0, 1) := dk_42 (dk_at dksX3_pearls_0 5 rfl rfl)
theorem dX3_pearls_6 : decode cX3_pearls 6 = .ok (.getfield 7, 3) := dk_180 0 7 (dk_at dksX3_pearls_0 6 rfl rfl)
theorem dX3_pearls_9 : decode cX3_pearls 9 = .ok (.iconst 1, 1) := dk_4 (dk_at dksX3_pearls_0 9 rfl rfl)
theorem dX3_pearls_10 : decode cX3_pearls 10 = .ok (.iaload, 1) := dk_46 (dk_at dksX3_pearls_0 10 rfl rfl)
theorem dX3_pearls_11 : decode cX3_pearls 11 = .ok (.if_icmp .ge 18, 3) := dk_162 0 18 (dk_at dksX3_pearls_0 11 rfl rfl)
theorem dX3_pearls_14 : decode cX3_pearls 14 = .ok (.iload_n 1, 1) := dk_27 (dk_at dksX3_pearls_0 14 rfl rfl)
theorem dX3_pearls_15 : decode cX3_pearls 15 = .ok (.aload_n 0, 1) := dk_42 (dk_at dksX3_pearls_0 15 rfl rfl)
theorem dX3_pearls_16 : decode cX3_pearls 16 = .ok (.iload_n 2, 1) := dk_28 (dk_at dksX3_pearls_0 16 rfl rfl)
theorem dX3_pearls_17 : decode cX3_pearls 17 = .ok (.iconst 2, 1) := dk_5 (dk_at dksX3_pearls_0 17 rfl rfl)
theorem dX3_pearls_18 : decode cX3_pearls 18 = .ok (.invokevirtual 72, 3) := dk_182 0 72 (dk_at dksX3_pearls_0 18 rfl rfl)
theorem dX3_pearls_21 : decode cX3_pearls 21 = .ok (.iadd, 1) := dk_96 (dk_at dksX3_pearls_0 21 rfl rfl)
theorem dX3_pearls_22 : decode cX3_pearls 22 = .ok (.istore_n 1, 1) := dk_60 (dk_at dksX3_pearls_0 22 rfl rfl)
theorem dX3_pearls_23 : decode cX3_pearls 23 = .ok (.iinc 2 1, 3) := dk_132 2 1 (dk_at dksX3_pearls_1 0 rfl rfl)
theorem dX3_pearls_26 : decode cX3_pearls 26 = .ok (.goto (-22), 3) := dk_167 255 234 (dk_at dksX3_pearls_1 3 rfl rfl)
theorem dX3_pearls_29 : decode cX3_pearls 29 = .ok (.iload_n 1, 1) := dk_27 (dk_at dksX3_pearls_1 6 rfl rfl)
theorem dX3_pearls_30 : decode cX3_pearls 30 = .ok (.ireturn, 1) := dk_172 (dk_at dksX3_pearls_1 7 rfl rfl)
abbrev cX3_growthShare : ByteArray := prog_31_method_81_code
def yX3_growthShare : MethodName := ⟨RX3, "growthShare", "()F"⟩
def dkwX3_growthShare_1 : List UInt8 := [42, 180, 0, 7, 16, 12, 46, 134, 42, 180, 0, 7, 16, 9, 46, 134, 110, 174]
abbrev dktX3_growthShare_1 : List UInt8 := dkwX3_growthShare_1 ++ []
def dkwX3_growthShare_0 : List UInt8 := [42, 3, 181, 0, 32, 42, 180, 0, 7, 16, 9, 46, 154, 0, 12, 42, 4, 182, 0, 42, 134, 167, 0, 20]
abbrev dktX3_growthShare_0 : List UInt8 := dkwX3_growthShare_0 ++ dktX3_growthShare_1
theorem dksX3_growthShare_0 : cX3_growthShare.data.toList.drop 0 = dktX3_growthShare_0 := by decide +kernel
theorem dksX3_growthShare_1 : cX3_growthShare.data.toList.drop 24 = dktX3_growthShare_1 := dk_seg dksX3_growthShare_0 24 rfl rfl
theorem dX3_growthShare_0 : decode cX3_growthShare 0 = .ok (.aload_n 0, 1) := dk_42 (dk_at dksX3_growthShare_0 0 rfl rfl)
theorem dX3_growthShare_1 : decode cX3_growthShare 1 = .ok (.iconst 0, 1) := dk_3 (dk_at dksX3_growthShare_0 1 rfl rfl)
theorem dX3_growthShare_2 : decode cX3_growthShare 2 = .ok (.putfield 32, 3) := dk_181 0 32 (dk_at dksX3_growthShare_0 2 rfl rfl)
theorem dX3_growthShare_5 : decode cX3_growthShare 5 = .ok (.aload_n 0, 1) := dk_42 (dk_at dksX3_growthShare_0 5 rfl rfl)
theorem dX3_growthShare_6 : decode cX3_growthShare 6 = .ok (.getfield 7, 3) := dk_180 0 7 (dk_at dksX3_growthShare_0 6 rfl rfl)
theorem dX3_growthShare_9 : decode cX3_growthShare 9 = .ok (.bipush 9, 2) := dk_16 9 (dk_at dksX3_growthShare_0 9 rfl rfl)
theorem dX3_growthShare_11 : decode cX3_growthShare 11 = .ok (.iaload, 1) := dk_46 (dk_at dksX3_growthShare_0 11 rfl rfl)
theorem dX3_growthShare_12 : decode cX3_growthShare 12 = .ok (.ifCond .ne 12, 3) := dk_154 0 12 (dk_at dksX3_growthShare_0 12 rfl rfl)
theorem dX3_growthShare_15 : decode cX3_growthShare 15 = .ok (.aload_n 0, 1) := dk_42 (dk_at dksX3_growthShare_0 15 rfl rfl)
theorem dX3_growthShare_16 : decode cX3_growthShare 16 = .ok (.iconst 1, 1) := dk_4 (dk_at dksX3_growthShare_0 16 rfl rfl)
theorem dX3_growthShare_17 : decode cX3_growthShare 17 = .ok (.invokevirtual 42, 3) := dk_182 0 42 (dk_at dksX3_growthShare_0 17 rfl rfl)
theorem dX3_growthShare_20 : decode cX3_growthShare 20 = .ok (.i2f, 1) := dk_134 (dk_at dksX3_growthShare_0 20 rfl rfl)
theorem dX3_growthShare_21 : decode cX3_growthShare 21 = .ok (.goto 20, 3) := dk_167 0 20 (dk_at dksX3_growthShare_0 21 rfl rfl)
theorem dX3_growthShare_24 : decode cX3_growthShare 24 = .ok (.aload_n 0, 1) := dk_42 (dk_at dksX3_growthShare_1 0 rfl rfl)
theorem dX3_growthShare_25 : decode cX3_growthShare 25 = .ok (.getfield 7, 3) := dk_180 0 7 (dk_at dksX3_growthShare_1 1 rfl rfl)
theorem dX3_growthShare_28 : decode cX3_growthShare 28 = .ok (.bipush 12, 2) := dk_16 12 (dk_at dksX3_growthShare_1 4 rfl rfl)
theorem dX3_growthShare_30 : decode cX3_growthShare 30 = .ok (.iaload, 1) := dk_46 (dk_at dksX3_growthShare_1 6 rfl rfl)
theorem dX3_growthShare_31 : decode cX3_growthShare 31 = .ok (.i2f, 1) := dk_134 (dk_at dksX3_growthShare_1 7 rfl rfl)
theorem dX3_growthShare_32 : decode cX3_growthShare 32 = .ok (.aload_n 0, 1) := dk_42 (dk_at dksX3_growthShare_1 8 rfl rfl)
theorem dX3_growthShare_33 : decode cX3_growthShare 33 = .ok (.getfield 7, 3) := dk_180 0 7 (dk_at dksX3_growthShare_1 9 rfl rfl)
theorem dX3_growthShare_36 : decode cX3_growthShare 36 = .ok (.bipush 9, 2) := dk_16 9 (dk_at dksX3_growthShare_1 12 rfl rfl)
theorem dX3_growthShare_38 : decode cX3_growthShare 38 = .ok (.iaload, 1) := dk_46 (dk_at dksX3_growthShare_1 14 rfl rfl)
theorem dX3_growthShare_39 : decode cX3_growthShare 39 = .ok (.i2f, 1) := dk_134 (dk_at dksX3_growthShare_1 15 rfl rfl)
theorem dX3_growthShare_40 : decode cX3_growthShare 40 = .ok (.fdiv, 1) := dk_110 (dk_at dksX3_growthShare_1 16 rfl rfl)
theorem dX3_growthShare_41 : decode cX3_growthShare 41 = .ok (.freturn, 1) := dk_174 (dk_at dksX3_growthShare_1 17 rfl rfl)
abbrev cX3_reason : ByteArray := prog_31_method_82_code
def yX3_reason : MethodName := ⟨RX3, "reason", "(Z)I"⟩
def dkwX3_reason_1 : List UInt8 := [180, 0, 39, 167, 0, 7, 42, 180, 0, 36, 172]
abbrev dktX3_reason_1 : List UInt8 := dkwX3_reason_1 ++ []
def dkwX3_reason_0 : List UInt8 := [42, 3, 181, 0, 32, 42, 180, 0, 36, 154, 0, 9, 42, 4, 182, 0, 42, 172, 27, 153, 0, 10, 42]
abbrev dktX3_reason_0 : List UInt8 := dkwX3_reason_0 ++ dktX3_reason_1
theorem dksX3_reason_0 : cX3_reason.data.toList.drop 0 = dktX3_reason_0 := by decide +kernel
theorem dksX3_reason_1 : cX3_reason.data.toList.drop 23 = dktX3_reason_1 := dk_seg dksX3_reason_0 23 rfl rfl
theorem dX3_reason_0 : decode cX3_reason 0 = .ok (.aload_n 0, 1) := dk_42 (dk_at dksX3_reason_0 0 rfl rfl)
theorem dX3_reason_1 : decode cX3_reason 1 = .ok (.iconst 0, 1) := dk_3 (dk_at dksX3_reason_0 1 rfl rfl)
theorem dX3_reason_2 : decode cX3_reason 2 = .ok (.putfield 32, 3) := dk_181 0 32 (dk_at dksX3_reason_0 2 rfl rfl)
theorem dX3_reason_5 : decode cX3_reason 5 = .ok (.aload_n 0, 1) := dk_42 (dk_at dksX3_reason_0 5 rfl rfl)
theorem dX3_reason_6 : decode cX3_reason 6 = .ok (.getfield 36, 3) := dk_180 0 36 (dk_at dksX3_reason_0 6 rfl rfl)
theorem dX3_reason_9 : decode cX3_reason 9 = .ok (.ifCond .ne 9, 3) := dk_154 0 9 (dk_at dksX3_reason_0 9 rfl rfl)
theorem dX3_reason_12 : decode cX3_reason 12 = .ok (.aload_n 0, 1) := dk_42 (dk_at dksX3_reason_0 12 rfl rfl)
theorem dX3_reason_13 : decode cX3_reason 13 = .ok (.iconst 1, 1) := dk_4 (dk_at dksX3_reason_0 13 rfl rfl)
theorem dX3_reason_14 : decode cX3_reason 14 = .ok (.invokevirtual 42, 3) := dk_182 0 42 (dk_at dksX3_reason_0 14 rfl rfl)
theorem dX3_reason_17 : decode cX3_reason 17 = .ok (.ireturn, 1) := dk_172 (dk_at dksX3_reason_0 17 rfl rfl)
theorem dX3_reason_18 : decode cX3_reason 18 = .ok (.iload_n 1, 1) := dk_27 (dk_at dksX3_reason_0 18 rfl rfl)
theorem dX3_reason_19 : decode cX3_reason 19 = .ok (.ifCond .eq 10, 3) := dk_153 0 10 (dk_at dksX3_reason_0 19 rfl rfl)
theorem dX3_reason_22 : decode cX3_reason 22 = .ok (.aload_n 0, 1) := dk_42 (dk_at dksX3_reason_0 22 rfl rfl)
theorem dX3_reason_23 : decode cX3_reason 23 = .ok (.getfield 39, 3) := dk_180 0 39 (dk_at dksX3_reason_1 0 rfl rfl)
theorem dX3_reason_26 : decode cX3_reason 26 = .ok (.goto 7, 3) := dk_167 0 7 (dk_at dksX3_reason_1 3 rfl rfl)
theorem dX3_reason_29 : decode cX3_reason 29 = .ok (.aload_n 0, 1) := dk_42 (dk_at dksX3_reason_1 6 rfl rfl)
theorem dX3_reason_30 : decode cX3_reason 30 = .ok (.getfield 36, 3) := dk_180 0 36 (dk_at dksX3_reason_1 7 rfl rfl)
theorem dX3_reason_33 : decode cX3_reason 33 = .ok (.ireturn, 1) := dk_172 (dk_at dksX3_reason_1 10 rfl rfl)
abbrev cX3_account : ByteArray := prog_31_method_83_code
def yX3_account : MethodName := ⟨RX3, "account", "(I)I"⟩
def dkwX3_account_2 : List UInt8 := [153, 0, 12, 42, 180, 0, 7, 27, 46, 167, 0, 8, 42, 4, 182, 0, 42, 172]
abbrev dktX3_account_2 : List UInt8 := dkwX3_account_2 ++ []
def dkwX3_account_1 : List UInt8 := [180, 0, 216, 172, 27, 16, 15, 160, 0, 8, 42, 180, 0, 56, 172, 27, 3, 16, 13, 184, 0, 68]
abbrev dktX3_account_1 : List UInt8 := dkwX3_account_1 ++ dktX3_account_2
def dkwX3_account_0 : List UInt8 := [42, 3, 181, 0, 32, 27, 8, 160, 0, 8, 42, 182, 0, 168, 172, 27, 16, 14, 160, 0, 8, 42]
abbrev dktX3_account_0 : List UInt8 := dkwX3_account_0 ++ dktX3_account_1
theorem dksX3_account_0 : cX3_account.data.toList.drop 0 = dktX3_account_0 := by decide +kernel
theorem dksX3_account_1 : cX3_account.data.toList.drop 22 = dktX3_account_1 := dk_seg dksX3_account_0 22 rfl rfl
theorem dksX3_account_2 : cX3_account.data.toList.drop 44 = dktX3_account_2 := dk_seg dksX3_account_1 22 rfl rfl
theorem dX3_account_0 : decode cX3_account 0 = .ok (.aload_n 0, 1) := dk_42 (dk_at dksX3_account_0 0 rfl rfl)
theorem dX3_account_1 : decode cX3_account 1 = .ok (.iconst 0, 1) := dk_3 (dk_at dksX3_account_0 1 rfl rfl)
theorem dX3_account_2 : decode cX3_account 2 = .ok (.putfield 32, 3) := dk_181 0 32 (dk_at dksX3_account_0 2 rfl rfl)
theorem dX3_account_5 : decode cX3_account 5 = .ok (.iload_n 1, 1) := dk_27 (dk_at dksX3_account_0 5 rfl rfl)
theorem dX3_account_6 : decode cX3_account 6 = .ok (.iconst 5, 1) := dk_8 (dk_at dksX3_account_0 6 rfl rfl)
theorem dX3_account_7 : decode cX3_account 7 = .ok (.if_icmp .ne 8, 3) := dk_160 0 8 (dk_at dksX3_account_0 7 rfl rfl)
theorem dX3_account_10 : decode cX3_account 10 = .ok (.aload_n 0, 1) := dk_42 (dk_at dksX3_account_0 10 rfl rfl)
theorem dX3_account_11 : decode cX3_account 11 = .ok (.invokevirtual 168, 3) := dk_182 0 168 (dk_at dksX3_account_0 11 rfl rfl)
theorem dX3_account_14 : decode cX3_account 14 = .ok (.ireturn, 1) := dk_172 (dk_at dksX3_account_0 14 rfl rfl)
theorem dX3_account_15 : decode cX3_account 15 = .ok (.iload_n 1, 1) := dk_27 (dk_at dksX3_account_0 15 rfl rfl)
theorem dX3_account_16 : decode cX3_account 16 = .ok (.bipush 14, 2) := dk_16 14 (dk_at dksX3_account_0 16 rfl rfl)
theorem dX3_account_18 : decode cX3_account 18 = .ok (.if_icmp .ne 8, 3) := dk_160 0 8 (dk_at dksX3_account_0 18 rfl rfl)
theorem dX3_account_21 : decode cX3_account 21 = .ok (.aload_n 0, 1) := dk_42 (dk_at dksX3_account_0 21 rfl rfl)
theorem dX3_account_22 : decode cX3_account 22 = .ok (.getfield 216, 3) := dk_180 0 216 (dk_at dksX3_account_1 0 rfl rfl)
theorem dX3_account_25 : decode cX3_account 25 = .ok (.ireturn, 1) := dk_172 (dk_at dksX3_account_1 3 rfl rfl)
theorem dX3_account_26 : decode cX3_account 26 = .ok (.iload_n 1, 1) := dk_27 (dk_at dksX3_account_1 4 rfl rfl)
theorem dX3_account_27 : decode cX3_account 27 = .ok (.bipush 15, 2) := dk_16 15 (dk_at dksX3_account_1 5 rfl rfl)
theorem dX3_account_29 : decode cX3_account 29 = .ok (.if_icmp .ne 8, 3) := dk_160 0 8 (dk_at dksX3_account_1 7 rfl rfl)
theorem dX3_account_32 : decode cX3_account 32 = .ok (.aload_n 0, 1) := dk_42 (dk_at dksX3_account_1 10 rfl rfl)
theorem dX3_account_33 : decode cX3_account 33 = .ok (.getfield 56, 3) := dk_180 0 56 (dk_at dksX3_account_1 11 rfl rfl)
theorem dX3_account_36 : decode cX3_account 36 = .ok (.ireturn, 1) := dk_172 (dk_at dksX3_account_1 14 rfl rfl)
theorem dX3_account_37 : decode cX3_account 37 = .ok (.iload_n 1, 1) := dk_27 (dk_at dksX3_account_1 15 rfl rfl)
theorem dX3_account_38 : decode cX3_account 38 = .ok (.iconst 0, 1) := dk_3 (dk_at dksX3_account_1 16 rfl rfl)
theorem dX3_account_39 : decode cX3_account 39 = .ok (.bipush 13, 2) := dk_16 13 (dk_at dksX3_account_1 17 rfl rfl)
theorem dX3_account_41 : decode cX3_account 41 = .ok (.invokestatic 68, 3) := dk_184 0 68 (dk_at dksX3_account_1 19 rfl rfl)
theorem dX3_account_44 : decode cX3_account 44 = .ok (.ifCond .eq 12, 3) := dk_153 0 12 (dk_at dksX3_account_2 0 rfl rfl)
theorem dX3_account_47 : decode cX3_account 47 = .ok (.aload_n 0, 1) := dk_42 (dk_at dksX3_account_2 3 rfl rfl)
theorem dX3_account_48 : decode cX3_account 48 = .ok (.getfield 7, 3) := dk_180 0 7 (dk_at dksX3_account_2 4 rfl rfl)
theorem dX3_account_51 : decode cX3_account 51 = .ok (.iload_n 1, 1) := dk_27 (dk_at dksX3_account_2 7 rfl rfl)
theorem dX3_account_52 : decode cX3_account 52 = .ok (.iaload, 1) := dk_46 (dk_at dksX3_account_2 8 rfl rfl)
theorem dX3_account_53 : decode cX3_account 53 = .ok (.goto 8, 3) := dk_167 0 8 (dk_at dksX3_account_2 9 rfl rfl)
theorem dX3_account_56 : decode cX3_account 56 = .ok (.aload_n 0, 1) := dk_42 (dk_at dksX3_account_2 12 rfl rfl)
theorem dX3_account_57 : decode cX3_account 57 = .ok (.iconst 1, 1) := dk_4 (dk_at dksX3_account_2 13 rfl rfl)
theorem dX3_account_58 : decode cX3_account 58 = .ok (.invokevirtual 42, 3) := dk_182 0 42 (dk_at dksX3_account_2 14 rfl rfl)
theorem dX3_account_61 : decode cX3_account 61 = .ok (.ireturn, 1) := dk_172 (dk_at dksX3_account_2 17 rfl rfl)
abbrev cX3_feed : ByteArray := prog_31_method_84_code
def yX3_feed : MethodName := ⟨RX3, "feed", "(C)I"⟩
def dkwX3_feed_1 : List UInt8 := [42, 180, 0, 216, 27, 85, 42, 89, 180, 0, 216, 4, 96, 181, 0, 216, 42, 180, 0, 216, 172]
abbrev dktX3_feed_1 : List UInt8 := dkwX3_feed_1 ++ []
def dkwX3_feed_0 : List UInt8 := [42, 3, 181, 0, 32, 42, 180, 0, 216, 16, 60, 160, 0, 9, 42, 4, 182, 0, 42, 172, 42, 180, 0, 26]
abbrev dktX3_feed_0 : List UInt8 := dkwX3_feed_0 ++ dktX3_feed_1
theorem dksX3_feed_0 : cX3_feed.data.toList.drop 0 = dktX3_feed_0 := by decide +kernel
theorem dksX3_feed_1 : cX3_feed.data.toList.drop 24 = dktX3_feed_1 := dk_seg dksX3_feed_0 24 rfl rfl
theorem dX3_feed_0 : decode cX3_feed 0 = .ok (.aload_n 0, 1) := dk_42 (dk_at dksX3_feed_0 0 rfl rfl)
theorem dX3_feed_1 : decode cX3_feed 1 = .ok (.iconst 0, 1) := dk_3 (dk_at dksX3_feed_0 1 rfl rfl)
theorem dX3_feed_2 : decode cX3_feed 2 = .ok (.putfield 32, 3) := dk_181 0 32 (dk_at dksX3_feed_0 2 rfl rfl)
theorem dX3_feed_5 : decode cX3_feed 5 = .ok (.aload_n 0, 1) := dk_42 (dk_at dksX3_feed_0 5 rfl rfl)
theorem dX3_feed_6 : decode cX3_feed 6 = .ok (.getfield 216, 3) := dk_180 0 216 (dk_at dksX3_feed_0 6 rfl rfl)
theorem dX3_feed_9 : decode cX3_feed 9 = .ok (.bipush 60, 2) := dk_16 60 (dk_at dksX3_feed_0 9 rfl rfl)
theorem dX3_feed_11 : decode cX3_feed 11 = .ok (.if_icmp .ne 9, 3) := dk_160 0 9 (dk_at dksX3_feed_0 11 rfl rfl)
theorem dX3_feed_14 : decode cX3_feed 14 = .ok (.aload_n 0, 1) := dk_42 (dk_at dksX3_feed_0 14 rfl rfl)
theorem dX3_feed_15 : decode cX3_feed 15 = .ok (.iconst 1, 1) := dk_4 (dk_at dksX3_feed_0 15 rfl rfl)
theorem dX3_feed_16 : decode cX3_feed 16 = .ok (.invokevirtual 42, 3) := dk_182 0 42 (dk_at dksX3_feed_0 16 rfl rfl)
theorem dX3_feed_19 : decode cX3_feed 19 = .ok (.ireturn, 1) := dk_172 (dk_at dksX3_feed_0 19 rfl rfl)
theorem dX3_feed_20 : decode cX3_feed 20 = .ok (.aload_n 0, 1) := dk_42 (dk_at dksX3_feed_0 20 rfl rfl)
theorem dX3_feed_21 : decode cX3_feed 21 = .ok (.getfield 26, 3) := dk_180 0 26 (dk_at dksX3_feed_0 21 rfl rfl)
theorem dX3_feed_24 : decode cX3_feed 24 = .ok (.aload_n 0, 1) := dk_42 (dk_at dksX3_feed_1 0 rfl rfl)
theorem dX3_feed_25 : decode cX3_feed 25 = .ok (.getfield 216, 3) := dk_180 0 216 (dk_at dksX3_feed_1 1 rfl rfl)
theorem dX3_feed_28 : decode cX3_feed 28 = .ok (.iload_n 1, 1) := dk_27 (dk_at dksX3_feed_1 4 rfl rfl)
theorem dX3_feed_29 : decode cX3_feed 29 = .ok (.castore, 1) := dk_85 (dk_at dksX3_feed_1 5 rfl rfl)
theorem dX3_feed_30 : decode cX3_feed 30 = .ok (.aload_n 0, 1) := dk_42 (dk_at dksX3_feed_1 6 rfl rfl)
theorem dX3_feed_31 : decode cX3_feed 31 = .ok (.dup, 1) := dk_89 (dk_at dksX3_feed_1 7 rfl rfl)
theorem dX3_feed_32 : decode cX3_feed 32 = .ok (.getfield 216, 3) := dk_180 0 216 (dk_at dksX3_feed_1 8 rfl rfl)
theorem dX3_feed_35 : decode cX3_feed 35 = .ok (.iconst 1, 1) := dk_4 (dk_at dksX3_feed_1 11 rfl rfl)
theorem dX3_feed_36 : decode cX3_feed 36 = .ok (.iadd, 1) := dk_96 (dk_at dksX3_feed_1 12 rfl rfl)
theorem dX3_feed_37 : decode cX3_feed 37 = .ok (.putfield 216, 3) := dk_181 0 216 (dk_at dksX3_feed_1 13 rfl rfl)
theorem dX3_feed_40 : decode cX3_feed 40 = .ok (.aload_n 0, 1) := dk_42 (dk_at dksX3_feed_1 16 rfl rfl)
theorem dX3_feed_41 : decode cX3_feed 41 = .ok (.getfield 216, 3) := dk_180 0 216 (dk_at dksX3_feed_1 17 rfl rfl)
theorem dX3_feed_44 : decode cX3_feed 44 = .ok (.ireturn, 1) := dk_172 (dk_at dksX3_feed_1 20 rfl rfl)
abbrev cX3_perform : ByteArray := prog_31_method_95_code
def yX3_perform : MethodName := ⟨RX3, "perform", "()I"⟩
def dkwX3_perform_2 : List UInt8 := [4, 16, 6, 42, 180, 0, 244, 182, 0, 52, 172, 42, 182, 0, 65, 42, 180, 0, 244, 172]
abbrev dktX3_perform_2 : List UInt8 := dkwX3_perform_2 ++ []
def dkwX3_perform_1 : List UInt8 := [172, 42, 182, 0, 62, 42, 182, 1, 0, 60, 42, 3, 181, 0, 216, 27, 154, 0, 19, 42, 182, 0, 192, 42]
abbrev dktX3_perform_1 : List UInt8 := dkwX3_perform_1 ++ dktX3_perform_2
def dkwX3_perform_0 : List UInt8 := [42, 3, 181, 0, 32, 42, 182, 0, 253, 154, 0, 16, 42, 3, 181, 0, 216, 16, 156, 42, 180, 0, 219, 100]
abbrev dktX3_perform_0 : List UInt8 := dkwX3_perform_0 ++ dktX3_perform_1
theorem dksX3_perform_0 : cX3_perform.data.toList.drop 0 = dktX3_perform_0 := by decide +kernel
theorem dksX3_perform_1 : cX3_perform.data.toList.drop 24 = dktX3_perform_1 := dk_seg dksX3_perform_0 24 rfl rfl
theorem dksX3_perform_2 : cX3_perform.data.toList.drop 48 = dktX3_perform_2 := dk_seg dksX3_perform_1 24 rfl rfl
theorem dX3_perform_0 : decode cX3_perform 0 = .ok (.aload_n 0, 1) := dk_42 (dk_at dksX3_perform_0 0 rfl rfl)
theorem dX3_perform_1 : decode cX3_perform 1 = .ok (.iconst 0, 1) := dk_3 (dk_at dksX3_perform_0 1 rfl rfl)
theorem dX3_perform_2 : decode cX3_perform 2 = .ok (.putfield 32, 3) := dk_181 0 32 (dk_at dksX3_perform_0 2 rfl rfl)
theorem dX3_perform_5 : decode cX3_perform 5 = .ok (.aload_n 0, 1) := dk_42 (dk_at dksX3_perform_0 5 rfl rfl)
theorem dX3_perform_6 : decode cX3_perform 6 = .ok (.invokevirtual 253, 3) := dk_182 0 253 (dk_at dksX3_perform_0 6 rfl rfl)
theorem dX3_perform_9 : decode cX3_perform 9 = .ok (.ifCond .ne 16, 3) := dk_154 0 16 (dk_at dksX3_perform_0 9 rfl rfl)
theorem dX3_perform_12 : decode cX3_perform 12 = .ok (.aload_n 0, 1) := dk_42 (dk_at dksX3_perform_0 12 rfl rfl)
theorem dX3_perform_13 : decode cX3_perform 13 = .ok (.iconst 0, 1) := dk_3 (dk_at dksX3_perform_0 13 rfl rfl)
theorem dX3_perform_14 : decode cX3_perform 14 = .ok (.putfield 216, 3) := dk_181 0 216 (dk_at dksX3_perform_0 14 rfl rfl)
theorem dX3_perform_17 : decode cX3_perform 17 = .ok (.bipush (-100), 2) := dk_16 156 (dk_at dksX3_perform_0 17 rfl rfl)
theorem dX3_perform_19 : decode cX3_perform 19 = .ok (.aload_n 0, 1) := dk_42 (dk_at dksX3_perform_0 19 rfl rfl)
theorem dX3_perform_20 : decode cX3_perform 20 = .ok (.getfield 219, 3) := dk_180 0 219 (dk_at dksX3_perform_0 20 rfl rfl)
theorem dX3_perform_23 : decode cX3_perform 23 = .ok (.isub, 1) := dk_100 (dk_at dksX3_perform_0 23 rfl rfl)
theorem dX3_perform_24 : decode cX3_perform 24 = .ok (.ireturn, 1) := dk_172 (dk_at dksX3_perform_1 0 rfl rfl)
theorem dX3_perform_25 : decode cX3_perform 25 = .ok (.aload_n 0, 1) := dk_42 (dk_at dksX3_perform_1 1 rfl rfl)
theorem dX3_perform_26 : decode cX3_perform 26 = .ok (.invokevirtual 62, 3) := dk_182 0 62 (dk_at dksX3_perform_1 2 rfl rfl)
theorem dX3_perform_29 : decode cX3_perform 29 = .ok (.aload_n 0, 1) := dk_42 (dk_at dksX3_perform_1 5 rfl rfl)
theorem dX3_perform_30 : decode cX3_perform 30 = .ok (.invokevirtual 256, 3) := dk_182 1 0 (dk_at dksX3_perform_1 6 rfl rfl)
theorem dX3_perform_33 : decode cX3_perform 33 = .ok (.istore_n 1, 1) := dk_60 (dk_at dksX3_perform_1 9 rfl rfl)
theorem dX3_perform_34 : decode cX3_perform 34 = .ok (.aload_n 0, 1) := dk_42 (dk_at dksX3_perform_1 10 rfl rfl)
theorem dX3_perform_35 : decode cX3_perform 35 = .ok (.iconst 0, 1) := dk_3 (dk_at dksX3_perform_1 11 rfl rfl)
theorem dX3_perform_36 : decode cX3_perform 36 = .ok (.putfield 216, 3) := dk_181 0 216 (dk_at dksX3_perform_1 12 rfl rfl)
theorem dX3_perform_39 : decode cX3_perform 39 = .ok (.iload_n 1, 1) := dk_27 (dk_at dksX3_perform_1 15 rfl rfl)
theorem dX3_perform_40 : decode cX3_perform 40 = .ok (.ifCond .ne 19, 3) := dk_154 0 19 (dk_at dksX3_perform_1 16 rfl rfl)
theorem dX3_perform_43 : decode cX3_perform 43 = .ok (.aload_n 0, 1) := dk_42 (dk_at dksX3_perform_1 19 rfl rfl)
theorem dX3_perform_44 : decode cX3_perform 44 = .ok (.invokevirtual 192, 3) := dk_182 0 192 (dk_at dksX3_perform_1 20 rfl rfl)
theorem dX3_perform_47 : decode cX3_perform 47 = .ok (.aload_n 0, 1) := dk_42 (dk_at dksX3_perform_1 23 rfl rfl)
theorem dX3_perform_48 : decode cX3_perform 48 = .ok (.iconst 1, 1) := dk_4 (dk_at dksX3_perform_2 0 rfl rfl)
theorem dX3_perform_49 : decode cX3_perform 49 = .ok (.bipush 6, 2) := dk_16 6 (dk_at dksX3_perform_2 1 rfl rfl)
theorem dX3_perform_51 : decode cX3_perform 51 = .ok (.aload_n 0, 1) := dk_42 (dk_at dksX3_perform_2 3 rfl rfl)
theorem dX3_perform_52 : decode cX3_perform 52 = .ok (.getfield 244, 3) := dk_180 0 244 (dk_at dksX3_perform_2 4 rfl rfl)
theorem dX3_perform_55 : decode cX3_perform 55 = .ok (.invokevirtual 52, 3) := dk_182 0 52 (dk_at dksX3_perform_2 7 rfl rfl)
theorem dX3_perform_58 : decode cX3_perform 58 = .ok (.ireturn, 1) := dk_172 (dk_at dksX3_perform_2 10 rfl rfl)
theorem dX3_perform_59 : decode cX3_perform 59 = .ok (.aload_n 0, 1) := dk_42 (dk_at dksX3_perform_2 11 rfl rfl)
theorem dX3_perform_60 : decode cX3_perform 60 = .ok (.invokevirtual 65, 3) := dk_182 0 65 (dk_at dksX3_perform_2 12 rfl rfl)
theorem dX3_perform_63 : decode cX3_perform 63 = .ok (.aload_n 0, 1) := dk_42 (dk_at dksX3_perform_2 15 rfl rfl)
theorem dX3_perform_64 : decode cX3_perform 64 = .ok (.getfield 244, 3) := dk_180 0 244 (dk_at dksX3_perform_2 16 rfl rfl)
theorem dX3_perform_67 : decode cX3_perform 67 = .ok (.ireturn, 1) := dk_172 (dk_at dksX3_perform_2 19 rfl rfl)
abbrev cX3_readsAll : ByteArray := prog_31_method_91_code
def yX3_readsAll : MethodName := ⟨RX3, "readsAll", "()Z"⟩
def dkwX3_readsAll_1 : List UInt8 := [182, 0, 228, 60, 167, 255, 236, 42, 180, 0, 219, 42, 180, 0, 216, 160, 0, 7, 4, 167, 0, 4, 3, 172]
abbrev dktX3_readsAll_1 : List UInt8 := dkwX3_readsAll_1 ++ []
def dkwX3_readsAll_0 : List UInt8 := [42, 3, 181, 0, 219, 4, 60, 27, 153, 0, 22, 42, 182, 0, 241, 154, 0, 5, 3, 172, 42, 16, 59]
abbrev dktX3_readsAll_0 : List UInt8 := dkwX3_readsAll_0 ++ dktX3_readsAll_1
theorem dksX3_readsAll_0 : cX3_readsAll.data.toList.drop 0 = dktX3_readsAll_0 := by decide +kernel
theorem dksX3_readsAll_1 : cX3_readsAll.data.toList.drop 23 = dktX3_readsAll_1 := dk_seg dksX3_readsAll_0 23 rfl rfl
theorem dX3_readsAll_0 : decode cX3_readsAll 0 = .ok (.aload_n 0, 1) := dk_42 (dk_at dksX3_readsAll_0 0 rfl rfl)
theorem dX3_readsAll_1 : decode cX3_readsAll 1 = .ok (.iconst 0, 1) := dk_3 (dk_at dksX3_readsAll_0 1 rfl rfl)
theorem dX3_readsAll_2 : decode cX3_readsAll 2 = .ok (.putfield 219, 3) := dk_181 0 219 (dk_at dksX3_readsAll_0 2 rfl rfl)
theorem dX3_readsAll_5 : decode cX3_readsAll 5 = .ok (.iconst 1, 1) := dk_4 (dk_at dksX3_readsAll_0 5 rfl rfl)
theorem dX3_readsAll_6 : decode cX3_readsAll 6 = .ok (.istore_n 1, 1) := dk_60 (dk_at dksX3_readsAll_0 6 rfl rfl)
theorem dX3_readsAll_7 : decode cX3_readsAll 7 = .ok (.iload_n 1, 1) := dk_27 (dk_at dksX3_readsAll_0 7 rfl rfl)
theorem dX3_readsAll_8 : decode cX3_readsAll 8 = .ok (.ifCond .eq 22, 3) := dk_153 0 22 (dk_at dksX3_readsAll_0 8 rfl rfl)
theorem dX3_readsAll_11 : decode cX3_readsAll 11 = .ok (.aload_n 0, 1) := dk_42 (dk_at dksX3_readsAll_0 11 rfl rfl)
theorem dX3_readsAll_12 : decode cX3_readsAll 12 = .ok (.invokevirtual 241, 3) := dk_182 0 241 (dk_at dksX3_readsAll_0 12 rfl rfl)
theorem dX3_readsAll_15 : decode cX3_readsAll 15 = .ok (.ifCond .ne 5, 3) := dk_154 0 5 (dk_at dksX3_readsAll_0 15 rfl rfl)
theorem dX3_readsAll_18 : decode cX3_readsAll 18 = .ok (.iconst 0, 1) := dk_3 (dk_at dksX3_readsAll_0 18 rfl rfl)
theorem dX3_readsAll_19 : decode cX3_readsAll 19 = .ok (.ireturn, 1) := dk_172 (dk_at dksX3_readsAll_0 19 rfl rfl)
theorem dX3_readsAll_20 : decode cX3_readsAll 20 = .ok (.aload_n 0, 1) := dk_42 (dk_at dksX3_readsAll_0 20 rfl rfl)
theorem dX3_readsAll_21 : decode cX3_readsAll 21 = .ok (.bipush 59, 2) := dk_16 59 (dk_at dksX3_readsAll_0 21 rfl rfl)
theorem dX3_readsAll_23 : decode cX3_readsAll 23 = .ok (.invokevirtual 228, 3) := dk_182 0 228 (dk_at dksX3_readsAll_1 0 rfl rfl)
theorem dX3_readsAll_26 : decode cX3_readsAll 26 = .ok (.istore_n 1, 1) := dk_60 (dk_at dksX3_readsAll_1 3 rfl rfl)
theorem dX3_readsAll_27 : decode cX3_readsAll 27 = .ok (.goto (-20), 3) := dk_167 255 236 (dk_at dksX3_readsAll_1 4 rfl rfl)
theorem dX3_readsAll_30 : decode cX3_readsAll 30 = .ok (.aload_n 0, 1) := dk_42 (dk_at dksX3_readsAll_1 7 rfl rfl)
theorem dX3_readsAll_31 : decode cX3_readsAll 31 = .ok (.getfield 219, 3) := dk_180 0 219 (dk_at dksX3_readsAll_1 8 rfl rfl)
theorem dX3_readsAll_34 : decode cX3_readsAll 34 = .ok (.aload_n 0, 1) := dk_42 (dk_at dksX3_readsAll_1 11 rfl rfl)
theorem dX3_readsAll_35 : decode cX3_readsAll 35 = .ok (.getfield 216, 3) := dk_180 0 216 (dk_at dksX3_readsAll_1 12 rfl rfl)
theorem dX3_readsAll_38 : decode cX3_readsAll 38 = .ok (.if_icmp .ne 7, 3) := dk_160 0 7 (dk_at dksX3_readsAll_1 15 rfl rfl)
theorem dX3_readsAll_41 : decode cX3_readsAll 41 = .ok (.iconst 1, 1) := dk_4 (dk_at dksX3_readsAll_1 18 rfl rfl)
theorem dX3_readsAll_42 : decode cX3_readsAll 42 = .ok (.goto 4, 3) := dk_167 0 4 (dk_at dksX3_readsAll_1 19 rfl rfl)
theorem dX3_readsAll_45 : decode cX3_readsAll 45 = .ok (.iconst 0, 1) := dk_3 (dk_at dksX3_readsAll_1 22 rfl rfl)
theorem dX3_readsAll_46 : decode cX3_readsAll 46 = .ok (.ireturn, 1) := dk_172 (dk_at dksX3_readsAll_1 23 rfl rfl)
abbrev cX3_readsCommand : ByteArray := prog_31_method_90_code
def yX3_readsCommand : MethodName := ⟨RX3, "readsCommand", "()Z"⟩
def dkwX3_readsCommand_14 : List UInt8 := [167, 0, 4, 3, 172]
abbrev dktX3_readsCommand_14 : List UInt8 := dkwX3_readsCommand_14 ++ []
def dkwX3_readsCommand_13 : List UInt8 := [182, 0, 228, 153, 0, 24, 42, 16, 32, 182, 0, 228, 153, 0, 15, 42, 3, 182, 0, 234, 153, 0, 7, 4]
abbrev dktX3_readsCommand_13 : List UInt8 := dkwX3_readsCommand_13 ++ dktX3_readsCommand_14
def dkwX3_readsCommand_12 : List UInt8 := [153, 0, 51, 42, 16, 116, 182, 0, 228, 153, 0, 42, 42, 16, 101, 182, 0, 228, 153, 0, 33, 42, 16, 115]
abbrev dktX3_readsCommand_12 : List UInt8 := dkwX3_readsCommand_12 ++ dktX3_readsCommand_13
def dkwX3_readsCommand_11 : List UInt8 := [16, 105, 182, 0, 228, 153, 0, 69, 42, 16, 110, 182, 0, 228, 153, 0, 60, 42, 16, 117, 182, 0, 228]
abbrev dktX3_readsCommand_11 : List UInt8 := dkwX3_readsCommand_11 ++ dktX3_readsCommand_12
def dkwX3_readsCommand_10 : List UInt8 := [153, 0, 7, 4, 167, 0, 4, 3, 172, 42, 8, 181, 0, 231, 42, 16, 109, 182, 0, 228, 153, 0, 78, 42]
abbrev dktX3_readsCommand_10 : List UInt8 := dkwX3_readsCommand_10 ++ dktX3_readsCommand_11
def dkwX3_readsCommand_9 : List UInt8 := [16, 101, 182, 0, 228, 153, 0, 25, 42, 16, 101, 182, 0, 228, 153, 0, 16, 42, 16, 112, 182, 0, 228]
abbrev dktX3_readsCommand_9 : List UInt8 := dkwX3_readsCommand_9 ++ dktX3_readsCommand_10
def dkwX3_readsCommand_8 : List UInt8 := [16, 115, 182, 0, 228, 153, 0, 50, 42, 6, 181, 0, 231, 42, 16, 119, 182, 0, 228, 153, 0, 34, 42]
abbrev dktX3_readsCommand_8 : List UInt8 := dkwX3_readsCommand_8 ++ dktX3_readsCommand_9
def dkwX3_readsCommand_7 : List UInt8 := [153, 0, 7, 4, 167, 0, 4, 3, 172, 42, 16, 100, 182, 0, 228, 153, 0, 8, 42, 182, 0, 237, 172, 42]
abbrev dktX3_readsCommand_7 : List UInt8 := dkwX3_readsCommand_7 ++ dktX3_readsCommand_8
def dkwX3_readsCommand_6 : List UInt8 := [42, 3, 182, 0, 225, 153, 0, 24, 42, 16, 32, 182, 0, 228, 153, 0, 15, 42, 4, 182, 0, 234]
abbrev dktX3_readsCommand_6 : List UInt8 := dkwX3_readsCommand_6 ++ dktX3_readsCommand_7
def dkwX3_readsCommand_5 : List UInt8 := [182, 0, 228, 153, 0, 50, 42, 16, 112, 182, 0, 228, 153, 0, 41, 42, 16, 32, 182, 0, 228, 153, 0, 32]
abbrev dktX3_readsCommand_5 : List UInt8 := dkwX3_readsCommand_5 ++ dktX3_readsCommand_6
def dkwX3_readsCommand_4 : List UInt8 := [182, 0, 228, 153, 0, 75, 42, 4, 181, 0, 231, 42, 16, 97, 182, 0, 228, 153, 0, 59, 42, 16, 109]
abbrev dktX3_readsCommand_4 : List UInt8 := dkwX3_readsCommand_4 ++ dktX3_readsCommand_5
def dkwX3_readsCommand_3 : List UInt8 := [182, 0, 228, 153, 0, 15, 42, 4, 182, 0, 234, 153, 0, 7, 4, 167, 0, 4, 3, 172, 42, 16, 108]
abbrev dktX3_readsCommand_3 : List UInt8 := dkwX3_readsCommand_3 ++ dktX3_readsCommand_4
def dkwX3_readsCommand_2 : List UInt8 := [153, 0, 41, 42, 16, 32, 182, 0, 228, 153, 0, 32, 42, 3, 182, 0, 234, 153, 0, 24, 42, 16, 32]
abbrev dktX3_readsCommand_2 : List UInt8 := dkwX3_readsCommand_2 ++ dktX3_readsCommand_3
def dkwX3_readsCommand_1 : List UInt8 := [16, 116, 182, 0, 228, 153, 0, 59, 42, 16, 101, 182, 0, 228, 153, 0, 50, 42, 16, 114, 182, 0, 228]
abbrev dktX3_readsCommand_1 : List UInt8 := dkwX3_readsCommand_1 ++ dktX3_readsCommand_2
def dkwX3_readsCommand_0 : List UInt8 := [42, 16, 101, 182, 0, 228, 153, 0, 84, 42, 3, 181, 0, 231, 42, 16, 110, 182, 0, 228, 153, 0, 68, 42]
abbrev dktX3_readsCommand_0 : List UInt8 := dkwX3_readsCommand_0 ++ dktX3_readsCommand_1
theorem dksX3_readsCommand_0 : cX3_readsCommand.data.toList.drop 0 = dktX3_readsCommand_0 := by decide +kernel
theorem dksX3_readsCommand_1 : cX3_readsCommand.data.toList.drop 24 = dktX3_readsCommand_1 := dk_seg dksX3_readsCommand_0 24 rfl rfl
theorem dksX3_readsCommand_2 : cX3_readsCommand.data.toList.drop 47 = dktX3_readsCommand_2 := dk_seg dksX3_readsCommand_1 23 rfl rfl
theorem dksX3_readsCommand_3 : cX3_readsCommand.data.toList.drop 70 = dktX3_readsCommand_3 := dk_seg dksX3_readsCommand_2 23 rfl rfl
theorem dksX3_readsCommand_4 : cX3_readsCommand.data.toList.drop 93 = dktX3_readsCommand_4 := dk_seg dksX3_readsCommand_3 23 rfl rfl
theorem dksX3_readsCommand_5 : cX3_readsCommand.data.toList.drop 116 = dktX3_readsCommand_5 := dk_seg dksX3_readsCommand_4 23 rfl rfl
theorem dksX3_readsCommand_6 : cX3_readsCommand.data.toList.drop 140 = dktX3_readsCommand_6 := dk_seg dksX3_readsCommand_5 24 rfl rfl
theorem dksX3_readsCommand_7 : cX3_readsCommand.data.toList.drop 162 = dktX3_readsCommand_7 := dk_seg dksX3_readsCommand_6 22 rfl rfl
theorem dksX3_readsCommand_8 : cX3_readsCommand.data.toList.drop 186 = dktX3_readsCommand_8 := dk_seg dksX3_readsCommand_7 24 rfl rfl
theorem dksX3_readsCommand_9 : cX3_readsCommand.data.toList.drop 209 = dktX3_readsCommand_9 := dk_seg dksX3_readsCommand_8 23 rfl rfl
theorem dksX3_readsCommand_10 : cX3_readsCommand.data.toList.drop 232 = dktX3_readsCommand_10 := dk_seg dksX3_readsCommand_9 23 rfl rfl
theorem dksX3_readsCommand_11 : cX3_readsCommand.data.toList.drop 256 = dktX3_readsCommand_11 := dk_seg dksX3_readsCommand_10 24 rfl rfl
theorem dksX3_readsCommand_12 : cX3_readsCommand.data.toList.drop 279 = dktX3_readsCommand_12 := dk_seg dksX3_readsCommand_11 23 rfl rfl
theorem dksX3_readsCommand_13 : cX3_readsCommand.data.toList.drop 303 = dktX3_readsCommand_13 := dk_seg dksX3_readsCommand_12 24 rfl rfl
theorem dksX3_readsCommand_14 : cX3_readsCommand.data.toList.drop 327 = dktX3_readsCommand_14 := dk_seg dksX3_readsCommand_13 24 rfl rfl
theorem dX3_readsCommand_0 : decode cX3_readsCommand 0 = .ok (.aload_n 0, 1) := dk_42 (dk_at dksX3_readsCommand_0 0 rfl rfl)
theorem dX3_readsCommand_1 : decode cX3_readsCommand 1 = .ok (.bipush 101, 2) := dk_16 101 (dk_at dksX3_readsCommand_0 1 rfl rfl)
theorem dX3_readsCommand_3 : decode cX3_readsCommand 3 = .ok (.invokevirtual 228, 3) := dk_182 0 228 (dk_at dksX3_readsCommand_0 3 rfl rfl)
theorem dX3_readsCommand_6 : decode cX3_readsCommand 6 = .ok (.ifCond .eq 84, 3) := dk_153 0 84 (dk_at dksX3_readsCommand_0 6 rfl rfl)
theorem dX3_readsCommand_9 : decode cX3_readsCommand 9 = .ok (.aload_n 0, 1) := dk_42 (dk_at dksX3_readsCommand_0 9 rfl rfl)
theorem dX3_readsCommand_10 : decode cX3_readsCommand 10 = .ok (.iconst 0, 1) := dk_3 (dk_at dksX3_readsCommand_0 10 rfl rfl)
theorem dX3_readsCommand_11 : decode cX3_readsCommand 11 = .ok (.putfield 231, 3) := dk_181 0 231 (dk_at dksX3_readsCommand_0 11 rfl rfl)
theorem dX3_readsCommand_14 : decode cX3_readsCommand 14 = .ok (.aload_n 0, 1) := dk_42 (dk_at dksX3_readsCommand_0 14 rfl rfl)
theorem dX3_readsCommand_15 : decode cX3_readsCommand 15 = .ok (.bipush 110, 2) := dk_16 110 (dk_at dksX3_readsCommand_0 15 rfl rfl)
theorem dX3_readsCommand_17 : decode cX3_readsCommand 17 = .ok (.invokevirtual 228, 3) := dk_182 0 228 (dk_at dksX3_readsCommand_0 17 rfl rfl)
theorem dX3_readsCommand_20 : decode cX3_readsCommand 20 = .ok (.ifCond .eq 68, 3) := dk_153 0 68 (dk_at dksX3_readsCommand_0 20 rfl rfl)
theorem dX3_readsCommand_23 : decode cX3_readsCommand 23 = .ok (.aload_n 0, 1) := dk_42 (dk_at dksX3_readsCommand_0 23 rfl rfl)
theorem dX3_readsCommand_24 : decode cX3_readsCommand 24 = .ok (.bipush 116, 2) := dk_16 116 (dk_at dksX3_readsCommand_1 0 rfl rfl)
theorem dX3_readsCommand_26 : decode cX3_readsCommand 26 = .ok (.invokevirtual 228, 3) := dk_182 0 228 (dk_at dksX3_readsCommand_1 2 rfl rfl)
theorem dX3_readsCommand_29 : decode cX3_readsCommand 29 = .ok (.ifCond .eq 59, 3) := dk_153 0 59 (dk_at dksX3_readsCommand_1 5 rfl rfl)
theorem dX3_readsCommand_32 : decode cX3_readsCommand 32 = .ok (.aload_n 0, 1) := dk_42 (dk_at dksX3_readsCommand_1 8 rfl rfl)
theorem dX3_readsCommand_33 : decode cX3_readsCommand 33 = .ok (.bipush 101, 2) := dk_16 101 (dk_at dksX3_readsCommand_1 9 rfl rfl)
theorem dX3_readsCommand_35 : decode cX3_readsCommand 35 = .ok (.invokevirtual 228, 3) := dk_182 0 228 (dk_at dksX3_readsCommand_1 11 rfl rfl)
theorem dX3_readsCommand_38 : decode cX3_readsCommand 38 = .ok (.ifCond .eq 50, 3) := dk_153 0 50 (dk_at dksX3_readsCommand_1 14 rfl rfl)
theorem dX3_readsCommand_41 : decode cX3_readsCommand 41 = .ok (.aload_n 0, 1) := dk_42 (dk_at dksX3_readsCommand_1 17 rfl rfl)
theorem dX3_readsCommand_42 : decode cX3_readsCommand 42 = .ok (.bipush 114, 2) := dk_16 114 (dk_at dksX3_readsCommand_1 18 rfl rfl)
theorem dX3_readsCommand_44 : decode cX3_readsCommand 44 = .ok (.invokevirtual 228, 3) := dk_182 0 228 (dk_at dksX3_readsCommand_1 20 rfl rfl)
theorem dX3_readsCommand_47 : decode cX3_readsCommand 47 = .ok (.ifCond .eq 41, 3) := dk_153 0 41 (dk_at dksX3_readsCommand_2 0 rfl rfl)
theorem dX3_readsCommand_50 : decode cX3_readsCommand 50 = .ok (.aload_n 0, 1) := dk_42 (dk_at dksX3_readsCommand_2 3 rfl rfl)
theorem dX3_readsCommand_51 : decode cX3_readsCommand 51 = .ok (.bipush 32, 2) := dk_16 32 (dk_at dksX3_readsCommand_2 4 rfl rfl)
theorem dX3_readsCommand_53 : decode cX3_readsCommand 53 = .ok (.invokevirtual 228, 3) := dk_182 0 228 (dk_at dksX3_readsCommand_2 6 rfl rfl)
theorem dX3_readsCommand_56 : decode cX3_readsCommand 56 = .ok (.ifCond .eq 32, 3) := dk_153 0 32 (dk_at dksX3_readsCommand_2 9 rfl rfl)
theorem dX3_readsCommand_59 : decode cX3_readsCommand 59 = .ok (.aload_n 0, 1) := dk_42 (dk_at dksX3_readsCommand_2 12 rfl rfl)
theorem dX3_readsCommand_60 : decode cX3_readsCommand 60 = .ok (.iconst 0, 1) := dk_3 (dk_at dksX3_readsCommand_2 13 rfl rfl)
theorem dX3_readsCommand_61 : decode cX3_readsCommand 61 = .ok (.invokevirtual 234, 3) := dk_182 0 234 (dk_at dksX3_readsCommand_2 14 rfl rfl)
theorem dX3_readsCommand_64 : decode cX3_readsCommand 64 = .ok (.ifCond .eq 24, 3) := dk_153 0 24 (dk_at dksX3_readsCommand_2 17 rfl rfl)
theorem dX3_readsCommand_67 : decode cX3_readsCommand 67 = .ok (.aload_n 0, 1) := dk_42 (dk_at dksX3_readsCommand_2 20 rfl rfl)
theorem dX3_readsCommand_68 : decode cX3_readsCommand 68 = .ok (.bipush 32, 2) := dk_16 32 (dk_at dksX3_readsCommand_2 21 rfl rfl)
theorem dX3_readsCommand_70 : decode cX3_readsCommand 70 = .ok (.invokevirtual 228, 3) := dk_182 0 228 (dk_at dksX3_readsCommand_3 0 rfl rfl)
theorem dX3_readsCommand_73 : decode cX3_readsCommand 73 = .ok (.ifCond .eq 15, 3) := dk_153 0 15 (dk_at dksX3_readsCommand_3 3 rfl rfl)
theorem dX3_readsCommand_76 : decode cX3_readsCommand 76 = .ok (.aload_n 0, 1) := dk_42 (dk_at dksX3_readsCommand_3 6 rfl rfl)
theorem dX3_readsCommand_77 : decode cX3_readsCommand 77 = .ok (.iconst 1, 1) := dk_4 (dk_at dksX3_readsCommand_3 7 rfl rfl)
theorem dX3_readsCommand_78 : decode cX3_readsCommand 78 = .ok (.invokevirtual 234, 3) := dk_182 0 234 (dk_at dksX3_readsCommand_3 8 rfl rfl)
theorem dX3_readsCommand_81 : decode cX3_readsCommand 81 = .ok (.ifCond .eq 7, 3) := dk_153 0 7 (dk_at dksX3_readsCommand_3 11 rfl rfl)
theorem dX3_readsCommand_84 : decode cX3_readsCommand 84 = .ok (.iconst 1, 1) := dk_4 (dk_at dksX3_readsCommand_3 14 rfl rfl)
theorem dX3_readsCommand_85 : decode cX3_readsCommand 85 = .ok (.goto 4, 3) := dk_167 0 4 (dk_at dksX3_readsCommand_3 15 rfl rfl)
theorem dX3_readsCommand_88 : decode cX3_readsCommand 88 = .ok (.iconst 0, 1) := dk_3 (dk_at dksX3_readsCommand_3 18 rfl rfl)
theorem dX3_readsCommand_89 : decode cX3_readsCommand 89 = .ok (.ireturn, 1) := dk_172 (dk_at dksX3_readsCommand_3 19 rfl rfl)
theorem dX3_readsCommand_90 : decode cX3_readsCommand 90 = .ok (.aload_n 0, 1) := dk_42 (dk_at dksX3_readsCommand_3 20 rfl rfl)
theorem dX3_readsCommand_91 : decode cX3_readsCommand 91 = .ok (.bipush 108, 2) := dk_16 108 (dk_at dksX3_readsCommand_3 21 rfl rfl)
theorem dX3_readsCommand_93 : decode cX3_readsCommand 93 = .ok (.invokevirtual 228, 3) := dk_182 0 228 (dk_at dksX3_readsCommand_4 0 rfl rfl)
theorem dX3_readsCommand_96 : decode cX3_readsCommand 96 = .ok (.ifCond .eq 75, 3) := dk_153 0 75 (dk_at dksX3_readsCommand_4 3 rfl rfl)
theorem dX3_readsCommand_99 : decode cX3_readsCommand 99 = .ok (.aload_n 0, 1) := dk_42 (dk_at dksX3_readsCommand_4 6 rfl rfl)
theorem dX3_readsCommand_100 : decode cX3_readsCommand 100 = .ok (.iconst 1, 1) := dk_4 (dk_at dksX3_readsCommand_4 7 rfl rfl)
theorem dX3_readsCommand_101 : decode cX3_readsCommand 101 = .ok (.putfield 231, 3) := dk_181 0 231 (dk_at dksX3_readsCommand_4 8 rfl rfl)
theorem dX3_readsCommand_104 : decode cX3_readsCommand 104 = .ok (.aload_n 0, 1) := dk_42 (dk_at dksX3_readsCommand_4 11 rfl rfl)
theorem dX3_readsCommand_105 : decode cX3_readsCommand 105 = .ok (.bipush 97, 2) := dk_16 97 (dk_at dksX3_readsCommand_4 12 rfl rfl)
theorem dX3_readsCommand_107 : decode cX3_readsCommand 107 = .ok (.invokevirtual 228, 3) := dk_182 0 228 (dk_at dksX3_readsCommand_4 14 rfl rfl)
theorem dX3_readsCommand_110 : decode cX3_readsCommand 110 = .ok (.ifCond .eq 59, 3) := dk_153 0 59 (dk_at dksX3_readsCommand_4 17 rfl rfl)
theorem dX3_readsCommand_113 : decode cX3_readsCommand 113 = .ok (.aload_n 0, 1) := dk_42 (dk_at dksX3_readsCommand_4 20 rfl rfl)
theorem dX3_readsCommand_114 : decode cX3_readsCommand 114 = .ok (.bipush 109, 2) := dk_16 109 (dk_at dksX3_readsCommand_4 21 rfl rfl)
theorem dX3_readsCommand_116 : decode cX3_readsCommand 116 = .ok (.invokevirtual 228, 3) := dk_182 0 228 (dk_at dksX3_readsCommand_5 0 rfl rfl)
theorem dX3_readsCommand_119 : decode cX3_readsCommand 119 = .ok (.ifCond .eq 50, 3) := dk_153 0 50 (dk_at dksX3_readsCommand_5 3 rfl rfl)
theorem dX3_readsCommand_122 : decode cX3_readsCommand 122 = .ok (.aload_n 0, 1) := dk_42 (dk_at dksX3_readsCommand_5 6 rfl rfl)
theorem dX3_readsCommand_123 : decode cX3_readsCommand 123 = .ok (.bipush 112, 2) := dk_16 112 (dk_at dksX3_readsCommand_5 7 rfl rfl)
theorem dX3_readsCommand_125 : decode cX3_readsCommand 125 = .ok (.invokevirtual 228, 3) := dk_182 0 228 (dk_at dksX3_readsCommand_5 9 rfl rfl)
theorem dX3_readsCommand_128 : decode cX3_readsCommand 128 = .ok (.ifCond .eq 41, 3) := dk_153 0 41 (dk_at dksX3_readsCommand_5 12 rfl rfl)
theorem dX3_readsCommand_131 : decode cX3_readsCommand 131 = .ok (.aload_n 0, 1) := dk_42 (dk_at dksX3_readsCommand_5 15 rfl rfl)
theorem dX3_readsCommand_132 : decode cX3_readsCommand 132 = .ok (.bipush 32, 2) := dk_16 32 (dk_at dksX3_readsCommand_5 16 rfl rfl)
theorem dX3_readsCommand_134 : decode cX3_readsCommand 134 = .ok (.invokevirtual 228, 3) := dk_182 0 228 (dk_at dksX3_readsCommand_5 18 rfl rfl)
theorem dX3_readsCommand_137 : decode cX3_readsCommand 137 = .ok (.ifCond .eq 32, 3) := dk_153 0 32 (dk_at dksX3_readsCommand_5 21 rfl rfl)
theorem dX3_readsCommand_140 : decode cX3_readsCommand 140 = .ok (.aload_n 0, 1) := dk_42 (dk_at dksX3_readsCommand_6 0 rfl rfl)
theorem dX3_readsCommand_141 : decode cX3_readsCommand 141 = .ok (.iconst 0, 1) := dk_3 (dk_at dksX3_readsCommand_6 1 rfl rfl)
theorem dX3_readsCommand_142 : decode cX3_readsCommand 142 = .ok (.invokevirtual 225, 3) := dk_182 0 225 (dk_at dksX3_readsCommand_6 2 rfl rfl)
theorem dX3_readsCommand_145 : decode cX3_readsCommand 145 = .ok (.ifCond .eq 24, 3) := dk_153 0 24 (dk_at dksX3_readsCommand_6 5 rfl rfl)
theorem dX3_readsCommand_148 : decode cX3_readsCommand 148 = .ok (.aload_n 0, 1) := dk_42 (dk_at dksX3_readsCommand_6 8 rfl rfl)
theorem dX3_readsCommand_149 : decode cX3_readsCommand 149 = .ok (.bipush 32, 2) := dk_16 32 (dk_at dksX3_readsCommand_6 9 rfl rfl)
theorem dX3_readsCommand_151 : decode cX3_readsCommand 151 = .ok (.invokevirtual 228, 3) := dk_182 0 228 (dk_at dksX3_readsCommand_6 11 rfl rfl)
theorem dX3_readsCommand_154 : decode cX3_readsCommand 154 = .ok (.ifCond .eq 15, 3) := dk_153 0 15 (dk_at dksX3_readsCommand_6 14 rfl rfl)
theorem dX3_readsCommand_157 : decode cX3_readsCommand 157 = .ok (.aload_n 0, 1) := dk_42 (dk_at dksX3_readsCommand_6 17 rfl rfl)
theorem dX3_readsCommand_158 : decode cX3_readsCommand 158 = .ok (.iconst 1, 1) := dk_4 (dk_at dksX3_readsCommand_6 18 rfl rfl)
theorem dX3_readsCommand_159 : decode cX3_readsCommand 159 = .ok (.invokevirtual 234, 3) := dk_182 0 234 (dk_at dksX3_readsCommand_6 19 rfl rfl)
theorem dX3_readsCommand_162 : decode cX3_readsCommand 162 = .ok (.ifCond .eq 7, 3) := dk_153 0 7 (dk_at dksX3_readsCommand_7 0 rfl rfl)
theorem dX3_readsCommand_165 : decode cX3_readsCommand 165 = .ok (.iconst 1, 1) := dk_4 (dk_at dksX3_readsCommand_7 3 rfl rfl)
theorem dX3_readsCommand_166 : decode cX3_readsCommand 166 = .ok (.goto 4, 3) := dk_167 0 4 (dk_at dksX3_readsCommand_7 4 rfl rfl)
theorem dX3_readsCommand_169 : decode cX3_readsCommand 169 = .ok (.iconst 0, 1) := dk_3 (dk_at dksX3_readsCommand_7 7 rfl rfl)
theorem dX3_readsCommand_170 : decode cX3_readsCommand 170 = .ok (.ireturn, 1) := dk_172 (dk_at dksX3_readsCommand_7 8 rfl rfl)
theorem dX3_readsCommand_171 : decode cX3_readsCommand 171 = .ok (.aload_n 0, 1) := dk_42 (dk_at dksX3_readsCommand_7 9 rfl rfl)
theorem dX3_readsCommand_172 : decode cX3_readsCommand 172 = .ok (.bipush 100, 2) := dk_16 100 (dk_at dksX3_readsCommand_7 10 rfl rfl)
theorem dX3_readsCommand_174 : decode cX3_readsCommand 174 = .ok (.invokevirtual 228, 3) := dk_182 0 228 (dk_at dksX3_readsCommand_7 12 rfl rfl)
theorem dX3_readsCommand_177 : decode cX3_readsCommand 177 = .ok (.ifCond .eq 8, 3) := dk_153 0 8 (dk_at dksX3_readsCommand_7 15 rfl rfl)
theorem dX3_readsCommand_180 : decode cX3_readsCommand 180 = .ok (.aload_n 0, 1) := dk_42 (dk_at dksX3_readsCommand_7 18 rfl rfl)
theorem dX3_readsCommand_181 : decode cX3_readsCommand 181 = .ok (.invokevirtual 237, 3) := dk_182 0 237 (dk_at dksX3_readsCommand_7 19 rfl rfl)
theorem dX3_readsCommand_184 : decode cX3_readsCommand 184 = .ok (.ireturn, 1) := dk_172 (dk_at dksX3_readsCommand_7 22 rfl rfl)
theorem dX3_readsCommand_185 : decode cX3_readsCommand 185 = .ok (.aload_n 0, 1) := dk_42 (dk_at dksX3_readsCommand_7 23 rfl rfl)
theorem dX3_readsCommand_186 : decode cX3_readsCommand 186 = .ok (.bipush 115, 2) := dk_16 115 (dk_at dksX3_readsCommand_8 0 rfl rfl)
theorem dX3_readsCommand_188 : decode cX3_readsCommand 188 = .ok (.invokevirtual 228, 3) := dk_182 0 228 (dk_at dksX3_readsCommand_8 2 rfl rfl)
theorem dX3_readsCommand_191 : decode cX3_readsCommand 191 = .ok (.ifCond .eq 50, 3) := dk_153 0 50 (dk_at dksX3_readsCommand_8 5 rfl rfl)
theorem dX3_readsCommand_194 : decode cX3_readsCommand 194 = .ok (.aload_n 0, 1) := dk_42 (dk_at dksX3_readsCommand_8 8 rfl rfl)
theorem dX3_readsCommand_195 : decode cX3_readsCommand 195 = .ok (.iconst 3, 1) := dk_6 (dk_at dksX3_readsCommand_8 9 rfl rfl)
theorem dX3_readsCommand_196 : decode cX3_readsCommand 196 = .ok (.putfield 231, 3) := dk_181 0 231 (dk_at dksX3_readsCommand_8 10 rfl rfl)
theorem dX3_readsCommand_199 : decode cX3_readsCommand 199 = .ok (.aload_n 0, 1) := dk_42 (dk_at dksX3_readsCommand_8 13 rfl rfl)
theorem dX3_readsCommand_200 : decode cX3_readsCommand 200 = .ok (.bipush 119, 2) := dk_16 119 (dk_at dksX3_readsCommand_8 14 rfl rfl)
theorem dX3_readsCommand_202 : decode cX3_readsCommand 202 = .ok (.invokevirtual 228, 3) := dk_182 0 228 (dk_at dksX3_readsCommand_8 16 rfl rfl)
theorem dX3_readsCommand_205 : decode cX3_readsCommand 205 = .ok (.ifCond .eq 34, 3) := dk_153 0 34 (dk_at dksX3_readsCommand_8 19 rfl rfl)
theorem dX3_readsCommand_208 : decode cX3_readsCommand 208 = .ok (.aload_n 0, 1) := dk_42 (dk_at dksX3_readsCommand_8 22 rfl rfl)
theorem dX3_readsCommand_209 : decode cX3_readsCommand 209 = .ok (.bipush 101, 2) := dk_16 101 (dk_at dksX3_readsCommand_9 0 rfl rfl)
theorem dX3_readsCommand_211 : decode cX3_readsCommand 211 = .ok (.invokevirtual 228, 3) := dk_182 0 228 (dk_at dksX3_readsCommand_9 2 rfl rfl)
theorem dX3_readsCommand_214 : decode cX3_readsCommand 214 = .ok (.ifCond .eq 25, 3) := dk_153 0 25 (dk_at dksX3_readsCommand_9 5 rfl rfl)
theorem dX3_readsCommand_217 : decode cX3_readsCommand 217 = .ok (.aload_n 0, 1) := dk_42 (dk_at dksX3_readsCommand_9 8 rfl rfl)
theorem dX3_readsCommand_218 : decode cX3_readsCommand 218 = .ok (.bipush 101, 2) := dk_16 101 (dk_at dksX3_readsCommand_9 9 rfl rfl)
theorem dX3_readsCommand_220 : decode cX3_readsCommand 220 = .ok (.invokevirtual 228, 3) := dk_182 0 228 (dk_at dksX3_readsCommand_9 11 rfl rfl)
theorem dX3_readsCommand_223 : decode cX3_readsCommand 223 = .ok (.ifCond .eq 16, 3) := dk_153 0 16 (dk_at dksX3_readsCommand_9 14 rfl rfl)
theorem dX3_readsCommand_226 : decode cX3_readsCommand 226 = .ok (.aload_n 0, 1) := dk_42 (dk_at dksX3_readsCommand_9 17 rfl rfl)
theorem dX3_readsCommand_227 : decode cX3_readsCommand 227 = .ok (.bipush 112, 2) := dk_16 112 (dk_at dksX3_readsCommand_9 18 rfl rfl)
theorem dX3_readsCommand_229 : decode cX3_readsCommand 229 = .ok (.invokevirtual 228, 3) := dk_182 0 228 (dk_at dksX3_readsCommand_9 20 rfl rfl)
theorem dX3_readsCommand_232 : decode cX3_readsCommand 232 = .ok (.ifCond .eq 7, 3) := dk_153 0 7 (dk_at dksX3_readsCommand_10 0 rfl rfl)
theorem dX3_readsCommand_235 : decode cX3_readsCommand 235 = .ok (.iconst 1, 1) := dk_4 (dk_at dksX3_readsCommand_10 3 rfl rfl)
theorem dX3_readsCommand_236 : decode cX3_readsCommand 236 = .ok (.goto 4, 3) := dk_167 0 4 (dk_at dksX3_readsCommand_10 4 rfl rfl)
theorem dX3_readsCommand_239 : decode cX3_readsCommand 239 = .ok (.iconst 0, 1) := dk_3 (dk_at dksX3_readsCommand_10 7 rfl rfl)
theorem dX3_readsCommand_240 : decode cX3_readsCommand 240 = .ok (.ireturn, 1) := dk_172 (dk_at dksX3_readsCommand_10 8 rfl rfl)
theorem dX3_readsCommand_241 : decode cX3_readsCommand 241 = .ok (.aload_n 0, 1) := dk_42 (dk_at dksX3_readsCommand_10 9 rfl rfl)
theorem dX3_readsCommand_242 : decode cX3_readsCommand 242 = .ok (.iconst 5, 1) := dk_8 (dk_at dksX3_readsCommand_10 10 rfl rfl)
theorem dX3_readsCommand_243 : decode cX3_readsCommand 243 = .ok (.putfield 231, 3) := dk_181 0 231 (dk_at dksX3_readsCommand_10 11 rfl rfl)
theorem dX3_readsCommand_246 : decode cX3_readsCommand 246 = .ok (.aload_n 0, 1) := dk_42 (dk_at dksX3_readsCommand_10 14 rfl rfl)
theorem dX3_readsCommand_247 : decode cX3_readsCommand 247 = .ok (.bipush 109, 2) := dk_16 109 (dk_at dksX3_readsCommand_10 15 rfl rfl)
theorem dX3_readsCommand_249 : decode cX3_readsCommand 249 = .ok (.invokevirtual 228, 3) := dk_182 0 228 (dk_at dksX3_readsCommand_10 17 rfl rfl)
theorem dX3_readsCommand_252 : decode cX3_readsCommand 252 = .ok (.ifCond .eq 78, 3) := dk_153 0 78 (dk_at dksX3_readsCommand_10 20 rfl rfl)
theorem dX3_readsCommand_255 : decode cX3_readsCommand 255 = .ok (.aload_n 0, 1) := dk_42 (dk_at dksX3_readsCommand_10 23 rfl rfl)
theorem dX3_readsCommand_256 : decode cX3_readsCommand 256 = .ok (.bipush 105, 2) := dk_16 105 (dk_at dksX3_readsCommand_11 0 rfl rfl)
theorem dX3_readsCommand_258 : decode cX3_readsCommand 258 = .ok (.invokevirtual 228, 3) := dk_182 0 228 (dk_at dksX3_readsCommand_11 2 rfl rfl)
theorem dX3_readsCommand_261 : decode cX3_readsCommand 261 = .ok (.ifCond .eq 69, 3) := dk_153 0 69 (dk_at dksX3_readsCommand_11 5 rfl rfl)
theorem dX3_readsCommand_264 : decode cX3_readsCommand 264 = .ok (.aload_n 0, 1) := dk_42 (dk_at dksX3_readsCommand_11 8 rfl rfl)
theorem dX3_readsCommand_265 : decode cX3_readsCommand 265 = .ok (.bipush 110, 2) := dk_16 110 (dk_at dksX3_readsCommand_11 9 rfl rfl)
theorem dX3_readsCommand_267 : decode cX3_readsCommand 267 = .ok (.invokevirtual 228, 3) := dk_182 0 228 (dk_at dksX3_readsCommand_11 11 rfl rfl)
theorem dX3_readsCommand_270 : decode cX3_readsCommand 270 = .ok (.ifCond .eq 60, 3) := dk_153 0 60 (dk_at dksX3_readsCommand_11 14 rfl rfl)
theorem dX3_readsCommand_273 : decode cX3_readsCommand 273 = .ok (.aload_n 0, 1) := dk_42 (dk_at dksX3_readsCommand_11 17 rfl rfl)
theorem dX3_readsCommand_274 : decode cX3_readsCommand 274 = .ok (.bipush 117, 2) := dk_16 117 (dk_at dksX3_readsCommand_11 18 rfl rfl)
theorem dX3_readsCommand_276 : decode cX3_readsCommand 276 = .ok (.invokevirtual 228, 3) := dk_182 0 228 (dk_at dksX3_readsCommand_11 20 rfl rfl)
theorem dX3_readsCommand_279 : decode cX3_readsCommand 279 = .ok (.ifCond .eq 51, 3) := dk_153 0 51 (dk_at dksX3_readsCommand_12 0 rfl rfl)
theorem dX3_readsCommand_282 : decode cX3_readsCommand 282 = .ok (.aload_n 0, 1) := dk_42 (dk_at dksX3_readsCommand_12 3 rfl rfl)
theorem dX3_readsCommand_283 : decode cX3_readsCommand 283 = .ok (.bipush 116, 2) := dk_16 116 (dk_at dksX3_readsCommand_12 4 rfl rfl)
theorem dX3_readsCommand_285 : decode cX3_readsCommand 285 = .ok (.invokevirtual 228, 3) := dk_182 0 228 (dk_at dksX3_readsCommand_12 6 rfl rfl)
theorem dX3_readsCommand_288 : decode cX3_readsCommand 288 = .ok (.ifCond .eq 42, 3) := dk_153 0 42 (dk_at dksX3_readsCommand_12 9 rfl rfl)
theorem dX3_readsCommand_291 : decode cX3_readsCommand 291 = .ok (.aload_n 0, 1) := dk_42 (dk_at dksX3_readsCommand_12 12 rfl rfl)
theorem dX3_readsCommand_292 : decode cX3_readsCommand 292 = .ok (.bipush 101, 2) := dk_16 101 (dk_at dksX3_readsCommand_12 13 rfl rfl)
theorem dX3_readsCommand_294 : decode cX3_readsCommand 294 = .ok (.invokevirtual 228, 3) := dk_182 0 228 (dk_at dksX3_readsCommand_12 15 rfl rfl)
theorem dX3_readsCommand_297 : decode cX3_readsCommand 297 = .ok (.ifCond .eq 33, 3) := dk_153 0 33 (dk_at dksX3_readsCommand_12 18 rfl rfl)
theorem dX3_readsCommand_300 : decode cX3_readsCommand 300 = .ok (.aload_n 0, 1) := dk_42 (dk_at dksX3_readsCommand_12 21 rfl rfl)
theorem dX3_readsCommand_301 : decode cX3_readsCommand 301 = .ok (.bipush 115, 2) := dk_16 115 (dk_at dksX3_readsCommand_12 22 rfl rfl)
theorem dX3_readsCommand_303 : decode cX3_readsCommand 303 = .ok (.invokevirtual 228, 3) := dk_182 0 228 (dk_at dksX3_readsCommand_13 0 rfl rfl)
theorem dX3_readsCommand_306 : decode cX3_readsCommand 306 = .ok (.ifCond .eq 24, 3) := dk_153 0 24 (dk_at dksX3_readsCommand_13 3 rfl rfl)
theorem dX3_readsCommand_309 : decode cX3_readsCommand 309 = .ok (.aload_n 0, 1) := dk_42 (dk_at dksX3_readsCommand_13 6 rfl rfl)
theorem dX3_readsCommand_310 : decode cX3_readsCommand 310 = .ok (.bipush 32, 2) := dk_16 32 (dk_at dksX3_readsCommand_13 7 rfl rfl)
theorem dX3_readsCommand_312 : decode cX3_readsCommand 312 = .ok (.invokevirtual 228, 3) := dk_182 0 228 (dk_at dksX3_readsCommand_13 9 rfl rfl)
theorem dX3_readsCommand_315 : decode cX3_readsCommand 315 = .ok (.ifCond .eq 15, 3) := dk_153 0 15 (dk_at dksX3_readsCommand_13 12 rfl rfl)
theorem dX3_readsCommand_318 : decode cX3_readsCommand 318 = .ok (.aload_n 0, 1) := dk_42 (dk_at dksX3_readsCommand_13 15 rfl rfl)
theorem dX3_readsCommand_319 : decode cX3_readsCommand 319 = .ok (.iconst 0, 1) := dk_3 (dk_at dksX3_readsCommand_13 16 rfl rfl)
theorem dX3_readsCommand_320 : decode cX3_readsCommand 320 = .ok (.invokevirtual 234, 3) := dk_182 0 234 (dk_at dksX3_readsCommand_13 17 rfl rfl)
theorem dX3_readsCommand_323 : decode cX3_readsCommand 323 = .ok (.ifCond .eq 7, 3) := dk_153 0 7 (dk_at dksX3_readsCommand_13 20 rfl rfl)
theorem dX3_readsCommand_326 : decode cX3_readsCommand 326 = .ok (.iconst 1, 1) := dk_4 (dk_at dksX3_readsCommand_13 23 rfl rfl)
theorem dX3_readsCommand_327 : decode cX3_readsCommand 327 = .ok (.goto 4, 3) := dk_167 0 4 (dk_at dksX3_readsCommand_14 0 rfl rfl)
theorem dX3_readsCommand_330 : decode cX3_readsCommand 330 = .ok (.iconst 0, 1) := dk_3 (dk_at dksX3_readsCommand_14 3 rfl rfl)
theorem dX3_readsCommand_331 : decode cX3_readsCommand 331 = .ok (.ireturn, 1) := dk_172 (dk_at dksX3_readsCommand_14 4 rfl rfl)
abbrev cX3_reads : ByteArray := prog_31_method_86_code
def yX3_reads : MethodName := ⟨RX3, "reads", "(I)Z"⟩
def dkwX3_reads_0 : List UInt8 := [42, 182, 0, 222, 27, 159, 0, 5, 3, 172, 42, 89, 180, 0, 219, 4, 96, 181, 0, 219, 4, 172]
abbrev dktX3_reads_0 : List UInt8 := dkwX3_reads_0 ++ []
theorem dksX3_reads_0 : cX3_reads.data.toList.drop 0 = dktX3_reads_0 := by decide +kernel
theorem dX3_reads_0 : decode cX3_reads 0 = .ok (.aload_n 0, 1) := dk_42 (dk_at dksX3_reads_0 0 rfl rfl)
theorem dX3_reads_1 : decode cX3_reads 1 = .ok (.invokevirtual 222, 3) := dk_182 0 222 (dk_at dksX3_reads_0 1 rfl rfl)
theorem dX3_reads_4 : decode cX3_reads 4 = .ok (.iload_n 1, 1) := dk_27 (dk_at dksX3_reads_0 4 rfl rfl)
theorem dX3_reads_5 : decode cX3_reads 5 = .ok (.if_icmp .eq 5, 3) := dk_159 0 5 (dk_at dksX3_reads_0 5 rfl rfl)
theorem dX3_reads_8 : decode cX3_reads 8 = .ok (.iconst 0, 1) := dk_3 (dk_at dksX3_reads_0 8 rfl rfl)
theorem dX3_reads_9 : decode cX3_reads 9 = .ok (.ireturn, 1) := dk_172 (dk_at dksX3_reads_0 9 rfl rfl)
theorem dX3_reads_10 : decode cX3_reads 10 = .ok (.aload_n 0, 1) := dk_42 (dk_at dksX3_reads_0 10 rfl rfl)
theorem dX3_reads_11 : decode cX3_reads 11 = .ok (.dup, 1) := dk_89 (dk_at dksX3_reads_0 11 rfl rfl)
theorem dX3_reads_12 : decode cX3_reads 12 = .ok (.getfield 219, 3) := dk_180 0 219 (dk_at dksX3_reads_0 12 rfl rfl)
theorem dX3_reads_15 : decode cX3_reads 15 = .ok (.iconst 1, 1) := dk_4 (dk_at dksX3_reads_0 15 rfl rfl)
theorem dX3_reads_16 : decode cX3_reads 16 = .ok (.iadd, 1) := dk_96 (dk_at dksX3_reads_0 16 rfl rfl)
theorem dX3_reads_17 : decode cX3_reads 17 = .ok (.putfield 219, 3) := dk_181 0 219 (dk_at dksX3_reads_0 17 rfl rfl)
theorem dX3_reads_20 : decode cX3_reads 20 = .ok (.iconst 1, 1) := dk_4 (dk_at dksX3_reads_0 20 rfl rfl)
theorem dX3_reads_21 : decode cX3_reads 21 = .ok (.ireturn, 1) := dk_172 (dk_at dksX3_reads_0 21 rfl rfl)
abbrev cX3_sign : ByteArray := prog_31_method_85_code
def yX3_sign : MethodName := ⟨RX3, "sign", "()I"⟩
def dkwX3_sign_1 : List UInt8 := [172]
abbrev dktX3_sign_1 : List UInt8 := dkwX3_sign_1 ++ []
def dkwX3_sign_0 : List UInt8 := [42, 180, 0, 219, 42, 180, 0, 216, 162, 0, 15, 42, 180, 0, 26, 42, 180, 0, 219, 52, 167, 0, 4, 2]
abbrev dktX3_sign_0 : List UInt8 := dkwX3_sign_0 ++ dktX3_sign_1
theorem dksX3_sign_0 : cX3_sign.data.toList.drop 0 = dktX3_sign_0 := by decide +kernel
theorem dksX3_sign_1 : cX3_sign.data.toList.drop 24 = dktX3_sign_1 := dk_seg dksX3_sign_0 24 rfl rfl
theorem dX3_sign_0 : decode cX3_sign 0 = .ok (.aload_n 0, 1) := dk_42 (dk_at dksX3_sign_0 0 rfl rfl)
theorem dX3_sign_1 : decode cX3_sign 1 = .ok (.getfield 219, 3) := dk_180 0 219 (dk_at dksX3_sign_0 1 rfl rfl)
theorem dX3_sign_4 : decode cX3_sign 4 = .ok (.aload_n 0, 1) := dk_42 (dk_at dksX3_sign_0 4 rfl rfl)
theorem dX3_sign_5 : decode cX3_sign 5 = .ok (.getfield 216, 3) := dk_180 0 216 (dk_at dksX3_sign_0 5 rfl rfl)
theorem dX3_sign_8 : decode cX3_sign 8 = .ok (.if_icmp .ge 15, 3) := dk_162 0 15 (dk_at dksX3_sign_0 8 rfl rfl)
theorem dX3_sign_11 : decode cX3_sign 11 = .ok (.aload_n 0, 1) := dk_42 (dk_at dksX3_sign_0 11 rfl rfl)
theorem dX3_sign_12 : decode cX3_sign 12 = .ok (.getfield 26, 3) := dk_180 0 26 (dk_at dksX3_sign_0 12 rfl rfl)
theorem dX3_sign_15 : decode cX3_sign 15 = .ok (.aload_n 0, 1) := dk_42 (dk_at dksX3_sign_0 15 rfl rfl)
theorem dX3_sign_16 : decode cX3_sign 16 = .ok (.getfield 219, 3) := dk_180 0 219 (dk_at dksX3_sign_0 16 rfl rfl)
theorem dX3_sign_19 : decode cX3_sign 19 = .ok (.caload, 1) := dk_52 (dk_at dksX3_sign_0 19 rfl rfl)
theorem dX3_sign_20 : decode cX3_sign 20 = .ok (.goto 4, 3) := dk_167 0 4 (dk_at dksX3_sign_0 20 rfl rfl)
theorem dX3_sign_23 : decode cX3_sign 23 = .ok (.iconst (-1), 1) := dk_2 (dk_at dksX3_sign_0 23 rfl rfl)
theorem dX3_sign_24 : decode cX3_sign 24 = .ok (.ireturn, 1) := dk_172 (dk_at dksX3_sign_1 0 rfl rfl)
abbrev cX3_readsNumber : ByteArray := prog_31_method_88_code
def yX3_readsNumber : MethodName := ⟨RX3, "readsNumber", "(I)Z"⟩
def dkwX3_readsNumber_1 : List UInt8 := [153, 0, 16, 42, 180, 0, 29, 27, 92, 46, 16, 10, 28, 104, 96, 79, 4, 172]
abbrev dktX3_readsNumber_1 : List UInt8 := dkwX3_readsNumber_1 ++ []
def dkwX3_readsNumber_0 : List UInt8 := [42, 27, 182, 0, 225, 154, 0, 5, 3, 172, 42, 180, 0, 29, 27, 46, 61, 42, 27, 182, 0, 225]
abbrev dktX3_readsNumber_0 : List UInt8 := dkwX3_readsNumber_0 ++ dktX3_readsNumber_1
theorem dksX3_readsNumber_0 : cX3_readsNumber.data.toList.drop 0 = dktX3_readsNumber_0 := by decide +kernel
theorem dksX3_readsNumber_1 : cX3_readsNumber.data.toList.drop 22 = dktX3_readsNumber_1 := dk_seg dksX3_readsNumber_0 22 rfl rfl
theorem dX3_readsNumber_0 : decode cX3_readsNumber 0 = .ok (.aload_n 0, 1) := dk_42 (dk_at dksX3_readsNumber_0 0 rfl rfl)
theorem dX3_readsNumber_1 : decode cX3_readsNumber 1 = .ok (.iload_n 1, 1) := dk_27 (dk_at dksX3_readsNumber_0 1 rfl rfl)
theorem dX3_readsNumber_2 : decode cX3_readsNumber 2 = .ok (.invokevirtual 225, 3) := dk_182 0 225 (dk_at dksX3_readsNumber_0 2 rfl rfl)
theorem dX3_readsNumber_5 : decode cX3_readsNumber 5 = .ok (.ifCond .ne 5, 3) := dk_154 0 5 (dk_at dksX3_readsNumber_0 5 rfl rfl)
theorem dX3_readsNumber_8 : decode cX3_readsNumber 8 = .ok (.iconst 0, 1) := dk_3 (dk_at dksX3_readsNumber_0 8 rfl rfl)
theorem dX3_readsNumber_9 : decode cX3_readsNumber 9 = .ok (.ireturn, 1) := dk_172 (dk_at dksX3_readsNumber_0 9 rfl rfl)
theorem dX3_readsNumber_10 : decode cX3_readsNumber 10 = .ok (.aload_n 0, 1) := dk_42 (dk_at dksX3_readsNumber_0 10 rfl rfl)
theorem dX3_readsNumber_11 : decode cX3_readsNumber 11 = .ok (.getfield 29, 3) := dk_180 0 29 (dk_at dksX3_readsNumber_0 11 rfl rfl)
theorem dX3_readsNumber_14 : decode cX3_readsNumber 14 = .ok (.iload_n 1, 1) := dk_27 (dk_at dksX3_readsNumber_0 14 rfl rfl)
theorem dX3_readsNumber_15 : decode cX3_readsNumber 15 = .ok (.iaload, 1) := dk_46 (dk_at dksX3_readsNumber_0 15 rfl rfl)
theorem dX3_readsNumber_16 : decode cX3_readsNumber 16 = .ok (.istore_n 2, 1) := dk_61 (dk_at dksX3_readsNumber_0 16 rfl rfl)
theorem dX3_readsNumber_17 : decode cX3_readsNumber 17 = .ok (.aload_n 0, 1) := dk_42 (dk_at dksX3_readsNumber_0 17 rfl rfl)
theorem dX3_readsNumber_18 : decode cX3_readsNumber 18 = .ok (.iload_n 1, 1) := dk_27 (dk_at dksX3_readsNumber_0 18 rfl rfl)
theorem dX3_readsNumber_19 : decode cX3_readsNumber 19 = .ok (.invokevirtual 225, 3) := dk_182 0 225 (dk_at dksX3_readsNumber_0 19 rfl rfl)
theorem dX3_readsNumber_22 : decode cX3_readsNumber 22 = .ok (.ifCond .eq 16, 3) := dk_153 0 16 (dk_at dksX3_readsNumber_1 0 rfl rfl)
theorem dX3_readsNumber_25 : decode cX3_readsNumber 25 = .ok (.aload_n 0, 1) := dk_42 (dk_at dksX3_readsNumber_1 3 rfl rfl)
theorem dX3_readsNumber_26 : decode cX3_readsNumber 26 = .ok (.getfield 29, 3) := dk_180 0 29 (dk_at dksX3_readsNumber_1 4 rfl rfl)
theorem dX3_readsNumber_29 : decode cX3_readsNumber 29 = .ok (.iload_n 1, 1) := dk_27 (dk_at dksX3_readsNumber_1 7 rfl rfl)
theorem dX3_readsNumber_30 : decode cX3_readsNumber 30 = .ok (.dup2, 1) := dk_92 (dk_at dksX3_readsNumber_1 8 rfl rfl)
theorem dX3_readsNumber_31 : decode cX3_readsNumber 31 = .ok (.iaload, 1) := dk_46 (dk_at dksX3_readsNumber_1 9 rfl rfl)
theorem dX3_readsNumber_32 : decode cX3_readsNumber 32 = .ok (.bipush 10, 2) := dk_16 10 (dk_at dksX3_readsNumber_1 10 rfl rfl)
theorem dX3_readsNumber_34 : decode cX3_readsNumber 34 = .ok (.iload_n 2, 1) := dk_28 (dk_at dksX3_readsNumber_1 12 rfl rfl)
theorem dX3_readsNumber_35 : decode cX3_readsNumber 35 = .ok (.imul, 1) := dk_104 (dk_at dksX3_readsNumber_1 13 rfl rfl)
theorem dX3_readsNumber_36 : decode cX3_readsNumber 36 = .ok (.iadd, 1) := dk_96 (dk_at dksX3_readsNumber_1 14 rfl rfl)
theorem dX3_readsNumber_37 : decode cX3_readsNumber 37 = .ok (.iastore, 1) := dk_79 (dk_at dksX3_readsNumber_1 15 rfl rfl)
theorem dX3_readsNumber_38 : decode cX3_readsNumber 38 = .ok (.iconst 1, 1) := dk_4 (dk_at dksX3_readsNumber_1 16 rfl rfl)
theorem dX3_readsNumber_39 : decode cX3_readsNumber 39 = .ok (.ireturn, 1) := dk_172 (dk_at dksX3_readsNumber_1 17 rfl rfl)
abbrev cX3_readsDigit : ByteArray := prog_31_method_87_code
def yX3_readsDigit : MethodName := ⟨RX3, "readsDigit", "(I)Z"⟩
def dkwX3_readsDigit_1 : List UInt8 := [180, 0, 26, 42, 180, 0, 219, 52, 16, 48, 100, 79, 42, 89, 180, 0, 219, 4, 96, 181, 0, 219, 4, 172]
abbrev dktX3_readsDigit_1 : List UInt8 := dkwX3_readsDigit_1 ++ []
def dkwX3_readsDigit_0 : List UInt8 := [42, 182, 0, 222, 16, 48, 16, 57, 184, 0, 68, 154, 0, 5, 3, 172, 42, 180, 0, 29, 27, 42]
abbrev dktX3_readsDigit_0 : List UInt8 := dkwX3_readsDigit_0 ++ dktX3_readsDigit_1
theorem dksX3_readsDigit_0 : cX3_readsDigit.data.toList.drop 0 = dktX3_readsDigit_0 := by decide +kernel
theorem dksX3_readsDigit_1 : cX3_readsDigit.data.toList.drop 22 = dktX3_readsDigit_1 := dk_seg dksX3_readsDigit_0 22 rfl rfl
theorem dX3_readsDigit_0 : decode cX3_readsDigit 0 = .ok (.aload_n 0, 1) := dk_42 (dk_at dksX3_readsDigit_0 0 rfl rfl)
theorem dX3_readsDigit_1 : decode cX3_readsDigit 1 = .ok (.invokevirtual 222, 3) := dk_182 0 222 (dk_at dksX3_readsDigit_0 1 rfl rfl)
theorem dX3_readsDigit_4 : decode cX3_readsDigit 4 = .ok (.bipush 48, 2) := dk_16 48 (dk_at dksX3_readsDigit_0 4 rfl rfl)
theorem dX3_readsDigit_6 : decode cX3_readsDigit 6 = .ok (.bipush 57, 2) := dk_16 57 (dk_at dksX3_readsDigit_0 6 rfl rfl)
theorem dX3_readsDigit_8 : decode cX3_readsDigit 8 = .ok (.invokestatic 68, 3) := dk_184 0 68 (dk_at dksX3_readsDigit_0 8 rfl rfl)
theorem dX3_readsDigit_11 : decode cX3_readsDigit 11 = .ok (.ifCond .ne 5, 3) := dk_154 0 5 (dk_at dksX3_readsDigit_0 11 rfl rfl)
theorem dX3_readsDigit_14 : decode cX3_readsDigit 14 = .ok (.iconst 0, 1) := dk_3 (dk_at dksX3_readsDigit_0 14 rfl rfl)
theorem dX3_readsDigit_15 : decode cX3_readsDigit 15 = .ok (.ireturn, 1) := dk_172 (dk_at dksX3_readsDigit_0 15 rfl rfl)
theorem dX3_readsDigit_16 : decode cX3_readsDigit 16 = .ok (.aload_n 0, 1) := dk_42 (dk_at dksX3_readsDigit_0 16 rfl rfl)
theorem dX3_readsDigit_17 : decode cX3_readsDigit 17 = .ok (.getfield 29, 3) := dk_180 0 29 (dk_at dksX3_readsDigit_0 17 rfl rfl)
theorem dX3_readsDigit_20 : decode cX3_readsDigit 20 = .ok (.iload_n 1, 1) := dk_27 (dk_at dksX3_readsDigit_0 20 rfl rfl)
theorem dX3_readsDigit_21 : decode cX3_readsDigit 21 = .ok (.aload_n 0, 1) := dk_42 (dk_at dksX3_readsDigit_0 21 rfl rfl)
theorem dX3_readsDigit_22 : decode cX3_readsDigit 22 = .ok (.getfield 26, 3) := dk_180 0 26 (dk_at dksX3_readsDigit_1 0 rfl rfl)
theorem dX3_readsDigit_25 : decode cX3_readsDigit 25 = .ok (.aload_n 0, 1) := dk_42 (dk_at dksX3_readsDigit_1 3 rfl rfl)
theorem dX3_readsDigit_26 : decode cX3_readsDigit 26 = .ok (.getfield 219, 3) := dk_180 0 219 (dk_at dksX3_readsDigit_1 4 rfl rfl)
theorem dX3_readsDigit_29 : decode cX3_readsDigit 29 = .ok (.caload, 1) := dk_52 (dk_at dksX3_readsDigit_1 7 rfl rfl)
theorem dX3_readsDigit_30 : decode cX3_readsDigit 30 = .ok (.bipush 48, 2) := dk_16 48 (dk_at dksX3_readsDigit_1 8 rfl rfl)
theorem dX3_readsDigit_32 : decode cX3_readsDigit 32 = .ok (.isub, 1) := dk_100 (dk_at dksX3_readsDigit_1 10 rfl rfl)
theorem dX3_readsDigit_33 : decode cX3_readsDigit 33 = .ok (.iastore, 1) := dk_79 (dk_at dksX3_readsDigit_1 11 rfl rfl)
theorem dX3_readsDigit_34 : decode cX3_readsDigit 34 = .ok (.aload_n 0, 1) := dk_42 (dk_at dksX3_readsDigit_1 12 rfl rfl)
theorem dX3_readsDigit_35 : decode cX3_readsDigit 35 = .ok (.dup, 1) := dk_89 (dk_at dksX3_readsDigit_1 13 rfl rfl)
theorem dX3_readsDigit_36 : decode cX3_readsDigit 36 = .ok (.getfield 219, 3) := dk_180 0 219 (dk_at dksX3_readsDigit_1 14 rfl rfl)
theorem dX3_readsDigit_39 : decode cX3_readsDigit 39 = .ok (.iconst 1, 1) := dk_4 (dk_at dksX3_readsDigit_1 17 rfl rfl)
theorem dX3_readsDigit_40 : decode cX3_readsDigit 40 = .ok (.iadd, 1) := dk_96 (dk_at dksX3_readsDigit_1 18 rfl rfl)
theorem dX3_readsDigit_41 : decode cX3_readsDigit 41 = .ok (.putfield 219, 3) := dk_181 0 219 (dk_at dksX3_readsDigit_1 19 rfl rfl)
theorem dX3_readsDigit_44 : decode cX3_readsDigit 44 = .ok (.iconst 1, 1) := dk_4 (dk_at dksX3_readsDigit_1 22 rfl rfl)
theorem dX3_readsDigit_45 : decode cX3_readsDigit 45 = .ok (.ireturn, 1) := dk_172 (dk_at dksX3_readsDigit_1 23 rfl rfl)
abbrev cX3_readsD : ByteArray := prog_31_method_89_code
def yX3_readsD : MethodName := ⟨RX3, "readsD", "()Z"⟩
def dkwX3_readsD_5 : List UInt8 := [182, 0, 228, 153, 0, 15, 42, 3, 182, 0, 225, 153, 0, 7, 4, 167, 0, 4, 3, 172]
abbrev dktX3_readsD_5 : List UInt8 := dkwX3_readsD_5 ++ []
def dkwX3_readsD_4 : List UInt8 := [153, 0, 42, 42, 16, 104, 182, 0, 228, 153, 0, 33, 42, 16, 116, 182, 0, 228, 153, 0, 24, 42, 16, 32]
abbrev dktX3_readsD_4 : List UInt8 := dkwX3_readsD_4 ++ dktX3_readsD_5
def dkwX3_readsD_3 : List UInt8 := [16, 97, 182, 0, 228, 153, 0, 60, 42, 16, 117, 182, 0, 228, 153, 0, 51, 42, 16, 103, 182, 0, 228]
abbrev dktX3_readsD_3 : List UInt8 := dkwX3_readsD_3 ++ dktX3_readsD_4
def dkwX3_readsD_2 : List UInt8 := [153, 0, 7, 4, 167, 0, 4, 3, 172, 42, 7, 181, 0, 231, 42, 16, 114, 182, 0, 228, 153, 0, 69, 42]
abbrev dktX3_readsD_2 : List UInt8 := dkwX3_readsD_2 ++ dktX3_readsD_3
def dkwX3_readsD_1 : List UInt8 := [16, 107, 182, 0, 228, 153, 0, 24, 42, 16, 32, 182, 0, 228, 153, 0, 15, 42, 3, 182, 0, 225]
abbrev dktX3_readsD_1 : List UInt8 := dkwX3_readsD_1 ++ dktX3_readsD_2
def dkwX3_readsD_0 : List UInt8 := [42, 16, 97, 182, 0, 228, 153, 0, 49, 42, 5, 181, 0, 231, 42, 16, 114, 182, 0, 228, 153, 0, 33, 42]
abbrev dktX3_readsD_0 : List UInt8 := dkwX3_readsD_0 ++ dktX3_readsD_1
theorem dksX3_readsD_0 : cX3_readsD.data.toList.drop 0 = dktX3_readsD_0 := by decide +kernel
theorem dksX3_readsD_1 : cX3_readsD.data.toList.drop 24 = dktX3_readsD_1 := dk_seg dksX3_readsD_0 24 rfl rfl
theorem dksX3_readsD_2 : cX3_readsD.data.toList.drop 46 = dktX3_readsD_2 := dk_seg dksX3_readsD_1 22 rfl rfl
theorem dksX3_readsD_3 : cX3_readsD.data.toList.drop 70 = dktX3_readsD_3 := dk_seg dksX3_readsD_2 24 rfl rfl
theorem dksX3_readsD_4 : cX3_readsD.data.toList.drop 93 = dktX3_readsD_4 := dk_seg dksX3_readsD_3 23 rfl rfl
theorem dksX3_readsD_5 : cX3_readsD.data.toList.drop 117 = dktX3_readsD_5 := dk_seg dksX3_readsD_4 24 rfl rfl
theorem dX3_readsD_0 : decode cX3_readsD 0 = .ok (.aload_n 0, 1) := dk_42 (dk_at dksX3_readsD_0 0 rfl rfl)
theorem dX3_readsD_1 : decode cX3_readsD 1 = .ok (.bipush 97, 2) := dk_16 97 (dk_at dksX3_readsD_0 1 rfl rfl)
theorem dX3_readsD_3 : decode cX3_readsD 3 = .ok (.invokevirtual 228, 3) := dk_182 0 228 (dk_at dksX3_readsD_0 3 rfl rfl)
theorem dX3_readsD_6 : decode cX3_readsD 6 = .ok (.ifCond .eq 49, 3) := dk_153 0 49 (dk_at dksX3_readsD_0 6 rfl rfl)
theorem dX3_readsD_9 : decode cX3_readsD 9 = .ok (.aload_n 0, 1) := dk_42 (dk_at dksX3_readsD_0 9 rfl rfl)
theorem dX3_readsD_10 : decode cX3_readsD 10 = .ok (.iconst 2, 1) := dk_5 (dk_at dksX3_readsD_0 10 rfl rfl)
theorem dX3_readsD_11 : decode cX3_readsD 11 = .ok (.putfield 231, 3) := dk_181 0 231 (dk_at dksX3_readsD_0 11 rfl rfl)
theorem dX3_readsD_14 : decode cX3_readsD 14 = .ok (.aload_n 0, 1) := dk_42 (dk_at dksX3_readsD_0 14 rfl rfl)
theorem dX3_readsD_15 : decode cX3_readsD 15 = .ok (.bipush 114, 2) := dk_16 114 (dk_at dksX3_readsD_0 15 rfl rfl)
theorem dX3_readsD_17 : decode cX3_readsD 17 = .ok (.invokevirtual 228, 3) := dk_182 0 228 (dk_at dksX3_readsD_0 17 rfl rfl)
theorem dX3_readsD_20 : decode cX3_readsD 20 = .ok (.ifCond .eq 33, 3) := dk_153 0 33 (dk_at dksX3_readsD_0 20 rfl rfl)
theorem dX3_readsD_23 : decode cX3_readsD 23 = .ok (.aload_n 0, 1) := dk_42 (dk_at dksX3_readsD_0 23 rfl rfl)
theorem dX3_readsD_24 : decode cX3_readsD 24 = .ok (.bipush 107, 2) := dk_16 107 (dk_at dksX3_readsD_1 0 rfl rfl)
theorem dX3_readsD_26 : decode cX3_readsD 26 = .ok (.invokevirtual 228, 3) := dk_182 0 228 (dk_at dksX3_readsD_1 2 rfl rfl)
theorem dX3_readsD_29 : decode cX3_readsD 29 = .ok (.ifCond .eq 24, 3) := dk_153 0 24 (dk_at dksX3_readsD_1 5 rfl rfl)
theorem dX3_readsD_32 : decode cX3_readsD 32 = .ok (.aload_n 0, 1) := dk_42 (dk_at dksX3_readsD_1 8 rfl rfl)
theorem dX3_readsD_33 : decode cX3_readsD 33 = .ok (.bipush 32, 2) := dk_16 32 (dk_at dksX3_readsD_1 9 rfl rfl)
theorem dX3_readsD_35 : decode cX3_readsD 35 = .ok (.invokevirtual 228, 3) := dk_182 0 228 (dk_at dksX3_readsD_1 11 rfl rfl)
theorem dX3_readsD_38 : decode cX3_readsD 38 = .ok (.ifCond .eq 15, 3) := dk_153 0 15 (dk_at dksX3_readsD_1 14 rfl rfl)
theorem dX3_readsD_41 : decode cX3_readsD 41 = .ok (.aload_n 0, 1) := dk_42 (dk_at dksX3_readsD_1 17 rfl rfl)
theorem dX3_readsD_42 : decode cX3_readsD 42 = .ok (.iconst 0, 1) := dk_3 (dk_at dksX3_readsD_1 18 rfl rfl)
theorem dX3_readsD_43 : decode cX3_readsD 43 = .ok (.invokevirtual 225, 3) := dk_182 0 225 (dk_at dksX3_readsD_1 19 rfl rfl)
theorem dX3_readsD_46 : decode cX3_readsD 46 = .ok (.ifCond .eq 7, 3) := dk_153 0 7 (dk_at dksX3_readsD_2 0 rfl rfl)
theorem dX3_readsD_49 : decode cX3_readsD 49 = .ok (.iconst 1, 1) := dk_4 (dk_at dksX3_readsD_2 3 rfl rfl)
theorem dX3_readsD_50 : decode cX3_readsD 50 = .ok (.goto 4, 3) := dk_167 0 4 (dk_at dksX3_readsD_2 4 rfl rfl)
theorem dX3_readsD_53 : decode cX3_readsD 53 = .ok (.iconst 0, 1) := dk_3 (dk_at dksX3_readsD_2 7 rfl rfl)
theorem dX3_readsD_54 : decode cX3_readsD 54 = .ok (.ireturn, 1) := dk_172 (dk_at dksX3_readsD_2 8 rfl rfl)
theorem dX3_readsD_55 : decode cX3_readsD 55 = .ok (.aload_n 0, 1) := dk_42 (dk_at dksX3_readsD_2 9 rfl rfl)
theorem dX3_readsD_56 : decode cX3_readsD 56 = .ok (.iconst 4, 1) := dk_7 (dk_at dksX3_readsD_2 10 rfl rfl)
theorem dX3_readsD_57 : decode cX3_readsD 57 = .ok (.putfield 231, 3) := dk_181 0 231 (dk_at dksX3_readsD_2 11 rfl rfl)
theorem dX3_readsD_60 : decode cX3_readsD 60 = .ok (.aload_n 0, 1) := dk_42 (dk_at dksX3_readsD_2 14 rfl rfl)
theorem dX3_readsD_61 : decode cX3_readsD 61 = .ok (.bipush 114, 2) := dk_16 114 (dk_at dksX3_readsD_2 15 rfl rfl)
theorem dX3_readsD_63 : decode cX3_readsD 63 = .ok (.invokevirtual 228, 3) := dk_182 0 228 (dk_at dksX3_readsD_2 17 rfl rfl)
theorem dX3_readsD_66 : decode cX3_readsD 66 = .ok (.ifCond .eq 69, 3) := dk_153 0 69 (dk_at dksX3_readsD_2 20 rfl rfl)
theorem dX3_readsD_69 : decode cX3_readsD 69 = .ok (.aload_n 0, 1) := dk_42 (dk_at dksX3_readsD_2 23 rfl rfl)
theorem dX3_readsD_70 : decode cX3_readsD 70 = .ok (.bipush 97, 2) := dk_16 97 (dk_at dksX3_readsD_3 0 rfl rfl)
theorem dX3_readsD_72 : decode cX3_readsD 72 = .ok (.invokevirtual 228, 3) := dk_182 0 228 (dk_at dksX3_readsD_3 2 rfl rfl)
theorem dX3_readsD_75 : decode cX3_readsD 75 = .ok (.ifCond .eq 60, 3) := dk_153 0 60 (dk_at dksX3_readsD_3 5 rfl rfl)
theorem dX3_readsD_78 : decode cX3_readsD 78 = .ok (.aload_n 0, 1) := dk_42 (dk_at dksX3_readsD_3 8 rfl rfl)
theorem dX3_readsD_79 : decode cX3_readsD 79 = .ok (.bipush 117, 2) := dk_16 117 (dk_at dksX3_readsD_3 9 rfl rfl)
theorem dX3_readsD_81 : decode cX3_readsD 81 = .ok (.invokevirtual 228, 3) := dk_182 0 228 (dk_at dksX3_readsD_3 11 rfl rfl)
theorem dX3_readsD_84 : decode cX3_readsD 84 = .ok (.ifCond .eq 51, 3) := dk_153 0 51 (dk_at dksX3_readsD_3 14 rfl rfl)
theorem dX3_readsD_87 : decode cX3_readsD 87 = .ok (.aload_n 0, 1) := dk_42 (dk_at dksX3_readsD_3 17 rfl rfl)
theorem dX3_readsD_88 : decode cX3_readsD 88 = .ok (.bipush 103, 2) := dk_16 103 (dk_at dksX3_readsD_3 18 rfl rfl)
theorem dX3_readsD_90 : decode cX3_readsD 90 = .ok (.invokevirtual 228, 3) := dk_182 0 228 (dk_at dksX3_readsD_3 20 rfl rfl)
theorem dX3_readsD_93 : decode cX3_readsD 93 = .ok (.ifCond .eq 42, 3) := dk_153 0 42 (dk_at dksX3_readsD_4 0 rfl rfl)
theorem dX3_readsD_96 : decode cX3_readsD 96 = .ok (.aload_n 0, 1) := dk_42 (dk_at dksX3_readsD_4 3 rfl rfl)
theorem dX3_readsD_97 : decode cX3_readsD 97 = .ok (.bipush 104, 2) := dk_16 104 (dk_at dksX3_readsD_4 4 rfl rfl)
theorem dX3_readsD_99 : decode cX3_readsD 99 = .ok (.invokevirtual 228, 3) := dk_182 0 228 (dk_at dksX3_readsD_4 6 rfl rfl)
theorem dX3_readsD_102 : decode cX3_readsD 102 = .ok (.ifCond .eq 33, 3) := dk_153 0 33 (dk_at dksX3_readsD_4 9 rfl rfl)
theorem dX3_readsD_105 : decode cX3_readsD 105 = .ok (.aload_n 0, 1) := dk_42 (dk_at dksX3_readsD_4 12 rfl rfl)
theorem dX3_readsD_106 : decode cX3_readsD 106 = .ok (.bipush 116, 2) := dk_16 116 (dk_at dksX3_readsD_4 13 rfl rfl)
theorem dX3_readsD_108 : decode cX3_readsD 108 = .ok (.invokevirtual 228, 3) := dk_182 0 228 (dk_at dksX3_readsD_4 15 rfl rfl)
theorem dX3_readsD_111 : decode cX3_readsD 111 = .ok (.ifCond .eq 24, 3) := dk_153 0 24 (dk_at dksX3_readsD_4 18 rfl rfl)
theorem dX3_readsD_114 : decode cX3_readsD 114 = .ok (.aload_n 0, 1) := dk_42 (dk_at dksX3_readsD_4 21 rfl rfl)
theorem dX3_readsD_115 : decode cX3_readsD 115 = .ok (.bipush 32, 2) := dk_16 32 (dk_at dksX3_readsD_4 22 rfl rfl)
theorem dX3_readsD_117 : decode cX3_readsD 117 = .ok (.invokevirtual 228, 3) := dk_182 0 228 (dk_at dksX3_readsD_5 0 rfl rfl)
theorem dX3_readsD_120 : decode cX3_readsD 120 = .ok (.ifCond .eq 15, 3) := dk_153 0 15 (dk_at dksX3_readsD_5 3 rfl rfl)
theorem dX3_readsD_123 : decode cX3_readsD 123 = .ok (.aload_n 0, 1) := dk_42 (dk_at dksX3_readsD_5 6 rfl rfl)
theorem dX3_readsD_124 : decode cX3_readsD 124 = .ok (.iconst 0, 1) := dk_3 (dk_at dksX3_readsD_5 7 rfl rfl)
theorem dX3_readsD_125 : decode cX3_readsD 125 = .ok (.invokevirtual 225, 3) := dk_182 0 225 (dk_at dksX3_readsD_5 8 rfl rfl)
theorem dX3_readsD_128 : decode cX3_readsD 128 = .ok (.ifCond .eq 7, 3) := dk_153 0 7 (dk_at dksX3_readsD_5 11 rfl rfl)
theorem dX3_readsD_131 : decode cX3_readsD 131 = .ok (.iconst 1, 1) := dk_4 (dk_at dksX3_readsD_5 14 rfl rfl)
theorem dX3_readsD_132 : decode cX3_readsD 132 = .ok (.goto 4, 3) := dk_167 0 4 (dk_at dksX3_readsD_5 15 rfl rfl)
theorem dX3_readsD_135 : decode cX3_readsD 135 = .ok (.iconst 0, 1) := dk_3 (dk_at dksX3_readsD_5 18 rfl rfl)
theorem dX3_readsD_136 : decode cX3_readsD 136 = .ok (.ireturn, 1) := dk_172 (dk_at dksX3_readsD_5 19 rfl rfl)
abbrev cX3_doesAll : ByteArray := prog_31_method_94_code
def yX3_doesAll : MethodName := ⟨RX3, "doesAll", "()Z"⟩
def dkwX3_doesAll_2 : List UInt8 := [16, 59, 182, 0, 228, 60, 167, 255, 214, 4, 172]
abbrev dktX3_doesAll_2 : List UInt8 := dkwX3_doesAll_2 ++ []
def dkwX3_doesAll_1 : List UInt8 := [182, 0, 247, 153, 0, 5, 3, 172, 42, 182, 0, 250, 87, 42, 89, 180, 0, 244, 4, 96, 181, 0, 244, 42]
abbrev dktX3_doesAll_1 : List UInt8 := dkwX3_doesAll_1 ++ dktX3_doesAll_2
def dkwX3_doesAll_0 : List UInt8 := [42, 3, 181, 0, 244, 42, 3, 181, 0, 219, 4, 60, 27, 153, 0, 44, 42, 182, 0, 241, 153, 0, 10, 42]
abbrev dktX3_doesAll_0 : List UInt8 := dkwX3_doesAll_0 ++ dktX3_doesAll_1
theorem dksX3_doesAll_0 : cX3_doesAll.data.toList.drop 0 = dktX3_doesAll_0 := by decide +kernel
theorem dksX3_doesAll_1 : cX3_doesAll.data.toList.drop 24 = dktX3_doesAll_1 := dk_seg dksX3_doesAll_0 24 rfl rfl
theorem dksX3_doesAll_2 : cX3_doesAll.data.toList.drop 48 = dktX3_doesAll_2 := dk_seg dksX3_doesAll_1 24 rfl rfl
theorem dX3_doesAll_0 : decode cX3_doesAll 0 = .ok (.aload_n 0, 1) := dk_42 (dk_at dksX3_doesAll_0 0 rfl rfl)
theorem dX3_doesAll_1 : decode cX3_doesAll 1 = .ok (.iconst 0, 1) := dk_3 (dk_at dksX3_doesAll_0 1 rfl rfl)
theorem dX3_doesAll_2 : decode cX3_doesAll 2 = .ok (.putfield 244, 3) := dk_181 0 244 (dk_at dksX3_doesAll_0 2 rfl rfl)
theorem dX3_doesAll_5 : decode cX3_doesAll 5 = .ok (.aload_n 0, 1) := dk_42 (dk_at dksX3_doesAll_0 5 rfl rfl)
theorem dX3_doesAll_6 : decode cX3_doesAll 6 = .ok (.iconst 0, 1) := dk_3 (dk_at dksX3_doesAll_0 6 rfl rfl)
theorem dX3_doesAll_7 : decode cX3_doesAll 7 = .ok (.putfield 219, 3) := dk_181 0 219 (dk_at dksX3_doesAll_0 7 rfl rfl)
theorem dX3_doesAll_10 : decode cX3_doesAll 10 = .ok (.iconst 1, 1) := dk_4 (dk_at dksX3_doesAll_0 10 rfl rfl)
theorem dX3_doesAll_11 : decode cX3_doesAll 11 = .ok (.istore_n 1, 1) := dk_60 (dk_at dksX3_doesAll_0 11 rfl rfl)
theorem dX3_doesAll_12 : decode cX3_doesAll 12 = .ok (.iload_n 1, 1) := dk_27 (dk_at dksX3_doesAll_0 12 rfl rfl)
theorem dX3_doesAll_13 : decode cX3_doesAll 13 = .ok (.ifCond .eq 44, 3) := dk_153 0 44 (dk_at dksX3_doesAll_0 13 rfl rfl)
theorem dX3_doesAll_16 : decode cX3_doesAll 16 = .ok (.aload_n 0, 1) := dk_42 (dk_at dksX3_doesAll_0 16 rfl rfl)
theorem dX3_doesAll_17 : decode cX3_doesAll 17 = .ok (.invokevirtual 241, 3) := dk_182 0 241 (dk_at dksX3_doesAll_0 17 rfl rfl)
theorem dX3_doesAll_20 : decode cX3_doesAll 20 = .ok (.ifCond .eq 10, 3) := dk_153 0 10 (dk_at dksX3_doesAll_0 20 rfl rfl)
theorem dX3_doesAll_23 : decode cX3_doesAll 23 = .ok (.aload_n 0, 1) := dk_42 (dk_at dksX3_doesAll_0 23 rfl rfl)
theorem dX3_doesAll_24 : decode cX3_doesAll 24 = .ok (.invokevirtual 247, 3) := dk_182 0 247 (dk_at dksX3_doesAll_1 0 rfl rfl)
theorem dX3_doesAll_27 : decode cX3_doesAll 27 = .ok (.ifCond .eq 5, 3) := dk_153 0 5 (dk_at dksX3_doesAll_1 3 rfl rfl)
theorem dX3_doesAll_30 : decode cX3_doesAll 30 = .ok (.iconst 0, 1) := dk_3 (dk_at dksX3_doesAll_1 6 rfl rfl)
theorem dX3_doesAll_31 : decode cX3_doesAll 31 = .ok (.ireturn, 1) := dk_172 (dk_at dksX3_doesAll_1 7 rfl rfl)
theorem dX3_doesAll_32 : decode cX3_doesAll 32 = .ok (.aload_n 0, 1) := dk_42 (dk_at dksX3_doesAll_1 8 rfl rfl)
theorem dX3_doesAll_33 : decode cX3_doesAll 33 = .ok (.invokevirtual 250, 3) := dk_182 0 250 (dk_at dksX3_doesAll_1 9 rfl rfl)
theorem dX3_doesAll_36 : decode cX3_doesAll 36 = .ok (.pop, 1) := dk_87 (dk_at dksX3_doesAll_1 12 rfl rfl)
theorem dX3_doesAll_37 : decode cX3_doesAll 37 = .ok (.aload_n 0, 1) := dk_42 (dk_at dksX3_doesAll_1 13 rfl rfl)
theorem dX3_doesAll_38 : decode cX3_doesAll 38 = .ok (.dup, 1) := dk_89 (dk_at dksX3_doesAll_1 14 rfl rfl)
theorem dX3_doesAll_39 : decode cX3_doesAll 39 = .ok (.getfield 244, 3) := dk_180 0 244 (dk_at dksX3_doesAll_1 15 rfl rfl)
theorem dX3_doesAll_42 : decode cX3_doesAll 42 = .ok (.iconst 1, 1) := dk_4 (dk_at dksX3_doesAll_1 18 rfl rfl)
theorem dX3_doesAll_43 : decode cX3_doesAll 43 = .ok (.iadd, 1) := dk_96 (dk_at dksX3_doesAll_1 19 rfl rfl)
theorem dX3_doesAll_44 : decode cX3_doesAll 44 = .ok (.putfield 244, 3) := dk_181 0 244 (dk_at dksX3_doesAll_1 20 rfl rfl)
theorem dX3_doesAll_47 : decode cX3_doesAll 47 = .ok (.aload_n 0, 1) := dk_42 (dk_at dksX3_doesAll_1 23 rfl rfl)
theorem dX3_doesAll_48 : decode cX3_doesAll 48 = .ok (.bipush 59, 2) := dk_16 59 (dk_at dksX3_doesAll_2 0 rfl rfl)
theorem dX3_doesAll_50 : decode cX3_doesAll 50 = .ok (.invokevirtual 228, 3) := dk_182 0 228 (dk_at dksX3_doesAll_2 2 rfl rfl)
theorem dX3_doesAll_53 : decode cX3_doesAll 53 = .ok (.istore_n 1, 1) := dk_60 (dk_at dksX3_doesAll_2 5 rfl rfl)
theorem dX3_doesAll_54 : decode cX3_doesAll 54 = .ok (.goto (-42), 3) := dk_167 255 214 (dk_at dksX3_doesAll_2 6 rfl rfl)
theorem dX3_doesAll_57 : decode cX3_doesAll 57 = .ok (.iconst 1, 1) := dk_4 (dk_at dksX3_doesAll_2 9 rfl rfl)
theorem dX3_doesAll_58 : decode cX3_doesAll 58 = .ok (.ireturn, 1) := dk_172 (dk_at dksX3_doesAll_2 10 rfl rfl)
abbrev cX3_notNow : ByteArray := prog_31_method_92_code
def yX3_notNow : MethodName := ⟨RX3, "notNow", "()I"⟩
def dkwX3_notNow_5 : List UInt8 := [182, 0, 186, 172]
abbrev dktX3_notNow_5 : List UInt8 := dkwX3_notNow_5 ++ []
def dkwX3_notNow_4 : List UInt8 := [182, 0, 156, 172, 42, 42, 180, 0, 29, 3, 46, 182, 0, 150, 172, 42, 42, 180, 0, 29, 3, 46]
abbrev dktX3_notNow_4 : List UInt8 := dkwX3_notNow_4 ++ dktX3_notNow_5
def dkwX3_notNow_3 : List UInt8 := [42, 180, 0, 29, 4, 46, 182, 0, 138, 172, 42, 42, 180, 0, 29, 3, 46, 182, 0, 144, 172, 42]
abbrev dktX3_notNow_3 : List UInt8 := dkwX3_notNow_3 ++ dktX3_notNow_4
def dkwX3_notNow_2 : List UInt8 := [42, 42, 180, 0, 29, 3, 46, 42, 180, 0, 29, 4, 46, 182, 0, 112, 172, 42, 42, 180, 0, 29, 3, 46]
abbrev dktX3_notNow_2 : List UInt8 := dkwX3_notNow_2 ++ dktX3_notNow_3
def dkwX3_notNow_1 : List UInt8 := [170, 0, 0, 0, 0, 0, 0, 97, 0, 0, 0, 0, 0, 0, 0, 4, 0, 0, 0, 36, 0, 0, 0, 53, 0, 0, 0, 70, 0, 0, 0, 81, 0, 0, 0, 86]
abbrev dktX3_notNow_1 : List UInt8 := dkwX3_notNow_1 ++ dktX3_notNow_2
def dkwX3_notNow_0 : List UInt8 := [42, 180, 0, 231]
abbrev dktX3_notNow_0 : List UInt8 := dkwX3_notNow_0 ++ dktX3_notNow_1
theorem dksX3_notNow_0 : cX3_notNow.data.toList.drop 0 = dktX3_notNow_0 := by decide +kernel
theorem dksX3_notNow_1 : cX3_notNow.data.toList.drop 4 = dktX3_notNow_1 := dk_seg dksX3_notNow_0 4 rfl rfl
theorem dksX3_notNow_2 : cX3_notNow.data.toList.drop 40 = dktX3_notNow_2 := dk_seg dksX3_notNow_1 36 rfl rfl
theorem dksX3_notNow_3 : cX3_notNow.data.toList.drop 64 = dktX3_notNow_3 := dk_seg dksX3_notNow_2 24 rfl rfl
theorem dksX3_notNow_4 : cX3_notNow.data.toList.drop 86 = dktX3_notNow_4 := dk_seg dksX3_notNow_3 22 rfl rfl
theorem dksX3_notNow_5 : cX3_notNow.data.toList.drop 108 = dktX3_notNow_5 := dk_seg dksX3_notNow_4 22 rfl rfl
theorem dX3_notNow_0 : decode cX3_notNow 0 = .ok (.aload_n 0, 1) := dk_42 (dk_at dksX3_notNow_0 0 rfl rfl)
theorem dX3_notNow_1 : decode cX3_notNow 1 = .ok (.getfield 231, 3) := dk_180 0 231 (dk_at dksX3_notNow_0 1 rfl rfl)
theorem dX3_notNow_4 : decode cX3_notNow 4 = .ok (.tableswitch 97 0 4 #[36, 53, 70, 81, 86], 36) := by decide +kernel
theorem dX3_notNow_40 : decode cX3_notNow 40 = .ok (.aload_n 0, 1) := dk_42 (dk_at dksX3_notNow_2 0 rfl rfl)
theorem dX3_notNow_41 : decode cX3_notNow 41 = .ok (.aload_n 0, 1) := dk_42 (dk_at dksX3_notNow_2 1 rfl rfl)
theorem dX3_notNow_42 : decode cX3_notNow 42 = .ok (.getfield 29, 3) := dk_180 0 29 (dk_at dksX3_notNow_2 2 rfl rfl)
theorem dX3_notNow_45 : decode cX3_notNow 45 = .ok (.iconst 0, 1) := dk_3 (dk_at dksX3_notNow_2 5 rfl rfl)
theorem dX3_notNow_46 : decode cX3_notNow 46 = .ok (.iaload, 1) := dk_46 (dk_at dksX3_notNow_2 6 rfl rfl)
theorem dX3_notNow_47 : decode cX3_notNow 47 = .ok (.aload_n 0, 1) := dk_42 (dk_at dksX3_notNow_2 7 rfl rfl)
theorem dX3_notNow_48 : decode cX3_notNow 48 = .ok (.getfield 29, 3) := dk_180 0 29 (dk_at dksX3_notNow_2 8 rfl rfl)
theorem dX3_notNow_51 : decode cX3_notNow 51 = .ok (.iconst 1, 1) := dk_4 (dk_at dksX3_notNow_2 11 rfl rfl)
theorem dX3_notNow_52 : decode cX3_notNow 52 = .ok (.iaload, 1) := dk_46 (dk_at dksX3_notNow_2 12 rfl rfl)
theorem dX3_notNow_53 : decode cX3_notNow 53 = .ok (.invokevirtual 112, 3) := dk_182 0 112 (dk_at dksX3_notNow_2 13 rfl rfl)
theorem dX3_notNow_56 : decode cX3_notNow 56 = .ok (.ireturn, 1) := dk_172 (dk_at dksX3_notNow_2 16 rfl rfl)
theorem dX3_notNow_57 : decode cX3_notNow 57 = .ok (.aload_n 0, 1) := dk_42 (dk_at dksX3_notNow_2 17 rfl rfl)
theorem dX3_notNow_58 : decode cX3_notNow 58 = .ok (.aload_n 0, 1) := dk_42 (dk_at dksX3_notNow_2 18 rfl rfl)
theorem dX3_notNow_59 : decode cX3_notNow 59 = .ok (.getfield 29, 3) := dk_180 0 29 (dk_at dksX3_notNow_2 19 rfl rfl)
theorem dX3_notNow_62 : decode cX3_notNow 62 = .ok (.iconst 0, 1) := dk_3 (dk_at dksX3_notNow_2 22 rfl rfl)
theorem dX3_notNow_63 : decode cX3_notNow 63 = .ok (.iaload, 1) := dk_46 (dk_at dksX3_notNow_2 23 rfl rfl)
theorem dX3_notNow_64 : decode cX3_notNow 64 = .ok (.aload_n 0, 1) := dk_42 (dk_at dksX3_notNow_3 0 rfl rfl)
theorem dX3_notNow_65 : decode cX3_notNow 65 = .ok (.getfield 29, 3) := dk_180 0 29 (dk_at dksX3_notNow_3 1 rfl rfl)
theorem dX3_notNow_68 : decode cX3_notNow 68 = .ok (.iconst 1, 1) := dk_4 (dk_at dksX3_notNow_3 4 rfl rfl)
theorem dX3_notNow_69 : decode cX3_notNow 69 = .ok (.iaload, 1) := dk_46 (dk_at dksX3_notNow_3 5 rfl rfl)
theorem dX3_notNow_70 : decode cX3_notNow 70 = .ok (.invokevirtual 138, 3) := dk_182 0 138 (dk_at dksX3_notNow_3 6 rfl rfl)
theorem dX3_notNow_73 : decode cX3_notNow 73 = .ok (.ireturn, 1) := dk_172 (dk_at dksX3_notNow_3 9 rfl rfl)
theorem dX3_notNow_74 : decode cX3_notNow 74 = .ok (.aload_n 0, 1) := dk_42 (dk_at dksX3_notNow_3 10 rfl rfl)
theorem dX3_notNow_75 : decode cX3_notNow 75 = .ok (.aload_n 0, 1) := dk_42 (dk_at dksX3_notNow_3 11 rfl rfl)
theorem dX3_notNow_76 : decode cX3_notNow 76 = .ok (.getfield 29, 3) := dk_180 0 29 (dk_at dksX3_notNow_3 12 rfl rfl)
theorem dX3_notNow_79 : decode cX3_notNow 79 = .ok (.iconst 0, 1) := dk_3 (dk_at dksX3_notNow_3 15 rfl rfl)
theorem dX3_notNow_80 : decode cX3_notNow 80 = .ok (.iaload, 1) := dk_46 (dk_at dksX3_notNow_3 16 rfl rfl)
theorem dX3_notNow_81 : decode cX3_notNow 81 = .ok (.invokevirtual 144, 3) := dk_182 0 144 (dk_at dksX3_notNow_3 17 rfl rfl)
theorem dX3_notNow_84 : decode cX3_notNow 84 = .ok (.ireturn, 1) := dk_172 (dk_at dksX3_notNow_3 20 rfl rfl)
theorem dX3_notNow_85 : decode cX3_notNow 85 = .ok (.aload_n 0, 1) := dk_42 (dk_at dksX3_notNow_3 21 rfl rfl)
theorem dX3_notNow_86 : decode cX3_notNow 86 = .ok (.invokevirtual 156, 3) := dk_182 0 156 (dk_at dksX3_notNow_4 0 rfl rfl)
theorem dX3_notNow_89 : decode cX3_notNow 89 = .ok (.ireturn, 1) := dk_172 (dk_at dksX3_notNow_4 3 rfl rfl)
theorem dX3_notNow_90 : decode cX3_notNow 90 = .ok (.aload_n 0, 1) := dk_42 (dk_at dksX3_notNow_4 4 rfl rfl)
theorem dX3_notNow_91 : decode cX3_notNow 91 = .ok (.aload_n 0, 1) := dk_42 (dk_at dksX3_notNow_4 5 rfl rfl)
theorem dX3_notNow_92 : decode cX3_notNow 92 = .ok (.getfield 29, 3) := dk_180 0 29 (dk_at dksX3_notNow_4 6 rfl rfl)
theorem dX3_notNow_95 : decode cX3_notNow 95 = .ok (.iconst 0, 1) := dk_3 (dk_at dksX3_notNow_4 9 rfl rfl)
theorem dX3_notNow_96 : decode cX3_notNow 96 = .ok (.iaload, 1) := dk_46 (dk_at dksX3_notNow_4 10 rfl rfl)
theorem dX3_notNow_97 : decode cX3_notNow 97 = .ok (.invokevirtual 150, 3) := dk_182 0 150 (dk_at dksX3_notNow_4 11 rfl rfl)
theorem dX3_notNow_100 : decode cX3_notNow 100 = .ok (.ireturn, 1) := dk_172 (dk_at dksX3_notNow_4 14 rfl rfl)
theorem dX3_notNow_101 : decode cX3_notNow 101 = .ok (.aload_n 0, 1) := dk_42 (dk_at dksX3_notNow_4 15 rfl rfl)
theorem dX3_notNow_102 : decode cX3_notNow 102 = .ok (.aload_n 0, 1) := dk_42 (dk_at dksX3_notNow_4 16 rfl rfl)
theorem dX3_notNow_103 : decode cX3_notNow 103 = .ok (.getfield 29, 3) := dk_180 0 29 (dk_at dksX3_notNow_4 17 rfl rfl)
theorem dX3_notNow_106 : decode cX3_notNow 106 = .ok (.iconst 0, 1) := dk_3 (dk_at dksX3_notNow_4 20 rfl rfl)
theorem dX3_notNow_107 : decode cX3_notNow 107 = .ok (.iaload, 1) := dk_46 (dk_at dksX3_notNow_4 21 rfl rfl)
theorem dX3_notNow_108 : decode cX3_notNow 108 = .ok (.invokevirtual 186, 3) := dk_182 0 186 (dk_at dksX3_notNow_5 0 rfl rfl)
theorem dX3_notNow_111 : decode cX3_notNow 111 = .ok (.ireturn, 1) := dk_172 (dk_at dksX3_notNow_5 3 rfl rfl)
abbrev cX3_doesNow : ByteArray := prog_31_method_93_code
def yX3_doesNow : MethodName := ⟨RX3, "doesNow", "()I"⟩
def dkwX3_doesNow_5 : List UInt8 := [182, 0, 189, 172]
abbrev dktX3_doesNow_5 : List UInt8 := dkwX3_doesNow_5 ++ []
def dkwX3_doesNow_4 : List UInt8 := [182, 0, 159, 172, 42, 42, 180, 0, 29, 3, 46, 182, 0, 153, 172, 42, 42, 180, 0, 29, 3, 46]
abbrev dktX3_doesNow_4 : List UInt8 := dkwX3_doesNow_4 ++ dktX3_doesNow_5
def dkwX3_doesNow_3 : List UInt8 := [42, 180, 0, 29, 4, 46, 182, 0, 141, 172, 42, 42, 180, 0, 29, 3, 46, 182, 0, 147, 172, 42]
abbrev dktX3_doesNow_3 : List UInt8 := dkwX3_doesNow_3 ++ dktX3_doesNow_4
def dkwX3_doesNow_2 : List UInt8 := [42, 42, 180, 0, 29, 3, 46, 42, 180, 0, 29, 4, 46, 182, 0, 118, 172, 42, 42, 180, 0, 29, 3, 46]
abbrev dktX3_doesNow_2 : List UInt8 := dkwX3_doesNow_2 ++ dktX3_doesNow_3
def dkwX3_doesNow_1 : List UInt8 := [170, 0, 0, 0, 0, 0, 0, 97, 0, 0, 0, 0, 0, 0, 0, 4, 0, 0, 0, 36, 0, 0, 0, 53, 0, 0, 0, 70, 0, 0, 0, 81, 0, 0, 0, 86]
abbrev dktX3_doesNow_1 : List UInt8 := dkwX3_doesNow_1 ++ dktX3_doesNow_2
def dkwX3_doesNow_0 : List UInt8 := [42, 180, 0, 231]
abbrev dktX3_doesNow_0 : List UInt8 := dkwX3_doesNow_0 ++ dktX3_doesNow_1
theorem dksX3_doesNow_0 : cX3_doesNow.data.toList.drop 0 = dktX3_doesNow_0 := by decide +kernel
theorem dksX3_doesNow_1 : cX3_doesNow.data.toList.drop 4 = dktX3_doesNow_1 := dk_seg dksX3_doesNow_0 4 rfl rfl
theorem dksX3_doesNow_2 : cX3_doesNow.data.toList.drop 40 = dktX3_doesNow_2 := dk_seg dksX3_doesNow_1 36 rfl rfl
theorem dksX3_doesNow_3 : cX3_doesNow.data.toList.drop 64 = dktX3_doesNow_3 := dk_seg dksX3_doesNow_2 24 rfl rfl
theorem dksX3_doesNow_4 : cX3_doesNow.data.toList.drop 86 = dktX3_doesNow_4 := dk_seg dksX3_doesNow_3 22 rfl rfl
theorem dksX3_doesNow_5 : cX3_doesNow.data.toList.drop 108 = dktX3_doesNow_5 := dk_seg dksX3_doesNow_4 22 rfl rfl
theorem dX3_doesNow_0 : decode cX3_doesNow 0 = .ok (.aload_n 0, 1) := dk_42 (dk_at dksX3_doesNow_0 0 rfl rfl)
theorem dX3_doesNow_1 : decode cX3_doesNow 1 = .ok (.getfield 231, 3) := dk_180 0 231 (dk_at dksX3_doesNow_0 1 rfl rfl)
theorem dX3_doesNow_4 : decode cX3_doesNow 4 = .ok (.tableswitch 97 0 4 #[36, 53, 70, 81, 86], 36) := by decide +kernel
theorem dX3_doesNow_40 : decode cX3_doesNow 40 = .ok (.aload_n 0, 1) := dk_42 (dk_at dksX3_doesNow_2 0 rfl rfl)
theorem dX3_doesNow_41 : decode cX3_doesNow 41 = .ok (.aload_n 0, 1) := dk_42 (dk_at dksX3_doesNow_2 1 rfl rfl)
theorem dX3_doesNow_42 : decode cX3_doesNow 42 = .ok (.getfield 29, 3) := dk_180 0 29 (dk_at dksX3_doesNow_2 2 rfl rfl)
theorem dX3_doesNow_45 : decode cX3_doesNow 45 = .ok (.iconst 0, 1) := dk_3 (dk_at dksX3_doesNow_2 5 rfl rfl)
theorem dX3_doesNow_46 : decode cX3_doesNow 46 = .ok (.iaload, 1) := dk_46 (dk_at dksX3_doesNow_2 6 rfl rfl)
theorem dX3_doesNow_47 : decode cX3_doesNow 47 = .ok (.aload_n 0, 1) := dk_42 (dk_at dksX3_doesNow_2 7 rfl rfl)
theorem dX3_doesNow_48 : decode cX3_doesNow 48 = .ok (.getfield 29, 3) := dk_180 0 29 (dk_at dksX3_doesNow_2 8 rfl rfl)
theorem dX3_doesNow_51 : decode cX3_doesNow 51 = .ok (.iconst 1, 1) := dk_4 (dk_at dksX3_doesNow_2 11 rfl rfl)
theorem dX3_doesNow_52 : decode cX3_doesNow 52 = .ok (.iaload, 1) := dk_46 (dk_at dksX3_doesNow_2 12 rfl rfl)
theorem dX3_doesNow_53 : decode cX3_doesNow 53 = .ok (.invokevirtual 118, 3) := dk_182 0 118 (dk_at dksX3_doesNow_2 13 rfl rfl)
theorem dX3_doesNow_56 : decode cX3_doesNow 56 = .ok (.ireturn, 1) := dk_172 (dk_at dksX3_doesNow_2 16 rfl rfl)
theorem dX3_doesNow_57 : decode cX3_doesNow 57 = .ok (.aload_n 0, 1) := dk_42 (dk_at dksX3_doesNow_2 17 rfl rfl)
theorem dX3_doesNow_58 : decode cX3_doesNow 58 = .ok (.aload_n 0, 1) := dk_42 (dk_at dksX3_doesNow_2 18 rfl rfl)
theorem dX3_doesNow_59 : decode cX3_doesNow 59 = .ok (.getfield 29, 3) := dk_180 0 29 (dk_at dksX3_doesNow_2 19 rfl rfl)
theorem dX3_doesNow_62 : decode cX3_doesNow 62 = .ok (.iconst 0, 1) := dk_3 (dk_at dksX3_doesNow_2 22 rfl rfl)
theorem dX3_doesNow_63 : decode cX3_doesNow 63 = .ok (.iaload, 1) := dk_46 (dk_at dksX3_doesNow_2 23 rfl rfl)
theorem dX3_doesNow_64 : decode cX3_doesNow 64 = .ok (.aload_n 0, 1) := dk_42 (dk_at dksX3_doesNow_3 0 rfl rfl)
theorem dX3_doesNow_65 : decode cX3_doesNow 65 = .ok (.getfield 29, 3) := dk_180 0 29 (dk_at dksX3_doesNow_3 1 rfl rfl)
theorem dX3_doesNow_68 : decode cX3_doesNow 68 = .ok (.iconst 1, 1) := dk_4 (dk_at dksX3_doesNow_3 4 rfl rfl)
theorem dX3_doesNow_69 : decode cX3_doesNow 69 = .ok (.iaload, 1) := dk_46 (dk_at dksX3_doesNow_3 5 rfl rfl)
theorem dX3_doesNow_70 : decode cX3_doesNow 70 = .ok (.invokevirtual 141, 3) := dk_182 0 141 (dk_at dksX3_doesNow_3 6 rfl rfl)
theorem dX3_doesNow_73 : decode cX3_doesNow 73 = .ok (.ireturn, 1) := dk_172 (dk_at dksX3_doesNow_3 9 rfl rfl)
theorem dX3_doesNow_74 : decode cX3_doesNow 74 = .ok (.aload_n 0, 1) := dk_42 (dk_at dksX3_doesNow_3 10 rfl rfl)
theorem dX3_doesNow_75 : decode cX3_doesNow 75 = .ok (.aload_n 0, 1) := dk_42 (dk_at dksX3_doesNow_3 11 rfl rfl)
theorem dX3_doesNow_76 : decode cX3_doesNow 76 = .ok (.getfield 29, 3) := dk_180 0 29 (dk_at dksX3_doesNow_3 12 rfl rfl)
theorem dX3_doesNow_79 : decode cX3_doesNow 79 = .ok (.iconst 0, 1) := dk_3 (dk_at dksX3_doesNow_3 15 rfl rfl)
theorem dX3_doesNow_80 : decode cX3_doesNow 80 = .ok (.iaload, 1) := dk_46 (dk_at dksX3_doesNow_3 16 rfl rfl)
theorem dX3_doesNow_81 : decode cX3_doesNow 81 = .ok (.invokevirtual 147, 3) := dk_182 0 147 (dk_at dksX3_doesNow_3 17 rfl rfl)
theorem dX3_doesNow_84 : decode cX3_doesNow 84 = .ok (.ireturn, 1) := dk_172 (dk_at dksX3_doesNow_3 20 rfl rfl)
theorem dX3_doesNow_85 : decode cX3_doesNow 85 = .ok (.aload_n 0, 1) := dk_42 (dk_at dksX3_doesNow_3 21 rfl rfl)
theorem dX3_doesNow_86 : decode cX3_doesNow 86 = .ok (.invokevirtual 159, 3) := dk_182 0 159 (dk_at dksX3_doesNow_4 0 rfl rfl)
theorem dX3_doesNow_89 : decode cX3_doesNow 89 = .ok (.ireturn, 1) := dk_172 (dk_at dksX3_doesNow_4 3 rfl rfl)
theorem dX3_doesNow_90 : decode cX3_doesNow 90 = .ok (.aload_n 0, 1) := dk_42 (dk_at dksX3_doesNow_4 4 rfl rfl)
theorem dX3_doesNow_91 : decode cX3_doesNow 91 = .ok (.aload_n 0, 1) := dk_42 (dk_at dksX3_doesNow_4 5 rfl rfl)
theorem dX3_doesNow_92 : decode cX3_doesNow 92 = .ok (.getfield 29, 3) := dk_180 0 29 (dk_at dksX3_doesNow_4 6 rfl rfl)
theorem dX3_doesNow_95 : decode cX3_doesNow 95 = .ok (.iconst 0, 1) := dk_3 (dk_at dksX3_doesNow_4 9 rfl rfl)
theorem dX3_doesNow_96 : decode cX3_doesNow 96 = .ok (.iaload, 1) := dk_46 (dk_at dksX3_doesNow_4 10 rfl rfl)
theorem dX3_doesNow_97 : decode cX3_doesNow 97 = .ok (.invokevirtual 153, 3) := dk_182 0 153 (dk_at dksX3_doesNow_4 11 rfl rfl)
theorem dX3_doesNow_100 : decode cX3_doesNow 100 = .ok (.ireturn, 1) := dk_172 (dk_at dksX3_doesNow_4 14 rfl rfl)
theorem dX3_doesNow_101 : decode cX3_doesNow 101 = .ok (.aload_n 0, 1) := dk_42 (dk_at dksX3_doesNow_4 15 rfl rfl)
theorem dX3_doesNow_102 : decode cX3_doesNow 102 = .ok (.aload_n 0, 1) := dk_42 (dk_at dksX3_doesNow_4 16 rfl rfl)
theorem dX3_doesNow_103 : decode cX3_doesNow 103 = .ok (.getfield 29, 3) := dk_180 0 29 (dk_at dksX3_doesNow_4 17 rfl rfl)
theorem dX3_doesNow_106 : decode cX3_doesNow 106 = .ok (.iconst 0, 1) := dk_3 (dk_at dksX3_doesNow_4 20 rfl rfl)
theorem dX3_doesNow_107 : decode cX3_doesNow 107 = .ok (.iaload, 1) := dk_46 (dk_at dksX3_doesNow_4 21 rfl rfl)
theorem dX3_doesNow_108 : decode cX3_doesNow 108 = .ok (.invokevirtual 189, 3) := dk_182 0 189 (dk_at dksX3_doesNow_5 0 rfl rfl)
theorem dX3_doesNow_111 : decode cX3_doesNow 111 = .ok (.ireturn, 1) := dk_172 (dk_at dksX3_doesNow_5 3 rfl rfl)
abbrev cX3_undo : ByteArray := prog_31_method_96_code
def yX3_undo : MethodName := ⟨RX3, "undo", "()I"⟩
def dkwX3_undo_3 : List UInt8 := [167, 255, 228, 42, 180, 0, 56, 172]
abbrev dktX3_undo_3 : List UInt8 := dkwX3_undo_3 ++ []
def dkwX3_undo_2 : List UInt8 := [162, 0, 27, 42, 180, 0, 7, 28, 42, 180, 0, 13, 17, 0, 132, 27, 104, 28, 96, 46, 79, 132, 2, 1]
abbrev dktX3_undo_2 : List UInt8 := dkwX3_undo_2 ++ dktX3_undo_3
def dkwX3_undo_1 : List UInt8 := [100, 181, 0, 56, 42, 180, 0, 59, 42, 180, 0, 56, 96, 16, 8, 112, 60, 3, 61, 28, 17, 0, 132]
abbrev dktX3_undo_1 : List UInt8 := dkwX3_undo_1 ++ dktX3_undo_2
def dkwX3_undo_0 : List UInt8 := [42, 3, 181, 0, 32, 42, 180, 0, 56, 154, 0, 9, 42, 4, 182, 0, 42, 172, 42, 89, 180, 0, 56, 4]
abbrev dktX3_undo_0 : List UInt8 := dkwX3_undo_0 ++ dktX3_undo_1
theorem dksX3_undo_0 : cX3_undo.data.toList.drop 0 = dktX3_undo_0 := by decide +kernel
theorem dksX3_undo_1 : cX3_undo.data.toList.drop 24 = dktX3_undo_1 := dk_seg dksX3_undo_0 24 rfl rfl
theorem dksX3_undo_2 : cX3_undo.data.toList.drop 47 = dktX3_undo_2 := dk_seg dksX3_undo_1 23 rfl rfl
theorem dksX3_undo_3 : cX3_undo.data.toList.drop 71 = dktX3_undo_3 := dk_seg dksX3_undo_2 24 rfl rfl
theorem dX3_undo_0 : decode cX3_undo 0 = .ok (.aload_n 0, 1) := dk_42 (dk_at dksX3_undo_0 0 rfl rfl)
theorem dX3_undo_1 : decode cX3_undo 1 = .ok (.iconst 0, 1) := dk_3 (dk_at dksX3_undo_0 1 rfl rfl)
theorem dX3_undo_2 : decode cX3_undo 2 = .ok (.putfield 32, 3) := dk_181 0 32 (dk_at dksX3_undo_0 2 rfl rfl)
theorem dX3_undo_5 : decode cX3_undo 5 = .ok (.aload_n 0, 1) := dk_42 (dk_at dksX3_undo_0 5 rfl rfl)
theorem dX3_undo_6 : decode cX3_undo 6 = .ok (.getfield 56, 3) := dk_180 0 56 (dk_at dksX3_undo_0 6 rfl rfl)
theorem dX3_undo_9 : decode cX3_undo 9 = .ok (.ifCond .ne 9, 3) := dk_154 0 9 (dk_at dksX3_undo_0 9 rfl rfl)
theorem dX3_undo_12 : decode cX3_undo 12 = .ok (.aload_n 0, 1) := dk_42 (dk_at dksX3_undo_0 12 rfl rfl)
theorem dX3_undo_13 : decode cX3_undo 13 = .ok (.iconst 1, 1) := dk_4 (dk_at dksX3_undo_0 13 rfl rfl)
theorem dX3_undo_14 : decode cX3_undo 14 = .ok (.invokevirtual 42, 3) := dk_182 0 42 (dk_at dksX3_undo_0 14 rfl rfl)
theorem dX3_undo_17 : decode cX3_undo 17 = .ok (.ireturn, 1) := dk_172 (dk_at dksX3_undo_0 17 rfl rfl)
theorem dX3_undo_18 : decode cX3_undo 18 = .ok (.aload_n 0, 1) := dk_42 (dk_at dksX3_undo_0 18 rfl rfl)
theorem dX3_undo_19 : decode cX3_undo 19 = .ok (.dup, 1) := dk_89 (dk_at dksX3_undo_0 19 rfl rfl)
theorem dX3_undo_20 : decode cX3_undo 20 = .ok (.getfield 56, 3) := dk_180 0 56 (dk_at dksX3_undo_0 20 rfl rfl)
theorem dX3_undo_23 : decode cX3_undo 23 = .ok (.iconst 1, 1) := dk_4 (dk_at dksX3_undo_0 23 rfl rfl)
theorem dX3_undo_24 : decode cX3_undo 24 = .ok (.isub, 1) := dk_100 (dk_at dksX3_undo_1 0 rfl rfl)
theorem dX3_undo_25 : decode cX3_undo 25 = .ok (.putfield 56, 3) := dk_181 0 56 (dk_at dksX3_undo_1 1 rfl rfl)
theorem dX3_undo_28 : decode cX3_undo 28 = .ok (.aload_n 0, 1) := dk_42 (dk_at dksX3_undo_1 4 rfl rfl)
theorem dX3_undo_29 : decode cX3_undo 29 = .ok (.getfield 59, 3) := dk_180 0 59 (dk_at dksX3_undo_1 5 rfl rfl)
theorem dX3_undo_32 : decode cX3_undo 32 = .ok (.aload_n 0, 1) := dk_42 (dk_at dksX3_undo_1 8 rfl rfl)
theorem dX3_undo_33 : decode cX3_undo 33 = .ok (.getfield 56, 3) := dk_180 0 56 (dk_at dksX3_undo_1 9 rfl rfl)
theorem dX3_undo_36 : decode cX3_undo 36 = .ok (.iadd, 1) := dk_96 (dk_at dksX3_undo_1 12 rfl rfl)
theorem dX3_undo_37 : decode cX3_undo 37 = .ok (.bipush 8, 2) := dk_16 8 (dk_at dksX3_undo_1 13 rfl rfl)
theorem dX3_undo_39 : decode cX3_undo 39 = .ok (.irem, 1) := dk_112 (dk_at dksX3_undo_1 15 rfl rfl)
theorem dX3_undo_40 : decode cX3_undo 40 = .ok (.istore_n 1, 1) := dk_60 (dk_at dksX3_undo_1 16 rfl rfl)
theorem dX3_undo_41 : decode cX3_undo 41 = .ok (.iconst 0, 1) := dk_3 (dk_at dksX3_undo_1 17 rfl rfl)
theorem dX3_undo_42 : decode cX3_undo 42 = .ok (.istore_n 2, 1) := dk_61 (dk_at dksX3_undo_1 18 rfl rfl)
theorem dX3_undo_43 : decode cX3_undo 43 = .ok (.iload_n 2, 1) := dk_28 (dk_at dksX3_undo_1 19 rfl rfl)
theorem dX3_undo_44 : decode cX3_undo 44 = .ok (.sipush 132, 3) := dk_17 0 132 (dk_at dksX3_undo_1 20 rfl rfl)
theorem dX3_undo_47 : decode cX3_undo 47 = .ok (.if_icmp .ge 27, 3) := dk_162 0 27 (dk_at dksX3_undo_2 0 rfl rfl)
theorem dX3_undo_50 : decode cX3_undo 50 = .ok (.aload_n 0, 1) := dk_42 (dk_at dksX3_undo_2 3 rfl rfl)
theorem dX3_undo_51 : decode cX3_undo 51 = .ok (.getfield 7, 3) := dk_180 0 7 (dk_at dksX3_undo_2 4 rfl rfl)
theorem dX3_undo_54 : decode cX3_undo 54 = .ok (.iload_n 2, 1) := dk_28 (dk_at dksX3_undo_2 7 rfl rfl)
theorem dX3_undo_55 : decode cX3_undo 55 = .ok (.aload_n 0, 1) := dk_42 (dk_at dksX3_undo_2 8 rfl rfl)
theorem dX3_undo_56 : decode cX3_undo 56 = .ok (.getfield 13, 3) := dk_180 0 13 (dk_at dksX3_undo_2 9 rfl rfl)
theorem dX3_undo_59 : decode cX3_undo 59 = .ok (.sipush 132, 3) := dk_17 0 132 (dk_at dksX3_undo_2 12 rfl rfl)
theorem dX3_undo_62 : decode cX3_undo 62 = .ok (.iload_n 1, 1) := dk_27 (dk_at dksX3_undo_2 15 rfl rfl)
theorem dX3_undo_63 : decode cX3_undo 63 = .ok (.imul, 1) := dk_104 (dk_at dksX3_undo_2 16 rfl rfl)
theorem dX3_undo_64 : decode cX3_undo 64 = .ok (.iload_n 2, 1) := dk_28 (dk_at dksX3_undo_2 17 rfl rfl)
theorem dX3_undo_65 : decode cX3_undo 65 = .ok (.iadd, 1) := dk_96 (dk_at dksX3_undo_2 18 rfl rfl)
theorem dX3_undo_66 : decode cX3_undo 66 = .ok (.iaload, 1) := dk_46 (dk_at dksX3_undo_2 19 rfl rfl)
theorem dX3_undo_67 : decode cX3_undo 67 = .ok (.iastore, 1) := dk_79 (dk_at dksX3_undo_2 20 rfl rfl)
theorem dX3_undo_68 : decode cX3_undo 68 = .ok (.iinc 2 1, 3) := dk_132 2 1 (dk_at dksX3_undo_2 21 rfl rfl)
theorem dX3_undo_71 : decode cX3_undo 71 = .ok (.goto (-28), 3) := dk_167 255 228 (dk_at dksX3_undo_3 0 rfl rfl)
theorem dX3_undo_74 : decode cX3_undo 74 = .ok (.aload_n 0, 1) := dk_42 (dk_at dksX3_undo_3 3 rfl rfl)
theorem dX3_undo_75 : decode cX3_undo 75 = .ok (.getfield 56, 3) := dk_180 0 56 (dk_at dksX3_undo_3 4 rfl rfl)
theorem dX3_undo_78 : decode cX3_undo 78 = .ok (.ireturn, 1) := dk_172 (dk_at dksX3_undo_3 7 rfl rfl)
abbrev cX3_save : ByteArray := prog_31_method_97_code
def yX3_save : MethodName := ⟨RX3, "save", "()I"⟩
def dkwX3_save_1 : List UInt8 := [46, 79, 132, 1, 1, 167, 255, 234, 42, 4, 181, 1, 3, 42, 180, 0, 7, 3, 46, 172]
abbrev dktX3_save_1 : List UInt8 := dkwX3_save_1 ++ []
def dkwX3_save_0 : List UInt8 := [42, 3, 181, 0, 32, 3, 60, 27, 17, 0, 132, 162, 0, 21, 42, 180, 0, 16, 27, 42, 180, 0, 7, 27]
abbrev dktX3_save_0 : List UInt8 := dkwX3_save_0 ++ dktX3_save_1
theorem dksX3_save_0 : cX3_save.data.toList.drop 0 = dktX3_save_0 := by decide +kernel
theorem dksX3_save_1 : cX3_save.data.toList.drop 24 = dktX3_save_1 := dk_seg dksX3_save_0 24 rfl rfl
theorem dX3_save_0 : decode cX3_save 0 = .ok (.aload_n 0, 1) := dk_42 (dk_at dksX3_save_0 0 rfl rfl)
theorem dX3_save_1 : decode cX3_save 1 = .ok (.iconst 0, 1) := dk_3 (dk_at dksX3_save_0 1 rfl rfl)
theorem dX3_save_2 : decode cX3_save 2 = .ok (.putfield 32, 3) := dk_181 0 32 (dk_at dksX3_save_0 2 rfl rfl)
theorem dX3_save_5 : decode cX3_save 5 = .ok (.iconst 0, 1) := dk_3 (dk_at dksX3_save_0 5 rfl rfl)
theorem dX3_save_6 : decode cX3_save 6 = .ok (.istore_n 1, 1) := dk_60 (dk_at dksX3_save_0 6 rfl rfl)
theorem dX3_save_7 : decode cX3_save 7 = .ok (.iload_n 1, 1) := dk_27 (dk_at dksX3_save_0 7 rfl rfl)
theorem dX3_save_8 : decode cX3_save 8 = .ok (.sipush 132, 3) := dk_17 0 132 (dk_at dksX3_save_0 8 rfl rfl)
theorem dX3_save_11 : decode cX3_save 11 = .ok (.if_icmp .ge 21, 3) := dk_162 0 21 (dk_at dksX3_save_0 11 rfl rfl)
theorem dX3_save_14 : decode cX3_save 14 = .ok (.aload_n 0, 1) := dk_42 (dk_at dksX3_save_0 14 rfl rfl)
theorem dX3_save_15 : decode cX3_save 15 = .ok (.getfield 16, 3) := dk_180 0 16 (dk_at dksX3_save_0 15 rfl rfl)
theorem dX3_save_18 : decode cX3_save 18 = .ok (.iload_n 1, 1) := dk_27 (dk_at dksX3_save_0 18 rfl rfl)
theorem dX3_save_19 : decode cX3_save 19 = .ok (.aload_n 0, 1) := dk_42 (dk_at dksX3_save_0 19 rfl rfl)
theorem dX3_save_20 : decode cX3_save 20 = .ok (.getfield 7, 3) := dk_180 0 7 (dk_at dksX3_save_0 20 rfl rfl)
theorem dX3_save_23 : decode cX3_save 23 = .ok (.iload_n 1, 1) := dk_27 (dk_at dksX3_save_0 23 rfl rfl)
theorem dX3_save_24 : decode cX3_save 24 = .ok (.iaload, 1) := dk_46 (dk_at dksX3_save_1 0 rfl rfl)
theorem dX3_save_25 : decode cX3_save 25 = .ok (.iastore, 1) := dk_79 (dk_at dksX3_save_1 1 rfl rfl)
theorem dX3_save_26 : decode cX3_save 26 = .ok (.iinc 1 1, 3) := dk_132 1 1 (dk_at dksX3_save_1 2 rfl rfl)
theorem dX3_save_29 : decode cX3_save 29 = .ok (.goto (-22), 3) := dk_167 255 234 (dk_at dksX3_save_1 5 rfl rfl)
theorem dX3_save_32 : decode cX3_save 32 = .ok (.aload_n 0, 1) := dk_42 (dk_at dksX3_save_1 8 rfl rfl)
theorem dX3_save_33 : decode cX3_save 33 = .ok (.iconst 1, 1) := dk_4 (dk_at dksX3_save_1 9 rfl rfl)
theorem dX3_save_34 : decode cX3_save 34 = .ok (.putfield 259, 3) := dk_181 1 3 (dk_at dksX3_save_1 10 rfl rfl)
theorem dX3_save_37 : decode cX3_save 37 = .ok (.aload_n 0, 1) := dk_42 (dk_at dksX3_save_1 13 rfl rfl)
theorem dX3_save_38 : decode cX3_save 38 = .ok (.getfield 7, 3) := dk_180 0 7 (dk_at dksX3_save_1 14 rfl rfl)
theorem dX3_save_41 : decode cX3_save 41 = .ok (.iconst 0, 1) := dk_3 (dk_at dksX3_save_1 17 rfl rfl)
theorem dX3_save_42 : decode cX3_save 42 = .ok (.iaload, 1) := dk_46 (dk_at dksX3_save_1 18 rfl rfl)
theorem dX3_save_43 : decode cX3_save 43 = .ok (.ireturn, 1) := dk_172 (dk_at dksX3_save_1 19 rfl rfl)
abbrev cX3_restore : ByteArray := prog_31_method_98_code
def yX3_restore : MethodName := ⟨RX3, "restore", "()I"⟩
def dkwX3_restore_2 : List UInt8 := [181, 0, 56, 42, 3, 181, 0, 59, 42, 180, 0, 7, 3, 46, 172]
abbrev dktX3_restore_2 : List UInt8 := dkwX3_restore_2 ++ []
def dkwX3_restore_1 : List UInt8 := [162, 0, 21, 42, 180, 0, 7, 27, 42, 180, 0, 16, 27, 46, 79, 132, 1, 1, 167, 255, 234, 42, 3]
abbrev dktX3_restore_1 : List UInt8 := dkwX3_restore_1 ++ dktX3_restore_2
def dkwX3_restore_0 : List UInt8 := [42, 3, 181, 0, 32, 42, 180, 1, 3, 154, 0, 9, 42, 4, 182, 0, 42, 172, 3, 60, 27, 17, 0, 132]
abbrev dktX3_restore_0 : List UInt8 := dkwX3_restore_0 ++ dktX3_restore_1
theorem dksX3_restore_0 : cX3_restore.data.toList.drop 0 = dktX3_restore_0 := by decide +kernel
theorem dksX3_restore_1 : cX3_restore.data.toList.drop 24 = dktX3_restore_1 := dk_seg dksX3_restore_0 24 rfl rfl
theorem dksX3_restore_2 : cX3_restore.data.toList.drop 47 = dktX3_restore_2 := dk_seg dksX3_restore_1 23 rfl rfl
theorem dX3_restore_0 : decode cX3_restore 0 = .ok (.aload_n 0, 1) := dk_42 (dk_at dksX3_restore_0 0 rfl rfl)
theorem dX3_restore_1 : decode cX3_restore 1 = .ok (.iconst 0, 1) := dk_3 (dk_at dksX3_restore_0 1 rfl rfl)
theorem dX3_restore_2 : decode cX3_restore 2 = .ok (.putfield 32, 3) := dk_181 0 32 (dk_at dksX3_restore_0 2 rfl rfl)
theorem dX3_restore_5 : decode cX3_restore 5 = .ok (.aload_n 0, 1) := dk_42 (dk_at dksX3_restore_0 5 rfl rfl)
theorem dX3_restore_6 : decode cX3_restore 6 = .ok (.getfield 259, 3) := dk_180 1 3 (dk_at dksX3_restore_0 6 rfl rfl)
theorem dX3_restore_9 : decode cX3_restore 9 = .ok (.ifCond .ne 9, 3) := dk_154 0 9 (dk_at dksX3_restore_0 9 rfl rfl)
theorem dX3_restore_12 : decode cX3_restore 12 = .ok (.aload_n 0, 1) := dk_42 (dk_at dksX3_restore_0 12 rfl rfl)
theorem dX3_restore_13 : decode cX3_restore 13 = .ok (.iconst 1, 1) := dk_4 (dk_at dksX3_restore_0 13 rfl rfl)
theorem dX3_restore_14 : decode cX3_restore 14 = .ok (.invokevirtual 42, 3) := dk_182 0 42 (dk_at dksX3_restore_0 14 rfl rfl)
theorem dX3_restore_17 : decode cX3_restore 17 = .ok (.ireturn, 1) := dk_172 (dk_at dksX3_restore_0 17 rfl rfl)
theorem dX3_restore_18 : decode cX3_restore 18 = .ok (.iconst 0, 1) := dk_3 (dk_at dksX3_restore_0 18 rfl rfl)
theorem dX3_restore_19 : decode cX3_restore 19 = .ok (.istore_n 1, 1) := dk_60 (dk_at dksX3_restore_0 19 rfl rfl)
theorem dX3_restore_20 : decode cX3_restore 20 = .ok (.iload_n 1, 1) := dk_27 (dk_at dksX3_restore_0 20 rfl rfl)
theorem dX3_restore_21 : decode cX3_restore 21 = .ok (.sipush 132, 3) := dk_17 0 132 (dk_at dksX3_restore_0 21 rfl rfl)
theorem dX3_restore_24 : decode cX3_restore 24 = .ok (.if_icmp .ge 21, 3) := dk_162 0 21 (dk_at dksX3_restore_1 0 rfl rfl)
theorem dX3_restore_27 : decode cX3_restore 27 = .ok (.aload_n 0, 1) := dk_42 (dk_at dksX3_restore_1 3 rfl rfl)
theorem dX3_restore_28 : decode cX3_restore 28 = .ok (.getfield 7, 3) := dk_180 0 7 (dk_at dksX3_restore_1 4 rfl rfl)
theorem dX3_restore_31 : decode cX3_restore 31 = .ok (.iload_n 1, 1) := dk_27 (dk_at dksX3_restore_1 7 rfl rfl)
theorem dX3_restore_32 : decode cX3_restore 32 = .ok (.aload_n 0, 1) := dk_42 (dk_at dksX3_restore_1 8 rfl rfl)
theorem dX3_restore_33 : decode cX3_restore 33 = .ok (.getfield 16, 3) := dk_180 0 16 (dk_at dksX3_restore_1 9 rfl rfl)
theorem dX3_restore_36 : decode cX3_restore 36 = .ok (.iload_n 1, 1) := dk_27 (dk_at dksX3_restore_1 12 rfl rfl)
theorem dX3_restore_37 : decode cX3_restore 37 = .ok (.iaload, 1) := dk_46 (dk_at dksX3_restore_1 13 rfl rfl)
theorem dX3_restore_38 : decode cX3_restore 38 = .ok (.iastore, 1) := dk_79 (dk_at dksX3_restore_1 14 rfl rfl)
theorem dX3_restore_39 : decode cX3_restore 39 = .ok (.iinc 1 1, 3) := dk_132 1 1 (dk_at dksX3_restore_1 15 rfl rfl)
theorem dX3_restore_42 : decode cX3_restore 42 = .ok (.goto (-22), 3) := dk_167 255 234 (dk_at dksX3_restore_1 18 rfl rfl)
theorem dX3_restore_45 : decode cX3_restore 45 = .ok (.aload_n 0, 1) := dk_42 (dk_at dksX3_restore_1 21 rfl rfl)
theorem dX3_restore_46 : decode cX3_restore 46 = .ok (.iconst 0, 1) := dk_3 (dk_at dksX3_restore_1 22 rfl rfl)
theorem dX3_restore_47 : decode cX3_restore 47 = .ok (.putfield 56, 3) := dk_181 0 56 (dk_at dksX3_restore_2 0 rfl rfl)
theorem dX3_restore_50 : decode cX3_restore 50 = .ok (.aload_n 0, 1) := dk_42 (dk_at dksX3_restore_2 3 rfl rfl)
theorem dX3_restore_51 : decode cX3_restore 51 = .ok (.iconst 0, 1) := dk_3 (dk_at dksX3_restore_2 4 rfl rfl)
theorem dX3_restore_52 : decode cX3_restore 52 = .ok (.putfield 59, 3) := dk_181 0 59 (dk_at dksX3_restore_2 5 rfl rfl)
theorem dX3_restore_55 : decode cX3_restore 55 = .ok (.aload_n 0, 1) := dk_42 (dk_at dksX3_restore_2 8 rfl rfl)
theorem dX3_restore_56 : decode cX3_restore 56 = .ok (.getfield 7, 3) := dk_180 0 7 (dk_at dksX3_restore_2 9 rfl rfl)
theorem dX3_restore_59 : decode cX3_restore 59 = .ok (.iconst 0, 1) := dk_3 (dk_at dksX3_restore_2 12 rfl rfl)
theorem dX3_restore_60 : decode cX3_restore 60 = .ok (.iaload, 1) := dk_46 (dk_at dksX3_restore_2 13 rfl rfl)
theorem dX3_restore_61 : decode cX3_restore 61 = .ok (.ireturn, 1) := dk_172 (dk_at dksX3_restore_2 14 rfl rfl)
theorem q119 : (Jvm.Cond.initialized "CavePearlsModel") ∈ lw_all := lw_g (lw_at lw_m1 13 rfl) rfl
theorem q943 : (Jvm.Cond.selects "CavePearlsModel" ({ cls := "java/lang/Object", name := "getClass", desc := "()Ljava/lang/Class;" } : Jvm.MethodName) ({ cls := "java/lang/Object", name := "getClass", desc := "()Ljava/lang/Class;" } : Jvm.MethodName)) ∈ lw_all := lw_g (lw_at lw_m4 117 rfl) rfl
theorem q3501 : (Jvm.Cond.instantiable "CavePearlsModel" (20 : Nat)) ∈ lw_all := lw_g (lw_at lw_m15 35 rfl) rfl
theorem q3503 : (Jvm.Cond.instanceMethod ({ cls := "CavePearlsModel", name := "<init>", desc := "()V" } : Jvm.MethodName)) ∈ lw_all := lw_g (lw_at lw_m15 37 rfl) rfl
theorem q3504 : (Jvm.Cond.code ({ cls := "CavePearlsModel", name := "<init>", desc := "()V" } : Jvm.MethodName) prog_31_method_1_code (1 : Nat) (Option.none : Option Jvm.ClassFile.FieldType)) ∈ lw_all := lw_g (lw_at lw_m15 38 rfl) rfl
theorem q3505 : (Jvm.Cond.methodLink "CavePearlsModel" (1 : Nat) ({ cls := "java/lang/Object", name := "<init>", desc := "()V" } : Jvm.MethodName)) ∈ lw_all := lw_g (lw_at lw_m15 39 rfl) rfl
theorem q3506 : (Jvm.Cond.fieldLink "CavePearlsModel" (32 : Nat) "CavePearlsModel" "thrown" "I") ∈ lw_all := lw_g (lw_at lw_m15 40 rfl) rfl
theorem q3507 : (Jvm.Cond.fieldLink "CavePearlsModel" (36 : Nat) "CavePearlsModel" "why" "I") ∈ lw_all := lw_g (lw_at lw_m15 41 rfl) rfl
theorem q3508 : (Jvm.Cond.fieldLink "CavePearlsModel" (39 : Nat) "CavePearlsModel" "whyDetail" "I") ∈ lw_all := lw_g (lw_at lw_m15 42 rfl) rfl
theorem q3509 : (Jvm.Cond.fieldLink "CavePearlsModel" (46 : Nat) "CavePearlsModel" "reasonNow" "I") ∈ lw_all := lw_g (lw_at lw_m15 43 rfl) rfl
theorem q3510 : (Jvm.Cond.fieldLink "CavePearlsModel" (49 : Nat) "CavePearlsModel" "detailNow" "I") ∈ lw_all := lw_g (lw_at lw_m15 44 rfl) rfl
theorem q3511 : (Jvm.Cond.fieldLink "CavePearlsModel" (7 : Nat) "CavePearlsModel" "w" "[I") ∈ lw_all := lw_g (lw_at lw_m15 45 rfl) rfl
theorem q3512 : (Jvm.Cond.fieldLink "CavePearlsModel" (13 : Nat) "CavePearlsModel" "undos" "[I") ∈ lw_all := lw_g (lw_at lw_m15 46 rfl) rfl
theorem q3513 : (Jvm.Cond.fieldLink "CavePearlsModel" (16 : Nat) "CavePearlsModel" "savedRow" "[I") ∈ lw_all := lw_g (lw_at lw_m15 47 rfl) rfl
theorem q3514 : (Jvm.Cond.fieldLink "CavePearlsModel" (19 : Nat) "CavePearlsModel" "mind" "[I") ∈ lw_all := lw_g (lw_at lw_m15 48 rfl) rfl
theorem q3515 : (Jvm.Cond.fieldLink "CavePearlsModel" (56 : Nat) "CavePearlsModel" "changes" "I") ∈ lw_all := lw_g (lw_at lw_m15 49 rfl) rfl
theorem q3516 : (Jvm.Cond.fieldLink "CavePearlsModel" (59 : Nat) "CavePearlsModel" "firstChange" "I") ∈ lw_all := lw_g (lw_at lw_m15 50 rfl) rfl
theorem q3517 : (Jvm.Cond.fieldLink "CavePearlsModel" (259 : Nat) "CavePearlsModel" "isSaved" "Z") ∈ lw_all := lw_g (lw_at lw_m15 51 rfl) rfl
theorem q3518 : (Jvm.Cond.fieldLink "CavePearlsModel" (22 : Nat) "CavePearlsModel" "line" "[C") ∈ lw_all := lw_g (lw_at lw_m15 52 rfl) rfl
theorem q3519 : (Jvm.Cond.fieldLink "CavePearlsModel" (198 : Nat) "CavePearlsModel" "lineLength" "I") ∈ lw_all := lw_g (lw_at lw_m15 53 rfl) rfl
theorem q3520 : (Jvm.Cond.fieldLink "CavePearlsModel" (26 : Nat) "CavePearlsModel" "input" "[C") ∈ lw_all := lw_g (lw_at lw_m15 54 rfl) rfl
theorem q3521 : (Jvm.Cond.fieldLink "CavePearlsModel" (216 : Nat) "CavePearlsModel" "length" "I") ∈ lw_all := lw_g (lw_at lw_m15 55 rfl) rfl
theorem q3522 : (Jvm.Cond.fieldLink "CavePearlsModel" (219 : Nat) "CavePearlsModel" "at" "I") ∈ lw_all := lw_g (lw_at lw_m15 56 rfl) rfl
theorem q3523 : (Jvm.Cond.fieldLink "CavePearlsModel" (29 : Nat) "CavePearlsModel" "numbers" "[I") ∈ lw_all := lw_g (lw_at lw_m15 57 rfl) rfl
theorem q3524 : (Jvm.Cond.fieldLink "CavePearlsModel" (231 : Nat) "CavePearlsModel" "sort" "I") ∈ lw_all := lw_g (lw_at lw_m15 58 rfl) rfl
theorem q3525 : (Jvm.Cond.fieldLink "CavePearlsModel" (244 : Nat) "CavePearlsModel" "done" "I") ∈ lw_all := lw_g (lw_at lw_m15 59 rfl) rfl
theorem q3526 : (Jvm.Cond.lays "CavePearlsModel" "CavePearlsModel" "thrown" "I") ∈ lw_all := lw_g (lw_at lw_m15 60 rfl) rfl
theorem q3527 : (Jvm.Cond.soleField "CavePearlsModel" "thrown") ∈ lw_all := lw_g (lw_at lw_m15 61 rfl) rfl
theorem q3528 : (Jvm.Cond.lays "CavePearlsModel" "CavePearlsModel" "why" "I") ∈ lw_all := lw_g (lw_at lw_m15 62 rfl) rfl
theorem q3529 : (Jvm.Cond.soleField "CavePearlsModel" "why") ∈ lw_all := lw_g (lw_at lw_m15 63 rfl) rfl
theorem q3530 : (Jvm.Cond.lays "CavePearlsModel" "CavePearlsModel" "whyDetail" "I") ∈ lw_all := lw_g (lw_at lw_m15 64 rfl) rfl
theorem q3531 : (Jvm.Cond.soleField "CavePearlsModel" "whyDetail") ∈ lw_all := lw_g (lw_at lw_m15 65 rfl) rfl
theorem q3532 : (Jvm.Cond.lays "CavePearlsModel" "CavePearlsModel" "reasonNow" "I") ∈ lw_all := lw_g (lw_at lw_m15 66 rfl) rfl
theorem q3533 : (Jvm.Cond.soleField "CavePearlsModel" "reasonNow") ∈ lw_all := lw_g (lw_at lw_m15 67 rfl) rfl
theorem q3534 : (Jvm.Cond.lays "CavePearlsModel" "CavePearlsModel" "detailNow" "I") ∈ lw_all := lw_g (lw_at lw_m15 68 rfl) rfl
theorem q3535 : (Jvm.Cond.soleField "CavePearlsModel" "detailNow") ∈ lw_all := lw_g (lw_at lw_m15 69 rfl) rfl
theorem q3536 : (Jvm.Cond.laysFinal "CavePearlsModel" "CavePearlsModel" "w" "[I") ∈ lw_all := lw_g (lw_at lw_m15 70 rfl) rfl
theorem q3537 : (Jvm.Cond.soleField "CavePearlsModel" "w") ∈ lw_all := lw_g (lw_at lw_m15 71 rfl) rfl
theorem q3538 : (Jvm.Cond.laysFinal "CavePearlsModel" "CavePearlsModel" "undos" "[I") ∈ lw_all := lw_g (lw_at lw_m15 72 rfl) rfl
theorem q3539 : (Jvm.Cond.soleField "CavePearlsModel" "undos") ∈ lw_all := lw_g (lw_at lw_m15 73 rfl) rfl
theorem q3540 : (Jvm.Cond.laysFinal "CavePearlsModel" "CavePearlsModel" "savedRow" "[I") ∈ lw_all := lw_g (lw_at lw_m15 74 rfl) rfl
theorem q3541 : (Jvm.Cond.soleField "CavePearlsModel" "savedRow") ∈ lw_all := lw_g (lw_at lw_m15 75 rfl) rfl
theorem q3542 : (Jvm.Cond.laysFinal "CavePearlsModel" "CavePearlsModel" "mind" "[I") ∈ lw_all := lw_g (lw_at lw_m15 76 rfl) rfl
theorem q3543 : (Jvm.Cond.soleField "CavePearlsModel" "mind") ∈ lw_all := lw_g (lw_at lw_m15 77 rfl) rfl
theorem q3544 : (Jvm.Cond.lays "CavePearlsModel" "CavePearlsModel" "changes" "I") ∈ lw_all := lw_g (lw_at lw_m15 78 rfl) rfl
theorem q3545 : (Jvm.Cond.soleField "CavePearlsModel" "changes") ∈ lw_all := lw_g (lw_at lw_m15 79 rfl) rfl
theorem q3546 : (Jvm.Cond.lays "CavePearlsModel" "CavePearlsModel" "firstChange" "I") ∈ lw_all := lw_g (lw_at lw_m15 80 rfl) rfl
theorem q3547 : (Jvm.Cond.soleField "CavePearlsModel" "firstChange") ∈ lw_all := lw_g (lw_at lw_m15 81 rfl) rfl
theorem q3548 : (Jvm.Cond.lays "CavePearlsModel" "CavePearlsModel" "isSaved" "Z") ∈ lw_all := lw_g (lw_at lw_m15 82 rfl) rfl
theorem q3549 : (Jvm.Cond.soleField "CavePearlsModel" "isSaved") ∈ lw_all := lw_g (lw_at lw_m15 83 rfl) rfl
theorem q3550 : (Jvm.Cond.laysFinal "CavePearlsModel" "CavePearlsModel" "line" "[C") ∈ lw_all := lw_g (lw_at lw_m15 84 rfl) rfl
theorem q3551 : (Jvm.Cond.soleField "CavePearlsModel" "line") ∈ lw_all := lw_g (lw_at lw_m15 85 rfl) rfl
theorem q3552 : (Jvm.Cond.lays "CavePearlsModel" "CavePearlsModel" "lineLength" "I") ∈ lw_all := lw_g (lw_at lw_m15 86 rfl) rfl
theorem q3553 : (Jvm.Cond.soleField "CavePearlsModel" "lineLength") ∈ lw_all := lw_g (lw_at lw_m15 87 rfl) rfl
theorem q3554 : (Jvm.Cond.laysFinal "CavePearlsModel" "CavePearlsModel" "input" "[C") ∈ lw_all := lw_g (lw_at lw_m15 88 rfl) rfl
theorem q3555 : (Jvm.Cond.soleField "CavePearlsModel" "input") ∈ lw_all := lw_g (lw_at lw_m15 89 rfl) rfl
theorem q3556 : (Jvm.Cond.lays "CavePearlsModel" "CavePearlsModel" "length" "I") ∈ lw_all := lw_g (lw_at lw_m15 90 rfl) rfl
theorem q3557 : (Jvm.Cond.soleField "CavePearlsModel" "length") ∈ lw_all := lw_g (lw_at lw_m15 91 rfl) rfl
theorem q3558 : (Jvm.Cond.lays "CavePearlsModel" "CavePearlsModel" "at" "I") ∈ lw_all := lw_g (lw_at lw_m15 92 rfl) rfl
theorem q3559 : (Jvm.Cond.soleField "CavePearlsModel" "at") ∈ lw_all := lw_g (lw_at lw_m15 93 rfl) rfl
theorem q3560 : (Jvm.Cond.laysFinal "CavePearlsModel" "CavePearlsModel" "numbers" "[I") ∈ lw_all := lw_g (lw_at lw_m15 94 rfl) rfl
theorem q3561 : (Jvm.Cond.soleField "CavePearlsModel" "numbers") ∈ lw_all := lw_g (lw_at lw_m15 95 rfl) rfl
theorem q3562 : (Jvm.Cond.lays "CavePearlsModel" "CavePearlsModel" "sort" "I") ∈ lw_all := lw_g (lw_at lw_m15 96 rfl) rfl
theorem q3563 : (Jvm.Cond.soleField "CavePearlsModel" "sort") ∈ lw_all := lw_g (lw_at lw_m15 97 rfl) rfl
theorem q3564 : (Jvm.Cond.lays "CavePearlsModel" "CavePearlsModel" "done" "I") ∈ lw_all := lw_g (lw_at lw_m15 98 rfl) rfl
theorem q3565 : (Jvm.Cond.soleField "CavePearlsModel" "done") ∈ lw_all := lw_g (lw_at lw_m15 99 rfl) rfl
theorem q3566 : (Jvm.Cond.superclass "CavePearlsModel" "java/lang/Object") ∈ lw_all := lw_g (lw_at lw_m15 100 rfl) rfl
theorem q3568 : (Jvm.Cond.instanceMethod ({ cls := "CavePearlsModel", name := "thrown", desc := "()I" } : Jvm.MethodName)) ∈ lw_all := lw_g (lw_at lw_m15 102 rfl) rfl
theorem q3569 : (Jvm.Cond.selects "CavePearlsModel" ({ cls := "CavePearlsModel", name := "thrown", desc := "()I" } : Jvm.MethodName) ({ cls := "CavePearlsModel", name := "thrown", desc := "()I" } : Jvm.MethodName)) ∈ lw_all := lw_g (lw_at lw_m15 103 rfl) rfl
theorem q3570 : (Jvm.Cond.code ({ cls := "CavePearlsModel", name := "thrown", desc := "()I" } : Jvm.MethodName) prog_31_method_2_code (1 : Nat) (Option.some Jvm.ClassFile.FieldType.int)) ∈ lw_all := lw_g (lw_at lw_m15 104 rfl) rfl
theorem q3572 : (Jvm.Cond.instanceMethod ({ cls := "CavePearlsModel", name := "addPool", desc := "(I)I" } : Jvm.MethodName)) ∈ lw_all := lw_g (lw_at lw_m15 106 rfl) rfl
theorem q3573 : (Jvm.Cond.selects "CavePearlsModel" ({ cls := "CavePearlsModel", name := "addPool", desc := "(I)I" } : Jvm.MethodName) ({ cls := "CavePearlsModel", name := "addPool", desc := "(I)I" } : Jvm.MethodName)) ∈ lw_all := lw_g (lw_at lw_m15 107 rfl) rfl
theorem q3574 : (Jvm.Cond.code ({ cls := "CavePearlsModel", name := "addPool", desc := "(I)I" } : Jvm.MethodName) prog_31_method_22_code (2 : Nat) (Option.some Jvm.ClassFile.FieldType.int)) ∈ lw_all := lw_g (lw_at lw_m15 108 rfl) rfl
theorem q3575 : (Jvm.Cond.methodLink "CavePearlsModel" (68 : Nat) ({ cls := "CavePearlsModel", name := "isBetween", desc := "(III)Z" } : Jvm.MethodName)) ∈ lw_all := lw_g (lw_at lw_m15 109 rfl) rfl
theorem q3576 : (Jvm.Cond.static ({ cls := "CavePearlsModel", name := "isBetween", desc := "(III)Z" } : Jvm.MethodName)) ∈ lw_all := lw_g (lw_at lw_m15 110 rfl) rfl
theorem q3577 : (Jvm.Cond.code ({ cls := "CavePearlsModel", name := "isBetween", desc := "(III)Z" } : Jvm.MethodName) prog_31_method_7_code (3 : Nat) (Option.some Jvm.ClassFile.FieldType.boolean)) ∈ lw_all := lw_g (lw_at lw_m15 111 rfl) rfl
theorem q3578 : (Jvm.Cond.methodLink "CavePearlsModel" (42 : Nat) ({ cls := "CavePearlsModel", name := "fails", desc := "(I)I" } : Jvm.MethodName)) ∈ lw_all := lw_g (lw_at lw_m15 112 rfl) rfl
theorem q3579 : (Jvm.Cond.privateMethod ({ cls := "CavePearlsModel", name := "fails", desc := "(I)I" } : Jvm.MethodName)) ∈ lw_tbl := lw_at lw_m15 113 rfl
theorem q3580 : (Jvm.Cond.instanceMethod ({ cls := "CavePearlsModel", name := "fails", desc := "(I)I" } : Jvm.MethodName)) ∈ lw_all := lw_g (lw_at lw_m15 114 rfl) rfl
theorem q3581 : (Jvm.Cond.code ({ cls := "CavePearlsModel", name := "fails", desc := "(I)I" } : Jvm.MethodName) prog_31_method_3_code (2 : Nat) (Option.some Jvm.ClassFile.FieldType.int)) ∈ lw_all := lw_g (lw_at lw_m15 115 rfl) rfl
theorem q3582 : (Jvm.Cond.methodLink "CavePearlsModel" (52 : Nat) ({ cls := "CavePearlsModel", name := "refuses", desc := "(III)I" } : Jvm.MethodName)) ∈ lw_all := lw_g (lw_at lw_m15 116 rfl) rfl
theorem q3583 : (Jvm.Cond.privateMethod ({ cls := "CavePearlsModel", name := "refuses", desc := "(III)I" } : Jvm.MethodName)) ∈ lw_tbl := lw_at lw_m15 117 rfl
theorem q3584 : (Jvm.Cond.instanceMethod ({ cls := "CavePearlsModel", name := "refuses", desc := "(III)I" } : Jvm.MethodName)) ∈ lw_all := lw_g (lw_at lw_m15 118 rfl) rfl
theorem q3585 : (Jvm.Cond.code ({ cls := "CavePearlsModel", name := "refuses", desc := "(III)I" } : Jvm.MethodName) prog_31_method_4_code (4 : Nat) (Option.some Jvm.ClassFile.FieldType.int)) ∈ lw_all := lw_g (lw_at lw_m15 119 rfl) rfl
theorem q3586 : (Jvm.Cond.methodLink "CavePearlsModel" (76 : Nat) ({ cls := "CavePearlsModel", name := "remembers", desc := "()V" } : Jvm.MethodName)) ∈ lw_all := lw_g (lw_at lw_m15 120 rfl) rfl
theorem q3587 : (Jvm.Cond.privateMethod ({ cls := "CavePearlsModel", name := "remembers", desc := "()V" } : Jvm.MethodName)) ∈ lw_tbl := lw_at lw_m15 121 rfl
theorem q3588 : (Jvm.Cond.instanceMethod ({ cls := "CavePearlsModel", name := "remembers", desc := "()V" } : Jvm.MethodName)) ∈ lw_all := lw_g (lw_at lw_m15 122 rfl) rfl
theorem q3589 : (Jvm.Cond.code ({ cls := "CavePearlsModel", name := "remembers", desc := "()V" } : Jvm.MethodName) prog_31_method_11_code (1 : Nat) (Option.none : Option Jvm.ClassFile.FieldType)) ∈ lw_all := lw_g (lw_at lw_m15 123 rfl) rfl
theorem q3590 : (Jvm.Cond.methodLink "CavePearlsModel" (62 : Nat) ({ cls := "CavePearlsModel", name := "thinks", desc := "()V" } : Jvm.MethodName)) ∈ lw_all := lw_g (lw_at lw_m15 124 rfl) rfl
theorem q3591 : (Jvm.Cond.privateMethod ({ cls := "CavePearlsModel", name := "thinks", desc := "()V" } : Jvm.MethodName)) ∈ lw_tbl := lw_at lw_m15 125 rfl
theorem q3592 : (Jvm.Cond.instanceMethod ({ cls := "CavePearlsModel", name := "thinks", desc := "()V" } : Jvm.MethodName)) ∈ lw_all := lw_g (lw_at lw_m15 126 rfl) rfl
theorem q3593 : (Jvm.Cond.code ({ cls := "CavePearlsModel", name := "thinks", desc := "()V" } : Jvm.MethodName) prog_31_method_8_code (2 : Nat) (Option.none : Option Jvm.ClassFile.FieldType)) ∈ lw_all := lw_g (lw_at lw_m15 127 rfl) rfl
theorem q3594 : (Jvm.Cond.methodLink "CavePearlsModel" (65 : Nat) ({ cls := "CavePearlsModel", name := "keepsMind", desc := "()V" } : Jvm.MethodName)) ∈ lw_all := lw_g (lw_at lw_m15 128 rfl) rfl
theorem q3595 : (Jvm.Cond.privateMethod ({ cls := "CavePearlsModel", name := "keepsMind", desc := "()V" } : Jvm.MethodName)) ∈ lw_tbl := lw_at lw_m15 129 rfl
theorem q3596 : (Jvm.Cond.instanceMethod ({ cls := "CavePearlsModel", name := "keepsMind", desc := "()V" } : Jvm.MethodName)) ∈ lw_all := lw_g (lw_at lw_m15 130 rfl) rfl
theorem q3597 : (Jvm.Cond.code ({ cls := "CavePearlsModel", name := "keepsMind", desc := "()V" } : Jvm.MethodName) prog_31_method_10_code (3 : Nat) (Option.none : Option Jvm.ClassFile.FieldType)) ∈ lw_all := lw_g (lw_at lw_m15 131 rfl) rfl
theorem q3599 : (Jvm.Cond.instanceMethod ({ cls := "CavePearlsModel", name := "pool", desc := "(II)I" } : Jvm.MethodName)) ∈ lw_all := lw_g (lw_at lw_m15 133 rfl) rfl
theorem q3600 : (Jvm.Cond.selects "CavePearlsModel" ({ cls := "CavePearlsModel", name := "pool", desc := "(II)I" } : Jvm.MethodName) ({ cls := "CavePearlsModel", name := "pool", desc := "(II)I" } : Jvm.MethodName)) ∈ lw_all := lw_g (lw_at lw_m15 134 rfl) rfl
theorem q3601 : (Jvm.Cond.code ({ cls := "CavePearlsModel", name := "pool", desc := "(II)I" } : Jvm.MethodName) prog_31_method_24_code (3 : Nat) (Option.some Jvm.ClassFile.FieldType.int)) ∈ lw_all := lw_g (lw_at lw_m15 135 rfl) rfl
theorem q3602 : (Jvm.Cond.methodLink "CavePearlsModel" (82 : Nat) ({ cls := "CavePearlsModel", name := "isPool", desc := "(I)Z" } : Jvm.MethodName)) ∈ lw_all := lw_g (lw_at lw_m15 136 rfl) rfl
theorem q3603 : (Jvm.Cond.privateMethod ({ cls := "CavePearlsModel", name := "isPool", desc := "(I)Z" } : Jvm.MethodName)) ∈ lw_tbl := lw_at lw_m15 137 rfl
theorem q3604 : (Jvm.Cond.instanceMethod ({ cls := "CavePearlsModel", name := "isPool", desc := "(I)Z" } : Jvm.MethodName)) ∈ lw_all := lw_g (lw_at lw_m15 138 rfl) rfl
theorem q3605 : (Jvm.Cond.code ({ cls := "CavePearlsModel", name := "isPool", desc := "(I)Z" } : Jvm.MethodName) prog_31_method_17_code (2 : Nat) (Option.some Jvm.ClassFile.FieldType.boolean)) ∈ lw_all := lw_g (lw_at lw_m15 139 rfl) rfl
theorem q3606 : (Jvm.Cond.methodLink "CavePearlsModel" (72 : Nat) ({ cls := "CavePearlsModel", name := "ofPool", desc := "(II)I" } : Jvm.MethodName)) ∈ lw_all := lw_g (lw_at lw_m15 140 rfl) rfl
theorem q3607 : (Jvm.Cond.privateMethod ({ cls := "CavePearlsModel", name := "ofPool", desc := "(II)I" } : Jvm.MethodName)) ∈ lw_tbl := lw_at lw_m15 141 rfl
theorem q3608 : (Jvm.Cond.instanceMethod ({ cls := "CavePearlsModel", name := "ofPool", desc := "(II)I" } : Jvm.MethodName)) ∈ lw_all := lw_g (lw_at lw_m15 142 rfl) rfl
theorem q3609 : (Jvm.Cond.code ({ cls := "CavePearlsModel", name := "ofPool", desc := "(II)I" } : Jvm.MethodName) prog_31_method_12_code (3 : Nat) (Option.some Jvm.ClassFile.FieldType.int)) ∈ lw_all := lw_g (lw_at lw_m15 143 rfl) rfl
theorem q3610 : (Jvm.Cond.methodLink "CavePearlsModel" (86 : Nat) ({ cls := "CavePearlsModel", name := "stonesOver", desc := "(I)I" } : Jvm.MethodName)) ∈ lw_all := lw_g (lw_at lw_m15 144 rfl) rfl
theorem q3611 : (Jvm.Cond.privateMethod ({ cls := "CavePearlsModel", name := "stonesOver", desc := "(I)I" } : Jvm.MethodName)) ∈ lw_tbl := lw_at lw_m15 145 rfl
theorem q3612 : (Jvm.Cond.instanceMethod ({ cls := "CavePearlsModel", name := "stonesOver", desc := "(I)I" } : Jvm.MethodName)) ∈ lw_all := lw_g (lw_at lw_m15 146 rfl) rfl
theorem q3613 : (Jvm.Cond.code ({ cls := "CavePearlsModel", name := "stonesOver", desc := "(I)I" } : Jvm.MethodName) prog_31_method_23_code (4 : Nat) (Option.some Jvm.ClassFile.FieldType.int)) ∈ lw_all := lw_g (lw_at lw_m15 147 rfl) rfl
theorem q3614 : (Jvm.Cond.methodLink "CavePearlsModel" (79 : Nat) ({ cls := "CavePearlsModel", name := "ofStone", desc := "(II)I" } : Jvm.MethodName)) ∈ lw_all := lw_g (lw_at lw_m15 148 rfl) rfl
theorem q3615 : (Jvm.Cond.privateMethod ({ cls := "CavePearlsModel", name := "ofStone", desc := "(II)I" } : Jvm.MethodName)) ∈ lw_tbl := lw_at lw_m15 149 rfl
theorem q3616 : (Jvm.Cond.instanceMethod ({ cls := "CavePearlsModel", name := "ofStone", desc := "(II)I" } : Jvm.MethodName)) ∈ lw_all := lw_g (lw_at lw_m15 150 rfl) rfl
theorem q3617 : (Jvm.Cond.code ({ cls := "CavePearlsModel", name := "ofStone", desc := "(II)I" } : Jvm.MethodName) prog_31_method_15_code (3 : Nat) (Option.some Jvm.ClassFile.FieldType.int)) ∈ lw_all := lw_g (lw_at lw_m15 151 rfl) rfl
theorem q3619 : (Jvm.Cond.instanceMethod ({ cls := "CavePearlsModel", name := "addPearl", desc := "(II)I" } : Jvm.MethodName)) ∈ lw_all := lw_g (lw_at lw_m15 153 rfl) rfl
theorem q3620 : (Jvm.Cond.selects "CavePearlsModel" ({ cls := "CavePearlsModel", name := "addPearl", desc := "(II)I" } : Jvm.MethodName) ({ cls := "CavePearlsModel", name := "addPearl", desc := "(II)I" } : Jvm.MethodName)) ∈ lw_all := lw_g (lw_at lw_m15 154 rfl) rfl
theorem q3621 : (Jvm.Cond.code ({ cls := "CavePearlsModel", name := "addPearl", desc := "(II)I" } : Jvm.MethodName) prog_31_method_25_code (3 : Nat) (Option.some Jvm.ClassFile.FieldType.int)) ∈ lw_all := lw_g (lw_at lw_m15 155 rfl) rfl
theorem q3622 : (Jvm.Cond.methodLink "CavePearlsModel" (89 : Nat) ({ cls := "CavePearlsModel", name := "addsPool", desc := "(III)V" } : Jvm.MethodName)) ∈ lw_all := lw_g (lw_at lw_m15 156 rfl) rfl
theorem q3623 : (Jvm.Cond.privateMethod ({ cls := "CavePearlsModel", name := "addsPool", desc := "(III)V" } : Jvm.MethodName)) ∈ lw_tbl := lw_at lw_m15 157 rfl
theorem q3624 : (Jvm.Cond.instanceMethod ({ cls := "CavePearlsModel", name := "addsPool", desc := "(III)V" } : Jvm.MethodName)) ∈ lw_all := lw_g (lw_at lw_m15 158 rfl) rfl
theorem q3625 : (Jvm.Cond.code ({ cls := "CavePearlsModel", name := "addsPool", desc := "(III)V" } : Jvm.MethodName) prog_31_method_13_code (4 : Nat) (Option.none : Option Jvm.ClassFile.FieldType)) ∈ lw_all := lw_g (lw_at lw_m15 159 rfl) rfl
theorem q3627 : (Jvm.Cond.instanceMethod ({ cls := "CavePearlsModel", name := "takePearl", desc := "(II)I" } : Jvm.MethodName)) ∈ lw_all := lw_g (lw_at lw_m15 161 rfl) rfl
theorem q3628 : (Jvm.Cond.selects "CavePearlsModel" ({ cls := "CavePearlsModel", name := "takePearl", desc := "(II)I" } : Jvm.MethodName) ({ cls := "CavePearlsModel", name := "takePearl", desc := "(II)I" } : Jvm.MethodName)) ∈ lw_all := lw_g (lw_at lw_m15 162 rfl) rfl
theorem q3629 : (Jvm.Cond.code ({ cls := "CavePearlsModel", name := "takePearl", desc := "(II)I" } : Jvm.MethodName) prog_31_method_26_code (5 : Nat) (Option.some Jvm.ClassFile.FieldType.int)) ∈ lw_all := lw_g (lw_at lw_m15 163 rfl) rfl
theorem q3630 : (Jvm.Cond.methodLink "CavePearlsModel" (93 : Nat) ({ cls := "CavePearlsModel", name := "isPlace", desc := "(II)Z" } : Jvm.MethodName)) ∈ lw_all := lw_g (lw_at lw_m15 164 rfl) rfl
theorem q3631 : (Jvm.Cond.privateMethod ({ cls := "CavePearlsModel", name := "isPlace", desc := "(II)Z" } : Jvm.MethodName)) ∈ lw_tbl := lw_at lw_m15 165 rfl
theorem q3632 : (Jvm.Cond.instanceMethod ({ cls := "CavePearlsModel", name := "isPlace", desc := "(II)Z" } : Jvm.MethodName)) ∈ lw_all := lw_g (lw_at lw_m15 166 rfl) rfl
theorem q3633 : (Jvm.Cond.code ({ cls := "CavePearlsModel", name := "isPlace", desc := "(II)Z" } : Jvm.MethodName) prog_31_method_21_code (3 : Nat) (Option.some Jvm.ClassFile.FieldType.boolean)) ∈ lw_all := lw_g (lw_at lw_m15 167 rfl) rfl
theorem q3634 : (Jvm.Cond.methodLink "CavePearlsModel" (97 : Nat) ({ cls := "CavePearlsModel", name := "sizeOf", desc := "(II)I" } : Jvm.MethodName)) ∈ lw_all := lw_g (lw_at lw_m15 168 rfl) rfl
theorem q3635 : (Jvm.Cond.privateMethod ({ cls := "CavePearlsModel", name := "sizeOf", desc := "(II)I" } : Jvm.MethodName)) ∈ lw_tbl := lw_at lw_m15 169 rfl
theorem q3636 : (Jvm.Cond.instanceMethod ({ cls := "CavePearlsModel", name := "sizeOf", desc := "(II)I" } : Jvm.MethodName)) ∈ lw_all := lw_g (lw_at lw_m15 170 rfl) rfl
theorem q3637 : (Jvm.Cond.code ({ cls := "CavePearlsModel", name := "sizeOf", desc := "(II)I" } : Jvm.MethodName) prog_31_method_14_code (3 : Nat) (Option.some Jvm.ClassFile.FieldType.int)) ∈ lw_all := lw_g (lw_at lw_m15 171 rfl) rfl
theorem q3639 : (Jvm.Cond.instanceMethod ({ cls := "CavePearlsModel", name := "pearl", desc := "(II)I" } : Jvm.MethodName)) ∈ lw_all := lw_g (lw_at lw_m15 173 rfl) rfl
theorem q3640 : (Jvm.Cond.selects "CavePearlsModel" ({ cls := "CavePearlsModel", name := "pearl", desc := "(II)I" } : Jvm.MethodName) ({ cls := "CavePearlsModel", name := "pearl", desc := "(II)I" } : Jvm.MethodName)) ∈ lw_all := lw_g (lw_at lw_m15 174 rfl) rfl
theorem q3641 : (Jvm.Cond.code ({ cls := "CavePearlsModel", name := "pearl", desc := "(II)I" } : Jvm.MethodName) prog_31_method_27_code (3 : Nat) (Option.some Jvm.ClassFile.FieldType.int)) ∈ lw_all := lw_g (lw_at lw_m15 175 rfl) rfl
theorem q3643 : (Jvm.Cond.instanceMethod ({ cls := "CavePearlsModel", name := "ranked", desc := "(I)I" } : Jvm.MethodName)) ∈ lw_all := lw_g (lw_at lw_m15 177 rfl) rfl
theorem q3644 : (Jvm.Cond.selects "CavePearlsModel" ({ cls := "CavePearlsModel", name := "ranked", desc := "(I)I" } : Jvm.MethodName) ({ cls := "CavePearlsModel", name := "ranked", desc := "(I)I" } : Jvm.MethodName)) ∈ lw_all := lw_g (lw_at lw_m15 178 rfl) rfl
theorem q3645 : (Jvm.Cond.code ({ cls := "CavePearlsModel", name := "ranked", desc := "(I)I" } : Jvm.MethodName) prog_31_method_29_code (4 : Nat) (Option.some Jvm.ClassFile.FieldType.int)) ∈ lw_all := lw_g (lw_at lw_m15 179 rfl) rfl
theorem q3646 : (Jvm.Cond.methodLink "CavePearlsModel" (100 : Nat) ({ cls := "CavePearlsModel", name := "aheadOf", desc := "(II)I" } : Jvm.MethodName)) ∈ lw_all := lw_g (lw_at lw_m15 180 rfl) rfl
theorem q3647 : (Jvm.Cond.privateMethod ({ cls := "CavePearlsModel", name := "aheadOf", desc := "(II)I" } : Jvm.MethodName)) ∈ lw_tbl := lw_at lw_m15 181 rfl
theorem q3648 : (Jvm.Cond.instanceMethod ({ cls := "CavePearlsModel", name := "aheadOf", desc := "(II)I" } : Jvm.MethodName)) ∈ lw_all := lw_g (lw_at lw_m15 182 rfl) rfl
theorem q3649 : (Jvm.Cond.code ({ cls := "CavePearlsModel", name := "aheadOf", desc := "(II)I" } : Jvm.MethodName) prog_31_method_28_code (7 : Nat) (Option.some Jvm.ClassFile.FieldType.int)) ∈ lw_all := lw_g (lw_at lw_m15 183 rfl) rfl
theorem q3651 : (Jvm.Cond.instanceMethod ({ cls := "CavePearlsModel", name := "addStone", desc := "(II)I" } : Jvm.MethodName)) ∈ lw_all := lw_g (lw_at lw_m15 185 rfl) rfl
theorem q3652 : (Jvm.Cond.selects "CavePearlsModel" ({ cls := "CavePearlsModel", name := "addStone", desc := "(II)I" } : Jvm.MethodName) ({ cls := "CavePearlsModel", name := "addStone", desc := "(II)I" } : Jvm.MethodName)) ∈ lw_all := lw_g (lw_at lw_m15 186 rfl) rfl
theorem q3653 : (Jvm.Cond.code ({ cls := "CavePearlsModel", name := "addStone", desc := "(II)I" } : Jvm.MethodName) prog_31_method_30_code (4 : Nat) (Option.some Jvm.ClassFile.FieldType.int)) ∈ lw_all := lw_g (lw_at lw_m15 187 rfl) rfl
theorem q3654 : (Jvm.Cond.methodLink "CavePearlsModel" (103 : Nat) ({ cls := "CavePearlsModel", name := "setsStone", desc := "(III)V" } : Jvm.MethodName)) ∈ lw_all := lw_g (lw_at lw_m15 188 rfl) rfl
theorem q3655 : (Jvm.Cond.privateMethod ({ cls := "CavePearlsModel", name := "setsStone", desc := "(III)V" } : Jvm.MethodName)) ∈ lw_tbl := lw_at lw_m15 189 rfl
theorem q3656 : (Jvm.Cond.instanceMethod ({ cls := "CavePearlsModel", name := "setsStone", desc := "(III)V" } : Jvm.MethodName)) ∈ lw_all := lw_g (lw_at lw_m15 190 rfl) rfl
theorem q3657 : (Jvm.Cond.code ({ cls := "CavePearlsModel", name := "setsStone", desc := "(III)V" } : Jvm.MethodName) prog_31_method_16_code (4 : Nat) (Option.none : Option Jvm.ClassFile.FieldType)) ∈ lw_all := lw_g (lw_at lw_m15 191 rfl) rfl
theorem q3659 : (Jvm.Cond.instanceMethod ({ cls := "CavePearlsModel", name := "stone", desc := "(II)I" } : Jvm.MethodName)) ∈ lw_all := lw_g (lw_at lw_m15 193 rfl) rfl
theorem q3660 : (Jvm.Cond.selects "CavePearlsModel" ({ cls := "CavePearlsModel", name := "stone", desc := "(II)I" } : Jvm.MethodName) ({ cls := "CavePearlsModel", name := "stone", desc := "(II)I" } : Jvm.MethodName)) ∈ lw_all := lw_g (lw_at lw_m15 194 rfl) rfl
theorem q3661 : (Jvm.Cond.code ({ cls := "CavePearlsModel", name := "stone", desc := "(II)I" } : Jvm.MethodName) prog_31_method_31_code (3 : Nat) (Option.some Jvm.ClassFile.FieldType.int)) ∈ lw_all := lw_g (lw_at lw_m15 195 rfl) rfl
theorem q3662 : (Jvm.Cond.methodLink "CavePearlsModel" (106 : Nat) ({ cls := "CavePearlsModel", name := "isStone", desc := "(I)Z" } : Jvm.MethodName)) ∈ lw_all := lw_g (lw_at lw_m15 196 rfl) rfl
theorem q3663 : (Jvm.Cond.privateMethod ({ cls := "CavePearlsModel", name := "isStone", desc := "(I)Z" } : Jvm.MethodName)) ∈ lw_tbl := lw_at lw_m15 197 rfl
theorem q3664 : (Jvm.Cond.instanceMethod ({ cls := "CavePearlsModel", name := "isStone", desc := "(I)Z" } : Jvm.MethodName)) ∈ lw_all := lw_g (lw_at lw_m15 198 rfl) rfl
theorem q3665 : (Jvm.Cond.code ({ cls := "CavePearlsModel", name := "isStone", desc := "(I)Z" } : Jvm.MethodName) prog_31_method_18_code (2 : Nat) (Option.some Jvm.ClassFile.FieldType.boolean)) ∈ lw_all := lw_g (lw_at lw_m15 199 rfl) rfl
theorem q3667 : (Jvm.Cond.instanceMethod ({ cls := "CavePearlsModel", name := "nextStone", desc := "()I" } : Jvm.MethodName)) ∈ lw_all := lw_g (lw_at lw_m15 201 rfl) rfl
theorem q3668 : (Jvm.Cond.selects "CavePearlsModel" ({ cls := "CavePearlsModel", name := "nextStone", desc := "()I" } : Jvm.MethodName) ({ cls := "CavePearlsModel", name := "nextStone", desc := "()I" } : Jvm.MethodName)) ∈ lw_all := lw_g (lw_at lw_m15 202 rfl) rfl
theorem q3669 : (Jvm.Cond.code ({ cls := "CavePearlsModel", name := "nextStone", desc := "()I" } : Jvm.MethodName) prog_31_method_32_code (3 : Nat) (Option.some Jvm.ClassFile.FieldType.int)) ∈ lw_all := lw_g (lw_at lw_m15 203 rfl) rfl
theorem q3671 : (Jvm.Cond.instanceMethod ({ cls := "CavePearlsModel", name := "enter", desc := "(II)I" } : Jvm.MethodName)) ∈ lw_all := lw_g (lw_at lw_m15 205 rfl) rfl
theorem q3672 : (Jvm.Cond.selects "CavePearlsModel" ({ cls := "CavePearlsModel", name := "enter", desc := "(II)I" } : Jvm.MethodName) ({ cls := "CavePearlsModel", name := "enter", desc := "(II)I" } : Jvm.MethodName)) ∈ lw_all := lw_g (lw_at lw_m15 206 rfl) rfl
theorem q3673 : (Jvm.Cond.code ({ cls := "CavePearlsModel", name := "enter", desc := "(II)I" } : Jvm.MethodName) prog_31_method_35_code (4 : Nat) (Option.some Jvm.ClassFile.FieldType.int)) ∈ lw_all := lw_g (lw_at lw_m15 207 rfl) rfl
theorem q3674 : (Jvm.Cond.methodLink "CavePearlsModel" (112 : Nat) ({ cls := "CavePearlsModel", name := "notEnter", desc := "(II)I" } : Jvm.MethodName)) ∈ lw_all := lw_g (lw_at lw_m15 208 rfl) rfl
theorem q3675 : (Jvm.Cond.privateMethod ({ cls := "CavePearlsModel", name := "notEnter", desc := "(II)I" } : Jvm.MethodName)) ∈ lw_tbl := lw_at lw_m15 209 rfl
theorem q3676 : (Jvm.Cond.instanceMethod ({ cls := "CavePearlsModel", name := "notEnter", desc := "(II)I" } : Jvm.MethodName)) ∈ lw_all := lw_g (lw_at lw_m15 210 rfl) rfl
theorem q3677 : (Jvm.Cond.code ({ cls := "CavePearlsModel", name := "notEnter", desc := "(II)I" } : Jvm.MethodName) prog_31_method_33_code (3 : Nat) (Option.some Jvm.ClassFile.FieldType.int)) ∈ lw_all := lw_g (lw_at lw_m15 211 rfl) rfl
theorem q3678 : (Jvm.Cond.methodLink "CavePearlsModel" (109 : Nat) ({ cls := "CavePearlsModel", name := "isNot", desc := "(III)I" } : Jvm.MethodName)) ∈ lw_all := lw_g (lw_at lw_m15 212 rfl) rfl
theorem q3679 : (Jvm.Cond.privateMethod ({ cls := "CavePearlsModel", name := "isNot", desc := "(III)I" } : Jvm.MethodName)) ∈ lw_tbl := lw_at lw_m15 213 rfl
theorem q3680 : (Jvm.Cond.instanceMethod ({ cls := "CavePearlsModel", name := "isNot", desc := "(III)I" } : Jvm.MethodName)) ∈ lw_all := lw_g (lw_at lw_m15 214 rfl) rfl
theorem q3681 : (Jvm.Cond.code ({ cls := "CavePearlsModel", name := "isNot", desc := "(III)I" } : Jvm.MethodName) prog_31_method_5_code (4 : Nat) (Option.some Jvm.ClassFile.FieldType.int)) ∈ lw_all := lw_g (lw_at lw_m15 215 rfl) rfl
theorem q3682 : (Jvm.Cond.methodLink "CavePearlsModel" (115 : Nat) ({ cls := "CavePearlsModel", name := "failsNow", desc := "(I)I" } : Jvm.MethodName)) ∈ lw_all := lw_g (lw_at lw_m15 216 rfl) rfl
theorem q3683 : (Jvm.Cond.privateMethod ({ cls := "CavePearlsModel", name := "failsNow", desc := "(I)I" } : Jvm.MethodName)) ∈ lw_tbl := lw_at lw_m15 217 rfl
theorem q3684 : (Jvm.Cond.instanceMethod ({ cls := "CavePearlsModel", name := "failsNow", desc := "(I)I" } : Jvm.MethodName)) ∈ lw_all := lw_g (lw_at lw_m15 218 rfl) rfl
theorem q3685 : (Jvm.Cond.code ({ cls := "CavePearlsModel", name := "failsNow", desc := "(I)I" } : Jvm.MethodName) prog_31_method_6_code (2 : Nat) (Option.some Jvm.ClassFile.FieldType.int)) ∈ lw_all := lw_g (lw_at lw_m15 219 rfl) rfl
theorem q3686 : (Jvm.Cond.methodLink "CavePearlsModel" (118 : Nat) ({ cls := "CavePearlsModel", name := "enters", desc := "(II)I" } : Jvm.MethodName)) ∈ lw_all := lw_g (lw_at lw_m15 220 rfl) rfl
theorem q3687 : (Jvm.Cond.privateMethod ({ cls := "CavePearlsModel", name := "enters", desc := "(II)I" } : Jvm.MethodName)) ∈ lw_tbl := lw_at lw_m15 221 rfl
theorem q3688 : (Jvm.Cond.instanceMethod ({ cls := "CavePearlsModel", name := "enters", desc := "(II)I" } : Jvm.MethodName)) ∈ lw_all := lw_g (lw_at lw_m15 222 rfl) rfl
theorem q3689 : (Jvm.Cond.code ({ cls := "CavePearlsModel", name := "enters", desc := "(II)I" } : Jvm.MethodName) prog_31_method_34_code (4 : Nat) (Option.some Jvm.ClassFile.FieldType.int)) ∈ lw_all := lw_g (lw_at lw_m15 223 rfl) rfl
theorem q3691 : (Jvm.Cond.instanceMethod ({ cls := "CavePearlsModel", name := "sendOut", desc := "(I)I" } : Jvm.MethodName)) ∈ lw_all := lw_g (lw_at lw_m15 225 rfl) rfl
theorem q3692 : (Jvm.Cond.selects "CavePearlsModel" ({ cls := "CavePearlsModel", name := "sendOut", desc := "(I)I" } : Jvm.MethodName) ({ cls := "CavePearlsModel", name := "sendOut", desc := "(I)I" } : Jvm.MethodName)) ∈ lw_all := lw_g (lw_at lw_m15 226 rfl) rfl
theorem q3693 : (Jvm.Cond.code ({ cls := "CavePearlsModel", name := "sendOut", desc := "(I)I" } : Jvm.MethodName) prog_31_method_37_code (3 : Nat) (Option.some Jvm.ClassFile.FieldType.int)) ∈ lw_all := lw_g (lw_at lw_m15 227 rfl) rfl
theorem q3694 : (Jvm.Cond.methodLink "CavePearlsModel" (121 : Nat) ({ cls := "CavePearlsModel", name := "isGroup", desc := "(I)Z" } : Jvm.MethodName)) ∈ lw_all := lw_g (lw_at lw_m15 228 rfl) rfl
theorem q3695 : (Jvm.Cond.privateMethod ({ cls := "CavePearlsModel", name := "isGroup", desc := "(I)Z" } : Jvm.MethodName)) ∈ lw_tbl := lw_at lw_m15 229 rfl
theorem q3696 : (Jvm.Cond.instanceMethod ({ cls := "CavePearlsModel", name := "isGroup", desc := "(I)Z" } : Jvm.MethodName)) ∈ lw_all := lw_g (lw_at lw_m15 230 rfl) rfl
theorem q3697 : (Jvm.Cond.code ({ cls := "CavePearlsModel", name := "isGroup", desc := "(I)Z" } : Jvm.MethodName) prog_31_method_20_code (2 : Nat) (Option.some Jvm.ClassFile.FieldType.boolean)) ∈ lw_all := lw_g (lw_at lw_m15 231 rfl) rfl
theorem q3698 : (Jvm.Cond.methodLink "CavePearlsModel" (124 : Nat) ({ cls := "CavePearlsModel", name := "goesOut", desc := "(I)V" } : Jvm.MethodName)) ∈ lw_all := lw_g (lw_at lw_m15 232 rfl) rfl
theorem q3699 : (Jvm.Cond.privateMethod ({ cls := "CavePearlsModel", name := "goesOut", desc := "(I)V" } : Jvm.MethodName)) ∈ lw_tbl := lw_at lw_m15 233 rfl
theorem q3700 : (Jvm.Cond.instanceMethod ({ cls := "CavePearlsModel", name := "goesOut", desc := "(I)V" } : Jvm.MethodName)) ∈ lw_all := lw_g (lw_at lw_m15 234 rfl) rfl
theorem q3701 : (Jvm.Cond.code ({ cls := "CavePearlsModel", name := "goesOut", desc := "(I)V" } : Jvm.MethodName) prog_31_method_36_code (3 : Nat) (Option.none : Option Jvm.ClassFile.FieldType)) ∈ lw_all := lw_g (lw_at lw_m15 235 rfl) rfl
theorem q3703 : (Jvm.Cond.instanceMethod ({ cls := "CavePearlsModel", name := "group", desc := "(IZ)I" } : Jvm.MethodName)) ∈ lw_all := lw_g (lw_at lw_m15 237 rfl) rfl
theorem q3704 : (Jvm.Cond.selects "CavePearlsModel" ({ cls := "CavePearlsModel", name := "group", desc := "(IZ)I" } : Jvm.MethodName) ({ cls := "CavePearlsModel", name := "group", desc := "(IZ)I" } : Jvm.MethodName)) ∈ lw_all := lw_g (lw_at lw_m15 238 rfl) rfl
theorem q3705 : (Jvm.Cond.code ({ cls := "CavePearlsModel", name := "group", desc := "(IZ)I" } : Jvm.MethodName) prog_31_method_38_code (3 : Nat) (Option.some Jvm.ClassFile.FieldType.int)) ∈ lw_all := lw_g (lw_at lw_m15 239 rfl) rfl
theorem q3707 : (Jvm.Cond.instanceMethod ({ cls := "CavePearlsModel", name := "addLamp", desc := "(I)I" } : Jvm.MethodName)) ∈ lw_all := lw_g (lw_at lw_m16 1 rfl) rfl
theorem q3708 : (Jvm.Cond.selects "CavePearlsModel" ({ cls := "CavePearlsModel", name := "addLamp", desc := "(I)I" } : Jvm.MethodName) ({ cls := "CavePearlsModel", name := "addLamp", desc := "(I)I" } : Jvm.MethodName)) ∈ lw_all := lw_g (lw_at lw_m16 2 rfl) rfl
theorem q3709 : (Jvm.Cond.code ({ cls := "CavePearlsModel", name := "addLamp", desc := "(I)I" } : Jvm.MethodName) prog_31_method_40_code (2 : Nat) (Option.some Jvm.ClassFile.FieldType.int)) ∈ lw_all := lw_g (lw_at lw_m16 3 rfl) rfl
theorem q3711 : (Jvm.Cond.instanceMethod ({ cls := "CavePearlsModel", name := "switchOn", desc := "(II)I" } : Jvm.MethodName)) ∈ lw_all := lw_g (lw_at lw_m16 5 rfl) rfl
theorem q3712 : (Jvm.Cond.selects "CavePearlsModel" ({ cls := "CavePearlsModel", name := "switchOn", desc := "(II)I" } : Jvm.MethodName) ({ cls := "CavePearlsModel", name := "switchOn", desc := "(II)I" } : Jvm.MethodName)) ∈ lw_all := lw_g (lw_at lw_m16 6 rfl) rfl
theorem q3713 : (Jvm.Cond.code ({ cls := "CavePearlsModel", name := "switchOn", desc := "(II)I" } : Jvm.MethodName) prog_31_method_45_code (4 : Nat) (Option.some Jvm.ClassFile.FieldType.int)) ∈ lw_all := lw_g (lw_at lw_m16 7 rfl) rfl
theorem q3714 : (Jvm.Cond.methodLink "CavePearlsModel" (138 : Nat) ({ cls := "CavePearlsModel", name := "notOn", desc := "(II)I" } : Jvm.MethodName)) ∈ lw_all := lw_g (lw_at lw_m16 8 rfl) rfl
theorem q3715 : (Jvm.Cond.privateMethod ({ cls := "CavePearlsModel", name := "notOn", desc := "(II)I" } : Jvm.MethodName)) ∈ lw_tbl := lw_at lw_m16 9 rfl
theorem q3716 : (Jvm.Cond.instanceMethod ({ cls := "CavePearlsModel", name := "notOn", desc := "(II)I" } : Jvm.MethodName)) ∈ lw_all := lw_g (lw_at lw_m16 10 rfl) rfl
theorem q3717 : (Jvm.Cond.code ({ cls := "CavePearlsModel", name := "notOn", desc := "(II)I" } : Jvm.MethodName) prog_31_method_43_code (3 : Nat) (Option.some Jvm.ClassFile.FieldType.int)) ∈ lw_all := lw_g (lw_at lw_m16 11 rfl) rfl
theorem q3718 : (Jvm.Cond.methodLink "CavePearlsModel" (131 : Nat) ({ cls := "CavePearlsModel", name := "isLamp", desc := "(I)Z" } : Jvm.MethodName)) ∈ lw_all := lw_g (lw_at lw_m16 12 rfl) rfl
theorem q3719 : (Jvm.Cond.privateMethod ({ cls := "CavePearlsModel", name := "isLamp", desc := "(I)Z" } : Jvm.MethodName)) ∈ lw_tbl := lw_at lw_m16 13 rfl
theorem q3720 : (Jvm.Cond.instanceMethod ({ cls := "CavePearlsModel", name := "isLamp", desc := "(I)Z" } : Jvm.MethodName)) ∈ lw_all := lw_g (lw_at lw_m16 14 rfl) rfl
theorem q3721 : (Jvm.Cond.code ({ cls := "CavePearlsModel", name := "isLamp", desc := "(I)Z" } : Jvm.MethodName) prog_31_method_19_code (2 : Nat) (Option.some Jvm.ClassFile.FieldType.boolean)) ∈ lw_all := lw_g (lw_at lw_m16 15 rfl) rfl
theorem q3722 : (Jvm.Cond.methodLink "CavePearlsModel" (128 : Nat) ({ cls := "CavePearlsModel", name := "minutesOf", desc := "(I)I" } : Jvm.MethodName)) ∈ lw_all := lw_g (lw_at lw_m16 16 rfl) rfl
theorem q3723 : (Jvm.Cond.privateMethod ({ cls := "CavePearlsModel", name := "minutesOf", desc := "(I)I" } : Jvm.MethodName)) ∈ lw_tbl := lw_at lw_m16 17 rfl
theorem q3724 : (Jvm.Cond.instanceMethod ({ cls := "CavePearlsModel", name := "minutesOf", desc := "(I)I" } : Jvm.MethodName)) ∈ lw_all := lw_g (lw_at lw_m16 18 rfl) rfl
theorem q3725 : (Jvm.Cond.code ({ cls := "CavePearlsModel", name := "minutesOf", desc := "(I)I" } : Jvm.MethodName) prog_31_method_41_code (2 : Nat) (Option.some Jvm.ClassFile.FieldType.int)) ∈ lw_all := lw_g (lw_at lw_m16 19 rfl) rfl
theorem q3726 : (Jvm.Cond.methodLink "CavePearlsModel" (141 : Nat) ({ cls := "CavePearlsModel", name := "lights", desc := "(II)I" } : Jvm.MethodName)) ∈ lw_all := lw_g (lw_at lw_m16 20 rfl) rfl
theorem q3727 : (Jvm.Cond.privateMethod ({ cls := "CavePearlsModel", name := "lights", desc := "(II)I" } : Jvm.MethodName)) ∈ lw_tbl := lw_at lw_m16 21 rfl
theorem q3728 : (Jvm.Cond.instanceMethod ({ cls := "CavePearlsModel", name := "lights", desc := "(II)I" } : Jvm.MethodName)) ∈ lw_all := lw_g (lw_at lw_m16 22 rfl) rfl
theorem q3729 : (Jvm.Cond.code ({ cls := "CavePearlsModel", name := "lights", desc := "(II)I" } : Jvm.MethodName) prog_31_method_44_code (3 : Nat) (Option.some Jvm.ClassFile.FieldType.int)) ∈ lw_all := lw_g (lw_at lw_m16 23 rfl) rfl
theorem q3730 : (Jvm.Cond.methodLink "CavePearlsModel" (134 : Nat) ({ cls := "CavePearlsModel", name := "lampsOn", desc := "()I" } : Jvm.MethodName)) ∈ lw_all := lw_g (lw_at lw_m16 24 rfl) rfl
theorem q3731 : (Jvm.Cond.privateMethod ({ cls := "CavePearlsModel", name := "lampsOn", desc := "()I" } : Jvm.MethodName)) ∈ lw_tbl := lw_at lw_m16 25 rfl
theorem q3732 : (Jvm.Cond.instanceMethod ({ cls := "CavePearlsModel", name := "lampsOn", desc := "()I" } : Jvm.MethodName)) ∈ lw_all := lw_g (lw_at lw_m16 26 rfl) rfl
theorem q3733 : (Jvm.Cond.code ({ cls := "CavePearlsModel", name := "lampsOn", desc := "()I" } : Jvm.MethodName) prog_31_method_42_code (3 : Nat) (Option.some Jvm.ClassFile.FieldType.int)) ∈ lw_all := lw_g (lw_at lw_m16 27 rfl) rfl
theorem q3735 : (Jvm.Cond.instanceMethod ({ cls := "CavePearlsModel", name := "switchOff", desc := "(I)I" } : Jvm.MethodName)) ∈ lw_all := lw_g (lw_at lw_m16 29 rfl) rfl
theorem q3736 : (Jvm.Cond.selects "CavePearlsModel" ({ cls := "CavePearlsModel", name := "switchOff", desc := "(I)I" } : Jvm.MethodName) ({ cls := "CavePearlsModel", name := "switchOff", desc := "(I)I" } : Jvm.MethodName)) ∈ lw_all := lw_g (lw_at lw_m16 30 rfl) rfl
theorem q3737 : (Jvm.Cond.code ({ cls := "CavePearlsModel", name := "switchOff", desc := "(I)I" } : Jvm.MethodName) prog_31_method_48_code (3 : Nat) (Option.some Jvm.ClassFile.FieldType.int)) ∈ lw_all := lw_g (lw_at lw_m16 31 rfl) rfl
theorem q3738 : (Jvm.Cond.methodLink "CavePearlsModel" (144 : Nat) ({ cls := "CavePearlsModel", name := "notOff", desc := "(I)I" } : Jvm.MethodName)) ∈ lw_all := lw_g (lw_at lw_m16 32 rfl) rfl
theorem q3739 : (Jvm.Cond.privateMethod ({ cls := "CavePearlsModel", name := "notOff", desc := "(I)I" } : Jvm.MethodName)) ∈ lw_tbl := lw_at lw_m16 33 rfl
theorem q3740 : (Jvm.Cond.instanceMethod ({ cls := "CavePearlsModel", name := "notOff", desc := "(I)I" } : Jvm.MethodName)) ∈ lw_all := lw_g (lw_at lw_m16 34 rfl) rfl
theorem q3741 : (Jvm.Cond.code ({ cls := "CavePearlsModel", name := "notOff", desc := "(I)I" } : Jvm.MethodName) prog_31_method_46_code (2 : Nat) (Option.some Jvm.ClassFile.FieldType.int)) ∈ lw_all := lw_g (lw_at lw_m16 35 rfl) rfl
theorem q3742 : (Jvm.Cond.methodLink "CavePearlsModel" (147 : Nat) ({ cls := "CavePearlsModel", name := "darkens", desc := "(I)I" } : Jvm.MethodName)) ∈ lw_all := lw_g (lw_at lw_m16 36 rfl) rfl
theorem q3743 : (Jvm.Cond.privateMethod ({ cls := "CavePearlsModel", name := "darkens", desc := "(I)I" } : Jvm.MethodName)) ∈ lw_tbl := lw_at lw_m16 37 rfl
theorem q3744 : (Jvm.Cond.instanceMethod ({ cls := "CavePearlsModel", name := "darkens", desc := "(I)I" } : Jvm.MethodName)) ∈ lw_all := lw_g (lw_at lw_m16 38 rfl) rfl
theorem q3745 : (Jvm.Cond.code ({ cls := "CavePearlsModel", name := "darkens", desc := "(I)I" } : Jvm.MethodName) prog_31_method_47_code (3 : Nat) (Option.some Jvm.ClassFile.FieldType.int)) ∈ lw_all := lw_g (lw_at lw_m16 39 rfl) rfl
theorem q3747 : (Jvm.Cond.instanceMethod ({ cls := "CavePearlsModel", name := "lamp", desc := "(IZ)I" } : Jvm.MethodName)) ∈ lw_all := lw_g (lw_at lw_m16 41 rfl) rfl
theorem q3748 : (Jvm.Cond.selects "CavePearlsModel" ({ cls := "CavePearlsModel", name := "lamp", desc := "(IZ)I" } : Jvm.MethodName) ({ cls := "CavePearlsModel", name := "lamp", desc := "(IZ)I" } : Jvm.MethodName)) ∈ lw_all := lw_g (lw_at lw_m16 42 rfl) rfl
theorem q3749 : (Jvm.Cond.code ({ cls := "CavePearlsModel", name := "lamp", desc := "(IZ)I" } : Jvm.MethodName) prog_31_method_49_code (3 : Nat) (Option.some Jvm.ClassFile.FieldType.int)) ∈ lw_all := lw_g (lw_at lw_m16 43 rfl) rfl
theorem q3751 : (Jvm.Cond.instanceMethod ({ cls := "CavePearlsModel", name := "setDraught", desc := "(I)I" } : Jvm.MethodName)) ∈ lw_all := lw_g (lw_at lw_m16 45 rfl) rfl
theorem q3752 : (Jvm.Cond.selects "CavePearlsModel" ({ cls := "CavePearlsModel", name := "setDraught", desc := "(I)I" } : Jvm.MethodName) ({ cls := "CavePearlsModel", name := "setDraught", desc := "(I)I" } : Jvm.MethodName)) ∈ lw_all := lw_g (lw_at lw_m16 46 rfl) rfl
theorem q3753 : (Jvm.Cond.code ({ cls := "CavePearlsModel", name := "setDraught", desc := "(I)I" } : Jvm.MethodName) prog_31_method_52_code (2 : Nat) (Option.some Jvm.ClassFile.FieldType.int)) ∈ lw_all := lw_g (lw_at lw_m16 47 rfl) rfl
theorem q3754 : (Jvm.Cond.methodLink "CavePearlsModel" (150 : Nat) ({ cls := "CavePearlsModel", name := "notDraught", desc := "(I)I" } : Jvm.MethodName)) ∈ lw_all := lw_g (lw_at lw_m16 48 rfl) rfl
theorem q3755 : (Jvm.Cond.privateMethod ({ cls := "CavePearlsModel", name := "notDraught", desc := "(I)I" } : Jvm.MethodName)) ∈ lw_tbl := lw_at lw_m16 49 rfl
theorem q3756 : (Jvm.Cond.instanceMethod ({ cls := "CavePearlsModel", name := "notDraught", desc := "(I)I" } : Jvm.MethodName)) ∈ lw_all := lw_g (lw_at lw_m16 50 rfl) rfl
theorem q3757 : (Jvm.Cond.code ({ cls := "CavePearlsModel", name := "notDraught", desc := "(I)I" } : Jvm.MethodName) prog_31_method_50_code (2 : Nat) (Option.some Jvm.ClassFile.FieldType.int)) ∈ lw_all := lw_g (lw_at lw_m16 51 rfl) rfl
theorem q3758 : (Jvm.Cond.methodLink "CavePearlsModel" (153 : Nat) ({ cls := "CavePearlsModel", name := "draws", desc := "(I)I" } : Jvm.MethodName)) ∈ lw_all := lw_g (lw_at lw_m16 52 rfl) rfl
theorem q3759 : (Jvm.Cond.privateMethod ({ cls := "CavePearlsModel", name := "draws", desc := "(I)I" } : Jvm.MethodName)) ∈ lw_tbl := lw_at lw_m16 53 rfl
theorem q3760 : (Jvm.Cond.instanceMethod ({ cls := "CavePearlsModel", name := "draws", desc := "(I)I" } : Jvm.MethodName)) ∈ lw_all := lw_g (lw_at lw_m16 54 rfl) rfl
theorem q3761 : (Jvm.Cond.code ({ cls := "CavePearlsModel", name := "draws", desc := "(I)I" } : Jvm.MethodName) prog_31_method_51_code (3 : Nat) (Option.some Jvm.ClassFile.FieldType.int)) ∈ lw_all := lw_g (lw_at lw_m16 55 rfl) rfl
theorem q3763 : (Jvm.Cond.instanceMethod ({ cls := "CavePearlsModel", name := "sweep", desc := "()I" } : Jvm.MethodName)) ∈ lw_all := lw_g (lw_at lw_m16 57 rfl) rfl
theorem q3764 : (Jvm.Cond.selects "CavePearlsModel" ({ cls := "CavePearlsModel", name := "sweep", desc := "()I" } : Jvm.MethodName) ({ cls := "CavePearlsModel", name := "sweep", desc := "()I" } : Jvm.MethodName)) ∈ lw_all := lw_g (lw_at lw_m16 58 rfl) rfl
theorem q3765 : (Jvm.Cond.code ({ cls := "CavePearlsModel", name := "sweep", desc := "()I" } : Jvm.MethodName) prog_31_method_55_code (2 : Nat) (Option.some Jvm.ClassFile.FieldType.int)) ∈ lw_all := lw_g (lw_at lw_m16 59 rfl) rfl
theorem q3766 : (Jvm.Cond.methodLink "CavePearlsModel" (156 : Nat) ({ cls := "CavePearlsModel", name := "notSweep", desc := "()I" } : Jvm.MethodName)) ∈ lw_all := lw_g (lw_at lw_m16 60 rfl) rfl
theorem q3767 : (Jvm.Cond.privateMethod ({ cls := "CavePearlsModel", name := "notSweep", desc := "()I" } : Jvm.MethodName)) ∈ lw_tbl := lw_at lw_m16 61 rfl
theorem q3768 : (Jvm.Cond.instanceMethod ({ cls := "CavePearlsModel", name := "notSweep", desc := "()I" } : Jvm.MethodName)) ∈ lw_all := lw_g (lw_at lw_m16 62 rfl) rfl
theorem q3769 : (Jvm.Cond.code ({ cls := "CavePearlsModel", name := "notSweep", desc := "()I" } : Jvm.MethodName) prog_31_method_53_code (1 : Nat) (Option.some Jvm.ClassFile.FieldType.int)) ∈ lw_all := lw_g (lw_at lw_m16 63 rfl) rfl
theorem q3770 : (Jvm.Cond.methodLink "CavePearlsModel" (159 : Nat) ({ cls := "CavePearlsModel", name := "sweeps", desc := "()I" } : Jvm.MethodName)) ∈ lw_all := lw_g (lw_at lw_m16 64 rfl) rfl
theorem q3771 : (Jvm.Cond.privateMethod ({ cls := "CavePearlsModel", name := "sweeps", desc := "()I" } : Jvm.MethodName)) ∈ lw_tbl := lw_at lw_m16 65 rfl
theorem q3772 : (Jvm.Cond.instanceMethod ({ cls := "CavePearlsModel", name := "sweeps", desc := "()I" } : Jvm.MethodName)) ∈ lw_all := lw_g (lw_at lw_m16 66 rfl) rfl
theorem q3773 : (Jvm.Cond.code ({ cls := "CavePearlsModel", name := "sweeps", desc := "()I" } : Jvm.MethodName) prog_31_method_54_code (2 : Nat) (Option.some Jvm.ClassFile.FieldType.int)) ∈ lw_all := lw_g (lw_at lw_m16 67 rfl) rfl
theorem q3775 : (Jvm.Cond.instanceMethod ({ cls := "CavePearlsModel", name := "pass", desc := "(I)I" } : Jvm.MethodName)) ∈ lw_all := lw_g (lw_at lw_m16 69 rfl) rfl
theorem q3776 : (Jvm.Cond.selects "CavePearlsModel" ({ cls := "CavePearlsModel", name := "pass", desc := "(I)I" } : Jvm.MethodName) ({ cls := "CavePearlsModel", name := "pass", desc := "(I)I" } : Jvm.MethodName)) ∈ lw_all := lw_g (lw_at lw_m16 70 rfl) rfl
theorem q3777 : (Jvm.Cond.code ({ cls := "CavePearlsModel", name := "pass", desc := "(I)I" } : Jvm.MethodName) prog_31_method_65_code (2 : Nat) (Option.some Jvm.ClassFile.FieldType.int)) ∈ lw_all := lw_g (lw_at lw_m16 71 rfl) rfl
theorem q3778 : (Jvm.Cond.methodLink "CavePearlsModel" (186 : Nat) ({ cls := "CavePearlsModel", name := "notPass", desc := "(I)I" } : Jvm.MethodName)) ∈ lw_all := lw_g (lw_at lw_m16 72 rfl) rfl
theorem q3779 : (Jvm.Cond.privateMethod ({ cls := "CavePearlsModel", name := "notPass", desc := "(I)I" } : Jvm.MethodName)) ∈ lw_tbl := lw_at lw_m16 73 rfl
theorem q3780 : (Jvm.Cond.instanceMethod ({ cls := "CavePearlsModel", name := "notPass", desc := "(I)I" } : Jvm.MethodName)) ∈ lw_all := lw_g (lw_at lw_m16 74 rfl) rfl
theorem q3781 : (Jvm.Cond.code ({ cls := "CavePearlsModel", name := "notPass", desc := "(I)I" } : Jvm.MethodName) prog_31_method_63_code (2 : Nat) (Option.some Jvm.ClassFile.FieldType.int)) ∈ lw_all := lw_g (lw_at lw_m16 75 rfl) rfl
theorem q3782 : (Jvm.Cond.methodLink "CavePearlsModel" (189 : Nat) ({ cls := "CavePearlsModel", name := "passes", desc := "(I)I" } : Jvm.MethodName)) ∈ lw_all := lw_g (lw_at lw_m16 76 rfl) rfl
theorem q3783 : (Jvm.Cond.privateMethod ({ cls := "CavePearlsModel", name := "passes", desc := "(I)I" } : Jvm.MethodName)) ∈ lw_tbl := lw_at lw_m16 77 rfl
theorem q3784 : (Jvm.Cond.instanceMethod ({ cls := "CavePearlsModel", name := "passes", desc := "(I)I" } : Jvm.MethodName)) ∈ lw_all := lw_g (lw_at lw_m16 78 rfl) rfl
theorem q3785 : (Jvm.Cond.code ({ cls := "CavePearlsModel", name := "passes", desc := "(I)I" } : Jvm.MethodName) prog_31_method_64_code (4 : Nat) (Option.some Jvm.ClassFile.FieldType.int)) ∈ lw_all := lw_g (lw_at lw_m16 79 rfl) rfl
theorem q3786 : (Jvm.Cond.methodLink "CavePearlsModel" (183 : Nat) ({ cls := "CavePearlsModel", name := "goesMinute", desc := "()V" } : Jvm.MethodName)) ∈ lw_all := lw_g (lw_at lw_m16 80 rfl) rfl
theorem q3787 : (Jvm.Cond.privateMethod ({ cls := "CavePearlsModel", name := "goesMinute", desc := "()V" } : Jvm.MethodName)) ∈ lw_tbl := lw_at lw_m16 81 rfl
theorem q3788 : (Jvm.Cond.instanceMethod ({ cls := "CavePearlsModel", name := "goesMinute", desc := "()V" } : Jvm.MethodName)) ∈ lw_all := lw_g (lw_at lw_m16 82 rfl) rfl
theorem q3789 : (Jvm.Cond.code ({ cls := "CavePearlsModel", name := "goesMinute", desc := "()V" } : Jvm.MethodName) prog_31_method_62_code (2 : Nat) (Option.none : Option Jvm.ClassFile.FieldType)) ∈ lw_all := lw_g (lw_at lw_m16 83 rfl) rfl
theorem q3790 : (Jvm.Cond.methodLink "CavePearlsModel" (171 : Nat) ({ cls := "CavePearlsModel", name := "breathes", desc := "()V" } : Jvm.MethodName)) ∈ lw_all := lw_g (lw_at lw_m16 84 rfl) rfl
theorem q3791 : (Jvm.Cond.privateMethod ({ cls := "CavePearlsModel", name := "breathes", desc := "()V" } : Jvm.MethodName)) ∈ lw_tbl := lw_at lw_m16 85 rfl
theorem q3792 : (Jvm.Cond.instanceMethod ({ cls := "CavePearlsModel", name := "breathes", desc := "()V" } : Jvm.MethodName)) ∈ lw_all := lw_g (lw_at lw_m16 86 rfl) rfl
theorem q3793 : (Jvm.Cond.code ({ cls := "CavePearlsModel", name := "breathes", desc := "()V" } : Jvm.MethodName) prog_31_method_59_code (3 : Nat) (Option.none : Option Jvm.ClassFile.FieldType)) ∈ lw_all := lw_g (lw_at lw_m16 87 rfl) rfl
theorem q3794 : (Jvm.Cond.methodLink "CavePearlsModel" (168 : Nat) ({ cls := "CavePearlsModel", name := "persons", desc := "()I" } : Jvm.MethodName)) ∈ lw_all := lw_g (lw_at lw_m16 88 rfl) rfl
theorem q3795 : (Jvm.Cond.privateMethod ({ cls := "CavePearlsModel", name := "persons", desc := "()I" } : Jvm.MethodName)) ∈ lw_tbl := lw_at lw_m16 89 rfl
theorem q3796 : (Jvm.Cond.instanceMethod ({ cls := "CavePearlsModel", name := "persons", desc := "()I" } : Jvm.MethodName)) ∈ lw_all := lw_g (lw_at lw_m16 90 rfl) rfl
theorem q3797 : (Jvm.Cond.code ({ cls := "CavePearlsModel", name := "persons", desc := "()I" } : Jvm.MethodName) prog_31_method_39_code (3 : Nat) (Option.some Jvm.ClassFile.FieldType.int)) ∈ lw_all := lw_g (lw_at lw_m16 91 rfl) rfl
theorem q3798 : (Jvm.Cond.methodLink "CavePearlsModel" (174 : Nat) ({ cls := "CavePearlsModel", name := "dries", desc := "()V" } : Jvm.MethodName)) ∈ lw_all := lw_g (lw_at lw_m16 92 rfl) rfl
theorem q3799 : (Jvm.Cond.privateMethod ({ cls := "CavePearlsModel", name := "dries", desc := "()V" } : Jvm.MethodName)) ∈ lw_tbl := lw_at lw_m16 93 rfl
theorem q3800 : (Jvm.Cond.instanceMethod ({ cls := "CavePearlsModel", name := "dries", desc := "()V" } : Jvm.MethodName)) ∈ lw_all := lw_g (lw_at lw_m16 94 rfl) rfl
theorem q3801 : (Jvm.Cond.code ({ cls := "CavePearlsModel", name := "dries", desc := "()V" } : Jvm.MethodName) prog_31_method_60_code (3 : Nat) (Option.none : Option Jvm.ClassFile.FieldType)) ∈ lw_all := lw_g (lw_at lw_m16 95 rfl) rfl
theorem q3802 : (Jvm.Cond.methodLink "CavePearlsModel" (177 : Nat) ({ cls := "CavePearlsModel", name := "drips", desc := "(I)V" } : Jvm.MethodName)) ∈ lw_all := lw_g (lw_at lw_m16 96 rfl) rfl
theorem q3803 : (Jvm.Cond.privateMethod ({ cls := "CavePearlsModel", name := "drips", desc := "(I)V" } : Jvm.MethodName)) ∈ lw_tbl := lw_at lw_m16 97 rfl
theorem q3804 : (Jvm.Cond.instanceMethod ({ cls := "CavePearlsModel", name := "drips", desc := "(I)V" } : Jvm.MethodName)) ∈ lw_all := lw_g (lw_at lw_m16 98 rfl) rfl
theorem q3805 : (Jvm.Cond.code ({ cls := "CavePearlsModel", name := "drips", desc := "(I)V" } : Jvm.MethodName) prog_31_method_58_code (4 : Nat) (Option.none : Option Jvm.ClassFile.FieldType)) ∈ lw_all := lw_g (lw_at lw_m16 99 rfl) rfl
theorem q3806 : (Jvm.Cond.methodLink "CavePearlsModel" (165 : Nat) ({ cls := "CavePearlsModel", name := "changeOf", desc := "(I)I" } : Jvm.MethodName)) ∈ lw_all := lw_g (lw_at lw_m16 100 rfl) rfl
theorem q3807 : (Jvm.Cond.privateMethod ({ cls := "CavePearlsModel", name := "changeOf", desc := "(I)I" } : Jvm.MethodName)) ∈ lw_tbl := lw_at lw_m16 101 rfl
theorem q3808 : (Jvm.Cond.instanceMethod ({ cls := "CavePearlsModel", name := "changeOf", desc := "(I)I" } : Jvm.MethodName)) ∈ lw_all := lw_g (lw_at lw_m16 102 rfl) rfl
theorem q3809 : (Jvm.Cond.code ({ cls := "CavePearlsModel", name := "changeOf", desc := "(I)I" } : Jvm.MethodName) prog_31_method_57_code (3 : Nat) (Option.some Jvm.ClassFile.FieldType.int)) ∈ lw_all := lw_g (lw_at lw_m16 103 rfl) rfl
theorem q3810 : (Jvm.Cond.methodLink "CavePearlsModel" (162 : Nat) ({ cls := "CavePearlsModel", name := "smallest", desc := "(I)I" } : Jvm.MethodName)) ∈ lw_all := lw_g (lw_at lw_m16 104 rfl) rfl
theorem q3811 : (Jvm.Cond.privateMethod ({ cls := "CavePearlsModel", name := "smallest", desc := "(I)I" } : Jvm.MethodName)) ∈ lw_tbl := lw_at lw_m16 105 rfl
theorem q3812 : (Jvm.Cond.instanceMethod ({ cls := "CavePearlsModel", name := "smallest", desc := "(I)I" } : Jvm.MethodName)) ∈ lw_all := lw_g (lw_at lw_m16 106 rfl) rfl
theorem q3813 : (Jvm.Cond.code ({ cls := "CavePearlsModel", name := "smallest", desc := "(I)I" } : Jvm.MethodName) prog_31_method_56_code (4 : Nat) (Option.some Jvm.ClassFile.FieldType.int)) ∈ lw_all := lw_g (lw_at lw_m16 107 rfl) rfl
theorem q3814 : (Jvm.Cond.methodLink "CavePearlsModel" (180 : Nat) ({ cls := "CavePearlsModel", name := "cracksBy", desc := "()V" } : Jvm.MethodName)) ∈ lw_all := lw_g (lw_at lw_m16 108 rfl) rfl
theorem q3815 : (Jvm.Cond.privateMethod ({ cls := "CavePearlsModel", name := "cracksBy", desc := "()V" } : Jvm.MethodName)) ∈ lw_tbl := lw_at lw_m16 109 rfl
theorem q3816 : (Jvm.Cond.instanceMethod ({ cls := "CavePearlsModel", name := "cracksBy", desc := "()V" } : Jvm.MethodName)) ∈ lw_all := lw_g (lw_at lw_m16 110 rfl) rfl
theorem q3817 : (Jvm.Cond.code ({ cls := "CavePearlsModel", name := "cracksBy", desc := "()V" } : Jvm.MethodName) prog_31_method_61_code (3 : Nat) (Option.none : Option Jvm.ClassFile.FieldType)) ∈ lw_all := lw_g (lw_at lw_m16 111 rfl) rfl
theorem q3819 : (Jvm.Cond.instanceMethod ({ cls := "CavePearlsModel", name := "fullIn", desc := "(I)I" } : Jvm.MethodName)) ∈ lw_all := lw_g (lw_at lw_m16 113 rfl) rfl
theorem q3820 : (Jvm.Cond.selects "CavePearlsModel" ({ cls := "CavePearlsModel", name := "fullIn", desc := "(I)I" } : Jvm.MethodName) ({ cls := "CavePearlsModel", name := "fullIn", desc := "(I)I" } : Jvm.MethodName)) ∈ lw_all := lw_g (lw_at lw_m16 114 rfl) rfl
theorem q3821 : (Jvm.Cond.code ({ cls := "CavePearlsModel", name := "fullIn", desc := "(I)I" } : Jvm.MethodName) prog_31_method_66_code (4 : Nat) (Option.some Jvm.ClassFile.FieldType.int)) ∈ lw_all := lw_g (lw_at lw_m16 115 rfl) rfl
theorem q3822 : (Jvm.Cond.methodLink "CavePearlsModel" (192 : Nat) ({ cls := "CavePearlsModel", name := "forgets", desc := "()V" } : Jvm.MethodName)) ∈ lw_all := lw_g (lw_at lw_m16 116 rfl) rfl
theorem q3823 : (Jvm.Cond.privateMethod ({ cls := "CavePearlsModel", name := "forgets", desc := "()V" } : Jvm.MethodName)) ∈ lw_tbl := lw_at lw_m16 117 rfl
theorem q3824 : (Jvm.Cond.instanceMethod ({ cls := "CavePearlsModel", name := "forgets", desc := "()V" } : Jvm.MethodName)) ∈ lw_all := lw_g (lw_at lw_m16 118 rfl) rfl
theorem q3825 : (Jvm.Cond.code ({ cls := "CavePearlsModel", name := "forgets", desc := "()V" } : Jvm.MethodName) prog_31_method_9_code (2 : Nat) (Option.none : Option Jvm.ClassFile.FieldType)) ∈ lw_all := lw_g (lw_at lw_m16 119 rfl) rfl
theorem q3827 : (Jvm.Cond.instanceMethod ({ cls := "CavePearlsModel", name := "sizeIn", desc := "(III)I" } : Jvm.MethodName)) ∈ lw_all := lw_g (lw_at lw_m16 121 rfl) rfl
theorem q3828 : (Jvm.Cond.selects "CavePearlsModel" ({ cls := "CavePearlsModel", name := "sizeIn", desc := "(III)I" } : Jvm.MethodName) ({ cls := "CavePearlsModel", name := "sizeIn", desc := "(III)I" } : Jvm.MethodName)) ∈ lw_all := lw_g (lw_at lw_m16 122 rfl) rfl
theorem q3829 : (Jvm.Cond.code ({ cls := "CavePearlsModel", name := "sizeIn", desc := "(III)I" } : Jvm.MethodName) prog_31_method_67_code (5 : Nat) (Option.some Jvm.ClassFile.FieldType.int)) ∈ lw_all := lw_g (lw_at lw_m16 123 rfl) rfl
theorem q3831 : (Jvm.Cond.instanceMethod ({ cls := "CavePearlsModel", name := "clearIn", desc := "(I)I" } : Jvm.MethodName)) ∈ lw_all := lw_g (lw_at lw_m16 125 rfl) rfl
theorem q3832 : (Jvm.Cond.selects "CavePearlsModel" ({ cls := "CavePearlsModel", name := "clearIn", desc := "(I)I" } : Jvm.MethodName) ({ cls := "CavePearlsModel", name := "clearIn", desc := "(I)I" } : Jvm.MethodName)) ∈ lw_all := lw_g (lw_at lw_m16 126 rfl) rfl
theorem q3833 : (Jvm.Cond.code ({ cls := "CavePearlsModel", name := "clearIn", desc := "(I)I" } : Jvm.MethodName) prog_31_method_68_code (4 : Nat) (Option.some Jvm.ClassFile.FieldType.int)) ∈ lw_all := lw_g (lw_at lw_m16 127 rfl) rfl
theorem q3835 : (Jvm.Cond.instanceMethod ({ cls := "CavePearlsModel", name := "leastDraught", desc := "()I" } : Jvm.MethodName)) ∈ lw_all := lw_g (lw_at lw_m16 129 rfl) rfl
theorem q3836 : (Jvm.Cond.selects "CavePearlsModel" ({ cls := "CavePearlsModel", name := "leastDraught", desc := "()I" } : Jvm.MethodName) ({ cls := "CavePearlsModel", name := "leastDraught", desc := "()I" } : Jvm.MethodName)) ∈ lw_all := lw_g (lw_at lw_m16 130 rfl) rfl
theorem q3837 : (Jvm.Cond.code ({ cls := "CavePearlsModel", name := "leastDraught", desc := "()I" } : Jvm.MethodName) prog_31_method_70_code (2 : Nat) (Option.some Jvm.ClassFile.FieldType.int)) ∈ lw_all := lw_g (lw_at lw_m16 131 rfl) rfl
theorem q3838 : (Jvm.Cond.methodLink "CavePearlsModel" (195 : Nat) ({ cls := "CavePearlsModel", name := "staysClear", desc := "(I)Z" } : Jvm.MethodName)) ∈ lw_all := lw_g (lw_at lw_m16 132 rfl) rfl
theorem q3839 : (Jvm.Cond.privateMethod ({ cls := "CavePearlsModel", name := "staysClear", desc := "(I)Z" } : Jvm.MethodName)) ∈ lw_tbl := lw_at lw_m16 133 rfl
theorem q3840 : (Jvm.Cond.instanceMethod ({ cls := "CavePearlsModel", name := "staysClear", desc := "(I)Z" } : Jvm.MethodName)) ∈ lw_all := lw_g (lw_at lw_m16 134 rfl) rfl
theorem q3841 : (Jvm.Cond.code ({ cls := "CavePearlsModel", name := "staysClear", desc := "(I)Z" } : Jvm.MethodName) prog_31_method_69_code (4 : Nat) (Option.some Jvm.ClassFile.FieldType.boolean)) ∈ lw_all := lw_g (lw_at lw_m16 135 rfl) rfl
theorem q3843 : (Jvm.Cond.instanceMethod ({ cls := "CavePearlsModel", name := "line", desc := "(I)I" } : Jvm.MethodName)) ∈ lw_all := lw_g (lw_at lw_m16 137 rfl) rfl
theorem q3844 : (Jvm.Cond.selects "CavePearlsModel" ({ cls := "CavePearlsModel", name := "line", desc := "(I)I" } : Jvm.MethodName) ({ cls := "CavePearlsModel", name := "line", desc := "(I)I" } : Jvm.MethodName)) ∈ lw_all := lw_g (lw_at lw_m16 138 rfl) rfl
theorem q3845 : (Jvm.Cond.code ({ cls := "CavePearlsModel", name := "line", desc := "(I)I" } : Jvm.MethodName) prog_31_method_73_code (3 : Nat) (Option.some Jvm.ClassFile.FieldType.int)) ∈ lw_all := lw_g (lw_at lw_m16 139 rfl) rfl
theorem q3846 : (Jvm.Cond.methodLink "CavePearlsModel" (204 : Nat) ({ cls := "CavePearlsModel", name := "putsNumber", desc := "(I)V" } : Jvm.MethodName)) ∈ lw_all := lw_g (lw_at lw_m16 140 rfl) rfl
theorem q3847 : (Jvm.Cond.privateMethod ({ cls := "CavePearlsModel", name := "putsNumber", desc := "(I)V" } : Jvm.MethodName)) ∈ lw_tbl := lw_at lw_m16 141 rfl
theorem q3848 : (Jvm.Cond.instanceMethod ({ cls := "CavePearlsModel", name := "putsNumber", desc := "(I)V" } : Jvm.MethodName)) ∈ lw_all := lw_g (lw_at lw_m16 142 rfl) rfl
theorem q3849 : (Jvm.Cond.code ({ cls := "CavePearlsModel", name := "putsNumber", desc := "(I)V" } : Jvm.MethodName) prog_31_method_72_code (2 : Nat) (Option.none : Option Jvm.ClassFile.FieldType)) ∈ lw_all := lw_g (lw_at lw_m16 143 rfl) rfl
theorem q3850 : (Jvm.Cond.methodLink "CavePearlsModel" (201 : Nat) ({ cls := "CavePearlsModel", name := "puts", desc := "(I)V" } : Jvm.MethodName)) ∈ lw_all := lw_g (lw_at lw_m16 144 rfl) rfl
theorem q3851 : (Jvm.Cond.privateMethod ({ cls := "CavePearlsModel", name := "puts", desc := "(I)V" } : Jvm.MethodName)) ∈ lw_tbl := lw_at lw_m16 145 rfl
theorem q3852 : (Jvm.Cond.instanceMethod ({ cls := "CavePearlsModel", name := "puts", desc := "(I)V" } : Jvm.MethodName)) ∈ lw_all := lw_g (lw_at lw_m16 146 rfl) rfl
theorem q3853 : (Jvm.Cond.code ({ cls := "CavePearlsModel", name := "puts", desc := "(I)V" } : Jvm.MethodName) prog_31_method_71_code (2 : Nat) (Option.none : Option Jvm.ClassFile.FieldType)) ∈ lw_all := lw_g (lw_at lw_m16 147 rfl) rfl
theorem q3855 : (Jvm.Cond.instanceMethod ({ cls := "CavePearlsModel", name := "character", desc := "(I)C" } : Jvm.MethodName)) ∈ lw_all := lw_g (lw_at lw_m16 149 rfl) rfl
theorem q3856 : (Jvm.Cond.selects "CavePearlsModel" ({ cls := "CavePearlsModel", name := "character", desc := "(I)C" } : Jvm.MethodName) ({ cls := "CavePearlsModel", name := "character", desc := "(I)C" } : Jvm.MethodName)) ∈ lw_all := lw_g (lw_at lw_m16 150 rfl) rfl
theorem q3857 : (Jvm.Cond.code ({ cls := "CavePearlsModel", name := "character", desc := "(I)C" } : Jvm.MethodName) prog_31_method_74_code (2 : Nat) (Option.some Jvm.ClassFile.FieldType.char)) ∈ lw_all := lw_g (lw_at lw_m16 151 rfl) rfl
theorem q3859 : (Jvm.Cond.instanceMethod ({ cls := "CavePearlsModel", name := "dripsAgain", desc := "()I" } : Jvm.MethodName)) ∈ lw_all := lw_g (lw_at lw_m16 153 rfl) rfl
theorem q3860 : (Jvm.Cond.selects "CavePearlsModel" ({ cls := "CavePearlsModel", name := "dripsAgain", desc := "()I" } : Jvm.MethodName) ({ cls := "CavePearlsModel", name := "dripsAgain", desc := "()I" } : Jvm.MethodName)) ∈ lw_all := lw_g (lw_at lw_m16 154 rfl) rfl
theorem q3861 : (Jvm.Cond.code ({ cls := "CavePearlsModel", name := "dripsAgain", desc := "()I" } : Jvm.MethodName) prog_31_method_78_code (1 : Nat) (Option.some Jvm.ClassFile.FieldType.int)) ∈ lw_all := lw_g (lw_at lw_m16 155 rfl) rfl
theorem q3862 : (Jvm.Cond.methodLink "CavePearlsModel" (207 : Nat) ({ cls := "CavePearlsModel", name := "waters", desc := "()I" } : Jvm.MethodName)) ∈ lw_all := lw_g (lw_at lw_m16 156 rfl) rfl
theorem q3863 : (Jvm.Cond.privateMethod ({ cls := "CavePearlsModel", name := "waters", desc := "()I" } : Jvm.MethodName)) ∈ lw_tbl := lw_at lw_m16 157 rfl
theorem q3864 : (Jvm.Cond.instanceMethod ({ cls := "CavePearlsModel", name := "waters", desc := "()I" } : Jvm.MethodName)) ∈ lw_all := lw_g (lw_at lw_m16 158 rfl) rfl
theorem q3865 : (Jvm.Cond.code ({ cls := "CavePearlsModel", name := "waters", desc := "()I" } : Jvm.MethodName) prog_31_method_75_code (3 : Nat) (Option.some Jvm.ClassFile.FieldType.int)) ∈ lw_all := lw_g (lw_at lw_m16 159 rfl) rfl
theorem q3867 : (Jvm.Cond.instanceMethod ({ cls := "CavePearlsModel", name := "isBalanced", desc := "()Z" } : Jvm.MethodName)) ∈ lw_all := lw_g (lw_at lw_m16 161 rfl) rfl
theorem q3868 : (Jvm.Cond.selects "CavePearlsModel" ({ cls := "CavePearlsModel", name := "isBalanced", desc := "()Z" } : Jvm.MethodName) ({ cls := "CavePearlsModel", name := "isBalanced", desc := "()Z" } : Jvm.MethodName)) ∈ lw_all := lw_g (lw_at lw_m16 162 rfl) rfl
theorem q3869 : (Jvm.Cond.code ({ cls := "CavePearlsModel", name := "isBalanced", desc := "()Z" } : Jvm.MethodName) prog_31_method_79_code (1 : Nat) (Option.some Jvm.ClassFile.FieldType.boolean)) ∈ lw_all := lw_g (lw_at lw_m16 163 rfl) rfl
theorem q3870 : (Jvm.Cond.methodLink "CavePearlsModel" (210 : Nat) ({ cls := "CavePearlsModel", name := "sizes", desc := "()I" } : Jvm.MethodName)) ∈ lw_all := lw_g (lw_at lw_m16 164 rfl) rfl
theorem q3871 : (Jvm.Cond.privateMethod ({ cls := "CavePearlsModel", name := "sizes", desc := "()I" } : Jvm.MethodName)) ∈ lw_tbl := lw_at lw_m16 165 rfl
theorem q3872 : (Jvm.Cond.instanceMethod ({ cls := "CavePearlsModel", name := "sizes", desc := "()I" } : Jvm.MethodName)) ∈ lw_all := lw_g (lw_at lw_m16 166 rfl) rfl
theorem q3873 : (Jvm.Cond.code ({ cls := "CavePearlsModel", name := "sizes", desc := "()I" } : Jvm.MethodName) prog_31_method_77_code (4 : Nat) (Option.some Jvm.ClassFile.FieldType.int)) ∈ lw_all := lw_g (lw_at lw_m16 167 rfl) rfl
theorem q3875 : (Jvm.Cond.instanceMethod ({ cls := "CavePearlsModel", name := "meanSize", desc := "()D" } : Jvm.MethodName)) ∈ lw_all := lw_g (lw_at lw_m16 169 rfl) rfl
theorem q3876 : (Jvm.Cond.selects "CavePearlsModel" ({ cls := "CavePearlsModel", name := "meanSize", desc := "()D" } : Jvm.MethodName) ({ cls := "CavePearlsModel", name := "meanSize", desc := "()D" } : Jvm.MethodName)) ∈ lw_all := lw_g (lw_at lw_m16 170 rfl) rfl
theorem q3877 : (Jvm.Cond.code ({ cls := "CavePearlsModel", name := "meanSize", desc := "()D" } : Jvm.MethodName) prog_31_method_80_code (1 : Nat) (Option.some Jvm.ClassFile.FieldType.double)) ∈ lw_all := lw_g (lw_at lw_m16 171 rfl) rfl
theorem q3878 : (Jvm.Cond.methodLink "CavePearlsModel" (213 : Nat) ({ cls := "CavePearlsModel", name := "pearls", desc := "()I" } : Jvm.MethodName)) ∈ lw_all := lw_g (lw_at lw_m16 172 rfl) rfl
theorem q3879 : (Jvm.Cond.privateMethod ({ cls := "CavePearlsModel", name := "pearls", desc := "()I" } : Jvm.MethodName)) ∈ lw_tbl := lw_at lw_m16 173 rfl
theorem q3880 : (Jvm.Cond.instanceMethod ({ cls := "CavePearlsModel", name := "pearls", desc := "()I" } : Jvm.MethodName)) ∈ lw_all := lw_g (lw_at lw_m16 174 rfl) rfl
theorem q3881 : (Jvm.Cond.code ({ cls := "CavePearlsModel", name := "pearls", desc := "()I" } : Jvm.MethodName) prog_31_method_76_code (3 : Nat) (Option.some Jvm.ClassFile.FieldType.int)) ∈ lw_all := lw_g (lw_at lw_m16 175 rfl) rfl
theorem q3883 : (Jvm.Cond.instanceMethod ({ cls := "CavePearlsModel", name := "growthShare", desc := "()F" } : Jvm.MethodName)) ∈ lw_all := lw_g (lw_at lw_m16 177 rfl) rfl
theorem q3884 : (Jvm.Cond.selects "CavePearlsModel" ({ cls := "CavePearlsModel", name := "growthShare", desc := "()F" } : Jvm.MethodName) ({ cls := "CavePearlsModel", name := "growthShare", desc := "()F" } : Jvm.MethodName)) ∈ lw_all := lw_g (lw_at lw_m16 178 rfl) rfl
theorem q3885 : (Jvm.Cond.code ({ cls := "CavePearlsModel", name := "growthShare", desc := "()F" } : Jvm.MethodName) prog_31_method_81_code (1 : Nat) (Option.some Jvm.ClassFile.FieldType.float)) ∈ lw_all := lw_g (lw_at lw_m16 179 rfl) rfl
theorem q3887 : (Jvm.Cond.instanceMethod ({ cls := "CavePearlsModel", name := "reason", desc := "(Z)I" } : Jvm.MethodName)) ∈ lw_all := lw_g (lw_at lw_m16 181 rfl) rfl
theorem q3888 : (Jvm.Cond.selects "CavePearlsModel" ({ cls := "CavePearlsModel", name := "reason", desc := "(Z)I" } : Jvm.MethodName) ({ cls := "CavePearlsModel", name := "reason", desc := "(Z)I" } : Jvm.MethodName)) ∈ lw_all := lw_g (lw_at lw_m16 182 rfl) rfl
theorem q3889 : (Jvm.Cond.code ({ cls := "CavePearlsModel", name := "reason", desc := "(Z)I" } : Jvm.MethodName) prog_31_method_82_code (2 : Nat) (Option.some Jvm.ClassFile.FieldType.int)) ∈ lw_all := lw_g (lw_at lw_m16 183 rfl) rfl
theorem q3891 : (Jvm.Cond.instanceMethod ({ cls := "CavePearlsModel", name := "account", desc := "(I)I" } : Jvm.MethodName)) ∈ lw_all := lw_g (lw_at lw_m16 185 rfl) rfl
theorem q3892 : (Jvm.Cond.selects "CavePearlsModel" ({ cls := "CavePearlsModel", name := "account", desc := "(I)I" } : Jvm.MethodName) ({ cls := "CavePearlsModel", name := "account", desc := "(I)I" } : Jvm.MethodName)) ∈ lw_all := lw_g (lw_at lw_m16 186 rfl) rfl
theorem q3893 : (Jvm.Cond.code ({ cls := "CavePearlsModel", name := "account", desc := "(I)I" } : Jvm.MethodName) prog_31_method_83_code (2 : Nat) (Option.some Jvm.ClassFile.FieldType.int)) ∈ lw_all := lw_g (lw_at lw_m16 187 rfl) rfl
theorem q3895 : (Jvm.Cond.instanceMethod ({ cls := "CavePearlsModel", name := "feed", desc := "(C)I" } : Jvm.MethodName)) ∈ lw_all := lw_g (lw_at lw_m16 189 rfl) rfl
theorem q3896 : (Jvm.Cond.selects "CavePearlsModel" ({ cls := "CavePearlsModel", name := "feed", desc := "(C)I" } : Jvm.MethodName) ({ cls := "CavePearlsModel", name := "feed", desc := "(C)I" } : Jvm.MethodName)) ∈ lw_all := lw_g (lw_at lw_m16 190 rfl) rfl
theorem q3897 : (Jvm.Cond.code ({ cls := "CavePearlsModel", name := "feed", desc := "(C)I" } : Jvm.MethodName) prog_31_method_84_code (2 : Nat) (Option.some Jvm.ClassFile.FieldType.int)) ∈ lw_all := lw_g (lw_at lw_m16 191 rfl) rfl
theorem q3899 : (Jvm.Cond.instanceMethod ({ cls := "CavePearlsModel", name := "perform", desc := "()I" } : Jvm.MethodName)) ∈ lw_all := lw_g (lw_at lw_m16 193 rfl) rfl
theorem q3900 : (Jvm.Cond.selects "CavePearlsModel" ({ cls := "CavePearlsModel", name := "perform", desc := "()I" } : Jvm.MethodName) ({ cls := "CavePearlsModel", name := "perform", desc := "()I" } : Jvm.MethodName)) ∈ lw_all := lw_g (lw_at lw_m16 194 rfl) rfl
theorem q3901 : (Jvm.Cond.code ({ cls := "CavePearlsModel", name := "perform", desc := "()I" } : Jvm.MethodName) prog_31_method_95_code (2 : Nat) (Option.some Jvm.ClassFile.FieldType.int)) ∈ lw_all := lw_g (lw_at lw_m16 195 rfl) rfl
theorem q3902 : (Jvm.Cond.methodLink "CavePearlsModel" (253 : Nat) ({ cls := "CavePearlsModel", name := "readsAll", desc := "()Z" } : Jvm.MethodName)) ∈ lw_all := lw_g (lw_at lw_m16 196 rfl) rfl
theorem q3903 : (Jvm.Cond.privateMethod ({ cls := "CavePearlsModel", name := "readsAll", desc := "()Z" } : Jvm.MethodName)) ∈ lw_tbl := lw_at lw_m16 197 rfl
theorem q3904 : (Jvm.Cond.instanceMethod ({ cls := "CavePearlsModel", name := "readsAll", desc := "()Z" } : Jvm.MethodName)) ∈ lw_all := lw_g (lw_at lw_m16 198 rfl) rfl
theorem q3905 : (Jvm.Cond.code ({ cls := "CavePearlsModel", name := "readsAll", desc := "()Z" } : Jvm.MethodName) prog_31_method_91_code (2 : Nat) (Option.some Jvm.ClassFile.FieldType.boolean)) ∈ lw_all := lw_g (lw_at lw_m16 199 rfl) rfl
theorem q3906 : (Jvm.Cond.methodLink "CavePearlsModel" (241 : Nat) ({ cls := "CavePearlsModel", name := "readsCommand", desc := "()Z" } : Jvm.MethodName)) ∈ lw_all := lw_g (lw_at lw_m16 200 rfl) rfl
theorem q3907 : (Jvm.Cond.privateMethod ({ cls := "CavePearlsModel", name := "readsCommand", desc := "()Z" } : Jvm.MethodName)) ∈ lw_tbl := lw_at lw_m16 201 rfl
theorem q3908 : (Jvm.Cond.instanceMethod ({ cls := "CavePearlsModel", name := "readsCommand", desc := "()Z" } : Jvm.MethodName)) ∈ lw_all := lw_g (lw_at lw_m16 202 rfl) rfl
theorem q3909 : (Jvm.Cond.code ({ cls := "CavePearlsModel", name := "readsCommand", desc := "()Z" } : Jvm.MethodName) prog_31_method_90_code (1 : Nat) (Option.some Jvm.ClassFile.FieldType.boolean)) ∈ lw_all := lw_g (lw_at lw_m16 203 rfl) rfl
theorem q3910 : (Jvm.Cond.methodLink "CavePearlsModel" (228 : Nat) ({ cls := "CavePearlsModel", name := "reads", desc := "(I)Z" } : Jvm.MethodName)) ∈ lw_all := lw_g (lw_at lw_m16 204 rfl) rfl
theorem q3911 : (Jvm.Cond.privateMethod ({ cls := "CavePearlsModel", name := "reads", desc := "(I)Z" } : Jvm.MethodName)) ∈ lw_tbl := lw_at lw_m16 205 rfl
theorem q3912 : (Jvm.Cond.instanceMethod ({ cls := "CavePearlsModel", name := "reads", desc := "(I)Z" } : Jvm.MethodName)) ∈ lw_all := lw_g (lw_at lw_m16 206 rfl) rfl
theorem q3913 : (Jvm.Cond.code ({ cls := "CavePearlsModel", name := "reads", desc := "(I)Z" } : Jvm.MethodName) prog_31_method_86_code (2 : Nat) (Option.some Jvm.ClassFile.FieldType.boolean)) ∈ lw_all := lw_g (lw_at lw_m16 207 rfl) rfl
theorem q3914 : (Jvm.Cond.methodLink "CavePearlsModel" (222 : Nat) ({ cls := "CavePearlsModel", name := "sign", desc := "()I" } : Jvm.MethodName)) ∈ lw_all := lw_g (lw_at lw_m16 208 rfl) rfl
theorem q3915 : (Jvm.Cond.privateMethod ({ cls := "CavePearlsModel", name := "sign", desc := "()I" } : Jvm.MethodName)) ∈ lw_tbl := lw_at lw_m16 209 rfl
theorem q3916 : (Jvm.Cond.instanceMethod ({ cls := "CavePearlsModel", name := "sign", desc := "()I" } : Jvm.MethodName)) ∈ lw_all := lw_g (lw_at lw_m16 210 rfl) rfl
theorem q3917 : (Jvm.Cond.code ({ cls := "CavePearlsModel", name := "sign", desc := "()I" } : Jvm.MethodName) prog_31_method_85_code (1 : Nat) (Option.some Jvm.ClassFile.FieldType.int)) ∈ lw_all := lw_g (lw_at lw_m16 211 rfl) rfl
theorem q3918 : (Jvm.Cond.methodLink "CavePearlsModel" (234 : Nat) ({ cls := "CavePearlsModel", name := "readsNumber", desc := "(I)Z" } : Jvm.MethodName)) ∈ lw_all := lw_g (lw_at lw_m16 212 rfl) rfl
theorem q3919 : (Jvm.Cond.privateMethod ({ cls := "CavePearlsModel", name := "readsNumber", desc := "(I)Z" } : Jvm.MethodName)) ∈ lw_tbl := lw_at lw_m16 213 rfl
theorem q3920 : (Jvm.Cond.instanceMethod ({ cls := "CavePearlsModel", name := "readsNumber", desc := "(I)Z" } : Jvm.MethodName)) ∈ lw_all := lw_g (lw_at lw_m16 214 rfl) rfl
theorem q3921 : (Jvm.Cond.code ({ cls := "CavePearlsModel", name := "readsNumber", desc := "(I)Z" } : Jvm.MethodName) prog_31_method_88_code (3 : Nat) (Option.some Jvm.ClassFile.FieldType.boolean)) ∈ lw_all := lw_g (lw_at lw_m16 215 rfl) rfl
theorem q3922 : (Jvm.Cond.methodLink "CavePearlsModel" (225 : Nat) ({ cls := "CavePearlsModel", name := "readsDigit", desc := "(I)Z" } : Jvm.MethodName)) ∈ lw_all := lw_g (lw_at lw_m16 216 rfl) rfl
theorem q3923 : (Jvm.Cond.privateMethod ({ cls := "CavePearlsModel", name := "readsDigit", desc := "(I)Z" } : Jvm.MethodName)) ∈ lw_tbl := lw_at lw_m16 217 rfl
theorem q3924 : (Jvm.Cond.instanceMethod ({ cls := "CavePearlsModel", name := "readsDigit", desc := "(I)Z" } : Jvm.MethodName)) ∈ lw_all := lw_g (lw_at lw_m16 218 rfl) rfl
theorem q3925 : (Jvm.Cond.code ({ cls := "CavePearlsModel", name := "readsDigit", desc := "(I)Z" } : Jvm.MethodName) prog_31_method_87_code (2 : Nat) (Option.some Jvm.ClassFile.FieldType.boolean)) ∈ lw_all := lw_g (lw_at lw_m16 219 rfl) rfl
theorem q3926 : (Jvm.Cond.methodLink "CavePearlsModel" (237 : Nat) ({ cls := "CavePearlsModel", name := "readsD", desc := "()Z" } : Jvm.MethodName)) ∈ lw_all := lw_g (lw_at lw_m16 220 rfl) rfl
theorem q3927 : (Jvm.Cond.privateMethod ({ cls := "CavePearlsModel", name := "readsD", desc := "()Z" } : Jvm.MethodName)) ∈ lw_tbl := lw_at lw_m16 221 rfl
theorem q3928 : (Jvm.Cond.instanceMethod ({ cls := "CavePearlsModel", name := "readsD", desc := "()Z" } : Jvm.MethodName)) ∈ lw_all := lw_g (lw_at lw_m16 222 rfl) rfl
theorem q3929 : (Jvm.Cond.code ({ cls := "CavePearlsModel", name := "readsD", desc := "()Z" } : Jvm.MethodName) prog_31_method_89_code (1 : Nat) (Option.some Jvm.ClassFile.FieldType.boolean)) ∈ lw_all := lw_g (lw_at lw_m16 223 rfl) rfl
theorem q3930 : (Jvm.Cond.methodLink "CavePearlsModel" (256 : Nat) ({ cls := "CavePearlsModel", name := "doesAll", desc := "()Z" } : Jvm.MethodName)) ∈ lw_all := lw_g (lw_at lw_m16 224 rfl) rfl
theorem q3931 : (Jvm.Cond.privateMethod ({ cls := "CavePearlsModel", name := "doesAll", desc := "()Z" } : Jvm.MethodName)) ∈ lw_tbl := lw_at lw_m16 225 rfl
theorem q3932 : (Jvm.Cond.instanceMethod ({ cls := "CavePearlsModel", name := "doesAll", desc := "()Z" } : Jvm.MethodName)) ∈ lw_all := lw_g (lw_at lw_m16 226 rfl) rfl
theorem q3933 : (Jvm.Cond.code ({ cls := "CavePearlsModel", name := "doesAll", desc := "()Z" } : Jvm.MethodName) prog_31_method_94_code (2 : Nat) (Option.some Jvm.ClassFile.FieldType.boolean)) ∈ lw_all := lw_g (lw_at lw_m16 227 rfl) rfl
theorem q3934 : (Jvm.Cond.methodLink "CavePearlsModel" (247 : Nat) ({ cls := "CavePearlsModel", name := "notNow", desc := "()I" } : Jvm.MethodName)) ∈ lw_all := lw_g (lw_at lw_m16 228 rfl) rfl
theorem q3935 : (Jvm.Cond.privateMethod ({ cls := "CavePearlsModel", name := "notNow", desc := "()I" } : Jvm.MethodName)) ∈ lw_tbl := lw_at lw_m16 229 rfl
theorem q3936 : (Jvm.Cond.instanceMethod ({ cls := "CavePearlsModel", name := "notNow", desc := "()I" } : Jvm.MethodName)) ∈ lw_all := lw_g (lw_at lw_m16 230 rfl) rfl
theorem q3937 : (Jvm.Cond.code ({ cls := "CavePearlsModel", name := "notNow", desc := "()I" } : Jvm.MethodName) prog_31_method_92_code (1 : Nat) (Option.some Jvm.ClassFile.FieldType.int)) ∈ lw_all := lw_g (lw_at lw_m16 231 rfl) rfl
theorem q3938 : (Jvm.Cond.methodLink "CavePearlsModel" (250 : Nat) ({ cls := "CavePearlsModel", name := "doesNow", desc := "()I" } : Jvm.MethodName)) ∈ lw_all := lw_g (lw_at lw_m16 232 rfl) rfl
theorem q3939 : (Jvm.Cond.privateMethod ({ cls := "CavePearlsModel", name := "doesNow", desc := "()I" } : Jvm.MethodName)) ∈ lw_tbl := lw_at lw_m16 233 rfl
theorem q3940 : (Jvm.Cond.instanceMethod ({ cls := "CavePearlsModel", name := "doesNow", desc := "()I" } : Jvm.MethodName)) ∈ lw_all := lw_g (lw_at lw_m16 234 rfl) rfl
theorem q3941 : (Jvm.Cond.code ({ cls := "CavePearlsModel", name := "doesNow", desc := "()I" } : Jvm.MethodName) prog_31_method_93_code (1 : Nat) (Option.some Jvm.ClassFile.FieldType.int)) ∈ lw_all := lw_g (lw_at lw_m16 235 rfl) rfl
theorem q3943 : (Jvm.Cond.instanceMethod ({ cls := "CavePearlsModel", name := "undo", desc := "()I" } : Jvm.MethodName)) ∈ lw_all := lw_g (lw_at lw_m16 237 rfl) rfl
theorem q3944 : (Jvm.Cond.selects "CavePearlsModel" ({ cls := "CavePearlsModel", name := "undo", desc := "()I" } : Jvm.MethodName) ({ cls := "CavePearlsModel", name := "undo", desc := "()I" } : Jvm.MethodName)) ∈ lw_all := lw_g (lw_at lw_m16 238 rfl) rfl
theorem q3945 : (Jvm.Cond.code ({ cls := "CavePearlsModel", name := "undo", desc := "()I" } : Jvm.MethodName) prog_31_method_96_code (3 : Nat) (Option.some Jvm.ClassFile.FieldType.int)) ∈ lw_all := lw_g (lw_at lw_m16 239 rfl) rfl
theorem q3947 : (Jvm.Cond.instanceMethod ({ cls := "CavePearlsModel", name := "save", desc := "()I" } : Jvm.MethodName)) ∈ lw_all := lw_g (lw_at lw_m17 1 rfl) rfl
theorem q3948 : (Jvm.Cond.selects "CavePearlsModel" ({ cls := "CavePearlsModel", name := "save", desc := "()I" } : Jvm.MethodName) ({ cls := "CavePearlsModel", name := "save", desc := "()I" } : Jvm.MethodName)) ∈ lw_all := lw_g (lw_at lw_m17 2 rfl) rfl
theorem q3949 : (Jvm.Cond.code ({ cls := "CavePearlsModel", name := "save", desc := "()I" } : Jvm.MethodName) prog_31_method_97_code (2 : Nat) (Option.some Jvm.ClassFile.FieldType.int)) ∈ lw_all := lw_g (lw_at lw_m17 3 rfl) rfl
theorem q3951 : (Jvm.Cond.instanceMethod ({ cls := "CavePearlsModel", name := "restore", desc := "()I" } : Jvm.MethodName)) ∈ lw_all := lw_g (lw_at lw_m17 5 rfl) rfl
theorem q3952 : (Jvm.Cond.selects "CavePearlsModel" ({ cls := "CavePearlsModel", name := "restore", desc := "()I" } : Jvm.MethodName) ({ cls := "CavePearlsModel", name := "restore", desc := "()I" } : Jvm.MethodName)) ∈ lw_all := lw_g (lw_at lw_m17 6 rfl) rfl
theorem q3953 : (Jvm.Cond.code ({ cls := "CavePearlsModel", name := "restore", desc := "()I" } : Jvm.MethodName) prog_31_method_98_code (2 : Nat) (Option.some Jvm.ClassFile.FieldType.int)) ∈ lw_all := lw_g (lw_at lw_m17 7 rfl) rfl
theorem q3982 : (Jvm.Cond.castable "CavePearlsModel" "java/lang/Object") ∈ lw_tbl := lw_at lw_m17 36 rfl
theorem in_X3 : ∀ w ∈ wsX30, w ∈ lw_all := lw_in wsX30 [3526, 3528, 3530, 3532, 3534, 3536, 3538, 3540, 3542, 3544, 3546, 3548, 3550, 3552, 3554, 3556, 3558, 3560, 3562, 3564] (by decide +kernel) (by decide +kernel)

