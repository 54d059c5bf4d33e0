/-! CavePearls$Reader -/
set_option maxRecDepth 100000
def RX28 : String := "CavePearls$Reader"
def TX28 : u_T := fun k => match k with
  | 0 => ("CavePearls$Reader", "words", "Ljava/util/List;", true)
  | 1 => ("CavePearls$Reader", "position", "I", false)
  | _ => ("CavePearls$Reader", "this$0", "LCavePearls;", true)
def tyX28 : Nat → FieldType := fun k => match k with
  | 0 => .object "java/util/List"
  | 1 => .int
  | _ => .object "CavePearls"
abbrev wsX280 : List Cond := u_ws RX28 TX28 3
theorem nmX28 : ∀ a, a < 3 → ∀ b, b < 3 → a ≠ b → (TX28 a).2.1 ≠ (TX28 b).2.1 := by decide +kernel
theorem tyX28_ok : ∀ k, k < 3 → parseFieldDescriptor (TX28 k).2.2.1 = some (tyX28 k) := by decide +kernel
abbrev cX28_init : ByteArray := prog_24_method_1_code
def yX28_init : MethodName := ⟨RX28, "<init>", "(LCavePearls;)V"⟩
def dkwX28_init_1 : List UInt8 := [184, 0, 27, 181, 0, 33, 177]
abbrev dktX28_init_1 : List UInt8 := dkwX28_init_1 ++ []
def dkwX28_init_0 : List UInt8 := [42, 43, 181, 0, 3, 42, 183, 0, 9, 42, 18, 15, 18, 17, 18, 19, 18, 21, 18, 23, 18, 25]
abbrev dktX28_init_0 : List UInt8 := dkwX28_init_0 ++ dktX28_init_1
theorem dksX28_init_0 : cX28_init.data.toList.drop 0 = dktX28_init_0 := by decide +kernel
theorem dksX28_init_1 : cX28_init.data.toList.drop 22 = dktX28_init_1 := dk_seg dksX28_init_0 22 rfl rfl
theorem dX28_init_0 : decode cX28_init 0 = .ok (.aload_n 0, 1) := dk_42 (dk_at dksX28_init_0 0 rfl rfl)
theorem dX28_init_1 : decode cX28_init 1 = .ok (.aload_n 1, 1) := dk_43 (dk_at dksX28_init_0 1 rfl rfl)
theorem dX28_init_2 : decode cX28_init 2 = .ok (.putfield 3, 3) := dk_181 0 3 (dk_at dksX28_init_0 2 rfl rfl)
theorem dX28_init_5 : decode cX28_init 5 = .ok (.aload_n 0, 1) := dk_42 (dk_at dksX28_init_0 5 rfl rfl)
theorem dX28_init_6 : decode cX28_init 6 = .ok (.invokespecial 9, 3) := dk_183 0 9 (dk_at dksX28_init_0 6 rfl rfl)
theorem dX28_init_9 : decode cX28_init 9 = .ok (.aload_n 0, 1) := dk_42 (dk_at dksX28_init_0 9 rfl rfl)
theorem dX28_init_10 : decode cX28_init 10 = .ok (.ldc 15, 2) := dk_18 15 (dk_at dksX28_init_0 10 rfl rfl)
theorem dX28_init_12 : decode cX28_init 12 = .ok (.ldc 17, 2) := dk_18 17 (dk_at dksX28_init_0 12 rfl rfl)
theorem dX28_init_14 : decode cX28_init 14 = .ok (.ldc 19, 2) := dk_18 19 (dk_at dksX28_init_0 14 rfl rfl)
theorem dX28_init_16 : decode cX28_init 16 = .ok (.ldc 21, 2) := dk_18 21 (dk_at dksX28_init_0 16 rfl rfl)
theorem dX28_init_18 : decode cX28_init 18 = .ok (.ldc 23, 2) := dk_18 23 (dk_at dksX28_init_0 18 rfl rfl)
theorem dX28_init_20 : decode cX28_init 20 = .ok (.ldc 25, 2) := dk_18 25 (dk_at dksX28_init_0 20 rfl rfl)
theorem dX28_init_22 : decode cX28_init 22 = .ok (.invokestatic 27, 3) := dk_184 0 27 (dk_at dksX28_init_1 0 rfl rfl)
theorem dX28_init_25 : decode cX28_init 25 = .ok (.putfield 33, 3) := dk_181 0 33 (dk_at dksX28_init_1 3 rfl rfl)
theorem dX28_init_28 : decode cX28_init 28 = .ok (.return_, 1) := dk_177 (dk_at dksX28_init_1 6 rfl rfl)
abbrev cX28_all : ByteArray := prog_24_method_13_code
def yX28_all : MethodName := ⟨RX28, "all", "()Ljava/util/LinkedList;"⟩
def dkwX28_all_2 : List UInt8 := [180, 0, 46, 160, 0, 7, 4, 167, 0, 4, 3, 182, 0, 65, 43, 176]
abbrev dktX28_all_2 : List UInt8 := dkwX28_all_2 ++ []
def dkwX28_all_1 : List UInt8 := [153, 0, 14, 43, 42, 182, 0, 167, 182, 0, 170, 167, 255, 239, 42, 42, 180, 0, 39, 42, 180, 0, 3]
abbrev dktX28_all_1 : List UInt8 := dkwX28_all_1 ++ dktX28_all_2
def dkwX28_all_0 : List UInt8 := [187, 0, 164, 89, 183, 0, 166, 76, 43, 42, 182, 0, 167, 182, 0, 170, 42, 16, 59, 182, 0, 121]
abbrev dktX28_all_0 : List UInt8 := dkwX28_all_0 ++ dktX28_all_1
theorem dksX28_all_0 : cX28_all.data.toList.drop 0 = dktX28_all_0 := by decide +kernel
theorem dksX28_all_1 : cX28_all.data.toList.drop 22 = dktX28_all_1 := dk_seg dksX28_all_0 22 rfl rfl
theorem dksX28_all_2 : cX28_all.data.toList.drop 45 = dktX28_all_2 := dk_seg dksX28_all_1 23 rfl rfl
theorem dX28_all_0 : decode cX28_all 0 = .ok (.new 164, 3) := dk_187 0 164 (dk_at dksX28_all_0 0 rfl rfl)
theorem dX28_all_3 : decode cX28_all 3 = .ok (.dup, 1) := dk_89 (dk_at dksX28_all_0 3 rfl rfl)
theorem dX28_all_4 : decode cX28_all 4 = .ok (.invokespecial 166, 3) := dk_183 0 166 (dk_at dksX28_all_0 4 rfl rfl)
theorem dX28_all_7 : decode cX28_all 7 = .ok (.astore_n 1, 1) := dk_76 (dk_at dksX28_all_0 7 rfl rfl)
theorem dX28_all_8 : decode cX28_all 8 = .ok (.aload_n 1, 1) := dk_43 (dk_at dksX28_all_0 8 rfl rfl)
theorem dX28_all_9 : decode cX28_all 9 = .ok (.aload_n 0, 1) := dk_42 (dk_at dksX28_all_0 9 rfl rfl)
theorem dX28_all_10 : decode cX28_all 10 = .ok (.invokevirtual 167, 3) := dk_182 0 167 (dk_at dksX28_all_0 10 rfl rfl)
theorem dX28_all_13 : decode cX28_all 13 = .ok (.invokevirtual 170, 3) := dk_182 0 170 (dk_at dksX28_all_0 13 rfl rfl)
theorem dX28_all_16 : decode cX28_all 16 = .ok (.aload_n 0, 1) := dk_42 (dk_at dksX28_all_0 16 rfl rfl)
theorem dX28_all_17 : decode cX28_all 17 = .ok (.bipush 59, 2) := dk_16 59 (dk_at dksX28_all_0 17 rfl rfl)
theorem dX28_all_19 : decode cX28_all 19 = .ok (.invokevirtual 121, 3) := dk_182 0 121 (dk_at dksX28_all_0 19 rfl rfl)
theorem dX28_all_22 : decode cX28_all 22 = .ok (.ifCond .eq 14, 3) := dk_153 0 14 (dk_at dksX28_all_1 0 rfl rfl)
theorem dX28_all_25 : decode cX28_all 25 = .ok (.aload_n 1, 1) := dk_43 (dk_at dksX28_all_1 3 rfl rfl)
theorem dX28_all_26 : decode cX28_all 26 = .ok (.aload_n 0, 1) := dk_42 (dk_at dksX28_all_1 4 rfl rfl)
theorem dX28_all_27 : decode cX28_all 27 = .ok (.invokevirtual 167, 3) := dk_182 0 167 (dk_at dksX28_all_1 5 rfl rfl)
theorem dX28_all_30 : decode cX28_all 30 = .ok (.invokevirtual 170, 3) := dk_182 0 170 (dk_at dksX28_all_1 8 rfl rfl)
theorem dX28_all_33 : decode cX28_all 33 = .ok (.goto (-17), 3) := dk_167 255 239 (dk_at dksX28_all_1 11 rfl rfl)
theorem dX28_all_36 : decode cX28_all 36 = .ok (.aload_n 0, 1) := dk_42 (dk_at dksX28_all_1 14 rfl rfl)
theorem dX28_all_37 : decode cX28_all 37 = .ok (.aload_n 0, 1) := dk_42 (dk_at dksX28_all_1 15 rfl rfl)
theorem dX28_all_38 : decode cX28_all 38 = .ok (.getfield 39, 3) := dk_180 0 39 (dk_at dksX28_all_1 16 rfl rfl)
theorem dX28_all_41 : decode cX28_all 41 = .ok (.aload_n 0, 1) := dk_42 (dk_at dksX28_all_1 19 rfl rfl)
theorem dX28_all_42 : decode cX28_all 42 = .ok (.getfield 3, 3) := dk_180 0 3 (dk_at dksX28_all_1 20 rfl rfl)
theorem dX28_all_45 : decode cX28_all 45 = .ok (.getfield 46, 3) := dk_180 0 46 (dk_at dksX28_all_2 0 rfl rfl)
theorem dX28_all_48 : decode cX28_all 48 = .ok (.if_icmp .ne 7, 3) := dk_160 0 7 (dk_at dksX28_all_2 3 rfl rfl)
theorem dX28_all_51 : decode cX28_all 51 = .ok (.iconst 1, 1) := dk_4 (dk_at dksX28_all_2 6 rfl rfl)
theorem dX28_all_52 : decode cX28_all 52 = .ok (.goto 4, 3) := dk_167 0 4 (dk_at dksX28_all_2 7 rfl rfl)
theorem dX28_all_55 : decode cX28_all 55 = .ok (.iconst 0, 1) := dk_3 (dk_at dksX28_all_2 10 rfl rfl)
theorem dX28_all_56 : decode cX28_all 56 = .ok (.invokevirtual 65, 3) := dk_182 0 65 (dk_at dksX28_all_2 11 rfl rfl)
theorem dX28_all_59 : decode cX28_all 59 = .ok (.aload_n 1, 1) := dk_43 (dk_at dksX28_all_2 14 rfl rfl)
theorem dX28_all_60 : decode cX28_all 60 = .ok (.areturn, 1) := dk_176 (dk_at dksX28_all_2 15 rfl rfl)
abbrev cX28_command : ByteArray := prog_24_method_12_code
def yX28_command : MethodName := ⟨RX28, "command", "()LCavePearls$Deed;"⟩
def dkwX28_command_7 : List UInt8 := [182, 0, 69, 184, 0, 158, 176, 42, 182, 0, 118, 184, 0, 161, 176]
abbrev dktX28_command_7 : List UInt8 := dkwX28_command_7 ++ []
def dkwX28_command_6 : List UInt8 := [42, 182, 0, 144, 176, 42, 182, 0, 148, 176, 42, 182, 0, 69, 184, 0, 151, 176, 184, 0, 155, 176, 42]
abbrev dktX28_command_6 : List UInt8 := dkwX28_command_6 ++ dktX28_command_7
def dkwX28_command_5 : List UInt8 := [170, 0, 0, 0, 0, 0, 0, 66, 0, 0, 0, 0, 0, 0, 0, 4, 0, 0, 0, 36, 0, 0, 0, 41, 0, 0, 0, 46, 0, 0, 0, 54, 0, 0, 0, 58]
abbrev dktX28_command_5 : List UInt8 := dkwX28_command_5 ++ dktX28_command_6
def dkwX28_command_4 : List UInt8 := [153, 0, 19, 6, 61, 167, 0, 14, 43, 18, 23, 182, 0, 140, 153, 0, 5, 7, 61, 28]
abbrev dktX28_command_4 : List UInt8 := dkwX28_command_4 ++ dktX28_command_5
def dkwX28_command_3 : List UInt8 := [61, 167, 0, 42, 43, 18, 19, 182, 0, 140, 153, 0, 33, 5, 61, 167, 0, 28, 43, 18, 21, 182, 0, 140]
abbrev dktX28_command_3 : List UInt8 := dkwX28_command_3 ++ dktX28_command_4
def dkwX28_command_2 : List UInt8 := [43, 18, 15, 182, 0, 140, 153, 0, 61, 3, 61, 167, 0, 56, 43, 18, 17, 182, 0, 140, 153, 0, 47, 4]
abbrev dktX28_command_2 : List UInt8 := dkwX28_command_2 ++ dktX28_command_3
def dkwX28_command_1 : List UInt8 := [171, 0, 0, 0, 116, 0, 0, 0, 5, 178, 157, 212, 72, 0, 0, 0, 49, 206, 163, 35, 15, 0, 0, 0, 105, 5, 174, 255, 106, 0, 0, 0, 77, 6, 31, 169, 72, 0, 0, 0, 63, 6, 140, 46, 236, 0, 0, 0, 91]
abbrev dktX28_command_1 : List UInt8 := dkwX28_command_1 ++ dktX28_command_2
def dkwX28_command_0 : List UInt8 := [42, 182, 0, 134, 76, 2, 61, 43, 182, 0, 137]
abbrev dktX28_command_0 : List UInt8 := dkwX28_command_0 ++ dktX28_command_1
theorem dksX28_command_0 : cX28_command.data.toList.drop 0 = dktX28_command_0 := by decide +kernel
theorem dksX28_command_1 : cX28_command.data.toList.drop 11 = dktX28_command_1 := dk_seg dksX28_command_0 11 rfl rfl
theorem dksX28_command_2 : cX28_command.data.toList.drop 60 = dktX28_command_2 := dk_seg dksX28_command_1 49 rfl rfl
theorem dksX28_command_3 : cX28_command.data.toList.drop 84 = dktX28_command_3 := dk_seg dksX28_command_2 24 rfl rfl
theorem dksX28_command_4 : cX28_command.data.toList.drop 108 = dktX28_command_4 := dk_seg dksX28_command_3 24 rfl rfl
theorem dksX28_command_5 : cX28_command.data.toList.drop 128 = dktX28_command_5 := dk_seg dksX28_command_4 20 rfl rfl
theorem dksX28_command_6 : cX28_command.data.toList.drop 164 = dktX28_command_6 := dk_seg dksX28_command_5 36 rfl rfl
theorem dksX28_command_7 : cX28_command.data.toList.drop 187 = dktX28_command_7 := dk_seg dksX28_command_6 23 rfl rfl
theorem dX28_command_0 : decode cX28_command 0 = .ok (.aload_n 0, 1) := dk_42 (dk_at dksX28_command_0 0 rfl rfl)
theorem dX28_command_1 : decode cX28_command 1 = .ok (.invokevirtual 134, 3) := dk_182 0 134 (dk_at dksX28_command_0 1 rfl rfl)
theorem dX28_command_4 : decode cX28_command 4 = .ok (.astore_n 1, 1) := dk_76 (dk_at dksX28_command_0 4 rfl rfl)
theorem dX28_command_5 : decode cX28_command 5 = .ok (.iconst (-1), 1) := dk_2 (dk_at dksX28_command_0 5 rfl rfl)
theorem dX28_command_6 : decode cX28_command 6 = .ok (.istore_n 2, 1) := dk_61 (dk_at dksX28_command_0 6 rfl rfl)
theorem dX28_command_7 : decode cX28_command 7 = .ok (.aload_n 1, 1) := dk_43 (dk_at dksX28_command_0 7 rfl rfl)
theorem dX28_command_8 : decode cX28_command 8 = .ok (.invokevirtual 137, 3) := dk_182 0 137 (dk_at dksX28_command_0 8 rfl rfl)
theorem dX28_command_11 : decode cX28_command 11 = .ok (.lookupswitch 116 #[(-1298279352, 49), (-828169457, 105), (95354730, 77), (102738248, 63), (109850348, 91)], 49) := by decide +kernel
theorem dX28_command_60 : decode cX28_command 60 = .ok (.aload_n 1, 1) := dk_43 (dk_at dksX28_command_2 0 rfl rfl)
theorem dX28_command_61 : decode cX28_command 61 = .ok (.ldc 15, 2) := dk_18 15 (dk_at dksX28_command_2 1 rfl rfl)
theorem dX28_command_63 : decode cX28_command 63 = .ok (.invokevirtual 140, 3) := dk_182 0 140 (dk_at dksX28_command_2 3 rfl rfl)
theorem dX28_command_66 : decode cX28_command 66 = .ok (.ifCond .eq 61, 3) := dk_153 0 61 (dk_at dksX28_command_2 6 rfl rfl)
theorem dX28_command_69 : decode cX28_command 69 = .ok (.iconst 0, 1) := dk_3 (dk_at dksX28_command_2 9 rfl rfl)
theorem dX28_command_70 : decode cX28_command 70 = .ok (.istore_n 2, 1) := dk_61 (dk_at dksX28_command_2 10 rfl rfl)
theorem dX28_command_71 : decode cX28_command 71 = .ok (.goto 56, 3) := dk_167 0 56 (dk_at dksX28_command_2 11 rfl rfl)
theorem dX28_command_74 : decode cX28_command 74 = .ok (.aload_n 1, 1) := dk_43 (dk_at dksX28_command_2 14 rfl rfl)
theorem dX28_command_75 : decode cX28_command 75 = .ok (.ldc 17, 2) := dk_18 17 (dk_at dksX28_command_2 15 rfl rfl)
theorem dX28_command_77 : decode cX28_command 77 = .ok (.invokevirtual 140, 3) := dk_182 0 140 (dk_at dksX28_command_2 17 rfl rfl)
theorem dX28_command_80 : decode cX28_command 80 = .ok (.ifCond .eq 47, 3) := dk_153 0 47 (dk_at dksX28_command_2 20 rfl rfl)
theorem dX28_command_83 : decode cX28_command 83 = .ok (.iconst 1, 1) := dk_4 (dk_at dksX28_command_2 23 rfl rfl)
theorem dX28_command_84 : decode cX28_command 84 = .ok (.istore_n 2, 1) := dk_61 (dk_at dksX28_command_3 0 rfl rfl)
theorem dX28_command_85 : decode cX28_command 85 = .ok (.goto 42, 3) := dk_167 0 42 (dk_at dksX28_command_3 1 rfl rfl)
theorem dX28_command_88 : decode cX28_command 88 = .ok (.aload_n 1, 1) := dk_43 (dk_at dksX28_command_3 4 rfl rfl)
theorem dX28_command_89 : decode cX28_command 89 = .ok (.ldc 19, 2) := dk_18 19 (dk_at dksX28_command_3 5 rfl rfl)
theorem dX28_command_91 : decode cX28_command 91 = .ok (.invokevirtual 140, 3) := dk_182 0 140 (dk_at dksX28_command_3 7 rfl rfl)
theorem dX28_command_94 : decode cX28_command 94 = .ok (.ifCond .eq 33, 3) := dk_153 0 33 (dk_at dksX28_command_3 10 rfl rfl)
theorem dX28_command_97 : decode cX28_command 97 = .ok (.iconst 2, 1) := dk_5 (dk_at dksX28_command_3 13 rfl rfl)
theorem dX28_command_98 : decode cX28_command 98 = .ok (.istore_n 2, 1) := dk_61 (dk_at dksX28_command_3 14 rfl rfl)
theorem dX28_command_99 : decode cX28_command 99 = .ok (.goto 28, 3) := dk_167 0 28 (dk_at dksX28_command_3 15 rfl rfl)
theorem dX28_command_102 : decode cX28_command 102 = .ok (.aload_n 1, 1) := dk_43 (dk_at dksX28_command_3 18 rfl rfl)
theorem dX28_command_103 : decode cX28_command 103 = .ok (.ldc 21, 2) := dk_18 21 (dk_at dksX28_command_3 19 rfl rfl)
theorem dX28_command_105 : decode cX28_command 105 = .ok (.invokevirtual 140, 3) := dk_182 0 140 (dk_at dksX28_command_3 21 rfl rfl)
theorem dX28_command_108 : decode cX28_command 108 = .ok (.ifCond .eq 19, 3) := dk_153 0 19 (dk_at dksX28_command_4 0 rfl rfl)
theorem dX28_command_111 : decode cX28_command 111 = .ok (.iconst 3, 1) := dk_6 (dk_at dksX28_command_4 3 rfl rfl)
theorem dX28_command_112 : decode cX28_command 112 = .ok (.istore_n 2, 1) := dk_61 (dk_at dksX28_command_4 4 rfl rfl)
theorem dX28_command_113 : decode cX28_command 113 = .ok (.goto 14, 3) := dk_167 0 14 (dk_at dksX28_command_4 5 rfl rfl)
theorem dX28_command_116 : decode cX28_command 116 = .ok (.aload_n 1, 1) := dk_43 (dk_at dksX28_command_4 8 rfl rfl)
theorem dX28_command_117 : decode cX28_command 117 = .ok (.ldc 23, 2) := dk_18 23 (dk_at dksX28_command_4 9 rfl rfl)
theorem dX28_command_119 : decode cX28_command 119 = .ok (.invokevirtual 140, 3) := dk_182 0 140 (dk_at dksX28_command_4 11 rfl rfl)
theorem dX28_command_122 : decode cX28_command 122 = .ok (.ifCond .eq 5, 3) := dk_153 0 5 (dk_at dksX28_command_4 14 rfl rfl)
theorem dX28_command_125 : decode cX28_command 125 = .ok (.iconst 4, 1) := dk_7 (dk_at dksX28_command_4 17 rfl rfl)
theorem dX28_command_126 : decode cX28_command 126 = .ok (.istore_n 2, 1) := dk_61 (dk_at dksX28_command_4 18 rfl rfl)
theorem dX28_command_127 : decode cX28_command 127 = .ok (.iload_n 2, 1) := dk_28 (dk_at dksX28_command_4 19 rfl rfl)
theorem dX28_command_128 : decode cX28_command 128 = .ok (.tableswitch 66 0 4 #[36, 41, 46, 54, 58], 36) := by decide +kernel
theorem dX28_command_164 : decode cX28_command 164 = .ok (.aload_n 0, 1) := dk_42 (dk_at dksX28_command_6 0 rfl rfl)
theorem dX28_command_165 : decode cX28_command 165 = .ok (.invokevirtual 144, 3) := dk_182 0 144 (dk_at dksX28_command_6 1 rfl rfl)
theorem dX28_command_168 : decode cX28_command 168 = .ok (.areturn, 1) := dk_176 (dk_at dksX28_command_6 4 rfl rfl)
theorem dX28_command_169 : decode cX28_command 169 = .ok (.aload_n 0, 1) := dk_42 (dk_at dksX28_command_6 5 rfl rfl)
theorem dX28_command_170 : decode cX28_command 170 = .ok (.invokevirtual 148, 3) := dk_182 0 148 (dk_at dksX28_command_6 6 rfl rfl)
theorem dX28_command_173 : decode cX28_command 173 = .ok (.areturn, 1) := dk_176 (dk_at dksX28_command_6 9 rfl rfl)
theorem dX28_command_174 : decode cX28_command 174 = .ok (.aload_n 0, 1) := dk_42 (dk_at dksX28_command_6 10 rfl rfl)
theorem dX28_command_175 : decode cX28_command 175 = .ok (.invokevirtual 69, 3) := dk_182 0 69 (dk_at dksX28_command_6 11 rfl rfl)
theorem dX28_command_178 : decode cX28_command 178 = .ok (.invokestatic 151, 3) := dk_184 0 151 (dk_at dksX28_command_6 14 rfl rfl)
theorem dX28_command_181 : decode cX28_command 181 = .ok (.areturn, 1) := dk_176 (dk_at dksX28_command_6 17 rfl rfl)
theorem dX28_command_182 : decode cX28_command 182 = .ok (.invokestatic 155, 3) := dk_184 0 155 (dk_at dksX28_command_6 18 rfl rfl)
theorem dX28_command_185 : decode cX28_command 185 = .ok (.areturn, 1) := dk_176 (dk_at dksX28_command_6 21 rfl rfl)
theorem dX28_command_186 : decode cX28_command 186 = .ok (.aload_n 0, 1) := dk_42 (dk_at dksX28_command_6 22 rfl rfl)
theorem dX28_command_187 : decode cX28_command 187 = .ok (.invokevirtual 69, 3) := dk_182 0 69 (dk_at dksX28_command_7 0 rfl rfl)
theorem dX28_command_190 : decode cX28_command 190 = .ok (.invokestatic 158, 3) := dk_184 0 158 (dk_at dksX28_command_7 3 rfl rfl)
theorem dX28_command_193 : decode cX28_command 193 = .ok (.areturn, 1) := dk_176 (dk_at dksX28_command_7 6 rfl rfl)
theorem dX28_command_194 : decode cX28_command 194 = .ok (.aload_n 0, 1) := dk_42 (dk_at dksX28_command_7 7 rfl rfl)
theorem dX28_command_195 : decode cX28_command 195 = .ok (.invokevirtual 118, 3) := dk_182 0 118 (dk_at dksX28_command_7 8 rfl rfl)
theorem dX28_command_198 : decode cX28_command 198 = .ok (.invokestatic 161, 3) := dk_184 0 161 (dk_at dksX28_command_7 11 rfl rfl)
theorem dX28_command_201 : decode cX28_command 201 = .ok (.areturn, 1) := dk_176 (dk_at dksX28_command_7 14 rfl rfl)
abbrev cX28_word : ByteArray := prog_24_method_9_code
def yX28_word : MethodName := ⟨RX28, "word", "()Ljava/lang/String;"⟩
def dkwX28_word_3 : List UInt8 := [42, 43, 182, 0, 110, 4, 159, 255, 189, 43, 182, 0, 114, 176]
abbrev dktX28_word_3 : List UInt8 := dkwX28_word_3 ++ []
def dkwX28_word_2 : List UInt8 := [182, 0, 110, 158, 0, 7, 4, 167, 0, 4, 3, 182, 0, 65, 42, 89, 180, 0, 39, 4, 96, 181, 0, 39]
abbrev dktX28_word_2 : List UInt8 := dkwX28_word_2 ++ dktX28_word_3
def dkwX28_word_1 : List UInt8 := [182, 0, 65, 43, 42, 180, 0, 3, 180, 0, 49, 42, 180, 0, 39, 52, 182, 0, 106, 77, 42, 42, 43]
abbrev dktX28_word_1 : List UInt8 := dkwX28_word_1 ++ dktX28_word_2
def dkwX28_word_0 : List UInt8 := [187, 0, 103, 89, 183, 0, 105, 76, 42, 42, 182, 0, 53, 2, 159, 0, 7, 4, 167, 0, 4, 3]
abbrev dktX28_word_0 : List UInt8 := dkwX28_word_0 ++ dktX28_word_1
theorem dksX28_word_0 : cX28_word.data.toList.drop 0 = dktX28_word_0 := by decide +kernel
theorem dksX28_word_1 : cX28_word.data.toList.drop 22 = dktX28_word_1 := dk_seg dksX28_word_0 22 rfl rfl
theorem dksX28_word_2 : cX28_word.data.toList.drop 45 = dktX28_word_2 := dk_seg dksX28_word_1 23 rfl rfl
theorem dksX28_word_3 : cX28_word.data.toList.drop 69 = dktX28_word_3 := dk_seg dksX28_word_2 24 rfl rfl
theorem dX28_word_0 : decode cX28_word 0 = .ok (.new 103, 3) := dk_187 0 103 (dk_at dksX28_word_0 0 rfl rfl)
theorem dX28_word_3 : decode cX28_word 3 = .ok (.dup, 1) := dk_89 (dk_at dksX28_word_0 3 rfl rfl)
theorem dX28_word_4 : decode cX28_word 4 = .ok (.invokespecial 105, 3) := dk_183 0 105 (dk_at dksX28_word_0 4 rfl rfl)
theorem dX28_word_7 : decode cX28_word 7 = .ok (.astore_n 1, 1) := dk_76 (dk_at dksX28_word_0 7 rfl rfl)
theorem dX28_word_8 : decode cX28_word 8 = .ok (.aload_n 0, 1) := dk_42 (dk_at dksX28_word_0 8 rfl rfl)
theorem dX28_word_9 : decode cX28_word 9 = .ok (.aload_n 0, 1) := dk_42 (dk_at dksX28_word_0 9 rfl rfl)
theorem dX28_word_10 : decode cX28_word 10 = .ok (.invokevirtual 53, 3) := dk_182 0 53 (dk_at dksX28_word_0 10 rfl rfl)
theorem dX28_word_13 : decode cX28_word 13 = .ok (.iconst (-1), 1) := dk_2 (dk_at dksX28_word_0 13 rfl rfl)
theorem dX28_word_14 : decode cX28_word 14 = .ok (.if_icmp .eq 7, 3) := dk_159 0 7 (dk_at dksX28_word_0 14 rfl rfl)
theorem dX28_word_17 : decode cX28_word 17 = .ok (.iconst 1, 1) := dk_4 (dk_at dksX28_word_0 17 rfl rfl)
theorem dX28_word_18 : decode cX28_word 18 = .ok (.goto 4, 3) := dk_167 0 4 (dk_at dksX28_word_0 18 rfl rfl)
theorem dX28_word_21 : decode cX28_word 21 = .ok (.iconst 0, 1) := dk_3 (dk_at dksX28_word_0 21 rfl rfl)
theorem dX28_word_22 : decode cX28_word 22 = .ok (.invokevirtual 65, 3) := dk_182 0 65 (dk_at dksX28_word_1 0 rfl rfl)
theorem dX28_word_25 : decode cX28_word 25 = .ok (.aload_n 1, 1) := dk_43 (dk_at dksX28_word_1 3 rfl rfl)
theorem dX28_word_26 : decode cX28_word 26 = .ok (.aload_n 0, 1) := dk_42 (dk_at dksX28_word_1 4 rfl rfl)
theorem dX28_word_27 : decode cX28_word 27 = .ok (.getfield 3, 3) := dk_180 0 3 (dk_at dksX28_word_1 5 rfl rfl)
theorem dX28_word_30 : decode cX28_word 30 = .ok (.getfield 49, 3) := dk_180 0 49 (dk_at dksX28_word_1 8 rfl rfl)
theorem dX28_word_33 : decode cX28_word 33 = .ok (.aload_n 0, 1) := dk_42 (dk_at dksX28_word_1 11 rfl rfl)
theorem dX28_word_34 : decode cX28_word 34 = .ok (.getfield 39, 3) := dk_180 0 39 (dk_at dksX28_word_1 12 rfl rfl)
theorem dX28_word_37 : decode cX28_word 37 = .ok (.caload, 1) := dk_52 (dk_at dksX28_word_1 15 rfl rfl)
theorem dX28_word_38 : decode cX28_word 38 = .ok (.invokevirtual 106, 3) := dk_182 0 106 (dk_at dksX28_word_1 16 rfl rfl)
theorem dX28_word_41 : decode cX28_word 41 = .ok (.astore_n 2, 1) := dk_77 (dk_at dksX28_word_1 19 rfl rfl)
theorem dX28_word_42 : decode cX28_word 42 = .ok (.aload_n 0, 1) := dk_42 (dk_at dksX28_word_1 20 rfl rfl)
theorem dX28_word_43 : decode cX28_word 43 = .ok (.aload_n 0, 1) := dk_42 (dk_at dksX28_word_1 21 rfl rfl)
theorem dX28_word_44 : decode cX28_word 44 = .ok (.aload_n 1, 1) := dk_43 (dk_at dksX28_word_1 22 rfl rfl)
theorem dX28_word_45 : decode cX28_word 45 = .ok (.invokevirtual 110, 3) := dk_182 0 110 (dk_at dksX28_word_2 0 rfl rfl)
theorem dX28_word_48 : decode cX28_word 48 = .ok (.ifCond .le 7, 3) := dk_158 0 7 (dk_at dksX28_word_2 3 rfl rfl)
theorem dX28_word_51 : decode cX28_word 51 = .ok (.iconst 1, 1) := dk_4 (dk_at dksX28_word_2 6 rfl rfl)
theorem dX28_word_52 : decode cX28_word 52 = .ok (.goto 4, 3) := dk_167 0 4 (dk_at dksX28_word_2 7 rfl rfl)
theorem dX28_word_55 : decode cX28_word 55 = .ok (.iconst 0, 1) := dk_3 (dk_at dksX28_word_2 10 rfl rfl)
theorem dX28_word_56 : decode cX28_word 56 = .ok (.invokevirtual 65, 3) := dk_182 0 65 (dk_at dksX28_word_2 11 rfl rfl)
theorem dX28_word_59 : decode cX28_word 59 = .ok (.aload_n 0, 1) := dk_42 (dk_at dksX28_word_2 14 rfl rfl)
theorem dX28_word_60 : decode cX28_word 60 = .ok (.dup, 1) := dk_89 (dk_at dksX28_word_2 15 rfl rfl)
theorem dX28_word_61 : decode cX28_word 61 = .ok (.getfield 39, 3) := dk_180 0 39 (dk_at dksX28_word_2 16 rfl rfl)
theorem dX28_word_64 : decode cX28_word 64 = .ok (.iconst 1, 1) := dk_4 (dk_at dksX28_word_2 19 rfl rfl)
theorem dX28_word_65 : decode cX28_word 65 = .ok (.iadd, 1) := dk_96 (dk_at dksX28_word_2 20 rfl rfl)
theorem dX28_word_66 : decode cX28_word 66 = .ok (.putfield 39, 3) := dk_181 0 39 (dk_at dksX28_word_2 21 rfl rfl)
theorem dX28_word_69 : decode cX28_word 69 = .ok (.aload_n 0, 1) := dk_42 (dk_at dksX28_word_3 0 rfl rfl)
theorem dX28_word_70 : decode cX28_word 70 = .ok (.aload_n 1, 1) := dk_43 (dk_at dksX28_word_3 1 rfl rfl)
theorem dX28_word_71 : decode cX28_word 71 = .ok (.invokevirtual 110, 3) := dk_182 0 110 (dk_at dksX28_word_3 2 rfl rfl)
theorem dX28_word_74 : decode cX28_word 74 = .ok (.iconst 1, 1) := dk_4 (dk_at dksX28_word_3 5 rfl rfl)
theorem dX28_word_75 : decode cX28_word 75 = .ok (.if_icmp .eq (-67), 3) := dk_159 255 189 (dk_at dksX28_word_3 6 rfl rfl)
theorem dX28_word_78 : decode cX28_word 78 = .ok (.aload_n 1, 1) := dk_43 (dk_at dksX28_word_3 9 rfl rfl)
theorem dX28_word_79 : decode cX28_word 79 = .ok (.invokevirtual 114, 3) := dk_182 0 114 (dk_at dksX28_word_3 10 rfl rfl)
theorem dX28_word_82 : decode cX28_word 82 = .ok (.areturn, 1) := dk_176 (dk_at dksX28_word_3 13 rfl rfl)
abbrev cX28_here : ByteArray := prog_24_method_3_code
def yX28_here : MethodName := ⟨RX28, "here", "()I"⟩
def dkwX28_here_1 : List UInt8 := [180, 0, 39, 52, 167, 0, 4, 2, 172]
abbrev dktX28_here_1 : List UInt8 := dkwX28_here_1 ++ []
def dkwX28_here_0 : List UInt8 := [42, 180, 0, 39, 42, 180, 0, 3, 180, 0, 46, 162, 0, 18, 42, 180, 0, 3, 180, 0, 49, 42]
abbrev dktX28_here_0 : List UInt8 := dkwX28_here_0 ++ dktX28_here_1
theorem dksX28_here_0 : cX28_here.data.toList.drop 0 = dktX28_here_0 := by decide +kernel
theorem dksX28_here_1 : cX28_here.data.toList.drop 22 = dktX28_here_1 := dk_seg dksX28_here_0 22 rfl rfl
theorem dX28_here_0 : decode cX28_here 0 = .ok (.aload_n 0, 1) := dk_42 (dk_at dksX28_here_0 0 rfl rfl)
theorem dX28_here_1 : decode cX28_here 1 = .ok (.getfield 39, 3) := dk_180 0 39 (dk_at dksX28_here_0 1 rfl rfl)
theorem dX28_here_4 : decode cX28_here 4 = .ok (.aload_n 0, 1) := dk_42 (dk_at dksX28_here_0 4 rfl rfl)
theorem dX28_here_5 : decode cX28_here 5 = .ok (.getfield 3, 3) := dk_180 0 3 (dk_at dksX28_here_0 5 rfl rfl)
theorem dX28_here_8 : decode cX28_here 8 = .ok (.getfield 46, 3) := dk_180 0 46 (dk_at dksX28_here_0 8 rfl rfl)
theorem dX28_here_11 : decode cX28_here 11 = .ok (.if_icmp .ge 18, 3) := dk_162 0 18 (dk_at dksX28_here_0 11 rfl rfl)
theorem dX28_here_14 : decode cX28_here 14 = .ok (.aload_n 0, 1) := dk_42 (dk_at dksX28_here_0 14 rfl rfl)
theorem dX28_here_15 : decode cX28_here 15 = .ok (.getfield 3, 3) := dk_180 0 3 (dk_at dksX28_here_0 15 rfl rfl)
theorem dX28_here_18 : decode cX28_here 18 = .ok (.getfield 49, 3) := dk_180 0 49 (dk_at dksX28_here_0 18 rfl rfl)
theorem dX28_here_21 : decode cX28_here 21 = .ok (.aload_n 0, 1) := dk_42 (dk_at dksX28_here_0 21 rfl rfl)
theorem dX28_here_22 : decode cX28_here 22 = .ok (.getfield 39, 3) := dk_180 0 39 (dk_at dksX28_here_1 0 rfl rfl)
theorem dX28_here_25 : decode cX28_here 25 = .ok (.caload, 1) := dk_52 (dk_at dksX28_here_1 3 rfl rfl)
theorem dX28_here_26 : decode cX28_here 26 = .ok (.goto 4, 3) := dk_167 0 4 (dk_at dksX28_here_1 4 rfl rfl)
theorem dX28_here_29 : decode cX28_here 29 = .ok (.iconst (-1), 1) := dk_2 (dk_at dksX28_here_1 7 rfl rfl)
theorem dX28_here_30 : decode cX28_here 30 = .ok (.ireturn, 1) := dk_172 (dk_at dksX28_here_1 8 rfl rfl)
abbrev cX28_need : ByteArray := prog_24_method_2_code
def yX28_need : MethodName := ⟨RX28, "need", "(Z)V"⟩
def dkwX28_need_0 : List UInt8 := [27, 154, 0, 15, 187, 0, 37, 89, 42, 180, 0, 39, 183, 0, 43, 191, 177]
abbrev dktX28_need_0 : List UInt8 := dkwX28_need_0 ++ []
theorem dksX28_need_0 : cX28_need.data.toList.drop 0 = dktX28_need_0 := by decide +kernel
theorem dX28_need_0 : decode cX28_need 0 = .ok (.iload_n 1, 1) := dk_27 (dk_at dksX28_need_0 0 rfl rfl)
theorem dX28_need_1 : decode cX28_need 1 = .ok (.ifCond .ne 15, 3) := dk_154 0 15 (dk_at dksX28_need_0 1 rfl rfl)
theorem dX28_need_4 : decode cX28_need 4 = .ok (.new 37, 3) := dk_187 0 37 (dk_at dksX28_need_0 4 rfl rfl)
theorem dX28_need_7 : decode cX28_need 7 = .ok (.dup, 1) := dk_89 (dk_at dksX28_need_0 7 rfl rfl)
theorem dX28_need_8 : decode cX28_need 8 = .ok (.aload_n 0, 1) := dk_42 (dk_at dksX28_need_0 8 rfl rfl)
theorem dX28_need_9 : decode cX28_need 9 = .ok (.getfield 39, 3) := dk_180 0 39 (dk_at dksX28_need_0 9 rfl rfl)
theorem dX28_need_12 : decode cX28_need 12 = .ok (.invokespecial 43, 3) := dk_183 0 43 (dk_at dksX28_need_0 12 rfl rfl)
theorem dX28_need_15 : decode cX28_need 15 = .ok (.athrow, 1) := dk_191 (dk_at dksX28_need_0 15 rfl rfl)
theorem dX28_need_16 : decode cX28_need 16 = .ok (.return_, 1) := dk_177 (dk_at dksX28_need_0 16 rfl rfl)
abbrev cX28_kindOf : ByteArray := prog_24_method_8_code
def yX28_kindOf : MethodName := ⟨RX28, "kindOf", "(Ljava/lang/CharSequence;)I"⟩
def dkwX28_kindOf_2 : List UInt8 := [43, 185, 0, 94, 1, 0, 160, 0, 7, 5, 167, 0, 8, 28, 4, 184, 0, 97, 61, 167, 255, 203, 28, 172]
abbrev dktX28_kindOf_2 : List UInt8 := dkwX28_kindOf_2 ++ []
def dkwX28_kindOf_1 : List UInt8 := [185, 0, 81, 1, 0, 192, 0, 85, 58, 4, 25, 4, 43, 184, 0, 87, 153, 0, 27, 25, 4, 182, 0, 91]
abbrev dktX28_kindOf_1 : List UInt8 := dkwX28_kindOf_1 ++ dktX28_kindOf_2
def dkwX28_kindOf_0 : List UInt8 := [3, 61, 42, 180, 0, 33, 185, 0, 72, 1, 0, 78, 45, 185, 0, 76, 1, 0, 153, 0, 50, 45]
abbrev dktX28_kindOf_0 : List UInt8 := dkwX28_kindOf_0 ++ dktX28_kindOf_1
theorem dksX28_kindOf_0 : cX28_kindOf.data.toList.drop 0 = dktX28_kindOf_0 := by decide +kernel
theorem dksX28_kindOf_1 : cX28_kindOf.data.toList.drop 22 = dktX28_kindOf_1 := dk_seg dksX28_kindOf_0 22 rfl rfl
theorem dksX28_kindOf_2 : cX28_kindOf.data.toList.drop 46 = dktX28_kindOf_2 := dk_seg dksX28_kindOf_1 24 rfl rfl
theorem dX28_kindOf_0 : decode cX28_kindOf 0 = .ok (.iconst 0, 1) := dk_3 (dk_at dksX28_kindOf_0 0 rfl rfl)
theorem dX28_kindOf_1 : decode cX28_kindOf 1 = .ok (.istore_n 2, 1) := dk_61 (dk_at dksX28_kindOf_0 1 rfl rfl)
theorem dX28_kindOf_2 : decode cX28_kindOf 2 = .ok (.aload_n 0, 1) := dk_42 (dk_at dksX28_kindOf_0 2 rfl rfl)
theorem dX28_kindOf_3 : decode cX28_kindOf 3 = .ok (.getfield 33, 3) := dk_180 0 33 (dk_at dksX28_kindOf_0 3 rfl rfl)
theorem dX28_kindOf_6 : decode cX28_kindOf 6 = .ok (.invokeinterface 72 1, 5) := by decide +kernel
theorem dX28_kindOf_11 : decode cX28_kindOf 11 = .ok (.astore_n 3, 1) := dk_78 (dk_at dksX28_kindOf_0 11 rfl rfl)
theorem dX28_kindOf_12 : decode cX28_kindOf 12 = .ok (.aload_n 3, 1) := dk_45 (dk_at dksX28_kindOf_0 12 rfl rfl)
theorem dX28_kindOf_13 : decode cX28_kindOf 13 = .ok (.invokeinterface 76 1, 5) := by decide +kernel
theorem dX28_kindOf_18 : decode cX28_kindOf 18 = .ok (.ifCond .eq 50, 3) := dk_153 0 50 (dk_at dksX28_kindOf_0 18 rfl rfl)
theorem dX28_kindOf_21 : decode cX28_kindOf 21 = .ok (.aload_n 3, 1) := dk_45 (dk_at dksX28_kindOf_0 21 rfl rfl)
theorem dX28_kindOf_22 : decode cX28_kindOf 22 = .ok (.invokeinterface 81 1, 5) := by decide +kernel
theorem dX28_kindOf_27 : decode cX28_kindOf 27 = .ok (.checkcast 85, 3) := dk_192 0 85 (dk_at dksX28_kindOf_1 5 rfl rfl)
theorem dX28_kindOf_30 : decode cX28_kindOf 30 = .ok (.astore 4, 2) := dk_58 4 (dk_at dksX28_kindOf_1 8 rfl rfl)
theorem dX28_kindOf_32 : decode cX28_kindOf 32 = .ok (.aload 4, 2) := dk_25 4 (dk_at dksX28_kindOf_1 10 rfl rfl)
theorem dX28_kindOf_34 : decode cX28_kindOf 34 = .ok (.aload_n 1, 1) := dk_43 (dk_at dksX28_kindOf_1 12 rfl rfl)
theorem dX28_kindOf_35 : decode cX28_kindOf 35 = .ok (.invokestatic 87, 3) := dk_184 0 87 (dk_at dksX28_kindOf_1 13 rfl rfl)
theorem dX28_kindOf_38 : decode cX28_kindOf 38 = .ok (.ifCond .eq 27, 3) := dk_153 0 27 (dk_at dksX28_kindOf_1 16 rfl rfl)
theorem dX28_kindOf_41 : decode cX28_kindOf 41 = .ok (.aload 4, 2) := dk_25 4 (dk_at dksX28_kindOf_1 19 rfl rfl)
theorem dX28_kindOf_43 : decode cX28_kindOf 43 = .ok (.invokevirtual 91, 3) := dk_182 0 91 (dk_at dksX28_kindOf_1 21 rfl rfl)
theorem dX28_kindOf_46 : decode cX28_kindOf 46 = .ok (.aload_n 1, 1) := dk_43 (dk_at dksX28_kindOf_2 0 rfl rfl)
theorem dX28_kindOf_47 : decode cX28_kindOf 47 = .ok (.invokeinterface 94 1, 5) := by decide +kernel
theorem dX28_kindOf_52 : decode cX28_kindOf 52 = .ok (.if_icmp .ne 7, 3) := dk_160 0 7 (dk_at dksX28_kindOf_2 6 rfl rfl)
theorem dX28_kindOf_55 : decode cX28_kindOf 55 = .ok (.iconst 2, 1) := dk_5 (dk_at dksX28_kindOf_2 9 rfl rfl)
theorem dX28_kindOf_56 : decode cX28_kindOf 56 = .ok (.goto 8, 3) := dk_167 0 8 (dk_at dksX28_kindOf_2 10 rfl rfl)
theorem dX28_kindOf_59 : decode cX28_kindOf 59 = .ok (.iload_n 2, 1) := dk_28 (dk_at dksX28_kindOf_2 13 rfl rfl)
theorem dX28_kindOf_60 : decode cX28_kindOf 60 = .ok (.iconst 1, 1) := dk_4 (dk_at dksX28_kindOf_2 14 rfl rfl)
theorem dX28_kindOf_61 : decode cX28_kindOf 61 = .ok (.invokestatic 97, 3) := dk_184 0 97 (dk_at dksX28_kindOf_2 15 rfl rfl)
theorem dX28_kindOf_64 : decode cX28_kindOf 64 = .ok (.istore_n 2, 1) := dk_61 (dk_at dksX28_kindOf_2 18 rfl rfl)
theorem dX28_kindOf_65 : decode cX28_kindOf 65 = .ok (.goto (-53), 3) := dk_167 255 203 (dk_at dksX28_kindOf_2 19 rfl rfl)
theorem dX28_kindOf_68 : decode cX28_kindOf 68 = .ok (.iload_n 2, 1) := dk_28 (dk_at dksX28_kindOf_2 22 rfl rfl)
theorem dX28_kindOf_69 : decode cX28_kindOf 69 = .ok (.ireturn, 1) := dk_172 (dk_at dksX28_kindOf_2 23 rfl rfl)
abbrev cX28_entered : ByteArray := prog_24_method_10_code
def yX28_entered : MethodName := ⟨RX28, "entered", "()LCavePearls$Deed;"⟩
def dkwX28_entered_0 : List UInt8 := [42, 182, 0, 118, 60, 42, 42, 16, 32, 182, 0, 121, 182, 0, 65, 27, 42, 182, 0, 118, 184, 0, 125, 176]
abbrev dktX28_entered_0 : List UInt8 := dkwX28_entered_0 ++ []
theorem dksX28_entered_0 : cX28_entered.data.toList.drop 0 = dktX28_entered_0 := by decide +kernel
theorem dX28_entered_0 : decode cX28_entered 0 = .ok (.aload_n 0, 1) := dk_42 (dk_at dksX28_entered_0 0 rfl rfl)
theorem dX28_entered_1 : decode cX28_entered 1 = .ok (.invokevirtual 118, 3) := dk_182 0 118 (dk_at dksX28_entered_0 1 rfl rfl)
theorem dX28_entered_4 : decode cX28_entered 4 = .ok (.istore_n 1, 1) := dk_60 (dk_at dksX28_entered_0 4 rfl rfl)
theorem dX28_entered_5 : decode cX28_entered 5 = .ok (.aload_n 0, 1) := dk_42 (dk_at dksX28_entered_0 5 rfl rfl)
theorem dX28_entered_6 : decode cX28_entered 6 = .ok (.aload_n 0, 1) := dk_42 (dk_at dksX28_entered_0 6 rfl rfl)
theorem dX28_entered_7 : decode cX28_entered 7 = .ok (.bipush 32, 2) := dk_16 32 (dk_at dksX28_entered_0 7 rfl rfl)
theorem dX28_entered_9 : decode cX28_entered 9 = .ok (.invokevirtual 121, 3) := dk_182 0 121 (dk_at dksX28_entered_0 9 rfl rfl)
theorem dX28_entered_12 : decode cX28_entered 12 = .ok (.invokevirtual 65, 3) := dk_182 0 65 (dk_at dksX28_entered_0 12 rfl rfl)
theorem dX28_entered_15 : decode cX28_entered 15 = .ok (.iload_n 1, 1) := dk_27 (dk_at dksX28_entered_0 15 rfl rfl)
theorem dX28_entered_16 : decode cX28_entered 16 = .ok (.aload_n 0, 1) := dk_42 (dk_at dksX28_entered_0 16 rfl rfl)
theorem dX28_entered_17 : decode cX28_entered 17 = .ok (.invokevirtual 118, 3) := dk_182 0 118 (dk_at dksX28_entered_0 17 rfl rfl)
theorem dX28_entered_20 : decode cX28_entered 20 = .ok (.invokestatic 125, 3) := dk_184 0 125 (dk_at dksX28_entered_0 20 rfl rfl)
theorem dX28_entered_23 : decode cX28_entered 23 = .ok (.areturn, 1) := dk_176 (dk_at dksX28_entered_0 23 rfl rfl)
abbrev cX28_number : ByteArray := prog_24_method_7_code
def yX28_number : MethodName := ⟨RX28, "number", "()I"⟩
def dkwX28_number_1 : List UInt8 := [27, 172]
abbrev dktX28_number_1 : List UInt8 := dkwX28_number_1 ++ []
def dkwX28_number_0 : List UInt8 := [42, 182, 0, 69, 60, 42, 182, 0, 61, 153, 0, 15, 16, 10, 27, 104, 42, 182, 0, 69, 96, 167, 0, 4]
abbrev dktX28_number_0 : List UInt8 := dkwX28_number_0 ++ dktX28_number_1
theorem dksX28_number_0 : cX28_number.data.toList.drop 0 = dktX28_number_0 := by decide +kernel
theorem dksX28_number_1 : cX28_number.data.toList.drop 24 = dktX28_number_1 := dk_seg dksX28_number_0 24 rfl rfl
theorem dX28_number_0 : decode cX28_number 0 = .ok (.aload_n 0, 1) := dk_42 (dk_at dksX28_number_0 0 rfl rfl)
theorem dX28_number_1 : decode cX28_number 1 = .ok (.invokevirtual 69, 3) := dk_182 0 69 (dk_at dksX28_number_0 1 rfl rfl)
theorem dX28_number_4 : decode cX28_number 4 = .ok (.istore_n 1, 1) := dk_60 (dk_at dksX28_number_0 4 rfl rfl)
theorem dX28_number_5 : decode cX28_number 5 = .ok (.aload_n 0, 1) := dk_42 (dk_at dksX28_number_0 5 rfl rfl)
theorem dX28_number_6 : decode cX28_number 6 = .ok (.invokevirtual 61, 3) := dk_182 0 61 (dk_at dksX28_number_0 6 rfl rfl)
theorem dX28_number_9 : decode cX28_number 9 = .ok (.ifCond .eq 15, 3) := dk_153 0 15 (dk_at dksX28_number_0 9 rfl rfl)
theorem dX28_number_12 : decode cX28_number 12 = .ok (.bipush 10, 2) := dk_16 10 (dk_at dksX28_number_0 12 rfl rfl)
theorem dX28_number_14 : decode cX28_number 14 = .ok (.iload_n 1, 1) := dk_27 (dk_at dksX28_number_0 14 rfl rfl)
theorem dX28_number_15 : decode cX28_number 15 = .ok (.imul, 1) := dk_104 (dk_at dksX28_number_0 15 rfl rfl)
theorem dX28_number_16 : decode cX28_number 16 = .ok (.aload_n 0, 1) := dk_42 (dk_at dksX28_number_0 16 rfl rfl)
theorem dX28_number_17 : decode cX28_number 17 = .ok (.invokevirtual 69, 3) := dk_182 0 69 (dk_at dksX28_number_0 17 rfl rfl)
theorem dX28_number_20 : decode cX28_number 20 = .ok (.iadd, 1) := dk_96 (dk_at dksX28_number_0 20 rfl rfl)
theorem dX28_number_21 : decode cX28_number 21 = .ok (.goto 4, 3) := dk_167 0 4 (dk_at dksX28_number_0 21 rfl rfl)
theorem dX28_number_24 : decode cX28_number 24 = .ok (.iload_n 1, 1) := dk_27 (dk_at dksX28_number_1 0 rfl rfl)
theorem dX28_number_25 : decode cX28_number 25 = .ok (.ireturn, 1) := dk_172 (dk_at dksX28_number_1 1 rfl rfl)
abbrev cX28_digit : ByteArray := prog_24_method_6_code
def yX28_digit : MethodName := ⟨RX28, "digit", "()I"⟩
def dkwX28_digit_1 : List UInt8 := [180, 0, 49, 42, 180, 0, 39, 4, 100, 52, 16, 48, 100, 172]
abbrev dktX28_digit_1 : List UInt8 := dkwX28_digit_1 ++ []
def dkwX28_digit_0 : List UInt8 := [42, 42, 182, 0, 61, 182, 0, 65, 42, 89, 180, 0, 39, 4, 96, 181, 0, 39, 42, 180, 0, 3]
abbrev dktX28_digit_0 : List UInt8 := dkwX28_digit_0 ++ dktX28_digit_1
theorem dksX28_digit_0 : cX28_digit.data.toList.drop 0 = dktX28_digit_0 := by decide +kernel
theorem dksX28_digit_1 : cX28_digit.data.toList.drop 22 = dktX28_digit_1 := dk_seg dksX28_digit_0 22 rfl rfl
theorem dX28_digit_0 : decode cX28_digit 0 = .ok (.aload_n 0, 1) := dk_42 (dk_at dksX28_digit_0 0 rfl rfl)
theorem dX28_digit_1 : decode cX28_digit 1 = .ok (.aload_n 0, 1) := dk_42 (dk_at dksX28_digit_0 1 rfl rfl)
theorem dX28_digit_2 : decode cX28_digit 2 = .ok (.invokevirtual 61, 3) := dk_182 0 61 (dk_at dksX28_digit_0 2 rfl rfl)
theorem dX28_digit_5 : decode cX28_digit 5 = .ok (.invokevirtual 65, 3) := dk_182 0 65 (dk_at dksX28_digit_0 5 rfl rfl)
theorem dX28_digit_8 : decode cX28_digit 8 = .ok (.aload_n 0, 1) := dk_42 (dk_at dksX28_digit_0 8 rfl rfl)
theorem dX28_digit_9 : decode cX28_digit 9 = .ok (.dup, 1) := dk_89 (dk_at dksX28_digit_0 9 rfl rfl)
theorem dX28_digit_10 : decode cX28_digit 10 = .ok (.getfield 39, 3) := dk_180 0 39 (dk_at dksX28_digit_0 10 rfl rfl)
theorem dX28_digit_13 : decode cX28_digit 13 = .ok (.iconst 1, 1) := dk_4 (dk_at dksX28_digit_0 13 rfl rfl)
theorem dX28_digit_14 : decode cX28_digit 14 = .ok (.iadd, 1) := dk_96 (dk_at dksX28_digit_0 14 rfl rfl)
theorem dX28_digit_15 : decode cX28_digit 15 = .ok (.putfield 39, 3) := dk_181 0 39 (dk_at dksX28_digit_0 15 rfl rfl)
theorem dX28_digit_18 : decode cX28_digit 18 = .ok (.aload_n 0, 1) := dk_42 (dk_at dksX28_digit_0 18 rfl rfl)
theorem dX28_digit_19 : decode cX28_digit 19 = .ok (.getfield 3, 3) := dk_180 0 3 (dk_at dksX28_digit_0 19 rfl rfl)
theorem dX28_digit_22 : decode cX28_digit 22 = .ok (.getfield 49, 3) := dk_180 0 49 (dk_at dksX28_digit_1 0 rfl rfl)
theorem dX28_digit_25 : decode cX28_digit 25 = .ok (.aload_n 0, 1) := dk_42 (dk_at dksX28_digit_1 3 rfl rfl)
theorem dX28_digit_26 : decode cX28_digit 26 = .ok (.getfield 39, 3) := dk_180 0 39 (dk_at dksX28_digit_1 4 rfl rfl)
theorem dX28_digit_29 : decode cX28_digit 29 = .ok (.iconst 1, 1) := dk_4 (dk_at dksX28_digit_1 7 rfl rfl)
theorem dX28_digit_30 : decode cX28_digit 30 = .ok (.isub, 1) := dk_100 (dk_at dksX28_digit_1 8 rfl rfl)
theorem dX28_digit_31 : decode cX28_digit 31 = .ok (.caload, 1) := dk_52 (dk_at dksX28_digit_1 9 rfl rfl)
theorem dX28_digit_32 : decode cX28_digit 32 = .ok (.bipush 48, 2) := dk_16 48 (dk_at dksX28_digit_1 10 rfl rfl)
theorem dX28_digit_34 : decode cX28_digit 34 = .ok (.isub, 1) := dk_100 (dk_at dksX28_digit_1 12 rfl rfl)
theorem dX28_digit_35 : decode cX28_digit 35 = .ok (.ireturn, 1) := dk_172 (dk_at dksX28_digit_1 13 rfl rfl)
abbrev cX28_isDigit : ByteArray := prog_24_method_5_code
def yX28_isDigit : MethodName := ⟨RX28, "isDigit", "()Z"⟩
def dkwX28_isDigit_0 : List UInt8 := [42, 182, 0, 53, 16, 48, 16, 57, 184, 0, 57, 172]
abbrev dktX28_isDigit_0 : List UInt8 := dkwX28_isDigit_0 ++ []
theorem dksX28_isDigit_0 : cX28_isDigit.data.toList.drop 0 = dktX28_isDigit_0 := by decide +kernel
theorem dX28_isDigit_0 : decode cX28_isDigit 0 = .ok (.aload_n 0, 1) := dk_42 (dk_at dksX28_isDigit_0 0 rfl rfl)
theorem dX28_isDigit_1 : decode cX28_isDigit 1 = .ok (.invokevirtual 53, 3) := dk_182 0 53 (dk_at dksX28_isDigit_0 1 rfl rfl)
theorem dX28_isDigit_4 : decode cX28_isDigit 4 = .ok (.bipush 48, 2) := dk_16 48 (dk_at dksX28_isDigit_0 4 rfl rfl)
theorem dX28_isDigit_6 : decode cX28_isDigit 6 = .ok (.bipush 57, 2) := dk_16 57 (dk_at dksX28_isDigit_0 6 rfl rfl)
theorem dX28_isDigit_8 : decode cX28_isDigit 8 = .ok (.invokestatic 57, 3) := dk_184 0 57 (dk_at dksX28_isDigit_0 8 rfl rfl)
theorem dX28_isDigit_11 : decode cX28_isDigit 11 = .ok (.ireturn, 1) := dk_172 (dk_at dksX28_isDigit_0 11 rfl rfl)
abbrev cX28_takes : ByteArray := prog_24_method_4_code
def yX28_takes : MethodName := ⟨RX28, "takes", "(C)Z"⟩
def dkwX28_takes_1 : List UInt8 := [167, 0, 4, 3, 96, 181, 0, 39, 28, 172]
abbrev dktX28_takes_1 : List UInt8 := dkwX28_takes_1 ++ []
def dkwX28_takes_0 : List UInt8 := [42, 182, 0, 53, 27, 160, 0, 7, 4, 167, 0, 4, 3, 61, 42, 89, 180, 0, 39, 28, 153, 0, 7, 4]
abbrev dktX28_takes_0 : List UInt8 := dkwX28_takes_0 ++ dktX28_takes_1
theorem dksX28_takes_0 : cX28_takes.data.toList.drop 0 = dktX28_takes_0 := by decide +kernel
theorem dksX28_takes_1 : cX28_takes.data.toList.drop 24 = dktX28_takes_1 := dk_seg dksX28_takes_0 24 rfl rfl
theorem dX28_takes_0 : decode cX28_takes 0 = .ok (.aload_n 0, 1) := dk_42 (dk_at dksX28_takes_0 0 rfl rfl)
theorem dX28_takes_1 : decode cX28_takes 1 = .ok (.invokevirtual 53, 3) := dk_182 0 53 (dk_at dksX28_takes_0 1 rfl rfl)
theorem dX28_takes_4 : decode cX28_takes 4 = .ok (.iload_n 1, 1) := dk_27 (dk_at dksX28_takes_0 4 rfl rfl)
theorem dX28_takes_5 : decode cX28_takes 5 = .ok (.if_icmp .ne 7, 3) := dk_160 0 7 (dk_at dksX28_takes_0 5 rfl rfl)
theorem dX28_takes_8 : decode cX28_takes 8 = .ok (.iconst 1, 1) := dk_4 (dk_at dksX28_takes_0 8 rfl rfl)
theorem dX28_takes_9 : decode cX28_takes 9 = .ok (.goto 4, 3) := dk_167 0 4 (dk_at dksX28_takes_0 9 rfl rfl)
theorem dX28_takes_12 : decode cX28_takes 12 = .ok (.iconst 0, 1) := dk_3 (dk_at dksX28_takes_0 12 rfl rfl)
theorem dX28_takes_13 : decode cX28_takes 13 = .ok (.istore_n 2, 1) := dk_61 (dk_at dksX28_takes_0 13 rfl rfl)
theorem dX28_takes_14 : decode cX28_takes 14 = .ok (.aload_n 0, 1) := dk_42 (dk_at dksX28_takes_0 14 rfl rfl)
theorem dX28_takes_15 : decode cX28_takes 15 = .ok (.dup, 1) := dk_89 (dk_at dksX28_takes_0 15 rfl rfl)
theorem dX28_takes_16 : decode cX28_takes 16 = .ok (.getfield 39, 3) := dk_180 0 39 (dk_at dksX28_takes_0 16 rfl rfl)
theorem dX28_takes_19 : decode cX28_takes 19 = .ok (.iload_n 2, 1) := dk_28 (dk_at dksX28_takes_0 19 rfl rfl)
theorem dX28_takes_20 : decode cX28_takes 20 = .ok (.ifCond .eq 7, 3) := dk_153 0 7 (dk_at dksX28_takes_0 20 rfl rfl)
theorem dX28_takes_23 : decode cX28_takes 23 = .ok (.iconst 1, 1) := dk_4 (dk_at dksX28_takes_0 23 rfl rfl)
theorem dX28_takes_24 : decode cX28_takes 24 = .ok (.goto 4, 3) := dk_167 0 4 (dk_at dksX28_takes_1 0 rfl rfl)
theorem dX28_takes_27 : decode cX28_takes 27 = .ok (.iconst 0, 1) := dk_3 (dk_at dksX28_takes_1 3 rfl rfl)
theorem dX28_takes_28 : decode cX28_takes 28 = .ok (.iadd, 1) := dk_96 (dk_at dksX28_takes_1 4 rfl rfl)
theorem dX28_takes_29 : decode cX28_takes 29 = .ok (.putfield 39, 3) := dk_181 0 39 (dk_at dksX28_takes_1 5 rfl rfl)
theorem dX28_takes_32 : decode cX28_takes 32 = .ok (.iload_n 2, 1) := dk_28 (dk_at dksX28_takes_1 8 rfl rfl)
theorem dX28_takes_33 : decode cX28_takes 33 = .ok (.ireturn, 1) := dk_172 (dk_at dksX28_takes_1 9 rfl rfl)
abbrev cX28_lit : ByteArray := prog_24_method_11_code
def yX28_lit : MethodName := ⟨RX28, "lit", "()LCavePearls$Deed;"⟩
def dkwX28_lit_0 : List UInt8 := [42, 182, 0, 69, 60, 42, 42, 16, 32, 182, 0, 121, 182, 0, 65, 27, 42, 182, 0, 118, 184, 0, 131, 176]
abbrev dktX28_lit_0 : List UInt8 := dkwX28_lit_0 ++ []
theorem dksX28_lit_0 : cX28_lit.data.toList.drop 0 = dktX28_lit_0 := by decide +kernel
theorem dX28_lit_0 : decode cX28_lit 0 = .ok (.aload_n 0, 1) := dk_42 (dk_at dksX28_lit_0 0 rfl rfl)
theorem dX28_lit_1 : decode cX28_lit 1 = .ok (.invokevirtual 69, 3) := dk_182 0 69 (dk_at dksX28_lit_0 1 rfl rfl)
theorem dX28_lit_4 : decode cX28_lit 4 = .ok (.istore_n 1, 1) := dk_60 (dk_at dksX28_lit_0 4 rfl rfl)
theorem dX28_lit_5 : decode cX28_lit 5 = .ok (.aload_n 0, 1) := dk_42 (dk_at dksX28_lit_0 5 rfl rfl)
theorem dX28_lit_6 : decode cX28_lit 6 = .ok (.aload_n 0, 1) := dk_42 (dk_at dksX28_lit_0 6 rfl rfl)
theorem dX28_lit_7 : decode cX28_lit 7 = .ok (.bipush 32, 2) := dk_16 32 (dk_at dksX28_lit_0 7 rfl rfl)
theorem dX28_lit_9 : decode cX28_lit 9 = .ok (.invokevirtual 121, 3) := dk_182 0 121 (dk_at dksX28_lit_0 9 rfl rfl)
theorem dX28_lit_12 : decode cX28_lit 12 = .ok (.invokevirtual 65, 3) := dk_182 0 65 (dk_at dksX28_lit_0 12 rfl rfl)
theorem dX28_lit_15 : decode cX28_lit 15 = .ok (.iload_n 1, 1) := dk_27 (dk_at dksX28_lit_0 15 rfl rfl)
theorem dX28_lit_16 : decode cX28_lit 16 = .ok (.aload_n 0, 1) := dk_42 (dk_at dksX28_lit_0 16 rfl rfl)
theorem dX28_lit_17 : decode cX28_lit 17 = .ok (.invokevirtual 118, 3) := dk_182 0 118 (dk_at dksX28_lit_0 17 rfl rfl)
theorem dX28_lit_20 : decode cX28_lit 20 = .ok (.invokestatic 131, 3) := dk_184 0 131 (dk_at dksX28_lit_0 20 rfl rfl)
theorem dX28_lit_23 : decode cX28_lit 23 = .ok (.areturn, 1) := dk_176 (dk_at dksX28_lit_0 23 rfl rfl)
theorem q187 : (Jvm.Cond.initialized "CavePearls$Reader") ∈ lw_all := lw_g (lw_at lw_m1 81 rfl) rfl
theorem q386 : (Jvm.Cond.fieldLinkNest "CavePearls$Reader" (49 : Nat) "CavePearls" "input" "[C" "CavePearls") ∈ lw_tbl := lw_at lw_m2 40 rfl
theorem q388 : (Jvm.Cond.fieldLinkNest "CavePearls$Reader" (46 : Nat) "CavePearls" "inputLength" "I" "CavePearls") ∈ lw_tbl := lw_at lw_m2 42 rfl
theorem q938 : (Jvm.Cond.selects "CavePearls$Reader" ({ cls := "java/lang/Object", name := "getClass", desc := "()Ljava/lang/Class;" } : Jvm.MethodName) ({ cls := "java/lang/Object", name := "getClass", desc := "()Ljava/lang/Class;" } : Jvm.MethodName)) ∈ lw_all := lw_g (lw_at lw_m4 112 rfl) rfl
theorem q3179 : (Jvm.Cond.instantiable "CavePearls$Reader" (3 : Nat)) ∈ lw_all := lw_g (lw_at lw_m13 193 rfl) rfl
theorem q3181 : (Jvm.Cond.instanceMethod ({ cls := "CavePearls$Reader", name := "<init>", desc := "(LCavePearls;)V" } : Jvm.MethodName)) ∈ lw_all := lw_g (lw_at lw_m13 195 rfl) rfl
theorem q3182 : (Jvm.Cond.code ({ cls := "CavePearls$Reader", name := "<init>", desc := "(LCavePearls;)V" } : Jvm.MethodName) prog_24_method_1_code (2 : Nat) (Option.none : Option Jvm.ClassFile.FieldType)) ∈ lw_all := lw_g (lw_at lw_m13 196 rfl) rfl
theorem q3183 : (Jvm.Cond.methodLink "CavePearls$Reader" (9 : Nat) ({ cls := "java/lang/Object", name := "<init>", desc := "()V" } : Jvm.MethodName)) ∈ lw_all := lw_g (lw_at lw_m13 197 rfl) rfl
theorem q3184 : (Jvm.Cond.stringRef "CavePearls$Reader" (15 : Nat) "enter ") ∈ lw_tbl := lw_at lw_m13 198 rfl
theorem q3185 : (Jvm.Cond.stringRef "CavePearls$Reader" (17 : Nat) "lamp ") ∈ lw_tbl := lw_at lw_m13 199 rfl
theorem q3186 : (Jvm.Cond.stringRef "CavePearls$Reader" (19 : Nat) "dark ") ∈ lw_tbl := lw_at lw_m13 200 rfl
theorem q3187 : (Jvm.Cond.stringRef "CavePearls$Reader" (21 : Nat) "sweep") ∈ lw_tbl := lw_at lw_m13 201 rfl
theorem q3188 : (Jvm.Cond.stringRef "CavePearls$Reader" (23 : Nat) "draught ") ∈ lw_tbl := lw_at lw_m13 202 rfl
theorem q3189 : (Jvm.Cond.stringRef "CavePearls$Reader" (25 : Nat) "minutes ") ∈ lw_tbl := lw_at lw_m13 203 rfl
theorem q3190 : (Jvm.Cond.methodLink "CavePearls$Reader" (27 : Nat) ({ cls := "java/util/List", name := "of", desc := "(Ljava/lang/Object;Ljava/lang/Object;Ljava/lang/Object;Ljava/lang/Object;Ljava/lang/Object;Ljava/lang/Object;)Ljava/util/List;" } : Jvm.MethodName)) ∈ lw_all := lw_g (lw_at lw_m13 204 rfl) rfl
theorem q3240 : (Jvm.Cond.fieldLink "CavePearls$Reader" (33 : Nat) "CavePearls$Reader" "words" "Ljava/util/List;") ∈ lw_all := lw_g (lw_at lw_m14 14 rfl) rfl
theorem q3241 : (Jvm.Cond.fieldLink "CavePearls$Reader" (39 : Nat) "CavePearls$Reader" "position" "I") ∈ lw_all := lw_g (lw_at lw_m14 15 rfl) rfl
theorem q3242 : (Jvm.Cond.fieldLink "CavePearls$Reader" (3 : Nat) "CavePearls$Reader" "this$0" "LCavePearls;") ∈ lw_all := lw_g (lw_at lw_m14 16 rfl) rfl
theorem q3243 : (Jvm.Cond.laysFinal "CavePearls$Reader" "CavePearls$Reader" "words" "Ljava/util/List;") ∈ lw_all := lw_g (lw_at lw_m14 17 rfl) rfl
theorem q3244 : (Jvm.Cond.soleField "CavePearls$Reader" "words") ∈ lw_all := lw_g (lw_at lw_m14 18 rfl) rfl
theorem q3245 : (Jvm.Cond.lays "CavePearls$Reader" "CavePearls$Reader" "position" "I") ∈ lw_all := lw_g (lw_at lw_m14 19 rfl) rfl
theorem q3246 : (Jvm.Cond.soleField "CavePearls$Reader" "position") ∈ lw_all := lw_g (lw_at lw_m14 20 rfl) rfl
theorem q3247 : (Jvm.Cond.laysFinal "CavePearls$Reader" "CavePearls$Reader" "this$0" "LCavePearls;") ∈ lw_all := lw_g (lw_at lw_m14 21 rfl) rfl
theorem q3248 : (Jvm.Cond.soleField "CavePearls$Reader" "this$0") ∈ lw_all := lw_g (lw_at lw_m14 22 rfl) rfl
theorem q3249 : (Jvm.Cond.superclass "CavePearls$Reader" "java/lang/Object") ∈ lw_all := lw_g (lw_at lw_m14 23 rfl) rfl
theorem q3251 : (Jvm.Cond.instanceMethod ({ cls := "CavePearls$Reader", name := "all", desc := "()Ljava/util/LinkedList;" } : Jvm.MethodName)) ∈ lw_all := lw_g (lw_at lw_m14 25 rfl) rfl
theorem q3252 : (Jvm.Cond.selects "CavePearls$Reader" ({ cls := "CavePearls$Reader", name := "all", desc := "()Ljava/util/LinkedList;" } : Jvm.MethodName) ({ cls := "CavePearls$Reader", name := "all", desc := "()Ljava/util/LinkedList;" } : Jvm.MethodName)) ∈ lw_all := lw_g (lw_at lw_m14 26 rfl) rfl
theorem q3253 : (Jvm.Cond.code ({ cls := "CavePearls$Reader", name := "all", desc := "()Ljava/util/LinkedList;" } : Jvm.MethodName) prog_24_method_13_code (2 : Nat) (Option.some (Jvm.ClassFile.FieldType.object "java/util/LinkedList"))) ∈ lw_all := lw_g (lw_at lw_m14 27 rfl) rfl
theorem q3254 : (Jvm.Cond.classLink "CavePearls$Reader" (164 : Nat) "java/util/LinkedList") ∈ lw_all := lw_g (lw_at lw_m14 28 rfl) rfl
theorem q3255 : (Jvm.Cond.methodLink "CavePearls$Reader" (166 : Nat) ({ cls := "java/util/LinkedList", name := "<init>", desc := "()V" } : Jvm.MethodName)) ∈ lw_all := lw_g (lw_at lw_m14 29 rfl) rfl
theorem q3256 : (Jvm.Cond.methodLink "CavePearls$Reader" (167 : Nat) ({ cls := "CavePearls$Reader", name := "command", desc := "()LCavePearls$Deed;" } : Jvm.MethodName)) ∈ lw_all := lw_g (lw_at lw_m14 30 rfl) rfl
theorem q3257 : (Jvm.Cond.privateMethod ({ cls := "CavePearls$Reader", name := "command", desc := "()LCavePearls$Deed;" } : Jvm.MethodName)) ∈ lw_tbl := lw_at lw_m14 31 rfl
theorem q3258 : (Jvm.Cond.instanceMethod ({ cls := "CavePearls$Reader", name := "command", desc := "()LCavePearls$Deed;" } : Jvm.MethodName)) ∈ lw_all := lw_g (lw_at lw_m14 32 rfl) rfl
theorem q3259 : (Jvm.Cond.code ({ cls := "CavePearls$Reader", name := "command", desc := "()LCavePearls$Deed;" } : Jvm.MethodName) prog_24_method_12_code (3 : Nat) (Option.some (Jvm.ClassFile.FieldType.object "CavePearls$Deed"))) ∈ lw_all := lw_g (lw_at lw_m14 33 rfl) rfl
theorem q3260 : (Jvm.Cond.methodLink "CavePearls$Reader" (134 : Nat) ({ cls := "CavePearls$Reader", name := "word", desc := "()Ljava/lang/String;" } : Jvm.MethodName)) ∈ lw_all := lw_g (lw_at lw_m14 34 rfl) rfl
theorem q3261 : (Jvm.Cond.privateMethod ({ cls := "CavePearls$Reader", name := "word", desc := "()Ljava/lang/String;" } : Jvm.MethodName)) ∈ lw_tbl := lw_at lw_m14 35 rfl
theorem q3262 : (Jvm.Cond.instanceMethod ({ cls := "CavePearls$Reader", name := "word", desc := "()Ljava/lang/String;" } : Jvm.MethodName)) ∈ lw_all := lw_g (lw_at lw_m14 36 rfl) rfl
theorem q3263 : (Jvm.Cond.code ({ cls := "CavePearls$Reader", name := "word", desc := "()Ljava/lang/String;" } : Jvm.MethodName) prog_24_method_9_code (3 : Nat) (Option.some (Jvm.ClassFile.FieldType.object "java/lang/String"))) ∈ lw_all := lw_g (lw_at lw_m14 37 rfl) rfl
theorem q3264 : (Jvm.Cond.classLink "CavePearls$Reader" (103 : Nat) "java/lang/StringBuilder") ∈ lw_all := lw_g (lw_at lw_m14 38 rfl) rfl
theorem q3265 : (Jvm.Cond.methodLink "CavePearls$Reader" (105 : Nat) ({ cls := "java/lang/StringBuilder", name := "<init>", desc := "()V" } : Jvm.MethodName)) ∈ lw_all := lw_g (lw_at lw_m14 39 rfl) rfl
theorem q3266 : (Jvm.Cond.methodLink "CavePearls$Reader" (53 : Nat) ({ cls := "CavePearls$Reader", name := "here", desc := "()I" } : Jvm.MethodName)) ∈ lw_all := lw_g (lw_at lw_m14 40 rfl) rfl
theorem q3267 : (Jvm.Cond.privateMethod ({ cls := "CavePearls$Reader", name := "here", desc := "()I" } : Jvm.MethodName)) ∈ lw_tbl := lw_at lw_m14 41 rfl
theorem q3268 : (Jvm.Cond.instanceMethod ({ cls := "CavePearls$Reader", name := "here", desc := "()I" } : Jvm.MethodName)) ∈ lw_all := lw_g (lw_at lw_m14 42 rfl) rfl
theorem q3269 : (Jvm.Cond.code ({ cls := "CavePearls$Reader", name := "here", desc := "()I" } : Jvm.MethodName) prog_24_method_3_code (1 : Nat) (Option.some Jvm.ClassFile.FieldType.int)) ∈ lw_all := lw_g (lw_at lw_m14 43 rfl) rfl
theorem q3270 : (Jvm.Cond.methodLink "CavePearls$Reader" (65 : Nat) ({ cls := "CavePearls$Reader", name := "need", desc := "(Z)V" } : Jvm.MethodName)) ∈ lw_all := lw_g (lw_at lw_m14 44 rfl) rfl
theorem q3271 : (Jvm.Cond.privateMethod ({ cls := "CavePearls$Reader", name := "need", desc := "(Z)V" } : Jvm.MethodName)) ∈ lw_tbl := lw_at lw_m14 45 rfl
theorem q3272 : (Jvm.Cond.instanceMethod ({ cls := "CavePearls$Reader", name := "need", desc := "(Z)V" } : Jvm.MethodName)) ∈ lw_all := lw_g (lw_at lw_m14 46 rfl) rfl
theorem q3273 : (Jvm.Cond.code ({ cls := "CavePearls$Reader", name := "need", desc := "(Z)V" } : Jvm.MethodName) prog_24_method_2_code (2 : Nat) (Option.none : Option Jvm.ClassFile.FieldType)) ∈ lw_all := lw_g (lw_at lw_m14 47 rfl) rfl
theorem q3274 : (Jvm.Cond.classLink "CavePearls$Reader" (37 : Nat) "CavePearls$TextException") ∈ lw_all := lw_g (lw_at lw_m14 48 rfl) rfl
theorem q3283 : (Jvm.Cond.methodLink "CavePearls$Reader" (43 : Nat) ({ cls := "CavePearls$TextException", name := "<init>", desc := "(I)V" } : Jvm.MethodName)) ∈ lw_all := lw_g (lw_at lw_m14 57 rfl) rfl
theorem q3293 : (Jvm.Cond.methodLink "CavePearls$Reader" (106 : Nat) ({ cls := "java/lang/StringBuilder", name := "append", desc := "(C)Ljava/lang/StringBuilder;" } : Jvm.MethodName)) ∈ lw_all := lw_g (lw_at lw_m14 67 rfl) rfl
theorem q3294 : (Jvm.Cond.methodLink "CavePearls$Reader" (110 : Nat) ({ cls := "CavePearls$Reader", name := "kindOf", desc := "(Ljava/lang/CharSequence;)I" } : Jvm.MethodName)) ∈ lw_all := lw_g (lw_at lw_m14 68 rfl) rfl
theorem q3295 : (Jvm.Cond.privateMethod ({ cls := "CavePearls$Reader", name := "kindOf", desc := "(Ljava/lang/CharSequence;)I" } : Jvm.MethodName)) ∈ lw_tbl := lw_at lw_m14 69 rfl
theorem q3296 : (Jvm.Cond.instanceMethod ({ cls := "CavePearls$Reader", name := "kindOf", desc := "(Ljava/lang/CharSequence;)I" } : Jvm.MethodName)) ∈ lw_all := lw_g (lw_at lw_m14 70 rfl) rfl
theorem q3297 : (Jvm.Cond.code ({ cls := "CavePearls$Reader", name := "kindOf", desc := "(Ljava/lang/CharSequence;)I" } : Jvm.MethodName) prog_24_method_8_code (5 : Nat) (Option.some Jvm.ClassFile.FieldType.int)) ∈ lw_all := lw_g (lw_at lw_m14 71 rfl) rfl
theorem q3298 : (Jvm.Cond.interfaceEntry "CavePearls$Reader" (72 : Nat)) ∈ lw_tbl := lw_at lw_m14 72 rfl
theorem q3299 : (Jvm.Cond.methodLink "CavePearls$Reader" (72 : Nat) ({ cls := "java/util/List", name := "iterator", desc := "()Ljava/util/Iterator;" } : Jvm.MethodName)) ∈ lw_all := lw_g (lw_at lw_m14 73 rfl) rfl
theorem q3306 : (Jvm.Cond.interfaceEntry "CavePearls$Reader" (76 : Nat)) ∈ lw_tbl := lw_at lw_m14 80 rfl
theorem q3307 : (Jvm.Cond.methodLink "CavePearls$Reader" (76 : Nat) ({ cls := "java/util/Iterator", name := "hasNext", desc := "()Z" } : Jvm.MethodName)) ∈ lw_all := lw_g (lw_at lw_m14 81 rfl) rfl
theorem q3308 : (Jvm.Cond.interfaceEntry "CavePearls$Reader" (81 : Nat)) ∈ lw_tbl := lw_at lw_m14 82 rfl
theorem q3309 : (Jvm.Cond.methodLink "CavePearls$Reader" (81 : Nat) ({ cls := "java/util/Iterator", name := "next", desc := "()Ljava/lang/Object;" } : Jvm.MethodName)) ∈ lw_all := lw_g (lw_at lw_m14 83 rfl) rfl
theorem q3310 : (Jvm.Cond.classLink "CavePearls$Reader" (85 : Nat) "java/lang/String") ∈ lw_all := lw_g (lw_at lw_m14 84 rfl) rfl
theorem q3311 : (Jvm.Cond.methodLinkNest "CavePearls$Reader" (87 : Nat) ({ cls := "CavePearls", name := "begins", desc := "(Ljava/lang/String;Ljava/lang/CharSequence;)Z" } : Jvm.MethodName) "CavePearls") ∈ lw_tbl := lw_at lw_m14 85 rfl
theorem q3352 : (Jvm.Cond.methodLink "CavePearls$Reader" (91 : Nat) ({ cls := "java/lang/String", name := "length", desc := "()I" } : Jvm.MethodName)) ∈ lw_all := lw_g (lw_at lw_m14 126 rfl) rfl
theorem q3353 : (Jvm.Cond.interfaceEntry "CavePearls$Reader" (94 : Nat)) ∈ lw_tbl := lw_at lw_m14 127 rfl
theorem q3354 : (Jvm.Cond.methodLink "CavePearls$Reader" (94 : Nat) ({ cls := "java/lang/CharSequence", name := "length", desc := "()I" } : Jvm.MethodName)) ∈ lw_all := lw_g (lw_at lw_m14 128 rfl) rfl
theorem q3355 : (Jvm.Cond.methodLink "CavePearls$Reader" (97 : Nat) ({ cls := "java/lang/Math", name := "max", desc := "(II)I" } : Jvm.MethodName)) ∈ lw_all := lw_g (lw_at lw_m14 129 rfl) rfl
theorem q3356 : (Jvm.Cond.methodLink "CavePearls$Reader" (114 : Nat) ({ cls := "java/lang/StringBuilder", name := "toString", desc := "()Ljava/lang/String;" } : Jvm.MethodName)) ∈ lw_all := lw_g (lw_at lw_m14 130 rfl) rfl
theorem q3357 : (Jvm.Cond.methodLink "CavePearls$Reader" (137 : Nat) ({ cls := "java/lang/String", name := "hashCode", desc := "()I" } : Jvm.MethodName)) ∈ lw_all := lw_g (lw_at lw_m14 131 rfl) rfl
theorem q3414 : (Jvm.Cond.methodLink "CavePearls$Reader" (140 : Nat) ({ cls := "java/lang/String", name := "equals", desc := "(Ljava/lang/Object;)Z" } : Jvm.MethodName)) ∈ lw_all := lw_g (lw_at lw_m14 188 rfl) rfl
theorem q3421 : (Jvm.Cond.methodLink "CavePearls$Reader" (144 : Nat) ({ cls := "CavePearls$Reader", name := "entered", desc := "()LCavePearls$Deed;" } : Jvm.MethodName)) ∈ lw_all := lw_g (lw_at lw_m14 195 rfl) rfl
theorem q3422 : (Jvm.Cond.privateMethod ({ cls := "CavePearls$Reader", name := "entered", desc := "()LCavePearls$Deed;" } : Jvm.MethodName)) ∈ lw_tbl := lw_at lw_m14 196 rfl
theorem q3423 : (Jvm.Cond.instanceMethod ({ cls := "CavePearls$Reader", name := "entered", desc := "()LCavePearls$Deed;" } : Jvm.MethodName)) ∈ lw_all := lw_g (lw_at lw_m14 197 rfl) rfl
theorem q3424 : (Jvm.Cond.code ({ cls := "CavePearls$Reader", name := "entered", desc := "()LCavePearls$Deed;" } : Jvm.MethodName) prog_24_method_10_code (2 : Nat) (Option.some (Jvm.ClassFile.FieldType.object "CavePearls$Deed"))) ∈ lw_all := lw_g (lw_at lw_m14 198 rfl) rfl
theorem q3425 : (Jvm.Cond.methodLink "CavePearls$Reader" (118 : Nat) ({ cls := "CavePearls$Reader", name := "number", desc := "()I" } : Jvm.MethodName)) ∈ lw_all := lw_g (lw_at lw_m14 199 rfl) rfl
theorem q3426 : (Jvm.Cond.privateMethod ({ cls := "CavePearls$Reader", name := "number", desc := "()I" } : Jvm.MethodName)) ∈ lw_tbl := lw_at lw_m14 200 rfl
theorem q3427 : (Jvm.Cond.instanceMethod ({ cls := "CavePearls$Reader", name := "number", desc := "()I" } : Jvm.MethodName)) ∈ lw_all := lw_g (lw_at lw_m14 201 rfl) rfl
theorem q3428 : (Jvm.Cond.code ({ cls := "CavePearls$Reader", name := "number", desc := "()I" } : Jvm.MethodName) prog_24_method_7_code (2 : Nat) (Option.some Jvm.ClassFile.FieldType.int)) ∈ lw_all := lw_g (lw_at lw_m14 202 rfl) rfl
theorem q3429 : (Jvm.Cond.methodLink "CavePearls$Reader" (69 : Nat) ({ cls := "CavePearls$Reader", name := "digit", desc := "()I" } : Jvm.MethodName)) ∈ lw_all := lw_g (lw_at lw_m14 203 rfl) rfl
theorem q3430 : (Jvm.Cond.privateMethod ({ cls := "CavePearls$Reader", name := "digit", desc := "()I" } : Jvm.MethodName)) ∈ lw_tbl := lw_at lw_m14 204 rfl
theorem q3431 : (Jvm.Cond.instanceMethod ({ cls := "CavePearls$Reader", name := "digit", desc := "()I" } : Jvm.MethodName)) ∈ lw_all := lw_g (lw_at lw_m14 205 rfl) rfl
theorem q3432 : (Jvm.Cond.code ({ cls := "CavePearls$Reader", name := "digit", desc := "()I" } : Jvm.MethodName) prog_24_method_6_code (1 : Nat) (Option.some Jvm.ClassFile.FieldType.int)) ∈ lw_all := lw_g (lw_at lw_m14 206 rfl) rfl
theorem q3433 : (Jvm.Cond.methodLink "CavePearls$Reader" (61 : Nat) ({ cls := "CavePearls$Reader", name := "isDigit", desc := "()Z" } : Jvm.MethodName)) ∈ lw_all := lw_g (lw_at lw_m14 207 rfl) rfl
theorem q3434 : (Jvm.Cond.privateMethod ({ cls := "CavePearls$Reader", name := "isDigit", desc := "()Z" } : Jvm.MethodName)) ∈ lw_tbl := lw_at lw_m14 208 rfl
theorem q3435 : (Jvm.Cond.instanceMethod ({ cls := "CavePearls$Reader", name := "isDigit", desc := "()Z" } : Jvm.MethodName)) ∈ lw_all := lw_g (lw_at lw_m14 209 rfl) rfl
theorem q3436 : (Jvm.Cond.code ({ cls := "CavePearls$Reader", name := "isDigit", desc := "()Z" } : Jvm.MethodName) prog_24_method_5_code (1 : Nat) (Option.some Jvm.ClassFile.FieldType.boolean)) ∈ lw_all := lw_g (lw_at lw_m14 210 rfl) rfl
theorem q3437 : (Jvm.Cond.methodLinkNest "CavePearls$Reader" (57 : Nat) ({ cls := "CavePearls", name := "inRange", desc := "(III)Z" } : Jvm.MethodName) "CavePearls") ∈ lw_tbl := lw_at lw_m14 211 rfl
theorem q3438 : (Jvm.Cond.methodLink "CavePearls$Reader" (121 : Nat) ({ cls := "CavePearls$Reader", name := "takes", desc := "(C)Z" } : Jvm.MethodName)) ∈ lw_all := lw_g (lw_at lw_m14 212 rfl) rfl
theorem q3439 : (Jvm.Cond.privateMethod ({ cls := "CavePearls$Reader", name := "takes", desc := "(C)Z" } : Jvm.MethodName)) ∈ lw_tbl := lw_at lw_m14 213 rfl
theorem q3440 : (Jvm.Cond.instanceMethod ({ cls := "CavePearls$Reader", name := "takes", desc := "(C)Z" } : Jvm.MethodName)) ∈ lw_all := lw_g (lw_at lw_m14 214 rfl) rfl
theorem q3441 : (Jvm.Cond.code ({ cls := "CavePearls$Reader", name := "takes", desc := "(C)Z" } : Jvm.MethodName) prog_24_method_4_code (3 : Nat) (Option.some Jvm.ClassFile.FieldType.boolean)) ∈ lw_all := lw_g (lw_at lw_m14 215 rfl) rfl
theorem q3442 : (Jvm.Cond.methodLink "CavePearls$Reader" (125 : Nat) ({ cls := "CavePearls$Deed", name := "entering", desc := "(II)LCavePearls$Deed;" } : Jvm.MethodName)) ∈ lw_all := lw_g (lw_at lw_m14 216 rfl) rfl
theorem q3443 : (Jvm.Cond.methodLink "CavePearls$Reader" (148 : Nat) ({ cls := "CavePearls$Reader", name := "lit", desc := "()LCavePearls$Deed;" } : Jvm.MethodName)) ∈ lw_all := lw_g (lw_at lw_m14 217 rfl) rfl
theorem q3444 : (Jvm.Cond.privateMethod ({ cls := "CavePearls$Reader", name := "lit", desc := "()LCavePearls$Deed;" } : Jvm.MethodName)) ∈ lw_tbl := lw_at lw_m14 218 rfl
theorem q3445 : (Jvm.Cond.instanceMethod ({ cls := "CavePearls$Reader", name := "lit", desc := "()LCavePearls$Deed;" } : Jvm.MethodName)) ∈ lw_all := lw_g (lw_at lw_m14 219 rfl) rfl
theorem q3446 : (Jvm.Cond.code ({ cls := "CavePearls$Reader", name := "lit", desc := "()LCavePearls$Deed;" } : Jvm.MethodName) prog_24_method_11_code (2 : Nat) (Option.some (Jvm.ClassFile.FieldType.object "CavePearls$Deed"))) ∈ lw_all := lw_g (lw_at lw_m14 220 rfl) rfl
theorem q3447 : (Jvm.Cond.methodLink "CavePearls$Reader" (131 : Nat) ({ cls := "CavePearls$Deed", name := "lighting", desc := "(II)LCavePearls$Deed;" } : Jvm.MethodName)) ∈ lw_all := lw_g (lw_at lw_m14 221 rfl) rfl
theorem q3448 : (Jvm.Cond.methodLink "CavePearls$Reader" (151 : Nat) ({ cls := "CavePearls$Deed", name := "darkening", desc := "(I)LCavePearls$Deed;" } : Jvm.MethodName)) ∈ lw_all := lw_g (lw_at lw_m14 222 rfl) rfl
theorem q3449 : (Jvm.Cond.methodLink "CavePearls$Reader" (155 : Nat) ({ cls := "CavePearls$Deed", name := "sweeping", desc := "()LCavePearls$Deed;" } : Jvm.MethodName)) ∈ lw_all := lw_g (lw_at lw_m14 223 rfl) rfl
theorem q3450 : (Jvm.Cond.methodLink "CavePearls$Reader" (158 : Nat) ({ cls := "CavePearls$Deed", name := "setting", desc := "(I)LCavePearls$Deed;" } : Jvm.MethodName)) ∈ lw_all := lw_g (lw_at lw_m14 224 rfl) rfl
theorem q3451 : (Jvm.Cond.methodLink "CavePearls$Reader" (161 : Nat) ({ cls := "CavePearls$Deed", name := "passing", desc := "(I)LCavePearls$Deed;" } : Jvm.MethodName)) ∈ lw_all := lw_g (lw_at lw_m14 225 rfl) rfl
theorem q3452 : (Jvm.Cond.methodLink "CavePearls$Reader" (170 : Nat) ({ cls := "java/util/LinkedList", name := "addLast", desc := "(Ljava/lang/Object;)V" } : Jvm.MethodName)) ∈ lw_all := lw_g (lw_at lw_m14 226 rfl) rfl
theorem q4029 : (Jvm.Cond.castable "CavePearls$Reader" "java/lang/Object") ∈ lw_tbl := lw_at lw_m17 83 rfl
theorem in_X28 : ∀ w ∈ wsX280, w ∈ lw_all := lw_in wsX280 [3243, 3245, 3247] (by decide +kernel) (by decide +kernel)

/-! java/util/List -/
set_option maxRecDepth 100000
def RJ49 : String := "java/util/List"
abbrev cJ49_of : ByteArray := prog_89_method_42_code
def yJ49_of : MethodName := ⟨RJ49, "of", "(Ljava/lang/Object;Ljava/lang/Object;Ljava/lang/Object;Ljava/lang/Object;Ljava/lang/Object;Ljava/lang/Object;)Ljava/util/List;"⟩
def dkwJ49_of_1 : List UInt8 := [25, 4, 83, 89, 8, 25, 5, 83, 184, 0, 105, 176]
abbrev dktJ49_of_1 : List UInt8 := dkwJ49_of_1 ++ []
def dkwJ49_of_0 : List UInt8 := [16, 6, 189, 0, 103, 89, 3, 42, 83, 89, 4, 43, 83, 89, 5, 44, 83, 89, 6, 45, 83, 89, 7]
abbrev dktJ49_of_0 : List UInt8 := dkwJ49_of_0 ++ dktJ49_of_1
theorem dksJ49_of_0 : cJ49_of.data.toList.drop 0 = dktJ49_of_0 := by decide +kernel
theorem dksJ49_of_1 : cJ49_of.data.toList.drop 23 = dktJ49_of_1 := dk_seg dksJ49_of_0 23 rfl rfl
theorem dJ49_of_0 : decode cJ49_of 0 = .ok (.bipush 6, 2) := dk_16 6 (dk_at dksJ49_of_0 0 rfl rfl)
theorem dJ49_of_2 : decode cJ49_of 2 = .ok (.anewarray 103, 3) := dk_189 0 103 (dk_at dksJ49_of_0 2 rfl rfl)
theorem dJ49_of_5 : decode cJ49_of 5 = .ok (.dup, 1) := dk_89 (dk_at dksJ49_of_0 5 rfl rfl)
theorem dJ49_of_6 : decode cJ49_of 6 = .ok (.iconst 0, 1) := dk_3 (dk_at dksJ49_of_0 6 rfl rfl)
theorem dJ49_of_7 : decode cJ49_of 7 = .ok (.aload_n 0, 1) := dk_42 (dk_at dksJ49_of_0 7 rfl rfl)
theorem dJ49_of_8 : decode cJ49_of 8 = .ok (.aastore, 1) := dk_83 (dk_at dksJ49_of_0 8 rfl rfl)
theorem dJ49_of_9 : decode cJ49_of 9 = .ok (.dup, 1) := dk_89 (dk_at dksJ49_of_0 9 rfl rfl)
theorem dJ49_of_10 : decode cJ49_of 10 = .ok (.iconst 1, 1) := dk_4 (dk_at dksJ49_of_0 10 rfl rfl)
theorem dJ49_of_11 : decode cJ49_of 11 = .ok (.aload_n 1, 1) := dk_43 (dk_at dksJ49_of_0 11 rfl rfl)
theorem dJ49_of_12 : decode cJ49_of 12 = .ok (.aastore, 1) := dk_83 (dk_at dksJ49_of_0 12 rfl rfl)
theorem dJ49_of_13 : decode cJ49_of 13 = .ok (.dup, 1) := dk_89 (dk_at dksJ49_of_0 13 rfl rfl)
theorem dJ49_of_14 : decode cJ49_of 14 = .ok (.iconst 2, 1) := dk_5 (dk_at dksJ49_of_0 14 rfl rfl)
theorem dJ49_of_15 : decode cJ49_of 15 = .ok (.aload_n 2, 1) := dk_44 (dk_at dksJ49_of_0 15 rfl rfl)
theorem dJ49_of_16 : decode cJ49_of 16 = .ok (.aastore, 1) := dk_83 (dk_at dksJ49_of_0 16 rfl rfl)
theorem dJ49_of_17 : decode cJ49_of 17 = .ok (.dup, 1) := dk_89 (dk_at dksJ49_of_0 17 rfl rfl)
theorem dJ49_of_18 : decode cJ49_of 18 = .ok (.iconst 3, 1) := dk_6 (dk_at dksJ49_of_0 18 rfl rfl)
theorem dJ49_of_19 : decode cJ49_of 19 = .ok (.aload_n 3, 1) := dk_45 (dk_at dksJ49_of_0 19 rfl rfl)
theorem dJ49_of_20 : decode cJ49_of 20 = .ok (.aastore, 1) := dk_83 (dk_at dksJ49_of_0 20 rfl rfl)
theorem dJ49_of_21 : decode cJ49_of 21 = .ok (.dup, 1) := dk_89 (dk_at dksJ49_of_0 21 rfl rfl)
theorem dJ49_of_22 : decode cJ49_of 22 = .ok (.iconst 4, 1) := dk_7 (dk_at dksJ49_of_0 22 rfl rfl)
theorem dJ49_of_23 : decode cJ49_of 23 = .ok (.aload 4, 2) := dk_25 4 (dk_at dksJ49_of_1 0 rfl rfl)
theorem dJ49_of_25 : decode cJ49_of 25 = .ok (.aastore, 1) := dk_83 (dk_at dksJ49_of_1 2 rfl rfl)
theorem dJ49_of_26 : decode cJ49_of 26 = .ok (.dup, 1) := dk_89 (dk_at dksJ49_of_1 3 rfl rfl)
theorem dJ49_of_27 : decode cJ49_of 27 = .ok (.iconst 5, 1) := dk_8 (dk_at dksJ49_of_1 4 rfl rfl)
theorem dJ49_of_28 : decode cJ49_of 28 = .ok (.aload 5, 2) := dk_25 5 (dk_at dksJ49_of_1 5 rfl rfl)
theorem dJ49_of_30 : decode cJ49_of 30 = .ok (.aastore, 1) := dk_83 (dk_at dksJ49_of_1 7 rfl rfl)
theorem dJ49_of_31 : decode cJ49_of 31 = .ok (.invokestatic 105, 3) := dk_184 0 105 (dk_at dksJ49_of_1 8 rfl rfl)
theorem dJ49_of_34 : decode cJ49_of 34 = .ok (.areturn, 1) := dk_176 (dk_at dksJ49_of_1 11 rfl rfl)
theorem q188 : (Jvm.Cond.initialized "java/util/List") ∈ lw_all := lw_g (lw_at lw_m1 82 rfl) rfl
theorem q1058 : (Jvm.Cond.interfaceMethod "java/util/List" "java/util/List" "get" "(I)Ljava/lang/Object;") ∈ lw_tbl := lw_at lw_m4 232 rfl
theorem q1059 : (Jvm.Cond.declares ({ cls := "java/util/List", name := "get", desc := "(I)Ljava/lang/Object;" } : Jvm.MethodName)) ∈ lw_tbl := lw_at lw_m4 233 rfl
theorem q3191 : (Jvm.Cond.static ({ cls := "java/util/List", name := "of", desc := "(Ljava/lang/Object;Ljava/lang/Object;Ljava/lang/Object;Ljava/lang/Object;Ljava/lang/Object;Ljava/lang/Object;)Ljava/util/List;" } : Jvm.MethodName)) ∈ lw_all := lw_g (lw_at lw_m13 205 rfl) rfl
theorem q3192 : (Jvm.Cond.code ({ cls := "java/util/List", name := "of", desc := "(Ljava/lang/Object;Ljava/lang/Object;Ljava/lang/Object;Ljava/lang/Object;Ljava/lang/Object;Ljava/lang/Object;)Ljava/util/List;" } : Jvm.MethodName) prog_89_method_42_code (6 : Nat) (Option.some (Jvm.ClassFile.FieldType.object "java/util/List"))) ∈ lw_all := lw_g (lw_at lw_m13 206 rfl) rfl
theorem q3193 : (Jvm.Cond.classLink "java/util/List" (103 : Nat) "java/lang/Object") ∈ lw_all := lw_g (lw_at lw_m13 207 rfl) rfl
theorem q3194 : (Jvm.Cond.methodLink "java/util/List" (105 : Nat) ({ cls := "java/util/ImmutableCollections", name := "listFromTrustedArray", desc := "([Ljava/lang/Object;)Ljava/util/List;" } : Jvm.MethodName)) ∈ lw_all := lw_g (lw_at lw_m13 208 rfl) rfl
theorem q3300 : (Jvm.Cond.interfaceMethod "java/util/List" "java/util/List" "iterator" "()Ljava/util/Iterator;") ∈ lw_tbl := lw_at lw_m14 74 rfl
theorem q3301 : (Jvm.Cond.declares ({ cls := "java/util/List", name := "iterator", desc := "()Ljava/util/Iterator;" } : Jvm.MethodName)) ∈ lw_tbl := lw_at lw_m14 75 rfl

/-! java/util/ImmutableCollections$AbstractImmutableCollection -/
set_option maxRecDepth 100000
def RJ50 : String := "java/util/ImmutableCollections$AbstractImmutableCollection"
abbrev cJ50_init : ByteArray := prog_80_method_1_code
def yJ50_init : MethodName := ⟨RJ50, "<init>", "()V"⟩
theorem dJ50_init_0 : decode cJ50_init 0 = .ok (.aload_n 0, 1) := by decide +kernel
theorem dJ50_init_1 : decode cJ50_init 1 = .ok (.invokespecial 1, 3) := by decide +kernel
theorem dJ50_init_4 : decode cJ50_init 4 = .ok (.return_, 1) := by decide +kernel
theorem q189 : (Jvm.Cond.initialized "java/util/ImmutableCollections$AbstractImmutableCollection") ∈ lw_all := lw_g (lw_at lw_m1 83 rfl) rfl
theorem q3213 : (Jvm.Cond.instanceMethod ({ cls := "java/util/ImmutableCollections$AbstractImmutableCollection", name := "<init>", desc := "()V" } : Jvm.MethodName)) ∈ lw_all := lw_g (lw_at lw_m13 227 rfl) rfl
theorem q3214 : (Jvm.Cond.code ({ cls := "java/util/ImmutableCollections$AbstractImmutableCollection", name := "<init>", desc := "()V" } : Jvm.MethodName) prog_80_method_1_code (1 : Nat) (Option.none : Option Jvm.ClassFile.FieldType)) ∈ lw_all := lw_g (lw_at lw_m13 228 rfl) rfl
theorem q3215 : (Jvm.Cond.methodLink "java/util/ImmutableCollections$AbstractImmutableCollection" (1 : Nat) ({ cls := "java/util/AbstractCollection", name := "<init>", desc := "()V" } : Jvm.MethodName)) ∈ lw_all := lw_g (lw_at lw_m13 229 rfl) rfl

/-! java/util/ImmutableCollections$AbstractImmutableList -/
set_option maxRecDepth 100000
def RJ51 : String := "java/util/ImmutableCollections$AbstractImmutableList"
abbrev cJ51_outOfBounds : ByteArray := prog_81_method_17_code
def yJ51_outOfBounds : MethodName := ⟨RJ51, "outOfBounds", "(I)Ljava/lang/IndexOutOfBoundsException;"⟩
def dkwJ51_outOfBounds_1 : List UInt8 := [182, 0, 36, 42, 182, 0, 13, 182, 0, 40, 182, 0, 43, 183, 0, 47, 176]
abbrev dktJ51_outOfBounds_1 : List UInt8 := dkwJ51_outOfBounds_1 ++ []
def dkwJ51_outOfBounds_0 : List UInt8 := [187, 0, 29, 89, 187, 0, 31, 89, 183, 0, 33, 18, 116, 182, 0, 36, 27, 182, 0, 40, 18, 118]
abbrev dktJ51_outOfBounds_0 : List UInt8 := dkwJ51_outOfBounds_0 ++ dktJ51_outOfBounds_1
theorem dksJ51_outOfBounds_0 : cJ51_outOfBounds.data.toList.drop 0 = dktJ51_outOfBounds_0 := by decide +kernel
theorem dksJ51_outOfBounds_1 : cJ51_outOfBounds.data.toList.drop 22 = dktJ51_outOfBounds_1 := dk_seg dksJ51_outOfBounds_0 22 rfl rfl
theorem dJ51_outOfBounds_0 : decode cJ51_outOfBounds 0 = .ok (.new 29, 3) := dk_187 0 29 (dk_at dksJ51_outOfBounds_0 0 rfl rfl)
theorem dJ51_outOfBounds_3 : decode cJ51_outOfBounds 3 = .ok (.dup, 1) := dk_89 (dk_at dksJ51_outOfBounds_0 3 rfl rfl)
theorem dJ51_outOfBounds_4 : decode cJ51_outOfBounds 4 = .ok (.new 31, 3) := dk_187 0 31 (dk_at dksJ51_outOfBounds_0 4 rfl rfl)
theorem dJ51_outOfBounds_7 : decode cJ51_outOfBounds 7 = .ok (.dup, 1) := dk_89 (dk_at dksJ51_outOfBounds_0 7 rfl rfl)
theorem dJ51_outOfBounds_8 : decode cJ51_outOfBounds 8 = .ok (.invokespecial 33, 3) := dk_183 0 33 (dk_at dksJ51_outOfBounds_0 8 rfl rfl)
theorem dJ51_outOfBounds_11 : decode cJ51_outOfBounds 11 = .ok (.ldc 116, 2) := dk_18 116 (dk_at dksJ51_outOfBounds_0 11 rfl rfl)
theorem dJ51_outOfBounds_13 : decode cJ51_outOfBounds 13 = .ok (.invokevirtual 36, 3) := dk_182 0 36 (dk_at dksJ51_outOfBounds_0 13 rfl rfl)
theorem dJ51_outOfBounds_16 : decode cJ51_outOfBounds 16 = .ok (.iload_n 1, 1) := dk_27 (dk_at dksJ51_outOfBounds_0 16 rfl rfl)
theorem dJ51_outOfBounds_17 : decode cJ51_outOfBounds 17 = .ok (.invokevirtual 40, 3) := dk_182 0 40 (dk_at dksJ51_outOfBounds_0 17 rfl rfl)
theorem dJ51_outOfBounds_20 : decode cJ51_outOfBounds 20 = .ok (.ldc 118, 2) := dk_18 118 (dk_at dksJ51_outOfBounds_0 20 rfl rfl)
theorem dJ51_outOfBounds_22 : decode cJ51_outOfBounds 22 = .ok (.invokevirtual 36, 3) := dk_182 0 36 (dk_at dksJ51_outOfBounds_1 0 rfl rfl)
theorem dJ51_outOfBounds_25 : decode cJ51_outOfBounds 25 = .ok (.aload_n 0, 1) := dk_42 (dk_at dksJ51_outOfBounds_1 3 rfl rfl)
theorem dJ51_outOfBounds_26 : decode cJ51_outOfBounds 26 = .ok (.invokevirtual 13, 3) := dk_182 0 13 (dk_at dksJ51_outOfBounds_1 4 rfl rfl)
theorem dJ51_outOfBounds_29 : decode cJ51_outOfBounds 29 = .ok (.invokevirtual 40, 3) := dk_182 0 40 (dk_at dksJ51_outOfBounds_1 7 rfl rfl)
theorem dJ51_outOfBounds_32 : decode cJ51_outOfBounds 32 = .ok (.invokevirtual 43, 3) := dk_182 0 43 (dk_at dksJ51_outOfBounds_1 10 rfl rfl)
theorem dJ51_outOfBounds_35 : decode cJ51_outOfBounds 35 = .ok (.invokespecial 47, 3) := dk_183 0 47 (dk_at dksJ51_outOfBounds_1 13 rfl rfl)
theorem dJ51_outOfBounds_38 : decode cJ51_outOfBounds 38 = .ok (.areturn, 1) := dk_176 (dk_at dksJ51_outOfBounds_1 16 rfl rfl)
abbrev cJ51_iterator : ByteArray := prog_81_method_10_code
def yJ51_iterator : MethodName := ⟨RJ51, "iterator", "()Ljava/util/Iterator;"⟩
def dkwJ51_iterator_0 : List UInt8 := [187, 0, 61, 89, 42, 42, 182, 0, 13, 183, 0, 63, 176]
abbrev dktJ51_iterator_0 : List UInt8 := dkwJ51_iterator_0 ++ []
theorem dksJ51_iterator_0 : cJ51_iterator.data.toList.drop 0 = dktJ51_iterator_0 := by decide +kernel
theorem dJ51_iterator_0 : decode cJ51_iterator 0 = .ok (.new 61, 3) := dk_187 0 61 (dk_at dksJ51_iterator_0 0 rfl rfl)
theorem dJ51_iterator_3 : decode cJ51_iterator 3 = .ok (.dup, 1) := dk_89 (dk_at dksJ51_iterator_0 3 rfl rfl)
theorem dJ51_iterator_4 : decode cJ51_iterator 4 = .ok (.aload_n 0, 1) := dk_42 (dk_at dksJ51_iterator_0 4 rfl rfl)
theorem dJ51_iterator_5 : decode cJ51_iterator 5 = .ok (.aload_n 0, 1) := dk_42 (dk_at dksJ51_iterator_0 5 rfl rfl)
theorem dJ51_iterator_6 : decode cJ51_iterator 6 = .ok (.invokevirtual 13, 3) := dk_182 0 13 (dk_at dksJ51_iterator_0 6 rfl rfl)
theorem dJ51_iterator_9 : decode cJ51_iterator 9 = .ok (.invokespecial 63, 3) := dk_183 0 63 (dk_at dksJ51_iterator_0 9 rfl rfl)
theorem dJ51_iterator_12 : decode cJ51_iterator 12 = .ok (.areturn, 1) := dk_176 (dk_at dksJ51_iterator_0 12 rfl rfl)
abbrev cJ51_init : ByteArray := prog_81_method_1_code
def yJ51_init : MethodName := ⟨RJ51, "<init>", "()V"⟩
theorem dJ51_init_0 : decode cJ51_init 0 = .ok (.aload_n 0, 1) := by decide +kernel
theorem dJ51_init_1 : decode cJ51_init 1 = .ok (.invokespecial 1, 3) := by decide +kernel
theorem dJ51_init_4 : decode cJ51_init 4 = .ok (.return_, 1) := by decide +kernel
theorem q190 : (Jvm.Cond.initialized "java/util/ImmutableCollections$AbstractImmutableList") ∈ lw_all := lw_g (lw_at lw_m1 84 rfl) rfl
theorem q1074 : (Jvm.Cond.declares ({ cls := "java/util/ImmutableCollections$AbstractImmutableList", name := "outOfBounds", desc := "(I)Ljava/lang/IndexOutOfBoundsException;" } : Jvm.MethodName)) ∈ lw_tbl := lw_at lw_m5 8 rfl
theorem q1076 : (Jvm.Cond.instanceMethod ({ cls := "java/util/ImmutableCollections$AbstractImmutableList", name := "outOfBounds", desc := "(I)Ljava/lang/IndexOutOfBoundsException;" } : Jvm.MethodName)) ∈ lw_all := lw_g (lw_at lw_m5 10 rfl) rfl
theorem q1077 : (Jvm.Cond.code ({ cls := "java/util/ImmutableCollections$AbstractImmutableList", name := "outOfBounds", desc := "(I)Ljava/lang/IndexOutOfBoundsException;" } : Jvm.MethodName) prog_81_method_17_code (2 : Nat) (Option.some (Jvm.ClassFile.FieldType.object "java/lang/IndexOutOfBoundsException"))) ∈ lw_all := lw_g (lw_at lw_m5 11 rfl) rfl
theorem q1078 : (Jvm.Cond.classLink "java/util/ImmutableCollections$AbstractImmutableList" (29 : Nat) "java/lang/IndexOutOfBoundsException") ∈ lw_all := lw_g (lw_at lw_m5 12 rfl) rfl
theorem q1079 : (Jvm.Cond.classLink "java/util/ImmutableCollections$AbstractImmutableList" (31 : Nat) "java/lang/StringBuilder") ∈ lw_all := lw_g (lw_at lw_m5 13 rfl) rfl
theorem q1080 : (Jvm.Cond.methodLink "java/util/ImmutableCollections$AbstractImmutableList" (33 : Nat) ({ cls := "java/lang/StringBuilder", name := "<init>", desc := "()V" } : Jvm.MethodName)) ∈ lw_all := lw_g (lw_at lw_m5 14 rfl) rfl
theorem q1081 : (Jvm.Cond.stringRef "java/util/ImmutableCollections$AbstractImmutableList" (116 : Nat) "Index: ") ∈ lw_tbl := lw_at lw_m5 15 rfl
theorem q1082 : (Jvm.Cond.methodLink "java/util/ImmutableCollections$AbstractImmutableList" (36 : Nat) ({ cls := "java/lang/StringBuilder", name := "append", desc := "(Ljava/lang/String;)Ljava/lang/StringBuilder;" } : Jvm.MethodName)) ∈ lw_all := lw_g (lw_at lw_m5 16 rfl) rfl
theorem q1083 : (Jvm.Cond.methodLink "java/util/ImmutableCollections$AbstractImmutableList" (40 : Nat) ({ cls := "java/lang/StringBuilder", name := "append", desc := "(I)Ljava/lang/StringBuilder;" } : Jvm.MethodName)) ∈ lw_all := lw_g (lw_at lw_m5 17 rfl) rfl
theorem q1084 : (Jvm.Cond.stringRef "java/util/ImmutableCollections$AbstractImmutableList" (118 : Nat) " Size: ") ∈ lw_tbl := lw_at lw_m5 18 rfl
theorem q1085 : (Jvm.Cond.methodLink "java/util/ImmutableCollections$AbstractImmutableList" (13 : Nat) ({ cls := "java/util/ImmutableCollections$AbstractImmutableList", name := "size", desc := "()I" } : Jvm.MethodName)) ∈ lw_all := lw_g (lw_at lw_m5 19 rfl) rfl
theorem q1086 : (Jvm.Cond.sameMethod "java/util/ImmutableCollections$AbstractImmutableList" "java/util/AbstractCollection" "size" "()I") ∈ lw_all := lw_g (lw_at lw_m5 20 rfl) rfl
theorem q1093 : (Jvm.Cond.methodLink "java/util/ImmutableCollections$AbstractImmutableList" (43 : Nat) ({ cls := "java/lang/StringBuilder", name := "toString", desc := "()Ljava/lang/String;" } : Jvm.MethodName)) ∈ lw_all := lw_g (lw_at lw_m5 27 rfl) rfl
theorem q1094 : (Jvm.Cond.methodLink "java/util/ImmutableCollections$AbstractImmutableList" (47 : Nat) ({ cls := "java/lang/IndexOutOfBoundsException", name := "<init>", desc := "(Ljava/lang/String;)V" } : Jvm.MethodName)) ∈ lw_all := lw_g (lw_at lw_m5 28 rfl) rfl
theorem q2532 : (Jvm.Cond.instanceMethod ({ cls := "java/util/ImmutableCollections$AbstractImmutableList", name := "iterator", desc := "()Ljava/util/Iterator;" } : Jvm.MethodName)) ∈ lw_all := lw_g (lw_at lw_m11 26 rfl) rfl
theorem q2533 : (Jvm.Cond.publicMethod ({ cls := "java/util/ImmutableCollections$AbstractImmutableList", name := "iterator", desc := "()Ljava/util/Iterator;" } : Jvm.MethodName)) ∈ lw_tbl := lw_at lw_m11 27 rfl
theorem q2534 : (Jvm.Cond.code ({ cls := "java/util/ImmutableCollections$AbstractImmutableList", name := "iterator", desc := "()Ljava/util/Iterator;" } : Jvm.MethodName) prog_81_method_10_code (1 : Nat) (Option.some (Jvm.ClassFile.FieldType.object "java/util/Iterator"))) ∈ lw_all := lw_g (lw_at lw_m11 28 rfl) rfl
theorem q2535 : (Jvm.Cond.classLink "java/util/ImmutableCollections$AbstractImmutableList" (61 : Nat) "java/util/ImmutableCollections$ListItr") ∈ lw_all := lw_g (lw_at lw_m11 29 rfl) rfl
theorem q2537 : (Jvm.Cond.methodLink "java/util/ImmutableCollections$AbstractImmutableList" (63 : Nat) ({ cls := "java/util/ImmutableCollections$ListItr", name := "<init>", desc := "(Ljava/util/List;I)V" } : Jvm.MethodName)) ∈ lw_all := lw_g (lw_at lw_m11 31 rfl) rfl
theorem q3210 : (Jvm.Cond.instanceMethod ({ cls := "java/util/ImmutableCollections$AbstractImmutableList", name := "<init>", desc := "()V" } : Jvm.MethodName)) ∈ lw_all := lw_g (lw_at lw_m13 224 rfl) rfl
theorem q3211 : (Jvm.Cond.code ({ cls := "java/util/ImmutableCollections$AbstractImmutableList", name := "<init>", desc := "()V" } : Jvm.MethodName) prog_81_method_1_code (1 : Nat) (Option.none : Option Jvm.ClassFile.FieldType)) ∈ lw_all := lw_g (lw_at lw_m13 225 rfl) rfl
theorem q3212 : (Jvm.Cond.methodLink "java/util/ImmutableCollections$AbstractImmutableList" (1 : Nat) ({ cls := "java/util/ImmutableCollections$AbstractImmutableCollection", name := "<init>", desc := "()V" } : Jvm.MethodName)) ∈ lw_all := lw_g (lw_at lw_m13 226 rfl) rfl

/-! java/util/ImmutableCollections$List12 -/
set_option maxRecDepth 100000
def RJ52 : String := "java/util/ImmutableCollections$List12"
def TJ52 : u_T := fun k => match k with
  | 0 => ("java/util/ImmutableCollections$List12", "e0", "Ljava/lang/Object;", true)
  | _ => ("java/util/ImmutableCollections$List12", "e1", "Ljava/lang/Object;", true)
def tyJ52 : Nat → FieldType := fun k => match k with
  | 0 => .object "java/lang/Object"
  | _ => .object "java/lang/Object"
abbrev wsJ520 : List Cond := u_ws RJ52 TJ52 2
theorem nmJ52 : ∀ a, a < 2 → ∀ b, b < 2 → a ≠ b → (TJ52 a).2.1 ≠ (TJ52 b).2.1 := by decide +kernel
theorem tyJ52_ok : ∀ k, k < 2 → parseFieldDescriptor (TJ52 k).2.2.1 = some (tyJ52 k) := by decide +kernel
abbrev cJ52_get : ByteArray := prog_82_method_5_code
def yJ52_get : MethodName := ⟨RJ52, "get", "(I)Ljava/lang/Object;"⟩
def dkwJ52_get_1 : List UInt8 := [42, 180, 0, 24, 176, 42, 27, 182, 0, 27, 191]
abbrev dktJ52_get_1 : List UInt8 := dkwJ52_get_1 ++ []
def dkwJ52_get_0 : List UInt8 := [27, 154, 0, 8, 42, 180, 0, 13, 176, 27, 4, 160, 0, 18, 42, 180, 0, 24, 178, 0, 19, 165, 0, 8]
abbrev dktJ52_get_0 : List UInt8 := dkwJ52_get_0 ++ dktJ52_get_1
theorem dksJ52_get_0 : cJ52_get.data.toList.drop 0 = dktJ52_get_0 := by decide +kernel
theorem dksJ52_get_1 : cJ52_get.data.toList.drop 24 = dktJ52_get_1 := dk_seg dksJ52_get_0 24 rfl rfl
theorem dJ52_get_0 : decode cJ52_get 0 = .ok (.iload_n 1, 1) := dk_27 (dk_at dksJ52_get_0 0 rfl rfl)
theorem dJ52_get_1 : decode cJ52_get 1 = .ok (.ifCond .ne 8, 3) := dk_154 0 8 (dk_at dksJ52_get_0 1 rfl rfl)
theorem dJ52_get_4 : decode cJ52_get 4 = .ok (.aload_n 0, 1) := dk_42 (dk_at dksJ52_get_0 4 rfl rfl)
theorem dJ52_get_5 : decode cJ52_get 5 = .ok (.getfield 13, 3) := dk_180 0 13 (dk_at dksJ52_get_0 5 rfl rfl)
theorem dJ52_get_8 : decode cJ52_get 8 = .ok (.areturn, 1) := dk_176 (dk_at dksJ52_get_0 8 rfl rfl)
theorem dJ52_get_9 : decode cJ52_get 9 = .ok (.iload_n 1, 1) := dk_27 (dk_at dksJ52_get_0 9 rfl rfl)
theorem dJ52_get_10 : decode cJ52_get 10 = .ok (.iconst 1, 1) := dk_4 (dk_at dksJ52_get_0 10 rfl rfl)
theorem dJ52_get_11 : decode cJ52_get 11 = .ok (.if_icmp .ne 18, 3) := dk_160 0 18 (dk_at dksJ52_get_0 11 rfl rfl)
theorem dJ52_get_14 : decode cJ52_get 14 = .ok (.aload_n 0, 1) := dk_42 (dk_at dksJ52_get_0 14 rfl rfl)
theorem dJ52_get_15 : decode cJ52_get 15 = .ok (.getfield 24, 3) := dk_180 0 24 (dk_at dksJ52_get_0 15 rfl rfl)
theorem dJ52_get_18 : decode cJ52_get 18 = .ok (.getstatic 19, 3) := dk_178 0 19 (dk_at dksJ52_get_0 18 rfl rfl)
theorem dJ52_get_21 : decode cJ52_get 21 = .ok (.if_acmp .eq 8, 3) := dk_165 0 8 (dk_at dksJ52_get_0 21 rfl rfl)
theorem dJ52_get_24 : decode cJ52_get 24 = .ok (.aload_n 0, 1) := dk_42 (dk_at dksJ52_get_1 0 rfl rfl)
theorem dJ52_get_25 : decode cJ52_get 25 = .ok (.getfield 24, 3) := dk_180 0 24 (dk_at dksJ52_get_1 1 rfl rfl)
theorem dJ52_get_28 : decode cJ52_get 28 = .ok (.areturn, 1) := dk_176 (dk_at dksJ52_get_1 4 rfl rfl)
theorem dJ52_get_29 : decode cJ52_get 29 = .ok (.aload_n 0, 1) := dk_42 (dk_at dksJ52_get_1 5 rfl rfl)
theorem dJ52_get_30 : decode cJ52_get 30 = .ok (.iload_n 1, 1) := dk_27 (dk_at dksJ52_get_1 6 rfl rfl)
theorem dJ52_get_31 : decode cJ52_get 31 = .ok (.invokevirtual 27, 3) := dk_182 0 27 (dk_at dksJ52_get_1 7 rfl rfl)
theorem dJ52_get_34 : decode cJ52_get 34 = .ok (.athrow, 1) := dk_191 (dk_at dksJ52_get_1 10 rfl rfl)
abbrev cJ52_size : ByteArray := prog_82_method_3_code
def yJ52_size : MethodName := ⟨RJ52, "size", "()I"⟩
def dkwJ52_size_0 : List UInt8 := [42, 180, 0, 24, 178, 0, 19, 165, 0, 7, 5, 167, 0, 4, 4, 172]
abbrev dktJ52_size_0 : List UInt8 := dkwJ52_size_0 ++ []
theorem dksJ52_size_0 : cJ52_size.data.toList.drop 0 = dktJ52_size_0 := by decide +kernel
theorem dJ52_size_0 : decode cJ52_size 0 = .ok (.aload_n 0, 1) := dk_42 (dk_at dksJ52_size_0 0 rfl rfl)
theorem dJ52_size_1 : decode cJ52_size 1 = .ok (.getfield 24, 3) := dk_180 0 24 (dk_at dksJ52_size_0 1 rfl rfl)
theorem dJ52_size_4 : decode cJ52_size 4 = .ok (.getstatic 19, 3) := dk_178 0 19 (dk_at dksJ52_size_0 4 rfl rfl)
theorem dJ52_size_7 : decode cJ52_size 7 = .ok (.if_acmp .eq 7, 3) := dk_165 0 7 (dk_at dksJ52_size_0 7 rfl rfl)
theorem dJ52_size_10 : decode cJ52_size 10 = .ok (.iconst 2, 1) := dk_5 (dk_at dksJ52_size_0 10 rfl rfl)
theorem dJ52_size_11 : decode cJ52_size 11 = .ok (.goto 4, 3) := dk_167 0 4 (dk_at dksJ52_size_0 11 rfl rfl)
theorem dJ52_size_14 : decode cJ52_size 14 = .ok (.iconst 1, 1) := dk_4 (dk_at dksJ52_size_0 14 rfl rfl)
theorem dJ52_size_15 : decode cJ52_size 15 = .ok (.ireturn, 1) := dk_172 (dk_at dksJ52_size_0 15 rfl rfl)
abbrev cJ52_init : ByteArray := prog_82_method_1_code
def yJ52_init : MethodName := ⟨RJ52, "<init>", "(Ljava/lang/Object;)V"⟩
def dkwJ52_init_0 : List UInt8 := [42, 183, 0, 1, 42, 43, 184, 0, 7, 181, 0, 13, 42, 178, 0, 19, 181, 0, 24, 177]
abbrev dktJ52_init_0 : List UInt8 := dkwJ52_init_0 ++ []
theorem dksJ52_init_0 : cJ52_init.data.toList.drop 0 = dktJ52_init_0 := by decide +kernel
theorem dJ52_init_0 : decode cJ52_init 0 = .ok (.aload_n 0, 1) := dk_42 (dk_at dksJ52_init_0 0 rfl rfl)
theorem dJ52_init_1 : decode cJ52_init 1 = .ok (.invokespecial 1, 3) := dk_183 0 1 (dk_at dksJ52_init_0 1 rfl rfl)
theorem dJ52_init_4 : decode cJ52_init 4 = .ok (.aload_n 0, 1) := dk_42 (dk_at dksJ52_init_0 4 rfl rfl)
theorem dJ52_init_5 : decode cJ52_init 5 = .ok (.aload_n 1, 1) := dk_43 (dk_at dksJ52_init_0 5 rfl rfl)
theorem dJ52_init_6 : decode cJ52_init 6 = .ok (.invokestatic 7, 3) := dk_184 0 7 (dk_at dksJ52_init_0 6 rfl rfl)
theorem dJ52_init_9 : decode cJ52_init 9 = .ok (.putfield 13, 3) := dk_181 0 13 (dk_at dksJ52_init_0 9 rfl rfl)
theorem dJ52_init_12 : decode cJ52_init 12 = .ok (.aload_n 0, 1) := dk_42 (dk_at dksJ52_init_0 12 rfl rfl)
theorem dJ52_init_13 : decode cJ52_init 13 = .ok (.getstatic 19, 3) := dk_178 0 19 (dk_at dksJ52_init_0 13 rfl rfl)
theorem dJ52_init_16 : decode cJ52_init 16 = .ok (.putfield 24, 3) := dk_181 0 24 (dk_at dksJ52_init_0 16 rfl rfl)
theorem dJ52_init_19 : decode cJ52_init 19 = .ok (.return_, 1) := dk_177 (dk_at dksJ52_init_0 19 rfl rfl)
abbrev cJ52_init_2 : ByteArray := prog_82_method_2_code
def yJ52_init_2 : MethodName := ⟨RJ52, "<init>", "(Ljava/lang/Object;Ljava/lang/Object;)V"⟩
def dkwJ52_init_2_0 : List UInt8 := [42, 183, 0, 1, 42, 43, 184, 0, 7, 181, 0, 13, 42, 44, 184, 0, 7, 181, 0, 24, 177]
abbrev dktJ52_init_2_0 : List UInt8 := dkwJ52_init_2_0 ++ []
theorem dksJ52_init_2_0 : cJ52_init_2.data.toList.drop 0 = dktJ52_init_2_0 := by decide +kernel
theorem dJ52_init_2_0 : decode cJ52_init_2 0 = .ok (.aload_n 0, 1) := dk_42 (dk_at dksJ52_init_2_0 0 rfl rfl)
theorem dJ52_init_2_1 : decode cJ52_init_2 1 = .ok (.invokespecial 1, 3) := dk_183 0 1 (dk_at dksJ52_init_2_0 1 rfl rfl)
theorem dJ52_init_2_4 : decode cJ52_init_2 4 = .ok (.aload_n 0, 1) := dk_42 (dk_at dksJ52_init_2_0 4 rfl rfl)
theorem dJ52_init_2_5 : decode cJ52_init_2 5 = .ok (.aload_n 1, 1) := dk_43 (dk_at dksJ52_init_2_0 5 rfl rfl)
theorem dJ52_init_2_6 : decode cJ52_init_2 6 = .ok (.invokestatic 7, 3) := dk_184 0 7 (dk_at dksJ52_init_2_0 6 rfl rfl)
theorem dJ52_init_2_9 : decode cJ52_init_2 9 = .ok (.putfield 13, 3) := dk_181 0 13 (dk_at dksJ52_init_2_0 9 rfl rfl)
theorem dJ52_init_2_12 : decode cJ52_init_2 12 = .ok (.aload_n 0, 1) := dk_42 (dk_at dksJ52_init_2_0 12 rfl rfl)
theorem dJ52_init_2_13 : decode cJ52_init_2 13 = .ok (.aload_n 2, 1) := dk_44 (dk_at dksJ52_init_2_0 13 rfl rfl)
theorem dJ52_init_2_14 : decode cJ52_init_2 14 = .ok (.invokestatic 7, 3) := dk_184 0 7 (dk_at dksJ52_init_2_0 14 rfl rfl)
theorem dJ52_init_2_17 : decode cJ52_init_2 17 = .ok (.putfield 24, 3) := dk_181 0 24 (dk_at dksJ52_init_2_0 17 rfl rfl)
theorem dJ52_init_2_20 : decode cJ52_init_2 20 = .ok (.return_, 1) := dk_177 (dk_at dksJ52_init_2_0 20 rfl rfl)
theorem q191 : (Jvm.Cond.initialized "java/util/ImmutableCollections$List12") ∈ lw_all := lw_g (lw_at lw_m1 85 rfl) rfl
theorem q962 : (Jvm.Cond.selects "java/util/ImmutableCollections$List12" ({ cls := "java/lang/Object", name := "getClass", desc := "()Ljava/lang/Class;" } : Jvm.MethodName) ({ cls := "java/lang/Object", name := "getClass", desc := "()Ljava/lang/Class;" } : Jvm.MethodName)) ∈ lw_all := lw_g (lw_at lw_m4 136 rfl) rfl
theorem q1064 : (Jvm.Cond.castable "java/util/ImmutableCollections$List12" "java/util/List") ∈ lw_tbl := lw_at lw_m4 238 rfl
theorem q1065 : (Jvm.Cond.selects "java/util/ImmutableCollections$List12" ({ cls := "java/util/List", name := "get", desc := "(I)Ljava/lang/Object;" } : Jvm.MethodName) ({ cls := "java/util/ImmutableCollections$List12", name := "get", desc := "(I)Ljava/lang/Object;" } : Jvm.MethodName)) ∈ lw_all := lw_g (lw_at lw_m4 239 rfl) rfl
theorem q1066 : (Jvm.Cond.unhidden "java/util/ImmutableCollections$List12" "get" "(I)Ljava/lang/Object;") ∈ lw_tbl := lw_at lw_m5 0 rfl
theorem q1067 : (Jvm.Cond.instanceMethod ({ cls := "java/util/ImmutableCollections$List12", name := "get", desc := "(I)Ljava/lang/Object;" } : Jvm.MethodName)) ∈ lw_all := lw_g (lw_at lw_m5 1 rfl) rfl
theorem q1068 : (Jvm.Cond.publicMethod ({ cls := "java/util/ImmutableCollections$List12", name := "get", desc := "(I)Ljava/lang/Object;" } : Jvm.MethodName)) ∈ lw_tbl := lw_at lw_m5 2 rfl
theorem q1069 : (Jvm.Cond.code ({ cls := "java/util/ImmutableCollections$List12", name := "get", desc := "(I)Ljava/lang/Object;" } : Jvm.MethodName) prog_82_method_5_code (2 : Nat) (Option.some (Jvm.ClassFile.FieldType.object "java/lang/Object"))) ∈ lw_all := lw_g (lw_at lw_m5 3 rfl) rfl
theorem q1070 : (Jvm.Cond.fieldLinkNest "java/util/ImmutableCollections$List12" (19 : Nat) "java/util/ImmutableCollections" "EMPTY" "Ljava/lang/Object;" "java/util/ImmutableCollections") ∈ lw_tbl := lw_at lw_m5 4 rfl
theorem q1072 : (Jvm.Cond.methodLink "java/util/ImmutableCollections$List12" (27 : Nat) ({ cls := "java/util/ImmutableCollections$List12", name := "outOfBounds", desc := "(I)Ljava/lang/IndexOutOfBoundsException;" } : Jvm.MethodName)) ∈ lw_all := lw_g (lw_at lw_m5 6 rfl) rfl
theorem q1073 : (Jvm.Cond.sameMethod "java/util/ImmutableCollections$List12" "java/util/ImmutableCollections$AbstractImmutableList" "outOfBounds" "(I)Ljava/lang/IndexOutOfBoundsException;") ∈ lw_all := lw_g (lw_at lw_m5 7 rfl) rfl
theorem q1075 : (Jvm.Cond.selects "java/util/ImmutableCollections$List12" ({ cls := "java/util/ImmutableCollections$List12", name := "outOfBounds", desc := "(I)Ljava/lang/IndexOutOfBoundsException;" } : Jvm.MethodName) ({ cls := "java/util/ImmutableCollections$AbstractImmutableList", name := "outOfBounds", desc := "(I)Ljava/lang/IndexOutOfBoundsException;" } : Jvm.MethodName)) ∈ lw_all := lw_g (lw_at lw_m5 9 rfl) rfl
theorem q1087 : (Jvm.Cond.selects "java/util/ImmutableCollections$List12" ({ cls := "java/util/ImmutableCollections$AbstractImmutableList", name := "size", desc := "()I" } : Jvm.MethodName) ({ cls := "java/util/ImmutableCollections$List12", name := "size", desc := "()I" } : Jvm.MethodName)) ∈ lw_all := lw_g (lw_at lw_m5 21 rfl) rfl
theorem q1088 : (Jvm.Cond.instanceMethod ({ cls := "java/util/ImmutableCollections$List12", name := "size", desc := "()I" } : Jvm.MethodName)) ∈ lw_all := lw_g (lw_at lw_m5 22 rfl) rfl
theorem q1089 : (Jvm.Cond.code ({ cls := "java/util/ImmutableCollections$List12", name := "size", desc := "()I" } : Jvm.MethodName) prog_82_method_3_code (1 : Nat) (Option.some Jvm.ClassFile.FieldType.int)) ∈ lw_all := lw_g (lw_at lw_m5 23 rfl) rfl
theorem q2529 : (Jvm.Cond.castable "java/util/ImmutableCollections$List12" "java/util/Collection") ∈ lw_tbl := lw_at lw_m11 23 rfl
theorem q2530 : (Jvm.Cond.selects "java/util/ImmutableCollections$List12" ({ cls := "java/util/Collection", name := "iterator", desc := "()Ljava/util/Iterator;" } : Jvm.MethodName) ({ cls := "java/util/ImmutableCollections$AbstractImmutableList", name := "iterator", desc := "()Ljava/util/Iterator;" } : Jvm.MethodName)) ∈ lw_all := lw_g (lw_at lw_m11 24 rfl) rfl
theorem q2531 : (Jvm.Cond.unhidden "java/util/ImmutableCollections$List12" "iterator" "()Ljava/util/Iterator;") ∈ lw_tbl := lw_at lw_m11 25 rfl
theorem q3205 : (Jvm.Cond.instantiable "java/util/ImmutableCollections$List12" (2 : Nat)) ∈ lw_all := lw_g (lw_at lw_m13 219 rfl) rfl
theorem q3207 : (Jvm.Cond.instanceMethod ({ cls := "java/util/ImmutableCollections$List12", name := "<init>", desc := "(Ljava/lang/Object;)V" } : Jvm.MethodName)) ∈ lw_all := lw_g (lw_at lw_m13 221 rfl) rfl
theorem q3208 : (Jvm.Cond.code ({ cls := "java/util/ImmutableCollections$List12", name := "<init>", desc := "(Ljava/lang/Object;)V" } : Jvm.MethodName) prog_82_method_1_code (2 : Nat) (Option.none : Option Jvm.ClassFile.FieldType)) ∈ lw_all := lw_g (lw_at lw_m13 222 rfl) rfl
theorem q3209 : (Jvm.Cond.methodLink "java/util/ImmutableCollections$List12" (1 : Nat) ({ cls := "java/util/ImmutableCollections$AbstractImmutableList", name := "<init>", desc := "()V" } : Jvm.MethodName)) ∈ lw_all := lw_g (lw_at lw_m13 223 rfl) rfl
theorem q3216 : (Jvm.Cond.methodLink "java/util/ImmutableCollections$List12" (7 : Nat) ({ cls := "java/util/Objects", name := "requireNonNull", desc := "(Ljava/lang/Object;)Ljava/lang/Object;" } : Jvm.MethodName)) ∈ lw_all := lw_g (lw_at lw_m13 230 rfl) rfl
theorem q3217 : (Jvm.Cond.fieldLink "java/util/ImmutableCollections$List12" (13 : Nat) "java/util/ImmutableCollections$List12" "e0" "Ljava/lang/Object;") ∈ lw_all := lw_g (lw_at lw_m13 231 rfl) rfl
theorem q3218 : (Jvm.Cond.fieldLink "java/util/ImmutableCollections$List12" (24 : Nat) "java/util/ImmutableCollections$List12" "e1" "Ljava/lang/Object;") ∈ lw_all := lw_g (lw_at lw_m13 232 rfl) rfl
theorem q3219 : (Jvm.Cond.laysFinal "java/util/ImmutableCollections$List12" "java/util/ImmutableCollections$List12" "e0" "Ljava/lang/Object;") ∈ lw_all := lw_g (lw_at lw_m13 233 rfl) rfl
theorem q3220 : (Jvm.Cond.soleField "java/util/ImmutableCollections$List12" "e0") ∈ lw_all := lw_g (lw_at lw_m13 234 rfl) rfl
theorem q3221 : (Jvm.Cond.laysFinal "java/util/ImmutableCollections$List12" "java/util/ImmutableCollections$List12" "e1" "Ljava/lang/Object;") ∈ lw_all := lw_g (lw_at lw_m13 235 rfl) rfl
theorem q3222 : (Jvm.Cond.soleField "java/util/ImmutableCollections$List12" "e1") ∈ lw_all := lw_g (lw_at lw_m13 236 rfl) rfl
theorem q3223 : (Jvm.Cond.superclass "java/util/ImmutableCollections$List12" "java/util/ImmutableCollections$AbstractImmutableList") ∈ lw_all := lw_g (lw_at lw_m13 237 rfl) rfl
theorem q3225 : (Jvm.Cond.instanceMethod ({ cls := "java/util/ImmutableCollections$List12", name := "<init>", desc := "(Ljava/lang/Object;Ljava/lang/Object;)V" } : Jvm.MethodName)) ∈ lw_all := lw_g (lw_at lw_m13 239 rfl) rfl
theorem q3226 : (Jvm.Cond.code ({ cls := "java/util/ImmutableCollections$List12", name := "<init>", desc := "(Ljava/lang/Object;Ljava/lang/Object;)V" } : Jvm.MethodName) prog_82_method_2_code (3 : Nat) (Option.none : Option Jvm.ClassFile.FieldType)) ∈ lw_all := lw_g (lw_at lw_m14 0 rfl) rfl
theorem q3303 : (Jvm.Cond.selects "java/util/ImmutableCollections$List12" ({ cls := "java/util/List", name := "iterator", desc := "()Ljava/util/Iterator;" } : Jvm.MethodName) ({ cls := "java/util/ImmutableCollections$AbstractImmutableList", name := "iterator", desc := "()Ljava/util/Iterator;" } : Jvm.MethodName)) ∈ lw_all := lw_g (lw_at lw_m14 77 rfl) rfl
theorem q4031 : (Jvm.Cond.castable "java/util/ImmutableCollections$List12" "java/lang/Object") ∈ lw_tbl := lw_at lw_m17 85 rfl
theorem in_J52 : ∀ w ∈ wsJ520, w ∈ lw_all := lw_in wsJ520 [3219, 3221] (by decide +kernel) (by decide +kernel)

/-! java/util/ImmutableCollections$ListN -/
set_option maxRecDepth 100000
def RJ53 : String := "java/util/ImmutableCollections$ListN"
def TJ53 : u_T := fun k => match k with
  | 0 => ("java/util/ImmutableCollections$ListN", "elements", "[Ljava/lang/Object;", true)
  | _ => ("java/util/ImmutableCollections$ListN", "allowNulls", "Z", true)
def tyJ53 : Nat → FieldType := fun k => match k with
  | 0 => .array (.object "java/lang/Object")
  | _ => .boolean
abbrev wsJ530 : List Cond := u_ws RJ53 TJ53 2
theorem nmJ53 : ∀ a, a < 2 → ∀ b, b < 2 → a ≠ b → (TJ53 a).2.1 ≠ (TJ53 b).2.1 := by decide +kernel
theorem tyJ53_ok : ∀ k, k < 2 → parseFieldDescriptor (TJ53 k).2.2.1 = some (tyJ53 k) := by decide +kernel
abbrev cJ53_size : ByteArray := prog_84_method_3_code
def yJ53_size : MethodName := ⟨RJ53, "size", "()I"⟩
def dkwJ53_size_0 : List UInt8 := [42, 180, 0, 7, 190, 172]
abbrev dktJ53_size_0 : List UInt8 := dkwJ53_size_0 ++ []
theorem dksJ53_size_0 : cJ53_size.data.toList.drop 0 = dktJ53_size_0 := by decide +kernel
theorem dJ53_size_0 : decode cJ53_size 0 = .ok (.aload_n 0, 1) := dk_42 (dk_at dksJ53_size_0 0 rfl rfl)
theorem dJ53_size_1 : decode cJ53_size 1 = .ok (.getfield 7, 3) := dk_180 0 7 (dk_at dksJ53_size_0 1 rfl rfl)
theorem dJ53_size_4 : decode cJ53_size 4 = .ok (.arraylength, 1) := dk_190 (dk_at dksJ53_size_0 4 rfl rfl)
theorem dJ53_size_5 : decode cJ53_size 5 = .ok (.ireturn, 1) := dk_172 (dk_at dksJ53_size_0 5 rfl rfl)
abbrev cJ53_get : ByteArray := prog_84_method_4_code
def yJ53_get : MethodName := ⟨RJ53, "get", "(I)Ljava/lang/Object;"⟩
def dkwJ53_get_0 : List UInt8 := [42, 180, 0, 7, 27, 50, 176]
abbrev dktJ53_get_0 : List UInt8 := dkwJ53_get_0 ++ []
theorem dksJ53_get_0 : cJ53_get.data.toList.drop 0 = dktJ53_get_0 := by decide +kernel
theorem dJ53_get_0 : decode cJ53_get 0 = .ok (.aload_n 0, 1) := dk_42 (dk_at dksJ53_get_0 0 rfl rfl)
theorem dJ53_get_1 : decode cJ53_get 1 = .ok (.getfield 7, 3) := dk_180 0 7 (dk_at dksJ53_get_0 1 rfl rfl)
theorem dJ53_get_4 : decode cJ53_get 4 = .ok (.iload_n 1, 1) := dk_27 (dk_at dksJ53_get_0 4 rfl rfl)
theorem dJ53_get_5 : decode cJ53_get 5 = .ok (.aaload, 1) := dk_50 (dk_at dksJ53_get_0 5 rfl rfl)
theorem dJ53_get_6 : decode cJ53_get 6 = .ok (.areturn, 1) := dk_176 (dk_at dksJ53_get_0 6 rfl rfl)
abbrev cJ53_init : ByteArray := prog_84_method_1_code
def yJ53_init : MethodName := ⟨RJ53, "<init>", "([Ljava/lang/Object;Z)V"⟩
def dkwJ53_init_0 : List UInt8 := [42, 183, 0, 1, 42, 43, 181, 0, 7, 42, 28, 181, 0, 13, 177]
abbrev dktJ53_init_0 : List UInt8 := dkwJ53_init_0 ++ []
theorem dksJ53_init_0 : cJ53_init.data.toList.drop 0 = dktJ53_init_0 := by decide +kernel
theorem dJ53_init_0 : decode cJ53_init 0 = .ok (.aload_n 0, 1) := dk_42 (dk_at dksJ53_init_0 0 rfl rfl)
theorem dJ53_init_1 : decode cJ53_init 1 = .ok (.invokespecial 1, 3) := dk_183 0 1 (dk_at dksJ53_init_0 1 rfl rfl)
theorem dJ53_init_4 : decode cJ53_init 4 = .ok (.aload_n 0, 1) := dk_42 (dk_at dksJ53_init_0 4 rfl rfl)
theorem dJ53_init_5 : decode cJ53_init 5 = .ok (.aload_n 1, 1) := dk_43 (dk_at dksJ53_init_0 5 rfl rfl)
theorem dJ53_init_6 : decode cJ53_init 6 = .ok (.putfield 7, 3) := dk_181 0 7 (dk_at dksJ53_init_0 6 rfl rfl)
theorem dJ53_init_9 : decode cJ53_init 9 = .ok (.aload_n 0, 1) := dk_42 (dk_at dksJ53_init_0 9 rfl rfl)
theorem dJ53_init_10 : decode cJ53_init 10 = .ok (.iload_n 2, 1) := dk_28 (dk_at dksJ53_init_0 10 rfl rfl)
theorem dJ53_init_11 : decode cJ53_init 11 = .ok (.putfield 13, 3) := dk_181 0 13 (dk_at dksJ53_init_0 11 rfl rfl)
theorem dJ53_init_14 : decode cJ53_init 14 = .ok (.return_, 1) := dk_177 (dk_at dksJ53_init_0 14 rfl rfl)
theorem q192 : (Jvm.Cond.initialized "java/util/ImmutableCollections$ListN") ∈ lw_all := lw_g (lw_at lw_m1 86 rfl) rfl
theorem q964 : (Jvm.Cond.selects "java/util/ImmutableCollections$ListN" ({ cls := "java/lang/Object", name := "getClass", desc := "()Ljava/lang/Class;" } : Jvm.MethodName) ({ cls := "java/lang/Object", name := "getClass", desc := "()Ljava/lang/Class;" } : Jvm.MethodName)) ∈ lw_all := lw_g (lw_at lw_m4 138 rfl) rfl
theorem q1090 : (Jvm.Cond.selects "java/util/ImmutableCollections$ListN" ({ cls := "java/util/ImmutableCollections$AbstractImmutableList", name := "size", desc := "()I" } : Jvm.MethodName) ({ cls := "java/util/ImmutableCollections$ListN", name := "size", desc := "()I" } : Jvm.MethodName)) ∈ lw_all := lw_g (lw_at lw_m5 24 rfl) rfl
theorem q1091 : (Jvm.Cond.instanceMethod ({ cls := "java/util/ImmutableCollections$ListN", name := "size", desc := "()I" } : Jvm.MethodName)) ∈ lw_all := lw_g (lw_at lw_m5 25 rfl) rfl
theorem q1092 : (Jvm.Cond.code ({ cls := "java/util/ImmutableCollections$ListN", name := "size", desc := "()I" } : Jvm.MethodName) prog_84_method_3_code (1 : Nat) (Option.some Jvm.ClassFile.FieldType.int)) ∈ lw_all := lw_g (lw_at lw_m5 26 rfl) rfl
theorem q1095 : (Jvm.Cond.castable "java/util/ImmutableCollections$ListN" "java/util/List") ∈ lw_tbl := lw_at lw_m5 29 rfl
theorem q1096 : (Jvm.Cond.selects "java/util/ImmutableCollections$ListN" ({ cls := "java/util/List", name := "get", desc := "(I)Ljava/lang/Object;" } : Jvm.MethodName) ({ cls := "java/util/ImmutableCollections$ListN", name := "get", desc := "(I)Ljava/lang/Object;" } : Jvm.MethodName)) ∈ lw_all := lw_g (lw_at lw_m5 30 rfl) rfl
theorem q1097 : (Jvm.Cond.unhidden "java/util/ImmutableCollections$ListN" "get" "(I)Ljava/lang/Object;") ∈ lw_tbl := lw_at lw_m5 31 rfl
theorem q1098 : (Jvm.Cond.instanceMethod ({ cls := "java/util/ImmutableCollections$ListN", name := "get", desc := "(I)Ljava/lang/Object;" } : Jvm.MethodName)) ∈ lw_all := lw_g (lw_at lw_m5 32 rfl) rfl
theorem q1099 : (Jvm.Cond.publicMethod ({ cls := "java/util/ImmutableCollections$ListN", name := "get", desc := "(I)Ljava/lang/Object;" } : Jvm.MethodName)) ∈ lw_tbl := lw_at lw_m5 33 rfl
theorem q1100 : (Jvm.Cond.code ({ cls := "java/util/ImmutableCollections$ListN", name := "get", desc := "(I)Ljava/lang/Object;" } : Jvm.MethodName) prog_84_method_4_code (2 : Nat) (Option.some (Jvm.ClassFile.FieldType.object "java/lang/Object"))) ∈ lw_all := lw_g (lw_at lw_m5 34 rfl) rfl
theorem q2554 : (Jvm.Cond.castable "java/util/ImmutableCollections$ListN" "java/util/Collection") ∈ lw_tbl := lw_at lw_m11 48 rfl
theorem q2555 : (Jvm.Cond.selects "java/util/ImmutableCollections$ListN" ({ cls := "java/util/Collection", name := "iterator", desc := "()Ljava/util/Iterator;" } : Jvm.MethodName) ({ cls := "java/util/ImmutableCollections$AbstractImmutableList", name := "iterator", desc := "()Ljava/util/Iterator;" } : Jvm.MethodName)) ∈ lw_all := lw_g (lw_at lw_m11 49 rfl) rfl
theorem q2556 : (Jvm.Cond.unhidden "java/util/ImmutableCollections$ListN" "iterator" "()Ljava/util/Iterator;") ∈ lw_tbl := lw_at lw_m11 50 rfl
theorem q3228 : (Jvm.Cond.instantiable "java/util/ImmutableCollections$ListN" (2 : Nat)) ∈ lw_all := lw_g (lw_at lw_m14 2 rfl) rfl
theorem q3230 : (Jvm.Cond.instanceMethod ({ cls := "java/util/ImmutableCollections$ListN", name := "<init>", desc := "([Ljava/lang/Object;Z)V" } : Jvm.MethodName)) ∈ lw_all := lw_g (lw_at lw_m14 4 rfl) rfl
theorem q3231 : (Jvm.Cond.code ({ cls := "java/util/ImmutableCollections$ListN", name := "<init>", desc := "([Ljava/lang/Object;Z)V" } : Jvm.MethodName) prog_84_method_1_code (3 : Nat) (Option.none : Option Jvm.ClassFile.FieldType)) ∈ lw_all := lw_g (lw_at lw_m14 5 rfl) rfl
theorem q3232 : (Jvm.Cond.methodLink "java/util/ImmutableCollections$ListN" (1 : Nat) ({ cls := "java/util/ImmutableCollections$AbstractImmutableList", name := "<init>", desc := "()V" } : Jvm.MethodName)) ∈ lw_all := lw_g (lw_at lw_m14 6 rfl) rfl
theorem q3233 : (Jvm.Cond.fieldLink "java/util/ImmutableCollections$ListN" (7 : Nat) "java/util/ImmutableCollections$ListN" "elements" "[Ljava/lang/Object;") ∈ lw_all := lw_g (lw_at lw_m14 7 rfl) rfl
theorem q3234 : (Jvm.Cond.fieldLink "java/util/ImmutableCollections$ListN" (13 : Nat) "java/util/ImmutableCollections$ListN" "allowNulls" "Z") ∈ lw_all := lw_g (lw_at lw_m14 8 rfl) rfl
theorem q3235 : (Jvm.Cond.laysFinal "java/util/ImmutableCollections$ListN" "java/util/ImmutableCollections$ListN" "elements" "[Ljava/lang/Object;") ∈ lw_all := lw_g (lw_at lw_m14 9 rfl) rfl
theorem q3236 : (Jvm.Cond.soleField "java/util/ImmutableCollections$ListN" "elements") ∈ lw_all := lw_g (lw_at lw_m14 10 rfl) rfl
theorem q3237 : (Jvm.Cond.laysFinal "java/util/ImmutableCollections$ListN" "java/util/ImmutableCollections$ListN" "allowNulls" "Z") ∈ lw_all := lw_g (lw_at lw_m14 11 rfl) rfl
theorem q3238 : (Jvm.Cond.soleField "java/util/ImmutableCollections$ListN" "allowNulls") ∈ lw_all := lw_g (lw_at lw_m14 12 rfl) rfl
theorem q3239 : (Jvm.Cond.superclass "java/util/ImmutableCollections$ListN" "java/util/ImmutableCollections$AbstractImmutableList") ∈ lw_all := lw_g (lw_at lw_m14 13 rfl) rfl
theorem q3304 : (Jvm.Cond.selects "java/util/ImmutableCollections$ListN" ({ cls := "java/util/List", name := "iterator", desc := "()Ljava/util/Iterator;" } : Jvm.MethodName) ({ cls := "java/util/ImmutableCollections$AbstractImmutableList", name := "iterator", desc := "()Ljava/util/Iterator;" } : Jvm.MethodName)) ∈ lw_all := lw_g (lw_at lw_m14 78 rfl) rfl
theorem q4030 : (Jvm.Cond.castable "java/util/ImmutableCollections$ListN" "java/lang/Object") ∈ lw_tbl := lw_at lw_m17 84 rfl
theorem in_J53 : ∀ w ∈ wsJ530, w ∈ lw_all := lw_in wsJ530 [3235, 3237] (by decide +kernel) (by decide +kernel)

/-! CavePearls$TextException -/
set_option maxRecDepth 100000
def RX29 : String := "CavePearls$TextException"
def TX29 : u_T := fun k => match k with
  | 0 => ("java/lang/Throwable", "cause", "Ljava/lang/Throwable;", false)
  | 1 => ("java/lang/Throwable", "stackTrace", "[Ljava/lang/StackTraceElement;", false)
  | 2 => ("java/lang/Throwable", "suppressedExceptions", "Ljava/util/List;", false)
  | 3 => ("java/lang/Throwable", "detailMessage", "Ljava/lang/String;", false)
  | 4 => ("java/lang/Throwable", "backtrace", "Ljava/lang/Object;", false)
  | 5 => ("java/lang/Throwable", "depth", "I", false)
  | _ => ("CavePearls$TextException", "position", "I", true)
def tyX29 : Nat → FieldType := fun k => match k with
  | 0 => .object "java/lang/Throwable"
  | 1 => .array (.object "java/lang/StackTraceElement")
  | 2 => .object "java/util/List"
  | 3 => .object "java/lang/String"
  | 4 => .object "java/lang/Object"
  | 5 => .int
  | _ => .int
abbrev wsX290 : List Cond := u_ws RX29 TX29 7
theorem nmX29 : ∀ a, a < 7 → ∀ b, b < 7 → a ≠ b → (TX29 a).2.1 ≠ (TX29 b).2.1 := by decide +kernel
theorem tyX29_ok : ∀ k, k < 7 → parseFieldDescriptor (TX29 k).2.2.1 = some (tyX29 k) := by decide +kernel
abbrev cX29_init : ByteArray := prog_27_method_1_code
def yX29_init : MethodName := ⟨RX29, "<init>", "(I)V"⟩
def dkwX29_init_0 : List UInt8 := [42, 1, 1, 3, 3, 183, 0, 1, 42, 27, 181, 0, 7, 177]
abbrev dktX29_init_0 : List UInt8 := dkwX29_init_0 ++ []
theorem dksX29_init_0 : cX29_init.data.toList.drop 0 = dktX29_init_0 := by decide +kernel
theorem dX29_init_0 : decode cX29_init 0 = .ok (.aload_n 0, 1) := dk_42 (dk_at dksX29_init_0 0 rfl rfl)
theorem dX29_init_1 : decode cX29_init 1 = .ok (.aconst_null, 1) := dk_1 (dk_at dksX29_init_0 1 rfl rfl)
theorem dX29_init_2 : decode cX29_init 2 = .ok (.aconst_null, 1) := dk_1 (dk_at dksX29_init_0 2 rfl rfl)
theorem dX29_init_3 : decode cX29_init 3 = .ok (.iconst 0, 1) := dk_3 (dk_at dksX29_init_0 3 rfl rfl)
theorem dX29_init_4 : decode cX29_init 4 = .ok (.iconst 0, 1) := dk_3 (dk_at dksX29_init_0 4 rfl rfl)
theorem dX29_init_5 : decode cX29_init 5 = .ok (.invokespecial 1, 3) := dk_183 0 1 (dk_at dksX29_init_0 5 rfl rfl)
theorem dX29_init_8 : decode cX29_init 8 = .ok (.aload_n 0, 1) := dk_42 (dk_at dksX29_init_0 8 rfl rfl)
theorem dX29_init_9 : decode cX29_init 9 = .ok (.iload_n 1, 1) := dk_27 (dk_at dksX29_init_0 9 rfl rfl)
theorem dX29_init_10 : decode cX29_init 10 = .ok (.putfield 7, 3) := dk_181 0 7 (dk_at dksX29_init_0 10 rfl rfl)
theorem dX29_init_13 : decode cX29_init 13 = .ok (.return_, 1) := dk_177 (dk_at dksX29_init_0 13 rfl rfl)
theorem q193 : (Jvm.Cond.initialized "CavePearls$TextException") ∈ lw_all := lw_g (lw_at lw_m1 87 rfl) rfl
theorem q597 : (Jvm.Cond.selects "CavePearls$TextException" ({ cls := "java/lang/Throwable", name := "fillInStackTrace", desc := "()Ljava/lang/Throwable;" } : Jvm.MethodName) ({ cls := "java/lang/Throwable", name := "fillInStackTrace", desc := "()Ljava/lang/Throwable;" } : Jvm.MethodName)) ∈ lw_all := lw_g (lw_at lw_m3 11 rfl) rfl
theorem q902 : (Jvm.Cond.selects "CavePearls$TextException" ({ cls := "java/lang/Throwable", name := "toString", desc := "()Ljava/lang/String;" } : Jvm.MethodName) ({ cls := "java/lang/Throwable", name := "toString", desc := "()Ljava/lang/String;" } : Jvm.MethodName)) ∈ lw_all := lw_g (lw_at lw_m4 76 rfl) rfl
theorem q941 : (Jvm.Cond.selects "CavePearls$TextException" ({ cls := "java/lang/Object", name := "getClass", desc := "()Ljava/lang/Class;" } : Jvm.MethodName) ({ cls := "java/lang/Object", name := "getClass", desc := "()Ljava/lang/Class;" } : Jvm.MethodName)) ∈ lw_all := lw_g (lw_at lw_m4 115 rfl) rfl
theorem q981 : (Jvm.Cond.selects "CavePearls$TextException" ({ cls := "java/lang/Throwable", name := "getLocalizedMessage", desc := "()Ljava/lang/String;" } : Jvm.MethodName) ({ cls := "java/lang/Throwable", name := "getLocalizedMessage", desc := "()Ljava/lang/String;" } : Jvm.MethodName)) ∈ lw_all := lw_g (lw_at lw_m4 155 rfl) rfl
theorem q996 : (Jvm.Cond.selects "CavePearls$TextException" ({ cls := "java/lang/Throwable", name := "getMessage", desc := "()Ljava/lang/String;" } : Jvm.MethodName) ({ cls := "java/lang/Throwable", name := "getMessage", desc := "()Ljava/lang/String;" } : Jvm.MethodName)) ∈ lw_all := lw_g (lw_at lw_m4 170 rfl) rfl
theorem q3275 : (Jvm.Cond.instantiable "CavePearls$TextException" (7 : Nat)) ∈ lw_all := lw_g (lw_at lw_m14 49 rfl) rfl
theorem q3276 : (Jvm.Cond.castable "CavePearls$TextException" "CavePearls$TextException") ∈ lw_tbl := lw_at lw_m14 50 rfl
theorem q3277 : (Jvm.Cond.selects "CavePearls$TextException" ({ cls := "java/lang/Throwable", name := "fillInStackTrace", desc := "(I)Ljava/lang/Throwable;" } : Jvm.MethodName) ({ cls := "java/lang/Throwable", name := "fillInStackTrace", desc := "(I)Ljava/lang/Throwable;" } : Jvm.MethodName)) ∈ lw_all := lw_g (lw_at lw_m14 51 rfl) rfl
theorem q3278 : (Jvm.Cond.lays "CavePearls$TextException" "java/lang/Throwable" "cause" "Ljava/lang/Throwable;") ∈ lw_all := lw_g (lw_at lw_m14 52 rfl) rfl
theorem q3279 : (Jvm.Cond.lays "CavePearls$TextException" "java/lang/Throwable" "stackTrace" "[Ljava/lang/StackTraceElement;") ∈ lw_all := lw_g (lw_at lw_m14 53 rfl) rfl
theorem q3280 : (Jvm.Cond.lays "CavePearls$TextException" "java/lang/Throwable" "suppressedExceptions" "Ljava/util/List;") ∈ lw_all := lw_g (lw_at lw_m14 54 rfl) rfl
theorem q3281 : (Jvm.Cond.lays "CavePearls$TextException" "java/lang/Throwable" "detailMessage" "Ljava/lang/String;") ∈ lw_all := lw_g (lw_at lw_m14 55 rfl) rfl
theorem q3282 : (Jvm.Cond.lays "CavePearls$TextException" "java/lang/Throwable" "backtrace" "Ljava/lang/Object;") ∈ lw_all := lw_g (lw_at lw_m14 56 rfl) rfl
theorem q3284 : (Jvm.Cond.instanceMethod ({ cls := "CavePearls$TextException", name := "<init>", desc := "(I)V" } : Jvm.MethodName)) ∈ lw_all := lw_g (lw_at lw_m14 58 rfl) rfl
theorem q3285 : (Jvm.Cond.code ({ cls := "CavePearls$TextException", name := "<init>", desc := "(I)V" } : Jvm.MethodName) prog_27_method_1_code (2 : Nat) (Option.none : Option Jvm.ClassFile.FieldType)) ∈ lw_all := lw_g (lw_at lw_m14 59 rfl) rfl
theorem q3286 : (Jvm.Cond.methodLink "CavePearls$TextException" (1 : Nat) ({ cls := "java/lang/Exception", name := "<init>", desc := "(Ljava/lang/String;Ljava/lang/Throwable;ZZ)V" } : Jvm.MethodName)) ∈ lw_all := lw_g (lw_at lw_m14 60 rfl) rfl
theorem q3287 : (Jvm.Cond.fieldLink "CavePearls$TextException" (7 : Nat) "CavePearls$TextException" "position" "I") ∈ lw_all := lw_g (lw_at lw_m14 61 rfl) rfl
theorem q3289 : (Jvm.Cond.laysFinal "CavePearls$TextException" "CavePearls$TextException" "position" "I") ∈ lw_all := lw_g (lw_at lw_m14 63 rfl) rfl
theorem q3290 : (Jvm.Cond.soleField "CavePearls$TextException" "position") ∈ lw_all := lw_g (lw_at lw_m14 64 rfl) rfl
theorem q3291 : (Jvm.Cond.lays "CavePearls$TextException" "java/lang/Throwable" "depth" "I") ∈ lw_all := lw_g (lw_at lw_m14 65 rfl) rfl
theorem q3292 : (Jvm.Cond.superclass "CavePearls$TextException" "java/lang/Exception") ∈ lw_all := lw_g (lw_at lw_m14 66 rfl) rfl
theorem q4032 : (Jvm.Cond.castable "CavePearls$TextException" "java/lang/Object") ∈ lw_tbl := lw_at lw_m17 86 rfl
theorem in_X29 : ∀ w ∈ wsX290, w ∈ lw_all := lw_in wsX290 [3278, 3279, 3280, 3281, 3282, 3291, 3289] (by decide +kernel) (by decide +kernel)

/-! CavePearls$8 -/
set_option maxRecDepth 100000
def RX30 : String := "CavePearls$8"
def TX30 : u_T := fun k => match k with
  | 0 => ("CavePearls$8", "val$deeds", "Ljava/util/LinkedList;", true)
  | _ => ("CavePearls$8", "this$0", "LCavePearls;", true)
def tyX30 : Nat → FieldType := fun k => match k with
  | 0 => .object "java/util/LinkedList"
  | _ => .object "CavePearls"
abbrev wsX300 : List Cond := u_ws RX30 TX30 2
theorem nmX30 : ∀ a, a < 2 → ∀ b, b < 2 → a ≠ b → (TX30 a).2.1 ≠ (TX30 b).2.1 := by decide +kernel
theorem tyX30_ok : ∀ k, k < 2 → parseFieldDescriptor (TX30 k).2.2.1 = some (tyX30 k) := by decide +kernel
abbrev cX30_carryOut : ByteArray := prog_10_method_2_code
def yX30_carryOut : MethodName := ⟨RX30, "carryOut", "(LCavePearls$World;)I"⟩
def dkwX30_carryOut_2 : List UInt8 := [167, 0, 4, 3, 16, 6, 28, 184, 0, 41, 132, 2, 1, 167, 255, 211, 28, 172]
abbrev dktX30_carryOut_2 : List UInt8 := dkwX30_carryOut_2 ++ []
def dkwX30_carryOut_1 : List UInt8 := [185, 0, 31, 1, 0, 192, 0, 35, 58, 4, 25, 4, 43, 185, 0, 37, 2, 0, 154, 0, 7, 4]
abbrev dktX30_carryOut_1 : List UInt8 := dkwX30_carryOut_1 ++ dktX30_carryOut_2
def dkwX30_carryOut_0 : List UInt8 := [3, 61, 42, 180, 0, 9, 182, 0, 19, 78, 45, 185, 0, 25, 1, 0, 153, 0, 42, 45]
abbrev dktX30_carryOut_0 : List UInt8 := dkwX30_carryOut_0 ++ dktX30_carryOut_1
theorem dksX30_carryOut_0 : cX30_carryOut.data.toList.drop 0 = dktX30_carryOut_0 := by decide +kernel
theorem dksX30_carryOut_1 : cX30_carryOut.data.toList.drop 20 = dktX30_carryOut_1 := dk_seg dksX30_carryOut_0 20 rfl rfl
theorem dksX30_carryOut_2 : cX30_carryOut.data.toList.drop 42 = dktX30_carryOut_2 := dk_seg dksX30_carryOut_1 22 rfl rfl
theorem dX30_carryOut_0 : decode cX30_carryOut 0 = .ok (.iconst 0, 1) := dk_3 (dk_at dksX30_carryOut_0 0 rfl rfl)
theorem dX30_carryOut_1 : decode cX30_carryOut 1 = .ok (.istore_n 2, 1) := dk_61 (dk_at dksX30_carryOut_0 1 rfl rfl)
theorem dX30_carryOut_2 : decode cX30_carryOut 2 = .ok (.aload_n 0, 1) := dk_42 (dk_at dksX30_carryOut_0 2 rfl rfl)
theorem dX30_carryOut_3 : decode cX30_carryOut 3 = .ok (.getfield 9, 3) := dk_180 0 9 (dk_at dksX30_carryOut_0 3 rfl rfl)
theorem dX30_carryOut_6 : decode cX30_carryOut 6 = .ok (.invokevirtual 19, 3) := dk_182 0 19 (dk_at dksX30_carryOut_0 6 rfl rfl)
theorem dX30_carryOut_9 : decode cX30_carryOut 9 = .ok (.astore_n 3, 1) := dk_78 (dk_at dksX30_carryOut_0 9 rfl rfl)
theorem dX30_carryOut_10 : decode cX30_carryOut 10 = .ok (.aload_n 3, 1) := dk_45 (dk_at dksX30_carryOut_0 10 rfl rfl)
theorem dX30_carryOut_11 : decode cX30_carryOut 11 = .ok (.invokeinterface 25 1, 5) := by decide +kernel
theorem dX30_carryOut_16 : decode cX30_carryOut 16 = .ok (.ifCond .eq 42, 3) := dk_153 0 42 (dk_at dksX30_carryOut_0 16 rfl rfl)
theorem dX30_carryOut_19 : decode cX30_carryOut 19 = .ok (.aload_n 3, 1) := dk_45 (dk_at dksX30_carryOut_0 19 rfl rfl)
theorem dX30_carryOut_20 : decode cX30_carryOut 20 = .ok (.invokeinterface 31 1, 5) := by decide +kernel
theorem dX30_carryOut_25 : decode cX30_carryOut 25 = .ok (.checkcast 35, 3) := dk_192 0 35 (dk_at dksX30_carryOut_1 5 rfl rfl)
theorem dX30_carryOut_28 : decode cX30_carryOut 28 = .ok (.astore 4, 2) := dk_58 4 (dk_at dksX30_carryOut_1 8 rfl rfl)
theorem dX30_carryOut_30 : decode cX30_carryOut 30 = .ok (.aload 4, 2) := dk_25 4 (dk_at dksX30_carryOut_1 10 rfl rfl)
theorem dX30_carryOut_32 : decode cX30_carryOut 32 = .ok (.aload_n 1, 1) := dk_43 (dk_at dksX30_carryOut_1 12 rfl rfl)
theorem dX30_carryOut_33 : decode cX30_carryOut 33 = .ok (.invokeinterface 37 2, 5) := by decide +kernel
theorem dX30_carryOut_38 : decode cX30_carryOut 38 = .ok (.ifCond .ne 7, 3) := dk_154 0 7 (dk_at dksX30_carryOut_1 18 rfl rfl)
theorem dX30_carryOut_41 : decode cX30_carryOut 41 = .ok (.iconst 1, 1) := dk_4 (dk_at dksX30_carryOut_1 21 rfl rfl)
theorem dX30_carryOut_42 : decode cX30_carryOut 42 = .ok (.goto 4, 3) := dk_167 0 4 (dk_at dksX30_carryOut_2 0 rfl rfl)
theorem dX30_carryOut_45 : decode cX30_carryOut 45 = .ok (.iconst 0, 1) := dk_3 (dk_at dksX30_carryOut_2 3 rfl rfl)
theorem dX30_carryOut_46 : decode cX30_carryOut 46 = .ok (.bipush 6, 2) := dk_16 6 (dk_at dksX30_carryOut_2 4 rfl rfl)
theorem dX30_carryOut_48 : decode cX30_carryOut 48 = .ok (.iload_n 2, 1) := dk_28 (dk_at dksX30_carryOut_2 6 rfl rfl)
theorem dX30_carryOut_49 : decode cX30_carryOut 49 = .ok (.invokestatic 41, 3) := dk_184 0 41 (dk_at dksX30_carryOut_2 7 rfl rfl)
theorem dX30_carryOut_52 : decode cX30_carryOut 52 = .ok (.iinc 2 1, 3) := dk_132 2 1 (dk_at dksX30_carryOut_2 10 rfl rfl)
theorem dX30_carryOut_55 : decode cX30_carryOut 55 = .ok (.goto (-45), 3) := dk_167 255 211 (dk_at dksX30_carryOut_2 13 rfl rfl)
theorem dX30_carryOut_58 : decode cX30_carryOut 58 = .ok (.iload_n 2, 1) := dk_28 (dk_at dksX30_carryOut_2 16 rfl rfl)
theorem dX30_carryOut_59 : decode cX30_carryOut 59 = .ok (.ireturn, 1) := dk_172 (dk_at dksX30_carryOut_2 17 rfl rfl)
abbrev cX30_init : ByteArray := prog_10_method_1_code
def yX30_init : MethodName := ⟨RX30, "<init>", "(LCavePearls;Ljava/util/LinkedList;)V"⟩
def dkwX30_init_0 : List UInt8 := [42, 43, 181, 0, 3, 42, 44, 181, 0, 9, 42, 183, 0, 13, 177]
abbrev dktX30_init_0 : List UInt8 := dkwX30_init_0 ++ []
theorem dksX30_init_0 : cX30_init.data.toList.drop 0 = dktX30_init_0 := by decide +kernel
theorem dX30_init_0 : decode cX30_init 0 = .ok (.aload_n 0, 1) := dk_42 (dk_at dksX30_init_0 0 rfl rfl)
theorem dX30_init_1 : decode cX30_init 1 = .ok (.aload_n 1, 1) := dk_43 (dk_at dksX30_init_0 1 rfl rfl)
theorem dX30_init_2 : decode cX30_init 2 = .ok (.putfield 3, 3) := dk_181 0 3 (dk_at dksX30_init_0 2 rfl rfl)
theorem dX30_init_5 : decode cX30_init 5 = .ok (.aload_n 0, 1) := dk_42 (dk_at dksX30_init_0 5 rfl rfl)
theorem dX30_init_6 : decode cX30_init 6 = .ok (.aload_n 2, 1) := dk_44 (dk_at dksX30_init_0 6 rfl rfl)
theorem dX30_init_7 : decode cX30_init 7 = .ok (.putfield 9, 3) := dk_181 0 9 (dk_at dksX30_init_0 7 rfl rfl)
theorem dX30_init_10 : decode cX30_init 10 = .ok (.aload_n 0, 1) := dk_42 (dk_at dksX30_init_0 10 rfl rfl)
theorem dX30_init_11 : decode cX30_init 11 = .ok (.invokespecial 13, 3) := dk_183 0 13 (dk_at dksX30_init_0 11 rfl rfl)
theorem dX30_init_14 : decode cX30_init 14 = .ok (.return_, 1) := dk_177 (dk_at dksX30_init_0 14 rfl rfl)
theorem q194 : (Jvm.Cond.initialized "CavePearls$8") ∈ lw_all := lw_g (lw_at lw_m1 88 rfl) rfl
theorem q925 : (Jvm.Cond.selects "CavePearls$8" ({ cls := "java/lang/Object", name := "getClass", desc := "()Ljava/lang/Class;" } : Jvm.MethodName) ({ cls := "java/lang/Object", name := "getClass", desc := "()Ljava/lang/Class;" } : Jvm.MethodName)) ∈ lw_all := lw_g (lw_at lw_m4 99 rfl) rfl
theorem q1650 : (Jvm.Cond.castable "CavePearls$8" "CavePearls$Deed") ∈ lw_tbl := lw_at lw_m7 104 rfl
theorem q1651 : (Jvm.Cond.selects "CavePearls$8" ({ cls := "CavePearls$Deed", name := "carryOut", desc := "(LCavePearls$World;)I" } : Jvm.MethodName) ({ cls := "CavePearls$8", name := "carryOut", desc := "(LCavePearls$World;)I" } : Jvm.MethodName)) ∈ lw_all := lw_g (lw_at lw_m7 105 rfl) rfl
theorem q1652 : (Jvm.Cond.unhidden "CavePearls$8" "carryOut" "(LCavePearls$World;)I") ∈ lw_tbl := lw_at lw_m7 106 rfl
theorem q1653 : (Jvm.Cond.instanceMethod ({ cls := "CavePearls$8", name := "carryOut", desc := "(LCavePearls$World;)I" } : Jvm.MethodName)) ∈ lw_all := lw_g (lw_at lw_m7 107 rfl) rfl
theorem q1654 : (Jvm.Cond.publicMethod ({ cls := "CavePearls$8", name := "carryOut", desc := "(LCavePearls$World;)I" } : Jvm.MethodName)) ∈ lw_tbl := lw_at lw_m7 108 rfl
theorem q1655 : (Jvm.Cond.code ({ cls := "CavePearls$8", name := "carryOut", desc := "(LCavePearls$World;)I" } : Jvm.MethodName) prog_10_method_2_code (5 : Nat) (Option.some Jvm.ClassFile.FieldType.int)) ∈ lw_all := lw_g (lw_at lw_m7 109 rfl) rfl
theorem q1656 : (Jvm.Cond.methodLink "CavePearls$8" (19 : Nat) ({ cls := "java/util/LinkedList", name := "iterator", desc := "()Ljava/util/Iterator;" } : Jvm.MethodName)) ∈ lw_all := lw_g (lw_at lw_m7 110 rfl) rfl
theorem q1657 : (Jvm.Cond.interfaceEntry "CavePearls$8" (25 : Nat)) ∈ lw_tbl := lw_at lw_m7 111 rfl
theorem q1658 : (Jvm.Cond.methodLink "CavePearls$8" (25 : Nat) ({ cls := "java/util/Iterator", name := "hasNext", desc := "()Z" } : Jvm.MethodName)) ∈ lw_all := lw_g (lw_at lw_m7 112 rfl) rfl
theorem q1659 : (Jvm.Cond.interfaceEntry "CavePearls$8" (31 : Nat)) ∈ lw_tbl := lw_at lw_m7 113 rfl
theorem q1660 : (Jvm.Cond.methodLink "CavePearls$8" (31 : Nat) ({ cls := "java/util/Iterator", name := "next", desc := "()Ljava/lang/Object;" } : Jvm.MethodName)) ∈ lw_all := lw_g (lw_at lw_m7 114 rfl) rfl
theorem q1661 : (Jvm.Cond.classLink "CavePearls$8" (35 : Nat) "CavePearls$Deed") ∈ lw_all := lw_g (lw_at lw_m7 115 rfl) rfl
theorem q1662 : (Jvm.Cond.interfaceEntry "CavePearls$8" (37 : Nat)) ∈ lw_tbl := lw_at lw_m7 116 rfl
theorem q1663 : (Jvm.Cond.methodLink "CavePearls$8" (37 : Nat) ({ cls := "CavePearls$Deed", name := "isDone", desc := "(LCavePearls$World;)Z" } : Jvm.MethodName)) ∈ lw_all := lw_g (lw_at lw_m7 117 rfl) rfl
theorem q2253 : (Jvm.Cond.unhidden "CavePearls$8" "isDone" "(LCavePearls$World;)Z") ∈ lw_tbl := lw_at lw_m9 227 rfl
theorem q2260 : (Jvm.Cond.methodLinkNest "CavePearls$8" (41 : Nat) ({ cls := "CavePearls", name := "refuse", desc := "(ZII)V" } : Jvm.MethodName) "CavePearls") ∈ lw_tbl := lw_at lw_m9 234 rfl
theorem q3458 : (Jvm.Cond.instantiable "CavePearls$8" (2 : Nat)) ∈ lw_all := lw_g (lw_at lw_m14 232 rfl) rfl
theorem q3460 : (Jvm.Cond.instanceMethod ({ cls := "CavePearls$8", name := "<init>", desc := "(LCavePearls;Ljava/util/LinkedList;)V" } : Jvm.MethodName)) ∈ lw_all := lw_g (lw_at lw_m14 234 rfl) rfl
theorem q3461 : (Jvm.Cond.code ({ cls := "CavePearls$8", name := "<init>", desc := "(LCavePearls;Ljava/util/LinkedList;)V" } : Jvm.MethodName) prog_10_method_1_code (3 : Nat) (Option.none : Option Jvm.ClassFile.FieldType)) ∈ lw_all := lw_g (lw_at lw_m14 235 rfl) rfl
theorem q3462 : (Jvm.Cond.methodLink "CavePearls$8" (13 : Nat) ({ cls := "java/lang/Object", name := "<init>", desc := "()V" } : Jvm.MethodName)) ∈ lw_all := lw_g (lw_at lw_m14 236 rfl) rfl
theorem q3463 : (Jvm.Cond.fieldLink "CavePearls$8" (9 : Nat) "CavePearls$8" "val$deeds" "Ljava/util/LinkedList;") ∈ lw_all := lw_g (lw_at lw_m14 237 rfl) rfl
theorem q3464 : (Jvm.Cond.fieldLink "CavePearls$8" (3 : Nat) "CavePearls$8" "this$0" "LCavePearls;") ∈ lw_all := lw_g (lw_at lw_m14 238 rfl) rfl
theorem q3465 : (Jvm.Cond.laysFinal "CavePearls$8" "CavePearls$8" "val$deeds" "Ljava/util/LinkedList;") ∈ lw_all := lw_g (lw_at lw_m14 239 rfl) rfl
theorem q3466 : (Jvm.Cond.soleField "CavePearls$8" "val$deeds") ∈ lw_all := lw_g (lw_at lw_m15 0 rfl) rfl
theorem q3467 : (Jvm.Cond.laysFinal "CavePearls$8" "CavePearls$8" "this$0" "LCavePearls;") ∈ lw_all := lw_g (lw_at lw_m15 1 rfl) rfl
theorem q3468 : (Jvm.Cond.soleField "CavePearls$8" "this$0") ∈ lw_all := lw_g (lw_at lw_m15 2 rfl) rfl
theorem q3469 : (Jvm.Cond.superclass "CavePearls$8" "java/lang/Object") ∈ lw_all := lw_g (lw_at lw_m15 3 rfl) rfl
theorem q4035 : (Jvm.Cond.castable "CavePearls$8" "java/lang/Object") ∈ lw_tbl := lw_at lw_m17 89 rfl
theorem in_X30 : ∀ w ∈ wsX300, w ∈ lw_all := lw_in wsX300 [3465, 3467] (by decide +kernel) (by decide +kernel)

/-! java/lang/Object -/
set_option maxRecDepth 100000
def RJ54 : String := "java/lang/Object"
abbrev cJ54_init : ByteArray := object_method_1_code
def yJ54_init : MethodName := ⟨RJ54, "<init>", "()V"⟩
theorem dJ54_init_0 : decode cJ54_init 0 = .ok (.return_, 1) := by decide +kernel
theorem q201 : (Jvm.Cond.instanceMethod ({ cls := "java/lang/Object", name := "<init>", desc := "()V" } : Jvm.MethodName)) ∈ lw_all := lw_g (lw_at lw_m1 95 rfl) rfl
theorem q202 : (Jvm.Cond.code ({ cls := "java/lang/Object", name := "<init>", desc := "()V" } : Jvm.MethodName) object_method_1_code (1 : Nat) (Option.none : Option Jvm.ClassFile.FieldType)) ∈ lw_all := lw_g (lw_at lw_m1 96 rfl) rfl
theorem q654 : (Jvm.Cond.native ({ cls := "java/lang/Object", name := "clone", desc := "()Ljava/lang/Object;" } : Jvm.MethodName)) ∈ lw_all := lw_g (lw_at lw_m3 68 rfl) rfl
theorem q655 : (Jvm.Cond.instanceMethod ({ cls := "java/lang/Object", name := "clone", desc := "()Ljava/lang/Object;" } : Jvm.MethodName)) ∈ lw_all := lw_g (lw_at lw_m3 69 rfl) rfl
theorem q914 : (Jvm.Cond.instanceMethod ({ cls := "java/lang/Object", name := "getClass", desc := "()Ljava/lang/Class;" } : Jvm.MethodName)) ∈ lw_all := lw_g (lw_at lw_m4 88 rfl) rfl
theorem q915 : (Jvm.Cond.sameMethod "java/lang/Object" "java/lang/Object" "getClass" "()Ljava/lang/Class;") ∈ lw_all := lw_g (lw_at lw_m4 89 rfl) rfl
theorem q976 : (Jvm.Cond.native ({ cls := "java/lang/Object", name := "getClass", desc := "()Ljava/lang/Class;" } : Jvm.MethodName)) ∈ lw_all := lw_g (lw_at lw_m4 150 rfl) rfl
theorem q3973 : (Jvm.Cond.initialized "java/lang/Object") ∈ lw_all := lw_g (lw_at lw_m17 27 rfl) rfl
theorem q4039 : (Jvm.Cond.declares ({ cls := "java/lang/Object", name := "getClass", desc := "()Ljava/lang/Class;" } : Jvm.MethodName)) ∈ lw_tbl := lw_at lw_m17 93 rfl

/-! java/util/Iterator -/
set_option maxRecDepth 100000
def RJ55 : String := "java/util/Iterator"
abbrev cJ55_remove : ByteArray := prog_85_method_3_code
def yJ55_remove : MethodName := ⟨RJ55, "remove", "()V"⟩
def dkwJ55_remove_0 : List UInt8 := [187, 0, 1, 89, 18, 3, 183, 0, 5, 191]
abbrev dktJ55_remove_0 : List UInt8 := dkwJ55_remove_0 ++ []
theorem dksJ55_remove_0 : cJ55_remove.data.toList.drop 0 = dktJ55_remove_0 := by decide +kernel
theorem dJ55_remove_0 : decode cJ55_remove 0 = .ok (.new 1, 3) := dk_187 0 1 (dk_at dksJ55_remove_0 0 rfl rfl)
theorem dJ55_remove_3 : decode cJ55_remove 3 = .ok (.dup, 1) := dk_89 (dk_at dksJ55_remove_0 3 rfl rfl)
theorem dJ55_remove_4 : decode cJ55_remove 4 = .ok (.ldc 3, 2) := dk_18 3 (dk_at dksJ55_remove_0 4 rfl rfl)
theorem dJ55_remove_6 : decode cJ55_remove 6 = .ok (.invokespecial 5, 3) := dk_183 0 5 (dk_at dksJ55_remove_0 6 rfl rfl)
theorem dJ55_remove_9 : decode cJ55_remove 9 = .ok (.athrow, 1) := dk_191 (dk_at dksJ55_remove_0 9 rfl rfl)
theorem q442 : (Jvm.Cond.interfaceMethod "java/util/Iterator" "java/util/Iterator" "hasNext" "()Z") ∈ lw_tbl := lw_at lw_m2 96 rfl
theorem q443 : (Jvm.Cond.declares ({ cls := "java/util/Iterator", name := "hasNext", desc := "()Z" } : Jvm.MethodName)) ∈ lw_tbl := lw_at lw_m2 97 rfl
theorem q512 : (Jvm.Cond.interfaceMethod "java/util/Iterator" "java/util/Iterator" "next" "()Ljava/lang/Object;") ∈ lw_tbl := lw_at lw_m2 166 rfl
theorem q513 : (Jvm.Cond.declares ({ cls := "java/util/Iterator", name := "next", desc := "()Ljava/lang/Object;" } : Jvm.MethodName)) ∈ lw_tbl := lw_at lw_m2 167 rfl
theorem q1777 : (Jvm.Cond.interfaceMethod "java/util/Iterator" "java/util/Iterator" "remove" "()V") ∈ lw_tbl := lw_at lw_m7 231 rfl
theorem q1778 : (Jvm.Cond.declares ({ cls := "java/util/Iterator", name := "remove", desc := "()V" } : Jvm.MethodName)) ∈ lw_tbl := lw_at lw_m7 232 rfl
theorem q1780 : (Jvm.Cond.instanceMethod ({ cls := "java/util/Iterator", name := "remove", desc := "()V" } : Jvm.MethodName)) ∈ lw_all := lw_g (lw_at lw_m7 234 rfl) rfl
theorem q1781 : (Jvm.Cond.publicMethod ({ cls := "java/util/Iterator", name := "remove", desc := "()V" } : Jvm.MethodName)) ∈ lw_tbl := lw_at lw_m7 235 rfl
theorem q1782 : (Jvm.Cond.code ({ cls := "java/util/Iterator", name := "remove", desc := "()V" } : Jvm.MethodName) prog_85_method_3_code (1 : Nat) (Option.none : Option Jvm.ClassFile.FieldType)) ∈ lw_all := lw_g (lw_at lw_m7 236 rfl) rfl
theorem q1783 : (Jvm.Cond.classLink "java/util/Iterator" (1 : Nat) "java/lang/UnsupportedOperationException") ∈ lw_all := lw_g (lw_at lw_m7 237 rfl) rfl
theorem q1792 : (Jvm.Cond.stringRef "java/util/Iterator" (3 : Nat) "remove") ∈ lw_tbl := lw_at lw_m8 6 rfl
theorem q1793 : (Jvm.Cond.methodLink "java/util/Iterator" (5 : Nat) ({ cls := "java/lang/UnsupportedOperationException", name := "<init>", desc := "(Ljava/lang/String;)V" } : Jvm.MethodName)) ∈ lw_all := lw_g (lw_at lw_m8 7 rfl) rfl

/-! java/lang/System$2 -/
set_option maxRecDepth 100000
def RJ56 : String := "java/lang/System$2"
abbrev cJ56_getUTF16Char : ByteArray := prog_57_method_45_code
def yJ56_getUTF16Char : MethodName := ⟨RJ56, "getUTF16Char", "([BI)C"⟩
def dkwJ56_getUTF16Char_0 : List UInt8 := [43, 28, 184, 0, 185, 172]
abbrev dktJ56_getUTF16Char_0 : List UInt8 := dkwJ56_getUTF16Char_0 ++ []
theorem dksJ56_getUTF16Char_0 : cJ56_getUTF16Char.data.toList.drop 0 = dktJ56_getUTF16Char_0 := by decide +kernel
theorem dJ56_getUTF16Char_0 : decode cJ56_getUTF16Char 0 = .ok (.aload_n 1, 1) := dk_43 (dk_at dksJ56_getUTF16Char_0 0 rfl rfl)
theorem dJ56_getUTF16Char_1 : decode cJ56_getUTF16Char 1 = .ok (.iload_n 2, 1) := dk_28 (dk_at dksJ56_getUTF16Char_0 1 rfl rfl)
theorem dJ56_getUTF16Char_2 : decode cJ56_getUTF16Char 2 = .ok (.invokestatic 185, 3) := dk_184 0 185 (dk_at dksJ56_getUTF16Char_0 2 rfl rfl)
theorem dJ56_getUTF16Char_5 : decode cJ56_getUTF16Char 5 = .ok (.ireturn, 1) := dk_172 (dk_at dksJ56_getUTF16Char_0 5 rfl rfl)
theorem q953 : (Jvm.Cond.selects "java/lang/System$2" ({ cls := "java/lang/Object", name := "getClass", desc := "()Ljava/lang/Class;" } : Jvm.MethodName) ({ cls := "java/lang/Object", name := "getClass", desc := "()Ljava/lang/Class;" } : Jvm.MethodName)) ∈ lw_all := lw_g (lw_at lw_m4 127 rfl) rfl
theorem q3380 : (Jvm.Cond.castable "java/lang/System$2" "jdk/internal/access/JavaLangAccess") ∈ lw_tbl := lw_at lw_m14 154 rfl
theorem q3381 : (Jvm.Cond.selects "java/lang/System$2" ({ cls := "jdk/internal/access/JavaLangAccess", name := "getUTF16Char", desc := "([BI)C" } : Jvm.MethodName) ({ cls := "java/lang/System$2", name := "getUTF16Char", desc := "([BI)C" } : Jvm.MethodName)) ∈ lw_all := lw_g (lw_at lw_m14 155 rfl) rfl
theorem q3382 : (Jvm.Cond.unhidden "java/lang/System$2" "getUTF16Char" "([BI)C") ∈ lw_tbl := lw_at lw_m14 156 rfl
theorem q3383 : (Jvm.Cond.instanceMethod ({ cls := "java/lang/System$2", name := "getUTF16Char", desc := "([BI)C" } : Jvm.MethodName)) ∈ lw_all := lw_g (lw_at lw_m14 157 rfl) rfl
theorem q3384 : (Jvm.Cond.publicMethod ({ cls := "java/lang/System$2", name := "getUTF16Char", desc := "([BI)C" } : Jvm.MethodName)) ∈ lw_tbl := lw_at lw_m14 158 rfl
theorem q3385 : (Jvm.Cond.code ({ cls := "java/lang/System$2", name := "getUTF16Char", desc := "([BI)C" } : Jvm.MethodName) prog_57_method_45_code (3 : Nat) (Option.some Jvm.ClassFile.FieldType.char)) ∈ lw_all := lw_g (lw_at lw_m14 159 rfl) rfl
theorem q3386 : (Jvm.Cond.methodLink "java/lang/System$2" (185 : Nat) ({ cls := "java/lang/StringUTF16", name := "getChar", desc := "([BI)C" } : Jvm.MethodName)) ∈ lw_all := lw_g (lw_at lw_m14 160 rfl) rfl
theorem q4034 : (Jvm.Cond.castable "java/lang/System$2" "java/lang/Object") ∈ lw_tbl := lw_at lw_m17 88 rfl

/-! the law's own entry -/
set_option maxRecDepth 100000
abbrev cL_law : ByteArray := code
def dkwL_law_91 : List UInt8 := [4, 172]
abbrev dktL_law_91 : List UInt8 := dkwL_law_91 ++ []
def dkwL_law_90 : List UInt8 := [154, 0, 15, 45, 3, 47, 21, 7, 133, 148, 153, 0, 5, 3, 172, 167, 0, 3, 132, 5, 4, 167, 247, 97]
abbrev dktL_law_90 : List UInt8 := dkwL_law_90 ++ dktL_law_91
def dkwL_law_89 : List UInt8 := [184, 1, 0, 54, 6, 44, 182, 1, 2, 54, 7, 44, 182, 0, 140, 21, 6, 159, 0, 5, 3, 172, 21, 6]
abbrev dktL_law_89 : List UInt8 := dkwL_law_89 ++ dktL_law_90
def dkwL_law_88 : List UInt8 := [153, 0, 5, 3, 172, 167, 0, 60, 43, 182, 0, 252, 44, 182, 0, 255, 159, 0, 49, 3, 172, 43, 45]
abbrev dktL_law_88 : List UInt8 := dkwL_law_88 ++ dktL_law_89
def dkwL_law_87 : List UInt8 := [182, 0, 140, 21, 6, 159, 0, 5, 3, 172, 21, 6, 154, 0, 15, 45, 3, 47, 21, 7, 133, 148]
abbrev dktL_law_87 : List UInt8 := dkwL_law_87 ++ dktL_law_88
def dkwL_law_86 : List UInt8 := [153, 0, 5, 3, 172, 167, 0, 104, 43, 45, 184, 0, 249, 54, 6, 44, 182, 0, 251, 54, 7, 44]
abbrev dktL_law_86 : List UInt8 := dkwL_law_86 ++ dktL_law_87
def dkwL_law_85 : List UInt8 := [182, 0, 140, 21, 6, 159, 0, 5, 3, 172, 21, 6, 154, 0, 15, 45, 3, 47, 21, 7, 133, 148]
abbrev dktL_law_85 : List UInt8 := dkwL_law_85 ++ dktL_law_86
def dkwL_law_84 : List UInt8 := [153, 0, 5, 3, 172, 167, 0, 148, 43, 45, 184, 0, 246, 54, 6, 44, 182, 0, 248, 54, 7, 44]
abbrev dktL_law_84 : List UInt8 := dkwL_law_84 ++ dktL_law_85
def dkwL_law_83 : List UInt8 := [182, 0, 140, 21, 6, 159, 0, 5, 3, 172, 21, 6, 154, 0, 15, 45, 3, 47, 21, 7, 133, 148]
abbrev dktL_law_83 : List UInt8 := dkwL_law_83 ++ dktL_law_84
def dkwL_law_82 : List UInt8 := [46, 146, 45, 184, 0, 242, 54, 6, 44, 42, 21, 5, 4, 96, 46, 146, 182, 0, 245, 54, 7, 44]
abbrev dktL_law_82 : List UInt8 := dkwL_law_82 ++ dktL_law_83
def dkwL_law_81 : List UInt8 := [154, 0, 15, 45, 3, 47, 21, 7, 133, 148, 153, 0, 5, 3, 172, 167, 0, 206, 43, 42, 21, 5, 4, 96]
abbrev dktL_law_81 : List UInt8 := dkwL_law_81 ++ dktL_law_82
def dkwL_law_80 : List UInt8 := [21, 5, 4, 96, 46, 182, 0, 241, 54, 7, 44, 182, 0, 140, 21, 6, 159, 0, 5, 3, 172, 21, 6]
abbrev dktL_law_80 : List UInt8 := dkwL_law_80 ++ dktL_law_81
def dkwL_law_79 : List UInt8 := [153, 0, 5, 3, 172, 167, 1, 6, 43, 42, 21, 5, 4, 96, 46, 45, 184, 0, 239, 54, 6, 44, 42]
abbrev dktL_law_79 : List UInt8 := dkwL_law_79 ++ dktL_law_80
def dkwL_law_78 : List UInt8 := [182, 0, 140, 21, 6, 159, 0, 5, 3, 172, 21, 6, 154, 0, 15, 45, 3, 47, 21, 7, 133, 148]
abbrev dktL_law_78 : List UInt8 := dkwL_law_78 ++ dktL_law_79
def dkwL_law_77 : List UInt8 := [54, 6, 44, 42, 21, 5, 4, 96, 46, 153, 0, 7, 4, 167, 0, 4, 3, 182, 0, 238, 54, 7, 44]
abbrev dktL_law_77 : List UInt8 := dkwL_law_77 ++ dktL_law_78
def dkwL_law_76 : List UInt8 := [172, 167, 1, 78, 43, 42, 21, 5, 4, 96, 46, 153, 0, 7, 4, 167, 0, 4, 3, 45, 184, 0, 235]
abbrev dktL_law_76 : List UInt8 := dkwL_law_76 ++ dktL_law_77
def dkwL_law_75 : List UInt8 := [153, 0, 25, 25, 4, 3, 49, 25, 4, 3, 49, 151, 153, 0, 11, 23, 7, 23, 7, 149, 154, 0, 5, 3]
abbrev dktL_law_75 : List UInt8 := dkwL_law_75 ++ dktL_law_76
def dkwL_law_74 : List UInt8 := [182, 0, 140, 21, 6, 159, 0, 5, 3, 172, 21, 6, 154, 0, 36, 25, 4, 3, 49, 23, 7, 141, 151]
abbrev dktL_law_74 : List UInt8 := dkwL_law_74 ++ dktL_law_75
def dkwL_law_73 : List UInt8 := [154, 0, 5, 3, 172, 167, 1, 144, 43, 25, 4, 184, 0, 232, 54, 6, 44, 182, 0, 234, 56, 7, 44]
abbrev dktL_law_73 : List UInt8 := dkwL_law_73 ++ dktL_law_74
def dkwL_law_72 : List UInt8 := [49, 24, 7, 151, 153, 0, 25, 25, 4, 3, 49, 25, 4, 3, 49, 151, 153, 0, 11, 24, 7, 24, 7, 151]
abbrev dktL_law_72 : List UInt8 := dkwL_law_72 ++ dktL_law_73
def dkwL_law_71 : List UInt8 := [182, 0, 231, 57, 7, 44, 182, 0, 140, 21, 6, 159, 0, 5, 3, 172, 21, 6, 154, 0, 35, 25, 4, 3]
abbrev dktL_law_71 : List UInt8 := dkwL_law_71 ++ dktL_law_72
def dkwL_law_70 : List UInt8 := [172, 43, 182, 0, 223, 44, 182, 0, 227, 159, 1, 211, 3, 172, 43, 25, 4, 184, 0, 228, 54, 6, 44]
abbrev dktL_law_70 : List UInt8 := dkwL_law_70 ++ dktL_law_71
def dkwL_law_69 : List UInt8 := [21, 7, 133, 148, 153, 0, 5, 3, 172, 167, 1, 235, 43, 182, 0, 219, 44, 182, 0, 222, 159, 1, 224, 3]
abbrev dktL_law_69 : List UInt8 := dkwL_law_69 ++ dktL_law_70
def dkwL_law_68 : List UInt8 := [182, 0, 218, 54, 7, 44, 182, 0, 140, 21, 6, 159, 0, 5, 3, 172, 21, 6, 154, 0, 15, 45, 3, 47]
abbrev dktL_law_68 : List UInt8 := dkwL_law_68 ++ dktL_law_69
def dkwL_law_67 : List UInt8 := [167, 2, 35, 43, 42, 21, 5, 4, 96, 46, 45, 184, 0, 216, 54, 6, 44, 42, 21, 5, 4, 96, 46]
abbrev dktL_law_67 : List UInt8 := dkwL_law_67 ++ dktL_law_68
def dkwL_law_66 : List UInt8 := [159, 0, 5, 3, 172, 21, 6, 154, 0, 15, 45, 3, 47, 21, 7, 133, 148, 153, 0, 5, 3, 172]
abbrev dktL_law_66 : List UInt8 := dkwL_law_66 ++ dktL_law_67
def dkwL_law_65 : List UInt8 := [184, 0, 213, 54, 6, 44, 42, 21, 5, 4, 96, 46, 182, 0, 215, 54, 7, 44, 182, 0, 140, 21, 6]
abbrev dktL_law_65 : List UInt8 := dkwL_law_65 ++ dktL_law_66
def dkwL_law_64 : List UInt8 := [45, 3, 47, 21, 7, 133, 148, 153, 0, 5, 3, 172, 167, 2, 91, 43, 42, 21, 5, 4, 96, 46, 45]
abbrev dktL_law_64 : List UInt8 := dkwL_law_64 ++ dktL_law_65
def dkwL_law_63 : List UInt8 := [54, 6, 44, 182, 0, 212, 54, 7, 44, 182, 0, 140, 21, 6, 159, 0, 5, 3, 172, 21, 6, 154, 0, 15]
abbrev dktL_law_63 : List UInt8 := dkwL_law_63 ++ dktL_law_64
def dkwL_law_62 : List UInt8 := [154, 0, 15, 45, 3, 47, 21, 7, 133, 148, 153, 0, 5, 3, 172, 167, 2, 135, 43, 45, 184, 0, 210]
abbrev dktL_law_62 : List UInt8 := dkwL_law_62 ++ dktL_law_63
def dkwL_law_61 : List UInt8 := [21, 5, 4, 96, 46, 182, 0, 209, 54, 7, 44, 182, 0, 140, 21, 6, 159, 0, 5, 3, 172, 21, 6]
abbrev dktL_law_61 : List UInt8 := dkwL_law_61 ++ dktL_law_62
def dkwL_law_60 : List UInt8 := [153, 0, 5, 3, 172, 167, 2, 191, 43, 42, 21, 5, 4, 96, 46, 45, 184, 0, 207, 54, 6, 44, 42]
abbrev dktL_law_60 : List UInt8 := dkwL_law_60 ++ dktL_law_61
def dkwL_law_59 : List UInt8 := [182, 0, 140, 21, 6, 159, 0, 5, 3, 172, 21, 6, 154, 0, 15, 45, 3, 47, 21, 7, 133, 148]
abbrev dktL_law_59 : List UInt8 := dkwL_law_59 ++ dktL_law_60
def dkwL_law_58 : List UInt8 := [42, 21, 5, 4, 96, 46, 42, 21, 5, 5, 96, 46, 42, 21, 5, 6, 96, 46, 182, 0, 206, 54, 7, 44]
abbrev dktL_law_58 : List UInt8 := dkwL_law_58 ++ dktL_law_59
def dkwL_law_57 : List UInt8 := [21, 5, 4, 96, 46, 42, 21, 5, 5, 96, 46, 42, 21, 5, 6, 96, 46, 45, 184, 0, 203, 54, 6, 44]
abbrev dktL_law_57 : List UInt8 := dkwL_law_57 ++ dktL_law_58
def dkwL_law_56 : List UInt8 := [172, 21, 6, 154, 0, 15, 45, 3, 47, 21, 7, 133, 148, 153, 0, 5, 3, 172, 167, 3, 15, 43, 42]
abbrev dktL_law_56 : List UInt8 := dkwL_law_56 ++ dktL_law_57
def dkwL_law_55 : List UInt8 := [54, 6, 44, 42, 21, 5, 4, 96, 46, 182, 0, 202, 54, 7, 44, 182, 0, 140, 21, 6, 159, 0, 5, 3]
abbrev dktL_law_55 : List UInt8 := dkwL_law_55 ++ dktL_law_56
def dkwL_law_54 : List UInt8 := [21, 7, 133, 148, 153, 0, 5, 3, 172, 167, 3, 71, 43, 42, 21, 5, 4, 96, 46, 45, 184, 0, 200]
abbrev dktL_law_54 : List UInt8 := dkwL_law_54 ++ dktL_law_55
def dkwL_law_53 : List UInt8 := [182, 0, 199, 54, 7, 44, 182, 0, 140, 21, 6, 159, 0, 5, 3, 172, 21, 6, 154, 0, 15, 45, 3, 47]
abbrev dktL_law_53 : List UInt8 := dkwL_law_53 ++ dktL_law_54
def dkwL_law_52 : List UInt8 := [167, 3, 127, 43, 42, 21, 5, 4, 96, 46, 45, 184, 0, 197, 54, 6, 44, 42, 21, 5, 4, 96, 46]
abbrev dktL_law_52 : List UInt8 := dkwL_law_52 ++ dktL_law_53
def dkwL_law_51 : List UInt8 := [159, 0, 5, 3, 172, 21, 6, 154, 0, 15, 45, 3, 47, 21, 7, 133, 148, 153, 0, 5, 3, 172]
abbrev dktL_law_51 : List UInt8 := dkwL_law_51 ++ dktL_law_52
def dkwL_law_50 : List UInt8 := [167, 3, 171, 43, 45, 184, 0, 194, 54, 6, 44, 182, 0, 196, 54, 7, 44, 182, 0, 140, 21, 6]
abbrev dktL_law_50 : List UInt8 := dkwL_law_50 ++ dktL_law_51
def dkwL_law_49 : List UInt8 := [21, 6, 159, 0, 5, 3, 172, 21, 6, 154, 0, 15, 45, 3, 47, 21, 7, 133, 148, 153, 0, 5, 3, 172]
abbrev dktL_law_49 : List UInt8 := dkwL_law_49 ++ dktL_law_50
def dkwL_law_48 : List UInt8 := [46, 45, 184, 0, 191, 54, 6, 44, 42, 21, 5, 4, 96, 46, 182, 0, 193, 54, 7, 44, 182, 0, 140]
abbrev dktL_law_48 : List UInt8 := dkwL_law_48 ++ dktL_law_49
def dkwL_law_47 : List UInt8 := [154, 0, 15, 45, 3, 47, 21, 7, 133, 148, 153, 0, 5, 3, 172, 167, 3, 227, 43, 42, 21, 5, 4, 96]
abbrev dktL_law_47 : List UInt8 := dkwL_law_47 ++ dktL_law_48
def dkwL_law_46 : List UInt8 := [167, 0, 4, 3, 182, 0, 190, 54, 7, 44, 182, 0, 140, 21, 6, 159, 0, 5, 3, 172, 21, 6]
abbrev dktL_law_46 : List UInt8 := dkwL_law_46 ++ dktL_law_47
def dkwL_law_45 : List UInt8 := [45, 184, 0, 188, 54, 6, 44, 42, 21, 5, 4, 96, 46, 42, 21, 5, 5, 96, 46, 153, 0, 7, 4]
abbrev dktL_law_45 : List UInt8 := dkwL_law_45 ++ dktL_law_46
def dkwL_law_44 : List UInt8 := [167, 4, 55, 43, 42, 21, 5, 4, 96, 46, 42, 21, 5, 5, 96, 46, 153, 0, 7, 4, 167, 0, 4, 3]
abbrev dktL_law_44 : List UInt8 := dkwL_law_44 ++ dktL_law_45
def dkwL_law_43 : List UInt8 := [159, 0, 5, 3, 172, 21, 6, 154, 0, 15, 45, 3, 47, 21, 7, 133, 148, 153, 0, 5, 3, 172]
abbrev dktL_law_43 : List UInt8 := dkwL_law_43 ++ dktL_law_44
def dkwL_law_42 : List UInt8 := [184, 0, 185, 54, 6, 44, 42, 21, 5, 4, 96, 46, 182, 0, 187, 54, 7, 44, 182, 0, 140, 21, 6]
abbrev dktL_law_42 : List UInt8 := dkwL_law_42 ++ dktL_law_43
def dkwL_law_41 : List UInt8 := [3, 47, 21, 7, 133, 148, 153, 0, 5, 3, 172, 167, 4, 111, 43, 42, 21, 5, 4, 96, 46, 45]
abbrev dktL_law_41 : List UInt8 := dkwL_law_41 ++ dktL_law_42
def dkwL_law_40 : List UInt8 := [96, 46, 182, 0, 184, 54, 7, 44, 182, 0, 140, 21, 6, 159, 0, 5, 3, 172, 21, 6, 154, 0, 15, 45]
abbrev dktL_law_40 : List UInt8 := dkwL_law_40 ++ dktL_law_41
def dkwL_law_39 : List UInt8 := [46, 42, 21, 5, 5, 96, 46, 45, 184, 0, 182, 54, 6, 44, 42, 21, 5, 4, 96, 46, 42, 21, 5, 5]
abbrev dktL_law_39 : List UInt8 := dkwL_law_39 ++ dktL_law_40
def dkwL_law_38 : List UInt8 := [154, 0, 15, 45, 3, 47, 21, 7, 133, 148, 153, 0, 5, 3, 172, 167, 4, 179, 43, 42, 21, 5, 4, 96]
abbrev dktL_law_38 : List UInt8 := dkwL_law_38 ++ dktL_law_39
def dkwL_law_37 : List UInt8 := [21, 5, 4, 96, 46, 182, 0, 181, 54, 7, 44, 182, 0, 140, 21, 6, 159, 0, 5, 3, 172, 21, 6]
abbrev dktL_law_37 : List UInt8 := dkwL_law_37 ++ dktL_law_38
def dkwL_law_36 : List UInt8 := [153, 0, 5, 3, 172, 167, 4, 235, 43, 42, 21, 5, 4, 96, 46, 45, 184, 0, 179, 54, 6, 44, 42]
abbrev dktL_law_36 : List UInt8 := dkwL_law_36 ++ dktL_law_37
def dkwL_law_35 : List UInt8 := [44, 182, 0, 140, 21, 6, 159, 0, 5, 3, 172, 21, 6, 154, 0, 15, 45, 3, 47, 21, 7, 133, 148]
abbrev dktL_law_35 : List UInt8 := dkwL_law_35 ++ dktL_law_36
def dkwL_law_34 : List UInt8 := [21, 5, 4, 96, 46, 42, 21, 5, 5, 96, 46, 153, 0, 7, 4, 167, 0, 4, 3, 182, 0, 178, 54, 7]
abbrev dktL_law_34 : List UInt8 := dkwL_law_34 ++ dktL_law_35
def dkwL_law_33 : List UInt8 := [46, 42, 21, 5, 5, 96, 46, 153, 0, 7, 4, 167, 0, 4, 3, 45, 184, 0, 175, 54, 6, 44, 42]
abbrev dktL_law_33 : List UInt8 := dkwL_law_33 ++ dktL_law_34
def dkwL_law_32 : List UInt8 := [154, 0, 15, 45, 3, 47, 21, 7, 133, 148, 153, 0, 5, 3, 172, 167, 5, 63, 43, 42, 21, 5, 4, 96]
abbrev dktL_law_32 : List UInt8 := dkwL_law_32 ++ dktL_law_33
def dkwL_law_31 : List UInt8 := [21, 5, 4, 96, 46, 182, 0, 174, 54, 7, 44, 182, 0, 140, 21, 6, 159, 0, 5, 3, 172, 21, 6]
abbrev dktL_law_31 : List UInt8 := dkwL_law_31 ++ dktL_law_32
def dkwL_law_30 : List UInt8 := [153, 0, 5, 3, 172, 167, 5, 119, 43, 42, 21, 5, 4, 96, 46, 45, 184, 0, 172, 54, 6, 44, 42]
abbrev dktL_law_30 : List UInt8 := dkwL_law_30 ++ dktL_law_31
def dkwL_law_29 : List UInt8 := [182, 0, 140, 21, 6, 159, 0, 5, 3, 172, 21, 6, 154, 0, 15, 45, 3, 47, 21, 7, 133, 148]
abbrev dktL_law_29 : List UInt8 := dkwL_law_29 ++ dktL_law_30
def dkwL_law_28 : List UInt8 := [184, 0, 169, 54, 6, 44, 42, 21, 5, 4, 96, 46, 42, 21, 5, 5, 96, 46, 182, 0, 171, 54, 7, 44]
abbrev dktL_law_28 : List UInt8 := dkwL_law_28 ++ dktL_law_29
def dkwL_law_27 : List UInt8 := [148, 153, 0, 5, 3, 172, 167, 5, 187, 43, 42, 21, 5, 4, 96, 46, 42, 21, 5, 5, 96, 46, 45]
abbrev dktL_law_27 : List UInt8 := dkwL_law_27 ++ dktL_law_28
def dkwL_law_26 : List UInt8 := [54, 7, 44, 182, 0, 140, 21, 6, 159, 0, 5, 3, 172, 21, 6, 154, 0, 15, 45, 3, 47, 21, 7, 133]
abbrev dktL_law_26 : List UInt8 := dkwL_law_26 ++ dktL_law_27
def dkwL_law_25 : List UInt8 := [21, 7, 133, 148, 153, 0, 5, 3, 172, 167, 5, 231, 43, 45, 184, 0, 165, 54, 6, 44, 182, 0, 168]
abbrev dktL_law_25 : List UInt8 := dkwL_law_25 ++ dktL_law_26
def dkwL_law_24 : List UInt8 := [182, 0, 164, 54, 7, 44, 182, 0, 140, 21, 6, 159, 0, 5, 3, 172, 21, 6, 154, 0, 15, 45, 3, 47]
abbrev dktL_law_24 : List UInt8 := dkwL_law_24 ++ dktL_law_25
def dkwL_law_23 : List UInt8 := [5, 96, 46, 45, 184, 0, 162, 54, 6, 44, 42, 21, 5, 4, 96, 46, 42, 21, 5, 5, 96, 46]
abbrev dktL_law_23 : List UInt8 := dkwL_law_23 ++ dktL_law_24
def dkwL_law_22 : List UInt8 := [3, 47, 21, 7, 133, 148, 153, 0, 5, 3, 172, 167, 6, 43, 43, 42, 21, 5, 4, 96, 46, 42, 21, 5]
abbrev dktL_law_22 : List UInt8 := dkwL_law_22 ++ dktL_law_23
def dkwL_law_21 : List UInt8 := [96, 46, 182, 0, 161, 54, 7, 44, 182, 0, 140, 21, 6, 159, 0, 5, 3, 172, 21, 6, 154, 0, 15, 45]
abbrev dktL_law_21 : List UInt8 := dkwL_law_21 ++ dktL_law_22
def dkwL_law_20 : List UInt8 := [46, 42, 21, 5, 5, 96, 46, 45, 184, 0, 159, 54, 6, 44, 42, 21, 5, 4, 96, 46, 42, 21, 5, 5]
abbrev dktL_law_20 : List UInt8 := dkwL_law_20 ++ dktL_law_21
def dkwL_law_19 : List UInt8 := [154, 0, 15, 45, 3, 47, 21, 7, 133, 148, 153, 0, 5, 3, 172, 167, 6, 111, 43, 42, 21, 5, 4, 96]
abbrev dktL_law_19 : List UInt8 := dkwL_law_19 ++ dktL_law_20
def dkwL_law_18 : List UInt8 := [21, 5, 4, 96, 46, 182, 0, 158, 54, 7, 44, 182, 0, 140, 21, 6, 159, 0, 5, 3, 172, 21, 6]
abbrev dktL_law_18 : List UInt8 := dkwL_law_18 ++ dktL_law_19
def dkwL_law_17 : List UInt8 := [153, 0, 5, 3, 172, 167, 6, 167, 43, 42, 21, 5, 4, 96, 46, 45, 184, 0, 156, 54, 6, 44, 42]
abbrev dktL_law_17 : List UInt8 := dkwL_law_17 ++ dktL_law_18
def dkwL_law_16 : List UInt8 := [182, 0, 140, 21, 6, 159, 0, 5, 3, 172, 21, 6, 154, 0, 15, 45, 3, 47, 21, 7, 133, 148]
abbrev dktL_law_16 : List UInt8 := dkwL_law_16 ++ dktL_law_17
def dkwL_law_15 : List UInt8 := [184, 0, 153, 54, 6, 44, 42, 21, 5, 4, 96, 46, 42, 21, 5, 5, 96, 46, 182, 0, 155, 54, 7, 44]
abbrev dktL_law_15 : List UInt8 := dkwL_law_15 ++ dktL_law_16
def dkwL_law_14 : List UInt8 := [153, 0, 5, 3, 172, 167, 6, 235, 43, 42, 21, 5, 4, 96, 46, 42, 21, 5, 5, 96, 46, 45]
abbrev dktL_law_14 : List UInt8 := dkwL_law_14 ++ dktL_law_15
def dkwL_law_13 : List UInt8 := [182, 0, 140, 21, 6, 159, 0, 5, 3, 172, 21, 6, 154, 0, 15, 45, 3, 47, 21, 7, 133, 148]
abbrev dktL_law_13 : List UInt8 := dkwL_law_13 ++ dktL_law_14
def dkwL_law_12 : List UInt8 := [184, 0, 150, 54, 6, 44, 42, 21, 5, 4, 96, 46, 42, 21, 5, 5, 96, 46, 182, 0, 152, 54, 7, 44]
abbrev dktL_law_12 : List UInt8 := dkwL_law_12 ++ dktL_law_13
def dkwL_law_11 : List UInt8 := [153, 0, 5, 3, 172, 167, 7, 47, 43, 42, 21, 5, 4, 96, 46, 42, 21, 5, 5, 96, 46, 45]
abbrev dktL_law_11 : List UInt8 := dkwL_law_11 ++ dktL_law_12
def dkwL_law_10 : List UInt8 := [182, 0, 140, 21, 6, 159, 0, 5, 3, 172, 21, 6, 154, 0, 15, 45, 3, 47, 21, 7, 133, 148]
abbrev dktL_law_10 : List UInt8 := dkwL_law_10 ++ dktL_law_11
def dkwL_law_9 : List UInt8 := [184, 0, 147, 54, 6, 44, 42, 21, 5, 4, 96, 46, 42, 21, 5, 5, 96, 46, 182, 0, 149, 54, 7, 44]
abbrev dktL_law_9 : List UInt8 := dkwL_law_9 ++ dktL_law_10
def dkwL_law_8 : List UInt8 := [153, 0, 5, 3, 172, 167, 7, 115, 43, 42, 21, 5, 4, 96, 46, 42, 21, 5, 5, 96, 46, 45]
abbrev dktL_law_8 : List UInt8 := dkwL_law_8 ++ dktL_law_9
def dkwL_law_7 : List UInt8 := [182, 0, 140, 21, 6, 159, 0, 5, 3, 172, 21, 6, 154, 0, 15, 45, 3, 47, 21, 7, 133, 148]
abbrev dktL_law_7 : List UInt8 := dkwL_law_7 ++ dktL_law_8
def dkwL_law_6 : List UInt8 := [184, 0, 143, 54, 6, 44, 42, 21, 5, 4, 96, 46, 42, 21, 5, 5, 96, 46, 182, 0, 146, 54, 7, 44]
abbrev dktL_law_6 : List UInt8 := dkwL_law_6 ++ dktL_law_7
def dkwL_law_5 : List UInt8 := [148, 153, 0, 5, 3, 172, 167, 7, 183, 43, 42, 21, 5, 4, 96, 46, 42, 21, 5, 5, 96, 46, 45]
abbrev dktL_law_5 : List UInt8 := dkwL_law_5 ++ dktL_law_6
def dkwL_law_4 : List UInt8 := [54, 7, 44, 182, 0, 140, 21, 6, 159, 0, 5, 3, 172, 21, 6, 154, 0, 15, 45, 3, 47, 21, 7, 133]
abbrev dktL_law_4 : List UInt8 := dkwL_law_4 ++ dktL_law_5
def dkwL_law_3 : List UInt8 := [43, 42, 21, 5, 4, 96, 46, 45, 184, 0, 134, 54, 6, 44, 42, 21, 5, 4, 96, 46, 182, 0, 139]
abbrev dktL_law_3 : List UInt8 := dkwL_law_3 ++ dktL_law_4
def dkwL_law_2 : List UInt8 := [170, 0, 0, 0, 0, 0, 8, 140, 0, 0, 0, 0, 0, 0, 0, 35, 0, 0, 0, 160, 0, 0, 0, 216, 0, 0, 1, 28, 0, 0, 1, 96, 0, 0, 1, 164, 0, 0, 1, 232, 0, 0, 2, 32, 0, 0, 2, 100, 0, 0, 2, 168, 0, 0, 2, 212, 0, 0, 3, 24, 0, 0, 3, 80, 0, 0, 3, 164, 0, 0, 3, 220, 0, 0, 4, 32, 0, 0, 4, 88, 0, 0, 4, 172, 0, 0, 4, 228, 0, 0, 5, 16, 0, 0, 5, 72, 0, 0, 5, 128, 0, 0, 5, 208, 0, 0, 6, 8, 0, 0, 6, 52, 0, 0, 6, 108, 0, 0, 6, 164, 0, 0, 6, 177, 0, 0, 6, 190, 0, 0, 6, 255, 0, 0, 7, 65, 0, 0, 7, 137, 0, 0, 7, 193, 0, 0, 7, 251, 0, 0, 8, 39, 0, 0, 8, 83, 0, 0, 8, 96]
abbrev dktL_law_2 : List UInt8 := dkwL_law_2 ++ dktL_law_3
def dkwL_law_1 : List UInt8 := [58, 4, 3, 54, 5, 21, 5, 42, 190, 7, 100, 163, 8, 156, 42, 21, 5, 46, 16, 63, 126]
abbrev dktL_law_1 : List UInt8 := dkwL_law_1 ++ dktL_law_2
def dkwL_law_0 : List UInt8 := [187, 0, 8, 89, 183, 0, 130, 76, 187, 0, 131, 89, 183, 0, 133, 77, 4, 188, 11, 78, 4, 188, 7]
abbrev dktL_law_0 : List UInt8 := dkwL_law_0 ++ dktL_law_1
theorem dksL_law_0 : cL_law.data.toList.drop 0 = dktL_law_0 := by decide +kernel
theorem dksL_law_1 : cL_law.data.toList.drop 23 = dktL_law_1 := dk_seg dksL_law_0 23 rfl rfl
theorem dksL_law_2 : cL_law.data.toList.drop 44 = dktL_law_2 := dk_seg dksL_law_1 21 rfl rfl
theorem dksL_law_3 : cL_law.data.toList.drop 204 = dktL_law_3 := dk_seg dksL_law_2 160 rfl rfl
theorem dksL_law_4 : cL_law.data.toList.drop 227 = dktL_law_4 := dk_seg dksL_law_3 23 rfl rfl
theorem dksL_law_5 : cL_law.data.toList.drop 251 = dktL_law_5 := dk_seg dksL_law_4 24 rfl rfl
theorem dksL_law_6 : cL_law.data.toList.drop 274 = dktL_law_6 := dk_seg dksL_law_5 23 rfl rfl
theorem dksL_law_7 : cL_law.data.toList.drop 298 = dktL_law_7 := dk_seg dksL_law_6 24 rfl rfl
theorem dksL_law_8 : cL_law.data.toList.drop 320 = dktL_law_8 := dk_seg dksL_law_7 22 rfl rfl
theorem dksL_law_9 : cL_law.data.toList.drop 342 = dktL_law_9 := dk_seg dksL_law_8 22 rfl rfl
theorem dksL_law_10 : cL_law.data.toList.drop 366 = dktL_law_10 := dk_seg dksL_law_9 24 rfl rfl
theorem dksL_law_11 : cL_law.data.toList.drop 388 = dktL_law_11 := dk_seg dksL_law_10 22 rfl rfl
theorem dksL_law_12 : cL_law.data.toList.drop 410 = dktL_law_12 := dk_seg dksL_law_11 22 rfl rfl
theorem dksL_law_13 : cL_law.data.toList.drop 434 = dktL_law_13 := dk_seg dksL_law_12 24 rfl rfl
theorem dksL_law_14 : cL_law.data.toList.drop 456 = dktL_law_14 := dk_seg dksL_law_13 22 rfl rfl
theorem dksL_law_15 : cL_law.data.toList.drop 478 = dktL_law_15 := dk_seg dksL_law_14 22 rfl rfl
theorem dksL_law_16 : cL_law.data.toList.drop 502 = dktL_law_16 := dk_seg dksL_law_15 24 rfl rfl
theorem dksL_law_17 : cL_law.data.toList.drop 524 = dktL_law_17 := dk_seg dksL_law_16 22 rfl rfl
theorem dksL_law_18 : cL_law.data.toList.drop 547 = dktL_law_18 := dk_seg dksL_law_17 23 rfl rfl
theorem dksL_law_19 : cL_law.data.toList.drop 570 = dktL_law_19 := dk_seg dksL_law_18 23 rfl rfl
theorem dksL_law_20 : cL_law.data.toList.drop 594 = dktL_law_20 := dk_seg dksL_law_19 24 rfl rfl
theorem dksL_law_21 : cL_law.data.toList.drop 618 = dktL_law_21 := dk_seg dksL_law_20 24 rfl rfl
theorem dksL_law_22 : cL_law.data.toList.drop 642 = dktL_law_22 := dk_seg dksL_law_21 24 rfl rfl
theorem dksL_law_23 : cL_law.data.toList.drop 666 = dktL_law_23 := dk_seg dksL_law_22 24 rfl rfl
theorem dksL_law_24 : cL_law.data.toList.drop 688 = dktL_law_24 := dk_seg dksL_law_23 22 rfl rfl
theorem dksL_law_25 : cL_law.data.toList.drop 712 = dktL_law_25 := dk_seg dksL_law_24 24 rfl rfl
theorem dksL_law_26 : cL_law.data.toList.drop 735 = dktL_law_26 := dk_seg dksL_law_25 23 rfl rfl
theorem dksL_law_27 : cL_law.data.toList.drop 759 = dktL_law_27 := dk_seg dksL_law_26 24 rfl rfl
theorem dksL_law_28 : cL_law.data.toList.drop 782 = dktL_law_28 := dk_seg dksL_law_27 23 rfl rfl
theorem dksL_law_29 : cL_law.data.toList.drop 806 = dktL_law_29 := dk_seg dksL_law_28 24 rfl rfl
theorem dksL_law_30 : cL_law.data.toList.drop 828 = dktL_law_30 := dk_seg dksL_law_29 22 rfl rfl
theorem dksL_law_31 : cL_law.data.toList.drop 851 = dktL_law_31 := dk_seg dksL_law_30 23 rfl rfl
theorem dksL_law_32 : cL_law.data.toList.drop 874 = dktL_law_32 := dk_seg dksL_law_31 23 rfl rfl
theorem dksL_law_33 : cL_law.data.toList.drop 898 = dktL_law_33 := dk_seg dksL_law_32 24 rfl rfl
theorem dksL_law_34 : cL_law.data.toList.drop 921 = dktL_law_34 := dk_seg dksL_law_33 23 rfl rfl
theorem dksL_law_35 : cL_law.data.toList.drop 945 = dktL_law_35 := dk_seg dksL_law_34 24 rfl rfl
theorem dksL_law_36 : cL_law.data.toList.drop 968 = dktL_law_36 := dk_seg dksL_law_35 23 rfl rfl
theorem dksL_law_37 : cL_law.data.toList.drop 991 = dktL_law_37 := dk_seg dksL_law_36 23 rfl rfl
theorem dksL_law_38 : cL_law.data.toList.drop 1014 = dktL_law_38 := dk_seg dksL_law_37 23 rfl rfl
theorem dksL_law_39 : cL_law.data.toList.drop 1038 = dktL_law_39 := dk_seg dksL_law_38 24 rfl rfl
theorem dksL_law_40 : cL_law.data.toList.drop 1062 = dktL_law_40 := dk_seg dksL_law_39 24 rfl rfl
theorem dksL_law_41 : cL_law.data.toList.drop 1086 = dktL_law_41 := dk_seg dksL_law_40 24 rfl rfl
theorem dksL_law_42 : cL_law.data.toList.drop 1108 = dktL_law_42 := dk_seg dksL_law_41 22 rfl rfl
theorem dksL_law_43 : cL_law.data.toList.drop 1131 = dktL_law_43 := dk_seg dksL_law_42 23 rfl rfl
theorem dksL_law_44 : cL_law.data.toList.drop 1153 = dktL_law_44 := dk_seg dksL_law_43 22 rfl rfl
theorem dksL_law_45 : cL_law.data.toList.drop 1177 = dktL_law_45 := dk_seg dksL_law_44 24 rfl rfl
theorem dksL_law_46 : cL_law.data.toList.drop 1200 = dktL_law_46 := dk_seg dksL_law_45 23 rfl rfl
theorem dksL_law_47 : cL_law.data.toList.drop 1222 = dktL_law_47 := dk_seg dksL_law_46 22 rfl rfl
theorem dksL_law_48 : cL_law.data.toList.drop 1246 = dktL_law_48 := dk_seg dksL_law_47 24 rfl rfl
theorem dksL_law_49 : cL_law.data.toList.drop 1269 = dktL_law_49 := dk_seg dksL_law_48 23 rfl rfl
theorem dksL_law_50 : cL_law.data.toList.drop 1293 = dktL_law_50 := dk_seg dksL_law_49 24 rfl rfl
theorem dksL_law_51 : cL_law.data.toList.drop 1315 = dktL_law_51 := dk_seg dksL_law_50 22 rfl rfl
theorem dksL_law_52 : cL_law.data.toList.drop 1337 = dktL_law_52 := dk_seg dksL_law_51 22 rfl rfl
theorem dksL_law_53 : cL_law.data.toList.drop 1360 = dktL_law_53 := dk_seg dksL_law_52 23 rfl rfl
theorem dksL_law_54 : cL_law.data.toList.drop 1384 = dktL_law_54 := dk_seg dksL_law_53 24 rfl rfl
theorem dksL_law_55 : cL_law.data.toList.drop 1407 = dktL_law_55 := dk_seg dksL_law_54 23 rfl rfl
theorem dksL_law_56 : cL_law.data.toList.drop 1431 = dktL_law_56 := dk_seg dksL_law_55 24 rfl rfl
theorem dksL_law_57 : cL_law.data.toList.drop 1454 = dktL_law_57 := dk_seg dksL_law_56 23 rfl rfl
theorem dksL_law_58 : cL_law.data.toList.drop 1478 = dktL_law_58 := dk_seg dksL_law_57 24 rfl rfl
theorem dksL_law_59 : cL_law.data.toList.drop 1502 = dktL_law_59 := dk_seg dksL_law_58 24 rfl rfl
theorem dksL_law_60 : cL_law.data.toList.drop 1524 = dktL_law_60 := dk_seg dksL_law_59 22 rfl rfl
theorem dksL_law_61 : cL_law.data.toList.drop 1547 = dktL_law_61 := dk_seg dksL_law_60 23 rfl rfl
theorem dksL_law_62 : cL_law.data.toList.drop 1570 = dktL_law_62 := dk_seg dksL_law_61 23 rfl rfl
theorem dksL_law_63 : cL_law.data.toList.drop 1593 = dktL_law_63 := dk_seg dksL_law_62 23 rfl rfl
theorem dksL_law_64 : cL_law.data.toList.drop 1617 = dktL_law_64 := dk_seg dksL_law_63 24 rfl rfl
theorem dksL_law_65 : cL_law.data.toList.drop 1640 = dktL_law_65 := dk_seg dksL_law_64 23 rfl rfl
theorem dksL_law_66 : cL_law.data.toList.drop 1663 = dktL_law_66 := dk_seg dksL_law_65 23 rfl rfl
theorem dksL_law_67 : cL_law.data.toList.drop 1685 = dktL_law_67 := dk_seg dksL_law_66 22 rfl rfl
theorem dksL_law_68 : cL_law.data.toList.drop 1708 = dktL_law_68 := dk_seg dksL_law_67 23 rfl rfl
theorem dksL_law_69 : cL_law.data.toList.drop 1732 = dktL_law_69 := dk_seg dksL_law_68 24 rfl rfl
theorem dksL_law_70 : cL_law.data.toList.drop 1756 = dktL_law_70 := dk_seg dksL_law_69 24 rfl rfl
theorem dksL_law_71 : cL_law.data.toList.drop 1779 = dktL_law_71 := dk_seg dksL_law_70 23 rfl rfl
theorem dksL_law_72 : cL_law.data.toList.drop 1803 = dktL_law_72 := dk_seg dksL_law_71 24 rfl rfl
theorem dksL_law_73 : cL_law.data.toList.drop 1827 = dktL_law_73 := dk_seg dksL_law_72 24 rfl rfl
theorem dksL_law_74 : cL_law.data.toList.drop 1850 = dktL_law_74 := dk_seg dksL_law_73 23 rfl rfl
theorem dksL_law_75 : cL_law.data.toList.drop 1873 = dktL_law_75 := dk_seg dksL_law_74 23 rfl rfl
theorem dksL_law_76 : cL_law.data.toList.drop 1897 = dktL_law_76 := dk_seg dksL_law_75 24 rfl rfl
theorem dksL_law_77 : cL_law.data.toList.drop 1920 = dktL_law_77 := dk_seg dksL_law_76 23 rfl rfl
theorem dksL_law_78 : cL_law.data.toList.drop 1943 = dktL_law_78 := dk_seg dksL_law_77 23 rfl rfl
theorem dksL_law_79 : cL_law.data.toList.drop 1965 = dktL_law_79 := dk_seg dksL_law_78 22 rfl rfl
theorem dksL_law_80 : cL_law.data.toList.drop 1988 = dktL_law_80 := dk_seg dksL_law_79 23 rfl rfl
theorem dksL_law_81 : cL_law.data.toList.drop 2011 = dktL_law_81 := dk_seg dksL_law_80 23 rfl rfl
theorem dksL_law_82 : cL_law.data.toList.drop 2035 = dktL_law_82 := dk_seg dksL_law_81 24 rfl rfl
theorem dksL_law_83 : cL_law.data.toList.drop 2057 = dktL_law_83 := dk_seg dksL_law_82 22 rfl rfl
theorem dksL_law_84 : cL_law.data.toList.drop 2079 = dktL_law_84 := dk_seg dksL_law_83 22 rfl rfl
theorem dksL_law_85 : cL_law.data.toList.drop 2101 = dktL_law_85 := dk_seg dksL_law_84 22 rfl rfl
theorem dksL_law_86 : cL_law.data.toList.drop 2123 = dktL_law_86 := dk_seg dksL_law_85 22 rfl rfl
theorem dksL_law_87 : cL_law.data.toList.drop 2145 = dktL_law_87 := dk_seg dksL_law_86 22 rfl rfl
theorem dksL_law_88 : cL_law.data.toList.drop 2167 = dktL_law_88 := dk_seg dksL_law_87 22 rfl rfl
theorem dksL_law_89 : cL_law.data.toList.drop 2190 = dktL_law_89 := dk_seg dksL_law_88 23 rfl rfl
theorem dksL_law_90 : cL_law.data.toList.drop 2214 = dktL_law_90 := dk_seg dksL_law_89 24 rfl rfl
theorem dksL_law_91 : cL_law.data.toList.drop 2238 = dktL_law_91 := dk_seg dksL_law_90 24 rfl rfl
theorem dL_law_0 : decode cL_law 0 = .ok (.new 8, 3) := dk_187 0 8 (dk_at dksL_law_0 0 rfl rfl)
theorem dL_law_3 : decode cL_law 3 = .ok (.dup, 1) := dk_89 (dk_at dksL_law_0 3 rfl rfl)
theorem dL_law_4 : decode cL_law 4 = .ok (.invokespecial 130, 3) := dk_183 0 130 (dk_at dksL_law_0 4 rfl rfl)
theorem dL_law_7 : decode cL_law 7 = .ok (.astore_n 1, 1) := dk_76 (dk_at dksL_law_0 7 rfl rfl)
theorem dL_law_8 : decode cL_law 8 = .ok (.new 131, 3) := dk_187 0 131 (dk_at dksL_law_0 8 rfl rfl)
theorem dL_law_11 : decode cL_law 11 = .ok (.dup, 1) := dk_89 (dk_at dksL_law_0 11 rfl rfl)
theorem dL_law_12 : decode cL_law 12 = .ok (.invokespecial 133, 3) := dk_183 0 133 (dk_at dksL_law_0 12 rfl rfl)
theorem dL_law_15 : decode cL_law 15 = .ok (.astore_n 2, 1) := dk_77 (dk_at dksL_law_0 15 rfl rfl)
theorem dL_law_16 : decode cL_law 16 = .ok (.iconst 1, 1) := dk_4 (dk_at dksL_law_0 16 rfl rfl)
theorem dL_law_17 : decode cL_law 17 = .ok (.newarray .long, 2) := dk_188_11 (dk_at dksL_law_0 17 rfl rfl)
theorem dL_law_19 : decode cL_law 19 = .ok (.astore_n 3, 1) := dk_78 (dk_at dksL_law_0 19 rfl rfl)
theorem dL_law_20 : decode cL_law 20 = .ok (.iconst 1, 1) := dk_4 (dk_at dksL_law_0 20 rfl rfl)
theorem dL_law_21 : decode cL_law 21 = .ok (.newarray .double, 2) := dk_188_7 (dk_at dksL_law_0 21 rfl rfl)
theorem dL_law_23 : decode cL_law 23 = .ok (.astore 4, 2) := dk_58 4 (dk_at dksL_law_1 0 rfl rfl)
theorem dL_law_25 : decode cL_law 25 = .ok (.iconst 0, 1) := dk_3 (dk_at dksL_law_1 2 rfl rfl)
theorem dL_law_26 : decode cL_law 26 = .ok (.istore 5, 2) := dk_54 5 (dk_at dksL_law_1 3 rfl rfl)
theorem dL_law_28 : decode cL_law 28 = .ok (.iload 5, 2) := dk_21 5 (dk_at dksL_law_1 5 rfl rfl)
theorem dL_law_30 : decode cL_law 30 = .ok (.aload_n 0, 1) := dk_42 (dk_at dksL_law_1 7 rfl rfl)
theorem dL_law_31 : decode cL_law 31 = .ok (.arraylength, 1) := dk_190 (dk_at dksL_law_1 8 rfl rfl)
theorem dL_law_32 : decode cL_law 32 = .ok (.iconst 4, 1) := dk_7 (dk_at dksL_law_1 9 rfl rfl)
theorem dL_law_33 : decode cL_law 33 = .ok (.isub, 1) := dk_100 (dk_at dksL_law_1 10 rfl rfl)
theorem dL_law_34 : decode cL_law 34 = .ok (.if_icmp .gt 2204, 3) := dk_163 8 156 (dk_at dksL_law_1 11 rfl rfl)
theorem dL_law_37 : decode cL_law 37 = .ok (.aload_n 0, 1) := dk_42 (dk_at dksL_law_1 14 rfl rfl)
theorem dL_law_38 : decode cL_law 38 = .ok (.iload 5, 2) := dk_21 5 (dk_at dksL_law_1 15 rfl rfl)
theorem dL_law_40 : decode cL_law 40 = .ok (.iaload, 1) := dk_46 (dk_at dksL_law_1 17 rfl rfl)
theorem dL_law_41 : decode cL_law 41 = .ok (.bipush 63, 2) := dk_16 63 (dk_at dksL_law_1 18 rfl rfl)
theorem dL_law_43 : decode cL_law 43 = .ok (.iand, 1) := dk_126 (dk_at dksL_law_1 20 rfl rfl)
theorem dL_law_44 : decode cL_law 44 = .ok (.tableswitch 2188 0 35 #[160, 216, 284, 352, 420, 488, 544, 612, 680, 724, 792, 848, 932, 988, 1056, 1112, 1196, 1252, 1296, 1352, 1408, 1488, 1544, 1588, 1644, 1700, 1713, 1726, 1791, 1857, 1929, 1985, 2043, 2087, 2131, 2144], 160) := by decide +kernel
theorem dL_law_204 : decode cL_law 204 = .ok (.aload_n 1, 1) := dk_43 (dk_at dksL_law_3 0 rfl rfl)
theorem dL_law_205 : decode cL_law 205 = .ok (.aload_n 0, 1) := dk_42 (dk_at dksL_law_3 1 rfl rfl)
theorem dL_law_206 : decode cL_law 206 = .ok (.iload 5, 2) := dk_21 5 (dk_at dksL_law_3 2 rfl rfl)
theorem dL_law_208 : decode cL_law 208 = .ok (.iconst 1, 1) := dk_4 (dk_at dksL_law_3 4 rfl rfl)
theorem dL_law_209 : decode cL_law 209 = .ok (.iadd, 1) := dk_96 (dk_at dksL_law_3 5 rfl rfl)
theorem dL_law_210 : decode cL_law 210 = .ok (.iaload, 1) := dk_46 (dk_at dksL_law_3 6 rfl rfl)
theorem dL_law_211 : decode cL_law 211 = .ok (.aload_n 3, 1) := dk_45 (dk_at dksL_law_3 7 rfl rfl)
theorem dL_law_212 : decode cL_law 212 = .ok (.invokestatic 134, 3) := dk_184 0 134 (dk_at dksL_law_3 8 rfl rfl)
theorem dL_law_215 : decode cL_law 215 = .ok (.istore 6, 2) := dk_54 6 (dk_at dksL_law_3 11 rfl rfl)
theorem dL_law_217 : decode cL_law 217 = .ok (.aload_n 2, 1) := dk_44 (dk_at dksL_law_3 13 rfl rfl)
theorem dL_law_218 : decode cL_law 218 = .ok (.aload_n 0, 1) := dk_42 (dk_at dksL_law_3 14 rfl rfl)
theorem dL_law_219 : decode cL_law 219 = .ok (.iload 5, 2) := dk_21 5 (dk_at dksL_law_3 15 rfl rfl)
theorem dL_law_221 : decode cL_law 221 = .ok (.iconst 1, 1) := dk_4 (dk_at dksL_law_3 17 rfl rfl)
theorem dL_law_222 : decode cL_law 222 = .ok (.iadd, 1) := dk_96 (dk_at dksL_law_3 18 rfl rfl)
theorem dL_law_223 : decode cL_law 223 = .ok (.iaload, 1) := dk_46 (dk_at dksL_law_3 19 rfl rfl)
theorem dL_law_224 : decode cL_law 224 = .ok (.invokevirtual 139, 3) := dk_182 0 139 (dk_at dksL_law_3 20 rfl rfl)
theorem dL_law_227 : decode cL_law 227 = .ok (.istore 7, 2) := dk_54 7 (dk_at dksL_law_4 0 rfl rfl)
theorem dL_law_229 : decode cL_law 229 = .ok (.aload_n 2, 1) := dk_44 (dk_at dksL_law_4 2 rfl rfl)
theorem dL_law_230 : decode cL_law 230 = .ok (.invokevirtual 140, 3) := dk_182 0 140 (dk_at dksL_law_4 3 rfl rfl)
theorem dL_law_233 : decode cL_law 233 = .ok (.iload 6, 2) := dk_21 6 (dk_at dksL_law_4 6 rfl rfl)
theorem dL_law_235 : decode cL_law 235 = .ok (.if_icmp .eq 5, 3) := dk_159 0 5 (dk_at dksL_law_4 8 rfl rfl)
theorem dL_law_238 : decode cL_law 238 = .ok (.iconst 0, 1) := dk_3 (dk_at dksL_law_4 11 rfl rfl)
theorem dL_law_239 : decode cL_law 239 = .ok (.ireturn, 1) := dk_172 (dk_at dksL_law_4 12 rfl rfl)
theorem dL_law_240 : decode cL_law 240 = .ok (.iload 6, 2) := dk_21 6 (dk_at dksL_law_4 13 rfl rfl)
theorem dL_law_242 : decode cL_law 242 = .ok (.ifCond .ne 15, 3) := dk_154 0 15 (dk_at dksL_law_4 15 rfl rfl)
theorem dL_law_245 : decode cL_law 245 = .ok (.aload_n 3, 1) := dk_45 (dk_at dksL_law_4 18 rfl rfl)
theorem dL_law_246 : decode cL_law 246 = .ok (.iconst 0, 1) := dk_3 (dk_at dksL_law_4 19 rfl rfl)
theorem dL_law_247 : decode cL_law 247 = .ok (.laload, 1) := dk_47 (dk_at dksL_law_4 20 rfl rfl)
theorem dL_law_248 : decode cL_law 248 = .ok (.iload 7, 2) := dk_21 7 (dk_at dksL_law_4 21 rfl rfl)
theorem dL_law_250 : decode cL_law 250 = .ok (.i2l, 1) := dk_133 (dk_at dksL_law_4 23 rfl rfl)
theorem dL_law_251 : decode cL_law 251 = .ok (.lcmp, 1) := dk_148 (dk_at dksL_law_5 0 rfl rfl)
theorem dL_law_252 : decode cL_law 252 = .ok (.ifCond .eq 5, 3) := dk_153 0 5 (dk_at dksL_law_5 1 rfl rfl)
theorem dL_law_255 : decode cL_law 255 = .ok (.iconst 0, 1) := dk_3 (dk_at dksL_law_5 4 rfl rfl)
theorem dL_law_256 : decode cL_law 256 = .ok (.ireturn, 1) := dk_172 (dk_at dksL_law_5 5 rfl rfl)
theorem dL_law_257 : decode cL_law 257 = .ok (.goto 1975, 3) := dk_167 7 183 (dk_at dksL_law_5 6 rfl rfl)
theorem dL_law_260 : decode cL_law 260 = .ok (.aload_n 1, 1) := dk_43 (dk_at dksL_law_5 9 rfl rfl)
theorem dL_law_261 : decode cL_law 261 = .ok (.aload_n 0, 1) := dk_42 (dk_at dksL_law_5 10 rfl rfl)
theorem dL_law_262 : decode cL_law 262 = .ok (.iload 5, 2) := dk_21 5 (dk_at dksL_law_5 11 rfl rfl)
theorem dL_law_264 : decode cL_law 264 = .ok (.iconst 1, 1) := dk_4 (dk_at dksL_law_5 13 rfl rfl)
theorem dL_law_265 : decode cL_law 265 = .ok (.iadd, 1) := dk_96 (dk_at dksL_law_5 14 rfl rfl)
theorem dL_law_266 : decode cL_law 266 = .ok (.iaload, 1) := dk_46 (dk_at dksL_law_5 15 rfl rfl)
theorem dL_law_267 : decode cL_law 267 = .ok (.aload_n 0, 1) := dk_42 (dk_at dksL_law_5 16 rfl rfl)
theorem dL_law_268 : decode cL_law 268 = .ok (.iload 5, 2) := dk_21 5 (dk_at dksL_law_5 17 rfl rfl)
theorem dL_law_270 : decode cL_law 270 = .ok (.iconst 2, 1) := dk_5 (dk_at dksL_law_5 19 rfl rfl)
theorem dL_law_271 : decode cL_law 271 = .ok (.iadd, 1) := dk_96 (dk_at dksL_law_5 20 rfl rfl)
theorem dL_law_272 : decode cL_law 272 = .ok (.iaload, 1) := dk_46 (dk_at dksL_law_5 21 rfl rfl)
theorem dL_law_273 : decode cL_law 273 = .ok (.aload_n 3, 1) := dk_45 (dk_at dksL_law_5 22 rfl rfl)
theorem dL_law_274 : decode cL_law 274 = .ok (.invokestatic 143, 3) := dk_184 0 143 (dk_at dksL_law_6 0 rfl rfl)
theorem dL_law_277 : decode cL_law 277 = .ok (.istore 6, 2) := dk_54 6 (dk_at dksL_law_6 3 rfl rfl)
theorem dL_law_279 : decode cL_law 279 = .ok (.aload_n 2, 1) := dk_44 (dk_at dksL_law_6 5 rfl rfl)
theorem dL_law_280 : decode cL_law 280 = .ok (.aload_n 0, 1) := dk_42 (dk_at dksL_law_6 6 rfl rfl)
theorem dL_law_281 : decode cL_law 281 = .ok (.iload 5, 2) := dk_21 5 (dk_at dksL_law_6 7 rfl rfl)
theorem dL_law_283 : decode cL_law 283 = .ok (.iconst 1, 1) := dk_4 (dk_at dksL_law_6 9 rfl rfl)
theorem dL_law_284 : decode cL_law 284 = .ok (.iadd, 1) := dk_96 (dk_at dksL_law_6 10 rfl rfl)
theorem dL_law_285 : decode cL_law 285 = .ok (.iaload, 1) := dk_46 (dk_at dksL_law_6 11 rfl rfl)
theorem dL_law_286 : decode cL_law 286 = .ok (.aload_n 0, 1) := dk_42 (dk_at dksL_law_6 12 rfl rfl)
theorem dL_law_287 : decode cL_law 287 = .ok (.iload 5, 2) := dk_21 5 (dk_at dksL_law_6 13 rfl rfl)
theorem dL_law_289 : decode cL_law 289 = .ok (.iconst 2, 1) := dk_5 (dk_at dksL_law_6 15 rfl rfl)
theorem dL_law_290 : decode cL_law 290 = .ok (.iadd, 1) := dk_96 (dk_at dksL_law_6 16 rfl rfl)
theorem dL_law_291 : decode cL_law 291 = .ok (.iaload, 1) := dk_46 (dk_at dksL_law_6 17 rfl rfl)
theorem dL_law_292 : decode cL_law 292 = .ok (.invokevirtual 146, 3) := dk_182 0 146 (dk_at dksL_law_6 18 rfl rfl)
theorem dL_law_295 : decode cL_law 295 = .ok (.istore 7, 2) := dk_54 7 (dk_at dksL_law_6 21 rfl rfl)
theorem dL_law_297 : decode cL_law 297 = .ok (.aload_n 2, 1) := dk_44 (dk_at dksL_law_6 23 rfl rfl)
theorem dL_law_298 : decode cL_law 298 = .ok (.invokevirtual 140, 3) := dk_182 0 140 (dk_at dksL_law_7 0 rfl rfl)
theorem dL_law_301 : decode cL_law 301 = .ok (.iload 6, 2) := dk_21 6 (dk_at dksL_law_7 3 rfl rfl)
theorem dL_law_303 : decode cL_law 303 = .ok (.if_icmp .eq 5, 3) := dk_159 0 5 (dk_at dksL_law_7 5 rfl rfl)
theorem dL_law_306 : decode cL_law 306 = .ok (.iconst 0, 1) := dk_3 (dk_at dksL_law_7 8 rfl rfl)
theorem dL_law_307 : decode cL_law 307 = .ok (.ireturn, 1) := dk_172 (dk_at dksL_law_7 9 rfl rfl)
theorem dL_law_308 : decode cL_law 308 = .ok (.iload 6, 2) := dk_21 6 (dk_at dksL_law_7 10 rfl rfl)
theorem dL_law_310 : decode cL_law 310 = .ok (.ifCond .ne 15, 3) := dk_154 0 15 (dk_at dksL_law_7 12 rfl rfl)
theorem dL_law_313 : decode cL_law 313 = .ok (.aload_n 3, 1) := dk_45 (dk_at dksL_law_7 15 rfl rfl)
theorem dL_law_314 : decode cL_law 314 = .ok (.iconst 0, 1) := dk_3 (dk_at dksL_law_7 16 rfl rfl)
theorem dL_law_315 : decode cL_law 315 = .ok (.laload, 1) := dk_47 (dk_at dksL_law_7 17 rfl rfl)
theorem dL_law_316 : decode cL_law 316 = .ok (.iload 7, 2) := dk_21 7 (dk_at dksL_law_7 18 rfl rfl)
theorem dL_law_318 : decode cL_law 318 = .ok (.i2l, 1) := dk_133 (dk_at dksL_law_7 20 rfl rfl)
theorem dL_law_319 : decode cL_law 319 = .ok (.lcmp, 1) := dk_148 (dk_at dksL_law_7 21 rfl rfl)
theorem dL_law_320 : decode cL_law 320 = .ok (.ifCond .eq 5, 3) := dk_153 0 5 (dk_at dksL_law_8 0 rfl rfl)
theorem dL_law_323 : decode cL_law 323 = .ok (.iconst 0, 1) := dk_3 (dk_at dksL_law_8 3 rfl rfl)
theorem dL_law_324 : decode cL_law 324 = .ok (.ireturn, 1) := dk_172 (dk_at dksL_law_8 4 rfl rfl)
theorem dL_law_325 : decode cL_law 325 = .ok (.goto 1907, 3) := dk_167 7 115 (dk_at dksL_law_8 5 rfl rfl)
theorem dL_law_328 : decode cL_law 328 = .ok (.aload_n 1, 1) := dk_43 (dk_at dksL_law_8 8 rfl rfl)
theorem dL_law_329 : decode cL_law 329 = .ok (.aload_n 0, 1) := dk_42 (dk_at dksL_law_8 9 rfl rfl)
theorem dL_law_330 : decode cL_law 330 = .ok (.iload 5, 2) := dk_21 5 (dk_at dksL_law_8 10 rfl rfl)
theorem dL_law_332 : decode cL_law 332 = .ok (.iconst 1, 1) := dk_4 (dk_at dksL_law_8 12 rfl rfl)
theorem dL_law_333 : decode cL_law 333 = .ok (.iadd, 1) := dk_96 (dk_at dksL_law_8 13 rfl rfl)
theorem dL_law_334 : decode cL_law 334 = .ok (.iaload, 1) := dk_46 (dk_at dksL_law_8 14 rfl rfl)
theorem dL_law_335 : decode cL_law 335 = .ok (.aload_n 0, 1) := dk_42 (dk_at dksL_law_8 15 rfl rfl)
theorem dL_law_336 : decode cL_law 336 = .ok (.iload 5, 2) := dk_21 5 (dk_at dksL_law_8 16 rfl rfl)
theorem dL_law_338 : decode cL_law 338 = .ok (.iconst 2, 1) := dk_5 (dk_at dksL_law_8 18 rfl rfl)
theorem dL_law_339 : decode cL_law 339 = .ok (.iadd, 1) := dk_96 (dk_at dksL_law_8 19 rfl rfl)
theorem dL_law_340 : decode cL_law 340 = .ok (.iaload, 1) := dk_46 (dk_at dksL_law_8 20 rfl rfl)
theorem dL_law_341 : decode cL_law 341 = .ok (.aload_n 3, 1) := dk_45 (dk_at dksL_law_8 21 rfl rfl)
theorem dL_law_342 : decode cL_law 342 = .ok (.invokestatic 147, 3) := dk_184 0 147 (dk_at dksL_law_9 0 rfl rfl)
theorem dL_law_345 : decode cL_law 345 = .ok (.istore 6, 2) := dk_54 6 (dk_at dksL_law_9 3 rfl rfl)
theorem dL_law_347 : decode cL_law 347 = .ok (.aload_n 2, 1) := dk_44 (dk_at dksL_law_9 5 rfl rfl)
theorem dL_law_348 : decode cL_law 348 = .ok (.aload_n 0, 1) := dk_42 (dk_at dksL_law_9 6 rfl rfl)
theorem dL_law_349 : decode cL_law 349 = .ok (.iload 5, 2) := dk_21 5 (dk_at dksL_law_9 7 rfl rfl)
theorem dL_law_351 : decode cL_law 351 = .ok (.iconst 1, 1) := dk_4 (dk_at dksL_law_9 9 rfl rfl)
theorem dL_law_352 : decode cL_law 352 = .ok (.iadd, 1) := dk_96 (dk_at dksL_law_9 10 rfl rfl)
theorem dL_law_353 : decode cL_law 353 = .ok (.iaload, 1) := dk_46 (dk_at dksL_law_9 11 rfl rfl)
theorem dL_law_354 : decode cL_law 354 = .ok (.aload_n 0, 1) := dk_42 (dk_at dksL_law_9 12 rfl rfl)
theorem dL_law_355 : decode cL_law 355 = .ok (.iload 5, 2) := dk_21 5 (dk_at dksL_law_9 13 rfl rfl)
theorem dL_law_357 : decode cL_law 357 = .ok (.iconst 2, 1) := dk_5 (dk_at dksL_law_9 15 rfl rfl)
theorem dL_law_358 : decode cL_law 358 = .ok (.iadd, 1) := dk_96 (dk_at dksL_law_9 16 rfl rfl)
theorem dL_law_359 : decode cL_law 359 = .ok (.iaload, 1) := dk_46 (dk_at dksL_law_9 17 rfl rfl)
theorem dL_law_360 : decode cL_law 360 = .ok (.invokevirtual 149, 3) := dk_182 0 149 (dk_at dksL_law_9 18 rfl rfl)
theorem dL_law_363 : decode cL_law 363 = .ok (.istore 7, 2) := dk_54 7 (dk_at dksL_law_9 21 rfl rfl)
theorem dL_law_365 : decode cL_law 365 = .ok (.aload_n 2, 1) := dk_44 (dk_at dksL_law_9 23 rfl rfl)
theorem dL_law_366 : decode cL_law 366 = .ok (.invokevirtual 140, 3) := dk_182 0 140 (dk_at dksL_law_10 0 rfl rfl)
theorem dL_law_369 : decode cL_law 369 = .ok (.iload 6, 2) := dk_21 6 (dk_at dksL_law_10 3 rfl rfl)
theorem dL_law_371 : decode cL_law 371 = .ok (.if_icmp .eq 5, 3) := dk_159 0 5 (dk_at dksL_law_10 5 rfl rfl)
theorem dL_law_374 : decode cL_law 374 = .ok (.iconst 0, 1) := dk_3 (dk_at dksL_law_10 8 rfl rfl)
theorem dL_law_375 : decode cL_law 375 = .ok (.ireturn, 1) := dk_172 (dk_at dksL_law_10 9 rfl rfl)
theorem dL_law_376 : decode cL_law 376 = .ok (.iload 6, 2) := dk_21 6 (dk_at dksL_law_10 10 rfl rfl)
theorem dL_law_378 : decode cL_law 378 = .ok (.ifCond .ne 15, 3) := dk_154 0 15 (dk_at dksL_law_10 12 rfl rfl)
theorem dL_law_381 : decode cL_law 381 = .ok (.aload_n 3, 1) := dk_45 (dk_at dksL_law_10 15 rfl rfl)
theorem dL_law_382 : decode cL_law 382 = .ok (.iconst 0, 1) := dk_3 (dk_at dksL_law_10 16 rfl rfl)
theorem dL_law_383 : decode cL_law 383 = .ok (.laload, 1) := dk_47 (dk_at dksL_law_10 17 rfl rfl)
theorem dL_law_384 : decode cL_law 384 = .ok (.iload 7, 2) := dk_21 7 (dk_at dksL_law_10 18 rfl rfl)
theorem dL_law_386 : decode cL_law 386 = .ok (.i2l, 1) := dk_133 (dk_at dksL_law_10 20 rfl rfl)
theorem dL_law_387 : decode cL_law 387 = .ok (.lcmp, 1) := dk_148 (dk_at dksL_law_10 21 rfl rfl)
theorem dL_law_388 : decode cL_law 388 = .ok (.ifCond .eq 5, 3) := dk_153 0 5 (dk_at dksL_law_11 0 rfl rfl)
theorem dL_law_391 : decode cL_law 391 = .ok (.iconst 0, 1) := dk_3 (dk_at dksL_law_11 3 rfl rfl)
theorem dL_law_392 : decode cL_law 392 = .ok (.ireturn, 1) := dk_172 (dk_at dksL_law_11 4 rfl rfl)
theorem dL_law_393 : decode cL_law 393 = .ok (.goto 1839, 3) := dk_167 7 47 (dk_at dksL_law_11 5 rfl rfl)
theorem dL_law_396 : decode cL_law 396 = .ok (.aload_n 1, 1) := dk_43 (dk_at dksL_law_11 8 rfl rfl)
theorem dL_law_397 : decode cL_law 397 = .ok (.aload_n 0, 1) := dk_42 (dk_at dksL_law_11 9 rfl rfl)
theorem dL_law_398 : decode cL_law 398 = .ok (.iload 5, 2) := dk_21 5 (dk_at dksL_law_11 10 rfl rfl)
theorem dL_law_400 : decode cL_law 400 = .ok (.iconst 1, 1) := dk_4 (dk_at dksL_law_11 12 rfl rfl)
theorem dL_law_401 : decode cL_law 401 = .ok (.iadd, 1) := dk_96 (dk_at dksL_law_11 13 rfl rfl)
theorem dL_law_402 : decode cL_law 402 = .ok (.iaload, 1) := dk_46 (dk_at dksL_law_11 14 rfl rfl)
theorem dL_law_403 : decode cL_law 403 = .ok (.aload_n 0, 1) := dk_42 (dk_at dksL_law_11 15 rfl rfl)
theorem dL_law_404 : decode cL_law 404 = .ok (.iload 5, 2) := dk_21 5 (dk_at dksL_law_11 16 rfl rfl)
theorem dL_law_406 : decode cL_law 406 = .ok (.iconst 2, 1) := dk_5 (dk_at dksL_law_11 18 rfl rfl)
theorem dL_law_407 : decode cL_law 407 = .ok (.iadd, 1) := dk_96 (dk_at dksL_law_11 19 rfl rfl)
theorem dL_law_408 : decode cL_law 408 = .ok (.iaload, 1) := dk_46 (dk_at dksL_law_11 20 rfl rfl)
theorem dL_law_409 : decode cL_law 409 = .ok (.aload_n 3, 1) := dk_45 (dk_at dksL_law_11 21 rfl rfl)
theorem dL_law_410 : decode cL_law 410 = .ok (.invokestatic 150, 3) := dk_184 0 150 (dk_at dksL_law_12 0 rfl rfl)
theorem dL_law_413 : decode cL_law 413 = .ok (.istore 6, 2) := dk_54 6 (dk_at dksL_law_12 3 rfl rfl)
theorem dL_law_415 : decode cL_law 415 = .ok (.aload_n 2, 1) := dk_44 (dk_at dksL_law_12 5 rfl rfl)
theorem dL_law_416 : decode cL_law 416 = .ok (.aload_n 0, 1) := dk_42 (dk_at dksL_law_12 6 rfl rfl)
theorem dL_law_417 : decode cL_law 417 = .ok (.iload 5, 2) := dk_21 5 (dk_at dksL_law_12 7 rfl rfl)
theorem dL_law_419 : decode cL_law 419 = .ok (.iconst 1, 1) := dk_4 (dk_at dksL_law_12 9 rfl rfl)
theorem dL_law_420 : decode cL_law 420 = .ok (.iadd, 1) := dk_96 (dk_at dksL_law_12 10 rfl rfl)
theorem dL_law_421 : decode cL_law 421 = .ok (.iaload, 1) := dk_46 (dk_at dksL_law_12 11 rfl rfl)
theorem dL_law_422 : decode cL_law 422 = .ok (.aload_n 0, 1) := dk_42 (dk_at dksL_law_12 12 rfl rfl)
theorem dL_law_423 : decode cL_law 423 = .ok (.iload 5, 2) := dk_21 5 (dk_at dksL_law_12 13 rfl rfl)
theorem dL_law_425 : decode cL_law 425 = .ok (.iconst 2, 1) := dk_5 (dk_at dksL_law_12 15 rfl rfl)
theorem dL_law_426 : decode cL_law 426 = .ok (.iadd, 1) := dk_96 (dk_at dksL_law_12 16 rfl rfl)
theorem dL_law_427 : decode cL_law 427 = .ok (.iaload, 1) := dk_46 (dk_at dksL_law_12 17 rfl rfl)
theorem dL_law_428 : decode cL_law 428 = .ok (.invokevirtual 152, 3) := dk_182 0 152 (dk_at dksL_law_12 18 rfl rfl)
theorem dL_law_431 : decode cL_law 431 = .ok (.istore 7, 2) := dk_54 7 (dk_at dksL_law_12 21 rfl rfl)
theorem dL_law_433 : decode cL_law 433 = .ok (.aload_n 2, 1) := dk_44 (dk_at dksL_law_12 23 rfl rfl)
theorem dL_law_434 : decode cL_law 434 = .ok (.invokevirtual 140, 3) := dk_182 0 140 (dk_at dksL_law_13 0 rfl rfl)
theorem dL_law_437 : decode cL_law 437 = .ok (.iload 6, 2) := dk_21 6 (dk_at dksL_law_13 3 rfl rfl)
theorem dL_law_439 : decode cL_law 439 = .ok (.if_icmp .eq 5, 3) := dk_159 0 5 (dk_at dksL_law_13 5 rfl rfl)
theorem dL_law_442 : decode cL_law 442 = .ok (.iconst 0, 1) := dk_3 (dk_at dksL_law_13 8 rfl rfl)
theorem dL_law_443 : decode cL_law 443 = .ok (.ireturn, 1) := dk_172 (dk_at dksL_law_13 9 rfl rfl)
theorem dL_law_444 : decode cL_law 444 = .ok (.iload 6, 2) := dk_21 6 (dk_at dksL_law_13 10 rfl rfl)
theorem dL_law_446 : decode cL_law 446 = .ok (.ifCond .ne 15, 3) := dk_154 0 15 (dk_at dksL_law_13 12 rfl rfl)
theorem dL_law_449 : decode cL_law 449 = .ok (.aload_n 3, 1) := dk_45 (dk_at dksL_law_13 15 rfl rfl)
theorem dL_law_450 : decode cL_law 450 = .ok (.iconst 0, 1) := dk_3 (dk_at dksL_law_13 16 rfl rfl)
theorem dL_law_451 : decode cL_law 451 = .ok (.laload, 1) := dk_47 (dk_at dksL_law_13 17 rfl rfl)
theorem dL_law_452 : decode cL_law 452 = .ok (.iload 7, 2) := dk_21 7 (dk_at dksL_law_13 18 rfl rfl)
theorem dL_law_454 : decode cL_law 454 = .ok (.i2l, 1) := dk_133 (dk_at dksL_law_13 20 rfl rfl)
theorem dL_law_455 : decode cL_law 455 = .ok (.lcmp, 1) := dk_148 (dk_at dksL_law_13 21 rfl rfl)
theorem dL_law_456 : decode cL_law 456 = .ok (.ifCond .eq 5, 3) := dk_153 0 5 (dk_at dksL_law_14 0 rfl rfl)
theorem dL_law_459 : decode cL_law 459 = .ok (.iconst 0, 1) := dk_3 (dk_at dksL_law_14 3 rfl rfl)
theorem dL_law_460 : decode cL_law 460 = .ok (.ireturn, 1) := dk_172 (dk_at dksL_law_14 4 rfl rfl)
theorem dL_law_461 : decode cL_law 461 = .ok (.goto 1771, 3) := dk_167 6 235 (dk_at dksL_law_14 5 rfl rfl)
theorem dL_law_464 : decode cL_law 464 = .ok (.aload_n 1, 1) := dk_43 (dk_at dksL_law_14 8 rfl rfl)
theorem dL_law_465 : decode cL_law 465 = .ok (.aload_n 0, 1) := dk_42 (dk_at dksL_law_14 9 rfl rfl)
theorem dL_law_466 : decode cL_law 466 = .ok (.iload 5, 2) := dk_21 5 (dk_at dksL_law_14 10 rfl rfl)
theorem dL_law_468 : decode cL_law 468 = .ok (.iconst 1, 1) := dk_4 (dk_at dksL_law_14 12 rfl rfl)
theorem dL_law_469 : decode cL_law 469 = .ok (.iadd, 1) := dk_96 (dk_at dksL_law_14 13 rfl rfl)
theorem dL_law_470 : decode cL_law 470 = .ok (.iaload, 1) := dk_46 (dk_at dksL_law_14 14 rfl rfl)
theorem dL_law_471 : decode cL_law 471 = .ok (.aload_n 0, 1) := dk_42 (dk_at dksL_law_14 15 rfl rfl)
theorem dL_law_472 : decode cL_law 472 = .ok (.iload 5, 2) := dk_21 5 (dk_at dksL_law_14 16 rfl rfl)
theorem dL_law_474 : decode cL_law 474 = .ok (.iconst 2, 1) := dk_5 (dk_at dksL_law_14 18 rfl rfl)
theorem dL_law_475 : decode cL_law 475 = .ok (.iadd, 1) := dk_96 (dk_at dksL_law_14 19 rfl rfl)
theorem dL_law_476 : decode cL_law 476 = .ok (.iaload, 1) := dk_46 (dk_at dksL_law_14 20 rfl rfl)
theorem dL_law_477 : decode cL_law 477 = .ok (.aload_n 3, 1) := dk_45 (dk_at dksL_law_14 21 rfl rfl)
theorem dL_law_478 : decode cL_law 478 = .ok (.invokestatic 153, 3) := dk_184 0 153 (dk_at dksL_law_15 0 rfl rfl)
theorem dL_law_481 : decode cL_law 481 = .ok (.istore 6, 2) := dk_54 6 (dk_at dksL_law_15 3 rfl rfl)
theorem dL_law_483 : decode cL_law 483 = .ok (.aload_n 2, 1) := dk_44 (dk_at dksL_law_15 5 rfl rfl)
theorem dL_law_484 : decode cL_law 484 = .ok (.aload_n 0, 1) := dk_42 (dk_at dksL_law_15 6 rfl rfl)
theorem dL_law_485 : decode cL_law 485 = .ok (.iload 5, 2) := dk_21 5 (dk_at dksL_law_15 7 rfl rfl)
theorem dL_law_487 : decode cL_law 487 = .ok (.iconst 1, 1) := dk_4 (dk_at dksL_law_15 9 rfl rfl)
theorem dL_law_488 : decode cL_law 488 = .ok (.iadd, 1) := dk_96 (dk_at dksL_law_15 10 rfl rfl)
theorem dL_law_489 : decode cL_law 489 = .ok (.iaload, 1) := dk_46 (dk_at dksL_law_15 11 rfl rfl)
theorem dL_law_490 : decode cL_law 490 = .ok (.aload_n 0, 1) := dk_42 (dk_at dksL_law_15 12 rfl rfl)
theorem dL_law_491 : decode cL_law 491 = .ok (.iload 5, 2) := dk_21 5 (dk_at dksL_law_15 13 rfl rfl)
theorem dL_law_493 : decode cL_law 493 = .ok (.iconst 2, 1) := dk_5 (dk_at dksL_law_15 15 rfl rfl)
theorem dL_law_494 : decode cL_law 494 = .ok (.iadd, 1) := dk_96 (dk_at dksL_law_15 16 rfl rfl)
theorem dL_law_495 : decode cL_law 495 = .ok (.iaload, 1) := dk_46 (dk_at dksL_law_15 17 rfl rfl)
theorem dL_law_496 : decode cL_law 496 = .ok (.invokevirtual 155, 3) := dk_182 0 155 (dk_at dksL_law_15 18 rfl rfl)
theorem dL_law_499 : decode cL_law 499 = .ok (.istore 7, 2) := dk_54 7 (dk_at dksL_law_15 21 rfl rfl)
theorem dL_law_501 : decode cL_law 501 = .ok (.aload_n 2, 1) := dk_44 (dk_at dksL_law_15 23 rfl rfl)
theorem dL_law_502 : decode cL_law 502 = .ok (.invokevirtual 140, 3) := dk_182 0 140 (dk_at dksL_law_16 0 rfl rfl)
theorem dL_law_505 : decode cL_law 505 = .ok (.iload 6, 2) := dk_21 6 (dk_at dksL_law_16 3 rfl rfl)
theorem dL_law_507 : decode cL_law 507 = .ok (.if_icmp .eq 5, 3) := dk_159 0 5 (dk_at dksL_law_16 5 rfl rfl)
theorem dL_law_510 : decode cL_law 510 = .ok (.iconst 0, 1) := dk_3 (dk_at dksL_law_16 8 rfl rfl)
theorem dL_law_511 : decode cL_law 511 = .ok (.ireturn, 1) := dk_172 (dk_at dksL_law_16 9 rfl rfl)
theorem dL_law_512 : decode cL_law 512 = .ok (.iload 6, 2) := dk_21 6 (dk_at dksL_law_16 10 rfl rfl)
theorem dL_law_514 : decode cL_law 514 = .ok (.ifCond .ne 15, 3) := dk_154 0 15 (dk_at dksL_law_16 12 rfl rfl)
theorem dL_law_517 : decode cL_law 517 = .ok (.aload_n 3, 1) := dk_45 (dk_at dksL_law_16 15 rfl rfl)
theorem dL_law_518 : decode cL_law 518 = .ok (.iconst 0, 1) := dk_3 (dk_at dksL_law_16 16 rfl rfl)
theorem dL_law_519 : decode cL_law 519 = .ok (.laload, 1) := dk_47 (dk_at dksL_law_16 17 rfl rfl)
theorem dL_law_520 : decode cL_law 520 = .ok (.iload 7, 2) := dk_21 7 (dk_at dksL_law_16 18 rfl rfl)
theorem dL_law_522 : decode cL_law 522 = .ok (.i2l, 1) := dk_133 (dk_at dksL_law_16 20 rfl rfl)
theorem dL_law_523 : decode cL_law 523 = .ok (.lcmp, 1) := dk_148 (dk_at dksL_law_16 21 rfl rfl)
theorem dL_law_524 : decode cL_law 524 = .ok (.ifCond .eq 5, 3) := dk_153 0 5 (dk_at dksL_law_17 0 rfl rfl)
theorem dL_law_527 : decode cL_law 527 = .ok (.iconst 0, 1) := dk_3 (dk_at dksL_law_17 3 rfl rfl)
theorem dL_law_528 : decode cL_law 528 = .ok (.ireturn, 1) := dk_172 (dk_at dksL_law_17 4 rfl rfl)
theorem dL_law_529 : decode cL_law 529 = .ok (.goto 1703, 3) := dk_167 6 167 (dk_at dksL_law_17 5 rfl rfl)
theorem dL_law_532 : decode cL_law 532 = .ok (.aload_n 1, 1) := dk_43 (dk_at dksL_law_17 8 rfl rfl)
theorem dL_law_533 : decode cL_law 533 = .ok (.aload_n 0, 1) := dk_42 (dk_at dksL_law_17 9 rfl rfl)
theorem dL_law_534 : decode cL_law 534 = .ok (.iload 5, 2) := dk_21 5 (dk_at dksL_law_17 10 rfl rfl)
theorem dL_law_536 : decode cL_law 536 = .ok (.iconst 1, 1) := dk_4 (dk_at dksL_law_17 12 rfl rfl)
theorem dL_law_537 : decode cL_law 537 = .ok (.iadd, 1) := dk_96 (dk_at dksL_law_17 13 rfl rfl)
theorem dL_law_538 : decode cL_law 538 = .ok (.iaload, 1) := dk_46 (dk_at dksL_law_17 14 rfl rfl)
theorem dL_law_539 : decode cL_law 539 = .ok (.aload_n 3, 1) := dk_45 (dk_at dksL_law_17 15 rfl rfl)
theorem dL_law_540 : decode cL_law 540 = .ok (.invokestatic 156, 3) := dk_184 0 156 (dk_at dksL_law_17 16 rfl rfl)
theorem dL_law_543 : decode cL_law 543 = .ok (.istore 6, 2) := dk_54 6 (dk_at dksL_law_17 19 rfl rfl)
theorem dL_law_545 : decode cL_law 545 = .ok (.aload_n 2, 1) := dk_44 (dk_at dksL_law_17 21 rfl rfl)
theorem dL_law_546 : decode cL_law 546 = .ok (.aload_n 0, 1) := dk_42 (dk_at dksL_law_17 22 rfl rfl)
theorem dL_law_547 : decode cL_law 547 = .ok (.iload 5, 2) := dk_21 5 (dk_at dksL_law_18 0 rfl rfl)
theorem dL_law_549 : decode cL_law 549 = .ok (.iconst 1, 1) := dk_4 (dk_at dksL_law_18 2 rfl rfl)
theorem dL_law_550 : decode cL_law 550 = .ok (.iadd, 1) := dk_96 (dk_at dksL_law_18 3 rfl rfl)
theorem dL_law_551 : decode cL_law 551 = .ok (.iaload, 1) := dk_46 (dk_at dksL_law_18 4 rfl rfl)
theorem dL_law_552 : decode cL_law 552 = .ok (.invokevirtual 158, 3) := dk_182 0 158 (dk_at dksL_law_18 5 rfl rfl)
theorem dL_law_555 : decode cL_law 555 = .ok (.istore 7, 2) := dk_54 7 (dk_at dksL_law_18 8 rfl rfl)
theorem dL_law_557 : decode cL_law 557 = .ok (.aload_n 2, 1) := dk_44 (dk_at dksL_law_18 10 rfl rfl)
theorem dL_law_558 : decode cL_law 558 = .ok (.invokevirtual 140, 3) := dk_182 0 140 (dk_at dksL_law_18 11 rfl rfl)
theorem dL_law_561 : decode cL_law 561 = .ok (.iload 6, 2) := dk_21 6 (dk_at dksL_law_18 14 rfl rfl)
theorem dL_law_563 : decode cL_law 563 = .ok (.if_icmp .eq 5, 3) := dk_159 0 5 (dk_at dksL_law_18 16 rfl rfl)
theorem dL_law_566 : decode cL_law 566 = .ok (.iconst 0, 1) := dk_3 (dk_at dksL_law_18 19 rfl rfl)
theorem dL_law_567 : decode cL_law 567 = .ok (.ireturn, 1) := dk_172 (dk_at dksL_law_18 20 rfl rfl)
theorem dL_law_568 : decode cL_law 568 = .ok (.iload 6, 2) := dk_21 6 (dk_at dksL_law_18 21 rfl rfl)
theorem dL_law_570 : decode cL_law 570 = .ok (.ifCond .ne 15, 3) := dk_154 0 15 (dk_at dksL_law_19 0 rfl rfl)
theorem dL_law_573 : decode cL_law 573 = .ok (.aload_n 3, 1) := dk_45 (dk_at dksL_law_19 3 rfl rfl)
theorem dL_law_574 : decode cL_law 574 = .ok (.iconst 0, 1) := dk_3 (dk_at dksL_law_19 4 rfl rfl)
theorem dL_law_575 : decode cL_law 575 = .ok (.laload, 1) := dk_47 (dk_at dksL_law_19 5 rfl rfl)
theorem dL_law_576 : decode cL_law 576 = .ok (.iload 7, 2) := dk_21 7 (dk_at dksL_law_19 6 rfl rfl)
theorem dL_law_578 : decode cL_law 578 = .ok (.i2l, 1) := dk_133 (dk_at dksL_law_19 8 rfl rfl)
theorem dL_law_579 : decode cL_law 579 = .ok (.lcmp, 1) := dk_148 (dk_at dksL_law_19 9 rfl rfl)
theorem dL_law_580 : decode cL_law 580 = .ok (.ifCond .eq 5, 3) := dk_153 0 5 (dk_at dksL_law_19 10 rfl rfl)
theorem dL_law_583 : decode cL_law 583 = .ok (.iconst 0, 1) := dk_3 (dk_at dksL_law_19 13 rfl rfl)
theorem dL_law_584 : decode cL_law 584 = .ok (.ireturn, 1) := dk_172 (dk_at dksL_law_19 14 rfl rfl)
theorem dL_law_585 : decode cL_law 585 = .ok (.goto 1647, 3) := dk_167 6 111 (dk_at dksL_law_19 15 rfl rfl)
theorem dL_law_588 : decode cL_law 588 = .ok (.aload_n 1, 1) := dk_43 (dk_at dksL_law_19 18 rfl rfl)
theorem dL_law_589 : decode cL_law 589 = .ok (.aload_n 0, 1) := dk_42 (dk_at dksL_law_19 19 rfl rfl)
theorem dL_law_590 : decode cL_law 590 = .ok (.iload 5, 2) := dk_21 5 (dk_at dksL_law_19 20 rfl rfl)
theorem dL_law_592 : decode cL_law 592 = .ok (.iconst 1, 1) := dk_4 (dk_at dksL_law_19 22 rfl rfl)
theorem dL_law_593 : decode cL_law 593 = .ok (.iadd, 1) := dk_96 (dk_at dksL_law_19 23 rfl rfl)
theorem dL_law_594 : decode cL_law 594 = .ok (.iaload, 1) := dk_46 (dk_at dksL_law_20 0 rfl rfl)
theorem dL_law_595 : decode cL_law 595 = .ok (.aload_n 0, 1) := dk_42 (dk_at dksL_law_20 1 rfl rfl)
theorem dL_law_596 : decode cL_law 596 = .ok (.iload 5, 2) := dk_21 5 (dk_at dksL_law_20 2 rfl rfl)
theorem dL_law_598 : decode cL_law 598 = .ok (.iconst 2, 1) := dk_5 (dk_at dksL_law_20 4 rfl rfl)
theorem dL_law_599 : decode cL_law 599 = .ok (.iadd, 1) := dk_96 (dk_at dksL_law_20 5 rfl rfl)
theorem dL_law_600 : decode cL_law 600 = .ok (.iaload, 1) := dk_46 (dk_at dksL_law_20 6 rfl rfl)
theorem dL_law_601 : decode cL_law 601 = .ok (.aload_n 3, 1) := dk_45 (dk_at dksL_law_20 7 rfl rfl)
theorem dL_law_602 : decode cL_law 602 = .ok (.invokestatic 159, 3) := dk_184 0 159 (dk_at dksL_law_20 8 rfl rfl)
theorem dL_law_605 : decode cL_law 605 = .ok (.istore 6, 2) := dk_54 6 (dk_at dksL_law_20 11 rfl rfl)
theorem dL_law_607 : decode cL_law 607 = .ok (.aload_n 2, 1) := dk_44 (dk_at dksL_law_20 13 rfl rfl)
theorem dL_law_608 : decode cL_law 608 = .ok (.aload_n 0, 1) := dk_42 (dk_at dksL_law_20 14 rfl rfl)
theorem dL_law_609 : decode cL_law 609 = .ok (.iload 5, 2) := dk_21 5 (dk_at dksL_law_20 15 rfl rfl)
theorem dL_law_611 : decode cL_law 611 = .ok (.iconst 1, 1) := dk_4 (dk_at dksL_law_20 17 rfl rfl)
theorem dL_law_612 : decode cL_law 612 = .ok (.iadd, 1) := dk_96 (dk_at dksL_law_20 18 rfl rfl)
theorem dL_law_613 : decode cL_law 613 = .ok (.iaload, 1) := dk_46 (dk_at dksL_law_20 19 rfl rfl)
theorem dL_law_614 : decode cL_law 614 = .ok (.aload_n 0, 1) := dk_42 (dk_at dksL_law_20 20 rfl rfl)
theorem dL_law_615 : decode cL_law 615 = .ok (.iload 5, 2) := dk_21 5 (dk_at dksL_law_20 21 rfl rfl)
theorem dL_law_617 : decode cL_law 617 = .ok (.iconst 2, 1) := dk_5 (dk_at dksL_law_20 23 rfl rfl)
theorem dL_law_618 : decode cL_law 618 = .ok (.iadd, 1) := dk_96 (dk_at dksL_law_21 0 rfl rfl)
theorem dL_law_619 : decode cL_law 619 = .ok (.iaload, 1) := dk_46 (dk_at dksL_law_21 1 rfl rfl)
theorem dL_law_620 : decode cL_law 620 = .ok (.invokevirtual 161, 3) := dk_182 0 161 (dk_at dksL_law_21 2 rfl rfl)
theorem dL_law_623 : decode cL_law 623 = .ok (.istore 7, 2) := dk_54 7 (dk_at dksL_law_21 5 rfl rfl)
theorem dL_law_625 : decode cL_law 625 = .ok (.aload_n 2, 1) := dk_44 (dk_at dksL_law_21 7 rfl rfl)
theorem dL_law_626 : decode cL_law 626 = .ok (.invokevirtual 140, 3) := dk_182 0 140 (dk_at dksL_law_21 8 rfl rfl)
theorem dL_law_629 : decode cL_law 629 = .ok (.iload 6, 2) := dk_21 6 (dk_at dksL_law_21 11 rfl rfl)
theorem dL_law_631 : decode cL_law 631 = .ok (.if_icmp .eq 5, 3) := dk_159 0 5 (dk_at dksL_law_21 13 rfl rfl)
theorem dL_law_634 : decode cL_law 634 = .ok (.iconst 0, 1) := dk_3 (dk_at dksL_law_21 16 rfl rfl)
theorem dL_law_635 : decode cL_law 635 = .ok (.ireturn, 1) := dk_172 (dk_at dksL_law_21 17 rfl rfl)
theorem dL_law_636 : decode cL_law 636 = .ok (.iload 6, 2) := dk_21 6 (dk_at dksL_law_21 18 rfl rfl)
theorem dL_law_638 : decode cL_law 638 = .ok (.ifCond .ne 15, 3) := dk_154 0 15 (dk_at dksL_law_21 20 rfl rfl)
theorem dL_law_641 : decode cL_law 641 = .ok (.aload_n 3, 1) := dk_45 (dk_at dksL_law_21 23 rfl rfl)
theorem dL_law_642 : decode cL_law 642 = .ok (.iconst 0, 1) := dk_3 (dk_at dksL_law_22 0 rfl rfl)
theorem dL_law_643 : decode cL_law 643 = .ok (.laload, 1) := dk_47 (dk_at dksL_law_22 1 rfl rfl)
theorem dL_law_644 : decode cL_law 644 = .ok (.iload 7, 2) := dk_21 7 (dk_at dksL_law_22 2 rfl rfl)
theorem dL_law_646 : decode cL_law 646 = .ok (.i2l, 1) := dk_133 (dk_at dksL_law_22 4 rfl rfl)
theorem dL_law_647 : decode cL_law 647 = .ok (.lcmp, 1) := dk_148 (dk_at dksL_law_22 5 rfl rfl)
theorem dL_law_648 : decode cL_law 648 = .ok (.ifCond .eq 5, 3) := dk_153 0 5 (dk_at dksL_law_22 6 rfl rfl)
theorem dL_law_651 : decode cL_law 651 = .ok (.iconst 0, 1) := dk_3 (dk_at dksL_law_22 9 rfl rfl)
theorem dL_law_652 : decode cL_law 652 = .ok (.ireturn, 1) := dk_172 (dk_at dksL_law_22 10 rfl rfl)
theorem dL_law_653 : decode cL_law 653 = .ok (.goto 1579, 3) := dk_167 6 43 (dk_at dksL_law_22 11 rfl rfl)
theorem dL_law_656 : decode cL_law 656 = .ok (.aload_n 1, 1) := dk_43 (dk_at dksL_law_22 14 rfl rfl)
theorem dL_law_657 : decode cL_law 657 = .ok (.aload_n 0, 1) := dk_42 (dk_at dksL_law_22 15 rfl rfl)
theorem dL_law_658 : decode cL_law 658 = .ok (.iload 5, 2) := dk_21 5 (dk_at dksL_law_22 16 rfl rfl)
theorem dL_law_660 : decode cL_law 660 = .ok (.iconst 1, 1) := dk_4 (dk_at dksL_law_22 18 rfl rfl)
theorem dL_law_661 : decode cL_law 661 = .ok (.iadd, 1) := dk_96 (dk_at dksL_law_22 19 rfl rfl)
theorem dL_law_662 : decode cL_law 662 = .ok (.iaload, 1) := dk_46 (dk_at dksL_law_22 20 rfl rfl)
theorem dL_law_663 : decode cL_law 663 = .ok (.aload_n 0, 1) := dk_42 (dk_at dksL_law_22 21 rfl rfl)
theorem dL_law_664 : decode cL_law 664 = .ok (.iload 5, 2) := dk_21 5 (dk_at dksL_law_22 22 rfl rfl)
theorem dL_law_666 : decode cL_law 666 = .ok (.iconst 2, 1) := dk_5 (dk_at dksL_law_23 0 rfl rfl)
theorem dL_law_667 : decode cL_law 667 = .ok (.iadd, 1) := dk_96 (dk_at dksL_law_23 1 rfl rfl)
theorem dL_law_668 : decode cL_law 668 = .ok (.iaload, 1) := dk_46 (dk_at dksL_law_23 2 rfl rfl)
theorem dL_law_669 : decode cL_law 669 = .ok (.aload_n 3, 1) := dk_45 (dk_at dksL_law_23 3 rfl rfl)
theorem dL_law_670 : decode cL_law 670 = .ok (.invokestatic 162, 3) := dk_184 0 162 (dk_at dksL_law_23 4 rfl rfl)
theorem dL_law_673 : decode cL_law 673 = .ok (.istore 6, 2) := dk_54 6 (dk_at dksL_law_23 7 rfl rfl)
theorem dL_law_675 : decode cL_law 675 = .ok (.aload_n 2, 1) := dk_44 (dk_at dksL_law_23 9 rfl rfl)
theorem dL_law_676 : decode cL_law 676 = .ok (.aload_n 0, 1) := dk_42 (dk_at dksL_law_23 10 rfl rfl)
theorem dL_law_677 : decode cL_law 677 = .ok (.iload 5, 2) := dk_21 5 (dk_at dksL_law_23 11 rfl rfl)
theorem dL_law_679 : decode cL_law 679 = .ok (.iconst 1, 1) := dk_4 (dk_at dksL_law_23 13 rfl rfl)
theorem dL_law_680 : decode cL_law 680 = .ok (.iadd, 1) := dk_96 (dk_at dksL_law_23 14 rfl rfl)
theorem dL_law_681 : decode cL_law 681 = .ok (.iaload, 1) := dk_46 (dk_at dksL_law_23 15 rfl rfl)
theorem dL_law_682 : decode cL_law 682 = .ok (.aload_n 0, 1) := dk_42 (dk_at dksL_law_23 16 rfl rfl)
theorem dL_law_683 : decode cL_law 683 = .ok (.iload 5, 2) := dk_21 5 (dk_at dksL_law_23 17 rfl rfl)
theorem dL_law_685 : decode cL_law 685 = .ok (.iconst 2, 1) := dk_5 (dk_at dksL_law_23 19 rfl rfl)
theorem dL_law_686 : decode cL_law 686 = .ok (.iadd, 1) := dk_96 (dk_at dksL_law_23 20 rfl rfl)
theorem dL_law_687 : decode cL_law 687 = .ok (.iaload, 1) := dk_46 (dk_at dksL_law_23 21 rfl rfl)
theorem dL_law_688 : decode cL_law 688 = .ok (.invokevirtual 164, 3) := dk_182 0 164 (dk_at dksL_law_24 0 rfl rfl)
theorem dL_law_691 : decode cL_law 691 = .ok (.istore 7, 2) := dk_54 7 (dk_at dksL_law_24 3 rfl rfl)
theorem dL_law_693 : decode cL_law 693 = .ok (.aload_n 2, 1) := dk_44 (dk_at dksL_law_24 5 rfl rfl)
theorem dL_law_694 : decode cL_law 694 = .ok (.invokevirtual 140, 3) := dk_182 0 140 (dk_at dksL_law_24 6 rfl rfl)
theorem dL_law_697 : decode cL_law 697 = .ok (.iload 6, 2) := dk_21 6 (dk_at dksL_law_24 9 rfl rfl)
theorem dL_law_699 : decode cL_law 699 = .ok (.if_icmp .eq 5, 3) := dk_159 0 5 (dk_at dksL_law_24 11 rfl rfl)
theorem dL_law_702 : decode cL_law 702 = .ok (.iconst 0, 1) := dk_3 (dk_at dksL_law_24 14 rfl rfl)
theorem dL_law_703 : decode cL_law 703 = .ok (.ireturn, 1) := dk_172 (dk_at dksL_law_24 15 rfl rfl)
theorem dL_law_704 : decode cL_law 704 = .ok (.iload 6, 2) := dk_21 6 (dk_at dksL_law_24 16 rfl rfl)
theorem dL_law_706 : decode cL_law 706 = .ok (.ifCond .ne 15, 3) := dk_154 0 15 (dk_at dksL_law_24 18 rfl rfl)
theorem dL_law_709 : decode cL_law 709 = .ok (.aload_n 3, 1) := dk_45 (dk_at dksL_law_24 21 rfl rfl)
theorem dL_law_710 : decode cL_law 710 = .ok (.iconst 0, 1) := dk_3 (dk_at dksL_law_24 22 rfl rfl)
theorem dL_law_711 : decode cL_law 711 = .ok (.laload, 1) := dk_47 (dk_at dksL_law_24 23 rfl rfl)
theorem dL_law_712 : decode cL_law 712 = .ok (.iload 7, 2) := dk_21 7 (dk_at dksL_law_25 0 rfl rfl)
theorem dL_law_714 : decode cL_law 714 = .ok (.i2l, 1) := dk_133 (dk_at dksL_law_25 2 rfl rfl)
theorem dL_law_715 : decode cL_law 715 = .ok (.lcmp, 1) := dk_148 (dk_at dksL_law_25 3 rfl rfl)
theorem dL_law_716 : decode cL_law 716 = .ok (.ifCond .eq 5, 3) := dk_153 0 5 (dk_at dksL_law_25 4 rfl rfl)
theorem dL_law_719 : decode cL_law 719 = .ok (.iconst 0, 1) := dk_3 (dk_at dksL_law_25 7 rfl rfl)
theorem dL_law_720 : decode cL_law 720 = .ok (.ireturn, 1) := dk_172 (dk_at dksL_law_25 8 rfl rfl)
theorem dL_law_721 : decode cL_law 721 = .ok (.goto 1511, 3) := dk_167 5 231 (dk_at dksL_law_25 9 rfl rfl)
theorem dL_law_724 : decode cL_law 724 = .ok (.aload_n 1, 1) := dk_43 (dk_at dksL_law_25 12 rfl rfl)
theorem dL_law_725 : decode cL_law 725 = .ok (.aload_n 3, 1) := dk_45 (dk_at dksL_law_25 13 rfl rfl)
theorem dL_law_726 : decode cL_law 726 = .ok (.invokestatic 165, 3) := dk_184 0 165 (dk_at dksL_law_25 14 rfl rfl)
theorem dL_law_729 : decode cL_law 729 = .ok (.istore 6, 2) := dk_54 6 (dk_at dksL_law_25 17 rfl rfl)
theorem dL_law_731 : decode cL_law 731 = .ok (.aload_n 2, 1) := dk_44 (dk_at dksL_law_25 19 rfl rfl)
theorem dL_law_732 : decode cL_law 732 = .ok (.invokevirtual 168, 3) := dk_182 0 168 (dk_at dksL_law_25 20 rfl rfl)
theorem dL_law_735 : decode cL_law 735 = .ok (.istore 7, 2) := dk_54 7 (dk_at dksL_law_26 0 rfl rfl)
theorem dL_law_737 : decode cL_law 737 = .ok (.aload_n 2, 1) := dk_44 (dk_at dksL_law_26 2 rfl rfl)
theorem dL_law_738 : decode cL_law 738 = .ok (.invokevirtual 140, 3) := dk_182 0 140 (dk_at dksL_law_26 3 rfl rfl)
theorem dL_law_741 : decode cL_law 741 = .ok (.iload 6, 2) := dk_21 6 (dk_at dksL_law_26 6 rfl rfl)
theorem dL_law_743 : decode cL_law 743 = .ok (.if_icmp .eq 5, 3) := dk_159 0 5 (dk_at dksL_law_26 8 rfl rfl)
theorem dL_law_746 : decode cL_law 746 = .ok (.iconst 0, 1) := dk_3 (dk_at dksL_law_26 11 rfl rfl)
theorem dL_law_747 : decode cL_law 747 = .ok (.ireturn, 1) := dk_172 (dk_at dksL_law_26 12 rfl rfl)
theorem dL_law_748 : decode cL_law 748 = .ok (.iload 6, 2) := dk_21 6 (dk_at dksL_law_26 13 rfl rfl)
theorem dL_law_750 : decode cL_law 750 = .ok (.ifCond .ne 15, 3) := dk_154 0 15 (dk_at dksL_law_26 15 rfl rfl)
theorem dL_law_753 : decode cL_law 753 = .ok (.aload_n 3, 1) := dk_45 (dk_at dksL_law_26 18 rfl rfl)
theorem dL_law_754 : decode cL_law 754 = .ok (.iconst 0, 1) := dk_3 (dk_at dksL_law_26 19 rfl rfl)
theorem dL_law_755 : decode cL_law 755 = .ok (.laload, 1) := dk_47 (dk_at dksL_law_26 20 rfl rfl)
theorem dL_law_756 : decode cL_law 756 = .ok (.iload 7, 2) := dk_21 7 (dk_at dksL_law_26 21 rfl rfl)
theorem dL_law_758 : decode cL_law 758 = .ok (.i2l, 1) := dk_133 (dk_at dksL_law_26 23 rfl rfl)
theorem dL_law_759 : decode cL_law 759 = .ok (.lcmp, 1) := dk_148 (dk_at dksL_law_27 0 rfl rfl)
theorem dL_law_760 : decode cL_law 760 = .ok (.ifCond .eq 5, 3) := dk_153 0 5 (dk_at dksL_law_27 1 rfl rfl)
theorem dL_law_763 : decode cL_law 763 = .ok (.iconst 0, 1) := dk_3 (dk_at dksL_law_27 4 rfl rfl)
theorem dL_law_764 : decode cL_law 764 = .ok (.ireturn, 1) := dk_172 (dk_at dksL_law_27 5 rfl rfl)
theorem dL_law_765 : decode cL_law 765 = .ok (.goto 1467, 3) := dk_167 5 187 (dk_at dksL_law_27 6 rfl rfl)
theorem dL_law_768 : decode cL_law 768 = .ok (.aload_n 1, 1) := dk_43 (dk_at dksL_law_27 9 rfl rfl)
theorem dL_law_769 : decode cL_law 769 = .ok (.aload_n 0, 1) := dk_42 (dk_at dksL_law_27 10 rfl rfl)
theorem dL_law_770 : decode cL_law 770 = .ok (.iload 5, 2) := dk_21 5 (dk_at dksL_law_27 11 rfl rfl)
theorem dL_law_772 : decode cL_law 772 = .ok (.iconst 1, 1) := dk_4 (dk_at dksL_law_27 13 rfl rfl)
theorem dL_law_773 : decode cL_law 773 = .ok (.iadd, 1) := dk_96 (dk_at dksL_law_27 14 rfl rfl)
theorem dL_law_774 : decode cL_law 774 = .ok (.iaload, 1) := dk_46 (dk_at dksL_law_27 15 rfl rfl)
theorem dL_law_775 : decode cL_law 775 = .ok (.aload_n 0, 1) := dk_42 (dk_at dksL_law_27 16 rfl rfl)
theorem dL_law_776 : decode cL_law 776 = .ok (.iload 5, 2) := dk_21 5 (dk_at dksL_law_27 17 rfl rfl)
theorem dL_law_778 : decode cL_law 778 = .ok (.iconst 2, 1) := dk_5 (dk_at dksL_law_27 19 rfl rfl)
theorem dL_law_779 : decode cL_law 779 = .ok (.iadd, 1) := dk_96 (dk_at dksL_law_27 20 rfl rfl)
theorem dL_law_780 : decode cL_law 780 = .ok (.iaload, 1) := dk_46 (dk_at dksL_law_27 21 rfl rfl)
theorem dL_law_781 : decode cL_law 781 = .ok (.aload_n 3, 1) := dk_45 (dk_at dksL_law_27 22 rfl rfl)
theorem dL_law_782 : decode cL_law 782 = .ok (.invokestatic 169, 3) := dk_184 0 169 (dk_at dksL_law_28 0 rfl rfl)
theorem dL_law_785 : decode cL_law 785 = .ok (.istore 6, 2) := dk_54 6 (dk_at dksL_law_28 3 rfl rfl)
theorem dL_law_787 : decode cL_law 787 = .ok (.aload_n 2, 1) := dk_44 (dk_at dksL_law_28 5 rfl rfl)
theorem dL_law_788 : decode cL_law 788 = .ok (.aload_n 0, 1) := dk_42 (dk_at dksL_law_28 6 rfl rfl)
theorem dL_law_789 : decode cL_law 789 = .ok (.iload 5, 2) := dk_21 5 (dk_at dksL_law_28 7 rfl rfl)
theorem dL_law_791 : decode cL_law 791 = .ok (.iconst 1, 1) := dk_4 (dk_at dksL_law_28 9 rfl rfl)
theorem dL_law_792 : decode cL_law 792 = .ok (.iadd, 1) := dk_96 (dk_at dksL_law_28 10 rfl rfl)
theorem dL_law_793 : decode cL_law 793 = .ok (.iaload, 1) := dk_46 (dk_at dksL_law_28 11 rfl rfl)
theorem dL_law_794 : decode cL_law 794 = .ok (.aload_n 0, 1) := dk_42 (dk_at dksL_law_28 12 rfl rfl)
theorem dL_law_795 : decode cL_law 795 = .ok (.iload 5, 2) := dk_21 5 (dk_at dksL_law_28 13 rfl rfl)
theorem dL_law_797 : decode cL_law 797 = .ok (.iconst 2, 1) := dk_5 (dk_at dksL_law_28 15 rfl rfl)
theorem dL_law_798 : decode cL_law 798 = .ok (.iadd, 1) := dk_96 (dk_at dksL_law_28 16 rfl rfl)
theorem dL_law_799 : decode cL_law 799 = .ok (.iaload, 1) := dk_46 (dk_at dksL_law_28 17 rfl rfl)
theorem dL_law_800 : decode cL_law 800 = .ok (.invokevirtual 171, 3) := dk_182 0 171 (dk_at dksL_law_28 18 rfl rfl)
theorem dL_law_803 : decode cL_law 803 = .ok (.istore 7, 2) := dk_54 7 (dk_at dksL_law_28 21 rfl rfl)
theorem dL_law_805 : decode cL_law 805 = .ok (.aload_n 2, 1) := dk_44 (dk_at dksL_law_28 23 rfl rfl)
theorem dL_law_806 : decode cL_law 806 = .ok (.invokevirtual 140, 3) := dk_182 0 140 (dk_at dksL_law_29 0 rfl rfl)
theorem dL_law_809 : decode cL_law 809 = .ok (.iload 6, 2) := dk_21 6 (dk_at dksL_law_29 3 rfl rfl)
theorem dL_law_811 : decode cL_law 811 = .ok (.if_icmp .eq 5, 3) := dk_159 0 5 (dk_at dksL_law_29 5 rfl rfl)
theorem dL_law_814 : decode cL_law 814 = .ok (.iconst 0, 1) := dk_3 (dk_at dksL_law_29 8 rfl rfl)
theorem dL_law_815 : decode cL_law 815 = .ok (.ireturn, 1) := dk_172 (dk_at dksL_law_29 9 rfl rfl)
theorem dL_law_816 : decode cL_law 816 = .ok (.iload 6, 2) := dk_21 6 (dk_at dksL_law_29 10 rfl rfl)
theorem dL_law_818 : decode cL_law 818 = .ok (.ifCond .ne 15, 3) := dk_154 0 15 (dk_at dksL_law_29 12 rfl rfl)
theorem dL_law_821 : decode cL_law 821 = .ok (.aload_n 3, 1) := dk_45 (dk_at dksL_law_29 15 rfl rfl)
theorem dL_law_822 : decode cL_law 822 = .ok (.iconst 0, 1) := dk_3 (dk_at dksL_law_29 16 rfl rfl)
theorem dL_law_823 : decode cL_law 823 = .ok (.laload, 1) := dk_47 (dk_at dksL_law_29 17 rfl rfl)
theorem dL_law_824 : decode cL_law 824 = .ok (.iload 7, 2) := dk_21 7 (dk_at dksL_law_29 18 rfl rfl)
theorem dL_law_826 : decode cL_law 826 = .ok (.i2l, 1) := dk_133 (dk_at dksL_law_29 20 rfl rfl)
theorem dL_law_827 : decode cL_law 827 = .ok (.lcmp, 1) := dk_148 (dk_at dksL_law_29 21 rfl rfl)
theorem dL_law_828 : decode cL_law 828 = .ok (.ifCond .eq 5, 3) := dk_153 0 5 (dk_at dksL_law_30 0 rfl rfl)
theorem dL_law_831 : decode cL_law 831 = .ok (.iconst 0, 1) := dk_3 (dk_at dksL_law_30 3 rfl rfl)
theorem dL_law_832 : decode cL_law 832 = .ok (.ireturn, 1) := dk_172 (dk_at dksL_law_30 4 rfl rfl)
theorem dL_law_833 : decode cL_law 833 = .ok (.goto 1399, 3) := dk_167 5 119 (dk_at dksL_law_30 5 rfl rfl)
theorem dL_law_836 : decode cL_law 836 = .ok (.aload_n 1, 1) := dk_43 (dk_at dksL_law_30 8 rfl rfl)
theorem dL_law_837 : decode cL_law 837 = .ok (.aload_n 0, 1) := dk_42 (dk_at dksL_law_30 9 rfl rfl)
theorem dL_law_838 : decode cL_law 838 = .ok (.iload 5, 2) := dk_21 5 (dk_at dksL_law_30 10 rfl rfl)
theorem dL_law_840 : decode cL_law 840 = .ok (.iconst 1, 1) := dk_4 (dk_at dksL_law_30 12 rfl rfl)
theorem dL_law_841 : decode cL_law 841 = .ok (.iadd, 1) := dk_96 (dk_at dksL_law_30 13 rfl rfl)
theorem dL_law_842 : decode cL_law 842 = .ok (.iaload, 1) := dk_46 (dk_at dksL_law_30 14 rfl rfl)
theorem dL_law_843 : decode cL_law 843 = .ok (.aload_n 3, 1) := dk_45 (dk_at dksL_law_30 15 rfl rfl)
theorem dL_law_844 : decode cL_law 844 = .ok (.invokestatic 172, 3) := dk_184 0 172 (dk_at dksL_law_30 16 rfl rfl)
theorem dL_law_847 : decode cL_law 847 = .ok (.istore 6, 2) := dk_54 6 (dk_at dksL_law_30 19 rfl rfl)
theorem dL_law_849 : decode cL_law 849 = .ok (.aload_n 2, 1) := dk_44 (dk_at dksL_law_30 21 rfl rfl)
theorem dL_law_850 : decode cL_law 850 = .ok (.aload_n 0, 1) := dk_42 (dk_at dksL_law_30 22 rfl rfl)
theorem dL_law_851 : decode cL_law 851 = .ok (.iload 5, 2) := dk_21 5 (dk_at dksL_law_31 0 rfl rfl)
theorem dL_law_853 : decode cL_law 853 = .ok (.iconst 1, 1) := dk_4 (dk_at dksL_law_31 2 rfl rfl)
theorem dL_law_854 : decode cL_law 854 = .ok (.iadd, 1) := dk_96 (dk_at dksL_law_31 3 rfl rfl)
theorem dL_law_855 : decode cL_law 855 = .ok (.iaload, 1) := dk_46 (dk_at dksL_law_31 4 rfl rfl)
theorem dL_law_856 : decode cL_law 856 = .ok (.invokevirtual 174, 3) := dk_182 0 174 (dk_at dksL_law_31 5 rfl rfl)
theorem dL_law_859 : decode cL_law 859 = .ok (.istore 7, 2) := dk_54 7 (dk_at dksL_law_31 8 rfl rfl)
theorem dL_law_861 : decode cL_law 861 = .ok (.aload_n 2, 1) := dk_44 (dk_at dksL_law_31 10 rfl rfl)
theorem dL_law_862 : decode cL_law 862 = .ok (.invokevirtual 140, 3) := dk_182 0 140 (dk_at dksL_law_31 11 rfl rfl)
theorem dL_law_865 : decode cL_law 865 = .ok (.iload 6, 2) := dk_21 6 (dk_at dksL_law_31 14 rfl rfl)
theorem dL_law_867 : decode cL_law 867 = .ok (.if_icmp .eq 5, 3) := dk_159 0 5 (dk_at dksL_law_31 16 rfl rfl)
theorem dL_law_870 : decode cL_law 870 = .ok (.iconst 0, 1) := dk_3 (dk_at dksL_law_31 19 rfl rfl)
theorem dL_law_871 : decode cL_law 871 = .ok (.ireturn, 1) := dk_172 (dk_at dksL_law_31 20 rfl rfl)
theorem dL_law_872 : decode cL_law 872 = .ok (.iload 6, 2) := dk_21 6 (dk_at dksL_law_31 21 rfl rfl)
theorem dL_law_874 : decode cL_law 874 = .ok (.ifCond .ne 15, 3) := dk_154 0 15 (dk_at dksL_law_32 0 rfl rfl)
theorem dL_law_877 : decode cL_law 877 = .ok (.aload_n 3, 1) := dk_45 (dk_at dksL_law_32 3 rfl rfl)
theorem dL_law_878 : decode cL_law 878 = .ok (.iconst 0, 1) := dk_3 (dk_at dksL_law_32 4 rfl rfl)
theorem dL_law_879 : decode cL_law 879 = .ok (.laload, 1) := dk_47 (dk_at dksL_law_32 5 rfl rfl)
theorem dL_law_880 : decode cL_law 880 = .ok (.iload 7, 2) := dk_21 7 (dk_at dksL_law_32 6 rfl rfl)
theorem dL_law_882 : decode cL_law 882 = .ok (.i2l, 1) := dk_133 (dk_at dksL_law_32 8 rfl rfl)
theorem dL_law_883 : decode cL_law 883 = .ok (.lcmp, 1) := dk_148 (dk_at dksL_law_32 9 rfl rfl)
theorem dL_law_884 : decode cL_law 884 = .ok (.ifCond .eq 5, 3) := dk_153 0 5 (dk_at dksL_law_32 10 rfl rfl)
theorem dL_law_887 : decode cL_law 887 = .ok (.iconst 0, 1) := dk_3 (dk_at dksL_law_32 13 rfl rfl)
theorem dL_law_888 : decode cL_law 888 = .ok (.ireturn, 1) := dk_172 (dk_at dksL_law_32 14 rfl rfl)
theorem dL_law_889 : decode cL_law 889 = .ok (.goto 1343, 3) := dk_167 5 63 (dk_at dksL_law_32 15 rfl rfl)
theorem dL_law_892 : decode cL_law 892 = .ok (.aload_n 1, 1) := dk_43 (dk_at dksL_law_32 18 rfl rfl)
theorem dL_law_893 : decode cL_law 893 = .ok (.aload_n 0, 1) := dk_42 (dk_at dksL_law_32 19 rfl rfl)
theorem dL_law_894 : decode cL_law 894 = .ok (.iload 5, 2) := dk_21 5 (dk_at dksL_law_32 20 rfl rfl)
theorem dL_law_896 : decode cL_law 896 = .ok (.iconst 1, 1) := dk_4 (dk_at dksL_law_32 22 rfl rfl)
theorem dL_law_897 : decode cL_law 897 = .ok (.iadd, 1) := dk_96 (dk_at dksL_law_32 23 rfl rfl)
theorem dL_law_898 : decode cL_law 898 = .ok (.iaload, 1) := dk_46 (dk_at dksL_law_33 0 rfl rfl)
theorem dL_law_899 : decode cL_law 899 = .ok (.aload_n 0, 1) := dk_42 (dk_at dksL_law_33 1 rfl rfl)
theorem dL_law_900 : decode cL_law 900 = .ok (.iload 5, 2) := dk_21 5 (dk_at dksL_law_33 2 rfl rfl)
theorem dL_law_902 : decode cL_law 902 = .ok (.iconst 2, 1) := dk_5 (dk_at dksL_law_33 4 rfl rfl)
theorem dL_law_903 : decode cL_law 903 = .ok (.iadd, 1) := dk_96 (dk_at dksL_law_33 5 rfl rfl)
theorem dL_law_904 : decode cL_law 904 = .ok (.iaload, 1) := dk_46 (dk_at dksL_law_33 6 rfl rfl)
theorem dL_law_905 : decode cL_law 905 = .ok (.ifCond .eq 7, 3) := dk_153 0 7 (dk_at dksL_law_33 7 rfl rfl)
theorem dL_law_908 : decode cL_law 908 = .ok (.iconst 1, 1) := dk_4 (dk_at dksL_law_33 10 rfl rfl)
theorem dL_law_909 : decode cL_law 909 = .ok (.goto 4, 3) := dk_167 0 4 (dk_at dksL_law_33 11 rfl rfl)
theorem dL_law_912 : decode cL_law 912 = .ok (.iconst 0, 1) := dk_3 (dk_at dksL_law_33 14 rfl rfl)
theorem dL_law_913 : decode cL_law 913 = .ok (.aload_n 3, 1) := dk_45 (dk_at dksL_law_33 15 rfl rfl)
theorem dL_law_914 : decode cL_law 914 = .ok (.invokestatic 175, 3) := dk_184 0 175 (dk_at dksL_law_33 16 rfl rfl)
theorem dL_law_917 : decode cL_law 917 = .ok (.istore 6, 2) := dk_54 6 (dk_at dksL_law_33 19 rfl rfl)
theorem dL_law_919 : decode cL_law 919 = .ok (.aload_n 2, 1) := dk_44 (dk_at dksL_law_33 21 rfl rfl)
theorem dL_law_920 : decode cL_law 920 = .ok (.aload_n 0, 1) := dk_42 (dk_at dksL_law_33 22 rfl rfl)
theorem dL_law_921 : decode cL_law 921 = .ok (.iload 5, 2) := dk_21 5 (dk_at dksL_law_34 0 rfl rfl)
theorem dL_law_923 : decode cL_law 923 = .ok (.iconst 1, 1) := dk_4 (dk_at dksL_law_34 2 rfl rfl)
theorem dL_law_924 : decode cL_law 924 = .ok (.iadd, 1) := dk_96 (dk_at dksL_law_34 3 rfl rfl)
theorem dL_law_925 : decode cL_law 925 = .ok (.iaload, 1) := dk_46 (dk_at dksL_law_34 4 rfl rfl)
theorem dL_law_926 : decode cL_law 926 = .ok (.aload_n 0, 1) := dk_42 (dk_at dksL_law_34 5 rfl rfl)
theorem dL_law_927 : decode cL_law 927 = .ok (.iload 5, 2) := dk_21 5 (dk_at dksL_law_34 6 rfl rfl)
theorem dL_law_929 : decode cL_law 929 = .ok (.iconst 2, 1) := dk_5 (dk_at dksL_law_34 8 rfl rfl)
theorem dL_law_930 : decode cL_law 930 = .ok (.iadd, 1) := dk_96 (dk_at dksL_law_34 9 rfl rfl)
theorem dL_law_931 : decode cL_law 931 = .ok (.iaload, 1) := dk_46 (dk_at dksL_law_34 10 rfl rfl)
theorem dL_law_932 : decode cL_law 932 = .ok (.ifCond .eq 7, 3) := dk_153 0 7 (dk_at dksL_law_34 11 rfl rfl)
theorem dL_law_935 : decode cL_law 935 = .ok (.iconst 1, 1) := dk_4 (dk_at dksL_law_34 14 rfl rfl)
theorem dL_law_936 : decode cL_law 936 = .ok (.goto 4, 3) := dk_167 0 4 (dk_at dksL_law_34 15 rfl rfl)
theorem dL_law_939 : decode cL_law 939 = .ok (.iconst 0, 1) := dk_3 (dk_at dksL_law_34 18 rfl rfl)
theorem dL_law_940 : decode cL_law 940 = .ok (.invokevirtual 178, 3) := dk_182 0 178 (dk_at dksL_law_34 19 rfl rfl)
theorem dL_law_943 : decode cL_law 943 = .ok (.istore 7, 2) := dk_54 7 (dk_at dksL_law_34 22 rfl rfl)
theorem dL_law_945 : decode cL_law 945 = .ok (.aload_n 2, 1) := dk_44 (dk_at dksL_law_35 0 rfl rfl)
theorem dL_law_946 : decode cL_law 946 = .ok (.invokevirtual 140, 3) := dk_182 0 140 (dk_at dksL_law_35 1 rfl rfl)
theorem dL_law_949 : decode cL_law 949 = .ok (.iload 6, 2) := dk_21 6 (dk_at dksL_law_35 4 rfl rfl)
theorem dL_law_951 : decode cL_law 951 = .ok (.if_icmp .eq 5, 3) := dk_159 0 5 (dk_at dksL_law_35 6 rfl rfl)
theorem dL_law_954 : decode cL_law 954 = .ok (.iconst 0, 1) := dk_3 (dk_at dksL_law_35 9 rfl rfl)
theorem dL_law_955 : decode cL_law 955 = .ok (.ireturn, 1) := dk_172 (dk_at dksL_law_35 10 rfl rfl)
theorem dL_law_956 : decode cL_law 956 = .ok (.iload 6, 2) := dk_21 6 (dk_at dksL_law_35 11 rfl rfl)
theorem dL_law_958 : decode cL_law 958 = .ok (.ifCond .ne 15, 3) := dk_154 0 15 (dk_at dksL_law_35 13 rfl rfl)
theorem dL_law_961 : decode cL_law 961 = .ok (.aload_n 3, 1) := dk_45 (dk_at dksL_law_35 16 rfl rfl)
theorem dL_law_962 : decode cL_law 962 = .ok (.iconst 0, 1) := dk_3 (dk_at dksL_law_35 17 rfl rfl)
theorem dL_law_963 : decode cL_law 963 = .ok (.laload, 1) := dk_47 (dk_at dksL_law_35 18 rfl rfl)
theorem dL_law_964 : decode cL_law 964 = .ok (.iload 7, 2) := dk_21 7 (dk_at dksL_law_35 19 rfl rfl)
theorem dL_law_966 : decode cL_law 966 = .ok (.i2l, 1) := dk_133 (dk_at dksL_law_35 21 rfl rfl)
theorem dL_law_967 : decode cL_law 967 = .ok (.lcmp, 1) := dk_148 (dk_at dksL_law_35 22 rfl rfl)
theorem dL_law_968 : decode cL_law 968 = .ok (.ifCond .eq 5, 3) := dk_153 0 5 (dk_at dksL_law_36 0 rfl rfl)
theorem dL_law_971 : decode cL_law 971 = .ok (.iconst 0, 1) := dk_3 (dk_at dksL_law_36 3 rfl rfl)
theorem dL_law_972 : decode cL_law 972 = .ok (.ireturn, 1) := dk_172 (dk_at dksL_law_36 4 rfl rfl)
theorem dL_law_973 : decode cL_law 973 = .ok (.goto 1259, 3) := dk_167 4 235 (dk_at dksL_law_36 5 rfl rfl)
theorem dL_law_976 : decode cL_law 976 = .ok (.aload_n 1, 1) := dk_43 (dk_at dksL_law_36 8 rfl rfl)
theorem dL_law_977 : decode cL_law 977 = .ok (.aload_n 0, 1) := dk_42 (dk_at dksL_law_36 9 rfl rfl)
theorem dL_law_978 : decode cL_law 978 = .ok (.iload 5, 2) := dk_21 5 (dk_at dksL_law_36 10 rfl rfl)
theorem dL_law_980 : decode cL_law 980 = .ok (.iconst 1, 1) := dk_4 (dk_at dksL_law_36 12 rfl rfl)
theorem dL_law_981 : decode cL_law 981 = .ok (.iadd, 1) := dk_96 (dk_at dksL_law_36 13 rfl rfl)
theorem dL_law_982 : decode cL_law 982 = .ok (.iaload, 1) := dk_46 (dk_at dksL_law_36 14 rfl rfl)
theorem dL_law_983 : decode cL_law 983 = .ok (.aload_n 3, 1) := dk_45 (dk_at dksL_law_36 15 rfl rfl)
theorem dL_law_984 : decode cL_law 984 = .ok (.invokestatic 179, 3) := dk_184 0 179 (dk_at dksL_law_36 16 rfl rfl)
theorem dL_law_987 : decode cL_law 987 = .ok (.istore 6, 2) := dk_54 6 (dk_at dksL_law_36 19 rfl rfl)
theorem dL_law_989 : decode cL_law 989 = .ok (.aload_n 2, 1) := dk_44 (dk_at dksL_law_36 21 rfl rfl)
theorem dL_law_990 : decode cL_law 990 = .ok (.aload_n 0, 1) := dk_42 (dk_at dksL_law_36 22 rfl rfl)
theorem dL_law_991 : decode cL_law 991 = .ok (.iload 5, 2) := dk_21 5 (dk_at dksL_law_37 0 rfl rfl)
theorem dL_law_993 : decode cL_law 993 = .ok (.iconst 1, 1) := dk_4 (dk_at dksL_law_37 2 rfl rfl)
theorem dL_law_994 : decode cL_law 994 = .ok (.iadd, 1) := dk_96 (dk_at dksL_law_37 3 rfl rfl)
theorem dL_law_995 : decode cL_law 995 = .ok (.iaload, 1) := dk_46 (dk_at dksL_law_37 4 rfl rfl)
theorem dL_law_996 : decode cL_law 996 = .ok (.invokevirtual 181, 3) := dk_182 0 181 (dk_at dksL_law_37 5 rfl rfl)
theorem dL_law_999 : decode cL_law 999 = .ok (.istore 7, 2) := dk_54 7 (dk_at dksL_law_37 8 rfl rfl)
theorem dL_law_1001 : decode cL_law 1001 = .ok (.aload_n 2, 1) := dk_44 (dk_at dksL_law_37 10 rfl rfl)
theorem dL_law_1002 : decode cL_law 1002 = .ok (.invokevirtual 140, 3) := dk_182 0 140 (dk_at dksL_law_37 11 rfl rfl)
theorem dL_law_1005 : decode cL_law 1005 = .ok (.iload 6, 2) := dk_21 6 (dk_at dksL_law_37 14 rfl rfl)
theorem dL_law_1007 : decode cL_law 1007 = .ok (.if_icmp .eq 5, 3) := dk_159 0 5 (dk_at dksL_law_37 16 rfl rfl)
theorem dL_law_1010 : decode cL_law 1010 = .ok (.iconst 0, 1) := dk_3 (dk_at dksL_law_37 19 rfl rfl)
theorem dL_law_1011 : decode cL_law 1011 = .ok (.ireturn, 1) := dk_172 (dk_at dksL_law_37 20 rfl rfl)
theorem dL_law_1012 : decode cL_law 1012 = .ok (.iload 6, 2) := dk_21 6 (dk_at dksL_law_37 21 rfl rfl)
theorem dL_law_1014 : decode cL_law 1014 = .ok (.ifCond .ne 15, 3) := dk_154 0 15 (dk_at dksL_law_38 0 rfl rfl)
theorem dL_law_1017 : decode cL_law 1017 = .ok (.aload_n 3, 1) := dk_45 (dk_at dksL_law_38 3 rfl rfl)
theorem dL_law_1018 : decode cL_law 1018 = .ok (.iconst 0, 1) := dk_3 (dk_at dksL_law_38 4 rfl rfl)
theorem dL_law_1019 : decode cL_law 1019 = .ok (.laload, 1) := dk_47 (dk_at dksL_law_38 5 rfl rfl)
theorem dL_law_1020 : decode cL_law 1020 = .ok (.iload 7, 2) := dk_21 7 (dk_at dksL_law_38 6 rfl rfl)
theorem dL_law_1022 : decode cL_law 1022 = .ok (.i2l, 1) := dk_133 (dk_at dksL_law_38 8 rfl rfl)
theorem dL_law_1023 : decode cL_law 1023 = .ok (.lcmp, 1) := dk_148 (dk_at dksL_law_38 9 rfl rfl)
theorem dL_law_1024 : decode cL_law 1024 = .ok (.ifCond .eq 5, 3) := dk_153 0 5 (dk_at dksL_law_38 10 rfl rfl)
theorem dL_law_1027 : decode cL_law 1027 = .ok (.iconst 0, 1) := dk_3 (dk_at dksL_law_38 13 rfl rfl)
theorem dL_law_1028 : decode cL_law 1028 = .ok (.ireturn, 1) := dk_172 (dk_at dksL_law_38 14 rfl rfl)
theorem dL_law_1029 : decode cL_law 1029 = .ok (.goto 1203, 3) := dk_167 4 179 (dk_at dksL_law_38 15 rfl rfl)
theorem dL_law_1032 : decode cL_law 1032 = .ok (.aload_n 1, 1) := dk_43 (dk_at dksL_law_38 18 rfl rfl)
theorem dL_law_1033 : decode cL_law 1033 = .ok (.aload_n 0, 1) := dk_42 (dk_at dksL_law_38 19 rfl rfl)
theorem dL_law_1034 : decode cL_law 1034 = .ok (.iload 5, 2) := dk_21 5 (dk_at dksL_law_38 20 rfl rfl)
theorem dL_law_1036 : decode cL_law 1036 = .ok (.iconst 1, 1) := dk_4 (dk_at dksL_law_38 22 rfl rfl)
theorem dL_law_1037 : decode cL_law 1037 = .ok (.iadd, 1) := dk_96 (dk_at dksL_law_38 23 rfl rfl)
theorem dL_law_1038 : decode cL_law 1038 = .ok (.iaload, 1) := dk_46 (dk_at dksL_law_39 0 rfl rfl)
theorem dL_law_1039 : decode cL_law 1039 = .ok (.aload_n 0, 1) := dk_42 (dk_at dksL_law_39 1 rfl rfl)
theorem dL_law_1040 : decode cL_law 1040 = .ok (.iload 5, 2) := dk_21 5 (dk_at dksL_law_39 2 rfl rfl)
theorem dL_law_1042 : decode cL_law 1042 = .ok (.iconst 2, 1) := dk_5 (dk_at dksL_law_39 4 rfl rfl)
theorem dL_law_1043 : decode cL_law 1043 = .ok (.iadd, 1) := dk_96 (dk_at dksL_law_39 5 rfl rfl)
theorem dL_law_1044 : decode cL_law 1044 = .ok (.iaload, 1) := dk_46 (dk_at dksL_law_39 6 rfl rfl)
theorem dL_law_1045 : decode cL_law 1045 = .ok (.aload_n 3, 1) := dk_45 (dk_at dksL_law_39 7 rfl rfl)
theorem dL_law_1046 : decode cL_law 1046 = .ok (.invokestatic 182, 3) := dk_184 0 182 (dk_at dksL_law_39 8 rfl rfl)
theorem dL_law_1049 : decode cL_law 1049 = .ok (.istore 6, 2) := dk_54 6 (dk_at dksL_law_39 11 rfl rfl)
theorem dL_law_1051 : decode cL_law 1051 = .ok (.aload_n 2, 1) := dk_44 (dk_at dksL_law_39 13 rfl rfl)
theorem dL_law_1052 : decode cL_law 1052 = .ok (.aload_n 0, 1) := dk_42 (dk_at dksL_law_39 14 rfl rfl)
theorem dL_law_1053 : decode cL_law 1053 = .ok (.iload 5, 2) := dk_21 5 (dk_at dksL_law_39 15 rfl rfl)
theorem dL_law_1055 : decode cL_law 1055 = .ok (.iconst 1, 1) := dk_4 (dk_at dksL_law_39 17 rfl rfl)
theorem dL_law_1056 : decode cL_law 1056 = .ok (.iadd, 1) := dk_96 (dk_at dksL_law_39 18 rfl rfl)
theorem dL_law_1057 : decode cL_law 1057 = .ok (.iaload, 1) := dk_46 (dk_at dksL_law_39 19 rfl rfl)
theorem dL_law_1058 : decode cL_law 1058 = .ok (.aload_n 0, 1) := dk_42 (dk_at dksL_law_39 20 rfl rfl)
theorem dL_law_1059 : decode cL_law 1059 = .ok (.iload 5, 2) := dk_21 5 (dk_at dksL_law_39 21 rfl rfl)
theorem dL_law_1061 : decode cL_law 1061 = .ok (.iconst 2, 1) := dk_5 (dk_at dksL_law_39 23 rfl rfl)
theorem dL_law_1062 : decode cL_law 1062 = .ok (.iadd, 1) := dk_96 (dk_at dksL_law_40 0 rfl rfl)
theorem dL_law_1063 : decode cL_law 1063 = .ok (.iaload, 1) := dk_46 (dk_at dksL_law_40 1 rfl rfl)
theorem dL_law_1064 : decode cL_law 1064 = .ok (.invokevirtual 184, 3) := dk_182 0 184 (dk_at dksL_law_40 2 rfl rfl)
theorem dL_law_1067 : decode cL_law 1067 = .ok (.istore 7, 2) := dk_54 7 (dk_at dksL_law_40 5 rfl rfl)
theorem dL_law_1069 : decode cL_law 1069 = .ok (.aload_n 2, 1) := dk_44 (dk_at dksL_law_40 7 rfl rfl)
theorem dL_law_1070 : decode cL_law 1070 = .ok (.invokevirtual 140, 3) := dk_182 0 140 (dk_at dksL_law_40 8 rfl rfl)
theorem dL_law_1073 : decode cL_law 1073 = .ok (.iload 6, 2) := dk_21 6 (dk_at dksL_law_40 11 rfl rfl)
theorem dL_law_1075 : decode cL_law 1075 = .ok (.if_icmp .eq 5, 3) := dk_159 0 5 (dk_at dksL_law_40 13 rfl rfl)
theorem dL_law_1078 : decode cL_law 1078 = .ok (.iconst 0, 1) := dk_3 (dk_at dksL_law_40 16 rfl rfl)
theorem dL_law_1079 : decode cL_law 1079 = .ok (.ireturn, 1) := dk_172 (dk_at dksL_law_40 17 rfl rfl)
theorem dL_law_1080 : decode cL_law 1080 = .ok (.iload 6, 2) := dk_21 6 (dk_at dksL_law_40 18 rfl rfl)
theorem dL_law_1082 : decode cL_law 1082 = .ok (.ifCond .ne 15, 3) := dk_154 0 15 (dk_at dksL_law_40 20 rfl rfl)
theorem dL_law_1085 : decode cL_law 1085 = .ok (.aload_n 3, 1) := dk_45 (dk_at dksL_law_40 23 rfl rfl)
theorem dL_law_1086 : decode cL_law 1086 = .ok (.iconst 0, 1) := dk_3 (dk_at dksL_law_41 0 rfl rfl)
theorem dL_law_1087 : decode cL_law 1087 = .ok (.laload, 1) := dk_47 (dk_at dksL_law_41 1 rfl rfl)
theorem dL_law_1088 : decode cL_law 1088 = .ok (.iload 7, 2) := dk_21 7 (dk_at dksL_law_41 2 rfl rfl)
theorem dL_law_1090 : decode cL_law 1090 = .ok (.i2l, 1) := dk_133 (dk_at dksL_law_41 4 rfl rfl)
theorem dL_law_1091 : decode cL_law 1091 = .ok (.lcmp, 1) := dk_148 (dk_at dksL_law_41 5 rfl rfl)
theorem dL_law_1092 : decode cL_law 1092 = .ok (.ifCond .eq 5, 3) := dk_153 0 5 (dk_at dksL_law_41 6 rfl rfl)
theorem dL_law_1095 : decode cL_law 1095 = .ok (.iconst 0, 1) := dk_3 (dk_at dksL_law_41 9 rfl rfl)
theorem dL_law_1096 : decode cL_law 1096 = .ok (.ireturn, 1) := dk_172 (dk_at dksL_law_41 10 rfl rfl)
theorem dL_law_1097 : decode cL_law 1097 = .ok (.goto 1135, 3) := dk_167 4 111 (dk_at dksL_law_41 11 rfl rfl)
theorem dL_law_1100 : decode cL_law 1100 = .ok (.aload_n 1, 1) := dk_43 (dk_at dksL_law_41 14 rfl rfl)
theorem dL_law_1101 : decode cL_law 1101 = .ok (.aload_n 0, 1) := dk_42 (dk_at dksL_law_41 15 rfl rfl)
theorem dL_law_1102 : decode cL_law 1102 = .ok (.iload 5, 2) := dk_21 5 (dk_at dksL_law_41 16 rfl rfl)
theorem dL_law_1104 : decode cL_law 1104 = .ok (.iconst 1, 1) := dk_4 (dk_at dksL_law_41 18 rfl rfl)
theorem dL_law_1105 : decode cL_law 1105 = .ok (.iadd, 1) := dk_96 (dk_at dksL_law_41 19 rfl rfl)
theorem dL_law_1106 : decode cL_law 1106 = .ok (.iaload, 1) := dk_46 (dk_at dksL_law_41 20 rfl rfl)
theorem dL_law_1107 : decode cL_law 1107 = .ok (.aload_n 3, 1) := dk_45 (dk_at dksL_law_41 21 rfl rfl)
theorem dL_law_1108 : decode cL_law 1108 = .ok (.invokestatic 185, 3) := dk_184 0 185 (dk_at dksL_law_42 0 rfl rfl)
theorem dL_law_1111 : decode cL_law 1111 = .ok (.istore 6, 2) := dk_54 6 (dk_at dksL_law_42 3 rfl rfl)
theorem dL_law_1113 : decode cL_law 1113 = .ok (.aload_n 2, 1) := dk_44 (dk_at dksL_law_42 5 rfl rfl)
theorem dL_law_1114 : decode cL_law 1114 = .ok (.aload_n 0, 1) := dk_42 (dk_at dksL_law_42 6 rfl rfl)
theorem dL_law_1115 : decode cL_law 1115 = .ok (.iload 5, 2) := dk_21 5 (dk_at dksL_law_42 7 rfl rfl)
theorem dL_law_1117 : decode cL_law 1117 = .ok (.iconst 1, 1) := dk_4 (dk_at dksL_law_42 9 rfl rfl)
theorem dL_law_1118 : decode cL_law 1118 = .ok (.iadd, 1) := dk_96 (dk_at dksL_law_42 10 rfl rfl)
theorem dL_law_1119 : decode cL_law 1119 = .ok (.iaload, 1) := dk_46 (dk_at dksL_law_42 11 rfl rfl)
theorem dL_law_1120 : decode cL_law 1120 = .ok (.invokevirtual 187, 3) := dk_182 0 187 (dk_at dksL_law_42 12 rfl rfl)
theorem dL_law_1123 : decode cL_law 1123 = .ok (.istore 7, 2) := dk_54 7 (dk_at dksL_law_42 15 rfl rfl)
theorem dL_law_1125 : decode cL_law 1125 = .ok (.aload_n 2, 1) := dk_44 (dk_at dksL_law_42 17 rfl rfl)
theorem dL_law_1126 : decode cL_law 1126 = .ok (.invokevirtual 140, 3) := dk_182 0 140 (dk_at dksL_law_42 18 rfl rfl)
theorem dL_law_1129 : decode cL_law 1129 = .ok (.iload 6, 2) := dk_21 6 (dk_at dksL_law_42 21 rfl rfl)
theorem dL_law_1131 : decode cL_law 1131 = .ok (.if_icmp .eq 5, 3) := dk_159 0 5 (dk_at dksL_law_43 0 rfl rfl)
theorem dL_law_1134 : decode cL_law 1134 = .ok (.iconst 0, 1) := dk_3 (dk_at dksL_law_43 3 rfl rfl)
theorem dL_law_1135 : decode cL_law 1135 = .ok (.ireturn, 1) := dk_172 (dk_at dksL_law_43 4 rfl rfl)
theorem dL_law_1136 : decode cL_law 1136 = .ok (.iload 6, 2) := dk_21 6 (dk_at dksL_law_43 5 rfl rfl)
theorem dL_law_1138 : decode cL_law 1138 = .ok (.ifCond .ne 15, 3) := dk_154 0 15 (dk_at dksL_law_43 7 rfl rfl)
theorem dL_law_1141 : decode cL_law 1141 = .ok (.aload_n 3, 1) := dk_45 (dk_at dksL_law_43 10 rfl rfl)
theorem dL_law_1142 : decode cL_law 1142 = .ok (.iconst 0, 1) := dk_3 (dk_at dksL_law_43 11 rfl rfl)
theorem dL_law_1143 : decode cL_law 1143 = .ok (.laload, 1) := dk_47 (dk_at dksL_law_43 12 rfl rfl)
theorem dL_law_1144 : decode cL_law 1144 = .ok (.iload 7, 2) := dk_21 7 (dk_at dksL_law_43 13 rfl rfl)
theorem dL_law_1146 : decode cL_law 1146 = .ok (.i2l, 1) := dk_133 (dk_at dksL_law_43 15 rfl rfl)
theorem dL_law_1147 : decode cL_law 1147 = .ok (.lcmp, 1) := dk_148 (dk_at dksL_law_43 16 rfl rfl)
theorem dL_law_1148 : decode cL_law 1148 = .ok (.ifCond .eq 5, 3) := dk_153 0 5 (dk_at dksL_law_43 17 rfl rfl)
theorem dL_law_1151 : decode cL_law 1151 = .ok (.iconst 0, 1) := dk_3 (dk_at dksL_law_43 20 rfl rfl)
theorem dL_law_1152 : decode cL_law 1152 = .ok (.ireturn, 1) := dk_172 (dk_at dksL_law_43 21 rfl rfl)
theorem dL_law_1153 : decode cL_law 1153 = .ok (.goto 1079, 3) := dk_167 4 55 (dk_at dksL_law_44 0 rfl rfl)
theorem dL_law_1156 : decode cL_law 1156 = .ok (.aload_n 1, 1) := dk_43 (dk_at dksL_law_44 3 rfl rfl)
theorem dL_law_1157 : decode cL_law 1157 = .ok (.aload_n 0, 1) := dk_42 (dk_at dksL_law_44 4 rfl rfl)
theorem dL_law_1158 : decode cL_law 1158 = .ok (.iload 5, 2) := dk_21 5 (dk_at dksL_law_44 5 rfl rfl)
theorem dL_law_1160 : decode cL_law 1160 = .ok (.iconst 1, 1) := dk_4 (dk_at dksL_law_44 7 rfl rfl)
theorem dL_law_1161 : decode cL_law 1161 = .ok (.iadd, 1) := dk_96 (dk_at dksL_law_44 8 rfl rfl)
theorem dL_law_1162 : decode cL_law 1162 = .ok (.iaload, 1) := dk_46 (dk_at dksL_law_44 9 rfl rfl)
theorem dL_law_1163 : decode cL_law 1163 = .ok (.aload_n 0, 1) := dk_42 (dk_at dksL_law_44 10 rfl rfl)
theorem dL_law_1164 : decode cL_law 1164 = .ok (.iload 5, 2) := dk_21 5 (dk_at dksL_law_44 11 rfl rfl)
theorem dL_law_1166 : decode cL_law 1166 = .ok (.iconst 2, 1) := dk_5 (dk_at dksL_law_44 13 rfl rfl)
theorem dL_law_1167 : decode cL_law 1167 = .ok (.iadd, 1) := dk_96 (dk_at dksL_law_44 14 rfl rfl)
theorem dL_law_1168 : decode cL_law 1168 = .ok (.iaload, 1) := dk_46 (dk_at dksL_law_44 15 rfl rfl)
theorem dL_law_1169 : decode cL_law 1169 = .ok (.ifCond .eq 7, 3) := dk_153 0 7 (dk_at dksL_law_44 16 rfl rfl)
theorem dL_law_1172 : decode cL_law 1172 = .ok (.iconst 1, 1) := dk_4 (dk_at dksL_law_44 19 rfl rfl)
theorem dL_law_1173 : decode cL_law 1173 = .ok (.goto 4, 3) := dk_167 0 4 (dk_at dksL_law_44 20 rfl rfl)
theorem dL_law_1176 : decode cL_law 1176 = .ok (.iconst 0, 1) := dk_3 (dk_at dksL_law_44 23 rfl rfl)
theorem dL_law_1177 : decode cL_law 1177 = .ok (.aload_n 3, 1) := dk_45 (dk_at dksL_law_45 0 rfl rfl)
theorem dL_law_1178 : decode cL_law 1178 = .ok (.invokestatic 188, 3) := dk_184 0 188 (dk_at dksL_law_45 1 rfl rfl)
theorem dL_law_1181 : decode cL_law 1181 = .ok (.istore 6, 2) := dk_54 6 (dk_at dksL_law_45 4 rfl rfl)
theorem dL_law_1183 : decode cL_law 1183 = .ok (.aload_n 2, 1) := dk_44 (dk_at dksL_law_45 6 rfl rfl)
theorem dL_law_1184 : decode cL_law 1184 = .ok (.aload_n 0, 1) := dk_42 (dk_at dksL_law_45 7 rfl rfl)
theorem dL_law_1185 : decode cL_law 1185 = .ok (.iload 5, 2) := dk_21 5 (dk_at dksL_law_45 8 rfl rfl)
theorem dL_law_1187 : decode cL_law 1187 = .ok (.iconst 1, 1) := dk_4 (dk_at dksL_law_45 10 rfl rfl)
theorem dL_law_1188 : decode cL_law 1188 = .ok (.iadd, 1) := dk_96 (dk_at dksL_law_45 11 rfl rfl)
theorem dL_law_1189 : decode cL_law 1189 = .ok (.iaload, 1) := dk_46 (dk_at dksL_law_45 12 rfl rfl)
theorem dL_law_1190 : decode cL_law 1190 = .ok (.aload_n 0, 1) := dk_42 (dk_at dksL_law_45 13 rfl rfl)
theorem dL_law_1191 : decode cL_law 1191 = .ok (.iload 5, 2) := dk_21 5 (dk_at dksL_law_45 14 rfl rfl)
theorem dL_law_1193 : decode cL_law 1193 = .ok (.iconst 2, 1) := dk_5 (dk_at dksL_law_45 16 rfl rfl)
theorem dL_law_1194 : decode cL_law 1194 = .ok (.iadd, 1) := dk_96 (dk_at dksL_law_45 17 rfl rfl)
theorem dL_law_1195 : decode cL_law 1195 = .ok (.iaload, 1) := dk_46 (dk_at dksL_law_45 18 rfl rfl)
theorem dL_law_1196 : decode cL_law 1196 = .ok (.ifCond .eq 7, 3) := dk_153 0 7 (dk_at dksL_law_45 19 rfl rfl)
theorem dL_law_1199 : decode cL_law 1199 = .ok (.iconst 1, 1) := dk_4 (dk_at dksL_law_45 22 rfl rfl)
theorem dL_law_1200 : decode cL_law 1200 = .ok (.goto 4, 3) := dk_167 0 4 (dk_at dksL_law_46 0 rfl rfl)
theorem dL_law_1203 : decode cL_law 1203 = .ok (.iconst 0, 1) := dk_3 (dk_at dksL_law_46 3 rfl rfl)
theorem dL_law_1204 : decode cL_law 1204 = .ok (.invokevirtual 190, 3) := dk_182 0 190 (dk_at dksL_law_46 4 rfl rfl)
theorem dL_law_1207 : decode cL_law 1207 = .ok (.istore 7, 2) := dk_54 7 (dk_at dksL_law_46 7 rfl rfl)
theorem dL_law_1209 : decode cL_law 1209 = .ok (.aload_n 2, 1) := dk_44 (dk_at dksL_law_46 9 rfl rfl)
theorem dL_law_1210 : decode cL_law 1210 = .ok (.invokevirtual 140, 3) := dk_182 0 140 (dk_at dksL_law_46 10 rfl rfl)
theorem dL_law_1213 : decode cL_law 1213 = .ok (.iload 6, 2) := dk_21 6 (dk_at dksL_law_46 13 rfl rfl)
theorem dL_law_1215 : decode cL_law 1215 = .ok (.if_icmp .eq 5, 3) := dk_159 0 5 (dk_at dksL_law_46 15 rfl rfl)
theorem dL_law_1218 : decode cL_law 1218 = .ok (.iconst 0, 1) := dk_3 (dk_at dksL_law_46 18 rfl rfl)
theorem dL_law_1219 : decode cL_law 1219 = .ok (.ireturn, 1) := dk_172 (dk_at dksL_law_46 19 rfl rfl)
theorem dL_law_1220 : decode cL_law 1220 = .ok (.iload 6, 2) := dk_21 6 (dk_at dksL_law_46 20 rfl rfl)
theorem dL_law_1222 : decode cL_law 1222 = .ok (.ifCond .ne 15, 3) := dk_154 0 15 (dk_at dksL_law_47 0 rfl rfl)
theorem dL_law_1225 : decode cL_law 1225 = .ok (.aload_n 3, 1) := dk_45 (dk_at dksL_law_47 3 rfl rfl)
theorem dL_law_1226 : decode cL_law 1226 = .ok (.iconst 0, 1) := dk_3 (dk_at dksL_law_47 4 rfl rfl)
theorem dL_law_1227 : decode cL_law 1227 = .ok (.laload, 1) := dk_47 (dk_at dksL_law_47 5 rfl rfl)
theorem dL_law_1228 : decode cL_law 1228 = .ok (.iload 7, 2) := dk_21 7 (dk_at dksL_law_47 6 rfl rfl)
theorem dL_law_1230 : decode cL_law 1230 = .ok (.i2l, 1) := dk_133 (dk_at dksL_law_47 8 rfl rfl)
theorem dL_law_1231 : decode cL_law 1231 = .ok (.lcmp, 1) := dk_148 (dk_at dksL_law_47 9 rfl rfl)
theorem dL_law_1232 : decode cL_law 1232 = .ok (.ifCond .eq 5, 3) := dk_153 0 5 (dk_at dksL_law_47 10 rfl rfl)
theorem dL_law_1235 : decode cL_law 1235 = .ok (.iconst 0, 1) := dk_3 (dk_at dksL_law_47 13 rfl rfl)
theorem dL_law_1236 : decode cL_law 1236 = .ok (.ireturn, 1) := dk_172 (dk_at dksL_law_47 14 rfl rfl)
theorem dL_law_1237 : decode cL_law 1237 = .ok (.goto 995, 3) := dk_167 3 227 (dk_at dksL_law_47 15 rfl rfl)
theorem dL_law_1240 : decode cL_law 1240 = .ok (.aload_n 1, 1) := dk_43 (dk_at dksL_law_47 18 rfl rfl)
theorem dL_law_1241 : decode cL_law 1241 = .ok (.aload_n 0, 1) := dk_42 (dk_at dksL_law_47 19 rfl rfl)
theorem dL_law_1242 : decode cL_law 1242 = .ok (.iload 5, 2) := dk_21 5 (dk_at dksL_law_47 20 rfl rfl)
theorem dL_law_1244 : decode cL_law 1244 = .ok (.iconst 1, 1) := dk_4 (dk_at dksL_law_47 22 rfl rfl)
theorem dL_law_1245 : decode cL_law 1245 = .ok (.iadd, 1) := dk_96 (dk_at dksL_law_47 23 rfl rfl)
theorem dL_law_1246 : decode cL_law 1246 = .ok (.iaload, 1) := dk_46 (dk_at dksL_law_48 0 rfl rfl)
theorem dL_law_1247 : decode cL_law 1247 = .ok (.aload_n 3, 1) := dk_45 (dk_at dksL_law_48 1 rfl rfl)
theorem dL_law_1248 : decode cL_law 1248 = .ok (.invokestatic 191, 3) := dk_184 0 191 (dk_at dksL_law_48 2 rfl rfl)
theorem dL_law_1251 : decode cL_law 1251 = .ok (.istore 6, 2) := dk_54 6 (dk_at dksL_law_48 5 rfl rfl)
theorem dL_law_1253 : decode cL_law 1253 = .ok (.aload_n 2, 1) := dk_44 (dk_at dksL_law_48 7 rfl rfl)
theorem dL_law_1254 : decode cL_law 1254 = .ok (.aload_n 0, 1) := dk_42 (dk_at dksL_law_48 8 rfl rfl)
theorem dL_law_1255 : decode cL_law 1255 = .ok (.iload 5, 2) := dk_21 5 (dk_at dksL_law_48 9 rfl rfl)
theorem dL_law_1257 : decode cL_law 1257 = .ok (.iconst 1, 1) := dk_4 (dk_at dksL_law_48 11 rfl rfl)
theorem dL_law_1258 : decode cL_law 1258 = .ok (.iadd, 1) := dk_96 (dk_at dksL_law_48 12 rfl rfl)
theorem dL_law_1259 : decode cL_law 1259 = .ok (.iaload, 1) := dk_46 (dk_at dksL_law_48 13 rfl rfl)
theorem dL_law_1260 : decode cL_law 1260 = .ok (.invokevirtual 193, 3) := dk_182 0 193 (dk_at dksL_law_48 14 rfl rfl)
theorem dL_law_1263 : decode cL_law 1263 = .ok (.istore 7, 2) := dk_54 7 (dk_at dksL_law_48 17 rfl rfl)
theorem dL_law_1265 : decode cL_law 1265 = .ok (.aload_n 2, 1) := dk_44 (dk_at dksL_law_48 19 rfl rfl)
theorem dL_law_1266 : decode cL_law 1266 = .ok (.invokevirtual 140, 3) := dk_182 0 140 (dk_at dksL_law_48 20 rfl rfl)
theorem dL_law_1269 : decode cL_law 1269 = .ok (.iload 6, 2) := dk_21 6 (dk_at dksL_law_49 0 rfl rfl)
theorem dL_law_1271 : decode cL_law 1271 = .ok (.if_icmp .eq 5, 3) := dk_159 0 5 (dk_at dksL_law_49 2 rfl rfl)
theorem dL_law_1274 : decode cL_law 1274 = .ok (.iconst 0, 1) := dk_3 (dk_at dksL_law_49 5 rfl rfl)
theorem dL_law_1275 : decode cL_law 1275 = .ok (.ireturn, 1) := dk_172 (dk_at dksL_law_49 6 rfl rfl)
theorem dL_law_1276 : decode cL_law 1276 = .ok (.iload 6, 2) := dk_21 6 (dk_at dksL_law_49 7 rfl rfl)
theorem dL_law_1278 : decode cL_law 1278 = .ok (.ifCond .ne 15, 3) := dk_154 0 15 (dk_at dksL_law_49 9 rfl rfl)
theorem dL_law_1281 : decode cL_law 1281 = .ok (.aload_n 3, 1) := dk_45 (dk_at dksL_law_49 12 rfl rfl)
theorem dL_law_1282 : decode cL_law 1282 = .ok (.iconst 0, 1) := dk_3 (dk_at dksL_law_49 13 rfl rfl)
theorem dL_law_1283 : decode cL_law 1283 = .ok (.laload, 1) := dk_47 (dk_at dksL_law_49 14 rfl rfl)
theorem dL_law_1284 : decode cL_law 1284 = .ok (.iload 7, 2) := dk_21 7 (dk_at dksL_law_49 15 rfl rfl)
theorem dL_law_1286 : decode cL_law 1286 = .ok (.i2l, 1) := dk_133 (dk_at dksL_law_49 17 rfl rfl)
theorem dL_law_1287 : decode cL_law 1287 = .ok (.lcmp, 1) := dk_148 (dk_at dksL_law_49 18 rfl rfl)
theorem dL_law_1288 : decode cL_law 1288 = .ok (.ifCond .eq 5, 3) := dk_153 0 5 (dk_at dksL_law_49 19 rfl rfl)
theorem dL_law_1291 : decode cL_law 1291 = .ok (.iconst 0, 1) := dk_3 (dk_at dksL_law_49 22 rfl rfl)
theorem dL_law_1292 : decode cL_law 1292 = .ok (.ireturn, 1) := dk_172 (dk_at dksL_law_49 23 rfl rfl)
theorem dL_law_1293 : decode cL_law 1293 = .ok (.goto 939, 3) := dk_167 3 171 (dk_at dksL_law_50 0 rfl rfl)
theorem dL_law_1296 : decode cL_law 1296 = .ok (.aload_n 1, 1) := dk_43 (dk_at dksL_law_50 3 rfl rfl)
theorem dL_law_1297 : decode cL_law 1297 = .ok (.aload_n 3, 1) := dk_45 (dk_at dksL_law_50 4 rfl rfl)
theorem dL_law_1298 : decode cL_law 1298 = .ok (.invokestatic 194, 3) := dk_184 0 194 (dk_at dksL_law_50 5 rfl rfl)
theorem dL_law_1301 : decode cL_law 1301 = .ok (.istore 6, 2) := dk_54 6 (dk_at dksL_law_50 8 rfl rfl)
theorem dL_law_1303 : decode cL_law 1303 = .ok (.aload_n 2, 1) := dk_44 (dk_at dksL_law_50 10 rfl rfl)
theorem dL_law_1304 : decode cL_law 1304 = .ok (.invokevirtual 196, 3) := dk_182 0 196 (dk_at dksL_law_50 11 rfl rfl)
theorem dL_law_1307 : decode cL_law 1307 = .ok (.istore 7, 2) := dk_54 7 (dk_at dksL_law_50 14 rfl rfl)
theorem dL_law_1309 : decode cL_law 1309 = .ok (.aload_n 2, 1) := dk_44 (dk_at dksL_law_50 16 rfl rfl)
theorem dL_law_1310 : decode cL_law 1310 = .ok (.invokevirtual 140, 3) := dk_182 0 140 (dk_at dksL_law_50 17 rfl rfl)
theorem dL_law_1313 : decode cL_law 1313 = .ok (.iload 6, 2) := dk_21 6 (dk_at dksL_law_50 20 rfl rfl)
theorem dL_law_1315 : decode cL_law 1315 = .ok (.if_icmp .eq 5, 3) := dk_159 0 5 (dk_at dksL_law_51 0 rfl rfl)
theorem dL_law_1318 : decode cL_law 1318 = .ok (.iconst 0, 1) := dk_3 (dk_at dksL_law_51 3 rfl rfl)
theorem dL_law_1319 : decode cL_law 1319 = .ok (.ireturn, 1) := dk_172 (dk_at dksL_law_51 4 rfl rfl)
theorem dL_law_1320 : decode cL_law 1320 = .ok (.iload 6, 2) := dk_21 6 (dk_at dksL_law_51 5 rfl rfl)
theorem dL_law_1322 : decode cL_law 1322 = .ok (.ifCond .ne 15, 3) := dk_154 0 15 (dk_at dksL_law_51 7 rfl rfl)
theorem dL_law_1325 : decode cL_law 1325 = .ok (.aload_n 3, 1) := dk_45 (dk_at dksL_law_51 10 rfl rfl)
theorem dL_law_1326 : decode cL_law 1326 = .ok (.iconst 0, 1) := dk_3 (dk_at dksL_law_51 11 rfl rfl)
theorem dL_law_1327 : decode cL_law 1327 = .ok (.laload, 1) := dk_47 (dk_at dksL_law_51 12 rfl rfl)
theorem dL_law_1328 : decode cL_law 1328 = .ok (.iload 7, 2) := dk_21 7 (dk_at dksL_law_51 13 rfl rfl)
theorem dL_law_1330 : decode cL_law 1330 = .ok (.i2l, 1) := dk_133 (dk_at dksL_law_51 15 rfl rfl)
theorem dL_law_1331 : decode cL_law 1331 = .ok (.lcmp, 1) := dk_148 (dk_at dksL_law_51 16 rfl rfl)
theorem dL_law_1332 : decode cL_law 1332 = .ok (.ifCond .eq 5, 3) := dk_153 0 5 (dk_at dksL_law_51 17 rfl rfl)
theorem dL_law_1335 : decode cL_law 1335 = .ok (.iconst 0, 1) := dk_3 (dk_at dksL_law_51 20 rfl rfl)
theorem dL_law_1336 : decode cL_law 1336 = .ok (.ireturn, 1) := dk_172 (dk_at dksL_law_51 21 rfl rfl)
theorem dL_law_1337 : decode cL_law 1337 = .ok (.goto 895, 3) := dk_167 3 127 (dk_at dksL_law_52 0 rfl rfl)
theorem dL_law_1340 : decode cL_law 1340 = .ok (.aload_n 1, 1) := dk_43 (dk_at dksL_law_52 3 rfl rfl)
theorem dL_law_1341 : decode cL_law 1341 = .ok (.aload_n 0, 1) := dk_42 (dk_at dksL_law_52 4 rfl rfl)
theorem dL_law_1342 : decode cL_law 1342 = .ok (.iload 5, 2) := dk_21 5 (dk_at dksL_law_52 5 rfl rfl)
theorem dL_law_1344 : decode cL_law 1344 = .ok (.iconst 1, 1) := dk_4 (dk_at dksL_law_52 7 rfl rfl)
theorem dL_law_1345 : decode cL_law 1345 = .ok (.iadd, 1) := dk_96 (dk_at dksL_law_52 8 rfl rfl)
theorem dL_law_1346 : decode cL_law 1346 = .ok (.iaload, 1) := dk_46 (dk_at dksL_law_52 9 rfl rfl)
theorem dL_law_1347 : decode cL_law 1347 = .ok (.aload_n 3, 1) := dk_45 (dk_at dksL_law_52 10 rfl rfl)
theorem dL_law_1348 : decode cL_law 1348 = .ok (.invokestatic 197, 3) := dk_184 0 197 (dk_at dksL_law_52 11 rfl rfl)
theorem dL_law_1351 : decode cL_law 1351 = .ok (.istore 6, 2) := dk_54 6 (dk_at dksL_law_52 14 rfl rfl)
theorem dL_law_1353 : decode cL_law 1353 = .ok (.aload_n 2, 1) := dk_44 (dk_at dksL_law_52 16 rfl rfl)
theorem dL_law_1354 : decode cL_law 1354 = .ok (.aload_n 0, 1) := dk_42 (dk_at dksL_law_52 17 rfl rfl)
theorem dL_law_1355 : decode cL_law 1355 = .ok (.iload 5, 2) := dk_21 5 (dk_at dksL_law_52 18 rfl rfl)
theorem dL_law_1357 : decode cL_law 1357 = .ok (.iconst 1, 1) := dk_4 (dk_at dksL_law_52 20 rfl rfl)
theorem dL_law_1358 : decode cL_law 1358 = .ok (.iadd, 1) := dk_96 (dk_at dksL_law_52 21 rfl rfl)
theorem dL_law_1359 : decode cL_law 1359 = .ok (.iaload, 1) := dk_46 (dk_at dksL_law_52 22 rfl rfl)
theorem dL_law_1360 : decode cL_law 1360 = .ok (.invokevirtual 199, 3) := dk_182 0 199 (dk_at dksL_law_53 0 rfl rfl)
theorem dL_law_1363 : decode cL_law 1363 = .ok (.istore 7, 2) := dk_54 7 (dk_at dksL_law_53 3 rfl rfl)
theorem dL_law_1365 : decode cL_law 1365 = .ok (.aload_n 2, 1) := dk_44 (dk_at dksL_law_53 5 rfl rfl)
theorem dL_law_1366 : decode cL_law 1366 = .ok (.invokevirtual 140, 3) := dk_182 0 140 (dk_at dksL_law_53 6 rfl rfl)
theorem dL_law_1369 : decode cL_law 1369 = .ok (.iload 6, 2) := dk_21 6 (dk_at dksL_law_53 9 rfl rfl)
theorem dL_law_1371 : decode cL_law 1371 = .ok (.if_icmp .eq 5, 3) := dk_159 0 5 (dk_at dksL_law_53 11 rfl rfl)
theorem dL_law_1374 : decode cL_law 1374 = .ok (.iconst 0, 1) := dk_3 (dk_at dksL_law_53 14 rfl rfl)
theorem dL_law_1375 : decode cL_law 1375 = .ok (.ireturn, 1) := dk_172 (dk_at dksL_law_53 15 rfl rfl)
theorem dL_law_1376 : decode cL_law 1376 = .ok (.iload 6, 2) := dk_21 6 (dk_at dksL_law_53 16 rfl rfl)
theorem dL_law_1378 : decode cL_law 1378 = .ok (.ifCond .ne 15, 3) := dk_154 0 15 (dk_at dksL_law_53 18 rfl rfl)
theorem dL_law_1381 : decode cL_law 1381 = .ok (.aload_n 3, 1) := dk_45 (dk_at dksL_law_53 21 rfl rfl)
theorem dL_law_1382 : decode cL_law 1382 = .ok (.iconst 0, 1) := dk_3 (dk_at dksL_law_53 22 rfl rfl)
theorem dL_law_1383 : decode cL_law 1383 = .ok (.laload, 1) := dk_47 (dk_at dksL_law_53 23 rfl rfl)
theorem dL_law_1384 : decode cL_law 1384 = .ok (.iload 7, 2) := dk_21 7 (dk_at dksL_law_54 0 rfl rfl)
theorem dL_law_1386 : decode cL_law 1386 = .ok (.i2l, 1) := dk_133 (dk_at dksL_law_54 2 rfl rfl)
theorem dL_law_1387 : decode cL_law 1387 = .ok (.lcmp, 1) := dk_148 (dk_at dksL_law_54 3 rfl rfl)
theorem dL_law_1388 : decode cL_law 1388 = .ok (.ifCond .eq 5, 3) := dk_153 0 5 (dk_at dksL_law_54 4 rfl rfl)
theorem dL_law_1391 : decode cL_law 1391 = .ok (.iconst 0, 1) := dk_3 (dk_at dksL_law_54 7 rfl rfl)
theorem dL_law_1392 : decode cL_law 1392 = .ok (.ireturn, 1) := dk_172 (dk_at dksL_law_54 8 rfl rfl)
theorem dL_law_1393 : decode cL_law 1393 = .ok (.goto 839, 3) := dk_167 3 71 (dk_at dksL_law_54 9 rfl rfl)
theorem dL_law_1396 : decode cL_law 1396 = .ok (.aload_n 1, 1) := dk_43 (dk_at dksL_law_54 12 rfl rfl)
theorem dL_law_1397 : decode cL_law 1397 = .ok (.aload_n 0, 1) := dk_42 (dk_at dksL_law_54 13 rfl rfl)
theorem dL_law_1398 : decode cL_law 1398 = .ok (.iload 5, 2) := dk_21 5 (dk_at dksL_law_54 14 rfl rfl)
theorem dL_law_1400 : decode cL_law 1400 = .ok (.iconst 1, 1) := dk_4 (dk_at dksL_law_54 16 rfl rfl)
theorem dL_law_1401 : decode cL_law 1401 = .ok (.iadd, 1) := dk_96 (dk_at dksL_law_54 17 rfl rfl)
theorem dL_law_1402 : decode cL_law 1402 = .ok (.iaload, 1) := dk_46 (dk_at dksL_law_54 18 rfl rfl)
theorem dL_law_1403 : decode cL_law 1403 = .ok (.aload_n 3, 1) := dk_45 (dk_at dksL_law_54 19 rfl rfl)
theorem dL_law_1404 : decode cL_law 1404 = .ok (.invokestatic 200, 3) := dk_184 0 200 (dk_at dksL_law_54 20 rfl rfl)
theorem dL_law_1407 : decode cL_law 1407 = .ok (.istore 6, 2) := dk_54 6 (dk_at dksL_law_55 0 rfl rfl)
theorem dL_law_1409 : decode cL_law 1409 = .ok (.aload_n 2, 1) := dk_44 (dk_at dksL_law_55 2 rfl rfl)
theorem dL_law_1410 : decode cL_law 1410 = .ok (.aload_n 0, 1) := dk_42 (dk_at dksL_law_55 3 rfl rfl)
theorem dL_law_1411 : decode cL_law 1411 = .ok (.iload 5, 2) := dk_21 5 (dk_at dksL_law_55 4 rfl rfl)
theorem dL_law_1413 : decode cL_law 1413 = .ok (.iconst 1, 1) := dk_4 (dk_at dksL_law_55 6 rfl rfl)
theorem dL_law_1414 : decode cL_law 1414 = .ok (.iadd, 1) := dk_96 (dk_at dksL_law_55 7 rfl rfl)
theorem dL_law_1415 : decode cL_law 1415 = .ok (.iaload, 1) := dk_46 (dk_at dksL_law_55 8 rfl rfl)
theorem dL_law_1416 : decode cL_law 1416 = .ok (.invokevirtual 202, 3) := dk_182 0 202 (dk_at dksL_law_55 9 rfl rfl)
theorem dL_law_1419 : decode cL_law 1419 = .ok (.istore 7, 2) := dk_54 7 (dk_at dksL_law_55 12 rfl rfl)
theorem dL_law_1421 : decode cL_law 1421 = .ok (.aload_n 2, 1) := dk_44 (dk_at dksL_law_55 14 rfl rfl)
theorem dL_law_1422 : decode cL_law 1422 = .ok (.invokevirtual 140, 3) := dk_182 0 140 (dk_at dksL_law_55 15 rfl rfl)
theorem dL_law_1425 : decode cL_law 1425 = .ok (.iload 6, 2) := dk_21 6 (dk_at dksL_law_55 18 rfl rfl)
theorem dL_law_1427 : decode cL_law 1427 = .ok (.if_icmp .eq 5, 3) := dk_159 0 5 (dk_at dksL_law_55 20 rfl rfl)
theorem dL_law_1430 : decode cL_law 1430 = .ok (.iconst 0, 1) := dk_3 (dk_at dksL_law_55 23 rfl rfl)
theorem dL_law_1431 : decode cL_law 1431 = .ok (.ireturn, 1) := dk_172 (dk_at dksL_law_56 0 rfl rfl)
theorem dL_law_1432 : decode cL_law 1432 = .ok (.iload 6, 2) := dk_21 6 (dk_at dksL_law_56 1 rfl rfl)
theorem dL_law_1434 : decode cL_law 1434 = .ok (.ifCond .ne 15, 3) := dk_154 0 15 (dk_at dksL_law_56 3 rfl rfl)
theorem dL_law_1437 : decode cL_law 1437 = .ok (.aload_n 3, 1) := dk_45 (dk_at dksL_law_56 6 rfl rfl)
theorem dL_law_1438 : decode cL_law 1438 = .ok (.iconst 0, 1) := dk_3 (dk_at dksL_law_56 7 rfl rfl)
theorem dL_law_1439 : decode cL_law 1439 = .ok (.laload, 1) := dk_47 (dk_at dksL_law_56 8 rfl rfl)
theorem dL_law_1440 : decode cL_law 1440 = .ok (.iload 7, 2) := dk_21 7 (dk_at dksL_law_56 9 rfl rfl)
theorem dL_law_1442 : decode cL_law 1442 = .ok (.i2l, 1) := dk_133 (dk_at dksL_law_56 11 rfl rfl)
theorem dL_law_1443 : decode cL_law 1443 = .ok (.lcmp, 1) := dk_148 (dk_at dksL_law_56 12 rfl rfl)
theorem dL_law_1444 : decode cL_law 1444 = .ok (.ifCond .eq 5, 3) := dk_153 0 5 (dk_at dksL_law_56 13 rfl rfl)
theorem dL_law_1447 : decode cL_law 1447 = .ok (.iconst 0, 1) := dk_3 (dk_at dksL_law_56 16 rfl rfl)
theorem dL_law_1448 : decode cL_law 1448 = .ok (.ireturn, 1) := dk_172 (dk_at dksL_law_56 17 rfl rfl)
theorem dL_law_1449 : decode cL_law 1449 = .ok (.goto 783, 3) := dk_167 3 15 (dk_at dksL_law_56 18 rfl rfl)
theorem dL_law_1452 : decode cL_law 1452 = .ok (.aload_n 1, 1) := dk_43 (dk_at dksL_law_56 21 rfl rfl)
theorem dL_law_1453 : decode cL_law 1453 = .ok (.aload_n 0, 1) := dk_42 (dk_at dksL_law_56 22 rfl rfl)
theorem dL_law_1454 : decode cL_law 1454 = .ok (.iload 5, 2) := dk_21 5 (dk_at dksL_law_57 0 rfl rfl)
theorem dL_law_1456 : decode cL_law 1456 = .ok (.iconst 1, 1) := dk_4 (dk_at dksL_law_57 2 rfl rfl)
theorem dL_law_1457 : decode cL_law 1457 = .ok (.iadd, 1) := dk_96 (dk_at dksL_law_57 3 rfl rfl)
theorem dL_law_1458 : decode cL_law 1458 = .ok (.iaload, 1) := dk_46 (dk_at dksL_law_57 4 rfl rfl)
theorem dL_law_1459 : decode cL_law 1459 = .ok (.aload_n 0, 1) := dk_42 (dk_at dksL_law_57 5 rfl rfl)
theorem dL_law_1460 : decode cL_law 1460 = .ok (.iload 5, 2) := dk_21 5 (dk_at dksL_law_57 6 rfl rfl)
theorem dL_law_1462 : decode cL_law 1462 = .ok (.iconst 2, 1) := dk_5 (dk_at dksL_law_57 8 rfl rfl)
theorem dL_law_1463 : decode cL_law 1463 = .ok (.iadd, 1) := dk_96 (dk_at dksL_law_57 9 rfl rfl)
theorem dL_law_1464 : decode cL_law 1464 = .ok (.iaload, 1) := dk_46 (dk_at dksL_law_57 10 rfl rfl)
theorem dL_law_1465 : decode cL_law 1465 = .ok (.aload_n 0, 1) := dk_42 (dk_at dksL_law_57 11 rfl rfl)
theorem dL_law_1466 : decode cL_law 1466 = .ok (.iload 5, 2) := dk_21 5 (dk_at dksL_law_57 12 rfl rfl)
theorem dL_law_1468 : decode cL_law 1468 = .ok (.iconst 3, 1) := dk_6 (dk_at dksL_law_57 14 rfl rfl)
theorem dL_law_1469 : decode cL_law 1469 = .ok (.iadd, 1) := dk_96 (dk_at dksL_law_57 15 rfl rfl)
theorem dL_law_1470 : decode cL_law 1470 = .ok (.iaload, 1) := dk_46 (dk_at dksL_law_57 16 rfl rfl)
theorem dL_law_1471 : decode cL_law 1471 = .ok (.aload_n 3, 1) := dk_45 (dk_at dksL_law_57 17 rfl rfl)
theorem dL_law_1472 : decode cL_law 1472 = .ok (.invokestatic 203, 3) := dk_184 0 203 (dk_at dksL_law_57 18 rfl rfl)
theorem dL_law_1475 : decode cL_law 1475 = .ok (.istore 6, 2) := dk_54 6 (dk_at dksL_law_57 21 rfl rfl)
theorem dL_law_1477 : decode cL_law 1477 = .ok (.aload_n 2, 1) := dk_44 (dk_at dksL_law_57 23 rfl rfl)
theorem dL_law_1478 : decode cL_law 1478 = .ok (.aload_n 0, 1) := dk_42 (dk_at dksL_law_58 0 rfl rfl)
theorem dL_law_1479 : decode cL_law 1479 = .ok (.iload 5, 2) := dk_21 5 (dk_at dksL_law_58 1 rfl rfl)
theorem dL_law_1481 : decode cL_law 1481 = .ok (.iconst 1, 1) := dk_4 (dk_at dksL_law_58 3 rfl rfl)
theorem dL_law_1482 : decode cL_law 1482 = .ok (.iadd, 1) := dk_96 (dk_at dksL_law_58 4 rfl rfl)
theorem dL_law_1483 : decode cL_law 1483 = .ok (.iaload, 1) := dk_46 (dk_at dksL_law_58 5 rfl rfl)
theorem dL_law_1484 : decode cL_law 1484 = .ok (.aload_n 0, 1) := dk_42 (dk_at dksL_law_58 6 rfl rfl)
theorem dL_law_1485 : decode cL_law 1485 = .ok (.iload 5, 2) := dk_21 5 (dk_at dksL_law_58 7 rfl rfl)
theorem dL_law_1487 : decode cL_law 1487 = .ok (.iconst 2, 1) := dk_5 (dk_at dksL_law_58 9 rfl rfl)
theorem dL_law_1488 : decode cL_law 1488 = .ok (.iadd, 1) := dk_96 (dk_at dksL_law_58 10 rfl rfl)
theorem dL_law_1489 : decode cL_law 1489 = .ok (.iaload, 1) := dk_46 (dk_at dksL_law_58 11 rfl rfl)
theorem dL_law_1490 : decode cL_law 1490 = .ok (.aload_n 0, 1) := dk_42 (dk_at dksL_law_58 12 rfl rfl)
theorem dL_law_1491 : decode cL_law 1491 = .ok (.iload 5, 2) := dk_21 5 (dk_at dksL_law_58 13 rfl rfl)
theorem dL_law_1493 : decode cL_law 1493 = .ok (.iconst 3, 1) := dk_6 (dk_at dksL_law_58 15 rfl rfl)
theorem dL_law_1494 : decode cL_law 1494 = .ok (.iadd, 1) := dk_96 (dk_at dksL_law_58 16 rfl rfl)
theorem dL_law_1495 : decode cL_law 1495 = .ok (.iaload, 1) := dk_46 (dk_at dksL_law_58 17 rfl rfl)
theorem dL_law_1496 : decode cL_law 1496 = .ok (.invokevirtual 206, 3) := dk_182 0 206 (dk_at dksL_law_58 18 rfl rfl)
theorem dL_law_1499 : decode cL_law 1499 = .ok (.istore 7, 2) := dk_54 7 (dk_at dksL_law_58 21 rfl rfl)
theorem dL_law_1501 : decode cL_law 1501 = .ok (.aload_n 2, 1) := dk_44 (dk_at dksL_law_58 23 rfl rfl)
theorem dL_law_1502 : decode cL_law 1502 = .ok (.invokevirtual 140, 3) := dk_182 0 140 (dk_at dksL_law_59 0 rfl rfl)
theorem dL_law_1505 : decode cL_law 1505 = .ok (.iload 6, 2) := dk_21 6 (dk_at dksL_law_59 3 rfl rfl)
theorem dL_law_1507 : decode cL_law 1507 = .ok (.if_icmp .eq 5, 3) := dk_159 0 5 (dk_at dksL_law_59 5 rfl rfl)
theorem dL_law_1510 : decode cL_law 1510 = .ok (.iconst 0, 1) := dk_3 (dk_at dksL_law_59 8 rfl rfl)
theorem dL_law_1511 : decode cL_law 1511 = .ok (.ireturn, 1) := dk_172 (dk_at dksL_law_59 9 rfl rfl)
theorem dL_law_1512 : decode cL_law 1512 = .ok (.iload 6, 2) := dk_21 6 (dk_at dksL_law_59 10 rfl rfl)
theorem dL_law_1514 : decode cL_law 1514 = .ok (.ifCond .ne 15, 3) := dk_154 0 15 (dk_at dksL_law_59 12 rfl rfl)
theorem dL_law_1517 : decode cL_law 1517 = .ok (.aload_n 3, 1) := dk_45 (dk_at dksL_law_59 15 rfl rfl)
theorem dL_law_1518 : decode cL_law 1518 = .ok (.iconst 0, 1) := dk_3 (dk_at dksL_law_59 16 rfl rfl)
theorem dL_law_1519 : decode cL_law 1519 = .ok (.laload, 1) := dk_47 (dk_at dksL_law_59 17 rfl rfl)
theorem dL_law_1520 : decode cL_law 1520 = .ok (.iload 7, 2) := dk_21 7 (dk_at dksL_law_59 18 rfl rfl)
theorem dL_law_1522 : decode cL_law 1522 = .ok (.i2l, 1) := dk_133 (dk_at dksL_law_59 20 rfl rfl)
theorem dL_law_1523 : decode cL_law 1523 = .ok (.lcmp, 1) := dk_148 (dk_at dksL_law_59 21 rfl rfl)
theorem dL_law_1524 : decode cL_law 1524 = .ok (.ifCond .eq 5, 3) := dk_153 0 5 (dk_at dksL_law_60 0 rfl rfl)
theorem dL_law_1527 : decode cL_law 1527 = .ok (.iconst 0, 1) := dk_3 (dk_at dksL_law_60 3 rfl rfl)
theorem dL_law_1528 : decode cL_law 1528 = .ok (.ireturn, 1) := dk_172 (dk_at dksL_law_60 4 rfl rfl)
theorem dL_law_1529 : decode cL_law 1529 = .ok (.goto 703, 3) := dk_167 2 191 (dk_at dksL_law_60 5 rfl rfl)
theorem dL_law_1532 : decode cL_law 1532 = .ok (.aload_n 1, 1) := dk_43 (dk_at dksL_law_60 8 rfl rfl)
theorem dL_law_1533 : decode cL_law 1533 = .ok (.aload_n 0, 1) := dk_42 (dk_at dksL_law_60 9 rfl rfl)
theorem dL_law_1534 : decode cL_law 1534 = .ok (.iload 5, 2) := dk_21 5 (dk_at dksL_law_60 10 rfl rfl)
theorem dL_law_1536 : decode cL_law 1536 = .ok (.iconst 1, 1) := dk_4 (dk_at dksL_law_60 12 rfl rfl)
theorem dL_law_1537 : decode cL_law 1537 = .ok (.iadd, 1) := dk_96 (dk_at dksL_law_60 13 rfl rfl)
theorem dL_law_1538 : decode cL_law 1538 = .ok (.iaload, 1) := dk_46 (dk_at dksL_law_60 14 rfl rfl)
theorem dL_law_1539 : decode cL_law 1539 = .ok (.aload_n 3, 1) := dk_45 (dk_at dksL_law_60 15 rfl rfl)
theorem dL_law_1540 : decode cL_law 1540 = .ok (.invokestatic 207, 3) := dk_184 0 207 (dk_at dksL_law_60 16 rfl rfl)
theorem dL_law_1543 : decode cL_law 1543 = .ok (.istore 6, 2) := dk_54 6 (dk_at dksL_law_60 19 rfl rfl)
theorem dL_law_1545 : decode cL_law 1545 = .ok (.aload_n 2, 1) := dk_44 (dk_at dksL_law_60 21 rfl rfl)
theorem dL_law_1546 : decode cL_law 1546 = .ok (.aload_n 0, 1) := dk_42 (dk_at dksL_law_60 22 rfl rfl)
theorem dL_law_1547 : decode cL_law 1547 = .ok (.iload 5, 2) := dk_21 5 (dk_at dksL_law_61 0 rfl rfl)
theorem dL_law_1549 : decode cL_law 1549 = .ok (.iconst 1, 1) := dk_4 (dk_at dksL_law_61 2 rfl rfl)
theorem dL_law_1550 : decode cL_law 1550 = .ok (.iadd, 1) := dk_96 (dk_at dksL_law_61 3 rfl rfl)
theorem dL_law_1551 : decode cL_law 1551 = .ok (.iaload, 1) := dk_46 (dk_at dksL_law_61 4 rfl rfl)
theorem dL_law_1552 : decode cL_law 1552 = .ok (.invokevirtual 209, 3) := dk_182 0 209 (dk_at dksL_law_61 5 rfl rfl)
theorem dL_law_1555 : decode cL_law 1555 = .ok (.istore 7, 2) := dk_54 7 (dk_at dksL_law_61 8 rfl rfl)
theorem dL_law_1557 : decode cL_law 1557 = .ok (.aload_n 2, 1) := dk_44 (dk_at dksL_law_61 10 rfl rfl)
theorem dL_law_1558 : decode cL_law 1558 = .ok (.invokevirtual 140, 3) := dk_182 0 140 (dk_at dksL_law_61 11 rfl rfl)
theorem dL_law_1561 : decode cL_law 1561 = .ok (.iload 6, 2) := dk_21 6 (dk_at dksL_law_61 14 rfl rfl)
theorem dL_law_1563 : decode cL_law 1563 = .ok (.if_icmp .eq 5, 3) := dk_159 0 5 (dk_at dksL_law_61 16 rfl rfl)
theorem dL_law_1566 : decode cL_law 1566 = .ok (.iconst 0, 1) := dk_3 (dk_at dksL_law_61 19 rfl rfl)
theorem dL_law_1567 : decode cL_law 1567 = .ok (.ireturn, 1) := dk_172 (dk_at dksL_law_61 20 rfl rfl)
theorem dL_law_1568 : decode cL_law 1568 = .ok (.iload 6, 2) := dk_21 6 (dk_at dksL_law_61 21 rfl rfl)
theorem dL_law_1570 : decode cL_law 1570 = .ok (.ifCond .ne 15, 3) := dk_154 0 15 (dk_at dksL_law_62 0 rfl rfl)
theorem dL_law_1573 : decode cL_law 1573 = .ok (.aload_n 3, 1) := dk_45 (dk_at dksL_law_62 3 rfl rfl)
theorem dL_law_1574 : decode cL_law 1574 = .ok (.iconst 0, 1) := dk_3 (dk_at dksL_law_62 4 rfl rfl)
theorem dL_law_1575 : decode cL_law 1575 = .ok (.laload, 1) := dk_47 (dk_at dksL_law_62 5 rfl rfl)
theorem dL_law_1576 : decode cL_law 1576 = .ok (.iload 7, 2) := dk_21 7 (dk_at dksL_law_62 6 rfl rfl)
theorem dL_law_1578 : decode cL_law 1578 = .ok (.i2l, 1) := dk_133 (dk_at dksL_law_62 8 rfl rfl)
theorem dL_law_1579 : decode cL_law 1579 = .ok (.lcmp, 1) := dk_148 (dk_at dksL_law_62 9 rfl rfl)
theorem dL_law_1580 : decode cL_law 1580 = .ok (.ifCond .eq 5, 3) := dk_153 0 5 (dk_at dksL_law_62 10 rfl rfl)
theorem dL_law_1583 : decode cL_law 1583 = .ok (.iconst 0, 1) := dk_3 (dk_at dksL_law_62 13 rfl rfl)
theorem dL_law_1584 : decode cL_law 1584 = .ok (.ireturn, 1) := dk_172 (dk_at dksL_law_62 14 rfl rfl)
theorem dL_law_1585 : decode cL_law 1585 = .ok (.goto 647, 3) := dk_167 2 135 (dk_at dksL_law_62 15 rfl rfl)
theorem dL_law_1588 : decode cL_law 1588 = .ok (.aload_n 1, 1) := dk_43 (dk_at dksL_law_62 18 rfl rfl)
theorem dL_law_1589 : decode cL_law 1589 = .ok (.aload_n 3, 1) := dk_45 (dk_at dksL_law_62 19 rfl rfl)
theorem dL_law_1590 : decode cL_law 1590 = .ok (.invokestatic 210, 3) := dk_184 0 210 (dk_at dksL_law_62 20 rfl rfl)
theorem dL_law_1593 : decode cL_law 1593 = .ok (.istore 6, 2) := dk_54 6 (dk_at dksL_law_63 0 rfl rfl)
theorem dL_law_1595 : decode cL_law 1595 = .ok (.aload_n 2, 1) := dk_44 (dk_at dksL_law_63 2 rfl rfl)
theorem dL_law_1596 : decode cL_law 1596 = .ok (.invokevirtual 212, 3) := dk_182 0 212 (dk_at dksL_law_63 3 rfl rfl)
theorem dL_law_1599 : decode cL_law 1599 = .ok (.istore 7, 2) := dk_54 7 (dk_at dksL_law_63 6 rfl rfl)
theorem dL_law_1601 : decode cL_law 1601 = .ok (.aload_n 2, 1) := dk_44 (dk_at dksL_law_63 8 rfl rfl)
theorem dL_law_1602 : decode cL_law 1602 = .ok (.invokevirtual 140, 3) := dk_182 0 140 (dk_at dksL_law_63 9 rfl rfl)
theorem dL_law_1605 : decode cL_law 1605 = .ok (.iload 6, 2) := dk_21 6 (dk_at dksL_law_63 12 rfl rfl)
theorem dL_law_1607 : decode cL_law 1607 = .ok (.if_icmp .eq 5, 3) := dk_159 0 5 (dk_at dksL_law_63 14 rfl rfl)
theorem dL_law_1610 : decode cL_law 1610 = .ok (.iconst 0, 1) := dk_3 (dk_at dksL_law_63 17 rfl rfl)
theorem dL_law_1611 : decode cL_law 1611 = .ok (.ireturn, 1) := dk_172 (dk_at dksL_law_63 18 rfl rfl)
theorem dL_law_1612 : decode cL_law 1612 = .ok (.iload 6, 2) := dk_21 6 (dk_at dksL_law_63 19 rfl rfl)
theorem dL_law_1614 : decode cL_law 1614 = .ok (.ifCond .ne 15, 3) := dk_154 0 15 (dk_at dksL_law_63 21 rfl rfl)
theorem dL_law_1617 : decode cL_law 1617 = .ok (.aload_n 3, 1) := dk_45 (dk_at dksL_law_64 0 rfl rfl)
theorem dL_law_1618 : decode cL_law 1618 = .ok (.iconst 0, 1) := dk_3 (dk_at dksL_law_64 1 rfl rfl)
theorem dL_law_1619 : decode cL_law 1619 = .ok (.laload, 1) := dk_47 (dk_at dksL_law_64 2 rfl rfl)
theorem dL_law_1620 : decode cL_law 1620 = .ok (.iload 7, 2) := dk_21 7 (dk_at dksL_law_64 3 rfl rfl)
theorem dL_law_1622 : decode cL_law 1622 = .ok (.i2l, 1) := dk_133 (dk_at dksL_law_64 5 rfl rfl)
theorem dL_law_1623 : decode cL_law 1623 = .ok (.lcmp, 1) := dk_148 (dk_at dksL_law_64 6 rfl rfl)
theorem dL_law_1624 : decode cL_law 1624 = .ok (.ifCond .eq 5, 3) := dk_153 0 5 (dk_at dksL_law_64 7 rfl rfl)
theorem dL_law_1627 : decode cL_law 1627 = .ok (.iconst 0, 1) := dk_3 (dk_at dksL_law_64 10 rfl rfl)
theorem dL_law_1628 : decode cL_law 1628 = .ok (.ireturn, 1) := dk_172 (dk_at dksL_law_64 11 rfl rfl)
theorem dL_law_1629 : decode cL_law 1629 = .ok (.goto 603, 3) := dk_167 2 91 (dk_at dksL_law_64 12 rfl rfl)
theorem dL_law_1632 : decode cL_law 1632 = .ok (.aload_n 1, 1) := dk_43 (dk_at dksL_law_64 15 rfl rfl)
theorem dL_law_1633 : decode cL_law 1633 = .ok (.aload_n 0, 1) := dk_42 (dk_at dksL_law_64 16 rfl rfl)
theorem dL_law_1634 : decode cL_law 1634 = .ok (.iload 5, 2) := dk_21 5 (dk_at dksL_law_64 17 rfl rfl)
theorem dL_law_1636 : decode cL_law 1636 = .ok (.iconst 1, 1) := dk_4 (dk_at dksL_law_64 19 rfl rfl)
theorem dL_law_1637 : decode cL_law 1637 = .ok (.iadd, 1) := dk_96 (dk_at dksL_law_64 20 rfl rfl)
theorem dL_law_1638 : decode cL_law 1638 = .ok (.iaload, 1) := dk_46 (dk_at dksL_law_64 21 rfl rfl)
theorem dL_law_1639 : decode cL_law 1639 = .ok (.aload_n 3, 1) := dk_45 (dk_at dksL_law_64 22 rfl rfl)
theorem dL_law_1640 : decode cL_law 1640 = .ok (.invokestatic 213, 3) := dk_184 0 213 (dk_at dksL_law_65 0 rfl rfl)
theorem dL_law_1643 : decode cL_law 1643 = .ok (.istore 6, 2) := dk_54 6 (dk_at dksL_law_65 3 rfl rfl)
theorem dL_law_1645 : decode cL_law 1645 = .ok (.aload_n 2, 1) := dk_44 (dk_at dksL_law_65 5 rfl rfl)
theorem dL_law_1646 : decode cL_law 1646 = .ok (.aload_n 0, 1) := dk_42 (dk_at dksL_law_65 6 rfl rfl)
theorem dL_law_1647 : decode cL_law 1647 = .ok (.iload 5, 2) := dk_21 5 (dk_at dksL_law_65 7 rfl rfl)
theorem dL_law_1649 : decode cL_law 1649 = .ok (.iconst 1, 1) := dk_4 (dk_at dksL_law_65 9 rfl rfl)
theorem dL_law_1650 : decode cL_law 1650 = .ok (.iadd, 1) := dk_96 (dk_at dksL_law_65 10 rfl rfl)
theorem dL_law_1651 : decode cL_law 1651 = .ok (.iaload, 1) := dk_46 (dk_at dksL_law_65 11 rfl rfl)
theorem dL_law_1652 : decode cL_law 1652 = .ok (.invokevirtual 215, 3) := dk_182 0 215 (dk_at dksL_law_65 12 rfl rfl)
theorem dL_law_1655 : decode cL_law 1655 = .ok (.istore 7, 2) := dk_54 7 (dk_at dksL_law_65 15 rfl rfl)
theorem dL_law_1657 : decode cL_law 1657 = .ok (.aload_n 2, 1) := dk_44 (dk_at dksL_law_65 17 rfl rfl)
theorem dL_law_1658 : decode cL_law 1658 = .ok (.invokevirtual 140, 3) := dk_182 0 140 (dk_at dksL_law_65 18 rfl rfl)
theorem dL_law_1661 : decode cL_law 1661 = .ok (.iload 6, 2) := dk_21 6 (dk_at dksL_law_65 21 rfl rfl)
theorem dL_law_1663 : decode cL_law 1663 = .ok (.if_icmp .eq 5, 3) := dk_159 0 5 (dk_at dksL_law_66 0 rfl rfl)
theorem dL_law_1666 : decode cL_law 1666 = .ok (.iconst 0, 1) := dk_3 (dk_at dksL_law_66 3 rfl rfl)
theorem dL_law_1667 : decode cL_law 1667 = .ok (.ireturn, 1) := dk_172 (dk_at dksL_law_66 4 rfl rfl)
theorem dL_law_1668 : decode cL_law 1668 = .ok (.iload 6, 2) := dk_21 6 (dk_at dksL_law_66 5 rfl rfl)
theorem dL_law_1670 : decode cL_law 1670 = .ok (.ifCond .ne 15, 3) := dk_154 0 15 (dk_at dksL_law_66 7 rfl rfl)
theorem dL_law_1673 : decode cL_law 1673 = .ok (.aload_n 3, 1) := dk_45 (dk_at dksL_law_66 10 rfl rfl)
theorem dL_law_1674 : decode cL_law 1674 = .ok (.iconst 0, 1) := dk_3 (dk_at dksL_law_66 11 rfl rfl)
theorem dL_law_1675 : decode cL_law 1675 = .ok (.laload, 1) := dk_47 (dk_at dksL_law_66 12 rfl rfl)
theorem dL_law_1676 : decode cL_law 1676 = .ok (.iload 7, 2) := dk_21 7 (dk_at dksL_law_66 13 rfl rfl)
theorem dL_law_1678 : decode cL_law 1678 = .ok (.i2l, 1) := dk_133 (dk_at dksL_law_66 15 rfl rfl)
theorem dL_law_1679 : decode cL_law 1679 = .ok (.lcmp, 1) := dk_148 (dk_at dksL_law_66 16 rfl rfl)
theorem dL_law_1680 : decode cL_law 1680 = .ok (.ifCond .eq 5, 3) := dk_153 0 5 (dk_at dksL_law_66 17 rfl rfl)
theorem dL_law_1683 : decode cL_law 1683 = .ok (.iconst 0, 1) := dk_3 (dk_at dksL_law_66 20 rfl rfl)
theorem dL_law_1684 : decode cL_law 1684 = .ok (.ireturn, 1) := dk_172 (dk_at dksL_law_66 21 rfl rfl)
theorem dL_law_1685 : decode cL_law 1685 = .ok (.goto 547, 3) := dk_167 2 35 (dk_at dksL_law_67 0 rfl rfl)
theorem dL_law_1688 : decode cL_law 1688 = .ok (.aload_n 1, 1) := dk_43 (dk_at dksL_law_67 3 rfl rfl)
theorem dL_law_1689 : decode cL_law 1689 = .ok (.aload_n 0, 1) := dk_42 (dk_at dksL_law_67 4 rfl rfl)
theorem dL_law_1690 : decode cL_law 1690 = .ok (.iload 5, 2) := dk_21 5 (dk_at dksL_law_67 5 rfl rfl)
theorem dL_law_1692 : decode cL_law 1692 = .ok (.iconst 1, 1) := dk_4 (dk_at dksL_law_67 7 rfl rfl)
theorem dL_law_1693 : decode cL_law 1693 = .ok (.iadd, 1) := dk_96 (dk_at dksL_law_67 8 rfl rfl)
theorem dL_law_1694 : decode cL_law 1694 = .ok (.iaload, 1) := dk_46 (dk_at dksL_law_67 9 rfl rfl)
theorem dL_law_1695 : decode cL_law 1695 = .ok (.aload_n 3, 1) := dk_45 (dk_at dksL_law_67 10 rfl rfl)
theorem dL_law_1696 : decode cL_law 1696 = .ok (.invokestatic 216, 3) := dk_184 0 216 (dk_at dksL_law_67 11 rfl rfl)
theorem dL_law_1699 : decode cL_law 1699 = .ok (.istore 6, 2) := dk_54 6 (dk_at dksL_law_67 14 rfl rfl)
theorem dL_law_1701 : decode cL_law 1701 = .ok (.aload_n 2, 1) := dk_44 (dk_at dksL_law_67 16 rfl rfl)
theorem dL_law_1702 : decode cL_law 1702 = .ok (.aload_n 0, 1) := dk_42 (dk_at dksL_law_67 17 rfl rfl)
theorem dL_law_1703 : decode cL_law 1703 = .ok (.iload 5, 2) := dk_21 5 (dk_at dksL_law_67 18 rfl rfl)
theorem dL_law_1705 : decode cL_law 1705 = .ok (.iconst 1, 1) := dk_4 (dk_at dksL_law_67 20 rfl rfl)
theorem dL_law_1706 : decode cL_law 1706 = .ok (.iadd, 1) := dk_96 (dk_at dksL_law_67 21 rfl rfl)
theorem dL_law_1707 : decode cL_law 1707 = .ok (.iaload, 1) := dk_46 (dk_at dksL_law_67 22 rfl rfl)
theorem dL_law_1708 : decode cL_law 1708 = .ok (.invokevirtual 218, 3) := dk_182 0 218 (dk_at dksL_law_68 0 rfl rfl)
theorem dL_law_1711 : decode cL_law 1711 = .ok (.istore 7, 2) := dk_54 7 (dk_at dksL_law_68 3 rfl rfl)
theorem dL_law_1713 : decode cL_law 1713 = .ok (.aload_n 2, 1) := dk_44 (dk_at dksL_law_68 5 rfl rfl)
theorem dL_law_1714 : decode cL_law 1714 = .ok (.invokevirtual 140, 3) := dk_182 0 140 (dk_at dksL_law_68 6 rfl rfl)
theorem dL_law_1717 : decode cL_law 1717 = .ok (.iload 6, 2) := dk_21 6 (dk_at dksL_law_68 9 rfl rfl)
theorem dL_law_1719 : decode cL_law 1719 = .ok (.if_icmp .eq 5, 3) := dk_159 0 5 (dk_at dksL_law_68 11 rfl rfl)
theorem dL_law_1722 : decode cL_law 1722 = .ok (.iconst 0, 1) := dk_3 (dk_at dksL_law_68 14 rfl rfl)
theorem dL_law_1723 : decode cL_law 1723 = .ok (.ireturn, 1) := dk_172 (dk_at dksL_law_68 15 rfl rfl)
theorem dL_law_1724 : decode cL_law 1724 = .ok (.iload 6, 2) := dk_21 6 (dk_at dksL_law_68 16 rfl rfl)
theorem dL_law_1726 : decode cL_law 1726 = .ok (.ifCond .ne 15, 3) := dk_154 0 15 (dk_at dksL_law_68 18 rfl rfl)
theorem dL_law_1729 : decode cL_law 1729 = .ok (.aload_n 3, 1) := dk_45 (dk_at dksL_law_68 21 rfl rfl)
theorem dL_law_1730 : decode cL_law 1730 = .ok (.iconst 0, 1) := dk_3 (dk_at dksL_law_68 22 rfl rfl)
theorem dL_law_1731 : decode cL_law 1731 = .ok (.laload, 1) := dk_47 (dk_at dksL_law_68 23 rfl rfl)
theorem dL_law_1732 : decode cL_law 1732 = .ok (.iload 7, 2) := dk_21 7 (dk_at dksL_law_69 0 rfl rfl)
theorem dL_law_1734 : decode cL_law 1734 = .ok (.i2l, 1) := dk_133 (dk_at dksL_law_69 2 rfl rfl)
theorem dL_law_1735 : decode cL_law 1735 = .ok (.lcmp, 1) := dk_148 (dk_at dksL_law_69 3 rfl rfl)
theorem dL_law_1736 : decode cL_law 1736 = .ok (.ifCond .eq 5, 3) := dk_153 0 5 (dk_at dksL_law_69 4 rfl rfl)
theorem dL_law_1739 : decode cL_law 1739 = .ok (.iconst 0, 1) := dk_3 (dk_at dksL_law_69 7 rfl rfl)
theorem dL_law_1740 : decode cL_law 1740 = .ok (.ireturn, 1) := dk_172 (dk_at dksL_law_69 8 rfl rfl)
theorem dL_law_1741 : decode cL_law 1741 = .ok (.goto 491, 3) := dk_167 1 235 (dk_at dksL_law_69 9 rfl rfl)
theorem dL_law_1744 : decode cL_law 1744 = .ok (.aload_n 1, 1) := dk_43 (dk_at dksL_law_69 12 rfl rfl)
theorem dL_law_1745 : decode cL_law 1745 = .ok (.invokevirtual 219, 3) := dk_182 0 219 (dk_at dksL_law_69 13 rfl rfl)
theorem dL_law_1748 : decode cL_law 1748 = .ok (.aload_n 2, 1) := dk_44 (dk_at dksL_law_69 16 rfl rfl)
theorem dL_law_1749 : decode cL_law 1749 = .ok (.invokevirtual 222, 3) := dk_182 0 222 (dk_at dksL_law_69 17 rfl rfl)
theorem dL_law_1752 : decode cL_law 1752 = .ok (.if_icmp .eq 480, 3) := dk_159 1 224 (dk_at dksL_law_69 20 rfl rfl)
theorem dL_law_1755 : decode cL_law 1755 = .ok (.iconst 0, 1) := dk_3 (dk_at dksL_law_69 23 rfl rfl)
theorem dL_law_1756 : decode cL_law 1756 = .ok (.ireturn, 1) := dk_172 (dk_at dksL_law_70 0 rfl rfl)
theorem dL_law_1757 : decode cL_law 1757 = .ok (.aload_n 1, 1) := dk_43 (dk_at dksL_law_70 1 rfl rfl)
theorem dL_law_1758 : decode cL_law 1758 = .ok (.invokevirtual 223, 3) := dk_182 0 223 (dk_at dksL_law_70 2 rfl rfl)
theorem dL_law_1761 : decode cL_law 1761 = .ok (.aload_n 2, 1) := dk_44 (dk_at dksL_law_70 5 rfl rfl)
theorem dL_law_1762 : decode cL_law 1762 = .ok (.invokevirtual 227, 3) := dk_182 0 227 (dk_at dksL_law_70 6 rfl rfl)
theorem dL_law_1765 : decode cL_law 1765 = .ok (.if_icmp .eq 467, 3) := dk_159 1 211 (dk_at dksL_law_70 9 rfl rfl)
theorem dL_law_1768 : decode cL_law 1768 = .ok (.iconst 0, 1) := dk_3 (dk_at dksL_law_70 12 rfl rfl)
theorem dL_law_1769 : decode cL_law 1769 = .ok (.ireturn, 1) := dk_172 (dk_at dksL_law_70 13 rfl rfl)
theorem dL_law_1770 : decode cL_law 1770 = .ok (.aload_n 1, 1) := dk_43 (dk_at dksL_law_70 14 rfl rfl)
theorem dL_law_1771 : decode cL_law 1771 = .ok (.aload 4, 2) := dk_25 4 (dk_at dksL_law_70 15 rfl rfl)
theorem dL_law_1773 : decode cL_law 1773 = .ok (.invokestatic 228, 3) := dk_184 0 228 (dk_at dksL_law_70 17 rfl rfl)
theorem dL_law_1776 : decode cL_law 1776 = .ok (.istore 6, 2) := dk_54 6 (dk_at dksL_law_70 20 rfl rfl)
theorem dL_law_1778 : decode cL_law 1778 = .ok (.aload_n 2, 1) := dk_44 (dk_at dksL_law_70 22 rfl rfl)
theorem dL_law_1779 : decode cL_law 1779 = .ok (.invokevirtual 231, 3) := dk_182 0 231 (dk_at dksL_law_71 0 rfl rfl)
theorem dL_law_1782 : decode cL_law 1782 = .ok (.dstore 7, 2) := dk_57 7 (dk_at dksL_law_71 3 rfl rfl)
theorem dL_law_1784 : decode cL_law 1784 = .ok (.aload_n 2, 1) := dk_44 (dk_at dksL_law_71 5 rfl rfl)
theorem dL_law_1785 : decode cL_law 1785 = .ok (.invokevirtual 140, 3) := dk_182 0 140 (dk_at dksL_law_71 6 rfl rfl)
theorem dL_law_1788 : decode cL_law 1788 = .ok (.iload 6, 2) := dk_21 6 (dk_at dksL_law_71 9 rfl rfl)
theorem dL_law_1790 : decode cL_law 1790 = .ok (.if_icmp .eq 5, 3) := dk_159 0 5 (dk_at dksL_law_71 11 rfl rfl)
theorem dL_law_1793 : decode cL_law 1793 = .ok (.iconst 0, 1) := dk_3 (dk_at dksL_law_71 14 rfl rfl)
theorem dL_law_1794 : decode cL_law 1794 = .ok (.ireturn, 1) := dk_172 (dk_at dksL_law_71 15 rfl rfl)
theorem dL_law_1795 : decode cL_law 1795 = .ok (.iload 6, 2) := dk_21 6 (dk_at dksL_law_71 16 rfl rfl)
theorem dL_law_1797 : decode cL_law 1797 = .ok (.ifCond .ne 35, 3) := dk_154 0 35 (dk_at dksL_law_71 18 rfl rfl)
theorem dL_law_1800 : decode cL_law 1800 = .ok (.aload 4, 2) := dk_25 4 (dk_at dksL_law_71 21 rfl rfl)
theorem dL_law_1802 : decode cL_law 1802 = .ok (.iconst 0, 1) := dk_3 (dk_at dksL_law_71 23 rfl rfl)
theorem dL_law_1803 : decode cL_law 1803 = .ok (.daload, 1) := dk_49 (dk_at dksL_law_72 0 rfl rfl)
theorem dL_law_1804 : decode cL_law 1804 = .ok (.dload 7, 2) := dk_24 7 (dk_at dksL_law_72 1 rfl rfl)
theorem dL_law_1806 : decode cL_law 1806 = .ok (.dcmp .l, 1) := dk_151 (dk_at dksL_law_72 3 rfl rfl)
theorem dL_law_1807 : decode cL_law 1807 = .ok (.ifCond .eq 25, 3) := dk_153 0 25 (dk_at dksL_law_72 4 rfl rfl)
theorem dL_law_1810 : decode cL_law 1810 = .ok (.aload 4, 2) := dk_25 4 (dk_at dksL_law_72 7 rfl rfl)
theorem dL_law_1812 : decode cL_law 1812 = .ok (.iconst 0, 1) := dk_3 (dk_at dksL_law_72 9 rfl rfl)
theorem dL_law_1813 : decode cL_law 1813 = .ok (.daload, 1) := dk_49 (dk_at dksL_law_72 10 rfl rfl)
theorem dL_law_1814 : decode cL_law 1814 = .ok (.aload 4, 2) := dk_25 4 (dk_at dksL_law_72 11 rfl rfl)
theorem dL_law_1816 : decode cL_law 1816 = .ok (.iconst 0, 1) := dk_3 (dk_at dksL_law_72 13 rfl rfl)
theorem dL_law_1817 : decode cL_law 1817 = .ok (.daload, 1) := dk_49 (dk_at dksL_law_72 14 rfl rfl)
theorem dL_law_1818 : decode cL_law 1818 = .ok (.dcmp .l, 1) := dk_151 (dk_at dksL_law_72 15 rfl rfl)
theorem dL_law_1819 : decode cL_law 1819 = .ok (.ifCond .eq 11, 3) := dk_153 0 11 (dk_at dksL_law_72 16 rfl rfl)
theorem dL_law_1822 : decode cL_law 1822 = .ok (.dload 7, 2) := dk_24 7 (dk_at dksL_law_72 19 rfl rfl)
theorem dL_law_1824 : decode cL_law 1824 = .ok (.dload 7, 2) := dk_24 7 (dk_at dksL_law_72 21 rfl rfl)
theorem dL_law_1826 : decode cL_law 1826 = .ok (.dcmp .l, 1) := dk_151 (dk_at dksL_law_72 23 rfl rfl)
theorem dL_law_1827 : decode cL_law 1827 = .ok (.ifCond .ne 5, 3) := dk_154 0 5 (dk_at dksL_law_73 0 rfl rfl)
theorem dL_law_1830 : decode cL_law 1830 = .ok (.iconst 0, 1) := dk_3 (dk_at dksL_law_73 3 rfl rfl)
theorem dL_law_1831 : decode cL_law 1831 = .ok (.ireturn, 1) := dk_172 (dk_at dksL_law_73 4 rfl rfl)
theorem dL_law_1832 : decode cL_law 1832 = .ok (.goto 400, 3) := dk_167 1 144 (dk_at dksL_law_73 5 rfl rfl)
theorem dL_law_1835 : decode cL_law 1835 = .ok (.aload_n 1, 1) := dk_43 (dk_at dksL_law_73 8 rfl rfl)
theorem dL_law_1836 : decode cL_law 1836 = .ok (.aload 4, 2) := dk_25 4 (dk_at dksL_law_73 9 rfl rfl)
theorem dL_law_1838 : decode cL_law 1838 = .ok (.invokestatic 232, 3) := dk_184 0 232 (dk_at dksL_law_73 11 rfl rfl)
theorem dL_law_1841 : decode cL_law 1841 = .ok (.istore 6, 2) := dk_54 6 (dk_at dksL_law_73 14 rfl rfl)
theorem dL_law_1843 : decode cL_law 1843 = .ok (.aload_n 2, 1) := dk_44 (dk_at dksL_law_73 16 rfl rfl)
theorem dL_law_1844 : decode cL_law 1844 = .ok (.invokevirtual 234, 3) := dk_182 0 234 (dk_at dksL_law_73 17 rfl rfl)
theorem dL_law_1847 : decode cL_law 1847 = .ok (.fstore 7, 2) := dk_56 7 (dk_at dksL_law_73 20 rfl rfl)
theorem dL_law_1849 : decode cL_law 1849 = .ok (.aload_n 2, 1) := dk_44 (dk_at dksL_law_73 22 rfl rfl)
theorem dL_law_1850 : decode cL_law 1850 = .ok (.invokevirtual 140, 3) := dk_182 0 140 (dk_at dksL_law_74 0 rfl rfl)
theorem dL_law_1853 : decode cL_law 1853 = .ok (.iload 6, 2) := dk_21 6 (dk_at dksL_law_74 3 rfl rfl)
theorem dL_law_1855 : decode cL_law 1855 = .ok (.if_icmp .eq 5, 3) := dk_159 0 5 (dk_at dksL_law_74 5 rfl rfl)
theorem dL_law_1858 : decode cL_law 1858 = .ok (.iconst 0, 1) := dk_3 (dk_at dksL_law_74 8 rfl rfl)
theorem dL_law_1859 : decode cL_law 1859 = .ok (.ireturn, 1) := dk_172 (dk_at dksL_law_74 9 rfl rfl)
theorem dL_law_1860 : decode cL_law 1860 = .ok (.iload 6, 2) := dk_21 6 (dk_at dksL_law_74 10 rfl rfl)
theorem dL_law_1862 : decode cL_law 1862 = .ok (.ifCond .ne 36, 3) := dk_154 0 36 (dk_at dksL_law_74 12 rfl rfl)
theorem dL_law_1865 : decode cL_law 1865 = .ok (.aload 4, 2) := dk_25 4 (dk_at dksL_law_74 15 rfl rfl)
theorem dL_law_1867 : decode cL_law 1867 = .ok (.iconst 0, 1) := dk_3 (dk_at dksL_law_74 17 rfl rfl)
theorem dL_law_1868 : decode cL_law 1868 = .ok (.daload, 1) := dk_49 (dk_at dksL_law_74 18 rfl rfl)
theorem dL_law_1869 : decode cL_law 1869 = .ok (.fload 7, 2) := dk_23 7 (dk_at dksL_law_74 19 rfl rfl)
theorem dL_law_1871 : decode cL_law 1871 = .ok (.f2d, 1) := dk_141 (dk_at dksL_law_74 21 rfl rfl)
theorem dL_law_1872 : decode cL_law 1872 = .ok (.dcmp .l, 1) := dk_151 (dk_at dksL_law_74 22 rfl rfl)
theorem dL_law_1873 : decode cL_law 1873 = .ok (.ifCond .eq 25, 3) := dk_153 0 25 (dk_at dksL_law_75 0 rfl rfl)
theorem dL_law_1876 : decode cL_law 1876 = .ok (.aload 4, 2) := dk_25 4 (dk_at dksL_law_75 3 rfl rfl)
theorem dL_law_1878 : decode cL_law 1878 = .ok (.iconst 0, 1) := dk_3 (dk_at dksL_law_75 5 rfl rfl)
theorem dL_law_1879 : decode cL_law 1879 = .ok (.daload, 1) := dk_49 (dk_at dksL_law_75 6 rfl rfl)
theorem dL_law_1880 : decode cL_law 1880 = .ok (.aload 4, 2) := dk_25 4 (dk_at dksL_law_75 7 rfl rfl)
theorem dL_law_1882 : decode cL_law 1882 = .ok (.iconst 0, 1) := dk_3 (dk_at dksL_law_75 9 rfl rfl)
theorem dL_law_1883 : decode cL_law 1883 = .ok (.daload, 1) := dk_49 (dk_at dksL_law_75 10 rfl rfl)
theorem dL_law_1884 : decode cL_law 1884 = .ok (.dcmp .l, 1) := dk_151 (dk_at dksL_law_75 11 rfl rfl)
theorem dL_law_1885 : decode cL_law 1885 = .ok (.ifCond .eq 11, 3) := dk_153 0 11 (dk_at dksL_law_75 12 rfl rfl)
theorem dL_law_1888 : decode cL_law 1888 = .ok (.fload 7, 2) := dk_23 7 (dk_at dksL_law_75 15 rfl rfl)
theorem dL_law_1890 : decode cL_law 1890 = .ok (.fload 7, 2) := dk_23 7 (dk_at dksL_law_75 17 rfl rfl)
theorem dL_law_1892 : decode cL_law 1892 = .ok (.fcmp .l, 1) := dk_149 (dk_at dksL_law_75 19 rfl rfl)
theorem dL_law_1893 : decode cL_law 1893 = .ok (.ifCond .ne 5, 3) := dk_154 0 5 (dk_at dksL_law_75 20 rfl rfl)
theorem dL_law_1896 : decode cL_law 1896 = .ok (.iconst 0, 1) := dk_3 (dk_at dksL_law_75 23 rfl rfl)
theorem dL_law_1897 : decode cL_law 1897 = .ok (.ireturn, 1) := dk_172 (dk_at dksL_law_76 0 rfl rfl)
theorem dL_law_1898 : decode cL_law 1898 = .ok (.goto 334, 3) := dk_167 1 78 (dk_at dksL_law_76 1 rfl rfl)
theorem dL_law_1901 : decode cL_law 1901 = .ok (.aload_n 1, 1) := dk_43 (dk_at dksL_law_76 4 rfl rfl)
theorem dL_law_1902 : decode cL_law 1902 = .ok (.aload_n 0, 1) := dk_42 (dk_at dksL_law_76 5 rfl rfl)
theorem dL_law_1903 : decode cL_law 1903 = .ok (.iload 5, 2) := dk_21 5 (dk_at dksL_law_76 6 rfl rfl)
theorem dL_law_1905 : decode cL_law 1905 = .ok (.iconst 1, 1) := dk_4 (dk_at dksL_law_76 8 rfl rfl)
theorem dL_law_1906 : decode cL_law 1906 = .ok (.iadd, 1) := dk_96 (dk_at dksL_law_76 9 rfl rfl)
theorem dL_law_1907 : decode cL_law 1907 = .ok (.iaload, 1) := dk_46 (dk_at dksL_law_76 10 rfl rfl)
theorem dL_law_1908 : decode cL_law 1908 = .ok (.ifCond .eq 7, 3) := dk_153 0 7 (dk_at dksL_law_76 11 rfl rfl)
theorem dL_law_1911 : decode cL_law 1911 = .ok (.iconst 1, 1) := dk_4 (dk_at dksL_law_76 14 rfl rfl)
theorem dL_law_1912 : decode cL_law 1912 = .ok (.goto 4, 3) := dk_167 0 4 (dk_at dksL_law_76 15 rfl rfl)
theorem dL_law_1915 : decode cL_law 1915 = .ok (.iconst 0, 1) := dk_3 (dk_at dksL_law_76 18 rfl rfl)
theorem dL_law_1916 : decode cL_law 1916 = .ok (.aload_n 3, 1) := dk_45 (dk_at dksL_law_76 19 rfl rfl)
theorem dL_law_1917 : decode cL_law 1917 = .ok (.invokestatic 235, 3) := dk_184 0 235 (dk_at dksL_law_76 20 rfl rfl)
theorem dL_law_1920 : decode cL_law 1920 = .ok (.istore 6, 2) := dk_54 6 (dk_at dksL_law_77 0 rfl rfl)
theorem dL_law_1922 : decode cL_law 1922 = .ok (.aload_n 2, 1) := dk_44 (dk_at dksL_law_77 2 rfl rfl)
theorem dL_law_1923 : decode cL_law 1923 = .ok (.aload_n 0, 1) := dk_42 (dk_at dksL_law_77 3 rfl rfl)
theorem dL_law_1924 : decode cL_law 1924 = .ok (.iload 5, 2) := dk_21 5 (dk_at dksL_law_77 4 rfl rfl)
theorem dL_law_1926 : decode cL_law 1926 = .ok (.iconst 1, 1) := dk_4 (dk_at dksL_law_77 6 rfl rfl)
theorem dL_law_1927 : decode cL_law 1927 = .ok (.iadd, 1) := dk_96 (dk_at dksL_law_77 7 rfl rfl)
theorem dL_law_1928 : decode cL_law 1928 = .ok (.iaload, 1) := dk_46 (dk_at dksL_law_77 8 rfl rfl)
theorem dL_law_1929 : decode cL_law 1929 = .ok (.ifCond .eq 7, 3) := dk_153 0 7 (dk_at dksL_law_77 9 rfl rfl)
theorem dL_law_1932 : decode cL_law 1932 = .ok (.iconst 1, 1) := dk_4 (dk_at dksL_law_77 12 rfl rfl)
theorem dL_law_1933 : decode cL_law 1933 = .ok (.goto 4, 3) := dk_167 0 4 (dk_at dksL_law_77 13 rfl rfl)
theorem dL_law_1936 : decode cL_law 1936 = .ok (.iconst 0, 1) := dk_3 (dk_at dksL_law_77 16 rfl rfl)
theorem dL_law_1937 : decode cL_law 1937 = .ok (.invokevirtual 238, 3) := dk_182 0 238 (dk_at dksL_law_77 17 rfl rfl)
theorem dL_law_1940 : decode cL_law 1940 = .ok (.istore 7, 2) := dk_54 7 (dk_at dksL_law_77 20 rfl rfl)
theorem dL_law_1942 : decode cL_law 1942 = .ok (.aload_n 2, 1) := dk_44 (dk_at dksL_law_77 22 rfl rfl)
theorem dL_law_1943 : decode cL_law 1943 = .ok (.invokevirtual 140, 3) := dk_182 0 140 (dk_at dksL_law_78 0 rfl rfl)
theorem dL_law_1946 : decode cL_law 1946 = .ok (.iload 6, 2) := dk_21 6 (dk_at dksL_law_78 3 rfl rfl)
theorem dL_law_1948 : decode cL_law 1948 = .ok (.if_icmp .eq 5, 3) := dk_159 0 5 (dk_at dksL_law_78 5 rfl rfl)
theorem dL_law_1951 : decode cL_law 1951 = .ok (.iconst 0, 1) := dk_3 (dk_at dksL_law_78 8 rfl rfl)
theorem dL_law_1952 : decode cL_law 1952 = .ok (.ireturn, 1) := dk_172 (dk_at dksL_law_78 9 rfl rfl)
theorem dL_law_1953 : decode cL_law 1953 = .ok (.iload 6, 2) := dk_21 6 (dk_at dksL_law_78 10 rfl rfl)
theorem dL_law_1955 : decode cL_law 1955 = .ok (.ifCond .ne 15, 3) := dk_154 0 15 (dk_at dksL_law_78 12 rfl rfl)
theorem dL_law_1958 : decode cL_law 1958 = .ok (.aload_n 3, 1) := dk_45 (dk_at dksL_law_78 15 rfl rfl)
theorem dL_law_1959 : decode cL_law 1959 = .ok (.iconst 0, 1) := dk_3 (dk_at dksL_law_78 16 rfl rfl)
theorem dL_law_1960 : decode cL_law 1960 = .ok (.laload, 1) := dk_47 (dk_at dksL_law_78 17 rfl rfl)
theorem dL_law_1961 : decode cL_law 1961 = .ok (.iload 7, 2) := dk_21 7 (dk_at dksL_law_78 18 rfl rfl)
theorem dL_law_1963 : decode cL_law 1963 = .ok (.i2l, 1) := dk_133 (dk_at dksL_law_78 20 rfl rfl)
theorem dL_law_1964 : decode cL_law 1964 = .ok (.lcmp, 1) := dk_148 (dk_at dksL_law_78 21 rfl rfl)
theorem dL_law_1965 : decode cL_law 1965 = .ok (.ifCond .eq 5, 3) := dk_153 0 5 (dk_at dksL_law_79 0 rfl rfl)
theorem dL_law_1968 : decode cL_law 1968 = .ok (.iconst 0, 1) := dk_3 (dk_at dksL_law_79 3 rfl rfl)
theorem dL_law_1969 : decode cL_law 1969 = .ok (.ireturn, 1) := dk_172 (dk_at dksL_law_79 4 rfl rfl)
theorem dL_law_1970 : decode cL_law 1970 = .ok (.goto 262, 3) := dk_167 1 6 (dk_at dksL_law_79 5 rfl rfl)
theorem dL_law_1973 : decode cL_law 1973 = .ok (.aload_n 1, 1) := dk_43 (dk_at dksL_law_79 8 rfl rfl)
theorem dL_law_1974 : decode cL_law 1974 = .ok (.aload_n 0, 1) := dk_42 (dk_at dksL_law_79 9 rfl rfl)
theorem dL_law_1975 : decode cL_law 1975 = .ok (.iload 5, 2) := dk_21 5 (dk_at dksL_law_79 10 rfl rfl)
theorem dL_law_1977 : decode cL_law 1977 = .ok (.iconst 1, 1) := dk_4 (dk_at dksL_law_79 12 rfl rfl)
theorem dL_law_1978 : decode cL_law 1978 = .ok (.iadd, 1) := dk_96 (dk_at dksL_law_79 13 rfl rfl)
theorem dL_law_1979 : decode cL_law 1979 = .ok (.iaload, 1) := dk_46 (dk_at dksL_law_79 14 rfl rfl)
theorem dL_law_1980 : decode cL_law 1980 = .ok (.aload_n 3, 1) := dk_45 (dk_at dksL_law_79 15 rfl rfl)
theorem dL_law_1981 : decode cL_law 1981 = .ok (.invokestatic 239, 3) := dk_184 0 239 (dk_at dksL_law_79 16 rfl rfl)
theorem dL_law_1984 : decode cL_law 1984 = .ok (.istore 6, 2) := dk_54 6 (dk_at dksL_law_79 19 rfl rfl)
theorem dL_law_1986 : decode cL_law 1986 = .ok (.aload_n 2, 1) := dk_44 (dk_at dksL_law_79 21 rfl rfl)
theorem dL_law_1987 : decode cL_law 1987 = .ok (.aload_n 0, 1) := dk_42 (dk_at dksL_law_79 22 rfl rfl)
theorem dL_law_1988 : decode cL_law 1988 = .ok (.iload 5, 2) := dk_21 5 (dk_at dksL_law_80 0 rfl rfl)
theorem dL_law_1990 : decode cL_law 1990 = .ok (.iconst 1, 1) := dk_4 (dk_at dksL_law_80 2 rfl rfl)
theorem dL_law_1991 : decode cL_law 1991 = .ok (.iadd, 1) := dk_96 (dk_at dksL_law_80 3 rfl rfl)
theorem dL_law_1992 : decode cL_law 1992 = .ok (.iaload, 1) := dk_46 (dk_at dksL_law_80 4 rfl rfl)
theorem dL_law_1993 : decode cL_law 1993 = .ok (.invokevirtual 241, 3) := dk_182 0 241 (dk_at dksL_law_80 5 rfl rfl)
theorem dL_law_1996 : decode cL_law 1996 = .ok (.istore 7, 2) := dk_54 7 (dk_at dksL_law_80 8 rfl rfl)
theorem dL_law_1998 : decode cL_law 1998 = .ok (.aload_n 2, 1) := dk_44 (dk_at dksL_law_80 10 rfl rfl)
theorem dL_law_1999 : decode cL_law 1999 = .ok (.invokevirtual 140, 3) := dk_182 0 140 (dk_at dksL_law_80 11 rfl rfl)
theorem dL_law_2002 : decode cL_law 2002 = .ok (.iload 6, 2) := dk_21 6 (dk_at dksL_law_80 14 rfl rfl)
theorem dL_law_2004 : decode cL_law 2004 = .ok (.if_icmp .eq 5, 3) := dk_159 0 5 (dk_at dksL_law_80 16 rfl rfl)
theorem dL_law_2007 : decode cL_law 2007 = .ok (.iconst 0, 1) := dk_3 (dk_at dksL_law_80 19 rfl rfl)
theorem dL_law_2008 : decode cL_law 2008 = .ok (.ireturn, 1) := dk_172 (dk_at dksL_law_80 20 rfl rfl)
theorem dL_law_2009 : decode cL_law 2009 = .ok (.iload 6, 2) := dk_21 6 (dk_at dksL_law_80 21 rfl rfl)
theorem dL_law_2011 : decode cL_law 2011 = .ok (.ifCond .ne 15, 3) := dk_154 0 15 (dk_at dksL_law_81 0 rfl rfl)
theorem dL_law_2014 : decode cL_law 2014 = .ok (.aload_n 3, 1) := dk_45 (dk_at dksL_law_81 3 rfl rfl)
theorem dL_law_2015 : decode cL_law 2015 = .ok (.iconst 0, 1) := dk_3 (dk_at dksL_law_81 4 rfl rfl)
theorem dL_law_2016 : decode cL_law 2016 = .ok (.laload, 1) := dk_47 (dk_at dksL_law_81 5 rfl rfl)
theorem dL_law_2017 : decode cL_law 2017 = .ok (.iload 7, 2) := dk_21 7 (dk_at dksL_law_81 6 rfl rfl)
theorem dL_law_2019 : decode cL_law 2019 = .ok (.i2l, 1) := dk_133 (dk_at dksL_law_81 8 rfl rfl)
theorem dL_law_2020 : decode cL_law 2020 = .ok (.lcmp, 1) := dk_148 (dk_at dksL_law_81 9 rfl rfl)
theorem dL_law_2021 : decode cL_law 2021 = .ok (.ifCond .eq 5, 3) := dk_153 0 5 (dk_at dksL_law_81 10 rfl rfl)
theorem dL_law_2024 : decode cL_law 2024 = .ok (.iconst 0, 1) := dk_3 (dk_at dksL_law_81 13 rfl rfl)
theorem dL_law_2025 : decode cL_law 2025 = .ok (.ireturn, 1) := dk_172 (dk_at dksL_law_81 14 rfl rfl)
theorem dL_law_2026 : decode cL_law 2026 = .ok (.goto 206, 3) := dk_167 0 206 (dk_at dksL_law_81 15 rfl rfl)
theorem dL_law_2029 : decode cL_law 2029 = .ok (.aload_n 1, 1) := dk_43 (dk_at dksL_law_81 18 rfl rfl)
theorem dL_law_2030 : decode cL_law 2030 = .ok (.aload_n 0, 1) := dk_42 (dk_at dksL_law_81 19 rfl rfl)
theorem dL_law_2031 : decode cL_law 2031 = .ok (.iload 5, 2) := dk_21 5 (dk_at dksL_law_81 20 rfl rfl)
theorem dL_law_2033 : decode cL_law 2033 = .ok (.iconst 1, 1) := dk_4 (dk_at dksL_law_81 22 rfl rfl)
theorem dL_law_2034 : decode cL_law 2034 = .ok (.iadd, 1) := dk_96 (dk_at dksL_law_81 23 rfl rfl)
theorem dL_law_2035 : decode cL_law 2035 = .ok (.iaload, 1) := dk_46 (dk_at dksL_law_82 0 rfl rfl)
theorem dL_law_2036 : decode cL_law 2036 = .ok (.i2c, 1) := dk_146 (dk_at dksL_law_82 1 rfl rfl)
theorem dL_law_2037 : decode cL_law 2037 = .ok (.aload_n 3, 1) := dk_45 (dk_at dksL_law_82 2 rfl rfl)
theorem dL_law_2038 : decode cL_law 2038 = .ok (.invokestatic 242, 3) := dk_184 0 242 (dk_at dksL_law_82 3 rfl rfl)
theorem dL_law_2041 : decode cL_law 2041 = .ok (.istore 6, 2) := dk_54 6 (dk_at dksL_law_82 6 rfl rfl)
theorem dL_law_2043 : decode cL_law 2043 = .ok (.aload_n 2, 1) := dk_44 (dk_at dksL_law_82 8 rfl rfl)
theorem dL_law_2044 : decode cL_law 2044 = .ok (.aload_n 0, 1) := dk_42 (dk_at dksL_law_82 9 rfl rfl)
theorem dL_law_2045 : decode cL_law 2045 = .ok (.iload 5, 2) := dk_21 5 (dk_at dksL_law_82 10 rfl rfl)
theorem dL_law_2047 : decode cL_law 2047 = .ok (.iconst 1, 1) := dk_4 (dk_at dksL_law_82 12 rfl rfl)
theorem dL_law_2048 : decode cL_law 2048 = .ok (.iadd, 1) := dk_96 (dk_at dksL_law_82 13 rfl rfl)
theorem dL_law_2049 : decode cL_law 2049 = .ok (.iaload, 1) := dk_46 (dk_at dksL_law_82 14 rfl rfl)
theorem dL_law_2050 : decode cL_law 2050 = .ok (.i2c, 1) := dk_146 (dk_at dksL_law_82 15 rfl rfl)
theorem dL_law_2051 : decode cL_law 2051 = .ok (.invokevirtual 245, 3) := dk_182 0 245 (dk_at dksL_law_82 16 rfl rfl)
theorem dL_law_2054 : decode cL_law 2054 = .ok (.istore 7, 2) := dk_54 7 (dk_at dksL_law_82 19 rfl rfl)
theorem dL_law_2056 : decode cL_law 2056 = .ok (.aload_n 2, 1) := dk_44 (dk_at dksL_law_82 21 rfl rfl)
theorem dL_law_2057 : decode cL_law 2057 = .ok (.invokevirtual 140, 3) := dk_182 0 140 (dk_at dksL_law_83 0 rfl rfl)
theorem dL_law_2060 : decode cL_law 2060 = .ok (.iload 6, 2) := dk_21 6 (dk_at dksL_law_83 3 rfl rfl)
theorem dL_law_2062 : decode cL_law 2062 = .ok (.if_icmp .eq 5, 3) := dk_159 0 5 (dk_at dksL_law_83 5 rfl rfl)
theorem dL_law_2065 : decode cL_law 2065 = .ok (.iconst 0, 1) := dk_3 (dk_at dksL_law_83 8 rfl rfl)
theorem dL_law_2066 : decode cL_law 2066 = .ok (.ireturn, 1) := dk_172 (dk_at dksL_law_83 9 rfl rfl)
theorem dL_law_2067 : decode cL_law 2067 = .ok (.iload 6, 2) := dk_21 6 (dk_at dksL_law_83 10 rfl rfl)
theorem dL_law_2069 : decode cL_law 2069 = .ok (.ifCond .ne 15, 3) := dk_154 0 15 (dk_at dksL_law_83 12 rfl rfl)
theorem dL_law_2072 : decode cL_law 2072 = .ok (.aload_n 3, 1) := dk_45 (dk_at dksL_law_83 15 rfl rfl)
theorem dL_law_2073 : decode cL_law 2073 = .ok (.iconst 0, 1) := dk_3 (dk_at dksL_law_83 16 rfl rfl)
theorem dL_law_2074 : decode cL_law 2074 = .ok (.laload, 1) := dk_47 (dk_at dksL_law_83 17 rfl rfl)
theorem dL_law_2075 : decode cL_law 2075 = .ok (.iload 7, 2) := dk_21 7 (dk_at dksL_law_83 18 rfl rfl)
theorem dL_law_2077 : decode cL_law 2077 = .ok (.i2l, 1) := dk_133 (dk_at dksL_law_83 20 rfl rfl)
theorem dL_law_2078 : decode cL_law 2078 = .ok (.lcmp, 1) := dk_148 (dk_at dksL_law_83 21 rfl rfl)
theorem dL_law_2079 : decode cL_law 2079 = .ok (.ifCond .eq 5, 3) := dk_153 0 5 (dk_at dksL_law_84 0 rfl rfl)
theorem dL_law_2082 : decode cL_law 2082 = .ok (.iconst 0, 1) := dk_3 (dk_at dksL_law_84 3 rfl rfl)
theorem dL_law_2083 : decode cL_law 2083 = .ok (.ireturn, 1) := dk_172 (dk_at dksL_law_84 4 rfl rfl)
theorem dL_law_2084 : decode cL_law 2084 = .ok (.goto 148, 3) := dk_167 0 148 (dk_at dksL_law_84 5 rfl rfl)
theorem dL_law_2087 : decode cL_law 2087 = .ok (.aload_n 1, 1) := dk_43 (dk_at dksL_law_84 8 rfl rfl)
theorem dL_law_2088 : decode cL_law 2088 = .ok (.aload_n 3, 1) := dk_45 (dk_at dksL_law_84 9 rfl rfl)
theorem dL_law_2089 : decode cL_law 2089 = .ok (.invokestatic 246, 3) := dk_184 0 246 (dk_at dksL_law_84 10 rfl rfl)
theorem dL_law_2092 : decode cL_law 2092 = .ok (.istore 6, 2) := dk_54 6 (dk_at dksL_law_84 13 rfl rfl)
theorem dL_law_2094 : decode cL_law 2094 = .ok (.aload_n 2, 1) := dk_44 (dk_at dksL_law_84 15 rfl rfl)
theorem dL_law_2095 : decode cL_law 2095 = .ok (.invokevirtual 248, 3) := dk_182 0 248 (dk_at dksL_law_84 16 rfl rfl)
theorem dL_law_2098 : decode cL_law 2098 = .ok (.istore 7, 2) := dk_54 7 (dk_at dksL_law_84 19 rfl rfl)
theorem dL_law_2100 : decode cL_law 2100 = .ok (.aload_n 2, 1) := dk_44 (dk_at dksL_law_84 21 rfl rfl)
theorem dL_law_2101 : decode cL_law 2101 = .ok (.invokevirtual 140, 3) := dk_182 0 140 (dk_at dksL_law_85 0 rfl rfl)
theorem dL_law_2104 : decode cL_law 2104 = .ok (.iload 6, 2) := dk_21 6 (dk_at dksL_law_85 3 rfl rfl)
theorem dL_law_2106 : decode cL_law 2106 = .ok (.if_icmp .eq 5, 3) := dk_159 0 5 (dk_at dksL_law_85 5 rfl rfl)
theorem dL_law_2109 : decode cL_law 2109 = .ok (.iconst 0, 1) := dk_3 (dk_at dksL_law_85 8 rfl rfl)
theorem dL_law_2110 : decode cL_law 2110 = .ok (.ireturn, 1) := dk_172 (dk_at dksL_law_85 9 rfl rfl)
theorem dL_law_2111 : decode cL_law 2111 = .ok (.iload 6, 2) := dk_21 6 (dk_at dksL_law_85 10 rfl rfl)
theorem dL_law_2113 : decode cL_law 2113 = .ok (.ifCond .ne 15, 3) := dk_154 0 15 (dk_at dksL_law_85 12 rfl rfl)
theorem dL_law_2116 : decode cL_law 2116 = .ok (.aload_n 3, 1) := dk_45 (dk_at dksL_law_85 15 rfl rfl)
theorem dL_law_2117 : decode cL_law 2117 = .ok (.iconst 0, 1) := dk_3 (dk_at dksL_law_85 16 rfl rfl)
theorem dL_law_2118 : decode cL_law 2118 = .ok (.laload, 1) := dk_47 (dk_at dksL_law_85 17 rfl rfl)
theorem dL_law_2119 : decode cL_law 2119 = .ok (.iload 7, 2) := dk_21 7 (dk_at dksL_law_85 18 rfl rfl)
theorem dL_law_2121 : decode cL_law 2121 = .ok (.i2l, 1) := dk_133 (dk_at dksL_law_85 20 rfl rfl)
theorem dL_law_2122 : decode cL_law 2122 = .ok (.lcmp, 1) := dk_148 (dk_at dksL_law_85 21 rfl rfl)
theorem dL_law_2123 : decode cL_law 2123 = .ok (.ifCond .eq 5, 3) := dk_153 0 5 (dk_at dksL_law_86 0 rfl rfl)
theorem dL_law_2126 : decode cL_law 2126 = .ok (.iconst 0, 1) := dk_3 (dk_at dksL_law_86 3 rfl rfl)
theorem dL_law_2127 : decode cL_law 2127 = .ok (.ireturn, 1) := dk_172 (dk_at dksL_law_86 4 rfl rfl)
theorem dL_law_2128 : decode cL_law 2128 = .ok (.goto 104, 3) := dk_167 0 104 (dk_at dksL_law_86 5 rfl rfl)
theorem dL_law_2131 : decode cL_law 2131 = .ok (.aload_n 1, 1) := dk_43 (dk_at dksL_law_86 8 rfl rfl)
theorem dL_law_2132 : decode cL_law 2132 = .ok (.aload_n 3, 1) := dk_45 (dk_at dksL_law_86 9 rfl rfl)
theorem dL_law_2133 : decode cL_law 2133 = .ok (.invokestatic 249, 3) := dk_184 0 249 (dk_at dksL_law_86 10 rfl rfl)
theorem dL_law_2136 : decode cL_law 2136 = .ok (.istore 6, 2) := dk_54 6 (dk_at dksL_law_86 13 rfl rfl)
theorem dL_law_2138 : decode cL_law 2138 = .ok (.aload_n 2, 1) := dk_44 (dk_at dksL_law_86 15 rfl rfl)
theorem dL_law_2139 : decode cL_law 2139 = .ok (.invokevirtual 251, 3) := dk_182 0 251 (dk_at dksL_law_86 16 rfl rfl)
theorem dL_law_2142 : decode cL_law 2142 = .ok (.istore 7, 2) := dk_54 7 (dk_at dksL_law_86 19 rfl rfl)
theorem dL_law_2144 : decode cL_law 2144 = .ok (.aload_n 2, 1) := dk_44 (dk_at dksL_law_86 21 rfl rfl)
theorem dL_law_2145 : decode cL_law 2145 = .ok (.invokevirtual 140, 3) := dk_182 0 140 (dk_at dksL_law_87 0 rfl rfl)
theorem dL_law_2148 : decode cL_law 2148 = .ok (.iload 6, 2) := dk_21 6 (dk_at dksL_law_87 3 rfl rfl)
theorem dL_law_2150 : decode cL_law 2150 = .ok (.if_icmp .eq 5, 3) := dk_159 0 5 (dk_at dksL_law_87 5 rfl rfl)
theorem dL_law_2153 : decode cL_law 2153 = .ok (.iconst 0, 1) := dk_3 (dk_at dksL_law_87 8 rfl rfl)
theorem dL_law_2154 : decode cL_law 2154 = .ok (.ireturn, 1) := dk_172 (dk_at dksL_law_87 9 rfl rfl)
theorem dL_law_2155 : decode cL_law 2155 = .ok (.iload 6, 2) := dk_21 6 (dk_at dksL_law_87 10 rfl rfl)
theorem dL_law_2157 : decode cL_law 2157 = .ok (.ifCond .ne 15, 3) := dk_154 0 15 (dk_at dksL_law_87 12 rfl rfl)
theorem dL_law_2160 : decode cL_law 2160 = .ok (.aload_n 3, 1) := dk_45 (dk_at dksL_law_87 15 rfl rfl)
theorem dL_law_2161 : decode cL_law 2161 = .ok (.iconst 0, 1) := dk_3 (dk_at dksL_law_87 16 rfl rfl)
theorem dL_law_2162 : decode cL_law 2162 = .ok (.laload, 1) := dk_47 (dk_at dksL_law_87 17 rfl rfl)
theorem dL_law_2163 : decode cL_law 2163 = .ok (.iload 7, 2) := dk_21 7 (dk_at dksL_law_87 18 rfl rfl)
theorem dL_law_2165 : decode cL_law 2165 = .ok (.i2l, 1) := dk_133 (dk_at dksL_law_87 20 rfl rfl)
theorem dL_law_2166 : decode cL_law 2166 = .ok (.lcmp, 1) := dk_148 (dk_at dksL_law_87 21 rfl rfl)
theorem dL_law_2167 : decode cL_law 2167 = .ok (.ifCond .eq 5, 3) := dk_153 0 5 (dk_at dksL_law_88 0 rfl rfl)
theorem dL_law_2170 : decode cL_law 2170 = .ok (.iconst 0, 1) := dk_3 (dk_at dksL_law_88 3 rfl rfl)
theorem dL_law_2171 : decode cL_law 2171 = .ok (.ireturn, 1) := dk_172 (dk_at dksL_law_88 4 rfl rfl)
theorem dL_law_2172 : decode cL_law 2172 = .ok (.goto 60, 3) := dk_167 0 60 (dk_at dksL_law_88 5 rfl rfl)
theorem dL_law_2175 : decode cL_law 2175 = .ok (.aload_n 1, 1) := dk_43 (dk_at dksL_law_88 8 rfl rfl)
theorem dL_law_2176 : decode cL_law 2176 = .ok (.invokevirtual 252, 3) := dk_182 0 252 (dk_at dksL_law_88 9 rfl rfl)
theorem dL_law_2179 : decode cL_law 2179 = .ok (.aload_n 2, 1) := dk_44 (dk_at dksL_law_88 12 rfl rfl)
theorem dL_law_2180 : decode cL_law 2180 = .ok (.invokevirtual 255, 3) := dk_182 0 255 (dk_at dksL_law_88 13 rfl rfl)
theorem dL_law_2183 : decode cL_law 2183 = .ok (.if_icmp .eq 49, 3) := dk_159 0 49 (dk_at dksL_law_88 16 rfl rfl)
theorem dL_law_2186 : decode cL_law 2186 = .ok (.iconst 0, 1) := dk_3 (dk_at dksL_law_88 19 rfl rfl)
theorem dL_law_2187 : decode cL_law 2187 = .ok (.ireturn, 1) := dk_172 (dk_at dksL_law_88 20 rfl rfl)
theorem dL_law_2188 : decode cL_law 2188 = .ok (.aload_n 1, 1) := dk_43 (dk_at dksL_law_88 21 rfl rfl)
theorem dL_law_2189 : decode cL_law 2189 = .ok (.aload_n 3, 1) := dk_45 (dk_at dksL_law_88 22 rfl rfl)
theorem dL_law_2190 : decode cL_law 2190 = .ok (.invokestatic 256, 3) := dk_184 1 0 (dk_at dksL_law_89 0 rfl rfl)
theorem dL_law_2193 : decode cL_law 2193 = .ok (.istore 6, 2) := dk_54 6 (dk_at dksL_law_89 3 rfl rfl)
theorem dL_law_2195 : decode cL_law 2195 = .ok (.aload_n 2, 1) := dk_44 (dk_at dksL_law_89 5 rfl rfl)
theorem dL_law_2196 : decode cL_law 2196 = .ok (.invokevirtual 258, 3) := dk_182 1 2 (dk_at dksL_law_89 6 rfl rfl)
theorem dL_law_2199 : decode cL_law 2199 = .ok (.istore 7, 2) := dk_54 7 (dk_at dksL_law_89 9 rfl rfl)
theorem dL_law_2201 : decode cL_law 2201 = .ok (.aload_n 2, 1) := dk_44 (dk_at dksL_law_89 11 rfl rfl)
theorem dL_law_2202 : decode cL_law 2202 = .ok (.invokevirtual 140, 3) := dk_182 0 140 (dk_at dksL_law_89 12 rfl rfl)
theorem dL_law_2205 : decode cL_law 2205 = .ok (.iload 6, 2) := dk_21 6 (dk_at dksL_law_89 15 rfl rfl)
theorem dL_law_2207 : decode cL_law 2207 = .ok (.if_icmp .eq 5, 3) := dk_159 0 5 (dk_at dksL_law_89 17 rfl rfl)
theorem dL_law_2210 : decode cL_law 2210 = .ok (.iconst 0, 1) := dk_3 (dk_at dksL_law_89 20 rfl rfl)
theorem dL_law_2211 : decode cL_law 2211 = .ok (.ireturn, 1) := dk_172 (dk_at dksL_law_89 21 rfl rfl)
theorem dL_law_2212 : decode cL_law 2212 = .ok (.iload 6, 2) := dk_21 6 (dk_at dksL_law_89 22 rfl rfl)
theorem dL_law_2214 : decode cL_law 2214 = .ok (.ifCond .ne 15, 3) := dk_154 0 15 (dk_at dksL_law_90 0 rfl rfl)
theorem dL_law_2217 : decode cL_law 2217 = .ok (.aload_n 3, 1) := dk_45 (dk_at dksL_law_90 3 rfl rfl)
theorem dL_law_2218 : decode cL_law 2218 = .ok (.iconst 0, 1) := dk_3 (dk_at dksL_law_90 4 rfl rfl)
theorem dL_law_2219 : decode cL_law 2219 = .ok (.laload, 1) := dk_47 (dk_at dksL_law_90 5 rfl rfl)
theorem dL_law_2220 : decode cL_law 2220 = .ok (.iload 7, 2) := dk_21 7 (dk_at dksL_law_90 6 rfl rfl)
theorem dL_law_2222 : decode cL_law 2222 = .ok (.i2l, 1) := dk_133 (dk_at dksL_law_90 8 rfl rfl)
theorem dL_law_2223 : decode cL_law 2223 = .ok (.lcmp, 1) := dk_148 (dk_at dksL_law_90 9 rfl rfl)
theorem dL_law_2224 : decode cL_law 2224 = .ok (.ifCond .eq 5, 3) := dk_153 0 5 (dk_at dksL_law_90 10 rfl rfl)
theorem dL_law_2227 : decode cL_law 2227 = .ok (.iconst 0, 1) := dk_3 (dk_at dksL_law_90 13 rfl rfl)
theorem dL_law_2228 : decode cL_law 2228 = .ok (.ireturn, 1) := dk_172 (dk_at dksL_law_90 14 rfl rfl)
theorem dL_law_2229 : decode cL_law 2229 = .ok (.goto 3, 3) := dk_167 0 3 (dk_at dksL_law_90 15 rfl rfl)
theorem dL_law_2232 : decode cL_law 2232 = .ok (.iinc 5 4, 3) := dk_132 5 4 (dk_at dksL_law_90 18 rfl rfl)
theorem dL_law_2235 : decode cL_law 2235 = .ok (.goto (-2207), 3) := dk_167 247 97 (dk_at dksL_law_90 21 rfl rfl)
theorem dL_law_2238 : decode cL_law 2238 = .ok (.iconst 1, 1) := dk_4 (dk_at dksL_law_91 0 rfl rfl)
theorem dL_law_2239 : decode cL_law 2239 = .ok (.ireturn, 1) := dk_172 (dk_at dksL_law_91 1 rfl rfl)

theorem q335 : (Jvm.Cond.arrayOver (Jvm.ClassFile.FieldType.object "java/lang/Object")) ∈ lw_tbl := lw_at lw_m1 229 rfl
set_option maxRecDepth 100000
theorem q380 : (Jvm.Cond.arrayClass Jvm.ClassFile.FieldType.byte) ∈ lw_all := lw_g (lw_at lw_m2 34 rfl) rfl
theorem q405 : (Jvm.Cond.arrayClass Jvm.ClassFile.FieldType.char) ∈ lw_all := lw_g (lw_at lw_m2 59 rfl) rfl
theorem q439 : (Jvm.Cond.arrayClass Jvm.ClassFile.FieldType.int) ∈ lw_all := lw_g (lw_at lw_m2 93 rfl) rfl
theorem q3954 : (Jvm.Cond.arrayClass Jvm.ClassFile.FieldType.long) ∈ lw_all := lw_g (lw_at lw_m17 8 rfl) rfl
theorem q3955 : (Jvm.Cond.arrayClass Jvm.ClassFile.FieldType.double) ∈ lw_all := lw_g (lw_at lw_m17 9 rfl) rfl
theorem q4046 : (Jvm.Cond.arrayClass Jvm.ClassFile.FieldType.short) ∈ lw_all := lw_g (lw_at lw_m17 100 rfl) rfl

theorem q131 : (Jvm.Cond.initialized "java/lang/System") ∈ lw_all := lw_g (lw_at lw_m1 25 rfl) rfl
set_option maxRecDepth 100000
theorem q663 : (Jvm.Cond.static ({ cls := "java/lang/System", name := "arraycopy", desc := "(Ljava/lang/Object;ILjava/lang/Object;II)V" } : Jvm.MethodName)) ∈ lw_all := lw_g (lw_at lw_m3 77 rfl) rfl
theorem q664 : (Jvm.Cond.native ({ cls := "java/lang/System", name := "arraycopy", desc := "(Ljava/lang/Object;ILjava/lang/Object;II)V" } : Jvm.MethodName)) ∈ lw_all := lw_g (lw_at lw_m3 78 rfl) rfl

theorem q145 : (Jvm.Cond.initialized "java/util/AbstractList$ListItr") ∈ lw_all := lw_g (lw_at lw_m1 39 rfl) rfl
set_option maxRecDepth 100000
theorem q454 : (Jvm.Cond.castable "java/util/AbstractList$ListItr" "java/util/Iterator") ∈ lw_tbl := lw_at lw_m2 108 rfl
theorem q455 : (Jvm.Cond.selects "java/util/AbstractList$ListItr" ({ cls := "java/util/Iterator", name := "hasNext", desc := "()Z" } : Jvm.MethodName) ({ cls := "java/util/AbstractList$Itr", name := "hasNext", desc := "()Z" } : Jvm.MethodName)) ∈ lw_all := lw_g (lw_at lw_m2 109 rfl) rfl
theorem q456 : (Jvm.Cond.unhidden "java/util/AbstractList$ListItr" "hasNext" "()Z") ∈ lw_tbl := lw_at lw_m2 110 rfl
theorem q538 : (Jvm.Cond.selects "java/util/AbstractList$ListItr" ({ cls := "java/util/Iterator", name := "next", desc := "()Ljava/lang/Object;" } : Jvm.MethodName) ({ cls := "java/util/AbstractList$Itr", name := "next", desc := "()Ljava/lang/Object;" } : Jvm.MethodName)) ∈ lw_all := lw_g (lw_at lw_m2 192 rfl) rfl
theorem q539 : (Jvm.Cond.unhidden "java/util/AbstractList$ListItr" "next" "()Ljava/lang/Object;") ∈ lw_tbl := lw_at lw_m2 193 rfl
theorem q546 : (Jvm.Cond.selects "java/util/AbstractList$ListItr" ({ cls := "java/util/AbstractList$Itr", name := "checkForComodification", desc := "()V" } : Jvm.MethodName) ({ cls := "java/util/AbstractList$Itr", name := "checkForComodification", desc := "()V" } : Jvm.MethodName)) ∈ lw_all := lw_g (lw_at lw_m2 200 rfl) rfl
theorem q955 : (Jvm.Cond.selects "java/util/AbstractList$ListItr" ({ cls := "java/lang/Object", name := "getClass", desc := "()Ljava/lang/Class;" } : Jvm.MethodName) ({ cls := "java/lang/Object", name := "getClass", desc := "()Ljava/lang/Class;" } : Jvm.MethodName)) ∈ lw_all := lw_g (lw_at lw_m4 129 rfl) rfl
theorem q1799 : (Jvm.Cond.selects "java/util/AbstractList$ListItr" ({ cls := "java/util/Iterator", name := "remove", desc := "()V" } : Jvm.MethodName) ({ cls := "java/util/AbstractList$Itr", name := "remove", desc := "()V" } : Jvm.MethodName)) ∈ lw_all := lw_g (lw_at lw_m8 13 rfl) rfl
theorem q1800 : (Jvm.Cond.unhidden "java/util/AbstractList$ListItr" "remove" "()V") ∈ lw_tbl := lw_at lw_m8 14 rfl
theorem q3993 : (Jvm.Cond.castable "java/util/AbstractList$ListItr" "java/lang/Object") ∈ lw_tbl := lw_at lw_m17 47 rfl
theorem q4051 : (Jvm.Cond.fieldLink "java/util/AbstractList$ListItr" (1 : Nat) "java/util/AbstractList$ListItr" "this$0" "Ljava/util/AbstractList;") ∈ lw_all := lw_g (lw_at lw_m17 105 rfl) rfl
theorem q4052 : (Jvm.Cond.fieldLink "java/util/AbstractList$ListItr" (13 : Nat) "java/util/AbstractList$ListItr" "cursor" "I") ∈ lw_all := lw_g (lw_at lw_m17 106 rfl) rfl
theorem q4053 : (Jvm.Cond.sameField "java/util/AbstractList$ListItr" "java/util/AbstractList$Itr" "cursor" "I") ∈ lw_all := lw_g (lw_at lw_m17 107 rfl) rfl

theorem q159 : (Jvm.Cond.initialized "jdk/internal/misc/UnsafeConstants") ∈ lw_all := lw_g (lw_at lw_m1 53 rfl) rfl
set_option maxRecDepth 100000
theorem q2009 : (Jvm.Cond.laysStatic "jdk/internal/misc/UnsafeConstants" "BIG_ENDIAN" "Z") ∈ lw_tbl := lw_at lw_m8 223 rfl

theorem q163 : (Jvm.Cond.initialized "java/lang/Integer$IntegerCache") ∈ lw_all := lw_g (lw_at lw_m1 57 rfl) rfl
set_option maxRecDepth 100000
theorem q2396 : (Jvm.Cond.laysStatic "java/lang/Integer$IntegerCache" "high" "I") ∈ lw_tbl := lw_at lw_m10 130 rfl
theorem q2398 : (Jvm.Cond.laysStatic "java/lang/Integer$IntegerCache" "cache" "[Ljava/lang/Integer;") ∈ lw_tbl := lw_at lw_m10 132 rfl

theorem q653 : (Jvm.Cond.sameMethod "[B" "java/lang/Object" "clone" "()Ljava/lang/Object;") ∈ lw_all := lw_g (lw_at lw_m3 67 rfl) rfl
set_option maxRecDepth 100000
theorem q656 : (Jvm.Cond.selects "[B" ({ cls := "[B", name := "clone", desc := "()Ljava/lang/Object;" } : Jvm.MethodName) ({ cls := "java/lang/Object", name := "clone", desc := "()Ljava/lang/Object;" } : Jvm.MethodName)) ∈ lw_all := lw_g (lw_at lw_m3 70 rfl) rfl
theorem q657 : (Jvm.Cond.castable "[B" "java/lang/Cloneable") ∈ lw_tbl := lw_at lw_m3 71 rfl
theorem q4041 : (Jvm.Cond.castable "[B" "java/lang/Object") ∈ lw_tbl := lw_at lw_m17 95 rfl

theorem q1915 : (Jvm.Cond.interfaceMethod "java/util/Comparator" "java/util/Comparator" "compare" "(Ljava/lang/Object;Ljava/lang/Object;)I") ∈ lw_tbl := lw_at lw_m8 129 rfl
set_option maxRecDepth 100000
theorem q1916 : (Jvm.Cond.declares ({ cls := "java/util/Comparator", name := "compare", desc := "(Ljava/lang/Object;Ljava/lang/Object;)I" } : Jvm.MethodName)) ∈ lw_tbl := lw_at lw_m8 130 rfl

theorem q1937 : (Jvm.Cond.interfaceMethod "java/lang/Comparable" "java/lang/Comparable" "compareTo" "(Ljava/lang/Object;)I") ∈ lw_tbl := lw_at lw_m8 151 rfl
set_option maxRecDepth 100000
theorem q1938 : (Jvm.Cond.declares ({ cls := "java/lang/Comparable", name := "compareTo", desc := "(Ljava/lang/Object;)I" } : Jvm.MethodName)) ∈ lw_tbl := lw_at lw_m8 152 rfl

theorem q2497 : (Jvm.Cond.interfaceMethod "java/util/Collection" "java/util/Collection" "iterator" "()Ljava/util/Iterator;") ∈ lw_tbl := lw_at lw_m10 231 rfl
set_option maxRecDepth 100000
theorem q2498 : (Jvm.Cond.declares ({ cls := "java/util/Collection", name := "iterator", desc := "()Ljava/util/Iterator;" } : Jvm.MethodName)) ∈ lw_tbl := lw_at lw_m10 232 rfl

theorem q3316 : (Jvm.Cond.interfaceMethod "java/lang/CharSequence" "java/lang/CharSequence" "length" "()I") ∈ lw_tbl := lw_at lw_m14 90 rfl
set_option maxRecDepth 100000
theorem q3317 : (Jvm.Cond.declares ({ cls := "java/lang/CharSequence", name := "length", desc := "()I" } : Jvm.MethodName)) ∈ lw_tbl := lw_at lw_m14 91 rfl
theorem q3344 : (Jvm.Cond.interfaceMethod "java/lang/CharSequence" "java/lang/CharSequence" "charAt" "(I)C") ∈ lw_tbl := lw_at lw_m14 118 rfl
theorem q3345 : (Jvm.Cond.declares ({ cls := "java/lang/CharSequence", name := "charAt", desc := "(I)C" } : Jvm.MethodName)) ∈ lw_tbl := lw_at lw_m14 119 rfl

theorem q3378 : (Jvm.Cond.interfaceMethod "jdk/internal/access/JavaLangAccess" "jdk/internal/access/JavaLangAccess" "getUTF16Char" "([BI)C") ∈ lw_tbl := lw_at lw_m14 152 rfl
set_option maxRecDepth 100000
theorem q3379 : (Jvm.Cond.declares ({ cls := "jdk/internal/access/JavaLangAccess", name := "getUTF16Char", desc := "([BI)C" } : Jvm.MethodName)) ∈ lw_tbl := lw_at lw_m14 153 rfl

theorem q4037 : (Jvm.Cond.sameMethod "[Ljava/lang/Object;" "java/lang/Object" "getClass" "()Ljava/lang/Class;") ∈ lw_all := lw_g (lw_at lw_m17 91 rfl) rfl
set_option maxRecDepth 100000
theorem q4038 : (Jvm.Cond.selects "[Ljava/lang/Object;" ({ cls := "java/lang/Object", name := "getClass", desc := "()Ljava/lang/Class;" } : Jvm.MethodName) ({ cls := "java/lang/Object", name := "getClass", desc := "()Ljava/lang/Class;" } : Jvm.MethodName)) ∈ lw_all := lw_g (lw_at lw_m17 92 rfl) rfl
theorem q4040 : (Jvm.Cond.castable "[Ljava/lang/Object;" "java/lang/Object") ∈ lw_tbl := lw_at lw_m17 94 rfl

theorem q4042 : (Jvm.Cond.castable "[C" "java/lang/Object") ∈ lw_tbl := lw_at lw_m17 96 rfl
set_option maxRecDepth 100000

theorem q4043 : (Jvm.Cond.castable "[I" "java/lang/Object") ∈ lw_tbl := lw_at lw_m17 97 rfl
set_option maxRecDepth 100000

theorem q4044 : (Jvm.Cond.castable "[J" "java/lang/Object") ∈ lw_tbl := lw_at lw_m17 98 rfl
set_option maxRecDepth 100000

theorem q4045 : (Jvm.Cond.castable "[D" "java/lang/Object") ∈ lw_tbl := lw_at lw_m17 99 rfl
set_option maxRecDepth 100000

