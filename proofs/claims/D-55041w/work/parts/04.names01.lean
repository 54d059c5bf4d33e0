/-! CavePearls$World -/
set_option maxRecDepth 100000
def RX2 : String := "CavePearls$World"
def TX2 : u_T := fun k => match k with
  | 0 => ("CavePearls$World", "clock", "I", false)
  | 1 => ("CavePearls$World", "pools", "Ljava/util/ArrayList;", true)
  | 2 => ("CavePearls$World", "stones", "Ljava/util/ArrayList;", true)
  | 3 => ("CavePearls$World", "groups", "Ljava/util/LinkedList;", true)
  | 4 => ("CavePearls$World", "lamps", "Ljava/util/ArrayList;", true)
  | 5 => ("CavePearls$World", "breath", "I", false)
  | 6 => ("CavePearls$World", "dust", "I", false)
  | 7 => ("CavePearls$World", "draught", "I", false)
  | 8 => ("CavePearls$World", "drips", "I", false)
  | 9 => ("CavePearls$World", "over", "I", false)
  | 10 => ("CavePearls$World", "dried", "I", false)
  | 11 => ("CavePearls$World", "grown", "I", false)
  | 12 => ("CavePearls$World", "dissolved", "I", false)
  | 13 => ("CavePearls$World", "laid", "I", false)
  | _ => ("CavePearls$World", "taken", "I", false)
def tyX2 : Nat → FieldType := fun k => match k with
  | 0 => .int
  | 1 => .object "java/util/ArrayList"
  | 2 => .object "java/util/ArrayList"
  | 3 => .object "java/util/LinkedList"
  | 4 => .object "java/util/ArrayList"
  | 5 => .int
  | 6 => .int
  | 7 => .int
  | 8 => .int
  | 9 => .int
  | 10 => .int
  | 11 => .int
  | 12 => .int
  | 13 => .int
  | _ => .int
abbrev wsX20 : List Cond := u_ws RX2 TX2 15
set_option maxRecDepth 100000 in
theorem nmX2 : ∀ a, a < 15 → ∀ b, b < 15 → a ≠ b → (TX2 a).2.1 ≠ (TX2 b).2.1 := by decide +kernel
set_option maxRecDepth 100000 in
theorem tyX2_ok : ∀ k, k < 15 → parseFieldDescriptor (TX2 k).2.2.1 = some (tyX2 k) := by decide +kernel
abbrev cX2_init : ByteArray := prog_29_method_1_code
def yX2_init : MethodName := ⟨RX2, "<init>", "()V"⟩
def dkwX2_init_3 : List UInt8 := [178, 0, 31, 5, 46, 181, 0, 42, 177]
abbrev dktX2_init_3 : List UInt8 := dkwX2_init_3 ++ []
def dkwX2_init_2 : List UInt8 := [181, 0, 28, 42, 178, 0, 31, 3, 46, 181, 0, 35, 42, 178, 0, 31, 4, 46, 181, 0, 39, 42]
abbrev dktX2_init_2 : List UInt8 := dkwX2_init_2 ++ dktX2_init_3
def dkwX2_init_1 : List UInt8 := [181, 0, 18, 42, 187, 0, 21, 89, 183, 0, 23, 181, 0, 24, 42, 187, 0, 9, 89, 183, 0, 11]
abbrev dktX2_init_1 : List UInt8 := dkwX2_init_1 ++ dktX2_init_2
def dkwX2_init_0 : List UInt8 := [42, 183, 0, 3, 42, 187, 0, 9, 89, 183, 0, 11, 181, 0, 12, 42, 187, 0, 9, 89, 183, 0, 11]
abbrev dktX2_init_0 : List UInt8 := dkwX2_init_0 ++ dktX2_init_1
theorem dksX2_init_0 : cX2_init.data.toList.drop 0 = dktX2_init_0 := by decide +kernel
theorem dksX2_init_1 : cX2_init.data.toList.drop 23 = dktX2_init_1 := dk_seg dksX2_init_0 23 rfl rfl
theorem dksX2_init_2 : cX2_init.data.toList.drop 45 = dktX2_init_2 := dk_seg dksX2_init_1 22 rfl rfl
theorem dksX2_init_3 : cX2_init.data.toList.drop 67 = dktX2_init_3 := dk_seg dksX2_init_2 22 rfl rfl
theorem dX2_init_0 : decode cX2_init 0 = .ok (.aload_n 0, 1) := dk_42 (dk_at dksX2_init_0 0 rfl rfl)
theorem dX2_init_1 : decode cX2_init 1 = .ok (.invokespecial 3, 3) := dk_183 0 3 (dk_at dksX2_init_0 1 rfl rfl)
theorem dX2_init_4 : decode cX2_init 4 = .ok (.aload_n 0, 1) := dk_42 (dk_at dksX2_init_0 4 rfl rfl)
theorem dX2_init_5 : decode cX2_init 5 = .ok (.new 9, 3) := dk_187 0 9 (dk_at dksX2_init_0 5 rfl rfl)
theorem dX2_init_8 : decode cX2_init 8 = .ok (.dup, 1) := dk_89 (dk_at dksX2_init_0 8 rfl rfl)
theorem dX2_init_9 : decode cX2_init 9 = .ok (.invokespecial 11, 3) := dk_183 0 11 (dk_at dksX2_init_0 9 rfl rfl)
theorem dX2_init_12 : decode cX2_init 12 = .ok (.putfield 12, 3) := dk_181 0 12 (dk_at dksX2_init_0 12 rfl rfl)
theorem dX2_init_15 : decode cX2_init 15 = .ok (.aload_n 0, 1) := dk_42 (dk_at dksX2_init_0 15 rfl rfl)
theorem dX2_init_16 : decode cX2_init 16 = .ok (.new 9, 3) := dk_187 0 9 (dk_at dksX2_init_0 16 rfl rfl)
theorem dX2_init_19 : decode cX2_init 19 = .ok (.dup, 1) := dk_89 (dk_at dksX2_init_0 19 rfl rfl)
theorem dX2_init_20 : decode cX2_init 20 = .ok (.invokespecial 11, 3) := dk_183 0 11 (dk_at dksX2_init_0 20 rfl rfl)
theorem dX2_init_23 : decode cX2_init 23 = .ok (.putfield 18, 3) := dk_181 0 18 (dk_at dksX2_init_1 0 rfl rfl)
theorem dX2_init_26 : decode cX2_init 26 = .ok (.aload_n 0, 1) := dk_42 (dk_at dksX2_init_1 3 rfl rfl)
theorem dX2_init_27 : decode cX2_init 27 = .ok (.new 21, 3) := dk_187 0 21 (dk_at dksX2_init_1 4 rfl rfl)
theorem dX2_init_30 : decode cX2_init 30 = .ok (.dup, 1) := dk_89 (dk_at dksX2_init_1 7 rfl rfl)
theorem dX2_init_31 : decode cX2_init 31 = .ok (.invokespecial 23, 3) := dk_183 0 23 (dk_at dksX2_init_1 8 rfl rfl)
theorem dX2_init_34 : decode cX2_init 34 = .ok (.putfield 24, 3) := dk_181 0 24 (dk_at dksX2_init_1 11 rfl rfl)
theorem dX2_init_37 : decode cX2_init 37 = .ok (.aload_n 0, 1) := dk_42 (dk_at dksX2_init_1 14 rfl rfl)
theorem dX2_init_38 : decode cX2_init 38 = .ok (.new 9, 3) := dk_187 0 9 (dk_at dksX2_init_1 15 rfl rfl)
theorem dX2_init_41 : decode cX2_init 41 = .ok (.dup, 1) := dk_89 (dk_at dksX2_init_1 18 rfl rfl)
theorem dX2_init_42 : decode cX2_init 42 = .ok (.invokespecial 11, 3) := dk_183 0 11 (dk_at dksX2_init_1 19 rfl rfl)
theorem dX2_init_45 : decode cX2_init 45 = .ok (.putfield 28, 3) := dk_181 0 28 (dk_at dksX2_init_2 0 rfl rfl)
theorem dX2_init_48 : decode cX2_init 48 = .ok (.aload_n 0, 1) := dk_42 (dk_at dksX2_init_2 3 rfl rfl)
theorem dX2_init_49 : decode cX2_init 49 = .ok (.getstatic 31, 3) := dk_178 0 31 (dk_at dksX2_init_2 4 rfl rfl)
theorem dX2_init_52 : decode cX2_init 52 = .ok (.iconst 0, 1) := dk_3 (dk_at dksX2_init_2 7 rfl rfl)
theorem dX2_init_53 : decode cX2_init 53 = .ok (.iaload, 1) := dk_46 (dk_at dksX2_init_2 8 rfl rfl)
theorem dX2_init_54 : decode cX2_init 54 = .ok (.putfield 35, 3) := dk_181 0 35 (dk_at dksX2_init_2 9 rfl rfl)
theorem dX2_init_57 : decode cX2_init 57 = .ok (.aload_n 0, 1) := dk_42 (dk_at dksX2_init_2 12 rfl rfl)
theorem dX2_init_58 : decode cX2_init 58 = .ok (.getstatic 31, 3) := dk_178 0 31 (dk_at dksX2_init_2 13 rfl rfl)
theorem dX2_init_61 : decode cX2_init 61 = .ok (.iconst 1, 1) := dk_4 (dk_at dksX2_init_2 16 rfl rfl)
theorem dX2_init_62 : decode cX2_init 62 = .ok (.iaload, 1) := dk_46 (dk_at dksX2_init_2 17 rfl rfl)
theorem dX2_init_63 : decode cX2_init 63 = .ok (.putfield 39, 3) := dk_181 0 39 (dk_at dksX2_init_2 18 rfl rfl)
theorem dX2_init_66 : decode cX2_init 66 = .ok (.aload_n 0, 1) := dk_42 (dk_at dksX2_init_2 21 rfl rfl)
theorem dX2_init_67 : decode cX2_init 67 = .ok (.getstatic 31, 3) := dk_178 0 31 (dk_at dksX2_init_3 0 rfl rfl)
theorem dX2_init_70 : decode cX2_init 70 = .ok (.iconst 2, 1) := dk_5 (dk_at dksX2_init_3 3 rfl rfl)
theorem dX2_init_71 : decode cX2_init 71 = .ok (.iaload, 1) := dk_46 (dk_at dksX2_init_3 4 rfl rfl)
theorem dX2_init_72 : decode cX2_init 72 = .ok (.putfield 42, 3) := dk_181 0 42 (dk_at dksX2_init_3 5 rfl rfl)
theorem dX2_init_75 : decode cX2_init 75 = .ok (.return_, 1) := dk_177 (dk_at dksX2_init_3 8 rfl rfl)
abbrev cX2_init_2 : ByteArray := prog_29_method_2_code
def yX2_init_2 : MethodName := ⟨RX2, "<init>", "(LCavePearls$World;)V"⟩
def dkwX2_init_2_14 : List UInt8 := [181, 0, 113, 42, 43, 180, 0, 116, 181, 0, 116, 42, 43, 180, 0, 119, 181, 0, 119, 177]
abbrev dktX2_init_2_14 : List UInt8 := dkwX2_init_2_14 ++ []
def dkwX2_init_2_13 : List UInt8 := [181, 0, 104, 42, 43, 180, 0, 107, 181, 0, 107, 42, 43, 180, 0, 110, 181, 0, 110, 42, 43, 180, 0, 113]
abbrev dktX2_init_2_13 : List UInt8 := dkwX2_init_2_13 ++ dktX2_init_2_14
def dkwX2_init_2_12 : List UInt8 := [181, 0, 39, 42, 43, 180, 0, 42, 181, 0, 42, 42, 43, 180, 0, 101, 181, 0, 101, 42, 43, 180, 0, 104]
abbrev dktX2_init_2_12 : List UInt8 := dkwX2_init_2_12 ++ dktX2_init_2_13
def dkwX2_init_2_11 : List UInt8 := [183, 0, 100, 182, 0, 67, 61, 167, 255, 211, 42, 43, 180, 0, 35, 181, 0, 35, 42, 43, 180, 0, 39]
abbrev dktX2_init_2_11 : List UInt8 := dkwX2_init_2_11 ++ dktX2_init_2_12
def dkwX2_init_2_10 : List UInt8 := [192, 0, 92, 58, 4, 42, 180, 0, 28, 187, 0, 92, 89, 25, 4, 180, 0, 94, 25, 4, 180, 0, 97]
abbrev dktX2_init_2_10 : List UInt8 := dkwX2_init_2_10 ++ dktX2_init_2_11
def dkwX2_init_2_9 : List UInt8 := [180, 0, 28, 182, 0, 48, 78, 45, 185, 0, 52, 1, 0, 153, 0, 42, 45, 185, 0, 58, 1, 0]
abbrev dktX2_init_2_9 : List UInt8 := dkwX2_init_2_9 ++ dktX2_init_2_10
def dkwX2_init_2_8 : List UInt8 := [187, 0, 77, 89, 25, 4, 180, 0, 79, 25, 4, 180, 0, 82, 183, 0, 85, 182, 0, 88, 167, 255, 212, 43]
abbrev dktX2_init_2_8 : List UInt8 := dkwX2_init_2_8 ++ dktX2_init_2_9
def dkwX2_init_2_7 : List UInt8 := [45, 185, 0, 52, 1, 0, 153, 0, 41, 45, 185, 0, 58, 1, 0, 192, 0, 77, 58, 4, 42, 180, 0, 24]
abbrev dktX2_init_2_7 : List UInt8 := dkwX2_init_2_7 ++ dktX2_init_2_8
def dkwX2_init_2_6 : List UInt8 := [187, 0, 71, 89, 25, 4, 183, 0, 73, 182, 0, 67, 61, 167, 255, 219, 43, 180, 0, 24, 182, 0, 76, 78]
abbrev dktX2_init_2_6 : List UInt8 := dkwX2_init_2_6 ++ dktX2_init_2_7
def dkwX2_init_2_5 : List UInt8 := [45, 185, 0, 52, 1, 0, 153, 0, 34, 45, 185, 0, 58, 1, 0, 192, 0, 71, 58, 4, 42, 180, 0, 18]
abbrev dktX2_init_2_5 : List UInt8 := dkwX2_init_2_5 ++ dktX2_init_2_6
def dkwX2_init_2_4 : List UInt8 := [187, 0, 62, 89, 25, 4, 183, 0, 64, 182, 0, 67, 61, 167, 255, 219, 43, 180, 0, 18, 182, 0, 48, 78]
abbrev dktX2_init_2_4 : List UInt8 := dkwX2_init_2_4 ++ dktX2_init_2_5
def dkwX2_init_2_3 : List UInt8 := [185, 0, 52, 1, 0, 153, 0, 34, 45, 185, 0, 58, 1, 0, 192, 0, 62, 58, 4, 42, 180, 0, 12]
abbrev dktX2_init_2_3 : List UInt8 := dkwX2_init_2_3 ++ dktX2_init_2_4
def dkwX2_init_2_2 : List UInt8 := [181, 0, 28, 42, 43, 180, 0, 45, 181, 0, 45, 43, 180, 0, 12, 182, 0, 48, 78, 45]
abbrev dktX2_init_2_2 : List UInt8 := dkwX2_init_2_2 ++ dktX2_init_2_3
def dkwX2_init_2_1 : List UInt8 := [181, 0, 18, 42, 187, 0, 21, 89, 183, 0, 23, 181, 0, 24, 42, 187, 0, 9, 89, 183, 0, 11]
abbrev dktX2_init_2_1 : List UInt8 := dkwX2_init_2_1 ++ dktX2_init_2_2
def dkwX2_init_2_0 : List UInt8 := [42, 183, 0, 3, 42, 187, 0, 9, 89, 183, 0, 11, 181, 0, 12, 42, 187, 0, 9, 89, 183, 0, 11]
abbrev dktX2_init_2_0 : List UInt8 := dkwX2_init_2_0 ++ dktX2_init_2_1
theorem dksX2_init_2_0 : cX2_init_2.data.toList.drop 0 = dktX2_init_2_0 := by decide +kernel
theorem dksX2_init_2_1 : cX2_init_2.data.toList.drop 23 = dktX2_init_2_1 := dk_seg dksX2_init_2_0 23 rfl rfl
theorem dksX2_init_2_2 : cX2_init_2.data.toList.drop 45 = dktX2_init_2_2 := dk_seg dksX2_init_2_1 22 rfl rfl
theorem dksX2_init_2_3 : cX2_init_2.data.toList.drop 65 = dktX2_init_2_3 := dk_seg dksX2_init_2_2 20 rfl rfl
theorem dksX2_init_2_4 : cX2_init_2.data.toList.drop 88 = dktX2_init_2_4 := dk_seg dksX2_init_2_3 23 rfl rfl
theorem dksX2_init_2_5 : cX2_init_2.data.toList.drop 112 = dktX2_init_2_5 := dk_seg dksX2_init_2_4 24 rfl rfl
theorem dksX2_init_2_6 : cX2_init_2.data.toList.drop 136 = dktX2_init_2_6 := dk_seg dksX2_init_2_5 24 rfl rfl
theorem dksX2_init_2_7 : cX2_init_2.data.toList.drop 160 = dktX2_init_2_7 := dk_seg dksX2_init_2_6 24 rfl rfl
theorem dksX2_init_2_8 : cX2_init_2.data.toList.drop 184 = dktX2_init_2_8 := dk_seg dksX2_init_2_7 24 rfl rfl
theorem dksX2_init_2_9 : cX2_init_2.data.toList.drop 208 = dktX2_init_2_9 := dk_seg dksX2_init_2_8 24 rfl rfl
theorem dksX2_init_2_10 : cX2_init_2.data.toList.drop 230 = dktX2_init_2_10 := dk_seg dksX2_init_2_9 22 rfl rfl
theorem dksX2_init_2_11 : cX2_init_2.data.toList.drop 253 = dktX2_init_2_11 := dk_seg dksX2_init_2_10 23 rfl rfl
theorem dksX2_init_2_12 : cX2_init_2.data.toList.drop 276 = dktX2_init_2_12 := dk_seg dksX2_init_2_11 23 rfl rfl
theorem dksX2_init_2_13 : cX2_init_2.data.toList.drop 300 = dktX2_init_2_13 := dk_seg dksX2_init_2_12 24 rfl rfl
theorem dksX2_init_2_14 : cX2_init_2.data.toList.drop 324 = dktX2_init_2_14 := dk_seg dksX2_init_2_13 24 rfl rfl
theorem dX2_init_2_0 : decode cX2_init_2 0 = .ok (.aload_n 0, 1) := dk_42 (dk_at dksX2_init_2_0 0 rfl rfl)
theorem dX2_init_2_1 : decode cX2_init_2 1 = .ok (.invokespecial 3, 3) := dk_183 0 3 (dk_at dksX2_init_2_0 1 rfl rfl)
theorem dX2_init_2_4 : decode cX2_init_2 4 = .ok (.aload_n 0, 1) := dk_42 (dk_at dksX2_init_2_0 4 rfl rfl)
theorem dX2_init_2_5 : decode cX2_init_2 5 = .ok (.new 9, 3) := dk_187 0 9 (dk_at dksX2_init_2_0 5 rfl rfl)
theorem dX2_init_2_8 : decode cX2_init_2 8 = .ok (.dup, 1) := dk_89 (dk_at dksX2_init_2_0 8 rfl rfl)
theorem dX2_init_2_9 : decode cX2_init_2 9 = .ok (.invokespecial 11, 3) := dk_183 0 11 (dk_at dksX2_init_2_0 9 rfl rfl)
theorem dX2_init_2_12 : decode cX2_init_2 12 = .ok (.putfield 12, 3) := dk_181 0 12 (dk_at dksX2_init_2_0 12 rfl rfl)
theorem dX2_init_2_15 : decode cX2_init_2 15 = .ok (.aload_n 0, 1) := dk_42 (dk_at dksX2_init_2_0 15 rfl rfl)
theorem dX2_init_2_16 : decode cX2_init_2 16 = .ok (.new 9, 3) := dk_187 0 9 (dk_at dksX2_init_2_0 16 rfl rfl)
theorem dX2_init_2_19 : decode cX2_init_2 19 = .ok (.dup, 1) := dk_89 (dk_at dksX2_init_2_0 19 rfl rfl)
theorem dX2_init_2_20 : decode cX2_init_2 20 = .ok (.invokespecial 11, 3) := dk_183 0 11 (dk_at dksX2_init_2_0 20 rfl rfl)
theorem dX2_init_2_23 : decode cX2_init_2 23 = .ok (.putfield 18, 3) := dk_181 0 18 (dk_at dksX2_init_2_1 0 rfl rfl)
theorem dX2_init_2_26 : decode cX2_init_2 26 = .ok (.aload_n 0, 1) := dk_42 (dk_at dksX2_init_2_1 3 rfl rfl)
theorem dX2_init_2_27 : decode cX2_init_2 27 = .ok (.new 21, 3) := dk_187 0 21 (dk_at dksX2_init_2_1 4 rfl rfl)
theorem dX2_init_2_30 : decode cX2_init_2 30 = .ok (.dup, 1) := dk_89 (dk_at dksX2_init_2_1 7 rfl rfl)
theorem dX2_init_2_31 : decode cX2_init_2 31 = .ok (.invokespecial 23, 3) := dk_183 0 23 (dk_at dksX2_init_2_1 8 rfl rfl)
theorem dX2_init_2_34 : decode cX2_init_2 34 = .ok (.putfield 24, 3) := dk_181 0 24 (dk_at dksX2_init_2_1 11 rfl rfl)
theorem dX2_init_2_37 : decode cX2_init_2 37 = .ok (.aload_n 0, 1) := dk_42 (dk_at dksX2_init_2_1 14 rfl rfl)
theorem dX2_init_2_38 : decode cX2_init_2 38 = .ok (.new 9, 3) := dk_187 0 9 (dk_at dksX2_init_2_1 15 rfl rfl)
theorem dX2_init_2_41 : decode cX2_init_2 41 = .ok (.dup, 1) := dk_89 (dk_at dksX2_init_2_1 18 rfl rfl)
theorem dX2_init_2_42 : decode cX2_init_2 42 = .ok (.invokespecial 11, 3) := dk_183 0 11 (dk_at dksX2_init_2_1 19 rfl rfl)
theorem dX2_init_2_45 : decode cX2_init_2 45 = .ok (.putfield 28, 3) := dk_181 0 28 (dk_at dksX2_init_2_2 0 rfl rfl)
theorem dX2_init_2_48 : decode cX2_init_2 48 = .ok (.aload_n 0, 1) := dk_42 (dk_at dksX2_init_2_2 3 rfl rfl)
theorem dX2_init_2_49 : decode cX2_init_2 49 = .ok (.aload_n 1, 1) := dk_43 (dk_at dksX2_init_2_2 4 rfl rfl)
theorem dX2_init_2_50 : decode cX2_init_2 50 = .ok (.getfield 45, 3) := dk_180 0 45 (dk_at dksX2_init_2_2 5 rfl rfl)
theorem dX2_init_2_53 : decode cX2_init_2 53 = .ok (.putfield 45, 3) := dk_181 0 45 (dk_at dksX2_init_2_2 8 rfl rfl)
theorem dX2_init_2_56 : decode cX2_init_2 56 = .ok (.aload_n 1, 1) := dk_43 (dk_at dksX2_init_2_2 11 rfl rfl)
theorem dX2_init_2_57 : decode cX2_init_2 57 = .ok (.getfield 12, 3) := dk_180 0 12 (dk_at dksX2_init_2_2 12 rfl rfl)
theorem dX2_init_2_60 : decode cX2_init_2 60 = .ok (.invokevirtual 48, 3) := dk_182 0 48 (dk_at dksX2_init_2_2 15 rfl rfl)
theorem dX2_init_2_63 : decode cX2_init_2 63 = .ok (.astore_n 3, 1) := dk_78 (dk_at dksX2_init_2_2 18 rfl rfl)
theorem dX2_init_2_64 : decode cX2_init_2 64 = .ok (.aload_n 3, 1) := dk_45 (dk_at dksX2_init_2_2 19 rfl rfl)
theorem dX2_init_2_65 : decode cX2_init_2 65 = .ok (.invokeinterface 52 1, 5) := by decide +kernel
theorem dX2_init_2_70 : decode cX2_init_2 70 = .ok (.ifCond .eq 34, 3) := dk_153 0 34 (dk_at dksX2_init_2_3 5 rfl rfl)
theorem dX2_init_2_73 : decode cX2_init_2 73 = .ok (.aload_n 3, 1) := dk_45 (dk_at dksX2_init_2_3 8 rfl rfl)
theorem dX2_init_2_74 : decode cX2_init_2 74 = .ok (.invokeinterface 58 1, 5) := by decide +kernel
theorem dX2_init_2_79 : decode cX2_init_2 79 = .ok (.checkcast 62, 3) := dk_192 0 62 (dk_at dksX2_init_2_3 14 rfl rfl)
theorem dX2_init_2_82 : decode cX2_init_2 82 = .ok (.astore 4, 2) := dk_58 4 (dk_at dksX2_init_2_3 17 rfl rfl)
theorem dX2_init_2_84 : decode cX2_init_2 84 = .ok (.aload_n 0, 1) := dk_42 (dk_at dksX2_init_2_3 19 rfl rfl)
theorem dX2_init_2_85 : decode cX2_init_2 85 = .ok (.getfield 12, 3) := dk_180 0 12 (dk_at dksX2_init_2_3 20 rfl rfl)
theorem dX2_init_2_88 : decode cX2_init_2 88 = .ok (.new 62, 3) := dk_187 0 62 (dk_at dksX2_init_2_4 0 rfl rfl)
theorem dX2_init_2_91 : decode cX2_init_2 91 = .ok (.dup, 1) := dk_89 (dk_at dksX2_init_2_4 3 rfl rfl)
theorem dX2_init_2_92 : decode cX2_init_2 92 = .ok (.aload 4, 2) := dk_25 4 (dk_at dksX2_init_2_4 4 rfl rfl)
theorem dX2_init_2_94 : decode cX2_init_2 94 = .ok (.invokespecial 64, 3) := dk_183 0 64 (dk_at dksX2_init_2_4 6 rfl rfl)
theorem dX2_init_2_97 : decode cX2_init_2 97 = .ok (.invokevirtual 67, 3) := dk_182 0 67 (dk_at dksX2_init_2_4 9 rfl rfl)
theorem dX2_init_2_100 : decode cX2_init_2 100 = .ok (.istore_n 2, 1) := dk_61 (dk_at dksX2_init_2_4 12 rfl rfl)
theorem dX2_init_2_101 : decode cX2_init_2 101 = .ok (.goto (-37), 3) := dk_167 255 219 (dk_at dksX2_init_2_4 13 rfl rfl)
theorem dX2_init_2_104 : decode cX2_init_2 104 = .ok (.aload_n 1, 1) := dk_43 (dk_at dksX2_init_2_4 16 rfl rfl)
theorem dX2_init_2_105 : decode cX2_init_2 105 = .ok (.getfield 18, 3) := dk_180 0 18 (dk_at dksX2_init_2_4 17 rfl rfl)
theorem dX2_init_2_108 : decode cX2_init_2 108 = .ok (.invokevirtual 48, 3) := dk_182 0 48 (dk_at dksX2_init_2_4 20 rfl rfl)
theorem dX2_init_2_111 : decode cX2_init_2 111 = .ok (.astore_n 3, 1) := dk_78 (dk_at dksX2_init_2_4 23 rfl rfl)
theorem dX2_init_2_112 : decode cX2_init_2 112 = .ok (.aload_n 3, 1) := dk_45 (dk_at dksX2_init_2_5 0 rfl rfl)
theorem dX2_init_2_113 : decode cX2_init_2 113 = .ok (.invokeinterface 52 1, 5) := by decide +kernel
theorem dX2_init_2_118 : decode cX2_init_2 118 = .ok (.ifCond .eq 34, 3) := dk_153 0 34 (dk_at dksX2_init_2_5 6 rfl rfl)
theorem dX2_init_2_121 : decode cX2_init_2 121 = .ok (.aload_n 3, 1) := dk_45 (dk_at dksX2_init_2_5 9 rfl rfl)
theorem dX2_init_2_122 : decode cX2_init_2 122 = .ok (.invokeinterface 58 1, 5) := by decide +kernel
theorem dX2_init_2_127 : decode cX2_init_2 127 = .ok (.checkcast 71, 3) := dk_192 0 71 (dk_at dksX2_init_2_5 15 rfl rfl)
theorem dX2_init_2_130 : decode cX2_init_2 130 = .ok (.astore 4, 2) := dk_58 4 (dk_at dksX2_init_2_5 18 rfl rfl)
theorem dX2_init_2_132 : decode cX2_init_2 132 = .ok (.aload_n 0, 1) := dk_42 (dk_at dksX2_init_2_5 20 rfl rfl)
theorem dX2_init_2_133 : decode cX2_init_2 133 = .ok (.getfield 18, 3) := dk_180 0 18 (dk_at dksX2_init_2_5 21 rfl rfl)
theorem dX2_init_2_136 : decode cX2_init_2 136 = .ok (.new 71, 3) := dk_187 0 71 (dk_at dksX2_init_2_6 0 rfl rfl)
theorem dX2_init_2_139 : decode cX2_init_2 139 = .ok (.dup, 1) := dk_89 (dk_at dksX2_init_2_6 3 rfl rfl)
theorem dX2_init_2_140 : decode cX2_init_2 140 = .ok (.aload 4, 2) := dk_25 4 (dk_at dksX2_init_2_6 4 rfl rfl)
theorem dX2_init_2_142 : decode cX2_init_2 142 = .ok (.invokespecial 73, 3) := dk_183 0 73 (dk_at dksX2_init_2_6 6 rfl rfl)
theorem dX2_init_2_145 : decode cX2_init_2 145 = .ok (.invokevirtual 67, 3) := dk_182 0 67 (dk_at dksX2_init_2_6 9 rfl rfl)
theorem dX2_init_2_148 : decode cX2_init_2 148 = .ok (.istore_n 2, 1) := dk_61 (dk_at dksX2_init_2_6 12 rfl rfl)
theorem dX2_init_2_149 : decode cX2_init_2 149 = .ok (.goto (-37), 3) := dk_167 255 219 (dk_at dksX2_init_2_6 13 rfl rfl)
theorem dX2_init_2_152 : decode cX2_init_2 152 = .ok (.aload_n 1, 1) := dk_43 (dk_at dksX2_init_2_6 16 rfl rfl)
theorem dX2_init_2_153 : decode cX2_init_2 153 = .ok (.getfield 24, 3) := dk_180 0 24 (dk_at dksX2_init_2_6 17 rfl rfl)
theorem dX2_init_2_156 : decode cX2_init_2 156 = .ok (.invokevirtual 76, 3) := dk_182 0 76 (dk_at dksX2_init_2_6 20 rfl rfl)
theorem dX2_init_2_159 : decode cX2_init_2 159 = .ok (.astore_n 3, 1) := dk_78 (dk_at dksX2_init_2_6 23 rfl rfl)
theorem dX2_init_2_160 : decode cX2_init_2 160 = .ok (.aload_n 3, 1) := dk_45 (dk_at dksX2_init_2_7 0 rfl rfl)
theorem dX2_init_2_161 : decode cX2_init_2 161 = .ok (.invokeinterface 52 1, 5) := by decide +kernel
theorem dX2_init_2_166 : decode cX2_init_2 166 = .ok (.ifCond .eq 41, 3) := dk_153 0 41 (dk_at dksX2_init_2_7 6 rfl rfl)
theorem dX2_init_2_169 : decode cX2_init_2 169 = .ok (.aload_n 3, 1) := dk_45 (dk_at dksX2_init_2_7 9 rfl rfl)
theorem dX2_init_2_170 : decode cX2_init_2 170 = .ok (.invokeinterface 58 1, 5) := by decide +kernel
theorem dX2_init_2_175 : decode cX2_init_2 175 = .ok (.checkcast 77, 3) := dk_192 0 77 (dk_at dksX2_init_2_7 15 rfl rfl)
theorem dX2_init_2_178 : decode cX2_init_2 178 = .ok (.astore 4, 2) := dk_58 4 (dk_at dksX2_init_2_7 18 rfl rfl)
theorem dX2_init_2_180 : decode cX2_init_2 180 = .ok (.aload_n 0, 1) := dk_42 (dk_at dksX2_init_2_7 20 rfl rfl)
theorem dX2_init_2_181 : decode cX2_init_2 181 = .ok (.getfield 24, 3) := dk_180 0 24 (dk_at dksX2_init_2_7 21 rfl rfl)
theorem dX2_init_2_184 : decode cX2_init_2 184 = .ok (.new 77, 3) := dk_187 0 77 (dk_at dksX2_init_2_8 0 rfl rfl)
theorem dX2_init_2_187 : decode cX2_init_2 187 = .ok (.dup, 1) := dk_89 (dk_at dksX2_init_2_8 3 rfl rfl)
theorem dX2_init_2_188 : decode cX2_init_2 188 = .ok (.aload 4, 2) := dk_25 4 (dk_at dksX2_init_2_8 4 rfl rfl)
theorem dX2_init_2_190 : decode cX2_init_2 190 = .ok (.getfield 79, 3) := dk_180 0 79 (dk_at dksX2_init_2_8 6 rfl rfl)
theorem dX2_init_2_193 : decode cX2_init_2 193 = .ok (.aload 4, 2) := dk_25 4 (dk_at dksX2_init_2_8 9 rfl rfl)
theorem dX2_init_2_195 : decode cX2_init_2 195 = .ok (.getfield 82, 3) := dk_180 0 82 (dk_at dksX2_init_2_8 11 rfl rfl)
theorem dX2_init_2_198 : decode cX2_init_2 198 = .ok (.invokespecial 85, 3) := dk_183 0 85 (dk_at dksX2_init_2_8 14 rfl rfl)
theorem dX2_init_2_201 : decode cX2_init_2 201 = .ok (.invokevirtual 88, 3) := dk_182 0 88 (dk_at dksX2_init_2_8 17 rfl rfl)
theorem dX2_init_2_204 : decode cX2_init_2 204 = .ok (.goto (-44), 3) := dk_167 255 212 (dk_at dksX2_init_2_8 20 rfl rfl)
theorem dX2_init_2_207 : decode cX2_init_2 207 = .ok (.aload_n 1, 1) := dk_43 (dk_at dksX2_init_2_8 23 rfl rfl)
theorem dX2_init_2_208 : decode cX2_init_2 208 = .ok (.getfield 28, 3) := dk_180 0 28 (dk_at dksX2_init_2_9 0 rfl rfl)
theorem dX2_init_2_211 : decode cX2_init_2 211 = .ok (.invokevirtual 48, 3) := dk_182 0 48 (dk_at dksX2_init_2_9 3 rfl rfl)
theorem dX2_init_2_214 : decode cX2_init_2 214 = .ok (.astore_n 3, 1) := dk_78 (dk_at dksX2_init_2_9 6 rfl rfl)
theorem dX2_init_2_215 : decode cX2_init_2 215 = .ok (.aload_n 3, 1) := dk_45 (dk_at dksX2_init_2_9 7 rfl rfl)
theorem dX2_init_2_216 : decode cX2_init_2 216 = .ok (.invokeinterface 52 1, 5) := by decide +kernel
theorem dX2_init_2_221 : decode cX2_init_2 221 = .ok (.ifCond .eq 42, 3) := dk_153 0 42 (dk_at dksX2_init_2_9 13 rfl rfl)
theorem dX2_init_2_224 : decode cX2_init_2 224 = .ok (.aload_n 3, 1) := dk_45 (dk_at dksX2_init_2_9 16 rfl rfl)
theorem dX2_init_2_225 : decode cX2_init_2 225 = .ok (.invokeinterface 58 1, 5) := by decide +kernel
theorem dX2_init_2_230 : decode cX2_init_2 230 = .ok (.checkcast 92, 3) := dk_192 0 92 (dk_at dksX2_init_2_10 0 rfl rfl)
theorem dX2_init_2_233 : decode cX2_init_2 233 = .ok (.astore 4, 2) := dk_58 4 (dk_at dksX2_init_2_10 3 rfl rfl)
theorem dX2_init_2_235 : decode cX2_init_2 235 = .ok (.aload_n 0, 1) := dk_42 (dk_at dksX2_init_2_10 5 rfl rfl)
theorem dX2_init_2_236 : decode cX2_init_2 236 = .ok (.getfield 28, 3) := dk_180 0 28 (dk_at dksX2_init_2_10 6 rfl rfl)
theorem dX2_init_2_239 : decode cX2_init_2 239 = .ok (.new 92, 3) := dk_187 0 92 (dk_at dksX2_init_2_10 9 rfl rfl)
theorem dX2_init_2_242 : decode cX2_init_2 242 = .ok (.dup, 1) := dk_89 (dk_at dksX2_init_2_10 12 rfl rfl)
theorem dX2_init_2_243 : decode cX2_init_2 243 = .ok (.aload 4, 2) := dk_25 4 (dk_at dksX2_init_2_10 13 rfl rfl)
theorem dX2_init_2_245 : decode cX2_init_2 245 = .ok (.getfield 94, 3) := dk_180 0 94 (dk_at dksX2_init_2_10 15 rfl rfl)
theorem dX2_init_2_248 : decode cX2_init_2 248 = .ok (.aload 4, 2) := dk_25 4 (dk_at dksX2_init_2_10 18 rfl rfl)
theorem dX2_init_2_250 : decode cX2_init_2 250 = .ok (.getfield 97, 3) := dk_180 0 97 (dk_at dksX2_init_2_10 20 rfl rfl)
theorem dX2_init_2_253 : decode cX2_init_2 253 = .ok (.invokespecial 100, 3) := dk_183 0 100 (dk_at dksX2_init_2_11 0 rfl rfl)
theorem dX2_init_2_256 : decode cX2_init_2 256 = .ok (.invokevirtual 67, 3) := dk_182 0 67 (dk_at dksX2_init_2_11 3 rfl rfl)
theorem dX2_init_2_259 : decode cX2_init_2 259 = .ok (.istore_n 2, 1) := dk_61 (dk_at dksX2_init_2_11 6 rfl rfl)
theorem dX2_init_2_260 : decode cX2_init_2 260 = .ok (.goto (-45), 3) := dk_167 255 211 (dk_at dksX2_init_2_11 7 rfl rfl)
theorem dX2_init_2_263 : decode cX2_init_2 263 = .ok (.aload_n 0, 1) := dk_42 (dk_at dksX2_init_2_11 10 rfl rfl)
theorem dX2_init_2_264 : decode cX2_init_2 264 = .ok (.aload_n 1, 1) := dk_43 (dk_at dksX2_init_2_11 11 rfl rfl)
theorem dX2_init_2_265 : decode cX2_init_2 265 = .ok (.getfield 35, 3) := dk_180 0 35 (dk_at dksX2_init_2_11 12 rfl rfl)
theorem dX2_init_2_268 : decode cX2_init_2 268 = .ok (.putfield 35, 3) := dk_181 0 35 (dk_at dksX2_init_2_11 15 rfl rfl)
theorem dX2_init_2_271 : decode cX2_init_2 271 = .ok (.aload_n 0, 1) := dk_42 (dk_at dksX2_init_2_11 18 rfl rfl)
theorem dX2_init_2_272 : decode cX2_init_2 272 = .ok (.aload_n 1, 1) := dk_43 (dk_at dksX2_init_2_11 19 rfl rfl)
theorem dX2_init_2_273 : decode cX2_init_2 273 = .ok (.getfield 39, 3) := dk_180 0 39 (dk_at dksX2_init_2_11 20 rfl rfl)
theorem dX2_init_2_276 : decode cX2_init_2 276 = .ok (.putfield 39, 3) := dk_181 0 39 (dk_at dksX2_init_2_12 0 rfl rfl)
theorem dX2_init_2_279 : decode cX2_init_2 279 = .ok (.aload_n 0, 1) := dk_42 (dk_at dksX2_init_2_12 3 rfl rfl)
theorem dX2_init_2_280 : decode cX2_init_2 280 = .ok (.aload_n 1, 1) := dk_43 (dk_at dksX2_init_2_12 4 rfl rfl)
theorem dX2_init_2_281 : decode cX2_init_2 281 = .ok (.getfield 42, 3) := dk_180 0 42 (dk_at dksX2_init_2_12 5 rfl rfl)
theorem dX2_init_2_284 : decode cX2_init_2 284 = .ok (.putfield 42, 3) := dk_181 0 42 (dk_at dksX2_init_2_12 8 rfl rfl)
theorem dX2_init_2_287 : decode cX2_init_2 287 = .ok (.aload_n 0, 1) := dk_42 (dk_at dksX2_init_2_12 11 rfl rfl)
theorem dX2_init_2_288 : decode cX2_init_2 288 = .ok (.aload_n 1, 1) := dk_43 (dk_at dksX2_init_2_12 12 rfl rfl)
theorem dX2_init_2_289 : decode cX2_init_2 289 = .ok (.getfield 101, 3) := dk_180 0 101 (dk_at dksX2_init_2_12 13 rfl rfl)
theorem dX2_init_2_292 : decode cX2_init_2 292 = .ok (.putfield 101, 3) := dk_181 0 101 (dk_at dksX2_init_2_12 16 rfl rfl)
theorem dX2_init_2_295 : decode cX2_init_2 295 = .ok (.aload_n 0, 1) := dk_42 (dk_at dksX2_init_2_12 19 rfl rfl)
theorem dX2_init_2_296 : decode cX2_init_2 296 = .ok (.aload_n 1, 1) := dk_43 (dk_at dksX2_init_2_12 20 rfl rfl)
theorem dX2_init_2_297 : decode cX2_init_2 297 = .ok (.getfield 104, 3) := dk_180 0 104 (dk_at dksX2_init_2_12 21 rfl rfl)
theorem dX2_init_2_300 : decode cX2_init_2 300 = .ok (.putfield 104, 3) := dk_181 0 104 (dk_at dksX2_init_2_13 0 rfl rfl)
theorem dX2_init_2_303 : decode cX2_init_2 303 = .ok (.aload_n 0, 1) := dk_42 (dk_at dksX2_init_2_13 3 rfl rfl)
theorem dX2_init_2_304 : decode cX2_init_2 304 = .ok (.aload_n 1, 1) := dk_43 (dk_at dksX2_init_2_13 4 rfl rfl)
theorem dX2_init_2_305 : decode cX2_init_2 305 = .ok (.getfield 107, 3) := dk_180 0 107 (dk_at dksX2_init_2_13 5 rfl rfl)
theorem dX2_init_2_308 : decode cX2_init_2 308 = .ok (.putfield 107, 3) := dk_181 0 107 (dk_at dksX2_init_2_13 8 rfl rfl)
theorem dX2_init_2_311 : decode cX2_init_2 311 = .ok (.aload_n 0, 1) := dk_42 (dk_at dksX2_init_2_13 11 rfl rfl)
theorem dX2_init_2_312 : decode cX2_init_2 312 = .ok (.aload_n 1, 1) := dk_43 (dk_at dksX2_init_2_13 12 rfl rfl)
theorem dX2_init_2_313 : decode cX2_init_2 313 = .ok (.getfield 110, 3) := dk_180 0 110 (dk_at dksX2_init_2_13 13 rfl rfl)
theorem dX2_init_2_316 : decode cX2_init_2 316 = .ok (.putfield 110, 3) := dk_181 0 110 (dk_at dksX2_init_2_13 16 rfl rfl)
theorem dX2_init_2_319 : decode cX2_init_2 319 = .ok (.aload_n 0, 1) := dk_42 (dk_at dksX2_init_2_13 19 rfl rfl)
theorem dX2_init_2_320 : decode cX2_init_2 320 = .ok (.aload_n 1, 1) := dk_43 (dk_at dksX2_init_2_13 20 rfl rfl)
theorem dX2_init_2_321 : decode cX2_init_2 321 = .ok (.getfield 113, 3) := dk_180 0 113 (dk_at dksX2_init_2_13 21 rfl rfl)
theorem dX2_init_2_324 : decode cX2_init_2 324 = .ok (.putfield 113, 3) := dk_181 0 113 (dk_at dksX2_init_2_14 0 rfl rfl)
theorem dX2_init_2_327 : decode cX2_init_2 327 = .ok (.aload_n 0, 1) := dk_42 (dk_at dksX2_init_2_14 3 rfl rfl)
theorem dX2_init_2_328 : decode cX2_init_2 328 = .ok (.aload_n 1, 1) := dk_43 (dk_at dksX2_init_2_14 4 rfl rfl)
theorem dX2_init_2_329 : decode cX2_init_2 329 = .ok (.getfield 116, 3) := dk_180 0 116 (dk_at dksX2_init_2_14 5 rfl rfl)
theorem dX2_init_2_332 : decode cX2_init_2 332 = .ok (.putfield 116, 3) := dk_181 0 116 (dk_at dksX2_init_2_14 8 rfl rfl)
theorem dX2_init_2_335 : decode cX2_init_2 335 = .ok (.aload_n 0, 1) := dk_42 (dk_at dksX2_init_2_14 11 rfl rfl)
theorem dX2_init_2_336 : decode cX2_init_2 336 = .ok (.aload_n 1, 1) := dk_43 (dk_at dksX2_init_2_14 12 rfl rfl)
theorem dX2_init_2_337 : decode cX2_init_2 337 = .ok (.getfield 119, 3) := dk_180 0 119 (dk_at dksX2_init_2_14 13 rfl rfl)
theorem dX2_init_2_340 : decode cX2_init_2 340 = .ok (.putfield 119, 3) := dk_181 0 119 (dk_at dksX2_init_2_14 16 rfl rfl)
theorem dX2_init_2_343 : decode cX2_init_2 343 = .ok (.return_, 1) := dk_177 (dk_at dksX2_init_2_14 19 rfl rfl)
abbrev cX2_addPool : ByteArray := prog_29_method_11_code
def yX2_addPool : MethodName := ⟨RX2, "addPool", "(I)I"⟩
def dkwX2_addPool_2 : List UInt8 := [182, 0, 67, 61, 42, 180, 0, 12, 182, 0, 122, 4, 100, 172]
abbrev dktX2_addPool_2 : List UInt8 := dkwX2_addPool_2 ++ []
def dkwX2_addPool_1 : List UInt8 := [167, 0, 4, 3, 4, 16, 6, 184, 0, 188, 42, 180, 0, 12, 187, 0, 62, 89, 27, 183, 0, 192]
abbrev dktX2_addPool_1 : List UInt8 := dkwX2_addPool_1 ++ dktX2_addPool_2
def dkwX2_addPool_0 : List UInt8 := [27, 8, 16, 99, 184, 0, 180, 184, 0, 184, 42, 180, 0, 12, 182, 0, 122, 16, 6, 160, 0, 7, 4]
abbrev dktX2_addPool_0 : List UInt8 := dkwX2_addPool_0 ++ dktX2_addPool_1
theorem dksX2_addPool_0 : cX2_addPool.data.toList.drop 0 = dktX2_addPool_0 := by decide +kernel
theorem dksX2_addPool_1 : cX2_addPool.data.toList.drop 23 = dktX2_addPool_1 := dk_seg dksX2_addPool_0 23 rfl rfl
theorem dksX2_addPool_2 : cX2_addPool.data.toList.drop 45 = dktX2_addPool_2 := dk_seg dksX2_addPool_1 22 rfl rfl
theorem dX2_addPool_0 : decode cX2_addPool 0 = .ok (.iload_n 1, 1) := dk_27 (dk_at dksX2_addPool_0 0 rfl rfl)
theorem dX2_addPool_1 : decode cX2_addPool 1 = .ok (.iconst 5, 1) := dk_8 (dk_at dksX2_addPool_0 1 rfl rfl)
theorem dX2_addPool_2 : decode cX2_addPool 2 = .ok (.bipush 99, 2) := dk_16 99 (dk_at dksX2_addPool_0 2 rfl rfl)
theorem dX2_addPool_4 : decode cX2_addPool 4 = .ok (.invokestatic 180, 3) := dk_184 0 180 (dk_at dksX2_addPool_0 4 rfl rfl)
theorem dX2_addPool_7 : decode cX2_addPool 7 = .ok (.invokestatic 184, 3) := dk_184 0 184 (dk_at dksX2_addPool_0 7 rfl rfl)
theorem dX2_addPool_10 : decode cX2_addPool 10 = .ok (.aload_n 0, 1) := dk_42 (dk_at dksX2_addPool_0 10 rfl rfl)
theorem dX2_addPool_11 : decode cX2_addPool 11 = .ok (.getfield 12, 3) := dk_180 0 12 (dk_at dksX2_addPool_0 11 rfl rfl)
theorem dX2_addPool_14 : decode cX2_addPool 14 = .ok (.invokevirtual 122, 3) := dk_182 0 122 (dk_at dksX2_addPool_0 14 rfl rfl)
theorem dX2_addPool_17 : decode cX2_addPool 17 = .ok (.bipush 6, 2) := dk_16 6 (dk_at dksX2_addPool_0 17 rfl rfl)
theorem dX2_addPool_19 : decode cX2_addPool 19 = .ok (.if_icmp .ne 7, 3) := dk_160 0 7 (dk_at dksX2_addPool_0 19 rfl rfl)
theorem dX2_addPool_22 : decode cX2_addPool 22 = .ok (.iconst 1, 1) := dk_4 (dk_at dksX2_addPool_0 22 rfl rfl)
theorem dX2_addPool_23 : decode cX2_addPool 23 = .ok (.goto 4, 3) := dk_167 0 4 (dk_at dksX2_addPool_1 0 rfl rfl)
theorem dX2_addPool_26 : decode cX2_addPool 26 = .ok (.iconst 0, 1) := dk_3 (dk_at dksX2_addPool_1 3 rfl rfl)
theorem dX2_addPool_27 : decode cX2_addPool 27 = .ok (.iconst 1, 1) := dk_4 (dk_at dksX2_addPool_1 4 rfl rfl)
theorem dX2_addPool_28 : decode cX2_addPool 28 = .ok (.bipush 6, 2) := dk_16 6 (dk_at dksX2_addPool_1 5 rfl rfl)
theorem dX2_addPool_30 : decode cX2_addPool 30 = .ok (.invokestatic 188, 3) := dk_184 0 188 (dk_at dksX2_addPool_1 7 rfl rfl)
theorem dX2_addPool_33 : decode cX2_addPool 33 = .ok (.aload_n 0, 1) := dk_42 (dk_at dksX2_addPool_1 10 rfl rfl)
theorem dX2_addPool_34 : decode cX2_addPool 34 = .ok (.getfield 12, 3) := dk_180 0 12 (dk_at dksX2_addPool_1 11 rfl rfl)
theorem dX2_addPool_37 : decode cX2_addPool 37 = .ok (.new 62, 3) := dk_187 0 62 (dk_at dksX2_addPool_1 14 rfl rfl)
theorem dX2_addPool_40 : decode cX2_addPool 40 = .ok (.dup, 1) := dk_89 (dk_at dksX2_addPool_1 17 rfl rfl)
theorem dX2_addPool_41 : decode cX2_addPool 41 = .ok (.iload_n 1, 1) := dk_27 (dk_at dksX2_addPool_1 18 rfl rfl)
theorem dX2_addPool_42 : decode cX2_addPool 42 = .ok (.invokespecial 192, 3) := dk_183 0 192 (dk_at dksX2_addPool_1 19 rfl rfl)
theorem dX2_addPool_45 : decode cX2_addPool 45 = .ok (.invokevirtual 67, 3) := dk_182 0 67 (dk_at dksX2_addPool_2 0 rfl rfl)
theorem dX2_addPool_48 : decode cX2_addPool 48 = .ok (.istore_n 2, 1) := dk_61 (dk_at dksX2_addPool_2 3 rfl rfl)
theorem dX2_addPool_49 : decode cX2_addPool 49 = .ok (.aload_n 0, 1) := dk_42 (dk_at dksX2_addPool_2 4 rfl rfl)
theorem dX2_addPool_50 : decode cX2_addPool 50 = .ok (.getfield 12, 3) := dk_180 0 12 (dk_at dksX2_addPool_2 5 rfl rfl)
theorem dX2_addPool_53 : decode cX2_addPool 53 = .ok (.invokevirtual 122, 3) := dk_182 0 122 (dk_at dksX2_addPool_2 8 rfl rfl)
theorem dX2_addPool_56 : decode cX2_addPool 56 = .ok (.iconst 1, 1) := dk_4 (dk_at dksX2_addPool_2 11 rfl rfl)
theorem dX2_addPool_57 : decode cX2_addPool 57 = .ok (.isub, 1) := dk_100 (dk_at dksX2_addPool_2 12 rfl rfl)
theorem dX2_addPool_58 : decode cX2_addPool 58 = .ok (.ireturn, 1) := dk_172 (dk_at dksX2_addPool_2 13 rfl rfl)
abbrev cX2_addPearl : ByteArray := prog_29_method_12_code
def yX2_addPearl : MethodName := ⟨RX2, "addPearl", "(II)I"⟩
def dkwX2_addPearl_3 : List UInt8 := [182, 0, 122, 4, 100, 172]
abbrev dktX2_addPearl_3 : List UInt8 := dkwX2_addPearl_3 ++ []
def dkwX2_addPearl_2 : List UInt8 := [183, 0, 203, 182, 0, 67, 54, 4, 42, 89, 180, 0, 116, 28, 96, 181, 0, 116, 45, 180, 0, 198]
abbrev dktX2_addPearl_2 : List UInt8 := dkwX2_addPearl_2 ++ dktX2_addPearl_3
def dkwX2_addPearl_1 : List UInt8 := [160, 0, 7, 4, 167, 0, 4, 3, 4, 8, 184, 0, 188, 45, 180, 0, 198, 187, 0, 201, 89, 28]
abbrev dktX2_addPearl_1 : List UInt8 := dkwX2_addPearl_1 ++ dktX2_addPearl_2
def dkwX2_addPearl_0 : List UInt8 := [42, 27, 182, 0, 195, 78, 28, 4, 16, 99, 184, 0, 180, 184, 0, 184, 45, 180, 0, 198, 182, 0, 122, 8]
abbrev dktX2_addPearl_0 : List UInt8 := dkwX2_addPearl_0 ++ dktX2_addPearl_1
theorem dksX2_addPearl_0 : cX2_addPearl.data.toList.drop 0 = dktX2_addPearl_0 := by decide +kernel
theorem dksX2_addPearl_1 : cX2_addPearl.data.toList.drop 24 = dktX2_addPearl_1 := dk_seg dksX2_addPearl_0 24 rfl rfl
theorem dksX2_addPearl_2 : cX2_addPearl.data.toList.drop 46 = dktX2_addPearl_2 := dk_seg dksX2_addPearl_1 22 rfl rfl
theorem dksX2_addPearl_3 : cX2_addPearl.data.toList.drop 68 = dktX2_addPearl_3 := dk_seg dksX2_addPearl_2 22 rfl rfl
theorem dX2_addPearl_0 : decode cX2_addPearl 0 = .ok (.aload_n 0, 1) := dk_42 (dk_at dksX2_addPearl_0 0 rfl rfl)
theorem dX2_addPearl_1 : decode cX2_addPearl 1 = .ok (.iload_n 1, 1) := dk_27 (dk_at dksX2_addPearl_0 1 rfl rfl)
theorem dX2_addPearl_2 : decode cX2_addPearl 2 = .ok (.invokevirtual 195, 3) := dk_182 0 195 (dk_at dksX2_addPearl_0 2 rfl rfl)
theorem dX2_addPearl_5 : decode cX2_addPearl 5 = .ok (.astore_n 3, 1) := dk_78 (dk_at dksX2_addPearl_0 5 rfl rfl)
theorem dX2_addPearl_6 : decode cX2_addPearl 6 = .ok (.iload_n 2, 1) := dk_28 (dk_at dksX2_addPearl_0 6 rfl rfl)
theorem dX2_addPearl_7 : decode cX2_addPearl 7 = .ok (.iconst 1, 1) := dk_4 (dk_at dksX2_addPearl_0 7 rfl rfl)
theorem dX2_addPearl_8 : decode cX2_addPearl 8 = .ok (.bipush 99, 2) := dk_16 99 (dk_at dksX2_addPearl_0 8 rfl rfl)
theorem dX2_addPearl_10 : decode cX2_addPearl 10 = .ok (.invokestatic 180, 3) := dk_184 0 180 (dk_at dksX2_addPearl_0 10 rfl rfl)
theorem dX2_addPearl_13 : decode cX2_addPearl 13 = .ok (.invokestatic 184, 3) := dk_184 0 184 (dk_at dksX2_addPearl_0 13 rfl rfl)
theorem dX2_addPearl_16 : decode cX2_addPearl 16 = .ok (.aload_n 3, 1) := dk_45 (dk_at dksX2_addPearl_0 16 rfl rfl)
theorem dX2_addPearl_17 : decode cX2_addPearl 17 = .ok (.getfield 198, 3) := dk_180 0 198 (dk_at dksX2_addPearl_0 17 rfl rfl)
theorem dX2_addPearl_20 : decode cX2_addPearl 20 = .ok (.invokevirtual 122, 3) := dk_182 0 122 (dk_at dksX2_addPearl_0 20 rfl rfl)
theorem dX2_addPearl_23 : decode cX2_addPearl 23 = .ok (.iconst 5, 1) := dk_8 (dk_at dksX2_addPearl_0 23 rfl rfl)
theorem dX2_addPearl_24 : decode cX2_addPearl 24 = .ok (.if_icmp .ne 7, 3) := dk_160 0 7 (dk_at dksX2_addPearl_1 0 rfl rfl)
theorem dX2_addPearl_27 : decode cX2_addPearl 27 = .ok (.iconst 1, 1) := dk_4 (dk_at dksX2_addPearl_1 3 rfl rfl)
theorem dX2_addPearl_28 : decode cX2_addPearl 28 = .ok (.goto 4, 3) := dk_167 0 4 (dk_at dksX2_addPearl_1 4 rfl rfl)
theorem dX2_addPearl_31 : decode cX2_addPearl 31 = .ok (.iconst 0, 1) := dk_3 (dk_at dksX2_addPearl_1 7 rfl rfl)
theorem dX2_addPearl_32 : decode cX2_addPearl 32 = .ok (.iconst 1, 1) := dk_4 (dk_at dksX2_addPearl_1 8 rfl rfl)
theorem dX2_addPearl_33 : decode cX2_addPearl 33 = .ok (.iconst 5, 1) := dk_8 (dk_at dksX2_addPearl_1 9 rfl rfl)
theorem dX2_addPearl_34 : decode cX2_addPearl 34 = .ok (.invokestatic 188, 3) := dk_184 0 188 (dk_at dksX2_addPearl_1 10 rfl rfl)
theorem dX2_addPearl_37 : decode cX2_addPearl 37 = .ok (.aload_n 3, 1) := dk_45 (dk_at dksX2_addPearl_1 13 rfl rfl)
theorem dX2_addPearl_38 : decode cX2_addPearl 38 = .ok (.getfield 198, 3) := dk_180 0 198 (dk_at dksX2_addPearl_1 14 rfl rfl)
theorem dX2_addPearl_41 : decode cX2_addPearl 41 = .ok (.new 201, 3) := dk_187 0 201 (dk_at dksX2_addPearl_1 17 rfl rfl)
theorem dX2_addPearl_44 : decode cX2_addPearl 44 = .ok (.dup, 1) := dk_89 (dk_at dksX2_addPearl_1 20 rfl rfl)
theorem dX2_addPearl_45 : decode cX2_addPearl 45 = .ok (.iload_n 2, 1) := dk_28 (dk_at dksX2_addPearl_1 21 rfl rfl)
theorem dX2_addPearl_46 : decode cX2_addPearl 46 = .ok (.invokespecial 203, 3) := dk_183 0 203 (dk_at dksX2_addPearl_2 0 rfl rfl)
theorem dX2_addPearl_49 : decode cX2_addPearl 49 = .ok (.invokevirtual 67, 3) := dk_182 0 67 (dk_at dksX2_addPearl_2 3 rfl rfl)
theorem dX2_addPearl_52 : decode cX2_addPearl 52 = .ok (.istore 4, 2) := dk_54 4 (dk_at dksX2_addPearl_2 6 rfl rfl)
theorem dX2_addPearl_54 : decode cX2_addPearl 54 = .ok (.aload_n 0, 1) := dk_42 (dk_at dksX2_addPearl_2 8 rfl rfl)
theorem dX2_addPearl_55 : decode cX2_addPearl 55 = .ok (.dup, 1) := dk_89 (dk_at dksX2_addPearl_2 9 rfl rfl)
theorem dX2_addPearl_56 : decode cX2_addPearl 56 = .ok (.getfield 116, 3) := dk_180 0 116 (dk_at dksX2_addPearl_2 10 rfl rfl)
theorem dX2_addPearl_59 : decode cX2_addPearl 59 = .ok (.iload_n 2, 1) := dk_28 (dk_at dksX2_addPearl_2 13 rfl rfl)
theorem dX2_addPearl_60 : decode cX2_addPearl 60 = .ok (.iadd, 1) := dk_96 (dk_at dksX2_addPearl_2 14 rfl rfl)
theorem dX2_addPearl_61 : decode cX2_addPearl 61 = .ok (.putfield 116, 3) := dk_181 0 116 (dk_at dksX2_addPearl_2 15 rfl rfl)
theorem dX2_addPearl_64 : decode cX2_addPearl 64 = .ok (.aload_n 3, 1) := dk_45 (dk_at dksX2_addPearl_2 18 rfl rfl)
theorem dX2_addPearl_65 : decode cX2_addPearl 65 = .ok (.getfield 198, 3) := dk_180 0 198 (dk_at dksX2_addPearl_2 19 rfl rfl)
theorem dX2_addPearl_68 : decode cX2_addPearl 68 = .ok (.invokevirtual 122, 3) := dk_182 0 122 (dk_at dksX2_addPearl_3 0 rfl rfl)
theorem dX2_addPearl_71 : decode cX2_addPearl 71 = .ok (.iconst 1, 1) := dk_4 (dk_at dksX2_addPearl_3 3 rfl rfl)
theorem dX2_addPearl_72 : decode cX2_addPearl 72 = .ok (.isub, 1) := dk_100 (dk_at dksX2_addPearl_3 4 rfl rfl)
theorem dX2_addPearl_73 : decode cX2_addPearl 73 = .ok (.ireturn, 1) := dk_172 (dk_at dksX2_addPearl_3 5 rfl rfl)
abbrev cX2_pool : ByteArray := prog_29_method_3_code
def yX2_pool : MethodName := ⟨RX2, "pool", "(I)LCavePearls$Pool;"⟩
def dkwX2_pool_0 : List UInt8 := [27, 42, 180, 0, 12, 182, 0, 122, 184, 0, 126, 42, 180, 0, 12, 27, 182, 0, 129, 192, 0, 62, 176]
abbrev dktX2_pool_0 : List UInt8 := dkwX2_pool_0 ++ []
theorem dksX2_pool_0 : cX2_pool.data.toList.drop 0 = dktX2_pool_0 := by decide +kernel
theorem dX2_pool_0 : decode cX2_pool 0 = .ok (.iload_n 1, 1) := dk_27 (dk_at dksX2_pool_0 0 rfl rfl)
theorem dX2_pool_1 : decode cX2_pool 1 = .ok (.aload_n 0, 1) := dk_42 (dk_at dksX2_pool_0 1 rfl rfl)
theorem dX2_pool_2 : decode cX2_pool 2 = .ok (.getfield 12, 3) := dk_180 0 12 (dk_at dksX2_pool_0 2 rfl rfl)
theorem dX2_pool_5 : decode cX2_pool 5 = .ok (.invokevirtual 122, 3) := dk_182 0 122 (dk_at dksX2_pool_0 5 rfl rfl)
theorem dX2_pool_8 : decode cX2_pool 8 = .ok (.invokestatic 126, 3) := dk_184 0 126 (dk_at dksX2_pool_0 8 rfl rfl)
theorem dX2_pool_11 : decode cX2_pool 11 = .ok (.aload_n 0, 1) := dk_42 (dk_at dksX2_pool_0 11 rfl rfl)
theorem dX2_pool_12 : decode cX2_pool 12 = .ok (.getfield 12, 3) := dk_180 0 12 (dk_at dksX2_pool_0 12 rfl rfl)
theorem dX2_pool_15 : decode cX2_pool 15 = .ok (.iload_n 1, 1) := dk_27 (dk_at dksX2_pool_0 15 rfl rfl)
theorem dX2_pool_16 : decode cX2_pool 16 = .ok (.invokevirtual 129, 3) := dk_182 0 129 (dk_at dksX2_pool_0 16 rfl rfl)
theorem dX2_pool_19 : decode cX2_pool 19 = .ok (.checkcast 62, 3) := dk_192 0 62 (dk_at dksX2_pool_0 19 rfl rfl)
theorem dX2_pool_22 : decode cX2_pool 22 = .ok (.areturn, 1) := dk_176 (dk_at dksX2_pool_0 22 rfl rfl)
abbrev cX2_takePearl : ByteArray := prog_29_method_13_code
def yX2_takePearl : MethodName := ⟨RX2, "takePearl", "(II)I"⟩
def dkwX2_takePearl_1 : List UInt8 := [192, 0, 201, 58, 5, 42, 89, 180, 0, 119, 21, 4, 96, 181, 0, 119, 21, 4, 172]
abbrev dktX2_takePearl_1 : List UInt8 := dkwX2_takePearl_1 ++ []
def dkwX2_takePearl_0 : List UInt8 := [42, 27, 182, 0, 195, 78, 45, 28, 182, 0, 204, 180, 0, 208, 54, 4, 45, 180, 0, 198, 28, 182, 0, 210]
abbrev dktX2_takePearl_0 : List UInt8 := dkwX2_takePearl_0 ++ dktX2_takePearl_1
theorem dksX2_takePearl_0 : cX2_takePearl.data.toList.drop 0 = dktX2_takePearl_0 := by decide +kernel
theorem dksX2_takePearl_1 : cX2_takePearl.data.toList.drop 24 = dktX2_takePearl_1 := dk_seg dksX2_takePearl_0 24 rfl rfl
theorem dX2_takePearl_0 : decode cX2_takePearl 0 = .ok (.aload_n 0, 1) := dk_42 (dk_at dksX2_takePearl_0 0 rfl rfl)
theorem dX2_takePearl_1 : decode cX2_takePearl 1 = .ok (.iload_n 1, 1) := dk_27 (dk_at dksX2_takePearl_0 1 rfl rfl)
theorem dX2_takePearl_2 : decode cX2_takePearl 2 = .ok (.invokevirtual 195, 3) := dk_182 0 195 (dk_at dksX2_takePearl_0 2 rfl rfl)
theorem dX2_takePearl_5 : decode cX2_takePearl 5 = .ok (.astore_n 3, 1) := dk_78 (dk_at dksX2_takePearl_0 5 rfl rfl)
theorem dX2_takePearl_6 : decode cX2_takePearl 6 = .ok (.aload_n 3, 1) := dk_45 (dk_at dksX2_takePearl_0 6 rfl rfl)
theorem dX2_takePearl_7 : decode cX2_takePearl 7 = .ok (.iload_n 2, 1) := dk_28 (dk_at dksX2_takePearl_0 7 rfl rfl)
theorem dX2_takePearl_8 : decode cX2_takePearl 8 = .ok (.invokevirtual 204, 3) := dk_182 0 204 (dk_at dksX2_takePearl_0 8 rfl rfl)
theorem dX2_takePearl_11 : decode cX2_takePearl 11 = .ok (.getfield 208, 3) := dk_180 0 208 (dk_at dksX2_takePearl_0 11 rfl rfl)
theorem dX2_takePearl_14 : decode cX2_takePearl 14 = .ok (.istore 4, 2) := dk_54 4 (dk_at dksX2_takePearl_0 14 rfl rfl)
theorem dX2_takePearl_16 : decode cX2_takePearl 16 = .ok (.aload_n 3, 1) := dk_45 (dk_at dksX2_takePearl_0 16 rfl rfl)
theorem dX2_takePearl_17 : decode cX2_takePearl 17 = .ok (.getfield 198, 3) := dk_180 0 198 (dk_at dksX2_takePearl_0 17 rfl rfl)
theorem dX2_takePearl_20 : decode cX2_takePearl 20 = .ok (.iload_n 2, 1) := dk_28 (dk_at dksX2_takePearl_0 20 rfl rfl)
theorem dX2_takePearl_21 : decode cX2_takePearl 21 = .ok (.invokevirtual 210, 3) := dk_182 0 210 (dk_at dksX2_takePearl_0 21 rfl rfl)
theorem dX2_takePearl_24 : decode cX2_takePearl 24 = .ok (.checkcast 201, 3) := dk_192 0 201 (dk_at dksX2_takePearl_1 0 rfl rfl)
theorem dX2_takePearl_27 : decode cX2_takePearl 27 = .ok (.astore 5, 2) := dk_58 5 (dk_at dksX2_takePearl_1 3 rfl rfl)
theorem dX2_takePearl_29 : decode cX2_takePearl 29 = .ok (.aload_n 0, 1) := dk_42 (dk_at dksX2_takePearl_1 5 rfl rfl)
theorem dX2_takePearl_30 : decode cX2_takePearl 30 = .ok (.dup, 1) := dk_89 (dk_at dksX2_takePearl_1 6 rfl rfl)
theorem dX2_takePearl_31 : decode cX2_takePearl 31 = .ok (.getfield 119, 3) := dk_180 0 119 (dk_at dksX2_takePearl_1 7 rfl rfl)
theorem dX2_takePearl_34 : decode cX2_takePearl 34 = .ok (.iload 4, 2) := dk_21 4 (dk_at dksX2_takePearl_1 10 rfl rfl)
theorem dX2_takePearl_36 : decode cX2_takePearl 36 = .ok (.iadd, 1) := dk_96 (dk_at dksX2_takePearl_1 12 rfl rfl)
theorem dX2_takePearl_37 : decode cX2_takePearl 37 = .ok (.putfield 119, 3) := dk_181 0 119 (dk_at dksX2_takePearl_1 13 rfl rfl)
theorem dX2_takePearl_40 : decode cX2_takePearl 40 = .ok (.iload 4, 2) := dk_21 4 (dk_at dksX2_takePearl_1 16 rfl rfl)
theorem dX2_takePearl_42 : decode cX2_takePearl 42 = .ok (.ireturn, 1) := dk_172 (dk_at dksX2_takePearl_1 18 rfl rfl)
abbrev cX2_addStone : ByteArray := prog_29_method_14_code
def yX2_addStone : MethodName := ⟨RX2, "addStone", "(II)I"⟩
def dkwX2_addStone_3 : List UInt8 := [180, 0, 18, 182, 0, 122, 4, 100, 172]
abbrev dktX2_addStone_3 : List UInt8 := dkwX2_addStone_3 ++ []
def dkwX2_addStone_2 : List UInt8 := [42, 180, 0, 18, 182, 0, 122, 27, 28, 42, 180, 0, 45, 28, 96, 183, 0, 212, 182, 0, 67, 54, 4, 42]
abbrev dktX2_addStone_2 : List UInt8 := dkwX2_addStone_2 ++ dktX2_addStone_3
def dkwX2_addStone_1 : List UInt8 := [16, 8, 160, 0, 7, 4, 167, 0, 4, 3, 4, 16, 8, 184, 0, 188, 42, 180, 0, 18, 187, 0, 71, 89]
abbrev dktX2_addStone_1 : List UInt8 := dkwX2_addStone_1 ++ dktX2_addStone_2
def dkwX2_addStone_0 : List UInt8 := [42, 27, 182, 0, 195, 78, 28, 4, 16, 20, 184, 0, 180, 184, 0, 184, 42, 180, 0, 18, 182, 0, 122]
abbrev dktX2_addStone_0 : List UInt8 := dkwX2_addStone_0 ++ dktX2_addStone_1
theorem dksX2_addStone_0 : cX2_addStone.data.toList.drop 0 = dktX2_addStone_0 := by decide +kernel
theorem dksX2_addStone_1 : cX2_addStone.data.toList.drop 23 = dktX2_addStone_1 := dk_seg dksX2_addStone_0 23 rfl rfl
theorem dksX2_addStone_2 : cX2_addStone.data.toList.drop 47 = dktX2_addStone_2 := dk_seg dksX2_addStone_1 24 rfl rfl
theorem dksX2_addStone_3 : cX2_addStone.data.toList.drop 71 = dktX2_addStone_3 := dk_seg dksX2_addStone_2 24 rfl rfl
theorem dX2_addStone_0 : decode cX2_addStone 0 = .ok (.aload_n 0, 1) := dk_42 (dk_at dksX2_addStone_0 0 rfl rfl)
theorem dX2_addStone_1 : decode cX2_addStone 1 = .ok (.iload_n 1, 1) := dk_27 (dk_at dksX2_addStone_0 1 rfl rfl)
theorem dX2_addStone_2 : decode cX2_addStone 2 = .ok (.invokevirtual 195, 3) := dk_182 0 195 (dk_at dksX2_addStone_0 2 rfl rfl)
theorem dX2_addStone_5 : decode cX2_addStone 5 = .ok (.astore_n 3, 1) := dk_78 (dk_at dksX2_addStone_0 5 rfl rfl)
theorem dX2_addStone_6 : decode cX2_addStone 6 = .ok (.iload_n 2, 1) := dk_28 (dk_at dksX2_addStone_0 6 rfl rfl)
theorem dX2_addStone_7 : decode cX2_addStone 7 = .ok (.iconst 1, 1) := dk_4 (dk_at dksX2_addStone_0 7 rfl rfl)
theorem dX2_addStone_8 : decode cX2_addStone 8 = .ok (.bipush 20, 2) := dk_16 20 (dk_at dksX2_addStone_0 8 rfl rfl)
theorem dX2_addStone_10 : decode cX2_addStone 10 = .ok (.invokestatic 180, 3) := dk_184 0 180 (dk_at dksX2_addStone_0 10 rfl rfl)
theorem dX2_addStone_13 : decode cX2_addStone 13 = .ok (.invokestatic 184, 3) := dk_184 0 184 (dk_at dksX2_addStone_0 13 rfl rfl)
theorem dX2_addStone_16 : decode cX2_addStone 16 = .ok (.aload_n 0, 1) := dk_42 (dk_at dksX2_addStone_0 16 rfl rfl)
theorem dX2_addStone_17 : decode cX2_addStone 17 = .ok (.getfield 18, 3) := dk_180 0 18 (dk_at dksX2_addStone_0 17 rfl rfl)
theorem dX2_addStone_20 : decode cX2_addStone 20 = .ok (.invokevirtual 122, 3) := dk_182 0 122 (dk_at dksX2_addStone_0 20 rfl rfl)
theorem dX2_addStone_23 : decode cX2_addStone 23 = .ok (.bipush 8, 2) := dk_16 8 (dk_at dksX2_addStone_1 0 rfl rfl)
theorem dX2_addStone_25 : decode cX2_addStone 25 = .ok (.if_icmp .ne 7, 3) := dk_160 0 7 (dk_at dksX2_addStone_1 2 rfl rfl)
theorem dX2_addStone_28 : decode cX2_addStone 28 = .ok (.iconst 1, 1) := dk_4 (dk_at dksX2_addStone_1 5 rfl rfl)
theorem dX2_addStone_29 : decode cX2_addStone 29 = .ok (.goto 4, 3) := dk_167 0 4 (dk_at dksX2_addStone_1 6 rfl rfl)
theorem dX2_addStone_32 : decode cX2_addStone 32 = .ok (.iconst 0, 1) := dk_3 (dk_at dksX2_addStone_1 9 rfl rfl)
theorem dX2_addStone_33 : decode cX2_addStone 33 = .ok (.iconst 1, 1) := dk_4 (dk_at dksX2_addStone_1 10 rfl rfl)
theorem dX2_addStone_34 : decode cX2_addStone 34 = .ok (.bipush 8, 2) := dk_16 8 (dk_at dksX2_addStone_1 11 rfl rfl)
theorem dX2_addStone_36 : decode cX2_addStone 36 = .ok (.invokestatic 188, 3) := dk_184 0 188 (dk_at dksX2_addStone_1 13 rfl rfl)
theorem dX2_addStone_39 : decode cX2_addStone 39 = .ok (.aload_n 0, 1) := dk_42 (dk_at dksX2_addStone_1 16 rfl rfl)
theorem dX2_addStone_40 : decode cX2_addStone 40 = .ok (.getfield 18, 3) := dk_180 0 18 (dk_at dksX2_addStone_1 17 rfl rfl)
theorem dX2_addStone_43 : decode cX2_addStone 43 = .ok (.new 71, 3) := dk_187 0 71 (dk_at dksX2_addStone_1 20 rfl rfl)
theorem dX2_addStone_46 : decode cX2_addStone 46 = .ok (.dup, 1) := dk_89 (dk_at dksX2_addStone_1 23 rfl rfl)
theorem dX2_addStone_47 : decode cX2_addStone 47 = .ok (.aload_n 0, 1) := dk_42 (dk_at dksX2_addStone_2 0 rfl rfl)
theorem dX2_addStone_48 : decode cX2_addStone 48 = .ok (.getfield 18, 3) := dk_180 0 18 (dk_at dksX2_addStone_2 1 rfl rfl)
theorem dX2_addStone_51 : decode cX2_addStone 51 = .ok (.invokevirtual 122, 3) := dk_182 0 122 (dk_at dksX2_addStone_2 4 rfl rfl)
theorem dX2_addStone_54 : decode cX2_addStone 54 = .ok (.iload_n 1, 1) := dk_27 (dk_at dksX2_addStone_2 7 rfl rfl)
theorem dX2_addStone_55 : decode cX2_addStone 55 = .ok (.iload_n 2, 1) := dk_28 (dk_at dksX2_addStone_2 8 rfl rfl)
theorem dX2_addStone_56 : decode cX2_addStone 56 = .ok (.aload_n 0, 1) := dk_42 (dk_at dksX2_addStone_2 9 rfl rfl)
theorem dX2_addStone_57 : decode cX2_addStone 57 = .ok (.getfield 45, 3) := dk_180 0 45 (dk_at dksX2_addStone_2 10 rfl rfl)
theorem dX2_addStone_60 : decode cX2_addStone 60 = .ok (.iload_n 2, 1) := dk_28 (dk_at dksX2_addStone_2 13 rfl rfl)
theorem dX2_addStone_61 : decode cX2_addStone 61 = .ok (.iadd, 1) := dk_96 (dk_at dksX2_addStone_2 14 rfl rfl)
theorem dX2_addStone_62 : decode cX2_addStone 62 = .ok (.invokespecial 212, 3) := dk_183 0 212 (dk_at dksX2_addStone_2 15 rfl rfl)
theorem dX2_addStone_65 : decode cX2_addStone 65 = .ok (.invokevirtual 67, 3) := dk_182 0 67 (dk_at dksX2_addStone_2 18 rfl rfl)
theorem dX2_addStone_68 : decode cX2_addStone 68 = .ok (.istore 4, 2) := dk_54 4 (dk_at dksX2_addStone_2 21 rfl rfl)
theorem dX2_addStone_70 : decode cX2_addStone 70 = .ok (.aload_n 0, 1) := dk_42 (dk_at dksX2_addStone_2 23 rfl rfl)
theorem dX2_addStone_71 : decode cX2_addStone 71 = .ok (.getfield 18, 3) := dk_180 0 18 (dk_at dksX2_addStone_3 0 rfl rfl)
theorem dX2_addStone_74 : decode cX2_addStone 74 = .ok (.invokevirtual 122, 3) := dk_182 0 122 (dk_at dksX2_addStone_3 3 rfl rfl)
theorem dX2_addStone_77 : decode cX2_addStone 77 = .ok (.iconst 1, 1) := dk_4 (dk_at dksX2_addStone_3 6 rfl rfl)
theorem dX2_addStone_78 : decode cX2_addStone 78 = .ok (.isub, 1) := dk_100 (dk_at dksX2_addStone_3 7 rfl rfl)
theorem dX2_addStone_79 : decode cX2_addStone 79 = .ok (.ireturn, 1) := dk_172 (dk_at dksX2_addStone_3 8 rfl rfl)
abbrev cX2_sendOut : ByteArray := prog_29_method_16_code
def yX2_sendOut : MethodName := ⟨RX2, "sendOut", "(I)I"⟩
def dkwX2_sendOut_1 : List UInt8 := [180, 0, 79, 172]
abbrev dktX2_sendOut_1 : List UInt8 := dkwX2_sendOut_1 ++ []
def dkwX2_sendOut_0 : List UInt8 := [27, 42, 180, 0, 24, 182, 0, 215, 184, 0, 126, 42, 180, 0, 24, 27, 182, 0, 216, 192, 0, 77]
abbrev dktX2_sendOut_0 : List UInt8 := dkwX2_sendOut_0 ++ dktX2_sendOut_1
theorem dksX2_sendOut_0 : cX2_sendOut.data.toList.drop 0 = dktX2_sendOut_0 := by decide +kernel
theorem dksX2_sendOut_1 : cX2_sendOut.data.toList.drop 22 = dktX2_sendOut_1 := dk_seg dksX2_sendOut_0 22 rfl rfl
theorem dX2_sendOut_0 : decode cX2_sendOut 0 = .ok (.iload_n 1, 1) := dk_27 (dk_at dksX2_sendOut_0 0 rfl rfl)
theorem dX2_sendOut_1 : decode cX2_sendOut 1 = .ok (.aload_n 0, 1) := dk_42 (dk_at dksX2_sendOut_0 1 rfl rfl)
theorem dX2_sendOut_2 : decode cX2_sendOut 2 = .ok (.getfield 24, 3) := dk_180 0 24 (dk_at dksX2_sendOut_0 2 rfl rfl)
theorem dX2_sendOut_5 : decode cX2_sendOut 5 = .ok (.invokevirtual 215, 3) := dk_182 0 215 (dk_at dksX2_sendOut_0 5 rfl rfl)
theorem dX2_sendOut_8 : decode cX2_sendOut 8 = .ok (.invokestatic 126, 3) := dk_184 0 126 (dk_at dksX2_sendOut_0 8 rfl rfl)
theorem dX2_sendOut_11 : decode cX2_sendOut 11 = .ok (.aload_n 0, 1) := dk_42 (dk_at dksX2_sendOut_0 11 rfl rfl)
theorem dX2_sendOut_12 : decode cX2_sendOut 12 = .ok (.getfield 24, 3) := dk_180 0 24 (dk_at dksX2_sendOut_0 12 rfl rfl)
theorem dX2_sendOut_15 : decode cX2_sendOut 15 = .ok (.iload_n 1, 1) := dk_27 (dk_at dksX2_sendOut_0 15 rfl rfl)
theorem dX2_sendOut_16 : decode cX2_sendOut 16 = .ok (.invokevirtual 216, 3) := dk_182 0 216 (dk_at dksX2_sendOut_0 16 rfl rfl)
theorem dX2_sendOut_19 : decode cX2_sendOut 19 = .ok (.checkcast 77, 3) := dk_192 0 77 (dk_at dksX2_sendOut_0 19 rfl rfl)
theorem dX2_sendOut_22 : decode cX2_sendOut 22 = .ok (.getfield 79, 3) := dk_180 0 79 (dk_at dksX2_sendOut_1 0 rfl rfl)
theorem dX2_sendOut_25 : decode cX2_sendOut 25 = .ok (.ireturn, 1) := dk_172 (dk_at dksX2_sendOut_1 3 rfl rfl)
abbrev cX2_addLamp : ByteArray := prog_29_method_17_code
def yX2_addLamp : MethodName := ⟨RX2, "addLamp", "(I)I"⟩
def dkwX2_addLamp_2 : List UInt8 := [182, 0, 122, 4, 100, 172]
abbrev dktX2_addLamp_2 : List UInt8 := dkwX2_addLamp_2 ++ []
def dkwX2_addLamp_1 : List UInt8 := [184, 0, 188, 42, 180, 0, 28, 187, 0, 92, 89, 27, 183, 0, 217, 182, 0, 67, 62, 42, 180, 0, 28]
abbrev dktX2_addLamp_1 : List UInt8 := dkwX2_addLamp_1 ++ dktX2_addLamp_2
def dkwX2_addLamp_0 : List UInt8 := [42, 27, 182, 0, 195, 77, 42, 180, 0, 28, 182, 0, 122, 7, 160, 0, 7, 4, 167, 0, 4, 3, 4, 7]
abbrev dktX2_addLamp_0 : List UInt8 := dkwX2_addLamp_0 ++ dktX2_addLamp_1
theorem dksX2_addLamp_0 : cX2_addLamp.data.toList.drop 0 = dktX2_addLamp_0 := by decide +kernel
theorem dksX2_addLamp_1 : cX2_addLamp.data.toList.drop 24 = dktX2_addLamp_1 := dk_seg dksX2_addLamp_0 24 rfl rfl
theorem dksX2_addLamp_2 : cX2_addLamp.data.toList.drop 47 = dktX2_addLamp_2 := dk_seg dksX2_addLamp_1 23 rfl rfl
theorem dX2_addLamp_0 : decode cX2_addLamp 0 = .ok (.aload_n 0, 1) := dk_42 (dk_at dksX2_addLamp_0 0 rfl rfl)
theorem dX2_addLamp_1 : decode cX2_addLamp 1 = .ok (.iload_n 1, 1) := dk_27 (dk_at dksX2_addLamp_0 1 rfl rfl)
theorem dX2_addLamp_2 : decode cX2_addLamp 2 = .ok (.invokevirtual 195, 3) := dk_182 0 195 (dk_at dksX2_addLamp_0 2 rfl rfl)
theorem dX2_addLamp_5 : decode cX2_addLamp 5 = .ok (.astore_n 2, 1) := dk_77 (dk_at dksX2_addLamp_0 5 rfl rfl)
theorem dX2_addLamp_6 : decode cX2_addLamp 6 = .ok (.aload_n 0, 1) := dk_42 (dk_at dksX2_addLamp_0 6 rfl rfl)
theorem dX2_addLamp_7 : decode cX2_addLamp 7 = .ok (.getfield 28, 3) := dk_180 0 28 (dk_at dksX2_addLamp_0 7 rfl rfl)
theorem dX2_addLamp_10 : decode cX2_addLamp 10 = .ok (.invokevirtual 122, 3) := dk_182 0 122 (dk_at dksX2_addLamp_0 10 rfl rfl)
theorem dX2_addLamp_13 : decode cX2_addLamp 13 = .ok (.iconst 4, 1) := dk_7 (dk_at dksX2_addLamp_0 13 rfl rfl)
theorem dX2_addLamp_14 : decode cX2_addLamp 14 = .ok (.if_icmp .ne 7, 3) := dk_160 0 7 (dk_at dksX2_addLamp_0 14 rfl rfl)
theorem dX2_addLamp_17 : decode cX2_addLamp 17 = .ok (.iconst 1, 1) := dk_4 (dk_at dksX2_addLamp_0 17 rfl rfl)
theorem dX2_addLamp_18 : decode cX2_addLamp 18 = .ok (.goto 4, 3) := dk_167 0 4 (dk_at dksX2_addLamp_0 18 rfl rfl)
theorem dX2_addLamp_21 : decode cX2_addLamp 21 = .ok (.iconst 0, 1) := dk_3 (dk_at dksX2_addLamp_0 21 rfl rfl)
theorem dX2_addLamp_22 : decode cX2_addLamp 22 = .ok (.iconst 1, 1) := dk_4 (dk_at dksX2_addLamp_0 22 rfl rfl)
theorem dX2_addLamp_23 : decode cX2_addLamp 23 = .ok (.iconst 4, 1) := dk_7 (dk_at dksX2_addLamp_0 23 rfl rfl)
theorem dX2_addLamp_24 : decode cX2_addLamp 24 = .ok (.invokestatic 188, 3) := dk_184 0 188 (dk_at dksX2_addLamp_1 0 rfl rfl)
theorem dX2_addLamp_27 : decode cX2_addLamp 27 = .ok (.aload_n 0, 1) := dk_42 (dk_at dksX2_addLamp_1 3 rfl rfl)
theorem dX2_addLamp_28 : decode cX2_addLamp 28 = .ok (.getfield 28, 3) := dk_180 0 28 (dk_at dksX2_addLamp_1 4 rfl rfl)
theorem dX2_addLamp_31 : decode cX2_addLamp 31 = .ok (.new 92, 3) := dk_187 0 92 (dk_at dksX2_addLamp_1 7 rfl rfl)
theorem dX2_addLamp_34 : decode cX2_addLamp 34 = .ok (.dup, 1) := dk_89 (dk_at dksX2_addLamp_1 10 rfl rfl)
theorem dX2_addLamp_35 : decode cX2_addLamp 35 = .ok (.iload_n 1, 1) := dk_27 (dk_at dksX2_addLamp_1 11 rfl rfl)
theorem dX2_addLamp_36 : decode cX2_addLamp 36 = .ok (.invokespecial 217, 3) := dk_183 0 217 (dk_at dksX2_addLamp_1 12 rfl rfl)
theorem dX2_addLamp_39 : decode cX2_addLamp 39 = .ok (.invokevirtual 67, 3) := dk_182 0 67 (dk_at dksX2_addLamp_1 15 rfl rfl)
theorem dX2_addLamp_42 : decode cX2_addLamp 42 = .ok (.istore_n 3, 1) := dk_62 (dk_at dksX2_addLamp_1 18 rfl rfl)
theorem dX2_addLamp_43 : decode cX2_addLamp 43 = .ok (.aload_n 0, 1) := dk_42 (dk_at dksX2_addLamp_1 19 rfl rfl)
theorem dX2_addLamp_44 : decode cX2_addLamp 44 = .ok (.getfield 28, 3) := dk_180 0 28 (dk_at dksX2_addLamp_1 20 rfl rfl)
theorem dX2_addLamp_47 : decode cX2_addLamp 47 = .ok (.invokevirtual 122, 3) := dk_182 0 122 (dk_at dksX2_addLamp_2 0 rfl rfl)
theorem dX2_addLamp_50 : decode cX2_addLamp 50 = .ok (.iconst 1, 1) := dk_4 (dk_at dksX2_addLamp_2 3 rfl rfl)
theorem dX2_addLamp_51 : decode cX2_addLamp 51 = .ok (.isub, 1) := dk_100 (dk_at dksX2_addLamp_2 4 rfl rfl)
theorem dX2_addLamp_52 : decode cX2_addLamp 52 = .ok (.ireturn, 1) := dk_172 (dk_at dksX2_addLamp_2 5 rfl rfl)
abbrev cX2_enter : ByteArray := prog_29_method_15_code
def yX2_enter : MethodName := ⟨RX2, "enter", "(II)I"⟩
def dkwX2_enter_4 : List UInt8 := [100, 172]
abbrev dktX2_enter_4 : List UInt8 := dkwX2_enter_4 ++ []
def dkwX2_enter_3 : List UInt8 := [42, 180, 0, 24, 187, 0, 77, 89, 27, 28, 183, 0, 85, 182, 0, 88, 42, 180, 0, 24, 182, 0, 215, 4]
abbrev dktX2_enter_3 : List UInt8 := dkwX2_enter_3 ++ dktX2_enter_4
def dkwX2_enter_2 : List UInt8 := [184, 0, 188, 42, 180, 0, 24, 182, 0, 215, 7, 160, 0, 7, 4, 167, 0, 4, 3, 4, 7, 184, 0, 188]
abbrev dktX2_enter_2 : List UInt8 := dkwX2_enter_2 ++ dktX2_enter_3
def dkwX2_enter_1 : List UInt8 := [3, 184, 0, 184, 42, 180, 0, 35, 16, 80, 161, 0, 7, 4, 167, 0, 4, 3, 8, 42, 180, 0, 35]
abbrev dktX2_enter_1 : List UInt8 := dkwX2_enter_1 ++ dktX2_enter_2
def dkwX2_enter_0 : List UInt8 := [27, 4, 16, 20, 184, 0, 180, 153, 0, 17, 28, 4, 16, 60, 184, 0, 180, 153, 0, 7, 4, 167, 0, 4]
abbrev dktX2_enter_0 : List UInt8 := dkwX2_enter_0 ++ dktX2_enter_1
theorem dksX2_enter_0 : cX2_enter.data.toList.drop 0 = dktX2_enter_0 := by decide +kernel
theorem dksX2_enter_1 : cX2_enter.data.toList.drop 24 = dktX2_enter_1 := dk_seg dksX2_enter_0 24 rfl rfl
theorem dksX2_enter_2 : cX2_enter.data.toList.drop 47 = dktX2_enter_2 := dk_seg dksX2_enter_1 23 rfl rfl
theorem dksX2_enter_3 : cX2_enter.data.toList.drop 71 = dktX2_enter_3 := dk_seg dksX2_enter_2 24 rfl rfl
theorem dksX2_enter_4 : cX2_enter.data.toList.drop 95 = dktX2_enter_4 := dk_seg dksX2_enter_3 24 rfl rfl
theorem dX2_enter_0 : decode cX2_enter 0 = .ok (.iload_n 1, 1) := dk_27 (dk_at dksX2_enter_0 0 rfl rfl)
theorem dX2_enter_1 : decode cX2_enter 1 = .ok (.iconst 1, 1) := dk_4 (dk_at dksX2_enter_0 1 rfl rfl)
theorem dX2_enter_2 : decode cX2_enter 2 = .ok (.bipush 20, 2) := dk_16 20 (dk_at dksX2_enter_0 2 rfl rfl)
theorem dX2_enter_4 : decode cX2_enter 4 = .ok (.invokestatic 180, 3) := dk_184 0 180 (dk_at dksX2_enter_0 4 rfl rfl)
theorem dX2_enter_7 : decode cX2_enter 7 = .ok (.ifCond .eq 17, 3) := dk_153 0 17 (dk_at dksX2_enter_0 7 rfl rfl)
theorem dX2_enter_10 : decode cX2_enter 10 = .ok (.iload_n 2, 1) := dk_28 (dk_at dksX2_enter_0 10 rfl rfl)
theorem dX2_enter_11 : decode cX2_enter 11 = .ok (.iconst 1, 1) := dk_4 (dk_at dksX2_enter_0 11 rfl rfl)
theorem dX2_enter_12 : decode cX2_enter 12 = .ok (.bipush 60, 2) := dk_16 60 (dk_at dksX2_enter_0 12 rfl rfl)
theorem dX2_enter_14 : decode cX2_enter 14 = .ok (.invokestatic 180, 3) := dk_184 0 180 (dk_at dksX2_enter_0 14 rfl rfl)
theorem dX2_enter_17 : decode cX2_enter 17 = .ok (.ifCond .eq 7, 3) := dk_153 0 7 (dk_at dksX2_enter_0 17 rfl rfl)
theorem dX2_enter_20 : decode cX2_enter 20 = .ok (.iconst 1, 1) := dk_4 (dk_at dksX2_enter_0 20 rfl rfl)
theorem dX2_enter_21 : decode cX2_enter 21 = .ok (.goto 4, 3) := dk_167 0 4 (dk_at dksX2_enter_0 21 rfl rfl)
theorem dX2_enter_24 : decode cX2_enter 24 = .ok (.iconst 0, 1) := dk_3 (dk_at dksX2_enter_1 0 rfl rfl)
theorem dX2_enter_25 : decode cX2_enter 25 = .ok (.invokestatic 184, 3) := dk_184 0 184 (dk_at dksX2_enter_1 1 rfl rfl)
theorem dX2_enter_28 : decode cX2_enter 28 = .ok (.aload_n 0, 1) := dk_42 (dk_at dksX2_enter_1 4 rfl rfl)
theorem dX2_enter_29 : decode cX2_enter 29 = .ok (.getfield 35, 3) := dk_180 0 35 (dk_at dksX2_enter_1 5 rfl rfl)
theorem dX2_enter_32 : decode cX2_enter 32 = .ok (.bipush 80, 2) := dk_16 80 (dk_at dksX2_enter_1 8 rfl rfl)
theorem dX2_enter_34 : decode cX2_enter 34 = .ok (.if_icmp .lt 7, 3) := dk_161 0 7 (dk_at dksX2_enter_1 10 rfl rfl)
theorem dX2_enter_37 : decode cX2_enter 37 = .ok (.iconst 1, 1) := dk_4 (dk_at dksX2_enter_1 13 rfl rfl)
theorem dX2_enter_38 : decode cX2_enter 38 = .ok (.goto 4, 3) := dk_167 0 4 (dk_at dksX2_enter_1 14 rfl rfl)
theorem dX2_enter_41 : decode cX2_enter 41 = .ok (.iconst 0, 1) := dk_3 (dk_at dksX2_enter_1 17 rfl rfl)
theorem dX2_enter_42 : decode cX2_enter 42 = .ok (.iconst 5, 1) := dk_8 (dk_at dksX2_enter_1 18 rfl rfl)
theorem dX2_enter_43 : decode cX2_enter 43 = .ok (.aload_n 0, 1) := dk_42 (dk_at dksX2_enter_1 19 rfl rfl)
theorem dX2_enter_44 : decode cX2_enter 44 = .ok (.getfield 35, 3) := dk_180 0 35 (dk_at dksX2_enter_1 20 rfl rfl)
theorem dX2_enter_47 : decode cX2_enter 47 = .ok (.invokestatic 188, 3) := dk_184 0 188 (dk_at dksX2_enter_2 0 rfl rfl)
theorem dX2_enter_50 : decode cX2_enter 50 = .ok (.aload_n 0, 1) := dk_42 (dk_at dksX2_enter_2 3 rfl rfl)
theorem dX2_enter_51 : decode cX2_enter 51 = .ok (.getfield 24, 3) := dk_180 0 24 (dk_at dksX2_enter_2 4 rfl rfl)
theorem dX2_enter_54 : decode cX2_enter 54 = .ok (.invokevirtual 215, 3) := dk_182 0 215 (dk_at dksX2_enter_2 7 rfl rfl)
theorem dX2_enter_57 : decode cX2_enter 57 = .ok (.iconst 4, 1) := dk_7 (dk_at dksX2_enter_2 10 rfl rfl)
theorem dX2_enter_58 : decode cX2_enter 58 = .ok (.if_icmp .ne 7, 3) := dk_160 0 7 (dk_at dksX2_enter_2 11 rfl rfl)
theorem dX2_enter_61 : decode cX2_enter 61 = .ok (.iconst 1, 1) := dk_4 (dk_at dksX2_enter_2 14 rfl rfl)
theorem dX2_enter_62 : decode cX2_enter 62 = .ok (.goto 4, 3) := dk_167 0 4 (dk_at dksX2_enter_2 15 rfl rfl)
theorem dX2_enter_65 : decode cX2_enter 65 = .ok (.iconst 0, 1) := dk_3 (dk_at dksX2_enter_2 18 rfl rfl)
theorem dX2_enter_66 : decode cX2_enter 66 = .ok (.iconst 1, 1) := dk_4 (dk_at dksX2_enter_2 19 rfl rfl)
theorem dX2_enter_67 : decode cX2_enter 67 = .ok (.iconst 4, 1) := dk_7 (dk_at dksX2_enter_2 20 rfl rfl)
theorem dX2_enter_68 : decode cX2_enter 68 = .ok (.invokestatic 188, 3) := dk_184 0 188 (dk_at dksX2_enter_2 21 rfl rfl)
theorem dX2_enter_71 : decode cX2_enter 71 = .ok (.aload_n 0, 1) := dk_42 (dk_at dksX2_enter_3 0 rfl rfl)
theorem dX2_enter_72 : decode cX2_enter 72 = .ok (.getfield 24, 3) := dk_180 0 24 (dk_at dksX2_enter_3 1 rfl rfl)
theorem dX2_enter_75 : decode cX2_enter 75 = .ok (.new 77, 3) := dk_187 0 77 (dk_at dksX2_enter_3 4 rfl rfl)
theorem dX2_enter_78 : decode cX2_enter 78 = .ok (.dup, 1) := dk_89 (dk_at dksX2_enter_3 7 rfl rfl)
theorem dX2_enter_79 : decode cX2_enter 79 = .ok (.iload_n 1, 1) := dk_27 (dk_at dksX2_enter_3 8 rfl rfl)
theorem dX2_enter_80 : decode cX2_enter 80 = .ok (.iload_n 2, 1) := dk_28 (dk_at dksX2_enter_3 9 rfl rfl)
theorem dX2_enter_81 : decode cX2_enter 81 = .ok (.invokespecial 85, 3) := dk_183 0 85 (dk_at dksX2_enter_3 10 rfl rfl)
theorem dX2_enter_84 : decode cX2_enter 84 = .ok (.invokevirtual 88, 3) := dk_182 0 88 (dk_at dksX2_enter_3 13 rfl rfl)
theorem dX2_enter_87 : decode cX2_enter 87 = .ok (.aload_n 0, 1) := dk_42 (dk_at dksX2_enter_3 16 rfl rfl)
theorem dX2_enter_88 : decode cX2_enter 88 = .ok (.getfield 24, 3) := dk_180 0 24 (dk_at dksX2_enter_3 17 rfl rfl)
theorem dX2_enter_91 : decode cX2_enter 91 = .ok (.invokevirtual 215, 3) := dk_182 0 215 (dk_at dksX2_enter_3 20 rfl rfl)
theorem dX2_enter_94 : decode cX2_enter 94 = .ok (.iconst 1, 1) := dk_4 (dk_at dksX2_enter_3 23 rfl rfl)
theorem dX2_enter_95 : decode cX2_enter 95 = .ok (.isub, 1) := dk_100 (dk_at dksX2_enter_4 0 rfl rfl)
theorem dX2_enter_96 : decode cX2_enter 96 = .ok (.ireturn, 1) := dk_172 (dk_at dksX2_enter_4 1 rfl rfl)
abbrev cX2_switchOn : ByteArray := prog_29_method_19_code
def yX2_switchOn : MethodName := ⟨RX2, "switchOn", "(II)I"⟩
def dkwX2_switchOn_1 : List UInt8 := [180, 0, 97, 184, 0, 188, 45, 28, 181, 0, 97, 42, 182, 0, 222, 172]
abbrev dktX2_switchOn_1 : List UInt8 := dkwX2_switchOn_1 ++ []
def dkwX2_switchOn_0 : List UInt8 := [42, 27, 182, 0, 218, 78, 28, 4, 16, 60, 184, 0, 180, 184, 0, 184, 45, 182, 0, 147, 5, 45]
abbrev dktX2_switchOn_0 : List UInt8 := dkwX2_switchOn_0 ++ dktX2_switchOn_1
theorem dksX2_switchOn_0 : cX2_switchOn.data.toList.drop 0 = dktX2_switchOn_0 := by decide +kernel
theorem dksX2_switchOn_1 : cX2_switchOn.data.toList.drop 22 = dktX2_switchOn_1 := dk_seg dksX2_switchOn_0 22 rfl rfl
theorem dX2_switchOn_0 : decode cX2_switchOn 0 = .ok (.aload_n 0, 1) := dk_42 (dk_at dksX2_switchOn_0 0 rfl rfl)
theorem dX2_switchOn_1 : decode cX2_switchOn 1 = .ok (.iload_n 1, 1) := dk_27 (dk_at dksX2_switchOn_0 1 rfl rfl)
theorem dX2_switchOn_2 : decode cX2_switchOn 2 = .ok (.invokevirtual 218, 3) := dk_182 0 218 (dk_at dksX2_switchOn_0 2 rfl rfl)
theorem dX2_switchOn_5 : decode cX2_switchOn 5 = .ok (.astore_n 3, 1) := dk_78 (dk_at dksX2_switchOn_0 5 rfl rfl)
theorem dX2_switchOn_6 : decode cX2_switchOn 6 = .ok (.iload_n 2, 1) := dk_28 (dk_at dksX2_switchOn_0 6 rfl rfl)
theorem dX2_switchOn_7 : decode cX2_switchOn 7 = .ok (.iconst 1, 1) := dk_4 (dk_at dksX2_switchOn_0 7 rfl rfl)
theorem dX2_switchOn_8 : decode cX2_switchOn 8 = .ok (.bipush 60, 2) := dk_16 60 (dk_at dksX2_switchOn_0 8 rfl rfl)
theorem dX2_switchOn_10 : decode cX2_switchOn 10 = .ok (.invokestatic 180, 3) := dk_184 0 180 (dk_at dksX2_switchOn_0 10 rfl rfl)
theorem dX2_switchOn_13 : decode cX2_switchOn 13 = .ok (.invokestatic 184, 3) := dk_184 0 184 (dk_at dksX2_switchOn_0 13 rfl rfl)
theorem dX2_switchOn_16 : decode cX2_switchOn 16 = .ok (.aload_n 3, 1) := dk_45 (dk_at dksX2_switchOn_0 16 rfl rfl)
theorem dX2_switchOn_17 : decode cX2_switchOn 17 = .ok (.invokevirtual 147, 3) := dk_182 0 147 (dk_at dksX2_switchOn_0 17 rfl rfl)
theorem dX2_switchOn_20 : decode cX2_switchOn 20 = .ok (.iconst 2, 1) := dk_5 (dk_at dksX2_switchOn_0 20 rfl rfl)
theorem dX2_switchOn_21 : decode cX2_switchOn 21 = .ok (.aload_n 3, 1) := dk_45 (dk_at dksX2_switchOn_0 21 rfl rfl)
theorem dX2_switchOn_22 : decode cX2_switchOn 22 = .ok (.getfield 97, 3) := dk_180 0 97 (dk_at dksX2_switchOn_1 0 rfl rfl)
theorem dX2_switchOn_25 : decode cX2_switchOn 25 = .ok (.invokestatic 188, 3) := dk_184 0 188 (dk_at dksX2_switchOn_1 3 rfl rfl)
theorem dX2_switchOn_28 : decode cX2_switchOn 28 = .ok (.aload_n 3, 1) := dk_45 (dk_at dksX2_switchOn_1 6 rfl rfl)
theorem dX2_switchOn_29 : decode cX2_switchOn 29 = .ok (.iload_n 2, 1) := dk_28 (dk_at dksX2_switchOn_1 7 rfl rfl)
theorem dX2_switchOn_30 : decode cX2_switchOn 30 = .ok (.putfield 97, 3) := dk_181 0 97 (dk_at dksX2_switchOn_1 8 rfl rfl)
theorem dX2_switchOn_33 : decode cX2_switchOn 33 = .ok (.aload_n 0, 1) := dk_42 (dk_at dksX2_switchOn_1 11 rfl rfl)
theorem dX2_switchOn_34 : decode cX2_switchOn 34 = .ok (.invokevirtual 222, 3) := dk_182 0 222 (dk_at dksX2_switchOn_1 12 rfl rfl)
theorem dX2_switchOn_37 : decode cX2_switchOn 37 = .ok (.ireturn, 1) := dk_172 (dk_at dksX2_switchOn_1 15 rfl rfl)
abbrev cX2_lamp : ByteArray := prog_29_method_4_code
def yX2_lamp : MethodName := ⟨RX2, "lamp", "(I)LCavePearls$Lamp;"⟩
def dkwX2_lamp_0 : List UInt8 := [27, 42, 180, 0, 28, 182, 0, 122, 184, 0, 126, 42, 180, 0, 28, 27, 182, 0, 129, 192, 0, 92, 176]
abbrev dktX2_lamp_0 : List UInt8 := dkwX2_lamp_0 ++ []
theorem dksX2_lamp_0 : cX2_lamp.data.toList.drop 0 = dktX2_lamp_0 := by decide +kernel
theorem dX2_lamp_0 : decode cX2_lamp 0 = .ok (.iload_n 1, 1) := dk_27 (dk_at dksX2_lamp_0 0 rfl rfl)
theorem dX2_lamp_1 : decode cX2_lamp 1 = .ok (.aload_n 0, 1) := dk_42 (dk_at dksX2_lamp_0 1 rfl rfl)
theorem dX2_lamp_2 : decode cX2_lamp 2 = .ok (.getfield 28, 3) := dk_180 0 28 (dk_at dksX2_lamp_0 2 rfl rfl)
theorem dX2_lamp_5 : decode cX2_lamp 5 = .ok (.invokevirtual 122, 3) := dk_182 0 122 (dk_at dksX2_lamp_0 5 rfl rfl)
theorem dX2_lamp_8 : decode cX2_lamp 8 = .ok (.invokestatic 126, 3) := dk_184 0 126 (dk_at dksX2_lamp_0 8 rfl rfl)
theorem dX2_lamp_11 : decode cX2_lamp 11 = .ok (.aload_n 0, 1) := dk_42 (dk_at dksX2_lamp_0 11 rfl rfl)
theorem dX2_lamp_12 : decode cX2_lamp 12 = .ok (.getfield 28, 3) := dk_180 0 28 (dk_at dksX2_lamp_0 12 rfl rfl)
theorem dX2_lamp_15 : decode cX2_lamp 15 = .ok (.iload_n 1, 1) := dk_27 (dk_at dksX2_lamp_0 15 rfl rfl)
theorem dX2_lamp_16 : decode cX2_lamp 16 = .ok (.invokevirtual 129, 3) := dk_182 0 129 (dk_at dksX2_lamp_0 16 rfl rfl)
theorem dX2_lamp_19 : decode cX2_lamp 19 = .ok (.checkcast 92, 3) := dk_192 0 92 (dk_at dksX2_lamp_0 19 rfl rfl)
theorem dX2_lamp_22 : decode cX2_lamp 22 = .ok (.areturn, 1) := dk_176 (dk_at dksX2_lamp_0 22 rfl rfl)
abbrev cX2_lampsOn : ByteArray := prog_29_method_18_code
def yX2_lampsOn : MethodName := ⟨RX2, "lampsOn", "()I"⟩
def dkwX2_lampsOn_2 : List UInt8 := [167, 255, 222, 27, 172]
abbrev dktX2_lampsOn_2 : List UInt8 := dkwX2_lampsOn_2 ++ []
def dkwX2_lampsOn_1 : List UInt8 := [185, 0, 58, 1, 0, 192, 0, 92, 78, 27, 45, 182, 0, 147, 153, 0, 7, 4, 167, 0, 4, 3, 96, 60]
abbrev dktX2_lampsOn_1 : List UInt8 := dkwX2_lampsOn_1 ++ dktX2_lampsOn_2
def dkwX2_lampsOn_0 : List UInt8 := [3, 60, 42, 180, 0, 28, 182, 0, 48, 77, 44, 185, 0, 52, 1, 0, 153, 0, 31, 44]
abbrev dktX2_lampsOn_0 : List UInt8 := dkwX2_lampsOn_0 ++ dktX2_lampsOn_1
theorem dksX2_lampsOn_0 : cX2_lampsOn.data.toList.drop 0 = dktX2_lampsOn_0 := by decide +kernel
theorem dksX2_lampsOn_1 : cX2_lampsOn.data.toList.drop 20 = dktX2_lampsOn_1 := dk_seg dksX2_lampsOn_0 20 rfl rfl
theorem dksX2_lampsOn_2 : cX2_lampsOn.data.toList.drop 44 = dktX2_lampsOn_2 := dk_seg dksX2_lampsOn_1 24 rfl rfl
theorem dX2_lampsOn_0 : decode cX2_lampsOn 0 = .ok (.iconst 0, 1) := dk_3 (dk_at dksX2_lampsOn_0 0 rfl rfl)
theorem dX2_lampsOn_1 : decode cX2_lampsOn 1 = .ok (.istore_n 1, 1) := dk_60 (dk_at dksX2_lampsOn_0 1 rfl rfl)
theorem dX2_lampsOn_2 : decode cX2_lampsOn 2 = .ok (.aload_n 0, 1) := dk_42 (dk_at dksX2_lampsOn_0 2 rfl rfl)
theorem dX2_lampsOn_3 : decode cX2_lampsOn 3 = .ok (.getfield 28, 3) := dk_180 0 28 (dk_at dksX2_lampsOn_0 3 rfl rfl)
theorem dX2_lampsOn_6 : decode cX2_lampsOn 6 = .ok (.invokevirtual 48, 3) := dk_182 0 48 (dk_at dksX2_lampsOn_0 6 rfl rfl)
theorem dX2_lampsOn_9 : decode cX2_lampsOn 9 = .ok (.astore_n 2, 1) := dk_77 (dk_at dksX2_lampsOn_0 9 rfl rfl)
theorem dX2_lampsOn_10 : decode cX2_lampsOn 10 = .ok (.aload_n 2, 1) := dk_44 (dk_at dksX2_lampsOn_0 10 rfl rfl)
theorem dX2_lampsOn_11 : decode cX2_lampsOn 11 = .ok (.invokeinterface 52 1, 5) := by decide +kernel
theorem dX2_lampsOn_16 : decode cX2_lampsOn 16 = .ok (.ifCond .eq 31, 3) := dk_153 0 31 (dk_at dksX2_lampsOn_0 16 rfl rfl)
theorem dX2_lampsOn_19 : decode cX2_lampsOn 19 = .ok (.aload_n 2, 1) := dk_44 (dk_at dksX2_lampsOn_0 19 rfl rfl)
theorem dX2_lampsOn_20 : decode cX2_lampsOn 20 = .ok (.invokeinterface 58 1, 5) := by decide +kernel
theorem dX2_lampsOn_25 : decode cX2_lampsOn 25 = .ok (.checkcast 92, 3) := dk_192 0 92 (dk_at dksX2_lampsOn_1 5 rfl rfl)
theorem dX2_lampsOn_28 : decode cX2_lampsOn 28 = .ok (.astore_n 3, 1) := dk_78 (dk_at dksX2_lampsOn_1 8 rfl rfl)
theorem dX2_lampsOn_29 : decode cX2_lampsOn 29 = .ok (.iload_n 1, 1) := dk_27 (dk_at dksX2_lampsOn_1 9 rfl rfl)
theorem dX2_lampsOn_30 : decode cX2_lampsOn 30 = .ok (.aload_n 3, 1) := dk_45 (dk_at dksX2_lampsOn_1 10 rfl rfl)
theorem dX2_lampsOn_31 : decode cX2_lampsOn 31 = .ok (.invokevirtual 147, 3) := dk_182 0 147 (dk_at dksX2_lampsOn_1 11 rfl rfl)
theorem dX2_lampsOn_34 : decode cX2_lampsOn 34 = .ok (.ifCond .eq 7, 3) := dk_153 0 7 (dk_at dksX2_lampsOn_1 14 rfl rfl)
theorem dX2_lampsOn_37 : decode cX2_lampsOn 37 = .ok (.iconst 1, 1) := dk_4 (dk_at dksX2_lampsOn_1 17 rfl rfl)
theorem dX2_lampsOn_38 : decode cX2_lampsOn 38 = .ok (.goto 4, 3) := dk_167 0 4 (dk_at dksX2_lampsOn_1 18 rfl rfl)
theorem dX2_lampsOn_41 : decode cX2_lampsOn 41 = .ok (.iconst 0, 1) := dk_3 (dk_at dksX2_lampsOn_1 21 rfl rfl)
theorem dX2_lampsOn_42 : decode cX2_lampsOn 42 = .ok (.iadd, 1) := dk_96 (dk_at dksX2_lampsOn_1 22 rfl rfl)
theorem dX2_lampsOn_43 : decode cX2_lampsOn 43 = .ok (.istore_n 1, 1) := dk_60 (dk_at dksX2_lampsOn_1 23 rfl rfl)
theorem dX2_lampsOn_44 : decode cX2_lampsOn 44 = .ok (.goto (-34), 3) := dk_167 255 222 (dk_at dksX2_lampsOn_2 0 rfl rfl)
theorem dX2_lampsOn_47 : decode cX2_lampsOn 47 = .ok (.iload_n 1, 1) := dk_27 (dk_at dksX2_lampsOn_2 3 rfl rfl)
theorem dX2_lampsOn_48 : decode cX2_lampsOn 48 = .ok (.ireturn, 1) := dk_172 (dk_at dksX2_lampsOn_2 4 rfl rfl)
abbrev cX2_switchOff : ByteArray := prog_29_method_20_code
def yX2_switchOff : MethodName := ⟨RX2, "switchOff", "(I)I"⟩
def dkwX2_switchOff_1 : List UInt8 := [180, 0, 97, 62, 44, 3, 181, 0, 97, 29, 172]
abbrev dktX2_switchOff_1 : List UInt8 := dkwX2_switchOff_1 ++ []
def dkwX2_switchOff_0 : List UInt8 := [42, 27, 182, 0, 218, 77, 44, 182, 0, 147, 154, 0, 7, 4, 167, 0, 4, 3, 6, 27, 184, 0, 188, 44]
abbrev dktX2_switchOff_0 : List UInt8 := dkwX2_switchOff_0 ++ dktX2_switchOff_1
theorem dksX2_switchOff_0 : cX2_switchOff.data.toList.drop 0 = dktX2_switchOff_0 := by decide +kernel
theorem dksX2_switchOff_1 : cX2_switchOff.data.toList.drop 24 = dktX2_switchOff_1 := dk_seg dksX2_switchOff_0 24 rfl rfl
theorem dX2_switchOff_0 : decode cX2_switchOff 0 = .ok (.aload_n 0, 1) := dk_42 (dk_at dksX2_switchOff_0 0 rfl rfl)
theorem dX2_switchOff_1 : decode cX2_switchOff 1 = .ok (.iload_n 1, 1) := dk_27 (dk_at dksX2_switchOff_0 1 rfl rfl)
theorem dX2_switchOff_2 : decode cX2_switchOff 2 = .ok (.invokevirtual 218, 3) := dk_182 0 218 (dk_at dksX2_switchOff_0 2 rfl rfl)
theorem dX2_switchOff_5 : decode cX2_switchOff 5 = .ok (.astore_n 2, 1) := dk_77 (dk_at dksX2_switchOff_0 5 rfl rfl)
theorem dX2_switchOff_6 : decode cX2_switchOff 6 = .ok (.aload_n 2, 1) := dk_44 (dk_at dksX2_switchOff_0 6 rfl rfl)
theorem dX2_switchOff_7 : decode cX2_switchOff 7 = .ok (.invokevirtual 147, 3) := dk_182 0 147 (dk_at dksX2_switchOff_0 7 rfl rfl)
theorem dX2_switchOff_10 : decode cX2_switchOff 10 = .ok (.ifCond .ne 7, 3) := dk_154 0 7 (dk_at dksX2_switchOff_0 10 rfl rfl)
theorem dX2_switchOff_13 : decode cX2_switchOff 13 = .ok (.iconst 1, 1) := dk_4 (dk_at dksX2_switchOff_0 13 rfl rfl)
theorem dX2_switchOff_14 : decode cX2_switchOff 14 = .ok (.goto 4, 3) := dk_167 0 4 (dk_at dksX2_switchOff_0 14 rfl rfl)
theorem dX2_switchOff_17 : decode cX2_switchOff 17 = .ok (.iconst 0, 1) := dk_3 (dk_at dksX2_switchOff_0 17 rfl rfl)
theorem dX2_switchOff_18 : decode cX2_switchOff 18 = .ok (.iconst 3, 1) := dk_6 (dk_at dksX2_switchOff_0 18 rfl rfl)
theorem dX2_switchOff_19 : decode cX2_switchOff 19 = .ok (.iload_n 1, 1) := dk_27 (dk_at dksX2_switchOff_0 19 rfl rfl)
theorem dX2_switchOff_20 : decode cX2_switchOff 20 = .ok (.invokestatic 188, 3) := dk_184 0 188 (dk_at dksX2_switchOff_0 20 rfl rfl)
theorem dX2_switchOff_23 : decode cX2_switchOff 23 = .ok (.aload_n 2, 1) := dk_44 (dk_at dksX2_switchOff_0 23 rfl rfl)
theorem dX2_switchOff_24 : decode cX2_switchOff 24 = .ok (.getfield 97, 3) := dk_180 0 97 (dk_at dksX2_switchOff_1 0 rfl rfl)
theorem dX2_switchOff_27 : decode cX2_switchOff 27 = .ok (.istore_n 3, 1) := dk_62 (dk_at dksX2_switchOff_1 3 rfl rfl)
theorem dX2_switchOff_28 : decode cX2_switchOff 28 = .ok (.aload_n 2, 1) := dk_44 (dk_at dksX2_switchOff_1 4 rfl rfl)
theorem dX2_switchOff_29 : decode cX2_switchOff 29 = .ok (.iconst 0, 1) := dk_3 (dk_at dksX2_switchOff_1 5 rfl rfl)
theorem dX2_switchOff_30 : decode cX2_switchOff 30 = .ok (.putfield 97, 3) := dk_181 0 97 (dk_at dksX2_switchOff_1 6 rfl rfl)
theorem dX2_switchOff_33 : decode cX2_switchOff 33 = .ok (.iload_n 3, 1) := dk_29 (dk_at dksX2_switchOff_1 9 rfl rfl)
theorem dX2_switchOff_34 : decode cX2_switchOff 34 = .ok (.ireturn, 1) := dk_172 (dk_at dksX2_switchOff_1 10 rfl rfl)
abbrev cX2_sweep : ByteArray := prog_29_method_22_code
def yX2_sweep : MethodName := ⟨RX2, "sweep", "()I"⟩
def dkwX2_sweep_1 : List UInt8 := [181, 0, 39, 27, 172]
abbrev dktX2_sweep_1 : List UInt8 := dkwX2_sweep_1 ++ []
def dkwX2_sweep_0 : List UInt8 := [42, 180, 0, 39, 154, 0, 7, 4, 167, 0, 4, 3, 7, 3, 184, 0, 188, 42, 180, 0, 39, 60, 42, 3]
abbrev dktX2_sweep_0 : List UInt8 := dkwX2_sweep_0 ++ dktX2_sweep_1
theorem dksX2_sweep_0 : cX2_sweep.data.toList.drop 0 = dktX2_sweep_0 := by decide +kernel
theorem dksX2_sweep_1 : cX2_sweep.data.toList.drop 24 = dktX2_sweep_1 := dk_seg dksX2_sweep_0 24 rfl rfl
theorem dX2_sweep_0 : decode cX2_sweep 0 = .ok (.aload_n 0, 1) := dk_42 (dk_at dksX2_sweep_0 0 rfl rfl)
theorem dX2_sweep_1 : decode cX2_sweep 1 = .ok (.getfield 39, 3) := dk_180 0 39 (dk_at dksX2_sweep_0 1 rfl rfl)
theorem dX2_sweep_4 : decode cX2_sweep 4 = .ok (.ifCond .ne 7, 3) := dk_154 0 7 (dk_at dksX2_sweep_0 4 rfl rfl)
theorem dX2_sweep_7 : decode cX2_sweep 7 = .ok (.iconst 1, 1) := dk_4 (dk_at dksX2_sweep_0 7 rfl rfl)
theorem dX2_sweep_8 : decode cX2_sweep 8 = .ok (.goto 4, 3) := dk_167 0 4 (dk_at dksX2_sweep_0 8 rfl rfl)
theorem dX2_sweep_11 : decode cX2_sweep 11 = .ok (.iconst 0, 1) := dk_3 (dk_at dksX2_sweep_0 11 rfl rfl)
theorem dX2_sweep_12 : decode cX2_sweep 12 = .ok (.iconst 4, 1) := dk_7 (dk_at dksX2_sweep_0 12 rfl rfl)
theorem dX2_sweep_13 : decode cX2_sweep 13 = .ok (.iconst 0, 1) := dk_3 (dk_at dksX2_sweep_0 13 rfl rfl)
theorem dX2_sweep_14 : decode cX2_sweep 14 = .ok (.invokestatic 188, 3) := dk_184 0 188 (dk_at dksX2_sweep_0 14 rfl rfl)
theorem dX2_sweep_17 : decode cX2_sweep 17 = .ok (.aload_n 0, 1) := dk_42 (dk_at dksX2_sweep_0 17 rfl rfl)
theorem dX2_sweep_18 : decode cX2_sweep 18 = .ok (.getfield 39, 3) := dk_180 0 39 (dk_at dksX2_sweep_0 18 rfl rfl)
theorem dX2_sweep_21 : decode cX2_sweep 21 = .ok (.istore_n 1, 1) := dk_60 (dk_at dksX2_sweep_0 21 rfl rfl)
theorem dX2_sweep_22 : decode cX2_sweep 22 = .ok (.aload_n 0, 1) := dk_42 (dk_at dksX2_sweep_0 22 rfl rfl)
theorem dX2_sweep_23 : decode cX2_sweep 23 = .ok (.iconst 0, 1) := dk_3 (dk_at dksX2_sweep_0 23 rfl rfl)
theorem dX2_sweep_24 : decode cX2_sweep 24 = .ok (.putfield 39, 3) := dk_181 0 39 (dk_at dksX2_sweep_1 0 rfl rfl)
theorem dX2_sweep_27 : decode cX2_sweep 27 = .ok (.iload_n 1, 1) := dk_27 (dk_at dksX2_sweep_1 3 rfl rfl)
theorem dX2_sweep_28 : decode cX2_sweep 28 = .ok (.ireturn, 1) := dk_172 (dk_at dksX2_sweep_1 4 rfl rfl)
abbrev cX2_setDraught : ByteArray := prog_29_method_21_code
def yX2_setDraught : MethodName := ⟨RX2, "setDraught", "(I)I"⟩
def dkwX2_setDraught_0 : List UInt8 := [27, 3, 16, 9, 184, 0, 180, 184, 0, 184, 42, 180, 0, 42, 61, 42, 27, 181, 0, 42, 28, 172]
abbrev dktX2_setDraught_0 : List UInt8 := dkwX2_setDraught_0 ++ []
theorem dksX2_setDraught_0 : cX2_setDraught.data.toList.drop 0 = dktX2_setDraught_0 := by decide +kernel
theorem dX2_setDraught_0 : decode cX2_setDraught 0 = .ok (.iload_n 1, 1) := dk_27 (dk_at dksX2_setDraught_0 0 rfl rfl)
theorem dX2_setDraught_1 : decode cX2_setDraught 1 = .ok (.iconst 0, 1) := dk_3 (dk_at dksX2_setDraught_0 1 rfl rfl)
theorem dX2_setDraught_2 : decode cX2_setDraught 2 = .ok (.bipush 9, 2) := dk_16 9 (dk_at dksX2_setDraught_0 2 rfl rfl)
theorem dX2_setDraught_4 : decode cX2_setDraught 4 = .ok (.invokestatic 180, 3) := dk_184 0 180 (dk_at dksX2_setDraught_0 4 rfl rfl)
theorem dX2_setDraught_7 : decode cX2_setDraught 7 = .ok (.invokestatic 184, 3) := dk_184 0 184 (dk_at dksX2_setDraught_0 7 rfl rfl)
theorem dX2_setDraught_10 : decode cX2_setDraught 10 = .ok (.aload_n 0, 1) := dk_42 (dk_at dksX2_setDraught_0 10 rfl rfl)
theorem dX2_setDraught_11 : decode cX2_setDraught 11 = .ok (.getfield 42, 3) := dk_180 0 42 (dk_at dksX2_setDraught_0 11 rfl rfl)
theorem dX2_setDraught_14 : decode cX2_setDraught 14 = .ok (.istore_n 2, 1) := dk_61 (dk_at dksX2_setDraught_0 14 rfl rfl)
theorem dX2_setDraught_15 : decode cX2_setDraught 15 = .ok (.aload_n 0, 1) := dk_42 (dk_at dksX2_setDraught_0 15 rfl rfl)
theorem dX2_setDraught_16 : decode cX2_setDraught 16 = .ok (.iload_n 1, 1) := dk_27 (dk_at dksX2_setDraught_0 16 rfl rfl)
theorem dX2_setDraught_17 : decode cX2_setDraught 17 = .ok (.putfield 42, 3) := dk_181 0 42 (dk_at dksX2_setDraught_0 17 rfl rfl)
theorem dX2_setDraught_20 : decode cX2_setDraught 20 = .ok (.iload_n 2, 1) := dk_28 (dk_at dksX2_setDraught_0 20 rfl rfl)
theorem dX2_setDraught_21 : decode cX2_setDraught 21 = .ok (.ireturn, 1) := dk_172 (dk_at dksX2_setDraught_0 21 rfl rfl)
abbrev cX2_pass : ByteArray := prog_29_method_23_code
def yX2_pass : MethodName := ⟨RX2, "pass", "(I)I"⟩
def dkwX2_pass_1 : List UInt8 := [182, 0, 225, 132, 3, 1, 167, 255, 244, 42, 180, 0, 101, 28, 100, 172]
abbrev dktX2_pass_1 : List UInt8 := dkwX2_pass_1 ++ []
def dkwX2_pass_0 : List UInt8 := [27, 4, 16, 120, 184, 0, 180, 184, 0, 184, 42, 180, 0, 101, 61, 3, 62, 29, 27, 162, 0, 13, 42]
abbrev dktX2_pass_0 : List UInt8 := dkwX2_pass_0 ++ dktX2_pass_1
theorem dksX2_pass_0 : cX2_pass.data.toList.drop 0 = dktX2_pass_0 := by decide +kernel
theorem dksX2_pass_1 : cX2_pass.data.toList.drop 23 = dktX2_pass_1 := dk_seg dksX2_pass_0 23 rfl rfl
theorem dX2_pass_0 : decode cX2_pass 0 = .ok (.iload_n 1, 1) := dk_27 (dk_at dksX2_pass_0 0 rfl rfl)
theorem dX2_pass_1 : decode cX2_pass 1 = .ok (.iconst 1, 1) := dk_4 (dk_at dksX2_pass_0 1 rfl rfl)
theorem dX2_pass_2 : decode cX2_pass 2 = .ok (.bipush 120, 2) := dk_16 120 (dk_at dksX2_pass_0 2 rfl rfl)
theorem dX2_pass_4 : decode cX2_pass 4 = .ok (.invokestatic 180, 3) := dk_184 0 180 (dk_at dksX2_pass_0 4 rfl rfl)
theorem dX2_pass_7 : decode cX2_pass 7 = .ok (.invokestatic 184, 3) := dk_184 0 184 (dk_at dksX2_pass_0 7 rfl rfl)
theorem dX2_pass_10 : decode cX2_pass 10 = .ok (.aload_n 0, 1) := dk_42 (dk_at dksX2_pass_0 10 rfl rfl)
theorem dX2_pass_11 : decode cX2_pass 11 = .ok (.getfield 101, 3) := dk_180 0 101 (dk_at dksX2_pass_0 11 rfl rfl)
theorem dX2_pass_14 : decode cX2_pass 14 = .ok (.istore_n 2, 1) := dk_61 (dk_at dksX2_pass_0 14 rfl rfl)
theorem dX2_pass_15 : decode cX2_pass 15 = .ok (.iconst 0, 1) := dk_3 (dk_at dksX2_pass_0 15 rfl rfl)
theorem dX2_pass_16 : decode cX2_pass 16 = .ok (.istore_n 3, 1) := dk_62 (dk_at dksX2_pass_0 16 rfl rfl)
theorem dX2_pass_17 : decode cX2_pass 17 = .ok (.iload_n 3, 1) := dk_29 (dk_at dksX2_pass_0 17 rfl rfl)
theorem dX2_pass_18 : decode cX2_pass 18 = .ok (.iload_n 1, 1) := dk_27 (dk_at dksX2_pass_0 18 rfl rfl)
theorem dX2_pass_19 : decode cX2_pass 19 = .ok (.if_icmp .ge 13, 3) := dk_162 0 13 (dk_at dksX2_pass_0 19 rfl rfl)
theorem dX2_pass_22 : decode cX2_pass 22 = .ok (.aload_n 0, 1) := dk_42 (dk_at dksX2_pass_0 22 rfl rfl)
theorem dX2_pass_23 : decode cX2_pass 23 = .ok (.invokevirtual 225, 3) := dk_182 0 225 (dk_at dksX2_pass_1 0 rfl rfl)
theorem dX2_pass_26 : decode cX2_pass 26 = .ok (.iinc 3 1, 3) := dk_132 3 1 (dk_at dksX2_pass_1 3 rfl rfl)
theorem dX2_pass_29 : decode cX2_pass 29 = .ok (.goto (-12), 3) := dk_167 255 244 (dk_at dksX2_pass_1 6 rfl rfl)
theorem dX2_pass_32 : decode cX2_pass 32 = .ok (.aload_n 0, 1) := dk_42 (dk_at dksX2_pass_1 9 rfl rfl)
theorem dX2_pass_33 : decode cX2_pass 33 = .ok (.getfield 101, 3) := dk_180 0 101 (dk_at dksX2_pass_1 10 rfl rfl)
theorem dX2_pass_36 : decode cX2_pass 36 = .ok (.iload_n 2, 1) := dk_28 (dk_at dksX2_pass_1 13 rfl rfl)
theorem dX2_pass_37 : decode cX2_pass 37 = .ok (.isub, 1) := dk_100 (dk_at dksX2_pass_1 14 rfl rfl)
theorem dX2_pass_38 : decode cX2_pass 38 = .ok (.ireturn, 1) := dk_172 (dk_at dksX2_pass_1 15 rfl rfl)
abbrev cX2_goMinute : ByteArray := prog_29_method_10_code
def yX2_goMinute : MethodName := ⟨RX2, "goMinute", "()V"⟩
def dkwX2_goMinute_1 : List UInt8 := [182, 0, 177, 177]
abbrev dktX2_goMinute_1 : List UInt8 := dkwX2_goMinute_1 ++ []
def dkwX2_goMinute_0 : List UInt8 := [42, 89, 180, 0, 45, 4, 96, 181, 0, 45, 42, 182, 0, 168, 42, 182, 0, 171, 42, 182, 0, 174, 42]
abbrev dktX2_goMinute_0 : List UInt8 := dkwX2_goMinute_0 ++ dktX2_goMinute_1
theorem dksX2_goMinute_0 : cX2_goMinute.data.toList.drop 0 = dktX2_goMinute_0 := by decide +kernel
theorem dksX2_goMinute_1 : cX2_goMinute.data.toList.drop 23 = dktX2_goMinute_1 := dk_seg dksX2_goMinute_0 23 rfl rfl
theorem dX2_goMinute_0 : decode cX2_goMinute 0 = .ok (.aload_n 0, 1) := dk_42 (dk_at dksX2_goMinute_0 0 rfl rfl)
theorem dX2_goMinute_1 : decode cX2_goMinute 1 = .ok (.dup, 1) := dk_89 (dk_at dksX2_goMinute_0 1 rfl rfl)
theorem dX2_goMinute_2 : decode cX2_goMinute 2 = .ok (.getfield 45, 3) := dk_180 0 45 (dk_at dksX2_goMinute_0 2 rfl rfl)
theorem dX2_goMinute_5 : decode cX2_goMinute 5 = .ok (.iconst 1, 1) := dk_4 (dk_at dksX2_goMinute_0 5 rfl rfl)
theorem dX2_goMinute_6 : decode cX2_goMinute 6 = .ok (.iadd, 1) := dk_96 (dk_at dksX2_goMinute_0 6 rfl rfl)
theorem dX2_goMinute_7 : decode cX2_goMinute 7 = .ok (.putfield 45, 3) := dk_181 0 45 (dk_at dksX2_goMinute_0 7 rfl rfl)
theorem dX2_goMinute_10 : decode cX2_goMinute 10 = .ok (.aload_n 0, 1) := dk_42 (dk_at dksX2_goMinute_0 10 rfl rfl)
theorem dX2_goMinute_11 : decode cX2_goMinute 11 = .ok (.invokevirtual 168, 3) := dk_182 0 168 (dk_at dksX2_goMinute_0 11 rfl rfl)
theorem dX2_goMinute_14 : decode cX2_goMinute 14 = .ok (.aload_n 0, 1) := dk_42 (dk_at dksX2_goMinute_0 14 rfl rfl)
theorem dX2_goMinute_15 : decode cX2_goMinute 15 = .ok (.invokevirtual 171, 3) := dk_182 0 171 (dk_at dksX2_goMinute_0 15 rfl rfl)
theorem dX2_goMinute_18 : decode cX2_goMinute 18 = .ok (.aload_n 0, 1) := dk_42 (dk_at dksX2_goMinute_0 18 rfl rfl)
theorem dX2_goMinute_19 : decode cX2_goMinute 19 = .ok (.invokevirtual 174, 3) := dk_182 0 174 (dk_at dksX2_goMinute_0 19 rfl rfl)
theorem dX2_goMinute_22 : decode cX2_goMinute 22 = .ok (.aload_n 0, 1) := dk_42 (dk_at dksX2_goMinute_0 22 rfl rfl)
theorem dX2_goMinute_23 : decode cX2_goMinute 23 = .ok (.invokevirtual 177, 3) := dk_182 0 177 (dk_at dksX2_goMinute_1 0 rfl rfl)
theorem dX2_goMinute_26 : decode cX2_goMinute 26 = .ok (.return_, 1) := dk_177 (dk_at dksX2_goMinute_1 3 rfl rfl)
abbrev cX2_breathe : ByteArray := prog_29_method_6_code
def yX2_breathe : MethodName := ⟨RX2, "breathe", "()V"⟩
def dkwX2_breathe_4 : List UInt8 := [180, 0, 35, 42, 180, 0, 42, 100, 184, 0, 144, 181, 0, 35, 177]
abbrev dktX2_breathe_4 : List UInt8 := dkwX2_breathe_4 ++ []
def dkwX2_breathe_3 : List UInt8 := [4, 100, 181, 0, 82, 45, 180, 0, 82, 154, 0, 9, 44, 185, 0, 141, 1, 0, 167, 255, 214, 42, 3, 42]
abbrev dktX2_breathe_3 : List UInt8 := dkwX2_breathe_3 ++ dktX2_breathe_4
def dkwX2_breathe_2 : List UInt8 := [44, 185, 0, 52, 1, 0, 153, 0, 39, 44, 185, 0, 58, 1, 0, 192, 0, 77, 78, 45, 89, 180, 0, 82]
abbrev dktX2_breathe_2 : List UInt8 := dkwX2_breathe_2 ++ dktX2_breathe_3
def dkwX2_breathe_1 : List UInt8 := [16, 99, 42, 180, 0, 39, 27, 8, 108, 96, 184, 0, 135, 181, 0, 39, 42, 180, 0, 24, 182, 0, 76, 77]
abbrev dktX2_breathe_1 : List UInt8 := dkwX2_breathe_1 ++ dktX2_breathe_2
def dkwX2_breathe_0 : List UInt8 := [42, 182, 0, 133, 60, 42, 16, 100, 42, 180, 0, 35, 27, 7, 108, 96, 184, 0, 135, 181, 0, 35, 42]
abbrev dktX2_breathe_0 : List UInt8 := dkwX2_breathe_0 ++ dktX2_breathe_1
theorem dksX2_breathe_0 : cX2_breathe.data.toList.drop 0 = dktX2_breathe_0 := by decide +kernel
theorem dksX2_breathe_1 : cX2_breathe.data.toList.drop 23 = dktX2_breathe_1 := dk_seg dksX2_breathe_0 23 rfl rfl
theorem dksX2_breathe_2 : cX2_breathe.data.toList.drop 47 = dktX2_breathe_2 := dk_seg dksX2_breathe_1 24 rfl rfl
theorem dksX2_breathe_3 : cX2_breathe.data.toList.drop 71 = dktX2_breathe_3 := dk_seg dksX2_breathe_2 24 rfl rfl
theorem dksX2_breathe_4 : cX2_breathe.data.toList.drop 95 = dktX2_breathe_4 := dk_seg dksX2_breathe_3 24 rfl rfl
theorem dX2_breathe_0 : decode cX2_breathe 0 = .ok (.aload_n 0, 1) := dk_42 (dk_at dksX2_breathe_0 0 rfl rfl)
theorem dX2_breathe_1 : decode cX2_breathe 1 = .ok (.invokevirtual 133, 3) := dk_182 0 133 (dk_at dksX2_breathe_0 1 rfl rfl)
theorem dX2_breathe_4 : decode cX2_breathe 4 = .ok (.istore_n 1, 1) := dk_60 (dk_at dksX2_breathe_0 4 rfl rfl)
theorem dX2_breathe_5 : decode cX2_breathe 5 = .ok (.aload_n 0, 1) := dk_42 (dk_at dksX2_breathe_0 5 rfl rfl)
theorem dX2_breathe_6 : decode cX2_breathe 6 = .ok (.bipush 100, 2) := dk_16 100 (dk_at dksX2_breathe_0 6 rfl rfl)
theorem dX2_breathe_8 : decode cX2_breathe 8 = .ok (.aload_n 0, 1) := dk_42 (dk_at dksX2_breathe_0 8 rfl rfl)
theorem dX2_breathe_9 : decode cX2_breathe 9 = .ok (.getfield 35, 3) := dk_180 0 35 (dk_at dksX2_breathe_0 9 rfl rfl)
theorem dX2_breathe_12 : decode cX2_breathe 12 = .ok (.iload_n 1, 1) := dk_27 (dk_at dksX2_breathe_0 12 rfl rfl)
theorem dX2_breathe_13 : decode cX2_breathe 13 = .ok (.iconst 4, 1) := dk_7 (dk_at dksX2_breathe_0 13 rfl rfl)
theorem dX2_breathe_14 : decode cX2_breathe 14 = .ok (.idiv, 1) := dk_108 (dk_at dksX2_breathe_0 14 rfl rfl)
theorem dX2_breathe_15 : decode cX2_breathe 15 = .ok (.iadd, 1) := dk_96 (dk_at dksX2_breathe_0 15 rfl rfl)
theorem dX2_breathe_16 : decode cX2_breathe 16 = .ok (.invokestatic 135, 3) := dk_184 0 135 (dk_at dksX2_breathe_0 16 rfl rfl)
theorem dX2_breathe_19 : decode cX2_breathe 19 = .ok (.putfield 35, 3) := dk_181 0 35 (dk_at dksX2_breathe_0 19 rfl rfl)
theorem dX2_breathe_22 : decode cX2_breathe 22 = .ok (.aload_n 0, 1) := dk_42 (dk_at dksX2_breathe_0 22 rfl rfl)
theorem dX2_breathe_23 : decode cX2_breathe 23 = .ok (.bipush 99, 2) := dk_16 99 (dk_at dksX2_breathe_1 0 rfl rfl)
theorem dX2_breathe_25 : decode cX2_breathe 25 = .ok (.aload_n 0, 1) := dk_42 (dk_at dksX2_breathe_1 2 rfl rfl)
theorem dX2_breathe_26 : decode cX2_breathe 26 = .ok (.getfield 39, 3) := dk_180 0 39 (dk_at dksX2_breathe_1 3 rfl rfl)
theorem dX2_breathe_29 : decode cX2_breathe 29 = .ok (.iload_n 1, 1) := dk_27 (dk_at dksX2_breathe_1 6 rfl rfl)
theorem dX2_breathe_30 : decode cX2_breathe 30 = .ok (.iconst 5, 1) := dk_8 (dk_at dksX2_breathe_1 7 rfl rfl)
theorem dX2_breathe_31 : decode cX2_breathe 31 = .ok (.idiv, 1) := dk_108 (dk_at dksX2_breathe_1 8 rfl rfl)
theorem dX2_breathe_32 : decode cX2_breathe 32 = .ok (.iadd, 1) := dk_96 (dk_at dksX2_breathe_1 9 rfl rfl)
theorem dX2_breathe_33 : decode cX2_breathe 33 = .ok (.invokestatic 135, 3) := dk_184 0 135 (dk_at dksX2_breathe_1 10 rfl rfl)
theorem dX2_breathe_36 : decode cX2_breathe 36 = .ok (.putfield 39, 3) := dk_181 0 39 (dk_at dksX2_breathe_1 13 rfl rfl)
theorem dX2_breathe_39 : decode cX2_breathe 39 = .ok (.aload_n 0, 1) := dk_42 (dk_at dksX2_breathe_1 16 rfl rfl)
theorem dX2_breathe_40 : decode cX2_breathe 40 = .ok (.getfield 24, 3) := dk_180 0 24 (dk_at dksX2_breathe_1 17 rfl rfl)
theorem dX2_breathe_43 : decode cX2_breathe 43 = .ok (.invokevirtual 76, 3) := dk_182 0 76 (dk_at dksX2_breathe_1 20 rfl rfl)
theorem dX2_breathe_46 : decode cX2_breathe 46 = .ok (.astore_n 2, 1) := dk_77 (dk_at dksX2_breathe_1 23 rfl rfl)
theorem dX2_breathe_47 : decode cX2_breathe 47 = .ok (.aload_n 2, 1) := dk_44 (dk_at dksX2_breathe_2 0 rfl rfl)
theorem dX2_breathe_48 : decode cX2_breathe 48 = .ok (.invokeinterface 52 1, 5) := by decide +kernel
theorem dX2_breathe_53 : decode cX2_breathe 53 = .ok (.ifCond .eq 39, 3) := dk_153 0 39 (dk_at dksX2_breathe_2 6 rfl rfl)
theorem dX2_breathe_56 : decode cX2_breathe 56 = .ok (.aload_n 2, 1) := dk_44 (dk_at dksX2_breathe_2 9 rfl rfl)
theorem dX2_breathe_57 : decode cX2_breathe 57 = .ok (.invokeinterface 58 1, 5) := by decide +kernel
theorem dX2_breathe_62 : decode cX2_breathe 62 = .ok (.checkcast 77, 3) := dk_192 0 77 (dk_at dksX2_breathe_2 15 rfl rfl)
theorem dX2_breathe_65 : decode cX2_breathe 65 = .ok (.astore_n 3, 1) := dk_78 (dk_at dksX2_breathe_2 18 rfl rfl)
theorem dX2_breathe_66 : decode cX2_breathe 66 = .ok (.aload_n 3, 1) := dk_45 (dk_at dksX2_breathe_2 19 rfl rfl)
theorem dX2_breathe_67 : decode cX2_breathe 67 = .ok (.dup, 1) := dk_89 (dk_at dksX2_breathe_2 20 rfl rfl)
theorem dX2_breathe_68 : decode cX2_breathe 68 = .ok (.getfield 82, 3) := dk_180 0 82 (dk_at dksX2_breathe_2 21 rfl rfl)
theorem dX2_breathe_71 : decode cX2_breathe 71 = .ok (.iconst 1, 1) := dk_4 (dk_at dksX2_breathe_3 0 rfl rfl)
theorem dX2_breathe_72 : decode cX2_breathe 72 = .ok (.isub, 1) := dk_100 (dk_at dksX2_breathe_3 1 rfl rfl)
theorem dX2_breathe_73 : decode cX2_breathe 73 = .ok (.putfield 82, 3) := dk_181 0 82 (dk_at dksX2_breathe_3 2 rfl rfl)
theorem dX2_breathe_76 : decode cX2_breathe 76 = .ok (.aload_n 3, 1) := dk_45 (dk_at dksX2_breathe_3 5 rfl rfl)
theorem dX2_breathe_77 : decode cX2_breathe 77 = .ok (.getfield 82, 3) := dk_180 0 82 (dk_at dksX2_breathe_3 6 rfl rfl)
theorem dX2_breathe_80 : decode cX2_breathe 80 = .ok (.ifCond .ne 9, 3) := dk_154 0 9 (dk_at dksX2_breathe_3 9 rfl rfl)
theorem dX2_breathe_83 : decode cX2_breathe 83 = .ok (.aload_n 2, 1) := dk_44 (dk_at dksX2_breathe_3 12 rfl rfl)
theorem dX2_breathe_84 : decode cX2_breathe 84 = .ok (.invokeinterface 141 1, 5) := by decide +kernel
theorem dX2_breathe_89 : decode cX2_breathe 89 = .ok (.goto (-42), 3) := dk_167 255 214 (dk_at dksX2_breathe_3 18 rfl rfl)
theorem dX2_breathe_92 : decode cX2_breathe 92 = .ok (.aload_n 0, 1) := dk_42 (dk_at dksX2_breathe_3 21 rfl rfl)
theorem dX2_breathe_93 : decode cX2_breathe 93 = .ok (.iconst 0, 1) := dk_3 (dk_at dksX2_breathe_3 22 rfl rfl)
theorem dX2_breathe_94 : decode cX2_breathe 94 = .ok (.aload_n 0, 1) := dk_42 (dk_at dksX2_breathe_3 23 rfl rfl)
theorem dX2_breathe_95 : decode cX2_breathe 95 = .ok (.getfield 35, 3) := dk_180 0 35 (dk_at dksX2_breathe_4 0 rfl rfl)
theorem dX2_breathe_98 : decode cX2_breathe 98 = .ok (.aload_n 0, 1) := dk_42 (dk_at dksX2_breathe_4 3 rfl rfl)
theorem dX2_breathe_99 : decode cX2_breathe 99 = .ok (.getfield 42, 3) := dk_180 0 42 (dk_at dksX2_breathe_4 4 rfl rfl)
theorem dX2_breathe_102 : decode cX2_breathe 102 = .ok (.isub, 1) := dk_100 (dk_at dksX2_breathe_4 7 rfl rfl)
theorem dX2_breathe_103 : decode cX2_breathe 103 = .ok (.invokestatic 144, 3) := dk_184 0 144 (dk_at dksX2_breathe_4 8 rfl rfl)
theorem dX2_breathe_106 : decode cX2_breathe 106 = .ok (.putfield 35, 3) := dk_181 0 35 (dk_at dksX2_breathe_4 11 rfl rfl)
theorem dX2_breathe_109 : decode cX2_breathe 109 = .ok (.return_, 1) := dk_177 (dk_at dksX2_breathe_4 14 rfl rfl)
abbrev cX2_persons : ByteArray := prog_29_method_5_code
def yX2_persons : MethodName := ⟨RX2, "persons", "()I"⟩
def dkwX2_persons_1 : List UInt8 := [185, 0, 58, 1, 0, 192, 0, 77, 78, 27, 45, 180, 0, 79, 96, 60, 167, 255, 230, 27, 172]
abbrev dktX2_persons_1 : List UInt8 := dkwX2_persons_1 ++ []
def dkwX2_persons_0 : List UInt8 := [3, 60, 42, 180, 0, 24, 182, 0, 76, 77, 44, 185, 0, 52, 1, 0, 153, 0, 23, 44]
abbrev dktX2_persons_0 : List UInt8 := dkwX2_persons_0 ++ dktX2_persons_1
theorem dksX2_persons_0 : cX2_persons.data.toList.drop 0 = dktX2_persons_0 := by decide +kernel
theorem dksX2_persons_1 : cX2_persons.data.toList.drop 20 = dktX2_persons_1 := dk_seg dksX2_persons_0 20 rfl rfl
theorem dX2_persons_0 : decode cX2_persons 0 = .ok (.iconst 0, 1) := dk_3 (dk_at dksX2_persons_0 0 rfl rfl)
theorem dX2_persons_1 : decode cX2_persons 1 = .ok (.istore_n 1, 1) := dk_60 (dk_at dksX2_persons_0 1 rfl rfl)
theorem dX2_persons_2 : decode cX2_persons 2 = .ok (.aload_n 0, 1) := dk_42 (dk_at dksX2_persons_0 2 rfl rfl)
theorem dX2_persons_3 : decode cX2_persons 3 = .ok (.getfield 24, 3) := dk_180 0 24 (dk_at dksX2_persons_0 3 rfl rfl)
theorem dX2_persons_6 : decode cX2_persons 6 = .ok (.invokevirtual 76, 3) := dk_182 0 76 (dk_at dksX2_persons_0 6 rfl rfl)
theorem dX2_persons_9 : decode cX2_persons 9 = .ok (.astore_n 2, 1) := dk_77 (dk_at dksX2_persons_0 9 rfl rfl)
theorem dX2_persons_10 : decode cX2_persons 10 = .ok (.aload_n 2, 1) := dk_44 (dk_at dksX2_persons_0 10 rfl rfl)
theorem dX2_persons_11 : decode cX2_persons 11 = .ok (.invokeinterface 52 1, 5) := by decide +kernel
theorem dX2_persons_16 : decode cX2_persons 16 = .ok (.ifCond .eq 23, 3) := dk_153 0 23 (dk_at dksX2_persons_0 16 rfl rfl)
theorem dX2_persons_19 : decode cX2_persons 19 = .ok (.aload_n 2, 1) := dk_44 (dk_at dksX2_persons_0 19 rfl rfl)
theorem dX2_persons_20 : decode cX2_persons 20 = .ok (.invokeinterface 58 1, 5) := by decide +kernel
theorem dX2_persons_25 : decode cX2_persons 25 = .ok (.checkcast 77, 3) := dk_192 0 77 (dk_at dksX2_persons_1 5 rfl rfl)
theorem dX2_persons_28 : decode cX2_persons 28 = .ok (.astore_n 3, 1) := dk_78 (dk_at dksX2_persons_1 8 rfl rfl)
theorem dX2_persons_29 : decode cX2_persons 29 = .ok (.iload_n 1, 1) := dk_27 (dk_at dksX2_persons_1 9 rfl rfl)
theorem dX2_persons_30 : decode cX2_persons 30 = .ok (.aload_n 3, 1) := dk_45 (dk_at dksX2_persons_1 10 rfl rfl)
theorem dX2_persons_31 : decode cX2_persons 31 = .ok (.getfield 79, 3) := dk_180 0 79 (dk_at dksX2_persons_1 11 rfl rfl)
theorem dX2_persons_34 : decode cX2_persons 34 = .ok (.iadd, 1) := dk_96 (dk_at dksX2_persons_1 14 rfl rfl)
theorem dX2_persons_35 : decode cX2_persons 35 = .ok (.istore_n 1, 1) := dk_60 (dk_at dksX2_persons_1 15 rfl rfl)
theorem dX2_persons_36 : decode cX2_persons 36 = .ok (.goto (-26), 3) := dk_167 255 230 (dk_at dksX2_persons_1 16 rfl rfl)
theorem dX2_persons_39 : decode cX2_persons 39 = .ok (.iload_n 1, 1) := dk_27 (dk_at dksX2_persons_1 19 rfl rfl)
theorem dX2_persons_40 : decode cX2_persons 40 = .ok (.ireturn, 1) := dk_172 (dk_at dksX2_persons_1 20 rfl rfl)
abbrev cX2_shine : ByteArray := prog_29_method_7_code
def yX2_shine : MethodName := ⟨RX2, "shine", "()V"⟩
def dkwX2_shine_4 : List UInt8 := [153, 0, 7, 4, 167, 0, 4, 3, 100, 181, 0, 97, 167, 255, 158, 177]
abbrev dktX2_shine_4 : List UInt8 := dkwX2_shine_4 ++ []
def dkwX2_shine_3 : List UInt8 := [4, 100, 181, 0, 150, 42, 89, 180, 0, 107, 4, 96, 181, 0, 107, 44, 89, 180, 0, 97, 44, 182, 0, 147]
abbrev dktX2_shine_3 : List UInt8 := dkwX2_shine_3 ++ dktX2_shine_4
def dkwX2_shine_2 : List UInt8 := [153, 0, 39, 42, 180, 0, 45, 8, 112, 154, 0, 30, 45, 180, 0, 150, 158, 0, 23, 45, 89, 180, 0, 150]
abbrev dktX2_shine_2 : List UInt8 := dkwX2_shine_2 ++ dktX2_shine_3
def dkwX2_shine_1 : List UInt8 := [192, 0, 92, 77, 42, 180, 0, 12, 44, 180, 0, 94, 182, 0, 129, 192, 0, 62, 78, 44, 182, 0, 147]
abbrev dktX2_shine_1 : List UInt8 := dkwX2_shine_1 ++ dktX2_shine_2
def dkwX2_shine_0 : List UInt8 := [42, 180, 0, 28, 182, 0, 48, 76, 43, 185, 0, 52, 1, 0, 153, 0, 95, 43, 185, 0, 58, 1, 0]
abbrev dktX2_shine_0 : List UInt8 := dkwX2_shine_0 ++ dktX2_shine_1
theorem dksX2_shine_0 : cX2_shine.data.toList.drop 0 = dktX2_shine_0 := by decide +kernel
theorem dksX2_shine_1 : cX2_shine.data.toList.drop 23 = dktX2_shine_1 := dk_seg dksX2_shine_0 23 rfl rfl
theorem dksX2_shine_2 : cX2_shine.data.toList.drop 46 = dktX2_shine_2 := dk_seg dksX2_shine_1 23 rfl rfl
theorem dksX2_shine_3 : cX2_shine.data.toList.drop 70 = dktX2_shine_3 := dk_seg dksX2_shine_2 24 rfl rfl
theorem dksX2_shine_4 : cX2_shine.data.toList.drop 94 = dktX2_shine_4 := dk_seg dksX2_shine_3 24 rfl rfl
theorem dX2_shine_0 : decode cX2_shine 0 = .ok (.aload_n 0, 1) := dk_42 (dk_at dksX2_shine_0 0 rfl rfl)
theorem dX2_shine_1 : decode cX2_shine 1 = .ok (.getfield 28, 3) := dk_180 0 28 (dk_at dksX2_shine_0 1 rfl rfl)
theorem dX2_shine_4 : decode cX2_shine 4 = .ok (.invokevirtual 48, 3) := dk_182 0 48 (dk_at dksX2_shine_0 4 rfl rfl)
theorem dX2_shine_7 : decode cX2_shine 7 = .ok (.astore_n 1, 1) := dk_76 (dk_at dksX2_shine_0 7 rfl rfl)
theorem dX2_shine_8 : decode cX2_shine 8 = .ok (.aload_n 1, 1) := dk_43 (dk_at dksX2_shine_0 8 rfl rfl)
theorem dX2_shine_9 : decode cX2_shine 9 = .ok (.invokeinterface 52 1, 5) := by decide +kernel
theorem dX2_shine_14 : decode cX2_shine 14 = .ok (.ifCond .eq 95, 3) := dk_153 0 95 (dk_at dksX2_shine_0 14 rfl rfl)
theorem dX2_shine_17 : decode cX2_shine 17 = .ok (.aload_n 1, 1) := dk_43 (dk_at dksX2_shine_0 17 rfl rfl)
theorem dX2_shine_18 : decode cX2_shine 18 = .ok (.invokeinterface 58 1, 5) := by decide +kernel
theorem dX2_shine_23 : decode cX2_shine 23 = .ok (.checkcast 92, 3) := dk_192 0 92 (dk_at dksX2_shine_1 0 rfl rfl)
theorem dX2_shine_26 : decode cX2_shine 26 = .ok (.astore_n 2, 1) := dk_77 (dk_at dksX2_shine_1 3 rfl rfl)
theorem dX2_shine_27 : decode cX2_shine 27 = .ok (.aload_n 0, 1) := dk_42 (dk_at dksX2_shine_1 4 rfl rfl)
theorem dX2_shine_28 : decode cX2_shine 28 = .ok (.getfield 12, 3) := dk_180 0 12 (dk_at dksX2_shine_1 5 rfl rfl)
theorem dX2_shine_31 : decode cX2_shine 31 = .ok (.aload_n 2, 1) := dk_44 (dk_at dksX2_shine_1 8 rfl rfl)
theorem dX2_shine_32 : decode cX2_shine 32 = .ok (.getfield 94, 3) := dk_180 0 94 (dk_at dksX2_shine_1 9 rfl rfl)
theorem dX2_shine_35 : decode cX2_shine 35 = .ok (.invokevirtual 129, 3) := dk_182 0 129 (dk_at dksX2_shine_1 12 rfl rfl)
theorem dX2_shine_38 : decode cX2_shine 38 = .ok (.checkcast 62, 3) := dk_192 0 62 (dk_at dksX2_shine_1 15 rfl rfl)
theorem dX2_shine_41 : decode cX2_shine 41 = .ok (.astore_n 3, 1) := dk_78 (dk_at dksX2_shine_1 18 rfl rfl)
theorem dX2_shine_42 : decode cX2_shine 42 = .ok (.aload_n 2, 1) := dk_44 (dk_at dksX2_shine_1 19 rfl rfl)
theorem dX2_shine_43 : decode cX2_shine 43 = .ok (.invokevirtual 147, 3) := dk_182 0 147 (dk_at dksX2_shine_1 20 rfl rfl)
theorem dX2_shine_46 : decode cX2_shine 46 = .ok (.ifCond .eq 39, 3) := dk_153 0 39 (dk_at dksX2_shine_2 0 rfl rfl)
theorem dX2_shine_49 : decode cX2_shine 49 = .ok (.aload_n 0, 1) := dk_42 (dk_at dksX2_shine_2 3 rfl rfl)
theorem dX2_shine_50 : decode cX2_shine 50 = .ok (.getfield 45, 3) := dk_180 0 45 (dk_at dksX2_shine_2 4 rfl rfl)
theorem dX2_shine_53 : decode cX2_shine 53 = .ok (.iconst 5, 1) := dk_8 (dk_at dksX2_shine_2 7 rfl rfl)
theorem dX2_shine_54 : decode cX2_shine 54 = .ok (.irem, 1) := dk_112 (dk_at dksX2_shine_2 8 rfl rfl)
theorem dX2_shine_55 : decode cX2_shine 55 = .ok (.ifCond .ne 30, 3) := dk_154 0 30 (dk_at dksX2_shine_2 9 rfl rfl)
theorem dX2_shine_58 : decode cX2_shine 58 = .ok (.aload_n 3, 1) := dk_45 (dk_at dksX2_shine_2 12 rfl rfl)
theorem dX2_shine_59 : decode cX2_shine 59 = .ok (.getfield 150, 3) := dk_180 0 150 (dk_at dksX2_shine_2 13 rfl rfl)
theorem dX2_shine_62 : decode cX2_shine 62 = .ok (.ifCond .le 23, 3) := dk_158 0 23 (dk_at dksX2_shine_2 16 rfl rfl)
theorem dX2_shine_65 : decode cX2_shine 65 = .ok (.aload_n 3, 1) := dk_45 (dk_at dksX2_shine_2 19 rfl rfl)
theorem dX2_shine_66 : decode cX2_shine 66 = .ok (.dup, 1) := dk_89 (dk_at dksX2_shine_2 20 rfl rfl)
theorem dX2_shine_67 : decode cX2_shine 67 = .ok (.getfield 150, 3) := dk_180 0 150 (dk_at dksX2_shine_2 21 rfl rfl)
theorem dX2_shine_70 : decode cX2_shine 70 = .ok (.iconst 1, 1) := dk_4 (dk_at dksX2_shine_3 0 rfl rfl)
theorem dX2_shine_71 : decode cX2_shine 71 = .ok (.isub, 1) := dk_100 (dk_at dksX2_shine_3 1 rfl rfl)
theorem dX2_shine_72 : decode cX2_shine 72 = .ok (.putfield 150, 3) := dk_181 0 150 (dk_at dksX2_shine_3 2 rfl rfl)
theorem dX2_shine_75 : decode cX2_shine 75 = .ok (.aload_n 0, 1) := dk_42 (dk_at dksX2_shine_3 5 rfl rfl)
theorem dX2_shine_76 : decode cX2_shine 76 = .ok (.dup, 1) := dk_89 (dk_at dksX2_shine_3 6 rfl rfl)
theorem dX2_shine_77 : decode cX2_shine 77 = .ok (.getfield 107, 3) := dk_180 0 107 (dk_at dksX2_shine_3 7 rfl rfl)
theorem dX2_shine_80 : decode cX2_shine 80 = .ok (.iconst 1, 1) := dk_4 (dk_at dksX2_shine_3 10 rfl rfl)
theorem dX2_shine_81 : decode cX2_shine 81 = .ok (.iadd, 1) := dk_96 (dk_at dksX2_shine_3 11 rfl rfl)
theorem dX2_shine_82 : decode cX2_shine 82 = .ok (.putfield 107, 3) := dk_181 0 107 (dk_at dksX2_shine_3 12 rfl rfl)
theorem dX2_shine_85 : decode cX2_shine 85 = .ok (.aload_n 2, 1) := dk_44 (dk_at dksX2_shine_3 15 rfl rfl)
theorem dX2_shine_86 : decode cX2_shine 86 = .ok (.dup, 1) := dk_89 (dk_at dksX2_shine_3 16 rfl rfl)
theorem dX2_shine_87 : decode cX2_shine 87 = .ok (.getfield 97, 3) := dk_180 0 97 (dk_at dksX2_shine_3 17 rfl rfl)
theorem dX2_shine_90 : decode cX2_shine 90 = .ok (.aload_n 2, 1) := dk_44 (dk_at dksX2_shine_3 20 rfl rfl)
theorem dX2_shine_91 : decode cX2_shine 91 = .ok (.invokevirtual 147, 3) := dk_182 0 147 (dk_at dksX2_shine_3 21 rfl rfl)
theorem dX2_shine_94 : decode cX2_shine 94 = .ok (.ifCond .eq 7, 3) := dk_153 0 7 (dk_at dksX2_shine_4 0 rfl rfl)
theorem dX2_shine_97 : decode cX2_shine 97 = .ok (.iconst 1, 1) := dk_4 (dk_at dksX2_shine_4 3 rfl rfl)
theorem dX2_shine_98 : decode cX2_shine 98 = .ok (.goto 4, 3) := dk_167 0 4 (dk_at dksX2_shine_4 4 rfl rfl)
theorem dX2_shine_101 : decode cX2_shine 101 = .ok (.iconst 0, 1) := dk_3 (dk_at dksX2_shine_4 7 rfl rfl)
theorem dX2_shine_102 : decode cX2_shine 102 = .ok (.isub, 1) := dk_100 (dk_at dksX2_shine_4 8 rfl rfl)
theorem dX2_shine_103 : decode cX2_shine 103 = .ok (.putfield 97, 3) := dk_181 0 97 (dk_at dksX2_shine_4 9 rfl rfl)
theorem dX2_shine_106 : decode cX2_shine 106 = .ok (.goto (-98), 3) := dk_167 255 158 (dk_at dksX2_shine_4 12 rfl rfl)
theorem dX2_shine_109 : decode cX2_shine 109 = .ok (.return_, 1) := dk_177 (dk_at dksX2_shine_4 15 rfl rfl)
abbrev cX2_dripAll : ByteArray := prog_29_method_8_code
def yX2_dripAll : MethodName := ⟨RX2, "dripAll", "()V"⟩
def dkwX2_dripAll_6 : List UInt8 := [177]
abbrev dktX2_dripAll_6 : List UInt8 := dkwX2_dripAll_6 ++ []
def dkwX2_dripAll_5 : List UInt8 := [184, 0, 144, 96, 181, 0, 113, 42, 89, 180, 0, 101, 4, 96, 181, 0, 101, 44, 182, 0, 163, 167, 255, 125]
abbrev dktX2_dripAll_5 : List UInt8 := dkwX2_dripAll_5 ++ dktX2_dripAll_6
def dkwX2_dripAll_4 : List UInt8 := [42, 89, 180, 0, 110, 3, 21, 4, 184, 0, 144, 96, 181, 0, 110, 42, 89, 180, 0, 113, 3, 21, 4, 116]
abbrev dktX2_dripAll_4 : List UInt8 := dkwX2_dripAll_4 ++ dktX2_dripAll_5
def dkwX2_dripAll_3 : List UInt8 := [96, 181, 0, 104, 45, 42, 180, 0, 35, 16, 50, 162, 0, 7, 4, 167, 0, 4, 3, 182, 0, 159, 54, 4]
abbrev dktX2_dripAll_3 : List UInt8 := dkwX2_dripAll_3 ++ dktX2_dripAll_4
def dkwX2_dripAll_2 : List UInt8 := [182, 0, 129, 192, 0, 62, 78, 42, 89, 180, 0, 104, 45, 182, 0, 156, 153, 0, 7, 4, 167, 0, 4, 3]
abbrev dktX2_dripAll_2 : List UInt8 := dkwX2_dripAll_2 ++ dktX2_dripAll_3
def dkwX2_dripAll_1 : List UInt8 := [192, 0, 71, 77, 44, 180, 0, 153, 42, 180, 0, 45, 160, 0, 104, 42, 180, 0, 12, 44, 180, 0, 155]
abbrev dktX2_dripAll_1 : List UInt8 := dkwX2_dripAll_1 ++ dktX2_dripAll_2
def dkwX2_dripAll_0 : List UInt8 := [42, 180, 0, 18, 182, 0, 48, 76, 43, 185, 0, 52, 1, 0, 153, 0, 128, 43, 185, 0, 58, 1, 0]
abbrev dktX2_dripAll_0 : List UInt8 := dkwX2_dripAll_0 ++ dktX2_dripAll_1
theorem dksX2_dripAll_0 : cX2_dripAll.data.toList.drop 0 = dktX2_dripAll_0 := by decide +kernel
theorem dksX2_dripAll_1 : cX2_dripAll.data.toList.drop 23 = dktX2_dripAll_1 := dk_seg dksX2_dripAll_0 23 rfl rfl
theorem dksX2_dripAll_2 : cX2_dripAll.data.toList.drop 46 = dktX2_dripAll_2 := dk_seg dksX2_dripAll_1 23 rfl rfl
theorem dksX2_dripAll_3 : cX2_dripAll.data.toList.drop 70 = dktX2_dripAll_3 := dk_seg dksX2_dripAll_2 24 rfl rfl
theorem dksX2_dripAll_4 : cX2_dripAll.data.toList.drop 94 = dktX2_dripAll_4 := dk_seg dksX2_dripAll_3 24 rfl rfl
theorem dksX2_dripAll_5 : cX2_dripAll.data.toList.drop 118 = dktX2_dripAll_5 := dk_seg dksX2_dripAll_4 24 rfl rfl
theorem dksX2_dripAll_6 : cX2_dripAll.data.toList.drop 142 = dktX2_dripAll_6 := dk_seg dksX2_dripAll_5 24 rfl rfl
theorem dX2_dripAll_0 : decode cX2_dripAll 0 = .ok (.aload_n 0, 1) := dk_42 (dk_at dksX2_dripAll_0 0 rfl rfl)
theorem dX2_dripAll_1 : decode cX2_dripAll 1 = .ok (.getfield 18, 3) := dk_180 0 18 (dk_at dksX2_dripAll_0 1 rfl rfl)
theorem dX2_dripAll_4 : decode cX2_dripAll 4 = .ok (.invokevirtual 48, 3) := dk_182 0 48 (dk_at dksX2_dripAll_0 4 rfl rfl)
theorem dX2_dripAll_7 : decode cX2_dripAll 7 = .ok (.astore_n 1, 1) := dk_76 (dk_at dksX2_dripAll_0 7 rfl rfl)
theorem dX2_dripAll_8 : decode cX2_dripAll 8 = .ok (.aload_n 1, 1) := dk_43 (dk_at dksX2_dripAll_0 8 rfl rfl)
theorem dX2_dripAll_9 : decode cX2_dripAll 9 = .ok (.invokeinterface 52 1, 5) := by decide +kernel
theorem dX2_dripAll_14 : decode cX2_dripAll 14 = .ok (.ifCond .eq 128, 3) := dk_153 0 128 (dk_at dksX2_dripAll_0 14 rfl rfl)
theorem dX2_dripAll_17 : decode cX2_dripAll 17 = .ok (.aload_n 1, 1) := dk_43 (dk_at dksX2_dripAll_0 17 rfl rfl)
theorem dX2_dripAll_18 : decode cX2_dripAll 18 = .ok (.invokeinterface 58 1, 5) := by decide +kernel
theorem dX2_dripAll_23 : decode cX2_dripAll 23 = .ok (.checkcast 71, 3) := dk_192 0 71 (dk_at dksX2_dripAll_1 0 rfl rfl)
theorem dX2_dripAll_26 : decode cX2_dripAll 26 = .ok (.astore_n 2, 1) := dk_77 (dk_at dksX2_dripAll_1 3 rfl rfl)
theorem dX2_dripAll_27 : decode cX2_dripAll 27 = .ok (.aload_n 2, 1) := dk_44 (dk_at dksX2_dripAll_1 4 rfl rfl)
theorem dX2_dripAll_28 : decode cX2_dripAll 28 = .ok (.getfield 153, 3) := dk_180 0 153 (dk_at dksX2_dripAll_1 5 rfl rfl)
theorem dX2_dripAll_31 : decode cX2_dripAll 31 = .ok (.aload_n 0, 1) := dk_42 (dk_at dksX2_dripAll_1 8 rfl rfl)
theorem dX2_dripAll_32 : decode cX2_dripAll 32 = .ok (.getfield 45, 3) := dk_180 0 45 (dk_at dksX2_dripAll_1 9 rfl rfl)
theorem dX2_dripAll_35 : decode cX2_dripAll 35 = .ok (.if_icmp .ne 104, 3) := dk_160 0 104 (dk_at dksX2_dripAll_1 12 rfl rfl)
theorem dX2_dripAll_38 : decode cX2_dripAll 38 = .ok (.aload_n 0, 1) := dk_42 (dk_at dksX2_dripAll_1 15 rfl rfl)
theorem dX2_dripAll_39 : decode cX2_dripAll 39 = .ok (.getfield 12, 3) := dk_180 0 12 (dk_at dksX2_dripAll_1 16 rfl rfl)
theorem dX2_dripAll_42 : decode cX2_dripAll 42 = .ok (.aload_n 2, 1) := dk_44 (dk_at dksX2_dripAll_1 19 rfl rfl)
theorem dX2_dripAll_43 : decode cX2_dripAll 43 = .ok (.getfield 155, 3) := dk_180 0 155 (dk_at dksX2_dripAll_1 20 rfl rfl)
theorem dX2_dripAll_46 : decode cX2_dripAll 46 = .ok (.invokevirtual 129, 3) := dk_182 0 129 (dk_at dksX2_dripAll_2 0 rfl rfl)
theorem dX2_dripAll_49 : decode cX2_dripAll 49 = .ok (.checkcast 62, 3) := dk_192 0 62 (dk_at dksX2_dripAll_2 3 rfl rfl)
theorem dX2_dripAll_52 : decode cX2_dripAll 52 = .ok (.astore_n 3, 1) := dk_78 (dk_at dksX2_dripAll_2 6 rfl rfl)
theorem dX2_dripAll_53 : decode cX2_dripAll 53 = .ok (.aload_n 0, 1) := dk_42 (dk_at dksX2_dripAll_2 7 rfl rfl)
theorem dX2_dripAll_54 : decode cX2_dripAll 54 = .ok (.dup, 1) := dk_89 (dk_at dksX2_dripAll_2 8 rfl rfl)
theorem dX2_dripAll_55 : decode cX2_dripAll 55 = .ok (.getfield 104, 3) := dk_180 0 104 (dk_at dksX2_dripAll_2 9 rfl rfl)
theorem dX2_dripAll_58 : decode cX2_dripAll 58 = .ok (.aload_n 3, 1) := dk_45 (dk_at dksX2_dripAll_2 12 rfl rfl)
theorem dX2_dripAll_59 : decode cX2_dripAll 59 = .ok (.invokevirtual 156, 3) := dk_182 0 156 (dk_at dksX2_dripAll_2 13 rfl rfl)
theorem dX2_dripAll_62 : decode cX2_dripAll 62 = .ok (.ifCond .eq 7, 3) := dk_153 0 7 (dk_at dksX2_dripAll_2 16 rfl rfl)
theorem dX2_dripAll_65 : decode cX2_dripAll 65 = .ok (.iconst 1, 1) := dk_4 (dk_at dksX2_dripAll_2 19 rfl rfl)
theorem dX2_dripAll_66 : decode cX2_dripAll 66 = .ok (.goto 4, 3) := dk_167 0 4 (dk_at dksX2_dripAll_2 20 rfl rfl)
theorem dX2_dripAll_69 : decode cX2_dripAll 69 = .ok (.iconst 0, 1) := dk_3 (dk_at dksX2_dripAll_2 23 rfl rfl)
theorem dX2_dripAll_70 : decode cX2_dripAll 70 = .ok (.iadd, 1) := dk_96 (dk_at dksX2_dripAll_3 0 rfl rfl)
theorem dX2_dripAll_71 : decode cX2_dripAll 71 = .ok (.putfield 104, 3) := dk_181 0 104 (dk_at dksX2_dripAll_3 1 rfl rfl)
theorem dX2_dripAll_74 : decode cX2_dripAll 74 = .ok (.aload_n 3, 1) := dk_45 (dk_at dksX2_dripAll_3 4 rfl rfl)
theorem dX2_dripAll_75 : decode cX2_dripAll 75 = .ok (.aload_n 0, 1) := dk_42 (dk_at dksX2_dripAll_3 5 rfl rfl)
theorem dX2_dripAll_76 : decode cX2_dripAll 76 = .ok (.getfield 35, 3) := dk_180 0 35 (dk_at dksX2_dripAll_3 6 rfl rfl)
theorem dX2_dripAll_79 : decode cX2_dripAll 79 = .ok (.bipush 50, 2) := dk_16 50 (dk_at dksX2_dripAll_3 9 rfl rfl)
theorem dX2_dripAll_81 : decode cX2_dripAll 81 = .ok (.if_icmp .ge 7, 3) := dk_162 0 7 (dk_at dksX2_dripAll_3 11 rfl rfl)
theorem dX2_dripAll_84 : decode cX2_dripAll 84 = .ok (.iconst 1, 1) := dk_4 (dk_at dksX2_dripAll_3 14 rfl rfl)
theorem dX2_dripAll_85 : decode cX2_dripAll 85 = .ok (.goto 4, 3) := dk_167 0 4 (dk_at dksX2_dripAll_3 15 rfl rfl)
theorem dX2_dripAll_88 : decode cX2_dripAll 88 = .ok (.iconst 0, 1) := dk_3 (dk_at dksX2_dripAll_3 18 rfl rfl)
theorem dX2_dripAll_89 : decode cX2_dripAll 89 = .ok (.invokevirtual 159, 3) := dk_182 0 159 (dk_at dksX2_dripAll_3 19 rfl rfl)
theorem dX2_dripAll_92 : decode cX2_dripAll 92 = .ok (.istore 4, 2) := dk_54 4 (dk_at dksX2_dripAll_3 22 rfl rfl)
theorem dX2_dripAll_94 : decode cX2_dripAll 94 = .ok (.aload_n 0, 1) := dk_42 (dk_at dksX2_dripAll_4 0 rfl rfl)
theorem dX2_dripAll_95 : decode cX2_dripAll 95 = .ok (.dup, 1) := dk_89 (dk_at dksX2_dripAll_4 1 rfl rfl)
theorem dX2_dripAll_96 : decode cX2_dripAll 96 = .ok (.getfield 110, 3) := dk_180 0 110 (dk_at dksX2_dripAll_4 2 rfl rfl)
theorem dX2_dripAll_99 : decode cX2_dripAll 99 = .ok (.iconst 0, 1) := dk_3 (dk_at dksX2_dripAll_4 5 rfl rfl)
theorem dX2_dripAll_100 : decode cX2_dripAll 100 = .ok (.iload 4, 2) := dk_21 4 (dk_at dksX2_dripAll_4 6 rfl rfl)
theorem dX2_dripAll_102 : decode cX2_dripAll 102 = .ok (.invokestatic 144, 3) := dk_184 0 144 (dk_at dksX2_dripAll_4 8 rfl rfl)
theorem dX2_dripAll_105 : decode cX2_dripAll 105 = .ok (.iadd, 1) := dk_96 (dk_at dksX2_dripAll_4 11 rfl rfl)
theorem dX2_dripAll_106 : decode cX2_dripAll 106 = .ok (.putfield 110, 3) := dk_181 0 110 (dk_at dksX2_dripAll_4 12 rfl rfl)
theorem dX2_dripAll_109 : decode cX2_dripAll 109 = .ok (.aload_n 0, 1) := dk_42 (dk_at dksX2_dripAll_4 15 rfl rfl)
theorem dX2_dripAll_110 : decode cX2_dripAll 110 = .ok (.dup, 1) := dk_89 (dk_at dksX2_dripAll_4 16 rfl rfl)
theorem dX2_dripAll_111 : decode cX2_dripAll 111 = .ok (.getfield 113, 3) := dk_180 0 113 (dk_at dksX2_dripAll_4 17 rfl rfl)
theorem dX2_dripAll_114 : decode cX2_dripAll 114 = .ok (.iconst 0, 1) := dk_3 (dk_at dksX2_dripAll_4 20 rfl rfl)
theorem dX2_dripAll_115 : decode cX2_dripAll 115 = .ok (.iload 4, 2) := dk_21 4 (dk_at dksX2_dripAll_4 21 rfl rfl)
theorem dX2_dripAll_117 : decode cX2_dripAll 117 = .ok (.ineg, 1) := dk_116 (dk_at dksX2_dripAll_4 23 rfl rfl)
theorem dX2_dripAll_118 : decode cX2_dripAll 118 = .ok (.invokestatic 144, 3) := dk_184 0 144 (dk_at dksX2_dripAll_5 0 rfl rfl)
theorem dX2_dripAll_121 : decode cX2_dripAll 121 = .ok (.iadd, 1) := dk_96 (dk_at dksX2_dripAll_5 3 rfl rfl)
theorem dX2_dripAll_122 : decode cX2_dripAll 122 = .ok (.putfield 113, 3) := dk_181 0 113 (dk_at dksX2_dripAll_5 4 rfl rfl)
theorem dX2_dripAll_125 : decode cX2_dripAll 125 = .ok (.aload_n 0, 1) := dk_42 (dk_at dksX2_dripAll_5 7 rfl rfl)
theorem dX2_dripAll_126 : decode cX2_dripAll 126 = .ok (.dup, 1) := dk_89 (dk_at dksX2_dripAll_5 8 rfl rfl)
theorem dX2_dripAll_127 : decode cX2_dripAll 127 = .ok (.getfield 101, 3) := dk_180 0 101 (dk_at dksX2_dripAll_5 9 rfl rfl)
theorem dX2_dripAll_130 : decode cX2_dripAll 130 = .ok (.iconst 1, 1) := dk_4 (dk_at dksX2_dripAll_5 12 rfl rfl)
theorem dX2_dripAll_131 : decode cX2_dripAll 131 = .ok (.iadd, 1) := dk_96 (dk_at dksX2_dripAll_5 13 rfl rfl)
theorem dX2_dripAll_132 : decode cX2_dripAll 132 = .ok (.putfield 101, 3) := dk_181 0 101 (dk_at dksX2_dripAll_5 14 rfl rfl)
theorem dX2_dripAll_135 : decode cX2_dripAll 135 = .ok (.aload_n 2, 1) := dk_44 (dk_at dksX2_dripAll_5 17 rfl rfl)
theorem dX2_dripAll_136 : decode cX2_dripAll 136 = .ok (.invokevirtual 163, 3) := dk_182 0 163 (dk_at dksX2_dripAll_5 18 rfl rfl)
theorem dX2_dripAll_139 : decode cX2_dripAll 139 = .ok (.goto (-131), 3) := dk_167 255 125 (dk_at dksX2_dripAll_5 21 rfl rfl)
theorem dX2_dripAll_142 : decode cX2_dripAll 142 = .ok (.return_, 1) := dk_177 (dk_at dksX2_dripAll_6 0 rfl rfl)
abbrev cX2_crack : ByteArray := prog_29_method_9_code
def yX2_crack : MethodName := ⟨RX2, "crack", "()V"⟩
def dkwX2_crack_4 : List UInt8 := [181, 0, 165, 177]
abbrev dktX2_crack_4 : List UInt8 := dkwX2_crack_4 ++ []
def dkwX2_crack_3 : List UInt8 := [76, 167, 255, 216, 43, 198, 0, 22, 43, 180, 0, 165, 16, 9, 162, 0, 13, 43, 89, 180, 0, 165, 4, 96]
abbrev dktX2_crack_3 : List UInt8 := dkwX2_crack_3 ++ dktX2_crack_4
def dkwX2_crack_2 : List UInt8 := [192, 0, 71, 78, 43, 198, 0, 14, 45, 180, 0, 165, 43, 180, 0, 165, 162, 0, 7, 45, 167, 0, 4, 43]
abbrev dktX2_crack_2 : List UInt8 := dkwX2_crack_2 ++ dktX2_crack_3
def dkwX2_crack_1 : List UInt8 := [180, 0, 18, 182, 0, 48, 77, 44, 185, 0, 52, 1, 0, 153, 0, 37, 44, 185, 0, 58, 1, 0]
abbrev dktX2_crack_1 : List UInt8 := dkwX2_crack_1 ++ dktX2_crack_2
def dkwX2_crack_0 : List UInt8 := [42, 180, 0, 39, 16, 30, 161, 0, 90, 42, 89, 180, 0, 39, 16, 30, 100, 181, 0, 39, 1, 76, 42]
abbrev dktX2_crack_0 : List UInt8 := dkwX2_crack_0 ++ dktX2_crack_1
theorem dksX2_crack_0 : cX2_crack.data.toList.drop 0 = dktX2_crack_0 := by decide +kernel
theorem dksX2_crack_1 : cX2_crack.data.toList.drop 23 = dktX2_crack_1 := dk_seg dksX2_crack_0 23 rfl rfl
theorem dksX2_crack_2 : cX2_crack.data.toList.drop 45 = dktX2_crack_2 := dk_seg dksX2_crack_1 22 rfl rfl
theorem dksX2_crack_3 : cX2_crack.data.toList.drop 69 = dktX2_crack_3 := dk_seg dksX2_crack_2 24 rfl rfl
theorem dksX2_crack_4 : cX2_crack.data.toList.drop 93 = dktX2_crack_4 := dk_seg dksX2_crack_3 24 rfl rfl
theorem dX2_crack_0 : decode cX2_crack 0 = .ok (.aload_n 0, 1) := dk_42 (dk_at dksX2_crack_0 0 rfl rfl)
theorem dX2_crack_1 : decode cX2_crack 1 = .ok (.getfield 39, 3) := dk_180 0 39 (dk_at dksX2_crack_0 1 rfl rfl)
theorem dX2_crack_4 : decode cX2_crack 4 = .ok (.bipush 30, 2) := dk_16 30 (dk_at dksX2_crack_0 4 rfl rfl)
theorem dX2_crack_6 : decode cX2_crack 6 = .ok (.if_icmp .lt 90, 3) := dk_161 0 90 (dk_at dksX2_crack_0 6 rfl rfl)
theorem dX2_crack_9 : decode cX2_crack 9 = .ok (.aload_n 0, 1) := dk_42 (dk_at dksX2_crack_0 9 rfl rfl)
theorem dX2_crack_10 : decode cX2_crack 10 = .ok (.dup, 1) := dk_89 (dk_at dksX2_crack_0 10 rfl rfl)
theorem dX2_crack_11 : decode cX2_crack 11 = .ok (.getfield 39, 3) := dk_180 0 39 (dk_at dksX2_crack_0 11 rfl rfl)
theorem dX2_crack_14 : decode cX2_crack 14 = .ok (.bipush 30, 2) := dk_16 30 (dk_at dksX2_crack_0 14 rfl rfl)
theorem dX2_crack_16 : decode cX2_crack 16 = .ok (.isub, 1) := dk_100 (dk_at dksX2_crack_0 16 rfl rfl)
theorem dX2_crack_17 : decode cX2_crack 17 = .ok (.putfield 39, 3) := dk_181 0 39 (dk_at dksX2_crack_0 17 rfl rfl)
theorem dX2_crack_20 : decode cX2_crack 20 = .ok (.aconst_null, 1) := dk_1 (dk_at dksX2_crack_0 20 rfl rfl)
theorem dX2_crack_21 : decode cX2_crack 21 = .ok (.astore_n 1, 1) := dk_76 (dk_at dksX2_crack_0 21 rfl rfl)
theorem dX2_crack_22 : decode cX2_crack 22 = .ok (.aload_n 0, 1) := dk_42 (dk_at dksX2_crack_0 22 rfl rfl)
theorem dX2_crack_23 : decode cX2_crack 23 = .ok (.getfield 18, 3) := dk_180 0 18 (dk_at dksX2_crack_1 0 rfl rfl)
theorem dX2_crack_26 : decode cX2_crack 26 = .ok (.invokevirtual 48, 3) := dk_182 0 48 (dk_at dksX2_crack_1 3 rfl rfl)
theorem dX2_crack_29 : decode cX2_crack 29 = .ok (.astore_n 2, 1) := dk_77 (dk_at dksX2_crack_1 6 rfl rfl)
theorem dX2_crack_30 : decode cX2_crack 30 = .ok (.aload_n 2, 1) := dk_44 (dk_at dksX2_crack_1 7 rfl rfl)
theorem dX2_crack_31 : decode cX2_crack 31 = .ok (.invokeinterface 52 1, 5) := by decide +kernel
theorem dX2_crack_36 : decode cX2_crack 36 = .ok (.ifCond .eq 37, 3) := dk_153 0 37 (dk_at dksX2_crack_1 13 rfl rfl)
theorem dX2_crack_39 : decode cX2_crack 39 = .ok (.aload_n 2, 1) := dk_44 (dk_at dksX2_crack_1 16 rfl rfl)
theorem dX2_crack_40 : decode cX2_crack 40 = .ok (.invokeinterface 58 1, 5) := by decide +kernel
theorem dX2_crack_45 : decode cX2_crack 45 = .ok (.checkcast 71, 3) := dk_192 0 71 (dk_at dksX2_crack_2 0 rfl rfl)
theorem dX2_crack_48 : decode cX2_crack 48 = .ok (.astore_n 3, 1) := dk_78 (dk_at dksX2_crack_2 3 rfl rfl)
theorem dX2_crack_49 : decode cX2_crack 49 = .ok (.aload_n 1, 1) := dk_43 (dk_at dksX2_crack_2 4 rfl rfl)
theorem dX2_crack_50 : decode cX2_crack 50 = .ok (.ifnull 14, 3) := dk_198 0 14 (dk_at dksX2_crack_2 5 rfl rfl)
theorem dX2_crack_53 : decode cX2_crack 53 = .ok (.aload_n 3, 1) := dk_45 (dk_at dksX2_crack_2 8 rfl rfl)
theorem dX2_crack_54 : decode cX2_crack 54 = .ok (.getfield 165, 3) := dk_180 0 165 (dk_at dksX2_crack_2 9 rfl rfl)
theorem dX2_crack_57 : decode cX2_crack 57 = .ok (.aload_n 1, 1) := dk_43 (dk_at dksX2_crack_2 12 rfl rfl)
theorem dX2_crack_58 : decode cX2_crack 58 = .ok (.getfield 165, 3) := dk_180 0 165 (dk_at dksX2_crack_2 13 rfl rfl)
theorem dX2_crack_61 : decode cX2_crack 61 = .ok (.if_icmp .ge 7, 3) := dk_162 0 7 (dk_at dksX2_crack_2 16 rfl rfl)
theorem dX2_crack_64 : decode cX2_crack 64 = .ok (.aload_n 3, 1) := dk_45 (dk_at dksX2_crack_2 19 rfl rfl)
theorem dX2_crack_65 : decode cX2_crack 65 = .ok (.goto 4, 3) := dk_167 0 4 (dk_at dksX2_crack_2 20 rfl rfl)
theorem dX2_crack_68 : decode cX2_crack 68 = .ok (.aload_n 1, 1) := dk_43 (dk_at dksX2_crack_2 23 rfl rfl)
theorem dX2_crack_69 : decode cX2_crack 69 = .ok (.astore_n 1, 1) := dk_76 (dk_at dksX2_crack_3 0 rfl rfl)
theorem dX2_crack_70 : decode cX2_crack 70 = .ok (.goto (-40), 3) := dk_167 255 216 (dk_at dksX2_crack_3 1 rfl rfl)
theorem dX2_crack_73 : decode cX2_crack 73 = .ok (.aload_n 1, 1) := dk_43 (dk_at dksX2_crack_3 4 rfl rfl)
theorem dX2_crack_74 : decode cX2_crack 74 = .ok (.ifnull 22, 3) := dk_198 0 22 (dk_at dksX2_crack_3 5 rfl rfl)
theorem dX2_crack_77 : decode cX2_crack 77 = .ok (.aload_n 1, 1) := dk_43 (dk_at dksX2_crack_3 8 rfl rfl)
theorem dX2_crack_78 : decode cX2_crack 78 = .ok (.getfield 165, 3) := dk_180 0 165 (dk_at dksX2_crack_3 9 rfl rfl)
theorem dX2_crack_81 : decode cX2_crack 81 = .ok (.bipush 9, 2) := dk_16 9 (dk_at dksX2_crack_3 12 rfl rfl)
theorem dX2_crack_83 : decode cX2_crack 83 = .ok (.if_icmp .ge 13, 3) := dk_162 0 13 (dk_at dksX2_crack_3 14 rfl rfl)
theorem dX2_crack_86 : decode cX2_crack 86 = .ok (.aload_n 1, 1) := dk_43 (dk_at dksX2_crack_3 17 rfl rfl)
theorem dX2_crack_87 : decode cX2_crack 87 = .ok (.dup, 1) := dk_89 (dk_at dksX2_crack_3 18 rfl rfl)
theorem dX2_crack_88 : decode cX2_crack 88 = .ok (.getfield 165, 3) := dk_180 0 165 (dk_at dksX2_crack_3 19 rfl rfl)
theorem dX2_crack_91 : decode cX2_crack 91 = .ok (.iconst 1, 1) := dk_4 (dk_at dksX2_crack_3 22 rfl rfl)
theorem dX2_crack_92 : decode cX2_crack 92 = .ok (.iadd, 1) := dk_96 (dk_at dksX2_crack_3 23 rfl rfl)
theorem dX2_crack_93 : decode cX2_crack 93 = .ok (.putfield 165, 3) := dk_181 0 165 (dk_at dksX2_crack_4 0 rfl rfl)
theorem dX2_crack_96 : decode cX2_crack 96 = .ok (.return_, 1) := dk_177 (dk_at dksX2_crack_4 3 rfl rfl)
theorem q108 : (Jvm.Cond.initialized "CavePearls$World") ∈ lw_all := lw_g (lw_at lw_m1 2 rfl) rfl
theorem q204 : (Jvm.Cond.instantiable "CavePearls$World" (15 : Nat)) ∈ lw_all := lw_g (lw_at lw_m1 98 rfl) rfl
theorem q206 : (Jvm.Cond.instanceMethod ({ cls := "CavePearls$World", name := "<init>", desc := "()V" } : Jvm.MethodName)) ∈ lw_all := lw_g (lw_at lw_m1 100 rfl) rfl
theorem q207 : (Jvm.Cond.code ({ cls := "CavePearls$World", name := "<init>", desc := "()V" } : Jvm.MethodName) prog_29_method_1_code (1 : Nat) (Option.none : Option Jvm.ClassFile.FieldType)) ∈ lw_all := lw_g (lw_at lw_m1 101 rfl) rfl
theorem q208 : (Jvm.Cond.methodLink "CavePearls$World" (3 : Nat) ({ cls := "java/lang/Object", name := "<init>", desc := "()V" } : Jvm.MethodName)) ∈ lw_all := lw_g (lw_at lw_m1 102 rfl) rfl
theorem q209 : (Jvm.Cond.classLink "CavePearls$World" (9 : Nat) "java/util/ArrayList") ∈ lw_all := lw_g (lw_at lw_m1 103 rfl) rfl
theorem q211 : (Jvm.Cond.methodLink "CavePearls$World" (11 : Nat) ({ cls := "java/util/ArrayList", name := "<init>", desc := "()V" } : Jvm.MethodName)) ∈ lw_all := lw_g (lw_at lw_m1 105 rfl) rfl
theorem q242 : (Jvm.Cond.classLink "CavePearls$World" (21 : Nat) "java/util/LinkedList") ∈ lw_all := lw_g (lw_at lw_m1 136 rfl) rfl
theorem q244 : (Jvm.Cond.methodLink "CavePearls$World" (23 : Nat) ({ cls := "java/util/LinkedList", name := "<init>", desc := "()V" } : Jvm.MethodName)) ∈ lw_all := lw_g (lw_at lw_m1 138 rfl) rfl
theorem q263 : (Jvm.Cond.fieldLinkNest "CavePearls$World" (31 : Nat) "CavePearls" "FIRST_AIR" "[I" "CavePearls") ∈ lw_tbl := lw_at lw_m1 157 rfl
theorem q265 : (Jvm.Cond.fieldLink "CavePearls$World" (45 : Nat) "CavePearls$World" "clock" "I") ∈ lw_all := lw_g (lw_at lw_m1 159 rfl) rfl
theorem q267 : (Jvm.Cond.fieldLink "CavePearls$World" (12 : Nat) "CavePearls$World" "pools" "Ljava/util/ArrayList;") ∈ lw_all := lw_g (lw_at lw_m1 161 rfl) rfl
theorem q270 : (Jvm.Cond.fieldLink "CavePearls$World" (18 : Nat) "CavePearls$World" "stones" "Ljava/util/ArrayList;") ∈ lw_all := lw_g (lw_at lw_m1 164 rfl) rfl
theorem q272 : (Jvm.Cond.fieldLink "CavePearls$World" (24 : Nat) "CavePearls$World" "groups" "Ljava/util/LinkedList;") ∈ lw_all := lw_g (lw_at lw_m1 166 rfl) rfl
theorem q274 : (Jvm.Cond.fieldLink "CavePearls$World" (28 : Nat) "CavePearls$World" "lamps" "Ljava/util/ArrayList;") ∈ lw_all := lw_g (lw_at lw_m1 168 rfl) rfl
theorem q276 : (Jvm.Cond.fieldLink "CavePearls$World" (35 : Nat) "CavePearls$World" "breath" "I") ∈ lw_all := lw_g (lw_at lw_m1 170 rfl) rfl
theorem q279 : (Jvm.Cond.fieldLink "CavePearls$World" (39 : Nat) "CavePearls$World" "dust" "I") ∈ lw_all := lw_g (lw_at lw_m1 173 rfl) rfl
theorem q281 : (Jvm.Cond.fieldLink "CavePearls$World" (42 : Nat) "CavePearls$World" "draught" "I") ∈ lw_all := lw_g (lw_at lw_m1 175 rfl) rfl
theorem q283 : (Jvm.Cond.fieldLink "CavePearls$World" (101 : Nat) "CavePearls$World" "drips" "I") ∈ lw_all := lw_g (lw_at lw_m1 177 rfl) rfl
theorem q285 : (Jvm.Cond.fieldLink "CavePearls$World" (104 : Nat) "CavePearls$World" "over" "I") ∈ lw_all := lw_g (lw_at lw_m1 179 rfl) rfl
theorem q287 : (Jvm.Cond.fieldLink "CavePearls$World" (107 : Nat) "CavePearls$World" "dried" "I") ∈ lw_all := lw_g (lw_at lw_m1 181 rfl) rfl
theorem q289 : (Jvm.Cond.fieldLink "CavePearls$World" (110 : Nat) "CavePearls$World" "grown" "I") ∈ lw_all := lw_g (lw_at lw_m1 183 rfl) rfl
theorem q291 : (Jvm.Cond.fieldLink "CavePearls$World" (113 : Nat) "CavePearls$World" "dissolved" "I") ∈ lw_all := lw_g (lw_at lw_m1 185 rfl) rfl
theorem q293 : (Jvm.Cond.fieldLink "CavePearls$World" (116 : Nat) "CavePearls$World" "laid" "I") ∈ lw_all := lw_g (lw_at lw_m1 187 rfl) rfl
theorem q295 : (Jvm.Cond.fieldLink "CavePearls$World" (119 : Nat) "CavePearls$World" "taken" "I") ∈ lw_all := lw_g (lw_at lw_m1 189 rfl) rfl
theorem q297 : (Jvm.Cond.lays "CavePearls$World" "CavePearls$World" "clock" "I") ∈ lw_all := lw_g (lw_at lw_m1 191 rfl) rfl
theorem q298 : (Jvm.Cond.soleField "CavePearls$World" "clock") ∈ lw_all := lw_g (lw_at lw_m1 192 rfl) rfl
theorem q299 : (Jvm.Cond.laysFinal "CavePearls$World" "CavePearls$World" "pools" "Ljava/util/ArrayList;") ∈ lw_all := lw_g (lw_at lw_m1 193 rfl) rfl
theorem q300 : (Jvm.Cond.soleField "CavePearls$World" "pools") ∈ lw_all := lw_g (lw_at lw_m1 194 rfl) rfl
theorem q301 : (Jvm.Cond.laysFinal "CavePearls$World" "CavePearls$World" "stones" "Ljava/util/ArrayList;") ∈ lw_all := lw_g (lw_at lw_m1 195 rfl) rfl
theorem q302 : (Jvm.Cond.soleField "CavePearls$World" "stones") ∈ lw_all := lw_g (lw_at lw_m1 196 rfl) rfl
theorem q303 : (Jvm.Cond.laysFinal "CavePearls$World" "CavePearls$World" "groups" "Ljava/util/LinkedList;") ∈ lw_all := lw_g (lw_at lw_m1 197 rfl) rfl
theorem q304 : (Jvm.Cond.soleField "CavePearls$World" "groups") ∈ lw_all := lw_g (lw_at lw_m1 198 rfl) rfl
theorem q305 : (Jvm.Cond.laysFinal "CavePearls$World" "CavePearls$World" "lamps" "Ljava/util/ArrayList;") ∈ lw_all := lw_g (lw_at lw_m1 199 rfl) rfl
theorem q306 : (Jvm.Cond.soleField "CavePearls$World" "lamps") ∈ lw_all := lw_g (lw_at lw_m1 200 rfl) rfl
theorem q307 : (Jvm.Cond.lays "CavePearls$World" "CavePearls$World" "breath" "I") ∈ lw_all := lw_g (lw_at lw_m1 201 rfl) rfl
theorem q308 : (Jvm.Cond.soleField "CavePearls$World" "breath") ∈ lw_all := lw_g (lw_at lw_m1 202 rfl) rfl
theorem q309 : (Jvm.Cond.lays "CavePearls$World" "CavePearls$World" "dust" "I") ∈ lw_all := lw_g (lw_at lw_m1 203 rfl) rfl
theorem q310 : (Jvm.Cond.soleField "CavePearls$World" "dust") ∈ lw_all := lw_g (lw_at lw_m1 204 rfl) rfl
theorem q311 : (Jvm.Cond.lays "CavePearls$World" "CavePearls$World" "draught" "I") ∈ lw_all := lw_g (lw_at lw_m1 205 rfl) rfl
theorem q312 : (Jvm.Cond.soleField "CavePearls$World" "draught") ∈ lw_all := lw_g (lw_at lw_m1 206 rfl) rfl
theorem q313 : (Jvm.Cond.lays "CavePearls$World" "CavePearls$World" "drips" "I") ∈ lw_all := lw_g (lw_at lw_m1 207 rfl) rfl
theorem q314 : (Jvm.Cond.soleField "CavePearls$World" "drips") ∈ lw_all := lw_g (lw_at lw_m1 208 rfl) rfl
theorem q315 : (Jvm.Cond.lays "CavePearls$World" "CavePearls$World" "over" "I") ∈ lw_all := lw_g (lw_at lw_m1 209 rfl) rfl
theorem q316 : (Jvm.Cond.soleField "CavePearls$World" "over") ∈ lw_all := lw_g (lw_at lw_m1 210 rfl) rfl
theorem q317 : (Jvm.Cond.lays "CavePearls$World" "CavePearls$World" "dried" "I") ∈ lw_all := lw_g (lw_at lw_m1 211 rfl) rfl
theorem q318 : (Jvm.Cond.soleField "CavePearls$World" "dried") ∈ lw_all := lw_g (lw_at lw_m1 212 rfl) rfl
theorem q319 : (Jvm.Cond.lays "CavePearls$World" "CavePearls$World" "grown" "I") ∈ lw_all := lw_g (lw_at lw_m1 213 rfl) rfl
theorem q320 : (Jvm.Cond.soleField "CavePearls$World" "grown") ∈ lw_all := lw_g (lw_at lw_m1 214 rfl) rfl
theorem q321 : (Jvm.Cond.lays "CavePearls$World" "CavePearls$World" "dissolved" "I") ∈ lw_all := lw_g (lw_at lw_m1 215 rfl) rfl
theorem q322 : (Jvm.Cond.soleField "CavePearls$World" "dissolved") ∈ lw_all := lw_g (lw_at lw_m1 216 rfl) rfl
theorem q323 : (Jvm.Cond.lays "CavePearls$World" "CavePearls$World" "laid" "I") ∈ lw_all := lw_g (lw_at lw_m1 217 rfl) rfl
theorem q324 : (Jvm.Cond.soleField "CavePearls$World" "laid") ∈ lw_all := lw_g (lw_at lw_m1 218 rfl) rfl
theorem q325 : (Jvm.Cond.lays "CavePearls$World" "CavePearls$World" "taken" "I") ∈ lw_all := lw_g (lw_at lw_m1 219 rfl) rfl
theorem q326 : (Jvm.Cond.soleField "CavePearls$World" "taken") ∈ lw_all := lw_g (lw_at lw_m1 220 rfl) rfl
theorem q327 : (Jvm.Cond.superclass "CavePearls$World" "java/lang/Object") ∈ lw_all := lw_g (lw_at lw_m1 221 rfl) rfl
theorem q942 : (Jvm.Cond.selects "CavePearls$World" ({ cls := "java/lang/Object", name := "getClass", desc := "()Ljava/lang/Class;" } : Jvm.MethodName) ({ cls := "java/lang/Object", name := "getClass", desc := "()Ljava/lang/Class;" } : Jvm.MethodName)) ∈ lw_all := lw_g (lw_at lw_m4 116 rfl) rfl
theorem q1194 : (Jvm.Cond.instanceMethod ({ cls := "CavePearls$World", name := "<init>", desc := "(LCavePearls$World;)V" } : Jvm.MethodName)) ∈ lw_all := lw_g (lw_at lw_m5 128 rfl) rfl
theorem q1195 : (Jvm.Cond.code ({ cls := "CavePearls$World", name := "<init>", desc := "(LCavePearls$World;)V" } : Jvm.MethodName) prog_29_method_2_code (5 : Nat) (Option.none : Option Jvm.ClassFile.FieldType)) ∈ lw_all := lw_g (lw_at lw_m5 129 rfl) rfl
theorem q1196 : (Jvm.Cond.methodLink "CavePearls$World" (48 : Nat) ({ cls := "java/util/ArrayList", name := "iterator", desc := "()Ljava/util/Iterator;" } : Jvm.MethodName)) ∈ lw_all := lw_g (lw_at lw_m5 130 rfl) rfl
theorem q1197 : (Jvm.Cond.interfaceEntry "CavePearls$World" (52 : Nat)) ∈ lw_tbl := lw_at lw_m5 131 rfl
theorem q1198 : (Jvm.Cond.methodLink "CavePearls$World" (52 : Nat) ({ cls := "java/util/Iterator", name := "hasNext", desc := "()Z" } : Jvm.MethodName)) ∈ lw_all := lw_g (lw_at lw_m5 132 rfl) rfl
theorem q1199 : (Jvm.Cond.interfaceEntry "CavePearls$World" (58 : Nat)) ∈ lw_tbl := lw_at lw_m5 133 rfl
theorem q1200 : (Jvm.Cond.methodLink "CavePearls$World" (58 : Nat) ({ cls := "java/util/Iterator", name := "next", desc := "()Ljava/lang/Object;" } : Jvm.MethodName)) ∈ lw_all := lw_g (lw_at lw_m5 134 rfl) rfl
theorem q1201 : (Jvm.Cond.classLink "CavePearls$World" (62 : Nat) "CavePearls$Pool") ∈ lw_all := lw_g (lw_at lw_m5 135 rfl) rfl
theorem q1203 : (Jvm.Cond.methodLink "CavePearls$World" (64 : Nat) ({ cls := "CavePearls$Pool", name := "<init>", desc := "(LCavePearls$Pool;)V" } : Jvm.MethodName)) ∈ lw_all := lw_g (lw_at lw_m5 137 rfl) rfl
theorem q1216 : (Jvm.Cond.fieldLinkNest "CavePearls$World" (198 : Nat) "CavePearls$Pool" "pearls" "Ljava/util/ArrayList;" "CavePearls") ∈ lw_tbl := lw_at lw_m5 150 rfl
theorem q1219 : (Jvm.Cond.fieldLinkNest "CavePearls$World" (150 : Nat) "CavePearls$Pool" "water" "I" "CavePearls") ∈ lw_tbl := lw_at lw_m5 153 rfl
theorem q1243 : (Jvm.Cond.fieldLinkNest "CavePearls$World" (208 : Nat) "CavePearls$Pearl" "size" "I" "CavePearls") ∈ lw_tbl := lw_at lw_m5 177 rfl
theorem q1276 : (Jvm.Cond.methodLink "CavePearls$World" (67 : Nat) ({ cls := "java/util/ArrayList", name := "add", desc := "(Ljava/lang/Object;)Z" } : Jvm.MethodName)) ∈ lw_all := lw_g (lw_at lw_m5 210 rfl) rfl
theorem q1277 : (Jvm.Cond.classLink "CavePearls$World" (71 : Nat) "CavePearls$Stone") ∈ lw_all := lw_g (lw_at lw_m5 211 rfl) rfl
theorem q1279 : (Jvm.Cond.methodLink "CavePearls$World" (73 : Nat) ({ cls := "CavePearls$Stone", name := "<init>", desc := "(LCavePearls$Stone;)V" } : Jvm.MethodName)) ∈ lw_all := lw_g (lw_at lw_m5 213 rfl) rfl
theorem q1290 : (Jvm.Cond.fieldLinkNest "CavePearls$World" (155 : Nat) "CavePearls$Stone" "pool" "I" "CavePearls") ∈ lw_tbl := lw_at lw_m5 224 rfl
theorem q1295 : (Jvm.Cond.fieldLinkNest "CavePearls$World" (165 : Nat) "CavePearls$Stone" "cracks" "I" "CavePearls") ∈ lw_tbl := lw_at lw_m5 229 rfl
theorem q1301 : (Jvm.Cond.fieldLinkNest "CavePearls$World" (153 : Nat) "CavePearls$Stone" "next" "I" "CavePearls") ∈ lw_tbl := lw_at lw_m5 235 rfl
theorem q1316 : (Jvm.Cond.methodLink "CavePearls$World" (76 : Nat) ({ cls := "java/util/LinkedList", name := "iterator", desc := "()Ljava/util/Iterator;" } : Jvm.MethodName)) ∈ lw_all := lw_g (lw_at lw_m6 10 rfl) rfl
theorem q1400 : (Jvm.Cond.classLink "CavePearls$World" (77 : Nat) "CavePearls$Group") ∈ lw_all := lw_g (lw_at lw_m6 94 rfl) rfl
theorem q1402 : (Jvm.Cond.methodLink "CavePearls$World" (85 : Nat) ({ cls := "CavePearls$Group", name := "<init>", desc := "(II)V" } : Jvm.MethodName)) ∈ lw_all := lw_g (lw_at lw_m6 96 rfl) rfl
theorem q1407 : (Jvm.Cond.fieldLinkNest "CavePearls$World" (79 : Nat) "CavePearls$Group" "persons" "I" "CavePearls") ∈ lw_tbl := lw_at lw_m6 101 rfl
theorem q1410 : (Jvm.Cond.fieldLinkNest "CavePearls$World" (82 : Nat) "CavePearls$Group" "stay" "I" "CavePearls") ∈ lw_tbl := lw_at lw_m6 104 rfl
theorem q1417 : (Jvm.Cond.methodLink "CavePearls$World" (88 : Nat) ({ cls := "java/util/LinkedList", name := "addLast", desc := "(Ljava/lang/Object;)V" } : Jvm.MethodName)) ∈ lw_all := lw_g (lw_at lw_m6 111 rfl) rfl
theorem q1446 : (Jvm.Cond.classLink "CavePearls$World" (92 : Nat) "CavePearls$Lamp") ∈ lw_all := lw_g (lw_at lw_m6 140 rfl) rfl
theorem q1448 : (Jvm.Cond.methodLink "CavePearls$World" (100 : Nat) ({ cls := "CavePearls$Lamp", name := "<init>", desc := "(II)V" } : Jvm.MethodName)) ∈ lw_all := lw_g (lw_at lw_m6 142 rfl) rfl
theorem q1453 : (Jvm.Cond.fieldLinkNest "CavePearls$World" (94 : Nat) "CavePearls$Lamp" "pool" "I" "CavePearls") ∈ lw_tbl := lw_at lw_m6 147 rfl
theorem q1456 : (Jvm.Cond.fieldLinkNest "CavePearls$World" (97 : Nat) "CavePearls$Lamp" "minutes" "I" "CavePearls") ∈ lw_tbl := lw_at lw_m6 150 rfl
theorem q1501 : (Jvm.Cond.instanceMethod ({ cls := "CavePearls$World", name := "addPool", desc := "(I)I" } : Jvm.MethodName)) ∈ lw_all := lw_g (lw_at lw_m6 195 rfl) rfl
theorem q1502 : (Jvm.Cond.selects "CavePearls$World" ({ cls := "CavePearls$World", name := "addPool", desc := "(I)I" } : Jvm.MethodName) ({ cls := "CavePearls$World", name := "addPool", desc := "(I)I" } : Jvm.MethodName)) ∈ lw_all := lw_g (lw_at lw_m6 196 rfl) rfl
theorem q1503 : (Jvm.Cond.code ({ cls := "CavePearls$World", name := "addPool", desc := "(I)I" } : Jvm.MethodName) prog_29_method_11_code (3 : Nat) (Option.some Jvm.ClassFile.FieldType.int)) ∈ lw_all := lw_g (lw_at lw_m6 197 rfl) rfl
theorem q1504 : (Jvm.Cond.methodLinkNest "CavePearls$World" (180 : Nat) ({ cls := "CavePearls", name := "inRange", desc := "(III)Z" } : Jvm.MethodName) "CavePearls") ∈ lw_tbl := lw_at lw_m6 198 rfl
theorem q1507 : (Jvm.Cond.methodLinkNest "CavePearls$World" (184 : Nat) ({ cls := "CavePearls", name := "checkArgument", desc := "(Z)V" } : Jvm.MethodName) "CavePearls") ∈ lw_tbl := lw_at lw_m6 201 rfl
theorem q1515 : (Jvm.Cond.methodLink "CavePearls$World" (122 : Nat) ({ cls := "java/util/ArrayList", name := "size", desc := "()I" } : Jvm.MethodName)) ∈ lw_all := lw_g (lw_at lw_m6 209 rfl) rfl
theorem q1516 : (Jvm.Cond.methodLinkNest "CavePearls$World" (188 : Nat) ({ cls := "CavePearls", name := "refuse", desc := "(ZII)V" } : Jvm.MethodName) "CavePearls") ∈ lw_tbl := lw_at lw_m6 210 rfl
theorem q1546 : (Jvm.Cond.methodLink "CavePearls$World" (192 : Nat) ({ cls := "CavePearls$Pool", name := "<init>", desc := "(I)V" } : Jvm.MethodName)) ∈ lw_all := lw_g (lw_at lw_m7 0 rfl) rfl
theorem q1556 : (Jvm.Cond.instanceMethod ({ cls := "CavePearls$World", name := "addPearl", desc := "(II)I" } : Jvm.MethodName)) ∈ lw_all := lw_g (lw_at lw_m7 10 rfl) rfl
theorem q1557 : (Jvm.Cond.selects "CavePearls$World" ({ cls := "CavePearls$World", name := "addPearl", desc := "(II)I" } : Jvm.MethodName) ({ cls := "CavePearls$World", name := "addPearl", desc := "(II)I" } : Jvm.MethodName)) ∈ lw_all := lw_g (lw_at lw_m7 11 rfl) rfl
theorem q1558 : (Jvm.Cond.code ({ cls := "CavePearls$World", name := "addPearl", desc := "(II)I" } : Jvm.MethodName) prog_29_method_12_code (5 : Nat) (Option.some Jvm.ClassFile.FieldType.int)) ∈ lw_all := lw_g (lw_at lw_m7 12 rfl) rfl
theorem q1559 : (Jvm.Cond.methodLink "CavePearls$World" (195 : Nat) ({ cls := "CavePearls$World", name := "pool", desc := "(I)LCavePearls$Pool;" } : Jvm.MethodName)) ∈ lw_all := lw_g (lw_at lw_m7 13 rfl) rfl
theorem q1560 : (Jvm.Cond.instanceMethod ({ cls := "CavePearls$World", name := "pool", desc := "(I)LCavePearls$Pool;" } : Jvm.MethodName)) ∈ lw_all := lw_g (lw_at lw_m7 14 rfl) rfl
theorem q1561 : (Jvm.Cond.selects "CavePearls$World" ({ cls := "CavePearls$World", name := "pool", desc := "(I)LCavePearls$Pool;" } : Jvm.MethodName) ({ cls := "CavePearls$World", name := "pool", desc := "(I)LCavePearls$Pool;" } : Jvm.MethodName)) ∈ lw_all := lw_g (lw_at lw_m7 15 rfl) rfl
theorem q1562 : (Jvm.Cond.code ({ cls := "CavePearls$World", name := "pool", desc := "(I)LCavePearls$Pool;" } : Jvm.MethodName) prog_29_method_3_code (2 : Nat) (Option.some (Jvm.ClassFile.FieldType.object "CavePearls$Pool"))) ∈ lw_all := lw_g (lw_at lw_m7 16 rfl) rfl
theorem q1563 : (Jvm.Cond.methodLinkNest "CavePearls$World" (126 : Nat) ({ cls := "CavePearls", name := "checkIndex", desc := "(II)V" } : Jvm.MethodName) "CavePearls") ∈ lw_tbl := lw_at lw_m7 17 rfl
theorem q1572 : (Jvm.Cond.methodLink "CavePearls$World" (129 : Nat) ({ cls := "java/util/ArrayList", name := "get", desc := "(I)Ljava/lang/Object;" } : Jvm.MethodName)) ∈ lw_all := lw_g (lw_at lw_m7 26 rfl) rfl
theorem q1573 : (Jvm.Cond.classLink "CavePearls$World" (201 : Nat) "CavePearls$Pearl") ∈ lw_all := lw_g (lw_at lw_m7 27 rfl) rfl
theorem q1574 : (Jvm.Cond.methodLink "CavePearls$World" (203 : Nat) ({ cls := "CavePearls$Pearl", name := "<init>", desc := "(I)V" } : Jvm.MethodName)) ∈ lw_all := lw_g (lw_at lw_m7 28 rfl) rfl
theorem q1582 : (Jvm.Cond.instanceMethod ({ cls := "CavePearls$World", name := "takePearl", desc := "(II)I" } : Jvm.MethodName)) ∈ lw_all := lw_g (lw_at lw_m7 36 rfl) rfl
theorem q1583 : (Jvm.Cond.selects "CavePearls$World" ({ cls := "CavePearls$World", name := "takePearl", desc := "(II)I" } : Jvm.MethodName) ({ cls := "CavePearls$World", name := "takePearl", desc := "(II)I" } : Jvm.MethodName)) ∈ lw_all := lw_g (lw_at lw_m7 37 rfl) rfl
theorem q1584 : (Jvm.Cond.code ({ cls := "CavePearls$World", name := "takePearl", desc := "(II)I" } : Jvm.MethodName) prog_29_method_13_code (6 : Nat) (Option.some Jvm.ClassFile.FieldType.int)) ∈ lw_all := lw_g (lw_at lw_m7 38 rfl) rfl
theorem q1585 : (Jvm.Cond.methodLink "CavePearls$World" (204 : Nat) ({ cls := "CavePearls$Pool", name := "pearl", desc := "(I)LCavePearls$Pearl;" } : Jvm.MethodName)) ∈ lw_all := lw_g (lw_at lw_m7 39 rfl) rfl
theorem q1597 : (Jvm.Cond.methodLink "CavePearls$World" (210 : Nat) ({ cls := "java/util/ArrayList", name := "remove", desc := "(I)Ljava/lang/Object;" } : Jvm.MethodName)) ∈ lw_all := lw_g (lw_at lw_m7 51 rfl) rfl
theorem q1613 : (Jvm.Cond.instanceMethod ({ cls := "CavePearls$World", name := "addStone", desc := "(II)I" } : Jvm.MethodName)) ∈ lw_all := lw_g (lw_at lw_m7 67 rfl) rfl
theorem q1614 : (Jvm.Cond.selects "CavePearls$World" ({ cls := "CavePearls$World", name := "addStone", desc := "(II)I" } : Jvm.MethodName) ({ cls := "CavePearls$World", name := "addStone", desc := "(II)I" } : Jvm.MethodName)) ∈ lw_all := lw_g (lw_at lw_m7 68 rfl) rfl
theorem q1615 : (Jvm.Cond.code ({ cls := "CavePearls$World", name := "addStone", desc := "(II)I" } : Jvm.MethodName) prog_29_method_14_code (5 : Nat) (Option.some Jvm.ClassFile.FieldType.int)) ∈ lw_all := lw_g (lw_at lw_m7 69 rfl) rfl
theorem q1616 : (Jvm.Cond.methodLink "CavePearls$World" (212 : Nat) ({ cls := "CavePearls$Stone", name := "<init>", desc := "(IIII)V" } : Jvm.MethodName)) ∈ lw_all := lw_g (lw_at lw_m7 70 rfl) rfl
theorem q1624 : (Jvm.Cond.instanceMethod ({ cls := "CavePearls$World", name := "sendOut", desc := "(I)I" } : Jvm.MethodName)) ∈ lw_all := lw_g (lw_at lw_m7 78 rfl) rfl
theorem q1625 : (Jvm.Cond.selects "CavePearls$World" ({ cls := "CavePearls$World", name := "sendOut", desc := "(I)I" } : Jvm.MethodName) ({ cls := "CavePearls$World", name := "sendOut", desc := "(I)I" } : Jvm.MethodName)) ∈ lw_all := lw_g (lw_at lw_m7 79 rfl) rfl
theorem q1626 : (Jvm.Cond.code ({ cls := "CavePearls$World", name := "sendOut", desc := "(I)I" } : Jvm.MethodName) prog_29_method_16_code (2 : Nat) (Option.some Jvm.ClassFile.FieldType.int)) ∈ lw_all := lw_g (lw_at lw_m7 80 rfl) rfl
theorem q1627 : (Jvm.Cond.methodLink "CavePearls$World" (215 : Nat) ({ cls := "java/util/LinkedList", name := "size", desc := "()I" } : Jvm.MethodName)) ∈ lw_all := lw_g (lw_at lw_m7 81 rfl) rfl
theorem q1628 : (Jvm.Cond.methodLink "CavePearls$World" (216 : Nat) ({ cls := "java/util/LinkedList", name := "remove", desc := "(I)Ljava/lang/Object;" } : Jvm.MethodName)) ∈ lw_all := lw_g (lw_at lw_m7 82 rfl) rfl
theorem q1643 : (Jvm.Cond.instanceMethod ({ cls := "CavePearls$World", name := "addLamp", desc := "(I)I" } : Jvm.MethodName)) ∈ lw_all := lw_g (lw_at lw_m7 97 rfl) rfl
theorem q1644 : (Jvm.Cond.selects "CavePearls$World" ({ cls := "CavePearls$World", name := "addLamp", desc := "(I)I" } : Jvm.MethodName) ({ cls := "CavePearls$World", name := "addLamp", desc := "(I)I" } : Jvm.MethodName)) ∈ lw_all := lw_g (lw_at lw_m7 98 rfl) rfl
theorem q1645 : (Jvm.Cond.code ({ cls := "CavePearls$World", name := "addLamp", desc := "(I)I" } : Jvm.MethodName) prog_29_method_17_code (4 : Nat) (Option.some Jvm.ClassFile.FieldType.int)) ∈ lw_all := lw_g (lw_at lw_m7 99 rfl) rfl
theorem q1646 : (Jvm.Cond.methodLink "CavePearls$World" (217 : Nat) ({ cls := "CavePearls$Lamp", name := "<init>", desc := "(I)V" } : Jvm.MethodName)) ∈ lw_all := lw_g (lw_at lw_m7 100 rfl) rfl
theorem q1697 : (Jvm.Cond.instanceMethod ({ cls := "CavePearls$World", name := "enter", desc := "(II)I" } : Jvm.MethodName)) ∈ lw_all := lw_g (lw_at lw_m7 151 rfl) rfl
theorem q1698 : (Jvm.Cond.selects "CavePearls$World" ({ cls := "CavePearls$World", name := "enter", desc := "(II)I" } : Jvm.MethodName) ({ cls := "CavePearls$World", name := "enter", desc := "(II)I" } : Jvm.MethodName)) ∈ lw_all := lw_g (lw_at lw_m7 152 rfl) rfl
theorem q1699 : (Jvm.Cond.code ({ cls := "CavePearls$World", name := "enter", desc := "(II)I" } : Jvm.MethodName) prog_29_method_15_code (3 : Nat) (Option.some Jvm.ClassFile.FieldType.int)) ∈ lw_all := lw_g (lw_at lw_m7 153 rfl) rfl
theorem q1707 : (Jvm.Cond.instanceMethod ({ cls := "CavePearls$World", name := "switchOn", desc := "(II)I" } : Jvm.MethodName)) ∈ lw_all := lw_g (lw_at lw_m7 161 rfl) rfl
theorem q1708 : (Jvm.Cond.selects "CavePearls$World" ({ cls := "CavePearls$World", name := "switchOn", desc := "(II)I" } : Jvm.MethodName) ({ cls := "CavePearls$World", name := "switchOn", desc := "(II)I" } : Jvm.MethodName)) ∈ lw_all := lw_g (lw_at lw_m7 162 rfl) rfl
theorem q1709 : (Jvm.Cond.code ({ cls := "CavePearls$World", name := "switchOn", desc := "(II)I" } : Jvm.MethodName) prog_29_method_19_code (4 : Nat) (Option.some Jvm.ClassFile.FieldType.int)) ∈ lw_all := lw_g (lw_at lw_m7 163 rfl) rfl
theorem q1710 : (Jvm.Cond.methodLink "CavePearls$World" (218 : Nat) ({ cls := "CavePearls$World", name := "lamp", desc := "(I)LCavePearls$Lamp;" } : Jvm.MethodName)) ∈ lw_all := lw_g (lw_at lw_m7 164 rfl) rfl
theorem q1711 : (Jvm.Cond.instanceMethod ({ cls := "CavePearls$World", name := "lamp", desc := "(I)LCavePearls$Lamp;" } : Jvm.MethodName)) ∈ lw_all := lw_g (lw_at lw_m7 165 rfl) rfl
theorem q1712 : (Jvm.Cond.selects "CavePearls$World" ({ cls := "CavePearls$World", name := "lamp", desc := "(I)LCavePearls$Lamp;" } : Jvm.MethodName) ({ cls := "CavePearls$World", name := "lamp", desc := "(I)LCavePearls$Lamp;" } : Jvm.MethodName)) ∈ lw_all := lw_g (lw_at lw_m7 166 rfl) rfl
theorem q1713 : (Jvm.Cond.code ({ cls := "CavePearls$World", name := "lamp", desc := "(I)LCavePearls$Lamp;" } : Jvm.MethodName) prog_29_method_4_code (2 : Nat) (Option.some (Jvm.ClassFile.FieldType.object "CavePearls$Lamp"))) ∈ lw_all := lw_g (lw_at lw_m7 167 rfl) rfl
theorem q1714 : (Jvm.Cond.methodLink "CavePearls$World" (147 : Nat) ({ cls := "CavePearls$Lamp", name := "isOn", desc := "()Z" } : Jvm.MethodName)) ∈ lw_all := lw_g (lw_at lw_m7 168 rfl) rfl
theorem q1718 : (Jvm.Cond.methodLink "CavePearls$World" (222 : Nat) ({ cls := "CavePearls$World", name := "lampsOn", desc := "()I" } : Jvm.MethodName)) ∈ lw_all := lw_g (lw_at lw_m7 172 rfl) rfl
theorem q1719 : (Jvm.Cond.privateMethod ({ cls := "CavePearls$World", name := "lampsOn", desc := "()I" } : Jvm.MethodName)) ∈ lw_tbl := lw_at lw_m7 173 rfl
theorem q1720 : (Jvm.Cond.instanceMethod ({ cls := "CavePearls$World", name := "lampsOn", desc := "()I" } : Jvm.MethodName)) ∈ lw_all := lw_g (lw_at lw_m7 174 rfl) rfl
theorem q1721 : (Jvm.Cond.code ({ cls := "CavePearls$World", name := "lampsOn", desc := "()I" } : Jvm.MethodName) prog_29_method_18_code (4 : Nat) (Option.some Jvm.ClassFile.FieldType.int)) ∈ lw_all := lw_g (lw_at lw_m7 175 rfl) rfl
theorem q1729 : (Jvm.Cond.instanceMethod ({ cls := "CavePearls$World", name := "switchOff", desc := "(I)I" } : Jvm.MethodName)) ∈ lw_all := lw_g (lw_at lw_m7 183 rfl) rfl
theorem q1730 : (Jvm.Cond.selects "CavePearls$World" ({ cls := "CavePearls$World", name := "switchOff", desc := "(I)I" } : Jvm.MethodName) ({ cls := "CavePearls$World", name := "switchOff", desc := "(I)I" } : Jvm.MethodName)) ∈ lw_all := lw_g (lw_at lw_m7 184 rfl) rfl
theorem q1731 : (Jvm.Cond.code ({ cls := "CavePearls$World", name := "switchOff", desc := "(I)I" } : Jvm.MethodName) prog_29_method_20_code (4 : Nat) (Option.some Jvm.ClassFile.FieldType.int)) ∈ lw_all := lw_g (lw_at lw_m7 185 rfl) rfl
theorem q1739 : (Jvm.Cond.instanceMethod ({ cls := "CavePearls$World", name := "sweep", desc := "()I" } : Jvm.MethodName)) ∈ lw_all := lw_g (lw_at lw_m7 193 rfl) rfl
theorem q1740 : (Jvm.Cond.selects "CavePearls$World" ({ cls := "CavePearls$World", name := "sweep", desc := "()I" } : Jvm.MethodName) ({ cls := "CavePearls$World", name := "sweep", desc := "()I" } : Jvm.MethodName)) ∈ lw_all := lw_g (lw_at lw_m7 194 rfl) rfl
theorem q1741 : (Jvm.Cond.code ({ cls := "CavePearls$World", name := "sweep", desc := "()I" } : Jvm.MethodName) prog_29_method_22_code (2 : Nat) (Option.some Jvm.ClassFile.FieldType.int)) ∈ lw_all := lw_g (lw_at lw_m7 195 rfl) rfl
theorem q1749 : (Jvm.Cond.instanceMethod ({ cls := "CavePearls$World", name := "setDraught", desc := "(I)I" } : Jvm.MethodName)) ∈ lw_all := lw_g (lw_at lw_m7 203 rfl) rfl
theorem q1750 : (Jvm.Cond.selects "CavePearls$World" ({ cls := "CavePearls$World", name := "setDraught", desc := "(I)I" } : Jvm.MethodName) ({ cls := "CavePearls$World", name := "setDraught", desc := "(I)I" } : Jvm.MethodName)) ∈ lw_all := lw_g (lw_at lw_m7 204 rfl) rfl
theorem q1751 : (Jvm.Cond.code ({ cls := "CavePearls$World", name := "setDraught", desc := "(I)I" } : Jvm.MethodName) prog_29_method_21_code (3 : Nat) (Option.some Jvm.ClassFile.FieldType.int)) ∈ lw_all := lw_g (lw_at lw_m7 205 rfl) rfl
theorem q1759 : (Jvm.Cond.instanceMethod ({ cls := "CavePearls$World", name := "pass", desc := "(I)I" } : Jvm.MethodName)) ∈ lw_all := lw_g (lw_at lw_m7 213 rfl) rfl
theorem q1760 : (Jvm.Cond.selects "CavePearls$World" ({ cls := "CavePearls$World", name := "pass", desc := "(I)I" } : Jvm.MethodName) ({ cls := "CavePearls$World", name := "pass", desc := "(I)I" } : Jvm.MethodName)) ∈ lw_all := lw_g (lw_at lw_m7 214 rfl) rfl
theorem q1761 : (Jvm.Cond.code ({ cls := "CavePearls$World", name := "pass", desc := "(I)I" } : Jvm.MethodName) prog_29_method_23_code (4 : Nat) (Option.some Jvm.ClassFile.FieldType.int)) ∈ lw_all := lw_g (lw_at lw_m7 215 rfl) rfl
theorem q1762 : (Jvm.Cond.methodLink "CavePearls$World" (225 : Nat) ({ cls := "CavePearls$World", name := "goMinute", desc := "()V" } : Jvm.MethodName)) ∈ lw_all := lw_g (lw_at lw_m7 216 rfl) rfl
theorem q1763 : (Jvm.Cond.instanceMethod ({ cls := "CavePearls$World", name := "goMinute", desc := "()V" } : Jvm.MethodName)) ∈ lw_all := lw_g (lw_at lw_m7 217 rfl) rfl
theorem q1764 : (Jvm.Cond.selects "CavePearls$World" ({ cls := "CavePearls$World", name := "goMinute", desc := "()V" } : Jvm.MethodName) ({ cls := "CavePearls$World", name := "goMinute", desc := "()V" } : Jvm.MethodName)) ∈ lw_all := lw_g (lw_at lw_m7 218 rfl) rfl
theorem q1765 : (Jvm.Cond.code ({ cls := "CavePearls$World", name := "goMinute", desc := "()V" } : Jvm.MethodName) prog_29_method_10_code (1 : Nat) (Option.none : Option Jvm.ClassFile.FieldType)) ∈ lw_all := lw_g (lw_at lw_m7 219 rfl) rfl
theorem q1766 : (Jvm.Cond.methodLink "CavePearls$World" (168 : Nat) ({ cls := "CavePearls$World", name := "breathe", desc := "()V" } : Jvm.MethodName)) ∈ lw_all := lw_g (lw_at lw_m7 220 rfl) rfl
theorem q1767 : (Jvm.Cond.privateMethod ({ cls := "CavePearls$World", name := "breathe", desc := "()V" } : Jvm.MethodName)) ∈ lw_tbl := lw_at lw_m7 221 rfl
theorem q1768 : (Jvm.Cond.instanceMethod ({ cls := "CavePearls$World", name := "breathe", desc := "()V" } : Jvm.MethodName)) ∈ lw_all := lw_g (lw_at lw_m7 222 rfl) rfl
theorem q1769 : (Jvm.Cond.code ({ cls := "CavePearls$World", name := "breathe", desc := "()V" } : Jvm.MethodName) prog_29_method_6_code (4 : Nat) (Option.none : Option Jvm.ClassFile.FieldType)) ∈ lw_all := lw_g (lw_at lw_m7 223 rfl) rfl
theorem q1770 : (Jvm.Cond.methodLink "CavePearls$World" (133 : Nat) ({ cls := "CavePearls$World", name := "persons", desc := "()I" } : Jvm.MethodName)) ∈ lw_all := lw_g (lw_at lw_m7 224 rfl) rfl
theorem q1771 : (Jvm.Cond.instanceMethod ({ cls := "CavePearls$World", name := "persons", desc := "()I" } : Jvm.MethodName)) ∈ lw_all := lw_g (lw_at lw_m7 225 rfl) rfl
theorem q1772 : (Jvm.Cond.selects "CavePearls$World" ({ cls := "CavePearls$World", name := "persons", desc := "()I" } : Jvm.MethodName) ({ cls := "CavePearls$World", name := "persons", desc := "()I" } : Jvm.MethodName)) ∈ lw_all := lw_g (lw_at lw_m7 226 rfl) rfl
theorem q1773 : (Jvm.Cond.code ({ cls := "CavePearls$World", name := "persons", desc := "()I" } : Jvm.MethodName) prog_29_method_5_code (4 : Nat) (Option.some Jvm.ClassFile.FieldType.int)) ∈ lw_all := lw_g (lw_at lw_m7 227 rfl) rfl
theorem q1774 : (Jvm.Cond.methodLink "CavePearls$World" (135 : Nat) ({ cls := "java/lang/Math", name := "min", desc := "(II)I" } : Jvm.MethodName)) ∈ lw_all := lw_g (lw_at lw_m7 228 rfl) rfl
theorem q1775 : (Jvm.Cond.interfaceEntry "CavePearls$World" (141 : Nat)) ∈ lw_tbl := lw_at lw_m7 229 rfl
theorem q1776 : (Jvm.Cond.methodLink "CavePearls$World" (141 : Nat) ({ cls := "java/util/Iterator", name := "remove", desc := "()V" } : Jvm.MethodName)) ∈ lw_all := lw_g (lw_at lw_m7 230 rfl) rfl
theorem q2214 : (Jvm.Cond.methodLink "CavePearls$World" (144 : Nat) ({ cls := "java/lang/Math", name := "max", desc := "(II)I" } : Jvm.MethodName)) ∈ lw_all := lw_g (lw_at lw_m9 188 rfl) rfl
theorem q2215 : (Jvm.Cond.methodLink "CavePearls$World" (171 : Nat) ({ cls := "CavePearls$World", name := "shine", desc := "()V" } : Jvm.MethodName)) ∈ lw_all := lw_g (lw_at lw_m9 189 rfl) rfl
theorem q2216 : (Jvm.Cond.privateMethod ({ cls := "CavePearls$World", name := "shine", desc := "()V" } : Jvm.MethodName)) ∈ lw_tbl := lw_at lw_m9 190 rfl
theorem q2217 : (Jvm.Cond.instanceMethod ({ cls := "CavePearls$World", name := "shine", desc := "()V" } : Jvm.MethodName)) ∈ lw_all := lw_g (lw_at lw_m9 191 rfl) rfl
theorem q2218 : (Jvm.Cond.code ({ cls := "CavePearls$World", name := "shine", desc := "()V" } : Jvm.MethodName) prog_29_method_7_code (4 : Nat) (Option.none : Option Jvm.ClassFile.FieldType)) ∈ lw_all := lw_g (lw_at lw_m9 192 rfl) rfl
theorem q2219 : (Jvm.Cond.methodLink "CavePearls$World" (174 : Nat) ({ cls := "CavePearls$World", name := "dripAll", desc := "()V" } : Jvm.MethodName)) ∈ lw_all := lw_g (lw_at lw_m9 193 rfl) rfl
theorem q2220 : (Jvm.Cond.privateMethod ({ cls := "CavePearls$World", name := "dripAll", desc := "()V" } : Jvm.MethodName)) ∈ lw_tbl := lw_at lw_m9 194 rfl
theorem q2221 : (Jvm.Cond.instanceMethod ({ cls := "CavePearls$World", name := "dripAll", desc := "()V" } : Jvm.MethodName)) ∈ lw_all := lw_g (lw_at lw_m9 195 rfl) rfl
theorem q2222 : (Jvm.Cond.code ({ cls := "CavePearls$World", name := "dripAll", desc := "()V" } : Jvm.MethodName) prog_29_method_8_code (5 : Nat) (Option.none : Option Jvm.ClassFile.FieldType)) ∈ lw_all := lw_g (lw_at lw_m9 196 rfl) rfl
theorem q2223 : (Jvm.Cond.methodLink "CavePearls$World" (156 : Nat) ({ cls := "CavePearls$Pool", name := "isFull", desc := "()Z" } : Jvm.MethodName)) ∈ lw_all := lw_g (lw_at lw_m9 197 rfl) rfl
theorem q2227 : (Jvm.Cond.methodLink "CavePearls$World" (159 : Nat) ({ cls := "CavePearls$Pool", name := "drip", desc := "(Z)I" } : Jvm.MethodName)) ∈ lw_all := lw_g (lw_at lw_m9 201 rfl) rfl
theorem q2240 : (Jvm.Cond.methodLink "CavePearls$World" (163 : Nat) ({ cls := "CavePearls$Stone", name := "drip", desc := "()V" } : Jvm.MethodName)) ∈ lw_all := lw_g (lw_at lw_m9 214 rfl) rfl
theorem q2244 : (Jvm.Cond.methodLink "CavePearls$World" (177 : Nat) ({ cls := "CavePearls$World", name := "crack", desc := "()V" } : Jvm.MethodName)) ∈ lw_all := lw_g (lw_at lw_m9 218 rfl) rfl
theorem q2245 : (Jvm.Cond.privateMethod ({ cls := "CavePearls$World", name := "crack", desc := "()V" } : Jvm.MethodName)) ∈ lw_tbl := lw_at lw_m9 219 rfl
theorem q2246 : (Jvm.Cond.instanceMethod ({ cls := "CavePearls$World", name := "crack", desc := "()V" } : Jvm.MethodName)) ∈ lw_all := lw_g (lw_at lw_m9 220 rfl) rfl
theorem q2247 : (Jvm.Cond.code ({ cls := "CavePearls$World", name := "crack", desc := "()V" } : Jvm.MethodName) prog_29_method_9_code (4 : Nat) (Option.none : Option Jvm.ClassFile.FieldType)) ∈ lw_all := lw_g (lw_at lw_m9 221 rfl) rfl
theorem q3977 : (Jvm.Cond.castable "CavePearls$World" "java/lang/Object") ∈ lw_tbl := lw_at lw_m17 31 rfl
theorem in_X2 : ∀ w ∈ wsX20, w ∈ lw_all := lw_in wsX20 [297, 299, 301, 303, 305, 307, 309, 311, 313, 315, 317, 319, 321, 323, 325] (by decide +kernel) (by decide +kernel)

/-! java/util/AbstractCollection -/
set_option maxRecDepth 100000
def RJ0 : String := "java/util/AbstractCollection"
abbrev cJ0_init : ByteArray := prog_62_method_1_code
def yJ0_init : MethodName := ⟨RJ0, "<init>", "()V"⟩
theorem dJ0_init_0 : decode cJ0_init 0 = .ok (.aload_n 0, 1) := by decide +kernel
theorem dJ0_init_1 : decode cJ0_init 1 = .ok (.invokespecial 1, 3) := by decide +kernel
theorem dJ0_init_4 : decode cJ0_init 4 = .ok (.return_, 1) := by decide +kernel
theorem q109 : (Jvm.Cond.initialized "java/util/AbstractCollection") ∈ lw_all := lw_g (lw_at lw_m1 3 rfl) rfl
theorem q218 : (Jvm.Cond.instanceMethod ({ cls := "java/util/AbstractCollection", name := "<init>", desc := "()V" } : Jvm.MethodName)) ∈ lw_all := lw_g (lw_at lw_m1 112 rfl) rfl
theorem q219 : (Jvm.Cond.code ({ cls := "java/util/AbstractCollection", name := "<init>", desc := "()V" } : Jvm.MethodName) prog_62_method_1_code (1 : Nat) (Option.none : Option Jvm.ClassFile.FieldType)) ∈ lw_all := lw_g (lw_at lw_m1 113 rfl) rfl
theorem q220 : (Jvm.Cond.methodLink "java/util/AbstractCollection" (1 : Nat) ({ cls := "java/lang/Object", name := "<init>", desc := "()V" } : Jvm.MethodName)) ∈ lw_all := lw_g (lw_at lw_m1 114 rfl) rfl
theorem q462 : (Jvm.Cond.declares ({ cls := "java/util/AbstractCollection", name := "size", desc := "()I" } : Jvm.MethodName)) ∈ lw_tbl := lw_at lw_m2 116 rfl

/-! java/util/AbstractList -/
set_option maxRecDepth 100000
def RJ1 : String := "java/util/AbstractList"
abbrev cJ1_init : ByteArray := prog_63_method_1_code
def yJ1_init : MethodName := ⟨RJ1, "<init>", "()V"⟩
def dkwJ1_init_0 : List UInt8 := [42, 183, 0, 1, 42, 3, 181, 0, 7, 177]
abbrev dktJ1_init_0 : List UInt8 := dkwJ1_init_0 ++ []
theorem dksJ1_init_0 : cJ1_init.data.toList.drop 0 = dktJ1_init_0 := by decide +kernel
theorem dJ1_init_0 : decode cJ1_init 0 = .ok (.aload_n 0, 1) := dk_42 (dk_at dksJ1_init_0 0 rfl rfl)
theorem dJ1_init_1 : decode cJ1_init 1 = .ok (.invokespecial 1, 3) := dk_183 0 1 (dk_at dksJ1_init_0 1 rfl rfl)
theorem dJ1_init_4 : decode cJ1_init 4 = .ok (.aload_n 0, 1) := dk_42 (dk_at dksJ1_init_0 4 rfl rfl)
theorem dJ1_init_5 : decode cJ1_init 5 = .ok (.iconst 0, 1) := dk_3 (dk_at dksJ1_init_0 5 rfl rfl)
theorem dJ1_init_6 : decode cJ1_init 6 = .ok (.putfield 7, 3) := dk_181 0 7 (dk_at dksJ1_init_0 6 rfl rfl)
theorem dJ1_init_9 : decode cJ1_init 9 = .ok (.return_, 1) := dk_177 (dk_at dksJ1_init_0 9 rfl rfl)
abbrev cJ1_listIterator : ByteArray := prog_63_method_12_code
def yJ1_listIterator : MethodName := ⟨RJ1, "listIterator", "()Ljava/util/ListIterator;"⟩
def dkwJ1_listIterator_0 : List UInt8 := [42, 3, 182, 0, 47, 176]
abbrev dktJ1_listIterator_0 : List UInt8 := dkwJ1_listIterator_0 ++ []
theorem dksJ1_listIterator_0 : cJ1_listIterator.data.toList.drop 0 = dktJ1_listIterator_0 := by decide +kernel
theorem dJ1_listIterator_0 : decode cJ1_listIterator 0 = .ok (.aload_n 0, 1) := dk_42 (dk_at dksJ1_listIterator_0 0 rfl rfl)
theorem dJ1_listIterator_1 : decode cJ1_listIterator 1 = .ok (.iconst 0, 1) := dk_3 (dk_at dksJ1_listIterator_0 1 rfl rfl)
theorem dJ1_listIterator_2 : decode cJ1_listIterator 2 = .ok (.invokevirtual 47, 3) := dk_182 0 47 (dk_at dksJ1_listIterator_0 2 rfl rfl)
theorem dJ1_listIterator_5 : decode cJ1_listIterator 5 = .ok (.areturn, 1) := dk_176 (dk_at dksJ1_listIterator_0 5 rfl rfl)
theorem q110 : (Jvm.Cond.initialized "java/util/AbstractList") ∈ lw_all := lw_g (lw_at lw_m1 4 rfl) rfl
theorem q215 : (Jvm.Cond.instanceMethod ({ cls := "java/util/AbstractList", name := "<init>", desc := "()V" } : Jvm.MethodName)) ∈ lw_all := lw_g (lw_at lw_m1 109 rfl) rfl
theorem q216 : (Jvm.Cond.code ({ cls := "java/util/AbstractList", name := "<init>", desc := "()V" } : Jvm.MethodName) prog_63_method_1_code (1 : Nat) (Option.none : Option Jvm.ClassFile.FieldType)) ∈ lw_all := lw_g (lw_at lw_m1 110 rfl) rfl
theorem q217 : (Jvm.Cond.methodLink "java/util/AbstractList" (1 : Nat) ({ cls := "java/util/AbstractCollection", name := "<init>", desc := "()V" } : Jvm.MethodName)) ∈ lw_all := lw_g (lw_at lw_m1 111 rfl) rfl
theorem q227 : (Jvm.Cond.fieldLink "java/util/AbstractList" (7 : Nat) "java/util/AbstractList" "modCount" "I") ∈ lw_all := lw_g (lw_at lw_m1 121 rfl) rfl
theorem q240 : (Jvm.Cond.soleField "java/util/AbstractList" "modCount") ∈ lw_all := lw_g (lw_at lw_m1 134 rfl) rfl
theorem q461 : (Jvm.Cond.sameMethod "java/util/AbstractList" "java/util/AbstractCollection" "size" "()I") ∈ lw_all := lw_g (lw_at lw_m2 115 rfl) rfl
theorem q549 : (Jvm.Cond.declares ({ cls := "java/util/AbstractList", name := "get", desc := "(I)Ljava/lang/Object;" } : Jvm.MethodName)) ∈ lw_tbl := lw_at lw_m2 203 rfl
theorem q550 : (Jvm.Cond.sameMethod "java/util/AbstractList" "java/util/AbstractList" "get" "(I)Ljava/lang/Object;") ∈ lw_all := lw_g (lw_at lw_m2 204 rfl) rfl
theorem q1324 : (Jvm.Cond.declares ({ cls := "java/util/AbstractList", name := "listIterator", desc := "()Ljava/util/ListIterator;" } : Jvm.MethodName)) ∈ lw_tbl := lw_at lw_m6 18 rfl
theorem q1326 : (Jvm.Cond.instanceMethod ({ cls := "java/util/AbstractList", name := "listIterator", desc := "()Ljava/util/ListIterator;" } : Jvm.MethodName)) ∈ lw_all := lw_g (lw_at lw_m6 20 rfl) rfl
theorem q1327 : (Jvm.Cond.code ({ cls := "java/util/AbstractList", name := "listIterator", desc := "()Ljava/util/ListIterator;" } : Jvm.MethodName) prog_63_method_12_code (1 : Nat) (Option.some (Jvm.ClassFile.FieldType.object "java/util/ListIterator"))) ∈ lw_all := lw_g (lw_at lw_m6 21 rfl) rfl
theorem q1328 : (Jvm.Cond.methodLink "java/util/AbstractList" (47 : Nat) ({ cls := "java/util/AbstractList", name := "listIterator", desc := "(I)Ljava/util/ListIterator;" } : Jvm.MethodName)) ∈ lw_all := lw_g (lw_at lw_m6 22 rfl) rfl
theorem q1329 : (Jvm.Cond.instanceMethod ({ cls := "java/util/AbstractList", name := "listIterator", desc := "(I)Ljava/util/ListIterator;" } : Jvm.MethodName)) ∈ lw_all := lw_g (lw_at lw_m6 23 rfl) rfl
theorem q1330 : (Jvm.Cond.sameMethod "java/util/AbstractList" "java/util/AbstractList" "listIterator" "(I)Ljava/util/ListIterator;") ∈ lw_all := lw_g (lw_at lw_m6 24 rfl) rfl
theorem q1399 : (Jvm.Cond.declares ({ cls := "java/util/AbstractList", name := "listIterator", desc := "(I)Ljava/util/ListIterator;" } : Jvm.MethodName)) ∈ lw_tbl := lw_at lw_m6 93 rfl
theorem q1820 : (Jvm.Cond.instanceMethod ({ cls := "java/util/AbstractList", name := "remove", desc := "(I)Ljava/lang/Object;" } : Jvm.MethodName)) ∈ lw_all := lw_g (lw_at lw_m8 34 rfl) rfl
theorem q1821 : (Jvm.Cond.sameMethod "java/util/AbstractList" "java/util/AbstractList" "remove" "(I)Ljava/lang/Object;") ∈ lw_all := lw_g (lw_at lw_m8 35 rfl) rfl
theorem q1824 : (Jvm.Cond.declares ({ cls := "java/util/AbstractList", name := "remove", desc := "(I)Ljava/lang/Object;" } : Jvm.MethodName)) ∈ lw_tbl := lw_at lw_m8 38 rfl

/-! java/util/ArrayList -/
set_option maxRecDepth 100000
def RJ2 : String := "java/util/ArrayList"
def TJ2 : u_T := fun k => match k with
  | 0 => ("java/util/AbstractList", "modCount", "I", false)
  | 1 => ("java/util/ArrayList", "elementData", "[Ljava/lang/Object;", false)
  | _ => ("java/util/ArrayList", "size", "I", false)
def tyJ2 : Nat → FieldType := fun k => match k with
  | 0 => .int
  | 1 => .array (.object "java/lang/Object")
  | _ => .int
abbrev wsJ20 : List Cond := u_ws RJ2 TJ2 3
theorem nmJ2 : ∀ a, a < 3 → ∀ b, b < 3 → a ≠ b → (TJ2 a).2.1 ≠ (TJ2 b).2.1 := by decide +kernel
theorem tyJ2_ok : ∀ k, k < 3 → parseFieldDescriptor (TJ2 k).2.2.1 = some (tyJ2 k) := by decide +kernel
abbrev cJ2_init : ByteArray := prog_71_method_2_code
def yJ2_init : MethodName := ⟨RJ2, "<init>", "()V"⟩
def dkwJ2_init_0 : List UInt8 := [42, 183, 0, 1, 42, 178, 0, 39, 181, 0, 9, 177]
abbrev dktJ2_init_0 : List UInt8 := dkwJ2_init_0 ++ []
theorem dksJ2_init_0 : cJ2_init.data.toList.drop 0 = dktJ2_init_0 := by decide +kernel
theorem dJ2_init_0 : decode cJ2_init 0 = .ok (.aload_n 0, 1) := dk_42 (dk_at dksJ2_init_0 0 rfl rfl)
theorem dJ2_init_1 : decode cJ2_init 1 = .ok (.invokespecial 1, 3) := dk_183 0 1 (dk_at dksJ2_init_0 1 rfl rfl)
theorem dJ2_init_4 : decode cJ2_init 4 = .ok (.aload_n 0, 1) := dk_42 (dk_at dksJ2_init_0 4 rfl rfl)
theorem dJ2_init_5 : decode cJ2_init 5 = .ok (.getstatic 39, 3) := dk_178 0 39 (dk_at dksJ2_init_0 5 rfl rfl)
theorem dJ2_init_8 : decode cJ2_init 8 = .ok (.putfield 9, 3) := dk_181 0 9 (dk_at dksJ2_init_0 8 rfl rfl)
theorem dJ2_init_11 : decode cJ2_init 11 = .ok (.return_, 1) := dk_177 (dk_at dksJ2_init_0 11 rfl rfl)
abbrev cJ2_iterator : ByteArray := prog_71_method_55_code
def yJ2_iterator : MethodName := ⟨RJ2, "iterator", "()Ljava/util/Iterator;"⟩
def dkwJ2_iterator_0 : List UInt8 := [187, 1, 11, 89, 42, 183, 1, 13, 176]
abbrev dktJ2_iterator_0 : List UInt8 := dkwJ2_iterator_0 ++ []
theorem dksJ2_iterator_0 : cJ2_iterator.data.toList.drop 0 = dktJ2_iterator_0 := by decide +kernel
theorem dJ2_iterator_0 : decode cJ2_iterator 0 = .ok (.new 267, 3) := dk_187 1 11 (dk_at dksJ2_iterator_0 0 rfl rfl)
theorem dJ2_iterator_3 : decode cJ2_iterator 3 = .ok (.dup, 1) := dk_89 (dk_at dksJ2_iterator_0 3 rfl rfl)
theorem dJ2_iterator_4 : decode cJ2_iterator 4 = .ok (.aload_n 0, 1) := dk_42 (dk_at dksJ2_iterator_0 4 rfl rfl)
theorem dJ2_iterator_5 : decode cJ2_iterator 5 = .ok (.invokespecial 269, 3) := dk_183 1 13 (dk_at dksJ2_iterator_0 5 rfl rfl)
theorem dJ2_iterator_8 : decode cJ2_iterator 8 = .ok (.areturn, 1) := dk_176 (dk_at dksJ2_iterator_0 8 rfl rfl)
abbrev cJ2_size : ByteArray := prog_71_method_8_code
def yJ2_size : MethodName := ⟨RJ2, "size", "()I"⟩
theorem dJ2_size_0 : decode cJ2_size 0 = .ok (.aload_n 0, 1) := by decide +kernel
theorem dJ2_size_1 : decode cJ2_size 1 = .ok (.getfield 48, 3) := by decide +kernel
theorem dJ2_size_4 : decode cJ2_size 4 = .ok (.ireturn, 1) := by decide +kernel
abbrev cJ2_get : ByteArray := prog_71_method_20_code
def yJ2_get : MethodName := ⟨RJ2, "get", "(I)Ljava/lang/Object;"⟩
def dkwJ2_get_0 : List UInt8 := [27, 42, 180, 0, 48, 184, 0, 118, 87, 42, 27, 182, 0, 123, 176]
abbrev dktJ2_get_0 : List UInt8 := dkwJ2_get_0 ++ []
theorem dksJ2_get_0 : cJ2_get.data.toList.drop 0 = dktJ2_get_0 := by decide +kernel
theorem dJ2_get_0 : decode cJ2_get 0 = .ok (.iload_n 1, 1) := dk_27 (dk_at dksJ2_get_0 0 rfl rfl)
theorem dJ2_get_1 : decode cJ2_get 1 = .ok (.aload_n 0, 1) := dk_42 (dk_at dksJ2_get_0 1 rfl rfl)
theorem dJ2_get_2 : decode cJ2_get 2 = .ok (.getfield 48, 3) := dk_180 0 48 (dk_at dksJ2_get_0 2 rfl rfl)
theorem dJ2_get_5 : decode cJ2_get 5 = .ok (.invokestatic 118, 3) := dk_184 0 118 (dk_at dksJ2_get_0 5 rfl rfl)
theorem dJ2_get_8 : decode cJ2_get 8 = .ok (.pop, 1) := dk_87 (dk_at dksJ2_get_0 8 rfl rfl)
theorem dJ2_get_9 : decode cJ2_get 9 = .ok (.aload_n 0, 1) := dk_42 (dk_at dksJ2_get_0 9 rfl rfl)
theorem dJ2_get_10 : decode cJ2_get 10 = .ok (.iload_n 1, 1) := dk_27 (dk_at dksJ2_get_0 10 rfl rfl)
theorem dJ2_get_11 : decode cJ2_get 11 = .ok (.invokevirtual 123, 3) := dk_182 0 123 (dk_at dksJ2_get_0 11 rfl rfl)
theorem dJ2_get_14 : decode cJ2_get 14 = .ok (.areturn, 1) := dk_176 (dk_at dksJ2_get_0 14 rfl rfl)
abbrev cJ2_elementData : ByteArray := prog_71_method_18_code
def yJ2_elementData : MethodName := ⟨RJ2, "elementData", "(I)Ljava/lang/Object;"⟩
def dkwJ2_elementData_0 : List UInt8 := [42, 180, 0, 9, 27, 50, 176]
abbrev dktJ2_elementData_0 : List UInt8 := dkwJ2_elementData_0 ++ []
theorem dksJ2_elementData_0 : cJ2_elementData.data.toList.drop 0 = dktJ2_elementData_0 := by decide +kernel
theorem dJ2_elementData_0 : decode cJ2_elementData 0 = .ok (.aload_n 0, 1) := dk_42 (dk_at dksJ2_elementData_0 0 rfl rfl)
theorem dJ2_elementData_1 : decode cJ2_elementData 1 = .ok (.getfield 9, 3) := dk_180 0 9 (dk_at dksJ2_elementData_0 1 rfl rfl)
theorem dJ2_elementData_4 : decode cJ2_elementData 4 = .ok (.iload_n 1, 1) := dk_27 (dk_at dksJ2_elementData_0 4 rfl rfl)
theorem dJ2_elementData_5 : decode cJ2_elementData 5 = .ok (.aaload, 1) := dk_50 (dk_at dksJ2_elementData_0 5 rfl rfl)
theorem dJ2_elementData_6 : decode cJ2_elementData 6 = .ok (.areturn, 1) := dk_176 (dk_at dksJ2_elementData_0 6 rfl rfl)
abbrev cJ2_add : ByteArray := prog_71_method_25_code
def yJ2_add : MethodName := ⟨RJ2, "add", "(Ljava/lang/Object;)Z"⟩
def dkwJ2_add_1 : List UInt8 := [172]
abbrev dktJ2_add_1 : List UInt8 := dkwJ2_add_1 ++ []
def dkwJ2_add_0 : List UInt8 := [42, 89, 180, 0, 63, 4, 96, 181, 0, 63, 42, 43, 42, 180, 0, 9, 42, 180, 0, 48, 182, 0, 131, 4]
abbrev dktJ2_add_0 : List UInt8 := dkwJ2_add_0 ++ dktJ2_add_1
theorem dksJ2_add_0 : cJ2_add.data.toList.drop 0 = dktJ2_add_0 := by decide +kernel
theorem dksJ2_add_1 : cJ2_add.data.toList.drop 24 = dktJ2_add_1 := dk_seg dksJ2_add_0 24 rfl rfl
theorem dJ2_add_0 : decode cJ2_add 0 = .ok (.aload_n 0, 1) := dk_42 (dk_at dksJ2_add_0 0 rfl rfl)
theorem dJ2_add_1 : decode cJ2_add 1 = .ok (.dup, 1) := dk_89 (dk_at dksJ2_add_0 1 rfl rfl)
theorem dJ2_add_2 : decode cJ2_add 2 = .ok (.getfield 63, 3) := dk_180 0 63 (dk_at dksJ2_add_0 2 rfl rfl)
theorem dJ2_add_5 : decode cJ2_add 5 = .ok (.iconst 1, 1) := dk_4 (dk_at dksJ2_add_0 5 rfl rfl)
theorem dJ2_add_6 : decode cJ2_add 6 = .ok (.iadd, 1) := dk_96 (dk_at dksJ2_add_0 6 rfl rfl)
theorem dJ2_add_7 : decode cJ2_add 7 = .ok (.putfield 63, 3) := dk_181 0 63 (dk_at dksJ2_add_0 7 rfl rfl)
theorem dJ2_add_10 : decode cJ2_add 10 = .ok (.aload_n 0, 1) := dk_42 (dk_at dksJ2_add_0 10 rfl rfl)
theorem dJ2_add_11 : decode cJ2_add 11 = .ok (.aload_n 1, 1) := dk_43 (dk_at dksJ2_add_0 11 rfl rfl)
theorem dJ2_add_12 : decode cJ2_add 12 = .ok (.aload_n 0, 1) := dk_42 (dk_at dksJ2_add_0 12 rfl rfl)
theorem dJ2_add_13 : decode cJ2_add 13 = .ok (.getfield 9, 3) := dk_180 0 9 (dk_at dksJ2_add_0 13 rfl rfl)
theorem dJ2_add_16 : decode cJ2_add 16 = .ok (.aload_n 0, 1) := dk_42 (dk_at dksJ2_add_0 16 rfl rfl)
theorem dJ2_add_17 : decode cJ2_add 17 = .ok (.getfield 48, 3) := dk_180 0 48 (dk_at dksJ2_add_0 17 rfl rfl)
theorem dJ2_add_20 : decode cJ2_add 20 = .ok (.invokevirtual 131, 3) := dk_182 0 131 (dk_at dksJ2_add_0 20 rfl rfl)
theorem dJ2_add_23 : decode cJ2_add 23 = .ok (.iconst 1, 1) := dk_4 (dk_at dksJ2_add_0 23 rfl rfl)
theorem dJ2_add_24 : decode cJ2_add 24 = .ok (.ireturn, 1) := dk_172 (dk_at dksJ2_add_1 0 rfl rfl)
abbrev cJ2_add_2 : ByteArray := prog_71_method_24_code
def yJ2_add_2 : MethodName := ⟨RJ2, "add", "(Ljava/lang/Object;[Ljava/lang/Object;I)V"⟩
def dkwJ2_add_2_0 : List UInt8 := [29, 44, 190, 160, 0, 8, 42, 182, 0, 129, 77, 44, 29, 43, 83, 42, 29, 4, 96, 181, 0, 48, 177]
abbrev dktJ2_add_2_0 : List UInt8 := dkwJ2_add_2_0 ++ []
theorem dksJ2_add_2_0 : cJ2_add_2.data.toList.drop 0 = dktJ2_add_2_0 := by decide +kernel
theorem dJ2_add_2_0 : decode cJ2_add_2 0 = .ok (.iload_n 3, 1) := dk_29 (dk_at dksJ2_add_2_0 0 rfl rfl)
theorem dJ2_add_2_1 : decode cJ2_add_2 1 = .ok (.aload_n 2, 1) := dk_44 (dk_at dksJ2_add_2_0 1 rfl rfl)
theorem dJ2_add_2_2 : decode cJ2_add_2 2 = .ok (.arraylength, 1) := dk_190 (dk_at dksJ2_add_2_0 2 rfl rfl)
theorem dJ2_add_2_3 : decode cJ2_add_2 3 = .ok (.if_icmp .ne 8, 3) := dk_160 0 8 (dk_at dksJ2_add_2_0 3 rfl rfl)
theorem dJ2_add_2_6 : decode cJ2_add_2 6 = .ok (.aload_n 0, 1) := dk_42 (dk_at dksJ2_add_2_0 6 rfl rfl)
theorem dJ2_add_2_7 : decode cJ2_add_2 7 = .ok (.invokevirtual 129, 3) := dk_182 0 129 (dk_at dksJ2_add_2_0 7 rfl rfl)
theorem dJ2_add_2_10 : decode cJ2_add_2 10 = .ok (.astore_n 2, 1) := dk_77 (dk_at dksJ2_add_2_0 10 rfl rfl)
theorem dJ2_add_2_11 : decode cJ2_add_2 11 = .ok (.aload_n 2, 1) := dk_44 (dk_at dksJ2_add_2_0 11 rfl rfl)
theorem dJ2_add_2_12 : decode cJ2_add_2 12 = .ok (.iload_n 3, 1) := dk_29 (dk_at dksJ2_add_2_0 12 rfl rfl)
theorem dJ2_add_2_13 : decode cJ2_add_2 13 = .ok (.aload_n 1, 1) := dk_43 (dk_at dksJ2_add_2_0 13 rfl rfl)
theorem dJ2_add_2_14 : decode cJ2_add_2 14 = .ok (.aastore, 1) := dk_83 (dk_at dksJ2_add_2_0 14 rfl rfl)
theorem dJ2_add_2_15 : decode cJ2_add_2 15 = .ok (.aload_n 0, 1) := dk_42 (dk_at dksJ2_add_2_0 15 rfl rfl)
theorem dJ2_add_2_16 : decode cJ2_add_2 16 = .ok (.iload_n 3, 1) := dk_29 (dk_at dksJ2_add_2_0 16 rfl rfl)
theorem dJ2_add_2_17 : decode cJ2_add_2 17 = .ok (.iconst 1, 1) := dk_4 (dk_at dksJ2_add_2_0 17 rfl rfl)
theorem dJ2_add_2_18 : decode cJ2_add_2 18 = .ok (.iadd, 1) := dk_96 (dk_at dksJ2_add_2_0 18 rfl rfl)
theorem dJ2_add_2_19 : decode cJ2_add_2 19 = .ok (.putfield 48, 3) := dk_181 0 48 (dk_at dksJ2_add_2_0 19 rfl rfl)
theorem dJ2_add_2_22 : decode cJ2_add_2 22 = .ok (.return_, 1) := dk_177 (dk_at dksJ2_add_2_0 22 rfl rfl)
abbrev cJ2_grow : ByteArray := prog_71_method_7_code
def yJ2_grow : MethodName := ⟨RJ2, "grow", "()[Ljava/lang/Object;"⟩
def dkwJ2_grow_0 : List UInt8 := [42, 42, 180, 0, 48, 4, 96, 182, 0, 69, 176]
abbrev dktJ2_grow_0 : List UInt8 := dkwJ2_grow_0 ++ []
theorem dksJ2_grow_0 : cJ2_grow.data.toList.drop 0 = dktJ2_grow_0 := by decide +kernel
theorem dJ2_grow_0 : decode cJ2_grow 0 = .ok (.aload_n 0, 1) := dk_42 (dk_at dksJ2_grow_0 0 rfl rfl)
theorem dJ2_grow_1 : decode cJ2_grow 1 = .ok (.aload_n 0, 1) := dk_42 (dk_at dksJ2_grow_0 1 rfl rfl)
theorem dJ2_grow_2 : decode cJ2_grow 2 = .ok (.getfield 48, 3) := dk_180 0 48 (dk_at dksJ2_grow_0 2 rfl rfl)
theorem dJ2_grow_5 : decode cJ2_grow 5 = .ok (.iconst 1, 1) := dk_4 (dk_at dksJ2_grow_0 5 rfl rfl)
theorem dJ2_grow_6 : decode cJ2_grow 6 = .ok (.iadd, 1) := dk_96 (dk_at dksJ2_grow_0 6 rfl rfl)
theorem dJ2_grow_7 : decode cJ2_grow 7 = .ok (.invokevirtual 69, 3) := dk_182 0 69 (dk_at dksJ2_grow_0 7 rfl rfl)
theorem dJ2_grow_10 : decode cJ2_grow 10 = .ok (.areturn, 1) := dk_176 (dk_at dksJ2_grow_0 10 rfl rfl)
abbrev cJ2_grow_2 : ByteArray := prog_71_method_6_code
def yJ2_grow_2 : MethodName := ⟨RJ2, "grow", "(I)[Ljava/lang/Object;"⟩
def dkwJ2_grow_2_2 : List UInt8 := [27, 184, 0, 79, 189, 0, 7, 90, 181, 0, 9, 176]
abbrev dktJ2_grow_2_2 : List UInt8 := dkwJ2_grow_2_2 ++ []
def dkwJ2_grow_2_1 : List UInt8 := [28, 4, 122, 184, 0, 73, 62, 42, 42, 180, 0, 9, 29, 184, 0, 66, 90, 181, 0, 9, 176, 42, 16, 10]
abbrev dktJ2_grow_2_1 : List UInt8 := dkwJ2_grow_2_1 ++ dktJ2_grow_2_2
def dkwJ2_grow_2_0 : List UInt8 := [42, 180, 0, 9, 190, 61, 28, 157, 0, 13, 42, 180, 0, 9, 178, 0, 39, 165, 0, 28, 28, 27, 28, 100]
abbrev dktJ2_grow_2_0 : List UInt8 := dkwJ2_grow_2_0 ++ dktJ2_grow_2_1
theorem dksJ2_grow_2_0 : cJ2_grow_2.data.toList.drop 0 = dktJ2_grow_2_0 := by decide +kernel
theorem dksJ2_grow_2_1 : cJ2_grow_2.data.toList.drop 24 = dktJ2_grow_2_1 := dk_seg dksJ2_grow_2_0 24 rfl rfl
theorem dksJ2_grow_2_2 : cJ2_grow_2.data.toList.drop 48 = dktJ2_grow_2_2 := dk_seg dksJ2_grow_2_1 24 rfl rfl
theorem dJ2_grow_2_0 : decode cJ2_grow_2 0 = .ok (.aload_n 0, 1) := dk_42 (dk_at dksJ2_grow_2_0 0 rfl rfl)
theorem dJ2_grow_2_1 : decode cJ2_grow_2 1 = .ok (.getfield 9, 3) := dk_180 0 9 (dk_at dksJ2_grow_2_0 1 rfl rfl)
theorem dJ2_grow_2_4 : decode cJ2_grow_2 4 = .ok (.arraylength, 1) := dk_190 (dk_at dksJ2_grow_2_0 4 rfl rfl)
theorem dJ2_grow_2_5 : decode cJ2_grow_2 5 = .ok (.istore_n 2, 1) := dk_61 (dk_at dksJ2_grow_2_0 5 rfl rfl)
theorem dJ2_grow_2_6 : decode cJ2_grow_2 6 = .ok (.iload_n 2, 1) := dk_28 (dk_at dksJ2_grow_2_0 6 rfl rfl)
theorem dJ2_grow_2_7 : decode cJ2_grow_2 7 = .ok (.ifCond .gt 13, 3) := dk_157 0 13 (dk_at dksJ2_grow_2_0 7 rfl rfl)
theorem dJ2_grow_2_10 : decode cJ2_grow_2 10 = .ok (.aload_n 0, 1) := dk_42 (dk_at dksJ2_grow_2_0 10 rfl rfl)
theorem dJ2_grow_2_11 : decode cJ2_grow_2 11 = .ok (.getfield 9, 3) := dk_180 0 9 (dk_at dksJ2_grow_2_0 11 rfl rfl)
theorem dJ2_grow_2_14 : decode cJ2_grow_2 14 = .ok (.getstatic 39, 3) := dk_178 0 39 (dk_at dksJ2_grow_2_0 14 rfl rfl)
theorem dJ2_grow_2_17 : decode cJ2_grow_2 17 = .ok (.if_acmp .eq 28, 3) := dk_165 0 28 (dk_at dksJ2_grow_2_0 17 rfl rfl)
theorem dJ2_grow_2_20 : decode cJ2_grow_2 20 = .ok (.iload_n 2, 1) := dk_28 (dk_at dksJ2_grow_2_0 20 rfl rfl)
theorem dJ2_grow_2_21 : decode cJ2_grow_2 21 = .ok (.iload_n 1, 1) := dk_27 (dk_at dksJ2_grow_2_0 21 rfl rfl)
theorem dJ2_grow_2_22 : decode cJ2_grow_2 22 = .ok (.iload_n 2, 1) := dk_28 (dk_at dksJ2_grow_2_0 22 rfl rfl)
theorem dJ2_grow_2_23 : decode cJ2_grow_2 23 = .ok (.isub, 1) := dk_100 (dk_at dksJ2_grow_2_0 23 rfl rfl)
theorem dJ2_grow_2_24 : decode cJ2_grow_2 24 = .ok (.iload_n 2, 1) := dk_28 (dk_at dksJ2_grow_2_1 0 rfl rfl)
theorem dJ2_grow_2_25 : decode cJ2_grow_2 25 = .ok (.iconst 1, 1) := dk_4 (dk_at dksJ2_grow_2_1 1 rfl rfl)
theorem dJ2_grow_2_26 : decode cJ2_grow_2 26 = .ok (.ishr, 1) := dk_122 (dk_at dksJ2_grow_2_1 2 rfl rfl)
theorem dJ2_grow_2_27 : decode cJ2_grow_2 27 = .ok (.invokestatic 73, 3) := dk_184 0 73 (dk_at dksJ2_grow_2_1 3 rfl rfl)
theorem dJ2_grow_2_30 : decode cJ2_grow_2 30 = .ok (.istore_n 3, 1) := dk_62 (dk_at dksJ2_grow_2_1 6 rfl rfl)
theorem dJ2_grow_2_31 : decode cJ2_grow_2 31 = .ok (.aload_n 0, 1) := dk_42 (dk_at dksJ2_grow_2_1 7 rfl rfl)
theorem dJ2_grow_2_32 : decode cJ2_grow_2 32 = .ok (.aload_n 0, 1) := dk_42 (dk_at dksJ2_grow_2_1 8 rfl rfl)
theorem dJ2_grow_2_33 : decode cJ2_grow_2 33 = .ok (.getfield 9, 3) := dk_180 0 9 (dk_at dksJ2_grow_2_1 9 rfl rfl)
theorem dJ2_grow_2_36 : decode cJ2_grow_2 36 = .ok (.iload_n 3, 1) := dk_29 (dk_at dksJ2_grow_2_1 12 rfl rfl)
theorem dJ2_grow_2_37 : decode cJ2_grow_2 37 = .ok (.invokestatic 66, 3) := dk_184 0 66 (dk_at dksJ2_grow_2_1 13 rfl rfl)
theorem dJ2_grow_2_40 : decode cJ2_grow_2 40 = .ok (.dup_x1, 1) := dk_90 (dk_at dksJ2_grow_2_1 16 rfl rfl)
theorem dJ2_grow_2_41 : decode cJ2_grow_2 41 = .ok (.putfield 9, 3) := dk_181 0 9 (dk_at dksJ2_grow_2_1 17 rfl rfl)
theorem dJ2_grow_2_44 : decode cJ2_grow_2 44 = .ok (.areturn, 1) := dk_176 (dk_at dksJ2_grow_2_1 20 rfl rfl)
theorem dJ2_grow_2_45 : decode cJ2_grow_2 45 = .ok (.aload_n 0, 1) := dk_42 (dk_at dksJ2_grow_2_1 21 rfl rfl)
theorem dJ2_grow_2_46 : decode cJ2_grow_2 46 = .ok (.bipush 10, 2) := dk_16 10 (dk_at dksJ2_grow_2_1 22 rfl rfl)
theorem dJ2_grow_2_48 : decode cJ2_grow_2 48 = .ok (.iload_n 1, 1) := dk_27 (dk_at dksJ2_grow_2_2 0 rfl rfl)
theorem dJ2_grow_2_49 : decode cJ2_grow_2 49 = .ok (.invokestatic 79, 3) := dk_184 0 79 (dk_at dksJ2_grow_2_2 1 rfl rfl)
theorem dJ2_grow_2_52 : decode cJ2_grow_2 52 = .ok (.anewarray 7, 3) := dk_189 0 7 (dk_at dksJ2_grow_2_2 4 rfl rfl)
theorem dJ2_grow_2_55 : decode cJ2_grow_2 55 = .ok (.dup_x1, 1) := dk_90 (dk_at dksJ2_grow_2_2 7 rfl rfl)
theorem dJ2_grow_2_56 : decode cJ2_grow_2 56 = .ok (.putfield 9, 3) := dk_181 0 9 (dk_at dksJ2_grow_2_2 8 rfl rfl)
theorem dJ2_grow_2_59 : decode cJ2_grow_2 59 = .ok (.areturn, 1) := dk_176 (dk_at dksJ2_grow_2_2 11 rfl rfl)
abbrev cJ2_listIterator : ByteArray := prog_71_method_53_code
def yJ2_listIterator : MethodName := ⟨RJ2, "listIterator", "(I)Ljava/util/ListIterator;"⟩
def dkwJ2_listIterator_0 : List UInt8 := [42, 27, 182, 0, 135, 187, 1, 6, 89, 42, 27, 183, 1, 8, 176]
abbrev dktJ2_listIterator_0 : List UInt8 := dkwJ2_listIterator_0 ++ []
theorem dksJ2_listIterator_0 : cJ2_listIterator.data.toList.drop 0 = dktJ2_listIterator_0 := by decide +kernel
theorem dJ2_listIterator_0 : decode cJ2_listIterator 0 = .ok (.aload_n 0, 1) := dk_42 (dk_at dksJ2_listIterator_0 0 rfl rfl)
theorem dJ2_listIterator_1 : decode cJ2_listIterator 1 = .ok (.iload_n 1, 1) := dk_27 (dk_at dksJ2_listIterator_0 1 rfl rfl)
theorem dJ2_listIterator_2 : decode cJ2_listIterator 2 = .ok (.invokevirtual 135, 3) := dk_182 0 135 (dk_at dksJ2_listIterator_0 2 rfl rfl)
theorem dJ2_listIterator_5 : decode cJ2_listIterator 5 = .ok (.new 262, 3) := dk_187 1 6 (dk_at dksJ2_listIterator_0 5 rfl rfl)
theorem dJ2_listIterator_8 : decode cJ2_listIterator 8 = .ok (.dup, 1) := dk_89 (dk_at dksJ2_listIterator_0 8 rfl rfl)
theorem dJ2_listIterator_9 : decode cJ2_listIterator 9 = .ok (.aload_n 0, 1) := dk_42 (dk_at dksJ2_listIterator_0 9 rfl rfl)
theorem dJ2_listIterator_10 : decode cJ2_listIterator 10 = .ok (.iload_n 1, 1) := dk_27 (dk_at dksJ2_listIterator_0 10 rfl rfl)
theorem dJ2_listIterator_11 : decode cJ2_listIterator 11 = .ok (.invokespecial 264, 3) := dk_183 1 8 (dk_at dksJ2_listIterator_0 11 rfl rfl)
theorem dJ2_listIterator_14 : decode cJ2_listIterator 14 = .ok (.areturn, 1) := dk_176 (dk_at dksJ2_listIterator_0 14 rfl rfl)
abbrev cJ2_rangeCheckForAdd : ByteArray := prog_71_method_45_code
def yJ2_rangeCheckForAdd : MethodName := ⟨RJ2, "rangeCheckForAdd", "(I)V"⟩
def dkwJ2_rangeCheckForAdd_1 : List UInt8 := [191, 177]
abbrev dktJ2_rangeCheckForAdd_1 : List UInt8 := dkwJ2_rangeCheckForAdd_1 ++ []
def dkwJ2_rangeCheckForAdd_0 : List UInt8 := [27, 42, 180, 0, 48, 163, 0, 7, 27, 156, 0, 16, 187, 0, 187, 89, 42, 27, 182, 0, 198, 183, 0, 193]
abbrev dktJ2_rangeCheckForAdd_0 : List UInt8 := dkwJ2_rangeCheckForAdd_0 ++ dktJ2_rangeCheckForAdd_1
theorem dksJ2_rangeCheckForAdd_0 : cJ2_rangeCheckForAdd.data.toList.drop 0 = dktJ2_rangeCheckForAdd_0 := by decide +kernel
theorem dksJ2_rangeCheckForAdd_1 : cJ2_rangeCheckForAdd.data.toList.drop 24 = dktJ2_rangeCheckForAdd_1 := dk_seg dksJ2_rangeCheckForAdd_0 24 rfl rfl
theorem dJ2_rangeCheckForAdd_0 : decode cJ2_rangeCheckForAdd 0 = .ok (.iload_n 1, 1) := dk_27 (dk_at dksJ2_rangeCheckForAdd_0 0 rfl rfl)
theorem dJ2_rangeCheckForAdd_1 : decode cJ2_rangeCheckForAdd 1 = .ok (.aload_n 0, 1) := dk_42 (dk_at dksJ2_rangeCheckForAdd_0 1 rfl rfl)
theorem dJ2_rangeCheckForAdd_2 : decode cJ2_rangeCheckForAdd 2 = .ok (.getfield 48, 3) := dk_180 0 48 (dk_at dksJ2_rangeCheckForAdd_0 2 rfl rfl)
theorem dJ2_rangeCheckForAdd_5 : decode cJ2_rangeCheckForAdd 5 = .ok (.if_icmp .gt 7, 3) := dk_163 0 7 (dk_at dksJ2_rangeCheckForAdd_0 5 rfl rfl)
theorem dJ2_rangeCheckForAdd_8 : decode cJ2_rangeCheckForAdd 8 = .ok (.iload_n 1, 1) := dk_27 (dk_at dksJ2_rangeCheckForAdd_0 8 rfl rfl)
theorem dJ2_rangeCheckForAdd_9 : decode cJ2_rangeCheckForAdd 9 = .ok (.ifCond .ge 16, 3) := dk_156 0 16 (dk_at dksJ2_rangeCheckForAdd_0 9 rfl rfl)
theorem dJ2_rangeCheckForAdd_12 : decode cJ2_rangeCheckForAdd 12 = .ok (.new 187, 3) := dk_187 0 187 (dk_at dksJ2_rangeCheckForAdd_0 12 rfl rfl)
theorem dJ2_rangeCheckForAdd_15 : decode cJ2_rangeCheckForAdd 15 = .ok (.dup, 1) := dk_89 (dk_at dksJ2_rangeCheckForAdd_0 15 rfl rfl)
theorem dJ2_rangeCheckForAdd_16 : decode cJ2_rangeCheckForAdd 16 = .ok (.aload_n 0, 1) := dk_42 (dk_at dksJ2_rangeCheckForAdd_0 16 rfl rfl)
theorem dJ2_rangeCheckForAdd_17 : decode cJ2_rangeCheckForAdd 17 = .ok (.iload_n 1, 1) := dk_27 (dk_at dksJ2_rangeCheckForAdd_0 17 rfl rfl)
theorem dJ2_rangeCheckForAdd_18 : decode cJ2_rangeCheckForAdd 18 = .ok (.invokevirtual 198, 3) := dk_182 0 198 (dk_at dksJ2_rangeCheckForAdd_0 18 rfl rfl)
theorem dJ2_rangeCheckForAdd_21 : decode cJ2_rangeCheckForAdd 21 = .ok (.invokespecial 193, 3) := dk_183 0 193 (dk_at dksJ2_rangeCheckForAdd_0 21 rfl rfl)
theorem dJ2_rangeCheckForAdd_24 : decode cJ2_rangeCheckForAdd 24 = .ok (.athrow, 1) := dk_191 (dk_at dksJ2_rangeCheckForAdd_1 0 rfl rfl)
theorem dJ2_rangeCheckForAdd_25 : decode cJ2_rangeCheckForAdd 25 = .ok (.return_, 1) := dk_177 (dk_at dksJ2_rangeCheckForAdd_1 1 rfl rfl)
abbrev cJ2_outOfBoundsMsg : ByteArray := prog_71_method_46_code
def yJ2_outOfBoundsMsg : MethodName := ⟨RJ2, "outOfBoundsMsg", "(I)Ljava/lang/String;"⟩
def dkwJ2_outOfBoundsMsg_1 : List UInt8 := [180, 0, 48, 182, 0, 29, 182, 0, 32, 176]
abbrev dktJ2_outOfBoundsMsg_1 : List UInt8 := dkwJ2_outOfBoundsMsg_1 ++ []
def dkwJ2_outOfBoundsMsg_0 : List UInt8 := [187, 0, 20, 89, 183, 0, 22, 18, 201, 182, 0, 25, 27, 182, 0, 29, 18, 203, 182, 0, 25, 42]
abbrev dktJ2_outOfBoundsMsg_0 : List UInt8 := dkwJ2_outOfBoundsMsg_0 ++ dktJ2_outOfBoundsMsg_1
theorem dksJ2_outOfBoundsMsg_0 : cJ2_outOfBoundsMsg.data.toList.drop 0 = dktJ2_outOfBoundsMsg_0 := by decide +kernel
theorem dksJ2_outOfBoundsMsg_1 : cJ2_outOfBoundsMsg.data.toList.drop 22 = dktJ2_outOfBoundsMsg_1 := dk_seg dksJ2_outOfBoundsMsg_0 22 rfl rfl
theorem dJ2_outOfBoundsMsg_0 : decode cJ2_outOfBoundsMsg 0 = .ok (.new 20, 3) := dk_187 0 20 (dk_at dksJ2_outOfBoundsMsg_0 0 rfl rfl)
theorem dJ2_outOfBoundsMsg_3 : decode cJ2_outOfBoundsMsg 3 = .ok (.dup, 1) := dk_89 (dk_at dksJ2_outOfBoundsMsg_0 3 rfl rfl)
theorem dJ2_outOfBoundsMsg_4 : decode cJ2_outOfBoundsMsg 4 = .ok (.invokespecial 22, 3) := dk_183 0 22 (dk_at dksJ2_outOfBoundsMsg_0 4 rfl rfl)
theorem dJ2_outOfBoundsMsg_7 : decode cJ2_outOfBoundsMsg 7 = .ok (.ldc 201, 2) := dk_18 201 (dk_at dksJ2_outOfBoundsMsg_0 7 rfl rfl)
theorem dJ2_outOfBoundsMsg_9 : decode cJ2_outOfBoundsMsg 9 = .ok (.invokevirtual 25, 3) := dk_182 0 25 (dk_at dksJ2_outOfBoundsMsg_0 9 rfl rfl)
theorem dJ2_outOfBoundsMsg_12 : decode cJ2_outOfBoundsMsg 12 = .ok (.iload_n 1, 1) := dk_27 (dk_at dksJ2_outOfBoundsMsg_0 12 rfl rfl)
theorem dJ2_outOfBoundsMsg_13 : decode cJ2_outOfBoundsMsg 13 = .ok (.invokevirtual 29, 3) := dk_182 0 29 (dk_at dksJ2_outOfBoundsMsg_0 13 rfl rfl)
theorem dJ2_outOfBoundsMsg_16 : decode cJ2_outOfBoundsMsg 16 = .ok (.ldc 203, 2) := dk_18 203 (dk_at dksJ2_outOfBoundsMsg_0 16 rfl rfl)
theorem dJ2_outOfBoundsMsg_18 : decode cJ2_outOfBoundsMsg 18 = .ok (.invokevirtual 25, 3) := dk_182 0 25 (dk_at dksJ2_outOfBoundsMsg_0 18 rfl rfl)
theorem dJ2_outOfBoundsMsg_21 : decode cJ2_outOfBoundsMsg 21 = .ok (.aload_n 0, 1) := dk_42 (dk_at dksJ2_outOfBoundsMsg_0 21 rfl rfl)
theorem dJ2_outOfBoundsMsg_22 : decode cJ2_outOfBoundsMsg 22 = .ok (.getfield 48, 3) := dk_180 0 48 (dk_at dksJ2_outOfBoundsMsg_1 0 rfl rfl)
theorem dJ2_outOfBoundsMsg_25 : decode cJ2_outOfBoundsMsg 25 = .ok (.invokevirtual 29, 3) := dk_182 0 29 (dk_at dksJ2_outOfBoundsMsg_1 3 rfl rfl)
theorem dJ2_outOfBoundsMsg_28 : decode cJ2_outOfBoundsMsg 28 = .ok (.invokevirtual 32, 3) := dk_182 0 32 (dk_at dksJ2_outOfBoundsMsg_1 6 rfl rfl)
theorem dJ2_outOfBoundsMsg_31 : decode cJ2_outOfBoundsMsg 31 = .ok (.areturn, 1) := dk_176 (dk_at dksJ2_outOfBoundsMsg_1 9 rfl rfl)
abbrev cJ2_remove : ByteArray := prog_71_method_29_code
def yJ2_remove : MethodName := ⟨RJ2, "remove", "(I)Ljava/lang/Object;"⟩
def dkwJ2_remove_1 : List UInt8 := [45, 176]
abbrev dktJ2_remove_1 : List UInt8 := dkwJ2_remove_1 ++ []
def dkwJ2_remove_0 : List UInt8 := [27, 42, 180, 0, 48, 184, 0, 118, 87, 42, 180, 0, 9, 77, 44, 27, 50, 78, 42, 44, 27, 182, 0, 144]
abbrev dktJ2_remove_0 : List UInt8 := dkwJ2_remove_0 ++ dktJ2_remove_1
theorem dksJ2_remove_0 : cJ2_remove.data.toList.drop 0 = dktJ2_remove_0 := by decide +kernel
theorem dksJ2_remove_1 : cJ2_remove.data.toList.drop 24 = dktJ2_remove_1 := dk_seg dksJ2_remove_0 24 rfl rfl
theorem dJ2_remove_0 : decode cJ2_remove 0 = .ok (.iload_n 1, 1) := dk_27 (dk_at dksJ2_remove_0 0 rfl rfl)
theorem dJ2_remove_1 : decode cJ2_remove 1 = .ok (.aload_n 0, 1) := dk_42 (dk_at dksJ2_remove_0 1 rfl rfl)
theorem dJ2_remove_2 : decode cJ2_remove 2 = .ok (.getfield 48, 3) := dk_180 0 48 (dk_at dksJ2_remove_0 2 rfl rfl)
theorem dJ2_remove_5 : decode cJ2_remove 5 = .ok (.invokestatic 118, 3) := dk_184 0 118 (dk_at dksJ2_remove_0 5 rfl rfl)
theorem dJ2_remove_8 : decode cJ2_remove 8 = .ok (.pop, 1) := dk_87 (dk_at dksJ2_remove_0 8 rfl rfl)
theorem dJ2_remove_9 : decode cJ2_remove 9 = .ok (.aload_n 0, 1) := dk_42 (dk_at dksJ2_remove_0 9 rfl rfl)
theorem dJ2_remove_10 : decode cJ2_remove 10 = .ok (.getfield 9, 3) := dk_180 0 9 (dk_at dksJ2_remove_0 10 rfl rfl)
theorem dJ2_remove_13 : decode cJ2_remove 13 = .ok (.astore_n 2, 1) := dk_77 (dk_at dksJ2_remove_0 13 rfl rfl)
theorem dJ2_remove_14 : decode cJ2_remove 14 = .ok (.aload_n 2, 1) := dk_44 (dk_at dksJ2_remove_0 14 rfl rfl)
theorem dJ2_remove_15 : decode cJ2_remove 15 = .ok (.iload_n 1, 1) := dk_27 (dk_at dksJ2_remove_0 15 rfl rfl)
theorem dJ2_remove_16 : decode cJ2_remove 16 = .ok (.aaload, 1) := dk_50 (dk_at dksJ2_remove_0 16 rfl rfl)
theorem dJ2_remove_17 : decode cJ2_remove 17 = .ok (.astore_n 3, 1) := dk_78 (dk_at dksJ2_remove_0 17 rfl rfl)
theorem dJ2_remove_18 : decode cJ2_remove 18 = .ok (.aload_n 0, 1) := dk_42 (dk_at dksJ2_remove_0 18 rfl rfl)
theorem dJ2_remove_19 : decode cJ2_remove 19 = .ok (.aload_n 2, 1) := dk_44 (dk_at dksJ2_remove_0 19 rfl rfl)
theorem dJ2_remove_20 : decode cJ2_remove 20 = .ok (.iload_n 1, 1) := dk_27 (dk_at dksJ2_remove_0 20 rfl rfl)
theorem dJ2_remove_21 : decode cJ2_remove 21 = .ok (.invokevirtual 144, 3) := dk_182 0 144 (dk_at dksJ2_remove_0 21 rfl rfl)
theorem dJ2_remove_24 : decode cJ2_remove 24 = .ok (.aload_n 3, 1) := dk_45 (dk_at dksJ2_remove_1 0 rfl rfl)
theorem dJ2_remove_25 : decode cJ2_remove 25 = .ok (.areturn, 1) := dk_176 (dk_at dksJ2_remove_1 1 rfl rfl)
abbrev cJ2_fastRemove : ByteArray := prog_71_method_39_code
def yJ2_fastRemove : MethodName := ⟨RJ2, "fastRemove", "([Ljava/lang/Object;I)V"⟩
def dkwJ2_fastRemove_1 : List UInt8 := [4, 96, 43, 28, 29, 28, 100, 184, 0, 112, 43, 42, 29, 90, 181, 0, 48, 1, 83, 177]
abbrev dktJ2_fastRemove_1 : List UInt8 := dkwJ2_fastRemove_1 ++ []
def dkwJ2_fastRemove_0 : List UInt8 := [42, 89, 180, 0, 63, 4, 96, 181, 0, 63, 42, 180, 0, 48, 4, 100, 89, 62, 28, 164, 0, 15, 43, 28]
abbrev dktJ2_fastRemove_0 : List UInt8 := dkwJ2_fastRemove_0 ++ dktJ2_fastRemove_1
theorem dksJ2_fastRemove_0 : cJ2_fastRemove.data.toList.drop 0 = dktJ2_fastRemove_0 := by decide +kernel
theorem dksJ2_fastRemove_1 : cJ2_fastRemove.data.toList.drop 24 = dktJ2_fastRemove_1 := dk_seg dksJ2_fastRemove_0 24 rfl rfl
theorem dJ2_fastRemove_0 : decode cJ2_fastRemove 0 = .ok (.aload_n 0, 1) := dk_42 (dk_at dksJ2_fastRemove_0 0 rfl rfl)
theorem dJ2_fastRemove_1 : decode cJ2_fastRemove 1 = .ok (.dup, 1) := dk_89 (dk_at dksJ2_fastRemove_0 1 rfl rfl)
theorem dJ2_fastRemove_2 : decode cJ2_fastRemove 2 = .ok (.getfield 63, 3) := dk_180 0 63 (dk_at dksJ2_fastRemove_0 2 rfl rfl)
theorem dJ2_fastRemove_5 : decode cJ2_fastRemove 5 = .ok (.iconst 1, 1) := dk_4 (dk_at dksJ2_fastRemove_0 5 rfl rfl)
theorem dJ2_fastRemove_6 : decode cJ2_fastRemove 6 = .ok (.iadd, 1) := dk_96 (dk_at dksJ2_fastRemove_0 6 rfl rfl)
theorem dJ2_fastRemove_7 : decode cJ2_fastRemove 7 = .ok (.putfield 63, 3) := dk_181 0 63 (dk_at dksJ2_fastRemove_0 7 rfl rfl)
theorem dJ2_fastRemove_10 : decode cJ2_fastRemove 10 = .ok (.aload_n 0, 1) := dk_42 (dk_at dksJ2_fastRemove_0 10 rfl rfl)
theorem dJ2_fastRemove_11 : decode cJ2_fastRemove 11 = .ok (.getfield 48, 3) := dk_180 0 48 (dk_at dksJ2_fastRemove_0 11 rfl rfl)
theorem dJ2_fastRemove_14 : decode cJ2_fastRemove 14 = .ok (.iconst 1, 1) := dk_4 (dk_at dksJ2_fastRemove_0 14 rfl rfl)
theorem dJ2_fastRemove_15 : decode cJ2_fastRemove 15 = .ok (.isub, 1) := dk_100 (dk_at dksJ2_fastRemove_0 15 rfl rfl)
theorem dJ2_fastRemove_16 : decode cJ2_fastRemove 16 = .ok (.dup, 1) := dk_89 (dk_at dksJ2_fastRemove_0 16 rfl rfl)
theorem dJ2_fastRemove_17 : decode cJ2_fastRemove 17 = .ok (.istore_n 3, 1) := dk_62 (dk_at dksJ2_fastRemove_0 17 rfl rfl)
theorem dJ2_fastRemove_18 : decode cJ2_fastRemove 18 = .ok (.iload_n 2, 1) := dk_28 (dk_at dksJ2_fastRemove_0 18 rfl rfl)
theorem dJ2_fastRemove_19 : decode cJ2_fastRemove 19 = .ok (.if_icmp .le 15, 3) := dk_164 0 15 (dk_at dksJ2_fastRemove_0 19 rfl rfl)
theorem dJ2_fastRemove_22 : decode cJ2_fastRemove 22 = .ok (.aload_n 1, 1) := dk_43 (dk_at dksJ2_fastRemove_0 22 rfl rfl)
theorem dJ2_fastRemove_23 : decode cJ2_fastRemove 23 = .ok (.iload_n 2, 1) := dk_28 (dk_at dksJ2_fastRemove_0 23 rfl rfl)
theorem dJ2_fastRemove_24 : decode cJ2_fastRemove 24 = .ok (.iconst 1, 1) := dk_4 (dk_at dksJ2_fastRemove_1 0 rfl rfl)
theorem dJ2_fastRemove_25 : decode cJ2_fastRemove 25 = .ok (.iadd, 1) := dk_96 (dk_at dksJ2_fastRemove_1 1 rfl rfl)
theorem dJ2_fastRemove_26 : decode cJ2_fastRemove 26 = .ok (.aload_n 1, 1) := dk_43 (dk_at dksJ2_fastRemove_1 2 rfl rfl)
theorem dJ2_fastRemove_27 : decode cJ2_fastRemove 27 = .ok (.iload_n 2, 1) := dk_28 (dk_at dksJ2_fastRemove_1 3 rfl rfl)
theorem dJ2_fastRemove_28 : decode cJ2_fastRemove 28 = .ok (.iload_n 3, 1) := dk_29 (dk_at dksJ2_fastRemove_1 4 rfl rfl)
theorem dJ2_fastRemove_29 : decode cJ2_fastRemove 29 = .ok (.iload_n 2, 1) := dk_28 (dk_at dksJ2_fastRemove_1 5 rfl rfl)
theorem dJ2_fastRemove_30 : decode cJ2_fastRemove 30 = .ok (.isub, 1) := dk_100 (dk_at dksJ2_fastRemove_1 6 rfl rfl)
theorem dJ2_fastRemove_31 : decode cJ2_fastRemove 31 = .ok (.invokestatic 112, 3) := dk_184 0 112 (dk_at dksJ2_fastRemove_1 7 rfl rfl)
theorem dJ2_fastRemove_34 : decode cJ2_fastRemove 34 = .ok (.aload_n 1, 1) := dk_43 (dk_at dksJ2_fastRemove_1 10 rfl rfl)
theorem dJ2_fastRemove_35 : decode cJ2_fastRemove 35 = .ok (.aload_n 0, 1) := dk_42 (dk_at dksJ2_fastRemove_1 11 rfl rfl)
theorem dJ2_fastRemove_36 : decode cJ2_fastRemove 36 = .ok (.iload_n 3, 1) := dk_29 (dk_at dksJ2_fastRemove_1 12 rfl rfl)
theorem dJ2_fastRemove_37 : decode cJ2_fastRemove 37 = .ok (.dup_x1, 1) := dk_90 (dk_at dksJ2_fastRemove_1 13 rfl rfl)
theorem dJ2_fastRemove_38 : decode cJ2_fastRemove 38 = .ok (.putfield 48, 3) := dk_181 0 48 (dk_at dksJ2_fastRemove_1 14 rfl rfl)
theorem dJ2_fastRemove_41 : decode cJ2_fastRemove 41 = .ok (.aconst_null, 1) := dk_1 (dk_at dksJ2_fastRemove_1 17 rfl rfl)
theorem dJ2_fastRemove_42 : decode cJ2_fastRemove 42 = .ok (.aastore, 1) := dk_83 (dk_at dksJ2_fastRemove_1 18 rfl rfl)
theorem dJ2_fastRemove_43 : decode cJ2_fastRemove 43 = .ok (.return_, 1) := dk_177 (dk_at dksJ2_fastRemove_1 19 rfl rfl)
abbrev cJ2_isEmpty : ByteArray := prog_71_method_9_code
def yJ2_isEmpty : MethodName := ⟨RJ2, "isEmpty", "()Z"⟩
def dkwJ2_isEmpty_0 : List UInt8 := [42, 180, 0, 48, 154, 0, 7, 4, 167, 0, 4, 3, 172]
abbrev dktJ2_isEmpty_0 : List UInt8 := dkwJ2_isEmpty_0 ++ []
theorem dksJ2_isEmpty_0 : cJ2_isEmpty.data.toList.drop 0 = dktJ2_isEmpty_0 := by decide +kernel
theorem dJ2_isEmpty_0 : decode cJ2_isEmpty 0 = .ok (.aload_n 0, 1) := dk_42 (dk_at dksJ2_isEmpty_0 0 rfl rfl)
theorem dJ2_isEmpty_1 : decode cJ2_isEmpty 1 = .ok (.getfield 48, 3) := dk_180 0 48 (dk_at dksJ2_isEmpty_0 1 rfl rfl)
theorem dJ2_isEmpty_4 : decode cJ2_isEmpty 4 = .ok (.ifCond .ne 7, 3) := dk_154 0 7 (dk_at dksJ2_isEmpty_0 4 rfl rfl)
theorem dJ2_isEmpty_7 : decode cJ2_isEmpty 7 = .ok (.iconst 1, 1) := dk_4 (dk_at dksJ2_isEmpty_0 7 rfl rfl)
theorem dJ2_isEmpty_8 : decode cJ2_isEmpty 8 = .ok (.goto 4, 3) := dk_167 0 4 (dk_at dksJ2_isEmpty_0 8 rfl rfl)
theorem dJ2_isEmpty_11 : decode cJ2_isEmpty 11 = .ok (.iconst 0, 1) := dk_3 (dk_at dksJ2_isEmpty_0 11 rfl rfl)
theorem dJ2_isEmpty_12 : decode cJ2_isEmpty 12 = .ok (.ireturn, 1) := dk_172 (dk_at dksJ2_isEmpty_0 12 rfl rfl)
theorem q111 : (Jvm.Cond.initialized "java/util/ArrayList") ∈ lw_all := lw_g (lw_at lw_m1 5 rfl) rfl
theorem q210 : (Jvm.Cond.instantiable "java/util/ArrayList" (3 : Nat)) ∈ lw_all := lw_g (lw_at lw_m1 104 rfl) rfl
theorem q212 : (Jvm.Cond.instanceMethod ({ cls := "java/util/ArrayList", name := "<init>", desc := "()V" } : Jvm.MethodName)) ∈ lw_all := lw_g (lw_at lw_m1 106 rfl) rfl
theorem q213 : (Jvm.Cond.code ({ cls := "java/util/ArrayList", name := "<init>", desc := "()V" } : Jvm.MethodName) prog_71_method_2_code (1 : Nat) (Option.none : Option Jvm.ClassFile.FieldType)) ∈ lw_all := lw_g (lw_at lw_m1 107 rfl) rfl
theorem q214 : (Jvm.Cond.methodLink "java/util/ArrayList" (1 : Nat) ({ cls := "java/util/AbstractList", name := "<init>", desc := "()V" } : Jvm.MethodName)) ∈ lw_all := lw_g (lw_at lw_m1 108 rfl) rfl
theorem q221 : (Jvm.Cond.fieldLink "java/util/ArrayList" (39 : Nat) "java/util/ArrayList" "DEFAULTCAPACITY_EMPTY_ELEMENTDATA" "[Ljava/lang/Object;") ∈ lw_all := lw_g (lw_at lw_m1 115 rfl) rfl
theorem q222 : (Jvm.Cond.laysStatic "java/util/ArrayList" "DEFAULTCAPACITY_EMPTY_ELEMENTDATA" "[Ljava/lang/Object;") ∈ lw_tbl := lw_at lw_m1 116 rfl
theorem q223 : (Jvm.Cond.fieldLink "java/util/ArrayList" (9 : Nat) "java/util/ArrayList" "elementData" "[Ljava/lang/Object;") ∈ lw_all := lw_g (lw_at lw_m1 117 rfl) rfl
theorem q226 : (Jvm.Cond.fieldLink "java/util/ArrayList" (48 : Nat) "java/util/ArrayList" "size" "I") ∈ lw_all := lw_g (lw_at lw_m1 120 rfl) rfl
theorem q231 : (Jvm.Cond.sameField "java/util/ArrayList" "java/util/AbstractList" "modCount" "I") ∈ lw_all := lw_g (lw_at lw_m1 125 rfl) rfl
theorem q234 : (Jvm.Cond.fieldLink "java/util/ArrayList" (63 : Nat) "java/util/ArrayList" "modCount" "I") ∈ lw_all := lw_g (lw_at lw_m1 128 rfl) rfl
theorem q235 : (Jvm.Cond.lays "java/util/ArrayList" "java/util/ArrayList" "elementData" "[Ljava/lang/Object;") ∈ lw_all := lw_g (lw_at lw_m1 129 rfl) rfl
theorem q236 : (Jvm.Cond.soleField "java/util/ArrayList" "elementData") ∈ lw_all := lw_g (lw_at lw_m1 130 rfl) rfl
theorem q237 : (Jvm.Cond.lays "java/util/ArrayList" "java/util/ArrayList" "size" "I") ∈ lw_all := lw_g (lw_at lw_m1 131 rfl) rfl
theorem q238 : (Jvm.Cond.soleField "java/util/ArrayList" "size") ∈ lw_all := lw_g (lw_at lw_m1 132 rfl) rfl
theorem q239 : (Jvm.Cond.lays "java/util/ArrayList" "java/util/AbstractList" "modCount" "I") ∈ lw_all := lw_g (lw_at lw_m1 133 rfl) rfl
theorem q241 : (Jvm.Cond.superclass "java/util/ArrayList" "java/util/AbstractList") ∈ lw_all := lw_g (lw_at lw_m1 135 rfl) rfl
theorem q415 : (Jvm.Cond.instanceMethod ({ cls := "java/util/ArrayList", name := "iterator", desc := "()Ljava/util/Iterator;" } : Jvm.MethodName)) ∈ lw_all := lw_g (lw_at lw_m2 69 rfl) rfl
theorem q416 : (Jvm.Cond.selects "java/util/ArrayList" ({ cls := "java/util/ArrayList", name := "iterator", desc := "()Ljava/util/Iterator;" } : Jvm.MethodName) ({ cls := "java/util/ArrayList", name := "iterator", desc := "()Ljava/util/Iterator;" } : Jvm.MethodName)) ∈ lw_all := lw_g (lw_at lw_m2 70 rfl) rfl
theorem q417 : (Jvm.Cond.code ({ cls := "java/util/ArrayList", name := "iterator", desc := "()Ljava/util/Iterator;" } : Jvm.MethodName) prog_71_method_55_code (1 : Nat) (Option.some (Jvm.ClassFile.FieldType.object "java/util/Iterator"))) ∈ lw_all := lw_g (lw_at lw_m2 71 rfl) rfl
theorem q418 : (Jvm.Cond.classLink "java/util/ArrayList" (267 : Nat) "java/util/ArrayList$Itr") ∈ lw_all := lw_g (lw_at lw_m2 72 rfl) rfl
theorem q420 : (Jvm.Cond.methodLink "java/util/ArrayList" (269 : Nat) ({ cls := "java/util/ArrayList$Itr", name := "<init>", desc := "(Ljava/util/ArrayList;)V" } : Jvm.MethodName)) ∈ lw_all := lw_g (lw_at lw_m2 74 rfl) rfl
theorem q451 : (Jvm.Cond.instanceMethod ({ cls := "java/util/ArrayList", name := "size", desc := "()I" } : Jvm.MethodName)) ∈ lw_all := lw_g (lw_at lw_m2 105 rfl) rfl
theorem q452 : (Jvm.Cond.selects "java/util/ArrayList" ({ cls := "java/util/ArrayList", name := "size", desc := "()I" } : Jvm.MethodName) ({ cls := "java/util/ArrayList", name := "size", desc := "()I" } : Jvm.MethodName)) ∈ lw_all := lw_g (lw_at lw_m2 106 rfl) rfl
theorem q453 : (Jvm.Cond.code ({ cls := "java/util/ArrayList", name := "size", desc := "()I" } : Jvm.MethodName) prog_71_method_8_code (1 : Nat) (Option.some Jvm.ClassFile.FieldType.int)) ∈ lw_all := lw_g (lw_at lw_m2 107 rfl) rfl
theorem q463 : (Jvm.Cond.selects "java/util/ArrayList" ({ cls := "java/util/AbstractList", name := "size", desc := "()I" } : Jvm.MethodName) ({ cls := "java/util/ArrayList", name := "size", desc := "()I" } : Jvm.MethodName)) ∈ lw_all := lw_g (lw_at lw_m2 117 rfl) rfl
theorem q524 : (Jvm.Cond.instanceMethod ({ cls := "java/util/ArrayList", name := "get", desc := "(I)Ljava/lang/Object;" } : Jvm.MethodName)) ∈ lw_all := lw_g (lw_at lw_m2 178 rfl) rfl
theorem q525 : (Jvm.Cond.selects "java/util/ArrayList" ({ cls := "java/util/ArrayList", name := "get", desc := "(I)Ljava/lang/Object;" } : Jvm.MethodName) ({ cls := "java/util/ArrayList", name := "get", desc := "(I)Ljava/lang/Object;" } : Jvm.MethodName)) ∈ lw_all := lw_g (lw_at lw_m2 179 rfl) rfl
theorem q526 : (Jvm.Cond.code ({ cls := "java/util/ArrayList", name := "get", desc := "(I)Ljava/lang/Object;" } : Jvm.MethodName) prog_71_method_20_code (2 : Nat) (Option.some (Jvm.ClassFile.FieldType.object "java/lang/Object"))) ∈ lw_all := lw_g (lw_at lw_m2 180 rfl) rfl
theorem q527 : (Jvm.Cond.methodLink "java/util/ArrayList" (118 : Nat) ({ cls := "java/util/Objects", name := "checkIndex", desc := "(II)I" } : Jvm.MethodName)) ∈ lw_all := lw_g (lw_at lw_m2 181 rfl) rfl
theorem q533 : (Jvm.Cond.methodLink "java/util/ArrayList" (123 : Nat) ({ cls := "java/util/ArrayList", name := "elementData", desc := "(I)Ljava/lang/Object;" } : Jvm.MethodName)) ∈ lw_all := lw_g (lw_at lw_m2 187 rfl) rfl
theorem q534 : (Jvm.Cond.instanceMethod ({ cls := "java/util/ArrayList", name := "elementData", desc := "(I)Ljava/lang/Object;" } : Jvm.MethodName)) ∈ lw_all := lw_g (lw_at lw_m2 188 rfl) rfl
theorem q535 : (Jvm.Cond.selects "java/util/ArrayList" ({ cls := "java/util/ArrayList", name := "elementData", desc := "(I)Ljava/lang/Object;" } : Jvm.MethodName) ({ cls := "java/util/ArrayList", name := "elementData", desc := "(I)Ljava/lang/Object;" } : Jvm.MethodName)) ∈ lw_all := lw_g (lw_at lw_m2 189 rfl) rfl
theorem q536 : (Jvm.Cond.code ({ cls := "java/util/ArrayList", name := "elementData", desc := "(I)Ljava/lang/Object;" } : Jvm.MethodName) prog_71_method_18_code (2 : Nat) (Option.some (Jvm.ClassFile.FieldType.object "java/lang/Object"))) ∈ lw_all := lw_g (lw_at lw_m2 190 rfl) rfl
theorem q551 : (Jvm.Cond.selects "java/util/ArrayList" ({ cls := "java/util/AbstractList", name := "get", desc := "(I)Ljava/lang/Object;" } : Jvm.MethodName) ({ cls := "java/util/ArrayList", name := "get", desc := "(I)Ljava/lang/Object;" } : Jvm.MethodName)) ∈ lw_all := lw_g (lw_at lw_m2 205 rfl) rfl
theorem q958 : (Jvm.Cond.selects "java/util/ArrayList" ({ cls := "java/lang/Object", name := "getClass", desc := "()Ljava/lang/Class;" } : Jvm.MethodName) ({ cls := "java/lang/Object", name := "getClass", desc := "()Ljava/lang/Class;" } : Jvm.MethodName)) ∈ lw_all := lw_g (lw_at lw_m4 132 rfl) rfl
theorem q1060 : (Jvm.Cond.castable "java/util/ArrayList" "java/util/List") ∈ lw_tbl := lw_at lw_m4 234 rfl
theorem q1061 : (Jvm.Cond.selects "java/util/ArrayList" ({ cls := "java/util/List", name := "get", desc := "(I)Ljava/lang/Object;" } : Jvm.MethodName) ({ cls := "java/util/ArrayList", name := "get", desc := "(I)Ljava/lang/Object;" } : Jvm.MethodName)) ∈ lw_all := lw_g (lw_at lw_m4 235 rfl) rfl
theorem q1062 : (Jvm.Cond.unhidden "java/util/ArrayList" "get" "(I)Ljava/lang/Object;") ∈ lw_tbl := lw_at lw_m4 236 rfl
theorem q1063 : (Jvm.Cond.publicMethod ({ cls := "java/util/ArrayList", name := "get", desc := "(I)Ljava/lang/Object;" } : Jvm.MethodName)) ∈ lw_tbl := lw_at lw_m4 237 rfl
theorem q1249 : (Jvm.Cond.instanceMethod ({ cls := "java/util/ArrayList", name := "add", desc := "(Ljava/lang/Object;)Z" } : Jvm.MethodName)) ∈ lw_all := lw_g (lw_at lw_m5 183 rfl) rfl
theorem q1250 : (Jvm.Cond.selects "java/util/ArrayList" ({ cls := "java/util/ArrayList", name := "add", desc := "(Ljava/lang/Object;)Z" } : Jvm.MethodName) ({ cls := "java/util/ArrayList", name := "add", desc := "(Ljava/lang/Object;)Z" } : Jvm.MethodName)) ∈ lw_all := lw_g (lw_at lw_m5 184 rfl) rfl
theorem q1251 : (Jvm.Cond.code ({ cls := "java/util/ArrayList", name := "add", desc := "(Ljava/lang/Object;)Z" } : Jvm.MethodName) prog_71_method_25_code (2 : Nat) (Option.some Jvm.ClassFile.FieldType.boolean)) ∈ lw_all := lw_g (lw_at lw_m5 185 rfl) rfl
theorem q1252 : (Jvm.Cond.methodLink "java/util/ArrayList" (131 : Nat) ({ cls := "java/util/ArrayList", name := "add", desc := "(Ljava/lang/Object;[Ljava/lang/Object;I)V" } : Jvm.MethodName)) ∈ lw_all := lw_g (lw_at lw_m5 186 rfl) rfl
theorem q1253 : (Jvm.Cond.privateMethod ({ cls := "java/util/ArrayList", name := "add", desc := "(Ljava/lang/Object;[Ljava/lang/Object;I)V" } : Jvm.MethodName)) ∈ lw_tbl := lw_at lw_m5 187 rfl
theorem q1254 : (Jvm.Cond.instanceMethod ({ cls := "java/util/ArrayList", name := "add", desc := "(Ljava/lang/Object;[Ljava/lang/Object;I)V" } : Jvm.MethodName)) ∈ lw_all := lw_g (lw_at lw_m5 188 rfl) rfl
theorem q1255 : (Jvm.Cond.code ({ cls := "java/util/ArrayList", name := "add", desc := "(Ljava/lang/Object;[Ljava/lang/Object;I)V" } : Jvm.MethodName) prog_71_method_24_code (4 : Nat) (Option.none : Option Jvm.ClassFile.FieldType)) ∈ lw_all := lw_g (lw_at lw_m5 189 rfl) rfl
theorem q1256 : (Jvm.Cond.methodLink "java/util/ArrayList" (129 : Nat) ({ cls := "java/util/ArrayList", name := "grow", desc := "()[Ljava/lang/Object;" } : Jvm.MethodName)) ∈ lw_all := lw_g (lw_at lw_m5 190 rfl) rfl
theorem q1257 : (Jvm.Cond.privateMethod ({ cls := "java/util/ArrayList", name := "grow", desc := "()[Ljava/lang/Object;" } : Jvm.MethodName)) ∈ lw_tbl := lw_at lw_m5 191 rfl
theorem q1258 : (Jvm.Cond.instanceMethod ({ cls := "java/util/ArrayList", name := "grow", desc := "()[Ljava/lang/Object;" } : Jvm.MethodName)) ∈ lw_all := lw_g (lw_at lw_m5 192 rfl) rfl
theorem q1259 : (Jvm.Cond.code ({ cls := "java/util/ArrayList", name := "grow", desc := "()[Ljava/lang/Object;" } : Jvm.MethodName) prog_71_method_7_code (1 : Nat) (Option.some (Jvm.ClassFile.FieldType.array (Jvm.ClassFile.FieldType.object "java/lang/Object")))) ∈ lw_all := lw_g (lw_at lw_m5 193 rfl) rfl
theorem q1260 : (Jvm.Cond.methodLink "java/util/ArrayList" (69 : Nat) ({ cls := "java/util/ArrayList", name := "grow", desc := "(I)[Ljava/lang/Object;" } : Jvm.MethodName)) ∈ lw_all := lw_g (lw_at lw_m5 194 rfl) rfl
theorem q1261 : (Jvm.Cond.privateMethod ({ cls := "java/util/ArrayList", name := "grow", desc := "(I)[Ljava/lang/Object;" } : Jvm.MethodName)) ∈ lw_tbl := lw_at lw_m5 195 rfl
theorem q1262 : (Jvm.Cond.instanceMethod ({ cls := "java/util/ArrayList", name := "grow", desc := "(I)[Ljava/lang/Object;" } : Jvm.MethodName)) ∈ lw_all := lw_g (lw_at lw_m5 196 rfl) rfl
theorem q1263 : (Jvm.Cond.code ({ cls := "java/util/ArrayList", name := "grow", desc := "(I)[Ljava/lang/Object;" } : Jvm.MethodName) prog_71_method_6_code (4 : Nat) (Option.some (Jvm.ClassFile.FieldType.array (Jvm.ClassFile.FieldType.object "java/lang/Object")))) ∈ lw_all := lw_g (lw_at lw_m5 197 rfl) rfl
theorem q1264 : (Jvm.Cond.methodLink "java/util/ArrayList" (73 : Nat) ({ cls := "jdk/internal/util/ArraysSupport", name := "newLength", desc := "(III)I" } : Jvm.MethodName)) ∈ lw_all := lw_g (lw_at lw_m5 198 rfl) rfl
theorem q1265 : (Jvm.Cond.methodLink "java/util/ArrayList" (66 : Nat) ({ cls := "java/util/Arrays", name := "copyOf", desc := "([Ljava/lang/Object;I)[Ljava/lang/Object;" } : Jvm.MethodName)) ∈ lw_all := lw_g (lw_at lw_m5 199 rfl) rfl
theorem q1274 : (Jvm.Cond.methodLink "java/util/ArrayList" (79 : Nat) ({ cls := "java/lang/Math", name := "max", desc := "(II)I" } : Jvm.MethodName)) ∈ lw_all := lw_g (lw_at lw_m5 208 rfl) rfl
theorem q1275 : (Jvm.Cond.classLink "java/util/ArrayList" (7 : Nat) "java/lang/Object") ∈ lw_all := lw_g (lw_at lw_m5 209 rfl) rfl
theorem q1331 : (Jvm.Cond.selects "java/util/ArrayList" ({ cls := "java/util/AbstractList", name := "listIterator", desc := "(I)Ljava/util/ListIterator;" } : Jvm.MethodName) ({ cls := "java/util/ArrayList", name := "listIterator", desc := "(I)Ljava/util/ListIterator;" } : Jvm.MethodName)) ∈ lw_all := lw_g (lw_at lw_m6 25 rfl) rfl
theorem q1332 : (Jvm.Cond.instanceMethod ({ cls := "java/util/ArrayList", name := "listIterator", desc := "(I)Ljava/util/ListIterator;" } : Jvm.MethodName)) ∈ lw_all := lw_g (lw_at lw_m6 26 rfl) rfl
theorem q1333 : (Jvm.Cond.code ({ cls := "java/util/ArrayList", name := "listIterator", desc := "(I)Ljava/util/ListIterator;" } : Jvm.MethodName) prog_71_method_53_code (2 : Nat) (Option.some (Jvm.ClassFile.FieldType.object "java/util/ListIterator"))) ∈ lw_all := lw_g (lw_at lw_m6 27 rfl) rfl
theorem q1334 : (Jvm.Cond.methodLink "java/util/ArrayList" (135 : Nat) ({ cls := "java/util/ArrayList", name := "rangeCheckForAdd", desc := "(I)V" } : Jvm.MethodName)) ∈ lw_all := lw_g (lw_at lw_m6 28 rfl) rfl
theorem q1335 : (Jvm.Cond.privateMethod ({ cls := "java/util/ArrayList", name := "rangeCheckForAdd", desc := "(I)V" } : Jvm.MethodName)) ∈ lw_tbl := lw_at lw_m6 29 rfl
theorem q1336 : (Jvm.Cond.instanceMethod ({ cls := "java/util/ArrayList", name := "rangeCheckForAdd", desc := "(I)V" } : Jvm.MethodName)) ∈ lw_all := lw_g (lw_at lw_m6 30 rfl) rfl
theorem q1337 : (Jvm.Cond.code ({ cls := "java/util/ArrayList", name := "rangeCheckForAdd", desc := "(I)V" } : Jvm.MethodName) prog_71_method_45_code (2 : Nat) (Option.none : Option Jvm.ClassFile.FieldType)) ∈ lw_all := lw_g (lw_at lw_m6 31 rfl) rfl
theorem q1338 : (Jvm.Cond.classLink "java/util/ArrayList" (187 : Nat) "java/lang/IndexOutOfBoundsException") ∈ lw_all := lw_g (lw_at lw_m6 32 rfl) rfl
theorem q1339 : (Jvm.Cond.methodLink "java/util/ArrayList" (198 : Nat) ({ cls := "java/util/ArrayList", name := "outOfBoundsMsg", desc := "(I)Ljava/lang/String;" } : Jvm.MethodName)) ∈ lw_all := lw_g (lw_at lw_m6 33 rfl) rfl
theorem q1340 : (Jvm.Cond.privateMethod ({ cls := "java/util/ArrayList", name := "outOfBoundsMsg", desc := "(I)Ljava/lang/String;" } : Jvm.MethodName)) ∈ lw_tbl := lw_at lw_m6 34 rfl
theorem q1341 : (Jvm.Cond.instanceMethod ({ cls := "java/util/ArrayList", name := "outOfBoundsMsg", desc := "(I)Ljava/lang/String;" } : Jvm.MethodName)) ∈ lw_all := lw_g (lw_at lw_m6 35 rfl) rfl
theorem q1342 : (Jvm.Cond.code ({ cls := "java/util/ArrayList", name := "outOfBoundsMsg", desc := "(I)Ljava/lang/String;" } : Jvm.MethodName) prog_71_method_46_code (2 : Nat) (Option.some (Jvm.ClassFile.FieldType.object "java/lang/String"))) ∈ lw_all := lw_g (lw_at lw_m6 36 rfl) rfl
theorem q1343 : (Jvm.Cond.classLink "java/util/ArrayList" (20 : Nat) "java/lang/StringBuilder") ∈ lw_all := lw_g (lw_at lw_m6 37 rfl) rfl
theorem q1344 : (Jvm.Cond.methodLink "java/util/ArrayList" (22 : Nat) ({ cls := "java/lang/StringBuilder", name := "<init>", desc := "()V" } : Jvm.MethodName)) ∈ lw_all := lw_g (lw_at lw_m6 38 rfl) rfl
theorem q1345 : (Jvm.Cond.stringRef "java/util/ArrayList" (201 : Nat) "Index: ") ∈ lw_tbl := lw_at lw_m6 39 rfl
theorem q1346 : (Jvm.Cond.methodLink "java/util/ArrayList" (25 : Nat) ({ cls := "java/lang/StringBuilder", name := "append", desc := "(Ljava/lang/String;)Ljava/lang/StringBuilder;" } : Jvm.MethodName)) ∈ lw_all := lw_g (lw_at lw_m6 40 rfl) rfl
theorem q1347 : (Jvm.Cond.methodLink "java/util/ArrayList" (29 : Nat) ({ cls := "java/lang/StringBuilder", name := "append", desc := "(I)Ljava/lang/StringBuilder;" } : Jvm.MethodName)) ∈ lw_all := lw_g (lw_at lw_m6 41 rfl) rfl
theorem q1348 : (Jvm.Cond.stringRef "java/util/ArrayList" (203 : Nat) ", Size: ") ∈ lw_tbl := lw_at lw_m6 42 rfl
theorem q1349 : (Jvm.Cond.methodLink "java/util/ArrayList" (32 : Nat) ({ cls := "java/lang/StringBuilder", name := "toString", desc := "()Ljava/lang/String;" } : Jvm.MethodName)) ∈ lw_all := lw_g (lw_at lw_m6 43 rfl) rfl
theorem q1350 : (Jvm.Cond.methodLink "java/util/ArrayList" (193 : Nat) ({ cls := "java/lang/IndexOutOfBoundsException", name := "<init>", desc := "(Ljava/lang/String;)V" } : Jvm.MethodName)) ∈ lw_all := lw_g (lw_at lw_m6 44 rfl) rfl
theorem q1351 : (Jvm.Cond.classLink "java/util/ArrayList" (262 : Nat) "java/util/ArrayList$ListItr") ∈ lw_all := lw_g (lw_at lw_m6 45 rfl) rfl
theorem q1353 : (Jvm.Cond.methodLink "java/util/ArrayList" (264 : Nat) ({ cls := "java/util/ArrayList$ListItr", name := "<init>", desc := "(Ljava/util/ArrayList;I)V" } : Jvm.MethodName)) ∈ lw_all := lw_g (lw_at lw_m6 47 rfl) rfl
theorem q1598 : (Jvm.Cond.instanceMethod ({ cls := "java/util/ArrayList", name := "remove", desc := "(I)Ljava/lang/Object;" } : Jvm.MethodName)) ∈ lw_all := lw_g (lw_at lw_m7 52 rfl) rfl
theorem q1599 : (Jvm.Cond.selects "java/util/ArrayList" ({ cls := "java/util/ArrayList", name := "remove", desc := "(I)Ljava/lang/Object;" } : Jvm.MethodName) ({ cls := "java/util/ArrayList", name := "remove", desc := "(I)Ljava/lang/Object;" } : Jvm.MethodName)) ∈ lw_all := lw_g (lw_at lw_m7 53 rfl) rfl
theorem q1600 : (Jvm.Cond.code ({ cls := "java/util/ArrayList", name := "remove", desc := "(I)Ljava/lang/Object;" } : Jvm.MethodName) prog_71_method_29_code (4 : Nat) (Option.some (Jvm.ClassFile.FieldType.object "java/lang/Object"))) ∈ lw_all := lw_g (lw_at lw_m7 54 rfl) rfl
theorem q1601 : (Jvm.Cond.methodLink "java/util/ArrayList" (144 : Nat) ({ cls := "java/util/ArrayList", name := "fastRemove", desc := "([Ljava/lang/Object;I)V" } : Jvm.MethodName)) ∈ lw_all := lw_g (lw_at lw_m7 55 rfl) rfl
theorem q1602 : (Jvm.Cond.privateMethod ({ cls := "java/util/ArrayList", name := "fastRemove", desc := "([Ljava/lang/Object;I)V" } : Jvm.MethodName)) ∈ lw_tbl := lw_at lw_m7 56 rfl
theorem q1603 : (Jvm.Cond.instanceMethod ({ cls := "java/util/ArrayList", name := "fastRemove", desc := "([Ljava/lang/Object;I)V" } : Jvm.MethodName)) ∈ lw_all := lw_g (lw_at lw_m7 57 rfl) rfl
theorem q1604 : (Jvm.Cond.code ({ cls := "java/util/ArrayList", name := "fastRemove", desc := "([Ljava/lang/Object;I)V" } : Jvm.MethodName) prog_71_method_39_code (4 : Nat) (Option.none : Option Jvm.ClassFile.FieldType)) ∈ lw_all := lw_g (lw_at lw_m7 58 rfl) rfl
theorem q1605 : (Jvm.Cond.methodLink "java/util/ArrayList" (112 : Nat) ({ cls := "java/lang/System", name := "arraycopy", desc := "(Ljava/lang/Object;ILjava/lang/Object;II)V" } : Jvm.MethodName)) ∈ lw_all := lw_g (lw_at lw_m7 59 rfl) rfl
theorem q1822 : (Jvm.Cond.selects "java/util/ArrayList" ({ cls := "java/util/AbstractList", name := "remove", desc := "(I)Ljava/lang/Object;" } : Jvm.MethodName) ({ cls := "java/util/ArrayList", name := "remove", desc := "(I)Ljava/lang/Object;" } : Jvm.MethodName)) ∈ lw_all := lw_g (lw_at lw_m8 36 rfl) rfl
theorem q2525 : (Jvm.Cond.castable "java/util/ArrayList" "java/util/Collection") ∈ lw_tbl := lw_at lw_m11 19 rfl
theorem q2526 : (Jvm.Cond.selects "java/util/ArrayList" ({ cls := "java/util/Collection", name := "iterator", desc := "()Ljava/util/Iterator;" } : Jvm.MethodName) ({ cls := "java/util/ArrayList", name := "iterator", desc := "()Ljava/util/Iterator;" } : Jvm.MethodName)) ∈ lw_all := lw_g (lw_at lw_m11 20 rfl) rfl
theorem q2527 : (Jvm.Cond.unhidden "java/util/ArrayList" "iterator" "()Ljava/util/Iterator;") ∈ lw_tbl := lw_at lw_m11 21 rfl
theorem q2528 : (Jvm.Cond.publicMethod ({ cls := "java/util/ArrayList", name := "iterator", desc := "()Ljava/util/Iterator;" } : Jvm.MethodName)) ∈ lw_tbl := lw_at lw_m11 22 rfl
theorem q2667 : (Jvm.Cond.instanceMethod ({ cls := "java/util/ArrayList", name := "isEmpty", desc := "()Z" } : Jvm.MethodName)) ∈ lw_all := lw_g (lw_at lw_m11 161 rfl) rfl
theorem q2668 : (Jvm.Cond.selects "java/util/ArrayList" ({ cls := "java/util/ArrayList", name := "isEmpty", desc := "()Z" } : Jvm.MethodName) ({ cls := "java/util/ArrayList", name := "isEmpty", desc := "()Z" } : Jvm.MethodName)) ∈ lw_all := lw_g (lw_at lw_m11 162 rfl) rfl
theorem q2669 : (Jvm.Cond.code ({ cls := "java/util/ArrayList", name := "isEmpty", desc := "()Z" } : Jvm.MethodName) prog_71_method_9_code (1 : Nat) (Option.some Jvm.ClassFile.FieldType.boolean)) ∈ lw_all := lw_g (lw_at lw_m11 163 rfl) rfl
theorem q3302 : (Jvm.Cond.selects "java/util/ArrayList" ({ cls := "java/util/List", name := "iterator", desc := "()Ljava/util/Iterator;" } : Jvm.MethodName) ({ cls := "java/util/ArrayList", name := "iterator", desc := "()Ljava/util/Iterator;" } : Jvm.MethodName)) ∈ lw_all := lw_g (lw_at lw_m14 76 rfl) rfl
theorem q3978 : (Jvm.Cond.castable "java/util/ArrayList" "java/lang/Object") ∈ lw_tbl := lw_at lw_m17 32 rfl
theorem in_J2 : ∀ w ∈ wsJ20, w ∈ lw_all := lw_in wsJ20 [239, 235, 237] (by decide +kernel) (by decide +kernel)

/-! java/util/AbstractSequentialList -/
set_option maxRecDepth 100000
def RJ3 : String := "java/util/AbstractSequentialList"
abbrev cJ3_init : ByteArray := prog_68_method_1_code
def yJ3_init : MethodName := ⟨RJ3, "<init>", "()V"⟩
theorem dJ3_init_0 : decode cJ3_init 0 = .ok (.aload_n 0, 1) := by decide +kernel
theorem dJ3_init_1 : decode cJ3_init 1 = .ok (.invokespecial 1, 3) := by decide +kernel
theorem dJ3_init_4 : decode cJ3_init 4 = .ok (.return_, 1) := by decide +kernel
abbrev cJ3_iterator : ByteArray := prog_68_method_7_code
def yJ3_iterator : MethodName := ⟨RJ3, "iterator", "()Ljava/util/Iterator;"⟩
theorem dJ3_iterator_0 : decode cJ3_iterator 0 = .ok (.aload_n 0, 1) := by decide +kernel
theorem dJ3_iterator_1 : decode cJ3_iterator 1 = .ok (.invokevirtual 65, 3) := by decide +kernel
theorem dJ3_iterator_4 : decode cJ3_iterator 4 = .ok (.areturn, 1) := by decide +kernel
theorem q112 : (Jvm.Cond.initialized "java/util/AbstractSequentialList") ∈ lw_all := lw_g (lw_at lw_m1 6 rfl) rfl
theorem q248 : (Jvm.Cond.instanceMethod ({ cls := "java/util/AbstractSequentialList", name := "<init>", desc := "()V" } : Jvm.MethodName)) ∈ lw_all := lw_g (lw_at lw_m1 142 rfl) rfl
theorem q249 : (Jvm.Cond.code ({ cls := "java/util/AbstractSequentialList", name := "<init>", desc := "()V" } : Jvm.MethodName) prog_68_method_1_code (1 : Nat) (Option.none : Option Jvm.ClassFile.FieldType)) ∈ lw_all := lw_g (lw_at lw_m1 143 rfl) rfl
theorem q250 : (Jvm.Cond.methodLink "java/util/AbstractSequentialList" (1 : Nat) ({ cls := "java/util/AbstractList", name := "<init>", desc := "()V" } : Jvm.MethodName)) ∈ lw_all := lw_g (lw_at lw_m1 144 rfl) rfl
theorem q1318 : (Jvm.Cond.declares ({ cls := "java/util/AbstractSequentialList", name := "iterator", desc := "()Ljava/util/Iterator;" } : Jvm.MethodName)) ∈ lw_tbl := lw_at lw_m6 12 rfl
theorem q1320 : (Jvm.Cond.instanceMethod ({ cls := "java/util/AbstractSequentialList", name := "iterator", desc := "()Ljava/util/Iterator;" } : Jvm.MethodName)) ∈ lw_all := lw_g (lw_at lw_m6 14 rfl) rfl
theorem q1321 : (Jvm.Cond.code ({ cls := "java/util/AbstractSequentialList", name := "iterator", desc := "()Ljava/util/Iterator;" } : Jvm.MethodName) prog_68_method_7_code (1 : Nat) (Option.some (Jvm.ClassFile.FieldType.object "java/util/Iterator"))) ∈ lw_all := lw_g (lw_at lw_m6 15 rfl) rfl
theorem q1322 : (Jvm.Cond.methodLink "java/util/AbstractSequentialList" (65 : Nat) ({ cls := "java/util/AbstractSequentialList", name := "listIterator", desc := "()Ljava/util/ListIterator;" } : Jvm.MethodName)) ∈ lw_all := lw_g (lw_at lw_m6 16 rfl) rfl
theorem q1323 : (Jvm.Cond.sameMethod "java/util/AbstractSequentialList" "java/util/AbstractList" "listIterator" "()Ljava/util/ListIterator;") ∈ lw_all := lw_g (lw_at lw_m6 17 rfl) rfl
theorem q2560 : (Jvm.Cond.publicMethod ({ cls := "java/util/AbstractSequentialList", name := "iterator", desc := "()Ljava/util/Iterator;" } : Jvm.MethodName)) ∈ lw_tbl := lw_at lw_m11 54 rfl

/-! java/util/LinkedList -/
set_option maxRecDepth 100000
def RJ4 : String := "java/util/LinkedList"
def TJ4 : u_T := fun k => match k with
  | 0 => ("java/util/AbstractList", "modCount", "I", false)
  | 1 => ("java/util/LinkedList", "size", "I", false)
  | 2 => ("java/util/LinkedList", "first", "Ljava/util/LinkedList$Node;", false)
  | _ => ("java/util/LinkedList", "last", "Ljava/util/LinkedList$Node;", false)
def tyJ4 : Nat → FieldType := fun k => match k with
  | 0 => .int
  | 1 => .int
  | 2 => .object "java/util/LinkedList$Node"
  | _ => .object "java/util/LinkedList$Node"
abbrev wsJ40 : List Cond := u_ws RJ4 TJ4 4
theorem nmJ4 : ∀ a, a < 4 → ∀ b, b < 4 → a ≠ b → (TJ4 a).2.1 ≠ (TJ4 b).2.1 := by decide +kernel
theorem tyJ4_ok : ∀ k, k < 4 → parseFieldDescriptor (TJ4 k).2.2.1 = some (tyJ4 k) := by decide +kernel
abbrev cJ4_init : ByteArray := prog_86_method_1_code
def yJ4_init : MethodName := ⟨RJ4, "<init>", "()V"⟩
def dkwJ4_init_0 : List UInt8 := [42, 183, 0, 1, 42, 3, 181, 0, 7, 177]
abbrev dktJ4_init_0 : List UInt8 := dkwJ4_init_0 ++ []
theorem dksJ4_init_0 : cJ4_init.data.toList.drop 0 = dktJ4_init_0 := by decide +kernel
theorem dJ4_init_0 : decode cJ4_init 0 = .ok (.aload_n 0, 1) := dk_42 (dk_at dksJ4_init_0 0 rfl rfl)
theorem dJ4_init_1 : decode cJ4_init 1 = .ok (.invokespecial 1, 3) := dk_183 0 1 (dk_at dksJ4_init_0 1 rfl rfl)
theorem dJ4_init_4 : decode cJ4_init 4 = .ok (.aload_n 0, 1) := dk_42 (dk_at dksJ4_init_0 4 rfl rfl)
theorem dJ4_init_5 : decode cJ4_init 5 = .ok (.iconst 0, 1) := dk_3 (dk_at dksJ4_init_0 5 rfl rfl)
theorem dJ4_init_6 : decode cJ4_init 6 = .ok (.putfield 7, 3) := dk_181 0 7 (dk_at dksJ4_init_0 6 rfl rfl)
theorem dJ4_init_9 : decode cJ4_init 9 = .ok (.return_, 1) := dk_177 (dk_at dksJ4_init_0 9 rfl rfl)
abbrev cJ4_size : ByteArray := prog_86_method_16_code
def yJ4_size : MethodName := ⟨RJ4, "size", "()I"⟩
theorem dJ4_size_0 : decode cJ4_size 0 = .ok (.aload_n 0, 1) := by decide +kernel
theorem dJ4_size_1 : decode cJ4_size 1 = .ok (.getfield 7, 3) := by decide +kernel
theorem dJ4_size_4 : decode cJ4_size 4 = .ok (.ireturn, 1) := by decide +kernel
abbrev cJ4_get : ByteArray := prog_86_method_22_code
def yJ4_get : MethodName := ⟨RJ4, "get", "(I)Ljava/lang/Object;"⟩
def dkwJ4_get_0 : List UInt8 := [42, 27, 182, 0, 90, 42, 27, 182, 0, 86, 180, 0, 39, 176]
abbrev dktJ4_get_0 : List UInt8 := dkwJ4_get_0 ++ []
theorem dksJ4_get_0 : cJ4_get.data.toList.drop 0 = dktJ4_get_0 := by decide +kernel
theorem dJ4_get_0 : decode cJ4_get 0 = .ok (.aload_n 0, 1) := dk_42 (dk_at dksJ4_get_0 0 rfl rfl)
theorem dJ4_get_1 : decode cJ4_get 1 = .ok (.iload_n 1, 1) := dk_27 (dk_at dksJ4_get_0 1 rfl rfl)
theorem dJ4_get_2 : decode cJ4_get 2 = .ok (.invokevirtual 90, 3) := dk_182 0 90 (dk_at dksJ4_get_0 2 rfl rfl)
theorem dJ4_get_5 : decode cJ4_get 5 = .ok (.aload_n 0, 1) := dk_42 (dk_at dksJ4_get_0 5 rfl rfl)
theorem dJ4_get_6 : decode cJ4_get 6 = .ok (.iload_n 1, 1) := dk_27 (dk_at dksJ4_get_0 6 rfl rfl)
theorem dJ4_get_7 : decode cJ4_get 7 = .ok (.invokevirtual 86, 3) := dk_182 0 86 (dk_at dksJ4_get_0 7 rfl rfl)
theorem dJ4_get_10 : decode cJ4_get 10 = .ok (.getfield 39, 3) := dk_180 0 39 (dk_at dksJ4_get_0 10 rfl rfl)
theorem dJ4_get_13 : decode cJ4_get 13 = .ok (.areturn, 1) := dk_176 (dk_at dksJ4_get_0 13 rfl rfl)
abbrev cJ4_checkElementIndex : ByteArray := prog_86_method_29_code
def yJ4_checkElementIndex : MethodName := ⟨RJ4, "checkElementIndex", "(I)V"⟩
def dkwJ4_checkElementIndex_0 : List UInt8 := [42, 27, 182, 0, 115, 154, 0, 16, 187, 0, 119, 89, 42, 27, 182, 0, 121, 183, 0, 125, 191, 177]
abbrev dktJ4_checkElementIndex_0 : List UInt8 := dkwJ4_checkElementIndex_0 ++ []
theorem dksJ4_checkElementIndex_0 : cJ4_checkElementIndex.data.toList.drop 0 = dktJ4_checkElementIndex_0 := by decide +kernel
theorem dJ4_checkElementIndex_0 : decode cJ4_checkElementIndex 0 = .ok (.aload_n 0, 1) := dk_42 (dk_at dksJ4_checkElementIndex_0 0 rfl rfl)
theorem dJ4_checkElementIndex_1 : decode cJ4_checkElementIndex 1 = .ok (.iload_n 1, 1) := dk_27 (dk_at dksJ4_checkElementIndex_0 1 rfl rfl)
theorem dJ4_checkElementIndex_2 : decode cJ4_checkElementIndex 2 = .ok (.invokevirtual 115, 3) := dk_182 0 115 (dk_at dksJ4_checkElementIndex_0 2 rfl rfl)
theorem dJ4_checkElementIndex_5 : decode cJ4_checkElementIndex 5 = .ok (.ifCond .ne 16, 3) := dk_154 0 16 (dk_at dksJ4_checkElementIndex_0 5 rfl rfl)
theorem dJ4_checkElementIndex_8 : decode cJ4_checkElementIndex 8 = .ok (.new 119, 3) := dk_187 0 119 (dk_at dksJ4_checkElementIndex_0 8 rfl rfl)
theorem dJ4_checkElementIndex_11 : decode cJ4_checkElementIndex 11 = .ok (.dup, 1) := dk_89 (dk_at dksJ4_checkElementIndex_0 11 rfl rfl)
theorem dJ4_checkElementIndex_12 : decode cJ4_checkElementIndex 12 = .ok (.aload_n 0, 1) := dk_42 (dk_at dksJ4_checkElementIndex_0 12 rfl rfl)
theorem dJ4_checkElementIndex_13 : decode cJ4_checkElementIndex 13 = .ok (.iload_n 1, 1) := dk_27 (dk_at dksJ4_checkElementIndex_0 13 rfl rfl)
theorem dJ4_checkElementIndex_14 : decode cJ4_checkElementIndex 14 = .ok (.invokevirtual 121, 3) := dk_182 0 121 (dk_at dksJ4_checkElementIndex_0 14 rfl rfl)
theorem dJ4_checkElementIndex_17 : decode cJ4_checkElementIndex 17 = .ok (.invokespecial 125, 3) := dk_183 0 125 (dk_at dksJ4_checkElementIndex_0 17 rfl rfl)
theorem dJ4_checkElementIndex_20 : decode cJ4_checkElementIndex 20 = .ok (.athrow, 1) := dk_191 (dk_at dksJ4_checkElementIndex_0 20 rfl rfl)
theorem dJ4_checkElementIndex_21 : decode cJ4_checkElementIndex 21 = .ok (.return_, 1) := dk_177 (dk_at dksJ4_checkElementIndex_0 21 rfl rfl)
abbrev cJ4_isElementIndex : ByteArray := prog_86_method_26_code
def yJ4_isElementIndex : MethodName := ⟨RJ4, "isElementIndex", "(I)Z"⟩
def dkwJ4_isElementIndex_0 : List UInt8 := [27, 155, 0, 15, 27, 42, 180, 0, 7, 162, 0, 7, 4, 167, 0, 4, 3, 172]
abbrev dktJ4_isElementIndex_0 : List UInt8 := dkwJ4_isElementIndex_0 ++ []
theorem dksJ4_isElementIndex_0 : cJ4_isElementIndex.data.toList.drop 0 = dktJ4_isElementIndex_0 := by decide +kernel
theorem dJ4_isElementIndex_0 : decode cJ4_isElementIndex 0 = .ok (.iload_n 1, 1) := dk_27 (dk_at dksJ4_isElementIndex_0 0 rfl rfl)
theorem dJ4_isElementIndex_1 : decode cJ4_isElementIndex 1 = .ok (.ifCond .lt 15, 3) := dk_155 0 15 (dk_at dksJ4_isElementIndex_0 1 rfl rfl)
theorem dJ4_isElementIndex_4 : decode cJ4_isElementIndex 4 = .ok (.iload_n 1, 1) := dk_27 (dk_at dksJ4_isElementIndex_0 4 rfl rfl)
theorem dJ4_isElementIndex_5 : decode cJ4_isElementIndex 5 = .ok (.aload_n 0, 1) := dk_42 (dk_at dksJ4_isElementIndex_0 5 rfl rfl)
theorem dJ4_isElementIndex_6 : decode cJ4_isElementIndex 6 = .ok (.getfield 7, 3) := dk_180 0 7 (dk_at dksJ4_isElementIndex_0 6 rfl rfl)
theorem dJ4_isElementIndex_9 : decode cJ4_isElementIndex 9 = .ok (.if_icmp .ge 7, 3) := dk_162 0 7 (dk_at dksJ4_isElementIndex_0 9 rfl rfl)
theorem dJ4_isElementIndex_12 : decode cJ4_isElementIndex 12 = .ok (.iconst 1, 1) := dk_4 (dk_at dksJ4_isElementIndex_0 12 rfl rfl)
theorem dJ4_isElementIndex_13 : decode cJ4_isElementIndex 13 = .ok (.goto 4, 3) := dk_167 0 4 (dk_at dksJ4_isElementIndex_0 13 rfl rfl)
theorem dJ4_isElementIndex_16 : decode cJ4_isElementIndex 16 = .ok (.iconst 0, 1) := dk_3 (dk_at dksJ4_isElementIndex_0 16 rfl rfl)
theorem dJ4_isElementIndex_17 : decode cJ4_isElementIndex 17 = .ok (.ireturn, 1) := dk_172 (dk_at dksJ4_isElementIndex_0 17 rfl rfl)
abbrev cJ4_outOfBoundsMsg : ByteArray := prog_86_method_28_code
def yJ4_outOfBoundsMsg : MethodName := ⟨RJ4, "outOfBoundsMsg", "(I)Ljava/lang/String;"⟩
def dkwJ4_outOfBoundsMsg_1 : List UInt8 := [180, 0, 7, 182, 0, 106, 182, 0, 111, 176]
abbrev dktJ4_outOfBoundsMsg_1 : List UInt8 := dkwJ4_outOfBoundsMsg_1 ++ []
def dkwJ4_outOfBoundsMsg_0 : List UInt8 := [187, 0, 97, 89, 183, 0, 99, 18, 100, 182, 0, 102, 27, 182, 0, 106, 18, 109, 182, 0, 102, 42]
abbrev dktJ4_outOfBoundsMsg_0 : List UInt8 := dkwJ4_outOfBoundsMsg_0 ++ dktJ4_outOfBoundsMsg_1
theorem dksJ4_outOfBoundsMsg_0 : cJ4_outOfBoundsMsg.data.toList.drop 0 = dktJ4_outOfBoundsMsg_0 := by decide +kernel
theorem dksJ4_outOfBoundsMsg_1 : cJ4_outOfBoundsMsg.data.toList.drop 22 = dktJ4_outOfBoundsMsg_1 := dk_seg dksJ4_outOfBoundsMsg_0 22 rfl rfl
theorem dJ4_outOfBoundsMsg_0 : decode cJ4_outOfBoundsMsg 0 = .ok (.new 97, 3) := dk_187 0 97 (dk_at dksJ4_outOfBoundsMsg_0 0 rfl rfl)
theorem dJ4_outOfBoundsMsg_3 : decode cJ4_outOfBoundsMsg 3 = .ok (.dup, 1) := dk_89 (dk_at dksJ4_outOfBoundsMsg_0 3 rfl rfl)
theorem dJ4_outOfBoundsMsg_4 : decode cJ4_outOfBoundsMsg 4 = .ok (.invokespecial 99, 3) := dk_183 0 99 (dk_at dksJ4_outOfBoundsMsg_0 4 rfl rfl)
theorem dJ4_outOfBoundsMsg_7 : decode cJ4_outOfBoundsMsg 7 = .ok (.ldc 100, 2) := dk_18 100 (dk_at dksJ4_outOfBoundsMsg_0 7 rfl rfl)
theorem dJ4_outOfBoundsMsg_9 : decode cJ4_outOfBoundsMsg 9 = .ok (.invokevirtual 102, 3) := dk_182 0 102 (dk_at dksJ4_outOfBoundsMsg_0 9 rfl rfl)
theorem dJ4_outOfBoundsMsg_12 : decode cJ4_outOfBoundsMsg 12 = .ok (.iload_n 1, 1) := dk_27 (dk_at dksJ4_outOfBoundsMsg_0 12 rfl rfl)
theorem dJ4_outOfBoundsMsg_13 : decode cJ4_outOfBoundsMsg 13 = .ok (.invokevirtual 106, 3) := dk_182 0 106 (dk_at dksJ4_outOfBoundsMsg_0 13 rfl rfl)
theorem dJ4_outOfBoundsMsg_16 : decode cJ4_outOfBoundsMsg 16 = .ok (.ldc 109, 2) := dk_18 109 (dk_at dksJ4_outOfBoundsMsg_0 16 rfl rfl)
theorem dJ4_outOfBoundsMsg_18 : decode cJ4_outOfBoundsMsg 18 = .ok (.invokevirtual 102, 3) := dk_182 0 102 (dk_at dksJ4_outOfBoundsMsg_0 18 rfl rfl)
theorem dJ4_outOfBoundsMsg_21 : decode cJ4_outOfBoundsMsg 21 = .ok (.aload_n 0, 1) := dk_42 (dk_at dksJ4_outOfBoundsMsg_0 21 rfl rfl)
theorem dJ4_outOfBoundsMsg_22 : decode cJ4_outOfBoundsMsg 22 = .ok (.getfield 7, 3) := dk_180 0 7 (dk_at dksJ4_outOfBoundsMsg_1 0 rfl rfl)
theorem dJ4_outOfBoundsMsg_25 : decode cJ4_outOfBoundsMsg 25 = .ok (.invokevirtual 106, 3) := dk_182 0 106 (dk_at dksJ4_outOfBoundsMsg_1 3 rfl rfl)
theorem dJ4_outOfBoundsMsg_28 : decode cJ4_outOfBoundsMsg 28 = .ok (.invokevirtual 111, 3) := dk_182 0 111 (dk_at dksJ4_outOfBoundsMsg_1 6 rfl rfl)
theorem dJ4_outOfBoundsMsg_31 : decode cJ4_outOfBoundsMsg 31 = .ok (.areturn, 1) := dk_176 (dk_at dksJ4_outOfBoundsMsg_1 9 rfl rfl)
abbrev cJ4_node : ByteArray := prog_86_method_31_code
def yJ4_node : MethodName := ⟨RJ4, "node", "(I)Ljava/util/LinkedList$Node;"⟩
def dkwJ4_node_2 : List UInt8 := [29, 27, 164, 0, 14, 44, 180, 0, 30, 77, 132, 3, 255, 167, 255, 243, 44, 176]
abbrev dktJ4_node_2 : List UInt8 := dkwJ4_node_2 ++ []
def dkwJ4_node_1 : List UInt8 := [180, 0, 36, 77, 132, 3, 1, 167, 255, 243, 44, 176, 42, 180, 0, 27, 77, 42, 180, 0, 7, 4, 100, 62]
abbrev dktJ4_node_1 : List UInt8 := dkwJ4_node_1 ++ dktJ4_node_2
def dkwJ4_node_0 : List UInt8 := [27, 42, 180, 0, 7, 4, 122, 162, 0, 28, 42, 180, 0, 18, 77, 3, 62, 29, 27, 162, 0, 14, 44]
abbrev dktJ4_node_0 : List UInt8 := dkwJ4_node_0 ++ dktJ4_node_1
theorem dksJ4_node_0 : cJ4_node.data.toList.drop 0 = dktJ4_node_0 := by decide +kernel
theorem dksJ4_node_1 : cJ4_node.data.toList.drop 23 = dktJ4_node_1 := dk_seg dksJ4_node_0 23 rfl rfl
theorem dksJ4_node_2 : cJ4_node.data.toList.drop 47 = dktJ4_node_2 := dk_seg dksJ4_node_1 24 rfl rfl
theorem dJ4_node_0 : decode cJ4_node 0 = .ok (.iload_n 1, 1) := dk_27 (dk_at dksJ4_node_0 0 rfl rfl)
theorem dJ4_node_1 : decode cJ4_node 1 = .ok (.aload_n 0, 1) := dk_42 (dk_at dksJ4_node_0 1 rfl rfl)
theorem dJ4_node_2 : decode cJ4_node 2 = .ok (.getfield 7, 3) := dk_180 0 7 (dk_at dksJ4_node_0 2 rfl rfl)
theorem dJ4_node_5 : decode cJ4_node 5 = .ok (.iconst 1, 1) := dk_4 (dk_at dksJ4_node_0 5 rfl rfl)
theorem dJ4_node_6 : decode cJ4_node 6 = .ok (.ishr, 1) := dk_122 (dk_at dksJ4_node_0 6 rfl rfl)
theorem dJ4_node_7 : decode cJ4_node 7 = .ok (.if_icmp .ge 28, 3) := dk_162 0 28 (dk_at dksJ4_node_0 7 rfl rfl)
theorem dJ4_node_10 : decode cJ4_node 10 = .ok (.aload_n 0, 1) := dk_42 (dk_at dksJ4_node_0 10 rfl rfl)
theorem dJ4_node_11 : decode cJ4_node 11 = .ok (.getfield 18, 3) := dk_180 0 18 (dk_at dksJ4_node_0 11 rfl rfl)
theorem dJ4_node_14 : decode cJ4_node 14 = .ok (.astore_n 2, 1) := dk_77 (dk_at dksJ4_node_0 14 rfl rfl)
theorem dJ4_node_15 : decode cJ4_node 15 = .ok (.iconst 0, 1) := dk_3 (dk_at dksJ4_node_0 15 rfl rfl)
theorem dJ4_node_16 : decode cJ4_node 16 = .ok (.istore_n 3, 1) := dk_62 (dk_at dksJ4_node_0 16 rfl rfl)
theorem dJ4_node_17 : decode cJ4_node 17 = .ok (.iload_n 3, 1) := dk_29 (dk_at dksJ4_node_0 17 rfl rfl)
theorem dJ4_node_18 : decode cJ4_node 18 = .ok (.iload_n 1, 1) := dk_27 (dk_at dksJ4_node_0 18 rfl rfl)
theorem dJ4_node_19 : decode cJ4_node 19 = .ok (.if_icmp .ge 14, 3) := dk_162 0 14 (dk_at dksJ4_node_0 19 rfl rfl)
theorem dJ4_node_22 : decode cJ4_node 22 = .ok (.aload_n 2, 1) := dk_44 (dk_at dksJ4_node_0 22 rfl rfl)
theorem dJ4_node_23 : decode cJ4_node 23 = .ok (.getfield 36, 3) := dk_180 0 36 (dk_at dksJ4_node_1 0 rfl rfl)
theorem dJ4_node_26 : decode cJ4_node 26 = .ok (.astore_n 2, 1) := dk_77 (dk_at dksJ4_node_1 3 rfl rfl)
theorem dJ4_node_27 : decode cJ4_node 27 = .ok (.iinc 3 1, 3) := dk_132 3 1 (dk_at dksJ4_node_1 4 rfl rfl)
theorem dJ4_node_30 : decode cJ4_node 30 = .ok (.goto (-13), 3) := dk_167 255 243 (dk_at dksJ4_node_1 7 rfl rfl)
theorem dJ4_node_33 : decode cJ4_node 33 = .ok (.aload_n 2, 1) := dk_44 (dk_at dksJ4_node_1 10 rfl rfl)
theorem dJ4_node_34 : decode cJ4_node 34 = .ok (.areturn, 1) := dk_176 (dk_at dksJ4_node_1 11 rfl rfl)
theorem dJ4_node_35 : decode cJ4_node 35 = .ok (.aload_n 0, 1) := dk_42 (dk_at dksJ4_node_1 12 rfl rfl)
theorem dJ4_node_36 : decode cJ4_node 36 = .ok (.getfield 27, 3) := dk_180 0 27 (dk_at dksJ4_node_1 13 rfl rfl)
theorem dJ4_node_39 : decode cJ4_node 39 = .ok (.astore_n 2, 1) := dk_77 (dk_at dksJ4_node_1 16 rfl rfl)
theorem dJ4_node_40 : decode cJ4_node 40 = .ok (.aload_n 0, 1) := dk_42 (dk_at dksJ4_node_1 17 rfl rfl)
theorem dJ4_node_41 : decode cJ4_node 41 = .ok (.getfield 7, 3) := dk_180 0 7 (dk_at dksJ4_node_1 18 rfl rfl)
theorem dJ4_node_44 : decode cJ4_node 44 = .ok (.iconst 1, 1) := dk_4 (dk_at dksJ4_node_1 21 rfl rfl)
theorem dJ4_node_45 : decode cJ4_node 45 = .ok (.isub, 1) := dk_100 (dk_at dksJ4_node_1 22 rfl rfl)
theorem dJ4_node_46 : decode cJ4_node 46 = .ok (.istore_n 3, 1) := dk_62 (dk_at dksJ4_node_1 23 rfl rfl)
theorem dJ4_node_47 : decode cJ4_node 47 = .ok (.iload_n 3, 1) := dk_29 (dk_at dksJ4_node_2 0 rfl rfl)
theorem dJ4_node_48 : decode cJ4_node 48 = .ok (.iload_n 1, 1) := dk_27 (dk_at dksJ4_node_2 1 rfl rfl)
theorem dJ4_node_49 : decode cJ4_node 49 = .ok (.if_icmp .le 14, 3) := dk_164 0 14 (dk_at dksJ4_node_2 2 rfl rfl)
theorem dJ4_node_52 : decode cJ4_node 52 = .ok (.aload_n 2, 1) := dk_44 (dk_at dksJ4_node_2 5 rfl rfl)
theorem dJ4_node_53 : decode cJ4_node 53 = .ok (.getfield 30, 3) := dk_180 0 30 (dk_at dksJ4_node_2 6 rfl rfl)
theorem dJ4_node_56 : decode cJ4_node 56 = .ok (.astore_n 2, 1) := dk_77 (dk_at dksJ4_node_2 9 rfl rfl)
theorem dJ4_node_57 : decode cJ4_node 57 = .ok (.iinc 3 (-1), 3) := dk_132 3 255 (dk_at dksJ4_node_2 10 rfl rfl)
theorem dJ4_node_60 : decode cJ4_node 60 = .ok (.goto (-13), 3) := dk_167 255 243 (dk_at dksJ4_node_2 13 rfl rfl)
theorem dJ4_node_63 : decode cJ4_node 63 = .ok (.aload_n 2, 1) := dk_44 (dk_at dksJ4_node_2 16 rfl rfl)
theorem dJ4_node_64 : decode cJ4_node 64 = .ok (.areturn, 1) := dk_176 (dk_at dksJ4_node_2 17 rfl rfl)
abbrev cJ4_listIterator : ByteArray := prog_86_method_49_code
def yJ4_listIterator : MethodName := ⟨RJ4, "listIterator", "(I)Ljava/util/ListIterator;"⟩
def dkwJ4_listIterator_0 : List UInt8 := [42, 27, 182, 0, 76, 187, 0, 150, 89, 42, 27, 183, 0, 152, 176]
abbrev dktJ4_listIterator_0 : List UInt8 := dkwJ4_listIterator_0 ++ []
theorem dksJ4_listIterator_0 : cJ4_listIterator.data.toList.drop 0 = dktJ4_listIterator_0 := by decide +kernel
theorem dJ4_listIterator_0 : decode cJ4_listIterator 0 = .ok (.aload_n 0, 1) := dk_42 (dk_at dksJ4_listIterator_0 0 rfl rfl)
theorem dJ4_listIterator_1 : decode cJ4_listIterator 1 = .ok (.iload_n 1, 1) := dk_27 (dk_at dksJ4_listIterator_0 1 rfl rfl)
theorem dJ4_listIterator_2 : decode cJ4_listIterator 2 = .ok (.invokevirtual 76, 3) := dk_182 0 76 (dk_at dksJ4_listIterator_0 2 rfl rfl)
theorem dJ4_listIterator_5 : decode cJ4_listIterator 5 = .ok (.new 150, 3) := dk_187 0 150 (dk_at dksJ4_listIterator_0 5 rfl rfl)
theorem dJ4_listIterator_8 : decode cJ4_listIterator 8 = .ok (.dup, 1) := dk_89 (dk_at dksJ4_listIterator_0 8 rfl rfl)
theorem dJ4_listIterator_9 : decode cJ4_listIterator 9 = .ok (.aload_n 0, 1) := dk_42 (dk_at dksJ4_listIterator_0 9 rfl rfl)
theorem dJ4_listIterator_10 : decode cJ4_listIterator 10 = .ok (.iload_n 1, 1) := dk_27 (dk_at dksJ4_listIterator_0 10 rfl rfl)
theorem dJ4_listIterator_11 : decode cJ4_listIterator 11 = .ok (.invokespecial 152, 3) := dk_183 0 152 (dk_at dksJ4_listIterator_0 11 rfl rfl)
theorem dJ4_listIterator_14 : decode cJ4_listIterator 14 = .ok (.areturn, 1) := dk_176 (dk_at dksJ4_listIterator_0 14 rfl rfl)
abbrev cJ4_checkPositionIndex : ByteArray := prog_86_method_30_code
def yJ4_checkPositionIndex : MethodName := ⟨RJ4, "checkPositionIndex", "(I)V"⟩
def dkwJ4_checkPositionIndex_0 : List UInt8 := [42, 27, 182, 0, 128, 154, 0, 16, 187, 0, 119, 89, 42, 27, 182, 0, 121, 183, 0, 125, 191, 177]
abbrev dktJ4_checkPositionIndex_0 : List UInt8 := dkwJ4_checkPositionIndex_0 ++ []
theorem dksJ4_checkPositionIndex_0 : cJ4_checkPositionIndex.data.toList.drop 0 = dktJ4_checkPositionIndex_0 := by decide +kernel
theorem dJ4_checkPositionIndex_0 : decode cJ4_checkPositionIndex 0 = .ok (.aload_n 0, 1) := dk_42 (dk_at dksJ4_checkPositionIndex_0 0 rfl rfl)
theorem dJ4_checkPositionIndex_1 : decode cJ4_checkPositionIndex 1 = .ok (.iload_n 1, 1) := dk_27 (dk_at dksJ4_checkPositionIndex_0 1 rfl rfl)
theorem dJ4_checkPositionIndex_2 : decode cJ4_checkPositionIndex 2 = .ok (.invokevirtual 128, 3) := dk_182 0 128 (dk_at dksJ4_checkPositionIndex_0 2 rfl rfl)
theorem dJ4_checkPositionIndex_5 : decode cJ4_checkPositionIndex 5 = .ok (.ifCond .ne 16, 3) := dk_154 0 16 (dk_at dksJ4_checkPositionIndex_0 5 rfl rfl)
theorem dJ4_checkPositionIndex_8 : decode cJ4_checkPositionIndex 8 = .ok (.new 119, 3) := dk_187 0 119 (dk_at dksJ4_checkPositionIndex_0 8 rfl rfl)
theorem dJ4_checkPositionIndex_11 : decode cJ4_checkPositionIndex 11 = .ok (.dup, 1) := dk_89 (dk_at dksJ4_checkPositionIndex_0 11 rfl rfl)
theorem dJ4_checkPositionIndex_12 : decode cJ4_checkPositionIndex 12 = .ok (.aload_n 0, 1) := dk_42 (dk_at dksJ4_checkPositionIndex_0 12 rfl rfl)
theorem dJ4_checkPositionIndex_13 : decode cJ4_checkPositionIndex 13 = .ok (.iload_n 1, 1) := dk_27 (dk_at dksJ4_checkPositionIndex_0 13 rfl rfl)
theorem dJ4_checkPositionIndex_14 : decode cJ4_checkPositionIndex 14 = .ok (.invokevirtual 121, 3) := dk_182 0 121 (dk_at dksJ4_checkPositionIndex_0 14 rfl rfl)
theorem dJ4_checkPositionIndex_17 : decode cJ4_checkPositionIndex 17 = .ok (.invokespecial 125, 3) := dk_183 0 125 (dk_at dksJ4_checkPositionIndex_0 17 rfl rfl)
theorem dJ4_checkPositionIndex_20 : decode cJ4_checkPositionIndex 20 = .ok (.athrow, 1) := dk_191 (dk_at dksJ4_checkPositionIndex_0 20 rfl rfl)
theorem dJ4_checkPositionIndex_21 : decode cJ4_checkPositionIndex 21 = .ok (.return_, 1) := dk_177 (dk_at dksJ4_checkPositionIndex_0 21 rfl rfl)
abbrev cJ4_isPositionIndex : ByteArray := prog_86_method_27_code
def yJ4_isPositionIndex : MethodName := ⟨RJ4, "isPositionIndex", "(I)Z"⟩
def dkwJ4_isPositionIndex_0 : List UInt8 := [27, 155, 0, 15, 27, 42, 180, 0, 7, 163, 0, 7, 4, 167, 0, 4, 3, 172]
abbrev dktJ4_isPositionIndex_0 : List UInt8 := dkwJ4_isPositionIndex_0 ++ []
theorem dksJ4_isPositionIndex_0 : cJ4_isPositionIndex.data.toList.drop 0 = dktJ4_isPositionIndex_0 := by decide +kernel
theorem dJ4_isPositionIndex_0 : decode cJ4_isPositionIndex 0 = .ok (.iload_n 1, 1) := dk_27 (dk_at dksJ4_isPositionIndex_0 0 rfl rfl)
theorem dJ4_isPositionIndex_1 : decode cJ4_isPositionIndex 1 = .ok (.ifCond .lt 15, 3) := dk_155 0 15 (dk_at dksJ4_isPositionIndex_0 1 rfl rfl)
theorem dJ4_isPositionIndex_4 : decode cJ4_isPositionIndex 4 = .ok (.iload_n 1, 1) := dk_27 (dk_at dksJ4_isPositionIndex_0 4 rfl rfl)
theorem dJ4_isPositionIndex_5 : decode cJ4_isPositionIndex 5 = .ok (.aload_n 0, 1) := dk_42 (dk_at dksJ4_isPositionIndex_0 5 rfl rfl)
theorem dJ4_isPositionIndex_6 : decode cJ4_isPositionIndex 6 = .ok (.getfield 7, 3) := dk_180 0 7 (dk_at dksJ4_isPositionIndex_0 6 rfl rfl)
theorem dJ4_isPositionIndex_9 : decode cJ4_isPositionIndex 9 = .ok (.if_icmp .gt 7, 3) := dk_163 0 7 (dk_at dksJ4_isPositionIndex_0 9 rfl rfl)
theorem dJ4_isPositionIndex_12 : decode cJ4_isPositionIndex 12 = .ok (.iconst 1, 1) := dk_4 (dk_at dksJ4_isPositionIndex_0 12 rfl rfl)
theorem dJ4_isPositionIndex_13 : decode cJ4_isPositionIndex 13 = .ok (.goto 4, 3) := dk_167 0 4 (dk_at dksJ4_isPositionIndex_0 13 rfl rfl)
theorem dJ4_isPositionIndex_16 : decode cJ4_isPositionIndex 16 = .ok (.iconst 0, 1) := dk_3 (dk_at dksJ4_isPositionIndex_0 16 rfl rfl)
theorem dJ4_isPositionIndex_17 : decode cJ4_isPositionIndex 17 = .ok (.ireturn, 1) := dk_172 (dk_at dksJ4_isPositionIndex_0 17 rfl rfl)
abbrev cJ4_addLast : ByteArray := prog_86_method_14_code
def yJ4_addLast : MethodName := ⟨RJ4, "addLast", "(Ljava/lang/Object;)V"⟩
def dkwJ4_addLast_0 : List UInt8 := [42, 43, 182, 0, 57, 177]
abbrev dktJ4_addLast_0 : List UInt8 := dkwJ4_addLast_0 ++ []
theorem dksJ4_addLast_0 : cJ4_addLast.data.toList.drop 0 = dktJ4_addLast_0 := by decide +kernel
theorem dJ4_addLast_0 : decode cJ4_addLast 0 = .ok (.aload_n 0, 1) := dk_42 (dk_at dksJ4_addLast_0 0 rfl rfl)
theorem dJ4_addLast_1 : decode cJ4_addLast 1 = .ok (.aload_n 1, 1) := dk_43 (dk_at dksJ4_addLast_0 1 rfl rfl)
theorem dJ4_addLast_2 : decode cJ4_addLast 2 = .ok (.invokevirtual 57, 3) := dk_182 0 57 (dk_at dksJ4_addLast_0 2 rfl rfl)
theorem dJ4_addLast_5 : decode cJ4_addLast 5 = .ok (.return_, 1) := dk_177 (dk_at dksJ4_addLast_0 5 rfl rfl)
abbrev cJ4_linkLast : ByteArray := prog_86_method_4_code
def yJ4_linkLast : MethodName := ⟨RJ4, "linkLast", "(Ljava/lang/Object;)V"⟩
def dkwJ4_linkLast_2 : List UInt8 := [181, 0, 7, 42, 89, 180, 0, 33, 4, 96, 181, 0, 33, 177]
abbrev dktJ4_linkLast_2 : List UInt8 := dkwJ4_linkLast_2 ++ []
def dkwJ4_linkLast_1 : List UInt8 := [199, 0, 11, 42, 45, 181, 0, 18, 167, 0, 8, 44, 45, 181, 0, 36, 42, 89, 180, 0, 7, 4, 96]
abbrev dktJ4_linkLast_1 : List UInt8 := dkwJ4_linkLast_1 ++ dktJ4_linkLast_2
def dkwJ4_linkLast_0 : List UInt8 := [42, 180, 0, 27, 77, 187, 0, 22, 89, 44, 43, 1, 183, 0, 24, 78, 42, 45, 181, 0, 27, 44]
abbrev dktJ4_linkLast_0 : List UInt8 := dkwJ4_linkLast_0 ++ dktJ4_linkLast_1
theorem dksJ4_linkLast_0 : cJ4_linkLast.data.toList.drop 0 = dktJ4_linkLast_0 := by decide +kernel
theorem dksJ4_linkLast_1 : cJ4_linkLast.data.toList.drop 22 = dktJ4_linkLast_1 := dk_seg dksJ4_linkLast_0 22 rfl rfl
theorem dksJ4_linkLast_2 : cJ4_linkLast.data.toList.drop 45 = dktJ4_linkLast_2 := dk_seg dksJ4_linkLast_1 23 rfl rfl
theorem dJ4_linkLast_0 : decode cJ4_linkLast 0 = .ok (.aload_n 0, 1) := dk_42 (dk_at dksJ4_linkLast_0 0 rfl rfl)
theorem dJ4_linkLast_1 : decode cJ4_linkLast 1 = .ok (.getfield 27, 3) := dk_180 0 27 (dk_at dksJ4_linkLast_0 1 rfl rfl)
theorem dJ4_linkLast_4 : decode cJ4_linkLast 4 = .ok (.astore_n 2, 1) := dk_77 (dk_at dksJ4_linkLast_0 4 rfl rfl)
theorem dJ4_linkLast_5 : decode cJ4_linkLast 5 = .ok (.new 22, 3) := dk_187 0 22 (dk_at dksJ4_linkLast_0 5 rfl rfl)
theorem dJ4_linkLast_8 : decode cJ4_linkLast 8 = .ok (.dup, 1) := dk_89 (dk_at dksJ4_linkLast_0 8 rfl rfl)
theorem dJ4_linkLast_9 : decode cJ4_linkLast 9 = .ok (.aload_n 2, 1) := dk_44 (dk_at dksJ4_linkLast_0 9 rfl rfl)
theorem dJ4_linkLast_10 : decode cJ4_linkLast 10 = .ok (.aload_n 1, 1) := dk_43 (dk_at dksJ4_linkLast_0 10 rfl rfl)
theorem dJ4_linkLast_11 : decode cJ4_linkLast 11 = .ok (.aconst_null, 1) := dk_1 (dk_at dksJ4_linkLast_0 11 rfl rfl)
theorem dJ4_linkLast_12 : decode cJ4_linkLast 12 = .ok (.invokespecial 24, 3) := dk_183 0 24 (dk_at dksJ4_linkLast_0 12 rfl rfl)
theorem dJ4_linkLast_15 : decode cJ4_linkLast 15 = .ok (.astore_n 3, 1) := dk_78 (dk_at dksJ4_linkLast_0 15 rfl rfl)
theorem dJ4_linkLast_16 : decode cJ4_linkLast 16 = .ok (.aload_n 0, 1) := dk_42 (dk_at dksJ4_linkLast_0 16 rfl rfl)
theorem dJ4_linkLast_17 : decode cJ4_linkLast 17 = .ok (.aload_n 3, 1) := dk_45 (dk_at dksJ4_linkLast_0 17 rfl rfl)
theorem dJ4_linkLast_18 : decode cJ4_linkLast 18 = .ok (.putfield 27, 3) := dk_181 0 27 (dk_at dksJ4_linkLast_0 18 rfl rfl)
theorem dJ4_linkLast_21 : decode cJ4_linkLast 21 = .ok (.aload_n 2, 1) := dk_44 (dk_at dksJ4_linkLast_0 21 rfl rfl)
theorem dJ4_linkLast_22 : decode cJ4_linkLast 22 = .ok (.ifnonnull 11, 3) := dk_199 0 11 (dk_at dksJ4_linkLast_1 0 rfl rfl)
theorem dJ4_linkLast_25 : decode cJ4_linkLast 25 = .ok (.aload_n 0, 1) := dk_42 (dk_at dksJ4_linkLast_1 3 rfl rfl)
theorem dJ4_linkLast_26 : decode cJ4_linkLast 26 = .ok (.aload_n 3, 1) := dk_45 (dk_at dksJ4_linkLast_1 4 rfl rfl)
theorem dJ4_linkLast_27 : decode cJ4_linkLast 27 = .ok (.putfield 18, 3) := dk_181 0 18 (dk_at dksJ4_linkLast_1 5 rfl rfl)
theorem dJ4_linkLast_30 : decode cJ4_linkLast 30 = .ok (.goto 8, 3) := dk_167 0 8 (dk_at dksJ4_linkLast_1 8 rfl rfl)
theorem dJ4_linkLast_33 : decode cJ4_linkLast 33 = .ok (.aload_n 2, 1) := dk_44 (dk_at dksJ4_linkLast_1 11 rfl rfl)
theorem dJ4_linkLast_34 : decode cJ4_linkLast 34 = .ok (.aload_n 3, 1) := dk_45 (dk_at dksJ4_linkLast_1 12 rfl rfl)
theorem dJ4_linkLast_35 : decode cJ4_linkLast 35 = .ok (.putfield 36, 3) := dk_181 0 36 (dk_at dksJ4_linkLast_1 13 rfl rfl)
theorem dJ4_linkLast_38 : decode cJ4_linkLast 38 = .ok (.aload_n 0, 1) := dk_42 (dk_at dksJ4_linkLast_1 16 rfl rfl)
theorem dJ4_linkLast_39 : decode cJ4_linkLast 39 = .ok (.dup, 1) := dk_89 (dk_at dksJ4_linkLast_1 17 rfl rfl)
theorem dJ4_linkLast_40 : decode cJ4_linkLast 40 = .ok (.getfield 7, 3) := dk_180 0 7 (dk_at dksJ4_linkLast_1 18 rfl rfl)
theorem dJ4_linkLast_43 : decode cJ4_linkLast 43 = .ok (.iconst 1, 1) := dk_4 (dk_at dksJ4_linkLast_1 21 rfl rfl)
theorem dJ4_linkLast_44 : decode cJ4_linkLast 44 = .ok (.iadd, 1) := dk_96 (dk_at dksJ4_linkLast_1 22 rfl rfl)
theorem dJ4_linkLast_45 : decode cJ4_linkLast 45 = .ok (.putfield 7, 3) := dk_181 0 7 (dk_at dksJ4_linkLast_2 0 rfl rfl)
theorem dJ4_linkLast_48 : decode cJ4_linkLast 48 = .ok (.aload_n 0, 1) := dk_42 (dk_at dksJ4_linkLast_2 3 rfl rfl)
theorem dJ4_linkLast_49 : decode cJ4_linkLast 49 = .ok (.dup, 1) := dk_89 (dk_at dksJ4_linkLast_2 4 rfl rfl)
theorem dJ4_linkLast_50 : decode cJ4_linkLast 50 = .ok (.getfield 33, 3) := dk_180 0 33 (dk_at dksJ4_linkLast_2 5 rfl rfl)
theorem dJ4_linkLast_53 : decode cJ4_linkLast 53 = .ok (.iconst 1, 1) := dk_4 (dk_at dksJ4_linkLast_2 8 rfl rfl)
theorem dJ4_linkLast_54 : decode cJ4_linkLast 54 = .ok (.iadd, 1) := dk_96 (dk_at dksJ4_linkLast_2 9 rfl rfl)
theorem dJ4_linkLast_55 : decode cJ4_linkLast 55 = .ok (.putfield 33, 3) := dk_181 0 33 (dk_at dksJ4_linkLast_2 10 rfl rfl)
theorem dJ4_linkLast_58 : decode cJ4_linkLast 58 = .ok (.return_, 1) := dk_177 (dk_at dksJ4_linkLast_2 13 rfl rfl)
abbrev cJ4_remove : ByteArray := prog_86_method_25_code
def yJ4_remove : MethodName := ⟨RJ4, "remove", "(I)Ljava/lang/Object;"⟩
def dkwJ4_remove_0 : List UInt8 := [42, 27, 182, 0, 90, 42, 42, 27, 182, 0, 86, 182, 0, 64, 176]
abbrev dktJ4_remove_0 : List UInt8 := dkwJ4_remove_0 ++ []
theorem dksJ4_remove_0 : cJ4_remove.data.toList.drop 0 = dktJ4_remove_0 := by decide +kernel
theorem dJ4_remove_0 : decode cJ4_remove 0 = .ok (.aload_n 0, 1) := dk_42 (dk_at dksJ4_remove_0 0 rfl rfl)
theorem dJ4_remove_1 : decode cJ4_remove 1 = .ok (.iload_n 1, 1) := dk_27 (dk_at dksJ4_remove_0 1 rfl rfl)
theorem dJ4_remove_2 : decode cJ4_remove 2 = .ok (.invokevirtual 90, 3) := dk_182 0 90 (dk_at dksJ4_remove_0 2 rfl rfl)
theorem dJ4_remove_5 : decode cJ4_remove 5 = .ok (.aload_n 0, 1) := dk_42 (dk_at dksJ4_remove_0 5 rfl rfl)
theorem dJ4_remove_6 : decode cJ4_remove 6 = .ok (.aload_n 0, 1) := dk_42 (dk_at dksJ4_remove_0 6 rfl rfl)
theorem dJ4_remove_7 : decode cJ4_remove 7 = .ok (.iload_n 1, 1) := dk_27 (dk_at dksJ4_remove_0 7 rfl rfl)
theorem dJ4_remove_8 : decode cJ4_remove 8 = .ok (.invokevirtual 86, 3) := dk_182 0 86 (dk_at dksJ4_remove_0 8 rfl rfl)
theorem dJ4_remove_11 : decode cJ4_remove 11 = .ok (.invokevirtual 64, 3) := dk_182 0 64 (dk_at dksJ4_remove_0 11 rfl rfl)
theorem dJ4_remove_14 : decode cJ4_remove 14 = .ok (.areturn, 1) := dk_176 (dk_at dksJ4_remove_0 14 rfl rfl)
abbrev cJ4_unlink : ByteArray := prog_86_method_8_code
def yJ4_unlink : MethodName := ⟨RJ4, "unlink", "(Ljava/util/LinkedList$Node;)Ljava/lang/Object;"⟩
def dkwJ4_unlink_3 : List UInt8 := [180, 0, 7, 4, 100, 181, 0, 7, 42, 89, 180, 0, 33, 4, 96, 181, 0, 33, 44, 176]
abbrev dktJ4_unlink_3 : List UInt8 := dkwJ4_unlink_3 ++ []
def dkwJ4_unlink_2 : List UInt8 := [181, 0, 27, 167, 0, 14, 45, 25, 4, 181, 0, 30, 43, 1, 181, 0, 36, 43, 1, 181, 0, 39, 42, 89]
abbrev dktJ4_unlink_2 : List UInt8 := dkwJ4_unlink_2 ++ dktJ4_unlink_3
def dkwJ4_unlink_1 : List UInt8 := [181, 0, 18, 167, 0, 14, 25, 4, 45, 181, 0, 36, 43, 1, 181, 0, 30, 45, 199, 0, 12, 42, 25, 4]
abbrev dktJ4_unlink_1 : List UInt8 := dkwJ4_unlink_1 ++ dktJ4_unlink_2
def dkwJ4_unlink_0 : List UInt8 := [43, 180, 0, 39, 77, 43, 180, 0, 36, 78, 43, 180, 0, 30, 58, 4, 25, 4, 199, 0, 11, 42, 45]
abbrev dktJ4_unlink_0 : List UInt8 := dkwJ4_unlink_0 ++ dktJ4_unlink_1
theorem dksJ4_unlink_0 : cJ4_unlink.data.toList.drop 0 = dktJ4_unlink_0 := by decide +kernel
theorem dksJ4_unlink_1 : cJ4_unlink.data.toList.drop 23 = dktJ4_unlink_1 := dk_seg dksJ4_unlink_0 23 rfl rfl
theorem dksJ4_unlink_2 : cJ4_unlink.data.toList.drop 47 = dktJ4_unlink_2 := dk_seg dksJ4_unlink_1 24 rfl rfl
theorem dksJ4_unlink_3 : cJ4_unlink.data.toList.drop 71 = dktJ4_unlink_3 := dk_seg dksJ4_unlink_2 24 rfl rfl
theorem dJ4_unlink_0 : decode cJ4_unlink 0 = .ok (.aload_n 1, 1) := dk_43 (dk_at dksJ4_unlink_0 0 rfl rfl)
theorem dJ4_unlink_1 : decode cJ4_unlink 1 = .ok (.getfield 39, 3) := dk_180 0 39 (dk_at dksJ4_unlink_0 1 rfl rfl)
theorem dJ4_unlink_4 : decode cJ4_unlink 4 = .ok (.astore_n 2, 1) := dk_77 (dk_at dksJ4_unlink_0 4 rfl rfl)
theorem dJ4_unlink_5 : decode cJ4_unlink 5 = .ok (.aload_n 1, 1) := dk_43 (dk_at dksJ4_unlink_0 5 rfl rfl)
theorem dJ4_unlink_6 : decode cJ4_unlink 6 = .ok (.getfield 36, 3) := dk_180 0 36 (dk_at dksJ4_unlink_0 6 rfl rfl)
theorem dJ4_unlink_9 : decode cJ4_unlink 9 = .ok (.astore_n 3, 1) := dk_78 (dk_at dksJ4_unlink_0 9 rfl rfl)
theorem dJ4_unlink_10 : decode cJ4_unlink 10 = .ok (.aload_n 1, 1) := dk_43 (dk_at dksJ4_unlink_0 10 rfl rfl)
theorem dJ4_unlink_11 : decode cJ4_unlink 11 = .ok (.getfield 30, 3) := dk_180 0 30 (dk_at dksJ4_unlink_0 11 rfl rfl)
theorem dJ4_unlink_14 : decode cJ4_unlink 14 = .ok (.astore 4, 2) := dk_58 4 (dk_at dksJ4_unlink_0 14 rfl rfl)
theorem dJ4_unlink_16 : decode cJ4_unlink 16 = .ok (.aload 4, 2) := dk_25 4 (dk_at dksJ4_unlink_0 16 rfl rfl)
theorem dJ4_unlink_18 : decode cJ4_unlink 18 = .ok (.ifnonnull 11, 3) := dk_199 0 11 (dk_at dksJ4_unlink_0 18 rfl rfl)
theorem dJ4_unlink_21 : decode cJ4_unlink 21 = .ok (.aload_n 0, 1) := dk_42 (dk_at dksJ4_unlink_0 21 rfl rfl)
theorem dJ4_unlink_22 : decode cJ4_unlink 22 = .ok (.aload_n 3, 1) := dk_45 (dk_at dksJ4_unlink_0 22 rfl rfl)
theorem dJ4_unlink_23 : decode cJ4_unlink 23 = .ok (.putfield 18, 3) := dk_181 0 18 (dk_at dksJ4_unlink_1 0 rfl rfl)
theorem dJ4_unlink_26 : decode cJ4_unlink 26 = .ok (.goto 14, 3) := dk_167 0 14 (dk_at dksJ4_unlink_1 3 rfl rfl)
theorem dJ4_unlink_29 : decode cJ4_unlink 29 = .ok (.aload 4, 2) := dk_25 4 (dk_at dksJ4_unlink_1 6 rfl rfl)
theorem dJ4_unlink_31 : decode cJ4_unlink 31 = .ok (.aload_n 3, 1) := dk_45 (dk_at dksJ4_unlink_1 8 rfl rfl)
theorem dJ4_unlink_32 : decode cJ4_unlink 32 = .ok (.putfield 36, 3) := dk_181 0 36 (dk_at dksJ4_unlink_1 9 rfl rfl)
theorem dJ4_unlink_35 : decode cJ4_unlink 35 = .ok (.aload_n 1, 1) := dk_43 (dk_at dksJ4_unlink_1 12 rfl rfl)
theorem dJ4_unlink_36 : decode cJ4_unlink 36 = .ok (.aconst_null, 1) := dk_1 (dk_at dksJ4_unlink_1 13 rfl rfl)
theorem dJ4_unlink_37 : decode cJ4_unlink 37 = .ok (.putfield 30, 3) := dk_181 0 30 (dk_at dksJ4_unlink_1 14 rfl rfl)
theorem dJ4_unlink_40 : decode cJ4_unlink 40 = .ok (.aload_n 3, 1) := dk_45 (dk_at dksJ4_unlink_1 17 rfl rfl)
theorem dJ4_unlink_41 : decode cJ4_unlink 41 = .ok (.ifnonnull 12, 3) := dk_199 0 12 (dk_at dksJ4_unlink_1 18 rfl rfl)
theorem dJ4_unlink_44 : decode cJ4_unlink 44 = .ok (.aload_n 0, 1) := dk_42 (dk_at dksJ4_unlink_1 21 rfl rfl)
theorem dJ4_unlink_45 : decode cJ4_unlink 45 = .ok (.aload 4, 2) := dk_25 4 (dk_at dksJ4_unlink_1 22 rfl rfl)
theorem dJ4_unlink_47 : decode cJ4_unlink 47 = .ok (.putfield 27, 3) := dk_181 0 27 (dk_at dksJ4_unlink_2 0 rfl rfl)
theorem dJ4_unlink_50 : decode cJ4_unlink 50 = .ok (.goto 14, 3) := dk_167 0 14 (dk_at dksJ4_unlink_2 3 rfl rfl)
theorem dJ4_unlink_53 : decode cJ4_unlink 53 = .ok (.aload_n 3, 1) := dk_45 (dk_at dksJ4_unlink_2 6 rfl rfl)
theorem dJ4_unlink_54 : decode cJ4_unlink 54 = .ok (.aload 4, 2) := dk_25 4 (dk_at dksJ4_unlink_2 7 rfl rfl)
theorem dJ4_unlink_56 : decode cJ4_unlink 56 = .ok (.putfield 30, 3) := dk_181 0 30 (dk_at dksJ4_unlink_2 9 rfl rfl)
theorem dJ4_unlink_59 : decode cJ4_unlink 59 = .ok (.aload_n 1, 1) := dk_43 (dk_at dksJ4_unlink_2 12 rfl rfl)
theorem dJ4_unlink_60 : decode cJ4_unlink 60 = .ok (.aconst_null, 1) := dk_1 (dk_at dksJ4_unlink_2 13 rfl rfl)
theorem dJ4_unlink_61 : decode cJ4_unlink 61 = .ok (.putfield 36, 3) := dk_181 0 36 (dk_at dksJ4_unlink_2 14 rfl rfl)
theorem dJ4_unlink_64 : decode cJ4_unlink 64 = .ok (.aload_n 1, 1) := dk_43 (dk_at dksJ4_unlink_2 17 rfl rfl)
theorem dJ4_unlink_65 : decode cJ4_unlink 65 = .ok (.aconst_null, 1) := dk_1 (dk_at dksJ4_unlink_2 18 rfl rfl)
theorem dJ4_unlink_66 : decode cJ4_unlink 66 = .ok (.putfield 39, 3) := dk_181 0 39 (dk_at dksJ4_unlink_2 19 rfl rfl)
theorem dJ4_unlink_69 : decode cJ4_unlink 69 = .ok (.aload_n 0, 1) := dk_42 (dk_at dksJ4_unlink_2 22 rfl rfl)
theorem dJ4_unlink_70 : decode cJ4_unlink 70 = .ok (.dup, 1) := dk_89 (dk_at dksJ4_unlink_2 23 rfl rfl)
theorem dJ4_unlink_71 : decode cJ4_unlink 71 = .ok (.getfield 7, 3) := dk_180 0 7 (dk_at dksJ4_unlink_3 0 rfl rfl)
theorem dJ4_unlink_74 : decode cJ4_unlink 74 = .ok (.iconst 1, 1) := dk_4 (dk_at dksJ4_unlink_3 3 rfl rfl)
theorem dJ4_unlink_75 : decode cJ4_unlink 75 = .ok (.isub, 1) := dk_100 (dk_at dksJ4_unlink_3 4 rfl rfl)
theorem dJ4_unlink_76 : decode cJ4_unlink 76 = .ok (.putfield 7, 3) := dk_181 0 7 (dk_at dksJ4_unlink_3 5 rfl rfl)
theorem dJ4_unlink_79 : decode cJ4_unlink 79 = .ok (.aload_n 0, 1) := dk_42 (dk_at dksJ4_unlink_3 8 rfl rfl)
theorem dJ4_unlink_80 : decode cJ4_unlink 80 = .ok (.dup, 1) := dk_89 (dk_at dksJ4_unlink_3 9 rfl rfl)
theorem dJ4_unlink_81 : decode cJ4_unlink 81 = .ok (.getfield 33, 3) := dk_180 0 33 (dk_at dksJ4_unlink_3 10 rfl rfl)
theorem dJ4_unlink_84 : decode cJ4_unlink 84 = .ok (.iconst 1, 1) := dk_4 (dk_at dksJ4_unlink_3 13 rfl rfl)
theorem dJ4_unlink_85 : decode cJ4_unlink 85 = .ok (.iadd, 1) := dk_96 (dk_at dksJ4_unlink_3 14 rfl rfl)
theorem dJ4_unlink_86 : decode cJ4_unlink 86 = .ok (.putfield 33, 3) := dk_181 0 33 (dk_at dksJ4_unlink_3 15 rfl rfl)
theorem dJ4_unlink_89 : decode cJ4_unlink 89 = .ok (.aload_n 2, 1) := dk_44 (dk_at dksJ4_unlink_3 18 rfl rfl)
theorem dJ4_unlink_90 : decode cJ4_unlink 90 = .ok (.areturn, 1) := dk_176 (dk_at dksJ4_unlink_3 19 rfl rfl)
theorem q113 : (Jvm.Cond.initialized "java/util/LinkedList") ∈ lw_all := lw_g (lw_at lw_m1 7 rfl) rfl
theorem q229 : (Jvm.Cond.sameField "java/util/LinkedList" "java/util/AbstractList" "modCount" "I") ∈ lw_all := lw_g (lw_at lw_m1 123 rfl) rfl
theorem q233 : (Jvm.Cond.fieldLink "java/util/LinkedList" (33 : Nat) "java/util/LinkedList" "modCount" "I") ∈ lw_all := lw_g (lw_at lw_m1 127 rfl) rfl
theorem q243 : (Jvm.Cond.instantiable "java/util/LinkedList" (4 : Nat)) ∈ lw_all := lw_g (lw_at lw_m1 137 rfl) rfl
theorem q245 : (Jvm.Cond.instanceMethod ({ cls := "java/util/LinkedList", name := "<init>", desc := "()V" } : Jvm.MethodName)) ∈ lw_all := lw_g (lw_at lw_m1 139 rfl) rfl
theorem q246 : (Jvm.Cond.code ({ cls := "java/util/LinkedList", name := "<init>", desc := "()V" } : Jvm.MethodName) prog_86_method_1_code (1 : Nat) (Option.none : Option Jvm.ClassFile.FieldType)) ∈ lw_all := lw_g (lw_at lw_m1 140 rfl) rfl
theorem q247 : (Jvm.Cond.methodLink "java/util/LinkedList" (1 : Nat) ({ cls := "java/util/AbstractSequentialList", name := "<init>", desc := "()V" } : Jvm.MethodName)) ∈ lw_all := lw_g (lw_at lw_m1 141 rfl) rfl
theorem q251 : (Jvm.Cond.fieldLink "java/util/LinkedList" (7 : Nat) "java/util/LinkedList" "size" "I") ∈ lw_all := lw_g (lw_at lw_m1 145 rfl) rfl
theorem q253 : (Jvm.Cond.fieldLink "java/util/LinkedList" (18 : Nat) "java/util/LinkedList" "first" "Ljava/util/LinkedList$Node;") ∈ lw_all := lw_g (lw_at lw_m1 147 rfl) rfl
theorem q254 : (Jvm.Cond.fieldLink "java/util/LinkedList" (27 : Nat) "java/util/LinkedList" "last" "Ljava/util/LinkedList$Node;") ∈ lw_all := lw_g (lw_at lw_m1 148 rfl) rfl
theorem q255 : (Jvm.Cond.lays "java/util/LinkedList" "java/util/LinkedList" "size" "I") ∈ lw_all := lw_g (lw_at lw_m1 149 rfl) rfl
theorem q256 : (Jvm.Cond.soleField "java/util/LinkedList" "size") ∈ lw_all := lw_g (lw_at lw_m1 150 rfl) rfl
theorem q257 : (Jvm.Cond.lays "java/util/LinkedList" "java/util/LinkedList" "first" "Ljava/util/LinkedList$Node;") ∈ lw_all := lw_g (lw_at lw_m1 151 rfl) rfl
theorem q258 : (Jvm.Cond.soleField "java/util/LinkedList" "first") ∈ lw_all := lw_g (lw_at lw_m1 152 rfl) rfl
theorem q259 : (Jvm.Cond.lays "java/util/LinkedList" "java/util/LinkedList" "last" "Ljava/util/LinkedList$Node;") ∈ lw_all := lw_g (lw_at lw_m1 153 rfl) rfl
theorem q260 : (Jvm.Cond.soleField "java/util/LinkedList" "last") ∈ lw_all := lw_g (lw_at lw_m1 154 rfl) rfl
theorem q261 : (Jvm.Cond.lays "java/util/LinkedList" "java/util/AbstractList" "modCount" "I") ∈ lw_all := lw_g (lw_at lw_m1 155 rfl) rfl
theorem q262 : (Jvm.Cond.superclass "java/util/LinkedList" "java/util/AbstractSequentialList") ∈ lw_all := lw_g (lw_at lw_m1 156 rfl) rfl
theorem q464 : (Jvm.Cond.selects "java/util/LinkedList" ({ cls := "java/util/AbstractList", name := "size", desc := "()I" } : Jvm.MethodName) ({ cls := "java/util/LinkedList", name := "size", desc := "()I" } : Jvm.MethodName)) ∈ lw_all := lw_g (lw_at lw_m2 118 rfl) rfl
theorem q465 : (Jvm.Cond.instanceMethod ({ cls := "java/util/LinkedList", name := "size", desc := "()I" } : Jvm.MethodName)) ∈ lw_all := lw_g (lw_at lw_m2 119 rfl) rfl
theorem q466 : (Jvm.Cond.code ({ cls := "java/util/LinkedList", name := "size", desc := "()I" } : Jvm.MethodName) prog_86_method_16_code (1 : Nat) (Option.some Jvm.ClassFile.FieldType.int)) ∈ lw_all := lw_g (lw_at lw_m2 120 rfl) rfl
theorem q552 : (Jvm.Cond.selects "java/util/LinkedList" ({ cls := "java/util/AbstractList", name := "get", desc := "(I)Ljava/lang/Object;" } : Jvm.MethodName) ({ cls := "java/util/LinkedList", name := "get", desc := "(I)Ljava/lang/Object;" } : Jvm.MethodName)) ∈ lw_all := lw_g (lw_at lw_m2 206 rfl) rfl
theorem q553 : (Jvm.Cond.instanceMethod ({ cls := "java/util/LinkedList", name := "get", desc := "(I)Ljava/lang/Object;" } : Jvm.MethodName)) ∈ lw_all := lw_g (lw_at lw_m2 207 rfl) rfl
theorem q554 : (Jvm.Cond.code ({ cls := "java/util/LinkedList", name := "get", desc := "(I)Ljava/lang/Object;" } : Jvm.MethodName) prog_86_method_22_code (2 : Nat) (Option.some (Jvm.ClassFile.FieldType.object "java/lang/Object"))) ∈ lw_all := lw_g (lw_at lw_m2 208 rfl) rfl
theorem q555 : (Jvm.Cond.methodLink "java/util/LinkedList" (90 : Nat) ({ cls := "java/util/LinkedList", name := "checkElementIndex", desc := "(I)V" } : Jvm.MethodName)) ∈ lw_all := lw_g (lw_at lw_m2 209 rfl) rfl
theorem q556 : (Jvm.Cond.privateMethod ({ cls := "java/util/LinkedList", name := "checkElementIndex", desc := "(I)V" } : Jvm.MethodName)) ∈ lw_tbl := lw_at lw_m2 210 rfl
theorem q557 : (Jvm.Cond.instanceMethod ({ cls := "java/util/LinkedList", name := "checkElementIndex", desc := "(I)V" } : Jvm.MethodName)) ∈ lw_all := lw_g (lw_at lw_m2 211 rfl) rfl
theorem q558 : (Jvm.Cond.code ({ cls := "java/util/LinkedList", name := "checkElementIndex", desc := "(I)V" } : Jvm.MethodName) prog_86_method_29_code (2 : Nat) (Option.none : Option Jvm.ClassFile.FieldType)) ∈ lw_all := lw_g (lw_at lw_m2 212 rfl) rfl
theorem q559 : (Jvm.Cond.methodLink "java/util/LinkedList" (115 : Nat) ({ cls := "java/util/LinkedList", name := "isElementIndex", desc := "(I)Z" } : Jvm.MethodName)) ∈ lw_all := lw_g (lw_at lw_m2 213 rfl) rfl
theorem q560 : (Jvm.Cond.privateMethod ({ cls := "java/util/LinkedList", name := "isElementIndex", desc := "(I)Z" } : Jvm.MethodName)) ∈ lw_tbl := lw_at lw_m2 214 rfl
theorem q561 : (Jvm.Cond.instanceMethod ({ cls := "java/util/LinkedList", name := "isElementIndex", desc := "(I)Z" } : Jvm.MethodName)) ∈ lw_all := lw_g (lw_at lw_m2 215 rfl) rfl
theorem q562 : (Jvm.Cond.code ({ cls := "java/util/LinkedList", name := "isElementIndex", desc := "(I)Z" } : Jvm.MethodName) prog_86_method_26_code (2 : Nat) (Option.some Jvm.ClassFile.FieldType.boolean)) ∈ lw_all := lw_g (lw_at lw_m2 216 rfl) rfl
theorem q563 : (Jvm.Cond.classLink "java/util/LinkedList" (119 : Nat) "java/lang/IndexOutOfBoundsException") ∈ lw_all := lw_g (lw_at lw_m2 217 rfl) rfl
theorem q612 : (Jvm.Cond.methodLink "java/util/LinkedList" (121 : Nat) ({ cls := "java/util/LinkedList", name := "outOfBoundsMsg", desc := "(I)Ljava/lang/String;" } : Jvm.MethodName)) ∈ lw_all := lw_g (lw_at lw_m3 26 rfl) rfl
theorem q613 : (Jvm.Cond.privateMethod ({ cls := "java/util/LinkedList", name := "outOfBoundsMsg", desc := "(I)Ljava/lang/String;" } : Jvm.MethodName)) ∈ lw_tbl := lw_at lw_m3 27 rfl
theorem q614 : (Jvm.Cond.instanceMethod ({ cls := "java/util/LinkedList", name := "outOfBoundsMsg", desc := "(I)Ljava/lang/String;" } : Jvm.MethodName)) ∈ lw_all := lw_g (lw_at lw_m3 28 rfl) rfl
theorem q615 : (Jvm.Cond.code ({ cls := "java/util/LinkedList", name := "outOfBoundsMsg", desc := "(I)Ljava/lang/String;" } : Jvm.MethodName) prog_86_method_28_code (2 : Nat) (Option.some (Jvm.ClassFile.FieldType.object "java/lang/String"))) ∈ lw_all := lw_g (lw_at lw_m3 29 rfl) rfl
theorem q616 : (Jvm.Cond.classLink "java/util/LinkedList" (97 : Nat) "java/lang/StringBuilder") ∈ lw_all := lw_g (lw_at lw_m3 30 rfl) rfl
theorem q617 : (Jvm.Cond.methodLink "java/util/LinkedList" (99 : Nat) ({ cls := "java/lang/StringBuilder", name := "<init>", desc := "()V" } : Jvm.MethodName)) ∈ lw_all := lw_g (lw_at lw_m3 31 rfl) rfl
theorem q618 : (Jvm.Cond.stringRef "java/util/LinkedList" (100 : Nat) "Index: ") ∈ lw_tbl := lw_at lw_m3 32 rfl
theorem q619 : (Jvm.Cond.methodLink "java/util/LinkedList" (102 : Nat) ({ cls := "java/lang/StringBuilder", name := "append", desc := "(Ljava/lang/String;)Ljava/lang/StringBuilder;" } : Jvm.MethodName)) ∈ lw_all := lw_g (lw_at lw_m3 33 rfl) rfl
theorem q739 : (Jvm.Cond.methodLink "java/util/LinkedList" (106 : Nat) ({ cls := "java/lang/StringBuilder", name := "append", desc := "(I)Ljava/lang/StringBuilder;" } : Jvm.MethodName)) ∈ lw_all := lw_g (lw_at lw_m3 153 rfl) rfl
theorem q764 : (Jvm.Cond.stringRef "java/util/LinkedList" (109 : Nat) ", Size: ") ∈ lw_tbl := lw_at lw_m3 178 rfl
theorem q765 : (Jvm.Cond.methodLink "java/util/LinkedList" (111 : Nat) ({ cls := "java/lang/StringBuilder", name := "toString", desc := "()Ljava/lang/String;" } : Jvm.MethodName)) ∈ lw_all := lw_g (lw_at lw_m3 179 rfl) rfl
theorem q867 : (Jvm.Cond.methodLink "java/util/LinkedList" (125 : Nat) ({ cls := "java/lang/IndexOutOfBoundsException", name := "<init>", desc := "(Ljava/lang/String;)V" } : Jvm.MethodName)) ∈ lw_all := lw_g (lw_at lw_m4 41 rfl) rfl
theorem q873 : (Jvm.Cond.methodLink "java/util/LinkedList" (86 : Nat) ({ cls := "java/util/LinkedList", name := "node", desc := "(I)Ljava/util/LinkedList$Node;" } : Jvm.MethodName)) ∈ lw_all := lw_g (lw_at lw_m4 47 rfl) rfl
theorem q874 : (Jvm.Cond.instanceMethod ({ cls := "java/util/LinkedList", name := "node", desc := "(I)Ljava/util/LinkedList$Node;" } : Jvm.MethodName)) ∈ lw_all := lw_g (lw_at lw_m4 48 rfl) rfl
theorem q875 : (Jvm.Cond.selects "java/util/LinkedList" ({ cls := "java/util/LinkedList", name := "node", desc := "(I)Ljava/util/LinkedList$Node;" } : Jvm.MethodName) ({ cls := "java/util/LinkedList", name := "node", desc := "(I)Ljava/util/LinkedList$Node;" } : Jvm.MethodName)) ∈ lw_all := lw_g (lw_at lw_m4 49 rfl) rfl
theorem q876 : (Jvm.Cond.code ({ cls := "java/util/LinkedList", name := "node", desc := "(I)Ljava/util/LinkedList$Node;" } : Jvm.MethodName) prog_86_method_31_code (4 : Nat) (Option.some (Jvm.ClassFile.FieldType.object "java/util/LinkedList$Node"))) ∈ lw_all := lw_g (lw_at lw_m4 50 rfl) rfl
theorem q965 : (Jvm.Cond.selects "java/util/LinkedList" ({ cls := "java/lang/Object", name := "getClass", desc := "()Ljava/lang/Class;" } : Jvm.MethodName) ({ cls := "java/lang/Object", name := "getClass", desc := "()Ljava/lang/Class;" } : Jvm.MethodName)) ∈ lw_all := lw_g (lw_at lw_m4 139 rfl) rfl
theorem q1101 : (Jvm.Cond.castable "java/util/LinkedList" "java/util/List") ∈ lw_tbl := lw_at lw_m5 35 rfl
theorem q1102 : (Jvm.Cond.selects "java/util/LinkedList" ({ cls := "java/util/List", name := "get", desc := "(I)Ljava/lang/Object;" } : Jvm.MethodName) ({ cls := "java/util/LinkedList", name := "get", desc := "(I)Ljava/lang/Object;" } : Jvm.MethodName)) ∈ lw_all := lw_g (lw_at lw_m5 36 rfl) rfl
theorem q1103 : (Jvm.Cond.unhidden "java/util/LinkedList" "get" "(I)Ljava/lang/Object;") ∈ lw_tbl := lw_at lw_m5 37 rfl
theorem q1104 : (Jvm.Cond.publicMethod ({ cls := "java/util/LinkedList", name := "get", desc := "(I)Ljava/lang/Object;" } : Jvm.MethodName)) ∈ lw_tbl := lw_at lw_m5 38 rfl
theorem q1317 : (Jvm.Cond.sameMethod "java/util/LinkedList" "java/util/AbstractSequentialList" "iterator" "()Ljava/util/Iterator;") ∈ lw_all := lw_g (lw_at lw_m6 11 rfl) rfl
theorem q1319 : (Jvm.Cond.selects "java/util/LinkedList" ({ cls := "java/util/LinkedList", name := "iterator", desc := "()Ljava/util/Iterator;" } : Jvm.MethodName) ({ cls := "java/util/AbstractSequentialList", name := "iterator", desc := "()Ljava/util/Iterator;" } : Jvm.MethodName)) ∈ lw_all := lw_g (lw_at lw_m6 13 rfl) rfl
theorem q1325 : (Jvm.Cond.selects "java/util/LinkedList" ({ cls := "java/util/AbstractSequentialList", name := "listIterator", desc := "()Ljava/util/ListIterator;" } : Jvm.MethodName) ({ cls := "java/util/AbstractList", name := "listIterator", desc := "()Ljava/util/ListIterator;" } : Jvm.MethodName)) ∈ lw_all := lw_g (lw_at lw_m6 19 rfl) rfl
theorem q1365 : (Jvm.Cond.selects "java/util/LinkedList" ({ cls := "java/util/AbstractList", name := "listIterator", desc := "(I)Ljava/util/ListIterator;" } : Jvm.MethodName) ({ cls := "java/util/LinkedList", name := "listIterator", desc := "(I)Ljava/util/ListIterator;" } : Jvm.MethodName)) ∈ lw_all := lw_g (lw_at lw_m6 59 rfl) rfl
theorem q1366 : (Jvm.Cond.instanceMethod ({ cls := "java/util/LinkedList", name := "listIterator", desc := "(I)Ljava/util/ListIterator;" } : Jvm.MethodName)) ∈ lw_all := lw_g (lw_at lw_m6 60 rfl) rfl
theorem q1367 : (Jvm.Cond.code ({ cls := "java/util/LinkedList", name := "listIterator", desc := "(I)Ljava/util/ListIterator;" } : Jvm.MethodName) prog_86_method_49_code (2 : Nat) (Option.some (Jvm.ClassFile.FieldType.object "java/util/ListIterator"))) ∈ lw_all := lw_g (lw_at lw_m6 61 rfl) rfl
theorem q1368 : (Jvm.Cond.methodLink "java/util/LinkedList" (76 : Nat) ({ cls := "java/util/LinkedList", name := "checkPositionIndex", desc := "(I)V" } : Jvm.MethodName)) ∈ lw_all := lw_g (lw_at lw_m6 62 rfl) rfl
theorem q1369 : (Jvm.Cond.privateMethod ({ cls := "java/util/LinkedList", name := "checkPositionIndex", desc := "(I)V" } : Jvm.MethodName)) ∈ lw_tbl := lw_at lw_m6 63 rfl
theorem q1370 : (Jvm.Cond.instanceMethod ({ cls := "java/util/LinkedList", name := "checkPositionIndex", desc := "(I)V" } : Jvm.MethodName)) ∈ lw_all := lw_g (lw_at lw_m6 64 rfl) rfl
theorem q1371 : (Jvm.Cond.code ({ cls := "java/util/LinkedList", name := "checkPositionIndex", desc := "(I)V" } : Jvm.MethodName) prog_86_method_30_code (2 : Nat) (Option.none : Option Jvm.ClassFile.FieldType)) ∈ lw_all := lw_g (lw_at lw_m6 65 rfl) rfl
theorem q1372 : (Jvm.Cond.methodLink "java/util/LinkedList" (128 : Nat) ({ cls := "java/util/LinkedList", name := "isPositionIndex", desc := "(I)Z" } : Jvm.MethodName)) ∈ lw_all := lw_g (lw_at lw_m6 66 rfl) rfl
theorem q1373 : (Jvm.Cond.privateMethod ({ cls := "java/util/LinkedList", name := "isPositionIndex", desc := "(I)Z" } : Jvm.MethodName)) ∈ lw_tbl := lw_at lw_m6 67 rfl
theorem q1374 : (Jvm.Cond.instanceMethod ({ cls := "java/util/LinkedList", name := "isPositionIndex", desc := "(I)Z" } : Jvm.MethodName)) ∈ lw_all := lw_g (lw_at lw_m6 68 rfl) rfl
theorem q1375 : (Jvm.Cond.code ({ cls := "java/util/LinkedList", name := "isPositionIndex", desc := "(I)Z" } : Jvm.MethodName) prog_86_method_27_code (2 : Nat) (Option.some Jvm.ClassFile.FieldType.boolean)) ∈ lw_all := lw_g (lw_at lw_m6 69 rfl) rfl
theorem q1376 : (Jvm.Cond.classLink "java/util/LinkedList" (150 : Nat) "java/util/LinkedList$ListItr") ∈ lw_all := lw_g (lw_at lw_m6 70 rfl) rfl
theorem q1378 : (Jvm.Cond.methodLink "java/util/LinkedList" (152 : Nat) ({ cls := "java/util/LinkedList$ListItr", name := "<init>", desc := "(Ljava/util/LinkedList;I)V" } : Jvm.MethodName)) ∈ lw_all := lw_g (lw_at lw_m6 72 rfl) rfl
theorem q1418 : (Jvm.Cond.instanceMethod ({ cls := "java/util/LinkedList", name := "addLast", desc := "(Ljava/lang/Object;)V" } : Jvm.MethodName)) ∈ lw_all := lw_g (lw_at lw_m6 112 rfl) rfl
theorem q1419 : (Jvm.Cond.selects "java/util/LinkedList" ({ cls := "java/util/LinkedList", name := "addLast", desc := "(Ljava/lang/Object;)V" } : Jvm.MethodName) ({ cls := "java/util/LinkedList", name := "addLast", desc := "(Ljava/lang/Object;)V" } : Jvm.MethodName)) ∈ lw_all := lw_g (lw_at lw_m6 113 rfl) rfl
theorem q1420 : (Jvm.Cond.code ({ cls := "java/util/LinkedList", name := "addLast", desc := "(Ljava/lang/Object;)V" } : Jvm.MethodName) prog_86_method_14_code (2 : Nat) (Option.none : Option Jvm.ClassFile.FieldType)) ∈ lw_all := lw_g (lw_at lw_m6 114 rfl) rfl
theorem q1421 : (Jvm.Cond.methodLink "java/util/LinkedList" (57 : Nat) ({ cls := "java/util/LinkedList", name := "linkLast", desc := "(Ljava/lang/Object;)V" } : Jvm.MethodName)) ∈ lw_all := lw_g (lw_at lw_m6 115 rfl) rfl
theorem q1422 : (Jvm.Cond.instanceMethod ({ cls := "java/util/LinkedList", name := "linkLast", desc := "(Ljava/lang/Object;)V" } : Jvm.MethodName)) ∈ lw_all := lw_g (lw_at lw_m6 116 rfl) rfl
theorem q1423 : (Jvm.Cond.selects "java/util/LinkedList" ({ cls := "java/util/LinkedList", name := "linkLast", desc := "(Ljava/lang/Object;)V" } : Jvm.MethodName) ({ cls := "java/util/LinkedList", name := "linkLast", desc := "(Ljava/lang/Object;)V" } : Jvm.MethodName)) ∈ lw_all := lw_g (lw_at lw_m6 117 rfl) rfl
theorem q1424 : (Jvm.Cond.code ({ cls := "java/util/LinkedList", name := "linkLast", desc := "(Ljava/lang/Object;)V" } : Jvm.MethodName) prog_86_method_4_code (4 : Nat) (Option.none : Option Jvm.ClassFile.FieldType)) ∈ lw_all := lw_g (lw_at lw_m6 118 rfl) rfl
theorem q1425 : (Jvm.Cond.classLink "java/util/LinkedList" (22 : Nat) "java/util/LinkedList$Node") ∈ lw_all := lw_g (lw_at lw_m6 119 rfl) rfl
theorem q1427 : (Jvm.Cond.methodLink "java/util/LinkedList" (24 : Nat) ({ cls := "java/util/LinkedList$Node", name := "<init>", desc := "(Ljava/util/LinkedList$Node;Ljava/lang/Object;Ljava/util/LinkedList$Node;)V" } : Jvm.MethodName)) ∈ lw_all := lw_g (lw_at lw_m6 121 rfl) rfl
theorem q1433 : (Jvm.Cond.fieldLink "java/util/LinkedList" (39 : Nat) "java/util/LinkedList$Node" "item" "Ljava/lang/Object;") ∈ lw_all := lw_g (lw_at lw_m6 127 rfl) rfl
theorem q1436 : (Jvm.Cond.fieldLink "java/util/LinkedList" (36 : Nat) "java/util/LinkedList$Node" "next" "Ljava/util/LinkedList$Node;") ∈ lw_all := lw_g (lw_at lw_m6 130 rfl) rfl
theorem q1438 : (Jvm.Cond.fieldLink "java/util/LinkedList" (30 : Nat) "java/util/LinkedList$Node" "prev" "Ljava/util/LinkedList$Node;") ∈ lw_all := lw_g (lw_at lw_m6 132 rfl) rfl
theorem q1629 : (Jvm.Cond.instanceMethod ({ cls := "java/util/LinkedList", name := "remove", desc := "(I)Ljava/lang/Object;" } : Jvm.MethodName)) ∈ lw_all := lw_g (lw_at lw_m7 83 rfl) rfl
theorem q1630 : (Jvm.Cond.selects "java/util/LinkedList" ({ cls := "java/util/LinkedList", name := "remove", desc := "(I)Ljava/lang/Object;" } : Jvm.MethodName) ({ cls := "java/util/LinkedList", name := "remove", desc := "(I)Ljava/lang/Object;" } : Jvm.MethodName)) ∈ lw_all := lw_g (lw_at lw_m7 84 rfl) rfl
theorem q1631 : (Jvm.Cond.code ({ cls := "java/util/LinkedList", name := "remove", desc := "(I)Ljava/lang/Object;" } : Jvm.MethodName) prog_86_method_25_code (2 : Nat) (Option.some (Jvm.ClassFile.FieldType.object "java/lang/Object"))) ∈ lw_all := lw_g (lw_at lw_m7 85 rfl) rfl
theorem q1632 : (Jvm.Cond.methodLink "java/util/LinkedList" (64 : Nat) ({ cls := "java/util/LinkedList", name := "unlink", desc := "(Ljava/util/LinkedList$Node;)Ljava/lang/Object;" } : Jvm.MethodName)) ∈ lw_all := lw_g (lw_at lw_m7 86 rfl) rfl
theorem q1633 : (Jvm.Cond.instanceMethod ({ cls := "java/util/LinkedList", name := "unlink", desc := "(Ljava/util/LinkedList$Node;)Ljava/lang/Object;" } : Jvm.MethodName)) ∈ lw_all := lw_g (lw_at lw_m7 87 rfl) rfl
theorem q1634 : (Jvm.Cond.selects "java/util/LinkedList" ({ cls := "java/util/LinkedList", name := "unlink", desc := "(Ljava/util/LinkedList$Node;)Ljava/lang/Object;" } : Jvm.MethodName) ({ cls := "java/util/LinkedList", name := "unlink", desc := "(Ljava/util/LinkedList$Node;)Ljava/lang/Object;" } : Jvm.MethodName)) ∈ lw_all := lw_g (lw_at lw_m7 88 rfl) rfl
theorem q1635 : (Jvm.Cond.code ({ cls := "java/util/LinkedList", name := "unlink", desc := "(Ljava/util/LinkedList$Node;)Ljava/lang/Object;" } : Jvm.MethodName) prog_86_method_8_code (5 : Nat) (Option.some (Jvm.ClassFile.FieldType.object "java/lang/Object"))) ∈ lw_all := lw_g (lw_at lw_m7 89 rfl) rfl
theorem q1823 : (Jvm.Cond.selects "java/util/LinkedList" ({ cls := "java/util/AbstractList", name := "remove", desc := "(I)Ljava/lang/Object;" } : Jvm.MethodName) ({ cls := "java/util/LinkedList", name := "remove", desc := "(I)Ljava/lang/Object;" } : Jvm.MethodName)) ∈ lw_all := lw_g (lw_at lw_m8 37 rfl) rfl
theorem q2557 : (Jvm.Cond.castable "java/util/LinkedList" "java/util/Collection") ∈ lw_tbl := lw_at lw_m11 51 rfl
theorem q2558 : (Jvm.Cond.selects "java/util/LinkedList" ({ cls := "java/util/Collection", name := "iterator", desc := "()Ljava/util/Iterator;" } : Jvm.MethodName) ({ cls := "java/util/AbstractSequentialList", name := "iterator", desc := "()Ljava/util/Iterator;" } : Jvm.MethodName)) ∈ lw_all := lw_g (lw_at lw_m11 52 rfl) rfl
theorem q2559 : (Jvm.Cond.unhidden "java/util/LinkedList" "iterator" "()Ljava/util/Iterator;") ∈ lw_tbl := lw_at lw_m11 53 rfl
theorem q3305 : (Jvm.Cond.selects "java/util/LinkedList" ({ cls := "java/util/List", name := "iterator", desc := "()Ljava/util/Iterator;" } : Jvm.MethodName) ({ cls := "java/util/AbstractSequentialList", name := "iterator", desc := "()Ljava/util/Iterator;" } : Jvm.MethodName)) ∈ lw_all := lw_g (lw_at lw_m14 79 rfl) rfl
theorem q3966 : (Jvm.Cond.selects "java/util/LinkedList" ({ cls := "java/util/LinkedList", name := "size", desc := "()I" } : Jvm.MethodName) ({ cls := "java/util/LinkedList", name := "size", desc := "()I" } : Jvm.MethodName)) ∈ lw_all := lw_g (lw_at lw_m17 20 rfl) rfl
theorem q3968 : (Jvm.Cond.selects "java/util/LinkedList" ({ cls := "java/util/LinkedList", name := "get", desc := "(I)Ljava/lang/Object;" } : Jvm.MethodName) ({ cls := "java/util/LinkedList", name := "get", desc := "(I)Ljava/lang/Object;" } : Jvm.MethodName)) ∈ lw_all := lw_g (lw_at lw_m17 22 rfl) rfl
theorem q3979 : (Jvm.Cond.castable "java/util/LinkedList" "java/lang/Object") ∈ lw_tbl := lw_at lw_m17 33 rfl
theorem in_J4 : ∀ w ∈ wsJ40, w ∈ lw_all := lw_in wsJ40 [261, 255, 257, 259] (by decide +kernel) (by decide +kernel)

/-! java/util/ArrayDeque -/
set_option maxRecDepth 100000
def RJ5 : String := "java/util/ArrayDeque"
def TJ5 : u_T := fun k => match k with
  | 0 => ("java/util/ArrayDeque", "elements", "[Ljava/lang/Object;", false)
  | 1 => ("java/util/ArrayDeque", "head", "I", false)
  | _ => ("java/util/ArrayDeque", "tail", "I", false)
def tyJ5 : Nat → FieldType := fun k => match k with
  | 0 => .array (.object "java/lang/Object")
  | 1 => .int
  | _ => .int
abbrev wsJ50 : List Cond := u_ws RJ5 TJ5 3
theorem nmJ5 : ∀ a, a < 3 → ∀ b, b < 3 → a ≠ b → (TJ5 a).2.1 ≠ (TJ5 b).2.1 := by decide +kernel
theorem tyJ5_ok : ∀ k, k < 3 → parseFieldDescriptor (TJ5 k).2.2.1 = some (tyJ5 k) := by decide +kernel
abbrev cJ5_init : ByteArray := prog_69_method_3_code
def yJ5_init : MethodName := ⟨RJ5, "<init>", "()V"⟩
def dkwJ5_init_0 : List UInt8 := [42, 183, 0, 42, 42, 16, 17, 189, 0, 47, 181, 0, 3, 177]
abbrev dktJ5_init_0 : List UInt8 := dkwJ5_init_0 ++ []
theorem dksJ5_init_0 : cJ5_init.data.toList.drop 0 = dktJ5_init_0 := by decide +kernel
theorem dJ5_init_0 : decode cJ5_init 0 = .ok (.aload_n 0, 1) := dk_42 (dk_at dksJ5_init_0 0 rfl rfl)
theorem dJ5_init_1 : decode cJ5_init 1 = .ok (.invokespecial 42, 3) := dk_183 0 42 (dk_at dksJ5_init_0 1 rfl rfl)
theorem dJ5_init_4 : decode cJ5_init 4 = .ok (.aload_n 0, 1) := dk_42 (dk_at dksJ5_init_0 4 rfl rfl)
theorem dJ5_init_5 : decode cJ5_init 5 = .ok (.bipush 17, 2) := dk_16 17 (dk_at dksJ5_init_0 5 rfl rfl)
theorem dJ5_init_7 : decode cJ5_init 7 = .ok (.anewarray 47, 3) := dk_189 0 47 (dk_at dksJ5_init_0 7 rfl rfl)
theorem dJ5_init_10 : decode cJ5_init 10 = .ok (.putfield 3, 3) := dk_181 0 3 (dk_at dksJ5_init_0 10 rfl rfl)
theorem dJ5_init_13 : decode cJ5_init 13 = .ok (.return_, 1) := dk_177 (dk_at dksJ5_init_0 13 rfl rfl)
abbrev cJ5_isEmpty : ByteArray := prog_69_method_38_code
def yJ5_isEmpty : MethodName := ⟨RJ5, "isEmpty", "()Z"⟩
def dkwJ5_isEmpty_0 : List UInt8 := [42, 180, 0, 24, 42, 180, 0, 20, 160, 0, 7, 4, 167, 0, 4, 3, 172]
abbrev dktJ5_isEmpty_0 : List UInt8 := dkwJ5_isEmpty_0 ++ []
theorem dksJ5_isEmpty_0 : cJ5_isEmpty.data.toList.drop 0 = dktJ5_isEmpty_0 := by decide +kernel
theorem dJ5_isEmpty_0 : decode cJ5_isEmpty 0 = .ok (.aload_n 0, 1) := dk_42 (dk_at dksJ5_isEmpty_0 0 rfl rfl)
theorem dJ5_isEmpty_1 : decode cJ5_isEmpty 1 = .ok (.getfield 24, 3) := dk_180 0 24 (dk_at dksJ5_isEmpty_0 1 rfl rfl)
theorem dJ5_isEmpty_4 : decode cJ5_isEmpty 4 = .ok (.aload_n 0, 1) := dk_42 (dk_at dksJ5_isEmpty_0 4 rfl rfl)
theorem dJ5_isEmpty_5 : decode cJ5_isEmpty 5 = .ok (.getfield 20, 3) := dk_180 0 20 (dk_at dksJ5_isEmpty_0 5 rfl rfl)
theorem dJ5_isEmpty_8 : decode cJ5_isEmpty 8 = .ok (.if_icmp .ne 7, 3) := dk_160 0 7 (dk_at dksJ5_isEmpty_0 8 rfl rfl)
theorem dJ5_isEmpty_11 : decode cJ5_isEmpty 11 = .ok (.iconst 1, 1) := dk_4 (dk_at dksJ5_isEmpty_0 11 rfl rfl)
theorem dJ5_isEmpty_12 : decode cJ5_isEmpty 12 = .ok (.goto 4, 3) := dk_167 0 4 (dk_at dksJ5_isEmpty_0 12 rfl rfl)
theorem dJ5_isEmpty_15 : decode cJ5_isEmpty 15 = .ok (.iconst 0, 1) := dk_3 (dk_at dksJ5_isEmpty_0 15 rfl rfl)
theorem dJ5_isEmpty_16 : decode cJ5_isEmpty 16 = .ok (.ireturn, 1) := dk_172 (dk_at dksJ5_isEmpty_0 16 rfl rfl)
abbrev cJ5_nonNullElementAt : ByteArray := prog_69_method_11_code
def yJ5_nonNullElementAt : MethodName := ⟨RJ5, "nonNullElementAt", "([Ljava/lang/Object;I)Ljava/lang/Object;"⟩
def dkwJ5_nonNullElementAt_0 : List UInt8 := [42, 27, 50, 77, 44, 199, 0, 11, 187, 0, 62, 89, 183, 0, 64, 191, 44, 176]
abbrev dktJ5_nonNullElementAt_0 : List UInt8 := dkwJ5_nonNullElementAt_0 ++ []
theorem dksJ5_nonNullElementAt_0 : cJ5_nonNullElementAt.data.toList.drop 0 = dktJ5_nonNullElementAt_0 := by decide +kernel
theorem dJ5_nonNullElementAt_0 : decode cJ5_nonNullElementAt 0 = .ok (.aload_n 0, 1) := dk_42 (dk_at dksJ5_nonNullElementAt_0 0 rfl rfl)
theorem dJ5_nonNullElementAt_1 : decode cJ5_nonNullElementAt 1 = .ok (.iload_n 1, 1) := dk_27 (dk_at dksJ5_nonNullElementAt_0 1 rfl rfl)
theorem dJ5_nonNullElementAt_2 : decode cJ5_nonNullElementAt 2 = .ok (.aaload, 1) := dk_50 (dk_at dksJ5_nonNullElementAt_0 2 rfl rfl)
theorem dJ5_nonNullElementAt_3 : decode cJ5_nonNullElementAt 3 = .ok (.astore_n 2, 1) := dk_77 (dk_at dksJ5_nonNullElementAt_0 3 rfl rfl)
theorem dJ5_nonNullElementAt_4 : decode cJ5_nonNullElementAt 4 = .ok (.aload_n 2, 1) := dk_44 (dk_at dksJ5_nonNullElementAt_0 4 rfl rfl)
theorem dJ5_nonNullElementAt_5 : decode cJ5_nonNullElementAt 5 = .ok (.ifnonnull 11, 3) := dk_199 0 11 (dk_at dksJ5_nonNullElementAt_0 5 rfl rfl)
theorem dJ5_nonNullElementAt_8 : decode cJ5_nonNullElementAt 8 = .ok (.new 62, 3) := dk_187 0 62 (dk_at dksJ5_nonNullElementAt_0 8 rfl rfl)
theorem dJ5_nonNullElementAt_11 : decode cJ5_nonNullElementAt 11 = .ok (.dup, 1) := dk_89 (dk_at dksJ5_nonNullElementAt_0 11 rfl rfl)
theorem dJ5_nonNullElementAt_12 : decode cJ5_nonNullElementAt 12 = .ok (.invokespecial 64, 3) := dk_183 0 64 (dk_at dksJ5_nonNullElementAt_0 12 rfl rfl)
theorem dJ5_nonNullElementAt_15 : decode cJ5_nonNullElementAt 15 = .ok (.athrow, 1) := dk_191 (dk_at dksJ5_nonNullElementAt_0 15 rfl rfl)
theorem dJ5_nonNullElementAt_16 : decode cJ5_nonNullElementAt 16 = .ok (.aload_n 2, 1) := dk_44 (dk_at dksJ5_nonNullElementAt_0 16 rfl rfl)
theorem dJ5_nonNullElementAt_17 : decode cJ5_nonNullElementAt 17 = .ok (.areturn, 1) := dk_176 (dk_at dksJ5_nonNullElementAt_0 17 rfl rfl)
abbrev cJ5_inc : ByteArray := prog_69_method_6_code
def yJ5_inc : MethodName := ⟨RJ5, "inc", "(II)I"⟩
def dkwJ5_inc_0 : List UInt8 := [132, 0, 1, 26, 27, 161, 0, 5, 3, 59, 26, 172]
abbrev dktJ5_inc_0 : List UInt8 := dkwJ5_inc_0 ++ []
theorem dksJ5_inc_0 : cJ5_inc.data.toList.drop 0 = dktJ5_inc_0 := by decide +kernel
theorem dJ5_inc_0 : decode cJ5_inc 0 = .ok (.iinc 0 1, 3) := dk_132 0 1 (dk_at dksJ5_inc_0 0 rfl rfl)
theorem dJ5_inc_3 : decode cJ5_inc 3 = .ok (.iload_n 0, 1) := dk_26 (dk_at dksJ5_inc_0 3 rfl rfl)
theorem dJ5_inc_4 : decode cJ5_inc 4 = .ok (.iload_n 1, 1) := dk_27 (dk_at dksJ5_inc_0 4 rfl rfl)
theorem dJ5_inc_5 : decode cJ5_inc 5 = .ok (.if_icmp .lt 5, 3) := dk_161 0 5 (dk_at dksJ5_inc_0 5 rfl rfl)
theorem dJ5_inc_8 : decode cJ5_inc 8 = .ok (.iconst 0, 1) := dk_3 (dk_at dksJ5_inc_0 8 rfl rfl)
theorem dJ5_inc_9 : decode cJ5_inc 9 = .ok (.istore_n 0, 1) := dk_59 (dk_at dksJ5_inc_0 9 rfl rfl)
theorem dJ5_inc_10 : decode cJ5_inc 10 = .ok (.iload_n 0, 1) := dk_26 (dk_at dksJ5_inc_0 10 rfl rfl)
theorem dJ5_inc_11 : decode cJ5_inc 11 = .ok (.ireturn, 1) := dk_172 (dk_at dksJ5_inc_0 11 rfl rfl)
abbrev cJ5_poll : ByteArray := prog_69_method_31_code
def yJ5_poll : MethodName := ⟨RJ5, "poll", "()Ljava/lang/Object;"⟩
theorem dJ5_poll_0 : decode cJ5_poll 0 = .ok (.aload_n 0, 1) := by decide +kernel
theorem dJ5_poll_1 : decode cJ5_poll 1 = .ok (.invokevirtual 93, 3) := by decide +kernel
theorem dJ5_poll_4 : decode cJ5_poll 4 = .ok (.areturn, 1) := by decide +kernel
abbrev cJ5_pollFirst : ByteArray := prog_69_method_20_code
def yJ5_pollFirst : MethodName := ⟨RJ5, "pollFirst", "()Ljava/lang/Object;"⟩
def dkwJ5_pollFirst_1 : List UInt8 := [42, 28, 43, 190, 184, 0, 74, 181, 0, 24, 45, 176]
abbrev dktJ5_pollFirst_1 : List UInt8 := dkwJ5_pollFirst_1 ++ []
def dkwJ5_pollFirst_0 : List UInt8 := [42, 180, 0, 3, 89, 76, 42, 180, 0, 24, 89, 61, 184, 0, 103, 78, 45, 198, 0, 17, 43, 28, 1, 83]
abbrev dktJ5_pollFirst_0 : List UInt8 := dkwJ5_pollFirst_0 ++ dktJ5_pollFirst_1
theorem dksJ5_pollFirst_0 : cJ5_pollFirst.data.toList.drop 0 = dktJ5_pollFirst_0 := by decide +kernel
theorem dksJ5_pollFirst_1 : cJ5_pollFirst.data.toList.drop 24 = dktJ5_pollFirst_1 := dk_seg dksJ5_pollFirst_0 24 rfl rfl
theorem dJ5_pollFirst_0 : decode cJ5_pollFirst 0 = .ok (.aload_n 0, 1) := dk_42 (dk_at dksJ5_pollFirst_0 0 rfl rfl)
theorem dJ5_pollFirst_1 : decode cJ5_pollFirst 1 = .ok (.getfield 3, 3) := dk_180 0 3 (dk_at dksJ5_pollFirst_0 1 rfl rfl)
theorem dJ5_pollFirst_4 : decode cJ5_pollFirst 4 = .ok (.dup, 1) := dk_89 (dk_at dksJ5_pollFirst_0 4 rfl rfl)
theorem dJ5_pollFirst_5 : decode cJ5_pollFirst 5 = .ok (.astore_n 1, 1) := dk_76 (dk_at dksJ5_pollFirst_0 5 rfl rfl)
theorem dJ5_pollFirst_6 : decode cJ5_pollFirst 6 = .ok (.aload_n 0, 1) := dk_42 (dk_at dksJ5_pollFirst_0 6 rfl rfl)
theorem dJ5_pollFirst_7 : decode cJ5_pollFirst 7 = .ok (.getfield 24, 3) := dk_180 0 24 (dk_at dksJ5_pollFirst_0 7 rfl rfl)
theorem dJ5_pollFirst_10 : decode cJ5_pollFirst 10 = .ok (.dup, 1) := dk_89 (dk_at dksJ5_pollFirst_0 10 rfl rfl)
theorem dJ5_pollFirst_11 : decode cJ5_pollFirst 11 = .ok (.istore_n 2, 1) := dk_61 (dk_at dksJ5_pollFirst_0 11 rfl rfl)
theorem dJ5_pollFirst_12 : decode cJ5_pollFirst 12 = .ok (.invokestatic 103, 3) := dk_184 0 103 (dk_at dksJ5_pollFirst_0 12 rfl rfl)
theorem dJ5_pollFirst_15 : decode cJ5_pollFirst 15 = .ok (.astore_n 3, 1) := dk_78 (dk_at dksJ5_pollFirst_0 15 rfl rfl)
theorem dJ5_pollFirst_16 : decode cJ5_pollFirst 16 = .ok (.aload_n 3, 1) := dk_45 (dk_at dksJ5_pollFirst_0 16 rfl rfl)
theorem dJ5_pollFirst_17 : decode cJ5_pollFirst 17 = .ok (.ifnull 17, 3) := dk_198 0 17 (dk_at dksJ5_pollFirst_0 17 rfl rfl)
theorem dJ5_pollFirst_20 : decode cJ5_pollFirst 20 = .ok (.aload_n 1, 1) := dk_43 (dk_at dksJ5_pollFirst_0 20 rfl rfl)
theorem dJ5_pollFirst_21 : decode cJ5_pollFirst 21 = .ok (.iload_n 2, 1) := dk_28 (dk_at dksJ5_pollFirst_0 21 rfl rfl)
theorem dJ5_pollFirst_22 : decode cJ5_pollFirst 22 = .ok (.aconst_null, 1) := dk_1 (dk_at dksJ5_pollFirst_0 22 rfl rfl)
theorem dJ5_pollFirst_23 : decode cJ5_pollFirst 23 = .ok (.aastore, 1) := dk_83 (dk_at dksJ5_pollFirst_0 23 rfl rfl)
theorem dJ5_pollFirst_24 : decode cJ5_pollFirst 24 = .ok (.aload_n 0, 1) := dk_42 (dk_at dksJ5_pollFirst_1 0 rfl rfl)
theorem dJ5_pollFirst_25 : decode cJ5_pollFirst 25 = .ok (.iload_n 2, 1) := dk_28 (dk_at dksJ5_pollFirst_1 1 rfl rfl)
theorem dJ5_pollFirst_26 : decode cJ5_pollFirst 26 = .ok (.aload_n 1, 1) := dk_43 (dk_at dksJ5_pollFirst_1 2 rfl rfl)
theorem dJ5_pollFirst_27 : decode cJ5_pollFirst 27 = .ok (.arraylength, 1) := dk_190 (dk_at dksJ5_pollFirst_1 3 rfl rfl)
theorem dJ5_pollFirst_28 : decode cJ5_pollFirst 28 = .ok (.invokestatic 74, 3) := dk_184 0 74 (dk_at dksJ5_pollFirst_1 4 rfl rfl)
theorem dJ5_pollFirst_31 : decode cJ5_pollFirst 31 = .ok (.putfield 24, 3) := dk_181 0 24 (dk_at dksJ5_pollFirst_1 7 rfl rfl)
theorem dJ5_pollFirst_34 : decode cJ5_pollFirst 34 = .ok (.aload_n 3, 1) := dk_45 (dk_at dksJ5_pollFirst_1 10 rfl rfl)
theorem dJ5_pollFirst_35 : decode cJ5_pollFirst 35 = .ok (.areturn, 1) := dk_176 (dk_at dksJ5_pollFirst_1 11 rfl rfl)
abbrev cJ5_elementAt : ByteArray := prog_69_method_10_code
def yJ5_elementAt : MethodName := ⟨RJ5, "elementAt", "([Ljava/lang/Object;I)Ljava/lang/Object;"⟩
def dkwJ5_elementAt_0 : List UInt8 := [42, 27, 50, 176]
abbrev dktJ5_elementAt_0 : List UInt8 := dkwJ5_elementAt_0 ++ []
theorem dksJ5_elementAt_0 : cJ5_elementAt.data.toList.drop 0 = dktJ5_elementAt_0 := by decide +kernel
theorem dJ5_elementAt_0 : decode cJ5_elementAt 0 = .ok (.aload_n 0, 1) := dk_42 (dk_at dksJ5_elementAt_0 0 rfl rfl)
theorem dJ5_elementAt_1 : decode cJ5_elementAt 1 = .ok (.iload_n 1, 1) := dk_27 (dk_at dksJ5_elementAt_0 1 rfl rfl)
theorem dJ5_elementAt_2 : decode cJ5_elementAt 2 = .ok (.aaload, 1) := dk_50 (dk_at dksJ5_elementAt_0 2 rfl rfl)
theorem dJ5_elementAt_3 : decode cJ5_elementAt 3 = .ok (.areturn, 1) := dk_176 (dk_at dksJ5_elementAt_0 3 rfl rfl)
abbrev cJ5_delete : ByteArray := prog_69_method_36_code
def yJ5_delete : MethodName := ⟨RJ5, "delete", "(I)Z"⟩
def dkwJ5_delete_8 : List UInt8 := [4, 172]
abbrev dktJ5_delete_8 : List UInt8 := dkwJ5_delete_8 ++ []
def dkwJ5_delete_7 : List UInt8 := [4, 100, 44, 3, 50, 83, 44, 4, 44, 3, 21, 5, 4, 100, 184, 0, 27, 44, 42, 180, 0, 20, 1, 83]
abbrev dktJ5_delete_7 : List UInt8 := dkwJ5_delete_7 ++ dktJ5_delete_8
def dkwJ5_delete_6 : List UInt8 := [21, 7, 184, 0, 27, 167, 0, 36, 44, 27, 4, 96, 44, 27, 29, 27, 4, 96, 100, 184, 0, 27, 44, 29]
abbrev dktJ5_delete_6 : List UInt8 := dkwJ5_delete_6 ++ dktJ5_delete_7
def dkwJ5_delete_5 : List UInt8 := [21, 5, 29, 184, 0, 68, 181, 0, 20, 27, 42, 180, 0, 20, 163, 0, 17, 44, 27, 4, 96, 44, 27]
abbrev dktJ5_delete_5 : List UInt8 := dkwJ5_delete_5 ++ dktJ5_delete_6
def dkwJ5_delete_4 : List UInt8 := [96, 100, 184, 0, 27, 44, 21, 4, 1, 83, 42, 21, 4, 29, 184, 0, 74, 181, 0, 24, 3, 172, 42]
abbrev dktJ5_delete_4 : List UInt8 := dkwJ5_delete_4 ++ dktJ5_delete_5
def dkwJ5_delete_3 : List UInt8 := [27, 184, 0, 27, 44, 3, 44, 29, 4, 100, 50, 83, 44, 21, 4, 44, 21, 4, 4, 96, 21, 6, 27, 4]
abbrev dktJ5_delete_3 : List UInt8 := dkwJ5_delete_3 ++ dktJ5_delete_4
def dkwJ5_delete_2 : List UInt8 := [27, 163, 0, 19, 44, 21, 4, 44, 21, 4, 4, 96, 21, 6, 184, 0, 27, 167, 0, 36, 44, 3, 44, 4]
abbrev dktJ5_delete_2 : List UInt8 := dkwJ5_delete_2 ++ dktJ5_delete_3
def dkwJ5_delete_1 : List UInt8 := [180, 0, 20, 89, 54, 5, 27, 29, 184, 0, 127, 4, 100, 54, 7, 21, 6, 21, 7, 162, 0, 75, 21, 4]
abbrev dktJ5_delete_1 : List UInt8 := dkwJ5_delete_1 ++ dktJ5_delete_2
def dkwJ5_delete_0 : List UInt8 := [42, 180, 0, 3, 77, 44, 190, 62, 27, 42, 180, 0, 24, 89, 54, 4, 29, 184, 0, 127, 54, 6, 42]
abbrev dktJ5_delete_0 : List UInt8 := dkwJ5_delete_0 ++ dktJ5_delete_1
theorem dksJ5_delete_0 : cJ5_delete.data.toList.drop 0 = dktJ5_delete_0 := by decide +kernel
theorem dksJ5_delete_1 : cJ5_delete.data.toList.drop 23 = dktJ5_delete_1 := dk_seg dksJ5_delete_0 23 rfl rfl
theorem dksJ5_delete_2 : cJ5_delete.data.toList.drop 47 = dktJ5_delete_2 := dk_seg dksJ5_delete_1 24 rfl rfl
theorem dksJ5_delete_3 : cJ5_delete.data.toList.drop 71 = dktJ5_delete_3 := dk_seg dksJ5_delete_2 24 rfl rfl
theorem dksJ5_delete_4 : cJ5_delete.data.toList.drop 95 = dktJ5_delete_4 := dk_seg dksJ5_delete_3 24 rfl rfl
theorem dksJ5_delete_5 : cJ5_delete.data.toList.drop 118 = dktJ5_delete_5 := dk_seg dksJ5_delete_4 23 rfl rfl
theorem dksJ5_delete_6 : cJ5_delete.data.toList.drop 141 = dktJ5_delete_6 := dk_seg dksJ5_delete_5 23 rfl rfl
theorem dksJ5_delete_7 : cJ5_delete.data.toList.drop 165 = dktJ5_delete_7 := dk_seg dksJ5_delete_6 24 rfl rfl
theorem dksJ5_delete_8 : cJ5_delete.data.toList.drop 189 = dktJ5_delete_8 := dk_seg dksJ5_delete_7 24 rfl rfl
theorem dJ5_delete_0 : decode cJ5_delete 0 = .ok (.aload_n 0, 1) := dk_42 (dk_at dksJ5_delete_0 0 rfl rfl)
theorem dJ5_delete_1 : decode cJ5_delete 1 = .ok (.getfield 3, 3) := dk_180 0 3 (dk_at dksJ5_delete_0 1 rfl rfl)
theorem dJ5_delete_4 : decode cJ5_delete 4 = .ok (.astore_n 2, 1) := dk_77 (dk_at dksJ5_delete_0 4 rfl rfl)
theorem dJ5_delete_5 : decode cJ5_delete 5 = .ok (.aload_n 2, 1) := dk_44 (dk_at dksJ5_delete_0 5 rfl rfl)
theorem dJ5_delete_6 : decode cJ5_delete 6 = .ok (.arraylength, 1) := dk_190 (dk_at dksJ5_delete_0 6 rfl rfl)
theorem dJ5_delete_7 : decode cJ5_delete 7 = .ok (.istore_n 3, 1) := dk_62 (dk_at dksJ5_delete_0 7 rfl rfl)
theorem dJ5_delete_8 : decode cJ5_delete 8 = .ok (.iload_n 1, 1) := dk_27 (dk_at dksJ5_delete_0 8 rfl rfl)
theorem dJ5_delete_9 : decode cJ5_delete 9 = .ok (.aload_n 0, 1) := dk_42 (dk_at dksJ5_delete_0 9 rfl rfl)
theorem dJ5_delete_10 : decode cJ5_delete 10 = .ok (.getfield 24, 3) := dk_180 0 24 (dk_at dksJ5_delete_0 10 rfl rfl)
theorem dJ5_delete_13 : decode cJ5_delete 13 = .ok (.dup, 1) := dk_89 (dk_at dksJ5_delete_0 13 rfl rfl)
theorem dJ5_delete_14 : decode cJ5_delete 14 = .ok (.istore 4, 2) := dk_54 4 (dk_at dksJ5_delete_0 14 rfl rfl)
theorem dJ5_delete_16 : decode cJ5_delete 16 = .ok (.iload_n 3, 1) := dk_29 (dk_at dksJ5_delete_0 16 rfl rfl)
theorem dJ5_delete_17 : decode cJ5_delete 17 = .ok (.invokestatic 127, 3) := dk_184 0 127 (dk_at dksJ5_delete_0 17 rfl rfl)
theorem dJ5_delete_20 : decode cJ5_delete 20 = .ok (.istore 6, 2) := dk_54 6 (dk_at dksJ5_delete_0 20 rfl rfl)
theorem dJ5_delete_22 : decode cJ5_delete 22 = .ok (.aload_n 0, 1) := dk_42 (dk_at dksJ5_delete_0 22 rfl rfl)
theorem dJ5_delete_23 : decode cJ5_delete 23 = .ok (.getfield 20, 3) := dk_180 0 20 (dk_at dksJ5_delete_1 0 rfl rfl)
theorem dJ5_delete_26 : decode cJ5_delete 26 = .ok (.dup, 1) := dk_89 (dk_at dksJ5_delete_1 3 rfl rfl)
theorem dJ5_delete_27 : decode cJ5_delete 27 = .ok (.istore 5, 2) := dk_54 5 (dk_at dksJ5_delete_1 4 rfl rfl)
theorem dJ5_delete_29 : decode cJ5_delete 29 = .ok (.iload_n 1, 1) := dk_27 (dk_at dksJ5_delete_1 6 rfl rfl)
theorem dJ5_delete_30 : decode cJ5_delete 30 = .ok (.iload_n 3, 1) := dk_29 (dk_at dksJ5_delete_1 7 rfl rfl)
theorem dJ5_delete_31 : decode cJ5_delete 31 = .ok (.invokestatic 127, 3) := dk_184 0 127 (dk_at dksJ5_delete_1 8 rfl rfl)
theorem dJ5_delete_34 : decode cJ5_delete 34 = .ok (.iconst 1, 1) := dk_4 (dk_at dksJ5_delete_1 11 rfl rfl)
theorem dJ5_delete_35 : decode cJ5_delete 35 = .ok (.isub, 1) := dk_100 (dk_at dksJ5_delete_1 12 rfl rfl)
theorem dJ5_delete_36 : decode cJ5_delete 36 = .ok (.istore 7, 2) := dk_54 7 (dk_at dksJ5_delete_1 13 rfl rfl)
theorem dJ5_delete_38 : decode cJ5_delete 38 = .ok (.iload 6, 2) := dk_21 6 (dk_at dksJ5_delete_1 15 rfl rfl)
theorem dJ5_delete_40 : decode cJ5_delete 40 = .ok (.iload 7, 2) := dk_21 7 (dk_at dksJ5_delete_1 17 rfl rfl)
theorem dJ5_delete_42 : decode cJ5_delete 42 = .ok (.if_icmp .ge 75, 3) := dk_162 0 75 (dk_at dksJ5_delete_1 19 rfl rfl)
theorem dJ5_delete_45 : decode cJ5_delete 45 = .ok (.iload 4, 2) := dk_21 4 (dk_at dksJ5_delete_1 22 rfl rfl)
theorem dJ5_delete_47 : decode cJ5_delete 47 = .ok (.iload_n 1, 1) := dk_27 (dk_at dksJ5_delete_2 0 rfl rfl)
theorem dJ5_delete_48 : decode cJ5_delete 48 = .ok (.if_icmp .gt 19, 3) := dk_163 0 19 (dk_at dksJ5_delete_2 1 rfl rfl)
theorem dJ5_delete_51 : decode cJ5_delete 51 = .ok (.aload_n 2, 1) := dk_44 (dk_at dksJ5_delete_2 4 rfl rfl)
theorem dJ5_delete_52 : decode cJ5_delete 52 = .ok (.iload 4, 2) := dk_21 4 (dk_at dksJ5_delete_2 5 rfl rfl)
theorem dJ5_delete_54 : decode cJ5_delete 54 = .ok (.aload_n 2, 1) := dk_44 (dk_at dksJ5_delete_2 7 rfl rfl)
theorem dJ5_delete_55 : decode cJ5_delete 55 = .ok (.iload 4, 2) := dk_21 4 (dk_at dksJ5_delete_2 8 rfl rfl)
theorem dJ5_delete_57 : decode cJ5_delete 57 = .ok (.iconst 1, 1) := dk_4 (dk_at dksJ5_delete_2 10 rfl rfl)
theorem dJ5_delete_58 : decode cJ5_delete 58 = .ok (.iadd, 1) := dk_96 (dk_at dksJ5_delete_2 11 rfl rfl)
theorem dJ5_delete_59 : decode cJ5_delete 59 = .ok (.iload 6, 2) := dk_21 6 (dk_at dksJ5_delete_2 12 rfl rfl)
theorem dJ5_delete_61 : decode cJ5_delete 61 = .ok (.invokestatic 27, 3) := dk_184 0 27 (dk_at dksJ5_delete_2 14 rfl rfl)
theorem dJ5_delete_64 : decode cJ5_delete 64 = .ok (.goto 36, 3) := dk_167 0 36 (dk_at dksJ5_delete_2 17 rfl rfl)
theorem dJ5_delete_67 : decode cJ5_delete 67 = .ok (.aload_n 2, 1) := dk_44 (dk_at dksJ5_delete_2 20 rfl rfl)
theorem dJ5_delete_68 : decode cJ5_delete 68 = .ok (.iconst 0, 1) := dk_3 (dk_at dksJ5_delete_2 21 rfl rfl)
theorem dJ5_delete_69 : decode cJ5_delete 69 = .ok (.aload_n 2, 1) := dk_44 (dk_at dksJ5_delete_2 22 rfl rfl)
theorem dJ5_delete_70 : decode cJ5_delete 70 = .ok (.iconst 1, 1) := dk_4 (dk_at dksJ5_delete_2 23 rfl rfl)
theorem dJ5_delete_71 : decode cJ5_delete 71 = .ok (.iload_n 1, 1) := dk_27 (dk_at dksJ5_delete_3 0 rfl rfl)
theorem dJ5_delete_72 : decode cJ5_delete 72 = .ok (.invokestatic 27, 3) := dk_184 0 27 (dk_at dksJ5_delete_3 1 rfl rfl)
theorem dJ5_delete_75 : decode cJ5_delete 75 = .ok (.aload_n 2, 1) := dk_44 (dk_at dksJ5_delete_3 4 rfl rfl)
theorem dJ5_delete_76 : decode cJ5_delete 76 = .ok (.iconst 0, 1) := dk_3 (dk_at dksJ5_delete_3 5 rfl rfl)
theorem dJ5_delete_77 : decode cJ5_delete 77 = .ok (.aload_n 2, 1) := dk_44 (dk_at dksJ5_delete_3 6 rfl rfl)
theorem dJ5_delete_78 : decode cJ5_delete 78 = .ok (.iload_n 3, 1) := dk_29 (dk_at dksJ5_delete_3 7 rfl rfl)
theorem dJ5_delete_79 : decode cJ5_delete 79 = .ok (.iconst 1, 1) := dk_4 (dk_at dksJ5_delete_3 8 rfl rfl)
theorem dJ5_delete_80 : decode cJ5_delete 80 = .ok (.isub, 1) := dk_100 (dk_at dksJ5_delete_3 9 rfl rfl)
theorem dJ5_delete_81 : decode cJ5_delete 81 = .ok (.aaload, 1) := dk_50 (dk_at dksJ5_delete_3 10 rfl rfl)
theorem dJ5_delete_82 : decode cJ5_delete 82 = .ok (.aastore, 1) := dk_83 (dk_at dksJ5_delete_3 11 rfl rfl)
theorem dJ5_delete_83 : decode cJ5_delete 83 = .ok (.aload_n 2, 1) := dk_44 (dk_at dksJ5_delete_3 12 rfl rfl)
theorem dJ5_delete_84 : decode cJ5_delete 84 = .ok (.iload 4, 2) := dk_21 4 (dk_at dksJ5_delete_3 13 rfl rfl)
theorem dJ5_delete_86 : decode cJ5_delete 86 = .ok (.aload_n 2, 1) := dk_44 (dk_at dksJ5_delete_3 15 rfl rfl)
theorem dJ5_delete_87 : decode cJ5_delete 87 = .ok (.iload 4, 2) := dk_21 4 (dk_at dksJ5_delete_3 16 rfl rfl)
theorem dJ5_delete_89 : decode cJ5_delete 89 = .ok (.iconst 1, 1) := dk_4 (dk_at dksJ5_delete_3 18 rfl rfl)
theorem dJ5_delete_90 : decode cJ5_delete 90 = .ok (.iadd, 1) := dk_96 (dk_at dksJ5_delete_3 19 rfl rfl)
theorem dJ5_delete_91 : decode cJ5_delete 91 = .ok (.iload 6, 2) := dk_21 6 (dk_at dksJ5_delete_3 20 rfl rfl)
theorem dJ5_delete_93 : decode cJ5_delete 93 = .ok (.iload_n 1, 1) := dk_27 (dk_at dksJ5_delete_3 22 rfl rfl)
theorem dJ5_delete_94 : decode cJ5_delete 94 = .ok (.iconst 1, 1) := dk_4 (dk_at dksJ5_delete_3 23 rfl rfl)
theorem dJ5_delete_95 : decode cJ5_delete 95 = .ok (.iadd, 1) := dk_96 (dk_at dksJ5_delete_4 0 rfl rfl)
theorem dJ5_delete_96 : decode cJ5_delete 96 = .ok (.isub, 1) := dk_100 (dk_at dksJ5_delete_4 1 rfl rfl)
theorem dJ5_delete_97 : decode cJ5_delete 97 = .ok (.invokestatic 27, 3) := dk_184 0 27 (dk_at dksJ5_delete_4 2 rfl rfl)
theorem dJ5_delete_100 : decode cJ5_delete 100 = .ok (.aload_n 2, 1) := dk_44 (dk_at dksJ5_delete_4 5 rfl rfl)
theorem dJ5_delete_101 : decode cJ5_delete 101 = .ok (.iload 4, 2) := dk_21 4 (dk_at dksJ5_delete_4 6 rfl rfl)
theorem dJ5_delete_103 : decode cJ5_delete 103 = .ok (.aconst_null, 1) := dk_1 (dk_at dksJ5_delete_4 8 rfl rfl)
theorem dJ5_delete_104 : decode cJ5_delete 104 = .ok (.aastore, 1) := dk_83 (dk_at dksJ5_delete_4 9 rfl rfl)
theorem dJ5_delete_105 : decode cJ5_delete 105 = .ok (.aload_n 0, 1) := dk_42 (dk_at dksJ5_delete_4 10 rfl rfl)
theorem dJ5_delete_106 : decode cJ5_delete 106 = .ok (.iload 4, 2) := dk_21 4 (dk_at dksJ5_delete_4 11 rfl rfl)
theorem dJ5_delete_108 : decode cJ5_delete 108 = .ok (.iload_n 3, 1) := dk_29 (dk_at dksJ5_delete_4 13 rfl rfl)
theorem dJ5_delete_109 : decode cJ5_delete 109 = .ok (.invokestatic 74, 3) := dk_184 0 74 (dk_at dksJ5_delete_4 14 rfl rfl)
theorem dJ5_delete_112 : decode cJ5_delete 112 = .ok (.putfield 24, 3) := dk_181 0 24 (dk_at dksJ5_delete_4 17 rfl rfl)
theorem dJ5_delete_115 : decode cJ5_delete 115 = .ok (.iconst 0, 1) := dk_3 (dk_at dksJ5_delete_4 20 rfl rfl)
theorem dJ5_delete_116 : decode cJ5_delete 116 = .ok (.ireturn, 1) := dk_172 (dk_at dksJ5_delete_4 21 rfl rfl)
theorem dJ5_delete_117 : decode cJ5_delete 117 = .ok (.aload_n 0, 1) := dk_42 (dk_at dksJ5_delete_4 22 rfl rfl)
theorem dJ5_delete_118 : decode cJ5_delete 118 = .ok (.iload 5, 2) := dk_21 5 (dk_at dksJ5_delete_5 0 rfl rfl)
theorem dJ5_delete_120 : decode cJ5_delete 120 = .ok (.iload_n 3, 1) := dk_29 (dk_at dksJ5_delete_5 2 rfl rfl)
theorem dJ5_delete_121 : decode cJ5_delete 121 = .ok (.invokestatic 68, 3) := dk_184 0 68 (dk_at dksJ5_delete_5 3 rfl rfl)
theorem dJ5_delete_124 : decode cJ5_delete 124 = .ok (.putfield 20, 3) := dk_181 0 20 (dk_at dksJ5_delete_5 6 rfl rfl)
theorem dJ5_delete_127 : decode cJ5_delete 127 = .ok (.iload_n 1, 1) := dk_27 (dk_at dksJ5_delete_5 9 rfl rfl)
theorem dJ5_delete_128 : decode cJ5_delete 128 = .ok (.aload_n 0, 1) := dk_42 (dk_at dksJ5_delete_5 10 rfl rfl)
theorem dJ5_delete_129 : decode cJ5_delete 129 = .ok (.getfield 20, 3) := dk_180 0 20 (dk_at dksJ5_delete_5 11 rfl rfl)
theorem dJ5_delete_132 : decode cJ5_delete 132 = .ok (.if_icmp .gt 17, 3) := dk_163 0 17 (dk_at dksJ5_delete_5 14 rfl rfl)
theorem dJ5_delete_135 : decode cJ5_delete 135 = .ok (.aload_n 2, 1) := dk_44 (dk_at dksJ5_delete_5 17 rfl rfl)
theorem dJ5_delete_136 : decode cJ5_delete 136 = .ok (.iload_n 1, 1) := dk_27 (dk_at dksJ5_delete_5 18 rfl rfl)
theorem dJ5_delete_137 : decode cJ5_delete 137 = .ok (.iconst 1, 1) := dk_4 (dk_at dksJ5_delete_5 19 rfl rfl)
theorem dJ5_delete_138 : decode cJ5_delete 138 = .ok (.iadd, 1) := dk_96 (dk_at dksJ5_delete_5 20 rfl rfl)
theorem dJ5_delete_139 : decode cJ5_delete 139 = .ok (.aload_n 2, 1) := dk_44 (dk_at dksJ5_delete_5 21 rfl rfl)
theorem dJ5_delete_140 : decode cJ5_delete 140 = .ok (.iload_n 1, 1) := dk_27 (dk_at dksJ5_delete_5 22 rfl rfl)
theorem dJ5_delete_141 : decode cJ5_delete 141 = .ok (.iload 7, 2) := dk_21 7 (dk_at dksJ5_delete_6 0 rfl rfl)
theorem dJ5_delete_143 : decode cJ5_delete 143 = .ok (.invokestatic 27, 3) := dk_184 0 27 (dk_at dksJ5_delete_6 2 rfl rfl)
theorem dJ5_delete_146 : decode cJ5_delete 146 = .ok (.goto 36, 3) := dk_167 0 36 (dk_at dksJ5_delete_6 5 rfl rfl)
theorem dJ5_delete_149 : decode cJ5_delete 149 = .ok (.aload_n 2, 1) := dk_44 (dk_at dksJ5_delete_6 8 rfl rfl)
theorem dJ5_delete_150 : decode cJ5_delete 150 = .ok (.iload_n 1, 1) := dk_27 (dk_at dksJ5_delete_6 9 rfl rfl)
theorem dJ5_delete_151 : decode cJ5_delete 151 = .ok (.iconst 1, 1) := dk_4 (dk_at dksJ5_delete_6 10 rfl rfl)
theorem dJ5_delete_152 : decode cJ5_delete 152 = .ok (.iadd, 1) := dk_96 (dk_at dksJ5_delete_6 11 rfl rfl)
theorem dJ5_delete_153 : decode cJ5_delete 153 = .ok (.aload_n 2, 1) := dk_44 (dk_at dksJ5_delete_6 12 rfl rfl)
theorem dJ5_delete_154 : decode cJ5_delete 154 = .ok (.iload_n 1, 1) := dk_27 (dk_at dksJ5_delete_6 13 rfl rfl)
theorem dJ5_delete_155 : decode cJ5_delete 155 = .ok (.iload_n 3, 1) := dk_29 (dk_at dksJ5_delete_6 14 rfl rfl)
theorem dJ5_delete_156 : decode cJ5_delete 156 = .ok (.iload_n 1, 1) := dk_27 (dk_at dksJ5_delete_6 15 rfl rfl)
theorem dJ5_delete_157 : decode cJ5_delete 157 = .ok (.iconst 1, 1) := dk_4 (dk_at dksJ5_delete_6 16 rfl rfl)
theorem dJ5_delete_158 : decode cJ5_delete 158 = .ok (.iadd, 1) := dk_96 (dk_at dksJ5_delete_6 17 rfl rfl)
theorem dJ5_delete_159 : decode cJ5_delete 159 = .ok (.isub, 1) := dk_100 (dk_at dksJ5_delete_6 18 rfl rfl)
theorem dJ5_delete_160 : decode cJ5_delete 160 = .ok (.invokestatic 27, 3) := dk_184 0 27 (dk_at dksJ5_delete_6 19 rfl rfl)
theorem dJ5_delete_163 : decode cJ5_delete 163 = .ok (.aload_n 2, 1) := dk_44 (dk_at dksJ5_delete_6 22 rfl rfl)
theorem dJ5_delete_164 : decode cJ5_delete 164 = .ok (.iload_n 3, 1) := dk_29 (dk_at dksJ5_delete_6 23 rfl rfl)
theorem dJ5_delete_165 : decode cJ5_delete 165 = .ok (.iconst 1, 1) := dk_4 (dk_at dksJ5_delete_7 0 rfl rfl)
theorem dJ5_delete_166 : decode cJ5_delete 166 = .ok (.isub, 1) := dk_100 (dk_at dksJ5_delete_7 1 rfl rfl)
theorem dJ5_delete_167 : decode cJ5_delete 167 = .ok (.aload_n 2, 1) := dk_44 (dk_at dksJ5_delete_7 2 rfl rfl)
theorem dJ5_delete_168 : decode cJ5_delete 168 = .ok (.iconst 0, 1) := dk_3 (dk_at dksJ5_delete_7 3 rfl rfl)
theorem dJ5_delete_169 : decode cJ5_delete 169 = .ok (.aaload, 1) := dk_50 (dk_at dksJ5_delete_7 4 rfl rfl)
theorem dJ5_delete_170 : decode cJ5_delete 170 = .ok (.aastore, 1) := dk_83 (dk_at dksJ5_delete_7 5 rfl rfl)
theorem dJ5_delete_171 : decode cJ5_delete 171 = .ok (.aload_n 2, 1) := dk_44 (dk_at dksJ5_delete_7 6 rfl rfl)
theorem dJ5_delete_172 : decode cJ5_delete 172 = .ok (.iconst 1, 1) := dk_4 (dk_at dksJ5_delete_7 7 rfl rfl)
theorem dJ5_delete_173 : decode cJ5_delete 173 = .ok (.aload_n 2, 1) := dk_44 (dk_at dksJ5_delete_7 8 rfl rfl)
theorem dJ5_delete_174 : decode cJ5_delete 174 = .ok (.iconst 0, 1) := dk_3 (dk_at dksJ5_delete_7 9 rfl rfl)
theorem dJ5_delete_175 : decode cJ5_delete 175 = .ok (.iload 5, 2) := dk_21 5 (dk_at dksJ5_delete_7 10 rfl rfl)
theorem dJ5_delete_177 : decode cJ5_delete 177 = .ok (.iconst 1, 1) := dk_4 (dk_at dksJ5_delete_7 12 rfl rfl)
theorem dJ5_delete_178 : decode cJ5_delete 178 = .ok (.isub, 1) := dk_100 (dk_at dksJ5_delete_7 13 rfl rfl)
theorem dJ5_delete_179 : decode cJ5_delete 179 = .ok (.invokestatic 27, 3) := dk_184 0 27 (dk_at dksJ5_delete_7 14 rfl rfl)
theorem dJ5_delete_182 : decode cJ5_delete 182 = .ok (.aload_n 2, 1) := dk_44 (dk_at dksJ5_delete_7 17 rfl rfl)
theorem dJ5_delete_183 : decode cJ5_delete 183 = .ok (.aload_n 0, 1) := dk_42 (dk_at dksJ5_delete_7 18 rfl rfl)
theorem dJ5_delete_184 : decode cJ5_delete 184 = .ok (.getfield 20, 3) := dk_180 0 20 (dk_at dksJ5_delete_7 19 rfl rfl)
theorem dJ5_delete_187 : decode cJ5_delete 187 = .ok (.aconst_null, 1) := dk_1 (dk_at dksJ5_delete_7 22 rfl rfl)
theorem dJ5_delete_188 : decode cJ5_delete 188 = .ok (.aastore, 1) := dk_83 (dk_at dksJ5_delete_7 23 rfl rfl)
theorem dJ5_delete_189 : decode cJ5_delete 189 = .ok (.iconst 1, 1) := dk_4 (dk_at dksJ5_delete_8 0 rfl rfl)
theorem dJ5_delete_190 : decode cJ5_delete 190 = .ok (.ireturn, 1) := dk_172 (dk_at dksJ5_delete_8 1 rfl rfl)
abbrev cJ5_sub : ByteArray := prog_69_method_9_code
def yJ5_sub : MethodName := ⟨RJ5, "sub", "(III)I"⟩
def dkwJ5_sub_0 : List UInt8 := [26, 27, 100, 89, 59, 156, 0, 7, 26, 28, 96, 59, 26, 172]
abbrev dktJ5_sub_0 : List UInt8 := dkwJ5_sub_0 ++ []
theorem dksJ5_sub_0 : cJ5_sub.data.toList.drop 0 = dktJ5_sub_0 := by decide +kernel
theorem dJ5_sub_0 : decode cJ5_sub 0 = .ok (.iload_n 0, 1) := dk_26 (dk_at dksJ5_sub_0 0 rfl rfl)
theorem dJ5_sub_1 : decode cJ5_sub 1 = .ok (.iload_n 1, 1) := dk_27 (dk_at dksJ5_sub_0 1 rfl rfl)
theorem dJ5_sub_2 : decode cJ5_sub 2 = .ok (.isub, 1) := dk_100 (dk_at dksJ5_sub_0 2 rfl rfl)
theorem dJ5_sub_3 : decode cJ5_sub 3 = .ok (.dup, 1) := dk_89 (dk_at dksJ5_sub_0 3 rfl rfl)
theorem dJ5_sub_4 : decode cJ5_sub 4 = .ok (.istore_n 0, 1) := dk_59 (dk_at dksJ5_sub_0 4 rfl rfl)
theorem dJ5_sub_5 : decode cJ5_sub 5 = .ok (.ifCond .ge 7, 3) := dk_156 0 7 (dk_at dksJ5_sub_0 5 rfl rfl)
theorem dJ5_sub_8 : decode cJ5_sub 8 = .ok (.iload_n 0, 1) := dk_26 (dk_at dksJ5_sub_0 8 rfl rfl)
theorem dJ5_sub_9 : decode cJ5_sub 9 = .ok (.iload_n 2, 1) := dk_28 (dk_at dksJ5_sub_0 9 rfl rfl)
theorem dJ5_sub_10 : decode cJ5_sub 10 = .ok (.iadd, 1) := dk_96 (dk_at dksJ5_sub_0 10 rfl rfl)
theorem dJ5_sub_11 : decode cJ5_sub 11 = .ok (.istore_n 0, 1) := dk_59 (dk_at dksJ5_sub_0 11 rfl rfl)
theorem dJ5_sub_12 : decode cJ5_sub 12 = .ok (.iload_n 0, 1) := dk_26 (dk_at dksJ5_sub_0 12 rfl rfl)
theorem dJ5_sub_13 : decode cJ5_sub 13 = .ok (.ireturn, 1) := dk_172 (dk_at dksJ5_sub_0 13 rfl rfl)
abbrev cJ5_dec : ByteArray := prog_69_method_7_code
def yJ5_dec : MethodName := ⟨RJ5, "dec", "(II)I"⟩
def dkwJ5_dec_0 : List UInt8 := [132, 0, 255, 26, 156, 0, 7, 27, 4, 100, 59, 26, 172]
abbrev dktJ5_dec_0 : List UInt8 := dkwJ5_dec_0 ++ []
theorem dksJ5_dec_0 : cJ5_dec.data.toList.drop 0 = dktJ5_dec_0 := by decide +kernel
theorem dJ5_dec_0 : decode cJ5_dec 0 = .ok (.iinc 0 (-1), 3) := dk_132 0 255 (dk_at dksJ5_dec_0 0 rfl rfl)
theorem dJ5_dec_3 : decode cJ5_dec 3 = .ok (.iload_n 0, 1) := dk_26 (dk_at dksJ5_dec_0 3 rfl rfl)
theorem dJ5_dec_4 : decode cJ5_dec 4 = .ok (.ifCond .ge 7, 3) := dk_156 0 7 (dk_at dksJ5_dec_0 4 rfl rfl)
theorem dJ5_dec_7 : decode cJ5_dec 7 = .ok (.iload_n 1, 1) := dk_27 (dk_at dksJ5_dec_0 7 rfl rfl)
theorem dJ5_dec_8 : decode cJ5_dec 8 = .ok (.iconst 1, 1) := dk_4 (dk_at dksJ5_dec_0 8 rfl rfl)
theorem dJ5_dec_9 : decode cJ5_dec 9 = .ok (.isub, 1) := dk_100 (dk_at dksJ5_dec_0 9 rfl rfl)
theorem dJ5_dec_10 : decode cJ5_dec 10 = .ok (.istore_n 0, 1) := dk_59 (dk_at dksJ5_dec_0 10 rfl rfl)
theorem dJ5_dec_11 : decode cJ5_dec 11 = .ok (.iload_n 0, 1) := dk_26 (dk_at dksJ5_dec_0 11 rfl rfl)
theorem dJ5_dec_12 : decode cJ5_dec 12 = .ok (.ireturn, 1) := dk_172 (dk_at dksJ5_dec_0 12 rfl rfl)
abbrev cJ5_add : ByteArray := prog_69_method_28_code
def yJ5_add : MethodName := ⟨RJ5, "add", "(Ljava/lang/Object;)Z"⟩
def dkwJ5_add_0 : List UInt8 := [42, 43, 182, 0, 90, 4, 172]
abbrev dktJ5_add_0 : List UInt8 := dkwJ5_add_0 ++ []
theorem dksJ5_add_0 : cJ5_add.data.toList.drop 0 = dktJ5_add_0 := by decide +kernel
theorem dJ5_add_0 : decode cJ5_add 0 = .ok (.aload_n 0, 1) := dk_42 (dk_at dksJ5_add_0 0 rfl rfl)
theorem dJ5_add_1 : decode cJ5_add 1 = .ok (.aload_n 1, 1) := dk_43 (dk_at dksJ5_add_0 1 rfl rfl)
theorem dJ5_add_2 : decode cJ5_add 2 = .ok (.invokevirtual 90, 3) := dk_182 0 90 (dk_at dksJ5_add_0 2 rfl rfl)
theorem dJ5_add_5 : decode cJ5_add 5 = .ok (.iconst 1, 1) := dk_4 (dk_at dksJ5_add_0 5 rfl rfl)
theorem dJ5_add_6 : decode cJ5_add 6 = .ok (.ireturn, 1) := dk_172 (dk_at dksJ5_add_0 6 rfl rfl)
abbrev cJ5_addLast : ByteArray := prog_69_method_13_code
def yJ5_addLast : MethodName := ⟨RJ5, "addLast", "(Ljava/lang/Object;)V"⟩
def dkwJ5_addLast_2 : List UInt8 := [182, 0, 71, 177]
abbrev dktJ5_addLast_2 : List UInt8 := dkwJ5_addLast_2 ++ []
def dkwJ5_addLast_1 : List UInt8 := [42, 180, 0, 24, 42, 42, 180, 0, 20, 44, 190, 184, 0, 74, 90, 181, 0, 20, 160, 0, 8, 42, 4]
abbrev dktJ5_addLast_1 : List UInt8 := dkwJ5_addLast_1 ++ dktJ5_addLast_2
def dkwJ5_addLast_0 : List UInt8 := [43, 199, 0, 11, 187, 0, 65, 89, 183, 0, 67, 191, 42, 180, 0, 3, 77, 44, 42, 180, 0, 20, 43, 83]
abbrev dktJ5_addLast_0 : List UInt8 := dkwJ5_addLast_0 ++ dktJ5_addLast_1
theorem dksJ5_addLast_0 : cJ5_addLast.data.toList.drop 0 = dktJ5_addLast_0 := by decide +kernel
theorem dksJ5_addLast_1 : cJ5_addLast.data.toList.drop 24 = dktJ5_addLast_1 := dk_seg dksJ5_addLast_0 24 rfl rfl
theorem dksJ5_addLast_2 : cJ5_addLast.data.toList.drop 47 = dktJ5_addLast_2 := dk_seg dksJ5_addLast_1 23 rfl rfl
theorem dJ5_addLast_0 : decode cJ5_addLast 0 = .ok (.aload_n 1, 1) := dk_43 (dk_at dksJ5_addLast_0 0 rfl rfl)
theorem dJ5_addLast_1 : decode cJ5_addLast 1 = .ok (.ifnonnull 11, 3) := dk_199 0 11 (dk_at dksJ5_addLast_0 1 rfl rfl)
theorem dJ5_addLast_4 : decode cJ5_addLast 4 = .ok (.new 65, 3) := dk_187 0 65 (dk_at dksJ5_addLast_0 4 rfl rfl)
theorem dJ5_addLast_7 : decode cJ5_addLast 7 = .ok (.dup, 1) := dk_89 (dk_at dksJ5_addLast_0 7 rfl rfl)
theorem dJ5_addLast_8 : decode cJ5_addLast 8 = .ok (.invokespecial 67, 3) := dk_183 0 67 (dk_at dksJ5_addLast_0 8 rfl rfl)
theorem dJ5_addLast_11 : decode cJ5_addLast 11 = .ok (.athrow, 1) := dk_191 (dk_at dksJ5_addLast_0 11 rfl rfl)
theorem dJ5_addLast_12 : decode cJ5_addLast 12 = .ok (.aload_n 0, 1) := dk_42 (dk_at dksJ5_addLast_0 12 rfl rfl)
theorem dJ5_addLast_13 : decode cJ5_addLast 13 = .ok (.getfield 3, 3) := dk_180 0 3 (dk_at dksJ5_addLast_0 13 rfl rfl)
theorem dJ5_addLast_16 : decode cJ5_addLast 16 = .ok (.astore_n 2, 1) := dk_77 (dk_at dksJ5_addLast_0 16 rfl rfl)
theorem dJ5_addLast_17 : decode cJ5_addLast 17 = .ok (.aload_n 2, 1) := dk_44 (dk_at dksJ5_addLast_0 17 rfl rfl)
theorem dJ5_addLast_18 : decode cJ5_addLast 18 = .ok (.aload_n 0, 1) := dk_42 (dk_at dksJ5_addLast_0 18 rfl rfl)
theorem dJ5_addLast_19 : decode cJ5_addLast 19 = .ok (.getfield 20, 3) := dk_180 0 20 (dk_at dksJ5_addLast_0 19 rfl rfl)
theorem dJ5_addLast_22 : decode cJ5_addLast 22 = .ok (.aload_n 1, 1) := dk_43 (dk_at dksJ5_addLast_0 22 rfl rfl)
theorem dJ5_addLast_23 : decode cJ5_addLast 23 = .ok (.aastore, 1) := dk_83 (dk_at dksJ5_addLast_0 23 rfl rfl)
theorem dJ5_addLast_24 : decode cJ5_addLast 24 = .ok (.aload_n 0, 1) := dk_42 (dk_at dksJ5_addLast_1 0 rfl rfl)
theorem dJ5_addLast_25 : decode cJ5_addLast 25 = .ok (.getfield 24, 3) := dk_180 0 24 (dk_at dksJ5_addLast_1 1 rfl rfl)
theorem dJ5_addLast_28 : decode cJ5_addLast 28 = .ok (.aload_n 0, 1) := dk_42 (dk_at dksJ5_addLast_1 4 rfl rfl)
theorem dJ5_addLast_29 : decode cJ5_addLast 29 = .ok (.aload_n 0, 1) := dk_42 (dk_at dksJ5_addLast_1 5 rfl rfl)
theorem dJ5_addLast_30 : decode cJ5_addLast 30 = .ok (.getfield 20, 3) := dk_180 0 20 (dk_at dksJ5_addLast_1 6 rfl rfl)
theorem dJ5_addLast_33 : decode cJ5_addLast 33 = .ok (.aload_n 2, 1) := dk_44 (dk_at dksJ5_addLast_1 9 rfl rfl)
theorem dJ5_addLast_34 : decode cJ5_addLast 34 = .ok (.arraylength, 1) := dk_190 (dk_at dksJ5_addLast_1 10 rfl rfl)
theorem dJ5_addLast_35 : decode cJ5_addLast 35 = .ok (.invokestatic 74, 3) := dk_184 0 74 (dk_at dksJ5_addLast_1 11 rfl rfl)
theorem dJ5_addLast_38 : decode cJ5_addLast 38 = .ok (.dup_x1, 1) := dk_90 (dk_at dksJ5_addLast_1 14 rfl rfl)
theorem dJ5_addLast_39 : decode cJ5_addLast 39 = .ok (.putfield 20, 3) := dk_181 0 20 (dk_at dksJ5_addLast_1 15 rfl rfl)
theorem dJ5_addLast_42 : decode cJ5_addLast 42 = .ok (.if_icmp .ne 8, 3) := dk_160 0 8 (dk_at dksJ5_addLast_1 18 rfl rfl)
theorem dJ5_addLast_45 : decode cJ5_addLast 45 = .ok (.aload_n 0, 1) := dk_42 (dk_at dksJ5_addLast_1 21 rfl rfl)
theorem dJ5_addLast_46 : decode cJ5_addLast 46 = .ok (.iconst 1, 1) := dk_4 (dk_at dksJ5_addLast_1 22 rfl rfl)
theorem dJ5_addLast_47 : decode cJ5_addLast 47 = .ok (.invokevirtual 71, 3) := dk_182 0 71 (dk_at dksJ5_addLast_2 0 rfl rfl)
theorem dJ5_addLast_50 : decode cJ5_addLast 50 = .ok (.return_, 1) := dk_177 (dk_at dksJ5_addLast_2 3 rfl rfl)
abbrev cJ5_grow : ByteArray := prog_69_method_1_code
def yJ5_grow : MethodName := ⟨RJ5, "grow", "(I)V"⟩
def dkwJ5_grow_7 : List UInt8 := [177]
abbrev dktJ5_grow_7 : List UInt8 := dkwJ5_grow_7 ++ []
def dkwJ5_grow_6 : List UInt8 := [181, 0, 24, 54, 8, 21, 7, 21, 8, 162, 0, 15, 25, 5, 21, 7, 1, 83, 132, 7, 1, 167, 255, 240]
abbrev dktJ5_grow_6 : List UInt8 := dkwJ5_grow_6 ++ dktJ5_grow_7
def dkwJ5_grow_5 : List UInt8 := [42, 180, 0, 24, 100, 184, 0, 27, 42, 180, 0, 24, 54, 7, 42, 89, 180, 0, 24, 21, 6, 96, 90]
abbrev dktJ5_grow_5 : List UInt8 := dkwJ5_grow_5 ++ dktJ5_grow_6
def dkwJ5_grow_4 : List UInt8 := [198, 0, 71, 29, 28, 100, 54, 6, 25, 5, 42, 180, 0, 24, 25, 5, 42, 180, 0, 24, 21, 6, 96, 28]
abbrev dktJ5_grow_4 : List UInt8 := dkwJ5_grow_4 ++ dktJ5_grow_5
def dkwJ5_grow_3 : List UInt8 := [180, 0, 24, 161, 0, 24, 42, 180, 0, 20, 42, 180, 0, 24, 160, 0, 81, 25, 5, 42, 180, 0, 24, 50]
abbrev dktJ5_grow_3 : List UInt8 := dkwJ5_grow_3 ++ dktJ5_grow_4
def dkwJ5_grow_2 : List UInt8 := [182, 0, 10, 62, 42, 42, 180, 0, 3, 29, 184, 0, 14, 90, 181, 0, 3, 58, 5, 42, 180, 0, 20, 42]
abbrev dktJ5_grow_2 : List UInt8 := dkwJ5_grow_2 ++ dktJ5_grow_3
def dkwJ5_grow_1 : List UInt8 := [21, 4, 27, 161, 0, 15, 28, 21, 4, 96, 89, 62, 18, 9, 100, 158, 0, 11, 42, 27, 21, 4]
abbrev dktJ5_grow_1 : List UInt8 := dkwJ5_grow_1 ++ dktJ5_grow_2
def dkwJ5_grow_0 : List UInt8 := [42, 180, 0, 3, 190, 61, 28, 16, 64, 162, 0, 9, 28, 5, 96, 167, 0, 6, 28, 4, 122, 54, 4]
abbrev dktJ5_grow_0 : List UInt8 := dkwJ5_grow_0 ++ dktJ5_grow_1
theorem dksJ5_grow_0 : cJ5_grow.data.toList.drop 0 = dktJ5_grow_0 := by decide +kernel
theorem dksJ5_grow_1 : cJ5_grow.data.toList.drop 23 = dktJ5_grow_1 := dk_seg dksJ5_grow_0 23 rfl rfl
theorem dksJ5_grow_2 : cJ5_grow.data.toList.drop 45 = dktJ5_grow_2 := dk_seg dksJ5_grow_1 22 rfl rfl
theorem dksJ5_grow_3 : cJ5_grow.data.toList.drop 69 = dktJ5_grow_3 := dk_seg dksJ5_grow_2 24 rfl rfl
theorem dksJ5_grow_4 : cJ5_grow.data.toList.drop 93 = dktJ5_grow_4 := dk_seg dksJ5_grow_3 24 rfl rfl
theorem dksJ5_grow_5 : cJ5_grow.data.toList.drop 117 = dktJ5_grow_5 := dk_seg dksJ5_grow_4 24 rfl rfl
theorem dksJ5_grow_6 : cJ5_grow.data.toList.drop 140 = dktJ5_grow_6 := dk_seg dksJ5_grow_5 23 rfl rfl
theorem dksJ5_grow_7 : cJ5_grow.data.toList.drop 164 = dktJ5_grow_7 := dk_seg dksJ5_grow_6 24 rfl rfl
theorem dJ5_grow_0 : decode cJ5_grow 0 = .ok (.aload_n 0, 1) := dk_42 (dk_at dksJ5_grow_0 0 rfl rfl)
theorem dJ5_grow_1 : decode cJ5_grow 1 = .ok (.getfield 3, 3) := dk_180 0 3 (dk_at dksJ5_grow_0 1 rfl rfl)
theorem dJ5_grow_4 : decode cJ5_grow 4 = .ok (.arraylength, 1) := dk_190 (dk_at dksJ5_grow_0 4 rfl rfl)
theorem dJ5_grow_5 : decode cJ5_grow 5 = .ok (.istore_n 2, 1) := dk_61 (dk_at dksJ5_grow_0 5 rfl rfl)
theorem dJ5_grow_6 : decode cJ5_grow 6 = .ok (.iload_n 2, 1) := dk_28 (dk_at dksJ5_grow_0 6 rfl rfl)
theorem dJ5_grow_7 : decode cJ5_grow 7 = .ok (.bipush 64, 2) := dk_16 64 (dk_at dksJ5_grow_0 7 rfl rfl)
theorem dJ5_grow_9 : decode cJ5_grow 9 = .ok (.if_icmp .ge 9, 3) := dk_162 0 9 (dk_at dksJ5_grow_0 9 rfl rfl)
theorem dJ5_grow_12 : decode cJ5_grow 12 = .ok (.iload_n 2, 1) := dk_28 (dk_at dksJ5_grow_0 12 rfl rfl)
theorem dJ5_grow_13 : decode cJ5_grow 13 = .ok (.iconst 2, 1) := dk_5 (dk_at dksJ5_grow_0 13 rfl rfl)
theorem dJ5_grow_14 : decode cJ5_grow 14 = .ok (.iadd, 1) := dk_96 (dk_at dksJ5_grow_0 14 rfl rfl)
theorem dJ5_grow_15 : decode cJ5_grow 15 = .ok (.goto 6, 3) := dk_167 0 6 (dk_at dksJ5_grow_0 15 rfl rfl)
theorem dJ5_grow_18 : decode cJ5_grow 18 = .ok (.iload_n 2, 1) := dk_28 (dk_at dksJ5_grow_0 18 rfl rfl)
theorem dJ5_grow_19 : decode cJ5_grow 19 = .ok (.iconst 1, 1) := dk_4 (dk_at dksJ5_grow_0 19 rfl rfl)
theorem dJ5_grow_20 : decode cJ5_grow 20 = .ok (.ishr, 1) := dk_122 (dk_at dksJ5_grow_0 20 rfl rfl)
theorem dJ5_grow_21 : decode cJ5_grow 21 = .ok (.istore 4, 2) := dk_54 4 (dk_at dksJ5_grow_0 21 rfl rfl)
theorem dJ5_grow_23 : decode cJ5_grow 23 = .ok (.iload 4, 2) := dk_21 4 (dk_at dksJ5_grow_1 0 rfl rfl)
theorem dJ5_grow_25 : decode cJ5_grow 25 = .ok (.iload_n 1, 1) := dk_27 (dk_at dksJ5_grow_1 2 rfl rfl)
theorem dJ5_grow_26 : decode cJ5_grow 26 = .ok (.if_icmp .lt 15, 3) := dk_161 0 15 (dk_at dksJ5_grow_1 3 rfl rfl)
theorem dJ5_grow_29 : decode cJ5_grow 29 = .ok (.iload_n 2, 1) := dk_28 (dk_at dksJ5_grow_1 6 rfl rfl)
theorem dJ5_grow_30 : decode cJ5_grow 30 = .ok (.iload 4, 2) := dk_21 4 (dk_at dksJ5_grow_1 7 rfl rfl)
theorem dJ5_grow_32 : decode cJ5_grow 32 = .ok (.iadd, 1) := dk_96 (dk_at dksJ5_grow_1 9 rfl rfl)
theorem dJ5_grow_33 : decode cJ5_grow 33 = .ok (.dup, 1) := dk_89 (dk_at dksJ5_grow_1 10 rfl rfl)
theorem dJ5_grow_34 : decode cJ5_grow 34 = .ok (.istore_n 3, 1) := dk_62 (dk_at dksJ5_grow_1 11 rfl rfl)
theorem dJ5_grow_35 : decode cJ5_grow 35 = .ok (.ldc 9, 2) := dk_18 9 (dk_at dksJ5_grow_1 12 rfl rfl)
theorem dJ5_grow_37 : decode cJ5_grow 37 = .ok (.isub, 1) := dk_100 (dk_at dksJ5_grow_1 14 rfl rfl)
theorem dJ5_grow_38 : decode cJ5_grow 38 = .ok (.ifCond .le 11, 3) := dk_158 0 11 (dk_at dksJ5_grow_1 15 rfl rfl)
theorem dJ5_grow_41 : decode cJ5_grow 41 = .ok (.aload_n 0, 1) := dk_42 (dk_at dksJ5_grow_1 18 rfl rfl)
theorem dJ5_grow_42 : decode cJ5_grow 42 = .ok (.iload_n 1, 1) := dk_27 (dk_at dksJ5_grow_1 19 rfl rfl)
theorem dJ5_grow_43 : decode cJ5_grow 43 = .ok (.iload 4, 2) := dk_21 4 (dk_at dksJ5_grow_1 20 rfl rfl)
theorem dJ5_grow_45 : decode cJ5_grow 45 = .ok (.invokevirtual 10, 3) := dk_182 0 10 (dk_at dksJ5_grow_2 0 rfl rfl)
theorem dJ5_grow_48 : decode cJ5_grow 48 = .ok (.istore_n 3, 1) := dk_62 (dk_at dksJ5_grow_2 3 rfl rfl)
theorem dJ5_grow_49 : decode cJ5_grow 49 = .ok (.aload_n 0, 1) := dk_42 (dk_at dksJ5_grow_2 4 rfl rfl)
theorem dJ5_grow_50 : decode cJ5_grow 50 = .ok (.aload_n 0, 1) := dk_42 (dk_at dksJ5_grow_2 5 rfl rfl)
theorem dJ5_grow_51 : decode cJ5_grow 51 = .ok (.getfield 3, 3) := dk_180 0 3 (dk_at dksJ5_grow_2 6 rfl rfl)
theorem dJ5_grow_54 : decode cJ5_grow 54 = .ok (.iload_n 3, 1) := dk_29 (dk_at dksJ5_grow_2 9 rfl rfl)
theorem dJ5_grow_55 : decode cJ5_grow 55 = .ok (.invokestatic 14, 3) := dk_184 0 14 (dk_at dksJ5_grow_2 10 rfl rfl)
theorem dJ5_grow_58 : decode cJ5_grow 58 = .ok (.dup_x1, 1) := dk_90 (dk_at dksJ5_grow_2 13 rfl rfl)
theorem dJ5_grow_59 : decode cJ5_grow 59 = .ok (.putfield 3, 3) := dk_181 0 3 (dk_at dksJ5_grow_2 14 rfl rfl)
theorem dJ5_grow_62 : decode cJ5_grow 62 = .ok (.astore 5, 2) := dk_58 5 (dk_at dksJ5_grow_2 17 rfl rfl)
theorem dJ5_grow_64 : decode cJ5_grow 64 = .ok (.aload_n 0, 1) := dk_42 (dk_at dksJ5_grow_2 19 rfl rfl)
theorem dJ5_grow_65 : decode cJ5_grow 65 = .ok (.getfield 20, 3) := dk_180 0 20 (dk_at dksJ5_grow_2 20 rfl rfl)
theorem dJ5_grow_68 : decode cJ5_grow 68 = .ok (.aload_n 0, 1) := dk_42 (dk_at dksJ5_grow_2 23 rfl rfl)
theorem dJ5_grow_69 : decode cJ5_grow 69 = .ok (.getfield 24, 3) := dk_180 0 24 (dk_at dksJ5_grow_3 0 rfl rfl)
theorem dJ5_grow_72 : decode cJ5_grow 72 = .ok (.if_icmp .lt 24, 3) := dk_161 0 24 (dk_at dksJ5_grow_3 3 rfl rfl)
theorem dJ5_grow_75 : decode cJ5_grow 75 = .ok (.aload_n 0, 1) := dk_42 (dk_at dksJ5_grow_3 6 rfl rfl)
theorem dJ5_grow_76 : decode cJ5_grow 76 = .ok (.getfield 20, 3) := dk_180 0 20 (dk_at dksJ5_grow_3 7 rfl rfl)
theorem dJ5_grow_79 : decode cJ5_grow 79 = .ok (.aload_n 0, 1) := dk_42 (dk_at dksJ5_grow_3 10 rfl rfl)
theorem dJ5_grow_80 : decode cJ5_grow 80 = .ok (.getfield 24, 3) := dk_180 0 24 (dk_at dksJ5_grow_3 11 rfl rfl)
theorem dJ5_grow_83 : decode cJ5_grow 83 = .ok (.if_icmp .ne 81, 3) := dk_160 0 81 (dk_at dksJ5_grow_3 14 rfl rfl)
theorem dJ5_grow_86 : decode cJ5_grow 86 = .ok (.aload 5, 2) := dk_25 5 (dk_at dksJ5_grow_3 17 rfl rfl)
theorem dJ5_grow_88 : decode cJ5_grow 88 = .ok (.aload_n 0, 1) := dk_42 (dk_at dksJ5_grow_3 19 rfl rfl)
theorem dJ5_grow_89 : decode cJ5_grow 89 = .ok (.getfield 24, 3) := dk_180 0 24 (dk_at dksJ5_grow_3 20 rfl rfl)
theorem dJ5_grow_92 : decode cJ5_grow 92 = .ok (.aaload, 1) := dk_50 (dk_at dksJ5_grow_3 23 rfl rfl)
theorem dJ5_grow_93 : decode cJ5_grow 93 = .ok (.ifnull 71, 3) := dk_198 0 71 (dk_at dksJ5_grow_4 0 rfl rfl)
theorem dJ5_grow_96 : decode cJ5_grow 96 = .ok (.iload_n 3, 1) := dk_29 (dk_at dksJ5_grow_4 3 rfl rfl)
theorem dJ5_grow_97 : decode cJ5_grow 97 = .ok (.iload_n 2, 1) := dk_28 (dk_at dksJ5_grow_4 4 rfl rfl)
theorem dJ5_grow_98 : decode cJ5_grow 98 = .ok (.isub, 1) := dk_100 (dk_at dksJ5_grow_4 5 rfl rfl)
theorem dJ5_grow_99 : decode cJ5_grow 99 = .ok (.istore 6, 2) := dk_54 6 (dk_at dksJ5_grow_4 6 rfl rfl)
theorem dJ5_grow_101 : decode cJ5_grow 101 = .ok (.aload 5, 2) := dk_25 5 (dk_at dksJ5_grow_4 8 rfl rfl)
theorem dJ5_grow_103 : decode cJ5_grow 103 = .ok (.aload_n 0, 1) := dk_42 (dk_at dksJ5_grow_4 10 rfl rfl)
theorem dJ5_grow_104 : decode cJ5_grow 104 = .ok (.getfield 24, 3) := dk_180 0 24 (dk_at dksJ5_grow_4 11 rfl rfl)
theorem dJ5_grow_107 : decode cJ5_grow 107 = .ok (.aload 5, 2) := dk_25 5 (dk_at dksJ5_grow_4 14 rfl rfl)
theorem dJ5_grow_109 : decode cJ5_grow 109 = .ok (.aload_n 0, 1) := dk_42 (dk_at dksJ5_grow_4 16 rfl rfl)
theorem dJ5_grow_110 : decode cJ5_grow 110 = .ok (.getfield 24, 3) := dk_180 0 24 (dk_at dksJ5_grow_4 17 rfl rfl)
theorem dJ5_grow_113 : decode cJ5_grow 113 = .ok (.iload 6, 2) := dk_21 6 (dk_at dksJ5_grow_4 20 rfl rfl)
theorem dJ5_grow_115 : decode cJ5_grow 115 = .ok (.iadd, 1) := dk_96 (dk_at dksJ5_grow_4 22 rfl rfl)
theorem dJ5_grow_116 : decode cJ5_grow 116 = .ok (.iload_n 2, 1) := dk_28 (dk_at dksJ5_grow_4 23 rfl rfl)
theorem dJ5_grow_117 : decode cJ5_grow 117 = .ok (.aload_n 0, 1) := dk_42 (dk_at dksJ5_grow_5 0 rfl rfl)
theorem dJ5_grow_118 : decode cJ5_grow 118 = .ok (.getfield 24, 3) := dk_180 0 24 (dk_at dksJ5_grow_5 1 rfl rfl)
theorem dJ5_grow_121 : decode cJ5_grow 121 = .ok (.isub, 1) := dk_100 (dk_at dksJ5_grow_5 4 rfl rfl)
theorem dJ5_grow_122 : decode cJ5_grow 122 = .ok (.invokestatic 27, 3) := dk_184 0 27 (dk_at dksJ5_grow_5 5 rfl rfl)
theorem dJ5_grow_125 : decode cJ5_grow 125 = .ok (.aload_n 0, 1) := dk_42 (dk_at dksJ5_grow_5 8 rfl rfl)
theorem dJ5_grow_126 : decode cJ5_grow 126 = .ok (.getfield 24, 3) := dk_180 0 24 (dk_at dksJ5_grow_5 9 rfl rfl)
theorem dJ5_grow_129 : decode cJ5_grow 129 = .ok (.istore 7, 2) := dk_54 7 (dk_at dksJ5_grow_5 12 rfl rfl)
theorem dJ5_grow_131 : decode cJ5_grow 131 = .ok (.aload_n 0, 1) := dk_42 (dk_at dksJ5_grow_5 14 rfl rfl)
theorem dJ5_grow_132 : decode cJ5_grow 132 = .ok (.dup, 1) := dk_89 (dk_at dksJ5_grow_5 15 rfl rfl)
theorem dJ5_grow_133 : decode cJ5_grow 133 = .ok (.getfield 24, 3) := dk_180 0 24 (dk_at dksJ5_grow_5 16 rfl rfl)
theorem dJ5_grow_136 : decode cJ5_grow 136 = .ok (.iload 6, 2) := dk_21 6 (dk_at dksJ5_grow_5 19 rfl rfl)
theorem dJ5_grow_138 : decode cJ5_grow 138 = .ok (.iadd, 1) := dk_96 (dk_at dksJ5_grow_5 21 rfl rfl)
theorem dJ5_grow_139 : decode cJ5_grow 139 = .ok (.dup_x1, 1) := dk_90 (dk_at dksJ5_grow_5 22 rfl rfl)
theorem dJ5_grow_140 : decode cJ5_grow 140 = .ok (.putfield 24, 3) := dk_181 0 24 (dk_at dksJ5_grow_6 0 rfl rfl)
theorem dJ5_grow_143 : decode cJ5_grow 143 = .ok (.istore 8, 2) := dk_54 8 (dk_at dksJ5_grow_6 3 rfl rfl)
theorem dJ5_grow_145 : decode cJ5_grow 145 = .ok (.iload 7, 2) := dk_21 7 (dk_at dksJ5_grow_6 5 rfl rfl)
theorem dJ5_grow_147 : decode cJ5_grow 147 = .ok (.iload 8, 2) := dk_21 8 (dk_at dksJ5_grow_6 7 rfl rfl)
theorem dJ5_grow_149 : decode cJ5_grow 149 = .ok (.if_icmp .ge 15, 3) := dk_162 0 15 (dk_at dksJ5_grow_6 9 rfl rfl)
theorem dJ5_grow_152 : decode cJ5_grow 152 = .ok (.aload 5, 2) := dk_25 5 (dk_at dksJ5_grow_6 12 rfl rfl)
theorem dJ5_grow_154 : decode cJ5_grow 154 = .ok (.iload 7, 2) := dk_21 7 (dk_at dksJ5_grow_6 14 rfl rfl)
theorem dJ5_grow_156 : decode cJ5_grow 156 = .ok (.aconst_null, 1) := dk_1 (dk_at dksJ5_grow_6 16 rfl rfl)
theorem dJ5_grow_157 : decode cJ5_grow 157 = .ok (.aastore, 1) := dk_83 (dk_at dksJ5_grow_6 17 rfl rfl)
theorem dJ5_grow_158 : decode cJ5_grow 158 = .ok (.iinc 7 1, 3) := dk_132 7 1 (dk_at dksJ5_grow_6 18 rfl rfl)
theorem dJ5_grow_161 : decode cJ5_grow 161 = .ok (.goto (-16), 3) := dk_167 255 240 (dk_at dksJ5_grow_6 21 rfl rfl)
theorem dJ5_grow_164 : decode cJ5_grow 164 = .ok (.return_, 1) := dk_177 (dk_at dksJ5_grow_7 0 rfl rfl)
abbrev cJ5_newCapacity : ByteArray := prog_69_method_2_code
def yJ5_newCapacity : MethodName := ⟨RJ5, "newCapacity", "(II)I"⟩
def dkwJ5_newCapacity_2 : List UInt8 := [18, 9, 100, 156, 0, 9, 29, 28, 96, 167, 0, 5, 18, 9, 172]
abbrev dktJ5_newCapacity_2 : List UInt8 := dkwJ5_newCapacity_2 ++ []
def dkwJ5_newCapacity_1 : List UInt8 := [187, 0, 33, 89, 18, 35, 183, 0, 37, 191, 18, 41, 172, 27, 28, 164, 0, 6, 21, 4, 172, 29, 28, 96]
abbrev dktJ5_newCapacity_1 : List UInt8 := dkwJ5_newCapacity_1 ++ dktJ5_newCapacity_2
def dkwJ5_newCapacity_0 : List UInt8 := [42, 180, 0, 3, 190, 62, 29, 27, 96, 89, 54, 4, 18, 9, 100, 158, 0, 21, 21, 4, 156, 0, 13]
abbrev dktJ5_newCapacity_0 : List UInt8 := dkwJ5_newCapacity_0 ++ dktJ5_newCapacity_1
theorem dksJ5_newCapacity_0 : cJ5_newCapacity.data.toList.drop 0 = dktJ5_newCapacity_0 := by decide +kernel
theorem dksJ5_newCapacity_1 : cJ5_newCapacity.data.toList.drop 23 = dktJ5_newCapacity_1 := dk_seg dksJ5_newCapacity_0 23 rfl rfl
theorem dksJ5_newCapacity_2 : cJ5_newCapacity.data.toList.drop 47 = dktJ5_newCapacity_2 := dk_seg dksJ5_newCapacity_1 24 rfl rfl
theorem dJ5_newCapacity_0 : decode cJ5_newCapacity 0 = .ok (.aload_n 0, 1) := dk_42 (dk_at dksJ5_newCapacity_0 0 rfl rfl)
theorem dJ5_newCapacity_1 : decode cJ5_newCapacity 1 = .ok (.getfield 3, 3) := dk_180 0 3 (dk_at dksJ5_newCapacity_0 1 rfl rfl)
theorem dJ5_newCapacity_4 : decode cJ5_newCapacity 4 = .ok (.arraylength, 1) := dk_190 (dk_at dksJ5_newCapacity_0 4 rfl rfl)
theorem dJ5_newCapacity_5 : decode cJ5_newCapacity 5 = .ok (.istore_n 3, 1) := dk_62 (dk_at dksJ5_newCapacity_0 5 rfl rfl)
theorem dJ5_newCapacity_6 : decode cJ5_newCapacity 6 = .ok (.iload_n 3, 1) := dk_29 (dk_at dksJ5_newCapacity_0 6 rfl rfl)
theorem dJ5_newCapacity_7 : decode cJ5_newCapacity 7 = .ok (.iload_n 1, 1) := dk_27 (dk_at dksJ5_newCapacity_0 7 rfl rfl)
theorem dJ5_newCapacity_8 : decode cJ5_newCapacity 8 = .ok (.iadd, 1) := dk_96 (dk_at dksJ5_newCapacity_0 8 rfl rfl)
theorem dJ5_newCapacity_9 : decode cJ5_newCapacity 9 = .ok (.dup, 1) := dk_89 (dk_at dksJ5_newCapacity_0 9 rfl rfl)
theorem dJ5_newCapacity_10 : decode cJ5_newCapacity 10 = .ok (.istore 4, 2) := dk_54 4 (dk_at dksJ5_newCapacity_0 10 rfl rfl)
theorem dJ5_newCapacity_12 : decode cJ5_newCapacity 12 = .ok (.ldc 9, 2) := dk_18 9 (dk_at dksJ5_newCapacity_0 12 rfl rfl)
theorem dJ5_newCapacity_14 : decode cJ5_newCapacity 14 = .ok (.isub, 1) := dk_100 (dk_at dksJ5_newCapacity_0 14 rfl rfl)
theorem dJ5_newCapacity_15 : decode cJ5_newCapacity 15 = .ok (.ifCond .le 21, 3) := dk_158 0 21 (dk_at dksJ5_newCapacity_0 15 rfl rfl)
theorem dJ5_newCapacity_18 : decode cJ5_newCapacity 18 = .ok (.iload 4, 2) := dk_21 4 (dk_at dksJ5_newCapacity_0 18 rfl rfl)
theorem dJ5_newCapacity_20 : decode cJ5_newCapacity 20 = .ok (.ifCond .ge 13, 3) := dk_156 0 13 (dk_at dksJ5_newCapacity_0 20 rfl rfl)
theorem dJ5_newCapacity_23 : decode cJ5_newCapacity 23 = .ok (.new 33, 3) := dk_187 0 33 (dk_at dksJ5_newCapacity_1 0 rfl rfl)
theorem dJ5_newCapacity_26 : decode cJ5_newCapacity 26 = .ok (.dup, 1) := dk_89 (dk_at dksJ5_newCapacity_1 3 rfl rfl)
theorem dJ5_newCapacity_27 : decode cJ5_newCapacity 27 = .ok (.ldc 35, 2) := dk_18 35 (dk_at dksJ5_newCapacity_1 4 rfl rfl)
theorem dJ5_newCapacity_29 : decode cJ5_newCapacity 29 = .ok (.invokespecial 37, 3) := dk_183 0 37 (dk_at dksJ5_newCapacity_1 6 rfl rfl)
theorem dJ5_newCapacity_32 : decode cJ5_newCapacity 32 = .ok (.athrow, 1) := dk_191 (dk_at dksJ5_newCapacity_1 9 rfl rfl)
theorem dJ5_newCapacity_33 : decode cJ5_newCapacity 33 = .ok (.ldc 41, 2) := dk_18 41 (dk_at dksJ5_newCapacity_1 10 rfl rfl)
theorem dJ5_newCapacity_35 : decode cJ5_newCapacity 35 = .ok (.ireturn, 1) := dk_172 (dk_at dksJ5_newCapacity_1 12 rfl rfl)
theorem dJ5_newCapacity_36 : decode cJ5_newCapacity 36 = .ok (.iload_n 1, 1) := dk_27 (dk_at dksJ5_newCapacity_1 13 rfl rfl)
theorem dJ5_newCapacity_37 : decode cJ5_newCapacity 37 = .ok (.iload_n 2, 1) := dk_28 (dk_at dksJ5_newCapacity_1 14 rfl rfl)
theorem dJ5_newCapacity_38 : decode cJ5_newCapacity 38 = .ok (.if_icmp .le 6, 3) := dk_164 0 6 (dk_at dksJ5_newCapacity_1 15 rfl rfl)
theorem dJ5_newCapacity_41 : decode cJ5_newCapacity 41 = .ok (.iload 4, 2) := dk_21 4 (dk_at dksJ5_newCapacity_1 18 rfl rfl)
theorem dJ5_newCapacity_43 : decode cJ5_newCapacity 43 = .ok (.ireturn, 1) := dk_172 (dk_at dksJ5_newCapacity_1 20 rfl rfl)
theorem dJ5_newCapacity_44 : decode cJ5_newCapacity 44 = .ok (.iload_n 3, 1) := dk_29 (dk_at dksJ5_newCapacity_1 21 rfl rfl)
theorem dJ5_newCapacity_45 : decode cJ5_newCapacity 45 = .ok (.iload_n 2, 1) := dk_28 (dk_at dksJ5_newCapacity_1 22 rfl rfl)
theorem dJ5_newCapacity_46 : decode cJ5_newCapacity 46 = .ok (.iadd, 1) := dk_96 (dk_at dksJ5_newCapacity_1 23 rfl rfl)
theorem dJ5_newCapacity_47 : decode cJ5_newCapacity 47 = .ok (.ldc 9, 2) := dk_18 9 (dk_at dksJ5_newCapacity_2 0 rfl rfl)
theorem dJ5_newCapacity_49 : decode cJ5_newCapacity 49 = .ok (.isub, 1) := dk_100 (dk_at dksJ5_newCapacity_2 2 rfl rfl)
theorem dJ5_newCapacity_50 : decode cJ5_newCapacity 50 = .ok (.ifCond .ge 9, 3) := dk_156 0 9 (dk_at dksJ5_newCapacity_2 3 rfl rfl)
theorem dJ5_newCapacity_53 : decode cJ5_newCapacity 53 = .ok (.iload_n 3, 1) := dk_29 (dk_at dksJ5_newCapacity_2 6 rfl rfl)
theorem dJ5_newCapacity_54 : decode cJ5_newCapacity 54 = .ok (.iload_n 2, 1) := dk_28 (dk_at dksJ5_newCapacity_2 7 rfl rfl)
theorem dJ5_newCapacity_55 : decode cJ5_newCapacity 55 = .ok (.iadd, 1) := dk_96 (dk_at dksJ5_newCapacity_2 8 rfl rfl)
theorem dJ5_newCapacity_56 : decode cJ5_newCapacity 56 = .ok (.goto 5, 3) := dk_167 0 5 (dk_at dksJ5_newCapacity_2 9 rfl rfl)
theorem dJ5_newCapacity_59 : decode cJ5_newCapacity 59 = .ok (.ldc 9, 2) := dk_18 9 (dk_at dksJ5_newCapacity_2 12 rfl rfl)
theorem dJ5_newCapacity_61 : decode cJ5_newCapacity 61 = .ok (.ireturn, 1) := dk_172 (dk_at dksJ5_newCapacity_2 14 rfl rfl)
abbrev cJ5_size : ByteArray := prog_69_method_37_code
def yJ5_size : MethodName := ⟨RJ5, "size", "()I"⟩
def dkwJ5_size_0 : List UInt8 := [42, 180, 0, 20, 42, 180, 0, 24, 42, 180, 0, 3, 190, 184, 0, 127, 172]
abbrev dktJ5_size_0 : List UInt8 := dkwJ5_size_0 ++ []
theorem dksJ5_size_0 : cJ5_size.data.toList.drop 0 = dktJ5_size_0 := by decide +kernel
theorem dJ5_size_0 : decode cJ5_size 0 = .ok (.aload_n 0, 1) := dk_42 (dk_at dksJ5_size_0 0 rfl rfl)
theorem dJ5_size_1 : decode cJ5_size 1 = .ok (.getfield 20, 3) := dk_180 0 20 (dk_at dksJ5_size_0 1 rfl rfl)
theorem dJ5_size_4 : decode cJ5_size 4 = .ok (.aload_n 0, 1) := dk_42 (dk_at dksJ5_size_0 4 rfl rfl)
theorem dJ5_size_5 : decode cJ5_size 5 = .ok (.getfield 24, 3) := dk_180 0 24 (dk_at dksJ5_size_0 5 rfl rfl)
theorem dJ5_size_8 : decode cJ5_size 8 = .ok (.aload_n 0, 1) := dk_42 (dk_at dksJ5_size_0 8 rfl rfl)
theorem dJ5_size_9 : decode cJ5_size 9 = .ok (.getfield 3, 3) := dk_180 0 3 (dk_at dksJ5_size_0 9 rfl rfl)
theorem dJ5_size_12 : decode cJ5_size 12 = .ok (.arraylength, 1) := dk_190 (dk_at dksJ5_size_0 12 rfl rfl)
theorem dJ5_size_13 : decode cJ5_size 13 = .ok (.invokestatic 127, 3) := dk_184 0 127 (dk_at dksJ5_size_0 13 rfl rfl)
theorem dJ5_size_16 : decode cJ5_size 16 = .ok (.ireturn, 1) := dk_172 (dk_at dksJ5_size_0 16 rfl rfl)
abbrev cJ5_removeFirst : ByteArray := prog_69_method_18_code
def yJ5_removeFirst : MethodName := ⟨RJ5, "removeFirst", "()Ljava/lang/Object;"⟩
def dkwJ5_removeFirst_0 : List UInt8 := [42, 182, 0, 93, 76, 43, 199, 0, 11, 187, 0, 97, 89, 183, 0, 99, 191, 43, 176]
abbrev dktJ5_removeFirst_0 : List UInt8 := dkwJ5_removeFirst_0 ++ []
theorem dksJ5_removeFirst_0 : cJ5_removeFirst.data.toList.drop 0 = dktJ5_removeFirst_0 := by decide +kernel
theorem dJ5_removeFirst_0 : decode cJ5_removeFirst 0 = .ok (.aload_n 0, 1) := dk_42 (dk_at dksJ5_removeFirst_0 0 rfl rfl)
theorem dJ5_removeFirst_1 : decode cJ5_removeFirst 1 = .ok (.invokevirtual 93, 3) := dk_182 0 93 (dk_at dksJ5_removeFirst_0 1 rfl rfl)
theorem dJ5_removeFirst_4 : decode cJ5_removeFirst 4 = .ok (.astore_n 1, 1) := dk_76 (dk_at dksJ5_removeFirst_0 4 rfl rfl)
theorem dJ5_removeFirst_5 : decode cJ5_removeFirst 5 = .ok (.aload_n 1, 1) := dk_43 (dk_at dksJ5_removeFirst_0 5 rfl rfl)
theorem dJ5_removeFirst_6 : decode cJ5_removeFirst 6 = .ok (.ifnonnull 11, 3) := dk_199 0 11 (dk_at dksJ5_removeFirst_0 6 rfl rfl)
theorem dJ5_removeFirst_9 : decode cJ5_removeFirst 9 = .ok (.new 97, 3) := dk_187 0 97 (dk_at dksJ5_removeFirst_0 9 rfl rfl)
theorem dJ5_removeFirst_12 : decode cJ5_removeFirst 12 = .ok (.dup, 1) := dk_89 (dk_at dksJ5_removeFirst_0 12 rfl rfl)
theorem dJ5_removeFirst_13 : decode cJ5_removeFirst 13 = .ok (.invokespecial 99, 3) := dk_183 0 99 (dk_at dksJ5_removeFirst_0 13 rfl rfl)
theorem dJ5_removeFirst_16 : decode cJ5_removeFirst 16 = .ok (.athrow, 1) := dk_191 (dk_at dksJ5_removeFirst_0 16 rfl rfl)
theorem dJ5_removeFirst_17 : decode cJ5_removeFirst 17 = .ok (.aload_n 1, 1) := dk_43 (dk_at dksJ5_removeFirst_0 17 rfl rfl)
theorem dJ5_removeFirst_18 : decode cJ5_removeFirst 18 = .ok (.areturn, 1) := dk_176 (dk_at dksJ5_removeFirst_0 18 rfl rfl)
abbrev cJ5_iterator : ByteArray := prog_69_method_39_code
def yJ5_iterator : MethodName := ⟨RJ5, "iterator", "()Ljava/util/Iterator;"⟩
def dkwJ5_iterator_0 : List UInt8 := [187, 0, 131, 89, 42, 183, 0, 133, 176]
abbrev dktJ5_iterator_0 : List UInt8 := dkwJ5_iterator_0 ++ []
theorem dksJ5_iterator_0 : cJ5_iterator.data.toList.drop 0 = dktJ5_iterator_0 := by decide +kernel
theorem dJ5_iterator_0 : decode cJ5_iterator 0 = .ok (.new 131, 3) := dk_187 0 131 (dk_at dksJ5_iterator_0 0 rfl rfl)
theorem dJ5_iterator_3 : decode cJ5_iterator 3 = .ok (.dup, 1) := dk_89 (dk_at dksJ5_iterator_0 3 rfl rfl)
theorem dJ5_iterator_4 : decode cJ5_iterator 4 = .ok (.aload_n 0, 1) := dk_42 (dk_at dksJ5_iterator_0 4 rfl rfl)
theorem dJ5_iterator_5 : decode cJ5_iterator 5 = .ok (.invokespecial 133, 3) := dk_183 0 133 (dk_at dksJ5_iterator_0 5 rfl rfl)
theorem dJ5_iterator_8 : decode cJ5_iterator 8 = .ok (.areturn, 1) := dk_176 (dk_at dksJ5_iterator_0 8 rfl rfl)
abbrev cJ5_removeLast : ByteArray := prog_69_method_19_code
def yJ5_removeLast : MethodName := ⟨RJ5, "removeLast", "()Ljava/lang/Object;"⟩
def dkwJ5_removeLast_0 : List UInt8 := [42, 182, 0, 100, 76, 43, 199, 0, 11, 187, 0, 97, 89, 183, 0, 99, 191, 43, 176]
abbrev dktJ5_removeLast_0 : List UInt8 := dkwJ5_removeLast_0 ++ []
theorem dksJ5_removeLast_0 : cJ5_removeLast.data.toList.drop 0 = dktJ5_removeLast_0 := by decide +kernel
theorem dJ5_removeLast_0 : decode cJ5_removeLast 0 = .ok (.aload_n 0, 1) := dk_42 (dk_at dksJ5_removeLast_0 0 rfl rfl)
theorem dJ5_removeLast_1 : decode cJ5_removeLast 1 = .ok (.invokevirtual 100, 3) := dk_182 0 100 (dk_at dksJ5_removeLast_0 1 rfl rfl)
theorem dJ5_removeLast_4 : decode cJ5_removeLast 4 = .ok (.astore_n 1, 1) := dk_76 (dk_at dksJ5_removeLast_0 4 rfl rfl)
theorem dJ5_removeLast_5 : decode cJ5_removeLast 5 = .ok (.aload_n 1, 1) := dk_43 (dk_at dksJ5_removeLast_0 5 rfl rfl)
theorem dJ5_removeLast_6 : decode cJ5_removeLast 6 = .ok (.ifnonnull 11, 3) := dk_199 0 11 (dk_at dksJ5_removeLast_0 6 rfl rfl)
theorem dJ5_removeLast_9 : decode cJ5_removeLast 9 = .ok (.new 97, 3) := dk_187 0 97 (dk_at dksJ5_removeLast_0 9 rfl rfl)
theorem dJ5_removeLast_12 : decode cJ5_removeLast 12 = .ok (.dup, 1) := dk_89 (dk_at dksJ5_removeLast_0 12 rfl rfl)
theorem dJ5_removeLast_13 : decode cJ5_removeLast 13 = .ok (.invokespecial 99, 3) := dk_183 0 99 (dk_at dksJ5_removeLast_0 13 rfl rfl)
theorem dJ5_removeLast_16 : decode cJ5_removeLast 16 = .ok (.athrow, 1) := dk_191 (dk_at dksJ5_removeLast_0 16 rfl rfl)
theorem dJ5_removeLast_17 : decode cJ5_removeLast 17 = .ok (.aload_n 1, 1) := dk_43 (dk_at dksJ5_removeLast_0 17 rfl rfl)
theorem dJ5_removeLast_18 : decode cJ5_removeLast 18 = .ok (.areturn, 1) := dk_176 (dk_at dksJ5_removeLast_0 18 rfl rfl)
abbrev cJ5_pollLast : ByteArray := prog_69_method_21_code
def yJ5_pollLast : MethodName := ⟨RJ5, "pollLast", "()Ljava/lang/Object;"⟩
def dkwJ5_pollLast_1 : List UInt8 := [198, 0, 12, 43, 42, 28, 90, 181, 0, 20, 1, 83, 45, 176]
abbrev dktJ5_pollLast_1 : List UInt8 := dkwJ5_pollLast_1 ++ []
def dkwJ5_pollLast_0 : List UInt8 := [42, 180, 0, 3, 89, 76, 42, 180, 0, 20, 43, 190, 184, 0, 68, 89, 61, 184, 0, 103, 78, 45]
abbrev dktJ5_pollLast_0 : List UInt8 := dkwJ5_pollLast_0 ++ dktJ5_pollLast_1
theorem dksJ5_pollLast_0 : cJ5_pollLast.data.toList.drop 0 = dktJ5_pollLast_0 := by decide +kernel
theorem dksJ5_pollLast_1 : cJ5_pollLast.data.toList.drop 22 = dktJ5_pollLast_1 := dk_seg dksJ5_pollLast_0 22 rfl rfl
theorem dJ5_pollLast_0 : decode cJ5_pollLast 0 = .ok (.aload_n 0, 1) := dk_42 (dk_at dksJ5_pollLast_0 0 rfl rfl)
theorem dJ5_pollLast_1 : decode cJ5_pollLast 1 = .ok (.getfield 3, 3) := dk_180 0 3 (dk_at dksJ5_pollLast_0 1 rfl rfl)
theorem dJ5_pollLast_4 : decode cJ5_pollLast 4 = .ok (.dup, 1) := dk_89 (dk_at dksJ5_pollLast_0 4 rfl rfl)
theorem dJ5_pollLast_5 : decode cJ5_pollLast 5 = .ok (.astore_n 1, 1) := dk_76 (dk_at dksJ5_pollLast_0 5 rfl rfl)
theorem dJ5_pollLast_6 : decode cJ5_pollLast 6 = .ok (.aload_n 0, 1) := dk_42 (dk_at dksJ5_pollLast_0 6 rfl rfl)
theorem dJ5_pollLast_7 : decode cJ5_pollLast 7 = .ok (.getfield 20, 3) := dk_180 0 20 (dk_at dksJ5_pollLast_0 7 rfl rfl)
theorem dJ5_pollLast_10 : decode cJ5_pollLast 10 = .ok (.aload_n 1, 1) := dk_43 (dk_at dksJ5_pollLast_0 10 rfl rfl)
theorem dJ5_pollLast_11 : decode cJ5_pollLast 11 = .ok (.arraylength, 1) := dk_190 (dk_at dksJ5_pollLast_0 11 rfl rfl)
theorem dJ5_pollLast_12 : decode cJ5_pollLast 12 = .ok (.invokestatic 68, 3) := dk_184 0 68 (dk_at dksJ5_pollLast_0 12 rfl rfl)
theorem dJ5_pollLast_15 : decode cJ5_pollLast 15 = .ok (.dup, 1) := dk_89 (dk_at dksJ5_pollLast_0 15 rfl rfl)
theorem dJ5_pollLast_16 : decode cJ5_pollLast 16 = .ok (.istore_n 2, 1) := dk_61 (dk_at dksJ5_pollLast_0 16 rfl rfl)
theorem dJ5_pollLast_17 : decode cJ5_pollLast 17 = .ok (.invokestatic 103, 3) := dk_184 0 103 (dk_at dksJ5_pollLast_0 17 rfl rfl)
theorem dJ5_pollLast_20 : decode cJ5_pollLast 20 = .ok (.astore_n 3, 1) := dk_78 (dk_at dksJ5_pollLast_0 20 rfl rfl)
theorem dJ5_pollLast_21 : decode cJ5_pollLast 21 = .ok (.aload_n 3, 1) := dk_45 (dk_at dksJ5_pollLast_0 21 rfl rfl)
theorem dJ5_pollLast_22 : decode cJ5_pollLast 22 = .ok (.ifnull 12, 3) := dk_198 0 12 (dk_at dksJ5_pollLast_1 0 rfl rfl)
theorem dJ5_pollLast_25 : decode cJ5_pollLast 25 = .ok (.aload_n 1, 1) := dk_43 (dk_at dksJ5_pollLast_1 3 rfl rfl)
theorem dJ5_pollLast_26 : decode cJ5_pollLast 26 = .ok (.aload_n 0, 1) := dk_42 (dk_at dksJ5_pollLast_1 4 rfl rfl)
theorem dJ5_pollLast_27 : decode cJ5_pollLast 27 = .ok (.iload_n 2, 1) := dk_28 (dk_at dksJ5_pollLast_1 5 rfl rfl)
theorem dJ5_pollLast_28 : decode cJ5_pollLast 28 = .ok (.dup_x1, 1) := dk_90 (dk_at dksJ5_pollLast_1 6 rfl rfl)
theorem dJ5_pollLast_29 : decode cJ5_pollLast 29 = .ok (.putfield 20, 3) := dk_181 0 20 (dk_at dksJ5_pollLast_1 7 rfl rfl)
theorem dJ5_pollLast_32 : decode cJ5_pollLast 32 = .ok (.aconst_null, 1) := dk_1 (dk_at dksJ5_pollLast_1 10 rfl rfl)
theorem dJ5_pollLast_33 : decode cJ5_pollLast 33 = .ok (.aastore, 1) := dk_83 (dk_at dksJ5_pollLast_1 11 rfl rfl)
theorem dJ5_pollLast_34 : decode cJ5_pollLast 34 = .ok (.aload_n 3, 1) := dk_45 (dk_at dksJ5_pollLast_1 12 rfl rfl)
theorem dJ5_pollLast_35 : decode cJ5_pollLast 35 = .ok (.areturn, 1) := dk_176 (dk_at dksJ5_pollLast_1 13 rfl rfl)
abbrev cJ5_clear : ByteArray := prog_69_method_53_code
def yJ5_clear : MethodName := ⟨RJ5, "clear", "()V"⟩
def dkwJ5_clear_1 : List UInt8 := [181, 0, 24, 177]
abbrev dktJ5_clear_1 : List UInt8 := dkwJ5_clear_1 ++ []
def dkwJ5_clear_0 : List UInt8 := [42, 180, 0, 3, 42, 180, 0, 24, 42, 180, 0, 20, 184, 0, 181, 42, 42, 3, 90, 181, 0, 20]
abbrev dktJ5_clear_0 : List UInt8 := dkwJ5_clear_0 ++ dktJ5_clear_1
theorem dksJ5_clear_0 : cJ5_clear.data.toList.drop 0 = dktJ5_clear_0 := by decide +kernel
theorem dksJ5_clear_1 : cJ5_clear.data.toList.drop 22 = dktJ5_clear_1 := dk_seg dksJ5_clear_0 22 rfl rfl
theorem dJ5_clear_0 : decode cJ5_clear 0 = .ok (.aload_n 0, 1) := dk_42 (dk_at dksJ5_clear_0 0 rfl rfl)
theorem dJ5_clear_1 : decode cJ5_clear 1 = .ok (.getfield 3, 3) := dk_180 0 3 (dk_at dksJ5_clear_0 1 rfl rfl)
theorem dJ5_clear_4 : decode cJ5_clear 4 = .ok (.aload_n 0, 1) := dk_42 (dk_at dksJ5_clear_0 4 rfl rfl)
theorem dJ5_clear_5 : decode cJ5_clear 5 = .ok (.getfield 24, 3) := dk_180 0 24 (dk_at dksJ5_clear_0 5 rfl rfl)
theorem dJ5_clear_8 : decode cJ5_clear 8 = .ok (.aload_n 0, 1) := dk_42 (dk_at dksJ5_clear_0 8 rfl rfl)
theorem dJ5_clear_9 : decode cJ5_clear 9 = .ok (.getfield 20, 3) := dk_180 0 20 (dk_at dksJ5_clear_0 9 rfl rfl)
theorem dJ5_clear_12 : decode cJ5_clear 12 = .ok (.invokestatic 181, 3) := dk_184 0 181 (dk_at dksJ5_clear_0 12 rfl rfl)
theorem dJ5_clear_15 : decode cJ5_clear 15 = .ok (.aload_n 0, 1) := dk_42 (dk_at dksJ5_clear_0 15 rfl rfl)
theorem dJ5_clear_16 : decode cJ5_clear 16 = .ok (.aload_n 0, 1) := dk_42 (dk_at dksJ5_clear_0 16 rfl rfl)
theorem dJ5_clear_17 : decode cJ5_clear 17 = .ok (.iconst 0, 1) := dk_3 (dk_at dksJ5_clear_0 17 rfl rfl)
theorem dJ5_clear_18 : decode cJ5_clear 18 = .ok (.dup_x1, 1) := dk_90 (dk_at dksJ5_clear_0 18 rfl rfl)
theorem dJ5_clear_19 : decode cJ5_clear 19 = .ok (.putfield 20, 3) := dk_181 0 20 (dk_at dksJ5_clear_0 19 rfl rfl)
theorem dJ5_clear_22 : decode cJ5_clear 22 = .ok (.putfield 24, 3) := dk_181 0 24 (dk_at dksJ5_clear_1 0 rfl rfl)
theorem dJ5_clear_25 : decode cJ5_clear 25 = .ok (.return_, 1) := dk_177 (dk_at dksJ5_clear_1 3 rfl rfl)
abbrev cJ5_circularClear : ByteArray := prog_69_method_54_code
def yJ5_circularClear : MethodName := ⟨RJ5, "circularClear", "([Ljava/lang/Object;II)V"⟩
def dkwJ5_circularClear_1 : List UInt8 := [167, 255, 244, 29, 28, 160, 0, 6, 167, 0, 10, 3, 60, 28, 62, 167, 255, 229, 177]
abbrev dktJ5_circularClear_1 : List UInt8 := dkwJ5_circularClear_1 ++ []
def dkwJ5_circularClear_0 : List UInt8 := [27, 28, 163, 0, 7, 28, 167, 0, 5, 42, 190, 62, 27, 29, 162, 0, 13, 42, 27, 1, 83, 132, 1, 1]
abbrev dktJ5_circularClear_0 : List UInt8 := dkwJ5_circularClear_0 ++ dktJ5_circularClear_1
theorem dksJ5_circularClear_0 : cJ5_circularClear.data.toList.drop 0 = dktJ5_circularClear_0 := by decide +kernel
theorem dksJ5_circularClear_1 : cJ5_circularClear.data.toList.drop 24 = dktJ5_circularClear_1 := dk_seg dksJ5_circularClear_0 24 rfl rfl
theorem dJ5_circularClear_0 : decode cJ5_circularClear 0 = .ok (.iload_n 1, 1) := dk_27 (dk_at dksJ5_circularClear_0 0 rfl rfl)
theorem dJ5_circularClear_1 : decode cJ5_circularClear 1 = .ok (.iload_n 2, 1) := dk_28 (dk_at dksJ5_circularClear_0 1 rfl rfl)
theorem dJ5_circularClear_2 : decode cJ5_circularClear 2 = .ok (.if_icmp .gt 7, 3) := dk_163 0 7 (dk_at dksJ5_circularClear_0 2 rfl rfl)
theorem dJ5_circularClear_5 : decode cJ5_circularClear 5 = .ok (.iload_n 2, 1) := dk_28 (dk_at dksJ5_circularClear_0 5 rfl rfl)
theorem dJ5_circularClear_6 : decode cJ5_circularClear 6 = .ok (.goto 5, 3) := dk_167 0 5 (dk_at dksJ5_circularClear_0 6 rfl rfl)
theorem dJ5_circularClear_9 : decode cJ5_circularClear 9 = .ok (.aload_n 0, 1) := dk_42 (dk_at dksJ5_circularClear_0 9 rfl rfl)
theorem dJ5_circularClear_10 : decode cJ5_circularClear 10 = .ok (.arraylength, 1) := dk_190 (dk_at dksJ5_circularClear_0 10 rfl rfl)
theorem dJ5_circularClear_11 : decode cJ5_circularClear 11 = .ok (.istore_n 3, 1) := dk_62 (dk_at dksJ5_circularClear_0 11 rfl rfl)
theorem dJ5_circularClear_12 : decode cJ5_circularClear 12 = .ok (.iload_n 1, 1) := dk_27 (dk_at dksJ5_circularClear_0 12 rfl rfl)
theorem dJ5_circularClear_13 : decode cJ5_circularClear 13 = .ok (.iload_n 3, 1) := dk_29 (dk_at dksJ5_circularClear_0 13 rfl rfl)
theorem dJ5_circularClear_14 : decode cJ5_circularClear 14 = .ok (.if_icmp .ge 13, 3) := dk_162 0 13 (dk_at dksJ5_circularClear_0 14 rfl rfl)
theorem dJ5_circularClear_17 : decode cJ5_circularClear 17 = .ok (.aload_n 0, 1) := dk_42 (dk_at dksJ5_circularClear_0 17 rfl rfl)
theorem dJ5_circularClear_18 : decode cJ5_circularClear 18 = .ok (.iload_n 1, 1) := dk_27 (dk_at dksJ5_circularClear_0 18 rfl rfl)
theorem dJ5_circularClear_19 : decode cJ5_circularClear 19 = .ok (.aconst_null, 1) := dk_1 (dk_at dksJ5_circularClear_0 19 rfl rfl)
theorem dJ5_circularClear_20 : decode cJ5_circularClear 20 = .ok (.aastore, 1) := dk_83 (dk_at dksJ5_circularClear_0 20 rfl rfl)
theorem dJ5_circularClear_21 : decode cJ5_circularClear 21 = .ok (.iinc 1 1, 3) := dk_132 1 1 (dk_at dksJ5_circularClear_0 21 rfl rfl)
theorem dJ5_circularClear_24 : decode cJ5_circularClear 24 = .ok (.goto (-12), 3) := dk_167 255 244 (dk_at dksJ5_circularClear_1 0 rfl rfl)
theorem dJ5_circularClear_27 : decode cJ5_circularClear 27 = .ok (.iload_n 3, 1) := dk_29 (dk_at dksJ5_circularClear_1 3 rfl rfl)
theorem dJ5_circularClear_28 : decode cJ5_circularClear 28 = .ok (.iload_n 2, 1) := dk_28 (dk_at dksJ5_circularClear_1 4 rfl rfl)
theorem dJ5_circularClear_29 : decode cJ5_circularClear 29 = .ok (.if_icmp .ne 6, 3) := dk_160 0 6 (dk_at dksJ5_circularClear_1 5 rfl rfl)
theorem dJ5_circularClear_32 : decode cJ5_circularClear 32 = .ok (.goto 10, 3) := dk_167 0 10 (dk_at dksJ5_circularClear_1 8 rfl rfl)
theorem dJ5_circularClear_35 : decode cJ5_circularClear 35 = .ok (.iconst 0, 1) := dk_3 (dk_at dksJ5_circularClear_1 11 rfl rfl)
theorem dJ5_circularClear_36 : decode cJ5_circularClear 36 = .ok (.istore_n 1, 1) := dk_60 (dk_at dksJ5_circularClear_1 12 rfl rfl)
theorem dJ5_circularClear_37 : decode cJ5_circularClear 37 = .ok (.iload_n 2, 1) := dk_28 (dk_at dksJ5_circularClear_1 13 rfl rfl)
theorem dJ5_circularClear_38 : decode cJ5_circularClear 38 = .ok (.istore_n 3, 1) := dk_62 (dk_at dksJ5_circularClear_1 14 rfl rfl)
theorem dJ5_circularClear_39 : decode cJ5_circularClear 39 = .ok (.goto (-27), 3) := dk_167 255 229 (dk_at dksJ5_circularClear_1 15 rfl rfl)
theorem dJ5_circularClear_42 : decode cJ5_circularClear 42 = .ok (.return_, 1) := dk_177 (dk_at dksJ5_circularClear_1 18 rfl rfl)
theorem q114 : (Jvm.Cond.initialized "java/util/ArrayDeque") ∈ lw_all := lw_g (lw_at lw_m1 8 rfl) rfl
theorem q329 : (Jvm.Cond.instantiable "java/util/ArrayDeque" (3 : Nat)) ∈ lw_all := lw_g (lw_at lw_m1 223 rfl) rfl
theorem q331 : (Jvm.Cond.instanceMethod ({ cls := "java/util/ArrayDeque", name := "<init>", desc := "()V" } : Jvm.MethodName)) ∈ lw_all := lw_g (lw_at lw_m1 225 rfl) rfl
theorem q332 : (Jvm.Cond.code ({ cls := "java/util/ArrayDeque", name := "<init>", desc := "()V" } : Jvm.MethodName) prog_69_method_3_code (1 : Nat) (Option.none : Option Jvm.ClassFile.FieldType)) ∈ lw_all := lw_g (lw_at lw_m1 226 rfl) rfl
theorem q333 : (Jvm.Cond.methodLink "java/util/ArrayDeque" (42 : Nat) ({ cls := "java/util/AbstractCollection", name := "<init>", desc := "()V" } : Jvm.MethodName)) ∈ lw_all := lw_g (lw_at lw_m1 227 rfl) rfl
theorem q334 : (Jvm.Cond.classLink "java/util/ArrayDeque" (47 : Nat) "java/lang/Object") ∈ lw_all := lw_g (lw_at lw_m1 228 rfl) rfl
theorem q336 : (Jvm.Cond.fieldLink "java/util/ArrayDeque" (3 : Nat) "java/util/ArrayDeque" "elements" "[Ljava/lang/Object;") ∈ lw_all := lw_g (lw_at lw_m1 230 rfl) rfl
theorem q339 : (Jvm.Cond.fieldLink "java/util/ArrayDeque" (24 : Nat) "java/util/ArrayDeque" "head" "I") ∈ lw_all := lw_g (lw_at lw_m1 233 rfl) rfl
theorem q340 : (Jvm.Cond.fieldLink "java/util/ArrayDeque" (20 : Nat) "java/util/ArrayDeque" "tail" "I") ∈ lw_all := lw_g (lw_at lw_m1 234 rfl) rfl
theorem q341 : (Jvm.Cond.lays "java/util/ArrayDeque" "java/util/ArrayDeque" "elements" "[Ljava/lang/Object;") ∈ lw_all := lw_g (lw_at lw_m1 235 rfl) rfl
theorem q342 : (Jvm.Cond.soleField "java/util/ArrayDeque" "elements") ∈ lw_all := lw_g (lw_at lw_m1 236 rfl) rfl
theorem q343 : (Jvm.Cond.lays "java/util/ArrayDeque" "java/util/ArrayDeque" "head" "I") ∈ lw_all := lw_g (lw_at lw_m1 237 rfl) rfl
theorem q344 : (Jvm.Cond.soleField "java/util/ArrayDeque" "head") ∈ lw_all := lw_g (lw_at lw_m1 238 rfl) rfl
theorem q345 : (Jvm.Cond.lays "java/util/ArrayDeque" "java/util/ArrayDeque" "tail" "I") ∈ lw_all := lw_g (lw_at lw_m1 239 rfl) rfl
theorem q346 : (Jvm.Cond.soleField "java/util/ArrayDeque" "tail") ∈ lw_all := lw_g (lw_at lw_m2 0 rfl) rfl
theorem q347 : (Jvm.Cond.superclass "java/util/ArrayDeque" "java/util/AbstractCollection") ∈ lw_all := lw_g (lw_at lw_m2 1 rfl) rfl
theorem q501 : (Jvm.Cond.instanceMethod ({ cls := "java/util/ArrayDeque", name := "isEmpty", desc := "()Z" } : Jvm.MethodName)) ∈ lw_all := lw_g (lw_at lw_m2 155 rfl) rfl
theorem q502 : (Jvm.Cond.selects "java/util/ArrayDeque" ({ cls := "java/util/ArrayDeque", name := "isEmpty", desc := "()Z" } : Jvm.MethodName) ({ cls := "java/util/ArrayDeque", name := "isEmpty", desc := "()Z" } : Jvm.MethodName)) ∈ lw_all := lw_g (lw_at lw_m2 156 rfl) rfl
theorem q503 : (Jvm.Cond.code ({ cls := "java/util/ArrayDeque", name := "isEmpty", desc := "()Z" } : Jvm.MethodName) prog_69_method_38_code (1 : Nat) (Option.some Jvm.ClassFile.FieldType.boolean)) ∈ lw_all := lw_g (lw_at lw_m2 157 rfl) rfl
theorem q956 : (Jvm.Cond.selects "java/util/ArrayDeque" ({ cls := "java/lang/Object", name := "getClass", desc := "()Ljava/lang/Class;" } : Jvm.MethodName) ({ cls := "java/lang/Object", name := "getClass", desc := "()Ljava/lang/Class;" } : Jvm.MethodName)) ∈ lw_all := lw_g (lw_at lw_m4 130 rfl) rfl
theorem q1031 : (Jvm.Cond.static ({ cls := "java/util/ArrayDeque", name := "nonNullElementAt", desc := "([Ljava/lang/Object;I)Ljava/lang/Object;" } : Jvm.MethodName)) ∈ lw_all := lw_g (lw_at lw_m4 205 rfl) rfl
theorem q1032 : (Jvm.Cond.code ({ cls := "java/util/ArrayDeque", name := "nonNullElementAt", desc := "([Ljava/lang/Object;I)Ljava/lang/Object;" } : Jvm.MethodName) prog_69_method_11_code (3 : Nat) (Option.some (Jvm.ClassFile.FieldType.object "java/lang/Object"))) ∈ lw_all := lw_g (lw_at lw_m4 206 rfl) rfl
theorem q1034 : (Jvm.Cond.static ({ cls := "java/util/ArrayDeque", name := "inc", desc := "(II)I" } : Jvm.MethodName)) ∈ lw_all := lw_g (lw_at lw_m4 208 rfl) rfl
theorem q1035 : (Jvm.Cond.code ({ cls := "java/util/ArrayDeque", name := "inc", desc := "(II)I" } : Jvm.MethodName) prog_69_method_6_code (2 : Nat) (Option.some Jvm.ClassFile.FieldType.int)) ∈ lw_all := lw_g (lw_at lw_m4 209 rfl) rfl
theorem q1125 : (Jvm.Cond.instanceMethod ({ cls := "java/util/ArrayDeque", name := "poll", desc := "()Ljava/lang/Object;" } : Jvm.MethodName)) ∈ lw_all := lw_g (lw_at lw_m5 59 rfl) rfl
theorem q1126 : (Jvm.Cond.selects "java/util/ArrayDeque" ({ cls := "java/util/ArrayDeque", name := "poll", desc := "()Ljava/lang/Object;" } : Jvm.MethodName) ({ cls := "java/util/ArrayDeque", name := "poll", desc := "()Ljava/lang/Object;" } : Jvm.MethodName)) ∈ lw_all := lw_g (lw_at lw_m5 60 rfl) rfl
theorem q1127 : (Jvm.Cond.code ({ cls := "java/util/ArrayDeque", name := "poll", desc := "()Ljava/lang/Object;" } : Jvm.MethodName) prog_69_method_31_code (1 : Nat) (Option.some (Jvm.ClassFile.FieldType.object "java/lang/Object"))) ∈ lw_all := lw_g (lw_at lw_m5 61 rfl) rfl
theorem q1128 : (Jvm.Cond.methodLink "java/util/ArrayDeque" (93 : Nat) ({ cls := "java/util/ArrayDeque", name := "pollFirst", desc := "()Ljava/lang/Object;" } : Jvm.MethodName)) ∈ lw_all := lw_g (lw_at lw_m5 62 rfl) rfl
theorem q1129 : (Jvm.Cond.instanceMethod ({ cls := "java/util/ArrayDeque", name := "pollFirst", desc := "()Ljava/lang/Object;" } : Jvm.MethodName)) ∈ lw_all := lw_g (lw_at lw_m5 63 rfl) rfl
theorem q1130 : (Jvm.Cond.selects "java/util/ArrayDeque" ({ cls := "java/util/ArrayDeque", name := "pollFirst", desc := "()Ljava/lang/Object;" } : Jvm.MethodName) ({ cls := "java/util/ArrayDeque", name := "pollFirst", desc := "()Ljava/lang/Object;" } : Jvm.MethodName)) ∈ lw_all := lw_g (lw_at lw_m5 64 rfl) rfl
theorem q1131 : (Jvm.Cond.code ({ cls := "java/util/ArrayDeque", name := "pollFirst", desc := "()Ljava/lang/Object;" } : Jvm.MethodName) prog_69_method_20_code (4 : Nat) (Option.some (Jvm.ClassFile.FieldType.object "java/lang/Object"))) ∈ lw_all := lw_g (lw_at lw_m5 65 rfl) rfl
theorem q1132 : (Jvm.Cond.methodLink "java/util/ArrayDeque" (103 : Nat) ({ cls := "java/util/ArrayDeque", name := "elementAt", desc := "([Ljava/lang/Object;I)Ljava/lang/Object;" } : Jvm.MethodName)) ∈ lw_all := lw_g (lw_at lw_m5 66 rfl) rfl
theorem q1133 : (Jvm.Cond.static ({ cls := "java/util/ArrayDeque", name := "elementAt", desc := "([Ljava/lang/Object;I)Ljava/lang/Object;" } : Jvm.MethodName)) ∈ lw_all := lw_g (lw_at lw_m5 67 rfl) rfl
theorem q1134 : (Jvm.Cond.code ({ cls := "java/util/ArrayDeque", name := "elementAt", desc := "([Ljava/lang/Object;I)Ljava/lang/Object;" } : Jvm.MethodName) prog_69_method_10_code (2 : Nat) (Option.some (Jvm.ClassFile.FieldType.object "java/lang/Object"))) ∈ lw_all := lw_g (lw_at lw_m5 68 rfl) rfl
theorem q1135 : (Jvm.Cond.methodLink "java/util/ArrayDeque" (74 : Nat) ({ cls := "java/util/ArrayDeque", name := "inc", desc := "(II)I" } : Jvm.MethodName)) ∈ lw_all := lw_g (lw_at lw_m5 69 rfl) rfl
theorem q1848 : (Jvm.Cond.instanceMethod ({ cls := "java/util/ArrayDeque", name := "delete", desc := "(I)Z" } : Jvm.MethodName)) ∈ lw_all := lw_g (lw_at lw_m8 62 rfl) rfl
theorem q1849 : (Jvm.Cond.selects "java/util/ArrayDeque" ({ cls := "java/util/ArrayDeque", name := "delete", desc := "(I)Z" } : Jvm.MethodName) ({ cls := "java/util/ArrayDeque", name := "delete", desc := "(I)Z" } : Jvm.MethodName)) ∈ lw_all := lw_g (lw_at lw_m8 63 rfl) rfl
theorem q1850 : (Jvm.Cond.code ({ cls := "java/util/ArrayDeque", name := "delete", desc := "(I)Z" } : Jvm.MethodName) prog_69_method_36_code (8 : Nat) (Option.some Jvm.ClassFile.FieldType.boolean)) ∈ lw_all := lw_g (lw_at lw_m8 64 rfl) rfl
theorem q1851 : (Jvm.Cond.methodLink "java/util/ArrayDeque" (127 : Nat) ({ cls := "java/util/ArrayDeque", name := "sub", desc := "(III)I" } : Jvm.MethodName)) ∈ lw_all := lw_g (lw_at lw_m8 65 rfl) rfl
theorem q1852 : (Jvm.Cond.static ({ cls := "java/util/ArrayDeque", name := "sub", desc := "(III)I" } : Jvm.MethodName)) ∈ lw_all := lw_g (lw_at lw_m8 66 rfl) rfl
theorem q1853 : (Jvm.Cond.code ({ cls := "java/util/ArrayDeque", name := "sub", desc := "(III)I" } : Jvm.MethodName) prog_69_method_9_code (3 : Nat) (Option.some Jvm.ClassFile.FieldType.int)) ∈ lw_all := lw_g (lw_at lw_m8 67 rfl) rfl
theorem q1854 : (Jvm.Cond.methodLink "java/util/ArrayDeque" (27 : Nat) ({ cls := "java/lang/System", name := "arraycopy", desc := "(Ljava/lang/Object;ILjava/lang/Object;II)V" } : Jvm.MethodName)) ∈ lw_all := lw_g (lw_at lw_m8 68 rfl) rfl
theorem q1855 : (Jvm.Cond.methodLink "java/util/ArrayDeque" (68 : Nat) ({ cls := "java/util/ArrayDeque", name := "dec", desc := "(II)I" } : Jvm.MethodName)) ∈ lw_all := lw_g (lw_at lw_m8 69 rfl) rfl
theorem q1856 : (Jvm.Cond.static ({ cls := "java/util/ArrayDeque", name := "dec", desc := "(II)I" } : Jvm.MethodName)) ∈ lw_all := lw_g (lw_at lw_m8 70 rfl) rfl
theorem q1857 : (Jvm.Cond.code ({ cls := "java/util/ArrayDeque", name := "dec", desc := "(II)I" } : Jvm.MethodName) prog_69_method_7_code (2 : Nat) (Option.some Jvm.ClassFile.FieldType.int)) ∈ lw_all := lw_g (lw_at lw_m8 71 rfl) rfl
theorem q2143 : (Jvm.Cond.instanceMethod ({ cls := "java/util/ArrayDeque", name := "add", desc := "(Ljava/lang/Object;)Z" } : Jvm.MethodName)) ∈ lw_all := lw_g (lw_at lw_m9 117 rfl) rfl
theorem q2144 : (Jvm.Cond.selects "java/util/ArrayDeque" ({ cls := "java/util/ArrayDeque", name := "add", desc := "(Ljava/lang/Object;)Z" } : Jvm.MethodName) ({ cls := "java/util/ArrayDeque", name := "add", desc := "(Ljava/lang/Object;)Z" } : Jvm.MethodName)) ∈ lw_all := lw_g (lw_at lw_m9 118 rfl) rfl
theorem q2145 : (Jvm.Cond.code ({ cls := "java/util/ArrayDeque", name := "add", desc := "(Ljava/lang/Object;)Z" } : Jvm.MethodName) prog_69_method_28_code (2 : Nat) (Option.some Jvm.ClassFile.FieldType.boolean)) ∈ lw_all := lw_g (lw_at lw_m9 119 rfl) rfl
theorem q2146 : (Jvm.Cond.methodLink "java/util/ArrayDeque" (90 : Nat) ({ cls := "java/util/ArrayDeque", name := "addLast", desc := "(Ljava/lang/Object;)V" } : Jvm.MethodName)) ∈ lw_all := lw_g (lw_at lw_m9 120 rfl) rfl
theorem q2147 : (Jvm.Cond.instanceMethod ({ cls := "java/util/ArrayDeque", name := "addLast", desc := "(Ljava/lang/Object;)V" } : Jvm.MethodName)) ∈ lw_all := lw_g (lw_at lw_m9 121 rfl) rfl
theorem q2148 : (Jvm.Cond.selects "java/util/ArrayDeque" ({ cls := "java/util/ArrayDeque", name := "addLast", desc := "(Ljava/lang/Object;)V" } : Jvm.MethodName) ({ cls := "java/util/ArrayDeque", name := "addLast", desc := "(Ljava/lang/Object;)V" } : Jvm.MethodName)) ∈ lw_all := lw_g (lw_at lw_m9 122 rfl) rfl
theorem q2149 : (Jvm.Cond.code ({ cls := "java/util/ArrayDeque", name := "addLast", desc := "(Ljava/lang/Object;)V" } : Jvm.MethodName) prog_69_method_13_code (3 : Nat) (Option.none : Option Jvm.ClassFile.FieldType)) ∈ lw_all := lw_g (lw_at lw_m9 123 rfl) rfl
theorem q2150 : (Jvm.Cond.methodLink "java/util/ArrayDeque" (71 : Nat) ({ cls := "java/util/ArrayDeque", name := "grow", desc := "(I)V" } : Jvm.MethodName)) ∈ lw_all := lw_g (lw_at lw_m9 124 rfl) rfl
theorem q2151 : (Jvm.Cond.privateMethod ({ cls := "java/util/ArrayDeque", name := "grow", desc := "(I)V" } : Jvm.MethodName)) ∈ lw_tbl := lw_at lw_m9 125 rfl
theorem q2152 : (Jvm.Cond.instanceMethod ({ cls := "java/util/ArrayDeque", name := "grow", desc := "(I)V" } : Jvm.MethodName)) ∈ lw_all := lw_g (lw_at lw_m9 126 rfl) rfl
theorem q2153 : (Jvm.Cond.code ({ cls := "java/util/ArrayDeque", name := "grow", desc := "(I)V" } : Jvm.MethodName) prog_69_method_1_code (9 : Nat) (Option.none : Option Jvm.ClassFile.FieldType)) ∈ lw_all := lw_g (lw_at lw_m9 127 rfl) rfl
theorem q2154 : (Jvm.Cond.constant "java/util/ArrayDeque" (9 : Nat) (2147483639 : Int32)) ∈ lw_all := lw_g (lw_at lw_m9 128 rfl) rfl
theorem q2155 : (Jvm.Cond.methodLink "java/util/ArrayDeque" (10 : Nat) ({ cls := "java/util/ArrayDeque", name := "newCapacity", desc := "(II)I" } : Jvm.MethodName)) ∈ lw_all := lw_g (lw_at lw_m9 129 rfl) rfl
theorem q2156 : (Jvm.Cond.privateMethod ({ cls := "java/util/ArrayDeque", name := "newCapacity", desc := "(II)I" } : Jvm.MethodName)) ∈ lw_tbl := lw_at lw_m9 130 rfl
theorem q2157 : (Jvm.Cond.instanceMethod ({ cls := "java/util/ArrayDeque", name := "newCapacity", desc := "(II)I" } : Jvm.MethodName)) ∈ lw_all := lw_g (lw_at lw_m9 131 rfl) rfl
theorem q2158 : (Jvm.Cond.code ({ cls := "java/util/ArrayDeque", name := "newCapacity", desc := "(II)I" } : Jvm.MethodName) prog_69_method_2_code (5 : Nat) (Option.some Jvm.ClassFile.FieldType.int)) ∈ lw_all := lw_g (lw_at lw_m9 132 rfl) rfl
theorem q2159 : (Jvm.Cond.classLink "java/util/ArrayDeque" (33 : Nat) "java/lang/IllegalStateException") ∈ lw_all := lw_g (lw_at lw_m9 133 rfl) rfl
theorem q2160 : (Jvm.Cond.stringRef "java/util/ArrayDeque" (35 : Nat) "Sorry, deque too big") ∈ lw_tbl := lw_at lw_m9 134 rfl
theorem q2161 : (Jvm.Cond.methodLink "java/util/ArrayDeque" (37 : Nat) ({ cls := "java/lang/IllegalStateException", name := "<init>", desc := "(Ljava/lang/String;)V" } : Jvm.MethodName)) ∈ lw_all := lw_g (lw_at lw_m9 135 rfl) rfl
theorem q2165 : (Jvm.Cond.constant "java/util/ArrayDeque" (41 : Nat) (2147483647 : Int32)) ∈ lw_all := lw_g (lw_at lw_m9 139 rfl) rfl
theorem q2166 : (Jvm.Cond.methodLink "java/util/ArrayDeque" (14 : Nat) ({ cls := "java/util/Arrays", name := "copyOf", desc := "([Ljava/lang/Object;I)[Ljava/lang/Object;" } : Jvm.MethodName)) ∈ lw_all := lw_g (lw_at lw_m9 140 rfl) rfl
theorem q2266 : (Jvm.Cond.instanceMethod ({ cls := "java/util/ArrayDeque", name := "size", desc := "()I" } : Jvm.MethodName)) ∈ lw_all := lw_g (lw_at lw_m10 0 rfl) rfl
theorem q2267 : (Jvm.Cond.selects "java/util/ArrayDeque" ({ cls := "java/util/ArrayDeque", name := "size", desc := "()I" } : Jvm.MethodName) ({ cls := "java/util/ArrayDeque", name := "size", desc := "()I" } : Jvm.MethodName)) ∈ lw_all := lw_g (lw_at lw_m10 1 rfl) rfl
theorem q2268 : (Jvm.Cond.code ({ cls := "java/util/ArrayDeque", name := "size", desc := "()I" } : Jvm.MethodName) prog_69_method_37_code (1 : Nat) (Option.some Jvm.ClassFile.FieldType.int)) ∈ lw_all := lw_g (lw_at lw_m10 2 rfl) rfl
theorem q2270 : (Jvm.Cond.instanceMethod ({ cls := "java/util/ArrayDeque", name := "removeFirst", desc := "()Ljava/lang/Object;" } : Jvm.MethodName)) ∈ lw_all := lw_g (lw_at lw_m10 4 rfl) rfl
theorem q2271 : (Jvm.Cond.selects "java/util/ArrayDeque" ({ cls := "java/util/ArrayDeque", name := "removeFirst", desc := "()Ljava/lang/Object;" } : Jvm.MethodName) ({ cls := "java/util/ArrayDeque", name := "removeFirst", desc := "()Ljava/lang/Object;" } : Jvm.MethodName)) ∈ lw_all := lw_g (lw_at lw_m10 5 rfl) rfl
theorem q2272 : (Jvm.Cond.code ({ cls := "java/util/ArrayDeque", name := "removeFirst", desc := "()Ljava/lang/Object;" } : Jvm.MethodName) prog_69_method_18_code (2 : Nat) (Option.some (Jvm.ClassFile.FieldType.object "java/lang/Object"))) ∈ lw_all := lw_g (lw_at lw_m10 6 rfl) rfl
theorem q2273 : (Jvm.Cond.classLink "java/util/ArrayDeque" (97 : Nat) "java/util/NoSuchElementException") ∈ lw_all := lw_g (lw_at lw_m10 7 rfl) rfl
theorem q2274 : (Jvm.Cond.methodLink "java/util/ArrayDeque" (99 : Nat) ({ cls := "java/util/NoSuchElementException", name := "<init>", desc := "()V" } : Jvm.MethodName)) ∈ lw_all := lw_g (lw_at lw_m10 8 rfl) rfl
theorem q2499 : (Jvm.Cond.castable "java/util/ArrayDeque" "java/util/Collection") ∈ lw_tbl := lw_at lw_m10 233 rfl
theorem q2500 : (Jvm.Cond.selects "java/util/ArrayDeque" ({ cls := "java/util/Collection", name := "iterator", desc := "()Ljava/util/Iterator;" } : Jvm.MethodName) ({ cls := "java/util/ArrayDeque", name := "iterator", desc := "()Ljava/util/Iterator;" } : Jvm.MethodName)) ∈ lw_all := lw_g (lw_at lw_m10 234 rfl) rfl
theorem q2501 : (Jvm.Cond.unhidden "java/util/ArrayDeque" "iterator" "()Ljava/util/Iterator;") ∈ lw_tbl := lw_at lw_m10 235 rfl
theorem q2502 : (Jvm.Cond.instanceMethod ({ cls := "java/util/ArrayDeque", name := "iterator", desc := "()Ljava/util/Iterator;" } : Jvm.MethodName)) ∈ lw_all := lw_g (lw_at lw_m10 236 rfl) rfl
theorem q2503 : (Jvm.Cond.publicMethod ({ cls := "java/util/ArrayDeque", name := "iterator", desc := "()Ljava/util/Iterator;" } : Jvm.MethodName)) ∈ lw_tbl := lw_at lw_m10 237 rfl
theorem q2504 : (Jvm.Cond.code ({ cls := "java/util/ArrayDeque", name := "iterator", desc := "()Ljava/util/Iterator;" } : Jvm.MethodName) prog_69_method_39_code (1 : Nat) (Option.some (Jvm.ClassFile.FieldType.object "java/util/Iterator"))) ∈ lw_all := lw_g (lw_at lw_m10 238 rfl) rfl
theorem q2505 : (Jvm.Cond.classLink "java/util/ArrayDeque" (131 : Nat) "java/util/ArrayDeque$DeqIterator") ∈ lw_all := lw_g (lw_at lw_m10 239 rfl) rfl
theorem q2507 : (Jvm.Cond.methodLink "java/util/ArrayDeque" (133 : Nat) ({ cls := "java/util/ArrayDeque$DeqIterator", name := "<init>", desc := "(Ljava/util/ArrayDeque;)V" } : Jvm.MethodName)) ∈ lw_all := lw_g (lw_at lw_m11 1 rfl) rfl
theorem q3479 : (Jvm.Cond.instanceMethod ({ cls := "java/util/ArrayDeque", name := "removeLast", desc := "()Ljava/lang/Object;" } : Jvm.MethodName)) ∈ lw_all := lw_g (lw_at lw_m15 13 rfl) rfl
theorem q3480 : (Jvm.Cond.selects "java/util/ArrayDeque" ({ cls := "java/util/ArrayDeque", name := "removeLast", desc := "()Ljava/lang/Object;" } : Jvm.MethodName) ({ cls := "java/util/ArrayDeque", name := "removeLast", desc := "()Ljava/lang/Object;" } : Jvm.MethodName)) ∈ lw_all := lw_g (lw_at lw_m15 14 rfl) rfl
theorem q3481 : (Jvm.Cond.code ({ cls := "java/util/ArrayDeque", name := "removeLast", desc := "()Ljava/lang/Object;" } : Jvm.MethodName) prog_69_method_19_code (2 : Nat) (Option.some (Jvm.ClassFile.FieldType.object "java/lang/Object"))) ∈ lw_all := lw_g (lw_at lw_m15 15 rfl) rfl
theorem q3482 : (Jvm.Cond.methodLink "java/util/ArrayDeque" (100 : Nat) ({ cls := "java/util/ArrayDeque", name := "pollLast", desc := "()Ljava/lang/Object;" } : Jvm.MethodName)) ∈ lw_all := lw_g (lw_at lw_m15 16 rfl) rfl
theorem q3483 : (Jvm.Cond.instanceMethod ({ cls := "java/util/ArrayDeque", name := "pollLast", desc := "()Ljava/lang/Object;" } : Jvm.MethodName)) ∈ lw_all := lw_g (lw_at lw_m15 17 rfl) rfl
theorem q3484 : (Jvm.Cond.selects "java/util/ArrayDeque" ({ cls := "java/util/ArrayDeque", name := "pollLast", desc := "()Ljava/lang/Object;" } : Jvm.MethodName) ({ cls := "java/util/ArrayDeque", name := "pollLast", desc := "()Ljava/lang/Object;" } : Jvm.MethodName)) ∈ lw_all := lw_g (lw_at lw_m15 18 rfl) rfl
theorem q3485 : (Jvm.Cond.code ({ cls := "java/util/ArrayDeque", name := "pollLast", desc := "()Ljava/lang/Object;" } : Jvm.MethodName) prog_69_method_21_code (4 : Nat) (Option.some (Jvm.ClassFile.FieldType.object "java/lang/Object"))) ∈ lw_all := lw_g (lw_at lw_m15 19 rfl) rfl
theorem q3494 : (Jvm.Cond.instanceMethod ({ cls := "java/util/ArrayDeque", name := "clear", desc := "()V" } : Jvm.MethodName)) ∈ lw_all := lw_g (lw_at lw_m15 28 rfl) rfl
theorem q3495 : (Jvm.Cond.selects "java/util/ArrayDeque" ({ cls := "java/util/ArrayDeque", name := "clear", desc := "()V" } : Jvm.MethodName) ({ cls := "java/util/ArrayDeque", name := "clear", desc := "()V" } : Jvm.MethodName)) ∈ lw_all := lw_g (lw_at lw_m15 29 rfl) rfl
theorem q3496 : (Jvm.Cond.code ({ cls := "java/util/ArrayDeque", name := "clear", desc := "()V" } : Jvm.MethodName) prog_69_method_53_code (1 : Nat) (Option.none : Option Jvm.ClassFile.FieldType)) ∈ lw_all := lw_g (lw_at lw_m15 30 rfl) rfl
theorem q3497 : (Jvm.Cond.methodLink "java/util/ArrayDeque" (181 : Nat) ({ cls := "java/util/ArrayDeque", name := "circularClear", desc := "([Ljava/lang/Object;II)V" } : Jvm.MethodName)) ∈ lw_all := lw_g (lw_at lw_m15 31 rfl) rfl
theorem q3498 : (Jvm.Cond.static ({ cls := "java/util/ArrayDeque", name := "circularClear", desc := "([Ljava/lang/Object;II)V" } : Jvm.MethodName)) ∈ lw_all := lw_g (lw_at lw_m15 32 rfl) rfl
theorem q3499 : (Jvm.Cond.code ({ cls := "java/util/ArrayDeque", name := "circularClear", desc := "([Ljava/lang/Object;II)V" } : Jvm.MethodName) prog_69_method_54_code (4 : Nat) (Option.none : Option Jvm.ClassFile.FieldType)) ∈ lw_all := lw_g (lw_at lw_m15 33 rfl) rfl
theorem q3980 : (Jvm.Cond.castable "java/util/ArrayDeque" "java/lang/Object") ∈ lw_tbl := lw_at lw_m17 34 rfl
theorem in_J5 : ∀ w ∈ wsJ50, w ∈ lw_all := lw_in wsJ50 [341, 343, 345] (by decide +kernel) (by decide +kernel)

