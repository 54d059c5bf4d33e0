/-! CavePearlsLaw -/
set_option maxRecDepth 100000
def RX0 : String := "CavePearlsLaw"
abbrev cX0_addPool : ByteArray := method_3_code
def yX0_addPool : MethodName := ⟨RX0, "addPool", "(LCavePearls;I[J)I"⟩
def dkwX0_addPool_0 : List UInt8 := [44, 3, 42, 27, 182, 0, 7, 133, 80, 167, 0, 9, 78, 4, 172, 78, 5, 172, 3, 172]
abbrev dktX0_addPool_0 : List UInt8 := dkwX0_addPool_0 ++ []
theorem dksX0_addPool_0 : cX0_addPool.data.toList.drop 0 = dktX0_addPool_0 := by decide +kernel
theorem dX0_addPool_0 : decode cX0_addPool 0 = .ok (.aload_n 2, 1) := dk_44 (dk_at dksX0_addPool_0 0 rfl rfl)
theorem dX0_addPool_1 : decode cX0_addPool 1 = .ok (.iconst 0, 1) := dk_3 (dk_at dksX0_addPool_0 1 rfl rfl)
theorem dX0_addPool_2 : decode cX0_addPool 2 = .ok (.aload_n 0, 1) := dk_42 (dk_at dksX0_addPool_0 2 rfl rfl)
theorem dX0_addPool_3 : decode cX0_addPool 3 = .ok (.iload_n 1, 1) := dk_27 (dk_at dksX0_addPool_0 3 rfl rfl)
theorem dX0_addPool_4 : decode cX0_addPool 4 = .ok (.invokevirtual 7, 3) := dk_182 0 7 (dk_at dksX0_addPool_0 4 rfl rfl)
theorem dX0_addPool_7 : decode cX0_addPool 7 = .ok (.i2l, 1) := dk_133 (dk_at dksX0_addPool_0 7 rfl rfl)
theorem dX0_addPool_8 : decode cX0_addPool 8 = .ok (.lastore, 1) := dk_80 (dk_at dksX0_addPool_0 8 rfl rfl)
theorem dX0_addPool_9 : decode cX0_addPool 9 = .ok (.goto 9, 3) := dk_167 0 9 (dk_at dksX0_addPool_0 9 rfl rfl)
theorem dX0_addPool_12 : decode cX0_addPool 12 = .ok (.astore_n 3, 1) := dk_78 (dk_at dksX0_addPool_0 12 rfl rfl)
theorem dX0_addPool_13 : decode cX0_addPool 13 = .ok (.iconst 1, 1) := dk_4 (dk_at dksX0_addPool_0 13 rfl rfl)
theorem dX0_addPool_14 : decode cX0_addPool 14 = .ok (.ireturn, 1) := dk_172 (dk_at dksX0_addPool_0 14 rfl rfl)
theorem dX0_addPool_15 : decode cX0_addPool 15 = .ok (.astore_n 3, 1) := dk_78 (dk_at dksX0_addPool_0 15 rfl rfl)
theorem dX0_addPool_16 : decode cX0_addPool 16 = .ok (.iconst 2, 1) := dk_5 (dk_at dksX0_addPool_0 16 rfl rfl)
theorem dX0_addPool_17 : decode cX0_addPool 17 = .ok (.ireturn, 1) := dk_172 (dk_at dksX0_addPool_0 17 rfl rfl)
theorem dX0_addPool_18 : decode cX0_addPool 18 = .ok (.iconst 0, 1) := dk_3 (dk_at dksX0_addPool_0 18 rfl rfl)
theorem dX0_addPool_19 : decode cX0_addPool 19 = .ok (.ireturn, 1) := dk_172 (dk_at dksX0_addPool_0 19 rfl rfl)
abbrev cX0_pool : ByteArray := method_4_code
def yX0_pool : MethodName := ⟨RX0, "pool", "(LCavePearls;II[J)I"⟩
def dkwX0_pool_0 : List UInt8 := [45, 3, 42, 27, 28, 182, 0, 17, 133, 80, 167, 0, 11, 58, 4, 4, 172, 58, 4, 5, 172, 3, 172]
abbrev dktX0_pool_0 : List UInt8 := dkwX0_pool_0 ++ []
theorem dksX0_pool_0 : cX0_pool.data.toList.drop 0 = dktX0_pool_0 := by decide +kernel
theorem dX0_pool_0 : decode cX0_pool 0 = .ok (.aload_n 3, 1) := dk_45 (dk_at dksX0_pool_0 0 rfl rfl)
theorem dX0_pool_1 : decode cX0_pool 1 = .ok (.iconst 0, 1) := dk_3 (dk_at dksX0_pool_0 1 rfl rfl)
theorem dX0_pool_2 : decode cX0_pool 2 = .ok (.aload_n 0, 1) := dk_42 (dk_at dksX0_pool_0 2 rfl rfl)
theorem dX0_pool_3 : decode cX0_pool 3 = .ok (.iload_n 1, 1) := dk_27 (dk_at dksX0_pool_0 3 rfl rfl)
theorem dX0_pool_4 : decode cX0_pool 4 = .ok (.iload_n 2, 1) := dk_28 (dk_at dksX0_pool_0 4 rfl rfl)
theorem dX0_pool_5 : decode cX0_pool 5 = .ok (.invokevirtual 17, 3) := dk_182 0 17 (dk_at dksX0_pool_0 5 rfl rfl)
theorem dX0_pool_8 : decode cX0_pool 8 = .ok (.i2l, 1) := dk_133 (dk_at dksX0_pool_0 8 rfl rfl)
theorem dX0_pool_9 : decode cX0_pool 9 = .ok (.lastore, 1) := dk_80 (dk_at dksX0_pool_0 9 rfl rfl)
theorem dX0_pool_10 : decode cX0_pool 10 = .ok (.goto 11, 3) := dk_167 0 11 (dk_at dksX0_pool_0 10 rfl rfl)
theorem dX0_pool_13 : decode cX0_pool 13 = .ok (.astore 4, 2) := dk_58 4 (dk_at dksX0_pool_0 13 rfl rfl)
theorem dX0_pool_15 : decode cX0_pool 15 = .ok (.iconst 1, 1) := dk_4 (dk_at dksX0_pool_0 15 rfl rfl)
theorem dX0_pool_16 : decode cX0_pool 16 = .ok (.ireturn, 1) := dk_172 (dk_at dksX0_pool_0 16 rfl rfl)
theorem dX0_pool_17 : decode cX0_pool 17 = .ok (.astore 4, 2) := dk_58 4 (dk_at dksX0_pool_0 17 rfl rfl)
theorem dX0_pool_19 : decode cX0_pool 19 = .ok (.iconst 2, 1) := dk_5 (dk_at dksX0_pool_0 19 rfl rfl)
theorem dX0_pool_20 : decode cX0_pool 20 = .ok (.ireturn, 1) := dk_172 (dk_at dksX0_pool_0 20 rfl rfl)
theorem dX0_pool_21 : decode cX0_pool 21 = .ok (.iconst 0, 1) := dk_3 (dk_at dksX0_pool_0 21 rfl rfl)
theorem dX0_pool_22 : decode cX0_pool 22 = .ok (.ireturn, 1) := dk_172 (dk_at dksX0_pool_0 22 rfl rfl)
abbrev cX0_addPearl : ByteArray := method_5_code
def yX0_addPearl : MethodName := ⟨RX0, "addPearl", "(LCavePearls;II[J)I"⟩
def dkwX0_addPearl_1 : List UInt8 := [172, 3, 172]
abbrev dktX0_addPearl_1 : List UInt8 := dkwX0_addPearl_1 ++ []
def dkwX0_addPearl_0 : List UInt8 := [45, 3, 42, 27, 28, 182, 0, 23, 133, 80, 167, 0, 15, 58, 4, 4, 172, 58, 4, 5, 172, 58, 4, 6]
abbrev dktX0_addPearl_0 : List UInt8 := dkwX0_addPearl_0 ++ dktX0_addPearl_1
theorem dksX0_addPearl_0 : cX0_addPearl.data.toList.drop 0 = dktX0_addPearl_0 := by decide +kernel
theorem dksX0_addPearl_1 : cX0_addPearl.data.toList.drop 24 = dktX0_addPearl_1 := dk_seg dksX0_addPearl_0 24 rfl rfl
theorem dX0_addPearl_0 : decode cX0_addPearl 0 = .ok (.aload_n 3, 1) := dk_45 (dk_at dksX0_addPearl_0 0 rfl rfl)
theorem dX0_addPearl_1 : decode cX0_addPearl 1 = .ok (.iconst 0, 1) := dk_3 (dk_at dksX0_addPearl_0 1 rfl rfl)
theorem dX0_addPearl_2 : decode cX0_addPearl 2 = .ok (.aload_n 0, 1) := dk_42 (dk_at dksX0_addPearl_0 2 rfl rfl)
theorem dX0_addPearl_3 : decode cX0_addPearl 3 = .ok (.iload_n 1, 1) := dk_27 (dk_at dksX0_addPearl_0 3 rfl rfl)
theorem dX0_addPearl_4 : decode cX0_addPearl 4 = .ok (.iload_n 2, 1) := dk_28 (dk_at dksX0_addPearl_0 4 rfl rfl)
theorem dX0_addPearl_5 : decode cX0_addPearl 5 = .ok (.invokevirtual 23, 3) := dk_182 0 23 (dk_at dksX0_addPearl_0 5 rfl rfl)
theorem dX0_addPearl_8 : decode cX0_addPearl 8 = .ok (.i2l, 1) := dk_133 (dk_at dksX0_addPearl_0 8 rfl rfl)
theorem dX0_addPearl_9 : decode cX0_addPearl 9 = .ok (.lastore, 1) := dk_80 (dk_at dksX0_addPearl_0 9 rfl rfl)
theorem dX0_addPearl_10 : decode cX0_addPearl 10 = .ok (.goto 15, 3) := dk_167 0 15 (dk_at dksX0_addPearl_0 10 rfl rfl)
theorem dX0_addPearl_13 : decode cX0_addPearl 13 = .ok (.astore 4, 2) := dk_58 4 (dk_at dksX0_addPearl_0 13 rfl rfl)
theorem dX0_addPearl_15 : decode cX0_addPearl 15 = .ok (.iconst 1, 1) := dk_4 (dk_at dksX0_addPearl_0 15 rfl rfl)
theorem dX0_addPearl_16 : decode cX0_addPearl 16 = .ok (.ireturn, 1) := dk_172 (dk_at dksX0_addPearl_0 16 rfl rfl)
theorem dX0_addPearl_17 : decode cX0_addPearl 17 = .ok (.astore 4, 2) := dk_58 4 (dk_at dksX0_addPearl_0 17 rfl rfl)
theorem dX0_addPearl_19 : decode cX0_addPearl 19 = .ok (.iconst 2, 1) := dk_5 (dk_at dksX0_addPearl_0 19 rfl rfl)
theorem dX0_addPearl_20 : decode cX0_addPearl 20 = .ok (.ireturn, 1) := dk_172 (dk_at dksX0_addPearl_0 20 rfl rfl)
theorem dX0_addPearl_21 : decode cX0_addPearl 21 = .ok (.astore 4, 2) := dk_58 4 (dk_at dksX0_addPearl_0 21 rfl rfl)
theorem dX0_addPearl_23 : decode cX0_addPearl 23 = .ok (.iconst 3, 1) := dk_6 (dk_at dksX0_addPearl_0 23 rfl rfl)
theorem dX0_addPearl_24 : decode cX0_addPearl 24 = .ok (.ireturn, 1) := dk_172 (dk_at dksX0_addPearl_1 0 rfl rfl)
theorem dX0_addPearl_25 : decode cX0_addPearl 25 = .ok (.iconst 0, 1) := dk_3 (dk_at dksX0_addPearl_1 1 rfl rfl)
theorem dX0_addPearl_26 : decode cX0_addPearl 26 = .ok (.ireturn, 1) := dk_172 (dk_at dksX0_addPearl_1 2 rfl rfl)
abbrev cX0_takePearl : ByteArray := method_6_code
def yX0_takePearl : MethodName := ⟨RX0, "takePearl", "(LCavePearls;II[J)I"⟩
def dkwX0_takePearl_0 : List UInt8 := [45, 3, 42, 27, 28, 182, 0, 26, 133, 80, 167, 0, 11, 58, 4, 4, 172, 58, 4, 5, 172, 3, 172]
abbrev dktX0_takePearl_0 : List UInt8 := dkwX0_takePearl_0 ++ []
theorem dksX0_takePearl_0 : cX0_takePearl.data.toList.drop 0 = dktX0_takePearl_0 := by decide +kernel
theorem dX0_takePearl_0 : decode cX0_takePearl 0 = .ok (.aload_n 3, 1) := dk_45 (dk_at dksX0_takePearl_0 0 rfl rfl)
theorem dX0_takePearl_1 : decode cX0_takePearl 1 = .ok (.iconst 0, 1) := dk_3 (dk_at dksX0_takePearl_0 1 rfl rfl)
theorem dX0_takePearl_2 : decode cX0_takePearl 2 = .ok (.aload_n 0, 1) := dk_42 (dk_at dksX0_takePearl_0 2 rfl rfl)
theorem dX0_takePearl_3 : decode cX0_takePearl 3 = .ok (.iload_n 1, 1) := dk_27 (dk_at dksX0_takePearl_0 3 rfl rfl)
theorem dX0_takePearl_4 : decode cX0_takePearl 4 = .ok (.iload_n 2, 1) := dk_28 (dk_at dksX0_takePearl_0 4 rfl rfl)
theorem dX0_takePearl_5 : decode cX0_takePearl 5 = .ok (.invokevirtual 26, 3) := dk_182 0 26 (dk_at dksX0_takePearl_0 5 rfl rfl)
theorem dX0_takePearl_8 : decode cX0_takePearl 8 = .ok (.i2l, 1) := dk_133 (dk_at dksX0_takePearl_0 8 rfl rfl)
theorem dX0_takePearl_9 : decode cX0_takePearl 9 = .ok (.lastore, 1) := dk_80 (dk_at dksX0_takePearl_0 9 rfl rfl)
theorem dX0_takePearl_10 : decode cX0_takePearl 10 = .ok (.goto 11, 3) := dk_167 0 11 (dk_at dksX0_takePearl_0 10 rfl rfl)
theorem dX0_takePearl_13 : decode cX0_takePearl 13 = .ok (.astore 4, 2) := dk_58 4 (dk_at dksX0_takePearl_0 13 rfl rfl)
theorem dX0_takePearl_15 : decode cX0_takePearl 15 = .ok (.iconst 1, 1) := dk_4 (dk_at dksX0_takePearl_0 15 rfl rfl)
theorem dX0_takePearl_16 : decode cX0_takePearl 16 = .ok (.ireturn, 1) := dk_172 (dk_at dksX0_takePearl_0 16 rfl rfl)
theorem dX0_takePearl_17 : decode cX0_takePearl 17 = .ok (.astore 4, 2) := dk_58 4 (dk_at dksX0_takePearl_0 17 rfl rfl)
theorem dX0_takePearl_19 : decode cX0_takePearl 19 = .ok (.iconst 2, 1) := dk_5 (dk_at dksX0_takePearl_0 19 rfl rfl)
theorem dX0_takePearl_20 : decode cX0_takePearl 20 = .ok (.ireturn, 1) := dk_172 (dk_at dksX0_takePearl_0 20 rfl rfl)
theorem dX0_takePearl_21 : decode cX0_takePearl 21 = .ok (.iconst 0, 1) := dk_3 (dk_at dksX0_takePearl_0 21 rfl rfl)
theorem dX0_takePearl_22 : decode cX0_takePearl 22 = .ok (.ireturn, 1) := dk_172 (dk_at dksX0_takePearl_0 22 rfl rfl)
abbrev cX0_pearl : ByteArray := method_7_code
def yX0_pearl : MethodName := ⟨RX0, "pearl", "(LCavePearls;II[J)I"⟩
def dkwX0_pearl_0 : List UInt8 := [45, 3, 42, 27, 28, 182, 0, 31, 133, 80, 167, 0, 11, 58, 4, 4, 172, 58, 4, 5, 172, 3, 172]
abbrev dktX0_pearl_0 : List UInt8 := dkwX0_pearl_0 ++ []
theorem dksX0_pearl_0 : cX0_pearl.data.toList.drop 0 = dktX0_pearl_0 := by decide +kernel
theorem dX0_pearl_0 : decode cX0_pearl 0 = .ok (.aload_n 3, 1) := dk_45 (dk_at dksX0_pearl_0 0 rfl rfl)
theorem dX0_pearl_1 : decode cX0_pearl 1 = .ok (.iconst 0, 1) := dk_3 (dk_at dksX0_pearl_0 1 rfl rfl)
theorem dX0_pearl_2 : decode cX0_pearl 2 = .ok (.aload_n 0, 1) := dk_42 (dk_at dksX0_pearl_0 2 rfl rfl)
theorem dX0_pearl_3 : decode cX0_pearl 3 = .ok (.iload_n 1, 1) := dk_27 (dk_at dksX0_pearl_0 3 rfl rfl)
theorem dX0_pearl_4 : decode cX0_pearl 4 = .ok (.iload_n 2, 1) := dk_28 (dk_at dksX0_pearl_0 4 rfl rfl)
theorem dX0_pearl_5 : decode cX0_pearl 5 = .ok (.invokevirtual 31, 3) := dk_182 0 31 (dk_at dksX0_pearl_0 5 rfl rfl)
theorem dX0_pearl_8 : decode cX0_pearl 8 = .ok (.i2l, 1) := dk_133 (dk_at dksX0_pearl_0 8 rfl rfl)
theorem dX0_pearl_9 : decode cX0_pearl 9 = .ok (.lastore, 1) := dk_80 (dk_at dksX0_pearl_0 9 rfl rfl)
theorem dX0_pearl_10 : decode cX0_pearl 10 = .ok (.goto 11, 3) := dk_167 0 11 (dk_at dksX0_pearl_0 10 rfl rfl)
theorem dX0_pearl_13 : decode cX0_pearl 13 = .ok (.astore 4, 2) := dk_58 4 (dk_at dksX0_pearl_0 13 rfl rfl)
theorem dX0_pearl_15 : decode cX0_pearl 15 = .ok (.iconst 1, 1) := dk_4 (dk_at dksX0_pearl_0 15 rfl rfl)
theorem dX0_pearl_16 : decode cX0_pearl 16 = .ok (.ireturn, 1) := dk_172 (dk_at dksX0_pearl_0 16 rfl rfl)
theorem dX0_pearl_17 : decode cX0_pearl 17 = .ok (.astore 4, 2) := dk_58 4 (dk_at dksX0_pearl_0 17 rfl rfl)
theorem dX0_pearl_19 : decode cX0_pearl 19 = .ok (.iconst 2, 1) := dk_5 (dk_at dksX0_pearl_0 19 rfl rfl)
theorem dX0_pearl_20 : decode cX0_pearl 20 = .ok (.ireturn, 1) := dk_172 (dk_at dksX0_pearl_0 20 rfl rfl)
theorem dX0_pearl_21 : decode cX0_pearl 21 = .ok (.iconst 0, 1) := dk_3 (dk_at dksX0_pearl_0 21 rfl rfl)
theorem dX0_pearl_22 : decode cX0_pearl 22 = .ok (.ireturn, 1) := dk_172 (dk_at dksX0_pearl_0 22 rfl rfl)
abbrev cX0_ranked : ByteArray := method_8_code
def yX0_ranked : MethodName := ⟨RX0, "ranked", "(LCavePearls;I[J)I"⟩
def dkwX0_ranked_0 : List UInt8 := [44, 3, 42, 27, 182, 0, 34, 133, 80, 167, 0, 6, 78, 4, 172, 3, 172]
abbrev dktX0_ranked_0 : List UInt8 := dkwX0_ranked_0 ++ []
theorem dksX0_ranked_0 : cX0_ranked.data.toList.drop 0 = dktX0_ranked_0 := by decide +kernel
theorem dX0_ranked_0 : decode cX0_ranked 0 = .ok (.aload_n 2, 1) := dk_44 (dk_at dksX0_ranked_0 0 rfl rfl)
theorem dX0_ranked_1 : decode cX0_ranked 1 = .ok (.iconst 0, 1) := dk_3 (dk_at dksX0_ranked_0 1 rfl rfl)
theorem dX0_ranked_2 : decode cX0_ranked 2 = .ok (.aload_n 0, 1) := dk_42 (dk_at dksX0_ranked_0 2 rfl rfl)
theorem dX0_ranked_3 : decode cX0_ranked 3 = .ok (.iload_n 1, 1) := dk_27 (dk_at dksX0_ranked_0 3 rfl rfl)
theorem dX0_ranked_4 : decode cX0_ranked 4 = .ok (.invokevirtual 34, 3) := dk_182 0 34 (dk_at dksX0_ranked_0 4 rfl rfl)
theorem dX0_ranked_7 : decode cX0_ranked 7 = .ok (.i2l, 1) := dk_133 (dk_at dksX0_ranked_0 7 rfl rfl)
theorem dX0_ranked_8 : decode cX0_ranked 8 = .ok (.lastore, 1) := dk_80 (dk_at dksX0_ranked_0 8 rfl rfl)
theorem dX0_ranked_9 : decode cX0_ranked 9 = .ok (.goto 6, 3) := dk_167 0 6 (dk_at dksX0_ranked_0 9 rfl rfl)
theorem dX0_ranked_12 : decode cX0_ranked 12 = .ok (.astore_n 3, 1) := dk_78 (dk_at dksX0_ranked_0 12 rfl rfl)
theorem dX0_ranked_13 : decode cX0_ranked 13 = .ok (.iconst 1, 1) := dk_4 (dk_at dksX0_ranked_0 13 rfl rfl)
theorem dX0_ranked_14 : decode cX0_ranked 14 = .ok (.ireturn, 1) := dk_172 (dk_at dksX0_ranked_0 14 rfl rfl)
theorem dX0_ranked_15 : decode cX0_ranked 15 = .ok (.iconst 0, 1) := dk_3 (dk_at dksX0_ranked_0 15 rfl rfl)
theorem dX0_ranked_16 : decode cX0_ranked 16 = .ok (.ireturn, 1) := dk_172 (dk_at dksX0_ranked_0 16 rfl rfl)
abbrev cX0_addStone : ByteArray := method_9_code
def yX0_addStone : MethodName := ⟨RX0, "addStone", "(LCavePearls;II[J)I"⟩
def dkwX0_addStone_1 : List UInt8 := [172, 3, 172]
abbrev dktX0_addStone_1 : List UInt8 := dkwX0_addStone_1 ++ []
def dkwX0_addStone_0 : List UInt8 := [45, 3, 42, 27, 28, 182, 0, 37, 133, 80, 167, 0, 15, 58, 4, 4, 172, 58, 4, 5, 172, 58, 4, 6]
abbrev dktX0_addStone_0 : List UInt8 := dkwX0_addStone_0 ++ dktX0_addStone_1
theorem dksX0_addStone_0 : cX0_addStone.data.toList.drop 0 = dktX0_addStone_0 := by decide +kernel
theorem dksX0_addStone_1 : cX0_addStone.data.toList.drop 24 = dktX0_addStone_1 := dk_seg dksX0_addStone_0 24 rfl rfl
theorem dX0_addStone_0 : decode cX0_addStone 0 = .ok (.aload_n 3, 1) := dk_45 (dk_at dksX0_addStone_0 0 rfl rfl)
theorem dX0_addStone_1 : decode cX0_addStone 1 = .ok (.iconst 0, 1) := dk_3 (dk_at dksX0_addStone_0 1 rfl rfl)
theorem dX0_addStone_2 : decode cX0_addStone 2 = .ok (.aload_n 0, 1) := dk_42 (dk_at dksX0_addStone_0 2 rfl rfl)
theorem dX0_addStone_3 : decode cX0_addStone 3 = .ok (.iload_n 1, 1) := dk_27 (dk_at dksX0_addStone_0 3 rfl rfl)
theorem dX0_addStone_4 : decode cX0_addStone 4 = .ok (.iload_n 2, 1) := dk_28 (dk_at dksX0_addStone_0 4 rfl rfl)
theorem dX0_addStone_5 : decode cX0_addStone 5 = .ok (.invokevirtual 37, 3) := dk_182 0 37 (dk_at dksX0_addStone_0 5 rfl rfl)
theorem dX0_addStone_8 : decode cX0_addStone 8 = .ok (.i2l, 1) := dk_133 (dk_at dksX0_addStone_0 8 rfl rfl)
theorem dX0_addStone_9 : decode cX0_addStone 9 = .ok (.lastore, 1) := dk_80 (dk_at dksX0_addStone_0 9 rfl rfl)
theorem dX0_addStone_10 : decode cX0_addStone 10 = .ok (.goto 15, 3) := dk_167 0 15 (dk_at dksX0_addStone_0 10 rfl rfl)
theorem dX0_addStone_13 : decode cX0_addStone 13 = .ok (.astore 4, 2) := dk_58 4 (dk_at dksX0_addStone_0 13 rfl rfl)
theorem dX0_addStone_15 : decode cX0_addStone 15 = .ok (.iconst 1, 1) := dk_4 (dk_at dksX0_addStone_0 15 rfl rfl)
theorem dX0_addStone_16 : decode cX0_addStone 16 = .ok (.ireturn, 1) := dk_172 (dk_at dksX0_addStone_0 16 rfl rfl)
theorem dX0_addStone_17 : decode cX0_addStone 17 = .ok (.astore 4, 2) := dk_58 4 (dk_at dksX0_addStone_0 17 rfl rfl)
theorem dX0_addStone_19 : decode cX0_addStone 19 = .ok (.iconst 2, 1) := dk_5 (dk_at dksX0_addStone_0 19 rfl rfl)
theorem dX0_addStone_20 : decode cX0_addStone 20 = .ok (.ireturn, 1) := dk_172 (dk_at dksX0_addStone_0 20 rfl rfl)
theorem dX0_addStone_21 : decode cX0_addStone 21 = .ok (.astore 4, 2) := dk_58 4 (dk_at dksX0_addStone_0 21 rfl rfl)
theorem dX0_addStone_23 : decode cX0_addStone 23 = .ok (.iconst 3, 1) := dk_6 (dk_at dksX0_addStone_0 23 rfl rfl)
theorem dX0_addStone_24 : decode cX0_addStone 24 = .ok (.ireturn, 1) := dk_172 (dk_at dksX0_addStone_1 0 rfl rfl)
theorem dX0_addStone_25 : decode cX0_addStone 25 = .ok (.iconst 0, 1) := dk_3 (dk_at dksX0_addStone_1 1 rfl rfl)
theorem dX0_addStone_26 : decode cX0_addStone 26 = .ok (.ireturn, 1) := dk_172 (dk_at dksX0_addStone_1 2 rfl rfl)
abbrev cX0_stone : ByteArray := method_10_code
def yX0_stone : MethodName := ⟨RX0, "stone", "(LCavePearls;II[J)I"⟩
def dkwX0_stone_0 : List UInt8 := [45, 3, 42, 27, 28, 182, 0, 40, 133, 80, 167, 0, 11, 58, 4, 4, 172, 58, 4, 5, 172, 3, 172]
abbrev dktX0_stone_0 : List UInt8 := dkwX0_stone_0 ++ []
theorem dksX0_stone_0 : cX0_stone.data.toList.drop 0 = dktX0_stone_0 := by decide +kernel
theorem dX0_stone_0 : decode cX0_stone 0 = .ok (.aload_n 3, 1) := dk_45 (dk_at dksX0_stone_0 0 rfl rfl)
theorem dX0_stone_1 : decode cX0_stone 1 = .ok (.iconst 0, 1) := dk_3 (dk_at dksX0_stone_0 1 rfl rfl)
theorem dX0_stone_2 : decode cX0_stone 2 = .ok (.aload_n 0, 1) := dk_42 (dk_at dksX0_stone_0 2 rfl rfl)
theorem dX0_stone_3 : decode cX0_stone 3 = .ok (.iload_n 1, 1) := dk_27 (dk_at dksX0_stone_0 3 rfl rfl)
theorem dX0_stone_4 : decode cX0_stone 4 = .ok (.iload_n 2, 1) := dk_28 (dk_at dksX0_stone_0 4 rfl rfl)
theorem dX0_stone_5 : decode cX0_stone 5 = .ok (.invokevirtual 40, 3) := dk_182 0 40 (dk_at dksX0_stone_0 5 rfl rfl)
theorem dX0_stone_8 : decode cX0_stone 8 = .ok (.i2l, 1) := dk_133 (dk_at dksX0_stone_0 8 rfl rfl)
theorem dX0_stone_9 : decode cX0_stone 9 = .ok (.lastore, 1) := dk_80 (dk_at dksX0_stone_0 9 rfl rfl)
theorem dX0_stone_10 : decode cX0_stone 10 = .ok (.goto 11, 3) := dk_167 0 11 (dk_at dksX0_stone_0 10 rfl rfl)
theorem dX0_stone_13 : decode cX0_stone 13 = .ok (.astore 4, 2) := dk_58 4 (dk_at dksX0_stone_0 13 rfl rfl)
theorem dX0_stone_15 : decode cX0_stone 15 = .ok (.iconst 1, 1) := dk_4 (dk_at dksX0_stone_0 15 rfl rfl)
theorem dX0_stone_16 : decode cX0_stone 16 = .ok (.ireturn, 1) := dk_172 (dk_at dksX0_stone_0 16 rfl rfl)
theorem dX0_stone_17 : decode cX0_stone 17 = .ok (.astore 4, 2) := dk_58 4 (dk_at dksX0_stone_0 17 rfl rfl)
theorem dX0_stone_19 : decode cX0_stone 19 = .ok (.iconst 2, 1) := dk_5 (dk_at dksX0_stone_0 19 rfl rfl)
theorem dX0_stone_20 : decode cX0_stone 20 = .ok (.ireturn, 1) := dk_172 (dk_at dksX0_stone_0 20 rfl rfl)
theorem dX0_stone_21 : decode cX0_stone 21 = .ok (.iconst 0, 1) := dk_3 (dk_at dksX0_stone_0 21 rfl rfl)
theorem dX0_stone_22 : decode cX0_stone 22 = .ok (.ireturn, 1) := dk_172 (dk_at dksX0_stone_0 22 rfl rfl)
abbrev cX0_nextStone : ByteArray := method_11_code
def yX0_nextStone : MethodName := ⟨RX0, "nextStone", "(LCavePearls;[J)I"⟩
def dkwX0_nextStone_0 : List UInt8 := [43, 3, 42, 182, 0, 43, 133, 80, 167, 0, 6, 77, 4, 172, 3, 172]
abbrev dktX0_nextStone_0 : List UInt8 := dkwX0_nextStone_0 ++ []
theorem dksX0_nextStone_0 : cX0_nextStone.data.toList.drop 0 = dktX0_nextStone_0 := by decide +kernel
theorem dX0_nextStone_0 : decode cX0_nextStone 0 = .ok (.aload_n 1, 1) := dk_43 (dk_at dksX0_nextStone_0 0 rfl rfl)
theorem dX0_nextStone_1 : decode cX0_nextStone 1 = .ok (.iconst 0, 1) := dk_3 (dk_at dksX0_nextStone_0 1 rfl rfl)
theorem dX0_nextStone_2 : decode cX0_nextStone 2 = .ok (.aload_n 0, 1) := dk_42 (dk_at dksX0_nextStone_0 2 rfl rfl)
theorem dX0_nextStone_3 : decode cX0_nextStone 3 = .ok (.invokevirtual 43, 3) := dk_182 0 43 (dk_at dksX0_nextStone_0 3 rfl rfl)
theorem dX0_nextStone_6 : decode cX0_nextStone 6 = .ok (.i2l, 1) := dk_133 (dk_at dksX0_nextStone_0 6 rfl rfl)
theorem dX0_nextStone_7 : decode cX0_nextStone 7 = .ok (.lastore, 1) := dk_80 (dk_at dksX0_nextStone_0 7 rfl rfl)
theorem dX0_nextStone_8 : decode cX0_nextStone 8 = .ok (.goto 6, 3) := dk_167 0 6 (dk_at dksX0_nextStone_0 8 rfl rfl)
theorem dX0_nextStone_11 : decode cX0_nextStone 11 = .ok (.astore_n 2, 1) := dk_77 (dk_at dksX0_nextStone_0 11 rfl rfl)
theorem dX0_nextStone_12 : decode cX0_nextStone 12 = .ok (.iconst 1, 1) := dk_4 (dk_at dksX0_nextStone_0 12 rfl rfl)
theorem dX0_nextStone_13 : decode cX0_nextStone 13 = .ok (.ireturn, 1) := dk_172 (dk_at dksX0_nextStone_0 13 rfl rfl)
theorem dX0_nextStone_14 : decode cX0_nextStone 14 = .ok (.iconst 0, 1) := dk_3 (dk_at dksX0_nextStone_0 14 rfl rfl)
theorem dX0_nextStone_15 : decode cX0_nextStone 15 = .ok (.ireturn, 1) := dk_172 (dk_at dksX0_nextStone_0 15 rfl rfl)
abbrev cX0_enter : ByteArray := method_12_code
def yX0_enter : MethodName := ⟨RX0, "enter", "(LCavePearls;II[J)I"⟩
def dkwX0_enter_0 : List UInt8 := [45, 3, 42, 27, 28, 182, 0, 47, 133, 80, 167, 0, 11, 58, 4, 4, 172, 58, 4, 5, 172, 3, 172]
abbrev dktX0_enter_0 : List UInt8 := dkwX0_enter_0 ++ []
theorem dksX0_enter_0 : cX0_enter.data.toList.drop 0 = dktX0_enter_0 := by decide +kernel
theorem dX0_enter_0 : decode cX0_enter 0 = .ok (.aload_n 3, 1) := dk_45 (dk_at dksX0_enter_0 0 rfl rfl)
theorem dX0_enter_1 : decode cX0_enter 1 = .ok (.iconst 0, 1) := dk_3 (dk_at dksX0_enter_0 1 rfl rfl)
theorem dX0_enter_2 : decode cX0_enter 2 = .ok (.aload_n 0, 1) := dk_42 (dk_at dksX0_enter_0 2 rfl rfl)
theorem dX0_enter_3 : decode cX0_enter 3 = .ok (.iload_n 1, 1) := dk_27 (dk_at dksX0_enter_0 3 rfl rfl)
theorem dX0_enter_4 : decode cX0_enter 4 = .ok (.iload_n 2, 1) := dk_28 (dk_at dksX0_enter_0 4 rfl rfl)
theorem dX0_enter_5 : decode cX0_enter 5 = .ok (.invokevirtual 47, 3) := dk_182 0 47 (dk_at dksX0_enter_0 5 rfl rfl)
theorem dX0_enter_8 : decode cX0_enter 8 = .ok (.i2l, 1) := dk_133 (dk_at dksX0_enter_0 8 rfl rfl)
theorem dX0_enter_9 : decode cX0_enter 9 = .ok (.lastore, 1) := dk_80 (dk_at dksX0_enter_0 9 rfl rfl)
theorem dX0_enter_10 : decode cX0_enter 10 = .ok (.goto 11, 3) := dk_167 0 11 (dk_at dksX0_enter_0 10 rfl rfl)
theorem dX0_enter_13 : decode cX0_enter 13 = .ok (.astore 4, 2) := dk_58 4 (dk_at dksX0_enter_0 13 rfl rfl)
theorem dX0_enter_15 : decode cX0_enter 15 = .ok (.iconst 1, 1) := dk_4 (dk_at dksX0_enter_0 15 rfl rfl)
theorem dX0_enter_16 : decode cX0_enter 16 = .ok (.ireturn, 1) := dk_172 (dk_at dksX0_enter_0 16 rfl rfl)
theorem dX0_enter_17 : decode cX0_enter 17 = .ok (.astore 4, 2) := dk_58 4 (dk_at dksX0_enter_0 17 rfl rfl)
theorem dX0_enter_19 : decode cX0_enter 19 = .ok (.iconst 2, 1) := dk_5 (dk_at dksX0_enter_0 19 rfl rfl)
theorem dX0_enter_20 : decode cX0_enter 20 = .ok (.ireturn, 1) := dk_172 (dk_at dksX0_enter_0 20 rfl rfl)
theorem dX0_enter_21 : decode cX0_enter 21 = .ok (.iconst 0, 1) := dk_3 (dk_at dksX0_enter_0 21 rfl rfl)
theorem dX0_enter_22 : decode cX0_enter 22 = .ok (.ireturn, 1) := dk_172 (dk_at dksX0_enter_0 22 rfl rfl)
abbrev cX0_sendOut : ByteArray := method_13_code
def yX0_sendOut : MethodName := ⟨RX0, "sendOut", "(LCavePearls;I[J)I"⟩
def dkwX0_sendOut_0 : List UInt8 := [44, 3, 42, 27, 182, 0, 50, 133, 80, 167, 0, 6, 78, 4, 172, 3, 172]
abbrev dktX0_sendOut_0 : List UInt8 := dkwX0_sendOut_0 ++ []
theorem dksX0_sendOut_0 : cX0_sendOut.data.toList.drop 0 = dktX0_sendOut_0 := by decide +kernel
theorem dX0_sendOut_0 : decode cX0_sendOut 0 = .ok (.aload_n 2, 1) := dk_44 (dk_at dksX0_sendOut_0 0 rfl rfl)
theorem dX0_sendOut_1 : decode cX0_sendOut 1 = .ok (.iconst 0, 1) := dk_3 (dk_at dksX0_sendOut_0 1 rfl rfl)
theorem dX0_sendOut_2 : decode cX0_sendOut 2 = .ok (.aload_n 0, 1) := dk_42 (dk_at dksX0_sendOut_0 2 rfl rfl)
theorem dX0_sendOut_3 : decode cX0_sendOut 3 = .ok (.iload_n 1, 1) := dk_27 (dk_at dksX0_sendOut_0 3 rfl rfl)
theorem dX0_sendOut_4 : decode cX0_sendOut 4 = .ok (.invokevirtual 50, 3) := dk_182 0 50 (dk_at dksX0_sendOut_0 4 rfl rfl)
theorem dX0_sendOut_7 : decode cX0_sendOut 7 = .ok (.i2l, 1) := dk_133 (dk_at dksX0_sendOut_0 7 rfl rfl)
theorem dX0_sendOut_8 : decode cX0_sendOut 8 = .ok (.lastore, 1) := dk_80 (dk_at dksX0_sendOut_0 8 rfl rfl)
theorem dX0_sendOut_9 : decode cX0_sendOut 9 = .ok (.goto 6, 3) := dk_167 0 6 (dk_at dksX0_sendOut_0 9 rfl rfl)
theorem dX0_sendOut_12 : decode cX0_sendOut 12 = .ok (.astore_n 3, 1) := dk_78 (dk_at dksX0_sendOut_0 12 rfl rfl)
theorem dX0_sendOut_13 : decode cX0_sendOut 13 = .ok (.iconst 1, 1) := dk_4 (dk_at dksX0_sendOut_0 13 rfl rfl)
theorem dX0_sendOut_14 : decode cX0_sendOut 14 = .ok (.ireturn, 1) := dk_172 (dk_at dksX0_sendOut_0 14 rfl rfl)
theorem dX0_sendOut_15 : decode cX0_sendOut 15 = .ok (.iconst 0, 1) := dk_3 (dk_at dksX0_sendOut_0 15 rfl rfl)
theorem dX0_sendOut_16 : decode cX0_sendOut 16 = .ok (.ireturn, 1) := dk_172 (dk_at dksX0_sendOut_0 16 rfl rfl)
abbrev cX0_group : ByteArray := method_14_code
def yX0_group : MethodName := ⟨RX0, "group", "(LCavePearls;IZ[J)I"⟩
def dkwX0_group_0 : List UInt8 := [45, 3, 42, 27, 28, 182, 0, 53, 133, 80, 167, 0, 7, 58, 4, 4, 172, 3, 172]
abbrev dktX0_group_0 : List UInt8 := dkwX0_group_0 ++ []
theorem dksX0_group_0 : cX0_group.data.toList.drop 0 = dktX0_group_0 := by decide +kernel
theorem dX0_group_0 : decode cX0_group 0 = .ok (.aload_n 3, 1) := dk_45 (dk_at dksX0_group_0 0 rfl rfl)
theorem dX0_group_1 : decode cX0_group 1 = .ok (.iconst 0, 1) := dk_3 (dk_at dksX0_group_0 1 rfl rfl)
theorem dX0_group_2 : decode cX0_group 2 = .ok (.aload_n 0, 1) := dk_42 (dk_at dksX0_group_0 2 rfl rfl)
theorem dX0_group_3 : decode cX0_group 3 = .ok (.iload_n 1, 1) := dk_27 (dk_at dksX0_group_0 3 rfl rfl)
theorem dX0_group_4 : decode cX0_group 4 = .ok (.iload_n 2, 1) := dk_28 (dk_at dksX0_group_0 4 rfl rfl)
theorem dX0_group_5 : decode cX0_group 5 = .ok (.invokevirtual 53, 3) := dk_182 0 53 (dk_at dksX0_group_0 5 rfl rfl)
theorem dX0_group_8 : decode cX0_group 8 = .ok (.i2l, 1) := dk_133 (dk_at dksX0_group_0 8 rfl rfl)
theorem dX0_group_9 : decode cX0_group 9 = .ok (.lastore, 1) := dk_80 (dk_at dksX0_group_0 9 rfl rfl)
theorem dX0_group_10 : decode cX0_group 10 = .ok (.goto 7, 3) := dk_167 0 7 (dk_at dksX0_group_0 10 rfl rfl)
theorem dX0_group_13 : decode cX0_group 13 = .ok (.astore 4, 2) := dk_58 4 (dk_at dksX0_group_0 13 rfl rfl)
theorem dX0_group_15 : decode cX0_group 15 = .ok (.iconst 1, 1) := dk_4 (dk_at dksX0_group_0 15 rfl rfl)
theorem dX0_group_16 : decode cX0_group 16 = .ok (.ireturn, 1) := dk_172 (dk_at dksX0_group_0 16 rfl rfl)
theorem dX0_group_17 : decode cX0_group 17 = .ok (.iconst 0, 1) := dk_3 (dk_at dksX0_group_0 17 rfl rfl)
theorem dX0_group_18 : decode cX0_group 18 = .ok (.ireturn, 1) := dk_172 (dk_at dksX0_group_0 18 rfl rfl)
abbrev cX0_addLamp : ByteArray := method_15_code
def yX0_addLamp : MethodName := ⟨RX0, "addLamp", "(LCavePearls;I[J)I"⟩
def dkwX0_addLamp_0 : List UInt8 := [44, 3, 42, 27, 182, 0, 57, 133, 80, 167, 0, 9, 78, 4, 172, 78, 5, 172, 3, 172]
abbrev dktX0_addLamp_0 : List UInt8 := dkwX0_addLamp_0 ++ []
theorem dksX0_addLamp_0 : cX0_addLamp.data.toList.drop 0 = dktX0_addLamp_0 := by decide +kernel
theorem dX0_addLamp_0 : decode cX0_addLamp 0 = .ok (.aload_n 2, 1) := dk_44 (dk_at dksX0_addLamp_0 0 rfl rfl)
theorem dX0_addLamp_1 : decode cX0_addLamp 1 = .ok (.iconst 0, 1) := dk_3 (dk_at dksX0_addLamp_0 1 rfl rfl)
theorem dX0_addLamp_2 : decode cX0_addLamp 2 = .ok (.aload_n 0, 1) := dk_42 (dk_at dksX0_addLamp_0 2 rfl rfl)
theorem dX0_addLamp_3 : decode cX0_addLamp 3 = .ok (.iload_n 1, 1) := dk_27 (dk_at dksX0_addLamp_0 3 rfl rfl)
theorem dX0_addLamp_4 : decode cX0_addLamp 4 = .ok (.invokevirtual 57, 3) := dk_182 0 57 (dk_at dksX0_addLamp_0 4 rfl rfl)
theorem dX0_addLamp_7 : decode cX0_addLamp 7 = .ok (.i2l, 1) := dk_133 (dk_at dksX0_addLamp_0 7 rfl rfl)
theorem dX0_addLamp_8 : decode cX0_addLamp 8 = .ok (.lastore, 1) := dk_80 (dk_at dksX0_addLamp_0 8 rfl rfl)
theorem dX0_addLamp_9 : decode cX0_addLamp 9 = .ok (.goto 9, 3) := dk_167 0 9 (dk_at dksX0_addLamp_0 9 rfl rfl)
theorem dX0_addLamp_12 : decode cX0_addLamp 12 = .ok (.astore_n 3, 1) := dk_78 (dk_at dksX0_addLamp_0 12 rfl rfl)
theorem dX0_addLamp_13 : decode cX0_addLamp 13 = .ok (.iconst 1, 1) := dk_4 (dk_at dksX0_addLamp_0 13 rfl rfl)
theorem dX0_addLamp_14 : decode cX0_addLamp 14 = .ok (.ireturn, 1) := dk_172 (dk_at dksX0_addLamp_0 14 rfl rfl)
theorem dX0_addLamp_15 : decode cX0_addLamp 15 = .ok (.astore_n 3, 1) := dk_78 (dk_at dksX0_addLamp_0 15 rfl rfl)
theorem dX0_addLamp_16 : decode cX0_addLamp 16 = .ok (.iconst 2, 1) := dk_5 (dk_at dksX0_addLamp_0 16 rfl rfl)
theorem dX0_addLamp_17 : decode cX0_addLamp 17 = .ok (.ireturn, 1) := dk_172 (dk_at dksX0_addLamp_0 17 rfl rfl)
theorem dX0_addLamp_18 : decode cX0_addLamp 18 = .ok (.iconst 0, 1) := dk_3 (dk_at dksX0_addLamp_0 18 rfl rfl)
theorem dX0_addLamp_19 : decode cX0_addLamp 19 = .ok (.ireturn, 1) := dk_172 (dk_at dksX0_addLamp_0 19 rfl rfl)
abbrev cX0_switchOn : ByteArray := method_16_code
def yX0_switchOn : MethodName := ⟨RX0, "switchOn", "(LCavePearls;II[J)I"⟩
def dkwX0_switchOn_1 : List UInt8 := [172, 3, 172]
abbrev dktX0_switchOn_1 : List UInt8 := dkwX0_switchOn_1 ++ []
def dkwX0_switchOn_0 : List UInt8 := [45, 3, 42, 27, 28, 182, 0, 60, 133, 80, 167, 0, 15, 58, 4, 4, 172, 58, 4, 5, 172, 58, 4, 6]
abbrev dktX0_switchOn_0 : List UInt8 := dkwX0_switchOn_0 ++ dktX0_switchOn_1
theorem dksX0_switchOn_0 : cX0_switchOn.data.toList.drop 0 = dktX0_switchOn_0 := by decide +kernel
theorem dksX0_switchOn_1 : cX0_switchOn.data.toList.drop 24 = dktX0_switchOn_1 := dk_seg dksX0_switchOn_0 24 rfl rfl
theorem dX0_switchOn_0 : decode cX0_switchOn 0 = .ok (.aload_n 3, 1) := dk_45 (dk_at dksX0_switchOn_0 0 rfl rfl)
theorem dX0_switchOn_1 : decode cX0_switchOn 1 = .ok (.iconst 0, 1) := dk_3 (dk_at dksX0_switchOn_0 1 rfl rfl)
theorem dX0_switchOn_2 : decode cX0_switchOn 2 = .ok (.aload_n 0, 1) := dk_42 (dk_at dksX0_switchOn_0 2 rfl rfl)
theorem dX0_switchOn_3 : decode cX0_switchOn 3 = .ok (.iload_n 1, 1) := dk_27 (dk_at dksX0_switchOn_0 3 rfl rfl)
theorem dX0_switchOn_4 : decode cX0_switchOn 4 = .ok (.iload_n 2, 1) := dk_28 (dk_at dksX0_switchOn_0 4 rfl rfl)
theorem dX0_switchOn_5 : decode cX0_switchOn 5 = .ok (.invokevirtual 60, 3) := dk_182 0 60 (dk_at dksX0_switchOn_0 5 rfl rfl)
theorem dX0_switchOn_8 : decode cX0_switchOn 8 = .ok (.i2l, 1) := dk_133 (dk_at dksX0_switchOn_0 8 rfl rfl)
theorem dX0_switchOn_9 : decode cX0_switchOn 9 = .ok (.lastore, 1) := dk_80 (dk_at dksX0_switchOn_0 9 rfl rfl)
theorem dX0_switchOn_10 : decode cX0_switchOn 10 = .ok (.goto 15, 3) := dk_167 0 15 (dk_at dksX0_switchOn_0 10 rfl rfl)
theorem dX0_switchOn_13 : decode cX0_switchOn 13 = .ok (.astore 4, 2) := dk_58 4 (dk_at dksX0_switchOn_0 13 rfl rfl)
theorem dX0_switchOn_15 : decode cX0_switchOn 15 = .ok (.iconst 1, 1) := dk_4 (dk_at dksX0_switchOn_0 15 rfl rfl)
theorem dX0_switchOn_16 : decode cX0_switchOn 16 = .ok (.ireturn, 1) := dk_172 (dk_at dksX0_switchOn_0 16 rfl rfl)
theorem dX0_switchOn_17 : decode cX0_switchOn 17 = .ok (.astore 4, 2) := dk_58 4 (dk_at dksX0_switchOn_0 17 rfl rfl)
theorem dX0_switchOn_19 : decode cX0_switchOn 19 = .ok (.iconst 2, 1) := dk_5 (dk_at dksX0_switchOn_0 19 rfl rfl)
theorem dX0_switchOn_20 : decode cX0_switchOn 20 = .ok (.ireturn, 1) := dk_172 (dk_at dksX0_switchOn_0 20 rfl rfl)
theorem dX0_switchOn_21 : decode cX0_switchOn 21 = .ok (.astore 4, 2) := dk_58 4 (dk_at dksX0_switchOn_0 21 rfl rfl)
theorem dX0_switchOn_23 : decode cX0_switchOn 23 = .ok (.iconst 3, 1) := dk_6 (dk_at dksX0_switchOn_0 23 rfl rfl)
theorem dX0_switchOn_24 : decode cX0_switchOn 24 = .ok (.ireturn, 1) := dk_172 (dk_at dksX0_switchOn_1 0 rfl rfl)
theorem dX0_switchOn_25 : decode cX0_switchOn 25 = .ok (.iconst 0, 1) := dk_3 (dk_at dksX0_switchOn_1 1 rfl rfl)
theorem dX0_switchOn_26 : decode cX0_switchOn 26 = .ok (.ireturn, 1) := dk_172 (dk_at dksX0_switchOn_1 2 rfl rfl)
abbrev cX0_switchOff : ByteArray := method_17_code
def yX0_switchOff : MethodName := ⟨RX0, "switchOff", "(LCavePearls;I[J)I"⟩
def dkwX0_switchOff_0 : List UInt8 := [44, 3, 42, 27, 182, 0, 63, 133, 80, 167, 0, 9, 78, 4, 172, 78, 5, 172, 3, 172]
abbrev dktX0_switchOff_0 : List UInt8 := dkwX0_switchOff_0 ++ []
theorem dksX0_switchOff_0 : cX0_switchOff.data.toList.drop 0 = dktX0_switchOff_0 := by decide +kernel
theorem dX0_switchOff_0 : decode cX0_switchOff 0 = .ok (.aload_n 2, 1) := dk_44 (dk_at dksX0_switchOff_0 0 rfl rfl)
theorem dX0_switchOff_1 : decode cX0_switchOff 1 = .ok (.iconst 0, 1) := dk_3 (dk_at dksX0_switchOff_0 1 rfl rfl)
theorem dX0_switchOff_2 : decode cX0_switchOff 2 = .ok (.aload_n 0, 1) := dk_42 (dk_at dksX0_switchOff_0 2 rfl rfl)
theorem dX0_switchOff_3 : decode cX0_switchOff 3 = .ok (.iload_n 1, 1) := dk_27 (dk_at dksX0_switchOff_0 3 rfl rfl)
theorem dX0_switchOff_4 : decode cX0_switchOff 4 = .ok (.invokevirtual 63, 3) := dk_182 0 63 (dk_at dksX0_switchOff_0 4 rfl rfl)
theorem dX0_switchOff_7 : decode cX0_switchOff 7 = .ok (.i2l, 1) := dk_133 (dk_at dksX0_switchOff_0 7 rfl rfl)
theorem dX0_switchOff_8 : decode cX0_switchOff 8 = .ok (.lastore, 1) := dk_80 (dk_at dksX0_switchOff_0 8 rfl rfl)
theorem dX0_switchOff_9 : decode cX0_switchOff 9 = .ok (.goto 9, 3) := dk_167 0 9 (dk_at dksX0_switchOff_0 9 rfl rfl)
theorem dX0_switchOff_12 : decode cX0_switchOff 12 = .ok (.astore_n 3, 1) := dk_78 (dk_at dksX0_switchOff_0 12 rfl rfl)
theorem dX0_switchOff_13 : decode cX0_switchOff 13 = .ok (.iconst 1, 1) := dk_4 (dk_at dksX0_switchOff_0 13 rfl rfl)
theorem dX0_switchOff_14 : decode cX0_switchOff 14 = .ok (.ireturn, 1) := dk_172 (dk_at dksX0_switchOff_0 14 rfl rfl)
theorem dX0_switchOff_15 : decode cX0_switchOff 15 = .ok (.astore_n 3, 1) := dk_78 (dk_at dksX0_switchOff_0 15 rfl rfl)
theorem dX0_switchOff_16 : decode cX0_switchOff 16 = .ok (.iconst 2, 1) := dk_5 (dk_at dksX0_switchOff_0 16 rfl rfl)
theorem dX0_switchOff_17 : decode cX0_switchOff 17 = .ok (.ireturn, 1) := dk_172 (dk_at dksX0_switchOff_0 17 rfl rfl)
theorem dX0_switchOff_18 : decode cX0_switchOff 18 = .ok (.iconst 0, 1) := dk_3 (dk_at dksX0_switchOff_0 18 rfl rfl)
theorem dX0_switchOff_19 : decode cX0_switchOff 19 = .ok (.ireturn, 1) := dk_172 (dk_at dksX0_switchOff_0 19 rfl rfl)
abbrev cX0_lamp : ByteArray := method_18_code
def yX0_lamp : MethodName := ⟨RX0, "lamp", "(LCavePearls;IZ[J)I"⟩
def dkwX0_lamp_0 : List UInt8 := [45, 3, 42, 27, 28, 182, 0, 66, 133, 80, 167, 0, 7, 58, 4, 4, 172, 3, 172]
abbrev dktX0_lamp_0 : List UInt8 := dkwX0_lamp_0 ++ []
theorem dksX0_lamp_0 : cX0_lamp.data.toList.drop 0 = dktX0_lamp_0 := by decide +kernel
theorem dX0_lamp_0 : decode cX0_lamp 0 = .ok (.aload_n 3, 1) := dk_45 (dk_at dksX0_lamp_0 0 rfl rfl)
theorem dX0_lamp_1 : decode cX0_lamp 1 = .ok (.iconst 0, 1) := dk_3 (dk_at dksX0_lamp_0 1 rfl rfl)
theorem dX0_lamp_2 : decode cX0_lamp 2 = .ok (.aload_n 0, 1) := dk_42 (dk_at dksX0_lamp_0 2 rfl rfl)
theorem dX0_lamp_3 : decode cX0_lamp 3 = .ok (.iload_n 1, 1) := dk_27 (dk_at dksX0_lamp_0 3 rfl rfl)
theorem dX0_lamp_4 : decode cX0_lamp 4 = .ok (.iload_n 2, 1) := dk_28 (dk_at dksX0_lamp_0 4 rfl rfl)
theorem dX0_lamp_5 : decode cX0_lamp 5 = .ok (.invokevirtual 66, 3) := dk_182 0 66 (dk_at dksX0_lamp_0 5 rfl rfl)
theorem dX0_lamp_8 : decode cX0_lamp 8 = .ok (.i2l, 1) := dk_133 (dk_at dksX0_lamp_0 8 rfl rfl)
theorem dX0_lamp_9 : decode cX0_lamp 9 = .ok (.lastore, 1) := dk_80 (dk_at dksX0_lamp_0 9 rfl rfl)
theorem dX0_lamp_10 : decode cX0_lamp 10 = .ok (.goto 7, 3) := dk_167 0 7 (dk_at dksX0_lamp_0 10 rfl rfl)
theorem dX0_lamp_13 : decode cX0_lamp 13 = .ok (.astore 4, 2) := dk_58 4 (dk_at dksX0_lamp_0 13 rfl rfl)
theorem dX0_lamp_15 : decode cX0_lamp 15 = .ok (.iconst 1, 1) := dk_4 (dk_at dksX0_lamp_0 15 rfl rfl)
theorem dX0_lamp_16 : decode cX0_lamp 16 = .ok (.ireturn, 1) := dk_172 (dk_at dksX0_lamp_0 16 rfl rfl)
theorem dX0_lamp_17 : decode cX0_lamp 17 = .ok (.iconst 0, 1) := dk_3 (dk_at dksX0_lamp_0 17 rfl rfl)
theorem dX0_lamp_18 : decode cX0_lamp 18 = .ok (.ireturn, 1) := dk_172 (dk_at dksX0_lamp_0 18 rfl rfl)
abbrev cX0_setDraught : ByteArray := method_19_code
def yX0_setDraught : MethodName := ⟨RX0, "setDraught", "(LCavePearls;I[J)I"⟩
def dkwX0_setDraught_0 : List UInt8 := [44, 3, 42, 27, 182, 0, 69, 133, 80, 167, 0, 6, 78, 4, 172, 3, 172]
abbrev dktX0_setDraught_0 : List UInt8 := dkwX0_setDraught_0 ++ []
theorem dksX0_setDraught_0 : cX0_setDraught.data.toList.drop 0 = dktX0_setDraught_0 := by decide +kernel
theorem dX0_setDraught_0 : decode cX0_setDraught 0 = .ok (.aload_n 2, 1) := dk_44 (dk_at dksX0_setDraught_0 0 rfl rfl)
theorem dX0_setDraught_1 : decode cX0_setDraught 1 = .ok (.iconst 0, 1) := dk_3 (dk_at dksX0_setDraught_0 1 rfl rfl)
theorem dX0_setDraught_2 : decode cX0_setDraught 2 = .ok (.aload_n 0, 1) := dk_42 (dk_at dksX0_setDraught_0 2 rfl rfl)
theorem dX0_setDraught_3 : decode cX0_setDraught 3 = .ok (.iload_n 1, 1) := dk_27 (dk_at dksX0_setDraught_0 3 rfl rfl)
theorem dX0_setDraught_4 : decode cX0_setDraught 4 = .ok (.invokevirtual 69, 3) := dk_182 0 69 (dk_at dksX0_setDraught_0 4 rfl rfl)
theorem dX0_setDraught_7 : decode cX0_setDraught 7 = .ok (.i2l, 1) := dk_133 (dk_at dksX0_setDraught_0 7 rfl rfl)
theorem dX0_setDraught_8 : decode cX0_setDraught 8 = .ok (.lastore, 1) := dk_80 (dk_at dksX0_setDraught_0 8 rfl rfl)
theorem dX0_setDraught_9 : decode cX0_setDraught 9 = .ok (.goto 6, 3) := dk_167 0 6 (dk_at dksX0_setDraught_0 9 rfl rfl)
theorem dX0_setDraught_12 : decode cX0_setDraught 12 = .ok (.astore_n 3, 1) := dk_78 (dk_at dksX0_setDraught_0 12 rfl rfl)
theorem dX0_setDraught_13 : decode cX0_setDraught 13 = .ok (.iconst 1, 1) := dk_4 (dk_at dksX0_setDraught_0 13 rfl rfl)
theorem dX0_setDraught_14 : decode cX0_setDraught 14 = .ok (.ireturn, 1) := dk_172 (dk_at dksX0_setDraught_0 14 rfl rfl)
theorem dX0_setDraught_15 : decode cX0_setDraught 15 = .ok (.iconst 0, 1) := dk_3 (dk_at dksX0_setDraught_0 15 rfl rfl)
theorem dX0_setDraught_16 : decode cX0_setDraught 16 = .ok (.ireturn, 1) := dk_172 (dk_at dksX0_setDraught_0 16 rfl rfl)
abbrev cX0_sweep : ByteArray := method_20_code
def yX0_sweep : MethodName := ⟨RX0, "sweep", "(LCavePearls;[J)I"⟩
def dkwX0_sweep_0 : List UInt8 := [43, 3, 42, 182, 0, 72, 133, 80, 167, 0, 6, 77, 4, 172, 3, 172]
abbrev dktX0_sweep_0 : List UInt8 := dkwX0_sweep_0 ++ []
theorem dksX0_sweep_0 : cX0_sweep.data.toList.drop 0 = dktX0_sweep_0 := by decide +kernel
theorem dX0_sweep_0 : decode cX0_sweep 0 = .ok (.aload_n 1, 1) := dk_43 (dk_at dksX0_sweep_0 0 rfl rfl)
theorem dX0_sweep_1 : decode cX0_sweep 1 = .ok (.iconst 0, 1) := dk_3 (dk_at dksX0_sweep_0 1 rfl rfl)
theorem dX0_sweep_2 : decode cX0_sweep 2 = .ok (.aload_n 0, 1) := dk_42 (dk_at dksX0_sweep_0 2 rfl rfl)
theorem dX0_sweep_3 : decode cX0_sweep 3 = .ok (.invokevirtual 72, 3) := dk_182 0 72 (dk_at dksX0_sweep_0 3 rfl rfl)
theorem dX0_sweep_6 : decode cX0_sweep 6 = .ok (.i2l, 1) := dk_133 (dk_at dksX0_sweep_0 6 rfl rfl)
theorem dX0_sweep_7 : decode cX0_sweep 7 = .ok (.lastore, 1) := dk_80 (dk_at dksX0_sweep_0 7 rfl rfl)
theorem dX0_sweep_8 : decode cX0_sweep 8 = .ok (.goto 6, 3) := dk_167 0 6 (dk_at dksX0_sweep_0 8 rfl rfl)
theorem dX0_sweep_11 : decode cX0_sweep 11 = .ok (.astore_n 2, 1) := dk_77 (dk_at dksX0_sweep_0 11 rfl rfl)
theorem dX0_sweep_12 : decode cX0_sweep 12 = .ok (.iconst 1, 1) := dk_4 (dk_at dksX0_sweep_0 12 rfl rfl)
theorem dX0_sweep_13 : decode cX0_sweep 13 = .ok (.ireturn, 1) := dk_172 (dk_at dksX0_sweep_0 13 rfl rfl)
theorem dX0_sweep_14 : decode cX0_sweep 14 = .ok (.iconst 0, 1) := dk_3 (dk_at dksX0_sweep_0 14 rfl rfl)
theorem dX0_sweep_15 : decode cX0_sweep 15 = .ok (.ireturn, 1) := dk_172 (dk_at dksX0_sweep_0 15 rfl rfl)
abbrev cX0_pass : ByteArray := method_21_code
def yX0_pass : MethodName := ⟨RX0, "pass", "(LCavePearls;I[J)I"⟩
def dkwX0_pass_0 : List UInt8 := [44, 3, 42, 27, 182, 0, 75, 133, 80, 167, 0, 6, 78, 4, 172, 3, 172]
abbrev dktX0_pass_0 : List UInt8 := dkwX0_pass_0 ++ []
theorem dksX0_pass_0 : cX0_pass.data.toList.drop 0 = dktX0_pass_0 := by decide +kernel
theorem dX0_pass_0 : decode cX0_pass 0 = .ok (.aload_n 2, 1) := dk_44 (dk_at dksX0_pass_0 0 rfl rfl)
theorem dX0_pass_1 : decode cX0_pass 1 = .ok (.iconst 0, 1) := dk_3 (dk_at dksX0_pass_0 1 rfl rfl)
theorem dX0_pass_2 : decode cX0_pass 2 = .ok (.aload_n 0, 1) := dk_42 (dk_at dksX0_pass_0 2 rfl rfl)
theorem dX0_pass_3 : decode cX0_pass 3 = .ok (.iload_n 1, 1) := dk_27 (dk_at dksX0_pass_0 3 rfl rfl)
theorem dX0_pass_4 : decode cX0_pass 4 = .ok (.invokevirtual 75, 3) := dk_182 0 75 (dk_at dksX0_pass_0 4 rfl rfl)
theorem dX0_pass_7 : decode cX0_pass 7 = .ok (.i2l, 1) := dk_133 (dk_at dksX0_pass_0 7 rfl rfl)
theorem dX0_pass_8 : decode cX0_pass 8 = .ok (.lastore, 1) := dk_80 (dk_at dksX0_pass_0 8 rfl rfl)
theorem dX0_pass_9 : decode cX0_pass 9 = .ok (.goto 6, 3) := dk_167 0 6 (dk_at dksX0_pass_0 9 rfl rfl)
theorem dX0_pass_12 : decode cX0_pass 12 = .ok (.astore_n 3, 1) := dk_78 (dk_at dksX0_pass_0 12 rfl rfl)
theorem dX0_pass_13 : decode cX0_pass 13 = .ok (.iconst 1, 1) := dk_4 (dk_at dksX0_pass_0 13 rfl rfl)
theorem dX0_pass_14 : decode cX0_pass 14 = .ok (.ireturn, 1) := dk_172 (dk_at dksX0_pass_0 14 rfl rfl)
theorem dX0_pass_15 : decode cX0_pass 15 = .ok (.iconst 0, 1) := dk_3 (dk_at dksX0_pass_0 15 rfl rfl)
theorem dX0_pass_16 : decode cX0_pass 16 = .ok (.ireturn, 1) := dk_172 (dk_at dksX0_pass_0 16 rfl rfl)
abbrev cX0_fullIn : ByteArray := method_22_code
def yX0_fullIn : MethodName := ⟨RX0, "fullIn", "(LCavePearls;I[J)I"⟩
def dkwX0_fullIn_0 : List UInt8 := [44, 3, 42, 27, 182, 0, 78, 133, 80, 167, 0, 9, 78, 4, 172, 78, 5, 172, 3, 172]
abbrev dktX0_fullIn_0 : List UInt8 := dkwX0_fullIn_0 ++ []
theorem dksX0_fullIn_0 : cX0_fullIn.data.toList.drop 0 = dktX0_fullIn_0 := by decide +kernel
theorem dX0_fullIn_0 : decode cX0_fullIn 0 = .ok (.aload_n 2, 1) := dk_44 (dk_at dksX0_fullIn_0 0 rfl rfl)
theorem dX0_fullIn_1 : decode cX0_fullIn 1 = .ok (.iconst 0, 1) := dk_3 (dk_at dksX0_fullIn_0 1 rfl rfl)
theorem dX0_fullIn_2 : decode cX0_fullIn 2 = .ok (.aload_n 0, 1) := dk_42 (dk_at dksX0_fullIn_0 2 rfl rfl)
theorem dX0_fullIn_3 : decode cX0_fullIn 3 = .ok (.iload_n 1, 1) := dk_27 (dk_at dksX0_fullIn_0 3 rfl rfl)
theorem dX0_fullIn_4 : decode cX0_fullIn 4 = .ok (.invokevirtual 78, 3) := dk_182 0 78 (dk_at dksX0_fullIn_0 4 rfl rfl)
theorem dX0_fullIn_7 : decode cX0_fullIn 7 = .ok (.i2l, 1) := dk_133 (dk_at dksX0_fullIn_0 7 rfl rfl)
theorem dX0_fullIn_8 : decode cX0_fullIn 8 = .ok (.lastore, 1) := dk_80 (dk_at dksX0_fullIn_0 8 rfl rfl)
theorem dX0_fullIn_9 : decode cX0_fullIn 9 = .ok (.goto 9, 3) := dk_167 0 9 (dk_at dksX0_fullIn_0 9 rfl rfl)
theorem dX0_fullIn_12 : decode cX0_fullIn 12 = .ok (.astore_n 3, 1) := dk_78 (dk_at dksX0_fullIn_0 12 rfl rfl)
theorem dX0_fullIn_13 : decode cX0_fullIn 13 = .ok (.iconst 1, 1) := dk_4 (dk_at dksX0_fullIn_0 13 rfl rfl)
theorem dX0_fullIn_14 : decode cX0_fullIn 14 = .ok (.ireturn, 1) := dk_172 (dk_at dksX0_fullIn_0 14 rfl rfl)
theorem dX0_fullIn_15 : decode cX0_fullIn 15 = .ok (.astore_n 3, 1) := dk_78 (dk_at dksX0_fullIn_0 15 rfl rfl)
theorem dX0_fullIn_16 : decode cX0_fullIn 16 = .ok (.iconst 2, 1) := dk_5 (dk_at dksX0_fullIn_0 16 rfl rfl)
theorem dX0_fullIn_17 : decode cX0_fullIn 17 = .ok (.ireturn, 1) := dk_172 (dk_at dksX0_fullIn_0 17 rfl rfl)
theorem dX0_fullIn_18 : decode cX0_fullIn 18 = .ok (.iconst 0, 1) := dk_3 (dk_at dksX0_fullIn_0 18 rfl rfl)
theorem dX0_fullIn_19 : decode cX0_fullIn 19 = .ok (.ireturn, 1) := dk_172 (dk_at dksX0_fullIn_0 19 rfl rfl)
abbrev cX0_sizeIn : ByteArray := method_23_code
def yX0_sizeIn : MethodName := ⟨RX0, "sizeIn", "(LCavePearls;III[J)I"⟩
def dkwX0_sizeIn_1 : List UInt8 := [58, 5, 6, 172, 3, 172]
abbrev dktX0_sizeIn_1 : List UInt8 := dkwX0_sizeIn_1 ++ []
def dkwX0_sizeIn_0 : List UInt8 := [25, 4, 3, 42, 27, 28, 29, 182, 0, 81, 133, 80, 167, 0, 15, 58, 5, 4, 172, 58, 5, 5, 172]
abbrev dktX0_sizeIn_0 : List UInt8 := dkwX0_sizeIn_0 ++ dktX0_sizeIn_1
theorem dksX0_sizeIn_0 : cX0_sizeIn.data.toList.drop 0 = dktX0_sizeIn_0 := by decide +kernel
theorem dksX0_sizeIn_1 : cX0_sizeIn.data.toList.drop 23 = dktX0_sizeIn_1 := dk_seg dksX0_sizeIn_0 23 rfl rfl
theorem dX0_sizeIn_0 : decode cX0_sizeIn 0 = .ok (.aload 4, 2) := dk_25 4 (dk_at dksX0_sizeIn_0 0 rfl rfl)
theorem dX0_sizeIn_2 : decode cX0_sizeIn 2 = .ok (.iconst 0, 1) := dk_3 (dk_at dksX0_sizeIn_0 2 rfl rfl)
theorem dX0_sizeIn_3 : decode cX0_sizeIn 3 = .ok (.aload_n 0, 1) := dk_42 (dk_at dksX0_sizeIn_0 3 rfl rfl)
theorem dX0_sizeIn_4 : decode cX0_sizeIn 4 = .ok (.iload_n 1, 1) := dk_27 (dk_at dksX0_sizeIn_0 4 rfl rfl)
theorem dX0_sizeIn_5 : decode cX0_sizeIn 5 = .ok (.iload_n 2, 1) := dk_28 (dk_at dksX0_sizeIn_0 5 rfl rfl)
theorem dX0_sizeIn_6 : decode cX0_sizeIn 6 = .ok (.iload_n 3, 1) := dk_29 (dk_at dksX0_sizeIn_0 6 rfl rfl)
theorem dX0_sizeIn_7 : decode cX0_sizeIn 7 = .ok (.invokevirtual 81, 3) := dk_182 0 81 (dk_at dksX0_sizeIn_0 7 rfl rfl)
theorem dX0_sizeIn_10 : decode cX0_sizeIn 10 = .ok (.i2l, 1) := dk_133 (dk_at dksX0_sizeIn_0 10 rfl rfl)
theorem dX0_sizeIn_11 : decode cX0_sizeIn 11 = .ok (.lastore, 1) := dk_80 (dk_at dksX0_sizeIn_0 11 rfl rfl)
theorem dX0_sizeIn_12 : decode cX0_sizeIn 12 = .ok (.goto 15, 3) := dk_167 0 15 (dk_at dksX0_sizeIn_0 12 rfl rfl)
theorem dX0_sizeIn_15 : decode cX0_sizeIn 15 = .ok (.astore 5, 2) := dk_58 5 (dk_at dksX0_sizeIn_0 15 rfl rfl)
theorem dX0_sizeIn_17 : decode cX0_sizeIn 17 = .ok (.iconst 1, 1) := dk_4 (dk_at dksX0_sizeIn_0 17 rfl rfl)
theorem dX0_sizeIn_18 : decode cX0_sizeIn 18 = .ok (.ireturn, 1) := dk_172 (dk_at dksX0_sizeIn_0 18 rfl rfl)
theorem dX0_sizeIn_19 : decode cX0_sizeIn 19 = .ok (.astore 5, 2) := dk_58 5 (dk_at dksX0_sizeIn_0 19 rfl rfl)
theorem dX0_sizeIn_21 : decode cX0_sizeIn 21 = .ok (.iconst 2, 1) := dk_5 (dk_at dksX0_sizeIn_0 21 rfl rfl)
theorem dX0_sizeIn_22 : decode cX0_sizeIn 22 = .ok (.ireturn, 1) := dk_172 (dk_at dksX0_sizeIn_0 22 rfl rfl)
theorem dX0_sizeIn_23 : decode cX0_sizeIn 23 = .ok (.astore 5, 2) := dk_58 5 (dk_at dksX0_sizeIn_1 0 rfl rfl)
theorem dX0_sizeIn_25 : decode cX0_sizeIn 25 = .ok (.iconst 3, 1) := dk_6 (dk_at dksX0_sizeIn_1 2 rfl rfl)
theorem dX0_sizeIn_26 : decode cX0_sizeIn 26 = .ok (.ireturn, 1) := dk_172 (dk_at dksX0_sizeIn_1 3 rfl rfl)
theorem dX0_sizeIn_27 : decode cX0_sizeIn 27 = .ok (.iconst 0, 1) := dk_3 (dk_at dksX0_sizeIn_1 4 rfl rfl)
theorem dX0_sizeIn_28 : decode cX0_sizeIn 28 = .ok (.ireturn, 1) := dk_172 (dk_at dksX0_sizeIn_1 5 rfl rfl)
abbrev cX0_clearIn : ByteArray := method_24_code
def yX0_clearIn : MethodName := ⟨RX0, "clearIn", "(LCavePearls;I[J)I"⟩
def dkwX0_clearIn_0 : List UInt8 := [44, 3, 42, 27, 182, 0, 85, 133, 80, 167, 0, 9, 78, 4, 172, 78, 5, 172, 3, 172]
abbrev dktX0_clearIn_0 : List UInt8 := dkwX0_clearIn_0 ++ []
theorem dksX0_clearIn_0 : cX0_clearIn.data.toList.drop 0 = dktX0_clearIn_0 := by decide +kernel
theorem dX0_clearIn_0 : decode cX0_clearIn 0 = .ok (.aload_n 2, 1) := dk_44 (dk_at dksX0_clearIn_0 0 rfl rfl)
theorem dX0_clearIn_1 : decode cX0_clearIn 1 = .ok (.iconst 0, 1) := dk_3 (dk_at dksX0_clearIn_0 1 rfl rfl)
theorem dX0_clearIn_2 : decode cX0_clearIn 2 = .ok (.aload_n 0, 1) := dk_42 (dk_at dksX0_clearIn_0 2 rfl rfl)
theorem dX0_clearIn_3 : decode cX0_clearIn 3 = .ok (.iload_n 1, 1) := dk_27 (dk_at dksX0_clearIn_0 3 rfl rfl)
theorem dX0_clearIn_4 : decode cX0_clearIn 4 = .ok (.invokevirtual 85, 3) := dk_182 0 85 (dk_at dksX0_clearIn_0 4 rfl rfl)
theorem dX0_clearIn_7 : decode cX0_clearIn 7 = .ok (.i2l, 1) := dk_133 (dk_at dksX0_clearIn_0 7 rfl rfl)
theorem dX0_clearIn_8 : decode cX0_clearIn 8 = .ok (.lastore, 1) := dk_80 (dk_at dksX0_clearIn_0 8 rfl rfl)
theorem dX0_clearIn_9 : decode cX0_clearIn 9 = .ok (.goto 9, 3) := dk_167 0 9 (dk_at dksX0_clearIn_0 9 rfl rfl)
theorem dX0_clearIn_12 : decode cX0_clearIn 12 = .ok (.astore_n 3, 1) := dk_78 (dk_at dksX0_clearIn_0 12 rfl rfl)
theorem dX0_clearIn_13 : decode cX0_clearIn 13 = .ok (.iconst 1, 1) := dk_4 (dk_at dksX0_clearIn_0 13 rfl rfl)
theorem dX0_clearIn_14 : decode cX0_clearIn 14 = .ok (.ireturn, 1) := dk_172 (dk_at dksX0_clearIn_0 14 rfl rfl)
theorem dX0_clearIn_15 : decode cX0_clearIn 15 = .ok (.astore_n 3, 1) := dk_78 (dk_at dksX0_clearIn_0 15 rfl rfl)
theorem dX0_clearIn_16 : decode cX0_clearIn 16 = .ok (.iconst 2, 1) := dk_5 (dk_at dksX0_clearIn_0 16 rfl rfl)
theorem dX0_clearIn_17 : decode cX0_clearIn 17 = .ok (.ireturn, 1) := dk_172 (dk_at dksX0_clearIn_0 17 rfl rfl)
theorem dX0_clearIn_18 : decode cX0_clearIn 18 = .ok (.iconst 0, 1) := dk_3 (dk_at dksX0_clearIn_0 18 rfl rfl)
theorem dX0_clearIn_19 : decode cX0_clearIn 19 = .ok (.ireturn, 1) := dk_172 (dk_at dksX0_clearIn_0 19 rfl rfl)
abbrev cX0_leastDraught : ByteArray := method_25_code
def yX0_leastDraught : MethodName := ⟨RX0, "leastDraught", "(LCavePearls;[J)I"⟩
def dkwX0_leastDraught_0 : List UInt8 := [43, 3, 42, 182, 0, 88, 133, 80, 167, 0, 6, 77, 4, 172, 3, 172]
abbrev dktX0_leastDraught_0 : List UInt8 := dkwX0_leastDraught_0 ++ []
theorem dksX0_leastDraught_0 : cX0_leastDraught.data.toList.drop 0 = dktX0_leastDraught_0 := by decide +kernel
theorem dX0_leastDraught_0 : decode cX0_leastDraught 0 = .ok (.aload_n 1, 1) := dk_43 (dk_at dksX0_leastDraught_0 0 rfl rfl)
theorem dX0_leastDraught_1 : decode cX0_leastDraught 1 = .ok (.iconst 0, 1) := dk_3 (dk_at dksX0_leastDraught_0 1 rfl rfl)
theorem dX0_leastDraught_2 : decode cX0_leastDraught 2 = .ok (.aload_n 0, 1) := dk_42 (dk_at dksX0_leastDraught_0 2 rfl rfl)
theorem dX0_leastDraught_3 : decode cX0_leastDraught 3 = .ok (.invokevirtual 88, 3) := dk_182 0 88 (dk_at dksX0_leastDraught_0 3 rfl rfl)
theorem dX0_leastDraught_6 : decode cX0_leastDraught 6 = .ok (.i2l, 1) := dk_133 (dk_at dksX0_leastDraught_0 6 rfl rfl)
theorem dX0_leastDraught_7 : decode cX0_leastDraught 7 = .ok (.lastore, 1) := dk_80 (dk_at dksX0_leastDraught_0 7 rfl rfl)
theorem dX0_leastDraught_8 : decode cX0_leastDraught 8 = .ok (.goto 6, 3) := dk_167 0 6 (dk_at dksX0_leastDraught_0 8 rfl rfl)
theorem dX0_leastDraught_11 : decode cX0_leastDraught 11 = .ok (.astore_n 2, 1) := dk_77 (dk_at dksX0_leastDraught_0 11 rfl rfl)
theorem dX0_leastDraught_12 : decode cX0_leastDraught 12 = .ok (.iconst 1, 1) := dk_4 (dk_at dksX0_leastDraught_0 12 rfl rfl)
theorem dX0_leastDraught_13 : decode cX0_leastDraught 13 = .ok (.ireturn, 1) := dk_172 (dk_at dksX0_leastDraught_0 13 rfl rfl)
theorem dX0_leastDraught_14 : decode cX0_leastDraught 14 = .ok (.iconst 0, 1) := dk_3 (dk_at dksX0_leastDraught_0 14 rfl rfl)
theorem dX0_leastDraught_15 : decode cX0_leastDraught 15 = .ok (.ireturn, 1) := dk_172 (dk_at dksX0_leastDraught_0 15 rfl rfl)
abbrev cX0_line : ByteArray := method_26_code
def yX0_line : MethodName := ⟨RX0, "line", "(LCavePearls;I[J)I"⟩
def dkwX0_line_0 : List UInt8 := [44, 3, 42, 27, 182, 0, 91, 133, 80, 167, 0, 6, 78, 4, 172, 3, 172]
abbrev dktX0_line_0 : List UInt8 := dkwX0_line_0 ++ []
theorem dksX0_line_0 : cX0_line.data.toList.drop 0 = dktX0_line_0 := by decide +kernel
theorem dX0_line_0 : decode cX0_line 0 = .ok (.aload_n 2, 1) := dk_44 (dk_at dksX0_line_0 0 rfl rfl)
theorem dX0_line_1 : decode cX0_line 1 = .ok (.iconst 0, 1) := dk_3 (dk_at dksX0_line_0 1 rfl rfl)
theorem dX0_line_2 : decode cX0_line 2 = .ok (.aload_n 0, 1) := dk_42 (dk_at dksX0_line_0 2 rfl rfl)
theorem dX0_line_3 : decode cX0_line 3 = .ok (.iload_n 1, 1) := dk_27 (dk_at dksX0_line_0 3 rfl rfl)
theorem dX0_line_4 : decode cX0_line 4 = .ok (.invokevirtual 91, 3) := dk_182 0 91 (dk_at dksX0_line_0 4 rfl rfl)
theorem dX0_line_7 : decode cX0_line 7 = .ok (.i2l, 1) := dk_133 (dk_at dksX0_line_0 7 rfl rfl)
theorem dX0_line_8 : decode cX0_line 8 = .ok (.lastore, 1) := dk_80 (dk_at dksX0_line_0 8 rfl rfl)
theorem dX0_line_9 : decode cX0_line 9 = .ok (.goto 6, 3) := dk_167 0 6 (dk_at dksX0_line_0 9 rfl rfl)
theorem dX0_line_12 : decode cX0_line 12 = .ok (.astore_n 3, 1) := dk_78 (dk_at dksX0_line_0 12 rfl rfl)
theorem dX0_line_13 : decode cX0_line 13 = .ok (.iconst 1, 1) := dk_4 (dk_at dksX0_line_0 13 rfl rfl)
theorem dX0_line_14 : decode cX0_line 14 = .ok (.ireturn, 1) := dk_172 (dk_at dksX0_line_0 14 rfl rfl)
theorem dX0_line_15 : decode cX0_line 15 = .ok (.iconst 0, 1) := dk_3 (dk_at dksX0_line_0 15 rfl rfl)
theorem dX0_line_16 : decode cX0_line 16 = .ok (.ireturn, 1) := dk_172 (dk_at dksX0_line_0 16 rfl rfl)
abbrev cX0_character : ByteArray := method_27_code
def yX0_character : MethodName := ⟨RX0, "character", "(LCavePearls;I[J)I"⟩
def dkwX0_character_0 : List UInt8 := [44, 3, 42, 27, 182, 0, 94, 133, 80, 167, 0, 6, 78, 4, 172, 3, 172]
abbrev dktX0_character_0 : List UInt8 := dkwX0_character_0 ++ []
theorem dksX0_character_0 : cX0_character.data.toList.drop 0 = dktX0_character_0 := by decide +kernel
theorem dX0_character_0 : decode cX0_character 0 = .ok (.aload_n 2, 1) := dk_44 (dk_at dksX0_character_0 0 rfl rfl)
theorem dX0_character_1 : decode cX0_character 1 = .ok (.iconst 0, 1) := dk_3 (dk_at dksX0_character_0 1 rfl rfl)
theorem dX0_character_2 : decode cX0_character 2 = .ok (.aload_n 0, 1) := dk_42 (dk_at dksX0_character_0 2 rfl rfl)
theorem dX0_character_3 : decode cX0_character 3 = .ok (.iload_n 1, 1) := dk_27 (dk_at dksX0_character_0 3 rfl rfl)
theorem dX0_character_4 : decode cX0_character 4 = .ok (.invokevirtual 94, 3) := dk_182 0 94 (dk_at dksX0_character_0 4 rfl rfl)
theorem dX0_character_7 : decode cX0_character 7 = .ok (.i2l, 1) := dk_133 (dk_at dksX0_character_0 7 rfl rfl)
theorem dX0_character_8 : decode cX0_character 8 = .ok (.lastore, 1) := dk_80 (dk_at dksX0_character_0 8 rfl rfl)
theorem dX0_character_9 : decode cX0_character 9 = .ok (.goto 6, 3) := dk_167 0 6 (dk_at dksX0_character_0 9 rfl rfl)
theorem dX0_character_12 : decode cX0_character 12 = .ok (.astore_n 3, 1) := dk_78 (dk_at dksX0_character_0 12 rfl rfl)
theorem dX0_character_13 : decode cX0_character 13 = .ok (.iconst 1, 1) := dk_4 (dk_at dksX0_character_0 13 rfl rfl)
theorem dX0_character_14 : decode cX0_character 14 = .ok (.ireturn, 1) := dk_172 (dk_at dksX0_character_0 14 rfl rfl)
theorem dX0_character_15 : decode cX0_character 15 = .ok (.iconst 0, 1) := dk_3 (dk_at dksX0_character_0 15 rfl rfl)
theorem dX0_character_16 : decode cX0_character 16 = .ok (.ireturn, 1) := dk_172 (dk_at dksX0_character_0 16 rfl rfl)
abbrev cX0_meanSize : ByteArray := method_28_code
def yX0_meanSize : MethodName := ⟨RX0, "meanSize", "(LCavePearls;[D)I"⟩
def dkwX0_meanSize_0 : List UInt8 := [43, 3, 42, 182, 0, 98, 82, 167, 0, 6, 77, 4, 172, 3, 172]
abbrev dktX0_meanSize_0 : List UInt8 := dkwX0_meanSize_0 ++ []
theorem dksX0_meanSize_0 : cX0_meanSize.data.toList.drop 0 = dktX0_meanSize_0 := by decide +kernel
theorem dX0_meanSize_0 : decode cX0_meanSize 0 = .ok (.aload_n 1, 1) := dk_43 (dk_at dksX0_meanSize_0 0 rfl rfl)
theorem dX0_meanSize_1 : decode cX0_meanSize 1 = .ok (.iconst 0, 1) := dk_3 (dk_at dksX0_meanSize_0 1 rfl rfl)
theorem dX0_meanSize_2 : decode cX0_meanSize 2 = .ok (.aload_n 0, 1) := dk_42 (dk_at dksX0_meanSize_0 2 rfl rfl)
theorem dX0_meanSize_3 : decode cX0_meanSize 3 = .ok (.invokevirtual 98, 3) := dk_182 0 98 (dk_at dksX0_meanSize_0 3 rfl rfl)
theorem dX0_meanSize_6 : decode cX0_meanSize 6 = .ok (.dastore, 1) := dk_82 (dk_at dksX0_meanSize_0 6 rfl rfl)
theorem dX0_meanSize_7 : decode cX0_meanSize 7 = .ok (.goto 6, 3) := dk_167 0 6 (dk_at dksX0_meanSize_0 7 rfl rfl)
theorem dX0_meanSize_10 : decode cX0_meanSize 10 = .ok (.astore_n 2, 1) := dk_77 (dk_at dksX0_meanSize_0 10 rfl rfl)
theorem dX0_meanSize_11 : decode cX0_meanSize 11 = .ok (.iconst 1, 1) := dk_4 (dk_at dksX0_meanSize_0 11 rfl rfl)
theorem dX0_meanSize_12 : decode cX0_meanSize 12 = .ok (.ireturn, 1) := dk_172 (dk_at dksX0_meanSize_0 12 rfl rfl)
theorem dX0_meanSize_13 : decode cX0_meanSize 13 = .ok (.iconst 0, 1) := dk_3 (dk_at dksX0_meanSize_0 13 rfl rfl)
theorem dX0_meanSize_14 : decode cX0_meanSize 14 = .ok (.ireturn, 1) := dk_172 (dk_at dksX0_meanSize_0 14 rfl rfl)
abbrev cX0_growthShare : ByteArray := method_29_code
def yX0_growthShare : MethodName := ⟨RX0, "growthShare", "(LCavePearls;[D)I"⟩
def dkwX0_growthShare_0 : List UInt8 := [43, 3, 42, 182, 0, 104, 141, 82, 167, 0, 6, 77, 4, 172, 3, 172]
abbrev dktX0_growthShare_0 : List UInt8 := dkwX0_growthShare_0 ++ []
theorem dksX0_growthShare_0 : cX0_growthShare.data.toList.drop 0 = dktX0_growthShare_0 := by decide +kernel
theorem dX0_growthShare_0 : decode cX0_growthShare 0 = .ok (.aload_n 1, 1) := dk_43 (dk_at dksX0_growthShare_0 0 rfl rfl)
theorem dX0_growthShare_1 : decode cX0_growthShare 1 = .ok (.iconst 0, 1) := dk_3 (dk_at dksX0_growthShare_0 1 rfl rfl)
theorem dX0_growthShare_2 : decode cX0_growthShare 2 = .ok (.aload_n 0, 1) := dk_42 (dk_at dksX0_growthShare_0 2 rfl rfl)
theorem dX0_growthShare_3 : decode cX0_growthShare 3 = .ok (.invokevirtual 104, 3) := dk_182 0 104 (dk_at dksX0_growthShare_0 3 rfl rfl)
theorem dX0_growthShare_6 : decode cX0_growthShare 6 = .ok (.f2d, 1) := dk_141 (dk_at dksX0_growthShare_0 6 rfl rfl)
theorem dX0_growthShare_7 : decode cX0_growthShare 7 = .ok (.dastore, 1) := dk_82 (dk_at dksX0_growthShare_0 7 rfl rfl)
theorem dX0_growthShare_8 : decode cX0_growthShare 8 = .ok (.goto 6, 3) := dk_167 0 6 (dk_at dksX0_growthShare_0 8 rfl rfl)
theorem dX0_growthShare_11 : decode cX0_growthShare 11 = .ok (.astore_n 2, 1) := dk_77 (dk_at dksX0_growthShare_0 11 rfl rfl)
theorem dX0_growthShare_12 : decode cX0_growthShare 12 = .ok (.iconst 1, 1) := dk_4 (dk_at dksX0_growthShare_0 12 rfl rfl)
theorem dX0_growthShare_13 : decode cX0_growthShare 13 = .ok (.ireturn, 1) := dk_172 (dk_at dksX0_growthShare_0 13 rfl rfl)
theorem dX0_growthShare_14 : decode cX0_growthShare 14 = .ok (.iconst 0, 1) := dk_3 (dk_at dksX0_growthShare_0 14 rfl rfl)
theorem dX0_growthShare_15 : decode cX0_growthShare 15 = .ok (.ireturn, 1) := dk_172 (dk_at dksX0_growthShare_0 15 rfl rfl)
abbrev cX0_reason : ByteArray := method_30_code
def yX0_reason : MethodName := ⟨RX0, "reason", "(LCavePearls;Z[J)I"⟩
def dkwX0_reason_0 : List UInt8 := [44, 3, 42, 27, 182, 0, 108, 133, 80, 167, 0, 6, 78, 4, 172, 3, 172]
abbrev dktX0_reason_0 : List UInt8 := dkwX0_reason_0 ++ []
theorem dksX0_reason_0 : cX0_reason.data.toList.drop 0 = dktX0_reason_0 := by decide +kernel
theorem dX0_reason_0 : decode cX0_reason 0 = .ok (.aload_n 2, 1) := dk_44 (dk_at dksX0_reason_0 0 rfl rfl)
theorem dX0_reason_1 : decode cX0_reason 1 = .ok (.iconst 0, 1) := dk_3 (dk_at dksX0_reason_0 1 rfl rfl)
theorem dX0_reason_2 : decode cX0_reason 2 = .ok (.aload_n 0, 1) := dk_42 (dk_at dksX0_reason_0 2 rfl rfl)
theorem dX0_reason_3 : decode cX0_reason 3 = .ok (.iload_n 1, 1) := dk_27 (dk_at dksX0_reason_0 3 rfl rfl)
theorem dX0_reason_4 : decode cX0_reason 4 = .ok (.invokevirtual 108, 3) := dk_182 0 108 (dk_at dksX0_reason_0 4 rfl rfl)
theorem dX0_reason_7 : decode cX0_reason 7 = .ok (.i2l, 1) := dk_133 (dk_at dksX0_reason_0 7 rfl rfl)
theorem dX0_reason_8 : decode cX0_reason 8 = .ok (.lastore, 1) := dk_80 (dk_at dksX0_reason_0 8 rfl rfl)
theorem dX0_reason_9 : decode cX0_reason 9 = .ok (.goto 6, 3) := dk_167 0 6 (dk_at dksX0_reason_0 9 rfl rfl)
theorem dX0_reason_12 : decode cX0_reason 12 = .ok (.astore_n 3, 1) := dk_78 (dk_at dksX0_reason_0 12 rfl rfl)
theorem dX0_reason_13 : decode cX0_reason 13 = .ok (.iconst 1, 1) := dk_4 (dk_at dksX0_reason_0 13 rfl rfl)
theorem dX0_reason_14 : decode cX0_reason 14 = .ok (.ireturn, 1) := dk_172 (dk_at dksX0_reason_0 14 rfl rfl)
theorem dX0_reason_15 : decode cX0_reason 15 = .ok (.iconst 0, 1) := dk_3 (dk_at dksX0_reason_0 15 rfl rfl)
theorem dX0_reason_16 : decode cX0_reason 16 = .ok (.ireturn, 1) := dk_172 (dk_at dksX0_reason_0 16 rfl rfl)
abbrev cX0_account : ByteArray := method_31_code
def yX0_account : MethodName := ⟨RX0, "account", "(LCavePearls;I[J)I"⟩
def dkwX0_account_0 : List UInt8 := [44, 3, 42, 27, 182, 0, 112, 133, 80, 167, 0, 6, 78, 4, 172, 3, 172]
abbrev dktX0_account_0 : List UInt8 := dkwX0_account_0 ++ []
theorem dksX0_account_0 : cX0_account.data.toList.drop 0 = dktX0_account_0 := by decide +kernel
theorem dX0_account_0 : decode cX0_account 0 = .ok (.aload_n 2, 1) := dk_44 (dk_at dksX0_account_0 0 rfl rfl)
theorem dX0_account_1 : decode cX0_account 1 = .ok (.iconst 0, 1) := dk_3 (dk_at dksX0_account_0 1 rfl rfl)
theorem dX0_account_2 : decode cX0_account 2 = .ok (.aload_n 0, 1) := dk_42 (dk_at dksX0_account_0 2 rfl rfl)
theorem dX0_account_3 : decode cX0_account 3 = .ok (.iload_n 1, 1) := dk_27 (dk_at dksX0_account_0 3 rfl rfl)
theorem dX0_account_4 : decode cX0_account 4 = .ok (.invokevirtual 112, 3) := dk_182 0 112 (dk_at dksX0_account_0 4 rfl rfl)
theorem dX0_account_7 : decode cX0_account 7 = .ok (.i2l, 1) := dk_133 (dk_at dksX0_account_0 7 rfl rfl)
theorem dX0_account_8 : decode cX0_account 8 = .ok (.lastore, 1) := dk_80 (dk_at dksX0_account_0 8 rfl rfl)
theorem dX0_account_9 : decode cX0_account 9 = .ok (.goto 6, 3) := dk_167 0 6 (dk_at dksX0_account_0 9 rfl rfl)
theorem dX0_account_12 : decode cX0_account 12 = .ok (.astore_n 3, 1) := dk_78 (dk_at dksX0_account_0 12 rfl rfl)
theorem dX0_account_13 : decode cX0_account 13 = .ok (.iconst 1, 1) := dk_4 (dk_at dksX0_account_0 13 rfl rfl)
theorem dX0_account_14 : decode cX0_account 14 = .ok (.ireturn, 1) := dk_172 (dk_at dksX0_account_0 14 rfl rfl)
theorem dX0_account_15 : decode cX0_account 15 = .ok (.iconst 0, 1) := dk_3 (dk_at dksX0_account_0 15 rfl rfl)
theorem dX0_account_16 : decode cX0_account 16 = .ok (.ireturn, 1) := dk_172 (dk_at dksX0_account_0 16 rfl rfl)
abbrev cX0_feed : ByteArray := method_32_code
def yX0_feed : MethodName := ⟨RX0, "feed", "(LCavePearls;C[J)I"⟩
def dkwX0_feed_0 : List UInt8 := [44, 3, 42, 27, 182, 0, 115, 133, 80, 167, 0, 6, 78, 4, 172, 3, 172]
abbrev dktX0_feed_0 : List UInt8 := dkwX0_feed_0 ++ []
theorem dksX0_feed_0 : cX0_feed.data.toList.drop 0 = dktX0_feed_0 := by decide +kernel
theorem dX0_feed_0 : decode cX0_feed 0 = .ok (.aload_n 2, 1) := dk_44 (dk_at dksX0_feed_0 0 rfl rfl)
theorem dX0_feed_1 : decode cX0_feed 1 = .ok (.iconst 0, 1) := dk_3 (dk_at dksX0_feed_0 1 rfl rfl)
theorem dX0_feed_2 : decode cX0_feed 2 = .ok (.aload_n 0, 1) := dk_42 (dk_at dksX0_feed_0 2 rfl rfl)
theorem dX0_feed_3 : decode cX0_feed 3 = .ok (.iload_n 1, 1) := dk_27 (dk_at dksX0_feed_0 3 rfl rfl)
theorem dX0_feed_4 : decode cX0_feed 4 = .ok (.invokevirtual 115, 3) := dk_182 0 115 (dk_at dksX0_feed_0 4 rfl rfl)
theorem dX0_feed_7 : decode cX0_feed 7 = .ok (.i2l, 1) := dk_133 (dk_at dksX0_feed_0 7 rfl rfl)
theorem dX0_feed_8 : decode cX0_feed 8 = .ok (.lastore, 1) := dk_80 (dk_at dksX0_feed_0 8 rfl rfl)
theorem dX0_feed_9 : decode cX0_feed 9 = .ok (.goto 6, 3) := dk_167 0 6 (dk_at dksX0_feed_0 9 rfl rfl)
theorem dX0_feed_12 : decode cX0_feed 12 = .ok (.astore_n 3, 1) := dk_78 (dk_at dksX0_feed_0 12 rfl rfl)
theorem dX0_feed_13 : decode cX0_feed 13 = .ok (.iconst 1, 1) := dk_4 (dk_at dksX0_feed_0 13 rfl rfl)
theorem dX0_feed_14 : decode cX0_feed 14 = .ok (.ireturn, 1) := dk_172 (dk_at dksX0_feed_0 14 rfl rfl)
theorem dX0_feed_15 : decode cX0_feed 15 = .ok (.iconst 0, 1) := dk_3 (dk_at dksX0_feed_0 15 rfl rfl)
theorem dX0_feed_16 : decode cX0_feed 16 = .ok (.ireturn, 1) := dk_172 (dk_at dksX0_feed_0 16 rfl rfl)
abbrev cX0_perform : ByteArray := method_33_code
def yX0_perform : MethodName := ⟨RX0, "perform", "(LCavePearls;[J)I"⟩
def dkwX0_perform_0 : List UInt8 := [43, 3, 42, 182, 0, 121, 133, 80, 167, 0, 6, 77, 4, 172, 3, 172]
abbrev dktX0_perform_0 : List UInt8 := dkwX0_perform_0 ++ []
theorem dksX0_perform_0 : cX0_perform.data.toList.drop 0 = dktX0_perform_0 := by decide +kernel
theorem dX0_perform_0 : decode cX0_perform 0 = .ok (.aload_n 1, 1) := dk_43 (dk_at dksX0_perform_0 0 rfl rfl)
theorem dX0_perform_1 : decode cX0_perform 1 = .ok (.iconst 0, 1) := dk_3 (dk_at dksX0_perform_0 1 rfl rfl)
theorem dX0_perform_2 : decode cX0_perform 2 = .ok (.aload_n 0, 1) := dk_42 (dk_at dksX0_perform_0 2 rfl rfl)
theorem dX0_perform_3 : decode cX0_perform 3 = .ok (.invokevirtual 121, 3) := dk_182 0 121 (dk_at dksX0_perform_0 3 rfl rfl)
theorem dX0_perform_6 : decode cX0_perform 6 = .ok (.i2l, 1) := dk_133 (dk_at dksX0_perform_0 6 rfl rfl)
theorem dX0_perform_7 : decode cX0_perform 7 = .ok (.lastore, 1) := dk_80 (dk_at dksX0_perform_0 7 rfl rfl)
theorem dX0_perform_8 : decode cX0_perform 8 = .ok (.goto 6, 3) := dk_167 0 6 (dk_at dksX0_perform_0 8 rfl rfl)
theorem dX0_perform_11 : decode cX0_perform 11 = .ok (.astore_n 2, 1) := dk_77 (dk_at dksX0_perform_0 11 rfl rfl)
theorem dX0_perform_12 : decode cX0_perform 12 = .ok (.iconst 1, 1) := dk_4 (dk_at dksX0_perform_0 12 rfl rfl)
theorem dX0_perform_13 : decode cX0_perform 13 = .ok (.ireturn, 1) := dk_172 (dk_at dksX0_perform_0 13 rfl rfl)
theorem dX0_perform_14 : decode cX0_perform 14 = .ok (.iconst 0, 1) := dk_3 (dk_at dksX0_perform_0 14 rfl rfl)
theorem dX0_perform_15 : decode cX0_perform 15 = .ok (.ireturn, 1) := dk_172 (dk_at dksX0_perform_0 15 rfl rfl)
abbrev cX0_undo : ByteArray := method_34_code
def yX0_undo : MethodName := ⟨RX0, "undo", "(LCavePearls;[J)I"⟩
def dkwX0_undo_0 : List UInt8 := [43, 3, 42, 182, 0, 124, 133, 80, 167, 0, 6, 77, 4, 172, 3, 172]
abbrev dktX0_undo_0 : List UInt8 := dkwX0_undo_0 ++ []
theorem dksX0_undo_0 : cX0_undo.data.toList.drop 0 = dktX0_undo_0 := by decide +kernel
theorem dX0_undo_0 : decode cX0_undo 0 = .ok (.aload_n 1, 1) := dk_43 (dk_at dksX0_undo_0 0 rfl rfl)
theorem dX0_undo_1 : decode cX0_undo 1 = .ok (.iconst 0, 1) := dk_3 (dk_at dksX0_undo_0 1 rfl rfl)
theorem dX0_undo_2 : decode cX0_undo 2 = .ok (.aload_n 0, 1) := dk_42 (dk_at dksX0_undo_0 2 rfl rfl)
theorem dX0_undo_3 : decode cX0_undo 3 = .ok (.invokevirtual 124, 3) := dk_182 0 124 (dk_at dksX0_undo_0 3 rfl rfl)
theorem dX0_undo_6 : decode cX0_undo 6 = .ok (.i2l, 1) := dk_133 (dk_at dksX0_undo_0 6 rfl rfl)
theorem dX0_undo_7 : decode cX0_undo 7 = .ok (.lastore, 1) := dk_80 (dk_at dksX0_undo_0 7 rfl rfl)
theorem dX0_undo_8 : decode cX0_undo 8 = .ok (.goto 6, 3) := dk_167 0 6 (dk_at dksX0_undo_0 8 rfl rfl)
theorem dX0_undo_11 : decode cX0_undo 11 = .ok (.astore_n 2, 1) := dk_77 (dk_at dksX0_undo_0 11 rfl rfl)
theorem dX0_undo_12 : decode cX0_undo 12 = .ok (.iconst 1, 1) := dk_4 (dk_at dksX0_undo_0 12 rfl rfl)
theorem dX0_undo_13 : decode cX0_undo 13 = .ok (.ireturn, 1) := dk_172 (dk_at dksX0_undo_0 13 rfl rfl)
theorem dX0_undo_14 : decode cX0_undo 14 = .ok (.iconst 0, 1) := dk_3 (dk_at dksX0_undo_0 14 rfl rfl)
theorem dX0_undo_15 : decode cX0_undo 15 = .ok (.ireturn, 1) := dk_172 (dk_at dksX0_undo_0 15 rfl rfl)
abbrev cX0_restore : ByteArray := method_35_code
def yX0_restore : MethodName := ⟨RX0, "restore", "(LCavePearls;[J)I"⟩
def dkwX0_restore_0 : List UInt8 := [43, 3, 42, 182, 0, 127, 133, 80, 167, 0, 6, 77, 4, 172, 3, 172]
abbrev dktX0_restore_0 : List UInt8 := dkwX0_restore_0 ++ []
theorem dksX0_restore_0 : cX0_restore.data.toList.drop 0 = dktX0_restore_0 := by decide +kernel
theorem dX0_restore_0 : decode cX0_restore 0 = .ok (.aload_n 1, 1) := dk_43 (dk_at dksX0_restore_0 0 rfl rfl)
theorem dX0_restore_1 : decode cX0_restore 1 = .ok (.iconst 0, 1) := dk_3 (dk_at dksX0_restore_0 1 rfl rfl)
theorem dX0_restore_2 : decode cX0_restore 2 = .ok (.aload_n 0, 1) := dk_42 (dk_at dksX0_restore_0 2 rfl rfl)
theorem dX0_restore_3 : decode cX0_restore 3 = .ok (.invokevirtual 127, 3) := dk_182 0 127 (dk_at dksX0_restore_0 3 rfl rfl)
theorem dX0_restore_6 : decode cX0_restore 6 = .ok (.i2l, 1) := dk_133 (dk_at dksX0_restore_0 6 rfl rfl)
theorem dX0_restore_7 : decode cX0_restore 7 = .ok (.lastore, 1) := dk_80 (dk_at dksX0_restore_0 7 rfl rfl)
theorem dX0_restore_8 : decode cX0_restore 8 = .ok (.goto 6, 3) := dk_167 0 6 (dk_at dksX0_restore_0 8 rfl rfl)
theorem dX0_restore_11 : decode cX0_restore 11 = .ok (.astore_n 2, 1) := dk_77 (dk_at dksX0_restore_0 11 rfl rfl)
theorem dX0_restore_12 : decode cX0_restore 12 = .ok (.iconst 1, 1) := dk_4 (dk_at dksX0_restore_0 12 rfl rfl)
theorem dX0_restore_13 : decode cX0_restore 13 = .ok (.ireturn, 1) := dk_172 (dk_at dksX0_restore_0 13 rfl rfl)
theorem dX0_restore_14 : decode cX0_restore 14 = .ok (.iconst 0, 1) := dk_3 (dk_at dksX0_restore_0 14 rfl rfl)
theorem dX0_restore_15 : decode cX0_restore 15 = .ok (.ireturn, 1) := dk_172 (dk_at dksX0_restore_0 15 rfl rfl)
theorem q106 : (Jvm.Cond.initialized "CavePearlsLaw") ∈ lw_all := lw_g (lw_at lw_m1 0 rfl) rfl
theorem q195 : (Jvm.Cond.classLink "CavePearlsLaw" (8 : Nat) "CavePearls") ∈ lw_all := lw_g (lw_at lw_m1 89 rfl) rfl
theorem q197 : (Jvm.Cond.methodLink "CavePearlsLaw" (130 : Nat) ({ cls := "CavePearls", name := "<init>", desc := "()V" } : Jvm.MethodName)) ∈ lw_all := lw_g (lw_at lw_m1 91 rfl) rfl
theorem q406 : (Jvm.Cond.methodLink "CavePearlsLaw" (219 : Nat) ({ cls := "CavePearls", name := "dripsAgain", desc := "()I" } : Jvm.MethodName)) ∈ lw_all := lw_g (lw_at lw_m2 60 rfl) rfl
theorem q1185 : (Jvm.Cond.methodLink "CavePearlsLaw" (223 : Nat) ({ cls := "CavePearls", name := "isBalanced", desc := "()Z" } : Jvm.MethodName)) ∈ lw_all := lw_g (lw_at lw_m5 119 rfl) rfl
theorem q1189 : (Jvm.Cond.methodLink "CavePearlsLaw" (252 : Nat) ({ cls := "CavePearls", name := "save", desc := "()I" } : Jvm.MethodName)) ∈ lw_all := lw_g (lw_at lw_m5 123 rfl) rfl
theorem q1463 : (Jvm.Cond.methodLink "CavePearlsLaw" (134 : Nat) ({ cls := "CavePearlsLaw", name := "addPool", desc := "(LCavePearls;I[J)I" } : Jvm.MethodName)) ∈ lw_all := lw_g (lw_at lw_m6 157 rfl) rfl
theorem q1464 : (Jvm.Cond.static ({ cls := "CavePearlsLaw", name := "addPool", desc := "(LCavePearls;I[J)I" } : Jvm.MethodName)) ∈ lw_all := lw_g (lw_at lw_m6 158 rfl) rfl
theorem q1465 : (Jvm.Cond.codeWith ({ cls := "CavePearlsLaw", name := "addPool", desc := "(LCavePearls;I[J)I" } : Jvm.MethodName) method_3_code (4 : Nat) (Option.some Jvm.ClassFile.FieldType.int) [((0 : Nat), (9 : Nat), (12 : Nat), (13 : Nat)), ((0 : Nat), (9 : Nat), (15 : Nat), (15 : Nat))]) ∈ lw_all := lw_g (lw_at lw_m6 159 rfl) rfl
theorem q1466 : (Jvm.Cond.classLink "CavePearlsLaw" (13 : Nat) "java/lang/IllegalArgumentException") ∈ lw_all := lw_g (lw_at lw_m6 160 rfl) rfl
theorem q1467 : (Jvm.Cond.classLink "CavePearlsLaw" (15 : Nat) "java/lang/UnsupportedOperationException") ∈ lw_all := lw_g (lw_at lw_m6 161 rfl) rfl
theorem q1468 : (Jvm.Cond.methodLink "CavePearlsLaw" (7 : Nat) ({ cls := "CavePearls", name := "addPool", desc := "(I)I" } : Jvm.MethodName)) ∈ lw_all := lw_g (lw_at lw_m6 162 rfl) rfl
theorem q2278 : (Jvm.Cond.methodLink "CavePearlsLaw" (143 : Nat) ({ cls := "CavePearlsLaw", name := "pool", desc := "(LCavePearls;II[J)I" } : Jvm.MethodName)) ∈ lw_all := lw_g (lw_at lw_m10 12 rfl) rfl
theorem q2279 : (Jvm.Cond.static ({ cls := "CavePearlsLaw", name := "pool", desc := "(LCavePearls;II[J)I" } : Jvm.MethodName)) ∈ lw_all := lw_g (lw_at lw_m10 13 rfl) rfl
theorem q2280 : (Jvm.Cond.codeWith ({ cls := "CavePearlsLaw", name := "pool", desc := "(LCavePearls;II[J)I" } : Jvm.MethodName) method_4_code (5 : Nat) (Option.some Jvm.ClassFile.FieldType.int) [((0 : Nat), (10 : Nat), (13 : Nat), (21 : Nat)), ((0 : Nat), (10 : Nat), (17 : Nat), (13 : Nat))]) ∈ lw_all := lw_g (lw_at lw_m10 14 rfl) rfl
theorem q2281 : (Jvm.Cond.classLink "CavePearlsLaw" (21 : Nat) "java/lang/IndexOutOfBoundsException") ∈ lw_all := lw_g (lw_at lw_m10 15 rfl) rfl
theorem q2282 : (Jvm.Cond.methodLink "CavePearlsLaw" (17 : Nat) ({ cls := "CavePearls", name := "pool", desc := "(II)I" } : Jvm.MethodName)) ∈ lw_all := lw_g (lw_at lw_m10 16 rfl) rfl
theorem q2293 : (Jvm.Cond.methodLink "CavePearlsLaw" (147 : Nat) ({ cls := "CavePearlsLaw", name := "addPearl", desc := "(LCavePearls;II[J)I" } : Jvm.MethodName)) ∈ lw_all := lw_g (lw_at lw_m10 27 rfl) rfl
theorem q2294 : (Jvm.Cond.static ({ cls := "CavePearlsLaw", name := "addPearl", desc := "(LCavePearls;II[J)I" } : Jvm.MethodName)) ∈ lw_all := lw_g (lw_at lw_m10 28 rfl) rfl
theorem q2295 : (Jvm.Cond.codeWith ({ cls := "CavePearlsLaw", name := "addPearl", desc := "(LCavePearls;II[J)I" } : Jvm.MethodName) method_5_code (5 : Nat) (Option.some Jvm.ClassFile.FieldType.int) [((0 : Nat), (10 : Nat), (13 : Nat), (21 : Nat)), ((0 : Nat), (10 : Nat), (17 : Nat), (13 : Nat)), ((0 : Nat), (10 : Nat), (21 : Nat), (15 : Nat))]) ∈ lw_all := lw_g (lw_at lw_m10 29 rfl) rfl
theorem q2296 : (Jvm.Cond.methodLink "CavePearlsLaw" (23 : Nat) ({ cls := "CavePearls", name := "addPearl", desc := "(II)I" } : Jvm.MethodName)) ∈ lw_all := lw_g (lw_at lw_m10 30 rfl) rfl
theorem q2316 : (Jvm.Cond.methodLink "CavePearlsLaw" (150 : Nat) ({ cls := "CavePearlsLaw", name := "takePearl", desc := "(LCavePearls;II[J)I" } : Jvm.MethodName)) ∈ lw_all := lw_g (lw_at lw_m10 50 rfl) rfl
theorem q2317 : (Jvm.Cond.static ({ cls := "CavePearlsLaw", name := "takePearl", desc := "(LCavePearls;II[J)I" } : Jvm.MethodName)) ∈ lw_all := lw_g (lw_at lw_m10 51 rfl) rfl
theorem q2318 : (Jvm.Cond.codeWith ({ cls := "CavePearlsLaw", name := "takePearl", desc := "(LCavePearls;II[J)I" } : Jvm.MethodName) method_6_code (5 : Nat) (Option.some Jvm.ClassFile.FieldType.int) [((0 : Nat), (10 : Nat), (13 : Nat), (21 : Nat)), ((0 : Nat), (10 : Nat), (17 : Nat), (29 : Nat))]) ∈ lw_all := lw_g (lw_at lw_m10 52 rfl) rfl
theorem q2319 : (Jvm.Cond.classLink "CavePearlsLaw" (29 : Nat) "java/util/NoSuchElementException") ∈ lw_all := lw_g (lw_at lw_m10 53 rfl) rfl
theorem q2320 : (Jvm.Cond.methodLink "CavePearlsLaw" (26 : Nat) ({ cls := "CavePearls", name := "takePearl", desc := "(II)I" } : Jvm.MethodName)) ∈ lw_all := lw_g (lw_at lw_m10 54 rfl) rfl
theorem q2340 : (Jvm.Cond.methodLink "CavePearlsLaw" (153 : Nat) ({ cls := "CavePearlsLaw", name := "pearl", desc := "(LCavePearls;II[J)I" } : Jvm.MethodName)) ∈ lw_all := lw_g (lw_at lw_m10 74 rfl) rfl
theorem q2341 : (Jvm.Cond.static ({ cls := "CavePearlsLaw", name := "pearl", desc := "(LCavePearls;II[J)I" } : Jvm.MethodName)) ∈ lw_all := lw_g (lw_at lw_m10 75 rfl) rfl
theorem q2342 : (Jvm.Cond.codeWith ({ cls := "CavePearlsLaw", name := "pearl", desc := "(LCavePearls;II[J)I" } : Jvm.MethodName) method_7_code (5 : Nat) (Option.some Jvm.ClassFile.FieldType.int) [((0 : Nat), (10 : Nat), (13 : Nat), (21 : Nat)), ((0 : Nat), (10 : Nat), (17 : Nat), (29 : Nat))]) ∈ lw_all := lw_g (lw_at lw_m10 76 rfl) rfl
theorem q2343 : (Jvm.Cond.methodLink "CavePearlsLaw" (31 : Nat) ({ cls := "CavePearls", name := "pearl", desc := "(II)I" } : Jvm.MethodName)) ∈ lw_all := lw_g (lw_at lw_m10 77 rfl) rfl
theorem q2348 : (Jvm.Cond.methodLink "CavePearlsLaw" (156 : Nat) ({ cls := "CavePearlsLaw", name := "ranked", desc := "(LCavePearls;I[J)I" } : Jvm.MethodName)) ∈ lw_all := lw_g (lw_at lw_m10 82 rfl) rfl
theorem q2349 : (Jvm.Cond.static ({ cls := "CavePearlsLaw", name := "ranked", desc := "(LCavePearls;I[J)I" } : Jvm.MethodName)) ∈ lw_all := lw_g (lw_at lw_m10 83 rfl) rfl
theorem q2350 : (Jvm.Cond.codeWith ({ cls := "CavePearlsLaw", name := "ranked", desc := "(LCavePearls;I[J)I" } : Jvm.MethodName) method_8_code (4 : Nat) (Option.some Jvm.ClassFile.FieldType.int) [((0 : Nat), (9 : Nat), (12 : Nat), (29 : Nat))]) ∈ lw_all := lw_g (lw_at lw_m10 84 rfl) rfl
theorem q2351 : (Jvm.Cond.methodLink "CavePearlsLaw" (34 : Nat) ({ cls := "CavePearls", name := "ranked", desc := "(I)I" } : Jvm.MethodName)) ∈ lw_all := lw_g (lw_at lw_m10 85 rfl) rfl
theorem q2628 : (Jvm.Cond.methodLink "CavePearlsLaw" (159 : Nat) ({ cls := "CavePearlsLaw", name := "addStone", desc := "(LCavePearls;II[J)I" } : Jvm.MethodName)) ∈ lw_all := lw_g (lw_at lw_m11 122 rfl) rfl
theorem q2629 : (Jvm.Cond.static ({ cls := "CavePearlsLaw", name := "addStone", desc := "(LCavePearls;II[J)I" } : Jvm.MethodName)) ∈ lw_all := lw_g (lw_at lw_m11 123 rfl) rfl
theorem q2630 : (Jvm.Cond.codeWith ({ cls := "CavePearlsLaw", name := "addStone", desc := "(LCavePearls;II[J)I" } : Jvm.MethodName) method_9_code (5 : Nat) (Option.some Jvm.ClassFile.FieldType.int) [((0 : Nat), (10 : Nat), (13 : Nat), (21 : Nat)), ((0 : Nat), (10 : Nat), (17 : Nat), (13 : Nat)), ((0 : Nat), (10 : Nat), (21 : Nat), (15 : Nat))]) ∈ lw_all := lw_g (lw_at lw_m11 124 rfl) rfl
theorem q2631 : (Jvm.Cond.methodLink "CavePearlsLaw" (37 : Nat) ({ cls := "CavePearls", name := "addStone", desc := "(II)I" } : Jvm.MethodName)) ∈ lw_all := lw_g (lw_at lw_m11 125 rfl) rfl
theorem q2651 : (Jvm.Cond.methodLink "CavePearlsLaw" (162 : Nat) ({ cls := "CavePearlsLaw", name := "stone", desc := "(LCavePearls;II[J)I" } : Jvm.MethodName)) ∈ lw_all := lw_g (lw_at lw_m11 145 rfl) rfl
theorem q2652 : (Jvm.Cond.static ({ cls := "CavePearlsLaw", name := "stone", desc := "(LCavePearls;II[J)I" } : Jvm.MethodName)) ∈ lw_all := lw_g (lw_at lw_m11 146 rfl) rfl
theorem q2653 : (Jvm.Cond.codeWith ({ cls := "CavePearlsLaw", name := "stone", desc := "(LCavePearls;II[J)I" } : Jvm.MethodName) method_10_code (5 : Nat) (Option.some Jvm.ClassFile.FieldType.int) [((0 : Nat), (10 : Nat), (13 : Nat), (21 : Nat)), ((0 : Nat), (10 : Nat), (17 : Nat), (13 : Nat))]) ∈ lw_all := lw_g (lw_at lw_m11 147 rfl) rfl
theorem q2654 : (Jvm.Cond.methodLink "CavePearlsLaw" (40 : Nat) ({ cls := "CavePearls", name := "stone", desc := "(II)I" } : Jvm.MethodName)) ∈ lw_all := lw_g (lw_at lw_m11 148 rfl) rfl
theorem q2659 : (Jvm.Cond.methodLink "CavePearlsLaw" (165 : Nat) ({ cls := "CavePearlsLaw", name := "nextStone", desc := "(LCavePearls;[J)I" } : Jvm.MethodName)) ∈ lw_all := lw_g (lw_at lw_m11 153 rfl) rfl
theorem q2660 : (Jvm.Cond.static ({ cls := "CavePearlsLaw", name := "nextStone", desc := "(LCavePearls;[J)I" } : Jvm.MethodName)) ∈ lw_all := lw_g (lw_at lw_m11 154 rfl) rfl
theorem q2661 : (Jvm.Cond.codeWith ({ cls := "CavePearlsLaw", name := "nextStone", desc := "(LCavePearls;[J)I" } : Jvm.MethodName) method_11_code (3 : Nat) (Option.some Jvm.ClassFile.FieldType.int) [((0 : Nat), (8 : Nat), (11 : Nat), (29 : Nat))]) ∈ lw_all := lw_g (lw_at lw_m11 155 rfl) rfl
theorem q2662 : (Jvm.Cond.methodLink "CavePearlsLaw" (43 : Nat) ({ cls := "CavePearls", name := "nextStone", desc := "()I" } : Jvm.MethodName)) ∈ lw_all := lw_g (lw_at lw_m11 156 rfl) rfl
theorem q2742 : (Jvm.Cond.methodLink "CavePearlsLaw" (169 : Nat) ({ cls := "CavePearlsLaw", name := "enter", desc := "(LCavePearls;II[J)I" } : Jvm.MethodName)) ∈ lw_all := lw_g (lw_at lw_m11 236 rfl) rfl
theorem q2743 : (Jvm.Cond.static ({ cls := "CavePearlsLaw", name := "enter", desc := "(LCavePearls;II[J)I" } : Jvm.MethodName)) ∈ lw_all := lw_g (lw_at lw_m11 237 rfl) rfl
theorem q2744 : (Jvm.Cond.codeWith ({ cls := "CavePearlsLaw", name := "enter", desc := "(LCavePearls;II[J)I" } : Jvm.MethodName) method_12_code (5 : Nat) (Option.some Jvm.ClassFile.FieldType.int) [((0 : Nat), (10 : Nat), (13 : Nat), (13 : Nat)), ((0 : Nat), (10 : Nat), (17 : Nat), (15 : Nat))]) ∈ lw_all := lw_g (lw_at lw_m11 238 rfl) rfl
theorem q2745 : (Jvm.Cond.methodLink "CavePearlsLaw" (47 : Nat) ({ cls := "CavePearls", name := "enter", desc := "(II)I" } : Jvm.MethodName)) ∈ lw_all := lw_g (lw_at lw_m11 239 rfl) rfl
theorem q2765 : (Jvm.Cond.methodLink "CavePearlsLaw" (172 : Nat) ({ cls := "CavePearlsLaw", name := "sendOut", desc := "(LCavePearls;I[J)I" } : Jvm.MethodName)) ∈ lw_all := lw_g (lw_at lw_m12 19 rfl) rfl
theorem q2766 : (Jvm.Cond.static ({ cls := "CavePearlsLaw", name := "sendOut", desc := "(LCavePearls;I[J)I" } : Jvm.MethodName)) ∈ lw_all := lw_g (lw_at lw_m12 20 rfl) rfl
theorem q2767 : (Jvm.Cond.codeWith ({ cls := "CavePearlsLaw", name := "sendOut", desc := "(LCavePearls;I[J)I" } : Jvm.MethodName) method_13_code (4 : Nat) (Option.some Jvm.ClassFile.FieldType.int) [((0 : Nat), (9 : Nat), (12 : Nat), (21 : Nat))]) ∈ lw_all := lw_g (lw_at lw_m12 21 rfl) rfl
theorem q2768 : (Jvm.Cond.methodLink "CavePearlsLaw" (50 : Nat) ({ cls := "CavePearls", name := "sendOut", desc := "(I)I" } : Jvm.MethodName)) ∈ lw_all := lw_g (lw_at lw_m12 22 rfl) rfl
theorem q2785 : (Jvm.Cond.methodLink "CavePearlsLaw" (175 : Nat) ({ cls := "CavePearlsLaw", name := "group", desc := "(LCavePearls;IZ[J)I" } : Jvm.MethodName)) ∈ lw_all := lw_g (lw_at lw_m12 39 rfl) rfl
theorem q2786 : (Jvm.Cond.static ({ cls := "CavePearlsLaw", name := "group", desc := "(LCavePearls;IZ[J)I" } : Jvm.MethodName)) ∈ lw_all := lw_g (lw_at lw_m12 40 rfl) rfl
theorem q2787 : (Jvm.Cond.codeWith ({ cls := "CavePearlsLaw", name := "group", desc := "(LCavePearls;IZ[J)I" } : Jvm.MethodName) method_14_code (5 : Nat) (Option.some Jvm.ClassFile.FieldType.int) [((0 : Nat), (10 : Nat), (13 : Nat), (21 : Nat))]) ∈ lw_all := lw_g (lw_at lw_m12 41 rfl) rfl
theorem q2788 : (Jvm.Cond.methodLink "CavePearlsLaw" (53 : Nat) ({ cls := "CavePearls", name := "group", desc := "(IZ)I" } : Jvm.MethodName)) ∈ lw_all := lw_g (lw_at lw_m12 42 rfl) rfl
theorem q2795 : (Jvm.Cond.methodLink "CavePearlsLaw" (179 : Nat) ({ cls := "CavePearlsLaw", name := "addLamp", desc := "(LCavePearls;I[J)I" } : Jvm.MethodName)) ∈ lw_all := lw_g (lw_at lw_m12 49 rfl) rfl
theorem q2796 : (Jvm.Cond.static ({ cls := "CavePearlsLaw", name := "addLamp", desc := "(LCavePearls;I[J)I" } : Jvm.MethodName)) ∈ lw_all := lw_g (lw_at lw_m12 50 rfl) rfl
theorem q2797 : (Jvm.Cond.codeWith ({ cls := "CavePearlsLaw", name := "addLamp", desc := "(LCavePearls;I[J)I" } : Jvm.MethodName) method_15_code (4 : Nat) (Option.some Jvm.ClassFile.FieldType.int) [((0 : Nat), (9 : Nat), (12 : Nat), (21 : Nat)), ((0 : Nat), (9 : Nat), (15 : Nat), (15 : Nat))]) ∈ lw_all := lw_g (lw_at lw_m12 51 rfl) rfl
theorem q2798 : (Jvm.Cond.methodLink "CavePearlsLaw" (57 : Nat) ({ cls := "CavePearls", name := "addLamp", desc := "(I)I" } : Jvm.MethodName)) ∈ lw_all := lw_g (lw_at lw_m12 52 rfl) rfl
theorem q2815 : (Jvm.Cond.methodLink "CavePearlsLaw" (182 : Nat) ({ cls := "CavePearlsLaw", name := "switchOn", desc := "(LCavePearls;II[J)I" } : Jvm.MethodName)) ∈ lw_all := lw_g (lw_at lw_m12 69 rfl) rfl
theorem q2816 : (Jvm.Cond.static ({ cls := "CavePearlsLaw", name := "switchOn", desc := "(LCavePearls;II[J)I" } : Jvm.MethodName)) ∈ lw_all := lw_g (lw_at lw_m12 70 rfl) rfl
theorem q2817 : (Jvm.Cond.codeWith ({ cls := "CavePearlsLaw", name := "switchOn", desc := "(LCavePearls;II[J)I" } : Jvm.MethodName) method_16_code (5 : Nat) (Option.some Jvm.ClassFile.FieldType.int) [((0 : Nat), (10 : Nat), (13 : Nat), (21 : Nat)), ((0 : Nat), (10 : Nat), (17 : Nat), (13 : Nat)), ((0 : Nat), (10 : Nat), (21 : Nat), (15 : Nat))]) ∈ lw_all := lw_g (lw_at lw_m12 71 rfl) rfl
theorem q2818 : (Jvm.Cond.methodLink "CavePearlsLaw" (60 : Nat) ({ cls := "CavePearls", name := "switchOn", desc := "(II)I" } : Jvm.MethodName)) ∈ lw_all := lw_g (lw_at lw_m12 72 rfl) rfl
theorem q2838 : (Jvm.Cond.methodLink "CavePearlsLaw" (185 : Nat) ({ cls := "CavePearlsLaw", name := "switchOff", desc := "(LCavePearls;I[J)I" } : Jvm.MethodName)) ∈ lw_all := lw_g (lw_at lw_m12 92 rfl) rfl
theorem q2839 : (Jvm.Cond.static ({ cls := "CavePearlsLaw", name := "switchOff", desc := "(LCavePearls;I[J)I" } : Jvm.MethodName)) ∈ lw_all := lw_g (lw_at lw_m12 93 rfl) rfl
theorem q2840 : (Jvm.Cond.codeWith ({ cls := "CavePearlsLaw", name := "switchOff", desc := "(LCavePearls;I[J)I" } : Jvm.MethodName) method_17_code (4 : Nat) (Option.some Jvm.ClassFile.FieldType.int) [((0 : Nat), (9 : Nat), (12 : Nat), (21 : Nat)), ((0 : Nat), (9 : Nat), (15 : Nat), (15 : Nat))]) ∈ lw_all := lw_g (lw_at lw_m12 94 rfl) rfl
theorem q2841 : (Jvm.Cond.methodLink "CavePearlsLaw" (63 : Nat) ({ cls := "CavePearls", name := "switchOff", desc := "(I)I" } : Jvm.MethodName)) ∈ lw_all := lw_g (lw_at lw_m12 95 rfl) rfl
theorem q2858 : (Jvm.Cond.methodLink "CavePearlsLaw" (188 : Nat) ({ cls := "CavePearlsLaw", name := "lamp", desc := "(LCavePearls;IZ[J)I" } : Jvm.MethodName)) ∈ lw_all := lw_g (lw_at lw_m12 112 rfl) rfl
theorem q2859 : (Jvm.Cond.static ({ cls := "CavePearlsLaw", name := "lamp", desc := "(LCavePearls;IZ[J)I" } : Jvm.MethodName)) ∈ lw_all := lw_g (lw_at lw_m12 113 rfl) rfl
theorem q2860 : (Jvm.Cond.codeWith ({ cls := "CavePearlsLaw", name := "lamp", desc := "(LCavePearls;IZ[J)I" } : Jvm.MethodName) method_18_code (5 : Nat) (Option.some Jvm.ClassFile.FieldType.int) [((0 : Nat), (10 : Nat), (13 : Nat), (21 : Nat))]) ∈ lw_all := lw_g (lw_at lw_m12 114 rfl) rfl
theorem q2861 : (Jvm.Cond.methodLink "CavePearlsLaw" (66 : Nat) ({ cls := "CavePearls", name := "lamp", desc := "(IZ)I" } : Jvm.MethodName)) ∈ lw_all := lw_g (lw_at lw_m12 115 rfl) rfl
theorem q2866 : (Jvm.Cond.methodLink "CavePearlsLaw" (191 : Nat) ({ cls := "CavePearlsLaw", name := "setDraught", desc := "(LCavePearls;I[J)I" } : Jvm.MethodName)) ∈ lw_all := lw_g (lw_at lw_m12 120 rfl) rfl
theorem q2867 : (Jvm.Cond.static ({ cls := "CavePearlsLaw", name := "setDraught", desc := "(LCavePearls;I[J)I" } : Jvm.MethodName)) ∈ lw_all := lw_g (lw_at lw_m12 121 rfl) rfl
theorem q2868 : (Jvm.Cond.codeWith ({ cls := "CavePearlsLaw", name := "setDraught", desc := "(LCavePearls;I[J)I" } : Jvm.MethodName) method_19_code (4 : Nat) (Option.some Jvm.ClassFile.FieldType.int) [((0 : Nat), (9 : Nat), (12 : Nat), (13 : Nat))]) ∈ lw_all := lw_g (lw_at lw_m12 122 rfl) rfl
theorem q2869 : (Jvm.Cond.methodLink "CavePearlsLaw" (69 : Nat) ({ cls := "CavePearls", name := "setDraught", desc := "(I)I" } : Jvm.MethodName)) ∈ lw_all := lw_g (lw_at lw_m12 123 rfl) rfl
theorem q2886 : (Jvm.Cond.methodLink "CavePearlsLaw" (194 : Nat) ({ cls := "CavePearlsLaw", name := "sweep", desc := "(LCavePearls;[J)I" } : Jvm.MethodName)) ∈ lw_all := lw_g (lw_at lw_m12 140 rfl) rfl
theorem q2887 : (Jvm.Cond.static ({ cls := "CavePearlsLaw", name := "sweep", desc := "(LCavePearls;[J)I" } : Jvm.MethodName)) ∈ lw_all := lw_g (lw_at lw_m12 141 rfl) rfl
theorem q2888 : (Jvm.Cond.codeWith ({ cls := "CavePearlsLaw", name := "sweep", desc := "(LCavePearls;[J)I" } : Jvm.MethodName) method_20_code (3 : Nat) (Option.some Jvm.ClassFile.FieldType.int) [((0 : Nat), (8 : Nat), (11 : Nat), (15 : Nat))]) ∈ lw_all := lw_g (lw_at lw_m12 142 rfl) rfl
theorem q2889 : (Jvm.Cond.methodLink "CavePearlsLaw" (72 : Nat) ({ cls := "CavePearls", name := "sweep", desc := "()I" } : Jvm.MethodName)) ∈ lw_all := lw_g (lw_at lw_m12 143 rfl) rfl
theorem q2903 : (Jvm.Cond.methodLink "CavePearlsLaw" (197 : Nat) ({ cls := "CavePearlsLaw", name := "pass", desc := "(LCavePearls;I[J)I" } : Jvm.MethodName)) ∈ lw_all := lw_g (lw_at lw_m12 157 rfl) rfl
theorem q2904 : (Jvm.Cond.static ({ cls := "CavePearlsLaw", name := "pass", desc := "(LCavePearls;I[J)I" } : Jvm.MethodName)) ∈ lw_all := lw_g (lw_at lw_m12 158 rfl) rfl
theorem q2905 : (Jvm.Cond.codeWith ({ cls := "CavePearlsLaw", name := "pass", desc := "(LCavePearls;I[J)I" } : Jvm.MethodName) method_21_code (4 : Nat) (Option.some Jvm.ClassFile.FieldType.int) [((0 : Nat), (9 : Nat), (12 : Nat), (13 : Nat))]) ∈ lw_all := lw_g (lw_at lw_m12 159 rfl) rfl
theorem q2906 : (Jvm.Cond.methodLink "CavePearlsLaw" (75 : Nat) ({ cls := "CavePearls", name := "pass", desc := "(I)I" } : Jvm.MethodName)) ∈ lw_all := lw_g (lw_at lw_m12 160 rfl) rfl
theorem q2923 : (Jvm.Cond.methodLink "CavePearlsLaw" (200 : Nat) ({ cls := "CavePearlsLaw", name := "fullIn", desc := "(LCavePearls;I[J)I" } : Jvm.MethodName)) ∈ lw_all := lw_g (lw_at lw_m12 177 rfl) rfl
theorem q2924 : (Jvm.Cond.static ({ cls := "CavePearlsLaw", name := "fullIn", desc := "(LCavePearls;I[J)I" } : Jvm.MethodName)) ∈ lw_all := lw_g (lw_at lw_m12 178 rfl) rfl
theorem q2925 : (Jvm.Cond.codeWith ({ cls := "CavePearlsLaw", name := "fullIn", desc := "(LCavePearls;I[J)I" } : Jvm.MethodName) method_22_code (4 : Nat) (Option.some Jvm.ClassFile.FieldType.int) [((0 : Nat), (9 : Nat), (12 : Nat), (21 : Nat)), ((0 : Nat), (9 : Nat), (15 : Nat), (29 : Nat))]) ∈ lw_all := lw_g (lw_at lw_m12 179 rfl) rfl
theorem q2926 : (Jvm.Cond.methodLink "CavePearlsLaw" (78 : Nat) ({ cls := "CavePearls", name := "fullIn", desc := "(I)I" } : Jvm.MethodName)) ∈ lw_all := lw_g (lw_at lw_m12 180 rfl) rfl
theorem q2966 : (Jvm.Cond.methodLink "CavePearlsLaw" (203 : Nat) ({ cls := "CavePearlsLaw", name := "sizeIn", desc := "(LCavePearls;III[J)I" } : Jvm.MethodName)) ∈ lw_all := lw_g (lw_at lw_m12 220 rfl) rfl
theorem q2967 : (Jvm.Cond.static ({ cls := "CavePearlsLaw", name := "sizeIn", desc := "(LCavePearls;III[J)I" } : Jvm.MethodName)) ∈ lw_all := lw_g (lw_at lw_m12 221 rfl) rfl
theorem q2968 : (Jvm.Cond.codeWith ({ cls := "CavePearlsLaw", name := "sizeIn", desc := "(LCavePearls;III[J)I" } : Jvm.MethodName) method_23_code (6 : Nat) (Option.some Jvm.ClassFile.FieldType.int) [((0 : Nat), (12 : Nat), (15 : Nat), (21 : Nat)), ((0 : Nat), (12 : Nat), (19 : Nat), (29 : Nat)), ((0 : Nat), (12 : Nat), (23 : Nat), (13 : Nat))]) ∈ lw_all := lw_g (lw_at lw_m12 222 rfl) rfl
theorem q2969 : (Jvm.Cond.methodLink "CavePearlsLaw" (81 : Nat) ({ cls := "CavePearls", name := "sizeIn", desc := "(III)I" } : Jvm.MethodName)) ∈ lw_all := lw_g (lw_at lw_m12 223 rfl) rfl
theorem q2974 : (Jvm.Cond.methodLink "CavePearlsLaw" (207 : Nat) ({ cls := "CavePearlsLaw", name := "clearIn", desc := "(LCavePearls;I[J)I" } : Jvm.MethodName)) ∈ lw_all := lw_g (lw_at lw_m12 228 rfl) rfl
theorem q2975 : (Jvm.Cond.static ({ cls := "CavePearlsLaw", name := "clearIn", desc := "(LCavePearls;I[J)I" } : Jvm.MethodName)) ∈ lw_all := lw_g (lw_at lw_m12 229 rfl) rfl
theorem q2976 : (Jvm.Cond.codeWith ({ cls := "CavePearlsLaw", name := "clearIn", desc := "(LCavePearls;I[J)I" } : Jvm.MethodName) method_24_code (4 : Nat) (Option.some Jvm.ClassFile.FieldType.int) [((0 : Nat), (9 : Nat), (12 : Nat), (13 : Nat)), ((0 : Nat), (9 : Nat), (15 : Nat), (29 : Nat))]) ∈ lw_all := lw_g (lw_at lw_m12 230 rfl) rfl
theorem q2977 : (Jvm.Cond.methodLink "CavePearlsLaw" (85 : Nat) ({ cls := "CavePearls", name := "clearIn", desc := "(I)I" } : Jvm.MethodName)) ∈ lw_all := lw_g (lw_at lw_m12 231 rfl) rfl
theorem q2998 : (Jvm.Cond.methodLink "CavePearlsLaw" (210 : Nat) ({ cls := "CavePearlsLaw", name := "leastDraught", desc := "(LCavePearls;[J)I" } : Jvm.MethodName)) ∈ lw_all := lw_g (lw_at lw_m13 12 rfl) rfl
theorem q2999 : (Jvm.Cond.static ({ cls := "CavePearlsLaw", name := "leastDraught", desc := "(LCavePearls;[J)I" } : Jvm.MethodName)) ∈ lw_all := lw_g (lw_at lw_m13 13 rfl) rfl
theorem q3000 : (Jvm.Cond.codeWith ({ cls := "CavePearlsLaw", name := "leastDraught", desc := "(LCavePearls;[J)I" } : Jvm.MethodName) method_25_code (3 : Nat) (Option.some Jvm.ClassFile.FieldType.int) [((0 : Nat), (8 : Nat), (11 : Nat), (29 : Nat))]) ∈ lw_all := lw_g (lw_at lw_m13 14 rfl) rfl
theorem q3001 : (Jvm.Cond.methodLink "CavePearlsLaw" (88 : Nat) ({ cls := "CavePearls", name := "leastDraught", desc := "()I" } : Jvm.MethodName)) ∈ lw_all := lw_g (lw_at lw_m13 15 rfl) rfl
theorem q3009 : (Jvm.Cond.methodLink "CavePearlsLaw" (213 : Nat) ({ cls := "CavePearlsLaw", name := "line", desc := "(LCavePearls;I[J)I" } : Jvm.MethodName)) ∈ lw_all := lw_g (lw_at lw_m13 23 rfl) rfl
theorem q3010 : (Jvm.Cond.static ({ cls := "CavePearlsLaw", name := "line", desc := "(LCavePearls;I[J)I" } : Jvm.MethodName)) ∈ lw_all := lw_g (lw_at lw_m13 24 rfl) rfl
theorem q3011 : (Jvm.Cond.codeWith ({ cls := "CavePearlsLaw", name := "line", desc := "(LCavePearls;I[J)I" } : Jvm.MethodName) method_26_code (4 : Nat) (Option.some Jvm.ClassFile.FieldType.int) [((0 : Nat), (9 : Nat), (12 : Nat), (21 : Nat))]) ∈ lw_all := lw_g (lw_at lw_m13 25 rfl) rfl
theorem q3012 : (Jvm.Cond.methodLink "CavePearlsLaw" (91 : Nat) ({ cls := "CavePearls", name := "line", desc := "(I)I" } : Jvm.MethodName)) ∈ lw_all := lw_g (lw_at lw_m13 26 rfl) rfl
theorem q3092 : (Jvm.Cond.methodLink "CavePearlsLaw" (216 : Nat) ({ cls := "CavePearlsLaw", name := "character", desc := "(LCavePearls;I[J)I" } : Jvm.MethodName)) ∈ lw_all := lw_g (lw_at lw_m13 106 rfl) rfl
theorem q3093 : (Jvm.Cond.static ({ cls := "CavePearlsLaw", name := "character", desc := "(LCavePearls;I[J)I" } : Jvm.MethodName)) ∈ lw_all := lw_g (lw_at lw_m13 107 rfl) rfl
theorem q3094 : (Jvm.Cond.codeWith ({ cls := "CavePearlsLaw", name := "character", desc := "(LCavePearls;I[J)I" } : Jvm.MethodName) method_27_code (4 : Nat) (Option.some Jvm.ClassFile.FieldType.int) [((0 : Nat), (9 : Nat), (12 : Nat), (21 : Nat))]) ∈ lw_all := lw_g (lw_at lw_m13 108 rfl) rfl
theorem q3095 : (Jvm.Cond.methodLink "CavePearlsLaw" (94 : Nat) ({ cls := "CavePearls", name := "character", desc := "(I)C" } : Jvm.MethodName)) ∈ lw_all := lw_g (lw_at lw_m13 109 rfl) rfl
theorem q3109 : (Jvm.Cond.methodLink "CavePearlsLaw" (228 : Nat) ({ cls := "CavePearlsLaw", name := "meanSize", desc := "(LCavePearls;[D)I" } : Jvm.MethodName)) ∈ lw_all := lw_g (lw_at lw_m13 123 rfl) rfl
theorem q3110 : (Jvm.Cond.static ({ cls := "CavePearlsLaw", name := "meanSize", desc := "(LCavePearls;[D)I" } : Jvm.MethodName)) ∈ lw_all := lw_g (lw_at lw_m13 124 rfl) rfl
theorem q3111 : (Jvm.Cond.codeWith ({ cls := "CavePearlsLaw", name := "meanSize", desc := "(LCavePearls;[D)I" } : Jvm.MethodName) method_28_code (3 : Nat) (Option.some Jvm.ClassFile.FieldType.int) [((0 : Nat), (7 : Nat), (10 : Nat), (102 : Nat))]) ∈ lw_all := lw_g (lw_at lw_m13 125 rfl) rfl
theorem q3112 : (Jvm.Cond.classLink "CavePearlsLaw" (102 : Nat) "java/lang/ArithmeticException") ∈ lw_all := lw_g (lw_at lw_m13 126 rfl) rfl
theorem q3126 : (Jvm.Cond.methodLink "CavePearlsLaw" (98 : Nat) ({ cls := "CavePearls", name := "meanSize", desc := "()D" } : Jvm.MethodName)) ∈ lw_all := lw_g (lw_at lw_m13 140 rfl) rfl
theorem q3135 : (Jvm.Cond.methodLink "CavePearlsLaw" (232 : Nat) ({ cls := "CavePearlsLaw", name := "growthShare", desc := "(LCavePearls;[D)I" } : Jvm.MethodName)) ∈ lw_all := lw_g (lw_at lw_m13 149 rfl) rfl
theorem q3136 : (Jvm.Cond.static ({ cls := "CavePearlsLaw", name := "growthShare", desc := "(LCavePearls;[D)I" } : Jvm.MethodName)) ∈ lw_all := lw_g (lw_at lw_m13 150 rfl) rfl
theorem q3137 : (Jvm.Cond.codeWith ({ cls := "CavePearlsLaw", name := "growthShare", desc := "(LCavePearls;[D)I" } : Jvm.MethodName) method_29_code (3 : Nat) (Option.some Jvm.ClassFile.FieldType.int) [((0 : Nat), (8 : Nat), (11 : Nat), (102 : Nat))]) ∈ lw_all := lw_g (lw_at lw_m13 151 rfl) rfl
theorem q3138 : (Jvm.Cond.methodLink "CavePearlsLaw" (104 : Nat) ({ cls := "CavePearls", name := "growthShare", desc := "()F" } : Jvm.MethodName)) ∈ lw_all := lw_g (lw_at lw_m13 152 rfl) rfl
theorem q3142 : (Jvm.Cond.methodLink "CavePearlsLaw" (235 : Nat) ({ cls := "CavePearlsLaw", name := "reason", desc := "(LCavePearls;Z[J)I" } : Jvm.MethodName)) ∈ lw_all := lw_g (lw_at lw_m13 156 rfl) rfl
theorem q3143 : (Jvm.Cond.static ({ cls := "CavePearlsLaw", name := "reason", desc := "(LCavePearls;Z[J)I" } : Jvm.MethodName)) ∈ lw_all := lw_g (lw_at lw_m13 157 rfl) rfl
theorem q3144 : (Jvm.Cond.codeWith ({ cls := "CavePearlsLaw", name := "reason", desc := "(LCavePearls;Z[J)I" } : Jvm.MethodName) method_30_code (4 : Nat) (Option.some Jvm.ClassFile.FieldType.int) [((0 : Nat), (9 : Nat), (12 : Nat), (29 : Nat))]) ∈ lw_all := lw_g (lw_at lw_m13 158 rfl) rfl
theorem q3145 : (Jvm.Cond.methodLink "CavePearlsLaw" (108 : Nat) ({ cls := "CavePearls", name := "reason", desc := "(Z)I" } : Jvm.MethodName)) ∈ lw_all := lw_g (lw_at lw_m13 159 rfl) rfl
theorem q3149 : (Jvm.Cond.methodLink "CavePearlsLaw" (239 : Nat) ({ cls := "CavePearlsLaw", name := "account", desc := "(LCavePearls;I[J)I" } : Jvm.MethodName)) ∈ lw_all := lw_g (lw_at lw_m13 163 rfl) rfl
theorem q3150 : (Jvm.Cond.static ({ cls := "CavePearlsLaw", name := "account", desc := "(LCavePearls;I[J)I" } : Jvm.MethodName)) ∈ lw_all := lw_g (lw_at lw_m13 164 rfl) rfl
theorem q3151 : (Jvm.Cond.codeWith ({ cls := "CavePearlsLaw", name := "account", desc := "(LCavePearls;I[J)I" } : Jvm.MethodName) method_31_code (4 : Nat) (Option.some Jvm.ClassFile.FieldType.int) [((0 : Nat), (9 : Nat), (12 : Nat), (13 : Nat))]) ∈ lw_all := lw_g (lw_at lw_m13 165 rfl) rfl
theorem q3152 : (Jvm.Cond.methodLink "CavePearlsLaw" (112 : Nat) ({ cls := "CavePearls", name := "account", desc := "(I)I" } : Jvm.MethodName)) ∈ lw_all := lw_g (lw_at lw_m13 166 rfl) rfl
theorem q3157 : (Jvm.Cond.methodLink "CavePearlsLaw" (242 : Nat) ({ cls := "CavePearlsLaw", name := "feed", desc := "(LCavePearls;C[J)I" } : Jvm.MethodName)) ∈ lw_all := lw_g (lw_at lw_m13 171 rfl) rfl
theorem q3158 : (Jvm.Cond.static ({ cls := "CavePearlsLaw", name := "feed", desc := "(LCavePearls;C[J)I" } : Jvm.MethodName)) ∈ lw_all := lw_g (lw_at lw_m13 172 rfl) rfl
theorem q3159 : (Jvm.Cond.codeWith ({ cls := "CavePearlsLaw", name := "feed", desc := "(LCavePearls;C[J)I" } : Jvm.MethodName) method_32_code (4 : Nat) (Option.some Jvm.ClassFile.FieldType.int) [((0 : Nat), (9 : Nat), (12 : Nat), (119 : Nat))]) ∈ lw_all := lw_g (lw_at lw_m13 173 rfl) rfl
theorem q3160 : (Jvm.Cond.classLink "CavePearlsLaw" (119 : Nat) "java/lang/IllegalStateException") ∈ lw_all := lw_g (lw_at lw_m13 174 rfl) rfl
theorem q3161 : (Jvm.Cond.methodLink "CavePearlsLaw" (115 : Nat) ({ cls := "CavePearls", name := "feed", desc := "(C)I" } : Jvm.MethodName)) ∈ lw_all := lw_g (lw_at lw_m13 175 rfl) rfl
theorem q3170 : (Jvm.Cond.methodLink "CavePearlsLaw" (246 : Nat) ({ cls := "CavePearlsLaw", name := "perform", desc := "(LCavePearls;[J)I" } : Jvm.MethodName)) ∈ lw_all := lw_g (lw_at lw_m13 184 rfl) rfl
theorem q3171 : (Jvm.Cond.static ({ cls := "CavePearlsLaw", name := "perform", desc := "(LCavePearls;[J)I" } : Jvm.MethodName)) ∈ lw_all := lw_g (lw_at lw_m13 185 rfl) rfl
theorem q3172 : (Jvm.Cond.codeWith ({ cls := "CavePearlsLaw", name := "perform", desc := "(LCavePearls;[J)I" } : Jvm.MethodName) method_33_code (3 : Nat) (Option.some Jvm.ClassFile.FieldType.int) [((0 : Nat), (8 : Nat), (11 : Nat), (15 : Nat))]) ∈ lw_all := lw_g (lw_at lw_m13 186 rfl) rfl
theorem q3173 : (Jvm.Cond.methodLink "CavePearlsLaw" (121 : Nat) ({ cls := "CavePearls", name := "perform", desc := "()I" } : Jvm.MethodName)) ∈ lw_all := lw_g (lw_at lw_m13 187 rfl) rfl
theorem q3470 : (Jvm.Cond.methodLink "CavePearlsLaw" (249 : Nat) ({ cls := "CavePearlsLaw", name := "undo", desc := "(LCavePearls;[J)I" } : Jvm.MethodName)) ∈ lw_all := lw_g (lw_at lw_m15 4 rfl) rfl
theorem q3471 : (Jvm.Cond.static ({ cls := "CavePearlsLaw", name := "undo", desc := "(LCavePearls;[J)I" } : Jvm.MethodName)) ∈ lw_all := lw_g (lw_at lw_m15 5 rfl) rfl
theorem q3472 : (Jvm.Cond.codeWith ({ cls := "CavePearlsLaw", name := "undo", desc := "(LCavePearls;[J)I" } : Jvm.MethodName) method_34_code (3 : Nat) (Option.some Jvm.ClassFile.FieldType.int) [((0 : Nat), (8 : Nat), (11 : Nat), (119 : Nat))]) ∈ lw_all := lw_g (lw_at lw_m15 6 rfl) rfl
theorem q3473 : (Jvm.Cond.methodLink "CavePearlsLaw" (124 : Nat) ({ cls := "CavePearls", name := "undo", desc := "()I" } : Jvm.MethodName)) ∈ lw_all := lw_g (lw_at lw_m15 7 rfl) rfl
theorem q3486 : (Jvm.Cond.methodLink "CavePearlsLaw" (256 : Nat) ({ cls := "CavePearlsLaw", name := "restore", desc := "(LCavePearls;[J)I" } : Jvm.MethodName)) ∈ lw_all := lw_g (lw_at lw_m15 20 rfl) rfl
theorem q3487 : (Jvm.Cond.static ({ cls := "CavePearlsLaw", name := "restore", desc := "(LCavePearls;[J)I" } : Jvm.MethodName)) ∈ lw_all := lw_g (lw_at lw_m15 21 rfl) rfl
theorem q3488 : (Jvm.Cond.codeWith ({ cls := "CavePearlsLaw", name := "restore", desc := "(LCavePearls;[J)I" } : Jvm.MethodName) method_35_code (3 : Nat) (Option.some Jvm.ClassFile.FieldType.int) [((0 : Nat), (8 : Nat), (11 : Nat), (119 : Nat))]) ∈ lw_all := lw_g (lw_at lw_m15 22 rfl) rfl
theorem q3489 : (Jvm.Cond.methodLink "CavePearlsLaw" (127 : Nat) ({ cls := "CavePearls", name := "restore", desc := "()I" } : Jvm.MethodName)) ∈ lw_all := lw_g (lw_at lw_m15 23 rfl) rfl
theorem q3500 : (Jvm.Cond.classLink "CavePearlsLaw" (131 : Nat) "CavePearlsModel") ∈ lw_all := lw_g (lw_at lw_m15 34 rfl) rfl
theorem q3502 : (Jvm.Cond.methodLink "CavePearlsLaw" (133 : Nat) ({ cls := "CavePearlsModel", name := "<init>", desc := "()V" } : Jvm.MethodName)) ∈ lw_all := lw_g (lw_at lw_m15 36 rfl) rfl
theorem q3567 : (Jvm.Cond.methodLink "CavePearlsLaw" (140 : Nat) ({ cls := "CavePearlsModel", name := "thrown", desc := "()I" } : Jvm.MethodName)) ∈ lw_all := lw_g (lw_at lw_m15 101 rfl) rfl
theorem q3571 : (Jvm.Cond.methodLink "CavePearlsLaw" (139 : Nat) ({ cls := "CavePearlsModel", name := "addPool", desc := "(I)I" } : Jvm.MethodName)) ∈ lw_all := lw_g (lw_at lw_m15 105 rfl) rfl
theorem q3598 : (Jvm.Cond.methodLink "CavePearlsLaw" (146 : Nat) ({ cls := "CavePearlsModel", name := "pool", desc := "(II)I" } : Jvm.MethodName)) ∈ lw_all := lw_g (lw_at lw_m15 132 rfl) rfl
theorem q3618 : (Jvm.Cond.methodLink "CavePearlsLaw" (149 : Nat) ({ cls := "CavePearlsModel", name := "addPearl", desc := "(II)I" } : Jvm.MethodName)) ∈ lw_all := lw_g (lw_at lw_m15 152 rfl) rfl
theorem q3626 : (Jvm.Cond.methodLink "CavePearlsLaw" (152 : Nat) ({ cls := "CavePearlsModel", name := "takePearl", desc := "(II)I" } : Jvm.MethodName)) ∈ lw_all := lw_g (lw_at lw_m15 160 rfl) rfl
theorem q3638 : (Jvm.Cond.methodLink "CavePearlsLaw" (155 : Nat) ({ cls := "CavePearlsModel", name := "pearl", desc := "(II)I" } : Jvm.MethodName)) ∈ lw_all := lw_g (lw_at lw_m15 172 rfl) rfl
theorem q3642 : (Jvm.Cond.methodLink "CavePearlsLaw" (158 : Nat) ({ cls := "CavePearlsModel", name := "ranked", desc := "(I)I" } : Jvm.MethodName)) ∈ lw_all := lw_g (lw_at lw_m15 176 rfl) rfl
theorem q3650 : (Jvm.Cond.methodLink "CavePearlsLaw" (161 : Nat) ({ cls := "CavePearlsModel", name := "addStone", desc := "(II)I" } : Jvm.MethodName)) ∈ lw_all := lw_g (lw_at lw_m15 184 rfl) rfl
theorem q3658 : (Jvm.Cond.methodLink "CavePearlsLaw" (164 : Nat) ({ cls := "CavePearlsModel", name := "stone", desc := "(II)I" } : Jvm.MethodName)) ∈ lw_all := lw_g (lw_at lw_m15 192 rfl) rfl
theorem q3666 : (Jvm.Cond.methodLink "CavePearlsLaw" (168 : Nat) ({ cls := "CavePearlsModel", name := "nextStone", desc := "()I" } : Jvm.MethodName)) ∈ lw_all := lw_g (lw_at lw_m15 200 rfl) rfl
theorem q3670 : (Jvm.Cond.methodLink "CavePearlsLaw" (171 : Nat) ({ cls := "CavePearlsModel", name := "enter", desc := "(II)I" } : Jvm.MethodName)) ∈ lw_all := lw_g (lw_at lw_m15 204 rfl) rfl
theorem q3690 : (Jvm.Cond.methodLink "CavePearlsLaw" (174 : Nat) ({ cls := "CavePearlsModel", name := "sendOut", desc := "(I)I" } : Jvm.MethodName)) ∈ lw_all := lw_g (lw_at lw_m15 224 rfl) rfl
theorem q3702 : (Jvm.Cond.methodLink "CavePearlsLaw" (178 : Nat) ({ cls := "CavePearlsModel", name := "group", desc := "(IZ)I" } : Jvm.MethodName)) ∈ lw_all := lw_g (lw_at lw_m15 236 rfl) rfl
theorem q3706 : (Jvm.Cond.methodLink "CavePearlsLaw" (181 : Nat) ({ cls := "CavePearlsModel", name := "addLamp", desc := "(I)I" } : Jvm.MethodName)) ∈ lw_all := lw_g (lw_at lw_m16 0 rfl) rfl
theorem q3710 : (Jvm.Cond.methodLink "CavePearlsLaw" (184 : Nat) ({ cls := "CavePearlsModel", name := "switchOn", desc := "(II)I" } : Jvm.MethodName)) ∈ lw_all := lw_g (lw_at lw_m16 4 rfl) rfl
theorem q3734 : (Jvm.Cond.methodLink "CavePearlsLaw" (187 : Nat) ({ cls := "CavePearlsModel", name := "switchOff", desc := "(I)I" } : Jvm.MethodName)) ∈ lw_all := lw_g (lw_at lw_m16 28 rfl) rfl
theorem q3746 : (Jvm.Cond.methodLink "CavePearlsLaw" (190 : Nat) ({ cls := "CavePearlsModel", name := "lamp", desc := "(IZ)I" } : Jvm.MethodName)) ∈ lw_all := lw_g (lw_at lw_m16 40 rfl) rfl
theorem q3750 : (Jvm.Cond.methodLink "CavePearlsLaw" (193 : Nat) ({ cls := "CavePearlsModel", name := "setDraught", desc := "(I)I" } : Jvm.MethodName)) ∈ lw_all := lw_g (lw_at lw_m16 44 rfl) rfl
theorem q3762 : (Jvm.Cond.methodLink "CavePearlsLaw" (196 : Nat) ({ cls := "CavePearlsModel", name := "sweep", desc := "()I" } : Jvm.MethodName)) ∈ lw_all := lw_g (lw_at lw_m16 56 rfl) rfl
theorem q3774 : (Jvm.Cond.methodLink "CavePearlsLaw" (199 : Nat) ({ cls := "CavePearlsModel", name := "pass", desc := "(I)I" } : Jvm.MethodName)) ∈ lw_all := lw_g (lw_at lw_m16 68 rfl) rfl
theorem q3818 : (Jvm.Cond.methodLink "CavePearlsLaw" (202 : Nat) ({ cls := "CavePearlsModel", name := "fullIn", desc := "(I)I" } : Jvm.MethodName)) ∈ lw_all := lw_g (lw_at lw_m16 112 rfl) rfl
theorem q3826 : (Jvm.Cond.methodLink "CavePearlsLaw" (206 : Nat) ({ cls := "CavePearlsModel", name := "sizeIn", desc := "(III)I" } : Jvm.MethodName)) ∈ lw_all := lw_g (lw_at lw_m16 120 rfl) rfl
theorem q3830 : (Jvm.Cond.methodLink "CavePearlsLaw" (209 : Nat) ({ cls := "CavePearlsModel", name := "clearIn", desc := "(I)I" } : Jvm.MethodName)) ∈ lw_all := lw_g (lw_at lw_m16 124 rfl) rfl
theorem q3834 : (Jvm.Cond.methodLink "CavePearlsLaw" (212 : Nat) ({ cls := "CavePearlsModel", name := "leastDraught", desc := "()I" } : Jvm.MethodName)) ∈ lw_all := lw_g (lw_at lw_m16 128 rfl) rfl
theorem q3842 : (Jvm.Cond.methodLink "CavePearlsLaw" (215 : Nat) ({ cls := "CavePearlsModel", name := "line", desc := "(I)I" } : Jvm.MethodName)) ∈ lw_all := lw_g (lw_at lw_m16 136 rfl) rfl
theorem q3854 : (Jvm.Cond.methodLink "CavePearlsLaw" (218 : Nat) ({ cls := "CavePearlsModel", name := "character", desc := "(I)C" } : Jvm.MethodName)) ∈ lw_all := lw_g (lw_at lw_m16 148 rfl) rfl
theorem q3858 : (Jvm.Cond.methodLink "CavePearlsLaw" (222 : Nat) ({ cls := "CavePearlsModel", name := "dripsAgain", desc := "()I" } : Jvm.MethodName)) ∈ lw_all := lw_g (lw_at lw_m16 152 rfl) rfl
theorem q3866 : (Jvm.Cond.methodLink "CavePearlsLaw" (227 : Nat) ({ cls := "CavePearlsModel", name := "isBalanced", desc := "()Z" } : Jvm.MethodName)) ∈ lw_all := lw_g (lw_at lw_m16 160 rfl) rfl
theorem q3874 : (Jvm.Cond.methodLink "CavePearlsLaw" (231 : Nat) ({ cls := "CavePearlsModel", name := "meanSize", desc := "()D" } : Jvm.MethodName)) ∈ lw_all := lw_g (lw_at lw_m16 168 rfl) rfl
theorem q3882 : (Jvm.Cond.methodLink "CavePearlsLaw" (234 : Nat) ({ cls := "CavePearlsModel", name := "growthShare", desc := "()F" } : Jvm.MethodName)) ∈ lw_all := lw_g (lw_at lw_m16 176 rfl) rfl
theorem q3886 : (Jvm.Cond.methodLink "CavePearlsLaw" (238 : Nat) ({ cls := "CavePearlsModel", name := "reason", desc := "(Z)I" } : Jvm.MethodName)) ∈ lw_all := lw_g (lw_at lw_m16 180 rfl) rfl
theorem q3890 : (Jvm.Cond.methodLink "CavePearlsLaw" (241 : Nat) ({ cls := "CavePearlsModel", name := "account", desc := "(I)I" } : Jvm.MethodName)) ∈ lw_all := lw_g (lw_at lw_m16 184 rfl) rfl
theorem q3894 : (Jvm.Cond.methodLink "CavePearlsLaw" (245 : Nat) ({ cls := "CavePearlsModel", name := "feed", desc := "(C)I" } : Jvm.MethodName)) ∈ lw_all := lw_g (lw_at lw_m16 188 rfl) rfl
theorem q3898 : (Jvm.Cond.methodLink "CavePearlsLaw" (248 : Nat) ({ cls := "CavePearlsModel", name := "perform", desc := "()I" } : Jvm.MethodName)) ∈ lw_all := lw_g (lw_at lw_m16 192 rfl) rfl
theorem q3942 : (Jvm.Cond.methodLink "CavePearlsLaw" (251 : Nat) ({ cls := "CavePearlsModel", name := "undo", desc := "()I" } : Jvm.MethodName)) ∈ lw_all := lw_g (lw_at lw_m16 236 rfl) rfl
theorem q3946 : (Jvm.Cond.methodLink "CavePearlsLaw" (255 : Nat) ({ cls := "CavePearlsModel", name := "save", desc := "()I" } : Jvm.MethodName)) ∈ lw_all := lw_g (lw_at lw_m17 0 rfl) rfl
theorem q3950 : (Jvm.Cond.methodLink "CavePearlsLaw" (258 : Nat) ({ cls := "CavePearlsModel", name := "restore", desc := "()I" } : Jvm.MethodName)) ∈ lw_all := lw_g (lw_at lw_m17 4 rfl) rfl

/-! CavePearls -/
set_option maxRecDepth 100000
def RX1 : String := "CavePearls"
def TX1 : u_T := fun k => match k with
  | 0 => ("CavePearls", "world", "LCavePearls$World;", false)
  | 1 => ("CavePearls", "saved", "LCavePearls$World;", false)
  | 2 => ("CavePearls", "history", "Ljava/util/ArrayDeque;", true)
  | 3 => ("CavePearls", "reason", "LCavePearls$RefusedException;", false)
  | 4 => ("CavePearls", "line", "Ljava/lang/StringBuilder;", true)
  | 5 => ("CavePearls", "input", "[C", true)
  | _ => ("CavePearls", "inputLength", "I", false)
def tyX1 : Nat → FieldType := fun k => match k with
  | 0 => .object "CavePearls$World"
  | 1 => .object "CavePearls$World"
  | 2 => .object "java/util/ArrayDeque"
  | 3 => .object "CavePearls$RefusedException"
  | 4 => .object "java/lang/StringBuilder"
  | 5 => .array .char
  | _ => .int
abbrev wsX10 : List Cond := u_ws RX1 TX1 7
theorem nmX1 : ∀ a, a < 7 → ∀ b, b < 7 → a ≠ b → (TX1 a).2.1 ≠ (TX1 b).2.1 := by decide +kernel
theorem tyX1_ok : ∀ k, k < 7 → parseFieldDescriptor (TX1 k).2.2.1 = some (tyX1 k) := by decide +kernel
abbrev cX1_init : ByteArray := prog_1_method_8_code
def yX1_init : MethodName := ⟨RX1, "<init>", "()V"⟩
def dkwX1_init_1 : List UInt8 := [181, 0, 40, 42, 187, 0, 44, 89, 183, 0, 46, 181, 0, 47, 42, 16, 60, 188, 5, 181, 0, 51, 177]
abbrev dktX1_init_1 : List UInt8 := dkwX1_init_1 ++ []
def dkwX1_init_0 : List UInt8 := [42, 183, 0, 27, 42, 187, 0, 30, 89, 183, 0, 32, 181, 0, 33, 42, 187, 0, 37, 89, 183, 0, 39]
abbrev dktX1_init_0 : List UInt8 := dkwX1_init_0 ++ dktX1_init_1
theorem dksX1_init_0 : cX1_init.data.toList.drop 0 = dktX1_init_0 := by decide +kernel
theorem dksX1_init_1 : cX1_init.data.toList.drop 23 = dktX1_init_1 := dk_seg dksX1_init_0 23 rfl rfl
theorem dX1_init_0 : decode cX1_init 0 = .ok (.aload_n 0, 1) := dk_42 (dk_at dksX1_init_0 0 rfl rfl)
theorem dX1_init_1 : decode cX1_init 1 = .ok (.invokespecial 27, 3) := dk_183 0 27 (dk_at dksX1_init_0 1 rfl rfl)
theorem dX1_init_4 : decode cX1_init 4 = .ok (.aload_n 0, 1) := dk_42 (dk_at dksX1_init_0 4 rfl rfl)
theorem dX1_init_5 : decode cX1_init 5 = .ok (.new 30, 3) := dk_187 0 30 (dk_at dksX1_init_0 5 rfl rfl)
theorem dX1_init_8 : decode cX1_init 8 = .ok (.dup, 1) := dk_89 (dk_at dksX1_init_0 8 rfl rfl)
theorem dX1_init_9 : decode cX1_init 9 = .ok (.invokespecial 32, 3) := dk_183 0 32 (dk_at dksX1_init_0 9 rfl rfl)
theorem dX1_init_12 : decode cX1_init 12 = .ok (.putfield 33, 3) := dk_181 0 33 (dk_at dksX1_init_0 12 rfl rfl)
theorem dX1_init_15 : decode cX1_init 15 = .ok (.aload_n 0, 1) := dk_42 (dk_at dksX1_init_0 15 rfl rfl)
theorem dX1_init_16 : decode cX1_init 16 = .ok (.new 37, 3) := dk_187 0 37 (dk_at dksX1_init_0 16 rfl rfl)
theorem dX1_init_19 : decode cX1_init 19 = .ok (.dup, 1) := dk_89 (dk_at dksX1_init_0 19 rfl rfl)
theorem dX1_init_20 : decode cX1_init 20 = .ok (.invokespecial 39, 3) := dk_183 0 39 (dk_at dksX1_init_0 20 rfl rfl)
theorem dX1_init_23 : decode cX1_init 23 = .ok (.putfield 40, 3) := dk_181 0 40 (dk_at dksX1_init_1 0 rfl rfl)
theorem dX1_init_26 : decode cX1_init 26 = .ok (.aload_n 0, 1) := dk_42 (dk_at dksX1_init_1 3 rfl rfl)
theorem dX1_init_27 : decode cX1_init 27 = .ok (.new 44, 3) := dk_187 0 44 (dk_at dksX1_init_1 4 rfl rfl)
theorem dX1_init_30 : decode cX1_init 30 = .ok (.dup, 1) := dk_89 (dk_at dksX1_init_1 7 rfl rfl)
theorem dX1_init_31 : decode cX1_init 31 = .ok (.invokespecial 46, 3) := dk_183 0 46 (dk_at dksX1_init_1 8 rfl rfl)
theorem dX1_init_34 : decode cX1_init 34 = .ok (.putfield 47, 3) := dk_181 0 47 (dk_at dksX1_init_1 11 rfl rfl)
theorem dX1_init_37 : decode cX1_init 37 = .ok (.aload_n 0, 1) := dk_42 (dk_at dksX1_init_1 14 rfl rfl)
theorem dX1_init_38 : decode cX1_init 38 = .ok (.bipush 60, 2) := dk_16 60 (dk_at dksX1_init_1 15 rfl rfl)
theorem dX1_init_40 : decode cX1_init 40 = .ok (.newarray .char, 2) := dk_188_5 (dk_at dksX1_init_1 17 rfl rfl)
theorem dX1_init_42 : decode cX1_init 42 = .ok (.putfield 51, 3) := dk_181 0 51 (dk_at dksX1_init_1 19 rfl rfl)
theorem dX1_init_45 : decode cX1_init 45 = .ok (.return_, 1) := dk_177 (dk_at dksX1_init_1 22 rfl rfl)
abbrev cX1_dripsAgain : ByteArray := prog_1_method_39_code
def yX1_dripsAgain : MethodName := ⟨RX1, "dripsAgain", "()I"⟩
def dkwX1_dripsAgain_1 : List UInt8 := [180, 0, 33, 180, 1, 90, 79, 184, 1, 93, 172]
abbrev dktX1_dripsAgain_1 : List UInt8 := dkwX1_dripsAgain_1 ++ []
def dkwX1_dripsAgain_0 : List UInt8 := [6, 188, 10, 89, 3, 42, 3, 182, 1, 86, 79, 89, 4, 42, 180, 0, 33, 180, 1, 89, 79, 89, 5, 42]
abbrev dktX1_dripsAgain_0 : List UInt8 := dkwX1_dripsAgain_0 ++ dktX1_dripsAgain_1
theorem dksX1_dripsAgain_0 : cX1_dripsAgain.data.toList.drop 0 = dktX1_dripsAgain_0 := by decide +kernel
theorem dksX1_dripsAgain_1 : cX1_dripsAgain.data.toList.drop 24 = dktX1_dripsAgain_1 := dk_seg dksX1_dripsAgain_0 24 rfl rfl
theorem dX1_dripsAgain_0 : decode cX1_dripsAgain 0 = .ok (.iconst 3, 1) := dk_6 (dk_at dksX1_dripsAgain_0 0 rfl rfl)
theorem dX1_dripsAgain_1 : decode cX1_dripsAgain 1 = .ok (.newarray .int, 2) := dk_188_10 (dk_at dksX1_dripsAgain_0 1 rfl rfl)
theorem dX1_dripsAgain_3 : decode cX1_dripsAgain 3 = .ok (.dup, 1) := dk_89 (dk_at dksX1_dripsAgain_0 3 rfl rfl)
theorem dX1_dripsAgain_4 : decode cX1_dripsAgain 4 = .ok (.iconst 0, 1) := dk_3 (dk_at dksX1_dripsAgain_0 4 rfl rfl)
theorem dX1_dripsAgain_5 : decode cX1_dripsAgain 5 = .ok (.aload_n 0, 1) := dk_42 (dk_at dksX1_dripsAgain_0 5 rfl rfl)
theorem dX1_dripsAgain_6 : decode cX1_dripsAgain 6 = .ok (.iconst 0, 1) := dk_3 (dk_at dksX1_dripsAgain_0 6 rfl rfl)
theorem dX1_dripsAgain_7 : decode cX1_dripsAgain 7 = .ok (.invokevirtual 342, 3) := dk_182 1 86 (dk_at dksX1_dripsAgain_0 7 rfl rfl)
theorem dX1_dripsAgain_10 : decode cX1_dripsAgain 10 = .ok (.iastore, 1) := dk_79 (dk_at dksX1_dripsAgain_0 10 rfl rfl)
theorem dX1_dripsAgain_11 : decode cX1_dripsAgain 11 = .ok (.dup, 1) := dk_89 (dk_at dksX1_dripsAgain_0 11 rfl rfl)
theorem dX1_dripsAgain_12 : decode cX1_dripsAgain 12 = .ok (.iconst 1, 1) := dk_4 (dk_at dksX1_dripsAgain_0 12 rfl rfl)
theorem dX1_dripsAgain_13 : decode cX1_dripsAgain 13 = .ok (.aload_n 0, 1) := dk_42 (dk_at dksX1_dripsAgain_0 13 rfl rfl)
theorem dX1_dripsAgain_14 : decode cX1_dripsAgain 14 = .ok (.getfield 33, 3) := dk_180 0 33 (dk_at dksX1_dripsAgain_0 14 rfl rfl)
theorem dX1_dripsAgain_17 : decode cX1_dripsAgain 17 = .ok (.getfield 345, 3) := dk_180 1 89 (dk_at dksX1_dripsAgain_0 17 rfl rfl)
theorem dX1_dripsAgain_20 : decode cX1_dripsAgain 20 = .ok (.iastore, 1) := dk_79 (dk_at dksX1_dripsAgain_0 20 rfl rfl)
theorem dX1_dripsAgain_21 : decode cX1_dripsAgain 21 = .ok (.dup, 1) := dk_89 (dk_at dksX1_dripsAgain_0 21 rfl rfl)
theorem dX1_dripsAgain_22 : decode cX1_dripsAgain 22 = .ok (.iconst 2, 1) := dk_5 (dk_at dksX1_dripsAgain_0 22 rfl rfl)
theorem dX1_dripsAgain_23 : decode cX1_dripsAgain 23 = .ok (.aload_n 0, 1) := dk_42 (dk_at dksX1_dripsAgain_0 23 rfl rfl)
theorem dX1_dripsAgain_24 : decode cX1_dripsAgain 24 = .ok (.getfield 33, 3) := dk_180 0 33 (dk_at dksX1_dripsAgain_1 0 rfl rfl)
theorem dX1_dripsAgain_27 : decode cX1_dripsAgain 27 = .ok (.getfield 346, 3) := dk_180 1 90 (dk_at dksX1_dripsAgain_1 3 rfl rfl)
theorem dX1_dripsAgain_30 : decode cX1_dripsAgain 30 = .ok (.iastore, 1) := dk_79 (dk_at dksX1_dripsAgain_1 6 rfl rfl)
theorem dX1_dripsAgain_31 : decode cX1_dripsAgain 31 = .ok (.invokestatic 349, 3) := dk_184 1 93 (dk_at dksX1_dripsAgain_1 7 rfl rfl)
theorem dX1_dripsAgain_34 : decode cX1_dripsAgain 34 = .ok (.ireturn, 1) := dk_172 (dk_at dksX1_dripsAgain_1 10 rfl rfl)
abbrev cX1_all : ByteArray := prog_1_method_38_code
def yX1_all : MethodName := ⟨RX1, "all", "(I)I"⟩
def dkwX1_all_3 : List UInt8 := [167, 255, 200, 28, 172]
abbrev dktX1_all_3 : List UInt8 := dkwX1_all_3 ++ []
def dkwX1_all_2 : List UInt8 := [4, 160, 0, 11, 25, 4, 182, 1, 83, 167, 0, 11, 25, 4, 180, 0, 134, 182, 0, 137, 96, 61]
abbrev dktX1_all_2 : List UInt8 := dkwX1_all_2 ++ dktX1_all_3
def dkwX1_all_1 : List UInt8 := [185, 0, 110, 1, 0, 192, 0, 127, 58, 4, 28, 27, 154, 0, 11, 25, 4, 180, 0, 131, 167, 0, 24, 27]
abbrev dktX1_all_1 : List UInt8 := dkwX1_all_1 ++ dktX1_all_2
def dkwX1_all_0 : List UInt8 := [3, 61, 42, 180, 0, 33, 180, 0, 167, 182, 0, 98, 78, 45, 185, 0, 104, 1, 0, 153, 0, 53, 45]
abbrev dktX1_all_0 : List UInt8 := dkwX1_all_0 ++ dktX1_all_1
theorem dksX1_all_0 : cX1_all.data.toList.drop 0 = dktX1_all_0 := by decide +kernel
theorem dksX1_all_1 : cX1_all.data.toList.drop 23 = dktX1_all_1 := dk_seg dksX1_all_0 23 rfl rfl
theorem dksX1_all_2 : cX1_all.data.toList.drop 47 = dktX1_all_2 := dk_seg dksX1_all_1 24 rfl rfl
theorem dksX1_all_3 : cX1_all.data.toList.drop 69 = dktX1_all_3 := dk_seg dksX1_all_2 22 rfl rfl
theorem dX1_all_0 : decode cX1_all 0 = .ok (.iconst 0, 1) := dk_3 (dk_at dksX1_all_0 0 rfl rfl)
theorem dX1_all_1 : decode cX1_all 1 = .ok (.istore_n 2, 1) := dk_61 (dk_at dksX1_all_0 1 rfl rfl)
theorem dX1_all_2 : decode cX1_all 2 = .ok (.aload_n 0, 1) := dk_42 (dk_at dksX1_all_0 2 rfl rfl)
theorem dX1_all_3 : decode cX1_all 3 = .ok (.getfield 33, 3) := dk_180 0 33 (dk_at dksX1_all_0 3 rfl rfl)
theorem dX1_all_6 : decode cX1_all 6 = .ok (.getfield 167, 3) := dk_180 0 167 (dk_at dksX1_all_0 6 rfl rfl)
theorem dX1_all_9 : decode cX1_all 9 = .ok (.invokevirtual 98, 3) := dk_182 0 98 (dk_at dksX1_all_0 9 rfl rfl)
theorem dX1_all_12 : decode cX1_all 12 = .ok (.astore_n 3, 1) := dk_78 (dk_at dksX1_all_0 12 rfl rfl)
theorem dX1_all_13 : decode cX1_all 13 = .ok (.aload_n 3, 1) := dk_45 (dk_at dksX1_all_0 13 rfl rfl)
theorem dX1_all_14 : decode cX1_all 14 = .ok (.invokeinterface 104 1, 5) := by decide +kernel
theorem dX1_all_19 : decode cX1_all 19 = .ok (.ifCond .eq 53, 3) := dk_153 0 53 (dk_at dksX1_all_0 19 rfl rfl)
theorem dX1_all_22 : decode cX1_all 22 = .ok (.aload_n 3, 1) := dk_45 (dk_at dksX1_all_0 22 rfl rfl)
theorem dX1_all_23 : decode cX1_all 23 = .ok (.invokeinterface 110 1, 5) := by decide +kernel
theorem dX1_all_28 : decode cX1_all 28 = .ok (.checkcast 127, 3) := dk_192 0 127 (dk_at dksX1_all_1 5 rfl rfl)
theorem dX1_all_31 : decode cX1_all 31 = .ok (.astore 4, 2) := dk_58 4 (dk_at dksX1_all_1 8 rfl rfl)
theorem dX1_all_33 : decode cX1_all 33 = .ok (.iload_n 2, 1) := dk_28 (dk_at dksX1_all_1 10 rfl rfl)
theorem dX1_all_34 : decode cX1_all 34 = .ok (.iload_n 1, 1) := dk_27 (dk_at dksX1_all_1 11 rfl rfl)
theorem dX1_all_35 : decode cX1_all 35 = .ok (.ifCond .ne 11, 3) := dk_154 0 11 (dk_at dksX1_all_1 12 rfl rfl)
theorem dX1_all_38 : decode cX1_all 38 = .ok (.aload 4, 2) := dk_25 4 (dk_at dksX1_all_1 15 rfl rfl)
theorem dX1_all_40 : decode cX1_all 40 = .ok (.getfield 131, 3) := dk_180 0 131 (dk_at dksX1_all_1 17 rfl rfl)
theorem dX1_all_43 : decode cX1_all 43 = .ok (.goto 24, 3) := dk_167 0 24 (dk_at dksX1_all_1 20 rfl rfl)
theorem dX1_all_46 : decode cX1_all 46 = .ok (.iload_n 1, 1) := dk_27 (dk_at dksX1_all_1 23 rfl rfl)
theorem dX1_all_47 : decode cX1_all 47 = .ok (.iconst 1, 1) := dk_4 (dk_at dksX1_all_2 0 rfl rfl)
theorem dX1_all_48 : decode cX1_all 48 = .ok (.if_icmp .ne 11, 3) := dk_160 0 11 (dk_at dksX1_all_2 1 rfl rfl)
theorem dX1_all_51 : decode cX1_all 51 = .ok (.aload 4, 2) := dk_25 4 (dk_at dksX1_all_2 4 rfl rfl)
theorem dX1_all_53 : decode cX1_all 53 = .ok (.invokevirtual 339, 3) := dk_182 1 83 (dk_at dksX1_all_2 6 rfl rfl)
theorem dX1_all_56 : decode cX1_all 56 = .ok (.goto 11, 3) := dk_167 0 11 (dk_at dksX1_all_2 9 rfl rfl)
theorem dX1_all_59 : decode cX1_all 59 = .ok (.aload 4, 2) := dk_25 4 (dk_at dksX1_all_2 12 rfl rfl)
theorem dX1_all_61 : decode cX1_all 61 = .ok (.getfield 134, 3) := dk_180 0 134 (dk_at dksX1_all_2 14 rfl rfl)
theorem dX1_all_64 : decode cX1_all 64 = .ok (.invokevirtual 137, 3) := dk_182 0 137 (dk_at dksX1_all_2 17 rfl rfl)
theorem dX1_all_67 : decode cX1_all 67 = .ok (.iadd, 1) := dk_96 (dk_at dksX1_all_2 20 rfl rfl)
theorem dX1_all_68 : decode cX1_all 68 = .ok (.istore_n 2, 1) := dk_61 (dk_at dksX1_all_2 21 rfl rfl)
theorem dX1_all_69 : decode cX1_all 69 = .ok (.goto (-56), 3) := dk_167 255 200 (dk_at dksX1_all_3 0 rfl rfl)
theorem dX1_all_72 : decode cX1_all 72 = .ok (.iload_n 2, 1) := dk_28 (dk_at dksX1_all_3 3 rfl rfl)
theorem dX1_all_73 : decode cX1_all 73 = .ok (.ireturn, 1) := dk_172 (dk_at dksX1_all_3 4 rfl rfl)
abbrev cX1_sum : ByteArray := prog_1_method_2_code
def yX1_sum : MethodName := ⟨RX1, "sum", "([I)I"⟩
def dkwX1_sum_1 : List UInt8 := [21, 5, 96, 60, 132, 4, 1, 167, 255, 236, 27, 172]
abbrev dktX1_sum_1 : List UInt8 := dkwX1_sum_1 ++ []
def dkwX1_sum_0 : List UInt8 := [3, 60, 42, 77, 44, 190, 62, 3, 54, 4, 21, 4, 29, 162, 0, 20, 44, 21, 4, 46, 54, 5, 27]
abbrev dktX1_sum_0 : List UInt8 := dkwX1_sum_0 ++ dktX1_sum_1
theorem dksX1_sum_0 : cX1_sum.data.toList.drop 0 = dktX1_sum_0 := by decide +kernel
theorem dksX1_sum_1 : cX1_sum.data.toList.drop 23 = dktX1_sum_1 := dk_seg dksX1_sum_0 23 rfl rfl
theorem dX1_sum_0 : decode cX1_sum 0 = .ok (.iconst 0, 1) := dk_3 (dk_at dksX1_sum_0 0 rfl rfl)
theorem dX1_sum_1 : decode cX1_sum 1 = .ok (.istore_n 1, 1) := dk_60 (dk_at dksX1_sum_0 1 rfl rfl)
theorem dX1_sum_2 : decode cX1_sum 2 = .ok (.aload_n 0, 1) := dk_42 (dk_at dksX1_sum_0 2 rfl rfl)
theorem dX1_sum_3 : decode cX1_sum 3 = .ok (.astore_n 2, 1) := dk_77 (dk_at dksX1_sum_0 3 rfl rfl)
theorem dX1_sum_4 : decode cX1_sum 4 = .ok (.aload_n 2, 1) := dk_44 (dk_at dksX1_sum_0 4 rfl rfl)
theorem dX1_sum_5 : decode cX1_sum 5 = .ok (.arraylength, 1) := dk_190 (dk_at dksX1_sum_0 5 rfl rfl)
theorem dX1_sum_6 : decode cX1_sum 6 = .ok (.istore_n 3, 1) := dk_62 (dk_at dksX1_sum_0 6 rfl rfl)
theorem dX1_sum_7 : decode cX1_sum 7 = .ok (.iconst 0, 1) := dk_3 (dk_at dksX1_sum_0 7 rfl rfl)
theorem dX1_sum_8 : decode cX1_sum 8 = .ok (.istore 4, 2) := dk_54 4 (dk_at dksX1_sum_0 8 rfl rfl)
theorem dX1_sum_10 : decode cX1_sum 10 = .ok (.iload 4, 2) := dk_21 4 (dk_at dksX1_sum_0 10 rfl rfl)
theorem dX1_sum_12 : decode cX1_sum 12 = .ok (.iload_n 3, 1) := dk_29 (dk_at dksX1_sum_0 12 rfl rfl)
theorem dX1_sum_13 : decode cX1_sum 13 = .ok (.if_icmp .ge 20, 3) := dk_162 0 20 (dk_at dksX1_sum_0 13 rfl rfl)
theorem dX1_sum_16 : decode cX1_sum 16 = .ok (.aload_n 2, 1) := dk_44 (dk_at dksX1_sum_0 16 rfl rfl)
theorem dX1_sum_17 : decode cX1_sum 17 = .ok (.iload 4, 2) := dk_21 4 (dk_at dksX1_sum_0 17 rfl rfl)
theorem dX1_sum_19 : decode cX1_sum 19 = .ok (.iaload, 1) := dk_46 (dk_at dksX1_sum_0 19 rfl rfl)
theorem dX1_sum_20 : decode cX1_sum 20 = .ok (.istore 5, 2) := dk_54 5 (dk_at dksX1_sum_0 20 rfl rfl)
theorem dX1_sum_22 : decode cX1_sum 22 = .ok (.iload_n 1, 1) := dk_27 (dk_at dksX1_sum_0 22 rfl rfl)
theorem dX1_sum_23 : decode cX1_sum 23 = .ok (.iload 5, 2) := dk_21 5 (dk_at dksX1_sum_1 0 rfl rfl)
theorem dX1_sum_25 : decode cX1_sum 25 = .ok (.iadd, 1) := dk_96 (dk_at dksX1_sum_1 2 rfl rfl)
theorem dX1_sum_26 : decode cX1_sum 26 = .ok (.istore_n 1, 1) := dk_60 (dk_at dksX1_sum_1 3 rfl rfl)
theorem dX1_sum_27 : decode cX1_sum 27 = .ok (.iinc 4 1, 3) := dk_132 4 1 (dk_at dksX1_sum_1 4 rfl rfl)
theorem dX1_sum_30 : decode cX1_sum 30 = .ok (.goto (-20), 3) := dk_167 255 236 (dk_at dksX1_sum_1 7 rfl rfl)
theorem dX1_sum_33 : decode cX1_sum 33 = .ok (.iload_n 1, 1) := dk_27 (dk_at dksX1_sum_1 10 rfl rfl)
theorem dX1_sum_34 : decode cX1_sum 34 = .ok (.ireturn, 1) := dk_172 (dk_at dksX1_sum_1 11 rfl rfl)
abbrev cX1_isBalanced : ByteArray := prog_1_method_40_code
def yX1_isBalanced : MethodName := ⟨RX1, "isBalanced", "()Z"⟩
def dkwX1_isBalanced_1 : List UInt8 := [4, 182, 1, 86, 42, 180, 0, 33, 180, 1, 106, 96, 160, 0, 7, 4, 167, 0, 4, 3, 172]
abbrev dktX1_isBalanced_1 : List UInt8 := dkwX1_isBalanced_1 ++ []
def dkwX1_isBalanced_0 : List UInt8 := [42, 180, 0, 33, 180, 1, 97, 42, 180, 0, 33, 180, 1, 100, 96, 42, 180, 0, 33, 180, 1, 103, 100, 42]
abbrev dktX1_isBalanced_0 : List UInt8 := dkwX1_isBalanced_0 ++ dktX1_isBalanced_1
theorem dksX1_isBalanced_0 : cX1_isBalanced.data.toList.drop 0 = dktX1_isBalanced_0 := by decide +kernel
theorem dksX1_isBalanced_1 : cX1_isBalanced.data.toList.drop 24 = dktX1_isBalanced_1 := dk_seg dksX1_isBalanced_0 24 rfl rfl
theorem dX1_isBalanced_0 : decode cX1_isBalanced 0 = .ok (.aload_n 0, 1) := dk_42 (dk_at dksX1_isBalanced_0 0 rfl rfl)
theorem dX1_isBalanced_1 : decode cX1_isBalanced 1 = .ok (.getfield 33, 3) := dk_180 0 33 (dk_at dksX1_isBalanced_0 1 rfl rfl)
theorem dX1_isBalanced_4 : decode cX1_isBalanced 4 = .ok (.getfield 353, 3) := dk_180 1 97 (dk_at dksX1_isBalanced_0 4 rfl rfl)
theorem dX1_isBalanced_7 : decode cX1_isBalanced 7 = .ok (.aload_n 0, 1) := dk_42 (dk_at dksX1_isBalanced_0 7 rfl rfl)
theorem dX1_isBalanced_8 : decode cX1_isBalanced 8 = .ok (.getfield 33, 3) := dk_180 0 33 (dk_at dksX1_isBalanced_0 8 rfl rfl)
theorem dX1_isBalanced_11 : decode cX1_isBalanced 11 = .ok (.getfield 356, 3) := dk_180 1 100 (dk_at dksX1_isBalanced_0 11 rfl rfl)
theorem dX1_isBalanced_14 : decode cX1_isBalanced 14 = .ok (.iadd, 1) := dk_96 (dk_at dksX1_isBalanced_0 14 rfl rfl)
theorem dX1_isBalanced_15 : decode cX1_isBalanced 15 = .ok (.aload_n 0, 1) := dk_42 (dk_at dksX1_isBalanced_0 15 rfl rfl)
theorem dX1_isBalanced_16 : decode cX1_isBalanced 16 = .ok (.getfield 33, 3) := dk_180 0 33 (dk_at dksX1_isBalanced_0 16 rfl rfl)
theorem dX1_isBalanced_19 : decode cX1_isBalanced 19 = .ok (.getfield 359, 3) := dk_180 1 103 (dk_at dksX1_isBalanced_0 19 rfl rfl)
theorem dX1_isBalanced_22 : decode cX1_isBalanced 22 = .ok (.isub, 1) := dk_100 (dk_at dksX1_isBalanced_0 22 rfl rfl)
theorem dX1_isBalanced_23 : decode cX1_isBalanced 23 = .ok (.aload_n 0, 1) := dk_42 (dk_at dksX1_isBalanced_0 23 rfl rfl)
theorem dX1_isBalanced_24 : decode cX1_isBalanced 24 = .ok (.iconst 1, 1) := dk_4 (dk_at dksX1_isBalanced_1 0 rfl rfl)
theorem dX1_isBalanced_25 : decode cX1_isBalanced 25 = .ok (.invokevirtual 342, 3) := dk_182 1 86 (dk_at dksX1_isBalanced_1 1 rfl rfl)
theorem dX1_isBalanced_28 : decode cX1_isBalanced 28 = .ok (.aload_n 0, 1) := dk_42 (dk_at dksX1_isBalanced_1 4 rfl rfl)
theorem dX1_isBalanced_29 : decode cX1_isBalanced 29 = .ok (.getfield 33, 3) := dk_180 0 33 (dk_at dksX1_isBalanced_1 5 rfl rfl)
theorem dX1_isBalanced_32 : decode cX1_isBalanced 32 = .ok (.getfield 362, 3) := dk_180 1 106 (dk_at dksX1_isBalanced_1 8 rfl rfl)
theorem dX1_isBalanced_35 : decode cX1_isBalanced 35 = .ok (.iadd, 1) := dk_96 (dk_at dksX1_isBalanced_1 11 rfl rfl)
theorem dX1_isBalanced_36 : decode cX1_isBalanced 36 = .ok (.if_icmp .ne 7, 3) := dk_160 0 7 (dk_at dksX1_isBalanced_1 12 rfl rfl)
theorem dX1_isBalanced_39 : decode cX1_isBalanced 39 = .ok (.iconst 1, 1) := dk_4 (dk_at dksX1_isBalanced_1 15 rfl rfl)
theorem dX1_isBalanced_40 : decode cX1_isBalanced 40 = .ok (.goto 4, 3) := dk_167 0 4 (dk_at dksX1_isBalanced_1 16 rfl rfl)
theorem dX1_isBalanced_43 : decode cX1_isBalanced 43 = .ok (.iconst 0, 1) := dk_3 (dk_at dksX1_isBalanced_1 19 rfl rfl)
theorem dX1_isBalanced_44 : decode cX1_isBalanced 44 = .ok (.ireturn, 1) := dk_172 (dk_at dksX1_isBalanced_1 20 rfl rfl)
abbrev cX1_save : ByteArray := prog_1_method_50_code
def yX1_save : MethodName := ⟨RX1, "save", "()I"⟩
def dkwX1_save_0 : List UInt8 := [42, 187, 0, 30, 89, 42, 180, 0, 33, 183, 0, 67, 181, 1, 166, 42, 180, 0, 33, 180, 0, 214, 172]
abbrev dktX1_save_0 : List UInt8 := dkwX1_save_0 ++ []
theorem dksX1_save_0 : cX1_save.data.toList.drop 0 = dktX1_save_0 := by decide +kernel
theorem dX1_save_0 : decode cX1_save 0 = .ok (.aload_n 0, 1) := dk_42 (dk_at dksX1_save_0 0 rfl rfl)
theorem dX1_save_1 : decode cX1_save 1 = .ok (.new 30, 3) := dk_187 0 30 (dk_at dksX1_save_0 1 rfl rfl)
theorem dX1_save_4 : decode cX1_save 4 = .ok (.dup, 1) := dk_89 (dk_at dksX1_save_0 4 rfl rfl)
theorem dX1_save_5 : decode cX1_save 5 = .ok (.aload_n 0, 1) := dk_42 (dk_at dksX1_save_0 5 rfl rfl)
theorem dX1_save_6 : decode cX1_save 6 = .ok (.getfield 33, 3) := dk_180 0 33 (dk_at dksX1_save_0 6 rfl rfl)
theorem dX1_save_9 : decode cX1_save 9 = .ok (.invokespecial 67, 3) := dk_183 0 67 (dk_at dksX1_save_0 9 rfl rfl)
theorem dX1_save_12 : decode cX1_save 12 = .ok (.putfield 422, 3) := dk_181 1 166 (dk_at dksX1_save_0 12 rfl rfl)
theorem dX1_save_15 : decode cX1_save 15 = .ok (.aload_n 0, 1) := dk_42 (dk_at dksX1_save_0 15 rfl rfl)
theorem dX1_save_16 : decode cX1_save 16 = .ok (.getfield 33, 3) := dk_180 0 33 (dk_at dksX1_save_0 16 rfl rfl)
theorem dX1_save_19 : decode cX1_save 19 = .ok (.getfield 214, 3) := dk_180 0 214 (dk_at dksX1_save_0 19 rfl rfl)
theorem dX1_save_22 : decode cX1_save 22 = .ok (.ireturn, 1) := dk_172 (dk_at dksX1_save_0 22 rfl rfl)
abbrev cX1_addPool : ByteArray := prog_1_method_11_code
def yX1_addPool : MethodName := ⟨RX1, "addPool", "(I)I"⟩
def dkwX1_addPool_0 : List UInt8 := [42, 187, 0, 86, 89, 42, 27, 183, 0, 88, 182, 0, 91, 172]
abbrev dktX1_addPool_0 : List UInt8 := dkwX1_addPool_0 ++ []
theorem dksX1_addPool_0 : cX1_addPool.data.toList.drop 0 = dktX1_addPool_0 := by decide +kernel
theorem dX1_addPool_0 : decode cX1_addPool 0 = .ok (.aload_n 0, 1) := dk_42 (dk_at dksX1_addPool_0 0 rfl rfl)
theorem dX1_addPool_1 : decode cX1_addPool 1 = .ok (.new 86, 3) := dk_187 0 86 (dk_at dksX1_addPool_0 1 rfl rfl)
theorem dX1_addPool_4 : decode cX1_addPool 4 = .ok (.dup, 1) := dk_89 (dk_at dksX1_addPool_0 4 rfl rfl)
theorem dX1_addPool_5 : decode cX1_addPool 5 = .ok (.aload_n 0, 1) := dk_42 (dk_at dksX1_addPool_0 5 rfl rfl)
theorem dX1_addPool_6 : decode cX1_addPool 6 = .ok (.iload_n 1, 1) := dk_27 (dk_at dksX1_addPool_0 6 rfl rfl)
theorem dX1_addPool_7 : decode cX1_addPool 7 = .ok (.invokespecial 88, 3) := dk_183 0 88 (dk_at dksX1_addPool_0 7 rfl rfl)
theorem dX1_addPool_10 : decode cX1_addPool 10 = .ok (.invokevirtual 91, 3) := dk_182 0 91 (dk_at dksX1_addPool_0 10 rfl rfl)
theorem dX1_addPool_13 : decode cX1_addPool 13 = .ok (.ireturn, 1) := dk_172 (dk_at dksX1_addPool_0 13 rfl rfl)
abbrev cX1_carryOut : ByteArray := prog_1_method_10_code
def yX1_carryOut : MethodName := ⟨RX1, "carryOut", "(LCavePearls$Deed;)I"⟩
def dkwX1_carryOut_1 : List UInt8 := [182, 0, 76, 29, 172, 78, 42, 45, 181, 0, 79, 187, 0, 83, 89, 183, 0, 85, 191]
abbrev dktX1_carryOut_1 : List UInt8 := dkwX1_carryOut_1 ++ []
def dkwX1_carryOut_0 : List UInt8 := [187, 0, 30, 89, 42, 180, 0, 33, 183, 0, 67, 77, 43, 44, 185, 0, 70, 2, 0, 62, 42, 44]
abbrev dktX1_carryOut_0 : List UInt8 := dkwX1_carryOut_0 ++ dktX1_carryOut_1
theorem dksX1_carryOut_0 : cX1_carryOut.data.toList.drop 0 = dktX1_carryOut_0 := by decide +kernel
theorem dksX1_carryOut_1 : cX1_carryOut.data.toList.drop 22 = dktX1_carryOut_1 := dk_seg dksX1_carryOut_0 22 rfl rfl
theorem dX1_carryOut_0 : decode cX1_carryOut 0 = .ok (.new 30, 3) := dk_187 0 30 (dk_at dksX1_carryOut_0 0 rfl rfl)
theorem dX1_carryOut_3 : decode cX1_carryOut 3 = .ok (.dup, 1) := dk_89 (dk_at dksX1_carryOut_0 3 rfl rfl)
theorem dX1_carryOut_4 : decode cX1_carryOut 4 = .ok (.aload_n 0, 1) := dk_42 (dk_at dksX1_carryOut_0 4 rfl rfl)
theorem dX1_carryOut_5 : decode cX1_carryOut 5 = .ok (.getfield 33, 3) := dk_180 0 33 (dk_at dksX1_carryOut_0 5 rfl rfl)
theorem dX1_carryOut_8 : decode cX1_carryOut 8 = .ok (.invokespecial 67, 3) := dk_183 0 67 (dk_at dksX1_carryOut_0 8 rfl rfl)
theorem dX1_carryOut_11 : decode cX1_carryOut 11 = .ok (.astore_n 2, 1) := dk_77 (dk_at dksX1_carryOut_0 11 rfl rfl)
theorem dX1_carryOut_12 : decode cX1_carryOut 12 = .ok (.aload_n 1, 1) := dk_43 (dk_at dksX1_carryOut_0 12 rfl rfl)
theorem dX1_carryOut_13 : decode cX1_carryOut 13 = .ok (.aload_n 2, 1) := dk_44 (dk_at dksX1_carryOut_0 13 rfl rfl)
theorem dX1_carryOut_14 : decode cX1_carryOut 14 = .ok (.invokeinterface 70 2, 5) := by decide +kernel
theorem dX1_carryOut_19 : decode cX1_carryOut 19 = .ok (.istore_n 3, 1) := dk_62 (dk_at dksX1_carryOut_0 19 rfl rfl)
theorem dX1_carryOut_20 : decode cX1_carryOut 20 = .ok (.aload_n 0, 1) := dk_42 (dk_at dksX1_carryOut_0 20 rfl rfl)
theorem dX1_carryOut_21 : decode cX1_carryOut 21 = .ok (.aload_n 2, 1) := dk_44 (dk_at dksX1_carryOut_0 21 rfl rfl)
theorem dX1_carryOut_22 : decode cX1_carryOut 22 = .ok (.invokevirtual 76, 3) := dk_182 0 76 (dk_at dksX1_carryOut_1 0 rfl rfl)
theorem dX1_carryOut_25 : decode cX1_carryOut 25 = .ok (.iload_n 3, 1) := dk_29 (dk_at dksX1_carryOut_1 3 rfl rfl)
theorem dX1_carryOut_26 : decode cX1_carryOut 26 = .ok (.ireturn, 1) := dk_172 (dk_at dksX1_carryOut_1 4 rfl rfl)
theorem dX1_carryOut_27 : decode cX1_carryOut 27 = .ok (.astore_n 3, 1) := dk_78 (dk_at dksX1_carryOut_1 5 rfl rfl)
theorem dX1_carryOut_28 : decode cX1_carryOut 28 = .ok (.aload_n 0, 1) := dk_42 (dk_at dksX1_carryOut_1 6 rfl rfl)
theorem dX1_carryOut_29 : decode cX1_carryOut 29 = .ok (.aload_n 3, 1) := dk_45 (dk_at dksX1_carryOut_1 7 rfl rfl)
theorem dX1_carryOut_30 : decode cX1_carryOut 30 = .ok (.putfield 79, 3) := dk_181 0 79 (dk_at dksX1_carryOut_1 8 rfl rfl)
theorem dX1_carryOut_33 : decode cX1_carryOut 33 = .ok (.new 83, 3) := dk_187 0 83 (dk_at dksX1_carryOut_1 11 rfl rfl)
theorem dX1_carryOut_36 : decode cX1_carryOut 36 = .ok (.dup, 1) := dk_89 (dk_at dksX1_carryOut_1 14 rfl rfl)
theorem dX1_carryOut_37 : decode cX1_carryOut 37 = .ok (.invokespecial 85, 3) := dk_183 0 85 (dk_at dksX1_carryOut_1 15 rfl rfl)
theorem dX1_carryOut_40 : decode cX1_carryOut 40 = .ok (.athrow, 1) := dk_191 (dk_at dksX1_carryOut_1 18 rfl rfl)
abbrev cX1_inRange : ByteArray := prog_1_method_1_code
def yX1_inRange : MethodName := ⟨RX1, "inRange", "(III)Z"⟩
def dkwX1_inRange_0 : List UInt8 := [26, 27, 161, 0, 12, 26, 28, 163, 0, 7, 4, 167, 0, 4, 3, 172]
abbrev dktX1_inRange_0 : List UInt8 := dkwX1_inRange_0 ++ []
theorem dksX1_inRange_0 : cX1_inRange.data.toList.drop 0 = dktX1_inRange_0 := by decide +kernel
theorem dX1_inRange_0 : decode cX1_inRange 0 = .ok (.iload_n 0, 1) := dk_26 (dk_at dksX1_inRange_0 0 rfl rfl)
theorem dX1_inRange_1 : decode cX1_inRange 1 = .ok (.iload_n 1, 1) := dk_27 (dk_at dksX1_inRange_0 1 rfl rfl)
theorem dX1_inRange_2 : decode cX1_inRange 2 = .ok (.if_icmp .lt 12, 3) := dk_161 0 12 (dk_at dksX1_inRange_0 2 rfl rfl)
theorem dX1_inRange_5 : decode cX1_inRange 5 = .ok (.iload_n 0, 1) := dk_26 (dk_at dksX1_inRange_0 5 rfl rfl)
theorem dX1_inRange_6 : decode cX1_inRange 6 = .ok (.iload_n 2, 1) := dk_28 (dk_at dksX1_inRange_0 6 rfl rfl)
theorem dX1_inRange_7 : decode cX1_inRange 7 = .ok (.if_icmp .gt 7, 3) := dk_163 0 7 (dk_at dksX1_inRange_0 7 rfl rfl)
theorem dX1_inRange_10 : decode cX1_inRange 10 = .ok (.iconst 1, 1) := dk_4 (dk_at dksX1_inRange_0 10 rfl rfl)
theorem dX1_inRange_11 : decode cX1_inRange 11 = .ok (.goto 4, 3) := dk_167 0 4 (dk_at dksX1_inRange_0 11 rfl rfl)
theorem dX1_inRange_14 : decode cX1_inRange 14 = .ok (.iconst 0, 1) := dk_3 (dk_at dksX1_inRange_0 14 rfl rfl)
theorem dX1_inRange_15 : decode cX1_inRange 15 = .ok (.ireturn, 1) := dk_172 (dk_at dksX1_inRange_0 15 rfl rfl)
abbrev cX1_checkArgument : ByteArray := prog_1_method_3_code
def yX1_checkArgument : MethodName := ⟨RX1, "checkArgument", "(Z)V"⟩
def dkwX1_checkArgument_0 : List UInt8 := [26, 154, 0, 11, 187, 0, 1, 89, 183, 0, 3, 191, 177]
abbrev dktX1_checkArgument_0 : List UInt8 := dkwX1_checkArgument_0 ++ []
theorem dksX1_checkArgument_0 : cX1_checkArgument.data.toList.drop 0 = dktX1_checkArgument_0 := by decide +kernel
theorem dX1_checkArgument_0 : decode cX1_checkArgument 0 = .ok (.iload_n 0, 1) := dk_26 (dk_at dksX1_checkArgument_0 0 rfl rfl)
theorem dX1_checkArgument_1 : decode cX1_checkArgument 1 = .ok (.ifCond .ne 11, 3) := dk_154 0 11 (dk_at dksX1_checkArgument_0 1 rfl rfl)
theorem dX1_checkArgument_4 : decode cX1_checkArgument 4 = .ok (.new 1, 3) := dk_187 0 1 (dk_at dksX1_checkArgument_0 4 rfl rfl)
theorem dX1_checkArgument_7 : decode cX1_checkArgument 7 = .ok (.dup, 1) := dk_89 (dk_at dksX1_checkArgument_0 7 rfl rfl)
theorem dX1_checkArgument_8 : decode cX1_checkArgument 8 = .ok (.invokespecial 3, 3) := dk_183 0 3 (dk_at dksX1_checkArgument_0 8 rfl rfl)
theorem dX1_checkArgument_11 : decode cX1_checkArgument 11 = .ok (.athrow, 1) := dk_191 (dk_at dksX1_checkArgument_0 11 rfl rfl)
theorem dX1_checkArgument_12 : decode cX1_checkArgument 12 = .ok (.return_, 1) := dk_177 (dk_at dksX1_checkArgument_0 12 rfl rfl)
abbrev cX1_refuse : ByteArray := prog_1_method_7_code
def yX1_refuse : MethodName := ⟨RX1, "refuse", "(ZII)V"⟩
def dkwX1_refuse_0 : List UInt8 := [26, 153, 0, 13, 187, 0, 22, 89, 27, 28, 183, 0, 24, 191, 177]
abbrev dktX1_refuse_0 : List UInt8 := dkwX1_refuse_0 ++ []
theorem dksX1_refuse_0 : cX1_refuse.data.toList.drop 0 = dktX1_refuse_0 := by decide +kernel
theorem dX1_refuse_0 : decode cX1_refuse 0 = .ok (.iload_n 0, 1) := dk_26 (dk_at dksX1_refuse_0 0 rfl rfl)
theorem dX1_refuse_1 : decode cX1_refuse 1 = .ok (.ifCond .eq 13, 3) := dk_153 0 13 (dk_at dksX1_refuse_0 1 rfl rfl)
theorem dX1_refuse_4 : decode cX1_refuse 4 = .ok (.new 22, 3) := dk_187 0 22 (dk_at dksX1_refuse_0 4 rfl rfl)
theorem dX1_refuse_7 : decode cX1_refuse 7 = .ok (.dup, 1) := dk_89 (dk_at dksX1_refuse_0 7 rfl rfl)
theorem dX1_refuse_8 : decode cX1_refuse 8 = .ok (.iload_n 1, 1) := dk_27 (dk_at dksX1_refuse_0 8 rfl rfl)
theorem dX1_refuse_9 : decode cX1_refuse 9 = .ok (.iload_n 2, 1) := dk_28 (dk_at dksX1_refuse_0 9 rfl rfl)
theorem dX1_refuse_10 : decode cX1_refuse 10 = .ok (.invokespecial 24, 3) := dk_183 0 24 (dk_at dksX1_refuse_0 10 rfl rfl)
theorem dX1_refuse_13 : decode cX1_refuse 13 = .ok (.athrow, 1) := dk_191 (dk_at dksX1_refuse_0 13 rfl rfl)
theorem dX1_refuse_14 : decode cX1_refuse 14 = .ok (.return_, 1) := dk_177 (dk_at dksX1_refuse_0 14 rfl rfl)
abbrev cX1_checkIndex : ByteArray := prog_1_method_5_code
def yX1_checkIndex : MethodName := ⟨RX1, "checkIndex", "(II)V"⟩
def dkwX1_checkIndex_0 : List UInt8 := [26, 3, 27, 4, 100, 184, 0, 10, 154, 0, 11, 187, 0, 16, 89, 183, 0, 18, 191, 177]
abbrev dktX1_checkIndex_0 : List UInt8 := dkwX1_checkIndex_0 ++ []
theorem dksX1_checkIndex_0 : cX1_checkIndex.data.toList.drop 0 = dktX1_checkIndex_0 := by decide +kernel
theorem dX1_checkIndex_0 : decode cX1_checkIndex 0 = .ok (.iload_n 0, 1) := dk_26 (dk_at dksX1_checkIndex_0 0 rfl rfl)
theorem dX1_checkIndex_1 : decode cX1_checkIndex 1 = .ok (.iconst 0, 1) := dk_3 (dk_at dksX1_checkIndex_0 1 rfl rfl)
theorem dX1_checkIndex_2 : decode cX1_checkIndex 2 = .ok (.iload_n 1, 1) := dk_27 (dk_at dksX1_checkIndex_0 2 rfl rfl)
theorem dX1_checkIndex_3 : decode cX1_checkIndex 3 = .ok (.iconst 1, 1) := dk_4 (dk_at dksX1_checkIndex_0 3 rfl rfl)
theorem dX1_checkIndex_4 : decode cX1_checkIndex 4 = .ok (.isub, 1) := dk_100 (dk_at dksX1_checkIndex_0 4 rfl rfl)
theorem dX1_checkIndex_5 : decode cX1_checkIndex 5 = .ok (.invokestatic 10, 3) := dk_184 0 10 (dk_at dksX1_checkIndex_0 5 rfl rfl)
theorem dX1_checkIndex_8 : decode cX1_checkIndex 8 = .ok (.ifCond .ne 11, 3) := dk_154 0 11 (dk_at dksX1_checkIndex_0 8 rfl rfl)
theorem dX1_checkIndex_11 : decode cX1_checkIndex 11 = .ok (.new 16, 3) := dk_187 0 16 (dk_at dksX1_checkIndex_0 11 rfl rfl)
theorem dX1_checkIndex_14 : decode cX1_checkIndex 14 = .ok (.dup, 1) := dk_89 (dk_at dksX1_checkIndex_0 14 rfl rfl)
theorem dX1_checkIndex_15 : decode cX1_checkIndex 15 = .ok (.invokespecial 18, 3) := dk_183 0 18 (dk_at dksX1_checkIndex_0 15 rfl rfl)
theorem dX1_checkIndex_18 : decode cX1_checkIndex 18 = .ok (.athrow, 1) := dk_191 (dk_at dksX1_checkIndex_0 18 rfl rfl)
theorem dX1_checkIndex_19 : decode cX1_checkIndex 19 = .ok (.return_, 1) := dk_177 (dk_at dksX1_checkIndex_0 19 rfl rfl)
abbrev cX1_checkFound : ByteArray := prog_1_method_6_code
def yX1_checkFound : MethodName := ⟨RX1, "checkFound", "(Z)V"⟩
def dkwX1_checkFound_0 : List UInt8 := [26, 154, 0, 11, 187, 0, 19, 89, 183, 0, 21, 191, 177]
abbrev dktX1_checkFound_0 : List UInt8 := dkwX1_checkFound_0 ++ []
theorem dksX1_checkFound_0 : cX1_checkFound.data.toList.drop 0 = dktX1_checkFound_0 := by decide +kernel
theorem dX1_checkFound_0 : decode cX1_checkFound 0 = .ok (.iload_n 0, 1) := dk_26 (dk_at dksX1_checkFound_0 0 rfl rfl)
theorem dX1_checkFound_1 : decode cX1_checkFound 1 = .ok (.ifCond .ne 11, 3) := dk_154 0 11 (dk_at dksX1_checkFound_0 1 rfl rfl)
theorem dX1_checkFound_4 : decode cX1_checkFound 4 = .ok (.new 19, 3) := dk_187 0 19 (dk_at dksX1_checkFound_0 4 rfl rfl)
theorem dX1_checkFound_7 : decode cX1_checkFound 7 = .ok (.dup, 1) := dk_89 (dk_at dksX1_checkFound_0 7 rfl rfl)
theorem dX1_checkFound_8 : decode cX1_checkFound 8 = .ok (.invokespecial 21, 3) := dk_183 0 21 (dk_at dksX1_checkFound_0 8 rfl rfl)
theorem dX1_checkFound_11 : decode cX1_checkFound 11 = .ok (.athrow, 1) := dk_191 (dk_at dksX1_checkFound_0 11 rfl rfl)
theorem dX1_checkFound_12 : decode cX1_checkFound 12 = .ok (.return_, 1) := dk_177 (dk_at dksX1_checkFound_0 12 rfl rfl)
abbrev cX1_change : ByteArray := prog_1_method_9_code
def yX1_change : MethodName := ⟨RX1, "change", "(LCavePearls$World;)V"⟩
def dkwX1_change_1 : List UInt8 := [180, 0, 40, 42, 180, 0, 33, 182, 0, 63, 42, 43, 181, 0, 33, 177]
abbrev dktX1_change_1 : List UInt8 := dkwX1_change_1 ++ []
def dkwX1_change_0 : List UInt8 := [42, 180, 0, 40, 182, 0, 55, 16, 8, 160, 0, 14, 42, 180, 0, 40, 182, 0, 59, 192, 0, 30, 77, 42]
abbrev dktX1_change_0 : List UInt8 := dkwX1_change_0 ++ dktX1_change_1
theorem dksX1_change_0 : cX1_change.data.toList.drop 0 = dktX1_change_0 := by decide +kernel
theorem dksX1_change_1 : cX1_change.data.toList.drop 24 = dktX1_change_1 := dk_seg dksX1_change_0 24 rfl rfl
theorem dX1_change_0 : decode cX1_change 0 = .ok (.aload_n 0, 1) := dk_42 (dk_at dksX1_change_0 0 rfl rfl)
theorem dX1_change_1 : decode cX1_change 1 = .ok (.getfield 40, 3) := dk_180 0 40 (dk_at dksX1_change_0 1 rfl rfl)
theorem dX1_change_4 : decode cX1_change 4 = .ok (.invokevirtual 55, 3) := dk_182 0 55 (dk_at dksX1_change_0 4 rfl rfl)
theorem dX1_change_7 : decode cX1_change 7 = .ok (.bipush 8, 2) := dk_16 8 (dk_at dksX1_change_0 7 rfl rfl)
theorem dX1_change_9 : decode cX1_change 9 = .ok (.if_icmp .ne 14, 3) := dk_160 0 14 (dk_at dksX1_change_0 9 rfl rfl)
theorem dX1_change_12 : decode cX1_change 12 = .ok (.aload_n 0, 1) := dk_42 (dk_at dksX1_change_0 12 rfl rfl)
theorem dX1_change_13 : decode cX1_change 13 = .ok (.getfield 40, 3) := dk_180 0 40 (dk_at dksX1_change_0 13 rfl rfl)
theorem dX1_change_16 : decode cX1_change 16 = .ok (.invokevirtual 59, 3) := dk_182 0 59 (dk_at dksX1_change_0 16 rfl rfl)
theorem dX1_change_19 : decode cX1_change 19 = .ok (.checkcast 30, 3) := dk_192 0 30 (dk_at dksX1_change_0 19 rfl rfl)
theorem dX1_change_22 : decode cX1_change 22 = .ok (.astore_n 2, 1) := dk_77 (dk_at dksX1_change_0 22 rfl rfl)
theorem dX1_change_23 : decode cX1_change 23 = .ok (.aload_n 0, 1) := dk_42 (dk_at dksX1_change_0 23 rfl rfl)
theorem dX1_change_24 : decode cX1_change 24 = .ok (.getfield 40, 3) := dk_180 0 40 (dk_at dksX1_change_1 0 rfl rfl)
theorem dX1_change_27 : decode cX1_change 27 = .ok (.aload_n 0, 1) := dk_42 (dk_at dksX1_change_1 3 rfl rfl)
theorem dX1_change_28 : decode cX1_change 28 = .ok (.getfield 33, 3) := dk_180 0 33 (dk_at dksX1_change_1 4 rfl rfl)
theorem dX1_change_31 : decode cX1_change 31 = .ok (.invokevirtual 63, 3) := dk_182 0 63 (dk_at dksX1_change_1 7 rfl rfl)
theorem dX1_change_34 : decode cX1_change 34 = .ok (.aload_n 0, 1) := dk_42 (dk_at dksX1_change_1 10 rfl rfl)
theorem dX1_change_35 : decode cX1_change 35 = .ok (.aload_n 1, 1) := dk_43 (dk_at dksX1_change_1 11 rfl rfl)
theorem dX1_change_36 : decode cX1_change 36 = .ok (.putfield 33, 3) := dk_181 0 33 (dk_at dksX1_change_1 12 rfl rfl)
theorem dX1_change_39 : decode cX1_change 39 = .ok (.return_, 1) := dk_177 (dk_at dksX1_change_1 15 rfl rfl)
abbrev cX1_pool : ByteArray := prog_1_method_13_code
def yX1_pool : MethodName := ⟨RX1, "pool", "(II)I"⟩
def dkwX1_pool_3 : List UInt8 := [42, 27, 182, 0, 138, 167, 0, 14, 45, 180, 0, 142, 167, 0, 7, 45, 180, 0, 145, 172]
abbrev dktX1_pool_3 : List UInt8 := dkwX1_pool_3 ++ []
def dkwX1_pool_2 : List UInt8 := [45, 180, 0, 126, 167, 0, 39, 45, 180, 0, 131, 167, 0, 32, 45, 180, 0, 134, 182, 0, 137, 167, 0, 22]
abbrev dktX1_pool_2 : List UInt8 := dkwX1_pool_2 ++ dktX1_pool_3
def dkwX1_pool_1 : List UInt8 := [170, 0, 0, 0, 72, 0, 0, 0, 0, 0, 0, 0, 4, 0, 0, 0, 33, 0, 0, 0, 40, 0, 0, 0, 47, 0, 0, 0, 57, 0, 0, 0, 65]
abbrev dktX1_pool_1 : List UInt8 := dkwX1_pool_1 ++ dktX1_pool_2
def dkwX1_pool_0 : List UInt8 := [42, 180, 0, 33, 27, 182, 0, 119, 78, 28, 3, 8, 184, 0, 10, 184, 0, 122, 28]
abbrev dktX1_pool_0 : List UInt8 := dkwX1_pool_0 ++ dktX1_pool_1
theorem dksX1_pool_0 : cX1_pool.data.toList.drop 0 = dktX1_pool_0 := by decide +kernel
theorem dksX1_pool_1 : cX1_pool.data.toList.drop 19 = dktX1_pool_1 := dk_seg dksX1_pool_0 19 rfl rfl
theorem dksX1_pool_2 : cX1_pool.data.toList.drop 52 = dktX1_pool_2 := dk_seg dksX1_pool_1 33 rfl rfl
theorem dksX1_pool_3 : cX1_pool.data.toList.drop 76 = dktX1_pool_3 := dk_seg dksX1_pool_2 24 rfl rfl
theorem dX1_pool_0 : decode cX1_pool 0 = .ok (.aload_n 0, 1) := dk_42 (dk_at dksX1_pool_0 0 rfl rfl)
theorem dX1_pool_1 : decode cX1_pool 1 = .ok (.getfield 33, 3) := dk_180 0 33 (dk_at dksX1_pool_0 1 rfl rfl)
theorem dX1_pool_4 : decode cX1_pool 4 = .ok (.iload_n 1, 1) := dk_27 (dk_at dksX1_pool_0 4 rfl rfl)
theorem dX1_pool_5 : decode cX1_pool 5 = .ok (.invokevirtual 119, 3) := dk_182 0 119 (dk_at dksX1_pool_0 5 rfl rfl)
theorem dX1_pool_8 : decode cX1_pool 8 = .ok (.astore_n 3, 1) := dk_78 (dk_at dksX1_pool_0 8 rfl rfl)
theorem dX1_pool_9 : decode cX1_pool 9 = .ok (.iload_n 2, 1) := dk_28 (dk_at dksX1_pool_0 9 rfl rfl)
theorem dX1_pool_10 : decode cX1_pool 10 = .ok (.iconst 0, 1) := dk_3 (dk_at dksX1_pool_0 10 rfl rfl)
theorem dX1_pool_11 : decode cX1_pool 11 = .ok (.iconst 5, 1) := dk_8 (dk_at dksX1_pool_0 11 rfl rfl)
theorem dX1_pool_12 : decode cX1_pool 12 = .ok (.invokestatic 10, 3) := dk_184 0 10 (dk_at dksX1_pool_0 12 rfl rfl)
theorem dX1_pool_15 : decode cX1_pool 15 = .ok (.invokestatic 122, 3) := dk_184 0 122 (dk_at dksX1_pool_0 15 rfl rfl)
theorem dX1_pool_18 : decode cX1_pool 18 = .ok (.iload_n 2, 1) := dk_28 (dk_at dksX1_pool_0 18 rfl rfl)
theorem dX1_pool_19 : decode cX1_pool 19 = .ok (.tableswitch 72 0 4 #[33, 40, 47, 57, 65], 33) := by decide +kernel
theorem dX1_pool_52 : decode cX1_pool 52 = .ok (.aload_n 3, 1) := dk_45 (dk_at dksX1_pool_2 0 rfl rfl)
theorem dX1_pool_53 : decode cX1_pool 53 = .ok (.getfield 126, 3) := dk_180 0 126 (dk_at dksX1_pool_2 1 rfl rfl)
theorem dX1_pool_56 : decode cX1_pool 56 = .ok (.goto 39, 3) := dk_167 0 39 (dk_at dksX1_pool_2 4 rfl rfl)
theorem dX1_pool_59 : decode cX1_pool 59 = .ok (.aload_n 3, 1) := dk_45 (dk_at dksX1_pool_2 7 rfl rfl)
theorem dX1_pool_60 : decode cX1_pool 60 = .ok (.getfield 131, 3) := dk_180 0 131 (dk_at dksX1_pool_2 8 rfl rfl)
theorem dX1_pool_63 : decode cX1_pool 63 = .ok (.goto 32, 3) := dk_167 0 32 (dk_at dksX1_pool_2 11 rfl rfl)
theorem dX1_pool_66 : decode cX1_pool 66 = .ok (.aload_n 3, 1) := dk_45 (dk_at dksX1_pool_2 14 rfl rfl)
theorem dX1_pool_67 : decode cX1_pool 67 = .ok (.getfield 134, 3) := dk_180 0 134 (dk_at dksX1_pool_2 15 rfl rfl)
theorem dX1_pool_70 : decode cX1_pool 70 = .ok (.invokevirtual 137, 3) := dk_182 0 137 (dk_at dksX1_pool_2 18 rfl rfl)
theorem dX1_pool_73 : decode cX1_pool 73 = .ok (.goto 22, 3) := dk_167 0 22 (dk_at dksX1_pool_2 21 rfl rfl)
theorem dX1_pool_76 : decode cX1_pool 76 = .ok (.aload_n 0, 1) := dk_42 (dk_at dksX1_pool_3 0 rfl rfl)
theorem dX1_pool_77 : decode cX1_pool 77 = .ok (.iload_n 1, 1) := dk_27 (dk_at dksX1_pool_3 1 rfl rfl)
theorem dX1_pool_78 : decode cX1_pool 78 = .ok (.invokevirtual 138, 3) := dk_182 0 138 (dk_at dksX1_pool_3 2 rfl rfl)
theorem dX1_pool_81 : decode cX1_pool 81 = .ok (.goto 14, 3) := dk_167 0 14 (dk_at dksX1_pool_3 5 rfl rfl)
theorem dX1_pool_84 : decode cX1_pool 84 = .ok (.aload_n 3, 1) := dk_45 (dk_at dksX1_pool_3 8 rfl rfl)
theorem dX1_pool_85 : decode cX1_pool 85 = .ok (.getfield 142, 3) := dk_180 0 142 (dk_at dksX1_pool_3 9 rfl rfl)
theorem dX1_pool_88 : decode cX1_pool 88 = .ok (.goto 7, 3) := dk_167 0 7 (dk_at dksX1_pool_3 12 rfl rfl)
theorem dX1_pool_91 : decode cX1_pool 91 = .ok (.aload_n 3, 1) := dk_45 (dk_at dksX1_pool_3 15 rfl rfl)
theorem dX1_pool_92 : decode cX1_pool 92 = .ok (.getfield 145, 3) := dk_180 0 145 (dk_at dksX1_pool_3 16 rfl rfl)
theorem dX1_pool_95 : decode cX1_pool 95 = .ok (.ireturn, 1) := dk_172 (dk_at dksX1_pool_3 19 rfl rfl)
abbrev cX1_stonesAbove : ByteArray := prog_1_method_12_code
def yX1_stonesAbove : MethodName := ⟨RX1, "stonesAbove", "(I)I"⟩
def dkwX1_stonesAbove_2 : List UInt8 := [3, 96, 61, 167, 255, 219, 28, 172]
abbrev dktX1_stonesAbove_2 : List UInt8 := dkwX1_stonesAbove_2 ++ []
def dkwX1_stonesAbove_1 : List UInt8 := [185, 0, 110, 1, 0, 192, 0, 113, 58, 4, 28, 25, 4, 180, 0, 115, 27, 160, 0, 7, 4, 167, 0, 4]
abbrev dktX1_stonesAbove_1 : List UInt8 := dkwX1_stonesAbove_1 ++ dktX1_stonesAbove_2
def dkwX1_stonesAbove_0 : List UInt8 := [3, 61, 42, 180, 0, 33, 180, 0, 94, 182, 0, 98, 78, 45, 185, 0, 104, 1, 0, 153, 0, 34, 45]
abbrev dktX1_stonesAbove_0 : List UInt8 := dkwX1_stonesAbove_0 ++ dktX1_stonesAbove_1
theorem dksX1_stonesAbove_0 : cX1_stonesAbove.data.toList.drop 0 = dktX1_stonesAbove_0 := by decide +kernel
theorem dksX1_stonesAbove_1 : cX1_stonesAbove.data.toList.drop 23 = dktX1_stonesAbove_1 := dk_seg dksX1_stonesAbove_0 23 rfl rfl
theorem dksX1_stonesAbove_2 : cX1_stonesAbove.data.toList.drop 47 = dktX1_stonesAbove_2 := dk_seg dksX1_stonesAbove_1 24 rfl rfl
theorem dX1_stonesAbove_0 : decode cX1_stonesAbove 0 = .ok (.iconst 0, 1) := dk_3 (dk_at dksX1_stonesAbove_0 0 rfl rfl)
theorem dX1_stonesAbove_1 : decode cX1_stonesAbove 1 = .ok (.istore_n 2, 1) := dk_61 (dk_at dksX1_stonesAbove_0 1 rfl rfl)
theorem dX1_stonesAbove_2 : decode cX1_stonesAbove 2 = .ok (.aload_n 0, 1) := dk_42 (dk_at dksX1_stonesAbove_0 2 rfl rfl)
theorem dX1_stonesAbove_3 : decode cX1_stonesAbove 3 = .ok (.getfield 33, 3) := dk_180 0 33 (dk_at dksX1_stonesAbove_0 3 rfl rfl)
theorem dX1_stonesAbove_6 : decode cX1_stonesAbove 6 = .ok (.getfield 94, 3) := dk_180 0 94 (dk_at dksX1_stonesAbove_0 6 rfl rfl)
theorem dX1_stonesAbove_9 : decode cX1_stonesAbove 9 = .ok (.invokevirtual 98, 3) := dk_182 0 98 (dk_at dksX1_stonesAbove_0 9 rfl rfl)
theorem dX1_stonesAbove_12 : decode cX1_stonesAbove 12 = .ok (.astore_n 3, 1) := dk_78 (dk_at dksX1_stonesAbove_0 12 rfl rfl)
theorem dX1_stonesAbove_13 : decode cX1_stonesAbove 13 = .ok (.aload_n 3, 1) := dk_45 (dk_at dksX1_stonesAbove_0 13 rfl rfl)
theorem dX1_stonesAbove_14 : decode cX1_stonesAbove 14 = .ok (.invokeinterface 104 1, 5) := by decide +kernel
theorem dX1_stonesAbove_19 : decode cX1_stonesAbove 19 = .ok (.ifCond .eq 34, 3) := dk_153 0 34 (dk_at dksX1_stonesAbove_0 19 rfl rfl)
theorem dX1_stonesAbove_22 : decode cX1_stonesAbove 22 = .ok (.aload_n 3, 1) := dk_45 (dk_at dksX1_stonesAbove_0 22 rfl rfl)
theorem dX1_stonesAbove_23 : decode cX1_stonesAbove 23 = .ok (.invokeinterface 110 1, 5) := by decide +kernel
theorem dX1_stonesAbove_28 : decode cX1_stonesAbove 28 = .ok (.checkcast 113, 3) := dk_192 0 113 (dk_at dksX1_stonesAbove_1 5 rfl rfl)
theorem dX1_stonesAbove_31 : decode cX1_stonesAbove 31 = .ok (.astore 4, 2) := dk_58 4 (dk_at dksX1_stonesAbove_1 8 rfl rfl)
theorem dX1_stonesAbove_33 : decode cX1_stonesAbove 33 = .ok (.iload_n 2, 1) := dk_28 (dk_at dksX1_stonesAbove_1 10 rfl rfl)
theorem dX1_stonesAbove_34 : decode cX1_stonesAbove 34 = .ok (.aload 4, 2) := dk_25 4 (dk_at dksX1_stonesAbove_1 11 rfl rfl)
theorem dX1_stonesAbove_36 : decode cX1_stonesAbove 36 = .ok (.getfield 115, 3) := dk_180 0 115 (dk_at dksX1_stonesAbove_1 13 rfl rfl)
theorem dX1_stonesAbove_39 : decode cX1_stonesAbove 39 = .ok (.iload_n 1, 1) := dk_27 (dk_at dksX1_stonesAbove_1 16 rfl rfl)
theorem dX1_stonesAbove_40 : decode cX1_stonesAbove 40 = .ok (.if_icmp .ne 7, 3) := dk_160 0 7 (dk_at dksX1_stonesAbove_1 17 rfl rfl)
theorem dX1_stonesAbove_43 : decode cX1_stonesAbove 43 = .ok (.iconst 1, 1) := dk_4 (dk_at dksX1_stonesAbove_1 20 rfl rfl)
theorem dX1_stonesAbove_44 : decode cX1_stonesAbove 44 = .ok (.goto 4, 3) := dk_167 0 4 (dk_at dksX1_stonesAbove_1 21 rfl rfl)
theorem dX1_stonesAbove_47 : decode cX1_stonesAbove 47 = .ok (.iconst 0, 1) := dk_3 (dk_at dksX1_stonesAbove_2 0 rfl rfl)
theorem dX1_stonesAbove_48 : decode cX1_stonesAbove 48 = .ok (.iadd, 1) := dk_96 (dk_at dksX1_stonesAbove_2 1 rfl rfl)
theorem dX1_stonesAbove_49 : decode cX1_stonesAbove 49 = .ok (.istore_n 2, 1) := dk_61 (dk_at dksX1_stonesAbove_2 2 rfl rfl)
theorem dX1_stonesAbove_50 : decode cX1_stonesAbove 50 = .ok (.goto (-37), 3) := dk_167 255 219 (dk_at dksX1_stonesAbove_2 3 rfl rfl)
theorem dX1_stonesAbove_53 : decode cX1_stonesAbove 53 = .ok (.iload_n 2, 1) := dk_28 (dk_at dksX1_stonesAbove_2 6 rfl rfl)
theorem dX1_stonesAbove_54 : decode cX1_stonesAbove 54 = .ok (.ireturn, 1) := dk_172 (dk_at dksX1_stonesAbove_2 7 rfl rfl)
abbrev cX1_addPearl : ByteArray := prog_1_method_14_code
def yX1_addPearl : MethodName := ⟨RX1, "addPearl", "(II)I"⟩
def dkwX1_addPearl_0 : List UInt8 := [42, 187, 0, 148, 89, 42, 27, 28, 183, 0, 150, 182, 0, 91, 172]
abbrev dktX1_addPearl_0 : List UInt8 := dkwX1_addPearl_0 ++ []
theorem dksX1_addPearl_0 : cX1_addPearl.data.toList.drop 0 = dktX1_addPearl_0 := by decide +kernel
theorem dX1_addPearl_0 : decode cX1_addPearl 0 = .ok (.aload_n 0, 1) := dk_42 (dk_at dksX1_addPearl_0 0 rfl rfl)
theorem dX1_addPearl_1 : decode cX1_addPearl 1 = .ok (.new 148, 3) := dk_187 0 148 (dk_at dksX1_addPearl_0 1 rfl rfl)
theorem dX1_addPearl_4 : decode cX1_addPearl 4 = .ok (.dup, 1) := dk_89 (dk_at dksX1_addPearl_0 4 rfl rfl)
theorem dX1_addPearl_5 : decode cX1_addPearl 5 = .ok (.aload_n 0, 1) := dk_42 (dk_at dksX1_addPearl_0 5 rfl rfl)
theorem dX1_addPearl_6 : decode cX1_addPearl 6 = .ok (.iload_n 1, 1) := dk_27 (dk_at dksX1_addPearl_0 6 rfl rfl)
theorem dX1_addPearl_7 : decode cX1_addPearl 7 = .ok (.iload_n 2, 1) := dk_28 (dk_at dksX1_addPearl_0 7 rfl rfl)
theorem dX1_addPearl_8 : decode cX1_addPearl 8 = .ok (.invokespecial 150, 3) := dk_183 0 150 (dk_at dksX1_addPearl_0 8 rfl rfl)
theorem dX1_addPearl_11 : decode cX1_addPearl 11 = .ok (.invokevirtual 91, 3) := dk_182 0 91 (dk_at dksX1_addPearl_0 11 rfl rfl)
theorem dX1_addPearl_14 : decode cX1_addPearl 14 = .ok (.ireturn, 1) := dk_172 (dk_at dksX1_addPearl_0 14 rfl rfl)
abbrev cX1_takePearl : ByteArray := prog_1_method_15_code
def yX1_takePearl : MethodName := ⟨RX1, "takePearl", "(II)I"⟩
def dkwX1_takePearl_0 : List UInt8 := [42, 187, 0, 153, 89, 42, 27, 28, 183, 0, 155, 182, 0, 91, 172]
abbrev dktX1_takePearl_0 : List UInt8 := dkwX1_takePearl_0 ++ []
theorem dksX1_takePearl_0 : cX1_takePearl.data.toList.drop 0 = dktX1_takePearl_0 := by decide +kernel
theorem dX1_takePearl_0 : decode cX1_takePearl 0 = .ok (.aload_n 0, 1) := dk_42 (dk_at dksX1_takePearl_0 0 rfl rfl)
theorem dX1_takePearl_1 : decode cX1_takePearl 1 = .ok (.new 153, 3) := dk_187 0 153 (dk_at dksX1_takePearl_0 1 rfl rfl)
theorem dX1_takePearl_4 : decode cX1_takePearl 4 = .ok (.dup, 1) := dk_89 (dk_at dksX1_takePearl_0 4 rfl rfl)
theorem dX1_takePearl_5 : decode cX1_takePearl 5 = .ok (.aload_n 0, 1) := dk_42 (dk_at dksX1_takePearl_0 5 rfl rfl)
theorem dX1_takePearl_6 : decode cX1_takePearl 6 = .ok (.iload_n 1, 1) := dk_27 (dk_at dksX1_takePearl_0 6 rfl rfl)
theorem dX1_takePearl_7 : decode cX1_takePearl 7 = .ok (.iload_n 2, 1) := dk_28 (dk_at dksX1_takePearl_0 7 rfl rfl)
theorem dX1_takePearl_8 : decode cX1_takePearl 8 = .ok (.invokespecial 155, 3) := dk_183 0 155 (dk_at dksX1_takePearl_0 8 rfl rfl)
theorem dX1_takePearl_11 : decode cX1_takePearl 11 = .ok (.invokevirtual 91, 3) := dk_182 0 91 (dk_at dksX1_takePearl_0 11 rfl rfl)
theorem dX1_takePearl_14 : decode cX1_takePearl 14 = .ok (.ireturn, 1) := dk_172 (dk_at dksX1_takePearl_0 14 rfl rfl)
abbrev cX1_pearl : ByteArray := prog_1_method_16_code
def yX1_pearl : MethodName := ⟨RX1, "pearl", "(II)I"⟩
def dkwX1_pearl_0 : List UInt8 := [42, 180, 0, 33, 27, 182, 0, 119, 28, 182, 0, 156, 180, 0, 160, 172]
abbrev dktX1_pearl_0 : List UInt8 := dkwX1_pearl_0 ++ []
theorem dksX1_pearl_0 : cX1_pearl.data.toList.drop 0 = dktX1_pearl_0 := by decide +kernel
theorem dX1_pearl_0 : decode cX1_pearl 0 = .ok (.aload_n 0, 1) := dk_42 (dk_at dksX1_pearl_0 0 rfl rfl)
theorem dX1_pearl_1 : decode cX1_pearl 1 = .ok (.getfield 33, 3) := dk_180 0 33 (dk_at dksX1_pearl_0 1 rfl rfl)
theorem dX1_pearl_4 : decode cX1_pearl 4 = .ok (.iload_n 1, 1) := dk_27 (dk_at dksX1_pearl_0 4 rfl rfl)
theorem dX1_pearl_5 : decode cX1_pearl 5 = .ok (.invokevirtual 119, 3) := dk_182 0 119 (dk_at dksX1_pearl_0 5 rfl rfl)
theorem dX1_pearl_8 : decode cX1_pearl 8 = .ok (.iload_n 2, 1) := dk_28 (dk_at dksX1_pearl_0 8 rfl rfl)
theorem dX1_pearl_9 : decode cX1_pearl 9 = .ok (.invokevirtual 156, 3) := dk_182 0 156 (dk_at dksX1_pearl_0 9 rfl rfl)
theorem dX1_pearl_12 : decode cX1_pearl 12 = .ok (.getfield 160, 3) := dk_180 0 160 (dk_at dksX1_pearl_0 12 rfl rfl)
theorem dX1_pearl_15 : decode cX1_pearl 15 = .ok (.ireturn, 1) := dk_172 (dk_at dksX1_pearl_0 15 rfl rfl)
abbrev cX1_ranked : ByteArray := prog_1_method_17_code
def yX1_ranked : MethodName := ⟨RX1, "ranked", "(I)I"⟩
def dkwX1_ranked_7 : List UInt8 := [182, 0, 196, 54, 5, 132, 4, 1, 167, 255, 233, 45, 185, 0, 110, 1, 0, 192, 0, 176, 182, 0, 196, 172]
abbrev dktX1_ranked_7 : List UInt8 := dkwX1_ranked_7 ++ []
def dkwX1_ranked_6 : List UInt8 := [185, 0, 193, 1, 0, 78, 3, 54, 4, 21, 4, 27, 162, 0, 23, 45, 185, 0, 110, 1, 0, 192, 0, 176]
abbrev dktX1_ranked_6 : List UInt8 := dkwX1_ranked_6 ++ dktX1_ranked_7
def dkwX1_ranked_5 : List UInt8 := [167, 255, 148, 27, 3, 44, 182, 0, 185, 4, 100, 184, 0, 10, 184, 0, 186, 44, 182, 0, 189]
abbrev dktX1_ranked_5 : List UInt8 := dkwX1_ranked_5 ++ dktX1_ranked_6
def dkwX1_ranked_4 : List UInt8 := [21, 4, 96, 184, 0, 175, 182, 0, 181, 192, 0, 176, 58, 7, 132, 4, 1, 167, 255, 190, 132, 3, 1]
abbrev dktX1_ranked_4 : List UInt8 := dkwX1_ranked_4 ++ dktX1_ranked_5
def dkwX1_ranked_3 : List UInt8 := [16, 99, 25, 6, 180, 0, 160, 100, 104, 16, 10, 29, 104, 96, 21, 4, 96, 184, 0, 175, 16, 10, 29, 104]
abbrev dktX1_ranked_3 : List UInt8 := dkwX1_ranked_3 ++ dktX1_ranked_4
def dkwX1_ranked_2 : List UInt8 := [185, 0, 104, 1, 0, 153, 0, 62, 25, 5, 185, 0, 110, 1, 0, 192, 0, 161, 58, 6, 44, 16, 100]
abbrev dktX1_ranked_2 : List UInt8 := dkwX1_ranked_2 ++ dktX1_ranked_3
def dkwX1_ranked_1 : List UInt8 := [3, 54, 4, 42, 180, 0, 33, 180, 0, 167, 29, 182, 0, 170, 192, 0, 127, 182, 0, 174, 58, 5, 25, 5]
abbrev dktX1_ranked_1 : List UInt8 := dkwX1_ranked_1 ++ dktX1_ranked_2
def dkwX1_ranked_0 : List UInt8 := [187, 0, 164, 89, 183, 0, 166, 77, 3, 62, 29, 42, 180, 0, 33, 180, 0, 167, 182, 0, 137, 162, 0, 100]
abbrev dktX1_ranked_0 : List UInt8 := dkwX1_ranked_0 ++ dktX1_ranked_1
theorem dksX1_ranked_0 : cX1_ranked.data.toList.drop 0 = dktX1_ranked_0 := by decide +kernel
theorem dksX1_ranked_1 : cX1_ranked.data.toList.drop 24 = dktX1_ranked_1 := dk_seg dksX1_ranked_0 24 rfl rfl
theorem dksX1_ranked_2 : cX1_ranked.data.toList.drop 48 = dktX1_ranked_2 := dk_seg dksX1_ranked_1 24 rfl rfl
theorem dksX1_ranked_3 : cX1_ranked.data.toList.drop 71 = dktX1_ranked_3 := dk_seg dksX1_ranked_2 23 rfl rfl
theorem dksX1_ranked_4 : cX1_ranked.data.toList.drop 95 = dktX1_ranked_4 := dk_seg dksX1_ranked_3 24 rfl rfl
theorem dksX1_ranked_5 : cX1_ranked.data.toList.drop 118 = dktX1_ranked_5 := dk_seg dksX1_ranked_4 23 rfl rfl
theorem dksX1_ranked_6 : cX1_ranked.data.toList.drop 139 = dktX1_ranked_6 := dk_seg dksX1_ranked_5 21 rfl rfl
theorem dksX1_ranked_7 : cX1_ranked.data.toList.drop 163 = dktX1_ranked_7 := dk_seg dksX1_ranked_6 24 rfl rfl
theorem dX1_ranked_0 : decode cX1_ranked 0 = .ok (.new 164, 3) := dk_187 0 164 (dk_at dksX1_ranked_0 0 rfl rfl)
theorem dX1_ranked_3 : decode cX1_ranked 3 = .ok (.dup, 1) := dk_89 (dk_at dksX1_ranked_0 3 rfl rfl)
theorem dX1_ranked_4 : decode cX1_ranked 4 = .ok (.invokespecial 166, 3) := dk_183 0 166 (dk_at dksX1_ranked_0 4 rfl rfl)
theorem dX1_ranked_7 : decode cX1_ranked 7 = .ok (.astore_n 2, 1) := dk_77 (dk_at dksX1_ranked_0 7 rfl rfl)
theorem dX1_ranked_8 : decode cX1_ranked 8 = .ok (.iconst 0, 1) := dk_3 (dk_at dksX1_ranked_0 8 rfl rfl)
theorem dX1_ranked_9 : decode cX1_ranked 9 = .ok (.istore_n 3, 1) := dk_62 (dk_at dksX1_ranked_0 9 rfl rfl)
theorem dX1_ranked_10 : decode cX1_ranked 10 = .ok (.iload_n 3, 1) := dk_29 (dk_at dksX1_ranked_0 10 rfl rfl)
theorem dX1_ranked_11 : decode cX1_ranked 11 = .ok (.aload_n 0, 1) := dk_42 (dk_at dksX1_ranked_0 11 rfl rfl)
theorem dX1_ranked_12 : decode cX1_ranked 12 = .ok (.getfield 33, 3) := dk_180 0 33 (dk_at dksX1_ranked_0 12 rfl rfl)
theorem dX1_ranked_15 : decode cX1_ranked 15 = .ok (.getfield 167, 3) := dk_180 0 167 (dk_at dksX1_ranked_0 15 rfl rfl)
theorem dX1_ranked_18 : decode cX1_ranked 18 = .ok (.invokevirtual 137, 3) := dk_182 0 137 (dk_at dksX1_ranked_0 18 rfl rfl)
theorem dX1_ranked_21 : decode cX1_ranked 21 = .ok (.if_icmp .ge 100, 3) := dk_162 0 100 (dk_at dksX1_ranked_0 21 rfl rfl)
theorem dX1_ranked_24 : decode cX1_ranked 24 = .ok (.iconst 0, 1) := dk_3 (dk_at dksX1_ranked_1 0 rfl rfl)
theorem dX1_ranked_25 : decode cX1_ranked 25 = .ok (.istore 4, 2) := dk_54 4 (dk_at dksX1_ranked_1 1 rfl rfl)
theorem dX1_ranked_27 : decode cX1_ranked 27 = .ok (.aload_n 0, 1) := dk_42 (dk_at dksX1_ranked_1 3 rfl rfl)
theorem dX1_ranked_28 : decode cX1_ranked 28 = .ok (.getfield 33, 3) := dk_180 0 33 (dk_at dksX1_ranked_1 4 rfl rfl)
theorem dX1_ranked_31 : decode cX1_ranked 31 = .ok (.getfield 167, 3) := dk_180 0 167 (dk_at dksX1_ranked_1 7 rfl rfl)
theorem dX1_ranked_34 : decode cX1_ranked 34 = .ok (.iload_n 3, 1) := dk_29 (dk_at dksX1_ranked_1 10 rfl rfl)
theorem dX1_ranked_35 : decode cX1_ranked 35 = .ok (.invokevirtual 170, 3) := dk_182 0 170 (dk_at dksX1_ranked_1 11 rfl rfl)
theorem dX1_ranked_38 : decode cX1_ranked 38 = .ok (.checkcast 127, 3) := dk_192 0 127 (dk_at dksX1_ranked_1 14 rfl rfl)
theorem dX1_ranked_41 : decode cX1_ranked 41 = .ok (.invokevirtual 174, 3) := dk_182 0 174 (dk_at dksX1_ranked_1 17 rfl rfl)
theorem dX1_ranked_44 : decode cX1_ranked 44 = .ok (.astore 5, 2) := dk_58 5 (dk_at dksX1_ranked_1 20 rfl rfl)
theorem dX1_ranked_46 : decode cX1_ranked 46 = .ok (.aload 5, 2) := dk_25 5 (dk_at dksX1_ranked_1 22 rfl rfl)
theorem dX1_ranked_48 : decode cX1_ranked 48 = .ok (.invokeinterface 104 1, 5) := by decide +kernel
theorem dX1_ranked_53 : decode cX1_ranked 53 = .ok (.ifCond .eq 62, 3) := dk_153 0 62 (dk_at dksX1_ranked_2 5 rfl rfl)
theorem dX1_ranked_56 : decode cX1_ranked 56 = .ok (.aload 5, 2) := dk_25 5 (dk_at dksX1_ranked_2 8 rfl rfl)
theorem dX1_ranked_58 : decode cX1_ranked 58 = .ok (.invokeinterface 110 1, 5) := by decide +kernel
theorem dX1_ranked_63 : decode cX1_ranked 63 = .ok (.checkcast 161, 3) := dk_192 0 161 (dk_at dksX1_ranked_2 15 rfl rfl)
theorem dX1_ranked_66 : decode cX1_ranked 66 = .ok (.astore 6, 2) := dk_58 6 (dk_at dksX1_ranked_2 18 rfl rfl)
theorem dX1_ranked_68 : decode cX1_ranked 68 = .ok (.aload_n 2, 1) := dk_44 (dk_at dksX1_ranked_2 20 rfl rfl)
theorem dX1_ranked_69 : decode cX1_ranked 69 = .ok (.bipush 100, 2) := dk_16 100 (dk_at dksX1_ranked_2 21 rfl rfl)
theorem dX1_ranked_71 : decode cX1_ranked 71 = .ok (.bipush 99, 2) := dk_16 99 (dk_at dksX1_ranked_3 0 rfl rfl)
theorem dX1_ranked_73 : decode cX1_ranked 73 = .ok (.aload 6, 2) := dk_25 6 (dk_at dksX1_ranked_3 2 rfl rfl)
theorem dX1_ranked_75 : decode cX1_ranked 75 = .ok (.getfield 160, 3) := dk_180 0 160 (dk_at dksX1_ranked_3 4 rfl rfl)
theorem dX1_ranked_78 : decode cX1_ranked 78 = .ok (.isub, 1) := dk_100 (dk_at dksX1_ranked_3 7 rfl rfl)
theorem dX1_ranked_79 : decode cX1_ranked 79 = .ok (.imul, 1) := dk_104 (dk_at dksX1_ranked_3 8 rfl rfl)
theorem dX1_ranked_80 : decode cX1_ranked 80 = .ok (.bipush 10, 2) := dk_16 10 (dk_at dksX1_ranked_3 9 rfl rfl)
theorem dX1_ranked_82 : decode cX1_ranked 82 = .ok (.iload_n 3, 1) := dk_29 (dk_at dksX1_ranked_3 11 rfl rfl)
theorem dX1_ranked_83 : decode cX1_ranked 83 = .ok (.imul, 1) := dk_104 (dk_at dksX1_ranked_3 12 rfl rfl)
theorem dX1_ranked_84 : decode cX1_ranked 84 = .ok (.iadd, 1) := dk_96 (dk_at dksX1_ranked_3 13 rfl rfl)
theorem dX1_ranked_85 : decode cX1_ranked 85 = .ok (.iload 4, 2) := dk_21 4 (dk_at dksX1_ranked_3 14 rfl rfl)
theorem dX1_ranked_87 : decode cX1_ranked 87 = .ok (.iadd, 1) := dk_96 (dk_at dksX1_ranked_3 16 rfl rfl)
theorem dX1_ranked_88 : decode cX1_ranked 88 = .ok (.invokestatic 175, 3) := dk_184 0 175 (dk_at dksX1_ranked_3 17 rfl rfl)
theorem dX1_ranked_91 : decode cX1_ranked 91 = .ok (.bipush 10, 2) := dk_16 10 (dk_at dksX1_ranked_3 20 rfl rfl)
theorem dX1_ranked_93 : decode cX1_ranked 93 = .ok (.iload_n 3, 1) := dk_29 (dk_at dksX1_ranked_3 22 rfl rfl)
theorem dX1_ranked_94 : decode cX1_ranked 94 = .ok (.imul, 1) := dk_104 (dk_at dksX1_ranked_3 23 rfl rfl)
theorem dX1_ranked_95 : decode cX1_ranked 95 = .ok (.iload 4, 2) := dk_21 4 (dk_at dksX1_ranked_4 0 rfl rfl)
theorem dX1_ranked_97 : decode cX1_ranked 97 = .ok (.iadd, 1) := dk_96 (dk_at dksX1_ranked_4 2 rfl rfl)
theorem dX1_ranked_98 : decode cX1_ranked 98 = .ok (.invokestatic 175, 3) := dk_184 0 175 (dk_at dksX1_ranked_4 3 rfl rfl)
theorem dX1_ranked_101 : decode cX1_ranked 101 = .ok (.invokevirtual 181, 3) := dk_182 0 181 (dk_at dksX1_ranked_4 6 rfl rfl)
theorem dX1_ranked_104 : decode cX1_ranked 104 = .ok (.checkcast 176, 3) := dk_192 0 176 (dk_at dksX1_ranked_4 9 rfl rfl)
theorem dX1_ranked_107 : decode cX1_ranked 107 = .ok (.astore 7, 2) := dk_58 7 (dk_at dksX1_ranked_4 12 rfl rfl)
theorem dX1_ranked_109 : decode cX1_ranked 109 = .ok (.iinc 4 1, 3) := dk_132 4 1 (dk_at dksX1_ranked_4 14 rfl rfl)
theorem dX1_ranked_112 : decode cX1_ranked 112 = .ok (.goto (-66), 3) := dk_167 255 190 (dk_at dksX1_ranked_4 17 rfl rfl)
theorem dX1_ranked_115 : decode cX1_ranked 115 = .ok (.iinc 3 1, 3) := dk_132 3 1 (dk_at dksX1_ranked_4 20 rfl rfl)
theorem dX1_ranked_118 : decode cX1_ranked 118 = .ok (.goto (-108), 3) := dk_167 255 148 (dk_at dksX1_ranked_5 0 rfl rfl)
theorem dX1_ranked_121 : decode cX1_ranked 121 = .ok (.iload_n 1, 1) := dk_27 (dk_at dksX1_ranked_5 3 rfl rfl)
theorem dX1_ranked_122 : decode cX1_ranked 122 = .ok (.iconst 0, 1) := dk_3 (dk_at dksX1_ranked_5 4 rfl rfl)
theorem dX1_ranked_123 : decode cX1_ranked 123 = .ok (.aload_n 2, 1) := dk_44 (dk_at dksX1_ranked_5 5 rfl rfl)
theorem dX1_ranked_124 : decode cX1_ranked 124 = .ok (.invokevirtual 185, 3) := dk_182 0 185 (dk_at dksX1_ranked_5 6 rfl rfl)
theorem dX1_ranked_127 : decode cX1_ranked 127 = .ok (.iconst 1, 1) := dk_4 (dk_at dksX1_ranked_5 9 rfl rfl)
theorem dX1_ranked_128 : decode cX1_ranked 128 = .ok (.isub, 1) := dk_100 (dk_at dksX1_ranked_5 10 rfl rfl)
theorem dX1_ranked_129 : decode cX1_ranked 129 = .ok (.invokestatic 10, 3) := dk_184 0 10 (dk_at dksX1_ranked_5 11 rfl rfl)
theorem dX1_ranked_132 : decode cX1_ranked 132 = .ok (.invokestatic 186, 3) := dk_184 0 186 (dk_at dksX1_ranked_5 14 rfl rfl)
theorem dX1_ranked_135 : decode cX1_ranked 135 = .ok (.aload_n 2, 1) := dk_44 (dk_at dksX1_ranked_5 17 rfl rfl)
theorem dX1_ranked_136 : decode cX1_ranked 136 = .ok (.invokevirtual 189, 3) := dk_182 0 189 (dk_at dksX1_ranked_5 18 rfl rfl)
theorem dX1_ranked_139 : decode cX1_ranked 139 = .ok (.invokeinterface 193 1, 5) := by decide +kernel
theorem dX1_ranked_144 : decode cX1_ranked 144 = .ok (.astore_n 3, 1) := dk_78 (dk_at dksX1_ranked_6 5 rfl rfl)
theorem dX1_ranked_145 : decode cX1_ranked 145 = .ok (.iconst 0, 1) := dk_3 (dk_at dksX1_ranked_6 6 rfl rfl)
theorem dX1_ranked_146 : decode cX1_ranked 146 = .ok (.istore 4, 2) := dk_54 4 (dk_at dksX1_ranked_6 7 rfl rfl)
theorem dX1_ranked_148 : decode cX1_ranked 148 = .ok (.iload 4, 2) := dk_21 4 (dk_at dksX1_ranked_6 9 rfl rfl)
theorem dX1_ranked_150 : decode cX1_ranked 150 = .ok (.iload_n 1, 1) := dk_27 (dk_at dksX1_ranked_6 11 rfl rfl)
theorem dX1_ranked_151 : decode cX1_ranked 151 = .ok (.if_icmp .ge 23, 3) := dk_162 0 23 (dk_at dksX1_ranked_6 12 rfl rfl)
theorem dX1_ranked_154 : decode cX1_ranked 154 = .ok (.aload_n 3, 1) := dk_45 (dk_at dksX1_ranked_6 15 rfl rfl)
theorem dX1_ranked_155 : decode cX1_ranked 155 = .ok (.invokeinterface 110 1, 5) := by decide +kernel
theorem dX1_ranked_160 : decode cX1_ranked 160 = .ok (.checkcast 176, 3) := dk_192 0 176 (dk_at dksX1_ranked_6 21 rfl rfl)
theorem dX1_ranked_163 : decode cX1_ranked 163 = .ok (.invokevirtual 196, 3) := dk_182 0 196 (dk_at dksX1_ranked_7 0 rfl rfl)
theorem dX1_ranked_166 : decode cX1_ranked 166 = .ok (.istore 5, 2) := dk_54 5 (dk_at dksX1_ranked_7 3 rfl rfl)
theorem dX1_ranked_168 : decode cX1_ranked 168 = .ok (.iinc 4 1, 3) := dk_132 4 1 (dk_at dksX1_ranked_7 5 rfl rfl)
theorem dX1_ranked_171 : decode cX1_ranked 171 = .ok (.goto (-23), 3) := dk_167 255 233 (dk_at dksX1_ranked_7 8 rfl rfl)
theorem dX1_ranked_174 : decode cX1_ranked 174 = .ok (.aload_n 3, 1) := dk_45 (dk_at dksX1_ranked_7 11 rfl rfl)
theorem dX1_ranked_175 : decode cX1_ranked 175 = .ok (.invokeinterface 110 1, 5) := by decide +kernel
theorem dX1_ranked_180 : decode cX1_ranked 180 = .ok (.checkcast 176, 3) := dk_192 0 176 (dk_at dksX1_ranked_7 17 rfl rfl)
theorem dX1_ranked_183 : decode cX1_ranked 183 = .ok (.invokevirtual 196, 3) := dk_182 0 196 (dk_at dksX1_ranked_7 20 rfl rfl)
theorem dX1_ranked_186 : decode cX1_ranked 186 = .ok (.ireturn, 1) := dk_172 (dk_at dksX1_ranked_7 23 rfl rfl)
abbrev cX1_addStone : ByteArray := prog_1_method_18_code
def yX1_addStone : MethodName := ⟨RX1, "addStone", "(II)I"⟩
def dkwX1_addStone_0 : List UInt8 := [42, 187, 0, 199, 89, 42, 27, 28, 183, 0, 201, 182, 0, 91, 172]
abbrev dktX1_addStone_0 : List UInt8 := dkwX1_addStone_0 ++ []
theorem dksX1_addStone_0 : cX1_addStone.data.toList.drop 0 = dktX1_addStone_0 := by decide +kernel
theorem dX1_addStone_0 : decode cX1_addStone 0 = .ok (.aload_n 0, 1) := dk_42 (dk_at dksX1_addStone_0 0 rfl rfl)
theorem dX1_addStone_1 : decode cX1_addStone 1 = .ok (.new 199, 3) := dk_187 0 199 (dk_at dksX1_addStone_0 1 rfl rfl)
theorem dX1_addStone_4 : decode cX1_addStone 4 = .ok (.dup, 1) := dk_89 (dk_at dksX1_addStone_0 4 rfl rfl)
theorem dX1_addStone_5 : decode cX1_addStone 5 = .ok (.aload_n 0, 1) := dk_42 (dk_at dksX1_addStone_0 5 rfl rfl)
theorem dX1_addStone_6 : decode cX1_addStone 6 = .ok (.iload_n 1, 1) := dk_27 (dk_at dksX1_addStone_0 6 rfl rfl)
theorem dX1_addStone_7 : decode cX1_addStone 7 = .ok (.iload_n 2, 1) := dk_28 (dk_at dksX1_addStone_0 7 rfl rfl)
theorem dX1_addStone_8 : decode cX1_addStone 8 = .ok (.invokespecial 201, 3) := dk_183 0 201 (dk_at dksX1_addStone_0 8 rfl rfl)
theorem dX1_addStone_11 : decode cX1_addStone 11 = .ok (.invokevirtual 91, 3) := dk_182 0 91 (dk_at dksX1_addStone_0 11 rfl rfl)
theorem dX1_addStone_14 : decode cX1_addStone 14 = .ok (.ireturn, 1) := dk_172 (dk_at dksX1_addStone_0 14 rfl rfl)
abbrev cX1_stone : ByteArray := prog_1_method_19_code
def yX1_stone : MethodName := ⟨RX1, "stone", "(II)I"⟩
def dkwX1_stone_4 : List UInt8 := [180, 0, 211, 167, 0, 15, 45, 180, 0, 212, 42, 180, 0, 33, 180, 0, 214, 100, 172]
abbrev dktX1_stone_4 : List UInt8 := dkwX1_stone_4 ++ []
def dkwX1_stone_3 : List UInt8 := [45, 180, 0, 115, 167, 0, 36, 45, 180, 0, 205, 167, 0, 29, 45, 180, 0, 208, 167, 0, 22, 45]
abbrev dktX1_stone_3 : List UInt8 := dkwX1_stone_3 ++ dktX1_stone_4
def dkwX1_stone_2 : List UInt8 := [170, 0, 0, 0, 57, 0, 0, 0, 0, 0, 0, 0, 3, 0, 0, 0, 29, 0, 0, 0, 36, 0, 0, 0, 43, 0, 0, 0, 50]
abbrev dktX1_stone_2 : List UInt8 := dkwX1_stone_2 ++ dktX1_stone_3
def dkwX1_stone_1 : List UInt8 := [180, 0, 33, 180, 0, 94, 27, 182, 0, 170, 192, 0, 113, 78, 28]
abbrev dktX1_stone_1 : List UInt8 := dkwX1_stone_1 ++ dktX1_stone_2
def dkwX1_stone_0 : List UInt8 := [27, 42, 180, 0, 33, 180, 0, 94, 182, 0, 137, 184, 0, 202, 28, 3, 7, 184, 0, 10, 184, 0, 122, 42]
abbrev dktX1_stone_0 : List UInt8 := dkwX1_stone_0 ++ dktX1_stone_1
theorem dksX1_stone_0 : cX1_stone.data.toList.drop 0 = dktX1_stone_0 := by decide +kernel
theorem dksX1_stone_1 : cX1_stone.data.toList.drop 24 = dktX1_stone_1 := dk_seg dksX1_stone_0 24 rfl rfl
theorem dksX1_stone_2 : cX1_stone.data.toList.drop 39 = dktX1_stone_2 := dk_seg dksX1_stone_1 15 rfl rfl
theorem dksX1_stone_3 : cX1_stone.data.toList.drop 68 = dktX1_stone_3 := dk_seg dksX1_stone_2 29 rfl rfl
theorem dksX1_stone_4 : cX1_stone.data.toList.drop 90 = dktX1_stone_4 := dk_seg dksX1_stone_3 22 rfl rfl
theorem dX1_stone_0 : decode cX1_stone 0 = .ok (.iload_n 1, 1) := dk_27 (dk_at dksX1_stone_0 0 rfl rfl)
theorem dX1_stone_1 : decode cX1_stone 1 = .ok (.aload_n 0, 1) := dk_42 (dk_at dksX1_stone_0 1 rfl rfl)
theorem dX1_stone_2 : decode cX1_stone 2 = .ok (.getfield 33, 3) := dk_180 0 33 (dk_at dksX1_stone_0 2 rfl rfl)
theorem dX1_stone_5 : decode cX1_stone 5 = .ok (.getfield 94, 3) := dk_180 0 94 (dk_at dksX1_stone_0 5 rfl rfl)
theorem dX1_stone_8 : decode cX1_stone 8 = .ok (.invokevirtual 137, 3) := dk_182 0 137 (dk_at dksX1_stone_0 8 rfl rfl)
theorem dX1_stone_11 : decode cX1_stone 11 = .ok (.invokestatic 202, 3) := dk_184 0 202 (dk_at dksX1_stone_0 11 rfl rfl)
theorem dX1_stone_14 : decode cX1_stone 14 = .ok (.iload_n 2, 1) := dk_28 (dk_at dksX1_stone_0 14 rfl rfl)
theorem dX1_stone_15 : decode cX1_stone 15 = .ok (.iconst 0, 1) := dk_3 (dk_at dksX1_stone_0 15 rfl rfl)
theorem dX1_stone_16 : decode cX1_stone 16 = .ok (.iconst 4, 1) := dk_7 (dk_at dksX1_stone_0 16 rfl rfl)
theorem dX1_stone_17 : decode cX1_stone 17 = .ok (.invokestatic 10, 3) := dk_184 0 10 (dk_at dksX1_stone_0 17 rfl rfl)
theorem dX1_stone_20 : decode cX1_stone 20 = .ok (.invokestatic 122, 3) := dk_184 0 122 (dk_at dksX1_stone_0 20 rfl rfl)
theorem dX1_stone_23 : decode cX1_stone 23 = .ok (.aload_n 0, 1) := dk_42 (dk_at dksX1_stone_0 23 rfl rfl)
theorem dX1_stone_24 : decode cX1_stone 24 = .ok (.getfield 33, 3) := dk_180 0 33 (dk_at dksX1_stone_1 0 rfl rfl)
theorem dX1_stone_27 : decode cX1_stone 27 = .ok (.getfield 94, 3) := dk_180 0 94 (dk_at dksX1_stone_1 3 rfl rfl)
theorem dX1_stone_30 : decode cX1_stone 30 = .ok (.iload_n 1, 1) := dk_27 (dk_at dksX1_stone_1 6 rfl rfl)
theorem dX1_stone_31 : decode cX1_stone 31 = .ok (.invokevirtual 170, 3) := dk_182 0 170 (dk_at dksX1_stone_1 7 rfl rfl)
theorem dX1_stone_34 : decode cX1_stone 34 = .ok (.checkcast 113, 3) := dk_192 0 113 (dk_at dksX1_stone_1 10 rfl rfl)
theorem dX1_stone_37 : decode cX1_stone 37 = .ok (.astore_n 3, 1) := dk_78 (dk_at dksX1_stone_1 13 rfl rfl)
theorem dX1_stone_38 : decode cX1_stone 38 = .ok (.iload_n 2, 1) := dk_28 (dk_at dksX1_stone_1 14 rfl rfl)
theorem dX1_stone_39 : decode cX1_stone 39 = .ok (.tableswitch 57 0 3 #[29, 36, 43, 50], 29) := by decide +kernel
theorem dX1_stone_68 : decode cX1_stone 68 = .ok (.aload_n 3, 1) := dk_45 (dk_at dksX1_stone_3 0 rfl rfl)
theorem dX1_stone_69 : decode cX1_stone 69 = .ok (.getfield 115, 3) := dk_180 0 115 (dk_at dksX1_stone_3 1 rfl rfl)
theorem dX1_stone_72 : decode cX1_stone 72 = .ok (.goto 36, 3) := dk_167 0 36 (dk_at dksX1_stone_3 4 rfl rfl)
theorem dX1_stone_75 : decode cX1_stone 75 = .ok (.aload_n 3, 1) := dk_45 (dk_at dksX1_stone_3 7 rfl rfl)
theorem dX1_stone_76 : decode cX1_stone 76 = .ok (.getfield 205, 3) := dk_180 0 205 (dk_at dksX1_stone_3 8 rfl rfl)
theorem dX1_stone_79 : decode cX1_stone 79 = .ok (.goto 29, 3) := dk_167 0 29 (dk_at dksX1_stone_3 11 rfl rfl)
theorem dX1_stone_82 : decode cX1_stone 82 = .ok (.aload_n 3, 1) := dk_45 (dk_at dksX1_stone_3 14 rfl rfl)
theorem dX1_stone_83 : decode cX1_stone 83 = .ok (.getfield 208, 3) := dk_180 0 208 (dk_at dksX1_stone_3 15 rfl rfl)
theorem dX1_stone_86 : decode cX1_stone 86 = .ok (.goto 22, 3) := dk_167 0 22 (dk_at dksX1_stone_3 18 rfl rfl)
theorem dX1_stone_89 : decode cX1_stone 89 = .ok (.aload_n 3, 1) := dk_45 (dk_at dksX1_stone_3 21 rfl rfl)
theorem dX1_stone_90 : decode cX1_stone 90 = .ok (.getfield 211, 3) := dk_180 0 211 (dk_at dksX1_stone_4 0 rfl rfl)
theorem dX1_stone_93 : decode cX1_stone 93 = .ok (.goto 15, 3) := dk_167 0 15 (dk_at dksX1_stone_4 3 rfl rfl)
theorem dX1_stone_96 : decode cX1_stone 96 = .ok (.aload_n 3, 1) := dk_45 (dk_at dksX1_stone_4 6 rfl rfl)
theorem dX1_stone_97 : decode cX1_stone 97 = .ok (.getfield 212, 3) := dk_180 0 212 (dk_at dksX1_stone_4 7 rfl rfl)
theorem dX1_stone_100 : decode cX1_stone 100 = .ok (.aload_n 0, 1) := dk_42 (dk_at dksX1_stone_4 10 rfl rfl)
theorem dX1_stone_101 : decode cX1_stone 101 = .ok (.getfield 33, 3) := dk_180 0 33 (dk_at dksX1_stone_4 11 rfl rfl)
theorem dX1_stone_104 : decode cX1_stone 104 = .ok (.getfield 214, 3) := dk_180 0 214 (dk_at dksX1_stone_4 14 rfl rfl)
theorem dX1_stone_107 : decode cX1_stone 107 = .ok (.isub, 1) := dk_100 (dk_at dksX1_stone_4 17 rfl rfl)
theorem dX1_stone_108 : decode cX1_stone 108 = .ok (.ireturn, 1) := dk_172 (dk_at dksX1_stone_4 18 rfl rfl)
abbrev cX1_nextStone : ByteArray := prog_1_method_20_code
def yX1_nextStone : MethodName := ⟨RX1, "nextStone", "()I"⟩
def dkwX1_nextStone_2 : List UInt8 := [43, 182, 0, 232, 192, 0, 113, 180, 0, 235, 172]
abbrev dktX1_nextStone_2 : List UInt8 := dkwX1_nextStone_2 ++ []
def dkwX1_nextStone_1 : List UInt8 := [89, 187, 0, 222, 89, 183, 0, 224, 183, 0, 225, 76, 43, 42, 180, 0, 33, 180, 0, 94, 182, 0, 228, 61]
abbrev dktX1_nextStone_1 : List UInt8 := dkwX1_nextStone_1 ++ dktX1_nextStone_2
def dkwX1_nextStone_0 : List UInt8 := [42, 180, 0, 33, 180, 0, 94, 182, 0, 217, 154, 0, 7, 4, 167, 0, 4, 3, 184, 0, 186, 187, 0, 220]
abbrev dktX1_nextStone_0 : List UInt8 := dkwX1_nextStone_0 ++ dktX1_nextStone_1
theorem dksX1_nextStone_0 : cX1_nextStone.data.toList.drop 0 = dktX1_nextStone_0 := by decide +kernel
theorem dksX1_nextStone_1 : cX1_nextStone.data.toList.drop 24 = dktX1_nextStone_1 := dk_seg dksX1_nextStone_0 24 rfl rfl
theorem dksX1_nextStone_2 : cX1_nextStone.data.toList.drop 48 = dktX1_nextStone_2 := dk_seg dksX1_nextStone_1 24 rfl rfl
theorem dX1_nextStone_0 : decode cX1_nextStone 0 = .ok (.aload_n 0, 1) := dk_42 (dk_at dksX1_nextStone_0 0 rfl rfl)
theorem dX1_nextStone_1 : decode cX1_nextStone 1 = .ok (.getfield 33, 3) := dk_180 0 33 (dk_at dksX1_nextStone_0 1 rfl rfl)
theorem dX1_nextStone_4 : decode cX1_nextStone 4 = .ok (.getfield 94, 3) := dk_180 0 94 (dk_at dksX1_nextStone_0 4 rfl rfl)
theorem dX1_nextStone_7 : decode cX1_nextStone 7 = .ok (.invokevirtual 217, 3) := dk_182 0 217 (dk_at dksX1_nextStone_0 7 rfl rfl)
theorem dX1_nextStone_10 : decode cX1_nextStone 10 = .ok (.ifCond .ne 7, 3) := dk_154 0 7 (dk_at dksX1_nextStone_0 10 rfl rfl)
theorem dX1_nextStone_13 : decode cX1_nextStone 13 = .ok (.iconst 1, 1) := dk_4 (dk_at dksX1_nextStone_0 13 rfl rfl)
theorem dX1_nextStone_14 : decode cX1_nextStone 14 = .ok (.goto 4, 3) := dk_167 0 4 (dk_at dksX1_nextStone_0 14 rfl rfl)
theorem dX1_nextStone_17 : decode cX1_nextStone 17 = .ok (.iconst 0, 1) := dk_3 (dk_at dksX1_nextStone_0 17 rfl rfl)
theorem dX1_nextStone_18 : decode cX1_nextStone 18 = .ok (.invokestatic 186, 3) := dk_184 0 186 (dk_at dksX1_nextStone_0 18 rfl rfl)
theorem dX1_nextStone_21 : decode cX1_nextStone 21 = .ok (.new 220, 3) := dk_187 0 220 (dk_at dksX1_nextStone_0 21 rfl rfl)
theorem dX1_nextStone_24 : decode cX1_nextStone 24 = .ok (.dup, 1) := dk_89 (dk_at dksX1_nextStone_1 0 rfl rfl)
theorem dX1_nextStone_25 : decode cX1_nextStone 25 = .ok (.new 222, 3) := dk_187 0 222 (dk_at dksX1_nextStone_1 1 rfl rfl)
theorem dX1_nextStone_28 : decode cX1_nextStone 28 = .ok (.dup, 1) := dk_89 (dk_at dksX1_nextStone_1 4 rfl rfl)
theorem dX1_nextStone_29 : decode cX1_nextStone 29 = .ok (.invokespecial 224, 3) := dk_183 0 224 (dk_at dksX1_nextStone_1 5 rfl rfl)
theorem dX1_nextStone_32 : decode cX1_nextStone 32 = .ok (.invokespecial 225, 3) := dk_183 0 225 (dk_at dksX1_nextStone_1 8 rfl rfl)
theorem dX1_nextStone_35 : decode cX1_nextStone 35 = .ok (.astore_n 1, 1) := dk_76 (dk_at dksX1_nextStone_1 11 rfl rfl)
theorem dX1_nextStone_36 : decode cX1_nextStone 36 = .ok (.aload_n 1, 1) := dk_43 (dk_at dksX1_nextStone_1 12 rfl rfl)
theorem dX1_nextStone_37 : decode cX1_nextStone 37 = .ok (.aload_n 0, 1) := dk_42 (dk_at dksX1_nextStone_1 13 rfl rfl)
theorem dX1_nextStone_38 : decode cX1_nextStone 38 = .ok (.getfield 33, 3) := dk_180 0 33 (dk_at dksX1_nextStone_1 14 rfl rfl)
theorem dX1_nextStone_41 : decode cX1_nextStone 41 = .ok (.getfield 94, 3) := dk_180 0 94 (dk_at dksX1_nextStone_1 17 rfl rfl)
theorem dX1_nextStone_44 : decode cX1_nextStone 44 = .ok (.invokevirtual 228, 3) := dk_182 0 228 (dk_at dksX1_nextStone_1 20 rfl rfl)
theorem dX1_nextStone_47 : decode cX1_nextStone 47 = .ok (.istore_n 2, 1) := dk_61 (dk_at dksX1_nextStone_1 23 rfl rfl)
theorem dX1_nextStone_48 : decode cX1_nextStone 48 = .ok (.aload_n 1, 1) := dk_43 (dk_at dksX1_nextStone_2 0 rfl rfl)
theorem dX1_nextStone_49 : decode cX1_nextStone 49 = .ok (.invokevirtual 232, 3) := dk_182 0 232 (dk_at dksX1_nextStone_2 1 rfl rfl)
theorem dX1_nextStone_52 : decode cX1_nextStone 52 = .ok (.checkcast 113, 3) := dk_192 0 113 (dk_at dksX1_nextStone_2 4 rfl rfl)
theorem dX1_nextStone_55 : decode cX1_nextStone 55 = .ok (.getfield 235, 3) := dk_180 0 235 (dk_at dksX1_nextStone_2 7 rfl rfl)
theorem dX1_nextStone_58 : decode cX1_nextStone 58 = .ok (.ireturn, 1) := dk_172 (dk_at dksX1_nextStone_2 10 rfl rfl)
abbrev cX1_enter : ByteArray := prog_1_method_21_code
def yX1_enter : MethodName := ⟨RX1, "enter", "(II)I"⟩
def dkwX1_enter_0 : List UInt8 := [42, 27, 28, 184, 0, 238, 182, 0, 91, 172]
abbrev dktX1_enter_0 : List UInt8 := dkwX1_enter_0 ++ []
theorem dksX1_enter_0 : cX1_enter.data.toList.drop 0 = dktX1_enter_0 := by decide +kernel
theorem dX1_enter_0 : decode cX1_enter 0 = .ok (.aload_n 0, 1) := dk_42 (dk_at dksX1_enter_0 0 rfl rfl)
theorem dX1_enter_1 : decode cX1_enter 1 = .ok (.iload_n 1, 1) := dk_27 (dk_at dksX1_enter_0 1 rfl rfl)
theorem dX1_enter_2 : decode cX1_enter 2 = .ok (.iload_n 2, 1) := dk_28 (dk_at dksX1_enter_0 2 rfl rfl)
theorem dX1_enter_3 : decode cX1_enter 3 = .ok (.invokestatic 238, 3) := dk_184 0 238 (dk_at dksX1_enter_0 3 rfl rfl)
theorem dX1_enter_6 : decode cX1_enter 6 = .ok (.invokevirtual 91, 3) := dk_182 0 91 (dk_at dksX1_enter_0 6 rfl rfl)
theorem dX1_enter_9 : decode cX1_enter 9 = .ok (.ireturn, 1) := dk_172 (dk_at dksX1_enter_0 9 rfl rfl)
abbrev cX1_sendOut : ByteArray := prog_1_method_22_code
def yX1_sendOut : MethodName := ⟨RX1, "sendOut", "(I)I"⟩
def dkwX1_sendOut_0 : List UInt8 := [42, 187, 0, 242, 89, 42, 27, 183, 0, 244, 182, 0, 91, 172]
abbrev dktX1_sendOut_0 : List UInt8 := dkwX1_sendOut_0 ++ []
theorem dksX1_sendOut_0 : cX1_sendOut.data.toList.drop 0 = dktX1_sendOut_0 := by decide +kernel
theorem dX1_sendOut_0 : decode cX1_sendOut 0 = .ok (.aload_n 0, 1) := dk_42 (dk_at dksX1_sendOut_0 0 rfl rfl)
theorem dX1_sendOut_1 : decode cX1_sendOut 1 = .ok (.new 242, 3) := dk_187 0 242 (dk_at dksX1_sendOut_0 1 rfl rfl)
theorem dX1_sendOut_4 : decode cX1_sendOut 4 = .ok (.dup, 1) := dk_89 (dk_at dksX1_sendOut_0 4 rfl rfl)
theorem dX1_sendOut_5 : decode cX1_sendOut 5 = .ok (.aload_n 0, 1) := dk_42 (dk_at dksX1_sendOut_0 5 rfl rfl)
theorem dX1_sendOut_6 : decode cX1_sendOut 6 = .ok (.iload_n 1, 1) := dk_27 (dk_at dksX1_sendOut_0 6 rfl rfl)
theorem dX1_sendOut_7 : decode cX1_sendOut 7 = .ok (.invokespecial 244, 3) := dk_183 0 244 (dk_at dksX1_sendOut_0 7 rfl rfl)
theorem dX1_sendOut_10 : decode cX1_sendOut 10 = .ok (.invokevirtual 91, 3) := dk_182 0 91 (dk_at dksX1_sendOut_0 10 rfl rfl)
theorem dX1_sendOut_13 : decode cX1_sendOut 13 = .ok (.ireturn, 1) := dk_172 (dk_at dksX1_sendOut_0 13 rfl rfl)
abbrev cX1_group : ByteArray := prog_1_method_23_code
def yX1_group : MethodName := ⟨RX1, "group", "(IZ)I"⟩
def dkwX1_group_1 : List UInt8 := [182, 0, 252, 192, 0, 253, 78, 28, 153, 0, 10, 45, 180, 0, 255, 167, 0, 7, 45, 180, 1, 2, 172]
abbrev dktX1_group_1 : List UInt8 := dkwX1_group_1 ++ []
def dkwX1_group_0 : List UInt8 := [27, 42, 180, 0, 33, 180, 0, 245, 182, 0, 249, 184, 0, 202, 42, 180, 0, 33, 180, 0, 245, 27]
abbrev dktX1_group_0 : List UInt8 := dkwX1_group_0 ++ dktX1_group_1
theorem dksX1_group_0 : cX1_group.data.toList.drop 0 = dktX1_group_0 := by decide +kernel
theorem dksX1_group_1 : cX1_group.data.toList.drop 22 = dktX1_group_1 := dk_seg dksX1_group_0 22 rfl rfl
theorem dX1_group_0 : decode cX1_group 0 = .ok (.iload_n 1, 1) := dk_27 (dk_at dksX1_group_0 0 rfl rfl)
theorem dX1_group_1 : decode cX1_group 1 = .ok (.aload_n 0, 1) := dk_42 (dk_at dksX1_group_0 1 rfl rfl)
theorem dX1_group_2 : decode cX1_group 2 = .ok (.getfield 33, 3) := dk_180 0 33 (dk_at dksX1_group_0 2 rfl rfl)
theorem dX1_group_5 : decode cX1_group 5 = .ok (.getfield 245, 3) := dk_180 0 245 (dk_at dksX1_group_0 5 rfl rfl)
theorem dX1_group_8 : decode cX1_group 8 = .ok (.invokevirtual 249, 3) := dk_182 0 249 (dk_at dksX1_group_0 8 rfl rfl)
theorem dX1_group_11 : decode cX1_group 11 = .ok (.invokestatic 202, 3) := dk_184 0 202 (dk_at dksX1_group_0 11 rfl rfl)
theorem dX1_group_14 : decode cX1_group 14 = .ok (.aload_n 0, 1) := dk_42 (dk_at dksX1_group_0 14 rfl rfl)
theorem dX1_group_15 : decode cX1_group 15 = .ok (.getfield 33, 3) := dk_180 0 33 (dk_at dksX1_group_0 15 rfl rfl)
theorem dX1_group_18 : decode cX1_group 18 = .ok (.getfield 245, 3) := dk_180 0 245 (dk_at dksX1_group_0 18 rfl rfl)
theorem dX1_group_21 : decode cX1_group 21 = .ok (.iload_n 1, 1) := dk_27 (dk_at dksX1_group_0 21 rfl rfl)
theorem dX1_group_22 : decode cX1_group 22 = .ok (.invokevirtual 252, 3) := dk_182 0 252 (dk_at dksX1_group_1 0 rfl rfl)
theorem dX1_group_25 : decode cX1_group 25 = .ok (.checkcast 253, 3) := dk_192 0 253 (dk_at dksX1_group_1 3 rfl rfl)
theorem dX1_group_28 : decode cX1_group 28 = .ok (.astore_n 3, 1) := dk_78 (dk_at dksX1_group_1 6 rfl rfl)
theorem dX1_group_29 : decode cX1_group 29 = .ok (.iload_n 2, 1) := dk_28 (dk_at dksX1_group_1 7 rfl rfl)
theorem dX1_group_30 : decode cX1_group 30 = .ok (.ifCond .eq 10, 3) := dk_153 0 10 (dk_at dksX1_group_1 8 rfl rfl)
theorem dX1_group_33 : decode cX1_group 33 = .ok (.aload_n 3, 1) := dk_45 (dk_at dksX1_group_1 11 rfl rfl)
theorem dX1_group_34 : decode cX1_group 34 = .ok (.getfield 255, 3) := dk_180 0 255 (dk_at dksX1_group_1 12 rfl rfl)
theorem dX1_group_37 : decode cX1_group 37 = .ok (.goto 7, 3) := dk_167 0 7 (dk_at dksX1_group_1 15 rfl rfl)
theorem dX1_group_40 : decode cX1_group 40 = .ok (.aload_n 3, 1) := dk_45 (dk_at dksX1_group_1 18 rfl rfl)
theorem dX1_group_41 : decode cX1_group 41 = .ok (.getfield 258, 3) := dk_180 1 2 (dk_at dksX1_group_1 19 rfl rfl)
theorem dX1_group_44 : decode cX1_group 44 = .ok (.ireturn, 1) := dk_172 (dk_at dksX1_group_1 22 rfl rfl)
abbrev cX1_addLamp : ByteArray := prog_1_method_24_code
def yX1_addLamp : MethodName := ⟨RX1, "addLamp", "(I)I"⟩
def dkwX1_addLamp_0 : List UInt8 := [42, 187, 1, 5, 89, 42, 27, 183, 1, 7, 182, 0, 91, 172]
abbrev dktX1_addLamp_0 : List UInt8 := dkwX1_addLamp_0 ++ []
theorem dksX1_addLamp_0 : cX1_addLamp.data.toList.drop 0 = dktX1_addLamp_0 := by decide +kernel
theorem dX1_addLamp_0 : decode cX1_addLamp 0 = .ok (.aload_n 0, 1) := dk_42 (dk_at dksX1_addLamp_0 0 rfl rfl)
theorem dX1_addLamp_1 : decode cX1_addLamp 1 = .ok (.new 261, 3) := dk_187 1 5 (dk_at dksX1_addLamp_0 1 rfl rfl)
theorem dX1_addLamp_4 : decode cX1_addLamp 4 = .ok (.dup, 1) := dk_89 (dk_at dksX1_addLamp_0 4 rfl rfl)
theorem dX1_addLamp_5 : decode cX1_addLamp 5 = .ok (.aload_n 0, 1) := dk_42 (dk_at dksX1_addLamp_0 5 rfl rfl)
theorem dX1_addLamp_6 : decode cX1_addLamp 6 = .ok (.iload_n 1, 1) := dk_27 (dk_at dksX1_addLamp_0 6 rfl rfl)
theorem dX1_addLamp_7 : decode cX1_addLamp 7 = .ok (.invokespecial 263, 3) := dk_183 1 7 (dk_at dksX1_addLamp_0 7 rfl rfl)
theorem dX1_addLamp_10 : decode cX1_addLamp 10 = .ok (.invokevirtual 91, 3) := dk_182 0 91 (dk_at dksX1_addLamp_0 10 rfl rfl)
theorem dX1_addLamp_13 : decode cX1_addLamp 13 = .ok (.ireturn, 1) := dk_172 (dk_at dksX1_addLamp_0 13 rfl rfl)
abbrev cX1_switchOn : ByteArray := prog_1_method_25_code
def yX1_switchOn : MethodName := ⟨RX1, "switchOn", "(II)I"⟩
def dkwX1_switchOn_0 : List UInt8 := [42, 27, 28, 184, 1, 8, 182, 0, 91, 172]
abbrev dktX1_switchOn_0 : List UInt8 := dkwX1_switchOn_0 ++ []
theorem dksX1_switchOn_0 : cX1_switchOn.data.toList.drop 0 = dktX1_switchOn_0 := by decide +kernel
theorem dX1_switchOn_0 : decode cX1_switchOn 0 = .ok (.aload_n 0, 1) := dk_42 (dk_at dksX1_switchOn_0 0 rfl rfl)
theorem dX1_switchOn_1 : decode cX1_switchOn 1 = .ok (.iload_n 1, 1) := dk_27 (dk_at dksX1_switchOn_0 1 rfl rfl)
theorem dX1_switchOn_2 : decode cX1_switchOn 2 = .ok (.iload_n 2, 1) := dk_28 (dk_at dksX1_switchOn_0 2 rfl rfl)
theorem dX1_switchOn_3 : decode cX1_switchOn 3 = .ok (.invokestatic 264, 3) := dk_184 1 8 (dk_at dksX1_switchOn_0 3 rfl rfl)
theorem dX1_switchOn_6 : decode cX1_switchOn 6 = .ok (.invokevirtual 91, 3) := dk_182 0 91 (dk_at dksX1_switchOn_0 6 rfl rfl)
theorem dX1_switchOn_9 : decode cX1_switchOn 9 = .ok (.ireturn, 1) := dk_172 (dk_at dksX1_switchOn_0 9 rfl rfl)
abbrev cX1_switchOff : ByteArray := prog_1_method_26_code
def yX1_switchOff : MethodName := ⟨RX1, "switchOff", "(I)I"⟩
def dkwX1_switchOff_0 : List UInt8 := [42, 27, 184, 1, 11, 182, 0, 91, 172]
abbrev dktX1_switchOff_0 : List UInt8 := dkwX1_switchOff_0 ++ []
theorem dksX1_switchOff_0 : cX1_switchOff.data.toList.drop 0 = dktX1_switchOff_0 := by decide +kernel
theorem dX1_switchOff_0 : decode cX1_switchOff 0 = .ok (.aload_n 0, 1) := dk_42 (dk_at dksX1_switchOff_0 0 rfl rfl)
theorem dX1_switchOff_1 : decode cX1_switchOff 1 = .ok (.iload_n 1, 1) := dk_27 (dk_at dksX1_switchOff_0 1 rfl rfl)
theorem dX1_switchOff_2 : decode cX1_switchOff 2 = .ok (.invokestatic 267, 3) := dk_184 1 11 (dk_at dksX1_switchOff_0 2 rfl rfl)
theorem dX1_switchOff_5 : decode cX1_switchOff 5 = .ok (.invokevirtual 91, 3) := dk_182 0 91 (dk_at dksX1_switchOff_0 5 rfl rfl)
theorem dX1_switchOff_8 : decode cX1_switchOff 8 = .ok (.ireturn, 1) := dk_172 (dk_at dksX1_switchOff_0 8 rfl rfl)
abbrev cX1_lamp : ByteArray := prog_1_method_27_code
def yX1_lamp : MethodName := ⟨RX1, "lamp", "(IZ)I"⟩
def dkwX1_lamp_1 : List UInt8 := [172]
abbrev dktX1_lamp_1 : List UInt8 := dkwX1_lamp_1 ++ []
def dkwX1_lamp_0 : List UInt8 := [42, 180, 0, 33, 27, 182, 1, 15, 78, 28, 153, 0, 10, 45, 180, 1, 19, 167, 0, 7, 45, 180, 1, 24]
abbrev dktX1_lamp_0 : List UInt8 := dkwX1_lamp_0 ++ dktX1_lamp_1
theorem dksX1_lamp_0 : cX1_lamp.data.toList.drop 0 = dktX1_lamp_0 := by decide +kernel
theorem dksX1_lamp_1 : cX1_lamp.data.toList.drop 24 = dktX1_lamp_1 := dk_seg dksX1_lamp_0 24 rfl rfl
theorem dX1_lamp_0 : decode cX1_lamp 0 = .ok (.aload_n 0, 1) := dk_42 (dk_at dksX1_lamp_0 0 rfl rfl)
theorem dX1_lamp_1 : decode cX1_lamp 1 = .ok (.getfield 33, 3) := dk_180 0 33 (dk_at dksX1_lamp_0 1 rfl rfl)
theorem dX1_lamp_4 : decode cX1_lamp 4 = .ok (.iload_n 1, 1) := dk_27 (dk_at dksX1_lamp_0 4 rfl rfl)
theorem dX1_lamp_5 : decode cX1_lamp 5 = .ok (.invokevirtual 271, 3) := dk_182 1 15 (dk_at dksX1_lamp_0 5 rfl rfl)
theorem dX1_lamp_8 : decode cX1_lamp 8 = .ok (.astore_n 3, 1) := dk_78 (dk_at dksX1_lamp_0 8 rfl rfl)
theorem dX1_lamp_9 : decode cX1_lamp 9 = .ok (.iload_n 2, 1) := dk_28 (dk_at dksX1_lamp_0 9 rfl rfl)
theorem dX1_lamp_10 : decode cX1_lamp 10 = .ok (.ifCond .eq 10, 3) := dk_153 0 10 (dk_at dksX1_lamp_0 10 rfl rfl)
theorem dX1_lamp_13 : decode cX1_lamp 13 = .ok (.aload_n 3, 1) := dk_45 (dk_at dksX1_lamp_0 13 rfl rfl)
theorem dX1_lamp_14 : decode cX1_lamp 14 = .ok (.getfield 275, 3) := dk_180 1 19 (dk_at dksX1_lamp_0 14 rfl rfl)
theorem dX1_lamp_17 : decode cX1_lamp 17 = .ok (.goto 7, 3) := dk_167 0 7 (dk_at dksX1_lamp_0 17 rfl rfl)
theorem dX1_lamp_20 : decode cX1_lamp 20 = .ok (.aload_n 3, 1) := dk_45 (dk_at dksX1_lamp_0 20 rfl rfl)
theorem dX1_lamp_21 : decode cX1_lamp 21 = .ok (.getfield 280, 3) := dk_180 1 24 (dk_at dksX1_lamp_0 21 rfl rfl)
theorem dX1_lamp_24 : decode cX1_lamp 24 = .ok (.ireturn, 1) := dk_172 (dk_at dksX1_lamp_1 0 rfl rfl)
abbrev cX1_setDraught : ByteArray := prog_1_method_28_code
def yX1_setDraught : MethodName := ⟨RX1, "setDraught", "(I)I"⟩
def dkwX1_setDraught_0 : List UInt8 := [42, 27, 184, 1, 25, 182, 0, 91, 172]
abbrev dktX1_setDraught_0 : List UInt8 := dkwX1_setDraught_0 ++ []
theorem dksX1_setDraught_0 : cX1_setDraught.data.toList.drop 0 = dktX1_setDraught_0 := by decide +kernel
theorem dX1_setDraught_0 : decode cX1_setDraught 0 = .ok (.aload_n 0, 1) := dk_42 (dk_at dksX1_setDraught_0 0 rfl rfl)
theorem dX1_setDraught_1 : decode cX1_setDraught 1 = .ok (.iload_n 1, 1) := dk_27 (dk_at dksX1_setDraught_0 1 rfl rfl)
theorem dX1_setDraught_2 : decode cX1_setDraught 2 = .ok (.invokestatic 281, 3) := dk_184 1 25 (dk_at dksX1_setDraught_0 2 rfl rfl)
theorem dX1_setDraught_5 : decode cX1_setDraught 5 = .ok (.invokevirtual 91, 3) := dk_182 0 91 (dk_at dksX1_setDraught_0 5 rfl rfl)
theorem dX1_setDraught_8 : decode cX1_setDraught 8 = .ok (.ireturn, 1) := dk_172 (dk_at dksX1_setDraught_0 8 rfl rfl)
abbrev cX1_sweep : ByteArray := prog_1_method_29_code
def yX1_sweep : MethodName := ⟨RX1, "sweep", "()I"⟩
def dkwX1_sweep_0 : List UInt8 := [42, 184, 1, 28, 182, 0, 91, 172]
abbrev dktX1_sweep_0 : List UInt8 := dkwX1_sweep_0 ++ []
theorem dksX1_sweep_0 : cX1_sweep.data.toList.drop 0 = dktX1_sweep_0 := by decide +kernel
theorem dX1_sweep_0 : decode cX1_sweep 0 = .ok (.aload_n 0, 1) := dk_42 (dk_at dksX1_sweep_0 0 rfl rfl)
theorem dX1_sweep_1 : decode cX1_sweep 1 = .ok (.invokestatic 284, 3) := dk_184 1 28 (dk_at dksX1_sweep_0 1 rfl rfl)
theorem dX1_sweep_4 : decode cX1_sweep 4 = .ok (.invokevirtual 91, 3) := dk_182 0 91 (dk_at dksX1_sweep_0 4 rfl rfl)
theorem dX1_sweep_7 : decode cX1_sweep 7 = .ok (.ireturn, 1) := dk_172 (dk_at dksX1_sweep_0 7 rfl rfl)
abbrev cX1_pass : ByteArray := prog_1_method_30_code
def yX1_pass : MethodName := ⟨RX1, "pass", "(I)I"⟩
def dkwX1_pass_0 : List UInt8 := [42, 27, 184, 1, 32, 182, 0, 91, 172]
abbrev dktX1_pass_0 : List UInt8 := dkwX1_pass_0 ++ []
theorem dksX1_pass_0 : cX1_pass.data.toList.drop 0 = dktX1_pass_0 := by decide +kernel
theorem dX1_pass_0 : decode cX1_pass 0 = .ok (.aload_n 0, 1) := dk_42 (dk_at dksX1_pass_0 0 rfl rfl)
theorem dX1_pass_1 : decode cX1_pass 1 = .ok (.iload_n 1, 1) := dk_27 (dk_at dksX1_pass_0 1 rfl rfl)
theorem dX1_pass_2 : decode cX1_pass 2 = .ok (.invokestatic 288, 3) := dk_184 1 32 (dk_at dksX1_pass_0 2 rfl rfl)
theorem dX1_pass_5 : decode cX1_pass 5 = .ok (.invokevirtual 91, 3) := dk_182 0 91 (dk_at dksX1_pass_0 5 rfl rfl)
theorem dX1_pass_8 : decode cX1_pass 8 = .ok (.ireturn, 1) := dk_172 (dk_at dksX1_pass_0 8 rfl rfl)
abbrev cX1_fullIn : ByteArray := prog_1_method_31_code
def yX1_fullIn : MethodName := ⟨RX1, "fullIn", "(I)I"⟩
def dkwX1_fullIn_1 : List UInt8 := [42, 180, 0, 33, 183, 0, 67, 182, 1, 38, 172]
abbrev dktX1_fullIn_1 : List UInt8 := dkwX1_fullIn_1 ++ []
def dkwX1_fullIn_0 : List UInt8 := [42, 180, 0, 33, 27, 182, 0, 119, 77, 187, 1, 35, 89, 42, 27, 183, 1, 37, 78, 45, 187, 0, 30, 89]
abbrev dktX1_fullIn_0 : List UInt8 := dkwX1_fullIn_0 ++ dktX1_fullIn_1
theorem dksX1_fullIn_0 : cX1_fullIn.data.toList.drop 0 = dktX1_fullIn_0 := by decide +kernel
theorem dksX1_fullIn_1 : cX1_fullIn.data.toList.drop 24 = dktX1_fullIn_1 := dk_seg dksX1_fullIn_0 24 rfl rfl
theorem dX1_fullIn_0 : decode cX1_fullIn 0 = .ok (.aload_n 0, 1) := dk_42 (dk_at dksX1_fullIn_0 0 rfl rfl)
theorem dX1_fullIn_1 : decode cX1_fullIn 1 = .ok (.getfield 33, 3) := dk_180 0 33 (dk_at dksX1_fullIn_0 1 rfl rfl)
theorem dX1_fullIn_4 : decode cX1_fullIn 4 = .ok (.iload_n 1, 1) := dk_27 (dk_at dksX1_fullIn_0 4 rfl rfl)
theorem dX1_fullIn_5 : decode cX1_fullIn 5 = .ok (.invokevirtual 119, 3) := dk_182 0 119 (dk_at dksX1_fullIn_0 5 rfl rfl)
theorem dX1_fullIn_8 : decode cX1_fullIn 8 = .ok (.astore_n 2, 1) := dk_77 (dk_at dksX1_fullIn_0 8 rfl rfl)
theorem dX1_fullIn_9 : decode cX1_fullIn 9 = .ok (.new 291, 3) := dk_187 1 35 (dk_at dksX1_fullIn_0 9 rfl rfl)
theorem dX1_fullIn_12 : decode cX1_fullIn 12 = .ok (.dup, 1) := dk_89 (dk_at dksX1_fullIn_0 12 rfl rfl)
theorem dX1_fullIn_13 : decode cX1_fullIn 13 = .ok (.aload_n 0, 1) := dk_42 (dk_at dksX1_fullIn_0 13 rfl rfl)
theorem dX1_fullIn_14 : decode cX1_fullIn 14 = .ok (.iload_n 1, 1) := dk_27 (dk_at dksX1_fullIn_0 14 rfl rfl)
theorem dX1_fullIn_15 : decode cX1_fullIn 15 = .ok (.invokespecial 293, 3) := dk_183 1 37 (dk_at dksX1_fullIn_0 15 rfl rfl)
theorem dX1_fullIn_18 : decode cX1_fullIn 18 = .ok (.astore_n 3, 1) := dk_78 (dk_at dksX1_fullIn_0 18 rfl rfl)
theorem dX1_fullIn_19 : decode cX1_fullIn 19 = .ok (.aload_n 3, 1) := dk_45 (dk_at dksX1_fullIn_0 19 rfl rfl)
theorem dX1_fullIn_20 : decode cX1_fullIn 20 = .ok (.new 30, 3) := dk_187 0 30 (dk_at dksX1_fullIn_0 20 rfl rfl)
theorem dX1_fullIn_23 : decode cX1_fullIn 23 = .ok (.dup, 1) := dk_89 (dk_at dksX1_fullIn_0 23 rfl rfl)
theorem dX1_fullIn_24 : decode cX1_fullIn 24 = .ok (.aload_n 0, 1) := dk_42 (dk_at dksX1_fullIn_1 0 rfl rfl)
theorem dX1_fullIn_25 : decode cX1_fullIn 25 = .ok (.getfield 33, 3) := dk_180 0 33 (dk_at dksX1_fullIn_1 1 rfl rfl)
theorem dX1_fullIn_28 : decode cX1_fullIn 28 = .ok (.invokespecial 67, 3) := dk_183 0 67 (dk_at dksX1_fullIn_1 4 rfl rfl)
theorem dX1_fullIn_31 : decode cX1_fullIn 31 = .ok (.invokevirtual 294, 3) := dk_182 1 38 (dk_at dksX1_fullIn_1 7 rfl rfl)
theorem dX1_fullIn_34 : decode cX1_fullIn 34 = .ok (.ireturn, 1) := dk_172 (dk_at dksX1_fullIn_1 10 rfl rfl)
abbrev cX1_sizeIn : ByteArray := prog_1_method_32_code
def yX1_sizeIn : MethodName := ⟨RX1, "sizeIn", "(III)I"⟩
def dkwX1_sizeIn_2 : List UInt8 := [182, 1, 42, 132, 6, 1, 167, 255, 242, 25, 5, 180, 0, 160, 172]
abbrev dktX1_sizeIn_2 : List UInt8 := dkwX1_sizeIn_2 ++ []
def dkwX1_sizeIn_1 : List UInt8 := [58, 5, 29, 3, 17, 0, 240, 184, 0, 10, 184, 0, 122, 3, 54, 6, 21, 6, 29, 162, 0, 14, 25, 4]
abbrev dktX1_sizeIn_1 : List UInt8 := dkwX1_sizeIn_1 ++ dktX1_sizeIn_2
def dkwX1_sizeIn_0 : List UInt8 := [187, 0, 30, 89, 42, 180, 0, 33, 183, 0, 67, 58, 4, 25, 4, 27, 182, 0, 119, 28, 182, 0, 156]
abbrev dktX1_sizeIn_0 : List UInt8 := dkwX1_sizeIn_0 ++ dktX1_sizeIn_1
theorem dksX1_sizeIn_0 : cX1_sizeIn.data.toList.drop 0 = dktX1_sizeIn_0 := by decide +kernel
theorem dksX1_sizeIn_1 : cX1_sizeIn.data.toList.drop 23 = dktX1_sizeIn_1 := dk_seg dksX1_sizeIn_0 23 rfl rfl
theorem dksX1_sizeIn_2 : cX1_sizeIn.data.toList.drop 47 = dktX1_sizeIn_2 := dk_seg dksX1_sizeIn_1 24 rfl rfl
theorem dX1_sizeIn_0 : decode cX1_sizeIn 0 = .ok (.new 30, 3) := dk_187 0 30 (dk_at dksX1_sizeIn_0 0 rfl rfl)
theorem dX1_sizeIn_3 : decode cX1_sizeIn 3 = .ok (.dup, 1) := dk_89 (dk_at dksX1_sizeIn_0 3 rfl rfl)
theorem dX1_sizeIn_4 : decode cX1_sizeIn 4 = .ok (.aload_n 0, 1) := dk_42 (dk_at dksX1_sizeIn_0 4 rfl rfl)
theorem dX1_sizeIn_5 : decode cX1_sizeIn 5 = .ok (.getfield 33, 3) := dk_180 0 33 (dk_at dksX1_sizeIn_0 5 rfl rfl)
theorem dX1_sizeIn_8 : decode cX1_sizeIn 8 = .ok (.invokespecial 67, 3) := dk_183 0 67 (dk_at dksX1_sizeIn_0 8 rfl rfl)
theorem dX1_sizeIn_11 : decode cX1_sizeIn 11 = .ok (.astore 4, 2) := dk_58 4 (dk_at dksX1_sizeIn_0 11 rfl rfl)
theorem dX1_sizeIn_13 : decode cX1_sizeIn 13 = .ok (.aload 4, 2) := dk_25 4 (dk_at dksX1_sizeIn_0 13 rfl rfl)
theorem dX1_sizeIn_15 : decode cX1_sizeIn 15 = .ok (.iload_n 1, 1) := dk_27 (dk_at dksX1_sizeIn_0 15 rfl rfl)
theorem dX1_sizeIn_16 : decode cX1_sizeIn 16 = .ok (.invokevirtual 119, 3) := dk_182 0 119 (dk_at dksX1_sizeIn_0 16 rfl rfl)
theorem dX1_sizeIn_19 : decode cX1_sizeIn 19 = .ok (.iload_n 2, 1) := dk_28 (dk_at dksX1_sizeIn_0 19 rfl rfl)
theorem dX1_sizeIn_20 : decode cX1_sizeIn 20 = .ok (.invokevirtual 156, 3) := dk_182 0 156 (dk_at dksX1_sizeIn_0 20 rfl rfl)
theorem dX1_sizeIn_23 : decode cX1_sizeIn 23 = .ok (.astore 5, 2) := dk_58 5 (dk_at dksX1_sizeIn_1 0 rfl rfl)
theorem dX1_sizeIn_25 : decode cX1_sizeIn 25 = .ok (.iload_n 3, 1) := dk_29 (dk_at dksX1_sizeIn_1 2 rfl rfl)
theorem dX1_sizeIn_26 : decode cX1_sizeIn 26 = .ok (.iconst 0, 1) := dk_3 (dk_at dksX1_sizeIn_1 3 rfl rfl)
theorem dX1_sizeIn_27 : decode cX1_sizeIn 27 = .ok (.sipush 240, 3) := dk_17 0 240 (dk_at dksX1_sizeIn_1 4 rfl rfl)
theorem dX1_sizeIn_30 : decode cX1_sizeIn 30 = .ok (.invokestatic 10, 3) := dk_184 0 10 (dk_at dksX1_sizeIn_1 7 rfl rfl)
theorem dX1_sizeIn_33 : decode cX1_sizeIn 33 = .ok (.invokestatic 122, 3) := dk_184 0 122 (dk_at dksX1_sizeIn_1 10 rfl rfl)
theorem dX1_sizeIn_36 : decode cX1_sizeIn 36 = .ok (.iconst 0, 1) := dk_3 (dk_at dksX1_sizeIn_1 13 rfl rfl)
theorem dX1_sizeIn_37 : decode cX1_sizeIn 37 = .ok (.istore 6, 2) := dk_54 6 (dk_at dksX1_sizeIn_1 14 rfl rfl)
theorem dX1_sizeIn_39 : decode cX1_sizeIn 39 = .ok (.iload 6, 2) := dk_21 6 (dk_at dksX1_sizeIn_1 16 rfl rfl)
theorem dX1_sizeIn_41 : decode cX1_sizeIn 41 = .ok (.iload_n 3, 1) := dk_29 (dk_at dksX1_sizeIn_1 18 rfl rfl)
theorem dX1_sizeIn_42 : decode cX1_sizeIn 42 = .ok (.if_icmp .ge 14, 3) := dk_162 0 14 (dk_at dksX1_sizeIn_1 19 rfl rfl)
theorem dX1_sizeIn_45 : decode cX1_sizeIn 45 = .ok (.aload 4, 2) := dk_25 4 (dk_at dksX1_sizeIn_1 22 rfl rfl)
theorem dX1_sizeIn_47 : decode cX1_sizeIn 47 = .ok (.invokevirtual 298, 3) := dk_182 1 42 (dk_at dksX1_sizeIn_2 0 rfl rfl)
theorem dX1_sizeIn_50 : decode cX1_sizeIn 50 = .ok (.iinc 6 1, 3) := dk_132 6 1 (dk_at dksX1_sizeIn_2 3 rfl rfl)
theorem dX1_sizeIn_53 : decode cX1_sizeIn 53 = .ok (.goto (-14), 3) := dk_167 255 242 (dk_at dksX1_sizeIn_2 6 rfl rfl)
theorem dX1_sizeIn_56 : decode cX1_sizeIn 56 = .ok (.aload 5, 2) := dk_25 5 (dk_at dksX1_sizeIn_2 9 rfl rfl)
theorem dX1_sizeIn_58 : decode cX1_sizeIn 58 = .ok (.getfield 160, 3) := dk_180 0 160 (dk_at dksX1_sizeIn_2 11 rfl rfl)
theorem dX1_sizeIn_61 : decode cX1_sizeIn 61 = .ok (.ireturn, 1) := dk_172 (dk_at dksX1_sizeIn_2 14 rfl rfl)
abbrev cX1_clearIn : ByteArray := prog_1_method_33_code
def yX1_clearIn : MethodName := ⟨RX1, "clearIn", "(I)I"⟩
def dkwX1_clearIn_1 : List UInt8 := [180, 0, 33, 183, 0, 67, 182, 1, 48, 172]
abbrev dktX1_clearIn_1 : List UInt8 := dkwX1_clearIn_1 ++ []
def dkwX1_clearIn_0 : List UInt8 := [27, 4, 16, 100, 184, 0, 10, 184, 0, 122, 187, 1, 45, 89, 42, 27, 183, 1, 47, 187, 0, 30, 89, 42]
abbrev dktX1_clearIn_0 : List UInt8 := dkwX1_clearIn_0 ++ dktX1_clearIn_1
theorem dksX1_clearIn_0 : cX1_clearIn.data.toList.drop 0 = dktX1_clearIn_0 := by decide +kernel
theorem dksX1_clearIn_1 : cX1_clearIn.data.toList.drop 24 = dktX1_clearIn_1 := dk_seg dksX1_clearIn_0 24 rfl rfl
theorem dX1_clearIn_0 : decode cX1_clearIn 0 = .ok (.iload_n 1, 1) := dk_27 (dk_at dksX1_clearIn_0 0 rfl rfl)
theorem dX1_clearIn_1 : decode cX1_clearIn 1 = .ok (.iconst 1, 1) := dk_4 (dk_at dksX1_clearIn_0 1 rfl rfl)
theorem dX1_clearIn_2 : decode cX1_clearIn 2 = .ok (.bipush 100, 2) := dk_16 100 (dk_at dksX1_clearIn_0 2 rfl rfl)
theorem dX1_clearIn_4 : decode cX1_clearIn 4 = .ok (.invokestatic 10, 3) := dk_184 0 10 (dk_at dksX1_clearIn_0 4 rfl rfl)
theorem dX1_clearIn_7 : decode cX1_clearIn 7 = .ok (.invokestatic 122, 3) := dk_184 0 122 (dk_at dksX1_clearIn_0 7 rfl rfl)
theorem dX1_clearIn_10 : decode cX1_clearIn 10 = .ok (.new 301, 3) := dk_187 1 45 (dk_at dksX1_clearIn_0 10 rfl rfl)
theorem dX1_clearIn_13 : decode cX1_clearIn 13 = .ok (.dup, 1) := dk_89 (dk_at dksX1_clearIn_0 13 rfl rfl)
theorem dX1_clearIn_14 : decode cX1_clearIn 14 = .ok (.aload_n 0, 1) := dk_42 (dk_at dksX1_clearIn_0 14 rfl rfl)
theorem dX1_clearIn_15 : decode cX1_clearIn 15 = .ok (.iload_n 1, 1) := dk_27 (dk_at dksX1_clearIn_0 15 rfl rfl)
theorem dX1_clearIn_16 : decode cX1_clearIn 16 = .ok (.invokespecial 303, 3) := dk_183 1 47 (dk_at dksX1_clearIn_0 16 rfl rfl)
theorem dX1_clearIn_19 : decode cX1_clearIn 19 = .ok (.new 30, 3) := dk_187 0 30 (dk_at dksX1_clearIn_0 19 rfl rfl)
theorem dX1_clearIn_22 : decode cX1_clearIn 22 = .ok (.dup, 1) := dk_89 (dk_at dksX1_clearIn_0 22 rfl rfl)
theorem dX1_clearIn_23 : decode cX1_clearIn 23 = .ok (.aload_n 0, 1) := dk_42 (dk_at dksX1_clearIn_0 23 rfl rfl)
theorem dX1_clearIn_24 : decode cX1_clearIn 24 = .ok (.getfield 33, 3) := dk_180 0 33 (dk_at dksX1_clearIn_1 0 rfl rfl)
theorem dX1_clearIn_27 : decode cX1_clearIn 27 = .ok (.invokespecial 67, 3) := dk_183 0 67 (dk_at dksX1_clearIn_1 3 rfl rfl)
theorem dX1_clearIn_30 : decode cX1_clearIn 30 = .ok (.invokevirtual 304, 3) := dk_182 1 48 (dk_at dksX1_clearIn_1 6 rfl rfl)
theorem dX1_clearIn_33 : decode cX1_clearIn 33 = .ok (.ireturn, 1) := dk_172 (dk_at dksX1_clearIn_1 9 rfl rfl)
abbrev cX1_leastDraught : ByteArray := prog_1_method_35_code
def yX1_leastDraught : MethodName := ⟨RX1, "leastDraught", "()I"⟩
def dkwX1_leastDraught_1 : List UInt8 := [187, 0, 19, 89, 183, 0, 21, 191]
abbrev dktX1_leastDraught_1 : List UInt8 := dkwX1_leastDraught_1 ++ []
def dkwX1_leastDraught_0 : List UInt8 := [3, 60, 27, 16, 9, 163, 0, 19, 42, 27, 182, 1, 55, 153, 0, 5, 27, 172, 132, 1, 1, 167, 255, 237]
abbrev dktX1_leastDraught_0 : List UInt8 := dkwX1_leastDraught_0 ++ dktX1_leastDraught_1
theorem dksX1_leastDraught_0 : cX1_leastDraught.data.toList.drop 0 = dktX1_leastDraught_0 := by decide +kernel
theorem dksX1_leastDraught_1 : cX1_leastDraught.data.toList.drop 24 = dktX1_leastDraught_1 := dk_seg dksX1_leastDraught_0 24 rfl rfl
theorem dX1_leastDraught_0 : decode cX1_leastDraught 0 = .ok (.iconst 0, 1) := dk_3 (dk_at dksX1_leastDraught_0 0 rfl rfl)
theorem dX1_leastDraught_1 : decode cX1_leastDraught 1 = .ok (.istore_n 1, 1) := dk_60 (dk_at dksX1_leastDraught_0 1 rfl rfl)
theorem dX1_leastDraught_2 : decode cX1_leastDraught 2 = .ok (.iload_n 1, 1) := dk_27 (dk_at dksX1_leastDraught_0 2 rfl rfl)
theorem dX1_leastDraught_3 : decode cX1_leastDraught 3 = .ok (.bipush 9, 2) := dk_16 9 (dk_at dksX1_leastDraught_0 3 rfl rfl)
theorem dX1_leastDraught_5 : decode cX1_leastDraught 5 = .ok (.if_icmp .gt 19, 3) := dk_163 0 19 (dk_at dksX1_leastDraught_0 5 rfl rfl)
theorem dX1_leastDraught_8 : decode cX1_leastDraught 8 = .ok (.aload_n 0, 1) := dk_42 (dk_at dksX1_leastDraught_0 8 rfl rfl)
theorem dX1_leastDraught_9 : decode cX1_leastDraught 9 = .ok (.iload_n 1, 1) := dk_27 (dk_at dksX1_leastDraught_0 9 rfl rfl)
theorem dX1_leastDraught_10 : decode cX1_leastDraught 10 = .ok (.invokevirtual 311, 3) := dk_182 1 55 (dk_at dksX1_leastDraught_0 10 rfl rfl)
theorem dX1_leastDraught_13 : decode cX1_leastDraught 13 = .ok (.ifCond .eq 5, 3) := dk_153 0 5 (dk_at dksX1_leastDraught_0 13 rfl rfl)
theorem dX1_leastDraught_16 : decode cX1_leastDraught 16 = .ok (.iload_n 1, 1) := dk_27 (dk_at dksX1_leastDraught_0 16 rfl rfl)
theorem dX1_leastDraught_17 : decode cX1_leastDraught 17 = .ok (.ireturn, 1) := dk_172 (dk_at dksX1_leastDraught_0 17 rfl rfl)
theorem dX1_leastDraught_18 : decode cX1_leastDraught 18 = .ok (.iinc 1 1, 3) := dk_132 1 1 (dk_at dksX1_leastDraught_0 18 rfl rfl)
theorem dX1_leastDraught_21 : decode cX1_leastDraught 21 = .ok (.goto (-19), 3) := dk_167 255 237 (dk_at dksX1_leastDraught_0 21 rfl rfl)
theorem dX1_leastDraught_24 : decode cX1_leastDraught 24 = .ok (.new 19, 3) := dk_187 0 19 (dk_at dksX1_leastDraught_1 0 rfl rfl)
theorem dX1_leastDraught_27 : decode cX1_leastDraught 27 = .ok (.dup, 1) := dk_89 (dk_at dksX1_leastDraught_1 3 rfl rfl)
theorem dX1_leastDraught_28 : decode cX1_leastDraught 28 = .ok (.invokespecial 21, 3) := dk_183 0 21 (dk_at dksX1_leastDraught_1 4 rfl rfl)
theorem dX1_leastDraught_31 : decode cX1_leastDraught 31 = .ok (.athrow, 1) := dk_191 (dk_at dksX1_leastDraught_1 7 rfl rfl)
abbrev cX1_isGoodBy : ByteArray := prog_1_method_34_code
def yX1_isGoodBy : MethodName := ⟨RX1, "isGoodBy", "(I)Z"⟩
def dkwX1_isGoodBy_2 : List UInt8 := [167, 0, 4, 3, 62, 132, 4, 1, 167, 255, 223, 29, 172]
abbrev dktX1_isGoodBy_2 : List UInt8 := dkwX1_isGoodBy_2 ++ []
def dkwX1_isGoodBy_1 : List UInt8 := [153, 0, 35, 21, 4, 16, 60, 162, 0, 28, 44, 182, 1, 42, 44, 180, 1, 52, 16, 50, 162, 0, 7, 4]
abbrev dktX1_isGoodBy_1 : List UInt8 := dkwX1_isGoodBy_1 ++ dktX1_isGoodBy_2
def dkwX1_isGoodBy_0 : List UInt8 := [187, 0, 30, 89, 42, 180, 0, 33, 183, 0, 67, 77, 44, 27, 181, 1, 49, 4, 62, 3, 54, 4, 29]
abbrev dktX1_isGoodBy_0 : List UInt8 := dkwX1_isGoodBy_0 ++ dktX1_isGoodBy_1
theorem dksX1_isGoodBy_0 : cX1_isGoodBy.data.toList.drop 0 = dktX1_isGoodBy_0 := by decide +kernel
theorem dksX1_isGoodBy_1 : cX1_isGoodBy.data.toList.drop 23 = dktX1_isGoodBy_1 := dk_seg dksX1_isGoodBy_0 23 rfl rfl
theorem dksX1_isGoodBy_2 : cX1_isGoodBy.data.toList.drop 47 = dktX1_isGoodBy_2 := dk_seg dksX1_isGoodBy_1 24 rfl rfl
theorem dX1_isGoodBy_0 : decode cX1_isGoodBy 0 = .ok (.new 30, 3) := dk_187 0 30 (dk_at dksX1_isGoodBy_0 0 rfl rfl)
theorem dX1_isGoodBy_3 : decode cX1_isGoodBy 3 = .ok (.dup, 1) := dk_89 (dk_at dksX1_isGoodBy_0 3 rfl rfl)
theorem dX1_isGoodBy_4 : decode cX1_isGoodBy 4 = .ok (.aload_n 0, 1) := dk_42 (dk_at dksX1_isGoodBy_0 4 rfl rfl)
theorem dX1_isGoodBy_5 : decode cX1_isGoodBy 5 = .ok (.getfield 33, 3) := dk_180 0 33 (dk_at dksX1_isGoodBy_0 5 rfl rfl)
theorem dX1_isGoodBy_8 : decode cX1_isGoodBy 8 = .ok (.invokespecial 67, 3) := dk_183 0 67 (dk_at dksX1_isGoodBy_0 8 rfl rfl)
theorem dX1_isGoodBy_11 : decode cX1_isGoodBy 11 = .ok (.astore_n 2, 1) := dk_77 (dk_at dksX1_isGoodBy_0 11 rfl rfl)
theorem dX1_isGoodBy_12 : decode cX1_isGoodBy 12 = .ok (.aload_n 2, 1) := dk_44 (dk_at dksX1_isGoodBy_0 12 rfl rfl)
theorem dX1_isGoodBy_13 : decode cX1_isGoodBy 13 = .ok (.iload_n 1, 1) := dk_27 (dk_at dksX1_isGoodBy_0 13 rfl rfl)
theorem dX1_isGoodBy_14 : decode cX1_isGoodBy 14 = .ok (.putfield 305, 3) := dk_181 1 49 (dk_at dksX1_isGoodBy_0 14 rfl rfl)
theorem dX1_isGoodBy_17 : decode cX1_isGoodBy 17 = .ok (.iconst 1, 1) := dk_4 (dk_at dksX1_isGoodBy_0 17 rfl rfl)
theorem dX1_isGoodBy_18 : decode cX1_isGoodBy 18 = .ok (.istore_n 3, 1) := dk_62 (dk_at dksX1_isGoodBy_0 18 rfl rfl)
theorem dX1_isGoodBy_19 : decode cX1_isGoodBy 19 = .ok (.iconst 0, 1) := dk_3 (dk_at dksX1_isGoodBy_0 19 rfl rfl)
theorem dX1_isGoodBy_20 : decode cX1_isGoodBy 20 = .ok (.istore 4, 2) := dk_54 4 (dk_at dksX1_isGoodBy_0 20 rfl rfl)
theorem dX1_isGoodBy_22 : decode cX1_isGoodBy 22 = .ok (.iload_n 3, 1) := dk_29 (dk_at dksX1_isGoodBy_0 22 rfl rfl)
theorem dX1_isGoodBy_23 : decode cX1_isGoodBy 23 = .ok (.ifCond .eq 35, 3) := dk_153 0 35 (dk_at dksX1_isGoodBy_1 0 rfl rfl)
theorem dX1_isGoodBy_26 : decode cX1_isGoodBy 26 = .ok (.iload 4, 2) := dk_21 4 (dk_at dksX1_isGoodBy_1 3 rfl rfl)
theorem dX1_isGoodBy_28 : decode cX1_isGoodBy 28 = .ok (.bipush 60, 2) := dk_16 60 (dk_at dksX1_isGoodBy_1 5 rfl rfl)
theorem dX1_isGoodBy_30 : decode cX1_isGoodBy 30 = .ok (.if_icmp .ge 28, 3) := dk_162 0 28 (dk_at dksX1_isGoodBy_1 7 rfl rfl)
theorem dX1_isGoodBy_33 : decode cX1_isGoodBy 33 = .ok (.aload_n 2, 1) := dk_44 (dk_at dksX1_isGoodBy_1 10 rfl rfl)
theorem dX1_isGoodBy_34 : decode cX1_isGoodBy 34 = .ok (.invokevirtual 298, 3) := dk_182 1 42 (dk_at dksX1_isGoodBy_1 11 rfl rfl)
theorem dX1_isGoodBy_37 : decode cX1_isGoodBy 37 = .ok (.aload_n 2, 1) := dk_44 (dk_at dksX1_isGoodBy_1 14 rfl rfl)
theorem dX1_isGoodBy_38 : decode cX1_isGoodBy 38 = .ok (.getfield 308, 3) := dk_180 1 52 (dk_at dksX1_isGoodBy_1 15 rfl rfl)
theorem dX1_isGoodBy_41 : decode cX1_isGoodBy 41 = .ok (.bipush 50, 2) := dk_16 50 (dk_at dksX1_isGoodBy_1 18 rfl rfl)
theorem dX1_isGoodBy_43 : decode cX1_isGoodBy 43 = .ok (.if_icmp .ge 7, 3) := dk_162 0 7 (dk_at dksX1_isGoodBy_1 20 rfl rfl)
theorem dX1_isGoodBy_46 : decode cX1_isGoodBy 46 = .ok (.iconst 1, 1) := dk_4 (dk_at dksX1_isGoodBy_1 23 rfl rfl)
theorem dX1_isGoodBy_47 : decode cX1_isGoodBy 47 = .ok (.goto 4, 3) := dk_167 0 4 (dk_at dksX1_isGoodBy_2 0 rfl rfl)
theorem dX1_isGoodBy_50 : decode cX1_isGoodBy 50 = .ok (.iconst 0, 1) := dk_3 (dk_at dksX1_isGoodBy_2 3 rfl rfl)
theorem dX1_isGoodBy_51 : decode cX1_isGoodBy 51 = .ok (.istore_n 3, 1) := dk_62 (dk_at dksX1_isGoodBy_2 4 rfl rfl)
theorem dX1_isGoodBy_52 : decode cX1_isGoodBy 52 = .ok (.iinc 4 1, 3) := dk_132 4 1 (dk_at dksX1_isGoodBy_2 5 rfl rfl)
theorem dX1_isGoodBy_55 : decode cX1_isGoodBy 55 = .ok (.goto (-33), 3) := dk_167 255 223 (dk_at dksX1_isGoodBy_2 8 rfl rfl)
theorem dX1_isGoodBy_58 : decode cX1_isGoodBy 58 = .ok (.iload_n 3, 1) := dk_29 (dk_at dksX1_isGoodBy_2 11 rfl rfl)
theorem dX1_isGoodBy_59 : decode cX1_isGoodBy 59 = .ok (.ireturn, 1) := dk_172 (dk_at dksX1_isGoodBy_2 12 rfl rfl)
abbrev cX1_line : ByteArray := prog_1_method_36_code
def yX1_line : MethodName := ⟨RX1, "line", "(I)I"⟩
def dkwX1_line_6 : List UInt8 := [132, 5, 1, 167, 255, 171, 45, 182, 1, 76, 172]
abbrev dktX1_line_6 : List UInt8 := dkwX1_line_6 ++ []
def dkwX1_line_5 : List UInt8 := [162, 0, 7, 4, 167, 0, 4, 3, 182, 1, 73, 153, 0, 13, 42, 180, 0, 47, 16, 33, 182, 1, 67, 78]
abbrev dktX1_line_5 : List UInt8 := dkwX1_line_5 ++ dktX1_line_6
def dkwX1_line_4 : List UInt8 := [182, 1, 63, 78, 21, 5, 21, 4, 160, 0, 38, 25, 7, 42, 180, 0, 33, 180, 1, 52, 16, 50]
abbrev dktX1_line_4 : List UInt8 := dkwX1_line_4 ++ dktX1_line_5
def dkwX1_line_3 : List UInt8 := [185, 0, 110, 1, 0, 192, 0, 161, 58, 7, 42, 180, 0, 47, 16, 32, 182, 1, 67, 25, 7, 180, 0, 160]
abbrev dktX1_line_3 : List UInt8 := dkwX1_line_3 ++ dktX1_line_4
def dkwX1_line_2 : List UInt8 := [54, 4, 3, 54, 5, 44, 182, 0, 174, 58, 6, 25, 6, 185, 0, 104, 1, 0, 153, 0, 81, 25, 6]
abbrev dktX1_line_2 : List UInt8 := dkwX1_line_2 ++ dktX1_line_3
def dkwX1_line_1 : List UInt8 := [180, 0, 131, 182, 1, 63, 16, 47, 182, 1, 67, 44, 180, 0, 126, 182, 1, 63, 78, 44, 182, 1, 70]
abbrev dktX1_line_1 : List UInt8 := dkwX1_line_1 ++ dktX1_line_2
def dkwX1_line_0 : List UInt8 := [42, 180, 0, 33, 27, 182, 0, 119, 77, 42, 180, 0, 47, 3, 182, 1, 59, 42, 180, 0, 47, 44]
abbrev dktX1_line_0 : List UInt8 := dkwX1_line_0 ++ dktX1_line_1
theorem dksX1_line_0 : cX1_line.data.toList.drop 0 = dktX1_line_0 := by decide +kernel
theorem dksX1_line_1 : cX1_line.data.toList.drop 22 = dktX1_line_1 := dk_seg dksX1_line_0 22 rfl rfl
theorem dksX1_line_2 : cX1_line.data.toList.drop 45 = dktX1_line_2 := dk_seg dksX1_line_1 23 rfl rfl
theorem dksX1_line_3 : cX1_line.data.toList.drop 68 = dktX1_line_3 := dk_seg dksX1_line_2 23 rfl rfl
theorem dksX1_line_4 : cX1_line.data.toList.drop 92 = dktX1_line_4 := dk_seg dksX1_line_3 24 rfl rfl
theorem dksX1_line_5 : cX1_line.data.toList.drop 114 = dktX1_line_5 := dk_seg dksX1_line_4 22 rfl rfl
theorem dksX1_line_6 : cX1_line.data.toList.drop 138 = dktX1_line_6 := dk_seg dksX1_line_5 24 rfl rfl
theorem dX1_line_0 : decode cX1_line 0 = .ok (.aload_n 0, 1) := dk_42 (dk_at dksX1_line_0 0 rfl rfl)
theorem dX1_line_1 : decode cX1_line 1 = .ok (.getfield 33, 3) := dk_180 0 33 (dk_at dksX1_line_0 1 rfl rfl)
theorem dX1_line_4 : decode cX1_line 4 = .ok (.iload_n 1, 1) := dk_27 (dk_at dksX1_line_0 4 rfl rfl)
theorem dX1_line_5 : decode cX1_line 5 = .ok (.invokevirtual 119, 3) := dk_182 0 119 (dk_at dksX1_line_0 5 rfl rfl)
theorem dX1_line_8 : decode cX1_line 8 = .ok (.astore_n 2, 1) := dk_77 (dk_at dksX1_line_0 8 rfl rfl)
theorem dX1_line_9 : decode cX1_line 9 = .ok (.aload_n 0, 1) := dk_42 (dk_at dksX1_line_0 9 rfl rfl)
theorem dX1_line_10 : decode cX1_line 10 = .ok (.getfield 47, 3) := dk_180 0 47 (dk_at dksX1_line_0 10 rfl rfl)
theorem dX1_line_13 : decode cX1_line 13 = .ok (.iconst 0, 1) := dk_3 (dk_at dksX1_line_0 13 rfl rfl)
theorem dX1_line_14 : decode cX1_line 14 = .ok (.invokevirtual 315, 3) := dk_182 1 59 (dk_at dksX1_line_0 14 rfl rfl)
theorem dX1_line_17 : decode cX1_line 17 = .ok (.aload_n 0, 1) := dk_42 (dk_at dksX1_line_0 17 rfl rfl)
theorem dX1_line_18 : decode cX1_line 18 = .ok (.getfield 47, 3) := dk_180 0 47 (dk_at dksX1_line_0 18 rfl rfl)
theorem dX1_line_21 : decode cX1_line 21 = .ok (.aload_n 2, 1) := dk_44 (dk_at dksX1_line_0 21 rfl rfl)
theorem dX1_line_22 : decode cX1_line 22 = .ok (.getfield 131, 3) := dk_180 0 131 (dk_at dksX1_line_1 0 rfl rfl)
theorem dX1_line_25 : decode cX1_line 25 = .ok (.invokevirtual 319, 3) := dk_182 1 63 (dk_at dksX1_line_1 3 rfl rfl)
theorem dX1_line_28 : decode cX1_line 28 = .ok (.bipush 47, 2) := dk_16 47 (dk_at dksX1_line_1 6 rfl rfl)
theorem dX1_line_30 : decode cX1_line 30 = .ok (.invokevirtual 323, 3) := dk_182 1 67 (dk_at dksX1_line_1 8 rfl rfl)
theorem dX1_line_33 : decode cX1_line 33 = .ok (.aload_n 2, 1) := dk_44 (dk_at dksX1_line_1 11 rfl rfl)
theorem dX1_line_34 : decode cX1_line 34 = .ok (.getfield 126, 3) := dk_180 0 126 (dk_at dksX1_line_1 12 rfl rfl)
theorem dX1_line_37 : decode cX1_line 37 = .ok (.invokevirtual 319, 3) := dk_182 1 63 (dk_at dksX1_line_1 15 rfl rfl)
theorem dX1_line_40 : decode cX1_line 40 = .ok (.astore_n 3, 1) := dk_78 (dk_at dksX1_line_1 18 rfl rfl)
theorem dX1_line_41 : decode cX1_line 41 = .ok (.aload_n 2, 1) := dk_44 (dk_at dksX1_line_1 19 rfl rfl)
theorem dX1_line_42 : decode cX1_line 42 = .ok (.invokevirtual 326, 3) := dk_182 1 70 (dk_at dksX1_line_1 20 rfl rfl)
theorem dX1_line_45 : decode cX1_line 45 = .ok (.istore 4, 2) := dk_54 4 (dk_at dksX1_line_2 0 rfl rfl)
theorem dX1_line_47 : decode cX1_line 47 = .ok (.iconst 0, 1) := dk_3 (dk_at dksX1_line_2 2 rfl rfl)
theorem dX1_line_48 : decode cX1_line 48 = .ok (.istore 5, 2) := dk_54 5 (dk_at dksX1_line_2 3 rfl rfl)
theorem dX1_line_50 : decode cX1_line 50 = .ok (.aload_n 2, 1) := dk_44 (dk_at dksX1_line_2 5 rfl rfl)
theorem dX1_line_51 : decode cX1_line 51 = .ok (.invokevirtual 174, 3) := dk_182 0 174 (dk_at dksX1_line_2 6 rfl rfl)
theorem dX1_line_54 : decode cX1_line 54 = .ok (.astore 6, 2) := dk_58 6 (dk_at dksX1_line_2 9 rfl rfl)
theorem dX1_line_56 : decode cX1_line 56 = .ok (.aload 6, 2) := dk_25 6 (dk_at dksX1_line_2 11 rfl rfl)
theorem dX1_line_58 : decode cX1_line 58 = .ok (.invokeinterface 104 1, 5) := by decide +kernel
theorem dX1_line_63 : decode cX1_line 63 = .ok (.ifCond .eq 81, 3) := dk_153 0 81 (dk_at dksX1_line_2 18 rfl rfl)
theorem dX1_line_66 : decode cX1_line 66 = .ok (.aload 6, 2) := dk_25 6 (dk_at dksX1_line_2 21 rfl rfl)
theorem dX1_line_68 : decode cX1_line 68 = .ok (.invokeinterface 110 1, 5) := by decide +kernel
theorem dX1_line_73 : decode cX1_line 73 = .ok (.checkcast 161, 3) := dk_192 0 161 (dk_at dksX1_line_3 5 rfl rfl)
theorem dX1_line_76 : decode cX1_line 76 = .ok (.astore 7, 2) := dk_58 7 (dk_at dksX1_line_3 8 rfl rfl)
theorem dX1_line_78 : decode cX1_line 78 = .ok (.aload_n 0, 1) := dk_42 (dk_at dksX1_line_3 10 rfl rfl)
theorem dX1_line_79 : decode cX1_line 79 = .ok (.getfield 47, 3) := dk_180 0 47 (dk_at dksX1_line_3 11 rfl rfl)
theorem dX1_line_82 : decode cX1_line 82 = .ok (.bipush 32, 2) := dk_16 32 (dk_at dksX1_line_3 14 rfl rfl)
theorem dX1_line_84 : decode cX1_line 84 = .ok (.invokevirtual 323, 3) := dk_182 1 67 (dk_at dksX1_line_3 16 rfl rfl)
theorem dX1_line_87 : decode cX1_line 87 = .ok (.aload 7, 2) := dk_25 7 (dk_at dksX1_line_3 19 rfl rfl)
theorem dX1_line_89 : decode cX1_line 89 = .ok (.getfield 160, 3) := dk_180 0 160 (dk_at dksX1_line_3 21 rfl rfl)
theorem dX1_line_92 : decode cX1_line 92 = .ok (.invokevirtual 319, 3) := dk_182 1 63 (dk_at dksX1_line_4 0 rfl rfl)
theorem dX1_line_95 : decode cX1_line 95 = .ok (.astore_n 3, 1) := dk_78 (dk_at dksX1_line_4 3 rfl rfl)
theorem dX1_line_96 : decode cX1_line 96 = .ok (.iload 5, 2) := dk_21 5 (dk_at dksX1_line_4 4 rfl rfl)
theorem dX1_line_98 : decode cX1_line 98 = .ok (.iload 4, 2) := dk_21 4 (dk_at dksX1_line_4 6 rfl rfl)
theorem dX1_line_100 : decode cX1_line 100 = .ok (.if_icmp .ne 38, 3) := dk_160 0 38 (dk_at dksX1_line_4 8 rfl rfl)
theorem dX1_line_103 : decode cX1_line 103 = .ok (.aload 7, 2) := dk_25 7 (dk_at dksX1_line_4 11 rfl rfl)
theorem dX1_line_105 : decode cX1_line 105 = .ok (.aload_n 0, 1) := dk_42 (dk_at dksX1_line_4 13 rfl rfl)
theorem dX1_line_106 : decode cX1_line 106 = .ok (.getfield 33, 3) := dk_180 0 33 (dk_at dksX1_line_4 14 rfl rfl)
theorem dX1_line_109 : decode cX1_line 109 = .ok (.getfield 308, 3) := dk_180 1 52 (dk_at dksX1_line_4 17 rfl rfl)
theorem dX1_line_112 : decode cX1_line 112 = .ok (.bipush 50, 2) := dk_16 50 (dk_at dksX1_line_4 20 rfl rfl)
theorem dX1_line_114 : decode cX1_line 114 = .ok (.if_icmp .ge 7, 3) := dk_162 0 7 (dk_at dksX1_line_5 0 rfl rfl)
theorem dX1_line_117 : decode cX1_line 117 = .ok (.iconst 1, 1) := dk_4 (dk_at dksX1_line_5 3 rfl rfl)
theorem dX1_line_118 : decode cX1_line 118 = .ok (.goto 4, 3) := dk_167 0 4 (dk_at dksX1_line_5 4 rfl rfl)
theorem dX1_line_121 : decode cX1_line 121 = .ok (.iconst 0, 1) := dk_3 (dk_at dksX1_line_5 7 rfl rfl)
theorem dX1_line_122 : decode cX1_line 122 = .ok (.invokevirtual 329, 3) := dk_182 1 73 (dk_at dksX1_line_5 8 rfl rfl)
theorem dX1_line_125 : decode cX1_line 125 = .ok (.ifCond .eq 13, 3) := dk_153 0 13 (dk_at dksX1_line_5 11 rfl rfl)
theorem dX1_line_128 : decode cX1_line 128 = .ok (.aload_n 0, 1) := dk_42 (dk_at dksX1_line_5 14 rfl rfl)
theorem dX1_line_129 : decode cX1_line 129 = .ok (.getfield 47, 3) := dk_180 0 47 (dk_at dksX1_line_5 15 rfl rfl)
theorem dX1_line_132 : decode cX1_line 132 = .ok (.bipush 33, 2) := dk_16 33 (dk_at dksX1_line_5 18 rfl rfl)
theorem dX1_line_134 : decode cX1_line 134 = .ok (.invokevirtual 323, 3) := dk_182 1 67 (dk_at dksX1_line_5 20 rfl rfl)
theorem dX1_line_137 : decode cX1_line 137 = .ok (.astore_n 3, 1) := dk_78 (dk_at dksX1_line_5 23 rfl rfl)
theorem dX1_line_138 : decode cX1_line 138 = .ok (.iinc 5 1, 3) := dk_132 5 1 (dk_at dksX1_line_6 0 rfl rfl)
theorem dX1_line_141 : decode cX1_line 141 = .ok (.goto (-85), 3) := dk_167 255 171 (dk_at dksX1_line_6 3 rfl rfl)
theorem dX1_line_144 : decode cX1_line 144 = .ok (.aload_n 3, 1) := dk_45 (dk_at dksX1_line_6 6 rfl rfl)
theorem dX1_line_145 : decode cX1_line 145 = .ok (.invokevirtual 332, 3) := dk_182 1 76 (dk_at dksX1_line_6 7 rfl rfl)
theorem dX1_line_148 : decode cX1_line 148 = .ok (.ireturn, 1) := dk_172 (dk_at dksX1_line_6 10 rfl rfl)
abbrev cX1_character : ByteArray := prog_1_method_37_code
def yX1_character : MethodName := ⟨RX1, "character", "(I)C"⟩
def dkwX1_character_0 : List UInt8 := [27, 42, 180, 0, 47, 182, 1, 76, 184, 0, 202, 42, 180, 0, 47, 27, 182, 1, 79, 172]
abbrev dktX1_character_0 : List UInt8 := dkwX1_character_0 ++ []
theorem dksX1_character_0 : cX1_character.data.toList.drop 0 = dktX1_character_0 := by decide +kernel
theorem dX1_character_0 : decode cX1_character 0 = .ok (.iload_n 1, 1) := dk_27 (dk_at dksX1_character_0 0 rfl rfl)
theorem dX1_character_1 : decode cX1_character 1 = .ok (.aload_n 0, 1) := dk_42 (dk_at dksX1_character_0 1 rfl rfl)
theorem dX1_character_2 : decode cX1_character 2 = .ok (.getfield 47, 3) := dk_180 0 47 (dk_at dksX1_character_0 2 rfl rfl)
theorem dX1_character_5 : decode cX1_character 5 = .ok (.invokevirtual 332, 3) := dk_182 1 76 (dk_at dksX1_character_0 5 rfl rfl)
theorem dX1_character_8 : decode cX1_character 8 = .ok (.invokestatic 202, 3) := dk_184 0 202 (dk_at dksX1_character_0 8 rfl rfl)
theorem dX1_character_11 : decode cX1_character 11 = .ok (.aload_n 0, 1) := dk_42 (dk_at dksX1_character_0 11 rfl rfl)
theorem dX1_character_12 : decode cX1_character 12 = .ok (.getfield 47, 3) := dk_180 0 47 (dk_at dksX1_character_0 12 rfl rfl)
theorem dX1_character_15 : decode cX1_character 15 = .ok (.iload_n 1, 1) := dk_27 (dk_at dksX1_character_0 15 rfl rfl)
theorem dX1_character_16 : decode cX1_character 16 = .ok (.invokevirtual 335, 3) := dk_182 1 79 (dk_at dksX1_character_0 16 rfl rfl)
theorem dX1_character_19 : decode cX1_character 19 = .ok (.ireturn, 1) := dk_172 (dk_at dksX1_character_0 19 rfl rfl)
abbrev cX1_meanSize : ByteArray := prog_1_method_41_code
def yX1_meanSize : MethodName := ⟨RX1, "meanSize", "()D"⟩
def dkwX1_meanSize_1 : List UInt8 := [182, 1, 86, 135, 111, 175]
abbrev dktX1_meanSize_1 : List UInt8 := dkwX1_meanSize_1 ++ []
def dkwX1_meanSize_0 : List UInt8 := [42, 5, 182, 1, 86, 154, 0, 11, 187, 1, 109, 89, 183, 1, 111, 191, 42, 4, 182, 1, 86, 135, 42, 5]
abbrev dktX1_meanSize_0 : List UInt8 := dkwX1_meanSize_0 ++ dktX1_meanSize_1
theorem dksX1_meanSize_0 : cX1_meanSize.data.toList.drop 0 = dktX1_meanSize_0 := by decide +kernel
theorem dksX1_meanSize_1 : cX1_meanSize.data.toList.drop 24 = dktX1_meanSize_1 := dk_seg dksX1_meanSize_0 24 rfl rfl
theorem dX1_meanSize_0 : decode cX1_meanSize 0 = .ok (.aload_n 0, 1) := dk_42 (dk_at dksX1_meanSize_0 0 rfl rfl)
theorem dX1_meanSize_1 : decode cX1_meanSize 1 = .ok (.iconst 2, 1) := dk_5 (dk_at dksX1_meanSize_0 1 rfl rfl)
theorem dX1_meanSize_2 : decode cX1_meanSize 2 = .ok (.invokevirtual 342, 3) := dk_182 1 86 (dk_at dksX1_meanSize_0 2 rfl rfl)
theorem dX1_meanSize_5 : decode cX1_meanSize 5 = .ok (.ifCond .ne 11, 3) := dk_154 0 11 (dk_at dksX1_meanSize_0 5 rfl rfl)
theorem dX1_meanSize_8 : decode cX1_meanSize 8 = .ok (.new 365, 3) := dk_187 1 109 (dk_at dksX1_meanSize_0 8 rfl rfl)
theorem dX1_meanSize_11 : decode cX1_meanSize 11 = .ok (.dup, 1) := dk_89 (dk_at dksX1_meanSize_0 11 rfl rfl)
theorem dX1_meanSize_12 : decode cX1_meanSize 12 = .ok (.invokespecial 367, 3) := dk_183 1 111 (dk_at dksX1_meanSize_0 12 rfl rfl)
theorem dX1_meanSize_15 : decode cX1_meanSize 15 = .ok (.athrow, 1) := dk_191 (dk_at dksX1_meanSize_0 15 rfl rfl)
theorem dX1_meanSize_16 : decode cX1_meanSize 16 = .ok (.aload_n 0, 1) := dk_42 (dk_at dksX1_meanSize_0 16 rfl rfl)
theorem dX1_meanSize_17 : decode cX1_meanSize 17 = .ok (.iconst 1, 1) := dk_4 (dk_at dksX1_meanSize_0 17 rfl rfl)
theorem dX1_meanSize_18 : decode cX1_meanSize 18 = .ok (.invokevirtual 342, 3) := dk_182 1 86 (dk_at dksX1_meanSize_0 18 rfl rfl)
theorem dX1_meanSize_21 : decode cX1_meanSize 21 = .ok (.i2d, 1) := dk_135 (dk_at dksX1_meanSize_0 21 rfl rfl)
theorem dX1_meanSize_22 : decode cX1_meanSize 22 = .ok (.aload_n 0, 1) := dk_42 (dk_at dksX1_meanSize_0 22 rfl rfl)
theorem dX1_meanSize_23 : decode cX1_meanSize 23 = .ok (.iconst 2, 1) := dk_5 (dk_at dksX1_meanSize_0 23 rfl rfl)
theorem dX1_meanSize_24 : decode cX1_meanSize 24 = .ok (.invokevirtual 342, 3) := dk_182 1 86 (dk_at dksX1_meanSize_1 0 rfl rfl)
theorem dX1_meanSize_27 : decode cX1_meanSize 27 = .ok (.i2d, 1) := dk_135 (dk_at dksX1_meanSize_1 3 rfl rfl)
theorem dX1_meanSize_28 : decode cX1_meanSize 28 = .ok (.ddiv, 1) := dk_111 (dk_at dksX1_meanSize_1 4 rfl rfl)
theorem dX1_meanSize_29 : decode cX1_meanSize 29 = .ok (.dreturn, 1) := dk_175 (dk_at dksX1_meanSize_1 5 rfl rfl)
abbrev cX1_growthShare : ByteArray := prog_1_method_42_code
def yX1_growthShare : MethodName := ⟨RX1, "growthShare", "()F"⟩
def dkwX1_growthShare_1 : List UInt8 := [180, 1, 100, 134, 42, 180, 0, 33, 180, 1, 112, 134, 110, 174]
abbrev dktX1_growthShare_1 : List UInt8 := dkwX1_growthShare_1 ++ []
def dkwX1_growthShare_0 : List UInt8 := [42, 180, 0, 33, 180, 1, 112, 154, 0, 11, 187, 1, 109, 89, 183, 1, 111, 191, 42, 180, 0, 33]
abbrev dktX1_growthShare_0 : List UInt8 := dkwX1_growthShare_0 ++ dktX1_growthShare_1
theorem dksX1_growthShare_0 : cX1_growthShare.data.toList.drop 0 = dktX1_growthShare_0 := by decide +kernel
theorem dksX1_growthShare_1 : cX1_growthShare.data.toList.drop 22 = dktX1_growthShare_1 := dk_seg dksX1_growthShare_0 22 rfl rfl
theorem dX1_growthShare_0 : decode cX1_growthShare 0 = .ok (.aload_n 0, 1) := dk_42 (dk_at dksX1_growthShare_0 0 rfl rfl)
theorem dX1_growthShare_1 : decode cX1_growthShare 1 = .ok (.getfield 33, 3) := dk_180 0 33 (dk_at dksX1_growthShare_0 1 rfl rfl)
theorem dX1_growthShare_4 : decode cX1_growthShare 4 = .ok (.getfield 368, 3) := dk_180 1 112 (dk_at dksX1_growthShare_0 4 rfl rfl)
theorem dX1_growthShare_7 : decode cX1_growthShare 7 = .ok (.ifCond .ne 11, 3) := dk_154 0 11 (dk_at dksX1_growthShare_0 7 rfl rfl)
theorem dX1_growthShare_10 : decode cX1_growthShare 10 = .ok (.new 365, 3) := dk_187 1 109 (dk_at dksX1_growthShare_0 10 rfl rfl)
theorem dX1_growthShare_13 : decode cX1_growthShare 13 = .ok (.dup, 1) := dk_89 (dk_at dksX1_growthShare_0 13 rfl rfl)
theorem dX1_growthShare_14 : decode cX1_growthShare 14 = .ok (.invokespecial 367, 3) := dk_183 1 111 (dk_at dksX1_growthShare_0 14 rfl rfl)
theorem dX1_growthShare_17 : decode cX1_growthShare 17 = .ok (.athrow, 1) := dk_191 (dk_at dksX1_growthShare_0 17 rfl rfl)
theorem dX1_growthShare_18 : decode cX1_growthShare 18 = .ok (.aload_n 0, 1) := dk_42 (dk_at dksX1_growthShare_0 18 rfl rfl)
theorem dX1_growthShare_19 : decode cX1_growthShare 19 = .ok (.getfield 33, 3) := dk_180 0 33 (dk_at dksX1_growthShare_0 19 rfl rfl)
theorem dX1_growthShare_22 : decode cX1_growthShare 22 = .ok (.getfield 356, 3) := dk_180 1 100 (dk_at dksX1_growthShare_1 0 rfl rfl)
theorem dX1_growthShare_25 : decode cX1_growthShare 25 = .ok (.i2f, 1) := dk_134 (dk_at dksX1_growthShare_1 3 rfl rfl)
theorem dX1_growthShare_26 : decode cX1_growthShare 26 = .ok (.aload_n 0, 1) := dk_42 (dk_at dksX1_growthShare_1 4 rfl rfl)
theorem dX1_growthShare_27 : decode cX1_growthShare 27 = .ok (.getfield 33, 3) := dk_180 0 33 (dk_at dksX1_growthShare_1 5 rfl rfl)
theorem dX1_growthShare_30 : decode cX1_growthShare 30 = .ok (.getfield 368, 3) := dk_180 1 112 (dk_at dksX1_growthShare_1 8 rfl rfl)
theorem dX1_growthShare_33 : decode cX1_growthShare 33 = .ok (.i2f, 1) := dk_134 (dk_at dksX1_growthShare_1 11 rfl rfl)
theorem dX1_growthShare_34 : decode cX1_growthShare 34 = .ok (.fdiv, 1) := dk_110 (dk_at dksX1_growthShare_1 12 rfl rfl)
theorem dX1_growthShare_35 : decode cX1_growthShare 35 = .ok (.freturn, 1) := dk_174 (dk_at dksX1_growthShare_1 13 rfl rfl)
abbrev cX1_reason : ByteArray := prog_1_method_43_code
def yX1_reason : MethodName := ⟨RX1, "reason", "(Z)I"⟩
def dkwX1_reason_1 : List UInt8 := [180, 1, 113, 167, 0, 10, 42, 180, 0, 79, 180, 1, 116, 172]
abbrev dktX1_reason_1 : List UInt8 := dkwX1_reason_1 ++ []
def dkwX1_reason_0 : List UInt8 := [42, 180, 0, 79, 198, 0, 7, 4, 167, 0, 4, 3, 184, 0, 186, 27, 153, 0, 13, 42, 180, 0, 79]
abbrev dktX1_reason_0 : List UInt8 := dkwX1_reason_0 ++ dktX1_reason_1
theorem dksX1_reason_0 : cX1_reason.data.toList.drop 0 = dktX1_reason_0 := by decide +kernel
theorem dksX1_reason_1 : cX1_reason.data.toList.drop 23 = dktX1_reason_1 := dk_seg dksX1_reason_0 23 rfl rfl
theorem dX1_reason_0 : decode cX1_reason 0 = .ok (.aload_n 0, 1) := dk_42 (dk_at dksX1_reason_0 0 rfl rfl)
theorem dX1_reason_1 : decode cX1_reason 1 = .ok (.getfield 79, 3) := dk_180 0 79 (dk_at dksX1_reason_0 1 rfl rfl)
theorem dX1_reason_4 : decode cX1_reason 4 = .ok (.ifnull 7, 3) := dk_198 0 7 (dk_at dksX1_reason_0 4 rfl rfl)
theorem dX1_reason_7 : decode cX1_reason 7 = .ok (.iconst 1, 1) := dk_4 (dk_at dksX1_reason_0 7 rfl rfl)
theorem dX1_reason_8 : decode cX1_reason 8 = .ok (.goto 4, 3) := dk_167 0 4 (dk_at dksX1_reason_0 8 rfl rfl)
theorem dX1_reason_11 : decode cX1_reason 11 = .ok (.iconst 0, 1) := dk_3 (dk_at dksX1_reason_0 11 rfl rfl)
theorem dX1_reason_12 : decode cX1_reason 12 = .ok (.invokestatic 186, 3) := dk_184 0 186 (dk_at dksX1_reason_0 12 rfl rfl)
theorem dX1_reason_15 : decode cX1_reason 15 = .ok (.iload_n 1, 1) := dk_27 (dk_at dksX1_reason_0 15 rfl rfl)
theorem dX1_reason_16 : decode cX1_reason 16 = .ok (.ifCond .eq 13, 3) := dk_153 0 13 (dk_at dksX1_reason_0 16 rfl rfl)
theorem dX1_reason_19 : decode cX1_reason 19 = .ok (.aload_n 0, 1) := dk_42 (dk_at dksX1_reason_0 19 rfl rfl)
theorem dX1_reason_20 : decode cX1_reason 20 = .ok (.getfield 79, 3) := dk_180 0 79 (dk_at dksX1_reason_0 20 rfl rfl)
theorem dX1_reason_23 : decode cX1_reason 23 = .ok (.getfield 369, 3) := dk_180 1 113 (dk_at dksX1_reason_1 0 rfl rfl)
theorem dX1_reason_26 : decode cX1_reason 26 = .ok (.goto 10, 3) := dk_167 0 10 (dk_at dksX1_reason_1 3 rfl rfl)
theorem dX1_reason_29 : decode cX1_reason 29 = .ok (.aload_n 0, 1) := dk_42 (dk_at dksX1_reason_1 6 rfl rfl)
theorem dX1_reason_30 : decode cX1_reason 30 = .ok (.getfield 79, 3) := dk_180 0 79 (dk_at dksX1_reason_1 7 rfl rfl)
theorem dX1_reason_33 : decode cX1_reason 33 = .ok (.getfield 372, 3) := dk_180 1 116 (dk_at dksX1_reason_1 10 rfl rfl)
theorem dX1_reason_36 : decode cX1_reason 36 = .ok (.ireturn, 1) := dk_172 (dk_at dksX1_reason_1 13 rfl rfl)
abbrev cX1_account : ByteArray := prog_1_method_44_code
def yX1_account : MethodName := ⟨RX1, "account", "(I)I"⟩
def dkwX1_account_9 : List UInt8 := [182, 0, 55, 172]
abbrev dktX1_account_9 : List UInt8 := dkwX1_account_9 ++ []
def dkwX1_account_8 : List UInt8 := [167, 0, 27, 42, 180, 0, 33, 180, 1, 103, 167, 0, 17, 42, 180, 1, 126, 167, 0, 10, 42, 180, 0, 40]
abbrev dktX1_account_8 : List UInt8 := dkwX1_account_8 ++ dktX1_account_9
def dkwX1_account_7 : List UInt8 := [180, 1, 89, 167, 0, 47, 42, 180, 0, 33, 180, 1, 90, 167, 0, 37, 42, 180, 0, 33, 180, 1, 100]
abbrev dktX1_account_7 : List UInt8 := dkwX1_account_7 ++ dktX1_account_8
def dkwX1_account_6 : List UInt8 := [180, 0, 33, 180, 1, 49, 167, 0, 67, 42, 180, 0, 33, 180, 1, 112, 167, 0, 57, 42, 180, 0, 33]
abbrev dktX1_account_6 : List UInt8 := dkwX1_account_6 ++ dktX1_account_7
def dkwX1_account_5 : List UInt8 := [167, 0, 97, 42, 180, 0, 33, 180, 1, 52, 167, 0, 87, 42, 180, 0, 33, 180, 1, 123, 167, 0, 77, 42]
abbrev dktX1_account_5 : List UInt8 := dkwX1_account_5 ++ dktX1_account_6
def dkwX1_account_4 : List UInt8 := [167, 0, 120, 42, 180, 0, 33, 180, 0, 245, 182, 0, 249, 167, 0, 107, 42, 180, 0, 33, 182, 1, 121]
abbrev dktX1_account_4 : List UInt8 := dkwX1_account_4 ++ dktX1_account_5
def dkwX1_account_3 : List UInt8 := [180, 0, 33, 180, 0, 94, 182, 0, 137, 167, 0, 133, 42, 180, 0, 33, 180, 1, 118, 182, 0, 137]
abbrev dktX1_account_3 : List UInt8 := dkwX1_account_3 ++ dktX1_account_4
def dkwX1_account_2 : List UInt8 := [42, 180, 0, 33, 180, 0, 214, 167, 0, 159, 42, 180, 0, 33, 180, 0, 167, 182, 0, 137, 167, 0, 146, 42]
abbrev dktX1_account_2 : List UInt8 := dkwX1_account_2 ++ dktX1_account_3
def dkwX1_account_1 : List UInt8 := [170, 0, 0, 0, 232, 0, 0, 0, 0, 0, 0, 0, 14, 0, 0, 0, 73, 0, 0, 0, 83, 0, 0, 0, 96, 0, 0, 0, 109, 0, 0, 0, 122, 0, 0, 0, 135, 0, 0, 0, 145, 0, 0, 0, 155, 0, 0, 0, 165, 0, 0, 0, 175, 0, 0, 0, 185, 0, 0, 0, 195, 0, 0, 0, 205, 0, 0, 0, 215, 0, 0, 0, 225]
abbrev dktX1_account_1 : List UInt8 := dkwX1_account_1 ++ dktX1_account_2
def dkwX1_account_0 : List UInt8 := [27, 3, 16, 15, 184, 0, 10, 184, 0, 122, 27]
abbrev dktX1_account_0 : List UInt8 := dkwX1_account_0 ++ dktX1_account_1
theorem dksX1_account_0 : cX1_account.data.toList.drop 0 = dktX1_account_0 := by decide +kernel
theorem dksX1_account_1 : cX1_account.data.toList.drop 11 = dktX1_account_1 := dk_seg dksX1_account_0 11 rfl rfl
theorem dksX1_account_2 : cX1_account.data.toList.drop 84 = dktX1_account_2 := dk_seg dksX1_account_1 73 rfl rfl
theorem dksX1_account_3 : cX1_account.data.toList.drop 108 = dktX1_account_3 := dk_seg dksX1_account_2 24 rfl rfl
theorem dksX1_account_4 : cX1_account.data.toList.drop 130 = dktX1_account_4 := dk_seg dksX1_account_3 22 rfl rfl
theorem dksX1_account_5 : cX1_account.data.toList.drop 153 = dktX1_account_5 := dk_seg dksX1_account_4 23 rfl rfl
theorem dksX1_account_6 : cX1_account.data.toList.drop 177 = dktX1_account_6 := dk_seg dksX1_account_5 24 rfl rfl
theorem dksX1_account_7 : cX1_account.data.toList.drop 200 = dktX1_account_7 := dk_seg dksX1_account_6 23 rfl rfl
theorem dksX1_account_8 : cX1_account.data.toList.drop 223 = dktX1_account_8 := dk_seg dksX1_account_7 23 rfl rfl
theorem dksX1_account_9 : cX1_account.data.toList.drop 247 = dktX1_account_9 := dk_seg dksX1_account_8 24 rfl rfl
theorem dX1_account_0 : decode cX1_account 0 = .ok (.iload_n 1, 1) := dk_27 (dk_at dksX1_account_0 0 rfl rfl)
theorem dX1_account_1 : decode cX1_account 1 = .ok (.iconst 0, 1) := dk_3 (dk_at dksX1_account_0 1 rfl rfl)
theorem dX1_account_2 : decode cX1_account 2 = .ok (.bipush 15, 2) := dk_16 15 (dk_at dksX1_account_0 2 rfl rfl)
theorem dX1_account_4 : decode cX1_account 4 = .ok (.invokestatic 10, 3) := dk_184 0 10 (dk_at dksX1_account_0 4 rfl rfl)
theorem dX1_account_7 : decode cX1_account 7 = .ok (.invokestatic 122, 3) := dk_184 0 122 (dk_at dksX1_account_0 7 rfl rfl)
theorem dX1_account_10 : decode cX1_account 10 = .ok (.iload_n 1, 1) := dk_27 (dk_at dksX1_account_0 10 rfl rfl)
theorem dX1_account_11 : decode cX1_account 11 = .ok (.tableswitch 232 0 14 #[73, 83, 96, 109, 122, 135, 145, 155, 165, 175, 185, 195, 205, 215, 225], 73) := by decide +kernel
theorem dX1_account_84 : decode cX1_account 84 = .ok (.aload_n 0, 1) := dk_42 (dk_at dksX1_account_2 0 rfl rfl)
theorem dX1_account_85 : decode cX1_account 85 = .ok (.getfield 33, 3) := dk_180 0 33 (dk_at dksX1_account_2 1 rfl rfl)
theorem dX1_account_88 : decode cX1_account 88 = .ok (.getfield 214, 3) := dk_180 0 214 (dk_at dksX1_account_2 4 rfl rfl)
theorem dX1_account_91 : decode cX1_account 91 = .ok (.goto 159, 3) := dk_167 0 159 (dk_at dksX1_account_2 7 rfl rfl)
theorem dX1_account_94 : decode cX1_account 94 = .ok (.aload_n 0, 1) := dk_42 (dk_at dksX1_account_2 10 rfl rfl)
theorem dX1_account_95 : decode cX1_account 95 = .ok (.getfield 33, 3) := dk_180 0 33 (dk_at dksX1_account_2 11 rfl rfl)
theorem dX1_account_98 : decode cX1_account 98 = .ok (.getfield 167, 3) := dk_180 0 167 (dk_at dksX1_account_2 14 rfl rfl)
theorem dX1_account_101 : decode cX1_account 101 = .ok (.invokevirtual 137, 3) := dk_182 0 137 (dk_at dksX1_account_2 17 rfl rfl)
theorem dX1_account_104 : decode cX1_account 104 = .ok (.goto 146, 3) := dk_167 0 146 (dk_at dksX1_account_2 20 rfl rfl)
theorem dX1_account_107 : decode cX1_account 107 = .ok (.aload_n 0, 1) := dk_42 (dk_at dksX1_account_2 23 rfl rfl)
theorem dX1_account_108 : decode cX1_account 108 = .ok (.getfield 33, 3) := dk_180 0 33 (dk_at dksX1_account_3 0 rfl rfl)
theorem dX1_account_111 : decode cX1_account 111 = .ok (.getfield 94, 3) := dk_180 0 94 (dk_at dksX1_account_3 3 rfl rfl)
theorem dX1_account_114 : decode cX1_account 114 = .ok (.invokevirtual 137, 3) := dk_182 0 137 (dk_at dksX1_account_3 6 rfl rfl)
theorem dX1_account_117 : decode cX1_account 117 = .ok (.goto 133, 3) := dk_167 0 133 (dk_at dksX1_account_3 9 rfl rfl)
theorem dX1_account_120 : decode cX1_account 120 = .ok (.aload_n 0, 1) := dk_42 (dk_at dksX1_account_3 12 rfl rfl)
theorem dX1_account_121 : decode cX1_account 121 = .ok (.getfield 33, 3) := dk_180 0 33 (dk_at dksX1_account_3 13 rfl rfl)
theorem dX1_account_124 : decode cX1_account 124 = .ok (.getfield 374, 3) := dk_180 1 118 (dk_at dksX1_account_3 16 rfl rfl)
theorem dX1_account_127 : decode cX1_account 127 = .ok (.invokevirtual 137, 3) := dk_182 0 137 (dk_at dksX1_account_3 19 rfl rfl)
theorem dX1_account_130 : decode cX1_account 130 = .ok (.goto 120, 3) := dk_167 0 120 (dk_at dksX1_account_4 0 rfl rfl)
theorem dX1_account_133 : decode cX1_account 133 = .ok (.aload_n 0, 1) := dk_42 (dk_at dksX1_account_4 3 rfl rfl)
theorem dX1_account_134 : decode cX1_account 134 = .ok (.getfield 33, 3) := dk_180 0 33 (dk_at dksX1_account_4 4 rfl rfl)
theorem dX1_account_137 : decode cX1_account 137 = .ok (.getfield 245, 3) := dk_180 0 245 (dk_at dksX1_account_4 7 rfl rfl)
theorem dX1_account_140 : decode cX1_account 140 = .ok (.invokevirtual 249, 3) := dk_182 0 249 (dk_at dksX1_account_4 10 rfl rfl)
theorem dX1_account_143 : decode cX1_account 143 = .ok (.goto 107, 3) := dk_167 0 107 (dk_at dksX1_account_4 13 rfl rfl)
theorem dX1_account_146 : decode cX1_account 146 = .ok (.aload_n 0, 1) := dk_42 (dk_at dksX1_account_4 16 rfl rfl)
theorem dX1_account_147 : decode cX1_account 147 = .ok (.getfield 33, 3) := dk_180 0 33 (dk_at dksX1_account_4 17 rfl rfl)
theorem dX1_account_150 : decode cX1_account 150 = .ok (.invokevirtual 377, 3) := dk_182 1 121 (dk_at dksX1_account_4 20 rfl rfl)
theorem dX1_account_153 : decode cX1_account 153 = .ok (.goto 97, 3) := dk_167 0 97 (dk_at dksX1_account_5 0 rfl rfl)
theorem dX1_account_156 : decode cX1_account 156 = .ok (.aload_n 0, 1) := dk_42 (dk_at dksX1_account_5 3 rfl rfl)
theorem dX1_account_157 : decode cX1_account 157 = .ok (.getfield 33, 3) := dk_180 0 33 (dk_at dksX1_account_5 4 rfl rfl)
theorem dX1_account_160 : decode cX1_account 160 = .ok (.getfield 308, 3) := dk_180 1 52 (dk_at dksX1_account_5 7 rfl rfl)
theorem dX1_account_163 : decode cX1_account 163 = .ok (.goto 87, 3) := dk_167 0 87 (dk_at dksX1_account_5 10 rfl rfl)
theorem dX1_account_166 : decode cX1_account 166 = .ok (.aload_n 0, 1) := dk_42 (dk_at dksX1_account_5 13 rfl rfl)
theorem dX1_account_167 : decode cX1_account 167 = .ok (.getfield 33, 3) := dk_180 0 33 (dk_at dksX1_account_5 14 rfl rfl)
theorem dX1_account_170 : decode cX1_account 170 = .ok (.getfield 379, 3) := dk_180 1 123 (dk_at dksX1_account_5 17 rfl rfl)
theorem dX1_account_173 : decode cX1_account 173 = .ok (.goto 77, 3) := dk_167 0 77 (dk_at dksX1_account_5 20 rfl rfl)
theorem dX1_account_176 : decode cX1_account 176 = .ok (.aload_n 0, 1) := dk_42 (dk_at dksX1_account_5 23 rfl rfl)
theorem dX1_account_177 : decode cX1_account 177 = .ok (.getfield 33, 3) := dk_180 0 33 (dk_at dksX1_account_6 0 rfl rfl)
theorem dX1_account_180 : decode cX1_account 180 = .ok (.getfield 305, 3) := dk_180 1 49 (dk_at dksX1_account_6 3 rfl rfl)
theorem dX1_account_183 : decode cX1_account 183 = .ok (.goto 67, 3) := dk_167 0 67 (dk_at dksX1_account_6 6 rfl rfl)
theorem dX1_account_186 : decode cX1_account 186 = .ok (.aload_n 0, 1) := dk_42 (dk_at dksX1_account_6 9 rfl rfl)
theorem dX1_account_187 : decode cX1_account 187 = .ok (.getfield 33, 3) := dk_180 0 33 (dk_at dksX1_account_6 10 rfl rfl)
theorem dX1_account_190 : decode cX1_account 190 = .ok (.getfield 368, 3) := dk_180 1 112 (dk_at dksX1_account_6 13 rfl rfl)
theorem dX1_account_193 : decode cX1_account 193 = .ok (.goto 57, 3) := dk_167 0 57 (dk_at dksX1_account_6 16 rfl rfl)
theorem dX1_account_196 : decode cX1_account 196 = .ok (.aload_n 0, 1) := dk_42 (dk_at dksX1_account_6 19 rfl rfl)
theorem dX1_account_197 : decode cX1_account 197 = .ok (.getfield 33, 3) := dk_180 0 33 (dk_at dksX1_account_6 20 rfl rfl)
theorem dX1_account_200 : decode cX1_account 200 = .ok (.getfield 345, 3) := dk_180 1 89 (dk_at dksX1_account_7 0 rfl rfl)
theorem dX1_account_203 : decode cX1_account 203 = .ok (.goto 47, 3) := dk_167 0 47 (dk_at dksX1_account_7 3 rfl rfl)
theorem dX1_account_206 : decode cX1_account 206 = .ok (.aload_n 0, 1) := dk_42 (dk_at dksX1_account_7 6 rfl rfl)
theorem dX1_account_207 : decode cX1_account 207 = .ok (.getfield 33, 3) := dk_180 0 33 (dk_at dksX1_account_7 7 rfl rfl)
theorem dX1_account_210 : decode cX1_account 210 = .ok (.getfield 346, 3) := dk_180 1 90 (dk_at dksX1_account_7 10 rfl rfl)
theorem dX1_account_213 : decode cX1_account 213 = .ok (.goto 37, 3) := dk_167 0 37 (dk_at dksX1_account_7 13 rfl rfl)
theorem dX1_account_216 : decode cX1_account 216 = .ok (.aload_n 0, 1) := dk_42 (dk_at dksX1_account_7 16 rfl rfl)
theorem dX1_account_217 : decode cX1_account 217 = .ok (.getfield 33, 3) := dk_180 0 33 (dk_at dksX1_account_7 17 rfl rfl)
theorem dX1_account_220 : decode cX1_account 220 = .ok (.getfield 356, 3) := dk_180 1 100 (dk_at dksX1_account_7 20 rfl rfl)
theorem dX1_account_223 : decode cX1_account 223 = .ok (.goto 27, 3) := dk_167 0 27 (dk_at dksX1_account_8 0 rfl rfl)
theorem dX1_account_226 : decode cX1_account 226 = .ok (.aload_n 0, 1) := dk_42 (dk_at dksX1_account_8 3 rfl rfl)
theorem dX1_account_227 : decode cX1_account 227 = .ok (.getfield 33, 3) := dk_180 0 33 (dk_at dksX1_account_8 4 rfl rfl)
theorem dX1_account_230 : decode cX1_account 230 = .ok (.getfield 359, 3) := dk_180 1 103 (dk_at dksX1_account_8 7 rfl rfl)
theorem dX1_account_233 : decode cX1_account 233 = .ok (.goto 17, 3) := dk_167 0 17 (dk_at dksX1_account_8 10 rfl rfl)
theorem dX1_account_236 : decode cX1_account 236 = .ok (.aload_n 0, 1) := dk_42 (dk_at dksX1_account_8 13 rfl rfl)
theorem dX1_account_237 : decode cX1_account 237 = .ok (.getfield 382, 3) := dk_180 1 126 (dk_at dksX1_account_8 14 rfl rfl)
theorem dX1_account_240 : decode cX1_account 240 = .ok (.goto 10, 3) := dk_167 0 10 (dk_at dksX1_account_8 17 rfl rfl)
theorem dX1_account_243 : decode cX1_account 243 = .ok (.aload_n 0, 1) := dk_42 (dk_at dksX1_account_8 20 rfl rfl)
theorem dX1_account_244 : decode cX1_account 244 = .ok (.getfield 40, 3) := dk_180 0 40 (dk_at dksX1_account_8 21 rfl rfl)
theorem dX1_account_247 : decode cX1_account 247 = .ok (.invokevirtual 55, 3) := dk_182 0 55 (dk_at dksX1_account_9 0 rfl rfl)
theorem dX1_account_250 : decode cX1_account 250 = .ok (.ireturn, 1) := dk_172 (dk_at dksX1_account_9 3 rfl rfl)
abbrev cX1_feed : ByteArray := prog_1_method_45_code
def yX1_feed : MethodName := ⟨RX1, "feed", "(C)I"⟩
def dkwX1_feed_1 : List UInt8 := [180, 1, 126, 27, 85, 42, 89, 180, 1, 126, 4, 96, 181, 1, 126, 42, 180, 1, 126, 172]
abbrev dktX1_feed_1 : List UInt8 := dkwX1_feed_1 ++ []
def dkwX1_feed_0 : List UInt8 := [42, 180, 1, 126, 16, 60, 162, 0, 7, 4, 167, 0, 4, 3, 184, 1, 129, 42, 180, 0, 51, 42]
abbrev dktX1_feed_0 : List UInt8 := dkwX1_feed_0 ++ dktX1_feed_1
theorem dksX1_feed_0 : cX1_feed.data.toList.drop 0 = dktX1_feed_0 := by decide +kernel
theorem dksX1_feed_1 : cX1_feed.data.toList.drop 22 = dktX1_feed_1 := dk_seg dksX1_feed_0 22 rfl rfl
theorem dX1_feed_0 : decode cX1_feed 0 = .ok (.aload_n 0, 1) := dk_42 (dk_at dksX1_feed_0 0 rfl rfl)
theorem dX1_feed_1 : decode cX1_feed 1 = .ok (.getfield 382, 3) := dk_180 1 126 (dk_at dksX1_feed_0 1 rfl rfl)
theorem dX1_feed_4 : decode cX1_feed 4 = .ok (.bipush 60, 2) := dk_16 60 (dk_at dksX1_feed_0 4 rfl rfl)
theorem dX1_feed_6 : decode cX1_feed 6 = .ok (.if_icmp .ge 7, 3) := dk_162 0 7 (dk_at dksX1_feed_0 6 rfl rfl)
theorem dX1_feed_9 : decode cX1_feed 9 = .ok (.iconst 1, 1) := dk_4 (dk_at dksX1_feed_0 9 rfl rfl)
theorem dX1_feed_10 : decode cX1_feed 10 = .ok (.goto 4, 3) := dk_167 0 4 (dk_at dksX1_feed_0 10 rfl rfl)
theorem dX1_feed_13 : decode cX1_feed 13 = .ok (.iconst 0, 1) := dk_3 (dk_at dksX1_feed_0 13 rfl rfl)
theorem dX1_feed_14 : decode cX1_feed 14 = .ok (.invokestatic 385, 3) := dk_184 1 129 (dk_at dksX1_feed_0 14 rfl rfl)
theorem dX1_feed_17 : decode cX1_feed 17 = .ok (.aload_n 0, 1) := dk_42 (dk_at dksX1_feed_0 17 rfl rfl)
theorem dX1_feed_18 : decode cX1_feed 18 = .ok (.getfield 51, 3) := dk_180 0 51 (dk_at dksX1_feed_0 18 rfl rfl)
theorem dX1_feed_21 : decode cX1_feed 21 = .ok (.aload_n 0, 1) := dk_42 (dk_at dksX1_feed_0 21 rfl rfl)
theorem dX1_feed_22 : decode cX1_feed 22 = .ok (.getfield 382, 3) := dk_180 1 126 (dk_at dksX1_feed_1 0 rfl rfl)
theorem dX1_feed_25 : decode cX1_feed 25 = .ok (.iload_n 1, 1) := dk_27 (dk_at dksX1_feed_1 3 rfl rfl)
theorem dX1_feed_26 : decode cX1_feed 26 = .ok (.castore, 1) := dk_85 (dk_at dksX1_feed_1 4 rfl rfl)
theorem dX1_feed_27 : decode cX1_feed 27 = .ok (.aload_n 0, 1) := dk_42 (dk_at dksX1_feed_1 5 rfl rfl)
theorem dX1_feed_28 : decode cX1_feed 28 = .ok (.dup, 1) := dk_89 (dk_at dksX1_feed_1 6 rfl rfl)
theorem dX1_feed_29 : decode cX1_feed 29 = .ok (.getfield 382, 3) := dk_180 1 126 (dk_at dksX1_feed_1 7 rfl rfl)
theorem dX1_feed_32 : decode cX1_feed 32 = .ok (.iconst 1, 1) := dk_4 (dk_at dksX1_feed_1 10 rfl rfl)
theorem dX1_feed_33 : decode cX1_feed 33 = .ok (.iadd, 1) := dk_96 (dk_at dksX1_feed_1 11 rfl rfl)
theorem dX1_feed_34 : decode cX1_feed 34 = .ok (.putfield 382, 3) := dk_181 1 126 (dk_at dksX1_feed_1 12 rfl rfl)
theorem dX1_feed_37 : decode cX1_feed 37 = .ok (.aload_n 0, 1) := dk_42 (dk_at dksX1_feed_1 15 rfl rfl)
theorem dX1_feed_38 : decode cX1_feed 38 = .ok (.getfield 382, 3) := dk_180 1 126 (dk_at dksX1_feed_1 16 rfl rfl)
theorem dX1_feed_41 : decode cX1_feed 41 = .ok (.ireturn, 1) := dk_172 (dk_at dksX1_feed_1 19 rfl rfl)
abbrev cX1_checkState : ByteArray := prog_1_method_4_code
def yX1_checkState : MethodName := ⟨RX1, "checkState", "(Z)V"⟩
def dkwX1_checkState_0 : List UInt8 := [26, 154, 0, 11, 187, 0, 7, 89, 183, 0, 9, 191, 177]
abbrev dktX1_checkState_0 : List UInt8 := dkwX1_checkState_0 ++ []
theorem dksX1_checkState_0 : cX1_checkState.data.toList.drop 0 = dktX1_checkState_0 := by decide +kernel
theorem dX1_checkState_0 : decode cX1_checkState 0 = .ok (.iload_n 0, 1) := dk_26 (dk_at dksX1_checkState_0 0 rfl rfl)
theorem dX1_checkState_1 : decode cX1_checkState 1 = .ok (.ifCond .ne 11, 3) := dk_154 0 11 (dk_at dksX1_checkState_0 1 rfl rfl)
theorem dX1_checkState_4 : decode cX1_checkState 4 = .ok (.new 7, 3) := dk_187 0 7 (dk_at dksX1_checkState_0 4 rfl rfl)
theorem dX1_checkState_7 : decode cX1_checkState 7 = .ok (.dup, 1) := dk_89 (dk_at dksX1_checkState_0 7 rfl rfl)
theorem dX1_checkState_8 : decode cX1_checkState 8 = .ok (.invokespecial 9, 3) := dk_183 0 9 (dk_at dksX1_checkState_0 8 rfl rfl)
theorem dX1_checkState_11 : decode cX1_checkState 11 = .ok (.athrow, 1) := dk_191 (dk_at dksX1_checkState_0 11 rfl rfl)
theorem dX1_checkState_12 : decode cX1_checkState 12 = .ok (.return_, 1) := dk_177 (dk_at dksX1_checkState_0 12 rfl rfl)
abbrev cX1_perform : ByteArray := prog_1_method_48_code
def yX1_perform : MethodName := ⟨RX1, "perform", "()I"⟩
def dkwX1_perform_1 : List UInt8 := [16, 156, 43, 180, 1, 159, 100, 61, 42, 3, 181, 1, 126, 28, 172, 78, 42, 3, 181, 1, 126, 45, 191]
abbrev dktX1_perform_1 : List UInt8 := dkwX1_perform_1 ++ []
def dkwX1_perform_0 : List UInt8 := [42, 187, 1, 145, 89, 42, 183, 1, 147, 182, 1, 150, 182, 1, 153, 60, 42, 3, 181, 1, 126, 27, 172, 76]
abbrev dktX1_perform_0 : List UInt8 := dkwX1_perform_0 ++ dktX1_perform_1
theorem dksX1_perform_0 : cX1_perform.data.toList.drop 0 = dktX1_perform_0 := by decide +kernel
theorem dksX1_perform_1 : cX1_perform.data.toList.drop 24 = dktX1_perform_1 := dk_seg dksX1_perform_0 24 rfl rfl
theorem dX1_perform_0 : decode cX1_perform 0 = .ok (.aload_n 0, 1) := dk_42 (dk_at dksX1_perform_0 0 rfl rfl)
theorem dX1_perform_1 : decode cX1_perform 1 = .ok (.new 401, 3) := dk_187 1 145 (dk_at dksX1_perform_0 1 rfl rfl)
theorem dX1_perform_4 : decode cX1_perform 4 = .ok (.dup, 1) := dk_89 (dk_at dksX1_perform_0 4 rfl rfl)
theorem dX1_perform_5 : decode cX1_perform 5 = .ok (.aload_n 0, 1) := dk_42 (dk_at dksX1_perform_0 5 rfl rfl)
theorem dX1_perform_6 : decode cX1_perform 6 = .ok (.invokespecial 403, 3) := dk_183 1 147 (dk_at dksX1_perform_0 6 rfl rfl)
theorem dX1_perform_9 : decode cX1_perform 9 = .ok (.invokevirtual 406, 3) := dk_182 1 150 (dk_at dksX1_perform_0 9 rfl rfl)
theorem dX1_perform_12 : decode cX1_perform 12 = .ok (.invokevirtual 409, 3) := dk_182 1 153 (dk_at dksX1_perform_0 12 rfl rfl)
theorem dX1_perform_15 : decode cX1_perform 15 = .ok (.istore_n 1, 1) := dk_60 (dk_at dksX1_perform_0 15 rfl rfl)
theorem dX1_perform_16 : decode cX1_perform 16 = .ok (.aload_n 0, 1) := dk_42 (dk_at dksX1_perform_0 16 rfl rfl)
theorem dX1_perform_17 : decode cX1_perform 17 = .ok (.iconst 0, 1) := dk_3 (dk_at dksX1_perform_0 17 rfl rfl)
theorem dX1_perform_18 : decode cX1_perform 18 = .ok (.putfield 382, 3) := dk_181 1 126 (dk_at dksX1_perform_0 18 rfl rfl)
theorem dX1_perform_21 : decode cX1_perform 21 = .ok (.iload_n 1, 1) := dk_27 (dk_at dksX1_perform_0 21 rfl rfl)
theorem dX1_perform_22 : decode cX1_perform 22 = .ok (.ireturn, 1) := dk_172 (dk_at dksX1_perform_0 22 rfl rfl)
theorem dX1_perform_23 : decode cX1_perform 23 = .ok (.astore_n 1, 1) := dk_76 (dk_at dksX1_perform_0 23 rfl rfl)
theorem dX1_perform_24 : decode cX1_perform 24 = .ok (.bipush (-100), 2) := dk_16 156 (dk_at dksX1_perform_1 0 rfl rfl)
theorem dX1_perform_26 : decode cX1_perform 26 = .ok (.aload_n 1, 1) := dk_43 (dk_at dksX1_perform_1 2 rfl rfl)
theorem dX1_perform_27 : decode cX1_perform 27 = .ok (.getfield 415, 3) := dk_180 1 159 (dk_at dksX1_perform_1 3 rfl rfl)
theorem dX1_perform_30 : decode cX1_perform 30 = .ok (.isub, 1) := dk_100 (dk_at dksX1_perform_1 6 rfl rfl)
theorem dX1_perform_31 : decode cX1_perform 31 = .ok (.istore_n 2, 1) := dk_61 (dk_at dksX1_perform_1 7 rfl rfl)
theorem dX1_perform_32 : decode cX1_perform 32 = .ok (.aload_n 0, 1) := dk_42 (dk_at dksX1_perform_1 8 rfl rfl)
theorem dX1_perform_33 : decode cX1_perform 33 = .ok (.iconst 0, 1) := dk_3 (dk_at dksX1_perform_1 9 rfl rfl)
theorem dX1_perform_34 : decode cX1_perform 34 = .ok (.putfield 382, 3) := dk_181 1 126 (dk_at dksX1_perform_1 10 rfl rfl)
theorem dX1_perform_37 : decode cX1_perform 37 = .ok (.iload_n 2, 1) := dk_28 (dk_at dksX1_perform_1 13 rfl rfl)
theorem dX1_perform_38 : decode cX1_perform 38 = .ok (.ireturn, 1) := dk_172 (dk_at dksX1_perform_1 14 rfl rfl)
theorem dX1_perform_39 : decode cX1_perform 39 = .ok (.astore_n 3, 1) := dk_78 (dk_at dksX1_perform_1 15 rfl rfl)
theorem dX1_perform_40 : decode cX1_perform 40 = .ok (.aload_n 0, 1) := dk_42 (dk_at dksX1_perform_1 16 rfl rfl)
theorem dX1_perform_41 : decode cX1_perform 41 = .ok (.iconst 0, 1) := dk_3 (dk_at dksX1_perform_1 17 rfl rfl)
theorem dX1_perform_42 : decode cX1_perform 42 = .ok (.putfield 382, 3) := dk_181 1 126 (dk_at dksX1_perform_1 18 rfl rfl)
theorem dX1_perform_45 : decode cX1_perform 45 = .ok (.aload_n 3, 1) := dk_45 (dk_at dksX1_perform_1 21 rfl rfl)
theorem dX1_perform_46 : decode cX1_perform 46 = .ok (.athrow, 1) := dk_191 (dk_at dksX1_perform_1 22 rfl rfl)
abbrev cX1_begins : ByteArray := prog_1_method_46_code
def yX1_begins : MethodName := ⟨RX1, "begins", "(Ljava/lang/String;Ljava/lang/CharSequence;)Z"⟩
def dkwX1_begins_2 : List UInt8 := [185, 1, 139, 2, 0, 160, 0, 7, 4, 167, 0, 4, 3, 61, 132, 3, 1, 167, 255, 218, 28, 172]
abbrev dktX1_begins_2 : List UInt8 := dkwX1_begins_2 ++ []
def dkwX1_begins_1 : List UInt8 := [153, 0, 40, 29, 43, 185, 1, 132, 1, 0, 162, 0, 30, 42, 29, 182, 1, 138, 43, 29]
abbrev dktX1_begins_1 : List UInt8 := dkwX1_begins_1 ++ dktX1_begins_2
def dkwX1_begins_0 : List UInt8 := [43, 185, 1, 132, 1, 0, 42, 182, 1, 135, 163, 0, 7, 4, 167, 0, 4, 3, 61, 3, 62, 28]
abbrev dktX1_begins_0 : List UInt8 := dkwX1_begins_0 ++ dktX1_begins_1
theorem dksX1_begins_0 : cX1_begins.data.toList.drop 0 = dktX1_begins_0 := by decide +kernel
theorem dksX1_begins_1 : cX1_begins.data.toList.drop 22 = dktX1_begins_1 := dk_seg dksX1_begins_0 22 rfl rfl
theorem dksX1_begins_2 : cX1_begins.data.toList.drop 42 = dktX1_begins_2 := dk_seg dksX1_begins_1 20 rfl rfl
theorem dX1_begins_0 : decode cX1_begins 0 = .ok (.aload_n 1, 1) := dk_43 (dk_at dksX1_begins_0 0 rfl rfl)
theorem dX1_begins_1 : decode cX1_begins 1 = .ok (.invokeinterface 388 1, 5) := by decide +kernel
theorem dX1_begins_6 : decode cX1_begins 6 = .ok (.aload_n 0, 1) := dk_42 (dk_at dksX1_begins_0 6 rfl rfl)
theorem dX1_begins_7 : decode cX1_begins 7 = .ok (.invokevirtual 391, 3) := dk_182 1 135 (dk_at dksX1_begins_0 7 rfl rfl)
theorem dX1_begins_10 : decode cX1_begins 10 = .ok (.if_icmp .gt 7, 3) := dk_163 0 7 (dk_at dksX1_begins_0 10 rfl rfl)
theorem dX1_begins_13 : decode cX1_begins 13 = .ok (.iconst 1, 1) := dk_4 (dk_at dksX1_begins_0 13 rfl rfl)
theorem dX1_begins_14 : decode cX1_begins 14 = .ok (.goto 4, 3) := dk_167 0 4 (dk_at dksX1_begins_0 14 rfl rfl)
theorem dX1_begins_17 : decode cX1_begins 17 = .ok (.iconst 0, 1) := dk_3 (dk_at dksX1_begins_0 17 rfl rfl)
theorem dX1_begins_18 : decode cX1_begins 18 = .ok (.istore_n 2, 1) := dk_61 (dk_at dksX1_begins_0 18 rfl rfl)
theorem dX1_begins_19 : decode cX1_begins 19 = .ok (.iconst 0, 1) := dk_3 (dk_at dksX1_begins_0 19 rfl rfl)
theorem dX1_begins_20 : decode cX1_begins 20 = .ok (.istore_n 3, 1) := dk_62 (dk_at dksX1_begins_0 20 rfl rfl)
theorem dX1_begins_21 : decode cX1_begins 21 = .ok (.iload_n 2, 1) := dk_28 (dk_at dksX1_begins_0 21 rfl rfl)
theorem dX1_begins_22 : decode cX1_begins 22 = .ok (.ifCond .eq 40, 3) := dk_153 0 40 (dk_at dksX1_begins_1 0 rfl rfl)
theorem dX1_begins_25 : decode cX1_begins 25 = .ok (.iload_n 3, 1) := dk_29 (dk_at dksX1_begins_1 3 rfl rfl)
theorem dX1_begins_26 : decode cX1_begins 26 = .ok (.aload_n 1, 1) := dk_43 (dk_at dksX1_begins_1 4 rfl rfl)
theorem dX1_begins_27 : decode cX1_begins 27 = .ok (.invokeinterface 388 1, 5) := by decide +kernel
theorem dX1_begins_32 : decode cX1_begins 32 = .ok (.if_icmp .ge 30, 3) := dk_162 0 30 (dk_at dksX1_begins_1 10 rfl rfl)
theorem dX1_begins_35 : decode cX1_begins 35 = .ok (.aload_n 0, 1) := dk_42 (dk_at dksX1_begins_1 13 rfl rfl)
theorem dX1_begins_36 : decode cX1_begins 36 = .ok (.iload_n 3, 1) := dk_29 (dk_at dksX1_begins_1 14 rfl rfl)
theorem dX1_begins_37 : decode cX1_begins 37 = .ok (.invokevirtual 394, 3) := dk_182 1 138 (dk_at dksX1_begins_1 15 rfl rfl)
theorem dX1_begins_40 : decode cX1_begins 40 = .ok (.aload_n 1, 1) := dk_43 (dk_at dksX1_begins_1 18 rfl rfl)
theorem dX1_begins_41 : decode cX1_begins 41 = .ok (.iload_n 3, 1) := dk_29 (dk_at dksX1_begins_1 19 rfl rfl)
theorem dX1_begins_42 : decode cX1_begins 42 = .ok (.invokeinterface 395 2, 5) := by decide +kernel
theorem dX1_begins_47 : decode cX1_begins 47 = .ok (.if_icmp .ne 7, 3) := dk_160 0 7 (dk_at dksX1_begins_2 5 rfl rfl)
theorem dX1_begins_50 : decode cX1_begins 50 = .ok (.iconst 1, 1) := dk_4 (dk_at dksX1_begins_2 8 rfl rfl)
theorem dX1_begins_51 : decode cX1_begins 51 = .ok (.goto 4, 3) := dk_167 0 4 (dk_at dksX1_begins_2 9 rfl rfl)
theorem dX1_begins_54 : decode cX1_begins 54 = .ok (.iconst 0, 1) := dk_3 (dk_at dksX1_begins_2 12 rfl rfl)
theorem dX1_begins_55 : decode cX1_begins 55 = .ok (.istore_n 2, 1) := dk_61 (dk_at dksX1_begins_2 13 rfl rfl)
theorem dX1_begins_56 : decode cX1_begins 56 = .ok (.iinc 3 1, 3) := dk_132 3 1 (dk_at dksX1_begins_2 14 rfl rfl)
theorem dX1_begins_59 : decode cX1_begins 59 = .ok (.goto (-38), 3) := dk_167 255 218 (dk_at dksX1_begins_2 17 rfl rfl)
theorem dX1_begins_62 : decode cX1_begins 62 = .ok (.iload_n 2, 1) := dk_28 (dk_at dksX1_begins_2 20 rfl rfl)
theorem dX1_begins_63 : decode cX1_begins 63 = .ok (.ireturn, 1) := dk_172 (dk_at dksX1_begins_2 21 rfl rfl)
abbrev cX1_carryOutAll : ByteArray := prog_1_method_47_code
def yX1_carryOutAll : MethodName := ⟨RX1, "carryOutAll", "(Ljava/util/LinkedList;)I"⟩
def dkwX1_carryOutAll_0 : List UInt8 := [42, 187, 1, 140, 89, 42, 43, 183, 1, 142, 182, 0, 91, 172]
abbrev dktX1_carryOutAll_0 : List UInt8 := dkwX1_carryOutAll_0 ++ []
theorem dksX1_carryOutAll_0 : cX1_carryOutAll.data.toList.drop 0 = dktX1_carryOutAll_0 := by decide +kernel
theorem dX1_carryOutAll_0 : decode cX1_carryOutAll 0 = .ok (.aload_n 0, 1) := dk_42 (dk_at dksX1_carryOutAll_0 0 rfl rfl)
theorem dX1_carryOutAll_1 : decode cX1_carryOutAll 1 = .ok (.new 396, 3) := dk_187 1 140 (dk_at dksX1_carryOutAll_0 1 rfl rfl)
theorem dX1_carryOutAll_4 : decode cX1_carryOutAll 4 = .ok (.dup, 1) := dk_89 (dk_at dksX1_carryOutAll_0 4 rfl rfl)
theorem dX1_carryOutAll_5 : decode cX1_carryOutAll 5 = .ok (.aload_n 0, 1) := dk_42 (dk_at dksX1_carryOutAll_0 5 rfl rfl)
theorem dX1_carryOutAll_6 : decode cX1_carryOutAll 6 = .ok (.aload_n 1, 1) := dk_43 (dk_at dksX1_carryOutAll_0 6 rfl rfl)
theorem dX1_carryOutAll_7 : decode cX1_carryOutAll 7 = .ok (.invokespecial 398, 3) := dk_183 1 142 (dk_at dksX1_carryOutAll_0 7 rfl rfl)
theorem dX1_carryOutAll_10 : decode cX1_carryOutAll 10 = .ok (.invokevirtual 91, 3) := dk_182 0 91 (dk_at dksX1_carryOutAll_0 10 rfl rfl)
theorem dX1_carryOutAll_13 : decode cX1_carryOutAll 13 = .ok (.ireturn, 1) := dk_172 (dk_at dksX1_carryOutAll_0 13 rfl rfl)
abbrev cX1_undo : ByteArray := prog_1_method_49_code
def yX1_undo : MethodName := ⟨RX1, "undo", "()I"⟩
def dkwX1_undo_1 : List UInt8 := [182, 1, 163, 192, 0, 30, 181, 0, 33, 42, 180, 0, 40, 182, 0, 55, 172]
abbrev dktX1_undo_1 : List UInt8 := dkwX1_undo_1 ++ []
def dkwX1_undo_0 : List UInt8 := [42, 180, 0, 40, 182, 1, 162, 154, 0, 7, 4, 167, 0, 4, 3, 184, 1, 129, 42, 42, 180, 0, 40]
abbrev dktX1_undo_0 : List UInt8 := dkwX1_undo_0 ++ dktX1_undo_1
theorem dksX1_undo_0 : cX1_undo.data.toList.drop 0 = dktX1_undo_0 := by decide +kernel
theorem dksX1_undo_1 : cX1_undo.data.toList.drop 23 = dktX1_undo_1 := dk_seg dksX1_undo_0 23 rfl rfl
theorem dX1_undo_0 : decode cX1_undo 0 = .ok (.aload_n 0, 1) := dk_42 (dk_at dksX1_undo_0 0 rfl rfl)
theorem dX1_undo_1 : decode cX1_undo 1 = .ok (.getfield 40, 3) := dk_180 0 40 (dk_at dksX1_undo_0 1 rfl rfl)
theorem dX1_undo_4 : decode cX1_undo 4 = .ok (.invokevirtual 418, 3) := dk_182 1 162 (dk_at dksX1_undo_0 4 rfl rfl)
theorem dX1_undo_7 : decode cX1_undo 7 = .ok (.ifCond .ne 7, 3) := dk_154 0 7 (dk_at dksX1_undo_0 7 rfl rfl)
theorem dX1_undo_10 : decode cX1_undo 10 = .ok (.iconst 1, 1) := dk_4 (dk_at dksX1_undo_0 10 rfl rfl)
theorem dX1_undo_11 : decode cX1_undo 11 = .ok (.goto 4, 3) := dk_167 0 4 (dk_at dksX1_undo_0 11 rfl rfl)
theorem dX1_undo_14 : decode cX1_undo 14 = .ok (.iconst 0, 1) := dk_3 (dk_at dksX1_undo_0 14 rfl rfl)
theorem dX1_undo_15 : decode cX1_undo 15 = .ok (.invokestatic 385, 3) := dk_184 1 129 (dk_at dksX1_undo_0 15 rfl rfl)
theorem dX1_undo_18 : decode cX1_undo 18 = .ok (.aload_n 0, 1) := dk_42 (dk_at dksX1_undo_0 18 rfl rfl)
theorem dX1_undo_19 : decode cX1_undo 19 = .ok (.aload_n 0, 1) := dk_42 (dk_at dksX1_undo_0 19 rfl rfl)
theorem dX1_undo_20 : decode cX1_undo 20 = .ok (.getfield 40, 3) := dk_180 0 40 (dk_at dksX1_undo_0 20 rfl rfl)
theorem dX1_undo_23 : decode cX1_undo 23 = .ok (.invokevirtual 419, 3) := dk_182 1 163 (dk_at dksX1_undo_1 0 rfl rfl)
theorem dX1_undo_26 : decode cX1_undo 26 = .ok (.checkcast 30, 3) := dk_192 0 30 (dk_at dksX1_undo_1 3 rfl rfl)
theorem dX1_undo_29 : decode cX1_undo 29 = .ok (.putfield 33, 3) := dk_181 0 33 (dk_at dksX1_undo_1 6 rfl rfl)
theorem dX1_undo_32 : decode cX1_undo 32 = .ok (.aload_n 0, 1) := dk_42 (dk_at dksX1_undo_1 9 rfl rfl)
theorem dX1_undo_33 : decode cX1_undo 33 = .ok (.getfield 40, 3) := dk_180 0 40 (dk_at dksX1_undo_1 10 rfl rfl)
theorem dX1_undo_36 : decode cX1_undo 36 = .ok (.invokevirtual 55, 3) := dk_182 0 55 (dk_at dksX1_undo_1 13 rfl rfl)
theorem dX1_undo_39 : decode cX1_undo 39 = .ok (.ireturn, 1) := dk_172 (dk_at dksX1_undo_1 16 rfl rfl)
abbrev cX1_restore : ByteArray := prog_1_method_51_code
def yX1_restore : MethodName := ⟨RX1, "restore", "()I"⟩
def dkwX1_restore_1 : List UInt8 := [183, 0, 67, 181, 0, 33, 42, 180, 0, 40, 182, 1, 169, 42, 180, 0, 33, 180, 0, 214, 172]
abbrev dktX1_restore_1 : List UInt8 := dkwX1_restore_1 ++ []
def dkwX1_restore_0 : List UInt8 := [42, 180, 1, 166, 198, 0, 7, 4, 167, 0, 4, 3, 184, 1, 129, 42, 187, 0, 30, 89, 42, 180, 1, 166]
abbrev dktX1_restore_0 : List UInt8 := dkwX1_restore_0 ++ dktX1_restore_1
theorem dksX1_restore_0 : cX1_restore.data.toList.drop 0 = dktX1_restore_0 := by decide +kernel
theorem dksX1_restore_1 : cX1_restore.data.toList.drop 24 = dktX1_restore_1 := dk_seg dksX1_restore_0 24 rfl rfl
theorem dX1_restore_0 : decode cX1_restore 0 = .ok (.aload_n 0, 1) := dk_42 (dk_at dksX1_restore_0 0 rfl rfl)
theorem dX1_restore_1 : decode cX1_restore 1 = .ok (.getfield 422, 3) := dk_180 1 166 (dk_at dksX1_restore_0 1 rfl rfl)
theorem dX1_restore_4 : decode cX1_restore 4 = .ok (.ifnull 7, 3) := dk_198 0 7 (dk_at dksX1_restore_0 4 rfl rfl)
theorem dX1_restore_7 : decode cX1_restore 7 = .ok (.iconst 1, 1) := dk_4 (dk_at dksX1_restore_0 7 rfl rfl)
theorem dX1_restore_8 : decode cX1_restore 8 = .ok (.goto 4, 3) := dk_167 0 4 (dk_at dksX1_restore_0 8 rfl rfl)
theorem dX1_restore_11 : decode cX1_restore 11 = .ok (.iconst 0, 1) := dk_3 (dk_at dksX1_restore_0 11 rfl rfl)
theorem dX1_restore_12 : decode cX1_restore 12 = .ok (.invokestatic 385, 3) := dk_184 1 129 (dk_at dksX1_restore_0 12 rfl rfl)
theorem dX1_restore_15 : decode cX1_restore 15 = .ok (.aload_n 0, 1) := dk_42 (dk_at dksX1_restore_0 15 rfl rfl)
theorem dX1_restore_16 : decode cX1_restore 16 = .ok (.new 30, 3) := dk_187 0 30 (dk_at dksX1_restore_0 16 rfl rfl)
theorem dX1_restore_19 : decode cX1_restore 19 = .ok (.dup, 1) := dk_89 (dk_at dksX1_restore_0 19 rfl rfl)
theorem dX1_restore_20 : decode cX1_restore 20 = .ok (.aload_n 0, 1) := dk_42 (dk_at dksX1_restore_0 20 rfl rfl)
theorem dX1_restore_21 : decode cX1_restore 21 = .ok (.getfield 422, 3) := dk_180 1 166 (dk_at dksX1_restore_0 21 rfl rfl)
theorem dX1_restore_24 : decode cX1_restore 24 = .ok (.invokespecial 67, 3) := dk_183 0 67 (dk_at dksX1_restore_1 0 rfl rfl)
theorem dX1_restore_27 : decode cX1_restore 27 = .ok (.putfield 33, 3) := dk_181 0 33 (dk_at dksX1_restore_1 3 rfl rfl)
theorem dX1_restore_30 : decode cX1_restore 30 = .ok (.aload_n 0, 1) := dk_42 (dk_at dksX1_restore_1 6 rfl rfl)
theorem dX1_restore_31 : decode cX1_restore 31 = .ok (.getfield 40, 3) := dk_180 0 40 (dk_at dksX1_restore_1 7 rfl rfl)
theorem dX1_restore_34 : decode cX1_restore 34 = .ok (.invokevirtual 425, 3) := dk_182 1 169 (dk_at dksX1_restore_1 10 rfl rfl)
theorem dX1_restore_37 : decode cX1_restore 37 = .ok (.aload_n 0, 1) := dk_42 (dk_at dksX1_restore_1 13 rfl rfl)
theorem dX1_restore_38 : decode cX1_restore 38 = .ok (.getfield 33, 3) := dk_180 0 33 (dk_at dksX1_restore_1 14 rfl rfl)
theorem dX1_restore_41 : decode cX1_restore 41 = .ok (.getfield 214, 3) := dk_180 0 214 (dk_at dksX1_restore_1 17 rfl rfl)
theorem dX1_restore_44 : decode cX1_restore 44 = .ok (.ireturn, 1) := dk_172 (dk_at dksX1_restore_1 20 rfl rfl)
theorem q107 : (Jvm.Cond.initialized "CavePearls") ∈ lw_all := lw_g (lw_at lw_m1 1 rfl) rfl
theorem q196 : (Jvm.Cond.instantiable "CavePearls" (7 : Nat)) ∈ lw_all := lw_g (lw_at lw_m1 90 rfl) rfl
theorem q198 : (Jvm.Cond.instanceMethod ({ cls := "CavePearls", name := "<init>", desc := "()V" } : Jvm.MethodName)) ∈ lw_all := lw_g (lw_at lw_m1 92 rfl) rfl
theorem q199 : (Jvm.Cond.code ({ cls := "CavePearls", name := "<init>", desc := "()V" } : Jvm.MethodName) prog_1_method_8_code (1 : Nat) (Option.none : Option Jvm.ClassFile.FieldType)) ∈ lw_all := lw_g (lw_at lw_m1 93 rfl) rfl
theorem q200 : (Jvm.Cond.methodLink "CavePearls" (27 : Nat) ({ cls := "java/lang/Object", name := "<init>", desc := "()V" } : Jvm.MethodName)) ∈ lw_all := lw_g (lw_at lw_m1 94 rfl) rfl
theorem q203 : (Jvm.Cond.classLink "CavePearls" (30 : Nat) "CavePearls$World") ∈ lw_all := lw_g (lw_at lw_m1 97 rfl) rfl
theorem q205 : (Jvm.Cond.methodLink "CavePearls" (32 : Nat) ({ cls := "CavePearls$World", name := "<init>", desc := "()V" } : Jvm.MethodName)) ∈ lw_all := lw_g (lw_at lw_m1 99 rfl) rfl
theorem q264 : (Jvm.Cond.laysStatic "CavePearls" "FIRST_AIR" "[I") ∈ lw_tbl := lw_at lw_m1 158 rfl
theorem q266 : (Jvm.Cond.fieldLinkNest "CavePearls" (214 : Nat) "CavePearls$World" "clock" "I" "CavePearls") ∈ lw_tbl := lw_at lw_m1 160 rfl
theorem q269 : (Jvm.Cond.fieldLinkNest "CavePearls" (167 : Nat) "CavePearls$World" "pools" "Ljava/util/ArrayList;" "CavePearls") ∈ lw_tbl := lw_at lw_m1 163 rfl
theorem q271 : (Jvm.Cond.fieldLinkNest "CavePearls" (94 : Nat) "CavePearls$World" "stones" "Ljava/util/ArrayList;" "CavePearls") ∈ lw_tbl := lw_at lw_m1 165 rfl
theorem q273 : (Jvm.Cond.fieldLinkNest "CavePearls" (245 : Nat) "CavePearls$World" "groups" "Ljava/util/LinkedList;" "CavePearls") ∈ lw_tbl := lw_at lw_m1 167 rfl
theorem q275 : (Jvm.Cond.fieldLinkNest "CavePearls" (374 : Nat) "CavePearls$World" "lamps" "Ljava/util/ArrayList;" "CavePearls") ∈ lw_tbl := lw_at lw_m1 169 rfl
theorem q278 : (Jvm.Cond.fieldLinkNest "CavePearls" (308 : Nat) "CavePearls$World" "breath" "I" "CavePearls") ∈ lw_tbl := lw_at lw_m1 172 rfl
theorem q280 : (Jvm.Cond.fieldLinkNest "CavePearls" (379 : Nat) "CavePearls$World" "dust" "I" "CavePearls") ∈ lw_tbl := lw_at lw_m1 174 rfl
theorem q282 : (Jvm.Cond.fieldLinkNest "CavePearls" (305 : Nat) "CavePearls$World" "draught" "I" "CavePearls") ∈ lw_tbl := lw_at lw_m1 176 rfl
theorem q284 : (Jvm.Cond.fieldLinkNest "CavePearls" (368 : Nat) "CavePearls$World" "drips" "I" "CavePearls") ∈ lw_tbl := lw_at lw_m1 178 rfl
theorem q286 : (Jvm.Cond.fieldLinkNest "CavePearls" (345 : Nat) "CavePearls$World" "over" "I" "CavePearls") ∈ lw_tbl := lw_at lw_m1 180 rfl
theorem q288 : (Jvm.Cond.fieldLinkNest "CavePearls" (346 : Nat) "CavePearls$World" "dried" "I" "CavePearls") ∈ lw_tbl := lw_at lw_m1 182 rfl
theorem q290 : (Jvm.Cond.fieldLinkNest "CavePearls" (356 : Nat) "CavePearls$World" "grown" "I" "CavePearls") ∈ lw_tbl := lw_at lw_m1 184 rfl
theorem q292 : (Jvm.Cond.fieldLinkNest "CavePearls" (359 : Nat) "CavePearls$World" "dissolved" "I" "CavePearls") ∈ lw_tbl := lw_at lw_m1 186 rfl
theorem q294 : (Jvm.Cond.fieldLinkNest "CavePearls" (353 : Nat) "CavePearls$World" "laid" "I" "CavePearls") ∈ lw_tbl := lw_at lw_m1 188 rfl
theorem q296 : (Jvm.Cond.fieldLinkNest "CavePearls" (362 : Nat) "CavePearls$World" "taken" "I" "CavePearls") ∈ lw_tbl := lw_at lw_m1 190 rfl
theorem q328 : (Jvm.Cond.classLink "CavePearls" (37 : Nat) "java/util/ArrayDeque") ∈ lw_all := lw_g (lw_at lw_m1 222 rfl) rfl
theorem q330 : (Jvm.Cond.methodLink "CavePearls" (39 : Nat) ({ cls := "java/util/ArrayDeque", name := "<init>", desc := "()V" } : Jvm.MethodName)) ∈ lw_all := lw_g (lw_at lw_m1 224 rfl) rfl
theorem q348 : (Jvm.Cond.classLink "CavePearls" (44 : Nat) "java/lang/StringBuilder") ∈ lw_all := lw_g (lw_at lw_m2 2 rfl) rfl
theorem q350 : (Jvm.Cond.methodLink "CavePearls" (46 : Nat) ({ cls := "java/lang/StringBuilder", name := "<init>", desc := "()V" } : Jvm.MethodName)) ∈ lw_all := lw_g (lw_at lw_m2 4 rfl) rfl
theorem q381 : (Jvm.Cond.fieldLink "CavePearls" (33 : Nat) "CavePearls" "world" "LCavePearls$World;") ∈ lw_all := lw_g (lw_at lw_m2 35 rfl) rfl
theorem q382 : (Jvm.Cond.fieldLink "CavePearls" (422 : Nat) "CavePearls" "saved" "LCavePearls$World;") ∈ lw_all := lw_g (lw_at lw_m2 36 rfl) rfl
theorem q383 : (Jvm.Cond.fieldLink "CavePearls" (40 : Nat) "CavePearls" "history" "Ljava/util/ArrayDeque;") ∈ lw_all := lw_g (lw_at lw_m2 37 rfl) rfl
theorem q384 : (Jvm.Cond.fieldLink "CavePearls" (79 : Nat) "CavePearls" "reason" "LCavePearls$RefusedException;") ∈ lw_all := lw_g (lw_at lw_m2 38 rfl) rfl
theorem q385 : (Jvm.Cond.fieldLink "CavePearls" (47 : Nat) "CavePearls" "line" "Ljava/lang/StringBuilder;") ∈ lw_all := lw_g (lw_at lw_m2 39 rfl) rfl
theorem q387 : (Jvm.Cond.fieldLink "CavePearls" (51 : Nat) "CavePearls" "input" "[C") ∈ lw_all := lw_g (lw_at lw_m2 41 rfl) rfl
theorem q389 : (Jvm.Cond.fieldLink "CavePearls" (382 : Nat) "CavePearls" "inputLength" "I") ∈ lw_all := lw_g (lw_at lw_m2 43 rfl) rfl
theorem q390 : (Jvm.Cond.lays "CavePearls" "CavePearls" "world" "LCavePearls$World;") ∈ lw_all := lw_g (lw_at lw_m2 44 rfl) rfl
theorem q391 : (Jvm.Cond.soleField "CavePearls" "world") ∈ lw_all := lw_g (lw_at lw_m2 45 rfl) rfl
theorem q392 : (Jvm.Cond.lays "CavePearls" "CavePearls" "saved" "LCavePearls$World;") ∈ lw_all := lw_g (lw_at lw_m2 46 rfl) rfl
theorem q393 : (Jvm.Cond.soleField "CavePearls" "saved") ∈ lw_all := lw_g (lw_at lw_m2 47 rfl) rfl
theorem q394 : (Jvm.Cond.laysFinal "CavePearls" "CavePearls" "history" "Ljava/util/ArrayDeque;") ∈ lw_all := lw_g (lw_at lw_m2 48 rfl) rfl
theorem q395 : (Jvm.Cond.soleField "CavePearls" "history") ∈ lw_all := lw_g (lw_at lw_m2 49 rfl) rfl
theorem q396 : (Jvm.Cond.lays "CavePearls" "CavePearls" "reason" "LCavePearls$RefusedException;") ∈ lw_all := lw_g (lw_at lw_m2 50 rfl) rfl
theorem q397 : (Jvm.Cond.soleField "CavePearls" "reason") ∈ lw_all := lw_g (lw_at lw_m2 51 rfl) rfl
theorem q398 : (Jvm.Cond.laysFinal "CavePearls" "CavePearls" "line" "Ljava/lang/StringBuilder;") ∈ lw_all := lw_g (lw_at lw_m2 52 rfl) rfl
theorem q399 : (Jvm.Cond.soleField "CavePearls" "line") ∈ lw_all := lw_g (lw_at lw_m2 53 rfl) rfl
theorem q400 : (Jvm.Cond.laysFinal "CavePearls" "CavePearls" "input" "[C") ∈ lw_all := lw_g (lw_at lw_m2 54 rfl) rfl
theorem q401 : (Jvm.Cond.soleField "CavePearls" "input") ∈ lw_all := lw_g (lw_at lw_m2 55 rfl) rfl
theorem q402 : (Jvm.Cond.lays "CavePearls" "CavePearls" "inputLength" "I") ∈ lw_all := lw_g (lw_at lw_m2 56 rfl) rfl
theorem q403 : (Jvm.Cond.soleField "CavePearls" "inputLength") ∈ lw_all := lw_g (lw_at lw_m2 57 rfl) rfl
theorem q404 : (Jvm.Cond.superclass "CavePearls" "java/lang/Object") ∈ lw_all := lw_g (lw_at lw_m2 58 rfl) rfl
theorem q407 : (Jvm.Cond.instanceMethod ({ cls := "CavePearls", name := "dripsAgain", desc := "()I" } : Jvm.MethodName)) ∈ lw_all := lw_g (lw_at lw_m2 61 rfl) rfl
theorem q408 : (Jvm.Cond.selects "CavePearls" ({ cls := "CavePearls", name := "dripsAgain", desc := "()I" } : Jvm.MethodName) ({ cls := "CavePearls", name := "dripsAgain", desc := "()I" } : Jvm.MethodName)) ∈ lw_all := lw_g (lw_at lw_m2 62 rfl) rfl
theorem q409 : (Jvm.Cond.code ({ cls := "CavePearls", name := "dripsAgain", desc := "()I" } : Jvm.MethodName) prog_1_method_39_code (1 : Nat) (Option.some Jvm.ClassFile.FieldType.int)) ∈ lw_all := lw_g (lw_at lw_m2 63 rfl) rfl
theorem q410 : (Jvm.Cond.methodLink "CavePearls" (342 : Nat) ({ cls := "CavePearls", name := "all", desc := "(I)I" } : Jvm.MethodName)) ∈ lw_all := lw_g (lw_at lw_m2 64 rfl) rfl
theorem q411 : (Jvm.Cond.privateMethod ({ cls := "CavePearls", name := "all", desc := "(I)I" } : Jvm.MethodName)) ∈ lw_tbl := lw_at lw_m2 65 rfl
theorem q412 : (Jvm.Cond.instanceMethod ({ cls := "CavePearls", name := "all", desc := "(I)I" } : Jvm.MethodName)) ∈ lw_all := lw_g (lw_at lw_m2 66 rfl) rfl
theorem q413 : (Jvm.Cond.code ({ cls := "CavePearls", name := "all", desc := "(I)I" } : Jvm.MethodName) prog_1_method_38_code (5 : Nat) (Option.some Jvm.ClassFile.FieldType.int)) ∈ lw_all := lw_g (lw_at lw_m2 67 rfl) rfl
theorem q414 : (Jvm.Cond.methodLink "CavePearls" (98 : Nat) ({ cls := "java/util/ArrayList", name := "iterator", desc := "()Ljava/util/Iterator;" } : Jvm.MethodName)) ∈ lw_all := lw_g (lw_at lw_m2 68 rfl) rfl
theorem q440 : (Jvm.Cond.interfaceEntry "CavePearls" (104 : Nat)) ∈ lw_tbl := lw_at lw_m2 94 rfl
theorem q441 : (Jvm.Cond.methodLink "CavePearls" (104 : Nat) ({ cls := "java/util/Iterator", name := "hasNext", desc := "()Z" } : Jvm.MethodName)) ∈ lw_all := lw_g (lw_at lw_m2 95 rfl) rfl
theorem q510 : (Jvm.Cond.interfaceEntry "CavePearls" (110 : Nat)) ∈ lw_tbl := lw_at lw_m2 164 rfl
theorem q511 : (Jvm.Cond.methodLink "CavePearls" (110 : Nat) ({ cls := "java/util/Iterator", name := "next", desc := "()Ljava/lang/Object;" } : Jvm.MethodName)) ∈ lw_all := lw_g (lw_at lw_m2 165 rfl) rfl
theorem q916 : (Jvm.Cond.selects "CavePearls" ({ cls := "java/lang/Object", name := "getClass", desc := "()Ljava/lang/Class;" } : Jvm.MethodName) ({ cls := "java/lang/Object", name := "getClass", desc := "()Ljava/lang/Class;" } : Jvm.MethodName)) ∈ lw_all := lw_g (lw_at lw_m4 90 rfl) rfl
theorem q1154 : (Jvm.Cond.classLink "CavePearls" (127 : Nat) "CavePearls$Pool") ∈ lw_all := lw_g (lw_at lw_m5 88 rfl) rfl
theorem q1155 : (Jvm.Cond.methodLink "CavePearls" (339 : Nat) ({ cls := "CavePearls$Pool", name := "sizes", desc := "()I" } : Jvm.MethodName)) ∈ lw_all := lw_g (lw_at lw_m5 89 rfl) rfl
theorem q1181 : (Jvm.Cond.methodLink "CavePearls" (137 : Nat) ({ cls := "java/util/ArrayList", name := "size", desc := "()I" } : Jvm.MethodName)) ∈ lw_all := lw_g (lw_at lw_m5 115 rfl) rfl
theorem q1182 : (Jvm.Cond.methodLink "CavePearls" (349 : Nat) ({ cls := "CavePearls", name := "sum", desc := "([I)I" } : Jvm.MethodName)) ∈ lw_all := lw_g (lw_at lw_m5 116 rfl) rfl
theorem q1183 : (Jvm.Cond.static ({ cls := "CavePearls", name := "sum", desc := "([I)I" } : Jvm.MethodName)) ∈ lw_all := lw_g (lw_at lw_m5 117 rfl) rfl
theorem q1184 : (Jvm.Cond.code ({ cls := "CavePearls", name := "sum", desc := "([I)I" } : Jvm.MethodName) prog_1_method_2_code (6 : Nat) (Option.some Jvm.ClassFile.FieldType.int)) ∈ lw_all := lw_g (lw_at lw_m5 118 rfl) rfl
theorem q1186 : (Jvm.Cond.instanceMethod ({ cls := "CavePearls", name := "isBalanced", desc := "()Z" } : Jvm.MethodName)) ∈ lw_all := lw_g (lw_at lw_m5 120 rfl) rfl
theorem q1187 : (Jvm.Cond.selects "CavePearls" ({ cls := "CavePearls", name := "isBalanced", desc := "()Z" } : Jvm.MethodName) ({ cls := "CavePearls", name := "isBalanced", desc := "()Z" } : Jvm.MethodName)) ∈ lw_all := lw_g (lw_at lw_m5 121 rfl) rfl
theorem q1188 : (Jvm.Cond.code ({ cls := "CavePearls", name := "isBalanced", desc := "()Z" } : Jvm.MethodName) prog_1_method_40_code (1 : Nat) (Option.some Jvm.ClassFile.FieldType.boolean)) ∈ lw_all := lw_g (lw_at lw_m5 122 rfl) rfl
theorem q1190 : (Jvm.Cond.instanceMethod ({ cls := "CavePearls", name := "save", desc := "()I" } : Jvm.MethodName)) ∈ lw_all := lw_g (lw_at lw_m5 124 rfl) rfl
theorem q1191 : (Jvm.Cond.selects "CavePearls" ({ cls := "CavePearls", name := "save", desc := "()I" } : Jvm.MethodName) ({ cls := "CavePearls", name := "save", desc := "()I" } : Jvm.MethodName)) ∈ lw_all := lw_g (lw_at lw_m5 125 rfl) rfl
theorem q1192 : (Jvm.Cond.code ({ cls := "CavePearls", name := "save", desc := "()I" } : Jvm.MethodName) prog_1_method_50_code (1 : Nat) (Option.some Jvm.ClassFile.FieldType.int)) ∈ lw_all := lw_g (lw_at lw_m5 126 rfl) rfl
theorem q1193 : (Jvm.Cond.methodLink "CavePearls" (67 : Nat) ({ cls := "CavePearls$World", name := "<init>", desc := "(LCavePearls$World;)V" } : Jvm.MethodName)) ∈ lw_all := lw_g (lw_at lw_m5 127 rfl) rfl
theorem q1213 : (Jvm.Cond.fieldLinkNest "CavePearls" (126 : Nat) "CavePearls$Pool" "capacity" "I" "CavePearls") ∈ lw_tbl := lw_at lw_m5 147 rfl
theorem q1217 : (Jvm.Cond.fieldLinkNest "CavePearls" (134 : Nat) "CavePearls$Pool" "pearls" "Ljava/util/ArrayList;" "CavePearls") ∈ lw_tbl := lw_at lw_m5 151 rfl
theorem q1220 : (Jvm.Cond.fieldLinkNest "CavePearls" (131 : Nat) "CavePearls$Pool" "water" "I" "CavePearls") ∈ lw_tbl := lw_at lw_m5 154 rfl
theorem q1222 : (Jvm.Cond.fieldLinkNest "CavePearls" (142 : Nat) "CavePearls$Pool" "drips" "I" "CavePearls") ∈ lw_tbl := lw_at lw_m5 156 rfl
theorem q1224 : (Jvm.Cond.fieldLinkNest "CavePearls" (145 : Nat) "CavePearls$Pool" "over" "I" "CavePearls") ∈ lw_tbl := lw_at lw_m5 158 rfl
theorem q1244 : (Jvm.Cond.fieldLinkNest "CavePearls" (160 : Nat) "CavePearls$Pearl" "size" "I" "CavePearls") ∈ lw_tbl := lw_at lw_m5 178 rfl
theorem q1288 : (Jvm.Cond.fieldLinkNest "CavePearls" (235 : Nat) "CavePearls$Stone" "number" "I" "CavePearls") ∈ lw_tbl := lw_at lw_m5 222 rfl
theorem q1291 : (Jvm.Cond.fieldLinkNest "CavePearls" (115 : Nat) "CavePearls$Stone" "pool" "I" "CavePearls") ∈ lw_tbl := lw_at lw_m5 225 rfl
theorem q1293 : (Jvm.Cond.fieldLinkNest "CavePearls" (205 : Nat) "CavePearls$Stone" "period" "I" "CavePearls") ∈ lw_tbl := lw_at lw_m5 227 rfl
theorem q1296 : (Jvm.Cond.fieldLinkNest "CavePearls" (208 : Nat) "CavePearls$Stone" "cracks" "I" "CavePearls") ∈ lw_tbl := lw_at lw_m5 230 rfl
theorem q1298 : (Jvm.Cond.fieldLinkNest "CavePearls" (211 : Nat) "CavePearls$Stone" "drips" "I" "CavePearls") ∈ lw_tbl := lw_at lw_m5 232 rfl
theorem q1302 : (Jvm.Cond.fieldLinkNest "CavePearls" (212 : Nat) "CavePearls$Stone" "next" "I" "CavePearls") ∈ lw_tbl := lw_at lw_m5 236 rfl
theorem q1408 : (Jvm.Cond.fieldLinkNest "CavePearls" (258 : Nat) "CavePearls$Group" "persons" "I" "CavePearls") ∈ lw_tbl := lw_at lw_m6 102 rfl
theorem q1411 : (Jvm.Cond.fieldLinkNest "CavePearls" (255 : Nat) "CavePearls$Group" "stay" "I" "CavePearls") ∈ lw_tbl := lw_at lw_m6 105 rfl
theorem q1454 : (Jvm.Cond.fieldLinkNest "CavePearls" (280 : Nat) "CavePearls$Lamp" "pool" "I" "CavePearls") ∈ lw_tbl := lw_at lw_m6 148 rfl
theorem q1457 : (Jvm.Cond.fieldLinkNest "CavePearls" (275 : Nat) "CavePearls$Lamp" "minutes" "I" "CavePearls") ∈ lw_tbl := lw_at lw_m6 151 rfl
theorem q1469 : (Jvm.Cond.instanceMethod ({ cls := "CavePearls", name := "addPool", desc := "(I)I" } : Jvm.MethodName)) ∈ lw_all := lw_g (lw_at lw_m6 163 rfl) rfl
theorem q1470 : (Jvm.Cond.selects "CavePearls" ({ cls := "CavePearls", name := "addPool", desc := "(I)I" } : Jvm.MethodName) ({ cls := "CavePearls", name := "addPool", desc := "(I)I" } : Jvm.MethodName)) ∈ lw_all := lw_g (lw_at lw_m6 164 rfl) rfl
theorem q1471 : (Jvm.Cond.code ({ cls := "CavePearls", name := "addPool", desc := "(I)I" } : Jvm.MethodName) prog_1_method_11_code (2 : Nat) (Option.some Jvm.ClassFile.FieldType.int)) ∈ lw_all := lw_g (lw_at lw_m6 165 rfl) rfl
theorem q1472 : (Jvm.Cond.classLink "CavePearls" (86 : Nat) "CavePearls$1") ∈ lw_all := lw_g (lw_at lw_m6 166 rfl) rfl
theorem q1474 : (Jvm.Cond.methodLink "CavePearls" (88 : Nat) ({ cls := "CavePearls$1", name := "<init>", desc := "(LCavePearls;I)V" } : Jvm.MethodName)) ∈ lw_all := lw_g (lw_at lw_m6 168 rfl) rfl
theorem q1485 : (Jvm.Cond.methodLink "CavePearls" (91 : Nat) ({ cls := "CavePearls", name := "carryOut", desc := "(LCavePearls$Deed;)I" } : Jvm.MethodName)) ∈ lw_all := lw_g (lw_at lw_m6 179 rfl) rfl
theorem q1486 : (Jvm.Cond.privateMethod ({ cls := "CavePearls", name := "carryOut", desc := "(LCavePearls$Deed;)I" } : Jvm.MethodName)) ∈ lw_tbl := lw_at lw_m6 180 rfl
theorem q1487 : (Jvm.Cond.instanceMethod ({ cls := "CavePearls", name := "carryOut", desc := "(LCavePearls$Deed;)I" } : Jvm.MethodName)) ∈ lw_all := lw_g (lw_at lw_m6 181 rfl) rfl
theorem q1488 : (Jvm.Cond.codeWith ({ cls := "CavePearls", name := "carryOut", desc := "(LCavePearls$Deed;)I" } : Jvm.MethodName) prog_1_method_10_code (4 : Nat) (Option.some Jvm.ClassFile.FieldType.int) [((12 : Nat), (26 : Nat), (27 : Nat), (22 : Nat))]) ∈ lw_all := lw_g (lw_at lw_m6 182 rfl) rfl
theorem q1489 : (Jvm.Cond.classLink "CavePearls" (22 : Nat) "CavePearls$RefusedException") ∈ lw_all := lw_g (lw_at lw_m6 183 rfl) rfl
theorem q1490 : (Jvm.Cond.interfaceEntry "CavePearls" (70 : Nat)) ∈ lw_tbl := lw_at lw_m6 184 rfl
theorem q1491 : (Jvm.Cond.methodLink "CavePearls" (70 : Nat) ({ cls := "CavePearls$Deed", name := "carryOut", desc := "(LCavePearls$World;)I" } : Jvm.MethodName)) ∈ lw_all := lw_g (lw_at lw_m6 185 rfl) rfl
theorem q1505 : (Jvm.Cond.static ({ cls := "CavePearls", name := "inRange", desc := "(III)Z" } : Jvm.MethodName)) ∈ lw_all := lw_g (lw_at lw_m6 199 rfl) rfl
theorem q1506 : (Jvm.Cond.code ({ cls := "CavePearls", name := "inRange", desc := "(III)Z" } : Jvm.MethodName) prog_1_method_1_code (3 : Nat) (Option.some Jvm.ClassFile.FieldType.boolean)) ∈ lw_all := lw_g (lw_at lw_m6 200 rfl) rfl
theorem q1508 : (Jvm.Cond.static ({ cls := "CavePearls", name := "checkArgument", desc := "(Z)V" } : Jvm.MethodName)) ∈ lw_all := lw_g (lw_at lw_m6 202 rfl) rfl
theorem q1509 : (Jvm.Cond.code ({ cls := "CavePearls", name := "checkArgument", desc := "(Z)V" } : Jvm.MethodName) prog_1_method_3_code (1 : Nat) (Option.none : Option Jvm.ClassFile.FieldType)) ∈ lw_all := lw_g (lw_at lw_m6 203 rfl) rfl
theorem q1510 : (Jvm.Cond.classLink "CavePearls" (1 : Nat) "java/lang/IllegalArgumentException") ∈ lw_all := lw_g (lw_at lw_m6 204 rfl) rfl
theorem q1511 : (Jvm.Cond.methodLink "CavePearls" (3 : Nat) ({ cls := "java/lang/IllegalArgumentException", name := "<init>", desc := "()V" } : Jvm.MethodName)) ∈ lw_all := lw_g (lw_at lw_m6 205 rfl) rfl
theorem q1517 : (Jvm.Cond.static ({ cls := "CavePearls", name := "refuse", desc := "(ZII)V" } : Jvm.MethodName)) ∈ lw_all := lw_g (lw_at lw_m6 211 rfl) rfl
theorem q1518 : (Jvm.Cond.code ({ cls := "CavePearls", name := "refuse", desc := "(ZII)V" } : Jvm.MethodName) prog_1_method_7_code (3 : Nat) (Option.none : Option Jvm.ClassFile.FieldType)) ∈ lw_all := lw_g (lw_at lw_m6 212 rfl) rfl
theorem q1527 : (Jvm.Cond.methodLink "CavePearls" (24 : Nat) ({ cls := "CavePearls$RefusedException", name := "<init>", desc := "(II)V" } : Jvm.MethodName)) ∈ lw_all := lw_g (lw_at lw_m6 221 rfl) rfl
theorem q1537 : (Jvm.Cond.fieldLinkNest "CavePearls" (372 : Nat) "CavePearls$RefusedException" "reason" "I" "CavePearls") ∈ lw_tbl := lw_at lw_m6 231 rfl
theorem q1539 : (Jvm.Cond.fieldLinkNest "CavePearls" (369 : Nat) "CavePearls$RefusedException" "detail" "I" "CavePearls") ∈ lw_tbl := lw_at lw_m6 233 rfl
theorem q1564 : (Jvm.Cond.static ({ cls := "CavePearls", name := "checkIndex", desc := "(II)V" } : Jvm.MethodName)) ∈ lw_all := lw_g (lw_at lw_m7 18 rfl) rfl
theorem q1565 : (Jvm.Cond.code ({ cls := "CavePearls", name := "checkIndex", desc := "(II)V" } : Jvm.MethodName) prog_1_method_5_code (2 : Nat) (Option.none : Option Jvm.ClassFile.FieldType)) ∈ lw_all := lw_g (lw_at lw_m7 19 rfl) rfl
theorem q1566 : (Jvm.Cond.methodLink "CavePearls" (10 : Nat) ({ cls := "CavePearls", name := "inRange", desc := "(III)Z" } : Jvm.MethodName)) ∈ lw_all := lw_g (lw_at lw_m7 20 rfl) rfl
theorem q1567 : (Jvm.Cond.classLink "CavePearls" (16 : Nat) "java/lang/IndexOutOfBoundsException") ∈ lw_all := lw_g (lw_at lw_m7 21 rfl) rfl
theorem q1568 : (Jvm.Cond.methodLink "CavePearls" (18 : Nat) ({ cls := "java/lang/IndexOutOfBoundsException", name := "<init>", desc := "()V" } : Jvm.MethodName)) ∈ lw_all := lw_g (lw_at lw_m7 22 rfl) rfl
theorem q1592 : (Jvm.Cond.static ({ cls := "CavePearls", name := "checkFound", desc := "(Z)V" } : Jvm.MethodName)) ∈ lw_all := lw_g (lw_at lw_m7 46 rfl) rfl
theorem q1593 : (Jvm.Cond.code ({ cls := "CavePearls", name := "checkFound", desc := "(Z)V" } : Jvm.MethodName) prog_1_method_6_code (1 : Nat) (Option.none : Option Jvm.ClassFile.FieldType)) ∈ lw_all := lw_g (lw_at lw_m7 47 rfl) rfl
theorem q1594 : (Jvm.Cond.classLink "CavePearls" (19 : Nat) "java/util/NoSuchElementException") ∈ lw_all := lw_g (lw_at lw_m7 48 rfl) rfl
theorem q1595 : (Jvm.Cond.methodLink "CavePearls" (21 : Nat) ({ cls := "java/util/NoSuchElementException", name := "<init>", desc := "()V" } : Jvm.MethodName)) ∈ lw_all := lw_g (lw_at lw_m7 49 rfl) rfl
theorem q2261 : (Jvm.Cond.methodLink "CavePearls" (76 : Nat) ({ cls := "CavePearls", name := "change", desc := "(LCavePearls$World;)V" } : Jvm.MethodName)) ∈ lw_all := lw_g (lw_at lw_m9 235 rfl) rfl
theorem q2262 : (Jvm.Cond.privateMethod ({ cls := "CavePearls", name := "change", desc := "(LCavePearls$World;)V" } : Jvm.MethodName)) ∈ lw_tbl := lw_at lw_m9 236 rfl
theorem q2263 : (Jvm.Cond.instanceMethod ({ cls := "CavePearls", name := "change", desc := "(LCavePearls$World;)V" } : Jvm.MethodName)) ∈ lw_all := lw_g (lw_at lw_m9 237 rfl) rfl
theorem q2264 : (Jvm.Cond.code ({ cls := "CavePearls", name := "change", desc := "(LCavePearls$World;)V" } : Jvm.MethodName) prog_1_method_9_code (3 : Nat) (Option.none : Option Jvm.ClassFile.FieldType)) ∈ lw_all := lw_g (lw_at lw_m9 238 rfl) rfl
theorem q2265 : (Jvm.Cond.methodLink "CavePearls" (55 : Nat) ({ cls := "java/util/ArrayDeque", name := "size", desc := "()I" } : Jvm.MethodName)) ∈ lw_all := lw_g (lw_at lw_m9 239 rfl) rfl
theorem q2269 : (Jvm.Cond.methodLink "CavePearls" (59 : Nat) ({ cls := "java/util/ArrayDeque", name := "removeFirst", desc := "()Ljava/lang/Object;" } : Jvm.MethodName)) ∈ lw_all := lw_g (lw_at lw_m10 3 rfl) rfl
theorem q2275 : (Jvm.Cond.methodLink "CavePearls" (63 : Nat) ({ cls := "java/util/ArrayDeque", name := "addLast", desc := "(Ljava/lang/Object;)V" } : Jvm.MethodName)) ∈ lw_all := lw_g (lw_at lw_m10 9 rfl) rfl
theorem q2276 : (Jvm.Cond.classLink "CavePearls" (83 : Nat) "java/lang/UnsupportedOperationException") ∈ lw_all := lw_g (lw_at lw_m10 10 rfl) rfl
theorem q2277 : (Jvm.Cond.methodLink "CavePearls" (85 : Nat) ({ cls := "java/lang/UnsupportedOperationException", name := "<init>", desc := "()V" } : Jvm.MethodName)) ∈ lw_all := lw_g (lw_at lw_m10 11 rfl) rfl
theorem q2283 : (Jvm.Cond.instanceMethod ({ cls := "CavePearls", name := "pool", desc := "(II)I" } : Jvm.MethodName)) ∈ lw_all := lw_g (lw_at lw_m10 17 rfl) rfl
theorem q2284 : (Jvm.Cond.selects "CavePearls" ({ cls := "CavePearls", name := "pool", desc := "(II)I" } : Jvm.MethodName) ({ cls := "CavePearls", name := "pool", desc := "(II)I" } : Jvm.MethodName)) ∈ lw_all := lw_g (lw_at lw_m10 18 rfl) rfl
theorem q2285 : (Jvm.Cond.code ({ cls := "CavePearls", name := "pool", desc := "(II)I" } : Jvm.MethodName) prog_1_method_13_code (4 : Nat) (Option.some Jvm.ClassFile.FieldType.int)) ∈ lw_all := lw_g (lw_at lw_m10 19 rfl) rfl
theorem q2286 : (Jvm.Cond.methodLink "CavePearls" (119 : Nat) ({ cls := "CavePearls$World", name := "pool", desc := "(I)LCavePearls$Pool;" } : Jvm.MethodName)) ∈ lw_all := lw_g (lw_at lw_m10 20 rfl) rfl
theorem q2287 : (Jvm.Cond.methodLink "CavePearls" (122 : Nat) ({ cls := "CavePearls", name := "checkArgument", desc := "(Z)V" } : Jvm.MethodName)) ∈ lw_all := lw_g (lw_at lw_m10 21 rfl) rfl
theorem q2288 : (Jvm.Cond.methodLink "CavePearls" (138 : Nat) ({ cls := "CavePearls", name := "stonesAbove", desc := "(I)I" } : Jvm.MethodName)) ∈ lw_all := lw_g (lw_at lw_m10 22 rfl) rfl
theorem q2289 : (Jvm.Cond.privateMethod ({ cls := "CavePearls", name := "stonesAbove", desc := "(I)I" } : Jvm.MethodName)) ∈ lw_tbl := lw_at lw_m10 23 rfl
theorem q2290 : (Jvm.Cond.instanceMethod ({ cls := "CavePearls", name := "stonesAbove", desc := "(I)I" } : Jvm.MethodName)) ∈ lw_all := lw_g (lw_at lw_m10 24 rfl) rfl
theorem q2291 : (Jvm.Cond.code ({ cls := "CavePearls", name := "stonesAbove", desc := "(I)I" } : Jvm.MethodName) prog_1_method_12_code (5 : Nat) (Option.some Jvm.ClassFile.FieldType.int)) ∈ lw_all := lw_g (lw_at lw_m10 25 rfl) rfl
theorem q2292 : (Jvm.Cond.classLink "CavePearls" (113 : Nat) "CavePearls$Stone") ∈ lw_all := lw_g (lw_at lw_m10 26 rfl) rfl
theorem q2297 : (Jvm.Cond.instanceMethod ({ cls := "CavePearls", name := "addPearl", desc := "(II)I" } : Jvm.MethodName)) ∈ lw_all := lw_g (lw_at lw_m10 31 rfl) rfl
theorem q2298 : (Jvm.Cond.selects "CavePearls" ({ cls := "CavePearls", name := "addPearl", desc := "(II)I" } : Jvm.MethodName) ({ cls := "CavePearls", name := "addPearl", desc := "(II)I" } : Jvm.MethodName)) ∈ lw_all := lw_g (lw_at lw_m10 32 rfl) rfl
theorem q2299 : (Jvm.Cond.code ({ cls := "CavePearls", name := "addPearl", desc := "(II)I" } : Jvm.MethodName) prog_1_method_14_code (3 : Nat) (Option.some Jvm.ClassFile.FieldType.int)) ∈ lw_all := lw_g (lw_at lw_m10 33 rfl) rfl
theorem q2300 : (Jvm.Cond.classLink "CavePearls" (148 : Nat) "CavePearls$2") ∈ lw_all := lw_g (lw_at lw_m10 34 rfl) rfl
theorem q2302 : (Jvm.Cond.methodLink "CavePearls" (150 : Nat) ({ cls := "CavePearls$2", name := "<init>", desc := "(LCavePearls;II)V" } : Jvm.MethodName)) ∈ lw_all := lw_g (lw_at lw_m10 36 rfl) rfl
theorem q2321 : (Jvm.Cond.instanceMethod ({ cls := "CavePearls", name := "takePearl", desc := "(II)I" } : Jvm.MethodName)) ∈ lw_all := lw_g (lw_at lw_m10 55 rfl) rfl
theorem q2322 : (Jvm.Cond.selects "CavePearls" ({ cls := "CavePearls", name := "takePearl", desc := "(II)I" } : Jvm.MethodName) ({ cls := "CavePearls", name := "takePearl", desc := "(II)I" } : Jvm.MethodName)) ∈ lw_all := lw_g (lw_at lw_m10 56 rfl) rfl
theorem q2323 : (Jvm.Cond.code ({ cls := "CavePearls", name := "takePearl", desc := "(II)I" } : Jvm.MethodName) prog_1_method_15_code (3 : Nat) (Option.some Jvm.ClassFile.FieldType.int)) ∈ lw_all := lw_g (lw_at lw_m10 57 rfl) rfl
theorem q2324 : (Jvm.Cond.classLink "CavePearls" (153 : Nat) "CavePearls$3") ∈ lw_all := lw_g (lw_at lw_m10 58 rfl) rfl
theorem q2326 : (Jvm.Cond.methodLink "CavePearls" (155 : Nat) ({ cls := "CavePearls$3", name := "<init>", desc := "(LCavePearls;II)V" } : Jvm.MethodName)) ∈ lw_all := lw_g (lw_at lw_m10 60 rfl) rfl
theorem q2344 : (Jvm.Cond.instanceMethod ({ cls := "CavePearls", name := "pearl", desc := "(II)I" } : Jvm.MethodName)) ∈ lw_all := lw_g (lw_at lw_m10 78 rfl) rfl
theorem q2345 : (Jvm.Cond.selects "CavePearls" ({ cls := "CavePearls", name := "pearl", desc := "(II)I" } : Jvm.MethodName) ({ cls := "CavePearls", name := "pearl", desc := "(II)I" } : Jvm.MethodName)) ∈ lw_all := lw_g (lw_at lw_m10 79 rfl) rfl
theorem q2346 : (Jvm.Cond.code ({ cls := "CavePearls", name := "pearl", desc := "(II)I" } : Jvm.MethodName) prog_1_method_16_code (3 : Nat) (Option.some Jvm.ClassFile.FieldType.int)) ∈ lw_all := lw_g (lw_at lw_m10 80 rfl) rfl
theorem q2347 : (Jvm.Cond.methodLink "CavePearls" (156 : Nat) ({ cls := "CavePearls$Pool", name := "pearl", desc := "(I)LCavePearls$Pearl;" } : Jvm.MethodName)) ∈ lw_all := lw_g (lw_at lw_m10 81 rfl) rfl
theorem q2352 : (Jvm.Cond.instanceMethod ({ cls := "CavePearls", name := "ranked", desc := "(I)I" } : Jvm.MethodName)) ∈ lw_all := lw_g (lw_at lw_m10 86 rfl) rfl
theorem q2353 : (Jvm.Cond.selects "CavePearls" ({ cls := "CavePearls", name := "ranked", desc := "(I)I" } : Jvm.MethodName) ({ cls := "CavePearls", name := "ranked", desc := "(I)I" } : Jvm.MethodName)) ∈ lw_all := lw_g (lw_at lw_m10 87 rfl) rfl
theorem q2354 : (Jvm.Cond.code ({ cls := "CavePearls", name := "ranked", desc := "(I)I" } : Jvm.MethodName) prog_1_method_17_code (8 : Nat) (Option.some Jvm.ClassFile.FieldType.int)) ∈ lw_all := lw_g (lw_at lw_m10 88 rfl) rfl
theorem q2355 : (Jvm.Cond.classLink "CavePearls" (164 : Nat) "java/util/TreeMap") ∈ lw_all := lw_g (lw_at lw_m10 89 rfl) rfl
theorem q2356 : (Jvm.Cond.methodLink "CavePearls" (166 : Nat) ({ cls := "java/util/TreeMap", name := "<init>", desc := "()V" } : Jvm.MethodName)) ∈ lw_all := lw_g (lw_at lw_m10 90 rfl) rfl
theorem q2389 : (Jvm.Cond.methodLink "CavePearls" (170 : Nat) ({ cls := "java/util/ArrayList", name := "get", desc := "(I)Ljava/lang/Object;" } : Jvm.MethodName)) ∈ lw_all := lw_g (lw_at lw_m10 123 rfl) rfl
theorem q2390 : (Jvm.Cond.methodLink "CavePearls" (174 : Nat) ({ cls := "CavePearls$Pool", name := "iterator", desc := "()Ljava/util/Iterator;" } : Jvm.MethodName)) ∈ lw_all := lw_g (lw_at lw_m10 124 rfl) rfl
theorem q2391 : (Jvm.Cond.classLink "CavePearls" (161 : Nat) "CavePearls$Pearl") ∈ lw_all := lw_g (lw_at lw_m10 125 rfl) rfl
theorem q2392 : (Jvm.Cond.methodLink "CavePearls" (175 : Nat) ({ cls := "java/lang/Integer", name := "valueOf", desc := "(I)Ljava/lang/Integer;" } : Jvm.MethodName)) ∈ lw_all := lw_g (lw_at lw_m10 126 rfl) rfl
theorem q2411 : (Jvm.Cond.methodLink "CavePearls" (181 : Nat) ({ cls := "java/util/TreeMap", name := "put", desc := "(Ljava/lang/Object;Ljava/lang/Object;)Ljava/lang/Object;" } : Jvm.MethodName)) ∈ lw_all := lw_g (lw_at lw_m10 145 rfl) rfl
theorem q2475 : (Jvm.Cond.classLink "CavePearls" (176 : Nat) "java/lang/Integer") ∈ lw_all := lw_g (lw_at lw_m10 209 rfl) rfl
theorem q2476 : (Jvm.Cond.methodLink "CavePearls" (185 : Nat) ({ cls := "java/util/TreeMap", name := "size", desc := "()I" } : Jvm.MethodName)) ∈ lw_all := lw_g (lw_at lw_m10 210 rfl) rfl
theorem q2480 : (Jvm.Cond.methodLink "CavePearls" (186 : Nat) ({ cls := "CavePearls", name := "checkFound", desc := "(Z)V" } : Jvm.MethodName)) ∈ lw_all := lw_g (lw_at lw_m10 214 rfl) rfl
theorem q2481 : (Jvm.Cond.methodLink "CavePearls" (189 : Nat) ({ cls := "java/util/TreeMap", name := "values", desc := "()Ljava/util/Collection;" } : Jvm.MethodName)) ∈ lw_all := lw_g (lw_at lw_m10 215 rfl) rfl
theorem q2495 : (Jvm.Cond.interfaceEntry "CavePearls" (193 : Nat)) ∈ lw_tbl := lw_at lw_m10 229 rfl
theorem q2496 : (Jvm.Cond.methodLink "CavePearls" (193 : Nat) ({ cls := "java/util/Collection", name := "iterator", desc := "()Ljava/util/Iterator;" } : Jvm.MethodName)) ∈ lw_all := lw_g (lw_at lw_m10 230 rfl) rfl
theorem q2624 : (Jvm.Cond.methodLink "CavePearls" (196 : Nat) ({ cls := "java/lang/Integer", name := "intValue", desc := "()I" } : Jvm.MethodName)) ∈ lw_all := lw_g (lw_at lw_m11 118 rfl) rfl
theorem q2632 : (Jvm.Cond.instanceMethod ({ cls := "CavePearls", name := "addStone", desc := "(II)I" } : Jvm.MethodName)) ∈ lw_all := lw_g (lw_at lw_m11 126 rfl) rfl
theorem q2633 : (Jvm.Cond.selects "CavePearls" ({ cls := "CavePearls", name := "addStone", desc := "(II)I" } : Jvm.MethodName) ({ cls := "CavePearls", name := "addStone", desc := "(II)I" } : Jvm.MethodName)) ∈ lw_all := lw_g (lw_at lw_m11 127 rfl) rfl
theorem q2634 : (Jvm.Cond.code ({ cls := "CavePearls", name := "addStone", desc := "(II)I" } : Jvm.MethodName) prog_1_method_18_code (3 : Nat) (Option.some Jvm.ClassFile.FieldType.int)) ∈ lw_all := lw_g (lw_at lw_m11 128 rfl) rfl
theorem q2635 : (Jvm.Cond.classLink "CavePearls" (199 : Nat) "CavePearls$4") ∈ lw_all := lw_g (lw_at lw_m11 129 rfl) rfl
theorem q2637 : (Jvm.Cond.methodLink "CavePearls" (201 : Nat) ({ cls := "CavePearls$4", name := "<init>", desc := "(LCavePearls;II)V" } : Jvm.MethodName)) ∈ lw_all := lw_g (lw_at lw_m11 131 rfl) rfl
theorem q2655 : (Jvm.Cond.instanceMethod ({ cls := "CavePearls", name := "stone", desc := "(II)I" } : Jvm.MethodName)) ∈ lw_all := lw_g (lw_at lw_m11 149 rfl) rfl
theorem q2656 : (Jvm.Cond.selects "CavePearls" ({ cls := "CavePearls", name := "stone", desc := "(II)I" } : Jvm.MethodName) ({ cls := "CavePearls", name := "stone", desc := "(II)I" } : Jvm.MethodName)) ∈ lw_all := lw_g (lw_at lw_m11 150 rfl) rfl
theorem q2657 : (Jvm.Cond.code ({ cls := "CavePearls", name := "stone", desc := "(II)I" } : Jvm.MethodName) prog_1_method_19_code (4 : Nat) (Option.some Jvm.ClassFile.FieldType.int)) ∈ lw_all := lw_g (lw_at lw_m11 151 rfl) rfl
theorem q2658 : (Jvm.Cond.methodLink "CavePearls" (202 : Nat) ({ cls := "CavePearls", name := "checkIndex", desc := "(II)V" } : Jvm.MethodName)) ∈ lw_all := lw_g (lw_at lw_m11 152 rfl) rfl
theorem q2663 : (Jvm.Cond.instanceMethod ({ cls := "CavePearls", name := "nextStone", desc := "()I" } : Jvm.MethodName)) ∈ lw_all := lw_g (lw_at lw_m11 157 rfl) rfl
theorem q2664 : (Jvm.Cond.selects "CavePearls" ({ cls := "CavePearls", name := "nextStone", desc := "()I" } : Jvm.MethodName) ({ cls := "CavePearls", name := "nextStone", desc := "()I" } : Jvm.MethodName)) ∈ lw_all := lw_g (lw_at lw_m11 158 rfl) rfl
theorem q2665 : (Jvm.Cond.code ({ cls := "CavePearls", name := "nextStone", desc := "()I" } : Jvm.MethodName) prog_1_method_20_code (3 : Nat) (Option.some Jvm.ClassFile.FieldType.int)) ∈ lw_all := lw_g (lw_at lw_m11 159 rfl) rfl
theorem q2666 : (Jvm.Cond.methodLink "CavePearls" (217 : Nat) ({ cls := "java/util/ArrayList", name := "isEmpty", desc := "()Z" } : Jvm.MethodName)) ∈ lw_all := lw_g (lw_at lw_m11 160 rfl) rfl
theorem q2670 : (Jvm.Cond.classLink "CavePearls" (220 : Nat) "java/util/PriorityQueue") ∈ lw_all := lw_g (lw_at lw_m11 164 rfl) rfl
theorem q2671 : (Jvm.Cond.classLink "CavePearls" (222 : Nat) "CavePearls$ByMinute") ∈ lw_all := lw_g (lw_at lw_m11 165 rfl) rfl
theorem q2673 : (Jvm.Cond.methodLinkNest "CavePearls" (224 : Nat) ({ cls := "CavePearls$ByMinute", name := "<init>", desc := "()V" } : Jvm.MethodName) "CavePearls") ∈ lw_tbl := lw_at lw_m11 167 rfl
theorem q2678 : (Jvm.Cond.methodLink "CavePearls" (225 : Nat) ({ cls := "java/util/PriorityQueue", name := "<init>", desc := "(Ljava/util/Comparator;)V" } : Jvm.MethodName)) ∈ lw_all := lw_g (lw_at lw_m11 172 rfl) rfl
theorem q2707 : (Jvm.Cond.methodLink "CavePearls" (228 : Nat) ({ cls := "java/util/PriorityQueue", name := "addAll", desc := "(Ljava/util/Collection;)Z" } : Jvm.MethodName)) ∈ lw_all := lw_g (lw_at lw_m11 201 rfl) rfl
theorem q2738 : (Jvm.Cond.methodLink "CavePearls" (232 : Nat) ({ cls := "java/util/PriorityQueue", name := "poll", desc := "()Ljava/lang/Object;" } : Jvm.MethodName)) ∈ lw_all := lw_g (lw_at lw_m11 232 rfl) rfl
theorem q2746 : (Jvm.Cond.instanceMethod ({ cls := "CavePearls", name := "enter", desc := "(II)I" } : Jvm.MethodName)) ∈ lw_all := lw_g (lw_at lw_m12 0 rfl) rfl
theorem q2747 : (Jvm.Cond.selects "CavePearls" ({ cls := "CavePearls", name := "enter", desc := "(II)I" } : Jvm.MethodName) ({ cls := "CavePearls", name := "enter", desc := "(II)I" } : Jvm.MethodName)) ∈ lw_all := lw_g (lw_at lw_m12 1 rfl) rfl
theorem q2748 : (Jvm.Cond.code ({ cls := "CavePearls", name := "enter", desc := "(II)I" } : Jvm.MethodName) prog_1_method_21_code (3 : Nat) (Option.some Jvm.ClassFile.FieldType.int)) ∈ lw_all := lw_g (lw_at lw_m12 2 rfl) rfl
theorem q2749 : (Jvm.Cond.methodLink "CavePearls" (238 : Nat) ({ cls := "CavePearls$Deed", name := "entering", desc := "(II)LCavePearls$Deed;" } : Jvm.MethodName)) ∈ lw_all := lw_g (lw_at lw_m12 3 rfl) rfl
theorem q2769 : (Jvm.Cond.instanceMethod ({ cls := "CavePearls", name := "sendOut", desc := "(I)I" } : Jvm.MethodName)) ∈ lw_all := lw_g (lw_at lw_m12 23 rfl) rfl
theorem q2770 : (Jvm.Cond.selects "CavePearls" ({ cls := "CavePearls", name := "sendOut", desc := "(I)I" } : Jvm.MethodName) ({ cls := "CavePearls", name := "sendOut", desc := "(I)I" } : Jvm.MethodName)) ∈ lw_all := lw_g (lw_at lw_m12 24 rfl) rfl
theorem q2771 : (Jvm.Cond.code ({ cls := "CavePearls", name := "sendOut", desc := "(I)I" } : Jvm.MethodName) prog_1_method_22_code (2 : Nat) (Option.some Jvm.ClassFile.FieldType.int)) ∈ lw_all := lw_g (lw_at lw_m12 25 rfl) rfl
theorem q2772 : (Jvm.Cond.classLink "CavePearls" (242 : Nat) "CavePearls$5") ∈ lw_all := lw_g (lw_at lw_m12 26 rfl) rfl
theorem q2774 : (Jvm.Cond.methodLink "CavePearls" (244 : Nat) ({ cls := "CavePearls$5", name := "<init>", desc := "(LCavePearls;I)V" } : Jvm.MethodName)) ∈ lw_all := lw_g (lw_at lw_m12 28 rfl) rfl
theorem q2789 : (Jvm.Cond.instanceMethod ({ cls := "CavePearls", name := "group", desc := "(IZ)I" } : Jvm.MethodName)) ∈ lw_all := lw_g (lw_at lw_m12 43 rfl) rfl
theorem q2790 : (Jvm.Cond.selects "CavePearls" ({ cls := "CavePearls", name := "group", desc := "(IZ)I" } : Jvm.MethodName) ({ cls := "CavePearls", name := "group", desc := "(IZ)I" } : Jvm.MethodName)) ∈ lw_all := lw_g (lw_at lw_m12 44 rfl) rfl
theorem q2791 : (Jvm.Cond.code ({ cls := "CavePearls", name := "group", desc := "(IZ)I" } : Jvm.MethodName) prog_1_method_23_code (4 : Nat) (Option.some Jvm.ClassFile.FieldType.int)) ∈ lw_all := lw_g (lw_at lw_m12 45 rfl) rfl
theorem q2792 : (Jvm.Cond.methodLink "CavePearls" (249 : Nat) ({ cls := "java/util/LinkedList", name := "size", desc := "()I" } : Jvm.MethodName)) ∈ lw_all := lw_g (lw_at lw_m12 46 rfl) rfl
theorem q2793 : (Jvm.Cond.methodLink "CavePearls" (252 : Nat) ({ cls := "java/util/LinkedList", name := "get", desc := "(I)Ljava/lang/Object;" } : Jvm.MethodName)) ∈ lw_all := lw_g (lw_at lw_m12 47 rfl) rfl
theorem q2794 : (Jvm.Cond.classLink "CavePearls" (253 : Nat) "CavePearls$Group") ∈ lw_all := lw_g (lw_at lw_m12 48 rfl) rfl
theorem q2799 : (Jvm.Cond.instanceMethod ({ cls := "CavePearls", name := "addLamp", desc := "(I)I" } : Jvm.MethodName)) ∈ lw_all := lw_g (lw_at lw_m12 53 rfl) rfl
theorem q2800 : (Jvm.Cond.selects "CavePearls" ({ cls := "CavePearls", name := "addLamp", desc := "(I)I" } : Jvm.MethodName) ({ cls := "CavePearls", name := "addLamp", desc := "(I)I" } : Jvm.MethodName)) ∈ lw_all := lw_g (lw_at lw_m12 54 rfl) rfl
theorem q2801 : (Jvm.Cond.code ({ cls := "CavePearls", name := "addLamp", desc := "(I)I" } : Jvm.MethodName) prog_1_method_24_code (2 : Nat) (Option.some Jvm.ClassFile.FieldType.int)) ∈ lw_all := lw_g (lw_at lw_m12 55 rfl) rfl
theorem q2802 : (Jvm.Cond.classLink "CavePearls" (261 : Nat) "CavePearls$6") ∈ lw_all := lw_g (lw_at lw_m12 56 rfl) rfl
theorem q2804 : (Jvm.Cond.methodLink "CavePearls" (263 : Nat) ({ cls := "CavePearls$6", name := "<init>", desc := "(LCavePearls;I)V" } : Jvm.MethodName)) ∈ lw_all := lw_g (lw_at lw_m12 58 rfl) rfl
theorem q2819 : (Jvm.Cond.instanceMethod ({ cls := "CavePearls", name := "switchOn", desc := "(II)I" } : Jvm.MethodName)) ∈ lw_all := lw_g (lw_at lw_m12 73 rfl) rfl
theorem q2820 : (Jvm.Cond.selects "CavePearls" ({ cls := "CavePearls", name := "switchOn", desc := "(II)I" } : Jvm.MethodName) ({ cls := "CavePearls", name := "switchOn", desc := "(II)I" } : Jvm.MethodName)) ∈ lw_all := lw_g (lw_at lw_m12 74 rfl) rfl
theorem q2821 : (Jvm.Cond.code ({ cls := "CavePearls", name := "switchOn", desc := "(II)I" } : Jvm.MethodName) prog_1_method_25_code (3 : Nat) (Option.some Jvm.ClassFile.FieldType.int)) ∈ lw_all := lw_g (lw_at lw_m12 75 rfl) rfl
theorem q2822 : (Jvm.Cond.methodLink "CavePearls" (264 : Nat) ({ cls := "CavePearls$Deed", name := "lighting", desc := "(II)LCavePearls$Deed;" } : Jvm.MethodName)) ∈ lw_all := lw_g (lw_at lw_m12 76 rfl) rfl
theorem q2842 : (Jvm.Cond.instanceMethod ({ cls := "CavePearls", name := "switchOff", desc := "(I)I" } : Jvm.MethodName)) ∈ lw_all := lw_g (lw_at lw_m12 96 rfl) rfl
theorem q2843 : (Jvm.Cond.selects "CavePearls" ({ cls := "CavePearls", name := "switchOff", desc := "(I)I" } : Jvm.MethodName) ({ cls := "CavePearls", name := "switchOff", desc := "(I)I" } : Jvm.MethodName)) ∈ lw_all := lw_g (lw_at lw_m12 97 rfl) rfl
theorem q2844 : (Jvm.Cond.code ({ cls := "CavePearls", name := "switchOff", desc := "(I)I" } : Jvm.MethodName) prog_1_method_26_code (2 : Nat) (Option.some Jvm.ClassFile.FieldType.int)) ∈ lw_all := lw_g (lw_at lw_m12 98 rfl) rfl
theorem q2845 : (Jvm.Cond.methodLink "CavePearls" (267 : Nat) ({ cls := "CavePearls$Deed", name := "darkening", desc := "(I)LCavePearls$Deed;" } : Jvm.MethodName)) ∈ lw_all := lw_g (lw_at lw_m12 99 rfl) rfl
theorem q2862 : (Jvm.Cond.instanceMethod ({ cls := "CavePearls", name := "lamp", desc := "(IZ)I" } : Jvm.MethodName)) ∈ lw_all := lw_g (lw_at lw_m12 116 rfl) rfl
theorem q2863 : (Jvm.Cond.selects "CavePearls" ({ cls := "CavePearls", name := "lamp", desc := "(IZ)I" } : Jvm.MethodName) ({ cls := "CavePearls", name := "lamp", desc := "(IZ)I" } : Jvm.MethodName)) ∈ lw_all := lw_g (lw_at lw_m12 117 rfl) rfl
theorem q2864 : (Jvm.Cond.code ({ cls := "CavePearls", name := "lamp", desc := "(IZ)I" } : Jvm.MethodName) prog_1_method_27_code (4 : Nat) (Option.some Jvm.ClassFile.FieldType.int)) ∈ lw_all := lw_g (lw_at lw_m12 118 rfl) rfl
theorem q2865 : (Jvm.Cond.methodLink "CavePearls" (271 : Nat) ({ cls := "CavePearls$World", name := "lamp", desc := "(I)LCavePearls$Lamp;" } : Jvm.MethodName)) ∈ lw_all := lw_g (lw_at lw_m12 119 rfl) rfl
theorem q2870 : (Jvm.Cond.instanceMethod ({ cls := "CavePearls", name := "setDraught", desc := "(I)I" } : Jvm.MethodName)) ∈ lw_all := lw_g (lw_at lw_m12 124 rfl) rfl
theorem q2871 : (Jvm.Cond.selects "CavePearls" ({ cls := "CavePearls", name := "setDraught", desc := "(I)I" } : Jvm.MethodName) ({ cls := "CavePearls", name := "setDraught", desc := "(I)I" } : Jvm.MethodName)) ∈ lw_all := lw_g (lw_at lw_m12 125 rfl) rfl
theorem q2872 : (Jvm.Cond.code ({ cls := "CavePearls", name := "setDraught", desc := "(I)I" } : Jvm.MethodName) prog_1_method_28_code (2 : Nat) (Option.some Jvm.ClassFile.FieldType.int)) ∈ lw_all := lw_g (lw_at lw_m12 126 rfl) rfl
theorem q2873 : (Jvm.Cond.methodLink "CavePearls" (281 : Nat) ({ cls := "CavePearls$Deed", name := "setting", desc := "(I)LCavePearls$Deed;" } : Jvm.MethodName)) ∈ lw_all := lw_g (lw_at lw_m12 127 rfl) rfl
theorem q2890 : (Jvm.Cond.instanceMethod ({ cls := "CavePearls", name := "sweep", desc := "()I" } : Jvm.MethodName)) ∈ lw_all := lw_g (lw_at lw_m12 144 rfl) rfl
theorem q2891 : (Jvm.Cond.selects "CavePearls" ({ cls := "CavePearls", name := "sweep", desc := "()I" } : Jvm.MethodName) ({ cls := "CavePearls", name := "sweep", desc := "()I" } : Jvm.MethodName)) ∈ lw_all := lw_g (lw_at lw_m12 145 rfl) rfl
theorem q2892 : (Jvm.Cond.code ({ cls := "CavePearls", name := "sweep", desc := "()I" } : Jvm.MethodName) prog_1_method_29_code (1 : Nat) (Option.some Jvm.ClassFile.FieldType.int)) ∈ lw_all := lw_g (lw_at lw_m12 146 rfl) rfl
theorem q2893 : (Jvm.Cond.methodLink "CavePearls" (284 : Nat) ({ cls := "CavePearls$Deed", name := "sweeping", desc := "()LCavePearls$Deed;" } : Jvm.MethodName)) ∈ lw_all := lw_g (lw_at lw_m12 147 rfl) rfl
theorem q2907 : (Jvm.Cond.instanceMethod ({ cls := "CavePearls", name := "pass", desc := "(I)I" } : Jvm.MethodName)) ∈ lw_all := lw_g (lw_at lw_m12 161 rfl) rfl
theorem q2908 : (Jvm.Cond.selects "CavePearls" ({ cls := "CavePearls", name := "pass", desc := "(I)I" } : Jvm.MethodName) ({ cls := "CavePearls", name := "pass", desc := "(I)I" } : Jvm.MethodName)) ∈ lw_all := lw_g (lw_at lw_m12 162 rfl) rfl
theorem q2909 : (Jvm.Cond.code ({ cls := "CavePearls", name := "pass", desc := "(I)I" } : Jvm.MethodName) prog_1_method_30_code (2 : Nat) (Option.some Jvm.ClassFile.FieldType.int)) ∈ lw_all := lw_g (lw_at lw_m12 163 rfl) rfl
theorem q2910 : (Jvm.Cond.methodLink "CavePearls" (288 : Nat) ({ cls := "CavePearls$Deed", name := "passing", desc := "(I)LCavePearls$Deed;" } : Jvm.MethodName)) ∈ lw_all := lw_g (lw_at lw_m12 164 rfl) rfl
theorem q2927 : (Jvm.Cond.instanceMethod ({ cls := "CavePearls", name := "fullIn", desc := "(I)I" } : Jvm.MethodName)) ∈ lw_all := lw_g (lw_at lw_m12 181 rfl) rfl
theorem q2928 : (Jvm.Cond.selects "CavePearls" ({ cls := "CavePearls", name := "fullIn", desc := "(I)I" } : Jvm.MethodName) ({ cls := "CavePearls", name := "fullIn", desc := "(I)I" } : Jvm.MethodName)) ∈ lw_all := lw_g (lw_at lw_m12 182 rfl) rfl
theorem q2929 : (Jvm.Cond.code ({ cls := "CavePearls", name := "fullIn", desc := "(I)I" } : Jvm.MethodName) prog_1_method_31_code (4 : Nat) (Option.some Jvm.ClassFile.FieldType.int)) ∈ lw_all := lw_g (lw_at lw_m12 183 rfl) rfl
theorem q2930 : (Jvm.Cond.classLink "CavePearls" (291 : Nat) "CavePearls$7") ∈ lw_all := lw_g (lw_at lw_m12 184 rfl) rfl
theorem q2932 : (Jvm.Cond.methodLink "CavePearls" (293 : Nat) ({ cls := "CavePearls$7", name := "<init>", desc := "(LCavePearls;I)V" } : Jvm.MethodName)) ∈ lw_all := lw_g (lw_at lw_m12 186 rfl) rfl
theorem q2946 : (Jvm.Cond.methodLink "CavePearls" (294 : Nat) ({ cls := "CavePearls$Waiting", name := "minutes", desc := "(LCavePearls$World;)I" } : Jvm.MethodName)) ∈ lw_all := lw_g (lw_at lw_m12 200 rfl) rfl
theorem q2970 : (Jvm.Cond.instanceMethod ({ cls := "CavePearls", name := "sizeIn", desc := "(III)I" } : Jvm.MethodName)) ∈ lw_all := lw_g (lw_at lw_m12 224 rfl) rfl
theorem q2971 : (Jvm.Cond.selects "CavePearls" ({ cls := "CavePearls", name := "sizeIn", desc := "(III)I" } : Jvm.MethodName) ({ cls := "CavePearls", name := "sizeIn", desc := "(III)I" } : Jvm.MethodName)) ∈ lw_all := lw_g (lw_at lw_m12 225 rfl) rfl
theorem q2972 : (Jvm.Cond.code ({ cls := "CavePearls", name := "sizeIn", desc := "(III)I" } : Jvm.MethodName) prog_1_method_32_code (7 : Nat) (Option.some Jvm.ClassFile.FieldType.int)) ∈ lw_all := lw_g (lw_at lw_m12 226 rfl) rfl
theorem q2973 : (Jvm.Cond.methodLink "CavePearls" (298 : Nat) ({ cls := "CavePearls$World", name := "goMinute", desc := "()V" } : Jvm.MethodName)) ∈ lw_all := lw_g (lw_at lw_m12 227 rfl) rfl
theorem q2978 : (Jvm.Cond.instanceMethod ({ cls := "CavePearls", name := "clearIn", desc := "(I)I" } : Jvm.MethodName)) ∈ lw_all := lw_g (lw_at lw_m12 232 rfl) rfl
theorem q2979 : (Jvm.Cond.selects "CavePearls" ({ cls := "CavePearls", name := "clearIn", desc := "(I)I" } : Jvm.MethodName) ({ cls := "CavePearls", name := "clearIn", desc := "(I)I" } : Jvm.MethodName)) ∈ lw_all := lw_g (lw_at lw_m12 233 rfl) rfl
theorem q2980 : (Jvm.Cond.code ({ cls := "CavePearls", name := "clearIn", desc := "(I)I" } : Jvm.MethodName) prog_1_method_33_code (2 : Nat) (Option.some Jvm.ClassFile.FieldType.int)) ∈ lw_all := lw_g (lw_at lw_m12 234 rfl) rfl
theorem q2981 : (Jvm.Cond.classLink "CavePearls" (301 : Nat) "CavePearls$1Clearing") ∈ lw_all := lw_g (lw_at lw_m12 235 rfl) rfl
theorem q2983 : (Jvm.Cond.methodLink "CavePearls" (303 : Nat) ({ cls := "CavePearls$1Clearing", name := "<init>", desc := "(LCavePearls;I)V" } : Jvm.MethodName)) ∈ lw_all := lw_g (lw_at lw_m12 237 rfl) rfl
theorem q2994 : (Jvm.Cond.methodLink "CavePearls" (304 : Nat) ({ cls := "CavePearls$1Clearing", name := "minutes", desc := "(LCavePearls$World;)I" } : Jvm.MethodName)) ∈ lw_all := lw_g (lw_at lw_m13 8 rfl) rfl
theorem q3002 : (Jvm.Cond.instanceMethod ({ cls := "CavePearls", name := "leastDraught", desc := "()I" } : Jvm.MethodName)) ∈ lw_all := lw_g (lw_at lw_m13 16 rfl) rfl
theorem q3003 : (Jvm.Cond.selects "CavePearls" ({ cls := "CavePearls", name := "leastDraught", desc := "()I" } : Jvm.MethodName) ({ cls := "CavePearls", name := "leastDraught", desc := "()I" } : Jvm.MethodName)) ∈ lw_all := lw_g (lw_at lw_m13 17 rfl) rfl
theorem q3004 : (Jvm.Cond.code ({ cls := "CavePearls", name := "leastDraught", desc := "()I" } : Jvm.MethodName) prog_1_method_35_code (2 : Nat) (Option.some Jvm.ClassFile.FieldType.int)) ∈ lw_all := lw_g (lw_at lw_m13 18 rfl) rfl
theorem q3005 : (Jvm.Cond.methodLink "CavePearls" (311 : Nat) ({ cls := "CavePearls", name := "isGoodBy", desc := "(I)Z" } : Jvm.MethodName)) ∈ lw_all := lw_g (lw_at lw_m13 19 rfl) rfl
theorem q3006 : (Jvm.Cond.privateMethod ({ cls := "CavePearls", name := "isGoodBy", desc := "(I)Z" } : Jvm.MethodName)) ∈ lw_tbl := lw_at lw_m13 20 rfl
theorem q3007 : (Jvm.Cond.instanceMethod ({ cls := "CavePearls", name := "isGoodBy", desc := "(I)Z" } : Jvm.MethodName)) ∈ lw_all := lw_g (lw_at lw_m13 21 rfl) rfl
theorem q3008 : (Jvm.Cond.code ({ cls := "CavePearls", name := "isGoodBy", desc := "(I)Z" } : Jvm.MethodName) prog_1_method_34_code (5 : Nat) (Option.some Jvm.ClassFile.FieldType.boolean)) ∈ lw_all := lw_g (lw_at lw_m13 22 rfl) rfl
theorem q3013 : (Jvm.Cond.instanceMethod ({ cls := "CavePearls", name := "line", desc := "(I)I" } : Jvm.MethodName)) ∈ lw_all := lw_g (lw_at lw_m13 27 rfl) rfl
theorem q3014 : (Jvm.Cond.selects "CavePearls" ({ cls := "CavePearls", name := "line", desc := "(I)I" } : Jvm.MethodName) ({ cls := "CavePearls", name := "line", desc := "(I)I" } : Jvm.MethodName)) ∈ lw_all := lw_g (lw_at lw_m13 28 rfl) rfl
theorem q3015 : (Jvm.Cond.code ({ cls := "CavePearls", name := "line", desc := "(I)I" } : Jvm.MethodName) prog_1_method_36_code (8 : Nat) (Option.some Jvm.ClassFile.FieldType.int)) ∈ lw_all := lw_g (lw_at lw_m13 29 rfl) rfl
theorem q3016 : (Jvm.Cond.methodLink "CavePearls" (315 : Nat) ({ cls := "java/lang/StringBuilder", name := "setLength", desc := "(I)V" } : Jvm.MethodName)) ∈ lw_all := lw_g (lw_at lw_m13 30 rfl) rfl
theorem q3068 : (Jvm.Cond.methodLink "CavePearls" (319 : Nat) ({ cls := "java/lang/StringBuilder", name := "append", desc := "(I)Ljava/lang/StringBuilder;" } : Jvm.MethodName)) ∈ lw_all := lw_g (lw_at lw_m13 82 rfl) rfl
theorem q3069 : (Jvm.Cond.methodLink "CavePearls" (323 : Nat) ({ cls := "java/lang/StringBuilder", name := "append", desc := "(C)Ljava/lang/StringBuilder;" } : Jvm.MethodName)) ∈ lw_all := lw_g (lw_at lw_m13 83 rfl) rfl
theorem q3089 : (Jvm.Cond.methodLink "CavePearls" (326 : Nat) ({ cls := "CavePearls$Pool", name := "smallest", desc := "()I" } : Jvm.MethodName)) ∈ lw_all := lw_g (lw_at lw_m13 103 rfl) rfl
theorem q3090 : (Jvm.Cond.methodLink "CavePearls" (329 : Nat) ({ cls := "CavePearls$Pearl", name := "change", desc := "(Z)I" } : Jvm.MethodName)) ∈ lw_all := lw_g (lw_at lw_m13 104 rfl) rfl
theorem q3091 : (Jvm.Cond.methodLink "CavePearls" (332 : Nat) ({ cls := "java/lang/StringBuilder", name := "length", desc := "()I" } : Jvm.MethodName)) ∈ lw_all := lw_g (lw_at lw_m13 105 rfl) rfl
theorem q3096 : (Jvm.Cond.instanceMethod ({ cls := "CavePearls", name := "character", desc := "(I)C" } : Jvm.MethodName)) ∈ lw_all := lw_g (lw_at lw_m13 110 rfl) rfl
theorem q3097 : (Jvm.Cond.selects "CavePearls" ({ cls := "CavePearls", name := "character", desc := "(I)C" } : Jvm.MethodName) ({ cls := "CavePearls", name := "character", desc := "(I)C" } : Jvm.MethodName)) ∈ lw_all := lw_g (lw_at lw_m13 111 rfl) rfl
theorem q3098 : (Jvm.Cond.code ({ cls := "CavePearls", name := "character", desc := "(I)C" } : Jvm.MethodName) prog_1_method_37_code (2 : Nat) (Option.some Jvm.ClassFile.FieldType.char)) ∈ lw_all := lw_g (lw_at lw_m13 112 rfl) rfl
theorem q3099 : (Jvm.Cond.methodLink "CavePearls" (335 : Nat) ({ cls := "java/lang/StringBuilder", name := "charAt", desc := "(I)C" } : Jvm.MethodName)) ∈ lw_all := lw_g (lw_at lw_m13 113 rfl) rfl
theorem q3127 : (Jvm.Cond.instanceMethod ({ cls := "CavePearls", name := "meanSize", desc := "()D" } : Jvm.MethodName)) ∈ lw_all := lw_g (lw_at lw_m13 141 rfl) rfl
theorem q3128 : (Jvm.Cond.selects "CavePearls" ({ cls := "CavePearls", name := "meanSize", desc := "()D" } : Jvm.MethodName) ({ cls := "CavePearls", name := "meanSize", desc := "()D" } : Jvm.MethodName)) ∈ lw_all := lw_g (lw_at lw_m13 142 rfl) rfl
theorem q3129 : (Jvm.Cond.code ({ cls := "CavePearls", name := "meanSize", desc := "()D" } : Jvm.MethodName) prog_1_method_41_code (1 : Nat) (Option.some Jvm.ClassFile.FieldType.double)) ∈ lw_all := lw_g (lw_at lw_m13 143 rfl) rfl
theorem q3130 : (Jvm.Cond.classLink "CavePearls" (365 : Nat) "java/lang/ArithmeticException") ∈ lw_all := lw_g (lw_at lw_m13 144 rfl) rfl
theorem q3131 : (Jvm.Cond.methodLink "CavePearls" (367 : Nat) ({ cls := "java/lang/ArithmeticException", name := "<init>", desc := "()V" } : Jvm.MethodName)) ∈ lw_all := lw_g (lw_at lw_m13 145 rfl) rfl
theorem q3139 : (Jvm.Cond.instanceMethod ({ cls := "CavePearls", name := "growthShare", desc := "()F" } : Jvm.MethodName)) ∈ lw_all := lw_g (lw_at lw_m13 153 rfl) rfl
theorem q3140 : (Jvm.Cond.selects "CavePearls" ({ cls := "CavePearls", name := "growthShare", desc := "()F" } : Jvm.MethodName) ({ cls := "CavePearls", name := "growthShare", desc := "()F" } : Jvm.MethodName)) ∈ lw_all := lw_g (lw_at lw_m13 154 rfl) rfl
theorem q3141 : (Jvm.Cond.code ({ cls := "CavePearls", name := "growthShare", desc := "()F" } : Jvm.MethodName) prog_1_method_42_code (1 : Nat) (Option.some Jvm.ClassFile.FieldType.float)) ∈ lw_all := lw_g (lw_at lw_m13 155 rfl) rfl
theorem q3146 : (Jvm.Cond.instanceMethod ({ cls := "CavePearls", name := "reason", desc := "(Z)I" } : Jvm.MethodName)) ∈ lw_all := lw_g (lw_at lw_m13 160 rfl) rfl
theorem q3147 : (Jvm.Cond.selects "CavePearls" ({ cls := "CavePearls", name := "reason", desc := "(Z)I" } : Jvm.MethodName) ({ cls := "CavePearls", name := "reason", desc := "(Z)I" } : Jvm.MethodName)) ∈ lw_all := lw_g (lw_at lw_m13 161 rfl) rfl
theorem q3148 : (Jvm.Cond.code ({ cls := "CavePearls", name := "reason", desc := "(Z)I" } : Jvm.MethodName) prog_1_method_43_code (2 : Nat) (Option.some Jvm.ClassFile.FieldType.int)) ∈ lw_all := lw_g (lw_at lw_m13 162 rfl) rfl
theorem q3153 : (Jvm.Cond.instanceMethod ({ cls := "CavePearls", name := "account", desc := "(I)I" } : Jvm.MethodName)) ∈ lw_all := lw_g (lw_at lw_m13 167 rfl) rfl
theorem q3154 : (Jvm.Cond.selects "CavePearls" ({ cls := "CavePearls", name := "account", desc := "(I)I" } : Jvm.MethodName) ({ cls := "CavePearls", name := "account", desc := "(I)I" } : Jvm.MethodName)) ∈ lw_all := lw_g (lw_at lw_m13 168 rfl) rfl
theorem q3155 : (Jvm.Cond.code ({ cls := "CavePearls", name := "account", desc := "(I)I" } : Jvm.MethodName) prog_1_method_44_code (2 : Nat) (Option.some Jvm.ClassFile.FieldType.int)) ∈ lw_all := lw_g (lw_at lw_m13 169 rfl) rfl
theorem q3156 : (Jvm.Cond.methodLink "CavePearls" (377 : Nat) ({ cls := "CavePearls$World", name := "persons", desc := "()I" } : Jvm.MethodName)) ∈ lw_all := lw_g (lw_at lw_m13 170 rfl) rfl
theorem q3162 : (Jvm.Cond.instanceMethod ({ cls := "CavePearls", name := "feed", desc := "(C)I" } : Jvm.MethodName)) ∈ lw_all := lw_g (lw_at lw_m13 176 rfl) rfl
theorem q3163 : (Jvm.Cond.selects "CavePearls" ({ cls := "CavePearls", name := "feed", desc := "(C)I" } : Jvm.MethodName) ({ cls := "CavePearls", name := "feed", desc := "(C)I" } : Jvm.MethodName)) ∈ lw_all := lw_g (lw_at lw_m13 177 rfl) rfl
theorem q3164 : (Jvm.Cond.code ({ cls := "CavePearls", name := "feed", desc := "(C)I" } : Jvm.MethodName) prog_1_method_45_code (2 : Nat) (Option.some Jvm.ClassFile.FieldType.int)) ∈ lw_all := lw_g (lw_at lw_m13 178 rfl) rfl
theorem q3165 : (Jvm.Cond.methodLink "CavePearls" (385 : Nat) ({ cls := "CavePearls", name := "checkState", desc := "(Z)V" } : Jvm.MethodName)) ∈ lw_all := lw_g (lw_at lw_m13 179 rfl) rfl
theorem q3166 : (Jvm.Cond.static ({ cls := "CavePearls", name := "checkState", desc := "(Z)V" } : Jvm.MethodName)) ∈ lw_all := lw_g (lw_at lw_m13 180 rfl) rfl
theorem q3167 : (Jvm.Cond.code ({ cls := "CavePearls", name := "checkState", desc := "(Z)V" } : Jvm.MethodName) prog_1_method_4_code (1 : Nat) (Option.none : Option Jvm.ClassFile.FieldType)) ∈ lw_all := lw_g (lw_at lw_m13 181 rfl) rfl
theorem q3168 : (Jvm.Cond.classLink "CavePearls" (7 : Nat) "java/lang/IllegalStateException") ∈ lw_all := lw_g (lw_at lw_m13 182 rfl) rfl
theorem q3169 : (Jvm.Cond.methodLink "CavePearls" (9 : Nat) ({ cls := "java/lang/IllegalStateException", name := "<init>", desc := "()V" } : Jvm.MethodName)) ∈ lw_all := lw_g (lw_at lw_m13 183 rfl) rfl
theorem q3174 : (Jvm.Cond.instanceMethod ({ cls := "CavePearls", name := "perform", desc := "()I" } : Jvm.MethodName)) ∈ lw_all := lw_g (lw_at lw_m13 188 rfl) rfl
theorem q3175 : (Jvm.Cond.selects "CavePearls" ({ cls := "CavePearls", name := "perform", desc := "()I" } : Jvm.MethodName) ({ cls := "CavePearls", name := "perform", desc := "()I" } : Jvm.MethodName)) ∈ lw_all := lw_g (lw_at lw_m13 189 rfl) rfl
theorem q3176 : (Jvm.Cond.codeWith ({ cls := "CavePearls", name := "perform", desc := "()I" } : Jvm.MethodName) prog_1_method_48_code (4 : Nat) (Option.some Jvm.ClassFile.FieldType.int) [((0 : Nat), (16 : Nat), (23 : Nat), (413 : Nat)), ((0 : Nat), (16 : Nat), (39 : Nat), (0 : Nat)), ((23 : Nat), (32 : Nat), (39 : Nat), (0 : Nat))]) ∈ lw_all := lw_g (lw_at lw_m13 190 rfl) rfl
theorem q3177 : (Jvm.Cond.classLink "CavePearls" (413 : Nat) "CavePearls$TextException") ∈ lw_all := lw_g (lw_at lw_m13 191 rfl) rfl
theorem q3178 : (Jvm.Cond.classLink "CavePearls" (401 : Nat) "CavePearls$Reader") ∈ lw_all := lw_g (lw_at lw_m13 192 rfl) rfl
theorem q3180 : (Jvm.Cond.methodLinkNest "CavePearls" (403 : Nat) ({ cls := "CavePearls$Reader", name := "<init>", desc := "(LCavePearls;)V" } : Jvm.MethodName) "CavePearls") ∈ lw_tbl := lw_at lw_m13 194 rfl
theorem q3250 : (Jvm.Cond.methodLink "CavePearls" (406 : Nat) ({ cls := "CavePearls$Reader", name := "all", desc := "()Ljava/util/LinkedList;" } : Jvm.MethodName)) ∈ lw_all := lw_g (lw_at lw_m14 24 rfl) rfl
theorem q3288 : (Jvm.Cond.fieldLinkNest "CavePearls" (415 : Nat) "CavePearls$TextException" "position" "I" "CavePearls") ∈ lw_tbl := lw_at lw_m14 62 rfl
theorem q3312 : (Jvm.Cond.static ({ cls := "CavePearls", name := "begins", desc := "(Ljava/lang/String;Ljava/lang/CharSequence;)Z" } : Jvm.MethodName)) ∈ lw_all := lw_g (lw_at lw_m14 86 rfl) rfl
theorem q3313 : (Jvm.Cond.code ({ cls := "CavePearls", name := "begins", desc := "(Ljava/lang/String;Ljava/lang/CharSequence;)Z" } : Jvm.MethodName) prog_1_method_46_code (4 : Nat) (Option.some Jvm.ClassFile.FieldType.boolean)) ∈ lw_all := lw_g (lw_at lw_m14 87 rfl) rfl
theorem q3314 : (Jvm.Cond.interfaceEntry "CavePearls" (388 : Nat)) ∈ lw_tbl := lw_at lw_m14 88 rfl
theorem q3315 : (Jvm.Cond.methodLink "CavePearls" (388 : Nat) ({ cls := "java/lang/CharSequence", name := "length", desc := "()I" } : Jvm.MethodName)) ∈ lw_all := lw_g (lw_at lw_m14 89 rfl) rfl
theorem q3326 : (Jvm.Cond.methodLink "CavePearls" (391 : Nat) ({ cls := "java/lang/String", name := "length", desc := "()I" } : Jvm.MethodName)) ∈ lw_all := lw_g (lw_at lw_m14 100 rfl) rfl
theorem q3327 : (Jvm.Cond.methodLink "CavePearls" (394 : Nat) ({ cls := "java/lang/String", name := "charAt", desc := "(I)C" } : Jvm.MethodName)) ∈ lw_all := lw_g (lw_at lw_m14 101 rfl) rfl
theorem q3342 : (Jvm.Cond.interfaceEntry "CavePearls" (395 : Nat)) ∈ lw_tbl := lw_at lw_m14 116 rfl
theorem q3343 : (Jvm.Cond.methodLink "CavePearls" (395 : Nat) ({ cls := "java/lang/CharSequence", name := "charAt", desc := "(I)C" } : Jvm.MethodName)) ∈ lw_all := lw_g (lw_at lw_m14 117 rfl) rfl
theorem q3453 : (Jvm.Cond.methodLink "CavePearls" (409 : Nat) ({ cls := "CavePearls", name := "carryOutAll", desc := "(Ljava/util/LinkedList;)I" } : Jvm.MethodName)) ∈ lw_all := lw_g (lw_at lw_m14 227 rfl) rfl
theorem q3454 : (Jvm.Cond.privateMethod ({ cls := "CavePearls", name := "carryOutAll", desc := "(Ljava/util/LinkedList;)I" } : Jvm.MethodName)) ∈ lw_tbl := lw_at lw_m14 228 rfl
theorem q3455 : (Jvm.Cond.instanceMethod ({ cls := "CavePearls", name := "carryOutAll", desc := "(Ljava/util/LinkedList;)I" } : Jvm.MethodName)) ∈ lw_all := lw_g (lw_at lw_m14 229 rfl) rfl
theorem q3456 : (Jvm.Cond.code ({ cls := "CavePearls", name := "carryOutAll", desc := "(Ljava/util/LinkedList;)I" } : Jvm.MethodName) prog_1_method_47_code (2 : Nat) (Option.some Jvm.ClassFile.FieldType.int)) ∈ lw_all := lw_g (lw_at lw_m14 230 rfl) rfl
theorem q3457 : (Jvm.Cond.classLink "CavePearls" (396 : Nat) "CavePearls$8") ∈ lw_all := lw_g (lw_at lw_m14 231 rfl) rfl
theorem q3459 : (Jvm.Cond.methodLink "CavePearls" (398 : Nat) ({ cls := "CavePearls$8", name := "<init>", desc := "(LCavePearls;Ljava/util/LinkedList;)V" } : Jvm.MethodName)) ∈ lw_all := lw_g (lw_at lw_m14 233 rfl) rfl
theorem q3474 : (Jvm.Cond.instanceMethod ({ cls := "CavePearls", name := "undo", desc := "()I" } : Jvm.MethodName)) ∈ lw_all := lw_g (lw_at lw_m15 8 rfl) rfl
theorem q3475 : (Jvm.Cond.selects "CavePearls" ({ cls := "CavePearls", name := "undo", desc := "()I" } : Jvm.MethodName) ({ cls := "CavePearls", name := "undo", desc := "()I" } : Jvm.MethodName)) ∈ lw_all := lw_g (lw_at lw_m15 9 rfl) rfl
theorem q3476 : (Jvm.Cond.code ({ cls := "CavePearls", name := "undo", desc := "()I" } : Jvm.MethodName) prog_1_method_49_code (1 : Nat) (Option.some Jvm.ClassFile.FieldType.int)) ∈ lw_all := lw_g (lw_at lw_m15 10 rfl) rfl
theorem q3477 : (Jvm.Cond.methodLink "CavePearls" (418 : Nat) ({ cls := "java/util/ArrayDeque", name := "isEmpty", desc := "()Z" } : Jvm.MethodName)) ∈ lw_all := lw_g (lw_at lw_m15 11 rfl) rfl
theorem q3478 : (Jvm.Cond.methodLink "CavePearls" (419 : Nat) ({ cls := "java/util/ArrayDeque", name := "removeLast", desc := "()Ljava/lang/Object;" } : Jvm.MethodName)) ∈ lw_all := lw_g (lw_at lw_m15 12 rfl) rfl
theorem q3490 : (Jvm.Cond.instanceMethod ({ cls := "CavePearls", name := "restore", desc := "()I" } : Jvm.MethodName)) ∈ lw_all := lw_g (lw_at lw_m15 24 rfl) rfl
theorem q3491 : (Jvm.Cond.selects "CavePearls" ({ cls := "CavePearls", name := "restore", desc := "()I" } : Jvm.MethodName) ({ cls := "CavePearls", name := "restore", desc := "()I" } : Jvm.MethodName)) ∈ lw_all := lw_g (lw_at lw_m15 25 rfl) rfl
theorem q3492 : (Jvm.Cond.code ({ cls := "CavePearls", name := "restore", desc := "()I" } : Jvm.MethodName) prog_1_method_51_code (1 : Nat) (Option.some Jvm.ClassFile.FieldType.int)) ∈ lw_all := lw_g (lw_at lw_m15 26 rfl) rfl
theorem q3493 : (Jvm.Cond.methodLink "CavePearls" (425 : Nat) ({ cls := "java/util/ArrayDeque", name := "clear", desc := "()V" } : Jvm.MethodName)) ∈ lw_all := lw_g (lw_at lw_m15 27 rfl) rfl
theorem q3976 : (Jvm.Cond.castable "CavePearls" "java/lang/Object") ∈ lw_tbl := lw_at lw_m17 30 rfl
theorem in_X1 : ∀ w ∈ wsX10, w ∈ lw_all := lw_in wsX10 [390, 392, 394, 396, 398, 400, 402] (by decide +kernel) (by decide +kernel)

