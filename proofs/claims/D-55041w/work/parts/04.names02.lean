/-! java/lang/AbstractStringBuilder -/
set_option maxRecDepth 100000
def RJ6 : String := "java/lang/AbstractStringBuilder"
abbrev cJ6_init : ByteArray := prog_33_method_2_code
def yJ6_init : MethodName := ⟨RJ6, "<init>", "(I)V"⟩
def dkwJ6_init_1 : List UInt8 := [167, 0, 16, 42, 27, 184, 0, 26, 181, 0, 15, 42, 4, 181, 0, 22, 177]
abbrev dktJ6_init_1 : List UInt8 := dkwJ6_init_1 ++ []
def dkwJ6_init_0 : List UInt8 := [42, 183, 0, 3, 178, 0, 18, 153, 0, 18, 42, 27, 188, 8, 181, 0, 15, 42, 3, 181, 0, 22]
abbrev dktJ6_init_0 : List UInt8 := dkwJ6_init_0 ++ dktJ6_init_1
theorem dksJ6_init_0 : cJ6_init.data.toList.drop 0 = dktJ6_init_0 := by decide +kernel
theorem dksJ6_init_1 : cJ6_init.data.toList.drop 22 = dktJ6_init_1 := dk_seg dksJ6_init_0 22 rfl rfl
theorem dJ6_init_0 : decode cJ6_init 0 = .ok (.aload_n 0, 1) := dk_42 (dk_at dksJ6_init_0 0 rfl rfl)
theorem dJ6_init_1 : decode cJ6_init 1 = .ok (.invokespecial 3, 3) := dk_183 0 3 (dk_at dksJ6_init_0 1 rfl rfl)
theorem dJ6_init_4 : decode cJ6_init 4 = .ok (.getstatic 18, 3) := dk_178 0 18 (dk_at dksJ6_init_0 4 rfl rfl)
theorem dJ6_init_7 : decode cJ6_init 7 = .ok (.ifCond .eq 18, 3) := dk_153 0 18 (dk_at dksJ6_init_0 7 rfl rfl)
theorem dJ6_init_10 : decode cJ6_init 10 = .ok (.aload_n 0, 1) := dk_42 (dk_at dksJ6_init_0 10 rfl rfl)
theorem dJ6_init_11 : decode cJ6_init 11 = .ok (.iload_n 1, 1) := dk_27 (dk_at dksJ6_init_0 11 rfl rfl)
theorem dJ6_init_12 : decode cJ6_init 12 = .ok (.newarray .byte, 2) := dk_188_8 (dk_at dksJ6_init_0 12 rfl rfl)
theorem dJ6_init_14 : decode cJ6_init 14 = .ok (.putfield 15, 3) := dk_181 0 15 (dk_at dksJ6_init_0 14 rfl rfl)
theorem dJ6_init_17 : decode cJ6_init 17 = .ok (.aload_n 0, 1) := dk_42 (dk_at dksJ6_init_0 17 rfl rfl)
theorem dJ6_init_18 : decode cJ6_init 18 = .ok (.iconst 0, 1) := dk_3 (dk_at dksJ6_init_0 18 rfl rfl)
theorem dJ6_init_19 : decode cJ6_init 19 = .ok (.putfield 22, 3) := dk_181 0 22 (dk_at dksJ6_init_0 19 rfl rfl)
theorem dJ6_init_22 : decode cJ6_init 22 = .ok (.goto 16, 3) := dk_167 0 16 (dk_at dksJ6_init_1 0 rfl rfl)
theorem dJ6_init_25 : decode cJ6_init 25 = .ok (.aload_n 0, 1) := dk_42 (dk_at dksJ6_init_1 3 rfl rfl)
theorem dJ6_init_26 : decode cJ6_init 26 = .ok (.iload_n 1, 1) := dk_27 (dk_at dksJ6_init_1 4 rfl rfl)
theorem dJ6_init_27 : decode cJ6_init 27 = .ok (.invokestatic 26, 3) := dk_184 0 26 (dk_at dksJ6_init_1 5 rfl rfl)
theorem dJ6_init_30 : decode cJ6_init 30 = .ok (.putfield 15, 3) := dk_181 0 15 (dk_at dksJ6_init_1 8 rfl rfl)
theorem dJ6_init_33 : decode cJ6_init 33 = .ok (.aload_n 0, 1) := dk_42 (dk_at dksJ6_init_1 11 rfl rfl)
theorem dJ6_init_34 : decode cJ6_init 34 = .ok (.iconst 1, 1) := dk_4 (dk_at dksJ6_init_1 12 rfl rfl)
theorem dJ6_init_35 : decode cJ6_init 35 = .ok (.putfield 22, 3) := dk_181 0 22 (dk_at dksJ6_init_1 13 rfl rfl)
theorem dJ6_init_38 : decode cJ6_init 38 = .ok (.return_, 1) := dk_177 (dk_at dksJ6_init_1 16 rfl rfl)
abbrev cJ6_append : ByteArray := prog_33_method_22_code
def yJ6_append : MethodName := ⟨RJ6, "append", "(Ljava/lang/String;)Ljava/lang/AbstractStringBuilder;"⟩
def dkwJ6_append_1 : List UInt8 := [42, 42, 180, 0, 79, 43, 182, 0, 208, 42, 89, 180, 0, 79, 28, 96, 181, 0, 79, 42, 176]
abbrev dktJ6_append_1 : List UInt8 := dkwJ6_append_1 ++ []
def dkwJ6_append_0 : List UInt8 := [43, 199, 0, 8, 42, 182, 0, 204, 176, 43, 182, 0, 32, 61, 42, 42, 180, 0, 79, 28, 96, 182, 0, 100]
abbrev dktJ6_append_0 : List UInt8 := dkwJ6_append_0 ++ dktJ6_append_1
theorem dksJ6_append_0 : cJ6_append.data.toList.drop 0 = dktJ6_append_0 := by decide +kernel
theorem dksJ6_append_1 : cJ6_append.data.toList.drop 24 = dktJ6_append_1 := dk_seg dksJ6_append_0 24 rfl rfl
theorem dJ6_append_0 : decode cJ6_append 0 = .ok (.aload_n 1, 1) := dk_43 (dk_at dksJ6_append_0 0 rfl rfl)
theorem dJ6_append_1 : decode cJ6_append 1 = .ok (.ifnonnull 8, 3) := dk_199 0 8 (dk_at dksJ6_append_0 1 rfl rfl)
theorem dJ6_append_4 : decode cJ6_append 4 = .ok (.aload_n 0, 1) := dk_42 (dk_at dksJ6_append_0 4 rfl rfl)
theorem dJ6_append_5 : decode cJ6_append 5 = .ok (.invokevirtual 204, 3) := dk_182 0 204 (dk_at dksJ6_append_0 5 rfl rfl)
theorem dJ6_append_8 : decode cJ6_append 8 = .ok (.areturn, 1) := dk_176 (dk_at dksJ6_append_0 8 rfl rfl)
theorem dJ6_append_9 : decode cJ6_append 9 = .ok (.aload_n 1, 1) := dk_43 (dk_at dksJ6_append_0 9 rfl rfl)
theorem dJ6_append_10 : decode cJ6_append 10 = .ok (.invokevirtual 32, 3) := dk_182 0 32 (dk_at dksJ6_append_0 10 rfl rfl)
theorem dJ6_append_13 : decode cJ6_append 13 = .ok (.istore_n 2, 1) := dk_61 (dk_at dksJ6_append_0 13 rfl rfl)
theorem dJ6_append_14 : decode cJ6_append 14 = .ok (.aload_n 0, 1) := dk_42 (dk_at dksJ6_append_0 14 rfl rfl)
theorem dJ6_append_15 : decode cJ6_append 15 = .ok (.aload_n 0, 1) := dk_42 (dk_at dksJ6_append_0 15 rfl rfl)
theorem dJ6_append_16 : decode cJ6_append 16 = .ok (.getfield 79, 3) := dk_180 0 79 (dk_at dksJ6_append_0 16 rfl rfl)
theorem dJ6_append_19 : decode cJ6_append 19 = .ok (.iload_n 2, 1) := dk_28 (dk_at dksJ6_append_0 19 rfl rfl)
theorem dJ6_append_20 : decode cJ6_append 20 = .ok (.iadd, 1) := dk_96 (dk_at dksJ6_append_0 20 rfl rfl)
theorem dJ6_append_21 : decode cJ6_append 21 = .ok (.invokevirtual 100, 3) := dk_182 0 100 (dk_at dksJ6_append_0 21 rfl rfl)
theorem dJ6_append_24 : decode cJ6_append 24 = .ok (.aload_n 0, 1) := dk_42 (dk_at dksJ6_append_1 0 rfl rfl)
theorem dJ6_append_25 : decode cJ6_append 25 = .ok (.aload_n 0, 1) := dk_42 (dk_at dksJ6_append_1 1 rfl rfl)
theorem dJ6_append_26 : decode cJ6_append 26 = .ok (.getfield 79, 3) := dk_180 0 79 (dk_at dksJ6_append_1 2 rfl rfl)
theorem dJ6_append_29 : decode cJ6_append 29 = .ok (.aload_n 1, 1) := dk_43 (dk_at dksJ6_append_1 5 rfl rfl)
theorem dJ6_append_30 : decode cJ6_append 30 = .ok (.invokevirtual 208, 3) := dk_182 0 208 (dk_at dksJ6_append_1 6 rfl rfl)
theorem dJ6_append_33 : decode cJ6_append 33 = .ok (.aload_n 0, 1) := dk_42 (dk_at dksJ6_append_1 9 rfl rfl)
theorem dJ6_append_34 : decode cJ6_append 34 = .ok (.dup, 1) := dk_89 (dk_at dksJ6_append_1 10 rfl rfl)
theorem dJ6_append_35 : decode cJ6_append 35 = .ok (.getfield 79, 3) := dk_180 0 79 (dk_at dksJ6_append_1 11 rfl rfl)
theorem dJ6_append_38 : decode cJ6_append 38 = .ok (.iload_n 2, 1) := dk_28 (dk_at dksJ6_append_1 14 rfl rfl)
theorem dJ6_append_39 : decode cJ6_append 39 = .ok (.iadd, 1) := dk_96 (dk_at dksJ6_append_1 15 rfl rfl)
theorem dJ6_append_40 : decode cJ6_append 40 = .ok (.putfield 79, 3) := dk_181 0 79 (dk_at dksJ6_append_1 16 rfl rfl)
theorem dJ6_append_43 : decode cJ6_append 43 = .ok (.aload_n 0, 1) := dk_42 (dk_at dksJ6_append_1 19 rfl rfl)
theorem dJ6_append_44 : decode cJ6_append 44 = .ok (.areturn, 1) := dk_176 (dk_at dksJ6_append_1 20 rfl rfl)
abbrev cJ6_appendNull : ByteArray := prog_33_method_26_code
def yJ6_appendNull : MethodName := ⟨RJ6, "appendNull", "()Ljava/lang/AbstractStringBuilder;"⟩
def dkwJ6_appendNull_3 : List UInt8 := [184, 0, 226, 60, 42, 27, 181, 0, 79, 42, 176]
abbrev dktJ6_appendNull_3 : List UInt8 := dkwJ6_appendNull_3 ++ []
def dkwJ6_appendNull_2 : List UInt8 := [16, 108, 84, 44, 27, 132, 1, 1, 16, 108, 84, 167, 0, 17, 44, 27, 16, 110, 16, 117, 16, 108, 16, 108]
abbrev dktJ6_appendNull_2 : List UInt8 := dkwJ6_appendNull_2 ++ dktJ6_appendNull_3
def dkwJ6_appendNull_1 : List UInt8 := [153, 0, 38, 44, 27, 132, 1, 1, 16, 110, 84, 44, 27, 132, 1, 1, 16, 117, 84, 44, 27, 132, 1, 1]
abbrev dktJ6_appendNull_1 : List UInt8 := dkwJ6_appendNull_1 ++ dktJ6_appendNull_2
def dkwJ6_appendNull_0 : List UInt8 := [42, 42, 180, 0, 79, 7, 96, 182, 0, 100, 42, 180, 0, 79, 60, 42, 180, 0, 15, 77, 42, 182, 0, 83]
abbrev dktJ6_appendNull_0 : List UInt8 := dkwJ6_appendNull_0 ++ dktJ6_appendNull_1
theorem dksJ6_appendNull_0 : cJ6_appendNull.data.toList.drop 0 = dktJ6_appendNull_0 := by decide +kernel
theorem dksJ6_appendNull_1 : cJ6_appendNull.data.toList.drop 24 = dktJ6_appendNull_1 := dk_seg dksJ6_appendNull_0 24 rfl rfl
theorem dksJ6_appendNull_2 : cJ6_appendNull.data.toList.drop 48 = dktJ6_appendNull_2 := dk_seg dksJ6_appendNull_1 24 rfl rfl
theorem dksJ6_appendNull_3 : cJ6_appendNull.data.toList.drop 72 = dktJ6_appendNull_3 := dk_seg dksJ6_appendNull_2 24 rfl rfl
theorem dJ6_appendNull_0 : decode cJ6_appendNull 0 = .ok (.aload_n 0, 1) := dk_42 (dk_at dksJ6_appendNull_0 0 rfl rfl)
theorem dJ6_appendNull_1 : decode cJ6_appendNull 1 = .ok (.aload_n 0, 1) := dk_42 (dk_at dksJ6_appendNull_0 1 rfl rfl)
theorem dJ6_appendNull_2 : decode cJ6_appendNull 2 = .ok (.getfield 79, 3) := dk_180 0 79 (dk_at dksJ6_appendNull_0 2 rfl rfl)
theorem dJ6_appendNull_5 : decode cJ6_appendNull 5 = .ok (.iconst 4, 1) := dk_7 (dk_at dksJ6_appendNull_0 5 rfl rfl)
theorem dJ6_appendNull_6 : decode cJ6_appendNull 6 = .ok (.iadd, 1) := dk_96 (dk_at dksJ6_appendNull_0 6 rfl rfl)
theorem dJ6_appendNull_7 : decode cJ6_appendNull 7 = .ok (.invokevirtual 100, 3) := dk_182 0 100 (dk_at dksJ6_appendNull_0 7 rfl rfl)
theorem dJ6_appendNull_10 : decode cJ6_appendNull 10 = .ok (.aload_n 0, 1) := dk_42 (dk_at dksJ6_appendNull_0 10 rfl rfl)
theorem dJ6_appendNull_11 : decode cJ6_appendNull 11 = .ok (.getfield 79, 3) := dk_180 0 79 (dk_at dksJ6_appendNull_0 11 rfl rfl)
theorem dJ6_appendNull_14 : decode cJ6_appendNull 14 = .ok (.istore_n 1, 1) := dk_60 (dk_at dksJ6_appendNull_0 14 rfl rfl)
theorem dJ6_appendNull_15 : decode cJ6_appendNull 15 = .ok (.aload_n 0, 1) := dk_42 (dk_at dksJ6_appendNull_0 15 rfl rfl)
theorem dJ6_appendNull_16 : decode cJ6_appendNull 16 = .ok (.getfield 15, 3) := dk_180 0 15 (dk_at dksJ6_appendNull_0 16 rfl rfl)
theorem dJ6_appendNull_19 : decode cJ6_appendNull 19 = .ok (.astore_n 2, 1) := dk_77 (dk_at dksJ6_appendNull_0 19 rfl rfl)
theorem dJ6_appendNull_20 : decode cJ6_appendNull 20 = .ok (.aload_n 0, 1) := dk_42 (dk_at dksJ6_appendNull_0 20 rfl rfl)
theorem dJ6_appendNull_21 : decode cJ6_appendNull 21 = .ok (.invokevirtual 83, 3) := dk_182 0 83 (dk_at dksJ6_appendNull_0 21 rfl rfl)
theorem dJ6_appendNull_24 : decode cJ6_appendNull 24 = .ok (.ifCond .eq 38, 3) := dk_153 0 38 (dk_at dksJ6_appendNull_1 0 rfl rfl)
theorem dJ6_appendNull_27 : decode cJ6_appendNull 27 = .ok (.aload_n 2, 1) := dk_44 (dk_at dksJ6_appendNull_1 3 rfl rfl)
theorem dJ6_appendNull_28 : decode cJ6_appendNull 28 = .ok (.iload_n 1, 1) := dk_27 (dk_at dksJ6_appendNull_1 4 rfl rfl)
theorem dJ6_appendNull_29 : decode cJ6_appendNull 29 = .ok (.iinc 1 1, 3) := dk_132 1 1 (dk_at dksJ6_appendNull_1 5 rfl rfl)
theorem dJ6_appendNull_32 : decode cJ6_appendNull 32 = .ok (.bipush 110, 2) := dk_16 110 (dk_at dksJ6_appendNull_1 8 rfl rfl)
theorem dJ6_appendNull_34 : decode cJ6_appendNull 34 = .ok (.bastore, 1) := dk_84 (dk_at dksJ6_appendNull_1 10 rfl rfl)
theorem dJ6_appendNull_35 : decode cJ6_appendNull 35 = .ok (.aload_n 2, 1) := dk_44 (dk_at dksJ6_appendNull_1 11 rfl rfl)
theorem dJ6_appendNull_36 : decode cJ6_appendNull 36 = .ok (.iload_n 1, 1) := dk_27 (dk_at dksJ6_appendNull_1 12 rfl rfl)
theorem dJ6_appendNull_37 : decode cJ6_appendNull 37 = .ok (.iinc 1 1, 3) := dk_132 1 1 (dk_at dksJ6_appendNull_1 13 rfl rfl)
theorem dJ6_appendNull_40 : decode cJ6_appendNull 40 = .ok (.bipush 117, 2) := dk_16 117 (dk_at dksJ6_appendNull_1 16 rfl rfl)
theorem dJ6_appendNull_42 : decode cJ6_appendNull 42 = .ok (.bastore, 1) := dk_84 (dk_at dksJ6_appendNull_1 18 rfl rfl)
theorem dJ6_appendNull_43 : decode cJ6_appendNull 43 = .ok (.aload_n 2, 1) := dk_44 (dk_at dksJ6_appendNull_1 19 rfl rfl)
theorem dJ6_appendNull_44 : decode cJ6_appendNull 44 = .ok (.iload_n 1, 1) := dk_27 (dk_at dksJ6_appendNull_1 20 rfl rfl)
theorem dJ6_appendNull_45 : decode cJ6_appendNull 45 = .ok (.iinc 1 1, 3) := dk_132 1 1 (dk_at dksJ6_appendNull_1 21 rfl rfl)
theorem dJ6_appendNull_48 : decode cJ6_appendNull 48 = .ok (.bipush 108, 2) := dk_16 108 (dk_at dksJ6_appendNull_2 0 rfl rfl)
theorem dJ6_appendNull_50 : decode cJ6_appendNull 50 = .ok (.bastore, 1) := dk_84 (dk_at dksJ6_appendNull_2 2 rfl rfl)
theorem dJ6_appendNull_51 : decode cJ6_appendNull 51 = .ok (.aload_n 2, 1) := dk_44 (dk_at dksJ6_appendNull_2 3 rfl rfl)
theorem dJ6_appendNull_52 : decode cJ6_appendNull 52 = .ok (.iload_n 1, 1) := dk_27 (dk_at dksJ6_appendNull_2 4 rfl rfl)
theorem dJ6_appendNull_53 : decode cJ6_appendNull 53 = .ok (.iinc 1 1, 3) := dk_132 1 1 (dk_at dksJ6_appendNull_2 5 rfl rfl)
theorem dJ6_appendNull_56 : decode cJ6_appendNull 56 = .ok (.bipush 108, 2) := dk_16 108 (dk_at dksJ6_appendNull_2 8 rfl rfl)
theorem dJ6_appendNull_58 : decode cJ6_appendNull 58 = .ok (.bastore, 1) := dk_84 (dk_at dksJ6_appendNull_2 10 rfl rfl)
theorem dJ6_appendNull_59 : decode cJ6_appendNull 59 = .ok (.goto 17, 3) := dk_167 0 17 (dk_at dksJ6_appendNull_2 11 rfl rfl)
theorem dJ6_appendNull_62 : decode cJ6_appendNull 62 = .ok (.aload_n 2, 1) := dk_44 (dk_at dksJ6_appendNull_2 14 rfl rfl)
theorem dJ6_appendNull_63 : decode cJ6_appendNull 63 = .ok (.iload_n 1, 1) := dk_27 (dk_at dksJ6_appendNull_2 15 rfl rfl)
theorem dJ6_appendNull_64 : decode cJ6_appendNull 64 = .ok (.bipush 110, 2) := dk_16 110 (dk_at dksJ6_appendNull_2 16 rfl rfl)
theorem dJ6_appendNull_66 : decode cJ6_appendNull 66 = .ok (.bipush 117, 2) := dk_16 117 (dk_at dksJ6_appendNull_2 18 rfl rfl)
theorem dJ6_appendNull_68 : decode cJ6_appendNull 68 = .ok (.bipush 108, 2) := dk_16 108 (dk_at dksJ6_appendNull_2 20 rfl rfl)
theorem dJ6_appendNull_70 : decode cJ6_appendNull 70 = .ok (.bipush 108, 2) := dk_16 108 (dk_at dksJ6_appendNull_2 22 rfl rfl)
theorem dJ6_appendNull_72 : decode cJ6_appendNull 72 = .ok (.invokestatic 226, 3) := dk_184 0 226 (dk_at dksJ6_appendNull_3 0 rfl rfl)
theorem dJ6_appendNull_75 : decode cJ6_appendNull 75 = .ok (.istore_n 1, 1) := dk_60 (dk_at dksJ6_appendNull_3 3 rfl rfl)
theorem dJ6_appendNull_76 : decode cJ6_appendNull 76 = .ok (.aload_n 0, 1) := dk_42 (dk_at dksJ6_appendNull_3 4 rfl rfl)
theorem dJ6_appendNull_77 : decode cJ6_appendNull 77 = .ok (.iload_n 1, 1) := dk_27 (dk_at dksJ6_appendNull_3 5 rfl rfl)
theorem dJ6_appendNull_78 : decode cJ6_appendNull 78 = .ok (.putfield 79, 3) := dk_181 0 79 (dk_at dksJ6_appendNull_3 6 rfl rfl)
theorem dJ6_appendNull_81 : decode cJ6_appendNull 81 = .ok (.aload_n 0, 1) := dk_42 (dk_at dksJ6_appendNull_3 9 rfl rfl)
theorem dJ6_appendNull_82 : decode cJ6_appendNull 82 = .ok (.areturn, 1) := dk_176 (dk_at dksJ6_appendNull_3 10 rfl rfl)
abbrev cJ6_ensureCapacityInternal : ByteArray := prog_33_method_9_code
def yJ6_ensureCapacityInternal : MethodName := ⟨RJ6, "ensureCapacityInternal", "(I)V"⟩
def dkwJ6_ensureCapacityInternal_1 : List UInt8 := [182, 0, 104, 42, 180, 0, 22, 120, 184, 0, 108, 181, 0, 15, 177]
abbrev dktJ6_ensureCapacityInternal_1 : List UInt8 := dkwJ6_ensureCapacityInternal_1 ++ []
def dkwJ6_ensureCapacityInternal_0 : List UInt8 := [42, 180, 0, 15, 190, 42, 180, 0, 22, 122, 61, 27, 28, 100, 158, 0, 24, 42, 42, 180, 0, 15, 42, 27]
abbrev dktJ6_ensureCapacityInternal_0 : List UInt8 := dkwJ6_ensureCapacityInternal_0 ++ dktJ6_ensureCapacityInternal_1
theorem dksJ6_ensureCapacityInternal_0 : cJ6_ensureCapacityInternal.data.toList.drop 0 = dktJ6_ensureCapacityInternal_0 := by decide +kernel
theorem dksJ6_ensureCapacityInternal_1 : cJ6_ensureCapacityInternal.data.toList.drop 24 = dktJ6_ensureCapacityInternal_1 := dk_seg dksJ6_ensureCapacityInternal_0 24 rfl rfl
theorem dJ6_ensureCapacityInternal_0 : decode cJ6_ensureCapacityInternal 0 = .ok (.aload_n 0, 1) := dk_42 (dk_at dksJ6_ensureCapacityInternal_0 0 rfl rfl)
theorem dJ6_ensureCapacityInternal_1 : decode cJ6_ensureCapacityInternal 1 = .ok (.getfield 15, 3) := dk_180 0 15 (dk_at dksJ6_ensureCapacityInternal_0 1 rfl rfl)
theorem dJ6_ensureCapacityInternal_4 : decode cJ6_ensureCapacityInternal 4 = .ok (.arraylength, 1) := dk_190 (dk_at dksJ6_ensureCapacityInternal_0 4 rfl rfl)
theorem dJ6_ensureCapacityInternal_5 : decode cJ6_ensureCapacityInternal 5 = .ok (.aload_n 0, 1) := dk_42 (dk_at dksJ6_ensureCapacityInternal_0 5 rfl rfl)
theorem dJ6_ensureCapacityInternal_6 : decode cJ6_ensureCapacityInternal 6 = .ok (.getfield 22, 3) := dk_180 0 22 (dk_at dksJ6_ensureCapacityInternal_0 6 rfl rfl)
theorem dJ6_ensureCapacityInternal_9 : decode cJ6_ensureCapacityInternal 9 = .ok (.ishr, 1) := dk_122 (dk_at dksJ6_ensureCapacityInternal_0 9 rfl rfl)
theorem dJ6_ensureCapacityInternal_10 : decode cJ6_ensureCapacityInternal 10 = .ok (.istore_n 2, 1) := dk_61 (dk_at dksJ6_ensureCapacityInternal_0 10 rfl rfl)
theorem dJ6_ensureCapacityInternal_11 : decode cJ6_ensureCapacityInternal 11 = .ok (.iload_n 1, 1) := dk_27 (dk_at dksJ6_ensureCapacityInternal_0 11 rfl rfl)
theorem dJ6_ensureCapacityInternal_12 : decode cJ6_ensureCapacityInternal 12 = .ok (.iload_n 2, 1) := dk_28 (dk_at dksJ6_ensureCapacityInternal_0 12 rfl rfl)
theorem dJ6_ensureCapacityInternal_13 : decode cJ6_ensureCapacityInternal 13 = .ok (.isub, 1) := dk_100 (dk_at dksJ6_ensureCapacityInternal_0 13 rfl rfl)
theorem dJ6_ensureCapacityInternal_14 : decode cJ6_ensureCapacityInternal 14 = .ok (.ifCond .le 24, 3) := dk_158 0 24 (dk_at dksJ6_ensureCapacityInternal_0 14 rfl rfl)
theorem dJ6_ensureCapacityInternal_17 : decode cJ6_ensureCapacityInternal 17 = .ok (.aload_n 0, 1) := dk_42 (dk_at dksJ6_ensureCapacityInternal_0 17 rfl rfl)
theorem dJ6_ensureCapacityInternal_18 : decode cJ6_ensureCapacityInternal 18 = .ok (.aload_n 0, 1) := dk_42 (dk_at dksJ6_ensureCapacityInternal_0 18 rfl rfl)
theorem dJ6_ensureCapacityInternal_19 : decode cJ6_ensureCapacityInternal 19 = .ok (.getfield 15, 3) := dk_180 0 15 (dk_at dksJ6_ensureCapacityInternal_0 19 rfl rfl)
theorem dJ6_ensureCapacityInternal_22 : decode cJ6_ensureCapacityInternal 22 = .ok (.aload_n 0, 1) := dk_42 (dk_at dksJ6_ensureCapacityInternal_0 22 rfl rfl)
theorem dJ6_ensureCapacityInternal_23 : decode cJ6_ensureCapacityInternal 23 = .ok (.iload_n 1, 1) := dk_27 (dk_at dksJ6_ensureCapacityInternal_0 23 rfl rfl)
theorem dJ6_ensureCapacityInternal_24 : decode cJ6_ensureCapacityInternal 24 = .ok (.invokevirtual 104, 3) := dk_182 0 104 (dk_at dksJ6_ensureCapacityInternal_1 0 rfl rfl)
theorem dJ6_ensureCapacityInternal_27 : decode cJ6_ensureCapacityInternal 27 = .ok (.aload_n 0, 1) := dk_42 (dk_at dksJ6_ensureCapacityInternal_1 3 rfl rfl)
theorem dJ6_ensureCapacityInternal_28 : decode cJ6_ensureCapacityInternal 28 = .ok (.getfield 22, 3) := dk_180 0 22 (dk_at dksJ6_ensureCapacityInternal_1 4 rfl rfl)
theorem dJ6_ensureCapacityInternal_31 : decode cJ6_ensureCapacityInternal 31 = .ok (.ishl, 1) := dk_120 (dk_at dksJ6_ensureCapacityInternal_1 7 rfl rfl)
theorem dJ6_ensureCapacityInternal_32 : decode cJ6_ensureCapacityInternal 32 = .ok (.invokestatic 108, 3) := dk_184 0 108 (dk_at dksJ6_ensureCapacityInternal_1 8 rfl rfl)
theorem dJ6_ensureCapacityInternal_35 : decode cJ6_ensureCapacityInternal 35 = .ok (.putfield 15, 3) := dk_181 0 15 (dk_at dksJ6_ensureCapacityInternal_1 11 rfl rfl)
theorem dJ6_ensureCapacityInternal_38 : decode cJ6_ensureCapacityInternal 38 = .ok (.return_, 1) := dk_177 (dk_at dksJ6_ensureCapacityInternal_1 14 rfl rfl)
abbrev cJ6_newCapacity : ByteArray := prog_33_method_10_code
def yJ6_newCapacity : MethodName := ⟨RJ6, "newCapacity", "(I)I"⟩
def dkwJ6_newCapacity_2 : List UInt8 := [183, 0, 124, 191, 21, 5, 42, 180, 0, 22, 122, 172]
abbrev dktJ6_newCapacity_2 : List UInt8 := dkwJ6_newCapacity_2 ++ []
def dkwJ6_newCapacity_1 : List UInt8 := [180, 0, 22, 120, 96, 184, 0, 114, 54, 5, 21, 5, 18, 39, 160, 0, 13, 187, 0, 120, 89, 18, 122]
abbrev dktJ6_newCapacity_1 : List UInt8 := dkwJ6_newCapacity_1 ++ dktJ6_newCapacity_2
def dkwJ6_newCapacity_0 : List UInt8 := [42, 180, 0, 15, 190, 61, 27, 42, 180, 0, 22, 120, 62, 29, 28, 100, 54, 4, 28, 21, 4, 28, 5, 42]
abbrev dktJ6_newCapacity_0 : List UInt8 := dkwJ6_newCapacity_0 ++ dktJ6_newCapacity_1
theorem dksJ6_newCapacity_0 : cJ6_newCapacity.data.toList.drop 0 = dktJ6_newCapacity_0 := by decide +kernel
theorem dksJ6_newCapacity_1 : cJ6_newCapacity.data.toList.drop 24 = dktJ6_newCapacity_1 := dk_seg dksJ6_newCapacity_0 24 rfl rfl
theorem dksJ6_newCapacity_2 : cJ6_newCapacity.data.toList.drop 47 = dktJ6_newCapacity_2 := dk_seg dksJ6_newCapacity_1 23 rfl rfl
theorem dJ6_newCapacity_0 : decode cJ6_newCapacity 0 = .ok (.aload_n 0, 1) := dk_42 (dk_at dksJ6_newCapacity_0 0 rfl rfl)
theorem dJ6_newCapacity_1 : decode cJ6_newCapacity 1 = .ok (.getfield 15, 3) := dk_180 0 15 (dk_at dksJ6_newCapacity_0 1 rfl rfl)
theorem dJ6_newCapacity_4 : decode cJ6_newCapacity 4 = .ok (.arraylength, 1) := dk_190 (dk_at dksJ6_newCapacity_0 4 rfl rfl)
theorem dJ6_newCapacity_5 : decode cJ6_newCapacity 5 = .ok (.istore_n 2, 1) := dk_61 (dk_at dksJ6_newCapacity_0 5 rfl rfl)
theorem dJ6_newCapacity_6 : decode cJ6_newCapacity 6 = .ok (.iload_n 1, 1) := dk_27 (dk_at dksJ6_newCapacity_0 6 rfl rfl)
theorem dJ6_newCapacity_7 : decode cJ6_newCapacity 7 = .ok (.aload_n 0, 1) := dk_42 (dk_at dksJ6_newCapacity_0 7 rfl rfl)
theorem dJ6_newCapacity_8 : decode cJ6_newCapacity 8 = .ok (.getfield 22, 3) := dk_180 0 22 (dk_at dksJ6_newCapacity_0 8 rfl rfl)
theorem dJ6_newCapacity_11 : decode cJ6_newCapacity 11 = .ok (.ishl, 1) := dk_120 (dk_at dksJ6_newCapacity_0 11 rfl rfl)
theorem dJ6_newCapacity_12 : decode cJ6_newCapacity 12 = .ok (.istore_n 3, 1) := dk_62 (dk_at dksJ6_newCapacity_0 12 rfl rfl)
theorem dJ6_newCapacity_13 : decode cJ6_newCapacity 13 = .ok (.iload_n 3, 1) := dk_29 (dk_at dksJ6_newCapacity_0 13 rfl rfl)
theorem dJ6_newCapacity_14 : decode cJ6_newCapacity 14 = .ok (.iload_n 2, 1) := dk_28 (dk_at dksJ6_newCapacity_0 14 rfl rfl)
theorem dJ6_newCapacity_15 : decode cJ6_newCapacity 15 = .ok (.isub, 1) := dk_100 (dk_at dksJ6_newCapacity_0 15 rfl rfl)
theorem dJ6_newCapacity_16 : decode cJ6_newCapacity 16 = .ok (.istore 4, 2) := dk_54 4 (dk_at dksJ6_newCapacity_0 16 rfl rfl)
theorem dJ6_newCapacity_18 : decode cJ6_newCapacity 18 = .ok (.iload_n 2, 1) := dk_28 (dk_at dksJ6_newCapacity_0 18 rfl rfl)
theorem dJ6_newCapacity_19 : decode cJ6_newCapacity 19 = .ok (.iload 4, 2) := dk_21 4 (dk_at dksJ6_newCapacity_0 19 rfl rfl)
theorem dJ6_newCapacity_21 : decode cJ6_newCapacity 21 = .ok (.iload_n 2, 1) := dk_28 (dk_at dksJ6_newCapacity_0 21 rfl rfl)
theorem dJ6_newCapacity_22 : decode cJ6_newCapacity 22 = .ok (.iconst 2, 1) := dk_5 (dk_at dksJ6_newCapacity_0 22 rfl rfl)
theorem dJ6_newCapacity_23 : decode cJ6_newCapacity 23 = .ok (.aload_n 0, 1) := dk_42 (dk_at dksJ6_newCapacity_0 23 rfl rfl)
theorem dJ6_newCapacity_24 : decode cJ6_newCapacity 24 = .ok (.getfield 22, 3) := dk_180 0 22 (dk_at dksJ6_newCapacity_1 0 rfl rfl)
theorem dJ6_newCapacity_27 : decode cJ6_newCapacity 27 = .ok (.ishl, 1) := dk_120 (dk_at dksJ6_newCapacity_1 3 rfl rfl)
theorem dJ6_newCapacity_28 : decode cJ6_newCapacity 28 = .ok (.iadd, 1) := dk_96 (dk_at dksJ6_newCapacity_1 4 rfl rfl)
theorem dJ6_newCapacity_29 : decode cJ6_newCapacity 29 = .ok (.invokestatic 114, 3) := dk_184 0 114 (dk_at dksJ6_newCapacity_1 5 rfl rfl)
theorem dJ6_newCapacity_32 : decode cJ6_newCapacity 32 = .ok (.istore 5, 2) := dk_54 5 (dk_at dksJ6_newCapacity_1 8 rfl rfl)
theorem dJ6_newCapacity_34 : decode cJ6_newCapacity 34 = .ok (.iload 5, 2) := dk_21 5 (dk_at dksJ6_newCapacity_1 10 rfl rfl)
theorem dJ6_newCapacity_36 : decode cJ6_newCapacity 36 = .ok (.ldc 39, 2) := dk_18 39 (dk_at dksJ6_newCapacity_1 12 rfl rfl)
theorem dJ6_newCapacity_38 : decode cJ6_newCapacity 38 = .ok (.if_icmp .ne 13, 3) := dk_160 0 13 (dk_at dksJ6_newCapacity_1 14 rfl rfl)
theorem dJ6_newCapacity_41 : decode cJ6_newCapacity 41 = .ok (.new 120, 3) := dk_187 0 120 (dk_at dksJ6_newCapacity_1 17 rfl rfl)
theorem dJ6_newCapacity_44 : decode cJ6_newCapacity 44 = .ok (.dup, 1) := dk_89 (dk_at dksJ6_newCapacity_1 20 rfl rfl)
theorem dJ6_newCapacity_45 : decode cJ6_newCapacity 45 = .ok (.ldc 122, 2) := dk_18 122 (dk_at dksJ6_newCapacity_1 21 rfl rfl)
theorem dJ6_newCapacity_47 : decode cJ6_newCapacity 47 = .ok (.invokespecial 124, 3) := dk_183 0 124 (dk_at dksJ6_newCapacity_2 0 rfl rfl)
theorem dJ6_newCapacity_50 : decode cJ6_newCapacity 50 = .ok (.athrow, 1) := dk_191 (dk_at dksJ6_newCapacity_2 3 rfl rfl)
theorem dJ6_newCapacity_51 : decode cJ6_newCapacity 51 = .ok (.iload 5, 2) := dk_21 5 (dk_at dksJ6_newCapacity_2 4 rfl rfl)
theorem dJ6_newCapacity_53 : decode cJ6_newCapacity 53 = .ok (.aload_n 0, 1) := dk_42 (dk_at dksJ6_newCapacity_2 6 rfl rfl)
theorem dJ6_newCapacity_54 : decode cJ6_newCapacity 54 = .ok (.getfield 22, 3) := dk_180 0 22 (dk_at dksJ6_newCapacity_2 7 rfl rfl)
theorem dJ6_newCapacity_57 : decode cJ6_newCapacity 57 = .ok (.ishr, 1) := dk_122 (dk_at dksJ6_newCapacity_2 10 rfl rfl)
theorem dJ6_newCapacity_58 : decode cJ6_newCapacity 58 = .ok (.ireturn, 1) := dk_172 (dk_at dksJ6_newCapacity_2 11 rfl rfl)
abbrev cJ6_isLatin1 : ByteArray := prog_33_method_68_code
def yJ6_isLatin1 : MethodName := ⟨RJ6, "isLatin1", "()Z"⟩
def dkwJ6_isLatin1_0 : List UInt8 := [178, 0, 18, 153, 0, 14, 42, 180, 0, 22, 154, 0, 7, 4, 167, 0, 4, 3, 172]
abbrev dktJ6_isLatin1_0 : List UInt8 := dkwJ6_isLatin1_0 ++ []
theorem dksJ6_isLatin1_0 : cJ6_isLatin1.data.toList.drop 0 = dktJ6_isLatin1_0 := by decide +kernel
theorem dJ6_isLatin1_0 : decode cJ6_isLatin1 0 = .ok (.getstatic 18, 3) := dk_178 0 18 (dk_at dksJ6_isLatin1_0 0 rfl rfl)
theorem dJ6_isLatin1_3 : decode cJ6_isLatin1 3 = .ok (.ifCond .eq 14, 3) := dk_153 0 14 (dk_at dksJ6_isLatin1_0 3 rfl rfl)
theorem dJ6_isLatin1_6 : decode cJ6_isLatin1 6 = .ok (.aload_n 0, 1) := dk_42 (dk_at dksJ6_isLatin1_0 6 rfl rfl)
theorem dJ6_isLatin1_7 : decode cJ6_isLatin1 7 = .ok (.getfield 22, 3) := dk_180 0 22 (dk_at dksJ6_isLatin1_0 7 rfl rfl)
theorem dJ6_isLatin1_10 : decode cJ6_isLatin1 10 = .ok (.ifCond .ne 7, 3) := dk_154 0 7 (dk_at dksJ6_isLatin1_0 10 rfl rfl)
theorem dJ6_isLatin1_13 : decode cJ6_isLatin1 13 = .ok (.iconst 1, 1) := dk_4 (dk_at dksJ6_isLatin1_0 13 rfl rfl)
theorem dJ6_isLatin1_14 : decode cJ6_isLatin1 14 = .ok (.goto 4, 3) := dk_167 0 4 (dk_at dksJ6_isLatin1_0 14 rfl rfl)
theorem dJ6_isLatin1_17 : decode cJ6_isLatin1 17 = .ok (.iconst 0, 1) := dk_3 (dk_at dksJ6_isLatin1_0 17 rfl rfl)
theorem dJ6_isLatin1_18 : decode cJ6_isLatin1 18 = .ok (.ireturn, 1) := dk_172 (dk_at dksJ6_isLatin1_0 18 rfl rfl)
abbrev cJ6_putStringAt : ByteArray := prog_33_method_73_code
def yJ6_putStringAt : MethodName := ⟨RJ6, "putStringAt", "(ILjava/lang/String;)V"⟩
def dkwJ6_putStringAt_0 : List UInt8 := [42, 44, 182, 1, 141, 44, 42, 180, 0, 15, 27, 42, 180, 0, 22, 182, 1, 143, 177]
abbrev dktJ6_putStringAt_0 : List UInt8 := dkwJ6_putStringAt_0 ++ []
theorem dksJ6_putStringAt_0 : cJ6_putStringAt.data.toList.drop 0 = dktJ6_putStringAt_0 := by decide +kernel
theorem dJ6_putStringAt_0 : decode cJ6_putStringAt 0 = .ok (.aload_n 0, 1) := dk_42 (dk_at dksJ6_putStringAt_0 0 rfl rfl)
theorem dJ6_putStringAt_1 : decode cJ6_putStringAt 1 = .ok (.aload_n 2, 1) := dk_44 (dk_at dksJ6_putStringAt_0 1 rfl rfl)
theorem dJ6_putStringAt_2 : decode cJ6_putStringAt 2 = .ok (.invokevirtual 397, 3) := dk_182 1 141 (dk_at dksJ6_putStringAt_0 2 rfl rfl)
theorem dJ6_putStringAt_5 : decode cJ6_putStringAt 5 = .ok (.aload_n 2, 1) := dk_44 (dk_at dksJ6_putStringAt_0 5 rfl rfl)
theorem dJ6_putStringAt_6 : decode cJ6_putStringAt 6 = .ok (.aload_n 0, 1) := dk_42 (dk_at dksJ6_putStringAt_0 6 rfl rfl)
theorem dJ6_putStringAt_7 : decode cJ6_putStringAt 7 = .ok (.getfield 15, 3) := dk_180 0 15 (dk_at dksJ6_putStringAt_0 7 rfl rfl)
theorem dJ6_putStringAt_10 : decode cJ6_putStringAt 10 = .ok (.iload_n 1, 1) := dk_27 (dk_at dksJ6_putStringAt_0 10 rfl rfl)
theorem dJ6_putStringAt_11 : decode cJ6_putStringAt 11 = .ok (.aload_n 0, 1) := dk_42 (dk_at dksJ6_putStringAt_0 11 rfl rfl)
theorem dJ6_putStringAt_12 : decode cJ6_putStringAt 12 = .ok (.getfield 22, 3) := dk_180 0 22 (dk_at dksJ6_putStringAt_0 12 rfl rfl)
theorem dJ6_putStringAt_15 : decode cJ6_putStringAt 15 = .ok (.invokevirtual 399, 3) := dk_182 1 143 (dk_at dksJ6_putStringAt_0 15 rfl rfl)
theorem dJ6_putStringAt_18 : decode cJ6_putStringAt 18 = .ok (.return_, 1) := dk_177 (dk_at dksJ6_putStringAt_0 18 rfl rfl)
abbrev cJ6_inflateIfNeededFor : ByteArray := prog_33_method_71_code
def yJ6_inflateIfNeededFor : MethodName := ⟨RJ6, "inflateIfNeededFor", "(Ljava/lang/String;)V"⟩
def dkwJ6_inflateIfNeededFor_0 : List UInt8 := [178, 0, 18, 153, 0, 18, 42, 180, 0, 22, 43, 182, 0, 40, 159, 0, 7, 42, 182, 0, 195, 177]
abbrev dktJ6_inflateIfNeededFor_0 : List UInt8 := dkwJ6_inflateIfNeededFor_0 ++ []
theorem dksJ6_inflateIfNeededFor_0 : cJ6_inflateIfNeededFor.data.toList.drop 0 = dktJ6_inflateIfNeededFor_0 := by decide +kernel
theorem dJ6_inflateIfNeededFor_0 : decode cJ6_inflateIfNeededFor 0 = .ok (.getstatic 18, 3) := dk_178 0 18 (dk_at dksJ6_inflateIfNeededFor_0 0 rfl rfl)
theorem dJ6_inflateIfNeededFor_3 : decode cJ6_inflateIfNeededFor 3 = .ok (.ifCond .eq 18, 3) := dk_153 0 18 (dk_at dksJ6_inflateIfNeededFor_0 3 rfl rfl)
theorem dJ6_inflateIfNeededFor_6 : decode cJ6_inflateIfNeededFor 6 = .ok (.aload_n 0, 1) := dk_42 (dk_at dksJ6_inflateIfNeededFor_0 6 rfl rfl)
theorem dJ6_inflateIfNeededFor_7 : decode cJ6_inflateIfNeededFor 7 = .ok (.getfield 22, 3) := dk_180 0 22 (dk_at dksJ6_inflateIfNeededFor_0 7 rfl rfl)
theorem dJ6_inflateIfNeededFor_10 : decode cJ6_inflateIfNeededFor 10 = .ok (.aload_n 1, 1) := dk_43 (dk_at dksJ6_inflateIfNeededFor_0 10 rfl rfl)
theorem dJ6_inflateIfNeededFor_11 : decode cJ6_inflateIfNeededFor 11 = .ok (.invokevirtual 40, 3) := dk_182 0 40 (dk_at dksJ6_inflateIfNeededFor_0 11 rfl rfl)
theorem dJ6_inflateIfNeededFor_14 : decode cJ6_inflateIfNeededFor 14 = .ok (.if_icmp .eq 7, 3) := dk_159 0 7 (dk_at dksJ6_inflateIfNeededFor_0 14 rfl rfl)
theorem dJ6_inflateIfNeededFor_17 : decode cJ6_inflateIfNeededFor 17 = .ok (.aload_n 0, 1) := dk_42 (dk_at dksJ6_inflateIfNeededFor_0 17 rfl rfl)
theorem dJ6_inflateIfNeededFor_18 : decode cJ6_inflateIfNeededFor 18 = .ok (.invokevirtual 195, 3) := dk_182 0 195 (dk_at dksJ6_inflateIfNeededFor_0 18 rfl rfl)
theorem dJ6_inflateIfNeededFor_21 : decode cJ6_inflateIfNeededFor 21 = .ok (.return_, 1) := dk_177 (dk_at dksJ6_inflateIfNeededFor_0 21 rfl rfl)
abbrev cJ6_inflate : ByteArray := prog_33_method_11_code
def yJ6_inflate : MethodName := ⟨RJ6, "inflate", "()V"⟩
def dkwJ6_inflate_1 : List UInt8 := [42, 180, 0, 79, 184, 0, 125, 42, 43, 181, 0, 15, 42, 4, 181, 0, 22, 177]
abbrev dktJ6_inflate_1 : List UInt8 := dkwJ6_inflate_1 ++ []
def dkwJ6_inflate_0 : List UInt8 := [42, 182, 0, 83, 154, 0, 4, 177, 42, 180, 0, 15, 190, 184, 0, 26, 76, 42, 180, 0, 15, 3, 43, 3]
abbrev dktJ6_inflate_0 : List UInt8 := dkwJ6_inflate_0 ++ dktJ6_inflate_1
theorem dksJ6_inflate_0 : cJ6_inflate.data.toList.drop 0 = dktJ6_inflate_0 := by decide +kernel
theorem dksJ6_inflate_1 : cJ6_inflate.data.toList.drop 24 = dktJ6_inflate_1 := dk_seg dksJ6_inflate_0 24 rfl rfl
theorem dJ6_inflate_0 : decode cJ6_inflate 0 = .ok (.aload_n 0, 1) := dk_42 (dk_at dksJ6_inflate_0 0 rfl rfl)
theorem dJ6_inflate_1 : decode cJ6_inflate 1 = .ok (.invokevirtual 83, 3) := dk_182 0 83 (dk_at dksJ6_inflate_0 1 rfl rfl)
theorem dJ6_inflate_4 : decode cJ6_inflate 4 = .ok (.ifCond .ne 4, 3) := dk_154 0 4 (dk_at dksJ6_inflate_0 4 rfl rfl)
theorem dJ6_inflate_7 : decode cJ6_inflate 7 = .ok (.return_, 1) := dk_177 (dk_at dksJ6_inflate_0 7 rfl rfl)
theorem dJ6_inflate_8 : decode cJ6_inflate 8 = .ok (.aload_n 0, 1) := dk_42 (dk_at dksJ6_inflate_0 8 rfl rfl)
theorem dJ6_inflate_9 : decode cJ6_inflate 9 = .ok (.getfield 15, 3) := dk_180 0 15 (dk_at dksJ6_inflate_0 9 rfl rfl)
theorem dJ6_inflate_12 : decode cJ6_inflate 12 = .ok (.arraylength, 1) := dk_190 (dk_at dksJ6_inflate_0 12 rfl rfl)
theorem dJ6_inflate_13 : decode cJ6_inflate 13 = .ok (.invokestatic 26, 3) := dk_184 0 26 (dk_at dksJ6_inflate_0 13 rfl rfl)
theorem dJ6_inflate_16 : decode cJ6_inflate 16 = .ok (.astore_n 1, 1) := dk_76 (dk_at dksJ6_inflate_0 16 rfl rfl)
theorem dJ6_inflate_17 : decode cJ6_inflate 17 = .ok (.aload_n 0, 1) := dk_42 (dk_at dksJ6_inflate_0 17 rfl rfl)
theorem dJ6_inflate_18 : decode cJ6_inflate 18 = .ok (.getfield 15, 3) := dk_180 0 15 (dk_at dksJ6_inflate_0 18 rfl rfl)
theorem dJ6_inflate_21 : decode cJ6_inflate 21 = .ok (.iconst 0, 1) := dk_3 (dk_at dksJ6_inflate_0 21 rfl rfl)
theorem dJ6_inflate_22 : decode cJ6_inflate 22 = .ok (.aload_n 1, 1) := dk_43 (dk_at dksJ6_inflate_0 22 rfl rfl)
theorem dJ6_inflate_23 : decode cJ6_inflate 23 = .ok (.iconst 0, 1) := dk_3 (dk_at dksJ6_inflate_0 23 rfl rfl)
theorem dJ6_inflate_24 : decode cJ6_inflate 24 = .ok (.aload_n 0, 1) := dk_42 (dk_at dksJ6_inflate_1 0 rfl rfl)
theorem dJ6_inflate_25 : decode cJ6_inflate 25 = .ok (.getfield 79, 3) := dk_180 0 79 (dk_at dksJ6_inflate_1 1 rfl rfl)
theorem dJ6_inflate_28 : decode cJ6_inflate 28 = .ok (.invokestatic 125, 3) := dk_184 0 125 (dk_at dksJ6_inflate_1 4 rfl rfl)
theorem dJ6_inflate_31 : decode cJ6_inflate 31 = .ok (.aload_n 0, 1) := dk_42 (dk_at dksJ6_inflate_1 7 rfl rfl)
theorem dJ6_inflate_32 : decode cJ6_inflate 32 = .ok (.aload_n 1, 1) := dk_43 (dk_at dksJ6_inflate_1 8 rfl rfl)
theorem dJ6_inflate_33 : decode cJ6_inflate 33 = .ok (.putfield 15, 3) := dk_181 0 15 (dk_at dksJ6_inflate_1 9 rfl rfl)
theorem dJ6_inflate_36 : decode cJ6_inflate 36 = .ok (.aload_n 0, 1) := dk_42 (dk_at dksJ6_inflate_1 12 rfl rfl)
theorem dJ6_inflate_37 : decode cJ6_inflate 37 = .ok (.iconst 1, 1) := dk_4 (dk_at dksJ6_inflate_1 13 rfl rfl)
theorem dJ6_inflate_38 : decode cJ6_inflate 38 = .ok (.putfield 22, 3) := dk_181 0 22 (dk_at dksJ6_inflate_1 14 rfl rfl)
theorem dJ6_inflate_41 : decode cJ6_inflate 41 = .ok (.return_, 1) := dk_177 (dk_at dksJ6_inflate_1 17 rfl rfl)
abbrev cJ6_append_2 : ByteArray := prog_33_method_32_code
def yJ6_append_2 : MethodName := ⟨RJ6, "append", "(I)Ljava/lang/AbstractStringBuilder;"⟩
def dkwJ6_append_2_2 : List UInt8 := [42, 29, 181, 0, 79, 42, 176]
abbrev dktJ6_append_2_2 : List UInt8 := dkwJ6_append_2_2 ++ []
def dkwJ6_append_2_1 : List UInt8 := [27, 29, 42, 180, 0, 15, 184, 0, 248, 87, 167, 0, 14, 27, 28, 29, 42, 180, 0, 15, 184, 0, 251, 87]
abbrev dktJ6_append_2_1 : List UInt8 := dkwJ6_append_2_1 ++ dktJ6_append_2_2
def dkwJ6_append_2_0 : List UInt8 := [42, 180, 0, 79, 61, 28, 27, 184, 0, 245, 96, 62, 42, 29, 182, 0, 100, 42, 182, 0, 83, 153, 0, 16]
abbrev dktJ6_append_2_0 : List UInt8 := dkwJ6_append_2_0 ++ dktJ6_append_2_1
theorem dksJ6_append_2_0 : cJ6_append_2.data.toList.drop 0 = dktJ6_append_2_0 := by decide +kernel
theorem dksJ6_append_2_1 : cJ6_append_2.data.toList.drop 24 = dktJ6_append_2_1 := dk_seg dksJ6_append_2_0 24 rfl rfl
theorem dksJ6_append_2_2 : cJ6_append_2.data.toList.drop 48 = dktJ6_append_2_2 := dk_seg dksJ6_append_2_1 24 rfl rfl
theorem dJ6_append_2_0 : decode cJ6_append_2 0 = .ok (.aload_n 0, 1) := dk_42 (dk_at dksJ6_append_2_0 0 rfl rfl)
theorem dJ6_append_2_1 : decode cJ6_append_2 1 = .ok (.getfield 79, 3) := dk_180 0 79 (dk_at dksJ6_append_2_0 1 rfl rfl)
theorem dJ6_append_2_4 : decode cJ6_append_2 4 = .ok (.istore_n 2, 1) := dk_61 (dk_at dksJ6_append_2_0 4 rfl rfl)
theorem dJ6_append_2_5 : decode cJ6_append_2 5 = .ok (.iload_n 2, 1) := dk_28 (dk_at dksJ6_append_2_0 5 rfl rfl)
theorem dJ6_append_2_6 : decode cJ6_append_2 6 = .ok (.iload_n 1, 1) := dk_27 (dk_at dksJ6_append_2_0 6 rfl rfl)
theorem dJ6_append_2_7 : decode cJ6_append_2 7 = .ok (.invokestatic 245, 3) := dk_184 0 245 (dk_at dksJ6_append_2_0 7 rfl rfl)
theorem dJ6_append_2_10 : decode cJ6_append_2 10 = .ok (.iadd, 1) := dk_96 (dk_at dksJ6_append_2_0 10 rfl rfl)
theorem dJ6_append_2_11 : decode cJ6_append_2 11 = .ok (.istore_n 3, 1) := dk_62 (dk_at dksJ6_append_2_0 11 rfl rfl)
theorem dJ6_append_2_12 : decode cJ6_append_2 12 = .ok (.aload_n 0, 1) := dk_42 (dk_at dksJ6_append_2_0 12 rfl rfl)
theorem dJ6_append_2_13 : decode cJ6_append_2 13 = .ok (.iload_n 3, 1) := dk_29 (dk_at dksJ6_append_2_0 13 rfl rfl)
theorem dJ6_append_2_14 : decode cJ6_append_2 14 = .ok (.invokevirtual 100, 3) := dk_182 0 100 (dk_at dksJ6_append_2_0 14 rfl rfl)
theorem dJ6_append_2_17 : decode cJ6_append_2 17 = .ok (.aload_n 0, 1) := dk_42 (dk_at dksJ6_append_2_0 17 rfl rfl)
theorem dJ6_append_2_18 : decode cJ6_append_2 18 = .ok (.invokevirtual 83, 3) := dk_182 0 83 (dk_at dksJ6_append_2_0 18 rfl rfl)
theorem dJ6_append_2_21 : decode cJ6_append_2 21 = .ok (.ifCond .eq 16, 3) := dk_153 0 16 (dk_at dksJ6_append_2_0 21 rfl rfl)
theorem dJ6_append_2_24 : decode cJ6_append_2 24 = .ok (.iload_n 1, 1) := dk_27 (dk_at dksJ6_append_2_1 0 rfl rfl)
theorem dJ6_append_2_25 : decode cJ6_append_2 25 = .ok (.iload_n 3, 1) := dk_29 (dk_at dksJ6_append_2_1 1 rfl rfl)
theorem dJ6_append_2_26 : decode cJ6_append_2 26 = .ok (.aload_n 0, 1) := dk_42 (dk_at dksJ6_append_2_1 2 rfl rfl)
theorem dJ6_append_2_27 : decode cJ6_append_2 27 = .ok (.getfield 15, 3) := dk_180 0 15 (dk_at dksJ6_append_2_1 3 rfl rfl)
theorem dJ6_append_2_30 : decode cJ6_append_2 30 = .ok (.invokestatic 248, 3) := dk_184 0 248 (dk_at dksJ6_append_2_1 6 rfl rfl)
theorem dJ6_append_2_33 : decode cJ6_append_2 33 = .ok (.pop, 1) := dk_87 (dk_at dksJ6_append_2_1 9 rfl rfl)
theorem dJ6_append_2_34 : decode cJ6_append_2 34 = .ok (.goto 14, 3) := dk_167 0 14 (dk_at dksJ6_append_2_1 10 rfl rfl)
theorem dJ6_append_2_37 : decode cJ6_append_2 37 = .ok (.iload_n 1, 1) := dk_27 (dk_at dksJ6_append_2_1 13 rfl rfl)
theorem dJ6_append_2_38 : decode cJ6_append_2 38 = .ok (.iload_n 2, 1) := dk_28 (dk_at dksJ6_append_2_1 14 rfl rfl)
theorem dJ6_append_2_39 : decode cJ6_append_2 39 = .ok (.iload_n 3, 1) := dk_29 (dk_at dksJ6_append_2_1 15 rfl rfl)
theorem dJ6_append_2_40 : decode cJ6_append_2 40 = .ok (.aload_n 0, 1) := dk_42 (dk_at dksJ6_append_2_1 16 rfl rfl)
theorem dJ6_append_2_41 : decode cJ6_append_2 41 = .ok (.getfield 15, 3) := dk_180 0 15 (dk_at dksJ6_append_2_1 17 rfl rfl)
theorem dJ6_append_2_44 : decode cJ6_append_2 44 = .ok (.invokestatic 251, 3) := dk_184 0 251 (dk_at dksJ6_append_2_1 20 rfl rfl)
theorem dJ6_append_2_47 : decode cJ6_append_2 47 = .ok (.pop, 1) := dk_87 (dk_at dksJ6_append_2_1 23 rfl rfl)
theorem dJ6_append_2_48 : decode cJ6_append_2 48 = .ok (.aload_n 0, 1) := dk_42 (dk_at dksJ6_append_2_2 0 rfl rfl)
theorem dJ6_append_2_49 : decode cJ6_append_2 49 = .ok (.iload_n 3, 1) := dk_29 (dk_at dksJ6_append_2_2 1 rfl rfl)
theorem dJ6_append_2_50 : decode cJ6_append_2 50 = .ok (.putfield 79, 3) := dk_181 0 79 (dk_at dksJ6_append_2_2 2 rfl rfl)
theorem dJ6_append_2_53 : decode cJ6_append_2 53 = .ok (.aload_n 0, 1) := dk_42 (dk_at dksJ6_append_2_2 5 rfl rfl)
theorem dJ6_append_2_54 : decode cJ6_append_2 54 = .ok (.areturn, 1) := dk_176 (dk_at dksJ6_append_2_2 6 rfl rfl)
abbrev cJ6_getValue : ByteArray := prog_33_method_64_code
def yJ6_getValue : MethodName := ⟨RJ6, "getValue", "()[B"⟩
theorem dJ6_getValue_0 : decode cJ6_getValue 0 = .ok (.aload_n 0, 1) := by decide +kernel
theorem dJ6_getValue_1 : decode cJ6_getValue 1 = .ok (.getfield 15, 3) := by decide +kernel
theorem dJ6_getValue_4 : decode cJ6_getValue 4 = .ok (.areturn, 1) := by decide +kernel
abbrev cJ6_length : ByteArray := prog_33_method_6_code
def yJ6_length : MethodName := ⟨RJ6, "length", "()I"⟩
theorem dJ6_length_0 : decode cJ6_length 0 = .ok (.aload_n 0, 1) := by decide +kernel
theorem dJ6_length_1 : decode cJ6_length 1 = .ok (.getfield 79, 3) := by decide +kernel
theorem dJ6_length_4 : decode cJ6_length 4 = .ok (.ireturn, 1) := by decide +kernel
abbrev cJ6_compareTo : ByteArray := prog_33_method_5_code
def yJ6_compareTo : MethodName := ⟨RJ6, "compareTo", "(Ljava/lang/AbstractStringBuilder;)I"⟩
def dkwJ6_compareTo_4 : List UInt8 := [184, 0, 97, 172]
abbrev dktJ6_compareTo_4 : List UInt8 := dkwJ6_compareTo_4 ++ []
def dkwJ6_compareTo_3 : List UInt8 := [182, 0, 83, 153, 0, 15, 44, 45, 21, 4, 21, 5, 184, 0, 94, 167, 0, 12, 44, 45, 21, 4, 21, 5]
abbrev dktJ6_compareTo_3 : List UInt8 := dkwJ6_compareTo_3 ++ dktJ6_compareTo_4
def dkwJ6_compareTo_2 : List UInt8 := [45, 21, 4, 21, 5, 184, 0, 87, 167, 0, 12, 44, 45, 21, 4, 21, 5, 184, 0, 93, 172, 42]
abbrev dktJ6_compareTo_2 : List UInt8 := dkwJ6_compareTo_2 ++ dktJ6_compareTo_3
def dkwJ6_compareTo_1 : List UInt8 := [180, 0, 79, 54, 5, 42, 180, 0, 22, 43, 180, 0, 22, 160, 0, 32, 42, 182, 0, 83, 153, 0, 15, 44]
abbrev dktJ6_compareTo_1 : List UInt8 := dkwJ6_compareTo_1 ++ dktJ6_compareTo_2
def dkwJ6_compareTo_0 : List UInt8 := [42, 43, 166, 0, 5, 3, 172, 42, 180, 0, 15, 77, 43, 180, 0, 15, 78, 42, 180, 0, 79, 54, 4, 43]
abbrev dktJ6_compareTo_0 : List UInt8 := dkwJ6_compareTo_0 ++ dktJ6_compareTo_1
theorem dksJ6_compareTo_0 : cJ6_compareTo.data.toList.drop 0 = dktJ6_compareTo_0 := by decide +kernel
theorem dksJ6_compareTo_1 : cJ6_compareTo.data.toList.drop 24 = dktJ6_compareTo_1 := dk_seg dksJ6_compareTo_0 24 rfl rfl
theorem dksJ6_compareTo_2 : cJ6_compareTo.data.toList.drop 48 = dktJ6_compareTo_2 := dk_seg dksJ6_compareTo_1 24 rfl rfl
theorem dksJ6_compareTo_3 : cJ6_compareTo.data.toList.drop 70 = dktJ6_compareTo_3 := dk_seg dksJ6_compareTo_2 22 rfl rfl
theorem dksJ6_compareTo_4 : cJ6_compareTo.data.toList.drop 94 = dktJ6_compareTo_4 := dk_seg dksJ6_compareTo_3 24 rfl rfl
theorem dJ6_compareTo_0 : decode cJ6_compareTo 0 = .ok (.aload_n 0, 1) := dk_42 (dk_at dksJ6_compareTo_0 0 rfl rfl)
theorem dJ6_compareTo_1 : decode cJ6_compareTo 1 = .ok (.aload_n 1, 1) := dk_43 (dk_at dksJ6_compareTo_0 1 rfl rfl)
theorem dJ6_compareTo_2 : decode cJ6_compareTo 2 = .ok (.if_acmp .ne 5, 3) := dk_166 0 5 (dk_at dksJ6_compareTo_0 2 rfl rfl)
theorem dJ6_compareTo_5 : decode cJ6_compareTo 5 = .ok (.iconst 0, 1) := dk_3 (dk_at dksJ6_compareTo_0 5 rfl rfl)
theorem dJ6_compareTo_6 : decode cJ6_compareTo 6 = .ok (.ireturn, 1) := dk_172 (dk_at dksJ6_compareTo_0 6 rfl rfl)
theorem dJ6_compareTo_7 : decode cJ6_compareTo 7 = .ok (.aload_n 0, 1) := dk_42 (dk_at dksJ6_compareTo_0 7 rfl rfl)
theorem dJ6_compareTo_8 : decode cJ6_compareTo 8 = .ok (.getfield 15, 3) := dk_180 0 15 (dk_at dksJ6_compareTo_0 8 rfl rfl)
theorem dJ6_compareTo_11 : decode cJ6_compareTo 11 = .ok (.astore_n 2, 1) := dk_77 (dk_at dksJ6_compareTo_0 11 rfl rfl)
theorem dJ6_compareTo_12 : decode cJ6_compareTo 12 = .ok (.aload_n 1, 1) := dk_43 (dk_at dksJ6_compareTo_0 12 rfl rfl)
theorem dJ6_compareTo_13 : decode cJ6_compareTo 13 = .ok (.getfield 15, 3) := dk_180 0 15 (dk_at dksJ6_compareTo_0 13 rfl rfl)
theorem dJ6_compareTo_16 : decode cJ6_compareTo 16 = .ok (.astore_n 3, 1) := dk_78 (dk_at dksJ6_compareTo_0 16 rfl rfl)
theorem dJ6_compareTo_17 : decode cJ6_compareTo 17 = .ok (.aload_n 0, 1) := dk_42 (dk_at dksJ6_compareTo_0 17 rfl rfl)
theorem dJ6_compareTo_18 : decode cJ6_compareTo 18 = .ok (.getfield 79, 3) := dk_180 0 79 (dk_at dksJ6_compareTo_0 18 rfl rfl)
theorem dJ6_compareTo_21 : decode cJ6_compareTo 21 = .ok (.istore 4, 2) := dk_54 4 (dk_at dksJ6_compareTo_0 21 rfl rfl)
theorem dJ6_compareTo_23 : decode cJ6_compareTo 23 = .ok (.aload_n 1, 1) := dk_43 (dk_at dksJ6_compareTo_0 23 rfl rfl)
theorem dJ6_compareTo_24 : decode cJ6_compareTo 24 = .ok (.getfield 79, 3) := dk_180 0 79 (dk_at dksJ6_compareTo_1 0 rfl rfl)
theorem dJ6_compareTo_27 : decode cJ6_compareTo 27 = .ok (.istore 5, 2) := dk_54 5 (dk_at dksJ6_compareTo_1 3 rfl rfl)
theorem dJ6_compareTo_29 : decode cJ6_compareTo 29 = .ok (.aload_n 0, 1) := dk_42 (dk_at dksJ6_compareTo_1 5 rfl rfl)
theorem dJ6_compareTo_30 : decode cJ6_compareTo 30 = .ok (.getfield 22, 3) := dk_180 0 22 (dk_at dksJ6_compareTo_1 6 rfl rfl)
theorem dJ6_compareTo_33 : decode cJ6_compareTo 33 = .ok (.aload_n 1, 1) := dk_43 (dk_at dksJ6_compareTo_1 9 rfl rfl)
theorem dJ6_compareTo_34 : decode cJ6_compareTo 34 = .ok (.getfield 22, 3) := dk_180 0 22 (dk_at dksJ6_compareTo_1 10 rfl rfl)
theorem dJ6_compareTo_37 : decode cJ6_compareTo 37 = .ok (.if_icmp .ne 32, 3) := dk_160 0 32 (dk_at dksJ6_compareTo_1 13 rfl rfl)
theorem dJ6_compareTo_40 : decode cJ6_compareTo 40 = .ok (.aload_n 0, 1) := dk_42 (dk_at dksJ6_compareTo_1 16 rfl rfl)
theorem dJ6_compareTo_41 : decode cJ6_compareTo 41 = .ok (.invokevirtual 83, 3) := dk_182 0 83 (dk_at dksJ6_compareTo_1 17 rfl rfl)
theorem dJ6_compareTo_44 : decode cJ6_compareTo 44 = .ok (.ifCond .eq 15, 3) := dk_153 0 15 (dk_at dksJ6_compareTo_1 20 rfl rfl)
theorem dJ6_compareTo_47 : decode cJ6_compareTo 47 = .ok (.aload_n 2, 1) := dk_44 (dk_at dksJ6_compareTo_1 23 rfl rfl)
theorem dJ6_compareTo_48 : decode cJ6_compareTo 48 = .ok (.aload_n 3, 1) := dk_45 (dk_at dksJ6_compareTo_2 0 rfl rfl)
theorem dJ6_compareTo_49 : decode cJ6_compareTo 49 = .ok (.iload 4, 2) := dk_21 4 (dk_at dksJ6_compareTo_2 1 rfl rfl)
theorem dJ6_compareTo_51 : decode cJ6_compareTo 51 = .ok (.iload 5, 2) := dk_21 5 (dk_at dksJ6_compareTo_2 3 rfl rfl)
theorem dJ6_compareTo_53 : decode cJ6_compareTo 53 = .ok (.invokestatic 87, 3) := dk_184 0 87 (dk_at dksJ6_compareTo_2 5 rfl rfl)
theorem dJ6_compareTo_56 : decode cJ6_compareTo 56 = .ok (.goto 12, 3) := dk_167 0 12 (dk_at dksJ6_compareTo_2 8 rfl rfl)
theorem dJ6_compareTo_59 : decode cJ6_compareTo 59 = .ok (.aload_n 2, 1) := dk_44 (dk_at dksJ6_compareTo_2 11 rfl rfl)
theorem dJ6_compareTo_60 : decode cJ6_compareTo 60 = .ok (.aload_n 3, 1) := dk_45 (dk_at dksJ6_compareTo_2 12 rfl rfl)
theorem dJ6_compareTo_61 : decode cJ6_compareTo 61 = .ok (.iload 4, 2) := dk_21 4 (dk_at dksJ6_compareTo_2 13 rfl rfl)
theorem dJ6_compareTo_63 : decode cJ6_compareTo 63 = .ok (.iload 5, 2) := dk_21 5 (dk_at dksJ6_compareTo_2 15 rfl rfl)
theorem dJ6_compareTo_65 : decode cJ6_compareTo 65 = .ok (.invokestatic 93, 3) := dk_184 0 93 (dk_at dksJ6_compareTo_2 17 rfl rfl)
theorem dJ6_compareTo_68 : decode cJ6_compareTo 68 = .ok (.ireturn, 1) := dk_172 (dk_at dksJ6_compareTo_2 20 rfl rfl)
theorem dJ6_compareTo_69 : decode cJ6_compareTo 69 = .ok (.aload_n 0, 1) := dk_42 (dk_at dksJ6_compareTo_2 21 rfl rfl)
theorem dJ6_compareTo_70 : decode cJ6_compareTo 70 = .ok (.invokevirtual 83, 3) := dk_182 0 83 (dk_at dksJ6_compareTo_3 0 rfl rfl)
theorem dJ6_compareTo_73 : decode cJ6_compareTo 73 = .ok (.ifCond .eq 15, 3) := dk_153 0 15 (dk_at dksJ6_compareTo_3 3 rfl rfl)
theorem dJ6_compareTo_76 : decode cJ6_compareTo 76 = .ok (.aload_n 2, 1) := dk_44 (dk_at dksJ6_compareTo_3 6 rfl rfl)
theorem dJ6_compareTo_77 : decode cJ6_compareTo 77 = .ok (.aload_n 3, 1) := dk_45 (dk_at dksJ6_compareTo_3 7 rfl rfl)
theorem dJ6_compareTo_78 : decode cJ6_compareTo 78 = .ok (.iload 4, 2) := dk_21 4 (dk_at dksJ6_compareTo_3 8 rfl rfl)
theorem dJ6_compareTo_80 : decode cJ6_compareTo 80 = .ok (.iload 5, 2) := dk_21 5 (dk_at dksJ6_compareTo_3 10 rfl rfl)
theorem dJ6_compareTo_82 : decode cJ6_compareTo 82 = .ok (.invokestatic 94, 3) := dk_184 0 94 (dk_at dksJ6_compareTo_3 12 rfl rfl)
theorem dJ6_compareTo_85 : decode cJ6_compareTo 85 = .ok (.goto 12, 3) := dk_167 0 12 (dk_at dksJ6_compareTo_3 15 rfl rfl)
theorem dJ6_compareTo_88 : decode cJ6_compareTo 88 = .ok (.aload_n 2, 1) := dk_44 (dk_at dksJ6_compareTo_3 18 rfl rfl)
theorem dJ6_compareTo_89 : decode cJ6_compareTo 89 = .ok (.aload_n 3, 1) := dk_45 (dk_at dksJ6_compareTo_3 19 rfl rfl)
theorem dJ6_compareTo_90 : decode cJ6_compareTo 90 = .ok (.iload 4, 2) := dk_21 4 (dk_at dksJ6_compareTo_3 20 rfl rfl)
theorem dJ6_compareTo_92 : decode cJ6_compareTo 92 = .ok (.iload 5, 2) := dk_21 5 (dk_at dksJ6_compareTo_3 22 rfl rfl)
theorem dJ6_compareTo_94 : decode cJ6_compareTo 94 = .ok (.invokestatic 97, 3) := dk_184 0 97 (dk_at dksJ6_compareTo_4 0 rfl rfl)
theorem dJ6_compareTo_97 : decode cJ6_compareTo 97 = .ok (.ireturn, 1) := dk_172 (dk_at dksJ6_compareTo_4 3 rfl rfl)
abbrev cJ6_setLength : ByteArray := prog_33_method_13_code
def yJ6_setLength : MethodName := ⟨RJ6, "setLength", "(I)V"⟩
def dkwJ6_setLength_3 : List UInt8 := [164, 0, 8, 42, 4, 181, 0, 73, 42, 27, 181, 0, 79, 177]
abbrev dktJ6_setLength_3 : List UInt8 := dkwJ6_setLength_3 ++ []
def dkwJ6_setLength_2 : List UInt8 := [167, 0, 31, 42, 180, 0, 15, 42, 180, 0, 79, 27, 184, 0, 137, 167, 0, 16, 42, 180, 0, 79, 27]
abbrev dktJ6_setLength_2 : List UInt8 := dkwJ6_setLength_2 ++ dktJ6_setLength_3
def dkwJ6_setLength_1 : List UInt8 := [162, 0, 40, 42, 182, 0, 83, 153, 0, 18, 42, 180, 0, 15, 42, 180, 0, 79, 27, 184, 0, 133]
abbrev dktJ6_setLength_1 : List UInt8 := dkwJ6_setLength_1 ++ dktJ6_setLength_2
def dkwJ6_setLength_0 : List UInt8 := [27, 156, 0, 12, 187, 0, 129, 89, 27, 183, 0, 131, 191, 42, 27, 182, 0, 100, 42, 180, 0, 79, 27]
abbrev dktJ6_setLength_0 : List UInt8 := dkwJ6_setLength_0 ++ dktJ6_setLength_1
theorem dksJ6_setLength_0 : cJ6_setLength.data.toList.drop 0 = dktJ6_setLength_0 := by decide +kernel
theorem dksJ6_setLength_1 : cJ6_setLength.data.toList.drop 23 = dktJ6_setLength_1 := dk_seg dksJ6_setLength_0 23 rfl rfl
theorem dksJ6_setLength_2 : cJ6_setLength.data.toList.drop 45 = dktJ6_setLength_2 := dk_seg dksJ6_setLength_1 22 rfl rfl
theorem dksJ6_setLength_3 : cJ6_setLength.data.toList.drop 68 = dktJ6_setLength_3 := dk_seg dksJ6_setLength_2 23 rfl rfl
theorem dJ6_setLength_0 : decode cJ6_setLength 0 = .ok (.iload_n 1, 1) := dk_27 (dk_at dksJ6_setLength_0 0 rfl rfl)
theorem dJ6_setLength_1 : decode cJ6_setLength 1 = .ok (.ifCond .ge 12, 3) := dk_156 0 12 (dk_at dksJ6_setLength_0 1 rfl rfl)
theorem dJ6_setLength_4 : decode cJ6_setLength 4 = .ok (.new 129, 3) := dk_187 0 129 (dk_at dksJ6_setLength_0 4 rfl rfl)
theorem dJ6_setLength_7 : decode cJ6_setLength 7 = .ok (.dup, 1) := dk_89 (dk_at dksJ6_setLength_0 7 rfl rfl)
theorem dJ6_setLength_8 : decode cJ6_setLength 8 = .ok (.iload_n 1, 1) := dk_27 (dk_at dksJ6_setLength_0 8 rfl rfl)
theorem dJ6_setLength_9 : decode cJ6_setLength 9 = .ok (.invokespecial 131, 3) := dk_183 0 131 (dk_at dksJ6_setLength_0 9 rfl rfl)
theorem dJ6_setLength_12 : decode cJ6_setLength 12 = .ok (.athrow, 1) := dk_191 (dk_at dksJ6_setLength_0 12 rfl rfl)
theorem dJ6_setLength_13 : decode cJ6_setLength 13 = .ok (.aload_n 0, 1) := dk_42 (dk_at dksJ6_setLength_0 13 rfl rfl)
theorem dJ6_setLength_14 : decode cJ6_setLength 14 = .ok (.iload_n 1, 1) := dk_27 (dk_at dksJ6_setLength_0 14 rfl rfl)
theorem dJ6_setLength_15 : decode cJ6_setLength 15 = .ok (.invokevirtual 100, 3) := dk_182 0 100 (dk_at dksJ6_setLength_0 15 rfl rfl)
theorem dJ6_setLength_18 : decode cJ6_setLength 18 = .ok (.aload_n 0, 1) := dk_42 (dk_at dksJ6_setLength_0 18 rfl rfl)
theorem dJ6_setLength_19 : decode cJ6_setLength 19 = .ok (.getfield 79, 3) := dk_180 0 79 (dk_at dksJ6_setLength_0 19 rfl rfl)
theorem dJ6_setLength_22 : decode cJ6_setLength 22 = .ok (.iload_n 1, 1) := dk_27 (dk_at dksJ6_setLength_0 22 rfl rfl)
theorem dJ6_setLength_23 : decode cJ6_setLength 23 = .ok (.if_icmp .ge 40, 3) := dk_162 0 40 (dk_at dksJ6_setLength_1 0 rfl rfl)
theorem dJ6_setLength_26 : decode cJ6_setLength 26 = .ok (.aload_n 0, 1) := dk_42 (dk_at dksJ6_setLength_1 3 rfl rfl)
theorem dJ6_setLength_27 : decode cJ6_setLength 27 = .ok (.invokevirtual 83, 3) := dk_182 0 83 (dk_at dksJ6_setLength_1 4 rfl rfl)
theorem dJ6_setLength_30 : decode cJ6_setLength 30 = .ok (.ifCond .eq 18, 3) := dk_153 0 18 (dk_at dksJ6_setLength_1 7 rfl rfl)
theorem dJ6_setLength_33 : decode cJ6_setLength 33 = .ok (.aload_n 0, 1) := dk_42 (dk_at dksJ6_setLength_1 10 rfl rfl)
theorem dJ6_setLength_34 : decode cJ6_setLength 34 = .ok (.getfield 15, 3) := dk_180 0 15 (dk_at dksJ6_setLength_1 11 rfl rfl)
theorem dJ6_setLength_37 : decode cJ6_setLength 37 = .ok (.aload_n 0, 1) := dk_42 (dk_at dksJ6_setLength_1 14 rfl rfl)
theorem dJ6_setLength_38 : decode cJ6_setLength 38 = .ok (.getfield 79, 3) := dk_180 0 79 (dk_at dksJ6_setLength_1 15 rfl rfl)
theorem dJ6_setLength_41 : decode cJ6_setLength 41 = .ok (.iload_n 1, 1) := dk_27 (dk_at dksJ6_setLength_1 18 rfl rfl)
theorem dJ6_setLength_42 : decode cJ6_setLength 42 = .ok (.invokestatic 133, 3) := dk_184 0 133 (dk_at dksJ6_setLength_1 19 rfl rfl)
theorem dJ6_setLength_45 : decode cJ6_setLength 45 = .ok (.goto 31, 3) := dk_167 0 31 (dk_at dksJ6_setLength_2 0 rfl rfl)
theorem dJ6_setLength_48 : decode cJ6_setLength 48 = .ok (.aload_n 0, 1) := dk_42 (dk_at dksJ6_setLength_2 3 rfl rfl)
theorem dJ6_setLength_49 : decode cJ6_setLength 49 = .ok (.getfield 15, 3) := dk_180 0 15 (dk_at dksJ6_setLength_2 4 rfl rfl)
theorem dJ6_setLength_52 : decode cJ6_setLength 52 = .ok (.aload_n 0, 1) := dk_42 (dk_at dksJ6_setLength_2 7 rfl rfl)
theorem dJ6_setLength_53 : decode cJ6_setLength 53 = .ok (.getfield 79, 3) := dk_180 0 79 (dk_at dksJ6_setLength_2 8 rfl rfl)
theorem dJ6_setLength_56 : decode cJ6_setLength 56 = .ok (.iload_n 1, 1) := dk_27 (dk_at dksJ6_setLength_2 11 rfl rfl)
theorem dJ6_setLength_57 : decode cJ6_setLength 57 = .ok (.invokestatic 137, 3) := dk_184 0 137 (dk_at dksJ6_setLength_2 12 rfl rfl)
theorem dJ6_setLength_60 : decode cJ6_setLength 60 = .ok (.goto 16, 3) := dk_167 0 16 (dk_at dksJ6_setLength_2 15 rfl rfl)
theorem dJ6_setLength_63 : decode cJ6_setLength 63 = .ok (.aload_n 0, 1) := dk_42 (dk_at dksJ6_setLength_2 18 rfl rfl)
theorem dJ6_setLength_64 : decode cJ6_setLength 64 = .ok (.getfield 79, 3) := dk_180 0 79 (dk_at dksJ6_setLength_2 19 rfl rfl)
theorem dJ6_setLength_67 : decode cJ6_setLength 67 = .ok (.iload_n 1, 1) := dk_27 (dk_at dksJ6_setLength_2 22 rfl rfl)
theorem dJ6_setLength_68 : decode cJ6_setLength 68 = .ok (.if_icmp .le 8, 3) := dk_164 0 8 (dk_at dksJ6_setLength_3 0 rfl rfl)
theorem dJ6_setLength_71 : decode cJ6_setLength 71 = .ok (.aload_n 0, 1) := dk_42 (dk_at dksJ6_setLength_3 3 rfl rfl)
theorem dJ6_setLength_72 : decode cJ6_setLength 72 = .ok (.iconst 1, 1) := dk_4 (dk_at dksJ6_setLength_3 4 rfl rfl)
theorem dJ6_setLength_73 : decode cJ6_setLength 73 = .ok (.putfield 73, 3) := dk_181 0 73 (dk_at dksJ6_setLength_3 5 rfl rfl)
theorem dJ6_setLength_76 : decode cJ6_setLength 76 = .ok (.aload_n 0, 1) := dk_42 (dk_at dksJ6_setLength_3 8 rfl rfl)
theorem dJ6_setLength_77 : decode cJ6_setLength 77 = .ok (.iload_n 1, 1) := dk_27 (dk_at dksJ6_setLength_3 9 rfl rfl)
theorem dJ6_setLength_78 : decode cJ6_setLength 78 = .ok (.putfield 79, 3) := dk_181 0 79 (dk_at dksJ6_setLength_3 10 rfl rfl)
theorem dJ6_setLength_81 : decode cJ6_setLength 81 = .ok (.return_, 1) := dk_177 (dk_at dksJ6_setLength_3 13 rfl rfl)
abbrev cJ6_append_3 : ByteArray := prog_33_method_31_code
def yJ6_append_3 : MethodName := ⟨RJ6, "append", "(C)Ljava/lang/AbstractStringBuilder;"⟩
def dkwJ6_append_3_3 : List UInt8 := [181, 0, 79, 27, 184, 0, 197, 42, 176]
abbrev dktJ6_append_3_3 : List UInt8 := dkwJ6_append_3_3 ++ []
def dkwJ6_append_3_2 : List UInt8 := [182, 0, 83, 153, 0, 7, 42, 182, 0, 195, 42, 180, 0, 15, 42, 89, 180, 0, 79, 90, 4, 96]
abbrev dktJ6_append_3_2 : List UInt8 := dkwJ6_append_3_2 ++ dktJ6_append_3_3
def dkwJ6_append_3_1 : List UInt8 := [42, 180, 0, 15, 42, 89, 180, 0, 79, 90, 4, 96, 181, 0, 79, 27, 145, 84, 167, 0, 33, 42]
abbrev dktJ6_append_3_1 : List UInt8 := dkwJ6_append_3_1 ++ dktJ6_append_3_2
def dkwJ6_append_3_0 : List UInt8 := [42, 42, 180, 0, 79, 4, 96, 182, 0, 100, 42, 182, 0, 83, 153, 0, 31, 27, 184, 0, 191, 153, 0, 24]
abbrev dktJ6_append_3_0 : List UInt8 := dkwJ6_append_3_0 ++ dktJ6_append_3_1
theorem dksJ6_append_3_0 : cJ6_append_3.data.toList.drop 0 = dktJ6_append_3_0 := by decide +kernel
theorem dksJ6_append_3_1 : cJ6_append_3.data.toList.drop 24 = dktJ6_append_3_1 := dk_seg dksJ6_append_3_0 24 rfl rfl
theorem dksJ6_append_3_2 : cJ6_append_3.data.toList.drop 46 = dktJ6_append_3_2 := dk_seg dksJ6_append_3_1 22 rfl rfl
theorem dksJ6_append_3_3 : cJ6_append_3.data.toList.drop 68 = dktJ6_append_3_3 := dk_seg dksJ6_append_3_2 22 rfl rfl
theorem dJ6_append_3_0 : decode cJ6_append_3 0 = .ok (.aload_n 0, 1) := dk_42 (dk_at dksJ6_append_3_0 0 rfl rfl)
theorem dJ6_append_3_1 : decode cJ6_append_3 1 = .ok (.aload_n 0, 1) := dk_42 (dk_at dksJ6_append_3_0 1 rfl rfl)
theorem dJ6_append_3_2 : decode cJ6_append_3 2 = .ok (.getfield 79, 3) := dk_180 0 79 (dk_at dksJ6_append_3_0 2 rfl rfl)
theorem dJ6_append_3_5 : decode cJ6_append_3 5 = .ok (.iconst 1, 1) := dk_4 (dk_at dksJ6_append_3_0 5 rfl rfl)
theorem dJ6_append_3_6 : decode cJ6_append_3 6 = .ok (.iadd, 1) := dk_96 (dk_at dksJ6_append_3_0 6 rfl rfl)
theorem dJ6_append_3_7 : decode cJ6_append_3 7 = .ok (.invokevirtual 100, 3) := dk_182 0 100 (dk_at dksJ6_append_3_0 7 rfl rfl)
theorem dJ6_append_3_10 : decode cJ6_append_3 10 = .ok (.aload_n 0, 1) := dk_42 (dk_at dksJ6_append_3_0 10 rfl rfl)
theorem dJ6_append_3_11 : decode cJ6_append_3 11 = .ok (.invokevirtual 83, 3) := dk_182 0 83 (dk_at dksJ6_append_3_0 11 rfl rfl)
theorem dJ6_append_3_14 : decode cJ6_append_3 14 = .ok (.ifCond .eq 31, 3) := dk_153 0 31 (dk_at dksJ6_append_3_0 14 rfl rfl)
theorem dJ6_append_3_17 : decode cJ6_append_3 17 = .ok (.iload_n 1, 1) := dk_27 (dk_at dksJ6_append_3_0 17 rfl rfl)
theorem dJ6_append_3_18 : decode cJ6_append_3 18 = .ok (.invokestatic 191, 3) := dk_184 0 191 (dk_at dksJ6_append_3_0 18 rfl rfl)
theorem dJ6_append_3_21 : decode cJ6_append_3 21 = .ok (.ifCond .eq 24, 3) := dk_153 0 24 (dk_at dksJ6_append_3_0 21 rfl rfl)
theorem dJ6_append_3_24 : decode cJ6_append_3 24 = .ok (.aload_n 0, 1) := dk_42 (dk_at dksJ6_append_3_1 0 rfl rfl)
theorem dJ6_append_3_25 : decode cJ6_append_3 25 = .ok (.getfield 15, 3) := dk_180 0 15 (dk_at dksJ6_append_3_1 1 rfl rfl)
theorem dJ6_append_3_28 : decode cJ6_append_3 28 = .ok (.aload_n 0, 1) := dk_42 (dk_at dksJ6_append_3_1 4 rfl rfl)
theorem dJ6_append_3_29 : decode cJ6_append_3 29 = .ok (.dup, 1) := dk_89 (dk_at dksJ6_append_3_1 5 rfl rfl)
theorem dJ6_append_3_30 : decode cJ6_append_3 30 = .ok (.getfield 79, 3) := dk_180 0 79 (dk_at dksJ6_append_3_1 6 rfl rfl)
theorem dJ6_append_3_33 : decode cJ6_append_3 33 = .ok (.dup_x1, 1) := dk_90 (dk_at dksJ6_append_3_1 9 rfl rfl)
theorem dJ6_append_3_34 : decode cJ6_append_3 34 = .ok (.iconst 1, 1) := dk_4 (dk_at dksJ6_append_3_1 10 rfl rfl)
theorem dJ6_append_3_35 : decode cJ6_append_3 35 = .ok (.iadd, 1) := dk_96 (dk_at dksJ6_append_3_1 11 rfl rfl)
theorem dJ6_append_3_36 : decode cJ6_append_3 36 = .ok (.putfield 79, 3) := dk_181 0 79 (dk_at dksJ6_append_3_1 12 rfl rfl)
theorem dJ6_append_3_39 : decode cJ6_append_3 39 = .ok (.iload_n 1, 1) := dk_27 (dk_at dksJ6_append_3_1 15 rfl rfl)
theorem dJ6_append_3_40 : decode cJ6_append_3 40 = .ok (.i2b, 1) := dk_145 (dk_at dksJ6_append_3_1 16 rfl rfl)
theorem dJ6_append_3_41 : decode cJ6_append_3 41 = .ok (.bastore, 1) := dk_84 (dk_at dksJ6_append_3_1 17 rfl rfl)
theorem dJ6_append_3_42 : decode cJ6_append_3 42 = .ok (.goto 33, 3) := dk_167 0 33 (dk_at dksJ6_append_3_1 18 rfl rfl)
theorem dJ6_append_3_45 : decode cJ6_append_3 45 = .ok (.aload_n 0, 1) := dk_42 (dk_at dksJ6_append_3_1 21 rfl rfl)
theorem dJ6_append_3_46 : decode cJ6_append_3 46 = .ok (.invokevirtual 83, 3) := dk_182 0 83 (dk_at dksJ6_append_3_2 0 rfl rfl)
theorem dJ6_append_3_49 : decode cJ6_append_3 49 = .ok (.ifCond .eq 7, 3) := dk_153 0 7 (dk_at dksJ6_append_3_2 3 rfl rfl)
theorem dJ6_append_3_52 : decode cJ6_append_3 52 = .ok (.aload_n 0, 1) := dk_42 (dk_at dksJ6_append_3_2 6 rfl rfl)
theorem dJ6_append_3_53 : decode cJ6_append_3 53 = .ok (.invokevirtual 195, 3) := dk_182 0 195 (dk_at dksJ6_append_3_2 7 rfl rfl)
theorem dJ6_append_3_56 : decode cJ6_append_3 56 = .ok (.aload_n 0, 1) := dk_42 (dk_at dksJ6_append_3_2 10 rfl rfl)
theorem dJ6_append_3_57 : decode cJ6_append_3 57 = .ok (.getfield 15, 3) := dk_180 0 15 (dk_at dksJ6_append_3_2 11 rfl rfl)
theorem dJ6_append_3_60 : decode cJ6_append_3 60 = .ok (.aload_n 0, 1) := dk_42 (dk_at dksJ6_append_3_2 14 rfl rfl)
theorem dJ6_append_3_61 : decode cJ6_append_3 61 = .ok (.dup, 1) := dk_89 (dk_at dksJ6_append_3_2 15 rfl rfl)
theorem dJ6_append_3_62 : decode cJ6_append_3 62 = .ok (.getfield 79, 3) := dk_180 0 79 (dk_at dksJ6_append_3_2 16 rfl rfl)
theorem dJ6_append_3_65 : decode cJ6_append_3 65 = .ok (.dup_x1, 1) := dk_90 (dk_at dksJ6_append_3_2 19 rfl rfl)
theorem dJ6_append_3_66 : decode cJ6_append_3 66 = .ok (.iconst 1, 1) := dk_4 (dk_at dksJ6_append_3_2 20 rfl rfl)
theorem dJ6_append_3_67 : decode cJ6_append_3 67 = .ok (.iadd, 1) := dk_96 (dk_at dksJ6_append_3_2 21 rfl rfl)
theorem dJ6_append_3_68 : decode cJ6_append_3 68 = .ok (.putfield 79, 3) := dk_181 0 79 (dk_at dksJ6_append_3_3 0 rfl rfl)
theorem dJ6_append_3_71 : decode cJ6_append_3 71 = .ok (.iload_n 1, 1) := dk_27 (dk_at dksJ6_append_3_3 3 rfl rfl)
theorem dJ6_append_3_72 : decode cJ6_append_3 72 = .ok (.invokestatic 197, 3) := dk_184 0 197 (dk_at dksJ6_append_3_3 4 rfl rfl)
theorem dJ6_append_3_75 : decode cJ6_append_3 75 = .ok (.aload_n 0, 1) := dk_42 (dk_at dksJ6_append_3_3 7 rfl rfl)
theorem dJ6_append_3_76 : decode cJ6_append_3 76 = .ok (.areturn, 1) := dk_176 (dk_at dksJ6_append_3_3 8 rfl rfl)
abbrev cJ6_charAt : ByteArray := prog_33_method_14_code
def yJ6_charAt : MethodName := ⟨RJ6, "charAt", "(I)C"⟩
def dkwJ6_charAt_1 : List UInt8 := [21, 4, 184, 0, 144, 28, 154, 0, 12, 45, 27, 51, 17, 0, 255, 126, 146, 172, 45, 27, 184, 0, 148, 172]
abbrev dktJ6_charAt_1 : List UInt8 := dkwJ6_charAt_1 ++ []
def dkwJ6_charAt_0 : List UInt8 := [42, 180, 0, 22, 61, 42, 180, 0, 15, 78, 42, 180, 0, 79, 45, 190, 28, 122, 184, 0, 138, 54, 4, 27]
abbrev dktJ6_charAt_0 : List UInt8 := dkwJ6_charAt_0 ++ dktJ6_charAt_1
theorem dksJ6_charAt_0 : cJ6_charAt.data.toList.drop 0 = dktJ6_charAt_0 := by decide +kernel
theorem dksJ6_charAt_1 : cJ6_charAt.data.toList.drop 24 = dktJ6_charAt_1 := dk_seg dksJ6_charAt_0 24 rfl rfl
theorem dJ6_charAt_0 : decode cJ6_charAt 0 = .ok (.aload_n 0, 1) := dk_42 (dk_at dksJ6_charAt_0 0 rfl rfl)
theorem dJ6_charAt_1 : decode cJ6_charAt 1 = .ok (.getfield 22, 3) := dk_180 0 22 (dk_at dksJ6_charAt_0 1 rfl rfl)
theorem dJ6_charAt_4 : decode cJ6_charAt 4 = .ok (.istore_n 2, 1) := dk_61 (dk_at dksJ6_charAt_0 4 rfl rfl)
theorem dJ6_charAt_5 : decode cJ6_charAt 5 = .ok (.aload_n 0, 1) := dk_42 (dk_at dksJ6_charAt_0 5 rfl rfl)
theorem dJ6_charAt_6 : decode cJ6_charAt 6 = .ok (.getfield 15, 3) := dk_180 0 15 (dk_at dksJ6_charAt_0 6 rfl rfl)
theorem dJ6_charAt_9 : decode cJ6_charAt 9 = .ok (.astore_n 3, 1) := dk_78 (dk_at dksJ6_charAt_0 9 rfl rfl)
theorem dJ6_charAt_10 : decode cJ6_charAt 10 = .ok (.aload_n 0, 1) := dk_42 (dk_at dksJ6_charAt_0 10 rfl rfl)
theorem dJ6_charAt_11 : decode cJ6_charAt 11 = .ok (.getfield 79, 3) := dk_180 0 79 (dk_at dksJ6_charAt_0 11 rfl rfl)
theorem dJ6_charAt_14 : decode cJ6_charAt 14 = .ok (.aload_n 3, 1) := dk_45 (dk_at dksJ6_charAt_0 14 rfl rfl)
theorem dJ6_charAt_15 : decode cJ6_charAt 15 = .ok (.arraylength, 1) := dk_190 (dk_at dksJ6_charAt_0 15 rfl rfl)
theorem dJ6_charAt_16 : decode cJ6_charAt 16 = .ok (.iload_n 2, 1) := dk_28 (dk_at dksJ6_charAt_0 16 rfl rfl)
theorem dJ6_charAt_17 : decode cJ6_charAt 17 = .ok (.ishr, 1) := dk_122 (dk_at dksJ6_charAt_0 17 rfl rfl)
theorem dJ6_charAt_18 : decode cJ6_charAt 18 = .ok (.invokestatic 138, 3) := dk_184 0 138 (dk_at dksJ6_charAt_0 18 rfl rfl)
theorem dJ6_charAt_21 : decode cJ6_charAt 21 = .ok (.istore 4, 2) := dk_54 4 (dk_at dksJ6_charAt_0 21 rfl rfl)
theorem dJ6_charAt_23 : decode cJ6_charAt 23 = .ok (.iload_n 1, 1) := dk_27 (dk_at dksJ6_charAt_0 23 rfl rfl)
theorem dJ6_charAt_24 : decode cJ6_charAt 24 = .ok (.iload 4, 2) := dk_21 4 (dk_at dksJ6_charAt_1 0 rfl rfl)
theorem dJ6_charAt_26 : decode cJ6_charAt 26 = .ok (.invokestatic 144, 3) := dk_184 0 144 (dk_at dksJ6_charAt_1 2 rfl rfl)
theorem dJ6_charAt_29 : decode cJ6_charAt 29 = .ok (.iload_n 2, 1) := dk_28 (dk_at dksJ6_charAt_1 5 rfl rfl)
theorem dJ6_charAt_30 : decode cJ6_charAt 30 = .ok (.ifCond .ne 12, 3) := dk_154 0 12 (dk_at dksJ6_charAt_1 6 rfl rfl)
theorem dJ6_charAt_33 : decode cJ6_charAt 33 = .ok (.aload_n 3, 1) := dk_45 (dk_at dksJ6_charAt_1 9 rfl rfl)
theorem dJ6_charAt_34 : decode cJ6_charAt 34 = .ok (.iload_n 1, 1) := dk_27 (dk_at dksJ6_charAt_1 10 rfl rfl)
theorem dJ6_charAt_35 : decode cJ6_charAt 35 = .ok (.baload, 1) := dk_51 (dk_at dksJ6_charAt_1 11 rfl rfl)
theorem dJ6_charAt_36 : decode cJ6_charAt 36 = .ok (.sipush 255, 3) := dk_17 0 255 (dk_at dksJ6_charAt_1 12 rfl rfl)
theorem dJ6_charAt_39 : decode cJ6_charAt 39 = .ok (.iand, 1) := dk_126 (dk_at dksJ6_charAt_1 15 rfl rfl)
theorem dJ6_charAt_40 : decode cJ6_charAt 40 = .ok (.i2c, 1) := dk_146 (dk_at dksJ6_charAt_1 16 rfl rfl)
theorem dJ6_charAt_41 : decode cJ6_charAt 41 = .ok (.ireturn, 1) := dk_172 (dk_at dksJ6_charAt_1 17 rfl rfl)
theorem dJ6_charAt_42 : decode cJ6_charAt 42 = .ok (.aload_n 3, 1) := dk_45 (dk_at dksJ6_charAt_1 18 rfl rfl)
theorem dJ6_charAt_43 : decode cJ6_charAt 43 = .ok (.iload_n 1, 1) := dk_27 (dk_at dksJ6_charAt_1 19 rfl rfl)
theorem dJ6_charAt_44 : decode cJ6_charAt 44 = .ok (.invokestatic 148, 3) := dk_184 0 148 (dk_at dksJ6_charAt_1 20 rfl rfl)
theorem dJ6_charAt_47 : decode cJ6_charAt 47 = .ok (.ireturn, 1) := dk_172 (dk_at dksJ6_charAt_1 23 rfl rfl)
theorem q115 : (Jvm.Cond.initialized "java/lang/AbstractStringBuilder") ∈ lw_all := lw_g (lw_at lw_m1 9 rfl) rfl
theorem q354 : (Jvm.Cond.instanceMethod ({ cls := "java/lang/AbstractStringBuilder", name := "<init>", desc := "(I)V" } : Jvm.MethodName)) ∈ lw_all := lw_g (lw_at lw_m2 8 rfl) rfl
theorem q355 : (Jvm.Cond.code ({ cls := "java/lang/AbstractStringBuilder", name := "<init>", desc := "(I)V" } : Jvm.MethodName) prog_33_method_2_code (2 : Nat) (Option.none : Option Jvm.ClassFile.FieldType)) ∈ lw_all := lw_g (lw_at lw_m2 9 rfl) rfl
theorem q356 : (Jvm.Cond.methodLink "java/lang/AbstractStringBuilder" (3 : Nat) ({ cls := "java/lang/Object", name := "<init>", desc := "()V" } : Jvm.MethodName)) ∈ lw_all := lw_g (lw_at lw_m2 10 rfl) rfl
theorem q357 : (Jvm.Cond.fieldLink "java/lang/AbstractStringBuilder" (18 : Nat) "java/lang/String" "COMPACT_STRINGS" "Z") ∈ lw_all := lw_g (lw_at lw_m2 11 rfl) rfl
theorem q359 : (Jvm.Cond.methodLink "java/lang/AbstractStringBuilder" (26 : Nat) ({ cls := "java/lang/StringUTF16", name := "newBytesFor", desc := "(I)[B" } : Jvm.MethodName)) ∈ lw_all := lw_g (lw_at lw_m2 13 rfl) rfl
theorem q366 : (Jvm.Cond.fieldLink "java/lang/AbstractStringBuilder" (15 : Nat) "java/lang/AbstractStringBuilder" "value" "[B") ∈ lw_all := lw_g (lw_at lw_m2 20 rfl) rfl
theorem q367 : (Jvm.Cond.fieldLink "java/lang/AbstractStringBuilder" (22 : Nat) "java/lang/AbstractStringBuilder" "coder" "B") ∈ lw_all := lw_g (lw_at lw_m2 21 rfl) rfl
theorem q368 : (Jvm.Cond.fieldLink "java/lang/AbstractStringBuilder" (73 : Nat) "java/lang/AbstractStringBuilder" "maybeLatin1" "Z") ∈ lw_all := lw_g (lw_at lw_m2 22 rfl) rfl
theorem q370 : (Jvm.Cond.fieldLink "java/lang/AbstractStringBuilder" (79 : Nat) "java/lang/AbstractStringBuilder" "count" "I") ∈ lw_all := lw_g (lw_at lw_m2 24 rfl) rfl
theorem q372 : (Jvm.Cond.soleField "java/lang/AbstractStringBuilder" "value") ∈ lw_all := lw_g (lw_at lw_m2 26 rfl) rfl
theorem q374 : (Jvm.Cond.soleField "java/lang/AbstractStringBuilder" "coder") ∈ lw_all := lw_g (lw_at lw_m2 28 rfl) rfl
theorem q376 : (Jvm.Cond.soleField "java/lang/AbstractStringBuilder" "maybeLatin1") ∈ lw_all := lw_g (lw_at lw_m2 30 rfl) rfl
theorem q378 : (Jvm.Cond.soleField "java/lang/AbstractStringBuilder" "count") ∈ lw_all := lw_g (lw_at lw_m2 32 rfl) rfl
theorem q624 : (Jvm.Cond.instanceMethod ({ cls := "java/lang/AbstractStringBuilder", name := "append", desc := "(Ljava/lang/String;)Ljava/lang/AbstractStringBuilder;" } : Jvm.MethodName)) ∈ lw_all := lw_g (lw_at lw_m3 38 rfl) rfl
theorem q625 : (Jvm.Cond.code ({ cls := "java/lang/AbstractStringBuilder", name := "append", desc := "(Ljava/lang/String;)Ljava/lang/AbstractStringBuilder;" } : Jvm.MethodName) prog_33_method_22_code (3 : Nat) (Option.some (Jvm.ClassFile.FieldType.object "java/lang/AbstractStringBuilder"))) ∈ lw_all := lw_g (lw_at lw_m3 39 rfl) rfl
theorem q626 : (Jvm.Cond.methodLink "java/lang/AbstractStringBuilder" (204 : Nat) ({ cls := "java/lang/AbstractStringBuilder", name := "appendNull", desc := "()Ljava/lang/AbstractStringBuilder;" } : Jvm.MethodName)) ∈ lw_all := lw_g (lw_at lw_m3 40 rfl) rfl
theorem q627 : (Jvm.Cond.privateMethod ({ cls := "java/lang/AbstractStringBuilder", name := "appendNull", desc := "()Ljava/lang/AbstractStringBuilder;" } : Jvm.MethodName)) ∈ lw_tbl := lw_at lw_m3 41 rfl
theorem q628 : (Jvm.Cond.instanceMethod ({ cls := "java/lang/AbstractStringBuilder", name := "appendNull", desc := "()Ljava/lang/AbstractStringBuilder;" } : Jvm.MethodName)) ∈ lw_all := lw_g (lw_at lw_m3 42 rfl) rfl
theorem q629 : (Jvm.Cond.code ({ cls := "java/lang/AbstractStringBuilder", name := "appendNull", desc := "()Ljava/lang/AbstractStringBuilder;" } : Jvm.MethodName) prog_33_method_26_code (3 : Nat) (Option.some (Jvm.ClassFile.FieldType.object "java/lang/AbstractStringBuilder"))) ∈ lw_all := lw_g (lw_at lw_m3 43 rfl) rfl
theorem q630 : (Jvm.Cond.methodLink "java/lang/AbstractStringBuilder" (100 : Nat) ({ cls := "java/lang/AbstractStringBuilder", name := "ensureCapacityInternal", desc := "(I)V" } : Jvm.MethodName)) ∈ lw_all := lw_g (lw_at lw_m3 44 rfl) rfl
theorem q631 : (Jvm.Cond.privateMethod ({ cls := "java/lang/AbstractStringBuilder", name := "ensureCapacityInternal", desc := "(I)V" } : Jvm.MethodName)) ∈ lw_tbl := lw_at lw_m3 45 rfl
theorem q632 : (Jvm.Cond.instanceMethod ({ cls := "java/lang/AbstractStringBuilder", name := "ensureCapacityInternal", desc := "(I)V" } : Jvm.MethodName)) ∈ lw_all := lw_g (lw_at lw_m3 46 rfl) rfl
theorem q633 : (Jvm.Cond.code ({ cls := "java/lang/AbstractStringBuilder", name := "ensureCapacityInternal", desc := "(I)V" } : Jvm.MethodName) prog_33_method_9_code (3 : Nat) (Option.none : Option Jvm.ClassFile.FieldType)) ∈ lw_all := lw_g (lw_at lw_m3 47 rfl) rfl
theorem q634 : (Jvm.Cond.methodLink "java/lang/AbstractStringBuilder" (104 : Nat) ({ cls := "java/lang/AbstractStringBuilder", name := "newCapacity", desc := "(I)I" } : Jvm.MethodName)) ∈ lw_all := lw_g (lw_at lw_m3 48 rfl) rfl
theorem q635 : (Jvm.Cond.privateMethod ({ cls := "java/lang/AbstractStringBuilder", name := "newCapacity", desc := "(I)I" } : Jvm.MethodName)) ∈ lw_tbl := lw_at lw_m3 49 rfl
theorem q636 : (Jvm.Cond.instanceMethod ({ cls := "java/lang/AbstractStringBuilder", name := "newCapacity", desc := "(I)I" } : Jvm.MethodName)) ∈ lw_all := lw_g (lw_at lw_m3 50 rfl) rfl
theorem q637 : (Jvm.Cond.code ({ cls := "java/lang/AbstractStringBuilder", name := "newCapacity", desc := "(I)I" } : Jvm.MethodName) prog_33_method_10_code (6 : Nat) (Option.some Jvm.ClassFile.FieldType.int)) ∈ lw_all := lw_g (lw_at lw_m3 51 rfl) rfl
theorem q638 : (Jvm.Cond.methodLink "java/lang/AbstractStringBuilder" (114 : Nat) ({ cls := "jdk/internal/util/ArraysSupport", name := "newLength", desc := "(III)I" } : Jvm.MethodName)) ∈ lw_all := lw_g (lw_at lw_m3 52 rfl) rfl
theorem q648 : (Jvm.Cond.constant "java/lang/AbstractStringBuilder" (39 : Nat) (2147483647 : Int32)) ∈ lw_all := lw_g (lw_at lw_m3 62 rfl) rfl
theorem q649 : (Jvm.Cond.methodLink "java/lang/AbstractStringBuilder" (108 : Nat) ({ cls := "java/util/Arrays", name := "copyOf", desc := "([BI)[B" } : Jvm.MethodName)) ∈ lw_all := lw_g (lw_at lw_m3 63 rfl) rfl
theorem q665 : (Jvm.Cond.methodLink "java/lang/AbstractStringBuilder" (83 : Nat) ({ cls := "java/lang/AbstractStringBuilder", name := "isLatin1", desc := "()Z" } : Jvm.MethodName)) ∈ lw_all := lw_g (lw_at lw_m3 79 rfl) rfl
theorem q666 : (Jvm.Cond.instanceMethod ({ cls := "java/lang/AbstractStringBuilder", name := "isLatin1", desc := "()Z" } : Jvm.MethodName)) ∈ lw_all := lw_g (lw_at lw_m3 80 rfl) rfl
theorem q667 : (Jvm.Cond.sameMethod "java/lang/AbstractStringBuilder" "java/lang/AbstractStringBuilder" "isLatin1" "()Z") ∈ lw_all := lw_g (lw_at lw_m3 81 rfl) rfl
theorem q669 : (Jvm.Cond.code ({ cls := "java/lang/AbstractStringBuilder", name := "isLatin1", desc := "()Z" } : Jvm.MethodName) prog_33_method_68_code (1 : Nat) (Option.some Jvm.ClassFile.FieldType.boolean)) ∈ lw_all := lw_g (lw_at lw_m3 83 rfl) rfl
theorem q670 : (Jvm.Cond.methodLink "java/lang/AbstractStringBuilder" (226 : Nat) ({ cls := "java/lang/StringUTF16", name := "putCharsAt", desc := "([BICCCC)I" } : Jvm.MethodName)) ∈ lw_all := lw_g (lw_at lw_m3 84 rfl) rfl
theorem q696 : (Jvm.Cond.methodLink "java/lang/AbstractStringBuilder" (32 : Nat) ({ cls := "java/lang/String", name := "length", desc := "()I" } : Jvm.MethodName)) ∈ lw_all := lw_g (lw_at lw_m3 110 rfl) rfl
theorem q705 : (Jvm.Cond.methodLink "java/lang/AbstractStringBuilder" (208 : Nat) ({ cls := "java/lang/AbstractStringBuilder", name := "putStringAt", desc := "(ILjava/lang/String;)V" } : Jvm.MethodName)) ∈ lw_all := lw_g (lw_at lw_m3 119 rfl) rfl
theorem q706 : (Jvm.Cond.privateMethod ({ cls := "java/lang/AbstractStringBuilder", name := "putStringAt", desc := "(ILjava/lang/String;)V" } : Jvm.MethodName)) ∈ lw_tbl := lw_at lw_m3 120 rfl
theorem q707 : (Jvm.Cond.instanceMethod ({ cls := "java/lang/AbstractStringBuilder", name := "putStringAt", desc := "(ILjava/lang/String;)V" } : Jvm.MethodName)) ∈ lw_all := lw_g (lw_at lw_m3 121 rfl) rfl
theorem q708 : (Jvm.Cond.code ({ cls := "java/lang/AbstractStringBuilder", name := "putStringAt", desc := "(ILjava/lang/String;)V" } : Jvm.MethodName) prog_33_method_73_code (3 : Nat) (Option.none : Option Jvm.ClassFile.FieldType)) ∈ lw_all := lw_g (lw_at lw_m3 122 rfl) rfl
theorem q709 : (Jvm.Cond.methodLink "java/lang/AbstractStringBuilder" (397 : Nat) ({ cls := "java/lang/AbstractStringBuilder", name := "inflateIfNeededFor", desc := "(Ljava/lang/String;)V" } : Jvm.MethodName)) ∈ lw_all := lw_g (lw_at lw_m3 123 rfl) rfl
theorem q710 : (Jvm.Cond.privateMethod ({ cls := "java/lang/AbstractStringBuilder", name := "inflateIfNeededFor", desc := "(Ljava/lang/String;)V" } : Jvm.MethodName)) ∈ lw_tbl := lw_at lw_m3 124 rfl
theorem q711 : (Jvm.Cond.instanceMethod ({ cls := "java/lang/AbstractStringBuilder", name := "inflateIfNeededFor", desc := "(Ljava/lang/String;)V" } : Jvm.MethodName)) ∈ lw_all := lw_g (lw_at lw_m3 125 rfl) rfl
theorem q712 : (Jvm.Cond.code ({ cls := "java/lang/AbstractStringBuilder", name := "inflateIfNeededFor", desc := "(Ljava/lang/String;)V" } : Jvm.MethodName) prog_33_method_71_code (2 : Nat) (Option.none : Option Jvm.ClassFile.FieldType)) ∈ lw_all := lw_g (lw_at lw_m3 126 rfl) rfl
theorem q713 : (Jvm.Cond.methodLink "java/lang/AbstractStringBuilder" (40 : Nat) ({ cls := "java/lang/String", name := "coder", desc := "()B" } : Jvm.MethodName)) ∈ lw_all := lw_g (lw_at lw_m3 127 rfl) rfl
theorem q714 : (Jvm.Cond.methodLink "java/lang/AbstractStringBuilder" (195 : Nat) ({ cls := "java/lang/AbstractStringBuilder", name := "inflate", desc := "()V" } : Jvm.MethodName)) ∈ lw_all := lw_g (lw_at lw_m3 128 rfl) rfl
theorem q715 : (Jvm.Cond.privateMethod ({ cls := "java/lang/AbstractStringBuilder", name := "inflate", desc := "()V" } : Jvm.MethodName)) ∈ lw_tbl := lw_at lw_m3 129 rfl
theorem q716 : (Jvm.Cond.instanceMethod ({ cls := "java/lang/AbstractStringBuilder", name := "inflate", desc := "()V" } : Jvm.MethodName)) ∈ lw_all := lw_g (lw_at lw_m3 130 rfl) rfl
theorem q717 : (Jvm.Cond.code ({ cls := "java/lang/AbstractStringBuilder", name := "inflate", desc := "()V" } : Jvm.MethodName) prog_33_method_11_code (2 : Nat) (Option.none : Option Jvm.ClassFile.FieldType)) ∈ lw_all := lw_g (lw_at lw_m3 131 rfl) rfl
theorem q718 : (Jvm.Cond.methodLink "java/lang/AbstractStringBuilder" (125 : Nat) ({ cls := "java/lang/StringLatin1", name := "inflate", desc := "([BI[BII)V" } : Jvm.MethodName)) ∈ lw_all := lw_g (lw_at lw_m3 132 rfl) rfl
theorem q733 : (Jvm.Cond.methodLink "java/lang/AbstractStringBuilder" (399 : Nat) ({ cls := "java/lang/String", name := "getBytes", desc := "([BIB)V" } : Jvm.MethodName)) ∈ lw_all := lw_g (lw_at lw_m3 147 rfl) rfl
theorem q744 : (Jvm.Cond.instanceMethod ({ cls := "java/lang/AbstractStringBuilder", name := "append", desc := "(I)Ljava/lang/AbstractStringBuilder;" } : Jvm.MethodName)) ∈ lw_all := lw_g (lw_at lw_m3 158 rfl) rfl
theorem q745 : (Jvm.Cond.code ({ cls := "java/lang/AbstractStringBuilder", name := "append", desc := "(I)Ljava/lang/AbstractStringBuilder;" } : Jvm.MethodName) prog_33_method_32_code (4 : Nat) (Option.some (Jvm.ClassFile.FieldType.object "java/lang/AbstractStringBuilder"))) ∈ lw_all := lw_g (lw_at lw_m3 159 rfl) rfl
theorem q746 : (Jvm.Cond.methodLink "java/lang/AbstractStringBuilder" (245 : Nat) ({ cls := "java/lang/Integer", name := "stringSize", desc := "(I)I" } : Jvm.MethodName)) ∈ lw_all := lw_g (lw_at lw_m3 160 rfl) rfl
theorem q749 : (Jvm.Cond.methodLink "java/lang/AbstractStringBuilder" (248 : Nat) ({ cls := "java/lang/Integer", name := "getChars", desc := "(II[B)I" } : Jvm.MethodName)) ∈ lw_all := lw_g (lw_at lw_m3 163 rfl) rfl
theorem q756 : (Jvm.Cond.methodLink "java/lang/AbstractStringBuilder" (251 : Nat) ({ cls := "java/lang/StringUTF16", name := "getChars", desc := "(III[B)I" } : Jvm.MethodName)) ∈ lw_all := lw_g (lw_at lw_m3 170 rfl) rfl
theorem q779 : (Jvm.Cond.instanceMethod ({ cls := "java/lang/AbstractStringBuilder", name := "getValue", desc := "()[B" } : Jvm.MethodName)) ∈ lw_all := lw_g (lw_at lw_m3 193 rfl) rfl
theorem q780 : (Jvm.Cond.sameMethod "java/lang/AbstractStringBuilder" "java/lang/AbstractStringBuilder" "getValue" "()[B") ∈ lw_all := lw_g (lw_at lw_m3 194 rfl) rfl
theorem q782 : (Jvm.Cond.code ({ cls := "java/lang/AbstractStringBuilder", name := "getValue", desc := "()[B" } : Jvm.MethodName) prog_33_method_64_code (1 : Nat) (Option.some (Jvm.ClassFile.FieldType.array Jvm.ClassFile.FieldType.byte))) ∈ lw_all := lw_g (lw_at lw_m3 196 rfl) rfl
theorem q784 : (Jvm.Cond.instanceMethod ({ cls := "java/lang/AbstractStringBuilder", name := "length", desc := "()I" } : Jvm.MethodName)) ∈ lw_all := lw_g (lw_at lw_m3 198 rfl) rfl
theorem q785 : (Jvm.Cond.sameMethod "java/lang/AbstractStringBuilder" "java/lang/AbstractStringBuilder" "length" "()I") ∈ lw_all := lw_g (lw_at lw_m3 199 rfl) rfl
theorem q790 : (Jvm.Cond.code ({ cls := "java/lang/AbstractStringBuilder", name := "length", desc := "()I" } : Jvm.MethodName) prog_33_method_6_code (1 : Nat) (Option.some Jvm.ClassFile.FieldType.int)) ∈ lw_all := lw_g (lw_at lw_m3 204 rfl) rfl
theorem q2110 : (Jvm.Cond.instanceMethod ({ cls := "java/lang/AbstractStringBuilder", name := "compareTo", desc := "(Ljava/lang/AbstractStringBuilder;)I" } : Jvm.MethodName)) ∈ lw_all := lw_g (lw_at lw_m9 84 rfl) rfl
theorem q2111 : (Jvm.Cond.code ({ cls := "java/lang/AbstractStringBuilder", name := "compareTo", desc := "(Ljava/lang/AbstractStringBuilder;)I" } : Jvm.MethodName) prog_33_method_5_code (6 : Nat) (Option.some Jvm.ClassFile.FieldType.int)) ∈ lw_all := lw_g (lw_at lw_m9 85 rfl) rfl
theorem q2112 : (Jvm.Cond.methodLink "java/lang/AbstractStringBuilder" (87 : Nat) ({ cls := "java/lang/StringLatin1", name := "compareTo", desc := "([B[BII)I" } : Jvm.MethodName)) ∈ lw_all := lw_g (lw_at lw_m9 86 rfl) rfl
theorem q2113 : (Jvm.Cond.methodLink "java/lang/AbstractStringBuilder" (93 : Nat) ({ cls := "java/lang/StringUTF16", name := "compareTo", desc := "([B[BII)I" } : Jvm.MethodName)) ∈ lw_all := lw_g (lw_at lw_m9 87 rfl) rfl
theorem q2122 : (Jvm.Cond.methodLink "java/lang/AbstractStringBuilder" (94 : Nat) ({ cls := "java/lang/StringLatin1", name := "compareToUTF16", desc := "([B[BII)I" } : Jvm.MethodName)) ∈ lw_all := lw_g (lw_at lw_m9 96 rfl) rfl
theorem q2126 : (Jvm.Cond.methodLink "java/lang/AbstractStringBuilder" (97 : Nat) ({ cls := "java/lang/StringUTF16", name := "compareToLatin1", desc := "([B[BII)I" } : Jvm.MethodName)) ∈ lw_all := lw_g (lw_at lw_m9 100 rfl) rfl
theorem q3021 : (Jvm.Cond.instanceMethod ({ cls := "java/lang/AbstractStringBuilder", name := "setLength", desc := "(I)V" } : Jvm.MethodName)) ∈ lw_all := lw_g (lw_at lw_m13 35 rfl) rfl
theorem q3022 : (Jvm.Cond.code ({ cls := "java/lang/AbstractStringBuilder", name := "setLength", desc := "(I)V" } : Jvm.MethodName) prog_33_method_13_code (2 : Nat) (Option.none : Option Jvm.ClassFile.FieldType)) ∈ lw_all := lw_g (lw_at lw_m13 36 rfl) rfl
theorem q3023 : (Jvm.Cond.classLink "java/lang/AbstractStringBuilder" (129 : Nat) "java/lang/StringIndexOutOfBoundsException") ∈ lw_all := lw_g (lw_at lw_m13 37 rfl) rfl
theorem q3025 : (Jvm.Cond.methodLink "java/lang/AbstractStringBuilder" (131 : Nat) ({ cls := "java/lang/StringIndexOutOfBoundsException", name := "<init>", desc := "(I)V" } : Jvm.MethodName)) ∈ lw_all := lw_g (lw_at lw_m13 39 rfl) rfl
theorem q3042 : (Jvm.Cond.methodLink "java/lang/AbstractStringBuilder" (133 : Nat) ({ cls := "java/lang/StringLatin1", name := "fillNull", desc := "([BII)V" } : Jvm.MethodName)) ∈ lw_all := lw_g (lw_at lw_m13 56 rfl) rfl
theorem q3064 : (Jvm.Cond.methodLink "java/lang/AbstractStringBuilder" (137 : Nat) ({ cls := "java/lang/StringUTF16", name := "fillNull", desc := "([BII)V" } : Jvm.MethodName)) ∈ lw_all := lw_g (lw_at lw_m13 78 rfl) rfl
theorem q3074 : (Jvm.Cond.instanceMethod ({ cls := "java/lang/AbstractStringBuilder", name := "append", desc := "(C)Ljava/lang/AbstractStringBuilder;" } : Jvm.MethodName)) ∈ lw_all := lw_g (lw_at lw_m13 88 rfl) rfl
theorem q3075 : (Jvm.Cond.code ({ cls := "java/lang/AbstractStringBuilder", name := "append", desc := "(C)Ljava/lang/AbstractStringBuilder;" } : Jvm.MethodName) prog_33_method_31_code (2 : Nat) (Option.some (Jvm.ClassFile.FieldType.object "java/lang/AbstractStringBuilder"))) ∈ lw_all := lw_g (lw_at lw_m13 89 rfl) rfl
theorem q3076 : (Jvm.Cond.methodLink "java/lang/AbstractStringBuilder" (191 : Nat) ({ cls := "java/lang/StringLatin1", name := "canEncode", desc := "(C)Z" } : Jvm.MethodName)) ∈ lw_all := lw_g (lw_at lw_m13 90 rfl) rfl
theorem q3079 : (Jvm.Cond.methodLink "java/lang/AbstractStringBuilder" (197 : Nat) ({ cls := "java/lang/StringUTF16", name := "putCharSB", desc := "([BII)V" } : Jvm.MethodName)) ∈ lw_all := lw_g (lw_at lw_m13 93 rfl) rfl
theorem q3104 : (Jvm.Cond.instanceMethod ({ cls := "java/lang/AbstractStringBuilder", name := "charAt", desc := "(I)C" } : Jvm.MethodName)) ∈ lw_all := lw_g (lw_at lw_m13 118 rfl) rfl
theorem q3105 : (Jvm.Cond.code ({ cls := "java/lang/AbstractStringBuilder", name := "charAt", desc := "(I)C" } : Jvm.MethodName) prog_33_method_14_code (5 : Nat) (Option.some Jvm.ClassFile.FieldType.char)) ∈ lw_all := lw_g (lw_at lw_m13 119 rfl) rfl
theorem q3106 : (Jvm.Cond.methodLink "java/lang/AbstractStringBuilder" (138 : Nat) ({ cls := "java/lang/Math", name := "min", desc := "(II)I" } : Jvm.MethodName)) ∈ lw_all := lw_g (lw_at lw_m13 120 rfl) rfl
theorem q3107 : (Jvm.Cond.methodLink "java/lang/AbstractStringBuilder" (144 : Nat) ({ cls := "java/lang/String", name := "checkIndex", desc := "(II)V" } : Jvm.MethodName)) ∈ lw_all := lw_g (lw_at lw_m13 121 rfl) rfl
theorem q3108 : (Jvm.Cond.methodLink "java/lang/AbstractStringBuilder" (148 : Nat) ({ cls := "java/lang/StringUTF16", name := "getChar", desc := "([BI)C" } : Jvm.MethodName)) ∈ lw_all := lw_g (lw_at lw_m13 122 rfl) rfl
theorem q3957 : (Jvm.Cond.sameMethod "java/lang/AbstractStringBuilder" "java/lang/AbstractStringBuilder" "append" "(Ljava/lang/String;)Ljava/lang/AbstractStringBuilder;") ∈ lw_all := lw_g (lw_at lw_m17 11 rfl) rfl
theorem q3958 : (Jvm.Cond.sameMethod "java/lang/AbstractStringBuilder" "java/lang/AbstractStringBuilder" "appendNull" "()Ljava/lang/AbstractStringBuilder;") ∈ lw_all := lw_g (lw_at lw_m17 12 rfl) rfl
theorem q3959 : (Jvm.Cond.sameMethod "java/lang/AbstractStringBuilder" "java/lang/AbstractStringBuilder" "ensureCapacityInternal" "(I)V") ∈ lw_all := lw_g (lw_at lw_m17 13 rfl) rfl
theorem q3960 : (Jvm.Cond.sameMethod "java/lang/AbstractStringBuilder" "java/lang/AbstractStringBuilder" "newCapacity" "(I)I") ∈ lw_all := lw_g (lw_at lw_m17 14 rfl) rfl
theorem q3961 : (Jvm.Cond.sameMethod "java/lang/AbstractStringBuilder" "java/lang/AbstractStringBuilder" "putStringAt" "(ILjava/lang/String;)V") ∈ lw_all := lw_g (lw_at lw_m17 15 rfl) rfl
theorem q3962 : (Jvm.Cond.sameMethod "java/lang/AbstractStringBuilder" "java/lang/AbstractStringBuilder" "inflateIfNeededFor" "(Ljava/lang/String;)V") ∈ lw_all := lw_g (lw_at lw_m17 16 rfl) rfl
theorem q3963 : (Jvm.Cond.sameMethod "java/lang/AbstractStringBuilder" "java/lang/AbstractStringBuilder" "inflate" "()V") ∈ lw_all := lw_g (lw_at lw_m17 17 rfl) rfl
theorem q3964 : (Jvm.Cond.sameMethod "java/lang/AbstractStringBuilder" "java/lang/AbstractStringBuilder" "append" "(I)Ljava/lang/AbstractStringBuilder;") ∈ lw_all := lw_g (lw_at lw_m17 18 rfl) rfl
theorem q3967 : (Jvm.Cond.sameMethod "java/lang/AbstractStringBuilder" "java/lang/AbstractStringBuilder" "compareTo" "(Ljava/lang/AbstractStringBuilder;)I") ∈ lw_all := lw_g (lw_at lw_m17 21 rfl) rfl
theorem q3969 : (Jvm.Cond.sameMethod "java/lang/AbstractStringBuilder" "java/lang/AbstractStringBuilder" "setLength" "(I)V") ∈ lw_all := lw_g (lw_at lw_m17 23 rfl) rfl
theorem q3970 : (Jvm.Cond.sameMethod "java/lang/AbstractStringBuilder" "java/lang/AbstractStringBuilder" "append" "(C)Ljava/lang/AbstractStringBuilder;") ∈ lw_all := lw_g (lw_at lw_m17 24 rfl) rfl
theorem q3972 : (Jvm.Cond.sameMethod "java/lang/AbstractStringBuilder" "java/lang/AbstractStringBuilder" "charAt" "(I)C") ∈ lw_all := lw_g (lw_at lw_m17 26 rfl) rfl

/-! java/lang/StringBuilder -/
set_option maxRecDepth 100000
def RJ7 : String := "java/lang/StringBuilder"
def TJ7 : u_T := fun k => match k with
  | 0 => ("java/lang/AbstractStringBuilder", "value", "[B", false)
  | 1 => ("java/lang/AbstractStringBuilder", "coder", "B", false)
  | 2 => ("java/lang/AbstractStringBuilder", "maybeLatin1", "Z", false)
  | _ => ("java/lang/AbstractStringBuilder", "count", "I", false)
def tyJ7 : Nat → FieldType := fun k => match k with
  | 0 => .array .byte
  | 1 => .byte
  | 2 => .boolean
  | _ => .int
abbrev wsJ70 : List Cond := u_ws RJ7 TJ7 4
theorem nmJ7 : ∀ a, a < 4 → ∀ b, b < 4 → a ≠ b → (TJ7 a).2.1 ≠ (TJ7 b).2.1 := by decide +kernel
theorem tyJ7_ok : ∀ k, k < 4 → parseFieldDescriptor (TJ7 k).2.2.1 = some (tyJ7 k) := by decide +kernel
abbrev cJ7_init : ByteArray := prog_52_method_1_code
def yJ7_init : MethodName := ⟨RJ7, "<init>", "()V"⟩
def dkwJ7_init_0 : List UInt8 := [42, 16, 16, 183, 0, 1, 177]
abbrev dktJ7_init_0 : List UInt8 := dkwJ7_init_0 ++ []
theorem dksJ7_init_0 : cJ7_init.data.toList.drop 0 = dktJ7_init_0 := by decide +kernel
theorem dJ7_init_0 : decode cJ7_init 0 = .ok (.aload_n 0, 1) := dk_42 (dk_at dksJ7_init_0 0 rfl rfl)
theorem dJ7_init_1 : decode cJ7_init 1 = .ok (.bipush 16, 2) := dk_16 16 (dk_at dksJ7_init_0 1 rfl rfl)
theorem dJ7_init_3 : decode cJ7_init 3 = .ok (.invokespecial 1, 3) := dk_183 0 1 (dk_at dksJ7_init_0 3 rfl rfl)
theorem dJ7_init_6 : decode cJ7_init 6 = .ok (.return_, 1) := dk_177 (dk_at dksJ7_init_0 6 rfl rfl)
abbrev cJ7_append : ByteArray := prog_52_method_7_code
def yJ7_append : MethodName := ⟨RJ7, "append", "(Ljava/lang/String;)Ljava/lang/StringBuilder;"⟩
def dkwJ7_append_0 : List UInt8 := [42, 43, 183, 0, 29, 87, 42, 176]
abbrev dktJ7_append_0 : List UInt8 := dkwJ7_append_0 ++ []
theorem dksJ7_append_0 : cJ7_append.data.toList.drop 0 = dktJ7_append_0 := by decide +kernel
theorem dJ7_append_0 : decode cJ7_append 0 = .ok (.aload_n 0, 1) := dk_42 (dk_at dksJ7_append_0 0 rfl rfl)
theorem dJ7_append_1 : decode cJ7_append 1 = .ok (.aload_n 1, 1) := dk_43 (dk_at dksJ7_append_0 1 rfl rfl)
theorem dJ7_append_2 : decode cJ7_append 2 = .ok (.invokespecial 29, 3) := dk_183 0 29 (dk_at dksJ7_append_0 2 rfl rfl)
theorem dJ7_append_5 : decode cJ7_append 5 = .ok (.pop, 1) := dk_87 (dk_at dksJ7_append_0 5 rfl rfl)
theorem dJ7_append_6 : decode cJ7_append 6 = .ok (.aload_n 0, 1) := dk_42 (dk_at dksJ7_append_0 6 rfl rfl)
theorem dJ7_append_7 : decode cJ7_append 7 = .ok (.areturn, 1) := dk_176 (dk_at dksJ7_append_0 7 rfl rfl)
abbrev cJ7_append_2 : ByteArray := prog_52_method_15_code
def yJ7_append_2 : MethodName := ⟨RJ7, "append", "(I)Ljava/lang/StringBuilder;"⟩
def dkwJ7_append_2_0 : List UInt8 := [42, 27, 183, 0, 53, 87, 42, 176]
abbrev dktJ7_append_2_0 : List UInt8 := dkwJ7_append_2_0 ++ []
theorem dksJ7_append_2_0 : cJ7_append_2.data.toList.drop 0 = dktJ7_append_2_0 := by decide +kernel
theorem dJ7_append_2_0 : decode cJ7_append_2 0 = .ok (.aload_n 0, 1) := dk_42 (dk_at dksJ7_append_2_0 0 rfl rfl)
theorem dJ7_append_2_1 : decode cJ7_append_2 1 = .ok (.iload_n 1, 1) := dk_27 (dk_at dksJ7_append_2_0 1 rfl rfl)
theorem dJ7_append_2_2 : decode cJ7_append_2 2 = .ok (.invokespecial 53, 3) := dk_183 0 53 (dk_at dksJ7_append_2_0 2 rfl rfl)
theorem dJ7_append_2_5 : decode cJ7_append_2 5 = .ok (.pop, 1) := dk_87 (dk_at dksJ7_append_2_0 5 rfl rfl)
theorem dJ7_append_2_6 : decode cJ7_append_2 6 = .ok (.aload_n 0, 1) := dk_42 (dk_at dksJ7_append_2_0 6 rfl rfl)
theorem dJ7_append_2_7 : decode cJ7_append_2 7 = .ok (.areturn, 1) := dk_176 (dk_at dksJ7_append_2_0 7 rfl rfl)
abbrev cJ7_toString : ByteArray := prog_52_method_42_code
def yJ7_toString : MethodName := ⟨RJ7, "toString", "()Ljava/lang/String;"⟩
def dkwJ7_toString_0 : List UInt8 := [187, 0, 18, 89, 42, 183, 0, 137, 176]
abbrev dktJ7_toString_0 : List UInt8 := dkwJ7_toString_0 ++ []
theorem dksJ7_toString_0 : cJ7_toString.data.toList.drop 0 = dktJ7_toString_0 := by decide +kernel
theorem dJ7_toString_0 : decode cJ7_toString 0 = .ok (.new 18, 3) := dk_187 0 18 (dk_at dksJ7_toString_0 0 rfl rfl)
theorem dJ7_toString_3 : decode cJ7_toString 3 = .ok (.dup, 1) := dk_89 (dk_at dksJ7_toString_0 3 rfl rfl)
theorem dJ7_toString_4 : decode cJ7_toString 4 = .ok (.aload_n 0, 1) := dk_42 (dk_at dksJ7_toString_0 4 rfl rfl)
theorem dJ7_toString_5 : decode cJ7_toString 5 = .ok (.invokespecial 137, 3) := dk_183 0 137 (dk_at dksJ7_toString_0 5 rfl rfl)
theorem dJ7_toString_8 : decode cJ7_toString 8 = .ok (.areturn, 1) := dk_176 (dk_at dksJ7_toString_0 8 rfl rfl)
abbrev cJ7_length : ByteArray := prog_52_method_93_code
def yJ7_length : MethodName := ⟨RJ7, "length", "()I"⟩
theorem dJ7_length_0 : decode cJ7_length 0 = .ok (.aload_n 0, 1) := by decide +kernel
theorem dJ7_length_1 : decode cJ7_length 1 = .ok (.invokespecial 343, 3) := by decide +kernel
theorem dJ7_length_4 : decode cJ7_length 4 = .ok (.ireturn, 1) := by decide +kernel
abbrev cJ7_compareTo : ByteArray := prog_52_method_97_code
def yJ7_compareTo : MethodName := ⟨RJ7, "compareTo", "(Ljava/lang/Object;)I"⟩
def dkwJ7_compareTo_0 : List UInt8 := [42, 43, 192, 0, 24, 182, 1, 90, 172]
abbrev dktJ7_compareTo_0 : List UInt8 := dkwJ7_compareTo_0 ++ []
theorem dksJ7_compareTo_0 : cJ7_compareTo.data.toList.drop 0 = dktJ7_compareTo_0 := by decide +kernel
theorem dJ7_compareTo_0 : decode cJ7_compareTo 0 = .ok (.aload_n 0, 1) := dk_42 (dk_at dksJ7_compareTo_0 0 rfl rfl)
theorem dJ7_compareTo_1 : decode cJ7_compareTo 1 = .ok (.aload_n 1, 1) := dk_43 (dk_at dksJ7_compareTo_0 1 rfl rfl)
theorem dJ7_compareTo_2 : decode cJ7_compareTo 2 = .ok (.checkcast 24, 3) := dk_192 0 24 (dk_at dksJ7_compareTo_0 2 rfl rfl)
theorem dJ7_compareTo_5 : decode cJ7_compareTo 5 = .ok (.invokevirtual 346, 3) := dk_182 1 90 (dk_at dksJ7_compareTo_0 5 rfl rfl)
theorem dJ7_compareTo_8 : decode cJ7_compareTo 8 = .ok (.ireturn, 1) := dk_172 (dk_at dksJ7_compareTo_0 8 rfl rfl)
abbrev cJ7_compareTo_2 : ByteArray := prog_52_method_5_code
def yJ7_compareTo_2 : MethodName := ⟨RJ7, "compareTo", "(Ljava/lang/StringBuilder;)I"⟩
def dkwJ7_compareTo_2_0 : List UInt8 := [42, 43, 183, 0, 13, 172]
abbrev dktJ7_compareTo_2_0 : List UInt8 := dkwJ7_compareTo_2_0 ++ []
theorem dksJ7_compareTo_2_0 : cJ7_compareTo_2.data.toList.drop 0 = dktJ7_compareTo_2_0 := by decide +kernel
theorem dJ7_compareTo_2_0 : decode cJ7_compareTo_2 0 = .ok (.aload_n 0, 1) := dk_42 (dk_at dksJ7_compareTo_2_0 0 rfl rfl)
theorem dJ7_compareTo_2_1 : decode cJ7_compareTo_2 1 = .ok (.aload_n 1, 1) := dk_43 (dk_at dksJ7_compareTo_2_0 1 rfl rfl)
theorem dJ7_compareTo_2_2 : decode cJ7_compareTo_2 2 = .ok (.invokespecial 13, 3) := dk_183 0 13 (dk_at dksJ7_compareTo_2_0 2 rfl rfl)
theorem dJ7_compareTo_2_5 : decode cJ7_compareTo_2 5 = .ok (.ireturn, 1) := dk_172 (dk_at dksJ7_compareTo_2_0 5 rfl rfl)
abbrev cJ7_setLength : ByteArray := prog_52_method_89_code
def yJ7_setLength : MethodName := ⟨RJ7, "setLength", "(I)V"⟩
def dkwJ7_setLength_0 : List UInt8 := [42, 27, 183, 1, 77, 177]
abbrev dktJ7_setLength_0 : List UInt8 := dkwJ7_setLength_0 ++ []
theorem dksJ7_setLength_0 : cJ7_setLength.data.toList.drop 0 = dktJ7_setLength_0 := by decide +kernel
theorem dJ7_setLength_0 : decode cJ7_setLength 0 = .ok (.aload_n 0, 1) := dk_42 (dk_at dksJ7_setLength_0 0 rfl rfl)
theorem dJ7_setLength_1 : decode cJ7_setLength 1 = .ok (.iload_n 1, 1) := dk_27 (dk_at dksJ7_setLength_0 1 rfl rfl)
theorem dJ7_setLength_2 : decode cJ7_setLength 2 = .ok (.invokespecial 333, 3) := dk_183 1 77 (dk_at dksJ7_setLength_0 2 rfl rfl)
theorem dJ7_setLength_5 : decode cJ7_setLength 5 = .ok (.return_, 1) := dk_177 (dk_at dksJ7_setLength_0 5 rfl rfl)
abbrev cJ7_append_3 : ByteArray := prog_52_method_14_code
def yJ7_append_3 : MethodName := ⟨RJ7, "append", "(C)Ljava/lang/StringBuilder;"⟩
def dkwJ7_append_3_0 : List UInt8 := [42, 27, 183, 0, 50, 87, 42, 176]
abbrev dktJ7_append_3_0 : List UInt8 := dkwJ7_append_3_0 ++ []
theorem dksJ7_append_3_0 : cJ7_append_3.data.toList.drop 0 = dktJ7_append_3_0 := by decide +kernel
theorem dJ7_append_3_0 : decode cJ7_append_3 0 = .ok (.aload_n 0, 1) := dk_42 (dk_at dksJ7_append_3_0 0 rfl rfl)
theorem dJ7_append_3_1 : decode cJ7_append_3 1 = .ok (.iload_n 1, 1) := dk_27 (dk_at dksJ7_append_3_0 1 rfl rfl)
theorem dJ7_append_3_2 : decode cJ7_append_3 2 = .ok (.invokespecial 50, 3) := dk_183 0 50 (dk_at dksJ7_append_3_0 2 rfl rfl)
theorem dJ7_append_3_5 : decode cJ7_append_3 5 = .ok (.pop, 1) := dk_87 (dk_at dksJ7_append_3_0 5 rfl rfl)
theorem dJ7_append_3_6 : decode cJ7_append_3 6 = .ok (.aload_n 0, 1) := dk_42 (dk_at dksJ7_append_3_0 6 rfl rfl)
theorem dJ7_append_3_7 : decode cJ7_append_3 7 = .ok (.areturn, 1) := dk_176 (dk_at dksJ7_append_3_0 7 rfl rfl)
abbrev cJ7_charAt : ByteArray := prog_52_method_88_code
def yJ7_charAt : MethodName := ⟨RJ7, "charAt", "(I)C"⟩
def dkwJ7_charAt_0 : List UInt8 := [42, 27, 183, 1, 73, 172]
abbrev dktJ7_charAt_0 : List UInt8 := dkwJ7_charAt_0 ++ []
theorem dksJ7_charAt_0 : cJ7_charAt.data.toList.drop 0 = dktJ7_charAt_0 := by decide +kernel
theorem dJ7_charAt_0 : decode cJ7_charAt 0 = .ok (.aload_n 0, 1) := dk_42 (dk_at dksJ7_charAt_0 0 rfl rfl)
theorem dJ7_charAt_1 : decode cJ7_charAt 1 = .ok (.iload_n 1, 1) := dk_27 (dk_at dksJ7_charAt_0 1 rfl rfl)
theorem dJ7_charAt_2 : decode cJ7_charAt 2 = .ok (.invokespecial 329, 3) := dk_183 1 73 (dk_at dksJ7_charAt_0 2 rfl rfl)
theorem dJ7_charAt_5 : decode cJ7_charAt 5 = .ok (.ireturn, 1) := dk_172 (dk_at dksJ7_charAt_0 5 rfl rfl)
theorem q116 : (Jvm.Cond.initialized "java/lang/StringBuilder") ∈ lw_all := lw_g (lw_at lw_m1 10 rfl) rfl
theorem q349 : (Jvm.Cond.instantiable "java/lang/StringBuilder" (4 : Nat)) ∈ lw_all := lw_g (lw_at lw_m2 3 rfl) rfl
theorem q351 : (Jvm.Cond.instanceMethod ({ cls := "java/lang/StringBuilder", name := "<init>", desc := "()V" } : Jvm.MethodName)) ∈ lw_all := lw_g (lw_at lw_m2 5 rfl) rfl
theorem q352 : (Jvm.Cond.code ({ cls := "java/lang/StringBuilder", name := "<init>", desc := "()V" } : Jvm.MethodName) prog_52_method_1_code (1 : Nat) (Option.none : Option Jvm.ClassFile.FieldType)) ∈ lw_all := lw_g (lw_at lw_m2 6 rfl) rfl
theorem q353 : (Jvm.Cond.methodLink "java/lang/StringBuilder" (1 : Nat) ({ cls := "java/lang/AbstractStringBuilder", name := "<init>", desc := "(I)V" } : Jvm.MethodName)) ∈ lw_all := lw_g (lw_at lw_m2 7 rfl) rfl
theorem q371 : (Jvm.Cond.lays "java/lang/StringBuilder" "java/lang/AbstractStringBuilder" "value" "[B") ∈ lw_all := lw_g (lw_at lw_m2 25 rfl) rfl
theorem q373 : (Jvm.Cond.lays "java/lang/StringBuilder" "java/lang/AbstractStringBuilder" "coder" "B") ∈ lw_all := lw_g (lw_at lw_m2 27 rfl) rfl
theorem q375 : (Jvm.Cond.lays "java/lang/StringBuilder" "java/lang/AbstractStringBuilder" "maybeLatin1" "Z") ∈ lw_all := lw_g (lw_at lw_m2 29 rfl) rfl
theorem q377 : (Jvm.Cond.lays "java/lang/StringBuilder" "java/lang/AbstractStringBuilder" "count" "I") ∈ lw_all := lw_g (lw_at lw_m2 31 rfl) rfl
theorem q379 : (Jvm.Cond.superclass "java/lang/StringBuilder" "java/lang/AbstractStringBuilder") ∈ lw_all := lw_g (lw_at lw_m2 33 rfl) rfl
theorem q620 : (Jvm.Cond.instanceMethod ({ cls := "java/lang/StringBuilder", name := "append", desc := "(Ljava/lang/String;)Ljava/lang/StringBuilder;" } : Jvm.MethodName)) ∈ lw_all := lw_g (lw_at lw_m3 34 rfl) rfl
theorem q621 : (Jvm.Cond.selects "java/lang/StringBuilder" ({ cls := "java/lang/StringBuilder", name := "append", desc := "(Ljava/lang/String;)Ljava/lang/StringBuilder;" } : Jvm.MethodName) ({ cls := "java/lang/StringBuilder", name := "append", desc := "(Ljava/lang/String;)Ljava/lang/StringBuilder;" } : Jvm.MethodName)) ∈ lw_all := lw_g (lw_at lw_m3 35 rfl) rfl
theorem q622 : (Jvm.Cond.code ({ cls := "java/lang/StringBuilder", name := "append", desc := "(Ljava/lang/String;)Ljava/lang/StringBuilder;" } : Jvm.MethodName) prog_52_method_7_code (2 : Nat) (Option.some (Jvm.ClassFile.FieldType.object "java/lang/StringBuilder"))) ∈ lw_all := lw_g (lw_at lw_m3 36 rfl) rfl
theorem q623 : (Jvm.Cond.methodLink "java/lang/StringBuilder" (29 : Nat) ({ cls := "java/lang/AbstractStringBuilder", name := "append", desc := "(Ljava/lang/String;)Ljava/lang/AbstractStringBuilder;" } : Jvm.MethodName)) ∈ lw_all := lw_g (lw_at lw_m3 37 rfl) rfl
theorem q668 : (Jvm.Cond.selects "java/lang/StringBuilder" ({ cls := "java/lang/AbstractStringBuilder", name := "isLatin1", desc := "()Z" } : Jvm.MethodName) ({ cls := "java/lang/AbstractStringBuilder", name := "isLatin1", desc := "()Z" } : Jvm.MethodName)) ∈ lw_all := lw_g (lw_at lw_m3 82 rfl) rfl
theorem q740 : (Jvm.Cond.instanceMethod ({ cls := "java/lang/StringBuilder", name := "append", desc := "(I)Ljava/lang/StringBuilder;" } : Jvm.MethodName)) ∈ lw_all := lw_g (lw_at lw_m3 154 rfl) rfl
theorem q741 : (Jvm.Cond.selects "java/lang/StringBuilder" ({ cls := "java/lang/StringBuilder", name := "append", desc := "(I)Ljava/lang/StringBuilder;" } : Jvm.MethodName) ({ cls := "java/lang/StringBuilder", name := "append", desc := "(I)Ljava/lang/StringBuilder;" } : Jvm.MethodName)) ∈ lw_all := lw_g (lw_at lw_m3 155 rfl) rfl
theorem q742 : (Jvm.Cond.code ({ cls := "java/lang/StringBuilder", name := "append", desc := "(I)Ljava/lang/StringBuilder;" } : Jvm.MethodName) prog_52_method_15_code (2 : Nat) (Option.some (Jvm.ClassFile.FieldType.object "java/lang/StringBuilder"))) ∈ lw_all := lw_g (lw_at lw_m3 156 rfl) rfl
theorem q743 : (Jvm.Cond.methodLink "java/lang/StringBuilder" (53 : Nat) ({ cls := "java/lang/AbstractStringBuilder", name := "append", desc := "(I)Ljava/lang/AbstractStringBuilder;" } : Jvm.MethodName)) ∈ lw_all := lw_g (lw_at lw_m3 157 rfl) rfl
theorem q766 : (Jvm.Cond.instanceMethod ({ cls := "java/lang/StringBuilder", name := "toString", desc := "()Ljava/lang/String;" } : Jvm.MethodName)) ∈ lw_all := lw_g (lw_at lw_m3 180 rfl) rfl
theorem q767 : (Jvm.Cond.selects "java/lang/StringBuilder" ({ cls := "java/lang/StringBuilder", name := "toString", desc := "()Ljava/lang/String;" } : Jvm.MethodName) ({ cls := "java/lang/StringBuilder", name := "toString", desc := "()Ljava/lang/String;" } : Jvm.MethodName)) ∈ lw_all := lw_g (lw_at lw_m3 181 rfl) rfl
theorem q768 : (Jvm.Cond.code ({ cls := "java/lang/StringBuilder", name := "toString", desc := "()Ljava/lang/String;" } : Jvm.MethodName) prog_52_method_42_code (1 : Nat) (Option.some (Jvm.ClassFile.FieldType.object "java/lang/String"))) ∈ lw_all := lw_g (lw_at lw_m3 182 rfl) rfl
theorem q769 : (Jvm.Cond.classLink "java/lang/StringBuilder" (18 : Nat) "java/lang/String") ∈ lw_all := lw_g (lw_at lw_m3 183 rfl) rfl
theorem q771 : (Jvm.Cond.methodLink "java/lang/StringBuilder" (137 : Nat) ({ cls := "java/lang/String", name := "<init>", desc := "(Ljava/lang/StringBuilder;)V" } : Jvm.MethodName)) ∈ lw_all := lw_g (lw_at lw_m3 185 rfl) rfl
theorem q781 : (Jvm.Cond.selects "java/lang/StringBuilder" ({ cls := "java/lang/AbstractStringBuilder", name := "getValue", desc := "()[B" } : Jvm.MethodName) ({ cls := "java/lang/AbstractStringBuilder", name := "getValue", desc := "()[B" } : Jvm.MethodName)) ∈ lw_all := lw_g (lw_at lw_m3 195 rfl) rfl
theorem q786 : (Jvm.Cond.selects "java/lang/StringBuilder" ({ cls := "java/lang/AbstractStringBuilder", name := "length", desc := "()I" } : Jvm.MethodName) ({ cls := "java/lang/StringBuilder", name := "length", desc := "()I" } : Jvm.MethodName)) ∈ lw_all := lw_g (lw_at lw_m3 200 rfl) rfl
theorem q787 : (Jvm.Cond.instanceMethod ({ cls := "java/lang/StringBuilder", name := "length", desc := "()I" } : Jvm.MethodName)) ∈ lw_all := lw_g (lw_at lw_m3 201 rfl) rfl
theorem q788 : (Jvm.Cond.code ({ cls := "java/lang/StringBuilder", name := "length", desc := "()I" } : Jvm.MethodName) prog_52_method_93_code (1 : Nat) (Option.some Jvm.ClassFile.FieldType.int)) ∈ lw_all := lw_g (lw_at lw_m3 202 rfl) rfl
theorem q789 : (Jvm.Cond.methodLink "java/lang/StringBuilder" (343 : Nat) ({ cls := "java/lang/AbstractStringBuilder", name := "length", desc := "()I" } : Jvm.MethodName)) ∈ lw_all := lw_g (lw_at lw_m3 203 rfl) rfl
theorem q951 : (Jvm.Cond.selects "java/lang/StringBuilder" ({ cls := "java/lang/Object", name := "getClass", desc := "()Ljava/lang/Class;" } : Jvm.MethodName) ({ cls := "java/lang/Object", name := "getClass", desc := "()Ljava/lang/Class;" } : Jvm.MethodName)) ∈ lw_all := lw_g (lw_at lw_m4 125 rfl) rfl
theorem q2098 : (Jvm.Cond.castable "java/lang/StringBuilder" "java/lang/Comparable") ∈ lw_tbl := lw_at lw_m9 72 rfl
theorem q2099 : (Jvm.Cond.selects "java/lang/StringBuilder" ({ cls := "java/lang/Comparable", name := "compareTo", desc := "(Ljava/lang/Object;)I" } : Jvm.MethodName) ({ cls := "java/lang/StringBuilder", name := "compareTo", desc := "(Ljava/lang/Object;)I" } : Jvm.MethodName)) ∈ lw_all := lw_g (lw_at lw_m9 73 rfl) rfl
theorem q2100 : (Jvm.Cond.unhidden "java/lang/StringBuilder" "compareTo" "(Ljava/lang/Object;)I") ∈ lw_tbl := lw_at lw_m9 74 rfl
theorem q2101 : (Jvm.Cond.instanceMethod ({ cls := "java/lang/StringBuilder", name := "compareTo", desc := "(Ljava/lang/Object;)I" } : Jvm.MethodName)) ∈ lw_all := lw_g (lw_at lw_m9 75 rfl) rfl
theorem q2102 : (Jvm.Cond.publicMethod ({ cls := "java/lang/StringBuilder", name := "compareTo", desc := "(Ljava/lang/Object;)I" } : Jvm.MethodName)) ∈ lw_tbl := lw_at lw_m9 76 rfl
theorem q2103 : (Jvm.Cond.code ({ cls := "java/lang/StringBuilder", name := "compareTo", desc := "(Ljava/lang/Object;)I" } : Jvm.MethodName) prog_52_method_97_code (2 : Nat) (Option.some Jvm.ClassFile.FieldType.int)) ∈ lw_all := lw_g (lw_at lw_m9 77 rfl) rfl
theorem q2104 : (Jvm.Cond.classLink "java/lang/StringBuilder" (24 : Nat) "java/lang/StringBuilder") ∈ lw_all := lw_g (lw_at lw_m9 78 rfl) rfl
theorem q2105 : (Jvm.Cond.methodLink "java/lang/StringBuilder" (346 : Nat) ({ cls := "java/lang/StringBuilder", name := "compareTo", desc := "(Ljava/lang/StringBuilder;)I" } : Jvm.MethodName)) ∈ lw_all := lw_g (lw_at lw_m9 79 rfl) rfl
theorem q2106 : (Jvm.Cond.instanceMethod ({ cls := "java/lang/StringBuilder", name := "compareTo", desc := "(Ljava/lang/StringBuilder;)I" } : Jvm.MethodName)) ∈ lw_all := lw_g (lw_at lw_m9 80 rfl) rfl
theorem q2107 : (Jvm.Cond.selects "java/lang/StringBuilder" ({ cls := "java/lang/StringBuilder", name := "compareTo", desc := "(Ljava/lang/StringBuilder;)I" } : Jvm.MethodName) ({ cls := "java/lang/StringBuilder", name := "compareTo", desc := "(Ljava/lang/StringBuilder;)I" } : Jvm.MethodName)) ∈ lw_all := lw_g (lw_at lw_m9 81 rfl) rfl
theorem q2108 : (Jvm.Cond.code ({ cls := "java/lang/StringBuilder", name := "compareTo", desc := "(Ljava/lang/StringBuilder;)I" } : Jvm.MethodName) prog_52_method_5_code (2 : Nat) (Option.some Jvm.ClassFile.FieldType.int)) ∈ lw_all := lw_g (lw_at lw_m9 82 rfl) rfl
theorem q2109 : (Jvm.Cond.methodLink "java/lang/StringBuilder" (13 : Nat) ({ cls := "java/lang/AbstractStringBuilder", name := "compareTo", desc := "(Ljava/lang/AbstractStringBuilder;)I" } : Jvm.MethodName)) ∈ lw_all := lw_g (lw_at lw_m9 83 rfl) rfl
theorem q3017 : (Jvm.Cond.instanceMethod ({ cls := "java/lang/StringBuilder", name := "setLength", desc := "(I)V" } : Jvm.MethodName)) ∈ lw_all := lw_g (lw_at lw_m13 31 rfl) rfl
theorem q3018 : (Jvm.Cond.selects "java/lang/StringBuilder" ({ cls := "java/lang/StringBuilder", name := "setLength", desc := "(I)V" } : Jvm.MethodName) ({ cls := "java/lang/StringBuilder", name := "setLength", desc := "(I)V" } : Jvm.MethodName)) ∈ lw_all := lw_g (lw_at lw_m13 32 rfl) rfl
theorem q3019 : (Jvm.Cond.code ({ cls := "java/lang/StringBuilder", name := "setLength", desc := "(I)V" } : Jvm.MethodName) prog_52_method_89_code (2 : Nat) (Option.none : Option Jvm.ClassFile.FieldType)) ∈ lw_all := lw_g (lw_at lw_m13 33 rfl) rfl
theorem q3020 : (Jvm.Cond.methodLink "java/lang/StringBuilder" (333 : Nat) ({ cls := "java/lang/AbstractStringBuilder", name := "setLength", desc := "(I)V" } : Jvm.MethodName)) ∈ lw_all := lw_g (lw_at lw_m13 34 rfl) rfl
theorem q3070 : (Jvm.Cond.instanceMethod ({ cls := "java/lang/StringBuilder", name := "append", desc := "(C)Ljava/lang/StringBuilder;" } : Jvm.MethodName)) ∈ lw_all := lw_g (lw_at lw_m13 84 rfl) rfl
theorem q3071 : (Jvm.Cond.selects "java/lang/StringBuilder" ({ cls := "java/lang/StringBuilder", name := "append", desc := "(C)Ljava/lang/StringBuilder;" } : Jvm.MethodName) ({ cls := "java/lang/StringBuilder", name := "append", desc := "(C)Ljava/lang/StringBuilder;" } : Jvm.MethodName)) ∈ lw_all := lw_g (lw_at lw_m13 85 rfl) rfl
theorem q3072 : (Jvm.Cond.code ({ cls := "java/lang/StringBuilder", name := "append", desc := "(C)Ljava/lang/StringBuilder;" } : Jvm.MethodName) prog_52_method_14_code (2 : Nat) (Option.some (Jvm.ClassFile.FieldType.object "java/lang/StringBuilder"))) ∈ lw_all := lw_g (lw_at lw_m13 86 rfl) rfl
theorem q3073 : (Jvm.Cond.methodLink "java/lang/StringBuilder" (50 : Nat) ({ cls := "java/lang/AbstractStringBuilder", name := "append", desc := "(C)Ljava/lang/AbstractStringBuilder;" } : Jvm.MethodName)) ∈ lw_all := lw_g (lw_at lw_m13 87 rfl) rfl
theorem q3100 : (Jvm.Cond.instanceMethod ({ cls := "java/lang/StringBuilder", name := "charAt", desc := "(I)C" } : Jvm.MethodName)) ∈ lw_all := lw_g (lw_at lw_m13 114 rfl) rfl
theorem q3101 : (Jvm.Cond.selects "java/lang/StringBuilder" ({ cls := "java/lang/StringBuilder", name := "charAt", desc := "(I)C" } : Jvm.MethodName) ({ cls := "java/lang/StringBuilder", name := "charAt", desc := "(I)C" } : Jvm.MethodName)) ∈ lw_all := lw_g (lw_at lw_m13 115 rfl) rfl
theorem q3102 : (Jvm.Cond.code ({ cls := "java/lang/StringBuilder", name := "charAt", desc := "(I)C" } : Jvm.MethodName) prog_52_method_88_code (2 : Nat) (Option.some Jvm.ClassFile.FieldType.char)) ∈ lw_all := lw_g (lw_at lw_m13 116 rfl) rfl
theorem q3103 : (Jvm.Cond.methodLink "java/lang/StringBuilder" (329 : Nat) ({ cls := "java/lang/AbstractStringBuilder", name := "charAt", desc := "(I)C" } : Jvm.MethodName)) ∈ lw_all := lw_g (lw_at lw_m13 117 rfl) rfl
theorem q3322 : (Jvm.Cond.castable "java/lang/StringBuilder" "java/lang/CharSequence") ∈ lw_tbl := lw_at lw_m14 96 rfl
theorem q3323 : (Jvm.Cond.selects "java/lang/StringBuilder" ({ cls := "java/lang/CharSequence", name := "length", desc := "()I" } : Jvm.MethodName) ({ cls := "java/lang/StringBuilder", name := "length", desc := "()I" } : Jvm.MethodName)) ∈ lw_all := lw_g (lw_at lw_m14 97 rfl) rfl
theorem q3324 : (Jvm.Cond.unhidden "java/lang/StringBuilder" "length" "()I") ∈ lw_tbl := lw_at lw_m14 98 rfl
theorem q3325 : (Jvm.Cond.publicMethod ({ cls := "java/lang/StringBuilder", name := "length", desc := "()I" } : Jvm.MethodName)) ∈ lw_tbl := lw_at lw_m14 99 rfl
theorem q3349 : (Jvm.Cond.selects "java/lang/StringBuilder" ({ cls := "java/lang/CharSequence", name := "charAt", desc := "(I)C" } : Jvm.MethodName) ({ cls := "java/lang/StringBuilder", name := "charAt", desc := "(I)C" } : Jvm.MethodName)) ∈ lw_all := lw_g (lw_at lw_m14 123 rfl) rfl
theorem q3350 : (Jvm.Cond.unhidden "java/lang/StringBuilder" "charAt" "(I)C") ∈ lw_tbl := lw_at lw_m14 124 rfl
theorem q3351 : (Jvm.Cond.publicMethod ({ cls := "java/lang/StringBuilder", name := "charAt", desc := "(I)C" } : Jvm.MethodName)) ∈ lw_tbl := lw_at lw_m14 125 rfl
theorem q3971 : (Jvm.Cond.selects "java/lang/StringBuilder" ({ cls := "java/lang/StringBuilder", name := "length", desc := "()I" } : Jvm.MethodName) ({ cls := "java/lang/StringBuilder", name := "length", desc := "()I" } : Jvm.MethodName)) ∈ lw_all := lw_g (lw_at lw_m17 25 rfl) rfl
theorem q3981 : (Jvm.Cond.castable "java/lang/StringBuilder" "java/lang/Object") ∈ lw_tbl := lw_at lw_m17 35 rfl
theorem in_J7 : ∀ w ∈ wsJ70, w ∈ lw_all := lw_in wsJ70 [371, 373, 375, 377] (by decide +kernel) (by decide +kernel)

/-! java/lang/String -/
set_option maxRecDepth 100000
def RJ8 : String := "java/lang/String"
def TJ8 : u_T := fun k => match k with
  | 0 => ("java/lang/String", "value", "[B", true)
  | 1 => ("java/lang/String", "coder", "B", true)
  | 2 => ("java/lang/String", "hash", "I", false)
  | _ => ("java/lang/String", "hashIsZero", "Z", false)
def tyJ8 : Nat → FieldType := fun k => match k with
  | 0 => .array .byte
  | 1 => .byte
  | 2 => .int
  | _ => .boolean
abbrev wsJ80 : List Cond := u_ws RJ8 TJ8 4
theorem nmJ8 : ∀ a, a < 4 → ∀ b, b < 4 → a ≠ b → (TJ8 a).2.1 ≠ (TJ8 b).2.1 := by decide +kernel
theorem tyJ8_ok : ∀ k, k < 4 → parseFieldDescriptor (TJ8 k).2.2.1 = some (tyJ8 k) := by decide +kernel
abbrev cJ8_checkBoundsBeginEnd : ByteArray := prog_51_method_158_code
def yJ8_checkBoundsBeginEnd : MethodName := ⟨RJ8, "checkBoundsBeginEnd", "(III)V"⟩
def dkwJ8_checkBoundsBeginEnd_0 : List UInt8 := [26, 27, 28, 178, 4, 29, 184, 4, 38, 87, 177]
abbrev dktJ8_checkBoundsBeginEnd_0 : List UInt8 := dkwJ8_checkBoundsBeginEnd_0 ++ []
theorem dksJ8_checkBoundsBeginEnd_0 : cJ8_checkBoundsBeginEnd.data.toList.drop 0 = dktJ8_checkBoundsBeginEnd_0 := by decide +kernel
theorem dJ8_checkBoundsBeginEnd_0 : decode cJ8_checkBoundsBeginEnd 0 = .ok (.iload_n 0, 1) := dk_26 (dk_at dksJ8_checkBoundsBeginEnd_0 0 rfl rfl)
theorem dJ8_checkBoundsBeginEnd_1 : decode cJ8_checkBoundsBeginEnd 1 = .ok (.iload_n 1, 1) := dk_27 (dk_at dksJ8_checkBoundsBeginEnd_0 1 rfl rfl)
theorem dJ8_checkBoundsBeginEnd_2 : decode cJ8_checkBoundsBeginEnd 2 = .ok (.iload_n 2, 1) := dk_28 (dk_at dksJ8_checkBoundsBeginEnd_0 2 rfl rfl)
theorem dJ8_checkBoundsBeginEnd_3 : decode cJ8_checkBoundsBeginEnd 3 = .ok (.getstatic 1053, 3) := dk_178 4 29 (dk_at dksJ8_checkBoundsBeginEnd_0 3 rfl rfl)
theorem dJ8_checkBoundsBeginEnd_6 : decode cJ8_checkBoundsBeginEnd 6 = .ok (.invokestatic 1062, 3) := dk_184 4 38 (dk_at dksJ8_checkBoundsBeginEnd_0 6 rfl rfl)
theorem dJ8_checkBoundsBeginEnd_9 : decode cJ8_checkBoundsBeginEnd 9 = .ok (.pop, 1) := dk_87 (dk_at dksJ8_checkBoundsBeginEnd_0 9 rfl rfl)
theorem dJ8_checkBoundsBeginEnd_10 : decode cJ8_checkBoundsBeginEnd 10 = .ok (.return_, 1) := dk_177 (dk_at dksJ8_checkBoundsBeginEnd_0 10 rfl rfl)
abbrev cJ8_length : ByteArray := prog_51_method_54_code
def yJ8_length : MethodName := ⟨RJ8, "length", "()I"⟩
def dkwJ8_length_0 : List UInt8 := [42, 180, 0, 9, 190, 42, 182, 1, 79, 122, 172]
abbrev dktJ8_length_0 : List UInt8 := dkwJ8_length_0 ++ []
theorem dksJ8_length_0 : cJ8_length.data.toList.drop 0 = dktJ8_length_0 := by decide +kernel
theorem dJ8_length_0 : decode cJ8_length 0 = .ok (.aload_n 0, 1) := dk_42 (dk_at dksJ8_length_0 0 rfl rfl)
theorem dJ8_length_1 : decode cJ8_length 1 = .ok (.getfield 9, 3) := dk_180 0 9 (dk_at dksJ8_length_0 1 rfl rfl)
theorem dJ8_length_4 : decode cJ8_length 4 = .ok (.arraylength, 1) := dk_190 (dk_at dksJ8_length_0 4 rfl rfl)
theorem dJ8_length_5 : decode cJ8_length 5 = .ok (.aload_n 0, 1) := dk_42 (dk_at dksJ8_length_0 5 rfl rfl)
theorem dJ8_length_6 : decode cJ8_length 6 = .ok (.invokevirtual 335, 3) := dk_182 1 79 (dk_at dksJ8_length_0 6 rfl rfl)
theorem dJ8_length_9 : decode cJ8_length 9 = .ok (.ishr, 1) := dk_122 (dk_at dksJ8_length_0 9 rfl rfl)
theorem dJ8_length_10 : decode cJ8_length 10 = .ok (.ireturn, 1) := dk_172 (dk_at dksJ8_length_0 10 rfl rfl)
abbrev cJ8_coder : ByteArray := prog_51_method_152_code
def yJ8_coder : MethodName := ⟨RJ8, "coder", "()B"⟩
def dkwJ8_coder_0 : List UInt8 := [178, 0, 38, 153, 0, 10, 42, 180, 0, 15, 167, 0, 4, 4, 172]
abbrev dktJ8_coder_0 : List UInt8 := dkwJ8_coder_0 ++ []
theorem dksJ8_coder_0 : cJ8_coder.data.toList.drop 0 = dktJ8_coder_0 := by decide +kernel
theorem dJ8_coder_0 : decode cJ8_coder 0 = .ok (.getstatic 38, 3) := dk_178 0 38 (dk_at dksJ8_coder_0 0 rfl rfl)
theorem dJ8_coder_3 : decode cJ8_coder 3 = .ok (.ifCond .eq 10, 3) := dk_153 0 10 (dk_at dksJ8_coder_0 3 rfl rfl)
theorem dJ8_coder_6 : decode cJ8_coder 6 = .ok (.aload_n 0, 1) := dk_42 (dk_at dksJ8_coder_0 6 rfl rfl)
theorem dJ8_coder_7 : decode cJ8_coder 7 = .ok (.getfield 15, 3) := dk_180 0 15 (dk_at dksJ8_coder_0 7 rfl rfl)
theorem dJ8_coder_10 : decode cJ8_coder 10 = .ok (.goto 4, 3) := dk_167 0 4 (dk_at dksJ8_coder_0 10 rfl rfl)
theorem dJ8_coder_13 : decode cJ8_coder 13 = .ok (.iconst 1, 1) := dk_4 (dk_at dksJ8_coder_0 13 rfl rfl)
theorem dJ8_coder_14 : decode cJ8_coder 14 = .ok (.ireturn, 1) := dk_172 (dk_at dksJ8_coder_0 14 rfl rfl)
abbrev cJ8_checkBoundsOffCount : ByteArray := prog_51_method_157_code
def yJ8_checkBoundsOffCount : MethodName := ⟨RJ8, "checkBoundsOffCount", "(III)I"⟩
def dkwJ8_checkBoundsOffCount_0 : List UInt8 := [26, 27, 28, 178, 4, 29, 184, 4, 41, 172]
abbrev dktJ8_checkBoundsOffCount_0 : List UInt8 := dkwJ8_checkBoundsOffCount_0 ++ []
theorem dksJ8_checkBoundsOffCount_0 : cJ8_checkBoundsOffCount.data.toList.drop 0 = dktJ8_checkBoundsOffCount_0 := by decide +kernel
theorem dJ8_checkBoundsOffCount_0 : decode cJ8_checkBoundsOffCount 0 = .ok (.iload_n 0, 1) := dk_26 (dk_at dksJ8_checkBoundsOffCount_0 0 rfl rfl)
theorem dJ8_checkBoundsOffCount_1 : decode cJ8_checkBoundsOffCount 1 = .ok (.iload_n 1, 1) := dk_27 (dk_at dksJ8_checkBoundsOffCount_0 1 rfl rfl)
theorem dJ8_checkBoundsOffCount_2 : decode cJ8_checkBoundsOffCount 2 = .ok (.iload_n 2, 1) := dk_28 (dk_at dksJ8_checkBoundsOffCount_0 2 rfl rfl)
theorem dJ8_checkBoundsOffCount_3 : decode cJ8_checkBoundsOffCount 3 = .ok (.getstatic 1053, 3) := dk_178 4 29 (dk_at dksJ8_checkBoundsOffCount_0 3 rfl rfl)
theorem dJ8_checkBoundsOffCount_6 : decode cJ8_checkBoundsOffCount 6 = .ok (.invokestatic 1065, 3) := dk_184 4 41 (dk_at dksJ8_checkBoundsOffCount_0 6 rfl rfl)
theorem dJ8_checkBoundsOffCount_9 : decode cJ8_checkBoundsOffCount 9 = .ok (.ireturn, 1) := dk_172 (dk_at dksJ8_checkBoundsOffCount_0 9 rfl rfl)
abbrev cJ8_getBytes : ByteArray := prog_51_method_147_code
def yJ8_getBytes : MethodName := ⟨RJ8, "getBytes", "([BIB)V"⟩
def dkwJ8_getBytes_1 : List UInt8 := [184, 0, 212, 167, 0, 18, 42, 180, 0, 9, 3, 43, 28, 42, 180, 0, 9, 190, 184, 0, 106, 177]
abbrev dktJ8_getBytes_1 : List UInt8 := dkwJ8_getBytes_1 ++ []
def dkwJ8_getBytes_0 : List UInt8 := [42, 182, 1, 79, 29, 160, 0, 23, 42, 180, 0, 9, 3, 43, 28, 29, 120, 42, 180, 0, 9, 190]
abbrev dktJ8_getBytes_0 : List UInt8 := dkwJ8_getBytes_0 ++ dktJ8_getBytes_1
theorem dksJ8_getBytes_0 : cJ8_getBytes.data.toList.drop 0 = dktJ8_getBytes_0 := by decide +kernel
theorem dksJ8_getBytes_1 : cJ8_getBytes.data.toList.drop 22 = dktJ8_getBytes_1 := dk_seg dksJ8_getBytes_0 22 rfl rfl
theorem dJ8_getBytes_0 : decode cJ8_getBytes 0 = .ok (.aload_n 0, 1) := dk_42 (dk_at dksJ8_getBytes_0 0 rfl rfl)
theorem dJ8_getBytes_1 : decode cJ8_getBytes 1 = .ok (.invokevirtual 335, 3) := dk_182 1 79 (dk_at dksJ8_getBytes_0 1 rfl rfl)
theorem dJ8_getBytes_4 : decode cJ8_getBytes 4 = .ok (.iload_n 3, 1) := dk_29 (dk_at dksJ8_getBytes_0 4 rfl rfl)
theorem dJ8_getBytes_5 : decode cJ8_getBytes 5 = .ok (.if_icmp .ne 23, 3) := dk_160 0 23 (dk_at dksJ8_getBytes_0 5 rfl rfl)
theorem dJ8_getBytes_8 : decode cJ8_getBytes 8 = .ok (.aload_n 0, 1) := dk_42 (dk_at dksJ8_getBytes_0 8 rfl rfl)
theorem dJ8_getBytes_9 : decode cJ8_getBytes 9 = .ok (.getfield 9, 3) := dk_180 0 9 (dk_at dksJ8_getBytes_0 9 rfl rfl)
theorem dJ8_getBytes_12 : decode cJ8_getBytes 12 = .ok (.iconst 0, 1) := dk_3 (dk_at dksJ8_getBytes_0 12 rfl rfl)
theorem dJ8_getBytes_13 : decode cJ8_getBytes 13 = .ok (.aload_n 1, 1) := dk_43 (dk_at dksJ8_getBytes_0 13 rfl rfl)
theorem dJ8_getBytes_14 : decode cJ8_getBytes 14 = .ok (.iload_n 2, 1) := dk_28 (dk_at dksJ8_getBytes_0 14 rfl rfl)
theorem dJ8_getBytes_15 : decode cJ8_getBytes 15 = .ok (.iload_n 3, 1) := dk_29 (dk_at dksJ8_getBytes_0 15 rfl rfl)
theorem dJ8_getBytes_16 : decode cJ8_getBytes 16 = .ok (.ishl, 1) := dk_120 (dk_at dksJ8_getBytes_0 16 rfl rfl)
theorem dJ8_getBytes_17 : decode cJ8_getBytes 17 = .ok (.aload_n 0, 1) := dk_42 (dk_at dksJ8_getBytes_0 17 rfl rfl)
theorem dJ8_getBytes_18 : decode cJ8_getBytes 18 = .ok (.getfield 9, 3) := dk_180 0 9 (dk_at dksJ8_getBytes_0 18 rfl rfl)
theorem dJ8_getBytes_21 : decode cJ8_getBytes 21 = .ok (.arraylength, 1) := dk_190 (dk_at dksJ8_getBytes_0 21 rfl rfl)
theorem dJ8_getBytes_22 : decode cJ8_getBytes 22 = .ok (.invokestatic 212, 3) := dk_184 0 212 (dk_at dksJ8_getBytes_1 0 rfl rfl)
theorem dJ8_getBytes_25 : decode cJ8_getBytes 25 = .ok (.goto 18, 3) := dk_167 0 18 (dk_at dksJ8_getBytes_1 3 rfl rfl)
theorem dJ8_getBytes_28 : decode cJ8_getBytes 28 = .ok (.aload_n 0, 1) := dk_42 (dk_at dksJ8_getBytes_1 6 rfl rfl)
theorem dJ8_getBytes_29 : decode cJ8_getBytes 29 = .ok (.getfield 9, 3) := dk_180 0 9 (dk_at dksJ8_getBytes_1 7 rfl rfl)
theorem dJ8_getBytes_32 : decode cJ8_getBytes 32 = .ok (.iconst 0, 1) := dk_3 (dk_at dksJ8_getBytes_1 10 rfl rfl)
theorem dJ8_getBytes_33 : decode cJ8_getBytes 33 = .ok (.aload_n 1, 1) := dk_43 (dk_at dksJ8_getBytes_1 11 rfl rfl)
theorem dJ8_getBytes_34 : decode cJ8_getBytes 34 = .ok (.iload_n 2, 1) := dk_28 (dk_at dksJ8_getBytes_1 12 rfl rfl)
theorem dJ8_getBytes_35 : decode cJ8_getBytes 35 = .ok (.aload_n 0, 1) := dk_42 (dk_at dksJ8_getBytes_1 13 rfl rfl)
theorem dJ8_getBytes_36 : decode cJ8_getBytes 36 = .ok (.getfield 9, 3) := dk_180 0 9 (dk_at dksJ8_getBytes_1 14 rfl rfl)
theorem dJ8_getBytes_39 : decode cJ8_getBytes 39 = .ok (.arraylength, 1) := dk_190 (dk_at dksJ8_getBytes_1 17 rfl rfl)
theorem dJ8_getBytes_40 : decode cJ8_getBytes 40 = .ok (.invokestatic 106, 3) := dk_184 0 106 (dk_at dksJ8_getBytes_1 18 rfl rfl)
theorem dJ8_getBytes_43 : decode cJ8_getBytes 43 = .ok (.return_, 1) := dk_177 (dk_at dksJ8_getBytes_1 21 rfl rfl)
abbrev cJ8_init : ByteArray := prog_51_method_53_code
def yJ8_init : MethodName := ⟨RJ8, "<init>", "(Ljava/lang/StringBuilder;)V"⟩
def dkwJ8_init_0 : List UInt8 := [42, 43, 1, 183, 1, 233, 177]
abbrev dktJ8_init_0 : List UInt8 := dkwJ8_init_0 ++ []
theorem dksJ8_init_0 : cJ8_init.data.toList.drop 0 = dktJ8_init_0 := by decide +kernel
theorem dJ8_init_0 : decode cJ8_init 0 = .ok (.aload_n 0, 1) := dk_42 (dk_at dksJ8_init_0 0 rfl rfl)
theorem dJ8_init_1 : decode cJ8_init 1 = .ok (.aload_n 1, 1) := dk_43 (dk_at dksJ8_init_0 1 rfl rfl)
theorem dJ8_init_2 : decode cJ8_init 2 = .ok (.aconst_null, 1) := dk_1 (dk_at dksJ8_init_0 2 rfl rfl)
theorem dJ8_init_3 : decode cJ8_init 3 = .ok (.invokespecial 489, 3) := dk_183 1 233 (dk_at dksJ8_init_0 3 rfl rfl)
theorem dJ8_init_6 : decode cJ8_init 6 = .ok (.return_, 1) := dk_177 (dk_at dksJ8_init_0 6 rfl rfl)
abbrev cJ8_init_2 : ByteArray := prog_51_method_150_code
def yJ8_init_2 : MethodName := ⟨RJ8, "<init>", "(Ljava/lang/AbstractStringBuilder;Ljava/lang/Void;)V"⟩
def dkwJ8_init_2_4 : List UInt8 := [181, 0, 9, 177]
abbrev dktJ8_init_2_4 : List UInt8 := dkwJ8_init_2_4 ++ []
def dkwJ8_init_2_3 : List UInt8 := [184, 0, 47, 181, 0, 15, 177, 42, 4, 181, 0, 15, 42, 45, 3, 21, 4, 4, 120, 184, 0, 54]
abbrev dktJ8_init_2_3 : List UInt8 := dkwJ8_init_2_3 ++ dktJ8_init_2_4
def dkwJ8_init_2_2 : List UInt8 := [180, 4, 24, 153, 0, 28, 42, 45, 3, 21, 4, 184, 4, 27, 181, 0, 9, 42, 42, 180, 0, 9, 21, 4]
abbrev dktJ8_init_2_2 : List UInt8 := dkwJ8_init_2_2 ++ dktJ8_init_2_3
def dkwJ8_init_2_1 : List UInt8 := [181, 0, 15, 42, 45, 3, 21, 4, 184, 0, 54, 181, 0, 9, 167, 0, 59, 178, 0, 38, 153, 0, 35, 43]
abbrev dktJ8_init_2_1 : List UInt8 := dkwJ8_init_2_1 ++ dktJ8_init_2_2
def dkwJ8_init_2_0 : List UInt8 := [42, 183, 0, 1, 43, 182, 2, 40, 78, 43, 182, 2, 37, 54, 4, 43, 182, 4, 23, 153, 0, 22, 42, 3]
abbrev dktJ8_init_2_0 : List UInt8 := dkwJ8_init_2_0 ++ dktJ8_init_2_1
theorem dksJ8_init_2_0 : cJ8_init_2.data.toList.drop 0 = dktJ8_init_2_0 := by decide +kernel
theorem dksJ8_init_2_1 : cJ8_init_2.data.toList.drop 24 = dktJ8_init_2_1 := dk_seg dksJ8_init_2_0 24 rfl rfl
theorem dksJ8_init_2_2 : cJ8_init_2.data.toList.drop 48 = dktJ8_init_2_2 := dk_seg dksJ8_init_2_1 24 rfl rfl
theorem dksJ8_init_2_3 : cJ8_init_2.data.toList.drop 72 = dktJ8_init_2_3 := dk_seg dksJ8_init_2_2 24 rfl rfl
theorem dksJ8_init_2_4 : cJ8_init_2.data.toList.drop 94 = dktJ8_init_2_4 := dk_seg dksJ8_init_2_3 22 rfl rfl
theorem dJ8_init_2_0 : decode cJ8_init_2 0 = .ok (.aload_n 0, 1) := dk_42 (dk_at dksJ8_init_2_0 0 rfl rfl)
theorem dJ8_init_2_1 : decode cJ8_init_2 1 = .ok (.invokespecial 1, 3) := dk_183 0 1 (dk_at dksJ8_init_2_0 1 rfl rfl)
theorem dJ8_init_2_4 : decode cJ8_init_2 4 = .ok (.aload_n 1, 1) := dk_43 (dk_at dksJ8_init_2_0 4 rfl rfl)
theorem dJ8_init_2_5 : decode cJ8_init_2 5 = .ok (.invokevirtual 552, 3) := dk_182 2 40 (dk_at dksJ8_init_2_0 5 rfl rfl)
theorem dJ8_init_2_8 : decode cJ8_init_2 8 = .ok (.astore_n 3, 1) := dk_78 (dk_at dksJ8_init_2_0 8 rfl rfl)
theorem dJ8_init_2_9 : decode cJ8_init_2 9 = .ok (.aload_n 1, 1) := dk_43 (dk_at dksJ8_init_2_0 9 rfl rfl)
theorem dJ8_init_2_10 : decode cJ8_init_2 10 = .ok (.invokevirtual 549, 3) := dk_182 2 37 (dk_at dksJ8_init_2_0 10 rfl rfl)
theorem dJ8_init_2_13 : decode cJ8_init_2 13 = .ok (.istore 4, 2) := dk_54 4 (dk_at dksJ8_init_2_0 13 rfl rfl)
theorem dJ8_init_2_15 : decode cJ8_init_2 15 = .ok (.aload_n 1, 1) := dk_43 (dk_at dksJ8_init_2_0 15 rfl rfl)
theorem dJ8_init_2_16 : decode cJ8_init_2 16 = .ok (.invokevirtual 1047, 3) := dk_182 4 23 (dk_at dksJ8_init_2_0 16 rfl rfl)
theorem dJ8_init_2_19 : decode cJ8_init_2 19 = .ok (.ifCond .eq 22, 3) := dk_153 0 22 (dk_at dksJ8_init_2_0 19 rfl rfl)
theorem dJ8_init_2_22 : decode cJ8_init_2 22 = .ok (.aload_n 0, 1) := dk_42 (dk_at dksJ8_init_2_0 22 rfl rfl)
theorem dJ8_init_2_23 : decode cJ8_init_2 23 = .ok (.iconst 0, 1) := dk_3 (dk_at dksJ8_init_2_0 23 rfl rfl)
theorem dJ8_init_2_24 : decode cJ8_init_2 24 = .ok (.putfield 15, 3) := dk_181 0 15 (dk_at dksJ8_init_2_1 0 rfl rfl)
theorem dJ8_init_2_27 : decode cJ8_init_2 27 = .ok (.aload_n 0, 1) := dk_42 (dk_at dksJ8_init_2_1 3 rfl rfl)
theorem dJ8_init_2_28 : decode cJ8_init_2 28 = .ok (.aload_n 3, 1) := dk_45 (dk_at dksJ8_init_2_1 4 rfl rfl)
theorem dJ8_init_2_29 : decode cJ8_init_2 29 = .ok (.iconst 0, 1) := dk_3 (dk_at dksJ8_init_2_1 5 rfl rfl)
theorem dJ8_init_2_30 : decode cJ8_init_2 30 = .ok (.iload 4, 2) := dk_21 4 (dk_at dksJ8_init_2_1 6 rfl rfl)
theorem dJ8_init_2_32 : decode cJ8_init_2 32 = .ok (.invokestatic 54, 3) := dk_184 0 54 (dk_at dksJ8_init_2_1 8 rfl rfl)
theorem dJ8_init_2_35 : decode cJ8_init_2 35 = .ok (.putfield 9, 3) := dk_181 0 9 (dk_at dksJ8_init_2_1 11 rfl rfl)
theorem dJ8_init_2_38 : decode cJ8_init_2 38 = .ok (.goto 59, 3) := dk_167 0 59 (dk_at dksJ8_init_2_1 14 rfl rfl)
theorem dJ8_init_2_41 : decode cJ8_init_2 41 = .ok (.getstatic 38, 3) := dk_178 0 38 (dk_at dksJ8_init_2_1 17 rfl rfl)
theorem dJ8_init_2_44 : decode cJ8_init_2 44 = .ok (.ifCond .eq 35, 3) := dk_153 0 35 (dk_at dksJ8_init_2_1 20 rfl rfl)
theorem dJ8_init_2_47 : decode cJ8_init_2 47 = .ok (.aload_n 1, 1) := dk_43 (dk_at dksJ8_init_2_1 23 rfl rfl)
theorem dJ8_init_2_48 : decode cJ8_init_2 48 = .ok (.getfield 1048, 3) := dk_180 4 24 (dk_at dksJ8_init_2_2 0 rfl rfl)
theorem dJ8_init_2_51 : decode cJ8_init_2 51 = .ok (.ifCond .eq 28, 3) := dk_153 0 28 (dk_at dksJ8_init_2_2 3 rfl rfl)
theorem dJ8_init_2_54 : decode cJ8_init_2 54 = .ok (.aload_n 0, 1) := dk_42 (dk_at dksJ8_init_2_2 6 rfl rfl)
theorem dJ8_init_2_55 : decode cJ8_init_2 55 = .ok (.aload_n 3, 1) := dk_45 (dk_at dksJ8_init_2_2 7 rfl rfl)
theorem dJ8_init_2_56 : decode cJ8_init_2 56 = .ok (.iconst 0, 1) := dk_3 (dk_at dksJ8_init_2_2 8 rfl rfl)
theorem dJ8_init_2_57 : decode cJ8_init_2 57 = .ok (.iload 4, 2) := dk_21 4 (dk_at dksJ8_init_2_2 9 rfl rfl)
theorem dJ8_init_2_59 : decode cJ8_init_2 59 = .ok (.invokestatic 1051, 3) := dk_184 4 27 (dk_at dksJ8_init_2_2 11 rfl rfl)
theorem dJ8_init_2_62 : decode cJ8_init_2 62 = .ok (.putfield 9, 3) := dk_181 0 9 (dk_at dksJ8_init_2_2 14 rfl rfl)
theorem dJ8_init_2_65 : decode cJ8_init_2 65 = .ok (.aload_n 0, 1) := dk_42 (dk_at dksJ8_init_2_2 17 rfl rfl)
theorem dJ8_init_2_66 : decode cJ8_init_2 66 = .ok (.aload_n 0, 1) := dk_42 (dk_at dksJ8_init_2_2 18 rfl rfl)
theorem dJ8_init_2_67 : decode cJ8_init_2 67 = .ok (.getfield 9, 3) := dk_180 0 9 (dk_at dksJ8_init_2_2 19 rfl rfl)
theorem dJ8_init_2_70 : decode cJ8_init_2 70 = .ok (.iload 4, 2) := dk_21 4 (dk_at dksJ8_init_2_2 22 rfl rfl)
theorem dJ8_init_2_72 : decode cJ8_init_2 72 = .ok (.invokestatic 47, 3) := dk_184 0 47 (dk_at dksJ8_init_2_3 0 rfl rfl)
theorem dJ8_init_2_75 : decode cJ8_init_2 75 = .ok (.putfield 15, 3) := dk_181 0 15 (dk_at dksJ8_init_2_3 3 rfl rfl)
theorem dJ8_init_2_78 : decode cJ8_init_2 78 = .ok (.return_, 1) := dk_177 (dk_at dksJ8_init_2_3 6 rfl rfl)
theorem dJ8_init_2_79 : decode cJ8_init_2 79 = .ok (.aload_n 0, 1) := dk_42 (dk_at dksJ8_init_2_3 7 rfl rfl)
theorem dJ8_init_2_80 : decode cJ8_init_2 80 = .ok (.iconst 1, 1) := dk_4 (dk_at dksJ8_init_2_3 8 rfl rfl)
theorem dJ8_init_2_81 : decode cJ8_init_2 81 = .ok (.putfield 15, 3) := dk_181 0 15 (dk_at dksJ8_init_2_3 9 rfl rfl)
theorem dJ8_init_2_84 : decode cJ8_init_2 84 = .ok (.aload_n 0, 1) := dk_42 (dk_at dksJ8_init_2_3 12 rfl rfl)
theorem dJ8_init_2_85 : decode cJ8_init_2 85 = .ok (.aload_n 3, 1) := dk_45 (dk_at dksJ8_init_2_3 13 rfl rfl)
theorem dJ8_init_2_86 : decode cJ8_init_2 86 = .ok (.iconst 0, 1) := dk_3 (dk_at dksJ8_init_2_3 14 rfl rfl)
theorem dJ8_init_2_87 : decode cJ8_init_2 87 = .ok (.iload 4, 2) := dk_21 4 (dk_at dksJ8_init_2_3 15 rfl rfl)
theorem dJ8_init_2_89 : decode cJ8_init_2 89 = .ok (.iconst 1, 1) := dk_4 (dk_at dksJ8_init_2_3 17 rfl rfl)
theorem dJ8_init_2_90 : decode cJ8_init_2 90 = .ok (.ishl, 1) := dk_120 (dk_at dksJ8_init_2_3 18 rfl rfl)
theorem dJ8_init_2_91 : decode cJ8_init_2 91 = .ok (.invokestatic 54, 3) := dk_184 0 54 (dk_at dksJ8_init_2_3 19 rfl rfl)
theorem dJ8_init_2_94 : decode cJ8_init_2 94 = .ok (.putfield 9, 3) := dk_181 0 9 (dk_at dksJ8_init_2_4 0 rfl rfl)
theorem dJ8_init_2_97 : decode cJ8_init_2 97 = .ok (.return_, 1) := dk_177 (dk_at dksJ8_init_2_4 3 rfl rfl)
abbrev cJ8_compareTo : ByteArray := prog_51_method_162_code
def yJ8_compareTo : MethodName := ⟨RJ8, "compareTo", "(Ljava/lang/Object;)I"⟩
def dkwJ8_compareTo_0 : List UInt8 := [42, 43, 192, 0, 10, 182, 4, 60, 172]
abbrev dktJ8_compareTo_0 : List UInt8 := dkwJ8_compareTo_0 ++ []
theorem dksJ8_compareTo_0 : cJ8_compareTo.data.toList.drop 0 = dktJ8_compareTo_0 := by decide +kernel
theorem dJ8_compareTo_0 : decode cJ8_compareTo 0 = .ok (.aload_n 0, 1) := dk_42 (dk_at dksJ8_compareTo_0 0 rfl rfl)
theorem dJ8_compareTo_1 : decode cJ8_compareTo 1 = .ok (.aload_n 1, 1) := dk_43 (dk_at dksJ8_compareTo_0 1 rfl rfl)
theorem dJ8_compareTo_2 : decode cJ8_compareTo 2 = .ok (.checkcast 10, 3) := dk_192 0 10 (dk_at dksJ8_compareTo_0 2 rfl rfl)
theorem dJ8_compareTo_5 : decode cJ8_compareTo 5 = .ok (.invokevirtual 1084, 3) := dk_182 4 60 (dk_at dksJ8_compareTo_0 5 rfl rfl)
theorem dJ8_compareTo_8 : decode cJ8_compareTo 8 = .ok (.ireturn, 1) := dk_172 (dk_at dksJ8_compareTo_0 8 rfl rfl)
abbrev cJ8_compareTo_2 : ByteArray := prog_51_method_71_code
def yJ8_compareTo_2 : MethodName := ⟨RJ8, "compareTo", "(Ljava/lang/String;)I"⟩
def dkwJ8_compareTo_2_2 : List UInt8 := [154, 0, 11, 44, 45, 184, 2, 79, 167, 0, 8, 44, 45, 184, 2, 82, 172]
abbrev dktJ8_compareTo_2_2 : List UInt8 := dkwJ8_compareTo_2_2 ++ []
def dkwJ8_compareTo_2_1 : List UInt8 := [160, 0, 22, 21, 4, 154, 0, 11, 44, 45, 184, 2, 74, 167, 0, 8, 44, 45, 184, 2, 78, 172, 21, 4]
abbrev dktJ8_compareTo_2_1 : List UInt8 := dkwJ8_compareTo_2_1 ++ dktJ8_compareTo_2_2
def dkwJ8_compareTo_2_0 : List UInt8 := [42, 180, 0, 9, 77, 43, 180, 0, 9, 78, 42, 182, 1, 79, 54, 4, 21, 4, 43, 182, 1, 79]
abbrev dktJ8_compareTo_2_0 : List UInt8 := dkwJ8_compareTo_2_0 ++ dktJ8_compareTo_2_1
theorem dksJ8_compareTo_2_0 : cJ8_compareTo_2.data.toList.drop 0 = dktJ8_compareTo_2_0 := by decide +kernel
theorem dksJ8_compareTo_2_1 : cJ8_compareTo_2.data.toList.drop 22 = dktJ8_compareTo_2_1 := dk_seg dksJ8_compareTo_2_0 22 rfl rfl
theorem dksJ8_compareTo_2_2 : cJ8_compareTo_2.data.toList.drop 46 = dktJ8_compareTo_2_2 := dk_seg dksJ8_compareTo_2_1 24 rfl rfl
theorem dJ8_compareTo_2_0 : decode cJ8_compareTo_2 0 = .ok (.aload_n 0, 1) := dk_42 (dk_at dksJ8_compareTo_2_0 0 rfl rfl)
theorem dJ8_compareTo_2_1 : decode cJ8_compareTo_2 1 = .ok (.getfield 9, 3) := dk_180 0 9 (dk_at dksJ8_compareTo_2_0 1 rfl rfl)
theorem dJ8_compareTo_2_4 : decode cJ8_compareTo_2 4 = .ok (.astore_n 2, 1) := dk_77 (dk_at dksJ8_compareTo_2_0 4 rfl rfl)
theorem dJ8_compareTo_2_5 : decode cJ8_compareTo_2 5 = .ok (.aload_n 1, 1) := dk_43 (dk_at dksJ8_compareTo_2_0 5 rfl rfl)
theorem dJ8_compareTo_2_6 : decode cJ8_compareTo_2 6 = .ok (.getfield 9, 3) := dk_180 0 9 (dk_at dksJ8_compareTo_2_0 6 rfl rfl)
theorem dJ8_compareTo_2_9 : decode cJ8_compareTo_2 9 = .ok (.astore_n 3, 1) := dk_78 (dk_at dksJ8_compareTo_2_0 9 rfl rfl)
theorem dJ8_compareTo_2_10 : decode cJ8_compareTo_2 10 = .ok (.aload_n 0, 1) := dk_42 (dk_at dksJ8_compareTo_2_0 10 rfl rfl)
theorem dJ8_compareTo_2_11 : decode cJ8_compareTo_2 11 = .ok (.invokevirtual 335, 3) := dk_182 1 79 (dk_at dksJ8_compareTo_2_0 11 rfl rfl)
theorem dJ8_compareTo_2_14 : decode cJ8_compareTo_2 14 = .ok (.istore 4, 2) := dk_54 4 (dk_at dksJ8_compareTo_2_0 14 rfl rfl)
theorem dJ8_compareTo_2_16 : decode cJ8_compareTo_2 16 = .ok (.iload 4, 2) := dk_21 4 (dk_at dksJ8_compareTo_2_0 16 rfl rfl)
theorem dJ8_compareTo_2_18 : decode cJ8_compareTo_2 18 = .ok (.aload_n 1, 1) := dk_43 (dk_at dksJ8_compareTo_2_0 18 rfl rfl)
theorem dJ8_compareTo_2_19 : decode cJ8_compareTo_2 19 = .ok (.invokevirtual 335, 3) := dk_182 1 79 (dk_at dksJ8_compareTo_2_0 19 rfl rfl)
theorem dJ8_compareTo_2_22 : decode cJ8_compareTo_2 22 = .ok (.if_icmp .ne 22, 3) := dk_160 0 22 (dk_at dksJ8_compareTo_2_1 0 rfl rfl)
theorem dJ8_compareTo_2_25 : decode cJ8_compareTo_2 25 = .ok (.iload 4, 2) := dk_21 4 (dk_at dksJ8_compareTo_2_1 3 rfl rfl)
theorem dJ8_compareTo_2_27 : decode cJ8_compareTo_2 27 = .ok (.ifCond .ne 11, 3) := dk_154 0 11 (dk_at dksJ8_compareTo_2_1 5 rfl rfl)
theorem dJ8_compareTo_2_30 : decode cJ8_compareTo_2 30 = .ok (.aload_n 2, 1) := dk_44 (dk_at dksJ8_compareTo_2_1 8 rfl rfl)
theorem dJ8_compareTo_2_31 : decode cJ8_compareTo_2 31 = .ok (.aload_n 3, 1) := dk_45 (dk_at dksJ8_compareTo_2_1 9 rfl rfl)
theorem dJ8_compareTo_2_32 : decode cJ8_compareTo_2 32 = .ok (.invokestatic 586, 3) := dk_184 2 74 (dk_at dksJ8_compareTo_2_1 10 rfl rfl)
theorem dJ8_compareTo_2_35 : decode cJ8_compareTo_2 35 = .ok (.goto 8, 3) := dk_167 0 8 (dk_at dksJ8_compareTo_2_1 13 rfl rfl)
theorem dJ8_compareTo_2_38 : decode cJ8_compareTo_2 38 = .ok (.aload_n 2, 1) := dk_44 (dk_at dksJ8_compareTo_2_1 16 rfl rfl)
theorem dJ8_compareTo_2_39 : decode cJ8_compareTo_2 39 = .ok (.aload_n 3, 1) := dk_45 (dk_at dksJ8_compareTo_2_1 17 rfl rfl)
theorem dJ8_compareTo_2_40 : decode cJ8_compareTo_2 40 = .ok (.invokestatic 590, 3) := dk_184 2 78 (dk_at dksJ8_compareTo_2_1 18 rfl rfl)
theorem dJ8_compareTo_2_43 : decode cJ8_compareTo_2 43 = .ok (.ireturn, 1) := dk_172 (dk_at dksJ8_compareTo_2_1 21 rfl rfl)
theorem dJ8_compareTo_2_44 : decode cJ8_compareTo_2 44 = .ok (.iload 4, 2) := dk_21 4 (dk_at dksJ8_compareTo_2_1 22 rfl rfl)
theorem dJ8_compareTo_2_46 : decode cJ8_compareTo_2 46 = .ok (.ifCond .ne 11, 3) := dk_154 0 11 (dk_at dksJ8_compareTo_2_2 0 rfl rfl)
theorem dJ8_compareTo_2_49 : decode cJ8_compareTo_2 49 = .ok (.aload_n 2, 1) := dk_44 (dk_at dksJ8_compareTo_2_2 3 rfl rfl)
theorem dJ8_compareTo_2_50 : decode cJ8_compareTo_2 50 = .ok (.aload_n 3, 1) := dk_45 (dk_at dksJ8_compareTo_2_2 4 rfl rfl)
theorem dJ8_compareTo_2_51 : decode cJ8_compareTo_2 51 = .ok (.invokestatic 591, 3) := dk_184 2 79 (dk_at dksJ8_compareTo_2_2 5 rfl rfl)
theorem dJ8_compareTo_2_54 : decode cJ8_compareTo_2 54 = .ok (.goto 8, 3) := dk_167 0 8 (dk_at dksJ8_compareTo_2_2 8 rfl rfl)
theorem dJ8_compareTo_2_57 : decode cJ8_compareTo_2 57 = .ok (.aload_n 2, 1) := dk_44 (dk_at dksJ8_compareTo_2_2 11 rfl rfl)
theorem dJ8_compareTo_2_58 : decode cJ8_compareTo_2 58 = .ok (.aload_n 3, 1) := dk_45 (dk_at dksJ8_compareTo_2_2 12 rfl rfl)
theorem dJ8_compareTo_2_59 : decode cJ8_compareTo_2 59 = .ok (.invokestatic 594, 3) := dk_184 2 82 (dk_at dksJ8_compareTo_2_2 13 rfl rfl)
theorem dJ8_compareTo_2_62 : decode cJ8_compareTo_2 62 = .ok (.ireturn, 1) := dk_172 (dk_at dksJ8_compareTo_2_2 16 rfl rfl)
abbrev cJ8_checkOffset : ByteArray := prog_51_method_156_code
def yJ8_checkOffset : MethodName := ⟨RJ8, "checkOffset", "(II)V"⟩
def dkwJ8_checkOffset_0 : List UInt8 := [26, 27, 27, 178, 4, 29, 184, 4, 38, 87, 177]
abbrev dktJ8_checkOffset_0 : List UInt8 := dkwJ8_checkOffset_0 ++ []
theorem dksJ8_checkOffset_0 : cJ8_checkOffset.data.toList.drop 0 = dktJ8_checkOffset_0 := by decide +kernel
theorem dJ8_checkOffset_0 : decode cJ8_checkOffset 0 = .ok (.iload_n 0, 1) := dk_26 (dk_at dksJ8_checkOffset_0 0 rfl rfl)
theorem dJ8_checkOffset_1 : decode cJ8_checkOffset 1 = .ok (.iload_n 1, 1) := dk_27 (dk_at dksJ8_checkOffset_0 1 rfl rfl)
theorem dJ8_checkOffset_2 : decode cJ8_checkOffset 2 = .ok (.iload_n 1, 1) := dk_27 (dk_at dksJ8_checkOffset_0 2 rfl rfl)
theorem dJ8_checkOffset_3 : decode cJ8_checkOffset 3 = .ok (.getstatic 1053, 3) := dk_178 4 29 (dk_at dksJ8_checkOffset_0 3 rfl rfl)
theorem dJ8_checkOffset_6 : decode cJ8_checkOffset 6 = .ok (.invokestatic 1062, 3) := dk_184 4 38 (dk_at dksJ8_checkOffset_0 6 rfl rfl)
theorem dJ8_checkOffset_9 : decode cJ8_checkOffset 9 = .ok (.pop, 1) := dk_87 (dk_at dksJ8_checkOffset_0 9 rfl rfl)
theorem dJ8_checkOffset_10 : decode cJ8_checkOffset 10 = .ok (.return_, 1) := dk_177 (dk_at dksJ8_checkOffset_0 10 rfl rfl)
abbrev cJ8_checkIndex : ByteArray := prog_51_method_155_code
def yJ8_checkIndex : MethodName := ⟨RJ8, "checkIndex", "(II)V"⟩
def dkwJ8_checkIndex_0 : List UInt8 := [26, 27, 178, 4, 29, 184, 4, 35, 87, 177]
abbrev dktJ8_checkIndex_0 : List UInt8 := dkwJ8_checkIndex_0 ++ []
theorem dksJ8_checkIndex_0 : cJ8_checkIndex.data.toList.drop 0 = dktJ8_checkIndex_0 := by decide +kernel
theorem dJ8_checkIndex_0 : decode cJ8_checkIndex 0 = .ok (.iload_n 0, 1) := dk_26 (dk_at dksJ8_checkIndex_0 0 rfl rfl)
theorem dJ8_checkIndex_1 : decode cJ8_checkIndex 1 = .ok (.iload_n 1, 1) := dk_27 (dk_at dksJ8_checkIndex_0 1 rfl rfl)
theorem dJ8_checkIndex_2 : decode cJ8_checkIndex 2 = .ok (.getstatic 1053, 3) := dk_178 4 29 (dk_at dksJ8_checkIndex_0 2 rfl rfl)
theorem dJ8_checkIndex_5 : decode cJ8_checkIndex 5 = .ok (.invokestatic 1059, 3) := dk_184 4 35 (dk_at dksJ8_checkIndex_0 5 rfl rfl)
theorem dJ8_checkIndex_8 : decode cJ8_checkIndex 8 = .ok (.pop, 1) := dk_87 (dk_at dksJ8_checkIndex_0 8 rfl rfl)
theorem dJ8_checkIndex_9 : decode cJ8_checkIndex 9 = .ok (.return_, 1) := dk_177 (dk_at dksJ8_checkIndex_0 9 rfl rfl)
abbrev cJ8_charAt : ByteArray := prog_51_method_56_code
def yJ8_charAt : MethodName := ⟨RJ8, "charAt", "(I)C"⟩
def dkwJ8_charAt_1 : List UInt8 := [172]
abbrev dktJ8_charAt_1 : List UInt8 := dkwJ8_charAt_1 ++ []
def dkwJ8_charAt_0 : List UInt8 := [42, 182, 1, 236, 153, 0, 12, 42, 180, 0, 9, 27, 184, 1, 239, 172, 42, 180, 0, 9, 27, 184, 1, 242]
abbrev dktJ8_charAt_0 : List UInt8 := dkwJ8_charAt_0 ++ dktJ8_charAt_1
theorem dksJ8_charAt_0 : cJ8_charAt.data.toList.drop 0 = dktJ8_charAt_0 := by decide +kernel
theorem dksJ8_charAt_1 : cJ8_charAt.data.toList.drop 24 = dktJ8_charAt_1 := dk_seg dksJ8_charAt_0 24 rfl rfl
theorem dJ8_charAt_0 : decode cJ8_charAt 0 = .ok (.aload_n 0, 1) := dk_42 (dk_at dksJ8_charAt_0 0 rfl rfl)
theorem dJ8_charAt_1 : decode cJ8_charAt 1 = .ok (.invokevirtual 492, 3) := dk_182 1 236 (dk_at dksJ8_charAt_0 1 rfl rfl)
theorem dJ8_charAt_4 : decode cJ8_charAt 4 = .ok (.ifCond .eq 12, 3) := dk_153 0 12 (dk_at dksJ8_charAt_0 4 rfl rfl)
theorem dJ8_charAt_7 : decode cJ8_charAt 7 = .ok (.aload_n 0, 1) := dk_42 (dk_at dksJ8_charAt_0 7 rfl rfl)
theorem dJ8_charAt_8 : decode cJ8_charAt 8 = .ok (.getfield 9, 3) := dk_180 0 9 (dk_at dksJ8_charAt_0 8 rfl rfl)
theorem dJ8_charAt_11 : decode cJ8_charAt 11 = .ok (.iload_n 1, 1) := dk_27 (dk_at dksJ8_charAt_0 11 rfl rfl)
theorem dJ8_charAt_12 : decode cJ8_charAt 12 = .ok (.invokestatic 495, 3) := dk_184 1 239 (dk_at dksJ8_charAt_0 12 rfl rfl)
theorem dJ8_charAt_15 : decode cJ8_charAt 15 = .ok (.ireturn, 1) := dk_172 (dk_at dksJ8_charAt_0 15 rfl rfl)
theorem dJ8_charAt_16 : decode cJ8_charAt 16 = .ok (.aload_n 0, 1) := dk_42 (dk_at dksJ8_charAt_0 16 rfl rfl)
theorem dJ8_charAt_17 : decode cJ8_charAt 17 = .ok (.getfield 9, 3) := dk_180 0 9 (dk_at dksJ8_charAt_0 17 rfl rfl)
theorem dJ8_charAt_20 : decode cJ8_charAt 20 = .ok (.iload_n 1, 1) := dk_27 (dk_at dksJ8_charAt_0 20 rfl rfl)
theorem dJ8_charAt_21 : decode cJ8_charAt 21 = .ok (.invokestatic 498, 3) := dk_184 1 242 (dk_at dksJ8_charAt_0 21 rfl rfl)
theorem dJ8_charAt_24 : decode cJ8_charAt 24 = .ok (.ireturn, 1) := dk_172 (dk_at dksJ8_charAt_1 0 rfl rfl)
abbrev cJ8_isLatin1 : ByteArray := prog_51_method_154_code
def yJ8_isLatin1 : MethodName := ⟨RJ8, "isLatin1", "()Z"⟩
def dkwJ8_isLatin1_0 : List UInt8 := [178, 0, 38, 153, 0, 14, 42, 180, 0, 15, 154, 0, 7, 4, 167, 0, 4, 3, 172]
abbrev dktJ8_isLatin1_0 : List UInt8 := dkwJ8_isLatin1_0 ++ []
theorem dksJ8_isLatin1_0 : cJ8_isLatin1.data.toList.drop 0 = dktJ8_isLatin1_0 := by decide +kernel
theorem dJ8_isLatin1_0 : decode cJ8_isLatin1 0 = .ok (.getstatic 38, 3) := dk_178 0 38 (dk_at dksJ8_isLatin1_0 0 rfl rfl)
theorem dJ8_isLatin1_3 : decode cJ8_isLatin1 3 = .ok (.ifCond .eq 14, 3) := dk_153 0 14 (dk_at dksJ8_isLatin1_0 3 rfl rfl)
theorem dJ8_isLatin1_6 : decode cJ8_isLatin1 6 = .ok (.aload_n 0, 1) := dk_42 (dk_at dksJ8_isLatin1_0 6 rfl rfl)
theorem dJ8_isLatin1_7 : decode cJ8_isLatin1 7 = .ok (.getfield 15, 3) := dk_180 0 15 (dk_at dksJ8_isLatin1_0 7 rfl rfl)
theorem dJ8_isLatin1_10 : decode cJ8_isLatin1 10 = .ok (.ifCond .ne 7, 3) := dk_154 0 7 (dk_at dksJ8_isLatin1_0 10 rfl rfl)
theorem dJ8_isLatin1_13 : decode cJ8_isLatin1 13 = .ok (.iconst 1, 1) := dk_4 (dk_at dksJ8_isLatin1_0 13 rfl rfl)
theorem dJ8_isLatin1_14 : decode cJ8_isLatin1 14 = .ok (.goto 4, 3) := dk_167 0 4 (dk_at dksJ8_isLatin1_0 14 rfl rfl)
theorem dJ8_isLatin1_17 : decode cJ8_isLatin1 17 = .ok (.iconst 0, 1) := dk_3 (dk_at dksJ8_isLatin1_0 17 rfl rfl)
theorem dJ8_isLatin1_18 : decode cJ8_isLatin1 18 = .ok (.ireturn, 1) := dk_172 (dk_at dksJ8_isLatin1_0 18 rfl rfl)
abbrev cJ8_hashCode : ByteArray := prog_51_method_78_code
def yJ8_hashCode : MethodName := ⟨RJ8, "hashCode", "()I"⟩
def dkwJ8_hashCode_2 : List UInt8 := [181, 0, 23, 167, 0, 8, 42, 27, 181, 0, 19, 27, 172]
abbrev dktJ8_hashCode_2 : List UInt8 := dkwJ8_hashCode_2 ++ []
def dkwJ8_hashCode_1 : List UInt8 := [180, 0, 9, 184, 2, 116, 167, 0, 10, 42, 180, 0, 9, 184, 2, 120, 60, 27, 154, 0, 11, 42, 4]
abbrev dktJ8_hashCode_1 : List UInt8 := dkwJ8_hashCode_1 ++ dktJ8_hashCode_2
def dkwJ8_hashCode_0 : List UInt8 := [42, 180, 0, 19, 60, 27, 154, 0, 52, 42, 180, 0, 23, 154, 0, 45, 42, 182, 1, 236, 153, 0, 13, 42]
abbrev dktJ8_hashCode_0 : List UInt8 := dkwJ8_hashCode_0 ++ dktJ8_hashCode_1
theorem dksJ8_hashCode_0 : cJ8_hashCode.data.toList.drop 0 = dktJ8_hashCode_0 := by decide +kernel
theorem dksJ8_hashCode_1 : cJ8_hashCode.data.toList.drop 24 = dktJ8_hashCode_1 := dk_seg dksJ8_hashCode_0 24 rfl rfl
theorem dksJ8_hashCode_2 : cJ8_hashCode.data.toList.drop 47 = dktJ8_hashCode_2 := dk_seg dksJ8_hashCode_1 23 rfl rfl
theorem dJ8_hashCode_0 : decode cJ8_hashCode 0 = .ok (.aload_n 0, 1) := dk_42 (dk_at dksJ8_hashCode_0 0 rfl rfl)
theorem dJ8_hashCode_1 : decode cJ8_hashCode 1 = .ok (.getfield 19, 3) := dk_180 0 19 (dk_at dksJ8_hashCode_0 1 rfl rfl)
theorem dJ8_hashCode_4 : decode cJ8_hashCode 4 = .ok (.istore_n 1, 1) := dk_60 (dk_at dksJ8_hashCode_0 4 rfl rfl)
theorem dJ8_hashCode_5 : decode cJ8_hashCode 5 = .ok (.iload_n 1, 1) := dk_27 (dk_at dksJ8_hashCode_0 5 rfl rfl)
theorem dJ8_hashCode_6 : decode cJ8_hashCode 6 = .ok (.ifCond .ne 52, 3) := dk_154 0 52 (dk_at dksJ8_hashCode_0 6 rfl rfl)
theorem dJ8_hashCode_9 : decode cJ8_hashCode 9 = .ok (.aload_n 0, 1) := dk_42 (dk_at dksJ8_hashCode_0 9 rfl rfl)
theorem dJ8_hashCode_10 : decode cJ8_hashCode 10 = .ok (.getfield 23, 3) := dk_180 0 23 (dk_at dksJ8_hashCode_0 10 rfl rfl)
theorem dJ8_hashCode_13 : decode cJ8_hashCode 13 = .ok (.ifCond .ne 45, 3) := dk_154 0 45 (dk_at dksJ8_hashCode_0 13 rfl rfl)
theorem dJ8_hashCode_16 : decode cJ8_hashCode 16 = .ok (.aload_n 0, 1) := dk_42 (dk_at dksJ8_hashCode_0 16 rfl rfl)
theorem dJ8_hashCode_17 : decode cJ8_hashCode 17 = .ok (.invokevirtual 492, 3) := dk_182 1 236 (dk_at dksJ8_hashCode_0 17 rfl rfl)
theorem dJ8_hashCode_20 : decode cJ8_hashCode 20 = .ok (.ifCond .eq 13, 3) := dk_153 0 13 (dk_at dksJ8_hashCode_0 20 rfl rfl)
theorem dJ8_hashCode_23 : decode cJ8_hashCode 23 = .ok (.aload_n 0, 1) := dk_42 (dk_at dksJ8_hashCode_0 23 rfl rfl)
theorem dJ8_hashCode_24 : decode cJ8_hashCode 24 = .ok (.getfield 9, 3) := dk_180 0 9 (dk_at dksJ8_hashCode_1 0 rfl rfl)
theorem dJ8_hashCode_27 : decode cJ8_hashCode 27 = .ok (.invokestatic 628, 3) := dk_184 2 116 (dk_at dksJ8_hashCode_1 3 rfl rfl)
theorem dJ8_hashCode_30 : decode cJ8_hashCode 30 = .ok (.goto 10, 3) := dk_167 0 10 (dk_at dksJ8_hashCode_1 6 rfl rfl)
theorem dJ8_hashCode_33 : decode cJ8_hashCode 33 = .ok (.aload_n 0, 1) := dk_42 (dk_at dksJ8_hashCode_1 9 rfl rfl)
theorem dJ8_hashCode_34 : decode cJ8_hashCode 34 = .ok (.getfield 9, 3) := dk_180 0 9 (dk_at dksJ8_hashCode_1 10 rfl rfl)
theorem dJ8_hashCode_37 : decode cJ8_hashCode 37 = .ok (.invokestatic 632, 3) := dk_184 2 120 (dk_at dksJ8_hashCode_1 13 rfl rfl)
theorem dJ8_hashCode_40 : decode cJ8_hashCode 40 = .ok (.istore_n 1, 1) := dk_60 (dk_at dksJ8_hashCode_1 16 rfl rfl)
theorem dJ8_hashCode_41 : decode cJ8_hashCode 41 = .ok (.iload_n 1, 1) := dk_27 (dk_at dksJ8_hashCode_1 17 rfl rfl)
theorem dJ8_hashCode_42 : decode cJ8_hashCode 42 = .ok (.ifCond .ne 11, 3) := dk_154 0 11 (dk_at dksJ8_hashCode_1 18 rfl rfl)
theorem dJ8_hashCode_45 : decode cJ8_hashCode 45 = .ok (.aload_n 0, 1) := dk_42 (dk_at dksJ8_hashCode_1 21 rfl rfl)
theorem dJ8_hashCode_46 : decode cJ8_hashCode 46 = .ok (.iconst 1, 1) := dk_4 (dk_at dksJ8_hashCode_1 22 rfl rfl)
theorem dJ8_hashCode_47 : decode cJ8_hashCode 47 = .ok (.putfield 23, 3) := dk_181 0 23 (dk_at dksJ8_hashCode_2 0 rfl rfl)
theorem dJ8_hashCode_50 : decode cJ8_hashCode 50 = .ok (.goto 8, 3) := dk_167 0 8 (dk_at dksJ8_hashCode_2 3 rfl rfl)
theorem dJ8_hashCode_53 : decode cJ8_hashCode 53 = .ok (.aload_n 0, 1) := dk_42 (dk_at dksJ8_hashCode_2 6 rfl rfl)
theorem dJ8_hashCode_54 : decode cJ8_hashCode 54 = .ok (.iload_n 1, 1) := dk_27 (dk_at dksJ8_hashCode_2 7 rfl rfl)
theorem dJ8_hashCode_55 : decode cJ8_hashCode 55 = .ok (.putfield 19, 3) := dk_181 0 19 (dk_at dksJ8_hashCode_2 8 rfl rfl)
theorem dJ8_hashCode_58 : decode cJ8_hashCode 58 = .ok (.iload_n 1, 1) := dk_27 (dk_at dksJ8_hashCode_2 11 rfl rfl)
theorem dJ8_hashCode_59 : decode cJ8_hashCode 59 = .ok (.ireturn, 1) := dk_172 (dk_at dksJ8_hashCode_2 12 rfl rfl)
abbrev cJ8_equals : ByteArray := prog_51_method_66_code
def yJ8_equals : MethodName := ⟨RJ8, "equals", "(Ljava/lang/Object;)Z"⟩
def dkwJ8_equals_2 : List UInt8 := [184, 2, 29, 153, 0, 7, 4, 167, 0, 4, 3, 172]
abbrev dktJ8_equals_2 : List UInt8 := dkwJ8_equals_2 ++ []
def dkwJ8_equals_1 : List UInt8 := [153, 0, 14, 42, 180, 0, 15, 44, 180, 0, 15, 160, 0, 21, 42, 180, 0, 9, 44, 180, 0, 9]
abbrev dktJ8_equals_1 : List UInt8 := dkwJ8_equals_1 ++ dktJ8_equals_2
def dkwJ8_equals_0 : List UInt8 := [42, 43, 166, 0, 5, 4, 172, 43, 193, 0, 10, 153, 0, 43, 43, 192, 0, 10, 77, 178, 0, 38]
abbrev dktJ8_equals_0 : List UInt8 := dkwJ8_equals_0 ++ dktJ8_equals_1
theorem dksJ8_equals_0 : cJ8_equals.data.toList.drop 0 = dktJ8_equals_0 := by decide +kernel
theorem dksJ8_equals_1 : cJ8_equals.data.toList.drop 22 = dktJ8_equals_1 := dk_seg dksJ8_equals_0 22 rfl rfl
theorem dksJ8_equals_2 : cJ8_equals.data.toList.drop 44 = dktJ8_equals_2 := dk_seg dksJ8_equals_1 22 rfl rfl
theorem dJ8_equals_0 : decode cJ8_equals 0 = .ok (.aload_n 0, 1) := dk_42 (dk_at dksJ8_equals_0 0 rfl rfl)
theorem dJ8_equals_1 : decode cJ8_equals 1 = .ok (.aload_n 1, 1) := dk_43 (dk_at dksJ8_equals_0 1 rfl rfl)
theorem dJ8_equals_2 : decode cJ8_equals 2 = .ok (.if_acmp .ne 5, 3) := dk_166 0 5 (dk_at dksJ8_equals_0 2 rfl rfl)
theorem dJ8_equals_5 : decode cJ8_equals 5 = .ok (.iconst 1, 1) := dk_4 (dk_at dksJ8_equals_0 5 rfl rfl)
theorem dJ8_equals_6 : decode cJ8_equals 6 = .ok (.ireturn, 1) := dk_172 (dk_at dksJ8_equals_0 6 rfl rfl)
theorem dJ8_equals_7 : decode cJ8_equals 7 = .ok (.aload_n 1, 1) := dk_43 (dk_at dksJ8_equals_0 7 rfl rfl)
theorem dJ8_equals_8 : decode cJ8_equals 8 = .ok (.instanceof 10, 3) := dk_193 0 10 (dk_at dksJ8_equals_0 8 rfl rfl)
theorem dJ8_equals_11 : decode cJ8_equals 11 = .ok (.ifCond .eq 43, 3) := dk_153 0 43 (dk_at dksJ8_equals_0 11 rfl rfl)
theorem dJ8_equals_14 : decode cJ8_equals 14 = .ok (.aload_n 1, 1) := dk_43 (dk_at dksJ8_equals_0 14 rfl rfl)
theorem dJ8_equals_15 : decode cJ8_equals 15 = .ok (.checkcast 10, 3) := dk_192 0 10 (dk_at dksJ8_equals_0 15 rfl rfl)
theorem dJ8_equals_18 : decode cJ8_equals 18 = .ok (.astore_n 2, 1) := dk_77 (dk_at dksJ8_equals_0 18 rfl rfl)
theorem dJ8_equals_19 : decode cJ8_equals 19 = .ok (.getstatic 38, 3) := dk_178 0 38 (dk_at dksJ8_equals_0 19 rfl rfl)
theorem dJ8_equals_22 : decode cJ8_equals 22 = .ok (.ifCond .eq 14, 3) := dk_153 0 14 (dk_at dksJ8_equals_1 0 rfl rfl)
theorem dJ8_equals_25 : decode cJ8_equals 25 = .ok (.aload_n 0, 1) := dk_42 (dk_at dksJ8_equals_1 3 rfl rfl)
theorem dJ8_equals_26 : decode cJ8_equals 26 = .ok (.getfield 15, 3) := dk_180 0 15 (dk_at dksJ8_equals_1 4 rfl rfl)
theorem dJ8_equals_29 : decode cJ8_equals 29 = .ok (.aload_n 2, 1) := dk_44 (dk_at dksJ8_equals_1 7 rfl rfl)
theorem dJ8_equals_30 : decode cJ8_equals 30 = .ok (.getfield 15, 3) := dk_180 0 15 (dk_at dksJ8_equals_1 8 rfl rfl)
theorem dJ8_equals_33 : decode cJ8_equals 33 = .ok (.if_icmp .ne 21, 3) := dk_160 0 21 (dk_at dksJ8_equals_1 11 rfl rfl)
theorem dJ8_equals_36 : decode cJ8_equals 36 = .ok (.aload_n 0, 1) := dk_42 (dk_at dksJ8_equals_1 14 rfl rfl)
theorem dJ8_equals_37 : decode cJ8_equals 37 = .ok (.getfield 9, 3) := dk_180 0 9 (dk_at dksJ8_equals_1 15 rfl rfl)
theorem dJ8_equals_40 : decode cJ8_equals 40 = .ok (.aload_n 2, 1) := dk_44 (dk_at dksJ8_equals_1 18 rfl rfl)
theorem dJ8_equals_41 : decode cJ8_equals 41 = .ok (.getfield 9, 3) := dk_180 0 9 (dk_at dksJ8_equals_1 19 rfl rfl)
theorem dJ8_equals_44 : decode cJ8_equals 44 = .ok (.invokestatic 541, 3) := dk_184 2 29 (dk_at dksJ8_equals_2 0 rfl rfl)
theorem dJ8_equals_47 : decode cJ8_equals 47 = .ok (.ifCond .eq 7, 3) := dk_153 0 7 (dk_at dksJ8_equals_2 3 rfl rfl)
theorem dJ8_equals_50 : decode cJ8_equals 50 = .ok (.iconst 1, 1) := dk_4 (dk_at dksJ8_equals_2 6 rfl rfl)
theorem dJ8_equals_51 : decode cJ8_equals 51 = .ok (.goto 4, 3) := dk_167 0 4 (dk_at dksJ8_equals_2 7 rfl rfl)
theorem dJ8_equals_54 : decode cJ8_equals 54 = .ok (.iconst 0, 1) := dk_3 (dk_at dksJ8_equals_2 10 rfl rfl)
theorem dJ8_equals_55 : decode cJ8_equals 55 = .ok (.ireturn, 1) := dk_172 (dk_at dksJ8_equals_2 11 rfl rfl)
theorem q117 : (Jvm.Cond.initialized "java/lang/String") ∈ lw_all := lw_g (lw_at lw_m1 11 rfl) rfl
theorem q358 : (Jvm.Cond.laysStatic "java/lang/String" "COMPACT_STRINGS" "Z") ∈ lw_tbl := lw_at lw_m2 12 rfl
theorem q369 : (Jvm.Cond.fieldLink "java/lang/String" (1048 : Nat) "java/lang/AbstractStringBuilder" "maybeLatin1" "Z") ∈ lw_all := lw_g (lw_at lw_m2 23 rfl) rfl
theorem q680 : (Jvm.Cond.static ({ cls := "java/lang/String", name := "checkBoundsBeginEnd", desc := "(III)V" } : Jvm.MethodName)) ∈ lw_all := lw_g (lw_at lw_m3 94 rfl) rfl
theorem q681 : (Jvm.Cond.code ({ cls := "java/lang/String", name := "checkBoundsBeginEnd", desc := "(III)V" } : Jvm.MethodName) prog_51_method_158_code (3 : Nat) (Option.none : Option Jvm.ClassFile.FieldType)) ∈ lw_all := lw_g (lw_at lw_m3 95 rfl) rfl
theorem q682 : (Jvm.Cond.fieldLink "java/lang/String" (1053 : Nat) "jdk/internal/util/Preconditions" "SIOOBE_FORMATTER" "Ljava/util/function/BiFunction;") ∈ lw_all := lw_g (lw_at lw_m3 96 rfl) rfl
theorem q684 : (Jvm.Cond.methodLink "java/lang/String" (1062 : Nat) ({ cls := "jdk/internal/util/Preconditions", name := "checkFromToIndex", desc := "(IIILjava/util/function/BiFunction;)I" } : Jvm.MethodName)) ∈ lw_all := lw_g (lw_at lw_m3 98 rfl) rfl
theorem q697 : (Jvm.Cond.instanceMethod ({ cls := "java/lang/String", name := "length", desc := "()I" } : Jvm.MethodName)) ∈ lw_all := lw_g (lw_at lw_m3 111 rfl) rfl
theorem q698 : (Jvm.Cond.selects "java/lang/String" ({ cls := "java/lang/String", name := "length", desc := "()I" } : Jvm.MethodName) ({ cls := "java/lang/String", name := "length", desc := "()I" } : Jvm.MethodName)) ∈ lw_all := lw_g (lw_at lw_m3 112 rfl) rfl
theorem q699 : (Jvm.Cond.code ({ cls := "java/lang/String", name := "length", desc := "()I" } : Jvm.MethodName) prog_51_method_54_code (1 : Nat) (Option.some Jvm.ClassFile.FieldType.int)) ∈ lw_all := lw_g (lw_at lw_m3 113 rfl) rfl
theorem q700 : (Jvm.Cond.methodLink "java/lang/String" (335 : Nat) ({ cls := "java/lang/String", name := "coder", desc := "()B" } : Jvm.MethodName)) ∈ lw_all := lw_g (lw_at lw_m3 114 rfl) rfl
theorem q701 : (Jvm.Cond.instanceMethod ({ cls := "java/lang/String", name := "coder", desc := "()B" } : Jvm.MethodName)) ∈ lw_all := lw_g (lw_at lw_m3 115 rfl) rfl
theorem q702 : (Jvm.Cond.selects "java/lang/String" ({ cls := "java/lang/String", name := "coder", desc := "()B" } : Jvm.MethodName) ({ cls := "java/lang/String", name := "coder", desc := "()B" } : Jvm.MethodName)) ∈ lw_all := lw_g (lw_at lw_m3 116 rfl) rfl
theorem q703 : (Jvm.Cond.code ({ cls := "java/lang/String", name := "coder", desc := "()B" } : Jvm.MethodName) prog_51_method_152_code (1 : Nat) (Option.some Jvm.ClassFile.FieldType.byte)) ∈ lw_all := lw_g (lw_at lw_m3 117 rfl) rfl
theorem q704 : (Jvm.Cond.fieldLink "java/lang/String" (38 : Nat) "java/lang/String" "COMPACT_STRINGS" "Z") ∈ lw_all := lw_g (lw_at lw_m3 118 rfl) rfl
theorem q728 : (Jvm.Cond.static ({ cls := "java/lang/String", name := "checkBoundsOffCount", desc := "(III)I" } : Jvm.MethodName)) ∈ lw_all := lw_g (lw_at lw_m3 142 rfl) rfl
theorem q729 : (Jvm.Cond.code ({ cls := "java/lang/String", name := "checkBoundsOffCount", desc := "(III)I" } : Jvm.MethodName) prog_51_method_157_code (3 : Nat) (Option.some Jvm.ClassFile.FieldType.int)) ∈ lw_all := lw_g (lw_at lw_m3 143 rfl) rfl
theorem q730 : (Jvm.Cond.methodLink "java/lang/String" (1065 : Nat) ({ cls := "jdk/internal/util/Preconditions", name := "checkFromIndexSize", desc := "(IIILjava/util/function/BiFunction;)I" } : Jvm.MethodName)) ∈ lw_all := lw_g (lw_at lw_m3 144 rfl) rfl
theorem q734 : (Jvm.Cond.instanceMethod ({ cls := "java/lang/String", name := "getBytes", desc := "([BIB)V" } : Jvm.MethodName)) ∈ lw_all := lw_g (lw_at lw_m3 148 rfl) rfl
theorem q735 : (Jvm.Cond.selects "java/lang/String" ({ cls := "java/lang/String", name := "getBytes", desc := "([BIB)V" } : Jvm.MethodName) ({ cls := "java/lang/String", name := "getBytes", desc := "([BIB)V" } : Jvm.MethodName)) ∈ lw_all := lw_g (lw_at lw_m3 149 rfl) rfl
theorem q736 : (Jvm.Cond.code ({ cls := "java/lang/String", name := "getBytes", desc := "([BIB)V" } : Jvm.MethodName) prog_51_method_147_code (4 : Nat) (Option.none : Option Jvm.ClassFile.FieldType)) ∈ lw_all := lw_g (lw_at lw_m3 150 rfl) rfl
theorem q737 : (Jvm.Cond.methodLink "java/lang/String" (212 : Nat) ({ cls := "java/lang/System", name := "arraycopy", desc := "(Ljava/lang/Object;ILjava/lang/Object;II)V" } : Jvm.MethodName)) ∈ lw_all := lw_g (lw_at lw_m3 151 rfl) rfl
theorem q738 : (Jvm.Cond.methodLink "java/lang/String" (106 : Nat) ({ cls := "java/lang/StringLatin1", name := "inflate", desc := "([BI[BII)V" } : Jvm.MethodName)) ∈ lw_all := lw_g (lw_at lw_m3 152 rfl) rfl
theorem q770 : (Jvm.Cond.instantiable "java/lang/String" (4 : Nat)) ∈ lw_all := lw_g (lw_at lw_m3 184 rfl) rfl
theorem q772 : (Jvm.Cond.instanceMethod ({ cls := "java/lang/String", name := "<init>", desc := "(Ljava/lang/StringBuilder;)V" } : Jvm.MethodName)) ∈ lw_all := lw_g (lw_at lw_m3 186 rfl) rfl
theorem q773 : (Jvm.Cond.code ({ cls := "java/lang/String", name := "<init>", desc := "(Ljava/lang/StringBuilder;)V" } : Jvm.MethodName) prog_51_method_53_code (2 : Nat) (Option.none : Option Jvm.ClassFile.FieldType)) ∈ lw_all := lw_g (lw_at lw_m3 187 rfl) rfl
theorem q774 : (Jvm.Cond.methodLink "java/lang/String" (489 : Nat) ({ cls := "java/lang/String", name := "<init>", desc := "(Ljava/lang/AbstractStringBuilder;Ljava/lang/Void;)V" } : Jvm.MethodName)) ∈ lw_all := lw_g (lw_at lw_m3 188 rfl) rfl
theorem q775 : (Jvm.Cond.instanceMethod ({ cls := "java/lang/String", name := "<init>", desc := "(Ljava/lang/AbstractStringBuilder;Ljava/lang/Void;)V" } : Jvm.MethodName)) ∈ lw_all := lw_g (lw_at lw_m3 189 rfl) rfl
theorem q776 : (Jvm.Cond.code ({ cls := "java/lang/String", name := "<init>", desc := "(Ljava/lang/AbstractStringBuilder;Ljava/lang/Void;)V" } : Jvm.MethodName) prog_51_method_150_code (5 : Nat) (Option.none : Option Jvm.ClassFile.FieldType)) ∈ lw_all := lw_g (lw_at lw_m3 190 rfl) rfl
theorem q777 : (Jvm.Cond.methodLink "java/lang/String" (1 : Nat) ({ cls := "java/lang/Object", name := "<init>", desc := "()V" } : Jvm.MethodName)) ∈ lw_all := lw_g (lw_at lw_m3 191 rfl) rfl
theorem q778 : (Jvm.Cond.methodLink "java/lang/String" (552 : Nat) ({ cls := "java/lang/AbstractStringBuilder", name := "getValue", desc := "()[B" } : Jvm.MethodName)) ∈ lw_all := lw_g (lw_at lw_m3 192 rfl) rfl
theorem q783 : (Jvm.Cond.methodLink "java/lang/String" (549 : Nat) ({ cls := "java/lang/AbstractStringBuilder", name := "length", desc := "()I" } : Jvm.MethodName)) ∈ lw_all := lw_g (lw_at lw_m3 197 rfl) rfl
theorem q791 : (Jvm.Cond.methodLink "java/lang/String" (1047 : Nat) ({ cls := "java/lang/AbstractStringBuilder", name := "isLatin1", desc := "()Z" } : Jvm.MethodName)) ∈ lw_all := lw_g (lw_at lw_m3 205 rfl) rfl
theorem q792 : (Jvm.Cond.methodLink "java/lang/String" (54 : Nat) ({ cls := "java/util/Arrays", name := "copyOfRange", desc := "([BII)[B" } : Jvm.MethodName)) ∈ lw_all := lw_g (lw_at lw_m3 206 rfl) rfl
theorem q841 : (Jvm.Cond.methodLink "java/lang/String" (1051 : Nat) ({ cls := "java/lang/StringUTF16", name := "compress", desc := "([BII)[B" } : Jvm.MethodName)) ∈ lw_all := lw_g (lw_at lw_m4 15 rfl) rfl
theorem q851 : (Jvm.Cond.methodLink "java/lang/String" (47 : Nat) ({ cls := "java/lang/StringUTF16", name := "coderFromArrayLen", desc := "([BI)B" } : Jvm.MethodName)) ∈ lw_all := lw_g (lw_at lw_m4 25 rfl) rfl
theorem q854 : (Jvm.Cond.fieldLink "java/lang/String" (9 : Nat) "java/lang/String" "value" "[B") ∈ lw_all := lw_g (lw_at lw_m4 28 rfl) rfl
theorem q855 : (Jvm.Cond.fieldLink "java/lang/String" (15 : Nat) "java/lang/String" "coder" "B") ∈ lw_all := lw_g (lw_at lw_m4 29 rfl) rfl
theorem q856 : (Jvm.Cond.fieldLink "java/lang/String" (19 : Nat) "java/lang/String" "hash" "I") ∈ lw_all := lw_g (lw_at lw_m4 30 rfl) rfl
theorem q857 : (Jvm.Cond.fieldLink "java/lang/String" (23 : Nat) "java/lang/String" "hashIsZero" "Z") ∈ lw_all := lw_g (lw_at lw_m4 31 rfl) rfl
theorem q858 : (Jvm.Cond.laysFinal "java/lang/String" "java/lang/String" "value" "[B") ∈ lw_all := lw_g (lw_at lw_m4 32 rfl) rfl
theorem q859 : (Jvm.Cond.soleField "java/lang/String" "value") ∈ lw_all := lw_g (lw_at lw_m4 33 rfl) rfl
theorem q860 : (Jvm.Cond.laysFinal "java/lang/String" "java/lang/String" "coder" "B") ∈ lw_all := lw_g (lw_at lw_m4 34 rfl) rfl
theorem q861 : (Jvm.Cond.soleField "java/lang/String" "coder") ∈ lw_all := lw_g (lw_at lw_m4 35 rfl) rfl
theorem q862 : (Jvm.Cond.lays "java/lang/String" "java/lang/String" "hash" "I") ∈ lw_all := lw_g (lw_at lw_m4 36 rfl) rfl
theorem q863 : (Jvm.Cond.soleField "java/lang/String" "hash") ∈ lw_all := lw_g (lw_at lw_m4 37 rfl) rfl
theorem q864 : (Jvm.Cond.lays "java/lang/String" "java/lang/String" "hashIsZero" "Z") ∈ lw_all := lw_g (lw_at lw_m4 38 rfl) rfl
theorem q865 : (Jvm.Cond.soleField "java/lang/String" "hashIsZero") ∈ lw_all := lw_g (lw_at lw_m4 39 rfl) rfl
theorem q866 : (Jvm.Cond.superclass "java/lang/String" "java/lang/Object") ∈ lw_all := lw_g (lw_at lw_m4 40 rfl) rfl
theorem q950 : (Jvm.Cond.selects "java/lang/String" ({ cls := "java/lang/Object", name := "getClass", desc := "()Ljava/lang/Class;" } : Jvm.MethodName) ({ cls := "java/lang/Object", name := "getClass", desc := "()Ljava/lang/Class;" } : Jvm.MethodName)) ∈ lw_all := lw_g (lw_at lw_m4 124 rfl) rfl
theorem q1951 : (Jvm.Cond.castable "java/lang/String" "java/lang/Comparable") ∈ lw_tbl := lw_at lw_m8 165 rfl
theorem q1952 : (Jvm.Cond.selects "java/lang/String" ({ cls := "java/lang/Comparable", name := "compareTo", desc := "(Ljava/lang/Object;)I" } : Jvm.MethodName) ({ cls := "java/lang/String", name := "compareTo", desc := "(Ljava/lang/Object;)I" } : Jvm.MethodName)) ∈ lw_all := lw_g (lw_at lw_m8 166 rfl) rfl
theorem q1953 : (Jvm.Cond.unhidden "java/lang/String" "compareTo" "(Ljava/lang/Object;)I") ∈ lw_tbl := lw_at lw_m8 167 rfl
theorem q1954 : (Jvm.Cond.instanceMethod ({ cls := "java/lang/String", name := "compareTo", desc := "(Ljava/lang/Object;)I" } : Jvm.MethodName)) ∈ lw_all := lw_g (lw_at lw_m8 168 rfl) rfl
theorem q1955 : (Jvm.Cond.publicMethod ({ cls := "java/lang/String", name := "compareTo", desc := "(Ljava/lang/Object;)I" } : Jvm.MethodName)) ∈ lw_tbl := lw_at lw_m8 169 rfl
theorem q1956 : (Jvm.Cond.code ({ cls := "java/lang/String", name := "compareTo", desc := "(Ljava/lang/Object;)I" } : Jvm.MethodName) prog_51_method_162_code (2 : Nat) (Option.some Jvm.ClassFile.FieldType.int)) ∈ lw_all := lw_g (lw_at lw_m8 170 rfl) rfl
theorem q1957 : (Jvm.Cond.classLink "java/lang/String" (10 : Nat) "java/lang/String") ∈ lw_all := lw_g (lw_at lw_m8 171 rfl) rfl
theorem q1958 : (Jvm.Cond.methodLink "java/lang/String" (1084 : Nat) ({ cls := "java/lang/String", name := "compareTo", desc := "(Ljava/lang/String;)I" } : Jvm.MethodName)) ∈ lw_all := lw_g (lw_at lw_m8 172 rfl) rfl
theorem q1959 : (Jvm.Cond.instanceMethod ({ cls := "java/lang/String", name := "compareTo", desc := "(Ljava/lang/String;)I" } : Jvm.MethodName)) ∈ lw_all := lw_g (lw_at lw_m8 173 rfl) rfl
theorem q1960 : (Jvm.Cond.selects "java/lang/String" ({ cls := "java/lang/String", name := "compareTo", desc := "(Ljava/lang/String;)I" } : Jvm.MethodName) ({ cls := "java/lang/String", name := "compareTo", desc := "(Ljava/lang/String;)I" } : Jvm.MethodName)) ∈ lw_all := lw_g (lw_at lw_m8 174 rfl) rfl
theorem q1961 : (Jvm.Cond.code ({ cls := "java/lang/String", name := "compareTo", desc := "(Ljava/lang/String;)I" } : Jvm.MethodName) prog_51_method_71_code (5 : Nat) (Option.some Jvm.ClassFile.FieldType.int)) ∈ lw_all := lw_g (lw_at lw_m8 175 rfl) rfl
theorem q1962 : (Jvm.Cond.methodLink "java/lang/String" (586 : Nat) ({ cls := "java/lang/StringLatin1", name := "compareTo", desc := "([B[B)I" } : Jvm.MethodName)) ∈ lw_all := lw_g (lw_at lw_m8 176 rfl) rfl
theorem q2076 : (Jvm.Cond.methodLink "java/lang/String" (590 : Nat) ({ cls := "java/lang/StringUTF16", name := "compareTo", desc := "([B[B)I" } : Jvm.MethodName)) ∈ lw_all := lw_g (lw_at lw_m9 50 rfl) rfl
theorem q2083 : (Jvm.Cond.methodLink "java/lang/String" (591 : Nat) ({ cls := "java/lang/StringLatin1", name := "compareToUTF16", desc := "([B[B)I" } : Jvm.MethodName)) ∈ lw_all := lw_g (lw_at lw_m9 57 rfl) rfl
theorem q2094 : (Jvm.Cond.methodLink "java/lang/String" (594 : Nat) ({ cls := "java/lang/StringUTF16", name := "compareToLatin1", desc := "([B[B)I" } : Jvm.MethodName)) ∈ lw_all := lw_g (lw_at lw_m9 68 rfl) rfl
theorem q2120 : (Jvm.Cond.static ({ cls := "java/lang/String", name := "checkOffset", desc := "(II)V" } : Jvm.MethodName)) ∈ lw_all := lw_g (lw_at lw_m9 94 rfl) rfl
theorem q2121 : (Jvm.Cond.code ({ cls := "java/lang/String", name := "checkOffset", desc := "(II)V" } : Jvm.MethodName) prog_51_method_156_code (2 : Nat) (Option.none : Option Jvm.ClassFile.FieldType)) ∈ lw_all := lw_g (lw_at lw_m9 95 rfl) rfl
theorem q3086 : (Jvm.Cond.static ({ cls := "java/lang/String", name := "checkIndex", desc := "(II)V" } : Jvm.MethodName)) ∈ lw_all := lw_g (lw_at lw_m13 100 rfl) rfl
theorem q3087 : (Jvm.Cond.code ({ cls := "java/lang/String", name := "checkIndex", desc := "(II)V" } : Jvm.MethodName) prog_51_method_155_code (2 : Nat) (Option.none : Option Jvm.ClassFile.FieldType)) ∈ lw_all := lw_g (lw_at lw_m13 101 rfl) rfl
theorem q3088 : (Jvm.Cond.methodLink "java/lang/String" (1059 : Nat) ({ cls := "jdk/internal/util/Preconditions", name := "checkIndex", desc := "(IILjava/util/function/BiFunction;)I" } : Jvm.MethodName)) ∈ lw_all := lw_g (lw_at lw_m13 102 rfl) rfl
theorem q3318 : (Jvm.Cond.castable "java/lang/String" "java/lang/CharSequence") ∈ lw_tbl := lw_at lw_m14 92 rfl
theorem q3319 : (Jvm.Cond.selects "java/lang/String" ({ cls := "java/lang/CharSequence", name := "length", desc := "()I" } : Jvm.MethodName) ({ cls := "java/lang/String", name := "length", desc := "()I" } : Jvm.MethodName)) ∈ lw_all := lw_g (lw_at lw_m14 93 rfl) rfl
theorem q3320 : (Jvm.Cond.unhidden "java/lang/String" "length" "()I") ∈ lw_tbl := lw_at lw_m14 94 rfl
theorem q3321 : (Jvm.Cond.publicMethod ({ cls := "java/lang/String", name := "length", desc := "()I" } : Jvm.MethodName)) ∈ lw_tbl := lw_at lw_m14 95 rfl
theorem q3328 : (Jvm.Cond.instanceMethod ({ cls := "java/lang/String", name := "charAt", desc := "(I)C" } : Jvm.MethodName)) ∈ lw_all := lw_g (lw_at lw_m14 102 rfl) rfl
theorem q3329 : (Jvm.Cond.selects "java/lang/String" ({ cls := "java/lang/String", name := "charAt", desc := "(I)C" } : Jvm.MethodName) ({ cls := "java/lang/String", name := "charAt", desc := "(I)C" } : Jvm.MethodName)) ∈ lw_all := lw_g (lw_at lw_m14 103 rfl) rfl
theorem q3330 : (Jvm.Cond.code ({ cls := "java/lang/String", name := "charAt", desc := "(I)C" } : Jvm.MethodName) prog_51_method_56_code (2 : Nat) (Option.some Jvm.ClassFile.FieldType.char)) ∈ lw_all := lw_g (lw_at lw_m14 104 rfl) rfl
theorem q3331 : (Jvm.Cond.methodLink "java/lang/String" (492 : Nat) ({ cls := "java/lang/String", name := "isLatin1", desc := "()Z" } : Jvm.MethodName)) ∈ lw_all := lw_g (lw_at lw_m14 105 rfl) rfl
theorem q3332 : (Jvm.Cond.instanceMethod ({ cls := "java/lang/String", name := "isLatin1", desc := "()Z" } : Jvm.MethodName)) ∈ lw_all := lw_g (lw_at lw_m14 106 rfl) rfl
theorem q3333 : (Jvm.Cond.selects "java/lang/String" ({ cls := "java/lang/String", name := "isLatin1", desc := "()Z" } : Jvm.MethodName) ({ cls := "java/lang/String", name := "isLatin1", desc := "()Z" } : Jvm.MethodName)) ∈ lw_all := lw_g (lw_at lw_m14 107 rfl) rfl
theorem q3334 : (Jvm.Cond.code ({ cls := "java/lang/String", name := "isLatin1", desc := "()Z" } : Jvm.MethodName) prog_51_method_154_code (1 : Nat) (Option.some Jvm.ClassFile.FieldType.boolean)) ∈ lw_all := lw_g (lw_at lw_m14 108 rfl) rfl
theorem q3335 : (Jvm.Cond.methodLink "java/lang/String" (495 : Nat) ({ cls := "java/lang/StringLatin1", name := "charAt", desc := "([BI)C" } : Jvm.MethodName)) ∈ lw_all := lw_g (lw_at lw_m14 109 rfl) rfl
theorem q3339 : (Jvm.Cond.methodLink "java/lang/String" (498 : Nat) ({ cls := "java/lang/StringUTF16", name := "charAt", desc := "([BI)C" } : Jvm.MethodName)) ∈ lw_all := lw_g (lw_at lw_m14 113 rfl) rfl
theorem q3346 : (Jvm.Cond.selects "java/lang/String" ({ cls := "java/lang/CharSequence", name := "charAt", desc := "(I)C" } : Jvm.MethodName) ({ cls := "java/lang/String", name := "charAt", desc := "(I)C" } : Jvm.MethodName)) ∈ lw_all := lw_g (lw_at lw_m14 120 rfl) rfl
theorem q3347 : (Jvm.Cond.unhidden "java/lang/String" "charAt" "(I)C") ∈ lw_tbl := lw_at lw_m14 121 rfl
theorem q3348 : (Jvm.Cond.publicMethod ({ cls := "java/lang/String", name := "charAt", desc := "(I)C" } : Jvm.MethodName)) ∈ lw_tbl := lw_at lw_m14 122 rfl
theorem q3358 : (Jvm.Cond.instanceMethod ({ cls := "java/lang/String", name := "hashCode", desc := "()I" } : Jvm.MethodName)) ∈ lw_all := lw_g (lw_at lw_m14 132 rfl) rfl
theorem q3359 : (Jvm.Cond.selects "java/lang/String" ({ cls := "java/lang/String", name := "hashCode", desc := "()I" } : Jvm.MethodName) ({ cls := "java/lang/String", name := "hashCode", desc := "()I" } : Jvm.MethodName)) ∈ lw_all := lw_g (lw_at lw_m14 133 rfl) rfl
theorem q3360 : (Jvm.Cond.code ({ cls := "java/lang/String", name := "hashCode", desc := "()I" } : Jvm.MethodName) prog_51_method_78_code (2 : Nat) (Option.some Jvm.ClassFile.FieldType.int)) ∈ lw_all := lw_g (lw_at lw_m14 134 rfl) rfl
theorem q3361 : (Jvm.Cond.methodLink "java/lang/String" (628 : Nat) ({ cls := "java/lang/StringLatin1", name := "hashCode", desc := "([B)I" } : Jvm.MethodName)) ∈ lw_all := lw_g (lw_at lw_m14 135 rfl) rfl
theorem q3410 : (Jvm.Cond.methodLink "java/lang/String" (632 : Nat) ({ cls := "java/lang/StringUTF16", name := "hashCode", desc := "([B)I" } : Jvm.MethodName)) ∈ lw_all := lw_g (lw_at lw_m14 184 rfl) rfl
theorem q3415 : (Jvm.Cond.instanceMethod ({ cls := "java/lang/String", name := "equals", desc := "(Ljava/lang/Object;)Z" } : Jvm.MethodName)) ∈ lw_all := lw_g (lw_at lw_m14 189 rfl) rfl
theorem q3416 : (Jvm.Cond.selects "java/lang/String" ({ cls := "java/lang/String", name := "equals", desc := "(Ljava/lang/Object;)Z" } : Jvm.MethodName) ({ cls := "java/lang/String", name := "equals", desc := "(Ljava/lang/Object;)Z" } : Jvm.MethodName)) ∈ lw_all := lw_g (lw_at lw_m14 190 rfl) rfl
theorem q3417 : (Jvm.Cond.code ({ cls := "java/lang/String", name := "equals", desc := "(Ljava/lang/Object;)Z" } : Jvm.MethodName) prog_51_method_66_code (3 : Nat) (Option.some Jvm.ClassFile.FieldType.boolean)) ∈ lw_all := lw_g (lw_at lw_m14 191 rfl) rfl
theorem q3418 : (Jvm.Cond.methodLink "java/lang/String" (541 : Nat) ({ cls := "java/lang/StringLatin1", name := "equals", desc := "([B[B)Z" } : Jvm.MethodName)) ∈ lw_all := lw_g (lw_at lw_m14 192 rfl) rfl
theorem q3991 : (Jvm.Cond.castable "java/lang/String" "java/lang/Object") ∈ lw_tbl := lw_at lw_m17 45 rfl
theorem in_J8 : ∀ w ∈ wsJ80, w ∈ lw_all := lw_in wsJ80 [858, 860, 862, 864] (by decide +kernel) (by decide +kernel)

/-! java/lang/StringUTF16 -/
set_option maxRecDepth 100000
def RJ9 : String := "java/lang/StringUTF16"
abbrev cJ9_newBytesFor : ByteArray := prog_55_method_2_code
def yJ9_newBytesFor : MethodName := ⟨RJ9, "newBytesFor", "(I)[B"⟩
def dkwJ9_newBytesFor_0 : List UInt8 := [26, 184, 0, 11, 188, 8, 176]
abbrev dktJ9_newBytesFor_0 : List UInt8 := dkwJ9_newBytesFor_0 ++ []
theorem dksJ9_newBytesFor_0 : cJ9_newBytesFor.data.toList.drop 0 = dktJ9_newBytesFor_0 := by decide +kernel
theorem dJ9_newBytesFor_0 : decode cJ9_newBytesFor 0 = .ok (.iload_n 0, 1) := dk_26 (dk_at dksJ9_newBytesFor_0 0 rfl rfl)
theorem dJ9_newBytesFor_1 : decode cJ9_newBytesFor 1 = .ok (.invokestatic 11, 3) := dk_184 0 11 (dk_at dksJ9_newBytesFor_0 1 rfl rfl)
theorem dJ9_newBytesFor_4 : decode cJ9_newBytesFor 4 = .ok (.newarray .byte, 2) := dk_188_8 (dk_at dksJ9_newBytesFor_0 4 rfl rfl)
theorem dJ9_newBytesFor_6 : decode cJ9_newBytesFor 6 = .ok (.areturn, 1) := dk_176 (dk_at dksJ9_newBytesFor_0 6 rfl rfl)
abbrev cJ9_newBytesLength : ByteArray := prog_55_method_3_code
def yJ9_newBytesLength : MethodName := ⟨RJ9, "newBytesLength", "(I)I"⟩
def dkwJ9_newBytesLength_2 : List UInt8 := [182, 0, 32, 182, 0, 37, 183, 0, 41, 191, 26, 4, 120, 172]
abbrev dktJ9_newBytesLength_2 : List UInt8 := dkwJ9_newBytesLength_2 ++ []
def dkwJ9_newBytesLength_1 : List UInt8 := [187, 0, 23, 89, 183, 0, 25, 18, 26, 182, 0, 28, 26, 182, 0, 32, 18, 35, 182, 0, 28, 18, 20]
abbrev dktJ9_newBytesLength_1 : List UInt8 := dkwJ9_newBytesLength_1 ++ dktJ9_newBytesLength_2
def dkwJ9_newBytesLength_0 : List UInt8 := [26, 156, 0, 11, 187, 0, 17, 89, 183, 0, 19, 191, 26, 18, 20, 161, 0, 40, 187, 0, 21, 89]
abbrev dktJ9_newBytesLength_0 : List UInt8 := dkwJ9_newBytesLength_0 ++ dktJ9_newBytesLength_1
theorem dksJ9_newBytesLength_0 : cJ9_newBytesLength.data.toList.drop 0 = dktJ9_newBytesLength_0 := by decide +kernel
theorem dksJ9_newBytesLength_1 : cJ9_newBytesLength.data.toList.drop 22 = dktJ9_newBytesLength_1 := dk_seg dksJ9_newBytesLength_0 22 rfl rfl
theorem dksJ9_newBytesLength_2 : cJ9_newBytesLength.data.toList.drop 45 = dktJ9_newBytesLength_2 := dk_seg dksJ9_newBytesLength_1 23 rfl rfl
theorem dJ9_newBytesLength_0 : decode cJ9_newBytesLength 0 = .ok (.iload_n 0, 1) := dk_26 (dk_at dksJ9_newBytesLength_0 0 rfl rfl)
theorem dJ9_newBytesLength_1 : decode cJ9_newBytesLength 1 = .ok (.ifCond .ge 11, 3) := dk_156 0 11 (dk_at dksJ9_newBytesLength_0 1 rfl rfl)
theorem dJ9_newBytesLength_4 : decode cJ9_newBytesLength 4 = .ok (.new 17, 3) := dk_187 0 17 (dk_at dksJ9_newBytesLength_0 4 rfl rfl)
theorem dJ9_newBytesLength_7 : decode cJ9_newBytesLength 7 = .ok (.dup, 1) := dk_89 (dk_at dksJ9_newBytesLength_0 7 rfl rfl)
theorem dJ9_newBytesLength_8 : decode cJ9_newBytesLength 8 = .ok (.invokespecial 19, 3) := dk_183 0 19 (dk_at dksJ9_newBytesLength_0 8 rfl rfl)
theorem dJ9_newBytesLength_11 : decode cJ9_newBytesLength 11 = .ok (.athrow, 1) := dk_191 (dk_at dksJ9_newBytesLength_0 11 rfl rfl)
theorem dJ9_newBytesLength_12 : decode cJ9_newBytesLength 12 = .ok (.iload_n 0, 1) := dk_26 (dk_at dksJ9_newBytesLength_0 12 rfl rfl)
theorem dJ9_newBytesLength_13 : decode cJ9_newBytesLength 13 = .ok (.ldc 20, 2) := dk_18 20 (dk_at dksJ9_newBytesLength_0 13 rfl rfl)
theorem dJ9_newBytesLength_15 : decode cJ9_newBytesLength 15 = .ok (.if_icmp .lt 40, 3) := dk_161 0 40 (dk_at dksJ9_newBytesLength_0 15 rfl rfl)
theorem dJ9_newBytesLength_18 : decode cJ9_newBytesLength 18 = .ok (.new 21, 3) := dk_187 0 21 (dk_at dksJ9_newBytesLength_0 18 rfl rfl)
theorem dJ9_newBytesLength_21 : decode cJ9_newBytesLength 21 = .ok (.dup, 1) := dk_89 (dk_at dksJ9_newBytesLength_0 21 rfl rfl)
theorem dJ9_newBytesLength_22 : decode cJ9_newBytesLength 22 = .ok (.new 23, 3) := dk_187 0 23 (dk_at dksJ9_newBytesLength_1 0 rfl rfl)
theorem dJ9_newBytesLength_25 : decode cJ9_newBytesLength 25 = .ok (.dup, 1) := dk_89 (dk_at dksJ9_newBytesLength_1 3 rfl rfl)
theorem dJ9_newBytesLength_26 : decode cJ9_newBytesLength 26 = .ok (.invokespecial 25, 3) := dk_183 0 25 (dk_at dksJ9_newBytesLength_1 4 rfl rfl)
theorem dJ9_newBytesLength_29 : decode cJ9_newBytesLength 29 = .ok (.ldc 26, 2) := dk_18 26 (dk_at dksJ9_newBytesLength_1 7 rfl rfl)
theorem dJ9_newBytesLength_31 : decode cJ9_newBytesLength 31 = .ok (.invokevirtual 28, 3) := dk_182 0 28 (dk_at dksJ9_newBytesLength_1 9 rfl rfl)
theorem dJ9_newBytesLength_34 : decode cJ9_newBytesLength 34 = .ok (.iload_n 0, 1) := dk_26 (dk_at dksJ9_newBytesLength_1 12 rfl rfl)
theorem dJ9_newBytesLength_35 : decode cJ9_newBytesLength 35 = .ok (.invokevirtual 32, 3) := dk_182 0 32 (dk_at dksJ9_newBytesLength_1 13 rfl rfl)
theorem dJ9_newBytesLength_38 : decode cJ9_newBytesLength 38 = .ok (.ldc 35, 2) := dk_18 35 (dk_at dksJ9_newBytesLength_1 16 rfl rfl)
theorem dJ9_newBytesLength_40 : decode cJ9_newBytesLength 40 = .ok (.invokevirtual 28, 3) := dk_182 0 28 (dk_at dksJ9_newBytesLength_1 18 rfl rfl)
theorem dJ9_newBytesLength_43 : decode cJ9_newBytesLength 43 = .ok (.ldc 20, 2) := dk_18 20 (dk_at dksJ9_newBytesLength_1 21 rfl rfl)
theorem dJ9_newBytesLength_45 : decode cJ9_newBytesLength 45 = .ok (.invokevirtual 32, 3) := dk_182 0 32 (dk_at dksJ9_newBytesLength_2 0 rfl rfl)
theorem dJ9_newBytesLength_48 : decode cJ9_newBytesLength 48 = .ok (.invokevirtual 37, 3) := dk_182 0 37 (dk_at dksJ9_newBytesLength_2 3 rfl rfl)
theorem dJ9_newBytesLength_51 : decode cJ9_newBytesLength 51 = .ok (.invokespecial 41, 3) := dk_183 0 41 (dk_at dksJ9_newBytesLength_2 6 rfl rfl)
theorem dJ9_newBytesLength_54 : decode cJ9_newBytesLength 54 = .ok (.athrow, 1) := dk_191 (dk_at dksJ9_newBytesLength_2 9 rfl rfl)
theorem dJ9_newBytesLength_55 : decode cJ9_newBytesLength 55 = .ok (.iload_n 0, 1) := dk_26 (dk_at dksJ9_newBytesLength_2 10 rfl rfl)
theorem dJ9_newBytesLength_56 : decode cJ9_newBytesLength 56 = .ok (.iconst 1, 1) := dk_4 (dk_at dksJ9_newBytesLength_2 11 rfl rfl)
theorem dJ9_newBytesLength_57 : decode cJ9_newBytesLength 57 = .ok (.ishl, 1) := dk_120 (dk_at dksJ9_newBytesLength_2 12 rfl rfl)
theorem dJ9_newBytesLength_58 : decode cJ9_newBytesLength 58 = .ok (.ireturn, 1) := dk_172 (dk_at dksJ9_newBytesLength_2 13 rfl rfl)
abbrev cJ9_putCharsAt : ByteArray := prog_55_method_81_code
def yJ9_putCharsAt : MethodName := ⟨RJ9, "putCharsAt", "([BICCCC)I"⟩
def dkwJ9_putCharsAt_3 : List UInt8 := [21, 6, 172]
abbrev dktJ9_putCharsAt_3 : List UInt8 := dkwJ9_putCharsAt_3 ++ []
def dkwJ9_putCharsAt_2 : List UInt8 := [184, 0, 111, 178, 0, 44, 154, 0, 17, 27, 21, 6, 159, 0, 11, 187, 0, 52, 89, 183, 0, 66, 191]
abbrev dktJ9_putCharsAt_2 : List UInt8 := dkwJ9_putCharsAt_2 ++ dktJ9_putCharsAt_3
def dkwJ9_putCharsAt_1 : List UInt8 := [132, 1, 1, 29, 184, 0, 111, 42, 27, 132, 1, 1, 21, 4, 184, 0, 111, 42, 27, 132, 1, 1, 21, 5]
abbrev dktJ9_putCharsAt_1 : List UInt8 := dkwJ9_putCharsAt_1 ++ dktJ9_putCharsAt_2
def dkwJ9_putCharsAt_0 : List UInt8 := [27, 7, 96, 54, 6, 27, 21, 6, 42, 184, 0, 96, 42, 27, 132, 1, 1, 28, 184, 0, 111, 42, 27]
abbrev dktJ9_putCharsAt_0 : List UInt8 := dkwJ9_putCharsAt_0 ++ dktJ9_putCharsAt_1
theorem dksJ9_putCharsAt_0 : cJ9_putCharsAt.data.toList.drop 0 = dktJ9_putCharsAt_0 := by decide +kernel
theorem dksJ9_putCharsAt_1 : cJ9_putCharsAt.data.toList.drop 23 = dktJ9_putCharsAt_1 := dk_seg dksJ9_putCharsAt_0 23 rfl rfl
theorem dksJ9_putCharsAt_2 : cJ9_putCharsAt.data.toList.drop 47 = dktJ9_putCharsAt_2 := dk_seg dksJ9_putCharsAt_1 24 rfl rfl
theorem dksJ9_putCharsAt_3 : cJ9_putCharsAt.data.toList.drop 70 = dktJ9_putCharsAt_3 := dk_seg dksJ9_putCharsAt_2 23 rfl rfl
theorem dJ9_putCharsAt_0 : decode cJ9_putCharsAt 0 = .ok (.iload_n 1, 1) := dk_27 (dk_at dksJ9_putCharsAt_0 0 rfl rfl)
theorem dJ9_putCharsAt_1 : decode cJ9_putCharsAt 1 = .ok (.iconst 4, 1) := dk_7 (dk_at dksJ9_putCharsAt_0 1 rfl rfl)
theorem dJ9_putCharsAt_2 : decode cJ9_putCharsAt 2 = .ok (.iadd, 1) := dk_96 (dk_at dksJ9_putCharsAt_0 2 rfl rfl)
theorem dJ9_putCharsAt_3 : decode cJ9_putCharsAt 3 = .ok (.istore 6, 2) := dk_54 6 (dk_at dksJ9_putCharsAt_0 3 rfl rfl)
theorem dJ9_putCharsAt_5 : decode cJ9_putCharsAt 5 = .ok (.iload_n 1, 1) := dk_27 (dk_at dksJ9_putCharsAt_0 5 rfl rfl)
theorem dJ9_putCharsAt_6 : decode cJ9_putCharsAt 6 = .ok (.iload 6, 2) := dk_21 6 (dk_at dksJ9_putCharsAt_0 6 rfl rfl)
theorem dJ9_putCharsAt_8 : decode cJ9_putCharsAt 8 = .ok (.aload_n 0, 1) := dk_42 (dk_at dksJ9_putCharsAt_0 8 rfl rfl)
theorem dJ9_putCharsAt_9 : decode cJ9_putCharsAt 9 = .ok (.invokestatic 96, 3) := dk_184 0 96 (dk_at dksJ9_putCharsAt_0 9 rfl rfl)
theorem dJ9_putCharsAt_12 : decode cJ9_putCharsAt 12 = .ok (.aload_n 0, 1) := dk_42 (dk_at dksJ9_putCharsAt_0 12 rfl rfl)
theorem dJ9_putCharsAt_13 : decode cJ9_putCharsAt 13 = .ok (.iload_n 1, 1) := dk_27 (dk_at dksJ9_putCharsAt_0 13 rfl rfl)
theorem dJ9_putCharsAt_14 : decode cJ9_putCharsAt 14 = .ok (.iinc 1 1, 3) := dk_132 1 1 (dk_at dksJ9_putCharsAt_0 14 rfl rfl)
theorem dJ9_putCharsAt_17 : decode cJ9_putCharsAt 17 = .ok (.iload_n 2, 1) := dk_28 (dk_at dksJ9_putCharsAt_0 17 rfl rfl)
theorem dJ9_putCharsAt_18 : decode cJ9_putCharsAt 18 = .ok (.invokestatic 111, 3) := dk_184 0 111 (dk_at dksJ9_putCharsAt_0 18 rfl rfl)
theorem dJ9_putCharsAt_21 : decode cJ9_putCharsAt 21 = .ok (.aload_n 0, 1) := dk_42 (dk_at dksJ9_putCharsAt_0 21 rfl rfl)
theorem dJ9_putCharsAt_22 : decode cJ9_putCharsAt 22 = .ok (.iload_n 1, 1) := dk_27 (dk_at dksJ9_putCharsAt_0 22 rfl rfl)
theorem dJ9_putCharsAt_23 : decode cJ9_putCharsAt 23 = .ok (.iinc 1 1, 3) := dk_132 1 1 (dk_at dksJ9_putCharsAt_1 0 rfl rfl)
theorem dJ9_putCharsAt_26 : decode cJ9_putCharsAt 26 = .ok (.iload_n 3, 1) := dk_29 (dk_at dksJ9_putCharsAt_1 3 rfl rfl)
theorem dJ9_putCharsAt_27 : decode cJ9_putCharsAt 27 = .ok (.invokestatic 111, 3) := dk_184 0 111 (dk_at dksJ9_putCharsAt_1 4 rfl rfl)
theorem dJ9_putCharsAt_30 : decode cJ9_putCharsAt 30 = .ok (.aload_n 0, 1) := dk_42 (dk_at dksJ9_putCharsAt_1 7 rfl rfl)
theorem dJ9_putCharsAt_31 : decode cJ9_putCharsAt 31 = .ok (.iload_n 1, 1) := dk_27 (dk_at dksJ9_putCharsAt_1 8 rfl rfl)
theorem dJ9_putCharsAt_32 : decode cJ9_putCharsAt 32 = .ok (.iinc 1 1, 3) := dk_132 1 1 (dk_at dksJ9_putCharsAt_1 9 rfl rfl)
theorem dJ9_putCharsAt_35 : decode cJ9_putCharsAt 35 = .ok (.iload 4, 2) := dk_21 4 (dk_at dksJ9_putCharsAt_1 12 rfl rfl)
theorem dJ9_putCharsAt_37 : decode cJ9_putCharsAt 37 = .ok (.invokestatic 111, 3) := dk_184 0 111 (dk_at dksJ9_putCharsAt_1 14 rfl rfl)
theorem dJ9_putCharsAt_40 : decode cJ9_putCharsAt 40 = .ok (.aload_n 0, 1) := dk_42 (dk_at dksJ9_putCharsAt_1 17 rfl rfl)
theorem dJ9_putCharsAt_41 : decode cJ9_putCharsAt 41 = .ok (.iload_n 1, 1) := dk_27 (dk_at dksJ9_putCharsAt_1 18 rfl rfl)
theorem dJ9_putCharsAt_42 : decode cJ9_putCharsAt 42 = .ok (.iinc 1 1, 3) := dk_132 1 1 (dk_at dksJ9_putCharsAt_1 19 rfl rfl)
theorem dJ9_putCharsAt_45 : decode cJ9_putCharsAt 45 = .ok (.iload 5, 2) := dk_21 5 (dk_at dksJ9_putCharsAt_1 22 rfl rfl)
theorem dJ9_putCharsAt_47 : decode cJ9_putCharsAt 47 = .ok (.invokestatic 111, 3) := dk_184 0 111 (dk_at dksJ9_putCharsAt_2 0 rfl rfl)
theorem dJ9_putCharsAt_50 : decode cJ9_putCharsAt 50 = .ok (.getstatic 44, 3) := dk_178 0 44 (dk_at dksJ9_putCharsAt_2 3 rfl rfl)
theorem dJ9_putCharsAt_53 : decode cJ9_putCharsAt 53 = .ok (.ifCond .ne 17, 3) := dk_154 0 17 (dk_at dksJ9_putCharsAt_2 6 rfl rfl)
theorem dJ9_putCharsAt_56 : decode cJ9_putCharsAt 56 = .ok (.iload_n 1, 1) := dk_27 (dk_at dksJ9_putCharsAt_2 9 rfl rfl)
theorem dJ9_putCharsAt_57 : decode cJ9_putCharsAt 57 = .ok (.iload 6, 2) := dk_21 6 (dk_at dksJ9_putCharsAt_2 10 rfl rfl)
theorem dJ9_putCharsAt_59 : decode cJ9_putCharsAt 59 = .ok (.if_icmp .eq 11, 3) := dk_159 0 11 (dk_at dksJ9_putCharsAt_2 12 rfl rfl)
theorem dJ9_putCharsAt_62 : decode cJ9_putCharsAt 62 = .ok (.new 52, 3) := dk_187 0 52 (dk_at dksJ9_putCharsAt_2 15 rfl rfl)
theorem dJ9_putCharsAt_65 : decode cJ9_putCharsAt 65 = .ok (.dup, 1) := dk_89 (dk_at dksJ9_putCharsAt_2 18 rfl rfl)
theorem dJ9_putCharsAt_66 : decode cJ9_putCharsAt 66 = .ok (.invokespecial 66, 3) := dk_183 0 66 (dk_at dksJ9_putCharsAt_2 19 rfl rfl)
theorem dJ9_putCharsAt_69 : decode cJ9_putCharsAt 69 = .ok (.athrow, 1) := dk_191 (dk_at dksJ9_putCharsAt_2 22 rfl rfl)
theorem dJ9_putCharsAt_70 : decode cJ9_putCharsAt 70 = .ok (.iload 6, 2) := dk_21 6 (dk_at dksJ9_putCharsAt_3 0 rfl rfl)
theorem dJ9_putCharsAt_72 : decode cJ9_putCharsAt 72 = .ok (.ireturn, 1) := dk_172 (dk_at dksJ9_putCharsAt_3 2 rfl rfl)
abbrev cJ9_checkBoundsBeginEnd : ByteArray := prog_55_method_93_code
def yJ9_checkBoundsBeginEnd : MethodName := ⟨RJ9, "checkBoundsBeginEnd", "(II[B)V"⟩
def dkwJ9_checkBoundsBeginEnd_0 : List UInt8 := [26, 27, 44, 184, 0, 48, 184, 0, 241, 177]
abbrev dktJ9_checkBoundsBeginEnd_0 : List UInt8 := dkwJ9_checkBoundsBeginEnd_0 ++ []
theorem dksJ9_checkBoundsBeginEnd_0 : cJ9_checkBoundsBeginEnd.data.toList.drop 0 = dktJ9_checkBoundsBeginEnd_0 := by decide +kernel
theorem dJ9_checkBoundsBeginEnd_0 : decode cJ9_checkBoundsBeginEnd 0 = .ok (.iload_n 0, 1) := dk_26 (dk_at dksJ9_checkBoundsBeginEnd_0 0 rfl rfl)
theorem dJ9_checkBoundsBeginEnd_1 : decode cJ9_checkBoundsBeginEnd 1 = .ok (.iload_n 1, 1) := dk_27 (dk_at dksJ9_checkBoundsBeginEnd_0 1 rfl rfl)
theorem dJ9_checkBoundsBeginEnd_2 : decode cJ9_checkBoundsBeginEnd 2 = .ok (.aload_n 2, 1) := dk_44 (dk_at dksJ9_checkBoundsBeginEnd_0 2 rfl rfl)
theorem dJ9_checkBoundsBeginEnd_3 : decode cJ9_checkBoundsBeginEnd 3 = .ok (.invokestatic 48, 3) := dk_184 0 48 (dk_at dksJ9_checkBoundsBeginEnd_0 3 rfl rfl)
theorem dJ9_checkBoundsBeginEnd_6 : decode cJ9_checkBoundsBeginEnd 6 = .ok (.invokestatic 241, 3) := dk_184 0 241 (dk_at dksJ9_checkBoundsBeginEnd_0 6 rfl rfl)
theorem dJ9_checkBoundsBeginEnd_9 : decode cJ9_checkBoundsBeginEnd 9 = .ok (.return_, 1) := dk_177 (dk_at dksJ9_checkBoundsBeginEnd_0 9 rfl rfl)
abbrev cJ9_length : ByteArray := prog_55_method_6_code
def yJ9_length : MethodName := ⟨RJ9, "length", "([B)I"⟩
def dkwJ9_length_0 : List UInt8 := [42, 190, 4, 122, 172]
abbrev dktJ9_length_0 : List UInt8 := dkwJ9_length_0 ++ []
theorem dksJ9_length_0 : cJ9_length.data.toList.drop 0 = dktJ9_length_0 := by decide +kernel
theorem dJ9_length_0 : decode cJ9_length 0 = .ok (.aload_n 0, 1) := dk_42 (dk_at dksJ9_length_0 0 rfl rfl)
theorem dJ9_length_1 : decode cJ9_length 1 = .ok (.arraylength, 1) := dk_190 (dk_at dksJ9_length_0 1 rfl rfl)
theorem dJ9_length_2 : decode cJ9_length 2 = .ok (.iconst 1, 1) := dk_4 (dk_at dksJ9_length_0 2 rfl rfl)
theorem dJ9_length_3 : decode cJ9_length 3 = .ok (.ishr, 1) := dk_122 (dk_at dksJ9_length_0 3 rfl rfl)
theorem dJ9_length_4 : decode cJ9_length 4 = .ok (.ireturn, 1) := dk_172 (dk_at dksJ9_length_0 4 rfl rfl)
abbrev cJ9_putChar : ByteArray := prog_55_method_4_code
def yJ9_putChar : MethodName := ⟨RJ9, "putChar", "([BII)V"⟩
def dkwJ9_putChar_2 : List UInt8 := [178, 0, 63, 122, 145, 84, 177]
abbrev dktJ9_putChar_2 : List UInt8 := dkwJ9_putChar_2 ++ []
def dkwJ9_putChar_1 : List UInt8 := [183, 0, 56, 191, 27, 4, 120, 60, 42, 27, 132, 1, 1, 28, 178, 0, 59, 122, 145, 84, 42, 27, 28]
abbrev dktJ9_putChar_1 : List UInt8 := dkwJ9_putChar_1 ++ dktJ9_putChar_2
def dkwJ9_putChar_0 : List UInt8 := [178, 0, 44, 154, 0, 25, 27, 155, 0, 11, 27, 42, 184, 0, 48, 161, 0, 13, 187, 0, 52, 89, 18, 54]
abbrev dktJ9_putChar_0 : List UInt8 := dkwJ9_putChar_0 ++ dktJ9_putChar_1
theorem dksJ9_putChar_0 : cJ9_putChar.data.toList.drop 0 = dktJ9_putChar_0 := by decide +kernel
theorem dksJ9_putChar_1 : cJ9_putChar.data.toList.drop 24 = dktJ9_putChar_1 := dk_seg dksJ9_putChar_0 24 rfl rfl
theorem dksJ9_putChar_2 : cJ9_putChar.data.toList.drop 47 = dktJ9_putChar_2 := dk_seg dksJ9_putChar_1 23 rfl rfl
theorem dJ9_putChar_0 : decode cJ9_putChar 0 = .ok (.getstatic 44, 3) := dk_178 0 44 (dk_at dksJ9_putChar_0 0 rfl rfl)
theorem dJ9_putChar_3 : decode cJ9_putChar 3 = .ok (.ifCond .ne 25, 3) := dk_154 0 25 (dk_at dksJ9_putChar_0 3 rfl rfl)
theorem dJ9_putChar_6 : decode cJ9_putChar 6 = .ok (.iload_n 1, 1) := dk_27 (dk_at dksJ9_putChar_0 6 rfl rfl)
theorem dJ9_putChar_7 : decode cJ9_putChar 7 = .ok (.ifCond .lt 11, 3) := dk_155 0 11 (dk_at dksJ9_putChar_0 7 rfl rfl)
theorem dJ9_putChar_10 : decode cJ9_putChar 10 = .ok (.iload_n 1, 1) := dk_27 (dk_at dksJ9_putChar_0 10 rfl rfl)
theorem dJ9_putChar_11 : decode cJ9_putChar 11 = .ok (.aload_n 0, 1) := dk_42 (dk_at dksJ9_putChar_0 11 rfl rfl)
theorem dJ9_putChar_12 : decode cJ9_putChar 12 = .ok (.invokestatic 48, 3) := dk_184 0 48 (dk_at dksJ9_putChar_0 12 rfl rfl)
theorem dJ9_putChar_15 : decode cJ9_putChar 15 = .ok (.if_icmp .lt 13, 3) := dk_161 0 13 (dk_at dksJ9_putChar_0 15 rfl rfl)
theorem dJ9_putChar_18 : decode cJ9_putChar 18 = .ok (.new 52, 3) := dk_187 0 52 (dk_at dksJ9_putChar_0 18 rfl rfl)
theorem dJ9_putChar_21 : decode cJ9_putChar 21 = .ok (.dup, 1) := dk_89 (dk_at dksJ9_putChar_0 21 rfl rfl)
theorem dJ9_putChar_22 : decode cJ9_putChar 22 = .ok (.ldc 54, 2) := dk_18 54 (dk_at dksJ9_putChar_0 22 rfl rfl)
theorem dJ9_putChar_24 : decode cJ9_putChar 24 = .ok (.invokespecial 56, 3) := dk_183 0 56 (dk_at dksJ9_putChar_1 0 rfl rfl)
theorem dJ9_putChar_27 : decode cJ9_putChar 27 = .ok (.athrow, 1) := dk_191 (dk_at dksJ9_putChar_1 3 rfl rfl)
theorem dJ9_putChar_28 : decode cJ9_putChar 28 = .ok (.iload_n 1, 1) := dk_27 (dk_at dksJ9_putChar_1 4 rfl rfl)
theorem dJ9_putChar_29 : decode cJ9_putChar 29 = .ok (.iconst 1, 1) := dk_4 (dk_at dksJ9_putChar_1 5 rfl rfl)
theorem dJ9_putChar_30 : decode cJ9_putChar 30 = .ok (.ishl, 1) := dk_120 (dk_at dksJ9_putChar_1 6 rfl rfl)
theorem dJ9_putChar_31 : decode cJ9_putChar 31 = .ok (.istore_n 1, 1) := dk_60 (dk_at dksJ9_putChar_1 7 rfl rfl)
theorem dJ9_putChar_32 : decode cJ9_putChar 32 = .ok (.aload_n 0, 1) := dk_42 (dk_at dksJ9_putChar_1 8 rfl rfl)
theorem dJ9_putChar_33 : decode cJ9_putChar 33 = .ok (.iload_n 1, 1) := dk_27 (dk_at dksJ9_putChar_1 9 rfl rfl)
theorem dJ9_putChar_34 : decode cJ9_putChar 34 = .ok (.iinc 1 1, 3) := dk_132 1 1 (dk_at dksJ9_putChar_1 10 rfl rfl)
theorem dJ9_putChar_37 : decode cJ9_putChar 37 = .ok (.iload_n 2, 1) := dk_28 (dk_at dksJ9_putChar_1 13 rfl rfl)
theorem dJ9_putChar_38 : decode cJ9_putChar 38 = .ok (.getstatic 59, 3) := dk_178 0 59 (dk_at dksJ9_putChar_1 14 rfl rfl)
theorem dJ9_putChar_41 : decode cJ9_putChar 41 = .ok (.ishr, 1) := dk_122 (dk_at dksJ9_putChar_1 17 rfl rfl)
theorem dJ9_putChar_42 : decode cJ9_putChar 42 = .ok (.i2b, 1) := dk_145 (dk_at dksJ9_putChar_1 18 rfl rfl)
theorem dJ9_putChar_43 : decode cJ9_putChar 43 = .ok (.bastore, 1) := dk_84 (dk_at dksJ9_putChar_1 19 rfl rfl)
theorem dJ9_putChar_44 : decode cJ9_putChar 44 = .ok (.aload_n 0, 1) := dk_42 (dk_at dksJ9_putChar_1 20 rfl rfl)
theorem dJ9_putChar_45 : decode cJ9_putChar 45 = .ok (.iload_n 1, 1) := dk_27 (dk_at dksJ9_putChar_1 21 rfl rfl)
theorem dJ9_putChar_46 : decode cJ9_putChar 46 = .ok (.iload_n 2, 1) := dk_28 (dk_at dksJ9_putChar_1 22 rfl rfl)
theorem dJ9_putChar_47 : decode cJ9_putChar 47 = .ok (.getstatic 63, 3) := dk_178 0 63 (dk_at dksJ9_putChar_2 0 rfl rfl)
theorem dJ9_putChar_50 : decode cJ9_putChar 50 = .ok (.ishr, 1) := dk_122 (dk_at dksJ9_putChar_2 3 rfl rfl)
theorem dJ9_putChar_51 : decode cJ9_putChar 51 = .ok (.i2b, 1) := dk_145 (dk_at dksJ9_putChar_2 4 rfl rfl)
theorem dJ9_putChar_52 : decode cJ9_putChar 52 = .ok (.bastore, 1) := dk_84 (dk_at dksJ9_putChar_2 5 rfl rfl)
theorem dJ9_putChar_53 : decode cJ9_putChar 53 = .ok (.return_, 1) := dk_177 (dk_at dksJ9_putChar_2 6 rfl rfl)
abbrev cJ9_inflate : ByteArray := prog_55_method_86_code
def yJ9_inflate : MethodName := ⟨RJ9, "inflate", "([BI[BII)V"⟩
def dkwJ9_inflate_1 : List UInt8 := [132, 1, 1, 51, 17, 0, 255, 126, 184, 0, 111, 132, 5, 1, 167, 255, 228, 177]
abbrev dktJ9_inflate_1 : List UInt8 := dkwJ9_inflate_1 ++ []
def dkwJ9_inflate_0 : List UInt8 := [29, 21, 4, 44, 184, 0, 173, 3, 54, 5, 21, 5, 21, 4, 162, 0, 27, 44, 29, 132, 3, 1, 42, 27]
abbrev dktJ9_inflate_0 : List UInt8 := dkwJ9_inflate_0 ++ dktJ9_inflate_1
theorem dksJ9_inflate_0 : cJ9_inflate.data.toList.drop 0 = dktJ9_inflate_0 := by decide +kernel
theorem dksJ9_inflate_1 : cJ9_inflate.data.toList.drop 24 = dktJ9_inflate_1 := dk_seg dksJ9_inflate_0 24 rfl rfl
theorem dJ9_inflate_0 : decode cJ9_inflate 0 = .ok (.iload_n 3, 1) := dk_29 (dk_at dksJ9_inflate_0 0 rfl rfl)
theorem dJ9_inflate_1 : decode cJ9_inflate 1 = .ok (.iload 4, 2) := dk_21 4 (dk_at dksJ9_inflate_0 1 rfl rfl)
theorem dJ9_inflate_3 : decode cJ9_inflate 3 = .ok (.aload_n 2, 1) := dk_44 (dk_at dksJ9_inflate_0 3 rfl rfl)
theorem dJ9_inflate_4 : decode cJ9_inflate 4 = .ok (.invokestatic 173, 3) := dk_184 0 173 (dk_at dksJ9_inflate_0 4 rfl rfl)
theorem dJ9_inflate_7 : decode cJ9_inflate 7 = .ok (.iconst 0, 1) := dk_3 (dk_at dksJ9_inflate_0 7 rfl rfl)
theorem dJ9_inflate_8 : decode cJ9_inflate 8 = .ok (.istore 5, 2) := dk_54 5 (dk_at dksJ9_inflate_0 8 rfl rfl)
theorem dJ9_inflate_10 : decode cJ9_inflate 10 = .ok (.iload 5, 2) := dk_21 5 (dk_at dksJ9_inflate_0 10 rfl rfl)
theorem dJ9_inflate_12 : decode cJ9_inflate 12 = .ok (.iload 4, 2) := dk_21 4 (dk_at dksJ9_inflate_0 12 rfl rfl)
theorem dJ9_inflate_14 : decode cJ9_inflate 14 = .ok (.if_icmp .ge 27, 3) := dk_162 0 27 (dk_at dksJ9_inflate_0 14 rfl rfl)
theorem dJ9_inflate_17 : decode cJ9_inflate 17 = .ok (.aload_n 2, 1) := dk_44 (dk_at dksJ9_inflate_0 17 rfl rfl)
theorem dJ9_inflate_18 : decode cJ9_inflate 18 = .ok (.iload_n 3, 1) := dk_29 (dk_at dksJ9_inflate_0 18 rfl rfl)
theorem dJ9_inflate_19 : decode cJ9_inflate 19 = .ok (.iinc 3 1, 3) := dk_132 3 1 (dk_at dksJ9_inflate_0 19 rfl rfl)
theorem dJ9_inflate_22 : decode cJ9_inflate 22 = .ok (.aload_n 0, 1) := dk_42 (dk_at dksJ9_inflate_0 22 rfl rfl)
theorem dJ9_inflate_23 : decode cJ9_inflate 23 = .ok (.iload_n 1, 1) := dk_27 (dk_at dksJ9_inflate_0 23 rfl rfl)
theorem dJ9_inflate_24 : decode cJ9_inflate 24 = .ok (.iinc 1 1, 3) := dk_132 1 1 (dk_at dksJ9_inflate_1 0 rfl rfl)
theorem dJ9_inflate_27 : decode cJ9_inflate 27 = .ok (.baload, 1) := dk_51 (dk_at dksJ9_inflate_1 3 rfl rfl)
theorem dJ9_inflate_28 : decode cJ9_inflate 28 = .ok (.sipush 255, 3) := dk_17 0 255 (dk_at dksJ9_inflate_1 4 rfl rfl)
theorem dJ9_inflate_31 : decode cJ9_inflate 31 = .ok (.iand, 1) := dk_126 (dk_at dksJ9_inflate_1 7 rfl rfl)
theorem dJ9_inflate_32 : decode cJ9_inflate 32 = .ok (.invokestatic 111, 3) := dk_184 0 111 (dk_at dksJ9_inflate_1 8 rfl rfl)
theorem dJ9_inflate_35 : decode cJ9_inflate 35 = .ok (.iinc 5 1, 3) := dk_132 5 1 (dk_at dksJ9_inflate_1 11 rfl rfl)
theorem dJ9_inflate_38 : decode cJ9_inflate 38 = .ok (.goto (-28), 3) := dk_167 255 228 (dk_at dksJ9_inflate_1 14 rfl rfl)
theorem dJ9_inflate_41 : decode cJ9_inflate 41 = .ok (.return_, 1) := dk_177 (dk_at dksJ9_inflate_1 17 rfl rfl)
abbrev cJ9_checkBoundsOffCount : ByteArray := prog_55_method_94_code
def yJ9_checkBoundsOffCount : MethodName := ⟨RJ9, "checkBoundsOffCount", "(II[B)V"⟩
def dkwJ9_checkBoundsOffCount_0 : List UInt8 := [26, 27, 44, 184, 0, 48, 184, 1, 163, 87, 177]
abbrev dktJ9_checkBoundsOffCount_0 : List UInt8 := dkwJ9_checkBoundsOffCount_0 ++ []
theorem dksJ9_checkBoundsOffCount_0 : cJ9_checkBoundsOffCount.data.toList.drop 0 = dktJ9_checkBoundsOffCount_0 := by decide +kernel
theorem dJ9_checkBoundsOffCount_0 : decode cJ9_checkBoundsOffCount 0 = .ok (.iload_n 0, 1) := dk_26 (dk_at dksJ9_checkBoundsOffCount_0 0 rfl rfl)
theorem dJ9_checkBoundsOffCount_1 : decode cJ9_checkBoundsOffCount 1 = .ok (.iload_n 1, 1) := dk_27 (dk_at dksJ9_checkBoundsOffCount_0 1 rfl rfl)
theorem dJ9_checkBoundsOffCount_2 : decode cJ9_checkBoundsOffCount 2 = .ok (.aload_n 2, 1) := dk_44 (dk_at dksJ9_checkBoundsOffCount_0 2 rfl rfl)
theorem dJ9_checkBoundsOffCount_3 : decode cJ9_checkBoundsOffCount 3 = .ok (.invokestatic 48, 3) := dk_184 0 48 (dk_at dksJ9_checkBoundsOffCount_0 3 rfl rfl)
theorem dJ9_checkBoundsOffCount_6 : decode cJ9_checkBoundsOffCount 6 = .ok (.invokestatic 419, 3) := dk_184 1 163 (dk_at dksJ9_checkBoundsOffCount_0 6 rfl rfl)
theorem dJ9_checkBoundsOffCount_9 : decode cJ9_checkBoundsOffCount 9 = .ok (.pop, 1) := dk_87 (dk_at dksJ9_checkBoundsOffCount_0 9 rfl rfl)
theorem dJ9_checkBoundsOffCount_10 : decode cJ9_checkBoundsOffCount 10 = .ok (.return_, 1) := dk_177 (dk_at dksJ9_checkBoundsOffCount_0 10 rfl rfl)
abbrev cJ9_getChars : ByteArray := prog_55_method_77_code
def yJ9_getChars : MethodName := ⟨RJ9, "getChars", "(III[B)I"⟩
def dkwJ9_getChars_1 : List UInt8 := [159, 0, 11, 187, 0, 52, 89, 183, 0, 66, 191, 21, 4, 172]
abbrev dktJ9_getChars_1 : List UInt8 := dkwJ9_getChars_1 ++ []
def dkwJ9_getChars_0 : List UInt8 := [27, 28, 45, 184, 0, 96, 26, 28, 45, 184, 1, 137, 54, 4, 178, 0, 44, 154, 0, 17, 27, 21, 4]
abbrev dktJ9_getChars_0 : List UInt8 := dkwJ9_getChars_0 ++ dktJ9_getChars_1
theorem dksJ9_getChars_0 : cJ9_getChars.data.toList.drop 0 = dktJ9_getChars_0 := by decide +kernel
theorem dksJ9_getChars_1 : cJ9_getChars.data.toList.drop 23 = dktJ9_getChars_1 := dk_seg dksJ9_getChars_0 23 rfl rfl
theorem dJ9_getChars_0 : decode cJ9_getChars 0 = .ok (.iload_n 1, 1) := dk_27 (dk_at dksJ9_getChars_0 0 rfl rfl)
theorem dJ9_getChars_1 : decode cJ9_getChars 1 = .ok (.iload_n 2, 1) := dk_28 (dk_at dksJ9_getChars_0 1 rfl rfl)
theorem dJ9_getChars_2 : decode cJ9_getChars 2 = .ok (.aload_n 3, 1) := dk_45 (dk_at dksJ9_getChars_0 2 rfl rfl)
theorem dJ9_getChars_3 : decode cJ9_getChars 3 = .ok (.invokestatic 96, 3) := dk_184 0 96 (dk_at dksJ9_getChars_0 3 rfl rfl)
theorem dJ9_getChars_6 : decode cJ9_getChars 6 = .ok (.iload_n 0, 1) := dk_26 (dk_at dksJ9_getChars_0 6 rfl rfl)
theorem dJ9_getChars_7 : decode cJ9_getChars 7 = .ok (.iload_n 2, 1) := dk_28 (dk_at dksJ9_getChars_0 7 rfl rfl)
theorem dJ9_getChars_8 : decode cJ9_getChars 8 = .ok (.aload_n 3, 1) := dk_45 (dk_at dksJ9_getChars_0 8 rfl rfl)
theorem dJ9_getChars_9 : decode cJ9_getChars 9 = .ok (.invokestatic 393, 3) := dk_184 1 137 (dk_at dksJ9_getChars_0 9 rfl rfl)
theorem dJ9_getChars_12 : decode cJ9_getChars 12 = .ok (.istore 4, 2) := dk_54 4 (dk_at dksJ9_getChars_0 12 rfl rfl)
theorem dJ9_getChars_14 : decode cJ9_getChars 14 = .ok (.getstatic 44, 3) := dk_178 0 44 (dk_at dksJ9_getChars_0 14 rfl rfl)
theorem dJ9_getChars_17 : decode cJ9_getChars 17 = .ok (.ifCond .ne 17, 3) := dk_154 0 17 (dk_at dksJ9_getChars_0 17 rfl rfl)
theorem dJ9_getChars_20 : decode cJ9_getChars 20 = .ok (.iload_n 1, 1) := dk_27 (dk_at dksJ9_getChars_0 20 rfl rfl)
theorem dJ9_getChars_21 : decode cJ9_getChars 21 = .ok (.iload 4, 2) := dk_21 4 (dk_at dksJ9_getChars_0 21 rfl rfl)
theorem dJ9_getChars_23 : decode cJ9_getChars 23 = .ok (.if_icmp .eq 11, 3) := dk_159 0 11 (dk_at dksJ9_getChars_1 0 rfl rfl)
theorem dJ9_getChars_26 : decode cJ9_getChars 26 = .ok (.new 52, 3) := dk_187 0 52 (dk_at dksJ9_getChars_1 3 rfl rfl)
theorem dJ9_getChars_29 : decode cJ9_getChars 29 = .ok (.dup, 1) := dk_89 (dk_at dksJ9_getChars_1 6 rfl rfl)
theorem dJ9_getChars_30 : decode cJ9_getChars 30 = .ok (.invokespecial 66, 3) := dk_183 0 66 (dk_at dksJ9_getChars_1 7 rfl rfl)
theorem dJ9_getChars_33 : decode cJ9_getChars 33 = .ok (.athrow, 1) := dk_191 (dk_at dksJ9_getChars_1 10 rfl rfl)
theorem dJ9_getChars_34 : decode cJ9_getChars 34 = .ok (.iload 4, 2) := dk_21 4 (dk_at dksJ9_getChars_1 11 rfl rfl)
theorem dJ9_getChars_36 : decode cJ9_getChars 36 = .ok (.ireturn, 1) := dk_172 (dk_at dksJ9_getChars_1 13 rfl rfl)
abbrev cJ9_getChars_2 : ByteArray := prog_55_method_89_code
def yJ9_getChars_2 : MethodName := ⟨RJ9, "getChars", "(II[B)I"⟩
def dkwJ9_getChars_2_5 : List UInt8 := [132, 5, 255, 21, 5, 16, 45, 184, 0, 111, 21, 5, 172]
abbrev dktJ9_getChars_2_5 : List UInt8 := dkwJ9_getChars_2_5 ++ []
def dkwJ9_getChars_2_4 : List UInt8 := [162, 0, 18, 44, 132, 5, 255, 21, 5, 178, 1, 151, 26, 116, 51, 184, 0, 111, 21, 6, 153, 0, 14, 44]
abbrev dktJ9_getChars_2_4 : List UInt8 := dkwJ9_getChars_2_4 ++ dktJ9_getChars_2_5
def dkwJ9_getChars_2_3 : List UInt8 := [184, 0, 111, 167, 255, 205, 44, 132, 5, 255, 21, 5, 178, 1, 147, 26, 116, 51, 184, 0, 111, 26, 16, 247]
abbrev dktJ9_getChars_2_3 : List UInt8 := dkwJ9_getChars_2_3 ++ dktJ9_getChars_2_4
def dkwJ9_getChars_2_2 : List UInt8 := [21, 5, 178, 1, 147, 21, 4, 51, 184, 0, 111, 44, 132, 5, 255, 21, 5, 178, 1, 151, 21, 4, 51]
abbrev dktJ9_getChars_2_2 : List UInt8 := dkwJ9_getChars_2_2 ++ dktJ9_getChars_2_3
def dkwJ9_getChars_2_1 : List UInt8 := [16, 156, 163, 0, 51, 26, 16, 100, 108, 62, 29, 16, 100, 104, 26, 100, 54, 4, 29, 59, 44, 132, 5, 255]
abbrev dktJ9_getChars_2_1 : List UInt8 := dkwJ9_getChars_2_1 ++ dktJ9_getChars_2_2
def dkwJ9_getChars_2_0 : List UInt8 := [27, 54, 5, 26, 156, 0, 7, 4, 167, 0, 4, 3, 54, 6, 21, 6, 154, 0, 6, 26, 116, 59, 26]
abbrev dktJ9_getChars_2_0 : List UInt8 := dkwJ9_getChars_2_0 ++ dktJ9_getChars_2_1
theorem dksJ9_getChars_2_0 : cJ9_getChars_2.data.toList.drop 0 = dktJ9_getChars_2_0 := by decide +kernel
theorem dksJ9_getChars_2_1 : cJ9_getChars_2.data.toList.drop 23 = dktJ9_getChars_2_1 := dk_seg dksJ9_getChars_2_0 23 rfl rfl
theorem dksJ9_getChars_2_2 : cJ9_getChars_2.data.toList.drop 47 = dktJ9_getChars_2_2 := dk_seg dksJ9_getChars_2_1 24 rfl rfl
theorem dksJ9_getChars_2_3 : cJ9_getChars_2.data.toList.drop 70 = dktJ9_getChars_2_3 := dk_seg dksJ9_getChars_2_2 23 rfl rfl
theorem dksJ9_getChars_2_4 : cJ9_getChars_2.data.toList.drop 94 = dktJ9_getChars_2_4 := dk_seg dksJ9_getChars_2_3 24 rfl rfl
theorem dksJ9_getChars_2_5 : cJ9_getChars_2.data.toList.drop 118 = dktJ9_getChars_2_5 := dk_seg dksJ9_getChars_2_4 24 rfl rfl
theorem dJ9_getChars_2_0 : decode cJ9_getChars_2 0 = .ok (.iload_n 1, 1) := dk_27 (dk_at dksJ9_getChars_2_0 0 rfl rfl)
theorem dJ9_getChars_2_1 : decode cJ9_getChars_2 1 = .ok (.istore 5, 2) := dk_54 5 (dk_at dksJ9_getChars_2_0 1 rfl rfl)
theorem dJ9_getChars_2_3 : decode cJ9_getChars_2 3 = .ok (.iload_n 0, 1) := dk_26 (dk_at dksJ9_getChars_2_0 3 rfl rfl)
theorem dJ9_getChars_2_4 : decode cJ9_getChars_2 4 = .ok (.ifCond .ge 7, 3) := dk_156 0 7 (dk_at dksJ9_getChars_2_0 4 rfl rfl)
theorem dJ9_getChars_2_7 : decode cJ9_getChars_2 7 = .ok (.iconst 1, 1) := dk_4 (dk_at dksJ9_getChars_2_0 7 rfl rfl)
theorem dJ9_getChars_2_8 : decode cJ9_getChars_2 8 = .ok (.goto 4, 3) := dk_167 0 4 (dk_at dksJ9_getChars_2_0 8 rfl rfl)
theorem dJ9_getChars_2_11 : decode cJ9_getChars_2 11 = .ok (.iconst 0, 1) := dk_3 (dk_at dksJ9_getChars_2_0 11 rfl rfl)
theorem dJ9_getChars_2_12 : decode cJ9_getChars_2 12 = .ok (.istore 6, 2) := dk_54 6 (dk_at dksJ9_getChars_2_0 12 rfl rfl)
theorem dJ9_getChars_2_14 : decode cJ9_getChars_2 14 = .ok (.iload 6, 2) := dk_21 6 (dk_at dksJ9_getChars_2_0 14 rfl rfl)
theorem dJ9_getChars_2_16 : decode cJ9_getChars_2 16 = .ok (.ifCond .ne 6, 3) := dk_154 0 6 (dk_at dksJ9_getChars_2_0 16 rfl rfl)
theorem dJ9_getChars_2_19 : decode cJ9_getChars_2 19 = .ok (.iload_n 0, 1) := dk_26 (dk_at dksJ9_getChars_2_0 19 rfl rfl)
theorem dJ9_getChars_2_20 : decode cJ9_getChars_2 20 = .ok (.ineg, 1) := dk_116 (dk_at dksJ9_getChars_2_0 20 rfl rfl)
theorem dJ9_getChars_2_21 : decode cJ9_getChars_2 21 = .ok (.istore_n 0, 1) := dk_59 (dk_at dksJ9_getChars_2_0 21 rfl rfl)
theorem dJ9_getChars_2_22 : decode cJ9_getChars_2 22 = .ok (.iload_n 0, 1) := dk_26 (dk_at dksJ9_getChars_2_0 22 rfl rfl)
theorem dJ9_getChars_2_23 : decode cJ9_getChars_2 23 = .ok (.bipush (-100), 2) := dk_16 156 (dk_at dksJ9_getChars_2_1 0 rfl rfl)
theorem dJ9_getChars_2_25 : decode cJ9_getChars_2 25 = .ok (.if_icmp .gt 51, 3) := dk_163 0 51 (dk_at dksJ9_getChars_2_1 2 rfl rfl)
theorem dJ9_getChars_2_28 : decode cJ9_getChars_2 28 = .ok (.iload_n 0, 1) := dk_26 (dk_at dksJ9_getChars_2_1 5 rfl rfl)
theorem dJ9_getChars_2_29 : decode cJ9_getChars_2 29 = .ok (.bipush 100, 2) := dk_16 100 (dk_at dksJ9_getChars_2_1 6 rfl rfl)
theorem dJ9_getChars_2_31 : decode cJ9_getChars_2 31 = .ok (.idiv, 1) := dk_108 (dk_at dksJ9_getChars_2_1 8 rfl rfl)
theorem dJ9_getChars_2_32 : decode cJ9_getChars_2 32 = .ok (.istore_n 3, 1) := dk_62 (dk_at dksJ9_getChars_2_1 9 rfl rfl)
theorem dJ9_getChars_2_33 : decode cJ9_getChars_2 33 = .ok (.iload_n 3, 1) := dk_29 (dk_at dksJ9_getChars_2_1 10 rfl rfl)
theorem dJ9_getChars_2_34 : decode cJ9_getChars_2 34 = .ok (.bipush 100, 2) := dk_16 100 (dk_at dksJ9_getChars_2_1 11 rfl rfl)
theorem dJ9_getChars_2_36 : decode cJ9_getChars_2 36 = .ok (.imul, 1) := dk_104 (dk_at dksJ9_getChars_2_1 13 rfl rfl)
theorem dJ9_getChars_2_37 : decode cJ9_getChars_2 37 = .ok (.iload_n 0, 1) := dk_26 (dk_at dksJ9_getChars_2_1 14 rfl rfl)
theorem dJ9_getChars_2_38 : decode cJ9_getChars_2 38 = .ok (.isub, 1) := dk_100 (dk_at dksJ9_getChars_2_1 15 rfl rfl)
theorem dJ9_getChars_2_39 : decode cJ9_getChars_2 39 = .ok (.istore 4, 2) := dk_54 4 (dk_at dksJ9_getChars_2_1 16 rfl rfl)
theorem dJ9_getChars_2_41 : decode cJ9_getChars_2 41 = .ok (.iload_n 3, 1) := dk_29 (dk_at dksJ9_getChars_2_1 18 rfl rfl)
theorem dJ9_getChars_2_42 : decode cJ9_getChars_2 42 = .ok (.istore_n 0, 1) := dk_59 (dk_at dksJ9_getChars_2_1 19 rfl rfl)
theorem dJ9_getChars_2_43 : decode cJ9_getChars_2 43 = .ok (.aload_n 2, 1) := dk_44 (dk_at dksJ9_getChars_2_1 20 rfl rfl)
theorem dJ9_getChars_2_44 : decode cJ9_getChars_2 44 = .ok (.iinc 5 (-1), 3) := dk_132 5 255 (dk_at dksJ9_getChars_2_1 21 rfl rfl)
theorem dJ9_getChars_2_47 : decode cJ9_getChars_2 47 = .ok (.iload 5, 2) := dk_21 5 (dk_at dksJ9_getChars_2_2 0 rfl rfl)
theorem dJ9_getChars_2_49 : decode cJ9_getChars_2 49 = .ok (.getstatic 403, 3) := dk_178 1 147 (dk_at dksJ9_getChars_2_2 2 rfl rfl)
theorem dJ9_getChars_2_52 : decode cJ9_getChars_2 52 = .ok (.iload 4, 2) := dk_21 4 (dk_at dksJ9_getChars_2_2 5 rfl rfl)
theorem dJ9_getChars_2_54 : decode cJ9_getChars_2 54 = .ok (.baload, 1) := dk_51 (dk_at dksJ9_getChars_2_2 7 rfl rfl)
theorem dJ9_getChars_2_55 : decode cJ9_getChars_2 55 = .ok (.invokestatic 111, 3) := dk_184 0 111 (dk_at dksJ9_getChars_2_2 8 rfl rfl)
theorem dJ9_getChars_2_58 : decode cJ9_getChars_2 58 = .ok (.aload_n 2, 1) := dk_44 (dk_at dksJ9_getChars_2_2 11 rfl rfl)
theorem dJ9_getChars_2_59 : decode cJ9_getChars_2 59 = .ok (.iinc 5 (-1), 3) := dk_132 5 255 (dk_at dksJ9_getChars_2_2 12 rfl rfl)
theorem dJ9_getChars_2_62 : decode cJ9_getChars_2 62 = .ok (.iload 5, 2) := dk_21 5 (dk_at dksJ9_getChars_2_2 15 rfl rfl)
theorem dJ9_getChars_2_64 : decode cJ9_getChars_2 64 = .ok (.getstatic 407, 3) := dk_178 1 151 (dk_at dksJ9_getChars_2_2 17 rfl rfl)
theorem dJ9_getChars_2_67 : decode cJ9_getChars_2 67 = .ok (.iload 4, 2) := dk_21 4 (dk_at dksJ9_getChars_2_2 20 rfl rfl)
theorem dJ9_getChars_2_69 : decode cJ9_getChars_2 69 = .ok (.baload, 1) := dk_51 (dk_at dksJ9_getChars_2_2 22 rfl rfl)
theorem dJ9_getChars_2_70 : decode cJ9_getChars_2 70 = .ok (.invokestatic 111, 3) := dk_184 0 111 (dk_at dksJ9_getChars_2_3 0 rfl rfl)
theorem dJ9_getChars_2_73 : decode cJ9_getChars_2 73 = .ok (.goto (-51), 3) := dk_167 255 205 (dk_at dksJ9_getChars_2_3 3 rfl rfl)
theorem dJ9_getChars_2_76 : decode cJ9_getChars_2 76 = .ok (.aload_n 2, 1) := dk_44 (dk_at dksJ9_getChars_2_3 6 rfl rfl)
theorem dJ9_getChars_2_77 : decode cJ9_getChars_2 77 = .ok (.iinc 5 (-1), 3) := dk_132 5 255 (dk_at dksJ9_getChars_2_3 7 rfl rfl)
theorem dJ9_getChars_2_80 : decode cJ9_getChars_2 80 = .ok (.iload 5, 2) := dk_21 5 (dk_at dksJ9_getChars_2_3 10 rfl rfl)
theorem dJ9_getChars_2_82 : decode cJ9_getChars_2 82 = .ok (.getstatic 403, 3) := dk_178 1 147 (dk_at dksJ9_getChars_2_3 12 rfl rfl)
theorem dJ9_getChars_2_85 : decode cJ9_getChars_2 85 = .ok (.iload_n 0, 1) := dk_26 (dk_at dksJ9_getChars_2_3 15 rfl rfl)
theorem dJ9_getChars_2_86 : decode cJ9_getChars_2 86 = .ok (.ineg, 1) := dk_116 (dk_at dksJ9_getChars_2_3 16 rfl rfl)
theorem dJ9_getChars_2_87 : decode cJ9_getChars_2 87 = .ok (.baload, 1) := dk_51 (dk_at dksJ9_getChars_2_3 17 rfl rfl)
theorem dJ9_getChars_2_88 : decode cJ9_getChars_2 88 = .ok (.invokestatic 111, 3) := dk_184 0 111 (dk_at dksJ9_getChars_2_3 18 rfl rfl)
theorem dJ9_getChars_2_91 : decode cJ9_getChars_2 91 = .ok (.iload_n 0, 1) := dk_26 (dk_at dksJ9_getChars_2_3 21 rfl rfl)
theorem dJ9_getChars_2_92 : decode cJ9_getChars_2 92 = .ok (.bipush (-9), 2) := dk_16 247 (dk_at dksJ9_getChars_2_3 22 rfl rfl)
theorem dJ9_getChars_2_94 : decode cJ9_getChars_2 94 = .ok (.if_icmp .ge 18, 3) := dk_162 0 18 (dk_at dksJ9_getChars_2_4 0 rfl rfl)
theorem dJ9_getChars_2_97 : decode cJ9_getChars_2 97 = .ok (.aload_n 2, 1) := dk_44 (dk_at dksJ9_getChars_2_4 3 rfl rfl)
theorem dJ9_getChars_2_98 : decode cJ9_getChars_2 98 = .ok (.iinc 5 (-1), 3) := dk_132 5 255 (dk_at dksJ9_getChars_2_4 4 rfl rfl)
theorem dJ9_getChars_2_101 : decode cJ9_getChars_2 101 = .ok (.iload 5, 2) := dk_21 5 (dk_at dksJ9_getChars_2_4 7 rfl rfl)
theorem dJ9_getChars_2_103 : decode cJ9_getChars_2 103 = .ok (.getstatic 407, 3) := dk_178 1 151 (dk_at dksJ9_getChars_2_4 9 rfl rfl)
theorem dJ9_getChars_2_106 : decode cJ9_getChars_2 106 = .ok (.iload_n 0, 1) := dk_26 (dk_at dksJ9_getChars_2_4 12 rfl rfl)
theorem dJ9_getChars_2_107 : decode cJ9_getChars_2 107 = .ok (.ineg, 1) := dk_116 (dk_at dksJ9_getChars_2_4 13 rfl rfl)
theorem dJ9_getChars_2_108 : decode cJ9_getChars_2 108 = .ok (.baload, 1) := dk_51 (dk_at dksJ9_getChars_2_4 14 rfl rfl)
theorem dJ9_getChars_2_109 : decode cJ9_getChars_2 109 = .ok (.invokestatic 111, 3) := dk_184 0 111 (dk_at dksJ9_getChars_2_4 15 rfl rfl)
theorem dJ9_getChars_2_112 : decode cJ9_getChars_2 112 = .ok (.iload 6, 2) := dk_21 6 (dk_at dksJ9_getChars_2_4 18 rfl rfl)
theorem dJ9_getChars_2_114 : decode cJ9_getChars_2 114 = .ok (.ifCond .eq 14, 3) := dk_153 0 14 (dk_at dksJ9_getChars_2_4 20 rfl rfl)
theorem dJ9_getChars_2_117 : decode cJ9_getChars_2 117 = .ok (.aload_n 2, 1) := dk_44 (dk_at dksJ9_getChars_2_4 23 rfl rfl)
theorem dJ9_getChars_2_118 : decode cJ9_getChars_2 118 = .ok (.iinc 5 (-1), 3) := dk_132 5 255 (dk_at dksJ9_getChars_2_5 0 rfl rfl)
theorem dJ9_getChars_2_121 : decode cJ9_getChars_2 121 = .ok (.iload 5, 2) := dk_21 5 (dk_at dksJ9_getChars_2_5 3 rfl rfl)
theorem dJ9_getChars_2_123 : decode cJ9_getChars_2 123 = .ok (.bipush 45, 2) := dk_16 45 (dk_at dksJ9_getChars_2_5 5 rfl rfl)
theorem dJ9_getChars_2_125 : decode cJ9_getChars_2 125 = .ok (.invokestatic 111, 3) := dk_184 0 111 (dk_at dksJ9_getChars_2_5 7 rfl rfl)
theorem dJ9_getChars_2_128 : decode cJ9_getChars_2 128 = .ok (.iload 5, 2) := dk_21 5 (dk_at dksJ9_getChars_2_5 10 rfl rfl)
theorem dJ9_getChars_2_130 : decode cJ9_getChars_2 130 = .ok (.ireturn, 1) := dk_172 (dk_at dksJ9_getChars_2_5 12 rfl rfl)
abbrev cJ9_compress : ByteArray := prog_55_method_17_code
def yJ9_compress : MethodName := ⟨RJ9, "compress", "([BII)[B"⟩
def dkwJ9_compress_2 : List UInt8 := [25, 5, 3, 45, 3, 28, 184, 0, 123, 28, 159, 0, 6, 25, 5, 176, 45, 176]
abbrev dktJ9_compress_2 : List UInt8 := dkwJ9_compress_2 ++ []
def dkwJ9_compress_1 : List UInt8 := [27, 28, 96, 184, 0, 11, 184, 0, 126, 58, 5, 25, 5, 21, 4, 184, 0, 71, 17, 0, 255, 163, 0, 16]
abbrev dktJ9_compress_1 : List UInt8 := dkwJ9_compress_1 ++ dktJ9_compress_2
def dkwJ9_compress_0 : List UInt8 := [28, 188, 8, 78, 42, 27, 45, 3, 28, 184, 0, 123, 54, 4, 21, 4, 28, 159, 0, 47, 42, 27, 4, 120]
abbrev dktJ9_compress_0 : List UInt8 := dkwJ9_compress_0 ++ dktJ9_compress_1
theorem dksJ9_compress_0 : cJ9_compress.data.toList.drop 0 = dktJ9_compress_0 := by decide +kernel
theorem dksJ9_compress_1 : cJ9_compress.data.toList.drop 24 = dktJ9_compress_1 := dk_seg dksJ9_compress_0 24 rfl rfl
theorem dksJ9_compress_2 : cJ9_compress.data.toList.drop 48 = dktJ9_compress_2 := dk_seg dksJ9_compress_1 24 rfl rfl
theorem dJ9_compress_0 : decode cJ9_compress 0 = .ok (.iload_n 2, 1) := dk_28 (dk_at dksJ9_compress_0 0 rfl rfl)
theorem dJ9_compress_1 : decode cJ9_compress 1 = .ok (.newarray .byte, 2) := dk_188_8 (dk_at dksJ9_compress_0 1 rfl rfl)
theorem dJ9_compress_3 : decode cJ9_compress 3 = .ok (.astore_n 3, 1) := dk_78 (dk_at dksJ9_compress_0 3 rfl rfl)
theorem dJ9_compress_4 : decode cJ9_compress 4 = .ok (.aload_n 0, 1) := dk_42 (dk_at dksJ9_compress_0 4 rfl rfl)
theorem dJ9_compress_5 : decode cJ9_compress 5 = .ok (.iload_n 1, 1) := dk_27 (dk_at dksJ9_compress_0 5 rfl rfl)
theorem dJ9_compress_6 : decode cJ9_compress 6 = .ok (.aload_n 3, 1) := dk_45 (dk_at dksJ9_compress_0 6 rfl rfl)
theorem dJ9_compress_7 : decode cJ9_compress 7 = .ok (.iconst 0, 1) := dk_3 (dk_at dksJ9_compress_0 7 rfl rfl)
theorem dJ9_compress_8 : decode cJ9_compress 8 = .ok (.iload_n 2, 1) := dk_28 (dk_at dksJ9_compress_0 8 rfl rfl)
theorem dJ9_compress_9 : decode cJ9_compress 9 = .ok (.invokestatic 123, 3) := dk_184 0 123 (dk_at dksJ9_compress_0 9 rfl rfl)
theorem dJ9_compress_12 : decode cJ9_compress 12 = .ok (.istore 4, 2) := dk_54 4 (dk_at dksJ9_compress_0 12 rfl rfl)
theorem dJ9_compress_14 : decode cJ9_compress 14 = .ok (.iload 4, 2) := dk_21 4 (dk_at dksJ9_compress_0 14 rfl rfl)
theorem dJ9_compress_16 : decode cJ9_compress 16 = .ok (.iload_n 2, 1) := dk_28 (dk_at dksJ9_compress_0 16 rfl rfl)
theorem dJ9_compress_17 : decode cJ9_compress 17 = .ok (.if_icmp .eq 47, 3) := dk_159 0 47 (dk_at dksJ9_compress_0 17 rfl rfl)
theorem dJ9_compress_20 : decode cJ9_compress 20 = .ok (.aload_n 0, 1) := dk_42 (dk_at dksJ9_compress_0 20 rfl rfl)
theorem dJ9_compress_21 : decode cJ9_compress 21 = .ok (.iload_n 1, 1) := dk_27 (dk_at dksJ9_compress_0 21 rfl rfl)
theorem dJ9_compress_22 : decode cJ9_compress 22 = .ok (.iconst 1, 1) := dk_4 (dk_at dksJ9_compress_0 22 rfl rfl)
theorem dJ9_compress_23 : decode cJ9_compress 23 = .ok (.ishl, 1) := dk_120 (dk_at dksJ9_compress_0 23 rfl rfl)
theorem dJ9_compress_24 : decode cJ9_compress 24 = .ok (.iload_n 1, 1) := dk_27 (dk_at dksJ9_compress_1 0 rfl rfl)
theorem dJ9_compress_25 : decode cJ9_compress 25 = .ok (.iload_n 2, 1) := dk_28 (dk_at dksJ9_compress_1 1 rfl rfl)
theorem dJ9_compress_26 : decode cJ9_compress 26 = .ok (.iadd, 1) := dk_96 (dk_at dksJ9_compress_1 2 rfl rfl)
theorem dJ9_compress_27 : decode cJ9_compress 27 = .ok (.invokestatic 11, 3) := dk_184 0 11 (dk_at dksJ9_compress_1 3 rfl rfl)
theorem dJ9_compress_30 : decode cJ9_compress 30 = .ok (.invokestatic 126, 3) := dk_184 0 126 (dk_at dksJ9_compress_1 6 rfl rfl)
theorem dJ9_compress_33 : decode cJ9_compress 33 = .ok (.astore 5, 2) := dk_58 5 (dk_at dksJ9_compress_1 9 rfl rfl)
theorem dJ9_compress_35 : decode cJ9_compress 35 = .ok (.aload 5, 2) := dk_25 5 (dk_at dksJ9_compress_1 11 rfl rfl)
theorem dJ9_compress_37 : decode cJ9_compress 37 = .ok (.iload 4, 2) := dk_21 4 (dk_at dksJ9_compress_1 13 rfl rfl)
theorem dJ9_compress_39 : decode cJ9_compress 39 = .ok (.invokestatic 71, 3) := dk_184 0 71 (dk_at dksJ9_compress_1 15 rfl rfl)
theorem dJ9_compress_42 : decode cJ9_compress 42 = .ok (.sipush 255, 3) := dk_17 0 255 (dk_at dksJ9_compress_1 18 rfl rfl)
theorem dJ9_compress_45 : decode cJ9_compress 45 = .ok (.if_icmp .gt 16, 3) := dk_163 0 16 (dk_at dksJ9_compress_1 21 rfl rfl)
theorem dJ9_compress_48 : decode cJ9_compress 48 = .ok (.aload 5, 2) := dk_25 5 (dk_at dksJ9_compress_2 0 rfl rfl)
theorem dJ9_compress_50 : decode cJ9_compress 50 = .ok (.iconst 0, 1) := dk_3 (dk_at dksJ9_compress_2 2 rfl rfl)
theorem dJ9_compress_51 : decode cJ9_compress 51 = .ok (.aload_n 3, 1) := dk_45 (dk_at dksJ9_compress_2 3 rfl rfl)
theorem dJ9_compress_52 : decode cJ9_compress 52 = .ok (.iconst 0, 1) := dk_3 (dk_at dksJ9_compress_2 4 rfl rfl)
theorem dJ9_compress_53 : decode cJ9_compress 53 = .ok (.iload_n 2, 1) := dk_28 (dk_at dksJ9_compress_2 5 rfl rfl)
theorem dJ9_compress_54 : decode cJ9_compress 54 = .ok (.invokestatic 123, 3) := dk_184 0 123 (dk_at dksJ9_compress_2 6 rfl rfl)
theorem dJ9_compress_57 : decode cJ9_compress 57 = .ok (.iload_n 2, 1) := dk_28 (dk_at dksJ9_compress_2 9 rfl rfl)
theorem dJ9_compress_58 : decode cJ9_compress 58 = .ok (.if_icmp .eq 6, 3) := dk_159 0 6 (dk_at dksJ9_compress_2 10 rfl rfl)
theorem dJ9_compress_61 : decode cJ9_compress 61 = .ok (.aload 5, 2) := dk_25 5 (dk_at dksJ9_compress_2 13 rfl rfl)
theorem dJ9_compress_63 : decode cJ9_compress 63 = .ok (.areturn, 1) := dk_176 (dk_at dksJ9_compress_2 15 rfl rfl)
theorem dJ9_compress_64 : decode cJ9_compress 64 = .ok (.aload_n 3, 1) := dk_45 (dk_at dksJ9_compress_2 16 rfl rfl)
theorem dJ9_compress_65 : decode cJ9_compress 65 = .ok (.areturn, 1) := dk_176 (dk_at dksJ9_compress_2 17 rfl rfl)
abbrev cJ9_compress_2 : ByteArray := prog_55_method_22_code
def yJ9_compress_2 : MethodName := ⟨RJ9, "compress", "([BI[BII)I"⟩
def dkwJ9_compress_2_2 : List UInt8 := [132, 5, 1, 167, 255, 216, 21, 4, 172]
abbrev dktJ9_compress_2_2 : List UInt8 := dkwJ9_compress_2_2 ++ []
def dkwJ9_compress_2_1 : List UInt8 := [21, 6, 17, 0, 255, 164, 0, 6, 21, 5, 172, 44, 29, 21, 6, 145, 84, 132, 1, 1, 132, 3, 1]
abbrev dktJ9_compress_2_1 : List UInt8 := dkwJ9_compress_2_1 ++ dktJ9_compress_2_2
def dkwJ9_compress_2_0 : List UInt8 := [27, 21, 4, 42, 184, 0, 173, 3, 54, 5, 21, 5, 21, 4, 162, 0, 39, 42, 27, 184, 0, 71, 54, 6]
abbrev dktJ9_compress_2_0 : List UInt8 := dkwJ9_compress_2_0 ++ dktJ9_compress_2_1
theorem dksJ9_compress_2_0 : cJ9_compress_2.data.toList.drop 0 = dktJ9_compress_2_0 := by decide +kernel
theorem dksJ9_compress_2_1 : cJ9_compress_2.data.toList.drop 24 = dktJ9_compress_2_1 := dk_seg dksJ9_compress_2_0 24 rfl rfl
theorem dksJ9_compress_2_2 : cJ9_compress_2.data.toList.drop 47 = dktJ9_compress_2_2 := dk_seg dksJ9_compress_2_1 23 rfl rfl
theorem dJ9_compress_2_0 : decode cJ9_compress_2 0 = .ok (.iload_n 1, 1) := dk_27 (dk_at dksJ9_compress_2_0 0 rfl rfl)
theorem dJ9_compress_2_1 : decode cJ9_compress_2 1 = .ok (.iload 4, 2) := dk_21 4 (dk_at dksJ9_compress_2_0 1 rfl rfl)
theorem dJ9_compress_2_3 : decode cJ9_compress_2 3 = .ok (.aload_n 0, 1) := dk_42 (dk_at dksJ9_compress_2_0 3 rfl rfl)
theorem dJ9_compress_2_4 : decode cJ9_compress_2 4 = .ok (.invokestatic 173, 3) := dk_184 0 173 (dk_at dksJ9_compress_2_0 4 rfl rfl)
theorem dJ9_compress_2_7 : decode cJ9_compress_2 7 = .ok (.iconst 0, 1) := dk_3 (dk_at dksJ9_compress_2_0 7 rfl rfl)
theorem dJ9_compress_2_8 : decode cJ9_compress_2 8 = .ok (.istore 5, 2) := dk_54 5 (dk_at dksJ9_compress_2_0 8 rfl rfl)
theorem dJ9_compress_2_10 : decode cJ9_compress_2 10 = .ok (.iload 5, 2) := dk_21 5 (dk_at dksJ9_compress_2_0 10 rfl rfl)
theorem dJ9_compress_2_12 : decode cJ9_compress_2 12 = .ok (.iload 4, 2) := dk_21 4 (dk_at dksJ9_compress_2_0 12 rfl rfl)
theorem dJ9_compress_2_14 : decode cJ9_compress_2 14 = .ok (.if_icmp .ge 39, 3) := dk_162 0 39 (dk_at dksJ9_compress_2_0 14 rfl rfl)
theorem dJ9_compress_2_17 : decode cJ9_compress_2 17 = .ok (.aload_n 0, 1) := dk_42 (dk_at dksJ9_compress_2_0 17 rfl rfl)
theorem dJ9_compress_2_18 : decode cJ9_compress_2 18 = .ok (.iload_n 1, 1) := dk_27 (dk_at dksJ9_compress_2_0 18 rfl rfl)
theorem dJ9_compress_2_19 : decode cJ9_compress_2 19 = .ok (.invokestatic 71, 3) := dk_184 0 71 (dk_at dksJ9_compress_2_0 19 rfl rfl)
theorem dJ9_compress_2_22 : decode cJ9_compress_2 22 = .ok (.istore 6, 2) := dk_54 6 (dk_at dksJ9_compress_2_0 22 rfl rfl)
theorem dJ9_compress_2_24 : decode cJ9_compress_2 24 = .ok (.iload 6, 2) := dk_21 6 (dk_at dksJ9_compress_2_1 0 rfl rfl)
theorem dJ9_compress_2_26 : decode cJ9_compress_2 26 = .ok (.sipush 255, 3) := dk_17 0 255 (dk_at dksJ9_compress_2_1 2 rfl rfl)
theorem dJ9_compress_2_29 : decode cJ9_compress_2 29 = .ok (.if_icmp .le 6, 3) := dk_164 0 6 (dk_at dksJ9_compress_2_1 5 rfl rfl)
theorem dJ9_compress_2_32 : decode cJ9_compress_2 32 = .ok (.iload 5, 2) := dk_21 5 (dk_at dksJ9_compress_2_1 8 rfl rfl)
theorem dJ9_compress_2_34 : decode cJ9_compress_2 34 = .ok (.ireturn, 1) := dk_172 (dk_at dksJ9_compress_2_1 10 rfl rfl)
theorem dJ9_compress_2_35 : decode cJ9_compress_2 35 = .ok (.aload_n 2, 1) := dk_44 (dk_at dksJ9_compress_2_1 11 rfl rfl)
theorem dJ9_compress_2_36 : decode cJ9_compress_2 36 = .ok (.iload_n 3, 1) := dk_29 (dk_at dksJ9_compress_2_1 12 rfl rfl)
theorem dJ9_compress_2_37 : decode cJ9_compress_2 37 = .ok (.iload 6, 2) := dk_21 6 (dk_at dksJ9_compress_2_1 13 rfl rfl)
theorem dJ9_compress_2_39 : decode cJ9_compress_2 39 = .ok (.i2b, 1) := dk_145 (dk_at dksJ9_compress_2_1 15 rfl rfl)
theorem dJ9_compress_2_40 : decode cJ9_compress_2 40 = .ok (.bastore, 1) := dk_84 (dk_at dksJ9_compress_2_1 16 rfl rfl)
theorem dJ9_compress_2_41 : decode cJ9_compress_2 41 = .ok (.iinc 1 1, 3) := dk_132 1 1 (dk_at dksJ9_compress_2_1 17 rfl rfl)
theorem dJ9_compress_2_44 : decode cJ9_compress_2 44 = .ok (.iinc 3 1, 3) := dk_132 3 1 (dk_at dksJ9_compress_2_1 20 rfl rfl)
theorem dJ9_compress_2_47 : decode cJ9_compress_2 47 = .ok (.iinc 5 1, 3) := dk_132 5 1 (dk_at dksJ9_compress_2_2 0 rfl rfl)
theorem dJ9_compress_2_50 : decode cJ9_compress_2 50 = .ok (.goto (-40), 3) := dk_167 255 216 (dk_at dksJ9_compress_2_2 3 rfl rfl)
theorem dJ9_compress_2_53 : decode cJ9_compress_2 53 = .ok (.iload 4, 2) := dk_21 4 (dk_at dksJ9_compress_2_2 6 rfl rfl)
theorem dJ9_compress_2_55 : decode cJ9_compress_2 55 = .ok (.ireturn, 1) := dk_172 (dk_at dksJ9_compress_2_2 8 rfl rfl)
abbrev cJ9_getChar : ByteArray := prog_55_method_5_code
def yJ9_getChar : MethodName := ⟨RJ9, "getChar", "([BI)C"⟩
def dkwJ9_getChar_2 : List UInt8 := [51, 17, 0, 255, 126, 178, 0, 63, 120, 128, 146, 172]
abbrev dktJ9_getChar_2 : List UInt8 := dkwJ9_getChar_2 ++ []
def dkwJ9_getChar_1 : List UInt8 := [183, 0, 56, 191, 27, 4, 120, 60, 42, 27, 132, 1, 1, 51, 17, 0, 255, 126, 178, 0, 59, 120, 42, 27]
abbrev dktJ9_getChar_1 : List UInt8 := dkwJ9_getChar_1 ++ dktJ9_getChar_2
def dkwJ9_getChar_0 : List UInt8 := [178, 0, 44, 154, 0, 25, 27, 155, 0, 11, 27, 42, 184, 0, 48, 161, 0, 13, 187, 0, 52, 89, 18, 54]
abbrev dktJ9_getChar_0 : List UInt8 := dkwJ9_getChar_0 ++ dktJ9_getChar_1
theorem dksJ9_getChar_0 : cJ9_getChar.data.toList.drop 0 = dktJ9_getChar_0 := by decide +kernel
theorem dksJ9_getChar_1 : cJ9_getChar.data.toList.drop 24 = dktJ9_getChar_1 := dk_seg dksJ9_getChar_0 24 rfl rfl
theorem dksJ9_getChar_2 : cJ9_getChar.data.toList.drop 48 = dktJ9_getChar_2 := dk_seg dksJ9_getChar_1 24 rfl rfl
theorem dJ9_getChar_0 : decode cJ9_getChar 0 = .ok (.getstatic 44, 3) := dk_178 0 44 (dk_at dksJ9_getChar_0 0 rfl rfl)
theorem dJ9_getChar_3 : decode cJ9_getChar 3 = .ok (.ifCond .ne 25, 3) := dk_154 0 25 (dk_at dksJ9_getChar_0 3 rfl rfl)
theorem dJ9_getChar_6 : decode cJ9_getChar 6 = .ok (.iload_n 1, 1) := dk_27 (dk_at dksJ9_getChar_0 6 rfl rfl)
theorem dJ9_getChar_7 : decode cJ9_getChar 7 = .ok (.ifCond .lt 11, 3) := dk_155 0 11 (dk_at dksJ9_getChar_0 7 rfl rfl)
theorem dJ9_getChar_10 : decode cJ9_getChar 10 = .ok (.iload_n 1, 1) := dk_27 (dk_at dksJ9_getChar_0 10 rfl rfl)
theorem dJ9_getChar_11 : decode cJ9_getChar 11 = .ok (.aload_n 0, 1) := dk_42 (dk_at dksJ9_getChar_0 11 rfl rfl)
theorem dJ9_getChar_12 : decode cJ9_getChar 12 = .ok (.invokestatic 48, 3) := dk_184 0 48 (dk_at dksJ9_getChar_0 12 rfl rfl)
theorem dJ9_getChar_15 : decode cJ9_getChar 15 = .ok (.if_icmp .lt 13, 3) := dk_161 0 13 (dk_at dksJ9_getChar_0 15 rfl rfl)
theorem dJ9_getChar_18 : decode cJ9_getChar 18 = .ok (.new 52, 3) := dk_187 0 52 (dk_at dksJ9_getChar_0 18 rfl rfl)
theorem dJ9_getChar_21 : decode cJ9_getChar 21 = .ok (.dup, 1) := dk_89 (dk_at dksJ9_getChar_0 21 rfl rfl)
theorem dJ9_getChar_22 : decode cJ9_getChar 22 = .ok (.ldc 54, 2) := dk_18 54 (dk_at dksJ9_getChar_0 22 rfl rfl)
theorem dJ9_getChar_24 : decode cJ9_getChar 24 = .ok (.invokespecial 56, 3) := dk_183 0 56 (dk_at dksJ9_getChar_1 0 rfl rfl)
theorem dJ9_getChar_27 : decode cJ9_getChar 27 = .ok (.athrow, 1) := dk_191 (dk_at dksJ9_getChar_1 3 rfl rfl)
theorem dJ9_getChar_28 : decode cJ9_getChar 28 = .ok (.iload_n 1, 1) := dk_27 (dk_at dksJ9_getChar_1 4 rfl rfl)
theorem dJ9_getChar_29 : decode cJ9_getChar 29 = .ok (.iconst 1, 1) := dk_4 (dk_at dksJ9_getChar_1 5 rfl rfl)
theorem dJ9_getChar_30 : decode cJ9_getChar 30 = .ok (.ishl, 1) := dk_120 (dk_at dksJ9_getChar_1 6 rfl rfl)
theorem dJ9_getChar_31 : decode cJ9_getChar 31 = .ok (.istore_n 1, 1) := dk_60 (dk_at dksJ9_getChar_1 7 rfl rfl)
theorem dJ9_getChar_32 : decode cJ9_getChar 32 = .ok (.aload_n 0, 1) := dk_42 (dk_at dksJ9_getChar_1 8 rfl rfl)
theorem dJ9_getChar_33 : decode cJ9_getChar 33 = .ok (.iload_n 1, 1) := dk_27 (dk_at dksJ9_getChar_1 9 rfl rfl)
theorem dJ9_getChar_34 : decode cJ9_getChar 34 = .ok (.iinc 1 1, 3) := dk_132 1 1 (dk_at dksJ9_getChar_1 10 rfl rfl)
theorem dJ9_getChar_37 : decode cJ9_getChar 37 = .ok (.baload, 1) := dk_51 (dk_at dksJ9_getChar_1 13 rfl rfl)
theorem dJ9_getChar_38 : decode cJ9_getChar 38 = .ok (.sipush 255, 3) := dk_17 0 255 (dk_at dksJ9_getChar_1 14 rfl rfl)
theorem dJ9_getChar_41 : decode cJ9_getChar 41 = .ok (.iand, 1) := dk_126 (dk_at dksJ9_getChar_1 17 rfl rfl)
theorem dJ9_getChar_42 : decode cJ9_getChar 42 = .ok (.getstatic 59, 3) := dk_178 0 59 (dk_at dksJ9_getChar_1 18 rfl rfl)
theorem dJ9_getChar_45 : decode cJ9_getChar 45 = .ok (.ishl, 1) := dk_120 (dk_at dksJ9_getChar_1 21 rfl rfl)
theorem dJ9_getChar_46 : decode cJ9_getChar 46 = .ok (.aload_n 0, 1) := dk_42 (dk_at dksJ9_getChar_1 22 rfl rfl)
theorem dJ9_getChar_47 : decode cJ9_getChar 47 = .ok (.iload_n 1, 1) := dk_27 (dk_at dksJ9_getChar_1 23 rfl rfl)
theorem dJ9_getChar_48 : decode cJ9_getChar 48 = .ok (.baload, 1) := dk_51 (dk_at dksJ9_getChar_2 0 rfl rfl)
theorem dJ9_getChar_49 : decode cJ9_getChar 49 = .ok (.sipush 255, 3) := dk_17 0 255 (dk_at dksJ9_getChar_2 1 rfl rfl)
theorem dJ9_getChar_52 : decode cJ9_getChar 52 = .ok (.iand, 1) := dk_126 (dk_at dksJ9_getChar_2 4 rfl rfl)
theorem dJ9_getChar_53 : decode cJ9_getChar 53 = .ok (.getstatic 63, 3) := dk_178 0 63 (dk_at dksJ9_getChar_2 5 rfl rfl)
theorem dJ9_getChar_56 : decode cJ9_getChar 56 = .ok (.ishl, 1) := dk_120 (dk_at dksJ9_getChar_2 8 rfl rfl)
theorem dJ9_getChar_57 : decode cJ9_getChar 57 = .ok (.ior, 1) := dk_128 (dk_at dksJ9_getChar_2 9 rfl rfl)
theorem dJ9_getChar_58 : decode cJ9_getChar 58 = .ok (.i2c, 1) := dk_146 (dk_at dksJ9_getChar_2 10 rfl rfl)
theorem dJ9_getChar_59 : decode cJ9_getChar 59 = .ok (.ireturn, 1) := dk_172 (dk_at dksJ9_getChar_2 11 rfl rfl)
abbrev cJ9_coderFromArrayLen : ByteArray := prog_55_method_15_code
def yJ9_coderFromArrayLen : MethodName := ⟨RJ9, "coderFromArrayLen", "([BI)B"⟩
def dkwJ9_coderFromArrayLen_0 : List UInt8 := [27, 42, 190, 100, 16, 31, 124, 145, 172]
abbrev dktJ9_coderFromArrayLen_0 : List UInt8 := dkwJ9_coderFromArrayLen_0 ++ []
theorem dksJ9_coderFromArrayLen_0 : cJ9_coderFromArrayLen.data.toList.drop 0 = dktJ9_coderFromArrayLen_0 := by decide +kernel
theorem dJ9_coderFromArrayLen_0 : decode cJ9_coderFromArrayLen 0 = .ok (.iload_n 1, 1) := dk_27 (dk_at dksJ9_coderFromArrayLen_0 0 rfl rfl)
theorem dJ9_coderFromArrayLen_1 : decode cJ9_coderFromArrayLen 1 = .ok (.aload_n 0, 1) := dk_42 (dk_at dksJ9_coderFromArrayLen_0 1 rfl rfl)
theorem dJ9_coderFromArrayLen_2 : decode cJ9_coderFromArrayLen 2 = .ok (.arraylength, 1) := dk_190 (dk_at dksJ9_coderFromArrayLen_0 2 rfl rfl)
theorem dJ9_coderFromArrayLen_3 : decode cJ9_coderFromArrayLen 3 = .ok (.isub, 1) := dk_100 (dk_at dksJ9_coderFromArrayLen_0 3 rfl rfl)
theorem dJ9_coderFromArrayLen_4 : decode cJ9_coderFromArrayLen 4 = .ok (.bipush 31, 2) := dk_16 31 (dk_at dksJ9_coderFromArrayLen_0 4 rfl rfl)
theorem dJ9_coderFromArrayLen_6 : decode cJ9_coderFromArrayLen 6 = .ok (.iushr, 1) := dk_124 (dk_at dksJ9_coderFromArrayLen_0 6 rfl rfl)
theorem dJ9_coderFromArrayLen_7 : decode cJ9_coderFromArrayLen 7 = .ok (.i2b, 1) := dk_145 (dk_at dksJ9_coderFromArrayLen_0 7 rfl rfl)
theorem dJ9_coderFromArrayLen_8 : decode cJ9_coderFromArrayLen 8 = .ok (.ireturn, 1) := dk_172 (dk_at dksJ9_coderFromArrayLen_0 8 rfl rfl)
abbrev cJ9_compareTo : ByteArray := prog_55_method_29_code
def yJ9_compareTo : MethodName := ⟨RJ9, "compareTo", "([B[B)I"⟩
def dkwJ9_compareTo_0 : List UInt8 := [42, 184, 0, 48, 61, 43, 184, 0, 48, 62, 42, 43, 28, 29, 184, 0, 176, 172]
abbrev dktJ9_compareTo_0 : List UInt8 := dkwJ9_compareTo_0 ++ []
theorem dksJ9_compareTo_0 : cJ9_compareTo.data.toList.drop 0 = dktJ9_compareTo_0 := by decide +kernel
theorem dJ9_compareTo_0 : decode cJ9_compareTo 0 = .ok (.aload_n 0, 1) := dk_42 (dk_at dksJ9_compareTo_0 0 rfl rfl)
theorem dJ9_compareTo_1 : decode cJ9_compareTo 1 = .ok (.invokestatic 48, 3) := dk_184 0 48 (dk_at dksJ9_compareTo_0 1 rfl rfl)
theorem dJ9_compareTo_4 : decode cJ9_compareTo 4 = .ok (.istore_n 2, 1) := dk_61 (dk_at dksJ9_compareTo_0 4 rfl rfl)
theorem dJ9_compareTo_5 : decode cJ9_compareTo 5 = .ok (.aload_n 1, 1) := dk_43 (dk_at dksJ9_compareTo_0 5 rfl rfl)
theorem dJ9_compareTo_6 : decode cJ9_compareTo 6 = .ok (.invokestatic 48, 3) := dk_184 0 48 (dk_at dksJ9_compareTo_0 6 rfl rfl)
theorem dJ9_compareTo_9 : decode cJ9_compareTo 9 = .ok (.istore_n 3, 1) := dk_62 (dk_at dksJ9_compareTo_0 9 rfl rfl)
theorem dJ9_compareTo_10 : decode cJ9_compareTo 10 = .ok (.aload_n 0, 1) := dk_42 (dk_at dksJ9_compareTo_0 10 rfl rfl)
theorem dJ9_compareTo_11 : decode cJ9_compareTo 11 = .ok (.aload_n 1, 1) := dk_43 (dk_at dksJ9_compareTo_0 11 rfl rfl)
theorem dJ9_compareTo_12 : decode cJ9_compareTo 12 = .ok (.iload_n 2, 1) := dk_28 (dk_at dksJ9_compareTo_0 12 rfl rfl)
theorem dJ9_compareTo_13 : decode cJ9_compareTo 13 = .ok (.iload_n 3, 1) := dk_29 (dk_at dksJ9_compareTo_0 13 rfl rfl)
theorem dJ9_compareTo_14 : decode cJ9_compareTo 14 = .ok (.invokestatic 176, 3) := dk_184 0 176 (dk_at dksJ9_compareTo_0 14 rfl rfl)
theorem dJ9_compareTo_17 : decode cJ9_compareTo 17 = .ok (.ireturn, 1) := dk_172 (dk_at dksJ9_compareTo_0 17 rfl rfl)
abbrev cJ9_compareValues : ByteArray := prog_55_method_31_code
def yJ9_compareValues : MethodName := ⟨RJ9, "compareValues", "([B[BII)I"⟩
def dkwJ9_compareValues_2 : List UInt8 := [132, 5, 1, 167, 255, 217, 28, 29, 100, 172]
abbrev dktJ9_compareValues_2 : List UInt8 := dkwJ9_compareValues_2 ++ []
def dkwJ9_compareValues_1 : List UInt8 := [54, 6, 43, 21, 5, 184, 0, 71, 54, 7, 21, 6, 21, 7, 159, 0, 9, 21, 6, 21, 7, 100, 172]
abbrev dktJ9_compareValues_1 : List UInt8 := dkwJ9_compareValues_1 ++ dktJ9_compareValues_2
def dkwJ9_compareValues_0 : List UInt8 := [28, 29, 184, 0, 183, 54, 4, 3, 54, 5, 21, 5, 21, 4, 162, 0, 38, 42, 21, 5, 184, 0, 71]
abbrev dktJ9_compareValues_0 : List UInt8 := dkwJ9_compareValues_0 ++ dktJ9_compareValues_1
theorem dksJ9_compareValues_0 : cJ9_compareValues.data.toList.drop 0 = dktJ9_compareValues_0 := by decide +kernel
theorem dksJ9_compareValues_1 : cJ9_compareValues.data.toList.drop 23 = dktJ9_compareValues_1 := dk_seg dksJ9_compareValues_0 23 rfl rfl
theorem dksJ9_compareValues_2 : cJ9_compareValues.data.toList.drop 46 = dktJ9_compareValues_2 := dk_seg dksJ9_compareValues_1 23 rfl rfl
theorem dJ9_compareValues_0 : decode cJ9_compareValues 0 = .ok (.iload_n 2, 1) := dk_28 (dk_at dksJ9_compareValues_0 0 rfl rfl)
theorem dJ9_compareValues_1 : decode cJ9_compareValues 1 = .ok (.iload_n 3, 1) := dk_29 (dk_at dksJ9_compareValues_0 1 rfl rfl)
theorem dJ9_compareValues_2 : decode cJ9_compareValues 2 = .ok (.invokestatic 183, 3) := dk_184 0 183 (dk_at dksJ9_compareValues_0 2 rfl rfl)
theorem dJ9_compareValues_5 : decode cJ9_compareValues 5 = .ok (.istore 4, 2) := dk_54 4 (dk_at dksJ9_compareValues_0 5 rfl rfl)
theorem dJ9_compareValues_7 : decode cJ9_compareValues 7 = .ok (.iconst 0, 1) := dk_3 (dk_at dksJ9_compareValues_0 7 rfl rfl)
theorem dJ9_compareValues_8 : decode cJ9_compareValues 8 = .ok (.istore 5, 2) := dk_54 5 (dk_at dksJ9_compareValues_0 8 rfl rfl)
theorem dJ9_compareValues_10 : decode cJ9_compareValues 10 = .ok (.iload 5, 2) := dk_21 5 (dk_at dksJ9_compareValues_0 10 rfl rfl)
theorem dJ9_compareValues_12 : decode cJ9_compareValues 12 = .ok (.iload 4, 2) := dk_21 4 (dk_at dksJ9_compareValues_0 12 rfl rfl)
theorem dJ9_compareValues_14 : decode cJ9_compareValues 14 = .ok (.if_icmp .ge 38, 3) := dk_162 0 38 (dk_at dksJ9_compareValues_0 14 rfl rfl)
theorem dJ9_compareValues_17 : decode cJ9_compareValues 17 = .ok (.aload_n 0, 1) := dk_42 (dk_at dksJ9_compareValues_0 17 rfl rfl)
theorem dJ9_compareValues_18 : decode cJ9_compareValues 18 = .ok (.iload 5, 2) := dk_21 5 (dk_at dksJ9_compareValues_0 18 rfl rfl)
theorem dJ9_compareValues_20 : decode cJ9_compareValues 20 = .ok (.invokestatic 71, 3) := dk_184 0 71 (dk_at dksJ9_compareValues_0 20 rfl rfl)
theorem dJ9_compareValues_23 : decode cJ9_compareValues 23 = .ok (.istore 6, 2) := dk_54 6 (dk_at dksJ9_compareValues_1 0 rfl rfl)
theorem dJ9_compareValues_25 : decode cJ9_compareValues 25 = .ok (.aload_n 1, 1) := dk_43 (dk_at dksJ9_compareValues_1 2 rfl rfl)
theorem dJ9_compareValues_26 : decode cJ9_compareValues 26 = .ok (.iload 5, 2) := dk_21 5 (dk_at dksJ9_compareValues_1 3 rfl rfl)
theorem dJ9_compareValues_28 : decode cJ9_compareValues 28 = .ok (.invokestatic 71, 3) := dk_184 0 71 (dk_at dksJ9_compareValues_1 5 rfl rfl)
theorem dJ9_compareValues_31 : decode cJ9_compareValues 31 = .ok (.istore 7, 2) := dk_54 7 (dk_at dksJ9_compareValues_1 8 rfl rfl)
theorem dJ9_compareValues_33 : decode cJ9_compareValues 33 = .ok (.iload 6, 2) := dk_21 6 (dk_at dksJ9_compareValues_1 10 rfl rfl)
theorem dJ9_compareValues_35 : decode cJ9_compareValues 35 = .ok (.iload 7, 2) := dk_21 7 (dk_at dksJ9_compareValues_1 12 rfl rfl)
theorem dJ9_compareValues_37 : decode cJ9_compareValues 37 = .ok (.if_icmp .eq 9, 3) := dk_159 0 9 (dk_at dksJ9_compareValues_1 14 rfl rfl)
theorem dJ9_compareValues_40 : decode cJ9_compareValues 40 = .ok (.iload 6, 2) := dk_21 6 (dk_at dksJ9_compareValues_1 17 rfl rfl)
theorem dJ9_compareValues_42 : decode cJ9_compareValues 42 = .ok (.iload 7, 2) := dk_21 7 (dk_at dksJ9_compareValues_1 19 rfl rfl)
theorem dJ9_compareValues_44 : decode cJ9_compareValues 44 = .ok (.isub, 1) := dk_100 (dk_at dksJ9_compareValues_1 21 rfl rfl)
theorem dJ9_compareValues_45 : decode cJ9_compareValues 45 = .ok (.ireturn, 1) := dk_172 (dk_at dksJ9_compareValues_1 22 rfl rfl)
theorem dJ9_compareValues_46 : decode cJ9_compareValues 46 = .ok (.iinc 5 1, 3) := dk_132 5 1 (dk_at dksJ9_compareValues_2 0 rfl rfl)
theorem dJ9_compareValues_49 : decode cJ9_compareValues 49 = .ok (.goto (-39), 3) := dk_167 255 217 (dk_at dksJ9_compareValues_2 3 rfl rfl)
theorem dJ9_compareValues_52 : decode cJ9_compareValues 52 = .ok (.iload_n 2, 1) := dk_28 (dk_at dksJ9_compareValues_2 6 rfl rfl)
theorem dJ9_compareValues_53 : decode cJ9_compareValues 53 = .ok (.iload_n 3, 1) := dk_29 (dk_at dksJ9_compareValues_2 7 rfl rfl)
theorem dJ9_compareValues_54 : decode cJ9_compareValues 54 = .ok (.isub, 1) := dk_100 (dk_at dksJ9_compareValues_2 8 rfl rfl)
theorem dJ9_compareValues_55 : decode cJ9_compareValues 55 = .ok (.ireturn, 1) := dk_172 (dk_at dksJ9_compareValues_2 9 rfl rfl)
abbrev cJ9_compareToLatin1 : ByteArray := prog_55_method_32_code
def yJ9_compareToLatin1 : MethodName := ⟨RJ9, "compareToLatin1", "([B[B)I"⟩
def dkwJ9_compareToLatin1_0 : List UInt8 := [43, 42, 184, 0, 189, 116, 172]
abbrev dktJ9_compareToLatin1_0 : List UInt8 := dkwJ9_compareToLatin1_0 ++ []
theorem dksJ9_compareToLatin1_0 : cJ9_compareToLatin1.data.toList.drop 0 = dktJ9_compareToLatin1_0 := by decide +kernel
theorem dJ9_compareToLatin1_0 : decode cJ9_compareToLatin1 0 = .ok (.aload_n 1, 1) := dk_43 (dk_at dksJ9_compareToLatin1_0 0 rfl rfl)
theorem dJ9_compareToLatin1_1 : decode cJ9_compareToLatin1 1 = .ok (.aload_n 0, 1) := dk_42 (dk_at dksJ9_compareToLatin1_0 1 rfl rfl)
theorem dJ9_compareToLatin1_2 : decode cJ9_compareToLatin1 2 = .ok (.invokestatic 189, 3) := dk_184 0 189 (dk_at dksJ9_compareToLatin1_0 2 rfl rfl)
theorem dJ9_compareToLatin1_5 : decode cJ9_compareToLatin1 5 = .ok (.ineg, 1) := dk_116 (dk_at dksJ9_compareToLatin1_0 5 rfl rfl)
theorem dJ9_compareToLatin1_6 : decode cJ9_compareToLatin1 6 = .ok (.ireturn, 1) := dk_172 (dk_at dksJ9_compareToLatin1_0 6 rfl rfl)
abbrev cJ9_compareTo_2 : ByteArray := prog_55_method_30_code
def yJ9_compareTo_2 : MethodName := ⟨RJ9, "compareTo", "([B[BII)I"⟩
def dkwJ9_compareTo_2_0 : List UInt8 := [28, 42, 184, 0, 180, 29, 43, 184, 0, 180, 42, 43, 28, 29, 184, 0, 176, 172]
abbrev dktJ9_compareTo_2_0 : List UInt8 := dkwJ9_compareTo_2_0 ++ []
theorem dksJ9_compareTo_2_0 : cJ9_compareTo_2.data.toList.drop 0 = dktJ9_compareTo_2_0 := by decide +kernel
theorem dJ9_compareTo_2_0 : decode cJ9_compareTo_2 0 = .ok (.iload_n 2, 1) := dk_28 (dk_at dksJ9_compareTo_2_0 0 rfl rfl)
theorem dJ9_compareTo_2_1 : decode cJ9_compareTo_2 1 = .ok (.aload_n 0, 1) := dk_42 (dk_at dksJ9_compareTo_2_0 1 rfl rfl)
theorem dJ9_compareTo_2_2 : decode cJ9_compareTo_2 2 = .ok (.invokestatic 180, 3) := dk_184 0 180 (dk_at dksJ9_compareTo_2_0 2 rfl rfl)
theorem dJ9_compareTo_2_5 : decode cJ9_compareTo_2 5 = .ok (.iload_n 3, 1) := dk_29 (dk_at dksJ9_compareTo_2_0 5 rfl rfl)
theorem dJ9_compareTo_2_6 : decode cJ9_compareTo_2 6 = .ok (.aload_n 1, 1) := dk_43 (dk_at dksJ9_compareTo_2_0 6 rfl rfl)
theorem dJ9_compareTo_2_7 : decode cJ9_compareTo_2 7 = .ok (.invokestatic 180, 3) := dk_184 0 180 (dk_at dksJ9_compareTo_2_0 7 rfl rfl)
theorem dJ9_compareTo_2_10 : decode cJ9_compareTo_2 10 = .ok (.aload_n 0, 1) := dk_42 (dk_at dksJ9_compareTo_2_0 10 rfl rfl)
theorem dJ9_compareTo_2_11 : decode cJ9_compareTo_2 11 = .ok (.aload_n 1, 1) := dk_43 (dk_at dksJ9_compareTo_2_0 11 rfl rfl)
theorem dJ9_compareTo_2_12 : decode cJ9_compareTo_2 12 = .ok (.iload_n 2, 1) := dk_28 (dk_at dksJ9_compareTo_2_0 12 rfl rfl)
theorem dJ9_compareTo_2_13 : decode cJ9_compareTo_2 13 = .ok (.iload_n 3, 1) := dk_29 (dk_at dksJ9_compareTo_2_0 13 rfl rfl)
theorem dJ9_compareTo_2_14 : decode cJ9_compareTo_2 14 = .ok (.invokestatic 176, 3) := dk_184 0 176 (dk_at dksJ9_compareTo_2_0 14 rfl rfl)
theorem dJ9_compareTo_2_17 : decode cJ9_compareTo_2 17 = .ok (.ireturn, 1) := dk_172 (dk_at dksJ9_compareTo_2_0 17 rfl rfl)
abbrev cJ9_checkOffset : ByteArray := prog_55_method_92_code
def yJ9_checkOffset : MethodName := ⟨RJ9, "checkOffset", "(I[B)V"⟩
def dkwJ9_checkOffset_0 : List UInt8 := [26, 43, 184, 0, 48, 184, 1, 161, 177]
abbrev dktJ9_checkOffset_0 : List UInt8 := dkwJ9_checkOffset_0 ++ []
theorem dksJ9_checkOffset_0 : cJ9_checkOffset.data.toList.drop 0 = dktJ9_checkOffset_0 := by decide +kernel
theorem dJ9_checkOffset_0 : decode cJ9_checkOffset 0 = .ok (.iload_n 0, 1) := dk_26 (dk_at dksJ9_checkOffset_0 0 rfl rfl)
theorem dJ9_checkOffset_1 : decode cJ9_checkOffset 1 = .ok (.aload_n 1, 1) := dk_43 (dk_at dksJ9_checkOffset_0 1 rfl rfl)
theorem dJ9_checkOffset_2 : decode cJ9_checkOffset 2 = .ok (.invokestatic 48, 3) := dk_184 0 48 (dk_at dksJ9_checkOffset_0 2 rfl rfl)
theorem dJ9_checkOffset_5 : decode cJ9_checkOffset 5 = .ok (.invokestatic 417, 3) := dk_184 1 161 (dk_at dksJ9_checkOffset_0 5 rfl rfl)
theorem dJ9_checkOffset_8 : decode cJ9_checkOffset 8 = .ok (.return_, 1) := dk_177 (dk_at dksJ9_checkOffset_0 8 rfl rfl)
abbrev cJ9_compareToLatin1_2 : ByteArray := prog_55_method_33_code
def yJ9_compareToLatin1_2 : MethodName := ⟨RJ9, "compareToLatin1", "([B[BII)I"⟩
def dkwJ9_compareToLatin1_2_0 : List UInt8 := [43, 42, 29, 28, 184, 0, 193, 116, 172]
abbrev dktJ9_compareToLatin1_2_0 : List UInt8 := dkwJ9_compareToLatin1_2_0 ++ []
theorem dksJ9_compareToLatin1_2_0 : cJ9_compareToLatin1_2.data.toList.drop 0 = dktJ9_compareToLatin1_2_0 := by decide +kernel
theorem dJ9_compareToLatin1_2_0 : decode cJ9_compareToLatin1_2 0 = .ok (.aload_n 1, 1) := dk_43 (dk_at dksJ9_compareToLatin1_2_0 0 rfl rfl)
theorem dJ9_compareToLatin1_2_1 : decode cJ9_compareToLatin1_2 1 = .ok (.aload_n 0, 1) := dk_42 (dk_at dksJ9_compareToLatin1_2_0 1 rfl rfl)
theorem dJ9_compareToLatin1_2_2 : decode cJ9_compareToLatin1_2 2 = .ok (.iload_n 3, 1) := dk_29 (dk_at dksJ9_compareToLatin1_2_0 2 rfl rfl)
theorem dJ9_compareToLatin1_2_3 : decode cJ9_compareToLatin1_2 3 = .ok (.iload_n 2, 1) := dk_28 (dk_at dksJ9_compareToLatin1_2_0 3 rfl rfl)
theorem dJ9_compareToLatin1_2_4 : decode cJ9_compareToLatin1_2 4 = .ok (.invokestatic 193, 3) := dk_184 0 193 (dk_at dksJ9_compareToLatin1_2_0 4 rfl rfl)
theorem dJ9_compareToLatin1_2_7 : decode cJ9_compareToLatin1_2 7 = .ok (.ineg, 1) := dk_116 (dk_at dksJ9_compareToLatin1_2_0 7 rfl rfl)
theorem dJ9_compareToLatin1_2_8 : decode cJ9_compareToLatin1_2 8 = .ok (.ireturn, 1) := dk_172 (dk_at dksJ9_compareToLatin1_2_0 8 rfl rfl)
abbrev cJ9_fillNull : ByteArray := prog_55_method_70_code
def yJ9_fillNull : MethodName := ⟨RJ9, "fillNull", "([BII)V"⟩
def dkwJ9_fillNull_0 : List UInt8 := [42, 27, 4, 120, 28, 4, 120, 3, 184, 1, 124, 177]
abbrev dktJ9_fillNull_0 : List UInt8 := dkwJ9_fillNull_0 ++ []
theorem dksJ9_fillNull_0 : cJ9_fillNull.data.toList.drop 0 = dktJ9_fillNull_0 := by decide +kernel
theorem dJ9_fillNull_0 : decode cJ9_fillNull 0 = .ok (.aload_n 0, 1) := dk_42 (dk_at dksJ9_fillNull_0 0 rfl rfl)
theorem dJ9_fillNull_1 : decode cJ9_fillNull 1 = .ok (.iload_n 1, 1) := dk_27 (dk_at dksJ9_fillNull_0 1 rfl rfl)
theorem dJ9_fillNull_2 : decode cJ9_fillNull 2 = .ok (.iconst 1, 1) := dk_4 (dk_at dksJ9_fillNull_0 2 rfl rfl)
theorem dJ9_fillNull_3 : decode cJ9_fillNull 3 = .ok (.ishl, 1) := dk_120 (dk_at dksJ9_fillNull_0 3 rfl rfl)
theorem dJ9_fillNull_4 : decode cJ9_fillNull 4 = .ok (.iload_n 2, 1) := dk_28 (dk_at dksJ9_fillNull_0 4 rfl rfl)
theorem dJ9_fillNull_5 : decode cJ9_fillNull 5 = .ok (.iconst 1, 1) := dk_4 (dk_at dksJ9_fillNull_0 5 rfl rfl)
theorem dJ9_fillNull_6 : decode cJ9_fillNull 6 = .ok (.ishl, 1) := dk_120 (dk_at dksJ9_fillNull_0 6 rfl rfl)
theorem dJ9_fillNull_7 : decode cJ9_fillNull 7 = .ok (.iconst 0, 1) := dk_3 (dk_at dksJ9_fillNull_0 7 rfl rfl)
theorem dJ9_fillNull_8 : decode cJ9_fillNull 8 = .ok (.invokestatic 380, 3) := dk_184 1 124 (dk_at dksJ9_fillNull_0 8 rfl rfl)
theorem dJ9_fillNull_11 : decode cJ9_fillNull 11 = .ok (.return_, 1) := dk_177 (dk_at dksJ9_fillNull_0 11 rfl rfl)
abbrev cJ9_putCharSB : ByteArray := prog_55_method_71_code
def yJ9_putCharSB : MethodName := ⟨RJ9, "putCharSB", "([BII)V"⟩
def dkwJ9_putCharSB_0 : List UInt8 := [27, 42, 184, 0, 67, 42, 27, 28, 184, 0, 111, 177]
abbrev dktJ9_putCharSB_0 : List UInt8 := dkwJ9_putCharSB_0 ++ []
theorem dksJ9_putCharSB_0 : cJ9_putCharSB.data.toList.drop 0 = dktJ9_putCharSB_0 := by decide +kernel
theorem dJ9_putCharSB_0 : decode cJ9_putCharSB 0 = .ok (.iload_n 1, 1) := dk_27 (dk_at dksJ9_putCharSB_0 0 rfl rfl)
theorem dJ9_putCharSB_1 : decode cJ9_putCharSB 1 = .ok (.aload_n 0, 1) := dk_42 (dk_at dksJ9_putCharSB_0 1 rfl rfl)
theorem dJ9_putCharSB_2 : decode cJ9_putCharSB 2 = .ok (.invokestatic 67, 3) := dk_184 0 67 (dk_at dksJ9_putCharSB_0 2 rfl rfl)
theorem dJ9_putCharSB_5 : decode cJ9_putCharSB 5 = .ok (.aload_n 0, 1) := dk_42 (dk_at dksJ9_putCharSB_0 5 rfl rfl)
theorem dJ9_putCharSB_6 : decode cJ9_putCharSB 6 = .ok (.iload_n 1, 1) := dk_27 (dk_at dksJ9_putCharSB_0 6 rfl rfl)
theorem dJ9_putCharSB_7 : decode cJ9_putCharSB 7 = .ok (.iload_n 2, 1) := dk_28 (dk_at dksJ9_putCharSB_0 7 rfl rfl)
theorem dJ9_putCharSB_8 : decode cJ9_putCharSB 8 = .ok (.invokestatic 111, 3) := dk_184 0 111 (dk_at dksJ9_putCharSB_0 8 rfl rfl)
theorem dJ9_putCharSB_11 : decode cJ9_putCharSB 11 = .ok (.return_, 1) := dk_177 (dk_at dksJ9_putCharSB_0 11 rfl rfl)
abbrev cJ9_checkIndex : ByteArray := prog_55_method_91_code
def yJ9_checkIndex : MethodName := ⟨RJ9, "checkIndex", "(I[B)V"⟩
def dkwJ9_checkIndex_0 : List UInt8 := [26, 43, 184, 0, 48, 184, 1, 158, 177]
abbrev dktJ9_checkIndex_0 : List UInt8 := dkwJ9_checkIndex_0 ++ []
theorem dksJ9_checkIndex_0 : cJ9_checkIndex.data.toList.drop 0 = dktJ9_checkIndex_0 := by decide +kernel
theorem dJ9_checkIndex_0 : decode cJ9_checkIndex 0 = .ok (.iload_n 0, 1) := dk_26 (dk_at dksJ9_checkIndex_0 0 rfl rfl)
theorem dJ9_checkIndex_1 : decode cJ9_checkIndex 1 = .ok (.aload_n 1, 1) := dk_43 (dk_at dksJ9_checkIndex_0 1 rfl rfl)
theorem dJ9_checkIndex_2 : decode cJ9_checkIndex 2 = .ok (.invokestatic 48, 3) := dk_184 0 48 (dk_at dksJ9_checkIndex_0 2 rfl rfl)
theorem dJ9_checkIndex_5 : decode cJ9_checkIndex 5 = .ok (.invokestatic 414, 3) := dk_184 1 158 (dk_at dksJ9_checkIndex_0 5 rfl rfl)
theorem dJ9_checkIndex_8 : decode cJ9_checkIndex 8 = .ok (.return_, 1) := dk_177 (dk_at dksJ9_checkIndex_0 8 rfl rfl)
abbrev cJ9_charAt : ByteArray := prog_55_method_83_code
def yJ9_charAt : MethodName := ⟨RJ9, "charAt", "([BI)C"⟩
def dkwJ9_charAt_0 : List UInt8 := [27, 42, 184, 0, 67, 42, 27, 184, 0, 71, 172]
abbrev dktJ9_charAt_0 : List UInt8 := dkwJ9_charAt_0 ++ []
theorem dksJ9_charAt_0 : cJ9_charAt.data.toList.drop 0 = dktJ9_charAt_0 := by decide +kernel
theorem dJ9_charAt_0 : decode cJ9_charAt 0 = .ok (.iload_n 1, 1) := dk_27 (dk_at dksJ9_charAt_0 0 rfl rfl)
theorem dJ9_charAt_1 : decode cJ9_charAt 1 = .ok (.aload_n 0, 1) := dk_42 (dk_at dksJ9_charAt_0 1 rfl rfl)
theorem dJ9_charAt_2 : decode cJ9_charAt 2 = .ok (.invokestatic 67, 3) := dk_184 0 67 (dk_at dksJ9_charAt_0 2 rfl rfl)
theorem dJ9_charAt_5 : decode cJ9_charAt 5 = .ok (.aload_n 0, 1) := dk_42 (dk_at dksJ9_charAt_0 5 rfl rfl)
theorem dJ9_charAt_6 : decode cJ9_charAt 6 = .ok (.iload_n 1, 1) := dk_27 (dk_at dksJ9_charAt_0 6 rfl rfl)
theorem dJ9_charAt_7 : decode cJ9_charAt 7 = .ok (.invokestatic 71, 3) := dk_184 0 71 (dk_at dksJ9_charAt_0 7 rfl rfl)
theorem dJ9_charAt_10 : decode cJ9_charAt 10 = .ok (.ireturn, 1) := dk_172 (dk_at dksJ9_charAt_0 10 rfl rfl)
abbrev cJ9_hashCode : ByteArray := prog_55_method_39_code
def yJ9_hashCode : MethodName := ⟨RJ9, "hashCode", "([B)I"⟩
def dkwJ9_hashCode_2 : List UInt8 := [3, 167, 0, 22, 42, 3, 184, 0, 71, 167, 0, 14, 42, 3, 42, 190, 4, 122, 3, 8, 184, 0, 220, 172]
abbrev dktJ9_hashCode_2 : List UInt8 := dkwJ9_hashCode_2 ++ []
def dkwJ9_hashCode_1 : List UInt8 := [171, 0, 0, 0, 0, 38, 0, 0, 0, 2, 0, 0, 0, 0, 0, 0, 0, 26, 0, 0, 0, 2, 0, 0, 0, 30]
abbrev dktJ9_hashCode_1 : List UInt8 := dkwJ9_hashCode_1 ++ dktJ9_hashCode_2
def dkwJ9_hashCode_0 : List UInt8 := [42, 190]
abbrev dktJ9_hashCode_0 : List UInt8 := dkwJ9_hashCode_0 ++ dktJ9_hashCode_1
theorem dksJ9_hashCode_0 : cJ9_hashCode.data.toList.drop 0 = dktJ9_hashCode_0 := by decide +kernel
theorem dksJ9_hashCode_1 : cJ9_hashCode.data.toList.drop 2 = dktJ9_hashCode_1 := dk_seg dksJ9_hashCode_0 2 rfl rfl
theorem dksJ9_hashCode_2 : cJ9_hashCode.data.toList.drop 28 = dktJ9_hashCode_2 := dk_seg dksJ9_hashCode_1 26 rfl rfl
theorem dJ9_hashCode_0 : decode cJ9_hashCode 0 = .ok (.aload_n 0, 1) := dk_42 (dk_at dksJ9_hashCode_0 0 rfl rfl)
theorem dJ9_hashCode_1 : decode cJ9_hashCode 1 = .ok (.arraylength, 1) := dk_190 (dk_at dksJ9_hashCode_0 1 rfl rfl)
theorem dJ9_hashCode_2 : decode cJ9_hashCode 2 = .ok (.lookupswitch 38 #[(0, 26), (2, 30)], 26) := by decide +kernel
theorem dJ9_hashCode_28 : decode cJ9_hashCode 28 = .ok (.iconst 0, 1) := dk_3 (dk_at dksJ9_hashCode_2 0 rfl rfl)
theorem dJ9_hashCode_29 : decode cJ9_hashCode 29 = .ok (.goto 22, 3) := dk_167 0 22 (dk_at dksJ9_hashCode_2 1 rfl rfl)
theorem dJ9_hashCode_32 : decode cJ9_hashCode 32 = .ok (.aload_n 0, 1) := dk_42 (dk_at dksJ9_hashCode_2 4 rfl rfl)
theorem dJ9_hashCode_33 : decode cJ9_hashCode 33 = .ok (.iconst 0, 1) := dk_3 (dk_at dksJ9_hashCode_2 5 rfl rfl)
theorem dJ9_hashCode_34 : decode cJ9_hashCode 34 = .ok (.invokestatic 71, 3) := dk_184 0 71 (dk_at dksJ9_hashCode_2 6 rfl rfl)
theorem dJ9_hashCode_37 : decode cJ9_hashCode 37 = .ok (.goto 14, 3) := dk_167 0 14 (dk_at dksJ9_hashCode_2 9 rfl rfl)
theorem dJ9_hashCode_40 : decode cJ9_hashCode 40 = .ok (.aload_n 0, 1) := dk_42 (dk_at dksJ9_hashCode_2 12 rfl rfl)
theorem dJ9_hashCode_41 : decode cJ9_hashCode 41 = .ok (.iconst 0, 1) := dk_3 (dk_at dksJ9_hashCode_2 13 rfl rfl)
theorem dJ9_hashCode_42 : decode cJ9_hashCode 42 = .ok (.aload_n 0, 1) := dk_42 (dk_at dksJ9_hashCode_2 14 rfl rfl)
theorem dJ9_hashCode_43 : decode cJ9_hashCode 43 = .ok (.arraylength, 1) := dk_190 (dk_at dksJ9_hashCode_2 15 rfl rfl)
theorem dJ9_hashCode_44 : decode cJ9_hashCode 44 = .ok (.iconst 1, 1) := dk_4 (dk_at dksJ9_hashCode_2 16 rfl rfl)
theorem dJ9_hashCode_45 : decode cJ9_hashCode 45 = .ok (.ishr, 1) := dk_122 (dk_at dksJ9_hashCode_2 17 rfl rfl)
theorem dJ9_hashCode_46 : decode cJ9_hashCode 46 = .ok (.iconst 0, 1) := dk_3 (dk_at dksJ9_hashCode_2 18 rfl rfl)
theorem dJ9_hashCode_47 : decode cJ9_hashCode 47 = .ok (.iconst 5, 1) := dk_8 (dk_at dksJ9_hashCode_2 19 rfl rfl)
theorem dJ9_hashCode_48 : decode cJ9_hashCode 48 = .ok (.invokestatic 220, 3) := dk_184 0 220 (dk_at dksJ9_hashCode_2 20 rfl rfl)
theorem dJ9_hashCode_51 : decode cJ9_hashCode 51 = .ok (.ireturn, 1) := dk_172 (dk_at dksJ9_hashCode_2 23 rfl rfl)
theorem q118 : (Jvm.Cond.initialized "java/lang/StringUTF16") ∈ lw_all := lw_g (lw_at lw_m1 12 rfl) rfl
theorem q360 : (Jvm.Cond.static ({ cls := "java/lang/StringUTF16", name := "newBytesFor", desc := "(I)[B" } : Jvm.MethodName)) ∈ lw_all := lw_g (lw_at lw_m2 14 rfl) rfl
theorem q361 : (Jvm.Cond.code ({ cls := "java/lang/StringUTF16", name := "newBytesFor", desc := "(I)[B" } : Jvm.MethodName) prog_55_method_2_code (1 : Nat) (Option.some (Jvm.ClassFile.FieldType.array Jvm.ClassFile.FieldType.byte))) ∈ lw_all := lw_g (lw_at lw_m2 15 rfl) rfl
theorem q362 : (Jvm.Cond.methodLink "java/lang/StringUTF16" (11 : Nat) ({ cls := "java/lang/StringUTF16", name := "newBytesLength", desc := "(I)I" } : Jvm.MethodName)) ∈ lw_all := lw_g (lw_at lw_m2 16 rfl) rfl
theorem q363 : (Jvm.Cond.static ({ cls := "java/lang/StringUTF16", name := "newBytesLength", desc := "(I)I" } : Jvm.MethodName)) ∈ lw_all := lw_g (lw_at lw_m2 17 rfl) rfl
theorem q364 : (Jvm.Cond.code ({ cls := "java/lang/StringUTF16", name := "newBytesLength", desc := "(I)I" } : Jvm.MethodName) prog_55_method_3_code (1 : Nat) (Option.some Jvm.ClassFile.FieldType.int)) ∈ lw_all := lw_g (lw_at lw_m2 18 rfl) rfl
theorem q365 : (Jvm.Cond.constant "java/lang/StringUTF16" (20 : Nat) (1073741823 : Int32)) ∈ lw_all := lw_g (lw_at lw_m2 19 rfl) rfl
theorem q671 : (Jvm.Cond.static ({ cls := "java/lang/StringUTF16", name := "putCharsAt", desc := "([BICCCC)I" } : Jvm.MethodName)) ∈ lw_all := lw_g (lw_at lw_m3 85 rfl) rfl
theorem q672 : (Jvm.Cond.code ({ cls := "java/lang/StringUTF16", name := "putCharsAt", desc := "([BICCCC)I" } : Jvm.MethodName) prog_55_method_81_code (7 : Nat) (Option.some Jvm.ClassFile.FieldType.int)) ∈ lw_all := lw_g (lw_at lw_m3 86 rfl) rfl
theorem q673 : (Jvm.Cond.methodLink "java/lang/StringUTF16" (96 : Nat) ({ cls := "java/lang/StringUTF16", name := "checkBoundsBeginEnd", desc := "(II[B)V" } : Jvm.MethodName)) ∈ lw_all := lw_g (lw_at lw_m3 87 rfl) rfl
theorem q674 : (Jvm.Cond.static ({ cls := "java/lang/StringUTF16", name := "checkBoundsBeginEnd", desc := "(II[B)V" } : Jvm.MethodName)) ∈ lw_all := lw_g (lw_at lw_m3 88 rfl) rfl
theorem q675 : (Jvm.Cond.code ({ cls := "java/lang/StringUTF16", name := "checkBoundsBeginEnd", desc := "(II[B)V" } : Jvm.MethodName) prog_55_method_93_code (3 : Nat) (Option.none : Option Jvm.ClassFile.FieldType)) ∈ lw_all := lw_g (lw_at lw_m3 89 rfl) rfl
theorem q676 : (Jvm.Cond.methodLink "java/lang/StringUTF16" (48 : Nat) ({ cls := "java/lang/StringUTF16", name := "length", desc := "([B)I" } : Jvm.MethodName)) ∈ lw_all := lw_g (lw_at lw_m3 90 rfl) rfl
theorem q677 : (Jvm.Cond.static ({ cls := "java/lang/StringUTF16", name := "length", desc := "([B)I" } : Jvm.MethodName)) ∈ lw_all := lw_g (lw_at lw_m3 91 rfl) rfl
theorem q678 : (Jvm.Cond.code ({ cls := "java/lang/StringUTF16", name := "length", desc := "([B)I" } : Jvm.MethodName) prog_55_method_6_code (1 : Nat) (Option.some Jvm.ClassFile.FieldType.int)) ∈ lw_all := lw_g (lw_at lw_m3 92 rfl) rfl
theorem q679 : (Jvm.Cond.methodLink "java/lang/StringUTF16" (241 : Nat) ({ cls := "java/lang/String", name := "checkBoundsBeginEnd", desc := "(III)V" } : Jvm.MethodName)) ∈ lw_all := lw_g (lw_at lw_m3 93 rfl) rfl
theorem q687 : (Jvm.Cond.methodLink "java/lang/StringUTF16" (111 : Nat) ({ cls := "java/lang/StringUTF16", name := "putChar", desc := "([BII)V" } : Jvm.MethodName)) ∈ lw_all := lw_g (lw_at lw_m3 101 rfl) rfl
theorem q688 : (Jvm.Cond.static ({ cls := "java/lang/StringUTF16", name := "putChar", desc := "([BII)V" } : Jvm.MethodName)) ∈ lw_all := lw_g (lw_at lw_m3 102 rfl) rfl
theorem q689 : (Jvm.Cond.code ({ cls := "java/lang/StringUTF16", name := "putChar", desc := "([BII)V" } : Jvm.MethodName) prog_55_method_4_code (3 : Nat) (Option.none : Option Jvm.ClassFile.FieldType)) ∈ lw_all := lw_g (lw_at lw_m3 103 rfl) rfl
theorem q690 : (Jvm.Cond.fieldLink "java/lang/StringUTF16" (44 : Nat) "java/lang/StringUTF16" "$assertionsDisabled" "Z") ∈ lw_all := lw_g (lw_at lw_m3 104 rfl) rfl
theorem q691 : (Jvm.Cond.laysStatic "java/lang/StringUTF16" "$assertionsDisabled" "Z") ∈ lw_tbl := lw_at lw_m3 105 rfl
theorem q692 : (Jvm.Cond.fieldLink "java/lang/StringUTF16" (59 : Nat) "java/lang/StringUTF16" "HI_BYTE_SHIFT" "I") ∈ lw_all := lw_g (lw_at lw_m3 106 rfl) rfl
theorem q693 : (Jvm.Cond.laysStatic "java/lang/StringUTF16" "HI_BYTE_SHIFT" "I") ∈ lw_tbl := lw_at lw_m3 107 rfl
theorem q694 : (Jvm.Cond.fieldLink "java/lang/StringUTF16" (63 : Nat) "java/lang/StringUTF16" "LO_BYTE_SHIFT" "I") ∈ lw_all := lw_g (lw_at lw_m3 108 rfl) rfl
theorem q695 : (Jvm.Cond.laysStatic "java/lang/StringUTF16" "LO_BYTE_SHIFT" "I") ∈ lw_tbl := lw_at lw_m3 109 rfl
theorem q722 : (Jvm.Cond.static ({ cls := "java/lang/StringUTF16", name := "inflate", desc := "([BI[BII)V" } : Jvm.MethodName)) ∈ lw_all := lw_g (lw_at lw_m3 136 rfl) rfl
theorem q723 : (Jvm.Cond.code ({ cls := "java/lang/StringUTF16", name := "inflate", desc := "([BI[BII)V" } : Jvm.MethodName) prog_55_method_86_code (6 : Nat) (Option.none : Option Jvm.ClassFile.FieldType)) ∈ lw_all := lw_g (lw_at lw_m3 137 rfl) rfl
theorem q724 : (Jvm.Cond.methodLink "java/lang/StringUTF16" (173 : Nat) ({ cls := "java/lang/StringUTF16", name := "checkBoundsOffCount", desc := "(II[B)V" } : Jvm.MethodName)) ∈ lw_all := lw_g (lw_at lw_m3 138 rfl) rfl
theorem q725 : (Jvm.Cond.static ({ cls := "java/lang/StringUTF16", name := "checkBoundsOffCount", desc := "(II[B)V" } : Jvm.MethodName)) ∈ lw_all := lw_g (lw_at lw_m3 139 rfl) rfl
theorem q726 : (Jvm.Cond.code ({ cls := "java/lang/StringUTF16", name := "checkBoundsOffCount", desc := "(II[B)V" } : Jvm.MethodName) prog_55_method_94_code (3 : Nat) (Option.none : Option Jvm.ClassFile.FieldType)) ∈ lw_all := lw_g (lw_at lw_m3 140 rfl) rfl
theorem q727 : (Jvm.Cond.methodLink "java/lang/StringUTF16" (419 : Nat) ({ cls := "java/lang/String", name := "checkBoundsOffCount", desc := "(III)I" } : Jvm.MethodName)) ∈ lw_all := lw_g (lw_at lw_m3 141 rfl) rfl
theorem q757 : (Jvm.Cond.static ({ cls := "java/lang/StringUTF16", name := "getChars", desc := "(III[B)I" } : Jvm.MethodName)) ∈ lw_all := lw_g (lw_at lw_m3 171 rfl) rfl
theorem q758 : (Jvm.Cond.code ({ cls := "java/lang/StringUTF16", name := "getChars", desc := "(III[B)I" } : Jvm.MethodName) prog_55_method_77_code (5 : Nat) (Option.some Jvm.ClassFile.FieldType.int)) ∈ lw_all := lw_g (lw_at lw_m3 172 rfl) rfl
theorem q759 : (Jvm.Cond.methodLink "java/lang/StringUTF16" (393 : Nat) ({ cls := "java/lang/StringUTF16", name := "getChars", desc := "(II[B)I" } : Jvm.MethodName)) ∈ lw_all := lw_g (lw_at lw_m3 173 rfl) rfl
theorem q760 : (Jvm.Cond.static ({ cls := "java/lang/StringUTF16", name := "getChars", desc := "(II[B)I" } : Jvm.MethodName)) ∈ lw_all := lw_g (lw_at lw_m3 174 rfl) rfl
theorem q761 : (Jvm.Cond.code ({ cls := "java/lang/StringUTF16", name := "getChars", desc := "(II[B)I" } : Jvm.MethodName) prog_55_method_89_code (7 : Nat) (Option.some Jvm.ClassFile.FieldType.int)) ∈ lw_all := lw_g (lw_at lw_m3 175 rfl) rfl
theorem q762 : (Jvm.Cond.fieldLink "java/lang/StringUTF16" (403 : Nat) "java/lang/Integer" "DigitOnes" "[B") ∈ lw_all := lw_g (lw_at lw_m3 176 rfl) rfl
theorem q763 : (Jvm.Cond.fieldLink "java/lang/StringUTF16" (407 : Nat) "java/lang/Integer" "DigitTens" "[B") ∈ lw_all := lw_g (lw_at lw_m3 177 rfl) rfl
theorem q842 : (Jvm.Cond.static ({ cls := "java/lang/StringUTF16", name := "compress", desc := "([BII)[B" } : Jvm.MethodName)) ∈ lw_all := lw_g (lw_at lw_m4 16 rfl) rfl
theorem q843 : (Jvm.Cond.code ({ cls := "java/lang/StringUTF16", name := "compress", desc := "([BII)[B" } : Jvm.MethodName) prog_55_method_17_code (6 : Nat) (Option.some (Jvm.ClassFile.FieldType.array Jvm.ClassFile.FieldType.byte))) ∈ lw_all := lw_g (lw_at lw_m4 17 rfl) rfl
theorem q844 : (Jvm.Cond.methodLink "java/lang/StringUTF16" (123 : Nat) ({ cls := "java/lang/StringUTF16", name := "compress", desc := "([BI[BII)I" } : Jvm.MethodName)) ∈ lw_all := lw_g (lw_at lw_m4 18 rfl) rfl
theorem q845 : (Jvm.Cond.static ({ cls := "java/lang/StringUTF16", name := "compress", desc := "([BI[BII)I" } : Jvm.MethodName)) ∈ lw_all := lw_g (lw_at lw_m4 19 rfl) rfl
theorem q846 : (Jvm.Cond.code ({ cls := "java/lang/StringUTF16", name := "compress", desc := "([BI[BII)I" } : Jvm.MethodName) prog_55_method_22_code (7 : Nat) (Option.some Jvm.ClassFile.FieldType.int)) ∈ lw_all := lw_g (lw_at lw_m4 20 rfl) rfl
theorem q847 : (Jvm.Cond.methodLink "java/lang/StringUTF16" (71 : Nat) ({ cls := "java/lang/StringUTF16", name := "getChar", desc := "([BI)C" } : Jvm.MethodName)) ∈ lw_all := lw_g (lw_at lw_m4 21 rfl) rfl
theorem q848 : (Jvm.Cond.static ({ cls := "java/lang/StringUTF16", name := "getChar", desc := "([BI)C" } : Jvm.MethodName)) ∈ lw_all := lw_g (lw_at lw_m4 22 rfl) rfl
theorem q849 : (Jvm.Cond.code ({ cls := "java/lang/StringUTF16", name := "getChar", desc := "([BI)C" } : Jvm.MethodName) prog_55_method_5_code (2 : Nat) (Option.some Jvm.ClassFile.FieldType.char)) ∈ lw_all := lw_g (lw_at lw_m4 23 rfl) rfl
theorem q850 : (Jvm.Cond.methodLink "java/lang/StringUTF16" (126 : Nat) ({ cls := "java/util/Arrays", name := "copyOfRange", desc := "([BII)[B" } : Jvm.MethodName)) ∈ lw_all := lw_g (lw_at lw_m4 24 rfl) rfl
theorem q852 : (Jvm.Cond.static ({ cls := "java/lang/StringUTF16", name := "coderFromArrayLen", desc := "([BI)B" } : Jvm.MethodName)) ∈ lw_all := lw_g (lw_at lw_m4 26 rfl) rfl
theorem q853 : (Jvm.Cond.code ({ cls := "java/lang/StringUTF16", name := "coderFromArrayLen", desc := "([BI)B" } : Jvm.MethodName) prog_55_method_15_code (2 : Nat) (Option.some Jvm.ClassFile.FieldType.byte)) ∈ lw_all := lw_g (lw_at lw_m4 27 rfl) rfl
theorem q2077 : (Jvm.Cond.static ({ cls := "java/lang/StringUTF16", name := "compareTo", desc := "([B[B)I" } : Jvm.MethodName)) ∈ lw_all := lw_g (lw_at lw_m9 51 rfl) rfl
theorem q2078 : (Jvm.Cond.code ({ cls := "java/lang/StringUTF16", name := "compareTo", desc := "([B[B)I" } : Jvm.MethodName) prog_55_method_29_code (4 : Nat) (Option.some Jvm.ClassFile.FieldType.int)) ∈ lw_all := lw_g (lw_at lw_m9 52 rfl) rfl
theorem q2079 : (Jvm.Cond.methodLink "java/lang/StringUTF16" (176 : Nat) ({ cls := "java/lang/StringUTF16", name := "compareValues", desc := "([B[BII)I" } : Jvm.MethodName)) ∈ lw_all := lw_g (lw_at lw_m9 53 rfl) rfl
theorem q2080 : (Jvm.Cond.static ({ cls := "java/lang/StringUTF16", name := "compareValues", desc := "([B[BII)I" } : Jvm.MethodName)) ∈ lw_all := lw_g (lw_at lw_m9 54 rfl) rfl
theorem q2081 : (Jvm.Cond.code ({ cls := "java/lang/StringUTF16", name := "compareValues", desc := "([B[BII)I" } : Jvm.MethodName) prog_55_method_31_code (8 : Nat) (Option.some Jvm.ClassFile.FieldType.int)) ∈ lw_all := lw_g (lw_at lw_m9 55 rfl) rfl
theorem q2082 : (Jvm.Cond.methodLink "java/lang/StringUTF16" (183 : Nat) ({ cls := "java/lang/Math", name := "min", desc := "(II)I" } : Jvm.MethodName)) ∈ lw_all := lw_g (lw_at lw_m9 56 rfl) rfl
theorem q2095 : (Jvm.Cond.static ({ cls := "java/lang/StringUTF16", name := "compareToLatin1", desc := "([B[B)I" } : Jvm.MethodName)) ∈ lw_all := lw_g (lw_at lw_m9 69 rfl) rfl
theorem q2096 : (Jvm.Cond.code ({ cls := "java/lang/StringUTF16", name := "compareToLatin1", desc := "([B[B)I" } : Jvm.MethodName) prog_55_method_32_code (2 : Nat) (Option.some Jvm.ClassFile.FieldType.int)) ∈ lw_all := lw_g (lw_at lw_m9 70 rfl) rfl
theorem q2097 : (Jvm.Cond.methodLink "java/lang/StringUTF16" (189 : Nat) ({ cls := "java/lang/StringLatin1", name := "compareToUTF16", desc := "([B[B)I" } : Jvm.MethodName)) ∈ lw_all := lw_g (lw_at lw_m9 71 rfl) rfl
theorem q2114 : (Jvm.Cond.static ({ cls := "java/lang/StringUTF16", name := "compareTo", desc := "([B[BII)I" } : Jvm.MethodName)) ∈ lw_all := lw_g (lw_at lw_m9 88 rfl) rfl
theorem q2115 : (Jvm.Cond.code ({ cls := "java/lang/StringUTF16", name := "compareTo", desc := "([B[BII)I" } : Jvm.MethodName) prog_55_method_30_code (4 : Nat) (Option.some Jvm.ClassFile.FieldType.int)) ∈ lw_all := lw_g (lw_at lw_m9 89 rfl) rfl
theorem q2116 : (Jvm.Cond.methodLink "java/lang/StringUTF16" (180 : Nat) ({ cls := "java/lang/StringUTF16", name := "checkOffset", desc := "(I[B)V" } : Jvm.MethodName)) ∈ lw_all := lw_g (lw_at lw_m9 90 rfl) rfl
theorem q2117 : (Jvm.Cond.static ({ cls := "java/lang/StringUTF16", name := "checkOffset", desc := "(I[B)V" } : Jvm.MethodName)) ∈ lw_all := lw_g (lw_at lw_m9 91 rfl) rfl
theorem q2118 : (Jvm.Cond.code ({ cls := "java/lang/StringUTF16", name := "checkOffset", desc := "(I[B)V" } : Jvm.MethodName) prog_55_method_92_code (2 : Nat) (Option.none : Option Jvm.ClassFile.FieldType)) ∈ lw_all := lw_g (lw_at lw_m9 92 rfl) rfl
theorem q2119 : (Jvm.Cond.methodLink "java/lang/StringUTF16" (417 : Nat) ({ cls := "java/lang/String", name := "checkOffset", desc := "(II)V" } : Jvm.MethodName)) ∈ lw_all := lw_g (lw_at lw_m9 93 rfl) rfl
theorem q2127 : (Jvm.Cond.static ({ cls := "java/lang/StringUTF16", name := "compareToLatin1", desc := "([B[BII)I" } : Jvm.MethodName)) ∈ lw_all := lw_g (lw_at lw_m9 101 rfl) rfl
theorem q2128 : (Jvm.Cond.code ({ cls := "java/lang/StringUTF16", name := "compareToLatin1", desc := "([B[BII)I" } : Jvm.MethodName) prog_55_method_33_code (4 : Nat) (Option.some Jvm.ClassFile.FieldType.int)) ∈ lw_all := lw_g (lw_at lw_m9 102 rfl) rfl
theorem q2129 : (Jvm.Cond.methodLink "java/lang/StringUTF16" (193 : Nat) ({ cls := "java/lang/StringLatin1", name := "compareToUTF16", desc := "([B[BII)I" } : Jvm.MethodName)) ∈ lw_all := lw_g (lw_at lw_m9 103 rfl) rfl
theorem q3065 : (Jvm.Cond.static ({ cls := "java/lang/StringUTF16", name := "fillNull", desc := "([BII)V" } : Jvm.MethodName)) ∈ lw_all := lw_g (lw_at lw_m13 79 rfl) rfl
theorem q3066 : (Jvm.Cond.code ({ cls := "java/lang/StringUTF16", name := "fillNull", desc := "([BII)V" } : Jvm.MethodName) prog_55_method_70_code (3 : Nat) (Option.none : Option Jvm.ClassFile.FieldType)) ∈ lw_all := lw_g (lw_at lw_m13 80 rfl) rfl
theorem q3067 : (Jvm.Cond.methodLink "java/lang/StringUTF16" (380 : Nat) ({ cls := "java/util/Arrays", name := "fill", desc := "([BIIB)V" } : Jvm.MethodName)) ∈ lw_all := lw_g (lw_at lw_m13 81 rfl) rfl
theorem q3080 : (Jvm.Cond.static ({ cls := "java/lang/StringUTF16", name := "putCharSB", desc := "([BII)V" } : Jvm.MethodName)) ∈ lw_all := lw_g (lw_at lw_m13 94 rfl) rfl
theorem q3081 : (Jvm.Cond.code ({ cls := "java/lang/StringUTF16", name := "putCharSB", desc := "([BII)V" } : Jvm.MethodName) prog_55_method_71_code (3 : Nat) (Option.none : Option Jvm.ClassFile.FieldType)) ∈ lw_all := lw_g (lw_at lw_m13 95 rfl) rfl
theorem q3082 : (Jvm.Cond.methodLink "java/lang/StringUTF16" (67 : Nat) ({ cls := "java/lang/StringUTF16", name := "checkIndex", desc := "(I[B)V" } : Jvm.MethodName)) ∈ lw_all := lw_g (lw_at lw_m13 96 rfl) rfl
theorem q3083 : (Jvm.Cond.static ({ cls := "java/lang/StringUTF16", name := "checkIndex", desc := "(I[B)V" } : Jvm.MethodName)) ∈ lw_all := lw_g (lw_at lw_m13 97 rfl) rfl
theorem q3084 : (Jvm.Cond.code ({ cls := "java/lang/StringUTF16", name := "checkIndex", desc := "(I[B)V" } : Jvm.MethodName) prog_55_method_91_code (2 : Nat) (Option.none : Option Jvm.ClassFile.FieldType)) ∈ lw_all := lw_g (lw_at lw_m13 98 rfl) rfl
theorem q3085 : (Jvm.Cond.methodLink "java/lang/StringUTF16" (414 : Nat) ({ cls := "java/lang/String", name := "checkIndex", desc := "(II)V" } : Jvm.MethodName)) ∈ lw_all := lw_g (lw_at lw_m13 99 rfl) rfl
theorem q3340 : (Jvm.Cond.static ({ cls := "java/lang/StringUTF16", name := "charAt", desc := "([BI)C" } : Jvm.MethodName)) ∈ lw_all := lw_g (lw_at lw_m14 114 rfl) rfl
theorem q3341 : (Jvm.Cond.code ({ cls := "java/lang/StringUTF16", name := "charAt", desc := "([BI)C" } : Jvm.MethodName) prog_55_method_83_code (2 : Nat) (Option.some Jvm.ClassFile.FieldType.char)) ∈ lw_all := lw_g (lw_at lw_m14 115 rfl) rfl
theorem q3411 : (Jvm.Cond.static ({ cls := "java/lang/StringUTF16", name := "hashCode", desc := "([B)I" } : Jvm.MethodName)) ∈ lw_all := lw_g (lw_at lw_m14 185 rfl) rfl
theorem q3412 : (Jvm.Cond.code ({ cls := "java/lang/StringUTF16", name := "hashCode", desc := "([B)I" } : Jvm.MethodName) prog_55_method_39_code (1 : Nat) (Option.some Jvm.ClassFile.FieldType.int)) ∈ lw_all := lw_g (lw_at lw_m14 186 rfl) rfl
theorem q3413 : (Jvm.Cond.methodLink "java/lang/StringUTF16" (220 : Nat) ({ cls := "jdk/internal/util/ArraysSupport", name := "vectorizedHashCode", desc := "(Ljava/lang/Object;IIII)I" } : Jvm.MethodName)) ∈ lw_all := lw_g (lw_at lw_m14 187 rfl) rfl

