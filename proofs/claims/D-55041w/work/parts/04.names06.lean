/-! java/util/PriorityQueue -/
set_option maxRecDepth 100000
def RJ37 : String := "java/util/PriorityQueue"
def TJ37 : u_T := fun k => match k with
  | 0 => ("java/util/PriorityQueue", "queue", "[Ljava/lang/Object;", false)
  | 1 => ("java/util/PriorityQueue", "size", "I", false)
  | 2 => ("java/util/PriorityQueue", "comparator", "Ljava/util/Comparator;", true)
  | _ => ("java/util/PriorityQueue", "modCount", "I", false)
def tyJ37 : Nat → FieldType := fun k => match k with
  | 0 => .array (.object "java/lang/Object")
  | 1 => .int
  | 2 => .object "java/util/Comparator"
  | _ => .int
abbrev wsJ370 : List Cond := u_ws RJ37 TJ37 4
theorem nmJ37 : ∀ a, a < 4 → ∀ b, b < 4 → a ≠ b → (TJ37 a).2.1 ≠ (TJ37 b).2.1 := by decide +kernel
theorem tyJ37_ok : ∀ k, k < 4 → parseFieldDescriptor (TJ37 k).2.2.1 = some (tyJ37 k) := by decide +kernel
abbrev cJ37_removeAt : ByteArray := prog_96_method_26_code
def yJ37_removeAt : MethodName := ⟨RJ37, "removeAt", "(I)Ljava/lang/Object;"⟩
def dkwJ37_removeAt_3 : List UInt8 := [27, 50, 25, 4, 165, 0, 6, 25, 4, 176, 1, 176]
abbrev dktJ37_removeAt_3 : List UInt8 := dkwJ37_removeAt_3 ++ []
def dkwJ37_removeAt_2 : List UInt8 := [83, 42, 27, 25, 4, 182, 0, 133, 44, 27, 50, 25, 4, 166, 0, 21, 42, 27, 25, 4, 182, 0, 100, 44]
abbrev dktJ37_removeAt_2 : List UInt8 := dkwJ37_removeAt_2 ++ dktJ37_removeAt_3
def dkwJ37_removeAt_1 : List UInt8 := [181, 0, 58, 62, 29, 27, 160, 0, 10, 44, 27, 1, 83, 167, 0, 45, 44, 29, 50, 58, 4, 44, 29, 1]
abbrev dktJ37_removeAt_1 : List UInt8 := dkwJ37_removeAt_1 ++ dktJ37_removeAt_2
def dkwJ37_removeAt_0 : List UInt8 := [42, 180, 0, 17, 77, 42, 89, 180, 0, 93, 4, 96, 181, 0, 93, 42, 89, 180, 0, 58, 4, 100, 90]
abbrev dktJ37_removeAt_0 : List UInt8 := dkwJ37_removeAt_0 ++ dktJ37_removeAt_1
theorem dksJ37_removeAt_0 : cJ37_removeAt.data.toList.drop 0 = dktJ37_removeAt_0 := by decide +kernel
theorem dksJ37_removeAt_1 : cJ37_removeAt.data.toList.drop 23 = dktJ37_removeAt_1 := dk_seg dksJ37_removeAt_0 23 rfl rfl
theorem dksJ37_removeAt_2 : cJ37_removeAt.data.toList.drop 47 = dktJ37_removeAt_2 := dk_seg dksJ37_removeAt_1 24 rfl rfl
theorem dksJ37_removeAt_3 : cJ37_removeAt.data.toList.drop 71 = dktJ37_removeAt_3 := dk_seg dksJ37_removeAt_2 24 rfl rfl
theorem dJ37_removeAt_0 : decode cJ37_removeAt 0 = .ok (.aload_n 0, 1) := dk_42 (dk_at dksJ37_removeAt_0 0 rfl rfl)
theorem dJ37_removeAt_1 : decode cJ37_removeAt 1 = .ok (.getfield 17, 3) := dk_180 0 17 (dk_at dksJ37_removeAt_0 1 rfl rfl)
theorem dJ37_removeAt_4 : decode cJ37_removeAt 4 = .ok (.astore_n 2, 1) := dk_77 (dk_at dksJ37_removeAt_0 4 rfl rfl)
theorem dJ37_removeAt_5 : decode cJ37_removeAt 5 = .ok (.aload_n 0, 1) := dk_42 (dk_at dksJ37_removeAt_0 5 rfl rfl)
theorem dJ37_removeAt_6 : decode cJ37_removeAt 6 = .ok (.dup, 1) := dk_89 (dk_at dksJ37_removeAt_0 6 rfl rfl)
theorem dJ37_removeAt_7 : decode cJ37_removeAt 7 = .ok (.getfield 93, 3) := dk_180 0 93 (dk_at dksJ37_removeAt_0 7 rfl rfl)
theorem dJ37_removeAt_10 : decode cJ37_removeAt 10 = .ok (.iconst 1, 1) := dk_4 (dk_at dksJ37_removeAt_0 10 rfl rfl)
theorem dJ37_removeAt_11 : decode cJ37_removeAt 11 = .ok (.iadd, 1) := dk_96 (dk_at dksJ37_removeAt_0 11 rfl rfl)
theorem dJ37_removeAt_12 : decode cJ37_removeAt 12 = .ok (.putfield 93, 3) := dk_181 0 93 (dk_at dksJ37_removeAt_0 12 rfl rfl)
theorem dJ37_removeAt_15 : decode cJ37_removeAt 15 = .ok (.aload_n 0, 1) := dk_42 (dk_at dksJ37_removeAt_0 15 rfl rfl)
theorem dJ37_removeAt_16 : decode cJ37_removeAt 16 = .ok (.dup, 1) := dk_89 (dk_at dksJ37_removeAt_0 16 rfl rfl)
theorem dJ37_removeAt_17 : decode cJ37_removeAt 17 = .ok (.getfield 58, 3) := dk_180 0 58 (dk_at dksJ37_removeAt_0 17 rfl rfl)
theorem dJ37_removeAt_20 : decode cJ37_removeAt 20 = .ok (.iconst 1, 1) := dk_4 (dk_at dksJ37_removeAt_0 20 rfl rfl)
theorem dJ37_removeAt_21 : decode cJ37_removeAt 21 = .ok (.isub, 1) := dk_100 (dk_at dksJ37_removeAt_0 21 rfl rfl)
theorem dJ37_removeAt_22 : decode cJ37_removeAt 22 = .ok (.dup_x1, 1) := dk_90 (dk_at dksJ37_removeAt_0 22 rfl rfl)
theorem dJ37_removeAt_23 : decode cJ37_removeAt 23 = .ok (.putfield 58, 3) := dk_181 0 58 (dk_at dksJ37_removeAt_1 0 rfl rfl)
theorem dJ37_removeAt_26 : decode cJ37_removeAt 26 = .ok (.istore_n 3, 1) := dk_62 (dk_at dksJ37_removeAt_1 3 rfl rfl)
theorem dJ37_removeAt_27 : decode cJ37_removeAt 27 = .ok (.iload_n 3, 1) := dk_29 (dk_at dksJ37_removeAt_1 4 rfl rfl)
theorem dJ37_removeAt_28 : decode cJ37_removeAt 28 = .ok (.iload_n 1, 1) := dk_27 (dk_at dksJ37_removeAt_1 5 rfl rfl)
theorem dJ37_removeAt_29 : decode cJ37_removeAt 29 = .ok (.if_icmp .ne 10, 3) := dk_160 0 10 (dk_at dksJ37_removeAt_1 6 rfl rfl)
theorem dJ37_removeAt_32 : decode cJ37_removeAt 32 = .ok (.aload_n 2, 1) := dk_44 (dk_at dksJ37_removeAt_1 9 rfl rfl)
theorem dJ37_removeAt_33 : decode cJ37_removeAt 33 = .ok (.iload_n 1, 1) := dk_27 (dk_at dksJ37_removeAt_1 10 rfl rfl)
theorem dJ37_removeAt_34 : decode cJ37_removeAt 34 = .ok (.aconst_null, 1) := dk_1 (dk_at dksJ37_removeAt_1 11 rfl rfl)
theorem dJ37_removeAt_35 : decode cJ37_removeAt 35 = .ok (.aastore, 1) := dk_83 (dk_at dksJ37_removeAt_1 12 rfl rfl)
theorem dJ37_removeAt_36 : decode cJ37_removeAt 36 = .ok (.goto 45, 3) := dk_167 0 45 (dk_at dksJ37_removeAt_1 13 rfl rfl)
theorem dJ37_removeAt_39 : decode cJ37_removeAt 39 = .ok (.aload_n 2, 1) := dk_44 (dk_at dksJ37_removeAt_1 16 rfl rfl)
theorem dJ37_removeAt_40 : decode cJ37_removeAt 40 = .ok (.iload_n 3, 1) := dk_29 (dk_at dksJ37_removeAt_1 17 rfl rfl)
theorem dJ37_removeAt_41 : decode cJ37_removeAt 41 = .ok (.aaload, 1) := dk_50 (dk_at dksJ37_removeAt_1 18 rfl rfl)
theorem dJ37_removeAt_42 : decode cJ37_removeAt 42 = .ok (.astore 4, 2) := dk_58 4 (dk_at dksJ37_removeAt_1 19 rfl rfl)
theorem dJ37_removeAt_44 : decode cJ37_removeAt 44 = .ok (.aload_n 2, 1) := dk_44 (dk_at dksJ37_removeAt_1 21 rfl rfl)
theorem dJ37_removeAt_45 : decode cJ37_removeAt 45 = .ok (.iload_n 3, 1) := dk_29 (dk_at dksJ37_removeAt_1 22 rfl rfl)
theorem dJ37_removeAt_46 : decode cJ37_removeAt 46 = .ok (.aconst_null, 1) := dk_1 (dk_at dksJ37_removeAt_1 23 rfl rfl)
theorem dJ37_removeAt_47 : decode cJ37_removeAt 47 = .ok (.aastore, 1) := dk_83 (dk_at dksJ37_removeAt_2 0 rfl rfl)
theorem dJ37_removeAt_48 : decode cJ37_removeAt 48 = .ok (.aload_n 0, 1) := dk_42 (dk_at dksJ37_removeAt_2 1 rfl rfl)
theorem dJ37_removeAt_49 : decode cJ37_removeAt 49 = .ok (.iload_n 1, 1) := dk_27 (dk_at dksJ37_removeAt_2 2 rfl rfl)
theorem dJ37_removeAt_50 : decode cJ37_removeAt 50 = .ok (.aload 4, 2) := dk_25 4 (dk_at dksJ37_removeAt_2 3 rfl rfl)
theorem dJ37_removeAt_52 : decode cJ37_removeAt 52 = .ok (.invokevirtual 133, 3) := dk_182 0 133 (dk_at dksJ37_removeAt_2 5 rfl rfl)
theorem dJ37_removeAt_55 : decode cJ37_removeAt 55 = .ok (.aload_n 2, 1) := dk_44 (dk_at dksJ37_removeAt_2 8 rfl rfl)
theorem dJ37_removeAt_56 : decode cJ37_removeAt 56 = .ok (.iload_n 1, 1) := dk_27 (dk_at dksJ37_removeAt_2 9 rfl rfl)
theorem dJ37_removeAt_57 : decode cJ37_removeAt 57 = .ok (.aaload, 1) := dk_50 (dk_at dksJ37_removeAt_2 10 rfl rfl)
theorem dJ37_removeAt_58 : decode cJ37_removeAt 58 = .ok (.aload 4, 2) := dk_25 4 (dk_at dksJ37_removeAt_2 11 rfl rfl)
theorem dJ37_removeAt_60 : decode cJ37_removeAt 60 = .ok (.if_acmp .ne 21, 3) := dk_166 0 21 (dk_at dksJ37_removeAt_2 13 rfl rfl)
theorem dJ37_removeAt_63 : decode cJ37_removeAt 63 = .ok (.aload_n 0, 1) := dk_42 (dk_at dksJ37_removeAt_2 16 rfl rfl)
theorem dJ37_removeAt_64 : decode cJ37_removeAt 64 = .ok (.iload_n 1, 1) := dk_27 (dk_at dksJ37_removeAt_2 17 rfl rfl)
theorem dJ37_removeAt_65 : decode cJ37_removeAt 65 = .ok (.aload 4, 2) := dk_25 4 (dk_at dksJ37_removeAt_2 18 rfl rfl)
theorem dJ37_removeAt_67 : decode cJ37_removeAt 67 = .ok (.invokevirtual 100, 3) := dk_182 0 100 (dk_at dksJ37_removeAt_2 20 rfl rfl)
theorem dJ37_removeAt_70 : decode cJ37_removeAt 70 = .ok (.aload_n 2, 1) := dk_44 (dk_at dksJ37_removeAt_2 23 rfl rfl)
theorem dJ37_removeAt_71 : decode cJ37_removeAt 71 = .ok (.iload_n 1, 1) := dk_27 (dk_at dksJ37_removeAt_3 0 rfl rfl)
theorem dJ37_removeAt_72 : decode cJ37_removeAt 72 = .ok (.aaload, 1) := dk_50 (dk_at dksJ37_removeAt_3 1 rfl rfl)
theorem dJ37_removeAt_73 : decode cJ37_removeAt 73 = .ok (.aload 4, 2) := dk_25 4 (dk_at dksJ37_removeAt_3 2 rfl rfl)
theorem dJ37_removeAt_75 : decode cJ37_removeAt 75 = .ok (.if_acmp .eq 6, 3) := dk_165 0 6 (dk_at dksJ37_removeAt_3 4 rfl rfl)
theorem dJ37_removeAt_78 : decode cJ37_removeAt 78 = .ok (.aload 4, 2) := dk_25 4 (dk_at dksJ37_removeAt_3 7 rfl rfl)
theorem dJ37_removeAt_80 : decode cJ37_removeAt 80 = .ok (.areturn, 1) := dk_176 (dk_at dksJ37_removeAt_3 9 rfl rfl)
theorem dJ37_removeAt_81 : decode cJ37_removeAt 81 = .ok (.aconst_null, 1) := dk_1 (dk_at dksJ37_removeAt_3 10 rfl rfl)
theorem dJ37_removeAt_82 : decode cJ37_removeAt 82 = .ok (.areturn, 1) := dk_176 (dk_at dksJ37_removeAt_3 11 rfl rfl)
abbrev cJ37_siftDown : ByteArray := prog_96_method_30_code
def yJ37_siftDown : MethodName := ⟨RJ37, "siftDown", "(ILjava/lang/Object;)V"⟩
def dkwJ37_siftDown_1 : List UInt8 := [167, 0, 16, 27, 44, 42, 180, 0, 17, 42, 180, 0, 58, 184, 0, 125, 177]
abbrev dktJ37_siftDown_1 : List UInt8 := dkwJ37_siftDown_1 ++ []
def dkwJ37_siftDown_0 : List UInt8 := [42, 180, 0, 21, 198, 0, 23, 27, 44, 42, 180, 0, 17, 42, 180, 0, 58, 42, 180, 0, 21, 184, 0, 129]
abbrev dktJ37_siftDown_0 : List UInt8 := dkwJ37_siftDown_0 ++ dktJ37_siftDown_1
theorem dksJ37_siftDown_0 : cJ37_siftDown.data.toList.drop 0 = dktJ37_siftDown_0 := by decide +kernel
theorem dksJ37_siftDown_1 : cJ37_siftDown.data.toList.drop 24 = dktJ37_siftDown_1 := dk_seg dksJ37_siftDown_0 24 rfl rfl
theorem dJ37_siftDown_0 : decode cJ37_siftDown 0 = .ok (.aload_n 0, 1) := dk_42 (dk_at dksJ37_siftDown_0 0 rfl rfl)
theorem dJ37_siftDown_1 : decode cJ37_siftDown 1 = .ok (.getfield 21, 3) := dk_180 0 21 (dk_at dksJ37_siftDown_0 1 rfl rfl)
theorem dJ37_siftDown_4 : decode cJ37_siftDown 4 = .ok (.ifnull 23, 3) := dk_198 0 23 (dk_at dksJ37_siftDown_0 4 rfl rfl)
theorem dJ37_siftDown_7 : decode cJ37_siftDown 7 = .ok (.iload_n 1, 1) := dk_27 (dk_at dksJ37_siftDown_0 7 rfl rfl)
theorem dJ37_siftDown_8 : decode cJ37_siftDown 8 = .ok (.aload_n 2, 1) := dk_44 (dk_at dksJ37_siftDown_0 8 rfl rfl)
theorem dJ37_siftDown_9 : decode cJ37_siftDown 9 = .ok (.aload_n 0, 1) := dk_42 (dk_at dksJ37_siftDown_0 9 rfl rfl)
theorem dJ37_siftDown_10 : decode cJ37_siftDown 10 = .ok (.getfield 17, 3) := dk_180 0 17 (dk_at dksJ37_siftDown_0 10 rfl rfl)
theorem dJ37_siftDown_13 : decode cJ37_siftDown 13 = .ok (.aload_n 0, 1) := dk_42 (dk_at dksJ37_siftDown_0 13 rfl rfl)
theorem dJ37_siftDown_14 : decode cJ37_siftDown 14 = .ok (.getfield 58, 3) := dk_180 0 58 (dk_at dksJ37_siftDown_0 14 rfl rfl)
theorem dJ37_siftDown_17 : decode cJ37_siftDown 17 = .ok (.aload_n 0, 1) := dk_42 (dk_at dksJ37_siftDown_0 17 rfl rfl)
theorem dJ37_siftDown_18 : decode cJ37_siftDown 18 = .ok (.getfield 21, 3) := dk_180 0 21 (dk_at dksJ37_siftDown_0 18 rfl rfl)
theorem dJ37_siftDown_21 : decode cJ37_siftDown 21 = .ok (.invokestatic 129, 3) := dk_184 0 129 (dk_at dksJ37_siftDown_0 21 rfl rfl)
theorem dJ37_siftDown_24 : decode cJ37_siftDown 24 = .ok (.goto 16, 3) := dk_167 0 16 (dk_at dksJ37_siftDown_1 0 rfl rfl)
theorem dJ37_siftDown_27 : decode cJ37_siftDown 27 = .ok (.iload_n 1, 1) := dk_27 (dk_at dksJ37_siftDown_1 3 rfl rfl)
theorem dJ37_siftDown_28 : decode cJ37_siftDown 28 = .ok (.aload_n 2, 1) := dk_44 (dk_at dksJ37_siftDown_1 4 rfl rfl)
theorem dJ37_siftDown_29 : decode cJ37_siftDown 29 = .ok (.aload_n 0, 1) := dk_42 (dk_at dksJ37_siftDown_1 5 rfl rfl)
theorem dJ37_siftDown_30 : decode cJ37_siftDown 30 = .ok (.getfield 17, 3) := dk_180 0 17 (dk_at dksJ37_siftDown_1 6 rfl rfl)
theorem dJ37_siftDown_33 : decode cJ37_siftDown 33 = .ok (.aload_n 0, 1) := dk_42 (dk_at dksJ37_siftDown_1 9 rfl rfl)
theorem dJ37_siftDown_34 : decode cJ37_siftDown 34 = .ok (.getfield 58, 3) := dk_180 0 58 (dk_at dksJ37_siftDown_1 10 rfl rfl)
theorem dJ37_siftDown_37 : decode cJ37_siftDown 37 = .ok (.invokestatic 125, 3) := dk_184 0 125 (dk_at dksJ37_siftDown_1 13 rfl rfl)
theorem dJ37_siftDown_40 : decode cJ37_siftDown 40 = .ok (.return_, 1) := dk_177 (dk_at dksJ37_siftDown_1 16 rfl rfl)
abbrev cJ37_siftDownUsingComparator : ByteArray := prog_96_method_32_code
def yJ37_siftDownUsingComparator : MethodName := ⟨RJ37, "siftDownUsingComparator", "(ILjava/lang/Object;[Ljava/lang/Object;ILjava/util/Comparator;)V"⟩
def dkwJ37_siftDownUsingComparator_4 : List UInt8 := [43, 83, 177]
abbrev dktJ37_siftDownUsingComparator_4 : List UInt8 := dkwJ37_siftDownUsingComparator_4 ++ []
def dkwJ37_siftDownUsingComparator_3 : List UInt8 := [185, 0, 149, 3, 0, 157, 0, 6, 167, 0, 14, 44, 26, 25, 7, 83, 21, 6, 59, 167, 255, 176, 44, 26]
abbrev dktJ37_siftDownUsingComparator_3 : List UInt8 := dkwJ37_siftDownUsingComparator_3 ++ dktJ37_siftDownUsingComparator_4
def dkwJ37_siftDownUsingComparator_2 : List UInt8 := [185, 0, 149, 3, 0, 158, 0, 12, 44, 21, 8, 89, 54, 6, 50, 58, 7, 25, 4, 43, 25, 7]
abbrev dktJ37_siftDownUsingComparator_2 : List UInt8 := dkwJ37_siftDownUsingComparator_2 ++ dktJ37_siftDownUsingComparator_3
def dkwJ37_siftDownUsingComparator_1 : List UInt8 := [21, 6, 4, 96, 54, 8, 21, 8, 29, 162, 0, 28, 25, 4, 25, 7, 44, 21, 8, 50]
abbrev dktJ37_siftDownUsingComparator_1 : List UInt8 := dkwJ37_siftDownUsingComparator_1 ++ dktJ37_siftDownUsingComparator_2
def dkwJ37_siftDownUsingComparator_0 : List UInt8 := [29, 4, 124, 54, 5, 26, 21, 5, 162, 0, 80, 26, 4, 120, 4, 96, 54, 6, 44, 21, 6, 50, 58, 7]
abbrev dktJ37_siftDownUsingComparator_0 : List UInt8 := dkwJ37_siftDownUsingComparator_0 ++ dktJ37_siftDownUsingComparator_1
theorem dksJ37_siftDownUsingComparator_0 : cJ37_siftDownUsingComparator.data.toList.drop 0 = dktJ37_siftDownUsingComparator_0 := by decide +kernel
theorem dksJ37_siftDownUsingComparator_1 : cJ37_siftDownUsingComparator.data.toList.drop 24 = dktJ37_siftDownUsingComparator_1 := dk_seg dksJ37_siftDownUsingComparator_0 24 rfl rfl
theorem dksJ37_siftDownUsingComparator_2 : cJ37_siftDownUsingComparator.data.toList.drop 44 = dktJ37_siftDownUsingComparator_2 := dk_seg dksJ37_siftDownUsingComparator_1 20 rfl rfl
theorem dksJ37_siftDownUsingComparator_3 : cJ37_siftDownUsingComparator.data.toList.drop 66 = dktJ37_siftDownUsingComparator_3 := dk_seg dksJ37_siftDownUsingComparator_2 22 rfl rfl
theorem dksJ37_siftDownUsingComparator_4 : cJ37_siftDownUsingComparator.data.toList.drop 90 = dktJ37_siftDownUsingComparator_4 := dk_seg dksJ37_siftDownUsingComparator_3 24 rfl rfl
theorem dJ37_siftDownUsingComparator_0 : decode cJ37_siftDownUsingComparator 0 = .ok (.iload_n 3, 1) := dk_29 (dk_at dksJ37_siftDownUsingComparator_0 0 rfl rfl)
theorem dJ37_siftDownUsingComparator_1 : decode cJ37_siftDownUsingComparator 1 = .ok (.iconst 1, 1) := dk_4 (dk_at dksJ37_siftDownUsingComparator_0 1 rfl rfl)
theorem dJ37_siftDownUsingComparator_2 : decode cJ37_siftDownUsingComparator 2 = .ok (.iushr, 1) := dk_124 (dk_at dksJ37_siftDownUsingComparator_0 2 rfl rfl)
theorem dJ37_siftDownUsingComparator_3 : decode cJ37_siftDownUsingComparator 3 = .ok (.istore 5, 2) := dk_54 5 (dk_at dksJ37_siftDownUsingComparator_0 3 rfl rfl)
theorem dJ37_siftDownUsingComparator_5 : decode cJ37_siftDownUsingComparator 5 = .ok (.iload_n 0, 1) := dk_26 (dk_at dksJ37_siftDownUsingComparator_0 5 rfl rfl)
theorem dJ37_siftDownUsingComparator_6 : decode cJ37_siftDownUsingComparator 6 = .ok (.iload 5, 2) := dk_21 5 (dk_at dksJ37_siftDownUsingComparator_0 6 rfl rfl)
theorem dJ37_siftDownUsingComparator_8 : decode cJ37_siftDownUsingComparator 8 = .ok (.if_icmp .ge 80, 3) := dk_162 0 80 (dk_at dksJ37_siftDownUsingComparator_0 8 rfl rfl)
theorem dJ37_siftDownUsingComparator_11 : decode cJ37_siftDownUsingComparator 11 = .ok (.iload_n 0, 1) := dk_26 (dk_at dksJ37_siftDownUsingComparator_0 11 rfl rfl)
theorem dJ37_siftDownUsingComparator_12 : decode cJ37_siftDownUsingComparator 12 = .ok (.iconst 1, 1) := dk_4 (dk_at dksJ37_siftDownUsingComparator_0 12 rfl rfl)
theorem dJ37_siftDownUsingComparator_13 : decode cJ37_siftDownUsingComparator 13 = .ok (.ishl, 1) := dk_120 (dk_at dksJ37_siftDownUsingComparator_0 13 rfl rfl)
theorem dJ37_siftDownUsingComparator_14 : decode cJ37_siftDownUsingComparator 14 = .ok (.iconst 1, 1) := dk_4 (dk_at dksJ37_siftDownUsingComparator_0 14 rfl rfl)
theorem dJ37_siftDownUsingComparator_15 : decode cJ37_siftDownUsingComparator 15 = .ok (.iadd, 1) := dk_96 (dk_at dksJ37_siftDownUsingComparator_0 15 rfl rfl)
theorem dJ37_siftDownUsingComparator_16 : decode cJ37_siftDownUsingComparator 16 = .ok (.istore 6, 2) := dk_54 6 (dk_at dksJ37_siftDownUsingComparator_0 16 rfl rfl)
theorem dJ37_siftDownUsingComparator_18 : decode cJ37_siftDownUsingComparator 18 = .ok (.aload_n 2, 1) := dk_44 (dk_at dksJ37_siftDownUsingComparator_0 18 rfl rfl)
theorem dJ37_siftDownUsingComparator_19 : decode cJ37_siftDownUsingComparator 19 = .ok (.iload 6, 2) := dk_21 6 (dk_at dksJ37_siftDownUsingComparator_0 19 rfl rfl)
theorem dJ37_siftDownUsingComparator_21 : decode cJ37_siftDownUsingComparator 21 = .ok (.aaload, 1) := dk_50 (dk_at dksJ37_siftDownUsingComparator_0 21 rfl rfl)
theorem dJ37_siftDownUsingComparator_22 : decode cJ37_siftDownUsingComparator 22 = .ok (.astore 7, 2) := dk_58 7 (dk_at dksJ37_siftDownUsingComparator_0 22 rfl rfl)
theorem dJ37_siftDownUsingComparator_24 : decode cJ37_siftDownUsingComparator 24 = .ok (.iload 6, 2) := dk_21 6 (dk_at dksJ37_siftDownUsingComparator_1 0 rfl rfl)
theorem dJ37_siftDownUsingComparator_26 : decode cJ37_siftDownUsingComparator 26 = .ok (.iconst 1, 1) := dk_4 (dk_at dksJ37_siftDownUsingComparator_1 2 rfl rfl)
theorem dJ37_siftDownUsingComparator_27 : decode cJ37_siftDownUsingComparator 27 = .ok (.iadd, 1) := dk_96 (dk_at dksJ37_siftDownUsingComparator_1 3 rfl rfl)
theorem dJ37_siftDownUsingComparator_28 : decode cJ37_siftDownUsingComparator 28 = .ok (.istore 8, 2) := dk_54 8 (dk_at dksJ37_siftDownUsingComparator_1 4 rfl rfl)
theorem dJ37_siftDownUsingComparator_30 : decode cJ37_siftDownUsingComparator 30 = .ok (.iload 8, 2) := dk_21 8 (dk_at dksJ37_siftDownUsingComparator_1 6 rfl rfl)
theorem dJ37_siftDownUsingComparator_32 : decode cJ37_siftDownUsingComparator 32 = .ok (.iload_n 3, 1) := dk_29 (dk_at dksJ37_siftDownUsingComparator_1 8 rfl rfl)
theorem dJ37_siftDownUsingComparator_33 : decode cJ37_siftDownUsingComparator 33 = .ok (.if_icmp .ge 28, 3) := dk_162 0 28 (dk_at dksJ37_siftDownUsingComparator_1 9 rfl rfl)
theorem dJ37_siftDownUsingComparator_36 : decode cJ37_siftDownUsingComparator 36 = .ok (.aload 4, 2) := dk_25 4 (dk_at dksJ37_siftDownUsingComparator_1 12 rfl rfl)
theorem dJ37_siftDownUsingComparator_38 : decode cJ37_siftDownUsingComparator 38 = .ok (.aload 7, 2) := dk_25 7 (dk_at dksJ37_siftDownUsingComparator_1 14 rfl rfl)
theorem dJ37_siftDownUsingComparator_40 : decode cJ37_siftDownUsingComparator 40 = .ok (.aload_n 2, 1) := dk_44 (dk_at dksJ37_siftDownUsingComparator_1 16 rfl rfl)
theorem dJ37_siftDownUsingComparator_41 : decode cJ37_siftDownUsingComparator 41 = .ok (.iload 8, 2) := dk_21 8 (dk_at dksJ37_siftDownUsingComparator_1 17 rfl rfl)
theorem dJ37_siftDownUsingComparator_43 : decode cJ37_siftDownUsingComparator 43 = .ok (.aaload, 1) := dk_50 (dk_at dksJ37_siftDownUsingComparator_1 19 rfl rfl)
theorem dJ37_siftDownUsingComparator_44 : decode cJ37_siftDownUsingComparator 44 = .ok (.invokeinterface 149 3, 5) := by decide +kernel
theorem dJ37_siftDownUsingComparator_49 : decode cJ37_siftDownUsingComparator 49 = .ok (.ifCond .le 12, 3) := dk_158 0 12 (dk_at dksJ37_siftDownUsingComparator_2 5 rfl rfl)
theorem dJ37_siftDownUsingComparator_52 : decode cJ37_siftDownUsingComparator 52 = .ok (.aload_n 2, 1) := dk_44 (dk_at dksJ37_siftDownUsingComparator_2 8 rfl rfl)
theorem dJ37_siftDownUsingComparator_53 : decode cJ37_siftDownUsingComparator 53 = .ok (.iload 8, 2) := dk_21 8 (dk_at dksJ37_siftDownUsingComparator_2 9 rfl rfl)
theorem dJ37_siftDownUsingComparator_55 : decode cJ37_siftDownUsingComparator 55 = .ok (.dup, 1) := dk_89 (dk_at dksJ37_siftDownUsingComparator_2 11 rfl rfl)
theorem dJ37_siftDownUsingComparator_56 : decode cJ37_siftDownUsingComparator 56 = .ok (.istore 6, 2) := dk_54 6 (dk_at dksJ37_siftDownUsingComparator_2 12 rfl rfl)
theorem dJ37_siftDownUsingComparator_58 : decode cJ37_siftDownUsingComparator 58 = .ok (.aaload, 1) := dk_50 (dk_at dksJ37_siftDownUsingComparator_2 14 rfl rfl)
theorem dJ37_siftDownUsingComparator_59 : decode cJ37_siftDownUsingComparator 59 = .ok (.astore 7, 2) := dk_58 7 (dk_at dksJ37_siftDownUsingComparator_2 15 rfl rfl)
theorem dJ37_siftDownUsingComparator_61 : decode cJ37_siftDownUsingComparator 61 = .ok (.aload 4, 2) := dk_25 4 (dk_at dksJ37_siftDownUsingComparator_2 17 rfl rfl)
theorem dJ37_siftDownUsingComparator_63 : decode cJ37_siftDownUsingComparator 63 = .ok (.aload_n 1, 1) := dk_43 (dk_at dksJ37_siftDownUsingComparator_2 19 rfl rfl)
theorem dJ37_siftDownUsingComparator_64 : decode cJ37_siftDownUsingComparator 64 = .ok (.aload 7, 2) := dk_25 7 (dk_at dksJ37_siftDownUsingComparator_2 20 rfl rfl)
theorem dJ37_siftDownUsingComparator_66 : decode cJ37_siftDownUsingComparator 66 = .ok (.invokeinterface 149 3, 5) := by decide +kernel
theorem dJ37_siftDownUsingComparator_71 : decode cJ37_siftDownUsingComparator 71 = .ok (.ifCond .gt 6, 3) := dk_157 0 6 (dk_at dksJ37_siftDownUsingComparator_3 5 rfl rfl)
theorem dJ37_siftDownUsingComparator_74 : decode cJ37_siftDownUsingComparator 74 = .ok (.goto 14, 3) := dk_167 0 14 (dk_at dksJ37_siftDownUsingComparator_3 8 rfl rfl)
theorem dJ37_siftDownUsingComparator_77 : decode cJ37_siftDownUsingComparator 77 = .ok (.aload_n 2, 1) := dk_44 (dk_at dksJ37_siftDownUsingComparator_3 11 rfl rfl)
theorem dJ37_siftDownUsingComparator_78 : decode cJ37_siftDownUsingComparator 78 = .ok (.iload_n 0, 1) := dk_26 (dk_at dksJ37_siftDownUsingComparator_3 12 rfl rfl)
theorem dJ37_siftDownUsingComparator_79 : decode cJ37_siftDownUsingComparator 79 = .ok (.aload 7, 2) := dk_25 7 (dk_at dksJ37_siftDownUsingComparator_3 13 rfl rfl)
theorem dJ37_siftDownUsingComparator_81 : decode cJ37_siftDownUsingComparator 81 = .ok (.aastore, 1) := dk_83 (dk_at dksJ37_siftDownUsingComparator_3 15 rfl rfl)
theorem dJ37_siftDownUsingComparator_82 : decode cJ37_siftDownUsingComparator 82 = .ok (.iload 6, 2) := dk_21 6 (dk_at dksJ37_siftDownUsingComparator_3 16 rfl rfl)
theorem dJ37_siftDownUsingComparator_84 : decode cJ37_siftDownUsingComparator 84 = .ok (.istore_n 0, 1) := dk_59 (dk_at dksJ37_siftDownUsingComparator_3 18 rfl rfl)
theorem dJ37_siftDownUsingComparator_85 : decode cJ37_siftDownUsingComparator 85 = .ok (.goto (-80), 3) := dk_167 255 176 (dk_at dksJ37_siftDownUsingComparator_3 19 rfl rfl)
theorem dJ37_siftDownUsingComparator_88 : decode cJ37_siftDownUsingComparator 88 = .ok (.aload_n 2, 1) := dk_44 (dk_at dksJ37_siftDownUsingComparator_3 22 rfl rfl)
theorem dJ37_siftDownUsingComparator_89 : decode cJ37_siftDownUsingComparator 89 = .ok (.iload_n 0, 1) := dk_26 (dk_at dksJ37_siftDownUsingComparator_3 23 rfl rfl)
theorem dJ37_siftDownUsingComparator_90 : decode cJ37_siftDownUsingComparator 90 = .ok (.aload_n 1, 1) := dk_43 (dk_at dksJ37_siftDownUsingComparator_4 0 rfl rfl)
theorem dJ37_siftDownUsingComparator_91 : decode cJ37_siftDownUsingComparator 91 = .ok (.aastore, 1) := dk_83 (dk_at dksJ37_siftDownUsingComparator_4 1 rfl rfl)
theorem dJ37_siftDownUsingComparator_92 : decode cJ37_siftDownUsingComparator 92 = .ok (.return_, 1) := dk_177 (dk_at dksJ37_siftDownUsingComparator_4 2 rfl rfl)
abbrev cJ37_siftDownComparable : ByteArray := prog_96_method_31_code
def yJ37_siftDownComparable : MethodName := ⟨RJ37, "siftDownComparable", "(ILjava/lang/Object;[Ljava/lang/Object;I)V"⟩
def dkwJ37_siftDownComparable_4 : List UInt8 := [25, 4, 83, 177]
abbrev dktJ37_siftDownComparable_4 : List UInt8 := dkwJ37_siftDownComparable_4 ++ []
def dkwJ37_siftDownComparable_3 : List UInt8 := [185, 0, 146, 2, 0, 157, 0, 6, 167, 0, 14, 44, 26, 25, 7, 83, 21, 6, 59, 167, 255, 176, 44, 26]
abbrev dktJ37_siftDownComparable_3 : List UInt8 := dkwJ37_siftDownComparable_3 ++ dktJ37_siftDownComparable_4
def dkwJ37_siftDownComparable_2 : List UInt8 := [21, 8, 50, 185, 0, 146, 2, 0, 158, 0, 12, 44, 21, 8, 89, 54, 6, 50, 58, 7, 25, 4, 25, 7]
abbrev dktJ37_siftDownComparable_2 : List UInt8 := dkwJ37_siftDownComparable_2 ++ dktJ37_siftDownComparable_3
def dkwJ37_siftDownComparable_1 : List UInt8 := [44, 21, 6, 50, 58, 7, 21, 6, 4, 96, 54, 8, 21, 8, 29, 162, 0, 29, 25, 7, 192, 0, 144, 44]
abbrev dktJ37_siftDownComparable_1 : List UInt8 := dkwJ37_siftDownComparable_1 ++ dktJ37_siftDownComparable_2
def dkwJ37_siftDownComparable_0 : List UInt8 := [43, 192, 0, 144, 58, 4, 29, 4, 124, 54, 5, 26, 21, 5, 162, 0, 80, 26, 4, 120, 4, 96, 54, 6]
abbrev dktJ37_siftDownComparable_0 : List UInt8 := dkwJ37_siftDownComparable_0 ++ dktJ37_siftDownComparable_1
theorem dksJ37_siftDownComparable_0 : cJ37_siftDownComparable.data.toList.drop 0 = dktJ37_siftDownComparable_0 := by decide +kernel
theorem dksJ37_siftDownComparable_1 : cJ37_siftDownComparable.data.toList.drop 24 = dktJ37_siftDownComparable_1 := dk_seg dksJ37_siftDownComparable_0 24 rfl rfl
theorem dksJ37_siftDownComparable_2 : cJ37_siftDownComparable.data.toList.drop 48 = dktJ37_siftDownComparable_2 := dk_seg dksJ37_siftDownComparable_1 24 rfl rfl
theorem dksJ37_siftDownComparable_3 : cJ37_siftDownComparable.data.toList.drop 72 = dktJ37_siftDownComparable_3 := dk_seg dksJ37_siftDownComparable_2 24 rfl rfl
theorem dksJ37_siftDownComparable_4 : cJ37_siftDownComparable.data.toList.drop 96 = dktJ37_siftDownComparable_4 := dk_seg dksJ37_siftDownComparable_3 24 rfl rfl
theorem dJ37_siftDownComparable_0 : decode cJ37_siftDownComparable 0 = .ok (.aload_n 1, 1) := dk_43 (dk_at dksJ37_siftDownComparable_0 0 rfl rfl)
theorem dJ37_siftDownComparable_1 : decode cJ37_siftDownComparable 1 = .ok (.checkcast 144, 3) := dk_192 0 144 (dk_at dksJ37_siftDownComparable_0 1 rfl rfl)
theorem dJ37_siftDownComparable_4 : decode cJ37_siftDownComparable 4 = .ok (.astore 4, 2) := dk_58 4 (dk_at dksJ37_siftDownComparable_0 4 rfl rfl)
theorem dJ37_siftDownComparable_6 : decode cJ37_siftDownComparable 6 = .ok (.iload_n 3, 1) := dk_29 (dk_at dksJ37_siftDownComparable_0 6 rfl rfl)
theorem dJ37_siftDownComparable_7 : decode cJ37_siftDownComparable 7 = .ok (.iconst 1, 1) := dk_4 (dk_at dksJ37_siftDownComparable_0 7 rfl rfl)
theorem dJ37_siftDownComparable_8 : decode cJ37_siftDownComparable 8 = .ok (.iushr, 1) := dk_124 (dk_at dksJ37_siftDownComparable_0 8 rfl rfl)
theorem dJ37_siftDownComparable_9 : decode cJ37_siftDownComparable 9 = .ok (.istore 5, 2) := dk_54 5 (dk_at dksJ37_siftDownComparable_0 9 rfl rfl)
theorem dJ37_siftDownComparable_11 : decode cJ37_siftDownComparable 11 = .ok (.iload_n 0, 1) := dk_26 (dk_at dksJ37_siftDownComparable_0 11 rfl rfl)
theorem dJ37_siftDownComparable_12 : decode cJ37_siftDownComparable 12 = .ok (.iload 5, 2) := dk_21 5 (dk_at dksJ37_siftDownComparable_0 12 rfl rfl)
theorem dJ37_siftDownComparable_14 : decode cJ37_siftDownComparable 14 = .ok (.if_icmp .ge 80, 3) := dk_162 0 80 (dk_at dksJ37_siftDownComparable_0 14 rfl rfl)
theorem dJ37_siftDownComparable_17 : decode cJ37_siftDownComparable 17 = .ok (.iload_n 0, 1) := dk_26 (dk_at dksJ37_siftDownComparable_0 17 rfl rfl)
theorem dJ37_siftDownComparable_18 : decode cJ37_siftDownComparable 18 = .ok (.iconst 1, 1) := dk_4 (dk_at dksJ37_siftDownComparable_0 18 rfl rfl)
theorem dJ37_siftDownComparable_19 : decode cJ37_siftDownComparable 19 = .ok (.ishl, 1) := dk_120 (dk_at dksJ37_siftDownComparable_0 19 rfl rfl)
theorem dJ37_siftDownComparable_20 : decode cJ37_siftDownComparable 20 = .ok (.iconst 1, 1) := dk_4 (dk_at dksJ37_siftDownComparable_0 20 rfl rfl)
theorem dJ37_siftDownComparable_21 : decode cJ37_siftDownComparable 21 = .ok (.iadd, 1) := dk_96 (dk_at dksJ37_siftDownComparable_0 21 rfl rfl)
theorem dJ37_siftDownComparable_22 : decode cJ37_siftDownComparable 22 = .ok (.istore 6, 2) := dk_54 6 (dk_at dksJ37_siftDownComparable_0 22 rfl rfl)
theorem dJ37_siftDownComparable_24 : decode cJ37_siftDownComparable 24 = .ok (.aload_n 2, 1) := dk_44 (dk_at dksJ37_siftDownComparable_1 0 rfl rfl)
theorem dJ37_siftDownComparable_25 : decode cJ37_siftDownComparable 25 = .ok (.iload 6, 2) := dk_21 6 (dk_at dksJ37_siftDownComparable_1 1 rfl rfl)
theorem dJ37_siftDownComparable_27 : decode cJ37_siftDownComparable 27 = .ok (.aaload, 1) := dk_50 (dk_at dksJ37_siftDownComparable_1 3 rfl rfl)
theorem dJ37_siftDownComparable_28 : decode cJ37_siftDownComparable 28 = .ok (.astore 7, 2) := dk_58 7 (dk_at dksJ37_siftDownComparable_1 4 rfl rfl)
theorem dJ37_siftDownComparable_30 : decode cJ37_siftDownComparable 30 = .ok (.iload 6, 2) := dk_21 6 (dk_at dksJ37_siftDownComparable_1 6 rfl rfl)
theorem dJ37_siftDownComparable_32 : decode cJ37_siftDownComparable 32 = .ok (.iconst 1, 1) := dk_4 (dk_at dksJ37_siftDownComparable_1 8 rfl rfl)
theorem dJ37_siftDownComparable_33 : decode cJ37_siftDownComparable 33 = .ok (.iadd, 1) := dk_96 (dk_at dksJ37_siftDownComparable_1 9 rfl rfl)
theorem dJ37_siftDownComparable_34 : decode cJ37_siftDownComparable 34 = .ok (.istore 8, 2) := dk_54 8 (dk_at dksJ37_siftDownComparable_1 10 rfl rfl)
theorem dJ37_siftDownComparable_36 : decode cJ37_siftDownComparable 36 = .ok (.iload 8, 2) := dk_21 8 (dk_at dksJ37_siftDownComparable_1 12 rfl rfl)
theorem dJ37_siftDownComparable_38 : decode cJ37_siftDownComparable 38 = .ok (.iload_n 3, 1) := dk_29 (dk_at dksJ37_siftDownComparable_1 14 rfl rfl)
theorem dJ37_siftDownComparable_39 : decode cJ37_siftDownComparable 39 = .ok (.if_icmp .ge 29, 3) := dk_162 0 29 (dk_at dksJ37_siftDownComparable_1 15 rfl rfl)
theorem dJ37_siftDownComparable_42 : decode cJ37_siftDownComparable 42 = .ok (.aload 7, 2) := dk_25 7 (dk_at dksJ37_siftDownComparable_1 18 rfl rfl)
theorem dJ37_siftDownComparable_44 : decode cJ37_siftDownComparable 44 = .ok (.checkcast 144, 3) := dk_192 0 144 (dk_at dksJ37_siftDownComparable_1 20 rfl rfl)
theorem dJ37_siftDownComparable_47 : decode cJ37_siftDownComparable 47 = .ok (.aload_n 2, 1) := dk_44 (dk_at dksJ37_siftDownComparable_1 23 rfl rfl)
theorem dJ37_siftDownComparable_48 : decode cJ37_siftDownComparable 48 = .ok (.iload 8, 2) := dk_21 8 (dk_at dksJ37_siftDownComparable_2 0 rfl rfl)
theorem dJ37_siftDownComparable_50 : decode cJ37_siftDownComparable 50 = .ok (.aaload, 1) := dk_50 (dk_at dksJ37_siftDownComparable_2 2 rfl rfl)
theorem dJ37_siftDownComparable_51 : decode cJ37_siftDownComparable 51 = .ok (.invokeinterface 146 2, 5) := by decide +kernel
theorem dJ37_siftDownComparable_56 : decode cJ37_siftDownComparable 56 = .ok (.ifCond .le 12, 3) := dk_158 0 12 (dk_at dksJ37_siftDownComparable_2 8 rfl rfl)
theorem dJ37_siftDownComparable_59 : decode cJ37_siftDownComparable 59 = .ok (.aload_n 2, 1) := dk_44 (dk_at dksJ37_siftDownComparable_2 11 rfl rfl)
theorem dJ37_siftDownComparable_60 : decode cJ37_siftDownComparable 60 = .ok (.iload 8, 2) := dk_21 8 (dk_at dksJ37_siftDownComparable_2 12 rfl rfl)
theorem dJ37_siftDownComparable_62 : decode cJ37_siftDownComparable 62 = .ok (.dup, 1) := dk_89 (dk_at dksJ37_siftDownComparable_2 14 rfl rfl)
theorem dJ37_siftDownComparable_63 : decode cJ37_siftDownComparable 63 = .ok (.istore 6, 2) := dk_54 6 (dk_at dksJ37_siftDownComparable_2 15 rfl rfl)
theorem dJ37_siftDownComparable_65 : decode cJ37_siftDownComparable 65 = .ok (.aaload, 1) := dk_50 (dk_at dksJ37_siftDownComparable_2 17 rfl rfl)
theorem dJ37_siftDownComparable_66 : decode cJ37_siftDownComparable 66 = .ok (.astore 7, 2) := dk_58 7 (dk_at dksJ37_siftDownComparable_2 18 rfl rfl)
theorem dJ37_siftDownComparable_68 : decode cJ37_siftDownComparable 68 = .ok (.aload 4, 2) := dk_25 4 (dk_at dksJ37_siftDownComparable_2 20 rfl rfl)
theorem dJ37_siftDownComparable_70 : decode cJ37_siftDownComparable 70 = .ok (.aload 7, 2) := dk_25 7 (dk_at dksJ37_siftDownComparable_2 22 rfl rfl)
theorem dJ37_siftDownComparable_72 : decode cJ37_siftDownComparable 72 = .ok (.invokeinterface 146 2, 5) := by decide +kernel
theorem dJ37_siftDownComparable_77 : decode cJ37_siftDownComparable 77 = .ok (.ifCond .gt 6, 3) := dk_157 0 6 (dk_at dksJ37_siftDownComparable_3 5 rfl rfl)
theorem dJ37_siftDownComparable_80 : decode cJ37_siftDownComparable 80 = .ok (.goto 14, 3) := dk_167 0 14 (dk_at dksJ37_siftDownComparable_3 8 rfl rfl)
theorem dJ37_siftDownComparable_83 : decode cJ37_siftDownComparable 83 = .ok (.aload_n 2, 1) := dk_44 (dk_at dksJ37_siftDownComparable_3 11 rfl rfl)
theorem dJ37_siftDownComparable_84 : decode cJ37_siftDownComparable 84 = .ok (.iload_n 0, 1) := dk_26 (dk_at dksJ37_siftDownComparable_3 12 rfl rfl)
theorem dJ37_siftDownComparable_85 : decode cJ37_siftDownComparable 85 = .ok (.aload 7, 2) := dk_25 7 (dk_at dksJ37_siftDownComparable_3 13 rfl rfl)
theorem dJ37_siftDownComparable_87 : decode cJ37_siftDownComparable 87 = .ok (.aastore, 1) := dk_83 (dk_at dksJ37_siftDownComparable_3 15 rfl rfl)
theorem dJ37_siftDownComparable_88 : decode cJ37_siftDownComparable 88 = .ok (.iload 6, 2) := dk_21 6 (dk_at dksJ37_siftDownComparable_3 16 rfl rfl)
theorem dJ37_siftDownComparable_90 : decode cJ37_siftDownComparable 90 = .ok (.istore_n 0, 1) := dk_59 (dk_at dksJ37_siftDownComparable_3 18 rfl rfl)
theorem dJ37_siftDownComparable_91 : decode cJ37_siftDownComparable 91 = .ok (.goto (-80), 3) := dk_167 255 176 (dk_at dksJ37_siftDownComparable_3 19 rfl rfl)
theorem dJ37_siftDownComparable_94 : decode cJ37_siftDownComparable 94 = .ok (.aload_n 2, 1) := dk_44 (dk_at dksJ37_siftDownComparable_3 22 rfl rfl)
theorem dJ37_siftDownComparable_95 : decode cJ37_siftDownComparable 95 = .ok (.iload_n 0, 1) := dk_26 (dk_at dksJ37_siftDownComparable_3 23 rfl rfl)
theorem dJ37_siftDownComparable_96 : decode cJ37_siftDownComparable 96 = .ok (.aload 4, 2) := dk_25 4 (dk_at dksJ37_siftDownComparable_4 0 rfl rfl)
theorem dJ37_siftDownComparable_98 : decode cJ37_siftDownComparable 98 = .ok (.aastore, 1) := dk_83 (dk_at dksJ37_siftDownComparable_4 2 rfl rfl)
theorem dJ37_siftDownComparable_99 : decode cJ37_siftDownComparable 99 = .ok (.return_, 1) := dk_177 (dk_at dksJ37_siftDownComparable_4 3 rfl rfl)
abbrev cJ37_siftUp : ByteArray := prog_96_method_27_code
def yJ37_siftUp : MethodName := ⟨RJ37, "siftUp", "(ILjava/lang/Object;)V"⟩
def dkwJ37_siftUp_1 : List UInt8 := [44, 42, 180, 0, 17, 184, 0, 140, 177]
abbrev dktJ37_siftUp_1 : List UInt8 := dkwJ37_siftUp_1 ++ []
def dkwJ37_siftUp_0 : List UInt8 := [42, 180, 0, 21, 198, 0, 19, 27, 44, 42, 180, 0, 17, 42, 180, 0, 21, 184, 0, 136, 167, 0, 12, 27]
abbrev dktJ37_siftUp_0 : List UInt8 := dkwJ37_siftUp_0 ++ dktJ37_siftUp_1
theorem dksJ37_siftUp_0 : cJ37_siftUp.data.toList.drop 0 = dktJ37_siftUp_0 := by decide +kernel
theorem dksJ37_siftUp_1 : cJ37_siftUp.data.toList.drop 24 = dktJ37_siftUp_1 := dk_seg dksJ37_siftUp_0 24 rfl rfl
theorem dJ37_siftUp_0 : decode cJ37_siftUp 0 = .ok (.aload_n 0, 1) := dk_42 (dk_at dksJ37_siftUp_0 0 rfl rfl)
theorem dJ37_siftUp_1 : decode cJ37_siftUp 1 = .ok (.getfield 21, 3) := dk_180 0 21 (dk_at dksJ37_siftUp_0 1 rfl rfl)
theorem dJ37_siftUp_4 : decode cJ37_siftUp 4 = .ok (.ifnull 19, 3) := dk_198 0 19 (dk_at dksJ37_siftUp_0 4 rfl rfl)
theorem dJ37_siftUp_7 : decode cJ37_siftUp 7 = .ok (.iload_n 1, 1) := dk_27 (dk_at dksJ37_siftUp_0 7 rfl rfl)
theorem dJ37_siftUp_8 : decode cJ37_siftUp 8 = .ok (.aload_n 2, 1) := dk_44 (dk_at dksJ37_siftUp_0 8 rfl rfl)
theorem dJ37_siftUp_9 : decode cJ37_siftUp 9 = .ok (.aload_n 0, 1) := dk_42 (dk_at dksJ37_siftUp_0 9 rfl rfl)
theorem dJ37_siftUp_10 : decode cJ37_siftUp 10 = .ok (.getfield 17, 3) := dk_180 0 17 (dk_at dksJ37_siftUp_0 10 rfl rfl)
theorem dJ37_siftUp_13 : decode cJ37_siftUp 13 = .ok (.aload_n 0, 1) := dk_42 (dk_at dksJ37_siftUp_0 13 rfl rfl)
theorem dJ37_siftUp_14 : decode cJ37_siftUp 14 = .ok (.getfield 21, 3) := dk_180 0 21 (dk_at dksJ37_siftUp_0 14 rfl rfl)
theorem dJ37_siftUp_17 : decode cJ37_siftUp 17 = .ok (.invokestatic 136, 3) := dk_184 0 136 (dk_at dksJ37_siftUp_0 17 rfl rfl)
theorem dJ37_siftUp_20 : decode cJ37_siftUp 20 = .ok (.goto 12, 3) := dk_167 0 12 (dk_at dksJ37_siftUp_0 20 rfl rfl)
theorem dJ37_siftUp_23 : decode cJ37_siftUp 23 = .ok (.iload_n 1, 1) := dk_27 (dk_at dksJ37_siftUp_0 23 rfl rfl)
theorem dJ37_siftUp_24 : decode cJ37_siftUp 24 = .ok (.aload_n 2, 1) := dk_44 (dk_at dksJ37_siftUp_1 0 rfl rfl)
theorem dJ37_siftUp_25 : decode cJ37_siftUp 25 = .ok (.aload_n 0, 1) := dk_42 (dk_at dksJ37_siftUp_1 1 rfl rfl)
theorem dJ37_siftUp_26 : decode cJ37_siftUp 26 = .ok (.getfield 17, 3) := dk_180 0 17 (dk_at dksJ37_siftUp_1 2 rfl rfl)
theorem dJ37_siftUp_29 : decode cJ37_siftUp 29 = .ok (.invokestatic 140, 3) := dk_184 0 140 (dk_at dksJ37_siftUp_1 5 rfl rfl)
theorem dJ37_siftUp_32 : decode cJ37_siftUp 32 = .ok (.return_, 1) := dk_177 (dk_at dksJ37_siftUp_1 8 rfl rfl)
abbrev cJ37_siftUpUsingComparator : ByteArray := prog_96_method_29_code
def yJ37_siftUpUsingComparator : MethodName := ⟨RJ37, "siftUpUsingComparator", "(ILjava/lang/Object;[Ljava/lang/Object;Ljava/util/Comparator;)V"⟩
def dkwJ37_siftUpUsingComparator_2 : List UInt8 := [43, 83, 177]
abbrev dktJ37_siftUpUsingComparator_2 : List UInt8 := dkwJ37_siftUpUsingComparator_2 ++ []
def dkwJ37_siftUpUsingComparator_1 : List UInt8 := [185, 0, 149, 3, 0, 155, 0, 6, 167, 0, 14, 44, 26, 25, 5, 83, 21, 4, 59, 167, 255, 216, 44, 26]
abbrev dktJ37_siftUpUsingComparator_1 : List UInt8 := dkwJ37_siftUpUsingComparator_1 ++ dktJ37_siftUpUsingComparator_2
def dkwJ37_siftUpUsingComparator_0 : List UInt8 := [26, 158, 0, 42, 26, 4, 100, 4, 124, 54, 4, 44, 21, 4, 50, 58, 5, 45, 43, 25, 5]
abbrev dktJ37_siftUpUsingComparator_0 : List UInt8 := dkwJ37_siftUpUsingComparator_0 ++ dktJ37_siftUpUsingComparator_1
theorem dksJ37_siftUpUsingComparator_0 : cJ37_siftUpUsingComparator.data.toList.drop 0 = dktJ37_siftUpUsingComparator_0 := by decide +kernel
theorem dksJ37_siftUpUsingComparator_1 : cJ37_siftUpUsingComparator.data.toList.drop 21 = dktJ37_siftUpUsingComparator_1 := dk_seg dksJ37_siftUpUsingComparator_0 21 rfl rfl
theorem dksJ37_siftUpUsingComparator_2 : cJ37_siftUpUsingComparator.data.toList.drop 45 = dktJ37_siftUpUsingComparator_2 := dk_seg dksJ37_siftUpUsingComparator_1 24 rfl rfl
theorem dJ37_siftUpUsingComparator_0 : decode cJ37_siftUpUsingComparator 0 = .ok (.iload_n 0, 1) := dk_26 (dk_at dksJ37_siftUpUsingComparator_0 0 rfl rfl)
theorem dJ37_siftUpUsingComparator_1 : decode cJ37_siftUpUsingComparator 1 = .ok (.ifCond .le 42, 3) := dk_158 0 42 (dk_at dksJ37_siftUpUsingComparator_0 1 rfl rfl)
theorem dJ37_siftUpUsingComparator_4 : decode cJ37_siftUpUsingComparator 4 = .ok (.iload_n 0, 1) := dk_26 (dk_at dksJ37_siftUpUsingComparator_0 4 rfl rfl)
theorem dJ37_siftUpUsingComparator_5 : decode cJ37_siftUpUsingComparator 5 = .ok (.iconst 1, 1) := dk_4 (dk_at dksJ37_siftUpUsingComparator_0 5 rfl rfl)
theorem dJ37_siftUpUsingComparator_6 : decode cJ37_siftUpUsingComparator 6 = .ok (.isub, 1) := dk_100 (dk_at dksJ37_siftUpUsingComparator_0 6 rfl rfl)
theorem dJ37_siftUpUsingComparator_7 : decode cJ37_siftUpUsingComparator 7 = .ok (.iconst 1, 1) := dk_4 (dk_at dksJ37_siftUpUsingComparator_0 7 rfl rfl)
theorem dJ37_siftUpUsingComparator_8 : decode cJ37_siftUpUsingComparator 8 = .ok (.iushr, 1) := dk_124 (dk_at dksJ37_siftUpUsingComparator_0 8 rfl rfl)
theorem dJ37_siftUpUsingComparator_9 : decode cJ37_siftUpUsingComparator 9 = .ok (.istore 4, 2) := dk_54 4 (dk_at dksJ37_siftUpUsingComparator_0 9 rfl rfl)
theorem dJ37_siftUpUsingComparator_11 : decode cJ37_siftUpUsingComparator 11 = .ok (.aload_n 2, 1) := dk_44 (dk_at dksJ37_siftUpUsingComparator_0 11 rfl rfl)
theorem dJ37_siftUpUsingComparator_12 : decode cJ37_siftUpUsingComparator 12 = .ok (.iload 4, 2) := dk_21 4 (dk_at dksJ37_siftUpUsingComparator_0 12 rfl rfl)
theorem dJ37_siftUpUsingComparator_14 : decode cJ37_siftUpUsingComparator 14 = .ok (.aaload, 1) := dk_50 (dk_at dksJ37_siftUpUsingComparator_0 14 rfl rfl)
theorem dJ37_siftUpUsingComparator_15 : decode cJ37_siftUpUsingComparator 15 = .ok (.astore 5, 2) := dk_58 5 (dk_at dksJ37_siftUpUsingComparator_0 15 rfl rfl)
theorem dJ37_siftUpUsingComparator_17 : decode cJ37_siftUpUsingComparator 17 = .ok (.aload_n 3, 1) := dk_45 (dk_at dksJ37_siftUpUsingComparator_0 17 rfl rfl)
theorem dJ37_siftUpUsingComparator_18 : decode cJ37_siftUpUsingComparator 18 = .ok (.aload_n 1, 1) := dk_43 (dk_at dksJ37_siftUpUsingComparator_0 18 rfl rfl)
theorem dJ37_siftUpUsingComparator_19 : decode cJ37_siftUpUsingComparator 19 = .ok (.aload 5, 2) := dk_25 5 (dk_at dksJ37_siftUpUsingComparator_0 19 rfl rfl)
theorem dJ37_siftUpUsingComparator_21 : decode cJ37_siftUpUsingComparator 21 = .ok (.invokeinterface 149 3, 5) := by decide +kernel
theorem dJ37_siftUpUsingComparator_26 : decode cJ37_siftUpUsingComparator 26 = .ok (.ifCond .lt 6, 3) := dk_155 0 6 (dk_at dksJ37_siftUpUsingComparator_1 5 rfl rfl)
theorem dJ37_siftUpUsingComparator_29 : decode cJ37_siftUpUsingComparator 29 = .ok (.goto 14, 3) := dk_167 0 14 (dk_at dksJ37_siftUpUsingComparator_1 8 rfl rfl)
theorem dJ37_siftUpUsingComparator_32 : decode cJ37_siftUpUsingComparator 32 = .ok (.aload_n 2, 1) := dk_44 (dk_at dksJ37_siftUpUsingComparator_1 11 rfl rfl)
theorem dJ37_siftUpUsingComparator_33 : decode cJ37_siftUpUsingComparator 33 = .ok (.iload_n 0, 1) := dk_26 (dk_at dksJ37_siftUpUsingComparator_1 12 rfl rfl)
theorem dJ37_siftUpUsingComparator_34 : decode cJ37_siftUpUsingComparator 34 = .ok (.aload 5, 2) := dk_25 5 (dk_at dksJ37_siftUpUsingComparator_1 13 rfl rfl)
theorem dJ37_siftUpUsingComparator_36 : decode cJ37_siftUpUsingComparator 36 = .ok (.aastore, 1) := dk_83 (dk_at dksJ37_siftUpUsingComparator_1 15 rfl rfl)
theorem dJ37_siftUpUsingComparator_37 : decode cJ37_siftUpUsingComparator 37 = .ok (.iload 4, 2) := dk_21 4 (dk_at dksJ37_siftUpUsingComparator_1 16 rfl rfl)
theorem dJ37_siftUpUsingComparator_39 : decode cJ37_siftUpUsingComparator 39 = .ok (.istore_n 0, 1) := dk_59 (dk_at dksJ37_siftUpUsingComparator_1 18 rfl rfl)
theorem dJ37_siftUpUsingComparator_40 : decode cJ37_siftUpUsingComparator 40 = .ok (.goto (-40), 3) := dk_167 255 216 (dk_at dksJ37_siftUpUsingComparator_1 19 rfl rfl)
theorem dJ37_siftUpUsingComparator_43 : decode cJ37_siftUpUsingComparator 43 = .ok (.aload_n 2, 1) := dk_44 (dk_at dksJ37_siftUpUsingComparator_1 22 rfl rfl)
theorem dJ37_siftUpUsingComparator_44 : decode cJ37_siftUpUsingComparator 44 = .ok (.iload_n 0, 1) := dk_26 (dk_at dksJ37_siftUpUsingComparator_1 23 rfl rfl)
theorem dJ37_siftUpUsingComparator_45 : decode cJ37_siftUpUsingComparator 45 = .ok (.aload_n 1, 1) := dk_43 (dk_at dksJ37_siftUpUsingComparator_2 0 rfl rfl)
theorem dJ37_siftUpUsingComparator_46 : decode cJ37_siftUpUsingComparator 46 = .ok (.aastore, 1) := dk_83 (dk_at dksJ37_siftUpUsingComparator_2 1 rfl rfl)
theorem dJ37_siftUpUsingComparator_47 : decode cJ37_siftUpUsingComparator 47 = .ok (.return_, 1) := dk_177 (dk_at dksJ37_siftUpUsingComparator_2 2 rfl rfl)
abbrev cJ37_siftUpComparable : ByteArray := prog_96_method_28_code
def yJ37_siftUpComparable : MethodName := ⟨RJ37, "siftUpComparable", "(ILjava/lang/Object;[Ljava/lang/Object;)V"⟩
def dkwJ37_siftUpComparable_2 : List UInt8 := [44, 26, 45, 83, 177]
abbrev dktJ37_siftUpComparable_2 : List UInt8 := dkwJ37_siftUpComparable_2 ++ []
def dkwJ37_siftUpComparable_1 : List UInt8 := [25, 5, 185, 0, 146, 2, 0, 155, 0, 6, 167, 0, 14, 44, 26, 25, 5, 83, 21, 4, 59, 167, 255, 217]
abbrev dktJ37_siftUpComparable_1 : List UInt8 := dkwJ37_siftUpComparable_1 ++ dktJ37_siftUpComparable_2
def dkwJ37_siftUpComparable_0 : List UInt8 := [43, 192, 0, 144, 78, 26, 158, 0, 41, 26, 4, 100, 4, 124, 54, 4, 44, 21, 4, 50, 58, 5, 45]
abbrev dktJ37_siftUpComparable_0 : List UInt8 := dkwJ37_siftUpComparable_0 ++ dktJ37_siftUpComparable_1
theorem dksJ37_siftUpComparable_0 : cJ37_siftUpComparable.data.toList.drop 0 = dktJ37_siftUpComparable_0 := by decide +kernel
theorem dksJ37_siftUpComparable_1 : cJ37_siftUpComparable.data.toList.drop 23 = dktJ37_siftUpComparable_1 := dk_seg dksJ37_siftUpComparable_0 23 rfl rfl
theorem dksJ37_siftUpComparable_2 : cJ37_siftUpComparable.data.toList.drop 47 = dktJ37_siftUpComparable_2 := dk_seg dksJ37_siftUpComparable_1 24 rfl rfl
theorem dJ37_siftUpComparable_0 : decode cJ37_siftUpComparable 0 = .ok (.aload_n 1, 1) := dk_43 (dk_at dksJ37_siftUpComparable_0 0 rfl rfl)
theorem dJ37_siftUpComparable_1 : decode cJ37_siftUpComparable 1 = .ok (.checkcast 144, 3) := dk_192 0 144 (dk_at dksJ37_siftUpComparable_0 1 rfl rfl)
theorem dJ37_siftUpComparable_4 : decode cJ37_siftUpComparable 4 = .ok (.astore_n 3, 1) := dk_78 (dk_at dksJ37_siftUpComparable_0 4 rfl rfl)
theorem dJ37_siftUpComparable_5 : decode cJ37_siftUpComparable 5 = .ok (.iload_n 0, 1) := dk_26 (dk_at dksJ37_siftUpComparable_0 5 rfl rfl)
theorem dJ37_siftUpComparable_6 : decode cJ37_siftUpComparable 6 = .ok (.ifCond .le 41, 3) := dk_158 0 41 (dk_at dksJ37_siftUpComparable_0 6 rfl rfl)
theorem dJ37_siftUpComparable_9 : decode cJ37_siftUpComparable 9 = .ok (.iload_n 0, 1) := dk_26 (dk_at dksJ37_siftUpComparable_0 9 rfl rfl)
theorem dJ37_siftUpComparable_10 : decode cJ37_siftUpComparable 10 = .ok (.iconst 1, 1) := dk_4 (dk_at dksJ37_siftUpComparable_0 10 rfl rfl)
theorem dJ37_siftUpComparable_11 : decode cJ37_siftUpComparable 11 = .ok (.isub, 1) := dk_100 (dk_at dksJ37_siftUpComparable_0 11 rfl rfl)
theorem dJ37_siftUpComparable_12 : decode cJ37_siftUpComparable 12 = .ok (.iconst 1, 1) := dk_4 (dk_at dksJ37_siftUpComparable_0 12 rfl rfl)
theorem dJ37_siftUpComparable_13 : decode cJ37_siftUpComparable 13 = .ok (.iushr, 1) := dk_124 (dk_at dksJ37_siftUpComparable_0 13 rfl rfl)
theorem dJ37_siftUpComparable_14 : decode cJ37_siftUpComparable 14 = .ok (.istore 4, 2) := dk_54 4 (dk_at dksJ37_siftUpComparable_0 14 rfl rfl)
theorem dJ37_siftUpComparable_16 : decode cJ37_siftUpComparable 16 = .ok (.aload_n 2, 1) := dk_44 (dk_at dksJ37_siftUpComparable_0 16 rfl rfl)
theorem dJ37_siftUpComparable_17 : decode cJ37_siftUpComparable 17 = .ok (.iload 4, 2) := dk_21 4 (dk_at dksJ37_siftUpComparable_0 17 rfl rfl)
theorem dJ37_siftUpComparable_19 : decode cJ37_siftUpComparable 19 = .ok (.aaload, 1) := dk_50 (dk_at dksJ37_siftUpComparable_0 19 rfl rfl)
theorem dJ37_siftUpComparable_20 : decode cJ37_siftUpComparable 20 = .ok (.astore 5, 2) := dk_58 5 (dk_at dksJ37_siftUpComparable_0 20 rfl rfl)
theorem dJ37_siftUpComparable_22 : decode cJ37_siftUpComparable 22 = .ok (.aload_n 3, 1) := dk_45 (dk_at dksJ37_siftUpComparable_0 22 rfl rfl)
theorem dJ37_siftUpComparable_23 : decode cJ37_siftUpComparable 23 = .ok (.aload 5, 2) := dk_25 5 (dk_at dksJ37_siftUpComparable_1 0 rfl rfl)
theorem dJ37_siftUpComparable_25 : decode cJ37_siftUpComparable 25 = .ok (.invokeinterface 146 2, 5) := by decide +kernel
theorem dJ37_siftUpComparable_30 : decode cJ37_siftUpComparable 30 = .ok (.ifCond .lt 6, 3) := dk_155 0 6 (dk_at dksJ37_siftUpComparable_1 7 rfl rfl)
theorem dJ37_siftUpComparable_33 : decode cJ37_siftUpComparable 33 = .ok (.goto 14, 3) := dk_167 0 14 (dk_at dksJ37_siftUpComparable_1 10 rfl rfl)
theorem dJ37_siftUpComparable_36 : decode cJ37_siftUpComparable 36 = .ok (.aload_n 2, 1) := dk_44 (dk_at dksJ37_siftUpComparable_1 13 rfl rfl)
theorem dJ37_siftUpComparable_37 : decode cJ37_siftUpComparable 37 = .ok (.iload_n 0, 1) := dk_26 (dk_at dksJ37_siftUpComparable_1 14 rfl rfl)
theorem dJ37_siftUpComparable_38 : decode cJ37_siftUpComparable 38 = .ok (.aload 5, 2) := dk_25 5 (dk_at dksJ37_siftUpComparable_1 15 rfl rfl)
theorem dJ37_siftUpComparable_40 : decode cJ37_siftUpComparable 40 = .ok (.aastore, 1) := dk_83 (dk_at dksJ37_siftUpComparable_1 17 rfl rfl)
theorem dJ37_siftUpComparable_41 : decode cJ37_siftUpComparable 41 = .ok (.iload 4, 2) := dk_21 4 (dk_at dksJ37_siftUpComparable_1 18 rfl rfl)
theorem dJ37_siftUpComparable_43 : decode cJ37_siftUpComparable 43 = .ok (.istore_n 0, 1) := dk_59 (dk_at dksJ37_siftUpComparable_1 20 rfl rfl)
theorem dJ37_siftUpComparable_44 : decode cJ37_siftUpComparable 44 = .ok (.goto (-39), 3) := dk_167 255 217 (dk_at dksJ37_siftUpComparable_1 21 rfl rfl)
theorem dJ37_siftUpComparable_47 : decode cJ37_siftUpComparable 47 = .ok (.aload_n 2, 1) := dk_44 (dk_at dksJ37_siftUpComparable_2 0 rfl rfl)
theorem dJ37_siftUpComparable_48 : decode cJ37_siftUpComparable 48 = .ok (.iload_n 0, 1) := dk_26 (dk_at dksJ37_siftUpComparable_2 1 rfl rfl)
theorem dJ37_siftUpComparable_49 : decode cJ37_siftUpComparable 49 = .ok (.aload_n 3, 1) := dk_45 (dk_at dksJ37_siftUpComparable_2 2 rfl rfl)
theorem dJ37_siftUpComparable_50 : decode cJ37_siftUpComparable 50 = .ok (.aastore, 1) := dk_83 (dk_at dksJ37_siftUpComparable_2 3 rfl rfl)
theorem dJ37_siftUpComparable_51 : decode cJ37_siftUpComparable 51 = .ok (.return_, 1) := dk_177 (dk_at dksJ37_siftUpComparable_2 4 rfl rfl)
abbrev cJ37_removeEq : ByteArray := prog_96_method_18_code
def yJ37_removeEq : MethodName := ⟨RJ37, "removeEq", "(Ljava/lang/Object;)V"⟩
def dkwJ37_removeEq_1 : List UInt8 := [166, 0, 12, 42, 29, 182, 0, 111, 87, 167, 0, 9, 132, 3, 1, 167, 255, 231, 177]
abbrev dktJ37_removeEq_1 : List UInt8 := dkwJ37_removeEq_1 ++ []
def dkwJ37_removeEq_0 : List UInt8 := [42, 180, 0, 17, 77, 3, 62, 42, 180, 0, 58, 54, 4, 29, 21, 4, 162, 0, 25, 43, 44, 29, 50]
abbrev dktJ37_removeEq_0 : List UInt8 := dkwJ37_removeEq_0 ++ dktJ37_removeEq_1
theorem dksJ37_removeEq_0 : cJ37_removeEq.data.toList.drop 0 = dktJ37_removeEq_0 := by decide +kernel
theorem dksJ37_removeEq_1 : cJ37_removeEq.data.toList.drop 23 = dktJ37_removeEq_1 := dk_seg dksJ37_removeEq_0 23 rfl rfl
theorem dJ37_removeEq_0 : decode cJ37_removeEq 0 = .ok (.aload_n 0, 1) := dk_42 (dk_at dksJ37_removeEq_0 0 rfl rfl)
theorem dJ37_removeEq_1 : decode cJ37_removeEq 1 = .ok (.getfield 17, 3) := dk_180 0 17 (dk_at dksJ37_removeEq_0 1 rfl rfl)
theorem dJ37_removeEq_4 : decode cJ37_removeEq 4 = .ok (.astore_n 2, 1) := dk_77 (dk_at dksJ37_removeEq_0 4 rfl rfl)
theorem dJ37_removeEq_5 : decode cJ37_removeEq 5 = .ok (.iconst 0, 1) := dk_3 (dk_at dksJ37_removeEq_0 5 rfl rfl)
theorem dJ37_removeEq_6 : decode cJ37_removeEq 6 = .ok (.istore_n 3, 1) := dk_62 (dk_at dksJ37_removeEq_0 6 rfl rfl)
theorem dJ37_removeEq_7 : decode cJ37_removeEq 7 = .ok (.aload_n 0, 1) := dk_42 (dk_at dksJ37_removeEq_0 7 rfl rfl)
theorem dJ37_removeEq_8 : decode cJ37_removeEq 8 = .ok (.getfield 58, 3) := dk_180 0 58 (dk_at dksJ37_removeEq_0 8 rfl rfl)
theorem dJ37_removeEq_11 : decode cJ37_removeEq 11 = .ok (.istore 4, 2) := dk_54 4 (dk_at dksJ37_removeEq_0 11 rfl rfl)
theorem dJ37_removeEq_13 : decode cJ37_removeEq 13 = .ok (.iload_n 3, 1) := dk_29 (dk_at dksJ37_removeEq_0 13 rfl rfl)
theorem dJ37_removeEq_14 : decode cJ37_removeEq 14 = .ok (.iload 4, 2) := dk_21 4 (dk_at dksJ37_removeEq_0 14 rfl rfl)
theorem dJ37_removeEq_16 : decode cJ37_removeEq 16 = .ok (.if_icmp .ge 25, 3) := dk_162 0 25 (dk_at dksJ37_removeEq_0 16 rfl rfl)
theorem dJ37_removeEq_19 : decode cJ37_removeEq 19 = .ok (.aload_n 1, 1) := dk_43 (dk_at dksJ37_removeEq_0 19 rfl rfl)
theorem dJ37_removeEq_20 : decode cJ37_removeEq 20 = .ok (.aload_n 2, 1) := dk_44 (dk_at dksJ37_removeEq_0 20 rfl rfl)
theorem dJ37_removeEq_21 : decode cJ37_removeEq 21 = .ok (.iload_n 3, 1) := dk_29 (dk_at dksJ37_removeEq_0 21 rfl rfl)
theorem dJ37_removeEq_22 : decode cJ37_removeEq 22 = .ok (.aaload, 1) := dk_50 (dk_at dksJ37_removeEq_0 22 rfl rfl)
theorem dJ37_removeEq_23 : decode cJ37_removeEq 23 = .ok (.if_acmp .ne 12, 3) := dk_166 0 12 (dk_at dksJ37_removeEq_1 0 rfl rfl)
theorem dJ37_removeEq_26 : decode cJ37_removeEq 26 = .ok (.aload_n 0, 1) := dk_42 (dk_at dksJ37_removeEq_1 3 rfl rfl)
theorem dJ37_removeEq_27 : decode cJ37_removeEq 27 = .ok (.iload_n 3, 1) := dk_29 (dk_at dksJ37_removeEq_1 4 rfl rfl)
theorem dJ37_removeEq_28 : decode cJ37_removeEq 28 = .ok (.invokevirtual 111, 3) := dk_182 0 111 (dk_at dksJ37_removeEq_1 5 rfl rfl)
theorem dJ37_removeEq_31 : decode cJ37_removeEq 31 = .ok (.pop, 1) := dk_87 (dk_at dksJ37_removeEq_1 8 rfl rfl)
theorem dJ37_removeEq_32 : decode cJ37_removeEq 32 = .ok (.goto 9, 3) := dk_167 0 9 (dk_at dksJ37_removeEq_1 9 rfl rfl)
theorem dJ37_removeEq_35 : decode cJ37_removeEq 35 = .ok (.iinc 3 1, 3) := dk_132 3 1 (dk_at dksJ37_removeEq_1 12 rfl rfl)
theorem dJ37_removeEq_38 : decode cJ37_removeEq 38 = .ok (.goto (-25), 3) := dk_167 255 231 (dk_at dksJ37_removeEq_1 15 rfl rfl)
theorem dJ37_removeEq_41 : decode cJ37_removeEq 41 = .ok (.return_, 1) := dk_177 (dk_at dksJ37_removeEq_1 18 rfl rfl)
abbrev cJ37_iterator : ByteArray := prog_96_method_22_code
def yJ37_iterator : MethodName := ⟨RJ37, "iterator", "()Ljava/util/Iterator;"⟩
def dkwJ37_iterator_0 : List UInt8 := [187, 0, 121, 89, 42, 183, 0, 123, 176]
abbrev dktJ37_iterator_0 : List UInt8 := dkwJ37_iterator_0 ++ []
theorem dksJ37_iterator_0 : cJ37_iterator.data.toList.drop 0 = dktJ37_iterator_0 := by decide +kernel
theorem dJ37_iterator_0 : decode cJ37_iterator 0 = .ok (.new 121, 3) := dk_187 0 121 (dk_at dksJ37_iterator_0 0 rfl rfl)
theorem dJ37_iterator_3 : decode cJ37_iterator 3 = .ok (.dup, 1) := dk_89 (dk_at dksJ37_iterator_0 3 rfl rfl)
theorem dJ37_iterator_4 : decode cJ37_iterator 4 = .ok (.aload_n 0, 1) := dk_42 (dk_at dksJ37_iterator_0 4 rfl rfl)
theorem dJ37_iterator_5 : decode cJ37_iterator 5 = .ok (.invokespecial 123, 3) := dk_183 0 123 (dk_at dksJ37_iterator_0 5 rfl rfl)
theorem dJ37_iterator_8 : decode cJ37_iterator 8 = .ok (.areturn, 1) := dk_176 (dk_at dksJ37_iterator_0 8 rfl rfl)
abbrev cJ37_init : ByteArray := prog_96_method_3_code
def yJ37_init : MethodName := ⟨RJ37, "<init>", "(Ljava/util/Comparator;)V"⟩
def dkwJ37_init_0 : List UInt8 := [42, 16, 11, 43, 183, 0, 3, 177]
abbrev dktJ37_init_0 : List UInt8 := dkwJ37_init_0 ++ []
theorem dksJ37_init_0 : cJ37_init.data.toList.drop 0 = dktJ37_init_0 := by decide +kernel
theorem dJ37_init_0 : decode cJ37_init 0 = .ok (.aload_n 0, 1) := dk_42 (dk_at dksJ37_init_0 0 rfl rfl)
theorem dJ37_init_1 : decode cJ37_init 1 = .ok (.bipush 11, 2) := dk_16 11 (dk_at dksJ37_init_0 1 rfl rfl)
theorem dJ37_init_3 : decode cJ37_init 3 = .ok (.aload_n 1, 1) := dk_43 (dk_at dksJ37_init_0 3 rfl rfl)
theorem dJ37_init_4 : decode cJ37_init 4 = .ok (.invokespecial 3, 3) := dk_183 0 3 (dk_at dksJ37_init_0 4 rfl rfl)
theorem dJ37_init_7 : decode cJ37_init 7 = .ok (.return_, 1) := dk_177 (dk_at dksJ37_init_0 7 rfl rfl)
abbrev cJ37_init_2 : ByteArray := prog_96_method_4_code
def yJ37_init_2 : MethodName := ⟨RJ37, "<init>", "(ILjava/util/Comparator;)V"⟩
def dkwJ37_init_2_1 : List UInt8 := [181, 0, 17, 42, 44, 181, 0, 21, 177]
abbrev dktJ37_init_2_1 : List UInt8 := dkwJ37_init_2_1 ++ []
def dkwJ37_init_2_0 : List UInt8 := [42, 183, 0, 7, 27, 4, 162, 0, 11, 187, 0, 12, 89, 183, 0, 14, 191, 42, 27, 189, 0, 15]
abbrev dktJ37_init_2_0 : List UInt8 := dkwJ37_init_2_0 ++ dktJ37_init_2_1
theorem dksJ37_init_2_0 : cJ37_init_2.data.toList.drop 0 = dktJ37_init_2_0 := by decide +kernel
theorem dksJ37_init_2_1 : cJ37_init_2.data.toList.drop 22 = dktJ37_init_2_1 := dk_seg dksJ37_init_2_0 22 rfl rfl
theorem dJ37_init_2_0 : decode cJ37_init_2 0 = .ok (.aload_n 0, 1) := dk_42 (dk_at dksJ37_init_2_0 0 rfl rfl)
theorem dJ37_init_2_1 : decode cJ37_init_2 1 = .ok (.invokespecial 7, 3) := dk_183 0 7 (dk_at dksJ37_init_2_0 1 rfl rfl)
theorem dJ37_init_2_4 : decode cJ37_init_2 4 = .ok (.iload_n 1, 1) := dk_27 (dk_at dksJ37_init_2_0 4 rfl rfl)
theorem dJ37_init_2_5 : decode cJ37_init_2 5 = .ok (.iconst 1, 1) := dk_4 (dk_at dksJ37_init_2_0 5 rfl rfl)
theorem dJ37_init_2_6 : decode cJ37_init_2 6 = .ok (.if_icmp .ge 11, 3) := dk_162 0 11 (dk_at dksJ37_init_2_0 6 rfl rfl)
theorem dJ37_init_2_9 : decode cJ37_init_2 9 = .ok (.new 12, 3) := dk_187 0 12 (dk_at dksJ37_init_2_0 9 rfl rfl)
theorem dJ37_init_2_12 : decode cJ37_init_2 12 = .ok (.dup, 1) := dk_89 (dk_at dksJ37_init_2_0 12 rfl rfl)
theorem dJ37_init_2_13 : decode cJ37_init_2 13 = .ok (.invokespecial 14, 3) := dk_183 0 14 (dk_at dksJ37_init_2_0 13 rfl rfl)
theorem dJ37_init_2_16 : decode cJ37_init_2 16 = .ok (.athrow, 1) := dk_191 (dk_at dksJ37_init_2_0 16 rfl rfl)
theorem dJ37_init_2_17 : decode cJ37_init_2 17 = .ok (.aload_n 0, 1) := dk_42 (dk_at dksJ37_init_2_0 17 rfl rfl)
theorem dJ37_init_2_18 : decode cJ37_init_2 18 = .ok (.iload_n 1, 1) := dk_27 (dk_at dksJ37_init_2_0 18 rfl rfl)
theorem dJ37_init_2_19 : decode cJ37_init_2 19 = .ok (.anewarray 15, 3) := dk_189 0 15 (dk_at dksJ37_init_2_0 19 rfl rfl)
theorem dJ37_init_2_22 : decode cJ37_init_2 22 = .ok (.putfield 17, 3) := dk_181 0 17 (dk_at dksJ37_init_2_1 0 rfl rfl)
theorem dJ37_init_2_25 : decode cJ37_init_2 25 = .ok (.aload_n 0, 1) := dk_42 (dk_at dksJ37_init_2_1 3 rfl rfl)
theorem dJ37_init_2_26 : decode cJ37_init_2 26 = .ok (.aload_n 2, 1) := dk_44 (dk_at dksJ37_init_2_1 4 rfl rfl)
theorem dJ37_init_2_27 : decode cJ37_init_2 27 = .ok (.putfield 21, 3) := dk_181 0 21 (dk_at dksJ37_init_2_1 5 rfl rfl)
theorem dJ37_init_2_30 : decode cJ37_init_2 30 = .ok (.return_, 1) := dk_177 (dk_at dksJ37_init_2_1 8 rfl rfl)
abbrev cJ37_add : ByteArray := prog_96_method_13_code
def yJ37_add : MethodName := ⟨RJ37, "add", "(Ljava/lang/Object;)Z"⟩
def dkwJ37_add_0 : List UInt8 := [42, 43, 182, 0, 89, 172]
abbrev dktJ37_add_0 : List UInt8 := dkwJ37_add_0 ++ []
theorem dksJ37_add_0 : cJ37_add.data.toList.drop 0 = dktJ37_add_0 := by decide +kernel
theorem dJ37_add_0 : decode cJ37_add 0 = .ok (.aload_n 0, 1) := dk_42 (dk_at dksJ37_add_0 0 rfl rfl)
theorem dJ37_add_1 : decode cJ37_add 1 = .ok (.aload_n 1, 1) := dk_43 (dk_at dksJ37_add_0 1 rfl rfl)
theorem dJ37_add_2 : decode cJ37_add 2 = .ok (.invokevirtual 89, 3) := dk_182 0 89 (dk_at dksJ37_add_0 2 rfl rfl)
theorem dJ37_add_5 : decode cJ37_add 5 = .ok (.ireturn, 1) := dk_172 (dk_at dksJ37_add_0 5 rfl rfl)
abbrev cJ37_offer : ByteArray := prog_96_method_14_code
def yJ37_offer : MethodName := ⟨RJ37, "offer", "(Ljava/lang/Object;)Z"⟩
def dkwJ37_offer_2 : List UInt8 := [182, 0, 100, 42, 28, 4, 96, 181, 0, 58, 4, 172]
abbrev dktJ37_offer_2 : List UInt8 := dkwJ37_offer_2 ++ []
def dkwJ37_offer_1 : List UInt8 := [180, 0, 58, 61, 28, 42, 180, 0, 17, 190, 161, 0, 10, 42, 28, 4, 96, 182, 0, 96, 42, 28, 43]
abbrev dktJ37_offer_1 : List UInt8 := dkwJ37_offer_1 ++ dktJ37_offer_2
def dkwJ37_offer_0 : List UInt8 := [43, 199, 0, 11, 187, 0, 74, 89, 183, 0, 76, 191, 42, 89, 180, 0, 93, 4, 96, 181, 0, 93, 42]
abbrev dktJ37_offer_0 : List UInt8 := dkwJ37_offer_0 ++ dktJ37_offer_1
theorem dksJ37_offer_0 : cJ37_offer.data.toList.drop 0 = dktJ37_offer_0 := by decide +kernel
theorem dksJ37_offer_1 : cJ37_offer.data.toList.drop 23 = dktJ37_offer_1 := dk_seg dksJ37_offer_0 23 rfl rfl
theorem dksJ37_offer_2 : cJ37_offer.data.toList.drop 46 = dktJ37_offer_2 := dk_seg dksJ37_offer_1 23 rfl rfl
theorem dJ37_offer_0 : decode cJ37_offer 0 = .ok (.aload_n 1, 1) := dk_43 (dk_at dksJ37_offer_0 0 rfl rfl)
theorem dJ37_offer_1 : decode cJ37_offer 1 = .ok (.ifnonnull 11, 3) := dk_199 0 11 (dk_at dksJ37_offer_0 1 rfl rfl)
theorem dJ37_offer_4 : decode cJ37_offer 4 = .ok (.new 74, 3) := dk_187 0 74 (dk_at dksJ37_offer_0 4 rfl rfl)
theorem dJ37_offer_7 : decode cJ37_offer 7 = .ok (.dup, 1) := dk_89 (dk_at dksJ37_offer_0 7 rfl rfl)
theorem dJ37_offer_8 : decode cJ37_offer 8 = .ok (.invokespecial 76, 3) := dk_183 0 76 (dk_at dksJ37_offer_0 8 rfl rfl)
theorem dJ37_offer_11 : decode cJ37_offer 11 = .ok (.athrow, 1) := dk_191 (dk_at dksJ37_offer_0 11 rfl rfl)
theorem dJ37_offer_12 : decode cJ37_offer 12 = .ok (.aload_n 0, 1) := dk_42 (dk_at dksJ37_offer_0 12 rfl rfl)
theorem dJ37_offer_13 : decode cJ37_offer 13 = .ok (.dup, 1) := dk_89 (dk_at dksJ37_offer_0 13 rfl rfl)
theorem dJ37_offer_14 : decode cJ37_offer 14 = .ok (.getfield 93, 3) := dk_180 0 93 (dk_at dksJ37_offer_0 14 rfl rfl)
theorem dJ37_offer_17 : decode cJ37_offer 17 = .ok (.iconst 1, 1) := dk_4 (dk_at dksJ37_offer_0 17 rfl rfl)
theorem dJ37_offer_18 : decode cJ37_offer 18 = .ok (.iadd, 1) := dk_96 (dk_at dksJ37_offer_0 18 rfl rfl)
theorem dJ37_offer_19 : decode cJ37_offer 19 = .ok (.putfield 93, 3) := dk_181 0 93 (dk_at dksJ37_offer_0 19 rfl rfl)
theorem dJ37_offer_22 : decode cJ37_offer 22 = .ok (.aload_n 0, 1) := dk_42 (dk_at dksJ37_offer_0 22 rfl rfl)
theorem dJ37_offer_23 : decode cJ37_offer 23 = .ok (.getfield 58, 3) := dk_180 0 58 (dk_at dksJ37_offer_1 0 rfl rfl)
theorem dJ37_offer_26 : decode cJ37_offer 26 = .ok (.istore_n 2, 1) := dk_61 (dk_at dksJ37_offer_1 3 rfl rfl)
theorem dJ37_offer_27 : decode cJ37_offer 27 = .ok (.iload_n 2, 1) := dk_28 (dk_at dksJ37_offer_1 4 rfl rfl)
theorem dJ37_offer_28 : decode cJ37_offer 28 = .ok (.aload_n 0, 1) := dk_42 (dk_at dksJ37_offer_1 5 rfl rfl)
theorem dJ37_offer_29 : decode cJ37_offer 29 = .ok (.getfield 17, 3) := dk_180 0 17 (dk_at dksJ37_offer_1 6 rfl rfl)
theorem dJ37_offer_32 : decode cJ37_offer 32 = .ok (.arraylength, 1) := dk_190 (dk_at dksJ37_offer_1 9 rfl rfl)
theorem dJ37_offer_33 : decode cJ37_offer 33 = .ok (.if_icmp .lt 10, 3) := dk_161 0 10 (dk_at dksJ37_offer_1 10 rfl rfl)
theorem dJ37_offer_36 : decode cJ37_offer 36 = .ok (.aload_n 0, 1) := dk_42 (dk_at dksJ37_offer_1 13 rfl rfl)
theorem dJ37_offer_37 : decode cJ37_offer 37 = .ok (.iload_n 2, 1) := dk_28 (dk_at dksJ37_offer_1 14 rfl rfl)
theorem dJ37_offer_38 : decode cJ37_offer 38 = .ok (.iconst 1, 1) := dk_4 (dk_at dksJ37_offer_1 15 rfl rfl)
theorem dJ37_offer_39 : decode cJ37_offer 39 = .ok (.iadd, 1) := dk_96 (dk_at dksJ37_offer_1 16 rfl rfl)
theorem dJ37_offer_40 : decode cJ37_offer 40 = .ok (.invokevirtual 96, 3) := dk_182 0 96 (dk_at dksJ37_offer_1 17 rfl rfl)
theorem dJ37_offer_43 : decode cJ37_offer 43 = .ok (.aload_n 0, 1) := dk_42 (dk_at dksJ37_offer_1 20 rfl rfl)
theorem dJ37_offer_44 : decode cJ37_offer 44 = .ok (.iload_n 2, 1) := dk_28 (dk_at dksJ37_offer_1 21 rfl rfl)
theorem dJ37_offer_45 : decode cJ37_offer 45 = .ok (.aload_n 1, 1) := dk_43 (dk_at dksJ37_offer_1 22 rfl rfl)
theorem dJ37_offer_46 : decode cJ37_offer 46 = .ok (.invokevirtual 100, 3) := dk_182 0 100 (dk_at dksJ37_offer_2 0 rfl rfl)
theorem dJ37_offer_49 : decode cJ37_offer 49 = .ok (.aload_n 0, 1) := dk_42 (dk_at dksJ37_offer_2 3 rfl rfl)
theorem dJ37_offer_50 : decode cJ37_offer 50 = .ok (.iload_n 2, 1) := dk_28 (dk_at dksJ37_offer_2 4 rfl rfl)
theorem dJ37_offer_51 : decode cJ37_offer 51 = .ok (.iconst 1, 1) := dk_4 (dk_at dksJ37_offer_2 5 rfl rfl)
theorem dJ37_offer_52 : decode cJ37_offer 52 = .ok (.iadd, 1) := dk_96 (dk_at dksJ37_offer_2 6 rfl rfl)
theorem dJ37_offer_53 : decode cJ37_offer 53 = .ok (.putfield 58, 3) := dk_181 0 58 (dk_at dksJ37_offer_2 7 rfl rfl)
theorem dJ37_offer_56 : decode cJ37_offer 56 = .ok (.iconst 1, 1) := dk_4 (dk_at dksJ37_offer_2 10 rfl rfl)
theorem dJ37_offer_57 : decode cJ37_offer 57 = .ok (.ireturn, 1) := dk_172 (dk_at dksJ37_offer_2 11 rfl rfl)
abbrev cJ37_grow : ByteArray := prog_96_method_12_code
def yJ37_grow : MethodName := ⟨RJ37, "grow", "(I)V"⟩
def dkwJ37_grow_1 : List UInt8 := [122, 184, 0, 80, 62, 42, 42, 180, 0, 17, 29, 184, 0, 86, 181, 0, 17, 177]
abbrev dktJ37_grow_1 : List UInt8 := dkwJ37_grow_1 ++ []
def dkwJ37_grow_0 : List UInt8 := [42, 180, 0, 17, 190, 61, 28, 27, 28, 100, 28, 16, 64, 162, 0, 9, 28, 5, 96, 167, 0, 6, 28, 4]
abbrev dktJ37_grow_0 : List UInt8 := dkwJ37_grow_0 ++ dktJ37_grow_1
theorem dksJ37_grow_0 : cJ37_grow.data.toList.drop 0 = dktJ37_grow_0 := by decide +kernel
theorem dksJ37_grow_1 : cJ37_grow.data.toList.drop 24 = dktJ37_grow_1 := dk_seg dksJ37_grow_0 24 rfl rfl
theorem dJ37_grow_0 : decode cJ37_grow 0 = .ok (.aload_n 0, 1) := dk_42 (dk_at dksJ37_grow_0 0 rfl rfl)
theorem dJ37_grow_1 : decode cJ37_grow 1 = .ok (.getfield 17, 3) := dk_180 0 17 (dk_at dksJ37_grow_0 1 rfl rfl)
theorem dJ37_grow_4 : decode cJ37_grow 4 = .ok (.arraylength, 1) := dk_190 (dk_at dksJ37_grow_0 4 rfl rfl)
theorem dJ37_grow_5 : decode cJ37_grow 5 = .ok (.istore_n 2, 1) := dk_61 (dk_at dksJ37_grow_0 5 rfl rfl)
theorem dJ37_grow_6 : decode cJ37_grow 6 = .ok (.iload_n 2, 1) := dk_28 (dk_at dksJ37_grow_0 6 rfl rfl)
theorem dJ37_grow_7 : decode cJ37_grow 7 = .ok (.iload_n 1, 1) := dk_27 (dk_at dksJ37_grow_0 7 rfl rfl)
theorem dJ37_grow_8 : decode cJ37_grow 8 = .ok (.iload_n 2, 1) := dk_28 (dk_at dksJ37_grow_0 8 rfl rfl)
theorem dJ37_grow_9 : decode cJ37_grow 9 = .ok (.isub, 1) := dk_100 (dk_at dksJ37_grow_0 9 rfl rfl)
theorem dJ37_grow_10 : decode cJ37_grow 10 = .ok (.iload_n 2, 1) := dk_28 (dk_at dksJ37_grow_0 10 rfl rfl)
theorem dJ37_grow_11 : decode cJ37_grow 11 = .ok (.bipush 64, 2) := dk_16 64 (dk_at dksJ37_grow_0 11 rfl rfl)
theorem dJ37_grow_13 : decode cJ37_grow 13 = .ok (.if_icmp .ge 9, 3) := dk_162 0 9 (dk_at dksJ37_grow_0 13 rfl rfl)
theorem dJ37_grow_16 : decode cJ37_grow 16 = .ok (.iload_n 2, 1) := dk_28 (dk_at dksJ37_grow_0 16 rfl rfl)
theorem dJ37_grow_17 : decode cJ37_grow 17 = .ok (.iconst 2, 1) := dk_5 (dk_at dksJ37_grow_0 17 rfl rfl)
theorem dJ37_grow_18 : decode cJ37_grow 18 = .ok (.iadd, 1) := dk_96 (dk_at dksJ37_grow_0 18 rfl rfl)
theorem dJ37_grow_19 : decode cJ37_grow 19 = .ok (.goto 6, 3) := dk_167 0 6 (dk_at dksJ37_grow_0 19 rfl rfl)
theorem dJ37_grow_22 : decode cJ37_grow 22 = .ok (.iload_n 2, 1) := dk_28 (dk_at dksJ37_grow_0 22 rfl rfl)
theorem dJ37_grow_23 : decode cJ37_grow 23 = .ok (.iconst 1, 1) := dk_4 (dk_at dksJ37_grow_0 23 rfl rfl)
theorem dJ37_grow_24 : decode cJ37_grow 24 = .ok (.ishr, 1) := dk_122 (dk_at dksJ37_grow_1 0 rfl rfl)
theorem dJ37_grow_25 : decode cJ37_grow 25 = .ok (.invokestatic 80, 3) := dk_184 0 80 (dk_at dksJ37_grow_1 1 rfl rfl)
theorem dJ37_grow_28 : decode cJ37_grow 28 = .ok (.istore_n 3, 1) := dk_62 (dk_at dksJ37_grow_1 4 rfl rfl)
theorem dJ37_grow_29 : decode cJ37_grow 29 = .ok (.aload_n 0, 1) := dk_42 (dk_at dksJ37_grow_1 5 rfl rfl)
theorem dJ37_grow_30 : decode cJ37_grow 30 = .ok (.aload_n 0, 1) := dk_42 (dk_at dksJ37_grow_1 6 rfl rfl)
theorem dJ37_grow_31 : decode cJ37_grow 31 = .ok (.getfield 17, 3) := dk_180 0 17 (dk_at dksJ37_grow_1 7 rfl rfl)
theorem dJ37_grow_34 : decode cJ37_grow 34 = .ok (.iload_n 3, 1) := dk_29 (dk_at dksJ37_grow_1 10 rfl rfl)
theorem dJ37_grow_35 : decode cJ37_grow 35 = .ok (.invokestatic 86, 3) := dk_184 0 86 (dk_at dksJ37_grow_1 11 rfl rfl)
theorem dJ37_grow_38 : decode cJ37_grow 38 = .ok (.putfield 17, 3) := dk_181 0 17 (dk_at dksJ37_grow_1 14 rfl rfl)
theorem dJ37_grow_41 : decode cJ37_grow 41 = .ok (.return_, 1) := dk_177 (dk_at dksJ37_grow_1 17 rfl rfl)
abbrev cJ37_poll : ByteArray := prog_96_method_25_code
def yJ37_poll : MethodName := ⟨RJ37, "poll", "()Ljava/lang/Object;"⟩
def dkwJ37_poll_3 : List UInt8 := [43, 29, 25, 5, 184, 0, 129, 44, 176]
abbrev dktJ37_poll_3 : List UInt8 := dkwJ37_poll_3 ++ []
def dkwJ37_poll_2 : List UInt8 := [42, 180, 0, 21, 89, 58, 5, 199, 0, 14, 3, 25, 4, 43, 29, 184, 0, 125, 167, 0, 13, 3, 25, 4]
abbrev dktJ37_poll_2 : List UInt8 := dkwJ37_poll_2 ++ dktJ37_poll_3
def dkwJ37_poll_1 : List UInt8 := [42, 89, 180, 0, 58, 4, 100, 90, 181, 0, 58, 89, 62, 50, 58, 4, 43, 29, 1, 83, 29, 158, 0, 34]
abbrev dktJ37_poll_1 : List UInt8 := dkwJ37_poll_1 ++ dktJ37_poll_2
def dkwJ37_poll_0 : List UInt8 := [42, 180, 0, 17, 89, 76, 3, 50, 89, 77, 198, 0, 69, 42, 89, 180, 0, 93, 4, 96, 181, 0, 93, 43]
abbrev dktJ37_poll_0 : List UInt8 := dkwJ37_poll_0 ++ dktJ37_poll_1
theorem dksJ37_poll_0 : cJ37_poll.data.toList.drop 0 = dktJ37_poll_0 := by decide +kernel
theorem dksJ37_poll_1 : cJ37_poll.data.toList.drop 24 = dktJ37_poll_1 := dk_seg dksJ37_poll_0 24 rfl rfl
theorem dksJ37_poll_2 : cJ37_poll.data.toList.drop 48 = dktJ37_poll_2 := dk_seg dksJ37_poll_1 24 rfl rfl
theorem dksJ37_poll_3 : cJ37_poll.data.toList.drop 72 = dktJ37_poll_3 := dk_seg dksJ37_poll_2 24 rfl rfl
theorem dJ37_poll_0 : decode cJ37_poll 0 = .ok (.aload_n 0, 1) := dk_42 (dk_at dksJ37_poll_0 0 rfl rfl)
theorem dJ37_poll_1 : decode cJ37_poll 1 = .ok (.getfield 17, 3) := dk_180 0 17 (dk_at dksJ37_poll_0 1 rfl rfl)
theorem dJ37_poll_4 : decode cJ37_poll 4 = .ok (.dup, 1) := dk_89 (dk_at dksJ37_poll_0 4 rfl rfl)
theorem dJ37_poll_5 : decode cJ37_poll 5 = .ok (.astore_n 1, 1) := dk_76 (dk_at dksJ37_poll_0 5 rfl rfl)
theorem dJ37_poll_6 : decode cJ37_poll 6 = .ok (.iconst 0, 1) := dk_3 (dk_at dksJ37_poll_0 6 rfl rfl)
theorem dJ37_poll_7 : decode cJ37_poll 7 = .ok (.aaload, 1) := dk_50 (dk_at dksJ37_poll_0 7 rfl rfl)
theorem dJ37_poll_8 : decode cJ37_poll 8 = .ok (.dup, 1) := dk_89 (dk_at dksJ37_poll_0 8 rfl rfl)
theorem dJ37_poll_9 : decode cJ37_poll 9 = .ok (.astore_n 2, 1) := dk_77 (dk_at dksJ37_poll_0 9 rfl rfl)
theorem dJ37_poll_10 : decode cJ37_poll 10 = .ok (.ifnull 69, 3) := dk_198 0 69 (dk_at dksJ37_poll_0 10 rfl rfl)
theorem dJ37_poll_13 : decode cJ37_poll 13 = .ok (.aload_n 0, 1) := dk_42 (dk_at dksJ37_poll_0 13 rfl rfl)
theorem dJ37_poll_14 : decode cJ37_poll 14 = .ok (.dup, 1) := dk_89 (dk_at dksJ37_poll_0 14 rfl rfl)
theorem dJ37_poll_15 : decode cJ37_poll 15 = .ok (.getfield 93, 3) := dk_180 0 93 (dk_at dksJ37_poll_0 15 rfl rfl)
theorem dJ37_poll_18 : decode cJ37_poll 18 = .ok (.iconst 1, 1) := dk_4 (dk_at dksJ37_poll_0 18 rfl rfl)
theorem dJ37_poll_19 : decode cJ37_poll 19 = .ok (.iadd, 1) := dk_96 (dk_at dksJ37_poll_0 19 rfl rfl)
theorem dJ37_poll_20 : decode cJ37_poll 20 = .ok (.putfield 93, 3) := dk_181 0 93 (dk_at dksJ37_poll_0 20 rfl rfl)
theorem dJ37_poll_23 : decode cJ37_poll 23 = .ok (.aload_n 1, 1) := dk_43 (dk_at dksJ37_poll_0 23 rfl rfl)
theorem dJ37_poll_24 : decode cJ37_poll 24 = .ok (.aload_n 0, 1) := dk_42 (dk_at dksJ37_poll_1 0 rfl rfl)
theorem dJ37_poll_25 : decode cJ37_poll 25 = .ok (.dup, 1) := dk_89 (dk_at dksJ37_poll_1 1 rfl rfl)
theorem dJ37_poll_26 : decode cJ37_poll 26 = .ok (.getfield 58, 3) := dk_180 0 58 (dk_at dksJ37_poll_1 2 rfl rfl)
theorem dJ37_poll_29 : decode cJ37_poll 29 = .ok (.iconst 1, 1) := dk_4 (dk_at dksJ37_poll_1 5 rfl rfl)
theorem dJ37_poll_30 : decode cJ37_poll 30 = .ok (.isub, 1) := dk_100 (dk_at dksJ37_poll_1 6 rfl rfl)
theorem dJ37_poll_31 : decode cJ37_poll 31 = .ok (.dup_x1, 1) := dk_90 (dk_at dksJ37_poll_1 7 rfl rfl)
theorem dJ37_poll_32 : decode cJ37_poll 32 = .ok (.putfield 58, 3) := dk_181 0 58 (dk_at dksJ37_poll_1 8 rfl rfl)
theorem dJ37_poll_35 : decode cJ37_poll 35 = .ok (.dup, 1) := dk_89 (dk_at dksJ37_poll_1 11 rfl rfl)
theorem dJ37_poll_36 : decode cJ37_poll 36 = .ok (.istore_n 3, 1) := dk_62 (dk_at dksJ37_poll_1 12 rfl rfl)
theorem dJ37_poll_37 : decode cJ37_poll 37 = .ok (.aaload, 1) := dk_50 (dk_at dksJ37_poll_1 13 rfl rfl)
theorem dJ37_poll_38 : decode cJ37_poll 38 = .ok (.astore 4, 2) := dk_58 4 (dk_at dksJ37_poll_1 14 rfl rfl)
theorem dJ37_poll_40 : decode cJ37_poll 40 = .ok (.aload_n 1, 1) := dk_43 (dk_at dksJ37_poll_1 16 rfl rfl)
theorem dJ37_poll_41 : decode cJ37_poll 41 = .ok (.iload_n 3, 1) := dk_29 (dk_at dksJ37_poll_1 17 rfl rfl)
theorem dJ37_poll_42 : decode cJ37_poll 42 = .ok (.aconst_null, 1) := dk_1 (dk_at dksJ37_poll_1 18 rfl rfl)
theorem dJ37_poll_43 : decode cJ37_poll 43 = .ok (.aastore, 1) := dk_83 (dk_at dksJ37_poll_1 19 rfl rfl)
theorem dJ37_poll_44 : decode cJ37_poll 44 = .ok (.iload_n 3, 1) := dk_29 (dk_at dksJ37_poll_1 20 rfl rfl)
theorem dJ37_poll_45 : decode cJ37_poll 45 = .ok (.ifCond .le 34, 3) := dk_158 0 34 (dk_at dksJ37_poll_1 21 rfl rfl)
theorem dJ37_poll_48 : decode cJ37_poll 48 = .ok (.aload_n 0, 1) := dk_42 (dk_at dksJ37_poll_2 0 rfl rfl)
theorem dJ37_poll_49 : decode cJ37_poll 49 = .ok (.getfield 21, 3) := dk_180 0 21 (dk_at dksJ37_poll_2 1 rfl rfl)
theorem dJ37_poll_52 : decode cJ37_poll 52 = .ok (.dup, 1) := dk_89 (dk_at dksJ37_poll_2 4 rfl rfl)
theorem dJ37_poll_53 : decode cJ37_poll 53 = .ok (.astore 5, 2) := dk_58 5 (dk_at dksJ37_poll_2 5 rfl rfl)
theorem dJ37_poll_55 : decode cJ37_poll 55 = .ok (.ifnonnull 14, 3) := dk_199 0 14 (dk_at dksJ37_poll_2 7 rfl rfl)
theorem dJ37_poll_58 : decode cJ37_poll 58 = .ok (.iconst 0, 1) := dk_3 (dk_at dksJ37_poll_2 10 rfl rfl)
theorem dJ37_poll_59 : decode cJ37_poll 59 = .ok (.aload 4, 2) := dk_25 4 (dk_at dksJ37_poll_2 11 rfl rfl)
theorem dJ37_poll_61 : decode cJ37_poll 61 = .ok (.aload_n 1, 1) := dk_43 (dk_at dksJ37_poll_2 13 rfl rfl)
theorem dJ37_poll_62 : decode cJ37_poll 62 = .ok (.iload_n 3, 1) := dk_29 (dk_at dksJ37_poll_2 14 rfl rfl)
theorem dJ37_poll_63 : decode cJ37_poll 63 = .ok (.invokestatic 125, 3) := dk_184 0 125 (dk_at dksJ37_poll_2 15 rfl rfl)
theorem dJ37_poll_66 : decode cJ37_poll 66 = .ok (.goto 13, 3) := dk_167 0 13 (dk_at dksJ37_poll_2 18 rfl rfl)
theorem dJ37_poll_69 : decode cJ37_poll 69 = .ok (.iconst 0, 1) := dk_3 (dk_at dksJ37_poll_2 21 rfl rfl)
theorem dJ37_poll_70 : decode cJ37_poll 70 = .ok (.aload 4, 2) := dk_25 4 (dk_at dksJ37_poll_2 22 rfl rfl)
theorem dJ37_poll_72 : decode cJ37_poll 72 = .ok (.aload_n 1, 1) := dk_43 (dk_at dksJ37_poll_3 0 rfl rfl)
theorem dJ37_poll_73 : decode cJ37_poll 73 = .ok (.iload_n 3, 1) := dk_29 (dk_at dksJ37_poll_3 1 rfl rfl)
theorem dJ37_poll_74 : decode cJ37_poll 74 = .ok (.aload 5, 2) := dk_25 5 (dk_at dksJ37_poll_3 2 rfl rfl)
theorem dJ37_poll_76 : decode cJ37_poll 76 = .ok (.invokestatic 129, 3) := dk_184 0 129 (dk_at dksJ37_poll_3 4 rfl rfl)
theorem dJ37_poll_79 : decode cJ37_poll 79 = .ok (.aload_n 2, 1) := dk_44 (dk_at dksJ37_poll_3 7 rfl rfl)
theorem dJ37_poll_80 : decode cJ37_poll 80 = .ok (.areturn, 1) := dk_176 (dk_at dksJ37_poll_3 8 rfl rfl)
theorem q157 : (Jvm.Cond.initialized "java/util/PriorityQueue") ∈ lw_all := lw_g (lw_at lw_m1 51 rfl) rfl
theorem q969 : (Jvm.Cond.selects "java/util/PriorityQueue" ({ cls := "java/lang/Object", name := "getClass", desc := "()Ljava/lang/Class;" } : Jvm.MethodName) ({ cls := "java/lang/Object", name := "getClass", desc := "()Ljava/lang/Class;" } : Jvm.MethodName)) ∈ lw_all := lw_g (lw_at lw_m4 143 rfl) rfl
theorem q1902 : (Jvm.Cond.instanceMethod ({ cls := "java/util/PriorityQueue", name := "removeAt", desc := "(I)Ljava/lang/Object;" } : Jvm.MethodName)) ∈ lw_all := lw_g (lw_at lw_m8 116 rfl) rfl
theorem q1903 : (Jvm.Cond.selects "java/util/PriorityQueue" ({ cls := "java/util/PriorityQueue", name := "removeAt", desc := "(I)Ljava/lang/Object;" } : Jvm.MethodName) ({ cls := "java/util/PriorityQueue", name := "removeAt", desc := "(I)Ljava/lang/Object;" } : Jvm.MethodName)) ∈ lw_all := lw_g (lw_at lw_m8 117 rfl) rfl
theorem q1904 : (Jvm.Cond.code ({ cls := "java/util/PriorityQueue", name := "removeAt", desc := "(I)Ljava/lang/Object;" } : Jvm.MethodName) prog_96_method_26_code (5 : Nat) (Option.some (Jvm.ClassFile.FieldType.object "java/lang/Object"))) ∈ lw_all := lw_g (lw_at lw_m8 118 rfl) rfl
theorem q1905 : (Jvm.Cond.methodLink "java/util/PriorityQueue" (133 : Nat) ({ cls := "java/util/PriorityQueue", name := "siftDown", desc := "(ILjava/lang/Object;)V" } : Jvm.MethodName)) ∈ lw_all := lw_g (lw_at lw_m8 119 rfl) rfl
theorem q1906 : (Jvm.Cond.privateMethod ({ cls := "java/util/PriorityQueue", name := "siftDown", desc := "(ILjava/lang/Object;)V" } : Jvm.MethodName)) ∈ lw_tbl := lw_at lw_m8 120 rfl
theorem q1907 : (Jvm.Cond.instanceMethod ({ cls := "java/util/PriorityQueue", name := "siftDown", desc := "(ILjava/lang/Object;)V" } : Jvm.MethodName)) ∈ lw_all := lw_g (lw_at lw_m8 121 rfl) rfl
theorem q1908 : (Jvm.Cond.instantiable "java/util/PriorityQueue" (4 : Nat)) ∈ lw_all := lw_g (lw_at lw_m8 122 rfl) rfl
theorem q1909 : (Jvm.Cond.code ({ cls := "java/util/PriorityQueue", name := "siftDown", desc := "(ILjava/lang/Object;)V" } : Jvm.MethodName) prog_96_method_30_code (3 : Nat) (Option.none : Option Jvm.ClassFile.FieldType)) ∈ lw_all := lw_g (lw_at lw_m8 123 rfl) rfl
theorem q1910 : (Jvm.Cond.methodLink "java/util/PriorityQueue" (129 : Nat) ({ cls := "java/util/PriorityQueue", name := "siftDownUsingComparator", desc := "(ILjava/lang/Object;[Ljava/lang/Object;ILjava/util/Comparator;)V" } : Jvm.MethodName)) ∈ lw_all := lw_g (lw_at lw_m8 124 rfl) rfl
theorem q1911 : (Jvm.Cond.static ({ cls := "java/util/PriorityQueue", name := "siftDownUsingComparator", desc := "(ILjava/lang/Object;[Ljava/lang/Object;ILjava/util/Comparator;)V" } : Jvm.MethodName)) ∈ lw_all := lw_g (lw_at lw_m8 125 rfl) rfl
theorem q1912 : (Jvm.Cond.code ({ cls := "java/util/PriorityQueue", name := "siftDownUsingComparator", desc := "(ILjava/lang/Object;[Ljava/lang/Object;ILjava/util/Comparator;)V" } : Jvm.MethodName) prog_96_method_32_code (9 : Nat) (Option.none : Option Jvm.ClassFile.FieldType)) ∈ lw_all := lw_g (lw_at lw_m8 126 rfl) rfl
theorem q1913 : (Jvm.Cond.interfaceEntry "java/util/PriorityQueue" (149 : Nat)) ∈ lw_tbl := lw_at lw_m8 127 rfl
theorem q1914 : (Jvm.Cond.methodLink "java/util/PriorityQueue" (149 : Nat) ({ cls := "java/util/Comparator", name := "compare", desc := "(Ljava/lang/Object;Ljava/lang/Object;)I" } : Jvm.MethodName)) ∈ lw_all := lw_g (lw_at lw_m8 128 rfl) rfl
theorem q1931 : (Jvm.Cond.methodLink "java/util/PriorityQueue" (125 : Nat) ({ cls := "java/util/PriorityQueue", name := "siftDownComparable", desc := "(ILjava/lang/Object;[Ljava/lang/Object;I)V" } : Jvm.MethodName)) ∈ lw_all := lw_g (lw_at lw_m8 145 rfl) rfl
theorem q1932 : (Jvm.Cond.static ({ cls := "java/util/PriorityQueue", name := "siftDownComparable", desc := "(ILjava/lang/Object;[Ljava/lang/Object;I)V" } : Jvm.MethodName)) ∈ lw_all := lw_g (lw_at lw_m8 146 rfl) rfl
theorem q1933 : (Jvm.Cond.code ({ cls := "java/util/PriorityQueue", name := "siftDownComparable", desc := "(ILjava/lang/Object;[Ljava/lang/Object;I)V" } : Jvm.MethodName) prog_96_method_31_code (9 : Nat) (Option.none : Option Jvm.ClassFile.FieldType)) ∈ lw_all := lw_g (lw_at lw_m8 147 rfl) rfl
theorem q1934 : (Jvm.Cond.classLink "java/util/PriorityQueue" (144 : Nat) "java/lang/Comparable") ∈ lw_all := lw_g (lw_at lw_m8 148 rfl) rfl
theorem q1935 : (Jvm.Cond.interfaceEntry "java/util/PriorityQueue" (146 : Nat)) ∈ lw_tbl := lw_at lw_m8 149 rfl
theorem q1936 : (Jvm.Cond.methodLink "java/util/PriorityQueue" (146 : Nat) ({ cls := "java/lang/Comparable", name := "compareTo", desc := "(Ljava/lang/Object;)I" } : Jvm.MethodName)) ∈ lw_all := lw_g (lw_at lw_m8 150 rfl) rfl
theorem q2130 : (Jvm.Cond.methodLink "java/util/PriorityQueue" (100 : Nat) ({ cls := "java/util/PriorityQueue", name := "siftUp", desc := "(ILjava/lang/Object;)V" } : Jvm.MethodName)) ∈ lw_all := lw_g (lw_at lw_m9 104 rfl) rfl
theorem q2131 : (Jvm.Cond.privateMethod ({ cls := "java/util/PriorityQueue", name := "siftUp", desc := "(ILjava/lang/Object;)V" } : Jvm.MethodName)) ∈ lw_tbl := lw_at lw_m9 105 rfl
theorem q2132 : (Jvm.Cond.instanceMethod ({ cls := "java/util/PriorityQueue", name := "siftUp", desc := "(ILjava/lang/Object;)V" } : Jvm.MethodName)) ∈ lw_all := lw_g (lw_at lw_m9 106 rfl) rfl
theorem q2133 : (Jvm.Cond.code ({ cls := "java/util/PriorityQueue", name := "siftUp", desc := "(ILjava/lang/Object;)V" } : Jvm.MethodName) prog_96_method_27_code (3 : Nat) (Option.none : Option Jvm.ClassFile.FieldType)) ∈ lw_all := lw_g (lw_at lw_m9 107 rfl) rfl
theorem q2134 : (Jvm.Cond.methodLink "java/util/PriorityQueue" (136 : Nat) ({ cls := "java/util/PriorityQueue", name := "siftUpUsingComparator", desc := "(ILjava/lang/Object;[Ljava/lang/Object;Ljava/util/Comparator;)V" } : Jvm.MethodName)) ∈ lw_all := lw_g (lw_at lw_m9 108 rfl) rfl
theorem q2135 : (Jvm.Cond.static ({ cls := "java/util/PriorityQueue", name := "siftUpUsingComparator", desc := "(ILjava/lang/Object;[Ljava/lang/Object;Ljava/util/Comparator;)V" } : Jvm.MethodName)) ∈ lw_all := lw_g (lw_at lw_m9 109 rfl) rfl
theorem q2136 : (Jvm.Cond.code ({ cls := "java/util/PriorityQueue", name := "siftUpUsingComparator", desc := "(ILjava/lang/Object;[Ljava/lang/Object;Ljava/util/Comparator;)V" } : Jvm.MethodName) prog_96_method_29_code (6 : Nat) (Option.none : Option Jvm.ClassFile.FieldType)) ∈ lw_all := lw_g (lw_at lw_m9 110 rfl) rfl
theorem q2137 : (Jvm.Cond.methodLink "java/util/PriorityQueue" (140 : Nat) ({ cls := "java/util/PriorityQueue", name := "siftUpComparable", desc := "(ILjava/lang/Object;[Ljava/lang/Object;)V" } : Jvm.MethodName)) ∈ lw_all := lw_g (lw_at lw_m9 111 rfl) rfl
theorem q2138 : (Jvm.Cond.static ({ cls := "java/util/PriorityQueue", name := "siftUpComparable", desc := "(ILjava/lang/Object;[Ljava/lang/Object;)V" } : Jvm.MethodName)) ∈ lw_all := lw_g (lw_at lw_m9 112 rfl) rfl
theorem q2139 : (Jvm.Cond.code ({ cls := "java/util/PriorityQueue", name := "siftUpComparable", desc := "(ILjava/lang/Object;[Ljava/lang/Object;)V" } : Jvm.MethodName) prog_96_method_28_code (6 : Nat) (Option.none : Option Jvm.ClassFile.FieldType)) ∈ lw_all := lw_g (lw_at lw_m9 113 rfl) rfl
theorem q2168 : (Jvm.Cond.instanceMethod ({ cls := "java/util/PriorityQueue", name := "removeEq", desc := "(Ljava/lang/Object;)V" } : Jvm.MethodName)) ∈ lw_all := lw_g (lw_at lw_m9 142 rfl) rfl
theorem q2169 : (Jvm.Cond.selects "java/util/PriorityQueue" ({ cls := "java/util/PriorityQueue", name := "removeEq", desc := "(Ljava/lang/Object;)V" } : Jvm.MethodName) ({ cls := "java/util/PriorityQueue", name := "removeEq", desc := "(Ljava/lang/Object;)V" } : Jvm.MethodName)) ∈ lw_all := lw_g (lw_at lw_m9 143 rfl) rfl
theorem q2170 : (Jvm.Cond.code ({ cls := "java/util/PriorityQueue", name := "removeEq", desc := "(Ljava/lang/Object;)V" } : Jvm.MethodName) prog_96_method_18_code (5 : Nat) (Option.none : Option Jvm.ClassFile.FieldType)) ∈ lw_all := lw_g (lw_at lw_m9 144 rfl) rfl
theorem q2171 : (Jvm.Cond.methodLink "java/util/PriorityQueue" (111 : Nat) ({ cls := "java/util/PriorityQueue", name := "removeAt", desc := "(I)Ljava/lang/Object;" } : Jvm.MethodName)) ∈ lw_all := lw_g (lw_at lw_m9 145 rfl) rfl
theorem q2561 : (Jvm.Cond.castable "java/util/PriorityQueue" "java/util/Collection") ∈ lw_tbl := lw_at lw_m11 55 rfl
theorem q2562 : (Jvm.Cond.selects "java/util/PriorityQueue" ({ cls := "java/util/Collection", name := "iterator", desc := "()Ljava/util/Iterator;" } : Jvm.MethodName) ({ cls := "java/util/PriorityQueue", name := "iterator", desc := "()Ljava/util/Iterator;" } : Jvm.MethodName)) ∈ lw_all := lw_g (lw_at lw_m11 56 rfl) rfl
theorem q2563 : (Jvm.Cond.unhidden "java/util/PriorityQueue" "iterator" "()Ljava/util/Iterator;") ∈ lw_tbl := lw_at lw_m11 57 rfl
theorem q2564 : (Jvm.Cond.instanceMethod ({ cls := "java/util/PriorityQueue", name := "iterator", desc := "()Ljava/util/Iterator;" } : Jvm.MethodName)) ∈ lw_all := lw_g (lw_at lw_m11 58 rfl) rfl
theorem q2565 : (Jvm.Cond.publicMethod ({ cls := "java/util/PriorityQueue", name := "iterator", desc := "()Ljava/util/Iterator;" } : Jvm.MethodName)) ∈ lw_tbl := lw_at lw_m11 59 rfl
theorem q2566 : (Jvm.Cond.code ({ cls := "java/util/PriorityQueue", name := "iterator", desc := "()Ljava/util/Iterator;" } : Jvm.MethodName) prog_96_method_22_code (1 : Nat) (Option.some (Jvm.ClassFile.FieldType.object "java/util/Iterator"))) ∈ lw_all := lw_g (lw_at lw_m11 60 rfl) rfl
theorem q2567 : (Jvm.Cond.classLink "java/util/PriorityQueue" (121 : Nat) "java/util/PriorityQueue$Itr") ∈ lw_all := lw_g (lw_at lw_m11 61 rfl) rfl
theorem q2569 : (Jvm.Cond.methodLink "java/util/PriorityQueue" (123 : Nat) ({ cls := "java/util/PriorityQueue$Itr", name := "<init>", desc := "(Ljava/util/PriorityQueue;)V" } : Jvm.MethodName)) ∈ lw_all := lw_g (lw_at lw_m11 63 rfl) rfl
theorem q2679 : (Jvm.Cond.instanceMethod ({ cls := "java/util/PriorityQueue", name := "<init>", desc := "(Ljava/util/Comparator;)V" } : Jvm.MethodName)) ∈ lw_all := lw_g (lw_at lw_m11 173 rfl) rfl
theorem q2680 : (Jvm.Cond.code ({ cls := "java/util/PriorityQueue", name := "<init>", desc := "(Ljava/util/Comparator;)V" } : Jvm.MethodName) prog_96_method_3_code (2 : Nat) (Option.none : Option Jvm.ClassFile.FieldType)) ∈ lw_all := lw_g (lw_at lw_m11 174 rfl) rfl
theorem q2681 : (Jvm.Cond.methodLink "java/util/PriorityQueue" (3 : Nat) ({ cls := "java/util/PriorityQueue", name := "<init>", desc := "(ILjava/util/Comparator;)V" } : Jvm.MethodName)) ∈ lw_all := lw_g (lw_at lw_m11 175 rfl) rfl
theorem q2682 : (Jvm.Cond.instanceMethod ({ cls := "java/util/PriorityQueue", name := "<init>", desc := "(ILjava/util/Comparator;)V" } : Jvm.MethodName)) ∈ lw_all := lw_g (lw_at lw_m11 176 rfl) rfl
theorem q2683 : (Jvm.Cond.code ({ cls := "java/util/PriorityQueue", name := "<init>", desc := "(ILjava/util/Comparator;)V" } : Jvm.MethodName) prog_96_method_4_code (3 : Nat) (Option.none : Option Jvm.ClassFile.FieldType)) ∈ lw_all := lw_g (lw_at lw_m11 177 rfl) rfl
theorem q2684 : (Jvm.Cond.methodLink "java/util/PriorityQueue" (7 : Nat) ({ cls := "java/util/AbstractQueue", name := "<init>", desc := "()V" } : Jvm.MethodName)) ∈ lw_all := lw_g (lw_at lw_m11 178 rfl) rfl
theorem q2688 : (Jvm.Cond.classLink "java/util/PriorityQueue" (12 : Nat) "java/lang/IllegalArgumentException") ∈ lw_all := lw_g (lw_at lw_m11 182 rfl) rfl
theorem q2689 : (Jvm.Cond.methodLink "java/util/PriorityQueue" (14 : Nat) ({ cls := "java/lang/IllegalArgumentException", name := "<init>", desc := "()V" } : Jvm.MethodName)) ∈ lw_all := lw_g (lw_at lw_m11 183 rfl) rfl
theorem q2690 : (Jvm.Cond.classLink "java/util/PriorityQueue" (15 : Nat) "java/lang/Object") ∈ lw_all := lw_g (lw_at lw_m11 184 rfl) rfl
theorem q2692 : (Jvm.Cond.fieldLink "java/util/PriorityQueue" (17 : Nat) "java/util/PriorityQueue" "queue" "[Ljava/lang/Object;") ∈ lw_all := lw_g (lw_at lw_m11 186 rfl) rfl
theorem q2694 : (Jvm.Cond.fieldLink "java/util/PriorityQueue" (58 : Nat) "java/util/PriorityQueue" "size" "I") ∈ lw_all := lw_g (lw_at lw_m11 188 rfl) rfl
theorem q2695 : (Jvm.Cond.fieldLink "java/util/PriorityQueue" (21 : Nat) "java/util/PriorityQueue" "comparator" "Ljava/util/Comparator;") ∈ lw_all := lw_g (lw_at lw_m11 189 rfl) rfl
theorem q2697 : (Jvm.Cond.fieldLink "java/util/PriorityQueue" (93 : Nat) "java/util/PriorityQueue" "modCount" "I") ∈ lw_all := lw_g (lw_at lw_m11 191 rfl) rfl
theorem q2698 : (Jvm.Cond.lays "java/util/PriorityQueue" "java/util/PriorityQueue" "queue" "[Ljava/lang/Object;") ∈ lw_all := lw_g (lw_at lw_m11 192 rfl) rfl
theorem q2699 : (Jvm.Cond.soleField "java/util/PriorityQueue" "queue") ∈ lw_all := lw_g (lw_at lw_m11 193 rfl) rfl
theorem q2700 : (Jvm.Cond.lays "java/util/PriorityQueue" "java/util/PriorityQueue" "size" "I") ∈ lw_all := lw_g (lw_at lw_m11 194 rfl) rfl
theorem q2701 : (Jvm.Cond.soleField "java/util/PriorityQueue" "size") ∈ lw_all := lw_g (lw_at lw_m11 195 rfl) rfl
theorem q2702 : (Jvm.Cond.laysFinal "java/util/PriorityQueue" "java/util/PriorityQueue" "comparator" "Ljava/util/Comparator;") ∈ lw_all := lw_g (lw_at lw_m11 196 rfl) rfl
theorem q2703 : (Jvm.Cond.soleField "java/util/PriorityQueue" "comparator") ∈ lw_all := lw_g (lw_at lw_m11 197 rfl) rfl
theorem q2704 : (Jvm.Cond.lays "java/util/PriorityQueue" "java/util/PriorityQueue" "modCount" "I") ∈ lw_all := lw_g (lw_at lw_m11 198 rfl) rfl
theorem q2705 : (Jvm.Cond.soleField "java/util/PriorityQueue" "modCount") ∈ lw_all := lw_g (lw_at lw_m11 199 rfl) rfl
theorem q2706 : (Jvm.Cond.superclass "java/util/PriorityQueue" "java/util/AbstractQueue") ∈ lw_all := lw_g (lw_at lw_m11 200 rfl) rfl
theorem q2708 : (Jvm.Cond.sameMethod "java/util/PriorityQueue" "java/util/AbstractQueue" "addAll" "(Ljava/util/Collection;)Z") ∈ lw_all := lw_g (lw_at lw_m11 202 rfl) rfl
theorem q2710 : (Jvm.Cond.selects "java/util/PriorityQueue" ({ cls := "java/util/PriorityQueue", name := "addAll", desc := "(Ljava/util/Collection;)Z" } : Jvm.MethodName) ({ cls := "java/util/AbstractQueue", name := "addAll", desc := "(Ljava/util/Collection;)Z" } : Jvm.MethodName)) ∈ lw_all := lw_g (lw_at lw_m11 204 rfl) rfl
theorem q2724 : (Jvm.Cond.selects "java/util/PriorityQueue" ({ cls := "java/util/AbstractQueue", name := "add", desc := "(Ljava/lang/Object;)Z" } : Jvm.MethodName) ({ cls := "java/util/PriorityQueue", name := "add", desc := "(Ljava/lang/Object;)Z" } : Jvm.MethodName)) ∈ lw_all := lw_g (lw_at lw_m11 218 rfl) rfl
theorem q2725 : (Jvm.Cond.instanceMethod ({ cls := "java/util/PriorityQueue", name := "add", desc := "(Ljava/lang/Object;)Z" } : Jvm.MethodName)) ∈ lw_all := lw_g (lw_at lw_m11 219 rfl) rfl
theorem q2726 : (Jvm.Cond.code ({ cls := "java/util/PriorityQueue", name := "add", desc := "(Ljava/lang/Object;)Z" } : Jvm.MethodName) prog_96_method_13_code (2 : Nat) (Option.some Jvm.ClassFile.FieldType.boolean)) ∈ lw_all := lw_g (lw_at lw_m11 220 rfl) rfl
theorem q2727 : (Jvm.Cond.methodLink "java/util/PriorityQueue" (89 : Nat) ({ cls := "java/util/PriorityQueue", name := "offer", desc := "(Ljava/lang/Object;)Z" } : Jvm.MethodName)) ∈ lw_all := lw_g (lw_at lw_m11 221 rfl) rfl
theorem q2728 : (Jvm.Cond.instanceMethod ({ cls := "java/util/PriorityQueue", name := "offer", desc := "(Ljava/lang/Object;)Z" } : Jvm.MethodName)) ∈ lw_all := lw_g (lw_at lw_m11 222 rfl) rfl
theorem q2729 : (Jvm.Cond.selects "java/util/PriorityQueue" ({ cls := "java/util/PriorityQueue", name := "offer", desc := "(Ljava/lang/Object;)Z" } : Jvm.MethodName) ({ cls := "java/util/PriorityQueue", name := "offer", desc := "(Ljava/lang/Object;)Z" } : Jvm.MethodName)) ∈ lw_all := lw_g (lw_at lw_m11 223 rfl) rfl
theorem q2730 : (Jvm.Cond.code ({ cls := "java/util/PriorityQueue", name := "offer", desc := "(Ljava/lang/Object;)Z" } : Jvm.MethodName) prog_96_method_14_code (3 : Nat) (Option.some Jvm.ClassFile.FieldType.boolean)) ∈ lw_all := lw_g (lw_at lw_m11 224 rfl) rfl
theorem q2731 : (Jvm.Cond.methodLink "java/util/PriorityQueue" (96 : Nat) ({ cls := "java/util/PriorityQueue", name := "grow", desc := "(I)V" } : Jvm.MethodName)) ∈ lw_all := lw_g (lw_at lw_m11 225 rfl) rfl
theorem q2732 : (Jvm.Cond.privateMethod ({ cls := "java/util/PriorityQueue", name := "grow", desc := "(I)V" } : Jvm.MethodName)) ∈ lw_tbl := lw_at lw_m11 226 rfl
theorem q2733 : (Jvm.Cond.instanceMethod ({ cls := "java/util/PriorityQueue", name := "grow", desc := "(I)V" } : Jvm.MethodName)) ∈ lw_all := lw_g (lw_at lw_m11 227 rfl) rfl
theorem q2734 : (Jvm.Cond.code ({ cls := "java/util/PriorityQueue", name := "grow", desc := "(I)V" } : Jvm.MethodName) prog_96_method_12_code (4 : Nat) (Option.none : Option Jvm.ClassFile.FieldType)) ∈ lw_all := lw_g (lw_at lw_m11 228 rfl) rfl
theorem q2735 : (Jvm.Cond.methodLink "java/util/PriorityQueue" (80 : Nat) ({ cls := "jdk/internal/util/ArraysSupport", name := "newLength", desc := "(III)I" } : Jvm.MethodName)) ∈ lw_all := lw_g (lw_at lw_m11 229 rfl) rfl
theorem q2736 : (Jvm.Cond.methodLink "java/util/PriorityQueue" (86 : Nat) ({ cls := "java/util/Arrays", name := "copyOf", desc := "([Ljava/lang/Object;I)[Ljava/lang/Object;" } : Jvm.MethodName)) ∈ lw_all := lw_g (lw_at lw_m11 230 rfl) rfl
theorem q2739 : (Jvm.Cond.instanceMethod ({ cls := "java/util/PriorityQueue", name := "poll", desc := "()Ljava/lang/Object;" } : Jvm.MethodName)) ∈ lw_all := lw_g (lw_at lw_m11 233 rfl) rfl
theorem q2740 : (Jvm.Cond.selects "java/util/PriorityQueue" ({ cls := "java/util/PriorityQueue", name := "poll", desc := "()Ljava/lang/Object;" } : Jvm.MethodName) ({ cls := "java/util/PriorityQueue", name := "poll", desc := "()Ljava/lang/Object;" } : Jvm.MethodName)) ∈ lw_all := lw_g (lw_at lw_m11 234 rfl) rfl
theorem q2741 : (Jvm.Cond.code ({ cls := "java/util/PriorityQueue", name := "poll", desc := "()Ljava/lang/Object;" } : Jvm.MethodName) prog_96_method_25_code (6 : Nat) (Option.some (Jvm.ClassFile.FieldType.object "java/lang/Object"))) ∈ lw_all := lw_g (lw_at lw_m11 235 rfl) rfl
theorem q4013 : (Jvm.Cond.castable "java/util/PriorityQueue" "java/lang/Object") ∈ lw_tbl := lw_at lw_m17 67 rfl
theorem in_J37 : ∀ w ∈ wsJ370, w ∈ lw_all := lw_in wsJ370 [2698, 2700, 2702, 2704] (by decide +kernel) (by decide +kernel)

/-! jdk/internal/misc/Unsafe -/
set_option maxRecDepth 100000
def RJ38 : String := "jdk/internal/misc/Unsafe"
abbrev cJ38_getLongUnaligned : ByteArray := prog_109_method_334_code
def yJ38_getLongUnaligned : MethodName := ⟨RJ38, "getLongUnaligned", "(Ljava/lang/Object;J)J"⟩
def dkwJ38_getLongUnaligned_7 : List UInt8 := [182, 0, 39, 184, 2, 197, 173]
abbrev dktJ38_getLongUnaligned_7 : List UInt8 := dkwJ38_getLongUnaligned_7 ++ []
def dkwJ38_getLongUnaligned_6 : List UInt8 := [20, 2, 195, 97, 182, 0, 39, 42, 43, 32, 20, 2, 190, 97, 182, 0, 39, 42, 43, 32, 20, 2, 184, 97]
abbrev dktJ38_getLongUnaligned_6 : List UInt8 := dkwJ38_getLongUnaligned_6 ++ dktJ38_getLongUnaligned_7
def dkwJ38_getLongUnaligned_5 : List UInt8 := [43, 32, 20, 1, 93, 97, 182, 0, 39, 42, 43, 32, 20, 0, 205, 97, 182, 0, 39, 42, 43, 32]
abbrev dktJ38_getLongUnaligned_5 : List UInt8 := dkwJ38_getLongUnaligned_5 ++ dktJ38_getLongUnaligned_6
def dkwJ38_getLongUnaligned_4 : List UInt8 := [43, 32, 182, 0, 39, 42, 43, 32, 10, 97, 182, 0, 39, 42, 43, 32, 20, 0, 203, 97, 182, 0, 39, 42]
abbrev dktJ38_getLongUnaligned_4 : List UInt8 := dkwJ38_getLongUnaligned_4 ++ dktJ38_getLongUnaligned_5
def dkwJ38_getLongUnaligned_3 : List UInt8 := [43, 32, 20, 0, 205, 97, 182, 0, 47, 42, 43, 32, 20, 2, 190, 97, 182, 0, 47, 184, 2, 192, 173, 42]
abbrev dktJ38_getLongUnaligned_3 : List UInt8 := dkwJ38_getLongUnaligned_3 ++ dktJ38_getLongUnaligned_4
def dkwJ38_getLongUnaligned_2 : List UInt8 := [10, 127, 9, 148, 154, 0, 43, 42, 43, 32, 182, 0, 47, 42, 43, 32, 20, 0, 203, 97, 182, 0, 47, 42]
abbrev dktJ38_getLongUnaligned_2 : List UInt8 := dkwJ38_getLongUnaligned_2 ++ dktJ38_getLongUnaligned_3
def dkwJ38_getLongUnaligned_1 : List UInt8 := [154, 0, 23, 42, 43, 32, 182, 0, 17, 42, 43, 32, 20, 0, 205, 97, 182, 0, 17, 184, 2, 186, 173, 32]
abbrev dktJ38_getLongUnaligned_1 : List UInt8 := dkwJ38_getLongUnaligned_1 ++ dktJ38_getLongUnaligned_2
def dkwJ38_getLongUnaligned_0 : List UInt8 := [32, 20, 2, 184, 127, 9, 148, 154, 0, 10, 42, 43, 32, 182, 0, 27, 173, 32, 20, 1, 93, 127, 9, 148]
abbrev dktJ38_getLongUnaligned_0 : List UInt8 := dkwJ38_getLongUnaligned_0 ++ dktJ38_getLongUnaligned_1
theorem dksJ38_getLongUnaligned_0 : cJ38_getLongUnaligned.data.toList.drop 0 = dktJ38_getLongUnaligned_0 := by decide +kernel
theorem dksJ38_getLongUnaligned_1 : cJ38_getLongUnaligned.data.toList.drop 24 = dktJ38_getLongUnaligned_1 := dk_seg dksJ38_getLongUnaligned_0 24 rfl rfl
theorem dksJ38_getLongUnaligned_2 : cJ38_getLongUnaligned.data.toList.drop 48 = dktJ38_getLongUnaligned_2 := dk_seg dksJ38_getLongUnaligned_1 24 rfl rfl
theorem dksJ38_getLongUnaligned_3 : cJ38_getLongUnaligned.data.toList.drop 72 = dktJ38_getLongUnaligned_3 := dk_seg dksJ38_getLongUnaligned_2 24 rfl rfl
theorem dksJ38_getLongUnaligned_4 : cJ38_getLongUnaligned.data.toList.drop 96 = dktJ38_getLongUnaligned_4 := dk_seg dksJ38_getLongUnaligned_3 24 rfl rfl
theorem dksJ38_getLongUnaligned_5 : cJ38_getLongUnaligned.data.toList.drop 120 = dktJ38_getLongUnaligned_5 := dk_seg dksJ38_getLongUnaligned_4 24 rfl rfl
theorem dksJ38_getLongUnaligned_6 : cJ38_getLongUnaligned.data.toList.drop 142 = dktJ38_getLongUnaligned_6 := dk_seg dksJ38_getLongUnaligned_5 22 rfl rfl
theorem dksJ38_getLongUnaligned_7 : cJ38_getLongUnaligned.data.toList.drop 166 = dktJ38_getLongUnaligned_7 := dk_seg dksJ38_getLongUnaligned_6 24 rfl rfl
theorem dJ38_getLongUnaligned_0 : decode cJ38_getLongUnaligned 0 = .ok (.lload_n 2, 1) := dk_32 (dk_at dksJ38_getLongUnaligned_0 0 rfl rfl)
theorem dJ38_getLongUnaligned_1 : decode cJ38_getLongUnaligned 1 = .ok (.ldc2_w 696, 3) := dk_20 2 184 (dk_at dksJ38_getLongUnaligned_0 1 rfl rfl)
theorem dJ38_getLongUnaligned_4 : decode cJ38_getLongUnaligned 4 = .ok (.land, 1) := dk_127 (dk_at dksJ38_getLongUnaligned_0 4 rfl rfl)
theorem dJ38_getLongUnaligned_5 : decode cJ38_getLongUnaligned 5 = .ok (.lconst 0, 1) := dk_9 (dk_at dksJ38_getLongUnaligned_0 5 rfl rfl)
theorem dJ38_getLongUnaligned_6 : decode cJ38_getLongUnaligned 6 = .ok (.lcmp, 1) := dk_148 (dk_at dksJ38_getLongUnaligned_0 6 rfl rfl)
theorem dJ38_getLongUnaligned_7 : decode cJ38_getLongUnaligned 7 = .ok (.ifCond .ne 10, 3) := dk_154 0 10 (dk_at dksJ38_getLongUnaligned_0 7 rfl rfl)
theorem dJ38_getLongUnaligned_10 : decode cJ38_getLongUnaligned 10 = .ok (.aload_n 0, 1) := dk_42 (dk_at dksJ38_getLongUnaligned_0 10 rfl rfl)
theorem dJ38_getLongUnaligned_11 : decode cJ38_getLongUnaligned 11 = .ok (.aload_n 1, 1) := dk_43 (dk_at dksJ38_getLongUnaligned_0 11 rfl rfl)
theorem dJ38_getLongUnaligned_12 : decode cJ38_getLongUnaligned 12 = .ok (.lload_n 2, 1) := dk_32 (dk_at dksJ38_getLongUnaligned_0 12 rfl rfl)
theorem dJ38_getLongUnaligned_13 : decode cJ38_getLongUnaligned 13 = .ok (.invokevirtual 27, 3) := dk_182 0 27 (dk_at dksJ38_getLongUnaligned_0 13 rfl rfl)
theorem dJ38_getLongUnaligned_16 : decode cJ38_getLongUnaligned 16 = .ok (.lreturn, 1) := dk_173 (dk_at dksJ38_getLongUnaligned_0 16 rfl rfl)
theorem dJ38_getLongUnaligned_17 : decode cJ38_getLongUnaligned 17 = .ok (.lload_n 2, 1) := dk_32 (dk_at dksJ38_getLongUnaligned_0 17 rfl rfl)
theorem dJ38_getLongUnaligned_18 : decode cJ38_getLongUnaligned 18 = .ok (.ldc2_w 349, 3) := dk_20 1 93 (dk_at dksJ38_getLongUnaligned_0 18 rfl rfl)
theorem dJ38_getLongUnaligned_21 : decode cJ38_getLongUnaligned 21 = .ok (.land, 1) := dk_127 (dk_at dksJ38_getLongUnaligned_0 21 rfl rfl)
theorem dJ38_getLongUnaligned_22 : decode cJ38_getLongUnaligned 22 = .ok (.lconst 0, 1) := dk_9 (dk_at dksJ38_getLongUnaligned_0 22 rfl rfl)
theorem dJ38_getLongUnaligned_23 : decode cJ38_getLongUnaligned 23 = .ok (.lcmp, 1) := dk_148 (dk_at dksJ38_getLongUnaligned_0 23 rfl rfl)
theorem dJ38_getLongUnaligned_24 : decode cJ38_getLongUnaligned 24 = .ok (.ifCond .ne 23, 3) := dk_154 0 23 (dk_at dksJ38_getLongUnaligned_1 0 rfl rfl)
theorem dJ38_getLongUnaligned_27 : decode cJ38_getLongUnaligned 27 = .ok (.aload_n 0, 1) := dk_42 (dk_at dksJ38_getLongUnaligned_1 3 rfl rfl)
theorem dJ38_getLongUnaligned_28 : decode cJ38_getLongUnaligned 28 = .ok (.aload_n 1, 1) := dk_43 (dk_at dksJ38_getLongUnaligned_1 4 rfl rfl)
theorem dJ38_getLongUnaligned_29 : decode cJ38_getLongUnaligned 29 = .ok (.lload_n 2, 1) := dk_32 (dk_at dksJ38_getLongUnaligned_1 5 rfl rfl)
theorem dJ38_getLongUnaligned_30 : decode cJ38_getLongUnaligned 30 = .ok (.invokevirtual 17, 3) := dk_182 0 17 (dk_at dksJ38_getLongUnaligned_1 6 rfl rfl)
theorem dJ38_getLongUnaligned_33 : decode cJ38_getLongUnaligned 33 = .ok (.aload_n 0, 1) := dk_42 (dk_at dksJ38_getLongUnaligned_1 9 rfl rfl)
theorem dJ38_getLongUnaligned_34 : decode cJ38_getLongUnaligned 34 = .ok (.aload_n 1, 1) := dk_43 (dk_at dksJ38_getLongUnaligned_1 10 rfl rfl)
theorem dJ38_getLongUnaligned_35 : decode cJ38_getLongUnaligned 35 = .ok (.lload_n 2, 1) := dk_32 (dk_at dksJ38_getLongUnaligned_1 11 rfl rfl)
theorem dJ38_getLongUnaligned_36 : decode cJ38_getLongUnaligned 36 = .ok (.ldc2_w 205, 3) := dk_20 0 205 (dk_at dksJ38_getLongUnaligned_1 12 rfl rfl)
theorem dJ38_getLongUnaligned_39 : decode cJ38_getLongUnaligned 39 = .ok (.ladd, 1) := dk_97 (dk_at dksJ38_getLongUnaligned_1 15 rfl rfl)
theorem dJ38_getLongUnaligned_40 : decode cJ38_getLongUnaligned 40 = .ok (.invokevirtual 17, 3) := dk_182 0 17 (dk_at dksJ38_getLongUnaligned_1 16 rfl rfl)
theorem dJ38_getLongUnaligned_43 : decode cJ38_getLongUnaligned 43 = .ok (.invokestatic 698, 3) := dk_184 2 186 (dk_at dksJ38_getLongUnaligned_1 19 rfl rfl)
theorem dJ38_getLongUnaligned_46 : decode cJ38_getLongUnaligned 46 = .ok (.lreturn, 1) := dk_173 (dk_at dksJ38_getLongUnaligned_1 22 rfl rfl)
theorem dJ38_getLongUnaligned_47 : decode cJ38_getLongUnaligned 47 = .ok (.lload_n 2, 1) := dk_32 (dk_at dksJ38_getLongUnaligned_1 23 rfl rfl)
theorem dJ38_getLongUnaligned_48 : decode cJ38_getLongUnaligned 48 = .ok (.lconst 1, 1) := dk_10 (dk_at dksJ38_getLongUnaligned_2 0 rfl rfl)
theorem dJ38_getLongUnaligned_49 : decode cJ38_getLongUnaligned 49 = .ok (.land, 1) := dk_127 (dk_at dksJ38_getLongUnaligned_2 1 rfl rfl)
theorem dJ38_getLongUnaligned_50 : decode cJ38_getLongUnaligned 50 = .ok (.lconst 0, 1) := dk_9 (dk_at dksJ38_getLongUnaligned_2 2 rfl rfl)
theorem dJ38_getLongUnaligned_51 : decode cJ38_getLongUnaligned 51 = .ok (.lcmp, 1) := dk_148 (dk_at dksJ38_getLongUnaligned_2 3 rfl rfl)
theorem dJ38_getLongUnaligned_52 : decode cJ38_getLongUnaligned 52 = .ok (.ifCond .ne 43, 3) := dk_154 0 43 (dk_at dksJ38_getLongUnaligned_2 4 rfl rfl)
theorem dJ38_getLongUnaligned_55 : decode cJ38_getLongUnaligned 55 = .ok (.aload_n 0, 1) := dk_42 (dk_at dksJ38_getLongUnaligned_2 7 rfl rfl)
theorem dJ38_getLongUnaligned_56 : decode cJ38_getLongUnaligned 56 = .ok (.aload_n 1, 1) := dk_43 (dk_at dksJ38_getLongUnaligned_2 8 rfl rfl)
theorem dJ38_getLongUnaligned_57 : decode cJ38_getLongUnaligned 57 = .ok (.lload_n 2, 1) := dk_32 (dk_at dksJ38_getLongUnaligned_2 9 rfl rfl)
theorem dJ38_getLongUnaligned_58 : decode cJ38_getLongUnaligned 58 = .ok (.invokevirtual 47, 3) := dk_182 0 47 (dk_at dksJ38_getLongUnaligned_2 10 rfl rfl)
theorem dJ38_getLongUnaligned_61 : decode cJ38_getLongUnaligned 61 = .ok (.aload_n 0, 1) := dk_42 (dk_at dksJ38_getLongUnaligned_2 13 rfl rfl)
theorem dJ38_getLongUnaligned_62 : decode cJ38_getLongUnaligned 62 = .ok (.aload_n 1, 1) := dk_43 (dk_at dksJ38_getLongUnaligned_2 14 rfl rfl)
theorem dJ38_getLongUnaligned_63 : decode cJ38_getLongUnaligned 63 = .ok (.lload_n 2, 1) := dk_32 (dk_at dksJ38_getLongUnaligned_2 15 rfl rfl)
theorem dJ38_getLongUnaligned_64 : decode cJ38_getLongUnaligned 64 = .ok (.ldc2_w 203, 3) := dk_20 0 203 (dk_at dksJ38_getLongUnaligned_2 16 rfl rfl)
theorem dJ38_getLongUnaligned_67 : decode cJ38_getLongUnaligned 67 = .ok (.ladd, 1) := dk_97 (dk_at dksJ38_getLongUnaligned_2 19 rfl rfl)
theorem dJ38_getLongUnaligned_68 : decode cJ38_getLongUnaligned 68 = .ok (.invokevirtual 47, 3) := dk_182 0 47 (dk_at dksJ38_getLongUnaligned_2 20 rfl rfl)
theorem dJ38_getLongUnaligned_71 : decode cJ38_getLongUnaligned 71 = .ok (.aload_n 0, 1) := dk_42 (dk_at dksJ38_getLongUnaligned_2 23 rfl rfl)
theorem dJ38_getLongUnaligned_72 : decode cJ38_getLongUnaligned 72 = .ok (.aload_n 1, 1) := dk_43 (dk_at dksJ38_getLongUnaligned_3 0 rfl rfl)
theorem dJ38_getLongUnaligned_73 : decode cJ38_getLongUnaligned 73 = .ok (.lload_n 2, 1) := dk_32 (dk_at dksJ38_getLongUnaligned_3 1 rfl rfl)
theorem dJ38_getLongUnaligned_74 : decode cJ38_getLongUnaligned 74 = .ok (.ldc2_w 205, 3) := dk_20 0 205 (dk_at dksJ38_getLongUnaligned_3 2 rfl rfl)
theorem dJ38_getLongUnaligned_77 : decode cJ38_getLongUnaligned 77 = .ok (.ladd, 1) := dk_97 (dk_at dksJ38_getLongUnaligned_3 5 rfl rfl)
theorem dJ38_getLongUnaligned_78 : decode cJ38_getLongUnaligned 78 = .ok (.invokevirtual 47, 3) := dk_182 0 47 (dk_at dksJ38_getLongUnaligned_3 6 rfl rfl)
theorem dJ38_getLongUnaligned_81 : decode cJ38_getLongUnaligned 81 = .ok (.aload_n 0, 1) := dk_42 (dk_at dksJ38_getLongUnaligned_3 9 rfl rfl)
theorem dJ38_getLongUnaligned_82 : decode cJ38_getLongUnaligned 82 = .ok (.aload_n 1, 1) := dk_43 (dk_at dksJ38_getLongUnaligned_3 10 rfl rfl)
theorem dJ38_getLongUnaligned_83 : decode cJ38_getLongUnaligned 83 = .ok (.lload_n 2, 1) := dk_32 (dk_at dksJ38_getLongUnaligned_3 11 rfl rfl)
theorem dJ38_getLongUnaligned_84 : decode cJ38_getLongUnaligned 84 = .ok (.ldc2_w 702, 3) := dk_20 2 190 (dk_at dksJ38_getLongUnaligned_3 12 rfl rfl)
theorem dJ38_getLongUnaligned_87 : decode cJ38_getLongUnaligned 87 = .ok (.ladd, 1) := dk_97 (dk_at dksJ38_getLongUnaligned_3 15 rfl rfl)
theorem dJ38_getLongUnaligned_88 : decode cJ38_getLongUnaligned 88 = .ok (.invokevirtual 47, 3) := dk_182 0 47 (dk_at dksJ38_getLongUnaligned_3 16 rfl rfl)
theorem dJ38_getLongUnaligned_91 : decode cJ38_getLongUnaligned 91 = .ok (.invokestatic 704, 3) := dk_184 2 192 (dk_at dksJ38_getLongUnaligned_3 19 rfl rfl)
theorem dJ38_getLongUnaligned_94 : decode cJ38_getLongUnaligned 94 = .ok (.lreturn, 1) := dk_173 (dk_at dksJ38_getLongUnaligned_3 22 rfl rfl)
theorem dJ38_getLongUnaligned_95 : decode cJ38_getLongUnaligned 95 = .ok (.aload_n 0, 1) := dk_42 (dk_at dksJ38_getLongUnaligned_3 23 rfl rfl)
theorem dJ38_getLongUnaligned_96 : decode cJ38_getLongUnaligned 96 = .ok (.aload_n 1, 1) := dk_43 (dk_at dksJ38_getLongUnaligned_4 0 rfl rfl)
theorem dJ38_getLongUnaligned_97 : decode cJ38_getLongUnaligned 97 = .ok (.lload_n 2, 1) := dk_32 (dk_at dksJ38_getLongUnaligned_4 1 rfl rfl)
theorem dJ38_getLongUnaligned_98 : decode cJ38_getLongUnaligned 98 = .ok (.invokevirtual 39, 3) := dk_182 0 39 (dk_at dksJ38_getLongUnaligned_4 2 rfl rfl)
theorem dJ38_getLongUnaligned_101 : decode cJ38_getLongUnaligned 101 = .ok (.aload_n 0, 1) := dk_42 (dk_at dksJ38_getLongUnaligned_4 5 rfl rfl)
theorem dJ38_getLongUnaligned_102 : decode cJ38_getLongUnaligned 102 = .ok (.aload_n 1, 1) := dk_43 (dk_at dksJ38_getLongUnaligned_4 6 rfl rfl)
theorem dJ38_getLongUnaligned_103 : decode cJ38_getLongUnaligned 103 = .ok (.lload_n 2, 1) := dk_32 (dk_at dksJ38_getLongUnaligned_4 7 rfl rfl)
theorem dJ38_getLongUnaligned_104 : decode cJ38_getLongUnaligned 104 = .ok (.lconst 1, 1) := dk_10 (dk_at dksJ38_getLongUnaligned_4 8 rfl rfl)
theorem dJ38_getLongUnaligned_105 : decode cJ38_getLongUnaligned 105 = .ok (.ladd, 1) := dk_97 (dk_at dksJ38_getLongUnaligned_4 9 rfl rfl)
theorem dJ38_getLongUnaligned_106 : decode cJ38_getLongUnaligned 106 = .ok (.invokevirtual 39, 3) := dk_182 0 39 (dk_at dksJ38_getLongUnaligned_4 10 rfl rfl)
theorem dJ38_getLongUnaligned_109 : decode cJ38_getLongUnaligned 109 = .ok (.aload_n 0, 1) := dk_42 (dk_at dksJ38_getLongUnaligned_4 13 rfl rfl)
theorem dJ38_getLongUnaligned_110 : decode cJ38_getLongUnaligned 110 = .ok (.aload_n 1, 1) := dk_43 (dk_at dksJ38_getLongUnaligned_4 14 rfl rfl)
theorem dJ38_getLongUnaligned_111 : decode cJ38_getLongUnaligned 111 = .ok (.lload_n 2, 1) := dk_32 (dk_at dksJ38_getLongUnaligned_4 15 rfl rfl)
theorem dJ38_getLongUnaligned_112 : decode cJ38_getLongUnaligned 112 = .ok (.ldc2_w 203, 3) := dk_20 0 203 (dk_at dksJ38_getLongUnaligned_4 16 rfl rfl)
theorem dJ38_getLongUnaligned_115 : decode cJ38_getLongUnaligned 115 = .ok (.ladd, 1) := dk_97 (dk_at dksJ38_getLongUnaligned_4 19 rfl rfl)
theorem dJ38_getLongUnaligned_116 : decode cJ38_getLongUnaligned 116 = .ok (.invokevirtual 39, 3) := dk_182 0 39 (dk_at dksJ38_getLongUnaligned_4 20 rfl rfl)
theorem dJ38_getLongUnaligned_119 : decode cJ38_getLongUnaligned 119 = .ok (.aload_n 0, 1) := dk_42 (dk_at dksJ38_getLongUnaligned_4 23 rfl rfl)
theorem dJ38_getLongUnaligned_120 : decode cJ38_getLongUnaligned 120 = .ok (.aload_n 1, 1) := dk_43 (dk_at dksJ38_getLongUnaligned_5 0 rfl rfl)
theorem dJ38_getLongUnaligned_121 : decode cJ38_getLongUnaligned 121 = .ok (.lload_n 2, 1) := dk_32 (dk_at dksJ38_getLongUnaligned_5 1 rfl rfl)
theorem dJ38_getLongUnaligned_122 : decode cJ38_getLongUnaligned 122 = .ok (.ldc2_w 349, 3) := dk_20 1 93 (dk_at dksJ38_getLongUnaligned_5 2 rfl rfl)
theorem dJ38_getLongUnaligned_125 : decode cJ38_getLongUnaligned 125 = .ok (.ladd, 1) := dk_97 (dk_at dksJ38_getLongUnaligned_5 5 rfl rfl)
theorem dJ38_getLongUnaligned_126 : decode cJ38_getLongUnaligned 126 = .ok (.invokevirtual 39, 3) := dk_182 0 39 (dk_at dksJ38_getLongUnaligned_5 6 rfl rfl)
theorem dJ38_getLongUnaligned_129 : decode cJ38_getLongUnaligned 129 = .ok (.aload_n 0, 1) := dk_42 (dk_at dksJ38_getLongUnaligned_5 9 rfl rfl)
theorem dJ38_getLongUnaligned_130 : decode cJ38_getLongUnaligned 130 = .ok (.aload_n 1, 1) := dk_43 (dk_at dksJ38_getLongUnaligned_5 10 rfl rfl)
theorem dJ38_getLongUnaligned_131 : decode cJ38_getLongUnaligned 131 = .ok (.lload_n 2, 1) := dk_32 (dk_at dksJ38_getLongUnaligned_5 11 rfl rfl)
theorem dJ38_getLongUnaligned_132 : decode cJ38_getLongUnaligned 132 = .ok (.ldc2_w 205, 3) := dk_20 0 205 (dk_at dksJ38_getLongUnaligned_5 12 rfl rfl)
theorem dJ38_getLongUnaligned_135 : decode cJ38_getLongUnaligned 135 = .ok (.ladd, 1) := dk_97 (dk_at dksJ38_getLongUnaligned_5 15 rfl rfl)
theorem dJ38_getLongUnaligned_136 : decode cJ38_getLongUnaligned 136 = .ok (.invokevirtual 39, 3) := dk_182 0 39 (dk_at dksJ38_getLongUnaligned_5 16 rfl rfl)
theorem dJ38_getLongUnaligned_139 : decode cJ38_getLongUnaligned 139 = .ok (.aload_n 0, 1) := dk_42 (dk_at dksJ38_getLongUnaligned_5 19 rfl rfl)
theorem dJ38_getLongUnaligned_140 : decode cJ38_getLongUnaligned 140 = .ok (.aload_n 1, 1) := dk_43 (dk_at dksJ38_getLongUnaligned_5 20 rfl rfl)
theorem dJ38_getLongUnaligned_141 : decode cJ38_getLongUnaligned 141 = .ok (.lload_n 2, 1) := dk_32 (dk_at dksJ38_getLongUnaligned_5 21 rfl rfl)
theorem dJ38_getLongUnaligned_142 : decode cJ38_getLongUnaligned 142 = .ok (.ldc2_w 707, 3) := dk_20 2 195 (dk_at dksJ38_getLongUnaligned_6 0 rfl rfl)
theorem dJ38_getLongUnaligned_145 : decode cJ38_getLongUnaligned 145 = .ok (.ladd, 1) := dk_97 (dk_at dksJ38_getLongUnaligned_6 3 rfl rfl)
theorem dJ38_getLongUnaligned_146 : decode cJ38_getLongUnaligned 146 = .ok (.invokevirtual 39, 3) := dk_182 0 39 (dk_at dksJ38_getLongUnaligned_6 4 rfl rfl)
theorem dJ38_getLongUnaligned_149 : decode cJ38_getLongUnaligned 149 = .ok (.aload_n 0, 1) := dk_42 (dk_at dksJ38_getLongUnaligned_6 7 rfl rfl)
theorem dJ38_getLongUnaligned_150 : decode cJ38_getLongUnaligned 150 = .ok (.aload_n 1, 1) := dk_43 (dk_at dksJ38_getLongUnaligned_6 8 rfl rfl)
theorem dJ38_getLongUnaligned_151 : decode cJ38_getLongUnaligned 151 = .ok (.lload_n 2, 1) := dk_32 (dk_at dksJ38_getLongUnaligned_6 9 rfl rfl)
theorem dJ38_getLongUnaligned_152 : decode cJ38_getLongUnaligned 152 = .ok (.ldc2_w 702, 3) := dk_20 2 190 (dk_at dksJ38_getLongUnaligned_6 10 rfl rfl)
theorem dJ38_getLongUnaligned_155 : decode cJ38_getLongUnaligned 155 = .ok (.ladd, 1) := dk_97 (dk_at dksJ38_getLongUnaligned_6 13 rfl rfl)
theorem dJ38_getLongUnaligned_156 : decode cJ38_getLongUnaligned 156 = .ok (.invokevirtual 39, 3) := dk_182 0 39 (dk_at dksJ38_getLongUnaligned_6 14 rfl rfl)
theorem dJ38_getLongUnaligned_159 : decode cJ38_getLongUnaligned 159 = .ok (.aload_n 0, 1) := dk_42 (dk_at dksJ38_getLongUnaligned_6 17 rfl rfl)
theorem dJ38_getLongUnaligned_160 : decode cJ38_getLongUnaligned 160 = .ok (.aload_n 1, 1) := dk_43 (dk_at dksJ38_getLongUnaligned_6 18 rfl rfl)
theorem dJ38_getLongUnaligned_161 : decode cJ38_getLongUnaligned 161 = .ok (.lload_n 2, 1) := dk_32 (dk_at dksJ38_getLongUnaligned_6 19 rfl rfl)
theorem dJ38_getLongUnaligned_162 : decode cJ38_getLongUnaligned 162 = .ok (.ldc2_w 696, 3) := dk_20 2 184 (dk_at dksJ38_getLongUnaligned_6 20 rfl rfl)
theorem dJ38_getLongUnaligned_165 : decode cJ38_getLongUnaligned 165 = .ok (.ladd, 1) := dk_97 (dk_at dksJ38_getLongUnaligned_6 23 rfl rfl)
theorem dJ38_getLongUnaligned_166 : decode cJ38_getLongUnaligned 166 = .ok (.invokevirtual 39, 3) := dk_182 0 39 (dk_at dksJ38_getLongUnaligned_7 0 rfl rfl)
theorem dJ38_getLongUnaligned_169 : decode cJ38_getLongUnaligned 169 = .ok (.invokestatic 709, 3) := dk_184 2 197 (dk_at dksJ38_getLongUnaligned_7 3 rfl rfl)
theorem dJ38_getLongUnaligned_172 : decode cJ38_getLongUnaligned 172 = .ok (.lreturn, 1) := dk_173 (dk_at dksJ38_getLongUnaligned_7 6 rfl rfl)
abbrev cJ38_makeLong : ByteArray := prog_109_method_353_code
def yJ38_makeLong : MethodName := ⟨RJ38, "makeLong", "(II)J"⟩
def dkwJ38_makeLong_1 : List UInt8 := [173]
abbrev dktJ38_makeLong_1 : List UInt8 := dkwJ38_makeLong_1 ++ []
def dkwJ38_makeLong_0 : List UInt8 := [26, 184, 3, 23, 16, 32, 3, 184, 3, 16, 121, 27, 184, 3, 23, 16, 32, 16, 32, 184, 3, 16, 121, 129]
abbrev dktJ38_makeLong_0 : List UInt8 := dkwJ38_makeLong_0 ++ dktJ38_makeLong_1
theorem dksJ38_makeLong_0 : cJ38_makeLong.data.toList.drop 0 = dktJ38_makeLong_0 := by decide +kernel
theorem dksJ38_makeLong_1 : cJ38_makeLong.data.toList.drop 24 = dktJ38_makeLong_1 := dk_seg dksJ38_makeLong_0 24 rfl rfl
theorem dJ38_makeLong_0 : decode cJ38_makeLong 0 = .ok (.iload_n 0, 1) := dk_26 (dk_at dksJ38_makeLong_0 0 rfl rfl)
theorem dJ38_makeLong_1 : decode cJ38_makeLong 1 = .ok (.invokestatic 791, 3) := dk_184 3 23 (dk_at dksJ38_makeLong_0 1 rfl rfl)
theorem dJ38_makeLong_4 : decode cJ38_makeLong 4 = .ok (.bipush 32, 2) := dk_16 32 (dk_at dksJ38_makeLong_0 4 rfl rfl)
theorem dJ38_makeLong_6 : decode cJ38_makeLong 6 = .ok (.iconst 0, 1) := dk_3 (dk_at dksJ38_makeLong_0 6 rfl rfl)
theorem dJ38_makeLong_7 : decode cJ38_makeLong 7 = .ok (.invokestatic 784, 3) := dk_184 3 16 (dk_at dksJ38_makeLong_0 7 rfl rfl)
theorem dJ38_makeLong_10 : decode cJ38_makeLong 10 = .ok (.lshl, 1) := dk_121 (dk_at dksJ38_makeLong_0 10 rfl rfl)
theorem dJ38_makeLong_11 : decode cJ38_makeLong 11 = .ok (.iload_n 1, 1) := dk_27 (dk_at dksJ38_makeLong_0 11 rfl rfl)
theorem dJ38_makeLong_12 : decode cJ38_makeLong 12 = .ok (.invokestatic 791, 3) := dk_184 3 23 (dk_at dksJ38_makeLong_0 12 rfl rfl)
theorem dJ38_makeLong_15 : decode cJ38_makeLong 15 = .ok (.bipush 32, 2) := dk_16 32 (dk_at dksJ38_makeLong_0 15 rfl rfl)
theorem dJ38_makeLong_17 : decode cJ38_makeLong 17 = .ok (.bipush 32, 2) := dk_16 32 (dk_at dksJ38_makeLong_0 17 rfl rfl)
theorem dJ38_makeLong_19 : decode cJ38_makeLong 19 = .ok (.invokestatic 784, 3) := dk_184 3 16 (dk_at dksJ38_makeLong_0 19 rfl rfl)
theorem dJ38_makeLong_22 : decode cJ38_makeLong 22 = .ok (.lshl, 1) := dk_121 (dk_at dksJ38_makeLong_0 22 rfl rfl)
theorem dJ38_makeLong_23 : decode cJ38_makeLong 23 = .ok (.lor, 1) := dk_129 (dk_at dksJ38_makeLong_0 23 rfl rfl)
theorem dJ38_makeLong_24 : decode cJ38_makeLong 24 = .ok (.lreturn, 1) := dk_173 (dk_at dksJ38_makeLong_1 0 rfl rfl)
abbrev cJ38_toUnsignedLong : ByteArray := prog_109_method_370_code
def yJ38_toUnsignedLong : MethodName := ⟨RJ38, "toUnsignedLong", "(I)J"⟩
def dkwJ38_toUnsignedLong_0 : List UInt8 := [26, 133, 20, 3, 44, 127, 173]
abbrev dktJ38_toUnsignedLong_0 : List UInt8 := dkwJ38_toUnsignedLong_0 ++ []
theorem dksJ38_toUnsignedLong_0 : cJ38_toUnsignedLong.data.toList.drop 0 = dktJ38_toUnsignedLong_0 := by decide +kernel
theorem dJ38_toUnsignedLong_0 : decode cJ38_toUnsignedLong 0 = .ok (.iload_n 0, 1) := dk_26 (dk_at dksJ38_toUnsignedLong_0 0 rfl rfl)
theorem dJ38_toUnsignedLong_1 : decode cJ38_toUnsignedLong 1 = .ok (.i2l, 1) := dk_133 (dk_at dksJ38_toUnsignedLong_0 1 rfl rfl)
theorem dJ38_toUnsignedLong_2 : decode cJ38_toUnsignedLong 2 = .ok (.ldc2_w 812, 3) := dk_20 3 44 (dk_at dksJ38_toUnsignedLong_0 2 rfl rfl)
theorem dJ38_toUnsignedLong_5 : decode cJ38_toUnsignedLong 5 = .ok (.land, 1) := dk_127 (dk_at dksJ38_toUnsignedLong_0 5 rfl rfl)
theorem dJ38_toUnsignedLong_6 : decode cJ38_toUnsignedLong 6 = .ok (.lreturn, 1) := dk_173 (dk_at dksJ38_toUnsignedLong_0 6 rfl rfl)
abbrev cJ38_pickPos : ByteArray := prog_109_method_350_code
def yJ38_pickPos : MethodName := ⟨RJ38, "pickPos", "(II)I"⟩
def dkwJ38_pickPos_0 : List UInt8 := [178, 1, 95, 153, 0, 9, 26, 27, 100, 167, 0, 4, 27, 172]
abbrev dktJ38_pickPos_0 : List UInt8 := dkwJ38_pickPos_0 ++ []
theorem dksJ38_pickPos_0 : cJ38_pickPos.data.toList.drop 0 = dktJ38_pickPos_0 := by decide +kernel
theorem dJ38_pickPos_0 : decode cJ38_pickPos 0 = .ok (.getstatic 351, 3) := dk_178 1 95 (dk_at dksJ38_pickPos_0 0 rfl rfl)
theorem dJ38_pickPos_3 : decode cJ38_pickPos 3 = .ok (.ifCond .eq 9, 3) := dk_153 0 9 (dk_at dksJ38_pickPos_0 3 rfl rfl)
theorem dJ38_pickPos_6 : decode cJ38_pickPos 6 = .ok (.iload_n 0, 1) := dk_26 (dk_at dksJ38_pickPos_0 6 rfl rfl)
theorem dJ38_pickPos_7 : decode cJ38_pickPos 7 = .ok (.iload_n 1, 1) := dk_27 (dk_at dksJ38_pickPos_0 7 rfl rfl)
theorem dJ38_pickPos_8 : decode cJ38_pickPos 8 = .ok (.isub, 1) := dk_100 (dk_at dksJ38_pickPos_0 8 rfl rfl)
theorem dJ38_pickPos_9 : decode cJ38_pickPos 9 = .ok (.goto 4, 3) := dk_167 0 4 (dk_at dksJ38_pickPos_0 9 rfl rfl)
theorem dJ38_pickPos_12 : decode cJ38_pickPos 12 = .ok (.iload_n 1, 1) := dk_27 (dk_at dksJ38_pickPos_0 12 rfl rfl)
theorem dJ38_pickPos_13 : decode cJ38_pickPos 13 = .ok (.ireturn, 1) := dk_172 (dk_at dksJ38_pickPos_0 13 rfl rfl)
abbrev cJ38_makeLong_2 : ByteArray := prog_109_method_352_code
def yJ38_makeLong_2 : MethodName := ⟨RJ38, "makeLong", "(SSSS)J"⟩
def dkwJ38_makeLong_2_2 : List UInt8 := [121, 129, 173]
abbrev dktJ38_makeLong_2_2 : List UInt8 := dkwJ38_makeLong_2_2 ++ []
def dkwJ38_makeLong_2_1 : List UInt8 := [28, 184, 3, 20, 16, 48, 16, 32, 184, 3, 16, 121, 129, 29, 184, 3, 20, 16, 48, 16, 48, 184, 3, 16]
abbrev dktJ38_makeLong_2_1 : List UInt8 := dkwJ38_makeLong_2_1 ++ dktJ38_makeLong_2_2
def dkwJ38_makeLong_2_0 : List UInt8 := [26, 184, 3, 20, 16, 48, 3, 184, 3, 16, 121, 27, 184, 3, 20, 16, 48, 16, 16, 184, 3, 16, 121, 129]
abbrev dktJ38_makeLong_2_0 : List UInt8 := dkwJ38_makeLong_2_0 ++ dktJ38_makeLong_2_1
theorem dksJ38_makeLong_2_0 : cJ38_makeLong_2.data.toList.drop 0 = dktJ38_makeLong_2_0 := by decide +kernel
theorem dksJ38_makeLong_2_1 : cJ38_makeLong_2.data.toList.drop 24 = dktJ38_makeLong_2_1 := dk_seg dksJ38_makeLong_2_0 24 rfl rfl
theorem dksJ38_makeLong_2_2 : cJ38_makeLong_2.data.toList.drop 48 = dktJ38_makeLong_2_2 := dk_seg dksJ38_makeLong_2_1 24 rfl rfl
theorem dJ38_makeLong_2_0 : decode cJ38_makeLong_2 0 = .ok (.iload_n 0, 1) := dk_26 (dk_at dksJ38_makeLong_2_0 0 rfl rfl)
theorem dJ38_makeLong_2_1 : decode cJ38_makeLong_2 1 = .ok (.invokestatic 788, 3) := dk_184 3 20 (dk_at dksJ38_makeLong_2_0 1 rfl rfl)
theorem dJ38_makeLong_2_4 : decode cJ38_makeLong_2 4 = .ok (.bipush 48, 2) := dk_16 48 (dk_at dksJ38_makeLong_2_0 4 rfl rfl)
theorem dJ38_makeLong_2_6 : decode cJ38_makeLong_2 6 = .ok (.iconst 0, 1) := dk_3 (dk_at dksJ38_makeLong_2_0 6 rfl rfl)
theorem dJ38_makeLong_2_7 : decode cJ38_makeLong_2 7 = .ok (.invokestatic 784, 3) := dk_184 3 16 (dk_at dksJ38_makeLong_2_0 7 rfl rfl)
theorem dJ38_makeLong_2_10 : decode cJ38_makeLong_2 10 = .ok (.lshl, 1) := dk_121 (dk_at dksJ38_makeLong_2_0 10 rfl rfl)
theorem dJ38_makeLong_2_11 : decode cJ38_makeLong_2 11 = .ok (.iload_n 1, 1) := dk_27 (dk_at dksJ38_makeLong_2_0 11 rfl rfl)
theorem dJ38_makeLong_2_12 : decode cJ38_makeLong_2 12 = .ok (.invokestatic 788, 3) := dk_184 3 20 (dk_at dksJ38_makeLong_2_0 12 rfl rfl)
theorem dJ38_makeLong_2_15 : decode cJ38_makeLong_2 15 = .ok (.bipush 48, 2) := dk_16 48 (dk_at dksJ38_makeLong_2_0 15 rfl rfl)
theorem dJ38_makeLong_2_17 : decode cJ38_makeLong_2 17 = .ok (.bipush 16, 2) := dk_16 16 (dk_at dksJ38_makeLong_2_0 17 rfl rfl)
theorem dJ38_makeLong_2_19 : decode cJ38_makeLong_2 19 = .ok (.invokestatic 784, 3) := dk_184 3 16 (dk_at dksJ38_makeLong_2_0 19 rfl rfl)
theorem dJ38_makeLong_2_22 : decode cJ38_makeLong_2 22 = .ok (.lshl, 1) := dk_121 (dk_at dksJ38_makeLong_2_0 22 rfl rfl)
theorem dJ38_makeLong_2_23 : decode cJ38_makeLong_2 23 = .ok (.lor, 1) := dk_129 (dk_at dksJ38_makeLong_2_0 23 rfl rfl)
theorem dJ38_makeLong_2_24 : decode cJ38_makeLong_2 24 = .ok (.iload_n 2, 1) := dk_28 (dk_at dksJ38_makeLong_2_1 0 rfl rfl)
theorem dJ38_makeLong_2_25 : decode cJ38_makeLong_2 25 = .ok (.invokestatic 788, 3) := dk_184 3 20 (dk_at dksJ38_makeLong_2_1 1 rfl rfl)
theorem dJ38_makeLong_2_28 : decode cJ38_makeLong_2 28 = .ok (.bipush 48, 2) := dk_16 48 (dk_at dksJ38_makeLong_2_1 4 rfl rfl)
theorem dJ38_makeLong_2_30 : decode cJ38_makeLong_2 30 = .ok (.bipush 32, 2) := dk_16 32 (dk_at dksJ38_makeLong_2_1 6 rfl rfl)
theorem dJ38_makeLong_2_32 : decode cJ38_makeLong_2 32 = .ok (.invokestatic 784, 3) := dk_184 3 16 (dk_at dksJ38_makeLong_2_1 8 rfl rfl)
theorem dJ38_makeLong_2_35 : decode cJ38_makeLong_2 35 = .ok (.lshl, 1) := dk_121 (dk_at dksJ38_makeLong_2_1 11 rfl rfl)
theorem dJ38_makeLong_2_36 : decode cJ38_makeLong_2 36 = .ok (.lor, 1) := dk_129 (dk_at dksJ38_makeLong_2_1 12 rfl rfl)
theorem dJ38_makeLong_2_37 : decode cJ38_makeLong_2 37 = .ok (.iload_n 3, 1) := dk_29 (dk_at dksJ38_makeLong_2_1 13 rfl rfl)
theorem dJ38_makeLong_2_38 : decode cJ38_makeLong_2 38 = .ok (.invokestatic 788, 3) := dk_184 3 20 (dk_at dksJ38_makeLong_2_1 14 rfl rfl)
theorem dJ38_makeLong_2_41 : decode cJ38_makeLong_2 41 = .ok (.bipush 48, 2) := dk_16 48 (dk_at dksJ38_makeLong_2_1 17 rfl rfl)
theorem dJ38_makeLong_2_43 : decode cJ38_makeLong_2 43 = .ok (.bipush 48, 2) := dk_16 48 (dk_at dksJ38_makeLong_2_1 19 rfl rfl)
theorem dJ38_makeLong_2_45 : decode cJ38_makeLong_2 45 = .ok (.invokestatic 784, 3) := dk_184 3 16 (dk_at dksJ38_makeLong_2_1 21 rfl rfl)
theorem dJ38_makeLong_2_48 : decode cJ38_makeLong_2 48 = .ok (.lshl, 1) := dk_121 (dk_at dksJ38_makeLong_2_2 0 rfl rfl)
theorem dJ38_makeLong_2_49 : decode cJ38_makeLong_2 49 = .ok (.lor, 1) := dk_129 (dk_at dksJ38_makeLong_2_2 1 rfl rfl)
theorem dJ38_makeLong_2_50 : decode cJ38_makeLong_2 50 = .ok (.lreturn, 1) := dk_173 (dk_at dksJ38_makeLong_2_2 2 rfl rfl)
abbrev cJ38_toUnsignedLong_2 : ByteArray := prog_109_method_369_code
def yJ38_toUnsignedLong_2 : MethodName := ⟨RJ38, "toUnsignedLong", "(S)J"⟩
def dkwJ38_toUnsignedLong_2_0 : List UInt8 := [26, 133, 20, 3, 42, 127, 173]
abbrev dktJ38_toUnsignedLong_2_0 : List UInt8 := dkwJ38_toUnsignedLong_2_0 ++ []
theorem dksJ38_toUnsignedLong_2_0 : cJ38_toUnsignedLong_2.data.toList.drop 0 = dktJ38_toUnsignedLong_2_0 := by decide +kernel
theorem dJ38_toUnsignedLong_2_0 : decode cJ38_toUnsignedLong_2 0 = .ok (.iload_n 0, 1) := dk_26 (dk_at dksJ38_toUnsignedLong_2_0 0 rfl rfl)
theorem dJ38_toUnsignedLong_2_1 : decode cJ38_toUnsignedLong_2 1 = .ok (.i2l, 1) := dk_133 (dk_at dksJ38_toUnsignedLong_2_0 1 rfl rfl)
theorem dJ38_toUnsignedLong_2_2 : decode cJ38_toUnsignedLong_2 2 = .ok (.ldc2_w 810, 3) := dk_20 3 42 (dk_at dksJ38_toUnsignedLong_2_0 2 rfl rfl)
theorem dJ38_toUnsignedLong_2_5 : decode cJ38_toUnsignedLong_2 5 = .ok (.land, 1) := dk_127 (dk_at dksJ38_toUnsignedLong_2_0 5 rfl rfl)
theorem dJ38_toUnsignedLong_2_6 : decode cJ38_toUnsignedLong_2 6 = .ok (.lreturn, 1) := dk_173 (dk_at dksJ38_toUnsignedLong_2_0 6 rfl rfl)
abbrev cJ38_makeLong_3 : ByteArray := prog_109_method_351_code
def yJ38_makeLong_3 : MethodName := ⟨RJ38, "makeLong", "(BBBBBBBB)J"⟩
def dkwJ38_makeLong_3_4 : List UInt8 := [184, 3, 13, 16, 56, 16, 56, 184, 3, 16, 121, 129, 173]
abbrev dktJ38_makeLong_3_4 : List UInt8 := dkwJ38_makeLong_3_4 ++ []
def dkwJ38_makeLong_3_3 : List UInt8 := [16, 40, 184, 3, 16, 121, 129, 21, 6, 184, 3, 13, 16, 56, 16, 48, 184, 3, 16, 121, 129, 21, 7]
abbrev dktJ38_makeLong_3_3 : List UInt8 := dkwJ38_makeLong_3_3 ++ dktJ38_makeLong_3_4
def dkwJ38_makeLong_3_2 : List UInt8 := [121, 129, 21, 4, 184, 3, 13, 16, 56, 16, 32, 184, 3, 16, 121, 129, 21, 5, 184, 3, 13, 16, 56]
abbrev dktJ38_makeLong_3_2 : List UInt8 := dkwJ38_makeLong_3_2 ++ dktJ38_makeLong_3_3
def dkwJ38_makeLong_3_1 : List UInt8 := [28, 184, 3, 13, 16, 56, 16, 16, 184, 3, 16, 121, 129, 29, 184, 3, 13, 16, 56, 16, 24, 184, 3, 16]
abbrev dktJ38_makeLong_3_1 : List UInt8 := dkwJ38_makeLong_3_1 ++ dktJ38_makeLong_3_2
def dkwJ38_makeLong_3_0 : List UInt8 := [26, 184, 3, 13, 16, 56, 3, 184, 3, 16, 121, 27, 184, 3, 13, 16, 56, 16, 8, 184, 3, 16, 121, 129]
abbrev dktJ38_makeLong_3_0 : List UInt8 := dkwJ38_makeLong_3_0 ++ dktJ38_makeLong_3_1
theorem dksJ38_makeLong_3_0 : cJ38_makeLong_3.data.toList.drop 0 = dktJ38_makeLong_3_0 := by decide +kernel
theorem dksJ38_makeLong_3_1 : cJ38_makeLong_3.data.toList.drop 24 = dktJ38_makeLong_3_1 := dk_seg dksJ38_makeLong_3_0 24 rfl rfl
theorem dksJ38_makeLong_3_2 : cJ38_makeLong_3.data.toList.drop 48 = dktJ38_makeLong_3_2 := dk_seg dksJ38_makeLong_3_1 24 rfl rfl
theorem dksJ38_makeLong_3_3 : cJ38_makeLong_3.data.toList.drop 71 = dktJ38_makeLong_3_3 := dk_seg dksJ38_makeLong_3_2 23 rfl rfl
theorem dksJ38_makeLong_3_4 : cJ38_makeLong_3.data.toList.drop 94 = dktJ38_makeLong_3_4 := dk_seg dksJ38_makeLong_3_3 23 rfl rfl
theorem dJ38_makeLong_3_0 : decode cJ38_makeLong_3 0 = .ok (.iload_n 0, 1) := dk_26 (dk_at dksJ38_makeLong_3_0 0 rfl rfl)
theorem dJ38_makeLong_3_1 : decode cJ38_makeLong_3 1 = .ok (.invokestatic 781, 3) := dk_184 3 13 (dk_at dksJ38_makeLong_3_0 1 rfl rfl)
theorem dJ38_makeLong_3_4 : decode cJ38_makeLong_3 4 = .ok (.bipush 56, 2) := dk_16 56 (dk_at dksJ38_makeLong_3_0 4 rfl rfl)
theorem dJ38_makeLong_3_6 : decode cJ38_makeLong_3 6 = .ok (.iconst 0, 1) := dk_3 (dk_at dksJ38_makeLong_3_0 6 rfl rfl)
theorem dJ38_makeLong_3_7 : decode cJ38_makeLong_3 7 = .ok (.invokestatic 784, 3) := dk_184 3 16 (dk_at dksJ38_makeLong_3_0 7 rfl rfl)
theorem dJ38_makeLong_3_10 : decode cJ38_makeLong_3 10 = .ok (.lshl, 1) := dk_121 (dk_at dksJ38_makeLong_3_0 10 rfl rfl)
theorem dJ38_makeLong_3_11 : decode cJ38_makeLong_3 11 = .ok (.iload_n 1, 1) := dk_27 (dk_at dksJ38_makeLong_3_0 11 rfl rfl)
theorem dJ38_makeLong_3_12 : decode cJ38_makeLong_3 12 = .ok (.invokestatic 781, 3) := dk_184 3 13 (dk_at dksJ38_makeLong_3_0 12 rfl rfl)
theorem dJ38_makeLong_3_15 : decode cJ38_makeLong_3 15 = .ok (.bipush 56, 2) := dk_16 56 (dk_at dksJ38_makeLong_3_0 15 rfl rfl)
theorem dJ38_makeLong_3_17 : decode cJ38_makeLong_3 17 = .ok (.bipush 8, 2) := dk_16 8 (dk_at dksJ38_makeLong_3_0 17 rfl rfl)
theorem dJ38_makeLong_3_19 : decode cJ38_makeLong_3 19 = .ok (.invokestatic 784, 3) := dk_184 3 16 (dk_at dksJ38_makeLong_3_0 19 rfl rfl)
theorem dJ38_makeLong_3_22 : decode cJ38_makeLong_3 22 = .ok (.lshl, 1) := dk_121 (dk_at dksJ38_makeLong_3_0 22 rfl rfl)
theorem dJ38_makeLong_3_23 : decode cJ38_makeLong_3 23 = .ok (.lor, 1) := dk_129 (dk_at dksJ38_makeLong_3_0 23 rfl rfl)
theorem dJ38_makeLong_3_24 : decode cJ38_makeLong_3 24 = .ok (.iload_n 2, 1) := dk_28 (dk_at dksJ38_makeLong_3_1 0 rfl rfl)
theorem dJ38_makeLong_3_25 : decode cJ38_makeLong_3 25 = .ok (.invokestatic 781, 3) := dk_184 3 13 (dk_at dksJ38_makeLong_3_1 1 rfl rfl)
theorem dJ38_makeLong_3_28 : decode cJ38_makeLong_3 28 = .ok (.bipush 56, 2) := dk_16 56 (dk_at dksJ38_makeLong_3_1 4 rfl rfl)
theorem dJ38_makeLong_3_30 : decode cJ38_makeLong_3 30 = .ok (.bipush 16, 2) := dk_16 16 (dk_at dksJ38_makeLong_3_1 6 rfl rfl)
theorem dJ38_makeLong_3_32 : decode cJ38_makeLong_3 32 = .ok (.invokestatic 784, 3) := dk_184 3 16 (dk_at dksJ38_makeLong_3_1 8 rfl rfl)
theorem dJ38_makeLong_3_35 : decode cJ38_makeLong_3 35 = .ok (.lshl, 1) := dk_121 (dk_at dksJ38_makeLong_3_1 11 rfl rfl)
theorem dJ38_makeLong_3_36 : decode cJ38_makeLong_3 36 = .ok (.lor, 1) := dk_129 (dk_at dksJ38_makeLong_3_1 12 rfl rfl)
theorem dJ38_makeLong_3_37 : decode cJ38_makeLong_3 37 = .ok (.iload_n 3, 1) := dk_29 (dk_at dksJ38_makeLong_3_1 13 rfl rfl)
theorem dJ38_makeLong_3_38 : decode cJ38_makeLong_3 38 = .ok (.invokestatic 781, 3) := dk_184 3 13 (dk_at dksJ38_makeLong_3_1 14 rfl rfl)
theorem dJ38_makeLong_3_41 : decode cJ38_makeLong_3 41 = .ok (.bipush 56, 2) := dk_16 56 (dk_at dksJ38_makeLong_3_1 17 rfl rfl)
theorem dJ38_makeLong_3_43 : decode cJ38_makeLong_3 43 = .ok (.bipush 24, 2) := dk_16 24 (dk_at dksJ38_makeLong_3_1 19 rfl rfl)
theorem dJ38_makeLong_3_45 : decode cJ38_makeLong_3 45 = .ok (.invokestatic 784, 3) := dk_184 3 16 (dk_at dksJ38_makeLong_3_1 21 rfl rfl)
theorem dJ38_makeLong_3_48 : decode cJ38_makeLong_3 48 = .ok (.lshl, 1) := dk_121 (dk_at dksJ38_makeLong_3_2 0 rfl rfl)
theorem dJ38_makeLong_3_49 : decode cJ38_makeLong_3 49 = .ok (.lor, 1) := dk_129 (dk_at dksJ38_makeLong_3_2 1 rfl rfl)
theorem dJ38_makeLong_3_50 : decode cJ38_makeLong_3 50 = .ok (.iload 4, 2) := dk_21 4 (dk_at dksJ38_makeLong_3_2 2 rfl rfl)
theorem dJ38_makeLong_3_52 : decode cJ38_makeLong_3 52 = .ok (.invokestatic 781, 3) := dk_184 3 13 (dk_at dksJ38_makeLong_3_2 4 rfl rfl)
theorem dJ38_makeLong_3_55 : decode cJ38_makeLong_3 55 = .ok (.bipush 56, 2) := dk_16 56 (dk_at dksJ38_makeLong_3_2 7 rfl rfl)
theorem dJ38_makeLong_3_57 : decode cJ38_makeLong_3 57 = .ok (.bipush 32, 2) := dk_16 32 (dk_at dksJ38_makeLong_3_2 9 rfl rfl)
theorem dJ38_makeLong_3_59 : decode cJ38_makeLong_3 59 = .ok (.invokestatic 784, 3) := dk_184 3 16 (dk_at dksJ38_makeLong_3_2 11 rfl rfl)
theorem dJ38_makeLong_3_62 : decode cJ38_makeLong_3 62 = .ok (.lshl, 1) := dk_121 (dk_at dksJ38_makeLong_3_2 14 rfl rfl)
theorem dJ38_makeLong_3_63 : decode cJ38_makeLong_3 63 = .ok (.lor, 1) := dk_129 (dk_at dksJ38_makeLong_3_2 15 rfl rfl)
theorem dJ38_makeLong_3_64 : decode cJ38_makeLong_3 64 = .ok (.iload 5, 2) := dk_21 5 (dk_at dksJ38_makeLong_3_2 16 rfl rfl)
theorem dJ38_makeLong_3_66 : decode cJ38_makeLong_3 66 = .ok (.invokestatic 781, 3) := dk_184 3 13 (dk_at dksJ38_makeLong_3_2 18 rfl rfl)
theorem dJ38_makeLong_3_69 : decode cJ38_makeLong_3 69 = .ok (.bipush 56, 2) := dk_16 56 (dk_at dksJ38_makeLong_3_2 21 rfl rfl)
theorem dJ38_makeLong_3_71 : decode cJ38_makeLong_3 71 = .ok (.bipush 40, 2) := dk_16 40 (dk_at dksJ38_makeLong_3_3 0 rfl rfl)
theorem dJ38_makeLong_3_73 : decode cJ38_makeLong_3 73 = .ok (.invokestatic 784, 3) := dk_184 3 16 (dk_at dksJ38_makeLong_3_3 2 rfl rfl)
theorem dJ38_makeLong_3_76 : decode cJ38_makeLong_3 76 = .ok (.lshl, 1) := dk_121 (dk_at dksJ38_makeLong_3_3 5 rfl rfl)
theorem dJ38_makeLong_3_77 : decode cJ38_makeLong_3 77 = .ok (.lor, 1) := dk_129 (dk_at dksJ38_makeLong_3_3 6 rfl rfl)
theorem dJ38_makeLong_3_78 : decode cJ38_makeLong_3 78 = .ok (.iload 6, 2) := dk_21 6 (dk_at dksJ38_makeLong_3_3 7 rfl rfl)
theorem dJ38_makeLong_3_80 : decode cJ38_makeLong_3 80 = .ok (.invokestatic 781, 3) := dk_184 3 13 (dk_at dksJ38_makeLong_3_3 9 rfl rfl)
theorem dJ38_makeLong_3_83 : decode cJ38_makeLong_3 83 = .ok (.bipush 56, 2) := dk_16 56 (dk_at dksJ38_makeLong_3_3 12 rfl rfl)
theorem dJ38_makeLong_3_85 : decode cJ38_makeLong_3 85 = .ok (.bipush 48, 2) := dk_16 48 (dk_at dksJ38_makeLong_3_3 14 rfl rfl)
theorem dJ38_makeLong_3_87 : decode cJ38_makeLong_3 87 = .ok (.invokestatic 784, 3) := dk_184 3 16 (dk_at dksJ38_makeLong_3_3 16 rfl rfl)
theorem dJ38_makeLong_3_90 : decode cJ38_makeLong_3 90 = .ok (.lshl, 1) := dk_121 (dk_at dksJ38_makeLong_3_3 19 rfl rfl)
theorem dJ38_makeLong_3_91 : decode cJ38_makeLong_3 91 = .ok (.lor, 1) := dk_129 (dk_at dksJ38_makeLong_3_3 20 rfl rfl)
theorem dJ38_makeLong_3_92 : decode cJ38_makeLong_3 92 = .ok (.iload 7, 2) := dk_21 7 (dk_at dksJ38_makeLong_3_3 21 rfl rfl)
theorem dJ38_makeLong_3_94 : decode cJ38_makeLong_3 94 = .ok (.invokestatic 781, 3) := dk_184 3 13 (dk_at dksJ38_makeLong_3_4 0 rfl rfl)
theorem dJ38_makeLong_3_97 : decode cJ38_makeLong_3 97 = .ok (.bipush 56, 2) := dk_16 56 (dk_at dksJ38_makeLong_3_4 3 rfl rfl)
theorem dJ38_makeLong_3_99 : decode cJ38_makeLong_3 99 = .ok (.bipush 56, 2) := dk_16 56 (dk_at dksJ38_makeLong_3_4 5 rfl rfl)
theorem dJ38_makeLong_3_101 : decode cJ38_makeLong_3 101 = .ok (.invokestatic 784, 3) := dk_184 3 16 (dk_at dksJ38_makeLong_3_4 7 rfl rfl)
theorem dJ38_makeLong_3_104 : decode cJ38_makeLong_3 104 = .ok (.lshl, 1) := dk_121 (dk_at dksJ38_makeLong_3_4 10 rfl rfl)
theorem dJ38_makeLong_3_105 : decode cJ38_makeLong_3 105 = .ok (.lor, 1) := dk_129 (dk_at dksJ38_makeLong_3_4 11 rfl rfl)
theorem dJ38_makeLong_3_106 : decode cJ38_makeLong_3 106 = .ok (.lreturn, 1) := dk_173 (dk_at dksJ38_makeLong_3_4 12 rfl rfl)
abbrev cJ38_toUnsignedLong_3 : ByteArray := prog_109_method_368_code
def yJ38_toUnsignedLong_3 : MethodName := ⟨RJ38, "toUnsignedLong", "(B)J"⟩
def dkwJ38_toUnsignedLong_3_0 : List UInt8 := [26, 133, 20, 3, 40, 127, 173]
abbrev dktJ38_toUnsignedLong_3_0 : List UInt8 := dkwJ38_toUnsignedLong_3_0 ++ []
theorem dksJ38_toUnsignedLong_3_0 : cJ38_toUnsignedLong_3.data.toList.drop 0 = dktJ38_toUnsignedLong_3_0 := by decide +kernel
theorem dJ38_toUnsignedLong_3_0 : decode cJ38_toUnsignedLong_3 0 = .ok (.iload_n 0, 1) := dk_26 (dk_at dksJ38_toUnsignedLong_3_0 0 rfl rfl)
theorem dJ38_toUnsignedLong_3_1 : decode cJ38_toUnsignedLong_3 1 = .ok (.i2l, 1) := dk_133 (dk_at dksJ38_toUnsignedLong_3_0 1 rfl rfl)
theorem dJ38_toUnsignedLong_3_2 : decode cJ38_toUnsignedLong_3 2 = .ok (.ldc2_w 808, 3) := dk_20 3 40 (dk_at dksJ38_toUnsignedLong_3_0 2 rfl rfl)
theorem dJ38_toUnsignedLong_3_5 : decode cJ38_toUnsignedLong_3 5 = .ok (.land, 1) := dk_127 (dk_at dksJ38_toUnsignedLong_3_0 5 rfl rfl)
theorem dJ38_toUnsignedLong_3_6 : decode cJ38_toUnsignedLong_3 6 = .ok (.lreturn, 1) := dk_173 (dk_at dksJ38_toUnsignedLong_3_0 6 rfl rfl)
abbrev cJ38_getIntUnaligned : ByteArray := prog_109_method_336_code
def yJ38_getIntUnaligned : MethodName := ⟨RJ38, "getIntUnaligned", "(Ljava/lang/Object;J)I"⟩
def dkwJ38_getIntUnaligned_3 : List UInt8 := [43, 32, 20, 1, 93, 97, 182, 0, 39, 184, 2, 211, 172]
abbrev dktJ38_getIntUnaligned_3 : List UInt8 := dkwJ38_getIntUnaligned_3 ++ []
def dkwJ38_getIntUnaligned_2 : List UInt8 := [43, 32, 182, 0, 39, 42, 43, 32, 10, 97, 182, 0, 39, 42, 43, 32, 20, 0, 203, 97, 182, 0, 39, 42]
abbrev dktJ38_getIntUnaligned_2 : List UInt8 := dkwJ38_getIntUnaligned_2 ++ dktJ38_getIntUnaligned_3
def dkwJ38_getIntUnaligned_1 : List UInt8 := [154, 0, 23, 42, 43, 32, 182, 0, 47, 42, 43, 32, 20, 0, 203, 97, 182, 0, 47, 184, 2, 207, 172, 42]
abbrev dktJ38_getIntUnaligned_1 : List UInt8 := dkwJ38_getIntUnaligned_1 ++ dktJ38_getIntUnaligned_2
def dkwJ38_getIntUnaligned_0 : List UInt8 := [32, 20, 1, 93, 127, 9, 148, 154, 0, 10, 42, 43, 32, 182, 0, 17, 172, 32, 10, 127, 9, 148]
abbrev dktJ38_getIntUnaligned_0 : List UInt8 := dkwJ38_getIntUnaligned_0 ++ dktJ38_getIntUnaligned_1
theorem dksJ38_getIntUnaligned_0 : cJ38_getIntUnaligned.data.toList.drop 0 = dktJ38_getIntUnaligned_0 := by decide +kernel
theorem dksJ38_getIntUnaligned_1 : cJ38_getIntUnaligned.data.toList.drop 22 = dktJ38_getIntUnaligned_1 := dk_seg dksJ38_getIntUnaligned_0 22 rfl rfl
theorem dksJ38_getIntUnaligned_2 : cJ38_getIntUnaligned.data.toList.drop 46 = dktJ38_getIntUnaligned_2 := dk_seg dksJ38_getIntUnaligned_1 24 rfl rfl
theorem dksJ38_getIntUnaligned_3 : cJ38_getIntUnaligned.data.toList.drop 70 = dktJ38_getIntUnaligned_3 := dk_seg dksJ38_getIntUnaligned_2 24 rfl rfl
theorem dJ38_getIntUnaligned_0 : decode cJ38_getIntUnaligned 0 = .ok (.lload_n 2, 1) := dk_32 (dk_at dksJ38_getIntUnaligned_0 0 rfl rfl)
theorem dJ38_getIntUnaligned_1 : decode cJ38_getIntUnaligned 1 = .ok (.ldc2_w 349, 3) := dk_20 1 93 (dk_at dksJ38_getIntUnaligned_0 1 rfl rfl)
theorem dJ38_getIntUnaligned_4 : decode cJ38_getIntUnaligned 4 = .ok (.land, 1) := dk_127 (dk_at dksJ38_getIntUnaligned_0 4 rfl rfl)
theorem dJ38_getIntUnaligned_5 : decode cJ38_getIntUnaligned 5 = .ok (.lconst 0, 1) := dk_9 (dk_at dksJ38_getIntUnaligned_0 5 rfl rfl)
theorem dJ38_getIntUnaligned_6 : decode cJ38_getIntUnaligned 6 = .ok (.lcmp, 1) := dk_148 (dk_at dksJ38_getIntUnaligned_0 6 rfl rfl)
theorem dJ38_getIntUnaligned_7 : decode cJ38_getIntUnaligned 7 = .ok (.ifCond .ne 10, 3) := dk_154 0 10 (dk_at dksJ38_getIntUnaligned_0 7 rfl rfl)
theorem dJ38_getIntUnaligned_10 : decode cJ38_getIntUnaligned 10 = .ok (.aload_n 0, 1) := dk_42 (dk_at dksJ38_getIntUnaligned_0 10 rfl rfl)
theorem dJ38_getIntUnaligned_11 : decode cJ38_getIntUnaligned 11 = .ok (.aload_n 1, 1) := dk_43 (dk_at dksJ38_getIntUnaligned_0 11 rfl rfl)
theorem dJ38_getIntUnaligned_12 : decode cJ38_getIntUnaligned 12 = .ok (.lload_n 2, 1) := dk_32 (dk_at dksJ38_getIntUnaligned_0 12 rfl rfl)
theorem dJ38_getIntUnaligned_13 : decode cJ38_getIntUnaligned 13 = .ok (.invokevirtual 17, 3) := dk_182 0 17 (dk_at dksJ38_getIntUnaligned_0 13 rfl rfl)
theorem dJ38_getIntUnaligned_16 : decode cJ38_getIntUnaligned 16 = .ok (.ireturn, 1) := dk_172 (dk_at dksJ38_getIntUnaligned_0 16 rfl rfl)
theorem dJ38_getIntUnaligned_17 : decode cJ38_getIntUnaligned 17 = .ok (.lload_n 2, 1) := dk_32 (dk_at dksJ38_getIntUnaligned_0 17 rfl rfl)
theorem dJ38_getIntUnaligned_18 : decode cJ38_getIntUnaligned 18 = .ok (.lconst 1, 1) := dk_10 (dk_at dksJ38_getIntUnaligned_0 18 rfl rfl)
theorem dJ38_getIntUnaligned_19 : decode cJ38_getIntUnaligned 19 = .ok (.land, 1) := dk_127 (dk_at dksJ38_getIntUnaligned_0 19 rfl rfl)
theorem dJ38_getIntUnaligned_20 : decode cJ38_getIntUnaligned 20 = .ok (.lconst 0, 1) := dk_9 (dk_at dksJ38_getIntUnaligned_0 20 rfl rfl)
theorem dJ38_getIntUnaligned_21 : decode cJ38_getIntUnaligned 21 = .ok (.lcmp, 1) := dk_148 (dk_at dksJ38_getIntUnaligned_0 21 rfl rfl)
theorem dJ38_getIntUnaligned_22 : decode cJ38_getIntUnaligned 22 = .ok (.ifCond .ne 23, 3) := dk_154 0 23 (dk_at dksJ38_getIntUnaligned_1 0 rfl rfl)
theorem dJ38_getIntUnaligned_25 : decode cJ38_getIntUnaligned 25 = .ok (.aload_n 0, 1) := dk_42 (dk_at dksJ38_getIntUnaligned_1 3 rfl rfl)
theorem dJ38_getIntUnaligned_26 : decode cJ38_getIntUnaligned 26 = .ok (.aload_n 1, 1) := dk_43 (dk_at dksJ38_getIntUnaligned_1 4 rfl rfl)
theorem dJ38_getIntUnaligned_27 : decode cJ38_getIntUnaligned 27 = .ok (.lload_n 2, 1) := dk_32 (dk_at dksJ38_getIntUnaligned_1 5 rfl rfl)
theorem dJ38_getIntUnaligned_28 : decode cJ38_getIntUnaligned 28 = .ok (.invokevirtual 47, 3) := dk_182 0 47 (dk_at dksJ38_getIntUnaligned_1 6 rfl rfl)
theorem dJ38_getIntUnaligned_31 : decode cJ38_getIntUnaligned 31 = .ok (.aload_n 0, 1) := dk_42 (dk_at dksJ38_getIntUnaligned_1 9 rfl rfl)
theorem dJ38_getIntUnaligned_32 : decode cJ38_getIntUnaligned 32 = .ok (.aload_n 1, 1) := dk_43 (dk_at dksJ38_getIntUnaligned_1 10 rfl rfl)
theorem dJ38_getIntUnaligned_33 : decode cJ38_getIntUnaligned 33 = .ok (.lload_n 2, 1) := dk_32 (dk_at dksJ38_getIntUnaligned_1 11 rfl rfl)
theorem dJ38_getIntUnaligned_34 : decode cJ38_getIntUnaligned 34 = .ok (.ldc2_w 203, 3) := dk_20 0 203 (dk_at dksJ38_getIntUnaligned_1 12 rfl rfl)
theorem dJ38_getIntUnaligned_37 : decode cJ38_getIntUnaligned 37 = .ok (.ladd, 1) := dk_97 (dk_at dksJ38_getIntUnaligned_1 15 rfl rfl)
theorem dJ38_getIntUnaligned_38 : decode cJ38_getIntUnaligned 38 = .ok (.invokevirtual 47, 3) := dk_182 0 47 (dk_at dksJ38_getIntUnaligned_1 16 rfl rfl)
theorem dJ38_getIntUnaligned_41 : decode cJ38_getIntUnaligned 41 = .ok (.invokestatic 719, 3) := dk_184 2 207 (dk_at dksJ38_getIntUnaligned_1 19 rfl rfl)
theorem dJ38_getIntUnaligned_44 : decode cJ38_getIntUnaligned 44 = .ok (.ireturn, 1) := dk_172 (dk_at dksJ38_getIntUnaligned_1 22 rfl rfl)
theorem dJ38_getIntUnaligned_45 : decode cJ38_getIntUnaligned 45 = .ok (.aload_n 0, 1) := dk_42 (dk_at dksJ38_getIntUnaligned_1 23 rfl rfl)
theorem dJ38_getIntUnaligned_46 : decode cJ38_getIntUnaligned 46 = .ok (.aload_n 1, 1) := dk_43 (dk_at dksJ38_getIntUnaligned_2 0 rfl rfl)
theorem dJ38_getIntUnaligned_47 : decode cJ38_getIntUnaligned 47 = .ok (.lload_n 2, 1) := dk_32 (dk_at dksJ38_getIntUnaligned_2 1 rfl rfl)
theorem dJ38_getIntUnaligned_48 : decode cJ38_getIntUnaligned 48 = .ok (.invokevirtual 39, 3) := dk_182 0 39 (dk_at dksJ38_getIntUnaligned_2 2 rfl rfl)
theorem dJ38_getIntUnaligned_51 : decode cJ38_getIntUnaligned 51 = .ok (.aload_n 0, 1) := dk_42 (dk_at dksJ38_getIntUnaligned_2 5 rfl rfl)
theorem dJ38_getIntUnaligned_52 : decode cJ38_getIntUnaligned 52 = .ok (.aload_n 1, 1) := dk_43 (dk_at dksJ38_getIntUnaligned_2 6 rfl rfl)
theorem dJ38_getIntUnaligned_53 : decode cJ38_getIntUnaligned 53 = .ok (.lload_n 2, 1) := dk_32 (dk_at dksJ38_getIntUnaligned_2 7 rfl rfl)
theorem dJ38_getIntUnaligned_54 : decode cJ38_getIntUnaligned 54 = .ok (.lconst 1, 1) := dk_10 (dk_at dksJ38_getIntUnaligned_2 8 rfl rfl)
theorem dJ38_getIntUnaligned_55 : decode cJ38_getIntUnaligned 55 = .ok (.ladd, 1) := dk_97 (dk_at dksJ38_getIntUnaligned_2 9 rfl rfl)
theorem dJ38_getIntUnaligned_56 : decode cJ38_getIntUnaligned 56 = .ok (.invokevirtual 39, 3) := dk_182 0 39 (dk_at dksJ38_getIntUnaligned_2 10 rfl rfl)
theorem dJ38_getIntUnaligned_59 : decode cJ38_getIntUnaligned 59 = .ok (.aload_n 0, 1) := dk_42 (dk_at dksJ38_getIntUnaligned_2 13 rfl rfl)
theorem dJ38_getIntUnaligned_60 : decode cJ38_getIntUnaligned 60 = .ok (.aload_n 1, 1) := dk_43 (dk_at dksJ38_getIntUnaligned_2 14 rfl rfl)
theorem dJ38_getIntUnaligned_61 : decode cJ38_getIntUnaligned 61 = .ok (.lload_n 2, 1) := dk_32 (dk_at dksJ38_getIntUnaligned_2 15 rfl rfl)
theorem dJ38_getIntUnaligned_62 : decode cJ38_getIntUnaligned 62 = .ok (.ldc2_w 203, 3) := dk_20 0 203 (dk_at dksJ38_getIntUnaligned_2 16 rfl rfl)
theorem dJ38_getIntUnaligned_65 : decode cJ38_getIntUnaligned 65 = .ok (.ladd, 1) := dk_97 (dk_at dksJ38_getIntUnaligned_2 19 rfl rfl)
theorem dJ38_getIntUnaligned_66 : decode cJ38_getIntUnaligned 66 = .ok (.invokevirtual 39, 3) := dk_182 0 39 (dk_at dksJ38_getIntUnaligned_2 20 rfl rfl)
theorem dJ38_getIntUnaligned_69 : decode cJ38_getIntUnaligned 69 = .ok (.aload_n 0, 1) := dk_42 (dk_at dksJ38_getIntUnaligned_2 23 rfl rfl)
theorem dJ38_getIntUnaligned_70 : decode cJ38_getIntUnaligned 70 = .ok (.aload_n 1, 1) := dk_43 (dk_at dksJ38_getIntUnaligned_3 0 rfl rfl)
theorem dJ38_getIntUnaligned_71 : decode cJ38_getIntUnaligned 71 = .ok (.lload_n 2, 1) := dk_32 (dk_at dksJ38_getIntUnaligned_3 1 rfl rfl)
theorem dJ38_getIntUnaligned_72 : decode cJ38_getIntUnaligned 72 = .ok (.ldc2_w 349, 3) := dk_20 1 93 (dk_at dksJ38_getIntUnaligned_3 2 rfl rfl)
theorem dJ38_getIntUnaligned_75 : decode cJ38_getIntUnaligned 75 = .ok (.ladd, 1) := dk_97 (dk_at dksJ38_getIntUnaligned_3 5 rfl rfl)
theorem dJ38_getIntUnaligned_76 : decode cJ38_getIntUnaligned 76 = .ok (.invokevirtual 39, 3) := dk_182 0 39 (dk_at dksJ38_getIntUnaligned_3 6 rfl rfl)
theorem dJ38_getIntUnaligned_79 : decode cJ38_getIntUnaligned 79 = .ok (.invokestatic 723, 3) := dk_184 2 211 (dk_at dksJ38_getIntUnaligned_3 9 rfl rfl)
theorem dJ38_getIntUnaligned_82 : decode cJ38_getIntUnaligned 82 = .ok (.ireturn, 1) := dk_172 (dk_at dksJ38_getIntUnaligned_3 12 rfl rfl)
abbrev cJ38_makeInt : ByteArray := prog_109_method_354_code
def yJ38_makeInt : MethodName := ⟨RJ38, "makeInt", "(SS)I"⟩
def dkwJ38_makeInt_1 : List UInt8 := [172]
abbrev dktJ38_makeInt_1 : List UInt8 := dkwJ38_makeInt_1 ++ []
def dkwJ38_makeInt_0 : List UInt8 := [26, 184, 3, 24, 16, 16, 3, 184, 3, 16, 120, 27, 184, 3, 24, 16, 16, 16, 16, 184, 3, 16, 120, 128]
abbrev dktJ38_makeInt_0 : List UInt8 := dkwJ38_makeInt_0 ++ dktJ38_makeInt_1
theorem dksJ38_makeInt_0 : cJ38_makeInt.data.toList.drop 0 = dktJ38_makeInt_0 := by decide +kernel
theorem dksJ38_makeInt_1 : cJ38_makeInt.data.toList.drop 24 = dktJ38_makeInt_1 := dk_seg dksJ38_makeInt_0 24 rfl rfl
theorem dJ38_makeInt_0 : decode cJ38_makeInt 0 = .ok (.iload_n 0, 1) := dk_26 (dk_at dksJ38_makeInt_0 0 rfl rfl)
theorem dJ38_makeInt_1 : decode cJ38_makeInt 1 = .ok (.invokestatic 792, 3) := dk_184 3 24 (dk_at dksJ38_makeInt_0 1 rfl rfl)
theorem dJ38_makeInt_4 : decode cJ38_makeInt 4 = .ok (.bipush 16, 2) := dk_16 16 (dk_at dksJ38_makeInt_0 4 rfl rfl)
theorem dJ38_makeInt_6 : decode cJ38_makeInt 6 = .ok (.iconst 0, 1) := dk_3 (dk_at dksJ38_makeInt_0 6 rfl rfl)
theorem dJ38_makeInt_7 : decode cJ38_makeInt 7 = .ok (.invokestatic 784, 3) := dk_184 3 16 (dk_at dksJ38_makeInt_0 7 rfl rfl)
theorem dJ38_makeInt_10 : decode cJ38_makeInt 10 = .ok (.ishl, 1) := dk_120 (dk_at dksJ38_makeInt_0 10 rfl rfl)
theorem dJ38_makeInt_11 : decode cJ38_makeInt 11 = .ok (.iload_n 1, 1) := dk_27 (dk_at dksJ38_makeInt_0 11 rfl rfl)
theorem dJ38_makeInt_12 : decode cJ38_makeInt 12 = .ok (.invokestatic 792, 3) := dk_184 3 24 (dk_at dksJ38_makeInt_0 12 rfl rfl)
theorem dJ38_makeInt_15 : decode cJ38_makeInt 15 = .ok (.bipush 16, 2) := dk_16 16 (dk_at dksJ38_makeInt_0 15 rfl rfl)
theorem dJ38_makeInt_17 : decode cJ38_makeInt 17 = .ok (.bipush 16, 2) := dk_16 16 (dk_at dksJ38_makeInt_0 17 rfl rfl)
theorem dJ38_makeInt_19 : decode cJ38_makeInt 19 = .ok (.invokestatic 784, 3) := dk_184 3 16 (dk_at dksJ38_makeInt_0 19 rfl rfl)
theorem dJ38_makeInt_22 : decode cJ38_makeInt 22 = .ok (.ishl, 1) := dk_120 (dk_at dksJ38_makeInt_0 22 rfl rfl)
theorem dJ38_makeInt_23 : decode cJ38_makeInt 23 = .ok (.ior, 1) := dk_128 (dk_at dksJ38_makeInt_0 23 rfl rfl)
theorem dJ38_makeInt_24 : decode cJ38_makeInt 24 = .ok (.ireturn, 1) := dk_172 (dk_at dksJ38_makeInt_1 0 rfl rfl)
abbrev cJ38_toUnsignedInt : ByteArray := prog_109_method_367_code
def yJ38_toUnsignedInt : MethodName := ⟨RJ38, "toUnsignedInt", "(S)I"⟩
def dkwJ38_toUnsignedInt_0 : List UInt8 := [26, 19, 1, 118, 126, 172]
abbrev dktJ38_toUnsignedInt_0 : List UInt8 := dkwJ38_toUnsignedInt_0 ++ []
theorem dksJ38_toUnsignedInt_0 : cJ38_toUnsignedInt.data.toList.drop 0 = dktJ38_toUnsignedInt_0 := by decide +kernel
theorem dJ38_toUnsignedInt_0 : decode cJ38_toUnsignedInt 0 = .ok (.iload_n 0, 1) := dk_26 (dk_at dksJ38_toUnsignedInt_0 0 rfl rfl)
theorem dJ38_toUnsignedInt_1 : decode cJ38_toUnsignedInt 1 = .ok (.ldc_w 374, 3) := dk_19 1 118 (dk_at dksJ38_toUnsignedInt_0 1 rfl rfl)
theorem dJ38_toUnsignedInt_4 : decode cJ38_toUnsignedInt 4 = .ok (.iand, 1) := dk_126 (dk_at dksJ38_toUnsignedInt_0 4 rfl rfl)
theorem dJ38_toUnsignedInt_5 : decode cJ38_toUnsignedInt 5 = .ok (.ireturn, 1) := dk_172 (dk_at dksJ38_toUnsignedInt_0 5 rfl rfl)
abbrev cJ38_makeInt_2 : ByteArray := prog_109_method_355_code
def yJ38_makeInt_2 : MethodName := ⟨RJ38, "makeInt", "(BBBB)I"⟩
def dkwJ38_makeInt_2_2 : List UInt8 := [120, 128, 172]
abbrev dktJ38_makeInt_2_2 : List UInt8 := dkwJ38_makeInt_2_2 ++ []
def dkwJ38_makeInt_2_1 : List UInt8 := [28, 184, 3, 28, 16, 24, 16, 16, 184, 3, 16, 120, 128, 29, 184, 3, 28, 16, 24, 16, 24, 184, 3, 16]
abbrev dktJ38_makeInt_2_1 : List UInt8 := dkwJ38_makeInt_2_1 ++ dktJ38_makeInt_2_2
def dkwJ38_makeInt_2_0 : List UInt8 := [26, 184, 3, 28, 16, 24, 3, 184, 3, 16, 120, 27, 184, 3, 28, 16, 24, 16, 8, 184, 3, 16, 120, 128]
abbrev dktJ38_makeInt_2_0 : List UInt8 := dkwJ38_makeInt_2_0 ++ dktJ38_makeInt_2_1
theorem dksJ38_makeInt_2_0 : cJ38_makeInt_2.data.toList.drop 0 = dktJ38_makeInt_2_0 := by decide +kernel
theorem dksJ38_makeInt_2_1 : cJ38_makeInt_2.data.toList.drop 24 = dktJ38_makeInt_2_1 := dk_seg dksJ38_makeInt_2_0 24 rfl rfl
theorem dksJ38_makeInt_2_2 : cJ38_makeInt_2.data.toList.drop 48 = dktJ38_makeInt_2_2 := dk_seg dksJ38_makeInt_2_1 24 rfl rfl
theorem dJ38_makeInt_2_0 : decode cJ38_makeInt_2 0 = .ok (.iload_n 0, 1) := dk_26 (dk_at dksJ38_makeInt_2_0 0 rfl rfl)
theorem dJ38_makeInt_2_1 : decode cJ38_makeInt_2 1 = .ok (.invokestatic 796, 3) := dk_184 3 28 (dk_at dksJ38_makeInt_2_0 1 rfl rfl)
theorem dJ38_makeInt_2_4 : decode cJ38_makeInt_2 4 = .ok (.bipush 24, 2) := dk_16 24 (dk_at dksJ38_makeInt_2_0 4 rfl rfl)
theorem dJ38_makeInt_2_6 : decode cJ38_makeInt_2 6 = .ok (.iconst 0, 1) := dk_3 (dk_at dksJ38_makeInt_2_0 6 rfl rfl)
theorem dJ38_makeInt_2_7 : decode cJ38_makeInt_2 7 = .ok (.invokestatic 784, 3) := dk_184 3 16 (dk_at dksJ38_makeInt_2_0 7 rfl rfl)
theorem dJ38_makeInt_2_10 : decode cJ38_makeInt_2 10 = .ok (.ishl, 1) := dk_120 (dk_at dksJ38_makeInt_2_0 10 rfl rfl)
theorem dJ38_makeInt_2_11 : decode cJ38_makeInt_2 11 = .ok (.iload_n 1, 1) := dk_27 (dk_at dksJ38_makeInt_2_0 11 rfl rfl)
theorem dJ38_makeInt_2_12 : decode cJ38_makeInt_2 12 = .ok (.invokestatic 796, 3) := dk_184 3 28 (dk_at dksJ38_makeInt_2_0 12 rfl rfl)
theorem dJ38_makeInt_2_15 : decode cJ38_makeInt_2 15 = .ok (.bipush 24, 2) := dk_16 24 (dk_at dksJ38_makeInt_2_0 15 rfl rfl)
theorem dJ38_makeInt_2_17 : decode cJ38_makeInt_2 17 = .ok (.bipush 8, 2) := dk_16 8 (dk_at dksJ38_makeInt_2_0 17 rfl rfl)
theorem dJ38_makeInt_2_19 : decode cJ38_makeInt_2 19 = .ok (.invokestatic 784, 3) := dk_184 3 16 (dk_at dksJ38_makeInt_2_0 19 rfl rfl)
theorem dJ38_makeInt_2_22 : decode cJ38_makeInt_2 22 = .ok (.ishl, 1) := dk_120 (dk_at dksJ38_makeInt_2_0 22 rfl rfl)
theorem dJ38_makeInt_2_23 : decode cJ38_makeInt_2 23 = .ok (.ior, 1) := dk_128 (dk_at dksJ38_makeInt_2_0 23 rfl rfl)
theorem dJ38_makeInt_2_24 : decode cJ38_makeInt_2 24 = .ok (.iload_n 2, 1) := dk_28 (dk_at dksJ38_makeInt_2_1 0 rfl rfl)
theorem dJ38_makeInt_2_25 : decode cJ38_makeInt_2 25 = .ok (.invokestatic 796, 3) := dk_184 3 28 (dk_at dksJ38_makeInt_2_1 1 rfl rfl)
theorem dJ38_makeInt_2_28 : decode cJ38_makeInt_2 28 = .ok (.bipush 24, 2) := dk_16 24 (dk_at dksJ38_makeInt_2_1 4 rfl rfl)
theorem dJ38_makeInt_2_30 : decode cJ38_makeInt_2 30 = .ok (.bipush 16, 2) := dk_16 16 (dk_at dksJ38_makeInt_2_1 6 rfl rfl)
theorem dJ38_makeInt_2_32 : decode cJ38_makeInt_2 32 = .ok (.invokestatic 784, 3) := dk_184 3 16 (dk_at dksJ38_makeInt_2_1 8 rfl rfl)
theorem dJ38_makeInt_2_35 : decode cJ38_makeInt_2 35 = .ok (.ishl, 1) := dk_120 (dk_at dksJ38_makeInt_2_1 11 rfl rfl)
theorem dJ38_makeInt_2_36 : decode cJ38_makeInt_2 36 = .ok (.ior, 1) := dk_128 (dk_at dksJ38_makeInt_2_1 12 rfl rfl)
theorem dJ38_makeInt_2_37 : decode cJ38_makeInt_2 37 = .ok (.iload_n 3, 1) := dk_29 (dk_at dksJ38_makeInt_2_1 13 rfl rfl)
theorem dJ38_makeInt_2_38 : decode cJ38_makeInt_2 38 = .ok (.invokestatic 796, 3) := dk_184 3 28 (dk_at dksJ38_makeInt_2_1 14 rfl rfl)
theorem dJ38_makeInt_2_41 : decode cJ38_makeInt_2 41 = .ok (.bipush 24, 2) := dk_16 24 (dk_at dksJ38_makeInt_2_1 17 rfl rfl)
theorem dJ38_makeInt_2_43 : decode cJ38_makeInt_2 43 = .ok (.bipush 24, 2) := dk_16 24 (dk_at dksJ38_makeInt_2_1 19 rfl rfl)
theorem dJ38_makeInt_2_45 : decode cJ38_makeInt_2 45 = .ok (.invokestatic 784, 3) := dk_184 3 16 (dk_at dksJ38_makeInt_2_1 21 rfl rfl)
theorem dJ38_makeInt_2_48 : decode cJ38_makeInt_2 48 = .ok (.ishl, 1) := dk_120 (dk_at dksJ38_makeInt_2_2 0 rfl rfl)
theorem dJ38_makeInt_2_49 : decode cJ38_makeInt_2 49 = .ok (.ior, 1) := dk_128 (dk_at dksJ38_makeInt_2_2 1 rfl rfl)
theorem dJ38_makeInt_2_50 : decode cJ38_makeInt_2 50 = .ok (.ireturn, 1) := dk_172 (dk_at dksJ38_makeInt_2_2 2 rfl rfl)
abbrev cJ38_toUnsignedInt_2 : ByteArray := prog_109_method_366_code
def yJ38_toUnsignedInt_2 : MethodName := ⟨RJ38, "toUnsignedInt", "(B)I"⟩
def dkwJ38_toUnsignedInt_2_0 : List UInt8 := [26, 17, 0, 255, 126, 172]
abbrev dktJ38_toUnsignedInt_2_0 : List UInt8 := dkwJ38_toUnsignedInt_2_0 ++ []
theorem dksJ38_toUnsignedInt_2_0 : cJ38_toUnsignedInt_2.data.toList.drop 0 = dktJ38_toUnsignedInt_2_0 := by decide +kernel
theorem dJ38_toUnsignedInt_2_0 : decode cJ38_toUnsignedInt_2 0 = .ok (.iload_n 0, 1) := dk_26 (dk_at dksJ38_toUnsignedInt_2_0 0 rfl rfl)
theorem dJ38_toUnsignedInt_2_1 : decode cJ38_toUnsignedInt_2 1 = .ok (.sipush 255, 3) := dk_17 0 255 (dk_at dksJ38_toUnsignedInt_2_0 1 rfl rfl)
theorem dJ38_toUnsignedInt_2_4 : decode cJ38_toUnsignedInt_2 4 = .ok (.iand, 1) := dk_126 (dk_at dksJ38_toUnsignedInt_2_0 4 rfl rfl)
theorem dJ38_toUnsignedInt_2_5 : decode cJ38_toUnsignedInt_2 5 = .ok (.ireturn, 1) := dk_172 (dk_at dksJ38_toUnsignedInt_2_0 5 rfl rfl)
theorem q158 : (Jvm.Cond.initialized "jdk/internal/misc/Unsafe") ∈ lw_all := lw_g (lw_at lw_m1 52 rfl) rfl
theorem q975 : (Jvm.Cond.selects "jdk/internal/misc/Unsafe" ({ cls := "java/lang/Object", name := "getClass", desc := "()Ljava/lang/Class;" } : Jvm.MethodName) ({ cls := "java/lang/Object", name := "getClass", desc := "()Ljava/lang/Class;" } : Jvm.MethodName)) ∈ lw_all := lw_g (lw_at lw_m4 149 rfl) rfl
theorem q1973 : (Jvm.Cond.laysStatic "jdk/internal/misc/Unsafe" "ARRAY_BYTE_BASE_OFFSET" "I") ∈ lw_tbl := lw_at lw_m8 187 rfl
theorem q1984 : (Jvm.Cond.instanceMethod ({ cls := "jdk/internal/misc/Unsafe", name := "getLongUnaligned", desc := "(Ljava/lang/Object;J)J" } : Jvm.MethodName)) ∈ lw_all := lw_g (lw_at lw_m8 198 rfl) rfl
theorem q1985 : (Jvm.Cond.selects "jdk/internal/misc/Unsafe" ({ cls := "jdk/internal/misc/Unsafe", name := "getLongUnaligned", desc := "(Ljava/lang/Object;J)J" } : Jvm.MethodName) ({ cls := "jdk/internal/misc/Unsafe", name := "getLongUnaligned", desc := "(Ljava/lang/Object;J)J" } : Jvm.MethodName)) ∈ lw_all := lw_g (lw_at lw_m8 199 rfl) rfl
theorem q1986 : (Jvm.Cond.code ({ cls := "jdk/internal/misc/Unsafe", name := "getLongUnaligned", desc := "(Ljava/lang/Object;J)J" } : Jvm.MethodName) prog_109_method_334_code (4 : Nat) (Option.some Jvm.ClassFile.FieldType.long)) ∈ lw_all := lw_g (lw_at lw_m8 200 rfl) rfl
theorem q1987 : (Jvm.Cond.constantLong "jdk/internal/misc/Unsafe" (696 : Nat) (7 : Int64)) ∈ lw_all := lw_g (lw_at lw_m8 201 rfl) rfl
theorem q1988 : (Jvm.Cond.methodLink "jdk/internal/misc/Unsafe" (27 : Nat) ({ cls := "jdk/internal/misc/Unsafe", name := "getLong", desc := "(Ljava/lang/Object;J)J" } : Jvm.MethodName)) ∈ lw_all := lw_g (lw_at lw_m8 202 rfl) rfl
theorem q1989 : (Jvm.Cond.instanceMethod ({ cls := "jdk/internal/misc/Unsafe", name := "getLong", desc := "(Ljava/lang/Object;J)J" } : Jvm.MethodName)) ∈ lw_all := lw_g (lw_at lw_m8 203 rfl) rfl
theorem q1990 : (Jvm.Cond.selects "jdk/internal/misc/Unsafe" ({ cls := "jdk/internal/misc/Unsafe", name := "getLong", desc := "(Ljava/lang/Object;J)J" } : Jvm.MethodName) ({ cls := "jdk/internal/misc/Unsafe", name := "getLong", desc := "(Ljava/lang/Object;J)J" } : Jvm.MethodName)) ∈ lw_all := lw_g (lw_at lw_m8 204 rfl) rfl
theorem q1991 : (Jvm.Cond.native ({ cls := "jdk/internal/misc/Unsafe", name := "getLong", desc := "(Ljava/lang/Object;J)J" } : Jvm.MethodName)) ∈ lw_all := lw_g (lw_at lw_m8 205 rfl) rfl
theorem q1992 : (Jvm.Cond.constantLong "jdk/internal/misc/Unsafe" (349 : Nat) (3 : Int64)) ∈ lw_all := lw_g (lw_at lw_m8 206 rfl) rfl
theorem q1993 : (Jvm.Cond.methodLink "jdk/internal/misc/Unsafe" (17 : Nat) ({ cls := "jdk/internal/misc/Unsafe", name := "getInt", desc := "(Ljava/lang/Object;J)I" } : Jvm.MethodName)) ∈ lw_all := lw_g (lw_at lw_m8 207 rfl) rfl
theorem q1994 : (Jvm.Cond.instanceMethod ({ cls := "jdk/internal/misc/Unsafe", name := "getInt", desc := "(Ljava/lang/Object;J)I" } : Jvm.MethodName)) ∈ lw_all := lw_g (lw_at lw_m8 208 rfl) rfl
theorem q1995 : (Jvm.Cond.selects "jdk/internal/misc/Unsafe" ({ cls := "jdk/internal/misc/Unsafe", name := "getInt", desc := "(Ljava/lang/Object;J)I" } : Jvm.MethodName) ({ cls := "jdk/internal/misc/Unsafe", name := "getInt", desc := "(Ljava/lang/Object;J)I" } : Jvm.MethodName)) ∈ lw_all := lw_g (lw_at lw_m8 209 rfl) rfl
theorem q1996 : (Jvm.Cond.native ({ cls := "jdk/internal/misc/Unsafe", name := "getInt", desc := "(Ljava/lang/Object;J)I" } : Jvm.MethodName)) ∈ lw_all := lw_g (lw_at lw_m8 210 rfl) rfl
theorem q1997 : (Jvm.Cond.constantLong "jdk/internal/misc/Unsafe" (205 : Nat) (4 : Int64)) ∈ lw_all := lw_g (lw_at lw_m8 211 rfl) rfl
theorem q1998 : (Jvm.Cond.methodLink "jdk/internal/misc/Unsafe" (698 : Nat) ({ cls := "jdk/internal/misc/Unsafe", name := "makeLong", desc := "(II)J" } : Jvm.MethodName)) ∈ lw_all := lw_g (lw_at lw_m8 212 rfl) rfl
theorem q1999 : (Jvm.Cond.static ({ cls := "jdk/internal/misc/Unsafe", name := "makeLong", desc := "(II)J" } : Jvm.MethodName)) ∈ lw_all := lw_g (lw_at lw_m8 213 rfl) rfl
theorem q2000 : (Jvm.Cond.code ({ cls := "jdk/internal/misc/Unsafe", name := "makeLong", desc := "(II)J" } : Jvm.MethodName) prog_109_method_353_code (2 : Nat) (Option.some Jvm.ClassFile.FieldType.long)) ∈ lw_all := lw_g (lw_at lw_m8 214 rfl) rfl
theorem q2001 : (Jvm.Cond.methodLink "jdk/internal/misc/Unsafe" (791 : Nat) ({ cls := "jdk/internal/misc/Unsafe", name := "toUnsignedLong", desc := "(I)J" } : Jvm.MethodName)) ∈ lw_all := lw_g (lw_at lw_m8 215 rfl) rfl
theorem q2002 : (Jvm.Cond.static ({ cls := "jdk/internal/misc/Unsafe", name := "toUnsignedLong", desc := "(I)J" } : Jvm.MethodName)) ∈ lw_all := lw_g (lw_at lw_m8 216 rfl) rfl
theorem q2003 : (Jvm.Cond.code ({ cls := "jdk/internal/misc/Unsafe", name := "toUnsignedLong", desc := "(I)J" } : Jvm.MethodName) prog_109_method_370_code (1 : Nat) (Option.some Jvm.ClassFile.FieldType.long)) ∈ lw_all := lw_g (lw_at lw_m8 217 rfl) rfl
theorem q2004 : (Jvm.Cond.constantLong "jdk/internal/misc/Unsafe" (812 : Nat) (4294967295 : Int64)) ∈ lw_all := lw_g (lw_at lw_m8 218 rfl) rfl
theorem q2005 : (Jvm.Cond.methodLink "jdk/internal/misc/Unsafe" (784 : Nat) ({ cls := "jdk/internal/misc/Unsafe", name := "pickPos", desc := "(II)I" } : Jvm.MethodName)) ∈ lw_all := lw_g (lw_at lw_m8 219 rfl) rfl
theorem q2006 : (Jvm.Cond.static ({ cls := "jdk/internal/misc/Unsafe", name := "pickPos", desc := "(II)I" } : Jvm.MethodName)) ∈ lw_all := lw_g (lw_at lw_m8 220 rfl) rfl
theorem q2007 : (Jvm.Cond.code ({ cls := "jdk/internal/misc/Unsafe", name := "pickPos", desc := "(II)I" } : Jvm.MethodName) prog_109_method_350_code (2 : Nat) (Option.some Jvm.ClassFile.FieldType.int)) ∈ lw_all := lw_g (lw_at lw_m8 221 rfl) rfl
theorem q2008 : (Jvm.Cond.fieldLink "jdk/internal/misc/Unsafe" (351 : Nat) "jdk/internal/misc/UnsafeConstants" "BIG_ENDIAN" "Z") ∈ lw_all := lw_g (lw_at lw_m8 222 rfl) rfl
theorem q2010 : (Jvm.Cond.methodLink "jdk/internal/misc/Unsafe" (47 : Nat) ({ cls := "jdk/internal/misc/Unsafe", name := "getShort", desc := "(Ljava/lang/Object;J)S" } : Jvm.MethodName)) ∈ lw_all := lw_g (lw_at lw_m8 224 rfl) rfl
theorem q2011 : (Jvm.Cond.instanceMethod ({ cls := "jdk/internal/misc/Unsafe", name := "getShort", desc := "(Ljava/lang/Object;J)S" } : Jvm.MethodName)) ∈ lw_all := lw_g (lw_at lw_m8 225 rfl) rfl
theorem q2012 : (Jvm.Cond.selects "jdk/internal/misc/Unsafe" ({ cls := "jdk/internal/misc/Unsafe", name := "getShort", desc := "(Ljava/lang/Object;J)S" } : Jvm.MethodName) ({ cls := "jdk/internal/misc/Unsafe", name := "getShort", desc := "(Ljava/lang/Object;J)S" } : Jvm.MethodName)) ∈ lw_all := lw_g (lw_at lw_m8 226 rfl) rfl
theorem q2013 : (Jvm.Cond.native ({ cls := "jdk/internal/misc/Unsafe", name := "getShort", desc := "(Ljava/lang/Object;J)S" } : Jvm.MethodName)) ∈ lw_all := lw_g (lw_at lw_m8 227 rfl) rfl
theorem q2014 : (Jvm.Cond.constantLong "jdk/internal/misc/Unsafe" (203 : Nat) (2 : Int64)) ∈ lw_all := lw_g (lw_at lw_m8 228 rfl) rfl
theorem q2015 : (Jvm.Cond.constantLong "jdk/internal/misc/Unsafe" (702 : Nat) (6 : Int64)) ∈ lw_all := lw_g (lw_at lw_m8 229 rfl) rfl
theorem q2016 : (Jvm.Cond.methodLink "jdk/internal/misc/Unsafe" (704 : Nat) ({ cls := "jdk/internal/misc/Unsafe", name := "makeLong", desc := "(SSSS)J" } : Jvm.MethodName)) ∈ lw_all := lw_g (lw_at lw_m8 230 rfl) rfl
theorem q2017 : (Jvm.Cond.static ({ cls := "jdk/internal/misc/Unsafe", name := "makeLong", desc := "(SSSS)J" } : Jvm.MethodName)) ∈ lw_all := lw_g (lw_at lw_m8 231 rfl) rfl
theorem q2018 : (Jvm.Cond.code ({ cls := "jdk/internal/misc/Unsafe", name := "makeLong", desc := "(SSSS)J" } : Jvm.MethodName) prog_109_method_352_code (4 : Nat) (Option.some Jvm.ClassFile.FieldType.long)) ∈ lw_all := lw_g (lw_at lw_m8 232 rfl) rfl
theorem q2019 : (Jvm.Cond.methodLink "jdk/internal/misc/Unsafe" (788 : Nat) ({ cls := "jdk/internal/misc/Unsafe", name := "toUnsignedLong", desc := "(S)J" } : Jvm.MethodName)) ∈ lw_all := lw_g (lw_at lw_m8 233 rfl) rfl
theorem q2020 : (Jvm.Cond.static ({ cls := "jdk/internal/misc/Unsafe", name := "toUnsignedLong", desc := "(S)J" } : Jvm.MethodName)) ∈ lw_all := lw_g (lw_at lw_m8 234 rfl) rfl
theorem q2021 : (Jvm.Cond.code ({ cls := "jdk/internal/misc/Unsafe", name := "toUnsignedLong", desc := "(S)J" } : Jvm.MethodName) prog_109_method_369_code (1 : Nat) (Option.some Jvm.ClassFile.FieldType.long)) ∈ lw_all := lw_g (lw_at lw_m8 235 rfl) rfl
theorem q2022 : (Jvm.Cond.constantLong "jdk/internal/misc/Unsafe" (810 : Nat) (65535 : Int64)) ∈ lw_all := lw_g (lw_at lw_m8 236 rfl) rfl
theorem q2023 : (Jvm.Cond.methodLink "jdk/internal/misc/Unsafe" (39 : Nat) ({ cls := "jdk/internal/misc/Unsafe", name := "getByte", desc := "(Ljava/lang/Object;J)B" } : Jvm.MethodName)) ∈ lw_all := lw_g (lw_at lw_m8 237 rfl) rfl
theorem q2024 : (Jvm.Cond.instanceMethod ({ cls := "jdk/internal/misc/Unsafe", name := "getByte", desc := "(Ljava/lang/Object;J)B" } : Jvm.MethodName)) ∈ lw_all := lw_g (lw_at lw_m8 238 rfl) rfl
theorem q2025 : (Jvm.Cond.selects "jdk/internal/misc/Unsafe" ({ cls := "jdk/internal/misc/Unsafe", name := "getByte", desc := "(Ljava/lang/Object;J)B" } : Jvm.MethodName) ({ cls := "jdk/internal/misc/Unsafe", name := "getByte", desc := "(Ljava/lang/Object;J)B" } : Jvm.MethodName)) ∈ lw_all := lw_g (lw_at lw_m8 239 rfl) rfl
theorem q2026 : (Jvm.Cond.native ({ cls := "jdk/internal/misc/Unsafe", name := "getByte", desc := "(Ljava/lang/Object;J)B" } : Jvm.MethodName)) ∈ lw_all := lw_g (lw_at lw_m9 0 rfl) rfl
theorem q2027 : (Jvm.Cond.constantLong "jdk/internal/misc/Unsafe" (707 : Nat) (5 : Int64)) ∈ lw_all := lw_g (lw_at lw_m9 1 rfl) rfl
theorem q2028 : (Jvm.Cond.methodLink "jdk/internal/misc/Unsafe" (709 : Nat) ({ cls := "jdk/internal/misc/Unsafe", name := "makeLong", desc := "(BBBBBBBB)J" } : Jvm.MethodName)) ∈ lw_all := lw_g (lw_at lw_m9 2 rfl) rfl
theorem q2029 : (Jvm.Cond.static ({ cls := "jdk/internal/misc/Unsafe", name := "makeLong", desc := "(BBBBBBBB)J" } : Jvm.MethodName)) ∈ lw_all := lw_g (lw_at lw_m9 3 rfl) rfl
theorem q2030 : (Jvm.Cond.code ({ cls := "jdk/internal/misc/Unsafe", name := "makeLong", desc := "(BBBBBBBB)J" } : Jvm.MethodName) prog_109_method_351_code (8 : Nat) (Option.some Jvm.ClassFile.FieldType.long)) ∈ lw_all := lw_g (lw_at lw_m9 4 rfl) rfl
theorem q2031 : (Jvm.Cond.methodLink "jdk/internal/misc/Unsafe" (781 : Nat) ({ cls := "jdk/internal/misc/Unsafe", name := "toUnsignedLong", desc := "(B)J" } : Jvm.MethodName)) ∈ lw_all := lw_g (lw_at lw_m9 5 rfl) rfl
theorem q2032 : (Jvm.Cond.static ({ cls := "jdk/internal/misc/Unsafe", name := "toUnsignedLong", desc := "(B)J" } : Jvm.MethodName)) ∈ lw_all := lw_g (lw_at lw_m9 6 rfl) rfl
theorem q2033 : (Jvm.Cond.code ({ cls := "jdk/internal/misc/Unsafe", name := "toUnsignedLong", desc := "(B)J" } : Jvm.MethodName) prog_109_method_368_code (1 : Nat) (Option.some Jvm.ClassFile.FieldType.long)) ∈ lw_all := lw_g (lw_at lw_m9 7 rfl) rfl
theorem q2034 : (Jvm.Cond.constantLong "jdk/internal/misc/Unsafe" (808 : Nat) (255 : Int64)) ∈ lw_all := lw_g (lw_at lw_m9 8 rfl) rfl
theorem q2055 : (Jvm.Cond.instanceMethod ({ cls := "jdk/internal/misc/Unsafe", name := "getIntUnaligned", desc := "(Ljava/lang/Object;J)I" } : Jvm.MethodName)) ∈ lw_all := lw_g (lw_at lw_m9 29 rfl) rfl
theorem q2056 : (Jvm.Cond.selects "jdk/internal/misc/Unsafe" ({ cls := "jdk/internal/misc/Unsafe", name := "getIntUnaligned", desc := "(Ljava/lang/Object;J)I" } : Jvm.MethodName) ({ cls := "jdk/internal/misc/Unsafe", name := "getIntUnaligned", desc := "(Ljava/lang/Object;J)I" } : Jvm.MethodName)) ∈ lw_all := lw_g (lw_at lw_m9 30 rfl) rfl
theorem q2057 : (Jvm.Cond.code ({ cls := "jdk/internal/misc/Unsafe", name := "getIntUnaligned", desc := "(Ljava/lang/Object;J)I" } : Jvm.MethodName) prog_109_method_336_code (4 : Nat) (Option.some Jvm.ClassFile.FieldType.int)) ∈ lw_all := lw_g (lw_at lw_m9 31 rfl) rfl
theorem q2058 : (Jvm.Cond.methodLink "jdk/internal/misc/Unsafe" (719 : Nat) ({ cls := "jdk/internal/misc/Unsafe", name := "makeInt", desc := "(SS)I" } : Jvm.MethodName)) ∈ lw_all := lw_g (lw_at lw_m9 32 rfl) rfl
theorem q2059 : (Jvm.Cond.static ({ cls := "jdk/internal/misc/Unsafe", name := "makeInt", desc := "(SS)I" } : Jvm.MethodName)) ∈ lw_all := lw_g (lw_at lw_m9 33 rfl) rfl
theorem q2060 : (Jvm.Cond.code ({ cls := "jdk/internal/misc/Unsafe", name := "makeInt", desc := "(SS)I" } : Jvm.MethodName) prog_109_method_354_code (2 : Nat) (Option.some Jvm.ClassFile.FieldType.int)) ∈ lw_all := lw_g (lw_at lw_m9 34 rfl) rfl
theorem q2061 : (Jvm.Cond.methodLink "jdk/internal/misc/Unsafe" (792 : Nat) ({ cls := "jdk/internal/misc/Unsafe", name := "toUnsignedInt", desc := "(S)I" } : Jvm.MethodName)) ∈ lw_all := lw_g (lw_at lw_m9 35 rfl) rfl
theorem q2062 : (Jvm.Cond.static ({ cls := "jdk/internal/misc/Unsafe", name := "toUnsignedInt", desc := "(S)I" } : Jvm.MethodName)) ∈ lw_all := lw_g (lw_at lw_m9 36 rfl) rfl
theorem q2063 : (Jvm.Cond.code ({ cls := "jdk/internal/misc/Unsafe", name := "toUnsignedInt", desc := "(S)I" } : Jvm.MethodName) prog_109_method_367_code (1 : Nat) (Option.some Jvm.ClassFile.FieldType.int)) ∈ lw_all := lw_g (lw_at lw_m9 37 rfl) rfl
theorem q2064 : (Jvm.Cond.constant "jdk/internal/misc/Unsafe" (374 : Nat) (65535 : Int32)) ∈ lw_all := lw_g (lw_at lw_m9 38 rfl) rfl
theorem q2065 : (Jvm.Cond.methodLink "jdk/internal/misc/Unsafe" (723 : Nat) ({ cls := "jdk/internal/misc/Unsafe", name := "makeInt", desc := "(BBBB)I" } : Jvm.MethodName)) ∈ lw_all := lw_g (lw_at lw_m9 39 rfl) rfl
theorem q2066 : (Jvm.Cond.static ({ cls := "jdk/internal/misc/Unsafe", name := "makeInt", desc := "(BBBB)I" } : Jvm.MethodName)) ∈ lw_all := lw_g (lw_at lw_m9 40 rfl) rfl
theorem q2067 : (Jvm.Cond.code ({ cls := "jdk/internal/misc/Unsafe", name := "makeInt", desc := "(BBBB)I" } : Jvm.MethodName) prog_109_method_355_code (4 : Nat) (Option.some Jvm.ClassFile.FieldType.int)) ∈ lw_all := lw_g (lw_at lw_m9 41 rfl) rfl
theorem q2068 : (Jvm.Cond.methodLink "jdk/internal/misc/Unsafe" (796 : Nat) ({ cls := "jdk/internal/misc/Unsafe", name := "toUnsignedInt", desc := "(B)I" } : Jvm.MethodName)) ∈ lw_all := lw_g (lw_at lw_m9 42 rfl) rfl
theorem q2069 : (Jvm.Cond.static ({ cls := "jdk/internal/misc/Unsafe", name := "toUnsignedInt", desc := "(B)I" } : Jvm.MethodName)) ∈ lw_all := lw_g (lw_at lw_m9 43 rfl) rfl
theorem q2070 : (Jvm.Cond.code ({ cls := "jdk/internal/misc/Unsafe", name := "toUnsignedInt", desc := "(B)I" } : Jvm.MethodName) prog_109_method_366_code (1 : Nat) (Option.some Jvm.ClassFile.FieldType.int)) ∈ lw_all := lw_g (lw_at lw_m9 44 rfl) rfl
theorem q4007 : (Jvm.Cond.castable "jdk/internal/misc/Unsafe" "java/lang/Object") ∈ lw_tbl := lw_at lw_m17 61 rfl

/-! java/lang/Long -/
set_option maxRecDepth 100000
def RJ39 : String := "java/lang/Long"
abbrev cJ39_numberOfLeadingZeros : ByteArray := prog_47_method_48_code
def yJ39_numberOfLeadingZeros : MethodName := ⟨RJ39, "numberOfLeadingZeros", "(J)I"⟩
def dkwJ39_numberOfLeadingZeros_1 : List UInt8 := [184, 1, 52, 172]
abbrev dktJ39_numberOfLeadingZeros_1 : List UInt8 := dkwJ39_numberOfLeadingZeros_1 ++ []
def dkwJ39_numberOfLeadingZeros_0 : List UInt8 := [30, 16, 32, 125, 136, 61, 28, 154, 0, 14, 16, 32, 30, 136, 184, 1, 52, 96, 167, 0, 7, 28]
abbrev dktJ39_numberOfLeadingZeros_0 : List UInt8 := dkwJ39_numberOfLeadingZeros_0 ++ dktJ39_numberOfLeadingZeros_1
theorem dksJ39_numberOfLeadingZeros_0 : cJ39_numberOfLeadingZeros.data.toList.drop 0 = dktJ39_numberOfLeadingZeros_0 := by decide +kernel
theorem dksJ39_numberOfLeadingZeros_1 : cJ39_numberOfLeadingZeros.data.toList.drop 22 = dktJ39_numberOfLeadingZeros_1 := dk_seg dksJ39_numberOfLeadingZeros_0 22 rfl rfl
theorem dJ39_numberOfLeadingZeros_0 : decode cJ39_numberOfLeadingZeros 0 = .ok (.lload_n 0, 1) := dk_30 (dk_at dksJ39_numberOfLeadingZeros_0 0 rfl rfl)
theorem dJ39_numberOfLeadingZeros_1 : decode cJ39_numberOfLeadingZeros 1 = .ok (.bipush 32, 2) := dk_16 32 (dk_at dksJ39_numberOfLeadingZeros_0 1 rfl rfl)
theorem dJ39_numberOfLeadingZeros_3 : decode cJ39_numberOfLeadingZeros 3 = .ok (.lushr, 1) := dk_125 (dk_at dksJ39_numberOfLeadingZeros_0 3 rfl rfl)
theorem dJ39_numberOfLeadingZeros_4 : decode cJ39_numberOfLeadingZeros 4 = .ok (.l2i, 1) := dk_136 (dk_at dksJ39_numberOfLeadingZeros_0 4 rfl rfl)
theorem dJ39_numberOfLeadingZeros_5 : decode cJ39_numberOfLeadingZeros 5 = .ok (.istore_n 2, 1) := dk_61 (dk_at dksJ39_numberOfLeadingZeros_0 5 rfl rfl)
theorem dJ39_numberOfLeadingZeros_6 : decode cJ39_numberOfLeadingZeros 6 = .ok (.iload_n 2, 1) := dk_28 (dk_at dksJ39_numberOfLeadingZeros_0 6 rfl rfl)
theorem dJ39_numberOfLeadingZeros_7 : decode cJ39_numberOfLeadingZeros 7 = .ok (.ifCond .ne 14, 3) := dk_154 0 14 (dk_at dksJ39_numberOfLeadingZeros_0 7 rfl rfl)
theorem dJ39_numberOfLeadingZeros_10 : decode cJ39_numberOfLeadingZeros 10 = .ok (.bipush 32, 2) := dk_16 32 (dk_at dksJ39_numberOfLeadingZeros_0 10 rfl rfl)
theorem dJ39_numberOfLeadingZeros_12 : decode cJ39_numberOfLeadingZeros 12 = .ok (.lload_n 0, 1) := dk_30 (dk_at dksJ39_numberOfLeadingZeros_0 12 rfl rfl)
theorem dJ39_numberOfLeadingZeros_13 : decode cJ39_numberOfLeadingZeros 13 = .ok (.l2i, 1) := dk_136 (dk_at dksJ39_numberOfLeadingZeros_0 13 rfl rfl)
theorem dJ39_numberOfLeadingZeros_14 : decode cJ39_numberOfLeadingZeros 14 = .ok (.invokestatic 308, 3) := dk_184 1 52 (dk_at dksJ39_numberOfLeadingZeros_0 14 rfl rfl)
theorem dJ39_numberOfLeadingZeros_17 : decode cJ39_numberOfLeadingZeros 17 = .ok (.iadd, 1) := dk_96 (dk_at dksJ39_numberOfLeadingZeros_0 17 rfl rfl)
theorem dJ39_numberOfLeadingZeros_18 : decode cJ39_numberOfLeadingZeros 18 = .ok (.goto 7, 3) := dk_167 0 7 (dk_at dksJ39_numberOfLeadingZeros_0 18 rfl rfl)
theorem dJ39_numberOfLeadingZeros_21 : decode cJ39_numberOfLeadingZeros 21 = .ok (.iload_n 2, 1) := dk_28 (dk_at dksJ39_numberOfLeadingZeros_0 21 rfl rfl)
theorem dJ39_numberOfLeadingZeros_22 : decode cJ39_numberOfLeadingZeros 22 = .ok (.invokestatic 308, 3) := dk_184 1 52 (dk_at dksJ39_numberOfLeadingZeros_1 0 rfl rfl)
theorem dJ39_numberOfLeadingZeros_25 : decode cJ39_numberOfLeadingZeros 25 = .ok (.ireturn, 1) := dk_172 (dk_at dksJ39_numberOfLeadingZeros_1 3 rfl rfl)
abbrev cJ39_numberOfTrailingZeros : ByteArray := prog_47_method_49_code
def yJ39_numberOfTrailingZeros : MethodName := ⟨RJ39, "numberOfTrailingZeros", "(J)I"⟩
def dkwJ39_numberOfTrailingZeros_1 : List UInt8 := [184, 1, 55, 172]
abbrev dktJ39_numberOfTrailingZeros_1 : List UInt8 := dkwJ39_numberOfTrailingZeros_1 ++ []
def dkwJ39_numberOfTrailingZeros_0 : List UInt8 := [30, 136, 61, 28, 154, 0, 17, 16, 32, 30, 16, 32, 125, 136, 184, 1, 55, 96, 167, 0, 7, 28]
abbrev dktJ39_numberOfTrailingZeros_0 : List UInt8 := dkwJ39_numberOfTrailingZeros_0 ++ dktJ39_numberOfTrailingZeros_1
theorem dksJ39_numberOfTrailingZeros_0 : cJ39_numberOfTrailingZeros.data.toList.drop 0 = dktJ39_numberOfTrailingZeros_0 := by decide +kernel
theorem dksJ39_numberOfTrailingZeros_1 : cJ39_numberOfTrailingZeros.data.toList.drop 22 = dktJ39_numberOfTrailingZeros_1 := dk_seg dksJ39_numberOfTrailingZeros_0 22 rfl rfl
theorem dJ39_numberOfTrailingZeros_0 : decode cJ39_numberOfTrailingZeros 0 = .ok (.lload_n 0, 1) := dk_30 (dk_at dksJ39_numberOfTrailingZeros_0 0 rfl rfl)
theorem dJ39_numberOfTrailingZeros_1 : decode cJ39_numberOfTrailingZeros 1 = .ok (.l2i, 1) := dk_136 (dk_at dksJ39_numberOfTrailingZeros_0 1 rfl rfl)
theorem dJ39_numberOfTrailingZeros_2 : decode cJ39_numberOfTrailingZeros 2 = .ok (.istore_n 2, 1) := dk_61 (dk_at dksJ39_numberOfTrailingZeros_0 2 rfl rfl)
theorem dJ39_numberOfTrailingZeros_3 : decode cJ39_numberOfTrailingZeros 3 = .ok (.iload_n 2, 1) := dk_28 (dk_at dksJ39_numberOfTrailingZeros_0 3 rfl rfl)
theorem dJ39_numberOfTrailingZeros_4 : decode cJ39_numberOfTrailingZeros 4 = .ok (.ifCond .ne 17, 3) := dk_154 0 17 (dk_at dksJ39_numberOfTrailingZeros_0 4 rfl rfl)
theorem dJ39_numberOfTrailingZeros_7 : decode cJ39_numberOfTrailingZeros 7 = .ok (.bipush 32, 2) := dk_16 32 (dk_at dksJ39_numberOfTrailingZeros_0 7 rfl rfl)
theorem dJ39_numberOfTrailingZeros_9 : decode cJ39_numberOfTrailingZeros 9 = .ok (.lload_n 0, 1) := dk_30 (dk_at dksJ39_numberOfTrailingZeros_0 9 rfl rfl)
theorem dJ39_numberOfTrailingZeros_10 : decode cJ39_numberOfTrailingZeros 10 = .ok (.bipush 32, 2) := dk_16 32 (dk_at dksJ39_numberOfTrailingZeros_0 10 rfl rfl)
theorem dJ39_numberOfTrailingZeros_12 : decode cJ39_numberOfTrailingZeros 12 = .ok (.lushr, 1) := dk_125 (dk_at dksJ39_numberOfTrailingZeros_0 12 rfl rfl)
theorem dJ39_numberOfTrailingZeros_13 : decode cJ39_numberOfTrailingZeros 13 = .ok (.l2i, 1) := dk_136 (dk_at dksJ39_numberOfTrailingZeros_0 13 rfl rfl)
theorem dJ39_numberOfTrailingZeros_14 : decode cJ39_numberOfTrailingZeros 14 = .ok (.invokestatic 311, 3) := dk_184 1 55 (dk_at dksJ39_numberOfTrailingZeros_0 14 rfl rfl)
theorem dJ39_numberOfTrailingZeros_17 : decode cJ39_numberOfTrailingZeros 17 = .ok (.iadd, 1) := dk_96 (dk_at dksJ39_numberOfTrailingZeros_0 17 rfl rfl)
theorem dJ39_numberOfTrailingZeros_18 : decode cJ39_numberOfTrailingZeros 18 = .ok (.goto 7, 3) := dk_167 0 7 (dk_at dksJ39_numberOfTrailingZeros_0 18 rfl rfl)
theorem dJ39_numberOfTrailingZeros_21 : decode cJ39_numberOfTrailingZeros 21 = .ok (.iload_n 2, 1) := dk_28 (dk_at dksJ39_numberOfTrailingZeros_0 21 rfl rfl)
theorem dJ39_numberOfTrailingZeros_22 : decode cJ39_numberOfTrailingZeros 22 = .ok (.invokestatic 311, 3) := dk_184 1 55 (dk_at dksJ39_numberOfTrailingZeros_1 0 rfl rfl)
theorem dJ39_numberOfTrailingZeros_25 : decode cJ39_numberOfTrailingZeros 25 = .ok (.ireturn, 1) := dk_172 (dk_at dksJ39_numberOfTrailingZeros_1 3 rfl rfl)
theorem q160 : (Jvm.Cond.initialized "java/lang/Long") ∈ lw_all := lw_g (lw_at lw_m1 54 rfl) rfl
theorem q2038 : (Jvm.Cond.static ({ cls := "java/lang/Long", name := "numberOfLeadingZeros", desc := "(J)I" } : Jvm.MethodName)) ∈ lw_all := lw_g (lw_at lw_m9 12 rfl) rfl
theorem q2039 : (Jvm.Cond.code ({ cls := "java/lang/Long", name := "numberOfLeadingZeros", desc := "(J)I" } : Jvm.MethodName) prog_47_method_48_code (3 : Nat) (Option.some Jvm.ClassFile.FieldType.int)) ∈ lw_all := lw_g (lw_at lw_m9 13 rfl) rfl
theorem q2040 : (Jvm.Cond.methodLink "java/lang/Long" (308 : Nat) ({ cls := "java/lang/Integer", name := "numberOfLeadingZeros", desc := "(I)I" } : Jvm.MethodName)) ∈ lw_all := lw_g (lw_at lw_m9 14 rfl) rfl
theorem q2047 : (Jvm.Cond.static ({ cls := "java/lang/Long", name := "numberOfTrailingZeros", desc := "(J)I" } : Jvm.MethodName)) ∈ lw_all := lw_g (lw_at lw_m9 21 rfl) rfl
theorem q2048 : (Jvm.Cond.code ({ cls := "java/lang/Long", name := "numberOfTrailingZeros", desc := "(J)I" } : Jvm.MethodName) prog_47_method_49_code (3 : Nat) (Option.some Jvm.ClassFile.FieldType.int)) ∈ lw_all := lw_g (lw_at lw_m9 22 rfl) rfl
theorem q2049 : (Jvm.Cond.methodLink "java/lang/Long" (311 : Nat) ({ cls := "java/lang/Integer", name := "numberOfTrailingZeros", desc := "(I)I" } : Jvm.MethodName)) ∈ lw_all := lw_g (lw_at lw_m9 23 rfl) rfl

/-! CavePearls$2 -/
set_option maxRecDepth 100000
def RX12 : String := "CavePearls$2"
def TX12 : u_T := fun k => match k with
  | 0 => ("CavePearls$2", "val$pool", "I", true)
  | 1 => ("CavePearls$2", "val$size", "I", true)
  | _ => ("CavePearls$2", "this$0", "LCavePearls;", true)
def tyX12 : Nat → FieldType := fun k => match k with
  | 0 => .int
  | 1 => .int
  | _ => .object "CavePearls"
abbrev wsX120 : List Cond := u_ws RX12 TX12 3
theorem nmX12 : ∀ a, a < 3 → ∀ b, b < 3 → a ≠ b → (TX12 a).2.1 ≠ (TX12 b).2.1 := by decide +kernel
theorem tyX12_ok : ∀ k, k < 3 → parseFieldDescriptor (TX12 k).2.2.1 = some (tyX12 k) := by decide +kernel
abbrev cX12_carryOut : ByteArray := prog_4_method_2_code
def yX12_carryOut : MethodName := ⟨RX12, "carryOut", "(LCavePearls$World;)I"⟩
def dkwX12_carryOut_0 : List UInt8 := [43, 42, 180, 0, 7, 42, 180, 0, 11, 182, 0, 20, 172]
abbrev dktX12_carryOut_0 : List UInt8 := dkwX12_carryOut_0 ++ []
theorem dksX12_carryOut_0 : cX12_carryOut.data.toList.drop 0 = dktX12_carryOut_0 := by decide +kernel
theorem dX12_carryOut_0 : decode cX12_carryOut 0 = .ok (.aload_n 1, 1) := dk_43 (dk_at dksX12_carryOut_0 0 rfl rfl)
theorem dX12_carryOut_1 : decode cX12_carryOut 1 = .ok (.aload_n 0, 1) := dk_42 (dk_at dksX12_carryOut_0 1 rfl rfl)
theorem dX12_carryOut_2 : decode cX12_carryOut 2 = .ok (.getfield 7, 3) := dk_180 0 7 (dk_at dksX12_carryOut_0 2 rfl rfl)
theorem dX12_carryOut_5 : decode cX12_carryOut 5 = .ok (.aload_n 0, 1) := dk_42 (dk_at dksX12_carryOut_0 5 rfl rfl)
theorem dX12_carryOut_6 : decode cX12_carryOut 6 = .ok (.getfield 11, 3) := dk_180 0 11 (dk_at dksX12_carryOut_0 6 rfl rfl)
theorem dX12_carryOut_9 : decode cX12_carryOut 9 = .ok (.invokevirtual 20, 3) := dk_182 0 20 (dk_at dksX12_carryOut_0 9 rfl rfl)
theorem dX12_carryOut_12 : decode cX12_carryOut 12 = .ok (.ireturn, 1) := dk_172 (dk_at dksX12_carryOut_0 12 rfl rfl)
abbrev cX12_init : ByteArray := prog_4_method_1_code
def yX12_init : MethodName := ⟨RX12, "<init>", "(LCavePearls;II)V"⟩
def dkwX12_init_0 : List UInt8 := [42, 43, 181, 0, 1, 42, 28, 181, 0, 7, 42, 29, 181, 0, 11, 42, 183, 0, 14, 177]
abbrev dktX12_init_0 : List UInt8 := dkwX12_init_0 ++ []
theorem dksX12_init_0 : cX12_init.data.toList.drop 0 = dktX12_init_0 := by decide +kernel
theorem dX12_init_0 : decode cX12_init 0 = .ok (.aload_n 0, 1) := dk_42 (dk_at dksX12_init_0 0 rfl rfl)
theorem dX12_init_1 : decode cX12_init 1 = .ok (.aload_n 1, 1) := dk_43 (dk_at dksX12_init_0 1 rfl rfl)
theorem dX12_init_2 : decode cX12_init 2 = .ok (.putfield 1, 3) := dk_181 0 1 (dk_at dksX12_init_0 2 rfl rfl)
theorem dX12_init_5 : decode cX12_init 5 = .ok (.aload_n 0, 1) := dk_42 (dk_at dksX12_init_0 5 rfl rfl)
theorem dX12_init_6 : decode cX12_init 6 = .ok (.iload_n 2, 1) := dk_28 (dk_at dksX12_init_0 6 rfl rfl)
theorem dX12_init_7 : decode cX12_init 7 = .ok (.putfield 7, 3) := dk_181 0 7 (dk_at dksX12_init_0 7 rfl rfl)
theorem dX12_init_10 : decode cX12_init 10 = .ok (.aload_n 0, 1) := dk_42 (dk_at dksX12_init_0 10 rfl rfl)
theorem dX12_init_11 : decode cX12_init 11 = .ok (.iload_n 3, 1) := dk_29 (dk_at dksX12_init_0 11 rfl rfl)
theorem dX12_init_12 : decode cX12_init 12 = .ok (.putfield 11, 3) := dk_181 0 11 (dk_at dksX12_init_0 12 rfl rfl)
theorem dX12_init_15 : decode cX12_init 15 = .ok (.aload_n 0, 1) := dk_42 (dk_at dksX12_init_0 15 rfl rfl)
theorem dX12_init_16 : decode cX12_init 16 = .ok (.invokespecial 14, 3) := dk_183 0 14 (dk_at dksX12_init_0 16 rfl rfl)
theorem dX12_init_19 : decode cX12_init 19 = .ok (.return_, 1) := dk_177 (dk_at dksX12_init_0 19 rfl rfl)
theorem q161 : (Jvm.Cond.initialized "CavePearls$2") ∈ lw_all := lw_g (lw_at lw_m1 55 rfl) rfl
theorem q919 : (Jvm.Cond.selects "CavePearls$2" ({ cls := "java/lang/Object", name := "getClass", desc := "()Ljava/lang/Class;" } : Jvm.MethodName) ({ cls := "java/lang/Object", name := "getClass", desc := "()Ljava/lang/Class;" } : Jvm.MethodName)) ∈ lw_all := lw_g (lw_at lw_m4 93 rfl) rfl
theorem q1549 : (Jvm.Cond.castable "CavePearls$2" "CavePearls$Deed") ∈ lw_tbl := lw_at lw_m7 3 rfl
theorem q1550 : (Jvm.Cond.selects "CavePearls$2" ({ cls := "CavePearls$Deed", name := "carryOut", desc := "(LCavePearls$World;)I" } : Jvm.MethodName) ({ cls := "CavePearls$2", name := "carryOut", desc := "(LCavePearls$World;)I" } : Jvm.MethodName)) ∈ lw_all := lw_g (lw_at lw_m7 4 rfl) rfl
theorem q1551 : (Jvm.Cond.unhidden "CavePearls$2" "carryOut" "(LCavePearls$World;)I") ∈ lw_tbl := lw_at lw_m7 5 rfl
theorem q1552 : (Jvm.Cond.instanceMethod ({ cls := "CavePearls$2", name := "carryOut", desc := "(LCavePearls$World;)I" } : Jvm.MethodName)) ∈ lw_all := lw_g (lw_at lw_m7 6 rfl) rfl
theorem q1553 : (Jvm.Cond.publicMethod ({ cls := "CavePearls$2", name := "carryOut", desc := "(LCavePearls$World;)I" } : Jvm.MethodName)) ∈ lw_tbl := lw_at lw_m7 7 rfl
theorem q1554 : (Jvm.Cond.code ({ cls := "CavePearls$2", name := "carryOut", desc := "(LCavePearls$World;)I" } : Jvm.MethodName) prog_4_method_2_code (2 : Nat) (Option.some Jvm.ClassFile.FieldType.int)) ∈ lw_all := lw_g (lw_at lw_m7 8 rfl) rfl
theorem q1555 : (Jvm.Cond.methodLink "CavePearls$2" (20 : Nat) ({ cls := "CavePearls$World", name := "addPearl", desc := "(II)I" } : Jvm.MethodName)) ∈ lw_all := lw_g (lw_at lw_m7 9 rfl) rfl
theorem q2248 : (Jvm.Cond.unhidden "CavePearls$2" "isDone" "(LCavePearls$World;)Z") ∈ lw_tbl := lw_at lw_m9 222 rfl
theorem q2301 : (Jvm.Cond.instantiable "CavePearls$2" (3 : Nat)) ∈ lw_all := lw_g (lw_at lw_m10 35 rfl) rfl
theorem q2303 : (Jvm.Cond.instanceMethod ({ cls := "CavePearls$2", name := "<init>", desc := "(LCavePearls;II)V" } : Jvm.MethodName)) ∈ lw_all := lw_g (lw_at lw_m10 37 rfl) rfl
theorem q2304 : (Jvm.Cond.code ({ cls := "CavePearls$2", name := "<init>", desc := "(LCavePearls;II)V" } : Jvm.MethodName) prog_4_method_1_code (4 : Nat) (Option.none : Option Jvm.ClassFile.FieldType)) ∈ lw_all := lw_g (lw_at lw_m10 38 rfl) rfl
theorem q2305 : (Jvm.Cond.methodLink "CavePearls$2" (14 : Nat) ({ cls := "java/lang/Object", name := "<init>", desc := "()V" } : Jvm.MethodName)) ∈ lw_all := lw_g (lw_at lw_m10 39 rfl) rfl
theorem q2306 : (Jvm.Cond.fieldLink "CavePearls$2" (7 : Nat) "CavePearls$2" "val$pool" "I") ∈ lw_all := lw_g (lw_at lw_m10 40 rfl) rfl
theorem q2307 : (Jvm.Cond.fieldLink "CavePearls$2" (11 : Nat) "CavePearls$2" "val$size" "I") ∈ lw_all := lw_g (lw_at lw_m10 41 rfl) rfl
theorem q2308 : (Jvm.Cond.fieldLink "CavePearls$2" (1 : Nat) "CavePearls$2" "this$0" "LCavePearls;") ∈ lw_all := lw_g (lw_at lw_m10 42 rfl) rfl
theorem q2309 : (Jvm.Cond.laysFinal "CavePearls$2" "CavePearls$2" "val$pool" "I") ∈ lw_all := lw_g (lw_at lw_m10 43 rfl) rfl
theorem q2310 : (Jvm.Cond.soleField "CavePearls$2" "val$pool") ∈ lw_all := lw_g (lw_at lw_m10 44 rfl) rfl
theorem q2311 : (Jvm.Cond.laysFinal "CavePearls$2" "CavePearls$2" "val$size" "I") ∈ lw_all := lw_g (lw_at lw_m10 45 rfl) rfl
theorem q2312 : (Jvm.Cond.soleField "CavePearls$2" "val$size") ∈ lw_all := lw_g (lw_at lw_m10 46 rfl) rfl
theorem q2313 : (Jvm.Cond.laysFinal "CavePearls$2" "CavePearls$2" "this$0" "LCavePearls;") ∈ lw_all := lw_g (lw_at lw_m10 47 rfl) rfl
theorem q2314 : (Jvm.Cond.soleField "CavePearls$2" "this$0") ∈ lw_all := lw_g (lw_at lw_m10 48 rfl) rfl
theorem q2315 : (Jvm.Cond.superclass "CavePearls$2" "java/lang/Object") ∈ lw_all := lw_g (lw_at lw_m10 49 rfl) rfl
theorem q4003 : (Jvm.Cond.castable "CavePearls$2" "java/lang/Object") ∈ lw_tbl := lw_at lw_m17 57 rfl
theorem in_X12 : ∀ w ∈ wsX120, w ∈ lw_all := lw_in wsX120 [2309, 2311, 2313] (by decide +kernel) (by decide +kernel)

/-! CavePearls$3 -/
set_option maxRecDepth 100000
def RX13 : String := "CavePearls$3"
def TX13 : u_T := fun k => match k with
  | 0 => ("CavePearls$3", "val$pool", "I", true)
  | 1 => ("CavePearls$3", "val$place", "I", true)
  | _ => ("CavePearls$3", "this$0", "LCavePearls;", true)
def tyX13 : Nat → FieldType := fun k => match k with
  | 0 => .int
  | 1 => .int
  | _ => .object "CavePearls"
abbrev wsX130 : List Cond := u_ws RX13 TX13 3
theorem nmX13 : ∀ a, a < 3 → ∀ b, b < 3 → a ≠ b → (TX13 a).2.1 ≠ (TX13 b).2.1 := by decide +kernel
theorem tyX13_ok : ∀ k, k < 3 → parseFieldDescriptor (TX13 k).2.2.1 = some (tyX13 k) := by decide +kernel
abbrev cX13_carryOut : ByteArray := prog_5_method_2_code
def yX13_carryOut : MethodName := ⟨RX13, "carryOut", "(LCavePearls$World;)I"⟩
def dkwX13_carryOut_0 : List UInt8 := [43, 42, 180, 0, 7, 42, 180, 0, 11, 182, 0, 20, 172]
abbrev dktX13_carryOut_0 : List UInt8 := dkwX13_carryOut_0 ++ []
theorem dksX13_carryOut_0 : cX13_carryOut.data.toList.drop 0 = dktX13_carryOut_0 := by decide +kernel
theorem dX13_carryOut_0 : decode cX13_carryOut 0 = .ok (.aload_n 1, 1) := dk_43 (dk_at dksX13_carryOut_0 0 rfl rfl)
theorem dX13_carryOut_1 : decode cX13_carryOut 1 = .ok (.aload_n 0, 1) := dk_42 (dk_at dksX13_carryOut_0 1 rfl rfl)
theorem dX13_carryOut_2 : decode cX13_carryOut 2 = .ok (.getfield 7, 3) := dk_180 0 7 (dk_at dksX13_carryOut_0 2 rfl rfl)
theorem dX13_carryOut_5 : decode cX13_carryOut 5 = .ok (.aload_n 0, 1) := dk_42 (dk_at dksX13_carryOut_0 5 rfl rfl)
theorem dX13_carryOut_6 : decode cX13_carryOut 6 = .ok (.getfield 11, 3) := dk_180 0 11 (dk_at dksX13_carryOut_0 6 rfl rfl)
theorem dX13_carryOut_9 : decode cX13_carryOut 9 = .ok (.invokevirtual 20, 3) := dk_182 0 20 (dk_at dksX13_carryOut_0 9 rfl rfl)
theorem dX13_carryOut_12 : decode cX13_carryOut 12 = .ok (.ireturn, 1) := dk_172 (dk_at dksX13_carryOut_0 12 rfl rfl)
abbrev cX13_init : ByteArray := prog_5_method_1_code
def yX13_init : MethodName := ⟨RX13, "<init>", "(LCavePearls;II)V"⟩
def dkwX13_init_0 : List UInt8 := [42, 43, 181, 0, 1, 42, 28, 181, 0, 7, 42, 29, 181, 0, 11, 42, 183, 0, 14, 177]
abbrev dktX13_init_0 : List UInt8 := dkwX13_init_0 ++ []
theorem dksX13_init_0 : cX13_init.data.toList.drop 0 = dktX13_init_0 := by decide +kernel
theorem dX13_init_0 : decode cX13_init 0 = .ok (.aload_n 0, 1) := dk_42 (dk_at dksX13_init_0 0 rfl rfl)
theorem dX13_init_1 : decode cX13_init 1 = .ok (.aload_n 1, 1) := dk_43 (dk_at dksX13_init_0 1 rfl rfl)
theorem dX13_init_2 : decode cX13_init 2 = .ok (.putfield 1, 3) := dk_181 0 1 (dk_at dksX13_init_0 2 rfl rfl)
theorem dX13_init_5 : decode cX13_init 5 = .ok (.aload_n 0, 1) := dk_42 (dk_at dksX13_init_0 5 rfl rfl)
theorem dX13_init_6 : decode cX13_init 6 = .ok (.iload_n 2, 1) := dk_28 (dk_at dksX13_init_0 6 rfl rfl)
theorem dX13_init_7 : decode cX13_init 7 = .ok (.putfield 7, 3) := dk_181 0 7 (dk_at dksX13_init_0 7 rfl rfl)
theorem dX13_init_10 : decode cX13_init 10 = .ok (.aload_n 0, 1) := dk_42 (dk_at dksX13_init_0 10 rfl rfl)
theorem dX13_init_11 : decode cX13_init 11 = .ok (.iload_n 3, 1) := dk_29 (dk_at dksX13_init_0 11 rfl rfl)
theorem dX13_init_12 : decode cX13_init 12 = .ok (.putfield 11, 3) := dk_181 0 11 (dk_at dksX13_init_0 12 rfl rfl)
theorem dX13_init_15 : decode cX13_init 15 = .ok (.aload_n 0, 1) := dk_42 (dk_at dksX13_init_0 15 rfl rfl)
theorem dX13_init_16 : decode cX13_init 16 = .ok (.invokespecial 14, 3) := dk_183 0 14 (dk_at dksX13_init_0 16 rfl rfl)
theorem dX13_init_19 : decode cX13_init 19 = .ok (.return_, 1) := dk_177 (dk_at dksX13_init_0 19 rfl rfl)
theorem q162 : (Jvm.Cond.initialized "CavePearls$3") ∈ lw_all := lw_g (lw_at lw_m1 56 rfl) rfl
theorem q920 : (Jvm.Cond.selects "CavePearls$3" ({ cls := "java/lang/Object", name := "getClass", desc := "()Ljava/lang/Class;" } : Jvm.MethodName) ({ cls := "java/lang/Object", name := "getClass", desc := "()Ljava/lang/Class;" } : Jvm.MethodName)) ∈ lw_all := lw_g (lw_at lw_m4 94 rfl) rfl
theorem q1575 : (Jvm.Cond.castable "CavePearls$3" "CavePearls$Deed") ∈ lw_tbl := lw_at lw_m7 29 rfl
theorem q1576 : (Jvm.Cond.selects "CavePearls$3" ({ cls := "CavePearls$Deed", name := "carryOut", desc := "(LCavePearls$World;)I" } : Jvm.MethodName) ({ cls := "CavePearls$3", name := "carryOut", desc := "(LCavePearls$World;)I" } : Jvm.MethodName)) ∈ lw_all := lw_g (lw_at lw_m7 30 rfl) rfl
theorem q1577 : (Jvm.Cond.unhidden "CavePearls$3" "carryOut" "(LCavePearls$World;)I") ∈ lw_tbl := lw_at lw_m7 31 rfl
theorem q1578 : (Jvm.Cond.instanceMethod ({ cls := "CavePearls$3", name := "carryOut", desc := "(LCavePearls$World;)I" } : Jvm.MethodName)) ∈ lw_all := lw_g (lw_at lw_m7 32 rfl) rfl
theorem q1579 : (Jvm.Cond.publicMethod ({ cls := "CavePearls$3", name := "carryOut", desc := "(LCavePearls$World;)I" } : Jvm.MethodName)) ∈ lw_tbl := lw_at lw_m7 33 rfl
theorem q1580 : (Jvm.Cond.code ({ cls := "CavePearls$3", name := "carryOut", desc := "(LCavePearls$World;)I" } : Jvm.MethodName) prog_5_method_2_code (2 : Nat) (Option.some Jvm.ClassFile.FieldType.int)) ∈ lw_all := lw_g (lw_at lw_m7 34 rfl) rfl
theorem q1581 : (Jvm.Cond.methodLink "CavePearls$3" (20 : Nat) ({ cls := "CavePearls$World", name := "takePearl", desc := "(II)I" } : Jvm.MethodName)) ∈ lw_all := lw_g (lw_at lw_m7 35 rfl) rfl
theorem q2249 : (Jvm.Cond.unhidden "CavePearls$3" "isDone" "(LCavePearls$World;)Z") ∈ lw_tbl := lw_at lw_m9 223 rfl
theorem q2325 : (Jvm.Cond.instantiable "CavePearls$3" (3 : Nat)) ∈ lw_all := lw_g (lw_at lw_m10 59 rfl) rfl
theorem q2327 : (Jvm.Cond.instanceMethod ({ cls := "CavePearls$3", name := "<init>", desc := "(LCavePearls;II)V" } : Jvm.MethodName)) ∈ lw_all := lw_g (lw_at lw_m10 61 rfl) rfl
theorem q2328 : (Jvm.Cond.code ({ cls := "CavePearls$3", name := "<init>", desc := "(LCavePearls;II)V" } : Jvm.MethodName) prog_5_method_1_code (4 : Nat) (Option.none : Option Jvm.ClassFile.FieldType)) ∈ lw_all := lw_g (lw_at lw_m10 62 rfl) rfl
theorem q2329 : (Jvm.Cond.methodLink "CavePearls$3" (14 : Nat) ({ cls := "java/lang/Object", name := "<init>", desc := "()V" } : Jvm.MethodName)) ∈ lw_all := lw_g (lw_at lw_m10 63 rfl) rfl
theorem q2330 : (Jvm.Cond.fieldLink "CavePearls$3" (7 : Nat) "CavePearls$3" "val$pool" "I") ∈ lw_all := lw_g (lw_at lw_m10 64 rfl) rfl
theorem q2331 : (Jvm.Cond.fieldLink "CavePearls$3" (11 : Nat) "CavePearls$3" "val$place" "I") ∈ lw_all := lw_g (lw_at lw_m10 65 rfl) rfl
theorem q2332 : (Jvm.Cond.fieldLink "CavePearls$3" (1 : Nat) "CavePearls$3" "this$0" "LCavePearls;") ∈ lw_all := lw_g (lw_at lw_m10 66 rfl) rfl
theorem q2333 : (Jvm.Cond.laysFinal "CavePearls$3" "CavePearls$3" "val$pool" "I") ∈ lw_all := lw_g (lw_at lw_m10 67 rfl) rfl
theorem q2334 : (Jvm.Cond.soleField "CavePearls$3" "val$pool") ∈ lw_all := lw_g (lw_at lw_m10 68 rfl) rfl
theorem q2335 : (Jvm.Cond.laysFinal "CavePearls$3" "CavePearls$3" "val$place" "I") ∈ lw_all := lw_g (lw_at lw_m10 69 rfl) rfl
theorem q2336 : (Jvm.Cond.soleField "CavePearls$3" "val$place") ∈ lw_all := lw_g (lw_at lw_m10 70 rfl) rfl
theorem q2337 : (Jvm.Cond.laysFinal "CavePearls$3" "CavePearls$3" "this$0" "LCavePearls;") ∈ lw_all := lw_g (lw_at lw_m10 71 rfl) rfl
theorem q2338 : (Jvm.Cond.soleField "CavePearls$3" "this$0") ∈ lw_all := lw_g (lw_at lw_m10 72 rfl) rfl
theorem q2339 : (Jvm.Cond.superclass "CavePearls$3" "java/lang/Object") ∈ lw_all := lw_g (lw_at lw_m10 73 rfl) rfl
theorem q4004 : (Jvm.Cond.castable "CavePearls$3" "java/lang/Object") ∈ lw_tbl := lw_at lw_m17 58 rfl
theorem in_X13 : ∀ w ∈ wsX130, w ∈ lw_all := lw_in wsX130 [2333, 2335, 2337] (by decide +kernel) (by decide +kernel)

/-! java/util/TreeMap$Entry -/
set_option maxRecDepth 100000
def RJ40 : String := "java/util/TreeMap$Entry"
def TJ40 : u_T := fun k => match k with
  | 0 => ("java/util/TreeMap$Entry", "key", "Ljava/lang/Object;", false)
  | 1 => ("java/util/TreeMap$Entry", "value", "Ljava/lang/Object;", false)
  | 2 => ("java/util/TreeMap$Entry", "left", "Ljava/util/TreeMap$Entry;", false)
  | 3 => ("java/util/TreeMap$Entry", "right", "Ljava/util/TreeMap$Entry;", false)
  | 4 => ("java/util/TreeMap$Entry", "parent", "Ljava/util/TreeMap$Entry;", false)
  | _ => ("java/util/TreeMap$Entry", "color", "Z", false)
def tyJ40 : Nat → FieldType := fun k => match k with
  | 0 => .object "java/lang/Object"
  | 1 => .object "java/lang/Object"
  | 2 => .object "java/util/TreeMap$Entry"
  | 3 => .object "java/util/TreeMap$Entry"
  | 4 => .object "java/util/TreeMap$Entry"
  | _ => .boolean
abbrev wsJ400 : List Cond := u_ws RJ40 TJ40 6
theorem nmJ40 : ∀ a, a < 6 → ∀ b, b < 6 → a ≠ b → (TJ40 a).2.1 ≠ (TJ40 b).2.1 := by decide +kernel
theorem tyJ40_ok : ∀ k, k < 6 → parseFieldDescriptor (TJ40 k).2.2.1 = some (tyJ40 k) := by decide +kernel
abbrev cJ40_init : ByteArray := prog_104_method_1_code
def yJ40_init : MethodName := ⟨RJ40, "<init>", "(Ljava/lang/Object;Ljava/lang/Object;Ljava/util/TreeMap$Entry;)V"⟩
def dkwJ40_init_1 : List UInt8 := [177]
abbrev dktJ40_init_1 : List UInt8 := dkwJ40_init_1 ++ []
def dkwJ40_init_0 : List UInt8 := [42, 183, 0, 3, 42, 4, 181, 0, 9, 42, 43, 181, 0, 15, 42, 44, 181, 0, 19, 42, 45, 181, 0, 22]
abbrev dktJ40_init_0 : List UInt8 := dkwJ40_init_0 ++ dktJ40_init_1
theorem dksJ40_init_0 : cJ40_init.data.toList.drop 0 = dktJ40_init_0 := by decide +kernel
theorem dksJ40_init_1 : cJ40_init.data.toList.drop 24 = dktJ40_init_1 := dk_seg dksJ40_init_0 24 rfl rfl
theorem dJ40_init_0 : decode cJ40_init 0 = .ok (.aload_n 0, 1) := dk_42 (dk_at dksJ40_init_0 0 rfl rfl)
theorem dJ40_init_1 : decode cJ40_init 1 = .ok (.invokespecial 3, 3) := dk_183 0 3 (dk_at dksJ40_init_0 1 rfl rfl)
theorem dJ40_init_4 : decode cJ40_init 4 = .ok (.aload_n 0, 1) := dk_42 (dk_at dksJ40_init_0 4 rfl rfl)
theorem dJ40_init_5 : decode cJ40_init 5 = .ok (.iconst 1, 1) := dk_4 (dk_at dksJ40_init_0 5 rfl rfl)
theorem dJ40_init_6 : decode cJ40_init 6 = .ok (.putfield 9, 3) := dk_181 0 9 (dk_at dksJ40_init_0 6 rfl rfl)
theorem dJ40_init_9 : decode cJ40_init 9 = .ok (.aload_n 0, 1) := dk_42 (dk_at dksJ40_init_0 9 rfl rfl)
theorem dJ40_init_10 : decode cJ40_init 10 = .ok (.aload_n 1, 1) := dk_43 (dk_at dksJ40_init_0 10 rfl rfl)
theorem dJ40_init_11 : decode cJ40_init 11 = .ok (.putfield 15, 3) := dk_181 0 15 (dk_at dksJ40_init_0 11 rfl rfl)
theorem dJ40_init_14 : decode cJ40_init 14 = .ok (.aload_n 0, 1) := dk_42 (dk_at dksJ40_init_0 14 rfl rfl)
theorem dJ40_init_15 : decode cJ40_init 15 = .ok (.aload_n 2, 1) := dk_44 (dk_at dksJ40_init_0 15 rfl rfl)
theorem dJ40_init_16 : decode cJ40_init 16 = .ok (.putfield 19, 3) := dk_181 0 19 (dk_at dksJ40_init_0 16 rfl rfl)
theorem dJ40_init_19 : decode cJ40_init 19 = .ok (.aload_n 0, 1) := dk_42 (dk_at dksJ40_init_0 19 rfl rfl)
theorem dJ40_init_20 : decode cJ40_init 20 = .ok (.aload_n 3, 1) := dk_45 (dk_at dksJ40_init_0 20 rfl rfl)
theorem dJ40_init_21 : decode cJ40_init 21 = .ok (.putfield 22, 3) := dk_181 0 22 (dk_at dksJ40_init_0 21 rfl rfl)
theorem dJ40_init_24 : decode cJ40_init 24 = .ok (.return_, 1) := dk_177 (dk_at dksJ40_init_1 0 rfl rfl)
theorem q164 : (Jvm.Cond.initialized "java/util/TreeMap$Entry") ∈ lw_all := lw_g (lw_at lw_m1 58 rfl) rfl
theorem q972 : (Jvm.Cond.selects "java/util/TreeMap$Entry" ({ cls := "java/lang/Object", name := "getClass", desc := "()Ljava/lang/Class;" } : Jvm.MethodName) ({ cls := "java/lang/Object", name := "getClass", desc := "()Ljava/lang/Class;" } : Jvm.MethodName)) ∈ lw_all := lw_g (lw_at lw_m4 146 rfl) rfl
theorem q2433 : (Jvm.Cond.instantiable "java/util/TreeMap$Entry" (6 : Nat)) ∈ lw_all := lw_g (lw_at lw_m10 167 rfl) rfl
theorem q2435 : (Jvm.Cond.instanceMethod ({ cls := "java/util/TreeMap$Entry", name := "<init>", desc := "(Ljava/lang/Object;Ljava/lang/Object;Ljava/util/TreeMap$Entry;)V" } : Jvm.MethodName)) ∈ lw_all := lw_g (lw_at lw_m10 169 rfl) rfl
theorem q2436 : (Jvm.Cond.code ({ cls := "java/util/TreeMap$Entry", name := "<init>", desc := "(Ljava/lang/Object;Ljava/lang/Object;Ljava/util/TreeMap$Entry;)V" } : Jvm.MethodName) prog_104_method_1_code (4 : Nat) (Option.none : Option Jvm.ClassFile.FieldType)) ∈ lw_all := lw_g (lw_at lw_m10 170 rfl) rfl
theorem q2437 : (Jvm.Cond.methodLink "java/util/TreeMap$Entry" (3 : Nat) ({ cls := "java/lang/Object", name := "<init>", desc := "()V" } : Jvm.MethodName)) ∈ lw_all := lw_g (lw_at lw_m10 171 rfl) rfl
theorem q2438 : (Jvm.Cond.fieldLink "java/util/TreeMap$Entry" (15 : Nat) "java/util/TreeMap$Entry" "key" "Ljava/lang/Object;") ∈ lw_all := lw_g (lw_at lw_m10 172 rfl) rfl
theorem q2440 : (Jvm.Cond.fieldLink "java/util/TreeMap$Entry" (19 : Nat) "java/util/TreeMap$Entry" "value" "Ljava/lang/Object;") ∈ lw_all := lw_g (lw_at lw_m10 174 rfl) rfl
theorem q2447 : (Jvm.Cond.fieldLink "java/util/TreeMap$Entry" (22 : Nat) "java/util/TreeMap$Entry" "parent" "Ljava/util/TreeMap$Entry;") ∈ lw_all := lw_g (lw_at lw_m10 181 rfl) rfl
theorem q2449 : (Jvm.Cond.fieldLink "java/util/TreeMap$Entry" (9 : Nat) "java/util/TreeMap$Entry" "color" "Z") ∈ lw_all := lw_g (lw_at lw_m10 183 rfl) rfl
theorem q2451 : (Jvm.Cond.lays "java/util/TreeMap$Entry" "java/util/TreeMap$Entry" "key" "Ljava/lang/Object;") ∈ lw_all := lw_g (lw_at lw_m10 185 rfl) rfl
theorem q2452 : (Jvm.Cond.soleField "java/util/TreeMap$Entry" "key") ∈ lw_all := lw_g (lw_at lw_m10 186 rfl) rfl
theorem q2453 : (Jvm.Cond.lays "java/util/TreeMap$Entry" "java/util/TreeMap$Entry" "value" "Ljava/lang/Object;") ∈ lw_all := lw_g (lw_at lw_m10 187 rfl) rfl
theorem q2454 : (Jvm.Cond.soleField "java/util/TreeMap$Entry" "value") ∈ lw_all := lw_g (lw_at lw_m10 188 rfl) rfl
theorem q2455 : (Jvm.Cond.lays "java/util/TreeMap$Entry" "java/util/TreeMap$Entry" "left" "Ljava/util/TreeMap$Entry;") ∈ lw_all := lw_g (lw_at lw_m10 189 rfl) rfl
theorem q2456 : (Jvm.Cond.soleField "java/util/TreeMap$Entry" "left") ∈ lw_all := lw_g (lw_at lw_m10 190 rfl) rfl
theorem q2457 : (Jvm.Cond.lays "java/util/TreeMap$Entry" "java/util/TreeMap$Entry" "right" "Ljava/util/TreeMap$Entry;") ∈ lw_all := lw_g (lw_at lw_m10 191 rfl) rfl
theorem q2458 : (Jvm.Cond.soleField "java/util/TreeMap$Entry" "right") ∈ lw_all := lw_g (lw_at lw_m10 192 rfl) rfl
theorem q2459 : (Jvm.Cond.lays "java/util/TreeMap$Entry" "java/util/TreeMap$Entry" "parent" "Ljava/util/TreeMap$Entry;") ∈ lw_all := lw_g (lw_at lw_m10 193 rfl) rfl
theorem q2460 : (Jvm.Cond.soleField "java/util/TreeMap$Entry" "parent") ∈ lw_all := lw_g (lw_at lw_m10 194 rfl) rfl
theorem q2461 : (Jvm.Cond.lays "java/util/TreeMap$Entry" "java/util/TreeMap$Entry" "color" "Z") ∈ lw_all := lw_g (lw_at lw_m10 195 rfl) rfl
theorem q2462 : (Jvm.Cond.soleField "java/util/TreeMap$Entry" "color") ∈ lw_all := lw_g (lw_at lw_m10 196 rfl) rfl
theorem q2463 : (Jvm.Cond.superclass "java/util/TreeMap$Entry" "java/lang/Object") ∈ lw_all := lw_g (lw_at lw_m10 197 rfl) rfl
theorem q4008 : (Jvm.Cond.castable "java/util/TreeMap$Entry" "java/lang/Object") ∈ lw_tbl := lw_at lw_m17 62 rfl
theorem in_J40 : ∀ w ∈ wsJ400, w ∈ lw_all := lw_in wsJ400 [2451, 2453, 2455, 2457, 2459, 2461] (by decide +kernel) (by decide +kernel)

/-! java/util/TreeMap$Values -/
set_option maxRecDepth 100000
def RJ41 : String := "java/util/TreeMap$Values"
def TJ41 : u_T := fun k => match k with
  | _ => ("java/util/TreeMap$Values", "this$0", "Ljava/util/TreeMap;", true)
def tyJ41 : Nat → FieldType := fun k => match k with
  | _ => .object "java/util/TreeMap"
abbrev wsJ410 : List Cond := u_ws RJ41 TJ41 1
theorem nmJ41 : ∀ a, a < 1 → ∀ b, b < 1 → a ≠ b → (TJ41 a).2.1 ≠ (TJ41 b).2.1 := by decide +kernel
theorem tyJ41_ok : ∀ k, k < 1 → parseFieldDescriptor (TJ41 k).2.2.1 = some (tyJ41 k) := by decide +kernel
abbrev cJ41_init : ByteArray := prog_107_method_1_code
def yJ41_init : MethodName := ⟨RJ41, "<init>", "(Ljava/util/TreeMap;)V"⟩
def dkwJ41_init_0 : List UInt8 := [42, 43, 181, 0, 1, 42, 183, 0, 7, 177]
abbrev dktJ41_init_0 : List UInt8 := dkwJ41_init_0 ++ []
theorem dksJ41_init_0 : cJ41_init.data.toList.drop 0 = dktJ41_init_0 := by decide +kernel
theorem dJ41_init_0 : decode cJ41_init 0 = .ok (.aload_n 0, 1) := dk_42 (dk_at dksJ41_init_0 0 rfl rfl)
theorem dJ41_init_1 : decode cJ41_init 1 = .ok (.aload_n 1, 1) := dk_43 (dk_at dksJ41_init_0 1 rfl rfl)
theorem dJ41_init_2 : decode cJ41_init 2 = .ok (.putfield 1, 3) := dk_181 0 1 (dk_at dksJ41_init_0 2 rfl rfl)
theorem dJ41_init_5 : decode cJ41_init 5 = .ok (.aload_n 0, 1) := dk_42 (dk_at dksJ41_init_0 5 rfl rfl)
theorem dJ41_init_6 : decode cJ41_init 6 = .ok (.invokespecial 7, 3) := dk_183 0 7 (dk_at dksJ41_init_0 6 rfl rfl)
theorem dJ41_init_9 : decode cJ41_init 9 = .ok (.return_, 1) := dk_177 (dk_at dksJ41_init_0 9 rfl rfl)
abbrev cJ41_iterator : ByteArray := prog_107_method_2_code
def yJ41_iterator : MethodName := ⟨RJ41, "iterator", "()Ljava/util/Iterator;"⟩
def dkwJ41_iterator_0 : List UInt8 := [187, 0, 13, 89, 42, 180, 0, 1, 42, 180, 0, 1, 182, 0, 15, 183, 0, 21, 176]
abbrev dktJ41_iterator_0 : List UInt8 := dkwJ41_iterator_0 ++ []
theorem dksJ41_iterator_0 : cJ41_iterator.data.toList.drop 0 = dktJ41_iterator_0 := by decide +kernel
theorem dJ41_iterator_0 : decode cJ41_iterator 0 = .ok (.new 13, 3) := dk_187 0 13 (dk_at dksJ41_iterator_0 0 rfl rfl)
theorem dJ41_iterator_3 : decode cJ41_iterator 3 = .ok (.dup, 1) := dk_89 (dk_at dksJ41_iterator_0 3 rfl rfl)
theorem dJ41_iterator_4 : decode cJ41_iterator 4 = .ok (.aload_n 0, 1) := dk_42 (dk_at dksJ41_iterator_0 4 rfl rfl)
theorem dJ41_iterator_5 : decode cJ41_iterator 5 = .ok (.getfield 1, 3) := dk_180 0 1 (dk_at dksJ41_iterator_0 5 rfl rfl)
theorem dJ41_iterator_8 : decode cJ41_iterator 8 = .ok (.aload_n 0, 1) := dk_42 (dk_at dksJ41_iterator_0 8 rfl rfl)
theorem dJ41_iterator_9 : decode cJ41_iterator 9 = .ok (.getfield 1, 3) := dk_180 0 1 (dk_at dksJ41_iterator_0 9 rfl rfl)
theorem dJ41_iterator_12 : decode cJ41_iterator 12 = .ok (.invokevirtual 15, 3) := dk_182 0 15 (dk_at dksJ41_iterator_0 12 rfl rfl)
theorem dJ41_iterator_15 : decode cJ41_iterator 15 = .ok (.invokespecial 21, 3) := dk_183 0 21 (dk_at dksJ41_iterator_0 15 rfl rfl)
theorem dJ41_iterator_18 : decode cJ41_iterator 18 = .ok (.areturn, 1) := dk_176 (dk_at dksJ41_iterator_0 18 rfl rfl)
theorem q165 : (Jvm.Cond.initialized "java/util/TreeMap$Values") ∈ lw_all := lw_g (lw_at lw_m1 59 rfl) rfl
theorem q974 : (Jvm.Cond.selects "java/util/TreeMap$Values" ({ cls := "java/lang/Object", name := "getClass", desc := "()Ljava/lang/Class;" } : Jvm.MethodName) ({ cls := "java/lang/Object", name := "getClass", desc := "()Ljava/lang/Class;" } : Jvm.MethodName)) ∈ lw_all := lw_g (lw_at lw_m4 148 rfl) rfl
theorem q2486 : (Jvm.Cond.instantiable "java/util/TreeMap$Values" (1 : Nat)) ∈ lw_all := lw_g (lw_at lw_m10 220 rfl) rfl
theorem q2488 : (Jvm.Cond.instanceMethod ({ cls := "java/util/TreeMap$Values", name := "<init>", desc := "(Ljava/util/TreeMap;)V" } : Jvm.MethodName)) ∈ lw_all := lw_g (lw_at lw_m10 222 rfl) rfl
theorem q2489 : (Jvm.Cond.code ({ cls := "java/util/TreeMap$Values", name := "<init>", desc := "(Ljava/util/TreeMap;)V" } : Jvm.MethodName) prog_107_method_1_code (2 : Nat) (Option.none : Option Jvm.ClassFile.FieldType)) ∈ lw_all := lw_g (lw_at lw_m10 223 rfl) rfl
theorem q2490 : (Jvm.Cond.methodLink "java/util/TreeMap$Values" (7 : Nat) ({ cls := "java/util/AbstractCollection", name := "<init>", desc := "()V" } : Jvm.MethodName)) ∈ lw_all := lw_g (lw_at lw_m10 224 rfl) rfl
theorem q2491 : (Jvm.Cond.fieldLink "java/util/TreeMap$Values" (1 : Nat) "java/util/TreeMap$Values" "this$0" "Ljava/util/TreeMap;") ∈ lw_all := lw_g (lw_at lw_m10 225 rfl) rfl
theorem q2492 : (Jvm.Cond.laysFinal "java/util/TreeMap$Values" "java/util/TreeMap$Values" "this$0" "Ljava/util/TreeMap;") ∈ lw_all := lw_g (lw_at lw_m10 226 rfl) rfl
theorem q2493 : (Jvm.Cond.soleField "java/util/TreeMap$Values" "this$0") ∈ lw_all := lw_g (lw_at lw_m10 227 rfl) rfl
theorem q2494 : (Jvm.Cond.superclass "java/util/TreeMap$Values" "java/util/AbstractCollection") ∈ lw_all := lw_g (lw_at lw_m10 228 rfl) rfl
theorem q2592 : (Jvm.Cond.castable "java/util/TreeMap$Values" "java/util/Collection") ∈ lw_tbl := lw_at lw_m11 86 rfl
theorem q2593 : (Jvm.Cond.selects "java/util/TreeMap$Values" ({ cls := "java/util/Collection", name := "iterator", desc := "()Ljava/util/Iterator;" } : Jvm.MethodName) ({ cls := "java/util/TreeMap$Values", name := "iterator", desc := "()Ljava/util/Iterator;" } : Jvm.MethodName)) ∈ lw_all := lw_g (lw_at lw_m11 87 rfl) rfl
theorem q2594 : (Jvm.Cond.unhidden "java/util/TreeMap$Values" "iterator" "()Ljava/util/Iterator;") ∈ lw_tbl := lw_at lw_m11 88 rfl
theorem q2595 : (Jvm.Cond.instanceMethod ({ cls := "java/util/TreeMap$Values", name := "iterator", desc := "()Ljava/util/Iterator;" } : Jvm.MethodName)) ∈ lw_all := lw_g (lw_at lw_m11 89 rfl) rfl
theorem q2596 : (Jvm.Cond.publicMethod ({ cls := "java/util/TreeMap$Values", name := "iterator", desc := "()Ljava/util/Iterator;" } : Jvm.MethodName)) ∈ lw_tbl := lw_at lw_m11 90 rfl
theorem q2597 : (Jvm.Cond.code ({ cls := "java/util/TreeMap$Values", name := "iterator", desc := "()Ljava/util/Iterator;" } : Jvm.MethodName) prog_107_method_2_code (1 : Nat) (Option.some (Jvm.ClassFile.FieldType.object "java/util/Iterator"))) ∈ lw_all := lw_g (lw_at lw_m11 91 rfl) rfl
theorem q2598 : (Jvm.Cond.classLink "java/util/TreeMap$Values" (13 : Nat) "java/util/TreeMap$ValueIterator") ∈ lw_all := lw_g (lw_at lw_m11 92 rfl) rfl
theorem q2600 : (Jvm.Cond.methodLink "java/util/TreeMap$Values" (15 : Nat) ({ cls := "java/util/TreeMap", name := "getFirstEntry", desc := "()Ljava/util/TreeMap$Entry;" } : Jvm.MethodName)) ∈ lw_all := lw_g (lw_at lw_m11 94 rfl) rfl
theorem q2604 : (Jvm.Cond.methodLink "java/util/TreeMap$Values" (21 : Nat) ({ cls := "java/util/TreeMap$ValueIterator", name := "<init>", desc := "(Ljava/util/TreeMap;Ljava/util/TreeMap$Entry;)V" } : Jvm.MethodName)) ∈ lw_all := lw_g (lw_at lw_m11 98 rfl) rfl
theorem q4009 : (Jvm.Cond.castable "java/util/TreeMap$Values" "java/lang/Object") ∈ lw_tbl := lw_at lw_m17 63 rfl
theorem in_J41 : ∀ w ∈ wsJ410, w ∈ lw_all := lw_in wsJ410 [2492] (by decide +kernel) (by decide +kernel)

/-! java/util/ArrayDeque$DeqIterator -/
set_option maxRecDepth 100000
def RJ42 : String := "java/util/ArrayDeque$DeqIterator"
def TJ42 : u_T := fun k => match k with
  | 0 => ("java/util/ArrayDeque$DeqIterator", "cursor", "I", false)
  | 1 => ("java/util/ArrayDeque$DeqIterator", "remaining", "I", false)
  | 2 => ("java/util/ArrayDeque$DeqIterator", "lastRet", "I", false)
  | _ => ("java/util/ArrayDeque$DeqIterator", "this$0", "Ljava/util/ArrayDeque;", true)
def tyJ42 : Nat → FieldType := fun k => match k with
  | 0 => .int
  | 1 => .int
  | 2 => .int
  | _ => .object "java/util/ArrayDeque"
abbrev wsJ420 : List Cond := u_ws RJ42 TJ42 4
theorem nmJ42 : ∀ a, a < 4 → ∀ b, b < 4 → a ≠ b → (TJ42 a).2.1 ≠ (TJ42 b).2.1 := by decide +kernel
theorem tyJ42_ok : ∀ k, k < 4 → parseFieldDescriptor (TJ42 k).2.2.1 = some (tyJ42 k) := by decide +kernel
abbrev cJ42_hasNext : ByteArray := prog_70_method_2_code
def yJ42_hasNext : MethodName := ⟨RJ42, "hasNext", "()Z"⟩
def dkwJ42_hasNext_0 : List UInt8 := [42, 180, 0, 19, 158, 0, 7, 4, 167, 0, 4, 3, 172]
abbrev dktJ42_hasNext_0 : List UInt8 := dkwJ42_hasNext_0 ++ []
theorem dksJ42_hasNext_0 : cJ42_hasNext.data.toList.drop 0 = dktJ42_hasNext_0 := by decide +kernel
theorem dJ42_hasNext_0 : decode cJ42_hasNext 0 = .ok (.aload_n 0, 1) := dk_42 (dk_at dksJ42_hasNext_0 0 rfl rfl)
theorem dJ42_hasNext_1 : decode cJ42_hasNext 1 = .ok (.getfield 19, 3) := dk_180 0 19 (dk_at dksJ42_hasNext_0 1 rfl rfl)
theorem dJ42_hasNext_4 : decode cJ42_hasNext 4 = .ok (.ifCond .le 7, 3) := dk_158 0 7 (dk_at dksJ42_hasNext_0 4 rfl rfl)
theorem dJ42_hasNext_7 : decode cJ42_hasNext 7 = .ok (.iconst 1, 1) := dk_4 (dk_at dksJ42_hasNext_0 7 rfl rfl)
theorem dJ42_hasNext_8 : decode cJ42_hasNext 8 = .ok (.goto 4, 3) := dk_167 0 4 (dk_at dksJ42_hasNext_0 8 rfl rfl)
theorem dJ42_hasNext_11 : decode cJ42_hasNext 11 = .ok (.iconst 0, 1) := dk_3 (dk_at dksJ42_hasNext_0 11 rfl rfl)
theorem dJ42_hasNext_12 : decode cJ42_hasNext 12 = .ok (.ireturn, 1) := dk_172 (dk_at dksJ42_hasNext_0 12 rfl rfl)
abbrev cJ42_next : ByteArray := prog_70_method_3_code
def yJ42_next : MethodName := ⟨RJ42, "next", "()Ljava/lang/Object;"⟩
def dkwJ42_next_2 : List UInt8 := [181, 0, 29, 42, 89, 180, 0, 19, 4, 100, 181, 0, 19, 44, 176]
abbrev dktJ42_next_2 : List UInt8 := dkwJ42_next_2 ++ []
def dkwJ42_next_1 : List UInt8 := [42, 180, 0, 29, 184, 0, 39, 77, 42, 42, 42, 180, 0, 29, 90, 181, 0, 23, 43, 190, 184, 0, 43]
abbrev dktJ42_next_1 : List UInt8 := dkwJ42_next_1 ++ dktJ42_next_2
def dkwJ42_next_0 : List UInt8 := [42, 180, 0, 19, 157, 0, 11, 187, 0, 32, 89, 183, 0, 34, 191, 42, 180, 0, 1, 180, 0, 35, 76, 43]
abbrev dktJ42_next_0 : List UInt8 := dkwJ42_next_0 ++ dktJ42_next_1
theorem dksJ42_next_0 : cJ42_next.data.toList.drop 0 = dktJ42_next_0 := by decide +kernel
theorem dksJ42_next_1 : cJ42_next.data.toList.drop 24 = dktJ42_next_1 := dk_seg dksJ42_next_0 24 rfl rfl
theorem dksJ42_next_2 : cJ42_next.data.toList.drop 47 = dktJ42_next_2 := dk_seg dksJ42_next_1 23 rfl rfl
theorem dJ42_next_0 : decode cJ42_next 0 = .ok (.aload_n 0, 1) := dk_42 (dk_at dksJ42_next_0 0 rfl rfl)
theorem dJ42_next_1 : decode cJ42_next 1 = .ok (.getfield 19, 3) := dk_180 0 19 (dk_at dksJ42_next_0 1 rfl rfl)
theorem dJ42_next_4 : decode cJ42_next 4 = .ok (.ifCond .gt 11, 3) := dk_157 0 11 (dk_at dksJ42_next_0 4 rfl rfl)
theorem dJ42_next_7 : decode cJ42_next 7 = .ok (.new 32, 3) := dk_187 0 32 (dk_at dksJ42_next_0 7 rfl rfl)
theorem dJ42_next_10 : decode cJ42_next 10 = .ok (.dup, 1) := dk_89 (dk_at dksJ42_next_0 10 rfl rfl)
theorem dJ42_next_11 : decode cJ42_next 11 = .ok (.invokespecial 34, 3) := dk_183 0 34 (dk_at dksJ42_next_0 11 rfl rfl)
theorem dJ42_next_14 : decode cJ42_next 14 = .ok (.athrow, 1) := dk_191 (dk_at dksJ42_next_0 14 rfl rfl)
theorem dJ42_next_15 : decode cJ42_next 15 = .ok (.aload_n 0, 1) := dk_42 (dk_at dksJ42_next_0 15 rfl rfl)
theorem dJ42_next_16 : decode cJ42_next 16 = .ok (.getfield 1, 3) := dk_180 0 1 (dk_at dksJ42_next_0 16 rfl rfl)
theorem dJ42_next_19 : decode cJ42_next 19 = .ok (.getfield 35, 3) := dk_180 0 35 (dk_at dksJ42_next_0 19 rfl rfl)
theorem dJ42_next_22 : decode cJ42_next 22 = .ok (.astore_n 1, 1) := dk_76 (dk_at dksJ42_next_0 22 rfl rfl)
theorem dJ42_next_23 : decode cJ42_next 23 = .ok (.aload_n 1, 1) := dk_43 (dk_at dksJ42_next_0 23 rfl rfl)
theorem dJ42_next_24 : decode cJ42_next 24 = .ok (.aload_n 0, 1) := dk_42 (dk_at dksJ42_next_1 0 rfl rfl)
theorem dJ42_next_25 : decode cJ42_next 25 = .ok (.getfield 29, 3) := dk_180 0 29 (dk_at dksJ42_next_1 1 rfl rfl)
theorem dJ42_next_28 : decode cJ42_next 28 = .ok (.invokestatic 39, 3) := dk_184 0 39 (dk_at dksJ42_next_1 4 rfl rfl)
theorem dJ42_next_31 : decode cJ42_next 31 = .ok (.astore_n 2, 1) := dk_77 (dk_at dksJ42_next_1 7 rfl rfl)
theorem dJ42_next_32 : decode cJ42_next 32 = .ok (.aload_n 0, 1) := dk_42 (dk_at dksJ42_next_1 8 rfl rfl)
theorem dJ42_next_33 : decode cJ42_next 33 = .ok (.aload_n 0, 1) := dk_42 (dk_at dksJ42_next_1 9 rfl rfl)
theorem dJ42_next_34 : decode cJ42_next 34 = .ok (.aload_n 0, 1) := dk_42 (dk_at dksJ42_next_1 10 rfl rfl)
theorem dJ42_next_35 : decode cJ42_next 35 = .ok (.getfield 29, 3) := dk_180 0 29 (dk_at dksJ42_next_1 11 rfl rfl)
theorem dJ42_next_38 : decode cJ42_next 38 = .ok (.dup_x1, 1) := dk_90 (dk_at dksJ42_next_1 14 rfl rfl)
theorem dJ42_next_39 : decode cJ42_next 39 = .ok (.putfield 23, 3) := dk_181 0 23 (dk_at dksJ42_next_1 15 rfl rfl)
theorem dJ42_next_42 : decode cJ42_next 42 = .ok (.aload_n 1, 1) := dk_43 (dk_at dksJ42_next_1 18 rfl rfl)
theorem dJ42_next_43 : decode cJ42_next 43 = .ok (.arraylength, 1) := dk_190 (dk_at dksJ42_next_1 19 rfl rfl)
theorem dJ42_next_44 : decode cJ42_next 44 = .ok (.invokestatic 43, 3) := dk_184 0 43 (dk_at dksJ42_next_1 20 rfl rfl)
theorem dJ42_next_47 : decode cJ42_next 47 = .ok (.putfield 29, 3) := dk_181 0 29 (dk_at dksJ42_next_2 0 rfl rfl)
theorem dJ42_next_50 : decode cJ42_next 50 = .ok (.aload_n 0, 1) := dk_42 (dk_at dksJ42_next_2 3 rfl rfl)
theorem dJ42_next_51 : decode cJ42_next 51 = .ok (.dup, 1) := dk_89 (dk_at dksJ42_next_2 4 rfl rfl)
theorem dJ42_next_52 : decode cJ42_next 52 = .ok (.getfield 19, 3) := dk_180 0 19 (dk_at dksJ42_next_2 5 rfl rfl)
theorem dJ42_next_55 : decode cJ42_next 55 = .ok (.iconst 1, 1) := dk_4 (dk_at dksJ42_next_2 8 rfl rfl)
theorem dJ42_next_56 : decode cJ42_next 56 = .ok (.isub, 1) := dk_100 (dk_at dksJ42_next_2 9 rfl rfl)
theorem dJ42_next_57 : decode cJ42_next 57 = .ok (.putfield 19, 3) := dk_181 0 19 (dk_at dksJ42_next_2 10 rfl rfl)
theorem dJ42_next_60 : decode cJ42_next 60 = .ok (.aload_n 2, 1) := dk_44 (dk_at dksJ42_next_2 13 rfl rfl)
theorem dJ42_next_61 : decode cJ42_next 61 = .ok (.areturn, 1) := dk_176 (dk_at dksJ42_next_2 14 rfl rfl)
abbrev cJ42_remove : ByteArray := prog_70_method_5_code
def yJ42_remove : MethodName := ⟨RJ42, "remove", "()V"⟩
def dkwJ42_remove_1 : List UInt8 := [182, 0, 53, 182, 0, 57, 42, 2, 181, 0, 23, 177]
abbrev dktJ42_remove_1 : List UInt8 := dkwJ42_remove_1 ++ []
def dkwJ42_remove_0 : List UInt8 := [42, 180, 0, 23, 156, 0, 11, 187, 0, 50, 89, 183, 0, 52, 191, 42, 42, 180, 0, 1, 42, 180, 0, 23]
abbrev dktJ42_remove_0 : List UInt8 := dkwJ42_remove_0 ++ dktJ42_remove_1
theorem dksJ42_remove_0 : cJ42_remove.data.toList.drop 0 = dktJ42_remove_0 := by decide +kernel
theorem dksJ42_remove_1 : cJ42_remove.data.toList.drop 24 = dktJ42_remove_1 := dk_seg dksJ42_remove_0 24 rfl rfl
theorem dJ42_remove_0 : decode cJ42_remove 0 = .ok (.aload_n 0, 1) := dk_42 (dk_at dksJ42_remove_0 0 rfl rfl)
theorem dJ42_remove_1 : decode cJ42_remove 1 = .ok (.getfield 23, 3) := dk_180 0 23 (dk_at dksJ42_remove_0 1 rfl rfl)
theorem dJ42_remove_4 : decode cJ42_remove 4 = .ok (.ifCond .ge 11, 3) := dk_156 0 11 (dk_at dksJ42_remove_0 4 rfl rfl)
theorem dJ42_remove_7 : decode cJ42_remove 7 = .ok (.new 50, 3) := dk_187 0 50 (dk_at dksJ42_remove_0 7 rfl rfl)
theorem dJ42_remove_10 : decode cJ42_remove 10 = .ok (.dup, 1) := dk_89 (dk_at dksJ42_remove_0 10 rfl rfl)
theorem dJ42_remove_11 : decode cJ42_remove 11 = .ok (.invokespecial 52, 3) := dk_183 0 52 (dk_at dksJ42_remove_0 11 rfl rfl)
theorem dJ42_remove_14 : decode cJ42_remove 14 = .ok (.athrow, 1) := dk_191 (dk_at dksJ42_remove_0 14 rfl rfl)
theorem dJ42_remove_15 : decode cJ42_remove 15 = .ok (.aload_n 0, 1) := dk_42 (dk_at dksJ42_remove_0 15 rfl rfl)
theorem dJ42_remove_16 : decode cJ42_remove 16 = .ok (.aload_n 0, 1) := dk_42 (dk_at dksJ42_remove_0 16 rfl rfl)
theorem dJ42_remove_17 : decode cJ42_remove 17 = .ok (.getfield 1, 3) := dk_180 0 1 (dk_at dksJ42_remove_0 17 rfl rfl)
theorem dJ42_remove_20 : decode cJ42_remove 20 = .ok (.aload_n 0, 1) := dk_42 (dk_at dksJ42_remove_0 20 rfl rfl)
theorem dJ42_remove_21 : decode cJ42_remove 21 = .ok (.getfield 23, 3) := dk_180 0 23 (dk_at dksJ42_remove_0 21 rfl rfl)
theorem dJ42_remove_24 : decode cJ42_remove 24 = .ok (.invokevirtual 53, 3) := dk_182 0 53 (dk_at dksJ42_remove_1 0 rfl rfl)
theorem dJ42_remove_27 : decode cJ42_remove 27 = .ok (.invokevirtual 57, 3) := dk_182 0 57 (dk_at dksJ42_remove_1 3 rfl rfl)
theorem dJ42_remove_30 : decode cJ42_remove 30 = .ok (.aload_n 0, 1) := dk_42 (dk_at dksJ42_remove_1 6 rfl rfl)
theorem dJ42_remove_31 : decode cJ42_remove 31 = .ok (.iconst (-1), 1) := dk_2 (dk_at dksJ42_remove_1 7 rfl rfl)
theorem dJ42_remove_32 : decode cJ42_remove 32 = .ok (.putfield 23, 3) := dk_181 0 23 (dk_at dksJ42_remove_1 8 rfl rfl)
theorem dJ42_remove_35 : decode cJ42_remove 35 = .ok (.return_, 1) := dk_177 (dk_at dksJ42_remove_1 11 rfl rfl)
abbrev cJ42_postDelete : ByteArray := prog_70_method_4_code
def yJ42_postDelete : MethodName := ⟨RJ42, "postDelete", "(Z)V"⟩
def dkwJ42_postDelete_0 : List UInt8 := [27, 153, 0, 22, 42, 42, 180, 0, 29, 42, 180, 0, 1, 180, 0, 35, 190, 184, 0, 47, 181, 0, 29, 177]
abbrev dktJ42_postDelete_0 : List UInt8 := dkwJ42_postDelete_0 ++ []
theorem dksJ42_postDelete_0 : cJ42_postDelete.data.toList.drop 0 = dktJ42_postDelete_0 := by decide +kernel
theorem dJ42_postDelete_0 : decode cJ42_postDelete 0 = .ok (.iload_n 1, 1) := dk_27 (dk_at dksJ42_postDelete_0 0 rfl rfl)
theorem dJ42_postDelete_1 : decode cJ42_postDelete 1 = .ok (.ifCond .eq 22, 3) := dk_153 0 22 (dk_at dksJ42_postDelete_0 1 rfl rfl)
theorem dJ42_postDelete_4 : decode cJ42_postDelete 4 = .ok (.aload_n 0, 1) := dk_42 (dk_at dksJ42_postDelete_0 4 rfl rfl)
theorem dJ42_postDelete_5 : decode cJ42_postDelete 5 = .ok (.aload_n 0, 1) := dk_42 (dk_at dksJ42_postDelete_0 5 rfl rfl)
theorem dJ42_postDelete_6 : decode cJ42_postDelete 6 = .ok (.getfield 29, 3) := dk_180 0 29 (dk_at dksJ42_postDelete_0 6 rfl rfl)
theorem dJ42_postDelete_9 : decode cJ42_postDelete 9 = .ok (.aload_n 0, 1) := dk_42 (dk_at dksJ42_postDelete_0 9 rfl rfl)
theorem dJ42_postDelete_10 : decode cJ42_postDelete 10 = .ok (.getfield 1, 3) := dk_180 0 1 (dk_at dksJ42_postDelete_0 10 rfl rfl)
theorem dJ42_postDelete_13 : decode cJ42_postDelete 13 = .ok (.getfield 35, 3) := dk_180 0 35 (dk_at dksJ42_postDelete_0 13 rfl rfl)
theorem dJ42_postDelete_16 : decode cJ42_postDelete 16 = .ok (.arraylength, 1) := dk_190 (dk_at dksJ42_postDelete_0 16 rfl rfl)
theorem dJ42_postDelete_17 : decode cJ42_postDelete 17 = .ok (.invokestatic 47, 3) := dk_184 0 47 (dk_at dksJ42_postDelete_0 17 rfl rfl)
theorem dJ42_postDelete_20 : decode cJ42_postDelete 20 = .ok (.putfield 29, 3) := dk_181 0 29 (dk_at dksJ42_postDelete_0 20 rfl rfl)
theorem dJ42_postDelete_23 : decode cJ42_postDelete 23 = .ok (.return_, 1) := dk_177 (dk_at dksJ42_postDelete_0 23 rfl rfl)
abbrev cJ42_init : ByteArray := prog_70_method_1_code
def yJ42_init : MethodName := ⟨RJ42, "<init>", "(Ljava/util/ArrayDeque;)V"⟩
def dkwJ42_init_1 : List UInt8 := [181, 0, 23, 42, 43, 180, 0, 26, 181, 0, 29, 177]
abbrev dktJ42_init_1 : List UInt8 := dkwJ42_init_1 ++ []
def dkwJ42_init_0 : List UInt8 := [42, 43, 181, 0, 1, 42, 183, 0, 7, 42, 42, 180, 0, 1, 182, 0, 13, 181, 0, 19, 42, 2]
abbrev dktJ42_init_0 : List UInt8 := dkwJ42_init_0 ++ dktJ42_init_1
theorem dksJ42_init_0 : cJ42_init.data.toList.drop 0 = dktJ42_init_0 := by decide +kernel
theorem dksJ42_init_1 : cJ42_init.data.toList.drop 22 = dktJ42_init_1 := dk_seg dksJ42_init_0 22 rfl rfl
theorem dJ42_init_0 : decode cJ42_init 0 = .ok (.aload_n 0, 1) := dk_42 (dk_at dksJ42_init_0 0 rfl rfl)
theorem dJ42_init_1 : decode cJ42_init 1 = .ok (.aload_n 1, 1) := dk_43 (dk_at dksJ42_init_0 1 rfl rfl)
theorem dJ42_init_2 : decode cJ42_init 2 = .ok (.putfield 1, 3) := dk_181 0 1 (dk_at dksJ42_init_0 2 rfl rfl)
theorem dJ42_init_5 : decode cJ42_init 5 = .ok (.aload_n 0, 1) := dk_42 (dk_at dksJ42_init_0 5 rfl rfl)
theorem dJ42_init_6 : decode cJ42_init 6 = .ok (.invokespecial 7, 3) := dk_183 0 7 (dk_at dksJ42_init_0 6 rfl rfl)
theorem dJ42_init_9 : decode cJ42_init 9 = .ok (.aload_n 0, 1) := dk_42 (dk_at dksJ42_init_0 9 rfl rfl)
theorem dJ42_init_10 : decode cJ42_init 10 = .ok (.aload_n 0, 1) := dk_42 (dk_at dksJ42_init_0 10 rfl rfl)
theorem dJ42_init_11 : decode cJ42_init 11 = .ok (.getfield 1, 3) := dk_180 0 1 (dk_at dksJ42_init_0 11 rfl rfl)
theorem dJ42_init_14 : decode cJ42_init 14 = .ok (.invokevirtual 13, 3) := dk_182 0 13 (dk_at dksJ42_init_0 14 rfl rfl)
theorem dJ42_init_17 : decode cJ42_init 17 = .ok (.putfield 19, 3) := dk_181 0 19 (dk_at dksJ42_init_0 17 rfl rfl)
theorem dJ42_init_20 : decode cJ42_init 20 = .ok (.aload_n 0, 1) := dk_42 (dk_at dksJ42_init_0 20 rfl rfl)
theorem dJ42_init_21 : decode cJ42_init 21 = .ok (.iconst (-1), 1) := dk_2 (dk_at dksJ42_init_0 21 rfl rfl)
theorem dJ42_init_22 : decode cJ42_init 22 = .ok (.putfield 23, 3) := dk_181 0 23 (dk_at dksJ42_init_1 0 rfl rfl)
theorem dJ42_init_25 : decode cJ42_init 25 = .ok (.aload_n 0, 1) := dk_42 (dk_at dksJ42_init_1 3 rfl rfl)
theorem dJ42_init_26 : decode cJ42_init 26 = .ok (.aload_n 1, 1) := dk_43 (dk_at dksJ42_init_1 4 rfl rfl)
theorem dJ42_init_27 : decode cJ42_init 27 = .ok (.getfield 26, 3) := dk_180 0 26 (dk_at dksJ42_init_1 5 rfl rfl)
theorem dJ42_init_30 : decode cJ42_init 30 = .ok (.putfield 29, 3) := dk_181 0 29 (dk_at dksJ42_init_1 8 rfl rfl)
theorem dJ42_init_33 : decode cJ42_init 33 = .ok (.return_, 1) := dk_177 (dk_at dksJ42_init_1 11 rfl rfl)
theorem q166 : (Jvm.Cond.initialized "java/util/ArrayDeque$DeqIterator") ∈ lw_all := lw_g (lw_at lw_m1 60 rfl) rfl
theorem q337 : (Jvm.Cond.fieldLink "java/util/ArrayDeque$DeqIterator" (35 : Nat) "java/util/ArrayDeque" "elements" "[Ljava/lang/Object;") ∈ lw_all := lw_g (lw_at lw_m1 231 rfl) rfl
theorem q338 : (Jvm.Cond.fieldLink "java/util/ArrayDeque$DeqIterator" (26 : Nat) "java/util/ArrayDeque" "head" "I") ∈ lw_all := lw_g (lw_at lw_m1 232 rfl) rfl
theorem q467 : (Jvm.Cond.castable "java/util/ArrayDeque$DeqIterator" "java/util/Iterator") ∈ lw_tbl := lw_at lw_m2 121 rfl
theorem q468 : (Jvm.Cond.selects "java/util/ArrayDeque$DeqIterator" ({ cls := "java/util/Iterator", name := "hasNext", desc := "()Z" } : Jvm.MethodName) ({ cls := "java/util/ArrayDeque$DeqIterator", name := "hasNext", desc := "()Z" } : Jvm.MethodName)) ∈ lw_all := lw_g (lw_at lw_m2 122 rfl) rfl
theorem q469 : (Jvm.Cond.unhidden "java/util/ArrayDeque$DeqIterator" "hasNext" "()Z") ∈ lw_tbl := lw_at lw_m2 123 rfl
theorem q470 : (Jvm.Cond.instanceMethod ({ cls := "java/util/ArrayDeque$DeqIterator", name := "hasNext", desc := "()Z" } : Jvm.MethodName)) ∈ lw_all := lw_g (lw_at lw_m2 124 rfl) rfl
theorem q471 : (Jvm.Cond.publicMethod ({ cls := "java/util/ArrayDeque$DeqIterator", name := "hasNext", desc := "()Z" } : Jvm.MethodName)) ∈ lw_tbl := lw_at lw_m2 125 rfl
theorem q472 : (Jvm.Cond.code ({ cls := "java/util/ArrayDeque$DeqIterator", name := "hasNext", desc := "()Z" } : Jvm.MethodName) prog_70_method_2_code (1 : Nat) (Option.some Jvm.ClassFile.FieldType.boolean)) ∈ lw_all := lw_g (lw_at lw_m2 126 rfl) rfl
theorem q957 : (Jvm.Cond.selects "java/util/ArrayDeque$DeqIterator" ({ cls := "java/lang/Object", name := "getClass", desc := "()Ljava/lang/Class;" } : Jvm.MethodName) ({ cls := "java/lang/Object", name := "getClass", desc := "()Ljava/lang/Class;" } : Jvm.MethodName)) ∈ lw_all := lw_g (lw_at lw_m4 131 rfl) rfl
theorem q1014 : (Jvm.Cond.selects "java/util/ArrayDeque$DeqIterator" ({ cls := "java/util/Iterator", name := "next", desc := "()Ljava/lang/Object;" } : Jvm.MethodName) ({ cls := "java/util/ArrayDeque$DeqIterator", name := "next", desc := "()Ljava/lang/Object;" } : Jvm.MethodName)) ∈ lw_all := lw_g (lw_at lw_m4 188 rfl) rfl
theorem q1015 : (Jvm.Cond.unhidden "java/util/ArrayDeque$DeqIterator" "next" "()Ljava/lang/Object;") ∈ lw_tbl := lw_at lw_m4 189 rfl
theorem q1016 : (Jvm.Cond.instanceMethod ({ cls := "java/util/ArrayDeque$DeqIterator", name := "next", desc := "()Ljava/lang/Object;" } : Jvm.MethodName)) ∈ lw_all := lw_g (lw_at lw_m4 190 rfl) rfl
theorem q1017 : (Jvm.Cond.publicMethod ({ cls := "java/util/ArrayDeque$DeqIterator", name := "next", desc := "()Ljava/lang/Object;" } : Jvm.MethodName)) ∈ lw_tbl := lw_at lw_m4 191 rfl
theorem q1018 : (Jvm.Cond.code ({ cls := "java/util/ArrayDeque$DeqIterator", name := "next", desc := "()Ljava/lang/Object;" } : Jvm.MethodName) prog_70_method_3_code (3 : Nat) (Option.some (Jvm.ClassFile.FieldType.object "java/lang/Object"))) ∈ lw_all := lw_g (lw_at lw_m4 192 rfl) rfl
theorem q1019 : (Jvm.Cond.classLink "java/util/ArrayDeque$DeqIterator" (32 : Nat) "java/util/NoSuchElementException") ∈ lw_all := lw_g (lw_at lw_m4 193 rfl) rfl
theorem q1020 : (Jvm.Cond.methodLink "java/util/ArrayDeque$DeqIterator" (34 : Nat) ({ cls := "java/util/NoSuchElementException", name := "<init>", desc := "()V" } : Jvm.MethodName)) ∈ lw_all := lw_g (lw_at lw_m4 194 rfl) rfl
theorem q1030 : (Jvm.Cond.methodLink "java/util/ArrayDeque$DeqIterator" (39 : Nat) ({ cls := "java/util/ArrayDeque", name := "nonNullElementAt", desc := "([Ljava/lang/Object;I)Ljava/lang/Object;" } : Jvm.MethodName)) ∈ lw_all := lw_g (lw_at lw_m4 204 rfl) rfl
theorem q1033 : (Jvm.Cond.methodLink "java/util/ArrayDeque$DeqIterator" (43 : Nat) ({ cls := "java/util/ArrayDeque", name := "inc", desc := "(II)I" } : Jvm.MethodName)) ∈ lw_all := lw_g (lw_at lw_m4 207 rfl) rfl
theorem q1840 : (Jvm.Cond.selects "java/util/ArrayDeque$DeqIterator" ({ cls := "java/util/Iterator", name := "remove", desc := "()V" } : Jvm.MethodName) ({ cls := "java/util/ArrayDeque$DeqIterator", name := "remove", desc := "()V" } : Jvm.MethodName)) ∈ lw_all := lw_g (lw_at lw_m8 54 rfl) rfl
theorem q1841 : (Jvm.Cond.unhidden "java/util/ArrayDeque$DeqIterator" "remove" "()V") ∈ lw_tbl := lw_at lw_m8 55 rfl
theorem q1842 : (Jvm.Cond.instanceMethod ({ cls := "java/util/ArrayDeque$DeqIterator", name := "remove", desc := "()V" } : Jvm.MethodName)) ∈ lw_all := lw_g (lw_at lw_m8 56 rfl) rfl
theorem q1843 : (Jvm.Cond.publicMethod ({ cls := "java/util/ArrayDeque$DeqIterator", name := "remove", desc := "()V" } : Jvm.MethodName)) ∈ lw_tbl := lw_at lw_m8 57 rfl
theorem q1844 : (Jvm.Cond.code ({ cls := "java/util/ArrayDeque$DeqIterator", name := "remove", desc := "()V" } : Jvm.MethodName) prog_70_method_5_code (1 : Nat) (Option.none : Option Jvm.ClassFile.FieldType)) ∈ lw_all := lw_g (lw_at lw_m8 58 rfl) rfl
theorem q1845 : (Jvm.Cond.classLink "java/util/ArrayDeque$DeqIterator" (50 : Nat) "java/lang/IllegalStateException") ∈ lw_all := lw_g (lw_at lw_m8 59 rfl) rfl
theorem q1846 : (Jvm.Cond.methodLink "java/util/ArrayDeque$DeqIterator" (52 : Nat) ({ cls := "java/lang/IllegalStateException", name := "<init>", desc := "()V" } : Jvm.MethodName)) ∈ lw_all := lw_g (lw_at lw_m8 60 rfl) rfl
theorem q1847 : (Jvm.Cond.methodLink "java/util/ArrayDeque$DeqIterator" (53 : Nat) ({ cls := "java/util/ArrayDeque", name := "delete", desc := "(I)Z" } : Jvm.MethodName)) ∈ lw_all := lw_g (lw_at lw_m8 61 rfl) rfl
theorem q1858 : (Jvm.Cond.methodLink "java/util/ArrayDeque$DeqIterator" (57 : Nat) ({ cls := "java/util/ArrayDeque$DeqIterator", name := "postDelete", desc := "(Z)V" } : Jvm.MethodName)) ∈ lw_all := lw_g (lw_at lw_m8 72 rfl) rfl
theorem q1859 : (Jvm.Cond.instanceMethod ({ cls := "java/util/ArrayDeque$DeqIterator", name := "postDelete", desc := "(Z)V" } : Jvm.MethodName)) ∈ lw_all := lw_g (lw_at lw_m8 73 rfl) rfl
theorem q1860 : (Jvm.Cond.selects "java/util/ArrayDeque$DeqIterator" ({ cls := "java/util/ArrayDeque$DeqIterator", name := "postDelete", desc := "(Z)V" } : Jvm.MethodName) ({ cls := "java/util/ArrayDeque$DeqIterator", name := "postDelete", desc := "(Z)V" } : Jvm.MethodName)) ∈ lw_all := lw_g (lw_at lw_m8 74 rfl) rfl
theorem q1861 : (Jvm.Cond.code ({ cls := "java/util/ArrayDeque$DeqIterator", name := "postDelete", desc := "(Z)V" } : Jvm.MethodName) prog_70_method_4_code (2 : Nat) (Option.none : Option Jvm.ClassFile.FieldType)) ∈ lw_all := lw_g (lw_at lw_m8 75 rfl) rfl
theorem q1862 : (Jvm.Cond.methodLink "java/util/ArrayDeque$DeqIterator" (47 : Nat) ({ cls := "java/util/ArrayDeque", name := "dec", desc := "(II)I" } : Jvm.MethodName)) ∈ lw_all := lw_g (lw_at lw_m8 76 rfl) rfl
theorem q2506 : (Jvm.Cond.instantiable "java/util/ArrayDeque$DeqIterator" (4 : Nat)) ∈ lw_all := lw_g (lw_at lw_m11 0 rfl) rfl
theorem q2508 : (Jvm.Cond.instanceMethod ({ cls := "java/util/ArrayDeque$DeqIterator", name := "<init>", desc := "(Ljava/util/ArrayDeque;)V" } : Jvm.MethodName)) ∈ lw_all := lw_g (lw_at lw_m11 2 rfl) rfl
theorem q2509 : (Jvm.Cond.code ({ cls := "java/util/ArrayDeque$DeqIterator", name := "<init>", desc := "(Ljava/util/ArrayDeque;)V" } : Jvm.MethodName) prog_70_method_1_code (2 : Nat) (Option.none : Option Jvm.ClassFile.FieldType)) ∈ lw_all := lw_g (lw_at lw_m11 3 rfl) rfl
theorem q2510 : (Jvm.Cond.methodLink "java/util/ArrayDeque$DeqIterator" (7 : Nat) ({ cls := "java/lang/Object", name := "<init>", desc := "()V" } : Jvm.MethodName)) ∈ lw_all := lw_g (lw_at lw_m11 4 rfl) rfl
theorem q2511 : (Jvm.Cond.methodLink "java/util/ArrayDeque$DeqIterator" (13 : Nat) ({ cls := "java/util/ArrayDeque", name := "size", desc := "()I" } : Jvm.MethodName)) ∈ lw_all := lw_g (lw_at lw_m11 5 rfl) rfl
theorem q2512 : (Jvm.Cond.fieldLink "java/util/ArrayDeque$DeqIterator" (29 : Nat) "java/util/ArrayDeque$DeqIterator" "cursor" "I") ∈ lw_all := lw_g (lw_at lw_m11 6 rfl) rfl
theorem q2513 : (Jvm.Cond.fieldLink "java/util/ArrayDeque$DeqIterator" (19 : Nat) "java/util/ArrayDeque$DeqIterator" "remaining" "I") ∈ lw_all := lw_g (lw_at lw_m11 7 rfl) rfl
theorem q2514 : (Jvm.Cond.fieldLink "java/util/ArrayDeque$DeqIterator" (23 : Nat) "java/util/ArrayDeque$DeqIterator" "lastRet" "I") ∈ lw_all := lw_g (lw_at lw_m11 8 rfl) rfl
theorem q2515 : (Jvm.Cond.fieldLink "java/util/ArrayDeque$DeqIterator" (1 : Nat) "java/util/ArrayDeque$DeqIterator" "this$0" "Ljava/util/ArrayDeque;") ∈ lw_all := lw_g (lw_at lw_m11 9 rfl) rfl
theorem q2516 : (Jvm.Cond.lays "java/util/ArrayDeque$DeqIterator" "java/util/ArrayDeque$DeqIterator" "cursor" "I") ∈ lw_all := lw_g (lw_at lw_m11 10 rfl) rfl
theorem q2517 : (Jvm.Cond.soleField "java/util/ArrayDeque$DeqIterator" "cursor") ∈ lw_all := lw_g (lw_at lw_m11 11 rfl) rfl
theorem q2518 : (Jvm.Cond.lays "java/util/ArrayDeque$DeqIterator" "java/util/ArrayDeque$DeqIterator" "remaining" "I") ∈ lw_all := lw_g (lw_at lw_m11 12 rfl) rfl
theorem q2519 : (Jvm.Cond.soleField "java/util/ArrayDeque$DeqIterator" "remaining") ∈ lw_all := lw_g (lw_at lw_m11 13 rfl) rfl
theorem q2520 : (Jvm.Cond.lays "java/util/ArrayDeque$DeqIterator" "java/util/ArrayDeque$DeqIterator" "lastRet" "I") ∈ lw_all := lw_g (lw_at lw_m11 14 rfl) rfl
theorem q2521 : (Jvm.Cond.soleField "java/util/ArrayDeque$DeqIterator" "lastRet") ∈ lw_all := lw_g (lw_at lw_m11 15 rfl) rfl
theorem q2522 : (Jvm.Cond.laysFinal "java/util/ArrayDeque$DeqIterator" "java/util/ArrayDeque$DeqIterator" "this$0" "Ljava/util/ArrayDeque;") ∈ lw_all := lw_g (lw_at lw_m11 16 rfl) rfl
theorem q2523 : (Jvm.Cond.soleField "java/util/ArrayDeque$DeqIterator" "this$0") ∈ lw_all := lw_g (lw_at lw_m11 17 rfl) rfl
theorem q2524 : (Jvm.Cond.superclass "java/util/ArrayDeque$DeqIterator" "java/lang/Object") ∈ lw_all := lw_g (lw_at lw_m11 18 rfl) rfl
theorem q4010 : (Jvm.Cond.castable "java/util/ArrayDeque$DeqIterator" "java/lang/Object") ∈ lw_tbl := lw_at lw_m17 64 rfl
theorem in_J42 : ∀ w ∈ wsJ420, w ∈ lw_all := lw_in wsJ420 [2516, 2518, 2520, 2522] (by decide +kernel) (by decide +kernel)

/-! java/util/ImmutableCollections$ListItr -/
set_option maxRecDepth 100000
def RJ43 : String := "java/util/ImmutableCollections$ListItr"
def TJ43 : u_T := fun k => match k with
  | 0 => ("java/util/ImmutableCollections$ListItr", "list", "Ljava/util/List;", true)
  | 1 => ("java/util/ImmutableCollections$ListItr", "size", "I", true)
  | 2 => ("java/util/ImmutableCollections$ListItr", "isListIterator", "Z", true)
  | _ => ("java/util/ImmutableCollections$ListItr", "cursor", "I", false)
def tyJ43 : Nat → FieldType := fun k => match k with
  | 0 => .object "java/util/List"
  | 1 => .int
  | 2 => .boolean
  | _ => .int
abbrev wsJ430 : List Cond := u_ws RJ43 TJ43 4
theorem nmJ43 : ∀ a, a < 4 → ∀ b, b < 4 → a ≠ b → (TJ43 a).2.1 ≠ (TJ43 b).2.1 := by decide +kernel
theorem tyJ43_ok : ∀ k, k < 4 → parseFieldDescriptor (TJ43 k).2.2.1 = some (tyJ43 k) := by decide +kernel
abbrev cJ43_hasNext : ByteArray := prog_83_method_3_code
def yJ43_hasNext : MethodName := ⟨RJ43, "hasNext", "()Z"⟩
def dkwJ43_hasNext_0 : List UInt8 := [42, 180, 0, 17, 42, 180, 0, 13, 159, 0, 7, 4, 167, 0, 4, 3, 172]
abbrev dktJ43_hasNext_0 : List UInt8 := dkwJ43_hasNext_0 ++ []
theorem dksJ43_hasNext_0 : cJ43_hasNext.data.toList.drop 0 = dktJ43_hasNext_0 := by decide +kernel
theorem dJ43_hasNext_0 : decode cJ43_hasNext 0 = .ok (.aload_n 0, 1) := dk_42 (dk_at dksJ43_hasNext_0 0 rfl rfl)
theorem dJ43_hasNext_1 : decode cJ43_hasNext 1 = .ok (.getfield 17, 3) := dk_180 0 17 (dk_at dksJ43_hasNext_0 1 rfl rfl)
theorem dJ43_hasNext_4 : decode cJ43_hasNext 4 = .ok (.aload_n 0, 1) := dk_42 (dk_at dksJ43_hasNext_0 4 rfl rfl)
theorem dJ43_hasNext_5 : decode cJ43_hasNext 5 = .ok (.getfield 13, 3) := dk_180 0 13 (dk_at dksJ43_hasNext_0 5 rfl rfl)
theorem dJ43_hasNext_8 : decode cJ43_hasNext 8 = .ok (.if_icmp .eq 7, 3) := dk_159 0 7 (dk_at dksJ43_hasNext_0 8 rfl rfl)
theorem dJ43_hasNext_11 : decode cJ43_hasNext 11 = .ok (.iconst 1, 1) := dk_4 (dk_at dksJ43_hasNext_0 11 rfl rfl)
theorem dJ43_hasNext_12 : decode cJ43_hasNext 12 = .ok (.goto 4, 3) := dk_167 0 4 (dk_at dksJ43_hasNext_0 12 rfl rfl)
theorem dJ43_hasNext_15 : decode cJ43_hasNext 15 = .ok (.iconst 0, 1) := dk_3 (dk_at dksJ43_hasNext_0 15 rfl rfl)
theorem dJ43_hasNext_16 : decode cJ43_hasNext 16 = .ok (.ireturn, 1) := dk_172 (dk_at dksJ43_hasNext_0 16 rfl rfl)
abbrev cJ43_next : ByteArray := prog_83_method_4_code
def yJ43_next : MethodName := ⟨RJ43, "next", "()Ljava/lang/Object;"⟩
def dkwJ43_next_1 : List UInt8 := [176, 76, 187, 0, 32, 89, 183, 0, 34, 191]
abbrev dktJ43_next_1 : List UInt8 := dkwJ43_next_1 ++ []
def dkwJ43_next_0 : List UInt8 := [42, 180, 0, 17, 60, 42, 180, 0, 7, 27, 185, 0, 24, 2, 0, 77, 42, 27, 4, 96, 181, 0, 17, 44]
abbrev dktJ43_next_0 : List UInt8 := dkwJ43_next_0 ++ dktJ43_next_1
theorem dksJ43_next_0 : cJ43_next.data.toList.drop 0 = dktJ43_next_0 := by decide +kernel
theorem dksJ43_next_1 : cJ43_next.data.toList.drop 24 = dktJ43_next_1 := dk_seg dksJ43_next_0 24 rfl rfl
theorem dJ43_next_0 : decode cJ43_next 0 = .ok (.aload_n 0, 1) := dk_42 (dk_at dksJ43_next_0 0 rfl rfl)
theorem dJ43_next_1 : decode cJ43_next 1 = .ok (.getfield 17, 3) := dk_180 0 17 (dk_at dksJ43_next_0 1 rfl rfl)
theorem dJ43_next_4 : decode cJ43_next 4 = .ok (.istore_n 1, 1) := dk_60 (dk_at dksJ43_next_0 4 rfl rfl)
theorem dJ43_next_5 : decode cJ43_next 5 = .ok (.aload_n 0, 1) := dk_42 (dk_at dksJ43_next_0 5 rfl rfl)
theorem dJ43_next_6 : decode cJ43_next 6 = .ok (.getfield 7, 3) := dk_180 0 7 (dk_at dksJ43_next_0 6 rfl rfl)
theorem dJ43_next_9 : decode cJ43_next 9 = .ok (.iload_n 1, 1) := dk_27 (dk_at dksJ43_next_0 9 rfl rfl)
theorem dJ43_next_10 : decode cJ43_next 10 = .ok (.invokeinterface 24 2, 5) := by decide +kernel
theorem dJ43_next_15 : decode cJ43_next 15 = .ok (.astore_n 2, 1) := dk_77 (dk_at dksJ43_next_0 15 rfl rfl)
theorem dJ43_next_16 : decode cJ43_next 16 = .ok (.aload_n 0, 1) := dk_42 (dk_at dksJ43_next_0 16 rfl rfl)
theorem dJ43_next_17 : decode cJ43_next 17 = .ok (.iload_n 1, 1) := dk_27 (dk_at dksJ43_next_0 17 rfl rfl)
theorem dJ43_next_18 : decode cJ43_next 18 = .ok (.iconst 1, 1) := dk_4 (dk_at dksJ43_next_0 18 rfl rfl)
theorem dJ43_next_19 : decode cJ43_next 19 = .ok (.iadd, 1) := dk_96 (dk_at dksJ43_next_0 19 rfl rfl)
theorem dJ43_next_20 : decode cJ43_next 20 = .ok (.putfield 17, 3) := dk_181 0 17 (dk_at dksJ43_next_0 20 rfl rfl)
theorem dJ43_next_23 : decode cJ43_next 23 = .ok (.aload_n 2, 1) := dk_44 (dk_at dksJ43_next_0 23 rfl rfl)
theorem dJ43_next_24 : decode cJ43_next 24 = .ok (.areturn, 1) := dk_176 (dk_at dksJ43_next_1 0 rfl rfl)
theorem dJ43_next_25 : decode cJ43_next 25 = .ok (.astore_n 1, 1) := dk_76 (dk_at dksJ43_next_1 1 rfl rfl)
theorem dJ43_next_26 : decode cJ43_next 26 = .ok (.new 32, 3) := dk_187 0 32 (dk_at dksJ43_next_1 2 rfl rfl)
theorem dJ43_next_29 : decode cJ43_next 29 = .ok (.dup, 1) := dk_89 (dk_at dksJ43_next_1 5 rfl rfl)
theorem dJ43_next_30 : decode cJ43_next 30 = .ok (.invokespecial 34, 3) := dk_183 0 34 (dk_at dksJ43_next_1 6 rfl rfl)
theorem dJ43_next_33 : decode cJ43_next 33 = .ok (.athrow, 1) := dk_191 (dk_at dksJ43_next_1 9 rfl rfl)
abbrev cJ43_remove : ByteArray := prog_83_method_5_code
def yJ43_remove : MethodName := ⟨RJ43, "remove", "()V"⟩
theorem dJ43_remove_0 : decode cJ43_remove 0 = .ok (.invokestatic 35, 3) := by decide +kernel
theorem dJ43_remove_3 : decode cJ43_remove 3 = .ok (.athrow, 1) := by decide +kernel
abbrev cJ43_init : ByteArray := prog_83_method_1_code
def yJ43_init : MethodName := ⟨RJ43, "<init>", "(Ljava/util/List;I)V"⟩
def dkwJ43_init_1 : List UInt8 := [177]
abbrev dktJ43_init_1 : List UInt8 := dkwJ43_init_1 ++ []
def dkwJ43_init_0 : List UInt8 := [42, 183, 0, 1, 42, 43, 181, 0, 7, 42, 28, 181, 0, 13, 42, 3, 181, 0, 17, 42, 3, 181, 0, 20]
abbrev dktJ43_init_0 : List UInt8 := dkwJ43_init_0 ++ dktJ43_init_1
theorem dksJ43_init_0 : cJ43_init.data.toList.drop 0 = dktJ43_init_0 := by decide +kernel
theorem dksJ43_init_1 : cJ43_init.data.toList.drop 24 = dktJ43_init_1 := dk_seg dksJ43_init_0 24 rfl rfl
theorem dJ43_init_0 : decode cJ43_init 0 = .ok (.aload_n 0, 1) := dk_42 (dk_at dksJ43_init_0 0 rfl rfl)
theorem dJ43_init_1 : decode cJ43_init 1 = .ok (.invokespecial 1, 3) := dk_183 0 1 (dk_at dksJ43_init_0 1 rfl rfl)
theorem dJ43_init_4 : decode cJ43_init 4 = .ok (.aload_n 0, 1) := dk_42 (dk_at dksJ43_init_0 4 rfl rfl)
theorem dJ43_init_5 : decode cJ43_init 5 = .ok (.aload_n 1, 1) := dk_43 (dk_at dksJ43_init_0 5 rfl rfl)
theorem dJ43_init_6 : decode cJ43_init 6 = .ok (.putfield 7, 3) := dk_181 0 7 (dk_at dksJ43_init_0 6 rfl rfl)
theorem dJ43_init_9 : decode cJ43_init 9 = .ok (.aload_n 0, 1) := dk_42 (dk_at dksJ43_init_0 9 rfl rfl)
theorem dJ43_init_10 : decode cJ43_init 10 = .ok (.iload_n 2, 1) := dk_28 (dk_at dksJ43_init_0 10 rfl rfl)
theorem dJ43_init_11 : decode cJ43_init 11 = .ok (.putfield 13, 3) := dk_181 0 13 (dk_at dksJ43_init_0 11 rfl rfl)
theorem dJ43_init_14 : decode cJ43_init 14 = .ok (.aload_n 0, 1) := dk_42 (dk_at dksJ43_init_0 14 rfl rfl)
theorem dJ43_init_15 : decode cJ43_init 15 = .ok (.iconst 0, 1) := dk_3 (dk_at dksJ43_init_0 15 rfl rfl)
theorem dJ43_init_16 : decode cJ43_init 16 = .ok (.putfield 17, 3) := dk_181 0 17 (dk_at dksJ43_init_0 16 rfl rfl)
theorem dJ43_init_19 : decode cJ43_init 19 = .ok (.aload_n 0, 1) := dk_42 (dk_at dksJ43_init_0 19 rfl rfl)
theorem dJ43_init_20 : decode cJ43_init 20 = .ok (.iconst 0, 1) := dk_3 (dk_at dksJ43_init_0 20 rfl rfl)
theorem dJ43_init_21 : decode cJ43_init 21 = .ok (.putfield 20, 3) := dk_181 0 20 (dk_at dksJ43_init_0 21 rfl rfl)
theorem dJ43_init_24 : decode cJ43_init 24 = .ok (.return_, 1) := dk_177 (dk_at dksJ43_init_1 0 rfl rfl)
theorem q167 : (Jvm.Cond.initialized "java/util/ImmutableCollections$ListItr") ∈ lw_all := lw_g (lw_at lw_m1 61 rfl) rfl
theorem q482 : (Jvm.Cond.castable "java/util/ImmutableCollections$ListItr" "java/util/Iterator") ∈ lw_tbl := lw_at lw_m2 136 rfl
theorem q483 : (Jvm.Cond.selects "java/util/ImmutableCollections$ListItr" ({ cls := "java/util/Iterator", name := "hasNext", desc := "()Z" } : Jvm.MethodName) ({ cls := "java/util/ImmutableCollections$ListItr", name := "hasNext", desc := "()Z" } : Jvm.MethodName)) ∈ lw_all := lw_g (lw_at lw_m2 137 rfl) rfl
theorem q484 : (Jvm.Cond.unhidden "java/util/ImmutableCollections$ListItr" "hasNext" "()Z") ∈ lw_tbl := lw_at lw_m2 138 rfl
theorem q485 : (Jvm.Cond.instanceMethod ({ cls := "java/util/ImmutableCollections$ListItr", name := "hasNext", desc := "()Z" } : Jvm.MethodName)) ∈ lw_all := lw_g (lw_at lw_m2 139 rfl) rfl
theorem q486 : (Jvm.Cond.publicMethod ({ cls := "java/util/ImmutableCollections$ListItr", name := "hasNext", desc := "()Z" } : Jvm.MethodName)) ∈ lw_tbl := lw_at lw_m2 140 rfl
theorem q487 : (Jvm.Cond.code ({ cls := "java/util/ImmutableCollections$ListItr", name := "hasNext", desc := "()Z" } : Jvm.MethodName) prog_83_method_3_code (1 : Nat) (Option.some Jvm.ClassFile.FieldType.boolean)) ∈ lw_all := lw_g (lw_at lw_m2 141 rfl) rfl
theorem q963 : (Jvm.Cond.selects "java/util/ImmutableCollections$ListItr" ({ cls := "java/lang/Object", name := "getClass", desc := "()Ljava/lang/Class;" } : Jvm.MethodName) ({ cls := "java/lang/Object", name := "getClass", desc := "()Ljava/lang/Class;" } : Jvm.MethodName)) ∈ lw_all := lw_g (lw_at lw_m4 137 rfl) rfl
theorem q1051 : (Jvm.Cond.selects "java/util/ImmutableCollections$ListItr" ({ cls := "java/util/Iterator", name := "next", desc := "()Ljava/lang/Object;" } : Jvm.MethodName) ({ cls := "java/util/ImmutableCollections$ListItr", name := "next", desc := "()Ljava/lang/Object;" } : Jvm.MethodName)) ∈ lw_all := lw_g (lw_at lw_m4 225 rfl) rfl
theorem q1052 : (Jvm.Cond.unhidden "java/util/ImmutableCollections$ListItr" "next" "()Ljava/lang/Object;") ∈ lw_tbl := lw_at lw_m4 226 rfl
theorem q1053 : (Jvm.Cond.instanceMethod ({ cls := "java/util/ImmutableCollections$ListItr", name := "next", desc := "()Ljava/lang/Object;" } : Jvm.MethodName)) ∈ lw_all := lw_g (lw_at lw_m4 227 rfl) rfl
theorem q1054 : (Jvm.Cond.publicMethod ({ cls := "java/util/ImmutableCollections$ListItr", name := "next", desc := "()Ljava/lang/Object;" } : Jvm.MethodName)) ∈ lw_tbl := lw_at lw_m4 228 rfl
theorem q1055 : (Jvm.Cond.codeWith ({ cls := "java/util/ImmutableCollections$ListItr", name := "next", desc := "()Ljava/lang/Object;" } : Jvm.MethodName) prog_83_method_4_code (3 : Nat) (Option.some (Jvm.ClassFile.FieldType.object "java/lang/Object")) [((0 : Nat), (24 : Nat), (25 : Nat), (30 : Nat))]) ∈ lw_all := lw_g (lw_at lw_m4 229 rfl) rfl
theorem q1056 : (Jvm.Cond.interfaceEntry "java/util/ImmutableCollections$ListItr" (24 : Nat)) ∈ lw_tbl := lw_at lw_m4 230 rfl
theorem q1057 : (Jvm.Cond.methodLink "java/util/ImmutableCollections$ListItr" (24 : Nat) ({ cls := "java/util/List", name := "get", desc := "(I)Ljava/lang/Object;" } : Jvm.MethodName)) ∈ lw_all := lw_g (lw_at lw_m4 231 rfl) rfl
theorem q1105 : (Jvm.Cond.classLink "java/util/ImmutableCollections$ListItr" (32 : Nat) "java/util/NoSuchElementException") ∈ lw_all := lw_g (lw_at lw_m5 39 rfl) rfl
theorem q1106 : (Jvm.Cond.methodLink "java/util/ImmutableCollections$ListItr" (34 : Nat) ({ cls := "java/util/NoSuchElementException", name := "<init>", desc := "()V" } : Jvm.MethodName)) ∈ lw_all := lw_g (lw_at lw_m5 40 rfl) rfl
theorem q1875 : (Jvm.Cond.selects "java/util/ImmutableCollections$ListItr" ({ cls := "java/util/Iterator", name := "remove", desc := "()V" } : Jvm.MethodName) ({ cls := "java/util/ImmutableCollections$ListItr", name := "remove", desc := "()V" } : Jvm.MethodName)) ∈ lw_all := lw_g (lw_at lw_m8 89 rfl) rfl
theorem q1876 : (Jvm.Cond.unhidden "java/util/ImmutableCollections$ListItr" "remove" "()V") ∈ lw_tbl := lw_at lw_m8 90 rfl
theorem q1877 : (Jvm.Cond.instanceMethod ({ cls := "java/util/ImmutableCollections$ListItr", name := "remove", desc := "()V" } : Jvm.MethodName)) ∈ lw_all := lw_g (lw_at lw_m8 91 rfl) rfl
theorem q1878 : (Jvm.Cond.publicMethod ({ cls := "java/util/ImmutableCollections$ListItr", name := "remove", desc := "()V" } : Jvm.MethodName)) ∈ lw_tbl := lw_at lw_m8 92 rfl
theorem q1879 : (Jvm.Cond.code ({ cls := "java/util/ImmutableCollections$ListItr", name := "remove", desc := "()V" } : Jvm.MethodName) prog_83_method_5_code (1 : Nat) (Option.none : Option Jvm.ClassFile.FieldType)) ∈ lw_all := lw_g (lw_at lw_m8 93 rfl) rfl
theorem q1880 : (Jvm.Cond.methodLink "java/util/ImmutableCollections$ListItr" (35 : Nat) ({ cls := "java/util/ImmutableCollections", name := "uoe", desc := "()Ljava/lang/UnsupportedOperationException;" } : Jvm.MethodName)) ∈ lw_all := lw_g (lw_at lw_m8 94 rfl) rfl
theorem q2536 : (Jvm.Cond.instantiable "java/util/ImmutableCollections$ListItr" (4 : Nat)) ∈ lw_all := lw_g (lw_at lw_m11 30 rfl) rfl
theorem q2538 : (Jvm.Cond.instanceMethod ({ cls := "java/util/ImmutableCollections$ListItr", name := "<init>", desc := "(Ljava/util/List;I)V" } : Jvm.MethodName)) ∈ lw_all := lw_g (lw_at lw_m11 32 rfl) rfl
theorem q2539 : (Jvm.Cond.code ({ cls := "java/util/ImmutableCollections$ListItr", name := "<init>", desc := "(Ljava/util/List;I)V" } : Jvm.MethodName) prog_83_method_1_code (3 : Nat) (Option.none : Option Jvm.ClassFile.FieldType)) ∈ lw_all := lw_g (lw_at lw_m11 33 rfl) rfl
theorem q2540 : (Jvm.Cond.methodLink "java/util/ImmutableCollections$ListItr" (1 : Nat) ({ cls := "java/lang/Object", name := "<init>", desc := "()V" } : Jvm.MethodName)) ∈ lw_all := lw_g (lw_at lw_m11 34 rfl) rfl
theorem q2541 : (Jvm.Cond.fieldLink "java/util/ImmutableCollections$ListItr" (7 : Nat) "java/util/ImmutableCollections$ListItr" "list" "Ljava/util/List;") ∈ lw_all := lw_g (lw_at lw_m11 35 rfl) rfl
theorem q2542 : (Jvm.Cond.fieldLink "java/util/ImmutableCollections$ListItr" (13 : Nat) "java/util/ImmutableCollections$ListItr" "size" "I") ∈ lw_all := lw_g (lw_at lw_m11 36 rfl) rfl
theorem q2543 : (Jvm.Cond.fieldLink "java/util/ImmutableCollections$ListItr" (20 : Nat) "java/util/ImmutableCollections$ListItr" "isListIterator" "Z") ∈ lw_all := lw_g (lw_at lw_m11 37 rfl) rfl
theorem q2544 : (Jvm.Cond.fieldLink "java/util/ImmutableCollections$ListItr" (17 : Nat) "java/util/ImmutableCollections$ListItr" "cursor" "I") ∈ lw_all := lw_g (lw_at lw_m11 38 rfl) rfl
theorem q2545 : (Jvm.Cond.laysFinal "java/util/ImmutableCollections$ListItr" "java/util/ImmutableCollections$ListItr" "list" "Ljava/util/List;") ∈ lw_all := lw_g (lw_at lw_m11 39 rfl) rfl
theorem q2546 : (Jvm.Cond.soleField "java/util/ImmutableCollections$ListItr" "list") ∈ lw_all := lw_g (lw_at lw_m11 40 rfl) rfl
theorem q2547 : (Jvm.Cond.laysFinal "java/util/ImmutableCollections$ListItr" "java/util/ImmutableCollections$ListItr" "size" "I") ∈ lw_all := lw_g (lw_at lw_m11 41 rfl) rfl
theorem q2548 : (Jvm.Cond.soleField "java/util/ImmutableCollections$ListItr" "size") ∈ lw_all := lw_g (lw_at lw_m11 42 rfl) rfl
theorem q2549 : (Jvm.Cond.laysFinal "java/util/ImmutableCollections$ListItr" "java/util/ImmutableCollections$ListItr" "isListIterator" "Z") ∈ lw_all := lw_g (lw_at lw_m11 43 rfl) rfl
theorem q2550 : (Jvm.Cond.soleField "java/util/ImmutableCollections$ListItr" "isListIterator") ∈ lw_all := lw_g (lw_at lw_m11 44 rfl) rfl
theorem q2551 : (Jvm.Cond.lays "java/util/ImmutableCollections$ListItr" "java/util/ImmutableCollections$ListItr" "cursor" "I") ∈ lw_all := lw_g (lw_at lw_m11 45 rfl) rfl
theorem q2552 : (Jvm.Cond.soleField "java/util/ImmutableCollections$ListItr" "cursor") ∈ lw_all := lw_g (lw_at lw_m11 46 rfl) rfl
theorem q2553 : (Jvm.Cond.superclass "java/util/ImmutableCollections$ListItr" "java/lang/Object") ∈ lw_all := lw_g (lw_at lw_m11 47 rfl) rfl
theorem q4033 : (Jvm.Cond.castable "java/util/ImmutableCollections$ListItr" "java/lang/Object") ∈ lw_tbl := lw_at lw_m17 87 rfl
theorem in_J43 : ∀ w ∈ wsJ430, w ∈ lw_all := lw_in wsJ430 [2545, 2547, 2549, 2551] (by decide +kernel) (by decide +kernel)

/-! java/util/PriorityQueue$Itr -/
set_option maxRecDepth 100000
def RJ44 : String := "java/util/PriorityQueue$Itr"
def TJ44 : u_T := fun k => match k with
  | 0 => ("java/util/PriorityQueue$Itr", "cursor", "I", false)
  | 1 => ("java/util/PriorityQueue$Itr", "lastRet", "I", false)
  | 2 => ("java/util/PriorityQueue$Itr", "forgetMeNot", "Ljava/util/ArrayDeque;", false)
  | 3 => ("java/util/PriorityQueue$Itr", "lastRetElt", "Ljava/lang/Object;", false)
  | 4 => ("java/util/PriorityQueue$Itr", "expectedModCount", "I", false)
  | _ => ("java/util/PriorityQueue$Itr", "this$0", "Ljava/util/PriorityQueue;", true)
def tyJ44 : Nat → FieldType := fun k => match k with
  | 0 => .int
  | 1 => .int
  | 2 => .object "java/util/ArrayDeque"
  | 3 => .object "java/lang/Object"
  | 4 => .int
  | _ => .object "java/util/PriorityQueue"
abbrev wsJ440 : List Cond := u_ws RJ44 TJ44 6
theorem nmJ44 : ∀ a, a < 6 → ∀ b, b < 6 → a ≠ b → (TJ44 a).2.1 ≠ (TJ44 b).2.1 := by decide +kernel
theorem tyJ44_ok : ∀ k, k < 6 → parseFieldDescriptor (TJ44 k).2.2.1 = some (tyJ44 k) := by decide +kernel
abbrev cJ44_hasNext : ByteArray := prog_97_method_2_code
def yJ44_hasNext : MethodName := ⟨RJ44, "hasNext", "()Z"⟩
def dkwJ44_hasNext_1 : List UInt8 := [180, 0, 31, 182, 0, 35, 154, 0, 7, 4, 167, 0, 4, 3, 172]
abbrev dktJ44_hasNext_1 : List UInt8 := dkwJ44_hasNext_1 ++ []
def dkwJ44_hasNext_0 : List UInt8 := [42, 180, 0, 25, 42, 180, 0, 1, 180, 0, 28, 161, 0, 20, 42, 180, 0, 31, 198, 0, 17, 42]
abbrev dktJ44_hasNext_0 : List UInt8 := dkwJ44_hasNext_0 ++ dktJ44_hasNext_1
theorem dksJ44_hasNext_0 : cJ44_hasNext.data.toList.drop 0 = dktJ44_hasNext_0 := by decide +kernel
theorem dksJ44_hasNext_1 : cJ44_hasNext.data.toList.drop 22 = dktJ44_hasNext_1 := dk_seg dksJ44_hasNext_0 22 rfl rfl
theorem dJ44_hasNext_0 : decode cJ44_hasNext 0 = .ok (.aload_n 0, 1) := dk_42 (dk_at dksJ44_hasNext_0 0 rfl rfl)
theorem dJ44_hasNext_1 : decode cJ44_hasNext 1 = .ok (.getfield 25, 3) := dk_180 0 25 (dk_at dksJ44_hasNext_0 1 rfl rfl)
theorem dJ44_hasNext_4 : decode cJ44_hasNext 4 = .ok (.aload_n 0, 1) := dk_42 (dk_at dksJ44_hasNext_0 4 rfl rfl)
theorem dJ44_hasNext_5 : decode cJ44_hasNext 5 = .ok (.getfield 1, 3) := dk_180 0 1 (dk_at dksJ44_hasNext_0 5 rfl rfl)
theorem dJ44_hasNext_8 : decode cJ44_hasNext 8 = .ok (.getfield 28, 3) := dk_180 0 28 (dk_at dksJ44_hasNext_0 8 rfl rfl)
theorem dJ44_hasNext_11 : decode cJ44_hasNext 11 = .ok (.if_icmp .lt 20, 3) := dk_161 0 20 (dk_at dksJ44_hasNext_0 11 rfl rfl)
theorem dJ44_hasNext_14 : decode cJ44_hasNext 14 = .ok (.aload_n 0, 1) := dk_42 (dk_at dksJ44_hasNext_0 14 rfl rfl)
theorem dJ44_hasNext_15 : decode cJ44_hasNext 15 = .ok (.getfield 31, 3) := dk_180 0 31 (dk_at dksJ44_hasNext_0 15 rfl rfl)
theorem dJ44_hasNext_18 : decode cJ44_hasNext 18 = .ok (.ifnull 17, 3) := dk_198 0 17 (dk_at dksJ44_hasNext_0 18 rfl rfl)
theorem dJ44_hasNext_21 : decode cJ44_hasNext 21 = .ok (.aload_n 0, 1) := dk_42 (dk_at dksJ44_hasNext_0 21 rfl rfl)
theorem dJ44_hasNext_22 : decode cJ44_hasNext 22 = .ok (.getfield 31, 3) := dk_180 0 31 (dk_at dksJ44_hasNext_1 0 rfl rfl)
theorem dJ44_hasNext_25 : decode cJ44_hasNext 25 = .ok (.invokevirtual 35, 3) := dk_182 0 35 (dk_at dksJ44_hasNext_1 3 rfl rfl)
theorem dJ44_hasNext_28 : decode cJ44_hasNext 28 = .ok (.ifCond .ne 7, 3) := dk_154 0 7 (dk_at dksJ44_hasNext_1 6 rfl rfl)
theorem dJ44_hasNext_31 : decode cJ44_hasNext 31 = .ok (.iconst 1, 1) := dk_4 (dk_at dksJ44_hasNext_1 9 rfl rfl)
theorem dJ44_hasNext_32 : decode cJ44_hasNext 32 = .ok (.goto 4, 3) := dk_167 0 4 (dk_at dksJ44_hasNext_1 10 rfl rfl)
theorem dJ44_hasNext_35 : decode cJ44_hasNext 35 = .ok (.iconst 0, 1) := dk_3 (dk_at dksJ44_hasNext_1 13 rfl rfl)
theorem dJ44_hasNext_36 : decode cJ44_hasNext 36 = .ok (.ireturn, 1) := dk_172 (dk_at dksJ44_hasNext_1 14 rfl rfl)
abbrev cJ44_next : ByteArray := prog_97_method_3_code
def yJ44_next : MethodName := ⟨RJ44, "next", "()Ljava/lang/Object;"⟩
def dkwJ44_next_4 : List UInt8 := [180, 0, 52, 176, 187, 0, 56, 89, 183, 0, 58, 191]
abbrev dktJ44_next_4 : List UInt8 := dkwJ44_next_4 ++ []
def dkwJ44_next_3 : List UInt8 := [181, 0, 13, 42, 42, 180, 0, 31, 182, 0, 48, 181, 0, 52, 42, 180, 0, 52, 198, 0, 8, 42]
abbrev dktJ44_next_3 : List UInt8 := dkwJ44_next_3 ++ dktJ44_next_4
def dkwJ44_next_2 : List UInt8 := [180, 0, 25, 90, 4, 96, 181, 0, 25, 90, 181, 0, 13, 50, 176, 42, 180, 0, 31, 198, 0, 31, 42, 2]
abbrev dktJ44_next_2 : List UInt8 := dkwJ44_next_2 ++ dktJ44_next_3
def dkwJ44_next_1 : List UInt8 := [180, 0, 25, 42, 180, 0, 1, 180, 0, 28, 162, 0, 28, 42, 180, 0, 1, 180, 0, 44, 42, 42, 89]
abbrev dktJ44_next_1 : List UInt8 := dkwJ44_next_1 ++ dktJ44_next_2
def dkwJ44_next_0 : List UInt8 := [42, 180, 0, 22, 42, 180, 0, 1, 180, 0, 17, 159, 0, 11, 187, 0, 41, 89, 183, 0, 43, 191, 42]
abbrev dktJ44_next_0 : List UInt8 := dkwJ44_next_0 ++ dktJ44_next_1
theorem dksJ44_next_0 : cJ44_next.data.toList.drop 0 = dktJ44_next_0 := by decide +kernel
theorem dksJ44_next_1 : cJ44_next.data.toList.drop 23 = dktJ44_next_1 := dk_seg dksJ44_next_0 23 rfl rfl
theorem dksJ44_next_2 : cJ44_next.data.toList.drop 46 = dktJ44_next_2 := dk_seg dksJ44_next_1 23 rfl rfl
theorem dksJ44_next_3 : cJ44_next.data.toList.drop 70 = dktJ44_next_3 := dk_seg dksJ44_next_2 24 rfl rfl
theorem dksJ44_next_4 : cJ44_next.data.toList.drop 92 = dktJ44_next_4 := dk_seg dksJ44_next_3 22 rfl rfl
theorem dJ44_next_0 : decode cJ44_next 0 = .ok (.aload_n 0, 1) := dk_42 (dk_at dksJ44_next_0 0 rfl rfl)
theorem dJ44_next_1 : decode cJ44_next 1 = .ok (.getfield 22, 3) := dk_180 0 22 (dk_at dksJ44_next_0 1 rfl rfl)
theorem dJ44_next_4 : decode cJ44_next 4 = .ok (.aload_n 0, 1) := dk_42 (dk_at dksJ44_next_0 4 rfl rfl)
theorem dJ44_next_5 : decode cJ44_next 5 = .ok (.getfield 1, 3) := dk_180 0 1 (dk_at dksJ44_next_0 5 rfl rfl)
theorem dJ44_next_8 : decode cJ44_next 8 = .ok (.getfield 17, 3) := dk_180 0 17 (dk_at dksJ44_next_0 8 rfl rfl)
theorem dJ44_next_11 : decode cJ44_next 11 = .ok (.if_icmp .eq 11, 3) := dk_159 0 11 (dk_at dksJ44_next_0 11 rfl rfl)
theorem dJ44_next_14 : decode cJ44_next 14 = .ok (.new 41, 3) := dk_187 0 41 (dk_at dksJ44_next_0 14 rfl rfl)
theorem dJ44_next_17 : decode cJ44_next 17 = .ok (.dup, 1) := dk_89 (dk_at dksJ44_next_0 17 rfl rfl)
theorem dJ44_next_18 : decode cJ44_next 18 = .ok (.invokespecial 43, 3) := dk_183 0 43 (dk_at dksJ44_next_0 18 rfl rfl)
theorem dJ44_next_21 : decode cJ44_next 21 = .ok (.athrow, 1) := dk_191 (dk_at dksJ44_next_0 21 rfl rfl)
theorem dJ44_next_22 : decode cJ44_next 22 = .ok (.aload_n 0, 1) := dk_42 (dk_at dksJ44_next_0 22 rfl rfl)
theorem dJ44_next_23 : decode cJ44_next 23 = .ok (.getfield 25, 3) := dk_180 0 25 (dk_at dksJ44_next_1 0 rfl rfl)
theorem dJ44_next_26 : decode cJ44_next 26 = .ok (.aload_n 0, 1) := dk_42 (dk_at dksJ44_next_1 3 rfl rfl)
theorem dJ44_next_27 : decode cJ44_next 27 = .ok (.getfield 1, 3) := dk_180 0 1 (dk_at dksJ44_next_1 4 rfl rfl)
theorem dJ44_next_30 : decode cJ44_next 30 = .ok (.getfield 28, 3) := dk_180 0 28 (dk_at dksJ44_next_1 7 rfl rfl)
theorem dJ44_next_33 : decode cJ44_next 33 = .ok (.if_icmp .ge 28, 3) := dk_162 0 28 (dk_at dksJ44_next_1 10 rfl rfl)
theorem dJ44_next_36 : decode cJ44_next 36 = .ok (.aload_n 0, 1) := dk_42 (dk_at dksJ44_next_1 13 rfl rfl)
theorem dJ44_next_37 : decode cJ44_next 37 = .ok (.getfield 1, 3) := dk_180 0 1 (dk_at dksJ44_next_1 14 rfl rfl)
theorem dJ44_next_40 : decode cJ44_next 40 = .ok (.getfield 44, 3) := dk_180 0 44 (dk_at dksJ44_next_1 17 rfl rfl)
theorem dJ44_next_43 : decode cJ44_next 43 = .ok (.aload_n 0, 1) := dk_42 (dk_at dksJ44_next_1 20 rfl rfl)
theorem dJ44_next_44 : decode cJ44_next 44 = .ok (.aload_n 0, 1) := dk_42 (dk_at dksJ44_next_1 21 rfl rfl)
theorem dJ44_next_45 : decode cJ44_next 45 = .ok (.dup, 1) := dk_89 (dk_at dksJ44_next_1 22 rfl rfl)
theorem dJ44_next_46 : decode cJ44_next 46 = .ok (.getfield 25, 3) := dk_180 0 25 (dk_at dksJ44_next_2 0 rfl rfl)
theorem dJ44_next_49 : decode cJ44_next 49 = .ok (.dup_x1, 1) := dk_90 (dk_at dksJ44_next_2 3 rfl rfl)
theorem dJ44_next_50 : decode cJ44_next 50 = .ok (.iconst 1, 1) := dk_4 (dk_at dksJ44_next_2 4 rfl rfl)
theorem dJ44_next_51 : decode cJ44_next 51 = .ok (.iadd, 1) := dk_96 (dk_at dksJ44_next_2 5 rfl rfl)
theorem dJ44_next_52 : decode cJ44_next 52 = .ok (.putfield 25, 3) := dk_181 0 25 (dk_at dksJ44_next_2 6 rfl rfl)
theorem dJ44_next_55 : decode cJ44_next 55 = .ok (.dup_x1, 1) := dk_90 (dk_at dksJ44_next_2 9 rfl rfl)
theorem dJ44_next_56 : decode cJ44_next 56 = .ok (.putfield 13, 3) := dk_181 0 13 (dk_at dksJ44_next_2 10 rfl rfl)
theorem dJ44_next_59 : decode cJ44_next 59 = .ok (.aaload, 1) := dk_50 (dk_at dksJ44_next_2 13 rfl rfl)
theorem dJ44_next_60 : decode cJ44_next 60 = .ok (.areturn, 1) := dk_176 (dk_at dksJ44_next_2 14 rfl rfl)
theorem dJ44_next_61 : decode cJ44_next 61 = .ok (.aload_n 0, 1) := dk_42 (dk_at dksJ44_next_2 15 rfl rfl)
theorem dJ44_next_62 : decode cJ44_next 62 = .ok (.getfield 31, 3) := dk_180 0 31 (dk_at dksJ44_next_2 16 rfl rfl)
theorem dJ44_next_65 : decode cJ44_next 65 = .ok (.ifnull 31, 3) := dk_198 0 31 (dk_at dksJ44_next_2 19 rfl rfl)
theorem dJ44_next_68 : decode cJ44_next 68 = .ok (.aload_n 0, 1) := dk_42 (dk_at dksJ44_next_2 22 rfl rfl)
theorem dJ44_next_69 : decode cJ44_next 69 = .ok (.iconst (-1), 1) := dk_2 (dk_at dksJ44_next_2 23 rfl rfl)
theorem dJ44_next_70 : decode cJ44_next 70 = .ok (.putfield 13, 3) := dk_181 0 13 (dk_at dksJ44_next_3 0 rfl rfl)
theorem dJ44_next_73 : decode cJ44_next 73 = .ok (.aload_n 0, 1) := dk_42 (dk_at dksJ44_next_3 3 rfl rfl)
theorem dJ44_next_74 : decode cJ44_next 74 = .ok (.aload_n 0, 1) := dk_42 (dk_at dksJ44_next_3 4 rfl rfl)
theorem dJ44_next_75 : decode cJ44_next 75 = .ok (.getfield 31, 3) := dk_180 0 31 (dk_at dksJ44_next_3 5 rfl rfl)
theorem dJ44_next_78 : decode cJ44_next 78 = .ok (.invokevirtual 48, 3) := dk_182 0 48 (dk_at dksJ44_next_3 8 rfl rfl)
theorem dJ44_next_81 : decode cJ44_next 81 = .ok (.putfield 52, 3) := dk_181 0 52 (dk_at dksJ44_next_3 11 rfl rfl)
theorem dJ44_next_84 : decode cJ44_next 84 = .ok (.aload_n 0, 1) := dk_42 (dk_at dksJ44_next_3 14 rfl rfl)
theorem dJ44_next_85 : decode cJ44_next 85 = .ok (.getfield 52, 3) := dk_180 0 52 (dk_at dksJ44_next_3 15 rfl rfl)
theorem dJ44_next_88 : decode cJ44_next 88 = .ok (.ifnull 8, 3) := dk_198 0 8 (dk_at dksJ44_next_3 18 rfl rfl)
theorem dJ44_next_91 : decode cJ44_next 91 = .ok (.aload_n 0, 1) := dk_42 (dk_at dksJ44_next_3 21 rfl rfl)
theorem dJ44_next_92 : decode cJ44_next 92 = .ok (.getfield 52, 3) := dk_180 0 52 (dk_at dksJ44_next_4 0 rfl rfl)
theorem dJ44_next_95 : decode cJ44_next 95 = .ok (.areturn, 1) := dk_176 (dk_at dksJ44_next_4 3 rfl rfl)
theorem dJ44_next_96 : decode cJ44_next 96 = .ok (.new 56, 3) := dk_187 0 56 (dk_at dksJ44_next_4 4 rfl rfl)
theorem dJ44_next_99 : decode cJ44_next 99 = .ok (.dup, 1) := dk_89 (dk_at dksJ44_next_4 7 rfl rfl)
theorem dJ44_next_100 : decode cJ44_next 100 = .ok (.invokespecial 58, 3) := dk_183 0 58 (dk_at dksJ44_next_4 8 rfl rfl)
theorem dJ44_next_103 : decode cJ44_next 103 = .ok (.athrow, 1) := dk_191 (dk_at dksJ44_next_4 11 rfl rfl)
abbrev cJ44_remove : ByteArray := prog_97_method_4_code
def yJ44_remove : MethodName := ⟨RJ44, "remove", "()V"⟩
def dkwJ44_remove_5 : List UInt8 := [167, 0, 11, 187, 0, 72, 89, 183, 0, 74, 191, 42, 42, 180, 0, 1, 180, 0, 17, 181, 0, 22, 177]
abbrev dktJ44_remove_5 : List UInt8 := dkwJ44_remove_5 ++ []
def dkwJ44_remove_4 : List UInt8 := [180, 0, 52, 198, 0, 22, 42, 180, 0, 1, 42, 180, 0, 52, 182, 0, 68, 42, 1, 181, 0, 52]
abbrev dktJ44_remove_4 : List UInt8 := dkwJ44_remove_4 ++ dktJ44_remove_5
def dkwJ44_remove_3 : List UInt8 := [42, 187, 0, 36, 89, 183, 0, 63, 181, 0, 31, 42, 180, 0, 31, 43, 182, 0, 64, 87, 167, 0, 37, 42]
abbrev dktJ44_remove_3 : List UInt8 := dkwJ44_remove_3 ++ dktJ44_remove_4
def dkwJ44_remove_2 : List UInt8 := [43, 199, 0, 16, 42, 89, 180, 0, 25, 4, 100, 181, 0, 25, 167, 0, 30, 42, 180, 0, 31, 199, 0, 14]
abbrev dktJ44_remove_2 : List UInt8 := dkwJ44_remove_2 ++ dktJ44_remove_3
def dkwJ44_remove_1 : List UInt8 := [180, 0, 13, 2, 159, 0, 67, 42, 180, 0, 1, 42, 180, 0, 13, 182, 0, 59, 76, 42, 2, 181, 0, 13]
abbrev dktJ44_remove_1 : List UInt8 := dkwJ44_remove_1 ++ dktJ44_remove_2
def dkwJ44_remove_0 : List UInt8 := [42, 180, 0, 22, 42, 180, 0, 1, 180, 0, 17, 159, 0, 11, 187, 0, 41, 89, 183, 0, 43, 191, 42]
abbrev dktJ44_remove_0 : List UInt8 := dkwJ44_remove_0 ++ dktJ44_remove_1
theorem dksJ44_remove_0 : cJ44_remove.data.toList.drop 0 = dktJ44_remove_0 := by decide +kernel
theorem dksJ44_remove_1 : cJ44_remove.data.toList.drop 23 = dktJ44_remove_1 := dk_seg dksJ44_remove_0 23 rfl rfl
theorem dksJ44_remove_2 : cJ44_remove.data.toList.drop 47 = dktJ44_remove_2 := dk_seg dksJ44_remove_1 24 rfl rfl
theorem dksJ44_remove_3 : cJ44_remove.data.toList.drop 71 = dktJ44_remove_3 := dk_seg dksJ44_remove_2 24 rfl rfl
theorem dksJ44_remove_4 : cJ44_remove.data.toList.drop 95 = dktJ44_remove_4 := dk_seg dksJ44_remove_3 24 rfl rfl
theorem dksJ44_remove_5 : cJ44_remove.data.toList.drop 117 = dktJ44_remove_5 := dk_seg dksJ44_remove_4 22 rfl rfl
theorem dJ44_remove_0 : decode cJ44_remove 0 = .ok (.aload_n 0, 1) := dk_42 (dk_at dksJ44_remove_0 0 rfl rfl)
theorem dJ44_remove_1 : decode cJ44_remove 1 = .ok (.getfield 22, 3) := dk_180 0 22 (dk_at dksJ44_remove_0 1 rfl rfl)
theorem dJ44_remove_4 : decode cJ44_remove 4 = .ok (.aload_n 0, 1) := dk_42 (dk_at dksJ44_remove_0 4 rfl rfl)
theorem dJ44_remove_5 : decode cJ44_remove 5 = .ok (.getfield 1, 3) := dk_180 0 1 (dk_at dksJ44_remove_0 5 rfl rfl)
theorem dJ44_remove_8 : decode cJ44_remove 8 = .ok (.getfield 17, 3) := dk_180 0 17 (dk_at dksJ44_remove_0 8 rfl rfl)
theorem dJ44_remove_11 : decode cJ44_remove 11 = .ok (.if_icmp .eq 11, 3) := dk_159 0 11 (dk_at dksJ44_remove_0 11 rfl rfl)
theorem dJ44_remove_14 : decode cJ44_remove 14 = .ok (.new 41, 3) := dk_187 0 41 (dk_at dksJ44_remove_0 14 rfl rfl)
theorem dJ44_remove_17 : decode cJ44_remove 17 = .ok (.dup, 1) := dk_89 (dk_at dksJ44_remove_0 17 rfl rfl)
theorem dJ44_remove_18 : decode cJ44_remove 18 = .ok (.invokespecial 43, 3) := dk_183 0 43 (dk_at dksJ44_remove_0 18 rfl rfl)
theorem dJ44_remove_21 : decode cJ44_remove 21 = .ok (.athrow, 1) := dk_191 (dk_at dksJ44_remove_0 21 rfl rfl)
theorem dJ44_remove_22 : decode cJ44_remove 22 = .ok (.aload_n 0, 1) := dk_42 (dk_at dksJ44_remove_0 22 rfl rfl)
theorem dJ44_remove_23 : decode cJ44_remove 23 = .ok (.getfield 13, 3) := dk_180 0 13 (dk_at dksJ44_remove_1 0 rfl rfl)
theorem dJ44_remove_26 : decode cJ44_remove 26 = .ok (.iconst (-1), 1) := dk_2 (dk_at dksJ44_remove_1 3 rfl rfl)
theorem dJ44_remove_27 : decode cJ44_remove 27 = .ok (.if_icmp .eq 67, 3) := dk_159 0 67 (dk_at dksJ44_remove_1 4 rfl rfl)
theorem dJ44_remove_30 : decode cJ44_remove 30 = .ok (.aload_n 0, 1) := dk_42 (dk_at dksJ44_remove_1 7 rfl rfl)
theorem dJ44_remove_31 : decode cJ44_remove 31 = .ok (.getfield 1, 3) := dk_180 0 1 (dk_at dksJ44_remove_1 8 rfl rfl)
theorem dJ44_remove_34 : decode cJ44_remove 34 = .ok (.aload_n 0, 1) := dk_42 (dk_at dksJ44_remove_1 11 rfl rfl)
theorem dJ44_remove_35 : decode cJ44_remove 35 = .ok (.getfield 13, 3) := dk_180 0 13 (dk_at dksJ44_remove_1 12 rfl rfl)
theorem dJ44_remove_38 : decode cJ44_remove 38 = .ok (.invokevirtual 59, 3) := dk_182 0 59 (dk_at dksJ44_remove_1 15 rfl rfl)
theorem dJ44_remove_41 : decode cJ44_remove 41 = .ok (.astore_n 1, 1) := dk_76 (dk_at dksJ44_remove_1 18 rfl rfl)
theorem dJ44_remove_42 : decode cJ44_remove 42 = .ok (.aload_n 0, 1) := dk_42 (dk_at dksJ44_remove_1 19 rfl rfl)
theorem dJ44_remove_43 : decode cJ44_remove 43 = .ok (.iconst (-1), 1) := dk_2 (dk_at dksJ44_remove_1 20 rfl rfl)
theorem dJ44_remove_44 : decode cJ44_remove 44 = .ok (.putfield 13, 3) := dk_181 0 13 (dk_at dksJ44_remove_1 21 rfl rfl)
theorem dJ44_remove_47 : decode cJ44_remove 47 = .ok (.aload_n 1, 1) := dk_43 (dk_at dksJ44_remove_2 0 rfl rfl)
theorem dJ44_remove_48 : decode cJ44_remove 48 = .ok (.ifnonnull 16, 3) := dk_199 0 16 (dk_at dksJ44_remove_2 1 rfl rfl)
theorem dJ44_remove_51 : decode cJ44_remove 51 = .ok (.aload_n 0, 1) := dk_42 (dk_at dksJ44_remove_2 4 rfl rfl)
theorem dJ44_remove_52 : decode cJ44_remove 52 = .ok (.dup, 1) := dk_89 (dk_at dksJ44_remove_2 5 rfl rfl)
theorem dJ44_remove_53 : decode cJ44_remove 53 = .ok (.getfield 25, 3) := dk_180 0 25 (dk_at dksJ44_remove_2 6 rfl rfl)
theorem dJ44_remove_56 : decode cJ44_remove 56 = .ok (.iconst 1, 1) := dk_4 (dk_at dksJ44_remove_2 9 rfl rfl)
theorem dJ44_remove_57 : decode cJ44_remove 57 = .ok (.isub, 1) := dk_100 (dk_at dksJ44_remove_2 10 rfl rfl)
theorem dJ44_remove_58 : decode cJ44_remove 58 = .ok (.putfield 25, 3) := dk_181 0 25 (dk_at dksJ44_remove_2 11 rfl rfl)
theorem dJ44_remove_61 : decode cJ44_remove 61 = .ok (.goto 30, 3) := dk_167 0 30 (dk_at dksJ44_remove_2 14 rfl rfl)
theorem dJ44_remove_64 : decode cJ44_remove 64 = .ok (.aload_n 0, 1) := dk_42 (dk_at dksJ44_remove_2 17 rfl rfl)
theorem dJ44_remove_65 : decode cJ44_remove 65 = .ok (.getfield 31, 3) := dk_180 0 31 (dk_at dksJ44_remove_2 18 rfl rfl)
theorem dJ44_remove_68 : decode cJ44_remove 68 = .ok (.ifnonnull 14, 3) := dk_199 0 14 (dk_at dksJ44_remove_2 21 rfl rfl)
theorem dJ44_remove_71 : decode cJ44_remove 71 = .ok (.aload_n 0, 1) := dk_42 (dk_at dksJ44_remove_3 0 rfl rfl)
theorem dJ44_remove_72 : decode cJ44_remove 72 = .ok (.new 36, 3) := dk_187 0 36 (dk_at dksJ44_remove_3 1 rfl rfl)
theorem dJ44_remove_75 : decode cJ44_remove 75 = .ok (.dup, 1) := dk_89 (dk_at dksJ44_remove_3 4 rfl rfl)
theorem dJ44_remove_76 : decode cJ44_remove 76 = .ok (.invokespecial 63, 3) := dk_183 0 63 (dk_at dksJ44_remove_3 5 rfl rfl)
theorem dJ44_remove_79 : decode cJ44_remove 79 = .ok (.putfield 31, 3) := dk_181 0 31 (dk_at dksJ44_remove_3 8 rfl rfl)
theorem dJ44_remove_82 : decode cJ44_remove 82 = .ok (.aload_n 0, 1) := dk_42 (dk_at dksJ44_remove_3 11 rfl rfl)
theorem dJ44_remove_83 : decode cJ44_remove 83 = .ok (.getfield 31, 3) := dk_180 0 31 (dk_at dksJ44_remove_3 12 rfl rfl)
theorem dJ44_remove_86 : decode cJ44_remove 86 = .ok (.aload_n 1, 1) := dk_43 (dk_at dksJ44_remove_3 15 rfl rfl)
theorem dJ44_remove_87 : decode cJ44_remove 87 = .ok (.invokevirtual 64, 3) := dk_182 0 64 (dk_at dksJ44_remove_3 16 rfl rfl)
theorem dJ44_remove_90 : decode cJ44_remove 90 = .ok (.pop, 1) := dk_87 (dk_at dksJ44_remove_3 19 rfl rfl)
theorem dJ44_remove_91 : decode cJ44_remove 91 = .ok (.goto 37, 3) := dk_167 0 37 (dk_at dksJ44_remove_3 20 rfl rfl)
theorem dJ44_remove_94 : decode cJ44_remove 94 = .ok (.aload_n 0, 1) := dk_42 (dk_at dksJ44_remove_3 23 rfl rfl)
theorem dJ44_remove_95 : decode cJ44_remove 95 = .ok (.getfield 52, 3) := dk_180 0 52 (dk_at dksJ44_remove_4 0 rfl rfl)
theorem dJ44_remove_98 : decode cJ44_remove 98 = .ok (.ifnull 22, 3) := dk_198 0 22 (dk_at dksJ44_remove_4 3 rfl rfl)
theorem dJ44_remove_101 : decode cJ44_remove 101 = .ok (.aload_n 0, 1) := dk_42 (dk_at dksJ44_remove_4 6 rfl rfl)
theorem dJ44_remove_102 : decode cJ44_remove 102 = .ok (.getfield 1, 3) := dk_180 0 1 (dk_at dksJ44_remove_4 7 rfl rfl)
theorem dJ44_remove_105 : decode cJ44_remove 105 = .ok (.aload_n 0, 1) := dk_42 (dk_at dksJ44_remove_4 10 rfl rfl)
theorem dJ44_remove_106 : decode cJ44_remove 106 = .ok (.getfield 52, 3) := dk_180 0 52 (dk_at dksJ44_remove_4 11 rfl rfl)
theorem dJ44_remove_109 : decode cJ44_remove 109 = .ok (.invokevirtual 68, 3) := dk_182 0 68 (dk_at dksJ44_remove_4 14 rfl rfl)
theorem dJ44_remove_112 : decode cJ44_remove 112 = .ok (.aload_n 0, 1) := dk_42 (dk_at dksJ44_remove_4 17 rfl rfl)
theorem dJ44_remove_113 : decode cJ44_remove 113 = .ok (.aconst_null, 1) := dk_1 (dk_at dksJ44_remove_4 18 rfl rfl)
theorem dJ44_remove_114 : decode cJ44_remove 114 = .ok (.putfield 52, 3) := dk_181 0 52 (dk_at dksJ44_remove_4 19 rfl rfl)
theorem dJ44_remove_117 : decode cJ44_remove 117 = .ok (.goto 11, 3) := dk_167 0 11 (dk_at dksJ44_remove_5 0 rfl rfl)
theorem dJ44_remove_120 : decode cJ44_remove 120 = .ok (.new 72, 3) := dk_187 0 72 (dk_at dksJ44_remove_5 3 rfl rfl)
theorem dJ44_remove_123 : decode cJ44_remove 123 = .ok (.dup, 1) := dk_89 (dk_at dksJ44_remove_5 6 rfl rfl)
theorem dJ44_remove_124 : decode cJ44_remove 124 = .ok (.invokespecial 74, 3) := dk_183 0 74 (dk_at dksJ44_remove_5 7 rfl rfl)
theorem dJ44_remove_127 : decode cJ44_remove 127 = .ok (.athrow, 1) := dk_191 (dk_at dksJ44_remove_5 10 rfl rfl)
theorem dJ44_remove_128 : decode cJ44_remove 128 = .ok (.aload_n 0, 1) := dk_42 (dk_at dksJ44_remove_5 11 rfl rfl)
theorem dJ44_remove_129 : decode cJ44_remove 129 = .ok (.aload_n 0, 1) := dk_42 (dk_at dksJ44_remove_5 12 rfl rfl)
theorem dJ44_remove_130 : decode cJ44_remove 130 = .ok (.getfield 1, 3) := dk_180 0 1 (dk_at dksJ44_remove_5 13 rfl rfl)
theorem dJ44_remove_133 : decode cJ44_remove 133 = .ok (.getfield 17, 3) := dk_180 0 17 (dk_at dksJ44_remove_5 16 rfl rfl)
theorem dJ44_remove_136 : decode cJ44_remove 136 = .ok (.putfield 22, 3) := dk_181 0 22 (dk_at dksJ44_remove_5 19 rfl rfl)
theorem dJ44_remove_139 : decode cJ44_remove 139 = .ok (.return_, 1) := dk_177 (dk_at dksJ44_remove_5 22 rfl rfl)
abbrev cJ44_init : ByteArray := prog_97_method_1_code
def yJ44_init : MethodName := ⟨RJ44, "<init>", "(Ljava/util/PriorityQueue;)V"⟩
def dkwJ44_init_1 : List UInt8 := [181, 0, 22, 177]
abbrev dktJ44_init_1 : List UInt8 := dkwJ44_init_1 ++ []
def dkwJ44_init_0 : List UInt8 := [42, 43, 181, 0, 1, 42, 183, 0, 7, 42, 2, 181, 0, 13, 42, 42, 180, 0, 1, 180, 0, 17]
abbrev dktJ44_init_0 : List UInt8 := dkwJ44_init_0 ++ dktJ44_init_1
theorem dksJ44_init_0 : cJ44_init.data.toList.drop 0 = dktJ44_init_0 := by decide +kernel
theorem dksJ44_init_1 : cJ44_init.data.toList.drop 22 = dktJ44_init_1 := dk_seg dksJ44_init_0 22 rfl rfl
theorem dJ44_init_0 : decode cJ44_init 0 = .ok (.aload_n 0, 1) := dk_42 (dk_at dksJ44_init_0 0 rfl rfl)
theorem dJ44_init_1 : decode cJ44_init 1 = .ok (.aload_n 1, 1) := dk_43 (dk_at dksJ44_init_0 1 rfl rfl)
theorem dJ44_init_2 : decode cJ44_init 2 = .ok (.putfield 1, 3) := dk_181 0 1 (dk_at dksJ44_init_0 2 rfl rfl)
theorem dJ44_init_5 : decode cJ44_init 5 = .ok (.aload_n 0, 1) := dk_42 (dk_at dksJ44_init_0 5 rfl rfl)
theorem dJ44_init_6 : decode cJ44_init 6 = .ok (.invokespecial 7, 3) := dk_183 0 7 (dk_at dksJ44_init_0 6 rfl rfl)
theorem dJ44_init_9 : decode cJ44_init 9 = .ok (.aload_n 0, 1) := dk_42 (dk_at dksJ44_init_0 9 rfl rfl)
theorem dJ44_init_10 : decode cJ44_init 10 = .ok (.iconst (-1), 1) := dk_2 (dk_at dksJ44_init_0 10 rfl rfl)
theorem dJ44_init_11 : decode cJ44_init 11 = .ok (.putfield 13, 3) := dk_181 0 13 (dk_at dksJ44_init_0 11 rfl rfl)
theorem dJ44_init_14 : decode cJ44_init 14 = .ok (.aload_n 0, 1) := dk_42 (dk_at dksJ44_init_0 14 rfl rfl)
theorem dJ44_init_15 : decode cJ44_init 15 = .ok (.aload_n 0, 1) := dk_42 (dk_at dksJ44_init_0 15 rfl rfl)
theorem dJ44_init_16 : decode cJ44_init 16 = .ok (.getfield 1, 3) := dk_180 0 1 (dk_at dksJ44_init_0 16 rfl rfl)
theorem dJ44_init_19 : decode cJ44_init 19 = .ok (.getfield 17, 3) := dk_180 0 17 (dk_at dksJ44_init_0 19 rfl rfl)
theorem dJ44_init_22 : decode cJ44_init 22 = .ok (.putfield 22, 3) := dk_181 0 22 (dk_at dksJ44_init_1 0 rfl rfl)
theorem dJ44_init_25 : decode cJ44_init 25 = .ok (.return_, 1) := dk_177 (dk_at dksJ44_init_1 3 rfl rfl)
theorem q168 : (Jvm.Cond.initialized "java/util/PriorityQueue$Itr") ∈ lw_all := lw_g (lw_at lw_m1 62 rfl) rfl
theorem q494 : (Jvm.Cond.castable "java/util/PriorityQueue$Itr" "java/util/Iterator") ∈ lw_tbl := lw_at lw_m2 148 rfl
theorem q495 : (Jvm.Cond.selects "java/util/PriorityQueue$Itr" ({ cls := "java/util/Iterator", name := "hasNext", desc := "()Z" } : Jvm.MethodName) ({ cls := "java/util/PriorityQueue$Itr", name := "hasNext", desc := "()Z" } : Jvm.MethodName)) ∈ lw_all := lw_g (lw_at lw_m2 149 rfl) rfl
theorem q496 : (Jvm.Cond.unhidden "java/util/PriorityQueue$Itr" "hasNext" "()Z") ∈ lw_tbl := lw_at lw_m2 150 rfl
theorem q497 : (Jvm.Cond.instanceMethod ({ cls := "java/util/PriorityQueue$Itr", name := "hasNext", desc := "()Z" } : Jvm.MethodName)) ∈ lw_all := lw_g (lw_at lw_m2 151 rfl) rfl
theorem q498 : (Jvm.Cond.publicMethod ({ cls := "java/util/PriorityQueue$Itr", name := "hasNext", desc := "()Z" } : Jvm.MethodName)) ∈ lw_tbl := lw_at lw_m2 152 rfl
theorem q499 : (Jvm.Cond.code ({ cls := "java/util/PriorityQueue$Itr", name := "hasNext", desc := "()Z" } : Jvm.MethodName) prog_97_method_2_code (1 : Nat) (Option.some Jvm.ClassFile.FieldType.boolean)) ∈ lw_all := lw_g (lw_at lw_m2 153 rfl) rfl
theorem q500 : (Jvm.Cond.methodLink "java/util/PriorityQueue$Itr" (35 : Nat) ({ cls := "java/util/ArrayDeque", name := "isEmpty", desc := "()Z" } : Jvm.MethodName)) ∈ lw_all := lw_g (lw_at lw_m2 154 rfl) rfl
theorem q970 : (Jvm.Cond.selects "java/util/PriorityQueue$Itr" ({ cls := "java/lang/Object", name := "getClass", desc := "()Ljava/lang/Class;" } : Jvm.MethodName) ({ cls := "java/lang/Object", name := "getClass", desc := "()Ljava/lang/Class;" } : Jvm.MethodName)) ∈ lw_all := lw_g (lw_at lw_m4 144 rfl) rfl
theorem q1119 : (Jvm.Cond.selects "java/util/PriorityQueue$Itr" ({ cls := "java/util/Iterator", name := "next", desc := "()Ljava/lang/Object;" } : Jvm.MethodName) ({ cls := "java/util/PriorityQueue$Itr", name := "next", desc := "()Ljava/lang/Object;" } : Jvm.MethodName)) ∈ lw_all := lw_g (lw_at lw_m5 53 rfl) rfl
theorem q1120 : (Jvm.Cond.unhidden "java/util/PriorityQueue$Itr" "next" "()Ljava/lang/Object;") ∈ lw_tbl := lw_at lw_m5 54 rfl
theorem q1121 : (Jvm.Cond.instanceMethod ({ cls := "java/util/PriorityQueue$Itr", name := "next", desc := "()Ljava/lang/Object;" } : Jvm.MethodName)) ∈ lw_all := lw_g (lw_at lw_m5 55 rfl) rfl
theorem q1122 : (Jvm.Cond.publicMethod ({ cls := "java/util/PriorityQueue$Itr", name := "next", desc := "()Ljava/lang/Object;" } : Jvm.MethodName)) ∈ lw_tbl := lw_at lw_m5 56 rfl
theorem q1123 : (Jvm.Cond.code ({ cls := "java/util/PriorityQueue$Itr", name := "next", desc := "()Ljava/lang/Object;" } : Jvm.MethodName) prog_97_method_3_code (1 : Nat) (Option.some (Jvm.ClassFile.FieldType.object "java/lang/Object"))) ∈ lw_all := lw_g (lw_at lw_m5 57 rfl) rfl
theorem q1124 : (Jvm.Cond.methodLink "java/util/PriorityQueue$Itr" (48 : Nat) ({ cls := "java/util/ArrayDeque", name := "poll", desc := "()Ljava/lang/Object;" } : Jvm.MethodName)) ∈ lw_all := lw_g (lw_at lw_m5 58 rfl) rfl
theorem q1136 : (Jvm.Cond.classLink "java/util/PriorityQueue$Itr" (56 : Nat) "java/util/NoSuchElementException") ∈ lw_all := lw_g (lw_at lw_m5 70 rfl) rfl
theorem q1137 : (Jvm.Cond.methodLink "java/util/PriorityQueue$Itr" (58 : Nat) ({ cls := "java/util/NoSuchElementException", name := "<init>", desc := "()V" } : Jvm.MethodName)) ∈ lw_all := lw_g (lw_at lw_m5 71 rfl) rfl
theorem q1896 : (Jvm.Cond.selects "java/util/PriorityQueue$Itr" ({ cls := "java/util/Iterator", name := "remove", desc := "()V" } : Jvm.MethodName) ({ cls := "java/util/PriorityQueue$Itr", name := "remove", desc := "()V" } : Jvm.MethodName)) ∈ lw_all := lw_g (lw_at lw_m8 110 rfl) rfl
theorem q1897 : (Jvm.Cond.unhidden "java/util/PriorityQueue$Itr" "remove" "()V") ∈ lw_tbl := lw_at lw_m8 111 rfl
theorem q1898 : (Jvm.Cond.instanceMethod ({ cls := "java/util/PriorityQueue$Itr", name := "remove", desc := "()V" } : Jvm.MethodName)) ∈ lw_all := lw_g (lw_at lw_m8 112 rfl) rfl
theorem q1899 : (Jvm.Cond.publicMethod ({ cls := "java/util/PriorityQueue$Itr", name := "remove", desc := "()V" } : Jvm.MethodName)) ∈ lw_tbl := lw_at lw_m8 113 rfl
theorem q1900 : (Jvm.Cond.code ({ cls := "java/util/PriorityQueue$Itr", name := "remove", desc := "()V" } : Jvm.MethodName) prog_97_method_4_code (2 : Nat) (Option.none : Option Jvm.ClassFile.FieldType)) ∈ lw_all := lw_g (lw_at lw_m8 114 rfl) rfl
theorem q1901 : (Jvm.Cond.methodLink "java/util/PriorityQueue$Itr" (59 : Nat) ({ cls := "java/util/PriorityQueue", name := "removeAt", desc := "(I)Ljava/lang/Object;" } : Jvm.MethodName)) ∈ lw_all := lw_g (lw_at lw_m8 115 rfl) rfl
theorem q2140 : (Jvm.Cond.classLink "java/util/PriorityQueue$Itr" (36 : Nat) "java/util/ArrayDeque") ∈ lw_all := lw_g (lw_at lw_m9 114 rfl) rfl
theorem q2141 : (Jvm.Cond.methodLink "java/util/PriorityQueue$Itr" (63 : Nat) ({ cls := "java/util/ArrayDeque", name := "<init>", desc := "()V" } : Jvm.MethodName)) ∈ lw_all := lw_g (lw_at lw_m9 115 rfl) rfl
theorem q2142 : (Jvm.Cond.methodLink "java/util/PriorityQueue$Itr" (64 : Nat) ({ cls := "java/util/ArrayDeque", name := "add", desc := "(Ljava/lang/Object;)Z" } : Jvm.MethodName)) ∈ lw_all := lw_g (lw_at lw_m9 116 rfl) rfl
theorem q2167 : (Jvm.Cond.methodLink "java/util/PriorityQueue$Itr" (68 : Nat) ({ cls := "java/util/PriorityQueue", name := "removeEq", desc := "(Ljava/lang/Object;)V" } : Jvm.MethodName)) ∈ lw_all := lw_g (lw_at lw_m9 141 rfl) rfl
theorem q2172 : (Jvm.Cond.classLink "java/util/PriorityQueue$Itr" (72 : Nat) "java/lang/IllegalStateException") ∈ lw_all := lw_g (lw_at lw_m9 146 rfl) rfl
theorem q2173 : (Jvm.Cond.methodLink "java/util/PriorityQueue$Itr" (74 : Nat) ({ cls := "java/lang/IllegalStateException", name := "<init>", desc := "()V" } : Jvm.MethodName)) ∈ lw_all := lw_g (lw_at lw_m9 147 rfl) rfl
theorem q2568 : (Jvm.Cond.instantiable "java/util/PriorityQueue$Itr" (6 : Nat)) ∈ lw_all := lw_g (lw_at lw_m11 62 rfl) rfl
theorem q2570 : (Jvm.Cond.instanceMethod ({ cls := "java/util/PriorityQueue$Itr", name := "<init>", desc := "(Ljava/util/PriorityQueue;)V" } : Jvm.MethodName)) ∈ lw_all := lw_g (lw_at lw_m11 64 rfl) rfl
theorem q2571 : (Jvm.Cond.code ({ cls := "java/util/PriorityQueue$Itr", name := "<init>", desc := "(Ljava/util/PriorityQueue;)V" } : Jvm.MethodName) prog_97_method_1_code (2 : Nat) (Option.none : Option Jvm.ClassFile.FieldType)) ∈ lw_all := lw_g (lw_at lw_m11 65 rfl) rfl
theorem q2572 : (Jvm.Cond.methodLink "java/util/PriorityQueue$Itr" (7 : Nat) ({ cls := "java/lang/Object", name := "<init>", desc := "()V" } : Jvm.MethodName)) ∈ lw_all := lw_g (lw_at lw_m11 66 rfl) rfl
theorem q2573 : (Jvm.Cond.fieldLink "java/util/PriorityQueue$Itr" (25 : Nat) "java/util/PriorityQueue$Itr" "cursor" "I") ∈ lw_all := lw_g (lw_at lw_m11 67 rfl) rfl
theorem q2574 : (Jvm.Cond.fieldLink "java/util/PriorityQueue$Itr" (13 : Nat) "java/util/PriorityQueue$Itr" "lastRet" "I") ∈ lw_all := lw_g (lw_at lw_m11 68 rfl) rfl
theorem q2575 : (Jvm.Cond.fieldLink "java/util/PriorityQueue$Itr" (31 : Nat) "java/util/PriorityQueue$Itr" "forgetMeNot" "Ljava/util/ArrayDeque;") ∈ lw_all := lw_g (lw_at lw_m11 69 rfl) rfl
theorem q2576 : (Jvm.Cond.fieldLink "java/util/PriorityQueue$Itr" (52 : Nat) "java/util/PriorityQueue$Itr" "lastRetElt" "Ljava/lang/Object;") ∈ lw_all := lw_g (lw_at lw_m11 70 rfl) rfl
theorem q2577 : (Jvm.Cond.fieldLink "java/util/PriorityQueue$Itr" (22 : Nat) "java/util/PriorityQueue$Itr" "expectedModCount" "I") ∈ lw_all := lw_g (lw_at lw_m11 71 rfl) rfl
theorem q2578 : (Jvm.Cond.fieldLink "java/util/PriorityQueue$Itr" (1 : Nat) "java/util/PriorityQueue$Itr" "this$0" "Ljava/util/PriorityQueue;") ∈ lw_all := lw_g (lw_at lw_m11 72 rfl) rfl
theorem q2579 : (Jvm.Cond.lays "java/util/PriorityQueue$Itr" "java/util/PriorityQueue$Itr" "cursor" "I") ∈ lw_all := lw_g (lw_at lw_m11 73 rfl) rfl
theorem q2580 : (Jvm.Cond.soleField "java/util/PriorityQueue$Itr" "cursor") ∈ lw_all := lw_g (lw_at lw_m11 74 rfl) rfl
theorem q2581 : (Jvm.Cond.lays "java/util/PriorityQueue$Itr" "java/util/PriorityQueue$Itr" "lastRet" "I") ∈ lw_all := lw_g (lw_at lw_m11 75 rfl) rfl
theorem q2582 : (Jvm.Cond.soleField "java/util/PriorityQueue$Itr" "lastRet") ∈ lw_all := lw_g (lw_at lw_m11 76 rfl) rfl
theorem q2583 : (Jvm.Cond.lays "java/util/PriorityQueue$Itr" "java/util/PriorityQueue$Itr" "forgetMeNot" "Ljava/util/ArrayDeque;") ∈ lw_all := lw_g (lw_at lw_m11 77 rfl) rfl
theorem q2584 : (Jvm.Cond.soleField "java/util/PriorityQueue$Itr" "forgetMeNot") ∈ lw_all := lw_g (lw_at lw_m11 78 rfl) rfl
theorem q2585 : (Jvm.Cond.lays "java/util/PriorityQueue$Itr" "java/util/PriorityQueue$Itr" "lastRetElt" "Ljava/lang/Object;") ∈ lw_all := lw_g (lw_at lw_m11 79 rfl) rfl
theorem q2586 : (Jvm.Cond.soleField "java/util/PriorityQueue$Itr" "lastRetElt") ∈ lw_all := lw_g (lw_at lw_m11 80 rfl) rfl
theorem q2587 : (Jvm.Cond.lays "java/util/PriorityQueue$Itr" "java/util/PriorityQueue$Itr" "expectedModCount" "I") ∈ lw_all := lw_g (lw_at lw_m11 81 rfl) rfl
theorem q2588 : (Jvm.Cond.soleField "java/util/PriorityQueue$Itr" "expectedModCount") ∈ lw_all := lw_g (lw_at lw_m11 82 rfl) rfl
theorem q2589 : (Jvm.Cond.laysFinal "java/util/PriorityQueue$Itr" "java/util/PriorityQueue$Itr" "this$0" "Ljava/util/PriorityQueue;") ∈ lw_all := lw_g (lw_at lw_m11 83 rfl) rfl
theorem q2590 : (Jvm.Cond.soleField "java/util/PriorityQueue$Itr" "this$0") ∈ lw_all := lw_g (lw_at lw_m11 84 rfl) rfl
theorem q2591 : (Jvm.Cond.superclass "java/util/PriorityQueue$Itr" "java/lang/Object") ∈ lw_all := lw_g (lw_at lw_m11 85 rfl) rfl
theorem q2691 : (Jvm.Cond.fieldLink "java/util/PriorityQueue$Itr" (44 : Nat) "java/util/PriorityQueue" "queue" "[Ljava/lang/Object;") ∈ lw_all := lw_g (lw_at lw_m11 185 rfl) rfl
theorem q2693 : (Jvm.Cond.fieldLink "java/util/PriorityQueue$Itr" (28 : Nat) "java/util/PriorityQueue" "size" "I") ∈ lw_all := lw_g (lw_at lw_m11 187 rfl) rfl
theorem q2696 : (Jvm.Cond.fieldLink "java/util/PriorityQueue$Itr" (17 : Nat) "java/util/PriorityQueue" "modCount" "I") ∈ lw_all := lw_g (lw_at lw_m11 190 rfl) rfl
theorem q4015 : (Jvm.Cond.castable "java/util/PriorityQueue$Itr" "java/lang/Object") ∈ lw_tbl := lw_at lw_m17 69 rfl
theorem in_J44 : ∀ w ∈ wsJ440, w ∈ lw_all := lw_in wsJ440 [2579, 2581, 2583, 2585, 2587, 2589] (by decide +kernel) (by decide +kernel)

/-! java/util/TreeMap$PrivateEntryIterator -/
set_option maxRecDepth 100000
def RJ45 : String := "java/util/TreeMap$PrivateEntryIterator"
abbrev cJ45_hasNext : ByteArray := prog_105_method_2_code
def yJ45_hasNext : MethodName := ⟨RJ45, "hasNext", "()Z"⟩
def dkwJ45_hasNext_0 : List UInt8 := [42, 180, 0, 26, 198, 0, 7, 4, 167, 0, 4, 3, 172]
abbrev dktJ45_hasNext_0 : List UInt8 := dkwJ45_hasNext_0 ++ []
theorem dksJ45_hasNext_0 : cJ45_hasNext.data.toList.drop 0 = dktJ45_hasNext_0 := by decide +kernel
theorem dJ45_hasNext_0 : decode cJ45_hasNext 0 = .ok (.aload_n 0, 1) := dk_42 (dk_at dksJ45_hasNext_0 0 rfl rfl)
theorem dJ45_hasNext_1 : decode cJ45_hasNext 1 = .ok (.getfield 26, 3) := dk_180 0 26 (dk_at dksJ45_hasNext_0 1 rfl rfl)
theorem dJ45_hasNext_4 : decode cJ45_hasNext 4 = .ok (.ifnull 7, 3) := dk_198 0 7 (dk_at dksJ45_hasNext_0 4 rfl rfl)
theorem dJ45_hasNext_7 : decode cJ45_hasNext 7 = .ok (.iconst 1, 1) := dk_4 (dk_at dksJ45_hasNext_0 7 rfl rfl)
theorem dJ45_hasNext_8 : decode cJ45_hasNext 8 = .ok (.goto 4, 3) := dk_167 0 4 (dk_at dksJ45_hasNext_0 8 rfl rfl)
theorem dJ45_hasNext_11 : decode cJ45_hasNext 11 = .ok (.iconst 0, 1) := dk_3 (dk_at dksJ45_hasNext_0 11 rfl rfl)
theorem dJ45_hasNext_12 : decode cJ45_hasNext 12 = .ok (.ireturn, 1) := dk_172 (dk_at dksJ45_hasNext_0 12 rfl rfl)
abbrev cJ45_nextEntry : ByteArray := prog_105_method_3_code
def yJ45_nextEntry : MethodName := ⟨RJ45, "nextEntry", "()Ljava/util/TreeMap$Entry;"⟩
def dkwJ45_nextEntry_2 : List UInt8 := [43, 181, 0, 22, 43, 176]
abbrev dktJ45_nextEntry_2 : List UInt8 := dkwJ45_nextEntry_2 ++ []
def dkwJ45_nextEntry_1 : List UInt8 := [42, 180, 0, 19, 159, 0, 11, 187, 0, 32, 89, 183, 0, 34, 191, 42, 43, 184, 0, 35, 181, 0, 26, 42]
abbrev dktJ45_nextEntry_1 : List UInt8 := dkwJ45_nextEntry_1 ++ dktJ45_nextEntry_2
def dkwJ45_nextEntry_0 : List UInt8 := [42, 180, 0, 26, 76, 43, 199, 0, 11, 187, 0, 29, 89, 183, 0, 31, 191, 42, 180, 0, 1, 180, 0, 13]
abbrev dktJ45_nextEntry_0 : List UInt8 := dkwJ45_nextEntry_0 ++ dktJ45_nextEntry_1
theorem dksJ45_nextEntry_0 : cJ45_nextEntry.data.toList.drop 0 = dktJ45_nextEntry_0 := by decide +kernel
theorem dksJ45_nextEntry_1 : cJ45_nextEntry.data.toList.drop 24 = dktJ45_nextEntry_1 := dk_seg dksJ45_nextEntry_0 24 rfl rfl
theorem dksJ45_nextEntry_2 : cJ45_nextEntry.data.toList.drop 48 = dktJ45_nextEntry_2 := dk_seg dksJ45_nextEntry_1 24 rfl rfl
theorem dJ45_nextEntry_0 : decode cJ45_nextEntry 0 = .ok (.aload_n 0, 1) := dk_42 (dk_at dksJ45_nextEntry_0 0 rfl rfl)
theorem dJ45_nextEntry_1 : decode cJ45_nextEntry 1 = .ok (.getfield 26, 3) := dk_180 0 26 (dk_at dksJ45_nextEntry_0 1 rfl rfl)
theorem dJ45_nextEntry_4 : decode cJ45_nextEntry 4 = .ok (.astore_n 1, 1) := dk_76 (dk_at dksJ45_nextEntry_0 4 rfl rfl)
theorem dJ45_nextEntry_5 : decode cJ45_nextEntry 5 = .ok (.aload_n 1, 1) := dk_43 (dk_at dksJ45_nextEntry_0 5 rfl rfl)
theorem dJ45_nextEntry_6 : decode cJ45_nextEntry 6 = .ok (.ifnonnull 11, 3) := dk_199 0 11 (dk_at dksJ45_nextEntry_0 6 rfl rfl)
theorem dJ45_nextEntry_9 : decode cJ45_nextEntry 9 = .ok (.new 29, 3) := dk_187 0 29 (dk_at dksJ45_nextEntry_0 9 rfl rfl)
theorem dJ45_nextEntry_12 : decode cJ45_nextEntry 12 = .ok (.dup, 1) := dk_89 (dk_at dksJ45_nextEntry_0 12 rfl rfl)
theorem dJ45_nextEntry_13 : decode cJ45_nextEntry 13 = .ok (.invokespecial 31, 3) := dk_183 0 31 (dk_at dksJ45_nextEntry_0 13 rfl rfl)
theorem dJ45_nextEntry_16 : decode cJ45_nextEntry 16 = .ok (.athrow, 1) := dk_191 (dk_at dksJ45_nextEntry_0 16 rfl rfl)
theorem dJ45_nextEntry_17 : decode cJ45_nextEntry 17 = .ok (.aload_n 0, 1) := dk_42 (dk_at dksJ45_nextEntry_0 17 rfl rfl)
theorem dJ45_nextEntry_18 : decode cJ45_nextEntry 18 = .ok (.getfield 1, 3) := dk_180 0 1 (dk_at dksJ45_nextEntry_0 18 rfl rfl)
theorem dJ45_nextEntry_21 : decode cJ45_nextEntry 21 = .ok (.getfield 13, 3) := dk_180 0 13 (dk_at dksJ45_nextEntry_0 21 rfl rfl)
theorem dJ45_nextEntry_24 : decode cJ45_nextEntry 24 = .ok (.aload_n 0, 1) := dk_42 (dk_at dksJ45_nextEntry_1 0 rfl rfl)
theorem dJ45_nextEntry_25 : decode cJ45_nextEntry 25 = .ok (.getfield 19, 3) := dk_180 0 19 (dk_at dksJ45_nextEntry_1 1 rfl rfl)
theorem dJ45_nextEntry_28 : decode cJ45_nextEntry 28 = .ok (.if_icmp .eq 11, 3) := dk_159 0 11 (dk_at dksJ45_nextEntry_1 4 rfl rfl)
theorem dJ45_nextEntry_31 : decode cJ45_nextEntry 31 = .ok (.new 32, 3) := dk_187 0 32 (dk_at dksJ45_nextEntry_1 7 rfl rfl)
theorem dJ45_nextEntry_34 : decode cJ45_nextEntry 34 = .ok (.dup, 1) := dk_89 (dk_at dksJ45_nextEntry_1 10 rfl rfl)
theorem dJ45_nextEntry_35 : decode cJ45_nextEntry 35 = .ok (.invokespecial 34, 3) := dk_183 0 34 (dk_at dksJ45_nextEntry_1 11 rfl rfl)
theorem dJ45_nextEntry_38 : decode cJ45_nextEntry 38 = .ok (.athrow, 1) := dk_191 (dk_at dksJ45_nextEntry_1 14 rfl rfl)
theorem dJ45_nextEntry_39 : decode cJ45_nextEntry 39 = .ok (.aload_n 0, 1) := dk_42 (dk_at dksJ45_nextEntry_1 15 rfl rfl)
theorem dJ45_nextEntry_40 : decode cJ45_nextEntry 40 = .ok (.aload_n 1, 1) := dk_43 (dk_at dksJ45_nextEntry_1 16 rfl rfl)
theorem dJ45_nextEntry_41 : decode cJ45_nextEntry 41 = .ok (.invokestatic 35, 3) := dk_184 0 35 (dk_at dksJ45_nextEntry_1 17 rfl rfl)
theorem dJ45_nextEntry_44 : decode cJ45_nextEntry 44 = .ok (.putfield 26, 3) := dk_181 0 26 (dk_at dksJ45_nextEntry_1 20 rfl rfl)
theorem dJ45_nextEntry_47 : decode cJ45_nextEntry 47 = .ok (.aload_n 0, 1) := dk_42 (dk_at dksJ45_nextEntry_1 23 rfl rfl)
theorem dJ45_nextEntry_48 : decode cJ45_nextEntry 48 = .ok (.aload_n 1, 1) := dk_43 (dk_at dksJ45_nextEntry_2 0 rfl rfl)
theorem dJ45_nextEntry_49 : decode cJ45_nextEntry 49 = .ok (.putfield 22, 3) := dk_181 0 22 (dk_at dksJ45_nextEntry_2 1 rfl rfl)
theorem dJ45_nextEntry_52 : decode cJ45_nextEntry 52 = .ok (.aload_n 1, 1) := dk_43 (dk_at dksJ45_nextEntry_2 4 rfl rfl)
theorem dJ45_nextEntry_53 : decode cJ45_nextEntry 53 = .ok (.areturn, 1) := dk_176 (dk_at dksJ45_nextEntry_2 5 rfl rfl)
abbrev cJ45_remove : ByteArray := prog_105_method_5_code
def yJ45_remove : MethodName := ⟨RJ45, "remove", "()V"⟩
def dkwJ45_remove_3 : List UInt8 := [180, 0, 22, 182, 0, 53, 42, 42, 180, 0, 1, 180, 0, 13, 181, 0, 19, 42, 1, 181, 0, 22, 177]
abbrev dktJ45_remove_3 : List UInt8 := dkwJ45_remove_3 ++ []
def dkwJ45_remove_2 : List UInt8 := [42, 180, 0, 22, 180, 0, 50, 198, 0, 11, 42, 42, 180, 0, 22, 181, 0, 26, 42, 180, 0, 1, 42]
abbrev dktJ45_remove_2 : List UInt8 := dkwJ45_remove_2 ++ dktJ45_remove_3
def dkwJ45_remove_1 : List UInt8 := [180, 0, 19, 159, 0, 11, 187, 0, 32, 89, 183, 0, 34, 191, 42, 180, 0, 22, 180, 0, 45, 198, 0, 21]
abbrev dktJ45_remove_1 : List UInt8 := dkwJ45_remove_1 ++ dktJ45_remove_2
def dkwJ45_remove_0 : List UInt8 := [42, 180, 0, 22, 199, 0, 11, 187, 0, 42, 89, 183, 0, 44, 191, 42, 180, 0, 1, 180, 0, 13, 42]
abbrev dktJ45_remove_0 : List UInt8 := dkwJ45_remove_0 ++ dktJ45_remove_1
theorem dksJ45_remove_0 : cJ45_remove.data.toList.drop 0 = dktJ45_remove_0 := by decide +kernel
theorem dksJ45_remove_1 : cJ45_remove.data.toList.drop 23 = dktJ45_remove_1 := dk_seg dksJ45_remove_0 23 rfl rfl
theorem dksJ45_remove_2 : cJ45_remove.data.toList.drop 47 = dktJ45_remove_2 := dk_seg dksJ45_remove_1 24 rfl rfl
theorem dksJ45_remove_3 : cJ45_remove.data.toList.drop 70 = dktJ45_remove_3 := dk_seg dksJ45_remove_2 23 rfl rfl
theorem dJ45_remove_0 : decode cJ45_remove 0 = .ok (.aload_n 0, 1) := dk_42 (dk_at dksJ45_remove_0 0 rfl rfl)
theorem dJ45_remove_1 : decode cJ45_remove 1 = .ok (.getfield 22, 3) := dk_180 0 22 (dk_at dksJ45_remove_0 1 rfl rfl)
theorem dJ45_remove_4 : decode cJ45_remove 4 = .ok (.ifnonnull 11, 3) := dk_199 0 11 (dk_at dksJ45_remove_0 4 rfl rfl)
theorem dJ45_remove_7 : decode cJ45_remove 7 = .ok (.new 42, 3) := dk_187 0 42 (dk_at dksJ45_remove_0 7 rfl rfl)
theorem dJ45_remove_10 : decode cJ45_remove 10 = .ok (.dup, 1) := dk_89 (dk_at dksJ45_remove_0 10 rfl rfl)
theorem dJ45_remove_11 : decode cJ45_remove 11 = .ok (.invokespecial 44, 3) := dk_183 0 44 (dk_at dksJ45_remove_0 11 rfl rfl)
theorem dJ45_remove_14 : decode cJ45_remove 14 = .ok (.athrow, 1) := dk_191 (dk_at dksJ45_remove_0 14 rfl rfl)
theorem dJ45_remove_15 : decode cJ45_remove 15 = .ok (.aload_n 0, 1) := dk_42 (dk_at dksJ45_remove_0 15 rfl rfl)
theorem dJ45_remove_16 : decode cJ45_remove 16 = .ok (.getfield 1, 3) := dk_180 0 1 (dk_at dksJ45_remove_0 16 rfl rfl)
theorem dJ45_remove_19 : decode cJ45_remove 19 = .ok (.getfield 13, 3) := dk_180 0 13 (dk_at dksJ45_remove_0 19 rfl rfl)
theorem dJ45_remove_22 : decode cJ45_remove 22 = .ok (.aload_n 0, 1) := dk_42 (dk_at dksJ45_remove_0 22 rfl rfl)
theorem dJ45_remove_23 : decode cJ45_remove 23 = .ok (.getfield 19, 3) := dk_180 0 19 (dk_at dksJ45_remove_1 0 rfl rfl)
theorem dJ45_remove_26 : decode cJ45_remove 26 = .ok (.if_icmp .eq 11, 3) := dk_159 0 11 (dk_at dksJ45_remove_1 3 rfl rfl)
theorem dJ45_remove_29 : decode cJ45_remove 29 = .ok (.new 32, 3) := dk_187 0 32 (dk_at dksJ45_remove_1 6 rfl rfl)
theorem dJ45_remove_32 : decode cJ45_remove 32 = .ok (.dup, 1) := dk_89 (dk_at dksJ45_remove_1 9 rfl rfl)
theorem dJ45_remove_33 : decode cJ45_remove 33 = .ok (.invokespecial 34, 3) := dk_183 0 34 (dk_at dksJ45_remove_1 10 rfl rfl)
theorem dJ45_remove_36 : decode cJ45_remove 36 = .ok (.athrow, 1) := dk_191 (dk_at dksJ45_remove_1 13 rfl rfl)
theorem dJ45_remove_37 : decode cJ45_remove 37 = .ok (.aload_n 0, 1) := dk_42 (dk_at dksJ45_remove_1 14 rfl rfl)
theorem dJ45_remove_38 : decode cJ45_remove 38 = .ok (.getfield 22, 3) := dk_180 0 22 (dk_at dksJ45_remove_1 15 rfl rfl)
theorem dJ45_remove_41 : decode cJ45_remove 41 = .ok (.getfield 45, 3) := dk_180 0 45 (dk_at dksJ45_remove_1 18 rfl rfl)
theorem dJ45_remove_44 : decode cJ45_remove 44 = .ok (.ifnull 21, 3) := dk_198 0 21 (dk_at dksJ45_remove_1 21 rfl rfl)
theorem dJ45_remove_47 : decode cJ45_remove 47 = .ok (.aload_n 0, 1) := dk_42 (dk_at dksJ45_remove_2 0 rfl rfl)
theorem dJ45_remove_48 : decode cJ45_remove 48 = .ok (.getfield 22, 3) := dk_180 0 22 (dk_at dksJ45_remove_2 1 rfl rfl)
theorem dJ45_remove_51 : decode cJ45_remove 51 = .ok (.getfield 50, 3) := dk_180 0 50 (dk_at dksJ45_remove_2 4 rfl rfl)
theorem dJ45_remove_54 : decode cJ45_remove 54 = .ok (.ifnull 11, 3) := dk_198 0 11 (dk_at dksJ45_remove_2 7 rfl rfl)
theorem dJ45_remove_57 : decode cJ45_remove 57 = .ok (.aload_n 0, 1) := dk_42 (dk_at dksJ45_remove_2 10 rfl rfl)
theorem dJ45_remove_58 : decode cJ45_remove 58 = .ok (.aload_n 0, 1) := dk_42 (dk_at dksJ45_remove_2 11 rfl rfl)
theorem dJ45_remove_59 : decode cJ45_remove 59 = .ok (.getfield 22, 3) := dk_180 0 22 (dk_at dksJ45_remove_2 12 rfl rfl)
theorem dJ45_remove_62 : decode cJ45_remove 62 = .ok (.putfield 26, 3) := dk_181 0 26 (dk_at dksJ45_remove_2 15 rfl rfl)
theorem dJ45_remove_65 : decode cJ45_remove 65 = .ok (.aload_n 0, 1) := dk_42 (dk_at dksJ45_remove_2 18 rfl rfl)
theorem dJ45_remove_66 : decode cJ45_remove 66 = .ok (.getfield 1, 3) := dk_180 0 1 (dk_at dksJ45_remove_2 19 rfl rfl)
theorem dJ45_remove_69 : decode cJ45_remove 69 = .ok (.aload_n 0, 1) := dk_42 (dk_at dksJ45_remove_2 22 rfl rfl)
theorem dJ45_remove_70 : decode cJ45_remove 70 = .ok (.getfield 22, 3) := dk_180 0 22 (dk_at dksJ45_remove_3 0 rfl rfl)
theorem dJ45_remove_73 : decode cJ45_remove 73 = .ok (.invokevirtual 53, 3) := dk_182 0 53 (dk_at dksJ45_remove_3 3 rfl rfl)
theorem dJ45_remove_76 : decode cJ45_remove 76 = .ok (.aload_n 0, 1) := dk_42 (dk_at dksJ45_remove_3 6 rfl rfl)
theorem dJ45_remove_77 : decode cJ45_remove 77 = .ok (.aload_n 0, 1) := dk_42 (dk_at dksJ45_remove_3 7 rfl rfl)
theorem dJ45_remove_78 : decode cJ45_remove 78 = .ok (.getfield 1, 3) := dk_180 0 1 (dk_at dksJ45_remove_3 8 rfl rfl)
theorem dJ45_remove_81 : decode cJ45_remove 81 = .ok (.getfield 13, 3) := dk_180 0 13 (dk_at dksJ45_remove_3 11 rfl rfl)
theorem dJ45_remove_84 : decode cJ45_remove 84 = .ok (.putfield 19, 3) := dk_181 0 19 (dk_at dksJ45_remove_3 14 rfl rfl)
theorem dJ45_remove_87 : decode cJ45_remove 87 = .ok (.aload_n 0, 1) := dk_42 (dk_at dksJ45_remove_3 17 rfl rfl)
theorem dJ45_remove_88 : decode cJ45_remove 88 = .ok (.aconst_null, 1) := dk_1 (dk_at dksJ45_remove_3 18 rfl rfl)
theorem dJ45_remove_89 : decode cJ45_remove 89 = .ok (.putfield 22, 3) := dk_181 0 22 (dk_at dksJ45_remove_3 19 rfl rfl)
theorem dJ45_remove_92 : decode cJ45_remove 92 = .ok (.return_, 1) := dk_177 (dk_at dksJ45_remove_3 22 rfl rfl)
abbrev cJ45_init : ByteArray := prog_105_method_1_code
def yJ45_init : MethodName := ⟨RJ45, "<init>", "(Ljava/util/TreeMap;Ljava/util/TreeMap$Entry;)V"⟩
def dkwJ45_init_1 : List UInt8 := [181, 0, 26, 177]
abbrev dktJ45_init_1 : List UInt8 := dkwJ45_init_1 ++ []
def dkwJ45_init_0 : List UInt8 := [42, 43, 181, 0, 1, 42, 183, 0, 7, 42, 43, 180, 0, 13, 181, 0, 19, 42, 1, 181, 0, 22, 42, 44]
abbrev dktJ45_init_0 : List UInt8 := dkwJ45_init_0 ++ dktJ45_init_1
theorem dksJ45_init_0 : cJ45_init.data.toList.drop 0 = dktJ45_init_0 := by decide +kernel
theorem dksJ45_init_1 : cJ45_init.data.toList.drop 24 = dktJ45_init_1 := dk_seg dksJ45_init_0 24 rfl rfl
theorem dJ45_init_0 : decode cJ45_init 0 = .ok (.aload_n 0, 1) := dk_42 (dk_at dksJ45_init_0 0 rfl rfl)
theorem dJ45_init_1 : decode cJ45_init 1 = .ok (.aload_n 1, 1) := dk_43 (dk_at dksJ45_init_0 1 rfl rfl)
theorem dJ45_init_2 : decode cJ45_init 2 = .ok (.putfield 1, 3) := dk_181 0 1 (dk_at dksJ45_init_0 2 rfl rfl)
theorem dJ45_init_5 : decode cJ45_init 5 = .ok (.aload_n 0, 1) := dk_42 (dk_at dksJ45_init_0 5 rfl rfl)
theorem dJ45_init_6 : decode cJ45_init 6 = .ok (.invokespecial 7, 3) := dk_183 0 7 (dk_at dksJ45_init_0 6 rfl rfl)
theorem dJ45_init_9 : decode cJ45_init 9 = .ok (.aload_n 0, 1) := dk_42 (dk_at dksJ45_init_0 9 rfl rfl)
theorem dJ45_init_10 : decode cJ45_init 10 = .ok (.aload_n 1, 1) := dk_43 (dk_at dksJ45_init_0 10 rfl rfl)
theorem dJ45_init_11 : decode cJ45_init 11 = .ok (.getfield 13, 3) := dk_180 0 13 (dk_at dksJ45_init_0 11 rfl rfl)
theorem dJ45_init_14 : decode cJ45_init 14 = .ok (.putfield 19, 3) := dk_181 0 19 (dk_at dksJ45_init_0 14 rfl rfl)
theorem dJ45_init_17 : decode cJ45_init 17 = .ok (.aload_n 0, 1) := dk_42 (dk_at dksJ45_init_0 17 rfl rfl)
theorem dJ45_init_18 : decode cJ45_init 18 = .ok (.aconst_null, 1) := dk_1 (dk_at dksJ45_init_0 18 rfl rfl)
theorem dJ45_init_19 : decode cJ45_init 19 = .ok (.putfield 22, 3) := dk_181 0 22 (dk_at dksJ45_init_0 19 rfl rfl)
theorem dJ45_init_22 : decode cJ45_init 22 = .ok (.aload_n 0, 1) := dk_42 (dk_at dksJ45_init_0 22 rfl rfl)
theorem dJ45_init_23 : decode cJ45_init 23 = .ok (.aload_n 2, 1) := dk_44 (dk_at dksJ45_init_0 23 rfl rfl)
theorem dJ45_init_24 : decode cJ45_init 24 = .ok (.putfield 26, 3) := dk_181 0 26 (dk_at dksJ45_init_1 0 rfl rfl)
theorem dJ45_init_27 : decode cJ45_init 27 = .ok (.return_, 1) := dk_177 (dk_at dksJ45_init_1 3 rfl rfl)
theorem q169 : (Jvm.Cond.initialized "java/util/TreeMap$PrivateEntryIterator") ∈ lw_all := lw_g (lw_at lw_m1 63 rfl) rfl
theorem q507 : (Jvm.Cond.instanceMethod ({ cls := "java/util/TreeMap$PrivateEntryIterator", name := "hasNext", desc := "()Z" } : Jvm.MethodName)) ∈ lw_all := lw_g (lw_at lw_m2 161 rfl) rfl
theorem q508 : (Jvm.Cond.publicMethod ({ cls := "java/util/TreeMap$PrivateEntryIterator", name := "hasNext", desc := "()Z" } : Jvm.MethodName)) ∈ lw_tbl := lw_at lw_m2 162 rfl
theorem q509 : (Jvm.Cond.code ({ cls := "java/util/TreeMap$PrivateEntryIterator", name := "hasNext", desc := "()Z" } : Jvm.MethodName) prog_105_method_2_code (1 : Nat) (Option.some Jvm.ClassFile.FieldType.boolean)) ∈ lw_all := lw_g (lw_at lw_m2 163 rfl) rfl
theorem q1145 : (Jvm.Cond.declares ({ cls := "java/util/TreeMap$PrivateEntryIterator", name := "nextEntry", desc := "()Ljava/util/TreeMap$Entry;" } : Jvm.MethodName)) ∈ lw_tbl := lw_at lw_m5 79 rfl
theorem q1147 : (Jvm.Cond.instanceMethod ({ cls := "java/util/TreeMap$PrivateEntryIterator", name := "nextEntry", desc := "()Ljava/util/TreeMap$Entry;" } : Jvm.MethodName)) ∈ lw_all := lw_g (lw_at lw_m5 81 rfl) rfl
theorem q1148 : (Jvm.Cond.code ({ cls := "java/util/TreeMap$PrivateEntryIterator", name := "nextEntry", desc := "()Ljava/util/TreeMap$Entry;" } : Jvm.MethodName) prog_105_method_3_code (2 : Nat) (Option.some (Jvm.ClassFile.FieldType.object "java/util/TreeMap$Entry"))) ∈ lw_all := lw_g (lw_at lw_m5 82 rfl) rfl
theorem q1149 : (Jvm.Cond.classLink "java/util/TreeMap$PrivateEntryIterator" (29 : Nat) "java/util/NoSuchElementException") ∈ lw_all := lw_g (lw_at lw_m5 83 rfl) rfl
theorem q1150 : (Jvm.Cond.methodLink "java/util/TreeMap$PrivateEntryIterator" (31 : Nat) ({ cls := "java/util/NoSuchElementException", name := "<init>", desc := "()V" } : Jvm.MethodName)) ∈ lw_all := lw_g (lw_at lw_m5 84 rfl) rfl
theorem q1151 : (Jvm.Cond.methodLink "java/util/TreeMap$PrivateEntryIterator" (35 : Nat) ({ cls := "java/util/TreeMap", name := "successor", desc := "(Ljava/util/TreeMap$Entry;)Ljava/util/TreeMap$Entry;" } : Jvm.MethodName)) ∈ lw_all := lw_g (lw_at lw_m5 85 rfl) rfl
theorem q2176 : (Jvm.Cond.instanceMethod ({ cls := "java/util/TreeMap$PrivateEntryIterator", name := "remove", desc := "()V" } : Jvm.MethodName)) ∈ lw_all := lw_g (lw_at lw_m9 150 rfl) rfl
theorem q2177 : (Jvm.Cond.publicMethod ({ cls := "java/util/TreeMap$PrivateEntryIterator", name := "remove", desc := "()V" } : Jvm.MethodName)) ∈ lw_tbl := lw_at lw_m9 151 rfl
theorem q2178 : (Jvm.Cond.code ({ cls := "java/util/TreeMap$PrivateEntryIterator", name := "remove", desc := "()V" } : Jvm.MethodName) prog_105_method_5_code (1 : Nat) (Option.none : Option Jvm.ClassFile.FieldType)) ∈ lw_all := lw_g (lw_at lw_m9 152 rfl) rfl
theorem q2179 : (Jvm.Cond.classLink "java/util/TreeMap$PrivateEntryIterator" (42 : Nat) "java/lang/IllegalStateException") ∈ lw_all := lw_g (lw_at lw_m9 153 rfl) rfl
theorem q2180 : (Jvm.Cond.methodLink "java/util/TreeMap$PrivateEntryIterator" (44 : Nat) ({ cls := "java/lang/IllegalStateException", name := "<init>", desc := "()V" } : Jvm.MethodName)) ∈ lw_all := lw_g (lw_at lw_m9 154 rfl) rfl
theorem q2181 : (Jvm.Cond.methodLinkNest "java/util/TreeMap$PrivateEntryIterator" (53 : Nat) ({ cls := "java/util/TreeMap", name := "deleteEntry", desc := "(Ljava/util/TreeMap$Entry;)V" } : Jvm.MethodName) "java/util/TreeMap") ∈ lw_tbl := lw_at lw_m9 155 rfl
theorem q2367 : (Jvm.Cond.fieldLinkNest "java/util/TreeMap$PrivateEntryIterator" (13 : Nat) "java/util/TreeMap" "modCount" "I" "java/util/TreeMap") ∈ lw_tbl := lw_at lw_m10 101 rfl
theorem q2443 : (Jvm.Cond.fieldLink "java/util/TreeMap$PrivateEntryIterator" (45 : Nat) "java/util/TreeMap$Entry" "left" "Ljava/util/TreeMap$Entry;") ∈ lw_all := lw_g (lw_at lw_m10 177 rfl) rfl
theorem q2445 : (Jvm.Cond.fieldLink "java/util/TreeMap$PrivateEntryIterator" (50 : Nat) "java/util/TreeMap$Entry" "right" "Ljava/util/TreeMap$Entry;") ∈ lw_all := lw_g (lw_at lw_m10 179 rfl) rfl
theorem q2608 : (Jvm.Cond.instanceMethod ({ cls := "java/util/TreeMap$PrivateEntryIterator", name := "<init>", desc := "(Ljava/util/TreeMap;Ljava/util/TreeMap$Entry;)V" } : Jvm.MethodName)) ∈ lw_all := lw_g (lw_at lw_m11 102 rfl) rfl
theorem q2609 : (Jvm.Cond.code ({ cls := "java/util/TreeMap$PrivateEntryIterator", name := "<init>", desc := "(Ljava/util/TreeMap;Ljava/util/TreeMap$Entry;)V" } : Jvm.MethodName) prog_105_method_1_code (3 : Nat) (Option.none : Option Jvm.ClassFile.FieldType)) ∈ lw_all := lw_g (lw_at lw_m11 103 rfl) rfl
theorem q2610 : (Jvm.Cond.methodLink "java/util/TreeMap$PrivateEntryIterator" (7 : Nat) ({ cls := "java/lang/Object", name := "<init>", desc := "()V" } : Jvm.MethodName)) ∈ lw_all := lw_g (lw_at lw_m11 104 rfl) rfl
theorem q2611 : (Jvm.Cond.fieldLink "java/util/TreeMap$PrivateEntryIterator" (26 : Nat) "java/util/TreeMap$PrivateEntryIterator" "next" "Ljava/util/TreeMap$Entry;") ∈ lw_all := lw_g (lw_at lw_m11 105 rfl) rfl
theorem q2612 : (Jvm.Cond.fieldLink "java/util/TreeMap$PrivateEntryIterator" (22 : Nat) "java/util/TreeMap$PrivateEntryIterator" "lastReturned" "Ljava/util/TreeMap$Entry;") ∈ lw_all := lw_g (lw_at lw_m11 106 rfl) rfl
theorem q2613 : (Jvm.Cond.fieldLink "java/util/TreeMap$PrivateEntryIterator" (19 : Nat) "java/util/TreeMap$PrivateEntryIterator" "expectedModCount" "I") ∈ lw_all := lw_g (lw_at lw_m11 107 rfl) rfl
theorem q2614 : (Jvm.Cond.fieldLink "java/util/TreeMap$PrivateEntryIterator" (1 : Nat) "java/util/TreeMap$PrivateEntryIterator" "this$0" "Ljava/util/TreeMap;") ∈ lw_all := lw_g (lw_at lw_m11 108 rfl) rfl
theorem q2616 : (Jvm.Cond.soleField "java/util/TreeMap$PrivateEntryIterator" "next") ∈ lw_all := lw_g (lw_at lw_m11 110 rfl) rfl
theorem q2618 : (Jvm.Cond.soleField "java/util/TreeMap$PrivateEntryIterator" "lastReturned") ∈ lw_all := lw_g (lw_at lw_m11 112 rfl) rfl
theorem q2620 : (Jvm.Cond.soleField "java/util/TreeMap$PrivateEntryIterator" "expectedModCount") ∈ lw_all := lw_g (lw_at lw_m11 114 rfl) rfl
theorem q2622 : (Jvm.Cond.soleField "java/util/TreeMap$PrivateEntryIterator" "this$0") ∈ lw_all := lw_g (lw_at lw_m11 116 rfl) rfl

/-! java/util/TreeMap$ValueIterator -/
set_option maxRecDepth 100000
def RJ46 : String := "java/util/TreeMap$ValueIterator"
def TJ46 : u_T := fun k => match k with
  | 0 => ("java/util/TreeMap$PrivateEntryIterator", "next", "Ljava/util/TreeMap$Entry;", false)
  | 1 => ("java/util/TreeMap$PrivateEntryIterator", "lastReturned", "Ljava/util/TreeMap$Entry;", false)
  | 2 => ("java/util/TreeMap$PrivateEntryIterator", "expectedModCount", "I", false)
  | _ => ("java/util/TreeMap$PrivateEntryIterator", "this$0", "Ljava/util/TreeMap;", true)
def tyJ46 : Nat → FieldType := fun k => match k with
  | 0 => .object "java/util/TreeMap$Entry"
  | 1 => .object "java/util/TreeMap$Entry"
  | 2 => .int
  | _ => .object "java/util/TreeMap"
abbrev wsJ460 : List Cond := u_ws RJ46 TJ46 4
theorem nmJ46 : ∀ a, a < 4 → ∀ b, b < 4 → a ≠ b → (TJ46 a).2.1 ≠ (TJ46 b).2.1 := by decide +kernel
theorem tyJ46_ok : ∀ k, k < 4 → parseFieldDescriptor (TJ46 k).2.2.1 = some (tyJ46 k) := by decide +kernel
abbrev cJ46_next : ByteArray := prog_106_method_2_code
def yJ46_next : MethodName := ⟨RJ46, "next", "()Ljava/lang/Object;"⟩
def dkwJ46_next_0 : List UInt8 := [42, 182, 0, 7, 180, 0, 13, 176]
abbrev dktJ46_next_0 : List UInt8 := dkwJ46_next_0 ++ []
theorem dksJ46_next_0 : cJ46_next.data.toList.drop 0 = dktJ46_next_0 := by decide +kernel
theorem dJ46_next_0 : decode cJ46_next 0 = .ok (.aload_n 0, 1) := dk_42 (dk_at dksJ46_next_0 0 rfl rfl)
theorem dJ46_next_1 : decode cJ46_next 1 = .ok (.invokevirtual 7, 3) := dk_182 0 7 (dk_at dksJ46_next_0 1 rfl rfl)
theorem dJ46_next_4 : decode cJ46_next 4 = .ok (.getfield 13, 3) := dk_180 0 13 (dk_at dksJ46_next_0 4 rfl rfl)
theorem dJ46_next_7 : decode cJ46_next 7 = .ok (.areturn, 1) := dk_176 (dk_at dksJ46_next_0 7 rfl rfl)
abbrev cJ46_init : ByteArray := prog_106_method_1_code
def yJ46_init : MethodName := ⟨RJ46, "<init>", "(Ljava/util/TreeMap;Ljava/util/TreeMap$Entry;)V"⟩
def dkwJ46_init_0 : List UInt8 := [42, 43, 44, 183, 0, 1, 177]
abbrev dktJ46_init_0 : List UInt8 := dkwJ46_init_0 ++ []
theorem dksJ46_init_0 : cJ46_init.data.toList.drop 0 = dktJ46_init_0 := by decide +kernel
theorem dJ46_init_0 : decode cJ46_init 0 = .ok (.aload_n 0, 1) := dk_42 (dk_at dksJ46_init_0 0 rfl rfl)
theorem dJ46_init_1 : decode cJ46_init 1 = .ok (.aload_n 1, 1) := dk_43 (dk_at dksJ46_init_0 1 rfl rfl)
theorem dJ46_init_2 : decode cJ46_init 2 = .ok (.aload_n 2, 1) := dk_44 (dk_at dksJ46_init_0 2 rfl rfl)
theorem dJ46_init_3 : decode cJ46_init 3 = .ok (.invokespecial 1, 3) := dk_183 0 1 (dk_at dksJ46_init_0 3 rfl rfl)
theorem dJ46_init_6 : decode cJ46_init 6 = .ok (.return_, 1) := dk_177 (dk_at dksJ46_init_0 6 rfl rfl)
theorem q170 : (Jvm.Cond.initialized "java/util/TreeMap$ValueIterator") ∈ lw_all := lw_g (lw_at lw_m1 64 rfl) rfl
theorem q504 : (Jvm.Cond.castable "java/util/TreeMap$ValueIterator" "java/util/Iterator") ∈ lw_tbl := lw_at lw_m2 158 rfl
theorem q505 : (Jvm.Cond.selects "java/util/TreeMap$ValueIterator" ({ cls := "java/util/Iterator", name := "hasNext", desc := "()Z" } : Jvm.MethodName) ({ cls := "java/util/TreeMap$PrivateEntryIterator", name := "hasNext", desc := "()Z" } : Jvm.MethodName)) ∈ lw_all := lw_g (lw_at lw_m2 159 rfl) rfl
theorem q506 : (Jvm.Cond.unhidden "java/util/TreeMap$ValueIterator" "hasNext" "()Z") ∈ lw_tbl := lw_at lw_m2 160 rfl
theorem q973 : (Jvm.Cond.selects "java/util/TreeMap$ValueIterator" ({ cls := "java/lang/Object", name := "getClass", desc := "()Ljava/lang/Class;" } : Jvm.MethodName) ({ cls := "java/lang/Object", name := "getClass", desc := "()Ljava/lang/Class;" } : Jvm.MethodName)) ∈ lw_all := lw_g (lw_at lw_m4 147 rfl) rfl
theorem q1138 : (Jvm.Cond.selects "java/util/TreeMap$ValueIterator" ({ cls := "java/util/Iterator", name := "next", desc := "()Ljava/lang/Object;" } : Jvm.MethodName) ({ cls := "java/util/TreeMap$ValueIterator", name := "next", desc := "()Ljava/lang/Object;" } : Jvm.MethodName)) ∈ lw_all := lw_g (lw_at lw_m5 72 rfl) rfl
theorem q1139 : (Jvm.Cond.unhidden "java/util/TreeMap$ValueIterator" "next" "()Ljava/lang/Object;") ∈ lw_tbl := lw_at lw_m5 73 rfl
theorem q1140 : (Jvm.Cond.instanceMethod ({ cls := "java/util/TreeMap$ValueIterator", name := "next", desc := "()Ljava/lang/Object;" } : Jvm.MethodName)) ∈ lw_all := lw_g (lw_at lw_m5 74 rfl) rfl
theorem q1141 : (Jvm.Cond.publicMethod ({ cls := "java/util/TreeMap$ValueIterator", name := "next", desc := "()Ljava/lang/Object;" } : Jvm.MethodName)) ∈ lw_tbl := lw_at lw_m5 75 rfl
theorem q1142 : (Jvm.Cond.code ({ cls := "java/util/TreeMap$ValueIterator", name := "next", desc := "()Ljava/lang/Object;" } : Jvm.MethodName) prog_106_method_2_code (1 : Nat) (Option.some (Jvm.ClassFile.FieldType.object "java/lang/Object"))) ∈ lw_all := lw_g (lw_at lw_m5 76 rfl) rfl
theorem q1143 : (Jvm.Cond.methodLink "java/util/TreeMap$ValueIterator" (7 : Nat) ({ cls := "java/util/TreeMap$ValueIterator", name := "nextEntry", desc := "()Ljava/util/TreeMap$Entry;" } : Jvm.MethodName)) ∈ lw_all := lw_g (lw_at lw_m5 77 rfl) rfl
theorem q1144 : (Jvm.Cond.sameMethod "java/util/TreeMap$ValueIterator" "java/util/TreeMap$PrivateEntryIterator" "nextEntry" "()Ljava/util/TreeMap$Entry;") ∈ lw_all := lw_g (lw_at lw_m5 78 rfl) rfl
theorem q1146 : (Jvm.Cond.selects "java/util/TreeMap$ValueIterator" ({ cls := "java/util/TreeMap$ValueIterator", name := "nextEntry", desc := "()Ljava/util/TreeMap$Entry;" } : Jvm.MethodName) ({ cls := "java/util/TreeMap$PrivateEntryIterator", name := "nextEntry", desc := "()Ljava/util/TreeMap$Entry;" } : Jvm.MethodName)) ∈ lw_all := lw_g (lw_at lw_m5 80 rfl) rfl
theorem q2174 : (Jvm.Cond.selects "java/util/TreeMap$ValueIterator" ({ cls := "java/util/Iterator", name := "remove", desc := "()V" } : Jvm.MethodName) ({ cls := "java/util/TreeMap$PrivateEntryIterator", name := "remove", desc := "()V" } : Jvm.MethodName)) ∈ lw_all := lw_g (lw_at lw_m9 148 rfl) rfl
theorem q2175 : (Jvm.Cond.unhidden "java/util/TreeMap$ValueIterator" "remove" "()V") ∈ lw_tbl := lw_at lw_m9 149 rfl
theorem q2441 : (Jvm.Cond.fieldLink "java/util/TreeMap$ValueIterator" (13 : Nat) "java/util/TreeMap$Entry" "value" "Ljava/lang/Object;") ∈ lw_all := lw_g (lw_at lw_m10 175 rfl) rfl
theorem q2599 : (Jvm.Cond.instantiable "java/util/TreeMap$ValueIterator" (4 : Nat)) ∈ lw_all := lw_g (lw_at lw_m11 93 rfl) rfl
theorem q2605 : (Jvm.Cond.instanceMethod ({ cls := "java/util/TreeMap$ValueIterator", name := "<init>", desc := "(Ljava/util/TreeMap;Ljava/util/TreeMap$Entry;)V" } : Jvm.MethodName)) ∈ lw_all := lw_g (lw_at lw_m11 99 rfl) rfl
theorem q2606 : (Jvm.Cond.code ({ cls := "java/util/TreeMap$ValueIterator", name := "<init>", desc := "(Ljava/util/TreeMap;Ljava/util/TreeMap$Entry;)V" } : Jvm.MethodName) prog_106_method_1_code (3 : Nat) (Option.none : Option Jvm.ClassFile.FieldType)) ∈ lw_all := lw_g (lw_at lw_m11 100 rfl) rfl
theorem q2607 : (Jvm.Cond.methodLink "java/util/TreeMap$ValueIterator" (1 : Nat) ({ cls := "java/util/TreeMap$PrivateEntryIterator", name := "<init>", desc := "(Ljava/util/TreeMap;Ljava/util/TreeMap$Entry;)V" } : Jvm.MethodName)) ∈ lw_all := lw_g (lw_at lw_m11 101 rfl) rfl
theorem q2615 : (Jvm.Cond.lays "java/util/TreeMap$ValueIterator" "java/util/TreeMap$PrivateEntryIterator" "next" "Ljava/util/TreeMap$Entry;") ∈ lw_all := lw_g (lw_at lw_m11 109 rfl) rfl
theorem q2617 : (Jvm.Cond.lays "java/util/TreeMap$ValueIterator" "java/util/TreeMap$PrivateEntryIterator" "lastReturned" "Ljava/util/TreeMap$Entry;") ∈ lw_all := lw_g (lw_at lw_m11 111 rfl) rfl
theorem q2619 : (Jvm.Cond.lays "java/util/TreeMap$ValueIterator" "java/util/TreeMap$PrivateEntryIterator" "expectedModCount" "I") ∈ lw_all := lw_g (lw_at lw_m11 113 rfl) rfl
theorem q2621 : (Jvm.Cond.laysFinal "java/util/TreeMap$ValueIterator" "java/util/TreeMap$PrivateEntryIterator" "this$0" "Ljava/util/TreeMap;") ∈ lw_all := lw_g (lw_at lw_m11 115 rfl) rfl
theorem q2623 : (Jvm.Cond.superclass "java/util/TreeMap$ValueIterator" "java/util/TreeMap$PrivateEntryIterator") ∈ lw_all := lw_g (lw_at lw_m11 117 rfl) rfl
theorem q4011 : (Jvm.Cond.castable "java/util/TreeMap$ValueIterator" "java/lang/Object") ∈ lw_tbl := lw_at lw_m17 65 rfl
theorem in_J46 : ∀ w ∈ wsJ460, w ∈ lw_all := lw_in wsJ460 [2615, 2617, 2619, 2621] (by decide +kernel) (by decide +kernel)

/-! CavePearls$4 -/
set_option maxRecDepth 100000
def RX14 : String := "CavePearls$4"
def TX14 : u_T := fun k => match k with
  | 0 => ("CavePearls$4", "val$pool", "I", true)
  | 1 => ("CavePearls$4", "val$period", "I", true)
  | _ => ("CavePearls$4", "this$0", "LCavePearls;", true)
def tyX14 : Nat → FieldType := fun k => match k with
  | 0 => .int
  | 1 => .int
  | _ => .object "CavePearls"
abbrev wsX140 : List Cond := u_ws RX14 TX14 3
theorem nmX14 : ∀ a, a < 3 → ∀ b, b < 3 → a ≠ b → (TX14 a).2.1 ≠ (TX14 b).2.1 := by decide +kernel
theorem tyX14_ok : ∀ k, k < 3 → parseFieldDescriptor (TX14 k).2.2.1 = some (tyX14 k) := by decide +kernel
abbrev cX14_carryOut : ByteArray := prog_6_method_2_code
def yX14_carryOut : MethodName := ⟨RX14, "carryOut", "(LCavePearls$World;)I"⟩
def dkwX14_carryOut_0 : List UInt8 := [43, 42, 180, 0, 7, 42, 180, 0, 11, 182, 0, 20, 172]
abbrev dktX14_carryOut_0 : List UInt8 := dkwX14_carryOut_0 ++ []
theorem dksX14_carryOut_0 : cX14_carryOut.data.toList.drop 0 = dktX14_carryOut_0 := by decide +kernel
theorem dX14_carryOut_0 : decode cX14_carryOut 0 = .ok (.aload_n 1, 1) := dk_43 (dk_at dksX14_carryOut_0 0 rfl rfl)
theorem dX14_carryOut_1 : decode cX14_carryOut 1 = .ok (.aload_n 0, 1) := dk_42 (dk_at dksX14_carryOut_0 1 rfl rfl)
theorem dX14_carryOut_2 : decode cX14_carryOut 2 = .ok (.getfield 7, 3) := dk_180 0 7 (dk_at dksX14_carryOut_0 2 rfl rfl)
theorem dX14_carryOut_5 : decode cX14_carryOut 5 = .ok (.aload_n 0, 1) := dk_42 (dk_at dksX14_carryOut_0 5 rfl rfl)
theorem dX14_carryOut_6 : decode cX14_carryOut 6 = .ok (.getfield 11, 3) := dk_180 0 11 (dk_at dksX14_carryOut_0 6 rfl rfl)
theorem dX14_carryOut_9 : decode cX14_carryOut 9 = .ok (.invokevirtual 20, 3) := dk_182 0 20 (dk_at dksX14_carryOut_0 9 rfl rfl)
theorem dX14_carryOut_12 : decode cX14_carryOut 12 = .ok (.ireturn, 1) := dk_172 (dk_at dksX14_carryOut_0 12 rfl rfl)
abbrev cX14_init : ByteArray := prog_6_method_1_code
def yX14_init : MethodName := ⟨RX14, "<init>", "(LCavePearls;II)V"⟩
def dkwX14_init_0 : List UInt8 := [42, 43, 181, 0, 1, 42, 28, 181, 0, 7, 42, 29, 181, 0, 11, 42, 183, 0, 14, 177]
abbrev dktX14_init_0 : List UInt8 := dkwX14_init_0 ++ []
theorem dksX14_init_0 : cX14_init.data.toList.drop 0 = dktX14_init_0 := by decide +kernel
theorem dX14_init_0 : decode cX14_init 0 = .ok (.aload_n 0, 1) := dk_42 (dk_at dksX14_init_0 0 rfl rfl)
theorem dX14_init_1 : decode cX14_init 1 = .ok (.aload_n 1, 1) := dk_43 (dk_at dksX14_init_0 1 rfl rfl)
theorem dX14_init_2 : decode cX14_init 2 = .ok (.putfield 1, 3) := dk_181 0 1 (dk_at dksX14_init_0 2 rfl rfl)
theorem dX14_init_5 : decode cX14_init 5 = .ok (.aload_n 0, 1) := dk_42 (dk_at dksX14_init_0 5 rfl rfl)
theorem dX14_init_6 : decode cX14_init 6 = .ok (.iload_n 2, 1) := dk_28 (dk_at dksX14_init_0 6 rfl rfl)
theorem dX14_init_7 : decode cX14_init 7 = .ok (.putfield 7, 3) := dk_181 0 7 (dk_at dksX14_init_0 7 rfl rfl)
theorem dX14_init_10 : decode cX14_init 10 = .ok (.aload_n 0, 1) := dk_42 (dk_at dksX14_init_0 10 rfl rfl)
theorem dX14_init_11 : decode cX14_init 11 = .ok (.iload_n 3, 1) := dk_29 (dk_at dksX14_init_0 11 rfl rfl)
theorem dX14_init_12 : decode cX14_init 12 = .ok (.putfield 11, 3) := dk_181 0 11 (dk_at dksX14_init_0 12 rfl rfl)
theorem dX14_init_15 : decode cX14_init 15 = .ok (.aload_n 0, 1) := dk_42 (dk_at dksX14_init_0 15 rfl rfl)
theorem dX14_init_16 : decode cX14_init 16 = .ok (.invokespecial 14, 3) := dk_183 0 14 (dk_at dksX14_init_0 16 rfl rfl)
theorem dX14_init_19 : decode cX14_init 19 = .ok (.return_, 1) := dk_177 (dk_at dksX14_init_0 19 rfl rfl)
theorem q171 : (Jvm.Cond.initialized "CavePearls$4") ∈ lw_all := lw_g (lw_at lw_m1 65 rfl) rfl
theorem q921 : (Jvm.Cond.selects "CavePearls$4" ({ cls := "java/lang/Object", name := "getClass", desc := "()Ljava/lang/Class;" } : Jvm.MethodName) ({ cls := "java/lang/Object", name := "getClass", desc := "()Ljava/lang/Class;" } : Jvm.MethodName)) ∈ lw_all := lw_g (lw_at lw_m4 95 rfl) rfl
theorem q1606 : (Jvm.Cond.castable "CavePearls$4" "CavePearls$Deed") ∈ lw_tbl := lw_at lw_m7 60 rfl
theorem q1607 : (Jvm.Cond.selects "CavePearls$4" ({ cls := "CavePearls$Deed", name := "carryOut", desc := "(LCavePearls$World;)I" } : Jvm.MethodName) ({ cls := "CavePearls$4", name := "carryOut", desc := "(LCavePearls$World;)I" } : Jvm.MethodName)) ∈ lw_all := lw_g (lw_at lw_m7 61 rfl) rfl
theorem q1608 : (Jvm.Cond.unhidden "CavePearls$4" "carryOut" "(LCavePearls$World;)I") ∈ lw_tbl := lw_at lw_m7 62 rfl
theorem q1609 : (Jvm.Cond.instanceMethod ({ cls := "CavePearls$4", name := "carryOut", desc := "(LCavePearls$World;)I" } : Jvm.MethodName)) ∈ lw_all := lw_g (lw_at lw_m7 63 rfl) rfl
theorem q1610 : (Jvm.Cond.publicMethod ({ cls := "CavePearls$4", name := "carryOut", desc := "(LCavePearls$World;)I" } : Jvm.MethodName)) ∈ lw_tbl := lw_at lw_m7 64 rfl
theorem q1611 : (Jvm.Cond.code ({ cls := "CavePearls$4", name := "carryOut", desc := "(LCavePearls$World;)I" } : Jvm.MethodName) prog_6_method_2_code (2 : Nat) (Option.some Jvm.ClassFile.FieldType.int)) ∈ lw_all := lw_g (lw_at lw_m7 65 rfl) rfl
theorem q1612 : (Jvm.Cond.methodLink "CavePearls$4" (20 : Nat) ({ cls := "CavePearls$World", name := "addStone", desc := "(II)I" } : Jvm.MethodName)) ∈ lw_all := lw_g (lw_at lw_m7 66 rfl) rfl
theorem q2250 : (Jvm.Cond.unhidden "CavePearls$4" "isDone" "(LCavePearls$World;)Z") ∈ lw_tbl := lw_at lw_m9 224 rfl
theorem q2636 : (Jvm.Cond.instantiable "CavePearls$4" (3 : Nat)) ∈ lw_all := lw_g (lw_at lw_m11 130 rfl) rfl
theorem q2638 : (Jvm.Cond.instanceMethod ({ cls := "CavePearls$4", name := "<init>", desc := "(LCavePearls;II)V" } : Jvm.MethodName)) ∈ lw_all := lw_g (lw_at lw_m11 132 rfl) rfl
theorem q2639 : (Jvm.Cond.code ({ cls := "CavePearls$4", name := "<init>", desc := "(LCavePearls;II)V" } : Jvm.MethodName) prog_6_method_1_code (4 : Nat) (Option.none : Option Jvm.ClassFile.FieldType)) ∈ lw_all := lw_g (lw_at lw_m11 133 rfl) rfl
theorem q2640 : (Jvm.Cond.methodLink "CavePearls$4" (14 : Nat) ({ cls := "java/lang/Object", name := "<init>", desc := "()V" } : Jvm.MethodName)) ∈ lw_all := lw_g (lw_at lw_m11 134 rfl) rfl
theorem q2641 : (Jvm.Cond.fieldLink "CavePearls$4" (7 : Nat) "CavePearls$4" "val$pool" "I") ∈ lw_all := lw_g (lw_at lw_m11 135 rfl) rfl
theorem q2642 : (Jvm.Cond.fieldLink "CavePearls$4" (11 : Nat) "CavePearls$4" "val$period" "I") ∈ lw_all := lw_g (lw_at lw_m11 136 rfl) rfl
theorem q2643 : (Jvm.Cond.fieldLink "CavePearls$4" (1 : Nat) "CavePearls$4" "this$0" "LCavePearls;") ∈ lw_all := lw_g (lw_at lw_m11 137 rfl) rfl
theorem q2644 : (Jvm.Cond.laysFinal "CavePearls$4" "CavePearls$4" "val$pool" "I") ∈ lw_all := lw_g (lw_at lw_m11 138 rfl) rfl
theorem q2645 : (Jvm.Cond.soleField "CavePearls$4" "val$pool") ∈ lw_all := lw_g (lw_at lw_m11 139 rfl) rfl
theorem q2646 : (Jvm.Cond.laysFinal "CavePearls$4" "CavePearls$4" "val$period" "I") ∈ lw_all := lw_g (lw_at lw_m11 140 rfl) rfl
theorem q2647 : (Jvm.Cond.soleField "CavePearls$4" "val$period") ∈ lw_all := lw_g (lw_at lw_m11 141 rfl) rfl
theorem q2648 : (Jvm.Cond.laysFinal "CavePearls$4" "CavePearls$4" "this$0" "LCavePearls;") ∈ lw_all := lw_g (lw_at lw_m11 142 rfl) rfl
theorem q2649 : (Jvm.Cond.soleField "CavePearls$4" "this$0") ∈ lw_all := lw_g (lw_at lw_m11 143 rfl) rfl
theorem q2650 : (Jvm.Cond.superclass "CavePearls$4" "java/lang/Object") ∈ lw_all := lw_g (lw_at lw_m11 144 rfl) rfl
theorem q4012 : (Jvm.Cond.castable "CavePearls$4" "java/lang/Object") ∈ lw_tbl := lw_at lw_m17 66 rfl
theorem in_X14 : ∀ w ∈ wsX140, w ∈ lw_all := lw_in wsX140 [2644, 2646, 2648] (by decide +kernel) (by decide +kernel)

/-! CavePearls$ByMinute -/
set_option maxRecDepth 100000
def RX15 : String := "CavePearls$ByMinute"
abbrev cX15_compare : ByteArray := prog_11_method_3_code
def yX15_compare : MethodName := ⟨RX15, "compare", "(Ljava/lang/Object;Ljava/lang/Object;)I"⟩
def dkwX15_compare_0 : List UInt8 := [42, 43, 192, 0, 8, 44, 192, 0, 8, 182, 0, 22, 172]
abbrev dktX15_compare_0 : List UInt8 := dkwX15_compare_0 ++ []
theorem dksX15_compare_0 : cX15_compare.data.toList.drop 0 = dktX15_compare_0 := by decide +kernel
theorem dX15_compare_0 : decode cX15_compare 0 = .ok (.aload_n 0, 1) := dk_42 (dk_at dksX15_compare_0 0 rfl rfl)
theorem dX15_compare_1 : decode cX15_compare 1 = .ok (.aload_n 1, 1) := dk_43 (dk_at dksX15_compare_0 1 rfl rfl)
theorem dX15_compare_2 : decode cX15_compare 2 = .ok (.checkcast 8, 3) := dk_192 0 8 (dk_at dksX15_compare_0 2 rfl rfl)
theorem dX15_compare_5 : decode cX15_compare 5 = .ok (.aload_n 2, 1) := dk_44 (dk_at dksX15_compare_0 5 rfl rfl)
theorem dX15_compare_6 : decode cX15_compare 6 = .ok (.checkcast 8, 3) := dk_192 0 8 (dk_at dksX15_compare_0 6 rfl rfl)
theorem dX15_compare_9 : decode cX15_compare 9 = .ok (.invokevirtual 22, 3) := dk_182 0 22 (dk_at dksX15_compare_0 9 rfl rfl)
theorem dX15_compare_12 : decode cX15_compare 12 = .ok (.ireturn, 1) := dk_172 (dk_at dksX15_compare_0 12 rfl rfl)
abbrev cX15_compare_2 : ByteArray := prog_11_method_2_code
def yX15_compare_2 : MethodName := ⟨RX15, "compare", "(LCavePearls$Stone;LCavePearls$Stone;)I"⟩
def dkwX15_compare_2_1 : List UInt8 := [167, 0, 14, 43, 180, 0, 19, 44, 180, 0, 19, 184, 0, 13, 172]
abbrev dktX15_compare_2_1 : List UInt8 := dkwX15_compare_2_1 ++ []
def dkwX15_compare_2_0 : List UInt8 := [43, 180, 0, 7, 44, 180, 0, 7, 159, 0, 17, 43, 180, 0, 7, 44, 180, 0, 7, 184, 0, 13]
abbrev dktX15_compare_2_0 : List UInt8 := dkwX15_compare_2_0 ++ dktX15_compare_2_1
theorem dksX15_compare_2_0 : cX15_compare_2.data.toList.drop 0 = dktX15_compare_2_0 := by decide +kernel
theorem dksX15_compare_2_1 : cX15_compare_2.data.toList.drop 22 = dktX15_compare_2_1 := dk_seg dksX15_compare_2_0 22 rfl rfl
theorem dX15_compare_2_0 : decode cX15_compare_2 0 = .ok (.aload_n 1, 1) := dk_43 (dk_at dksX15_compare_2_0 0 rfl rfl)
theorem dX15_compare_2_1 : decode cX15_compare_2 1 = .ok (.getfield 7, 3) := dk_180 0 7 (dk_at dksX15_compare_2_0 1 rfl rfl)
theorem dX15_compare_2_4 : decode cX15_compare_2 4 = .ok (.aload_n 2, 1) := dk_44 (dk_at dksX15_compare_2_0 4 rfl rfl)
theorem dX15_compare_2_5 : decode cX15_compare_2 5 = .ok (.getfield 7, 3) := dk_180 0 7 (dk_at dksX15_compare_2_0 5 rfl rfl)
theorem dX15_compare_2_8 : decode cX15_compare_2 8 = .ok (.if_icmp .eq 17, 3) := dk_159 0 17 (dk_at dksX15_compare_2_0 8 rfl rfl)
theorem dX15_compare_2_11 : decode cX15_compare_2 11 = .ok (.aload_n 1, 1) := dk_43 (dk_at dksX15_compare_2_0 11 rfl rfl)
theorem dX15_compare_2_12 : decode cX15_compare_2 12 = .ok (.getfield 7, 3) := dk_180 0 7 (dk_at dksX15_compare_2_0 12 rfl rfl)
theorem dX15_compare_2_15 : decode cX15_compare_2 15 = .ok (.aload_n 2, 1) := dk_44 (dk_at dksX15_compare_2_0 15 rfl rfl)
theorem dX15_compare_2_16 : decode cX15_compare_2 16 = .ok (.getfield 7, 3) := dk_180 0 7 (dk_at dksX15_compare_2_0 16 rfl rfl)
theorem dX15_compare_2_19 : decode cX15_compare_2 19 = .ok (.invokestatic 13, 3) := dk_184 0 13 (dk_at dksX15_compare_2_0 19 rfl rfl)
theorem dX15_compare_2_22 : decode cX15_compare_2 22 = .ok (.goto 14, 3) := dk_167 0 14 (dk_at dksX15_compare_2_1 0 rfl rfl)
theorem dX15_compare_2_25 : decode cX15_compare_2 25 = .ok (.aload_n 1, 1) := dk_43 (dk_at dksX15_compare_2_1 3 rfl rfl)
theorem dX15_compare_2_26 : decode cX15_compare_2 26 = .ok (.getfield 19, 3) := dk_180 0 19 (dk_at dksX15_compare_2_1 4 rfl rfl)
theorem dX15_compare_2_29 : decode cX15_compare_2 29 = .ok (.aload_n 2, 1) := dk_44 (dk_at dksX15_compare_2_1 7 rfl rfl)
theorem dX15_compare_2_30 : decode cX15_compare_2 30 = .ok (.getfield 19, 3) := dk_180 0 19 (dk_at dksX15_compare_2_1 8 rfl rfl)
theorem dX15_compare_2_33 : decode cX15_compare_2 33 = .ok (.invokestatic 13, 3) := dk_184 0 13 (dk_at dksX15_compare_2_1 11 rfl rfl)
theorem dX15_compare_2_36 : decode cX15_compare_2 36 = .ok (.ireturn, 1) := dk_172 (dk_at dksX15_compare_2_1 14 rfl rfl)
abbrev cX15_init : ByteArray := prog_11_method_1_code
def yX15_init : MethodName := ⟨RX15, "<init>", "()V"⟩
theorem dX15_init_0 : decode cX15_init 0 = .ok (.aload_n 0, 1) := by decide +kernel
theorem dX15_init_1 : decode cX15_init 1 = .ok (.invokespecial 1, 3) := by decide +kernel
theorem dX15_init_4 : decode cX15_init 4 = .ok (.return_, 1) := by decide +kernel
theorem q172 : (Jvm.Cond.initialized "CavePearls$ByMinute") ∈ lw_all := lw_g (lw_at lw_m1 66 rfl) rfl
theorem q926 : (Jvm.Cond.selects "CavePearls$ByMinute" ({ cls := "java/lang/Object", name := "getClass", desc := "()Ljava/lang/Class;" } : Jvm.MethodName) ({ cls := "java/lang/Object", name := "getClass", desc := "()Ljava/lang/Class;" } : Jvm.MethodName)) ∈ lw_all := lw_g (lw_at lw_m4 100 rfl) rfl
theorem q1287 : (Jvm.Cond.fieldLinkNest "CavePearls$ByMinute" (19 : Nat) "CavePearls$Stone" "number" "I" "CavePearls") ∈ lw_tbl := lw_at lw_m5 221 rfl
theorem q1300 : (Jvm.Cond.fieldLinkNest "CavePearls$ByMinute" (7 : Nat) "CavePearls$Stone" "next" "I" "CavePearls") ∈ lw_tbl := lw_at lw_m5 234 rfl
theorem q1917 : (Jvm.Cond.castable "CavePearls$ByMinute" "java/util/Comparator") ∈ lw_tbl := lw_at lw_m8 131 rfl
theorem q1918 : (Jvm.Cond.selects "CavePearls$ByMinute" ({ cls := "java/util/Comparator", name := "compare", desc := "(Ljava/lang/Object;Ljava/lang/Object;)I" } : Jvm.MethodName) ({ cls := "CavePearls$ByMinute", name := "compare", desc := "(Ljava/lang/Object;Ljava/lang/Object;)I" } : Jvm.MethodName)) ∈ lw_all := lw_g (lw_at lw_m8 132 rfl) rfl
theorem q1919 : (Jvm.Cond.unhidden "CavePearls$ByMinute" "compare" "(Ljava/lang/Object;Ljava/lang/Object;)I") ∈ lw_tbl := lw_at lw_m8 133 rfl
theorem q1920 : (Jvm.Cond.instanceMethod ({ cls := "CavePearls$ByMinute", name := "compare", desc := "(Ljava/lang/Object;Ljava/lang/Object;)I" } : Jvm.MethodName)) ∈ lw_all := lw_g (lw_at lw_m8 134 rfl) rfl
theorem q1921 : (Jvm.Cond.publicMethod ({ cls := "CavePearls$ByMinute", name := "compare", desc := "(Ljava/lang/Object;Ljava/lang/Object;)I" } : Jvm.MethodName)) ∈ lw_tbl := lw_at lw_m8 135 rfl
theorem q1922 : (Jvm.Cond.code ({ cls := "CavePearls$ByMinute", name := "compare", desc := "(Ljava/lang/Object;Ljava/lang/Object;)I" } : Jvm.MethodName) prog_11_method_3_code (3 : Nat) (Option.some Jvm.ClassFile.FieldType.int)) ∈ lw_all := lw_g (lw_at lw_m8 136 rfl) rfl
theorem q1923 : (Jvm.Cond.classLink "CavePearls$ByMinute" (8 : Nat) "CavePearls$Stone") ∈ lw_all := lw_g (lw_at lw_m8 137 rfl) rfl
theorem q1924 : (Jvm.Cond.methodLink "CavePearls$ByMinute" (22 : Nat) ({ cls := "CavePearls$ByMinute", name := "compare", desc := "(LCavePearls$Stone;LCavePearls$Stone;)I" } : Jvm.MethodName)) ∈ lw_all := lw_g (lw_at lw_m8 138 rfl) rfl
theorem q1925 : (Jvm.Cond.instanceMethod ({ cls := "CavePearls$ByMinute", name := "compare", desc := "(LCavePearls$Stone;LCavePearls$Stone;)I" } : Jvm.MethodName)) ∈ lw_all := lw_g (lw_at lw_m8 139 rfl) rfl
theorem q1926 : (Jvm.Cond.selects "CavePearls$ByMinute" ({ cls := "CavePearls$ByMinute", name := "compare", desc := "(LCavePearls$Stone;LCavePearls$Stone;)I" } : Jvm.MethodName) ({ cls := "CavePearls$ByMinute", name := "compare", desc := "(LCavePearls$Stone;LCavePearls$Stone;)I" } : Jvm.MethodName)) ∈ lw_all := lw_g (lw_at lw_m8 140 rfl) rfl
theorem q1927 : (Jvm.Cond.code ({ cls := "CavePearls$ByMinute", name := "compare", desc := "(LCavePearls$Stone;LCavePearls$Stone;)I" } : Jvm.MethodName) prog_11_method_2_code (3 : Nat) (Option.some Jvm.ClassFile.FieldType.int)) ∈ lw_all := lw_g (lw_at lw_m8 141 rfl) rfl
theorem q1928 : (Jvm.Cond.methodLink "CavePearls$ByMinute" (13 : Nat) ({ cls := "java/lang/Integer", name := "compare", desc := "(II)I" } : Jvm.MethodName)) ∈ lw_all := lw_g (lw_at lw_m8 142 rfl) rfl
theorem q2672 : (Jvm.Cond.instantiable "CavePearls$ByMinute" (0 : Nat)) ∈ lw_all := lw_g (lw_at lw_m11 166 rfl) rfl
theorem q2674 : (Jvm.Cond.instanceMethod ({ cls := "CavePearls$ByMinute", name := "<init>", desc := "()V" } : Jvm.MethodName)) ∈ lw_all := lw_g (lw_at lw_m11 168 rfl) rfl
theorem q2675 : (Jvm.Cond.code ({ cls := "CavePearls$ByMinute", name := "<init>", desc := "()V" } : Jvm.MethodName) prog_11_method_1_code (1 : Nat) (Option.none : Option Jvm.ClassFile.FieldType)) ∈ lw_all := lw_g (lw_at lw_m11 169 rfl) rfl
theorem q2676 : (Jvm.Cond.methodLink "CavePearls$ByMinute" (1 : Nat) ({ cls := "java/lang/Object", name := "<init>", desc := "()V" } : Jvm.MethodName)) ∈ lw_all := lw_g (lw_at lw_m11 170 rfl) rfl
theorem q2677 : (Jvm.Cond.superclass "CavePearls$ByMinute" "java/lang/Object") ∈ lw_all := lw_g (lw_at lw_m11 171 rfl) rfl
theorem q4014 : (Jvm.Cond.castable "CavePearls$ByMinute" "java/lang/Object") ∈ lw_tbl := lw_at lw_m17 68 rfl

/-! CavePearls$Deed -/
set_option maxRecDepth 100000
def RX16 : String := "CavePearls$Deed"
abbrev cX16_isDone : ByteArray := prog_12_method_2_code
def yX16_isDone : MethodName := ⟨RX16, "isDone", "(LCavePearls$World;)Z"⟩
def dkwX16_isDone_0 : List UInt8 := [42, 43, 185, 0, 1, 2, 0, 61, 4, 172, 77, 3, 172]
abbrev dktX16_isDone_0 : List UInt8 := dkwX16_isDone_0 ++ []
theorem dksX16_isDone_0 : cX16_isDone.data.toList.drop 0 = dktX16_isDone_0 := by decide +kernel
theorem dX16_isDone_0 : decode cX16_isDone 0 = .ok (.aload_n 0, 1) := dk_42 (dk_at dksX16_isDone_0 0 rfl rfl)
theorem dX16_isDone_1 : decode cX16_isDone 1 = .ok (.aload_n 1, 1) := dk_43 (dk_at dksX16_isDone_0 1 rfl rfl)
theorem dX16_isDone_2 : decode cX16_isDone 2 = .ok (.invokeinterface 1 2, 5) := by decide +kernel
theorem dX16_isDone_7 : decode cX16_isDone 7 = .ok (.istore_n 2, 1) := dk_61 (dk_at dksX16_isDone_0 7 rfl rfl)
theorem dX16_isDone_8 : decode cX16_isDone 8 = .ok (.iconst 1, 1) := dk_4 (dk_at dksX16_isDone_0 8 rfl rfl)
theorem dX16_isDone_9 : decode cX16_isDone 9 = .ok (.ireturn, 1) := dk_172 (dk_at dksX16_isDone_0 9 rfl rfl)
theorem dX16_isDone_10 : decode cX16_isDone 10 = .ok (.astore_n 2, 1) := dk_77 (dk_at dksX16_isDone_0 10 rfl rfl)
theorem dX16_isDone_11 : decode cX16_isDone 11 = .ok (.iconst 0, 1) := dk_3 (dk_at dksX16_isDone_0 11 rfl rfl)
theorem dX16_isDone_12 : decode cX16_isDone 12 = .ok (.ireturn, 1) := dk_172 (dk_at dksX16_isDone_0 12 rfl rfl)
abbrev cX16_entering : ByteArray := prog_12_method_3_code
def yX16_entering : MethodName := ⟨RX16, "entering", "(II)LCavePearls$Deed;"⟩
def dkwX16_entering_0 : List UInt8 := [187, 0, 13, 89, 26, 27, 183, 0, 15, 176]
abbrev dktX16_entering_0 : List UInt8 := dkwX16_entering_0 ++ []
theorem dksX16_entering_0 : cX16_entering.data.toList.drop 0 = dktX16_entering_0 := by decide +kernel
theorem dX16_entering_0 : decode cX16_entering 0 = .ok (.new 13, 3) := dk_187 0 13 (dk_at dksX16_entering_0 0 rfl rfl)
theorem dX16_entering_3 : decode cX16_entering 3 = .ok (.dup, 1) := dk_89 (dk_at dksX16_entering_0 3 rfl rfl)
theorem dX16_entering_4 : decode cX16_entering 4 = .ok (.iload_n 0, 1) := dk_26 (dk_at dksX16_entering_0 4 rfl rfl)
theorem dX16_entering_5 : decode cX16_entering 5 = .ok (.iload_n 1, 1) := dk_27 (dk_at dksX16_entering_0 5 rfl rfl)
theorem dX16_entering_6 : decode cX16_entering 6 = .ok (.invokespecial 15, 3) := dk_183 0 15 (dk_at dksX16_entering_0 6 rfl rfl)
theorem dX16_entering_9 : decode cX16_entering 9 = .ok (.areturn, 1) := dk_176 (dk_at dksX16_entering_0 9 rfl rfl)
abbrev cX16_lighting : ByteArray := prog_12_method_4_code
def yX16_lighting : MethodName := ⟨RX16, "lighting", "(II)LCavePearls$Deed;"⟩
def dkwX16_lighting_0 : List UInt8 := [187, 0, 19, 89, 26, 27, 183, 0, 21, 176]
abbrev dktX16_lighting_0 : List UInt8 := dkwX16_lighting_0 ++ []
theorem dksX16_lighting_0 : cX16_lighting.data.toList.drop 0 = dktX16_lighting_0 := by decide +kernel
theorem dX16_lighting_0 : decode cX16_lighting 0 = .ok (.new 19, 3) := dk_187 0 19 (dk_at dksX16_lighting_0 0 rfl rfl)
theorem dX16_lighting_3 : decode cX16_lighting 3 = .ok (.dup, 1) := dk_89 (dk_at dksX16_lighting_0 3 rfl rfl)
theorem dX16_lighting_4 : decode cX16_lighting 4 = .ok (.iload_n 0, 1) := dk_26 (dk_at dksX16_lighting_0 4 rfl rfl)
theorem dX16_lighting_5 : decode cX16_lighting 5 = .ok (.iload_n 1, 1) := dk_27 (dk_at dksX16_lighting_0 5 rfl rfl)
theorem dX16_lighting_6 : decode cX16_lighting 6 = .ok (.invokespecial 21, 3) := dk_183 0 21 (dk_at dksX16_lighting_0 6 rfl rfl)
theorem dX16_lighting_9 : decode cX16_lighting 9 = .ok (.areturn, 1) := dk_176 (dk_at dksX16_lighting_0 9 rfl rfl)
abbrev cX16_darkening : ByteArray := prog_12_method_5_code
def yX16_darkening : MethodName := ⟨RX16, "darkening", "(I)LCavePearls$Deed;"⟩
def dkwX16_darkening_0 : List UInt8 := [187, 0, 22, 89, 26, 183, 0, 24, 176]
abbrev dktX16_darkening_0 : List UInt8 := dkwX16_darkening_0 ++ []
theorem dksX16_darkening_0 : cX16_darkening.data.toList.drop 0 = dktX16_darkening_0 := by decide +kernel
theorem dX16_darkening_0 : decode cX16_darkening 0 = .ok (.new 22, 3) := dk_187 0 22 (dk_at dksX16_darkening_0 0 rfl rfl)
theorem dX16_darkening_3 : decode cX16_darkening 3 = .ok (.dup, 1) := dk_89 (dk_at dksX16_darkening_0 3 rfl rfl)
theorem dX16_darkening_4 : decode cX16_darkening 4 = .ok (.iload_n 0, 1) := dk_26 (dk_at dksX16_darkening_0 4 rfl rfl)
theorem dX16_darkening_5 : decode cX16_darkening 5 = .ok (.invokespecial 24, 3) := dk_183 0 24 (dk_at dksX16_darkening_0 5 rfl rfl)
theorem dX16_darkening_8 : decode cX16_darkening 8 = .ok (.areturn, 1) := dk_176 (dk_at dksX16_darkening_0 8 rfl rfl)
abbrev cX16_setting : ByteArray := prog_12_method_7_code
def yX16_setting : MethodName := ⟨RX16, "setting", "(I)LCavePearls$Deed;"⟩
def dkwX16_setting_0 : List UInt8 := [187, 0, 32, 89, 26, 183, 0, 34, 176]
abbrev dktX16_setting_0 : List UInt8 := dkwX16_setting_0 ++ []
theorem dksX16_setting_0 : cX16_setting.data.toList.drop 0 = dktX16_setting_0 := by decide +kernel
theorem dX16_setting_0 : decode cX16_setting 0 = .ok (.new 32, 3) := dk_187 0 32 (dk_at dksX16_setting_0 0 rfl rfl)
theorem dX16_setting_3 : decode cX16_setting 3 = .ok (.dup, 1) := dk_89 (dk_at dksX16_setting_0 3 rfl rfl)
theorem dX16_setting_4 : decode cX16_setting 4 = .ok (.iload_n 0, 1) := dk_26 (dk_at dksX16_setting_0 4 rfl rfl)
theorem dX16_setting_5 : decode cX16_setting 5 = .ok (.invokespecial 34, 3) := dk_183 0 34 (dk_at dksX16_setting_0 5 rfl rfl)
theorem dX16_setting_8 : decode cX16_setting 8 = .ok (.areturn, 1) := dk_176 (dk_at dksX16_setting_0 8 rfl rfl)
abbrev cX16_sweeping : ByteArray := prog_12_method_6_code
def yX16_sweeping : MethodName := ⟨RX16, "sweeping", "()LCavePearls$Deed;"⟩
def dkwX16_sweeping_0 : List UInt8 := [187, 0, 27, 89, 183, 0, 29, 176]
abbrev dktX16_sweeping_0 : List UInt8 := dkwX16_sweeping_0 ++ []
theorem dksX16_sweeping_0 : cX16_sweeping.data.toList.drop 0 = dktX16_sweeping_0 := by decide +kernel
theorem dX16_sweeping_0 : decode cX16_sweeping 0 = .ok (.new 27, 3) := dk_187 0 27 (dk_at dksX16_sweeping_0 0 rfl rfl)
theorem dX16_sweeping_3 : decode cX16_sweeping 3 = .ok (.dup, 1) := dk_89 (dk_at dksX16_sweeping_0 3 rfl rfl)
theorem dX16_sweeping_4 : decode cX16_sweeping 4 = .ok (.invokespecial 29, 3) := dk_183 0 29 (dk_at dksX16_sweeping_0 4 rfl rfl)
theorem dX16_sweeping_7 : decode cX16_sweeping 7 = .ok (.areturn, 1) := dk_176 (dk_at dksX16_sweeping_0 7 rfl rfl)
abbrev cX16_passing : ByteArray := prog_12_method_8_code
def yX16_passing : MethodName := ⟨RX16, "passing", "(I)LCavePearls$Deed;"⟩
def dkwX16_passing_0 : List UInt8 := [187, 0, 35, 89, 26, 183, 0, 37, 176]
abbrev dktX16_passing_0 : List UInt8 := dkwX16_passing_0 ++ []
theorem dksX16_passing_0 : cX16_passing.data.toList.drop 0 = dktX16_passing_0 := by decide +kernel
theorem dX16_passing_0 : decode cX16_passing 0 = .ok (.new 35, 3) := dk_187 0 35 (dk_at dksX16_passing_0 0 rfl rfl)
theorem dX16_passing_3 : decode cX16_passing 3 = .ok (.dup, 1) := dk_89 (dk_at dksX16_passing_0 3 rfl rfl)
theorem dX16_passing_4 : decode cX16_passing 4 = .ok (.iload_n 0, 1) := dk_26 (dk_at dksX16_passing_0 4 rfl rfl)
theorem dX16_passing_5 : decode cX16_passing 5 = .ok (.invokespecial 37, 3) := dk_183 0 37 (dk_at dksX16_passing_0 5 rfl rfl)
theorem dX16_passing_8 : decode cX16_passing 8 = .ok (.areturn, 1) := dk_176 (dk_at dksX16_passing_0 8 rfl rfl)
theorem q173 : (Jvm.Cond.initialized "CavePearls$Deed") ∈ lw_all := lw_g (lw_at lw_m1 67 rfl) rfl
theorem q1492 : (Jvm.Cond.interfaceMethod "CavePearls$Deed" "CavePearls$Deed" "carryOut" "(LCavePearls$World;)I") ∈ lw_tbl := lw_at lw_m6 186 rfl
theorem q1493 : (Jvm.Cond.declares ({ cls := "CavePearls$Deed", name := "carryOut", desc := "(LCavePearls$World;)I" } : Jvm.MethodName)) ∈ lw_tbl := lw_at lw_m6 187 rfl
theorem q1664 : (Jvm.Cond.interfaceMethod "CavePearls$Deed" "CavePearls$Deed" "isDone" "(LCavePearls$World;)Z") ∈ lw_tbl := lw_at lw_m7 118 rfl
theorem q1665 : (Jvm.Cond.declares ({ cls := "CavePearls$Deed", name := "isDone", desc := "(LCavePearls$World;)Z" } : Jvm.MethodName)) ∈ lw_tbl := lw_at lw_m7 119 rfl
theorem q1667 : (Jvm.Cond.instanceMethod ({ cls := "CavePearls$Deed", name := "isDone", desc := "(LCavePearls$World;)Z" } : Jvm.MethodName)) ∈ lw_all := lw_g (lw_at lw_m7 121 rfl) rfl
theorem q1668 : (Jvm.Cond.publicMethod ({ cls := "CavePearls$Deed", name := "isDone", desc := "(LCavePearls$World;)Z" } : Jvm.MethodName)) ∈ lw_tbl := lw_at lw_m7 122 rfl
theorem q1669 : (Jvm.Cond.codeWith ({ cls := "CavePearls$Deed", name := "isDone", desc := "(LCavePearls$World;)Z" } : Jvm.MethodName) prog_12_method_2_code (3 : Nat) (Option.some Jvm.ClassFile.FieldType.boolean) [((0 : Nat), (9 : Nat), (10 : Nat), (7 : Nat)), ((0 : Nat), (9 : Nat), (10 : Nat), (9 : Nat)), ((0 : Nat), (9 : Nat), (10 : Nat), (11 : Nat))]) ∈ lw_all := lw_g (lw_at lw_m7 123 rfl) rfl
theorem q1670 : (Jvm.Cond.classLink "CavePearls$Deed" (7 : Nat) "CavePearls$RefusedException") ∈ lw_all := lw_g (lw_at lw_m7 124 rfl) rfl
theorem q1671 : (Jvm.Cond.classLink "CavePearls$Deed" (9 : Nat) "java/lang/IndexOutOfBoundsException") ∈ lw_all := lw_g (lw_at lw_m7 125 rfl) rfl
theorem q1687 : (Jvm.Cond.classLink "CavePearls$Deed" (11 : Nat) "java/lang/IllegalArgumentException") ∈ lw_all := lw_g (lw_at lw_m7 141 rfl) rfl
theorem q1688 : (Jvm.Cond.interfaceEntry "CavePearls$Deed" (1 : Nat)) ∈ lw_tbl := lw_at lw_m7 142 rfl
theorem q1689 : (Jvm.Cond.methodLink "CavePearls$Deed" (1 : Nat) ({ cls := "CavePearls$Deed", name := "carryOut", desc := "(LCavePearls$World;)I" } : Jvm.MethodName)) ∈ lw_all := lw_g (lw_at lw_m7 143 rfl) rfl
theorem q2750 : (Jvm.Cond.static ({ cls := "CavePearls$Deed", name := "entering", desc := "(II)LCavePearls$Deed;" } : Jvm.MethodName)) ∈ lw_all := lw_g (lw_at lw_m12 4 rfl) rfl
theorem q2751 : (Jvm.Cond.code ({ cls := "CavePearls$Deed", name := "entering", desc := "(II)LCavePearls$Deed;" } : Jvm.MethodName) prog_12_method_3_code (2 : Nat) (Option.some (Jvm.ClassFile.FieldType.object "CavePearls$Deed"))) ∈ lw_all := lw_g (lw_at lw_m12 5 rfl) rfl
theorem q2752 : (Jvm.Cond.classLink "CavePearls$Deed" (13 : Nat) "CavePearls$Deed$1") ∈ lw_all := lw_g (lw_at lw_m12 6 rfl) rfl
theorem q2754 : (Jvm.Cond.methodLink "CavePearls$Deed" (15 : Nat) ({ cls := "CavePearls$Deed$1", name := "<init>", desc := "(II)V" } : Jvm.MethodName)) ∈ lw_all := lw_g (lw_at lw_m12 8 rfl) rfl
theorem q2823 : (Jvm.Cond.static ({ cls := "CavePearls$Deed", name := "lighting", desc := "(II)LCavePearls$Deed;" } : Jvm.MethodName)) ∈ lw_all := lw_g (lw_at lw_m12 77 rfl) rfl
theorem q2824 : (Jvm.Cond.code ({ cls := "CavePearls$Deed", name := "lighting", desc := "(II)LCavePearls$Deed;" } : Jvm.MethodName) prog_12_method_4_code (2 : Nat) (Option.some (Jvm.ClassFile.FieldType.object "CavePearls$Deed"))) ∈ lw_all := lw_g (lw_at lw_m12 78 rfl) rfl
theorem q2825 : (Jvm.Cond.classLink "CavePearls$Deed" (19 : Nat) "CavePearls$Deed$2") ∈ lw_all := lw_g (lw_at lw_m12 79 rfl) rfl
theorem q2827 : (Jvm.Cond.methodLink "CavePearls$Deed" (21 : Nat) ({ cls := "CavePearls$Deed$2", name := "<init>", desc := "(II)V" } : Jvm.MethodName)) ∈ lw_all := lw_g (lw_at lw_m12 81 rfl) rfl
theorem q2846 : (Jvm.Cond.static ({ cls := "CavePearls$Deed", name := "darkening", desc := "(I)LCavePearls$Deed;" } : Jvm.MethodName)) ∈ lw_all := lw_g (lw_at lw_m12 100 rfl) rfl
theorem q2847 : (Jvm.Cond.code ({ cls := "CavePearls$Deed", name := "darkening", desc := "(I)LCavePearls$Deed;" } : Jvm.MethodName) prog_12_method_5_code (1 : Nat) (Option.some (Jvm.ClassFile.FieldType.object "CavePearls$Deed"))) ∈ lw_all := lw_g (lw_at lw_m12 101 rfl) rfl
theorem q2848 : (Jvm.Cond.classLink "CavePearls$Deed" (22 : Nat) "CavePearls$Deed$3") ∈ lw_all := lw_g (lw_at lw_m12 102 rfl) rfl
theorem q2850 : (Jvm.Cond.methodLink "CavePearls$Deed" (24 : Nat) ({ cls := "CavePearls$Deed$3", name := "<init>", desc := "(I)V" } : Jvm.MethodName)) ∈ lw_all := lw_g (lw_at lw_m12 104 rfl) rfl
theorem q2874 : (Jvm.Cond.static ({ cls := "CavePearls$Deed", name := "setting", desc := "(I)LCavePearls$Deed;" } : Jvm.MethodName)) ∈ lw_all := lw_g (lw_at lw_m12 128 rfl) rfl
theorem q2875 : (Jvm.Cond.code ({ cls := "CavePearls$Deed", name := "setting", desc := "(I)LCavePearls$Deed;" } : Jvm.MethodName) prog_12_method_7_code (1 : Nat) (Option.some (Jvm.ClassFile.FieldType.object "CavePearls$Deed"))) ∈ lw_all := lw_g (lw_at lw_m12 129 rfl) rfl
theorem q2876 : (Jvm.Cond.classLink "CavePearls$Deed" (32 : Nat) "CavePearls$Deed$5") ∈ lw_all := lw_g (lw_at lw_m12 130 rfl) rfl
theorem q2878 : (Jvm.Cond.methodLink "CavePearls$Deed" (34 : Nat) ({ cls := "CavePearls$Deed$5", name := "<init>", desc := "(I)V" } : Jvm.MethodName)) ∈ lw_all := lw_g (lw_at lw_m12 132 rfl) rfl
theorem q2894 : (Jvm.Cond.static ({ cls := "CavePearls$Deed", name := "sweeping", desc := "()LCavePearls$Deed;" } : Jvm.MethodName)) ∈ lw_all := lw_g (lw_at lw_m12 148 rfl) rfl
theorem q2895 : (Jvm.Cond.code ({ cls := "CavePearls$Deed", name := "sweeping", desc := "()LCavePearls$Deed;" } : Jvm.MethodName) prog_12_method_6_code (0 : Nat) (Option.some (Jvm.ClassFile.FieldType.object "CavePearls$Deed"))) ∈ lw_all := lw_g (lw_at lw_m12 149 rfl) rfl
theorem q2896 : (Jvm.Cond.classLink "CavePearls$Deed" (27 : Nat) "CavePearls$Deed$4") ∈ lw_all := lw_g (lw_at lw_m12 150 rfl) rfl
theorem q2898 : (Jvm.Cond.methodLink "CavePearls$Deed" (29 : Nat) ({ cls := "CavePearls$Deed$4", name := "<init>", desc := "()V" } : Jvm.MethodName)) ∈ lw_all := lw_g (lw_at lw_m12 152 rfl) rfl
theorem q2911 : (Jvm.Cond.static ({ cls := "CavePearls$Deed", name := "passing", desc := "(I)LCavePearls$Deed;" } : Jvm.MethodName)) ∈ lw_all := lw_g (lw_at lw_m12 165 rfl) rfl
theorem q2912 : (Jvm.Cond.code ({ cls := "CavePearls$Deed", name := "passing", desc := "(I)LCavePearls$Deed;" } : Jvm.MethodName) prog_12_method_8_code (1 : Nat) (Option.some (Jvm.ClassFile.FieldType.object "CavePearls$Deed"))) ∈ lw_all := lw_g (lw_at lw_m12 166 rfl) rfl
theorem q2913 : (Jvm.Cond.classLink "CavePearls$Deed" (35 : Nat) "CavePearls$Deed$6") ∈ lw_all := lw_g (lw_at lw_m12 167 rfl) rfl
theorem q2915 : (Jvm.Cond.methodLink "CavePearls$Deed" (37 : Nat) ({ cls := "CavePearls$Deed$6", name := "<init>", desc := "(I)V" } : Jvm.MethodName)) ∈ lw_all := lw_g (lw_at lw_m12 169 rfl) rfl

/-! CavePearls$Deed$1 -/
set_option maxRecDepth 100000
def RX17 : String := "CavePearls$Deed$1"
def TX17 : u_T := fun k => match k with
  | 0 => ("CavePearls$Deed$1", "val$persons", "I", true)
  | _ => ("CavePearls$Deed$1", "val$minutes", "I", true)
def tyX17 : Nat → FieldType := fun k => match k with
  | 0 => .int
  | _ => .int
abbrev wsX170 : List Cond := u_ws RX17 TX17 2
theorem nmX17 : ∀ a, a < 2 → ∀ b, b < 2 → a ≠ b → (TX17 a).2.1 ≠ (TX17 b).2.1 := by decide +kernel
theorem tyX17_ok : ∀ k, k < 2 → parseFieldDescriptor (TX17 k).2.2.1 = some (tyX17 k) := by decide +kernel
abbrev cX17_carryOut : ByteArray := prog_13_method_2_code
def yX17_carryOut : MethodName := ⟨RX17, "carryOut", "(LCavePearls$World;)I"⟩
def dkwX17_carryOut_0 : List UInt8 := [43, 42, 180, 0, 1, 42, 180, 0, 7, 182, 0, 16, 172]
abbrev dktX17_carryOut_0 : List UInt8 := dkwX17_carryOut_0 ++ []
theorem dksX17_carryOut_0 : cX17_carryOut.data.toList.drop 0 = dktX17_carryOut_0 := by decide +kernel
theorem dX17_carryOut_0 : decode cX17_carryOut 0 = .ok (.aload_n 1, 1) := dk_43 (dk_at dksX17_carryOut_0 0 rfl rfl)
theorem dX17_carryOut_1 : decode cX17_carryOut 1 = .ok (.aload_n 0, 1) := dk_42 (dk_at dksX17_carryOut_0 1 rfl rfl)
theorem dX17_carryOut_2 : decode cX17_carryOut 2 = .ok (.getfield 1, 3) := dk_180 0 1 (dk_at dksX17_carryOut_0 2 rfl rfl)
theorem dX17_carryOut_5 : decode cX17_carryOut 5 = .ok (.aload_n 0, 1) := dk_42 (dk_at dksX17_carryOut_0 5 rfl rfl)
theorem dX17_carryOut_6 : decode cX17_carryOut 6 = .ok (.getfield 7, 3) := dk_180 0 7 (dk_at dksX17_carryOut_0 6 rfl rfl)
theorem dX17_carryOut_9 : decode cX17_carryOut 9 = .ok (.invokevirtual 16, 3) := dk_182 0 16 (dk_at dksX17_carryOut_0 9 rfl rfl)
theorem dX17_carryOut_12 : decode cX17_carryOut 12 = .ok (.ireturn, 1) := dk_172 (dk_at dksX17_carryOut_0 12 rfl rfl)
abbrev cX17_init : ByteArray := prog_13_method_1_code
def yX17_init : MethodName := ⟨RX17, "<init>", "(II)V"⟩
def dkwX17_init_0 : List UInt8 := [42, 27, 181, 0, 1, 42, 28, 181, 0, 7, 42, 183, 0, 10, 177]
abbrev dktX17_init_0 : List UInt8 := dkwX17_init_0 ++ []
theorem dksX17_init_0 : cX17_init.data.toList.drop 0 = dktX17_init_0 := by decide +kernel
theorem dX17_init_0 : decode cX17_init 0 = .ok (.aload_n 0, 1) := dk_42 (dk_at dksX17_init_0 0 rfl rfl)
theorem dX17_init_1 : decode cX17_init 1 = .ok (.iload_n 1, 1) := dk_27 (dk_at dksX17_init_0 1 rfl rfl)
theorem dX17_init_2 : decode cX17_init 2 = .ok (.putfield 1, 3) := dk_181 0 1 (dk_at dksX17_init_0 2 rfl rfl)
theorem dX17_init_5 : decode cX17_init 5 = .ok (.aload_n 0, 1) := dk_42 (dk_at dksX17_init_0 5 rfl rfl)
theorem dX17_init_6 : decode cX17_init 6 = .ok (.iload_n 2, 1) := dk_28 (dk_at dksX17_init_0 6 rfl rfl)
theorem dX17_init_7 : decode cX17_init 7 = .ok (.putfield 7, 3) := dk_181 0 7 (dk_at dksX17_init_0 7 rfl rfl)
theorem dX17_init_10 : decode cX17_init 10 = .ok (.aload_n 0, 1) := dk_42 (dk_at dksX17_init_0 10 rfl rfl)
theorem dX17_init_11 : decode cX17_init 11 = .ok (.invokespecial 10, 3) := dk_183 0 10 (dk_at dksX17_init_0 11 rfl rfl)
theorem dX17_init_14 : decode cX17_init 14 = .ok (.return_, 1) := dk_177 (dk_at dksX17_init_0 14 rfl rfl)
theorem q174 : (Jvm.Cond.initialized "CavePearls$Deed$1") ∈ lw_all := lw_g (lw_at lw_m1 68 rfl) rfl
theorem q927 : (Jvm.Cond.selects "CavePearls$Deed$1" ({ cls := "java/lang/Object", name := "getClass", desc := "()Ljava/lang/Class;" } : Jvm.MethodName) ({ cls := "java/lang/Object", name := "getClass", desc := "()Ljava/lang/Class;" } : Jvm.MethodName)) ∈ lw_all := lw_g (lw_at lw_m4 101 rfl) rfl
theorem q1690 : (Jvm.Cond.castable "CavePearls$Deed$1" "CavePearls$Deed") ∈ lw_tbl := lw_at lw_m7 144 rfl
theorem q1691 : (Jvm.Cond.selects "CavePearls$Deed$1" ({ cls := "CavePearls$Deed", name := "carryOut", desc := "(LCavePearls$World;)I" } : Jvm.MethodName) ({ cls := "CavePearls$Deed$1", name := "carryOut", desc := "(LCavePearls$World;)I" } : Jvm.MethodName)) ∈ lw_all := lw_g (lw_at lw_m7 145 rfl) rfl
theorem q1692 : (Jvm.Cond.unhidden "CavePearls$Deed$1" "carryOut" "(LCavePearls$World;)I") ∈ lw_tbl := lw_at lw_m7 146 rfl
theorem q1693 : (Jvm.Cond.instanceMethod ({ cls := "CavePearls$Deed$1", name := "carryOut", desc := "(LCavePearls$World;)I" } : Jvm.MethodName)) ∈ lw_all := lw_g (lw_at lw_m7 147 rfl) rfl
theorem q1694 : (Jvm.Cond.publicMethod ({ cls := "CavePearls$Deed$1", name := "carryOut", desc := "(LCavePearls$World;)I" } : Jvm.MethodName)) ∈ lw_tbl := lw_at lw_m7 148 rfl
theorem q1695 : (Jvm.Cond.code ({ cls := "CavePearls$Deed$1", name := "carryOut", desc := "(LCavePearls$World;)I" } : Jvm.MethodName) prog_13_method_2_code (2 : Nat) (Option.some Jvm.ClassFile.FieldType.int)) ∈ lw_all := lw_g (lw_at lw_m7 149 rfl) rfl
theorem q1696 : (Jvm.Cond.methodLink "CavePearls$Deed$1" (16 : Nat) ({ cls := "CavePearls$World", name := "enter", desc := "(II)I" } : Jvm.MethodName)) ∈ lw_all := lw_g (lw_at lw_m7 150 rfl) rfl
theorem q2254 : (Jvm.Cond.unhidden "CavePearls$Deed$1" "isDone" "(LCavePearls$World;)Z") ∈ lw_tbl := lw_at lw_m9 228 rfl
theorem q2753 : (Jvm.Cond.instantiable "CavePearls$Deed$1" (2 : Nat)) ∈ lw_all := lw_g (lw_at lw_m12 7 rfl) rfl
theorem q2755 : (Jvm.Cond.instanceMethod ({ cls := "CavePearls$Deed$1", name := "<init>", desc := "(II)V" } : Jvm.MethodName)) ∈ lw_all := lw_g (lw_at lw_m12 9 rfl) rfl
theorem q2756 : (Jvm.Cond.code ({ cls := "CavePearls$Deed$1", name := "<init>", desc := "(II)V" } : Jvm.MethodName) prog_13_method_1_code (3 : Nat) (Option.none : Option Jvm.ClassFile.FieldType)) ∈ lw_all := lw_g (lw_at lw_m12 10 rfl) rfl
theorem q2757 : (Jvm.Cond.methodLink "CavePearls$Deed$1" (10 : Nat) ({ cls := "java/lang/Object", name := "<init>", desc := "()V" } : Jvm.MethodName)) ∈ lw_all := lw_g (lw_at lw_m12 11 rfl) rfl
theorem q2758 : (Jvm.Cond.fieldLink "CavePearls$Deed$1" (1 : Nat) "CavePearls$Deed$1" "val$persons" "I") ∈ lw_all := lw_g (lw_at lw_m12 12 rfl) rfl
theorem q2759 : (Jvm.Cond.fieldLink "CavePearls$Deed$1" (7 : Nat) "CavePearls$Deed$1" "val$minutes" "I") ∈ lw_all := lw_g (lw_at lw_m12 13 rfl) rfl
theorem q2760 : (Jvm.Cond.laysFinal "CavePearls$Deed$1" "CavePearls$Deed$1" "val$persons" "I") ∈ lw_all := lw_g (lw_at lw_m12 14 rfl) rfl
theorem q2761 : (Jvm.Cond.soleField "CavePearls$Deed$1" "val$persons") ∈ lw_all := lw_g (lw_at lw_m12 15 rfl) rfl
theorem q2762 : (Jvm.Cond.laysFinal "CavePearls$Deed$1" "CavePearls$Deed$1" "val$minutes" "I") ∈ lw_all := lw_g (lw_at lw_m12 16 rfl) rfl
theorem q2763 : (Jvm.Cond.soleField "CavePearls$Deed$1" "val$minutes") ∈ lw_all := lw_g (lw_at lw_m12 17 rfl) rfl
theorem q2764 : (Jvm.Cond.superclass "CavePearls$Deed$1" "java/lang/Object") ∈ lw_all := lw_g (lw_at lw_m12 18 rfl) rfl
theorem q4016 : (Jvm.Cond.castable "CavePearls$Deed$1" "java/lang/Object") ∈ lw_tbl := lw_at lw_m17 70 rfl
theorem in_X17 : ∀ w ∈ wsX170, w ∈ lw_all := lw_in wsX170 [2760, 2762] (by decide +kernel) (by decide +kernel)

/-! CavePearls$5 -/
set_option maxRecDepth 100000
def RX18 : String := "CavePearls$5"
def TX18 : u_T := fun k => match k with
  | 0 => ("CavePearls$5", "val$group", "I", true)
  | _ => ("CavePearls$5", "this$0", "LCavePearls;", true)
def tyX18 : Nat → FieldType := fun k => match k with
  | 0 => .int
  | _ => .object "CavePearls"
abbrev wsX180 : List Cond := u_ws RX18 TX18 2
theorem nmX18 : ∀ a, a < 2 → ∀ b, b < 2 → a ≠ b → (TX18 a).2.1 ≠ (TX18 b).2.1 := by decide +kernel
theorem tyX18_ok : ∀ k, k < 2 → parseFieldDescriptor (TX18 k).2.2.1 = some (tyX18 k) := by decide +kernel
abbrev cX18_carryOut : ByteArray := prog_7_method_2_code
def yX18_carryOut : MethodName := ⟨RX18, "carryOut", "(LCavePearls$World;)I"⟩
def dkwX18_carryOut_0 : List UInt8 := [43, 42, 180, 0, 7, 182, 0, 17, 172]
abbrev dktX18_carryOut_0 : List UInt8 := dkwX18_carryOut_0 ++ []
theorem dksX18_carryOut_0 : cX18_carryOut.data.toList.drop 0 = dktX18_carryOut_0 := by decide +kernel
theorem dX18_carryOut_0 : decode cX18_carryOut 0 = .ok (.aload_n 1, 1) := dk_43 (dk_at dksX18_carryOut_0 0 rfl rfl)
theorem dX18_carryOut_1 : decode cX18_carryOut 1 = .ok (.aload_n 0, 1) := dk_42 (dk_at dksX18_carryOut_0 1 rfl rfl)
theorem dX18_carryOut_2 : decode cX18_carryOut 2 = .ok (.getfield 7, 3) := dk_180 0 7 (dk_at dksX18_carryOut_0 2 rfl rfl)
theorem dX18_carryOut_5 : decode cX18_carryOut 5 = .ok (.invokevirtual 17, 3) := dk_182 0 17 (dk_at dksX18_carryOut_0 5 rfl rfl)
theorem dX18_carryOut_8 : decode cX18_carryOut 8 = .ok (.ireturn, 1) := dk_172 (dk_at dksX18_carryOut_0 8 rfl rfl)
abbrev cX18_init : ByteArray := prog_7_method_1_code
def yX18_init : MethodName := ⟨RX18, "<init>", "(LCavePearls;I)V"⟩
def dkwX18_init_0 : List UInt8 := [42, 43, 181, 0, 1, 42, 28, 181, 0, 7, 42, 183, 0, 11, 177]
abbrev dktX18_init_0 : List UInt8 := dkwX18_init_0 ++ []
theorem dksX18_init_0 : cX18_init.data.toList.drop 0 = dktX18_init_0 := by decide +kernel
theorem dX18_init_0 : decode cX18_init 0 = .ok (.aload_n 0, 1) := dk_42 (dk_at dksX18_init_0 0 rfl rfl)
theorem dX18_init_1 : decode cX18_init 1 = .ok (.aload_n 1, 1) := dk_43 (dk_at dksX18_init_0 1 rfl rfl)
theorem dX18_init_2 : decode cX18_init 2 = .ok (.putfield 1, 3) := dk_181 0 1 (dk_at dksX18_init_0 2 rfl rfl)
theorem dX18_init_5 : decode cX18_init 5 = .ok (.aload_n 0, 1) := dk_42 (dk_at dksX18_init_0 5 rfl rfl)
theorem dX18_init_6 : decode cX18_init 6 = .ok (.iload_n 2, 1) := dk_28 (dk_at dksX18_init_0 6 rfl rfl)
theorem dX18_init_7 : decode cX18_init 7 = .ok (.putfield 7, 3) := dk_181 0 7 (dk_at dksX18_init_0 7 rfl rfl)
theorem dX18_init_10 : decode cX18_init 10 = .ok (.aload_n 0, 1) := dk_42 (dk_at dksX18_init_0 10 rfl rfl)
theorem dX18_init_11 : decode cX18_init 11 = .ok (.invokespecial 11, 3) := dk_183 0 11 (dk_at dksX18_init_0 11 rfl rfl)
theorem dX18_init_14 : decode cX18_init 14 = .ok (.return_, 1) := dk_177 (dk_at dksX18_init_0 14 rfl rfl)
theorem q175 : (Jvm.Cond.initialized "CavePearls$5") ∈ lw_all := lw_g (lw_at lw_m1 69 rfl) rfl
theorem q922 : (Jvm.Cond.selects "CavePearls$5" ({ cls := "java/lang/Object", name := "getClass", desc := "()Ljava/lang/Class;" } : Jvm.MethodName) ({ cls := "java/lang/Object", name := "getClass", desc := "()Ljava/lang/Class;" } : Jvm.MethodName)) ∈ lw_all := lw_g (lw_at lw_m4 96 rfl) rfl
theorem q1617 : (Jvm.Cond.castable "CavePearls$5" "CavePearls$Deed") ∈ lw_tbl := lw_at lw_m7 71 rfl
theorem q1618 : (Jvm.Cond.selects "CavePearls$5" ({ cls := "CavePearls$Deed", name := "carryOut", desc := "(LCavePearls$World;)I" } : Jvm.MethodName) ({ cls := "CavePearls$5", name := "carryOut", desc := "(LCavePearls$World;)I" } : Jvm.MethodName)) ∈ lw_all := lw_g (lw_at lw_m7 72 rfl) rfl
theorem q1619 : (Jvm.Cond.unhidden "CavePearls$5" "carryOut" "(LCavePearls$World;)I") ∈ lw_tbl := lw_at lw_m7 73 rfl
theorem q1620 : (Jvm.Cond.instanceMethod ({ cls := "CavePearls$5", name := "carryOut", desc := "(LCavePearls$World;)I" } : Jvm.MethodName)) ∈ lw_all := lw_g (lw_at lw_m7 74 rfl) rfl
theorem q1621 : (Jvm.Cond.publicMethod ({ cls := "CavePearls$5", name := "carryOut", desc := "(LCavePearls$World;)I" } : Jvm.MethodName)) ∈ lw_tbl := lw_at lw_m7 75 rfl
theorem q1622 : (Jvm.Cond.code ({ cls := "CavePearls$5", name := "carryOut", desc := "(LCavePearls$World;)I" } : Jvm.MethodName) prog_7_method_2_code (2 : Nat) (Option.some Jvm.ClassFile.FieldType.int)) ∈ lw_all := lw_g (lw_at lw_m7 76 rfl) rfl
theorem q1623 : (Jvm.Cond.methodLink "CavePearls$5" (17 : Nat) ({ cls := "CavePearls$World", name := "sendOut", desc := "(I)I" } : Jvm.MethodName)) ∈ lw_all := lw_g (lw_at lw_m7 77 rfl) rfl
theorem q2251 : (Jvm.Cond.unhidden "CavePearls$5" "isDone" "(LCavePearls$World;)Z") ∈ lw_tbl := lw_at lw_m9 225 rfl
theorem q2773 : (Jvm.Cond.instantiable "CavePearls$5" (2 : Nat)) ∈ lw_all := lw_g (lw_at lw_m12 27 rfl) rfl
theorem q2775 : (Jvm.Cond.instanceMethod ({ cls := "CavePearls$5", name := "<init>", desc := "(LCavePearls;I)V" } : Jvm.MethodName)) ∈ lw_all := lw_g (lw_at lw_m12 29 rfl) rfl
theorem q2776 : (Jvm.Cond.code ({ cls := "CavePearls$5", name := "<init>", desc := "(LCavePearls;I)V" } : Jvm.MethodName) prog_7_method_1_code (3 : Nat) (Option.none : Option Jvm.ClassFile.FieldType)) ∈ lw_all := lw_g (lw_at lw_m12 30 rfl) rfl
theorem q2777 : (Jvm.Cond.methodLink "CavePearls$5" (11 : Nat) ({ cls := "java/lang/Object", name := "<init>", desc := "()V" } : Jvm.MethodName)) ∈ lw_all := lw_g (lw_at lw_m12 31 rfl) rfl
theorem q2778 : (Jvm.Cond.fieldLink "CavePearls$5" (7 : Nat) "CavePearls$5" "val$group" "I") ∈ lw_all := lw_g (lw_at lw_m12 32 rfl) rfl
theorem q2779 : (Jvm.Cond.fieldLink "CavePearls$5" (1 : Nat) "CavePearls$5" "this$0" "LCavePearls;") ∈ lw_all := lw_g (lw_at lw_m12 33 rfl) rfl
theorem q2780 : (Jvm.Cond.laysFinal "CavePearls$5" "CavePearls$5" "val$group" "I") ∈ lw_all := lw_g (lw_at lw_m12 34 rfl) rfl
theorem q2781 : (Jvm.Cond.soleField "CavePearls$5" "val$group") ∈ lw_all := lw_g (lw_at lw_m12 35 rfl) rfl
theorem q2782 : (Jvm.Cond.laysFinal "CavePearls$5" "CavePearls$5" "this$0" "LCavePearls;") ∈ lw_all := lw_g (lw_at lw_m12 36 rfl) rfl
theorem q2783 : (Jvm.Cond.soleField "CavePearls$5" "this$0") ∈ lw_all := lw_g (lw_at lw_m12 37 rfl) rfl
theorem q2784 : (Jvm.Cond.superclass "CavePearls$5" "java/lang/Object") ∈ lw_all := lw_g (lw_at lw_m12 38 rfl) rfl
theorem q4017 : (Jvm.Cond.castable "CavePearls$5" "java/lang/Object") ∈ lw_tbl := lw_at lw_m17 71 rfl
theorem in_X18 : ∀ w ∈ wsX180, w ∈ lw_all := lw_in wsX180 [2780, 2782] (by decide +kernel) (by decide +kernel)

/-! CavePearls$6 -/
set_option maxRecDepth 100000
def RX19 : String := "CavePearls$6"
def TX19 : u_T := fun k => match k with
  | 0 => ("CavePearls$6", "val$pool", "I", true)
  | _ => ("CavePearls$6", "this$0", "LCavePearls;", true)
def tyX19 : Nat → FieldType := fun k => match k with
  | 0 => .int
  | _ => .object "CavePearls"
abbrev wsX190 : List Cond := u_ws RX19 TX19 2
theorem nmX19 : ∀ a, a < 2 → ∀ b, b < 2 → a ≠ b → (TX19 a).2.1 ≠ (TX19 b).2.1 := by decide +kernel
theorem tyX19_ok : ∀ k, k < 2 → parseFieldDescriptor (TX19 k).2.2.1 = some (tyX19 k) := by decide +kernel
abbrev cX19_carryOut : ByteArray := prog_8_method_2_code
def yX19_carryOut : MethodName := ⟨RX19, "carryOut", "(LCavePearls$World;)I"⟩
def dkwX19_carryOut_0 : List UInt8 := [43, 42, 180, 0, 7, 182, 0, 17, 172]
abbrev dktX19_carryOut_0 : List UInt8 := dkwX19_carryOut_0 ++ []
theorem dksX19_carryOut_0 : cX19_carryOut.data.toList.drop 0 = dktX19_carryOut_0 := by decide +kernel
theorem dX19_carryOut_0 : decode cX19_carryOut 0 = .ok (.aload_n 1, 1) := dk_43 (dk_at dksX19_carryOut_0 0 rfl rfl)
theorem dX19_carryOut_1 : decode cX19_carryOut 1 = .ok (.aload_n 0, 1) := dk_42 (dk_at dksX19_carryOut_0 1 rfl rfl)
theorem dX19_carryOut_2 : decode cX19_carryOut 2 = .ok (.getfield 7, 3) := dk_180 0 7 (dk_at dksX19_carryOut_0 2 rfl rfl)
theorem dX19_carryOut_5 : decode cX19_carryOut 5 = .ok (.invokevirtual 17, 3) := dk_182 0 17 (dk_at dksX19_carryOut_0 5 rfl rfl)
theorem dX19_carryOut_8 : decode cX19_carryOut 8 = .ok (.ireturn, 1) := dk_172 (dk_at dksX19_carryOut_0 8 rfl rfl)
abbrev cX19_init : ByteArray := prog_8_method_1_code
def yX19_init : MethodName := ⟨RX19, "<init>", "(LCavePearls;I)V"⟩
def dkwX19_init_0 : List UInt8 := [42, 43, 181, 0, 1, 42, 28, 181, 0, 7, 42, 183, 0, 11, 177]
abbrev dktX19_init_0 : List UInt8 := dkwX19_init_0 ++ []
theorem dksX19_init_0 : cX19_init.data.toList.drop 0 = dktX19_init_0 := by decide +kernel
theorem dX19_init_0 : decode cX19_init 0 = .ok (.aload_n 0, 1) := dk_42 (dk_at dksX19_init_0 0 rfl rfl)
theorem dX19_init_1 : decode cX19_init 1 = .ok (.aload_n 1, 1) := dk_43 (dk_at dksX19_init_0 1 rfl rfl)
theorem dX19_init_2 : decode cX19_init 2 = .ok (.putfield 1, 3) := dk_181 0 1 (dk_at dksX19_init_0 2 rfl rfl)
theorem dX19_init_5 : decode cX19_init 5 = .ok (.aload_n 0, 1) := dk_42 (dk_at dksX19_init_0 5 rfl rfl)
theorem dX19_init_6 : decode cX19_init 6 = .ok (.iload_n 2, 1) := dk_28 (dk_at dksX19_init_0 6 rfl rfl)
theorem dX19_init_7 : decode cX19_init 7 = .ok (.putfield 7, 3) := dk_181 0 7 (dk_at dksX19_init_0 7 rfl rfl)
theorem dX19_init_10 : decode cX19_init 10 = .ok (.aload_n 0, 1) := dk_42 (dk_at dksX19_init_0 10 rfl rfl)
theorem dX19_init_11 : decode cX19_init 11 = .ok (.invokespecial 11, 3) := dk_183 0 11 (dk_at dksX19_init_0 11 rfl rfl)
theorem dX19_init_14 : decode cX19_init 14 = .ok (.return_, 1) := dk_177 (dk_at dksX19_init_0 14 rfl rfl)
theorem q176 : (Jvm.Cond.initialized "CavePearls$6") ∈ lw_all := lw_g (lw_at lw_m1 70 rfl) rfl
theorem q923 : (Jvm.Cond.selects "CavePearls$6" ({ cls := "java/lang/Object", name := "getClass", desc := "()Ljava/lang/Class;" } : Jvm.MethodName) ({ cls := "java/lang/Object", name := "getClass", desc := "()Ljava/lang/Class;" } : Jvm.MethodName)) ∈ lw_all := lw_g (lw_at lw_m4 97 rfl) rfl
theorem q1636 : (Jvm.Cond.castable "CavePearls$6" "CavePearls$Deed") ∈ lw_tbl := lw_at lw_m7 90 rfl
theorem q1637 : (Jvm.Cond.selects "CavePearls$6" ({ cls := "CavePearls$Deed", name := "carryOut", desc := "(LCavePearls$World;)I" } : Jvm.MethodName) ({ cls := "CavePearls$6", name := "carryOut", desc := "(LCavePearls$World;)I" } : Jvm.MethodName)) ∈ lw_all := lw_g (lw_at lw_m7 91 rfl) rfl
theorem q1638 : (Jvm.Cond.unhidden "CavePearls$6" "carryOut" "(LCavePearls$World;)I") ∈ lw_tbl := lw_at lw_m7 92 rfl
theorem q1639 : (Jvm.Cond.instanceMethod ({ cls := "CavePearls$6", name := "carryOut", desc := "(LCavePearls$World;)I" } : Jvm.MethodName)) ∈ lw_all := lw_g (lw_at lw_m7 93 rfl) rfl
theorem q1640 : (Jvm.Cond.publicMethod ({ cls := "CavePearls$6", name := "carryOut", desc := "(LCavePearls$World;)I" } : Jvm.MethodName)) ∈ lw_tbl := lw_at lw_m7 94 rfl
theorem q1641 : (Jvm.Cond.code ({ cls := "CavePearls$6", name := "carryOut", desc := "(LCavePearls$World;)I" } : Jvm.MethodName) prog_8_method_2_code (2 : Nat) (Option.some Jvm.ClassFile.FieldType.int)) ∈ lw_all := lw_g (lw_at lw_m7 95 rfl) rfl
theorem q1642 : (Jvm.Cond.methodLink "CavePearls$6" (17 : Nat) ({ cls := "CavePearls$World", name := "addLamp", desc := "(I)I" } : Jvm.MethodName)) ∈ lw_all := lw_g (lw_at lw_m7 96 rfl) rfl
theorem q2252 : (Jvm.Cond.unhidden "CavePearls$6" "isDone" "(LCavePearls$World;)Z") ∈ lw_tbl := lw_at lw_m9 226 rfl
theorem q2803 : (Jvm.Cond.instantiable "CavePearls$6" (2 : Nat)) ∈ lw_all := lw_g (lw_at lw_m12 57 rfl) rfl
theorem q2805 : (Jvm.Cond.instanceMethod ({ cls := "CavePearls$6", name := "<init>", desc := "(LCavePearls;I)V" } : Jvm.MethodName)) ∈ lw_all := lw_g (lw_at lw_m12 59 rfl) rfl
theorem q2806 : (Jvm.Cond.code ({ cls := "CavePearls$6", name := "<init>", desc := "(LCavePearls;I)V" } : Jvm.MethodName) prog_8_method_1_code (3 : Nat) (Option.none : Option Jvm.ClassFile.FieldType)) ∈ lw_all := lw_g (lw_at lw_m12 60 rfl) rfl
theorem q2807 : (Jvm.Cond.methodLink "CavePearls$6" (11 : Nat) ({ cls := "java/lang/Object", name := "<init>", desc := "()V" } : Jvm.MethodName)) ∈ lw_all := lw_g (lw_at lw_m12 61 rfl) rfl
theorem q2808 : (Jvm.Cond.fieldLink "CavePearls$6" (7 : Nat) "CavePearls$6" "val$pool" "I") ∈ lw_all := lw_g (lw_at lw_m12 62 rfl) rfl
theorem q2809 : (Jvm.Cond.fieldLink "CavePearls$6" (1 : Nat) "CavePearls$6" "this$0" "LCavePearls;") ∈ lw_all := lw_g (lw_at lw_m12 63 rfl) rfl
theorem q2810 : (Jvm.Cond.laysFinal "CavePearls$6" "CavePearls$6" "val$pool" "I") ∈ lw_all := lw_g (lw_at lw_m12 64 rfl) rfl
theorem q2811 : (Jvm.Cond.soleField "CavePearls$6" "val$pool") ∈ lw_all := lw_g (lw_at lw_m12 65 rfl) rfl
theorem q2812 : (Jvm.Cond.laysFinal "CavePearls$6" "CavePearls$6" "this$0" "LCavePearls;") ∈ lw_all := lw_g (lw_at lw_m12 66 rfl) rfl
theorem q2813 : (Jvm.Cond.soleField "CavePearls$6" "this$0") ∈ lw_all := lw_g (lw_at lw_m12 67 rfl) rfl
theorem q2814 : (Jvm.Cond.superclass "CavePearls$6" "java/lang/Object") ∈ lw_all := lw_g (lw_at lw_m12 68 rfl) rfl
theorem q4018 : (Jvm.Cond.castable "CavePearls$6" "java/lang/Object") ∈ lw_tbl := lw_at lw_m17 72 rfl
theorem in_X19 : ∀ w ∈ wsX190, w ∈ lw_all := lw_in wsX190 [2810, 2812] (by decide +kernel) (by decide +kernel)

/-! CavePearls$Deed$2 -/
set_option maxRecDepth 100000
def RX20 : String := "CavePearls$Deed$2"
def TX20 : u_T := fun k => match k with
  | 0 => ("CavePearls$Deed$2", "val$lamp", "I", true)
  | _ => ("CavePearls$Deed$2", "val$minutes", "I", true)
def tyX20 : Nat → FieldType := fun k => match k with
  | 0 => .int
  | _ => .int
abbrev wsX200 : List Cond := u_ws RX20 TX20 2
theorem nmX20 : ∀ a, a < 2 → ∀ b, b < 2 → a ≠ b → (TX20 a).2.1 ≠ (TX20 b).2.1 := by decide +kernel
theorem tyX20_ok : ∀ k, k < 2 → parseFieldDescriptor (TX20 k).2.2.1 = some (tyX20 k) := by decide +kernel
abbrev cX20_carryOut : ByteArray := prog_14_method_2_code
def yX20_carryOut : MethodName := ⟨RX20, "carryOut", "(LCavePearls$World;)I"⟩
def dkwX20_carryOut_0 : List UInt8 := [43, 42, 180, 0, 1, 42, 180, 0, 7, 182, 0, 16, 172]
abbrev dktX20_carryOut_0 : List UInt8 := dkwX20_carryOut_0 ++ []
theorem dksX20_carryOut_0 : cX20_carryOut.data.toList.drop 0 = dktX20_carryOut_0 := by decide +kernel
theorem dX20_carryOut_0 : decode cX20_carryOut 0 = .ok (.aload_n 1, 1) := dk_43 (dk_at dksX20_carryOut_0 0 rfl rfl)
theorem dX20_carryOut_1 : decode cX20_carryOut 1 = .ok (.aload_n 0, 1) := dk_42 (dk_at dksX20_carryOut_0 1 rfl rfl)
theorem dX20_carryOut_2 : decode cX20_carryOut 2 = .ok (.getfield 1, 3) := dk_180 0 1 (dk_at dksX20_carryOut_0 2 rfl rfl)
theorem dX20_carryOut_5 : decode cX20_carryOut 5 = .ok (.aload_n 0, 1) := dk_42 (dk_at dksX20_carryOut_0 5 rfl rfl)
theorem dX20_carryOut_6 : decode cX20_carryOut 6 = .ok (.getfield 7, 3) := dk_180 0 7 (dk_at dksX20_carryOut_0 6 rfl rfl)
theorem dX20_carryOut_9 : decode cX20_carryOut 9 = .ok (.invokevirtual 16, 3) := dk_182 0 16 (dk_at dksX20_carryOut_0 9 rfl rfl)
theorem dX20_carryOut_12 : decode cX20_carryOut 12 = .ok (.ireturn, 1) := dk_172 (dk_at dksX20_carryOut_0 12 rfl rfl)
abbrev cX20_init : ByteArray := prog_14_method_1_code
def yX20_init : MethodName := ⟨RX20, "<init>", "(II)V"⟩
def dkwX20_init_0 : List UInt8 := [42, 27, 181, 0, 1, 42, 28, 181, 0, 7, 42, 183, 0, 10, 177]
abbrev dktX20_init_0 : List UInt8 := dkwX20_init_0 ++ []
theorem dksX20_init_0 : cX20_init.data.toList.drop 0 = dktX20_init_0 := by decide +kernel
theorem dX20_init_0 : decode cX20_init 0 = .ok (.aload_n 0, 1) := dk_42 (dk_at dksX20_init_0 0 rfl rfl)
theorem dX20_init_1 : decode cX20_init 1 = .ok (.iload_n 1, 1) := dk_27 (dk_at dksX20_init_0 1 rfl rfl)
theorem dX20_init_2 : decode cX20_init 2 = .ok (.putfield 1, 3) := dk_181 0 1 (dk_at dksX20_init_0 2 rfl rfl)
theorem dX20_init_5 : decode cX20_init 5 = .ok (.aload_n 0, 1) := dk_42 (dk_at dksX20_init_0 5 rfl rfl)
theorem dX20_init_6 : decode cX20_init 6 = .ok (.iload_n 2, 1) := dk_28 (dk_at dksX20_init_0 6 rfl rfl)
theorem dX20_init_7 : decode cX20_init 7 = .ok (.putfield 7, 3) := dk_181 0 7 (dk_at dksX20_init_0 7 rfl rfl)
theorem dX20_init_10 : decode cX20_init 10 = .ok (.aload_n 0, 1) := dk_42 (dk_at dksX20_init_0 10 rfl rfl)
theorem dX20_init_11 : decode cX20_init 11 = .ok (.invokespecial 10, 3) := dk_183 0 10 (dk_at dksX20_init_0 11 rfl rfl)
theorem dX20_init_14 : decode cX20_init 14 = .ok (.return_, 1) := dk_177 (dk_at dksX20_init_0 14 rfl rfl)
theorem q177 : (Jvm.Cond.initialized "CavePearls$Deed$2") ∈ lw_all := lw_g (lw_at lw_m1 71 rfl) rfl
theorem q928 : (Jvm.Cond.selects "CavePearls$Deed$2" ({ cls := "java/lang/Object", name := "getClass", desc := "()Ljava/lang/Class;" } : Jvm.MethodName) ({ cls := "java/lang/Object", name := "getClass", desc := "()Ljava/lang/Class;" } : Jvm.MethodName)) ∈ lw_all := lw_g (lw_at lw_m4 102 rfl) rfl
theorem q1700 : (Jvm.Cond.castable "CavePearls$Deed$2" "CavePearls$Deed") ∈ lw_tbl := lw_at lw_m7 154 rfl
theorem q1701 : (Jvm.Cond.selects "CavePearls$Deed$2" ({ cls := "CavePearls$Deed", name := "carryOut", desc := "(LCavePearls$World;)I" } : Jvm.MethodName) ({ cls := "CavePearls$Deed$2", name := "carryOut", desc := "(LCavePearls$World;)I" } : Jvm.MethodName)) ∈ lw_all := lw_g (lw_at lw_m7 155 rfl) rfl
theorem q1702 : (Jvm.Cond.unhidden "CavePearls$Deed$2" "carryOut" "(LCavePearls$World;)I") ∈ lw_tbl := lw_at lw_m7 156 rfl
theorem q1703 : (Jvm.Cond.instanceMethod ({ cls := "CavePearls$Deed$2", name := "carryOut", desc := "(LCavePearls$World;)I" } : Jvm.MethodName)) ∈ lw_all := lw_g (lw_at lw_m7 157 rfl) rfl
theorem q1704 : (Jvm.Cond.publicMethod ({ cls := "CavePearls$Deed$2", name := "carryOut", desc := "(LCavePearls$World;)I" } : Jvm.MethodName)) ∈ lw_tbl := lw_at lw_m7 158 rfl
theorem q1705 : (Jvm.Cond.code ({ cls := "CavePearls$Deed$2", name := "carryOut", desc := "(LCavePearls$World;)I" } : Jvm.MethodName) prog_14_method_2_code (2 : Nat) (Option.some Jvm.ClassFile.FieldType.int)) ∈ lw_all := lw_g (lw_at lw_m7 159 rfl) rfl
theorem q1706 : (Jvm.Cond.methodLink "CavePearls$Deed$2" (16 : Nat) ({ cls := "CavePearls$World", name := "switchOn", desc := "(II)I" } : Jvm.MethodName)) ∈ lw_all := lw_g (lw_at lw_m7 160 rfl) rfl
theorem q2255 : (Jvm.Cond.unhidden "CavePearls$Deed$2" "isDone" "(LCavePearls$World;)Z") ∈ lw_tbl := lw_at lw_m9 229 rfl
theorem q2826 : (Jvm.Cond.instantiable "CavePearls$Deed$2" (2 : Nat)) ∈ lw_all := lw_g (lw_at lw_m12 80 rfl) rfl
theorem q2828 : (Jvm.Cond.instanceMethod ({ cls := "CavePearls$Deed$2", name := "<init>", desc := "(II)V" } : Jvm.MethodName)) ∈ lw_all := lw_g (lw_at lw_m12 82 rfl) rfl
theorem q2829 : (Jvm.Cond.code ({ cls := "CavePearls$Deed$2", name := "<init>", desc := "(II)V" } : Jvm.MethodName) prog_14_method_1_code (3 : Nat) (Option.none : Option Jvm.ClassFile.FieldType)) ∈ lw_all := lw_g (lw_at lw_m12 83 rfl) rfl
theorem q2830 : (Jvm.Cond.methodLink "CavePearls$Deed$2" (10 : Nat) ({ cls := "java/lang/Object", name := "<init>", desc := "()V" } : Jvm.MethodName)) ∈ lw_all := lw_g (lw_at lw_m12 84 rfl) rfl
theorem q2831 : (Jvm.Cond.fieldLink "CavePearls$Deed$2" (1 : Nat) "CavePearls$Deed$2" "val$lamp" "I") ∈ lw_all := lw_g (lw_at lw_m12 85 rfl) rfl
theorem q2832 : (Jvm.Cond.fieldLink "CavePearls$Deed$2" (7 : Nat) "CavePearls$Deed$2" "val$minutes" "I") ∈ lw_all := lw_g (lw_at lw_m12 86 rfl) rfl
theorem q2833 : (Jvm.Cond.laysFinal "CavePearls$Deed$2" "CavePearls$Deed$2" "val$lamp" "I") ∈ lw_all := lw_g (lw_at lw_m12 87 rfl) rfl
theorem q2834 : (Jvm.Cond.soleField "CavePearls$Deed$2" "val$lamp") ∈ lw_all := lw_g (lw_at lw_m12 88 rfl) rfl
theorem q2835 : (Jvm.Cond.laysFinal "CavePearls$Deed$2" "CavePearls$Deed$2" "val$minutes" "I") ∈ lw_all := lw_g (lw_at lw_m12 89 rfl) rfl
theorem q2836 : (Jvm.Cond.soleField "CavePearls$Deed$2" "val$minutes") ∈ lw_all := lw_g (lw_at lw_m12 90 rfl) rfl
theorem q2837 : (Jvm.Cond.superclass "CavePearls$Deed$2" "java/lang/Object") ∈ lw_all := lw_g (lw_at lw_m12 91 rfl) rfl
theorem q4019 : (Jvm.Cond.castable "CavePearls$Deed$2" "java/lang/Object") ∈ lw_tbl := lw_at lw_m17 73 rfl
theorem in_X20 : ∀ w ∈ wsX200, w ∈ lw_all := lw_in wsX200 [2833, 2835] (by decide +kernel) (by decide +kernel)

/-! CavePearls$Deed$3 -/
set_option maxRecDepth 100000
def RX21 : String := "CavePearls$Deed$3"
def TX21 : u_T := fun k => match k with
  | _ => ("CavePearls$Deed$3", "val$lamp", "I", true)
def tyX21 : Nat → FieldType := fun k => match k with
  | _ => .int
abbrev wsX210 : List Cond := u_ws RX21 TX21 1
theorem nmX21 : ∀ a, a < 1 → ∀ b, b < 1 → a ≠ b → (TX21 a).2.1 ≠ (TX21 b).2.1 := by decide +kernel
theorem tyX21_ok : ∀ k, k < 1 → parseFieldDescriptor (TX21 k).2.2.1 = some (tyX21 k) := by decide +kernel
abbrev cX21_carryOut : ByteArray := prog_15_method_2_code
def yX21_carryOut : MethodName := ⟨RX21, "carryOut", "(LCavePearls$World;)I"⟩
def dkwX21_carryOut_0 : List UInt8 := [43, 42, 180, 0, 1, 182, 0, 13, 172]
abbrev dktX21_carryOut_0 : List UInt8 := dkwX21_carryOut_0 ++ []
theorem dksX21_carryOut_0 : cX21_carryOut.data.toList.drop 0 = dktX21_carryOut_0 := by decide +kernel
theorem dX21_carryOut_0 : decode cX21_carryOut 0 = .ok (.aload_n 1, 1) := dk_43 (dk_at dksX21_carryOut_0 0 rfl rfl)
theorem dX21_carryOut_1 : decode cX21_carryOut 1 = .ok (.aload_n 0, 1) := dk_42 (dk_at dksX21_carryOut_0 1 rfl rfl)
theorem dX21_carryOut_2 : decode cX21_carryOut 2 = .ok (.getfield 1, 3) := dk_180 0 1 (dk_at dksX21_carryOut_0 2 rfl rfl)
theorem dX21_carryOut_5 : decode cX21_carryOut 5 = .ok (.invokevirtual 13, 3) := dk_182 0 13 (dk_at dksX21_carryOut_0 5 rfl rfl)
theorem dX21_carryOut_8 : decode cX21_carryOut 8 = .ok (.ireturn, 1) := dk_172 (dk_at dksX21_carryOut_0 8 rfl rfl)
abbrev cX21_init : ByteArray := prog_15_method_1_code
def yX21_init : MethodName := ⟨RX21, "<init>", "(I)V"⟩
def dkwX21_init_0 : List UInt8 := [42, 27, 181, 0, 1, 42, 183, 0, 7, 177]
abbrev dktX21_init_0 : List UInt8 := dkwX21_init_0 ++ []
theorem dksX21_init_0 : cX21_init.data.toList.drop 0 = dktX21_init_0 := by decide +kernel
theorem dX21_init_0 : decode cX21_init 0 = .ok (.aload_n 0, 1) := dk_42 (dk_at dksX21_init_0 0 rfl rfl)
theorem dX21_init_1 : decode cX21_init 1 = .ok (.iload_n 1, 1) := dk_27 (dk_at dksX21_init_0 1 rfl rfl)
theorem dX21_init_2 : decode cX21_init 2 = .ok (.putfield 1, 3) := dk_181 0 1 (dk_at dksX21_init_0 2 rfl rfl)
theorem dX21_init_5 : decode cX21_init 5 = .ok (.aload_n 0, 1) := dk_42 (dk_at dksX21_init_0 5 rfl rfl)
theorem dX21_init_6 : decode cX21_init 6 = .ok (.invokespecial 7, 3) := dk_183 0 7 (dk_at dksX21_init_0 6 rfl rfl)
theorem dX21_init_9 : decode cX21_init 9 = .ok (.return_, 1) := dk_177 (dk_at dksX21_init_0 9 rfl rfl)
theorem q178 : (Jvm.Cond.initialized "CavePearls$Deed$3") ∈ lw_all := lw_g (lw_at lw_m1 72 rfl) rfl
theorem q929 : (Jvm.Cond.selects "CavePearls$Deed$3" ({ cls := "java/lang/Object", name := "getClass", desc := "()Ljava/lang/Class;" } : Jvm.MethodName) ({ cls := "java/lang/Object", name := "getClass", desc := "()Ljava/lang/Class;" } : Jvm.MethodName)) ∈ lw_all := lw_g (lw_at lw_m4 103 rfl) rfl
theorem q1722 : (Jvm.Cond.castable "CavePearls$Deed$3" "CavePearls$Deed") ∈ lw_tbl := lw_at lw_m7 176 rfl
theorem q1723 : (Jvm.Cond.selects "CavePearls$Deed$3" ({ cls := "CavePearls$Deed", name := "carryOut", desc := "(LCavePearls$World;)I" } : Jvm.MethodName) ({ cls := "CavePearls$Deed$3", name := "carryOut", desc := "(LCavePearls$World;)I" } : Jvm.MethodName)) ∈ lw_all := lw_g (lw_at lw_m7 177 rfl) rfl
theorem q1724 : (Jvm.Cond.unhidden "CavePearls$Deed$3" "carryOut" "(LCavePearls$World;)I") ∈ lw_tbl := lw_at lw_m7 178 rfl
theorem q1725 : (Jvm.Cond.instanceMethod ({ cls := "CavePearls$Deed$3", name := "carryOut", desc := "(LCavePearls$World;)I" } : Jvm.MethodName)) ∈ lw_all := lw_g (lw_at lw_m7 179 rfl) rfl
theorem q1726 : (Jvm.Cond.publicMethod ({ cls := "CavePearls$Deed$3", name := "carryOut", desc := "(LCavePearls$World;)I" } : Jvm.MethodName)) ∈ lw_tbl := lw_at lw_m7 180 rfl
theorem q1727 : (Jvm.Cond.code ({ cls := "CavePearls$Deed$3", name := "carryOut", desc := "(LCavePearls$World;)I" } : Jvm.MethodName) prog_15_method_2_code (2 : Nat) (Option.some Jvm.ClassFile.FieldType.int)) ∈ lw_all := lw_g (lw_at lw_m7 181 rfl) rfl
theorem q1728 : (Jvm.Cond.methodLink "CavePearls$Deed$3" (13 : Nat) ({ cls := "CavePearls$World", name := "switchOff", desc := "(I)I" } : Jvm.MethodName)) ∈ lw_all := lw_g (lw_at lw_m7 182 rfl) rfl
theorem q2256 : (Jvm.Cond.unhidden "CavePearls$Deed$3" "isDone" "(LCavePearls$World;)Z") ∈ lw_tbl := lw_at lw_m9 230 rfl
theorem q2849 : (Jvm.Cond.instantiable "CavePearls$Deed$3" (1 : Nat)) ∈ lw_all := lw_g (lw_at lw_m12 103 rfl) rfl
theorem q2851 : (Jvm.Cond.instanceMethod ({ cls := "CavePearls$Deed$3", name := "<init>", desc := "(I)V" } : Jvm.MethodName)) ∈ lw_all := lw_g (lw_at lw_m12 105 rfl) rfl
theorem q2852 : (Jvm.Cond.code ({ cls := "CavePearls$Deed$3", name := "<init>", desc := "(I)V" } : Jvm.MethodName) prog_15_method_1_code (2 : Nat) (Option.none : Option Jvm.ClassFile.FieldType)) ∈ lw_all := lw_g (lw_at lw_m12 106 rfl) rfl
theorem q2853 : (Jvm.Cond.methodLink "CavePearls$Deed$3" (7 : Nat) ({ cls := "java/lang/Object", name := "<init>", desc := "()V" } : Jvm.MethodName)) ∈ lw_all := lw_g (lw_at lw_m12 107 rfl) rfl
theorem q2854 : (Jvm.Cond.fieldLink "CavePearls$Deed$3" (1 : Nat) "CavePearls$Deed$3" "val$lamp" "I") ∈ lw_all := lw_g (lw_at lw_m12 108 rfl) rfl
theorem q2855 : (Jvm.Cond.laysFinal "CavePearls$Deed$3" "CavePearls$Deed$3" "val$lamp" "I") ∈ lw_all := lw_g (lw_at lw_m12 109 rfl) rfl
theorem q2856 : (Jvm.Cond.soleField "CavePearls$Deed$3" "val$lamp") ∈ lw_all := lw_g (lw_at lw_m12 110 rfl) rfl
theorem q2857 : (Jvm.Cond.superclass "CavePearls$Deed$3" "java/lang/Object") ∈ lw_all := lw_g (lw_at lw_m12 111 rfl) rfl
theorem q4020 : (Jvm.Cond.castable "CavePearls$Deed$3" "java/lang/Object") ∈ lw_tbl := lw_at lw_m17 74 rfl
theorem in_X21 : ∀ w ∈ wsX210, w ∈ lw_all := lw_in wsX210 [2855] (by decide +kernel) (by decide +kernel)

/-! CavePearls$Deed$5 -/
set_option maxRecDepth 100000
def RX22 : String := "CavePearls$Deed$5"
def TX22 : u_T := fun k => match k with
  | _ => ("CavePearls$Deed$5", "val$draught", "I", true)
def tyX22 : Nat → FieldType := fun k => match k with
  | _ => .int
abbrev wsX220 : List Cond := u_ws RX22 TX22 1
theorem nmX22 : ∀ a, a < 1 → ∀ b, b < 1 → a ≠ b → (TX22 a).2.1 ≠ (TX22 b).2.1 := by decide +kernel
theorem tyX22_ok : ∀ k, k < 1 → parseFieldDescriptor (TX22 k).2.2.1 = some (tyX22 k) := by decide +kernel
abbrev cX22_carryOut : ByteArray := prog_17_method_2_code
def yX22_carryOut : MethodName := ⟨RX22, "carryOut", "(LCavePearls$World;)I"⟩
def dkwX22_carryOut_0 : List UInt8 := [43, 42, 180, 0, 1, 182, 0, 13, 172]
abbrev dktX22_carryOut_0 : List UInt8 := dkwX22_carryOut_0 ++ []
theorem dksX22_carryOut_0 : cX22_carryOut.data.toList.drop 0 = dktX22_carryOut_0 := by decide +kernel
theorem dX22_carryOut_0 : decode cX22_carryOut 0 = .ok (.aload_n 1, 1) := dk_43 (dk_at dksX22_carryOut_0 0 rfl rfl)
theorem dX22_carryOut_1 : decode cX22_carryOut 1 = .ok (.aload_n 0, 1) := dk_42 (dk_at dksX22_carryOut_0 1 rfl rfl)
theorem dX22_carryOut_2 : decode cX22_carryOut 2 = .ok (.getfield 1, 3) := dk_180 0 1 (dk_at dksX22_carryOut_0 2 rfl rfl)
theorem dX22_carryOut_5 : decode cX22_carryOut 5 = .ok (.invokevirtual 13, 3) := dk_182 0 13 (dk_at dksX22_carryOut_0 5 rfl rfl)
theorem dX22_carryOut_8 : decode cX22_carryOut 8 = .ok (.ireturn, 1) := dk_172 (dk_at dksX22_carryOut_0 8 rfl rfl)
abbrev cX22_init : ByteArray := prog_17_method_1_code
def yX22_init : MethodName := ⟨RX22, "<init>", "(I)V"⟩
def dkwX22_init_0 : List UInt8 := [42, 27, 181, 0, 1, 42, 183, 0, 7, 177]
abbrev dktX22_init_0 : List UInt8 := dkwX22_init_0 ++ []
theorem dksX22_init_0 : cX22_init.data.toList.drop 0 = dktX22_init_0 := by decide +kernel
theorem dX22_init_0 : decode cX22_init 0 = .ok (.aload_n 0, 1) := dk_42 (dk_at dksX22_init_0 0 rfl rfl)
theorem dX22_init_1 : decode cX22_init 1 = .ok (.iload_n 1, 1) := dk_27 (dk_at dksX22_init_0 1 rfl rfl)
theorem dX22_init_2 : decode cX22_init 2 = .ok (.putfield 1, 3) := dk_181 0 1 (dk_at dksX22_init_0 2 rfl rfl)
theorem dX22_init_5 : decode cX22_init 5 = .ok (.aload_n 0, 1) := dk_42 (dk_at dksX22_init_0 5 rfl rfl)
theorem dX22_init_6 : decode cX22_init 6 = .ok (.invokespecial 7, 3) := dk_183 0 7 (dk_at dksX22_init_0 6 rfl rfl)
theorem dX22_init_9 : decode cX22_init 9 = .ok (.return_, 1) := dk_177 (dk_at dksX22_init_0 9 rfl rfl)
theorem q179 : (Jvm.Cond.initialized "CavePearls$Deed$5") ∈ lw_all := lw_g (lw_at lw_m1 73 rfl) rfl
theorem q931 : (Jvm.Cond.selects "CavePearls$Deed$5" ({ cls := "java/lang/Object", name := "getClass", desc := "()Ljava/lang/Class;" } : Jvm.MethodName) ({ cls := "java/lang/Object", name := "getClass", desc := "()Ljava/lang/Class;" } : Jvm.MethodName)) ∈ lw_all := lw_g (lw_at lw_m4 105 rfl) rfl
theorem q1742 : (Jvm.Cond.castable "CavePearls$Deed$5" "CavePearls$Deed") ∈ lw_tbl := lw_at lw_m7 196 rfl
theorem q1743 : (Jvm.Cond.selects "CavePearls$Deed$5" ({ cls := "CavePearls$Deed", name := "carryOut", desc := "(LCavePearls$World;)I" } : Jvm.MethodName) ({ cls := "CavePearls$Deed$5", name := "carryOut", desc := "(LCavePearls$World;)I" } : Jvm.MethodName)) ∈ lw_all := lw_g (lw_at lw_m7 197 rfl) rfl
theorem q1744 : (Jvm.Cond.unhidden "CavePearls$Deed$5" "carryOut" "(LCavePearls$World;)I") ∈ lw_tbl := lw_at lw_m7 198 rfl
theorem q1745 : (Jvm.Cond.instanceMethod ({ cls := "CavePearls$Deed$5", name := "carryOut", desc := "(LCavePearls$World;)I" } : Jvm.MethodName)) ∈ lw_all := lw_g (lw_at lw_m7 199 rfl) rfl
theorem q1746 : (Jvm.Cond.publicMethod ({ cls := "CavePearls$Deed$5", name := "carryOut", desc := "(LCavePearls$World;)I" } : Jvm.MethodName)) ∈ lw_tbl := lw_at lw_m7 200 rfl
theorem q1747 : (Jvm.Cond.code ({ cls := "CavePearls$Deed$5", name := "carryOut", desc := "(LCavePearls$World;)I" } : Jvm.MethodName) prog_17_method_2_code (2 : Nat) (Option.some Jvm.ClassFile.FieldType.int)) ∈ lw_all := lw_g (lw_at lw_m7 201 rfl) rfl
theorem q1748 : (Jvm.Cond.methodLink "CavePearls$Deed$5" (13 : Nat) ({ cls := "CavePearls$World", name := "setDraught", desc := "(I)I" } : Jvm.MethodName)) ∈ lw_all := lw_g (lw_at lw_m7 202 rfl) rfl
theorem q2258 : (Jvm.Cond.unhidden "CavePearls$Deed$5" "isDone" "(LCavePearls$World;)Z") ∈ lw_tbl := lw_at lw_m9 232 rfl
theorem q2877 : (Jvm.Cond.instantiable "CavePearls$Deed$5" (1 : Nat)) ∈ lw_all := lw_g (lw_at lw_m12 131 rfl) rfl
theorem q2879 : (Jvm.Cond.instanceMethod ({ cls := "CavePearls$Deed$5", name := "<init>", desc := "(I)V" } : Jvm.MethodName)) ∈ lw_all := lw_g (lw_at lw_m12 133 rfl) rfl
theorem q2880 : (Jvm.Cond.code ({ cls := "CavePearls$Deed$5", name := "<init>", desc := "(I)V" } : Jvm.MethodName) prog_17_method_1_code (2 : Nat) (Option.none : Option Jvm.ClassFile.FieldType)) ∈ lw_all := lw_g (lw_at lw_m12 134 rfl) rfl
theorem q2881 : (Jvm.Cond.methodLink "CavePearls$Deed$5" (7 : Nat) ({ cls := "java/lang/Object", name := "<init>", desc := "()V" } : Jvm.MethodName)) ∈ lw_all := lw_g (lw_at lw_m12 135 rfl) rfl
theorem q2882 : (Jvm.Cond.fieldLink "CavePearls$Deed$5" (1 : Nat) "CavePearls$Deed$5" "val$draught" "I") ∈ lw_all := lw_g (lw_at lw_m12 136 rfl) rfl
theorem q2883 : (Jvm.Cond.laysFinal "CavePearls$Deed$5" "CavePearls$Deed$5" "val$draught" "I") ∈ lw_all := lw_g (lw_at lw_m12 137 rfl) rfl
theorem q2884 : (Jvm.Cond.soleField "CavePearls$Deed$5" "val$draught") ∈ lw_all := lw_g (lw_at lw_m12 138 rfl) rfl
theorem q2885 : (Jvm.Cond.superclass "CavePearls$Deed$5" "java/lang/Object") ∈ lw_all := lw_g (lw_at lw_m12 139 rfl) rfl
theorem q4021 : (Jvm.Cond.castable "CavePearls$Deed$5" "java/lang/Object") ∈ lw_tbl := lw_at lw_m17 75 rfl
theorem in_X22 : ∀ w ∈ wsX220, w ∈ lw_all := lw_in wsX220 [2883] (by decide +kernel) (by decide +kernel)

/-! CavePearls$Deed$4 -/
set_option maxRecDepth 100000
def RX23 : String := "CavePearls$Deed$4"
abbrev cX23_carryOut : ByteArray := prog_16_method_2_code
def yX23_carryOut : MethodName := ⟨RX23, "carryOut", "(LCavePearls$World;)I"⟩
theorem dX23_carryOut_0 : decode cX23_carryOut 0 = .ok (.aload_n 1, 1) := by decide +kernel
theorem dX23_carryOut_1 : decode cX23_carryOut 1 = .ok (.invokevirtual 7, 3) := by decide +kernel
theorem dX23_carryOut_4 : decode cX23_carryOut 4 = .ok (.ireturn, 1) := by decide +kernel
abbrev cX23_init : ByteArray := prog_16_method_1_code
def yX23_init : MethodName := ⟨RX23, "<init>", "()V"⟩
theorem dX23_init_0 : decode cX23_init 0 = .ok (.aload_n 0, 1) := by decide +kernel
theorem dX23_init_1 : decode cX23_init 1 = .ok (.invokespecial 1, 3) := by decide +kernel
theorem dX23_init_4 : decode cX23_init 4 = .ok (.return_, 1) := by decide +kernel
theorem q180 : (Jvm.Cond.initialized "CavePearls$Deed$4") ∈ lw_all := lw_g (lw_at lw_m1 74 rfl) rfl
theorem q930 : (Jvm.Cond.selects "CavePearls$Deed$4" ({ cls := "java/lang/Object", name := "getClass", desc := "()Ljava/lang/Class;" } : Jvm.MethodName) ({ cls := "java/lang/Object", name := "getClass", desc := "()Ljava/lang/Class;" } : Jvm.MethodName)) ∈ lw_all := lw_g (lw_at lw_m4 104 rfl) rfl
theorem q1732 : (Jvm.Cond.castable "CavePearls$Deed$4" "CavePearls$Deed") ∈ lw_tbl := lw_at lw_m7 186 rfl
theorem q1733 : (Jvm.Cond.selects "CavePearls$Deed$4" ({ cls := "CavePearls$Deed", name := "carryOut", desc := "(LCavePearls$World;)I" } : Jvm.MethodName) ({ cls := "CavePearls$Deed$4", name := "carryOut", desc := "(LCavePearls$World;)I" } : Jvm.MethodName)) ∈ lw_all := lw_g (lw_at lw_m7 187 rfl) rfl
theorem q1734 : (Jvm.Cond.unhidden "CavePearls$Deed$4" "carryOut" "(LCavePearls$World;)I") ∈ lw_tbl := lw_at lw_m7 188 rfl
theorem q1735 : (Jvm.Cond.instanceMethod ({ cls := "CavePearls$Deed$4", name := "carryOut", desc := "(LCavePearls$World;)I" } : Jvm.MethodName)) ∈ lw_all := lw_g (lw_at lw_m7 189 rfl) rfl
theorem q1736 : (Jvm.Cond.publicMethod ({ cls := "CavePearls$Deed$4", name := "carryOut", desc := "(LCavePearls$World;)I" } : Jvm.MethodName)) ∈ lw_tbl := lw_at lw_m7 190 rfl
theorem q1737 : (Jvm.Cond.code ({ cls := "CavePearls$Deed$4", name := "carryOut", desc := "(LCavePearls$World;)I" } : Jvm.MethodName) prog_16_method_2_code (2 : Nat) (Option.some Jvm.ClassFile.FieldType.int)) ∈ lw_all := lw_g (lw_at lw_m7 191 rfl) rfl
theorem q1738 : (Jvm.Cond.methodLink "CavePearls$Deed$4" (7 : Nat) ({ cls := "CavePearls$World", name := "sweep", desc := "()I" } : Jvm.MethodName)) ∈ lw_all := lw_g (lw_at lw_m7 192 rfl) rfl
theorem q2257 : (Jvm.Cond.unhidden "CavePearls$Deed$4" "isDone" "(LCavePearls$World;)Z") ∈ lw_tbl := lw_at lw_m9 231 rfl
theorem q2897 : (Jvm.Cond.instantiable "CavePearls$Deed$4" (0 : Nat)) ∈ lw_all := lw_g (lw_at lw_m12 151 rfl) rfl
theorem q2899 : (Jvm.Cond.instanceMethod ({ cls := "CavePearls$Deed$4", name := "<init>", desc := "()V" } : Jvm.MethodName)) ∈ lw_all := lw_g (lw_at lw_m12 153 rfl) rfl
theorem q2900 : (Jvm.Cond.code ({ cls := "CavePearls$Deed$4", name := "<init>", desc := "()V" } : Jvm.MethodName) prog_16_method_1_code (1 : Nat) (Option.none : Option Jvm.ClassFile.FieldType)) ∈ lw_all := lw_g (lw_at lw_m12 154 rfl) rfl
theorem q2901 : (Jvm.Cond.methodLink "CavePearls$Deed$4" (1 : Nat) ({ cls := "java/lang/Object", name := "<init>", desc := "()V" } : Jvm.MethodName)) ∈ lw_all := lw_g (lw_at lw_m12 155 rfl) rfl
theorem q2902 : (Jvm.Cond.superclass "CavePearls$Deed$4" "java/lang/Object") ∈ lw_all := lw_g (lw_at lw_m12 156 rfl) rfl
theorem q4022 : (Jvm.Cond.castable "CavePearls$Deed$4" "java/lang/Object") ∈ lw_tbl := lw_at lw_m17 76 rfl

/-! CavePearls$Deed$6 -/
set_option maxRecDepth 100000
def RX24 : String := "CavePearls$Deed$6"
def TX24 : u_T := fun k => match k with
  | _ => ("CavePearls$Deed$6", "val$minutes", "I", true)
def tyX24 : Nat → FieldType := fun k => match k with
  | _ => .int
abbrev wsX240 : List Cond := u_ws RX24 TX24 1
theorem nmX24 : ∀ a, a < 1 → ∀ b, b < 1 → a ≠ b → (TX24 a).2.1 ≠ (TX24 b).2.1 := by decide +kernel
theorem tyX24_ok : ∀ k, k < 1 → parseFieldDescriptor (TX24 k).2.2.1 = some (tyX24 k) := by decide +kernel
abbrev cX24_carryOut : ByteArray := prog_18_method_2_code
def yX24_carryOut : MethodName := ⟨RX24, "carryOut", "(LCavePearls$World;)I"⟩
def dkwX24_carryOut_0 : List UInt8 := [43, 42, 180, 0, 1, 182, 0, 13, 172]
abbrev dktX24_carryOut_0 : List UInt8 := dkwX24_carryOut_0 ++ []
theorem dksX24_carryOut_0 : cX24_carryOut.data.toList.drop 0 = dktX24_carryOut_0 := by decide +kernel
theorem dX24_carryOut_0 : decode cX24_carryOut 0 = .ok (.aload_n 1, 1) := dk_43 (dk_at dksX24_carryOut_0 0 rfl rfl)
theorem dX24_carryOut_1 : decode cX24_carryOut 1 = .ok (.aload_n 0, 1) := dk_42 (dk_at dksX24_carryOut_0 1 rfl rfl)
theorem dX24_carryOut_2 : decode cX24_carryOut 2 = .ok (.getfield 1, 3) := dk_180 0 1 (dk_at dksX24_carryOut_0 2 rfl rfl)
theorem dX24_carryOut_5 : decode cX24_carryOut 5 = .ok (.invokevirtual 13, 3) := dk_182 0 13 (dk_at dksX24_carryOut_0 5 rfl rfl)
theorem dX24_carryOut_8 : decode cX24_carryOut 8 = .ok (.ireturn, 1) := dk_172 (dk_at dksX24_carryOut_0 8 rfl rfl)
abbrev cX24_init : ByteArray := prog_18_method_1_code
def yX24_init : MethodName := ⟨RX24, "<init>", "(I)V"⟩
def dkwX24_init_0 : List UInt8 := [42, 27, 181, 0, 1, 42, 183, 0, 7, 177]
abbrev dktX24_init_0 : List UInt8 := dkwX24_init_0 ++ []
theorem dksX24_init_0 : cX24_init.data.toList.drop 0 = dktX24_init_0 := by decide +kernel
theorem dX24_init_0 : decode cX24_init 0 = .ok (.aload_n 0, 1) := dk_42 (dk_at dksX24_init_0 0 rfl rfl)
theorem dX24_init_1 : decode cX24_init 1 = .ok (.iload_n 1, 1) := dk_27 (dk_at dksX24_init_0 1 rfl rfl)
theorem dX24_init_2 : decode cX24_init 2 = .ok (.putfield 1, 3) := dk_181 0 1 (dk_at dksX24_init_0 2 rfl rfl)
theorem dX24_init_5 : decode cX24_init 5 = .ok (.aload_n 0, 1) := dk_42 (dk_at dksX24_init_0 5 rfl rfl)
theorem dX24_init_6 : decode cX24_init 6 = .ok (.invokespecial 7, 3) := dk_183 0 7 (dk_at dksX24_init_0 6 rfl rfl)
theorem dX24_init_9 : decode cX24_init 9 = .ok (.return_, 1) := dk_177 (dk_at dksX24_init_0 9 rfl rfl)
theorem q181 : (Jvm.Cond.initialized "CavePearls$Deed$6") ∈ lw_all := lw_g (lw_at lw_m1 75 rfl) rfl
theorem q932 : (Jvm.Cond.selects "CavePearls$Deed$6" ({ cls := "java/lang/Object", name := "getClass", desc := "()Ljava/lang/Class;" } : Jvm.MethodName) ({ cls := "java/lang/Object", name := "getClass", desc := "()Ljava/lang/Class;" } : Jvm.MethodName)) ∈ lw_all := lw_g (lw_at lw_m4 106 rfl) rfl
theorem q1752 : (Jvm.Cond.castable "CavePearls$Deed$6" "CavePearls$Deed") ∈ lw_tbl := lw_at lw_m7 206 rfl
theorem q1753 : (Jvm.Cond.selects "CavePearls$Deed$6" ({ cls := "CavePearls$Deed", name := "carryOut", desc := "(LCavePearls$World;)I" } : Jvm.MethodName) ({ cls := "CavePearls$Deed$6", name := "carryOut", desc := "(LCavePearls$World;)I" } : Jvm.MethodName)) ∈ lw_all := lw_g (lw_at lw_m7 207 rfl) rfl
theorem q1754 : (Jvm.Cond.unhidden "CavePearls$Deed$6" "carryOut" "(LCavePearls$World;)I") ∈ lw_tbl := lw_at lw_m7 208 rfl
theorem q1755 : (Jvm.Cond.instanceMethod ({ cls := "CavePearls$Deed$6", name := "carryOut", desc := "(LCavePearls$World;)I" } : Jvm.MethodName)) ∈ lw_all := lw_g (lw_at lw_m7 209 rfl) rfl
theorem q1756 : (Jvm.Cond.publicMethod ({ cls := "CavePearls$Deed$6", name := "carryOut", desc := "(LCavePearls$World;)I" } : Jvm.MethodName)) ∈ lw_tbl := lw_at lw_m7 210 rfl
theorem q1757 : (Jvm.Cond.code ({ cls := "CavePearls$Deed$6", name := "carryOut", desc := "(LCavePearls$World;)I" } : Jvm.MethodName) prog_18_method_2_code (2 : Nat) (Option.some Jvm.ClassFile.FieldType.int)) ∈ lw_all := lw_g (lw_at lw_m7 211 rfl) rfl
theorem q1758 : (Jvm.Cond.methodLink "CavePearls$Deed$6" (13 : Nat) ({ cls := "CavePearls$World", name := "pass", desc := "(I)I" } : Jvm.MethodName)) ∈ lw_all := lw_g (lw_at lw_m7 212 rfl) rfl
theorem q2259 : (Jvm.Cond.unhidden "CavePearls$Deed$6" "isDone" "(LCavePearls$World;)Z") ∈ lw_tbl := lw_at lw_m9 233 rfl
theorem q2914 : (Jvm.Cond.instantiable "CavePearls$Deed$6" (1 : Nat)) ∈ lw_all := lw_g (lw_at lw_m12 168 rfl) rfl
theorem q2916 : (Jvm.Cond.instanceMethod ({ cls := "CavePearls$Deed$6", name := "<init>", desc := "(I)V" } : Jvm.MethodName)) ∈ lw_all := lw_g (lw_at lw_m12 170 rfl) rfl
theorem q2917 : (Jvm.Cond.code ({ cls := "CavePearls$Deed$6", name := "<init>", desc := "(I)V" } : Jvm.MethodName) prog_18_method_1_code (2 : Nat) (Option.none : Option Jvm.ClassFile.FieldType)) ∈ lw_all := lw_g (lw_at lw_m12 171 rfl) rfl
theorem q2918 : (Jvm.Cond.methodLink "CavePearls$Deed$6" (7 : Nat) ({ cls := "java/lang/Object", name := "<init>", desc := "()V" } : Jvm.MethodName)) ∈ lw_all := lw_g (lw_at lw_m12 172 rfl) rfl
theorem q2919 : (Jvm.Cond.fieldLink "CavePearls$Deed$6" (1 : Nat) "CavePearls$Deed$6" "val$minutes" "I") ∈ lw_all := lw_g (lw_at lw_m12 173 rfl) rfl
theorem q2920 : (Jvm.Cond.laysFinal "CavePearls$Deed$6" "CavePearls$Deed$6" "val$minutes" "I") ∈ lw_all := lw_g (lw_at lw_m12 174 rfl) rfl
theorem q2921 : (Jvm.Cond.soleField "CavePearls$Deed$6" "val$minutes") ∈ lw_all := lw_g (lw_at lw_m12 175 rfl) rfl
theorem q2922 : (Jvm.Cond.superclass "CavePearls$Deed$6" "java/lang/Object") ∈ lw_all := lw_g (lw_at lw_m12 176 rfl) rfl
theorem q4023 : (Jvm.Cond.castable "CavePearls$Deed$6" "java/lang/Object") ∈ lw_tbl := lw_at lw_m17 77 rfl
theorem in_X24 : ∀ w ∈ wsX240, w ∈ lw_all := lw_in wsX240 [2920] (by decide +kernel) (by decide +kernel)

/-! CavePearls$Waiting -/
set_option maxRecDepth 100000
def RX25 : String := "CavePearls$Waiting"
abbrev cX25_init : ByteArray := prog_28_method_1_code
def yX25_init : MethodName := ⟨RX25, "<init>", "()V"⟩
theorem dX25_init_0 : decode cX25_init 0 = .ok (.aload_n 0, 1) := by decide +kernel
theorem dX25_init_1 : decode cX25_init 1 = .ok (.invokespecial 3, 3) := by decide +kernel
theorem dX25_init_4 : decode cX25_init 4 = .ok (.return_, 1) := by decide +kernel
abbrev cX25_minutes : ByteArray := prog_28_method_3_code
def yX25_minutes : MethodName := ⟨RX25, "minutes", "(LCavePearls$World;)I"⟩
def dkwX25_minutes_1 : List UInt8 := [167, 255, 234, 42, 43, 182, 0, 9, 184, 0, 20, 28, 172]
abbrev dktX25_minutes_1 : List UInt8 := dkwX25_minutes_1 ++ []
def dkwX25_minutes_0 : List UInt8 := [3, 61, 28, 17, 0, 240, 162, 0, 21, 42, 43, 182, 0, 9, 154, 0, 13, 43, 182, 0, 15, 132, 2, 1]
abbrev dktX25_minutes_0 : List UInt8 := dkwX25_minutes_0 ++ dktX25_minutes_1
theorem dksX25_minutes_0 : cX25_minutes.data.toList.drop 0 = dktX25_minutes_0 := by decide +kernel
theorem dksX25_minutes_1 : cX25_minutes.data.toList.drop 24 = dktX25_minutes_1 := dk_seg dksX25_minutes_0 24 rfl rfl
theorem dX25_minutes_0 : decode cX25_minutes 0 = .ok (.iconst 0, 1) := dk_3 (dk_at dksX25_minutes_0 0 rfl rfl)
theorem dX25_minutes_1 : decode cX25_minutes 1 = .ok (.istore_n 2, 1) := dk_61 (dk_at dksX25_minutes_0 1 rfl rfl)
theorem dX25_minutes_2 : decode cX25_minutes 2 = .ok (.iload_n 2, 1) := dk_28 (dk_at dksX25_minutes_0 2 rfl rfl)
theorem dX25_minutes_3 : decode cX25_minutes 3 = .ok (.sipush 240, 3) := dk_17 0 240 (dk_at dksX25_minutes_0 3 rfl rfl)
theorem dX25_minutes_6 : decode cX25_minutes 6 = .ok (.if_icmp .ge 21, 3) := dk_162 0 21 (dk_at dksX25_minutes_0 6 rfl rfl)
theorem dX25_minutes_9 : decode cX25_minutes 9 = .ok (.aload_n 0, 1) := dk_42 (dk_at dksX25_minutes_0 9 rfl rfl)
theorem dX25_minutes_10 : decode cX25_minutes 10 = .ok (.aload_n 1, 1) := dk_43 (dk_at dksX25_minutes_0 10 rfl rfl)
theorem dX25_minutes_11 : decode cX25_minutes 11 = .ok (.invokevirtual 9, 3) := dk_182 0 9 (dk_at dksX25_minutes_0 11 rfl rfl)
theorem dX25_minutes_14 : decode cX25_minutes 14 = .ok (.ifCond .ne 13, 3) := dk_154 0 13 (dk_at dksX25_minutes_0 14 rfl rfl)
theorem dX25_minutes_17 : decode cX25_minutes 17 = .ok (.aload_n 1, 1) := dk_43 (dk_at dksX25_minutes_0 17 rfl rfl)
theorem dX25_minutes_18 : decode cX25_minutes 18 = .ok (.invokevirtual 15, 3) := dk_182 0 15 (dk_at dksX25_minutes_0 18 rfl rfl)
theorem dX25_minutes_21 : decode cX25_minutes 21 = .ok (.iinc 2 1, 3) := dk_132 2 1 (dk_at dksX25_minutes_0 21 rfl rfl)
theorem dX25_minutes_24 : decode cX25_minutes 24 = .ok (.goto (-22), 3) := dk_167 255 234 (dk_at dksX25_minutes_1 0 rfl rfl)
theorem dX25_minutes_27 : decode cX25_minutes 27 = .ok (.aload_n 0, 1) := dk_42 (dk_at dksX25_minutes_1 3 rfl rfl)
theorem dX25_minutes_28 : decode cX25_minutes 28 = .ok (.aload_n 1, 1) := dk_43 (dk_at dksX25_minutes_1 4 rfl rfl)
theorem dX25_minutes_29 : decode cX25_minutes 29 = .ok (.invokevirtual 9, 3) := dk_182 0 9 (dk_at dksX25_minutes_1 5 rfl rfl)
theorem dX25_minutes_32 : decode cX25_minutes 32 = .ok (.invokestatic 20, 3) := dk_184 0 20 (dk_at dksX25_minutes_1 8 rfl rfl)
theorem dX25_minutes_35 : decode cX25_minutes 35 = .ok (.iload_n 2, 1) := dk_28 (dk_at dksX25_minutes_1 11 rfl rfl)
theorem dX25_minutes_36 : decode cX25_minutes 36 = .ok (.ireturn, 1) := dk_172 (dk_at dksX25_minutes_1 12 rfl rfl)
theorem q182 : (Jvm.Cond.initialized "CavePearls$Waiting") ∈ lw_all := lw_g (lw_at lw_m1 76 rfl) rfl
theorem q2936 : (Jvm.Cond.instanceMethod ({ cls := "CavePearls$Waiting", name := "<init>", desc := "()V" } : Jvm.MethodName)) ∈ lw_all := lw_g (lw_at lw_m12 190 rfl) rfl
theorem q2937 : (Jvm.Cond.code ({ cls := "CavePearls$Waiting", name := "<init>", desc := "()V" } : Jvm.MethodName) prog_28_method_1_code (1 : Nat) (Option.none : Option Jvm.ClassFile.FieldType)) ∈ lw_all := lw_g (lw_at lw_m12 191 rfl) rfl
theorem q2938 : (Jvm.Cond.methodLink "CavePearls$Waiting" (3 : Nat) ({ cls := "java/lang/Object", name := "<init>", desc := "()V" } : Jvm.MethodName)) ∈ lw_all := lw_g (lw_at lw_m12 192 rfl) rfl
theorem q2947 : (Jvm.Cond.instanceMethod ({ cls := "CavePearls$Waiting", name := "minutes", desc := "(LCavePearls$World;)I" } : Jvm.MethodName)) ∈ lw_all := lw_g (lw_at lw_m12 201 rfl) rfl
theorem q2948 : (Jvm.Cond.sameMethod "CavePearls$Waiting" "CavePearls$Waiting" "minutes" "(LCavePearls$World;)I") ∈ lw_all := lw_g (lw_at lw_m12 202 rfl) rfl
theorem q2951 : (Jvm.Cond.code ({ cls := "CavePearls$Waiting", name := "minutes", desc := "(LCavePearls$World;)I" } : Jvm.MethodName) prog_28_method_3_code (3 : Nat) (Option.some Jvm.ClassFile.FieldType.int)) ∈ lw_all := lw_g (lw_at lw_m12 205 rfl) rfl
theorem q2952 : (Jvm.Cond.methodLink "CavePearls$Waiting" (9 : Nat) ({ cls := "CavePearls$Waiting", name := "isThere", desc := "(LCavePearls$World;)Z" } : Jvm.MethodName)) ∈ lw_all := lw_g (lw_at lw_m12 206 rfl) rfl
theorem q2953 : (Jvm.Cond.declares ({ cls := "CavePearls$Waiting", name := "isThere", desc := "(LCavePearls$World;)Z" } : Jvm.MethodName)) ∈ lw_tbl := lw_at lw_m12 207 rfl
theorem q2954 : (Jvm.Cond.sameMethod "CavePearls$Waiting" "CavePearls$Waiting" "isThere" "(LCavePearls$World;)Z") ∈ lw_all := lw_g (lw_at lw_m12 208 rfl) rfl
theorem q2964 : (Jvm.Cond.methodLink "CavePearls$Waiting" (15 : Nat) ({ cls := "CavePearls$World", name := "goMinute", desc := "()V" } : Jvm.MethodName)) ∈ lw_all := lw_g (lw_at lw_m12 218 rfl) rfl
theorem q2965 : (Jvm.Cond.methodLinkNest "CavePearls$Waiting" (20 : Nat) ({ cls := "CavePearls", name := "checkFound", desc := "(Z)V" } : Jvm.MethodName) "CavePearls") ∈ lw_tbl := lw_at lw_m12 219 rfl
theorem q2996 : (Jvm.Cond.declares ({ cls := "CavePearls$Waiting", name := "minutes", desc := "(LCavePearls$World;)I" } : Jvm.MethodName)) ∈ lw_tbl := lw_at lw_m13 10 rfl

/-! CavePearls$7 -/
set_option maxRecDepth 100000
def RX26 : String := "CavePearls$7"
def TX26 : u_T := fun k => match k with
  | 0 => ("CavePearls$7", "val$pool", "I", true)
  | _ => ("CavePearls$7", "this$0", "LCavePearls;", true)
def tyX26 : Nat → FieldType := fun k => match k with
  | 0 => .int
  | _ => .object "CavePearls"
abbrev wsX260 : List Cond := u_ws RX26 TX26 2
theorem nmX26 : ∀ a, a < 2 → ∀ b, b < 2 → a ≠ b → (TX26 a).2.1 ≠ (TX26 b).2.1 := by decide +kernel
theorem tyX26_ok : ∀ k, k < 2 → parseFieldDescriptor (TX26 k).2.2.1 = some (tyX26 k) := by decide +kernel
abbrev cX26_init : ByteArray := prog_9_method_1_code
def yX26_init : MethodName := ⟨RX26, "<init>", "(LCavePearls;I)V"⟩
def dkwX26_init_0 : List UInt8 := [42, 43, 181, 0, 1, 42, 28, 181, 0, 7, 42, 183, 0, 11, 177]
abbrev dktX26_init_0 : List UInt8 := dkwX26_init_0 ++ []
theorem dksX26_init_0 : cX26_init.data.toList.drop 0 = dktX26_init_0 := by decide +kernel
theorem dX26_init_0 : decode cX26_init 0 = .ok (.aload_n 0, 1) := dk_42 (dk_at dksX26_init_0 0 rfl rfl)
theorem dX26_init_1 : decode cX26_init 1 = .ok (.aload_n 1, 1) := dk_43 (dk_at dksX26_init_0 1 rfl rfl)
theorem dX26_init_2 : decode cX26_init 2 = .ok (.putfield 1, 3) := dk_181 0 1 (dk_at dksX26_init_0 2 rfl rfl)
theorem dX26_init_5 : decode cX26_init 5 = .ok (.aload_n 0, 1) := dk_42 (dk_at dksX26_init_0 5 rfl rfl)
theorem dX26_init_6 : decode cX26_init 6 = .ok (.iload_n 2, 1) := dk_28 (dk_at dksX26_init_0 6 rfl rfl)
theorem dX26_init_7 : decode cX26_init 7 = .ok (.putfield 7, 3) := dk_181 0 7 (dk_at dksX26_init_0 7 rfl rfl)
theorem dX26_init_10 : decode cX26_init 10 = .ok (.aload_n 0, 1) := dk_42 (dk_at dksX26_init_0 10 rfl rfl)
theorem dX26_init_11 : decode cX26_init 11 = .ok (.invokespecial 11, 3) := dk_183 0 11 (dk_at dksX26_init_0 11 rfl rfl)
theorem dX26_init_14 : decode cX26_init 14 = .ok (.return_, 1) := dk_177 (dk_at dksX26_init_0 14 rfl rfl)
abbrev cX26_isThere : ByteArray := prog_9_method_2_code
def yX26_isThere : MethodName := ⟨RX26, "isThere", "(LCavePearls$World;)Z"⟩
def dkwX26_isThere_0 : List UInt8 := [43, 180, 0, 17, 42, 180, 0, 7, 182, 0, 23, 192, 0, 29, 182, 0, 31, 172]
abbrev dktX26_isThere_0 : List UInt8 := dkwX26_isThere_0 ++ []
theorem dksX26_isThere_0 : cX26_isThere.data.toList.drop 0 = dktX26_isThere_0 := by decide +kernel
theorem dX26_isThere_0 : decode cX26_isThere 0 = .ok (.aload_n 1, 1) := dk_43 (dk_at dksX26_isThere_0 0 rfl rfl)
theorem dX26_isThere_1 : decode cX26_isThere 1 = .ok (.getfield 17, 3) := dk_180 0 17 (dk_at dksX26_isThere_0 1 rfl rfl)
theorem dX26_isThere_4 : decode cX26_isThere 4 = .ok (.aload_n 0, 1) := dk_42 (dk_at dksX26_isThere_0 4 rfl rfl)
theorem dX26_isThere_5 : decode cX26_isThere 5 = .ok (.getfield 7, 3) := dk_180 0 7 (dk_at dksX26_isThere_0 5 rfl rfl)
theorem dX26_isThere_8 : decode cX26_isThere 8 = .ok (.invokevirtual 23, 3) := dk_182 0 23 (dk_at dksX26_isThere_0 8 rfl rfl)
theorem dX26_isThere_11 : decode cX26_isThere 11 = .ok (.checkcast 29, 3) := dk_192 0 29 (dk_at dksX26_isThere_0 11 rfl rfl)
theorem dX26_isThere_14 : decode cX26_isThere 14 = .ok (.invokevirtual 31, 3) := dk_182 0 31 (dk_at dksX26_isThere_0 14 rfl rfl)
theorem dX26_isThere_17 : decode cX26_isThere 17 = .ok (.ireturn, 1) := dk_172 (dk_at dksX26_isThere_0 17 rfl rfl)
theorem q183 : (Jvm.Cond.initialized "CavePearls$7") ∈ lw_all := lw_g (lw_at lw_m1 77 rfl) rfl
theorem q268 : (Jvm.Cond.fieldLinkNest "CavePearls$7" (17 : Nat) "CavePearls$World" "pools" "Ljava/util/ArrayList;" "CavePearls") ∈ lw_tbl := lw_at lw_m1 162 rfl
theorem q924 : (Jvm.Cond.selects "CavePearls$7" ({ cls := "java/lang/Object", name := "getClass", desc := "()Ljava/lang/Class;" } : Jvm.MethodName) ({ cls := "java/lang/Object", name := "getClass", desc := "()Ljava/lang/Class;" } : Jvm.MethodName)) ∈ lw_all := lw_g (lw_at lw_m4 98 rfl) rfl
theorem q2931 : (Jvm.Cond.instantiable "CavePearls$7" (2 : Nat)) ∈ lw_all := lw_g (lw_at lw_m12 185 rfl) rfl
theorem q2933 : (Jvm.Cond.instanceMethod ({ cls := "CavePearls$7", name := "<init>", desc := "(LCavePearls;I)V" } : Jvm.MethodName)) ∈ lw_all := lw_g (lw_at lw_m12 187 rfl) rfl
theorem q2934 : (Jvm.Cond.code ({ cls := "CavePearls$7", name := "<init>", desc := "(LCavePearls;I)V" } : Jvm.MethodName) prog_9_method_1_code (3 : Nat) (Option.none : Option Jvm.ClassFile.FieldType)) ∈ lw_all := lw_g (lw_at lw_m12 188 rfl) rfl
theorem q2935 : (Jvm.Cond.methodLinkNest "CavePearls$7" (11 : Nat) ({ cls := "CavePearls$Waiting", name := "<init>", desc := "()V" } : Jvm.MethodName) "CavePearls") ∈ lw_tbl := lw_at lw_m12 189 rfl
theorem q2939 : (Jvm.Cond.fieldLink "CavePearls$7" (7 : Nat) "CavePearls$7" "val$pool" "I") ∈ lw_all := lw_g (lw_at lw_m12 193 rfl) rfl
theorem q2940 : (Jvm.Cond.fieldLink "CavePearls$7" (1 : Nat) "CavePearls$7" "this$0" "LCavePearls;") ∈ lw_all := lw_g (lw_at lw_m12 194 rfl) rfl
theorem q2941 : (Jvm.Cond.laysFinal "CavePearls$7" "CavePearls$7" "val$pool" "I") ∈ lw_all := lw_g (lw_at lw_m12 195 rfl) rfl
theorem q2942 : (Jvm.Cond.soleField "CavePearls$7" "val$pool") ∈ lw_all := lw_g (lw_at lw_m12 196 rfl) rfl
theorem q2943 : (Jvm.Cond.laysFinal "CavePearls$7" "CavePearls$7" "this$0" "LCavePearls;") ∈ lw_all := lw_g (lw_at lw_m12 197 rfl) rfl
theorem q2944 : (Jvm.Cond.soleField "CavePearls$7" "this$0") ∈ lw_all := lw_g (lw_at lw_m12 198 rfl) rfl
theorem q2945 : (Jvm.Cond.superclass "CavePearls$7" "CavePearls$Waiting") ∈ lw_all := lw_g (lw_at lw_m12 199 rfl) rfl
theorem q2950 : (Jvm.Cond.selects "CavePearls$7" ({ cls := "CavePearls$Waiting", name := "minutes", desc := "(LCavePearls$World;)I" } : Jvm.MethodName) ({ cls := "CavePearls$Waiting", name := "minutes", desc := "(LCavePearls$World;)I" } : Jvm.MethodName)) ∈ lw_all := lw_g (lw_at lw_m12 204 rfl) rfl
theorem q2958 : (Jvm.Cond.selects "CavePearls$7" ({ cls := "CavePearls$Waiting", name := "isThere", desc := "(LCavePearls$World;)Z" } : Jvm.MethodName) ({ cls := "CavePearls$7", name := "isThere", desc := "(LCavePearls$World;)Z" } : Jvm.MethodName)) ∈ lw_all := lw_g (lw_at lw_m12 212 rfl) rfl
theorem q2959 : (Jvm.Cond.instanceMethod ({ cls := "CavePearls$7", name := "isThere", desc := "(LCavePearls$World;)Z" } : Jvm.MethodName)) ∈ lw_all := lw_g (lw_at lw_m12 213 rfl) rfl
theorem q2960 : (Jvm.Cond.code ({ cls := "CavePearls$7", name := "isThere", desc := "(LCavePearls$World;)Z" } : Jvm.MethodName) prog_9_method_2_code (2 : Nat) (Option.some Jvm.ClassFile.FieldType.boolean)) ∈ lw_all := lw_g (lw_at lw_m12 214 rfl) rfl
theorem q2961 : (Jvm.Cond.methodLink "CavePearls$7" (23 : Nat) ({ cls := "java/util/ArrayList", name := "get", desc := "(I)Ljava/lang/Object;" } : Jvm.MethodName)) ∈ lw_all := lw_g (lw_at lw_m12 215 rfl) rfl
theorem q2962 : (Jvm.Cond.classLink "CavePearls$7" (29 : Nat) "CavePearls$Pool") ∈ lw_all := lw_g (lw_at lw_m12 216 rfl) rfl
theorem q2963 : (Jvm.Cond.methodLink "CavePearls$7" (31 : Nat) ({ cls := "CavePearls$Pool", name := "isFull", desc := "()Z" } : Jvm.MethodName)) ∈ lw_all := lw_g (lw_at lw_m12 217 rfl) rfl
theorem q4024 : (Jvm.Cond.castable "CavePearls$7" "java/lang/Object") ∈ lw_tbl := lw_at lw_m17 78 rfl
theorem in_X26 : ∀ w ∈ wsX260, w ∈ lw_all := lw_in wsX260 [2941, 2943] (by decide +kernel) (by decide +kernel)

/-! CavePearls$1Clearing -/
set_option maxRecDepth 100000
def RX27 : String := "CavePearls$1Clearing"
def TX27 : u_T := fun k => match k with
  | 0 => ("CavePearls$1Clearing", "val$bound", "I", true)
  | _ => ("CavePearls$1Clearing", "this$0", "LCavePearls;", true)
def tyX27 : Nat → FieldType := fun k => match k with
  | 0 => .int
  | _ => .object "CavePearls"
abbrev wsX270 : List Cond := u_ws RX27 TX27 2
theorem nmX27 : ∀ a, a < 2 → ∀ b, b < 2 → a ≠ b → (TX27 a).2.1 ≠ (TX27 b).2.1 := by decide +kernel
theorem tyX27_ok : ∀ k, k < 2 → parseFieldDescriptor (TX27 k).2.2.1 = some (tyX27 k) := by decide +kernel
abbrev cX27_isThere : ByteArray := prog_3_method_2_code
def yX27_isThere : MethodName := ⟨RX27, "isThere", "(LCavePearls$World;)Z"⟩
def dkwX27_isThere_0 : List UInt8 := [43, 180, 0, 17, 42, 180, 0, 7, 162, 0, 7, 4, 167, 0, 4, 3, 172]
abbrev dktX27_isThere_0 : List UInt8 := dkwX27_isThere_0 ++ []
theorem dksX27_isThere_0 : cX27_isThere.data.toList.drop 0 = dktX27_isThere_0 := by decide +kernel
theorem dX27_isThere_0 : decode cX27_isThere 0 = .ok (.aload_n 1, 1) := dk_43 (dk_at dksX27_isThere_0 0 rfl rfl)
theorem dX27_isThere_1 : decode cX27_isThere 1 = .ok (.getfield 17, 3) := dk_180 0 17 (dk_at dksX27_isThere_0 1 rfl rfl)
theorem dX27_isThere_4 : decode cX27_isThere 4 = .ok (.aload_n 0, 1) := dk_42 (dk_at dksX27_isThere_0 4 rfl rfl)
theorem dX27_isThere_5 : decode cX27_isThere 5 = .ok (.getfield 7, 3) := dk_180 0 7 (dk_at dksX27_isThere_0 5 rfl rfl)
theorem dX27_isThere_8 : decode cX27_isThere 8 = .ok (.if_icmp .ge 7, 3) := dk_162 0 7 (dk_at dksX27_isThere_0 8 rfl rfl)
theorem dX27_isThere_11 : decode cX27_isThere 11 = .ok (.iconst 1, 1) := dk_4 (dk_at dksX27_isThere_0 11 rfl rfl)
theorem dX27_isThere_12 : decode cX27_isThere 12 = .ok (.goto 4, 3) := dk_167 0 4 (dk_at dksX27_isThere_0 12 rfl rfl)
theorem dX27_isThere_15 : decode cX27_isThere 15 = .ok (.iconst 0, 1) := dk_3 (dk_at dksX27_isThere_0 15 rfl rfl)
theorem dX27_isThere_16 : decode cX27_isThere 16 = .ok (.ireturn, 1) := dk_172 (dk_at dksX27_isThere_0 16 rfl rfl)
abbrev cX27_init : ByteArray := prog_3_method_1_code
def yX27_init : MethodName := ⟨RX27, "<init>", "(LCavePearls;I)V"⟩
def dkwX27_init_0 : List UInt8 := [42, 43, 181, 0, 1, 42, 28, 181, 0, 7, 42, 183, 0, 11, 177]
abbrev dktX27_init_0 : List UInt8 := dkwX27_init_0 ++ []
theorem dksX27_init_0 : cX27_init.data.toList.drop 0 = dktX27_init_0 := by decide +kernel
theorem dX27_init_0 : decode cX27_init 0 = .ok (.aload_n 0, 1) := dk_42 (dk_at dksX27_init_0 0 rfl rfl)
theorem dX27_init_1 : decode cX27_init 1 = .ok (.aload_n 1, 1) := dk_43 (dk_at dksX27_init_0 1 rfl rfl)
theorem dX27_init_2 : decode cX27_init 2 = .ok (.putfield 1, 3) := dk_181 0 1 (dk_at dksX27_init_0 2 rfl rfl)
theorem dX27_init_5 : decode cX27_init 5 = .ok (.aload_n 0, 1) := dk_42 (dk_at dksX27_init_0 5 rfl rfl)
theorem dX27_init_6 : decode cX27_init 6 = .ok (.iload_n 2, 1) := dk_28 (dk_at dksX27_init_0 6 rfl rfl)
theorem dX27_init_7 : decode cX27_init 7 = .ok (.putfield 7, 3) := dk_181 0 7 (dk_at dksX27_init_0 7 rfl rfl)
theorem dX27_init_10 : decode cX27_init 10 = .ok (.aload_n 0, 1) := dk_42 (dk_at dksX27_init_0 10 rfl rfl)
theorem dX27_init_11 : decode cX27_init 11 = .ok (.invokespecial 11, 3) := dk_183 0 11 (dk_at dksX27_init_0 11 rfl rfl)
theorem dX27_init_14 : decode cX27_init 14 = .ok (.return_, 1) := dk_177 (dk_at dksX27_init_0 14 rfl rfl)
theorem q184 : (Jvm.Cond.initialized "CavePearls$1Clearing") ∈ lw_all := lw_g (lw_at lw_m1 78 rfl) rfl
theorem q277 : (Jvm.Cond.fieldLinkNest "CavePearls$1Clearing" (17 : Nat) "CavePearls$World" "breath" "I" "CavePearls") ∈ lw_tbl := lw_at lw_m1 171 rfl
theorem q918 : (Jvm.Cond.selects "CavePearls$1Clearing" ({ cls := "java/lang/Object", name := "getClass", desc := "()Ljava/lang/Class;" } : Jvm.MethodName) ({ cls := "java/lang/Object", name := "getClass", desc := "()Ljava/lang/Class;" } : Jvm.MethodName)) ∈ lw_all := lw_g (lw_at lw_m4 92 rfl) rfl
theorem q2949 : (Jvm.Cond.selects "CavePearls$1Clearing" ({ cls := "CavePearls$Waiting", name := "minutes", desc := "(LCavePearls$World;)I" } : Jvm.MethodName) ({ cls := "CavePearls$Waiting", name := "minutes", desc := "(LCavePearls$World;)I" } : Jvm.MethodName)) ∈ lw_all := lw_g (lw_at lw_m12 203 rfl) rfl
theorem q2955 : (Jvm.Cond.selects "CavePearls$1Clearing" ({ cls := "CavePearls$Waiting", name := "isThere", desc := "(LCavePearls$World;)Z" } : Jvm.MethodName) ({ cls := "CavePearls$1Clearing", name := "isThere", desc := "(LCavePearls$World;)Z" } : Jvm.MethodName)) ∈ lw_all := lw_g (lw_at lw_m12 209 rfl) rfl
theorem q2956 : (Jvm.Cond.instanceMethod ({ cls := "CavePearls$1Clearing", name := "isThere", desc := "(LCavePearls$World;)Z" } : Jvm.MethodName)) ∈ lw_all := lw_g (lw_at lw_m12 210 rfl) rfl
theorem q2957 : (Jvm.Cond.code ({ cls := "CavePearls$1Clearing", name := "isThere", desc := "(LCavePearls$World;)Z" } : Jvm.MethodName) prog_3_method_2_code (2 : Nat) (Option.some Jvm.ClassFile.FieldType.boolean)) ∈ lw_all := lw_g (lw_at lw_m12 211 rfl) rfl
theorem q2982 : (Jvm.Cond.instantiable "CavePearls$1Clearing" (2 : Nat)) ∈ lw_all := lw_g (lw_at lw_m12 236 rfl) rfl
theorem q2984 : (Jvm.Cond.instanceMethod ({ cls := "CavePearls$1Clearing", name := "<init>", desc := "(LCavePearls;I)V" } : Jvm.MethodName)) ∈ lw_all := lw_g (lw_at lw_m12 238 rfl) rfl
theorem q2985 : (Jvm.Cond.code ({ cls := "CavePearls$1Clearing", name := "<init>", desc := "(LCavePearls;I)V" } : Jvm.MethodName) prog_3_method_1_code (3 : Nat) (Option.none : Option Jvm.ClassFile.FieldType)) ∈ lw_all := lw_g (lw_at lw_m12 239 rfl) rfl
theorem q2986 : (Jvm.Cond.methodLinkNest "CavePearls$1Clearing" (11 : Nat) ({ cls := "CavePearls$Waiting", name := "<init>", desc := "()V" } : Jvm.MethodName) "CavePearls") ∈ lw_tbl := lw_at lw_m13 0 rfl
theorem q2987 : (Jvm.Cond.fieldLink "CavePearls$1Clearing" (7 : Nat) "CavePearls$1Clearing" "val$bound" "I") ∈ lw_all := lw_g (lw_at lw_m13 1 rfl) rfl
theorem q2988 : (Jvm.Cond.fieldLink "CavePearls$1Clearing" (1 : Nat) "CavePearls$1Clearing" "this$0" "LCavePearls;") ∈ lw_all := lw_g (lw_at lw_m13 2 rfl) rfl
theorem q2989 : (Jvm.Cond.laysFinal "CavePearls$1Clearing" "CavePearls$1Clearing" "val$bound" "I") ∈ lw_all := lw_g (lw_at lw_m13 3 rfl) rfl
theorem q2990 : (Jvm.Cond.soleField "CavePearls$1Clearing" "val$bound") ∈ lw_all := lw_g (lw_at lw_m13 4 rfl) rfl
theorem q2991 : (Jvm.Cond.laysFinal "CavePearls$1Clearing" "CavePearls$1Clearing" "this$0" "LCavePearls;") ∈ lw_all := lw_g (lw_at lw_m13 5 rfl) rfl
theorem q2992 : (Jvm.Cond.soleField "CavePearls$1Clearing" "this$0") ∈ lw_all := lw_g (lw_at lw_m13 6 rfl) rfl
theorem q2993 : (Jvm.Cond.superclass "CavePearls$1Clearing" "CavePearls$Waiting") ∈ lw_all := lw_g (lw_at lw_m13 7 rfl) rfl
theorem q2995 : (Jvm.Cond.sameMethod "CavePearls$1Clearing" "CavePearls$Waiting" "minutes" "(LCavePearls$World;)I") ∈ lw_all := lw_g (lw_at lw_m13 9 rfl) rfl
theorem q2997 : (Jvm.Cond.selects "CavePearls$1Clearing" ({ cls := "CavePearls$1Clearing", name := "minutes", desc := "(LCavePearls$World;)I" } : Jvm.MethodName) ({ cls := "CavePearls$Waiting", name := "minutes", desc := "(LCavePearls$World;)I" } : Jvm.MethodName)) ∈ lw_all := lw_g (lw_at lw_m13 11 rfl) rfl
theorem q4026 : (Jvm.Cond.castable "CavePearls$1Clearing" "java/lang/Object") ∈ lw_tbl := lw_at lw_m17 80 rfl
theorem in_X27 : ∀ w ∈ wsX270, w ∈ lw_all := lw_in wsX270 [2989, 2991] (by decide +kernel) (by decide +kernel)

/-! java/lang/StringIndexOutOfBoundsException -/
set_option maxRecDepth 100000
def RJ47 : String := "java/lang/StringIndexOutOfBoundsException"
def TJ47 : u_T := fun k => match k with
  | 0 => ("java/lang/Throwable", "backtrace", "Ljava/lang/Object;", false)
  | 1 => ("java/lang/Throwable", "detailMessage", "Ljava/lang/String;", false)
  | 2 => ("java/lang/Throwable", "cause", "Ljava/lang/Throwable;", false)
  | 3 => ("java/lang/Throwable", "stackTrace", "[Ljava/lang/StackTraceElement;", false)
  | 4 => ("java/lang/Throwable", "depth", "I", false)
  | _ => ("java/lang/Throwable", "suppressedExceptions", "Ljava/util/List;", false)
def tyJ47 : Nat → FieldType := fun k => match k with
  | 0 => .object "java/lang/Object"
  | 1 => .object "java/lang/String"
  | 2 => .object "java/lang/Throwable"
  | 3 => .array (.object "java/lang/StackTraceElement")
  | 4 => .int
  | _ => .object "java/util/List"
abbrev wsJ470 : List Cond := u_ws RJ47 TJ47 6
theorem nmJ47 : ∀ a, a < 6 → ∀ b, b < 6 → a ≠ b → (TJ47 a).2.1 ≠ (TJ47 b).2.1 := by decide +kernel
theorem tyJ47_ok : ∀ k, k < 6 → parseFieldDescriptor (TJ47 k).2.2.1 = some (tyJ47 k) := by decide +kernel
abbrev cJ47_init : ByteArray := prog_53_method_3_code
def yJ47_init : MethodName := ⟨RJ47, "<init>", "(I)V"⟩
def dkwJ47_init_0 : List UInt8 := [42, 187, 0, 10, 89, 183, 0, 12, 18, 13, 182, 0, 15, 27, 182, 0, 19, 182, 0, 22, 183, 0, 7, 177]
abbrev dktJ47_init_0 : List UInt8 := dkwJ47_init_0 ++ []
theorem dksJ47_init_0 : cJ47_init.data.toList.drop 0 = dktJ47_init_0 := by decide +kernel
theorem dJ47_init_0 : decode cJ47_init 0 = .ok (.aload_n 0, 1) := dk_42 (dk_at dksJ47_init_0 0 rfl rfl)
theorem dJ47_init_1 : decode cJ47_init 1 = .ok (.new 10, 3) := dk_187 0 10 (dk_at dksJ47_init_0 1 rfl rfl)
theorem dJ47_init_4 : decode cJ47_init 4 = .ok (.dup, 1) := dk_89 (dk_at dksJ47_init_0 4 rfl rfl)
theorem dJ47_init_5 : decode cJ47_init 5 = .ok (.invokespecial 12, 3) := dk_183 0 12 (dk_at dksJ47_init_0 5 rfl rfl)
theorem dJ47_init_8 : decode cJ47_init 8 = .ok (.ldc 13, 2) := dk_18 13 (dk_at dksJ47_init_0 8 rfl rfl)
theorem dJ47_init_10 : decode cJ47_init 10 = .ok (.invokevirtual 15, 3) := dk_182 0 15 (dk_at dksJ47_init_0 10 rfl rfl)
theorem dJ47_init_13 : decode cJ47_init 13 = .ok (.iload_n 1, 1) := dk_27 (dk_at dksJ47_init_0 13 rfl rfl)
theorem dJ47_init_14 : decode cJ47_init 14 = .ok (.invokevirtual 19, 3) := dk_182 0 19 (dk_at dksJ47_init_0 14 rfl rfl)
theorem dJ47_init_17 : decode cJ47_init 17 = .ok (.invokevirtual 22, 3) := dk_182 0 22 (dk_at dksJ47_init_0 17 rfl rfl)
theorem dJ47_init_20 : decode cJ47_init 20 = .ok (.invokespecial 7, 3) := dk_183 0 7 (dk_at dksJ47_init_0 20 rfl rfl)
theorem dJ47_init_23 : decode cJ47_init 23 = .ok (.return_, 1) := dk_177 (dk_at dksJ47_init_0 23 rfl rfl)
theorem q185 : (Jvm.Cond.initialized "java/lang/StringIndexOutOfBoundsException") ∈ lw_all := lw_g (lw_at lw_m1 79 rfl) rfl
theorem q602 : (Jvm.Cond.selects "java/lang/StringIndexOutOfBoundsException" ({ cls := "java/lang/Throwable", name := "fillInStackTrace", desc := "()Ljava/lang/Throwable;" } : Jvm.MethodName) ({ cls := "java/lang/Throwable", name := "fillInStackTrace", desc := "()Ljava/lang/Throwable;" } : Jvm.MethodName)) ∈ lw_all := lw_g (lw_at lw_m3 16 rfl) rfl
theorem q908 : (Jvm.Cond.selects "java/lang/StringIndexOutOfBoundsException" ({ cls := "java/lang/Throwable", name := "toString", desc := "()Ljava/lang/String;" } : Jvm.MethodName) ({ cls := "java/lang/Throwable", name := "toString", desc := "()Ljava/lang/String;" } : Jvm.MethodName)) ∈ lw_all := lw_g (lw_at lw_m4 82 rfl) rfl
theorem q952 : (Jvm.Cond.selects "java/lang/StringIndexOutOfBoundsException" ({ cls := "java/lang/Object", name := "getClass", desc := "()Ljava/lang/Class;" } : Jvm.MethodName) ({ cls := "java/lang/Object", name := "getClass", desc := "()Ljava/lang/Class;" } : Jvm.MethodName)) ∈ lw_all := lw_g (lw_at lw_m4 126 rfl) rfl
theorem q987 : (Jvm.Cond.selects "java/lang/StringIndexOutOfBoundsException" ({ cls := "java/lang/Throwable", name := "getLocalizedMessage", desc := "()Ljava/lang/String;" } : Jvm.MethodName) ({ cls := "java/lang/Throwable", name := "getLocalizedMessage", desc := "()Ljava/lang/String;" } : Jvm.MethodName)) ∈ lw_all := lw_g (lw_at lw_m4 161 rfl) rfl
theorem q1002 : (Jvm.Cond.selects "java/lang/StringIndexOutOfBoundsException" ({ cls := "java/lang/Throwable", name := "getMessage", desc := "()Ljava/lang/String;" } : Jvm.MethodName) ({ cls := "java/lang/Throwable", name := "getMessage", desc := "()Ljava/lang/String;" } : Jvm.MethodName)) ∈ lw_all := lw_g (lw_at lw_m4 176 rfl) rfl
theorem q3024 : (Jvm.Cond.instantiable "java/lang/StringIndexOutOfBoundsException" (6 : Nat)) ∈ lw_all := lw_g (lw_at lw_m13 38 rfl) rfl
theorem q3026 : (Jvm.Cond.instanceMethod ({ cls := "java/lang/StringIndexOutOfBoundsException", name := "<init>", desc := "(I)V" } : Jvm.MethodName)) ∈ lw_all := lw_g (lw_at lw_m13 40 rfl) rfl
theorem q3027 : (Jvm.Cond.code ({ cls := "java/lang/StringIndexOutOfBoundsException", name := "<init>", desc := "(I)V" } : Jvm.MethodName) prog_53_method_3_code (2 : Nat) (Option.none : Option Jvm.ClassFile.FieldType)) ∈ lw_all := lw_g (lw_at lw_m13 41 rfl) rfl
theorem q3028 : (Jvm.Cond.classLink "java/lang/StringIndexOutOfBoundsException" (10 : Nat) "java/lang/StringBuilder") ∈ lw_all := lw_g (lw_at lw_m13 42 rfl) rfl
theorem q3029 : (Jvm.Cond.methodLink "java/lang/StringIndexOutOfBoundsException" (12 : Nat) ({ cls := "java/lang/StringBuilder", name := "<init>", desc := "()V" } : Jvm.MethodName)) ∈ lw_all := lw_g (lw_at lw_m13 43 rfl) rfl
theorem q3030 : (Jvm.Cond.stringRef "java/lang/StringIndexOutOfBoundsException" (13 : Nat) "String index out of range: ") ∈ lw_tbl := lw_at lw_m13 44 rfl
theorem q3031 : (Jvm.Cond.methodLink "java/lang/StringIndexOutOfBoundsException" (15 : Nat) ({ cls := "java/lang/StringBuilder", name := "append", desc := "(Ljava/lang/String;)Ljava/lang/StringBuilder;" } : Jvm.MethodName)) ∈ lw_all := lw_g (lw_at lw_m13 45 rfl) rfl
theorem q3032 : (Jvm.Cond.methodLink "java/lang/StringIndexOutOfBoundsException" (19 : Nat) ({ cls := "java/lang/StringBuilder", name := "append", desc := "(I)Ljava/lang/StringBuilder;" } : Jvm.MethodName)) ∈ lw_all := lw_g (lw_at lw_m13 46 rfl) rfl
theorem q3033 : (Jvm.Cond.methodLink "java/lang/StringIndexOutOfBoundsException" (22 : Nat) ({ cls := "java/lang/StringBuilder", name := "toString", desc := "()Ljava/lang/String;" } : Jvm.MethodName)) ∈ lw_all := lw_g (lw_at lw_m13 47 rfl) rfl
theorem q3034 : (Jvm.Cond.methodLink "java/lang/StringIndexOutOfBoundsException" (7 : Nat) ({ cls := "java/lang/IndexOutOfBoundsException", name := "<init>", desc := "(Ljava/lang/String;)V" } : Jvm.MethodName)) ∈ lw_all := lw_g (lw_at lw_m13 48 rfl) rfl
theorem q3035 : (Jvm.Cond.lays "java/lang/StringIndexOutOfBoundsException" "java/lang/Throwable" "backtrace" "Ljava/lang/Object;") ∈ lw_all := lw_g (lw_at lw_m13 49 rfl) rfl
theorem q3036 : (Jvm.Cond.lays "java/lang/StringIndexOutOfBoundsException" "java/lang/Throwable" "detailMessage" "Ljava/lang/String;") ∈ lw_all := lw_g (lw_at lw_m13 50 rfl) rfl
theorem q3037 : (Jvm.Cond.lays "java/lang/StringIndexOutOfBoundsException" "java/lang/Throwable" "cause" "Ljava/lang/Throwable;") ∈ lw_all := lw_g (lw_at lw_m13 51 rfl) rfl
theorem q3038 : (Jvm.Cond.lays "java/lang/StringIndexOutOfBoundsException" "java/lang/Throwable" "stackTrace" "[Ljava/lang/StackTraceElement;") ∈ lw_all := lw_g (lw_at lw_m13 52 rfl) rfl
theorem q3039 : (Jvm.Cond.lays "java/lang/StringIndexOutOfBoundsException" "java/lang/Throwable" "depth" "I") ∈ lw_all := lw_g (lw_at lw_m13 53 rfl) rfl
theorem q3040 : (Jvm.Cond.lays "java/lang/StringIndexOutOfBoundsException" "java/lang/Throwable" "suppressedExceptions" "Ljava/util/List;") ∈ lw_all := lw_g (lw_at lw_m13 54 rfl) rfl
theorem q3041 : (Jvm.Cond.superclass "java/lang/StringIndexOutOfBoundsException" "java/lang/IndexOutOfBoundsException") ∈ lw_all := lw_g (lw_at lw_m13 55 rfl) rfl
theorem q3975 : (Jvm.Cond.castable "java/lang/StringIndexOutOfBoundsException" "java/lang/IndexOutOfBoundsException") ∈ lw_tbl := lw_at lw_m17 29 rfl
theorem q4027 : (Jvm.Cond.castable "java/lang/StringIndexOutOfBoundsException" "java/lang/Object") ∈ lw_tbl := lw_at lw_m17 81 rfl
theorem in_J47 : ∀ w ∈ wsJ470, w ∈ lw_all := lw_in wsJ470 [3035, 3036, 3037, 3038, 3039, 3040] (by decide +kernel) (by decide +kernel)

/-! java/lang/ArithmeticException -/
set_option maxRecDepth 100000
def RJ48 : String := "java/lang/ArithmeticException"
def TJ48 : u_T := fun k => match k with
  | 0 => ("java/lang/Throwable", "backtrace", "Ljava/lang/Object;", false)
  | 1 => ("java/lang/Throwable", "detailMessage", "Ljava/lang/String;", false)
  | 2 => ("java/lang/Throwable", "cause", "Ljava/lang/Throwable;", false)
  | 3 => ("java/lang/Throwable", "stackTrace", "[Ljava/lang/StackTraceElement;", false)
  | 4 => ("java/lang/Throwable", "depth", "I", false)
  | _ => ("java/lang/Throwable", "suppressedExceptions", "Ljava/util/List;", false)
def tyJ48 : Nat → FieldType := fun k => match k with
  | 0 => .object "java/lang/Object"
  | 1 => .object "java/lang/String"
  | 2 => .object "java/lang/Throwable"
  | 3 => .array (.object "java/lang/StackTraceElement")
  | 4 => .int
  | _ => .object "java/util/List"
abbrev wsJ480 : List Cond := u_ws RJ48 TJ48 6
theorem nmJ48 : ∀ a, a < 6 → ∀ b, b < 6 → a ≠ b → (TJ48 a).2.1 ≠ (TJ48 b).2.1 := by decide +kernel
theorem tyJ48_ok : ∀ k, k < 6 → parseFieldDescriptor (TJ48 k).2.2.1 = some (tyJ48 k) := by decide +kernel
abbrev cJ48_init : ByteArray := prog_35_method_2_code
def yJ48_init : MethodName := ⟨RJ48, "<init>", "(Ljava/lang/String;)V"⟩
def dkwJ48_init_0 : List UInt8 := [42, 43, 183, 0, 7, 177]
abbrev dktJ48_init_0 : List UInt8 := dkwJ48_init_0 ++ []
theorem dksJ48_init_0 : cJ48_init.data.toList.drop 0 = dktJ48_init_0 := by decide +kernel
theorem dJ48_init_0 : decode cJ48_init 0 = .ok (.aload_n 0, 1) := dk_42 (dk_at dksJ48_init_0 0 rfl rfl)
theorem dJ48_init_1 : decode cJ48_init 1 = .ok (.aload_n 1, 1) := dk_43 (dk_at dksJ48_init_0 1 rfl rfl)
theorem dJ48_init_2 : decode cJ48_init 2 = .ok (.invokespecial 7, 3) := dk_183 0 7 (dk_at dksJ48_init_0 2 rfl rfl)
theorem dJ48_init_5 : decode cJ48_init 5 = .ok (.return_, 1) := dk_177 (dk_at dksJ48_init_0 5 rfl rfl)
abbrev cJ48_init_2 : ByteArray := prog_35_method_1_code
def yJ48_init_2 : MethodName := ⟨RJ48, "<init>", "()V"⟩
theorem dJ48_init_2_0 : decode cJ48_init_2 0 = .ok (.aload_n 0, 1) := by decide +kernel
theorem dJ48_init_2_1 : decode cJ48_init_2 1 = .ok (.invokespecial 1, 3) := by decide +kernel
theorem dJ48_init_2_4 : decode cJ48_init_2 4 = .ok (.return_, 1) := by decide +kernel
theorem q186 : (Jvm.Cond.initialized "java/lang/ArithmeticException") ∈ lw_all := lw_g (lw_at lw_m1 80 rfl) rfl
theorem q598 : (Jvm.Cond.selects "java/lang/ArithmeticException" ({ cls := "java/lang/Throwable", name := "fillInStackTrace", desc := "()Ljava/lang/Throwable;" } : Jvm.MethodName) ({ cls := "java/lang/Throwable", name := "fillInStackTrace", desc := "()Ljava/lang/Throwable;" } : Jvm.MethodName)) ∈ lw_all := lw_g (lw_at lw_m3 12 rfl) rfl
theorem q903 : (Jvm.Cond.selects "java/lang/ArithmeticException" ({ cls := "java/lang/Throwable", name := "toString", desc := "()Ljava/lang/String;" } : Jvm.MethodName) ({ cls := "java/lang/Throwable", name := "toString", desc := "()Ljava/lang/String;" } : Jvm.MethodName)) ∈ lw_all := lw_g (lw_at lw_m4 77 rfl) rfl
theorem q944 : (Jvm.Cond.selects "java/lang/ArithmeticException" ({ cls := "java/lang/Object", name := "getClass", desc := "()Ljava/lang/Class;" } : Jvm.MethodName) ({ cls := "java/lang/Object", name := "getClass", desc := "()Ljava/lang/Class;" } : Jvm.MethodName)) ∈ lw_all := lw_g (lw_at lw_m4 118 rfl) rfl
theorem q982 : (Jvm.Cond.selects "java/lang/ArithmeticException" ({ cls := "java/lang/Throwable", name := "getLocalizedMessage", desc := "()Ljava/lang/String;" } : Jvm.MethodName) ({ cls := "java/lang/Throwable", name := "getLocalizedMessage", desc := "()Ljava/lang/String;" } : Jvm.MethodName)) ∈ lw_all := lw_g (lw_at lw_m4 156 rfl) rfl
theorem q997 : (Jvm.Cond.selects "java/lang/ArithmeticException" ({ cls := "java/lang/Throwable", name := "getMessage", desc := "()Ljava/lang/String;" } : Jvm.MethodName) ({ cls := "java/lang/Throwable", name := "getMessage", desc := "()Ljava/lang/String;" } : Jvm.MethodName)) ∈ lw_all := lw_g (lw_at lw_m4 171 rfl) rfl
theorem q3113 : (Jvm.Cond.instantiable "java/lang/ArithmeticException" (6 : Nat)) ∈ lw_all := lw_g (lw_at lw_m13 127 rfl) rfl
theorem q3114 : (Jvm.Cond.instanceMethod ({ cls := "java/lang/ArithmeticException", name := "<init>", desc := "(Ljava/lang/String;)V" } : Jvm.MethodName)) ∈ lw_all := lw_g (lw_at lw_m13 128 rfl) rfl
theorem q3115 : (Jvm.Cond.code ({ cls := "java/lang/ArithmeticException", name := "<init>", desc := "(Ljava/lang/String;)V" } : Jvm.MethodName) prog_35_method_2_code (2 : Nat) (Option.none : Option Jvm.ClassFile.FieldType)) ∈ lw_all := lw_g (lw_at lw_m13 129 rfl) rfl
theorem q3116 : (Jvm.Cond.methodLink "java/lang/ArithmeticException" (7 : Nat) ({ cls := "java/lang/RuntimeException", name := "<init>", desc := "(Ljava/lang/String;)V" } : Jvm.MethodName)) ∈ lw_all := lw_g (lw_at lw_m13 130 rfl) rfl
theorem q3117 : (Jvm.Cond.lays "java/lang/ArithmeticException" "java/lang/Throwable" "backtrace" "Ljava/lang/Object;") ∈ lw_all := lw_g (lw_at lw_m13 131 rfl) rfl
theorem q3118 : (Jvm.Cond.lays "java/lang/ArithmeticException" "java/lang/Throwable" "detailMessage" "Ljava/lang/String;") ∈ lw_all := lw_g (lw_at lw_m13 132 rfl) rfl
theorem q3119 : (Jvm.Cond.lays "java/lang/ArithmeticException" "java/lang/Throwable" "cause" "Ljava/lang/Throwable;") ∈ lw_all := lw_g (lw_at lw_m13 133 rfl) rfl
theorem q3120 : (Jvm.Cond.lays "java/lang/ArithmeticException" "java/lang/Throwable" "stackTrace" "[Ljava/lang/StackTraceElement;") ∈ lw_all := lw_g (lw_at lw_m13 134 rfl) rfl
theorem q3121 : (Jvm.Cond.lays "java/lang/ArithmeticException" "java/lang/Throwable" "depth" "I") ∈ lw_all := lw_g (lw_at lw_m13 135 rfl) rfl
theorem q3122 : (Jvm.Cond.lays "java/lang/ArithmeticException" "java/lang/Throwable" "suppressedExceptions" "Ljava/util/List;") ∈ lw_all := lw_g (lw_at lw_m13 136 rfl) rfl
theorem q3123 : (Jvm.Cond.superclass "java/lang/ArithmeticException" "java/lang/RuntimeException") ∈ lw_all := lw_g (lw_at lw_m13 137 rfl) rfl
theorem q3124 : (Jvm.Cond.castable "java/lang/ArithmeticException" "java/lang/ArithmeticException") ∈ lw_tbl := lw_at lw_m13 138 rfl
theorem q3125 : (Jvm.Cond.selects "java/lang/ArithmeticException" ({ cls := "java/lang/Throwable", name := "fillInStackTrace", desc := "(I)Ljava/lang/Throwable;" } : Jvm.MethodName) ({ cls := "java/lang/Throwable", name := "fillInStackTrace", desc := "(I)Ljava/lang/Throwable;" } : Jvm.MethodName)) ∈ lw_all := lw_g (lw_at lw_m13 139 rfl) rfl
theorem q3132 : (Jvm.Cond.instanceMethod ({ cls := "java/lang/ArithmeticException", name := "<init>", desc := "()V" } : Jvm.MethodName)) ∈ lw_all := lw_g (lw_at lw_m13 146 rfl) rfl
theorem q3133 : (Jvm.Cond.code ({ cls := "java/lang/ArithmeticException", name := "<init>", desc := "()V" } : Jvm.MethodName) prog_35_method_1_code (1 : Nat) (Option.none : Option Jvm.ClassFile.FieldType)) ∈ lw_all := lw_g (lw_at lw_m13 147 rfl) rfl
theorem q3134 : (Jvm.Cond.methodLink "java/lang/ArithmeticException" (1 : Nat) ({ cls := "java/lang/RuntimeException", name := "<init>", desc := "()V" } : Jvm.MethodName)) ∈ lw_all := lw_g (lw_at lw_m13 148 rfl) rfl
theorem q4028 : (Jvm.Cond.castable "java/lang/ArithmeticException" "java/lang/Object") ∈ lw_tbl := lw_at lw_m17 82 rfl
theorem in_J48 : ∀ w ∈ wsJ480, w ∈ lw_all := lw_in wsJ480 [3117, 3118, 3119, 3120, 3121, 3122] (by decide +kernel) (by decide +kernel)

