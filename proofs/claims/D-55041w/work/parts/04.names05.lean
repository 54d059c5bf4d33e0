/-! java/util/TreeMap -/
set_option maxRecDepth 100000
def RJ27 : String := "java/util/TreeMap"
def TJ27 : u_T := fun k => match k with
  | 0 => ("java/util/AbstractMap", "keySet", "Ljava/util/Set;", false)
  | 1 => ("java/util/AbstractMap", "values", "Ljava/util/Collection;", false)
  | 2 => ("java/util/TreeMap", "comparator", "Ljava/util/Comparator;", true)
  | 3 => ("java/util/TreeMap", "root", "Ljava/util/TreeMap$Entry;", false)
  | 4 => ("java/util/TreeMap", "size", "I", false)
  | 5 => ("java/util/TreeMap", "modCount", "I", false)
  | 6 => ("java/util/TreeMap", "entrySet", "Ljava/util/TreeMap$EntrySet;", false)
  | 7 => ("java/util/TreeMap", "navigableKeySet", "Ljava/util/TreeMap$KeySet;", false)
  | _ => ("java/util/TreeMap", "descendingMap", "Ljava/util/NavigableMap;", false)
def tyJ27 : Nat → FieldType := fun k => match k with
  | 0 => .object "java/util/Set"
  | 1 => .object "java/util/Collection"
  | 2 => .object "java/util/Comparator"
  | 3 => .object "java/util/TreeMap$Entry"
  | 4 => .int
  | 5 => .int
  | 6 => .object "java/util/TreeMap$EntrySet"
  | 7 => .object "java/util/TreeMap$KeySet"
  | _ => .object "java/util/NavigableMap"
abbrev wsJ270 : List Cond := u_ws RJ27 TJ27 9
theorem nmJ27 : ∀ a, a < 9 → ∀ b, b < 9 → a ≠ b → (TJ27 a).2.1 ≠ (TJ27 b).2.1 := by decide +kernel
theorem tyJ27_ok : ∀ k, k < 9 → parseFieldDescriptor (TJ27 k).2.2.1 = some (tyJ27 k) := by decide +kernel
abbrev cJ27_successor : ByteArray := prog_103_method_74_code
def yJ27_successor : MethodName := ⟨RJ27, "successor", "(Ljava/util/TreeMap$Entry;)Ljava/util/TreeMap$Entry;"⟩
def dkwJ27_successor_2 : List UInt8 := [44, 43, 180, 0, 114, 166, 0, 13, 43, 77, 43, 180, 0, 124, 76, 167, 255, 237, 43, 176]
abbrev dktJ27_successor_2 : List UInt8 := dkwJ27_successor_2 ++ []
def dkwJ27_successor_1 : List UInt8 := [198, 0, 11, 43, 180, 0, 111, 76, 167, 255, 244, 43, 176, 42, 180, 0, 124, 76, 42, 77, 43, 198, 0, 21]
abbrev dktJ27_successor_1 : List UInt8 := dkwJ27_successor_1 ++ dktJ27_successor_2
def dkwJ27_successor_0 : List UInt8 := [42, 199, 0, 5, 1, 176, 42, 180, 0, 114, 198, 0, 25, 42, 180, 0, 114, 76, 43, 180, 0, 111]
abbrev dktJ27_successor_0 : List UInt8 := dkwJ27_successor_0 ++ dktJ27_successor_1
theorem dksJ27_successor_0 : cJ27_successor.data.toList.drop 0 = dktJ27_successor_0 := by decide +kernel
theorem dksJ27_successor_1 : cJ27_successor.data.toList.drop 22 = dktJ27_successor_1 := dk_seg dksJ27_successor_0 22 rfl rfl
theorem dksJ27_successor_2 : cJ27_successor.data.toList.drop 46 = dktJ27_successor_2 := dk_seg dksJ27_successor_1 24 rfl rfl
theorem dJ27_successor_0 : decode cJ27_successor 0 = .ok (.aload_n 0, 1) := dk_42 (dk_at dksJ27_successor_0 0 rfl rfl)
theorem dJ27_successor_1 : decode cJ27_successor 1 = .ok (.ifnonnull 5, 3) := dk_199 0 5 (dk_at dksJ27_successor_0 1 rfl rfl)
theorem dJ27_successor_4 : decode cJ27_successor 4 = .ok (.aconst_null, 1) := dk_1 (dk_at dksJ27_successor_0 4 rfl rfl)
theorem dJ27_successor_5 : decode cJ27_successor 5 = .ok (.areturn, 1) := dk_176 (dk_at dksJ27_successor_0 5 rfl rfl)
theorem dJ27_successor_6 : decode cJ27_successor 6 = .ok (.aload_n 0, 1) := dk_42 (dk_at dksJ27_successor_0 6 rfl rfl)
theorem dJ27_successor_7 : decode cJ27_successor 7 = .ok (.getfield 114, 3) := dk_180 0 114 (dk_at dksJ27_successor_0 7 rfl rfl)
theorem dJ27_successor_10 : decode cJ27_successor 10 = .ok (.ifnull 25, 3) := dk_198 0 25 (dk_at dksJ27_successor_0 10 rfl rfl)
theorem dJ27_successor_13 : decode cJ27_successor 13 = .ok (.aload_n 0, 1) := dk_42 (dk_at dksJ27_successor_0 13 rfl rfl)
theorem dJ27_successor_14 : decode cJ27_successor 14 = .ok (.getfield 114, 3) := dk_180 0 114 (dk_at dksJ27_successor_0 14 rfl rfl)
theorem dJ27_successor_17 : decode cJ27_successor 17 = .ok (.astore_n 1, 1) := dk_76 (dk_at dksJ27_successor_0 17 rfl rfl)
theorem dJ27_successor_18 : decode cJ27_successor 18 = .ok (.aload_n 1, 1) := dk_43 (dk_at dksJ27_successor_0 18 rfl rfl)
theorem dJ27_successor_19 : decode cJ27_successor 19 = .ok (.getfield 111, 3) := dk_180 0 111 (dk_at dksJ27_successor_0 19 rfl rfl)
theorem dJ27_successor_22 : decode cJ27_successor 22 = .ok (.ifnull 11, 3) := dk_198 0 11 (dk_at dksJ27_successor_1 0 rfl rfl)
theorem dJ27_successor_25 : decode cJ27_successor 25 = .ok (.aload_n 1, 1) := dk_43 (dk_at dksJ27_successor_1 3 rfl rfl)
theorem dJ27_successor_26 : decode cJ27_successor 26 = .ok (.getfield 111, 3) := dk_180 0 111 (dk_at dksJ27_successor_1 4 rfl rfl)
theorem dJ27_successor_29 : decode cJ27_successor 29 = .ok (.astore_n 1, 1) := dk_76 (dk_at dksJ27_successor_1 7 rfl rfl)
theorem dJ27_successor_30 : decode cJ27_successor 30 = .ok (.goto (-12), 3) := dk_167 255 244 (dk_at dksJ27_successor_1 8 rfl rfl)
theorem dJ27_successor_33 : decode cJ27_successor 33 = .ok (.aload_n 1, 1) := dk_43 (dk_at dksJ27_successor_1 11 rfl rfl)
theorem dJ27_successor_34 : decode cJ27_successor 34 = .ok (.areturn, 1) := dk_176 (dk_at dksJ27_successor_1 12 rfl rfl)
theorem dJ27_successor_35 : decode cJ27_successor 35 = .ok (.aload_n 0, 1) := dk_42 (dk_at dksJ27_successor_1 13 rfl rfl)
theorem dJ27_successor_36 : decode cJ27_successor 36 = .ok (.getfield 124, 3) := dk_180 0 124 (dk_at dksJ27_successor_1 14 rfl rfl)
theorem dJ27_successor_39 : decode cJ27_successor 39 = .ok (.astore_n 1, 1) := dk_76 (dk_at dksJ27_successor_1 17 rfl rfl)
theorem dJ27_successor_40 : decode cJ27_successor 40 = .ok (.aload_n 0, 1) := dk_42 (dk_at dksJ27_successor_1 18 rfl rfl)
theorem dJ27_successor_41 : decode cJ27_successor 41 = .ok (.astore_n 2, 1) := dk_77 (dk_at dksJ27_successor_1 19 rfl rfl)
theorem dJ27_successor_42 : decode cJ27_successor 42 = .ok (.aload_n 1, 1) := dk_43 (dk_at dksJ27_successor_1 20 rfl rfl)
theorem dJ27_successor_43 : decode cJ27_successor 43 = .ok (.ifnull 21, 3) := dk_198 0 21 (dk_at dksJ27_successor_1 21 rfl rfl)
theorem dJ27_successor_46 : decode cJ27_successor 46 = .ok (.aload_n 2, 1) := dk_44 (dk_at dksJ27_successor_2 0 rfl rfl)
theorem dJ27_successor_47 : decode cJ27_successor 47 = .ok (.aload_n 1, 1) := dk_43 (dk_at dksJ27_successor_2 1 rfl rfl)
theorem dJ27_successor_48 : decode cJ27_successor 48 = .ok (.getfield 114, 3) := dk_180 0 114 (dk_at dksJ27_successor_2 2 rfl rfl)
theorem dJ27_successor_51 : decode cJ27_successor 51 = .ok (.if_acmp .ne 13, 3) := dk_166 0 13 (dk_at dksJ27_successor_2 5 rfl rfl)
theorem dJ27_successor_54 : decode cJ27_successor 54 = .ok (.aload_n 1, 1) := dk_43 (dk_at dksJ27_successor_2 8 rfl rfl)
theorem dJ27_successor_55 : decode cJ27_successor 55 = .ok (.astore_n 2, 1) := dk_77 (dk_at dksJ27_successor_2 9 rfl rfl)
theorem dJ27_successor_56 : decode cJ27_successor 56 = .ok (.aload_n 1, 1) := dk_43 (dk_at dksJ27_successor_2 10 rfl rfl)
theorem dJ27_successor_57 : decode cJ27_successor 57 = .ok (.getfield 124, 3) := dk_180 0 124 (dk_at dksJ27_successor_2 11 rfl rfl)
theorem dJ27_successor_60 : decode cJ27_successor 60 = .ok (.astore_n 1, 1) := dk_76 (dk_at dksJ27_successor_2 14 rfl rfl)
theorem dJ27_successor_61 : decode cJ27_successor 61 = .ok (.goto (-19), 3) := dk_167 255 237 (dk_at dksJ27_successor_2 15 rfl rfl)
theorem dJ27_successor_64 : decode cJ27_successor 64 = .ok (.aload_n 1, 1) := dk_43 (dk_at dksJ27_successor_2 18 rfl rfl)
theorem dJ27_successor_65 : decode cJ27_successor 65 = .ok (.areturn, 1) := dk_176 (dk_at dksJ27_successor_2 19 rfl rfl)
abbrev cJ27_deleteEntry : ByteArray := prog_103_method_84_code
def yJ27_deleteEntry : MethodName := ⟨RJ27, "deleteEntry", "(Ljava/util/TreeMap$Entry;)V"⟩
def dkwJ27_deleteEntry_10 : List UInt8 := [180, 0, 124, 1, 181, 0, 114, 43, 1, 181, 0, 124, 177]
abbrev dktJ27_deleteEntry_10 : List UInt8 := dkwJ27_deleteEntry_10 ++ []
def dkwJ27_deleteEntry_9 : List UInt8 := [180, 0, 124, 1, 181, 0, 111, 167, 0, 22, 43, 43, 180, 0, 124, 180, 0, 114, 166, 0, 11, 43]
abbrev dktJ27_deleteEntry_9 : List UInt8 := dkwJ27_deleteEntry_9 ++ dktJ27_deleteEntry_10
def dkwJ27_deleteEntry_8 : List UInt8 := [182, 1, 61, 43, 180, 0, 124, 198, 0, 49, 43, 43, 180, 0, 124, 180, 0, 111, 166, 0, 14, 43]
abbrev dktJ27_deleteEntry_8 : List UInt8 := dkwJ27_deleteEntry_8 ++ dktJ27_deleteEntry_9
def dkwJ27_deleteEntry_7 : List UInt8 := [180, 0, 124, 199, 0, 11, 42, 1, 181, 0, 101, 167, 0, 69, 43, 180, 1, 34, 4, 160, 0, 8, 42, 43]
abbrev dktJ27_deleteEntry_7 : List UInt8 := dkwJ27_deleteEntry_7 ++ dktJ27_deleteEntry_8
def dkwJ27_deleteEntry_6 : List UInt8 := [181, 0, 114, 181, 0, 111, 43, 180, 1, 34, 4, 160, 0, 92, 42, 44, 182, 1, 61, 167, 0, 84, 43]
abbrev dktJ27_deleteEntry_6 : List UInt8 := dkwJ27_deleteEntry_6 ++ dktJ27_deleteEntry_7
def dkwJ27_deleteEntry_5 : List UInt8 := [181, 0, 111, 167, 0, 11, 43, 180, 0, 124, 44, 181, 0, 114, 43, 43, 43, 1, 90, 181, 0, 124, 90]
abbrev dktJ27_deleteEntry_5 : List UInt8 := dkwJ27_deleteEntry_5 ++ dktJ27_deleteEntry_6
def dkwJ27_deleteEntry_4 : List UInt8 := [44, 181, 0, 101, 167, 0, 33, 43, 43, 180, 0, 124, 180, 0, 111, 166, 0, 14, 43, 180, 0, 124, 44]
abbrev dktJ27_deleteEntry_4 : List UInt8 := dkwJ27_deleteEntry_4 ++ dktJ27_deleteEntry_5
def dkwJ27_deleteEntry_3 : List UInt8 := [180, 0, 114, 77, 44, 198, 0, 87, 44, 43, 180, 0, 124, 181, 0, 124, 43, 180, 0, 124, 199, 0, 11, 42]
abbrev dktJ27_deleteEntry_3 : List UInt8 := dkwJ27_deleteEntry_3 ++ dktJ27_deleteEntry_4
def dkwJ27_deleteEntry_2 : List UInt8 := [44, 180, 0, 58, 181, 0, 58, 44, 76, 43, 180, 0, 111, 198, 0, 10, 43, 180, 0, 111, 167, 0, 7, 43]
abbrev dktJ27_deleteEntry_2 : List UInt8 := dkwJ27_deleteEntry_2 ++ dktJ27_deleteEntry_3
def dkwJ27_deleteEntry_1 : List UInt8 := [198, 0, 33, 43, 180, 0, 114, 198, 0, 26, 43, 184, 0, 68, 77, 43, 44, 180, 0, 105, 181, 0, 105, 43]
abbrev dktJ27_deleteEntry_1 : List UInt8 := dkwJ27_deleteEntry_1 ++ dktJ27_deleteEntry_2
def dkwJ27_deleteEntry_0 : List UInt8 := [42, 89, 180, 0, 13, 4, 96, 181, 0, 13, 42, 89, 180, 0, 7, 4, 100, 181, 0, 7, 43, 180, 0, 111]
abbrev dktJ27_deleteEntry_0 : List UInt8 := dkwJ27_deleteEntry_0 ++ dktJ27_deleteEntry_1
theorem dksJ27_deleteEntry_0 : cJ27_deleteEntry.data.toList.drop 0 = dktJ27_deleteEntry_0 := by decide +kernel
theorem dksJ27_deleteEntry_1 : cJ27_deleteEntry.data.toList.drop 24 = dktJ27_deleteEntry_1 := dk_seg dksJ27_deleteEntry_0 24 rfl rfl
theorem dksJ27_deleteEntry_2 : cJ27_deleteEntry.data.toList.drop 48 = dktJ27_deleteEntry_2 := dk_seg dksJ27_deleteEntry_1 24 rfl rfl
theorem dksJ27_deleteEntry_3 : cJ27_deleteEntry.data.toList.drop 72 = dktJ27_deleteEntry_3 := dk_seg dksJ27_deleteEntry_2 24 rfl rfl
theorem dksJ27_deleteEntry_4 : cJ27_deleteEntry.data.toList.drop 96 = dktJ27_deleteEntry_4 := dk_seg dksJ27_deleteEntry_3 24 rfl rfl
theorem dksJ27_deleteEntry_5 : cJ27_deleteEntry.data.toList.drop 119 = dktJ27_deleteEntry_5 := dk_seg dksJ27_deleteEntry_4 23 rfl rfl
theorem dksJ27_deleteEntry_6 : cJ27_deleteEntry.data.toList.drop 142 = dktJ27_deleteEntry_6 := dk_seg dksJ27_deleteEntry_5 23 rfl rfl
theorem dksJ27_deleteEntry_7 : cJ27_deleteEntry.data.toList.drop 165 = dktJ27_deleteEntry_7 := dk_seg dksJ27_deleteEntry_6 23 rfl rfl
theorem dksJ27_deleteEntry_8 : cJ27_deleteEntry.data.toList.drop 189 = dktJ27_deleteEntry_8 := dk_seg dksJ27_deleteEntry_7 24 rfl rfl
theorem dksJ27_deleteEntry_9 : cJ27_deleteEntry.data.toList.drop 211 = dktJ27_deleteEntry_9 := dk_seg dksJ27_deleteEntry_8 22 rfl rfl
theorem dksJ27_deleteEntry_10 : cJ27_deleteEntry.data.toList.drop 233 = dktJ27_deleteEntry_10 := dk_seg dksJ27_deleteEntry_9 22 rfl rfl
theorem dJ27_deleteEntry_0 : decode cJ27_deleteEntry 0 = .ok (.aload_n 0, 1) := dk_42 (dk_at dksJ27_deleteEntry_0 0 rfl rfl)
theorem dJ27_deleteEntry_1 : decode cJ27_deleteEntry 1 = .ok (.dup, 1) := dk_89 (dk_at dksJ27_deleteEntry_0 1 rfl rfl)
theorem dJ27_deleteEntry_2 : decode cJ27_deleteEntry 2 = .ok (.getfield 13, 3) := dk_180 0 13 (dk_at dksJ27_deleteEntry_0 2 rfl rfl)
theorem dJ27_deleteEntry_5 : decode cJ27_deleteEntry 5 = .ok (.iconst 1, 1) := dk_4 (dk_at dksJ27_deleteEntry_0 5 rfl rfl)
theorem dJ27_deleteEntry_6 : decode cJ27_deleteEntry 6 = .ok (.iadd, 1) := dk_96 (dk_at dksJ27_deleteEntry_0 6 rfl rfl)
theorem dJ27_deleteEntry_7 : decode cJ27_deleteEntry 7 = .ok (.putfield 13, 3) := dk_181 0 13 (dk_at dksJ27_deleteEntry_0 7 rfl rfl)
theorem dJ27_deleteEntry_10 : decode cJ27_deleteEntry 10 = .ok (.aload_n 0, 1) := dk_42 (dk_at dksJ27_deleteEntry_0 10 rfl rfl)
theorem dJ27_deleteEntry_11 : decode cJ27_deleteEntry 11 = .ok (.dup, 1) := dk_89 (dk_at dksJ27_deleteEntry_0 11 rfl rfl)
theorem dJ27_deleteEntry_12 : decode cJ27_deleteEntry 12 = .ok (.getfield 7, 3) := dk_180 0 7 (dk_at dksJ27_deleteEntry_0 12 rfl rfl)
theorem dJ27_deleteEntry_15 : decode cJ27_deleteEntry 15 = .ok (.iconst 1, 1) := dk_4 (dk_at dksJ27_deleteEntry_0 15 rfl rfl)
theorem dJ27_deleteEntry_16 : decode cJ27_deleteEntry 16 = .ok (.isub, 1) := dk_100 (dk_at dksJ27_deleteEntry_0 16 rfl rfl)
theorem dJ27_deleteEntry_17 : decode cJ27_deleteEntry 17 = .ok (.putfield 7, 3) := dk_181 0 7 (dk_at dksJ27_deleteEntry_0 17 rfl rfl)
theorem dJ27_deleteEntry_20 : decode cJ27_deleteEntry 20 = .ok (.aload_n 1, 1) := dk_43 (dk_at dksJ27_deleteEntry_0 20 rfl rfl)
theorem dJ27_deleteEntry_21 : decode cJ27_deleteEntry 21 = .ok (.getfield 111, 3) := dk_180 0 111 (dk_at dksJ27_deleteEntry_0 21 rfl rfl)
theorem dJ27_deleteEntry_24 : decode cJ27_deleteEntry 24 = .ok (.ifnull 33, 3) := dk_198 0 33 (dk_at dksJ27_deleteEntry_1 0 rfl rfl)
theorem dJ27_deleteEntry_27 : decode cJ27_deleteEntry 27 = .ok (.aload_n 1, 1) := dk_43 (dk_at dksJ27_deleteEntry_1 3 rfl rfl)
theorem dJ27_deleteEntry_28 : decode cJ27_deleteEntry 28 = .ok (.getfield 114, 3) := dk_180 0 114 (dk_at dksJ27_deleteEntry_1 4 rfl rfl)
theorem dJ27_deleteEntry_31 : decode cJ27_deleteEntry 31 = .ok (.ifnull 26, 3) := dk_198 0 26 (dk_at dksJ27_deleteEntry_1 7 rfl rfl)
theorem dJ27_deleteEntry_34 : decode cJ27_deleteEntry 34 = .ok (.aload_n 1, 1) := dk_43 (dk_at dksJ27_deleteEntry_1 10 rfl rfl)
theorem dJ27_deleteEntry_35 : decode cJ27_deleteEntry 35 = .ok (.invokestatic 68, 3) := dk_184 0 68 (dk_at dksJ27_deleteEntry_1 11 rfl rfl)
theorem dJ27_deleteEntry_38 : decode cJ27_deleteEntry 38 = .ok (.astore_n 2, 1) := dk_77 (dk_at dksJ27_deleteEntry_1 14 rfl rfl)
theorem dJ27_deleteEntry_39 : decode cJ27_deleteEntry 39 = .ok (.aload_n 1, 1) := dk_43 (dk_at dksJ27_deleteEntry_1 15 rfl rfl)
theorem dJ27_deleteEntry_40 : decode cJ27_deleteEntry 40 = .ok (.aload_n 2, 1) := dk_44 (dk_at dksJ27_deleteEntry_1 16 rfl rfl)
theorem dJ27_deleteEntry_41 : decode cJ27_deleteEntry 41 = .ok (.getfield 105, 3) := dk_180 0 105 (dk_at dksJ27_deleteEntry_1 17 rfl rfl)
theorem dJ27_deleteEntry_44 : decode cJ27_deleteEntry 44 = .ok (.putfield 105, 3) := dk_181 0 105 (dk_at dksJ27_deleteEntry_1 20 rfl rfl)
theorem dJ27_deleteEntry_47 : decode cJ27_deleteEntry 47 = .ok (.aload_n 1, 1) := dk_43 (dk_at dksJ27_deleteEntry_1 23 rfl rfl)
theorem dJ27_deleteEntry_48 : decode cJ27_deleteEntry 48 = .ok (.aload_n 2, 1) := dk_44 (dk_at dksJ27_deleteEntry_2 0 rfl rfl)
theorem dJ27_deleteEntry_49 : decode cJ27_deleteEntry 49 = .ok (.getfield 58, 3) := dk_180 0 58 (dk_at dksJ27_deleteEntry_2 1 rfl rfl)
theorem dJ27_deleteEntry_52 : decode cJ27_deleteEntry 52 = .ok (.putfield 58, 3) := dk_181 0 58 (dk_at dksJ27_deleteEntry_2 4 rfl rfl)
theorem dJ27_deleteEntry_55 : decode cJ27_deleteEntry 55 = .ok (.aload_n 2, 1) := dk_44 (dk_at dksJ27_deleteEntry_2 7 rfl rfl)
theorem dJ27_deleteEntry_56 : decode cJ27_deleteEntry 56 = .ok (.astore_n 1, 1) := dk_76 (dk_at dksJ27_deleteEntry_2 8 rfl rfl)
theorem dJ27_deleteEntry_57 : decode cJ27_deleteEntry 57 = .ok (.aload_n 1, 1) := dk_43 (dk_at dksJ27_deleteEntry_2 9 rfl rfl)
theorem dJ27_deleteEntry_58 : decode cJ27_deleteEntry 58 = .ok (.getfield 111, 3) := dk_180 0 111 (dk_at dksJ27_deleteEntry_2 10 rfl rfl)
theorem dJ27_deleteEntry_61 : decode cJ27_deleteEntry 61 = .ok (.ifnull 10, 3) := dk_198 0 10 (dk_at dksJ27_deleteEntry_2 13 rfl rfl)
theorem dJ27_deleteEntry_64 : decode cJ27_deleteEntry 64 = .ok (.aload_n 1, 1) := dk_43 (dk_at dksJ27_deleteEntry_2 16 rfl rfl)
theorem dJ27_deleteEntry_65 : decode cJ27_deleteEntry 65 = .ok (.getfield 111, 3) := dk_180 0 111 (dk_at dksJ27_deleteEntry_2 17 rfl rfl)
theorem dJ27_deleteEntry_68 : decode cJ27_deleteEntry 68 = .ok (.goto 7, 3) := dk_167 0 7 (dk_at dksJ27_deleteEntry_2 20 rfl rfl)
theorem dJ27_deleteEntry_71 : decode cJ27_deleteEntry 71 = .ok (.aload_n 1, 1) := dk_43 (dk_at dksJ27_deleteEntry_2 23 rfl rfl)
theorem dJ27_deleteEntry_72 : decode cJ27_deleteEntry 72 = .ok (.getfield 114, 3) := dk_180 0 114 (dk_at dksJ27_deleteEntry_3 0 rfl rfl)
theorem dJ27_deleteEntry_75 : decode cJ27_deleteEntry 75 = .ok (.astore_n 2, 1) := dk_77 (dk_at dksJ27_deleteEntry_3 3 rfl rfl)
theorem dJ27_deleteEntry_76 : decode cJ27_deleteEntry 76 = .ok (.aload_n 2, 1) := dk_44 (dk_at dksJ27_deleteEntry_3 4 rfl rfl)
theorem dJ27_deleteEntry_77 : decode cJ27_deleteEntry 77 = .ok (.ifnull 87, 3) := dk_198 0 87 (dk_at dksJ27_deleteEntry_3 5 rfl rfl)
theorem dJ27_deleteEntry_80 : decode cJ27_deleteEntry 80 = .ok (.aload_n 2, 1) := dk_44 (dk_at dksJ27_deleteEntry_3 8 rfl rfl)
theorem dJ27_deleteEntry_81 : decode cJ27_deleteEntry 81 = .ok (.aload_n 1, 1) := dk_43 (dk_at dksJ27_deleteEntry_3 9 rfl rfl)
theorem dJ27_deleteEntry_82 : decode cJ27_deleteEntry 82 = .ok (.getfield 124, 3) := dk_180 0 124 (dk_at dksJ27_deleteEntry_3 10 rfl rfl)
theorem dJ27_deleteEntry_85 : decode cJ27_deleteEntry 85 = .ok (.putfield 124, 3) := dk_181 0 124 (dk_at dksJ27_deleteEntry_3 13 rfl rfl)
theorem dJ27_deleteEntry_88 : decode cJ27_deleteEntry 88 = .ok (.aload_n 1, 1) := dk_43 (dk_at dksJ27_deleteEntry_3 16 rfl rfl)
theorem dJ27_deleteEntry_89 : decode cJ27_deleteEntry 89 = .ok (.getfield 124, 3) := dk_180 0 124 (dk_at dksJ27_deleteEntry_3 17 rfl rfl)
theorem dJ27_deleteEntry_92 : decode cJ27_deleteEntry 92 = .ok (.ifnonnull 11, 3) := dk_199 0 11 (dk_at dksJ27_deleteEntry_3 20 rfl rfl)
theorem dJ27_deleteEntry_95 : decode cJ27_deleteEntry 95 = .ok (.aload_n 0, 1) := dk_42 (dk_at dksJ27_deleteEntry_3 23 rfl rfl)
theorem dJ27_deleteEntry_96 : decode cJ27_deleteEntry 96 = .ok (.aload_n 2, 1) := dk_44 (dk_at dksJ27_deleteEntry_4 0 rfl rfl)
theorem dJ27_deleteEntry_97 : decode cJ27_deleteEntry 97 = .ok (.putfield 101, 3) := dk_181 0 101 (dk_at dksJ27_deleteEntry_4 1 rfl rfl)
theorem dJ27_deleteEntry_100 : decode cJ27_deleteEntry 100 = .ok (.goto 33, 3) := dk_167 0 33 (dk_at dksJ27_deleteEntry_4 4 rfl rfl)
theorem dJ27_deleteEntry_103 : decode cJ27_deleteEntry 103 = .ok (.aload_n 1, 1) := dk_43 (dk_at dksJ27_deleteEntry_4 7 rfl rfl)
theorem dJ27_deleteEntry_104 : decode cJ27_deleteEntry 104 = .ok (.aload_n 1, 1) := dk_43 (dk_at dksJ27_deleteEntry_4 8 rfl rfl)
theorem dJ27_deleteEntry_105 : decode cJ27_deleteEntry 105 = .ok (.getfield 124, 3) := dk_180 0 124 (dk_at dksJ27_deleteEntry_4 9 rfl rfl)
theorem dJ27_deleteEntry_108 : decode cJ27_deleteEntry 108 = .ok (.getfield 111, 3) := dk_180 0 111 (dk_at dksJ27_deleteEntry_4 12 rfl rfl)
theorem dJ27_deleteEntry_111 : decode cJ27_deleteEntry 111 = .ok (.if_acmp .ne 14, 3) := dk_166 0 14 (dk_at dksJ27_deleteEntry_4 15 rfl rfl)
theorem dJ27_deleteEntry_114 : decode cJ27_deleteEntry 114 = .ok (.aload_n 1, 1) := dk_43 (dk_at dksJ27_deleteEntry_4 18 rfl rfl)
theorem dJ27_deleteEntry_115 : decode cJ27_deleteEntry 115 = .ok (.getfield 124, 3) := dk_180 0 124 (dk_at dksJ27_deleteEntry_4 19 rfl rfl)
theorem dJ27_deleteEntry_118 : decode cJ27_deleteEntry 118 = .ok (.aload_n 2, 1) := dk_44 (dk_at dksJ27_deleteEntry_4 22 rfl rfl)
theorem dJ27_deleteEntry_119 : decode cJ27_deleteEntry 119 = .ok (.putfield 111, 3) := dk_181 0 111 (dk_at dksJ27_deleteEntry_5 0 rfl rfl)
theorem dJ27_deleteEntry_122 : decode cJ27_deleteEntry 122 = .ok (.goto 11, 3) := dk_167 0 11 (dk_at dksJ27_deleteEntry_5 3 rfl rfl)
theorem dJ27_deleteEntry_125 : decode cJ27_deleteEntry 125 = .ok (.aload_n 1, 1) := dk_43 (dk_at dksJ27_deleteEntry_5 6 rfl rfl)
theorem dJ27_deleteEntry_126 : decode cJ27_deleteEntry 126 = .ok (.getfield 124, 3) := dk_180 0 124 (dk_at dksJ27_deleteEntry_5 7 rfl rfl)
theorem dJ27_deleteEntry_129 : decode cJ27_deleteEntry 129 = .ok (.aload_n 2, 1) := dk_44 (dk_at dksJ27_deleteEntry_5 10 rfl rfl)
theorem dJ27_deleteEntry_130 : decode cJ27_deleteEntry 130 = .ok (.putfield 114, 3) := dk_181 0 114 (dk_at dksJ27_deleteEntry_5 11 rfl rfl)
theorem dJ27_deleteEntry_133 : decode cJ27_deleteEntry 133 = .ok (.aload_n 1, 1) := dk_43 (dk_at dksJ27_deleteEntry_5 14 rfl rfl)
theorem dJ27_deleteEntry_134 : decode cJ27_deleteEntry 134 = .ok (.aload_n 1, 1) := dk_43 (dk_at dksJ27_deleteEntry_5 15 rfl rfl)
theorem dJ27_deleteEntry_135 : decode cJ27_deleteEntry 135 = .ok (.aload_n 1, 1) := dk_43 (dk_at dksJ27_deleteEntry_5 16 rfl rfl)
theorem dJ27_deleteEntry_136 : decode cJ27_deleteEntry 136 = .ok (.aconst_null, 1) := dk_1 (dk_at dksJ27_deleteEntry_5 17 rfl rfl)
theorem dJ27_deleteEntry_137 : decode cJ27_deleteEntry 137 = .ok (.dup_x1, 1) := dk_90 (dk_at dksJ27_deleteEntry_5 18 rfl rfl)
theorem dJ27_deleteEntry_138 : decode cJ27_deleteEntry 138 = .ok (.putfield 124, 3) := dk_181 0 124 (dk_at dksJ27_deleteEntry_5 19 rfl rfl)
theorem dJ27_deleteEntry_141 : decode cJ27_deleteEntry 141 = .ok (.dup_x1, 1) := dk_90 (dk_at dksJ27_deleteEntry_5 22 rfl rfl)
theorem dJ27_deleteEntry_142 : decode cJ27_deleteEntry 142 = .ok (.putfield 114, 3) := dk_181 0 114 (dk_at dksJ27_deleteEntry_6 0 rfl rfl)
theorem dJ27_deleteEntry_145 : decode cJ27_deleteEntry 145 = .ok (.putfield 111, 3) := dk_181 0 111 (dk_at dksJ27_deleteEntry_6 3 rfl rfl)
theorem dJ27_deleteEntry_148 : decode cJ27_deleteEntry 148 = .ok (.aload_n 1, 1) := dk_43 (dk_at dksJ27_deleteEntry_6 6 rfl rfl)
theorem dJ27_deleteEntry_149 : decode cJ27_deleteEntry 149 = .ok (.getfield 290, 3) := dk_180 1 34 (dk_at dksJ27_deleteEntry_6 7 rfl rfl)
theorem dJ27_deleteEntry_152 : decode cJ27_deleteEntry 152 = .ok (.iconst 1, 1) := dk_4 (dk_at dksJ27_deleteEntry_6 10 rfl rfl)
theorem dJ27_deleteEntry_153 : decode cJ27_deleteEntry 153 = .ok (.if_icmp .ne 92, 3) := dk_160 0 92 (dk_at dksJ27_deleteEntry_6 11 rfl rfl)
theorem dJ27_deleteEntry_156 : decode cJ27_deleteEntry 156 = .ok (.aload_n 0, 1) := dk_42 (dk_at dksJ27_deleteEntry_6 14 rfl rfl)
theorem dJ27_deleteEntry_157 : decode cJ27_deleteEntry 157 = .ok (.aload_n 2, 1) := dk_44 (dk_at dksJ27_deleteEntry_6 15 rfl rfl)
theorem dJ27_deleteEntry_158 : decode cJ27_deleteEntry 158 = .ok (.invokevirtual 317, 3) := dk_182 1 61 (dk_at dksJ27_deleteEntry_6 16 rfl rfl)
theorem dJ27_deleteEntry_161 : decode cJ27_deleteEntry 161 = .ok (.goto 84, 3) := dk_167 0 84 (dk_at dksJ27_deleteEntry_6 19 rfl rfl)
theorem dJ27_deleteEntry_164 : decode cJ27_deleteEntry 164 = .ok (.aload_n 1, 1) := dk_43 (dk_at dksJ27_deleteEntry_6 22 rfl rfl)
theorem dJ27_deleteEntry_165 : decode cJ27_deleteEntry 165 = .ok (.getfield 124, 3) := dk_180 0 124 (dk_at dksJ27_deleteEntry_7 0 rfl rfl)
theorem dJ27_deleteEntry_168 : decode cJ27_deleteEntry 168 = .ok (.ifnonnull 11, 3) := dk_199 0 11 (dk_at dksJ27_deleteEntry_7 3 rfl rfl)
theorem dJ27_deleteEntry_171 : decode cJ27_deleteEntry 171 = .ok (.aload_n 0, 1) := dk_42 (dk_at dksJ27_deleteEntry_7 6 rfl rfl)
theorem dJ27_deleteEntry_172 : decode cJ27_deleteEntry 172 = .ok (.aconst_null, 1) := dk_1 (dk_at dksJ27_deleteEntry_7 7 rfl rfl)
theorem dJ27_deleteEntry_173 : decode cJ27_deleteEntry 173 = .ok (.putfield 101, 3) := dk_181 0 101 (dk_at dksJ27_deleteEntry_7 8 rfl rfl)
theorem dJ27_deleteEntry_176 : decode cJ27_deleteEntry 176 = .ok (.goto 69, 3) := dk_167 0 69 (dk_at dksJ27_deleteEntry_7 11 rfl rfl)
theorem dJ27_deleteEntry_179 : decode cJ27_deleteEntry 179 = .ok (.aload_n 1, 1) := dk_43 (dk_at dksJ27_deleteEntry_7 14 rfl rfl)
theorem dJ27_deleteEntry_180 : decode cJ27_deleteEntry 180 = .ok (.getfield 290, 3) := dk_180 1 34 (dk_at dksJ27_deleteEntry_7 15 rfl rfl)
theorem dJ27_deleteEntry_183 : decode cJ27_deleteEntry 183 = .ok (.iconst 1, 1) := dk_4 (dk_at dksJ27_deleteEntry_7 18 rfl rfl)
theorem dJ27_deleteEntry_184 : decode cJ27_deleteEntry 184 = .ok (.if_icmp .ne 8, 3) := dk_160 0 8 (dk_at dksJ27_deleteEntry_7 19 rfl rfl)
theorem dJ27_deleteEntry_187 : decode cJ27_deleteEntry 187 = .ok (.aload_n 0, 1) := dk_42 (dk_at dksJ27_deleteEntry_7 22 rfl rfl)
theorem dJ27_deleteEntry_188 : decode cJ27_deleteEntry 188 = .ok (.aload_n 1, 1) := dk_43 (dk_at dksJ27_deleteEntry_7 23 rfl rfl)
theorem dJ27_deleteEntry_189 : decode cJ27_deleteEntry 189 = .ok (.invokevirtual 317, 3) := dk_182 1 61 (dk_at dksJ27_deleteEntry_8 0 rfl rfl)
theorem dJ27_deleteEntry_192 : decode cJ27_deleteEntry 192 = .ok (.aload_n 1, 1) := dk_43 (dk_at dksJ27_deleteEntry_8 3 rfl rfl)
theorem dJ27_deleteEntry_193 : decode cJ27_deleteEntry 193 = .ok (.getfield 124, 3) := dk_180 0 124 (dk_at dksJ27_deleteEntry_8 4 rfl rfl)
theorem dJ27_deleteEntry_196 : decode cJ27_deleteEntry 196 = .ok (.ifnull 49, 3) := dk_198 0 49 (dk_at dksJ27_deleteEntry_8 7 rfl rfl)
theorem dJ27_deleteEntry_199 : decode cJ27_deleteEntry 199 = .ok (.aload_n 1, 1) := dk_43 (dk_at dksJ27_deleteEntry_8 10 rfl rfl)
theorem dJ27_deleteEntry_200 : decode cJ27_deleteEntry 200 = .ok (.aload_n 1, 1) := dk_43 (dk_at dksJ27_deleteEntry_8 11 rfl rfl)
theorem dJ27_deleteEntry_201 : decode cJ27_deleteEntry 201 = .ok (.getfield 124, 3) := dk_180 0 124 (dk_at dksJ27_deleteEntry_8 12 rfl rfl)
theorem dJ27_deleteEntry_204 : decode cJ27_deleteEntry 204 = .ok (.getfield 111, 3) := dk_180 0 111 (dk_at dksJ27_deleteEntry_8 15 rfl rfl)
theorem dJ27_deleteEntry_207 : decode cJ27_deleteEntry 207 = .ok (.if_acmp .ne 14, 3) := dk_166 0 14 (dk_at dksJ27_deleteEntry_8 18 rfl rfl)
theorem dJ27_deleteEntry_210 : decode cJ27_deleteEntry 210 = .ok (.aload_n 1, 1) := dk_43 (dk_at dksJ27_deleteEntry_8 21 rfl rfl)
theorem dJ27_deleteEntry_211 : decode cJ27_deleteEntry 211 = .ok (.getfield 124, 3) := dk_180 0 124 (dk_at dksJ27_deleteEntry_9 0 rfl rfl)
theorem dJ27_deleteEntry_214 : decode cJ27_deleteEntry 214 = .ok (.aconst_null, 1) := dk_1 (dk_at dksJ27_deleteEntry_9 3 rfl rfl)
theorem dJ27_deleteEntry_215 : decode cJ27_deleteEntry 215 = .ok (.putfield 111, 3) := dk_181 0 111 (dk_at dksJ27_deleteEntry_9 4 rfl rfl)
theorem dJ27_deleteEntry_218 : decode cJ27_deleteEntry 218 = .ok (.goto 22, 3) := dk_167 0 22 (dk_at dksJ27_deleteEntry_9 7 rfl rfl)
theorem dJ27_deleteEntry_221 : decode cJ27_deleteEntry 221 = .ok (.aload_n 1, 1) := dk_43 (dk_at dksJ27_deleteEntry_9 10 rfl rfl)
theorem dJ27_deleteEntry_222 : decode cJ27_deleteEntry 222 = .ok (.aload_n 1, 1) := dk_43 (dk_at dksJ27_deleteEntry_9 11 rfl rfl)
theorem dJ27_deleteEntry_223 : decode cJ27_deleteEntry 223 = .ok (.getfield 124, 3) := dk_180 0 124 (dk_at dksJ27_deleteEntry_9 12 rfl rfl)
theorem dJ27_deleteEntry_226 : decode cJ27_deleteEntry 226 = .ok (.getfield 114, 3) := dk_180 0 114 (dk_at dksJ27_deleteEntry_9 15 rfl rfl)
theorem dJ27_deleteEntry_229 : decode cJ27_deleteEntry 229 = .ok (.if_acmp .ne 11, 3) := dk_166 0 11 (dk_at dksJ27_deleteEntry_9 18 rfl rfl)
theorem dJ27_deleteEntry_232 : decode cJ27_deleteEntry 232 = .ok (.aload_n 1, 1) := dk_43 (dk_at dksJ27_deleteEntry_9 21 rfl rfl)
theorem dJ27_deleteEntry_233 : decode cJ27_deleteEntry 233 = .ok (.getfield 124, 3) := dk_180 0 124 (dk_at dksJ27_deleteEntry_10 0 rfl rfl)
theorem dJ27_deleteEntry_236 : decode cJ27_deleteEntry 236 = .ok (.aconst_null, 1) := dk_1 (dk_at dksJ27_deleteEntry_10 3 rfl rfl)
theorem dJ27_deleteEntry_237 : decode cJ27_deleteEntry 237 = .ok (.putfield 114, 3) := dk_181 0 114 (dk_at dksJ27_deleteEntry_10 4 rfl rfl)
theorem dJ27_deleteEntry_240 : decode cJ27_deleteEntry 240 = .ok (.aload_n 1, 1) := dk_43 (dk_at dksJ27_deleteEntry_10 7 rfl rfl)
theorem dJ27_deleteEntry_241 : decode cJ27_deleteEntry 241 = .ok (.aconst_null, 1) := dk_1 (dk_at dksJ27_deleteEntry_10 8 rfl rfl)
theorem dJ27_deleteEntry_242 : decode cJ27_deleteEntry 242 = .ok (.putfield 124, 3) := dk_181 0 124 (dk_at dksJ27_deleteEntry_10 9 rfl rfl)
theorem dJ27_deleteEntry_245 : decode cJ27_deleteEntry 245 = .ok (.return_, 1) := dk_177 (dk_at dksJ27_deleteEntry_10 12 rfl rfl)
abbrev cJ27_fixAfterDeletion : ByteArray := prog_103_method_85_code
def yJ27_fixAfterDeletion : MethodName := ⟨RJ27, "fixAfterDeletion", "(Ljava/util/TreeMap$Entry;)V"⟩
def dkwJ27_fixAfterDeletion_14 : List UInt8 := [182, 1, 58, 42, 180, 0, 101, 76, 167, 254, 170, 43, 4, 184, 1, 51, 177]
abbrev dktJ27_fixAfterDeletion_14 : List UInt8 := dkwJ27_fixAfterDeletion_14 ++ []
def dkwJ27_fixAfterDeletion_13 : List UInt8 := [184, 1, 51, 43, 184, 1, 38, 4, 184, 1, 51, 44, 184, 1, 41, 4, 184, 1, 51, 42, 43, 184, 1, 38]
abbrev dktJ27_fixAfterDeletion_13 : List UInt8 := dkwJ27_fixAfterDeletion_13 ++ dktJ27_fixAfterDeletion_14
def dkwJ27_fixAfterDeletion_12 : List UInt8 := [184, 1, 51, 42, 44, 182, 1, 55, 43, 184, 1, 38, 184, 1, 41, 77, 44, 43, 184, 1, 38, 184, 1, 47]
abbrev dktJ27_fixAfterDeletion_12 : List UInt8 := dkwJ27_fixAfterDeletion_12 ++ dktJ27_fixAfterDeletion_13
def dkwJ27_fixAfterDeletion_11 : List UInt8 := [167, 0, 80, 44, 184, 1, 41, 184, 1, 47, 4, 160, 0, 29, 44, 184, 1, 44, 4, 184, 1, 51, 44, 3]
abbrev dktJ27_fixAfterDeletion_11 : List UInt8 := dkwJ27_fixAfterDeletion_11 ++ dktJ27_fixAfterDeletion_12
def dkwJ27_fixAfterDeletion_10 : List UInt8 := [160, 0, 27, 44, 184, 1, 41, 184, 1, 47, 4, 160, 0, 16, 44, 3, 184, 1, 51, 43, 184, 1, 38, 76]
abbrev dktJ27_fixAfterDeletion_10 : List UInt8 := dkwJ27_fixAfterDeletion_10 ++ dktJ27_fixAfterDeletion_11
def dkwJ27_fixAfterDeletion_9 : List UInt8 := [42, 43, 184, 1, 38, 182, 1, 58, 43, 184, 1, 38, 184, 1, 41, 77, 44, 184, 1, 44, 184, 1, 47, 4]
abbrev dktJ27_fixAfterDeletion_9 : List UInt8 := dkwJ27_fixAfterDeletion_9 ++ dktJ27_fixAfterDeletion_10
def dkwJ27_fixAfterDeletion_8 : List UInt8 := [184, 1, 41, 77, 44, 184, 1, 47, 154, 0, 32, 44, 4, 184, 1, 51, 43, 184, 1, 38, 3, 184, 1, 51]
abbrev dktJ27_fixAfterDeletion_8 : List UInt8 := dkwJ27_fixAfterDeletion_8 ++ dktJ27_fixAfterDeletion_9
def dkwJ27_fixAfterDeletion_7 : List UInt8 := [4, 184, 1, 51, 42, 43, 184, 1, 38, 182, 1, 55, 42, 180, 0, 101, 76, 167, 255, 73, 43, 184, 1, 38]
abbrev dktJ27_fixAfterDeletion_7 : List UInt8 := dkwJ27_fixAfterDeletion_7 ++ dktJ27_fixAfterDeletion_8
def dkwJ27_fixAfterDeletion_6 : List UInt8 := [77, 44, 43, 184, 1, 38, 184, 1, 47, 184, 1, 51, 43, 184, 1, 38, 4, 184, 1, 51, 44, 184, 1, 44]
abbrev dktJ27_fixAfterDeletion_6 : List UInt8 := dkwJ27_fixAfterDeletion_6 ++ dktJ27_fixAfterDeletion_7
def dkwJ27_fixAfterDeletion_5 : List UInt8 := [184, 1, 41, 4, 184, 1, 51, 44, 3, 184, 1, 51, 42, 44, 182, 1, 58, 43, 184, 1, 38, 184, 1, 44]
abbrev dktJ27_fixAfterDeletion_5 : List UInt8 := dkwJ27_fixAfterDeletion_5 ++ dktJ27_fixAfterDeletion_6
def dkwJ27_fixAfterDeletion_4 : List UInt8 := [184, 1, 51, 43, 184, 1, 38, 76, 167, 0, 80, 44, 184, 1, 44, 184, 1, 47, 4, 160, 0, 29, 44]
abbrev dktJ27_fixAfterDeletion_4 : List UInt8 := dkwJ27_fixAfterDeletion_4 ++ dktJ27_fixAfterDeletion_5
def dkwJ27_fixAfterDeletion_3 : List UInt8 := [184, 1, 41, 184, 1, 47, 4, 160, 0, 27, 44, 184, 1, 44, 184, 1, 47, 4, 160, 0, 16, 44, 3]
abbrev dktJ27_fixAfterDeletion_3 : List UInt8 := dkwJ27_fixAfterDeletion_3 ++ dktJ27_fixAfterDeletion_4
def dkwJ27_fixAfterDeletion_2 : List UInt8 := [184, 1, 38, 3, 184, 1, 51, 42, 43, 184, 1, 38, 182, 1, 55, 43, 184, 1, 38, 184, 1, 44, 77, 44]
abbrev dktJ27_fixAfterDeletion_2 : List UInt8 := dkwJ27_fixAfterDeletion_2 ++ dktJ27_fixAfterDeletion_3
def dkwJ27_fixAfterDeletion_1 : List UInt8 := [166, 0, 162, 43, 184, 1, 38, 184, 1, 44, 77, 44, 184, 1, 47, 154, 0, 32, 44, 4, 184, 1, 51, 43]
abbrev dktJ27_fixAfterDeletion_1 : List UInt8 := dkwJ27_fixAfterDeletion_1 ++ dktJ27_fixAfterDeletion_2
def dkwJ27_fixAfterDeletion_0 : List UInt8 := [43, 42, 180, 0, 101, 165, 1, 84, 43, 184, 1, 47, 4, 160, 1, 76, 43, 43, 184, 1, 38, 184, 1, 41]
abbrev dktJ27_fixAfterDeletion_0 : List UInt8 := dkwJ27_fixAfterDeletion_0 ++ dktJ27_fixAfterDeletion_1
theorem dksJ27_fixAfterDeletion_0 : cJ27_fixAfterDeletion.data.toList.drop 0 = dktJ27_fixAfterDeletion_0 := by decide +kernel
theorem dksJ27_fixAfterDeletion_1 : cJ27_fixAfterDeletion.data.toList.drop 24 = dktJ27_fixAfterDeletion_1 := dk_seg dksJ27_fixAfterDeletion_0 24 rfl rfl
theorem dksJ27_fixAfterDeletion_2 : cJ27_fixAfterDeletion.data.toList.drop 48 = dktJ27_fixAfterDeletion_2 := dk_seg dksJ27_fixAfterDeletion_1 24 rfl rfl
theorem dksJ27_fixAfterDeletion_3 : cJ27_fixAfterDeletion.data.toList.drop 72 = dktJ27_fixAfterDeletion_3 := dk_seg dksJ27_fixAfterDeletion_2 24 rfl rfl
theorem dksJ27_fixAfterDeletion_4 : cJ27_fixAfterDeletion.data.toList.drop 95 = dktJ27_fixAfterDeletion_4 := dk_seg dksJ27_fixAfterDeletion_3 23 rfl rfl
theorem dksJ27_fixAfterDeletion_5 : cJ27_fixAfterDeletion.data.toList.drop 118 = dktJ27_fixAfterDeletion_5 := dk_seg dksJ27_fixAfterDeletion_4 23 rfl rfl
theorem dksJ27_fixAfterDeletion_6 : cJ27_fixAfterDeletion.data.toList.drop 142 = dktJ27_fixAfterDeletion_6 := dk_seg dksJ27_fixAfterDeletion_5 24 rfl rfl
theorem dksJ27_fixAfterDeletion_7 : cJ27_fixAfterDeletion.data.toList.drop 166 = dktJ27_fixAfterDeletion_7 := dk_seg dksJ27_fixAfterDeletion_6 24 rfl rfl
theorem dksJ27_fixAfterDeletion_8 : cJ27_fixAfterDeletion.data.toList.drop 190 = dktJ27_fixAfterDeletion_8 := dk_seg dksJ27_fixAfterDeletion_7 24 rfl rfl
theorem dksJ27_fixAfterDeletion_9 : cJ27_fixAfterDeletion.data.toList.drop 214 = dktJ27_fixAfterDeletion_9 := dk_seg dksJ27_fixAfterDeletion_8 24 rfl rfl
theorem dksJ27_fixAfterDeletion_10 : cJ27_fixAfterDeletion.data.toList.drop 238 = dktJ27_fixAfterDeletion_10 := dk_seg dksJ27_fixAfterDeletion_9 24 rfl rfl
theorem dksJ27_fixAfterDeletion_11 : cJ27_fixAfterDeletion.data.toList.drop 262 = dktJ27_fixAfterDeletion_11 := dk_seg dksJ27_fixAfterDeletion_10 24 rfl rfl
theorem dksJ27_fixAfterDeletion_12 : cJ27_fixAfterDeletion.data.toList.drop 286 = dktJ27_fixAfterDeletion_12 := dk_seg dksJ27_fixAfterDeletion_11 24 rfl rfl
theorem dksJ27_fixAfterDeletion_13 : cJ27_fixAfterDeletion.data.toList.drop 310 = dktJ27_fixAfterDeletion_13 := dk_seg dksJ27_fixAfterDeletion_12 24 rfl rfl
theorem dksJ27_fixAfterDeletion_14 : cJ27_fixAfterDeletion.data.toList.drop 334 = dktJ27_fixAfterDeletion_14 := dk_seg dksJ27_fixAfterDeletion_13 24 rfl rfl
theorem dJ27_fixAfterDeletion_0 : decode cJ27_fixAfterDeletion 0 = .ok (.aload_n 1, 1) := dk_43 (dk_at dksJ27_fixAfterDeletion_0 0 rfl rfl)
theorem dJ27_fixAfterDeletion_1 : decode cJ27_fixAfterDeletion 1 = .ok (.aload_n 0, 1) := dk_42 (dk_at dksJ27_fixAfterDeletion_0 1 rfl rfl)
theorem dJ27_fixAfterDeletion_2 : decode cJ27_fixAfterDeletion 2 = .ok (.getfield 101, 3) := dk_180 0 101 (dk_at dksJ27_fixAfterDeletion_0 2 rfl rfl)
theorem dJ27_fixAfterDeletion_5 : decode cJ27_fixAfterDeletion 5 = .ok (.if_acmp .eq 340, 3) := dk_165 1 84 (dk_at dksJ27_fixAfterDeletion_0 5 rfl rfl)
theorem dJ27_fixAfterDeletion_8 : decode cJ27_fixAfterDeletion 8 = .ok (.aload_n 1, 1) := dk_43 (dk_at dksJ27_fixAfterDeletion_0 8 rfl rfl)
theorem dJ27_fixAfterDeletion_9 : decode cJ27_fixAfterDeletion 9 = .ok (.invokestatic 303, 3) := dk_184 1 47 (dk_at dksJ27_fixAfterDeletion_0 9 rfl rfl)
theorem dJ27_fixAfterDeletion_12 : decode cJ27_fixAfterDeletion 12 = .ok (.iconst 1, 1) := dk_4 (dk_at dksJ27_fixAfterDeletion_0 12 rfl rfl)
theorem dJ27_fixAfterDeletion_13 : decode cJ27_fixAfterDeletion 13 = .ok (.if_icmp .ne 332, 3) := dk_160 1 76 (dk_at dksJ27_fixAfterDeletion_0 13 rfl rfl)
theorem dJ27_fixAfterDeletion_16 : decode cJ27_fixAfterDeletion 16 = .ok (.aload_n 1, 1) := dk_43 (dk_at dksJ27_fixAfterDeletion_0 16 rfl rfl)
theorem dJ27_fixAfterDeletion_17 : decode cJ27_fixAfterDeletion 17 = .ok (.aload_n 1, 1) := dk_43 (dk_at dksJ27_fixAfterDeletion_0 17 rfl rfl)
theorem dJ27_fixAfterDeletion_18 : decode cJ27_fixAfterDeletion 18 = .ok (.invokestatic 294, 3) := dk_184 1 38 (dk_at dksJ27_fixAfterDeletion_0 18 rfl rfl)
theorem dJ27_fixAfterDeletion_21 : decode cJ27_fixAfterDeletion 21 = .ok (.invokestatic 297, 3) := dk_184 1 41 (dk_at dksJ27_fixAfterDeletion_0 21 rfl rfl)
theorem dJ27_fixAfterDeletion_24 : decode cJ27_fixAfterDeletion 24 = .ok (.if_acmp .ne 162, 3) := dk_166 0 162 (dk_at dksJ27_fixAfterDeletion_1 0 rfl rfl)
theorem dJ27_fixAfterDeletion_27 : decode cJ27_fixAfterDeletion 27 = .ok (.aload_n 1, 1) := dk_43 (dk_at dksJ27_fixAfterDeletion_1 3 rfl rfl)
theorem dJ27_fixAfterDeletion_28 : decode cJ27_fixAfterDeletion 28 = .ok (.invokestatic 294, 3) := dk_184 1 38 (dk_at dksJ27_fixAfterDeletion_1 4 rfl rfl)
theorem dJ27_fixAfterDeletion_31 : decode cJ27_fixAfterDeletion 31 = .ok (.invokestatic 300, 3) := dk_184 1 44 (dk_at dksJ27_fixAfterDeletion_1 7 rfl rfl)
theorem dJ27_fixAfterDeletion_34 : decode cJ27_fixAfterDeletion 34 = .ok (.astore_n 2, 1) := dk_77 (dk_at dksJ27_fixAfterDeletion_1 10 rfl rfl)
theorem dJ27_fixAfterDeletion_35 : decode cJ27_fixAfterDeletion 35 = .ok (.aload_n 2, 1) := dk_44 (dk_at dksJ27_fixAfterDeletion_1 11 rfl rfl)
theorem dJ27_fixAfterDeletion_36 : decode cJ27_fixAfterDeletion 36 = .ok (.invokestatic 303, 3) := dk_184 1 47 (dk_at dksJ27_fixAfterDeletion_1 12 rfl rfl)
theorem dJ27_fixAfterDeletion_39 : decode cJ27_fixAfterDeletion 39 = .ok (.ifCond .ne 32, 3) := dk_154 0 32 (dk_at dksJ27_fixAfterDeletion_1 15 rfl rfl)
theorem dJ27_fixAfterDeletion_42 : decode cJ27_fixAfterDeletion 42 = .ok (.aload_n 2, 1) := dk_44 (dk_at dksJ27_fixAfterDeletion_1 18 rfl rfl)
theorem dJ27_fixAfterDeletion_43 : decode cJ27_fixAfterDeletion 43 = .ok (.iconst 1, 1) := dk_4 (dk_at dksJ27_fixAfterDeletion_1 19 rfl rfl)
theorem dJ27_fixAfterDeletion_44 : decode cJ27_fixAfterDeletion 44 = .ok (.invokestatic 307, 3) := dk_184 1 51 (dk_at dksJ27_fixAfterDeletion_1 20 rfl rfl)
theorem dJ27_fixAfterDeletion_47 : decode cJ27_fixAfterDeletion 47 = .ok (.aload_n 1, 1) := dk_43 (dk_at dksJ27_fixAfterDeletion_1 23 rfl rfl)
theorem dJ27_fixAfterDeletion_48 : decode cJ27_fixAfterDeletion 48 = .ok (.invokestatic 294, 3) := dk_184 1 38 (dk_at dksJ27_fixAfterDeletion_2 0 rfl rfl)
theorem dJ27_fixAfterDeletion_51 : decode cJ27_fixAfterDeletion 51 = .ok (.iconst 0, 1) := dk_3 (dk_at dksJ27_fixAfterDeletion_2 3 rfl rfl)
theorem dJ27_fixAfterDeletion_52 : decode cJ27_fixAfterDeletion 52 = .ok (.invokestatic 307, 3) := dk_184 1 51 (dk_at dksJ27_fixAfterDeletion_2 4 rfl rfl)
theorem dJ27_fixAfterDeletion_55 : decode cJ27_fixAfterDeletion 55 = .ok (.aload_n 0, 1) := dk_42 (dk_at dksJ27_fixAfterDeletion_2 7 rfl rfl)
theorem dJ27_fixAfterDeletion_56 : decode cJ27_fixAfterDeletion 56 = .ok (.aload_n 1, 1) := dk_43 (dk_at dksJ27_fixAfterDeletion_2 8 rfl rfl)
theorem dJ27_fixAfterDeletion_57 : decode cJ27_fixAfterDeletion 57 = .ok (.invokestatic 294, 3) := dk_184 1 38 (dk_at dksJ27_fixAfterDeletion_2 9 rfl rfl)
theorem dJ27_fixAfterDeletion_60 : decode cJ27_fixAfterDeletion 60 = .ok (.invokevirtual 311, 3) := dk_182 1 55 (dk_at dksJ27_fixAfterDeletion_2 12 rfl rfl)
theorem dJ27_fixAfterDeletion_63 : decode cJ27_fixAfterDeletion 63 = .ok (.aload_n 1, 1) := dk_43 (dk_at dksJ27_fixAfterDeletion_2 15 rfl rfl)
theorem dJ27_fixAfterDeletion_64 : decode cJ27_fixAfterDeletion 64 = .ok (.invokestatic 294, 3) := dk_184 1 38 (dk_at dksJ27_fixAfterDeletion_2 16 rfl rfl)
theorem dJ27_fixAfterDeletion_67 : decode cJ27_fixAfterDeletion 67 = .ok (.invokestatic 300, 3) := dk_184 1 44 (dk_at dksJ27_fixAfterDeletion_2 19 rfl rfl)
theorem dJ27_fixAfterDeletion_70 : decode cJ27_fixAfterDeletion 70 = .ok (.astore_n 2, 1) := dk_77 (dk_at dksJ27_fixAfterDeletion_2 22 rfl rfl)
theorem dJ27_fixAfterDeletion_71 : decode cJ27_fixAfterDeletion 71 = .ok (.aload_n 2, 1) := dk_44 (dk_at dksJ27_fixAfterDeletion_2 23 rfl rfl)
theorem dJ27_fixAfterDeletion_72 : decode cJ27_fixAfterDeletion 72 = .ok (.invokestatic 297, 3) := dk_184 1 41 (dk_at dksJ27_fixAfterDeletion_3 0 rfl rfl)
theorem dJ27_fixAfterDeletion_75 : decode cJ27_fixAfterDeletion 75 = .ok (.invokestatic 303, 3) := dk_184 1 47 (dk_at dksJ27_fixAfterDeletion_3 3 rfl rfl)
theorem dJ27_fixAfterDeletion_78 : decode cJ27_fixAfterDeletion 78 = .ok (.iconst 1, 1) := dk_4 (dk_at dksJ27_fixAfterDeletion_3 6 rfl rfl)
theorem dJ27_fixAfterDeletion_79 : decode cJ27_fixAfterDeletion 79 = .ok (.if_icmp .ne 27, 3) := dk_160 0 27 (dk_at dksJ27_fixAfterDeletion_3 7 rfl rfl)
theorem dJ27_fixAfterDeletion_82 : decode cJ27_fixAfterDeletion 82 = .ok (.aload_n 2, 1) := dk_44 (dk_at dksJ27_fixAfterDeletion_3 10 rfl rfl)
theorem dJ27_fixAfterDeletion_83 : decode cJ27_fixAfterDeletion 83 = .ok (.invokestatic 300, 3) := dk_184 1 44 (dk_at dksJ27_fixAfterDeletion_3 11 rfl rfl)
theorem dJ27_fixAfterDeletion_86 : decode cJ27_fixAfterDeletion 86 = .ok (.invokestatic 303, 3) := dk_184 1 47 (dk_at dksJ27_fixAfterDeletion_3 14 rfl rfl)
theorem dJ27_fixAfterDeletion_89 : decode cJ27_fixAfterDeletion 89 = .ok (.iconst 1, 1) := dk_4 (dk_at dksJ27_fixAfterDeletion_3 17 rfl rfl)
theorem dJ27_fixAfterDeletion_90 : decode cJ27_fixAfterDeletion 90 = .ok (.if_icmp .ne 16, 3) := dk_160 0 16 (dk_at dksJ27_fixAfterDeletion_3 18 rfl rfl)
theorem dJ27_fixAfterDeletion_93 : decode cJ27_fixAfterDeletion 93 = .ok (.aload_n 2, 1) := dk_44 (dk_at dksJ27_fixAfterDeletion_3 21 rfl rfl)
theorem dJ27_fixAfterDeletion_94 : decode cJ27_fixAfterDeletion 94 = .ok (.iconst 0, 1) := dk_3 (dk_at dksJ27_fixAfterDeletion_3 22 rfl rfl)
theorem dJ27_fixAfterDeletion_95 : decode cJ27_fixAfterDeletion 95 = .ok (.invokestatic 307, 3) := dk_184 1 51 (dk_at dksJ27_fixAfterDeletion_4 0 rfl rfl)
theorem dJ27_fixAfterDeletion_98 : decode cJ27_fixAfterDeletion 98 = .ok (.aload_n 1, 1) := dk_43 (dk_at dksJ27_fixAfterDeletion_4 3 rfl rfl)
theorem dJ27_fixAfterDeletion_99 : decode cJ27_fixAfterDeletion 99 = .ok (.invokestatic 294, 3) := dk_184 1 38 (dk_at dksJ27_fixAfterDeletion_4 4 rfl rfl)
theorem dJ27_fixAfterDeletion_102 : decode cJ27_fixAfterDeletion 102 = .ok (.astore_n 1, 1) := dk_76 (dk_at dksJ27_fixAfterDeletion_4 7 rfl rfl)
theorem dJ27_fixAfterDeletion_103 : decode cJ27_fixAfterDeletion 103 = .ok (.goto 80, 3) := dk_167 0 80 (dk_at dksJ27_fixAfterDeletion_4 8 rfl rfl)
theorem dJ27_fixAfterDeletion_106 : decode cJ27_fixAfterDeletion 106 = .ok (.aload_n 2, 1) := dk_44 (dk_at dksJ27_fixAfterDeletion_4 11 rfl rfl)
theorem dJ27_fixAfterDeletion_107 : decode cJ27_fixAfterDeletion 107 = .ok (.invokestatic 300, 3) := dk_184 1 44 (dk_at dksJ27_fixAfterDeletion_4 12 rfl rfl)
theorem dJ27_fixAfterDeletion_110 : decode cJ27_fixAfterDeletion 110 = .ok (.invokestatic 303, 3) := dk_184 1 47 (dk_at dksJ27_fixAfterDeletion_4 15 rfl rfl)
theorem dJ27_fixAfterDeletion_113 : decode cJ27_fixAfterDeletion 113 = .ok (.iconst 1, 1) := dk_4 (dk_at dksJ27_fixAfterDeletion_4 18 rfl rfl)
theorem dJ27_fixAfterDeletion_114 : decode cJ27_fixAfterDeletion 114 = .ok (.if_icmp .ne 29, 3) := dk_160 0 29 (dk_at dksJ27_fixAfterDeletion_4 19 rfl rfl)
theorem dJ27_fixAfterDeletion_117 : decode cJ27_fixAfterDeletion 117 = .ok (.aload_n 2, 1) := dk_44 (dk_at dksJ27_fixAfterDeletion_4 22 rfl rfl)
theorem dJ27_fixAfterDeletion_118 : decode cJ27_fixAfterDeletion 118 = .ok (.invokestatic 297, 3) := dk_184 1 41 (dk_at dksJ27_fixAfterDeletion_5 0 rfl rfl)
theorem dJ27_fixAfterDeletion_121 : decode cJ27_fixAfterDeletion 121 = .ok (.iconst 1, 1) := dk_4 (dk_at dksJ27_fixAfterDeletion_5 3 rfl rfl)
theorem dJ27_fixAfterDeletion_122 : decode cJ27_fixAfterDeletion 122 = .ok (.invokestatic 307, 3) := dk_184 1 51 (dk_at dksJ27_fixAfterDeletion_5 4 rfl rfl)
theorem dJ27_fixAfterDeletion_125 : decode cJ27_fixAfterDeletion 125 = .ok (.aload_n 2, 1) := dk_44 (dk_at dksJ27_fixAfterDeletion_5 7 rfl rfl)
theorem dJ27_fixAfterDeletion_126 : decode cJ27_fixAfterDeletion 126 = .ok (.iconst 0, 1) := dk_3 (dk_at dksJ27_fixAfterDeletion_5 8 rfl rfl)
theorem dJ27_fixAfterDeletion_127 : decode cJ27_fixAfterDeletion 127 = .ok (.invokestatic 307, 3) := dk_184 1 51 (dk_at dksJ27_fixAfterDeletion_5 9 rfl rfl)
theorem dJ27_fixAfterDeletion_130 : decode cJ27_fixAfterDeletion 130 = .ok (.aload_n 0, 1) := dk_42 (dk_at dksJ27_fixAfterDeletion_5 12 rfl rfl)
theorem dJ27_fixAfterDeletion_131 : decode cJ27_fixAfterDeletion 131 = .ok (.aload_n 2, 1) := dk_44 (dk_at dksJ27_fixAfterDeletion_5 13 rfl rfl)
theorem dJ27_fixAfterDeletion_132 : decode cJ27_fixAfterDeletion 132 = .ok (.invokevirtual 314, 3) := dk_182 1 58 (dk_at dksJ27_fixAfterDeletion_5 14 rfl rfl)
theorem dJ27_fixAfterDeletion_135 : decode cJ27_fixAfterDeletion 135 = .ok (.aload_n 1, 1) := dk_43 (dk_at dksJ27_fixAfterDeletion_5 17 rfl rfl)
theorem dJ27_fixAfterDeletion_136 : decode cJ27_fixAfterDeletion 136 = .ok (.invokestatic 294, 3) := dk_184 1 38 (dk_at dksJ27_fixAfterDeletion_5 18 rfl rfl)
theorem dJ27_fixAfterDeletion_139 : decode cJ27_fixAfterDeletion 139 = .ok (.invokestatic 300, 3) := dk_184 1 44 (dk_at dksJ27_fixAfterDeletion_5 21 rfl rfl)
theorem dJ27_fixAfterDeletion_142 : decode cJ27_fixAfterDeletion 142 = .ok (.astore_n 2, 1) := dk_77 (dk_at dksJ27_fixAfterDeletion_6 0 rfl rfl)
theorem dJ27_fixAfterDeletion_143 : decode cJ27_fixAfterDeletion 143 = .ok (.aload_n 2, 1) := dk_44 (dk_at dksJ27_fixAfterDeletion_6 1 rfl rfl)
theorem dJ27_fixAfterDeletion_144 : decode cJ27_fixAfterDeletion 144 = .ok (.aload_n 1, 1) := dk_43 (dk_at dksJ27_fixAfterDeletion_6 2 rfl rfl)
theorem dJ27_fixAfterDeletion_145 : decode cJ27_fixAfterDeletion 145 = .ok (.invokestatic 294, 3) := dk_184 1 38 (dk_at dksJ27_fixAfterDeletion_6 3 rfl rfl)
theorem dJ27_fixAfterDeletion_148 : decode cJ27_fixAfterDeletion 148 = .ok (.invokestatic 303, 3) := dk_184 1 47 (dk_at dksJ27_fixAfterDeletion_6 6 rfl rfl)
theorem dJ27_fixAfterDeletion_151 : decode cJ27_fixAfterDeletion 151 = .ok (.invokestatic 307, 3) := dk_184 1 51 (dk_at dksJ27_fixAfterDeletion_6 9 rfl rfl)
theorem dJ27_fixAfterDeletion_154 : decode cJ27_fixAfterDeletion 154 = .ok (.aload_n 1, 1) := dk_43 (dk_at dksJ27_fixAfterDeletion_6 12 rfl rfl)
theorem dJ27_fixAfterDeletion_155 : decode cJ27_fixAfterDeletion 155 = .ok (.invokestatic 294, 3) := dk_184 1 38 (dk_at dksJ27_fixAfterDeletion_6 13 rfl rfl)
theorem dJ27_fixAfterDeletion_158 : decode cJ27_fixAfterDeletion 158 = .ok (.iconst 1, 1) := dk_4 (dk_at dksJ27_fixAfterDeletion_6 16 rfl rfl)
theorem dJ27_fixAfterDeletion_159 : decode cJ27_fixAfterDeletion 159 = .ok (.invokestatic 307, 3) := dk_184 1 51 (dk_at dksJ27_fixAfterDeletion_6 17 rfl rfl)
theorem dJ27_fixAfterDeletion_162 : decode cJ27_fixAfterDeletion 162 = .ok (.aload_n 2, 1) := dk_44 (dk_at dksJ27_fixAfterDeletion_6 20 rfl rfl)
theorem dJ27_fixAfterDeletion_163 : decode cJ27_fixAfterDeletion 163 = .ok (.invokestatic 300, 3) := dk_184 1 44 (dk_at dksJ27_fixAfterDeletion_6 21 rfl rfl)
theorem dJ27_fixAfterDeletion_166 : decode cJ27_fixAfterDeletion 166 = .ok (.iconst 1, 1) := dk_4 (dk_at dksJ27_fixAfterDeletion_7 0 rfl rfl)
theorem dJ27_fixAfterDeletion_167 : decode cJ27_fixAfterDeletion 167 = .ok (.invokestatic 307, 3) := dk_184 1 51 (dk_at dksJ27_fixAfterDeletion_7 1 rfl rfl)
theorem dJ27_fixAfterDeletion_170 : decode cJ27_fixAfterDeletion 170 = .ok (.aload_n 0, 1) := dk_42 (dk_at dksJ27_fixAfterDeletion_7 4 rfl rfl)
theorem dJ27_fixAfterDeletion_171 : decode cJ27_fixAfterDeletion 171 = .ok (.aload_n 1, 1) := dk_43 (dk_at dksJ27_fixAfterDeletion_7 5 rfl rfl)
theorem dJ27_fixAfterDeletion_172 : decode cJ27_fixAfterDeletion 172 = .ok (.invokestatic 294, 3) := dk_184 1 38 (dk_at dksJ27_fixAfterDeletion_7 6 rfl rfl)
theorem dJ27_fixAfterDeletion_175 : decode cJ27_fixAfterDeletion 175 = .ok (.invokevirtual 311, 3) := dk_182 1 55 (dk_at dksJ27_fixAfterDeletion_7 9 rfl rfl)
theorem dJ27_fixAfterDeletion_178 : decode cJ27_fixAfterDeletion 178 = .ok (.aload_n 0, 1) := dk_42 (dk_at dksJ27_fixAfterDeletion_7 12 rfl rfl)
theorem dJ27_fixAfterDeletion_179 : decode cJ27_fixAfterDeletion 179 = .ok (.getfield 101, 3) := dk_180 0 101 (dk_at dksJ27_fixAfterDeletion_7 13 rfl rfl)
theorem dJ27_fixAfterDeletion_182 : decode cJ27_fixAfterDeletion 182 = .ok (.astore_n 1, 1) := dk_76 (dk_at dksJ27_fixAfterDeletion_7 16 rfl rfl)
theorem dJ27_fixAfterDeletion_183 : decode cJ27_fixAfterDeletion 183 = .ok (.goto (-183), 3) := dk_167 255 73 (dk_at dksJ27_fixAfterDeletion_7 17 rfl rfl)
theorem dJ27_fixAfterDeletion_186 : decode cJ27_fixAfterDeletion 186 = .ok (.aload_n 1, 1) := dk_43 (dk_at dksJ27_fixAfterDeletion_7 20 rfl rfl)
theorem dJ27_fixAfterDeletion_187 : decode cJ27_fixAfterDeletion 187 = .ok (.invokestatic 294, 3) := dk_184 1 38 (dk_at dksJ27_fixAfterDeletion_7 21 rfl rfl)
theorem dJ27_fixAfterDeletion_190 : decode cJ27_fixAfterDeletion 190 = .ok (.invokestatic 297, 3) := dk_184 1 41 (dk_at dksJ27_fixAfterDeletion_8 0 rfl rfl)
theorem dJ27_fixAfterDeletion_193 : decode cJ27_fixAfterDeletion 193 = .ok (.astore_n 2, 1) := dk_77 (dk_at dksJ27_fixAfterDeletion_8 3 rfl rfl)
theorem dJ27_fixAfterDeletion_194 : decode cJ27_fixAfterDeletion 194 = .ok (.aload_n 2, 1) := dk_44 (dk_at dksJ27_fixAfterDeletion_8 4 rfl rfl)
theorem dJ27_fixAfterDeletion_195 : decode cJ27_fixAfterDeletion 195 = .ok (.invokestatic 303, 3) := dk_184 1 47 (dk_at dksJ27_fixAfterDeletion_8 5 rfl rfl)
theorem dJ27_fixAfterDeletion_198 : decode cJ27_fixAfterDeletion 198 = .ok (.ifCond .ne 32, 3) := dk_154 0 32 (dk_at dksJ27_fixAfterDeletion_8 8 rfl rfl)
theorem dJ27_fixAfterDeletion_201 : decode cJ27_fixAfterDeletion 201 = .ok (.aload_n 2, 1) := dk_44 (dk_at dksJ27_fixAfterDeletion_8 11 rfl rfl)
theorem dJ27_fixAfterDeletion_202 : decode cJ27_fixAfterDeletion 202 = .ok (.iconst 1, 1) := dk_4 (dk_at dksJ27_fixAfterDeletion_8 12 rfl rfl)
theorem dJ27_fixAfterDeletion_203 : decode cJ27_fixAfterDeletion 203 = .ok (.invokestatic 307, 3) := dk_184 1 51 (dk_at dksJ27_fixAfterDeletion_8 13 rfl rfl)
theorem dJ27_fixAfterDeletion_206 : decode cJ27_fixAfterDeletion 206 = .ok (.aload_n 1, 1) := dk_43 (dk_at dksJ27_fixAfterDeletion_8 16 rfl rfl)
theorem dJ27_fixAfterDeletion_207 : decode cJ27_fixAfterDeletion 207 = .ok (.invokestatic 294, 3) := dk_184 1 38 (dk_at dksJ27_fixAfterDeletion_8 17 rfl rfl)
theorem dJ27_fixAfterDeletion_210 : decode cJ27_fixAfterDeletion 210 = .ok (.iconst 0, 1) := dk_3 (dk_at dksJ27_fixAfterDeletion_8 20 rfl rfl)
theorem dJ27_fixAfterDeletion_211 : decode cJ27_fixAfterDeletion 211 = .ok (.invokestatic 307, 3) := dk_184 1 51 (dk_at dksJ27_fixAfterDeletion_8 21 rfl rfl)
theorem dJ27_fixAfterDeletion_214 : decode cJ27_fixAfterDeletion 214 = .ok (.aload_n 0, 1) := dk_42 (dk_at dksJ27_fixAfterDeletion_9 0 rfl rfl)
theorem dJ27_fixAfterDeletion_215 : decode cJ27_fixAfterDeletion 215 = .ok (.aload_n 1, 1) := dk_43 (dk_at dksJ27_fixAfterDeletion_9 1 rfl rfl)
theorem dJ27_fixAfterDeletion_216 : decode cJ27_fixAfterDeletion 216 = .ok (.invokestatic 294, 3) := dk_184 1 38 (dk_at dksJ27_fixAfterDeletion_9 2 rfl rfl)
theorem dJ27_fixAfterDeletion_219 : decode cJ27_fixAfterDeletion 219 = .ok (.invokevirtual 314, 3) := dk_182 1 58 (dk_at dksJ27_fixAfterDeletion_9 5 rfl rfl)
theorem dJ27_fixAfterDeletion_222 : decode cJ27_fixAfterDeletion 222 = .ok (.aload_n 1, 1) := dk_43 (dk_at dksJ27_fixAfterDeletion_9 8 rfl rfl)
theorem dJ27_fixAfterDeletion_223 : decode cJ27_fixAfterDeletion 223 = .ok (.invokestatic 294, 3) := dk_184 1 38 (dk_at dksJ27_fixAfterDeletion_9 9 rfl rfl)
theorem dJ27_fixAfterDeletion_226 : decode cJ27_fixAfterDeletion 226 = .ok (.invokestatic 297, 3) := dk_184 1 41 (dk_at dksJ27_fixAfterDeletion_9 12 rfl rfl)
theorem dJ27_fixAfterDeletion_229 : decode cJ27_fixAfterDeletion 229 = .ok (.astore_n 2, 1) := dk_77 (dk_at dksJ27_fixAfterDeletion_9 15 rfl rfl)
theorem dJ27_fixAfterDeletion_230 : decode cJ27_fixAfterDeletion 230 = .ok (.aload_n 2, 1) := dk_44 (dk_at dksJ27_fixAfterDeletion_9 16 rfl rfl)
theorem dJ27_fixAfterDeletion_231 : decode cJ27_fixAfterDeletion 231 = .ok (.invokestatic 300, 3) := dk_184 1 44 (dk_at dksJ27_fixAfterDeletion_9 17 rfl rfl)
theorem dJ27_fixAfterDeletion_234 : decode cJ27_fixAfterDeletion 234 = .ok (.invokestatic 303, 3) := dk_184 1 47 (dk_at dksJ27_fixAfterDeletion_9 20 rfl rfl)
theorem dJ27_fixAfterDeletion_237 : decode cJ27_fixAfterDeletion 237 = .ok (.iconst 1, 1) := dk_4 (dk_at dksJ27_fixAfterDeletion_9 23 rfl rfl)
theorem dJ27_fixAfterDeletion_238 : decode cJ27_fixAfterDeletion 238 = .ok (.if_icmp .ne 27, 3) := dk_160 0 27 (dk_at dksJ27_fixAfterDeletion_10 0 rfl rfl)
theorem dJ27_fixAfterDeletion_241 : decode cJ27_fixAfterDeletion 241 = .ok (.aload_n 2, 1) := dk_44 (dk_at dksJ27_fixAfterDeletion_10 3 rfl rfl)
theorem dJ27_fixAfterDeletion_242 : decode cJ27_fixAfterDeletion 242 = .ok (.invokestatic 297, 3) := dk_184 1 41 (dk_at dksJ27_fixAfterDeletion_10 4 rfl rfl)
theorem dJ27_fixAfterDeletion_245 : decode cJ27_fixAfterDeletion 245 = .ok (.invokestatic 303, 3) := dk_184 1 47 (dk_at dksJ27_fixAfterDeletion_10 7 rfl rfl)
theorem dJ27_fixAfterDeletion_248 : decode cJ27_fixAfterDeletion 248 = .ok (.iconst 1, 1) := dk_4 (dk_at dksJ27_fixAfterDeletion_10 10 rfl rfl)
theorem dJ27_fixAfterDeletion_249 : decode cJ27_fixAfterDeletion 249 = .ok (.if_icmp .ne 16, 3) := dk_160 0 16 (dk_at dksJ27_fixAfterDeletion_10 11 rfl rfl)
theorem dJ27_fixAfterDeletion_252 : decode cJ27_fixAfterDeletion 252 = .ok (.aload_n 2, 1) := dk_44 (dk_at dksJ27_fixAfterDeletion_10 14 rfl rfl)
theorem dJ27_fixAfterDeletion_253 : decode cJ27_fixAfterDeletion 253 = .ok (.iconst 0, 1) := dk_3 (dk_at dksJ27_fixAfterDeletion_10 15 rfl rfl)
theorem dJ27_fixAfterDeletion_254 : decode cJ27_fixAfterDeletion 254 = .ok (.invokestatic 307, 3) := dk_184 1 51 (dk_at dksJ27_fixAfterDeletion_10 16 rfl rfl)
theorem dJ27_fixAfterDeletion_257 : decode cJ27_fixAfterDeletion 257 = .ok (.aload_n 1, 1) := dk_43 (dk_at dksJ27_fixAfterDeletion_10 19 rfl rfl)
theorem dJ27_fixAfterDeletion_258 : decode cJ27_fixAfterDeletion 258 = .ok (.invokestatic 294, 3) := dk_184 1 38 (dk_at dksJ27_fixAfterDeletion_10 20 rfl rfl)
theorem dJ27_fixAfterDeletion_261 : decode cJ27_fixAfterDeletion 261 = .ok (.astore_n 1, 1) := dk_76 (dk_at dksJ27_fixAfterDeletion_10 23 rfl rfl)
theorem dJ27_fixAfterDeletion_262 : decode cJ27_fixAfterDeletion 262 = .ok (.goto 80, 3) := dk_167 0 80 (dk_at dksJ27_fixAfterDeletion_11 0 rfl rfl)
theorem dJ27_fixAfterDeletion_265 : decode cJ27_fixAfterDeletion 265 = .ok (.aload_n 2, 1) := dk_44 (dk_at dksJ27_fixAfterDeletion_11 3 rfl rfl)
theorem dJ27_fixAfterDeletion_266 : decode cJ27_fixAfterDeletion 266 = .ok (.invokestatic 297, 3) := dk_184 1 41 (dk_at dksJ27_fixAfterDeletion_11 4 rfl rfl)
theorem dJ27_fixAfterDeletion_269 : decode cJ27_fixAfterDeletion 269 = .ok (.invokestatic 303, 3) := dk_184 1 47 (dk_at dksJ27_fixAfterDeletion_11 7 rfl rfl)
theorem dJ27_fixAfterDeletion_272 : decode cJ27_fixAfterDeletion 272 = .ok (.iconst 1, 1) := dk_4 (dk_at dksJ27_fixAfterDeletion_11 10 rfl rfl)
theorem dJ27_fixAfterDeletion_273 : decode cJ27_fixAfterDeletion 273 = .ok (.if_icmp .ne 29, 3) := dk_160 0 29 (dk_at dksJ27_fixAfterDeletion_11 11 rfl rfl)
theorem dJ27_fixAfterDeletion_276 : decode cJ27_fixAfterDeletion 276 = .ok (.aload_n 2, 1) := dk_44 (dk_at dksJ27_fixAfterDeletion_11 14 rfl rfl)
theorem dJ27_fixAfterDeletion_277 : decode cJ27_fixAfterDeletion 277 = .ok (.invokestatic 300, 3) := dk_184 1 44 (dk_at dksJ27_fixAfterDeletion_11 15 rfl rfl)
theorem dJ27_fixAfterDeletion_280 : decode cJ27_fixAfterDeletion 280 = .ok (.iconst 1, 1) := dk_4 (dk_at dksJ27_fixAfterDeletion_11 18 rfl rfl)
theorem dJ27_fixAfterDeletion_281 : decode cJ27_fixAfterDeletion 281 = .ok (.invokestatic 307, 3) := dk_184 1 51 (dk_at dksJ27_fixAfterDeletion_11 19 rfl rfl)
theorem dJ27_fixAfterDeletion_284 : decode cJ27_fixAfterDeletion 284 = .ok (.aload_n 2, 1) := dk_44 (dk_at dksJ27_fixAfterDeletion_11 22 rfl rfl)
theorem dJ27_fixAfterDeletion_285 : decode cJ27_fixAfterDeletion 285 = .ok (.iconst 0, 1) := dk_3 (dk_at dksJ27_fixAfterDeletion_11 23 rfl rfl)
theorem dJ27_fixAfterDeletion_286 : decode cJ27_fixAfterDeletion 286 = .ok (.invokestatic 307, 3) := dk_184 1 51 (dk_at dksJ27_fixAfterDeletion_12 0 rfl rfl)
theorem dJ27_fixAfterDeletion_289 : decode cJ27_fixAfterDeletion 289 = .ok (.aload_n 0, 1) := dk_42 (dk_at dksJ27_fixAfterDeletion_12 3 rfl rfl)
theorem dJ27_fixAfterDeletion_290 : decode cJ27_fixAfterDeletion 290 = .ok (.aload_n 2, 1) := dk_44 (dk_at dksJ27_fixAfterDeletion_12 4 rfl rfl)
theorem dJ27_fixAfterDeletion_291 : decode cJ27_fixAfterDeletion 291 = .ok (.invokevirtual 311, 3) := dk_182 1 55 (dk_at dksJ27_fixAfterDeletion_12 5 rfl rfl)
theorem dJ27_fixAfterDeletion_294 : decode cJ27_fixAfterDeletion 294 = .ok (.aload_n 1, 1) := dk_43 (dk_at dksJ27_fixAfterDeletion_12 8 rfl rfl)
theorem dJ27_fixAfterDeletion_295 : decode cJ27_fixAfterDeletion 295 = .ok (.invokestatic 294, 3) := dk_184 1 38 (dk_at dksJ27_fixAfterDeletion_12 9 rfl rfl)
theorem dJ27_fixAfterDeletion_298 : decode cJ27_fixAfterDeletion 298 = .ok (.invokestatic 297, 3) := dk_184 1 41 (dk_at dksJ27_fixAfterDeletion_12 12 rfl rfl)
theorem dJ27_fixAfterDeletion_301 : decode cJ27_fixAfterDeletion 301 = .ok (.astore_n 2, 1) := dk_77 (dk_at dksJ27_fixAfterDeletion_12 15 rfl rfl)
theorem dJ27_fixAfterDeletion_302 : decode cJ27_fixAfterDeletion 302 = .ok (.aload_n 2, 1) := dk_44 (dk_at dksJ27_fixAfterDeletion_12 16 rfl rfl)
theorem dJ27_fixAfterDeletion_303 : decode cJ27_fixAfterDeletion 303 = .ok (.aload_n 1, 1) := dk_43 (dk_at dksJ27_fixAfterDeletion_12 17 rfl rfl)
theorem dJ27_fixAfterDeletion_304 : decode cJ27_fixAfterDeletion 304 = .ok (.invokestatic 294, 3) := dk_184 1 38 (dk_at dksJ27_fixAfterDeletion_12 18 rfl rfl)
theorem dJ27_fixAfterDeletion_307 : decode cJ27_fixAfterDeletion 307 = .ok (.invokestatic 303, 3) := dk_184 1 47 (dk_at dksJ27_fixAfterDeletion_12 21 rfl rfl)
theorem dJ27_fixAfterDeletion_310 : decode cJ27_fixAfterDeletion 310 = .ok (.invokestatic 307, 3) := dk_184 1 51 (dk_at dksJ27_fixAfterDeletion_13 0 rfl rfl)
theorem dJ27_fixAfterDeletion_313 : decode cJ27_fixAfterDeletion 313 = .ok (.aload_n 1, 1) := dk_43 (dk_at dksJ27_fixAfterDeletion_13 3 rfl rfl)
theorem dJ27_fixAfterDeletion_314 : decode cJ27_fixAfterDeletion 314 = .ok (.invokestatic 294, 3) := dk_184 1 38 (dk_at dksJ27_fixAfterDeletion_13 4 rfl rfl)
theorem dJ27_fixAfterDeletion_317 : decode cJ27_fixAfterDeletion 317 = .ok (.iconst 1, 1) := dk_4 (dk_at dksJ27_fixAfterDeletion_13 7 rfl rfl)
theorem dJ27_fixAfterDeletion_318 : decode cJ27_fixAfterDeletion 318 = .ok (.invokestatic 307, 3) := dk_184 1 51 (dk_at dksJ27_fixAfterDeletion_13 8 rfl rfl)
theorem dJ27_fixAfterDeletion_321 : decode cJ27_fixAfterDeletion 321 = .ok (.aload_n 2, 1) := dk_44 (dk_at dksJ27_fixAfterDeletion_13 11 rfl rfl)
theorem dJ27_fixAfterDeletion_322 : decode cJ27_fixAfterDeletion 322 = .ok (.invokestatic 297, 3) := dk_184 1 41 (dk_at dksJ27_fixAfterDeletion_13 12 rfl rfl)
theorem dJ27_fixAfterDeletion_325 : decode cJ27_fixAfterDeletion 325 = .ok (.iconst 1, 1) := dk_4 (dk_at dksJ27_fixAfterDeletion_13 15 rfl rfl)
theorem dJ27_fixAfterDeletion_326 : decode cJ27_fixAfterDeletion 326 = .ok (.invokestatic 307, 3) := dk_184 1 51 (dk_at dksJ27_fixAfterDeletion_13 16 rfl rfl)
theorem dJ27_fixAfterDeletion_329 : decode cJ27_fixAfterDeletion 329 = .ok (.aload_n 0, 1) := dk_42 (dk_at dksJ27_fixAfterDeletion_13 19 rfl rfl)
theorem dJ27_fixAfterDeletion_330 : decode cJ27_fixAfterDeletion 330 = .ok (.aload_n 1, 1) := dk_43 (dk_at dksJ27_fixAfterDeletion_13 20 rfl rfl)
theorem dJ27_fixAfterDeletion_331 : decode cJ27_fixAfterDeletion 331 = .ok (.invokestatic 294, 3) := dk_184 1 38 (dk_at dksJ27_fixAfterDeletion_13 21 rfl rfl)
theorem dJ27_fixAfterDeletion_334 : decode cJ27_fixAfterDeletion 334 = .ok (.invokevirtual 314, 3) := dk_182 1 58 (dk_at dksJ27_fixAfterDeletion_14 0 rfl rfl)
theorem dJ27_fixAfterDeletion_337 : decode cJ27_fixAfterDeletion 337 = .ok (.aload_n 0, 1) := dk_42 (dk_at dksJ27_fixAfterDeletion_14 3 rfl rfl)
theorem dJ27_fixAfterDeletion_338 : decode cJ27_fixAfterDeletion 338 = .ok (.getfield 101, 3) := dk_180 0 101 (dk_at dksJ27_fixAfterDeletion_14 4 rfl rfl)
theorem dJ27_fixAfterDeletion_341 : decode cJ27_fixAfterDeletion 341 = .ok (.astore_n 1, 1) := dk_76 (dk_at dksJ27_fixAfterDeletion_14 7 rfl rfl)
theorem dJ27_fixAfterDeletion_342 : decode cJ27_fixAfterDeletion 342 = .ok (.goto (-342), 3) := dk_167 254 170 (dk_at dksJ27_fixAfterDeletion_14 8 rfl rfl)
theorem dJ27_fixAfterDeletion_345 : decode cJ27_fixAfterDeletion 345 = .ok (.aload_n 1, 1) := dk_43 (dk_at dksJ27_fixAfterDeletion_14 11 rfl rfl)
theorem dJ27_fixAfterDeletion_346 : decode cJ27_fixAfterDeletion 346 = .ok (.iconst 1, 1) := dk_4 (dk_at dksJ27_fixAfterDeletion_14 12 rfl rfl)
theorem dJ27_fixAfterDeletion_347 : decode cJ27_fixAfterDeletion 347 = .ok (.invokestatic 307, 3) := dk_184 1 51 (dk_at dksJ27_fixAfterDeletion_14 13 rfl rfl)
theorem dJ27_fixAfterDeletion_350 : decode cJ27_fixAfterDeletion 350 = .ok (.return_, 1) := dk_177 (dk_at dksJ27_fixAfterDeletion_14 16 rfl rfl)
abbrev cJ27_colorOf : ByteArray := prog_103_method_76_code
def yJ27_colorOf : MethodName := ⟨RJ27, "colorOf", "(Ljava/util/TreeMap$Entry;)Z"⟩
def dkwJ27_colorOf_0 : List UInt8 := [42, 199, 0, 7, 4, 167, 0, 7, 42, 180, 1, 34, 172]
abbrev dktJ27_colorOf_0 : List UInt8 := dkwJ27_colorOf_0 ++ []
theorem dksJ27_colorOf_0 : cJ27_colorOf.data.toList.drop 0 = dktJ27_colorOf_0 := by decide +kernel
theorem dJ27_colorOf_0 : decode cJ27_colorOf 0 = .ok (.aload_n 0, 1) := dk_42 (dk_at dksJ27_colorOf_0 0 rfl rfl)
theorem dJ27_colorOf_1 : decode cJ27_colorOf 1 = .ok (.ifnonnull 7, 3) := dk_199 0 7 (dk_at dksJ27_colorOf_0 1 rfl rfl)
theorem dJ27_colorOf_4 : decode cJ27_colorOf 4 = .ok (.iconst 1, 1) := dk_4 (dk_at dksJ27_colorOf_0 4 rfl rfl)
theorem dJ27_colorOf_5 : decode cJ27_colorOf 5 = .ok (.goto 7, 3) := dk_167 0 7 (dk_at dksJ27_colorOf_0 5 rfl rfl)
theorem dJ27_colorOf_8 : decode cJ27_colorOf 8 = .ok (.aload_n 0, 1) := dk_42 (dk_at dksJ27_colorOf_0 8 rfl rfl)
theorem dJ27_colorOf_9 : decode cJ27_colorOf 9 = .ok (.getfield 290, 3) := dk_180 1 34 (dk_at dksJ27_colorOf_0 9 rfl rfl)
theorem dJ27_colorOf_12 : decode cJ27_colorOf 12 = .ok (.ireturn, 1) := dk_172 (dk_at dksJ27_colorOf_0 12 rfl rfl)
abbrev cJ27_parentOf : ByteArray := prog_103_method_77_code
def yJ27_parentOf : MethodName := ⟨RJ27, "parentOf", "(Ljava/util/TreeMap$Entry;)Ljava/util/TreeMap$Entry;"⟩
def dkwJ27_parentOf_0 : List UInt8 := [42, 199, 0, 7, 1, 167, 0, 7, 42, 180, 0, 124, 176]
abbrev dktJ27_parentOf_0 : List UInt8 := dkwJ27_parentOf_0 ++ []
theorem dksJ27_parentOf_0 : cJ27_parentOf.data.toList.drop 0 = dktJ27_parentOf_0 := by decide +kernel
theorem dJ27_parentOf_0 : decode cJ27_parentOf 0 = .ok (.aload_n 0, 1) := dk_42 (dk_at dksJ27_parentOf_0 0 rfl rfl)
theorem dJ27_parentOf_1 : decode cJ27_parentOf 1 = .ok (.ifnonnull 7, 3) := dk_199 0 7 (dk_at dksJ27_parentOf_0 1 rfl rfl)
theorem dJ27_parentOf_4 : decode cJ27_parentOf 4 = .ok (.aconst_null, 1) := dk_1 (dk_at dksJ27_parentOf_0 4 rfl rfl)
theorem dJ27_parentOf_5 : decode cJ27_parentOf 5 = .ok (.goto 7, 3) := dk_167 0 7 (dk_at dksJ27_parentOf_0 5 rfl rfl)
theorem dJ27_parentOf_8 : decode cJ27_parentOf 8 = .ok (.aload_n 0, 1) := dk_42 (dk_at dksJ27_parentOf_0 8 rfl rfl)
theorem dJ27_parentOf_9 : decode cJ27_parentOf 9 = .ok (.getfield 124, 3) := dk_180 0 124 (dk_at dksJ27_parentOf_0 9 rfl rfl)
theorem dJ27_parentOf_12 : decode cJ27_parentOf 12 = .ok (.areturn, 1) := dk_176 (dk_at dksJ27_parentOf_0 12 rfl rfl)
abbrev cJ27_leftOf : ByteArray := prog_103_method_79_code
def yJ27_leftOf : MethodName := ⟨RJ27, "leftOf", "(Ljava/util/TreeMap$Entry;)Ljava/util/TreeMap$Entry;"⟩
def dkwJ27_leftOf_0 : List UInt8 := [42, 199, 0, 7, 1, 167, 0, 7, 42, 180, 0, 111, 176]
abbrev dktJ27_leftOf_0 : List UInt8 := dkwJ27_leftOf_0 ++ []
theorem dksJ27_leftOf_0 : cJ27_leftOf.data.toList.drop 0 = dktJ27_leftOf_0 := by decide +kernel
theorem dJ27_leftOf_0 : decode cJ27_leftOf 0 = .ok (.aload_n 0, 1) := dk_42 (dk_at dksJ27_leftOf_0 0 rfl rfl)
theorem dJ27_leftOf_1 : decode cJ27_leftOf 1 = .ok (.ifnonnull 7, 3) := dk_199 0 7 (dk_at dksJ27_leftOf_0 1 rfl rfl)
theorem dJ27_leftOf_4 : decode cJ27_leftOf 4 = .ok (.aconst_null, 1) := dk_1 (dk_at dksJ27_leftOf_0 4 rfl rfl)
theorem dJ27_leftOf_5 : decode cJ27_leftOf 5 = .ok (.goto 7, 3) := dk_167 0 7 (dk_at dksJ27_leftOf_0 5 rfl rfl)
theorem dJ27_leftOf_8 : decode cJ27_leftOf 8 = .ok (.aload_n 0, 1) := dk_42 (dk_at dksJ27_leftOf_0 8 rfl rfl)
theorem dJ27_leftOf_9 : decode cJ27_leftOf 9 = .ok (.getfield 111, 3) := dk_180 0 111 (dk_at dksJ27_leftOf_0 9 rfl rfl)
theorem dJ27_leftOf_12 : decode cJ27_leftOf 12 = .ok (.areturn, 1) := dk_176 (dk_at dksJ27_leftOf_0 12 rfl rfl)
abbrev cJ27_rightOf : ByteArray := prog_103_method_80_code
def yJ27_rightOf : MethodName := ⟨RJ27, "rightOf", "(Ljava/util/TreeMap$Entry;)Ljava/util/TreeMap$Entry;"⟩
def dkwJ27_rightOf_0 : List UInt8 := [42, 199, 0, 7, 1, 167, 0, 7, 42, 180, 0, 114, 176]
abbrev dktJ27_rightOf_0 : List UInt8 := dkwJ27_rightOf_0 ++ []
theorem dksJ27_rightOf_0 : cJ27_rightOf.data.toList.drop 0 = dktJ27_rightOf_0 := by decide +kernel
theorem dJ27_rightOf_0 : decode cJ27_rightOf 0 = .ok (.aload_n 0, 1) := dk_42 (dk_at dksJ27_rightOf_0 0 rfl rfl)
theorem dJ27_rightOf_1 : decode cJ27_rightOf 1 = .ok (.ifnonnull 7, 3) := dk_199 0 7 (dk_at dksJ27_rightOf_0 1 rfl rfl)
theorem dJ27_rightOf_4 : decode cJ27_rightOf 4 = .ok (.aconst_null, 1) := dk_1 (dk_at dksJ27_rightOf_0 4 rfl rfl)
theorem dJ27_rightOf_5 : decode cJ27_rightOf 5 = .ok (.goto 7, 3) := dk_167 0 7 (dk_at dksJ27_rightOf_0 5 rfl rfl)
theorem dJ27_rightOf_8 : decode cJ27_rightOf 8 = .ok (.aload_n 0, 1) := dk_42 (dk_at dksJ27_rightOf_0 8 rfl rfl)
theorem dJ27_rightOf_9 : decode cJ27_rightOf 9 = .ok (.getfield 114, 3) := dk_180 0 114 (dk_at dksJ27_rightOf_0 9 rfl rfl)
theorem dJ27_rightOf_12 : decode cJ27_rightOf 12 = .ok (.areturn, 1) := dk_176 (dk_at dksJ27_rightOf_0 12 rfl rfl)
abbrev cJ27_setColor : ByteArray := prog_103_method_78_code
def yJ27_setColor : MethodName := ⟨RJ27, "setColor", "(Ljava/util/TreeMap$Entry;Z)V"⟩
def dkwJ27_setColor_0 : List UInt8 := [42, 198, 0, 8, 42, 27, 181, 1, 34, 177]
abbrev dktJ27_setColor_0 : List UInt8 := dkwJ27_setColor_0 ++ []
theorem dksJ27_setColor_0 : cJ27_setColor.data.toList.drop 0 = dktJ27_setColor_0 := by decide +kernel
theorem dJ27_setColor_0 : decode cJ27_setColor 0 = .ok (.aload_n 0, 1) := dk_42 (dk_at dksJ27_setColor_0 0 rfl rfl)
theorem dJ27_setColor_1 : decode cJ27_setColor 1 = .ok (.ifnull 8, 3) := dk_198 0 8 (dk_at dksJ27_setColor_0 1 rfl rfl)
theorem dJ27_setColor_4 : decode cJ27_setColor 4 = .ok (.aload_n 0, 1) := dk_42 (dk_at dksJ27_setColor_0 4 rfl rfl)
theorem dJ27_setColor_5 : decode cJ27_setColor 5 = .ok (.iload_n 1, 1) := dk_27 (dk_at dksJ27_setColor_0 5 rfl rfl)
theorem dJ27_setColor_6 : decode cJ27_setColor 6 = .ok (.putfield 290, 3) := dk_181 1 34 (dk_at dksJ27_setColor_0 6 rfl rfl)
theorem dJ27_setColor_9 : decode cJ27_setColor 9 = .ok (.return_, 1) := dk_177 (dk_at dksJ27_setColor_0 9 rfl rfl)
abbrev cJ27_rotateLeft : ByteArray := prog_103_method_81_code
def yJ27_rotateLeft : MethodName := ⟨RJ27, "rotateLeft", "(Ljava/util/TreeMap$Entry;)V"⟩
def dkwJ27_rotateLeft_4 : List UInt8 := [177]
abbrev dktJ27_rotateLeft_4 : List UInt8 := dkwJ27_rotateLeft_4 ++ []
def dkwJ27_rotateLeft_3 : List UInt8 := [181, 0, 111, 167, 0, 11, 43, 180, 0, 124, 44, 181, 0, 114, 44, 43, 181, 0, 111, 43, 44, 181, 0, 124]
abbrev dktJ27_rotateLeft_3 : List UInt8 := dkwJ27_rotateLeft_3 ++ dktJ27_rotateLeft_4
def dkwJ27_rotateLeft_2 : List UInt8 := [44, 181, 0, 101, 167, 0, 33, 43, 180, 0, 124, 180, 0, 111, 43, 166, 0, 14, 43, 180, 0, 124, 44]
abbrev dktJ27_rotateLeft_2 : List UInt8 := dkwJ27_rotateLeft_2 ++ dktJ27_rotateLeft_3
def dkwJ27_rotateLeft_1 : List UInt8 := [44, 180, 0, 111, 43, 181, 0, 124, 44, 43, 180, 0, 124, 181, 0, 124, 43, 180, 0, 124, 199, 0, 11, 42]
abbrev dktJ27_rotateLeft_1 : List UInt8 := dkwJ27_rotateLeft_1 ++ dktJ27_rotateLeft_2
def dkwJ27_rotateLeft_0 : List UInt8 := [43, 198, 0, 94, 43, 180, 0, 114, 77, 43, 44, 180, 0, 111, 181, 0, 114, 44, 180, 0, 111, 198, 0, 11]
abbrev dktJ27_rotateLeft_0 : List UInt8 := dkwJ27_rotateLeft_0 ++ dktJ27_rotateLeft_1
theorem dksJ27_rotateLeft_0 : cJ27_rotateLeft.data.toList.drop 0 = dktJ27_rotateLeft_0 := by decide +kernel
theorem dksJ27_rotateLeft_1 : cJ27_rotateLeft.data.toList.drop 24 = dktJ27_rotateLeft_1 := dk_seg dksJ27_rotateLeft_0 24 rfl rfl
theorem dksJ27_rotateLeft_2 : cJ27_rotateLeft.data.toList.drop 48 = dktJ27_rotateLeft_2 := dk_seg dksJ27_rotateLeft_1 24 rfl rfl
theorem dksJ27_rotateLeft_3 : cJ27_rotateLeft.data.toList.drop 71 = dktJ27_rotateLeft_3 := dk_seg dksJ27_rotateLeft_2 23 rfl rfl
theorem dksJ27_rotateLeft_4 : cJ27_rotateLeft.data.toList.drop 95 = dktJ27_rotateLeft_4 := dk_seg dksJ27_rotateLeft_3 24 rfl rfl
theorem dJ27_rotateLeft_0 : decode cJ27_rotateLeft 0 = .ok (.aload_n 1, 1) := dk_43 (dk_at dksJ27_rotateLeft_0 0 rfl rfl)
theorem dJ27_rotateLeft_1 : decode cJ27_rotateLeft 1 = .ok (.ifnull 94, 3) := dk_198 0 94 (dk_at dksJ27_rotateLeft_0 1 rfl rfl)
theorem dJ27_rotateLeft_4 : decode cJ27_rotateLeft 4 = .ok (.aload_n 1, 1) := dk_43 (dk_at dksJ27_rotateLeft_0 4 rfl rfl)
theorem dJ27_rotateLeft_5 : decode cJ27_rotateLeft 5 = .ok (.getfield 114, 3) := dk_180 0 114 (dk_at dksJ27_rotateLeft_0 5 rfl rfl)
theorem dJ27_rotateLeft_8 : decode cJ27_rotateLeft 8 = .ok (.astore_n 2, 1) := dk_77 (dk_at dksJ27_rotateLeft_0 8 rfl rfl)
theorem dJ27_rotateLeft_9 : decode cJ27_rotateLeft 9 = .ok (.aload_n 1, 1) := dk_43 (dk_at dksJ27_rotateLeft_0 9 rfl rfl)
theorem dJ27_rotateLeft_10 : decode cJ27_rotateLeft 10 = .ok (.aload_n 2, 1) := dk_44 (dk_at dksJ27_rotateLeft_0 10 rfl rfl)
theorem dJ27_rotateLeft_11 : decode cJ27_rotateLeft 11 = .ok (.getfield 111, 3) := dk_180 0 111 (dk_at dksJ27_rotateLeft_0 11 rfl rfl)
theorem dJ27_rotateLeft_14 : decode cJ27_rotateLeft 14 = .ok (.putfield 114, 3) := dk_181 0 114 (dk_at dksJ27_rotateLeft_0 14 rfl rfl)
theorem dJ27_rotateLeft_17 : decode cJ27_rotateLeft 17 = .ok (.aload_n 2, 1) := dk_44 (dk_at dksJ27_rotateLeft_0 17 rfl rfl)
theorem dJ27_rotateLeft_18 : decode cJ27_rotateLeft 18 = .ok (.getfield 111, 3) := dk_180 0 111 (dk_at dksJ27_rotateLeft_0 18 rfl rfl)
theorem dJ27_rotateLeft_21 : decode cJ27_rotateLeft 21 = .ok (.ifnull 11, 3) := dk_198 0 11 (dk_at dksJ27_rotateLeft_0 21 rfl rfl)
theorem dJ27_rotateLeft_24 : decode cJ27_rotateLeft 24 = .ok (.aload_n 2, 1) := dk_44 (dk_at dksJ27_rotateLeft_1 0 rfl rfl)
theorem dJ27_rotateLeft_25 : decode cJ27_rotateLeft 25 = .ok (.getfield 111, 3) := dk_180 0 111 (dk_at dksJ27_rotateLeft_1 1 rfl rfl)
theorem dJ27_rotateLeft_28 : decode cJ27_rotateLeft 28 = .ok (.aload_n 1, 1) := dk_43 (dk_at dksJ27_rotateLeft_1 4 rfl rfl)
theorem dJ27_rotateLeft_29 : decode cJ27_rotateLeft 29 = .ok (.putfield 124, 3) := dk_181 0 124 (dk_at dksJ27_rotateLeft_1 5 rfl rfl)
theorem dJ27_rotateLeft_32 : decode cJ27_rotateLeft 32 = .ok (.aload_n 2, 1) := dk_44 (dk_at dksJ27_rotateLeft_1 8 rfl rfl)
theorem dJ27_rotateLeft_33 : decode cJ27_rotateLeft 33 = .ok (.aload_n 1, 1) := dk_43 (dk_at dksJ27_rotateLeft_1 9 rfl rfl)
theorem dJ27_rotateLeft_34 : decode cJ27_rotateLeft 34 = .ok (.getfield 124, 3) := dk_180 0 124 (dk_at dksJ27_rotateLeft_1 10 rfl rfl)
theorem dJ27_rotateLeft_37 : decode cJ27_rotateLeft 37 = .ok (.putfield 124, 3) := dk_181 0 124 (dk_at dksJ27_rotateLeft_1 13 rfl rfl)
theorem dJ27_rotateLeft_40 : decode cJ27_rotateLeft 40 = .ok (.aload_n 1, 1) := dk_43 (dk_at dksJ27_rotateLeft_1 16 rfl rfl)
theorem dJ27_rotateLeft_41 : decode cJ27_rotateLeft 41 = .ok (.getfield 124, 3) := dk_180 0 124 (dk_at dksJ27_rotateLeft_1 17 rfl rfl)
theorem dJ27_rotateLeft_44 : decode cJ27_rotateLeft 44 = .ok (.ifnonnull 11, 3) := dk_199 0 11 (dk_at dksJ27_rotateLeft_1 20 rfl rfl)
theorem dJ27_rotateLeft_47 : decode cJ27_rotateLeft 47 = .ok (.aload_n 0, 1) := dk_42 (dk_at dksJ27_rotateLeft_1 23 rfl rfl)
theorem dJ27_rotateLeft_48 : decode cJ27_rotateLeft 48 = .ok (.aload_n 2, 1) := dk_44 (dk_at dksJ27_rotateLeft_2 0 rfl rfl)
theorem dJ27_rotateLeft_49 : decode cJ27_rotateLeft 49 = .ok (.putfield 101, 3) := dk_181 0 101 (dk_at dksJ27_rotateLeft_2 1 rfl rfl)
theorem dJ27_rotateLeft_52 : decode cJ27_rotateLeft 52 = .ok (.goto 33, 3) := dk_167 0 33 (dk_at dksJ27_rotateLeft_2 4 rfl rfl)
theorem dJ27_rotateLeft_55 : decode cJ27_rotateLeft 55 = .ok (.aload_n 1, 1) := dk_43 (dk_at dksJ27_rotateLeft_2 7 rfl rfl)
theorem dJ27_rotateLeft_56 : decode cJ27_rotateLeft 56 = .ok (.getfield 124, 3) := dk_180 0 124 (dk_at dksJ27_rotateLeft_2 8 rfl rfl)
theorem dJ27_rotateLeft_59 : decode cJ27_rotateLeft 59 = .ok (.getfield 111, 3) := dk_180 0 111 (dk_at dksJ27_rotateLeft_2 11 rfl rfl)
theorem dJ27_rotateLeft_62 : decode cJ27_rotateLeft 62 = .ok (.aload_n 1, 1) := dk_43 (dk_at dksJ27_rotateLeft_2 14 rfl rfl)
theorem dJ27_rotateLeft_63 : decode cJ27_rotateLeft 63 = .ok (.if_acmp .ne 14, 3) := dk_166 0 14 (dk_at dksJ27_rotateLeft_2 15 rfl rfl)
theorem dJ27_rotateLeft_66 : decode cJ27_rotateLeft 66 = .ok (.aload_n 1, 1) := dk_43 (dk_at dksJ27_rotateLeft_2 18 rfl rfl)
theorem dJ27_rotateLeft_67 : decode cJ27_rotateLeft 67 = .ok (.getfield 124, 3) := dk_180 0 124 (dk_at dksJ27_rotateLeft_2 19 rfl rfl)
theorem dJ27_rotateLeft_70 : decode cJ27_rotateLeft 70 = .ok (.aload_n 2, 1) := dk_44 (dk_at dksJ27_rotateLeft_2 22 rfl rfl)
theorem dJ27_rotateLeft_71 : decode cJ27_rotateLeft 71 = .ok (.putfield 111, 3) := dk_181 0 111 (dk_at dksJ27_rotateLeft_3 0 rfl rfl)
theorem dJ27_rotateLeft_74 : decode cJ27_rotateLeft 74 = .ok (.goto 11, 3) := dk_167 0 11 (dk_at dksJ27_rotateLeft_3 3 rfl rfl)
theorem dJ27_rotateLeft_77 : decode cJ27_rotateLeft 77 = .ok (.aload_n 1, 1) := dk_43 (dk_at dksJ27_rotateLeft_3 6 rfl rfl)
theorem dJ27_rotateLeft_78 : decode cJ27_rotateLeft 78 = .ok (.getfield 124, 3) := dk_180 0 124 (dk_at dksJ27_rotateLeft_3 7 rfl rfl)
theorem dJ27_rotateLeft_81 : decode cJ27_rotateLeft 81 = .ok (.aload_n 2, 1) := dk_44 (dk_at dksJ27_rotateLeft_3 10 rfl rfl)
theorem dJ27_rotateLeft_82 : decode cJ27_rotateLeft 82 = .ok (.putfield 114, 3) := dk_181 0 114 (dk_at dksJ27_rotateLeft_3 11 rfl rfl)
theorem dJ27_rotateLeft_85 : decode cJ27_rotateLeft 85 = .ok (.aload_n 2, 1) := dk_44 (dk_at dksJ27_rotateLeft_3 14 rfl rfl)
theorem dJ27_rotateLeft_86 : decode cJ27_rotateLeft 86 = .ok (.aload_n 1, 1) := dk_43 (dk_at dksJ27_rotateLeft_3 15 rfl rfl)
theorem dJ27_rotateLeft_87 : decode cJ27_rotateLeft 87 = .ok (.putfield 111, 3) := dk_181 0 111 (dk_at dksJ27_rotateLeft_3 16 rfl rfl)
theorem dJ27_rotateLeft_90 : decode cJ27_rotateLeft 90 = .ok (.aload_n 1, 1) := dk_43 (dk_at dksJ27_rotateLeft_3 19 rfl rfl)
theorem dJ27_rotateLeft_91 : decode cJ27_rotateLeft 91 = .ok (.aload_n 2, 1) := dk_44 (dk_at dksJ27_rotateLeft_3 20 rfl rfl)
theorem dJ27_rotateLeft_92 : decode cJ27_rotateLeft 92 = .ok (.putfield 124, 3) := dk_181 0 124 (dk_at dksJ27_rotateLeft_3 21 rfl rfl)
theorem dJ27_rotateLeft_95 : decode cJ27_rotateLeft 95 = .ok (.return_, 1) := dk_177 (dk_at dksJ27_rotateLeft_4 0 rfl rfl)
abbrev cJ27_rotateRight : ByteArray := prog_103_method_82_code
def yJ27_rotateRight : MethodName := ⟨RJ27, "rotateRight", "(Ljava/util/TreeMap$Entry;)V"⟩
def dkwJ27_rotateRight_4 : List UInt8 := [177]
abbrev dktJ27_rotateRight_4 : List UInt8 := dkwJ27_rotateRight_4 ++ []
def dkwJ27_rotateRight_3 : List UInt8 := [181, 0, 114, 167, 0, 11, 43, 180, 0, 124, 44, 181, 0, 111, 44, 43, 181, 0, 114, 43, 44, 181, 0, 124]
abbrev dktJ27_rotateRight_3 : List UInt8 := dkwJ27_rotateRight_3 ++ dktJ27_rotateRight_4
def dkwJ27_rotateRight_2 : List UInt8 := [44, 181, 0, 101, 167, 0, 33, 43, 180, 0, 124, 180, 0, 114, 43, 166, 0, 14, 43, 180, 0, 124, 44]
abbrev dktJ27_rotateRight_2 : List UInt8 := dkwJ27_rotateRight_2 ++ dktJ27_rotateRight_3
def dkwJ27_rotateRight_1 : List UInt8 := [44, 180, 0, 114, 43, 181, 0, 124, 44, 43, 180, 0, 124, 181, 0, 124, 43, 180, 0, 124, 199, 0, 11, 42]
abbrev dktJ27_rotateRight_1 : List UInt8 := dkwJ27_rotateRight_1 ++ dktJ27_rotateRight_2
def dkwJ27_rotateRight_0 : List UInt8 := [43, 198, 0, 94, 43, 180, 0, 111, 77, 43, 44, 180, 0, 114, 181, 0, 111, 44, 180, 0, 114, 198, 0, 11]
abbrev dktJ27_rotateRight_0 : List UInt8 := dkwJ27_rotateRight_0 ++ dktJ27_rotateRight_1
theorem dksJ27_rotateRight_0 : cJ27_rotateRight.data.toList.drop 0 = dktJ27_rotateRight_0 := by decide +kernel
theorem dksJ27_rotateRight_1 : cJ27_rotateRight.data.toList.drop 24 = dktJ27_rotateRight_1 := dk_seg dksJ27_rotateRight_0 24 rfl rfl
theorem dksJ27_rotateRight_2 : cJ27_rotateRight.data.toList.drop 48 = dktJ27_rotateRight_2 := dk_seg dksJ27_rotateRight_1 24 rfl rfl
theorem dksJ27_rotateRight_3 : cJ27_rotateRight.data.toList.drop 71 = dktJ27_rotateRight_3 := dk_seg dksJ27_rotateRight_2 23 rfl rfl
theorem dksJ27_rotateRight_4 : cJ27_rotateRight.data.toList.drop 95 = dktJ27_rotateRight_4 := dk_seg dksJ27_rotateRight_3 24 rfl rfl
theorem dJ27_rotateRight_0 : decode cJ27_rotateRight 0 = .ok (.aload_n 1, 1) := dk_43 (dk_at dksJ27_rotateRight_0 0 rfl rfl)
theorem dJ27_rotateRight_1 : decode cJ27_rotateRight 1 = .ok (.ifnull 94, 3) := dk_198 0 94 (dk_at dksJ27_rotateRight_0 1 rfl rfl)
theorem dJ27_rotateRight_4 : decode cJ27_rotateRight 4 = .ok (.aload_n 1, 1) := dk_43 (dk_at dksJ27_rotateRight_0 4 rfl rfl)
theorem dJ27_rotateRight_5 : decode cJ27_rotateRight 5 = .ok (.getfield 111, 3) := dk_180 0 111 (dk_at dksJ27_rotateRight_0 5 rfl rfl)
theorem dJ27_rotateRight_8 : decode cJ27_rotateRight 8 = .ok (.astore_n 2, 1) := dk_77 (dk_at dksJ27_rotateRight_0 8 rfl rfl)
theorem dJ27_rotateRight_9 : decode cJ27_rotateRight 9 = .ok (.aload_n 1, 1) := dk_43 (dk_at dksJ27_rotateRight_0 9 rfl rfl)
theorem dJ27_rotateRight_10 : decode cJ27_rotateRight 10 = .ok (.aload_n 2, 1) := dk_44 (dk_at dksJ27_rotateRight_0 10 rfl rfl)
theorem dJ27_rotateRight_11 : decode cJ27_rotateRight 11 = .ok (.getfield 114, 3) := dk_180 0 114 (dk_at dksJ27_rotateRight_0 11 rfl rfl)
theorem dJ27_rotateRight_14 : decode cJ27_rotateRight 14 = .ok (.putfield 111, 3) := dk_181 0 111 (dk_at dksJ27_rotateRight_0 14 rfl rfl)
theorem dJ27_rotateRight_17 : decode cJ27_rotateRight 17 = .ok (.aload_n 2, 1) := dk_44 (dk_at dksJ27_rotateRight_0 17 rfl rfl)
theorem dJ27_rotateRight_18 : decode cJ27_rotateRight 18 = .ok (.getfield 114, 3) := dk_180 0 114 (dk_at dksJ27_rotateRight_0 18 rfl rfl)
theorem dJ27_rotateRight_21 : decode cJ27_rotateRight 21 = .ok (.ifnull 11, 3) := dk_198 0 11 (dk_at dksJ27_rotateRight_0 21 rfl rfl)
theorem dJ27_rotateRight_24 : decode cJ27_rotateRight 24 = .ok (.aload_n 2, 1) := dk_44 (dk_at dksJ27_rotateRight_1 0 rfl rfl)
theorem dJ27_rotateRight_25 : decode cJ27_rotateRight 25 = .ok (.getfield 114, 3) := dk_180 0 114 (dk_at dksJ27_rotateRight_1 1 rfl rfl)
theorem dJ27_rotateRight_28 : decode cJ27_rotateRight 28 = .ok (.aload_n 1, 1) := dk_43 (dk_at dksJ27_rotateRight_1 4 rfl rfl)
theorem dJ27_rotateRight_29 : decode cJ27_rotateRight 29 = .ok (.putfield 124, 3) := dk_181 0 124 (dk_at dksJ27_rotateRight_1 5 rfl rfl)
theorem dJ27_rotateRight_32 : decode cJ27_rotateRight 32 = .ok (.aload_n 2, 1) := dk_44 (dk_at dksJ27_rotateRight_1 8 rfl rfl)
theorem dJ27_rotateRight_33 : decode cJ27_rotateRight 33 = .ok (.aload_n 1, 1) := dk_43 (dk_at dksJ27_rotateRight_1 9 rfl rfl)
theorem dJ27_rotateRight_34 : decode cJ27_rotateRight 34 = .ok (.getfield 124, 3) := dk_180 0 124 (dk_at dksJ27_rotateRight_1 10 rfl rfl)
theorem dJ27_rotateRight_37 : decode cJ27_rotateRight 37 = .ok (.putfield 124, 3) := dk_181 0 124 (dk_at dksJ27_rotateRight_1 13 rfl rfl)
theorem dJ27_rotateRight_40 : decode cJ27_rotateRight 40 = .ok (.aload_n 1, 1) := dk_43 (dk_at dksJ27_rotateRight_1 16 rfl rfl)
theorem dJ27_rotateRight_41 : decode cJ27_rotateRight 41 = .ok (.getfield 124, 3) := dk_180 0 124 (dk_at dksJ27_rotateRight_1 17 rfl rfl)
theorem dJ27_rotateRight_44 : decode cJ27_rotateRight 44 = .ok (.ifnonnull 11, 3) := dk_199 0 11 (dk_at dksJ27_rotateRight_1 20 rfl rfl)
theorem dJ27_rotateRight_47 : decode cJ27_rotateRight 47 = .ok (.aload_n 0, 1) := dk_42 (dk_at dksJ27_rotateRight_1 23 rfl rfl)
theorem dJ27_rotateRight_48 : decode cJ27_rotateRight 48 = .ok (.aload_n 2, 1) := dk_44 (dk_at dksJ27_rotateRight_2 0 rfl rfl)
theorem dJ27_rotateRight_49 : decode cJ27_rotateRight 49 = .ok (.putfield 101, 3) := dk_181 0 101 (dk_at dksJ27_rotateRight_2 1 rfl rfl)
theorem dJ27_rotateRight_52 : decode cJ27_rotateRight 52 = .ok (.goto 33, 3) := dk_167 0 33 (dk_at dksJ27_rotateRight_2 4 rfl rfl)
theorem dJ27_rotateRight_55 : decode cJ27_rotateRight 55 = .ok (.aload_n 1, 1) := dk_43 (dk_at dksJ27_rotateRight_2 7 rfl rfl)
theorem dJ27_rotateRight_56 : decode cJ27_rotateRight 56 = .ok (.getfield 124, 3) := dk_180 0 124 (dk_at dksJ27_rotateRight_2 8 rfl rfl)
theorem dJ27_rotateRight_59 : decode cJ27_rotateRight 59 = .ok (.getfield 114, 3) := dk_180 0 114 (dk_at dksJ27_rotateRight_2 11 rfl rfl)
theorem dJ27_rotateRight_62 : decode cJ27_rotateRight 62 = .ok (.aload_n 1, 1) := dk_43 (dk_at dksJ27_rotateRight_2 14 rfl rfl)
theorem dJ27_rotateRight_63 : decode cJ27_rotateRight 63 = .ok (.if_acmp .ne 14, 3) := dk_166 0 14 (dk_at dksJ27_rotateRight_2 15 rfl rfl)
theorem dJ27_rotateRight_66 : decode cJ27_rotateRight 66 = .ok (.aload_n 1, 1) := dk_43 (dk_at dksJ27_rotateRight_2 18 rfl rfl)
theorem dJ27_rotateRight_67 : decode cJ27_rotateRight 67 = .ok (.getfield 124, 3) := dk_180 0 124 (dk_at dksJ27_rotateRight_2 19 rfl rfl)
theorem dJ27_rotateRight_70 : decode cJ27_rotateRight 70 = .ok (.aload_n 2, 1) := dk_44 (dk_at dksJ27_rotateRight_2 22 rfl rfl)
theorem dJ27_rotateRight_71 : decode cJ27_rotateRight 71 = .ok (.putfield 114, 3) := dk_181 0 114 (dk_at dksJ27_rotateRight_3 0 rfl rfl)
theorem dJ27_rotateRight_74 : decode cJ27_rotateRight 74 = .ok (.goto 11, 3) := dk_167 0 11 (dk_at dksJ27_rotateRight_3 3 rfl rfl)
theorem dJ27_rotateRight_77 : decode cJ27_rotateRight 77 = .ok (.aload_n 1, 1) := dk_43 (dk_at dksJ27_rotateRight_3 6 rfl rfl)
theorem dJ27_rotateRight_78 : decode cJ27_rotateRight 78 = .ok (.getfield 124, 3) := dk_180 0 124 (dk_at dksJ27_rotateRight_3 7 rfl rfl)
theorem dJ27_rotateRight_81 : decode cJ27_rotateRight 81 = .ok (.aload_n 2, 1) := dk_44 (dk_at dksJ27_rotateRight_3 10 rfl rfl)
theorem dJ27_rotateRight_82 : decode cJ27_rotateRight 82 = .ok (.putfield 111, 3) := dk_181 0 111 (dk_at dksJ27_rotateRight_3 11 rfl rfl)
theorem dJ27_rotateRight_85 : decode cJ27_rotateRight 85 = .ok (.aload_n 2, 1) := dk_44 (dk_at dksJ27_rotateRight_3 14 rfl rfl)
theorem dJ27_rotateRight_86 : decode cJ27_rotateRight 86 = .ok (.aload_n 1, 1) := dk_43 (dk_at dksJ27_rotateRight_3 15 rfl rfl)
theorem dJ27_rotateRight_87 : decode cJ27_rotateRight 87 = .ok (.putfield 114, 3) := dk_181 0 114 (dk_at dksJ27_rotateRight_3 16 rfl rfl)
theorem dJ27_rotateRight_90 : decode cJ27_rotateRight 90 = .ok (.aload_n 1, 1) := dk_43 (dk_at dksJ27_rotateRight_3 19 rfl rfl)
theorem dJ27_rotateRight_91 : decode cJ27_rotateRight 91 = .ok (.aload_n 2, 1) := dk_44 (dk_at dksJ27_rotateRight_3 20 rfl rfl)
theorem dJ27_rotateRight_92 : decode cJ27_rotateRight 92 = .ok (.putfield 124, 3) := dk_181 0 124 (dk_at dksJ27_rotateRight_3 21 rfl rfl)
theorem dJ27_rotateRight_95 : decode cJ27_rotateRight 95 = .ok (.return_, 1) := dk_177 (dk_at dksJ27_rotateRight_4 0 rfl rfl)
abbrev cJ27_init : ByteArray := prog_103_method_1_code
def yJ27_init : MethodName := ⟨RJ27, "<init>", "()V"⟩
def dkwJ27_init_0 : List UInt8 := [42, 183, 0, 1, 42, 3, 181, 0, 7, 42, 3, 181, 0, 13, 42, 1, 181, 0, 16, 177]
abbrev dktJ27_init_0 : List UInt8 := dkwJ27_init_0 ++ []
theorem dksJ27_init_0 : cJ27_init.data.toList.drop 0 = dktJ27_init_0 := by decide +kernel
theorem dJ27_init_0 : decode cJ27_init 0 = .ok (.aload_n 0, 1) := dk_42 (dk_at dksJ27_init_0 0 rfl rfl)
theorem dJ27_init_1 : decode cJ27_init 1 = .ok (.invokespecial 1, 3) := dk_183 0 1 (dk_at dksJ27_init_0 1 rfl rfl)
theorem dJ27_init_4 : decode cJ27_init 4 = .ok (.aload_n 0, 1) := dk_42 (dk_at dksJ27_init_0 4 rfl rfl)
theorem dJ27_init_5 : decode cJ27_init 5 = .ok (.iconst 0, 1) := dk_3 (dk_at dksJ27_init_0 5 rfl rfl)
theorem dJ27_init_6 : decode cJ27_init 6 = .ok (.putfield 7, 3) := dk_181 0 7 (dk_at dksJ27_init_0 6 rfl rfl)
theorem dJ27_init_9 : decode cJ27_init 9 = .ok (.aload_n 0, 1) := dk_42 (dk_at dksJ27_init_0 9 rfl rfl)
theorem dJ27_init_10 : decode cJ27_init 10 = .ok (.iconst 0, 1) := dk_3 (dk_at dksJ27_init_0 10 rfl rfl)
theorem dJ27_init_11 : decode cJ27_init 11 = .ok (.putfield 13, 3) := dk_181 0 13 (dk_at dksJ27_init_0 11 rfl rfl)
theorem dJ27_init_14 : decode cJ27_init 14 = .ok (.aload_n 0, 1) := dk_42 (dk_at dksJ27_init_0 14 rfl rfl)
theorem dJ27_init_15 : decode cJ27_init 15 = .ok (.aconst_null, 1) := dk_1 (dk_at dksJ27_init_0 15 rfl rfl)
theorem dJ27_init_16 : decode cJ27_init 16 = .ok (.putfield 16, 3) := dk_181 0 16 (dk_at dksJ27_init_0 16 rfl rfl)
theorem dJ27_init_19 : decode cJ27_init 19 = .ok (.return_, 1) := dk_177 (dk_at dksJ27_init_0 19 rfl rfl)
abbrev cJ27_put : ByteArray := prog_103_method_21_code
def yJ27_put : MethodName := ⟨RJ27, "put", "(Ljava/lang/Object;Ljava/lang/Object;)Ljava/lang/Object;"⟩
def dkwJ27_put_0 : List UInt8 := [42, 43, 44, 4, 182, 0, 127, 176]
abbrev dktJ27_put_0 : List UInt8 := dkwJ27_put_0 ++ []
theorem dksJ27_put_0 : cJ27_put.data.toList.drop 0 = dktJ27_put_0 := by decide +kernel
theorem dJ27_put_0 : decode cJ27_put 0 = .ok (.aload_n 0, 1) := dk_42 (dk_at dksJ27_put_0 0 rfl rfl)
theorem dJ27_put_1 : decode cJ27_put 1 = .ok (.aload_n 1, 1) := dk_43 (dk_at dksJ27_put_0 1 rfl rfl)
theorem dJ27_put_2 : decode cJ27_put 2 = .ok (.aload_n 2, 1) := dk_44 (dk_at dksJ27_put_0 2 rfl rfl)
theorem dJ27_put_3 : decode cJ27_put 3 = .ok (.iconst 1, 1) := dk_4 (dk_at dksJ27_put_0 3 rfl rfl)
theorem dJ27_put_4 : decode cJ27_put 4 = .ok (.invokevirtual 127, 3) := dk_182 0 127 (dk_at dksJ27_put_0 4 rfl rfl)
theorem dJ27_put_7 : decode cJ27_put 7 = .ok (.areturn, 1) := dk_176 (dk_at dksJ27_put_0 7 rfl rfl)
abbrev cJ27_put_2 : ByteArray := prog_103_method_31_code
def yJ27_put_2 : MethodName := ⟨RJ27, "put", "(Ljava/lang/Object;Ljava/lang/Object;Z)Ljava/lang/Object;"⟩
def dkwJ27_put_2_9 : List UInt8 := [4, 167, 0, 4, 3, 182, 0, 139, 1, 176]
abbrev dktJ27_put_2_9 : List UInt8 := dkwJ27_put_2_9 ++ []
def dkwJ27_put_2_8 : List UInt8 := [25, 4, 44, 181, 0, 58, 25, 9, 176, 25, 4, 199, 255, 181, 42, 43, 44, 25, 6, 21, 5, 156, 0, 7]
abbrev dktJ27_put_2_8 : List UInt8 := dkwJ27_put_2_8 ++ dktJ27_put_2_9
def dkwJ27_put_2_7 : List UInt8 := [180, 0, 114, 58, 4, 167, 0, 28, 25, 4, 180, 0, 58, 58, 9, 29, 154, 0, 8, 25, 9, 199, 0, 9]
abbrev dktJ27_put_2_7 : List UInt8 := dkwJ27_put_2_7 ++ dktJ27_put_2_8
def dkwJ27_put_2_6 : List UInt8 := [21, 5, 156, 0, 13, 25, 4, 180, 0, 111, 58, 4, 167, 0, 43, 21, 5, 158, 0, 13, 25, 4]
abbrev dktJ27_put_2_6 : List UInt8 := dkwJ27_put_2_6 ++ dktJ27_put_2_7
def dkwJ27_put_2_5 : List UInt8 := [192, 0, 99, 58, 8, 25, 4, 58, 6, 25, 8, 25, 4, 180, 0, 105, 185, 0, 107, 2, 0, 54, 5]
abbrev dktJ27_put_2_5 : List UInt8 := dkwJ27_put_2_5 ++ dktJ27_put_2_6
def dkwJ27_put_2_4 : List UInt8 := [25, 4, 44, 181, 0, 58, 25, 8, 176, 25, 4, 199, 255, 180, 167, 0, 92, 43, 184, 0, 95, 87, 43]
abbrev dktJ27_put_2_4 : List UInt8 := dkwJ27_put_2_4 ++ dktJ27_put_2_5
def dkwJ27_put_2_3 : List UInt8 := [180, 0, 114, 58, 4, 167, 0, 28, 25, 4, 180, 0, 58, 58, 8, 29, 154, 0, 8, 25, 8, 199, 0, 9]
abbrev dktJ27_put_2_3 : List UInt8 := dkwJ27_put_2_3 ++ dktJ27_put_2_4
def dkwJ27_put_2_2 : List UInt8 := [54, 5, 21, 5, 156, 0, 13, 25, 4, 180, 0, 111, 58, 4, 167, 0, 43, 21, 5, 158, 0, 13, 25, 4]
abbrev dktJ27_put_2_2 : List UInt8 := dkwJ27_put_2_2 ++ dktJ27_put_2_3
def dkwJ27_put_2_1 : List UInt8 := [58, 7, 25, 7, 198, 0, 85, 25, 4, 58, 6, 25, 7, 43, 25, 4, 180, 0, 105, 185, 0, 117, 3, 0]
abbrev dktJ27_put_2_1 : List UInt8 := dkwJ27_put_2_1 ++ dktJ27_put_2_2
def dkwJ27_put_2_0 : List UInt8 := [42, 180, 0, 101, 58, 4, 25, 4, 199, 0, 11, 42, 43, 44, 182, 0, 135, 1, 176, 42, 180, 0, 16]
abbrev dktJ27_put_2_0 : List UInt8 := dkwJ27_put_2_0 ++ dktJ27_put_2_1
theorem dksJ27_put_2_0 : cJ27_put_2.data.toList.drop 0 = dktJ27_put_2_0 := by decide +kernel
theorem dksJ27_put_2_1 : cJ27_put_2.data.toList.drop 23 = dktJ27_put_2_1 := dk_seg dksJ27_put_2_0 23 rfl rfl
theorem dksJ27_put_2_2 : cJ27_put_2.data.toList.drop 47 = dktJ27_put_2_2 := dk_seg dksJ27_put_2_1 24 rfl rfl
theorem dksJ27_put_2_3 : cJ27_put_2.data.toList.drop 71 = dktJ27_put_2_3 := dk_seg dksJ27_put_2_2 24 rfl rfl
theorem dksJ27_put_2_4 : cJ27_put_2.data.toList.drop 95 = dktJ27_put_2_4 := dk_seg dksJ27_put_2_3 24 rfl rfl
theorem dksJ27_put_2_5 : cJ27_put_2.data.toList.drop 118 = dktJ27_put_2_5 := dk_seg dksJ27_put_2_4 23 rfl rfl
theorem dksJ27_put_2_6 : cJ27_put_2.data.toList.drop 141 = dktJ27_put_2_6 := dk_seg dksJ27_put_2_5 23 rfl rfl
theorem dksJ27_put_2_7 : cJ27_put_2.data.toList.drop 163 = dktJ27_put_2_7 := dk_seg dksJ27_put_2_6 22 rfl rfl
theorem dksJ27_put_2_8 : cJ27_put_2.data.toList.drop 187 = dktJ27_put_2_8 := dk_seg dksJ27_put_2_7 24 rfl rfl
theorem dksJ27_put_2_9 : cJ27_put_2.data.toList.drop 211 = dktJ27_put_2_9 := dk_seg dksJ27_put_2_8 24 rfl rfl
theorem dJ27_put_2_0 : decode cJ27_put_2 0 = .ok (.aload_n 0, 1) := dk_42 (dk_at dksJ27_put_2_0 0 rfl rfl)
theorem dJ27_put_2_1 : decode cJ27_put_2 1 = .ok (.getfield 101, 3) := dk_180 0 101 (dk_at dksJ27_put_2_0 1 rfl rfl)
theorem dJ27_put_2_4 : decode cJ27_put_2 4 = .ok (.astore 4, 2) := dk_58 4 (dk_at dksJ27_put_2_0 4 rfl rfl)
theorem dJ27_put_2_6 : decode cJ27_put_2 6 = .ok (.aload 4, 2) := dk_25 4 (dk_at dksJ27_put_2_0 6 rfl rfl)
theorem dJ27_put_2_8 : decode cJ27_put_2 8 = .ok (.ifnonnull 11, 3) := dk_199 0 11 (dk_at dksJ27_put_2_0 8 rfl rfl)
theorem dJ27_put_2_11 : decode cJ27_put_2 11 = .ok (.aload_n 0, 1) := dk_42 (dk_at dksJ27_put_2_0 11 rfl rfl)
theorem dJ27_put_2_12 : decode cJ27_put_2 12 = .ok (.aload_n 1, 1) := dk_43 (dk_at dksJ27_put_2_0 12 rfl rfl)
theorem dJ27_put_2_13 : decode cJ27_put_2 13 = .ok (.aload_n 2, 1) := dk_44 (dk_at dksJ27_put_2_0 13 rfl rfl)
theorem dJ27_put_2_14 : decode cJ27_put_2 14 = .ok (.invokevirtual 135, 3) := dk_182 0 135 (dk_at dksJ27_put_2_0 14 rfl rfl)
theorem dJ27_put_2_17 : decode cJ27_put_2 17 = .ok (.aconst_null, 1) := dk_1 (dk_at dksJ27_put_2_0 17 rfl rfl)
theorem dJ27_put_2_18 : decode cJ27_put_2 18 = .ok (.areturn, 1) := dk_176 (dk_at dksJ27_put_2_0 18 rfl rfl)
theorem dJ27_put_2_19 : decode cJ27_put_2 19 = .ok (.aload_n 0, 1) := dk_42 (dk_at dksJ27_put_2_0 19 rfl rfl)
theorem dJ27_put_2_20 : decode cJ27_put_2 20 = .ok (.getfield 16, 3) := dk_180 0 16 (dk_at dksJ27_put_2_0 20 rfl rfl)
theorem dJ27_put_2_23 : decode cJ27_put_2 23 = .ok (.astore 7, 2) := dk_58 7 (dk_at dksJ27_put_2_1 0 rfl rfl)
theorem dJ27_put_2_25 : decode cJ27_put_2 25 = .ok (.aload 7, 2) := dk_25 7 (dk_at dksJ27_put_2_1 2 rfl rfl)
theorem dJ27_put_2_27 : decode cJ27_put_2 27 = .ok (.ifnull 85, 3) := dk_198 0 85 (dk_at dksJ27_put_2_1 4 rfl rfl)
theorem dJ27_put_2_30 : decode cJ27_put_2 30 = .ok (.aload 4, 2) := dk_25 4 (dk_at dksJ27_put_2_1 7 rfl rfl)
theorem dJ27_put_2_32 : decode cJ27_put_2 32 = .ok (.astore 6, 2) := dk_58 6 (dk_at dksJ27_put_2_1 9 rfl rfl)
theorem dJ27_put_2_34 : decode cJ27_put_2 34 = .ok (.aload 7, 2) := dk_25 7 (dk_at dksJ27_put_2_1 11 rfl rfl)
theorem dJ27_put_2_36 : decode cJ27_put_2 36 = .ok (.aload_n 1, 1) := dk_43 (dk_at dksJ27_put_2_1 13 rfl rfl)
theorem dJ27_put_2_37 : decode cJ27_put_2 37 = .ok (.aload 4, 2) := dk_25 4 (dk_at dksJ27_put_2_1 14 rfl rfl)
theorem dJ27_put_2_39 : decode cJ27_put_2 39 = .ok (.getfield 105, 3) := dk_180 0 105 (dk_at dksJ27_put_2_1 16 rfl rfl)
theorem dJ27_put_2_42 : decode cJ27_put_2 42 = .ok (.invokeinterface 117 3, 5) := by decide +kernel
theorem dJ27_put_2_47 : decode cJ27_put_2 47 = .ok (.istore 5, 2) := dk_54 5 (dk_at dksJ27_put_2_2 0 rfl rfl)
theorem dJ27_put_2_49 : decode cJ27_put_2 49 = .ok (.iload 5, 2) := dk_21 5 (dk_at dksJ27_put_2_2 2 rfl rfl)
theorem dJ27_put_2_51 : decode cJ27_put_2 51 = .ok (.ifCond .ge 13, 3) := dk_156 0 13 (dk_at dksJ27_put_2_2 4 rfl rfl)
theorem dJ27_put_2_54 : decode cJ27_put_2 54 = .ok (.aload 4, 2) := dk_25 4 (dk_at dksJ27_put_2_2 7 rfl rfl)
theorem dJ27_put_2_56 : decode cJ27_put_2 56 = .ok (.getfield 111, 3) := dk_180 0 111 (dk_at dksJ27_put_2_2 9 rfl rfl)
theorem dJ27_put_2_59 : decode cJ27_put_2 59 = .ok (.astore 4, 2) := dk_58 4 (dk_at dksJ27_put_2_2 12 rfl rfl)
theorem dJ27_put_2_61 : decode cJ27_put_2 61 = .ok (.goto 43, 3) := dk_167 0 43 (dk_at dksJ27_put_2_2 14 rfl rfl)
theorem dJ27_put_2_64 : decode cJ27_put_2 64 = .ok (.iload 5, 2) := dk_21 5 (dk_at dksJ27_put_2_2 17 rfl rfl)
theorem dJ27_put_2_66 : decode cJ27_put_2 66 = .ok (.ifCond .le 13, 3) := dk_158 0 13 (dk_at dksJ27_put_2_2 19 rfl rfl)
theorem dJ27_put_2_69 : decode cJ27_put_2 69 = .ok (.aload 4, 2) := dk_25 4 (dk_at dksJ27_put_2_2 22 rfl rfl)
theorem dJ27_put_2_71 : decode cJ27_put_2 71 = .ok (.getfield 114, 3) := dk_180 0 114 (dk_at dksJ27_put_2_3 0 rfl rfl)
theorem dJ27_put_2_74 : decode cJ27_put_2 74 = .ok (.astore 4, 2) := dk_58 4 (dk_at dksJ27_put_2_3 3 rfl rfl)
theorem dJ27_put_2_76 : decode cJ27_put_2 76 = .ok (.goto 28, 3) := dk_167 0 28 (dk_at dksJ27_put_2_3 5 rfl rfl)
theorem dJ27_put_2_79 : decode cJ27_put_2 79 = .ok (.aload 4, 2) := dk_25 4 (dk_at dksJ27_put_2_3 8 rfl rfl)
theorem dJ27_put_2_81 : decode cJ27_put_2 81 = .ok (.getfield 58, 3) := dk_180 0 58 (dk_at dksJ27_put_2_3 10 rfl rfl)
theorem dJ27_put_2_84 : decode cJ27_put_2 84 = .ok (.astore 8, 2) := dk_58 8 (dk_at dksJ27_put_2_3 13 rfl rfl)
theorem dJ27_put_2_86 : decode cJ27_put_2 86 = .ok (.iload_n 3, 1) := dk_29 (dk_at dksJ27_put_2_3 15 rfl rfl)
theorem dJ27_put_2_87 : decode cJ27_put_2 87 = .ok (.ifCond .ne 8, 3) := dk_154 0 8 (dk_at dksJ27_put_2_3 16 rfl rfl)
theorem dJ27_put_2_90 : decode cJ27_put_2 90 = .ok (.aload 8, 2) := dk_25 8 (dk_at dksJ27_put_2_3 19 rfl rfl)
theorem dJ27_put_2_92 : decode cJ27_put_2 92 = .ok (.ifnonnull 9, 3) := dk_199 0 9 (dk_at dksJ27_put_2_3 21 rfl rfl)
theorem dJ27_put_2_95 : decode cJ27_put_2 95 = .ok (.aload 4, 2) := dk_25 4 (dk_at dksJ27_put_2_4 0 rfl rfl)
theorem dJ27_put_2_97 : decode cJ27_put_2 97 = .ok (.aload_n 2, 1) := dk_44 (dk_at dksJ27_put_2_4 2 rfl rfl)
theorem dJ27_put_2_98 : decode cJ27_put_2 98 = .ok (.putfield 58, 3) := dk_181 0 58 (dk_at dksJ27_put_2_4 3 rfl rfl)
theorem dJ27_put_2_101 : decode cJ27_put_2 101 = .ok (.aload 8, 2) := dk_25 8 (dk_at dksJ27_put_2_4 6 rfl rfl)
theorem dJ27_put_2_103 : decode cJ27_put_2 103 = .ok (.areturn, 1) := dk_176 (dk_at dksJ27_put_2_4 8 rfl rfl)
theorem dJ27_put_2_104 : decode cJ27_put_2 104 = .ok (.aload 4, 2) := dk_25 4 (dk_at dksJ27_put_2_4 9 rfl rfl)
theorem dJ27_put_2_106 : decode cJ27_put_2 106 = .ok (.ifnonnull (-76), 3) := dk_199 255 180 (dk_at dksJ27_put_2_4 11 rfl rfl)
theorem dJ27_put_2_109 : decode cJ27_put_2 109 = .ok (.goto 92, 3) := dk_167 0 92 (dk_at dksJ27_put_2_4 14 rfl rfl)
theorem dJ27_put_2_112 : decode cJ27_put_2 112 = .ok (.aload_n 1, 1) := dk_43 (dk_at dksJ27_put_2_4 17 rfl rfl)
theorem dJ27_put_2_113 : decode cJ27_put_2 113 = .ok (.invokestatic 95, 3) := dk_184 0 95 (dk_at dksJ27_put_2_4 18 rfl rfl)
theorem dJ27_put_2_116 : decode cJ27_put_2 116 = .ok (.pop, 1) := dk_87 (dk_at dksJ27_put_2_4 21 rfl rfl)
theorem dJ27_put_2_117 : decode cJ27_put_2 117 = .ok (.aload_n 1, 1) := dk_43 (dk_at dksJ27_put_2_4 22 rfl rfl)
theorem dJ27_put_2_118 : decode cJ27_put_2 118 = .ok (.checkcast 99, 3) := dk_192 0 99 (dk_at dksJ27_put_2_5 0 rfl rfl)
theorem dJ27_put_2_121 : decode cJ27_put_2 121 = .ok (.astore 8, 2) := dk_58 8 (dk_at dksJ27_put_2_5 3 rfl rfl)
theorem dJ27_put_2_123 : decode cJ27_put_2 123 = .ok (.aload 4, 2) := dk_25 4 (dk_at dksJ27_put_2_5 5 rfl rfl)
theorem dJ27_put_2_125 : decode cJ27_put_2 125 = .ok (.astore 6, 2) := dk_58 6 (dk_at dksJ27_put_2_5 7 rfl rfl)
theorem dJ27_put_2_127 : decode cJ27_put_2 127 = .ok (.aload 8, 2) := dk_25 8 (dk_at dksJ27_put_2_5 9 rfl rfl)
theorem dJ27_put_2_129 : decode cJ27_put_2 129 = .ok (.aload 4, 2) := dk_25 4 (dk_at dksJ27_put_2_5 11 rfl rfl)
theorem dJ27_put_2_131 : decode cJ27_put_2 131 = .ok (.getfield 105, 3) := dk_180 0 105 (dk_at dksJ27_put_2_5 13 rfl rfl)
theorem dJ27_put_2_134 : decode cJ27_put_2 134 = .ok (.invokeinterface 107 2, 5) := by decide +kernel
theorem dJ27_put_2_139 : decode cJ27_put_2 139 = .ok (.istore 5, 2) := dk_54 5 (dk_at dksJ27_put_2_5 21 rfl rfl)
theorem dJ27_put_2_141 : decode cJ27_put_2 141 = .ok (.iload 5, 2) := dk_21 5 (dk_at dksJ27_put_2_6 0 rfl rfl)
theorem dJ27_put_2_143 : decode cJ27_put_2 143 = .ok (.ifCond .ge 13, 3) := dk_156 0 13 (dk_at dksJ27_put_2_6 2 rfl rfl)
theorem dJ27_put_2_146 : decode cJ27_put_2 146 = .ok (.aload 4, 2) := dk_25 4 (dk_at dksJ27_put_2_6 5 rfl rfl)
theorem dJ27_put_2_148 : decode cJ27_put_2 148 = .ok (.getfield 111, 3) := dk_180 0 111 (dk_at dksJ27_put_2_6 7 rfl rfl)
theorem dJ27_put_2_151 : decode cJ27_put_2 151 = .ok (.astore 4, 2) := dk_58 4 (dk_at dksJ27_put_2_6 10 rfl rfl)
theorem dJ27_put_2_153 : decode cJ27_put_2 153 = .ok (.goto 43, 3) := dk_167 0 43 (dk_at dksJ27_put_2_6 12 rfl rfl)
theorem dJ27_put_2_156 : decode cJ27_put_2 156 = .ok (.iload 5, 2) := dk_21 5 (dk_at dksJ27_put_2_6 15 rfl rfl)
theorem dJ27_put_2_158 : decode cJ27_put_2 158 = .ok (.ifCond .le 13, 3) := dk_158 0 13 (dk_at dksJ27_put_2_6 17 rfl rfl)
theorem dJ27_put_2_161 : decode cJ27_put_2 161 = .ok (.aload 4, 2) := dk_25 4 (dk_at dksJ27_put_2_6 20 rfl rfl)
theorem dJ27_put_2_163 : decode cJ27_put_2 163 = .ok (.getfield 114, 3) := dk_180 0 114 (dk_at dksJ27_put_2_7 0 rfl rfl)
theorem dJ27_put_2_166 : decode cJ27_put_2 166 = .ok (.astore 4, 2) := dk_58 4 (dk_at dksJ27_put_2_7 3 rfl rfl)
theorem dJ27_put_2_168 : decode cJ27_put_2 168 = .ok (.goto 28, 3) := dk_167 0 28 (dk_at dksJ27_put_2_7 5 rfl rfl)
theorem dJ27_put_2_171 : decode cJ27_put_2 171 = .ok (.aload 4, 2) := dk_25 4 (dk_at dksJ27_put_2_7 8 rfl rfl)
theorem dJ27_put_2_173 : decode cJ27_put_2 173 = .ok (.getfield 58, 3) := dk_180 0 58 (dk_at dksJ27_put_2_7 10 rfl rfl)
theorem dJ27_put_2_176 : decode cJ27_put_2 176 = .ok (.astore 9, 2) := dk_58 9 (dk_at dksJ27_put_2_7 13 rfl rfl)
theorem dJ27_put_2_178 : decode cJ27_put_2 178 = .ok (.iload_n 3, 1) := dk_29 (dk_at dksJ27_put_2_7 15 rfl rfl)
theorem dJ27_put_2_179 : decode cJ27_put_2 179 = .ok (.ifCond .ne 8, 3) := dk_154 0 8 (dk_at dksJ27_put_2_7 16 rfl rfl)
theorem dJ27_put_2_182 : decode cJ27_put_2 182 = .ok (.aload 9, 2) := dk_25 9 (dk_at dksJ27_put_2_7 19 rfl rfl)
theorem dJ27_put_2_184 : decode cJ27_put_2 184 = .ok (.ifnonnull 9, 3) := dk_199 0 9 (dk_at dksJ27_put_2_7 21 rfl rfl)
theorem dJ27_put_2_187 : decode cJ27_put_2 187 = .ok (.aload 4, 2) := dk_25 4 (dk_at dksJ27_put_2_8 0 rfl rfl)
theorem dJ27_put_2_189 : decode cJ27_put_2 189 = .ok (.aload_n 2, 1) := dk_44 (dk_at dksJ27_put_2_8 2 rfl rfl)
theorem dJ27_put_2_190 : decode cJ27_put_2 190 = .ok (.putfield 58, 3) := dk_181 0 58 (dk_at dksJ27_put_2_8 3 rfl rfl)
theorem dJ27_put_2_193 : decode cJ27_put_2 193 = .ok (.aload 9, 2) := dk_25 9 (dk_at dksJ27_put_2_8 6 rfl rfl)
theorem dJ27_put_2_195 : decode cJ27_put_2 195 = .ok (.areturn, 1) := dk_176 (dk_at dksJ27_put_2_8 8 rfl rfl)
theorem dJ27_put_2_196 : decode cJ27_put_2 196 = .ok (.aload 4, 2) := dk_25 4 (dk_at dksJ27_put_2_8 9 rfl rfl)
theorem dJ27_put_2_198 : decode cJ27_put_2 198 = .ok (.ifnonnull (-75), 3) := dk_199 255 181 (dk_at dksJ27_put_2_8 11 rfl rfl)
theorem dJ27_put_2_201 : decode cJ27_put_2 201 = .ok (.aload_n 0, 1) := dk_42 (dk_at dksJ27_put_2_8 14 rfl rfl)
theorem dJ27_put_2_202 : decode cJ27_put_2 202 = .ok (.aload_n 1, 1) := dk_43 (dk_at dksJ27_put_2_8 15 rfl rfl)
theorem dJ27_put_2_203 : decode cJ27_put_2 203 = .ok (.aload_n 2, 1) := dk_44 (dk_at dksJ27_put_2_8 16 rfl rfl)
theorem dJ27_put_2_204 : decode cJ27_put_2 204 = .ok (.aload 6, 2) := dk_25 6 (dk_at dksJ27_put_2_8 17 rfl rfl)
theorem dJ27_put_2_206 : decode cJ27_put_2 206 = .ok (.iload 5, 2) := dk_21 5 (dk_at dksJ27_put_2_8 19 rfl rfl)
theorem dJ27_put_2_208 : decode cJ27_put_2 208 = .ok (.ifCond .ge 7, 3) := dk_156 0 7 (dk_at dksJ27_put_2_8 21 rfl rfl)
theorem dJ27_put_2_211 : decode cJ27_put_2 211 = .ok (.iconst 1, 1) := dk_4 (dk_at dksJ27_put_2_9 0 rfl rfl)
theorem dJ27_put_2_212 : decode cJ27_put_2 212 = .ok (.goto 4, 3) := dk_167 0 4 (dk_at dksJ27_put_2_9 1 rfl rfl)
theorem dJ27_put_2_215 : decode cJ27_put_2 215 = .ok (.iconst 0, 1) := dk_3 (dk_at dksJ27_put_2_9 4 rfl rfl)
theorem dJ27_put_2_216 : decode cJ27_put_2 216 = .ok (.invokevirtual 139, 3) := dk_182 0 139 (dk_at dksJ27_put_2_9 5 rfl rfl)
theorem dJ27_put_2_219 : decode cJ27_put_2 219 = .ok (.aconst_null, 1) := dk_1 (dk_at dksJ27_put_2_9 8 rfl rfl)
theorem dJ27_put_2_220 : decode cJ27_put_2 220 = .ok (.areturn, 1) := dk_176 (dk_at dksJ27_put_2_9 9 rfl rfl)
abbrev cJ27_addEntryToEmptyMap : ByteArray := prog_103_method_30_code
def yJ27_addEntryToEmptyMap : MethodName := ⟨RJ27, "addEntryToEmptyMap", "(Ljava/lang/Object;Ljava/lang/Object;)V"⟩
def dkwJ27_addEntryToEmptyMap_1 : List UInt8 := [181, 0, 7, 42, 89, 180, 0, 13, 4, 96, 181, 0, 13, 177]
abbrev dktJ27_addEntryToEmptyMap_1 : List UInt8 := dkwJ27_addEntryToEmptyMap_1 ++ []
def dkwJ27_addEntryToEmptyMap_0 : List UInt8 := [42, 43, 43, 182, 0, 123, 87, 42, 187, 0, 59, 89, 43, 44, 1, 183, 0, 167, 181, 0, 101, 42, 4]
abbrev dktJ27_addEntryToEmptyMap_0 : List UInt8 := dkwJ27_addEntryToEmptyMap_0 ++ dktJ27_addEntryToEmptyMap_1
theorem dksJ27_addEntryToEmptyMap_0 : cJ27_addEntryToEmptyMap.data.toList.drop 0 = dktJ27_addEntryToEmptyMap_0 := by decide +kernel
theorem dksJ27_addEntryToEmptyMap_1 : cJ27_addEntryToEmptyMap.data.toList.drop 23 = dktJ27_addEntryToEmptyMap_1 := dk_seg dksJ27_addEntryToEmptyMap_0 23 rfl rfl
theorem dJ27_addEntryToEmptyMap_0 : decode cJ27_addEntryToEmptyMap 0 = .ok (.aload_n 0, 1) := dk_42 (dk_at dksJ27_addEntryToEmptyMap_0 0 rfl rfl)
theorem dJ27_addEntryToEmptyMap_1 : decode cJ27_addEntryToEmptyMap 1 = .ok (.aload_n 1, 1) := dk_43 (dk_at dksJ27_addEntryToEmptyMap_0 1 rfl rfl)
theorem dJ27_addEntryToEmptyMap_2 : decode cJ27_addEntryToEmptyMap 2 = .ok (.aload_n 1, 1) := dk_43 (dk_at dksJ27_addEntryToEmptyMap_0 2 rfl rfl)
theorem dJ27_addEntryToEmptyMap_3 : decode cJ27_addEntryToEmptyMap 3 = .ok (.invokevirtual 123, 3) := dk_182 0 123 (dk_at dksJ27_addEntryToEmptyMap_0 3 rfl rfl)
theorem dJ27_addEntryToEmptyMap_6 : decode cJ27_addEntryToEmptyMap 6 = .ok (.pop, 1) := dk_87 (dk_at dksJ27_addEntryToEmptyMap_0 6 rfl rfl)
theorem dJ27_addEntryToEmptyMap_7 : decode cJ27_addEntryToEmptyMap 7 = .ok (.aload_n 0, 1) := dk_42 (dk_at dksJ27_addEntryToEmptyMap_0 7 rfl rfl)
theorem dJ27_addEntryToEmptyMap_8 : decode cJ27_addEntryToEmptyMap 8 = .ok (.new 59, 3) := dk_187 0 59 (dk_at dksJ27_addEntryToEmptyMap_0 8 rfl rfl)
theorem dJ27_addEntryToEmptyMap_11 : decode cJ27_addEntryToEmptyMap 11 = .ok (.dup, 1) := dk_89 (dk_at dksJ27_addEntryToEmptyMap_0 11 rfl rfl)
theorem dJ27_addEntryToEmptyMap_12 : decode cJ27_addEntryToEmptyMap 12 = .ok (.aload_n 1, 1) := dk_43 (dk_at dksJ27_addEntryToEmptyMap_0 12 rfl rfl)
theorem dJ27_addEntryToEmptyMap_13 : decode cJ27_addEntryToEmptyMap 13 = .ok (.aload_n 2, 1) := dk_44 (dk_at dksJ27_addEntryToEmptyMap_0 13 rfl rfl)
theorem dJ27_addEntryToEmptyMap_14 : decode cJ27_addEntryToEmptyMap 14 = .ok (.aconst_null, 1) := dk_1 (dk_at dksJ27_addEntryToEmptyMap_0 14 rfl rfl)
theorem dJ27_addEntryToEmptyMap_15 : decode cJ27_addEntryToEmptyMap 15 = .ok (.invokespecial 167, 3) := dk_183 0 167 (dk_at dksJ27_addEntryToEmptyMap_0 15 rfl rfl)
theorem dJ27_addEntryToEmptyMap_18 : decode cJ27_addEntryToEmptyMap 18 = .ok (.putfield 101, 3) := dk_181 0 101 (dk_at dksJ27_addEntryToEmptyMap_0 18 rfl rfl)
theorem dJ27_addEntryToEmptyMap_21 : decode cJ27_addEntryToEmptyMap 21 = .ok (.aload_n 0, 1) := dk_42 (dk_at dksJ27_addEntryToEmptyMap_0 21 rfl rfl)
theorem dJ27_addEntryToEmptyMap_22 : decode cJ27_addEntryToEmptyMap 22 = .ok (.iconst 1, 1) := dk_4 (dk_at dksJ27_addEntryToEmptyMap_0 22 rfl rfl)
theorem dJ27_addEntryToEmptyMap_23 : decode cJ27_addEntryToEmptyMap 23 = .ok (.putfield 7, 3) := dk_181 0 7 (dk_at dksJ27_addEntryToEmptyMap_1 0 rfl rfl)
theorem dJ27_addEntryToEmptyMap_26 : decode cJ27_addEntryToEmptyMap 26 = .ok (.aload_n 0, 1) := dk_42 (dk_at dksJ27_addEntryToEmptyMap_1 3 rfl rfl)
theorem dJ27_addEntryToEmptyMap_27 : decode cJ27_addEntryToEmptyMap 27 = .ok (.dup, 1) := dk_89 (dk_at dksJ27_addEntryToEmptyMap_1 4 rfl rfl)
theorem dJ27_addEntryToEmptyMap_28 : decode cJ27_addEntryToEmptyMap 28 = .ok (.getfield 13, 3) := dk_180 0 13 (dk_at dksJ27_addEntryToEmptyMap_1 5 rfl rfl)
theorem dJ27_addEntryToEmptyMap_31 : decode cJ27_addEntryToEmptyMap 31 = .ok (.iconst 1, 1) := dk_4 (dk_at dksJ27_addEntryToEmptyMap_1 8 rfl rfl)
theorem dJ27_addEntryToEmptyMap_32 : decode cJ27_addEntryToEmptyMap 32 = .ok (.iadd, 1) := dk_96 (dk_at dksJ27_addEntryToEmptyMap_1 9 rfl rfl)
theorem dJ27_addEntryToEmptyMap_33 : decode cJ27_addEntryToEmptyMap 33 = .ok (.putfield 13, 3) := dk_181 0 13 (dk_at dksJ27_addEntryToEmptyMap_1 10 rfl rfl)
theorem dJ27_addEntryToEmptyMap_36 : decode cJ27_addEntryToEmptyMap 36 = .ok (.return_, 1) := dk_177 (dk_at dksJ27_addEntryToEmptyMap_1 13 rfl rfl)
abbrev cJ27_compare : ByteArray := prog_103_method_67_code
def yJ27_compare : MethodName := ⟨RJ27, "compare", "(Ljava/lang/Object;Ljava/lang/Object;)I"⟩
def dkwJ27_compare_1 : List UInt8 := [43, 44, 185, 0, 117, 3, 0, 172]
abbrev dktJ27_compare_1 : List UInt8 := dkwJ27_compare_1 ++ []
def dkwJ27_compare_0 : List UInt8 := [42, 180, 0, 16, 199, 0, 16, 43, 192, 0, 99, 44, 185, 0, 107, 2, 0, 167, 0, 14, 42, 180, 0, 16]
abbrev dktJ27_compare_0 : List UInt8 := dkwJ27_compare_0 ++ dktJ27_compare_1
theorem dksJ27_compare_0 : cJ27_compare.data.toList.drop 0 = dktJ27_compare_0 := by decide +kernel
theorem dksJ27_compare_1 : cJ27_compare.data.toList.drop 24 = dktJ27_compare_1 := dk_seg dksJ27_compare_0 24 rfl rfl
theorem dJ27_compare_0 : decode cJ27_compare 0 = .ok (.aload_n 0, 1) := dk_42 (dk_at dksJ27_compare_0 0 rfl rfl)
theorem dJ27_compare_1 : decode cJ27_compare 1 = .ok (.getfield 16, 3) := dk_180 0 16 (dk_at dksJ27_compare_0 1 rfl rfl)
theorem dJ27_compare_4 : decode cJ27_compare 4 = .ok (.ifnonnull 16, 3) := dk_199 0 16 (dk_at dksJ27_compare_0 4 rfl rfl)
theorem dJ27_compare_7 : decode cJ27_compare 7 = .ok (.aload_n 1, 1) := dk_43 (dk_at dksJ27_compare_0 7 rfl rfl)
theorem dJ27_compare_8 : decode cJ27_compare 8 = .ok (.checkcast 99, 3) := dk_192 0 99 (dk_at dksJ27_compare_0 8 rfl rfl)
theorem dJ27_compare_11 : decode cJ27_compare 11 = .ok (.aload_n 2, 1) := dk_44 (dk_at dksJ27_compare_0 11 rfl rfl)
theorem dJ27_compare_12 : decode cJ27_compare 12 = .ok (.invokeinterface 107 2, 5) := by decide +kernel
theorem dJ27_compare_17 : decode cJ27_compare 17 = .ok (.goto 14, 3) := dk_167 0 14 (dk_at dksJ27_compare_0 17 rfl rfl)
theorem dJ27_compare_20 : decode cJ27_compare 20 = .ok (.aload_n 0, 1) := dk_42 (dk_at dksJ27_compare_0 20 rfl rfl)
theorem dJ27_compare_21 : decode cJ27_compare 21 = .ok (.getfield 16, 3) := dk_180 0 16 (dk_at dksJ27_compare_0 21 rfl rfl)
theorem dJ27_compare_24 : decode cJ27_compare 24 = .ok (.aload_n 1, 1) := dk_43 (dk_at dksJ27_compare_1 0 rfl rfl)
theorem dJ27_compare_25 : decode cJ27_compare 25 = .ok (.aload_n 2, 1) := dk_44 (dk_at dksJ27_compare_1 1 rfl rfl)
theorem dJ27_compare_26 : decode cJ27_compare 26 = .ok (.invokeinterface 117 3, 5) := by decide +kernel
theorem dJ27_compare_31 : decode cJ27_compare 31 = .ok (.ireturn, 1) := dk_172 (dk_at dksJ27_compare_1 7 rfl rfl)
abbrev cJ27_addEntry : ByteArray := prog_103_method_29_code
def yJ27_addEntry : MethodName := ⟨RJ27, "addEntry", "(Ljava/lang/Object;Ljava/lang/Object;Ljava/util/TreeMap$Entry;Z)V"⟩
def dkwJ27_addEntry_2 : List UInt8 := [181, 0, 7, 42, 89, 180, 0, 13, 4, 96, 181, 0, 13, 177]
abbrev dktJ27_addEntry_2 : List UInt8 := dkwJ27_addEntry_2 ++ []
def dkwJ27_addEntry_1 : List UInt8 := [167, 0, 9, 45, 25, 5, 181, 0, 114, 42, 25, 5, 182, 0, 170, 42, 89, 180, 0, 7, 4, 96]
abbrev dktJ27_addEntry_1 : List UInt8 := dkwJ27_addEntry_1 ++ dktJ27_addEntry_2
def dkwJ27_addEntry_0 : List UInt8 := [187, 0, 59, 89, 43, 44, 45, 183, 0, 167, 58, 5, 21, 4, 153, 0, 12, 45, 25, 5, 181, 0, 111]
abbrev dktJ27_addEntry_0 : List UInt8 := dkwJ27_addEntry_0 ++ dktJ27_addEntry_1
theorem dksJ27_addEntry_0 : cJ27_addEntry.data.toList.drop 0 = dktJ27_addEntry_0 := by decide +kernel
theorem dksJ27_addEntry_1 : cJ27_addEntry.data.toList.drop 23 = dktJ27_addEntry_1 := dk_seg dksJ27_addEntry_0 23 rfl rfl
theorem dksJ27_addEntry_2 : cJ27_addEntry.data.toList.drop 45 = dktJ27_addEntry_2 := dk_seg dksJ27_addEntry_1 22 rfl rfl
theorem dJ27_addEntry_0 : decode cJ27_addEntry 0 = .ok (.new 59, 3) := dk_187 0 59 (dk_at dksJ27_addEntry_0 0 rfl rfl)
theorem dJ27_addEntry_3 : decode cJ27_addEntry 3 = .ok (.dup, 1) := dk_89 (dk_at dksJ27_addEntry_0 3 rfl rfl)
theorem dJ27_addEntry_4 : decode cJ27_addEntry 4 = .ok (.aload_n 1, 1) := dk_43 (dk_at dksJ27_addEntry_0 4 rfl rfl)
theorem dJ27_addEntry_5 : decode cJ27_addEntry 5 = .ok (.aload_n 2, 1) := dk_44 (dk_at dksJ27_addEntry_0 5 rfl rfl)
theorem dJ27_addEntry_6 : decode cJ27_addEntry 6 = .ok (.aload_n 3, 1) := dk_45 (dk_at dksJ27_addEntry_0 6 rfl rfl)
theorem dJ27_addEntry_7 : decode cJ27_addEntry 7 = .ok (.invokespecial 167, 3) := dk_183 0 167 (dk_at dksJ27_addEntry_0 7 rfl rfl)
theorem dJ27_addEntry_10 : decode cJ27_addEntry 10 = .ok (.astore 5, 2) := dk_58 5 (dk_at dksJ27_addEntry_0 10 rfl rfl)
theorem dJ27_addEntry_12 : decode cJ27_addEntry 12 = .ok (.iload 4, 2) := dk_21 4 (dk_at dksJ27_addEntry_0 12 rfl rfl)
theorem dJ27_addEntry_14 : decode cJ27_addEntry 14 = .ok (.ifCond .eq 12, 3) := dk_153 0 12 (dk_at dksJ27_addEntry_0 14 rfl rfl)
theorem dJ27_addEntry_17 : decode cJ27_addEntry 17 = .ok (.aload_n 3, 1) := dk_45 (dk_at dksJ27_addEntry_0 17 rfl rfl)
theorem dJ27_addEntry_18 : decode cJ27_addEntry 18 = .ok (.aload 5, 2) := dk_25 5 (dk_at dksJ27_addEntry_0 18 rfl rfl)
theorem dJ27_addEntry_20 : decode cJ27_addEntry 20 = .ok (.putfield 111, 3) := dk_181 0 111 (dk_at dksJ27_addEntry_0 20 rfl rfl)
theorem dJ27_addEntry_23 : decode cJ27_addEntry 23 = .ok (.goto 9, 3) := dk_167 0 9 (dk_at dksJ27_addEntry_1 0 rfl rfl)
theorem dJ27_addEntry_26 : decode cJ27_addEntry 26 = .ok (.aload_n 3, 1) := dk_45 (dk_at dksJ27_addEntry_1 3 rfl rfl)
theorem dJ27_addEntry_27 : decode cJ27_addEntry 27 = .ok (.aload 5, 2) := dk_25 5 (dk_at dksJ27_addEntry_1 4 rfl rfl)
theorem dJ27_addEntry_29 : decode cJ27_addEntry 29 = .ok (.putfield 114, 3) := dk_181 0 114 (dk_at dksJ27_addEntry_1 6 rfl rfl)
theorem dJ27_addEntry_32 : decode cJ27_addEntry 32 = .ok (.aload_n 0, 1) := dk_42 (dk_at dksJ27_addEntry_1 9 rfl rfl)
theorem dJ27_addEntry_33 : decode cJ27_addEntry 33 = .ok (.aload 5, 2) := dk_25 5 (dk_at dksJ27_addEntry_1 10 rfl rfl)
theorem dJ27_addEntry_35 : decode cJ27_addEntry 35 = .ok (.invokevirtual 170, 3) := dk_182 0 170 (dk_at dksJ27_addEntry_1 12 rfl rfl)
theorem dJ27_addEntry_38 : decode cJ27_addEntry 38 = .ok (.aload_n 0, 1) := dk_42 (dk_at dksJ27_addEntry_1 15 rfl rfl)
theorem dJ27_addEntry_39 : decode cJ27_addEntry 39 = .ok (.dup, 1) := dk_89 (dk_at dksJ27_addEntry_1 16 rfl rfl)
theorem dJ27_addEntry_40 : decode cJ27_addEntry 40 = .ok (.getfield 7, 3) := dk_180 0 7 (dk_at dksJ27_addEntry_1 17 rfl rfl)
theorem dJ27_addEntry_43 : decode cJ27_addEntry 43 = .ok (.iconst 1, 1) := dk_4 (dk_at dksJ27_addEntry_1 20 rfl rfl)
theorem dJ27_addEntry_44 : decode cJ27_addEntry 44 = .ok (.iadd, 1) := dk_96 (dk_at dksJ27_addEntry_1 21 rfl rfl)
theorem dJ27_addEntry_45 : decode cJ27_addEntry 45 = .ok (.putfield 7, 3) := dk_181 0 7 (dk_at dksJ27_addEntry_2 0 rfl rfl)
theorem dJ27_addEntry_48 : decode cJ27_addEntry 48 = .ok (.aload_n 0, 1) := dk_42 (dk_at dksJ27_addEntry_2 3 rfl rfl)
theorem dJ27_addEntry_49 : decode cJ27_addEntry 49 = .ok (.dup, 1) := dk_89 (dk_at dksJ27_addEntry_2 4 rfl rfl)
theorem dJ27_addEntry_50 : decode cJ27_addEntry 50 = .ok (.getfield 13, 3) := dk_180 0 13 (dk_at dksJ27_addEntry_2 5 rfl rfl)
theorem dJ27_addEntry_53 : decode cJ27_addEntry 53 = .ok (.iconst 1, 1) := dk_4 (dk_at dksJ27_addEntry_2 8 rfl rfl)
theorem dJ27_addEntry_54 : decode cJ27_addEntry 54 = .ok (.iadd, 1) := dk_96 (dk_at dksJ27_addEntry_2 9 rfl rfl)
theorem dJ27_addEntry_55 : decode cJ27_addEntry 55 = .ok (.putfield 13, 3) := dk_181 0 13 (dk_at dksJ27_addEntry_2 10 rfl rfl)
theorem dJ27_addEntry_58 : decode cJ27_addEntry 58 = .ok (.return_, 1) := dk_177 (dk_at dksJ27_addEntry_2 13 rfl rfl)
abbrev cJ27_fixAfterInsertion : ByteArray := prog_103_method_83_code
def yJ27_fixAfterInsertion : MethodName := ⟨RJ27, "fixAfterInsertion", "(Ljava/util/TreeMap$Entry;)V"⟩
def dkwJ27_fixAfterInsertion_11 : List UInt8 := [42, 180, 0, 101, 4, 181, 1, 34, 177]
abbrev dktJ27_fixAfterInsertion_11 : List UInt8 := dkwJ27_fixAfterInsertion_11 ++ []
def dkwJ27_fixAfterInsertion_10 : List UInt8 := [184, 1, 38, 184, 1, 38, 3, 184, 1, 51, 42, 43, 184, 1, 38, 184, 1, 38, 182, 1, 55, 167, 255, 6]
abbrev dktJ27_fixAfterInsertion_10 : List UInt8 := dkwJ27_fixAfterInsertion_10 ++ dktJ27_fixAfterInsertion_11
def dkwJ27_fixAfterInsertion_9 : List UInt8 := [166, 0, 13, 43, 184, 1, 38, 76, 42, 43, 182, 1, 58, 43, 184, 1, 38, 4, 184, 1, 51, 43]
abbrev dktJ27_fixAfterInsertion_9 : List UInt8 := dkwJ27_fixAfterInsertion_9 ++ dktJ27_fixAfterInsertion_10
def dkwJ27_fixAfterInsertion_8 : List UInt8 := [184, 1, 51, 43, 184, 1, 38, 184, 1, 38, 76, 167, 0, 54, 43, 43, 184, 1, 38, 184, 1, 41]
abbrev dktJ27_fixAfterInsertion_8 : List UInt8 := dkwJ27_fixAfterInsertion_8 ++ dktJ27_fixAfterInsertion_9
def dkwJ27_fixAfterInsertion_7 : List UInt8 := [154, 0, 38, 43, 184, 1, 38, 4, 184, 1, 51, 44, 4, 184, 1, 51, 43, 184, 1, 38, 184, 1, 38, 3]
abbrev dktJ27_fixAfterInsertion_7 : List UInt8 := dkwJ27_fixAfterInsertion_7 ++ dktJ27_fixAfterInsertion_8
def dkwJ27_fixAfterInsertion_6 : List UInt8 := [184, 1, 38, 182, 1, 58, 167, 255, 113, 43, 184, 1, 38, 184, 1, 38, 184, 1, 41, 77, 44, 184, 1, 47]
abbrev dktJ27_fixAfterInsertion_6 : List UInt8 := dkwJ27_fixAfterInsertion_6 ++ dktJ27_fixAfterInsertion_7
def dkwJ27_fixAfterInsertion_5 : List UInt8 := [43, 184, 1, 38, 4, 184, 1, 51, 43, 184, 1, 38, 184, 1, 38, 3, 184, 1, 51, 42, 43, 184, 1, 38]
abbrev dktJ27_fixAfterInsertion_5 : List UInt8 := dkwJ27_fixAfterInsertion_5 ++ dktJ27_fixAfterInsertion_6
def dkwJ27_fixAfterInsertion_4 : List UInt8 := [167, 0, 54, 43, 43, 184, 1, 38, 184, 1, 44, 166, 0, 13, 43, 184, 1, 38, 76, 42, 43, 182, 1, 55]
abbrev dktJ27_fixAfterInsertion_4 : List UInt8 := dkwJ27_fixAfterInsertion_4 ++ dktJ27_fixAfterInsertion_5
def dkwJ27_fixAfterInsertion_3 : List UInt8 := [184, 1, 51, 43, 184, 1, 38, 184, 1, 38, 3, 184, 1, 51, 43, 184, 1, 38, 184, 1, 38, 76]
abbrev dktJ27_fixAfterInsertion_3 : List UInt8 := dkwJ27_fixAfterInsertion_3 ++ dktJ27_fixAfterInsertion_4
def dkwJ27_fixAfterInsertion_2 : List UInt8 := [184, 1, 38, 184, 1, 44, 77, 44, 184, 1, 47, 154, 0, 38, 43, 184, 1, 38, 4, 184, 1, 51, 44, 4]
abbrev dktJ27_fixAfterInsertion_2 : List UInt8 := dkwJ27_fixAfterInsertion_2 ++ dktJ27_fixAfterInsertion_3
def dkwJ27_fixAfterInsertion_1 : List UInt8 := [154, 0, 234, 43, 184, 1, 38, 43, 184, 1, 38, 184, 1, 38, 184, 1, 41, 166, 0, 110, 43, 184, 1, 38]
abbrev dktJ27_fixAfterInsertion_1 : List UInt8 := dkwJ27_fixAfterInsertion_1 ++ dktJ27_fixAfterInsertion_2
def dkwJ27_fixAfterInsertion_0 : List UInt8 := [43, 3, 181, 1, 34, 43, 198, 0, 252, 43, 42, 180, 0, 101, 165, 0, 244, 43, 180, 0, 124, 180, 1, 34]
abbrev dktJ27_fixAfterInsertion_0 : List UInt8 := dkwJ27_fixAfterInsertion_0 ++ dktJ27_fixAfterInsertion_1
theorem dksJ27_fixAfterInsertion_0 : cJ27_fixAfterInsertion.data.toList.drop 0 = dktJ27_fixAfterInsertion_0 := by decide +kernel
theorem dksJ27_fixAfterInsertion_1 : cJ27_fixAfterInsertion.data.toList.drop 24 = dktJ27_fixAfterInsertion_1 := dk_seg dksJ27_fixAfterInsertion_0 24 rfl rfl
theorem dksJ27_fixAfterInsertion_2 : cJ27_fixAfterInsertion.data.toList.drop 48 = dktJ27_fixAfterInsertion_2 := dk_seg dksJ27_fixAfterInsertion_1 24 rfl rfl
theorem dksJ27_fixAfterInsertion_3 : cJ27_fixAfterInsertion.data.toList.drop 72 = dktJ27_fixAfterInsertion_3 := dk_seg dksJ27_fixAfterInsertion_2 24 rfl rfl
theorem dksJ27_fixAfterInsertion_4 : cJ27_fixAfterInsertion.data.toList.drop 94 = dktJ27_fixAfterInsertion_4 := dk_seg dksJ27_fixAfterInsertion_3 22 rfl rfl
theorem dksJ27_fixAfterInsertion_5 : cJ27_fixAfterInsertion.data.toList.drop 118 = dktJ27_fixAfterInsertion_5 := dk_seg dksJ27_fixAfterInsertion_4 24 rfl rfl
theorem dksJ27_fixAfterInsertion_6 : cJ27_fixAfterInsertion.data.toList.drop 142 = dktJ27_fixAfterInsertion_6 := dk_seg dksJ27_fixAfterInsertion_5 24 rfl rfl
theorem dksJ27_fixAfterInsertion_7 : cJ27_fixAfterInsertion.data.toList.drop 166 = dktJ27_fixAfterInsertion_7 := dk_seg dksJ27_fixAfterInsertion_6 24 rfl rfl
theorem dksJ27_fixAfterInsertion_8 : cJ27_fixAfterInsertion.data.toList.drop 190 = dktJ27_fixAfterInsertion_8 := dk_seg dksJ27_fixAfterInsertion_7 24 rfl rfl
theorem dksJ27_fixAfterInsertion_9 : cJ27_fixAfterInsertion.data.toList.drop 212 = dktJ27_fixAfterInsertion_9 := dk_seg dksJ27_fixAfterInsertion_8 22 rfl rfl
theorem dksJ27_fixAfterInsertion_10 : cJ27_fixAfterInsertion.data.toList.drop 234 = dktJ27_fixAfterInsertion_10 := dk_seg dksJ27_fixAfterInsertion_9 22 rfl rfl
theorem dksJ27_fixAfterInsertion_11 : cJ27_fixAfterInsertion.data.toList.drop 258 = dktJ27_fixAfterInsertion_11 := dk_seg dksJ27_fixAfterInsertion_10 24 rfl rfl
theorem dJ27_fixAfterInsertion_0 : decode cJ27_fixAfterInsertion 0 = .ok (.aload_n 1, 1) := dk_43 (dk_at dksJ27_fixAfterInsertion_0 0 rfl rfl)
theorem dJ27_fixAfterInsertion_1 : decode cJ27_fixAfterInsertion 1 = .ok (.iconst 0, 1) := dk_3 (dk_at dksJ27_fixAfterInsertion_0 1 rfl rfl)
theorem dJ27_fixAfterInsertion_2 : decode cJ27_fixAfterInsertion 2 = .ok (.putfield 290, 3) := dk_181 1 34 (dk_at dksJ27_fixAfterInsertion_0 2 rfl rfl)
theorem dJ27_fixAfterInsertion_5 : decode cJ27_fixAfterInsertion 5 = .ok (.aload_n 1, 1) := dk_43 (dk_at dksJ27_fixAfterInsertion_0 5 rfl rfl)
theorem dJ27_fixAfterInsertion_6 : decode cJ27_fixAfterInsertion 6 = .ok (.ifnull 252, 3) := dk_198 0 252 (dk_at dksJ27_fixAfterInsertion_0 6 rfl rfl)
theorem dJ27_fixAfterInsertion_9 : decode cJ27_fixAfterInsertion 9 = .ok (.aload_n 1, 1) := dk_43 (dk_at dksJ27_fixAfterInsertion_0 9 rfl rfl)
theorem dJ27_fixAfterInsertion_10 : decode cJ27_fixAfterInsertion 10 = .ok (.aload_n 0, 1) := dk_42 (dk_at dksJ27_fixAfterInsertion_0 10 rfl rfl)
theorem dJ27_fixAfterInsertion_11 : decode cJ27_fixAfterInsertion 11 = .ok (.getfield 101, 3) := dk_180 0 101 (dk_at dksJ27_fixAfterInsertion_0 11 rfl rfl)
theorem dJ27_fixAfterInsertion_14 : decode cJ27_fixAfterInsertion 14 = .ok (.if_acmp .eq 244, 3) := dk_165 0 244 (dk_at dksJ27_fixAfterInsertion_0 14 rfl rfl)
theorem dJ27_fixAfterInsertion_17 : decode cJ27_fixAfterInsertion 17 = .ok (.aload_n 1, 1) := dk_43 (dk_at dksJ27_fixAfterInsertion_0 17 rfl rfl)
theorem dJ27_fixAfterInsertion_18 : decode cJ27_fixAfterInsertion 18 = .ok (.getfield 124, 3) := dk_180 0 124 (dk_at dksJ27_fixAfterInsertion_0 18 rfl rfl)
theorem dJ27_fixAfterInsertion_21 : decode cJ27_fixAfterInsertion 21 = .ok (.getfield 290, 3) := dk_180 1 34 (dk_at dksJ27_fixAfterInsertion_0 21 rfl rfl)
theorem dJ27_fixAfterInsertion_24 : decode cJ27_fixAfterInsertion 24 = .ok (.ifCond .ne 234, 3) := dk_154 0 234 (dk_at dksJ27_fixAfterInsertion_1 0 rfl rfl)
theorem dJ27_fixAfterInsertion_27 : decode cJ27_fixAfterInsertion 27 = .ok (.aload_n 1, 1) := dk_43 (dk_at dksJ27_fixAfterInsertion_1 3 rfl rfl)
theorem dJ27_fixAfterInsertion_28 : decode cJ27_fixAfterInsertion 28 = .ok (.invokestatic 294, 3) := dk_184 1 38 (dk_at dksJ27_fixAfterInsertion_1 4 rfl rfl)
theorem dJ27_fixAfterInsertion_31 : decode cJ27_fixAfterInsertion 31 = .ok (.aload_n 1, 1) := dk_43 (dk_at dksJ27_fixAfterInsertion_1 7 rfl rfl)
theorem dJ27_fixAfterInsertion_32 : decode cJ27_fixAfterInsertion 32 = .ok (.invokestatic 294, 3) := dk_184 1 38 (dk_at dksJ27_fixAfterInsertion_1 8 rfl rfl)
theorem dJ27_fixAfterInsertion_35 : decode cJ27_fixAfterInsertion 35 = .ok (.invokestatic 294, 3) := dk_184 1 38 (dk_at dksJ27_fixAfterInsertion_1 11 rfl rfl)
theorem dJ27_fixAfterInsertion_38 : decode cJ27_fixAfterInsertion 38 = .ok (.invokestatic 297, 3) := dk_184 1 41 (dk_at dksJ27_fixAfterInsertion_1 14 rfl rfl)
theorem dJ27_fixAfterInsertion_41 : decode cJ27_fixAfterInsertion 41 = .ok (.if_acmp .ne 110, 3) := dk_166 0 110 (dk_at dksJ27_fixAfterInsertion_1 17 rfl rfl)
theorem dJ27_fixAfterInsertion_44 : decode cJ27_fixAfterInsertion 44 = .ok (.aload_n 1, 1) := dk_43 (dk_at dksJ27_fixAfterInsertion_1 20 rfl rfl)
theorem dJ27_fixAfterInsertion_45 : decode cJ27_fixAfterInsertion 45 = .ok (.invokestatic 294, 3) := dk_184 1 38 (dk_at dksJ27_fixAfterInsertion_1 21 rfl rfl)
theorem dJ27_fixAfterInsertion_48 : decode cJ27_fixAfterInsertion 48 = .ok (.invokestatic 294, 3) := dk_184 1 38 (dk_at dksJ27_fixAfterInsertion_2 0 rfl rfl)
theorem dJ27_fixAfterInsertion_51 : decode cJ27_fixAfterInsertion 51 = .ok (.invokestatic 300, 3) := dk_184 1 44 (dk_at dksJ27_fixAfterInsertion_2 3 rfl rfl)
theorem dJ27_fixAfterInsertion_54 : decode cJ27_fixAfterInsertion 54 = .ok (.astore_n 2, 1) := dk_77 (dk_at dksJ27_fixAfterInsertion_2 6 rfl rfl)
theorem dJ27_fixAfterInsertion_55 : decode cJ27_fixAfterInsertion 55 = .ok (.aload_n 2, 1) := dk_44 (dk_at dksJ27_fixAfterInsertion_2 7 rfl rfl)
theorem dJ27_fixAfterInsertion_56 : decode cJ27_fixAfterInsertion 56 = .ok (.invokestatic 303, 3) := dk_184 1 47 (dk_at dksJ27_fixAfterInsertion_2 8 rfl rfl)
theorem dJ27_fixAfterInsertion_59 : decode cJ27_fixAfterInsertion 59 = .ok (.ifCond .ne 38, 3) := dk_154 0 38 (dk_at dksJ27_fixAfterInsertion_2 11 rfl rfl)
theorem dJ27_fixAfterInsertion_62 : decode cJ27_fixAfterInsertion 62 = .ok (.aload_n 1, 1) := dk_43 (dk_at dksJ27_fixAfterInsertion_2 14 rfl rfl)
theorem dJ27_fixAfterInsertion_63 : decode cJ27_fixAfterInsertion 63 = .ok (.invokestatic 294, 3) := dk_184 1 38 (dk_at dksJ27_fixAfterInsertion_2 15 rfl rfl)
theorem dJ27_fixAfterInsertion_66 : decode cJ27_fixAfterInsertion 66 = .ok (.iconst 1, 1) := dk_4 (dk_at dksJ27_fixAfterInsertion_2 18 rfl rfl)
theorem dJ27_fixAfterInsertion_67 : decode cJ27_fixAfterInsertion 67 = .ok (.invokestatic 307, 3) := dk_184 1 51 (dk_at dksJ27_fixAfterInsertion_2 19 rfl rfl)
theorem dJ27_fixAfterInsertion_70 : decode cJ27_fixAfterInsertion 70 = .ok (.aload_n 2, 1) := dk_44 (dk_at dksJ27_fixAfterInsertion_2 22 rfl rfl)
theorem dJ27_fixAfterInsertion_71 : decode cJ27_fixAfterInsertion 71 = .ok (.iconst 1, 1) := dk_4 (dk_at dksJ27_fixAfterInsertion_2 23 rfl rfl)
theorem dJ27_fixAfterInsertion_72 : decode cJ27_fixAfterInsertion 72 = .ok (.invokestatic 307, 3) := dk_184 1 51 (dk_at dksJ27_fixAfterInsertion_3 0 rfl rfl)
theorem dJ27_fixAfterInsertion_75 : decode cJ27_fixAfterInsertion 75 = .ok (.aload_n 1, 1) := dk_43 (dk_at dksJ27_fixAfterInsertion_3 3 rfl rfl)
theorem dJ27_fixAfterInsertion_76 : decode cJ27_fixAfterInsertion 76 = .ok (.invokestatic 294, 3) := dk_184 1 38 (dk_at dksJ27_fixAfterInsertion_3 4 rfl rfl)
theorem dJ27_fixAfterInsertion_79 : decode cJ27_fixAfterInsertion 79 = .ok (.invokestatic 294, 3) := dk_184 1 38 (dk_at dksJ27_fixAfterInsertion_3 7 rfl rfl)
theorem dJ27_fixAfterInsertion_82 : decode cJ27_fixAfterInsertion 82 = .ok (.iconst 0, 1) := dk_3 (dk_at dksJ27_fixAfterInsertion_3 10 rfl rfl)
theorem dJ27_fixAfterInsertion_83 : decode cJ27_fixAfterInsertion 83 = .ok (.invokestatic 307, 3) := dk_184 1 51 (dk_at dksJ27_fixAfterInsertion_3 11 rfl rfl)
theorem dJ27_fixAfterInsertion_86 : decode cJ27_fixAfterInsertion 86 = .ok (.aload_n 1, 1) := dk_43 (dk_at dksJ27_fixAfterInsertion_3 14 rfl rfl)
theorem dJ27_fixAfterInsertion_87 : decode cJ27_fixAfterInsertion 87 = .ok (.invokestatic 294, 3) := dk_184 1 38 (dk_at dksJ27_fixAfterInsertion_3 15 rfl rfl)
theorem dJ27_fixAfterInsertion_90 : decode cJ27_fixAfterInsertion 90 = .ok (.invokestatic 294, 3) := dk_184 1 38 (dk_at dksJ27_fixAfterInsertion_3 18 rfl rfl)
theorem dJ27_fixAfterInsertion_93 : decode cJ27_fixAfterInsertion 93 = .ok (.astore_n 1, 1) := dk_76 (dk_at dksJ27_fixAfterInsertion_3 21 rfl rfl)
theorem dJ27_fixAfterInsertion_94 : decode cJ27_fixAfterInsertion 94 = .ok (.goto 54, 3) := dk_167 0 54 (dk_at dksJ27_fixAfterInsertion_4 0 rfl rfl)
theorem dJ27_fixAfterInsertion_97 : decode cJ27_fixAfterInsertion 97 = .ok (.aload_n 1, 1) := dk_43 (dk_at dksJ27_fixAfterInsertion_4 3 rfl rfl)
theorem dJ27_fixAfterInsertion_98 : decode cJ27_fixAfterInsertion 98 = .ok (.aload_n 1, 1) := dk_43 (dk_at dksJ27_fixAfterInsertion_4 4 rfl rfl)
theorem dJ27_fixAfterInsertion_99 : decode cJ27_fixAfterInsertion 99 = .ok (.invokestatic 294, 3) := dk_184 1 38 (dk_at dksJ27_fixAfterInsertion_4 5 rfl rfl)
theorem dJ27_fixAfterInsertion_102 : decode cJ27_fixAfterInsertion 102 = .ok (.invokestatic 300, 3) := dk_184 1 44 (dk_at dksJ27_fixAfterInsertion_4 8 rfl rfl)
theorem dJ27_fixAfterInsertion_105 : decode cJ27_fixAfterInsertion 105 = .ok (.if_acmp .ne 13, 3) := dk_166 0 13 (dk_at dksJ27_fixAfterInsertion_4 11 rfl rfl)
theorem dJ27_fixAfterInsertion_108 : decode cJ27_fixAfterInsertion 108 = .ok (.aload_n 1, 1) := dk_43 (dk_at dksJ27_fixAfterInsertion_4 14 rfl rfl)
theorem dJ27_fixAfterInsertion_109 : decode cJ27_fixAfterInsertion 109 = .ok (.invokestatic 294, 3) := dk_184 1 38 (dk_at dksJ27_fixAfterInsertion_4 15 rfl rfl)
theorem dJ27_fixAfterInsertion_112 : decode cJ27_fixAfterInsertion 112 = .ok (.astore_n 1, 1) := dk_76 (dk_at dksJ27_fixAfterInsertion_4 18 rfl rfl)
theorem dJ27_fixAfterInsertion_113 : decode cJ27_fixAfterInsertion 113 = .ok (.aload_n 0, 1) := dk_42 (dk_at dksJ27_fixAfterInsertion_4 19 rfl rfl)
theorem dJ27_fixAfterInsertion_114 : decode cJ27_fixAfterInsertion 114 = .ok (.aload_n 1, 1) := dk_43 (dk_at dksJ27_fixAfterInsertion_4 20 rfl rfl)
theorem dJ27_fixAfterInsertion_115 : decode cJ27_fixAfterInsertion 115 = .ok (.invokevirtual 311, 3) := dk_182 1 55 (dk_at dksJ27_fixAfterInsertion_4 21 rfl rfl)
theorem dJ27_fixAfterInsertion_118 : decode cJ27_fixAfterInsertion 118 = .ok (.aload_n 1, 1) := dk_43 (dk_at dksJ27_fixAfterInsertion_5 0 rfl rfl)
theorem dJ27_fixAfterInsertion_119 : decode cJ27_fixAfterInsertion 119 = .ok (.invokestatic 294, 3) := dk_184 1 38 (dk_at dksJ27_fixAfterInsertion_5 1 rfl rfl)
theorem dJ27_fixAfterInsertion_122 : decode cJ27_fixAfterInsertion 122 = .ok (.iconst 1, 1) := dk_4 (dk_at dksJ27_fixAfterInsertion_5 4 rfl rfl)
theorem dJ27_fixAfterInsertion_123 : decode cJ27_fixAfterInsertion 123 = .ok (.invokestatic 307, 3) := dk_184 1 51 (dk_at dksJ27_fixAfterInsertion_5 5 rfl rfl)
theorem dJ27_fixAfterInsertion_126 : decode cJ27_fixAfterInsertion 126 = .ok (.aload_n 1, 1) := dk_43 (dk_at dksJ27_fixAfterInsertion_5 8 rfl rfl)
theorem dJ27_fixAfterInsertion_127 : decode cJ27_fixAfterInsertion 127 = .ok (.invokestatic 294, 3) := dk_184 1 38 (dk_at dksJ27_fixAfterInsertion_5 9 rfl rfl)
theorem dJ27_fixAfterInsertion_130 : decode cJ27_fixAfterInsertion 130 = .ok (.invokestatic 294, 3) := dk_184 1 38 (dk_at dksJ27_fixAfterInsertion_5 12 rfl rfl)
theorem dJ27_fixAfterInsertion_133 : decode cJ27_fixAfterInsertion 133 = .ok (.iconst 0, 1) := dk_3 (dk_at dksJ27_fixAfterInsertion_5 15 rfl rfl)
theorem dJ27_fixAfterInsertion_134 : decode cJ27_fixAfterInsertion 134 = .ok (.invokestatic 307, 3) := dk_184 1 51 (dk_at dksJ27_fixAfterInsertion_5 16 rfl rfl)
theorem dJ27_fixAfterInsertion_137 : decode cJ27_fixAfterInsertion 137 = .ok (.aload_n 0, 1) := dk_42 (dk_at dksJ27_fixAfterInsertion_5 19 rfl rfl)
theorem dJ27_fixAfterInsertion_138 : decode cJ27_fixAfterInsertion 138 = .ok (.aload_n 1, 1) := dk_43 (dk_at dksJ27_fixAfterInsertion_5 20 rfl rfl)
theorem dJ27_fixAfterInsertion_139 : decode cJ27_fixAfterInsertion 139 = .ok (.invokestatic 294, 3) := dk_184 1 38 (dk_at dksJ27_fixAfterInsertion_5 21 rfl rfl)
theorem dJ27_fixAfterInsertion_142 : decode cJ27_fixAfterInsertion 142 = .ok (.invokestatic 294, 3) := dk_184 1 38 (dk_at dksJ27_fixAfterInsertion_6 0 rfl rfl)
theorem dJ27_fixAfterInsertion_145 : decode cJ27_fixAfterInsertion 145 = .ok (.invokevirtual 314, 3) := dk_182 1 58 (dk_at dksJ27_fixAfterInsertion_6 3 rfl rfl)
theorem dJ27_fixAfterInsertion_148 : decode cJ27_fixAfterInsertion 148 = .ok (.goto (-143), 3) := dk_167 255 113 (dk_at dksJ27_fixAfterInsertion_6 6 rfl rfl)
theorem dJ27_fixAfterInsertion_151 : decode cJ27_fixAfterInsertion 151 = .ok (.aload_n 1, 1) := dk_43 (dk_at dksJ27_fixAfterInsertion_6 9 rfl rfl)
theorem dJ27_fixAfterInsertion_152 : decode cJ27_fixAfterInsertion 152 = .ok (.invokestatic 294, 3) := dk_184 1 38 (dk_at dksJ27_fixAfterInsertion_6 10 rfl rfl)
theorem dJ27_fixAfterInsertion_155 : decode cJ27_fixAfterInsertion 155 = .ok (.invokestatic 294, 3) := dk_184 1 38 (dk_at dksJ27_fixAfterInsertion_6 13 rfl rfl)
theorem dJ27_fixAfterInsertion_158 : decode cJ27_fixAfterInsertion 158 = .ok (.invokestatic 297, 3) := dk_184 1 41 (dk_at dksJ27_fixAfterInsertion_6 16 rfl rfl)
theorem dJ27_fixAfterInsertion_161 : decode cJ27_fixAfterInsertion 161 = .ok (.astore_n 2, 1) := dk_77 (dk_at dksJ27_fixAfterInsertion_6 19 rfl rfl)
theorem dJ27_fixAfterInsertion_162 : decode cJ27_fixAfterInsertion 162 = .ok (.aload_n 2, 1) := dk_44 (dk_at dksJ27_fixAfterInsertion_6 20 rfl rfl)
theorem dJ27_fixAfterInsertion_163 : decode cJ27_fixAfterInsertion 163 = .ok (.invokestatic 303, 3) := dk_184 1 47 (dk_at dksJ27_fixAfterInsertion_6 21 rfl rfl)
theorem dJ27_fixAfterInsertion_166 : decode cJ27_fixAfterInsertion 166 = .ok (.ifCond .ne 38, 3) := dk_154 0 38 (dk_at dksJ27_fixAfterInsertion_7 0 rfl rfl)
theorem dJ27_fixAfterInsertion_169 : decode cJ27_fixAfterInsertion 169 = .ok (.aload_n 1, 1) := dk_43 (dk_at dksJ27_fixAfterInsertion_7 3 rfl rfl)
theorem dJ27_fixAfterInsertion_170 : decode cJ27_fixAfterInsertion 170 = .ok (.invokestatic 294, 3) := dk_184 1 38 (dk_at dksJ27_fixAfterInsertion_7 4 rfl rfl)
theorem dJ27_fixAfterInsertion_173 : decode cJ27_fixAfterInsertion 173 = .ok (.iconst 1, 1) := dk_4 (dk_at dksJ27_fixAfterInsertion_7 7 rfl rfl)
theorem dJ27_fixAfterInsertion_174 : decode cJ27_fixAfterInsertion 174 = .ok (.invokestatic 307, 3) := dk_184 1 51 (dk_at dksJ27_fixAfterInsertion_7 8 rfl rfl)
theorem dJ27_fixAfterInsertion_177 : decode cJ27_fixAfterInsertion 177 = .ok (.aload_n 2, 1) := dk_44 (dk_at dksJ27_fixAfterInsertion_7 11 rfl rfl)
theorem dJ27_fixAfterInsertion_178 : decode cJ27_fixAfterInsertion 178 = .ok (.iconst 1, 1) := dk_4 (dk_at dksJ27_fixAfterInsertion_7 12 rfl rfl)
theorem dJ27_fixAfterInsertion_179 : decode cJ27_fixAfterInsertion 179 = .ok (.invokestatic 307, 3) := dk_184 1 51 (dk_at dksJ27_fixAfterInsertion_7 13 rfl rfl)
theorem dJ27_fixAfterInsertion_182 : decode cJ27_fixAfterInsertion 182 = .ok (.aload_n 1, 1) := dk_43 (dk_at dksJ27_fixAfterInsertion_7 16 rfl rfl)
theorem dJ27_fixAfterInsertion_183 : decode cJ27_fixAfterInsertion 183 = .ok (.invokestatic 294, 3) := dk_184 1 38 (dk_at dksJ27_fixAfterInsertion_7 17 rfl rfl)
theorem dJ27_fixAfterInsertion_186 : decode cJ27_fixAfterInsertion 186 = .ok (.invokestatic 294, 3) := dk_184 1 38 (dk_at dksJ27_fixAfterInsertion_7 20 rfl rfl)
theorem dJ27_fixAfterInsertion_189 : decode cJ27_fixAfterInsertion 189 = .ok (.iconst 0, 1) := dk_3 (dk_at dksJ27_fixAfterInsertion_7 23 rfl rfl)
theorem dJ27_fixAfterInsertion_190 : decode cJ27_fixAfterInsertion 190 = .ok (.invokestatic 307, 3) := dk_184 1 51 (dk_at dksJ27_fixAfterInsertion_8 0 rfl rfl)
theorem dJ27_fixAfterInsertion_193 : decode cJ27_fixAfterInsertion 193 = .ok (.aload_n 1, 1) := dk_43 (dk_at dksJ27_fixAfterInsertion_8 3 rfl rfl)
theorem dJ27_fixAfterInsertion_194 : decode cJ27_fixAfterInsertion 194 = .ok (.invokestatic 294, 3) := dk_184 1 38 (dk_at dksJ27_fixAfterInsertion_8 4 rfl rfl)
theorem dJ27_fixAfterInsertion_197 : decode cJ27_fixAfterInsertion 197 = .ok (.invokestatic 294, 3) := dk_184 1 38 (dk_at dksJ27_fixAfterInsertion_8 7 rfl rfl)
theorem dJ27_fixAfterInsertion_200 : decode cJ27_fixAfterInsertion 200 = .ok (.astore_n 1, 1) := dk_76 (dk_at dksJ27_fixAfterInsertion_8 10 rfl rfl)
theorem dJ27_fixAfterInsertion_201 : decode cJ27_fixAfterInsertion 201 = .ok (.goto 54, 3) := dk_167 0 54 (dk_at dksJ27_fixAfterInsertion_8 11 rfl rfl)
theorem dJ27_fixAfterInsertion_204 : decode cJ27_fixAfterInsertion 204 = .ok (.aload_n 1, 1) := dk_43 (dk_at dksJ27_fixAfterInsertion_8 14 rfl rfl)
theorem dJ27_fixAfterInsertion_205 : decode cJ27_fixAfterInsertion 205 = .ok (.aload_n 1, 1) := dk_43 (dk_at dksJ27_fixAfterInsertion_8 15 rfl rfl)
theorem dJ27_fixAfterInsertion_206 : decode cJ27_fixAfterInsertion 206 = .ok (.invokestatic 294, 3) := dk_184 1 38 (dk_at dksJ27_fixAfterInsertion_8 16 rfl rfl)
theorem dJ27_fixAfterInsertion_209 : decode cJ27_fixAfterInsertion 209 = .ok (.invokestatic 297, 3) := dk_184 1 41 (dk_at dksJ27_fixAfterInsertion_8 19 rfl rfl)
theorem dJ27_fixAfterInsertion_212 : decode cJ27_fixAfterInsertion 212 = .ok (.if_acmp .ne 13, 3) := dk_166 0 13 (dk_at dksJ27_fixAfterInsertion_9 0 rfl rfl)
theorem dJ27_fixAfterInsertion_215 : decode cJ27_fixAfterInsertion 215 = .ok (.aload_n 1, 1) := dk_43 (dk_at dksJ27_fixAfterInsertion_9 3 rfl rfl)
theorem dJ27_fixAfterInsertion_216 : decode cJ27_fixAfterInsertion 216 = .ok (.invokestatic 294, 3) := dk_184 1 38 (dk_at dksJ27_fixAfterInsertion_9 4 rfl rfl)
theorem dJ27_fixAfterInsertion_219 : decode cJ27_fixAfterInsertion 219 = .ok (.astore_n 1, 1) := dk_76 (dk_at dksJ27_fixAfterInsertion_9 7 rfl rfl)
theorem dJ27_fixAfterInsertion_220 : decode cJ27_fixAfterInsertion 220 = .ok (.aload_n 0, 1) := dk_42 (dk_at dksJ27_fixAfterInsertion_9 8 rfl rfl)
theorem dJ27_fixAfterInsertion_221 : decode cJ27_fixAfterInsertion 221 = .ok (.aload_n 1, 1) := dk_43 (dk_at dksJ27_fixAfterInsertion_9 9 rfl rfl)
theorem dJ27_fixAfterInsertion_222 : decode cJ27_fixAfterInsertion 222 = .ok (.invokevirtual 314, 3) := dk_182 1 58 (dk_at dksJ27_fixAfterInsertion_9 10 rfl rfl)
theorem dJ27_fixAfterInsertion_225 : decode cJ27_fixAfterInsertion 225 = .ok (.aload_n 1, 1) := dk_43 (dk_at dksJ27_fixAfterInsertion_9 13 rfl rfl)
theorem dJ27_fixAfterInsertion_226 : decode cJ27_fixAfterInsertion 226 = .ok (.invokestatic 294, 3) := dk_184 1 38 (dk_at dksJ27_fixAfterInsertion_9 14 rfl rfl)
theorem dJ27_fixAfterInsertion_229 : decode cJ27_fixAfterInsertion 229 = .ok (.iconst 1, 1) := dk_4 (dk_at dksJ27_fixAfterInsertion_9 17 rfl rfl)
theorem dJ27_fixAfterInsertion_230 : decode cJ27_fixAfterInsertion 230 = .ok (.invokestatic 307, 3) := dk_184 1 51 (dk_at dksJ27_fixAfterInsertion_9 18 rfl rfl)
theorem dJ27_fixAfterInsertion_233 : decode cJ27_fixAfterInsertion 233 = .ok (.aload_n 1, 1) := dk_43 (dk_at dksJ27_fixAfterInsertion_9 21 rfl rfl)
theorem dJ27_fixAfterInsertion_234 : decode cJ27_fixAfterInsertion 234 = .ok (.invokestatic 294, 3) := dk_184 1 38 (dk_at dksJ27_fixAfterInsertion_10 0 rfl rfl)
theorem dJ27_fixAfterInsertion_237 : decode cJ27_fixAfterInsertion 237 = .ok (.invokestatic 294, 3) := dk_184 1 38 (dk_at dksJ27_fixAfterInsertion_10 3 rfl rfl)
theorem dJ27_fixAfterInsertion_240 : decode cJ27_fixAfterInsertion 240 = .ok (.iconst 0, 1) := dk_3 (dk_at dksJ27_fixAfterInsertion_10 6 rfl rfl)
theorem dJ27_fixAfterInsertion_241 : decode cJ27_fixAfterInsertion 241 = .ok (.invokestatic 307, 3) := dk_184 1 51 (dk_at dksJ27_fixAfterInsertion_10 7 rfl rfl)
theorem dJ27_fixAfterInsertion_244 : decode cJ27_fixAfterInsertion 244 = .ok (.aload_n 0, 1) := dk_42 (dk_at dksJ27_fixAfterInsertion_10 10 rfl rfl)
theorem dJ27_fixAfterInsertion_245 : decode cJ27_fixAfterInsertion 245 = .ok (.aload_n 1, 1) := dk_43 (dk_at dksJ27_fixAfterInsertion_10 11 rfl rfl)
theorem dJ27_fixAfterInsertion_246 : decode cJ27_fixAfterInsertion 246 = .ok (.invokestatic 294, 3) := dk_184 1 38 (dk_at dksJ27_fixAfterInsertion_10 12 rfl rfl)
theorem dJ27_fixAfterInsertion_249 : decode cJ27_fixAfterInsertion 249 = .ok (.invokestatic 294, 3) := dk_184 1 38 (dk_at dksJ27_fixAfterInsertion_10 15 rfl rfl)
theorem dJ27_fixAfterInsertion_252 : decode cJ27_fixAfterInsertion 252 = .ok (.invokevirtual 311, 3) := dk_182 1 55 (dk_at dksJ27_fixAfterInsertion_10 18 rfl rfl)
theorem dJ27_fixAfterInsertion_255 : decode cJ27_fixAfterInsertion 255 = .ok (.goto (-250), 3) := dk_167 255 6 (dk_at dksJ27_fixAfterInsertion_10 21 rfl rfl)
theorem dJ27_fixAfterInsertion_258 : decode cJ27_fixAfterInsertion 258 = .ok (.aload_n 0, 1) := dk_42 (dk_at dksJ27_fixAfterInsertion_11 0 rfl rfl)
theorem dJ27_fixAfterInsertion_259 : decode cJ27_fixAfterInsertion 259 = .ok (.getfield 101, 3) := dk_180 0 101 (dk_at dksJ27_fixAfterInsertion_11 1 rfl rfl)
theorem dJ27_fixAfterInsertion_262 : decode cJ27_fixAfterInsertion 262 = .ok (.iconst 1, 1) := dk_4 (dk_at dksJ27_fixAfterInsertion_11 4 rfl rfl)
theorem dJ27_fixAfterInsertion_263 : decode cJ27_fixAfterInsertion 263 = .ok (.putfield 290, 3) := dk_181 1 34 (dk_at dksJ27_fixAfterInsertion_11 5 rfl rfl)
theorem dJ27_fixAfterInsertion_266 : decode cJ27_fixAfterInsertion 266 = .ok (.return_, 1) := dk_177 (dk_at dksJ27_fixAfterInsertion_11 8 rfl rfl)
abbrev cJ27_size : ByteArray := prog_103_method_5_code
def yJ27_size : MethodName := ⟨RJ27, "size", "()I"⟩
theorem dJ27_size_0 : decode cJ27_size 0 = .ok (.aload_n 0, 1) := by decide +kernel
theorem dJ27_size_1 : decode cJ27_size 1 = .ok (.getfield 7, 3) := by decide +kernel
theorem dJ27_size_4 : decode cJ27_size 4 = .ok (.ireturn, 1) := by decide +kernel
abbrev cJ27_values : ByteArray := prog_103_method_52_code
def yJ27_values : MethodName := ⟨RJ27, "values", "()Ljava/util/Collection;"⟩
def dkwJ27_values_1 : List UInt8 := [176]
abbrev dktJ27_values_1 : List UInt8 := dkwJ27_values_1 ++ []
def dkwJ27_values_0 : List UInt8 := [42, 180, 0, 233, 76, 43, 199, 0, 17, 187, 0, 237, 89, 42, 183, 0, 239, 76, 42, 43, 181, 0, 233, 43]
abbrev dktJ27_values_0 : List UInt8 := dkwJ27_values_0 ++ dktJ27_values_1
theorem dksJ27_values_0 : cJ27_values.data.toList.drop 0 = dktJ27_values_0 := by decide +kernel
theorem dksJ27_values_1 : cJ27_values.data.toList.drop 24 = dktJ27_values_1 := dk_seg dksJ27_values_0 24 rfl rfl
theorem dJ27_values_0 : decode cJ27_values 0 = .ok (.aload_n 0, 1) := dk_42 (dk_at dksJ27_values_0 0 rfl rfl)
theorem dJ27_values_1 : decode cJ27_values 1 = .ok (.getfield 233, 3) := dk_180 0 233 (dk_at dksJ27_values_0 1 rfl rfl)
theorem dJ27_values_4 : decode cJ27_values 4 = .ok (.astore_n 1, 1) := dk_76 (dk_at dksJ27_values_0 4 rfl rfl)
theorem dJ27_values_5 : decode cJ27_values 5 = .ok (.aload_n 1, 1) := dk_43 (dk_at dksJ27_values_0 5 rfl rfl)
theorem dJ27_values_6 : decode cJ27_values 6 = .ok (.ifnonnull 17, 3) := dk_199 0 17 (dk_at dksJ27_values_0 6 rfl rfl)
theorem dJ27_values_9 : decode cJ27_values 9 = .ok (.new 237, 3) := dk_187 0 237 (dk_at dksJ27_values_0 9 rfl rfl)
theorem dJ27_values_12 : decode cJ27_values 12 = .ok (.dup, 1) := dk_89 (dk_at dksJ27_values_0 12 rfl rfl)
theorem dJ27_values_13 : decode cJ27_values 13 = .ok (.aload_n 0, 1) := dk_42 (dk_at dksJ27_values_0 13 rfl rfl)
theorem dJ27_values_14 : decode cJ27_values 14 = .ok (.invokespecial 239, 3) := dk_183 0 239 (dk_at dksJ27_values_0 14 rfl rfl)
theorem dJ27_values_17 : decode cJ27_values 17 = .ok (.astore_n 1, 1) := dk_76 (dk_at dksJ27_values_0 17 rfl rfl)
theorem dJ27_values_18 : decode cJ27_values 18 = .ok (.aload_n 0, 1) := dk_42 (dk_at dksJ27_values_0 18 rfl rfl)
theorem dJ27_values_19 : decode cJ27_values 19 = .ok (.aload_n 1, 1) := dk_43 (dk_at dksJ27_values_0 19 rfl rfl)
theorem dJ27_values_20 : decode cJ27_values 20 = .ok (.putfield 233, 3) := dk_181 0 233 (dk_at dksJ27_values_0 20 rfl rfl)
theorem dJ27_values_23 : decode cJ27_values 23 = .ok (.aload_n 1, 1) := dk_43 (dk_at dksJ27_values_0 23 rfl rfl)
theorem dJ27_values_24 : decode cJ27_values 24 = .ok (.areturn, 1) := dk_176 (dk_at dksJ27_values_1 0 rfl rfl)
abbrev cJ27_getFirstEntry : ByteArray := prog_103_method_72_code
def yJ27_getFirstEntry : MethodName := ⟨RJ27, "getFirstEntry", "()Ljava/util/TreeMap$Entry;"⟩
def dkwJ27_getFirstEntry_1 : List UInt8 := [43, 176]
abbrev dktJ27_getFirstEntry_1 : List UInt8 := dkwJ27_getFirstEntry_1 ++ []
def dkwJ27_getFirstEntry_0 : List UInt8 := [42, 180, 0, 101, 76, 43, 198, 0, 18, 43, 180, 0, 111, 198, 0, 11, 43, 180, 0, 111, 76, 167, 255, 244]
abbrev dktJ27_getFirstEntry_0 : List UInt8 := dkwJ27_getFirstEntry_0 ++ dktJ27_getFirstEntry_1
theorem dksJ27_getFirstEntry_0 : cJ27_getFirstEntry.data.toList.drop 0 = dktJ27_getFirstEntry_0 := by decide +kernel
theorem dksJ27_getFirstEntry_1 : cJ27_getFirstEntry.data.toList.drop 24 = dktJ27_getFirstEntry_1 := dk_seg dksJ27_getFirstEntry_0 24 rfl rfl
theorem dJ27_getFirstEntry_0 : decode cJ27_getFirstEntry 0 = .ok (.aload_n 0, 1) := dk_42 (dk_at dksJ27_getFirstEntry_0 0 rfl rfl)
theorem dJ27_getFirstEntry_1 : decode cJ27_getFirstEntry 1 = .ok (.getfield 101, 3) := dk_180 0 101 (dk_at dksJ27_getFirstEntry_0 1 rfl rfl)
theorem dJ27_getFirstEntry_4 : decode cJ27_getFirstEntry 4 = .ok (.astore_n 1, 1) := dk_76 (dk_at dksJ27_getFirstEntry_0 4 rfl rfl)
theorem dJ27_getFirstEntry_5 : decode cJ27_getFirstEntry 5 = .ok (.aload_n 1, 1) := dk_43 (dk_at dksJ27_getFirstEntry_0 5 rfl rfl)
theorem dJ27_getFirstEntry_6 : decode cJ27_getFirstEntry 6 = .ok (.ifnull 18, 3) := dk_198 0 18 (dk_at dksJ27_getFirstEntry_0 6 rfl rfl)
theorem dJ27_getFirstEntry_9 : decode cJ27_getFirstEntry 9 = .ok (.aload_n 1, 1) := dk_43 (dk_at dksJ27_getFirstEntry_0 9 rfl rfl)
theorem dJ27_getFirstEntry_10 : decode cJ27_getFirstEntry 10 = .ok (.getfield 111, 3) := dk_180 0 111 (dk_at dksJ27_getFirstEntry_0 10 rfl rfl)
theorem dJ27_getFirstEntry_13 : decode cJ27_getFirstEntry 13 = .ok (.ifnull 11, 3) := dk_198 0 11 (dk_at dksJ27_getFirstEntry_0 13 rfl rfl)
theorem dJ27_getFirstEntry_16 : decode cJ27_getFirstEntry 16 = .ok (.aload_n 1, 1) := dk_43 (dk_at dksJ27_getFirstEntry_0 16 rfl rfl)
theorem dJ27_getFirstEntry_17 : decode cJ27_getFirstEntry 17 = .ok (.getfield 111, 3) := dk_180 0 111 (dk_at dksJ27_getFirstEntry_0 17 rfl rfl)
theorem dJ27_getFirstEntry_20 : decode cJ27_getFirstEntry 20 = .ok (.astore_n 1, 1) := dk_76 (dk_at dksJ27_getFirstEntry_0 20 rfl rfl)
theorem dJ27_getFirstEntry_21 : decode cJ27_getFirstEntry 21 = .ok (.goto (-12), 3) := dk_167 255 244 (dk_at dksJ27_getFirstEntry_0 21 rfl rfl)
theorem dJ27_getFirstEntry_24 : decode cJ27_getFirstEntry 24 = .ok (.aload_n 1, 1) := dk_43 (dk_at dksJ27_getFirstEntry_1 0 rfl rfl)
theorem dJ27_getFirstEntry_25 : decode cJ27_getFirstEntry 25 = .ok (.areturn, 1) := dk_176 (dk_at dksJ27_getFirstEntry_1 1 rfl rfl)
theorem q139 : (Jvm.Cond.initialized "java/util/TreeMap") ∈ lw_all := lw_g (lw_at lw_m1 33 rfl) rfl
theorem q971 : (Jvm.Cond.selects "java/util/TreeMap" ({ cls := "java/lang/Object", name := "getClass", desc := "()Ljava/lang/Class;" } : Jvm.MethodName) ({ cls := "java/lang/Object", name := "getClass", desc := "()Ljava/lang/Class;" } : Jvm.MethodName)) ∈ lw_all := lw_g (lw_at lw_m4 145 rfl) rfl
theorem q1152 : (Jvm.Cond.static ({ cls := "java/util/TreeMap", name := "successor", desc := "(Ljava/util/TreeMap$Entry;)Ljava/util/TreeMap$Entry;" } : Jvm.MethodName)) ∈ lw_all := lw_g (lw_at lw_m5 86 rfl) rfl
theorem q1153 : (Jvm.Cond.code ({ cls := "java/util/TreeMap", name := "successor", desc := "(Ljava/util/TreeMap$Entry;)Ljava/util/TreeMap$Entry;" } : Jvm.MethodName) prog_103_method_74_code (3 : Nat) (Option.some (Jvm.ClassFile.FieldType.object "java/util/TreeMap$Entry"))) ∈ lw_all := lw_g (lw_at lw_m5 87 rfl) rfl
theorem q2182 : (Jvm.Cond.privateMethod ({ cls := "java/util/TreeMap", name := "deleteEntry", desc := "(Ljava/util/TreeMap$Entry;)V" } : Jvm.MethodName)) ∈ lw_tbl := lw_at lw_m9 156 rfl
theorem q2183 : (Jvm.Cond.instanceMethod ({ cls := "java/util/TreeMap", name := "deleteEntry", desc := "(Ljava/util/TreeMap$Entry;)V" } : Jvm.MethodName)) ∈ lw_all := lw_g (lw_at lw_m9 157 rfl) rfl
theorem q2184 : (Jvm.Cond.instantiable "java/util/TreeMap" (9 : Nat)) ∈ lw_all := lw_g (lw_at lw_m9 158 rfl) rfl
theorem q2185 : (Jvm.Cond.code ({ cls := "java/util/TreeMap", name := "deleteEntry", desc := "(Ljava/util/TreeMap$Entry;)V" } : Jvm.MethodName) prog_103_method_84_code (3 : Nat) (Option.none : Option Jvm.ClassFile.FieldType)) ∈ lw_all := lw_g (lw_at lw_m9 159 rfl) rfl
theorem q2186 : (Jvm.Cond.methodLink "java/util/TreeMap" (68 : Nat) ({ cls := "java/util/TreeMap", name := "successor", desc := "(Ljava/util/TreeMap$Entry;)Ljava/util/TreeMap$Entry;" } : Jvm.MethodName)) ∈ lw_all := lw_g (lw_at lw_m9 160 rfl) rfl
theorem q2187 : (Jvm.Cond.methodLink "java/util/TreeMap" (317 : Nat) ({ cls := "java/util/TreeMap", name := "fixAfterDeletion", desc := "(Ljava/util/TreeMap$Entry;)V" } : Jvm.MethodName)) ∈ lw_all := lw_g (lw_at lw_m9 161 rfl) rfl
theorem q2188 : (Jvm.Cond.privateMethod ({ cls := "java/util/TreeMap", name := "fixAfterDeletion", desc := "(Ljava/util/TreeMap$Entry;)V" } : Jvm.MethodName)) ∈ lw_tbl := lw_at lw_m9 162 rfl
theorem q2189 : (Jvm.Cond.instanceMethod ({ cls := "java/util/TreeMap", name := "fixAfterDeletion", desc := "(Ljava/util/TreeMap$Entry;)V" } : Jvm.MethodName)) ∈ lw_all := lw_g (lw_at lw_m9 163 rfl) rfl
theorem q2190 : (Jvm.Cond.code ({ cls := "java/util/TreeMap", name := "fixAfterDeletion", desc := "(Ljava/util/TreeMap$Entry;)V" } : Jvm.MethodName) prog_103_method_85_code (3 : Nat) (Option.none : Option Jvm.ClassFile.FieldType)) ∈ lw_all := lw_g (lw_at lw_m9 164 rfl) rfl
theorem q2191 : (Jvm.Cond.methodLink "java/util/TreeMap" (303 : Nat) ({ cls := "java/util/TreeMap", name := "colorOf", desc := "(Ljava/util/TreeMap$Entry;)Z" } : Jvm.MethodName)) ∈ lw_all := lw_g (lw_at lw_m9 165 rfl) rfl
theorem q2192 : (Jvm.Cond.static ({ cls := "java/util/TreeMap", name := "colorOf", desc := "(Ljava/util/TreeMap$Entry;)Z" } : Jvm.MethodName)) ∈ lw_all := lw_g (lw_at lw_m9 166 rfl) rfl
theorem q2193 : (Jvm.Cond.code ({ cls := "java/util/TreeMap", name := "colorOf", desc := "(Ljava/util/TreeMap$Entry;)Z" } : Jvm.MethodName) prog_103_method_76_code (1 : Nat) (Option.some Jvm.ClassFile.FieldType.boolean)) ∈ lw_all := lw_g (lw_at lw_m9 167 rfl) rfl
theorem q2194 : (Jvm.Cond.methodLink "java/util/TreeMap" (294 : Nat) ({ cls := "java/util/TreeMap", name := "parentOf", desc := "(Ljava/util/TreeMap$Entry;)Ljava/util/TreeMap$Entry;" } : Jvm.MethodName)) ∈ lw_all := lw_g (lw_at lw_m9 168 rfl) rfl
theorem q2195 : (Jvm.Cond.static ({ cls := "java/util/TreeMap", name := "parentOf", desc := "(Ljava/util/TreeMap$Entry;)Ljava/util/TreeMap$Entry;" } : Jvm.MethodName)) ∈ lw_all := lw_g (lw_at lw_m9 169 rfl) rfl
theorem q2196 : (Jvm.Cond.code ({ cls := "java/util/TreeMap", name := "parentOf", desc := "(Ljava/util/TreeMap$Entry;)Ljava/util/TreeMap$Entry;" } : Jvm.MethodName) prog_103_method_77_code (1 : Nat) (Option.some (Jvm.ClassFile.FieldType.object "java/util/TreeMap$Entry"))) ∈ lw_all := lw_g (lw_at lw_m9 170 rfl) rfl
theorem q2197 : (Jvm.Cond.methodLink "java/util/TreeMap" (297 : Nat) ({ cls := "java/util/TreeMap", name := "leftOf", desc := "(Ljava/util/TreeMap$Entry;)Ljava/util/TreeMap$Entry;" } : Jvm.MethodName)) ∈ lw_all := lw_g (lw_at lw_m9 171 rfl) rfl
theorem q2198 : (Jvm.Cond.static ({ cls := "java/util/TreeMap", name := "leftOf", desc := "(Ljava/util/TreeMap$Entry;)Ljava/util/TreeMap$Entry;" } : Jvm.MethodName)) ∈ lw_all := lw_g (lw_at lw_m9 172 rfl) rfl
theorem q2199 : (Jvm.Cond.code ({ cls := "java/util/TreeMap", name := "leftOf", desc := "(Ljava/util/TreeMap$Entry;)Ljava/util/TreeMap$Entry;" } : Jvm.MethodName) prog_103_method_79_code (1 : Nat) (Option.some (Jvm.ClassFile.FieldType.object "java/util/TreeMap$Entry"))) ∈ lw_all := lw_g (lw_at lw_m9 173 rfl) rfl
theorem q2200 : (Jvm.Cond.methodLink "java/util/TreeMap" (300 : Nat) ({ cls := "java/util/TreeMap", name := "rightOf", desc := "(Ljava/util/TreeMap$Entry;)Ljava/util/TreeMap$Entry;" } : Jvm.MethodName)) ∈ lw_all := lw_g (lw_at lw_m9 174 rfl) rfl
theorem q2201 : (Jvm.Cond.static ({ cls := "java/util/TreeMap", name := "rightOf", desc := "(Ljava/util/TreeMap$Entry;)Ljava/util/TreeMap$Entry;" } : Jvm.MethodName)) ∈ lw_all := lw_g (lw_at lw_m9 175 rfl) rfl
theorem q2202 : (Jvm.Cond.code ({ cls := "java/util/TreeMap", name := "rightOf", desc := "(Ljava/util/TreeMap$Entry;)Ljava/util/TreeMap$Entry;" } : Jvm.MethodName) prog_103_method_80_code (1 : Nat) (Option.some (Jvm.ClassFile.FieldType.object "java/util/TreeMap$Entry"))) ∈ lw_all := lw_g (lw_at lw_m9 176 rfl) rfl
theorem q2203 : (Jvm.Cond.methodLink "java/util/TreeMap" (307 : Nat) ({ cls := "java/util/TreeMap", name := "setColor", desc := "(Ljava/util/TreeMap$Entry;Z)V" } : Jvm.MethodName)) ∈ lw_all := lw_g (lw_at lw_m9 177 rfl) rfl
theorem q2204 : (Jvm.Cond.static ({ cls := "java/util/TreeMap", name := "setColor", desc := "(Ljava/util/TreeMap$Entry;Z)V" } : Jvm.MethodName)) ∈ lw_all := lw_g (lw_at lw_m9 178 rfl) rfl
theorem q2205 : (Jvm.Cond.code ({ cls := "java/util/TreeMap", name := "setColor", desc := "(Ljava/util/TreeMap$Entry;Z)V" } : Jvm.MethodName) prog_103_method_78_code (2 : Nat) (Option.none : Option Jvm.ClassFile.FieldType)) ∈ lw_all := lw_g (lw_at lw_m9 179 rfl) rfl
theorem q2206 : (Jvm.Cond.methodLink "java/util/TreeMap" (311 : Nat) ({ cls := "java/util/TreeMap", name := "rotateLeft", desc := "(Ljava/util/TreeMap$Entry;)V" } : Jvm.MethodName)) ∈ lw_all := lw_g (lw_at lw_m9 180 rfl) rfl
theorem q2207 : (Jvm.Cond.privateMethod ({ cls := "java/util/TreeMap", name := "rotateLeft", desc := "(Ljava/util/TreeMap$Entry;)V" } : Jvm.MethodName)) ∈ lw_tbl := lw_at lw_m9 181 rfl
theorem q2208 : (Jvm.Cond.instanceMethod ({ cls := "java/util/TreeMap", name := "rotateLeft", desc := "(Ljava/util/TreeMap$Entry;)V" } : Jvm.MethodName)) ∈ lw_all := lw_g (lw_at lw_m9 182 rfl) rfl
theorem q2209 : (Jvm.Cond.code ({ cls := "java/util/TreeMap", name := "rotateLeft", desc := "(Ljava/util/TreeMap$Entry;)V" } : Jvm.MethodName) prog_103_method_81_code (3 : Nat) (Option.none : Option Jvm.ClassFile.FieldType)) ∈ lw_all := lw_g (lw_at lw_m9 183 rfl) rfl
theorem q2210 : (Jvm.Cond.methodLink "java/util/TreeMap" (314 : Nat) ({ cls := "java/util/TreeMap", name := "rotateRight", desc := "(Ljava/util/TreeMap$Entry;)V" } : Jvm.MethodName)) ∈ lw_all := lw_g (lw_at lw_m9 184 rfl) rfl
theorem q2211 : (Jvm.Cond.privateMethod ({ cls := "java/util/TreeMap", name := "rotateRight", desc := "(Ljava/util/TreeMap$Entry;)V" } : Jvm.MethodName)) ∈ lw_tbl := lw_at lw_m9 185 rfl
theorem q2212 : (Jvm.Cond.instanceMethod ({ cls := "java/util/TreeMap", name := "rotateRight", desc := "(Ljava/util/TreeMap$Entry;)V" } : Jvm.MethodName)) ∈ lw_all := lw_g (lw_at lw_m9 186 rfl) rfl
theorem q2213 : (Jvm.Cond.code ({ cls := "java/util/TreeMap", name := "rotateRight", desc := "(Ljava/util/TreeMap$Entry;)V" } : Jvm.MethodName) prog_103_method_82_code (3 : Nat) (Option.none : Option Jvm.ClassFile.FieldType)) ∈ lw_all := lw_g (lw_at lw_m9 187 rfl) rfl
theorem q2357 : (Jvm.Cond.instanceMethod ({ cls := "java/util/TreeMap", name := "<init>", desc := "()V" } : Jvm.MethodName)) ∈ lw_all := lw_g (lw_at lw_m10 91 rfl) rfl
theorem q2358 : (Jvm.Cond.code ({ cls := "java/util/TreeMap", name := "<init>", desc := "()V" } : Jvm.MethodName) prog_103_method_1_code (1 : Nat) (Option.none : Option Jvm.ClassFile.FieldType)) ∈ lw_all := lw_g (lw_at lw_m10 92 rfl) rfl
theorem q2359 : (Jvm.Cond.methodLink "java/util/TreeMap" (1 : Nat) ({ cls := "java/util/AbstractMap", name := "<init>", desc := "()V" } : Jvm.MethodName)) ∈ lw_all := lw_g (lw_at lw_m10 93 rfl) rfl
theorem q2363 : (Jvm.Cond.fieldLink "java/util/TreeMap" (16 : Nat) "java/util/TreeMap" "comparator" "Ljava/util/Comparator;") ∈ lw_all := lw_g (lw_at lw_m10 97 rfl) rfl
theorem q2364 : (Jvm.Cond.fieldLink "java/util/TreeMap" (101 : Nat) "java/util/TreeMap" "root" "Ljava/util/TreeMap$Entry;") ∈ lw_all := lw_g (lw_at lw_m10 98 rfl) rfl
theorem q2365 : (Jvm.Cond.fieldLink "java/util/TreeMap" (7 : Nat) "java/util/TreeMap" "size" "I") ∈ lw_all := lw_g (lw_at lw_m10 99 rfl) rfl
theorem q2366 : (Jvm.Cond.fieldLink "java/util/TreeMap" (13 : Nat) "java/util/TreeMap" "modCount" "I") ∈ lw_all := lw_g (lw_at lw_m10 100 rfl) rfl
theorem q2368 : (Jvm.Cond.fieldLink "java/util/TreeMap" (233 : Nat) "java/util/TreeMap" "values" "Ljava/util/Collection;") ∈ lw_all := lw_g (lw_at lw_m10 102 rfl) rfl
theorem q2369 : (Jvm.Cond.sameField "java/util/TreeMap" "java/util/AbstractMap" "values" "Ljava/util/Collection;") ∈ lw_all := lw_g (lw_at lw_m10 103 rfl) rfl
theorem q2370 : (Jvm.Cond.laysFinal "java/util/TreeMap" "java/util/TreeMap" "comparator" "Ljava/util/Comparator;") ∈ lw_all := lw_g (lw_at lw_m10 104 rfl) rfl
theorem q2371 : (Jvm.Cond.soleField "java/util/TreeMap" "comparator") ∈ lw_all := lw_g (lw_at lw_m10 105 rfl) rfl
theorem q2372 : (Jvm.Cond.lays "java/util/TreeMap" "java/util/TreeMap" "root" "Ljava/util/TreeMap$Entry;") ∈ lw_all := lw_g (lw_at lw_m10 106 rfl) rfl
theorem q2373 : (Jvm.Cond.soleField "java/util/TreeMap" "root") ∈ lw_all := lw_g (lw_at lw_m10 107 rfl) rfl
theorem q2374 : (Jvm.Cond.lays "java/util/TreeMap" "java/util/TreeMap" "size" "I") ∈ lw_all := lw_g (lw_at lw_m10 108 rfl) rfl
theorem q2375 : (Jvm.Cond.soleField "java/util/TreeMap" "size") ∈ lw_all := lw_g (lw_at lw_m10 109 rfl) rfl
theorem q2376 : (Jvm.Cond.lays "java/util/TreeMap" "java/util/TreeMap" "modCount" "I") ∈ lw_all := lw_g (lw_at lw_m10 110 rfl) rfl
theorem q2377 : (Jvm.Cond.soleField "java/util/TreeMap" "modCount") ∈ lw_all := lw_g (lw_at lw_m10 111 rfl) rfl
theorem q2378 : (Jvm.Cond.lays "java/util/TreeMap" "java/util/TreeMap" "entrySet" "Ljava/util/TreeMap$EntrySet;") ∈ lw_all := lw_g (lw_at lw_m10 112 rfl) rfl
theorem q2379 : (Jvm.Cond.soleField "java/util/TreeMap" "entrySet") ∈ lw_all := lw_g (lw_at lw_m10 113 rfl) rfl
theorem q2380 : (Jvm.Cond.lays "java/util/TreeMap" "java/util/TreeMap" "navigableKeySet" "Ljava/util/TreeMap$KeySet;") ∈ lw_all := lw_g (lw_at lw_m10 114 rfl) rfl
theorem q2381 : (Jvm.Cond.soleField "java/util/TreeMap" "navigableKeySet") ∈ lw_all := lw_g (lw_at lw_m10 115 rfl) rfl
theorem q2382 : (Jvm.Cond.lays "java/util/TreeMap" "java/util/TreeMap" "descendingMap" "Ljava/util/NavigableMap;") ∈ lw_all := lw_g (lw_at lw_m10 116 rfl) rfl
theorem q2383 : (Jvm.Cond.soleField "java/util/TreeMap" "descendingMap") ∈ lw_all := lw_g (lw_at lw_m10 117 rfl) rfl
theorem q2384 : (Jvm.Cond.lays "java/util/TreeMap" "java/util/AbstractMap" "keySet" "Ljava/util/Set;") ∈ lw_all := lw_g (lw_at lw_m10 118 rfl) rfl
theorem q2386 : (Jvm.Cond.lays "java/util/TreeMap" "java/util/AbstractMap" "values" "Ljava/util/Collection;") ∈ lw_all := lw_g (lw_at lw_m10 120 rfl) rfl
theorem q2388 : (Jvm.Cond.superclass "java/util/TreeMap" "java/util/AbstractMap") ∈ lw_all := lw_g (lw_at lw_m10 122 rfl) rfl
theorem q2412 : (Jvm.Cond.instanceMethod ({ cls := "java/util/TreeMap", name := "put", desc := "(Ljava/lang/Object;Ljava/lang/Object;)Ljava/lang/Object;" } : Jvm.MethodName)) ∈ lw_all := lw_g (lw_at lw_m10 146 rfl) rfl
theorem q2413 : (Jvm.Cond.selects "java/util/TreeMap" ({ cls := "java/util/TreeMap", name := "put", desc := "(Ljava/lang/Object;Ljava/lang/Object;)Ljava/lang/Object;" } : Jvm.MethodName) ({ cls := "java/util/TreeMap", name := "put", desc := "(Ljava/lang/Object;Ljava/lang/Object;)Ljava/lang/Object;" } : Jvm.MethodName)) ∈ lw_all := lw_g (lw_at lw_m10 147 rfl) rfl
theorem q2414 : (Jvm.Cond.code ({ cls := "java/util/TreeMap", name := "put", desc := "(Ljava/lang/Object;Ljava/lang/Object;)Ljava/lang/Object;" } : Jvm.MethodName) prog_103_method_21_code (3 : Nat) (Option.some (Jvm.ClassFile.FieldType.object "java/lang/Object"))) ∈ lw_all := lw_g (lw_at lw_m10 148 rfl) rfl
theorem q2415 : (Jvm.Cond.methodLink "java/util/TreeMap" (127 : Nat) ({ cls := "java/util/TreeMap", name := "put", desc := "(Ljava/lang/Object;Ljava/lang/Object;Z)Ljava/lang/Object;" } : Jvm.MethodName)) ∈ lw_all := lw_g (lw_at lw_m10 149 rfl) rfl
theorem q2416 : (Jvm.Cond.privateMethod ({ cls := "java/util/TreeMap", name := "put", desc := "(Ljava/lang/Object;Ljava/lang/Object;Z)Ljava/lang/Object;" } : Jvm.MethodName)) ∈ lw_tbl := lw_at lw_m10 150 rfl
theorem q2417 : (Jvm.Cond.instanceMethod ({ cls := "java/util/TreeMap", name := "put", desc := "(Ljava/lang/Object;Ljava/lang/Object;Z)Ljava/lang/Object;" } : Jvm.MethodName)) ∈ lw_all := lw_g (lw_at lw_m10 151 rfl) rfl
theorem q2418 : (Jvm.Cond.code ({ cls := "java/util/TreeMap", name := "put", desc := "(Ljava/lang/Object;Ljava/lang/Object;Z)Ljava/lang/Object;" } : Jvm.MethodName) prog_103_method_31_code (10 : Nat) (Option.some (Jvm.ClassFile.FieldType.object "java/lang/Object"))) ∈ lw_all := lw_g (lw_at lw_m10 152 rfl) rfl
theorem q2419 : (Jvm.Cond.methodLink "java/util/TreeMap" (135 : Nat) ({ cls := "java/util/TreeMap", name := "addEntryToEmptyMap", desc := "(Ljava/lang/Object;Ljava/lang/Object;)V" } : Jvm.MethodName)) ∈ lw_all := lw_g (lw_at lw_m10 153 rfl) rfl
theorem q2420 : (Jvm.Cond.privateMethod ({ cls := "java/util/TreeMap", name := "addEntryToEmptyMap", desc := "(Ljava/lang/Object;Ljava/lang/Object;)V" } : Jvm.MethodName)) ∈ lw_tbl := lw_at lw_m10 154 rfl
theorem q2421 : (Jvm.Cond.instanceMethod ({ cls := "java/util/TreeMap", name := "addEntryToEmptyMap", desc := "(Ljava/lang/Object;Ljava/lang/Object;)V" } : Jvm.MethodName)) ∈ lw_all := lw_g (lw_at lw_m10 155 rfl) rfl
theorem q2422 : (Jvm.Cond.code ({ cls := "java/util/TreeMap", name := "addEntryToEmptyMap", desc := "(Ljava/lang/Object;Ljava/lang/Object;)V" } : Jvm.MethodName) prog_103_method_30_code (3 : Nat) (Option.none : Option Jvm.ClassFile.FieldType)) ∈ lw_all := lw_g (lw_at lw_m10 156 rfl) rfl
theorem q2423 : (Jvm.Cond.methodLink "java/util/TreeMap" (123 : Nat) ({ cls := "java/util/TreeMap", name := "compare", desc := "(Ljava/lang/Object;Ljava/lang/Object;)I" } : Jvm.MethodName)) ∈ lw_all := lw_g (lw_at lw_m10 157 rfl) rfl
theorem q2424 : (Jvm.Cond.instanceMethod ({ cls := "java/util/TreeMap", name := "compare", desc := "(Ljava/lang/Object;Ljava/lang/Object;)I" } : Jvm.MethodName)) ∈ lw_all := lw_g (lw_at lw_m10 158 rfl) rfl
theorem q2425 : (Jvm.Cond.selects "java/util/TreeMap" ({ cls := "java/util/TreeMap", name := "compare", desc := "(Ljava/lang/Object;Ljava/lang/Object;)I" } : Jvm.MethodName) ({ cls := "java/util/TreeMap", name := "compare", desc := "(Ljava/lang/Object;Ljava/lang/Object;)I" } : Jvm.MethodName)) ∈ lw_all := lw_g (lw_at lw_m10 159 rfl) rfl
theorem q2426 : (Jvm.Cond.code ({ cls := "java/util/TreeMap", name := "compare", desc := "(Ljava/lang/Object;Ljava/lang/Object;)I" } : Jvm.MethodName) prog_103_method_67_code (3 : Nat) (Option.some Jvm.ClassFile.FieldType.int)) ∈ lw_all := lw_g (lw_at lw_m10 160 rfl) rfl
theorem q2427 : (Jvm.Cond.classLink "java/util/TreeMap" (99 : Nat) "java/lang/Comparable") ∈ lw_all := lw_g (lw_at lw_m10 161 rfl) rfl
theorem q2428 : (Jvm.Cond.interfaceEntry "java/util/TreeMap" (107 : Nat)) ∈ lw_tbl := lw_at lw_m10 162 rfl
theorem q2429 : (Jvm.Cond.methodLink "java/util/TreeMap" (107 : Nat) ({ cls := "java/lang/Comparable", name := "compareTo", desc := "(Ljava/lang/Object;)I" } : Jvm.MethodName)) ∈ lw_all := lw_g (lw_at lw_m10 163 rfl) rfl
theorem q2430 : (Jvm.Cond.interfaceEntry "java/util/TreeMap" (117 : Nat)) ∈ lw_tbl := lw_at lw_m10 164 rfl
theorem q2431 : (Jvm.Cond.methodLink "java/util/TreeMap" (117 : Nat) ({ cls := "java/util/Comparator", name := "compare", desc := "(Ljava/lang/Object;Ljava/lang/Object;)I" } : Jvm.MethodName)) ∈ lw_all := lw_g (lw_at lw_m10 165 rfl) rfl
theorem q2432 : (Jvm.Cond.classLink "java/util/TreeMap" (59 : Nat) "java/util/TreeMap$Entry") ∈ lw_all := lw_g (lw_at lw_m10 166 rfl) rfl
theorem q2434 : (Jvm.Cond.methodLink "java/util/TreeMap" (167 : Nat) ({ cls := "java/util/TreeMap$Entry", name := "<init>", desc := "(Ljava/lang/Object;Ljava/lang/Object;Ljava/util/TreeMap$Entry;)V" } : Jvm.MethodName)) ∈ lw_all := lw_g (lw_at lw_m10 168 rfl) rfl
theorem q2439 : (Jvm.Cond.fieldLink "java/util/TreeMap" (105 : Nat) "java/util/TreeMap$Entry" "key" "Ljava/lang/Object;") ∈ lw_all := lw_g (lw_at lw_m10 173 rfl) rfl
theorem q2442 : (Jvm.Cond.fieldLink "java/util/TreeMap" (58 : Nat) "java/util/TreeMap$Entry" "value" "Ljava/lang/Object;") ∈ lw_all := lw_g (lw_at lw_m10 176 rfl) rfl
theorem q2444 : (Jvm.Cond.fieldLink "java/util/TreeMap" (111 : Nat) "java/util/TreeMap$Entry" "left" "Ljava/util/TreeMap$Entry;") ∈ lw_all := lw_g (lw_at lw_m10 178 rfl) rfl
theorem q2446 : (Jvm.Cond.fieldLink "java/util/TreeMap" (114 : Nat) "java/util/TreeMap$Entry" "right" "Ljava/util/TreeMap$Entry;") ∈ lw_all := lw_g (lw_at lw_m10 180 rfl) rfl
theorem q2448 : (Jvm.Cond.fieldLink "java/util/TreeMap" (124 : Nat) "java/util/TreeMap$Entry" "parent" "Ljava/util/TreeMap$Entry;") ∈ lw_all := lw_g (lw_at lw_m10 182 rfl) rfl
theorem q2450 : (Jvm.Cond.fieldLink "java/util/TreeMap" (290 : Nat) "java/util/TreeMap$Entry" "color" "Z") ∈ lw_all := lw_g (lw_at lw_m10 184 rfl) rfl
theorem q2464 : (Jvm.Cond.methodLink "java/util/TreeMap" (95 : Nat) ({ cls := "java/util/Objects", name := "requireNonNull", desc := "(Ljava/lang/Object;)Ljava/lang/Object;" } : Jvm.MethodName)) ∈ lw_all := lw_g (lw_at lw_m10 198 rfl) rfl
theorem q2467 : (Jvm.Cond.methodLink "java/util/TreeMap" (139 : Nat) ({ cls := "java/util/TreeMap", name := "addEntry", desc := "(Ljava/lang/Object;Ljava/lang/Object;Ljava/util/TreeMap$Entry;Z)V" } : Jvm.MethodName)) ∈ lw_all := lw_g (lw_at lw_m10 201 rfl) rfl
theorem q2468 : (Jvm.Cond.privateMethod ({ cls := "java/util/TreeMap", name := "addEntry", desc := "(Ljava/lang/Object;Ljava/lang/Object;Ljava/util/TreeMap$Entry;Z)V" } : Jvm.MethodName)) ∈ lw_tbl := lw_at lw_m10 202 rfl
theorem q2469 : (Jvm.Cond.instanceMethod ({ cls := "java/util/TreeMap", name := "addEntry", desc := "(Ljava/lang/Object;Ljava/lang/Object;Ljava/util/TreeMap$Entry;Z)V" } : Jvm.MethodName)) ∈ lw_all := lw_g (lw_at lw_m10 203 rfl) rfl
theorem q2470 : (Jvm.Cond.code ({ cls := "java/util/TreeMap", name := "addEntry", desc := "(Ljava/lang/Object;Ljava/lang/Object;Ljava/util/TreeMap$Entry;Z)V" } : Jvm.MethodName) prog_103_method_29_code (6 : Nat) (Option.none : Option Jvm.ClassFile.FieldType)) ∈ lw_all := lw_g (lw_at lw_m10 204 rfl) rfl
theorem q2471 : (Jvm.Cond.methodLink "java/util/TreeMap" (170 : Nat) ({ cls := "java/util/TreeMap", name := "fixAfterInsertion", desc := "(Ljava/util/TreeMap$Entry;)V" } : Jvm.MethodName)) ∈ lw_all := lw_g (lw_at lw_m10 205 rfl) rfl
theorem q2472 : (Jvm.Cond.privateMethod ({ cls := "java/util/TreeMap", name := "fixAfterInsertion", desc := "(Ljava/util/TreeMap$Entry;)V" } : Jvm.MethodName)) ∈ lw_tbl := lw_at lw_m10 206 rfl
theorem q2473 : (Jvm.Cond.instanceMethod ({ cls := "java/util/TreeMap", name := "fixAfterInsertion", desc := "(Ljava/util/TreeMap$Entry;)V" } : Jvm.MethodName)) ∈ lw_all := lw_g (lw_at lw_m10 207 rfl) rfl
theorem q2474 : (Jvm.Cond.code ({ cls := "java/util/TreeMap", name := "fixAfterInsertion", desc := "(Ljava/util/TreeMap$Entry;)V" } : Jvm.MethodName) prog_103_method_83_code (3 : Nat) (Option.none : Option Jvm.ClassFile.FieldType)) ∈ lw_all := lw_g (lw_at lw_m10 208 rfl) rfl
theorem q2477 : (Jvm.Cond.instanceMethod ({ cls := "java/util/TreeMap", name := "size", desc := "()I" } : Jvm.MethodName)) ∈ lw_all := lw_g (lw_at lw_m10 211 rfl) rfl
theorem q2478 : (Jvm.Cond.selects "java/util/TreeMap" ({ cls := "java/util/TreeMap", name := "size", desc := "()I" } : Jvm.MethodName) ({ cls := "java/util/TreeMap", name := "size", desc := "()I" } : Jvm.MethodName)) ∈ lw_all := lw_g (lw_at lw_m10 212 rfl) rfl
theorem q2479 : (Jvm.Cond.code ({ cls := "java/util/TreeMap", name := "size", desc := "()I" } : Jvm.MethodName) prog_103_method_5_code (1 : Nat) (Option.some Jvm.ClassFile.FieldType.int)) ∈ lw_all := lw_g (lw_at lw_m10 213 rfl) rfl
theorem q2482 : (Jvm.Cond.instanceMethod ({ cls := "java/util/TreeMap", name := "values", desc := "()Ljava/util/Collection;" } : Jvm.MethodName)) ∈ lw_all := lw_g (lw_at lw_m10 216 rfl) rfl
theorem q2483 : (Jvm.Cond.selects "java/util/TreeMap" ({ cls := "java/util/TreeMap", name := "values", desc := "()Ljava/util/Collection;" } : Jvm.MethodName) ({ cls := "java/util/TreeMap", name := "values", desc := "()Ljava/util/Collection;" } : Jvm.MethodName)) ∈ lw_all := lw_g (lw_at lw_m10 217 rfl) rfl
theorem q2484 : (Jvm.Cond.code ({ cls := "java/util/TreeMap", name := "values", desc := "()Ljava/util/Collection;" } : Jvm.MethodName) prog_103_method_52_code (2 : Nat) (Option.some (Jvm.ClassFile.FieldType.object "java/util/Collection"))) ∈ lw_all := lw_g (lw_at lw_m10 218 rfl) rfl
theorem q2485 : (Jvm.Cond.classLink "java/util/TreeMap" (237 : Nat) "java/util/TreeMap$Values") ∈ lw_all := lw_g (lw_at lw_m10 219 rfl) rfl
theorem q2487 : (Jvm.Cond.methodLink "java/util/TreeMap" (239 : Nat) ({ cls := "java/util/TreeMap$Values", name := "<init>", desc := "(Ljava/util/TreeMap;)V" } : Jvm.MethodName)) ∈ lw_all := lw_g (lw_at lw_m10 221 rfl) rfl
theorem q2601 : (Jvm.Cond.instanceMethod ({ cls := "java/util/TreeMap", name := "getFirstEntry", desc := "()Ljava/util/TreeMap$Entry;" } : Jvm.MethodName)) ∈ lw_all := lw_g (lw_at lw_m11 95 rfl) rfl
theorem q2602 : (Jvm.Cond.selects "java/util/TreeMap" ({ cls := "java/util/TreeMap", name := "getFirstEntry", desc := "()Ljava/util/TreeMap$Entry;" } : Jvm.MethodName) ({ cls := "java/util/TreeMap", name := "getFirstEntry", desc := "()Ljava/util/TreeMap$Entry;" } : Jvm.MethodName)) ∈ lw_all := lw_g (lw_at lw_m11 96 rfl) rfl
theorem q2603 : (Jvm.Cond.code ({ cls := "java/util/TreeMap", name := "getFirstEntry", desc := "()Ljava/util/TreeMap$Entry;" } : Jvm.MethodName) prog_103_method_72_code (2 : Nat) (Option.some (Jvm.ClassFile.FieldType.object "java/util/TreeMap$Entry"))) ∈ lw_all := lw_g (lw_at lw_m11 97 rfl) rfl
theorem q4005 : (Jvm.Cond.castable "java/util/TreeMap" "java/lang/Object") ∈ lw_tbl := lw_at lw_m17 59 rfl
theorem in_J27 : ∀ w ∈ wsJ270, w ∈ lw_all := lw_in wsJ270 [2384, 2386, 2370, 2372, 2374, 2376, 2378, 2380, 2382] (by decide +kernel) (by decide +kernel)

/-! CavePearls$Pool -/
set_option maxRecDepth 100000
def RX5 : String := "CavePearls$Pool"
def TX5 : u_T := fun k => match k with
  | 0 => ("CavePearls$Pool", "capacity", "I", true)
  | 1 => ("CavePearls$Pool", "pearls", "Ljava/util/ArrayList;", true)
  | 2 => ("CavePearls$Pool", "water", "I", false)
  | 3 => ("CavePearls$Pool", "drips", "I", false)
  | _ => ("CavePearls$Pool", "over", "I", false)
def tyX5 : Nat → FieldType := fun k => match k with
  | 0 => .int
  | 1 => .object "java/util/ArrayList"
  | 2 => .int
  | 3 => .int
  | _ => .int
abbrev wsX50 : List Cond := u_ws RX5 TX5 5
theorem nmX5 : ∀ a, a < 5 → ∀ b, b < 5 → a ≠ b → (TX5 a).2.1 ≠ (TX5 b).2.1 := by decide +kernel
theorem tyX5_ok : ∀ k, k < 5 → parseFieldDescriptor (TX5 k).2.2.1 = some (tyX5 k) := by decide +kernel
abbrev cX5_sizes : ByteArray := prog_22_method_8_code
def yX5_sizes : MethodName := ⟨RX5, "sizes", "()I"⟩
def dkwX5_sizes_1 : List UInt8 := [192, 0, 48, 78, 27, 45, 180, 0, 50, 96, 60, 167, 255, 230, 27, 172]
abbrev dktX5_sizes_1 : List UInt8 := dkwX5_sizes_1 ++ []
def dkwX5_sizes_0 : List UInt8 := [3, 60, 42, 182, 0, 34, 77, 44, 185, 0, 38, 1, 0, 153, 0, 23, 44, 185, 0, 44, 1, 0]
abbrev dktX5_sizes_0 : List UInt8 := dkwX5_sizes_0 ++ dktX5_sizes_1
theorem dksX5_sizes_0 : cX5_sizes.data.toList.drop 0 = dktX5_sizes_0 := by decide +kernel
theorem dksX5_sizes_1 : cX5_sizes.data.toList.drop 22 = dktX5_sizes_1 := dk_seg dksX5_sizes_0 22 rfl rfl
theorem dX5_sizes_0 : decode cX5_sizes 0 = .ok (.iconst 0, 1) := dk_3 (dk_at dksX5_sizes_0 0 rfl rfl)
theorem dX5_sizes_1 : decode cX5_sizes 1 = .ok (.istore_n 1, 1) := dk_60 (dk_at dksX5_sizes_0 1 rfl rfl)
theorem dX5_sizes_2 : decode cX5_sizes 2 = .ok (.aload_n 0, 1) := dk_42 (dk_at dksX5_sizes_0 2 rfl rfl)
theorem dX5_sizes_3 : decode cX5_sizes 3 = .ok (.invokevirtual 34, 3) := dk_182 0 34 (dk_at dksX5_sizes_0 3 rfl rfl)
theorem dX5_sizes_6 : decode cX5_sizes 6 = .ok (.astore_n 2, 1) := dk_77 (dk_at dksX5_sizes_0 6 rfl rfl)
theorem dX5_sizes_7 : decode cX5_sizes 7 = .ok (.aload_n 2, 1) := dk_44 (dk_at dksX5_sizes_0 7 rfl rfl)
theorem dX5_sizes_8 : decode cX5_sizes 8 = .ok (.invokeinterface 38 1, 5) := by decide +kernel
theorem dX5_sizes_13 : decode cX5_sizes 13 = .ok (.ifCond .eq 23, 3) := dk_153 0 23 (dk_at dksX5_sizes_0 13 rfl rfl)
theorem dX5_sizes_16 : decode cX5_sizes 16 = .ok (.aload_n 2, 1) := dk_44 (dk_at dksX5_sizes_0 16 rfl rfl)
theorem dX5_sizes_17 : decode cX5_sizes 17 = .ok (.invokeinterface 44 1, 5) := by decide +kernel
theorem dX5_sizes_22 : decode cX5_sizes 22 = .ok (.checkcast 48, 3) := dk_192 0 48 (dk_at dksX5_sizes_1 0 rfl rfl)
theorem dX5_sizes_25 : decode cX5_sizes 25 = .ok (.astore_n 3, 1) := dk_78 (dk_at dksX5_sizes_1 3 rfl rfl)
theorem dX5_sizes_26 : decode cX5_sizes 26 = .ok (.iload_n 1, 1) := dk_27 (dk_at dksX5_sizes_1 4 rfl rfl)
theorem dX5_sizes_27 : decode cX5_sizes 27 = .ok (.aload_n 3, 1) := dk_45 (dk_at dksX5_sizes_1 5 rfl rfl)
theorem dX5_sizes_28 : decode cX5_sizes 28 = .ok (.getfield 50, 3) := dk_180 0 50 (dk_at dksX5_sizes_1 6 rfl rfl)
theorem dX5_sizes_31 : decode cX5_sizes 31 = .ok (.iadd, 1) := dk_96 (dk_at dksX5_sizes_1 9 rfl rfl)
theorem dX5_sizes_32 : decode cX5_sizes 32 = .ok (.istore_n 1, 1) := dk_60 (dk_at dksX5_sizes_1 10 rfl rfl)
theorem dX5_sizes_33 : decode cX5_sizes 33 = .ok (.goto (-26), 3) := dk_167 255 230 (dk_at dksX5_sizes_1 11 rfl rfl)
theorem dX5_sizes_36 : decode cX5_sizes 36 = .ok (.iload_n 1, 1) := dk_27 (dk_at dksX5_sizes_1 14 rfl rfl)
theorem dX5_sizes_37 : decode cX5_sizes 37 = .ok (.ireturn, 1) := dk_172 (dk_at dksX5_sizes_1 15 rfl rfl)
abbrev cX5_iterator : ByteArray := prog_22_method_4_code
def yX5_iterator : MethodName := ⟨RX5, "iterator", "()Ljava/util/Iterator;"⟩
def dkwX5_iterator_0 : List UInt8 := [187, 0, 60, 89, 42, 183, 0, 62, 176]
abbrev dktX5_iterator_0 : List UInt8 := dkwX5_iterator_0 ++ []
theorem dksX5_iterator_0 : cX5_iterator.data.toList.drop 0 = dktX5_iterator_0 := by decide +kernel
theorem dX5_iterator_0 : decode cX5_iterator 0 = .ok (.new 60, 3) := dk_187 0 60 (dk_at dksX5_iterator_0 0 rfl rfl)
theorem dX5_iterator_3 : decode cX5_iterator 3 = .ok (.dup, 1) := dk_89 (dk_at dksX5_iterator_0 3 rfl rfl)
theorem dX5_iterator_4 : decode cX5_iterator 4 = .ok (.aload_n 0, 1) := dk_42 (dk_at dksX5_iterator_0 4 rfl rfl)
theorem dX5_iterator_5 : decode cX5_iterator 5 = .ok (.invokespecial 62, 3) := dk_183 0 62 (dk_at dksX5_iterator_0 5 rfl rfl)
theorem dX5_iterator_8 : decode cX5_iterator 8 = .ok (.areturn, 1) := dk_176 (dk_at dksX5_iterator_0 8 rfl rfl)
abbrev cX5_init : ByteArray := prog_22_method_3_code
def yX5_init : MethodName := ⟨RX5, "<init>", "(LCavePearls$Pool;)V"⟩
def dkwX5_init_2 : List UInt8 := [187, 0, 48, 89, 45, 180, 0, 50, 183, 0, 53, 182, 0, 56, 54, 4, 167, 255, 217, 177]
abbrev dktX5_init_2 : List UInt8 := dkwX5_init_2 ++ []
def dkwX5_init_1 : List UInt8 := [77, 44, 185, 0, 38, 1, 0, 153, 0, 36, 44, 185, 0, 44, 1, 0, 192, 0, 48, 78, 42, 180, 0, 17]
abbrev dktX5_init_1 : List UInt8 := dkwX5_init_1 ++ dktX5_init_2
def dkwX5_init_0 : List UInt8 := [42, 43, 180, 0, 21, 43, 180, 0, 25, 43, 180, 0, 28, 43, 180, 0, 31, 183, 0, 3, 43, 182, 0, 34]
abbrev dktX5_init_0 : List UInt8 := dkwX5_init_0 ++ dktX5_init_1
theorem dksX5_init_0 : cX5_init.data.toList.drop 0 = dktX5_init_0 := by decide +kernel
theorem dksX5_init_1 : cX5_init.data.toList.drop 24 = dktX5_init_1 := dk_seg dksX5_init_0 24 rfl rfl
theorem dksX5_init_2 : cX5_init.data.toList.drop 48 = dktX5_init_2 := dk_seg dksX5_init_1 24 rfl rfl
theorem dX5_init_0 : decode cX5_init 0 = .ok (.aload_n 0, 1) := dk_42 (dk_at dksX5_init_0 0 rfl rfl)
theorem dX5_init_1 : decode cX5_init 1 = .ok (.aload_n 1, 1) := dk_43 (dk_at dksX5_init_0 1 rfl rfl)
theorem dX5_init_2 : decode cX5_init 2 = .ok (.getfield 21, 3) := dk_180 0 21 (dk_at dksX5_init_0 2 rfl rfl)
theorem dX5_init_5 : decode cX5_init 5 = .ok (.aload_n 1, 1) := dk_43 (dk_at dksX5_init_0 5 rfl rfl)
theorem dX5_init_6 : decode cX5_init 6 = .ok (.getfield 25, 3) := dk_180 0 25 (dk_at dksX5_init_0 6 rfl rfl)
theorem dX5_init_9 : decode cX5_init 9 = .ok (.aload_n 1, 1) := dk_43 (dk_at dksX5_init_0 9 rfl rfl)
theorem dX5_init_10 : decode cX5_init 10 = .ok (.getfield 28, 3) := dk_180 0 28 (dk_at dksX5_init_0 10 rfl rfl)
theorem dX5_init_13 : decode cX5_init 13 = .ok (.aload_n 1, 1) := dk_43 (dk_at dksX5_init_0 13 rfl rfl)
theorem dX5_init_14 : decode cX5_init 14 = .ok (.getfield 31, 3) := dk_180 0 31 (dk_at dksX5_init_0 14 rfl rfl)
theorem dX5_init_17 : decode cX5_init 17 = .ok (.invokespecial 3, 3) := dk_183 0 3 (dk_at dksX5_init_0 17 rfl rfl)
theorem dX5_init_20 : decode cX5_init 20 = .ok (.aload_n 1, 1) := dk_43 (dk_at dksX5_init_0 20 rfl rfl)
theorem dX5_init_21 : decode cX5_init 21 = .ok (.invokevirtual 34, 3) := dk_182 0 34 (dk_at dksX5_init_0 21 rfl rfl)
theorem dX5_init_24 : decode cX5_init 24 = .ok (.astore_n 2, 1) := dk_77 (dk_at dksX5_init_1 0 rfl rfl)
theorem dX5_init_25 : decode cX5_init 25 = .ok (.aload_n 2, 1) := dk_44 (dk_at dksX5_init_1 1 rfl rfl)
theorem dX5_init_26 : decode cX5_init 26 = .ok (.invokeinterface 38 1, 5) := by decide +kernel
theorem dX5_init_31 : decode cX5_init 31 = .ok (.ifCond .eq 36, 3) := dk_153 0 36 (dk_at dksX5_init_1 7 rfl rfl)
theorem dX5_init_34 : decode cX5_init 34 = .ok (.aload_n 2, 1) := dk_44 (dk_at dksX5_init_1 10 rfl rfl)
theorem dX5_init_35 : decode cX5_init 35 = .ok (.invokeinterface 44 1, 5) := by decide +kernel
theorem dX5_init_40 : decode cX5_init 40 = .ok (.checkcast 48, 3) := dk_192 0 48 (dk_at dksX5_init_1 16 rfl rfl)
theorem dX5_init_43 : decode cX5_init 43 = .ok (.astore_n 3, 1) := dk_78 (dk_at dksX5_init_1 19 rfl rfl)
theorem dX5_init_44 : decode cX5_init 44 = .ok (.aload_n 0, 1) := dk_42 (dk_at dksX5_init_1 20 rfl rfl)
theorem dX5_init_45 : decode cX5_init 45 = .ok (.getfield 17, 3) := dk_180 0 17 (dk_at dksX5_init_1 21 rfl rfl)
theorem dX5_init_48 : decode cX5_init 48 = .ok (.new 48, 3) := dk_187 0 48 (dk_at dksX5_init_2 0 rfl rfl)
theorem dX5_init_51 : decode cX5_init 51 = .ok (.dup, 1) := dk_89 (dk_at dksX5_init_2 3 rfl rfl)
theorem dX5_init_52 : decode cX5_init 52 = .ok (.aload_n 3, 1) := dk_45 (dk_at dksX5_init_2 4 rfl rfl)
theorem dX5_init_53 : decode cX5_init 53 = .ok (.getfield 50, 3) := dk_180 0 50 (dk_at dksX5_init_2 5 rfl rfl)
theorem dX5_init_56 : decode cX5_init 56 = .ok (.invokespecial 53, 3) := dk_183 0 53 (dk_at dksX5_init_2 8 rfl rfl)
theorem dX5_init_59 : decode cX5_init 59 = .ok (.invokevirtual 56, 3) := dk_182 0 56 (dk_at dksX5_init_2 11 rfl rfl)
theorem dX5_init_62 : decode cX5_init 62 = .ok (.istore 4, 2) := dk_54 4 (dk_at dksX5_init_2 14 rfl rfl)
theorem dX5_init_64 : decode cX5_init 64 = .ok (.goto (-39), 3) := dk_167 255 217 (dk_at dksX5_init_2 16 rfl rfl)
theorem dX5_init_67 : decode cX5_init 67 = .ok (.return_, 1) := dk_177 (dk_at dksX5_init_2 19 rfl rfl)
abbrev cX5_init_2 : ByteArray := prog_22_method_2_code
def yX5_init_2 : MethodName := ⟨RX5, "<init>", "(IIII)V"⟩
def dkwX5_init_2_1 : List UInt8 := [181, 0, 25, 42, 29, 181, 0, 28, 42, 21, 4, 181, 0, 31, 177]
abbrev dktX5_init_2_1 : List UInt8 := dkwX5_init_2_1 ++ []
def dkwX5_init_2_0 : List UInt8 := [42, 183, 0, 9, 42, 187, 0, 14, 89, 183, 0, 16, 181, 0, 17, 42, 27, 181, 0, 21, 42, 28]
abbrev dktX5_init_2_0 : List UInt8 := dkwX5_init_2_0 ++ dktX5_init_2_1
theorem dksX5_init_2_0 : cX5_init_2.data.toList.drop 0 = dktX5_init_2_0 := by decide +kernel
theorem dksX5_init_2_1 : cX5_init_2.data.toList.drop 22 = dktX5_init_2_1 := dk_seg dksX5_init_2_0 22 rfl rfl
theorem dX5_init_2_0 : decode cX5_init_2 0 = .ok (.aload_n 0, 1) := dk_42 (dk_at dksX5_init_2_0 0 rfl rfl)
theorem dX5_init_2_1 : decode cX5_init_2 1 = .ok (.invokespecial 9, 3) := dk_183 0 9 (dk_at dksX5_init_2_0 1 rfl rfl)
theorem dX5_init_2_4 : decode cX5_init_2 4 = .ok (.aload_n 0, 1) := dk_42 (dk_at dksX5_init_2_0 4 rfl rfl)
theorem dX5_init_2_5 : decode cX5_init_2 5 = .ok (.new 14, 3) := dk_187 0 14 (dk_at dksX5_init_2_0 5 rfl rfl)
theorem dX5_init_2_8 : decode cX5_init_2 8 = .ok (.dup, 1) := dk_89 (dk_at dksX5_init_2_0 8 rfl rfl)
theorem dX5_init_2_9 : decode cX5_init_2 9 = .ok (.invokespecial 16, 3) := dk_183 0 16 (dk_at dksX5_init_2_0 9 rfl rfl)
theorem dX5_init_2_12 : decode cX5_init_2 12 = .ok (.putfield 17, 3) := dk_181 0 17 (dk_at dksX5_init_2_0 12 rfl rfl)
theorem dX5_init_2_15 : decode cX5_init_2 15 = .ok (.aload_n 0, 1) := dk_42 (dk_at dksX5_init_2_0 15 rfl rfl)
theorem dX5_init_2_16 : decode cX5_init_2 16 = .ok (.iload_n 1, 1) := dk_27 (dk_at dksX5_init_2_0 16 rfl rfl)
theorem dX5_init_2_17 : decode cX5_init_2 17 = .ok (.putfield 21, 3) := dk_181 0 21 (dk_at dksX5_init_2_0 17 rfl rfl)
theorem dX5_init_2_20 : decode cX5_init_2 20 = .ok (.aload_n 0, 1) := dk_42 (dk_at dksX5_init_2_0 20 rfl rfl)
theorem dX5_init_2_21 : decode cX5_init_2 21 = .ok (.iload_n 2, 1) := dk_28 (dk_at dksX5_init_2_0 21 rfl rfl)
theorem dX5_init_2_22 : decode cX5_init_2 22 = .ok (.putfield 25, 3) := dk_181 0 25 (dk_at dksX5_init_2_1 0 rfl rfl)
theorem dX5_init_2_25 : decode cX5_init_2 25 = .ok (.aload_n 0, 1) := dk_42 (dk_at dksX5_init_2_1 3 rfl rfl)
theorem dX5_init_2_26 : decode cX5_init_2 26 = .ok (.iload_n 3, 1) := dk_29 (dk_at dksX5_init_2_1 4 rfl rfl)
theorem dX5_init_2_27 : decode cX5_init_2 27 = .ok (.putfield 28, 3) := dk_181 0 28 (dk_at dksX5_init_2_1 5 rfl rfl)
theorem dX5_init_2_30 : decode cX5_init_2 30 = .ok (.aload_n 0, 1) := dk_42 (dk_at dksX5_init_2_1 8 rfl rfl)
theorem dX5_init_2_31 : decode cX5_init_2 31 = .ok (.iload 4, 2) := dk_21 4 (dk_at dksX5_init_2_1 9 rfl rfl)
theorem dX5_init_2_33 : decode cX5_init_2 33 = .ok (.putfield 31, 3) := dk_181 0 31 (dk_at dksX5_init_2_1 11 rfl rfl)
theorem dX5_init_2_36 : decode cX5_init_2 36 = .ok (.return_, 1) := dk_177 (dk_at dksX5_init_2_1 14 rfl rfl)
abbrev cX5_init_3 : ByteArray := prog_22_method_1_code
def yX5_init_3 : MethodName := ⟨RX5, "<init>", "(I)V"⟩
def dkwX5_init_3_0 : List UInt8 := [42, 27, 3, 3, 3, 183, 0, 3, 177]
abbrev dktX5_init_3_0 : List UInt8 := dkwX5_init_3_0 ++ []
theorem dksX5_init_3_0 : cX5_init_3.data.toList.drop 0 = dktX5_init_3_0 := by decide +kernel
theorem dX5_init_3_0 : decode cX5_init_3 0 = .ok (.aload_n 0, 1) := dk_42 (dk_at dksX5_init_3_0 0 rfl rfl)
theorem dX5_init_3_1 : decode cX5_init_3 1 = .ok (.iload_n 1, 1) := dk_27 (dk_at dksX5_init_3_0 1 rfl rfl)
theorem dX5_init_3_2 : decode cX5_init_3 2 = .ok (.iconst 0, 1) := dk_3 (dk_at dksX5_init_3_0 2 rfl rfl)
theorem dX5_init_3_3 : decode cX5_init_3 3 = .ok (.iconst 0, 1) := dk_3 (dk_at dksX5_init_3_0 3 rfl rfl)
theorem dX5_init_3_4 : decode cX5_init_3 4 = .ok (.iconst 0, 1) := dk_3 (dk_at dksX5_init_3_0 4 rfl rfl)
theorem dX5_init_3_5 : decode cX5_init_3 5 = .ok (.invokespecial 3, 3) := dk_183 0 3 (dk_at dksX5_init_3_0 5 rfl rfl)
theorem dX5_init_3_8 : decode cX5_init_3 8 = .ok (.return_, 1) := dk_177 (dk_at dksX5_init_3_0 8 rfl rfl)
abbrev cX5_pearl : ByteArray := prog_22_method_5_code
def yX5_pearl : MethodName := ⟨RX5, "pearl", "(I)LCavePearls$Pearl;"⟩
def dkwX5_pearl_1 : List UInt8 := [182, 0, 76, 192, 0, 48, 176]
abbrev dktX5_pearl_1 : List UInt8 := dkwX5_pearl_1 ++ []
def dkwX5_pearl_0 : List UInt8 := [27, 3, 42, 180, 0, 17, 182, 0, 65, 4, 100, 184, 0, 68, 184, 0, 72, 42, 180, 0, 17, 27]
abbrev dktX5_pearl_0 : List UInt8 := dkwX5_pearl_0 ++ dktX5_pearl_1
theorem dksX5_pearl_0 : cX5_pearl.data.toList.drop 0 = dktX5_pearl_0 := by decide +kernel
theorem dksX5_pearl_1 : cX5_pearl.data.toList.drop 22 = dktX5_pearl_1 := dk_seg dksX5_pearl_0 22 rfl rfl
theorem dX5_pearl_0 : decode cX5_pearl 0 = .ok (.iload_n 1, 1) := dk_27 (dk_at dksX5_pearl_0 0 rfl rfl)
theorem dX5_pearl_1 : decode cX5_pearl 1 = .ok (.iconst 0, 1) := dk_3 (dk_at dksX5_pearl_0 1 rfl rfl)
theorem dX5_pearl_2 : decode cX5_pearl 2 = .ok (.aload_n 0, 1) := dk_42 (dk_at dksX5_pearl_0 2 rfl rfl)
theorem dX5_pearl_3 : decode cX5_pearl 3 = .ok (.getfield 17, 3) := dk_180 0 17 (dk_at dksX5_pearl_0 3 rfl rfl)
theorem dX5_pearl_6 : decode cX5_pearl 6 = .ok (.invokevirtual 65, 3) := dk_182 0 65 (dk_at dksX5_pearl_0 6 rfl rfl)
theorem dX5_pearl_9 : decode cX5_pearl 9 = .ok (.iconst 1, 1) := dk_4 (dk_at dksX5_pearl_0 9 rfl rfl)
theorem dX5_pearl_10 : decode cX5_pearl 10 = .ok (.isub, 1) := dk_100 (dk_at dksX5_pearl_0 10 rfl rfl)
theorem dX5_pearl_11 : decode cX5_pearl 11 = .ok (.invokestatic 68, 3) := dk_184 0 68 (dk_at dksX5_pearl_0 11 rfl rfl)
theorem dX5_pearl_14 : decode cX5_pearl 14 = .ok (.invokestatic 72, 3) := dk_184 0 72 (dk_at dksX5_pearl_0 14 rfl rfl)
theorem dX5_pearl_17 : decode cX5_pearl 17 = .ok (.aload_n 0, 1) := dk_42 (dk_at dksX5_pearl_0 17 rfl rfl)
theorem dX5_pearl_18 : decode cX5_pearl 18 = .ok (.getfield 17, 3) := dk_180 0 17 (dk_at dksX5_pearl_0 18 rfl rfl)
theorem dX5_pearl_21 : decode cX5_pearl 21 = .ok (.iload_n 1, 1) := dk_27 (dk_at dksX5_pearl_0 21 rfl rfl)
theorem dX5_pearl_22 : decode cX5_pearl 22 = .ok (.invokevirtual 76, 3) := dk_182 0 76 (dk_at dksX5_pearl_1 0 rfl rfl)
theorem dX5_pearl_25 : decode cX5_pearl 25 = .ok (.checkcast 48, 3) := dk_192 0 48 (dk_at dksX5_pearl_1 3 rfl rfl)
theorem dX5_pearl_28 : decode cX5_pearl 28 = .ok (.areturn, 1) := dk_176 (dk_at dksX5_pearl_1 6 rfl rfl)
abbrev cX5_isFull : ByteArray := prog_22_method_7_code
def yX5_isFull : MethodName := ⟨RX5, "isFull", "()Z"⟩
def dkwX5_isFull_0 : List UInt8 := [42, 180, 0, 25, 42, 180, 0, 21, 160, 0, 7, 4, 167, 0, 4, 3, 172]
abbrev dktX5_isFull_0 : List UInt8 := dkwX5_isFull_0 ++ []
theorem dksX5_isFull_0 : cX5_isFull.data.toList.drop 0 = dktX5_isFull_0 := by decide +kernel
theorem dX5_isFull_0 : decode cX5_isFull 0 = .ok (.aload_n 0, 1) := dk_42 (dk_at dksX5_isFull_0 0 rfl rfl)
theorem dX5_isFull_1 : decode cX5_isFull 1 = .ok (.getfield 25, 3) := dk_180 0 25 (dk_at dksX5_isFull_0 1 rfl rfl)
theorem dX5_isFull_4 : decode cX5_isFull 4 = .ok (.aload_n 0, 1) := dk_42 (dk_at dksX5_isFull_0 4 rfl rfl)
theorem dX5_isFull_5 : decode cX5_isFull 5 = .ok (.getfield 21, 3) := dk_180 0 21 (dk_at dksX5_isFull_0 5 rfl rfl)
theorem dX5_isFull_8 : decode cX5_isFull 8 = .ok (.if_icmp .ne 7, 3) := dk_160 0 7 (dk_at dksX5_isFull_0 8 rfl rfl)
theorem dX5_isFull_11 : decode cX5_isFull 11 = .ok (.iconst 1, 1) := dk_4 (dk_at dksX5_isFull_0 11 rfl rfl)
theorem dX5_isFull_12 : decode cX5_isFull 12 = .ok (.goto 4, 3) := dk_167 0 4 (dk_at dksX5_isFull_0 12 rfl rfl)
theorem dX5_isFull_15 : decode cX5_isFull 15 = .ok (.iconst 0, 1) := dk_3 (dk_at dksX5_isFull_0 15 rfl rfl)
theorem dX5_isFull_16 : decode cX5_isFull 16 = .ok (.ireturn, 1) := dk_172 (dk_at dksX5_isFull_0 16 rfl rfl)
abbrev cX5_drip : ByteArray := prog_22_method_9_code
def yX5_drip : MethodName := ⟨RX5, "drip", "(Z)I"⟩
def dkwX5_drip_4 : List UInt8 := [192, 0, 48, 89, 180, 0, 50, 29, 96, 181, 0, 50, 29, 172]
abbrev dktX5_drip_4 : List UInt8 := dkwX5_drip_4 ++ []
def dkwX5_drip_3 : List UInt8 := [182, 0, 76, 192, 0, 48, 27, 182, 0, 86, 62, 29, 153, 0, 23, 42, 180, 0, 17, 28, 182, 0, 76]
abbrev dktX5_drip_3 : List UInt8 := dkwX5_drip_3 ++ dktX5_drip_4
def dkwX5_drip_2 : List UInt8 := [4, 96, 181, 0, 25, 42, 182, 0, 83, 61, 28, 2, 160, 0, 7, 3, 167, 0, 18, 42, 180, 0, 17, 28]
abbrev dktX5_drip_2 : List UInt8 := dkwX5_drip_2 ++ dktX5_drip_3
def dkwX5_drip_1 : List UInt8 := [167, 0, 4, 3, 96, 181, 0, 31, 42, 89, 180, 0, 25, 42, 182, 0, 80, 153, 0, 7, 3, 167, 0, 4]
abbrev dktX5_drip_1 : List UInt8 := dkwX5_drip_1 ++ dktX5_drip_2
def dkwX5_drip_0 : List UInt8 := [42, 89, 180, 0, 28, 4, 96, 181, 0, 28, 42, 89, 180, 0, 31, 42, 182, 0, 80, 153, 0, 7, 4]
abbrev dktX5_drip_0 : List UInt8 := dkwX5_drip_0 ++ dktX5_drip_1
theorem dksX5_drip_0 : cX5_drip.data.toList.drop 0 = dktX5_drip_0 := by decide +kernel
theorem dksX5_drip_1 : cX5_drip.data.toList.drop 23 = dktX5_drip_1 := dk_seg dksX5_drip_0 23 rfl rfl
theorem dksX5_drip_2 : cX5_drip.data.toList.drop 47 = dktX5_drip_2 := dk_seg dksX5_drip_1 24 rfl rfl
theorem dksX5_drip_3 : cX5_drip.data.toList.drop 71 = dktX5_drip_3 := dk_seg dksX5_drip_2 24 rfl rfl
theorem dksX5_drip_4 : cX5_drip.data.toList.drop 94 = dktX5_drip_4 := dk_seg dksX5_drip_3 23 rfl rfl
theorem dX5_drip_0 : decode cX5_drip 0 = .ok (.aload_n 0, 1) := dk_42 (dk_at dksX5_drip_0 0 rfl rfl)
theorem dX5_drip_1 : decode cX5_drip 1 = .ok (.dup, 1) := dk_89 (dk_at dksX5_drip_0 1 rfl rfl)
theorem dX5_drip_2 : decode cX5_drip 2 = .ok (.getfield 28, 3) := dk_180 0 28 (dk_at dksX5_drip_0 2 rfl rfl)
theorem dX5_drip_5 : decode cX5_drip 5 = .ok (.iconst 1, 1) := dk_4 (dk_at dksX5_drip_0 5 rfl rfl)
theorem dX5_drip_6 : decode cX5_drip 6 = .ok (.iadd, 1) := dk_96 (dk_at dksX5_drip_0 6 rfl rfl)
theorem dX5_drip_7 : decode cX5_drip 7 = .ok (.putfield 28, 3) := dk_181 0 28 (dk_at dksX5_drip_0 7 rfl rfl)
theorem dX5_drip_10 : decode cX5_drip 10 = .ok (.aload_n 0, 1) := dk_42 (dk_at dksX5_drip_0 10 rfl rfl)
theorem dX5_drip_11 : decode cX5_drip 11 = .ok (.dup, 1) := dk_89 (dk_at dksX5_drip_0 11 rfl rfl)
theorem dX5_drip_12 : decode cX5_drip 12 = .ok (.getfield 31, 3) := dk_180 0 31 (dk_at dksX5_drip_0 12 rfl rfl)
theorem dX5_drip_15 : decode cX5_drip 15 = .ok (.aload_n 0, 1) := dk_42 (dk_at dksX5_drip_0 15 rfl rfl)
theorem dX5_drip_16 : decode cX5_drip 16 = .ok (.invokevirtual 80, 3) := dk_182 0 80 (dk_at dksX5_drip_0 16 rfl rfl)
theorem dX5_drip_19 : decode cX5_drip 19 = .ok (.ifCond .eq 7, 3) := dk_153 0 7 (dk_at dksX5_drip_0 19 rfl rfl)
theorem dX5_drip_22 : decode cX5_drip 22 = .ok (.iconst 1, 1) := dk_4 (dk_at dksX5_drip_0 22 rfl rfl)
theorem dX5_drip_23 : decode cX5_drip 23 = .ok (.goto 4, 3) := dk_167 0 4 (dk_at dksX5_drip_1 0 rfl rfl)
theorem dX5_drip_26 : decode cX5_drip 26 = .ok (.iconst 0, 1) := dk_3 (dk_at dksX5_drip_1 3 rfl rfl)
theorem dX5_drip_27 : decode cX5_drip 27 = .ok (.iadd, 1) := dk_96 (dk_at dksX5_drip_1 4 rfl rfl)
theorem dX5_drip_28 : decode cX5_drip 28 = .ok (.putfield 31, 3) := dk_181 0 31 (dk_at dksX5_drip_1 5 rfl rfl)
theorem dX5_drip_31 : decode cX5_drip 31 = .ok (.aload_n 0, 1) := dk_42 (dk_at dksX5_drip_1 8 rfl rfl)
theorem dX5_drip_32 : decode cX5_drip 32 = .ok (.dup, 1) := dk_89 (dk_at dksX5_drip_1 9 rfl rfl)
theorem dX5_drip_33 : decode cX5_drip 33 = .ok (.getfield 25, 3) := dk_180 0 25 (dk_at dksX5_drip_1 10 rfl rfl)
theorem dX5_drip_36 : decode cX5_drip 36 = .ok (.aload_n 0, 1) := dk_42 (dk_at dksX5_drip_1 13 rfl rfl)
theorem dX5_drip_37 : decode cX5_drip 37 = .ok (.invokevirtual 80, 3) := dk_182 0 80 (dk_at dksX5_drip_1 14 rfl rfl)
theorem dX5_drip_40 : decode cX5_drip 40 = .ok (.ifCond .eq 7, 3) := dk_153 0 7 (dk_at dksX5_drip_1 17 rfl rfl)
theorem dX5_drip_43 : decode cX5_drip 43 = .ok (.iconst 0, 1) := dk_3 (dk_at dksX5_drip_1 20 rfl rfl)
theorem dX5_drip_44 : decode cX5_drip 44 = .ok (.goto 4, 3) := dk_167 0 4 (dk_at dksX5_drip_1 21 rfl rfl)
theorem dX5_drip_47 : decode cX5_drip 47 = .ok (.iconst 1, 1) := dk_4 (dk_at dksX5_drip_2 0 rfl rfl)
theorem dX5_drip_48 : decode cX5_drip 48 = .ok (.iadd, 1) := dk_96 (dk_at dksX5_drip_2 1 rfl rfl)
theorem dX5_drip_49 : decode cX5_drip 49 = .ok (.putfield 25, 3) := dk_181 0 25 (dk_at dksX5_drip_2 2 rfl rfl)
theorem dX5_drip_52 : decode cX5_drip 52 = .ok (.aload_n 0, 1) := dk_42 (dk_at dksX5_drip_2 5 rfl rfl)
theorem dX5_drip_53 : decode cX5_drip 53 = .ok (.invokevirtual 83, 3) := dk_182 0 83 (dk_at dksX5_drip_2 6 rfl rfl)
theorem dX5_drip_56 : decode cX5_drip 56 = .ok (.istore_n 2, 1) := dk_61 (dk_at dksX5_drip_2 9 rfl rfl)
theorem dX5_drip_57 : decode cX5_drip 57 = .ok (.iload_n 2, 1) := dk_28 (dk_at dksX5_drip_2 10 rfl rfl)
theorem dX5_drip_58 : decode cX5_drip 58 = .ok (.iconst (-1), 1) := dk_2 (dk_at dksX5_drip_2 11 rfl rfl)
theorem dX5_drip_59 : decode cX5_drip 59 = .ok (.if_icmp .ne 7, 3) := dk_160 0 7 (dk_at dksX5_drip_2 12 rfl rfl)
theorem dX5_drip_62 : decode cX5_drip 62 = .ok (.iconst 0, 1) := dk_3 (dk_at dksX5_drip_2 15 rfl rfl)
theorem dX5_drip_63 : decode cX5_drip 63 = .ok (.goto 18, 3) := dk_167 0 18 (dk_at dksX5_drip_2 16 rfl rfl)
theorem dX5_drip_66 : decode cX5_drip 66 = .ok (.aload_n 0, 1) := dk_42 (dk_at dksX5_drip_2 19 rfl rfl)
theorem dX5_drip_67 : decode cX5_drip 67 = .ok (.getfield 17, 3) := dk_180 0 17 (dk_at dksX5_drip_2 20 rfl rfl)
theorem dX5_drip_70 : decode cX5_drip 70 = .ok (.iload_n 2, 1) := dk_28 (dk_at dksX5_drip_2 23 rfl rfl)
theorem dX5_drip_71 : decode cX5_drip 71 = .ok (.invokevirtual 76, 3) := dk_182 0 76 (dk_at dksX5_drip_3 0 rfl rfl)
theorem dX5_drip_74 : decode cX5_drip 74 = .ok (.checkcast 48, 3) := dk_192 0 48 (dk_at dksX5_drip_3 3 rfl rfl)
theorem dX5_drip_77 : decode cX5_drip 77 = .ok (.iload_n 1, 1) := dk_27 (dk_at dksX5_drip_3 6 rfl rfl)
theorem dX5_drip_78 : decode cX5_drip 78 = .ok (.invokevirtual 86, 3) := dk_182 0 86 (dk_at dksX5_drip_3 7 rfl rfl)
theorem dX5_drip_81 : decode cX5_drip 81 = .ok (.istore_n 3, 1) := dk_62 (dk_at dksX5_drip_3 10 rfl rfl)
theorem dX5_drip_82 : decode cX5_drip 82 = .ok (.iload_n 3, 1) := dk_29 (dk_at dksX5_drip_3 11 rfl rfl)
theorem dX5_drip_83 : decode cX5_drip 83 = .ok (.ifCond .eq 23, 3) := dk_153 0 23 (dk_at dksX5_drip_3 12 rfl rfl)
theorem dX5_drip_86 : decode cX5_drip 86 = .ok (.aload_n 0, 1) := dk_42 (dk_at dksX5_drip_3 15 rfl rfl)
theorem dX5_drip_87 : decode cX5_drip 87 = .ok (.getfield 17, 3) := dk_180 0 17 (dk_at dksX5_drip_3 16 rfl rfl)
theorem dX5_drip_90 : decode cX5_drip 90 = .ok (.iload_n 2, 1) := dk_28 (dk_at dksX5_drip_3 19 rfl rfl)
theorem dX5_drip_91 : decode cX5_drip 91 = .ok (.invokevirtual 76, 3) := dk_182 0 76 (dk_at dksX5_drip_3 20 rfl rfl)
theorem dX5_drip_94 : decode cX5_drip 94 = .ok (.checkcast 48, 3) := dk_192 0 48 (dk_at dksX5_drip_4 0 rfl rfl)
theorem dX5_drip_97 : decode cX5_drip 97 = .ok (.dup, 1) := dk_89 (dk_at dksX5_drip_4 3 rfl rfl)
theorem dX5_drip_98 : decode cX5_drip 98 = .ok (.getfield 50, 3) := dk_180 0 50 (dk_at dksX5_drip_4 4 rfl rfl)
theorem dX5_drip_101 : decode cX5_drip 101 = .ok (.iload_n 3, 1) := dk_29 (dk_at dksX5_drip_4 7 rfl rfl)
theorem dX5_drip_102 : decode cX5_drip 102 = .ok (.iadd, 1) := dk_96 (dk_at dksX5_drip_4 8 rfl rfl)
theorem dX5_drip_103 : decode cX5_drip 103 = .ok (.putfield 50, 3) := dk_181 0 50 (dk_at dksX5_drip_4 9 rfl rfl)
theorem dX5_drip_106 : decode cX5_drip 106 = .ok (.iload_n 3, 1) := dk_29 (dk_at dksX5_drip_4 12 rfl rfl)
theorem dX5_drip_107 : decode cX5_drip 107 = .ok (.ireturn, 1) := dk_172 (dk_at dksX5_drip_4 13 rfl rfl)
abbrev cX5_smallest : ByteArray := prog_22_method_6_code
def yX5_smallest : MethodName := ⟨RX5, "smallest", "()I"⟩
def dkwX5_smallest_2 : List UInt8 := [162, 0, 7, 28, 167, 0, 4, 27, 60, 132, 2, 1, 167, 255, 200, 27, 172]
abbrev dktX5_smallest_2 : List UInt8 := dkwX5_smallest_2 ++ []
def dkwX5_smallest_1 : List UInt8 := [28, 182, 0, 76, 192, 0, 48, 180, 0, 50, 42, 180, 0, 17, 27, 182, 0, 76, 192, 0, 48, 180, 0, 50]
abbrev dktX5_smallest_1 : List UInt8 := dkwX5_smallest_1 ++ dktX5_smallest_2
def dkwX5_smallest_0 : List UInt8 := [2, 60, 3, 61, 28, 42, 180, 0, 17, 182, 0, 65, 162, 0, 51, 27, 2, 159, 0, 34, 42, 180, 0, 17]
abbrev dktX5_smallest_0 : List UInt8 := dkwX5_smallest_0 ++ dktX5_smallest_1
theorem dksX5_smallest_0 : cX5_smallest.data.toList.drop 0 = dktX5_smallest_0 := by decide +kernel
theorem dksX5_smallest_1 : cX5_smallest.data.toList.drop 24 = dktX5_smallest_1 := dk_seg dksX5_smallest_0 24 rfl rfl
theorem dksX5_smallest_2 : cX5_smallest.data.toList.drop 48 = dktX5_smallest_2 := dk_seg dksX5_smallest_1 24 rfl rfl
theorem dX5_smallest_0 : decode cX5_smallest 0 = .ok (.iconst (-1), 1) := dk_2 (dk_at dksX5_smallest_0 0 rfl rfl)
theorem dX5_smallest_1 : decode cX5_smallest 1 = .ok (.istore_n 1, 1) := dk_60 (dk_at dksX5_smallest_0 1 rfl rfl)
theorem dX5_smallest_2 : decode cX5_smallest 2 = .ok (.iconst 0, 1) := dk_3 (dk_at dksX5_smallest_0 2 rfl rfl)
theorem dX5_smallest_3 : decode cX5_smallest 3 = .ok (.istore_n 2, 1) := dk_61 (dk_at dksX5_smallest_0 3 rfl rfl)
theorem dX5_smallest_4 : decode cX5_smallest 4 = .ok (.iload_n 2, 1) := dk_28 (dk_at dksX5_smallest_0 4 rfl rfl)
theorem dX5_smallest_5 : decode cX5_smallest 5 = .ok (.aload_n 0, 1) := dk_42 (dk_at dksX5_smallest_0 5 rfl rfl)
theorem dX5_smallest_6 : decode cX5_smallest 6 = .ok (.getfield 17, 3) := dk_180 0 17 (dk_at dksX5_smallest_0 6 rfl rfl)
theorem dX5_smallest_9 : decode cX5_smallest 9 = .ok (.invokevirtual 65, 3) := dk_182 0 65 (dk_at dksX5_smallest_0 9 rfl rfl)
theorem dX5_smallest_12 : decode cX5_smallest 12 = .ok (.if_icmp .ge 51, 3) := dk_162 0 51 (dk_at dksX5_smallest_0 12 rfl rfl)
theorem dX5_smallest_15 : decode cX5_smallest 15 = .ok (.iload_n 1, 1) := dk_27 (dk_at dksX5_smallest_0 15 rfl rfl)
theorem dX5_smallest_16 : decode cX5_smallest 16 = .ok (.iconst (-1), 1) := dk_2 (dk_at dksX5_smallest_0 16 rfl rfl)
theorem dX5_smallest_17 : decode cX5_smallest 17 = .ok (.if_icmp .eq 34, 3) := dk_159 0 34 (dk_at dksX5_smallest_0 17 rfl rfl)
theorem dX5_smallest_20 : decode cX5_smallest 20 = .ok (.aload_n 0, 1) := dk_42 (dk_at dksX5_smallest_0 20 rfl rfl)
theorem dX5_smallest_21 : decode cX5_smallest 21 = .ok (.getfield 17, 3) := dk_180 0 17 (dk_at dksX5_smallest_0 21 rfl rfl)
theorem dX5_smallest_24 : decode cX5_smallest 24 = .ok (.iload_n 2, 1) := dk_28 (dk_at dksX5_smallest_1 0 rfl rfl)
theorem dX5_smallest_25 : decode cX5_smallest 25 = .ok (.invokevirtual 76, 3) := dk_182 0 76 (dk_at dksX5_smallest_1 1 rfl rfl)
theorem dX5_smallest_28 : decode cX5_smallest 28 = .ok (.checkcast 48, 3) := dk_192 0 48 (dk_at dksX5_smallest_1 4 rfl rfl)
theorem dX5_smallest_31 : decode cX5_smallest 31 = .ok (.getfield 50, 3) := dk_180 0 50 (dk_at dksX5_smallest_1 7 rfl rfl)
theorem dX5_smallest_34 : decode cX5_smallest 34 = .ok (.aload_n 0, 1) := dk_42 (dk_at dksX5_smallest_1 10 rfl rfl)
theorem dX5_smallest_35 : decode cX5_smallest 35 = .ok (.getfield 17, 3) := dk_180 0 17 (dk_at dksX5_smallest_1 11 rfl rfl)
theorem dX5_smallest_38 : decode cX5_smallest 38 = .ok (.iload_n 1, 1) := dk_27 (dk_at dksX5_smallest_1 14 rfl rfl)
theorem dX5_smallest_39 : decode cX5_smallest 39 = .ok (.invokevirtual 76, 3) := dk_182 0 76 (dk_at dksX5_smallest_1 15 rfl rfl)
theorem dX5_smallest_42 : decode cX5_smallest 42 = .ok (.checkcast 48, 3) := dk_192 0 48 (dk_at dksX5_smallest_1 18 rfl rfl)
theorem dX5_smallest_45 : decode cX5_smallest 45 = .ok (.getfield 50, 3) := dk_180 0 50 (dk_at dksX5_smallest_1 21 rfl rfl)
theorem dX5_smallest_48 : decode cX5_smallest 48 = .ok (.if_icmp .ge 7, 3) := dk_162 0 7 (dk_at dksX5_smallest_2 0 rfl rfl)
theorem dX5_smallest_51 : decode cX5_smallest 51 = .ok (.iload_n 2, 1) := dk_28 (dk_at dksX5_smallest_2 3 rfl rfl)
theorem dX5_smallest_52 : decode cX5_smallest 52 = .ok (.goto 4, 3) := dk_167 0 4 (dk_at dksX5_smallest_2 4 rfl rfl)
theorem dX5_smallest_55 : decode cX5_smallest 55 = .ok (.iload_n 1, 1) := dk_27 (dk_at dksX5_smallest_2 7 rfl rfl)
theorem dX5_smallest_56 : decode cX5_smallest 56 = .ok (.istore_n 1, 1) := dk_60 (dk_at dksX5_smallest_2 8 rfl rfl)
theorem dX5_smallest_57 : decode cX5_smallest 57 = .ok (.iinc 2 1, 3) := dk_132 2 1 (dk_at dksX5_smallest_2 9 rfl rfl)
theorem dX5_smallest_60 : decode cX5_smallest 60 = .ok (.goto (-56), 3) := dk_167 255 200 (dk_at dksX5_smallest_2 12 rfl rfl)
theorem dX5_smallest_63 : decode cX5_smallest 63 = .ok (.iload_n 1, 1) := dk_27 (dk_at dksX5_smallest_2 15 rfl rfl)
theorem dX5_smallest_64 : decode cX5_smallest 64 = .ok (.ireturn, 1) := dk_172 (dk_at dksX5_smallest_2 16 rfl rfl)
theorem q140 : (Jvm.Cond.initialized "CavePearls$Pool") ∈ lw_all := lw_g (lw_at lw_m1 34 rfl) rfl
theorem q936 : (Jvm.Cond.selects "CavePearls$Pool" ({ cls := "java/lang/Object", name := "getClass", desc := "()Ljava/lang/Class;" } : Jvm.MethodName) ({ cls := "java/lang/Object", name := "getClass", desc := "()Ljava/lang/Class;" } : Jvm.MethodName)) ∈ lw_all := lw_g (lw_at lw_m4 110 rfl) rfl
theorem q1156 : (Jvm.Cond.instanceMethod ({ cls := "CavePearls$Pool", name := "sizes", desc := "()I" } : Jvm.MethodName)) ∈ lw_all := lw_g (lw_at lw_m5 90 rfl) rfl
theorem q1157 : (Jvm.Cond.selects "CavePearls$Pool" ({ cls := "CavePearls$Pool", name := "sizes", desc := "()I" } : Jvm.MethodName) ({ cls := "CavePearls$Pool", name := "sizes", desc := "()I" } : Jvm.MethodName)) ∈ lw_all := lw_g (lw_at lw_m5 91 rfl) rfl
theorem q1158 : (Jvm.Cond.code ({ cls := "CavePearls$Pool", name := "sizes", desc := "()I" } : Jvm.MethodName) prog_22_method_8_code (4 : Nat) (Option.some Jvm.ClassFile.FieldType.int)) ∈ lw_all := lw_g (lw_at lw_m5 92 rfl) rfl
theorem q1159 : (Jvm.Cond.methodLink "CavePearls$Pool" (34 : Nat) ({ cls := "CavePearls$Pool", name := "iterator", desc := "()Ljava/util/Iterator;" } : Jvm.MethodName)) ∈ lw_all := lw_g (lw_at lw_m5 93 rfl) rfl
theorem q1160 : (Jvm.Cond.instanceMethod ({ cls := "CavePearls$Pool", name := "iterator", desc := "()Ljava/util/Iterator;" } : Jvm.MethodName)) ∈ lw_all := lw_g (lw_at lw_m5 94 rfl) rfl
theorem q1161 : (Jvm.Cond.selects "CavePearls$Pool" ({ cls := "CavePearls$Pool", name := "iterator", desc := "()Ljava/util/Iterator;" } : Jvm.MethodName) ({ cls := "CavePearls$Pool", name := "iterator", desc := "()Ljava/util/Iterator;" } : Jvm.MethodName)) ∈ lw_all := lw_g (lw_at lw_m5 95 rfl) rfl
theorem q1162 : (Jvm.Cond.code ({ cls := "CavePearls$Pool", name := "iterator", desc := "()Ljava/util/Iterator;" } : Jvm.MethodName) prog_22_method_4_code (1 : Nat) (Option.some (Jvm.ClassFile.FieldType.object "java/util/Iterator"))) ∈ lw_all := lw_g (lw_at lw_m5 96 rfl) rfl
theorem q1163 : (Jvm.Cond.classLink "CavePearls$Pool" (60 : Nat) "CavePearls$Pool$Walk") ∈ lw_all := lw_g (lw_at lw_m5 97 rfl) rfl
theorem q1165 : (Jvm.Cond.methodLinkNest "CavePearls$Pool" (62 : Nat) ({ cls := "CavePearls$Pool$Walk", name := "<init>", desc := "(LCavePearls$Pool;)V" } : Jvm.MethodName) "CavePearls") ∈ lw_tbl := lw_at lw_m5 99 rfl
theorem q1176 : (Jvm.Cond.interfaceEntry "CavePearls$Pool" (38 : Nat)) ∈ lw_tbl := lw_at lw_m5 110 rfl
theorem q1177 : (Jvm.Cond.methodLink "CavePearls$Pool" (38 : Nat) ({ cls := "java/util/Iterator", name := "hasNext", desc := "()Z" } : Jvm.MethodName)) ∈ lw_all := lw_g (lw_at lw_m5 111 rfl) rfl
theorem q1178 : (Jvm.Cond.interfaceEntry "CavePearls$Pool" (44 : Nat)) ∈ lw_tbl := lw_at lw_m5 112 rfl
theorem q1179 : (Jvm.Cond.methodLink "CavePearls$Pool" (44 : Nat) ({ cls := "java/util/Iterator", name := "next", desc := "()Ljava/lang/Object;" } : Jvm.MethodName)) ∈ lw_all := lw_g (lw_at lw_m5 113 rfl) rfl
theorem q1180 : (Jvm.Cond.classLink "CavePearls$Pool" (48 : Nat) "CavePearls$Pearl") ∈ lw_all := lw_g (lw_at lw_m5 114 rfl) rfl
theorem q1202 : (Jvm.Cond.instantiable "CavePearls$Pool" (5 : Nat)) ∈ lw_all := lw_g (lw_at lw_m5 136 rfl) rfl
theorem q1204 : (Jvm.Cond.instanceMethod ({ cls := "CavePearls$Pool", name := "<init>", desc := "(LCavePearls$Pool;)V" } : Jvm.MethodName)) ∈ lw_all := lw_g (lw_at lw_m5 138 rfl) rfl
theorem q1205 : (Jvm.Cond.code ({ cls := "CavePearls$Pool", name := "<init>", desc := "(LCavePearls$Pool;)V" } : Jvm.MethodName) prog_22_method_3_code (5 : Nat) (Option.none : Option Jvm.ClassFile.FieldType)) ∈ lw_all := lw_g (lw_at lw_m5 139 rfl) rfl
theorem q1206 : (Jvm.Cond.methodLink "CavePearls$Pool" (3 : Nat) ({ cls := "CavePearls$Pool", name := "<init>", desc := "(IIII)V" } : Jvm.MethodName)) ∈ lw_all := lw_g (lw_at lw_m5 140 rfl) rfl
theorem q1207 : (Jvm.Cond.instanceMethod ({ cls := "CavePearls$Pool", name := "<init>", desc := "(IIII)V" } : Jvm.MethodName)) ∈ lw_all := lw_g (lw_at lw_m5 141 rfl) rfl
theorem q1208 : (Jvm.Cond.code ({ cls := "CavePearls$Pool", name := "<init>", desc := "(IIII)V" } : Jvm.MethodName) prog_22_method_2_code (5 : Nat) (Option.none : Option Jvm.ClassFile.FieldType)) ∈ lw_all := lw_g (lw_at lw_m5 142 rfl) rfl
theorem q1209 : (Jvm.Cond.methodLink "CavePearls$Pool" (9 : Nat) ({ cls := "java/lang/Object", name := "<init>", desc := "()V" } : Jvm.MethodName)) ∈ lw_all := lw_g (lw_at lw_m5 143 rfl) rfl
theorem q1210 : (Jvm.Cond.classLink "CavePearls$Pool" (14 : Nat) "java/util/ArrayList") ∈ lw_all := lw_g (lw_at lw_m5 144 rfl) rfl
theorem q1211 : (Jvm.Cond.methodLink "CavePearls$Pool" (16 : Nat) ({ cls := "java/util/ArrayList", name := "<init>", desc := "()V" } : Jvm.MethodName)) ∈ lw_all := lw_g (lw_at lw_m5 145 rfl) rfl
theorem q1212 : (Jvm.Cond.fieldLink "CavePearls$Pool" (21 : Nat) "CavePearls$Pool" "capacity" "I") ∈ lw_all := lw_g (lw_at lw_m5 146 rfl) rfl
theorem q1215 : (Jvm.Cond.fieldLink "CavePearls$Pool" (17 : Nat) "CavePearls$Pool" "pearls" "Ljava/util/ArrayList;") ∈ lw_all := lw_g (lw_at lw_m5 149 rfl) rfl
theorem q1218 : (Jvm.Cond.fieldLink "CavePearls$Pool" (25 : Nat) "CavePearls$Pool" "water" "I") ∈ lw_all := lw_g (lw_at lw_m5 152 rfl) rfl
theorem q1221 : (Jvm.Cond.fieldLink "CavePearls$Pool" (28 : Nat) "CavePearls$Pool" "drips" "I") ∈ lw_all := lw_g (lw_at lw_m5 155 rfl) rfl
theorem q1223 : (Jvm.Cond.fieldLink "CavePearls$Pool" (31 : Nat) "CavePearls$Pool" "over" "I") ∈ lw_all := lw_g (lw_at lw_m5 157 rfl) rfl
theorem q1225 : (Jvm.Cond.laysFinal "CavePearls$Pool" "CavePearls$Pool" "capacity" "I") ∈ lw_all := lw_g (lw_at lw_m5 159 rfl) rfl
theorem q1226 : (Jvm.Cond.soleField "CavePearls$Pool" "capacity") ∈ lw_all := lw_g (lw_at lw_m5 160 rfl) rfl
theorem q1227 : (Jvm.Cond.laysFinal "CavePearls$Pool" "CavePearls$Pool" "pearls" "Ljava/util/ArrayList;") ∈ lw_all := lw_g (lw_at lw_m5 161 rfl) rfl
theorem q1228 : (Jvm.Cond.soleField "CavePearls$Pool" "pearls") ∈ lw_all := lw_g (lw_at lw_m5 162 rfl) rfl
theorem q1229 : (Jvm.Cond.lays "CavePearls$Pool" "CavePearls$Pool" "water" "I") ∈ lw_all := lw_g (lw_at lw_m5 163 rfl) rfl
theorem q1230 : (Jvm.Cond.soleField "CavePearls$Pool" "water") ∈ lw_all := lw_g (lw_at lw_m5 164 rfl) rfl
theorem q1231 : (Jvm.Cond.lays "CavePearls$Pool" "CavePearls$Pool" "drips" "I") ∈ lw_all := lw_g (lw_at lw_m5 165 rfl) rfl
theorem q1232 : (Jvm.Cond.soleField "CavePearls$Pool" "drips") ∈ lw_all := lw_g (lw_at lw_m5 166 rfl) rfl
theorem q1233 : (Jvm.Cond.lays "CavePearls$Pool" "CavePearls$Pool" "over" "I") ∈ lw_all := lw_g (lw_at lw_m5 167 rfl) rfl
theorem q1234 : (Jvm.Cond.soleField "CavePearls$Pool" "over") ∈ lw_all := lw_g (lw_at lw_m5 168 rfl) rfl
theorem q1235 : (Jvm.Cond.superclass "CavePearls$Pool" "java/lang/Object") ∈ lw_all := lw_g (lw_at lw_m5 169 rfl) rfl
theorem q1237 : (Jvm.Cond.methodLink "CavePearls$Pool" (53 : Nat) ({ cls := "CavePearls$Pearl", name := "<init>", desc := "(I)V" } : Jvm.MethodName)) ∈ lw_all := lw_g (lw_at lw_m5 171 rfl) rfl
theorem q1242 : (Jvm.Cond.fieldLinkNest "CavePearls$Pool" (50 : Nat) "CavePearls$Pearl" "size" "I" "CavePearls") ∈ lw_tbl := lw_at lw_m5 176 rfl
theorem q1248 : (Jvm.Cond.methodLink "CavePearls$Pool" (56 : Nat) ({ cls := "java/util/ArrayList", name := "add", desc := "(Ljava/lang/Object;)Z" } : Jvm.MethodName)) ∈ lw_all := lw_g (lw_at lw_m5 182 rfl) rfl
theorem q1547 : (Jvm.Cond.instanceMethod ({ cls := "CavePearls$Pool", name := "<init>", desc := "(I)V" } : Jvm.MethodName)) ∈ lw_all := lw_g (lw_at lw_m7 1 rfl) rfl
theorem q1548 : (Jvm.Cond.code ({ cls := "CavePearls$Pool", name := "<init>", desc := "(I)V" } : Jvm.MethodName) prog_22_method_1_code (2 : Nat) (Option.none : Option Jvm.ClassFile.FieldType)) ∈ lw_all := lw_g (lw_at lw_m7 2 rfl) rfl
theorem q1586 : (Jvm.Cond.instanceMethod ({ cls := "CavePearls$Pool", name := "pearl", desc := "(I)LCavePearls$Pearl;" } : Jvm.MethodName)) ∈ lw_all := lw_g (lw_at lw_m7 40 rfl) rfl
theorem q1587 : (Jvm.Cond.selects "CavePearls$Pool" ({ cls := "CavePearls$Pool", name := "pearl", desc := "(I)LCavePearls$Pearl;" } : Jvm.MethodName) ({ cls := "CavePearls$Pool", name := "pearl", desc := "(I)LCavePearls$Pearl;" } : Jvm.MethodName)) ∈ lw_all := lw_g (lw_at lw_m7 41 rfl) rfl
theorem q1588 : (Jvm.Cond.code ({ cls := "CavePearls$Pool", name := "pearl", desc := "(I)LCavePearls$Pearl;" } : Jvm.MethodName) prog_22_method_5_code (2 : Nat) (Option.some (Jvm.ClassFile.FieldType.object "CavePearls$Pearl"))) ∈ lw_all := lw_g (lw_at lw_m7 42 rfl) rfl
theorem q1589 : (Jvm.Cond.methodLink "CavePearls$Pool" (65 : Nat) ({ cls := "java/util/ArrayList", name := "size", desc := "()I" } : Jvm.MethodName)) ∈ lw_all := lw_g (lw_at lw_m7 43 rfl) rfl
theorem q1590 : (Jvm.Cond.methodLinkNest "CavePearls$Pool" (68 : Nat) ({ cls := "CavePearls", name := "inRange", desc := "(III)Z" } : Jvm.MethodName) "CavePearls") ∈ lw_tbl := lw_at lw_m7 44 rfl
theorem q1591 : (Jvm.Cond.methodLinkNest "CavePearls$Pool" (72 : Nat) ({ cls := "CavePearls", name := "checkFound", desc := "(Z)V" } : Jvm.MethodName) "CavePearls") ∈ lw_tbl := lw_at lw_m7 45 rfl
theorem q1596 : (Jvm.Cond.methodLink "CavePearls$Pool" (76 : Nat) ({ cls := "java/util/ArrayList", name := "get", desc := "(I)Ljava/lang/Object;" } : Jvm.MethodName)) ∈ lw_all := lw_g (lw_at lw_m7 50 rfl) rfl
theorem q2224 : (Jvm.Cond.instanceMethod ({ cls := "CavePearls$Pool", name := "isFull", desc := "()Z" } : Jvm.MethodName)) ∈ lw_all := lw_g (lw_at lw_m9 198 rfl) rfl
theorem q2225 : (Jvm.Cond.selects "CavePearls$Pool" ({ cls := "CavePearls$Pool", name := "isFull", desc := "()Z" } : Jvm.MethodName) ({ cls := "CavePearls$Pool", name := "isFull", desc := "()Z" } : Jvm.MethodName)) ∈ lw_all := lw_g (lw_at lw_m9 199 rfl) rfl
theorem q2226 : (Jvm.Cond.code ({ cls := "CavePearls$Pool", name := "isFull", desc := "()Z" } : Jvm.MethodName) prog_22_method_7_code (1 : Nat) (Option.some Jvm.ClassFile.FieldType.boolean)) ∈ lw_all := lw_g (lw_at lw_m9 200 rfl) rfl
theorem q2228 : (Jvm.Cond.instanceMethod ({ cls := "CavePearls$Pool", name := "drip", desc := "(Z)I" } : Jvm.MethodName)) ∈ lw_all := lw_g (lw_at lw_m9 202 rfl) rfl
theorem q2229 : (Jvm.Cond.selects "CavePearls$Pool" ({ cls := "CavePearls$Pool", name := "drip", desc := "(Z)I" } : Jvm.MethodName) ({ cls := "CavePearls$Pool", name := "drip", desc := "(Z)I" } : Jvm.MethodName)) ∈ lw_all := lw_g (lw_at lw_m9 203 rfl) rfl
theorem q2230 : (Jvm.Cond.code ({ cls := "CavePearls$Pool", name := "drip", desc := "(Z)I" } : Jvm.MethodName) prog_22_method_9_code (4 : Nat) (Option.some Jvm.ClassFile.FieldType.int)) ∈ lw_all := lw_g (lw_at lw_m9 204 rfl) rfl
theorem q2231 : (Jvm.Cond.methodLink "CavePearls$Pool" (80 : Nat) ({ cls := "CavePearls$Pool", name := "isFull", desc := "()Z" } : Jvm.MethodName)) ∈ lw_all := lw_g (lw_at lw_m9 205 rfl) rfl
theorem q2232 : (Jvm.Cond.methodLink "CavePearls$Pool" (83 : Nat) ({ cls := "CavePearls$Pool", name := "smallest", desc := "()I" } : Jvm.MethodName)) ∈ lw_all := lw_g (lw_at lw_m9 206 rfl) rfl
theorem q2233 : (Jvm.Cond.instanceMethod ({ cls := "CavePearls$Pool", name := "smallest", desc := "()I" } : Jvm.MethodName)) ∈ lw_all := lw_g (lw_at lw_m9 207 rfl) rfl
theorem q2234 : (Jvm.Cond.selects "CavePearls$Pool" ({ cls := "CavePearls$Pool", name := "smallest", desc := "()I" } : Jvm.MethodName) ({ cls := "CavePearls$Pool", name := "smallest", desc := "()I" } : Jvm.MethodName)) ∈ lw_all := lw_g (lw_at lw_m9 208 rfl) rfl
theorem q2235 : (Jvm.Cond.code ({ cls := "CavePearls$Pool", name := "smallest", desc := "()I" } : Jvm.MethodName) prog_22_method_6_code (3 : Nat) (Option.some Jvm.ClassFile.FieldType.int)) ∈ lw_all := lw_g (lw_at lw_m9 209 rfl) rfl
theorem q2236 : (Jvm.Cond.methodLink "CavePearls$Pool" (86 : Nat) ({ cls := "CavePearls$Pearl", name := "change", desc := "(Z)I" } : Jvm.MethodName)) ∈ lw_all := lw_g (lw_at lw_m9 210 rfl) rfl
theorem q3986 : (Jvm.Cond.castable "CavePearls$Pool" "java/lang/Object") ∈ lw_tbl := lw_at lw_m17 40 rfl
theorem in_X5 : ∀ w ∈ wsX50, w ∈ lw_all := lw_in wsX50 [1225, 1227, 1229, 1231, 1233] (by decide +kernel) (by decide +kernel)

/-! CavePearls$Pool$Walk -/
set_option maxRecDepth 100000
def RX6 : String := "CavePearls$Pool$Walk"
def TX6 : u_T := fun k => match k with
  | 0 => ("CavePearls$Pool$Walk", "place", "I", false)
  | _ => ("CavePearls$Pool$Walk", "this$0", "LCavePearls$Pool;", true)
def tyX6 : Nat → FieldType := fun k => match k with
  | 0 => .int
  | _ => .object "CavePearls$Pool"
abbrev wsX60 : List Cond := u_ws RX6 TX6 2
theorem nmX6 : ∀ a, a < 2 → ∀ b, b < 2 → a ≠ b → (TX6 a).2.1 ≠ (TX6 b).2.1 := by decide +kernel
theorem tyX6_ok : ∀ k, k < 2 → parseFieldDescriptor (TX6 k).2.2.1 = some (tyX6 k) := by decide +kernel
abbrev cX6_hasNext : ByteArray := prog_23_method_2_code
def yX6_hasNext : MethodName := ⟨RX6, "hasNext", "()Z"⟩
def dkwX6_hasNext_0 : List UInt8 := [42, 180, 0, 13, 42, 180, 0, 1, 180, 0, 17, 182, 0, 23, 162, 0, 7, 4, 167, 0, 4, 3, 172]
abbrev dktX6_hasNext_0 : List UInt8 := dkwX6_hasNext_0 ++ []
theorem dksX6_hasNext_0 : cX6_hasNext.data.toList.drop 0 = dktX6_hasNext_0 := by decide +kernel
theorem dX6_hasNext_0 : decode cX6_hasNext 0 = .ok (.aload_n 0, 1) := dk_42 (dk_at dksX6_hasNext_0 0 rfl rfl)
theorem dX6_hasNext_1 : decode cX6_hasNext 1 = .ok (.getfield 13, 3) := dk_180 0 13 (dk_at dksX6_hasNext_0 1 rfl rfl)
theorem dX6_hasNext_4 : decode cX6_hasNext 4 = .ok (.aload_n 0, 1) := dk_42 (dk_at dksX6_hasNext_0 4 rfl rfl)
theorem dX6_hasNext_5 : decode cX6_hasNext 5 = .ok (.getfield 1, 3) := dk_180 0 1 (dk_at dksX6_hasNext_0 5 rfl rfl)
theorem dX6_hasNext_8 : decode cX6_hasNext 8 = .ok (.getfield 17, 3) := dk_180 0 17 (dk_at dksX6_hasNext_0 8 rfl rfl)
theorem dX6_hasNext_11 : decode cX6_hasNext 11 = .ok (.invokevirtual 23, 3) := dk_182 0 23 (dk_at dksX6_hasNext_0 11 rfl rfl)
theorem dX6_hasNext_14 : decode cX6_hasNext 14 = .ok (.if_icmp .ge 7, 3) := dk_162 0 7 (dk_at dksX6_hasNext_0 14 rfl rfl)
theorem dX6_hasNext_17 : decode cX6_hasNext 17 = .ok (.iconst 1, 1) := dk_4 (dk_at dksX6_hasNext_0 17 rfl rfl)
theorem dX6_hasNext_18 : decode cX6_hasNext 18 = .ok (.goto 4, 3) := dk_167 0 4 (dk_at dksX6_hasNext_0 18 rfl rfl)
theorem dX6_hasNext_21 : decode cX6_hasNext 21 = .ok (.iconst 0, 1) := dk_3 (dk_at dksX6_hasNext_0 21 rfl rfl)
theorem dX6_hasNext_22 : decode cX6_hasNext 22 = .ok (.ireturn, 1) := dk_172 (dk_at dksX6_hasNext_0 22 rfl rfl)
abbrev cX6_next : ByteArray := prog_23_method_4_code
def yX6_next : MethodName := ⟨RX6, "next", "()Ljava/lang/Object;"⟩
theorem dX6_next_0 : decode cX6_next 0 = .ok (.aload_n 0, 1) := by decide +kernel
theorem dX6_next_1 : decode cX6_next 1 = .ok (.invokevirtual 35, 3) := by decide +kernel
theorem dX6_next_4 : decode cX6_next 4 = .ok (.areturn, 1) := by decide +kernel
abbrev cX6_next_2 : ByteArray := prog_23_method_3_code
def yX6_next_2 : MethodName := ⟨RX6, "next", "()LCavePearls$Pearl;"⟩
def dkwX6_next_2_1 : List UInt8 := [182, 0, 29, 192, 0, 33, 176]
abbrev dktX6_next_2_1 : List UInt8 := dkwX6_next_2_1 ++ []
def dkwX6_next_2_0 : List UInt8 := [42, 89, 180, 0, 13, 4, 96, 181, 0, 13, 42, 180, 0, 1, 180, 0, 17, 42, 180, 0, 13, 4, 100]
abbrev dktX6_next_2_0 : List UInt8 := dkwX6_next_2_0 ++ dktX6_next_2_1
theorem dksX6_next_2_0 : cX6_next_2.data.toList.drop 0 = dktX6_next_2_0 := by decide +kernel
theorem dksX6_next_2_1 : cX6_next_2.data.toList.drop 23 = dktX6_next_2_1 := dk_seg dksX6_next_2_0 23 rfl rfl
theorem dX6_next_2_0 : decode cX6_next_2 0 = .ok (.aload_n 0, 1) := dk_42 (dk_at dksX6_next_2_0 0 rfl rfl)
theorem dX6_next_2_1 : decode cX6_next_2 1 = .ok (.dup, 1) := dk_89 (dk_at dksX6_next_2_0 1 rfl rfl)
theorem dX6_next_2_2 : decode cX6_next_2 2 = .ok (.getfield 13, 3) := dk_180 0 13 (dk_at dksX6_next_2_0 2 rfl rfl)
theorem dX6_next_2_5 : decode cX6_next_2 5 = .ok (.iconst 1, 1) := dk_4 (dk_at dksX6_next_2_0 5 rfl rfl)
theorem dX6_next_2_6 : decode cX6_next_2 6 = .ok (.iadd, 1) := dk_96 (dk_at dksX6_next_2_0 6 rfl rfl)
theorem dX6_next_2_7 : decode cX6_next_2 7 = .ok (.putfield 13, 3) := dk_181 0 13 (dk_at dksX6_next_2_0 7 rfl rfl)
theorem dX6_next_2_10 : decode cX6_next_2 10 = .ok (.aload_n 0, 1) := dk_42 (dk_at dksX6_next_2_0 10 rfl rfl)
theorem dX6_next_2_11 : decode cX6_next_2 11 = .ok (.getfield 1, 3) := dk_180 0 1 (dk_at dksX6_next_2_0 11 rfl rfl)
theorem dX6_next_2_14 : decode cX6_next_2 14 = .ok (.getfield 17, 3) := dk_180 0 17 (dk_at dksX6_next_2_0 14 rfl rfl)
theorem dX6_next_2_17 : decode cX6_next_2 17 = .ok (.aload_n 0, 1) := dk_42 (dk_at dksX6_next_2_0 17 rfl rfl)
theorem dX6_next_2_18 : decode cX6_next_2 18 = .ok (.getfield 13, 3) := dk_180 0 13 (dk_at dksX6_next_2_0 18 rfl rfl)
theorem dX6_next_2_21 : decode cX6_next_2 21 = .ok (.iconst 1, 1) := dk_4 (dk_at dksX6_next_2_0 21 rfl rfl)
theorem dX6_next_2_22 : decode cX6_next_2 22 = .ok (.isub, 1) := dk_100 (dk_at dksX6_next_2_0 22 rfl rfl)
theorem dX6_next_2_23 : decode cX6_next_2 23 = .ok (.invokevirtual 29, 3) := dk_182 0 29 (dk_at dksX6_next_2_1 0 rfl rfl)
theorem dX6_next_2_26 : decode cX6_next_2 26 = .ok (.checkcast 33, 3) := dk_192 0 33 (dk_at dksX6_next_2_1 3 rfl rfl)
theorem dX6_next_2_29 : decode cX6_next_2 29 = .ok (.areturn, 1) := dk_176 (dk_at dksX6_next_2_1 6 rfl rfl)
abbrev cX6_init : ByteArray := prog_23_method_1_code
def yX6_init : MethodName := ⟨RX6, "<init>", "(LCavePearls$Pool;)V"⟩
def dkwX6_init_0 : List UInt8 := [42, 43, 181, 0, 1, 42, 183, 0, 7, 177]
abbrev dktX6_init_0 : List UInt8 := dkwX6_init_0 ++ []
theorem dksX6_init_0 : cX6_init.data.toList.drop 0 = dktX6_init_0 := by decide +kernel
theorem dX6_init_0 : decode cX6_init 0 = .ok (.aload_n 0, 1) := dk_42 (dk_at dksX6_init_0 0 rfl rfl)
theorem dX6_init_1 : decode cX6_init 1 = .ok (.aload_n 1, 1) := dk_43 (dk_at dksX6_init_0 1 rfl rfl)
theorem dX6_init_2 : decode cX6_init 2 = .ok (.putfield 1, 3) := dk_181 0 1 (dk_at dksX6_init_0 2 rfl rfl)
theorem dX6_init_5 : decode cX6_init 5 = .ok (.aload_n 0, 1) := dk_42 (dk_at dksX6_init_0 5 rfl rfl)
theorem dX6_init_6 : decode cX6_init 6 = .ok (.invokespecial 7, 3) := dk_183 0 7 (dk_at dksX6_init_0 6 rfl rfl)
theorem dX6_init_9 : decode cX6_init 9 = .ok (.return_, 1) := dk_177 (dk_at dksX6_init_0 9 rfl rfl)
theorem q141 : (Jvm.Cond.initialized "CavePearls$Pool$Walk") ∈ lw_all := lw_g (lw_at lw_m1 35 rfl) rfl
theorem q444 : (Jvm.Cond.castable "CavePearls$Pool$Walk" "java/util/Iterator") ∈ lw_tbl := lw_at lw_m2 98 rfl
theorem q445 : (Jvm.Cond.selects "CavePearls$Pool$Walk" ({ cls := "java/util/Iterator", name := "hasNext", desc := "()Z" } : Jvm.MethodName) ({ cls := "CavePearls$Pool$Walk", name := "hasNext", desc := "()Z" } : Jvm.MethodName)) ∈ lw_all := lw_g (lw_at lw_m2 99 rfl) rfl
theorem q446 : (Jvm.Cond.unhidden "CavePearls$Pool$Walk" "hasNext" "()Z") ∈ lw_tbl := lw_at lw_m2 100 rfl
theorem q447 : (Jvm.Cond.instanceMethod ({ cls := "CavePearls$Pool$Walk", name := "hasNext", desc := "()Z" } : Jvm.MethodName)) ∈ lw_all := lw_g (lw_at lw_m2 101 rfl) rfl
theorem q448 : (Jvm.Cond.publicMethod ({ cls := "CavePearls$Pool$Walk", name := "hasNext", desc := "()Z" } : Jvm.MethodName)) ∈ lw_tbl := lw_at lw_m2 102 rfl
theorem q449 : (Jvm.Cond.code ({ cls := "CavePearls$Pool$Walk", name := "hasNext", desc := "()Z" } : Jvm.MethodName) prog_23_method_2_code (1 : Nat) (Option.some Jvm.ClassFile.FieldType.boolean)) ∈ lw_all := lw_g (lw_at lw_m2 103 rfl) rfl
theorem q450 : (Jvm.Cond.methodLink "CavePearls$Pool$Walk" (23 : Nat) ({ cls := "java/util/ArrayList", name := "size", desc := "()I" } : Jvm.MethodName)) ∈ lw_all := lw_g (lw_at lw_m2 104 rfl) rfl
theorem q514 : (Jvm.Cond.selects "CavePearls$Pool$Walk" ({ cls := "java/util/Iterator", name := "next", desc := "()Ljava/lang/Object;" } : Jvm.MethodName) ({ cls := "CavePearls$Pool$Walk", name := "next", desc := "()Ljava/lang/Object;" } : Jvm.MethodName)) ∈ lw_all := lw_g (lw_at lw_m2 168 rfl) rfl
theorem q515 : (Jvm.Cond.unhidden "CavePearls$Pool$Walk" "next" "()Ljava/lang/Object;") ∈ lw_tbl := lw_at lw_m2 169 rfl
theorem q516 : (Jvm.Cond.instanceMethod ({ cls := "CavePearls$Pool$Walk", name := "next", desc := "()Ljava/lang/Object;" } : Jvm.MethodName)) ∈ lw_all := lw_g (lw_at lw_m2 170 rfl) rfl
theorem q517 : (Jvm.Cond.publicMethod ({ cls := "CavePearls$Pool$Walk", name := "next", desc := "()Ljava/lang/Object;" } : Jvm.MethodName)) ∈ lw_tbl := lw_at lw_m2 171 rfl
theorem q518 : (Jvm.Cond.code ({ cls := "CavePearls$Pool$Walk", name := "next", desc := "()Ljava/lang/Object;" } : Jvm.MethodName) prog_23_method_4_code (1 : Nat) (Option.some (Jvm.ClassFile.FieldType.object "java/lang/Object"))) ∈ lw_all := lw_g (lw_at lw_m2 172 rfl) rfl
theorem q519 : (Jvm.Cond.methodLink "CavePearls$Pool$Walk" (35 : Nat) ({ cls := "CavePearls$Pool$Walk", name := "next", desc := "()LCavePearls$Pearl;" } : Jvm.MethodName)) ∈ lw_all := lw_g (lw_at lw_m2 173 rfl) rfl
theorem q520 : (Jvm.Cond.instanceMethod ({ cls := "CavePearls$Pool$Walk", name := "next", desc := "()LCavePearls$Pearl;" } : Jvm.MethodName)) ∈ lw_all := lw_g (lw_at lw_m2 174 rfl) rfl
theorem q521 : (Jvm.Cond.selects "CavePearls$Pool$Walk" ({ cls := "CavePearls$Pool$Walk", name := "next", desc := "()LCavePearls$Pearl;" } : Jvm.MethodName) ({ cls := "CavePearls$Pool$Walk", name := "next", desc := "()LCavePearls$Pearl;" } : Jvm.MethodName)) ∈ lw_all := lw_g (lw_at lw_m2 175 rfl) rfl
theorem q522 : (Jvm.Cond.code ({ cls := "CavePearls$Pool$Walk", name := "next", desc := "()LCavePearls$Pearl;" } : Jvm.MethodName) prog_23_method_3_code (1 : Nat) (Option.some (Jvm.ClassFile.FieldType.object "CavePearls$Pearl"))) ∈ lw_all := lw_g (lw_at lw_m2 176 rfl) rfl
theorem q523 : (Jvm.Cond.methodLink "CavePearls$Pool$Walk" (29 : Nat) ({ cls := "java/util/ArrayList", name := "get", desc := "(I)Ljava/lang/Object;" } : Jvm.MethodName)) ∈ lw_all := lw_g (lw_at lw_m2 177 rfl) rfl
theorem q537 : (Jvm.Cond.classLink "CavePearls$Pool$Walk" (33 : Nat) "CavePearls$Pearl") ∈ lw_all := lw_g (lw_at lw_m2 191 rfl) rfl
theorem q937 : (Jvm.Cond.selects "CavePearls$Pool$Walk" ({ cls := "java/lang/Object", name := "getClass", desc := "()Ljava/lang/Class;" } : Jvm.MethodName) ({ cls := "java/lang/Object", name := "getClass", desc := "()Ljava/lang/Class;" } : Jvm.MethodName)) ∈ lw_all := lw_g (lw_at lw_m4 111 rfl) rfl
theorem q1164 : (Jvm.Cond.instantiable "CavePearls$Pool$Walk" (2 : Nat)) ∈ lw_all := lw_g (lw_at lw_m5 98 rfl) rfl
theorem q1166 : (Jvm.Cond.instanceMethod ({ cls := "CavePearls$Pool$Walk", name := "<init>", desc := "(LCavePearls$Pool;)V" } : Jvm.MethodName)) ∈ lw_all := lw_g (lw_at lw_m5 100 rfl) rfl
theorem q1167 : (Jvm.Cond.code ({ cls := "CavePearls$Pool$Walk", name := "<init>", desc := "(LCavePearls$Pool;)V" } : Jvm.MethodName) prog_23_method_1_code (2 : Nat) (Option.none : Option Jvm.ClassFile.FieldType)) ∈ lw_all := lw_g (lw_at lw_m5 101 rfl) rfl
theorem q1168 : (Jvm.Cond.methodLink "CavePearls$Pool$Walk" (7 : Nat) ({ cls := "java/lang/Object", name := "<init>", desc := "()V" } : Jvm.MethodName)) ∈ lw_all := lw_g (lw_at lw_m5 102 rfl) rfl
theorem q1169 : (Jvm.Cond.fieldLink "CavePearls$Pool$Walk" (13 : Nat) "CavePearls$Pool$Walk" "place" "I") ∈ lw_all := lw_g (lw_at lw_m5 103 rfl) rfl
theorem q1170 : (Jvm.Cond.fieldLink "CavePearls$Pool$Walk" (1 : Nat) "CavePearls$Pool$Walk" "this$0" "LCavePearls$Pool;") ∈ lw_all := lw_g (lw_at lw_m5 104 rfl) rfl
theorem q1171 : (Jvm.Cond.lays "CavePearls$Pool$Walk" "CavePearls$Pool$Walk" "place" "I") ∈ lw_all := lw_g (lw_at lw_m5 105 rfl) rfl
theorem q1172 : (Jvm.Cond.soleField "CavePearls$Pool$Walk" "place") ∈ lw_all := lw_g (lw_at lw_m5 106 rfl) rfl
theorem q1173 : (Jvm.Cond.laysFinal "CavePearls$Pool$Walk" "CavePearls$Pool$Walk" "this$0" "LCavePearls$Pool;") ∈ lw_all := lw_g (lw_at lw_m5 107 rfl) rfl
theorem q1174 : (Jvm.Cond.soleField "CavePearls$Pool$Walk" "this$0") ∈ lw_all := lw_g (lw_at lw_m5 108 rfl) rfl
theorem q1175 : (Jvm.Cond.superclass "CavePearls$Pool$Walk" "java/lang/Object") ∈ lw_all := lw_g (lw_at lw_m5 109 rfl) rfl
theorem q1214 : (Jvm.Cond.fieldLinkNest "CavePearls$Pool$Walk" (17 : Nat) "CavePearls$Pool" "pearls" "Ljava/util/ArrayList;" "CavePearls") ∈ lw_tbl := lw_at lw_m5 148 rfl
theorem q1779 : (Jvm.Cond.unhidden "CavePearls$Pool$Walk" "remove" "()V") ∈ lw_tbl := lw_at lw_m7 233 rfl
theorem q3987 : (Jvm.Cond.castable "CavePearls$Pool$Walk" "java/lang/Object") ∈ lw_tbl := lw_at lw_m17 41 rfl
theorem in_X6 : ∀ w ∈ wsX60, w ∈ lw_all := lw_in wsX60 [1171, 1173] (by decide +kernel) (by decide +kernel)

/-! CavePearls$Pearl -/
set_option maxRecDepth 100000
def RX7 : String := "CavePearls$Pearl"
def TX7 : u_T := fun k => match k with
  | _ => ("CavePearls$Pearl", "size", "I", false)
def tyX7 : Nat → FieldType := fun k => match k with
  | _ => .int
abbrev wsX70 : List Cond := u_ws RX7 TX7 1
theorem nmX7 : ∀ a, a < 1 → ∀ b, b < 1 → a ≠ b → (TX7 a).2.1 ≠ (TX7 b).2.1 := by decide +kernel
theorem tyX7_ok : ∀ k, k < 1 → parseFieldDescriptor (TX7 k).2.2.1 = some (tyX7 k) := by decide +kernel
abbrev cX7_init : ByteArray := prog_21_method_1_code
def yX7_init : MethodName := ⟨RX7, "<init>", "(I)V"⟩
def dkwX7_init_0 : List UInt8 := [42, 183, 0, 3, 42, 27, 181, 0, 9, 177]
abbrev dktX7_init_0 : List UInt8 := dkwX7_init_0 ++ []
theorem dksX7_init_0 : cX7_init.data.toList.drop 0 = dktX7_init_0 := by decide +kernel
theorem dX7_init_0 : decode cX7_init 0 = .ok (.aload_n 0, 1) := dk_42 (dk_at dksX7_init_0 0 rfl rfl)
theorem dX7_init_1 : decode cX7_init 1 = .ok (.invokespecial 3, 3) := dk_183 0 3 (dk_at dksX7_init_0 1 rfl rfl)
theorem dX7_init_4 : decode cX7_init 4 = .ok (.aload_n 0, 1) := dk_42 (dk_at dksX7_init_0 4 rfl rfl)
theorem dX7_init_5 : decode cX7_init 5 = .ok (.iload_n 1, 1) := dk_27 (dk_at dksX7_init_0 5 rfl rfl)
theorem dX7_init_6 : decode cX7_init 6 = .ok (.putfield 9, 3) := dk_181 0 9 (dk_at dksX7_init_0 6 rfl rfl)
theorem dX7_init_9 : decode cX7_init 9 = .ok (.return_, 1) := dk_177 (dk_at dksX7_init_0 9 rfl rfl)
abbrev cX7_change : ByteArray := prog_21_method_2_code
def yX7_change : MethodName := ⟨RX7, "change", "(Z)I"⟩
def dkwX7_change_1 : List UInt8 := [180, 0, 9, 4, 164, 0, 7, 2, 167, 0, 4, 3, 172]
abbrev dktX7_change_1 : List UInt8 := dkwX7_change_1 ++ []
def dkwX7_change_0 : List UInt8 := [27, 153, 0, 20, 42, 180, 0, 9, 16, 99, 162, 0, 7, 4, 167, 0, 20, 3, 167, 0, 16, 42]
abbrev dktX7_change_0 : List UInt8 := dkwX7_change_0 ++ dktX7_change_1
theorem dksX7_change_0 : cX7_change.data.toList.drop 0 = dktX7_change_0 := by decide +kernel
theorem dksX7_change_1 : cX7_change.data.toList.drop 22 = dktX7_change_1 := dk_seg dksX7_change_0 22 rfl rfl
theorem dX7_change_0 : decode cX7_change 0 = .ok (.iload_n 1, 1) := dk_27 (dk_at dksX7_change_0 0 rfl rfl)
theorem dX7_change_1 : decode cX7_change 1 = .ok (.ifCond .eq 20, 3) := dk_153 0 20 (dk_at dksX7_change_0 1 rfl rfl)
theorem dX7_change_4 : decode cX7_change 4 = .ok (.aload_n 0, 1) := dk_42 (dk_at dksX7_change_0 4 rfl rfl)
theorem dX7_change_5 : decode cX7_change 5 = .ok (.getfield 9, 3) := dk_180 0 9 (dk_at dksX7_change_0 5 rfl rfl)
theorem dX7_change_8 : decode cX7_change 8 = .ok (.bipush 99, 2) := dk_16 99 (dk_at dksX7_change_0 8 rfl rfl)
theorem dX7_change_10 : decode cX7_change 10 = .ok (.if_icmp .ge 7, 3) := dk_162 0 7 (dk_at dksX7_change_0 10 rfl rfl)
theorem dX7_change_13 : decode cX7_change 13 = .ok (.iconst 1, 1) := dk_4 (dk_at dksX7_change_0 13 rfl rfl)
theorem dX7_change_14 : decode cX7_change 14 = .ok (.goto 20, 3) := dk_167 0 20 (dk_at dksX7_change_0 14 rfl rfl)
theorem dX7_change_17 : decode cX7_change 17 = .ok (.iconst 0, 1) := dk_3 (dk_at dksX7_change_0 17 rfl rfl)
theorem dX7_change_18 : decode cX7_change 18 = .ok (.goto 16, 3) := dk_167 0 16 (dk_at dksX7_change_0 18 rfl rfl)
theorem dX7_change_21 : decode cX7_change 21 = .ok (.aload_n 0, 1) := dk_42 (dk_at dksX7_change_0 21 rfl rfl)
theorem dX7_change_22 : decode cX7_change 22 = .ok (.getfield 9, 3) := dk_180 0 9 (dk_at dksX7_change_1 0 rfl rfl)
theorem dX7_change_25 : decode cX7_change 25 = .ok (.iconst 1, 1) := dk_4 (dk_at dksX7_change_1 3 rfl rfl)
theorem dX7_change_26 : decode cX7_change 26 = .ok (.if_icmp .le 7, 3) := dk_164 0 7 (dk_at dksX7_change_1 4 rfl rfl)
theorem dX7_change_29 : decode cX7_change 29 = .ok (.iconst (-1), 1) := dk_2 (dk_at dksX7_change_1 7 rfl rfl)
theorem dX7_change_30 : decode cX7_change 30 = .ok (.goto 4, 3) := dk_167 0 4 (dk_at dksX7_change_1 8 rfl rfl)
theorem dX7_change_33 : decode cX7_change 33 = .ok (.iconst 0, 1) := dk_3 (dk_at dksX7_change_1 11 rfl rfl)
theorem dX7_change_34 : decode cX7_change 34 = .ok (.ireturn, 1) := dk_172 (dk_at dksX7_change_1 12 rfl rfl)
theorem q142 : (Jvm.Cond.initialized "CavePearls$Pearl") ∈ lw_all := lw_g (lw_at lw_m1 36 rfl) rfl
theorem q935 : (Jvm.Cond.selects "CavePearls$Pearl" ({ cls := "java/lang/Object", name := "getClass", desc := "()Ljava/lang/Class;" } : Jvm.MethodName) ({ cls := "java/lang/Object", name := "getClass", desc := "()Ljava/lang/Class;" } : Jvm.MethodName)) ∈ lw_all := lw_g (lw_at lw_m4 109 rfl) rfl
theorem q1236 : (Jvm.Cond.instantiable "CavePearls$Pearl" (1 : Nat)) ∈ lw_all := lw_g (lw_at lw_m5 170 rfl) rfl
theorem q1238 : (Jvm.Cond.instanceMethod ({ cls := "CavePearls$Pearl", name := "<init>", desc := "(I)V" } : Jvm.MethodName)) ∈ lw_all := lw_g (lw_at lw_m5 172 rfl) rfl
theorem q1239 : (Jvm.Cond.code ({ cls := "CavePearls$Pearl", name := "<init>", desc := "(I)V" } : Jvm.MethodName) prog_21_method_1_code (2 : Nat) (Option.none : Option Jvm.ClassFile.FieldType)) ∈ lw_all := lw_g (lw_at lw_m5 173 rfl) rfl
theorem q1240 : (Jvm.Cond.methodLink "CavePearls$Pearl" (3 : Nat) ({ cls := "java/lang/Object", name := "<init>", desc := "()V" } : Jvm.MethodName)) ∈ lw_all := lw_g (lw_at lw_m5 174 rfl) rfl
theorem q1241 : (Jvm.Cond.fieldLink "CavePearls$Pearl" (9 : Nat) "CavePearls$Pearl" "size" "I") ∈ lw_all := lw_g (lw_at lw_m5 175 rfl) rfl
theorem q1245 : (Jvm.Cond.lays "CavePearls$Pearl" "CavePearls$Pearl" "size" "I") ∈ lw_all := lw_g (lw_at lw_m5 179 rfl) rfl
theorem q1246 : (Jvm.Cond.soleField "CavePearls$Pearl" "size") ∈ lw_all := lw_g (lw_at lw_m5 180 rfl) rfl
theorem q1247 : (Jvm.Cond.superclass "CavePearls$Pearl" "java/lang/Object") ∈ lw_all := lw_g (lw_at lw_m5 181 rfl) rfl
theorem q2237 : (Jvm.Cond.instanceMethod ({ cls := "CavePearls$Pearl", name := "change", desc := "(Z)I" } : Jvm.MethodName)) ∈ lw_all := lw_g (lw_at lw_m9 211 rfl) rfl
theorem q2238 : (Jvm.Cond.selects "CavePearls$Pearl" ({ cls := "CavePearls$Pearl", name := "change", desc := "(Z)I" } : Jvm.MethodName) ({ cls := "CavePearls$Pearl", name := "change", desc := "(Z)I" } : Jvm.MethodName)) ∈ lw_all := lw_g (lw_at lw_m9 212 rfl) rfl
theorem q2239 : (Jvm.Cond.code ({ cls := "CavePearls$Pearl", name := "change", desc := "(Z)I" } : Jvm.MethodName) prog_21_method_2_code (2 : Nat) (Option.some Jvm.ClassFile.FieldType.int)) ∈ lw_all := lw_g (lw_at lw_m9 213 rfl) rfl
theorem q3988 : (Jvm.Cond.castable "CavePearls$Pearl" "java/lang/Object") ∈ lw_tbl := lw_at lw_m17 42 rfl
theorem in_X7 : ∀ w ∈ wsX70, w ∈ lw_all := lw_in wsX70 [1245] (by decide +kernel) (by decide +kernel)

/-! CavePearls$Stone -/
set_option maxRecDepth 100000
def RX8 : String := "CavePearls$Stone"
def TX8 : u_T := fun k => match k with
  | 0 => ("CavePearls$Stone", "number", "I", true)
  | 1 => ("CavePearls$Stone", "pool", "I", true)
  | 2 => ("CavePearls$Stone", "period", "I", true)
  | 3 => ("CavePearls$Stone", "cracks", "I", false)
  | 4 => ("CavePearls$Stone", "drips", "I", false)
  | _ => ("CavePearls$Stone", "next", "I", false)
def tyX8 : Nat → FieldType := fun k => match k with
  | 0 => .int
  | 1 => .int
  | 2 => .int
  | 3 => .int
  | 4 => .int
  | _ => .int
abbrev wsX80 : List Cond := u_ws RX8 TX8 6
theorem nmX8 : ∀ a, a < 6 → ∀ b, b < 6 → a ≠ b → (TX8 a).2.1 ≠ (TX8 b).2.1 := by decide +kernel
theorem tyX8_ok : ∀ k, k < 6 → parseFieldDescriptor (TX8 k).2.2.1 = some (tyX8 k) := by decide +kernel
abbrev cX8_init : ByteArray := prog_26_method_2_code
def yX8_init : MethodName := ⟨RX8, "<init>", "(LCavePearls$Stone;)V"⟩
def dkwX8_init_1 : List UInt8 := [180, 0, 25, 181, 0, 25, 42, 43, 180, 0, 28, 181, 0, 28, 177]
abbrev dktX8_init_1 : List UInt8 := dkwX8_init_1 ++ []
def dkwX8_init_0 : List UInt8 := [42, 43, 180, 0, 7, 43, 180, 0, 13, 43, 180, 0, 16, 43, 180, 0, 19, 183, 0, 22, 42, 43]
abbrev dktX8_init_0 : List UInt8 := dkwX8_init_0 ++ dktX8_init_1
theorem dksX8_init_0 : cX8_init.data.toList.drop 0 = dktX8_init_0 := by decide +kernel
theorem dksX8_init_1 : cX8_init.data.toList.drop 22 = dktX8_init_1 := dk_seg dksX8_init_0 22 rfl rfl
theorem dX8_init_0 : decode cX8_init 0 = .ok (.aload_n 0, 1) := dk_42 (dk_at dksX8_init_0 0 rfl rfl)
theorem dX8_init_1 : decode cX8_init 1 = .ok (.aload_n 1, 1) := dk_43 (dk_at dksX8_init_0 1 rfl rfl)
theorem dX8_init_2 : decode cX8_init 2 = .ok (.getfield 7, 3) := dk_180 0 7 (dk_at dksX8_init_0 2 rfl rfl)
theorem dX8_init_5 : decode cX8_init 5 = .ok (.aload_n 1, 1) := dk_43 (dk_at dksX8_init_0 5 rfl rfl)
theorem dX8_init_6 : decode cX8_init 6 = .ok (.getfield 13, 3) := dk_180 0 13 (dk_at dksX8_init_0 6 rfl rfl)
theorem dX8_init_9 : decode cX8_init 9 = .ok (.aload_n 1, 1) := dk_43 (dk_at dksX8_init_0 9 rfl rfl)
theorem dX8_init_10 : decode cX8_init 10 = .ok (.getfield 16, 3) := dk_180 0 16 (dk_at dksX8_init_0 10 rfl rfl)
theorem dX8_init_13 : decode cX8_init 13 = .ok (.aload_n 1, 1) := dk_43 (dk_at dksX8_init_0 13 rfl rfl)
theorem dX8_init_14 : decode cX8_init 14 = .ok (.getfield 19, 3) := dk_180 0 19 (dk_at dksX8_init_0 14 rfl rfl)
theorem dX8_init_17 : decode cX8_init 17 = .ok (.invokespecial 22, 3) := dk_183 0 22 (dk_at dksX8_init_0 17 rfl rfl)
theorem dX8_init_20 : decode cX8_init 20 = .ok (.aload_n 0, 1) := dk_42 (dk_at dksX8_init_0 20 rfl rfl)
theorem dX8_init_21 : decode cX8_init 21 = .ok (.aload_n 1, 1) := dk_43 (dk_at dksX8_init_0 21 rfl rfl)
theorem dX8_init_22 : decode cX8_init 22 = .ok (.getfield 25, 3) := dk_180 0 25 (dk_at dksX8_init_1 0 rfl rfl)
theorem dX8_init_25 : decode cX8_init 25 = .ok (.putfield 25, 3) := dk_181 0 25 (dk_at dksX8_init_1 3 rfl rfl)
theorem dX8_init_28 : decode cX8_init 28 = .ok (.aload_n 0, 1) := dk_42 (dk_at dksX8_init_1 6 rfl rfl)
theorem dX8_init_29 : decode cX8_init 29 = .ok (.aload_n 1, 1) := dk_43 (dk_at dksX8_init_1 7 rfl rfl)
theorem dX8_init_30 : decode cX8_init 30 = .ok (.getfield 28, 3) := dk_180 0 28 (dk_at dksX8_init_1 8 rfl rfl)
theorem dX8_init_33 : decode cX8_init 33 = .ok (.putfield 28, 3) := dk_181 0 28 (dk_at dksX8_init_1 11 rfl rfl)
theorem dX8_init_36 : decode cX8_init 36 = .ok (.return_, 1) := dk_177 (dk_at dksX8_init_1 14 rfl rfl)
abbrev cX8_init_2 : ByteArray := prog_26_method_1_code
def yX8_init_2 : MethodName := ⟨RX8, "<init>", "(IIII)V"⟩
def dkwX8_init_2_1 : List UInt8 := [181, 0, 19, 177]
abbrev dktX8_init_2_1 : List UInt8 := dkwX8_init_2_1 ++ []
def dkwX8_init_2_0 : List UInt8 := [42, 183, 0, 1, 42, 27, 181, 0, 7, 42, 28, 181, 0, 13, 42, 29, 181, 0, 16, 42, 21, 4]
abbrev dktX8_init_2_0 : List UInt8 := dkwX8_init_2_0 ++ dktX8_init_2_1
theorem dksX8_init_2_0 : cX8_init_2.data.toList.drop 0 = dktX8_init_2_0 := by decide +kernel
theorem dksX8_init_2_1 : cX8_init_2.data.toList.drop 22 = dktX8_init_2_1 := dk_seg dksX8_init_2_0 22 rfl rfl
theorem dX8_init_2_0 : decode cX8_init_2 0 = .ok (.aload_n 0, 1) := dk_42 (dk_at dksX8_init_2_0 0 rfl rfl)
theorem dX8_init_2_1 : decode cX8_init_2 1 = .ok (.invokespecial 1, 3) := dk_183 0 1 (dk_at dksX8_init_2_0 1 rfl rfl)
theorem dX8_init_2_4 : decode cX8_init_2 4 = .ok (.aload_n 0, 1) := dk_42 (dk_at dksX8_init_2_0 4 rfl rfl)
theorem dX8_init_2_5 : decode cX8_init_2 5 = .ok (.iload_n 1, 1) := dk_27 (dk_at dksX8_init_2_0 5 rfl rfl)
theorem dX8_init_2_6 : decode cX8_init_2 6 = .ok (.putfield 7, 3) := dk_181 0 7 (dk_at dksX8_init_2_0 6 rfl rfl)
theorem dX8_init_2_9 : decode cX8_init_2 9 = .ok (.aload_n 0, 1) := dk_42 (dk_at dksX8_init_2_0 9 rfl rfl)
theorem dX8_init_2_10 : decode cX8_init_2 10 = .ok (.iload_n 2, 1) := dk_28 (dk_at dksX8_init_2_0 10 rfl rfl)
theorem dX8_init_2_11 : decode cX8_init_2 11 = .ok (.putfield 13, 3) := dk_181 0 13 (dk_at dksX8_init_2_0 11 rfl rfl)
theorem dX8_init_2_14 : decode cX8_init_2 14 = .ok (.aload_n 0, 1) := dk_42 (dk_at dksX8_init_2_0 14 rfl rfl)
theorem dX8_init_2_15 : decode cX8_init_2 15 = .ok (.iload_n 3, 1) := dk_29 (dk_at dksX8_init_2_0 15 rfl rfl)
theorem dX8_init_2_16 : decode cX8_init_2 16 = .ok (.putfield 16, 3) := dk_181 0 16 (dk_at dksX8_init_2_0 16 rfl rfl)
theorem dX8_init_2_19 : decode cX8_init_2 19 = .ok (.aload_n 0, 1) := dk_42 (dk_at dksX8_init_2_0 19 rfl rfl)
theorem dX8_init_2_20 : decode cX8_init_2 20 = .ok (.iload 4, 2) := dk_21 4 (dk_at dksX8_init_2_0 20 rfl rfl)
theorem dX8_init_2_22 : decode cX8_init_2 22 = .ok (.putfield 19, 3) := dk_181 0 19 (dk_at dksX8_init_2_1 0 rfl rfl)
theorem dX8_init_2_25 : decode cX8_init_2 25 = .ok (.return_, 1) := dk_177 (dk_at dksX8_init_2_1 3 rfl rfl)
abbrev cX8_drip : ByteArray := prog_26_method_3_code
def yX8_drip : MethodName := ⟨RX8, "drip", "()V"⟩
def dkwX8_drip_1 : List UInt8 := [104, 96, 96, 181, 0, 19, 177]
abbrev dktX8_drip_1 : List UInt8 := dkwX8_drip_1 ++ []
def dkwX8_drip_0 : List UInt8 := [42, 89, 180, 0, 28, 4, 96, 181, 0, 28, 42, 89, 180, 0, 19, 42, 180, 0, 16, 5, 42, 180, 0, 25]
abbrev dktX8_drip_0 : List UInt8 := dkwX8_drip_0 ++ dktX8_drip_1
theorem dksX8_drip_0 : cX8_drip.data.toList.drop 0 = dktX8_drip_0 := by decide +kernel
theorem dksX8_drip_1 : cX8_drip.data.toList.drop 24 = dktX8_drip_1 := dk_seg dksX8_drip_0 24 rfl rfl
theorem dX8_drip_0 : decode cX8_drip 0 = .ok (.aload_n 0, 1) := dk_42 (dk_at dksX8_drip_0 0 rfl rfl)
theorem dX8_drip_1 : decode cX8_drip 1 = .ok (.dup, 1) := dk_89 (dk_at dksX8_drip_0 1 rfl rfl)
theorem dX8_drip_2 : decode cX8_drip 2 = .ok (.getfield 28, 3) := dk_180 0 28 (dk_at dksX8_drip_0 2 rfl rfl)
theorem dX8_drip_5 : decode cX8_drip 5 = .ok (.iconst 1, 1) := dk_4 (dk_at dksX8_drip_0 5 rfl rfl)
theorem dX8_drip_6 : decode cX8_drip 6 = .ok (.iadd, 1) := dk_96 (dk_at dksX8_drip_0 6 rfl rfl)
theorem dX8_drip_7 : decode cX8_drip 7 = .ok (.putfield 28, 3) := dk_181 0 28 (dk_at dksX8_drip_0 7 rfl rfl)
theorem dX8_drip_10 : decode cX8_drip 10 = .ok (.aload_n 0, 1) := dk_42 (dk_at dksX8_drip_0 10 rfl rfl)
theorem dX8_drip_11 : decode cX8_drip 11 = .ok (.dup, 1) := dk_89 (dk_at dksX8_drip_0 11 rfl rfl)
theorem dX8_drip_12 : decode cX8_drip 12 = .ok (.getfield 19, 3) := dk_180 0 19 (dk_at dksX8_drip_0 12 rfl rfl)
theorem dX8_drip_15 : decode cX8_drip 15 = .ok (.aload_n 0, 1) := dk_42 (dk_at dksX8_drip_0 15 rfl rfl)
theorem dX8_drip_16 : decode cX8_drip 16 = .ok (.getfield 16, 3) := dk_180 0 16 (dk_at dksX8_drip_0 16 rfl rfl)
theorem dX8_drip_19 : decode cX8_drip 19 = .ok (.iconst 2, 1) := dk_5 (dk_at dksX8_drip_0 19 rfl rfl)
theorem dX8_drip_20 : decode cX8_drip 20 = .ok (.aload_n 0, 1) := dk_42 (dk_at dksX8_drip_0 20 rfl rfl)
theorem dX8_drip_21 : decode cX8_drip 21 = .ok (.getfield 25, 3) := dk_180 0 25 (dk_at dksX8_drip_0 21 rfl rfl)
theorem dX8_drip_24 : decode cX8_drip 24 = .ok (.imul, 1) := dk_104 (dk_at dksX8_drip_1 0 rfl rfl)
theorem dX8_drip_25 : decode cX8_drip 25 = .ok (.iadd, 1) := dk_96 (dk_at dksX8_drip_1 1 rfl rfl)
theorem dX8_drip_26 : decode cX8_drip 26 = .ok (.iadd, 1) := dk_96 (dk_at dksX8_drip_1 2 rfl rfl)
theorem dX8_drip_27 : decode cX8_drip 27 = .ok (.putfield 19, 3) := dk_181 0 19 (dk_at dksX8_drip_1 3 rfl rfl)
theorem dX8_drip_30 : decode cX8_drip 30 = .ok (.return_, 1) := dk_177 (dk_at dksX8_drip_1 6 rfl rfl)
theorem q143 : (Jvm.Cond.initialized "CavePearls$Stone") ∈ lw_all := lw_g (lw_at lw_m1 37 rfl) rfl
theorem q940 : (Jvm.Cond.selects "CavePearls$Stone" ({ cls := "java/lang/Object", name := "getClass", desc := "()Ljava/lang/Class;" } : Jvm.MethodName) ({ cls := "java/lang/Object", name := "getClass", desc := "()Ljava/lang/Class;" } : Jvm.MethodName)) ∈ lw_all := lw_g (lw_at lw_m4 114 rfl) rfl
theorem q1278 : (Jvm.Cond.instantiable "CavePearls$Stone" (6 : Nat)) ∈ lw_all := lw_g (lw_at lw_m5 212 rfl) rfl
theorem q1280 : (Jvm.Cond.instanceMethod ({ cls := "CavePearls$Stone", name := "<init>", desc := "(LCavePearls$Stone;)V" } : Jvm.MethodName)) ∈ lw_all := lw_g (lw_at lw_m5 214 rfl) rfl
theorem q1281 : (Jvm.Cond.code ({ cls := "CavePearls$Stone", name := "<init>", desc := "(LCavePearls$Stone;)V" } : Jvm.MethodName) prog_26_method_2_code (2 : Nat) (Option.none : Option Jvm.ClassFile.FieldType)) ∈ lw_all := lw_g (lw_at lw_m5 215 rfl) rfl
theorem q1282 : (Jvm.Cond.methodLink "CavePearls$Stone" (22 : Nat) ({ cls := "CavePearls$Stone", name := "<init>", desc := "(IIII)V" } : Jvm.MethodName)) ∈ lw_all := lw_g (lw_at lw_m5 216 rfl) rfl
theorem q1283 : (Jvm.Cond.instanceMethod ({ cls := "CavePearls$Stone", name := "<init>", desc := "(IIII)V" } : Jvm.MethodName)) ∈ lw_all := lw_g (lw_at lw_m5 217 rfl) rfl
theorem q1284 : (Jvm.Cond.code ({ cls := "CavePearls$Stone", name := "<init>", desc := "(IIII)V" } : Jvm.MethodName) prog_26_method_1_code (5 : Nat) (Option.none : Option Jvm.ClassFile.FieldType)) ∈ lw_all := lw_g (lw_at lw_m5 218 rfl) rfl
theorem q1285 : (Jvm.Cond.methodLink "CavePearls$Stone" (1 : Nat) ({ cls := "java/lang/Object", name := "<init>", desc := "()V" } : Jvm.MethodName)) ∈ lw_all := lw_g (lw_at lw_m5 219 rfl) rfl
theorem q1286 : (Jvm.Cond.fieldLink "CavePearls$Stone" (7 : Nat) "CavePearls$Stone" "number" "I") ∈ lw_all := lw_g (lw_at lw_m5 220 rfl) rfl
theorem q1289 : (Jvm.Cond.fieldLink "CavePearls$Stone" (13 : Nat) "CavePearls$Stone" "pool" "I") ∈ lw_all := lw_g (lw_at lw_m5 223 rfl) rfl
theorem q1292 : (Jvm.Cond.fieldLink "CavePearls$Stone" (16 : Nat) "CavePearls$Stone" "period" "I") ∈ lw_all := lw_g (lw_at lw_m5 226 rfl) rfl
theorem q1294 : (Jvm.Cond.fieldLink "CavePearls$Stone" (25 : Nat) "CavePearls$Stone" "cracks" "I") ∈ lw_all := lw_g (lw_at lw_m5 228 rfl) rfl
theorem q1297 : (Jvm.Cond.fieldLink "CavePearls$Stone" (28 : Nat) "CavePearls$Stone" "drips" "I") ∈ lw_all := lw_g (lw_at lw_m5 231 rfl) rfl
theorem q1299 : (Jvm.Cond.fieldLink "CavePearls$Stone" (19 : Nat) "CavePearls$Stone" "next" "I") ∈ lw_all := lw_g (lw_at lw_m5 233 rfl) rfl
theorem q1303 : (Jvm.Cond.laysFinal "CavePearls$Stone" "CavePearls$Stone" "number" "I") ∈ lw_all := lw_g (lw_at lw_m5 237 rfl) rfl
theorem q1304 : (Jvm.Cond.soleField "CavePearls$Stone" "number") ∈ lw_all := lw_g (lw_at lw_m5 238 rfl) rfl
theorem q1305 : (Jvm.Cond.laysFinal "CavePearls$Stone" "CavePearls$Stone" "pool" "I") ∈ lw_all := lw_g (lw_at lw_m5 239 rfl) rfl
theorem q1306 : (Jvm.Cond.soleField "CavePearls$Stone" "pool") ∈ lw_all := lw_g (lw_at lw_m6 0 rfl) rfl
theorem q1307 : (Jvm.Cond.laysFinal "CavePearls$Stone" "CavePearls$Stone" "period" "I") ∈ lw_all := lw_g (lw_at lw_m6 1 rfl) rfl
theorem q1308 : (Jvm.Cond.soleField "CavePearls$Stone" "period") ∈ lw_all := lw_g (lw_at lw_m6 2 rfl) rfl
theorem q1309 : (Jvm.Cond.lays "CavePearls$Stone" "CavePearls$Stone" "cracks" "I") ∈ lw_all := lw_g (lw_at lw_m6 3 rfl) rfl
theorem q1310 : (Jvm.Cond.soleField "CavePearls$Stone" "cracks") ∈ lw_all := lw_g (lw_at lw_m6 4 rfl) rfl
theorem q1311 : (Jvm.Cond.lays "CavePearls$Stone" "CavePearls$Stone" "drips" "I") ∈ lw_all := lw_g (lw_at lw_m6 5 rfl) rfl
theorem q1312 : (Jvm.Cond.soleField "CavePearls$Stone" "drips") ∈ lw_all := lw_g (lw_at lw_m6 6 rfl) rfl
theorem q1313 : (Jvm.Cond.lays "CavePearls$Stone" "CavePearls$Stone" "next" "I") ∈ lw_all := lw_g (lw_at lw_m6 7 rfl) rfl
theorem q1314 : (Jvm.Cond.soleField "CavePearls$Stone" "next") ∈ lw_all := lw_g (lw_at lw_m6 8 rfl) rfl
theorem q1315 : (Jvm.Cond.superclass "CavePearls$Stone" "java/lang/Object") ∈ lw_all := lw_g (lw_at lw_m6 9 rfl) rfl
theorem q2241 : (Jvm.Cond.instanceMethod ({ cls := "CavePearls$Stone", name := "drip", desc := "()V" } : Jvm.MethodName)) ∈ lw_all := lw_g (lw_at lw_m9 215 rfl) rfl
theorem q2242 : (Jvm.Cond.selects "CavePearls$Stone" ({ cls := "CavePearls$Stone", name := "drip", desc := "()V" } : Jvm.MethodName) ({ cls := "CavePearls$Stone", name := "drip", desc := "()V" } : Jvm.MethodName)) ∈ lw_all := lw_g (lw_at lw_m9 216 rfl) rfl
theorem q2243 : (Jvm.Cond.code ({ cls := "CavePearls$Stone", name := "drip", desc := "()V" } : Jvm.MethodName) prog_26_method_3_code (1 : Nat) (Option.none : Option Jvm.ClassFile.FieldType)) ∈ lw_all := lw_g (lw_at lw_m9 217 rfl) rfl
theorem q3989 : (Jvm.Cond.castable "CavePearls$Stone" "java/lang/Object") ∈ lw_tbl := lw_at lw_m17 43 rfl
theorem in_X8 : ∀ w ∈ wsX80, w ∈ lw_all := lw_in wsX80 [1303, 1305, 1307, 1309, 1311, 1313] (by decide +kernel) (by decide +kernel)

/-! java/util/AbstractList$Itr -/
set_option maxRecDepth 100000
def RJ28 : String := "java/util/AbstractList$Itr"
abbrev cJ28_hasNext : ByteArray := prog_64_method_2_code
def yJ28_hasNext : MethodName := ⟨RJ28, "hasNext", "()Z"⟩
def dkwJ28_hasNext_0 : List UInt8 := [42, 180, 0, 13, 42, 180, 0, 1, 182, 0, 28, 159, 0, 7, 4, 167, 0, 4, 3, 172]
abbrev dktJ28_hasNext_0 : List UInt8 := dkwJ28_hasNext_0 ++ []
theorem dksJ28_hasNext_0 : cJ28_hasNext.data.toList.drop 0 = dktJ28_hasNext_0 := by decide +kernel
theorem dJ28_hasNext_0 : decode cJ28_hasNext 0 = .ok (.aload_n 0, 1) := dk_42 (dk_at dksJ28_hasNext_0 0 rfl rfl)
theorem dJ28_hasNext_1 : decode cJ28_hasNext 1 = .ok (.getfield 13, 3) := dk_180 0 13 (dk_at dksJ28_hasNext_0 1 rfl rfl)
theorem dJ28_hasNext_4 : decode cJ28_hasNext 4 = .ok (.aload_n 0, 1) := dk_42 (dk_at dksJ28_hasNext_0 4 rfl rfl)
theorem dJ28_hasNext_5 : decode cJ28_hasNext 5 = .ok (.getfield 1, 3) := dk_180 0 1 (dk_at dksJ28_hasNext_0 5 rfl rfl)
theorem dJ28_hasNext_8 : decode cJ28_hasNext 8 = .ok (.invokevirtual 28, 3) := dk_182 0 28 (dk_at dksJ28_hasNext_0 8 rfl rfl)
theorem dJ28_hasNext_11 : decode cJ28_hasNext 11 = .ok (.if_icmp .eq 7, 3) := dk_159 0 7 (dk_at dksJ28_hasNext_0 11 rfl rfl)
theorem dJ28_hasNext_14 : decode cJ28_hasNext 14 = .ok (.iconst 1, 1) := dk_4 (dk_at dksJ28_hasNext_0 14 rfl rfl)
theorem dJ28_hasNext_15 : decode cJ28_hasNext 15 = .ok (.goto 4, 3) := dk_167 0 4 (dk_at dksJ28_hasNext_0 15 rfl rfl)
theorem dJ28_hasNext_18 : decode cJ28_hasNext 18 = .ok (.iconst 0, 1) := dk_3 (dk_at dksJ28_hasNext_0 18 rfl rfl)
theorem dJ28_hasNext_19 : decode cJ28_hasNext 19 = .ok (.ireturn, 1) := dk_172 (dk_at dksJ28_hasNext_0 19 rfl rfl)
abbrev cJ28_next : ByteArray := prog_64_method_3_code
def yJ28_next : MethodName := ⟨RJ28, "next", "()Ljava/lang/Object;"⟩
def dkwJ28_next_1 : List UInt8 := [27, 4, 96, 181, 0, 13, 44, 176, 76, 42, 182, 0, 32, 187, 0, 41, 89, 43, 183, 0, 43, 191]
abbrev dktJ28_next_1 : List UInt8 := dkwJ28_next_1 ++ []
def dkwJ28_next_0 : List UInt8 := [42, 182, 0, 32, 42, 180, 0, 13, 60, 42, 180, 0, 1, 27, 182, 0, 35, 77, 42, 27, 181, 0, 17, 42]
abbrev dktJ28_next_0 : List UInt8 := dkwJ28_next_0 ++ dktJ28_next_1
theorem dksJ28_next_0 : cJ28_next.data.toList.drop 0 = dktJ28_next_0 := by decide +kernel
theorem dksJ28_next_1 : cJ28_next.data.toList.drop 24 = dktJ28_next_1 := dk_seg dksJ28_next_0 24 rfl rfl
theorem dJ28_next_0 : decode cJ28_next 0 = .ok (.aload_n 0, 1) := dk_42 (dk_at dksJ28_next_0 0 rfl rfl)
theorem dJ28_next_1 : decode cJ28_next 1 = .ok (.invokevirtual 32, 3) := dk_182 0 32 (dk_at dksJ28_next_0 1 rfl rfl)
theorem dJ28_next_4 : decode cJ28_next 4 = .ok (.aload_n 0, 1) := dk_42 (dk_at dksJ28_next_0 4 rfl rfl)
theorem dJ28_next_5 : decode cJ28_next 5 = .ok (.getfield 13, 3) := dk_180 0 13 (dk_at dksJ28_next_0 5 rfl rfl)
theorem dJ28_next_8 : decode cJ28_next 8 = .ok (.istore_n 1, 1) := dk_60 (dk_at dksJ28_next_0 8 rfl rfl)
theorem dJ28_next_9 : decode cJ28_next 9 = .ok (.aload_n 0, 1) := dk_42 (dk_at dksJ28_next_0 9 rfl rfl)
theorem dJ28_next_10 : decode cJ28_next 10 = .ok (.getfield 1, 3) := dk_180 0 1 (dk_at dksJ28_next_0 10 rfl rfl)
theorem dJ28_next_13 : decode cJ28_next 13 = .ok (.iload_n 1, 1) := dk_27 (dk_at dksJ28_next_0 13 rfl rfl)
theorem dJ28_next_14 : decode cJ28_next 14 = .ok (.invokevirtual 35, 3) := dk_182 0 35 (dk_at dksJ28_next_0 14 rfl rfl)
theorem dJ28_next_17 : decode cJ28_next 17 = .ok (.astore_n 2, 1) := dk_77 (dk_at dksJ28_next_0 17 rfl rfl)
theorem dJ28_next_18 : decode cJ28_next 18 = .ok (.aload_n 0, 1) := dk_42 (dk_at dksJ28_next_0 18 rfl rfl)
theorem dJ28_next_19 : decode cJ28_next 19 = .ok (.iload_n 1, 1) := dk_27 (dk_at dksJ28_next_0 19 rfl rfl)
theorem dJ28_next_20 : decode cJ28_next 20 = .ok (.putfield 17, 3) := dk_181 0 17 (dk_at dksJ28_next_0 20 rfl rfl)
theorem dJ28_next_23 : decode cJ28_next 23 = .ok (.aload_n 0, 1) := dk_42 (dk_at dksJ28_next_0 23 rfl rfl)
theorem dJ28_next_24 : decode cJ28_next 24 = .ok (.iload_n 1, 1) := dk_27 (dk_at dksJ28_next_1 0 rfl rfl)
theorem dJ28_next_25 : decode cJ28_next 25 = .ok (.iconst 1, 1) := dk_4 (dk_at dksJ28_next_1 1 rfl rfl)
theorem dJ28_next_26 : decode cJ28_next 26 = .ok (.iadd, 1) := dk_96 (dk_at dksJ28_next_1 2 rfl rfl)
theorem dJ28_next_27 : decode cJ28_next 27 = .ok (.putfield 13, 3) := dk_181 0 13 (dk_at dksJ28_next_1 3 rfl rfl)
theorem dJ28_next_30 : decode cJ28_next 30 = .ok (.aload_n 2, 1) := dk_44 (dk_at dksJ28_next_1 6 rfl rfl)
theorem dJ28_next_31 : decode cJ28_next 31 = .ok (.areturn, 1) := dk_176 (dk_at dksJ28_next_1 7 rfl rfl)
theorem dJ28_next_32 : decode cJ28_next 32 = .ok (.astore_n 1, 1) := dk_76 (dk_at dksJ28_next_1 8 rfl rfl)
theorem dJ28_next_33 : decode cJ28_next 33 = .ok (.aload_n 0, 1) := dk_42 (dk_at dksJ28_next_1 9 rfl rfl)
theorem dJ28_next_34 : decode cJ28_next 34 = .ok (.invokevirtual 32, 3) := dk_182 0 32 (dk_at dksJ28_next_1 10 rfl rfl)
theorem dJ28_next_37 : decode cJ28_next 37 = .ok (.new 41, 3) := dk_187 0 41 (dk_at dksJ28_next_1 13 rfl rfl)
theorem dJ28_next_40 : decode cJ28_next 40 = .ok (.dup, 1) := dk_89 (dk_at dksJ28_next_1 16 rfl rfl)
theorem dJ28_next_41 : decode cJ28_next 41 = .ok (.aload_n 1, 1) := dk_43 (dk_at dksJ28_next_1 17 rfl rfl)
theorem dJ28_next_42 : decode cJ28_next 42 = .ok (.invokespecial 43, 3) := dk_183 0 43 (dk_at dksJ28_next_1 18 rfl rfl)
theorem dJ28_next_45 : decode cJ28_next 45 = .ok (.athrow, 1) := dk_191 (dk_at dksJ28_next_1 21 rfl rfl)
abbrev cJ28_checkForComodification : ByteArray := prog_64_method_5_code
def yJ28_checkForComodification : MethodName := ⟨RJ28, "checkForComodification", "()V"⟩
def dkwJ28_checkForComodification_0 : List UInt8 := [42, 180, 0, 1, 180, 0, 20, 42, 180, 0, 25, 159, 0, 11, 187, 0, 52, 89, 183, 0, 54, 191, 177]
abbrev dktJ28_checkForComodification_0 : List UInt8 := dkwJ28_checkForComodification_0 ++ []
theorem dksJ28_checkForComodification_0 : cJ28_checkForComodification.data.toList.drop 0 = dktJ28_checkForComodification_0 := by decide +kernel
theorem dJ28_checkForComodification_0 : decode cJ28_checkForComodification 0 = .ok (.aload_n 0, 1) := dk_42 (dk_at dksJ28_checkForComodification_0 0 rfl rfl)
theorem dJ28_checkForComodification_1 : decode cJ28_checkForComodification 1 = .ok (.getfield 1, 3) := dk_180 0 1 (dk_at dksJ28_checkForComodification_0 1 rfl rfl)
theorem dJ28_checkForComodification_4 : decode cJ28_checkForComodification 4 = .ok (.getfield 20, 3) := dk_180 0 20 (dk_at dksJ28_checkForComodification_0 4 rfl rfl)
theorem dJ28_checkForComodification_7 : decode cJ28_checkForComodification 7 = .ok (.aload_n 0, 1) := dk_42 (dk_at dksJ28_checkForComodification_0 7 rfl rfl)
theorem dJ28_checkForComodification_8 : decode cJ28_checkForComodification 8 = .ok (.getfield 25, 3) := dk_180 0 25 (dk_at dksJ28_checkForComodification_0 8 rfl rfl)
theorem dJ28_checkForComodification_11 : decode cJ28_checkForComodification 11 = .ok (.if_icmp .eq 11, 3) := dk_159 0 11 (dk_at dksJ28_checkForComodification_0 11 rfl rfl)
theorem dJ28_checkForComodification_14 : decode cJ28_checkForComodification 14 = .ok (.new 52, 3) := dk_187 0 52 (dk_at dksJ28_checkForComodification_0 14 rfl rfl)
theorem dJ28_checkForComodification_17 : decode cJ28_checkForComodification 17 = .ok (.dup, 1) := dk_89 (dk_at dksJ28_checkForComodification_0 17 rfl rfl)
theorem dJ28_checkForComodification_18 : decode cJ28_checkForComodification 18 = .ok (.invokespecial 54, 3) := dk_183 0 54 (dk_at dksJ28_checkForComodification_0 18 rfl rfl)
theorem dJ28_checkForComodification_21 : decode cJ28_checkForComodification 21 = .ok (.athrow, 1) := dk_191 (dk_at dksJ28_checkForComodification_0 21 rfl rfl)
theorem dJ28_checkForComodification_22 : decode cJ28_checkForComodification 22 = .ok (.return_, 1) := dk_177 (dk_at dksJ28_checkForComodification_0 22 rfl rfl)
abbrev cJ28_remove : ByteArray := prog_64_method_4_code
def yJ28_remove : MethodName := ⟨RJ28, "remove", "()V"⟩
def dkwJ28_remove_3 : List UInt8 := [187, 0, 52, 89, 183, 0, 54, 191, 177]
abbrev dktJ28_remove_3 : List UInt8 := dkwJ28_remove_3 ++ []
def dkwJ28_remove_2 : List UInt8 := [100, 181, 0, 13, 42, 2, 181, 0, 17, 42, 42, 180, 0, 1, 180, 0, 20, 181, 0, 25, 167, 0, 12, 76]
abbrev dktJ28_remove_2 : List UInt8 := dkwJ28_remove_2 ++ dktJ28_remove_3
def dkwJ28_remove_1 : List UInt8 := [180, 0, 17, 182, 0, 49, 87, 42, 180, 0, 17, 42, 180, 0, 13, 162, 0, 13, 42, 89, 180, 0, 13, 4]
abbrev dktJ28_remove_1 : List UInt8 := dkwJ28_remove_1 ++ dktJ28_remove_2
def dkwJ28_remove_0 : List UInt8 := [42, 180, 0, 17, 156, 0, 11, 187, 0, 46, 89, 183, 0, 48, 191, 42, 182, 0, 32, 42, 180, 0, 1, 42]
abbrev dktJ28_remove_0 : List UInt8 := dkwJ28_remove_0 ++ dktJ28_remove_1
theorem dksJ28_remove_0 : cJ28_remove.data.toList.drop 0 = dktJ28_remove_0 := by decide +kernel
theorem dksJ28_remove_1 : cJ28_remove.data.toList.drop 24 = dktJ28_remove_1 := dk_seg dksJ28_remove_0 24 rfl rfl
theorem dksJ28_remove_2 : cJ28_remove.data.toList.drop 48 = dktJ28_remove_2 := dk_seg dksJ28_remove_1 24 rfl rfl
theorem dksJ28_remove_3 : cJ28_remove.data.toList.drop 72 = dktJ28_remove_3 := dk_seg dksJ28_remove_2 24 rfl rfl
theorem dJ28_remove_0 : decode cJ28_remove 0 = .ok (.aload_n 0, 1) := dk_42 (dk_at dksJ28_remove_0 0 rfl rfl)
theorem dJ28_remove_1 : decode cJ28_remove 1 = .ok (.getfield 17, 3) := dk_180 0 17 (dk_at dksJ28_remove_0 1 rfl rfl)
theorem dJ28_remove_4 : decode cJ28_remove 4 = .ok (.ifCond .ge 11, 3) := dk_156 0 11 (dk_at dksJ28_remove_0 4 rfl rfl)
theorem dJ28_remove_7 : decode cJ28_remove 7 = .ok (.new 46, 3) := dk_187 0 46 (dk_at dksJ28_remove_0 7 rfl rfl)
theorem dJ28_remove_10 : decode cJ28_remove 10 = .ok (.dup, 1) := dk_89 (dk_at dksJ28_remove_0 10 rfl rfl)
theorem dJ28_remove_11 : decode cJ28_remove 11 = .ok (.invokespecial 48, 3) := dk_183 0 48 (dk_at dksJ28_remove_0 11 rfl rfl)
theorem dJ28_remove_14 : decode cJ28_remove 14 = .ok (.athrow, 1) := dk_191 (dk_at dksJ28_remove_0 14 rfl rfl)
theorem dJ28_remove_15 : decode cJ28_remove 15 = .ok (.aload_n 0, 1) := dk_42 (dk_at dksJ28_remove_0 15 rfl rfl)
theorem dJ28_remove_16 : decode cJ28_remove 16 = .ok (.invokevirtual 32, 3) := dk_182 0 32 (dk_at dksJ28_remove_0 16 rfl rfl)
theorem dJ28_remove_19 : decode cJ28_remove 19 = .ok (.aload_n 0, 1) := dk_42 (dk_at dksJ28_remove_0 19 rfl rfl)
theorem dJ28_remove_20 : decode cJ28_remove 20 = .ok (.getfield 1, 3) := dk_180 0 1 (dk_at dksJ28_remove_0 20 rfl rfl)
theorem dJ28_remove_23 : decode cJ28_remove 23 = .ok (.aload_n 0, 1) := dk_42 (dk_at dksJ28_remove_0 23 rfl rfl)
theorem dJ28_remove_24 : decode cJ28_remove 24 = .ok (.getfield 17, 3) := dk_180 0 17 (dk_at dksJ28_remove_1 0 rfl rfl)
theorem dJ28_remove_27 : decode cJ28_remove 27 = .ok (.invokevirtual 49, 3) := dk_182 0 49 (dk_at dksJ28_remove_1 3 rfl rfl)
theorem dJ28_remove_30 : decode cJ28_remove 30 = .ok (.pop, 1) := dk_87 (dk_at dksJ28_remove_1 6 rfl rfl)
theorem dJ28_remove_31 : decode cJ28_remove 31 = .ok (.aload_n 0, 1) := dk_42 (dk_at dksJ28_remove_1 7 rfl rfl)
theorem dJ28_remove_32 : decode cJ28_remove 32 = .ok (.getfield 17, 3) := dk_180 0 17 (dk_at dksJ28_remove_1 8 rfl rfl)
theorem dJ28_remove_35 : decode cJ28_remove 35 = .ok (.aload_n 0, 1) := dk_42 (dk_at dksJ28_remove_1 11 rfl rfl)
theorem dJ28_remove_36 : decode cJ28_remove 36 = .ok (.getfield 13, 3) := dk_180 0 13 (dk_at dksJ28_remove_1 12 rfl rfl)
theorem dJ28_remove_39 : decode cJ28_remove 39 = .ok (.if_icmp .ge 13, 3) := dk_162 0 13 (dk_at dksJ28_remove_1 15 rfl rfl)
theorem dJ28_remove_42 : decode cJ28_remove 42 = .ok (.aload_n 0, 1) := dk_42 (dk_at dksJ28_remove_1 18 rfl rfl)
theorem dJ28_remove_43 : decode cJ28_remove 43 = .ok (.dup, 1) := dk_89 (dk_at dksJ28_remove_1 19 rfl rfl)
theorem dJ28_remove_44 : decode cJ28_remove 44 = .ok (.getfield 13, 3) := dk_180 0 13 (dk_at dksJ28_remove_1 20 rfl rfl)
theorem dJ28_remove_47 : decode cJ28_remove 47 = .ok (.iconst 1, 1) := dk_4 (dk_at dksJ28_remove_1 23 rfl rfl)
theorem dJ28_remove_48 : decode cJ28_remove 48 = .ok (.isub, 1) := dk_100 (dk_at dksJ28_remove_2 0 rfl rfl)
theorem dJ28_remove_49 : decode cJ28_remove 49 = .ok (.putfield 13, 3) := dk_181 0 13 (dk_at dksJ28_remove_2 1 rfl rfl)
theorem dJ28_remove_52 : decode cJ28_remove 52 = .ok (.aload_n 0, 1) := dk_42 (dk_at dksJ28_remove_2 4 rfl rfl)
theorem dJ28_remove_53 : decode cJ28_remove 53 = .ok (.iconst (-1), 1) := dk_2 (dk_at dksJ28_remove_2 5 rfl rfl)
theorem dJ28_remove_54 : decode cJ28_remove 54 = .ok (.putfield 17, 3) := dk_181 0 17 (dk_at dksJ28_remove_2 6 rfl rfl)
theorem dJ28_remove_57 : decode cJ28_remove 57 = .ok (.aload_n 0, 1) := dk_42 (dk_at dksJ28_remove_2 9 rfl rfl)
theorem dJ28_remove_58 : decode cJ28_remove 58 = .ok (.aload_n 0, 1) := dk_42 (dk_at dksJ28_remove_2 10 rfl rfl)
theorem dJ28_remove_59 : decode cJ28_remove 59 = .ok (.getfield 1, 3) := dk_180 0 1 (dk_at dksJ28_remove_2 11 rfl rfl)
theorem dJ28_remove_62 : decode cJ28_remove 62 = .ok (.getfield 20, 3) := dk_180 0 20 (dk_at dksJ28_remove_2 14 rfl rfl)
theorem dJ28_remove_65 : decode cJ28_remove 65 = .ok (.putfield 25, 3) := dk_181 0 25 (dk_at dksJ28_remove_2 17 rfl rfl)
theorem dJ28_remove_68 : decode cJ28_remove 68 = .ok (.goto 12, 3) := dk_167 0 12 (dk_at dksJ28_remove_2 20 rfl rfl)
theorem dJ28_remove_71 : decode cJ28_remove 71 = .ok (.astore_n 1, 1) := dk_76 (dk_at dksJ28_remove_2 23 rfl rfl)
theorem dJ28_remove_72 : decode cJ28_remove 72 = .ok (.new 52, 3) := dk_187 0 52 (dk_at dksJ28_remove_3 0 rfl rfl)
theorem dJ28_remove_75 : decode cJ28_remove 75 = .ok (.dup, 1) := dk_89 (dk_at dksJ28_remove_3 3 rfl rfl)
theorem dJ28_remove_76 : decode cJ28_remove 76 = .ok (.invokespecial 54, 3) := dk_183 0 54 (dk_at dksJ28_remove_3 4 rfl rfl)
theorem dJ28_remove_79 : decode cJ28_remove 79 = .ok (.athrow, 1) := dk_191 (dk_at dksJ28_remove_3 7 rfl rfl)
theorem dJ28_remove_80 : decode cJ28_remove 80 = .ok (.return_, 1) := dk_177 (dk_at dksJ28_remove_3 8 rfl rfl)
theorem q144 : (Jvm.Cond.initialized "java/util/AbstractList$Itr") ∈ lw_all := lw_g (lw_at lw_m1 38 rfl) rfl
theorem q232 : (Jvm.Cond.fieldLink "java/util/AbstractList$Itr" (20 : Nat) "java/util/AbstractList" "modCount" "I") ∈ lw_all := lw_g (lw_at lw_m1 126 rfl) rfl
theorem q457 : (Jvm.Cond.instanceMethod ({ cls := "java/util/AbstractList$Itr", name := "hasNext", desc := "()Z" } : Jvm.MethodName)) ∈ lw_all := lw_g (lw_at lw_m2 111 rfl) rfl
theorem q458 : (Jvm.Cond.publicMethod ({ cls := "java/util/AbstractList$Itr", name := "hasNext", desc := "()Z" } : Jvm.MethodName)) ∈ lw_tbl := lw_at lw_m2 112 rfl
theorem q459 : (Jvm.Cond.code ({ cls := "java/util/AbstractList$Itr", name := "hasNext", desc := "()Z" } : Jvm.MethodName) prog_64_method_2_code (1 : Nat) (Option.some Jvm.ClassFile.FieldType.boolean)) ∈ lw_all := lw_g (lw_at lw_m2 113 rfl) rfl
theorem q460 : (Jvm.Cond.methodLink "java/util/AbstractList$Itr" (28 : Nat) ({ cls := "java/util/AbstractList", name := "size", desc := "()I" } : Jvm.MethodName)) ∈ lw_all := lw_g (lw_at lw_m2 114 rfl) rfl
theorem q540 : (Jvm.Cond.instanceMethod ({ cls := "java/util/AbstractList$Itr", name := "next", desc := "()Ljava/lang/Object;" } : Jvm.MethodName)) ∈ lw_all := lw_g (lw_at lw_m2 194 rfl) rfl
theorem q541 : (Jvm.Cond.publicMethod ({ cls := "java/util/AbstractList$Itr", name := "next", desc := "()Ljava/lang/Object;" } : Jvm.MethodName)) ∈ lw_tbl := lw_at lw_m2 195 rfl
theorem q542 : (Jvm.Cond.codeWith ({ cls := "java/util/AbstractList$Itr", name := "next", desc := "()Ljava/lang/Object;" } : Jvm.MethodName) prog_64_method_3_code (3 : Nat) (Option.some (Jvm.ClassFile.FieldType.object "java/lang/Object")) [((4 : Nat), (31 : Nat), (32 : Nat), (39 : Nat))]) ∈ lw_all := lw_g (lw_at lw_m2 196 rfl) rfl
theorem q543 : (Jvm.Cond.methodLink "java/util/AbstractList$Itr" (32 : Nat) ({ cls := "java/util/AbstractList$Itr", name := "checkForComodification", desc := "()V" } : Jvm.MethodName)) ∈ lw_all := lw_g (lw_at lw_m2 197 rfl) rfl
theorem q544 : (Jvm.Cond.instanceMethod ({ cls := "java/util/AbstractList$Itr", name := "checkForComodification", desc := "()V" } : Jvm.MethodName)) ∈ lw_all := lw_g (lw_at lw_m2 198 rfl) rfl
theorem q545 : (Jvm.Cond.sameMethod "java/util/AbstractList$Itr" "java/util/AbstractList$Itr" "checkForComodification" "()V") ∈ lw_all := lw_g (lw_at lw_m2 199 rfl) rfl
theorem q547 : (Jvm.Cond.code ({ cls := "java/util/AbstractList$Itr", name := "checkForComodification", desc := "()V" } : Jvm.MethodName) prog_64_method_5_code (1 : Nat) (Option.none : Option Jvm.ClassFile.FieldType)) ∈ lw_all := lw_g (lw_at lw_m2 201 rfl) rfl
theorem q548 : (Jvm.Cond.methodLink "java/util/AbstractList$Itr" (35 : Nat) ({ cls := "java/util/AbstractList", name := "get", desc := "(I)Ljava/lang/Object;" } : Jvm.MethodName)) ∈ lw_all := lw_g (lw_at lw_m2 202 rfl) rfl
theorem q877 : (Jvm.Cond.classLink "java/util/AbstractList$Itr" (41 : Nat) "java/util/NoSuchElementException") ∈ lw_all := lw_g (lw_at lw_m4 51 rfl) rfl
theorem q886 : (Jvm.Cond.methodLink "java/util/AbstractList$Itr" (43 : Nat) ({ cls := "java/util/NoSuchElementException", name := "<init>", desc := "(Ljava/lang/Throwable;)V" } : Jvm.MethodName)) ∈ lw_all := lw_g (lw_at lw_m4 60 rfl) rfl
theorem q1801 : (Jvm.Cond.instanceMethod ({ cls := "java/util/AbstractList$Itr", name := "remove", desc := "()V" } : Jvm.MethodName)) ∈ lw_all := lw_g (lw_at lw_m8 15 rfl) rfl
theorem q1802 : (Jvm.Cond.publicMethod ({ cls := "java/util/AbstractList$Itr", name := "remove", desc := "()V" } : Jvm.MethodName)) ∈ lw_tbl := lw_at lw_m8 16 rfl
theorem q1803 : (Jvm.Cond.codeWith ({ cls := "java/util/AbstractList$Itr", name := "remove", desc := "()V" } : Jvm.MethodName) prog_64_method_4_code (2 : Nat) (Option.none : Option Jvm.ClassFile.FieldType) [((19 : Nat), (68 : Nat), (71 : Nat), (39 : Nat))]) ∈ lw_all := lw_g (lw_at lw_m8 17 rfl) rfl
theorem q1804 : (Jvm.Cond.classLink "java/util/AbstractList$Itr" (46 : Nat) "java/lang/IllegalStateException") ∈ lw_all := lw_g (lw_at lw_m8 18 rfl) rfl
theorem q1813 : (Jvm.Cond.methodLink "java/util/AbstractList$Itr" (48 : Nat) ({ cls := "java/lang/IllegalStateException", name := "<init>", desc := "()V" } : Jvm.MethodName)) ∈ lw_all := lw_g (lw_at lw_m8 27 rfl) rfl
theorem q1819 : (Jvm.Cond.methodLink "java/util/AbstractList$Itr" (49 : Nat) ({ cls := "java/util/AbstractList", name := "remove", desc := "(I)Ljava/lang/Object;" } : Jvm.MethodName)) ∈ lw_all := lw_g (lw_at lw_m8 33 rfl) rfl
theorem q1825 : (Jvm.Cond.classLink "java/util/AbstractList$Itr" (52 : Nat) "java/util/ConcurrentModificationException") ∈ lw_all := lw_g (lw_at lw_m8 39 rfl) rfl
theorem q1834 : (Jvm.Cond.methodLink "java/util/AbstractList$Itr" (54 : Nat) ({ cls := "java/util/ConcurrentModificationException", name := "<init>", desc := "()V" } : Jvm.MethodName)) ∈ lw_all := lw_g (lw_at lw_m8 48 rfl) rfl
theorem q4047 : (Jvm.Cond.fieldLink "java/util/AbstractList$Itr" (13 : Nat) "java/util/AbstractList$Itr" "cursor" "I") ∈ lw_all := lw_g (lw_at lw_m17 101 rfl) rfl
theorem q4048 : (Jvm.Cond.fieldLink "java/util/AbstractList$Itr" (1 : Nat) "java/util/AbstractList$Itr" "this$0" "Ljava/util/AbstractList;") ∈ lw_all := lw_g (lw_at lw_m17 102 rfl) rfl
theorem q4049 : (Jvm.Cond.fieldLink "java/util/AbstractList$Itr" (25 : Nat) "java/util/AbstractList$Itr" "expectedModCount" "I") ∈ lw_all := lw_g (lw_at lw_m17 103 rfl) rfl
theorem q4050 : (Jvm.Cond.fieldLink "java/util/AbstractList$Itr" (17 : Nat) "java/util/AbstractList$Itr" "lastRet" "I") ∈ lw_all := lw_g (lw_at lw_m17 104 rfl) rfl

/-! java/util/ArrayList$ListItr -/
set_option maxRecDepth 100000
def RJ29 : String := "java/util/ArrayList$ListItr"
def TJ29 : u_T := fun k => match k with
  | 0 => ("java/util/ArrayList$Itr", "cursor", "I", false)
  | 1 => ("java/util/ArrayList$Itr", "lastRet", "I", false)
  | 2 => ("java/util/ArrayList$Itr", "expectedModCount", "I", false)
  | 3 => ("java/util/ArrayList$Itr", "this$0", "Ljava/util/ArrayList;", true)
  | _ => ("java/util/ArrayList$ListItr", "this$0", "Ljava/util/ArrayList;", true)
def tyJ29 : Nat → FieldType := fun k => match k with
  | 0 => .int
  | 1 => .int
  | 2 => .int
  | 3 => .object "java/util/ArrayList"
  | _ => .object "java/util/ArrayList"
abbrev wsJ290 : List Cond := u_ws RJ29 TJ29 5
-- two fields of one name: no nmJ29
theorem tyJ29_ok : ∀ k, k < 5 → parseFieldDescriptor (TJ29 k).2.2.1 = some (tyJ29 k) := by decide +kernel
abbrev cJ29_init : ByteArray := prog_73_method_1_code
def yJ29_init : MethodName := ⟨RJ29, "<init>", "(Ljava/util/ArrayList;I)V"⟩
def dkwJ29_init_0 : List UInt8 := [42, 43, 181, 0, 1, 42, 43, 183, 0, 7, 42, 28, 181, 0, 13, 177]
abbrev dktJ29_init_0 : List UInt8 := dkwJ29_init_0 ++ []
theorem dksJ29_init_0 : cJ29_init.data.toList.drop 0 = dktJ29_init_0 := by decide +kernel
theorem dJ29_init_0 : decode cJ29_init 0 = .ok (.aload_n 0, 1) := dk_42 (dk_at dksJ29_init_0 0 rfl rfl)
theorem dJ29_init_1 : decode cJ29_init 1 = .ok (.aload_n 1, 1) := dk_43 (dk_at dksJ29_init_0 1 rfl rfl)
theorem dJ29_init_2 : decode cJ29_init 2 = .ok (.putfield 1, 3) := dk_181 0 1 (dk_at dksJ29_init_0 2 rfl rfl)
theorem dJ29_init_5 : decode cJ29_init 5 = .ok (.aload_n 0, 1) := dk_42 (dk_at dksJ29_init_0 5 rfl rfl)
theorem dJ29_init_6 : decode cJ29_init 6 = .ok (.aload_n 1, 1) := dk_43 (dk_at dksJ29_init_0 6 rfl rfl)
theorem dJ29_init_7 : decode cJ29_init 7 = .ok (.invokespecial 7, 3) := dk_183 0 7 (dk_at dksJ29_init_0 7 rfl rfl)
theorem dJ29_init_10 : decode cJ29_init 10 = .ok (.aload_n 0, 1) := dk_42 (dk_at dksJ29_init_0 10 rfl rfl)
theorem dJ29_init_11 : decode cJ29_init 11 = .ok (.iload_n 2, 1) := dk_28 (dk_at dksJ29_init_0 11 rfl rfl)
theorem dJ29_init_12 : decode cJ29_init 12 = .ok (.putfield 13, 3) := dk_181 0 13 (dk_at dksJ29_init_0 12 rfl rfl)
theorem dJ29_init_15 : decode cJ29_init 15 = .ok (.return_, 1) := dk_177 (dk_at dksJ29_init_0 15 rfl rfl)
theorem q146 : (Jvm.Cond.initialized "java/util/ArrayList$ListItr") ∈ lw_all := lw_g (lw_at lw_m1 40 rfl) rfl
theorem q424 : (Jvm.Cond.fieldLink "java/util/ArrayList$ListItr" (13 : Nat) "java/util/ArrayList$ListItr" "cursor" "I") ∈ lw_all := lw_g (lw_at lw_m2 78 rfl) rfl
theorem q425 : (Jvm.Cond.sameField "java/util/ArrayList$ListItr" "java/util/ArrayList$Itr" "cursor" "I") ∈ lw_all := lw_g (lw_at lw_m2 79 rfl) rfl
theorem q479 : (Jvm.Cond.castable "java/util/ArrayList$ListItr" "java/util/Iterator") ∈ lw_tbl := lw_at lw_m2 133 rfl
theorem q480 : (Jvm.Cond.selects "java/util/ArrayList$ListItr" ({ cls := "java/util/Iterator", name := "hasNext", desc := "()Z" } : Jvm.MethodName) ({ cls := "java/util/ArrayList$Itr", name := "hasNext", desc := "()Z" } : Jvm.MethodName)) ∈ lw_all := lw_g (lw_at lw_m2 134 rfl) rfl
theorem q481 : (Jvm.Cond.unhidden "java/util/ArrayList$ListItr" "hasNext" "()Z") ∈ lw_tbl := lw_at lw_m2 135 rfl
theorem q960 : (Jvm.Cond.selects "java/util/ArrayList$ListItr" ({ cls := "java/lang/Object", name := "getClass", desc := "()Ljava/lang/Class;" } : Jvm.MethodName) ({ cls := "java/lang/Object", name := "getClass", desc := "()Ljava/lang/Class;" } : Jvm.MethodName)) ∈ lw_all := lw_g (lw_at lw_m4 134 rfl) rfl
theorem q1045 : (Jvm.Cond.selects "java/util/ArrayList$ListItr" ({ cls := "java/util/ArrayList$Itr", name := "checkForComodification", desc := "()V" } : Jvm.MethodName) ({ cls := "java/util/ArrayList$Itr", name := "checkForComodification", desc := "()V" } : Jvm.MethodName)) ∈ lw_all := lw_g (lw_at lw_m4 219 rfl) rfl
theorem q1049 : (Jvm.Cond.selects "java/util/ArrayList$ListItr" ({ cls := "java/util/Iterator", name := "next", desc := "()Ljava/lang/Object;" } : Jvm.MethodName) ({ cls := "java/util/ArrayList$Itr", name := "next", desc := "()Ljava/lang/Object;" } : Jvm.MethodName)) ∈ lw_all := lw_g (lw_at lw_m4 223 rfl) rfl
theorem q1050 : (Jvm.Cond.unhidden "java/util/ArrayList$ListItr" "next" "()Ljava/lang/Object;") ∈ lw_tbl := lw_at lw_m4 224 rfl
theorem q1352 : (Jvm.Cond.instantiable "java/util/ArrayList$ListItr" (5 : Nat)) ∈ lw_all := lw_g (lw_at lw_m6 46 rfl) rfl
theorem q1354 : (Jvm.Cond.instanceMethod ({ cls := "java/util/ArrayList$ListItr", name := "<init>", desc := "(Ljava/util/ArrayList;I)V" } : Jvm.MethodName)) ∈ lw_all := lw_g (lw_at lw_m6 48 rfl) rfl
theorem q1355 : (Jvm.Cond.code ({ cls := "java/util/ArrayList$ListItr", name := "<init>", desc := "(Ljava/util/ArrayList;I)V" } : Jvm.MethodName) prog_73_method_1_code (3 : Nat) (Option.none : Option Jvm.ClassFile.FieldType)) ∈ lw_all := lw_g (lw_at lw_m6 49 rfl) rfl
theorem q1356 : (Jvm.Cond.methodLink "java/util/ArrayList$ListItr" (7 : Nat) ({ cls := "java/util/ArrayList$Itr", name := "<init>", desc := "(Ljava/util/ArrayList;)V" } : Jvm.MethodName)) ∈ lw_all := lw_g (lw_at lw_m6 50 rfl) rfl
theorem q1357 : (Jvm.Cond.fieldLink "java/util/ArrayList$ListItr" (1 : Nat) "java/util/ArrayList$ListItr" "this$0" "Ljava/util/ArrayList;") ∈ lw_all := lw_g (lw_at lw_m6 51 rfl) rfl
theorem q1358 : (Jvm.Cond.laysFinal "java/util/ArrayList$ListItr" "java/util/ArrayList$ListItr" "this$0" "Ljava/util/ArrayList;") ∈ lw_all := lw_g (lw_at lw_m6 52 rfl) rfl
theorem q1359 : (Jvm.Cond.soleField "java/util/ArrayList$ListItr" "this$0") ∈ lw_all := lw_g (lw_at lw_m6 53 rfl) rfl
theorem q1360 : (Jvm.Cond.lays "java/util/ArrayList$ListItr" "java/util/ArrayList$Itr" "cursor" "I") ∈ lw_all := lw_g (lw_at lw_m6 54 rfl) rfl
theorem q1361 : (Jvm.Cond.lays "java/util/ArrayList$ListItr" "java/util/ArrayList$Itr" "lastRet" "I") ∈ lw_all := lw_g (lw_at lw_m6 55 rfl) rfl
theorem q1362 : (Jvm.Cond.lays "java/util/ArrayList$ListItr" "java/util/ArrayList$Itr" "expectedModCount" "I") ∈ lw_all := lw_g (lw_at lw_m6 56 rfl) rfl
theorem q1363 : (Jvm.Cond.laysFinal "java/util/ArrayList$ListItr" "java/util/ArrayList$Itr" "this$0" "Ljava/util/ArrayList;") ∈ lw_all := lw_g (lw_at lw_m6 57 rfl) rfl
theorem q1364 : (Jvm.Cond.superclass "java/util/ArrayList$ListItr" "java/util/ArrayList$Itr") ∈ lw_all := lw_g (lw_at lw_m6 58 rfl) rfl
theorem q1873 : (Jvm.Cond.selects "java/util/ArrayList$ListItr" ({ cls := "java/util/Iterator", name := "remove", desc := "()V" } : Jvm.MethodName) ({ cls := "java/util/ArrayList$Itr", name := "remove", desc := "()V" } : Jvm.MethodName)) ∈ lw_all := lw_g (lw_at lw_m8 87 rfl) rfl
theorem q1874 : (Jvm.Cond.unhidden "java/util/ArrayList$ListItr" "remove" "()V") ∈ lw_tbl := lw_at lw_m8 88 rfl
theorem q3994 : (Jvm.Cond.castable "java/util/ArrayList$ListItr" "java/lang/Object") ∈ lw_tbl := lw_at lw_m17 48 rfl
theorem in_J29 : ∀ w ∈ wsJ290, w ∈ lw_all := lw_in wsJ290 [1360, 1361, 1362, 1363, 1358] (by decide +kernel) (by decide +kernel)

/-! java/util/LinkedList$ListItr -/
set_option maxRecDepth 100000
def RJ30 : String := "java/util/LinkedList$ListItr"
def TJ30 : u_T := fun k => match k with
  | 0 => ("java/util/LinkedList$ListItr", "lastReturned", "Ljava/util/LinkedList$Node;", false)
  | 1 => ("java/util/LinkedList$ListItr", "next", "Ljava/util/LinkedList$Node;", false)
  | 2 => ("java/util/LinkedList$ListItr", "nextIndex", "I", false)
  | 3 => ("java/util/LinkedList$ListItr", "expectedModCount", "I", false)
  | _ => ("java/util/LinkedList$ListItr", "this$0", "Ljava/util/LinkedList;", true)
def tyJ30 : Nat → FieldType := fun k => match k with
  | 0 => .object "java/util/LinkedList$Node"
  | 1 => .object "java/util/LinkedList$Node"
  | 2 => .int
  | 3 => .int
  | _ => .object "java/util/LinkedList"
abbrev wsJ300 : List Cond := u_ws RJ30 TJ30 5
theorem nmJ30 : ∀ a, a < 5 → ∀ b, b < 5 → a ≠ b → (TJ30 a).2.1 ≠ (TJ30 b).2.1 := by decide +kernel
theorem tyJ30_ok : ∀ k, k < 5 → parseFieldDescriptor (TJ30 k).2.2.1 = some (tyJ30 k) := by decide +kernel
abbrev cJ30_hasNext : ByteArray := prog_87_method_2_code
def yJ30_hasNext : MethodName := ⟨RJ30, "hasNext", "()Z"⟩
def dkwJ30_hasNext_0 : List UInt8 := [42, 180, 0, 33, 42, 180, 0, 1, 180, 0, 22, 162, 0, 7, 4, 167, 0, 4, 3, 172]
abbrev dktJ30_hasNext_0 : List UInt8 := dkwJ30_hasNext_0 ++ []
theorem dksJ30_hasNext_0 : cJ30_hasNext.data.toList.drop 0 = dktJ30_hasNext_0 := by decide +kernel
theorem dJ30_hasNext_0 : decode cJ30_hasNext 0 = .ok (.aload_n 0, 1) := dk_42 (dk_at dksJ30_hasNext_0 0 rfl rfl)
theorem dJ30_hasNext_1 : decode cJ30_hasNext 1 = .ok (.getfield 33, 3) := dk_180 0 33 (dk_at dksJ30_hasNext_0 1 rfl rfl)
theorem dJ30_hasNext_4 : decode cJ30_hasNext 4 = .ok (.aload_n 0, 1) := dk_42 (dk_at dksJ30_hasNext_0 4 rfl rfl)
theorem dJ30_hasNext_5 : decode cJ30_hasNext 5 = .ok (.getfield 1, 3) := dk_180 0 1 (dk_at dksJ30_hasNext_0 5 rfl rfl)
theorem dJ30_hasNext_8 : decode cJ30_hasNext 8 = .ok (.getfield 22, 3) := dk_180 0 22 (dk_at dksJ30_hasNext_0 8 rfl rfl)
theorem dJ30_hasNext_11 : decode cJ30_hasNext 11 = .ok (.if_icmp .ge 7, 3) := dk_162 0 7 (dk_at dksJ30_hasNext_0 11 rfl rfl)
theorem dJ30_hasNext_14 : decode cJ30_hasNext 14 = .ok (.iconst 1, 1) := dk_4 (dk_at dksJ30_hasNext_0 14 rfl rfl)
theorem dJ30_hasNext_15 : decode cJ30_hasNext 15 = .ok (.goto 4, 3) := dk_167 0 4 (dk_at dksJ30_hasNext_0 15 rfl rfl)
theorem dJ30_hasNext_18 : decode cJ30_hasNext 18 = .ok (.iconst 0, 1) := dk_3 (dk_at dksJ30_hasNext_0 18 rfl rfl)
theorem dJ30_hasNext_19 : decode cJ30_hasNext 19 = .ok (.ireturn, 1) := dk_172 (dk_at dksJ30_hasNext_0 19 rfl rfl)
abbrev cJ30_next : ByteArray := prog_87_method_3_code
def yJ30_next : MethodName := ⟨RJ30, "next", "()Ljava/lang/Object;"⟩
def dkwJ30_next_2 : List UInt8 := [42, 180, 0, 46, 180, 0, 52, 176]
abbrev dktJ30_next_2 : List UInt8 := dkwJ30_next_2 ++ []
def dkwJ30_next_1 : List UInt8 := [181, 0, 46, 42, 42, 180, 0, 29, 180, 0, 49, 181, 0, 29, 42, 89, 180, 0, 33, 4, 96, 181, 0, 33]
abbrev dktJ30_next_1 : List UInt8 := dkwJ30_next_1 ++ dktJ30_next_2
def dkwJ30_next_0 : List UInt8 := [42, 182, 0, 36, 42, 182, 0, 39, 154, 0, 11, 187, 0, 43, 89, 183, 0, 45, 191, 42, 42, 180, 0, 29]
abbrev dktJ30_next_0 : List UInt8 := dkwJ30_next_0 ++ dktJ30_next_1
theorem dksJ30_next_0 : cJ30_next.data.toList.drop 0 = dktJ30_next_0 := by decide +kernel
theorem dksJ30_next_1 : cJ30_next.data.toList.drop 24 = dktJ30_next_1 := dk_seg dksJ30_next_0 24 rfl rfl
theorem dksJ30_next_2 : cJ30_next.data.toList.drop 48 = dktJ30_next_2 := dk_seg dksJ30_next_1 24 rfl rfl
theorem dJ30_next_0 : decode cJ30_next 0 = .ok (.aload_n 0, 1) := dk_42 (dk_at dksJ30_next_0 0 rfl rfl)
theorem dJ30_next_1 : decode cJ30_next 1 = .ok (.invokevirtual 36, 3) := dk_182 0 36 (dk_at dksJ30_next_0 1 rfl rfl)
theorem dJ30_next_4 : decode cJ30_next 4 = .ok (.aload_n 0, 1) := dk_42 (dk_at dksJ30_next_0 4 rfl rfl)
theorem dJ30_next_5 : decode cJ30_next 5 = .ok (.invokevirtual 39, 3) := dk_182 0 39 (dk_at dksJ30_next_0 5 rfl rfl)
theorem dJ30_next_8 : decode cJ30_next 8 = .ok (.ifCond .ne 11, 3) := dk_154 0 11 (dk_at dksJ30_next_0 8 rfl rfl)
theorem dJ30_next_11 : decode cJ30_next 11 = .ok (.new 43, 3) := dk_187 0 43 (dk_at dksJ30_next_0 11 rfl rfl)
theorem dJ30_next_14 : decode cJ30_next 14 = .ok (.dup, 1) := dk_89 (dk_at dksJ30_next_0 14 rfl rfl)
theorem dJ30_next_15 : decode cJ30_next 15 = .ok (.invokespecial 45, 3) := dk_183 0 45 (dk_at dksJ30_next_0 15 rfl rfl)
theorem dJ30_next_18 : decode cJ30_next 18 = .ok (.athrow, 1) := dk_191 (dk_at dksJ30_next_0 18 rfl rfl)
theorem dJ30_next_19 : decode cJ30_next 19 = .ok (.aload_n 0, 1) := dk_42 (dk_at dksJ30_next_0 19 rfl rfl)
theorem dJ30_next_20 : decode cJ30_next 20 = .ok (.aload_n 0, 1) := dk_42 (dk_at dksJ30_next_0 20 rfl rfl)
theorem dJ30_next_21 : decode cJ30_next 21 = .ok (.getfield 29, 3) := dk_180 0 29 (dk_at dksJ30_next_0 21 rfl rfl)
theorem dJ30_next_24 : decode cJ30_next 24 = .ok (.putfield 46, 3) := dk_181 0 46 (dk_at dksJ30_next_1 0 rfl rfl)
theorem dJ30_next_27 : decode cJ30_next 27 = .ok (.aload_n 0, 1) := dk_42 (dk_at dksJ30_next_1 3 rfl rfl)
theorem dJ30_next_28 : decode cJ30_next 28 = .ok (.aload_n 0, 1) := dk_42 (dk_at dksJ30_next_1 4 rfl rfl)
theorem dJ30_next_29 : decode cJ30_next 29 = .ok (.getfield 29, 3) := dk_180 0 29 (dk_at dksJ30_next_1 5 rfl rfl)
theorem dJ30_next_32 : decode cJ30_next 32 = .ok (.getfield 49, 3) := dk_180 0 49 (dk_at dksJ30_next_1 8 rfl rfl)
theorem dJ30_next_35 : decode cJ30_next 35 = .ok (.putfield 29, 3) := dk_181 0 29 (dk_at dksJ30_next_1 11 rfl rfl)
theorem dJ30_next_38 : decode cJ30_next 38 = .ok (.aload_n 0, 1) := dk_42 (dk_at dksJ30_next_1 14 rfl rfl)
theorem dJ30_next_39 : decode cJ30_next 39 = .ok (.dup, 1) := dk_89 (dk_at dksJ30_next_1 15 rfl rfl)
theorem dJ30_next_40 : decode cJ30_next 40 = .ok (.getfield 33, 3) := dk_180 0 33 (dk_at dksJ30_next_1 16 rfl rfl)
theorem dJ30_next_43 : decode cJ30_next 43 = .ok (.iconst 1, 1) := dk_4 (dk_at dksJ30_next_1 19 rfl rfl)
theorem dJ30_next_44 : decode cJ30_next 44 = .ok (.iadd, 1) := dk_96 (dk_at dksJ30_next_1 20 rfl rfl)
theorem dJ30_next_45 : decode cJ30_next 45 = .ok (.putfield 33, 3) := dk_181 0 33 (dk_at dksJ30_next_1 21 rfl rfl)
theorem dJ30_next_48 : decode cJ30_next 48 = .ok (.aload_n 0, 1) := dk_42 (dk_at dksJ30_next_2 0 rfl rfl)
theorem dJ30_next_49 : decode cJ30_next 49 = .ok (.getfield 46, 3) := dk_180 0 46 (dk_at dksJ30_next_2 1 rfl rfl)
theorem dJ30_next_52 : decode cJ30_next 52 = .ok (.getfield 52, 3) := dk_180 0 52 (dk_at dksJ30_next_2 4 rfl rfl)
theorem dJ30_next_55 : decode cJ30_next 55 = .ok (.areturn, 1) := dk_176 (dk_at dksJ30_next_2 7 rfl rfl)
abbrev cJ30_checkForComodification : ByteArray := prog_87_method_12_code
def yJ30_checkForComodification : MethodName := ⟨RJ30, "checkForComodification", "()V"⟩
def dkwJ30_checkForComodification_0 : List UInt8 := [42, 180, 0, 1, 180, 0, 13, 42, 180, 0, 19, 159, 0, 11, 187, 0, 91, 89, 183, 0, 93, 191, 177]
abbrev dktJ30_checkForComodification_0 : List UInt8 := dkwJ30_checkForComodification_0 ++ []
theorem dksJ30_checkForComodification_0 : cJ30_checkForComodification.data.toList.drop 0 = dktJ30_checkForComodification_0 := by decide +kernel
theorem dJ30_checkForComodification_0 : decode cJ30_checkForComodification 0 = .ok (.aload_n 0, 1) := dk_42 (dk_at dksJ30_checkForComodification_0 0 rfl rfl)
theorem dJ30_checkForComodification_1 : decode cJ30_checkForComodification 1 = .ok (.getfield 1, 3) := dk_180 0 1 (dk_at dksJ30_checkForComodification_0 1 rfl rfl)
theorem dJ30_checkForComodification_4 : decode cJ30_checkForComodification 4 = .ok (.getfield 13, 3) := dk_180 0 13 (dk_at dksJ30_checkForComodification_0 4 rfl rfl)
theorem dJ30_checkForComodification_7 : decode cJ30_checkForComodification 7 = .ok (.aload_n 0, 1) := dk_42 (dk_at dksJ30_checkForComodification_0 7 rfl rfl)
theorem dJ30_checkForComodification_8 : decode cJ30_checkForComodification 8 = .ok (.getfield 19, 3) := dk_180 0 19 (dk_at dksJ30_checkForComodification_0 8 rfl rfl)
theorem dJ30_checkForComodification_11 : decode cJ30_checkForComodification 11 = .ok (.if_icmp .eq 11, 3) := dk_159 0 11 (dk_at dksJ30_checkForComodification_0 11 rfl rfl)
theorem dJ30_checkForComodification_14 : decode cJ30_checkForComodification 14 = .ok (.new 91, 3) := dk_187 0 91 (dk_at dksJ30_checkForComodification_0 14 rfl rfl)
theorem dJ30_checkForComodification_17 : decode cJ30_checkForComodification 17 = .ok (.dup, 1) := dk_89 (dk_at dksJ30_checkForComodification_0 17 rfl rfl)
theorem dJ30_checkForComodification_18 : decode cJ30_checkForComodification 18 = .ok (.invokespecial 93, 3) := dk_183 0 93 (dk_at dksJ30_checkForComodification_0 18 rfl rfl)
theorem dJ30_checkForComodification_21 : decode cJ30_checkForComodification 21 = .ok (.athrow, 1) := dk_191 (dk_at dksJ30_checkForComodification_0 21 rfl rfl)
theorem dJ30_checkForComodification_22 : decode cJ30_checkForComodification 22 = .ok (.return_, 1) := dk_177 (dk_at dksJ30_checkForComodification_0 22 rfl rfl)
abbrev cJ30_init : ByteArray := prog_87_method_1_code
def yJ30_init : MethodName := ⟨RJ30, "<init>", "(Ljava/util/LinkedList;I)V"⟩
def dkwJ30_init_1 : List UInt8 := [180, 0, 22, 160, 0, 7, 1, 167, 0, 8, 43, 28, 182, 0, 25, 181, 0, 29, 42, 28, 181, 0, 33, 177]
abbrev dktJ30_init_1 : List UInt8 := dkwJ30_init_1 ++ []
def dkwJ30_init_0 : List UInt8 := [42, 43, 181, 0, 1, 42, 183, 0, 7, 42, 42, 180, 0, 1, 180, 0, 13, 181, 0, 19, 42, 28, 43]
abbrev dktJ30_init_0 : List UInt8 := dkwJ30_init_0 ++ dktJ30_init_1
theorem dksJ30_init_0 : cJ30_init.data.toList.drop 0 = dktJ30_init_0 := by decide +kernel
theorem dksJ30_init_1 : cJ30_init.data.toList.drop 23 = dktJ30_init_1 := dk_seg dksJ30_init_0 23 rfl rfl
theorem dJ30_init_0 : decode cJ30_init 0 = .ok (.aload_n 0, 1) := dk_42 (dk_at dksJ30_init_0 0 rfl rfl)
theorem dJ30_init_1 : decode cJ30_init 1 = .ok (.aload_n 1, 1) := dk_43 (dk_at dksJ30_init_0 1 rfl rfl)
theorem dJ30_init_2 : decode cJ30_init 2 = .ok (.putfield 1, 3) := dk_181 0 1 (dk_at dksJ30_init_0 2 rfl rfl)
theorem dJ30_init_5 : decode cJ30_init 5 = .ok (.aload_n 0, 1) := dk_42 (dk_at dksJ30_init_0 5 rfl rfl)
theorem dJ30_init_6 : decode cJ30_init 6 = .ok (.invokespecial 7, 3) := dk_183 0 7 (dk_at dksJ30_init_0 6 rfl rfl)
theorem dJ30_init_9 : decode cJ30_init 9 = .ok (.aload_n 0, 1) := dk_42 (dk_at dksJ30_init_0 9 rfl rfl)
theorem dJ30_init_10 : decode cJ30_init 10 = .ok (.aload_n 0, 1) := dk_42 (dk_at dksJ30_init_0 10 rfl rfl)
theorem dJ30_init_11 : decode cJ30_init 11 = .ok (.getfield 1, 3) := dk_180 0 1 (dk_at dksJ30_init_0 11 rfl rfl)
theorem dJ30_init_14 : decode cJ30_init 14 = .ok (.getfield 13, 3) := dk_180 0 13 (dk_at dksJ30_init_0 14 rfl rfl)
theorem dJ30_init_17 : decode cJ30_init 17 = .ok (.putfield 19, 3) := dk_181 0 19 (dk_at dksJ30_init_0 17 rfl rfl)
theorem dJ30_init_20 : decode cJ30_init 20 = .ok (.aload_n 0, 1) := dk_42 (dk_at dksJ30_init_0 20 rfl rfl)
theorem dJ30_init_21 : decode cJ30_init 21 = .ok (.iload_n 2, 1) := dk_28 (dk_at dksJ30_init_0 21 rfl rfl)
theorem dJ30_init_22 : decode cJ30_init 22 = .ok (.aload_n 1, 1) := dk_43 (dk_at dksJ30_init_0 22 rfl rfl)
theorem dJ30_init_23 : decode cJ30_init 23 = .ok (.getfield 22, 3) := dk_180 0 22 (dk_at dksJ30_init_1 0 rfl rfl)
theorem dJ30_init_26 : decode cJ30_init 26 = .ok (.if_icmp .ne 7, 3) := dk_160 0 7 (dk_at dksJ30_init_1 3 rfl rfl)
theorem dJ30_init_29 : decode cJ30_init 29 = .ok (.aconst_null, 1) := dk_1 (dk_at dksJ30_init_1 6 rfl rfl)
theorem dJ30_init_30 : decode cJ30_init 30 = .ok (.goto 8, 3) := dk_167 0 8 (dk_at dksJ30_init_1 7 rfl rfl)
theorem dJ30_init_33 : decode cJ30_init 33 = .ok (.aload_n 1, 1) := dk_43 (dk_at dksJ30_init_1 10 rfl rfl)
theorem dJ30_init_34 : decode cJ30_init 34 = .ok (.iload_n 2, 1) := dk_28 (dk_at dksJ30_init_1 11 rfl rfl)
theorem dJ30_init_35 : decode cJ30_init 35 = .ok (.invokevirtual 25, 3) := dk_182 0 25 (dk_at dksJ30_init_1 12 rfl rfl)
theorem dJ30_init_38 : decode cJ30_init 38 = .ok (.putfield 29, 3) := dk_181 0 29 (dk_at dksJ30_init_1 15 rfl rfl)
theorem dJ30_init_41 : decode cJ30_init 41 = .ok (.aload_n 0, 1) := dk_42 (dk_at dksJ30_init_1 18 rfl rfl)
theorem dJ30_init_42 : decode cJ30_init 42 = .ok (.iload_n 2, 1) := dk_28 (dk_at dksJ30_init_1 19 rfl rfl)
theorem dJ30_init_43 : decode cJ30_init 43 = .ok (.putfield 33, 3) := dk_181 0 33 (dk_at dksJ30_init_1 20 rfl rfl)
theorem dJ30_init_46 : decode cJ30_init 46 = .ok (.return_, 1) := dk_177 (dk_at dksJ30_init_1 23 rfl rfl)
abbrev cJ30_remove : ByteArray := prog_87_method_8_code
def yJ30_remove : MethodName := ⟨RJ30, "remove", "()V"⟩
def dkwJ30_remove_3 : List UInt8 := [181, 0, 46, 42, 89, 180, 0, 19, 4, 96, 181, 0, 19, 177]
abbrev dktJ30_remove_3 : List UInt8 := dkwJ30_remove_3 ++ []
def dkwJ30_remove_2 : List UInt8 := [166, 0, 11, 42, 43, 181, 0, 29, 167, 0, 13, 42, 89, 180, 0, 33, 4, 100, 181, 0, 33, 42, 1]
abbrev dktJ30_remove_2 : List UInt8 := dkwJ30_remove_2 ++ dktJ30_remove_3
def dkwJ30_remove_1 : List UInt8 := [180, 0, 49, 76, 42, 180, 0, 1, 42, 180, 0, 46, 182, 0, 68, 87, 42, 180, 0, 29, 42, 180, 0, 46]
abbrev dktJ30_remove_1 : List UInt8 := dkwJ30_remove_1 ++ dktJ30_remove_2
def dkwJ30_remove_0 : List UInt8 := [42, 182, 0, 36, 42, 180, 0, 46, 199, 0, 11, 187, 0, 65, 89, 183, 0, 67, 191, 42, 180, 0, 46]
abbrev dktJ30_remove_0 : List UInt8 := dkwJ30_remove_0 ++ dktJ30_remove_1
theorem dksJ30_remove_0 : cJ30_remove.data.toList.drop 0 = dktJ30_remove_0 := by decide +kernel
theorem dksJ30_remove_1 : cJ30_remove.data.toList.drop 23 = dktJ30_remove_1 := dk_seg dksJ30_remove_0 23 rfl rfl
theorem dksJ30_remove_2 : cJ30_remove.data.toList.drop 47 = dktJ30_remove_2 := dk_seg dksJ30_remove_1 24 rfl rfl
theorem dksJ30_remove_3 : cJ30_remove.data.toList.drop 70 = dktJ30_remove_3 := dk_seg dksJ30_remove_2 23 rfl rfl
theorem dJ30_remove_0 : decode cJ30_remove 0 = .ok (.aload_n 0, 1) := dk_42 (dk_at dksJ30_remove_0 0 rfl rfl)
theorem dJ30_remove_1 : decode cJ30_remove 1 = .ok (.invokevirtual 36, 3) := dk_182 0 36 (dk_at dksJ30_remove_0 1 rfl rfl)
theorem dJ30_remove_4 : decode cJ30_remove 4 = .ok (.aload_n 0, 1) := dk_42 (dk_at dksJ30_remove_0 4 rfl rfl)
theorem dJ30_remove_5 : decode cJ30_remove 5 = .ok (.getfield 46, 3) := dk_180 0 46 (dk_at dksJ30_remove_0 5 rfl rfl)
theorem dJ30_remove_8 : decode cJ30_remove 8 = .ok (.ifnonnull 11, 3) := dk_199 0 11 (dk_at dksJ30_remove_0 8 rfl rfl)
theorem dJ30_remove_11 : decode cJ30_remove 11 = .ok (.new 65, 3) := dk_187 0 65 (dk_at dksJ30_remove_0 11 rfl rfl)
theorem dJ30_remove_14 : decode cJ30_remove 14 = .ok (.dup, 1) := dk_89 (dk_at dksJ30_remove_0 14 rfl rfl)
theorem dJ30_remove_15 : decode cJ30_remove 15 = .ok (.invokespecial 67, 3) := dk_183 0 67 (dk_at dksJ30_remove_0 15 rfl rfl)
theorem dJ30_remove_18 : decode cJ30_remove 18 = .ok (.athrow, 1) := dk_191 (dk_at dksJ30_remove_0 18 rfl rfl)
theorem dJ30_remove_19 : decode cJ30_remove 19 = .ok (.aload_n 0, 1) := dk_42 (dk_at dksJ30_remove_0 19 rfl rfl)
theorem dJ30_remove_20 : decode cJ30_remove 20 = .ok (.getfield 46, 3) := dk_180 0 46 (dk_at dksJ30_remove_0 20 rfl rfl)
theorem dJ30_remove_23 : decode cJ30_remove 23 = .ok (.getfield 49, 3) := dk_180 0 49 (dk_at dksJ30_remove_1 0 rfl rfl)
theorem dJ30_remove_26 : decode cJ30_remove 26 = .ok (.astore_n 1, 1) := dk_76 (dk_at dksJ30_remove_1 3 rfl rfl)
theorem dJ30_remove_27 : decode cJ30_remove 27 = .ok (.aload_n 0, 1) := dk_42 (dk_at dksJ30_remove_1 4 rfl rfl)
theorem dJ30_remove_28 : decode cJ30_remove 28 = .ok (.getfield 1, 3) := dk_180 0 1 (dk_at dksJ30_remove_1 5 rfl rfl)
theorem dJ30_remove_31 : decode cJ30_remove 31 = .ok (.aload_n 0, 1) := dk_42 (dk_at dksJ30_remove_1 8 rfl rfl)
theorem dJ30_remove_32 : decode cJ30_remove 32 = .ok (.getfield 46, 3) := dk_180 0 46 (dk_at dksJ30_remove_1 9 rfl rfl)
theorem dJ30_remove_35 : decode cJ30_remove 35 = .ok (.invokevirtual 68, 3) := dk_182 0 68 (dk_at dksJ30_remove_1 12 rfl rfl)
theorem dJ30_remove_38 : decode cJ30_remove 38 = .ok (.pop, 1) := dk_87 (dk_at dksJ30_remove_1 15 rfl rfl)
theorem dJ30_remove_39 : decode cJ30_remove 39 = .ok (.aload_n 0, 1) := dk_42 (dk_at dksJ30_remove_1 16 rfl rfl)
theorem dJ30_remove_40 : decode cJ30_remove 40 = .ok (.getfield 29, 3) := dk_180 0 29 (dk_at dksJ30_remove_1 17 rfl rfl)
theorem dJ30_remove_43 : decode cJ30_remove 43 = .ok (.aload_n 0, 1) := dk_42 (dk_at dksJ30_remove_1 20 rfl rfl)
theorem dJ30_remove_44 : decode cJ30_remove 44 = .ok (.getfield 46, 3) := dk_180 0 46 (dk_at dksJ30_remove_1 21 rfl rfl)
theorem dJ30_remove_47 : decode cJ30_remove 47 = .ok (.if_acmp .ne 11, 3) := dk_166 0 11 (dk_at dksJ30_remove_2 0 rfl rfl)
theorem dJ30_remove_50 : decode cJ30_remove 50 = .ok (.aload_n 0, 1) := dk_42 (dk_at dksJ30_remove_2 3 rfl rfl)
theorem dJ30_remove_51 : decode cJ30_remove 51 = .ok (.aload_n 1, 1) := dk_43 (dk_at dksJ30_remove_2 4 rfl rfl)
theorem dJ30_remove_52 : decode cJ30_remove 52 = .ok (.putfield 29, 3) := dk_181 0 29 (dk_at dksJ30_remove_2 5 rfl rfl)
theorem dJ30_remove_55 : decode cJ30_remove 55 = .ok (.goto 13, 3) := dk_167 0 13 (dk_at dksJ30_remove_2 8 rfl rfl)
theorem dJ30_remove_58 : decode cJ30_remove 58 = .ok (.aload_n 0, 1) := dk_42 (dk_at dksJ30_remove_2 11 rfl rfl)
theorem dJ30_remove_59 : decode cJ30_remove 59 = .ok (.dup, 1) := dk_89 (dk_at dksJ30_remove_2 12 rfl rfl)
theorem dJ30_remove_60 : decode cJ30_remove 60 = .ok (.getfield 33, 3) := dk_180 0 33 (dk_at dksJ30_remove_2 13 rfl rfl)
theorem dJ30_remove_63 : decode cJ30_remove 63 = .ok (.iconst 1, 1) := dk_4 (dk_at dksJ30_remove_2 16 rfl rfl)
theorem dJ30_remove_64 : decode cJ30_remove 64 = .ok (.isub, 1) := dk_100 (dk_at dksJ30_remove_2 17 rfl rfl)
theorem dJ30_remove_65 : decode cJ30_remove 65 = .ok (.putfield 33, 3) := dk_181 0 33 (dk_at dksJ30_remove_2 18 rfl rfl)
theorem dJ30_remove_68 : decode cJ30_remove 68 = .ok (.aload_n 0, 1) := dk_42 (dk_at dksJ30_remove_2 21 rfl rfl)
theorem dJ30_remove_69 : decode cJ30_remove 69 = .ok (.aconst_null, 1) := dk_1 (dk_at dksJ30_remove_2 22 rfl rfl)
theorem dJ30_remove_70 : decode cJ30_remove 70 = .ok (.putfield 46, 3) := dk_181 0 46 (dk_at dksJ30_remove_3 0 rfl rfl)
theorem dJ30_remove_73 : decode cJ30_remove 73 = .ok (.aload_n 0, 1) := dk_42 (dk_at dksJ30_remove_3 3 rfl rfl)
theorem dJ30_remove_74 : decode cJ30_remove 74 = .ok (.dup, 1) := dk_89 (dk_at dksJ30_remove_3 4 rfl rfl)
theorem dJ30_remove_75 : decode cJ30_remove 75 = .ok (.getfield 19, 3) := dk_180 0 19 (dk_at dksJ30_remove_3 5 rfl rfl)
theorem dJ30_remove_78 : decode cJ30_remove 78 = .ok (.iconst 1, 1) := dk_4 (dk_at dksJ30_remove_3 8 rfl rfl)
theorem dJ30_remove_79 : decode cJ30_remove 79 = .ok (.iadd, 1) := dk_96 (dk_at dksJ30_remove_3 9 rfl rfl)
theorem dJ30_remove_80 : decode cJ30_remove 80 = .ok (.putfield 19, 3) := dk_181 0 19 (dk_at dksJ30_remove_3 10 rfl rfl)
theorem dJ30_remove_83 : decode cJ30_remove 83 = .ok (.return_, 1) := dk_177 (dk_at dksJ30_remove_3 13 rfl rfl)
theorem q147 : (Jvm.Cond.initialized "java/util/LinkedList$ListItr") ∈ lw_all := lw_g (lw_at lw_m1 41 rfl) rfl
theorem q228 : (Jvm.Cond.fieldLink "java/util/LinkedList$ListItr" (13 : Nat) "java/util/LinkedList" "modCount" "I") ∈ lw_all := lw_g (lw_at lw_m1 122 rfl) rfl
theorem q252 : (Jvm.Cond.fieldLink "java/util/LinkedList$ListItr" (22 : Nat) "java/util/LinkedList" "size" "I") ∈ lw_all := lw_g (lw_at lw_m1 146 rfl) rfl
theorem q488 : (Jvm.Cond.castable "java/util/LinkedList$ListItr" "java/util/Iterator") ∈ lw_tbl := lw_at lw_m2 142 rfl
theorem q489 : (Jvm.Cond.selects "java/util/LinkedList$ListItr" ({ cls := "java/util/Iterator", name := "hasNext", desc := "()Z" } : Jvm.MethodName) ({ cls := "java/util/LinkedList$ListItr", name := "hasNext", desc := "()Z" } : Jvm.MethodName)) ∈ lw_all := lw_g (lw_at lw_m2 143 rfl) rfl
theorem q490 : (Jvm.Cond.unhidden "java/util/LinkedList$ListItr" "hasNext" "()Z") ∈ lw_tbl := lw_at lw_m2 144 rfl
theorem q491 : (Jvm.Cond.instanceMethod ({ cls := "java/util/LinkedList$ListItr", name := "hasNext", desc := "()Z" } : Jvm.MethodName)) ∈ lw_all := lw_g (lw_at lw_m2 145 rfl) rfl
theorem q492 : (Jvm.Cond.publicMethod ({ cls := "java/util/LinkedList$ListItr", name := "hasNext", desc := "()Z" } : Jvm.MethodName)) ∈ lw_tbl := lw_at lw_m2 146 rfl
theorem q493 : (Jvm.Cond.code ({ cls := "java/util/LinkedList$ListItr", name := "hasNext", desc := "()Z" } : Jvm.MethodName) prog_87_method_2_code (1 : Nat) (Option.some Jvm.ClassFile.FieldType.boolean)) ∈ lw_all := lw_g (lw_at lw_m2 147 rfl) rfl
theorem q966 : (Jvm.Cond.selects "java/util/LinkedList$ListItr" ({ cls := "java/lang/Object", name := "getClass", desc := "()Ljava/lang/Class;" } : Jvm.MethodName) ({ cls := "java/lang/Object", name := "getClass", desc := "()Ljava/lang/Class;" } : Jvm.MethodName)) ∈ lw_all := lw_g (lw_at lw_m4 140 rfl) rfl
theorem q1107 : (Jvm.Cond.selects "java/util/LinkedList$ListItr" ({ cls := "java/util/Iterator", name := "next", desc := "()Ljava/lang/Object;" } : Jvm.MethodName) ({ cls := "java/util/LinkedList$ListItr", name := "next", desc := "()Ljava/lang/Object;" } : Jvm.MethodName)) ∈ lw_all := lw_g (lw_at lw_m5 41 rfl) rfl
theorem q1108 : (Jvm.Cond.unhidden "java/util/LinkedList$ListItr" "next" "()Ljava/lang/Object;") ∈ lw_tbl := lw_at lw_m5 42 rfl
theorem q1109 : (Jvm.Cond.instanceMethod ({ cls := "java/util/LinkedList$ListItr", name := "next", desc := "()Ljava/lang/Object;" } : Jvm.MethodName)) ∈ lw_all := lw_g (lw_at lw_m5 43 rfl) rfl
theorem q1110 : (Jvm.Cond.publicMethod ({ cls := "java/util/LinkedList$ListItr", name := "next", desc := "()Ljava/lang/Object;" } : Jvm.MethodName)) ∈ lw_tbl := lw_at lw_m5 44 rfl
theorem q1111 : (Jvm.Cond.code ({ cls := "java/util/LinkedList$ListItr", name := "next", desc := "()Ljava/lang/Object;" } : Jvm.MethodName) prog_87_method_3_code (1 : Nat) (Option.some (Jvm.ClassFile.FieldType.object "java/lang/Object"))) ∈ lw_all := lw_g (lw_at lw_m5 45 rfl) rfl
theorem q1112 : (Jvm.Cond.methodLink "java/util/LinkedList$ListItr" (36 : Nat) ({ cls := "java/util/LinkedList$ListItr", name := "checkForComodification", desc := "()V" } : Jvm.MethodName)) ∈ lw_all := lw_g (lw_at lw_m5 46 rfl) rfl
theorem q1113 : (Jvm.Cond.instanceMethod ({ cls := "java/util/LinkedList$ListItr", name := "checkForComodification", desc := "()V" } : Jvm.MethodName)) ∈ lw_all := lw_g (lw_at lw_m5 47 rfl) rfl
theorem q1114 : (Jvm.Cond.selects "java/util/LinkedList$ListItr" ({ cls := "java/util/LinkedList$ListItr", name := "checkForComodification", desc := "()V" } : Jvm.MethodName) ({ cls := "java/util/LinkedList$ListItr", name := "checkForComodification", desc := "()V" } : Jvm.MethodName)) ∈ lw_all := lw_g (lw_at lw_m5 48 rfl) rfl
theorem q1115 : (Jvm.Cond.code ({ cls := "java/util/LinkedList$ListItr", name := "checkForComodification", desc := "()V" } : Jvm.MethodName) prog_87_method_12_code (1 : Nat) (Option.none : Option Jvm.ClassFile.FieldType)) ∈ lw_all := lw_g (lw_at lw_m5 49 rfl) rfl
theorem q1116 : (Jvm.Cond.methodLink "java/util/LinkedList$ListItr" (39 : Nat) ({ cls := "java/util/LinkedList$ListItr", name := "hasNext", desc := "()Z" } : Jvm.MethodName)) ∈ lw_all := lw_g (lw_at lw_m5 50 rfl) rfl
theorem q1117 : (Jvm.Cond.classLink "java/util/LinkedList$ListItr" (43 : Nat) "java/util/NoSuchElementException") ∈ lw_all := lw_g (lw_at lw_m5 51 rfl) rfl
theorem q1118 : (Jvm.Cond.methodLink "java/util/LinkedList$ListItr" (45 : Nat) ({ cls := "java/util/NoSuchElementException", name := "<init>", desc := "()V" } : Jvm.MethodName)) ∈ lw_all := lw_g (lw_at lw_m5 52 rfl) rfl
theorem q1377 : (Jvm.Cond.instantiable "java/util/LinkedList$ListItr" (5 : Nat)) ∈ lw_all := lw_g (lw_at lw_m6 71 rfl) rfl
theorem q1379 : (Jvm.Cond.instanceMethod ({ cls := "java/util/LinkedList$ListItr", name := "<init>", desc := "(Ljava/util/LinkedList;I)V" } : Jvm.MethodName)) ∈ lw_all := lw_g (lw_at lw_m6 73 rfl) rfl
theorem q1380 : (Jvm.Cond.code ({ cls := "java/util/LinkedList$ListItr", name := "<init>", desc := "(Ljava/util/LinkedList;I)V" } : Jvm.MethodName) prog_87_method_1_code (3 : Nat) (Option.none : Option Jvm.ClassFile.FieldType)) ∈ lw_all := lw_g (lw_at lw_m6 74 rfl) rfl
theorem q1381 : (Jvm.Cond.methodLink "java/util/LinkedList$ListItr" (7 : Nat) ({ cls := "java/lang/Object", name := "<init>", desc := "()V" } : Jvm.MethodName)) ∈ lw_all := lw_g (lw_at lw_m6 75 rfl) rfl
theorem q1382 : (Jvm.Cond.methodLink "java/util/LinkedList$ListItr" (25 : Nat) ({ cls := "java/util/LinkedList", name := "node", desc := "(I)Ljava/util/LinkedList$Node;" } : Jvm.MethodName)) ∈ lw_all := lw_g (lw_at lw_m6 76 rfl) rfl
theorem q1383 : (Jvm.Cond.fieldLink "java/util/LinkedList$ListItr" (46 : Nat) "java/util/LinkedList$ListItr" "lastReturned" "Ljava/util/LinkedList$Node;") ∈ lw_all := lw_g (lw_at lw_m6 77 rfl) rfl
theorem q1384 : (Jvm.Cond.fieldLink "java/util/LinkedList$ListItr" (29 : Nat) "java/util/LinkedList$ListItr" "next" "Ljava/util/LinkedList$Node;") ∈ lw_all := lw_g (lw_at lw_m6 78 rfl) rfl
theorem q1385 : (Jvm.Cond.fieldLink "java/util/LinkedList$ListItr" (33 : Nat) "java/util/LinkedList$ListItr" "nextIndex" "I") ∈ lw_all := lw_g (lw_at lw_m6 79 rfl) rfl
theorem q1386 : (Jvm.Cond.fieldLink "java/util/LinkedList$ListItr" (19 : Nat) "java/util/LinkedList$ListItr" "expectedModCount" "I") ∈ lw_all := lw_g (lw_at lw_m6 80 rfl) rfl
theorem q1387 : (Jvm.Cond.fieldLink "java/util/LinkedList$ListItr" (1 : Nat) "java/util/LinkedList$ListItr" "this$0" "Ljava/util/LinkedList;") ∈ lw_all := lw_g (lw_at lw_m6 81 rfl) rfl
theorem q1388 : (Jvm.Cond.lays "java/util/LinkedList$ListItr" "java/util/LinkedList$ListItr" "lastReturned" "Ljava/util/LinkedList$Node;") ∈ lw_all := lw_g (lw_at lw_m6 82 rfl) rfl
theorem q1389 : (Jvm.Cond.soleField "java/util/LinkedList$ListItr" "lastReturned") ∈ lw_all := lw_g (lw_at lw_m6 83 rfl) rfl
theorem q1390 : (Jvm.Cond.lays "java/util/LinkedList$ListItr" "java/util/LinkedList$ListItr" "next" "Ljava/util/LinkedList$Node;") ∈ lw_all := lw_g (lw_at lw_m6 84 rfl) rfl
theorem q1391 : (Jvm.Cond.soleField "java/util/LinkedList$ListItr" "next") ∈ lw_all := lw_g (lw_at lw_m6 85 rfl) rfl
theorem q1392 : (Jvm.Cond.lays "java/util/LinkedList$ListItr" "java/util/LinkedList$ListItr" "nextIndex" "I") ∈ lw_all := lw_g (lw_at lw_m6 86 rfl) rfl
theorem q1393 : (Jvm.Cond.soleField "java/util/LinkedList$ListItr" "nextIndex") ∈ lw_all := lw_g (lw_at lw_m6 87 rfl) rfl
theorem q1394 : (Jvm.Cond.lays "java/util/LinkedList$ListItr" "java/util/LinkedList$ListItr" "expectedModCount" "I") ∈ lw_all := lw_g (lw_at lw_m6 88 rfl) rfl
theorem q1395 : (Jvm.Cond.soleField "java/util/LinkedList$ListItr" "expectedModCount") ∈ lw_all := lw_g (lw_at lw_m6 89 rfl) rfl
theorem q1396 : (Jvm.Cond.laysFinal "java/util/LinkedList$ListItr" "java/util/LinkedList$ListItr" "this$0" "Ljava/util/LinkedList;") ∈ lw_all := lw_g (lw_at lw_m6 90 rfl) rfl
theorem q1397 : (Jvm.Cond.soleField "java/util/LinkedList$ListItr" "this$0") ∈ lw_all := lw_g (lw_at lw_m6 91 rfl) rfl
theorem q1398 : (Jvm.Cond.superclass "java/util/LinkedList$ListItr" "java/lang/Object") ∈ lw_all := lw_g (lw_at lw_m6 92 rfl) rfl
theorem q1432 : (Jvm.Cond.fieldLink "java/util/LinkedList$ListItr" (52 : Nat) "java/util/LinkedList$Node" "item" "Ljava/lang/Object;") ∈ lw_all := lw_g (lw_at lw_m6 126 rfl) rfl
theorem q1435 : (Jvm.Cond.fieldLink "java/util/LinkedList$ListItr" (49 : Nat) "java/util/LinkedList$Node" "next" "Ljava/util/LinkedList$Node;") ∈ lw_all := lw_g (lw_at lw_m6 129 rfl) rfl
theorem q1888 : (Jvm.Cond.selects "java/util/LinkedList$ListItr" ({ cls := "java/util/Iterator", name := "remove", desc := "()V" } : Jvm.MethodName) ({ cls := "java/util/LinkedList$ListItr", name := "remove", desc := "()V" } : Jvm.MethodName)) ∈ lw_all := lw_g (lw_at lw_m8 102 rfl) rfl
theorem q1889 : (Jvm.Cond.unhidden "java/util/LinkedList$ListItr" "remove" "()V") ∈ lw_tbl := lw_at lw_m8 103 rfl
theorem q1890 : (Jvm.Cond.instanceMethod ({ cls := "java/util/LinkedList$ListItr", name := "remove", desc := "()V" } : Jvm.MethodName)) ∈ lw_all := lw_g (lw_at lw_m8 104 rfl) rfl
theorem q1891 : (Jvm.Cond.publicMethod ({ cls := "java/util/LinkedList$ListItr", name := "remove", desc := "()V" } : Jvm.MethodName)) ∈ lw_tbl := lw_at lw_m8 105 rfl
theorem q1892 : (Jvm.Cond.code ({ cls := "java/util/LinkedList$ListItr", name := "remove", desc := "()V" } : Jvm.MethodName) prog_87_method_8_code (2 : Nat) (Option.none : Option Jvm.ClassFile.FieldType)) ∈ lw_all := lw_g (lw_at lw_m8 106 rfl) rfl
theorem q1893 : (Jvm.Cond.classLink "java/util/LinkedList$ListItr" (65 : Nat) "java/lang/IllegalStateException") ∈ lw_all := lw_g (lw_at lw_m8 107 rfl) rfl
theorem q1894 : (Jvm.Cond.methodLink "java/util/LinkedList$ListItr" (67 : Nat) ({ cls := "java/lang/IllegalStateException", name := "<init>", desc := "()V" } : Jvm.MethodName)) ∈ lw_all := lw_g (lw_at lw_m8 108 rfl) rfl
theorem q1895 : (Jvm.Cond.methodLink "java/util/LinkedList$ListItr" (68 : Nat) ({ cls := "java/util/LinkedList", name := "unlink", desc := "(Ljava/util/LinkedList$Node;)Ljava/lang/Object;" } : Jvm.MethodName)) ∈ lw_all := lw_g (lw_at lw_m8 109 rfl) rfl
theorem q3965 : (Jvm.Cond.selects "java/util/LinkedList$ListItr" ({ cls := "java/util/LinkedList$ListItr", name := "hasNext", desc := "()Z" } : Jvm.MethodName) ({ cls := "java/util/LinkedList$ListItr", name := "hasNext", desc := "()Z" } : Jvm.MethodName)) ∈ lw_all := lw_g (lw_at lw_m17 19 rfl) rfl
theorem q3995 : (Jvm.Cond.castable "java/util/LinkedList$ListItr" "java/lang/Object") ∈ lw_tbl := lw_at lw_m17 49 rfl
theorem in_J30 : ∀ w ∈ wsJ300, w ∈ lw_all := lw_in wsJ300 [1388, 1390, 1392, 1394, 1396] (by decide +kernel) (by decide +kernel)

/-! CavePearls$Group -/
set_option maxRecDepth 100000
def RX9 : String := "CavePearls$Group"
def TX9 : u_T := fun k => match k with
  | 0 => ("CavePearls$Group", "persons", "I", true)
  | _ => ("CavePearls$Group", "stay", "I", false)
def tyX9 : Nat → FieldType := fun k => match k with
  | 0 => .int
  | _ => .int
abbrev wsX90 : List Cond := u_ws RX9 TX9 2
theorem nmX9 : ∀ a, a < 2 → ∀ b, b < 2 → a ≠ b → (TX9 a).2.1 ≠ (TX9 b).2.1 := by decide +kernel
theorem tyX9_ok : ∀ k, k < 2 → parseFieldDescriptor (TX9 k).2.2.1 = some (tyX9 k) := by decide +kernel
abbrev cX9_init : ByteArray := prog_19_method_1_code
def yX9_init : MethodName := ⟨RX9, "<init>", "(II)V"⟩
def dkwX9_init_0 : List UInt8 := [42, 183, 0, 1, 42, 27, 181, 0, 7, 42, 28, 181, 0, 13, 177]
abbrev dktX9_init_0 : List UInt8 := dkwX9_init_0 ++ []
theorem dksX9_init_0 : cX9_init.data.toList.drop 0 = dktX9_init_0 := by decide +kernel
theorem dX9_init_0 : decode cX9_init 0 = .ok (.aload_n 0, 1) := dk_42 (dk_at dksX9_init_0 0 rfl rfl)
theorem dX9_init_1 : decode cX9_init 1 = .ok (.invokespecial 1, 3) := dk_183 0 1 (dk_at dksX9_init_0 1 rfl rfl)
theorem dX9_init_4 : decode cX9_init 4 = .ok (.aload_n 0, 1) := dk_42 (dk_at dksX9_init_0 4 rfl rfl)
theorem dX9_init_5 : decode cX9_init 5 = .ok (.iload_n 1, 1) := dk_27 (dk_at dksX9_init_0 5 rfl rfl)
theorem dX9_init_6 : decode cX9_init 6 = .ok (.putfield 7, 3) := dk_181 0 7 (dk_at dksX9_init_0 6 rfl rfl)
theorem dX9_init_9 : decode cX9_init 9 = .ok (.aload_n 0, 1) := dk_42 (dk_at dksX9_init_0 9 rfl rfl)
theorem dX9_init_10 : decode cX9_init 10 = .ok (.iload_n 2, 1) := dk_28 (dk_at dksX9_init_0 10 rfl rfl)
theorem dX9_init_11 : decode cX9_init 11 = .ok (.putfield 13, 3) := dk_181 0 13 (dk_at dksX9_init_0 11 rfl rfl)
theorem dX9_init_14 : decode cX9_init 14 = .ok (.return_, 1) := dk_177 (dk_at dksX9_init_0 14 rfl rfl)
theorem q148 : (Jvm.Cond.initialized "CavePearls$Group") ∈ lw_all := lw_g (lw_at lw_m1 42 rfl) rfl
theorem q933 : (Jvm.Cond.selects "CavePearls$Group" ({ cls := "java/lang/Object", name := "getClass", desc := "()Ljava/lang/Class;" } : Jvm.MethodName) ({ cls := "java/lang/Object", name := "getClass", desc := "()Ljava/lang/Class;" } : Jvm.MethodName)) ∈ lw_all := lw_g (lw_at lw_m4 107 rfl) rfl
theorem q1401 : (Jvm.Cond.instantiable "CavePearls$Group" (2 : Nat)) ∈ lw_all := lw_g (lw_at lw_m6 95 rfl) rfl
theorem q1403 : (Jvm.Cond.instanceMethod ({ cls := "CavePearls$Group", name := "<init>", desc := "(II)V" } : Jvm.MethodName)) ∈ lw_all := lw_g (lw_at lw_m6 97 rfl) rfl
theorem q1404 : (Jvm.Cond.code ({ cls := "CavePearls$Group", name := "<init>", desc := "(II)V" } : Jvm.MethodName) prog_19_method_1_code (3 : Nat) (Option.none : Option Jvm.ClassFile.FieldType)) ∈ lw_all := lw_g (lw_at lw_m6 98 rfl) rfl
theorem q1405 : (Jvm.Cond.methodLink "CavePearls$Group" (1 : Nat) ({ cls := "java/lang/Object", name := "<init>", desc := "()V" } : Jvm.MethodName)) ∈ lw_all := lw_g (lw_at lw_m6 99 rfl) rfl
theorem q1406 : (Jvm.Cond.fieldLink "CavePearls$Group" (7 : Nat) "CavePearls$Group" "persons" "I") ∈ lw_all := lw_g (lw_at lw_m6 100 rfl) rfl
theorem q1409 : (Jvm.Cond.fieldLink "CavePearls$Group" (13 : Nat) "CavePearls$Group" "stay" "I") ∈ lw_all := lw_g (lw_at lw_m6 103 rfl) rfl
theorem q1412 : (Jvm.Cond.laysFinal "CavePearls$Group" "CavePearls$Group" "persons" "I") ∈ lw_all := lw_g (lw_at lw_m6 106 rfl) rfl
theorem q1413 : (Jvm.Cond.soleField "CavePearls$Group" "persons") ∈ lw_all := lw_g (lw_at lw_m6 107 rfl) rfl
theorem q1414 : (Jvm.Cond.lays "CavePearls$Group" "CavePearls$Group" "stay" "I") ∈ lw_all := lw_g (lw_at lw_m6 108 rfl) rfl
theorem q1415 : (Jvm.Cond.soleField "CavePearls$Group" "stay") ∈ lw_all := lw_g (lw_at lw_m6 109 rfl) rfl
theorem q1416 : (Jvm.Cond.superclass "CavePearls$Group" "java/lang/Object") ∈ lw_all := lw_g (lw_at lw_m6 110 rfl) rfl
theorem q3996 : (Jvm.Cond.castable "CavePearls$Group" "java/lang/Object") ∈ lw_tbl := lw_at lw_m17 50 rfl
theorem in_X9 : ∀ w ∈ wsX90, w ∈ lw_all := lw_in wsX90 [1412, 1414] (by decide +kernel) (by decide +kernel)

/-! java/util/LinkedList$Node -/
set_option maxRecDepth 100000
def RJ31 : String := "java/util/LinkedList$Node"
def TJ31 : u_T := fun k => match k with
  | 0 => ("java/util/LinkedList$Node", "item", "Ljava/lang/Object;", false)
  | 1 => ("java/util/LinkedList$Node", "next", "Ljava/util/LinkedList$Node;", false)
  | _ => ("java/util/LinkedList$Node", "prev", "Ljava/util/LinkedList$Node;", false)
def tyJ31 : Nat → FieldType := fun k => match k with
  | 0 => .object "java/lang/Object"
  | 1 => .object "java/util/LinkedList$Node"
  | _ => .object "java/util/LinkedList$Node"
abbrev wsJ310 : List Cond := u_ws RJ31 TJ31 3
theorem nmJ31 : ∀ a, a < 3 → ∀ b, b < 3 → a ≠ b → (TJ31 a).2.1 ≠ (TJ31 b).2.1 := by decide +kernel
theorem tyJ31_ok : ∀ k, k < 3 → parseFieldDescriptor (TJ31 k).2.2.1 = some (tyJ31 k) := by decide +kernel
abbrev cJ31_init : ByteArray := prog_88_method_1_code
def yJ31_init : MethodName := ⟨RJ31, "<init>", "(Ljava/util/LinkedList$Node;Ljava/lang/Object;Ljava/util/LinkedList$Node;)V"⟩
def dkwJ31_init_0 : List UInt8 := [42, 183, 0, 1, 42, 44, 181, 0, 7, 42, 45, 181, 0, 13, 42, 43, 181, 0, 17, 177]
abbrev dktJ31_init_0 : List UInt8 := dkwJ31_init_0 ++ []
theorem dksJ31_init_0 : cJ31_init.data.toList.drop 0 = dktJ31_init_0 := by decide +kernel
theorem dJ31_init_0 : decode cJ31_init 0 = .ok (.aload_n 0, 1) := dk_42 (dk_at dksJ31_init_0 0 rfl rfl)
theorem dJ31_init_1 : decode cJ31_init 1 = .ok (.invokespecial 1, 3) := dk_183 0 1 (dk_at dksJ31_init_0 1 rfl rfl)
theorem dJ31_init_4 : decode cJ31_init 4 = .ok (.aload_n 0, 1) := dk_42 (dk_at dksJ31_init_0 4 rfl rfl)
theorem dJ31_init_5 : decode cJ31_init 5 = .ok (.aload_n 2, 1) := dk_44 (dk_at dksJ31_init_0 5 rfl rfl)
theorem dJ31_init_6 : decode cJ31_init 6 = .ok (.putfield 7, 3) := dk_181 0 7 (dk_at dksJ31_init_0 6 rfl rfl)
theorem dJ31_init_9 : decode cJ31_init 9 = .ok (.aload_n 0, 1) := dk_42 (dk_at dksJ31_init_0 9 rfl rfl)
theorem dJ31_init_10 : decode cJ31_init 10 = .ok (.aload_n 3, 1) := dk_45 (dk_at dksJ31_init_0 10 rfl rfl)
theorem dJ31_init_11 : decode cJ31_init 11 = .ok (.putfield 13, 3) := dk_181 0 13 (dk_at dksJ31_init_0 11 rfl rfl)
theorem dJ31_init_14 : decode cJ31_init 14 = .ok (.aload_n 0, 1) := dk_42 (dk_at dksJ31_init_0 14 rfl rfl)
theorem dJ31_init_15 : decode cJ31_init 15 = .ok (.aload_n 1, 1) := dk_43 (dk_at dksJ31_init_0 15 rfl rfl)
theorem dJ31_init_16 : decode cJ31_init 16 = .ok (.putfield 17, 3) := dk_181 0 17 (dk_at dksJ31_init_0 16 rfl rfl)
theorem dJ31_init_19 : decode cJ31_init 19 = .ok (.return_, 1) := dk_177 (dk_at dksJ31_init_0 19 rfl rfl)
theorem q149 : (Jvm.Cond.initialized "java/util/LinkedList$Node") ∈ lw_all := lw_g (lw_at lw_m1 43 rfl) rfl
theorem q967 : (Jvm.Cond.selects "java/util/LinkedList$Node" ({ cls := "java/lang/Object", name := "getClass", desc := "()Ljava/lang/Class;" } : Jvm.MethodName) ({ cls := "java/lang/Object", name := "getClass", desc := "()Ljava/lang/Class;" } : Jvm.MethodName)) ∈ lw_all := lw_g (lw_at lw_m4 141 rfl) rfl
theorem q1426 : (Jvm.Cond.instantiable "java/util/LinkedList$Node" (3 : Nat)) ∈ lw_all := lw_g (lw_at lw_m6 120 rfl) rfl
theorem q1428 : (Jvm.Cond.instanceMethod ({ cls := "java/util/LinkedList$Node", name := "<init>", desc := "(Ljava/util/LinkedList$Node;Ljava/lang/Object;Ljava/util/LinkedList$Node;)V" } : Jvm.MethodName)) ∈ lw_all := lw_g (lw_at lw_m6 122 rfl) rfl
theorem q1429 : (Jvm.Cond.code ({ cls := "java/util/LinkedList$Node", name := "<init>", desc := "(Ljava/util/LinkedList$Node;Ljava/lang/Object;Ljava/util/LinkedList$Node;)V" } : Jvm.MethodName) prog_88_method_1_code (4 : Nat) (Option.none : Option Jvm.ClassFile.FieldType)) ∈ lw_all := lw_g (lw_at lw_m6 123 rfl) rfl
theorem q1430 : (Jvm.Cond.methodLink "java/util/LinkedList$Node" (1 : Nat) ({ cls := "java/lang/Object", name := "<init>", desc := "()V" } : Jvm.MethodName)) ∈ lw_all := lw_g (lw_at lw_m6 124 rfl) rfl
theorem q1431 : (Jvm.Cond.fieldLink "java/util/LinkedList$Node" (7 : Nat) "java/util/LinkedList$Node" "item" "Ljava/lang/Object;") ∈ lw_all := lw_g (lw_at lw_m6 125 rfl) rfl
theorem q1434 : (Jvm.Cond.fieldLink "java/util/LinkedList$Node" (13 : Nat) "java/util/LinkedList$Node" "next" "Ljava/util/LinkedList$Node;") ∈ lw_all := lw_g (lw_at lw_m6 128 rfl) rfl
theorem q1437 : (Jvm.Cond.fieldLink "java/util/LinkedList$Node" (17 : Nat) "java/util/LinkedList$Node" "prev" "Ljava/util/LinkedList$Node;") ∈ lw_all := lw_g (lw_at lw_m6 131 rfl) rfl
theorem q1439 : (Jvm.Cond.lays "java/util/LinkedList$Node" "java/util/LinkedList$Node" "item" "Ljava/lang/Object;") ∈ lw_all := lw_g (lw_at lw_m6 133 rfl) rfl
theorem q1440 : (Jvm.Cond.soleField "java/util/LinkedList$Node" "item") ∈ lw_all := lw_g (lw_at lw_m6 134 rfl) rfl
theorem q1441 : (Jvm.Cond.lays "java/util/LinkedList$Node" "java/util/LinkedList$Node" "next" "Ljava/util/LinkedList$Node;") ∈ lw_all := lw_g (lw_at lw_m6 135 rfl) rfl
theorem q1442 : (Jvm.Cond.soleField "java/util/LinkedList$Node" "next") ∈ lw_all := lw_g (lw_at lw_m6 136 rfl) rfl
theorem q1443 : (Jvm.Cond.lays "java/util/LinkedList$Node" "java/util/LinkedList$Node" "prev" "Ljava/util/LinkedList$Node;") ∈ lw_all := lw_g (lw_at lw_m6 137 rfl) rfl
theorem q1444 : (Jvm.Cond.soleField "java/util/LinkedList$Node" "prev") ∈ lw_all := lw_g (lw_at lw_m6 138 rfl) rfl
theorem q1445 : (Jvm.Cond.superclass "java/util/LinkedList$Node" "java/lang/Object") ∈ lw_all := lw_g (lw_at lw_m6 139 rfl) rfl
theorem q3997 : (Jvm.Cond.castable "java/util/LinkedList$Node" "java/lang/Object") ∈ lw_tbl := lw_at lw_m17 51 rfl
theorem in_J31 : ∀ w ∈ wsJ310, w ∈ lw_all := lw_in wsJ310 [1439, 1441, 1443] (by decide +kernel) (by decide +kernel)

/-! CavePearls$Lamp -/
set_option maxRecDepth 100000
def RX10 : String := "CavePearls$Lamp"
def TX10 : u_T := fun k => match k with
  | 0 => ("CavePearls$Lamp", "pool", "I", true)
  | _ => ("CavePearls$Lamp", "minutes", "I", false)
def tyX10 : Nat → FieldType := fun k => match k with
  | 0 => .int
  | _ => .int
abbrev wsX100 : List Cond := u_ws RX10 TX10 2
theorem nmX10 : ∀ a, a < 2 → ∀ b, b < 2 → a ≠ b → (TX10 a).2.1 ≠ (TX10 b).2.1 := by decide +kernel
theorem tyX10_ok : ∀ k, k < 2 → parseFieldDescriptor (TX10 k).2.2.1 = some (tyX10 k) := by decide +kernel
abbrev cX10_init : ByteArray := prog_20_method_2_code
def yX10_init : MethodName := ⟨RX10, "<init>", "(II)V"⟩
def dkwX10_init_0 : List UInt8 := [42, 183, 0, 7, 42, 27, 181, 0, 12, 42, 28, 181, 0, 16, 177]
abbrev dktX10_init_0 : List UInt8 := dkwX10_init_0 ++ []
theorem dksX10_init_0 : cX10_init.data.toList.drop 0 = dktX10_init_0 := by decide +kernel
theorem dX10_init_0 : decode cX10_init 0 = .ok (.aload_n 0, 1) := dk_42 (dk_at dksX10_init_0 0 rfl rfl)
theorem dX10_init_1 : decode cX10_init 1 = .ok (.invokespecial 7, 3) := dk_183 0 7 (dk_at dksX10_init_0 1 rfl rfl)
theorem dX10_init_4 : decode cX10_init 4 = .ok (.aload_n 0, 1) := dk_42 (dk_at dksX10_init_0 4 rfl rfl)
theorem dX10_init_5 : decode cX10_init 5 = .ok (.iload_n 1, 1) := dk_27 (dk_at dksX10_init_0 5 rfl rfl)
theorem dX10_init_6 : decode cX10_init 6 = .ok (.putfield 12, 3) := dk_181 0 12 (dk_at dksX10_init_0 6 rfl rfl)
theorem dX10_init_9 : decode cX10_init 9 = .ok (.aload_n 0, 1) := dk_42 (dk_at dksX10_init_0 9 rfl rfl)
theorem dX10_init_10 : decode cX10_init 10 = .ok (.iload_n 2, 1) := dk_28 (dk_at dksX10_init_0 10 rfl rfl)
theorem dX10_init_11 : decode cX10_init 11 = .ok (.putfield 16, 3) := dk_181 0 16 (dk_at dksX10_init_0 11 rfl rfl)
theorem dX10_init_14 : decode cX10_init 14 = .ok (.return_, 1) := dk_177 (dk_at dksX10_init_0 14 rfl rfl)
abbrev cX10_init_2 : ByteArray := prog_20_method_1_code
def yX10_init_2 : MethodName := ⟨RX10, "<init>", "(I)V"⟩
def dkwX10_init_2_0 : List UInt8 := [42, 27, 3, 183, 0, 1, 177]
abbrev dktX10_init_2_0 : List UInt8 := dkwX10_init_2_0 ++ []
theorem dksX10_init_2_0 : cX10_init_2.data.toList.drop 0 = dktX10_init_2_0 := by decide +kernel
theorem dX10_init_2_0 : decode cX10_init_2 0 = .ok (.aload_n 0, 1) := dk_42 (dk_at dksX10_init_2_0 0 rfl rfl)
theorem dX10_init_2_1 : decode cX10_init_2 1 = .ok (.iload_n 1, 1) := dk_27 (dk_at dksX10_init_2_0 1 rfl rfl)
theorem dX10_init_2_2 : decode cX10_init_2 2 = .ok (.iconst 0, 1) := dk_3 (dk_at dksX10_init_2_0 2 rfl rfl)
theorem dX10_init_2_3 : decode cX10_init_2 3 = .ok (.invokespecial 1, 3) := dk_183 0 1 (dk_at dksX10_init_2_0 3 rfl rfl)
theorem dX10_init_2_6 : decode cX10_init_2 6 = .ok (.return_, 1) := dk_177 (dk_at dksX10_init_2_0 6 rfl rfl)
abbrev cX10_isOn : ByteArray := prog_20_method_3_code
def yX10_isOn : MethodName := ⟨RX10, "isOn", "()Z"⟩
def dkwX10_isOn_0 : List UInt8 := [42, 180, 0, 16, 158, 0, 7, 4, 167, 0, 4, 3, 172]
abbrev dktX10_isOn_0 : List UInt8 := dkwX10_isOn_0 ++ []
theorem dksX10_isOn_0 : cX10_isOn.data.toList.drop 0 = dktX10_isOn_0 := by decide +kernel
theorem dX10_isOn_0 : decode cX10_isOn 0 = .ok (.aload_n 0, 1) := dk_42 (dk_at dksX10_isOn_0 0 rfl rfl)
theorem dX10_isOn_1 : decode cX10_isOn 1 = .ok (.getfield 16, 3) := dk_180 0 16 (dk_at dksX10_isOn_0 1 rfl rfl)
theorem dX10_isOn_4 : decode cX10_isOn 4 = .ok (.ifCond .le 7, 3) := dk_158 0 7 (dk_at dksX10_isOn_0 4 rfl rfl)
theorem dX10_isOn_7 : decode cX10_isOn 7 = .ok (.iconst 1, 1) := dk_4 (dk_at dksX10_isOn_0 7 rfl rfl)
theorem dX10_isOn_8 : decode cX10_isOn 8 = .ok (.goto 4, 3) := dk_167 0 4 (dk_at dksX10_isOn_0 8 rfl rfl)
theorem dX10_isOn_11 : decode cX10_isOn 11 = .ok (.iconst 0, 1) := dk_3 (dk_at dksX10_isOn_0 11 rfl rfl)
theorem dX10_isOn_12 : decode cX10_isOn 12 = .ok (.ireturn, 1) := dk_172 (dk_at dksX10_isOn_0 12 rfl rfl)
theorem q150 : (Jvm.Cond.initialized "CavePearls$Lamp") ∈ lw_all := lw_g (lw_at lw_m1 44 rfl) rfl
theorem q934 : (Jvm.Cond.selects "CavePearls$Lamp" ({ cls := "java/lang/Object", name := "getClass", desc := "()Ljava/lang/Class;" } : Jvm.MethodName) ({ cls := "java/lang/Object", name := "getClass", desc := "()Ljava/lang/Class;" } : Jvm.MethodName)) ∈ lw_all := lw_g (lw_at lw_m4 108 rfl) rfl
theorem q1447 : (Jvm.Cond.instantiable "CavePearls$Lamp" (2 : Nat)) ∈ lw_all := lw_g (lw_at lw_m6 141 rfl) rfl
theorem q1449 : (Jvm.Cond.instanceMethod ({ cls := "CavePearls$Lamp", name := "<init>", desc := "(II)V" } : Jvm.MethodName)) ∈ lw_all := lw_g (lw_at lw_m6 143 rfl) rfl
theorem q1450 : (Jvm.Cond.code ({ cls := "CavePearls$Lamp", name := "<init>", desc := "(II)V" } : Jvm.MethodName) prog_20_method_2_code (3 : Nat) (Option.none : Option Jvm.ClassFile.FieldType)) ∈ lw_all := lw_g (lw_at lw_m6 144 rfl) rfl
theorem q1451 : (Jvm.Cond.methodLink "CavePearls$Lamp" (7 : Nat) ({ cls := "java/lang/Object", name := "<init>", desc := "()V" } : Jvm.MethodName)) ∈ lw_all := lw_g (lw_at lw_m6 145 rfl) rfl
theorem q1452 : (Jvm.Cond.fieldLink "CavePearls$Lamp" (12 : Nat) "CavePearls$Lamp" "pool" "I") ∈ lw_all := lw_g (lw_at lw_m6 146 rfl) rfl
theorem q1455 : (Jvm.Cond.fieldLink "CavePearls$Lamp" (16 : Nat) "CavePearls$Lamp" "minutes" "I") ∈ lw_all := lw_g (lw_at lw_m6 149 rfl) rfl
theorem q1458 : (Jvm.Cond.laysFinal "CavePearls$Lamp" "CavePearls$Lamp" "pool" "I") ∈ lw_all := lw_g (lw_at lw_m6 152 rfl) rfl
theorem q1459 : (Jvm.Cond.soleField "CavePearls$Lamp" "pool") ∈ lw_all := lw_g (lw_at lw_m6 153 rfl) rfl
theorem q1460 : (Jvm.Cond.lays "CavePearls$Lamp" "CavePearls$Lamp" "minutes" "I") ∈ lw_all := lw_g (lw_at lw_m6 154 rfl) rfl
theorem q1461 : (Jvm.Cond.soleField "CavePearls$Lamp" "minutes") ∈ lw_all := lw_g (lw_at lw_m6 155 rfl) rfl
theorem q1462 : (Jvm.Cond.superclass "CavePearls$Lamp" "java/lang/Object") ∈ lw_all := lw_g (lw_at lw_m6 156 rfl) rfl
theorem q1647 : (Jvm.Cond.instanceMethod ({ cls := "CavePearls$Lamp", name := "<init>", desc := "(I)V" } : Jvm.MethodName)) ∈ lw_all := lw_g (lw_at lw_m7 101 rfl) rfl
theorem q1648 : (Jvm.Cond.code ({ cls := "CavePearls$Lamp", name := "<init>", desc := "(I)V" } : Jvm.MethodName) prog_20_method_1_code (2 : Nat) (Option.none : Option Jvm.ClassFile.FieldType)) ∈ lw_all := lw_g (lw_at lw_m7 102 rfl) rfl
theorem q1649 : (Jvm.Cond.methodLink "CavePearls$Lamp" (1 : Nat) ({ cls := "CavePearls$Lamp", name := "<init>", desc := "(II)V" } : Jvm.MethodName)) ∈ lw_all := lw_g (lw_at lw_m7 103 rfl) rfl
theorem q1715 : (Jvm.Cond.instanceMethod ({ cls := "CavePearls$Lamp", name := "isOn", desc := "()Z" } : Jvm.MethodName)) ∈ lw_all := lw_g (lw_at lw_m7 169 rfl) rfl
theorem q1716 : (Jvm.Cond.selects "CavePearls$Lamp" ({ cls := "CavePearls$Lamp", name := "isOn", desc := "()Z" } : Jvm.MethodName) ({ cls := "CavePearls$Lamp", name := "isOn", desc := "()Z" } : Jvm.MethodName)) ∈ lw_all := lw_g (lw_at lw_m7 170 rfl) rfl
theorem q1717 : (Jvm.Cond.code ({ cls := "CavePearls$Lamp", name := "isOn", desc := "()Z" } : Jvm.MethodName) prog_20_method_3_code (1 : Nat) (Option.some Jvm.ClassFile.FieldType.boolean)) ∈ lw_all := lw_g (lw_at lw_m7 171 rfl) rfl
theorem q3998 : (Jvm.Cond.castable "CavePearls$Lamp" "java/lang/Object") ∈ lw_tbl := lw_at lw_m17 52 rfl
theorem in_X10 : ∀ w ∈ wsX100, w ∈ lw_all := lw_in wsX100 [1458, 1460] (by decide +kernel) (by decide +kernel)

/-! CavePearls$RefusedException -/
set_option maxRecDepth 100000
def RX11 : String := "CavePearls$RefusedException"
def TX11 : u_T := fun k => match k with
  | 0 => ("java/lang/Throwable", "cause", "Ljava/lang/Throwable;", false)
  | 1 => ("java/lang/Throwable", "stackTrace", "[Ljava/lang/StackTraceElement;", false)
  | 2 => ("java/lang/Throwable", "suppressedExceptions", "Ljava/util/List;", false)
  | 3 => ("java/lang/Throwable", "detailMessage", "Ljava/lang/String;", false)
  | 4 => ("java/lang/Throwable", "backtrace", "Ljava/lang/Object;", false)
  | 5 => ("java/lang/Throwable", "depth", "I", false)
  | 6 => ("CavePearls$RefusedException", "reason", "I", true)
  | _ => ("CavePearls$RefusedException", "detail", "I", true)
def tyX11 : Nat → FieldType := fun k => match k with
  | 0 => .object "java/lang/Throwable"
  | 1 => .array (.object "java/lang/StackTraceElement")
  | 2 => .object "java/util/List"
  | 3 => .object "java/lang/String"
  | 4 => .object "java/lang/Object"
  | 5 => .int
  | 6 => .int
  | _ => .int
abbrev wsX110 : List Cond := u_ws RX11 TX11 8
theorem nmX11 : ∀ a, a < 8 → ∀ b, b < 8 → a ≠ b → (TX11 a).2.1 ≠ (TX11 b).2.1 := by decide +kernel
theorem tyX11_ok : ∀ k, k < 8 → parseFieldDescriptor (TX11 k).2.2.1 = some (tyX11 k) := by decide +kernel
abbrev cX11_init : ByteArray := prog_25_method_1_code
def yX11_init : MethodName := ⟨RX11, "<init>", "(II)V"⟩
def dkwX11_init_0 : List UInt8 := [42, 1, 1, 3, 3, 183, 0, 1, 42, 27, 181, 0, 7, 42, 28, 181, 0, 13, 177]
abbrev dktX11_init_0 : List UInt8 := dkwX11_init_0 ++ []
theorem dksX11_init_0 : cX11_init.data.toList.drop 0 = dktX11_init_0 := by decide +kernel
theorem dX11_init_0 : decode cX11_init 0 = .ok (.aload_n 0, 1) := dk_42 (dk_at dksX11_init_0 0 rfl rfl)
theorem dX11_init_1 : decode cX11_init 1 = .ok (.aconst_null, 1) := dk_1 (dk_at dksX11_init_0 1 rfl rfl)
theorem dX11_init_2 : decode cX11_init 2 = .ok (.aconst_null, 1) := dk_1 (dk_at dksX11_init_0 2 rfl rfl)
theorem dX11_init_3 : decode cX11_init 3 = .ok (.iconst 0, 1) := dk_3 (dk_at dksX11_init_0 3 rfl rfl)
theorem dX11_init_4 : decode cX11_init 4 = .ok (.iconst 0, 1) := dk_3 (dk_at dksX11_init_0 4 rfl rfl)
theorem dX11_init_5 : decode cX11_init 5 = .ok (.invokespecial 1, 3) := dk_183 0 1 (dk_at dksX11_init_0 5 rfl rfl)
theorem dX11_init_8 : decode cX11_init 8 = .ok (.aload_n 0, 1) := dk_42 (dk_at dksX11_init_0 8 rfl rfl)
theorem dX11_init_9 : decode cX11_init 9 = .ok (.iload_n 1, 1) := dk_27 (dk_at dksX11_init_0 9 rfl rfl)
theorem dX11_init_10 : decode cX11_init 10 = .ok (.putfield 7, 3) := dk_181 0 7 (dk_at dksX11_init_0 10 rfl rfl)
theorem dX11_init_13 : decode cX11_init 13 = .ok (.aload_n 0, 1) := dk_42 (dk_at dksX11_init_0 13 rfl rfl)
theorem dX11_init_14 : decode cX11_init 14 = .ok (.iload_n 2, 1) := dk_28 (dk_at dksX11_init_0 14 rfl rfl)
theorem dX11_init_15 : decode cX11_init 15 = .ok (.putfield 13, 3) := dk_181 0 13 (dk_at dksX11_init_0 15 rfl rfl)
theorem dX11_init_18 : decode cX11_init 18 = .ok (.return_, 1) := dk_177 (dk_at dksX11_init_0 18 rfl rfl)
theorem q151 : (Jvm.Cond.initialized "CavePearls$RefusedException") ∈ lw_all := lw_g (lw_at lw_m1 45 rfl) rfl
theorem q596 : (Jvm.Cond.selects "CavePearls$RefusedException" ({ cls := "java/lang/Throwable", name := "fillInStackTrace", desc := "()Ljava/lang/Throwable;" } : Jvm.MethodName) ({ cls := "java/lang/Throwable", name := "fillInStackTrace", desc := "()Ljava/lang/Throwable;" } : Jvm.MethodName)) ∈ lw_all := lw_g (lw_at lw_m3 10 rfl) rfl
theorem q901 : (Jvm.Cond.selects "CavePearls$RefusedException" ({ cls := "java/lang/Throwable", name := "toString", desc := "()Ljava/lang/String;" } : Jvm.MethodName) ({ cls := "java/lang/Throwable", name := "toString", desc := "()Ljava/lang/String;" } : Jvm.MethodName)) ∈ lw_all := lw_g (lw_at lw_m4 75 rfl) rfl
theorem q939 : (Jvm.Cond.selects "CavePearls$RefusedException" ({ cls := "java/lang/Object", name := "getClass", desc := "()Ljava/lang/Class;" } : Jvm.MethodName) ({ cls := "java/lang/Object", name := "getClass", desc := "()Ljava/lang/Class;" } : Jvm.MethodName)) ∈ lw_all := lw_g (lw_at lw_m4 113 rfl) rfl
theorem q980 : (Jvm.Cond.selects "CavePearls$RefusedException" ({ cls := "java/lang/Throwable", name := "getLocalizedMessage", desc := "()Ljava/lang/String;" } : Jvm.MethodName) ({ cls := "java/lang/Throwable", name := "getLocalizedMessage", desc := "()Ljava/lang/String;" } : Jvm.MethodName)) ∈ lw_all := lw_g (lw_at lw_m4 154 rfl) rfl
theorem q995 : (Jvm.Cond.selects "CavePearls$RefusedException" ({ cls := "java/lang/Throwable", name := "getMessage", desc := "()Ljava/lang/String;" } : Jvm.MethodName) ({ cls := "java/lang/Throwable", name := "getMessage", desc := "()Ljava/lang/String;" } : Jvm.MethodName)) ∈ lw_all := lw_g (lw_at lw_m4 169 rfl) rfl
theorem q1519 : (Jvm.Cond.instantiable "CavePearls$RefusedException" (8 : Nat)) ∈ lw_all := lw_g (lw_at lw_m6 213 rfl) rfl
theorem q1520 : (Jvm.Cond.castable "CavePearls$RefusedException" "CavePearls$RefusedException") ∈ lw_tbl := lw_at lw_m6 214 rfl
theorem q1521 : (Jvm.Cond.selects "CavePearls$RefusedException" ({ cls := "java/lang/Throwable", name := "fillInStackTrace", desc := "(I)Ljava/lang/Throwable;" } : Jvm.MethodName) ({ cls := "java/lang/Throwable", name := "fillInStackTrace", desc := "(I)Ljava/lang/Throwable;" } : Jvm.MethodName)) ∈ lw_all := lw_g (lw_at lw_m6 215 rfl) rfl
theorem q1522 : (Jvm.Cond.lays "CavePearls$RefusedException" "java/lang/Throwable" "cause" "Ljava/lang/Throwable;") ∈ lw_all := lw_g (lw_at lw_m6 216 rfl) rfl
theorem q1523 : (Jvm.Cond.lays "CavePearls$RefusedException" "java/lang/Throwable" "stackTrace" "[Ljava/lang/StackTraceElement;") ∈ lw_all := lw_g (lw_at lw_m6 217 rfl) rfl
theorem q1524 : (Jvm.Cond.lays "CavePearls$RefusedException" "java/lang/Throwable" "suppressedExceptions" "Ljava/util/List;") ∈ lw_all := lw_g (lw_at lw_m6 218 rfl) rfl
theorem q1525 : (Jvm.Cond.lays "CavePearls$RefusedException" "java/lang/Throwable" "detailMessage" "Ljava/lang/String;") ∈ lw_all := lw_g (lw_at lw_m6 219 rfl) rfl
theorem q1526 : (Jvm.Cond.lays "CavePearls$RefusedException" "java/lang/Throwable" "backtrace" "Ljava/lang/Object;") ∈ lw_all := lw_g (lw_at lw_m6 220 rfl) rfl
theorem q1528 : (Jvm.Cond.instanceMethod ({ cls := "CavePearls$RefusedException", name := "<init>", desc := "(II)V" } : Jvm.MethodName)) ∈ lw_all := lw_g (lw_at lw_m6 222 rfl) rfl
theorem q1529 : (Jvm.Cond.code ({ cls := "CavePearls$RefusedException", name := "<init>", desc := "(II)V" } : Jvm.MethodName) prog_25_method_1_code (3 : Nat) (Option.none : Option Jvm.ClassFile.FieldType)) ∈ lw_all := lw_g (lw_at lw_m6 223 rfl) rfl
theorem q1530 : (Jvm.Cond.methodLink "CavePearls$RefusedException" (1 : Nat) ({ cls := "java/lang/Exception", name := "<init>", desc := "(Ljava/lang/String;Ljava/lang/Throwable;ZZ)V" } : Jvm.MethodName)) ∈ lw_all := lw_g (lw_at lw_m6 224 rfl) rfl
theorem q1536 : (Jvm.Cond.fieldLink "CavePearls$RefusedException" (7 : Nat) "CavePearls$RefusedException" "reason" "I") ∈ lw_all := lw_g (lw_at lw_m6 230 rfl) rfl
theorem q1538 : (Jvm.Cond.fieldLink "CavePearls$RefusedException" (13 : Nat) "CavePearls$RefusedException" "detail" "I") ∈ lw_all := lw_g (lw_at lw_m6 232 rfl) rfl
theorem q1540 : (Jvm.Cond.laysFinal "CavePearls$RefusedException" "CavePearls$RefusedException" "reason" "I") ∈ lw_all := lw_g (lw_at lw_m6 234 rfl) rfl
theorem q1541 : (Jvm.Cond.soleField "CavePearls$RefusedException" "reason") ∈ lw_all := lw_g (lw_at lw_m6 235 rfl) rfl
theorem q1542 : (Jvm.Cond.laysFinal "CavePearls$RefusedException" "CavePearls$RefusedException" "detail" "I") ∈ lw_all := lw_g (lw_at lw_m6 236 rfl) rfl
theorem q1543 : (Jvm.Cond.soleField "CavePearls$RefusedException" "detail") ∈ lw_all := lw_g (lw_at lw_m6 237 rfl) rfl
theorem q1544 : (Jvm.Cond.lays "CavePearls$RefusedException" "java/lang/Throwable" "depth" "I") ∈ lw_all := lw_g (lw_at lw_m6 238 rfl) rfl
theorem q1545 : (Jvm.Cond.superclass "CavePearls$RefusedException" "java/lang/Exception") ∈ lw_all := lw_g (lw_at lw_m6 239 rfl) rfl
theorem q3999 : (Jvm.Cond.castable "CavePearls$RefusedException" "java/lang/Object") ∈ lw_tbl := lw_at lw_m17 53 rfl
theorem in_X11 : ∀ w ∈ wsX110, w ∈ lw_all := lw_in wsX110 [1522, 1523, 1524, 1525, 1526, 1544, 1540, 1542] (by decide +kernel) (by decide +kernel)

/-! java/lang/ArrayIndexOutOfBoundsException -/
set_option maxRecDepth 100000
def RJ32 : String := "java/lang/ArrayIndexOutOfBoundsException"
def TJ32 : u_T := fun k => match k with
  | 0 => ("java/lang/Throwable", "backtrace", "Ljava/lang/Object;", false)
  | 1 => ("java/lang/Throwable", "detailMessage", "Ljava/lang/String;", false)
  | 2 => ("java/lang/Throwable", "cause", "Ljava/lang/Throwable;", false)
  | 3 => ("java/lang/Throwable", "stackTrace", "[Ljava/lang/StackTraceElement;", false)
  | 4 => ("java/lang/Throwable", "depth", "I", false)
  | _ => ("java/lang/Throwable", "suppressedExceptions", "Ljava/util/List;", false)
def tyJ32 : Nat → FieldType := fun k => match k with
  | 0 => .object "java/lang/Object"
  | 1 => .object "java/lang/String"
  | 2 => .object "java/lang/Throwable"
  | 3 => .array (.object "java/lang/StackTraceElement")
  | 4 => .int
  | _ => .object "java/util/List"
abbrev wsJ320 : List Cond := u_ws RJ32 TJ32 6
theorem nmJ32 : ∀ a, a < 6 → ∀ b, b < 6 → a ≠ b → (TJ32 a).2.1 ≠ (TJ32 b).2.1 := by decide +kernel
theorem tyJ32_ok : ∀ k, k < 6 → parseFieldDescriptor (TJ32 k).2.2.1 = some (tyJ32 k) := by decide +kernel
abbrev cJ32_init : ByteArray := prog_36_method_2_code
def yJ32_init : MethodName := ⟨RJ32, "<init>", "(Ljava/lang/String;)V"⟩
def dkwJ32_init_0 : List UInt8 := [42, 43, 183, 0, 7, 177]
abbrev dktJ32_init_0 : List UInt8 := dkwJ32_init_0 ++ []
theorem dksJ32_init_0 : cJ32_init.data.toList.drop 0 = dktJ32_init_0 := by decide +kernel
theorem dJ32_init_0 : decode cJ32_init 0 = .ok (.aload_n 0, 1) := dk_42 (dk_at dksJ32_init_0 0 rfl rfl)
theorem dJ32_init_1 : decode cJ32_init 1 = .ok (.aload_n 1, 1) := dk_43 (dk_at dksJ32_init_0 1 rfl rfl)
theorem dJ32_init_2 : decode cJ32_init 2 = .ok (.invokespecial 7, 3) := dk_183 0 7 (dk_at dksJ32_init_0 2 rfl rfl)
theorem dJ32_init_5 : decode cJ32_init 5 = .ok (.return_, 1) := dk_177 (dk_at dksJ32_init_0 5 rfl rfl)
abbrev cJ32_init_2 : ByteArray := prog_36_method_3_code
def yJ32_init_2 : MethodName := ⟨RJ32, "<init>", "(I)V"⟩
def dkwJ32_init_2_0 : List UInt8 := [42, 187, 0, 10, 89, 183, 0, 12, 18, 13, 182, 0, 15, 27, 182, 0, 19, 182, 0, 22, 183, 0, 7, 177]
abbrev dktJ32_init_2_0 : List UInt8 := dkwJ32_init_2_0 ++ []
theorem dksJ32_init_2_0 : cJ32_init_2.data.toList.drop 0 = dktJ32_init_2_0 := by decide +kernel
theorem dJ32_init_2_0 : decode cJ32_init_2 0 = .ok (.aload_n 0, 1) := dk_42 (dk_at dksJ32_init_2_0 0 rfl rfl)
theorem dJ32_init_2_1 : decode cJ32_init_2 1 = .ok (.new 10, 3) := dk_187 0 10 (dk_at dksJ32_init_2_0 1 rfl rfl)
theorem dJ32_init_2_4 : decode cJ32_init_2 4 = .ok (.dup, 1) := dk_89 (dk_at dksJ32_init_2_0 4 rfl rfl)
theorem dJ32_init_2_5 : decode cJ32_init_2 5 = .ok (.invokespecial 12, 3) := dk_183 0 12 (dk_at dksJ32_init_2_0 5 rfl rfl)
theorem dJ32_init_2_8 : decode cJ32_init_2 8 = .ok (.ldc 13, 2) := dk_18 13 (dk_at dksJ32_init_2_0 8 rfl rfl)
theorem dJ32_init_2_10 : decode cJ32_init_2 10 = .ok (.invokevirtual 15, 3) := dk_182 0 15 (dk_at dksJ32_init_2_0 10 rfl rfl)
theorem dJ32_init_2_13 : decode cJ32_init_2 13 = .ok (.iload_n 1, 1) := dk_27 (dk_at dksJ32_init_2_0 13 rfl rfl)
theorem dJ32_init_2_14 : decode cJ32_init_2 14 = .ok (.invokevirtual 19, 3) := dk_182 0 19 (dk_at dksJ32_init_2_0 14 rfl rfl)
theorem dJ32_init_2_17 : decode cJ32_init_2 17 = .ok (.invokevirtual 22, 3) := dk_182 0 22 (dk_at dksJ32_init_2_0 17 rfl rfl)
theorem dJ32_init_2_20 : decode cJ32_init_2 20 = .ok (.invokespecial 7, 3) := dk_183 0 7 (dk_at dksJ32_init_2_0 20 rfl rfl)
theorem dJ32_init_2_23 : decode cJ32_init_2 23 = .ok (.return_, 1) := dk_177 (dk_at dksJ32_init_2_0 23 rfl rfl)
theorem q152 : (Jvm.Cond.initialized "java/lang/ArrayIndexOutOfBoundsException") ∈ lw_all := lw_g (lw_at lw_m1 46 rfl) rfl
theorem q599 : (Jvm.Cond.selects "java/lang/ArrayIndexOutOfBoundsException" ({ cls := "java/lang/Throwable", name := "fillInStackTrace", desc := "()Ljava/lang/Throwable;" } : Jvm.MethodName) ({ cls := "java/lang/Throwable", name := "fillInStackTrace", desc := "()Ljava/lang/Throwable;" } : Jvm.MethodName)) ∈ lw_all := lw_g (lw_at lw_m3 13 rfl) rfl
theorem q904 : (Jvm.Cond.selects "java/lang/ArrayIndexOutOfBoundsException" ({ cls := "java/lang/Throwable", name := "toString", desc := "()Ljava/lang/String;" } : Jvm.MethodName) ({ cls := "java/lang/Throwable", name := "toString", desc := "()Ljava/lang/String;" } : Jvm.MethodName)) ∈ lw_all := lw_g (lw_at lw_m4 78 rfl) rfl
theorem q945 : (Jvm.Cond.selects "java/lang/ArrayIndexOutOfBoundsException" ({ cls := "java/lang/Object", name := "getClass", desc := "()Ljava/lang/Class;" } : Jvm.MethodName) ({ cls := "java/lang/Object", name := "getClass", desc := "()Ljava/lang/Class;" } : Jvm.MethodName)) ∈ lw_all := lw_g (lw_at lw_m4 119 rfl) rfl
theorem q983 : (Jvm.Cond.selects "java/lang/ArrayIndexOutOfBoundsException" ({ cls := "java/lang/Throwable", name := "getLocalizedMessage", desc := "()Ljava/lang/String;" } : Jvm.MethodName) ({ cls := "java/lang/Throwable", name := "getLocalizedMessage", desc := "()Ljava/lang/String;" } : Jvm.MethodName)) ∈ lw_all := lw_g (lw_at lw_m4 157 rfl) rfl
theorem q998 : (Jvm.Cond.selects "java/lang/ArrayIndexOutOfBoundsException" ({ cls := "java/lang/Throwable", name := "getMessage", desc := "()Ljava/lang/String;" } : Jvm.MethodName) ({ cls := "java/lang/Throwable", name := "getMessage", desc := "()Ljava/lang/String;" } : Jvm.MethodName)) ∈ lw_all := lw_g (lw_at lw_m4 172 rfl) rfl
theorem q1672 : (Jvm.Cond.instantiable "java/lang/ArrayIndexOutOfBoundsException" (6 : Nat)) ∈ lw_all := lw_g (lw_at lw_m7 126 rfl) rfl
theorem q1673 : (Jvm.Cond.instanceMethod ({ cls := "java/lang/ArrayIndexOutOfBoundsException", name := "<init>", desc := "(Ljava/lang/String;)V" } : Jvm.MethodName)) ∈ lw_all := lw_g (lw_at lw_m7 127 rfl) rfl
theorem q1674 : (Jvm.Cond.code ({ cls := "java/lang/ArrayIndexOutOfBoundsException", name := "<init>", desc := "(Ljava/lang/String;)V" } : Jvm.MethodName) prog_36_method_2_code (2 : Nat) (Option.none : Option Jvm.ClassFile.FieldType)) ∈ lw_all := lw_g (lw_at lw_m7 128 rfl) rfl
theorem q1675 : (Jvm.Cond.methodLink "java/lang/ArrayIndexOutOfBoundsException" (7 : Nat) ({ cls := "java/lang/IndexOutOfBoundsException", name := "<init>", desc := "(Ljava/lang/String;)V" } : Jvm.MethodName)) ∈ lw_all := lw_g (lw_at lw_m7 129 rfl) rfl
theorem q1676 : (Jvm.Cond.lays "java/lang/ArrayIndexOutOfBoundsException" "java/lang/Throwable" "backtrace" "Ljava/lang/Object;") ∈ lw_all := lw_g (lw_at lw_m7 130 rfl) rfl
theorem q1677 : (Jvm.Cond.lays "java/lang/ArrayIndexOutOfBoundsException" "java/lang/Throwable" "detailMessage" "Ljava/lang/String;") ∈ lw_all := lw_g (lw_at lw_m7 131 rfl) rfl
theorem q1678 : (Jvm.Cond.lays "java/lang/ArrayIndexOutOfBoundsException" "java/lang/Throwable" "cause" "Ljava/lang/Throwable;") ∈ lw_all := lw_g (lw_at lw_m7 132 rfl) rfl
theorem q1679 : (Jvm.Cond.lays "java/lang/ArrayIndexOutOfBoundsException" "java/lang/Throwable" "stackTrace" "[Ljava/lang/StackTraceElement;") ∈ lw_all := lw_g (lw_at lw_m7 133 rfl) rfl
theorem q1680 : (Jvm.Cond.lays "java/lang/ArrayIndexOutOfBoundsException" "java/lang/Throwable" "depth" "I") ∈ lw_all := lw_g (lw_at lw_m7 134 rfl) rfl
theorem q1681 : (Jvm.Cond.lays "java/lang/ArrayIndexOutOfBoundsException" "java/lang/Throwable" "suppressedExceptions" "Ljava/util/List;") ∈ lw_all := lw_g (lw_at lw_m7 135 rfl) rfl
theorem q1682 : (Jvm.Cond.superclass "java/lang/ArrayIndexOutOfBoundsException" "java/lang/IndexOutOfBoundsException") ∈ lw_all := lw_g (lw_at lw_m7 136 rfl) rfl
theorem q1683 : (Jvm.Cond.castable "java/lang/ArrayIndexOutOfBoundsException" "java/lang/ArrayIndexOutOfBoundsException") ∈ lw_tbl := lw_at lw_m7 137 rfl
theorem q1686 : (Jvm.Cond.selects "java/lang/ArrayIndexOutOfBoundsException" ({ cls := "java/lang/Throwable", name := "fillInStackTrace", desc := "(I)Ljava/lang/Throwable;" } : Jvm.MethodName) ({ cls := "java/lang/Throwable", name := "fillInStackTrace", desc := "(I)Ljava/lang/Throwable;" } : Jvm.MethodName)) ∈ lw_all := lw_g (lw_at lw_m7 140 rfl) rfl
theorem q3056 : (Jvm.Cond.instanceMethod ({ cls := "java/lang/ArrayIndexOutOfBoundsException", name := "<init>", desc := "(I)V" } : Jvm.MethodName)) ∈ lw_all := lw_g (lw_at lw_m13 70 rfl) rfl
theorem q3057 : (Jvm.Cond.code ({ cls := "java/lang/ArrayIndexOutOfBoundsException", name := "<init>", desc := "(I)V" } : Jvm.MethodName) prog_36_method_3_code (2 : Nat) (Option.none : Option Jvm.ClassFile.FieldType)) ∈ lw_all := lw_g (lw_at lw_m13 71 rfl) rfl
theorem q3058 : (Jvm.Cond.classLink "java/lang/ArrayIndexOutOfBoundsException" (10 : Nat) "java/lang/StringBuilder") ∈ lw_all := lw_g (lw_at lw_m13 72 rfl) rfl
theorem q3059 : (Jvm.Cond.methodLink "java/lang/ArrayIndexOutOfBoundsException" (12 : Nat) ({ cls := "java/lang/StringBuilder", name := "<init>", desc := "()V" } : Jvm.MethodName)) ∈ lw_all := lw_g (lw_at lw_m13 73 rfl) rfl
theorem q3060 : (Jvm.Cond.stringRef "java/lang/ArrayIndexOutOfBoundsException" (13 : Nat) "Array index out of range: ") ∈ lw_tbl := lw_at lw_m13 74 rfl
theorem q3061 : (Jvm.Cond.methodLink "java/lang/ArrayIndexOutOfBoundsException" (15 : Nat) ({ cls := "java/lang/StringBuilder", name := "append", desc := "(Ljava/lang/String;)Ljava/lang/StringBuilder;" } : Jvm.MethodName)) ∈ lw_all := lw_g (lw_at lw_m13 75 rfl) rfl
theorem q3062 : (Jvm.Cond.methodLink "java/lang/ArrayIndexOutOfBoundsException" (19 : Nat) ({ cls := "java/lang/StringBuilder", name := "append", desc := "(I)Ljava/lang/StringBuilder;" } : Jvm.MethodName)) ∈ lw_all := lw_g (lw_at lw_m13 76 rfl) rfl
theorem q3063 : (Jvm.Cond.methodLink "java/lang/ArrayIndexOutOfBoundsException" (22 : Nat) ({ cls := "java/lang/StringBuilder", name := "toString", desc := "()Ljava/lang/String;" } : Jvm.MethodName)) ∈ lw_all := lw_g (lw_at lw_m13 77 rfl) rfl
theorem q3974 : (Jvm.Cond.castable "java/lang/ArrayIndexOutOfBoundsException" "java/lang/IndexOutOfBoundsException") ∈ lw_tbl := lw_at lw_m17 28 rfl
theorem q4002 : (Jvm.Cond.castable "java/lang/ArrayIndexOutOfBoundsException" "java/lang/Object") ∈ lw_tbl := lw_at lw_m17 56 rfl
theorem in_J32 : ∀ w ∈ wsJ320, w ∈ lw_all := lw_in wsJ320 [1676, 1677, 1678, 1679, 1680, 1681] (by decide +kernel) (by decide +kernel)

/-! java/lang/UnsupportedOperationException -/
set_option maxRecDepth 100000
def RJ33 : String := "java/lang/UnsupportedOperationException"
def TJ33 : u_T := fun k => match k with
  | 0 => ("java/lang/Throwable", "cause", "Ljava/lang/Throwable;", false)
  | 1 => ("java/lang/Throwable", "stackTrace", "[Ljava/lang/StackTraceElement;", false)
  | 2 => ("java/lang/Throwable", "suppressedExceptions", "Ljava/util/List;", false)
  | 3 => ("java/lang/Throwable", "detailMessage", "Ljava/lang/String;", false)
  | 4 => ("java/lang/Throwable", "backtrace", "Ljava/lang/Object;", false)
  | _ => ("java/lang/Throwable", "depth", "I", false)
def tyJ33 : Nat → FieldType := fun k => match k with
  | 0 => .object "java/lang/Throwable"
  | 1 => .array (.object "java/lang/StackTraceElement")
  | 2 => .object "java/util/List"
  | 3 => .object "java/lang/String"
  | 4 => .object "java/lang/Object"
  | _ => .int
abbrev wsJ330 : List Cond := u_ws RJ33 TJ33 6
theorem nmJ33 : ∀ a, a < 6 → ∀ b, b < 6 → a ≠ b → (TJ33 a).2.1 ≠ (TJ33 b).2.1 := by decide +kernel
theorem tyJ33_ok : ∀ k, k < 6 → parseFieldDescriptor (TJ33 k).2.2.1 = some (tyJ33 k) := by decide +kernel
abbrev cJ33_init : ByteArray := prog_59_method_2_code
def yJ33_init : MethodName := ⟨RJ33, "<init>", "(Ljava/lang/String;)V"⟩
def dkwJ33_init_0 : List UInt8 := [42, 43, 183, 0, 7, 177]
abbrev dktJ33_init_0 : List UInt8 := dkwJ33_init_0 ++ []
theorem dksJ33_init_0 : cJ33_init.data.toList.drop 0 = dktJ33_init_0 := by decide +kernel
theorem dJ33_init_0 : decode cJ33_init 0 = .ok (.aload_n 0, 1) := dk_42 (dk_at dksJ33_init_0 0 rfl rfl)
theorem dJ33_init_1 : decode cJ33_init 1 = .ok (.aload_n 1, 1) := dk_43 (dk_at dksJ33_init_0 1 rfl rfl)
theorem dJ33_init_2 : decode cJ33_init 2 = .ok (.invokespecial 7, 3) := dk_183 0 7 (dk_at dksJ33_init_0 2 rfl rfl)
theorem dJ33_init_5 : decode cJ33_init 5 = .ok (.return_, 1) := dk_177 (dk_at dksJ33_init_0 5 rfl rfl)
abbrev cJ33_init_2 : ByteArray := prog_59_method_1_code
def yJ33_init_2 : MethodName := ⟨RJ33, "<init>", "()V"⟩
theorem dJ33_init_2_0 : decode cJ33_init_2 0 = .ok (.aload_n 0, 1) := by decide +kernel
theorem dJ33_init_2_1 : decode cJ33_init_2 1 = .ok (.invokespecial 1, 3) := by decide +kernel
theorem dJ33_init_2_4 : decode cJ33_init_2 4 = .ok (.return_, 1) := by decide +kernel
theorem q153 : (Jvm.Cond.initialized "java/lang/UnsupportedOperationException") ∈ lw_all := lw_g (lw_at lw_m1 47 rfl) rfl
theorem q603 : (Jvm.Cond.selects "java/lang/UnsupportedOperationException" ({ cls := "java/lang/Throwable", name := "fillInStackTrace", desc := "()Ljava/lang/Throwable;" } : Jvm.MethodName) ({ cls := "java/lang/Throwable", name := "fillInStackTrace", desc := "()Ljava/lang/Throwable;" } : Jvm.MethodName)) ∈ lw_all := lw_g (lw_at lw_m3 17 rfl) rfl
theorem q909 : (Jvm.Cond.selects "java/lang/UnsupportedOperationException" ({ cls := "java/lang/Throwable", name := "toString", desc := "()Ljava/lang/String;" } : Jvm.MethodName) ({ cls := "java/lang/Throwable", name := "toString", desc := "()Ljava/lang/String;" } : Jvm.MethodName)) ∈ lw_all := lw_g (lw_at lw_m4 83 rfl) rfl
theorem q954 : (Jvm.Cond.selects "java/lang/UnsupportedOperationException" ({ cls := "java/lang/Object", name := "getClass", desc := "()Ljava/lang/Class;" } : Jvm.MethodName) ({ cls := "java/lang/Object", name := "getClass", desc := "()Ljava/lang/Class;" } : Jvm.MethodName)) ∈ lw_all := lw_g (lw_at lw_m4 128 rfl) rfl
theorem q988 : (Jvm.Cond.selects "java/lang/UnsupportedOperationException" ({ cls := "java/lang/Throwable", name := "getLocalizedMessage", desc := "()Ljava/lang/String;" } : Jvm.MethodName) ({ cls := "java/lang/Throwable", name := "getLocalizedMessage", desc := "()Ljava/lang/String;" } : Jvm.MethodName)) ∈ lw_all := lw_g (lw_at lw_m4 162 rfl) rfl
theorem q1003 : (Jvm.Cond.selects "java/lang/UnsupportedOperationException" ({ cls := "java/lang/Throwable", name := "getMessage", desc := "()Ljava/lang/String;" } : Jvm.MethodName) ({ cls := "java/lang/Throwable", name := "getMessage", desc := "()Ljava/lang/String;" } : Jvm.MethodName)) ∈ lw_all := lw_g (lw_at lw_m4 177 rfl) rfl
theorem q1784 : (Jvm.Cond.instantiable "java/lang/UnsupportedOperationException" (6 : Nat)) ∈ lw_all := lw_g (lw_at lw_m7 238 rfl) rfl
theorem q1785 : (Jvm.Cond.castable "java/lang/UnsupportedOperationException" "java/lang/UnsupportedOperationException") ∈ lw_tbl := lw_at lw_m7 239 rfl
theorem q1786 : (Jvm.Cond.selects "java/lang/UnsupportedOperationException" ({ cls := "java/lang/Throwable", name := "fillInStackTrace", desc := "(I)Ljava/lang/Throwable;" } : Jvm.MethodName) ({ cls := "java/lang/Throwable", name := "fillInStackTrace", desc := "(I)Ljava/lang/Throwable;" } : Jvm.MethodName)) ∈ lw_all := lw_g (lw_at lw_m8 0 rfl) rfl
theorem q1787 : (Jvm.Cond.lays "java/lang/UnsupportedOperationException" "java/lang/Throwable" "cause" "Ljava/lang/Throwable;") ∈ lw_all := lw_g (lw_at lw_m8 1 rfl) rfl
theorem q1788 : (Jvm.Cond.lays "java/lang/UnsupportedOperationException" "java/lang/Throwable" "stackTrace" "[Ljava/lang/StackTraceElement;") ∈ lw_all := lw_g (lw_at lw_m8 2 rfl) rfl
theorem q1789 : (Jvm.Cond.lays "java/lang/UnsupportedOperationException" "java/lang/Throwable" "suppressedExceptions" "Ljava/util/List;") ∈ lw_all := lw_g (lw_at lw_m8 3 rfl) rfl
theorem q1790 : (Jvm.Cond.lays "java/lang/UnsupportedOperationException" "java/lang/Throwable" "detailMessage" "Ljava/lang/String;") ∈ lw_all := lw_g (lw_at lw_m8 4 rfl) rfl
theorem q1791 : (Jvm.Cond.lays "java/lang/UnsupportedOperationException" "java/lang/Throwable" "backtrace" "Ljava/lang/Object;") ∈ lw_all := lw_g (lw_at lw_m8 5 rfl) rfl
theorem q1794 : (Jvm.Cond.instanceMethod ({ cls := "java/lang/UnsupportedOperationException", name := "<init>", desc := "(Ljava/lang/String;)V" } : Jvm.MethodName)) ∈ lw_all := lw_g (lw_at lw_m8 8 rfl) rfl
theorem q1795 : (Jvm.Cond.code ({ cls := "java/lang/UnsupportedOperationException", name := "<init>", desc := "(Ljava/lang/String;)V" } : Jvm.MethodName) prog_59_method_2_code (2 : Nat) (Option.none : Option Jvm.ClassFile.FieldType)) ∈ lw_all := lw_g (lw_at lw_m8 9 rfl) rfl
theorem q1796 : (Jvm.Cond.methodLink "java/lang/UnsupportedOperationException" (7 : Nat) ({ cls := "java/lang/RuntimeException", name := "<init>", desc := "(Ljava/lang/String;)V" } : Jvm.MethodName)) ∈ lw_all := lw_g (lw_at lw_m8 10 rfl) rfl
theorem q1797 : (Jvm.Cond.lays "java/lang/UnsupportedOperationException" "java/lang/Throwable" "depth" "I") ∈ lw_all := lw_g (lw_at lw_m8 11 rfl) rfl
theorem q1798 : (Jvm.Cond.superclass "java/lang/UnsupportedOperationException" "java/lang/RuntimeException") ∈ lw_all := lw_g (lw_at lw_m8 12 rfl) rfl
theorem q1885 : (Jvm.Cond.instanceMethod ({ cls := "java/lang/UnsupportedOperationException", name := "<init>", desc := "()V" } : Jvm.MethodName)) ∈ lw_all := lw_g (lw_at lw_m8 99 rfl) rfl
theorem q1886 : (Jvm.Cond.code ({ cls := "java/lang/UnsupportedOperationException", name := "<init>", desc := "()V" } : Jvm.MethodName) prog_59_method_1_code (1 : Nat) (Option.none : Option Jvm.ClassFile.FieldType)) ∈ lw_all := lw_g (lw_at lw_m8 100 rfl) rfl
theorem q1887 : (Jvm.Cond.methodLink "java/lang/UnsupportedOperationException" (1 : Nat) ({ cls := "java/lang/RuntimeException", name := "<init>", desc := "()V" } : Jvm.MethodName)) ∈ lw_all := lw_g (lw_at lw_m8 101 rfl) rfl
theorem q4001 : (Jvm.Cond.castable "java/lang/UnsupportedOperationException" "java/lang/Object") ∈ lw_tbl := lw_at lw_m17 55 rfl
theorem in_J33 : ∀ w ∈ wsJ330, w ∈ lw_all := lw_in wsJ330 [1787, 1788, 1789, 1790, 1791, 1797] (by decide +kernel) (by decide +kernel)

/-! java/lang/IllegalStateException -/
set_option maxRecDepth 100000
def RJ34 : String := "java/lang/IllegalStateException"
def TJ34 : u_T := fun k => match k with
  | 0 => ("java/lang/Throwable", "cause", "Ljava/lang/Throwable;", false)
  | 1 => ("java/lang/Throwable", "stackTrace", "[Ljava/lang/StackTraceElement;", false)
  | 2 => ("java/lang/Throwable", "suppressedExceptions", "Ljava/util/List;", false)
  | 3 => ("java/lang/Throwable", "detailMessage", "Ljava/lang/String;", false)
  | 4 => ("java/lang/Throwable", "backtrace", "Ljava/lang/Object;", false)
  | _ => ("java/lang/Throwable", "depth", "I", false)
def tyJ34 : Nat → FieldType := fun k => match k with
  | 0 => .object "java/lang/Throwable"
  | 1 => .array (.object "java/lang/StackTraceElement")
  | 2 => .object "java/util/List"
  | 3 => .object "java/lang/String"
  | 4 => .object "java/lang/Object"
  | _ => .int
abbrev wsJ340 : List Cond := u_ws RJ34 TJ34 6
theorem nmJ34 : ∀ a, a < 6 → ∀ b, b < 6 → a ≠ b → (TJ34 a).2.1 ≠ (TJ34 b).2.1 := by decide +kernel
theorem tyJ34_ok : ∀ k, k < 6 → parseFieldDescriptor (TJ34 k).2.2.1 = some (tyJ34 k) := by decide +kernel
abbrev cJ34_init : ByteArray := prog_42_method_1_code
def yJ34_init : MethodName := ⟨RJ34, "<init>", "()V"⟩
theorem dJ34_init_0 : decode cJ34_init 0 = .ok (.aload_n 0, 1) := by decide +kernel
theorem dJ34_init_1 : decode cJ34_init 1 = .ok (.invokespecial 1, 3) := by decide +kernel
theorem dJ34_init_4 : decode cJ34_init 4 = .ok (.return_, 1) := by decide +kernel
abbrev cJ34_init_2 : ByteArray := prog_42_method_2_code
def yJ34_init_2 : MethodName := ⟨RJ34, "<init>", "(Ljava/lang/String;)V"⟩
def dkwJ34_init_2_0 : List UInt8 := [42, 43, 183, 0, 7, 177]
abbrev dktJ34_init_2_0 : List UInt8 := dkwJ34_init_2_0 ++ []
theorem dksJ34_init_2_0 : cJ34_init_2.data.toList.drop 0 = dktJ34_init_2_0 := by decide +kernel
theorem dJ34_init_2_0 : decode cJ34_init_2 0 = .ok (.aload_n 0, 1) := dk_42 (dk_at dksJ34_init_2_0 0 rfl rfl)
theorem dJ34_init_2_1 : decode cJ34_init_2 1 = .ok (.aload_n 1, 1) := dk_43 (dk_at dksJ34_init_2_0 1 rfl rfl)
theorem dJ34_init_2_2 : decode cJ34_init_2 2 = .ok (.invokespecial 7, 3) := dk_183 0 7 (dk_at dksJ34_init_2_0 2 rfl rfl)
theorem dJ34_init_2_5 : decode cJ34_init_2 5 = .ok (.return_, 1) := dk_177 (dk_at dksJ34_init_2_0 5 rfl rfl)
theorem q154 : (Jvm.Cond.initialized "java/lang/IllegalStateException") ∈ lw_all := lw_g (lw_at lw_m1 48 rfl) rfl
theorem q601 : (Jvm.Cond.selects "java/lang/IllegalStateException" ({ cls := "java/lang/Throwable", name := "fillInStackTrace", desc := "()Ljava/lang/Throwable;" } : Jvm.MethodName) ({ cls := "java/lang/Throwable", name := "fillInStackTrace", desc := "()Ljava/lang/Throwable;" } : Jvm.MethodName)) ∈ lw_all := lw_g (lw_at lw_m3 15 rfl) rfl
theorem q906 : (Jvm.Cond.selects "java/lang/IllegalStateException" ({ cls := "java/lang/Throwable", name := "toString", desc := "()Ljava/lang/String;" } : Jvm.MethodName) ({ cls := "java/lang/Throwable", name := "toString", desc := "()Ljava/lang/String;" } : Jvm.MethodName)) ∈ lw_all := lw_g (lw_at lw_m4 80 rfl) rfl
theorem q947 : (Jvm.Cond.selects "java/lang/IllegalStateException" ({ cls := "java/lang/Object", name := "getClass", desc := "()Ljava/lang/Class;" } : Jvm.MethodName) ({ cls := "java/lang/Object", name := "getClass", desc := "()Ljava/lang/Class;" } : Jvm.MethodName)) ∈ lw_all := lw_g (lw_at lw_m4 121 rfl) rfl
theorem q985 : (Jvm.Cond.selects "java/lang/IllegalStateException" ({ cls := "java/lang/Throwable", name := "getLocalizedMessage", desc := "()Ljava/lang/String;" } : Jvm.MethodName) ({ cls := "java/lang/Throwable", name := "getLocalizedMessage", desc := "()Ljava/lang/String;" } : Jvm.MethodName)) ∈ lw_all := lw_g (lw_at lw_m4 159 rfl) rfl
theorem q1000 : (Jvm.Cond.selects "java/lang/IllegalStateException" ({ cls := "java/lang/Throwable", name := "getMessage", desc := "()Ljava/lang/String;" } : Jvm.MethodName) ({ cls := "java/lang/Throwable", name := "getMessage", desc := "()Ljava/lang/String;" } : Jvm.MethodName)) ∈ lw_all := lw_g (lw_at lw_m4 174 rfl) rfl
theorem q1805 : (Jvm.Cond.instantiable "java/lang/IllegalStateException" (6 : Nat)) ∈ lw_all := lw_g (lw_at lw_m8 19 rfl) rfl
theorem q1806 : (Jvm.Cond.castable "java/lang/IllegalStateException" "java/lang/IllegalStateException") ∈ lw_tbl := lw_at lw_m8 20 rfl
theorem q1807 : (Jvm.Cond.selects "java/lang/IllegalStateException" ({ cls := "java/lang/Throwable", name := "fillInStackTrace", desc := "(I)Ljava/lang/Throwable;" } : Jvm.MethodName) ({ cls := "java/lang/Throwable", name := "fillInStackTrace", desc := "(I)Ljava/lang/Throwable;" } : Jvm.MethodName)) ∈ lw_all := lw_g (lw_at lw_m8 21 rfl) rfl
theorem q1808 : (Jvm.Cond.lays "java/lang/IllegalStateException" "java/lang/Throwable" "cause" "Ljava/lang/Throwable;") ∈ lw_all := lw_g (lw_at lw_m8 22 rfl) rfl
theorem q1809 : (Jvm.Cond.lays "java/lang/IllegalStateException" "java/lang/Throwable" "stackTrace" "[Ljava/lang/StackTraceElement;") ∈ lw_all := lw_g (lw_at lw_m8 23 rfl) rfl
theorem q1810 : (Jvm.Cond.lays "java/lang/IllegalStateException" "java/lang/Throwable" "suppressedExceptions" "Ljava/util/List;") ∈ lw_all := lw_g (lw_at lw_m8 24 rfl) rfl
theorem q1811 : (Jvm.Cond.lays "java/lang/IllegalStateException" "java/lang/Throwable" "detailMessage" "Ljava/lang/String;") ∈ lw_all := lw_g (lw_at lw_m8 25 rfl) rfl
theorem q1812 : (Jvm.Cond.lays "java/lang/IllegalStateException" "java/lang/Throwable" "backtrace" "Ljava/lang/Object;") ∈ lw_all := lw_g (lw_at lw_m8 26 rfl) rfl
theorem q1814 : (Jvm.Cond.instanceMethod ({ cls := "java/lang/IllegalStateException", name := "<init>", desc := "()V" } : Jvm.MethodName)) ∈ lw_all := lw_g (lw_at lw_m8 28 rfl) rfl
theorem q1815 : (Jvm.Cond.code ({ cls := "java/lang/IllegalStateException", name := "<init>", desc := "()V" } : Jvm.MethodName) prog_42_method_1_code (1 : Nat) (Option.none : Option Jvm.ClassFile.FieldType)) ∈ lw_all := lw_g (lw_at lw_m8 29 rfl) rfl
theorem q1816 : (Jvm.Cond.methodLink "java/lang/IllegalStateException" (1 : Nat) ({ cls := "java/lang/RuntimeException", name := "<init>", desc := "()V" } : Jvm.MethodName)) ∈ lw_all := lw_g (lw_at lw_m8 30 rfl) rfl
theorem q1817 : (Jvm.Cond.lays "java/lang/IllegalStateException" "java/lang/Throwable" "depth" "I") ∈ lw_all := lw_g (lw_at lw_m8 31 rfl) rfl
theorem q1818 : (Jvm.Cond.superclass "java/lang/IllegalStateException" "java/lang/RuntimeException") ∈ lw_all := lw_g (lw_at lw_m8 32 rfl) rfl
theorem q2162 : (Jvm.Cond.instanceMethod ({ cls := "java/lang/IllegalStateException", name := "<init>", desc := "(Ljava/lang/String;)V" } : Jvm.MethodName)) ∈ lw_all := lw_g (lw_at lw_m9 136 rfl) rfl
theorem q2163 : (Jvm.Cond.code ({ cls := "java/lang/IllegalStateException", name := "<init>", desc := "(Ljava/lang/String;)V" } : Jvm.MethodName) prog_42_method_2_code (2 : Nat) (Option.none : Option Jvm.ClassFile.FieldType)) ∈ lw_all := lw_g (lw_at lw_m9 137 rfl) rfl
theorem q2164 : (Jvm.Cond.methodLink "java/lang/IllegalStateException" (7 : Nat) ({ cls := "java/lang/RuntimeException", name := "<init>", desc := "(Ljava/lang/String;)V" } : Jvm.MethodName)) ∈ lw_all := lw_g (lw_at lw_m9 138 rfl) rfl
theorem q4000 : (Jvm.Cond.castable "java/lang/IllegalStateException" "java/lang/Object") ∈ lw_tbl := lw_at lw_m17 54 rfl
theorem in_J34 : ∀ w ∈ wsJ340, w ∈ lw_all := lw_in wsJ340 [1808, 1809, 1810, 1811, 1812, 1817] (by decide +kernel) (by decide +kernel)

/-! java/util/ConcurrentModificationException -/
set_option maxRecDepth 100000
def RJ35 : String := "java/util/ConcurrentModificationException"
def TJ35 : u_T := fun k => match k with
  | 0 => ("java/lang/Throwable", "cause", "Ljava/lang/Throwable;", false)
  | 1 => ("java/lang/Throwable", "stackTrace", "[Ljava/lang/StackTraceElement;", false)
  | 2 => ("java/lang/Throwable", "suppressedExceptions", "Ljava/util/List;", false)
  | 3 => ("java/lang/Throwable", "detailMessage", "Ljava/lang/String;", false)
  | 4 => ("java/lang/Throwable", "backtrace", "Ljava/lang/Object;", false)
  | _ => ("java/lang/Throwable", "depth", "I", false)
def tyJ35 : Nat → FieldType := fun k => match k with
  | 0 => .object "java/lang/Throwable"
  | 1 => .array (.object "java/lang/StackTraceElement")
  | 2 => .object "java/util/List"
  | 3 => .object "java/lang/String"
  | 4 => .object "java/lang/Object"
  | _ => .int
abbrev wsJ350 : List Cond := u_ws RJ35 TJ35 6
theorem nmJ35 : ∀ a, a < 6 → ∀ b, b < 6 → a ≠ b → (TJ35 a).2.1 ≠ (TJ35 b).2.1 := by decide +kernel
theorem tyJ35_ok : ∀ k, k < 6 → parseFieldDescriptor (TJ35 k).2.2.1 = some (tyJ35 k) := by decide +kernel
abbrev cJ35_init : ByteArray := prog_77_method_1_code
def yJ35_init : MethodName := ⟨RJ35, "<init>", "()V"⟩
theorem dJ35_init_0 : decode cJ35_init 0 = .ok (.aload_n 0, 1) := by decide +kernel
theorem dJ35_init_1 : decode cJ35_init 1 = .ok (.invokespecial 1, 3) := by decide +kernel
theorem dJ35_init_4 : decode cJ35_init 4 = .ok (.return_, 1) := by decide +kernel
theorem q155 : (Jvm.Cond.initialized "java/util/ConcurrentModificationException") ∈ lw_all := lw_g (lw_at lw_m1 49 rfl) rfl
theorem q604 : (Jvm.Cond.selects "java/util/ConcurrentModificationException" ({ cls := "java/lang/Throwable", name := "fillInStackTrace", desc := "()Ljava/lang/Throwable;" } : Jvm.MethodName) ({ cls := "java/lang/Throwable", name := "fillInStackTrace", desc := "()Ljava/lang/Throwable;" } : Jvm.MethodName)) ∈ lw_all := lw_g (lw_at lw_m3 18 rfl) rfl
theorem q910 : (Jvm.Cond.selects "java/util/ConcurrentModificationException" ({ cls := "java/lang/Throwable", name := "toString", desc := "()Ljava/lang/String;" } : Jvm.MethodName) ({ cls := "java/lang/Throwable", name := "toString", desc := "()Ljava/lang/String;" } : Jvm.MethodName)) ∈ lw_all := lw_g (lw_at lw_m4 84 rfl) rfl
theorem q961 : (Jvm.Cond.selects "java/util/ConcurrentModificationException" ({ cls := "java/lang/Object", name := "getClass", desc := "()Ljava/lang/Class;" } : Jvm.MethodName) ({ cls := "java/lang/Object", name := "getClass", desc := "()Ljava/lang/Class;" } : Jvm.MethodName)) ∈ lw_all := lw_g (lw_at lw_m4 135 rfl) rfl
theorem q989 : (Jvm.Cond.selects "java/util/ConcurrentModificationException" ({ cls := "java/lang/Throwable", name := "getLocalizedMessage", desc := "()Ljava/lang/String;" } : Jvm.MethodName) ({ cls := "java/lang/Throwable", name := "getLocalizedMessage", desc := "()Ljava/lang/String;" } : Jvm.MethodName)) ∈ lw_all := lw_g (lw_at lw_m4 163 rfl) rfl
theorem q1004 : (Jvm.Cond.selects "java/util/ConcurrentModificationException" ({ cls := "java/lang/Throwable", name := "getMessage", desc := "()Ljava/lang/String;" } : Jvm.MethodName) ({ cls := "java/lang/Throwable", name := "getMessage", desc := "()Ljava/lang/String;" } : Jvm.MethodName)) ∈ lw_all := lw_g (lw_at lw_m4 178 rfl) rfl
theorem q1826 : (Jvm.Cond.instantiable "java/util/ConcurrentModificationException" (6 : Nat)) ∈ lw_all := lw_g (lw_at lw_m8 40 rfl) rfl
theorem q1827 : (Jvm.Cond.castable "java/util/ConcurrentModificationException" "java/util/ConcurrentModificationException") ∈ lw_tbl := lw_at lw_m8 41 rfl
theorem q1828 : (Jvm.Cond.selects "java/util/ConcurrentModificationException" ({ cls := "java/lang/Throwable", name := "fillInStackTrace", desc := "(I)Ljava/lang/Throwable;" } : Jvm.MethodName) ({ cls := "java/lang/Throwable", name := "fillInStackTrace", desc := "(I)Ljava/lang/Throwable;" } : Jvm.MethodName)) ∈ lw_all := lw_g (lw_at lw_m8 42 rfl) rfl
theorem q1829 : (Jvm.Cond.lays "java/util/ConcurrentModificationException" "java/lang/Throwable" "cause" "Ljava/lang/Throwable;") ∈ lw_all := lw_g (lw_at lw_m8 43 rfl) rfl
theorem q1830 : (Jvm.Cond.lays "java/util/ConcurrentModificationException" "java/lang/Throwable" "stackTrace" "[Ljava/lang/StackTraceElement;") ∈ lw_all := lw_g (lw_at lw_m8 44 rfl) rfl
theorem q1831 : (Jvm.Cond.lays "java/util/ConcurrentModificationException" "java/lang/Throwable" "suppressedExceptions" "Ljava/util/List;") ∈ lw_all := lw_g (lw_at lw_m8 45 rfl) rfl
theorem q1832 : (Jvm.Cond.lays "java/util/ConcurrentModificationException" "java/lang/Throwable" "detailMessage" "Ljava/lang/String;") ∈ lw_all := lw_g (lw_at lw_m8 46 rfl) rfl
theorem q1833 : (Jvm.Cond.lays "java/util/ConcurrentModificationException" "java/lang/Throwable" "backtrace" "Ljava/lang/Object;") ∈ lw_all := lw_g (lw_at lw_m8 47 rfl) rfl
theorem q1835 : (Jvm.Cond.instanceMethod ({ cls := "java/util/ConcurrentModificationException", name := "<init>", desc := "()V" } : Jvm.MethodName)) ∈ lw_all := lw_g (lw_at lw_m8 49 rfl) rfl
theorem q1836 : (Jvm.Cond.code ({ cls := "java/util/ConcurrentModificationException", name := "<init>", desc := "()V" } : Jvm.MethodName) prog_77_method_1_code (1 : Nat) (Option.none : Option Jvm.ClassFile.FieldType)) ∈ lw_all := lw_g (lw_at lw_m8 50 rfl) rfl
theorem q1837 : (Jvm.Cond.methodLink "java/util/ConcurrentModificationException" (1 : Nat) ({ cls := "java/lang/RuntimeException", name := "<init>", desc := "()V" } : Jvm.MethodName)) ∈ lw_all := lw_g (lw_at lw_m8 51 rfl) rfl
theorem q1838 : (Jvm.Cond.lays "java/util/ConcurrentModificationException" "java/lang/Throwable" "depth" "I") ∈ lw_all := lw_g (lw_at lw_m8 52 rfl) rfl
theorem q1839 : (Jvm.Cond.superclass "java/util/ConcurrentModificationException" "java/lang/RuntimeException") ∈ lw_all := lw_g (lw_at lw_m8 53 rfl) rfl
theorem q4025 : (Jvm.Cond.castable "java/util/ConcurrentModificationException" "java/lang/Object") ∈ lw_tbl := lw_at lw_m17 79 rfl
theorem in_J35 : ∀ w ∈ wsJ350, w ∈ lw_all := lw_in wsJ350 [1829, 1830, 1831, 1832, 1833, 1838] (by decide +kernel) (by decide +kernel)

/-! java/util/AbstractQueue -/
set_option maxRecDepth 100000
def RJ36 : String := "java/util/AbstractQueue"
abbrev cJ36_init : ByteArray := prog_67_method_1_code
def yJ36_init : MethodName := ⟨RJ36, "<init>", "()V"⟩
theorem dJ36_init_0 : decode cJ36_init 0 = .ok (.aload_n 0, 1) := by decide +kernel
theorem dJ36_init_1 : decode cJ36_init 1 = .ok (.invokespecial 1, 3) := by decide +kernel
theorem dJ36_init_4 : decode cJ36_init 4 = .ok (.return_, 1) := by decide +kernel
abbrev cJ36_addAll : ByteArray := prog_67_method_6_code
def yJ36_addAll : MethodName := ⟨RJ36, "addAll", "(Ljava/util/Collection;)Z"⟩
def dkwJ36_addAll_2 : List UInt8 := [185, 0, 48, 1, 0, 58, 4, 42, 25, 4, 182, 0, 51, 153, 0, 5, 4, 61, 167, 255, 228, 28, 172]
abbrev dktJ36_addAll_2 : List UInt8 := dkwJ36_addAll_2 ++ []
def dkwJ36_addAll_1 : List UInt8 := [191, 3, 61, 43, 185, 0, 36, 1, 0, 78, 45, 185, 0, 42, 1, 0, 153, 0, 25, 45]
abbrev dktJ36_addAll_1 : List UInt8 := dkwJ36_addAll_1 ++ dktJ36_addAll_2
def dkwJ36_addAll_0 : List UInt8 := [43, 199, 0, 11, 187, 0, 30, 89, 183, 0, 32, 191, 43, 42, 166, 0, 11, 187, 0, 33, 89, 183, 0, 35]
abbrev dktJ36_addAll_0 : List UInt8 := dkwJ36_addAll_0 ++ dktJ36_addAll_1
theorem dksJ36_addAll_0 : cJ36_addAll.data.toList.drop 0 = dktJ36_addAll_0 := by decide +kernel
theorem dksJ36_addAll_1 : cJ36_addAll.data.toList.drop 24 = dktJ36_addAll_1 := dk_seg dksJ36_addAll_0 24 rfl rfl
theorem dksJ36_addAll_2 : cJ36_addAll.data.toList.drop 44 = dktJ36_addAll_2 := dk_seg dksJ36_addAll_1 20 rfl rfl
theorem dJ36_addAll_0 : decode cJ36_addAll 0 = .ok (.aload_n 1, 1) := dk_43 (dk_at dksJ36_addAll_0 0 rfl rfl)
theorem dJ36_addAll_1 : decode cJ36_addAll 1 = .ok (.ifnonnull 11, 3) := dk_199 0 11 (dk_at dksJ36_addAll_0 1 rfl rfl)
theorem dJ36_addAll_4 : decode cJ36_addAll 4 = .ok (.new 30, 3) := dk_187 0 30 (dk_at dksJ36_addAll_0 4 rfl rfl)
theorem dJ36_addAll_7 : decode cJ36_addAll 7 = .ok (.dup, 1) := dk_89 (dk_at dksJ36_addAll_0 7 rfl rfl)
theorem dJ36_addAll_8 : decode cJ36_addAll 8 = .ok (.invokespecial 32, 3) := dk_183 0 32 (dk_at dksJ36_addAll_0 8 rfl rfl)
theorem dJ36_addAll_11 : decode cJ36_addAll 11 = .ok (.athrow, 1) := dk_191 (dk_at dksJ36_addAll_0 11 rfl rfl)
theorem dJ36_addAll_12 : decode cJ36_addAll 12 = .ok (.aload_n 1, 1) := dk_43 (dk_at dksJ36_addAll_0 12 rfl rfl)
theorem dJ36_addAll_13 : decode cJ36_addAll 13 = .ok (.aload_n 0, 1) := dk_42 (dk_at dksJ36_addAll_0 13 rfl rfl)
theorem dJ36_addAll_14 : decode cJ36_addAll 14 = .ok (.if_acmp .ne 11, 3) := dk_166 0 11 (dk_at dksJ36_addAll_0 14 rfl rfl)
theorem dJ36_addAll_17 : decode cJ36_addAll 17 = .ok (.new 33, 3) := dk_187 0 33 (dk_at dksJ36_addAll_0 17 rfl rfl)
theorem dJ36_addAll_20 : decode cJ36_addAll 20 = .ok (.dup, 1) := dk_89 (dk_at dksJ36_addAll_0 20 rfl rfl)
theorem dJ36_addAll_21 : decode cJ36_addAll 21 = .ok (.invokespecial 35, 3) := dk_183 0 35 (dk_at dksJ36_addAll_0 21 rfl rfl)
theorem dJ36_addAll_24 : decode cJ36_addAll 24 = .ok (.athrow, 1) := dk_191 (dk_at dksJ36_addAll_1 0 rfl rfl)
theorem dJ36_addAll_25 : decode cJ36_addAll 25 = .ok (.iconst 0, 1) := dk_3 (dk_at dksJ36_addAll_1 1 rfl rfl)
theorem dJ36_addAll_26 : decode cJ36_addAll 26 = .ok (.istore_n 2, 1) := dk_61 (dk_at dksJ36_addAll_1 2 rfl rfl)
theorem dJ36_addAll_27 : decode cJ36_addAll 27 = .ok (.aload_n 1, 1) := dk_43 (dk_at dksJ36_addAll_1 3 rfl rfl)
theorem dJ36_addAll_28 : decode cJ36_addAll 28 = .ok (.invokeinterface 36 1, 5) := by decide +kernel
theorem dJ36_addAll_33 : decode cJ36_addAll 33 = .ok (.astore_n 3, 1) := dk_78 (dk_at dksJ36_addAll_1 9 rfl rfl)
theorem dJ36_addAll_34 : decode cJ36_addAll 34 = .ok (.aload_n 3, 1) := dk_45 (dk_at dksJ36_addAll_1 10 rfl rfl)
theorem dJ36_addAll_35 : decode cJ36_addAll 35 = .ok (.invokeinterface 42 1, 5) := by decide +kernel
theorem dJ36_addAll_40 : decode cJ36_addAll 40 = .ok (.ifCond .eq 25, 3) := dk_153 0 25 (dk_at dksJ36_addAll_1 16 rfl rfl)
theorem dJ36_addAll_43 : decode cJ36_addAll 43 = .ok (.aload_n 3, 1) := dk_45 (dk_at dksJ36_addAll_1 19 rfl rfl)
theorem dJ36_addAll_44 : decode cJ36_addAll 44 = .ok (.invokeinterface 48 1, 5) := by decide +kernel
theorem dJ36_addAll_49 : decode cJ36_addAll 49 = .ok (.astore 4, 2) := dk_58 4 (dk_at dksJ36_addAll_2 5 rfl rfl)
theorem dJ36_addAll_51 : decode cJ36_addAll 51 = .ok (.aload_n 0, 1) := dk_42 (dk_at dksJ36_addAll_2 7 rfl rfl)
theorem dJ36_addAll_52 : decode cJ36_addAll 52 = .ok (.aload 4, 2) := dk_25 4 (dk_at dksJ36_addAll_2 8 rfl rfl)
theorem dJ36_addAll_54 : decode cJ36_addAll 54 = .ok (.invokevirtual 51, 3) := dk_182 0 51 (dk_at dksJ36_addAll_2 10 rfl rfl)
theorem dJ36_addAll_57 : decode cJ36_addAll 57 = .ok (.ifCond .eq 5, 3) := dk_153 0 5 (dk_at dksJ36_addAll_2 13 rfl rfl)
theorem dJ36_addAll_60 : decode cJ36_addAll 60 = .ok (.iconst 1, 1) := dk_4 (dk_at dksJ36_addAll_2 16 rfl rfl)
theorem dJ36_addAll_61 : decode cJ36_addAll 61 = .ok (.istore_n 2, 1) := dk_61 (dk_at dksJ36_addAll_2 17 rfl rfl)
theorem dJ36_addAll_62 : decode cJ36_addAll 62 = .ok (.goto (-28), 3) := dk_167 255 228 (dk_at dksJ36_addAll_2 18 rfl rfl)
theorem dJ36_addAll_65 : decode cJ36_addAll 65 = .ok (.iload_n 2, 1) := dk_28 (dk_at dksJ36_addAll_2 21 rfl rfl)
theorem dJ36_addAll_66 : decode cJ36_addAll 66 = .ok (.ireturn, 1) := dk_172 (dk_at dksJ36_addAll_2 22 rfl rfl)
theorem q156 : (Jvm.Cond.initialized "java/util/AbstractQueue") ∈ lw_all := lw_g (lw_at lw_m1 50 rfl) rfl
theorem q2685 : (Jvm.Cond.instanceMethod ({ cls := "java/util/AbstractQueue", name := "<init>", desc := "()V" } : Jvm.MethodName)) ∈ lw_all := lw_g (lw_at lw_m11 179 rfl) rfl
theorem q2686 : (Jvm.Cond.code ({ cls := "java/util/AbstractQueue", name := "<init>", desc := "()V" } : Jvm.MethodName) prog_67_method_1_code (1 : Nat) (Option.none : Option Jvm.ClassFile.FieldType)) ∈ lw_all := lw_g (lw_at lw_m11 180 rfl) rfl
theorem q2687 : (Jvm.Cond.methodLink "java/util/AbstractQueue" (1 : Nat) ({ cls := "java/util/AbstractCollection", name := "<init>", desc := "()V" } : Jvm.MethodName)) ∈ lw_all := lw_g (lw_at lw_m11 181 rfl) rfl
theorem q2709 : (Jvm.Cond.declares ({ cls := "java/util/AbstractQueue", name := "addAll", desc := "(Ljava/util/Collection;)Z" } : Jvm.MethodName)) ∈ lw_tbl := lw_at lw_m11 203 rfl
theorem q2711 : (Jvm.Cond.instanceMethod ({ cls := "java/util/AbstractQueue", name := "addAll", desc := "(Ljava/util/Collection;)Z" } : Jvm.MethodName)) ∈ lw_all := lw_g (lw_at lw_m11 205 rfl) rfl
theorem q2712 : (Jvm.Cond.code ({ cls := "java/util/AbstractQueue", name := "addAll", desc := "(Ljava/util/Collection;)Z" } : Jvm.MethodName) prog_67_method_6_code (5 : Nat) (Option.some Jvm.ClassFile.FieldType.boolean)) ∈ lw_all := lw_g (lw_at lw_m11 206 rfl) rfl
theorem q2713 : (Jvm.Cond.classLink "java/util/AbstractQueue" (33 : Nat) "java/lang/IllegalArgumentException") ∈ lw_all := lw_g (lw_at lw_m11 207 rfl) rfl
theorem q2714 : (Jvm.Cond.methodLink "java/util/AbstractQueue" (35 : Nat) ({ cls := "java/lang/IllegalArgumentException", name := "<init>", desc := "()V" } : Jvm.MethodName)) ∈ lw_all := lw_g (lw_at lw_m11 208 rfl) rfl
theorem q2715 : (Jvm.Cond.interfaceEntry "java/util/AbstractQueue" (36 : Nat)) ∈ lw_tbl := lw_at lw_m11 209 rfl
theorem q2716 : (Jvm.Cond.methodLink "java/util/AbstractQueue" (36 : Nat) ({ cls := "java/util/Collection", name := "iterator", desc := "()Ljava/util/Iterator;" } : Jvm.MethodName)) ∈ lw_all := lw_g (lw_at lw_m11 210 rfl) rfl
theorem q2717 : (Jvm.Cond.interfaceEntry "java/util/AbstractQueue" (42 : Nat)) ∈ lw_tbl := lw_at lw_m11 211 rfl
theorem q2718 : (Jvm.Cond.methodLink "java/util/AbstractQueue" (42 : Nat) ({ cls := "java/util/Iterator", name := "hasNext", desc := "()Z" } : Jvm.MethodName)) ∈ lw_all := lw_g (lw_at lw_m11 212 rfl) rfl
theorem q2719 : (Jvm.Cond.interfaceEntry "java/util/AbstractQueue" (48 : Nat)) ∈ lw_tbl := lw_at lw_m11 213 rfl
theorem q2720 : (Jvm.Cond.methodLink "java/util/AbstractQueue" (48 : Nat) ({ cls := "java/util/Iterator", name := "next", desc := "()Ljava/lang/Object;" } : Jvm.MethodName)) ∈ lw_all := lw_g (lw_at lw_m11 214 rfl) rfl
theorem q2721 : (Jvm.Cond.methodLink "java/util/AbstractQueue" (51 : Nat) ({ cls := "java/util/AbstractQueue", name := "add", desc := "(Ljava/lang/Object;)Z" } : Jvm.MethodName)) ∈ lw_all := lw_g (lw_at lw_m11 215 rfl) rfl
theorem q2722 : (Jvm.Cond.instanceMethod ({ cls := "java/util/AbstractQueue", name := "add", desc := "(Ljava/lang/Object;)Z" } : Jvm.MethodName)) ∈ lw_all := lw_g (lw_at lw_m11 216 rfl) rfl
theorem q2723 : (Jvm.Cond.sameMethod "java/util/AbstractQueue" "java/util/AbstractQueue" "add" "(Ljava/lang/Object;)Z") ∈ lw_all := lw_g (lw_at lw_m11 217 rfl) rfl
theorem q2737 : (Jvm.Cond.declares ({ cls := "java/util/AbstractQueue", name := "add", desc := "(Ljava/lang/Object;)Z" } : Jvm.MethodName)) ∈ lw_tbl := lw_at lw_m11 231 rfl

