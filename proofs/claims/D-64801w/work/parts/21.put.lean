set_option maxRecDepth 100000
abbrev cJ6_addEntryToEmptyMap : ByteArray := prog_83_method_30_code
def yJ6_addEntryToEmptyMap : MethodName := ⟨RJ6, "addEntryToEmptyMap", "(Ljava/lang/Object;Ljava/lang/Object;)V"⟩
def dkwJ6_addEntryToEmptyMap_1 : List UInt8 := [181, 0, 7, 42, 89, 180, 0, 13, 4, 96, 181, 0, 13, 177]
abbrev dktJ6_addEntryToEmptyMap_1 : List UInt8 := dkwJ6_addEntryToEmptyMap_1 ++ []
def dkwJ6_addEntryToEmptyMap_0 : List UInt8 := [42, 43, 43, 182, 0, 123, 87, 42, 187, 0, 59, 89, 43, 44, 1, 183, 0, 167, 181, 0, 101, 42, 4]
abbrev dktJ6_addEntryToEmptyMap_0 : List UInt8 := dkwJ6_addEntryToEmptyMap_0 ++ dktJ6_addEntryToEmptyMap_1
theorem dksJ6_addEntryToEmptyMap_0 : cJ6_addEntryToEmptyMap.data.toList.drop 0 = dktJ6_addEntryToEmptyMap_0 := by decide +kernel
theorem dksJ6_addEntryToEmptyMap_1 : cJ6_addEntryToEmptyMap.data.toList.drop 23 = dktJ6_addEntryToEmptyMap_1 := dk_seg dksJ6_addEntryToEmptyMap_0 23 rfl rfl
theorem dJ6_addEntryToEmptyMap_0 : decode cJ6_addEntryToEmptyMap 0 = .ok (.aload_n 0, 1) := dk_42 (dk_at dksJ6_addEntryToEmptyMap_0 0 rfl rfl)
theorem dJ6_addEntryToEmptyMap_1 : decode cJ6_addEntryToEmptyMap 1 = .ok (.aload_n 1, 1) := dk_43 (dk_at dksJ6_addEntryToEmptyMap_0 1 rfl rfl)
theorem dJ6_addEntryToEmptyMap_2 : decode cJ6_addEntryToEmptyMap 2 = .ok (.aload_n 1, 1) := dk_43 (dk_at dksJ6_addEntryToEmptyMap_0 2 rfl rfl)
theorem dJ6_addEntryToEmptyMap_3 : decode cJ6_addEntryToEmptyMap 3 = .ok (.invokevirtual 123, 3) := dk_182 0 123 (dk_at dksJ6_addEntryToEmptyMap_0 3 rfl rfl)
theorem dJ6_addEntryToEmptyMap_6 : decode cJ6_addEntryToEmptyMap 6 = .ok (.pop, 1) := dk_87 (dk_at dksJ6_addEntryToEmptyMap_0 6 rfl rfl)
theorem dJ6_addEntryToEmptyMap_7 : decode cJ6_addEntryToEmptyMap 7 = .ok (.aload_n 0, 1) := dk_42 (dk_at dksJ6_addEntryToEmptyMap_0 7 rfl rfl)
theorem dJ6_addEntryToEmptyMap_8 : decode cJ6_addEntryToEmptyMap 8 = .ok (.new 59, 3) := dk_187 0 59 (dk_at dksJ6_addEntryToEmptyMap_0 8 rfl rfl)
theorem dJ6_addEntryToEmptyMap_11 : decode cJ6_addEntryToEmptyMap 11 = .ok (.dup, 1) := dk_89 (dk_at dksJ6_addEntryToEmptyMap_0 11 rfl rfl)
theorem dJ6_addEntryToEmptyMap_12 : decode cJ6_addEntryToEmptyMap 12 = .ok (.aload_n 1, 1) := dk_43 (dk_at dksJ6_addEntryToEmptyMap_0 12 rfl rfl)
theorem dJ6_addEntryToEmptyMap_13 : decode cJ6_addEntryToEmptyMap 13 = .ok (.aload_n 2, 1) := dk_44 (dk_at dksJ6_addEntryToEmptyMap_0 13 rfl rfl)
theorem dJ6_addEntryToEmptyMap_14 : decode cJ6_addEntryToEmptyMap 14 = .ok (.aconst_null, 1) := dk_1 (dk_at dksJ6_addEntryToEmptyMap_0 14 rfl rfl)
theorem dJ6_addEntryToEmptyMap_15 : decode cJ6_addEntryToEmptyMap 15 = .ok (.invokespecial 167, 3) := dk_183 0 167 (dk_at dksJ6_addEntryToEmptyMap_0 15 rfl rfl)
theorem dJ6_addEntryToEmptyMap_18 : decode cJ6_addEntryToEmptyMap 18 = .ok (.putfield 101, 3) := dk_181 0 101 (dk_at dksJ6_addEntryToEmptyMap_0 18 rfl rfl)
theorem dJ6_addEntryToEmptyMap_21 : decode cJ6_addEntryToEmptyMap 21 = .ok (.aload_n 0, 1) := dk_42 (dk_at dksJ6_addEntryToEmptyMap_0 21 rfl rfl)
theorem dJ6_addEntryToEmptyMap_22 : decode cJ6_addEntryToEmptyMap 22 = .ok (.iconst 1, 1) := dk_4 (dk_at dksJ6_addEntryToEmptyMap_0 22 rfl rfl)
theorem dJ6_addEntryToEmptyMap_23 : decode cJ6_addEntryToEmptyMap 23 = .ok (.putfield 7, 3) := dk_181 0 7 (dk_at dksJ6_addEntryToEmptyMap_1 0 rfl rfl)
theorem dJ6_addEntryToEmptyMap_26 : decode cJ6_addEntryToEmptyMap 26 = .ok (.aload_n 0, 1) := dk_42 (dk_at dksJ6_addEntryToEmptyMap_1 3 rfl rfl)
theorem dJ6_addEntryToEmptyMap_27 : decode cJ6_addEntryToEmptyMap 27 = .ok (.dup, 1) := dk_89 (dk_at dksJ6_addEntryToEmptyMap_1 4 rfl rfl)
theorem dJ6_addEntryToEmptyMap_28 : decode cJ6_addEntryToEmptyMap 28 = .ok (.getfield 13, 3) := dk_180 0 13 (dk_at dksJ6_addEntryToEmptyMap_1 5 rfl rfl)
theorem dJ6_addEntryToEmptyMap_31 : decode cJ6_addEntryToEmptyMap 31 = .ok (.iconst 1, 1) := dk_4 (dk_at dksJ6_addEntryToEmptyMap_1 8 rfl rfl)
theorem dJ6_addEntryToEmptyMap_32 : decode cJ6_addEntryToEmptyMap 32 = .ok (.iadd, 1) := dk_96 (dk_at dksJ6_addEntryToEmptyMap_1 9 rfl rfl)
theorem dJ6_addEntryToEmptyMap_33 : decode cJ6_addEntryToEmptyMap 33 = .ok (.putfield 13, 3) := dk_181 0 13 (dk_at dksJ6_addEntryToEmptyMap_1 10 rfl rfl)
theorem dJ6_addEntryToEmptyMap_36 : decode cJ6_addEntryToEmptyMap 36 = .ok (.return_, 1) := dk_177 (dk_at dksJ6_addEntryToEmptyMap_1 13 rfl rfl)
theorem yk_J6_addEntryToEmptyMap : yk yJ6_addEntryToEmptyMap 2 := by unfold yk; decide +kernel
abbrev KJ6_addEntryToEmptyMap (G : Gx) (d mc ms : Nat) (av : List Sv) (M : Mem) (post : Option Sv → Mem → Prop) : Prop := Ct G yJ6_addEntryToEmptyMap cJ6_addEntryToEmptyMap 3 ((Option.none : Option Jvm.ClassFile.FieldType)) d mc ms av M post
abbrev cJ6_compare : ByteArray := prog_83_method_67_code
def yJ6_compare : MethodName := ⟨RJ6, "compare", "(Ljava/lang/Object;Ljava/lang/Object;)I"⟩
def dkwJ6_compare_1 : List UInt8 := [43, 44, 185, 0, 117, 3, 0, 172]
abbrev dktJ6_compare_1 : List UInt8 := dkwJ6_compare_1 ++ []
def dkwJ6_compare_0 : List UInt8 := [42, 180, 0, 16, 199, 0, 16, 43, 192, 0, 99, 44, 185, 0, 107, 2, 0, 167, 0, 14, 42, 180, 0, 16]
abbrev dktJ6_compare_0 : List UInt8 := dkwJ6_compare_0 ++ dktJ6_compare_1
theorem dksJ6_compare_0 : cJ6_compare.data.toList.drop 0 = dktJ6_compare_0 := by decide +kernel
theorem dksJ6_compare_1 : cJ6_compare.data.toList.drop 24 = dktJ6_compare_1 := dk_seg dksJ6_compare_0 24 rfl rfl
theorem dJ6_compare_0 : decode cJ6_compare 0 = .ok (.aload_n 0, 1) := dk_42 (dk_at dksJ6_compare_0 0 rfl rfl)
theorem dJ6_compare_1 : decode cJ6_compare 1 = .ok (.getfield 16, 3) := dk_180 0 16 (dk_at dksJ6_compare_0 1 rfl rfl)
theorem dJ6_compare_4 : decode cJ6_compare 4 = .ok (.ifnonnull 16, 3) := dk_199 0 16 (dk_at dksJ6_compare_0 4 rfl rfl)
theorem dJ6_compare_7 : decode cJ6_compare 7 = .ok (.aload_n 1, 1) := dk_43 (dk_at dksJ6_compare_0 7 rfl rfl)
theorem dJ6_compare_8 : decode cJ6_compare 8 = .ok (.checkcast 99, 3) := dk_192 0 99 (dk_at dksJ6_compare_0 8 rfl rfl)
theorem dJ6_compare_11 : decode cJ6_compare 11 = .ok (.aload_n 2, 1) := dk_44 (dk_at dksJ6_compare_0 11 rfl rfl)
theorem dJ6_compare_12 : decode cJ6_compare 12 = .ok (.invokeinterface 107 2, 5) := by decide +kernel
theorem dJ6_compare_17 : decode cJ6_compare 17 = .ok (.goto 14, 3) := dk_167 0 14 (dk_at dksJ6_compare_0 17 rfl rfl)
theorem dJ6_compare_20 : decode cJ6_compare 20 = .ok (.aload_n 0, 1) := dk_42 (dk_at dksJ6_compare_0 20 rfl rfl)
theorem dJ6_compare_21 : decode cJ6_compare 21 = .ok (.getfield 16, 3) := dk_180 0 16 (dk_at dksJ6_compare_0 21 rfl rfl)
theorem dJ6_compare_24 : decode cJ6_compare 24 = .ok (.aload_n 1, 1) := dk_43 (dk_at dksJ6_compare_1 0 rfl rfl)
theorem dJ6_compare_25 : decode cJ6_compare 25 = .ok (.aload_n 2, 1) := dk_44 (dk_at dksJ6_compare_1 1 rfl rfl)
theorem dJ6_compare_26 : decode cJ6_compare 26 = .ok (.invokeinterface 117 3, 5) := by decide +kernel
theorem dJ6_compare_31 : decode cJ6_compare 31 = .ok (.ireturn, 1) := dk_172 (dk_at dksJ6_compare_1 7 rfl rfl)
theorem yk_J6_compare : yk yJ6_compare 2 := by unfold yk; decide +kernel
abbrev KJ6_compare (G : Gx) (d mc ms : Nat) (av : List Sv) (M : Mem) (post : Option Sv → Mem → Prop) : Prop := Ct G yJ6_compare cJ6_compare 3 ((Option.some Jvm.ClassFile.FieldType.int)) d mc ms av M post
abbrev cJ6_put : ByteArray := prog_83_method_21_code
def yJ6_put : MethodName := ⟨RJ6, "put", "(Ljava/lang/Object;Ljava/lang/Object;)Ljava/lang/Object;"⟩
def dkwJ6_put_0 : List UInt8 := [42, 43, 44, 4, 182, 0, 127, 176]
abbrev dktJ6_put_0 : List UInt8 := dkwJ6_put_0 ++ []
theorem dksJ6_put_0 : cJ6_put.data.toList.drop 0 = dktJ6_put_0 := by decide +kernel
theorem dJ6_put_0 : decode cJ6_put 0 = .ok (.aload_n 0, 1) := dk_42 (dk_at dksJ6_put_0 0 rfl rfl)
theorem dJ6_put_1 : decode cJ6_put 1 = .ok (.aload_n 1, 1) := dk_43 (dk_at dksJ6_put_0 1 rfl rfl)
theorem dJ6_put_2 : decode cJ6_put 2 = .ok (.aload_n 2, 1) := dk_44 (dk_at dksJ6_put_0 2 rfl rfl)
theorem dJ6_put_3 : decode cJ6_put 3 = .ok (.iconst 1, 1) := dk_4 (dk_at dksJ6_put_0 3 rfl rfl)
theorem dJ6_put_4 : decode cJ6_put 4 = .ok (.invokevirtual 127, 3) := dk_182 0 127 (dk_at dksJ6_put_0 4 rfl rfl)
theorem dJ6_put_7 : decode cJ6_put 7 = .ok (.areturn, 1) := dk_176 (dk_at dksJ6_put_0 7 rfl rfl)
theorem yk_J6_put : yk yJ6_put 2 := by unfold yk; decide +kernel
abbrev KJ6_put (G : Gx) (d mc ms : Nat) (av : List Sv) (M : Mem) (post : Option Sv → Mem → Prop) : Prop := Ct G yJ6_put cJ6_put 3 ((Option.some (Jvm.ClassFile.FieldType.object "java/lang/Object"))) d mc ms av M post
abbrev cJ6_put_2 : ByteArray := prog_83_method_31_code
def yJ6_put_2 : MethodName := ⟨RJ6, "put", "(Ljava/lang/Object;Ljava/lang/Object;Z)Ljava/lang/Object;"⟩
def dkwJ6_put_2_9 : List UInt8 := [4, 167, 0, 4, 3, 182, 0, 139, 1, 176]
abbrev dktJ6_put_2_9 : List UInt8 := dkwJ6_put_2_9 ++ []
def dkwJ6_put_2_8 : List UInt8 := [25, 4, 44, 181, 0, 58, 25, 9, 176, 25, 4, 199, 255, 181, 42, 43, 44, 25, 6, 21, 5, 156, 0, 7]
abbrev dktJ6_put_2_8 : List UInt8 := dkwJ6_put_2_8 ++ dktJ6_put_2_9
def dkwJ6_put_2_7 : List UInt8 := [180, 0, 114, 58, 4, 167, 0, 28, 25, 4, 180, 0, 58, 58, 9, 29, 154, 0, 8, 25, 9, 199, 0, 9]
abbrev dktJ6_put_2_7 : List UInt8 := dkwJ6_put_2_7 ++ dktJ6_put_2_8
def dkwJ6_put_2_6 : List UInt8 := [21, 5, 156, 0, 13, 25, 4, 180, 0, 111, 58, 4, 167, 0, 43, 21, 5, 158, 0, 13, 25, 4]
abbrev dktJ6_put_2_6 : List UInt8 := dkwJ6_put_2_6 ++ dktJ6_put_2_7
def dkwJ6_put_2_5 : List UInt8 := [192, 0, 99, 58, 8, 25, 4, 58, 6, 25, 8, 25, 4, 180, 0, 105, 185, 0, 107, 2, 0, 54, 5]
abbrev dktJ6_put_2_5 : List UInt8 := dkwJ6_put_2_5 ++ dktJ6_put_2_6
def dkwJ6_put_2_4 : List UInt8 := [25, 4, 44, 181, 0, 58, 25, 8, 176, 25, 4, 199, 255, 180, 167, 0, 92, 43, 184, 0, 95, 87, 43]
abbrev dktJ6_put_2_4 : List UInt8 := dkwJ6_put_2_4 ++ dktJ6_put_2_5
def dkwJ6_put_2_3 : List UInt8 := [180, 0, 114, 58, 4, 167, 0, 28, 25, 4, 180, 0, 58, 58, 8, 29, 154, 0, 8, 25, 8, 199, 0, 9]
abbrev dktJ6_put_2_3 : List UInt8 := dkwJ6_put_2_3 ++ dktJ6_put_2_4
def dkwJ6_put_2_2 : List UInt8 := [54, 5, 21, 5, 156, 0, 13, 25, 4, 180, 0, 111, 58, 4, 167, 0, 43, 21, 5, 158, 0, 13, 25, 4]
abbrev dktJ6_put_2_2 : List UInt8 := dkwJ6_put_2_2 ++ dktJ6_put_2_3
def dkwJ6_put_2_1 : List UInt8 := [58, 7, 25, 7, 198, 0, 85, 25, 4, 58, 6, 25, 7, 43, 25, 4, 180, 0, 105, 185, 0, 117, 3, 0]
abbrev dktJ6_put_2_1 : List UInt8 := dkwJ6_put_2_1 ++ dktJ6_put_2_2
def dkwJ6_put_2_0 : List UInt8 := [42, 180, 0, 101, 58, 4, 25, 4, 199, 0, 11, 42, 43, 44, 182, 0, 135, 1, 176, 42, 180, 0, 16]
abbrev dktJ6_put_2_0 : List UInt8 := dkwJ6_put_2_0 ++ dktJ6_put_2_1
theorem dksJ6_put_2_0 : cJ6_put_2.data.toList.drop 0 = dktJ6_put_2_0 := by decide +kernel
theorem dksJ6_put_2_1 : cJ6_put_2.data.toList.drop 23 = dktJ6_put_2_1 := dk_seg dksJ6_put_2_0 23 rfl rfl
theorem dksJ6_put_2_2 : cJ6_put_2.data.toList.drop 47 = dktJ6_put_2_2 := dk_seg dksJ6_put_2_1 24 rfl rfl
theorem dksJ6_put_2_3 : cJ6_put_2.data.toList.drop 71 = dktJ6_put_2_3 := dk_seg dksJ6_put_2_2 24 rfl rfl
theorem dksJ6_put_2_4 : cJ6_put_2.data.toList.drop 95 = dktJ6_put_2_4 := dk_seg dksJ6_put_2_3 24 rfl rfl
theorem dksJ6_put_2_5 : cJ6_put_2.data.toList.drop 118 = dktJ6_put_2_5 := dk_seg dksJ6_put_2_4 23 rfl rfl
theorem dksJ6_put_2_6 : cJ6_put_2.data.toList.drop 141 = dktJ6_put_2_6 := dk_seg dksJ6_put_2_5 23 rfl rfl
theorem dksJ6_put_2_7 : cJ6_put_2.data.toList.drop 163 = dktJ6_put_2_7 := dk_seg dksJ6_put_2_6 22 rfl rfl
theorem dksJ6_put_2_8 : cJ6_put_2.data.toList.drop 187 = dktJ6_put_2_8 := dk_seg dksJ6_put_2_7 24 rfl rfl
theorem dksJ6_put_2_9 : cJ6_put_2.data.toList.drop 211 = dktJ6_put_2_9 := dk_seg dksJ6_put_2_8 24 rfl rfl
theorem dJ6_put_2_0 : decode cJ6_put_2 0 = .ok (.aload_n 0, 1) := dk_42 (dk_at dksJ6_put_2_0 0 rfl rfl)
theorem dJ6_put_2_1 : decode cJ6_put_2 1 = .ok (.getfield 101, 3) := dk_180 0 101 (dk_at dksJ6_put_2_0 1 rfl rfl)
theorem dJ6_put_2_4 : decode cJ6_put_2 4 = .ok (.astore 4, 2) := dk_58 4 (dk_at dksJ6_put_2_0 4 rfl rfl)
theorem dJ6_put_2_6 : decode cJ6_put_2 6 = .ok (.aload 4, 2) := dk_25 4 (dk_at dksJ6_put_2_0 6 rfl rfl)
theorem dJ6_put_2_8 : decode cJ6_put_2 8 = .ok (.ifnonnull 11, 3) := dk_199 0 11 (dk_at dksJ6_put_2_0 8 rfl rfl)
theorem dJ6_put_2_11 : decode cJ6_put_2 11 = .ok (.aload_n 0, 1) := dk_42 (dk_at dksJ6_put_2_0 11 rfl rfl)
theorem dJ6_put_2_12 : decode cJ6_put_2 12 = .ok (.aload_n 1, 1) := dk_43 (dk_at dksJ6_put_2_0 12 rfl rfl)
theorem dJ6_put_2_13 : decode cJ6_put_2 13 = .ok (.aload_n 2, 1) := dk_44 (dk_at dksJ6_put_2_0 13 rfl rfl)
theorem dJ6_put_2_14 : decode cJ6_put_2 14 = .ok (.invokevirtual 135, 3) := dk_182 0 135 (dk_at dksJ6_put_2_0 14 rfl rfl)
theorem dJ6_put_2_17 : decode cJ6_put_2 17 = .ok (.aconst_null, 1) := dk_1 (dk_at dksJ6_put_2_0 17 rfl rfl)
theorem dJ6_put_2_18 : decode cJ6_put_2 18 = .ok (.areturn, 1) := dk_176 (dk_at dksJ6_put_2_0 18 rfl rfl)
theorem dJ6_put_2_19 : decode cJ6_put_2 19 = .ok (.aload_n 0, 1) := dk_42 (dk_at dksJ6_put_2_0 19 rfl rfl)
theorem dJ6_put_2_20 : decode cJ6_put_2 20 = .ok (.getfield 16, 3) := dk_180 0 16 (dk_at dksJ6_put_2_0 20 rfl rfl)
theorem dJ6_put_2_23 : decode cJ6_put_2 23 = .ok (.astore 7, 2) := dk_58 7 (dk_at dksJ6_put_2_1 0 rfl rfl)
theorem dJ6_put_2_25 : decode cJ6_put_2 25 = .ok (.aload 7, 2) := dk_25 7 (dk_at dksJ6_put_2_1 2 rfl rfl)
theorem dJ6_put_2_27 : decode cJ6_put_2 27 = .ok (.ifnull 85, 3) := dk_198 0 85 (dk_at dksJ6_put_2_1 4 rfl rfl)
theorem dJ6_put_2_30 : decode cJ6_put_2 30 = .ok (.aload 4, 2) := dk_25 4 (dk_at dksJ6_put_2_1 7 rfl rfl)
theorem dJ6_put_2_32 : decode cJ6_put_2 32 = .ok (.astore 6, 2) := dk_58 6 (dk_at dksJ6_put_2_1 9 rfl rfl)
theorem dJ6_put_2_34 : decode cJ6_put_2 34 = .ok (.aload 7, 2) := dk_25 7 (dk_at dksJ6_put_2_1 11 rfl rfl)
theorem dJ6_put_2_36 : decode cJ6_put_2 36 = .ok (.aload_n 1, 1) := dk_43 (dk_at dksJ6_put_2_1 13 rfl rfl)
theorem dJ6_put_2_37 : decode cJ6_put_2 37 = .ok (.aload 4, 2) := dk_25 4 (dk_at dksJ6_put_2_1 14 rfl rfl)
theorem dJ6_put_2_39 : decode cJ6_put_2 39 = .ok (.getfield 105, 3) := dk_180 0 105 (dk_at dksJ6_put_2_1 16 rfl rfl)
theorem dJ6_put_2_42 : decode cJ6_put_2 42 = .ok (.invokeinterface 117 3, 5) := by decide +kernel
theorem dJ6_put_2_47 : decode cJ6_put_2 47 = .ok (.istore 5, 2) := dk_54 5 (dk_at dksJ6_put_2_2 0 rfl rfl)
theorem dJ6_put_2_49 : decode cJ6_put_2 49 = .ok (.iload 5, 2) := dk_21 5 (dk_at dksJ6_put_2_2 2 rfl rfl)
theorem dJ6_put_2_51 : decode cJ6_put_2 51 = .ok (.ifCond .ge 13, 3) := dk_156 0 13 (dk_at dksJ6_put_2_2 4 rfl rfl)
theorem dJ6_put_2_54 : decode cJ6_put_2 54 = .ok (.aload 4, 2) := dk_25 4 (dk_at dksJ6_put_2_2 7 rfl rfl)
theorem dJ6_put_2_56 : decode cJ6_put_2 56 = .ok (.getfield 111, 3) := dk_180 0 111 (dk_at dksJ6_put_2_2 9 rfl rfl)
theorem dJ6_put_2_59 : decode cJ6_put_2 59 = .ok (.astore 4, 2) := dk_58 4 (dk_at dksJ6_put_2_2 12 rfl rfl)
theorem dJ6_put_2_61 : decode cJ6_put_2 61 = .ok (.goto 43, 3) := dk_167 0 43 (dk_at dksJ6_put_2_2 14 rfl rfl)
theorem dJ6_put_2_64 : decode cJ6_put_2 64 = .ok (.iload 5, 2) := dk_21 5 (dk_at dksJ6_put_2_2 17 rfl rfl)
theorem dJ6_put_2_66 : decode cJ6_put_2 66 = .ok (.ifCond .le 13, 3) := dk_158 0 13 (dk_at dksJ6_put_2_2 19 rfl rfl)
theorem dJ6_put_2_69 : decode cJ6_put_2 69 = .ok (.aload 4, 2) := dk_25 4 (dk_at dksJ6_put_2_2 22 rfl rfl)
theorem dJ6_put_2_71 : decode cJ6_put_2 71 = .ok (.getfield 114, 3) := dk_180 0 114 (dk_at dksJ6_put_2_3 0 rfl rfl)
theorem dJ6_put_2_74 : decode cJ6_put_2 74 = .ok (.astore 4, 2) := dk_58 4 (dk_at dksJ6_put_2_3 3 rfl rfl)
theorem dJ6_put_2_76 : decode cJ6_put_2 76 = .ok (.goto 28, 3) := dk_167 0 28 (dk_at dksJ6_put_2_3 5 rfl rfl)
theorem dJ6_put_2_79 : decode cJ6_put_2 79 = .ok (.aload 4, 2) := dk_25 4 (dk_at dksJ6_put_2_3 8 rfl rfl)
theorem dJ6_put_2_81 : decode cJ6_put_2 81 = .ok (.getfield 58, 3) := dk_180 0 58 (dk_at dksJ6_put_2_3 10 rfl rfl)
theorem dJ6_put_2_84 : decode cJ6_put_2 84 = .ok (.astore 8, 2) := dk_58 8 (dk_at dksJ6_put_2_3 13 rfl rfl)
theorem dJ6_put_2_86 : decode cJ6_put_2 86 = .ok (.iload_n 3, 1) := dk_29 (dk_at dksJ6_put_2_3 15 rfl rfl)
theorem dJ6_put_2_87 : decode cJ6_put_2 87 = .ok (.ifCond .ne 8, 3) := dk_154 0 8 (dk_at dksJ6_put_2_3 16 rfl rfl)
theorem dJ6_put_2_90 : decode cJ6_put_2 90 = .ok (.aload 8, 2) := dk_25 8 (dk_at dksJ6_put_2_3 19 rfl rfl)
theorem dJ6_put_2_92 : decode cJ6_put_2 92 = .ok (.ifnonnull 9, 3) := dk_199 0 9 (dk_at dksJ6_put_2_3 21 rfl rfl)
theorem dJ6_put_2_95 : decode cJ6_put_2 95 = .ok (.aload 4, 2) := dk_25 4 (dk_at dksJ6_put_2_4 0 rfl rfl)
theorem dJ6_put_2_97 : decode cJ6_put_2 97 = .ok (.aload_n 2, 1) := dk_44 (dk_at dksJ6_put_2_4 2 rfl rfl)
theorem dJ6_put_2_98 : decode cJ6_put_2 98 = .ok (.putfield 58, 3) := dk_181 0 58 (dk_at dksJ6_put_2_4 3 rfl rfl)
theorem dJ6_put_2_101 : decode cJ6_put_2 101 = .ok (.aload 8, 2) := dk_25 8 (dk_at dksJ6_put_2_4 6 rfl rfl)
theorem dJ6_put_2_103 : decode cJ6_put_2 103 = .ok (.areturn, 1) := dk_176 (dk_at dksJ6_put_2_4 8 rfl rfl)
theorem dJ6_put_2_104 : decode cJ6_put_2 104 = .ok (.aload 4, 2) := dk_25 4 (dk_at dksJ6_put_2_4 9 rfl rfl)
theorem dJ6_put_2_106 : decode cJ6_put_2 106 = .ok (.ifnonnull (-76), 3) := dk_199 255 180 (dk_at dksJ6_put_2_4 11 rfl rfl)
theorem dJ6_put_2_109 : decode cJ6_put_2 109 = .ok (.goto 92, 3) := dk_167 0 92 (dk_at dksJ6_put_2_4 14 rfl rfl)
theorem dJ6_put_2_112 : decode cJ6_put_2 112 = .ok (.aload_n 1, 1) := dk_43 (dk_at dksJ6_put_2_4 17 rfl rfl)
theorem dJ6_put_2_113 : decode cJ6_put_2 113 = .ok (.invokestatic 95, 3) := dk_184 0 95 (dk_at dksJ6_put_2_4 18 rfl rfl)
theorem dJ6_put_2_116 : decode cJ6_put_2 116 = .ok (.pop, 1) := dk_87 (dk_at dksJ6_put_2_4 21 rfl rfl)
theorem dJ6_put_2_117 : decode cJ6_put_2 117 = .ok (.aload_n 1, 1) := dk_43 (dk_at dksJ6_put_2_4 22 rfl rfl)
theorem dJ6_put_2_118 : decode cJ6_put_2 118 = .ok (.checkcast 99, 3) := dk_192 0 99 (dk_at dksJ6_put_2_5 0 rfl rfl)
theorem dJ6_put_2_121 : decode cJ6_put_2 121 = .ok (.astore 8, 2) := dk_58 8 (dk_at dksJ6_put_2_5 3 rfl rfl)
theorem dJ6_put_2_123 : decode cJ6_put_2 123 = .ok (.aload 4, 2) := dk_25 4 (dk_at dksJ6_put_2_5 5 rfl rfl)
theorem dJ6_put_2_125 : decode cJ6_put_2 125 = .ok (.astore 6, 2) := dk_58 6 (dk_at dksJ6_put_2_5 7 rfl rfl)
theorem dJ6_put_2_127 : decode cJ6_put_2 127 = .ok (.aload 8, 2) := dk_25 8 (dk_at dksJ6_put_2_5 9 rfl rfl)
theorem dJ6_put_2_129 : decode cJ6_put_2 129 = .ok (.aload 4, 2) := dk_25 4 (dk_at dksJ6_put_2_5 11 rfl rfl)
theorem dJ6_put_2_131 : decode cJ6_put_2 131 = .ok (.getfield 105, 3) := dk_180 0 105 (dk_at dksJ6_put_2_5 13 rfl rfl)
theorem dJ6_put_2_134 : decode cJ6_put_2 134 = .ok (.invokeinterface 107 2, 5) := by decide +kernel
theorem dJ6_put_2_139 : decode cJ6_put_2 139 = .ok (.istore 5, 2) := dk_54 5 (dk_at dksJ6_put_2_5 21 rfl rfl)
theorem dJ6_put_2_141 : decode cJ6_put_2 141 = .ok (.iload 5, 2) := dk_21 5 (dk_at dksJ6_put_2_6 0 rfl rfl)
theorem dJ6_put_2_143 : decode cJ6_put_2 143 = .ok (.ifCond .ge 13, 3) := dk_156 0 13 (dk_at dksJ6_put_2_6 2 rfl rfl)
theorem dJ6_put_2_146 : decode cJ6_put_2 146 = .ok (.aload 4, 2) := dk_25 4 (dk_at dksJ6_put_2_6 5 rfl rfl)
theorem dJ6_put_2_148 : decode cJ6_put_2 148 = .ok (.getfield 111, 3) := dk_180 0 111 (dk_at dksJ6_put_2_6 7 rfl rfl)
theorem dJ6_put_2_151 : decode cJ6_put_2 151 = .ok (.astore 4, 2) := dk_58 4 (dk_at dksJ6_put_2_6 10 rfl rfl)
theorem dJ6_put_2_153 : decode cJ6_put_2 153 = .ok (.goto 43, 3) := dk_167 0 43 (dk_at dksJ6_put_2_6 12 rfl rfl)
theorem dJ6_put_2_156 : decode cJ6_put_2 156 = .ok (.iload 5, 2) := dk_21 5 (dk_at dksJ6_put_2_6 15 rfl rfl)
theorem dJ6_put_2_158 : decode cJ6_put_2 158 = .ok (.ifCond .le 13, 3) := dk_158 0 13 (dk_at dksJ6_put_2_6 17 rfl rfl)
theorem dJ6_put_2_161 : decode cJ6_put_2 161 = .ok (.aload 4, 2) := dk_25 4 (dk_at dksJ6_put_2_6 20 rfl rfl)
theorem dJ6_put_2_163 : decode cJ6_put_2 163 = .ok (.getfield 114, 3) := dk_180 0 114 (dk_at dksJ6_put_2_7 0 rfl rfl)
theorem dJ6_put_2_166 : decode cJ6_put_2 166 = .ok (.astore 4, 2) := dk_58 4 (dk_at dksJ6_put_2_7 3 rfl rfl)
theorem dJ6_put_2_168 : decode cJ6_put_2 168 = .ok (.goto 28, 3) := dk_167 0 28 (dk_at dksJ6_put_2_7 5 rfl rfl)
theorem dJ6_put_2_171 : decode cJ6_put_2 171 = .ok (.aload 4, 2) := dk_25 4 (dk_at dksJ6_put_2_7 8 rfl rfl)
theorem dJ6_put_2_173 : decode cJ6_put_2 173 = .ok (.getfield 58, 3) := dk_180 0 58 (dk_at dksJ6_put_2_7 10 rfl rfl)
theorem dJ6_put_2_176 : decode cJ6_put_2 176 = .ok (.astore 9, 2) := dk_58 9 (dk_at dksJ6_put_2_7 13 rfl rfl)
theorem dJ6_put_2_178 : decode cJ6_put_2 178 = .ok (.iload_n 3, 1) := dk_29 (dk_at dksJ6_put_2_7 15 rfl rfl)
theorem dJ6_put_2_179 : decode cJ6_put_2 179 = .ok (.ifCond .ne 8, 3) := dk_154 0 8 (dk_at dksJ6_put_2_7 16 rfl rfl)
theorem dJ6_put_2_182 : decode cJ6_put_2 182 = .ok (.aload 9, 2) := dk_25 9 (dk_at dksJ6_put_2_7 19 rfl rfl)
theorem dJ6_put_2_184 : decode cJ6_put_2 184 = .ok (.ifnonnull 9, 3) := dk_199 0 9 (dk_at dksJ6_put_2_7 21 rfl rfl)
theorem dJ6_put_2_187 : decode cJ6_put_2 187 = .ok (.aload 4, 2) := dk_25 4 (dk_at dksJ6_put_2_8 0 rfl rfl)
theorem dJ6_put_2_189 : decode cJ6_put_2 189 = .ok (.aload_n 2, 1) := dk_44 (dk_at dksJ6_put_2_8 2 rfl rfl)
theorem dJ6_put_2_190 : decode cJ6_put_2 190 = .ok (.putfield 58, 3) := dk_181 0 58 (dk_at dksJ6_put_2_8 3 rfl rfl)
theorem dJ6_put_2_193 : decode cJ6_put_2 193 = .ok (.aload 9, 2) := dk_25 9 (dk_at dksJ6_put_2_8 6 rfl rfl)
theorem dJ6_put_2_195 : decode cJ6_put_2 195 = .ok (.areturn, 1) := dk_176 (dk_at dksJ6_put_2_8 8 rfl rfl)
theorem dJ6_put_2_196 : decode cJ6_put_2 196 = .ok (.aload 4, 2) := dk_25 4 (dk_at dksJ6_put_2_8 9 rfl rfl)
theorem dJ6_put_2_198 : decode cJ6_put_2 198 = .ok (.ifnonnull (-75), 3) := dk_199 255 181 (dk_at dksJ6_put_2_8 11 rfl rfl)
theorem dJ6_put_2_201 : decode cJ6_put_2 201 = .ok (.aload_n 0, 1) := dk_42 (dk_at dksJ6_put_2_8 14 rfl rfl)
theorem dJ6_put_2_202 : decode cJ6_put_2 202 = .ok (.aload_n 1, 1) := dk_43 (dk_at dksJ6_put_2_8 15 rfl rfl)
theorem dJ6_put_2_203 : decode cJ6_put_2 203 = .ok (.aload_n 2, 1) := dk_44 (dk_at dksJ6_put_2_8 16 rfl rfl)
theorem dJ6_put_2_204 : decode cJ6_put_2 204 = .ok (.aload 6, 2) := dk_25 6 (dk_at dksJ6_put_2_8 17 rfl rfl)
theorem dJ6_put_2_206 : decode cJ6_put_2 206 = .ok (.iload 5, 2) := dk_21 5 (dk_at dksJ6_put_2_8 19 rfl rfl)
theorem dJ6_put_2_208 : decode cJ6_put_2 208 = .ok (.ifCond .ge 7, 3) := dk_156 0 7 (dk_at dksJ6_put_2_8 21 rfl rfl)
theorem dJ6_put_2_211 : decode cJ6_put_2 211 = .ok (.iconst 1, 1) := dk_4 (dk_at dksJ6_put_2_9 0 rfl rfl)
theorem dJ6_put_2_212 : decode cJ6_put_2 212 = .ok (.goto 4, 3) := dk_167 0 4 (dk_at dksJ6_put_2_9 1 rfl rfl)
theorem dJ6_put_2_215 : decode cJ6_put_2 215 = .ok (.iconst 0, 1) := dk_3 (dk_at dksJ6_put_2_9 4 rfl rfl)
theorem dJ6_put_2_216 : decode cJ6_put_2 216 = .ok (.invokevirtual 139, 3) := dk_182 0 139 (dk_at dksJ6_put_2_9 5 rfl rfl)
theorem dJ6_put_2_219 : decode cJ6_put_2 219 = .ok (.aconst_null, 1) := dk_1 (dk_at dksJ6_put_2_9 8 rfl rfl)
theorem dJ6_put_2_220 : decode cJ6_put_2 220 = .ok (.areturn, 1) := dk_176 (dk_at dksJ6_put_2_9 9 rfl rfl)
theorem yk_J6_put_2 : yk yJ6_put_2 3 := by unfold yk; decide +kernel
abbrev KJ6_put_2 (G : Gx) (d mc ms : Nat) (av : List Sv) (M : Mem) (post : Option Sv → Mem → Prop) : Prop := Ct G yJ6_put_2 cJ6_put_2 10 ((Option.some (Jvm.ClassFile.FieldType.object "java/lang/Object"))) d mc ms av M post
theorem q1831 : (Jvm.Cond.methodLink "java/util/TreeMap" (127 : Nat) ({ cls := "java/util/TreeMap", name := "put", desc := "(Ljava/lang/Object;Ljava/lang/Object;Z)Ljava/lang/Object;" } : Jvm.MethodName)) ∈ lw_all := lw_g (lw_at lw_m8 103 rfl) rfl
theorem q1833 : (Jvm.Cond.instanceMethod ({ cls := "java/util/TreeMap", name := "put", desc := "(Ljava/lang/Object;Ljava/lang/Object;Z)Ljava/lang/Object;" } : Jvm.MethodName)) ∈ lw_all := lw_g (lw_at lw_m8 105 rfl) rfl
theorem q1834 : (Jvm.Cond.code ({ cls := "java/util/TreeMap", name := "put", desc := "(Ljava/lang/Object;Ljava/lang/Object;Z)Ljava/lang/Object;" } : Jvm.MethodName) prog_83_method_31_code (10 : Nat) (Option.some (Jvm.ClassFile.FieldType.object "java/lang/Object"))) ∈ lw_all := lw_g (lw_at lw_m8 106 rfl) rfl
theorem q1835 : (Jvm.Cond.methodLink "java/util/TreeMap" (135 : Nat) ({ cls := "java/util/TreeMap", name := "addEntryToEmptyMap", desc := "(Ljava/lang/Object;Ljava/lang/Object;)V" } : Jvm.MethodName)) ∈ lw_all := lw_g (lw_at lw_m8 107 rfl) rfl
theorem q1837 : (Jvm.Cond.instanceMethod ({ cls := "java/util/TreeMap", name := "addEntryToEmptyMap", desc := "(Ljava/lang/Object;Ljava/lang/Object;)V" } : Jvm.MethodName)) ∈ lw_all := lw_g (lw_at lw_m8 109 rfl) rfl
theorem q1838 : (Jvm.Cond.code ({ cls := "java/util/TreeMap", name := "addEntryToEmptyMap", desc := "(Ljava/lang/Object;Ljava/lang/Object;)V" } : Jvm.MethodName) prog_83_method_30_code (3 : Nat) (Option.none : Option Jvm.ClassFile.FieldType)) ∈ lw_all := lw_g (lw_at lw_m8 110 rfl) rfl
theorem q1839 : (Jvm.Cond.methodLink "java/util/TreeMap" (123 : Nat) ({ cls := "java/util/TreeMap", name := "compare", desc := "(Ljava/lang/Object;Ljava/lang/Object;)I" } : Jvm.MethodName)) ∈ lw_all := lw_g (lw_at lw_m8 111 rfl) rfl
theorem q1840 : (Jvm.Cond.instanceMethod ({ cls := "java/util/TreeMap", name := "compare", desc := "(Ljava/lang/Object;Ljava/lang/Object;)I" } : Jvm.MethodName)) ∈ lw_all := lw_g (lw_at lw_m8 112 rfl) rfl
theorem q1841 : (Jvm.Cond.selects "java/util/TreeMap" ({ cls := "java/util/TreeMap", name := "compare", desc := "(Ljava/lang/Object;Ljava/lang/Object;)I" } : Jvm.MethodName) ({ cls := "java/util/TreeMap", name := "compare", desc := "(Ljava/lang/Object;Ljava/lang/Object;)I" } : Jvm.MethodName)) ∈ lw_all := lw_g (lw_at lw_m8 113 rfl) rfl
theorem q1842 : (Jvm.Cond.code ({ cls := "java/util/TreeMap", name := "compare", desc := "(Ljava/lang/Object;Ljava/lang/Object;)I" } : Jvm.MethodName) prog_83_method_67_code (3 : Nat) (Option.some Jvm.ClassFile.FieldType.int)) ∈ lw_all := lw_g (lw_at lw_m8 114 rfl) rfl
theorem q1853 : (Jvm.Cond.methodLink "java/util/TreeMap" (139 : Nat) ({ cls := "java/util/TreeMap", name := "addEntry", desc := "(Ljava/lang/Object;Ljava/lang/Object;Ljava/util/TreeMap$Entry;Z)V" } : Jvm.MethodName)) ∈ lw_all := lw_g (lw_at lw_m8 125 rfl) rfl
theorem q1855 : (Jvm.Cond.instanceMethod ({ cls := "java/util/TreeMap", name := "addEntry", desc := "(Ljava/lang/Object;Ljava/lang/Object;Ljava/util/TreeMap$Entry;Z)V" } : Jvm.MethodName)) ∈ lw_all := lw_g (lw_at lw_m8 127 rfl) rfl
theorem q1856 : (Jvm.Cond.code ({ cls := "java/util/TreeMap", name := "addEntry", desc := "(Ljava/lang/Object;Ljava/lang/Object;Ljava/util/TreeMap$Entry;Z)V" } : Jvm.MethodName) prog_83_method_29_code (6 : Nat) (Option.none : Option Jvm.ClassFile.FieldType)) ∈ lw_all := lw_g (lw_at lw_m8 128 rfl) rfl
/-! ===== TreeMap.put: addEntryToEmptyMap, put ===== -/
section PutV
variable {G : Gx} {M : Mem} {ρ t n : Nat} {ad ps lo hi : Nat → Nat} {ky : Nat → Int32} {vl : Nat → Nat}
theorem ct_TM_compare (hB : Base G) (hkt : mK M t = kTM) (hc : mR M t 2 = none) {a b : Nat} {x y : Int32} (ha : Bx M a x) (hb : Bx M b y) : KJ6_compare G 4 0 0 [vr (some t), vr (some a), vr (some b)] M (fun v M' => v = some (vi (cmpI x y)) ∧ M' = M) := by
  have hka := ha.1
  have hkb := hb.1
  refine Ct.of (own := RJ6) (nm := "compare") hB (by decide) rfl rfl rfl rfl (fun C hC hQ => ?_)
  refine g_aload_n hC dJ6_compare_0 rfl ?_
  refine g_getR hC (ci := 8) (by first | with_reducible rfl | with_reducible assumption | (simp only [mR_sI, mR_sL]; with_reducible assumption) | exact rfl | assumption) (by first | with_reducible assumption | (simp only [mK_sI, mK_sR, mK_sL, mK_sO]; with_reducible assumption) | assumption | (simp only [mK_sI, mK_sR, mK_sL, mK_sO, mK_nw, mK_sK]; first | assumption | (simp only [*]; done))) rfl 2 (by decide) q272 (Or.inl rfl) rfl dJ6_compare_1 ?_
  refine g_ifnonnull hC 20 dJ6_compare_4 (by decide) (fun y4 h => ?_) (fun h => ?_)
  · rw [hc] at h; cases h
  · refine g_aload_n hC dJ6_compare_7 rfl ?_
    refine g_castBxY hC (by first | with_reducible rfl | with_reducible assumption | (simp only [mR_sI, mR_sL]; with_reducible assumption) | exact rfl | assumption) (by first | with_reducible assumption | (simp only [mK_sI, mK_sR, mK_sL, mK_sO]; with_reducible assumption) | assumption | (simp only [mK_sI, mK_sR, mK_sL, mK_sO, mK_nw, mK_sK]; first | assumption | (simp only [*]; done))) q1843 q1536 dJ6_compare_8 ?_
    refine g_aload_n hC dJ6_compare_11 rfl ?_
    refine g_callF hC (by first | with_reducible rfl | with_reducible assumption | (simp only [mR_sI, mR_sL]; with_reducible assumption) | exact rfl | assumption) (Rk.b (by first | with_reducible assumption | (simp only [mK_sI, mK_sR, mK_sL, mK_sO]; with_reducible assumption) | assumption | (simp only [mK_sI, mK_sR, mK_sL, mK_sO, mK_nw, mK_sK]; first | assumption | (simp only [*]; done)))) (ct_compareTo hB ha hb) rfl (by decide) rfl yk_i_Comparable_compareTo_599 q1845 q1537 q1539 q79 q1541 q1509 q1508 q1540 q1538 q1536 rfl dJ6_compare_12 (by omega) (by omega) (fun v M1 hp => ?_)
    obtain ⟨rfl, hM⟩ := hp
    cases hM.symm
    simp only [Option.toList_some, Option.toList_none, List.cons_append, List.nil_append, Nat.add_zero, Nat.zero_add]
    refine g_goto hC 31 dJ6_compare_17 (by decide) ?_
    refine g_iret hC hQ (by omega) (by omega) dJ6_compare_31 ?_
    exact ⟨rfl, rfl⟩
theorem ct_addEmpty (hB : Base G) (hT : TMc M ρ t 0 ad ps lo hi ky vl) {b v : Nat} {k : Int32} (hb : Bx M b k) : KJ6_addEntryToEmptyMap G 5 1 6 [vr (some t), vr (some b), vr (some v)] M (fun r M' => r = none ∧ Grown M M' ρ t 0 ky vl 0 k v) := by
  obtain ⟨⟨hkt, hot, hcmp, hsz, hn, hρ, -, -⟩, -, hvw⟩ := hT
  refine Ct.of (own := RJ6) (nm := "addEntryToEmptyMap") hB (by decide) rfl rfl rfl rfl (fun C hC hQ => ?_)
  refine g_aload_n hC dJ6_addEntryToEmptyMap_0 rfl ?_
  refine g_aload_n hC dJ6_addEntryToEmptyMap_1 rfl ?_
  refine g_aload_n hC dJ6_addEntryToEmptyMap_2 rfl ?_
  refine g_callV hC (by first | with_reducible rfl | with_reducible assumption | (simp only [mR_sI, mR_sL]; with_reducible assumption) | exact rfl | assumption) (Rk.o (ci := 8) (by first | with_reducible assumption | (simp only [mK_sI, mK_sR, mK_sL, mK_sO]; with_reducible assumption) | assumption | (simp only [mK_sI, mK_sR, mK_sL, mK_sO, mK_nw, mK_sK]; first | assumption | (simp only [*]; done))) rfl) (ct_TM_compare hB hkt hcmp hb hb) rfl (by decide) rfl rfl yk_J6_compare q1839 q1840 q1841 q59 q1842 rfl dJ6_addEntryToEmptyMap_3 (by omega) (by omega) (fun v M1 hp => ?_)
  obtain ⟨rfl, hM⟩ := hp
  cases hM.symm
  simp only [Option.toList_some, Option.toList_none, List.cons_append, List.nil_append, Nat.add_zero, Nat.zero_add]
  refine g_pop hC dJ6_addEntryToEmptyMap_6 rfl ?_
  refine g_aload_n hC dJ6_addEntryToEmptyMap_7 rfl ?_
  refine g_new hC (ci := 9) (ρ) 6 rfl rfl q967 q968 q85 dJ6_addEntryToEmptyMap_8 (by omega) (by omega) (fun e he0 => ?_)
  have hke : mK (nw M e 10 0 ρ) e = kEN := by rw [mK_nw, if_pos rfl]
  have hte : t ≠ e := by intro q; subst q; rw [hkt] at he0; cases he0
  refine g_dup hC dJ6_addEntryToEmptyMap_11 rfl ?_
  refine g_aload_n hC dJ6_addEntryToEmptyMap_12 rfl ?_
  refine g_aload_n hC dJ6_addEntryToEmptyMap_13 rfl ?_
  refine g_null hC dJ6_addEntryToEmptyMap_14 ?_
  refine g_callI hC (by first | with_reducible rfl | with_reducible assumption | (simp only [mR_sI, mR_sL]; with_reducible assumption) | exact rfl | assumption) (ct_Entry_init hB hke) rfl (by decide) rfl yk_J30_init rfl q969 q970 q85 q971 rfl dJ6_addEntryToEmptyMap_15 (by omega) (by omega) (fun v M1 hp => ?_)
  obtain ⟨rfl, hM⟩ := hp
  cases hM.symm
  simp only [Option.toList_some, Option.toList_none, List.cons_append, List.nil_append, Nat.add_zero, Nat.zero_add]
  show Go C 18 _ _ (mkE M e ρ (some b) (some v) none) _ _
  have hNE := mkE_new M e ρ (some b) (some v) none
  have hFr0 : Fr (fun r => r = ρ) M (mkE M e ρ (some b) (some v) none) := mkE_fr _ _ _ _ _ _ he0
  generalize mkE M e ρ (some b) (some v) none = M2 at hNE hFr0 ⊢
  obtain ⟨n0, ne0, ne1, ne2, ne3, ne4, ne5, neK, neO⟩ := hNE
  have hkt1 : mK M2 t = kTM := by rw [(n0 t hte).1]; exact hkt
  have hot1 : mO M2 t = ρ := by rw [(n0 t hte).2.1]; exact hot
  refine g_putR hC (ci := 8) (by first | with_reducible rfl | with_reducible assumption | (simp only [mR_sI, mR_sL]; with_reducible assumption) | exact rfl | assumption) (by first | with_reducible assumption | (simp only [mK_sI, mK_sR, mK_sL, mK_sO]; with_reducible assumption) | assumption | (simp only [mK_sI, mK_sR, mK_sL, mK_sO, mK_nw, mK_sK]; first | assumption | (simp only [*]; done))) rfl 3 (by decide) q273 (Or.inl rfl) (Or.inl rfl) rfl dJ6_addEntryToEmptyMap_18 ?_
  refine g_aload_n hC dJ6_addEntryToEmptyMap_21 rfl ?_
  refine g_iconst (v := 1) hC dJ6_addEntryToEmptyMap_22 (by decide) ?_
  refine g_putI hC (ci := 8) (by first | with_reducible rfl | with_reducible assumption | (simp only [mR_sI, mR_sL]; with_reducible assumption) | exact rfl | assumption) (by first | with_reducible assumption | (simp only [mK_sI, mK_sR, mK_sL, mK_sO]; with_reducible assumption) | assumption | (simp only [mK_sI, mK_sR, mK_sL, mK_sO, mK_nw, mK_sK]; first | assumption | (simp only [*]; done))) rfl 4 (by decide) q274 (Or.inl rfl) (Or.inl rfl) rfl rfl rfl dJ6_addEntryToEmptyMap_23 ?_
  refine g_aload_n hC dJ6_addEntryToEmptyMap_26 rfl ?_
  refine g_dup hC dJ6_addEntryToEmptyMap_27 rfl ?_
  refine g_getI hC (ci := 8) (by first | with_reducible rfl | with_reducible assumption | (simp only [mR_sI, mR_sL]; with_reducible assumption) | exact rfl | assumption) (by first | with_reducible assumption | (simp only [mK_sI, mK_sR, mK_sL, mK_sO]; with_reducible assumption) | assumption | (simp only [mK_sI, mK_sR, mK_sL, mK_sO, mK_nw, mK_sK]; first | assumption | (simp only [*]; done))) rfl 5 (by decide) q275 (Or.inl rfl) rfl dJ6_addEntryToEmptyMap_28 ?_
  refine g_iconst (v := 1) hC dJ6_addEntryToEmptyMap_31 (by decide) ?_
  refine g_iadd hC dJ6_addEntryToEmptyMap_32 ?_
  refine g_putI hC (ci := 8) (by first | with_reducible rfl | with_reducible assumption | (simp only [mR_sI, mR_sL]; with_reducible assumption) | exact rfl | assumption) (by first | with_reducible assumption | (simp only [mK_sI, mK_sR, mK_sL, mK_sO]; with_reducible assumption) | assumption | (simp only [mK_sI, mK_sR, mK_sL, mK_sO, mK_nw, mK_sK]; first | assumption | (simp only [*]; done))) rfl 5 (by decide) q275 (Or.inl rfl) (Or.inl rfl) rfl rfl rfl dJ6_addEntryToEmptyMap_33 ?_
  refine g_vret hC hQ (by omega) (by omega) dJ6_addEntryToEmptyMap_36 ?_
  generalize hc9 : mI (sI (sR M2 t 3 (some e)) t 4 1) t 5 + 1 = c9
  have hR : ∀ y j, y ≠ t → mR (sI (sI (sR M2 t 3 (some e)) t 4 1) t 5 c9) y j = mR M2 y j := fun y j h => by rw [mR_sI, mR_sI]; exact mR_sRa h j
  have het : e ≠ t := hte.symm
  have hFA : Fr (fun r => r = ρ) M (sI (sI (sR M2 t 3 (some e)) t 4 1) t 5 c9) := ((hFr0.tr (Fr.sR hot1)).tr (Fr.sI hot1)).tr (Fr.sI hot1)
  refine ⟨rfl, hFA, fun _ => e, fun _ => 0, fun _ => 0, fun _ => 1, ⟨hkt1, hot1, ?_, ?_, by omega, hρ, ⟨?_, ?_⟩, ?_, ?_, ?_⟩, ?_, hvw.fr hFA (fun q => hρ q.symm) (fun k hk => by rw [mR_sI, mR_sI, mR_sRk t hk, ((n0 t hte).2.2 k).1])⟩
  · rw [mR_sI, mR_sI, mR_sRk t (by decide), ((n0 t hte).2.2 2).1]; exact hcmp
  · rw [mI_sI, mI_sI]; simp; rfl
  · have e3 : mR (sI (sI (sR M2 t 3 (some e)) t 4 1) t 5 c9) t 3 = some e := by rw [mR_sI, mR_sI]; exact mR_sRe t 3 (some e)
    rw [e3]
    exact TT.one (by show mR _ e 2 = none; rw [hR e 2 het]; exact ne2) (by show mR _ e 3 = none; rw [hR e 3 het]; exact ne3) (by show mR _ e 4 = none; rw [hR e 4 het]; exact ne4)
  · intro x hx
    have : x = e := hx.2.symm
    subst this
    exact ⟨neK, neO⟩
  · intro i hi
    have : i = 0 := by omega
    subst this
    exact ⟨b, by rw [hR e 0 het]; exact ne0, hb.fr hFA (fun q => hρ q.symm)⟩
  · intro i hi
    have : i = 0 := by omega
    subst this
    show mR _ e 1 = some v
    rw [hR e 1 het]; exact ne1
  · intro i j h1 h2; omega
  · intro x hx
    have : x = e := hx.2.symm
    subst this
    rw [mI_sI, mI_sI]; simp only [if_neg het]
    split
    · split <;> (rw [mI_sR, ne5]; exact b01.o)
    · split <;> (rw [mI_sR, ne5]; exact b01.o)
/-- put's end: the pair's value is replaced, or the pair is new -/
def PutP (M M' : Mem) (ρ t n : Nat) (ad ps lo hi : Nat → Nat) (ky : Nat → Int32) (vl : Nat → Nat) (k : Int32) (v : Nat) (ret : Option Nat) : Prop :=
  (∃ i, i < n ∧ ky i = k ∧ ret = some (vl i) ∧ Fr (fun r => r = ρ) M M' ∧ TMc M' ρ t n ad ps lo hi ky (up1 vl i v)) ∨
  ((∀ i, i < n → ky i ≠ k) ∧ ret = none ∧ ∃ i, i ≤ n ∧ (∀ j, j < i → ky j < k) ∧ (∀ j, i ≤ j → j < n → k < ky j) ∧ Grown M M' ρ t n ky vl i k v)
theorem TMc.repl (hT : TMc M ρ t n ad ps lo hi ky vl) {x : Nat} (hx : Nd n ad ps x) (v : Nat) : TMc (sR M x 1 (some v)) ρ t n ad ps lo hi ky (up1 vl (ps x) v) ∧ Fr (fun r => r = ρ) M (sR M x 1 (some v)) := by
  obtain ⟨⟨hkt, hot, hcmp, hsz, hn, hρ, hTt, hky, hvl, hord⟩, hcol, hvw⟩ := hT
  have hxt := hTt.ne hkt hx
  have hF : Fr (fun r => r = ρ) M (sR M x 1 (some v)) := Fr.sR (hTt.2 x hx).2
  refine ⟨⟨⟨hkt, hot, ?_, hsz, hn, hρ, ⟨?_, hTt.2⟩, ?_, ?_, hord⟩, hcol, hvw.fr hF (fun q => hρ q.symm) (fun k _ => mR_sRa hxt.symm k)⟩, hF⟩
  · rw [mR_sRk t (by decide)]; exact hcmp
  · have e2 : (fun y => mR (sR M x 1 (some v)) y 2) = fun y => mR M y 2 := funext fun y => mR_sRk y (by decide)
    have e3 : (fun y => mR (sR M x 1 (some v)) y 3) = fun y => mR M y 3 := funext fun y => mR_sRk y (by decide)
    have e4 : (fun y => mR (sR M x 1 (some v)) y 4) = fun y => mR M y 4 := funext fun y => mR_sRk y (by decide)
    rw [e2, e3, e4, mR_sRk t (by decide)]
    exact hTt.1
  · intro i hi
    obtain ⟨b, c1, c2⟩ := hky i hi
    exact ⟨b, by rw [mR_sRk _ (by decide)]; exact c1, c2.fr hF (fun q => hρ q.symm)⟩
  · intro i hi
    unfold up1
    by_cases e : i = ps x
    · rw [if_pos e, e, hx.2, mR_sRe]
    · rw [if_neg e, mR_sRa (by intro q; apply e; rw [← q, hTt.1.1 i hi]) 1]
      exact hvl i hi
theorem ct_put2 (hB : Base G) (hT : TMc M ρ t n ad ps lo hi ky vl) (hn : n < 1000) {b v : Nat} {k : Int32} (hb : Bx M b k) : KJ6_put_2 G 6 1 6 [vr (some t), vr (some b), vr (some v), vi 1] M (fun r M' => ∃ ret, r = some (vr ret) ∧ PutP M M' ρ t n ad ps lo hi ky vl k v ret) := by
  have hkt := hT.1.1
  have hcmp := hT.1.2.2.1
  have hkb := hb.1
  have hTt := hT.1.2.2.2.2.2.2.1
  obtain ⟨hky, hvl, hord⟩ := hT.1.2.2.2.2.2.2.2
  obtain ⟨h1, h2, h3, h4, h5, h6, h7, h8, h9, h10⟩ := hTt.1
  have hk := fun y hy => (hTt.2 y hy).1
  -- behind the loop: the new entry under x
  have fin : ∀ C, Ok C G cJ6_put_2 RJ6 "put" 6 1 6 → Rt C G (some (.object "java/lang/Object")) 1 6 (fun r M' => ∃ ret, r = some (vr ret) ∧ PutP M M' ρ t n ad ps lo hi ky vl k v ret) → ∀ (x i : Nat) (cm : Int32) (w4 w7 w8 w9 : Option Sv), Nd n ad ps x → ((cm < 0 ∧ mR M x 2 = none ∧ i = ps x) ∨ (¬ cm < 0 ∧ mR M x 3 = none ∧ i = ps x + 1)) → (∀ j, j < i → ky j < k) → (∀ j, i ≤ j → j < n → k < ky j) → Go C 201 [some (vr (some t)), some (vr (some b)), some (vr (some v)), some (vi 1), w4, some (vi cm), some (vr (some x)), w7, w8, w9] [] M 0 0 := by
    intro C hC hQ x i cm w4 w7 w8 w9 hx hz hlo hhi
    have hin : i ≤ n := by have := hx.1; omega
    have hnot : ∀ j, j < n → ky j ≠ k := by
      intro j hj e
      rcases Nat.lt_or_ge j i with q | q
      · have := hlo j q; rw [e] at this; exact Int32.lt_irrefl this
      · have := hhi j q hj; rw [e] at this; exact Int32.lt_irrefl this
    refine g_aload_n hC dJ6_put_2_201 rfl ?_
    refine g_aload_n hC dJ6_put_2_202 rfl ?_
    refine g_aload_n hC dJ6_put_2_203 rfl ?_
    refine g_aload hC dJ6_put_2_204 rfl ?_
    refine g_iload hC dJ6_put_2_206 rfl ?_
    refine g_if_ge hC 215 dJ6_put_2_208 (by decide) (fun hc => ?_) (fun hc => ?_)
    · refine g_iconst (v := 0) hC dJ6_put_2_215 (by decide) ?_
      have hz2 : ((0 : Int32) = 1 ∧ mR M x 2 = none ∧ i = ps x) ∨ ((0 : Int32) = 0 ∧ mR M x 3 = none ∧ i = ps x + 1) := by
        rcases hz with ⟨q, -⟩ | ⟨-, q⟩
        · exact absurd q hc
        · exact Or.inr ⟨rfl, q⟩
      refine g_callV hC (by first | with_reducible rfl | with_reducible assumption | (simp only [mR_sI, mR_sL]; with_reducible assumption) | exact rfl | assumption) (Rk.o (ci := 8) (by first | with_reducible assumption | (simp only [mK_sI, mK_sR, mK_sL, mK_sO]; with_reducible assumption) | assumption | (simp only [mK_sI, mK_sR, mK_sL, mK_sO, mK_nw, mK_sK]; first | assumption | (simp only [*]; done))) rfl) (ct_addEntry hB hT hn hb hx hz2 hlo hhi) rfl (by decide) rfl rfl yk_J6_addEntry q1853 q1855 qs13 q59 q1856 rfl dJ6_put_2_216 (by omega) (by omega) (fun v M1 hp => ?_)
      obtain ⟨rfl, hG⟩ := hp
      simp only [Option.toList_some, Option.toList_none, List.cons_append, List.nil_append, Nat.add_zero, Nat.zero_add]
      refine g_null hC dJ6_put_2_219 ?_
      refine g_aret hC hQ (by omega) (by omega) rfl dJ6_put_2_220 ?_
      exact ⟨none, rfl, Or.inr ⟨hnot, rfl, i, hin, hlo, hhi, hG⟩⟩
    · refine g_iconst (v := 1) hC dJ6_put_2_211 (by decide) ?_
      refine g_goto hC 216 dJ6_put_2_212 (by decide) ?_
      have hz2 : ((1 : Int32) = 1 ∧ mR M x 2 = none ∧ i = ps x) ∨ ((1 : Int32) = 0 ∧ mR M x 3 = none ∧ i = ps x + 1) := by
        rcases hz with ⟨-, q⟩ | ⟨q, -⟩
        · exact Or.inl ⟨rfl, q⟩
        · exact absurd hc q
      refine g_callV hC (by first | with_reducible rfl | with_reducible assumption | (simp only [mR_sI, mR_sL]; with_reducible assumption) | exact rfl | assumption) (Rk.o (ci := 8) (by first | with_reducible assumption | (simp only [mK_sI, mK_sR, mK_sL, mK_sO]; with_reducible assumption) | assumption | (simp only [mK_sI, mK_sR, mK_sL, mK_sO, mK_nw, mK_sK]; first | assumption | (simp only [*]; done))) rfl) (ct_addEntry hB hT hn hb hx hz2 hlo hhi) rfl (by decide) rfl rfl yk_J6_addEntry q1853 q1855 qs13 q59 q1856 rfl dJ6_put_2_216 (by omega) (by omega) (fun v M1 hp => ?_)
      obtain ⟨rfl, hG⟩ := hp
      simp only [Option.toList_some, Option.toList_none, List.cons_append, List.nil_append, Nat.add_zero, Nat.zero_add]
      refine g_null hC dJ6_put_2_219 ?_
      refine g_aret hC hQ (by omega) (by omega) rfl dJ6_put_2_220 ?_
      exact ⟨none, rfl, Or.inr ⟨hnot, rfl, i, hin, hlo, hhi, hG⟩⟩
  have loop : ∀ C, Ok C G cJ6_put_2 RJ6 "put" 6 1 6 → Rt C G (some (.object "java/lang/Object")) 1 6 (fun r M' => ∃ ret, r = some (vr ret) ∧ PutP M M' ρ t n ad ps lo hi ky vl k v ret) → ∀ (m x : Nat) (w5 w6 w7 w9 : Option Sv), Nd n ad ps x → hi x ≤ lo x + m → (∀ i, i < lo x → ky i < k) → (∀ i, hi x ≤ i → i < n → k < ky i) → Go C 123 [some (vr (some t)), some (vr (some b)), some (vr (some v)), some (vi 1), some (vr (some x)), w5, w6, w7, some (vr (some b)), w9] [] M 0 0 := by
    intro C hC hQ m
    induction m with
    | zero =>
      intro x w5 w6 w7 w9 hx hm
      have := h2 x hx; omega
    | succ m ih =>
      intro x w5 w6 w7 w9 hx hm hlo hhi
      have hx2 := h2 x hx
      have hkx := hk x hx
      obtain ⟨bx, hbx1, hbx2⟩ := hky (ps x) hx.1
      rw [hx.2] at hbx1
      refine g_aload hC dJ6_put_2_123 rfl ?_
      refine g_astore hC dJ6_put_2_125 rfl rfl ?_
      try simp only [stL, clr]
      refine g_aload hC dJ6_put_2_127 rfl ?_
      refine g_aload hC dJ6_put_2_129 rfl ?_
      refine g_getR hC (ci := 9) (by first | with_reducible rfl | with_reducible assumption | (simp only [mR_sI, mR_sL]; with_reducible assumption) | exact rfl | assumption) (by first | with_reducible assumption | (simp only [mK_sI, mK_sR, mK_sL, mK_sO]; with_reducible assumption) | assumption | (simp only [mK_sI, mK_sR, mK_sL, mK_sO, mK_nw, mK_sK]; first | assumption | (simp only [*]; done))) rfl 0 (by decide) q975 (Or.inl rfl) rfl dJ6_put_2_131 ?_
      rw [hbx1]
      refine g_callF hC (by first | with_reducible rfl | with_reducible assumption | (simp only [mR_sI, mR_sL]; with_reducible assumption) | exact rfl | assumption) (Rk.b (by first | with_reducible assumption | (simp only [mK_sI, mK_sR, mK_sL, mK_sO]; with_reducible assumption) | assumption | (simp only [mK_sI, mK_sR, mK_sL, mK_sO, mK_nw, mK_sK]; first | assumption | (simp only [*]; done)))) (ct_compareTo hB hb hbx2) rfl (by decide) rfl yk_i_Comparable_compareTo_599 q1845 q1537 q1539 q79 q1541 q1509 q1508 q1540 q1538 q1536 rfl dJ6_put_2_134 (by omega) (by omega) (fun v M1 hp => ?_)
      obtain ⟨rfl, hM⟩ := hp
      cases hM.symm
      simp only [Option.toList_some, Option.toList_none, List.cons_append, List.nil_append, Nat.add_zero, Nat.zero_add]
      refine g_istore hC dJ6_put_2_139 rfl rfl ?_
      try simp only [stL, clr]
      refine g_iload hC dJ6_put_2_141 rfl ?_
      refine g_if_ge hC 156 dJ6_put_2_143 (by decide) (fun hg => ?_) (fun hg => ?_)
      · refine g_iload hC dJ6_put_2_156 rfl ?_
        refine g_if_le hC 171 dJ6_put_2_158 (by decide) (fun hg2 => ?_) (fun hg2 => ?_)
        · refine g_aload hC dJ6_put_2_171 rfl ?_
          refine g_getR hC (ci := 9) (by first | with_reducible rfl | with_reducible assumption | (simp only [mR_sI, mR_sL]; with_reducible assumption) | exact rfl | assumption) (by first | with_reducible assumption | (simp only [mK_sI, mK_sR, mK_sL, mK_sO]; with_reducible assumption) | assumption | (simp only [mK_sI, mK_sR, mK_sL, mK_sO, mK_nw, mK_sK]; first | assumption | (simp only [*]; done))) rfl 1 (by decide) q978 (Or.inl rfl) rfl dJ6_put_2_173 ?_
          refine g_astore hC dJ6_put_2_176 rfl rfl ?_
          try simp only [stL, clr]
          refine g_iload_n hC dJ6_put_2_178 rfl ?_
          refine g_if_ne hC 187 dJ6_put_2_179 (by decide) (fun hg3 => ?_) (fun hg3 => ?_)
          · refine g_aload hC dJ6_put_2_187 rfl ?_
            refine g_aload_n hC dJ6_put_2_189 rfl ?_
            refine g_putR hC (ci := 9) (by first | with_reducible rfl | with_reducible assumption | (simp only [mR_sI, mR_sL]; with_reducible assumption) | exact rfl | assumption) (by first | with_reducible assumption | (simp only [mK_sI, mK_sR, mK_sL, mK_sO]; with_reducible assumption) | assumption | (simp only [mK_sI, mK_sR, mK_sL, mK_sO, mK_nw, mK_sK]; first | assumption | (simp only [*]; done))) rfl 1 (by decide) q978 (Or.inl rfl) (Or.inl rfl) rfl dJ6_put_2_190 ?_
            refine g_aload hC dJ6_put_2_193 rfl ?_
            refine g_aret hC hQ (by omega) (by omega) rfl dJ6_put_2_195 ?_
            rw [cmpI_lt] at hg
            rw [cmpI_le] at hg2
            have e : ky (ps x) = k := by rw [i32_eq]; rw [i32_lt] at hg; rw [i32_le] at hg2; omega
            obtain ⟨g1, g2⟩ := hT.repl hx v
            have hv := hvl (ps x) hx.1
            rw [hx.2] at hv
            exact ⟨_, rfl, Or.inl ⟨ps x, hx.1, e, hv, g2, g1⟩⟩
          · exact absurd hg3 (by decide)
        · refine g_aload hC dJ6_put_2_161 rfl ?_
          refine g_getR hC (ci := 9) (by first | with_reducible rfl | with_reducible assumption | (simp only [mR_sI, mR_sL]; with_reducible assumption) | exact rfl | assumption) (by first | with_reducible assumption | (simp only [mK_sI, mK_sR, mK_sL, mK_sO]; with_reducible assumption) | assumption | (simp only [mK_sI, mK_sR, mK_sL, mK_sO, mK_nw, mK_sK]; first | assumption | (simp only [*]; done))) rfl 3 (by decide) q982 (Or.inl rfl) rfl dJ6_put_2_163 ?_
          refine g_astore hC dJ6_put_2_166 rfl rfl ?_
          try simp only [stL, clr]
          refine g_goto hC 196 dJ6_put_2_168 (by decide) ?_
          refine g_aload hC dJ6_put_2_196 rfl ?_
          have hgt : ky (ps x) < k := by rw [cmpI_le] at hg2; rw [i32_lt]; rw [i32_le] at hg2; omega
          have hlo' : ∀ i, i < ps x + 1 → ky i < k := by
            intro i hi
            rcases Nat.lt_or_ge i (ps x) with q | q
            · have := hord i (ps x) q hx.1
              rw [i32_lt] at *; omega
            · have : i = ps x := by omega
              rw [this]; exact hgt
          refine g_ifnonnull hC 123 dJ6_put_2_198 (by decide) (fun y hr => ?_) (fun hr => ?_)
          · obtain ⟨e1, e2, e3, e4⟩ := h6 x y hx hr
            rw [hr]
            refine ih y _ _ _ _ e1 (by omega) ?_ ?_
            · intro i hi; exact hlo' i (by omega)
            · intro i hi hin; exact hhi i (by omega) hin
          · have := h5 x hx hr
            exact fin C hC hQ x (ps x + 1) _ _ _ _ _ hx (Or.inr ⟨hg, hr, rfl⟩) hlo' (fun j hj hjn => hhi j (by omega) hjn)
      · refine g_aload hC dJ6_put_2_146 rfl ?_
        refine g_getR hC (ci := 9) (by first | with_reducible rfl | with_reducible assumption | (simp only [mR_sI, mR_sL]; with_reducible assumption) | exact rfl | assumption) (by first | with_reducible assumption | (simp only [mK_sI, mK_sR, mK_sL, mK_sO]; with_reducible assumption) | assumption | (simp only [mK_sI, mK_sR, mK_sL, mK_sO, mK_nw, mK_sK]; first | assumption | (simp only [*]; done))) rfl 2 (by decide) q980 (Or.inl rfl) rfl dJ6_put_2_148 ?_
        refine g_astore hC dJ6_put_2_151 rfl rfl ?_
        try simp only [stL, clr]
        refine g_goto hC 196 dJ6_put_2_153 (by decide) ?_
        refine g_aload hC dJ6_put_2_196 rfl ?_
        have hlt : k < ky (ps x) := by rw [cmpI_lt] at hg; exact hg
        have hhi' : ∀ i, ps x ≤ i → i < n → k < ky i := by
          intro i hi hin
          rcases Nat.lt_or_ge (ps x) i with q | q
          · have := hord (ps x) i q hin
            rw [i32_lt] at *; omega
          · have : i = ps x := by omega
            rw [this]; exact hlt
        refine g_ifnonnull hC 123 dJ6_put_2_198 (by decide) (fun y hr => ?_) (fun hr => ?_)
        · obtain ⟨e1, e2, e3, e4⟩ := h4 x y hx hr
          rw [hr]
          refine ih y _ _ _ _ e1 (by omega) ?_ ?_
          · intro i hi; exact hlo i (by omega)
          · intro i hi hin; exact hhi' i (by omega) hin
        · have := h3 x hx hr
          exact fin C hC hQ x (ps x) _ _ _ _ _ hx (Or.inl ⟨hg, hr, rfl⟩) (fun j hj => hlo j (by omega)) hhi'
  refine Ct.of (own := RJ6) (nm := "put") hB (by decide) rfl rfl rfl rfl (fun C hC hQ => ?_)
  refine g_aload_n hC dJ6_put_2_0 rfl ?_
  refine g_getR hC (ci := 8) (by first | with_reducible rfl | with_reducible assumption | (simp only [mR_sI, mR_sL]; with_reducible assumption) | exact rfl | assumption) (by first | with_reducible assumption | (simp only [mK_sI, mK_sR, mK_sL, mK_sO]; with_reducible assumption) | assumption | (simp only [mK_sI, mK_sR, mK_sL, mK_sO, mK_nw, mK_sK]; first | assumption | (simp only [*]; done))) rfl 3 (by decide) q273 (Or.inl rfl) rfl dJ6_put_2_1 ?_
  refine g_astore hC dJ6_put_2_4 rfl rfl ?_
  try simp only [stL, clr]
  refine g_aload hC dJ6_put_2_6 rfl ?_
  refine g_ifnonnull hC 19 dJ6_put_2_8 (by decide) (fun x hr => ?_) (fun hr => ?_)
  · refine g_aload_n hC dJ6_put_2_19 rfl ?_
    refine g_getR hC (ci := 8) (by first | with_reducible rfl | with_reducible assumption | (simp only [mR_sI, mR_sL]; with_reducible assumption) | exact rfl | assumption) (by first | with_reducible assumption | (simp only [mK_sI, mK_sR, mK_sL, mK_sO]; with_reducible assumption) | assumption | (simp only [mK_sI, mK_sR, mK_sL, mK_sO, mK_nw, mK_sK]; first | assumption | (simp only [*]; done))) rfl 2 (by decide) q272 (Or.inl rfl) rfl dJ6_put_2_20 ?_
    refine g_astore hC dJ6_put_2_23 rfl rfl ?_
    try simp only [stL, clr]
    refine g_aload hC dJ6_put_2_25 rfl ?_
    refine g_ifnull hC 112 dJ6_put_2_27 (by decide) (fun hc => ?_) (fun y27 hc => ?_)
    · refine g_aload_n hC dJ6_put_2_112 rfl ?_
      refine g_callS hC (ct_requireNonNull hB b M) rfl (by decide) rfl yk_J11_requireNonNull q1850 q1851 q66 q1852 rfl dJ6_put_2_113 (by omega) (by omega) (fun v M1 hp => ?_)
      obtain ⟨rfl, hM⟩ := hp
      cases hM.symm
      simp only [Option.toList_some, Option.toList_none, List.cons_append, List.nil_append, Nat.add_zero, Nat.zero_add]
      refine g_pop hC dJ6_put_2_116 rfl ?_
      refine g_aload_n hC dJ6_put_2_117 rfl ?_
      refine g_castBxY hC (by first | with_reducible rfl | with_reducible assumption | (simp only [mR_sI, mR_sL]; with_reducible assumption) | exact rfl | assumption) (by first | with_reducible assumption | (simp only [mK_sI, mK_sR, mK_sL, mK_sO]; with_reducible assumption) | assumption | (simp only [mK_sI, mK_sR, mK_sL, mK_sO, mK_nw, mK_sK]; first | assumption | (simp only [*]; done))) q1843 q1536 dJ6_put_2_118 ?_
      refine g_astore hC dJ6_put_2_121 rfl rfl ?_
      try simp only [stL, clr]
      obtain ⟨e1, e2, e3, e4⟩ := h10 x hr
      rw [hr]
      exact loop C hC hQ n x _ _ _ _ e1 (by omega) (fun i hi => by omega) (fun i hi hin => by omega)
    · rw [hcmp] at hc; cases hc
  · have hn0 := h9 hr
    subst hn0
    refine g_aload_n hC dJ6_put_2_11 rfl ?_
    refine g_aload_n hC dJ6_put_2_12 rfl ?_
    refine g_aload_n hC dJ6_put_2_13 rfl ?_
    refine g_callV hC (by first | with_reducible rfl | with_reducible assumption | (simp only [mR_sI, mR_sL]; with_reducible assumption) | exact rfl | assumption) (Rk.o (ci := 8) (by first | with_reducible assumption | (simp only [mK_sI, mK_sR, mK_sL, mK_sO]; with_reducible assumption) | assumption | (simp only [mK_sI, mK_sR, mK_sL, mK_sO, mK_nw, mK_sK]; first | assumption | (simp only [*]; done))) rfl) (ct_addEmpty hB hT hb) rfl (by decide) rfl rfl yk_J6_addEntryToEmptyMap q1835 q1837 qs12 q59 q1838 rfl dJ6_put_2_14 (by omega) (by omega) (fun v M1 hp => ?_)
    obtain ⟨rfl, hG⟩ := hp
    simp only [Option.toList_some, Option.toList_none, List.cons_append, List.nil_append, Nat.add_zero, Nat.zero_add]
    refine g_null hC dJ6_put_2_17 ?_
    refine g_aret hC hQ (by omega) (by omega) rfl dJ6_put_2_18 ?_
    exact ⟨none, rfl, Or.inr ⟨fun i hi => by omega, rfl, 0, Nat.le_refl _, fun j hj => by omega, fun j _ hj => by omega, hG⟩⟩
theorem ct_put (hB : Base G) (hT : TMc M ρ t n ad ps lo hi ky vl) (hn : n < 1000) {b v : Nat} {k : Int32} (hb : Bx M b k) : KJ6_put G 7 1 6 [vr (some t), vr (some b), vr (some v)] M (fun r M' => ∃ ret, r = some (vr ret) ∧ PutP M M' ρ t n ad ps lo hi ky vl k v ret) := by
  have hkt := hT.1.1
  refine Ct.of (own := RJ6) (nm := "put") hB (by decide) rfl rfl rfl rfl (fun C hC hQ => ?_)
  refine g_aload_n hC dJ6_put_0 rfl ?_
  refine g_aload_n hC dJ6_put_1 rfl ?_
  refine g_aload_n hC dJ6_put_2 rfl ?_
  refine g_iconst (v := 1) hC dJ6_put_3 (by decide) ?_
  refine g_callV hC (by first | with_reducible rfl | with_reducible assumption | (simp only [mR_sI, mR_sL]; with_reducible assumption) | exact rfl | assumption) (Rk.o (ci := 8) (by first | with_reducible assumption | (simp only [mK_sI, mK_sR, mK_sL, mK_sO]; with_reducible assumption) | assumption | (simp only [mK_sI, mK_sR, mK_sL, mK_sO, mK_nw, mK_sK]; first | assumption | (simp only [*]; done))) rfl) (ct_put2 hB hT hn hb) rfl (by decide) rfl rfl yk_J6_put_2 q1831 q1833 qs11 q59 q1834 rfl dJ6_put_4 (by omega) (by omega) (fun v M1 hp => ?_)
  obtain ⟨ret, rfl, hP⟩ := hp
  simp only [Option.toList_some, Option.toList_none, List.cons_append, List.nil_append, Nat.add_zero, Nat.zero_add]
  refine g_aret hC hQ (by omega) (by omega) rfl dJ6_put_7 ?_
  exact ⟨ret, rfl, hP⟩
end PutV

