set_option maxRecDepth 100000
def RJ11 : String := "java/util/Objects"
abbrev cJ11_requireNonNull : ByteArray := prog_72_method_10_code
def yJ11_requireNonNull : MethodName := ⟨RJ11, "requireNonNull", "(Ljava/lang/Object;)Ljava/lang/Object;"⟩
def dkwJ11_requireNonNull_0 : List UInt8 := [42, 199, 0, 11, 187, 0, 84, 89, 183, 0, 86, 191, 42, 176]
abbrev dktJ11_requireNonNull_0 : List UInt8 := dkwJ11_requireNonNull_0 ++ []
theorem dksJ11_requireNonNull_0 : cJ11_requireNonNull.data.toList.drop 0 = dktJ11_requireNonNull_0 := by decide +kernel
theorem dJ11_requireNonNull_0 : decode cJ11_requireNonNull 0 = .ok (.aload_n 0, 1) := dk_42 (dk_at dksJ11_requireNonNull_0 0 rfl rfl)
theorem dJ11_requireNonNull_1 : decode cJ11_requireNonNull 1 = .ok (.ifnonnull 11, 3) := dk_199 0 11 (dk_at dksJ11_requireNonNull_0 1 rfl rfl)
theorem dJ11_requireNonNull_4 : decode cJ11_requireNonNull 4 = .ok (.new 84, 3) := dk_187 0 84 (dk_at dksJ11_requireNonNull_0 4 rfl rfl)
theorem dJ11_requireNonNull_7 : decode cJ11_requireNonNull 7 = .ok (.dup, 1) := dk_89 (dk_at dksJ11_requireNonNull_0 7 rfl rfl)
theorem dJ11_requireNonNull_8 : decode cJ11_requireNonNull 8 = .ok (.invokespecial 86, 3) := dk_183 0 86 (dk_at dksJ11_requireNonNull_0 8 rfl rfl)
theorem dJ11_requireNonNull_11 : decode cJ11_requireNonNull 11 = .ok (.athrow, 1) := dk_191 (dk_at dksJ11_requireNonNull_0 11 rfl rfl)
theorem dJ11_requireNonNull_12 : decode cJ11_requireNonNull 12 = .ok (.aload_n 0, 1) := dk_42 (dk_at dksJ11_requireNonNull_0 12 rfl rfl)
theorem dJ11_requireNonNull_13 : decode cJ11_requireNonNull 13 = .ok (.areturn, 1) := dk_176 (dk_at dksJ11_requireNonNull_0 13 rfl rfl)
theorem yk_J11_requireNonNull : yk yJ11_requireNonNull 1 := by unfold yk; decide +kernel
abbrev KJ11_requireNonNull (G : Gx) (d mc ms : Nat) (av : List Sv) (M : Mem) (post : Option Sv → Mem → Prop) : Prop := Ct G yJ11_requireNonNull cJ11_requireNonNull 1 ((Option.some (Jvm.ClassFile.FieldType.object "java/lang/Object"))) d mc ms av M post
abbrev cJ6_containsKey : ByteArray := prog_83_method_6_code
def yJ6_containsKey : MethodName := ⟨RJ6, "containsKey", "(Ljava/lang/Object;)Z"⟩
def dkwJ6_containsKey_0 : List UInt8 := [42, 43, 182, 0, 50, 198, 0, 7, 4, 167, 0, 4, 3, 172]
abbrev dktJ6_containsKey_0 : List UInt8 := dkwJ6_containsKey_0 ++ []
theorem dksJ6_containsKey_0 : cJ6_containsKey.data.toList.drop 0 = dktJ6_containsKey_0 := by decide +kernel
theorem dJ6_containsKey_0 : decode cJ6_containsKey 0 = .ok (.aload_n 0, 1) := dk_42 (dk_at dksJ6_containsKey_0 0 rfl rfl)
theorem dJ6_containsKey_1 : decode cJ6_containsKey 1 = .ok (.aload_n 1, 1) := dk_43 (dk_at dksJ6_containsKey_0 1 rfl rfl)
theorem dJ6_containsKey_2 : decode cJ6_containsKey 2 = .ok (.invokevirtual 50, 3) := dk_182 0 50 (dk_at dksJ6_containsKey_0 2 rfl rfl)
theorem dJ6_containsKey_5 : decode cJ6_containsKey 5 = .ok (.ifnull 7, 3) := dk_198 0 7 (dk_at dksJ6_containsKey_0 5 rfl rfl)
theorem dJ6_containsKey_8 : decode cJ6_containsKey 8 = .ok (.iconst 1, 1) := dk_4 (dk_at dksJ6_containsKey_0 8 rfl rfl)
theorem dJ6_containsKey_9 : decode cJ6_containsKey 9 = .ok (.goto 4, 3) := dk_167 0 4 (dk_at dksJ6_containsKey_0 9 rfl rfl)
theorem dJ6_containsKey_12 : decode cJ6_containsKey 12 = .ok (.iconst 0, 1) := dk_3 (dk_at dksJ6_containsKey_0 12 rfl rfl)
theorem dJ6_containsKey_13 : decode cJ6_containsKey 13 = .ok (.ireturn, 1) := dk_172 (dk_at dksJ6_containsKey_0 13 rfl rfl)
theorem yk_J6_containsKey : yk yJ6_containsKey 1 := by unfold yk; decide +kernel
abbrev KJ6_containsKey (G : Gx) (d mc ms : Nat) (av : List Sv) (M : Mem) (post : Option Sv → Mem → Prop) : Prop := Ct G yJ6_containsKey cJ6_containsKey 2 ((Option.some Jvm.ClassFile.FieldType.boolean)) d mc ms av M post
abbrev cJ6_get : ByteArray := prog_83_method_8_code
def yJ6_get : MethodName := ⟨RJ6, "get", "(Ljava/lang/Object;)Ljava/lang/Object;"⟩
def dkwJ6_get_0 : List UInt8 := [42, 43, 182, 0, 50, 77, 44, 199, 0, 7, 1, 167, 0, 7, 44, 180, 0, 58, 176]
abbrev dktJ6_get_0 : List UInt8 := dkwJ6_get_0 ++ []
theorem dksJ6_get_0 : cJ6_get.data.toList.drop 0 = dktJ6_get_0 := by decide +kernel
theorem dJ6_get_0 : decode cJ6_get 0 = .ok (.aload_n 0, 1) := dk_42 (dk_at dksJ6_get_0 0 rfl rfl)
theorem dJ6_get_1 : decode cJ6_get 1 = .ok (.aload_n 1, 1) := dk_43 (dk_at dksJ6_get_0 1 rfl rfl)
theorem dJ6_get_2 : decode cJ6_get 2 = .ok (.invokevirtual 50, 3) := dk_182 0 50 (dk_at dksJ6_get_0 2 rfl rfl)
theorem dJ6_get_5 : decode cJ6_get 5 = .ok (.astore_n 2, 1) := dk_77 (dk_at dksJ6_get_0 5 rfl rfl)
theorem dJ6_get_6 : decode cJ6_get 6 = .ok (.aload_n 2, 1) := dk_44 (dk_at dksJ6_get_0 6 rfl rfl)
theorem dJ6_get_7 : decode cJ6_get 7 = .ok (.ifnonnull 7, 3) := dk_199 0 7 (dk_at dksJ6_get_0 7 rfl rfl)
theorem dJ6_get_10 : decode cJ6_get 10 = .ok (.aconst_null, 1) := dk_1 (dk_at dksJ6_get_0 10 rfl rfl)
theorem dJ6_get_11 : decode cJ6_get 11 = .ok (.goto 7, 3) := dk_167 0 7 (dk_at dksJ6_get_0 11 rfl rfl)
theorem dJ6_get_14 : decode cJ6_get 14 = .ok (.aload_n 2, 1) := dk_44 (dk_at dksJ6_get_0 14 rfl rfl)
theorem dJ6_get_15 : decode cJ6_get 15 = .ok (.getfield 58, 3) := dk_180 0 58 (dk_at dksJ6_get_0 15 rfl rfl)
theorem dJ6_get_18 : decode cJ6_get 18 = .ok (.areturn, 1) := dk_176 (dk_at dksJ6_get_0 18 rfl rfl)
theorem yk_J6_get : yk yJ6_get 1 := by unfold yk; decide +kernel
abbrev KJ6_get (G : Gx) (d mc ms : Nat) (av : List Sv) (M : Mem) (post : Option Sv → Mem → Prop) : Prop := Ct G yJ6_get cJ6_get 3 ((Option.some (Jvm.ClassFile.FieldType.object "java/lang/Object"))) d mc ms av M post
abbrev cJ6_getEntry : ByteArray := prog_83_method_15_code
def yJ6_getEntry : MethodName := ⟨RJ6, "getEntry", "(Ljava/lang/Object;)Ljava/util/TreeMap$Entry;"⟩
def dkwJ6_getEntry_3 : List UInt8 := [45, 176, 167, 255, 212, 1, 176]
abbrev dktJ6_getEntry_3 : List UInt8 := dkwJ6_getEntry_3 ++ []
def dkwJ6_getEntry_2 : List UInt8 := [156, 0, 11, 45, 180, 0, 111, 78, 167, 0, 18, 21, 4, 158, 0, 11, 45, 180, 0, 114, 78, 167, 0, 5]
abbrev dktJ6_getEntry_2 : List UInt8 := dkwJ6_getEntry_2 ++ dktJ6_getEntry_3
def dkwJ6_getEntry_1 : List UInt8 := [180, 0, 101, 78, 45, 198, 0, 46, 44, 45, 180, 0, 105, 185, 0, 107, 2, 0, 54, 4, 21, 4]
abbrev dktJ6_getEntry_1 : List UInt8 := dkwJ6_getEntry_1 ++ dktJ6_getEntry_2
def dkwJ6_getEntry_0 : List UInt8 := [42, 180, 0, 16, 198, 0, 9, 42, 43, 182, 0, 92, 176, 43, 184, 0, 95, 87, 43, 192, 0, 99, 77, 42]
abbrev dktJ6_getEntry_0 : List UInt8 := dkwJ6_getEntry_0 ++ dktJ6_getEntry_1
theorem dksJ6_getEntry_0 : cJ6_getEntry.data.toList.drop 0 = dktJ6_getEntry_0 := by decide +kernel
theorem dksJ6_getEntry_1 : cJ6_getEntry.data.toList.drop 24 = dktJ6_getEntry_1 := dk_seg dksJ6_getEntry_0 24 rfl rfl
theorem dksJ6_getEntry_2 : cJ6_getEntry.data.toList.drop 46 = dktJ6_getEntry_2 := dk_seg dksJ6_getEntry_1 22 rfl rfl
theorem dksJ6_getEntry_3 : cJ6_getEntry.data.toList.drop 70 = dktJ6_getEntry_3 := dk_seg dksJ6_getEntry_2 24 rfl rfl
theorem dJ6_getEntry_0 : decode cJ6_getEntry 0 = .ok (.aload_n 0, 1) := dk_42 (dk_at dksJ6_getEntry_0 0 rfl rfl)
theorem dJ6_getEntry_1 : decode cJ6_getEntry 1 = .ok (.getfield 16, 3) := dk_180 0 16 (dk_at dksJ6_getEntry_0 1 rfl rfl)
theorem dJ6_getEntry_4 : decode cJ6_getEntry 4 = .ok (.ifnull 9, 3) := dk_198 0 9 (dk_at dksJ6_getEntry_0 4 rfl rfl)
theorem dJ6_getEntry_7 : decode cJ6_getEntry 7 = .ok (.aload_n 0, 1) := dk_42 (dk_at dksJ6_getEntry_0 7 rfl rfl)
theorem dJ6_getEntry_8 : decode cJ6_getEntry 8 = .ok (.aload_n 1, 1) := dk_43 (dk_at dksJ6_getEntry_0 8 rfl rfl)
theorem dJ6_getEntry_9 : decode cJ6_getEntry 9 = .ok (.invokevirtual 92, 3) := dk_182 0 92 (dk_at dksJ6_getEntry_0 9 rfl rfl)
theorem dJ6_getEntry_12 : decode cJ6_getEntry 12 = .ok (.areturn, 1) := dk_176 (dk_at dksJ6_getEntry_0 12 rfl rfl)
theorem dJ6_getEntry_13 : decode cJ6_getEntry 13 = .ok (.aload_n 1, 1) := dk_43 (dk_at dksJ6_getEntry_0 13 rfl rfl)
theorem dJ6_getEntry_14 : decode cJ6_getEntry 14 = .ok (.invokestatic 95, 3) := dk_184 0 95 (dk_at dksJ6_getEntry_0 14 rfl rfl)
theorem dJ6_getEntry_17 : decode cJ6_getEntry 17 = .ok (.pop, 1) := dk_87 (dk_at dksJ6_getEntry_0 17 rfl rfl)
theorem dJ6_getEntry_18 : decode cJ6_getEntry 18 = .ok (.aload_n 1, 1) := dk_43 (dk_at dksJ6_getEntry_0 18 rfl rfl)
theorem dJ6_getEntry_19 : decode cJ6_getEntry 19 = .ok (.checkcast 99, 3) := dk_192 0 99 (dk_at dksJ6_getEntry_0 19 rfl rfl)
theorem dJ6_getEntry_22 : decode cJ6_getEntry 22 = .ok (.astore_n 2, 1) := dk_77 (dk_at dksJ6_getEntry_0 22 rfl rfl)
theorem dJ6_getEntry_23 : decode cJ6_getEntry 23 = .ok (.aload_n 0, 1) := dk_42 (dk_at dksJ6_getEntry_0 23 rfl rfl)
theorem dJ6_getEntry_24 : decode cJ6_getEntry 24 = .ok (.getfield 101, 3) := dk_180 0 101 (dk_at dksJ6_getEntry_1 0 rfl rfl)
theorem dJ6_getEntry_27 : decode cJ6_getEntry 27 = .ok (.astore_n 3, 1) := dk_78 (dk_at dksJ6_getEntry_1 3 rfl rfl)
theorem dJ6_getEntry_28 : decode cJ6_getEntry 28 = .ok (.aload_n 3, 1) := dk_45 (dk_at dksJ6_getEntry_1 4 rfl rfl)
theorem dJ6_getEntry_29 : decode cJ6_getEntry 29 = .ok (.ifnull 46, 3) := dk_198 0 46 (dk_at dksJ6_getEntry_1 5 rfl rfl)
theorem dJ6_getEntry_32 : decode cJ6_getEntry 32 = .ok (.aload_n 2, 1) := dk_44 (dk_at dksJ6_getEntry_1 8 rfl rfl)
theorem dJ6_getEntry_33 : decode cJ6_getEntry 33 = .ok (.aload_n 3, 1) := dk_45 (dk_at dksJ6_getEntry_1 9 rfl rfl)
theorem dJ6_getEntry_34 : decode cJ6_getEntry 34 = .ok (.getfield 105, 3) := dk_180 0 105 (dk_at dksJ6_getEntry_1 10 rfl rfl)
theorem dJ6_getEntry_37 : decode cJ6_getEntry 37 = .ok (.invokeinterface 107 2, 5) := by decide +kernel
theorem dJ6_getEntry_42 : decode cJ6_getEntry 42 = .ok (.istore 4, 2) := dk_54 4 (dk_at dksJ6_getEntry_1 18 rfl rfl)
theorem dJ6_getEntry_44 : decode cJ6_getEntry 44 = .ok (.iload 4, 2) := dk_21 4 (dk_at dksJ6_getEntry_1 20 rfl rfl)
theorem dJ6_getEntry_46 : decode cJ6_getEntry 46 = .ok (.ifCond .ge 11, 3) := dk_156 0 11 (dk_at dksJ6_getEntry_2 0 rfl rfl)
theorem dJ6_getEntry_49 : decode cJ6_getEntry 49 = .ok (.aload_n 3, 1) := dk_45 (dk_at dksJ6_getEntry_2 3 rfl rfl)
theorem dJ6_getEntry_50 : decode cJ6_getEntry 50 = .ok (.getfield 111, 3) := dk_180 0 111 (dk_at dksJ6_getEntry_2 4 rfl rfl)
theorem dJ6_getEntry_53 : decode cJ6_getEntry 53 = .ok (.astore_n 3, 1) := dk_78 (dk_at dksJ6_getEntry_2 7 rfl rfl)
theorem dJ6_getEntry_54 : decode cJ6_getEntry 54 = .ok (.goto 18, 3) := dk_167 0 18 (dk_at dksJ6_getEntry_2 8 rfl rfl)
theorem dJ6_getEntry_57 : decode cJ6_getEntry 57 = .ok (.iload 4, 2) := dk_21 4 (dk_at dksJ6_getEntry_2 11 rfl rfl)
theorem dJ6_getEntry_59 : decode cJ6_getEntry 59 = .ok (.ifCond .le 11, 3) := dk_158 0 11 (dk_at dksJ6_getEntry_2 13 rfl rfl)
theorem dJ6_getEntry_62 : decode cJ6_getEntry 62 = .ok (.aload_n 3, 1) := dk_45 (dk_at dksJ6_getEntry_2 16 rfl rfl)
theorem dJ6_getEntry_63 : decode cJ6_getEntry 63 = .ok (.getfield 114, 3) := dk_180 0 114 (dk_at dksJ6_getEntry_2 17 rfl rfl)
theorem dJ6_getEntry_66 : decode cJ6_getEntry 66 = .ok (.astore_n 3, 1) := dk_78 (dk_at dksJ6_getEntry_2 20 rfl rfl)
theorem dJ6_getEntry_67 : decode cJ6_getEntry 67 = .ok (.goto 5, 3) := dk_167 0 5 (dk_at dksJ6_getEntry_2 21 rfl rfl)
theorem dJ6_getEntry_70 : decode cJ6_getEntry 70 = .ok (.aload_n 3, 1) := dk_45 (dk_at dksJ6_getEntry_3 0 rfl rfl)
theorem dJ6_getEntry_71 : decode cJ6_getEntry 71 = .ok (.areturn, 1) := dk_176 (dk_at dksJ6_getEntry_3 1 rfl rfl)
theorem dJ6_getEntry_72 : decode cJ6_getEntry 72 = .ok (.goto (-44), 3) := dk_167 255 212 (dk_at dksJ6_getEntry_3 2 rfl rfl)
theorem dJ6_getEntry_75 : decode cJ6_getEntry 75 = .ok (.aconst_null, 1) := dk_1 (dk_at dksJ6_getEntry_3 5 rfl rfl)
theorem dJ6_getEntry_76 : decode cJ6_getEntry 76 = .ok (.areturn, 1) := dk_176 (dk_at dksJ6_getEntry_3 6 rfl rfl)
theorem yk_J6_getEntry : yk yJ6_getEntry 1 := by unfold yk; decide +kernel
abbrev KJ6_getEntry (G : Gx) (d mc ms : Nat) (av : List Sv) (M : Mem) (post : Option Sv → Mem → Prop) : Prop := Ct G yJ6_getEntry cJ6_getEntry 5 ((Option.some (Jvm.ClassFile.FieldType.object "java/util/TreeMap$Entry"))) d mc ms av M post
abbrev cJ6_getFirstEntry : ByteArray := prog_83_method_72_code
def yJ6_getFirstEntry : MethodName := ⟨RJ6, "getFirstEntry", "()Ljava/util/TreeMap$Entry;"⟩
def dkwJ6_getFirstEntry_1 : List UInt8 := [43, 176]
abbrev dktJ6_getFirstEntry_1 : List UInt8 := dkwJ6_getFirstEntry_1 ++ []
def dkwJ6_getFirstEntry_0 : List UInt8 := [42, 180, 0, 101, 76, 43, 198, 0, 18, 43, 180, 0, 111, 198, 0, 11, 43, 180, 0, 111, 76, 167, 255, 244]
abbrev dktJ6_getFirstEntry_0 : List UInt8 := dkwJ6_getFirstEntry_0 ++ dktJ6_getFirstEntry_1
theorem dksJ6_getFirstEntry_0 : cJ6_getFirstEntry.data.toList.drop 0 = dktJ6_getFirstEntry_0 := by decide +kernel
theorem dksJ6_getFirstEntry_1 : cJ6_getFirstEntry.data.toList.drop 24 = dktJ6_getFirstEntry_1 := dk_seg dksJ6_getFirstEntry_0 24 rfl rfl
theorem dJ6_getFirstEntry_0 : decode cJ6_getFirstEntry 0 = .ok (.aload_n 0, 1) := dk_42 (dk_at dksJ6_getFirstEntry_0 0 rfl rfl)
theorem dJ6_getFirstEntry_1 : decode cJ6_getFirstEntry 1 = .ok (.getfield 101, 3) := dk_180 0 101 (dk_at dksJ6_getFirstEntry_0 1 rfl rfl)
theorem dJ6_getFirstEntry_4 : decode cJ6_getFirstEntry 4 = .ok (.astore_n 1, 1) := dk_76 (dk_at dksJ6_getFirstEntry_0 4 rfl rfl)
theorem dJ6_getFirstEntry_5 : decode cJ6_getFirstEntry 5 = .ok (.aload_n 1, 1) := dk_43 (dk_at dksJ6_getFirstEntry_0 5 rfl rfl)
theorem dJ6_getFirstEntry_6 : decode cJ6_getFirstEntry 6 = .ok (.ifnull 18, 3) := dk_198 0 18 (dk_at dksJ6_getFirstEntry_0 6 rfl rfl)
theorem dJ6_getFirstEntry_9 : decode cJ6_getFirstEntry 9 = .ok (.aload_n 1, 1) := dk_43 (dk_at dksJ6_getFirstEntry_0 9 rfl rfl)
theorem dJ6_getFirstEntry_10 : decode cJ6_getFirstEntry 10 = .ok (.getfield 111, 3) := dk_180 0 111 (dk_at dksJ6_getFirstEntry_0 10 rfl rfl)
theorem dJ6_getFirstEntry_13 : decode cJ6_getFirstEntry 13 = .ok (.ifnull 11, 3) := dk_198 0 11 (dk_at dksJ6_getFirstEntry_0 13 rfl rfl)
theorem dJ6_getFirstEntry_16 : decode cJ6_getFirstEntry 16 = .ok (.aload_n 1, 1) := dk_43 (dk_at dksJ6_getFirstEntry_0 16 rfl rfl)
theorem dJ6_getFirstEntry_17 : decode cJ6_getFirstEntry 17 = .ok (.getfield 111, 3) := dk_180 0 111 (dk_at dksJ6_getFirstEntry_0 17 rfl rfl)
theorem dJ6_getFirstEntry_20 : decode cJ6_getFirstEntry 20 = .ok (.astore_n 1, 1) := dk_76 (dk_at dksJ6_getFirstEntry_0 20 rfl rfl)
theorem dJ6_getFirstEntry_21 : decode cJ6_getFirstEntry 21 = .ok (.goto (-12), 3) := dk_167 255 244 (dk_at dksJ6_getFirstEntry_0 21 rfl rfl)
theorem dJ6_getFirstEntry_24 : decode cJ6_getFirstEntry 24 = .ok (.aload_n 1, 1) := dk_43 (dk_at dksJ6_getFirstEntry_1 0 rfl rfl)
theorem dJ6_getFirstEntry_25 : decode cJ6_getFirstEntry 25 = .ok (.areturn, 1) := dk_176 (dk_at dksJ6_getFirstEntry_1 1 rfl rfl)
theorem yk_J6_getFirstEntry : yk yJ6_getFirstEntry 0 := by unfold yk; decide +kernel
abbrev KJ6_getFirstEntry (G : Gx) (d mc ms : Nat) (av : List Sv) (M : Mem) (post : Option Sv → Mem → Prop) : Prop := Ct G yJ6_getFirstEntry cJ6_getFirstEntry 2 ((Option.some (Jvm.ClassFile.FieldType.object "java/util/TreeMap$Entry"))) d mc ms av M post
abbrev cJ6_size : ByteArray := prog_83_method_5_code
def yJ6_size : MethodName := ⟨RJ6, "size", "()I"⟩
theorem dJ6_size_0 : decode cJ6_size 0 = .ok (.aload_n 0, 1) := by decide +kernel
theorem dJ6_size_1 : decode cJ6_size 1 = .ok (.getfield 7, 3) := by decide +kernel
theorem dJ6_size_4 : decode cJ6_size 4 = .ok (.ireturn, 1) := by decide +kernel
theorem yk_J6_size : yk yJ6_size 0 := by unfold yk; decide +kernel
abbrev KJ6_size (G : Gx) (d mc ms : Nat) (av : List Sv) (M : Mem) (post : Option Sv → Mem → Prop) : Prop := Ct G yJ6_size cJ6_size 1 ((Option.some Jvm.ClassFile.FieldType.int)) d mc ms av M post
abbrev cJ6_successor : ByteArray := prog_83_method_74_code
def yJ6_successor : MethodName := ⟨RJ6, "successor", "(Ljava/util/TreeMap$Entry;)Ljava/util/TreeMap$Entry;"⟩
def dkwJ6_successor_2 : List UInt8 := [44, 43, 180, 0, 114, 166, 0, 13, 43, 77, 43, 180, 0, 124, 76, 167, 255, 237, 43, 176]
abbrev dktJ6_successor_2 : List UInt8 := dkwJ6_successor_2 ++ []
def dkwJ6_successor_1 : List UInt8 := [198, 0, 11, 43, 180, 0, 111, 76, 167, 255, 244, 43, 176, 42, 180, 0, 124, 76, 42, 77, 43, 198, 0, 21]
abbrev dktJ6_successor_1 : List UInt8 := dkwJ6_successor_1 ++ dktJ6_successor_2
def dkwJ6_successor_0 : List UInt8 := [42, 199, 0, 5, 1, 176, 42, 180, 0, 114, 198, 0, 25, 42, 180, 0, 114, 76, 43, 180, 0, 111]
abbrev dktJ6_successor_0 : List UInt8 := dkwJ6_successor_0 ++ dktJ6_successor_1
theorem dksJ6_successor_0 : cJ6_successor.data.toList.drop 0 = dktJ6_successor_0 := by decide +kernel
theorem dksJ6_successor_1 : cJ6_successor.data.toList.drop 22 = dktJ6_successor_1 := dk_seg dksJ6_successor_0 22 rfl rfl
theorem dksJ6_successor_2 : cJ6_successor.data.toList.drop 46 = dktJ6_successor_2 := dk_seg dksJ6_successor_1 24 rfl rfl
theorem dJ6_successor_0 : decode cJ6_successor 0 = .ok (.aload_n 0, 1) := dk_42 (dk_at dksJ6_successor_0 0 rfl rfl)
theorem dJ6_successor_1 : decode cJ6_successor 1 = .ok (.ifnonnull 5, 3) := dk_199 0 5 (dk_at dksJ6_successor_0 1 rfl rfl)
theorem dJ6_successor_4 : decode cJ6_successor 4 = .ok (.aconst_null, 1) := dk_1 (dk_at dksJ6_successor_0 4 rfl rfl)
theorem dJ6_successor_5 : decode cJ6_successor 5 = .ok (.areturn, 1) := dk_176 (dk_at dksJ6_successor_0 5 rfl rfl)
theorem dJ6_successor_6 : decode cJ6_successor 6 = .ok (.aload_n 0, 1) := dk_42 (dk_at dksJ6_successor_0 6 rfl rfl)
theorem dJ6_successor_7 : decode cJ6_successor 7 = .ok (.getfield 114, 3) := dk_180 0 114 (dk_at dksJ6_successor_0 7 rfl rfl)
theorem dJ6_successor_10 : decode cJ6_successor 10 = .ok (.ifnull 25, 3) := dk_198 0 25 (dk_at dksJ6_successor_0 10 rfl rfl)
theorem dJ6_successor_13 : decode cJ6_successor 13 = .ok (.aload_n 0, 1) := dk_42 (dk_at dksJ6_successor_0 13 rfl rfl)
theorem dJ6_successor_14 : decode cJ6_successor 14 = .ok (.getfield 114, 3) := dk_180 0 114 (dk_at dksJ6_successor_0 14 rfl rfl)
theorem dJ6_successor_17 : decode cJ6_successor 17 = .ok (.astore_n 1, 1) := dk_76 (dk_at dksJ6_successor_0 17 rfl rfl)
theorem dJ6_successor_18 : decode cJ6_successor 18 = .ok (.aload_n 1, 1) := dk_43 (dk_at dksJ6_successor_0 18 rfl rfl)
theorem dJ6_successor_19 : decode cJ6_successor 19 = .ok (.getfield 111, 3) := dk_180 0 111 (dk_at dksJ6_successor_0 19 rfl rfl)
theorem dJ6_successor_22 : decode cJ6_successor 22 = .ok (.ifnull 11, 3) := dk_198 0 11 (dk_at dksJ6_successor_1 0 rfl rfl)
theorem dJ6_successor_25 : decode cJ6_successor 25 = .ok (.aload_n 1, 1) := dk_43 (dk_at dksJ6_successor_1 3 rfl rfl)
theorem dJ6_successor_26 : decode cJ6_successor 26 = .ok (.getfield 111, 3) := dk_180 0 111 (dk_at dksJ6_successor_1 4 rfl rfl)
theorem dJ6_successor_29 : decode cJ6_successor 29 = .ok (.astore_n 1, 1) := dk_76 (dk_at dksJ6_successor_1 7 rfl rfl)
theorem dJ6_successor_30 : decode cJ6_successor 30 = .ok (.goto (-12), 3) := dk_167 255 244 (dk_at dksJ6_successor_1 8 rfl rfl)
theorem dJ6_successor_33 : decode cJ6_successor 33 = .ok (.aload_n 1, 1) := dk_43 (dk_at dksJ6_successor_1 11 rfl rfl)
theorem dJ6_successor_34 : decode cJ6_successor 34 = .ok (.areturn, 1) := dk_176 (dk_at dksJ6_successor_1 12 rfl rfl)
theorem dJ6_successor_35 : decode cJ6_successor 35 = .ok (.aload_n 0, 1) := dk_42 (dk_at dksJ6_successor_1 13 rfl rfl)
theorem dJ6_successor_36 : decode cJ6_successor 36 = .ok (.getfield 124, 3) := dk_180 0 124 (dk_at dksJ6_successor_1 14 rfl rfl)
theorem dJ6_successor_39 : decode cJ6_successor 39 = .ok (.astore_n 1, 1) := dk_76 (dk_at dksJ6_successor_1 17 rfl rfl)
theorem dJ6_successor_40 : decode cJ6_successor 40 = .ok (.aload_n 0, 1) := dk_42 (dk_at dksJ6_successor_1 18 rfl rfl)
theorem dJ6_successor_41 : decode cJ6_successor 41 = .ok (.astore_n 2, 1) := dk_77 (dk_at dksJ6_successor_1 19 rfl rfl)
theorem dJ6_successor_42 : decode cJ6_successor 42 = .ok (.aload_n 1, 1) := dk_43 (dk_at dksJ6_successor_1 20 rfl rfl)
theorem dJ6_successor_43 : decode cJ6_successor 43 = .ok (.ifnull 21, 3) := dk_198 0 21 (dk_at dksJ6_successor_1 21 rfl rfl)
theorem dJ6_successor_46 : decode cJ6_successor 46 = .ok (.aload_n 2, 1) := dk_44 (dk_at dksJ6_successor_2 0 rfl rfl)
theorem dJ6_successor_47 : decode cJ6_successor 47 = .ok (.aload_n 1, 1) := dk_43 (dk_at dksJ6_successor_2 1 rfl rfl)
theorem dJ6_successor_48 : decode cJ6_successor 48 = .ok (.getfield 114, 3) := dk_180 0 114 (dk_at dksJ6_successor_2 2 rfl rfl)
theorem dJ6_successor_51 : decode cJ6_successor 51 = .ok (.if_acmp .ne 13, 3) := dk_166 0 13 (dk_at dksJ6_successor_2 5 rfl rfl)
theorem dJ6_successor_54 : decode cJ6_successor 54 = .ok (.aload_n 1, 1) := dk_43 (dk_at dksJ6_successor_2 8 rfl rfl)
theorem dJ6_successor_55 : decode cJ6_successor 55 = .ok (.astore_n 2, 1) := dk_77 (dk_at dksJ6_successor_2 9 rfl rfl)
theorem dJ6_successor_56 : decode cJ6_successor 56 = .ok (.aload_n 1, 1) := dk_43 (dk_at dksJ6_successor_2 10 rfl rfl)
theorem dJ6_successor_57 : decode cJ6_successor 57 = .ok (.getfield 124, 3) := dk_180 0 124 (dk_at dksJ6_successor_2 11 rfl rfl)
theorem dJ6_successor_60 : decode cJ6_successor 60 = .ok (.astore_n 1, 1) := dk_76 (dk_at dksJ6_successor_2 14 rfl rfl)
theorem dJ6_successor_61 : decode cJ6_successor 61 = .ok (.goto (-19), 3) := dk_167 255 237 (dk_at dksJ6_successor_2 15 rfl rfl)
theorem dJ6_successor_64 : decode cJ6_successor 64 = .ok (.aload_n 1, 1) := dk_43 (dk_at dksJ6_successor_2 18 rfl rfl)
theorem dJ6_successor_65 : decode cJ6_successor 65 = .ok (.areturn, 1) := dk_176 (dk_at dksJ6_successor_2 19 rfl rfl)
theorem yk_J6_successor : yk yJ6_successor 1 := by unfold yk; decide +kernel
abbrev KJ6_successor (G : Gx) (d mc ms : Nat) (av : List Sv) (M : Mem) (post : Option Sv → Mem → Prop) : Prop := Ct G yJ6_successor cJ6_successor 3 ((Option.some (Jvm.ClassFile.FieldType.object "java/util/TreeMap$Entry"))) d mc ms av M post
def yi_Comparable_compareTo_599 : MethodName := ⟨"java/lang/Comparable", "compareTo", "(Ljava/lang/Object;)I"⟩
theorem yk_i_Comparable_compareTo_599 : yk ⟨"java/lang/Comparable", "compareTo", "(Ljava/lang/Object;)I"⟩ 1 := by unfold yk; decide +kernel
theorem q59 : (Jvm.Cond.initialized "java/util/TreeMap") ∈ lw_all := lw_g (lw_at lw_m1 11 rfl) rfl
theorem q66 : (Jvm.Cond.initialized "java/util/Objects") ∈ lw_all := lw_g (lw_at lw_m1 18 rfl) rfl
theorem q272 : (Jvm.Cond.fieldLink "java/util/TreeMap" (16 : Nat) "java/util/TreeMap" "comparator" "Ljava/util/Comparator;") ∈ lw_all := lw_g (lw_at lw_m1 224 rfl) rfl
theorem q274 : (Jvm.Cond.fieldLink "java/util/TreeMap" (7 : Nat) "java/util/TreeMap" "size" "I") ∈ lw_all := lw_g (lw_at lw_m1 226 rfl) rfl
theorem q975 : (Jvm.Cond.fieldLink "java/util/TreeMap" (105 : Nat) "java/util/TreeMap$Entry" "key" "Ljava/lang/Object;") ∈ lw_all := lw_g (lw_at lw_m4 207 rfl) rfl
theorem q978 : (Jvm.Cond.fieldLink "java/util/TreeMap" (58 : Nat) "java/util/TreeMap$Entry" "value" "Ljava/lang/Object;") ∈ lw_all := lw_g (lw_at lw_m4 210 rfl) rfl
theorem q1508 : (Jvm.Cond.interfaceMethod "java/lang/Comparable" "java/lang/Comparable" "compareTo" "(Ljava/lang/Object;)I") ∈ lw_tbl := lw_at lw_m7 20 rfl
theorem q1509 : (Jvm.Cond.declares ({ cls := "java/lang/Comparable", name := "compareTo", desc := "(Ljava/lang/Object;)I" } : Jvm.MethodName)) ∈ lw_tbl := lw_at lw_m7 21 rfl
theorem q1536 : (Jvm.Cond.castable "java/lang/Integer" "java/lang/Comparable") ∈ lw_tbl := lw_at lw_m7 48 rfl
theorem q1537 : (Jvm.Cond.selects "java/lang/Integer" ({ cls := "java/lang/Comparable", name := "compareTo", desc := "(Ljava/lang/Object;)I" } : Jvm.MethodName) ({ cls := "java/lang/Integer", name := "compareTo", desc := "(Ljava/lang/Object;)I" } : Jvm.MethodName)) ∈ lw_all := lw_g (lw_at lw_m7 49 rfl) rfl
theorem q1538 : (Jvm.Cond.unhidden "java/lang/Integer" "compareTo" "(Ljava/lang/Object;)I") ∈ lw_tbl := lw_at lw_m7 50 rfl
theorem q1539 : (Jvm.Cond.instanceMethod ({ cls := "java/lang/Integer", name := "compareTo", desc := "(Ljava/lang/Object;)I" } : Jvm.MethodName)) ∈ lw_all := lw_g (lw_at lw_m7 51 rfl) rfl
theorem q1540 : (Jvm.Cond.publicMethod ({ cls := "java/lang/Integer", name := "compareTo", desc := "(Ljava/lang/Object;)I" } : Jvm.MethodName)) ∈ lw_tbl := lw_at lw_m7 52 rfl
theorem q1541 : (Jvm.Cond.code ({ cls := "java/lang/Integer", name := "compareTo", desc := "(Ljava/lang/Object;)I" } : Jvm.MethodName) prog_22_method_63_code (2 : Nat) (Option.some Jvm.ClassFile.FieldType.int)) ∈ lw_all := lw_g (lw_at lw_m7 53 rfl) rfl
theorem q1843 : (Jvm.Cond.classLink "java/util/TreeMap" (99 : Nat) "java/lang/Comparable") ∈ lw_all := lw_g (lw_at lw_m8 115 rfl) rfl
theorem q1845 : (Jvm.Cond.methodLink "java/util/TreeMap" (107 : Nat) ({ cls := "java/lang/Comparable", name := "compareTo", desc := "(Ljava/lang/Object;)I" } : Jvm.MethodName)) ∈ lw_all := lw_g (lw_at lw_m8 117 rfl) rfl
theorem q1850 : (Jvm.Cond.methodLink "java/util/TreeMap" (95 : Nat) ({ cls := "java/util/Objects", name := "requireNonNull", desc := "(Ljava/lang/Object;)Ljava/lang/Object;" } : Jvm.MethodName)) ∈ lw_all := lw_g (lw_at lw_m8 122 rfl) rfl
theorem q1851 : (Jvm.Cond.static ({ cls := "java/util/Objects", name := "requireNonNull", desc := "(Ljava/lang/Object;)Ljava/lang/Object;" } : Jvm.MethodName)) ∈ lw_all := lw_g (lw_at lw_m8 123 rfl) rfl
theorem q1852 : (Jvm.Cond.code ({ cls := "java/util/Objects", name := "requireNonNull", desc := "(Ljava/lang/Object;)Ljava/lang/Object;" } : Jvm.MethodName) prog_72_method_10_code (1 : Nat) (Option.some (Jvm.ClassFile.FieldType.object "java/lang/Object"))) ∈ lw_all := lw_g (lw_at lw_m8 124 rfl) rfl
theorem q2296 : (Jvm.Cond.methodLink "java/util/TreeMap" (50 : Nat) ({ cls := "java/util/TreeMap", name := "getEntry", desc := "(Ljava/lang/Object;)Ljava/util/TreeMap$Entry;" } : Jvm.MethodName)) ∈ lw_all := lw_g (lw_at lw_m10 88 rfl) rfl
theorem q2297 : (Jvm.Cond.instanceMethod ({ cls := "java/util/TreeMap", name := "getEntry", desc := "(Ljava/lang/Object;)Ljava/util/TreeMap$Entry;" } : Jvm.MethodName)) ∈ lw_all := lw_g (lw_at lw_m10 89 rfl) rfl
theorem q2298 : (Jvm.Cond.selects "java/util/TreeMap" ({ cls := "java/util/TreeMap", name := "getEntry", desc := "(Ljava/lang/Object;)Ljava/util/TreeMap$Entry;" } : Jvm.MethodName) ({ cls := "java/util/TreeMap", name := "getEntry", desc := "(Ljava/lang/Object;)Ljava/util/TreeMap$Entry;" } : Jvm.MethodName)) ∈ lw_all := lw_g (lw_at lw_m10 90 rfl) rfl
theorem q2299 : (Jvm.Cond.code ({ cls := "java/util/TreeMap", name := "getEntry", desc := "(Ljava/lang/Object;)Ljava/util/TreeMap$Entry;" } : Jvm.MethodName) prog_83_method_15_code (5 : Nat) (Option.some (Jvm.ClassFile.FieldType.object "java/util/TreeMap$Entry"))) ∈ lw_all := lw_g (lw_at lw_m10 91 rfl) rfl
/-! ===== TreeMap: looking: getEntry, get, containsKey, size, successor, getFirstEntry; init, clear ===== -/
theorem go_fgt {C : Cx} {pc : Nat} {lv : Lv} {st : List Sv} {M : Mem} {k n : Nat} (i : Nat) (kk : Go C pc (lv.set i none) st M k n) : Go C pc lv st M k n := by
  refine go_lv (by simp) (fun j v h => ?_) kk
  rw [List.getElem?_set] at h
  by_cases e : i = j
  · rw [if_pos e] at h
    split at h <;> cases h
  · rw [if_neg e] at h; exact h
/-- keys (Integers that nobody writes) and values of the nodes, by places; the keys go up -/
def TMk (M : Mem) (n : Nat) (ad : Nat → Nat) (ky : Nat → Int32) (vl : Nat → Nat) : Prop := (∀ i, i < n → ∃ b, mR M (ad i) 0 = some b ∧ Bx M b (ky i)) ∧ (∀ i, i < n → mR M (ad i) 1 = some (vl i)) ∧ (∀ i j, i < j → j < n → ky i < ky j)
/-- the TreeMap t of n entries, in the region ρ -/
def TMap (M : Mem) (ρ t n : Nat) (ad ps lo hi : Nat → Nat) (ky : Nat → Int32) (vl : Nat → Nat) : Prop := mK M t = kTM ∧ mO M t = ρ ∧ mR M t 2 = none ∧ mI M t 4 = nI n ∧ n ≤ 1000 ∧ ρ ≠ 0 ∧ TMt M ρ t n ad ps lo hi ∧ TMk M n ad ky vl
theorem i32_lt {x y : Int32} : x < y ↔ x.toInt < y.toInt := Int32.lt_iff_toInt_lt
theorem i32_le {x y : Int32} : x ≤ y ↔ x.toInt ≤ y.toInt := Int32.le_iff_toInt_le
theorem i32_eq {x y : Int32} : x = y ↔ x.toInt = y.toInt := ⟨fun h => by rw [h], fun h => Int32.toInt_inj.mp h⟩
theorem cmpI_lt {x y : Int32} : cmpI x y < 0 ↔ x < y := by
  unfold cmpI
  by_cases h : x < y
  · simp [h]
  · by_cases h2 : x = y
    · simp [h, h2]
    · simp only [h, h2, if_false, iff_false]; decide
theorem cmpI_le {x y : Int32} : cmpI x y ≤ 0 ↔ x ≤ y := by
  unfold cmpI
  by_cases h : x < y
  · have : x ≤ y := by rw [i32_le]; rw [i32_lt] at h; omega
    simp only [h, if_true, this, iff_true]; decide
  · by_cases h2 : x = y
    · subst h2; simp
    · have : ¬ x ≤ y := by
        intro q; apply h2; rw [i32_eq]; rw [i32_le] at q; rw [i32_lt] at h; omega
      simp only [h, h2, if_false, this, iff_false]; decide
section Look
variable {G : Gx} {M : Mem} {ρ t n : Nat} {ad ps lo hi : Nat → Nat} {ky : Nat → Int32} {vl : Nat → Nat}
theorem ct_requireNonNull (hB : Base G) (a : Nat) (M : Mem) : KJ11_requireNonNull G 1 0 0 [vr (some a)] M (fun v M' => v = some (vr (some a)) ∧ M' = M) := by
  refine Ct.of (own := RJ11) (nm := "requireNonNull") hB (by decide) rfl rfl rfl rfl (fun C hC hQ => ?_)
  refine g_aload_n hC dJ11_requireNonNull_0 rfl ?_
  refine g_ifnonnull hC 12 dJ11_requireNonNull_1 (by decide) (fun y1 h => ?_) (fun h => ?_)
  · refine g_aload_n hC dJ11_requireNonNull_12 rfl ?_
    refine g_aret hC hQ (by omega) (by omega) rfl dJ11_requireNonNull_13 ?_
    exact ⟨rfl, rfl⟩
  · cases h
/-- what a look for the key k finds -/
def Fnd (n : Nat) (ad : Nat → Nat) (ky : Nat → Int32) (k : Int32) (r : Option Nat) : Prop := (∃ i, i < n ∧ ky i = k ∧ r = some (ad i)) ∨ (r = none ∧ ∀ i, i < n → ky i ≠ k)
theorem ct_getEntry (hB : Base G) (hT : TMap M ρ t n ad ps lo hi ky vl) {b : Nat} {k : Int32} (hb : Bx M b k) : KJ6_getEntry G 4 0 0 [vr (some t), vr (some b)] M (fun v M' => M' = M ∧ ∃ r, v = some (vr r) ∧ Fnd n ad ky k r) := by
  obtain ⟨hkt, hot, hcmp, hsz, hn, hρ, ⟨⟨h1, h2, h3, h4, h5, h6, h7, h8, h9, h10⟩, hk⟩, hky, hvl, hord⟩ := hT
  have hkb := hb.1
  have loop : ∀ C, Ok C G cJ6_getEntry RJ6 "getEntry" 4 0 0 → Rt C G (some (.object "java/util/TreeMap$Entry")) 0 0 (fun v M' => M' = M ∧ ∃ r, v = some (vr r) ∧ Fnd n ad ky k r) → ∀ (m : Nat) (p : Option Nat) (a z : Nat), z ≤ a + m → a ≤ z → z ≤ n → (∀ x, p = some x → Nd n ad ps x ∧ lo x = a ∧ hi x = z) → (p = none → a = z) → (∀ i, i < a → ky i < k) → (∀ i, z ≤ i → i < n → k < ky i) → Go C 28 [some (vr (some t)), some (vr (some b)), some (vr (some b)), some (vr p), none] [] M 0 0 := by
    intro C hC hQ m
    induction m with
    | zero =>
      intro p a z hm haz hzn hp hp0 hlo hhi
      refine g_aload_n hC dJ6_getEntry_28 rfl ?_
      refine g_ifnull hC 75 dJ6_getEntry_29 (by decide) (fun hc => ?_) (fun x hc => ?_)
      · refine g_null hC dJ6_getEntry_75 ?_
        refine g_aret hC hQ (by omega) (by omega) rfl dJ6_getEntry_76 ?_
        refine ⟨rfl, none, rfl, Or.inr ⟨rfl, fun i hi e => ?_⟩⟩
        rcases Nat.lt_or_ge i a with q | q
        · have := hlo i q; rw [e] at this; exact Int32.lt_irrefl this
        · have := hhi i (by omega) hi; rw [e] at this; exact Int32.lt_irrefl this
      · obtain ⟨c1, c2, c3⟩ := hp x hc
        have := h2 x c1
        omega
    | succ m ih =>
      intro p a z hm haz hzn hp hp0 hlo hhi
      refine g_aload_n hC dJ6_getEntry_28 rfl ?_
      refine g_ifnull hC 75 dJ6_getEntry_29 (by decide) (fun hc => ?_) (fun x hc => ?_)
      · have := hp0 hc
        refine g_null hC dJ6_getEntry_75 ?_
        refine g_aret hC hQ (by omega) (by omega) rfl dJ6_getEntry_76 ?_
        refine ⟨rfl, none, rfl, Or.inr ⟨rfl, fun i hi e => ?_⟩⟩
        rcases Nat.lt_or_ge i a with q | q
        · have := hlo i q; rw [e] at this; exact Int32.lt_irrefl this
        · have := hhi i (by omega) hi; rw [e] at this; exact Int32.lt_irrefl this
      · obtain ⟨c1, c2, c3⟩ := hp x hc
        have hx2 := h2 x c1
        have hkx := (hk x c1).1
        obtain ⟨bx, hbx1, hbx2⟩ := hky (ps x) c1.1
        rw [c1.2] at hbx1
        refine g_aload_n hC dJ6_getEntry_32 rfl ?_
        refine g_aload_n hC dJ6_getEntry_33 rfl ?_
        refine g_getR hC (ci := 9) (by first | with_reducible rfl | with_reducible assumption | (simp only [mR_sI, mR_sL]; with_reducible assumption) | exact rfl | assumption) (by first | with_reducible assumption | (simp only [mK_sI, mK_sR, mK_sL, mK_sO]; with_reducible assumption) | assumption | (simp only [mK_sI, mK_sR, mK_sL, mK_sO, mK_nw, mK_sK]; first | assumption | (simp only [*]; done))) rfl 0 (by decide) q975 (Or.inl rfl) rfl dJ6_getEntry_34 ?_
        rw [hbx1]
        refine g_callF hC (by first | with_reducible rfl | with_reducible assumption | (simp only [mR_sI, mR_sL]; with_reducible assumption) | exact rfl | assumption) (Rk.b (by first | with_reducible assumption | (simp only [mK_sI, mK_sR, mK_sL, mK_sO]; with_reducible assumption) | assumption | (simp only [mK_sI, mK_sR, mK_sL, mK_sO, mK_nw, mK_sK]; first | assumption | (simp only [*]; done)))) (ct_compareTo hB hb hbx2) rfl (by decide) rfl yk_i_Comparable_compareTo_599 q1845 q1537 q1539 q79 q1541 q1509 q1508 q1540 q1538 q1536 rfl dJ6_getEntry_37 (by omega) (by omega) (fun v M1 hp => ?_)
        obtain ⟨rfl, hM⟩ := hp
        cases hM.symm
        simp only [Option.toList_some, Option.toList_none, List.cons_append, List.nil_append, Nat.add_zero, Nat.zero_add]
        refine g_istore hC dJ6_getEntry_42 rfl rfl ?_
        try simp only [stL, clr]
        refine g_iload hC dJ6_getEntry_44 rfl ?_
        refine g_if_ge hC 57 dJ6_getEntry_46 (by decide) (fun hg => ?_) (fun hg => ?_)
        · refine g_iload hC dJ6_getEntry_57 rfl ?_
          refine g_if_le hC 70 dJ6_getEntry_59 (by decide) (fun hg2 => ?_) (fun hg2 => ?_)
          · refine g_aload_n hC dJ6_getEntry_70 rfl ?_
            refine g_aret hC hQ (by omega) (by omega) rfl dJ6_getEntry_71 ?_
            refine ⟨rfl, some x, by rw [hc], Or.inl ⟨ps x, c1.1, ?_, by rw [c1.2]⟩⟩
            rw [cmpI_lt] at hg
            rw [cmpI_le] at hg2
            rw [i32_eq]; rw [i32_lt] at hg; rw [i32_le] at hg2; omega
          · refine g_aload_n hC dJ6_getEntry_62 rfl ?_
            refine g_getR hC (ci := 9) (by first | with_reducible rfl | with_reducible assumption | (simp only [mR_sI, mR_sL]; with_reducible assumption) | exact rfl | assumption) (by first | with_reducible assumption | (simp only [mK_sI, mK_sR, mK_sL, mK_sO]; with_reducible assumption) | assumption | (simp only [mK_sI, mK_sR, mK_sL, mK_sO, mK_nw, mK_sK]; first | assumption | (simp only [*]; done))) rfl 3 (by decide) q982 (Or.inl rfl) rfl dJ6_getEntry_63 ?_
            refine g_astore_n hC dJ6_getEntry_66 rfl rfl ?_
            try simp only [stL, clr]
            refine g_goto hC 72 dJ6_getEntry_67 (by decide) ?_
            refine g_goto hC 28 dJ6_getEntry_72 (by decide) ?_
            refine go_fgt 4 ?_
            simp only [List.set]
            rw [cmpI_le] at hg2
            have hgt : ky (ps x) < k := by rw [i32_lt]; rw [i32_le] at hg2; omega
            refine ih (mR M x 3) (ps x + 1) z (by omega) (by omega) hzn ?_ ?_ ?_ hhi
            · intro y hy
              obtain ⟨e1, e2, e3, e4⟩ := h6 x y c1 hy
              exact ⟨e1, e3, by omega⟩
            · intro hy
              have := h5 x c1 hy
              omega
            · intro i hi
              rcases Nat.lt_or_ge i (ps x) with q | q
              · have := hord i (ps x) q c1.1
                rw [i32_lt] at *; omega
              · have : i = ps x := by omega
                rw [this]; exact hgt
        · refine g_aload_n hC dJ6_getEntry_49 rfl ?_
          refine g_getR hC (ci := 9) (by first | with_reducible rfl | with_reducible assumption | (simp only [mR_sI, mR_sL]; with_reducible assumption) | exact rfl | assumption) (by first | with_reducible assumption | (simp only [mK_sI, mK_sR, mK_sL, mK_sO]; with_reducible assumption) | assumption | (simp only [mK_sI, mK_sR, mK_sL, mK_sO, mK_nw, mK_sK]; first | assumption | (simp only [*]; done))) rfl 2 (by decide) q980 (Or.inl rfl) rfl dJ6_getEntry_50 ?_
          refine g_astore_n hC dJ6_getEntry_53 rfl rfl ?_
          try simp only [stL, clr]
          refine g_goto hC 72 dJ6_getEntry_54 (by decide) ?_
          refine g_goto hC 28 dJ6_getEntry_72 (by decide) ?_
          refine go_fgt 4 ?_
          simp only [List.set]
          rw [cmpI_lt] at hg
          refine ih (mR M x 2) a (ps x) (by omega) (by omega) (by omega) ?_ ?_ hlo ?_
          · intro y hy
            obtain ⟨e1, e2, e3, e4⟩ := h4 x y c1 hy
            exact ⟨e1, by omega, e4⟩
          · intro hy
            have := h3 x c1 hy
            omega
          · intro i hi hin
            rcases Nat.lt_or_ge (ps x) i with q | q
            · have := hord (ps x) i q hin
              rw [i32_lt] at *; omega
            · have : i = ps x := by omega
              rw [this]; exact hg
  refine Ct.of (own := RJ6) (nm := "getEntry") hB (by decide) rfl rfl rfl rfl (fun C hC hQ => ?_)
  refine g_aload_n hC dJ6_getEntry_0 rfl ?_
  refine g_getR hC (ci := 8) (by first | with_reducible rfl | with_reducible assumption | (simp only [mR_sI, mR_sL]; with_reducible assumption) | exact rfl | assumption) (by first | with_reducible assumption | (simp only [mK_sI, mK_sR, mK_sL, mK_sO]; with_reducible assumption) | assumption | (simp only [mK_sI, mK_sR, mK_sL, mK_sO, mK_nw, mK_sK]; first | assumption | (simp only [*]; done))) rfl 2 (by decide) q272 (Or.inl rfl) rfl dJ6_getEntry_1 ?_
  refine g_ifnull hC 13 dJ6_getEntry_4 (by decide) (fun hc => ?_) (fun y4 hc => ?_)
  · refine g_aload_n hC dJ6_getEntry_13 rfl ?_
    refine g_callS hC (ct_requireNonNull hB b M) rfl (by decide) rfl yk_J11_requireNonNull q1850 q1851 q66 q1852 rfl dJ6_getEntry_14 (by omega) (by omega) (fun v M1 hp => ?_)
    obtain ⟨rfl, hM⟩ := hp
    cases hM.symm
    simp only [Option.toList_some, Option.toList_none, List.cons_append, List.nil_append, Nat.add_zero, Nat.zero_add]
    refine g_pop hC dJ6_getEntry_17 rfl ?_
    refine g_aload_n hC dJ6_getEntry_18 rfl ?_
    refine g_castBxY hC (by first | with_reducible rfl | with_reducible assumption | (simp only [mR_sI, mR_sL]; with_reducible assumption) | exact rfl | assumption) (by first | with_reducible assumption | (simp only [mK_sI, mK_sR, mK_sL, mK_sO]; with_reducible assumption) | assumption | (simp only [mK_sI, mK_sR, mK_sL, mK_sO, mK_nw, mK_sK]; first | assumption | (simp only [*]; done))) q1843 q1536 dJ6_getEntry_19 ?_
    refine g_astore_n hC dJ6_getEntry_22 rfl rfl ?_
    try simp only [stL, clr]
    refine g_aload_n hC dJ6_getEntry_23 rfl ?_
    refine g_getR hC (ci := 8) (by first | with_reducible rfl | with_reducible assumption | (simp only [mR_sI, mR_sL]; with_reducible assumption) | exact rfl | assumption) (by first | with_reducible assumption | (simp only [mK_sI, mK_sR, mK_sL, mK_sO]; with_reducible assumption) | assumption | (simp only [mK_sI, mK_sR, mK_sL, mK_sO, mK_nw, mK_sK]; first | assumption | (simp only [*]; done))) rfl 3 (by decide) q273 (Or.inl rfl) rfl dJ6_getEntry_24 ?_
    refine g_astore_n hC dJ6_getEntry_27 rfl rfl ?_
    try simp only [stL, clr]
    refine loop C hC hQ n (mR M t 3) 0 n (by omega) (by omega) (Nat.le_refl n) (fun x hx => ?_) (fun hx => ?_) (fun i hi => by omega) (fun i hi hi2 => by omega)
    · obtain ⟨e1, e2, e3, e4⟩ := h10 x hx
      exact ⟨e1, e3, e4⟩
    · exact (h9 hx).symm
  · rw [hcmp] at hc; cases hc
theorem ct_get (hB : Base G) (hT : TMap M ρ t n ad ps lo hi ky vl) {b : Nat} {k : Int32} (hb : Bx M b k) : KJ6_get G 5 0 0 [vr (some t), vr (some b)] M (fun v M' => M' = M ∧ ∃ r, v = some (vr r) ∧ Fnd n vl ky k r) := by
  have hkt := hT.1
  refine Ct.of (own := RJ6) (nm := "get") hB (by decide) rfl rfl rfl rfl (fun C hC hQ => ?_)
  refine g_aload_n hC dJ6_get_0 rfl ?_
  refine g_aload_n hC dJ6_get_1 rfl ?_
  refine g_callV hC (by first | with_reducible rfl | with_reducible assumption | (simp only [mR_sI, mR_sL]; with_reducible assumption) | exact rfl | assumption) (Rk.o (ci := 8) (by first | with_reducible assumption | (simp only [mK_sI, mK_sR, mK_sL, mK_sO]; with_reducible assumption) | assumption | (simp only [mK_sI, mK_sR, mK_sL, mK_sO, mK_nw, mK_sK]; first | assumption | (simp only [*]; done))) rfl) (ct_getEntry hB hT hb) rfl (by decide) rfl rfl yk_J6_getEntry q2296 q2297 q2298 q59 q2299 rfl dJ6_get_2 (by omega) (by omega) (fun v M1 hp => ?_)
  obtain ⟨hM, r, rfl, hF⟩ := hp
  cases hM.symm
  simp only [Option.toList_some, Option.toList_none, List.cons_append, List.nil_append, Nat.add_zero, Nat.zero_add]
  refine g_astore_n hC dJ6_get_5 rfl rfl ?_
  try simp only [stL, clr]
  refine g_aload_n hC dJ6_get_6 rfl ?_
  refine g_ifnonnull hC 14 dJ6_get_7 (by decide) (fun x hc => ?_) (fun hc => ?_)
  · rcases hF with ⟨i, hi, e1, e2⟩ | ⟨e1, e2⟩
    · have hx : x = ad i := by rw [hc] at e2; cases e2; rfl
      subst hx
      have hkx := (hT.2.2.2.2.2.2.1.2 (ad i) ⟨by rw [hT.2.2.2.2.2.2.1.1.1 i hi]; exact hi, by rw [hT.2.2.2.2.2.2.1.1.1 i hi]⟩).1
      refine g_aload_n hC dJ6_get_14 rfl ?_
      refine g_getR hC (ci := 9) (by first | with_reducible rfl | with_reducible assumption | (simp only [mR_sI, mR_sL]; with_reducible assumption) | exact rfl | assumption) (by first | with_reducible assumption | (simp only [mK_sI, mK_sR, mK_sL, mK_sO]; with_reducible assumption) | assumption | (simp only [mK_sI, mK_sR, mK_sL, mK_sO, mK_nw, mK_sK]; first | assumption | (simp only [*]; done))) rfl 1 (by decide) q978 (Or.inl rfl) rfl dJ6_get_15 ?_
      refine g_aret hC hQ (by omega) (by omega) rfl dJ6_get_18 ?_
      exact ⟨rfl, _, rfl, Or.inl ⟨i, hi, e1, hT.2.2.2.2.2.2.2.2.1 i hi⟩⟩
    · rw [e1] at hc; cases hc
  · refine g_null hC dJ6_get_10 ?_
    refine g_goto hC 18 dJ6_get_11 (by decide) ?_
    refine g_aret hC hQ (by omega) (by omega) rfl dJ6_get_18 ?_
    rcases hF with ⟨i, hi, e1, e2⟩ | ⟨e1, e2⟩
    · rw [e2] at hc; cases hc
    · exact ⟨rfl, none, rfl, Or.inr ⟨rfl, e2⟩⟩
theorem ct_containsKey (hB : Base G) (hT : TMap M ρ t n ad ps lo hi ky vl) {b : Nat} {k : Int32} (hb : Bx M b k) : KJ6_containsKey G 5 0 0 [vr (some t), vr (some b)] M (fun v M' => M' = M ∧ ∃ x : Int32, v = some (vi x) ∧ ((x = 1 ∧ ∃ i, i < n ∧ ky i = k) ∨ (x = 0 ∧ ∀ i, i < n → ky i ≠ k))) := by
  have hkt := hT.1
  refine Ct.of (own := RJ6) (nm := "containsKey") hB (by decide) rfl rfl rfl rfl (fun C hC hQ => ?_)
  refine g_aload_n hC dJ6_containsKey_0 rfl ?_
  refine g_aload_n hC dJ6_containsKey_1 rfl ?_
  refine g_callV hC (by first | with_reducible rfl | with_reducible assumption | (simp only [mR_sI, mR_sL]; with_reducible assumption) | exact rfl | assumption) (Rk.o (ci := 8) (by first | with_reducible assumption | (simp only [mK_sI, mK_sR, mK_sL, mK_sO]; with_reducible assumption) | assumption | (simp only [mK_sI, mK_sR, mK_sL, mK_sO, mK_nw, mK_sK]; first | assumption | (simp only [*]; done))) rfl) (ct_getEntry hB hT hb) rfl (by decide) rfl rfl yk_J6_getEntry q2296 q2297 q2298 q59 q2299 rfl dJ6_containsKey_2 (by omega) (by omega) (fun v M1 hp => ?_)
  obtain ⟨hM, r, rfl, hF⟩ := hp
  cases hM.symm
  simp only [Option.toList_some, Option.toList_none, List.cons_append, List.nil_append, Nat.add_zero, Nat.zero_add]
  refine g_ifnull hC 12 dJ6_containsKey_5 (by decide) (fun hc => ?_) (fun x hc => ?_)
  · refine g_iconst (v := 0) hC dJ6_containsKey_12 (by decide) ?_
    refine g_zret hC hQ (by omega) (by omega) dJ6_containsKey_13 (by first | rfl | assumption) ?_
    rcases hF with ⟨i, hi, e1, e2⟩ | ⟨e1, e2⟩
    · rw [e2] at hc; cases hc
    · exact ⟨rfl, 0, rfl, Or.inr ⟨rfl, e2⟩⟩
  · refine g_iconst (v := 1) hC dJ6_containsKey_8 (by decide) ?_
    refine g_goto hC 13 dJ6_containsKey_9 (by decide) ?_
    refine g_zret hC hQ (by omega) (by omega) dJ6_containsKey_13 (by first | rfl | assumption) ?_
    rcases hF with ⟨i, hi, e1, e2⟩ | ⟨e1, e2⟩
    · exact ⟨rfl, 1, rfl, Or.inl ⟨rfl, i, hi, e1⟩⟩
    · rw [e1] at hc; cases hc
theorem ct_size (hB : Base G) (hT : TMap M ρ t n ad ps lo hi ky vl) : KJ6_size G 1 0 0 [vr (some t)] M (fun v M' => v = some (vi (nI n)) ∧ M' = M) := by
  have hkt := hT.1
  refine Ct.of (own := RJ6) (nm := "size") hB (by decide) rfl rfl rfl rfl (fun C hC hQ => ?_)
  refine g_aload_n hC dJ6_size_0 rfl ?_
  refine g_getI hC (ci := 8) (by first | with_reducible rfl | with_reducible assumption | (simp only [mR_sI, mR_sL]; with_reducible assumption) | exact rfl | assumption) (by first | with_reducible assumption | (simp only [mK_sI, mK_sR, mK_sL, mK_sO]; with_reducible assumption) | assumption | (simp only [mK_sI, mK_sR, mK_sL, mK_sO, mK_nw, mK_sK]; first | assumption | (simp only [*]; done))) rfl 4 (by decide) q274 (Or.inl rfl) rfl dJ6_size_1 ?_
  refine g_iret hC hQ (by omega) (by omega) dJ6_size_4 ?_
  exact ⟨by rw [hT.2.2.2.1], rfl⟩
/-- the next node -/
theorem ct_successorT (hB : Base G) (hT : TMt M ρ t n ad ps lo hi) {i : Nat} (hin : i < n) : KJ6_successor G 1 0 0 [vr (some (ad i))] M (fun v M' => (v = some (vr (if i + 1 < n then some (ad (i + 1)) else none)) ∧ M' = M) ∧ (mR M (ad i) 3 ≠ none → i + 1 < n ∧ mR M (ad (i + 1)) 2 = none)) := by
  obtain ⟨⟨h1, h2, h3, h4, h5, h6, h7, h8, h9, h10⟩, hk⟩ := hT
  have hN : Nd n ad ps (ad i) := ⟨by rw [h1 i hin]; exact hin, by rw [h1 i hin]⟩
  have hpsi : ps (ad i) = i := h1 i hin
  have hki := (hk _ hN).1
  have hi2 := h2 _ hN
  have dn : ∀ C, Ok C G cJ6_successor RJ6 "successor" 1 0 0 → Rt C G (some (.object "java/util/TreeMap$Entry")) 0 0 (fun v M' => (v = some (vr (if i + 1 < n then some (ad (i + 1)) else none)) ∧ M' = M) ∧ (mR M (ad i) 3 ≠ none → i + 1 < n ∧ mR M (ad (i + 1)) 2 = none)) → ∀ (m : Nat) (x : Nat), Nd n ad ps x → lo x = i + 1 → hi x ≤ lo x + m → Go C 18 [some (vr (some (ad i))), some (vr (some x)), none] [] M 0 0 := by
    intro C hC hQ m
    induction m with
    | zero =>
      intro x hx h11 h12
      have := h2 x hx
      omega
    | succ m ih =>
      intro x hx h11 h12
      have hx2 := h2 x hx
      have hkx := (hk x hx).1
      refine g_aload_n hC dJ6_successor_18 rfl ?_
      refine g_getR hC (ci := 9) (by first | with_reducible rfl | with_reducible assumption | (simp only [mR_sI, mR_sL]; with_reducible assumption) | exact rfl | assumption) (by first | with_reducible assumption | (simp only [mK_sI, mK_sR, mK_sL, mK_sO]; with_reducible assumption) | assumption | (simp only [mK_sI, mK_sR, mK_sL, mK_sO, mK_nw, mK_sK]; first | assumption | (simp only [*]; done))) rfl 2 (by decide) q980 (Or.inl rfl) rfl dJ6_successor_19 ?_
      refine g_ifnull hC 33 dJ6_successor_22 (by decide) (fun hc => ?_) (fun y hc => ?_)
      · refine g_aload_n hC dJ6_successor_33 rfl ?_
        refine g_aret hC hQ (by omega) (by omega) rfl dJ6_successor_34 ?_
        have := h3 x hx hc
        have e9 : i + 1 = ps x := by omega
        refine ⟨⟨?_, rfl⟩, fun _ => ⟨by omega, by rw [e9, hx.2]; exact hc⟩⟩
        rw [if_pos (by omega)]
        rw [e9, hx.2]
      · obtain ⟨e1, e2, e3, e4⟩ := h4 x y hx hc
        refine g_aload_n hC dJ6_successor_25 rfl ?_
        refine g_getR hC (ci := 9) (by first | with_reducible rfl | with_reducible assumption | (simp only [mR_sI, mR_sL]; with_reducible assumption) | exact rfl | assumption) (by first | with_reducible assumption | (simp only [mK_sI, mK_sR, mK_sL, mK_sO]; with_reducible assumption) | assumption | (simp only [mK_sI, mK_sR, mK_sL, mK_sO, mK_nw, mK_sK]; first | assumption | (simp only [*]; done))) rfl 2 (by decide) q980 (Or.inl rfl) rfl dJ6_successor_26 ?_
        rw [hc]
        refine g_astore_n hC dJ6_successor_29 rfl rfl ?_
        try simp only [stL, clr]
        refine g_goto hC 18 dJ6_successor_30 (by decide) ?_
        exact ih y e1 (by omega) (by omega)
  have up : ∀ C, Ok C G cJ6_successor RJ6 "successor" 1 0 0 → Rt C G (some (.object "java/util/TreeMap$Entry")) 0 0 (fun v M' => (v = some (vr (if i + 1 < n then some (ad (i + 1)) else none)) ∧ M' = M) ∧ (mR M (ad i) 3 ≠ none → i + 1 < n ∧ mR M (ad (i + 1)) 2 = none)) → mR M (ad i) 3 = none → ∀ (m : Nat) (c : Nat), Nd n ad ps c → hi c = i + 1 → n ≤ hi c - lo c + m → Go C 42 [some (vr (some (ad i))), some (vr (mR M c 4)), some (vr (some c))] [] M 0 0 := by
    intro C hC hQ hnr m
    induction m with
    | zero =>
      intro c hc h11 h12
      have hc2 := h2 c hc
      refine g_aload_n hC dJ6_successor_42 rfl ?_
      refine g_ifnull hC 64 dJ6_successor_43 (by decide) (fun hq => ?_) (fun q hq => ?_)
      · refine g_aload_n hC dJ6_successor_64 rfl ?_
        refine g_aret hC hQ (by omega) (by omega) rfl dJ6_successor_65 ?_
        rw [if_neg (by omega)]
        exact ⟨⟨by rw [hq], rfl⟩, fun z => absurd hnr z⟩
      · obtain ⟨e1, e2⟩ := h8 c q hc hq
        have := h2 q e1
        rcases e2 with e2 | e2
        · have := h4 q c e1 e2; omega
        · have := h6 q c e1 e2; omega
    | succ m ih =>
      intro c hc h11 h12
      have hc2 := h2 c hc
      refine g_aload_n hC dJ6_successor_42 rfl ?_
      refine g_ifnull hC 64 dJ6_successor_43 (by decide) (fun hq => ?_) (fun q hq => ?_)
      · refine g_aload_n hC dJ6_successor_64 rfl ?_
        refine g_aret hC hQ (by omega) (by omega) rfl dJ6_successor_65 ?_
        have := h7 c hc hq
        have := h10 c this
        rw [if_neg (by omega)]
        exact ⟨⟨by rw [hq], rfl⟩, fun z => absurd hnr z⟩
      · obtain ⟨e1, e2⟩ := h8 c q hc hq
        have hq2 := h2 q e1
        have hkq := (hk q e1).1
        rw [hq]
        refine g_aload_n hC dJ6_successor_46 rfl ?_
        refine g_aload_n hC dJ6_successor_47 rfl ?_
        refine g_getR hC (ci := 9) (by first | with_reducible rfl | with_reducible assumption | (simp only [mR_sI, mR_sL]; with_reducible assumption) | exact rfl | assumption) (by first | with_reducible assumption | (simp only [mK_sI, mK_sR, mK_sL, mK_sO]; with_reducible assumption) | assumption | (simp only [mK_sI, mK_sR, mK_sL, mK_sO, mK_nw, mK_sK]; first | assumption | (simp only [*]; done))) rfl 3 (by decide) q982 (Or.inl rfl) rfl dJ6_successor_48 ?_
        refine g_acmp_ne hC 64 dJ6_successor_51 (by decide) (fun hne => ?_) (fun hne => ?_)
        · refine g_aload_n hC dJ6_successor_64 rfl ?_
          refine g_aret hC hQ (by omega) (by omega) rfl dJ6_successor_65 ?_
          have e3 : mR M q 2 = some c := by
            rcases e2 with e2 | e2
            · exact e2
            · exact absurd e2.symm hne
          have := h4 q c e1 e3
          rw [if_pos (by omega)]
          have : i + 1 = ps q := by omega
          exact ⟨⟨by rw [this, e1.2], rfl⟩, fun z => absurd hnr z⟩
        · have := h6 q c e1 hne.symm
          refine g_aload_n hC dJ6_successor_54 rfl ?_
          refine g_astore_n hC dJ6_successor_55 rfl rfl ?_
          try simp only [stL, clr]
          refine g_aload_n hC dJ6_successor_56 rfl ?_
          refine g_getR hC (ci := 9) (by first | with_reducible rfl | with_reducible assumption | (simp only [mR_sI, mR_sL]; with_reducible assumption) | exact rfl | assumption) (by first | with_reducible assumption | (simp only [mK_sI, mK_sR, mK_sL, mK_sO]; with_reducible assumption) | assumption | (simp only [mK_sI, mK_sR, mK_sL, mK_sO, mK_nw, mK_sK]; first | assumption | (simp only [*]; done))) rfl 4 (by decide) q984 (Or.inl rfl) rfl dJ6_successor_57 ?_
          refine g_astore_n hC dJ6_successor_60 rfl rfl ?_
          try simp only [stL, clr]
          refine g_goto hC 42 dJ6_successor_61 (by decide) ?_
          exact ih q e1 (by omega) (by omega)
  refine Ct.of (own := RJ6) (nm := "successor") hB (by decide) rfl rfl rfl rfl (fun C hC hQ => ?_)
  refine g_aload_n hC dJ6_successor_0 rfl ?_
  refine g_ifnonnull hC 6 dJ6_successor_1 (by decide) (fun x hc => ?_) (fun hc => ?_)
  · refine g_aload_n hC dJ6_successor_6 rfl ?_
    refine g_getR hC (ci := 9) (by first | with_reducible rfl | with_reducible assumption | (simp only [mR_sI, mR_sL]; with_reducible assumption) | exact rfl | assumption) (by first | with_reducible assumption | (simp only [mK_sI, mK_sR, mK_sL, mK_sO]; with_reducible assumption) | assumption | (simp only [mK_sI, mK_sR, mK_sL, mK_sO, mK_nw, mK_sK]; first | assumption | (simp only [*]; done))) rfl 3 (by decide) q982 (Or.inl rfl) rfl dJ6_successor_7 ?_
    refine g_ifnull hC 35 dJ6_successor_10 (by decide) (fun hc2 => ?_) (fun y hc2 => ?_)
    · refine g_aload_n hC dJ6_successor_35 rfl ?_
      refine g_getR hC (ci := 9) (by first | with_reducible rfl | with_reducible assumption | (simp only [mR_sI, mR_sL]; with_reducible assumption) | exact rfl | assumption) (by first | with_reducible assumption | (simp only [mK_sI, mK_sR, mK_sL, mK_sO]; with_reducible assumption) | assumption | (simp only [mK_sI, mK_sR, mK_sL, mK_sO, mK_nw, mK_sK]; first | assumption | (simp only [*]; done))) rfl 4 (by decide) q984 (Or.inl rfl) rfl dJ6_successor_36 ?_
      refine g_astore_n hC dJ6_successor_39 rfl rfl ?_
      try simp only [stL, clr]
      refine g_aload_n hC dJ6_successor_40 rfl ?_
      refine g_astore_n hC dJ6_successor_41 rfl rfl ?_
      try simp only [stL, clr]
      have := h5 _ hN hc2
      exact up C hC hQ hc2 n (ad i) hN (by omega) (by omega)
    · refine g_aload_n hC dJ6_successor_13 rfl ?_
      refine g_getR hC (ci := 9) (by first | with_reducible rfl | with_reducible assumption | (simp only [mR_sI, mR_sL]; with_reducible assumption) | exact rfl | assumption) (by first | with_reducible assumption | (simp only [mK_sI, mK_sR, mK_sL, mK_sO]; with_reducible assumption) | assumption | (simp only [mK_sI, mK_sR, mK_sL, mK_sO, mK_nw, mK_sK]; first | assumption | (simp only [*]; done))) rfl 3 (by decide) q982 (Or.inl rfl) rfl dJ6_successor_14 ?_
      rw [hc2]
      refine g_astore_n hC dJ6_successor_17 rfl rfl ?_
      try simp only [stL, clr]
      obtain ⟨e1, e2, e3, e4⟩ := h6 _ y hN hc2
      exact dn C hC hQ n y e1 (by omega) (by have := h2 y e1; omega)
  · cases hc
theorem Ct.weak {y : MethodName} {cc : ByteArray} {nL : Nat} {ret : Option FieldType} {d mc ms : Nat} {av : List Sv} {post post' : Option Sv → Mem → Prop} (h : Ct G y cc nL ret d mc ms av M post) (hp : ∀ v M', post v M' → post' v M') : Ct G y cc nL ret d mc ms av M post' := by
  intro p e ha hc hk s m args below hf happ hP hK
  obtain ⟨k, o, h1, h2, h3, h4, h5⟩ := h p e ha hc hk s m args below hf happ hP hK
  refine ⟨k, o, h1, h2, h3, ?_, h5⟩
  obtain ⟨v, M', q1, q2, q3⟩ := h4
  exact ⟨v, M', q1, hp v M' q2, q3⟩
theorem ct_successor (hB : Base G) (hT : TMap M ρ t n ad ps lo hi ky vl) {i : Nat} (hin : i < n) : KJ6_successor G 1 0 0 [vr (some (ad i))] M (fun v M' => v = some (vr (if i + 1 < n then some (ad (i + 1)) else none)) ∧ M' = M) := (ct_successorT hB hT.2.2.2.2.2.2.1 hin).weak (fun _ _ h => h.1)
theorem ct_getFirstEntry (hB : Base G) (hT : TMap M ρ t n ad ps lo hi ky vl) : KJ6_getFirstEntry G 1 0 0 [vr (some t)] M (fun v M' => v = some (vr (if 0 < n then some (ad 0) else none)) ∧ M' = M) := by
  obtain ⟨hkt, hot, hcmp, hsz, hn, hρ, ⟨⟨h1, h2, h3, h4, h5, h6, h7, h8, h9, h10⟩, hk⟩, hky, hvl, hord⟩ := hT
  have dn : ∀ C, Ok C G cJ6_getFirstEntry RJ6 "getFirstEntry" 1 0 0 → Rt C G (some (.object "java/util/TreeMap$Entry")) 0 0 (fun v M' => v = some (vr (if 0 < n then some (ad 0) else none)) ∧ M' = M) → ∀ (m : Nat) (x : Nat), Nd n ad ps x → lo x = 0 → hi x ≤ lo x + m → Go C 9 [some (vr (some t)), some (vr (some x))] [] M 0 0 := by
    intro C hC hQ m
    induction m with
    | zero =>
      intro x hx h11 h12
      have := h2 x hx
      omega
    | succ m ih =>
      intro x hx h11 h12
      have hx2 := h2 x hx
      have hkx := (hk x hx).1
      refine g_aload_n hC dJ6_getFirstEntry_9 rfl ?_
      refine g_getR hC (ci := 9) (by first | with_reducible rfl | with_reducible assumption | (simp only [mR_sI, mR_sL]; with_reducible assumption) | exact rfl | assumption) (by first | with_reducible assumption | (simp only [mK_sI, mK_sR, mK_sL, mK_sO]; with_reducible assumption) | assumption | (simp only [mK_sI, mK_sR, mK_sL, mK_sO, mK_nw, mK_sK]; first | assumption | (simp only [*]; done))) rfl 2 (by decide) q980 (Or.inl rfl) rfl dJ6_getFirstEntry_10 ?_
      refine g_ifnull hC 24 dJ6_getFirstEntry_13 (by decide) (fun hc => ?_) (fun y hc => ?_)
      · refine g_aload_n hC dJ6_getFirstEntry_24 rfl ?_
        refine g_aret hC hQ (by omega) (by omega) rfl dJ6_getFirstEntry_25 ?_
        have := h3 x hx hc
        refine ⟨?_, rfl⟩
        rw [if_pos (by omega)]
        have : 0 = ps x := by omega
        rw [this, hx.2]
      · obtain ⟨e1, e2, e3, e4⟩ := h4 x y hx hc
        refine g_aload_n hC dJ6_getFirstEntry_16 rfl ?_
        refine g_getR hC (ci := 9) (by first | with_reducible rfl | with_reducible assumption | (simp only [mR_sI, mR_sL]; with_reducible assumption) | exact rfl | assumption) (by first | with_reducible assumption | (simp only [mK_sI, mK_sR, mK_sL, mK_sO]; with_reducible assumption) | assumption | (simp only [mK_sI, mK_sR, mK_sL, mK_sO, mK_nw, mK_sK]; first | assumption | (simp only [*]; done))) rfl 2 (by decide) q980 (Or.inl rfl) rfl dJ6_getFirstEntry_17 ?_
        rw [hc]
        refine g_astore_n hC dJ6_getFirstEntry_20 rfl rfl ?_
        try simp only [stL, clr]
        refine g_goto hC 9 dJ6_getFirstEntry_21 (by decide) ?_
        exact ih y e1 (by omega) (by omega)
  refine Ct.of (own := RJ6) (nm := "getFirstEntry") hB (by decide) rfl rfl rfl rfl (fun C hC hQ => ?_)
  refine g_aload_n hC dJ6_getFirstEntry_0 rfl ?_
  refine g_getR hC (ci := 8) (by first | with_reducible rfl | with_reducible assumption | (simp only [mR_sI, mR_sL]; with_reducible assumption) | exact rfl | assumption) (by first | with_reducible assumption | (simp only [mK_sI, mK_sR, mK_sL, mK_sO]; with_reducible assumption) | assumption | (simp only [mK_sI, mK_sR, mK_sL, mK_sO, mK_nw, mK_sK]; first | assumption | (simp only [*]; done))) rfl 3 (by decide) q273 (Or.inl rfl) rfl dJ6_getFirstEntry_1 ?_
  refine g_astore_n hC dJ6_getFirstEntry_4 rfl rfl ?_
  try simp only [stL, clr]
  refine g_aload_n hC dJ6_getFirstEntry_5 rfl ?_
  refine g_ifnull hC 24 dJ6_getFirstEntry_6 (by decide) (fun hc => ?_) (fun x hc => ?_)
  · refine g_aload_n hC dJ6_getFirstEntry_24 rfl ?_
    refine g_aret hC hQ (by omega) (by omega) rfl dJ6_getFirstEntry_25 ?_
    have := h9 hc
    exact ⟨by rw [hc, if_neg (by omega)], rfl⟩
  · obtain ⟨e1, e2, e3, e4⟩ := h10 x hc
    rw [hc]
    exact dn C hC hQ n x e1 e3 (by omega)
end Look

