set_option maxRecDepth 100000
abbrev cJ0_putAll : ByteArray := prog_42_method_9_code
def yJ0_putAll : MethodName := ⟨RJ0, "putAll", "(Ljava/util/Map;)V"⟩
def dkwJ0_putAll_2 : List UInt8 := [182, 0, 55, 87, 167, 255, 220, 177]
abbrev dktJ0_putAll_2 : List UInt8 := dkwJ0_putAll_2 ++ []
def dkwJ0_putAll_1 : List UInt8 := [185, 0, 30, 1, 0, 192, 0, 34, 78, 42, 45, 185, 0, 43, 1, 0, 45, 185, 0, 36, 1, 0]
abbrev dktJ0_putAll_1 : List UInt8 := dkwJ0_putAll_1 ++ dktJ0_putAll_2
def dkwJ0_putAll_0 : List UInt8 := [43, 185, 0, 52, 1, 0, 185, 0, 20, 1, 0, 77, 44, 185, 0, 24, 1, 0, 153, 0, 33, 44]
abbrev dktJ0_putAll_0 : List UInt8 := dkwJ0_putAll_0 ++ dktJ0_putAll_1
theorem dksJ0_putAll_0 : cJ0_putAll.data.toList.drop 0 = dktJ0_putAll_0 := by decide +kernel
theorem dksJ0_putAll_1 : cJ0_putAll.data.toList.drop 22 = dktJ0_putAll_1 := dk_seg dksJ0_putAll_0 22 rfl rfl
theorem dksJ0_putAll_2 : cJ0_putAll.data.toList.drop 44 = dktJ0_putAll_2 := dk_seg dksJ0_putAll_1 22 rfl rfl
theorem dJ0_putAll_0 : decode cJ0_putAll 0 = .ok (.aload_n 1, 1) := dk_43 (dk_at dksJ0_putAll_0 0 rfl rfl)
theorem dJ0_putAll_1 : decode cJ0_putAll 1 = .ok (.invokeinterface 52 1, 5) := by decide +kernel
theorem dJ0_putAll_6 : decode cJ0_putAll 6 = .ok (.invokeinterface 20 1, 5) := by decide +kernel
theorem dJ0_putAll_11 : decode cJ0_putAll 11 = .ok (.astore_n 2, 1) := dk_77 (dk_at dksJ0_putAll_0 11 rfl rfl)
theorem dJ0_putAll_12 : decode cJ0_putAll 12 = .ok (.aload_n 2, 1) := dk_44 (dk_at dksJ0_putAll_0 12 rfl rfl)
theorem dJ0_putAll_13 : decode cJ0_putAll 13 = .ok (.invokeinterface 24 1, 5) := by decide +kernel
theorem dJ0_putAll_18 : decode cJ0_putAll 18 = .ok (.ifCond .eq 33, 3) := dk_153 0 33 (dk_at dksJ0_putAll_0 18 rfl rfl)
theorem dJ0_putAll_21 : decode cJ0_putAll 21 = .ok (.aload_n 2, 1) := dk_44 (dk_at dksJ0_putAll_0 21 rfl rfl)
theorem dJ0_putAll_22 : decode cJ0_putAll 22 = .ok (.invokeinterface 30 1, 5) := by decide +kernel
theorem dJ0_putAll_27 : decode cJ0_putAll 27 = .ok (.checkcast 34, 3) := dk_192 0 34 (dk_at dksJ0_putAll_1 5 rfl rfl)
theorem dJ0_putAll_30 : decode cJ0_putAll 30 = .ok (.astore_n 3, 1) := dk_78 (dk_at dksJ0_putAll_1 8 rfl rfl)
theorem dJ0_putAll_31 : decode cJ0_putAll 31 = .ok (.aload_n 0, 1) := dk_42 (dk_at dksJ0_putAll_1 9 rfl rfl)
theorem dJ0_putAll_32 : decode cJ0_putAll 32 = .ok (.aload_n 3, 1) := dk_45 (dk_at dksJ0_putAll_1 10 rfl rfl)
theorem dJ0_putAll_33 : decode cJ0_putAll 33 = .ok (.invokeinterface 43 1, 5) := by decide +kernel
theorem dJ0_putAll_38 : decode cJ0_putAll 38 = .ok (.aload_n 3, 1) := dk_45 (dk_at dksJ0_putAll_1 16 rfl rfl)
theorem dJ0_putAll_39 : decode cJ0_putAll 39 = .ok (.invokeinterface 36 1, 5) := by decide +kernel
theorem dJ0_putAll_44 : decode cJ0_putAll 44 = .ok (.invokevirtual 55, 3) := dk_182 0 55 (dk_at dksJ0_putAll_2 0 rfl rfl)
theorem dJ0_putAll_47 : decode cJ0_putAll 47 = .ok (.pop, 1) := dk_87 (dk_at dksJ0_putAll_2 3 rfl rfl)
theorem dJ0_putAll_48 : decode cJ0_putAll 48 = .ok (.goto (-36), 3) := dk_167 255 220 (dk_at dksJ0_putAll_2 4 rfl rfl)
theorem dJ0_putAll_51 : decode cJ0_putAll 51 = .ok (.return_, 1) := dk_177 (dk_at dksJ0_putAll_2 7 rfl rfl)
theorem yk_J0_putAll : yk yJ0_putAll 1 := by unfold yk; decide +kernel
abbrev KJ0_putAll (G : Gx) (d mc ms : Nat) (av : List Sv) (M : Mem) (post : Option Sv → Mem → Prop) : Prop := Ct G yJ0_putAll cJ0_putAll 4 ((Option.none : Option Jvm.ClassFile.FieldType)) d mc ms av M post
abbrev cJ11_equals : ByteArray := prog_72_method_2_code
def yJ11_equals : MethodName := ⟨RJ11, "equals", "(Ljava/lang/Object;Ljava/lang/Object;)Z"⟩
def dkwJ11_equals_0 : List UInt8 := [42, 43, 165, 0, 15, 42, 198, 0, 15, 42, 43, 182, 0, 14, 153, 0, 7, 4, 167, 0, 4, 3, 172]
abbrev dktJ11_equals_0 : List UInt8 := dkwJ11_equals_0 ++ []
theorem dksJ11_equals_0 : cJ11_equals.data.toList.drop 0 = dktJ11_equals_0 := by decide +kernel
theorem dJ11_equals_0 : decode cJ11_equals 0 = .ok (.aload_n 0, 1) := dk_42 (dk_at dksJ11_equals_0 0 rfl rfl)
theorem dJ11_equals_1 : decode cJ11_equals 1 = .ok (.aload_n 1, 1) := dk_43 (dk_at dksJ11_equals_0 1 rfl rfl)
theorem dJ11_equals_2 : decode cJ11_equals 2 = .ok (.if_acmp .eq 15, 3) := dk_165 0 15 (dk_at dksJ11_equals_0 2 rfl rfl)
theorem dJ11_equals_5 : decode cJ11_equals 5 = .ok (.aload_n 0, 1) := dk_42 (dk_at dksJ11_equals_0 5 rfl rfl)
theorem dJ11_equals_6 : decode cJ11_equals 6 = .ok (.ifnull 15, 3) := dk_198 0 15 (dk_at dksJ11_equals_0 6 rfl rfl)
theorem dJ11_equals_9 : decode cJ11_equals 9 = .ok (.aload_n 0, 1) := dk_42 (dk_at dksJ11_equals_0 9 rfl rfl)
theorem dJ11_equals_10 : decode cJ11_equals 10 = .ok (.aload_n 1, 1) := dk_43 (dk_at dksJ11_equals_0 10 rfl rfl)
theorem dJ11_equals_11 : decode cJ11_equals 11 = .ok (.invokevirtual 14, 3) := dk_182 0 14 (dk_at dksJ11_equals_0 11 rfl rfl)
theorem dJ11_equals_14 : decode cJ11_equals 14 = .ok (.ifCond .eq 7, 3) := dk_153 0 7 (dk_at dksJ11_equals_0 14 rfl rfl)
theorem dJ11_equals_17 : decode cJ11_equals 17 = .ok (.iconst 1, 1) := dk_4 (dk_at dksJ11_equals_0 17 rfl rfl)
theorem dJ11_equals_18 : decode cJ11_equals 18 = .ok (.goto 4, 3) := dk_167 0 4 (dk_at dksJ11_equals_0 18 rfl rfl)
theorem dJ11_equals_21 : decode cJ11_equals 21 = .ok (.iconst 0, 1) := dk_3 (dk_at dksJ11_equals_0 21 rfl rfl)
theorem dJ11_equals_22 : decode cJ11_equals 22 = .ok (.ireturn, 1) := dk_172 (dk_at dksJ11_equals_0 22 rfl rfl)
theorem yk_J11_equals : yk yJ11_equals 2 := by unfold yk; decide +kernel
abbrev KJ11_equals (G : Gx) (d mc ms : Nat) (av : List Sv) (M : Mem) (post : Option Sv → Mem → Prop) : Prop := Ct G yJ11_equals cJ11_equals 2 ((Option.some Jvm.ClassFile.FieldType.boolean)) d mc ms av M post
abbrev cJ6_buildFromSorted : ByteArray := prog_83_method_90_code
def yJ6_buildFromSorted : MethodName := ⟨RJ6, "buildFromSorted", "(ILjava/util/Iterator;Ljava/io/ObjectInputStream;Ljava/lang/Object;)V"⟩
def dkwJ6_buildFromSorted_1 : List UInt8 := [181, 0, 101, 177]
abbrev dktJ6_buildFromSorted_1 : List UInt8 := dkwJ6_buildFromSorted_1 ++ []
def dkwJ6_buildFromSorted_0 : List UInt8 := [42, 27, 181, 0, 7, 42, 42, 3, 3, 27, 4, 100, 27, 184, 1, 106, 44, 45, 25, 4, 182, 1, 110]
abbrev dktJ6_buildFromSorted_0 : List UInt8 := dkwJ6_buildFromSorted_0 ++ dktJ6_buildFromSorted_1
theorem dksJ6_buildFromSorted_0 : cJ6_buildFromSorted.data.toList.drop 0 = dktJ6_buildFromSorted_0 := by decide +kernel
theorem dksJ6_buildFromSorted_1 : cJ6_buildFromSorted.data.toList.drop 23 = dktJ6_buildFromSorted_1 := dk_seg dksJ6_buildFromSorted_0 23 rfl rfl
theorem dJ6_buildFromSorted_0 : decode cJ6_buildFromSorted 0 = .ok (.aload_n 0, 1) := dk_42 (dk_at dksJ6_buildFromSorted_0 0 rfl rfl)
theorem dJ6_buildFromSorted_1 : decode cJ6_buildFromSorted 1 = .ok (.iload_n 1, 1) := dk_27 (dk_at dksJ6_buildFromSorted_0 1 rfl rfl)
theorem dJ6_buildFromSorted_2 : decode cJ6_buildFromSorted 2 = .ok (.putfield 7, 3) := dk_181 0 7 (dk_at dksJ6_buildFromSorted_0 2 rfl rfl)
theorem dJ6_buildFromSorted_5 : decode cJ6_buildFromSorted 5 = .ok (.aload_n 0, 1) := dk_42 (dk_at dksJ6_buildFromSorted_0 5 rfl rfl)
theorem dJ6_buildFromSorted_6 : decode cJ6_buildFromSorted 6 = .ok (.aload_n 0, 1) := dk_42 (dk_at dksJ6_buildFromSorted_0 6 rfl rfl)
theorem dJ6_buildFromSorted_7 : decode cJ6_buildFromSorted 7 = .ok (.iconst 0, 1) := dk_3 (dk_at dksJ6_buildFromSorted_0 7 rfl rfl)
theorem dJ6_buildFromSorted_8 : decode cJ6_buildFromSorted 8 = .ok (.iconst 0, 1) := dk_3 (dk_at dksJ6_buildFromSorted_0 8 rfl rfl)
theorem dJ6_buildFromSorted_9 : decode cJ6_buildFromSorted 9 = .ok (.iload_n 1, 1) := dk_27 (dk_at dksJ6_buildFromSorted_0 9 rfl rfl)
theorem dJ6_buildFromSorted_10 : decode cJ6_buildFromSorted 10 = .ok (.iconst 1, 1) := dk_4 (dk_at dksJ6_buildFromSorted_0 10 rfl rfl)
theorem dJ6_buildFromSorted_11 : decode cJ6_buildFromSorted 11 = .ok (.isub, 1) := dk_100 (dk_at dksJ6_buildFromSorted_0 11 rfl rfl)
theorem dJ6_buildFromSorted_12 : decode cJ6_buildFromSorted 12 = .ok (.iload_n 1, 1) := dk_27 (dk_at dksJ6_buildFromSorted_0 12 rfl rfl)
theorem dJ6_buildFromSorted_13 : decode cJ6_buildFromSorted 13 = .ok (.invokestatic 362, 3) := dk_184 1 106 (dk_at dksJ6_buildFromSorted_0 13 rfl rfl)
theorem dJ6_buildFromSorted_16 : decode cJ6_buildFromSorted 16 = .ok (.aload_n 2, 1) := dk_44 (dk_at dksJ6_buildFromSorted_0 16 rfl rfl)
theorem dJ6_buildFromSorted_17 : decode cJ6_buildFromSorted 17 = .ok (.aload_n 3, 1) := dk_45 (dk_at dksJ6_buildFromSorted_0 17 rfl rfl)
theorem dJ6_buildFromSorted_18 : decode cJ6_buildFromSorted 18 = .ok (.aload 4, 2) := dk_25 4 (dk_at dksJ6_buildFromSorted_0 18 rfl rfl)
theorem dJ6_buildFromSorted_20 : decode cJ6_buildFromSorted 20 = .ok (.invokevirtual 366, 3) := dk_182 1 110 (dk_at dksJ6_buildFromSorted_0 20 rfl rfl)
theorem dJ6_buildFromSorted_23 : decode cJ6_buildFromSorted 23 = .ok (.putfield 101, 3) := dk_181 0 101 (dk_at dksJ6_buildFromSorted_1 0 rfl rfl)
theorem dJ6_buildFromSorted_26 : decode cJ6_buildFromSorted 26 = .ok (.return_, 1) := dk_177 (dk_at dksJ6_buildFromSorted_1 3 rfl rfl)
theorem yk_J6_buildFromSorted : yk yJ6_buildFromSorted 4 := by unfold yk; decide +kernel
abbrev KJ6_buildFromSorted (G : Gx) (d mc ms : Nat) (av : List Sv) (M : Mem) (post : Option Sv → Mem → Prop) : Prop := Ct G yJ6_buildFromSorted cJ6_buildFromSorted 5 ((Option.none : Option Jvm.ClassFile.FieldType)) d mc ms av M post
abbrev cJ6_comparator : ByteArray := prog_83_method_9_code
def yJ6_comparator : MethodName := ⟨RJ6, "comparator", "()Ljava/util/Comparator;"⟩
theorem dJ6_comparator_0 : decode cJ6_comparator 0 = .ok (.aload_n 0, 1) := by decide +kernel
theorem dJ6_comparator_1 : decode cJ6_comparator 1 = .ok (.getfield 16, 3) := by decide +kernel
theorem dJ6_comparator_4 : decode cJ6_comparator 4 = .ok (.areturn, 1) := by decide +kernel
theorem yk_J6_comparator : yk yJ6_comparator 0 := by unfold yk; decide +kernel
abbrev KJ6_comparator (G : Gx) (d mc ms : Nat) (av : List Sv) (M : Mem) (post : Option Sv → Mem → Prop) : Prop := Ct G yJ6_comparator cJ6_comparator 1 ((Option.some (Jvm.ClassFile.FieldType.object "java/util/Comparator"))) d mc ms av M post
abbrev cJ6_putAll : ByteArray := prog_83_method_14_code
def yJ6_putAll : MethodName := ⟨RJ6, "putAll", "(Ljava/util/Map;)V"⟩
def dkwJ6_putAll_3 : List UInt8 := [182, 0, 42, 167, 0, 4, 78, 177, 42, 43, 183, 0, 91, 177]
abbrev dktJ6_putAll_3 : List UInt8 := dkwJ6_putAll_3 ++ []
def dkwJ6_putAll_2 : List UInt8 := [180, 0, 13, 4, 96, 181, 0, 13, 42, 28, 43, 185, 0, 90, 1, 0, 185, 0, 36, 1, 0, 1, 1]
abbrev dktJ6_putAll_2 : List UInt8 := dkwJ6_putAll_2 ++ dktJ6_putAll_3
def dkwJ6_putAll_1 : List UInt8 := [153, 0, 55, 42, 180, 0, 16, 43, 192, 0, 25, 185, 0, 24, 1, 0, 184, 0, 85, 153, 0, 36, 42, 89]
abbrev dktJ6_putAll_1 : List UInt8 := dkwJ6_putAll_1 ++ dktJ6_putAll_2
def dkwJ6_putAll_0 : List UInt8 := [43, 185, 0, 82, 1, 0, 61, 42, 180, 0, 7, 154, 0, 66, 28, 153, 0, 62, 43, 193, 0, 25]
abbrev dktJ6_putAll_0 : List UInt8 := dkwJ6_putAll_0 ++ dktJ6_putAll_1
theorem dksJ6_putAll_0 : cJ6_putAll.data.toList.drop 0 = dktJ6_putAll_0 := by decide +kernel
theorem dksJ6_putAll_1 : cJ6_putAll.data.toList.drop 22 = dktJ6_putAll_1 := dk_seg dksJ6_putAll_0 22 rfl rfl
theorem dksJ6_putAll_2 : cJ6_putAll.data.toList.drop 46 = dktJ6_putAll_2 := dk_seg dksJ6_putAll_1 24 rfl rfl
theorem dksJ6_putAll_3 : cJ6_putAll.data.toList.drop 69 = dktJ6_putAll_3 := dk_seg dksJ6_putAll_2 23 rfl rfl
theorem dJ6_putAll_0 : decode cJ6_putAll 0 = .ok (.aload_n 1, 1) := dk_43 (dk_at dksJ6_putAll_0 0 rfl rfl)
theorem dJ6_putAll_1 : decode cJ6_putAll 1 = .ok (.invokeinterface 82 1, 5) := by decide +kernel
theorem dJ6_putAll_6 : decode cJ6_putAll 6 = .ok (.istore_n 2, 1) := dk_61 (dk_at dksJ6_putAll_0 6 rfl rfl)
theorem dJ6_putAll_7 : decode cJ6_putAll 7 = .ok (.aload_n 0, 1) := dk_42 (dk_at dksJ6_putAll_0 7 rfl rfl)
theorem dJ6_putAll_8 : decode cJ6_putAll 8 = .ok (.getfield 7, 3) := dk_180 0 7 (dk_at dksJ6_putAll_0 8 rfl rfl)
theorem dJ6_putAll_11 : decode cJ6_putAll 11 = .ok (.ifCond .ne 66, 3) := dk_154 0 66 (dk_at dksJ6_putAll_0 11 rfl rfl)
theorem dJ6_putAll_14 : decode cJ6_putAll 14 = .ok (.iload_n 2, 1) := dk_28 (dk_at dksJ6_putAll_0 14 rfl rfl)
theorem dJ6_putAll_15 : decode cJ6_putAll 15 = .ok (.ifCond .eq 62, 3) := dk_153 0 62 (dk_at dksJ6_putAll_0 15 rfl rfl)
theorem dJ6_putAll_18 : decode cJ6_putAll 18 = .ok (.aload_n 1, 1) := dk_43 (dk_at dksJ6_putAll_0 18 rfl rfl)
theorem dJ6_putAll_19 : decode cJ6_putAll 19 = .ok (.instanceof 25, 3) := dk_193 0 25 (dk_at dksJ6_putAll_0 19 rfl rfl)
theorem dJ6_putAll_22 : decode cJ6_putAll 22 = .ok (.ifCond .eq 55, 3) := dk_153 0 55 (dk_at dksJ6_putAll_1 0 rfl rfl)
theorem dJ6_putAll_25 : decode cJ6_putAll 25 = .ok (.aload_n 0, 1) := dk_42 (dk_at dksJ6_putAll_1 3 rfl rfl)
theorem dJ6_putAll_26 : decode cJ6_putAll 26 = .ok (.getfield 16, 3) := dk_180 0 16 (dk_at dksJ6_putAll_1 4 rfl rfl)
theorem dJ6_putAll_29 : decode cJ6_putAll 29 = .ok (.aload_n 1, 1) := dk_43 (dk_at dksJ6_putAll_1 7 rfl rfl)
theorem dJ6_putAll_30 : decode cJ6_putAll 30 = .ok (.checkcast 25, 3) := dk_192 0 25 (dk_at dksJ6_putAll_1 8 rfl rfl)
theorem dJ6_putAll_33 : decode cJ6_putAll 33 = .ok (.invokeinterface 24 1, 5) := by decide +kernel
theorem dJ6_putAll_38 : decode cJ6_putAll 38 = .ok (.invokestatic 85, 3) := dk_184 0 85 (dk_at dksJ6_putAll_1 16 rfl rfl)
theorem dJ6_putAll_41 : decode cJ6_putAll 41 = .ok (.ifCond .eq 36, 3) := dk_153 0 36 (dk_at dksJ6_putAll_1 19 rfl rfl)
theorem dJ6_putAll_44 : decode cJ6_putAll 44 = .ok (.aload_n 0, 1) := dk_42 (dk_at dksJ6_putAll_1 22 rfl rfl)
theorem dJ6_putAll_45 : decode cJ6_putAll 45 = .ok (.dup, 1) := dk_89 (dk_at dksJ6_putAll_1 23 rfl rfl)
theorem dJ6_putAll_46 : decode cJ6_putAll 46 = .ok (.getfield 13, 3) := dk_180 0 13 (dk_at dksJ6_putAll_2 0 rfl rfl)
theorem dJ6_putAll_49 : decode cJ6_putAll 49 = .ok (.iconst 1, 1) := dk_4 (dk_at dksJ6_putAll_2 3 rfl rfl)
theorem dJ6_putAll_50 : decode cJ6_putAll 50 = .ok (.iadd, 1) := dk_96 (dk_at dksJ6_putAll_2 4 rfl rfl)
theorem dJ6_putAll_51 : decode cJ6_putAll 51 = .ok (.putfield 13, 3) := dk_181 0 13 (dk_at dksJ6_putAll_2 5 rfl rfl)
theorem dJ6_putAll_54 : decode cJ6_putAll 54 = .ok (.aload_n 0, 1) := dk_42 (dk_at dksJ6_putAll_2 8 rfl rfl)
theorem dJ6_putAll_55 : decode cJ6_putAll 55 = .ok (.iload_n 2, 1) := dk_28 (dk_at dksJ6_putAll_2 9 rfl rfl)
theorem dJ6_putAll_56 : decode cJ6_putAll 56 = .ok (.aload_n 1, 1) := dk_43 (dk_at dksJ6_putAll_2 10 rfl rfl)
theorem dJ6_putAll_57 : decode cJ6_putAll 57 = .ok (.invokeinterface 90 1, 5) := by decide +kernel
theorem dJ6_putAll_62 : decode cJ6_putAll 62 = .ok (.invokeinterface 36 1, 5) := by decide +kernel
theorem dJ6_putAll_67 : decode cJ6_putAll 67 = .ok (.aconst_null, 1) := dk_1 (dk_at dksJ6_putAll_2 21 rfl rfl)
theorem dJ6_putAll_68 : decode cJ6_putAll 68 = .ok (.aconst_null, 1) := dk_1 (dk_at dksJ6_putAll_2 22 rfl rfl)
theorem dJ6_putAll_69 : decode cJ6_putAll 69 = .ok (.invokevirtual 42, 3) := dk_182 0 42 (dk_at dksJ6_putAll_3 0 rfl rfl)
theorem dJ6_putAll_72 : decode cJ6_putAll 72 = .ok (.goto 4, 3) := dk_167 0 4 (dk_at dksJ6_putAll_3 3 rfl rfl)
theorem dJ6_putAll_75 : decode cJ6_putAll 75 = .ok (.astore_n 3, 1) := dk_78 (dk_at dksJ6_putAll_3 6 rfl rfl)
theorem dJ6_putAll_76 : decode cJ6_putAll 76 = .ok (.return_, 1) := dk_177 (dk_at dksJ6_putAll_3 7 rfl rfl)
theorem dJ6_putAll_77 : decode cJ6_putAll 77 = .ok (.aload_n 0, 1) := dk_42 (dk_at dksJ6_putAll_3 8 rfl rfl)
theorem dJ6_putAll_78 : decode cJ6_putAll 78 = .ok (.aload_n 1, 1) := dk_43 (dk_at dksJ6_putAll_3 9 rfl rfl)
theorem dJ6_putAll_79 : decode cJ6_putAll 79 = .ok (.invokespecial 91, 3) := dk_183 0 91 (dk_at dksJ6_putAll_3 10 rfl rfl)
theorem dJ6_putAll_82 : decode cJ6_putAll 82 = .ok (.return_, 1) := dk_177 (dk_at dksJ6_putAll_3 13 rfl rfl)
theorem yk_J6_putAll : yk yJ6_putAll 1 := by unfold yk; decide +kernel
abbrev KJ6_putAll (G : Gx) (d mc ms : Nat) (av : List Sv) (M : Mem) (post : Option Sv → Mem → Prop) : Prop := CtW G yJ6_putAll cJ6_putAll 4 ((Option.none : Option Jvm.ClassFile.FieldType)) [((54 : Nat), (72 : Nat), (75 : Nat), (46 : Nat)), ((54 : Nat), (72 : Nat), (75 : Nat), (48 : Nat))] d mc ms av M post
def yi_Iterator_hasNext_801 : MethodName := ⟨"java/util/Iterator", "hasNext", "()Z"⟩
theorem yk_i_Iterator_hasNext_801 : yk ⟨"java/util/Iterator", "hasNext", "()Z"⟩ 0 := by unfold yk; decide +kernel
def yi_Map_entrySet_302 : MethodName := ⟨"java/util/Map", "entrySet", "()Ljava/util/Set;"⟩
theorem yk_i_Map_entrySet_302 : yk ⟨"java/util/Map", "entrySet", "()Ljava/util/Set;"⟩ 0 := by unfold yk; decide +kernel
def yi_Map_size_784 : MethodName := ⟨"java/util/Map", "size", "()I"⟩
theorem yk_i_Map_size_784 : yk ⟨"java/util/Map", "size", "()I"⟩ 0 := by unfold yk; decide +kernel
def yi_Set_iterator_934 : MethodName := ⟨"java/util/Set", "iterator", "()Ljava/util/Iterator;"⟩
theorem yk_i_Set_iterator_934 : yk ⟨"java/util/Set", "iterator", "()Ljava/util/Iterator;"⟩ 0 := by unfold yk; decide +kernel
def yi_SortedMap_comparator_432 : MethodName := ⟨"java/util/SortedMap", "comparator", "()Ljava/util/Comparator;"⟩
theorem yk_i_SortedMap_comparator_432 : yk ⟨"java/util/SortedMap", "comparator", "()Ljava/util/Comparator;"⟩ 0 := by unfold yk; decide +kernel
theorem q295 : (Jvm.Cond.superclass "java/util/TreeMap" "java/util/AbstractMap") ∈ lw_all := lw_g (lw_at lw_m2 7 rfl) rfl
theorem q483 : (Jvm.Cond.methodLink "java/util/TreeMap" (82 : Nat) ({ cls := "java/util/Map", name := "size", desc := "()I" } : Jvm.MethodName)) ∈ lw_all := lw_g (lw_at lw_m2 195 rfl) rfl
theorem q484 : (Jvm.Cond.interfaceMethod "java/util/Map" "java/util/Map" "size" "()I") ∈ lw_tbl := lw_at lw_m2 196 rfl
theorem q485 : (Jvm.Cond.declares ({ cls := "java/util/Map", name := "size", desc := "()I" } : Jvm.MethodName)) ∈ lw_tbl := lw_at lw_m2 197 rfl
theorem q492 : (Jvm.Cond.castable "java/util/TreeMap" "java/util/Map") ∈ lw_tbl := lw_at lw_m2 204 rfl
theorem q493 : (Jvm.Cond.selects "java/util/TreeMap" ({ cls := "java/util/Map", name := "size", desc := "()I" } : Jvm.MethodName) ({ cls := "java/util/TreeMap", name := "size", desc := "()I" } : Jvm.MethodName)) ∈ lw_all := lw_g (lw_at lw_m2 205 rfl) rfl
theorem q494 : (Jvm.Cond.unhidden "java/util/TreeMap" "size" "()I") ∈ lw_tbl := lw_at lw_m2 206 rfl
theorem q495 : (Jvm.Cond.instanceMethod ({ cls := "java/util/TreeMap", name := "size", desc := "()I" } : Jvm.MethodName)) ∈ lw_all := lw_g (lw_at lw_m2 207 rfl) rfl
theorem q496 : (Jvm.Cond.publicMethod ({ cls := "java/util/TreeMap", name := "size", desc := "()I" } : Jvm.MethodName)) ∈ lw_tbl := lw_at lw_m2 208 rfl
theorem q497 : (Jvm.Cond.code ({ cls := "java/util/TreeMap", name := "size", desc := "()I" } : Jvm.MethodName) prog_83_method_5_code (1 : Nat) (Option.some Jvm.ClassFile.FieldType.int)) ∈ lw_all := lw_g (lw_at lw_m2 209 rfl) rfl
theorem q498 : (Jvm.Cond.classLink "java/util/TreeMap" (25 : Nat) "java/util/SortedMap") ∈ lw_all := lw_g (lw_at lw_m2 210 rfl) rfl
theorem q500 : (Jvm.Cond.methodLink "java/util/TreeMap" (24 : Nat) ({ cls := "java/util/SortedMap", name := "comparator", desc := "()Ljava/util/Comparator;" } : Jvm.MethodName)) ∈ lw_all := lw_g (lw_at lw_m2 212 rfl) rfl
theorem q501 : (Jvm.Cond.interfaceMethod "java/util/SortedMap" "java/util/SortedMap" "comparator" "()Ljava/util/Comparator;") ∈ lw_tbl := lw_at lw_m2 213 rfl
theorem q502 : (Jvm.Cond.declares ({ cls := "java/util/SortedMap", name := "comparator", desc := "()Ljava/util/Comparator;" } : Jvm.MethodName)) ∈ lw_tbl := lw_at lw_m2 214 rfl
theorem q503 : (Jvm.Cond.castable "java/util/TreeMap" "java/util/SortedMap") ∈ lw_tbl := lw_at lw_m2 215 rfl
theorem q504 : (Jvm.Cond.selects "java/util/TreeMap" ({ cls := "java/util/SortedMap", name := "comparator", desc := "()Ljava/util/Comparator;" } : Jvm.MethodName) ({ cls := "java/util/TreeMap", name := "comparator", desc := "()Ljava/util/Comparator;" } : Jvm.MethodName)) ∈ lw_all := lw_g (lw_at lw_m2 216 rfl) rfl
theorem q505 : (Jvm.Cond.unhidden "java/util/TreeMap" "comparator" "()Ljava/util/Comparator;") ∈ lw_tbl := lw_at lw_m2 217 rfl
theorem q506 : (Jvm.Cond.instanceMethod ({ cls := "java/util/TreeMap", name := "comparator", desc := "()Ljava/util/Comparator;" } : Jvm.MethodName)) ∈ lw_all := lw_g (lw_at lw_m2 218 rfl) rfl
theorem q507 : (Jvm.Cond.publicMethod ({ cls := "java/util/TreeMap", name := "comparator", desc := "()Ljava/util/Comparator;" } : Jvm.MethodName)) ∈ lw_tbl := lw_at lw_m2 219 rfl
theorem q508 : (Jvm.Cond.code ({ cls := "java/util/TreeMap", name := "comparator", desc := "()Ljava/util/Comparator;" } : Jvm.MethodName) prog_83_method_9_code (1 : Nat) (Option.some (Jvm.ClassFile.FieldType.object "java/util/Comparator"))) ∈ lw_all := lw_g (lw_at lw_m2 220 rfl) rfl
theorem q509 : (Jvm.Cond.methodLink "java/util/TreeMap" (85 : Nat) ({ cls := "java/util/Objects", name := "equals", desc := "(Ljava/lang/Object;Ljava/lang/Object;)Z" } : Jvm.MethodName)) ∈ lw_all := lw_g (lw_at lw_m2 221 rfl) rfl
theorem q510 : (Jvm.Cond.static ({ cls := "java/util/Objects", name := "equals", desc := "(Ljava/lang/Object;Ljava/lang/Object;)Z" } : Jvm.MethodName)) ∈ lw_all := lw_g (lw_at lw_m2 222 rfl) rfl
theorem q511 : (Jvm.Cond.code ({ cls := "java/util/Objects", name := "equals", desc := "(Ljava/lang/Object;Ljava/lang/Object;)Z" } : Jvm.MethodName) prog_72_method_2_code (2 : Nat) (Option.some Jvm.ClassFile.FieldType.boolean)) ∈ lw_all := lw_g (lw_at lw_m2 223 rfl) rfl
theorem q568 : (Jvm.Cond.methodLink "java/util/TreeMap" (90 : Nat) ({ cls := "java/util/Map", name := "entrySet", desc := "()Ljava/util/Set;" } : Jvm.MethodName)) ∈ lw_all := lw_g (lw_at lw_m3 40 rfl) rfl
theorem q569 : (Jvm.Cond.interfaceMethod "java/util/Map" "java/util/Map" "entrySet" "()Ljava/util/Set;") ∈ lw_tbl := lw_at lw_m3 41 rfl
theorem q570 : (Jvm.Cond.declares ({ cls := "java/util/Map", name := "entrySet", desc := "()Ljava/util/Set;" } : Jvm.MethodName)) ∈ lw_tbl := lw_at lw_m3 42 rfl
theorem q597 : (Jvm.Cond.selects "java/util/TreeMap" ({ cls := "java/util/Map", name := "entrySet", desc := "()Ljava/util/Set;" } : Jvm.MethodName) ({ cls := "java/util/TreeMap", name := "entrySet", desc := "()Ljava/util/Set;" } : Jvm.MethodName)) ∈ lw_all := lw_g (lw_at lw_m3 69 rfl) rfl
theorem q598 : (Jvm.Cond.unhidden "java/util/TreeMap" "entrySet" "()Ljava/util/Set;") ∈ lw_tbl := lw_at lw_m3 70 rfl
theorem q599 : (Jvm.Cond.instanceMethod ({ cls := "java/util/TreeMap", name := "entrySet", desc := "()Ljava/util/Set;" } : Jvm.MethodName)) ∈ lw_all := lw_g (lw_at lw_m3 71 rfl) rfl
theorem q600 : (Jvm.Cond.publicMethod ({ cls := "java/util/TreeMap", name := "entrySet", desc := "()Ljava/util/Set;" } : Jvm.MethodName)) ∈ lw_tbl := lw_at lw_m3 72 rfl
theorem q601 : (Jvm.Cond.code ({ cls := "java/util/TreeMap", name := "entrySet", desc := "()Ljava/util/Set;" } : Jvm.MethodName) prog_83_method_53_code (2 : Nat) (Option.some (Jvm.ClassFile.FieldType.object "java/util/Set"))) ∈ lw_all := lw_g (lw_at lw_m3 73 rfl) rfl
theorem q613 : (Jvm.Cond.methodLink "java/util/TreeMap" (36 : Nat) ({ cls := "java/util/Set", name := "iterator", desc := "()Ljava/util/Iterator;" } : Jvm.MethodName)) ∈ lw_all := lw_g (lw_at lw_m3 85 rfl) rfl
theorem q614 : (Jvm.Cond.interfaceMethod "java/util/Set" "java/util/Set" "iterator" "()Ljava/util/Iterator;") ∈ lw_tbl := lw_at lw_m3 86 rfl
theorem q615 : (Jvm.Cond.declares ({ cls := "java/util/Set", name := "iterator", desc := "()Ljava/util/Iterator;" } : Jvm.MethodName)) ∈ lw_tbl := lw_at lw_m3 87 rfl
theorem q665 : (Jvm.Cond.castable "java/util/TreeMap$EntrySet" "java/util/Set") ∈ lw_tbl := lw_at lw_m3 137 rfl
theorem q666 : (Jvm.Cond.selects "java/util/TreeMap$EntrySet" ({ cls := "java/util/Set", name := "iterator", desc := "()Ljava/util/Iterator;" } : Jvm.MethodName) ({ cls := "java/util/TreeMap$EntrySet", name := "iterator", desc := "()Ljava/util/Iterator;" } : Jvm.MethodName)) ∈ lw_all := lw_g (lw_at lw_m3 138 rfl) rfl
theorem q667 : (Jvm.Cond.unhidden "java/util/TreeMap$EntrySet" "iterator" "()Ljava/util/Iterator;") ∈ lw_tbl := lw_at lw_m3 139 rfl
theorem q668 : (Jvm.Cond.instanceMethod ({ cls := "java/util/TreeMap$EntrySet", name := "iterator", desc := "()Ljava/util/Iterator;" } : Jvm.MethodName)) ∈ lw_all := lw_g (lw_at lw_m3 140 rfl) rfl
theorem q669 : (Jvm.Cond.publicMethod ({ cls := "java/util/TreeMap$EntrySet", name := "iterator", desc := "()Ljava/util/Iterator;" } : Jvm.MethodName)) ∈ lw_tbl := lw_at lw_m3 141 rfl
theorem q670 : (Jvm.Cond.code ({ cls := "java/util/TreeMap$EntrySet", name := "iterator", desc := "()Ljava/util/Iterator;" } : Jvm.MethodName) prog_86_method_2_code (1 : Nat) (Option.some (Jvm.ClassFile.FieldType.object "java/util/Iterator"))) ∈ lw_all := lw_g (lw_at lw_m3 142 rfl) rfl
theorem q724 : (Jvm.Cond.methodLink "java/util/TreeMap" (42 : Nat) ({ cls := "java/util/TreeMap", name := "buildFromSorted", desc := "(ILjava/util/Iterator;Ljava/io/ObjectInputStream;Ljava/lang/Object;)V" } : Jvm.MethodName)) ∈ lw_all := lw_g (lw_at lw_m3 196 rfl) rfl
theorem q726 : (Jvm.Cond.instanceMethod ({ cls := "java/util/TreeMap", name := "buildFromSorted", desc := "(ILjava/util/Iterator;Ljava/io/ObjectInputStream;Ljava/lang/Object;)V" } : Jvm.MethodName)) ∈ lw_all := lw_g (lw_at lw_m3 198 rfl) rfl
theorem q727 : (Jvm.Cond.code ({ cls := "java/util/TreeMap", name := "buildFromSorted", desc := "(ILjava/util/Iterator;Ljava/io/ObjectInputStream;Ljava/lang/Object;)V" } : Jvm.MethodName) prog_83_method_90_code (5 : Nat) (Option.none : Option Jvm.ClassFile.FieldType)) ∈ lw_all := lw_g (lw_at lw_m3 199 rfl) rfl
theorem q728 : (Jvm.Cond.methodLink "java/util/TreeMap" (362 : Nat) ({ cls := "java/util/TreeMap", name := "computeRedLevel", desc := "(I)I" } : Jvm.MethodName)) ∈ lw_all := lw_g (lw_at lw_m3 200 rfl) rfl
theorem q729 : (Jvm.Cond.static ({ cls := "java/util/TreeMap", name := "computeRedLevel", desc := "(I)I" } : Jvm.MethodName)) ∈ lw_all := lw_g (lw_at lw_m3 201 rfl) rfl
theorem q730 : (Jvm.Cond.code ({ cls := "java/util/TreeMap", name := "computeRedLevel", desc := "(I)I" } : Jvm.MethodName) prog_83_method_92_code (1 : Nat) (Option.some Jvm.ClassFile.FieldType.int)) ∈ lw_all := lw_g (lw_at lw_m3 202 rfl) rfl
theorem q1000 : (Jvm.Cond.methodLink "java/util/TreeMap" (91 : Nat) ({ cls := "java/util/AbstractMap", name := "putAll", desc := "(Ljava/util/Map;)V" } : Jvm.MethodName)) ∈ lw_all := lw_g (lw_at lw_m4 232 rfl) rfl
theorem q1001 : (Jvm.Cond.instanceMethod ({ cls := "java/util/AbstractMap", name := "putAll", desc := "(Ljava/util/Map;)V" } : Jvm.MethodName)) ∈ lw_all := lw_g (lw_at lw_m4 233 rfl) rfl
theorem q1002 : (Jvm.Cond.code ({ cls := "java/util/AbstractMap", name := "putAll", desc := "(Ljava/util/Map;)V" } : Jvm.MethodName) prog_42_method_9_code (4 : Nat) (Option.none : Option Jvm.ClassFile.FieldType)) ∈ lw_all := lw_g (lw_at lw_m4 234 rfl) rfl
theorem q1004 : (Jvm.Cond.methodLink "java/util/AbstractMap" (52 : Nat) ({ cls := "java/util/Map", name := "entrySet", desc := "()Ljava/util/Set;" } : Jvm.MethodName)) ∈ lw_all := lw_g (lw_at lw_m4 236 rfl) rfl
theorem q1006 : (Jvm.Cond.methodLink "java/util/AbstractMap" (20 : Nat) ({ cls := "java/util/Set", name := "iterator", desc := "()Ljava/util/Iterator;" } : Jvm.MethodName)) ∈ lw_all := lw_g (lw_at lw_m4 238 rfl) rfl
theorem q1008 : (Jvm.Cond.methodLink "java/util/AbstractMap" (24 : Nat) ({ cls := "java/util/Iterator", name := "hasNext", desc := "()Z" } : Jvm.MethodName)) ∈ lw_all := lw_g (lw_at lw_m5 0 rfl) rfl
theorem q1009 : (Jvm.Cond.interfaceMethod "java/util/Iterator" "java/util/Iterator" "hasNext" "()Z") ∈ lw_tbl := lw_at lw_m5 1 rfl
theorem q1010 : (Jvm.Cond.declares ({ cls := "java/util/Iterator", name := "hasNext", desc := "()Z" } : Jvm.MethodName)) ∈ lw_tbl := lw_at lw_m5 2 rfl
theorem q1037 : (Jvm.Cond.selects "java/util/TreeMap$EntryIterator" ({ cls := "java/util/Iterator", name := "hasNext", desc := "()Z" } : Jvm.MethodName) ({ cls := "java/util/TreeMap$PrivateEntryIterator", name := "hasNext", desc := "()Z" } : Jvm.MethodName)) ∈ lw_all := lw_g (lw_at lw_m5 29 rfl) rfl
theorem q1038 : (Jvm.Cond.unhidden "java/util/TreeMap$EntryIterator" "hasNext" "()Z") ∈ lw_tbl := lw_at lw_m5 30 rfl
theorem q1039 : (Jvm.Cond.instanceMethod ({ cls := "java/util/TreeMap$PrivateEntryIterator", name := "hasNext", desc := "()Z" } : Jvm.MethodName)) ∈ lw_all := lw_g (lw_at lw_m5 31 rfl) rfl
theorem q1040 : (Jvm.Cond.publicMethod ({ cls := "java/util/TreeMap$PrivateEntryIterator", name := "hasNext", desc := "()Z" } : Jvm.MethodName)) ∈ lw_tbl := lw_at lw_m5 32 rfl
theorem q1041 : (Jvm.Cond.code ({ cls := "java/util/TreeMap$PrivateEntryIterator", name := "hasNext", desc := "()Z" } : Jvm.MethodName) prog_90_method_2_code (1 : Nat) (Option.some Jvm.ClassFile.FieldType.boolean)) ∈ lw_all := lw_g (lw_at lw_m5 33 rfl) rfl
theorem q3076 : (Jvm.Cond.sameMethod "java/util/AbstractMap" "java/util/AbstractMap" "putAll" "(Ljava/util/Map;)V") ∈ lw_all := lw_g (lw_at lw_m13 148 rfl) rfl
/-! ===== TreeMap.putAll into an empty map ===== -/
/-- a region that no cell is of -/
theorem go_reg {C : Cx} {pc : Nat} {lv : Lv} {st : List Sv} {M : Mem} {k n : Nat} (N : Nat) (kk : ∀ ρi, N < ρi → (∀ x, mK M x ≠ 0 → mO M x ≠ ρi) → Go C pc lv st M k n) : Go C pc lv st M k n := by
  obtain ⟨p, l, e, R, s, m, args, below, meth, c, Q, s0, D, nL⟩ := C
  intro H locs ls hR hO hl hv
  have hb : ∀ z : Nat, ∃ B, N < B ∧ ∀ x, x < z → mO M x < B := by
    intro z
    induction z with
    | zero => exact ⟨N + 1, by omega, fun x h => by omega⟩
    | succ z ih =>
      obtain ⟨B, h1, h2⟩ := ih
      refine ⟨B + mO M z + 1, by omega, fun x h => ?_⟩
      rcases Nat.lt_or_ge x z with q | q
      · have := h2 x q; omega
      · have : x = z := by omega
        subst this; omega
  obtain ⟨B, h1, h2⟩ := hb H.size
  exact kk B h1 (fun x hx => by have := h2 x ((hR x).2.2.2.2.2 hx).1; omega) H locs ls hR hO hl hv
/-- .. so nothing of it changes -/
theorem Fr.fresh {P : Nat → Prop} {M M' : Mem} {ρi : Nat} (h : Fr (fun q => P q ∨ q = ρi) M M') (hf : ∀ x, mK M x ≠ 0 → mO M x ≠ ρi) : Fr P M M' := fun a ha =>
  ⟨(h a ha).1, (h a ha).2.1, (h a ha).2.2.1, fun hp => (h a ha).2.2.2 (fun q => q.elim hp (hf a ha))⟩
section PutAll
variable {G : Gx} {M : Mem} {ρs ρi ρ t' t n it : Nat} {sad sps slo shi ad ps lo hi : Nat → Nat} {ky ky0 : Nat → Int32} {vl vl0 : Nat → Nat}
theorem TMc.built {M1 M2 : Mem} {tad tps tlo thi : Nat → Nat} {r : Option Nat} (hBT : BT M1 M2 ρ ρi it t' n sad ky vl 0 n tad tps tlo thi ad ps lo hi r) (hkt : mK M2 t = kTM) (ho : mO M2 t = ρ) (hc : mR M2 t 2 = none) (hs : mI M2 t 4 = nI n) (hn : n ≤ 1000) (hρ : ρ ≠ 0) (hvw : Vw M2 t) (hord : ∀ i j, i < j → j < n → ky i < ky j) : TMc (sR M2 t 3 r) ρ t n ad ps lo hi ky vl := by
  obtain ⟨p1, p2, p3, p4, p5, p6⟩ := hBT
  have ne : ∀ i, i < n → ad i ≠ t := fun i hi e => by
    have := (p4 i (by omega) hi).2.1
    rw [e, hkt] at this; cases this
  have hT : TR 0 n ad ps lo hi (fun x => mR (sR M2 t 3 r) x 2) (fun x => mR (sR M2 t 3 r) x 3) (fun x => mR (sR M2 t 3 r) x 4) r := by
    refine p3.to (fun _ _ _ => rfl) (fun i h1 h2 => ⟨p3.1 i h1 h2, rfl, rfl⟩) (fun i h1 h2 => ⟨?_, ?_, ?_⟩)
    · simp [mR_sR]
    · simp [mR_sR, ne i h2]
    · simp [mR_sR]
  have hnd : ∀ x, Nd n ad ps x → ∃ i, i < n ∧ x = ad i := fun x h => ⟨ps x, h.1, h.2.symm⟩
  refine ⟨⟨hkt, ho, by simp [mR_sR, hc], hs, hn, hρ, ⟨?_, ?_⟩, ?_, ?_, hord⟩, ?_, ?_⟩
  · have := hT.tt
    have e : mR (sR M2 t 3 r) t 3 = r := by simp [mR_sR]
    rw [e]; exact this
  · intro x hx
    obtain ⟨i, hi, rfl⟩ := hnd x hx
    exact ⟨(p4 i (by omega) hi).2.1, (p4 i (by omega) hi).2.2.1⟩
  · intro i hi
    obtain ⟨b, h1, h2⟩ := (p4 i (by omega) hi).2.2.2.2.1
    exact ⟨b, by simp [mR_sR, h1], h2⟩
  · intro i hi
    have := (p4 i (by omega) hi).2.2.2.2.2
    simp [mR_sR, this]
  · intro x hx
    obtain ⟨i, hi, rfl⟩ := hnd x hx
    exact (p4 i (by omega) hi).2.2.2.1
  · refine hvw.fr (P := fun q => q = ρ) (Fr.sR ho) (fun q => hρ q.symm) (fun k hk => ?_)
    simp [mR_sR, hk]
/-- buildFromSorted, of an empty map -/
theorem ct_bfs (hB : Base G) (hS : TMc M ρs t' n sad sps slo shi ky vl) (hT : TMc M ρ t 0 ad ps lo hi ky0 vl0) (h0 : ρ ≠ ρs) (h1 : ρi ≠ ρs) (h2 : ρi ≠ 0) (h3 : ρ ≠ ρi) (hI : It M kEI it ρi t' (if 0 < n then some (sad 0) else none)) :
    KJ6_buildFromSorted G 16 n (6 * n) [vr (some t), vi (nI n), vr (some it), vr none, vr none] M (fun v M' => v = none ∧ Fr (fun q => q = ρ ∨ q = ρi) M M' ∧ ∃ ad' ps' lo' hi', TMc M' ρ t n ad' ps' lo' hi' ky vl) := by
  have hkt := hT.1.1
  have hot := hT.1.2.1
  have hn : n ≤ 1000 := hS.1.2.2.2.2.1
  refine Ct.of (own := RJ6) (nm := "buildFromSorted") hB (by decide) rfl rfl rfl rfl (fun C hC hQ => ?_)
  refine g_aload_n hC dJ6_buildFromSorted_0 rfl ?_
  refine g_iload_n hC dJ6_buildFromSorted_1 rfl ?_
  refine g_putI hC (ci := 8) (by first | with_reducible rfl | with_reducible assumption | (simp only [mR_sI, mR_sL]; with_reducible assumption) | exact rfl | assumption) (by first | with_reducible assumption | (simp only [mK_sI, mK_sR, mK_sL, mK_sO]; with_reducible assumption) | assumption | (simp only [mK_sI, mK_sR, mK_sL, mK_sO, mK_nw, mK_sK]; first | assumption | (simp only [*]; done))) rfl 4 (by decide) q274 (Or.inl rfl) (Or.inl rfl) rfl rfl rfl dJ6_buildFromSorted_2 ?_
  refine g_aload_n hC dJ6_buildFromSorted_5 rfl ?_
  refine g_aload_n hC dJ6_buildFromSorted_6 rfl ?_
  refine g_iconst (v := 0) hC dJ6_buildFromSorted_7 (by decide) ?_
  refine g_iconst (v := 0) hC dJ6_buildFromSorted_8 (by decide) ?_
  refine g_iload_n hC dJ6_buildFromSorted_9 rfl ?_
  refine g_iconst (v := 1) hC dJ6_buildFromSorted_10 (by decide) ?_
  refine g_isub hC dJ6_buildFromSorted_11 ?_
  refine g_iload_n hC dJ6_buildFromSorted_12 rfl ?_
  refine g_callS hC (ct_redLevel hB (nI n) _) rfl (by first | decide | omega) rfl yk_J6_computeRedLevel q728 q729 q59 q730 rfl dJ6_buildFromSorted_13 (by omega) (by omega) (fun v M1 hp => ?_)
  obtain ⟨⟨y, rfl⟩, hM⟩ := hp
  cases hM.symm
  simp only [Option.toList_some, Option.toList_none, List.cons_append, List.nil_append, Nat.add_zero, Nat.zero_add]
  refine g_aload_n hC dJ6_buildFromSorted_16 rfl ?_
  refine g_aload_n hC dJ6_buildFromSorted_17 rfl ?_
  refine g_aload hC dJ6_buildFromSorted_18 rfl ?_
  have hF1 : Fr (fun q => q = ρ) M (sI M t 4 (nI n)) := Fr.sI hot
  have hS1 : TMc (sI M t 4 (nI n)) ρs t' n sad sps slo shi ky vl := hS.fr hF1 (fun q => h0 q.symm) (fun q => hT.1.2.2.2.2.2.1 q.symm)
  have hit : it ≠ t := fun e => by
    have := hI.1
    rw [e, hkt] at this; cases this
  have htt : t' ≠ t := fun e => by
    have := hS.1.2.1
    rw [e, hot] at this; exact h0 this
  have hI1 : It (sI M t 4 (nI n)) kEI it ρi t' (if 0 < n then some (sad 0) else none) := by
    obtain ⟨i1, i2, i3, i4, i5⟩ := hI
    exact ⟨i1, i2, i3, i4, by simp [mI_sI, htt, i5]⟩
  have hcalls := ct_bfs2 (ρ := ρ) hB h1 h2 h3 hn 10 (sI M t 4 (nI n)) 0 n 0 y ad ps lo hi hS1 hkt hI1 (by omega) (by omega) (by omega)
  rw [Nat.sub_zero] at hcalls
  refine g_callV hC (by first | with_reducible rfl | with_reducible assumption | (simp only [mR_sI, mR_sL]; with_reducible assumption) | exact rfl | assumption) (Rk.o (ci := 8) (by first | with_reducible assumption | (simp only [mK_sI, mK_sR, mK_sL, mK_sO]; with_reducible assumption) | assumption | (simp only [mK_sI, mK_sR, mK_sL, mK_sO, mK_nw, mK_sK]; first | assumption | (simp only [*]; done))) rfl) (hcalls) rfl (by first | decide | omega) rfl rfl yk_J6_buildFromSorted_2 q735 q737 qs7 q59 q738 rfl dJ6_buildFromSorted_20 (by omega) (by omega) (fun v M2 hp => ?_)
  obtain ⟨r, ad', ps', lo', hi', rfl, hBT⟩ := hp
  simp only [Option.toList_some, Option.toList_none, List.cons_append, List.nil_append, Nat.add_zero, Nat.zero_add]
  have hF2 := hBT.2.2.2.2.1
  have hkt2 : mK M2 t = kTM := hF2.k hkt (by decide)
  have hn0 : mK (sI M t 4 (nI n)) t ≠ 0 := by rw [mK_sI, hkt]; decide
  have ho2 : mO M2 t = ρ := hF2.o hn0 hot
  have hr2 : ∀ k, mR M2 t k = mR M t k := fun k => hF2.r hn0 (by rw [mO_sI, hot]; exact h3) k
  have hs2 : mI M2 t 4 = nI n := by rw [hF2.i hn0 (by rw [mO_sI, hot]; exact h3)]; simp [mI_sI]
  refine g_putR hC (ci := 8) (by first | with_reducible rfl | with_reducible assumption | (simp only [mR_sI, mR_sL]; with_reducible assumption) | exact rfl | assumption) (by first | with_reducible assumption | (simp only [mK_sI, mK_sR, mK_sL, mK_sO]; with_reducible assumption) | assumption | (simp only [mK_sI, mK_sR, mK_sL, mK_sO, mK_nw, mK_sK]; first | assumption | (simp only [*]; done))) rfl 3 (by decide) q273 (Or.inl rfl) (Or.inl rfl) rfl dJ6_buildFromSorted_23 ?_
  refine g_vret hC hQ (by omega) (by omega) dJ6_buildFromSorted_26 ?_
  refine ⟨rfl, ?_, ad', ps', lo', hi', ?_⟩
  · exact ((hF1.mono (fun r h => Or.inl h)).tr (hF2.mono (fun r h => Or.inr h))).tr (Fr.sR (Or.inl ho2))
  · refine TMc.built hBT hkt2 ho2 (by rw [hr2]; exact hT.1.2.2.1) hs2 hn hT.1.2.2.2.2.2.1 ?_ hS.1.2.2.2.2.2.2.2.2.2
    have hv1 : Vw (sI M t 4 (nI n)) t := hT.2.2.fr hF1 (fun q => hT.1.2.2.2.2.2.1 q.symm) (fun k _ => rfl)
    exact hv1.fr hF2 (fun q => h2 q.symm) (fun k _ => hr2 k)
theorem ct_comparator (hB : Base G) (hk : mK M t = kTM) : KJ6_comparator G 1 0 0 [vr (some t)] M (fun v M' => v = some (vr (mR M t 2)) ∧ M' = M) := by
  refine Ct.of (own := RJ6) (nm := "comparator") hB (by decide) rfl rfl rfl rfl (fun C hC hQ => ?_)
  refine g_aload_n hC dJ6_comparator_0 rfl ?_
  refine g_getR hC (ci := 8) (by first | with_reducible rfl | with_reducible assumption | (simp only [mR_sI, mR_sL]; with_reducible assumption) | exact rfl | assumption) (by first | with_reducible assumption | (simp only [mK_sI, mK_sR, mK_sL, mK_sO]; with_reducible assumption) | assumption | (simp only [mK_sI, mK_sR, mK_sL, mK_sO, mK_nw, mK_sK]; first | assumption | (simp only [*]; done))) rfl 2 (by decide) q272 (Or.inl rfl) rfl dJ6_comparator_1 ?_
  refine g_aret hC hQ (by omega) (by omega) rfl dJ6_comparator_4 ?_
  exact ⟨rfl, rfl⟩
theorem ct_equalsNN (hB : Base G) : KJ11_equals G 1 0 0 [vr none, vr none] M (fun v M' => v = some (vi 1) ∧ M' = M) := by
  refine Ct.of (own := RJ11) (nm := "equals") hB (by decide) rfl rfl rfl rfl (fun C hC hQ => ?_)
  refine g_aload_n hC dJ11_equals_0 rfl ?_
  refine g_aload_n hC dJ11_equals_1 rfl ?_
  refine g_acmp_eq hC 17 dJ11_equals_2 (by decide) (fun hc => ?_) (fun hc => ?_)
  · refine g_iconst (v := 1) hC dJ11_equals_17 (by decide) ?_
    refine g_goto hC 22 dJ11_equals_18 (by decide) ?_
    refine g_zret hC hQ (by omega) (by omega) dJ11_equals_22 (by first | rfl | assumption) ?_
    exact ⟨rfl, rfl⟩
  · exact absurd rfl hc
/-- AbstractMap.putAll of an empty TreeMap -/
theorem ct_J0_putAll (hB : Base G) (hS : TMc M ρs t' 0 sad sps slo shi ky vl) (hkt : mK M t = kTM) : KJ0_putAll G 5 2 5 [vr (some t), vr (some t')] M (fun v M' => v = none ∧ Fr (fun q => q = ρs) M M' ∧ TMc M' ρs t' 0 sad sps slo shi ky vl) := by
  have hks := hS.1.1
  refine Ct.of (own := RJ0) (nm := "putAll") hB (by decide) rfl rfl rfl rfl (fun C hC hQ => ?_)
  refine g_aload_n hC dJ0_putAll_0 rfl ?_
  refine g_callF hC (by first | with_reducible rfl | with_reducible assumption | (simp only [mR_sI, mR_sL]; with_reducible assumption) | exact rfl | assumption) (Rk.o (ci := 8) (by first | with_reducible assumption | (simp only [mK_sI, mK_sR, mK_sL, mK_sO]; with_reducible assumption) | assumption | (simp only [mK_sI, mK_sR, mK_sL, mK_sO, mK_nw, mK_sK]; first | assumption | (simp only [*]; done))) rfl) (ct_entrySet hB hS) rfl (by first | decide | omega) rfl yk_i_Map_entrySet_302 q1004 q597 q599 q59 q601 q570 q569 q600 q598 q492 rfl dJ0_putAll_1 (by omega) (by omega) (fun v M1 hp => ?_)
  obtain ⟨s, rfl, q1, q2, q3, q4, q5, q6⟩ := hp
  simp only [Option.toList_some, Option.toList_none, List.cons_append, List.nil_append, Nat.add_zero, Nat.zero_add]
  refine go_reg (ρs + 1) (fun ρi hr1 hr2 => ?_)
  refine g_callF hC (by first | with_reducible rfl | with_reducible assumption | (simp only [mR_sI, mR_sL]; with_reducible assumption) | exact rfl | assumption) (Rk.o (ci := 18) (by first | with_reducible assumption | (simp only [mK_sI, mK_sR, mK_sL, mK_sO]; with_reducible assumption) | assumption | (simp only [mK_sI, mK_sR, mK_sL, mK_sO, mK_nw, mK_sK]; first | assumption | (simp only [*]; done))) rfl) (ct_EntrySet_iterator hB q5 q1 q2 ρi) rfl (by first | decide | omega) rfl yk_i_Set_iterator_934 q1006 q666 q668 q71 q670 q615 q614 q669 q667 q665 rfl dJ0_putAll_6 (by omega) (by omega) (fun v M2 hp => ?_)
  obtain ⟨it, rfl, hF2, hI⟩ := hp
  simp only [Option.toList_some, Option.toList_none, List.cons_append, List.nil_append, Nat.add_zero, Nat.zero_add]
  refine g_astore_n hC dJ0_putAll_11 rfl rfl ?_
  try simp only [stL, clr]
  refine g_aload_n hC dJ0_putAll_12 rfl ?_
  have hki := hI.1
  refine g_callF hC (by first | with_reducible rfl | with_reducible assumption | (simp only [mR_sI, mR_sL]; with_reducible assumption) | exact rfl | assumption) (Rk.o (ci := 21) (by first | with_reducible assumption | (simp only [mK_sI, mK_sR, mK_sL, mK_sO]; with_reducible assumption) | assumption | (simp only [mK_sI, mK_sR, mK_sL, mK_sO, mK_nw, mK_sK]; first | assumption | (simp only [*]; done))) rfl) (ct_hasNext_J21 hB hI) rfl (by first | decide | omega) rfl yk_i_Iterator_hasNext_801 q1008 q1037 q1039 q75 q1041 q1010 q1009 q1040 q1038 q889 rfl dJ0_putAll_13 (by omega) (by omega) (fun v M3 hp => ?_)
  obtain ⟨rfl, hM⟩ := hp
  cases hM.symm
  simp only [Option.toList_some, Option.toList_none, List.cons_append, List.nil_append, Nat.add_zero, Nat.zero_add]
  refine g_if_eq hC 51 dJ0_putAll_18 (by decide) (fun hc => ?_) (fun hc => ?_)
  · refine g_vret hC hQ (by omega) (by omega) dJ0_putAll_51 ?_
    exact ⟨rfl, q4.tr (hF2.mono (fun _ h => h.elim)), q5.fr hF2 (fun h => h) (fun h => h)⟩
  · exact absurd (by simp) hc
/-- TreeMap.putAll into an empty map: the same keys and values -/
theorem ct_putAll (hB : Base G) (hS : TMc M ρs t' n sad sps slo shi ky vl) (hT : TMc M ρ t 0 ad ps lo hi ky0 vl0) (h0 : ρ ≠ ρs) :
    KJ6_putAll G 17 (n + 2) (6 * n + 5) [vr (some t), vr (some t')] M (fun v M' => v = none ∧ Fr (fun q => q = ρ ∨ q = ρs) M M' ∧ TMc M' ρs t' n sad sps slo shi ky vl ∧ ∃ ad' ps' lo' hi', TMc M' ρ t n ad' ps' lo' hi' ky vl) := by
  have hks := hS.1.1
  have hkt := hT.1.1
  have hρ := hT.1.2.2.2.2.2.1
  have hρs := hS.1.2.2.2.2.2.1
  have hn : n ≤ 1000 := hS.1.2.2.2.2.1
  refine CtW.of (own := RJ6) (nm := "putAll") hB (by decide) rfl rfl rfl rfl (fun C hC hQ hTb => ?_)
  refine g_aload_n hC dJ6_putAll_0 rfl ?_
  refine g_callF hC (by first | with_reducible rfl | with_reducible assumption | (simp only [mR_sI, mR_sL]; with_reducible assumption) | exact rfl | assumption) (Rk.o (ci := 8) (by first | with_reducible assumption | (simp only [mK_sI, mK_sR, mK_sL, mK_sO]; with_reducible assumption) | assumption | (simp only [mK_sI, mK_sR, mK_sL, mK_sO, mK_nw, mK_sK]; first | assumption | (simp only [*]; done))) rfl) (ct_size hB hS.1) rfl (by first | decide | omega) rfl yk_i_Map_size_784 q483 q493 q495 q59 q497 q485 q484 q496 q494 q492 rfl dJ6_putAll_1 (by omega) (by omega) (fun v M1 hp => ?_)
  obtain ⟨rfl, hM⟩ := hp
  cases hM.symm
  simp only [Option.toList_some, Option.toList_none, List.cons_append, List.nil_append, Nat.add_zero, Nat.zero_add]
  refine g_istore_n hC dJ6_putAll_6 rfl rfl ?_
  try simp only [stL, clr]
  refine g_aload_n hC dJ6_putAll_7 rfl ?_
  refine g_getI hC (ci := 8) (by first | with_reducible rfl | with_reducible assumption | (simp only [mR_sI, mR_sL]; with_reducible assumption) | exact rfl | assumption) (by first | with_reducible assumption | (simp only [mK_sI, mK_sR, mK_sL, mK_sO]; with_reducible assumption) | assumption | (simp only [mK_sI, mK_sR, mK_sL, mK_sO, mK_nw, mK_sK]; first | assumption | (simp only [*]; done))) rfl 4 (by decide) q274 (Or.inl rfl) rfl dJ6_putAll_8 ?_
  rw [hT.1.2.2.2.1]
  refine g_if_ne hC 77 dJ6_putAll_11 (by decide) (fun hc => ?_) (fun hc => ?_)
  · exact absurd rfl hc
  · refine g_iload_n hC dJ6_putAll_14 rfl ?_
    refine g_if_eq hC 77 dJ6_putAll_15 (by decide) (fun hc2 => ?_) (fun hc2 => ?_)
    · have hn0 : n = 0 := by
        have := congrArg Int32.toInt hc2
        rw [nI_toInt (by omega)] at this
        have h9 : (0 : Int32).toInt = 0 := rfl
        omega
      subst hn0
      refine g_aload_n hC dJ6_putAll_77 rfl ?_
      refine g_aload_n hC dJ6_putAll_78 rfl ?_
      refine g_callSU hC (by first | with_reducible rfl | with_reducible assumption | (simp only [mR_sI, mR_sL]; with_reducible assumption) | exact rfl | assumption) (Rk.o (ci := 8) (by first | with_reducible assumption | (simp only [mK_sI, mK_sR, mK_sL, mK_sO]; with_reducible assumption) | assumption | (simp only [mK_sI, mK_sR, mK_sL, mK_sO, mK_nw, mK_sK]; first | assumption | (simp only [*]; done))) rfl) (ct_J0_putAll hB hS hkt) rfl (by first | decide | omega) rfl yk_J0_putAll (by decide) q1000 q3076 q295 q1001 q52 q1002 rfl dJ6_putAll_79 (by omega) (by omega) (fun v M1 hp => ?_)
      obtain ⟨rfl, hF, hS1⟩ := hp
      simp only [Option.toList_some, Option.toList_none, List.cons_append, List.nil_append, Nat.add_zero, Nat.zero_add]
      refine g_vret hC hQ (by omega) (by omega) dJ6_putAll_82 ?_
      exact ⟨rfl, hF.mono (fun _ h => Or.inr h), hS1, ad, ps, lo, hi, (by
        have h9 := hT.fr hF h0 (fun q => hρs q.symm)
        obtain ⟨a1, a2, a3⟩ := h9
        obtain ⟨b1, b2, b3, b4, b5, b6, b7, b8, b9, b10⟩ := a1
        exact ⟨⟨b1, b2, b3, b4, b5, b6, b7, fun i h => by omega, fun i h => by omega, fun i j h h' => by omega⟩, a2, a3⟩)⟩
    · refine g_aload_n hC dJ6_putAll_18 rfl ?_
      refine g_instY hC (ci := 8) (by first | with_reducible rfl | with_reducible assumption | (simp only [mR_sI, mR_sL]; with_reducible assumption) | exact rfl | assumption) (by first | with_reducible assumption | (simp only [mK_sI, mK_sR, mK_sL, mK_sO]; with_reducible assumption) | assumption | (simp only [mK_sI, mK_sR, mK_sL, mK_sO, mK_nw, mK_sK]; first | assumption | (simp only [*]; done))) rfl q498 q503 dJ6_putAll_19 ?_
      refine g_if_eq hC 77 dJ6_putAll_22 (by decide) (fun hc3 => ?_) (fun hc3 => ?_)
      · cases hc3
      · refine g_aload_n hC dJ6_putAll_25 rfl ?_
        refine g_getR hC (ci := 8) (by first | with_reducible rfl | with_reducible assumption | (simp only [mR_sI, mR_sL]; with_reducible assumption) | exact rfl | assumption) (by first | with_reducible assumption | (simp only [mK_sI, mK_sR, mK_sL, mK_sO]; with_reducible assumption) | assumption | (simp only [mK_sI, mK_sR, mK_sL, mK_sO, mK_nw, mK_sK]; first | assumption | (simp only [*]; done))) rfl 2 (by decide) q272 (Or.inl rfl) rfl dJ6_putAll_26 ?_
        refine g_aload_n hC dJ6_putAll_29 rfl ?_
        refine g_castY hC (ci := 8) (by first | with_reducible rfl | with_reducible assumption | (simp only [mR_sI, mR_sL]; with_reducible assumption) | exact rfl | assumption) (by first | with_reducible assumption | (simp only [mK_sI, mK_sR, mK_sL, mK_sO]; with_reducible assumption) | assumption | (simp only [mK_sI, mK_sR, mK_sL, mK_sO, mK_nw, mK_sK]; first | assumption | (simp only [*]; done))) rfl q498 q503 dJ6_putAll_30 ?_
        refine g_callF hC (by first | with_reducible rfl | with_reducible assumption | (simp only [mR_sI, mR_sL]; with_reducible assumption) | exact rfl | assumption) (Rk.o (ci := 8) (by first | with_reducible assumption | (simp only [mK_sI, mK_sR, mK_sL, mK_sO]; with_reducible assumption) | assumption | (simp only [mK_sI, mK_sR, mK_sL, mK_sO, mK_nw, mK_sK]; first | assumption | (simp only [*]; done))) rfl) (ct_comparator hB hks) rfl (by first | decide | omega) rfl yk_i_SortedMap_comparator_432 q500 q504 q506 q59 q508 q502 q501 q507 q505 q503 rfl dJ6_putAll_33 (by omega) (by omega) (fun v M1 hp => ?_)
        obtain ⟨rfl, hM⟩ := hp
        cases hM.symm
        simp only [Option.toList_some, Option.toList_none, List.cons_append, List.nil_append, Nat.add_zero, Nat.zero_add]
        rw [hT.1.2.2.1, hS.1.2.2.1]
        refine g_callS hC (ct_equalsNN hB) rfl (by first | decide | omega) rfl yk_J11_equals q509 q510 q66 q511 rfl dJ6_putAll_38 (by omega) (by omega) (fun v M1 hp => ?_)
        obtain ⟨rfl, hM⟩ := hp
        cases hM.symm
        simp only [Option.toList_some, Option.toList_none, List.cons_append, List.nil_append, Nat.add_zero, Nat.zero_add]
        refine g_if_eq hC 77 dJ6_putAll_41 (by decide) (fun hc4 => ?_) (fun hc4 => ?_)
        · cases hc4
        · refine g_aload_n hC dJ6_putAll_44 rfl ?_
          refine g_dup hC dJ6_putAll_45 rfl ?_
          refine g_getI hC (ci := 8) (by first | with_reducible rfl | with_reducible assumption | (simp only [mR_sI, mR_sL]; with_reducible assumption) | exact rfl | assumption) (by first | with_reducible assumption | (simp only [mK_sI, mK_sR, mK_sL, mK_sO]; with_reducible assumption) | assumption | (simp only [mK_sI, mK_sR, mK_sL, mK_sO, mK_nw, mK_sK]; first | assumption | (simp only [*]; done))) rfl 5 (by decide) q275 (Or.inl rfl) rfl dJ6_putAll_46 ?_
          refine g_iconst (v := 1) hC dJ6_putAll_49 (by decide) ?_
          refine g_iadd hC dJ6_putAll_50 ?_
          refine g_putI hC (ci := 8) (by first | with_reducible rfl | with_reducible assumption | (simp only [mR_sI, mR_sL]; with_reducible assumption) | exact rfl | assumption) (by first | with_reducible assumption | (simp only [mK_sI, mK_sR, mK_sL, mK_sO]; with_reducible assumption) | assumption | (simp only [mK_sI, mK_sR, mK_sL, mK_sO, mK_nw, mK_sK]; first | assumption | (simp only [*]; done))) rfl 5 (by decide) q275 (Or.inl rfl) (Or.inl rfl) rfl rfl rfl dJ6_putAll_51 ?_
          have hF1 : Fr (fun q => q = ρ) M (sI M t 5 (mI M t 5 + 1)) := Fr.sI hT.1.2.1
          have hS1 : TMc (sI M t 5 (mI M t 5 + 1)) ρs t' n sad sps slo shi ky vl := hS.fr hF1 (fun q => h0 q.symm) (fun q => hρ q.symm)
          have hT1 : TMc (sI M t 5 (mI M t 5 + 1)) ρ t 0 ad ps lo hi ky0 vl0 := by
            obtain ⟨a1, a2, a3⟩ := hT
            obtain ⟨b1, b2, b3, b4, b5, b6, b7, b8, b9, b10⟩ := a1
            refine ⟨⟨b1, b2, b3, by simp [mI_sI, b4], b5, b6, b7, fun i h => by omega, fun i h => by omega, fun i j h h' => by omega⟩, fun x h => absurd h.1 (by omega), a3⟩
          have hks1 := hS1.1.1
          have hkt1 := hT1.1.1
          generalize sI M t 5 (mI M t 5 + 1) = M1 at hF1 hS1 hT1 hks1 hkt1 ⊢
          refine g_aload_n hC dJ6_putAll_54 rfl ?_
          refine g_iload_n hC dJ6_putAll_55 rfl ?_
          refine g_aload_n hC dJ6_putAll_56 rfl ?_
          refine g_callF hC (by first | with_reducible rfl | with_reducible assumption | (simp only [mR_sI, mR_sL]; with_reducible assumption) | exact rfl | assumption) (Rk.o (ci := 8) (by first | with_reducible assumption | (simp only [mK_sI, mK_sR, mK_sL, mK_sO]; with_reducible assumption) | assumption | (simp only [mK_sI, mK_sR, mK_sL, mK_sO, mK_nw, mK_sK]; first | assumption | (simp only [*]; done))) rfl) (ct_entrySet hB hS1) rfl (by first | decide | omega) rfl yk_i_Map_entrySet_302 q568 q597 q599 q59 q601 q570 q569 q600 q598 q492 rfl dJ6_putAll_57 (by omega) (by omega) (fun v M2 hp => ?_)
          obtain ⟨s, rfl, q1, q2, q3, q4, q5, q6⟩ := hp
          simp only [Option.toList_some, Option.toList_none, List.cons_append, List.nil_append, Nat.add_zero, Nat.zero_add]
          have hT2 := hT1.fr q4 h0 (fun q => hρs q.symm)
          refine go_reg (ρs + ρ + 1) (fun ρi hr1 hr2 => ?_)
          refine g_callF hC (by first | with_reducible rfl | with_reducible assumption | (simp only [mR_sI, mR_sL]; with_reducible assumption) | exact rfl | assumption) (Rk.o (ci := 18) (by first | with_reducible assumption | (simp only [mK_sI, mK_sR, mK_sL, mK_sO]; with_reducible assumption) | assumption | (simp only [mK_sI, mK_sR, mK_sL, mK_sO, mK_nw, mK_sK]; first | assumption | (simp only [*]; done))) rfl) (ct_EntrySet_iterator hB q5 q1 q2 ρi) rfl (by first | decide | omega) rfl yk_i_Set_iterator_934 q613 q666 q668 q71 q670 q615 q614 q669 q667 q665 rfl dJ6_putAll_62 (by omega) (by omega) (fun v M3 hp => ?_)
          obtain ⟨it, rfl, hF3, hI⟩ := hp
          simp only [Option.toList_some, Option.toList_none, List.cons_append, List.nil_append, Nat.add_zero, Nat.zero_add]
          have hS3 := q5.fr hF3 (fun h => h) (fun h => h)
          have hT3 := hT2.fr hF3 (fun h => h) (fun h => h)
          have hkt3 := hT3.1.1
          refine g_null hC dJ6_putAll_67 ?_
          refine g_null hC dJ6_putAll_68 ?_
          refine g_callV hC (by first | with_reducible rfl | with_reducible assumption | (simp only [mR_sI, mR_sL]; with_reducible assumption) | exact rfl | assumption) (Rk.o (ci := 8) (by first | with_reducible assumption | (simp only [mK_sI, mK_sR, mK_sL, mK_sO]; with_reducible assumption) | assumption | (simp only [mK_sI, mK_sR, mK_sL, mK_sO, mK_nw, mK_sK]; first | assumption | (simp only [*]; done))) rfl) (ct_bfs hB hS3 hT3 h0 (by omega) (by omega) (by omega) hI) rfl (by first | decide | omega) rfl rfl yk_J6_buildFromSorted q724 q726 qs6 q59 q727 rfl dJ6_putAll_69 (by omega) (by omega) (fun v M4 hp => ?_)
          obtain ⟨rfl, hF4, ad', ps', lo', hi', hT4⟩ := hp
          simp only [Option.toList_some, Option.toList_none, List.cons_append, List.nil_append, Nat.add_zero, Nat.zero_add]
          refine g_goto hC 76 dJ6_putAll_72 (by decide) ?_
          refine g_vret hC hQ (by omega) (by omega) dJ6_putAll_76 ?_
          have hF4' : Fr (fun q => q = ρ) M2 M4 := ((hF3.mono (fun _ h => h.elim)).tr hF4).fresh hr2
          refine ⟨rfl, ((hF1.mono (fun _ h => Or.inl h)).tr (q4.mono (fun _ h => Or.inr h))).tr (hF4'.mono (fun _ h => Or.inl h)), hS3.fr hF4 ?_ ?_, ad', ps', lo', hi', hT4⟩
          · intro q; omega
          · intro q; omega
end PutAll

