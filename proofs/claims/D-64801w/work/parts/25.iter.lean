set_option maxRecDepth 100000
def RJ0 : String := "java/util/AbstractMap"
abbrev cJ0_init : ByteArray := prog_42_method_1_code
def yJ0_init : MethodName := ⟨RJ0, "<init>", "()V"⟩
theorem dJ0_init_0 : decode cJ0_init 0 = .ok (.aload_n 0, 1) := by decide +kernel
theorem dJ0_init_1 : decode cJ0_init 1 = .ok (.invokespecial 1, 3) := by decide +kernel
theorem dJ0_init_4 : decode cJ0_init 4 = .ok (.return_, 1) := by decide +kernel
theorem yk_J0_init : yk yJ0_init 0 := by unfold yk; decide +kernel
abbrev KJ0_init (G : Gx) (d mc ms : Nat) (av : List Sv) (M : Mem) (post : Option Sv → Mem → Prop) : Prop := Ct G yJ0_init cJ0_init 1 ((Option.none : Option Jvm.ClassFile.FieldType)) d mc ms av M post
def RJ14 : String := "java/util/AbstractSet"
abbrev cJ14_init : ByteArray := prog_44_method_1_code
def yJ14_init : MethodName := ⟨RJ14, "<init>", "()V"⟩
theorem dJ14_init_0 : decode cJ14_init 0 = .ok (.aload_n 0, 1) := by decide +kernel
theorem dJ14_init_1 : decode cJ14_init 1 = .ok (.invokespecial 1, 3) := by decide +kernel
theorem dJ14_init_4 : decode cJ14_init 4 = .ok (.return_, 1) := by decide +kernel
theorem yk_J14_init : yk yJ14_init 0 := by unfold yk; decide +kernel
abbrev KJ14_init (G : Gx) (d mc ms : Nat) (av : List Sv) (M : Mem) (post : Option Sv → Mem → Prop) : Prop := Ct G yJ14_init cJ14_init 1 ((Option.none : Option Jvm.ClassFile.FieldType)) d mc ms av M post
abbrev cJ16_init : ByteArray := prog_86_method_1_code
def yJ16_init : MethodName := ⟨RJ16, "<init>", "(Ljava/util/TreeMap;)V"⟩
def dkwJ16_init_0 : List UInt8 := [42, 43, 181, 0, 1, 42, 183, 0, 7, 177]
abbrev dktJ16_init_0 : List UInt8 := dkwJ16_init_0 ++ []
theorem dksJ16_init_0 : cJ16_init.data.toList.drop 0 = dktJ16_init_0 := by decide +kernel
theorem dJ16_init_0 : decode cJ16_init 0 = .ok (.aload_n 0, 1) := dk_42 (dk_at dksJ16_init_0 0 rfl rfl)
theorem dJ16_init_1 : decode cJ16_init 1 = .ok (.aload_n 1, 1) := dk_43 (dk_at dksJ16_init_0 1 rfl rfl)
theorem dJ16_init_2 : decode cJ16_init 2 = .ok (.putfield 1, 3) := dk_181 0 1 (dk_at dksJ16_init_0 2 rfl rfl)
theorem dJ16_init_5 : decode cJ16_init 5 = .ok (.aload_n 0, 1) := dk_42 (dk_at dksJ16_init_0 5 rfl rfl)
theorem dJ16_init_6 : decode cJ16_init 6 = .ok (.invokespecial 7, 3) := dk_183 0 7 (dk_at dksJ16_init_0 6 rfl rfl)
theorem dJ16_init_9 : decode cJ16_init 9 = .ok (.return_, 1) := dk_177 (dk_at dksJ16_init_0 9 rfl rfl)
theorem yk_J16_init : yk yJ16_init 1 := by unfold yk; decide +kernel
abbrev KJ16_init (G : Gx) (d mc ms : Nat) (av : List Sv) (M : Mem) (post : Option Sv → Mem → Prop) : Prop := Ct G yJ16_init cJ16_init 2 ((Option.none : Option Jvm.ClassFile.FieldType)) d mc ms av M post
def RJ20 : String := "java/util/TreeMap$PrivateEntryIterator"
abbrev cJ20_hasNext : ByteArray := prog_90_method_2_code
def yJ20_hasNext : MethodName := ⟨RJ20, "hasNext", "()Z"⟩
def dkwJ20_hasNext_0 : List UInt8 := [42, 180, 0, 26, 198, 0, 7, 4, 167, 0, 4, 3, 172]
abbrev dktJ20_hasNext_0 : List UInt8 := dkwJ20_hasNext_0 ++ []
theorem dksJ20_hasNext_0 : cJ20_hasNext.data.toList.drop 0 = dktJ20_hasNext_0 := by decide +kernel
theorem dJ20_hasNext_0 : decode cJ20_hasNext 0 = .ok (.aload_n 0, 1) := dk_42 (dk_at dksJ20_hasNext_0 0 rfl rfl)
theorem dJ20_hasNext_1 : decode cJ20_hasNext 1 = .ok (.getfield 26, 3) := dk_180 0 26 (dk_at dksJ20_hasNext_0 1 rfl rfl)
theorem dJ20_hasNext_4 : decode cJ20_hasNext 4 = .ok (.ifnull 7, 3) := dk_198 0 7 (dk_at dksJ20_hasNext_0 4 rfl rfl)
theorem dJ20_hasNext_7 : decode cJ20_hasNext 7 = .ok (.iconst 1, 1) := dk_4 (dk_at dksJ20_hasNext_0 7 rfl rfl)
theorem dJ20_hasNext_8 : decode cJ20_hasNext 8 = .ok (.goto 4, 3) := dk_167 0 4 (dk_at dksJ20_hasNext_0 8 rfl rfl)
theorem dJ20_hasNext_11 : decode cJ20_hasNext 11 = .ok (.iconst 0, 1) := dk_3 (dk_at dksJ20_hasNext_0 11 rfl rfl)
theorem dJ20_hasNext_12 : decode cJ20_hasNext 12 = .ok (.ireturn, 1) := dk_172 (dk_at dksJ20_hasNext_0 12 rfl rfl)
theorem yk_J20_hasNext : yk yJ20_hasNext 0 := by unfold yk; decide +kernel
abbrev KJ20_hasNext (G : Gx) (d mc ms : Nat) (av : List Sv) (M : Mem) (post : Option Sv → Mem → Prop) : Prop := Ct G yJ20_hasNext cJ20_hasNext 1 ((Option.some Jvm.ClassFile.FieldType.boolean)) d mc ms av M post
abbrev cJ20_init : ByteArray := prog_90_method_1_code
def yJ20_init : MethodName := ⟨RJ20, "<init>", "(Ljava/util/TreeMap;Ljava/util/TreeMap$Entry;)V"⟩
def dkwJ20_init_1 : List UInt8 := [181, 0, 26, 177]
abbrev dktJ20_init_1 : List UInt8 := dkwJ20_init_1 ++ []
def dkwJ20_init_0 : List UInt8 := [42, 43, 181, 0, 1, 42, 183, 0, 7, 42, 43, 180, 0, 13, 181, 0, 19, 42, 1, 181, 0, 22, 42, 44]
abbrev dktJ20_init_0 : List UInt8 := dkwJ20_init_0 ++ dktJ20_init_1
theorem dksJ20_init_0 : cJ20_init.data.toList.drop 0 = dktJ20_init_0 := by decide +kernel
theorem dksJ20_init_1 : cJ20_init.data.toList.drop 24 = dktJ20_init_1 := dk_seg dksJ20_init_0 24 rfl rfl
theorem dJ20_init_0 : decode cJ20_init 0 = .ok (.aload_n 0, 1) := dk_42 (dk_at dksJ20_init_0 0 rfl rfl)
theorem dJ20_init_1 : decode cJ20_init 1 = .ok (.aload_n 1, 1) := dk_43 (dk_at dksJ20_init_0 1 rfl rfl)
theorem dJ20_init_2 : decode cJ20_init 2 = .ok (.putfield 1, 3) := dk_181 0 1 (dk_at dksJ20_init_0 2 rfl rfl)
theorem dJ20_init_5 : decode cJ20_init 5 = .ok (.aload_n 0, 1) := dk_42 (dk_at dksJ20_init_0 5 rfl rfl)
theorem dJ20_init_6 : decode cJ20_init 6 = .ok (.invokespecial 7, 3) := dk_183 0 7 (dk_at dksJ20_init_0 6 rfl rfl)
theorem dJ20_init_9 : decode cJ20_init 9 = .ok (.aload_n 0, 1) := dk_42 (dk_at dksJ20_init_0 9 rfl rfl)
theorem dJ20_init_10 : decode cJ20_init 10 = .ok (.aload_n 1, 1) := dk_43 (dk_at dksJ20_init_0 10 rfl rfl)
theorem dJ20_init_11 : decode cJ20_init 11 = .ok (.getfield 13, 3) := dk_180 0 13 (dk_at dksJ20_init_0 11 rfl rfl)
theorem dJ20_init_14 : decode cJ20_init 14 = .ok (.putfield 19, 3) := dk_181 0 19 (dk_at dksJ20_init_0 14 rfl rfl)
theorem dJ20_init_17 : decode cJ20_init 17 = .ok (.aload_n 0, 1) := dk_42 (dk_at dksJ20_init_0 17 rfl rfl)
theorem dJ20_init_18 : decode cJ20_init 18 = .ok (.aconst_null, 1) := dk_1 (dk_at dksJ20_init_0 18 rfl rfl)
theorem dJ20_init_19 : decode cJ20_init 19 = .ok (.putfield 22, 3) := dk_181 0 22 (dk_at dksJ20_init_0 19 rfl rfl)
theorem dJ20_init_22 : decode cJ20_init 22 = .ok (.aload_n 0, 1) := dk_42 (dk_at dksJ20_init_0 22 rfl rfl)
theorem dJ20_init_23 : decode cJ20_init 23 = .ok (.aload_n 2, 1) := dk_44 (dk_at dksJ20_init_0 23 rfl rfl)
theorem dJ20_init_24 : decode cJ20_init 24 = .ok (.putfield 26, 3) := dk_181 0 26 (dk_at dksJ20_init_1 0 rfl rfl)
theorem dJ20_init_27 : decode cJ20_init 27 = .ok (.return_, 1) := dk_177 (dk_at dksJ20_init_1 3 rfl rfl)
theorem yk_J20_init : yk yJ20_init 2 := by unfold yk; decide +kernel
abbrev KJ20_init (G : Gx) (d mc ms : Nat) (av : List Sv) (M : Mem) (post : Option Sv → Mem → Prop) : Prop := Ct G yJ20_init cJ20_init 3 ((Option.none : Option Jvm.ClassFile.FieldType)) d mc ms av M post
abbrev cJ20_nextEntry : ByteArray := prog_90_method_3_code
def yJ20_nextEntry : MethodName := ⟨RJ20, "nextEntry", "()Ljava/util/TreeMap$Entry;"⟩
def dkwJ20_nextEntry_2 : List UInt8 := [43, 181, 0, 22, 43, 176]
abbrev dktJ20_nextEntry_2 : List UInt8 := dkwJ20_nextEntry_2 ++ []
def dkwJ20_nextEntry_1 : List UInt8 := [42, 180, 0, 19, 159, 0, 11, 187, 0, 32, 89, 183, 0, 34, 191, 42, 43, 184, 0, 35, 181, 0, 26, 42]
abbrev dktJ20_nextEntry_1 : List UInt8 := dkwJ20_nextEntry_1 ++ dktJ20_nextEntry_2
def dkwJ20_nextEntry_0 : List UInt8 := [42, 180, 0, 26, 76, 43, 199, 0, 11, 187, 0, 29, 89, 183, 0, 31, 191, 42, 180, 0, 1, 180, 0, 13]
abbrev dktJ20_nextEntry_0 : List UInt8 := dkwJ20_nextEntry_0 ++ dktJ20_nextEntry_1
theorem dksJ20_nextEntry_0 : cJ20_nextEntry.data.toList.drop 0 = dktJ20_nextEntry_0 := by decide +kernel
theorem dksJ20_nextEntry_1 : cJ20_nextEntry.data.toList.drop 24 = dktJ20_nextEntry_1 := dk_seg dksJ20_nextEntry_0 24 rfl rfl
theorem dksJ20_nextEntry_2 : cJ20_nextEntry.data.toList.drop 48 = dktJ20_nextEntry_2 := dk_seg dksJ20_nextEntry_1 24 rfl rfl
theorem dJ20_nextEntry_0 : decode cJ20_nextEntry 0 = .ok (.aload_n 0, 1) := dk_42 (dk_at dksJ20_nextEntry_0 0 rfl rfl)
theorem dJ20_nextEntry_1 : decode cJ20_nextEntry 1 = .ok (.getfield 26, 3) := dk_180 0 26 (dk_at dksJ20_nextEntry_0 1 rfl rfl)
theorem dJ20_nextEntry_4 : decode cJ20_nextEntry 4 = .ok (.astore_n 1, 1) := dk_76 (dk_at dksJ20_nextEntry_0 4 rfl rfl)
theorem dJ20_nextEntry_5 : decode cJ20_nextEntry 5 = .ok (.aload_n 1, 1) := dk_43 (dk_at dksJ20_nextEntry_0 5 rfl rfl)
theorem dJ20_nextEntry_6 : decode cJ20_nextEntry 6 = .ok (.ifnonnull 11, 3) := dk_199 0 11 (dk_at dksJ20_nextEntry_0 6 rfl rfl)
theorem dJ20_nextEntry_9 : decode cJ20_nextEntry 9 = .ok (.new 29, 3) := dk_187 0 29 (dk_at dksJ20_nextEntry_0 9 rfl rfl)
theorem dJ20_nextEntry_12 : decode cJ20_nextEntry 12 = .ok (.dup, 1) := dk_89 (dk_at dksJ20_nextEntry_0 12 rfl rfl)
theorem dJ20_nextEntry_13 : decode cJ20_nextEntry 13 = .ok (.invokespecial 31, 3) := dk_183 0 31 (dk_at dksJ20_nextEntry_0 13 rfl rfl)
theorem dJ20_nextEntry_16 : decode cJ20_nextEntry 16 = .ok (.athrow, 1) := dk_191 (dk_at dksJ20_nextEntry_0 16 rfl rfl)
theorem dJ20_nextEntry_17 : decode cJ20_nextEntry 17 = .ok (.aload_n 0, 1) := dk_42 (dk_at dksJ20_nextEntry_0 17 rfl rfl)
theorem dJ20_nextEntry_18 : decode cJ20_nextEntry 18 = .ok (.getfield 1, 3) := dk_180 0 1 (dk_at dksJ20_nextEntry_0 18 rfl rfl)
theorem dJ20_nextEntry_21 : decode cJ20_nextEntry 21 = .ok (.getfield 13, 3) := dk_180 0 13 (dk_at dksJ20_nextEntry_0 21 rfl rfl)
theorem dJ20_nextEntry_24 : decode cJ20_nextEntry 24 = .ok (.aload_n 0, 1) := dk_42 (dk_at dksJ20_nextEntry_1 0 rfl rfl)
theorem dJ20_nextEntry_25 : decode cJ20_nextEntry 25 = .ok (.getfield 19, 3) := dk_180 0 19 (dk_at dksJ20_nextEntry_1 1 rfl rfl)
theorem dJ20_nextEntry_28 : decode cJ20_nextEntry 28 = .ok (.if_icmp .eq 11, 3) := dk_159 0 11 (dk_at dksJ20_nextEntry_1 4 rfl rfl)
theorem dJ20_nextEntry_31 : decode cJ20_nextEntry 31 = .ok (.new 32, 3) := dk_187 0 32 (dk_at dksJ20_nextEntry_1 7 rfl rfl)
theorem dJ20_nextEntry_34 : decode cJ20_nextEntry 34 = .ok (.dup, 1) := dk_89 (dk_at dksJ20_nextEntry_1 10 rfl rfl)
theorem dJ20_nextEntry_35 : decode cJ20_nextEntry 35 = .ok (.invokespecial 34, 3) := dk_183 0 34 (dk_at dksJ20_nextEntry_1 11 rfl rfl)
theorem dJ20_nextEntry_38 : decode cJ20_nextEntry 38 = .ok (.athrow, 1) := dk_191 (dk_at dksJ20_nextEntry_1 14 rfl rfl)
theorem dJ20_nextEntry_39 : decode cJ20_nextEntry 39 = .ok (.aload_n 0, 1) := dk_42 (dk_at dksJ20_nextEntry_1 15 rfl rfl)
theorem dJ20_nextEntry_40 : decode cJ20_nextEntry 40 = .ok (.aload_n 1, 1) := dk_43 (dk_at dksJ20_nextEntry_1 16 rfl rfl)
theorem dJ20_nextEntry_41 : decode cJ20_nextEntry 41 = .ok (.invokestatic 35, 3) := dk_184 0 35 (dk_at dksJ20_nextEntry_1 17 rfl rfl)
theorem dJ20_nextEntry_44 : decode cJ20_nextEntry 44 = .ok (.putfield 26, 3) := dk_181 0 26 (dk_at dksJ20_nextEntry_1 20 rfl rfl)
theorem dJ20_nextEntry_47 : decode cJ20_nextEntry 47 = .ok (.aload_n 0, 1) := dk_42 (dk_at dksJ20_nextEntry_1 23 rfl rfl)
theorem dJ20_nextEntry_48 : decode cJ20_nextEntry 48 = .ok (.aload_n 1, 1) := dk_43 (dk_at dksJ20_nextEntry_2 0 rfl rfl)
theorem dJ20_nextEntry_49 : decode cJ20_nextEntry 49 = .ok (.putfield 22, 3) := dk_181 0 22 (dk_at dksJ20_nextEntry_2 1 rfl rfl)
theorem dJ20_nextEntry_52 : decode cJ20_nextEntry 52 = .ok (.aload_n 1, 1) := dk_43 (dk_at dksJ20_nextEntry_2 4 rfl rfl)
theorem dJ20_nextEntry_53 : decode cJ20_nextEntry 53 = .ok (.areturn, 1) := dk_176 (dk_at dksJ20_nextEntry_2 5 rfl rfl)
theorem yk_J20_nextEntry : yk yJ20_nextEntry 0 := by unfold yk; decide +kernel
abbrev KJ20_nextEntry (G : Gx) (d mc ms : Nat) (av : List Sv) (M : Mem) (post : Option Sv → Mem → Prop) : Prop := Ct G yJ20_nextEntry cJ20_nextEntry 2 ((Option.some (Jvm.ClassFile.FieldType.object "java/util/TreeMap$Entry"))) d mc ms av M post
abbrev cJ21_init : ByteArray := prog_85_method_1_code
def yJ21_init : MethodName := ⟨RJ21, "<init>", "(Ljava/util/TreeMap;Ljava/util/TreeMap$Entry;)V"⟩
def dkwJ21_init_0 : List UInt8 := [42, 43, 44, 183, 0, 1, 177]
abbrev dktJ21_init_0 : List UInt8 := dkwJ21_init_0 ++ []
theorem dksJ21_init_0 : cJ21_init.data.toList.drop 0 = dktJ21_init_0 := by decide +kernel
theorem dJ21_init_0 : decode cJ21_init 0 = .ok (.aload_n 0, 1) := dk_42 (dk_at dksJ21_init_0 0 rfl rfl)
theorem dJ21_init_1 : decode cJ21_init 1 = .ok (.aload_n 1, 1) := dk_43 (dk_at dksJ21_init_0 1 rfl rfl)
theorem dJ21_init_2 : decode cJ21_init 2 = .ok (.aload_n 2, 1) := dk_44 (dk_at dksJ21_init_0 2 rfl rfl)
theorem dJ21_init_3 : decode cJ21_init 3 = .ok (.invokespecial 1, 3) := dk_183 0 1 (dk_at dksJ21_init_0 3 rfl rfl)
theorem dJ21_init_6 : decode cJ21_init 6 = .ok (.return_, 1) := dk_177 (dk_at dksJ21_init_0 6 rfl rfl)
theorem yk_J21_init : yk yJ21_init 2 := by unfold yk; decide +kernel
abbrev KJ21_init (G : Gx) (d mc ms : Nat) (av : List Sv) (M : Mem) (post : Option Sv → Mem → Prop) : Prop := Ct G yJ21_init cJ21_init 3 ((Option.none : Option Jvm.ClassFile.FieldType)) d mc ms av M post
abbrev cJ21_next : ByteArray := prog_85_method_3_code
def yJ21_next : MethodName := ⟨RJ21, "next", "()Ljava/lang/Object;"⟩
theorem dJ21_next_0 : decode cJ21_next 0 = .ok (.aload_n 0, 1) := by decide +kernel
theorem dJ21_next_1 : decode cJ21_next 1 = .ok (.invokevirtual 13, 3) := by decide +kernel
theorem dJ21_next_4 : decode cJ21_next 4 = .ok (.areturn, 1) := by decide +kernel
theorem yk_J21_next : yk yJ21_next 0 := by unfold yk; decide +kernel
abbrev KJ21_next (G : Gx) (d mc ms : Nat) (av : List Sv) (M : Mem) (post : Option Sv → Mem → Prop) : Prop := Ct G yJ21_next cJ21_next 1 ((Option.some (Jvm.ClassFile.FieldType.object "java/lang/Object"))) d mc ms av M post
abbrev cJ21_next_2 : ByteArray := prog_85_method_2_code
def yJ21_next_2 : MethodName := ⟨RJ21, "next", "()Ljava/util/Map$Entry;"⟩
theorem dJ21_next_2_0 : decode cJ21_next_2 0 = .ok (.aload_n 0, 1) := by decide +kernel
theorem dJ21_next_2_1 : decode cJ21_next_2 1 = .ok (.invokevirtual 7, 3) := by decide +kernel
theorem dJ21_next_2_4 : decode cJ21_next_2 4 = .ok (.areturn, 1) := by decide +kernel
theorem yk_J21_next_2 : yk yJ21_next_2 0 := by unfold yk; decide +kernel
abbrev KJ21_next_2 (G : Gx) (d mc ms : Nat) (av : List Sv) (M : Mem) (post : Option Sv → Mem → Prop) : Prop := Ct G yJ21_next_2 cJ21_next_2 1 ((Option.some (Jvm.ClassFile.FieldType.object "java/util/Map$Entry"))) d mc ms av M post
abbrev cJ22_init : ByteArray := prog_87_method_1_code
def yJ22_init : MethodName := ⟨RJ22, "<init>", "(Ljava/util/TreeMap;Ljava/util/TreeMap$Entry;)V"⟩
def dkwJ22_init_0 : List UInt8 := [42, 43, 44, 183, 0, 1, 177]
abbrev dktJ22_init_0 : List UInt8 := dkwJ22_init_0 ++ []
theorem dksJ22_init_0 : cJ22_init.data.toList.drop 0 = dktJ22_init_0 := by decide +kernel
theorem dJ22_init_0 : decode cJ22_init 0 = .ok (.aload_n 0, 1) := dk_42 (dk_at dksJ22_init_0 0 rfl rfl)
theorem dJ22_init_1 : decode cJ22_init 1 = .ok (.aload_n 1, 1) := dk_43 (dk_at dksJ22_init_0 1 rfl rfl)
theorem dJ22_init_2 : decode cJ22_init 2 = .ok (.aload_n 2, 1) := dk_44 (dk_at dksJ22_init_0 2 rfl rfl)
theorem dJ22_init_3 : decode cJ22_init 3 = .ok (.invokespecial 1, 3) := dk_183 0 1 (dk_at dksJ22_init_0 3 rfl rfl)
theorem dJ22_init_6 : decode cJ22_init 6 = .ok (.return_, 1) := dk_177 (dk_at dksJ22_init_0 6 rfl rfl)
theorem yk_J22_init : yk yJ22_init 2 := by unfold yk; decide +kernel
abbrev KJ22_init (G : Gx) (d mc ms : Nat) (av : List Sv) (M : Mem) (post : Option Sv → Mem → Prop) : Prop := Ct G yJ22_init cJ22_init 3 ((Option.none : Option Jvm.ClassFile.FieldType)) d mc ms av M post
abbrev cJ22_next : ByteArray := prog_87_method_2_code
def yJ22_next : MethodName := ⟨RJ22, "next", "()Ljava/lang/Object;"⟩
def dkwJ22_next_0 : List UInt8 := [42, 182, 0, 7, 180, 0, 13, 176]
abbrev dktJ22_next_0 : List UInt8 := dkwJ22_next_0 ++ []
theorem dksJ22_next_0 : cJ22_next.data.toList.drop 0 = dktJ22_next_0 := by decide +kernel
theorem dJ22_next_0 : decode cJ22_next 0 = .ok (.aload_n 0, 1) := dk_42 (dk_at dksJ22_next_0 0 rfl rfl)
theorem dJ22_next_1 : decode cJ22_next 1 = .ok (.invokevirtual 7, 3) := dk_182 0 7 (dk_at dksJ22_next_0 1 rfl rfl)
theorem dJ22_next_4 : decode cJ22_next 4 = .ok (.getfield 13, 3) := dk_180 0 13 (dk_at dksJ22_next_0 4 rfl rfl)
theorem dJ22_next_7 : decode cJ22_next 7 = .ok (.areturn, 1) := dk_176 (dk_at dksJ22_next_0 7 rfl rfl)
theorem yk_J22_next : yk yJ22_next 0 := by unfold yk; decide +kernel
abbrev KJ22_next (G : Gx) (d mc ms : Nat) (av : List Sv) (M : Mem) (post : Option Sv → Mem → Prop) : Prop := Ct G yJ22_next cJ22_next 1 ((Option.some (Jvm.ClassFile.FieldType.object "java/lang/Object"))) d mc ms av M post
def RJ3 : String := "java/util/AbstractCollection"
abbrev cJ3_init : ByteArray := prog_40_method_1_code
def yJ3_init : MethodName := ⟨RJ3, "<init>", "()V"⟩
theorem dJ3_init_0 : decode cJ3_init 0 = .ok (.aload_n 0, 1) := by decide +kernel
theorem dJ3_init_1 : decode cJ3_init 1 = .ok (.invokespecial 1, 3) := by decide +kernel
theorem dJ3_init_4 : decode cJ3_init 4 = .ok (.return_, 1) := by decide +kernel
theorem yk_J3_init : yk yJ3_init 0 := by unfold yk; decide +kernel
abbrev KJ3_init (G : Gx) (d mc ms : Nat) (av : List Sv) (M : Mem) (post : Option Sv → Mem → Prop) : Prop := Ct G yJ3_init cJ3_init 1 ((Option.none : Option Jvm.ClassFile.FieldType)) d mc ms av M post
abbrev cJ43_init : ByteArray := prog_88_method_1_code
def yJ43_init : MethodName := ⟨RJ43, "<init>", "(Ljava/util/NavigableMap;)V"⟩
def dkwJ43_init_0 : List UInt8 := [42, 183, 0, 1, 42, 43, 181, 0, 7, 177]
abbrev dktJ43_init_0 : List UInt8 := dkwJ43_init_0 ++ []
theorem dksJ43_init_0 : cJ43_init.data.toList.drop 0 = dktJ43_init_0 := by decide +kernel
theorem dJ43_init_0 : decode cJ43_init 0 = .ok (.aload_n 0, 1) := dk_42 (dk_at dksJ43_init_0 0 rfl rfl)
theorem dJ43_init_1 : decode cJ43_init 1 = .ok (.invokespecial 1, 3) := dk_183 0 1 (dk_at dksJ43_init_0 1 rfl rfl)
theorem dJ43_init_4 : decode cJ43_init 4 = .ok (.aload_n 0, 1) := dk_42 (dk_at dksJ43_init_0 4 rfl rfl)
theorem dJ43_init_5 : decode cJ43_init 5 = .ok (.aload_n 1, 1) := dk_43 (dk_at dksJ43_init_0 5 rfl rfl)
theorem dJ43_init_6 : decode cJ43_init 6 = .ok (.putfield 7, 3) := dk_181 0 7 (dk_at dksJ43_init_0 6 rfl rfl)
theorem dJ43_init_9 : decode cJ43_init 9 = .ok (.return_, 1) := dk_177 (dk_at dksJ43_init_0 9 rfl rfl)
theorem yk_J43_init : yk yJ43_init 1 := by unfold yk; decide +kernel
abbrev KJ43_init (G : Gx) (d mc ms : Nat) (av : List Sv) (M : Mem) (post : Option Sv → Mem → Prop) : Prop := Ct G yJ43_init cJ43_init 2 ((Option.none : Option Jvm.ClassFile.FieldType)) d mc ms av M post
abbrev cJ51_init : ByteArray := prog_92_method_1_code
def yJ51_init : MethodName := ⟨RJ51, "<init>", "(Ljava/util/TreeMap;)V"⟩
def dkwJ51_init_0 : List UInt8 := [42, 43, 181, 0, 1, 42, 183, 0, 7, 177]
abbrev dktJ51_init_0 : List UInt8 := dkwJ51_init_0 ++ []
theorem dksJ51_init_0 : cJ51_init.data.toList.drop 0 = dktJ51_init_0 := by decide +kernel
theorem dJ51_init_0 : decode cJ51_init 0 = .ok (.aload_n 0, 1) := dk_42 (dk_at dksJ51_init_0 0 rfl rfl)
theorem dJ51_init_1 : decode cJ51_init 1 = .ok (.aload_n 1, 1) := dk_43 (dk_at dksJ51_init_0 1 rfl rfl)
theorem dJ51_init_2 : decode cJ51_init 2 = .ok (.putfield 1, 3) := dk_181 0 1 (dk_at dksJ51_init_0 2 rfl rfl)
theorem dJ51_init_5 : decode cJ51_init 5 = .ok (.aload_n 0, 1) := dk_42 (dk_at dksJ51_init_0 5 rfl rfl)
theorem dJ51_init_6 : decode cJ51_init 6 = .ok (.invokespecial 7, 3) := dk_183 0 7 (dk_at dksJ51_init_0 6 rfl rfl)
theorem dJ51_init_9 : decode cJ51_init 9 = .ok (.return_, 1) := dk_177 (dk_at dksJ51_init_0 9 rfl rfl)
theorem yk_J51_init : yk yJ51_init 1 := by unfold yk; decide +kernel
abbrev KJ51_init (G : Gx) (d mc ms : Nat) (av : List Sv) (M : Mem) (post : Option Sv → Mem → Prop) : Prop := Ct G yJ51_init cJ51_init 2 ((Option.none : Option Jvm.ClassFile.FieldType)) d mc ms av M post
abbrev cJ55_init : ByteArray := prog_91_method_1_code
def yJ55_init : MethodName := ⟨RJ55, "<init>", "(Ljava/util/TreeMap;Ljava/util/TreeMap$Entry;)V"⟩
def dkwJ55_init_0 : List UInt8 := [42, 43, 44, 183, 0, 1, 177]
abbrev dktJ55_init_0 : List UInt8 := dkwJ55_init_0 ++ []
theorem dksJ55_init_0 : cJ55_init.data.toList.drop 0 = dktJ55_init_0 := by decide +kernel
theorem dJ55_init_0 : decode cJ55_init 0 = .ok (.aload_n 0, 1) := dk_42 (dk_at dksJ55_init_0 0 rfl rfl)
theorem dJ55_init_1 : decode cJ55_init 1 = .ok (.aload_n 1, 1) := dk_43 (dk_at dksJ55_init_0 1 rfl rfl)
theorem dJ55_init_2 : decode cJ55_init 2 = .ok (.aload_n 2, 1) := dk_44 (dk_at dksJ55_init_0 2 rfl rfl)
theorem dJ55_init_3 : decode cJ55_init 3 = .ok (.invokespecial 1, 3) := dk_183 0 1 (dk_at dksJ55_init_0 3 rfl rfl)
theorem dJ55_init_6 : decode cJ55_init 6 = .ok (.return_, 1) := dk_177 (dk_at dksJ55_init_0 6 rfl rfl)
theorem yk_J55_init : yk yJ55_init 2 := by unfold yk; decide +kernel
abbrev KJ55_init (G : Gx) (d mc ms : Nat) (av : List Sv) (M : Mem) (post : Option Sv → Mem → Prop) : Prop := Ct G yJ55_init cJ55_init 3 ((Option.none : Option Jvm.ClassFile.FieldType)) d mc ms av M post
abbrev cJ55_next : ByteArray := prog_91_method_2_code
def yJ55_next : MethodName := ⟨RJ55, "next", "()Ljava/lang/Object;"⟩
def dkwJ55_next_0 : List UInt8 := [42, 182, 0, 7, 180, 0, 13, 176]
abbrev dktJ55_next_0 : List UInt8 := dkwJ55_next_0 ++ []
theorem dksJ55_next_0 : cJ55_next.data.toList.drop 0 = dktJ55_next_0 := by decide +kernel
theorem dJ55_next_0 : decode cJ55_next 0 = .ok (.aload_n 0, 1) := dk_42 (dk_at dksJ55_next_0 0 rfl rfl)
theorem dJ55_next_1 : decode cJ55_next 1 = .ok (.invokevirtual 7, 3) := dk_182 0 7 (dk_at dksJ55_next_0 1 rfl rfl)
theorem dJ55_next_4 : decode cJ55_next 4 = .ok (.getfield 13, 3) := dk_180 0 13 (dk_at dksJ55_next_0 4 rfl rfl)
theorem dJ55_next_7 : decode cJ55_next 7 = .ok (.areturn, 1) := dk_176 (dk_at dksJ55_next_0 7 rfl rfl)
theorem yk_J55_next : yk yJ55_next 0 := by unfold yk; decide +kernel
abbrev KJ55_next (G : Gx) (d mc ms : Nat) (av : List Sv) (M : Mem) (post : Option Sv → Mem → Prop) : Prop := Ct G yJ55_next cJ55_next 1 ((Option.some (Jvm.ClassFile.FieldType.object "java/lang/Object"))) d mc ms av M post
abbrev cJ6_entrySet : ByteArray := prog_83_method_53_code
def yJ6_entrySet : MethodName := ⟨RJ6, "entrySet", "()Ljava/util/Set;"⟩
def dkwJ6_entrySet_1 : List UInt8 := [181, 0, 188, 176]
abbrev dktJ6_entrySet_1 : List UInt8 := dkwJ6_entrySet_1 ++ []
def dkwJ6_entrySet_0 : List UInt8 := [42, 180, 0, 188, 76, 43, 198, 0, 7, 43, 167, 0, 16, 42, 187, 0, 242, 89, 42, 183, 0, 244, 90]
abbrev dktJ6_entrySet_0 : List UInt8 := dkwJ6_entrySet_0 ++ dktJ6_entrySet_1
theorem dksJ6_entrySet_0 : cJ6_entrySet.data.toList.drop 0 = dktJ6_entrySet_0 := by decide +kernel
theorem dksJ6_entrySet_1 : cJ6_entrySet.data.toList.drop 23 = dktJ6_entrySet_1 := dk_seg dksJ6_entrySet_0 23 rfl rfl
theorem dJ6_entrySet_0 : decode cJ6_entrySet 0 = .ok (.aload_n 0, 1) := dk_42 (dk_at dksJ6_entrySet_0 0 rfl rfl)
theorem dJ6_entrySet_1 : decode cJ6_entrySet 1 = .ok (.getfield 188, 3) := dk_180 0 188 (dk_at dksJ6_entrySet_0 1 rfl rfl)
theorem dJ6_entrySet_4 : decode cJ6_entrySet 4 = .ok (.astore_n 1, 1) := dk_76 (dk_at dksJ6_entrySet_0 4 rfl rfl)
theorem dJ6_entrySet_5 : decode cJ6_entrySet 5 = .ok (.aload_n 1, 1) := dk_43 (dk_at dksJ6_entrySet_0 5 rfl rfl)
theorem dJ6_entrySet_6 : decode cJ6_entrySet 6 = .ok (.ifnull 7, 3) := dk_198 0 7 (dk_at dksJ6_entrySet_0 6 rfl rfl)
theorem dJ6_entrySet_9 : decode cJ6_entrySet 9 = .ok (.aload_n 1, 1) := dk_43 (dk_at dksJ6_entrySet_0 9 rfl rfl)
theorem dJ6_entrySet_10 : decode cJ6_entrySet 10 = .ok (.goto 16, 3) := dk_167 0 16 (dk_at dksJ6_entrySet_0 10 rfl rfl)
theorem dJ6_entrySet_13 : decode cJ6_entrySet 13 = .ok (.aload_n 0, 1) := dk_42 (dk_at dksJ6_entrySet_0 13 rfl rfl)
theorem dJ6_entrySet_14 : decode cJ6_entrySet 14 = .ok (.new 242, 3) := dk_187 0 242 (dk_at dksJ6_entrySet_0 14 rfl rfl)
theorem dJ6_entrySet_17 : decode cJ6_entrySet 17 = .ok (.dup, 1) := dk_89 (dk_at dksJ6_entrySet_0 17 rfl rfl)
theorem dJ6_entrySet_18 : decode cJ6_entrySet 18 = .ok (.aload_n 0, 1) := dk_42 (dk_at dksJ6_entrySet_0 18 rfl rfl)
theorem dJ6_entrySet_19 : decode cJ6_entrySet 19 = .ok (.invokespecial 244, 3) := dk_183 0 244 (dk_at dksJ6_entrySet_0 19 rfl rfl)
theorem dJ6_entrySet_22 : decode cJ6_entrySet 22 = .ok (.dup_x1, 1) := dk_90 (dk_at dksJ6_entrySet_0 22 rfl rfl)
theorem dJ6_entrySet_23 : decode cJ6_entrySet 23 = .ok (.putfield 188, 3) := dk_181 0 188 (dk_at dksJ6_entrySet_1 0 rfl rfl)
theorem dJ6_entrySet_26 : decode cJ6_entrySet 26 = .ok (.areturn, 1) := dk_176 (dk_at dksJ6_entrySet_1 3 rfl rfl)
theorem yk_J6_entrySet : yk yJ6_entrySet 0 := by unfold yk; decide +kernel
abbrev KJ6_entrySet (G : Gx) (d mc ms : Nat) (av : List Sv) (M : Mem) (post : Option Sv → Mem → Prop) : Prop := Ct G yJ6_entrySet cJ6_entrySet 2 ((Option.some (Jvm.ClassFile.FieldType.object "java/util/Set"))) d mc ms av M post
abbrev cJ6_init : ByteArray := prog_83_method_1_code
def yJ6_init : MethodName := ⟨RJ6, "<init>", "()V"⟩
def dkwJ6_init_0 : List UInt8 := [42, 183, 0, 1, 42, 3, 181, 0, 7, 42, 3, 181, 0, 13, 42, 1, 181, 0, 16, 177]
abbrev dktJ6_init_0 : List UInt8 := dkwJ6_init_0 ++ []
theorem dksJ6_init_0 : cJ6_init.data.toList.drop 0 = dktJ6_init_0 := by decide +kernel
theorem dJ6_init_0 : decode cJ6_init 0 = .ok (.aload_n 0, 1) := dk_42 (dk_at dksJ6_init_0 0 rfl rfl)
theorem dJ6_init_1 : decode cJ6_init 1 = .ok (.invokespecial 1, 3) := dk_183 0 1 (dk_at dksJ6_init_0 1 rfl rfl)
theorem dJ6_init_4 : decode cJ6_init 4 = .ok (.aload_n 0, 1) := dk_42 (dk_at dksJ6_init_0 4 rfl rfl)
theorem dJ6_init_5 : decode cJ6_init 5 = .ok (.iconst 0, 1) := dk_3 (dk_at dksJ6_init_0 5 rfl rfl)
theorem dJ6_init_6 : decode cJ6_init 6 = .ok (.putfield 7, 3) := dk_181 0 7 (dk_at dksJ6_init_0 6 rfl rfl)
theorem dJ6_init_9 : decode cJ6_init 9 = .ok (.aload_n 0, 1) := dk_42 (dk_at dksJ6_init_0 9 rfl rfl)
theorem dJ6_init_10 : decode cJ6_init 10 = .ok (.iconst 0, 1) := dk_3 (dk_at dksJ6_init_0 10 rfl rfl)
theorem dJ6_init_11 : decode cJ6_init 11 = .ok (.putfield 13, 3) := dk_181 0 13 (dk_at dksJ6_init_0 11 rfl rfl)
theorem dJ6_init_14 : decode cJ6_init 14 = .ok (.aload_n 0, 1) := dk_42 (dk_at dksJ6_init_0 14 rfl rfl)
theorem dJ6_init_15 : decode cJ6_init 15 = .ok (.aconst_null, 1) := dk_1 (dk_at dksJ6_init_0 15 rfl rfl)
theorem dJ6_init_16 : decode cJ6_init 16 = .ok (.putfield 16, 3) := dk_181 0 16 (dk_at dksJ6_init_0 16 rfl rfl)
theorem dJ6_init_19 : decode cJ6_init 19 = .ok (.return_, 1) := dk_177 (dk_at dksJ6_init_0 19 rfl rfl)
theorem yk_J6_init : yk yJ6_init 0 := by unfold yk; decide +kernel
abbrev KJ6_init (G : Gx) (d mc ms : Nat) (av : List Sv) (M : Mem) (post : Option Sv → Mem → Prop) : Prop := Ct G yJ6_init cJ6_init 1 ((Option.none : Option Jvm.ClassFile.FieldType)) d mc ms av M post
abbrev cJ6_keySet : ByteArray := prog_83_method_49_code
def yJ6_keySet : MethodName := ⟨RJ6, "keySet", "()Ljava/util/Set;"⟩
theorem dJ6_keySet_0 : decode cJ6_keySet 0 = .ok (.aload_n 0, 1) := by decide +kernel
theorem dJ6_keySet_1 : decode cJ6_keySet 1 = .ok (.invokevirtual 219, 3) := by decide +kernel
theorem dJ6_keySet_4 : decode cJ6_keySet 4 = .ok (.areturn, 1) := by decide +kernel
theorem yk_J6_keySet : yk yJ6_keySet 0 := by unfold yk; decide +kernel
abbrev KJ6_keySet (G : Gx) (d mc ms : Nat) (av : List Sv) (M : Mem) (post : Option Sv → Mem → Prop) : Prop := Ct G yJ6_keySet cJ6_keySet 1 ((Option.some (Jvm.ClassFile.FieldType.object "java/util/Set"))) d mc ms av M post
abbrev cJ6_navigableKeySet : ByteArray := prog_83_method_50_code
def yJ6_navigableKeySet : MethodName := ⟨RJ6, "navigableKeySet", "()Ljava/util/NavigableSet;"⟩
def dkwJ6_navigableKeySet_1 : List UInt8 := [181, 0, 191, 176]
abbrev dktJ6_navigableKeySet_1 : List UInt8 := dkwJ6_navigableKeySet_1 ++ []
def dkwJ6_navigableKeySet_0 : List UInt8 := [42, 180, 0, 191, 76, 43, 198, 0, 7, 43, 167, 0, 16, 42, 187, 0, 222, 89, 42, 183, 0, 224, 90]
abbrev dktJ6_navigableKeySet_0 : List UInt8 := dkwJ6_navigableKeySet_0 ++ dktJ6_navigableKeySet_1
theorem dksJ6_navigableKeySet_0 : cJ6_navigableKeySet.data.toList.drop 0 = dktJ6_navigableKeySet_0 := by decide +kernel
theorem dksJ6_navigableKeySet_1 : cJ6_navigableKeySet.data.toList.drop 23 = dktJ6_navigableKeySet_1 := dk_seg dksJ6_navigableKeySet_0 23 rfl rfl
theorem dJ6_navigableKeySet_0 : decode cJ6_navigableKeySet 0 = .ok (.aload_n 0, 1) := dk_42 (dk_at dksJ6_navigableKeySet_0 0 rfl rfl)
theorem dJ6_navigableKeySet_1 : decode cJ6_navigableKeySet 1 = .ok (.getfield 191, 3) := dk_180 0 191 (dk_at dksJ6_navigableKeySet_0 1 rfl rfl)
theorem dJ6_navigableKeySet_4 : decode cJ6_navigableKeySet 4 = .ok (.astore_n 1, 1) := dk_76 (dk_at dksJ6_navigableKeySet_0 4 rfl rfl)
theorem dJ6_navigableKeySet_5 : decode cJ6_navigableKeySet 5 = .ok (.aload_n 1, 1) := dk_43 (dk_at dksJ6_navigableKeySet_0 5 rfl rfl)
theorem dJ6_navigableKeySet_6 : decode cJ6_navigableKeySet 6 = .ok (.ifnull 7, 3) := dk_198 0 7 (dk_at dksJ6_navigableKeySet_0 6 rfl rfl)
theorem dJ6_navigableKeySet_9 : decode cJ6_navigableKeySet 9 = .ok (.aload_n 1, 1) := dk_43 (dk_at dksJ6_navigableKeySet_0 9 rfl rfl)
theorem dJ6_navigableKeySet_10 : decode cJ6_navigableKeySet 10 = .ok (.goto 16, 3) := dk_167 0 16 (dk_at dksJ6_navigableKeySet_0 10 rfl rfl)
theorem dJ6_navigableKeySet_13 : decode cJ6_navigableKeySet 13 = .ok (.aload_n 0, 1) := dk_42 (dk_at dksJ6_navigableKeySet_0 13 rfl rfl)
theorem dJ6_navigableKeySet_14 : decode cJ6_navigableKeySet 14 = .ok (.new 222, 3) := dk_187 0 222 (dk_at dksJ6_navigableKeySet_0 14 rfl rfl)
theorem dJ6_navigableKeySet_17 : decode cJ6_navigableKeySet 17 = .ok (.dup, 1) := dk_89 (dk_at dksJ6_navigableKeySet_0 17 rfl rfl)
theorem dJ6_navigableKeySet_18 : decode cJ6_navigableKeySet 18 = .ok (.aload_n 0, 1) := dk_42 (dk_at dksJ6_navigableKeySet_0 18 rfl rfl)
theorem dJ6_navigableKeySet_19 : decode cJ6_navigableKeySet 19 = .ok (.invokespecial 224, 3) := dk_183 0 224 (dk_at dksJ6_navigableKeySet_0 19 rfl rfl)
theorem dJ6_navigableKeySet_22 : decode cJ6_navigableKeySet 22 = .ok (.dup_x1, 1) := dk_90 (dk_at dksJ6_navigableKeySet_0 22 rfl rfl)
theorem dJ6_navigableKeySet_23 : decode cJ6_navigableKeySet 23 = .ok (.putfield 191, 3) := dk_181 0 191 (dk_at dksJ6_navigableKeySet_1 0 rfl rfl)
theorem dJ6_navigableKeySet_26 : decode cJ6_navigableKeySet 26 = .ok (.areturn, 1) := dk_176 (dk_at dksJ6_navigableKeySet_1 3 rfl rfl)
theorem yk_J6_navigableKeySet : yk yJ6_navigableKeySet 0 := by unfold yk; decide +kernel
abbrev KJ6_navigableKeySet (G : Gx) (d mc ms : Nat) (av : List Sv) (M : Mem) (post : Option Sv → Mem → Prop) : Prop := Ct G yJ6_navigableKeySet cJ6_navigableKeySet 2 ((Option.some (Jvm.ClassFile.FieldType.object "java/util/NavigableSet"))) d mc ms av M post
abbrev cJ6_values : ByteArray := prog_83_method_52_code
def yJ6_values : MethodName := ⟨RJ6, "values", "()Ljava/util/Collection;"⟩
def dkwJ6_values_1 : List UInt8 := [176]
abbrev dktJ6_values_1 : List UInt8 := dkwJ6_values_1 ++ []
def dkwJ6_values_0 : List UInt8 := [42, 180, 0, 233, 76, 43, 199, 0, 17, 187, 0, 237, 89, 42, 183, 0, 239, 76, 42, 43, 181, 0, 233, 43]
abbrev dktJ6_values_0 : List UInt8 := dkwJ6_values_0 ++ dktJ6_values_1
theorem dksJ6_values_0 : cJ6_values.data.toList.drop 0 = dktJ6_values_0 := by decide +kernel
theorem dksJ6_values_1 : cJ6_values.data.toList.drop 24 = dktJ6_values_1 := dk_seg dksJ6_values_0 24 rfl rfl
theorem dJ6_values_0 : decode cJ6_values 0 = .ok (.aload_n 0, 1) := dk_42 (dk_at dksJ6_values_0 0 rfl rfl)
theorem dJ6_values_1 : decode cJ6_values 1 = .ok (.getfield 233, 3) := dk_180 0 233 (dk_at dksJ6_values_0 1 rfl rfl)
theorem dJ6_values_4 : decode cJ6_values 4 = .ok (.astore_n 1, 1) := dk_76 (dk_at dksJ6_values_0 4 rfl rfl)
theorem dJ6_values_5 : decode cJ6_values 5 = .ok (.aload_n 1, 1) := dk_43 (dk_at dksJ6_values_0 5 rfl rfl)
theorem dJ6_values_6 : decode cJ6_values 6 = .ok (.ifnonnull 17, 3) := dk_199 0 17 (dk_at dksJ6_values_0 6 rfl rfl)
theorem dJ6_values_9 : decode cJ6_values 9 = .ok (.new 237, 3) := dk_187 0 237 (dk_at dksJ6_values_0 9 rfl rfl)
theorem dJ6_values_12 : decode cJ6_values 12 = .ok (.dup, 1) := dk_89 (dk_at dksJ6_values_0 12 rfl rfl)
theorem dJ6_values_13 : decode cJ6_values 13 = .ok (.aload_n 0, 1) := dk_42 (dk_at dksJ6_values_0 13 rfl rfl)
theorem dJ6_values_14 : decode cJ6_values 14 = .ok (.invokespecial 239, 3) := dk_183 0 239 (dk_at dksJ6_values_0 14 rfl rfl)
theorem dJ6_values_17 : decode cJ6_values 17 = .ok (.astore_n 1, 1) := dk_76 (dk_at dksJ6_values_0 17 rfl rfl)
theorem dJ6_values_18 : decode cJ6_values 18 = .ok (.aload_n 0, 1) := dk_42 (dk_at dksJ6_values_0 18 rfl rfl)
theorem dJ6_values_19 : decode cJ6_values 19 = .ok (.aload_n 1, 1) := dk_43 (dk_at dksJ6_values_0 19 rfl rfl)
theorem dJ6_values_20 : decode cJ6_values 20 = .ok (.putfield 233, 3) := dk_181 0 233 (dk_at dksJ6_values_0 20 rfl rfl)
theorem dJ6_values_23 : decode cJ6_values 23 = .ok (.aload_n 1, 1) := dk_43 (dk_at dksJ6_values_0 23 rfl rfl)
theorem dJ6_values_24 : decode cJ6_values 24 = .ok (.areturn, 1) := dk_176 (dk_at dksJ6_values_1 0 rfl rfl)
theorem yk_J6_values : yk yJ6_values 0 := by unfold yk; decide +kernel
abbrev KJ6_values (G : Gx) (d mc ms : Nat) (av : List Sv) (M : Mem) (post : Option Sv → Mem → Prop) : Prop := Ct G yJ6_values cJ6_values 2 ((Option.some (Jvm.ClassFile.FieldType.object "java/util/Collection"))) d mc ms av M post
theorem q52 : (Jvm.Cond.initialized "java/util/AbstractMap") ∈ lw_all := lw_g (lw_at lw_m1 4 rfl) rfl
theorem q56 : (Jvm.Cond.initialized "java/util/AbstractCollection") ∈ lw_all := lw_g (lw_at lw_m1 8 rfl) rfl
theorem q69 : (Jvm.Cond.initialized "java/util/AbstractSet") ∈ lw_all := lw_g (lw_at lw_m1 21 rfl) rfl
theorem q71 : (Jvm.Cond.initialized "java/util/TreeMap$EntrySet") ∈ lw_all := lw_g (lw_at lw_m1 23 rfl) rfl
theorem q75 : (Jvm.Cond.initialized "java/util/TreeMap$PrivateEntryIterator") ∈ lw_all := lw_g (lw_at lw_m1 27 rfl) rfl
theorem q76 : (Jvm.Cond.initialized "java/util/TreeMap$EntryIterator") ∈ lw_all := lw_g (lw_at lw_m1 28 rfl) rfl
theorem q99 : (Jvm.Cond.initialized "java/util/TreeMap$KeySet") ∈ lw_all := lw_g (lw_at lw_m1 51 rfl) rfl
theorem q111 : (Jvm.Cond.initialized "java/util/TreeMap$Values") ∈ lw_all := lw_g (lw_at lw_m1 63 rfl) rfl
theorem q166 : (Jvm.Cond.instanceMethod ({ cls := "java/util/AbstractMap", name := "<init>", desc := "()V" } : Jvm.MethodName)) ∈ lw_all := lw_g (lw_at lw_m1 118 rfl) rfl
theorem q167 : (Jvm.Cond.code ({ cls := "java/util/AbstractMap", name := "<init>", desc := "()V" } : Jvm.MethodName) prog_42_method_1_code (1 : Nat) (Option.none : Option Jvm.ClassFile.FieldType)) ∈ lw_all := lw_g (lw_at lw_m1 119 rfl) rfl
theorem q168 : (Jvm.Cond.methodLink "java/util/AbstractMap" (1 : Nat) ({ cls := "java/lang/Object", name := "<init>", desc := "()V" } : Jvm.MethodName)) ∈ lw_all := lw_g (lw_at lw_m1 120 rfl) rfl
theorem q191 : (Jvm.Cond.fieldLink "java/util/TreeMap" (233 : Nat) "java/util/TreeMap" "values" "Ljava/util/Collection;") ∈ lw_all := lw_g (lw_at lw_m1 143 rfl) rfl
theorem q192 : (Jvm.Cond.sameField "java/util/TreeMap" "java/util/AbstractMap" "values" "Ljava/util/Collection;") ∈ lw_all := lw_g (lw_at lw_m1 144 rfl) rfl
theorem q246 : (Jvm.Cond.instanceMethod ({ cls := "java/util/AbstractCollection", name := "<init>", desc := "()V" } : Jvm.MethodName)) ∈ lw_all := lw_g (lw_at lw_m1 198 rfl) rfl
theorem q247 : (Jvm.Cond.code ({ cls := "java/util/AbstractCollection", name := "<init>", desc := "()V" } : Jvm.MethodName) prog_40_method_1_code (1 : Nat) (Option.none : Option Jvm.ClassFile.FieldType)) ∈ lw_all := lw_g (lw_at lw_m1 199 rfl) rfl
theorem q248 : (Jvm.Cond.methodLink "java/util/AbstractCollection" (1 : Nat) ({ cls := "java/lang/Object", name := "<init>", desc := "()V" } : Jvm.MethodName)) ∈ lw_all := lw_g (lw_at lw_m1 200 rfl) rfl
theorem q271 : (Jvm.Cond.methodLink "java/util/TreeMap" (1 : Nat) ({ cls := "java/util/AbstractMap", name := "<init>", desc := "()V" } : Jvm.MethodName)) ∈ lw_all := lw_g (lw_at lw_m1 223 rfl) rfl
theorem q276 : (Jvm.Cond.fieldLinkNest "java/util/TreeMap$PrivateEntryIterator" (13 : Nat) "java/util/TreeMap" "modCount" "I" "java/util/TreeMap") ∈ lw_tbl := lw_at lw_m1 228 rfl
theorem q277 : (Jvm.Cond.fieldLink "java/util/TreeMap" (188 : Nat) "java/util/TreeMap" "entrySet" "Ljava/util/TreeMap$EntrySet;") ∈ lw_all := lw_g (lw_at lw_m1 229 rfl) rfl
theorem q278 : (Jvm.Cond.fieldLink "java/util/TreeMap" (191 : Nat) "java/util/TreeMap" "navigableKeySet" "Ljava/util/TreeMap$KeySet;") ∈ lw_all := lw_g (lw_at lw_m1 230 rfl) rfl
theorem q586 : (Jvm.Cond.instanceMethod ({ cls := "java/util/AbstractSet", name := "<init>", desc := "()V" } : Jvm.MethodName)) ∈ lw_all := lw_g (lw_at lw_m3 58 rfl) rfl
theorem q587 : (Jvm.Cond.code ({ cls := "java/util/AbstractSet", name := "<init>", desc := "()V" } : Jvm.MethodName) prog_44_method_1_code (1 : Nat) (Option.none : Option Jvm.ClassFile.FieldType)) ∈ lw_all := lw_g (lw_at lw_m3 59 rfl) rfl
theorem q588 : (Jvm.Cond.methodLink "java/util/AbstractSet" (1 : Nat) ({ cls := "java/util/AbstractCollection", name := "<init>", desc := "()V" } : Jvm.MethodName)) ∈ lw_all := lw_g (lw_at lw_m3 60 rfl) rfl
theorem q602 : (Jvm.Cond.classLink "java/util/TreeMap" (242 : Nat) "java/util/TreeMap$EntrySet") ∈ lw_all := lw_g (lw_at lw_m3 74 rfl) rfl
theorem q603 : (Jvm.Cond.instantiable "java/util/TreeMap$EntrySet" (1 : Nat)) ∈ lw_all := lw_g (lw_at lw_m3 75 rfl) rfl
theorem q604 : (Jvm.Cond.methodLink "java/util/TreeMap" (244 : Nat) ({ cls := "java/util/TreeMap$EntrySet", name := "<init>", desc := "(Ljava/util/TreeMap;)V" } : Jvm.MethodName)) ∈ lw_all := lw_g (lw_at lw_m3 76 rfl) rfl
theorem q605 : (Jvm.Cond.instanceMethod ({ cls := "java/util/TreeMap$EntrySet", name := "<init>", desc := "(Ljava/util/TreeMap;)V" } : Jvm.MethodName)) ∈ lw_all := lw_g (lw_at lw_m3 77 rfl) rfl
theorem q606 : (Jvm.Cond.code ({ cls := "java/util/TreeMap$EntrySet", name := "<init>", desc := "(Ljava/util/TreeMap;)V" } : Jvm.MethodName) prog_86_method_1_code (2 : Nat) (Option.none : Option Jvm.ClassFile.FieldType)) ∈ lw_all := lw_g (lw_at lw_m3 78 rfl) rfl
theorem q607 : (Jvm.Cond.methodLink "java/util/TreeMap$EntrySet" (7 : Nat) ({ cls := "java/util/AbstractSet", name := "<init>", desc := "()V" } : Jvm.MethodName)) ∈ lw_all := lw_g (lw_at lw_m3 79 rfl) rfl
theorem q608 : (Jvm.Cond.fieldLink "java/util/TreeMap$EntrySet" (1 : Nat) "java/util/TreeMap$EntrySet" "this$0" "Ljava/util/TreeMap;") ∈ lw_all := lw_g (lw_at lw_m3 80 rfl) rfl
theorem q680 : (Jvm.Cond.methodLink "java/util/TreeMap$EntryIterator" (1 : Nat) ({ cls := "java/util/TreeMap$PrivateEntryIterator", name := "<init>", desc := "(Ljava/util/TreeMap;Ljava/util/TreeMap$Entry;)V" } : Jvm.MethodName)) ∈ lw_all := lw_g (lw_at lw_m3 152 rfl) rfl
theorem q681 : (Jvm.Cond.instanceMethod ({ cls := "java/util/TreeMap$PrivateEntryIterator", name := "<init>", desc := "(Ljava/util/TreeMap;Ljava/util/TreeMap$Entry;)V" } : Jvm.MethodName)) ∈ lw_all := lw_g (lw_at lw_m3 153 rfl) rfl
theorem q682 : (Jvm.Cond.code ({ cls := "java/util/TreeMap$PrivateEntryIterator", name := "<init>", desc := "(Ljava/util/TreeMap;Ljava/util/TreeMap$Entry;)V" } : Jvm.MethodName) prog_90_method_1_code (3 : Nat) (Option.none : Option Jvm.ClassFile.FieldType)) ∈ lw_all := lw_g (lw_at lw_m3 154 rfl) rfl
theorem q683 : (Jvm.Cond.methodLink "java/util/TreeMap$PrivateEntryIterator" (7 : Nat) ({ cls := "java/lang/Object", name := "<init>", desc := "()V" } : Jvm.MethodName)) ∈ lw_all := lw_g (lw_at lw_m3 155 rfl) rfl
theorem q684 : (Jvm.Cond.fieldLink "java/util/TreeMap$PrivateEntryIterator" (26 : Nat) "java/util/TreeMap$PrivateEntryIterator" "next" "Ljava/util/TreeMap$Entry;") ∈ lw_all := lw_g (lw_at lw_m3 156 rfl) rfl
theorem q685 : (Jvm.Cond.fieldLink "java/util/TreeMap$PrivateEntryIterator" (22 : Nat) "java/util/TreeMap$PrivateEntryIterator" "lastReturned" "Ljava/util/TreeMap$Entry;") ∈ lw_all := lw_g (lw_at lw_m3 157 rfl) rfl
theorem q686 : (Jvm.Cond.fieldLink "java/util/TreeMap$PrivateEntryIterator" (19 : Nat) "java/util/TreeMap$PrivateEntryIterator" "expectedModCount" "I") ∈ lw_all := lw_g (lw_at lw_m3 158 rfl) rfl
theorem q687 : (Jvm.Cond.fieldLink "java/util/TreeMap$PrivateEntryIterator" (1 : Nat) "java/util/TreeMap$PrivateEntryIterator" "this$0" "Ljava/util/TreeMap;") ∈ lw_all := lw_g (lw_at lw_m3 159 rfl) rfl
theorem q714 : (Jvm.Cond.methodLink "java/util/TreeMap$KeyIterator" (1 : Nat) ({ cls := "java/util/TreeMap$PrivateEntryIterator", name := "<init>", desc := "(Ljava/util/TreeMap;Ljava/util/TreeMap$Entry;)V" } : Jvm.MethodName)) ∈ lw_all := lw_g (lw_at lw_m3 186 rfl) rfl
theorem q895 : (Jvm.Cond.methodLink "java/util/TreeMap$EntryIterator" (13 : Nat) ({ cls := "java/util/TreeMap$EntryIterator", name := "next", desc := "()Ljava/util/Map$Entry;" } : Jvm.MethodName)) ∈ lw_all := lw_g (lw_at lw_m4 127 rfl) rfl
theorem q896 : (Jvm.Cond.instanceMethod ({ cls := "java/util/TreeMap$EntryIterator", name := "next", desc := "()Ljava/util/Map$Entry;" } : Jvm.MethodName)) ∈ lw_all := lw_g (lw_at lw_m4 128 rfl) rfl
theorem q897 : (Jvm.Cond.selects "java/util/TreeMap$EntryIterator" ({ cls := "java/util/TreeMap$EntryIterator", name := "next", desc := "()Ljava/util/Map$Entry;" } : Jvm.MethodName) ({ cls := "java/util/TreeMap$EntryIterator", name := "next", desc := "()Ljava/util/Map$Entry;" } : Jvm.MethodName)) ∈ lw_all := lw_g (lw_at lw_m4 129 rfl) rfl
theorem q898 : (Jvm.Cond.code ({ cls := "java/util/TreeMap$EntryIterator", name := "next", desc := "()Ljava/util/Map$Entry;" } : Jvm.MethodName) prog_85_method_2_code (1 : Nat) (Option.some (Jvm.ClassFile.FieldType.object "java/util/Map$Entry"))) ∈ lw_all := lw_g (lw_at lw_m4 130 rfl) rfl
theorem q899 : (Jvm.Cond.methodLink "java/util/TreeMap$EntryIterator" (7 : Nat) ({ cls := "java/util/TreeMap$EntryIterator", name := "nextEntry", desc := "()Ljava/util/TreeMap$Entry;" } : Jvm.MethodName)) ∈ lw_all := lw_g (lw_at lw_m4 131 rfl) rfl
theorem q900 : (Jvm.Cond.sameMethod "java/util/TreeMap$EntryIterator" "java/util/TreeMap$PrivateEntryIterator" "nextEntry" "()Ljava/util/TreeMap$Entry;") ∈ lw_all := lw_g (lw_at lw_m4 132 rfl) rfl
theorem q902 : (Jvm.Cond.selects "java/util/TreeMap$EntryIterator" ({ cls := "java/util/TreeMap$EntryIterator", name := "nextEntry", desc := "()Ljava/util/TreeMap$Entry;" } : Jvm.MethodName) ({ cls := "java/util/TreeMap$PrivateEntryIterator", name := "nextEntry", desc := "()Ljava/util/TreeMap$Entry;" } : Jvm.MethodName)) ∈ lw_all := lw_g (lw_at lw_m4 134 rfl) rfl
theorem q903 : (Jvm.Cond.instanceMethod ({ cls := "java/util/TreeMap$PrivateEntryIterator", name := "nextEntry", desc := "()Ljava/util/TreeMap$Entry;" } : Jvm.MethodName)) ∈ lw_all := lw_g (lw_at lw_m4 135 rfl) rfl
theorem q904 : (Jvm.Cond.code ({ cls := "java/util/TreeMap$PrivateEntryIterator", name := "nextEntry", desc := "()Ljava/util/TreeMap$Entry;" } : Jvm.MethodName) prog_90_method_3_code (2 : Nat) (Option.some (Jvm.ClassFile.FieldType.object "java/util/TreeMap$Entry"))) ∈ lw_all := lw_g (lw_at lw_m4 136 rfl) rfl
theorem q907 : (Jvm.Cond.methodLink "java/util/TreeMap$PrivateEntryIterator" (35 : Nat) ({ cls := "java/util/TreeMap", name := "successor", desc := "(Ljava/util/TreeMap$Entry;)Ljava/util/TreeMap$Entry;" } : Jvm.MethodName)) ∈ lw_all := lw_g (lw_at lw_m4 139 rfl) rfl
theorem q916 : (Jvm.Cond.methodLink "java/util/TreeMap$KeyIterator" (7 : Nat) ({ cls := "java/util/TreeMap$KeyIterator", name := "nextEntry", desc := "()Ljava/util/TreeMap$Entry;" } : Jvm.MethodName)) ∈ lw_all := lw_g (lw_at lw_m4 148 rfl) rfl
theorem q917 : (Jvm.Cond.sameMethod "java/util/TreeMap$KeyIterator" "java/util/TreeMap$PrivateEntryIterator" "nextEntry" "()Ljava/util/TreeMap$Entry;") ∈ lw_all := lw_g (lw_at lw_m4 149 rfl) rfl
theorem q918 : (Jvm.Cond.selects "java/util/TreeMap$KeyIterator" ({ cls := "java/util/TreeMap$KeyIterator", name := "nextEntry", desc := "()Ljava/util/TreeMap$Entry;" } : Jvm.MethodName) ({ cls := "java/util/TreeMap$PrivateEntryIterator", name := "nextEntry", desc := "()Ljava/util/TreeMap$Entry;" } : Jvm.MethodName)) ∈ lw_all := lw_g (lw_at lw_m4 150 rfl) rfl
theorem q925 : (Jvm.Cond.methodLink "java/util/TreeMap$ValueIterator" (7 : Nat) ({ cls := "java/util/TreeMap$ValueIterator", name := "nextEntry", desc := "()Ljava/util/TreeMap$Entry;" } : Jvm.MethodName)) ∈ lw_all := lw_g (lw_at lw_m4 157 rfl) rfl
theorem q926 : (Jvm.Cond.sameMethod "java/util/TreeMap$ValueIterator" "java/util/TreeMap$PrivateEntryIterator" "nextEntry" "()Ljava/util/TreeMap$Entry;") ∈ lw_all := lw_g (lw_at lw_m4 158 rfl) rfl
theorem q927 : (Jvm.Cond.selects "java/util/TreeMap$ValueIterator" ({ cls := "java/util/TreeMap$ValueIterator", name := "nextEntry", desc := "()Ljava/util/TreeMap$Entry;" } : Jvm.MethodName) ({ cls := "java/util/TreeMap$PrivateEntryIterator", name := "nextEntry", desc := "()Ljava/util/TreeMap$Entry;" } : Jvm.MethodName)) ∈ lw_all := lw_g (lw_at lw_m4 159 rfl) rfl
theorem q974 : (Jvm.Cond.fieldLink "java/util/TreeMap$KeyIterator" (13 : Nat) "java/util/TreeMap$Entry" "key" "Ljava/lang/Object;") ∈ lw_all := lw_g (lw_at lw_m4 206 rfl) rfl
theorem q977 : (Jvm.Cond.fieldLink "java/util/TreeMap$ValueIterator" (13 : Nat) "java/util/TreeMap$Entry" "value" "Ljava/lang/Object;") ∈ lw_all := lw_g (lw_at lw_m4 209 rfl) rfl
theorem q1893 : (Jvm.Cond.methodLink "java/util/TreeMap" (219 : Nat) ({ cls := "java/util/TreeMap", name := "navigableKeySet", desc := "()Ljava/util/NavigableSet;" } : Jvm.MethodName)) ∈ lw_all := lw_g (lw_at lw_m8 165 rfl) rfl
theorem q1894 : (Jvm.Cond.instanceMethod ({ cls := "java/util/TreeMap", name := "navigableKeySet", desc := "()Ljava/util/NavigableSet;" } : Jvm.MethodName)) ∈ lw_all := lw_g (lw_at lw_m8 166 rfl) rfl
theorem q1895 : (Jvm.Cond.selects "java/util/TreeMap" ({ cls := "java/util/TreeMap", name := "navigableKeySet", desc := "()Ljava/util/NavigableSet;" } : Jvm.MethodName) ({ cls := "java/util/TreeMap", name := "navigableKeySet", desc := "()Ljava/util/NavigableSet;" } : Jvm.MethodName)) ∈ lw_all := lw_g (lw_at lw_m8 167 rfl) rfl
theorem q1896 : (Jvm.Cond.code ({ cls := "java/util/TreeMap", name := "navigableKeySet", desc := "()Ljava/util/NavigableSet;" } : Jvm.MethodName) prog_83_method_50_code (2 : Nat) (Option.some (Jvm.ClassFile.FieldType.object "java/util/NavigableSet"))) ∈ lw_all := lw_g (lw_at lw_m8 168 rfl) rfl
theorem q1897 : (Jvm.Cond.classLink "java/util/TreeMap" (222 : Nat) "java/util/TreeMap$KeySet") ∈ lw_all := lw_g (lw_at lw_m8 169 rfl) rfl
theorem q1898 : (Jvm.Cond.instantiable "java/util/TreeMap$KeySet" (1 : Nat)) ∈ lw_all := lw_g (lw_at lw_m8 170 rfl) rfl
theorem q1899 : (Jvm.Cond.methodLink "java/util/TreeMap" (224 : Nat) ({ cls := "java/util/TreeMap$KeySet", name := "<init>", desc := "(Ljava/util/NavigableMap;)V" } : Jvm.MethodName)) ∈ lw_all := lw_g (lw_at lw_m8 171 rfl) rfl
theorem q1900 : (Jvm.Cond.instanceMethod ({ cls := "java/util/TreeMap$KeySet", name := "<init>", desc := "(Ljava/util/NavigableMap;)V" } : Jvm.MethodName)) ∈ lw_all := lw_g (lw_at lw_m8 172 rfl) rfl
theorem q1901 : (Jvm.Cond.code ({ cls := "java/util/TreeMap$KeySet", name := "<init>", desc := "(Ljava/util/NavigableMap;)V" } : Jvm.MethodName) prog_88_method_1_code (2 : Nat) (Option.none : Option Jvm.ClassFile.FieldType)) ∈ lw_all := lw_g (lw_at lw_m8 173 rfl) rfl
theorem q1902 : (Jvm.Cond.methodLink "java/util/TreeMap$KeySet" (1 : Nat) ({ cls := "java/util/AbstractSet", name := "<init>", desc := "()V" } : Jvm.MethodName)) ∈ lw_all := lw_g (lw_at lw_m8 174 rfl) rfl
theorem q1903 : (Jvm.Cond.fieldLink "java/util/TreeMap$KeySet" (7 : Nat) "java/util/TreeMap$KeySet" "m" "Ljava/util/NavigableMap;") ∈ lw_all := lw_g (lw_at lw_m8 175 rfl) rfl
theorem q2687 : (Jvm.Cond.classLink "java/util/TreeMap" (237 : Nat) "java/util/TreeMap$Values") ∈ lw_all := lw_g (lw_at lw_m11 239 rfl) rfl
theorem q2688 : (Jvm.Cond.instantiable "java/util/TreeMap$Values" (1 : Nat)) ∈ lw_all := lw_g (lw_at lw_m12 0 rfl) rfl
theorem q2689 : (Jvm.Cond.methodLink "java/util/TreeMap" (239 : Nat) ({ cls := "java/util/TreeMap$Values", name := "<init>", desc := "(Ljava/util/TreeMap;)V" } : Jvm.MethodName)) ∈ lw_all := lw_g (lw_at lw_m12 1 rfl) rfl
theorem q2690 : (Jvm.Cond.instanceMethod ({ cls := "java/util/TreeMap$Values", name := "<init>", desc := "(Ljava/util/TreeMap;)V" } : Jvm.MethodName)) ∈ lw_all := lw_g (lw_at lw_m12 2 rfl) rfl
theorem q2691 : (Jvm.Cond.code ({ cls := "java/util/TreeMap$Values", name := "<init>", desc := "(Ljava/util/TreeMap;)V" } : Jvm.MethodName) prog_92_method_1_code (2 : Nat) (Option.none : Option Jvm.ClassFile.FieldType)) ∈ lw_all := lw_g (lw_at lw_m12 3 rfl) rfl
theorem q2692 : (Jvm.Cond.methodLink "java/util/TreeMap$Values" (7 : Nat) ({ cls := "java/util/AbstractCollection", name := "<init>", desc := "()V" } : Jvm.MethodName)) ∈ lw_all := lw_g (lw_at lw_m12 4 rfl) rfl
theorem q2693 : (Jvm.Cond.fieldLink "java/util/TreeMap$Values" (1 : Nat) "java/util/TreeMap$Values" "this$0" "Ljava/util/TreeMap;") ∈ lw_all := lw_g (lw_at lw_m12 5 rfl) rfl
theorem q2803 : (Jvm.Cond.methodLink "java/util/TreeMap$ValueIterator" (1 : Nat) ({ cls := "java/util/TreeMap$PrivateEntryIterator", name := "<init>", desc := "(Ljava/util/TreeMap;Ljava/util/TreeMap$Entry;)V" } : Jvm.MethodName)) ∈ lw_all := lw_g (lw_at lw_m12 115 rfl) rfl
/-! ===== TreeMap: views and iterators ===== -/
theorem Nd_ne0 {M : Mem} {ρ t n : Nat} {ad ps lo hi : Nat → Nat} (h : TMt M ρ t n ad ps lo hi) {x : Nat} (hx : Nd n ad ps x) : mK M x ≠ 0 := by rw [(h.2 x hx).1]; decide
/-- a TreeMap stays where nothing of its region changes -/
theorem TMc.fr {P : Nat → Prop} {M M' : Mem} {ρ t n : Nat} {ad ps lo hi : Nat → Nat} {ky : Nat → Int32} {vl : Nat → Nat} (hT : TMc M ρ t n ad ps lo hi ky vl) (hF : Fr P M M') (hP : ¬ P ρ) (h0 : ¬ P 0) : TMc M' ρ t n ad ps lo hi ky vl := by
  obtain ⟨⟨hkt, hot, hcmp, hsz, hn, hρ, hTt, hky, hvl, hord⟩, hcol, hvw⟩ := hT
  have kt : mK M t ≠ 0 := by rw [hkt]; decide
  have rt : ∀ k, mR M' t k = mR M t k := fun k => hF.r kt (by rw [hot]; exact hP) k
  have it : ∀ k, mI M' t k = mI M t k := fun k => hF.i kt (by rw [hot]; exact hP) k
  have kx : ∀ x, Nd n ad ps x → mK M x ≠ 0 ∧ ¬ P (mO M x) := fun x hx => ⟨Nd_ne0 hTt hx, by rw [(hTt.2 x hx).2]; exact hP⟩
  have rx : ∀ x, Nd n ad ps x → ∀ k, mR M' x k = mR M x k := fun x hx k => hF.r (kx x hx).1 (kx x hx).2 k
  have ix : ∀ x, Nd n ad ps x → ∀ k, mI M' x k = mI M x k := fun x hx k => hF.i (kx x hx).1 (kx x hx).2 k
  obtain ⟨⟨h1, h2, h3, h4, h5, h6, h7, h8, h9, h10⟩, hk⟩ := hTt
  have hN : ∀ i, i < n → Nd n ad ps (ad i) := fun i hi => ⟨by rw [h1 i hi]; exact hi, by rw [h1 i hi]⟩
  refine ⟨⟨hF.k hkt (by decide), hF.o kt hot, by rw [rt]; exact hcmp, by rw [it]; exact hsz, hn, hρ, ⟨⟨h1, h2, ?_, ?_, ?_, ?_, ?_, ?_, ?_, ?_⟩, fun x hx => ⟨hF.k (hk x hx).1 (by decide), hF.o (kx x hx).1 (hk x hx).2⟩⟩, ?_, ?_, hord⟩, fun x hx => by rw [ix x hx]; exact hcol x hx, hvw.fr hF h0 (fun k _ => rt k)⟩
  · intro x hx; show mR M' x 2 = none → _; rw [rx x hx]; exact h3 x hx
  · intro x y hx; show mR M' x 2 = some y → _ ∧ mR M' y 4 = some x ∧ _; rw [rx x hx]; intro e; obtain ⟨a, b, c⟩ := h4 x y hx e; exact ⟨a, by rw [rx y a]; exact b, c⟩
  · intro x hx; show mR M' x 3 = none → _; rw [rx x hx]; exact h5 x hx
  · intro x y hx; show mR M' x 3 = some y → _ ∧ mR M' y 4 = some x ∧ _; rw [rx x hx]; intro e; obtain ⟨a, b, c⟩ := h6 x y hx e; exact ⟨a, by rw [rx y a]; exact b, c⟩
  · intro x hx; show mR M' x 4 = none → mR M' t 3 = some x; rw [rx x hx, rt]; exact h7 x hx
  · intro x y hx; show mR M' x 4 = some y → _ ∧ (mR M' y 2 = some x ∨ mR M' y 3 = some x); rw [rx x hx]; intro e; obtain ⟨a, b⟩ := h8 x y hx e; exact ⟨a, by rw [rx y a, rx y a]; exact b⟩
  · rw [rt]; exact h9
  · intro x; rw [rt]; intro e; obtain ⟨a, b, c⟩ := h10 x e; exact ⟨a, by show mR M' x 4 = none; rw [rx x a]; exact b, c⟩
  · intro i hi
    obtain ⟨b, c1, c2⟩ := hky i hi
    exact ⟨b, by rw [rx _ (hN i hi)]; exact c1, c2.fr hF h0⟩
  · intro i hi; rw [rx _ (hN i hi)]; exact hvl i hi
/-- t remembers a view of its own -/
theorem TMc.view {M : Mem} {ρ t n f : Nat} {s : Nat} {ad ps lo hi : Nat → Nat} {ky : Nat → Int32} {vl : Nat → Nat} (hT : TMc M ρ t n ad ps lo hi ky vl) (hf : (f = 6 ∧ mK M s = kTE) ∨ (f = 7 ∧ mK M s = kTK) ∨ (f = 1 ∧ mK M s = kTV)) (hs : mR M s 0 = some t) (ho : mO M s = 0) : TMc (sR M t f (some s)) ρ t n ad ps lo hi ky vl := by
  obtain ⟨⟨hkt, hot, hcmp, hsz, hn, hρ, hTt, hky, hvl, hord⟩, hcol, hvw⟩ := hT
  have hf2 : f ≠ 2 ∧ f ≠ 3 ∧ f ≠ 0 := by rcases hf with ⟨h, -⟩ | ⟨h, -⟩ | ⟨h, -⟩ <;> subst h <;> decide
  have hnt : ∀ x, Nd n ad ps x → x ≠ t := fun x hx => hTt.ne hkt hx
  have rx : ∀ x, x ≠ t → ∀ k, mR (sR M t f (some s)) x k = mR M x k := fun x hx k => mR_sRa hx k
  have hst : s ≠ t := by
    intro e; subst e
    rw [hot] at ho; exact hρ ho
  have hF : Fr (fun r => r = ρ) M (sR M t f (some s)) := Fr.sR hot
  obtain ⟨⟨h1, h2, h3, h4, h5, h6, h7, h8, h9, h10⟩, hk⟩ := hTt
  have hN : ∀ i, i < n → Nd n ad ps (ad i) := fun i hi => ⟨by rw [h1 i hi]; exact hi, by rw [h1 i hi]⟩
  have r3 : mR (sR M t f (some s)) t 3 = mR M t 3 := mR_sRk t hf2.2.1.symm
  have one : ∀ f' κ, Vw1 M t f' κ → (f' = f → mK M s = κ) → Vw1 (sR M t f (some s)) t f' κ := by
    intro f' κ hv he z hz
    by_cases e : f' = f
    · subst e
      rw [mR_sRe] at hz
      cases hz
      exact ⟨he rfl, (rx s hst 0).trans hs, ho⟩
    · rw [mR_sRk t e] at hz
      obtain ⟨a, b, c⟩ := hv z hz
      have hzt : z ≠ t := by intro q; subst q; rw [hot] at c; exact hρ c
      exact ⟨a, (rx z hzt 0).trans b, c⟩
  refine ⟨⟨hkt, hot, (mR_sRk t hf2.1.symm).trans hcmp, hsz, hn, hρ, ⟨⟨h1, h2, ?_, ?_, ?_, ?_, ?_, ?_, ?_, ?_⟩, hk⟩, ?_, ?_, hord⟩, hcol, one 6 kTE hvw.1 ?_, one 7 kTK hvw.2.1 ?_, one 1 kTV hvw.2.2 ?_⟩
  · intro x hx; show mR _ x 2 = none → _; rw [rx x (hnt x hx)]; exact h3 x hx
  · intro x y hx; show mR _ x 2 = some y → _ ∧ mR _ y 4 = some x ∧ _; rw [rx x (hnt x hx)]; intro e; obtain ⟨a, b, c⟩ := h4 x y hx e; exact ⟨a, by rw [rx y (hnt y a)]; exact b, c⟩
  · intro x hx; show mR _ x 3 = none → _; rw [rx x (hnt x hx)]; exact h5 x hx
  · intro x y hx; show mR _ x 3 = some y → _ ∧ mR _ y 4 = some x ∧ _; rw [rx x (hnt x hx)]; intro e; obtain ⟨a, b, c⟩ := h6 x y hx e; exact ⟨a, by rw [rx y (hnt y a)]; exact b, c⟩
  · intro x hx; show mR _ x 4 = none → mR _ t 3 = some x; rw [rx x (hnt x hx), r3]; exact h7 x hx
  · intro x y hx; show mR _ x 4 = some y → _ ∧ (mR _ y 2 = some x ∨ mR _ y 3 = some x); rw [rx x (hnt x hx)]; intro e; obtain ⟨a, b⟩ := h8 x y hx e; exact ⟨a, by rw [rx y (hnt y a), rx y (hnt y a)]; exact b⟩
  · rw [r3]; exact h9
  · intro x; rw [r3]; intro e; obtain ⟨a, b, c⟩ := h10 x e; exact ⟨a, by show mR _ x 4 = none; rw [rx x (hnt x a)]; exact b, c⟩
  · intro i hi
    obtain ⟨b, c1, c2⟩ := hky i hi
    exact ⟨b, by rw [rx _ (hnt _ (hN i hi))]; exact c1, c2.fr hF (fun q => hρ q.symm)⟩
  · intro i hi; rw [rx _ (hnt _ (hN i hi))]; exact hvl i hi
  · intro e; rcases hf with ⟨h, q⟩ | ⟨h, q⟩ | ⟨h, q⟩ <;> first | exact q | (rw [h] at e; cases e)
  · intro e; rcases hf with ⟨h, q⟩ | ⟨h, q⟩ | ⟨h, q⟩ <;> first | exact q | (rw [h] at e; cases e)
  · intro e; rcases hf with ⟨h, q⟩ | ⟨h, q⟩ | ⟨h, q⟩ <;> first | exact q | (rw [h] at e; cases e)
section Iter
variable {G : Gx} {M : Mem} {ρ t n : Nat} {ad ps lo hi : Nat → Nat} {ky : Nat → Int32} {vl : Nat → Nat}
theorem ct_J0_init (hB : Base G) (a : Nat) (M : Mem) : KJ0_init G 1 0 0 [vr (some a)] M (fun v M' => v = none ∧ M' = M) := by
  refine Ct.of (own := RJ0) (nm := "<init>") hB (by decide) rfl rfl rfl rfl (fun C hC hQ => ?_)
  refine g_aload_n hC dJ0_init_0 rfl ?_
  refine g_objInit hC (by first | with_reducible rfl | with_reducible assumption | (simp only [mR_sI, mR_sL]; with_reducible assumption) | exact rfl | assumption) q168 q_oi1 q_oi2 (by decide) rfl dJ0_init_1 ?_
  refine g_vret hC hQ (by omega) (by omega) dJ0_init_4 ?_
  exact ⟨rfl, rfl⟩
theorem ct_J3_init (hB : Base G) (a : Nat) (M : Mem) : KJ3_init G 1 0 0 [vr (some a)] M (fun v M' => v = none ∧ M' = M) := by
  refine Ct.of (own := RJ3) (nm := "<init>") hB (by decide) rfl rfl rfl rfl (fun C hC hQ => ?_)
  refine g_aload_n hC dJ3_init_0 rfl ?_
  refine g_objInit hC (by first | with_reducible rfl | with_reducible assumption | (simp only [mR_sI, mR_sL]; with_reducible assumption) | exact rfl | assumption) q248 q_oi1 q_oi2 (by decide) rfl dJ3_init_1 ?_
  refine g_vret hC hQ (by omega) (by omega) dJ3_init_4 ?_
  exact ⟨rfl, rfl⟩
theorem ct_J14_init (hB : Base G) (a : Nat) (M : Mem) : KJ14_init G 2 0 0 [vr (some a)] M (fun v M' => v = none ∧ M' = M) := by
  refine Ct.of (own := RJ14) (nm := "<init>") hB (by decide) rfl rfl rfl rfl (fun C hC hQ => ?_)
  refine g_aload_n hC dJ14_init_0 rfl ?_
  refine g_callI hC (by first | with_reducible rfl | with_reducible assumption | (simp only [mR_sI, mR_sL]; with_reducible assumption) | exact rfl | assumption) (ct_J3_init hB a M) rfl (by decide) rfl yk_J3_init rfl q588 q246 q56 q247 rfl dJ14_init_1 (by omega) (by omega) (fun v M1 hp => ?_)
  obtain ⟨rfl, hM⟩ := hp
  cases hM.symm
  simp only [Option.toList_some, Option.toList_none, List.cons_append, List.nil_append, Nat.add_zero, Nat.zero_add]
  refine g_vret hC hQ (by omega) (by omega) dJ14_init_4 ?_
  exact ⟨rfl, rfl⟩
theorem ct_TM_init (hB : Base G) (hk : mK M t = kTM) : KJ6_init G 2 0 0 [vr (some t)] M (fun v M' => v = none ∧ M' = sR (sI (sI M t 4 0) t 5 0) t 2 none) := by
  refine Ct.of (own := RJ6) (nm := "<init>") hB (by decide) rfl rfl rfl rfl (fun C hC hQ => ?_)
  refine g_aload_n hC dJ6_init_0 rfl ?_
  refine g_callI hC (by first | with_reducible rfl | with_reducible assumption | (simp only [mR_sI, mR_sL]; with_reducible assumption) | exact rfl | assumption) (ct_J0_init hB t M) rfl (by decide) rfl yk_J0_init rfl q271 q166 q52 q167 rfl dJ6_init_1 (by omega) (by omega) (fun v M1 hp => ?_)
  obtain ⟨rfl, hM⟩ := hp
  cases hM.symm
  simp only [Option.toList_some, Option.toList_none, List.cons_append, List.nil_append, Nat.add_zero, Nat.zero_add]
  refine g_aload_n hC dJ6_init_4 rfl ?_
  refine g_iconst (v := 0) hC dJ6_init_5 (by decide) ?_
  refine g_putI hC (ci := 8) (by first | with_reducible rfl | with_reducible assumption | (simp only [mR_sI, mR_sL]; with_reducible assumption) | exact rfl | assumption) (by first | with_reducible assumption | (simp only [mK_sI, mK_sR, mK_sL, mK_sO]; with_reducible assumption) | assumption | (simp only [mK_sI, mK_sR, mK_sL, mK_sO, mK_nw, mK_sK]; first | assumption | (simp only [*]; done))) rfl 4 (by decide) q274 (Or.inl rfl) (Or.inl rfl) rfl rfl rfl dJ6_init_6 ?_
  refine g_aload_n hC dJ6_init_9 rfl ?_
  refine g_iconst (v := 0) hC dJ6_init_10 (by decide) ?_
  refine g_putI hC (ci := 8) (by first | with_reducible rfl | with_reducible assumption | (simp only [mR_sI, mR_sL]; with_reducible assumption) | exact rfl | assumption) (by first | with_reducible assumption | (simp only [mK_sI, mK_sR, mK_sL, mK_sO]; with_reducible assumption) | assumption | (simp only [mK_sI, mK_sR, mK_sL, mK_sO, mK_nw, mK_sK]; first | assumption | (simp only [*]; done))) rfl 5 (by decide) q275 (Or.inl rfl) (Or.inl rfl) rfl rfl rfl dJ6_init_11 ?_
  refine g_aload_n hC dJ6_init_14 rfl ?_
  refine g_null hC dJ6_init_15 ?_
  refine g_putR hC (ci := 8) (by first | with_reducible rfl | with_reducible assumption | (simp only [mR_sI, mR_sL]; with_reducible assumption) | exact rfl | assumption) (by first | with_reducible assumption | (simp only [mK_sI, mK_sR, mK_sL, mK_sO]; with_reducible assumption) | assumption | (simp only [mK_sI, mK_sR, mK_sL, mK_sO, mK_nw, mK_sK]; first | assumption | (simp only [*]; done))) rfl 2 (by decide) q272 (Or.inl rfl) (Or.inr ⟨rfl, rfl, rfl⟩) rfl dJ6_init_16 ?_
  refine g_vret hC hQ (by omega) (by omega) dJ6_init_19 ?_
  exact ⟨rfl, rfl⟩
/-- a new TreeMap, empty -/
theorem TMc.new {M : Mem} (ρ : Nat) (hρ : ρ ≠ 0) (h0 : mK M t = 0) : TMc (sR (sI (sI (nw M t kTM 0 ρ) t 4 0) t 5 0) t 2 none) ρ t 0 ad ps lo hi ky vl ∧ Fr Nu M (sR (sI (sI (nw M t kTM 0 ρ) t 4 0) t 5 0) t 2 none) := by
  have hr : ∀ k, mR (sR (sI (sI (nw M t kTM 0 ρ) t 4 0) t 5 0) t 2 none) t k = none := by
    intro k
    by_cases e : k = 2
    · subst e; exact mR_sRe _ _ _
    · rw [mR_sRk t e, mR_sI, mR_sI, mR_nw, if_pos rfl]
  refine ⟨⟨⟨?_, ?_, hr 2, ?_, by omega, hρ, ⟨?_, ?_⟩, ?_, ?_, ?_⟩, ?_, ?_, ?_, ?_⟩, fun b hb => ?_⟩
  · rw [mK_sR, mK_sI, mK_sI, mK_nw, if_pos rfl]
  · rw [mO_sR, mO_sI, mO_sI, mO_nw, if_pos rfl]
  · rw [mI_sR, mI_sI, mI_sI]; simp; rfl
  · rw [hr 3]; exact TT.nil
  · intro x hx; have := hx.1; omega
  · intro i hi; omega
  · intro i hi; omega
  · intro i j h1 h2; omega
  · intro x hx; have := hx.1; omega
  · intro s hs; rw [hr 6] at hs; cases hs
  · intro s hs; rw [hr 7] at hs; cases hs
  · intro s hs; rw [hr 1] at hs; cases hs
  · have e : b ≠ t := fun q => hb (q ▸ h0)
    refine ⟨?_, ?_, ?_, fun _ k => ⟨?_, ?_, ?_⟩⟩
    · rw [mK_sR, mK_sI, mK_sI, mK_nw, if_neg e]
    · rw [mN_sR, mN_sI, mN_sI, mN_nw, if_neg e]
    · rw [mO_sR, mO_sI, mO_sI, mO_nw, if_neg e]
    · rw [mI_sR, mI_sI, mI_sI, mI_nw]; simp [e]
    · rw [mR_sRa e, mR_sI, mR_sI, mR_nw, if_neg e]
    · rw [mL_sR, mL_sI, mL_sI, mL_nw, if_neg e]
theorem fr_new1 {P : Nat → Prop} {M : Mem} {s κ f : Nat} {r : Option Nat} (h0 : mK M s = 0) : Fr P M (sR (nw M s κ 0 0) s f r) := fun b hb => by
  have e : b ≠ s := fun q => hb (q ▸ h0)
  exact ⟨by rw [mK_sR, mK_nw, if_neg e], by rw [mN_sR, mN_nw, if_neg e], by rw [mO_sR, mO_nw, if_neg e], fun _ k => ⟨by rw [mI_sR, mI_nw, if_neg e], by rw [mR_sRa e, mR_nw, if_neg e], by rw [mL_sR, mL_nw, if_neg e]⟩⟩
/-- what a view's getter ends with -/
def ViewP (M M' : Mem) (ρ t n : Nat) (ad ps lo hi : Nat → Nat) (ky : Nat → Int32) (vl : Nat → Nat) (κ : Nat) (s : Nat) : Prop := mK M' s = κ ∧ mR M' s 0 = some t ∧ mO M' s = 0 ∧ Fr (fun r => r = ρ) M M' ∧ TMc M' ρ t n ad ps lo hi ky vl ∧ mI M' t 5 = mI M t 5
theorem ct_J16_init (hB : Base G) {s : Nat} (hk : mK M s = kTE) : KJ16_init G 3 0 0 [vr (some s), vr (some t)] M (fun v M' => v = none ∧ M' = sR M s 0 (some t)) := by
  refine Ct.of (own := RJ16) (nm := "<init>") hB (by decide) rfl rfl rfl rfl (fun C hC hQ => ?_)
  refine g_aload_n hC dJ16_init_0 rfl ?_
  refine g_aload_n hC dJ16_init_1 rfl ?_
  refine g_putR hC (ci := 18) (by first | with_reducible rfl | with_reducible assumption | (simp only [mR_sI, mR_sL]; with_reducible assumption) | exact rfl | assumption) (by first | with_reducible assumption | (simp only [mK_sI, mK_sR, mK_sL, mK_sO]; with_reducible assumption) | assumption | (simp only [mK_sI, mK_sR, mK_sL, mK_sO, mK_nw, mK_sK]; first | assumption | (simp only [*]; done))) rfl 0 (by decide) q608 (Or.inl rfl) (Or.inr ⟨rfl, rfl, rfl⟩) rfl dJ16_init_2 ?_
  refine g_aload_n hC dJ16_init_5 rfl ?_
  refine g_callI hC (by first | with_reducible rfl | with_reducible assumption | (simp only [mR_sI, mR_sL]; with_reducible assumption) | exact rfl | assumption) (ct_J14_init hB s _) rfl (by decide) rfl yk_J14_init rfl q607 q586 q69 q587 rfl dJ16_init_6 (by omega) (by omega) (fun v M1 hp => ?_)
  obtain ⟨rfl, hM⟩ := hp
  cases hM.symm
  simp only [Option.toList_some, Option.toList_none, List.cons_append, List.nil_append, Nat.add_zero, Nat.zero_add]
  refine g_vret hC hQ (by omega) (by omega) dJ16_init_9 ?_
  exact ⟨rfl, rfl⟩
theorem ct_entrySet (hB : Base G) (hT : TMc M ρ t n ad ps lo hi ky vl) : KJ6_entrySet G 4 1 1 [vr (some t)] M (fun v M' => ∃ s, v = some (vr (some s)) ∧ ViewP M M' ρ t n ad ps lo hi ky vl kTE s) := by
  have hkt := hT.1.1
  refine Ct.of (own := RJ6) (nm := "entrySet") hB (by decide) rfl rfl rfl rfl (fun C hC hQ => ?_)
  refine g_aload_n hC dJ6_entrySet_0 rfl ?_
  refine g_getR hC (ci := 8) (by first | with_reducible rfl | with_reducible assumption | (simp only [mR_sI, mR_sL]; with_reducible assumption) | exact rfl | assumption) (by first | with_reducible assumption | (simp only [mK_sI, mK_sR, mK_sL, mK_sO]; with_reducible assumption) | assumption | (simp only [mK_sI, mK_sR, mK_sL, mK_sO, mK_nw, mK_sK]; first | assumption | (simp only [*]; done))) rfl 6 (by decide) q277 (Or.inl rfl) rfl dJ6_entrySet_1 ?_
  refine g_astore_n hC dJ6_entrySet_4 rfl rfl ?_
  try simp only [stL, clr]
  refine g_aload_n hC dJ6_entrySet_5 rfl ?_
  refine g_ifnull hC 13 dJ6_entrySet_6 (by decide) (fun hc => ?_) (fun s hc => ?_)
  · refine g_aload_n hC dJ6_entrySet_13 rfl ?_
    refine g_new hC (ci := 18) (0) 1 rfl rfl q602 q603 q71 dJ6_entrySet_14 (by omega) (by omega) (fun s hs0 => ?_)
    have hks : mK (nw M s 19 0 0) s = kTE := by rw [mK_nw, if_pos rfl]
    refine g_dup hC dJ6_entrySet_17 rfl ?_
    refine g_aload_n hC dJ6_entrySet_18 rfl ?_
    refine g_callI hC (by first | with_reducible rfl | with_reducible assumption | (simp only [mR_sI, mR_sL]; with_reducible assumption) | exact rfl | assumption) (ct_J16_init hB hks) rfl (by decide) rfl yk_J16_init rfl q604 q605 q71 q606 rfl dJ6_entrySet_19 (by omega) (by omega) (fun v M1 hp => ?_)
    obtain ⟨rfl, hM⟩ := hp
    cases hM.symm
    simp only [Option.toList_some, Option.toList_none, List.cons_append, List.nil_append, Nat.add_zero, Nat.zero_add]
    have hks' : mK (sR (nw M s 19 0 0) s 0 (some t)) s = kTE := by rw [mK_sR]; exact hks
    have hr' : mR (sR (nw M s 19 0 0) s 0 (some t)) s 0 = some t := mR_sRe _ _ _
    have ho' : mO (sR (nw M s 19 0 0) s 0 (some t)) s = 0 := by rw [mO_sR, mO_nw, if_pos rfl]
    have hF' : Fr Nu M (sR (nw M s 19 0 0) s 0 (some t)) := fr_new1 hs0
    have hT' := hT.fr hF' (fun q => q) (fun q => q)
    have hi' : mI (sR (nw M s 19 0 0) s 0 (some t)) t 5 = mI M t 5 := hF'.i (by rw [hkt]; decide) (fun q => q) 5
    generalize sR (nw M s 19 0 0) s 0 (some t) = M2 at hks' hr' ho' hF' hT' hi' ⊢
    have hkt' := hT'.1.1
    refine g_dup_x1 hC dJ6_entrySet_22 rfl rfl ?_
    refine g_putR hC (ci := 8) (by first | with_reducible rfl | with_reducible assumption | (simp only [mR_sI, mR_sL]; with_reducible assumption) | exact rfl | assumption) (by first | with_reducible assumption | (simp only [mK_sI, mK_sR, mK_sL, mK_sO]; with_reducible assumption) | assumption | (simp only [mK_sI, mK_sR, mK_sL, mK_sO, mK_nw, mK_sK]; first | assumption | (simp only [*]; done))) rfl 6 (by decide) q277 (Or.inl rfl) (Or.inl rfl) rfl dJ6_entrySet_23 ?_
    refine g_aret hC hQ (by omega) (by omega) rfl dJ6_entrySet_26 ?_
    have hst : s ≠ t := by intro e; subst e; rw [hkt] at hs0; cases hs0
    exact ⟨s, rfl, hks', (mR_sRa hst 0).trans hr', ho', (hF'.mono (fun _ q => q.elim)).tr (Fr.sR hT'.1.2.1), hT'.view (Or.inl ⟨rfl, hks'⟩) hr' ho', hi'⟩
  · obtain ⟨v1, v2, v3⟩ := hT.2.2.1 s hc
    refine g_aload_n hC dJ6_entrySet_9 rfl ?_
    refine g_goto hC 26 dJ6_entrySet_10 (by decide) ?_
    refine g_aret hC hQ (by omega) (by omega) rfl dJ6_entrySet_26 ?_
    exact ⟨s, by rw [hc], v1, v2, v3, Fr.rf _ _, hT, rfl⟩
theorem ct_J43_init (hB : Base G) {s : Nat} (hk : mK M s = kTK) : KJ43_init G 3 0 0 [vr (some s), vr (some t)] M (fun v M' => v = none ∧ M' = sR M s 0 (some t)) := by
  refine Ct.of (own := RJ43) (nm := "<init>") hB (by decide) rfl rfl rfl rfl (fun C hC hQ => ?_)
  refine g_aload_n hC dJ43_init_0 rfl ?_
  refine g_callI hC (by first | with_reducible rfl | with_reducible assumption | (simp only [mR_sI, mR_sL]; with_reducible assumption) | exact rfl | assumption) (ct_J14_init hB s M) rfl (by decide) rfl yk_J14_init rfl q1902 q586 q69 q587 rfl dJ43_init_1 (by omega) (by omega) (fun v M1 hp => ?_)
  obtain ⟨rfl, hM⟩ := hp
  cases hM.symm
  simp only [Option.toList_some, Option.toList_none, List.cons_append, List.nil_append, Nat.add_zero, Nat.zero_add]
  refine g_aload_n hC dJ43_init_4 rfl ?_
  refine g_aload_n hC dJ43_init_5 rfl ?_
  refine g_putR hC (ci := 19) (by first | with_reducible rfl | with_reducible assumption | (simp only [mR_sI, mR_sL]; with_reducible assumption) | exact rfl | assumption) (by first | with_reducible assumption | (simp only [mK_sI, mK_sR, mK_sL, mK_sO]; with_reducible assumption) | assumption | (simp only [mK_sI, mK_sR, mK_sL, mK_sO, mK_nw, mK_sK]; first | assumption | (simp only [*]; done))) rfl 0 (by decide) q1903 (Or.inl rfl) (Or.inr ⟨rfl, rfl, rfl⟩) rfl dJ43_init_6 ?_
  refine g_vret hC hQ (by omega) (by omega) dJ43_init_9 ?_
  exact ⟨rfl, rfl⟩
theorem ct_navigableKeySet (hB : Base G) (hT : TMc M ρ t n ad ps lo hi ky vl) : KJ6_navigableKeySet G 4 1 1 [vr (some t)] M (fun v M' => ∃ s, v = some (vr (some s)) ∧ ViewP M M' ρ t n ad ps lo hi ky vl kTK s) := by
  have hkt := hT.1.1
  refine Ct.of (own := RJ6) (nm := "navigableKeySet") hB (by decide) rfl rfl rfl rfl (fun C hC hQ => ?_)
  refine g_aload_n hC dJ6_navigableKeySet_0 rfl ?_
  refine g_getR hC (ci := 8) (by first | with_reducible rfl | with_reducible assumption | (simp only [mR_sI, mR_sL]; with_reducible assumption) | exact rfl | assumption) (by first | with_reducible assumption | (simp only [mK_sI, mK_sR, mK_sL, mK_sO]; with_reducible assumption) | assumption | (simp only [mK_sI, mK_sR, mK_sL, mK_sO, mK_nw, mK_sK]; first | assumption | (simp only [*]; done))) rfl 7 (by decide) q278 (Or.inl rfl) rfl dJ6_navigableKeySet_1 ?_
  refine g_astore_n hC dJ6_navigableKeySet_4 rfl rfl ?_
  try simp only [stL, clr]
  refine g_aload_n hC dJ6_navigableKeySet_5 rfl ?_
  refine g_ifnull hC 13 dJ6_navigableKeySet_6 (by decide) (fun hc => ?_) (fun s hc => ?_)
  · refine g_aload_n hC dJ6_navigableKeySet_13 rfl ?_
    refine g_new hC (ci := 19) (0) 1 rfl rfl q1897 q1898 q99 dJ6_navigableKeySet_14 (by omega) (by omega) (fun s hs0 => ?_)
    have hks : mK (nw M s 20 0 0) s = kTK := by rw [mK_nw, if_pos rfl]
    refine g_dup hC dJ6_navigableKeySet_17 rfl ?_
    refine g_aload_n hC dJ6_navigableKeySet_18 rfl ?_
    refine g_callI hC (by first | with_reducible rfl | with_reducible assumption | (simp only [mR_sI, mR_sL]; with_reducible assumption) | exact rfl | assumption) (ct_J43_init hB hks) rfl (by decide) rfl yk_J43_init rfl q1899 q1900 q99 q1901 rfl dJ6_navigableKeySet_19 (by omega) (by omega) (fun v M1 hp => ?_)
    obtain ⟨rfl, hM⟩ := hp
    cases hM.symm
    simp only [Option.toList_some, Option.toList_none, List.cons_append, List.nil_append, Nat.add_zero, Nat.zero_add]
    have hks' : mK (sR (nw M s 20 0 0) s 0 (some t)) s = kTK := by rw [mK_sR]; exact hks
    have hr' : mR (sR (nw M s 20 0 0) s 0 (some t)) s 0 = some t := mR_sRe _ _ _
    have ho' : mO (sR (nw M s 20 0 0) s 0 (some t)) s = 0 := by rw [mO_sR, mO_nw, if_pos rfl]
    have hF' : Fr Nu M (sR (nw M s 20 0 0) s 0 (some t)) := fr_new1 hs0
    have hT' := hT.fr hF' (fun q => q) (fun q => q)
    have hi' : mI (sR (nw M s 20 0 0) s 0 (some t)) t 5 = mI M t 5 := hF'.i (by rw [hkt]; decide) (fun q => q) 5
    generalize sR (nw M s 20 0 0) s 0 (some t) = M2 at hks' hr' ho' hF' hT' hi' ⊢
    have hkt' := hT'.1.1
    refine g_dup_x1 hC dJ6_navigableKeySet_22 rfl rfl ?_
    refine g_putR hC (ci := 8) (by first | with_reducible rfl | with_reducible assumption | (simp only [mR_sI, mR_sL]; with_reducible assumption) | exact rfl | assumption) (by first | with_reducible assumption | (simp only [mK_sI, mK_sR, mK_sL, mK_sO]; with_reducible assumption) | assumption | (simp only [mK_sI, mK_sR, mK_sL, mK_sO, mK_nw, mK_sK]; first | assumption | (simp only [*]; done))) rfl 7 (by decide) q278 (Or.inl rfl) (Or.inl rfl) rfl dJ6_navigableKeySet_23 ?_
    refine g_aret hC hQ (by omega) (by omega) rfl dJ6_navigableKeySet_26 ?_
    have hst : s ≠ t := by intro e; subst e; rw [hkt] at hs0; cases hs0
    exact ⟨s, rfl, hks', (mR_sRa hst 0).trans hr', ho', (hF'.mono (fun _ q => q.elim)).tr (Fr.sR hT'.1.2.1), hT'.view (Or.inr (Or.inl ⟨rfl, hks'⟩)) hr' ho', hi'⟩
  · obtain ⟨v1, v2, v3⟩ := hT.2.2.2.1 s hc
    refine g_aload_n hC dJ6_navigableKeySet_9 rfl ?_
    refine g_goto hC 26 dJ6_navigableKeySet_10 (by decide) ?_
    refine g_aret hC hQ (by omega) (by omega) rfl dJ6_navigableKeySet_26 ?_
    exact ⟨s, by rw [hc], v1, v2, v3, Fr.rf _ _, hT, rfl⟩
theorem ct_J51_init (hB : Base G) {s : Nat} (hk : mK M s = kTV) : KJ51_init G 3 0 0 [vr (some s), vr (some t)] M (fun v M' => v = none ∧ M' = sR M s 0 (some t)) := by
  refine Ct.of (own := RJ51) (nm := "<init>") hB (by decide) rfl rfl rfl rfl (fun C hC hQ => ?_)
  refine g_aload_n hC dJ51_init_0 rfl ?_
  refine g_aload_n hC dJ51_init_1 rfl ?_
  refine g_putR hC (ci := 20) (by first | with_reducible rfl | with_reducible assumption | (simp only [mR_sI, mR_sL]; with_reducible assumption) | exact rfl | assumption) (by first | with_reducible assumption | (simp only [mK_sI, mK_sR, mK_sL, mK_sO]; with_reducible assumption) | assumption | (simp only [mK_sI, mK_sR, mK_sL, mK_sO, mK_nw, mK_sK]; first | assumption | (simp only [*]; done))) rfl 0 (by decide) q2693 (Or.inl rfl) (Or.inr ⟨rfl, rfl, rfl⟩) rfl dJ51_init_2 ?_
  refine g_aload_n hC dJ51_init_5 rfl ?_
  refine g_callI hC (by first | with_reducible rfl | with_reducible assumption | (simp only [mR_sI, mR_sL]; with_reducible assumption) | exact rfl | assumption) (ct_J3_init hB s _) rfl (by decide) rfl yk_J3_init rfl q2692 q246 q56 q247 rfl dJ51_init_6 (by omega) (by omega) (fun v M1 hp => ?_)
  obtain ⟨rfl, hM⟩ := hp
  cases hM.symm
  simp only [Option.toList_some, Option.toList_none, List.cons_append, List.nil_append, Nat.add_zero, Nat.zero_add]
  refine g_vret hC hQ (by omega) (by omega) dJ51_init_9 ?_
  exact ⟨rfl, rfl⟩
theorem ct_values (hB : Base G) (hT : TMc M ρ t n ad ps lo hi ky vl) : KJ6_values G 4 1 1 [vr (some t)] M (fun v M' => ∃ s, v = some (vr (some s)) ∧ ViewP M M' ρ t n ad ps lo hi ky vl kTV s) := by
  have hkt := hT.1.1
  refine Ct.of (own := RJ6) (nm := "values") hB (by decide) rfl rfl rfl rfl (fun C hC hQ => ?_)
  refine g_aload_n hC dJ6_values_0 rfl ?_
  refine g_getR hC (ci := 8) (by first | with_reducible rfl | with_reducible assumption | (simp only [mR_sI, mR_sL]; with_reducible assumption) | exact rfl | assumption) (by first | with_reducible assumption | (simp only [mK_sI, mK_sR, mK_sL, mK_sO]; with_reducible assumption) | assumption | (simp only [mK_sI, mK_sR, mK_sL, mK_sO, mK_nw, mK_sK]; first | assumption | (simp only [*]; done))) rfl 1 (by decide) q191 (Or.inr q192) rfl dJ6_values_1 ?_
  refine g_astore_n hC dJ6_values_4 rfl rfl ?_
  try simp only [stL, clr]
  refine g_aload_n hC dJ6_values_5 rfl ?_
  refine g_ifnonnull hC 23 dJ6_values_6 (by decide) (fun s hc => ?_) (fun hc => ?_)
  · obtain ⟨v1, v2, v3⟩ := hT.2.2.2.2 s hc
    refine g_aload_n hC dJ6_values_23 rfl ?_
    refine g_aret hC hQ (by omega) (by omega) rfl dJ6_values_24 ?_
    exact ⟨s, by rw [hc], v1, v2, v3, Fr.rf _ _, hT, rfl⟩
  · refine g_new hC (ci := 20) (0) 1 rfl rfl q2687 q2688 q111 dJ6_values_9 (by omega) (by omega) (fun s hs0 => ?_)
    have hks : mK (nw M s 21 0 0) s = kTV := by rw [mK_nw, if_pos rfl]
    refine g_dup hC dJ6_values_12 rfl ?_
    refine g_aload_n hC dJ6_values_13 rfl ?_
    refine g_callI hC (by first | with_reducible rfl | with_reducible assumption | (simp only [mR_sI, mR_sL]; with_reducible assumption) | exact rfl | assumption) (ct_J51_init hB hks) rfl (by decide) rfl yk_J51_init rfl q2689 q2690 q111 q2691 rfl dJ6_values_14 (by omega) (by omega) (fun v M1 hp => ?_)
    obtain ⟨rfl, hM⟩ := hp
    cases hM.symm
    simp only [Option.toList_some, Option.toList_none, List.cons_append, List.nil_append, Nat.add_zero, Nat.zero_add]
    have hks' : mK (sR (nw M s 21 0 0) s 0 (some t)) s = kTV := by rw [mK_sR]; exact hks
    have hr' : mR (sR (nw M s 21 0 0) s 0 (some t)) s 0 = some t := mR_sRe _ _ _
    have ho' : mO (sR (nw M s 21 0 0) s 0 (some t)) s = 0 := by rw [mO_sR, mO_nw, if_pos rfl]
    have hF' : Fr Nu M (sR (nw M s 21 0 0) s 0 (some t)) := fr_new1 hs0
    have hT' := hT.fr hF' (fun q => q) (fun q => q)
    have hi' : mI (sR (nw M s 21 0 0) s 0 (some t)) t 5 = mI M t 5 := hF'.i (by rw [hkt]; decide) (fun q => q) 5
    generalize sR (nw M s 21 0 0) s 0 (some t) = M2 at hks' hr' ho' hF' hT' hi' ⊢
    have hkt' := hT'.1.1
    refine g_astore_n hC dJ6_values_17 rfl rfl ?_
    try simp only [stL, clr]
    refine g_aload_n hC dJ6_values_18 rfl ?_
    refine g_aload_n hC dJ6_values_19 rfl ?_
    refine g_putR hC (ci := 8) (by first | with_reducible rfl | with_reducible assumption | (simp only [mR_sI, mR_sL]; with_reducible assumption) | exact rfl | assumption) (by first | with_reducible assumption | (simp only [mK_sI, mK_sR, mK_sL, mK_sO]; with_reducible assumption) | assumption | (simp only [mK_sI, mK_sR, mK_sL, mK_sO, mK_nw, mK_sK]; first | assumption | (simp only [*]; done))) rfl 1 (by decide) q191 (Or.inr q192) (Or.inl rfl) rfl dJ6_values_20 ?_
    refine g_aload_n hC dJ6_values_23 rfl ?_
    refine g_aret hC hQ (by omega) (by omega) rfl dJ6_values_24 ?_
    have hst : s ≠ t := by intro e; subst e; rw [hkt] at hs0; cases hs0
    exact ⟨s, rfl, hks', (mR_sRa hst 0).trans hr', ho', (hF'.mono (fun _ q => q.elim)).tr (Fr.sR hT'.1.2.1), hT'.view (Or.inr (Or.inr ⟨rfl, hks'⟩)) hr' ho', hi'⟩
theorem ct_keySet (hB : Base G) (hT : TMc M ρ t n ad ps lo hi ky vl) : KJ6_keySet G 5 1 1 [vr (some t)] M (fun v M' => ∃ s, v = some (vr (some s)) ∧ ViewP M M' ρ t n ad ps lo hi ky vl kTK s) := by
  have hkt := hT.1.1
  refine Ct.of (own := RJ6) (nm := "keySet") hB (by decide) rfl rfl rfl rfl (fun C hC hQ => ?_)
  refine g_aload_n hC dJ6_keySet_0 rfl ?_
  refine g_callV hC (by first | with_reducible rfl | with_reducible assumption | (simp only [mR_sI, mR_sL]; with_reducible assumption) | exact rfl | assumption) (Rk.o (ci := 8) (by first | with_reducible assumption | (simp only [mK_sI, mK_sR, mK_sL, mK_sO]; with_reducible assumption) | assumption | (simp only [mK_sI, mK_sR, mK_sL, mK_sO, mK_nw, mK_sK]; first | assumption | (simp only [*]; done))) rfl) (ct_navigableKeySet hB hT) rfl (by decide) rfl rfl yk_J6_navigableKeySet q1893 q1894 q1895 q59 q1896 rfl dJ6_keySet_1 (by omega) (by omega) (fun v M1 hp => ?_)
  obtain ⟨s, rfl, hP⟩ := hp
  simp only [Option.toList_some, Option.toList_none, List.cons_append, List.nil_append, Nat.add_zero, Nat.zero_add]
  refine g_aret hC hQ (by omega) (by omega) rfl dJ6_keySet_4 ?_
  exact ⟨s, rfl, hP⟩
/-- the iterator it of t: nx comes next -/
def It (M : Mem) (κ it ρi t : Nat) (nx : Option Nat) : Prop := mK M it = κ ∧ mO M it = ρi ∧ mR M it 0 = nx ∧ mR M it 3 = some t ∧ mI M it 2 = mI M t 5
theorem ct_itinit_J21 (hB : Base G) {it : Nat} {r : Option Nat} (hk : mK M it = kEI) (hkt : mK M t = kTM) : KJ20_init G 2 0 0 [vr (some it), vr (some t), vr r] M (fun v M' => v = none ∧ M' = sR (sR (sI (sR M it 3 (some t)) it 2 (mI M t 5)) it 1 none) it 0 r) := by
  refine Ct.of (own := RJ20) (nm := "<init>") hB (by decide) rfl rfl rfl rfl (fun C hC hQ => ?_)
  refine g_aload_n hC dJ20_init_0 rfl ?_
  refine g_aload_n hC dJ20_init_1 rfl ?_
  refine g_putR hC (ci := 21) (by first | with_reducible rfl | with_reducible assumption | (simp only [mR_sI, mR_sL]; with_reducible assumption) | exact rfl | assumption) (by first | with_reducible assumption | (simp only [mK_sI, mK_sR, mK_sL, mK_sO]; with_reducible assumption) | assumption | (simp only [mK_sI, mK_sR, mK_sL, mK_sO, mK_nw, mK_sK]; first | assumption | (simp only [*]; done))) rfl 3 (by decide) q687 (Or.inl rfl) (Or.inr ⟨rfl, rfl, rfl⟩) rfl dJ20_init_2 ?_
  refine g_aload_n hC dJ20_init_5 rfl ?_
  refine g_objInit hC (by first | with_reducible rfl | with_reducible assumption | (simp only [mR_sI, mR_sL]; with_reducible assumption) | exact rfl | assumption) q683 q_oi1 q_oi2 (by decide) rfl dJ20_init_6 ?_
  refine g_aload_n hC dJ20_init_9 rfl ?_
  refine g_aload_n hC dJ20_init_10 rfl ?_
  refine g_getNI hC (ci := 8) (by first | with_reducible rfl | with_reducible assumption | (simp only [mR_sI, mR_sL]; with_reducible assumption) | exact rfl | assumption) (by first | with_reducible assumption | (simp only [mK_sI, mK_sR, mK_sL, mK_sO]; with_reducible assumption) | assumption | (simp only [mK_sI, mK_sR, mK_sL, mK_sO, mK_nw, mK_sK]; first | assumption | (simp only [*]; done))) rfl 5 (by decide) q276 (Or.inl rfl) rfl dJ20_init_11 ?_
  refine g_putI hC (ci := 21) (by first | with_reducible rfl | with_reducible assumption | (simp only [mR_sI, mR_sL]; with_reducible assumption) | exact rfl | assumption) (by first | with_reducible assumption | (simp only [mK_sI, mK_sR, mK_sL, mK_sO]; with_reducible assumption) | assumption | (simp only [mK_sI, mK_sR, mK_sL, mK_sO, mK_nw, mK_sK]; first | assumption | (simp only [*]; done))) rfl 2 (by decide) q686 (Or.inl rfl) (Or.inl rfl) rfl rfl rfl dJ20_init_14 ?_
  refine g_aload_n hC dJ20_init_17 rfl ?_
  refine g_null hC dJ20_init_18 ?_
  refine g_putR hC (ci := 21) (by first | with_reducible rfl | with_reducible assumption | (simp only [mR_sI, mR_sL]; with_reducible assumption) | exact rfl | assumption) (by first | with_reducible assumption | (simp only [mK_sI, mK_sR, mK_sL, mK_sO]; with_reducible assumption) | assumption | (simp only [mK_sI, mK_sR, mK_sL, mK_sO, mK_nw, mK_sK]; first | assumption | (simp only [*]; done))) rfl 1 (by decide) q685 (Or.inl rfl) (Or.inl rfl) rfl dJ20_init_19 ?_
  refine g_aload_n hC dJ20_init_22 rfl ?_
  refine g_aload_n hC dJ20_init_23 rfl ?_
  refine g_putR hC (ci := 21) (by first | with_reducible rfl | with_reducible assumption | (simp only [mR_sI, mR_sL]; with_reducible assumption) | exact rfl | assumption) (by first | with_reducible assumption | (simp only [mK_sI, mK_sR, mK_sL, mK_sO]; with_reducible assumption) | assumption | (simp only [mK_sI, mK_sR, mK_sL, mK_sO, mK_nw, mK_sK]; first | assumption | (simp only [*]; done))) rfl 0 (by decide) q684 (Or.inl rfl) (Or.inl rfl) rfl dJ20_init_24 ?_
  refine g_vret hC hQ (by omega) (by omega) dJ20_init_27 ?_
  exact ⟨rfl, rfl⟩
theorem ct_J21_init (hB : Base G) {it : Nat} {r : Option Nat} (hk : mK M it = kEI) (hkt : mK M t = kTM) : KJ21_init G 3 0 0 [vr (some it), vr (some t), vr r] M (fun v M' => v = none ∧ M' = sR (sR (sI (sR M it 3 (some t)) it 2 (mI M t 5)) it 1 none) it 0 r) := by
  refine Ct.of (own := RJ21) (nm := "<init>") hB (by decide) rfl rfl rfl rfl (fun C hC hQ => ?_)
  refine g_aload_n hC dJ21_init_0 rfl ?_
  refine g_aload_n hC dJ21_init_1 rfl ?_
  refine g_aload_n hC dJ21_init_2 rfl ?_
  refine g_callI hC (by first | with_reducible rfl | with_reducible assumption | (simp only [mR_sI, mR_sL]; with_reducible assumption) | exact rfl | assumption) (ct_itinit_J21 hB hk hkt) rfl (by decide) rfl yk_J20_init rfl q680 q681 q75 q682 rfl dJ21_init_3 (by omega) (by omega) (fun v M1 hp => ?_)
  obtain ⟨rfl, hM⟩ := hp
  cases hM.symm
  simp only [Option.toList_some, Option.toList_none, List.cons_append, List.nil_append, Nat.add_zero, Nat.zero_add]
  refine g_vret hC hQ (by omega) (by omega) dJ21_init_6 ?_
  exact ⟨rfl, rfl⟩
theorem ct_hasNext_J21 (hB : Base G) {it ρi : Nat} {nx : Option Nat} (hI : It M kEI it ρi t nx) : KJ20_hasNext G 1 0 0 [vr (some it)] M (fun v M' => v = some (vi (if nx = none then 0 else 1)) ∧ M' = M) := by
  obtain ⟨hk, ho, rfl, -⟩ := hI
  refine Ct.of (own := RJ20) (nm := "hasNext") hB (by decide) rfl rfl rfl rfl (fun C hC hQ => ?_)
  refine g_aload_n hC dJ20_hasNext_0 rfl ?_
  refine g_getR hC (ci := 21) (by first | with_reducible rfl | with_reducible assumption | (simp only [mR_sI, mR_sL]; with_reducible assumption) | exact rfl | assumption) (by first | with_reducible assumption | (simp only [mK_sI, mK_sR, mK_sL, mK_sO]; with_reducible assumption) | assumption | (simp only [mK_sI, mK_sR, mK_sL, mK_sO, mK_nw, mK_sK]; first | assumption | (simp only [*]; done))) rfl 0 (by decide) q684 (Or.inl rfl) rfl dJ20_hasNext_1 ?_
  refine g_ifnull hC 11 dJ20_hasNext_4 (by decide) (fun hc => ?_) (fun y hc => ?_)
  · refine g_iconst (v := 0) hC dJ20_hasNext_11 (by decide) ?_
    refine g_zret hC hQ (by omega) (by omega) dJ20_hasNext_12 (by first | rfl | assumption) ?_
    exact ⟨by simp [hc], rfl⟩
  · refine g_iconst (v := 1) hC dJ20_hasNext_7 (by decide) ?_
    refine g_goto hC 12 dJ20_hasNext_8 (by decide) ?_
    refine g_zret hC hQ (by omega) (by omega) dJ20_hasNext_12 (by first | rfl | assumption) ?_
    exact ⟨by simp [hc], rfl⟩
theorem ct_nextEntry_J21 (hB : Base G) (hT : TMap M ρ t n ad ps lo hi ky vl) {it ρi i : Nat} (hin : i < n) (hI : It M kEI it ρi t (some (ad i))) (hρi : ρi ≠ ρ) (hρ0 : ρi ≠ 0) : KJ20_nextEntry G 2 0 0 [vr (some it)] M (fun v M' => v = some (vr (some (ad i))) ∧ Fr (fun r => r = ρi) M M' ∧ It M' kEI it ρi t (if i + 1 < n then some (ad (i + 1)) else none)) := by
  have hkt := hT.1
  have hot := hT.2.1
  obtain ⟨hk, ho, h0, h3, h2⟩ := hI
  have htn : t ≠ it := by intro e; subst e; rw [hot] at ho; exact hρi ho.symm
  refine Ct.of (own := RJ20) (nm := "nextEntry") hB (by decide) rfl rfl rfl rfl (fun C hC hQ => ?_)
  refine g_aload_n hC dJ20_nextEntry_0 rfl ?_
  refine g_getR hC (ci := 21) (by first | with_reducible rfl | with_reducible assumption | (simp only [mR_sI, mR_sL]; with_reducible assumption) | exact rfl | assumption) (by first | with_reducible assumption | (simp only [mK_sI, mK_sR, mK_sL, mK_sO]; with_reducible assumption) | assumption | (simp only [mK_sI, mK_sR, mK_sL, mK_sO, mK_nw, mK_sK]; first | assumption | (simp only [*]; done))) rfl 0 (by decide) q684 (Or.inl rfl) rfl dJ20_nextEntry_1 ?_
  rw [h0]
  refine g_astore_n hC dJ20_nextEntry_4 rfl rfl ?_
  try simp only [stL, clr]
  refine g_aload_n hC dJ20_nextEntry_5 rfl ?_
  refine g_ifnonnull hC 17 dJ20_nextEntry_6 (by decide) (fun y hc => ?_) (fun hc => ?_)
  · refine g_aload_n hC dJ20_nextEntry_17 rfl ?_
    refine g_getR hC (ci := 21) (by first | with_reducible rfl | with_reducible assumption | (simp only [mR_sI, mR_sL]; with_reducible assumption) | exact rfl | assumption) (by first | with_reducible assumption | (simp only [mK_sI, mK_sR, mK_sL, mK_sO]; with_reducible assumption) | assumption | (simp only [mK_sI, mK_sR, mK_sL, mK_sO, mK_nw, mK_sK]; first | assumption | (simp only [*]; done))) rfl 3 (by decide) q687 (Or.inl rfl) rfl dJ20_nextEntry_18 ?_
    refine g_getNI hC (ci := 8) (by first | with_reducible rfl | with_reducible assumption | (simp only [mR_sI, mR_sL]; with_reducible assumption) | exact rfl | assumption) (by first | with_reducible assumption | (simp only [mK_sI, mK_sR, mK_sL, mK_sO]; with_reducible assumption) | assumption | (simp only [mK_sI, mK_sR, mK_sL, mK_sO, mK_nw, mK_sK]; first | assumption | (simp only [*]; done))) rfl 5 (by decide) q276 (Or.inl rfl) rfl dJ20_nextEntry_21 ?_
    refine g_aload_n hC dJ20_nextEntry_24 rfl ?_
    refine g_getI hC (ci := 21) (by first | with_reducible rfl | with_reducible assumption | (simp only [mR_sI, mR_sL]; with_reducible assumption) | exact rfl | assumption) (by first | with_reducible assumption | (simp only [mK_sI, mK_sR, mK_sL, mK_sO]; with_reducible assumption) | assumption | (simp only [mK_sI, mK_sR, mK_sL, mK_sO, mK_nw, mK_sK]; first | assumption | (simp only [*]; done))) rfl 2 (by decide) q686 (Or.inl rfl) rfl dJ20_nextEntry_25 ?_
    rw [h2]
    refine g_icmp_eq hC 39 dJ20_nextEntry_28 (by decide) (fun hc2 => ?_) (fun hc2 => ?_)
    · refine g_aload_n hC dJ20_nextEntry_39 rfl ?_
      refine g_aload_n hC dJ20_nextEntry_40 rfl ?_
      refine g_callS hC (ct_successor hB hT hin) rfl (by decide) rfl yk_J6_successor q907 q908 q59 q909 rfl dJ20_nextEntry_41 (by omega) (by omega) (fun v M1 hp => ?_)
      obtain ⟨rfl, hM⟩ := hp
      cases hM.symm
      simp only [Option.toList_some, Option.toList_none, List.cons_append, List.nil_append, Nat.add_zero, Nat.zero_add]
      generalize hnx : (if i + 1 < n then some (ad (i + 1)) else none) = nx
      refine g_putR hC (ci := 21) (by first | with_reducible rfl | with_reducible assumption | (simp only [mR_sI, mR_sL]; with_reducible assumption) | exact rfl | assumption) (by first | with_reducible assumption | (simp only [mK_sI, mK_sR, mK_sL, mK_sO]; with_reducible assumption) | assumption | (simp only [mK_sI, mK_sR, mK_sL, mK_sO, mK_nw, mK_sK]; first | assumption | (simp only [*]; done))) rfl 0 (by decide) q684 (Or.inl rfl) (Or.inl rfl) rfl dJ20_nextEntry_44 ?_
      refine g_aload_n hC dJ20_nextEntry_47 rfl ?_
      refine g_aload_n hC dJ20_nextEntry_48 rfl ?_
      refine g_putR hC (ci := 21) (by first | with_reducible rfl | with_reducible assumption | (simp only [mR_sI, mR_sL]; with_reducible assumption) | exact rfl | assumption) (by first | with_reducible assumption | (simp only [mK_sI, mK_sR, mK_sL, mK_sO]; with_reducible assumption) | assumption | (simp only [mK_sI, mK_sR, mK_sL, mK_sO, mK_nw, mK_sK]; first | assumption | (simp only [*]; done))) rfl 1 (by decide) q685 (Or.inl rfl) (Or.inl rfl) rfl dJ20_nextEntry_49 ?_
      refine g_aload_n hC dJ20_nextEntry_52 rfl ?_
      refine g_aret hC hQ (by omega) (by omega) rfl dJ20_nextEntry_53 ?_
      refine ⟨rfl, (Fr.sR ho).tr (Fr.sR ho), hk, ho, ?_, ?_, ?_⟩
      · rw [mR_sRk it (by decide), hnx]; exact mR_sRe _ _ _
      · rw [mR_sRk it (by decide), mR_sRk it (by decide)]; exact h3
      · rw [mI_sR, mI_sR, mI_sR, mI_sR]; exact h2
    · exact absurd rfl hc2
  · cases hc
theorem ct_itinit_J22 (hB : Base G) {it : Nat} {r : Option Nat} (hk : mK M it = kKT) (hkt : mK M t = kTM) : KJ20_init G 2 0 0 [vr (some it), vr (some t), vr r] M (fun v M' => v = none ∧ M' = sR (sR (sI (sR M it 3 (some t)) it 2 (mI M t 5)) it 1 none) it 0 r) := by
  refine Ct.of (own := RJ20) (nm := "<init>") hB (by decide) rfl rfl rfl rfl (fun C hC hQ => ?_)
  refine g_aload_n hC dJ20_init_0 rfl ?_
  refine g_aload_n hC dJ20_init_1 rfl ?_
  refine g_putR hC (ci := 22) (by first | with_reducible rfl | with_reducible assumption | (simp only [mR_sI, mR_sL]; with_reducible assumption) | exact rfl | assumption) (by first | with_reducible assumption | (simp only [mK_sI, mK_sR, mK_sL, mK_sO]; with_reducible assumption) | assumption | (simp only [mK_sI, mK_sR, mK_sL, mK_sO, mK_nw, mK_sK]; first | assumption | (simp only [*]; done))) rfl 3 (by decide) q687 (Or.inl rfl) (Or.inr ⟨rfl, rfl, rfl⟩) rfl dJ20_init_2 ?_
  refine g_aload_n hC dJ20_init_5 rfl ?_
  refine g_objInit hC (by first | with_reducible rfl | with_reducible assumption | (simp only [mR_sI, mR_sL]; with_reducible assumption) | exact rfl | assumption) q683 q_oi1 q_oi2 (by decide) rfl dJ20_init_6 ?_
  refine g_aload_n hC dJ20_init_9 rfl ?_
  refine g_aload_n hC dJ20_init_10 rfl ?_
  refine g_getNI hC (ci := 8) (by first | with_reducible rfl | with_reducible assumption | (simp only [mR_sI, mR_sL]; with_reducible assumption) | exact rfl | assumption) (by first | with_reducible assumption | (simp only [mK_sI, mK_sR, mK_sL, mK_sO]; with_reducible assumption) | assumption | (simp only [mK_sI, mK_sR, mK_sL, mK_sO, mK_nw, mK_sK]; first | assumption | (simp only [*]; done))) rfl 5 (by decide) q276 (Or.inl rfl) rfl dJ20_init_11 ?_
  refine g_putI hC (ci := 22) (by first | with_reducible rfl | with_reducible assumption | (simp only [mR_sI, mR_sL]; with_reducible assumption) | exact rfl | assumption) (by first | with_reducible assumption | (simp only [mK_sI, mK_sR, mK_sL, mK_sO]; with_reducible assumption) | assumption | (simp only [mK_sI, mK_sR, mK_sL, mK_sO, mK_nw, mK_sK]; first | assumption | (simp only [*]; done))) rfl 2 (by decide) q686 (Or.inl rfl) (Or.inl rfl) rfl rfl rfl dJ20_init_14 ?_
  refine g_aload_n hC dJ20_init_17 rfl ?_
  refine g_null hC dJ20_init_18 ?_
  refine g_putR hC (ci := 22) (by first | with_reducible rfl | with_reducible assumption | (simp only [mR_sI, mR_sL]; with_reducible assumption) | exact rfl | assumption) (by first | with_reducible assumption | (simp only [mK_sI, mK_sR, mK_sL, mK_sO]; with_reducible assumption) | assumption | (simp only [mK_sI, mK_sR, mK_sL, mK_sO, mK_nw, mK_sK]; first | assumption | (simp only [*]; done))) rfl 1 (by decide) q685 (Or.inl rfl) (Or.inl rfl) rfl dJ20_init_19 ?_
  refine g_aload_n hC dJ20_init_22 rfl ?_
  refine g_aload_n hC dJ20_init_23 rfl ?_
  refine g_putR hC (ci := 22) (by first | with_reducible rfl | with_reducible assumption | (simp only [mR_sI, mR_sL]; with_reducible assumption) | exact rfl | assumption) (by first | with_reducible assumption | (simp only [mK_sI, mK_sR, mK_sL, mK_sO]; with_reducible assumption) | assumption | (simp only [mK_sI, mK_sR, mK_sL, mK_sO, mK_nw, mK_sK]; first | assumption | (simp only [*]; done))) rfl 0 (by decide) q684 (Or.inl rfl) (Or.inl rfl) rfl dJ20_init_24 ?_
  refine g_vret hC hQ (by omega) (by omega) dJ20_init_27 ?_
  exact ⟨rfl, rfl⟩
theorem ct_J22_init (hB : Base G) {it : Nat} {r : Option Nat} (hk : mK M it = kKT) (hkt : mK M t = kTM) : KJ22_init G 3 0 0 [vr (some it), vr (some t), vr r] M (fun v M' => v = none ∧ M' = sR (sR (sI (sR M it 3 (some t)) it 2 (mI M t 5)) it 1 none) it 0 r) := by
  refine Ct.of (own := RJ22) (nm := "<init>") hB (by decide) rfl rfl rfl rfl (fun C hC hQ => ?_)
  refine g_aload_n hC dJ22_init_0 rfl ?_
  refine g_aload_n hC dJ22_init_1 rfl ?_
  refine g_aload_n hC dJ22_init_2 rfl ?_
  refine g_callI hC (by first | with_reducible rfl | with_reducible assumption | (simp only [mR_sI, mR_sL]; with_reducible assumption) | exact rfl | assumption) (ct_itinit_J22 hB hk hkt) rfl (by decide) rfl yk_J20_init rfl q714 q681 q75 q682 rfl dJ22_init_3 (by omega) (by omega) (fun v M1 hp => ?_)
  obtain ⟨rfl, hM⟩ := hp
  cases hM.symm
  simp only [Option.toList_some, Option.toList_none, List.cons_append, List.nil_append, Nat.add_zero, Nat.zero_add]
  refine g_vret hC hQ (by omega) (by omega) dJ22_init_6 ?_
  exact ⟨rfl, rfl⟩
theorem ct_hasNext_J22 (hB : Base G) {it ρi : Nat} {nx : Option Nat} (hI : It M kKT it ρi t nx) : KJ20_hasNext G 1 0 0 [vr (some it)] M (fun v M' => v = some (vi (if nx = none then 0 else 1)) ∧ M' = M) := by
  obtain ⟨hk, ho, rfl, -⟩ := hI
  refine Ct.of (own := RJ20) (nm := "hasNext") hB (by decide) rfl rfl rfl rfl (fun C hC hQ => ?_)
  refine g_aload_n hC dJ20_hasNext_0 rfl ?_
  refine g_getR hC (ci := 22) (by first | with_reducible rfl | with_reducible assumption | (simp only [mR_sI, mR_sL]; with_reducible assumption) | exact rfl | assumption) (by first | with_reducible assumption | (simp only [mK_sI, mK_sR, mK_sL, mK_sO]; with_reducible assumption) | assumption | (simp only [mK_sI, mK_sR, mK_sL, mK_sO, mK_nw, mK_sK]; first | assumption | (simp only [*]; done))) rfl 0 (by decide) q684 (Or.inl rfl) rfl dJ20_hasNext_1 ?_
  refine g_ifnull hC 11 dJ20_hasNext_4 (by decide) (fun hc => ?_) (fun y hc => ?_)
  · refine g_iconst (v := 0) hC dJ20_hasNext_11 (by decide) ?_
    refine g_zret hC hQ (by omega) (by omega) dJ20_hasNext_12 (by first | rfl | assumption) ?_
    exact ⟨by simp [hc], rfl⟩
  · refine g_iconst (v := 1) hC dJ20_hasNext_7 (by decide) ?_
    refine g_goto hC 12 dJ20_hasNext_8 (by decide) ?_
    refine g_zret hC hQ (by omega) (by omega) dJ20_hasNext_12 (by first | rfl | assumption) ?_
    exact ⟨by simp [hc], rfl⟩
theorem ct_nextEntry_J22 (hB : Base G) (hT : TMap M ρ t n ad ps lo hi ky vl) {it ρi i : Nat} (hin : i < n) (hI : It M kKT it ρi t (some (ad i))) (hρi : ρi ≠ ρ) (hρ0 : ρi ≠ 0) : KJ20_nextEntry G 2 0 0 [vr (some it)] M (fun v M' => v = some (vr (some (ad i))) ∧ Fr (fun r => r = ρi) M M' ∧ It M' kKT it ρi t (if i + 1 < n then some (ad (i + 1)) else none)) := by
  have hkt := hT.1
  have hot := hT.2.1
  obtain ⟨hk, ho, h0, h3, h2⟩ := hI
  have htn : t ≠ it := by intro e; subst e; rw [hot] at ho; exact hρi ho.symm
  refine Ct.of (own := RJ20) (nm := "nextEntry") hB (by decide) rfl rfl rfl rfl (fun C hC hQ => ?_)
  refine g_aload_n hC dJ20_nextEntry_0 rfl ?_
  refine g_getR hC (ci := 22) (by first | with_reducible rfl | with_reducible assumption | (simp only [mR_sI, mR_sL]; with_reducible assumption) | exact rfl | assumption) (by first | with_reducible assumption | (simp only [mK_sI, mK_sR, mK_sL, mK_sO]; with_reducible assumption) | assumption | (simp only [mK_sI, mK_sR, mK_sL, mK_sO, mK_nw, mK_sK]; first | assumption | (simp only [*]; done))) rfl 0 (by decide) q684 (Or.inl rfl) rfl dJ20_nextEntry_1 ?_
  rw [h0]
  refine g_astore_n hC dJ20_nextEntry_4 rfl rfl ?_
  try simp only [stL, clr]
  refine g_aload_n hC dJ20_nextEntry_5 rfl ?_
  refine g_ifnonnull hC 17 dJ20_nextEntry_6 (by decide) (fun y hc => ?_) (fun hc => ?_)
  · refine g_aload_n hC dJ20_nextEntry_17 rfl ?_
    refine g_getR hC (ci := 22) (by first | with_reducible rfl | with_reducible assumption | (simp only [mR_sI, mR_sL]; with_reducible assumption) | exact rfl | assumption) (by first | with_reducible assumption | (simp only [mK_sI, mK_sR, mK_sL, mK_sO]; with_reducible assumption) | assumption | (simp only [mK_sI, mK_sR, mK_sL, mK_sO, mK_nw, mK_sK]; first | assumption | (simp only [*]; done))) rfl 3 (by decide) q687 (Or.inl rfl) rfl dJ20_nextEntry_18 ?_
    refine g_getNI hC (ci := 8) (by first | with_reducible rfl | with_reducible assumption | (simp only [mR_sI, mR_sL]; with_reducible assumption) | exact rfl | assumption) (by first | with_reducible assumption | (simp only [mK_sI, mK_sR, mK_sL, mK_sO]; with_reducible assumption) | assumption | (simp only [mK_sI, mK_sR, mK_sL, mK_sO, mK_nw, mK_sK]; first | assumption | (simp only [*]; done))) rfl 5 (by decide) q276 (Or.inl rfl) rfl dJ20_nextEntry_21 ?_
    refine g_aload_n hC dJ20_nextEntry_24 rfl ?_
    refine g_getI hC (ci := 22) (by first | with_reducible rfl | with_reducible assumption | (simp only [mR_sI, mR_sL]; with_reducible assumption) | exact rfl | assumption) (by first | with_reducible assumption | (simp only [mK_sI, mK_sR, mK_sL, mK_sO]; with_reducible assumption) | assumption | (simp only [mK_sI, mK_sR, mK_sL, mK_sO, mK_nw, mK_sK]; first | assumption | (simp only [*]; done))) rfl 2 (by decide) q686 (Or.inl rfl) rfl dJ20_nextEntry_25 ?_
    rw [h2]
    refine g_icmp_eq hC 39 dJ20_nextEntry_28 (by decide) (fun hc2 => ?_) (fun hc2 => ?_)
    · refine g_aload_n hC dJ20_nextEntry_39 rfl ?_
      refine g_aload_n hC dJ20_nextEntry_40 rfl ?_
      refine g_callS hC (ct_successor hB hT hin) rfl (by decide) rfl yk_J6_successor q907 q908 q59 q909 rfl dJ20_nextEntry_41 (by omega) (by omega) (fun v M1 hp => ?_)
      obtain ⟨rfl, hM⟩ := hp
      cases hM.symm
      simp only [Option.toList_some, Option.toList_none, List.cons_append, List.nil_append, Nat.add_zero, Nat.zero_add]
      generalize hnx : (if i + 1 < n then some (ad (i + 1)) else none) = nx
      refine g_putR hC (ci := 22) (by first | with_reducible rfl | with_reducible assumption | (simp only [mR_sI, mR_sL]; with_reducible assumption) | exact rfl | assumption) (by first | with_reducible assumption | (simp only [mK_sI, mK_sR, mK_sL, mK_sO]; with_reducible assumption) | assumption | (simp only [mK_sI, mK_sR, mK_sL, mK_sO, mK_nw, mK_sK]; first | assumption | (simp only [*]; done))) rfl 0 (by decide) q684 (Or.inl rfl) (Or.inl rfl) rfl dJ20_nextEntry_44 ?_
      refine g_aload_n hC dJ20_nextEntry_47 rfl ?_
      refine g_aload_n hC dJ20_nextEntry_48 rfl ?_
      refine g_putR hC (ci := 22) (by first | with_reducible rfl | with_reducible assumption | (simp only [mR_sI, mR_sL]; with_reducible assumption) | exact rfl | assumption) (by first | with_reducible assumption | (simp only [mK_sI, mK_sR, mK_sL, mK_sO]; with_reducible assumption) | assumption | (simp only [mK_sI, mK_sR, mK_sL, mK_sO, mK_nw, mK_sK]; first | assumption | (simp only [*]; done))) rfl 1 (by decide) q685 (Or.inl rfl) (Or.inl rfl) rfl dJ20_nextEntry_49 ?_
      refine g_aload_n hC dJ20_nextEntry_52 rfl ?_
      refine g_aret hC hQ (by omega) (by omega) rfl dJ20_nextEntry_53 ?_
      refine ⟨rfl, (Fr.sR ho).tr (Fr.sR ho), hk, ho, ?_, ?_, ?_⟩
      · rw [mR_sRk it (by decide), hnx]; exact mR_sRe _ _ _
      · rw [mR_sRk it (by decide), mR_sRk it (by decide)]; exact h3
      · rw [mI_sR, mI_sR, mI_sR, mI_sR]; exact h2
    · exact absurd rfl hc2
  · cases hc
theorem ct_itinit_J55 (hB : Base G) {it : Nat} {r : Option Nat} (hk : mK M it = kVI) (hkt : mK M t = kTM) : KJ20_init G 2 0 0 [vr (some it), vr (some t), vr r] M (fun v M' => v = none ∧ M' = sR (sR (sI (sR M it 3 (some t)) it 2 (mI M t 5)) it 1 none) it 0 r) := by
  refine Ct.of (own := RJ20) (nm := "<init>") hB (by decide) rfl rfl rfl rfl (fun C hC hQ => ?_)
  refine g_aload_n hC dJ20_init_0 rfl ?_
  refine g_aload_n hC dJ20_init_1 rfl ?_
  refine g_putR hC (ci := 23) (by first | with_reducible rfl | with_reducible assumption | (simp only [mR_sI, mR_sL]; with_reducible assumption) | exact rfl | assumption) (by first | with_reducible assumption | (simp only [mK_sI, mK_sR, mK_sL, mK_sO]; with_reducible assumption) | assumption | (simp only [mK_sI, mK_sR, mK_sL, mK_sO, mK_nw, mK_sK]; first | assumption | (simp only [*]; done))) rfl 3 (by decide) q687 (Or.inl rfl) (Or.inr ⟨rfl, rfl, rfl⟩) rfl dJ20_init_2 ?_
  refine g_aload_n hC dJ20_init_5 rfl ?_
  refine g_objInit hC (by first | with_reducible rfl | with_reducible assumption | (simp only [mR_sI, mR_sL]; with_reducible assumption) | exact rfl | assumption) q683 q_oi1 q_oi2 (by decide) rfl dJ20_init_6 ?_
  refine g_aload_n hC dJ20_init_9 rfl ?_
  refine g_aload_n hC dJ20_init_10 rfl ?_
  refine g_getNI hC (ci := 8) (by first | with_reducible rfl | with_reducible assumption | (simp only [mR_sI, mR_sL]; with_reducible assumption) | exact rfl | assumption) (by first | with_reducible assumption | (simp only [mK_sI, mK_sR, mK_sL, mK_sO]; with_reducible assumption) | assumption | (simp only [mK_sI, mK_sR, mK_sL, mK_sO, mK_nw, mK_sK]; first | assumption | (simp only [*]; done))) rfl 5 (by decide) q276 (Or.inl rfl) rfl dJ20_init_11 ?_
  refine g_putI hC (ci := 23) (by first | with_reducible rfl | with_reducible assumption | (simp only [mR_sI, mR_sL]; with_reducible assumption) | exact rfl | assumption) (by first | with_reducible assumption | (simp only [mK_sI, mK_sR, mK_sL, mK_sO]; with_reducible assumption) | assumption | (simp only [mK_sI, mK_sR, mK_sL, mK_sO, mK_nw, mK_sK]; first | assumption | (simp only [*]; done))) rfl 2 (by decide) q686 (Or.inl rfl) (Or.inl rfl) rfl rfl rfl dJ20_init_14 ?_
  refine g_aload_n hC dJ20_init_17 rfl ?_
  refine g_null hC dJ20_init_18 ?_
  refine g_putR hC (ci := 23) (by first | with_reducible rfl | with_reducible assumption | (simp only [mR_sI, mR_sL]; with_reducible assumption) | exact rfl | assumption) (by first | with_reducible assumption | (simp only [mK_sI, mK_sR, mK_sL, mK_sO]; with_reducible assumption) | assumption | (simp only [mK_sI, mK_sR, mK_sL, mK_sO, mK_nw, mK_sK]; first | assumption | (simp only [*]; done))) rfl 1 (by decide) q685 (Or.inl rfl) (Or.inl rfl) rfl dJ20_init_19 ?_
  refine g_aload_n hC dJ20_init_22 rfl ?_
  refine g_aload_n hC dJ20_init_23 rfl ?_
  refine g_putR hC (ci := 23) (by first | with_reducible rfl | with_reducible assumption | (simp only [mR_sI, mR_sL]; with_reducible assumption) | exact rfl | assumption) (by first | with_reducible assumption | (simp only [mK_sI, mK_sR, mK_sL, mK_sO]; with_reducible assumption) | assumption | (simp only [mK_sI, mK_sR, mK_sL, mK_sO, mK_nw, mK_sK]; first | assumption | (simp only [*]; done))) rfl 0 (by decide) q684 (Or.inl rfl) (Or.inl rfl) rfl dJ20_init_24 ?_
  refine g_vret hC hQ (by omega) (by omega) dJ20_init_27 ?_
  exact ⟨rfl, rfl⟩
theorem ct_J55_init (hB : Base G) {it : Nat} {r : Option Nat} (hk : mK M it = kVI) (hkt : mK M t = kTM) : KJ55_init G 3 0 0 [vr (some it), vr (some t), vr r] M (fun v M' => v = none ∧ M' = sR (sR (sI (sR M it 3 (some t)) it 2 (mI M t 5)) it 1 none) it 0 r) := by
  refine Ct.of (own := RJ55) (nm := "<init>") hB (by decide) rfl rfl rfl rfl (fun C hC hQ => ?_)
  refine g_aload_n hC dJ55_init_0 rfl ?_
  refine g_aload_n hC dJ55_init_1 rfl ?_
  refine g_aload_n hC dJ55_init_2 rfl ?_
  refine g_callI hC (by first | with_reducible rfl | with_reducible assumption | (simp only [mR_sI, mR_sL]; with_reducible assumption) | exact rfl | assumption) (ct_itinit_J55 hB hk hkt) rfl (by decide) rfl yk_J20_init rfl q2803 q681 q75 q682 rfl dJ55_init_3 (by omega) (by omega) (fun v M1 hp => ?_)
  obtain ⟨rfl, hM⟩ := hp
  cases hM.symm
  simp only [Option.toList_some, Option.toList_none, List.cons_append, List.nil_append, Nat.add_zero, Nat.zero_add]
  refine g_vret hC hQ (by omega) (by omega) dJ55_init_6 ?_
  exact ⟨rfl, rfl⟩
theorem ct_hasNext_J55 (hB : Base G) {it ρi : Nat} {nx : Option Nat} (hI : It M kVI it ρi t nx) : KJ20_hasNext G 1 0 0 [vr (some it)] M (fun v M' => v = some (vi (if nx = none then 0 else 1)) ∧ M' = M) := by
  obtain ⟨hk, ho, rfl, -⟩ := hI
  refine Ct.of (own := RJ20) (nm := "hasNext") hB (by decide) rfl rfl rfl rfl (fun C hC hQ => ?_)
  refine g_aload_n hC dJ20_hasNext_0 rfl ?_
  refine g_getR hC (ci := 23) (by first | with_reducible rfl | with_reducible assumption | (simp only [mR_sI, mR_sL]; with_reducible assumption) | exact rfl | assumption) (by first | with_reducible assumption | (simp only [mK_sI, mK_sR, mK_sL, mK_sO]; with_reducible assumption) | assumption | (simp only [mK_sI, mK_sR, mK_sL, mK_sO, mK_nw, mK_sK]; first | assumption | (simp only [*]; done))) rfl 0 (by decide) q684 (Or.inl rfl) rfl dJ20_hasNext_1 ?_
  refine g_ifnull hC 11 dJ20_hasNext_4 (by decide) (fun hc => ?_) (fun y hc => ?_)
  · refine g_iconst (v := 0) hC dJ20_hasNext_11 (by decide) ?_
    refine g_zret hC hQ (by omega) (by omega) dJ20_hasNext_12 (by first | rfl | assumption) ?_
    exact ⟨by simp [hc], rfl⟩
  · refine g_iconst (v := 1) hC dJ20_hasNext_7 (by decide) ?_
    refine g_goto hC 12 dJ20_hasNext_8 (by decide) ?_
    refine g_zret hC hQ (by omega) (by omega) dJ20_hasNext_12 (by first | rfl | assumption) ?_
    exact ⟨by simp [hc], rfl⟩
theorem ct_nextEntry_J55 (hB : Base G) (hT : TMap M ρ t n ad ps lo hi ky vl) {it ρi i : Nat} (hin : i < n) (hI : It M kVI it ρi t (some (ad i))) (hρi : ρi ≠ ρ) (hρ0 : ρi ≠ 0) : KJ20_nextEntry G 2 0 0 [vr (some it)] M (fun v M' => v = some (vr (some (ad i))) ∧ Fr (fun r => r = ρi) M M' ∧ It M' kVI it ρi t (if i + 1 < n then some (ad (i + 1)) else none)) := by
  have hkt := hT.1
  have hot := hT.2.1
  obtain ⟨hk, ho, h0, h3, h2⟩ := hI
  have htn : t ≠ it := by intro e; subst e; rw [hot] at ho; exact hρi ho.symm
  refine Ct.of (own := RJ20) (nm := "nextEntry") hB (by decide) rfl rfl rfl rfl (fun C hC hQ => ?_)
  refine g_aload_n hC dJ20_nextEntry_0 rfl ?_
  refine g_getR hC (ci := 23) (by first | with_reducible rfl | with_reducible assumption | (simp only [mR_sI, mR_sL]; with_reducible assumption) | exact rfl | assumption) (by first | with_reducible assumption | (simp only [mK_sI, mK_sR, mK_sL, mK_sO]; with_reducible assumption) | assumption | (simp only [mK_sI, mK_sR, mK_sL, mK_sO, mK_nw, mK_sK]; first | assumption | (simp only [*]; done))) rfl 0 (by decide) q684 (Or.inl rfl) rfl dJ20_nextEntry_1 ?_
  rw [h0]
  refine g_astore_n hC dJ20_nextEntry_4 rfl rfl ?_
  try simp only [stL, clr]
  refine g_aload_n hC dJ20_nextEntry_5 rfl ?_
  refine g_ifnonnull hC 17 dJ20_nextEntry_6 (by decide) (fun y hc => ?_) (fun hc => ?_)
  · refine g_aload_n hC dJ20_nextEntry_17 rfl ?_
    refine g_getR hC (ci := 23) (by first | with_reducible rfl | with_reducible assumption | (simp only [mR_sI, mR_sL]; with_reducible assumption) | exact rfl | assumption) (by first | with_reducible assumption | (simp only [mK_sI, mK_sR, mK_sL, mK_sO]; with_reducible assumption) | assumption | (simp only [mK_sI, mK_sR, mK_sL, mK_sO, mK_nw, mK_sK]; first | assumption | (simp only [*]; done))) rfl 3 (by decide) q687 (Or.inl rfl) rfl dJ20_nextEntry_18 ?_
    refine g_getNI hC (ci := 8) (by first | with_reducible rfl | with_reducible assumption | (simp only [mR_sI, mR_sL]; with_reducible assumption) | exact rfl | assumption) (by first | with_reducible assumption | (simp only [mK_sI, mK_sR, mK_sL, mK_sO]; with_reducible assumption) | assumption | (simp only [mK_sI, mK_sR, mK_sL, mK_sO, mK_nw, mK_sK]; first | assumption | (simp only [*]; done))) rfl 5 (by decide) q276 (Or.inl rfl) rfl dJ20_nextEntry_21 ?_
    refine g_aload_n hC dJ20_nextEntry_24 rfl ?_
    refine g_getI hC (ci := 23) (by first | with_reducible rfl | with_reducible assumption | (simp only [mR_sI, mR_sL]; with_reducible assumption) | exact rfl | assumption) (by first | with_reducible assumption | (simp only [mK_sI, mK_sR, mK_sL, mK_sO]; with_reducible assumption) | assumption | (simp only [mK_sI, mK_sR, mK_sL, mK_sO, mK_nw, mK_sK]; first | assumption | (simp only [*]; done))) rfl 2 (by decide) q686 (Or.inl rfl) rfl dJ20_nextEntry_25 ?_
    rw [h2]
    refine g_icmp_eq hC 39 dJ20_nextEntry_28 (by decide) (fun hc2 => ?_) (fun hc2 => ?_)
    · refine g_aload_n hC dJ20_nextEntry_39 rfl ?_
      refine g_aload_n hC dJ20_nextEntry_40 rfl ?_
      refine g_callS hC (ct_successor hB hT hin) rfl (by decide) rfl yk_J6_successor q907 q908 q59 q909 rfl dJ20_nextEntry_41 (by omega) (by omega) (fun v M1 hp => ?_)
      obtain ⟨rfl, hM⟩ := hp
      cases hM.symm
      simp only [Option.toList_some, Option.toList_none, List.cons_append, List.nil_append, Nat.add_zero, Nat.zero_add]
      generalize hnx : (if i + 1 < n then some (ad (i + 1)) else none) = nx
      refine g_putR hC (ci := 23) (by first | with_reducible rfl | with_reducible assumption | (simp only [mR_sI, mR_sL]; with_reducible assumption) | exact rfl | assumption) (by first | with_reducible assumption | (simp only [mK_sI, mK_sR, mK_sL, mK_sO]; with_reducible assumption) | assumption | (simp only [mK_sI, mK_sR, mK_sL, mK_sO, mK_nw, mK_sK]; first | assumption | (simp only [*]; done))) rfl 0 (by decide) q684 (Or.inl rfl) (Or.inl rfl) rfl dJ20_nextEntry_44 ?_
      refine g_aload_n hC dJ20_nextEntry_47 rfl ?_
      refine g_aload_n hC dJ20_nextEntry_48 rfl ?_
      refine g_putR hC (ci := 23) (by first | with_reducible rfl | with_reducible assumption | (simp only [mR_sI, mR_sL]; with_reducible assumption) | exact rfl | assumption) (by first | with_reducible assumption | (simp only [mK_sI, mK_sR, mK_sL, mK_sO]; with_reducible assumption) | assumption | (simp only [mK_sI, mK_sR, mK_sL, mK_sO, mK_nw, mK_sK]; first | assumption | (simp only [*]; done))) rfl 1 (by decide) q685 (Or.inl rfl) (Or.inl rfl) rfl dJ20_nextEntry_49 ?_
      refine g_aload_n hC dJ20_nextEntry_52 rfl ?_
      refine g_aret hC hQ (by omega) (by omega) rfl dJ20_nextEntry_53 ?_
      refine ⟨rfl, (Fr.sR ho).tr (Fr.sR ho), hk, ho, ?_, ?_, ?_⟩
      · rw [mR_sRk it (by decide), hnx]; exact mR_sRe _ _ _
      · rw [mR_sRk it (by decide), mR_sRk it (by decide)]; exact h3
      · rw [mI_sR, mI_sR, mI_sR, mI_sR]; exact h2
    · exact absurd rfl hc2
  · cases hc
theorem ct_nextE2 (hB : Base G) (hT : TMap M ρ t n ad ps lo hi ky vl) {it ρi i : Nat} (hin : i < n) (hI : It M kEI it ρi t (some (ad i))) (hρi : ρi ≠ ρ) (hρ0 : ρi ≠ 0) : KJ21_next_2 G 3 0 0 [vr (some it)] M (fun v M' => v = some (vr (some (ad i))) ∧ Fr (fun r => r = ρi) M M' ∧ It M' kEI it ρi t (if i + 1 < n then some (ad (i + 1)) else none)) := by
  have hk := hI.1
  refine Ct.of (own := RJ21) (nm := "next") hB (by decide) rfl rfl rfl rfl (fun C hC hQ => ?_)
  refine g_aload_n hC dJ21_next_2_0 rfl ?_
  refine g_callU hC (by first | with_reducible rfl | with_reducible assumption | (simp only [mR_sI, mR_sL]; with_reducible assumption) | exact rfl | assumption) (Rk.o (ci := 21) (by first | with_reducible assumption | (simp only [mK_sI, mK_sR, mK_sL, mK_sO]; with_reducible assumption) | assumption | (simp only [mK_sI, mK_sR, mK_sL, mK_sO, mK_nw, mK_sK]; first | assumption | (simp only [*]; done))) rfl) (ct_nextEntry_J21 hB hT hin hI hρi hρ0) rfl (by decide) rfl rfl yk_J20_nextEntry q899 q900 q902 q903 q75 q904 rfl dJ21_next_2_1 (by omega) (by omega) (fun v M1 hp => ?_)
  obtain ⟨rfl, hF, hI'⟩ := hp
  simp only [Option.toList_some, Option.toList_none, List.cons_append, List.nil_append, Nat.add_zero, Nat.zero_add]
  refine g_aret hC hQ (by omega) (by omega) rfl dJ21_next_2_4 ?_
  exact ⟨rfl, hF, hI'⟩
theorem ct_nextE (hB : Base G) (hT : TMap M ρ t n ad ps lo hi ky vl) {it ρi i : Nat} (hin : i < n) (hI : It M kEI it ρi t (some (ad i))) (hρi : ρi ≠ ρ) (hρ0 : ρi ≠ 0) : KJ21_next G 4 0 0 [vr (some it)] M (fun v M' => v = some (vr (some (ad i))) ∧ Fr (fun r => r = ρi) M M' ∧ It M' kEI it ρi t (if i + 1 < n then some (ad (i + 1)) else none)) := by
  have hk := hI.1
  refine Ct.of (own := RJ21) (nm := "next") hB (by decide) rfl rfl rfl rfl (fun C hC hQ => ?_)
  refine g_aload_n hC dJ21_next_0 rfl ?_
  refine g_callV hC (by first | with_reducible rfl | with_reducible assumption | (simp only [mR_sI, mR_sL]; with_reducible assumption) | exact rfl | assumption) (Rk.o (ci := 21) (by first | with_reducible assumption | (simp only [mK_sI, mK_sR, mK_sL, mK_sO]; with_reducible assumption) | assumption | (simp only [mK_sI, mK_sR, mK_sL, mK_sO, mK_nw, mK_sK]; first | assumption | (simp only [*]; done))) rfl) (ct_nextE2 hB hT hin hI hρi hρ0) rfl (by decide) rfl rfl yk_J21_next_2 q895 q896 q897 q76 q898 rfl dJ21_next_1 (by omega) (by omega) (fun v M1 hp => ?_)
  obtain ⟨rfl, hF, hI'⟩ := hp
  simp only [Option.toList_some, Option.toList_none, List.cons_append, List.nil_append, Nat.add_zero, Nat.zero_add]
  refine g_aret hC hQ (by omega) (by omega) rfl dJ21_next_4 ?_
  exact ⟨rfl, hF, hI'⟩
theorem ct_nextK (hB : Base G) (hT : TMap M ρ t n ad ps lo hi ky vl) {it ρi i : Nat} (hin : i < n) (hI : It M kKT it ρi t (some (ad i))) (hρi : ρi ≠ ρ) (hρ0 : ρi ≠ 0) : KJ22_next G 3 0 0 [vr (some it)] M (fun v M' => (∃ b, v = some (vr (some b)) ∧ Bx M' b (ky i)) ∧ Fr (fun r => r = ρi) M M' ∧ It M' kKT it ρi t (if i + 1 < n then some (ad (i + 1)) else none)) := by
  have hk := hI.1
  obtain ⟨hTt, hky, hvl, -⟩ := hT.2.2.2.2.2.2
  have hN : Nd n ad ps (ad i) := ⟨by rw [hTt.1.1 i hin]; exact hin, by rw [hTt.1.1 i hin]⟩
  obtain ⟨b, hb1, hb2⟩ := hky i hin
  refine Ct.of (own := RJ22) (nm := "next") hB (by decide) rfl rfl rfl rfl (fun C hC hQ => ?_)
  refine g_aload_n hC dJ22_next_0 rfl ?_
  refine g_callU hC (by first | with_reducible rfl | with_reducible assumption | (simp only [mR_sI, mR_sL]; with_reducible assumption) | exact rfl | assumption) (Rk.o (ci := 22) (by first | with_reducible assumption | (simp only [mK_sI, mK_sR, mK_sL, mK_sO]; with_reducible assumption) | assumption | (simp only [mK_sI, mK_sR, mK_sL, mK_sO, mK_nw, mK_sK]; first | assumption | (simp only [*]; done))) rfl) (ct_nextEntry_J22 hB hT hin hI hρi hρ0) rfl (by decide) rfl rfl yk_J20_nextEntry q916 q917 q918 q903 q75 q904 rfl dJ22_next_1 (by omega) (by omega) (fun v M1 hp => ?_)
  obtain ⟨rfl, hF, hI'⟩ := hp
  simp only [Option.toList_some, Option.toList_none, List.cons_append, List.nil_append, Nat.add_zero, Nat.zero_add]
  have h0 := Nd_ne0 hTt hN
  have hkx : mK M1 (ad i) = kEN := hF.k (hTt.2 _ hN).1 (by decide)
  have hb3 : mR M1 (ad i) 0 = some b := by rw [hF.r h0 (by rw [(hTt.2 _ hN).2]; exact fun q => hρi q.symm)]; exact hb1
  refine g_getR hC (ci := 9) (by first | with_reducible rfl | with_reducible assumption | (simp only [mR_sI, mR_sL]; with_reducible assumption) | exact rfl | assumption) (by first | with_reducible assumption | (simp only [mK_sI, mK_sR, mK_sL, mK_sO]; with_reducible assumption) | assumption | (simp only [mK_sI, mK_sR, mK_sL, mK_sO, mK_nw, mK_sK]; first | assumption | (simp only [*]; done))) rfl 0 (by decide) q974 (Or.inl rfl) rfl dJ22_next_4 ?_
  rw [hb3]
  refine g_aret hC hQ (by omega) (by omega) rfl dJ22_next_7 ?_
  exact ⟨⟨b, rfl, hb2.fr hF (fun q => hρ0 q.symm)⟩, hF, hI'⟩
theorem ct_nextV (hB : Base G) (hT : TMap M ρ t n ad ps lo hi ky vl) {it ρi i : Nat} (hin : i < n) (hI : It M kVI it ρi t (some (ad i))) (hρi : ρi ≠ ρ) (hρ0 : ρi ≠ 0) : KJ55_next G 3 0 0 [vr (some it)] M (fun v M' => v = some (vr (some (vl i))) ∧ Fr (fun r => r = ρi) M M' ∧ It M' kVI it ρi t (if i + 1 < n then some (ad (i + 1)) else none)) := by
  have hk := hI.1
  obtain ⟨hTt, hky, hvl, -⟩ := hT.2.2.2.2.2.2
  have hN : Nd n ad ps (ad i) := ⟨by rw [hTt.1.1 i hin]; exact hin, by rw [hTt.1.1 i hin]⟩
  refine Ct.of (own := RJ55) (nm := "next") hB (by decide) rfl rfl rfl rfl (fun C hC hQ => ?_)
  refine g_aload_n hC dJ55_next_0 rfl ?_
  refine g_callU hC (by first | with_reducible rfl | with_reducible assumption | (simp only [mR_sI, mR_sL]; with_reducible assumption) | exact rfl | assumption) (Rk.o (ci := 23) (by first | with_reducible assumption | (simp only [mK_sI, mK_sR, mK_sL, mK_sO]; with_reducible assumption) | assumption | (simp only [mK_sI, mK_sR, mK_sL, mK_sO, mK_nw, mK_sK]; first | assumption | (simp only [*]; done))) rfl) (ct_nextEntry_J55 hB hT hin hI hρi hρ0) rfl (by decide) rfl rfl yk_J20_nextEntry q925 q926 q927 q903 q75 q904 rfl dJ55_next_1 (by omega) (by omega) (fun v M1 hp => ?_)
  obtain ⟨rfl, hF, hI'⟩ := hp
  simp only [Option.toList_some, Option.toList_none, List.cons_append, List.nil_append, Nat.add_zero, Nat.zero_add]
  have h0 := Nd_ne0 hTt hN
  have hkx : mK M1 (ad i) = kEN := hF.k (hTt.2 _ hN).1 (by decide)
  have hb3 : mR M1 (ad i) 1 = some (vl i) := by rw [hF.r h0 (by rw [(hTt.2 _ hN).2]; exact fun q => hρi q.symm)]; exact hvl i hin
  refine g_getR hC (ci := 9) (by first | with_reducible rfl | with_reducible assumption | (simp only [mR_sI, mR_sL]; with_reducible assumption) | exact rfl | assumption) (by first | with_reducible assumption | (simp only [mK_sI, mK_sR, mK_sL, mK_sO]; with_reducible assumption) | assumption | (simp only [mK_sI, mK_sR, mK_sL, mK_sO, mK_nw, mK_sK]; first | assumption | (simp only [*]; done))) rfl 1 (by decide) q977 (Or.inl rfl) rfl dJ55_next_4 ?_
  rw [hb3]
  refine g_aret hC hQ (by omega) (by omega) rfl dJ55_next_7 ?_
  exact ⟨rfl, hF, hI'⟩
end Iter

