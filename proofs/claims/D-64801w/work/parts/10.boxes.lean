set_option maxRecDepth 100000
abbrev cJ24_compare : ByteArray := prog_22_method_40_code
def yJ24_compare : MethodName := ⟨RJ24, "compare", "(II)I"⟩
def dkwJ24_compare_0 : List UInt8 := [26, 27, 162, 0, 7, 2, 167, 0, 13, 26, 27, 160, 0, 7, 3, 167, 0, 4, 4, 172]
abbrev dktJ24_compare_0 : List UInt8 := dkwJ24_compare_0 ++ []
theorem dksJ24_compare_0 : cJ24_compare.data.toList.drop 0 = dktJ24_compare_0 := by decide +kernel
theorem dJ24_compare_0 : decode cJ24_compare 0 = .ok (.iload_n 0, 1) := dk_26 (dk_at dksJ24_compare_0 0 rfl rfl)
theorem dJ24_compare_1 : decode cJ24_compare 1 = .ok (.iload_n 1, 1) := dk_27 (dk_at dksJ24_compare_0 1 rfl rfl)
theorem dJ24_compare_2 : decode cJ24_compare 2 = .ok (.if_icmp .ge 7, 3) := dk_162 0 7 (dk_at dksJ24_compare_0 2 rfl rfl)
theorem dJ24_compare_5 : decode cJ24_compare 5 = .ok (.iconst (-1), 1) := dk_2 (dk_at dksJ24_compare_0 5 rfl rfl)
theorem dJ24_compare_6 : decode cJ24_compare 6 = .ok (.goto 13, 3) := dk_167 0 13 (dk_at dksJ24_compare_0 6 rfl rfl)
theorem dJ24_compare_9 : decode cJ24_compare 9 = .ok (.iload_n 0, 1) := dk_26 (dk_at dksJ24_compare_0 9 rfl rfl)
theorem dJ24_compare_10 : decode cJ24_compare 10 = .ok (.iload_n 1, 1) := dk_27 (dk_at dksJ24_compare_0 10 rfl rfl)
theorem dJ24_compare_11 : decode cJ24_compare 11 = .ok (.if_icmp .ne 7, 3) := dk_160 0 7 (dk_at dksJ24_compare_0 11 rfl rfl)
theorem dJ24_compare_14 : decode cJ24_compare 14 = .ok (.iconst 0, 1) := dk_3 (dk_at dksJ24_compare_0 14 rfl rfl)
theorem dJ24_compare_15 : decode cJ24_compare 15 = .ok (.goto 4, 3) := dk_167 0 4 (dk_at dksJ24_compare_0 15 rfl rfl)
theorem dJ24_compare_18 : decode cJ24_compare 18 = .ok (.iconst 1, 1) := dk_4 (dk_at dksJ24_compare_0 18 rfl rfl)
theorem dJ24_compare_19 : decode cJ24_compare 19 = .ok (.ireturn, 1) := dk_172 (dk_at dksJ24_compare_0 19 rfl rfl)
theorem yk_J24_compare : yk yJ24_compare 2 := by unfold yk; decide +kernel
abbrev KJ24_compare (G : Gx) (d mc ms : Nat) (av : List Sv) (M : Mem) (post : Option Sv → Mem → Prop) : Prop := Ct G yJ24_compare cJ24_compare 2 ((Option.some Jvm.ClassFile.FieldType.int)) d mc ms av M post
abbrev cJ24_compareTo : ByteArray := prog_22_method_63_code
def yJ24_compareTo : MethodName := ⟨RJ24, "compareTo", "(Ljava/lang/Object;)I"⟩
def dkwJ24_compareTo_0 : List UInt8 := [42, 43, 192, 0, 1, 182, 1, 28, 172]
abbrev dktJ24_compareTo_0 : List UInt8 := dkwJ24_compareTo_0 ++ []
theorem dksJ24_compareTo_0 : cJ24_compareTo.data.toList.drop 0 = dktJ24_compareTo_0 := by decide +kernel
theorem dJ24_compareTo_0 : decode cJ24_compareTo 0 = .ok (.aload_n 0, 1) := dk_42 (dk_at dksJ24_compareTo_0 0 rfl rfl)
theorem dJ24_compareTo_1 : decode cJ24_compareTo 1 = .ok (.aload_n 1, 1) := dk_43 (dk_at dksJ24_compareTo_0 1 rfl rfl)
theorem dJ24_compareTo_2 : decode cJ24_compareTo 2 = .ok (.checkcast 1, 3) := dk_192 0 1 (dk_at dksJ24_compareTo_0 2 rfl rfl)
theorem dJ24_compareTo_5 : decode cJ24_compareTo 5 = .ok (.invokevirtual 284, 3) := dk_182 1 28 (dk_at dksJ24_compareTo_0 5 rfl rfl)
theorem dJ24_compareTo_8 : decode cJ24_compareTo 8 = .ok (.ireturn, 1) := dk_172 (dk_at dksJ24_compareTo_0 8 rfl rfl)
theorem yk_J24_compareTo : yk yJ24_compareTo 1 := by unfold yk; decide +kernel
abbrev KJ24_compareTo (G : Gx) (d mc ms : Nat) (av : List Sv) (M : Mem) (post : Option Sv → Mem → Prop) : Prop := Ct G yJ24_compareTo cJ24_compareTo 2 ((Option.some Jvm.ClassFile.FieldType.int)) d mc ms av M post
abbrev cJ24_compareTo_2 : ByteArray := prog_22_method_39_code
def yJ24_compareTo_2 : MethodName := ⟨RJ24, "compareTo", "(Ljava/lang/Integer;)I"⟩
def dkwJ24_compareTo_2_0 : List UInt8 := [42, 180, 0, 205, 43, 180, 0, 205, 184, 1, 3, 172]
abbrev dktJ24_compareTo_2_0 : List UInt8 := dkwJ24_compareTo_2_0 ++ []
theorem dksJ24_compareTo_2_0 : cJ24_compareTo_2.data.toList.drop 0 = dktJ24_compareTo_2_0 := by decide +kernel
theorem dJ24_compareTo_2_0 : decode cJ24_compareTo_2 0 = .ok (.aload_n 0, 1) := dk_42 (dk_at dksJ24_compareTo_2_0 0 rfl rfl)
theorem dJ24_compareTo_2_1 : decode cJ24_compareTo_2 1 = .ok (.getfield 205, 3) := dk_180 0 205 (dk_at dksJ24_compareTo_2_0 1 rfl rfl)
theorem dJ24_compareTo_2_4 : decode cJ24_compareTo_2 4 = .ok (.aload_n 1, 1) := dk_43 (dk_at dksJ24_compareTo_2_0 4 rfl rfl)
theorem dJ24_compareTo_2_5 : decode cJ24_compareTo_2 5 = .ok (.getfield 205, 3) := dk_180 0 205 (dk_at dksJ24_compareTo_2_0 5 rfl rfl)
theorem dJ24_compareTo_2_8 : decode cJ24_compareTo_2 8 = .ok (.invokestatic 259, 3) := dk_184 1 3 (dk_at dksJ24_compareTo_2_0 8 rfl rfl)
theorem dJ24_compareTo_2_11 : decode cJ24_compareTo_2 11 = .ok (.ireturn, 1) := dk_172 (dk_at dksJ24_compareTo_2_0 11 rfl rfl)
theorem yk_J24_compareTo_2 : yk yJ24_compareTo_2 1 := by unfold yk; decide +kernel
abbrev KJ24_compareTo_2 (G : Gx) (d mc ms : Nat) (av : List Sv) (M : Mem) (post : Option Sv → Mem → Prop) : Prop := Ct G yJ24_compareTo_2 cJ24_compareTo_2 2 ((Option.some Jvm.ClassFile.FieldType.int)) d mc ms av M post
abbrev cJ24_equals : ByteArray := prog_22_method_34_code
def yJ24_equals : MethodName := ⟨RJ24, "equals", "(Ljava/lang/Object;)Z"⟩
def dkwJ24_equals_1 : List UInt8 := [167, 0, 4, 3, 172, 3, 172]
abbrev dktJ24_equals_1 : List UInt8 := dkwJ24_equals_1 ++ []
def dkwJ24_equals_0 : List UInt8 := [43, 193, 0, 1, 153, 0, 23, 42, 180, 0, 205, 43, 192, 0, 1, 182, 0, 211, 160, 0, 7, 4]
abbrev dktJ24_equals_0 : List UInt8 := dkwJ24_equals_0 ++ dktJ24_equals_1
theorem dksJ24_equals_0 : cJ24_equals.data.toList.drop 0 = dktJ24_equals_0 := by decide +kernel
theorem dksJ24_equals_1 : cJ24_equals.data.toList.drop 22 = dktJ24_equals_1 := dk_seg dksJ24_equals_0 22 rfl rfl
theorem dJ24_equals_0 : decode cJ24_equals 0 = .ok (.aload_n 1, 1) := dk_43 (dk_at dksJ24_equals_0 0 rfl rfl)
theorem dJ24_equals_1 : decode cJ24_equals 1 = .ok (.instanceof 1, 3) := dk_193 0 1 (dk_at dksJ24_equals_0 1 rfl rfl)
theorem dJ24_equals_4 : decode cJ24_equals 4 = .ok (.ifCond .eq 23, 3) := dk_153 0 23 (dk_at dksJ24_equals_0 4 rfl rfl)
theorem dJ24_equals_7 : decode cJ24_equals 7 = .ok (.aload_n 0, 1) := dk_42 (dk_at dksJ24_equals_0 7 rfl rfl)
theorem dJ24_equals_8 : decode cJ24_equals 8 = .ok (.getfield 205, 3) := dk_180 0 205 (dk_at dksJ24_equals_0 8 rfl rfl)
theorem dJ24_equals_11 : decode cJ24_equals 11 = .ok (.aload_n 1, 1) := dk_43 (dk_at dksJ24_equals_0 11 rfl rfl)
theorem dJ24_equals_12 : decode cJ24_equals 12 = .ok (.checkcast 1, 3) := dk_192 0 1 (dk_at dksJ24_equals_0 12 rfl rfl)
theorem dJ24_equals_15 : decode cJ24_equals 15 = .ok (.invokevirtual 211, 3) := dk_182 0 211 (dk_at dksJ24_equals_0 15 rfl rfl)
theorem dJ24_equals_18 : decode cJ24_equals 18 = .ok (.if_icmp .ne 7, 3) := dk_160 0 7 (dk_at dksJ24_equals_0 18 rfl rfl)
theorem dJ24_equals_21 : decode cJ24_equals 21 = .ok (.iconst 1, 1) := dk_4 (dk_at dksJ24_equals_0 21 rfl rfl)
theorem dJ24_equals_22 : decode cJ24_equals 22 = .ok (.goto 4, 3) := dk_167 0 4 (dk_at dksJ24_equals_1 0 rfl rfl)
theorem dJ24_equals_25 : decode cJ24_equals 25 = .ok (.iconst 0, 1) := dk_3 (dk_at dksJ24_equals_1 3 rfl rfl)
theorem dJ24_equals_26 : decode cJ24_equals 26 = .ok (.ireturn, 1) := dk_172 (dk_at dksJ24_equals_1 4 rfl rfl)
theorem dJ24_equals_27 : decode cJ24_equals 27 = .ok (.iconst 0, 1) := dk_3 (dk_at dksJ24_equals_1 5 rfl rfl)
theorem dJ24_equals_28 : decode cJ24_equals 28 = .ok (.ireturn, 1) := dk_172 (dk_at dksJ24_equals_1 6 rfl rfl)
theorem yk_J24_equals : yk yJ24_equals 1 := by unfold yk; decide +kernel
abbrev KJ24_equals (G : Gx) (d mc ms : Nat) (av : List Sv) (M : Mem) (post : Option Sv → Mem → Prop) : Prop := Ct G yJ24_equals cJ24_equals 2 ((Option.some Jvm.ClassFile.FieldType.boolean)) d mc ms av M post
abbrev cJ24_hashCode : ByteArray := prog_22_method_32_code
def yJ24_hashCode : MethodName := ⟨RJ24, "hashCode", "()I"⟩
def dkwJ24_hashCode_0 : List UInt8 := [42, 180, 0, 205, 184, 0, 208, 172]
abbrev dktJ24_hashCode_0 : List UInt8 := dkwJ24_hashCode_0 ++ []
theorem dksJ24_hashCode_0 : cJ24_hashCode.data.toList.drop 0 = dktJ24_hashCode_0 := by decide +kernel
theorem dJ24_hashCode_0 : decode cJ24_hashCode 0 = .ok (.aload_n 0, 1) := dk_42 (dk_at dksJ24_hashCode_0 0 rfl rfl)
theorem dJ24_hashCode_1 : decode cJ24_hashCode 1 = .ok (.getfield 205, 3) := dk_180 0 205 (dk_at dksJ24_hashCode_0 1 rfl rfl)
theorem dJ24_hashCode_4 : decode cJ24_hashCode 4 = .ok (.invokestatic 208, 3) := dk_184 0 208 (dk_at dksJ24_hashCode_0 4 rfl rfl)
theorem dJ24_hashCode_7 : decode cJ24_hashCode 7 = .ok (.ireturn, 1) := dk_172 (dk_at dksJ24_hashCode_0 7 rfl rfl)
theorem yk_J24_hashCode : yk yJ24_hashCode 0 := by unfold yk; decide +kernel
abbrev KJ24_hashCode (G : Gx) (d mc ms : Nat) (av : List Sv) (M : Mem) (post : Option Sv → Mem → Prop) : Prop := Ct G yJ24_hashCode cJ24_hashCode 1 ((Option.some Jvm.ClassFile.FieldType.int)) d mc ms av M post
abbrev cJ24_hashCode_2 : ByteArray := prog_22_method_33_code
def yJ24_hashCode_2 : MethodName := ⟨RJ24, "hashCode", "(I)I"⟩
theorem dJ24_hashCode_2_0 : decode cJ24_hashCode_2 0 = .ok (.iload_n 0, 1) := by decide +kernel
theorem dJ24_hashCode_2_1 : decode cJ24_hashCode_2 1 = .ok (.ireturn, 1) := by decide +kernel
theorem yk_J24_hashCode_2 : yk yJ24_hashCode_2 1 := by unfold yk; decide +kernel
abbrev KJ24_hashCode_2 (G : Gx) (d mc ms : Nat) (av : List Sv) (M : Mem) (post : Option Sv → Mem → Prop) : Prop := Ct G yJ24_hashCode_2 cJ24_hashCode_2 1 ((Option.some Jvm.ClassFile.FieldType.int)) d mc ms av M post
abbrev cJ24_intValue : ByteArray := prog_22_method_27_code
def yJ24_intValue : MethodName := ⟨RJ24, "intValue", "()I"⟩
theorem dJ24_intValue_0 : decode cJ24_intValue 0 = .ok (.aload_n 0, 1) := by decide +kernel
theorem dJ24_intValue_1 : decode cJ24_intValue 1 = .ok (.getfield 205, 3) := by decide +kernel
theorem dJ24_intValue_4 : decode cJ24_intValue 4 = .ok (.ireturn, 1) := by decide +kernel
theorem yk_J24_intValue : yk yJ24_intValue 0 := by unfold yk; decide +kernel
abbrev KJ24_intValue (G : Gx) (d mc ms : Nat) (av : List Sv) (M : Mem) (post : Option Sv → Mem → Prop) : Prop := Ct G yJ24_intValue cJ24_intValue 1 ((Option.some Jvm.ClassFile.FieldType.int)) d mc ms av M post
theorem q79 : (Jvm.Cond.initialized "java/lang/Integer") ∈ lw_all := lw_g (lw_at lw_m1 31 rfl) rfl
theorem q123 : (Jvm.Cond.instanceMethod ({ cls := "java/lang/Object", name := "<init>", desc := "()V" } : Jvm.MethodName)) ∈ lw_all := lw_g (lw_at lw_m1 75 rfl) rfl
theorem q124 : (Jvm.Cond.code ({ cls := "java/lang/Object", name := "<init>", desc := "()V" } : Jvm.MethodName) object_method_1_code (1 : Nat) (Option.none : Option Jvm.ClassFile.FieldType)) ∈ lw_all := lw_g (lw_at lw_m1 76 rfl) rfl
theorem q548 : (Jvm.Cond.classLink "java/lang/Integer" (1 : Nat) "java/lang/Integer") ∈ lw_all := lw_g (lw_at lw_m3 20 rfl) rfl
theorem q549 : (Jvm.Cond.methodLink "java/lang/Integer" (211 : Nat) ({ cls := "java/lang/Integer", name := "intValue", desc := "()I" } : Jvm.MethodName)) ∈ lw_all := lw_g (lw_at lw_m3 21 rfl) rfl
theorem q550 : (Jvm.Cond.instanceMethod ({ cls := "java/lang/Integer", name := "intValue", desc := "()I" } : Jvm.MethodName)) ∈ lw_all := lw_g (lw_at lw_m3 22 rfl) rfl
theorem q551 : (Jvm.Cond.selects "java/lang/Integer" ({ cls := "java/lang/Integer", name := "intValue", desc := "()I" } : Jvm.MethodName) ({ cls := "java/lang/Integer", name := "intValue", desc := "()I" } : Jvm.MethodName)) ∈ lw_all := lw_g (lw_at lw_m3 23 rfl) rfl
theorem q552 : (Jvm.Cond.code ({ cls := "java/lang/Integer", name := "intValue", desc := "()I" } : Jvm.MethodName) prog_22_method_27_code (1 : Nat) (Option.some Jvm.ClassFile.FieldType.int)) ∈ lw_all := lw_g (lw_at lw_m3 24 rfl) rfl
theorem q1093 : (Jvm.Cond.methodLink "java/lang/Integer" (208 : Nat) ({ cls := "java/lang/Integer", name := "hashCode", desc := "(I)I" } : Jvm.MethodName)) ∈ lw_all := lw_g (lw_at lw_m5 85 rfl) rfl
theorem q1094 : (Jvm.Cond.static ({ cls := "java/lang/Integer", name := "hashCode", desc := "(I)I" } : Jvm.MethodName)) ∈ lw_all := lw_g (lw_at lw_m5 86 rfl) rfl
theorem q1095 : (Jvm.Cond.code ({ cls := "java/lang/Integer", name := "hashCode", desc := "(I)I" } : Jvm.MethodName) prog_22_method_33_code (1 : Nat) (Option.some Jvm.ClassFile.FieldType.int)) ∈ lw_all := lw_g (lw_at lw_m5 87 rfl) rfl
theorem q1521 : (Jvm.Cond.static ({ cls := "java/lang/Integer", name := "compare", desc := "(II)I" } : Jvm.MethodName)) ∈ lw_all := lw_g (lw_at lw_m7 33 rfl) rfl
theorem q1522 : (Jvm.Cond.code ({ cls := "java/lang/Integer", name := "compare", desc := "(II)I" } : Jvm.MethodName) prog_22_method_40_code (2 : Nat) (Option.some Jvm.ClassFile.FieldType.int)) ∈ lw_all := lw_g (lw_at lw_m7 34 rfl) rfl
theorem q1542 : (Jvm.Cond.methodLink "java/lang/Integer" (284 : Nat) ({ cls := "java/lang/Integer", name := "compareTo", desc := "(Ljava/lang/Integer;)I" } : Jvm.MethodName)) ∈ lw_all := lw_g (lw_at lw_m7 54 rfl) rfl
theorem q1543 : (Jvm.Cond.instanceMethod ({ cls := "java/lang/Integer", name := "compareTo", desc := "(Ljava/lang/Integer;)I" } : Jvm.MethodName)) ∈ lw_all := lw_g (lw_at lw_m7 55 rfl) rfl
theorem q1544 : (Jvm.Cond.selects "java/lang/Integer" ({ cls := "java/lang/Integer", name := "compareTo", desc := "(Ljava/lang/Integer;)I" } : Jvm.MethodName) ({ cls := "java/lang/Integer", name := "compareTo", desc := "(Ljava/lang/Integer;)I" } : Jvm.MethodName)) ∈ lw_all := lw_g (lw_at lw_m7 56 rfl) rfl
theorem q1545 : (Jvm.Cond.code ({ cls := "java/lang/Integer", name := "compareTo", desc := "(Ljava/lang/Integer;)I" } : Jvm.MethodName) prog_22_method_39_code (2 : Nat) (Option.some Jvm.ClassFile.FieldType.int)) ∈ lw_all := lw_g (lw_at lw_m7 57 rfl) rfl
theorem q1546 : (Jvm.Cond.methodLink "java/lang/Integer" (259 : Nat) ({ cls := "java/lang/Integer", name := "compare", desc := "(II)I" } : Jvm.MethodName)) ∈ lw_all := lw_g (lw_at lw_m7 58 rfl) rfl
theorem q2000 : (Jvm.Cond.fieldLink "java/lang/Integer" (205 : Nat) "java/lang/Integer" "value" "I") ∈ lw_all := lw_g (lw_at lw_m9 32 rfl) rfl
/-! ===== Integer: compare, compareTo, intValue, hashCode, equals ===== -/
theorem q_oi1 : Cond.instanceMethod Lib.objectInit ∈ lw_all := q123
theorem q_oi2 : Cond.code Lib.objectInit ⟨#[0xb1]⟩ 1 none ∈ lw_all := q124
/-- an Integer that nobody writes, of value x -/
def Bx (M : Mem) (a : Nat) (x : Int32) : Prop := mK M a = kBx ∧ mI M a 0 = x ∧ mO M a = 0
theorem Bx.fr {P : Nat → Prop} {M M1 : Mem} {a : Nat} {x : Int32} (h : Bx M a x) (hF : Fr P M M1) (hP : ¬ P 0) : Bx M1 a x := by
  obtain ⟨h1, h2, h3⟩ := h
  have h0 : mK M a ≠ 0 := by rw [h1]; decide
  exact ⟨hF.k h1 (by decide), by rw [hF.i h0 (by rw [h3]; exact hP)]; exact h2, hF.o h0 h3⟩
def cmpI (x y : Int32) : Int32 := if x < y then -1 else if x = y then 0 else 1
section Boxes
variable {G : Gx}
theorem ct_compare (hB : Base G) (x y : Int32) (M : Mem) : KJ24_compare G 1 0 0 [vi x, vi y] M (fun v M' => v = some (vi (cmpI x y)) ∧ M' = M) := by
  refine Ct.of (own := RJ24) (nm := "compare") hB (by decide) rfl rfl rfl rfl (fun C hC hQ => ?_)
  refine g_iload_n hC dJ24_compare_0 rfl ?_
  refine g_iload_n hC dJ24_compare_1 rfl ?_
  refine g_icmp_ge hC 9 dJ24_compare_2 (by decide) (fun h => ?_) (fun h => ?_)
  · refine g_iload_n hC dJ24_compare_9 rfl ?_
    refine g_iload_n hC dJ24_compare_10 rfl ?_
    refine g_icmp_ne hC 18 dJ24_compare_11 (by decide) (fun h2 => ?_) (fun h2 => ?_)
    · refine g_iconst (v := 1) hC dJ24_compare_18 (by decide) ?_
      refine g_iret hC hQ (by omega) (by omega) dJ24_compare_19 ?_
      exact ⟨by simp [cmpI, h, h2], rfl⟩
    · refine g_iconst (v := 0) hC dJ24_compare_14 (by decide) ?_
      refine g_goto hC 19 dJ24_compare_15 (by decide) ?_
      refine g_iret hC hQ (by omega) (by omega) dJ24_compare_19 ?_
      exact ⟨by simp [cmpI, h, h2], rfl⟩
  · refine g_iconst (v := (-1)) hC dJ24_compare_5 (by decide) ?_
    refine g_goto hC 19 dJ24_compare_6 (by decide) ?_
    refine g_iret hC hQ (by omega) (by omega) dJ24_compare_19 ?_
    exact ⟨by simp [cmpI, h], rfl⟩
theorem ct_compareTo2 (hB : Base G) {a b : Nat} {x y : Int32} {M : Mem} (ha : Bx M a x) (hb : Bx M b y) : KJ24_compareTo_2 G 2 0 0 [vr (some a), vr (some b)] M (fun v M' => v = some (vi (cmpI x y)) ∧ M' = M) := by
  obtain ⟨hka, rfl, -⟩ := ha
  obtain ⟨hkb, rfl, -⟩ := hb
  refine Ct.of (own := RJ24) (nm := "compareTo") hB (by decide) rfl rfl rfl rfl (fun C hC hQ => ?_)
  refine g_aload_n hC dJ24_compareTo_2_0 rfl ?_
  refine g_getBx hC (by first | exact rfl | assumption) (by first | assumption | (simp only [mK_sI, mK_sR, mK_sL, mK_sO, mK_nw, mK_sK]; first | assumption | (simp only [*]; done))) q2000 dJ24_compareTo_2_1 ?_
  refine g_aload_n hC dJ24_compareTo_2_4 rfl ?_
  refine g_getBx hC (by first | exact rfl | assumption) (by first | assumption | (simp only [mK_sI, mK_sR, mK_sL, mK_sO, mK_nw, mK_sK]; first | assumption | (simp only [*]; done))) q2000 dJ24_compareTo_2_5 ?_
  refine g_callS hC (ct_compare hB _ _ M) rfl (by decide) rfl yk_J24_compare q1546 q1521 q79 q1522 rfl dJ24_compareTo_2_8 (by omega) (by omega) (fun v M1 hp => ?_)
  obtain ⟨rfl, rfl⟩ := hp
  simp only [Option.toList_some, Option.toList_none, List.cons_append, List.nil_append, Nat.add_zero, Nat.zero_add]
  refine g_iret hC hQ (by omega) (by omega) dJ24_compareTo_2_11 ?_
  exact ⟨rfl, rfl⟩
theorem ct_compareTo (hB : Base G) {a b : Nat} {x y : Int32} {M : Mem} (ha : Bx M a x) (hb : Bx M b y) : KJ24_compareTo G 3 0 0 [vr (some a), vr (some b)] M (fun v M' => v = some (vi (cmpI x y)) ∧ M' = M) := by
  have hka := ha.1
  have hkb := hb.1
  refine Ct.of (own := RJ24) (nm := "compareTo") hB (by decide) rfl rfl rfl rfl (fun C hC hQ => ?_)
  refine g_aload_n hC dJ24_compareTo_0 rfl ?_
  refine g_aload_n hC dJ24_compareTo_1 rfl ?_
  refine g_castBxS hC (by first | exact rfl | assumption) (by first | assumption | (simp only [mK_sI, mK_sR, mK_sL, mK_sO, mK_nw, mK_sK]; first | assumption | (simp only [*]; done))) q548 dJ24_compareTo_2 ?_
  refine g_callV hC (by first | exact rfl | assumption) (Rk.b (by first | assumption | (simp only [mK_sI, mK_sR, mK_sL, mK_sO, mK_nw, mK_sK]; first | assumption | (simp only [*]; done)))) (ct_compareTo2 hB ha hb) rfl (by decide) rfl rfl yk_J24_compareTo_2 q1542 q1543 q1544 q79 q1545 rfl dJ24_compareTo_5 (by omega) (by omega) (fun v M1 hp => ?_)
  obtain ⟨rfl, rfl⟩ := hp
  simp only [Option.toList_some, Option.toList_none, List.cons_append, List.nil_append, Nat.add_zero, Nat.zero_add]
  refine g_iret hC hQ (by omega) (by omega) dJ24_compareTo_8 ?_
  exact ⟨rfl, rfl⟩
theorem ct_intValue (hB : Base G) {a : Nat} {x : Int32} {M : Mem} (ha : Bx M a x) : KJ24_intValue G 1 0 0 [vr (some a)] M (fun v M' => v = some (vi x) ∧ M' = M) := by
  obtain ⟨hka, rfl, -⟩ := ha
  refine Ct.of (own := RJ24) (nm := "intValue") hB (by decide) rfl rfl rfl rfl (fun C hC hQ => ?_)
  refine g_aload_n hC dJ24_intValue_0 rfl ?_
  refine g_getBx hC (by first | exact rfl | assumption) (by first | assumption | (simp only [mK_sI, mK_sR, mK_sL, mK_sO, mK_nw, mK_sK]; first | assumption | (simp only [*]; done))) q2000 dJ24_intValue_1 ?_
  refine g_iret hC hQ (by omega) (by omega) dJ24_intValue_4 ?_
  exact ⟨rfl, rfl⟩
theorem ct_hashCode2 (hB : Base G) (x : Int32) (M : Mem) : KJ24_hashCode_2 G 1 0 0 [vi x] M (fun v M' => v = some (vi x) ∧ M' = M) := by
  refine Ct.of (own := RJ24) (nm := "hashCode") hB (by decide) rfl rfl rfl rfl (fun C hC hQ => ?_)
  refine g_iload_n hC dJ24_hashCode_2_0 rfl ?_
  refine g_iret hC hQ (by omega) (by omega) dJ24_hashCode_2_1 ?_
  exact ⟨rfl, rfl⟩
theorem ct_hashCode (hB : Base G) {a : Nat} {x : Int32} {M : Mem} (ha : Bx M a x) : KJ24_hashCode G 2 0 0 [vr (some a)] M (fun v M' => v = some (vi x) ∧ M' = M) := by
  obtain ⟨hka, rfl, -⟩ := ha
  refine Ct.of (own := RJ24) (nm := "hashCode") hB (by decide) rfl rfl rfl rfl (fun C hC hQ => ?_)
  refine g_aload_n hC dJ24_hashCode_0 rfl ?_
  refine g_getBx hC (by first | exact rfl | assumption) (by first | assumption | (simp only [mK_sI, mK_sR, mK_sL, mK_sO, mK_nw, mK_sK]; first | assumption | (simp only [*]; done))) q2000 dJ24_hashCode_1 ?_
  refine g_callS hC (ct_hashCode2 hB _ M) rfl (by decide) rfl yk_J24_hashCode_2 q1093 q1094 q79 q1095 rfl dJ24_hashCode_4 (by omega) (by omega) (fun v M1 hp => ?_)
  obtain ⟨rfl, rfl⟩ := hp
  simp only [Option.toList_some, Option.toList_none, List.cons_append, List.nil_append, Nat.add_zero, Nat.zero_add]
  refine g_iret hC hQ (by omega) (by omega) dJ24_hashCode_7 ?_
  exact ⟨rfl, rfl⟩
theorem ct_equals (hB : Base G) {a b : Nat} {x y : Int32} {M : Mem} (ha : Bx M a x) (hb : Bx M b y) : KJ24_equals G 2 0 0 [vr (some a), vr (some b)] M (fun v M' => v = some (vi (if x = y then 1 else 0)) ∧ M' = M) := by
  have hkb := hb.1
  obtain ⟨hka, rfl, -⟩ := ha
  refine Ct.of (own := RJ24) (nm := "equals") hB (by decide) rfl rfl rfl rfl (fun C hC hQ => ?_)
  refine g_aload_n hC dJ24_equals_0 rfl ?_
  refine g_instBxS hC (by first | exact rfl | assumption) (by first | assumption | (simp only [mK_sI, mK_sR, mK_sL, mK_sO, mK_nw, mK_sK]; first | assumption | (simp only [*]; done))) q548 dJ24_equals_1 ?_
  refine g_if_eq hC 27 dJ24_equals_4 (by decide) (fun h => ?_) (fun h => ?_)
  · exact absurd h (by decide)
  · refine g_aload_n hC dJ24_equals_7 rfl ?_
    refine g_getBx hC (by first | exact rfl | assumption) (by first | assumption | (simp only [mK_sI, mK_sR, mK_sL, mK_sO, mK_nw, mK_sK]; first | assumption | (simp only [*]; done))) q2000 dJ24_equals_8 ?_
    refine g_aload_n hC dJ24_equals_11 rfl ?_
    refine g_castBxS hC (by first | exact rfl | assumption) (by first | assumption | (simp only [mK_sI, mK_sR, mK_sL, mK_sO, mK_nw, mK_sK]; first | assumption | (simp only [*]; done))) q548 dJ24_equals_12 ?_
    refine g_callV hC (by first | exact rfl | assumption) (Rk.b (by first | assumption | (simp only [mK_sI, mK_sR, mK_sL, mK_sO, mK_nw, mK_sK]; first | assumption | (simp only [*]; done)))) (ct_intValue hB hb) rfl (by decide) rfl rfl yk_J24_intValue q549 q550 q551 q79 q552 rfl dJ24_equals_15 (by omega) (by omega) (fun v M1 hp => ?_)
    obtain ⟨rfl, rfl⟩ := hp
    simp only [Option.toList_some, Option.toList_none, List.cons_append, List.nil_append, Nat.add_zero, Nat.zero_add]
    refine g_icmp_ne hC 25 dJ24_equals_18 (by decide) (fun h2 => ?_) (fun h2 => ?_)
    · refine g_iconst (v := 0) hC dJ24_equals_25 (by decide) ?_
      refine g_zret hC hQ (by omega) (by omega) dJ24_equals_26 (by first | rfl | assumption) ?_
      exact ⟨by simp [h2], rfl⟩
    · refine g_iconst (v := 1) hC dJ24_equals_21 (by decide) ?_
      refine g_goto hC 26 dJ24_equals_22 (by decide) ?_
      refine g_zret hC hQ (by omega) (by omega) dJ24_equals_26 (by first | rfl | assumption) ?_
      exact ⟨by simp [h2], rfl⟩
end Boxes

