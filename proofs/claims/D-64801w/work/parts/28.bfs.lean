set_option maxRecDepth 100000
abbrev cJ24_numberOfLeadingZeros : ByteArray := prog_22_method_47_code
def yJ24_numberOfLeadingZeros : MethodName := ⟨RJ24, "numberOfLeadingZeros", "(I)I"⟩
def dkwJ24_numberOfLeadingZeros_3 : List UInt8 := [5, 124, 59, 27, 26, 4, 124, 100, 172]
abbrev dktJ24_numberOfLeadingZeros_3 : List UInt8 := dkwJ24_numberOfLeadingZeros_3 ++ []
def dkwJ24_numberOfLeadingZeros_2 : List UInt8 := [124, 59, 26, 16, 16, 161, 0, 10, 132, 1, 252, 26, 7, 124, 59, 26, 7, 161, 0, 10, 132, 1, 254, 26]
abbrev dktJ24_numberOfLeadingZeros_2 : List UInt8 := dkwJ24_numberOfLeadingZeros_2 ++ dktJ24_numberOfLeadingZeros_3
def dkwJ24_numberOfLeadingZeros_1 : List UInt8 := [161, 0, 11, 132, 1, 240, 26, 16, 16, 124, 59, 26, 17, 1, 0, 161, 0, 11, 132, 1, 248, 26, 16, 8]
abbrev dktJ24_numberOfLeadingZeros_1 : List UInt8 := dkwJ24_numberOfLeadingZeros_1 ++ dktJ24_numberOfLeadingZeros_2
def dkwJ24_numberOfLeadingZeros_0 : List UInt8 := [26, 157, 0, 14, 26, 154, 0, 8, 16, 32, 167, 0, 4, 3, 172, 16, 31, 60, 26, 19, 1, 8]
abbrev dktJ24_numberOfLeadingZeros_0 : List UInt8 := dkwJ24_numberOfLeadingZeros_0 ++ dktJ24_numberOfLeadingZeros_1
theorem dksJ24_numberOfLeadingZeros_0 : cJ24_numberOfLeadingZeros.data.toList.drop 0 = dktJ24_numberOfLeadingZeros_0 := by decide +kernel
theorem dksJ24_numberOfLeadingZeros_1 : cJ24_numberOfLeadingZeros.data.toList.drop 22 = dktJ24_numberOfLeadingZeros_1 := dk_seg dksJ24_numberOfLeadingZeros_0 22 rfl rfl
theorem dksJ24_numberOfLeadingZeros_2 : cJ24_numberOfLeadingZeros.data.toList.drop 46 = dktJ24_numberOfLeadingZeros_2 := dk_seg dksJ24_numberOfLeadingZeros_1 24 rfl rfl
theorem dksJ24_numberOfLeadingZeros_3 : cJ24_numberOfLeadingZeros.data.toList.drop 70 = dktJ24_numberOfLeadingZeros_3 := dk_seg dksJ24_numberOfLeadingZeros_2 24 rfl rfl
theorem dJ24_numberOfLeadingZeros_0 : decode cJ24_numberOfLeadingZeros 0 = .ok (.iload_n 0, 1) := dk_26 (dk_at dksJ24_numberOfLeadingZeros_0 0 rfl rfl)
theorem dJ24_numberOfLeadingZeros_1 : decode cJ24_numberOfLeadingZeros 1 = .ok (.ifCond .gt 14, 3) := dk_157 0 14 (dk_at dksJ24_numberOfLeadingZeros_0 1 rfl rfl)
theorem dJ24_numberOfLeadingZeros_4 : decode cJ24_numberOfLeadingZeros 4 = .ok (.iload_n 0, 1) := dk_26 (dk_at dksJ24_numberOfLeadingZeros_0 4 rfl rfl)
theorem dJ24_numberOfLeadingZeros_5 : decode cJ24_numberOfLeadingZeros 5 = .ok (.ifCond .ne 8, 3) := dk_154 0 8 (dk_at dksJ24_numberOfLeadingZeros_0 5 rfl rfl)
theorem dJ24_numberOfLeadingZeros_8 : decode cJ24_numberOfLeadingZeros 8 = .ok (.bipush 32, 2) := dk_16 32 (dk_at dksJ24_numberOfLeadingZeros_0 8 rfl rfl)
theorem dJ24_numberOfLeadingZeros_10 : decode cJ24_numberOfLeadingZeros 10 = .ok (.goto 4, 3) := dk_167 0 4 (dk_at dksJ24_numberOfLeadingZeros_0 10 rfl rfl)
theorem dJ24_numberOfLeadingZeros_13 : decode cJ24_numberOfLeadingZeros 13 = .ok (.iconst 0, 1) := dk_3 (dk_at dksJ24_numberOfLeadingZeros_0 13 rfl rfl)
theorem dJ24_numberOfLeadingZeros_14 : decode cJ24_numberOfLeadingZeros 14 = .ok (.ireturn, 1) := dk_172 (dk_at dksJ24_numberOfLeadingZeros_0 14 rfl rfl)
theorem dJ24_numberOfLeadingZeros_15 : decode cJ24_numberOfLeadingZeros 15 = .ok (.bipush 31, 2) := dk_16 31 (dk_at dksJ24_numberOfLeadingZeros_0 15 rfl rfl)
theorem dJ24_numberOfLeadingZeros_17 : decode cJ24_numberOfLeadingZeros 17 = .ok (.istore_n 1, 1) := dk_60 (dk_at dksJ24_numberOfLeadingZeros_0 17 rfl rfl)
theorem dJ24_numberOfLeadingZeros_18 : decode cJ24_numberOfLeadingZeros 18 = .ok (.iload_n 0, 1) := dk_26 (dk_at dksJ24_numberOfLeadingZeros_0 18 rfl rfl)
theorem dJ24_numberOfLeadingZeros_19 : decode cJ24_numberOfLeadingZeros 19 = .ok (.ldc_w 264, 3) := dk_19 1 8 (dk_at dksJ24_numberOfLeadingZeros_0 19 rfl rfl)
theorem dJ24_numberOfLeadingZeros_22 : decode cJ24_numberOfLeadingZeros 22 = .ok (.if_icmp .lt 11, 3) := dk_161 0 11 (dk_at dksJ24_numberOfLeadingZeros_1 0 rfl rfl)
theorem dJ24_numberOfLeadingZeros_25 : decode cJ24_numberOfLeadingZeros 25 = .ok (.iinc 1 (-16), 3) := dk_132 1 240 (dk_at dksJ24_numberOfLeadingZeros_1 3 rfl rfl)
theorem dJ24_numberOfLeadingZeros_28 : decode cJ24_numberOfLeadingZeros 28 = .ok (.iload_n 0, 1) := dk_26 (dk_at dksJ24_numberOfLeadingZeros_1 6 rfl rfl)
theorem dJ24_numberOfLeadingZeros_29 : decode cJ24_numberOfLeadingZeros 29 = .ok (.bipush 16, 2) := dk_16 16 (dk_at dksJ24_numberOfLeadingZeros_1 7 rfl rfl)
theorem dJ24_numberOfLeadingZeros_31 : decode cJ24_numberOfLeadingZeros 31 = .ok (.iushr, 1) := dk_124 (dk_at dksJ24_numberOfLeadingZeros_1 9 rfl rfl)
theorem dJ24_numberOfLeadingZeros_32 : decode cJ24_numberOfLeadingZeros 32 = .ok (.istore_n 0, 1) := dk_59 (dk_at dksJ24_numberOfLeadingZeros_1 10 rfl rfl)
theorem dJ24_numberOfLeadingZeros_33 : decode cJ24_numberOfLeadingZeros 33 = .ok (.iload_n 0, 1) := dk_26 (dk_at dksJ24_numberOfLeadingZeros_1 11 rfl rfl)
theorem dJ24_numberOfLeadingZeros_34 : decode cJ24_numberOfLeadingZeros 34 = .ok (.sipush 256, 3) := dk_17 1 0 (dk_at dksJ24_numberOfLeadingZeros_1 12 rfl rfl)
theorem dJ24_numberOfLeadingZeros_37 : decode cJ24_numberOfLeadingZeros 37 = .ok (.if_icmp .lt 11, 3) := dk_161 0 11 (dk_at dksJ24_numberOfLeadingZeros_1 15 rfl rfl)
theorem dJ24_numberOfLeadingZeros_40 : decode cJ24_numberOfLeadingZeros 40 = .ok (.iinc 1 (-8), 3) := dk_132 1 248 (dk_at dksJ24_numberOfLeadingZeros_1 18 rfl rfl)
theorem dJ24_numberOfLeadingZeros_43 : decode cJ24_numberOfLeadingZeros 43 = .ok (.iload_n 0, 1) := dk_26 (dk_at dksJ24_numberOfLeadingZeros_1 21 rfl rfl)
theorem dJ24_numberOfLeadingZeros_44 : decode cJ24_numberOfLeadingZeros 44 = .ok (.bipush 8, 2) := dk_16 8 (dk_at dksJ24_numberOfLeadingZeros_1 22 rfl rfl)
theorem dJ24_numberOfLeadingZeros_46 : decode cJ24_numberOfLeadingZeros 46 = .ok (.iushr, 1) := dk_124 (dk_at dksJ24_numberOfLeadingZeros_2 0 rfl rfl)
theorem dJ24_numberOfLeadingZeros_47 : decode cJ24_numberOfLeadingZeros 47 = .ok (.istore_n 0, 1) := dk_59 (dk_at dksJ24_numberOfLeadingZeros_2 1 rfl rfl)
theorem dJ24_numberOfLeadingZeros_48 : decode cJ24_numberOfLeadingZeros 48 = .ok (.iload_n 0, 1) := dk_26 (dk_at dksJ24_numberOfLeadingZeros_2 2 rfl rfl)
theorem dJ24_numberOfLeadingZeros_49 : decode cJ24_numberOfLeadingZeros 49 = .ok (.bipush 16, 2) := dk_16 16 (dk_at dksJ24_numberOfLeadingZeros_2 3 rfl rfl)
theorem dJ24_numberOfLeadingZeros_51 : decode cJ24_numberOfLeadingZeros 51 = .ok (.if_icmp .lt 10, 3) := dk_161 0 10 (dk_at dksJ24_numberOfLeadingZeros_2 5 rfl rfl)
theorem dJ24_numberOfLeadingZeros_54 : decode cJ24_numberOfLeadingZeros 54 = .ok (.iinc 1 (-4), 3) := dk_132 1 252 (dk_at dksJ24_numberOfLeadingZeros_2 8 rfl rfl)
theorem dJ24_numberOfLeadingZeros_57 : decode cJ24_numberOfLeadingZeros 57 = .ok (.iload_n 0, 1) := dk_26 (dk_at dksJ24_numberOfLeadingZeros_2 11 rfl rfl)
theorem dJ24_numberOfLeadingZeros_58 : decode cJ24_numberOfLeadingZeros 58 = .ok (.iconst 4, 1) := dk_7 (dk_at dksJ24_numberOfLeadingZeros_2 12 rfl rfl)
theorem dJ24_numberOfLeadingZeros_59 : decode cJ24_numberOfLeadingZeros 59 = .ok (.iushr, 1) := dk_124 (dk_at dksJ24_numberOfLeadingZeros_2 13 rfl rfl)
theorem dJ24_numberOfLeadingZeros_60 : decode cJ24_numberOfLeadingZeros 60 = .ok (.istore_n 0, 1) := dk_59 (dk_at dksJ24_numberOfLeadingZeros_2 14 rfl rfl)
theorem dJ24_numberOfLeadingZeros_61 : decode cJ24_numberOfLeadingZeros 61 = .ok (.iload_n 0, 1) := dk_26 (dk_at dksJ24_numberOfLeadingZeros_2 15 rfl rfl)
theorem dJ24_numberOfLeadingZeros_62 : decode cJ24_numberOfLeadingZeros 62 = .ok (.iconst 4, 1) := dk_7 (dk_at dksJ24_numberOfLeadingZeros_2 16 rfl rfl)
theorem dJ24_numberOfLeadingZeros_63 : decode cJ24_numberOfLeadingZeros 63 = .ok (.if_icmp .lt 10, 3) := dk_161 0 10 (dk_at dksJ24_numberOfLeadingZeros_2 17 rfl rfl)
theorem dJ24_numberOfLeadingZeros_66 : decode cJ24_numberOfLeadingZeros 66 = .ok (.iinc 1 (-2), 3) := dk_132 1 254 (dk_at dksJ24_numberOfLeadingZeros_2 20 rfl rfl)
theorem dJ24_numberOfLeadingZeros_69 : decode cJ24_numberOfLeadingZeros 69 = .ok (.iload_n 0, 1) := dk_26 (dk_at dksJ24_numberOfLeadingZeros_2 23 rfl rfl)
theorem dJ24_numberOfLeadingZeros_70 : decode cJ24_numberOfLeadingZeros 70 = .ok (.iconst 2, 1) := dk_5 (dk_at dksJ24_numberOfLeadingZeros_3 0 rfl rfl)
theorem dJ24_numberOfLeadingZeros_71 : decode cJ24_numberOfLeadingZeros 71 = .ok (.iushr, 1) := dk_124 (dk_at dksJ24_numberOfLeadingZeros_3 1 rfl rfl)
theorem dJ24_numberOfLeadingZeros_72 : decode cJ24_numberOfLeadingZeros 72 = .ok (.istore_n 0, 1) := dk_59 (dk_at dksJ24_numberOfLeadingZeros_3 2 rfl rfl)
theorem dJ24_numberOfLeadingZeros_73 : decode cJ24_numberOfLeadingZeros 73 = .ok (.iload_n 1, 1) := dk_27 (dk_at dksJ24_numberOfLeadingZeros_3 3 rfl rfl)
theorem dJ24_numberOfLeadingZeros_74 : decode cJ24_numberOfLeadingZeros 74 = .ok (.iload_n 0, 1) := dk_26 (dk_at dksJ24_numberOfLeadingZeros_3 4 rfl rfl)
theorem dJ24_numberOfLeadingZeros_75 : decode cJ24_numberOfLeadingZeros 75 = .ok (.iconst 1, 1) := dk_4 (dk_at dksJ24_numberOfLeadingZeros_3 5 rfl rfl)
theorem dJ24_numberOfLeadingZeros_76 : decode cJ24_numberOfLeadingZeros 76 = .ok (.iushr, 1) := dk_124 (dk_at dksJ24_numberOfLeadingZeros_3 6 rfl rfl)
theorem dJ24_numberOfLeadingZeros_77 : decode cJ24_numberOfLeadingZeros 77 = .ok (.isub, 1) := dk_100 (dk_at dksJ24_numberOfLeadingZeros_3 7 rfl rfl)
theorem dJ24_numberOfLeadingZeros_78 : decode cJ24_numberOfLeadingZeros 78 = .ok (.ireturn, 1) := dk_172 (dk_at dksJ24_numberOfLeadingZeros_3 8 rfl rfl)
theorem yk_J24_numberOfLeadingZeros : yk yJ24_numberOfLeadingZeros 1 := by unfold yk; decide +kernel
abbrev KJ24_numberOfLeadingZeros (G : Gx) (d mc ms : Nat) (av : List Sv) (M : Mem) (post : Option Sv → Mem → Prop) : Prop := Ct G yJ24_numberOfLeadingZeros cJ24_numberOfLeadingZeros 2 ((Option.some Jvm.ClassFile.FieldType.int)) d mc ms av M post
abbrev cJ30_getKey : ByteArray := prog_84_method_2_code
def yJ30_getKey : MethodName := ⟨RJ30, "getKey", "()Ljava/lang/Object;"⟩
theorem dJ30_getKey_0 : decode cJ30_getKey 0 = .ok (.aload_n 0, 1) := by decide +kernel
theorem dJ30_getKey_1 : decode cJ30_getKey 1 = .ok (.getfield 15, 3) := by decide +kernel
theorem dJ30_getKey_4 : decode cJ30_getKey 4 = .ok (.areturn, 1) := by decide +kernel
theorem yk_J30_getKey : yk yJ30_getKey 0 := by unfold yk; decide +kernel
abbrev KJ30_getKey (G : Gx) (d mc ms : Nat) (av : List Sv) (M : Mem) (post : Option Sv → Mem → Prop) : Prop := Ct G yJ30_getKey cJ30_getKey 1 ((Option.some (Jvm.ClassFile.FieldType.object "java/lang/Object"))) d mc ms av M post
abbrev cJ30_getValue : ByteArray := prog_84_method_3_code
def yJ30_getValue : MethodName := ⟨RJ30, "getValue", "()Ljava/lang/Object;"⟩
theorem dJ30_getValue_0 : decode cJ30_getValue 0 = .ok (.aload_n 0, 1) := by decide +kernel
theorem dJ30_getValue_1 : decode cJ30_getValue 1 = .ok (.getfield 19, 3) := by decide +kernel
theorem dJ30_getValue_4 : decode cJ30_getValue 4 = .ok (.areturn, 1) := by decide +kernel
theorem yk_J30_getValue : yk yJ30_getValue 0 := by unfold yk; decide +kernel
abbrev KJ30_getValue (G : Gx) (d mc ms : Nat) (av : List Sv) (M : Mem) (post : Option Sv → Mem → Prop) : Prop := Ct G yJ30_getValue cJ30_getValue 1 ((Option.some (Jvm.ClassFile.FieldType.object "java/lang/Object"))) d mc ms av M post
abbrev cJ6_computeRedLevel : ByteArray := prog_83_method_92_code
def yJ6_computeRedLevel : MethodName := ⟨RJ6, "computeRedLevel", "(I)I"⟩
def dkwJ6_computeRedLevel_0 : List UInt8 := [16, 31, 26, 4, 96, 184, 1, 116, 100, 172]
abbrev dktJ6_computeRedLevel_0 : List UInt8 := dkwJ6_computeRedLevel_0 ++ []
theorem dksJ6_computeRedLevel_0 : cJ6_computeRedLevel.data.toList.drop 0 = dktJ6_computeRedLevel_0 := by decide +kernel
theorem dJ6_computeRedLevel_0 : decode cJ6_computeRedLevel 0 = .ok (.bipush 31, 2) := dk_16 31 (dk_at dksJ6_computeRedLevel_0 0 rfl rfl)
theorem dJ6_computeRedLevel_2 : decode cJ6_computeRedLevel 2 = .ok (.iload_n 0, 1) := dk_26 (dk_at dksJ6_computeRedLevel_0 2 rfl rfl)
theorem dJ6_computeRedLevel_3 : decode cJ6_computeRedLevel 3 = .ok (.iconst 1, 1) := dk_4 (dk_at dksJ6_computeRedLevel_0 3 rfl rfl)
theorem dJ6_computeRedLevel_4 : decode cJ6_computeRedLevel 4 = .ok (.iadd, 1) := dk_96 (dk_at dksJ6_computeRedLevel_0 4 rfl rfl)
theorem dJ6_computeRedLevel_5 : decode cJ6_computeRedLevel 5 = .ok (.invokestatic 372, 3) := dk_184 1 116 (dk_at dksJ6_computeRedLevel_0 5 rfl rfl)
theorem dJ6_computeRedLevel_8 : decode cJ6_computeRedLevel 8 = .ok (.isub, 1) := dk_100 (dk_at dksJ6_computeRedLevel_0 8 rfl rfl)
theorem dJ6_computeRedLevel_9 : decode cJ6_computeRedLevel 9 = .ok (.ireturn, 1) := dk_172 (dk_at dksJ6_computeRedLevel_0 9 rfl rfl)
theorem yk_J6_computeRedLevel : yk yJ6_computeRedLevel 1 := by unfold yk; decide +kernel
abbrev KJ6_computeRedLevel (G : Gx) (d mc ms : Nat) (av : List Sv) (M : Mem) (post : Option Sv → Mem → Prop) : Prop := Ct G yJ6_computeRedLevel cJ6_computeRedLevel 1 ((Option.some Jvm.ClassFile.FieldType.int)) d mc ms av M post
theorem q731 : (Jvm.Cond.methodLink "java/util/TreeMap" (372 : Nat) ({ cls := "java/lang/Integer", name := "numberOfLeadingZeros", desc := "(I)I" } : Jvm.MethodName)) ∈ lw_all := lw_g (lw_at lw_m3 203 rfl) rfl
theorem q732 : (Jvm.Cond.static ({ cls := "java/lang/Integer", name := "numberOfLeadingZeros", desc := "(I)I" } : Jvm.MethodName)) ∈ lw_all := lw_g (lw_at lw_m3 204 rfl) rfl
theorem q733 : (Jvm.Cond.code ({ cls := "java/lang/Integer", name := "numberOfLeadingZeros", desc := "(I)I" } : Jvm.MethodName) prog_22_method_47_code (2 : Nat) (Option.some Jvm.ClassFile.FieldType.int)) ∈ lw_all := lw_g (lw_at lw_m3 205 rfl) rfl
theorem q734 : (Jvm.Cond.constant "java/lang/Integer" (264 : Nat) (65536 : Int32)) ∈ lw_all := lw_g (lw_at lw_m3 206 rfl) rfl
/-! ===== TreeMap.buildFromSorted ===== -/
section Bfs
variable {G : Gx} {M : Mem} {ρs ρi ρ t' t n it : Nat} {ad ps lo hi : Nat → Nat} {ky : Nat → Int32} {vl : Nat → Nat}
theorem ct_getKey (hB : Base G) {e : Nat} (hk : mK M e = kEN) : KJ30_getKey G 1 0 0 [vr (some e)] M (fun v M' => v = some (vr (mR M e 0)) ∧ M' = M) := by
  refine Ct.of (own := RJ30) (nm := "getKey") hB (by decide) rfl rfl rfl rfl (fun C hC hQ => ?_)
  refine g_aload_n hC dJ30_getKey_0 rfl ?_
  refine g_getR hC (ci := 9) (by first | with_reducible rfl | with_reducible assumption | (simp only [mR_sI, mR_sL]; with_reducible assumption) | exact rfl | assumption) (by first | with_reducible assumption | (simp only [mK_sI, mK_sR, mK_sL, mK_sO]; with_reducible assumption) | assumption | (simp only [mK_sI, mK_sR, mK_sL, mK_sO, mK_nw, mK_sK]; first | assumption | (simp only [*]; done))) rfl 0 (by decide) q973 (Or.inl rfl) rfl dJ30_getKey_1 ?_
  refine g_aret hC hQ (by omega) (by omega) rfl dJ30_getKey_4 ?_
  exact ⟨rfl, rfl⟩
theorem ct_getValue (hB : Base G) {e : Nat} (hk : mK M e = kEN) : KJ30_getValue G 1 0 0 [vr (some e)] M (fun v M' => v = some (vr (mR M e 1)) ∧ M' = M) := by
  refine Ct.of (own := RJ30) (nm := "getValue") hB (by decide) rfl rfl rfl rfl (fun C hC hQ => ?_)
  refine g_aload_n hC dJ30_getValue_0 rfl ?_
  refine g_getR hC (ci := 9) (by first | with_reducible rfl | with_reducible assumption | (simp only [mR_sI, mR_sL]; with_reducible assumption) | exact rfl | assumption) (by first | with_reducible assumption | (simp only [mK_sI, mK_sR, mK_sL, mK_sO]; with_reducible assumption) | assumption | (simp only [mK_sI, mK_sR, mK_sL, mK_sO, mK_nw, mK_sK]; first | assumption | (simp only [*]; done))) rfl 1 (by decide) q976 (Or.inl rfl) rfl dJ30_getValue_1 ?_
  refine g_aret hC hQ (by omega) (by omega) rfl dJ30_getValue_4 ?_
  exact ⟨rfl, rfl⟩
theorem ct_nlz (hB : Base G) (x : Int32) (M : Mem) : KJ24_numberOfLeadingZeros G 1 0 0 [vi x] M (fun v M' => (∃ y, v = some (vi y)) ∧ M' = M) := by
  refine Ct.of (own := RJ24) (nm := "numberOfLeadingZeros") hB (by decide) rfl rfl rfl rfl (fun C hC hQ => ?_)
  have j73 : ∀ a b : Int32, Go C 73 [some (vi a), some (vi b)] [] M 0 0 := by
    intro a b
    refine g_iload_n hC dJ24_numberOfLeadingZeros_73 rfl ?_
    refine g_iload_n hC dJ24_numberOfLeadingZeros_74 rfl ?_
    refine g_iconst (v := 1) hC dJ24_numberOfLeadingZeros_75 (by decide) ?_
    refine g_iushr hC dJ24_numberOfLeadingZeros_76 ?_
    refine g_isub hC dJ24_numberOfLeadingZeros_77 ?_
    refine g_iret hC hQ (by omega) (by omega) dJ24_numberOfLeadingZeros_78 ?_
    exact ⟨⟨_, rfl⟩, rfl⟩
  have j61 : ∀ a b : Int32, Go C 61 [some (vi a), some (vi b)] [] M 0 0 := by
    intro a b
    refine g_iload_n hC dJ24_numberOfLeadingZeros_61 rfl ?_
    refine g_iconst (v := 4) hC dJ24_numberOfLeadingZeros_62 (by decide) ?_
    refine g_icmp_lt hC 73 dJ24_numberOfLeadingZeros_63 (by decide) (fun h => ?_) (fun h => ?_)
    · exact j73 _ _
    · refine g_iinc hC dJ24_numberOfLeadingZeros_66 rfl rfl rfl ?_
      try simp only [stL, clr]
      refine g_iload_n hC dJ24_numberOfLeadingZeros_69 rfl ?_
      refine g_iconst (v := 2) hC dJ24_numberOfLeadingZeros_70 (by decide) ?_
      refine g_iushr hC dJ24_numberOfLeadingZeros_71 ?_
      refine g_istore_n hC dJ24_numberOfLeadingZeros_72 rfl rfl ?_
      try simp only [stL, clr]
      exact j73 _ _
  have j48 : ∀ a b : Int32, Go C 48 [some (vi a), some (vi b)] [] M 0 0 := by
    intro a b
    refine g_iload_n hC dJ24_numberOfLeadingZeros_48 rfl ?_
    refine g_bipush (v := 16) hC dJ24_numberOfLeadingZeros_49 (by decide) ?_
    refine g_icmp_lt hC 61 dJ24_numberOfLeadingZeros_51 (by decide) (fun h => ?_) (fun h => ?_)
    · exact j61 _ _
    · refine g_iinc hC dJ24_numberOfLeadingZeros_54 rfl rfl rfl ?_
      try simp only [stL, clr]
      refine g_iload_n hC dJ24_numberOfLeadingZeros_57 rfl ?_
      refine g_iconst (v := 4) hC dJ24_numberOfLeadingZeros_58 (by decide) ?_
      refine g_iushr hC dJ24_numberOfLeadingZeros_59 ?_
      refine g_istore_n hC dJ24_numberOfLeadingZeros_60 rfl rfl ?_
      try simp only [stL, clr]
      exact j61 _ _
  have j33 : ∀ a b : Int32, Go C 33 [some (vi a), some (vi b)] [] M 0 0 := by
    intro a b
    refine g_iload_n hC dJ24_numberOfLeadingZeros_33 rfl ?_
    refine g_sipush (v := 256) hC dJ24_numberOfLeadingZeros_34 (by decide) ?_
    refine g_icmp_lt hC 48 dJ24_numberOfLeadingZeros_37 (by decide) (fun h => ?_) (fun h => ?_)
    · exact j48 _ _
    · refine g_iinc hC dJ24_numberOfLeadingZeros_40 rfl rfl rfl ?_
      try simp only [stL, clr]
      refine g_iload_n hC dJ24_numberOfLeadingZeros_43 rfl ?_
      refine g_bipush (v := 8) hC dJ24_numberOfLeadingZeros_44 (by decide) ?_
      refine g_iushr hC dJ24_numberOfLeadingZeros_46 ?_
      refine g_istore_n hC dJ24_numberOfLeadingZeros_47 rfl rfl ?_
      try simp only [stL, clr]
      exact j48 _ _
  refine g_iload_n hC dJ24_numberOfLeadingZeros_0 rfl ?_
  refine g_if_gt hC 15 dJ24_numberOfLeadingZeros_1 (by decide) (fun h => ?_) (fun h => ?_)
  · refine g_bipush (v := 31) hC dJ24_numberOfLeadingZeros_15 (by decide) ?_
    refine g_istore_n hC dJ24_numberOfLeadingZeros_17 rfl rfl ?_
    try simp only [stL, clr]
    refine g_iload_n hC dJ24_numberOfLeadingZeros_18 rfl ?_
    refine g_ldc_w (v := 65536) hC q734 dJ24_numberOfLeadingZeros_19 ?_
    refine g_icmp_lt hC 33 dJ24_numberOfLeadingZeros_22 (by decide) (fun h2 => ?_) (fun h2 => ?_)
    · exact j33 _ _
    · refine g_iinc hC dJ24_numberOfLeadingZeros_25 rfl rfl rfl ?_
      try simp only [stL, clr]
      refine g_iload_n hC dJ24_numberOfLeadingZeros_28 rfl ?_
      refine g_bipush (v := 16) hC dJ24_numberOfLeadingZeros_29 (by decide) ?_
      refine g_iushr hC dJ24_numberOfLeadingZeros_31 ?_
      refine g_istore_n hC dJ24_numberOfLeadingZeros_32 rfl rfl ?_
      try simp only [stL, clr]
      exact j33 _ _
  · refine g_iload_n hC dJ24_numberOfLeadingZeros_4 rfl ?_
    refine g_if_ne hC 13 dJ24_numberOfLeadingZeros_5 (by decide) (fun h2 => ?_) (fun h2 => ?_)
    · refine g_iconst (v := 0) hC dJ24_numberOfLeadingZeros_13 (by decide) ?_
      refine g_iret hC hQ (by omega) (by omega) dJ24_numberOfLeadingZeros_14 ?_
      exact ⟨⟨_, rfl⟩, rfl⟩
    · refine g_bipush (v := 32) hC dJ24_numberOfLeadingZeros_8 (by decide) ?_
      refine g_goto hC 14 dJ24_numberOfLeadingZeros_10 (by decide) ?_
      refine g_iret hC hQ (by omega) (by omega) dJ24_numberOfLeadingZeros_14 ?_
      exact ⟨⟨_, rfl⟩, rfl⟩
theorem ct_redLevel (hB : Base G) (x : Int32) (M : Mem) : KJ6_computeRedLevel G 2 0 0 [vi x] M (fun v M' => (∃ y, v = some (vi y)) ∧ M' = M) := by
  refine Ct.of (own := RJ6) (nm := "computeRedLevel") hB (by decide) rfl rfl rfl rfl (fun C hC hQ => ?_)
  refine g_bipush (v := 31) hC dJ6_computeRedLevel_0 (by decide) ?_
  refine g_iload_n hC dJ6_computeRedLevel_2 rfl ?_
  refine g_iconst (v := 1) hC dJ6_computeRedLevel_3 (by decide) ?_
  refine g_iadd hC dJ6_computeRedLevel_4 ?_
  refine g_callS hC (ct_nlz hB _ M) rfl (by decide) rfl yk_J24_numberOfLeadingZeros q731 q732 q79 q733 rfl dJ6_computeRedLevel_5 (by omega) (by omega) (fun v M1 hp => ?_)
  obtain ⟨⟨y, rfl⟩, hM⟩ := hp
  cases hM.symm
  simp only [Option.toList_some, Option.toList_none, List.cons_append, List.nil_append, Nat.add_zero, Nat.zero_add]
  refine g_isub hC dJ6_computeRedLevel_8 ?_
  refine g_iret hC hQ (by omega) (by omega) dJ6_computeRedLevel_9 ?_
  exact ⟨⟨_, rfl⟩, rfl⟩
end Bfs

