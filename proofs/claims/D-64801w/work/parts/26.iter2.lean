set_option maxRecDepth 100000
abbrev cJ16_iterator : ByteArray := prog_86_method_2_code
def yJ16_iterator : MethodName := ⟨RJ16, "iterator", "()Ljava/util/Iterator;"⟩
def dkwJ16_iterator_0 : List UInt8 := [187, 0, 13, 89, 42, 180, 0, 1, 42, 180, 0, 1, 182, 0, 15, 183, 0, 21, 176]
abbrev dktJ16_iterator_0 : List UInt8 := dkwJ16_iterator_0 ++ []
theorem dksJ16_iterator_0 : cJ16_iterator.data.toList.drop 0 = dktJ16_iterator_0 := by decide +kernel
theorem dJ16_iterator_0 : decode cJ16_iterator 0 = .ok (.new 13, 3) := dk_187 0 13 (dk_at dksJ16_iterator_0 0 rfl rfl)
theorem dJ16_iterator_3 : decode cJ16_iterator 3 = .ok (.dup, 1) := dk_89 (dk_at dksJ16_iterator_0 3 rfl rfl)
theorem dJ16_iterator_4 : decode cJ16_iterator 4 = .ok (.aload_n 0, 1) := dk_42 (dk_at dksJ16_iterator_0 4 rfl rfl)
theorem dJ16_iterator_5 : decode cJ16_iterator 5 = .ok (.getfield 1, 3) := dk_180 0 1 (dk_at dksJ16_iterator_0 5 rfl rfl)
theorem dJ16_iterator_8 : decode cJ16_iterator 8 = .ok (.aload_n 0, 1) := dk_42 (dk_at dksJ16_iterator_0 8 rfl rfl)
theorem dJ16_iterator_9 : decode cJ16_iterator 9 = .ok (.getfield 1, 3) := dk_180 0 1 (dk_at dksJ16_iterator_0 9 rfl rfl)
theorem dJ16_iterator_12 : decode cJ16_iterator 12 = .ok (.invokevirtual 15, 3) := dk_182 0 15 (dk_at dksJ16_iterator_0 12 rfl rfl)
theorem dJ16_iterator_15 : decode cJ16_iterator 15 = .ok (.invokespecial 21, 3) := dk_183 0 21 (dk_at dksJ16_iterator_0 15 rfl rfl)
theorem dJ16_iterator_18 : decode cJ16_iterator 18 = .ok (.areturn, 1) := dk_176 (dk_at dksJ16_iterator_0 18 rfl rfl)
theorem yk_J16_iterator : yk yJ16_iterator 0 := by unfold yk; decide +kernel
abbrev KJ16_iterator (G : Gx) (d mc ms : Nat) (av : List Sv) (M : Mem) (post : Option Sv → Mem → Prop) : Prop := Ct G yJ16_iterator cJ16_iterator 1 ((Option.some (Jvm.ClassFile.FieldType.object "java/util/Iterator"))) d mc ms av M post
abbrev cJ43_iterator : ByteArray := prog_88_method_2_code
def yJ43_iterator : MethodName := ⟨RJ43, "iterator", "()Ljava/util/Iterator;"⟩
def dkwJ43_iterator_1 : List UInt8 := [180, 0, 7, 192, 0, 19, 182, 0, 21, 176]
abbrev dktJ43_iterator_1 : List UInt8 := dkwJ43_iterator_1 ++ []
def dkwJ43_iterator_0 : List UInt8 := [42, 180, 0, 7, 193, 0, 13, 153, 0, 14, 42, 180, 0, 7, 192, 0, 13, 182, 0, 15, 176, 42]
abbrev dktJ43_iterator_0 : List UInt8 := dkwJ43_iterator_0 ++ dktJ43_iterator_1
theorem dksJ43_iterator_0 : cJ43_iterator.data.toList.drop 0 = dktJ43_iterator_0 := by decide +kernel
theorem dksJ43_iterator_1 : cJ43_iterator.data.toList.drop 22 = dktJ43_iterator_1 := dk_seg dksJ43_iterator_0 22 rfl rfl
theorem dJ43_iterator_0 : decode cJ43_iterator 0 = .ok (.aload_n 0, 1) := dk_42 (dk_at dksJ43_iterator_0 0 rfl rfl)
theorem dJ43_iterator_1 : decode cJ43_iterator 1 = .ok (.getfield 7, 3) := dk_180 0 7 (dk_at dksJ43_iterator_0 1 rfl rfl)
theorem dJ43_iterator_4 : decode cJ43_iterator 4 = .ok (.instanceof 13, 3) := dk_193 0 13 (dk_at dksJ43_iterator_0 4 rfl rfl)
theorem dJ43_iterator_7 : decode cJ43_iterator 7 = .ok (.ifCond .eq 14, 3) := dk_153 0 14 (dk_at dksJ43_iterator_0 7 rfl rfl)
theorem dJ43_iterator_10 : decode cJ43_iterator 10 = .ok (.aload_n 0, 1) := dk_42 (dk_at dksJ43_iterator_0 10 rfl rfl)
theorem dJ43_iterator_11 : decode cJ43_iterator 11 = .ok (.getfield 7, 3) := dk_180 0 7 (dk_at dksJ43_iterator_0 11 rfl rfl)
theorem dJ43_iterator_14 : decode cJ43_iterator 14 = .ok (.checkcast 13, 3) := dk_192 0 13 (dk_at dksJ43_iterator_0 14 rfl rfl)
theorem dJ43_iterator_17 : decode cJ43_iterator 17 = .ok (.invokevirtual 15, 3) := dk_182 0 15 (dk_at dksJ43_iterator_0 17 rfl rfl)
theorem dJ43_iterator_20 : decode cJ43_iterator 20 = .ok (.areturn, 1) := dk_176 (dk_at dksJ43_iterator_0 20 rfl rfl)
theorem dJ43_iterator_21 : decode cJ43_iterator 21 = .ok (.aload_n 0, 1) := dk_42 (dk_at dksJ43_iterator_0 21 rfl rfl)
theorem dJ43_iterator_22 : decode cJ43_iterator 22 = .ok (.getfield 7, 3) := dk_180 0 7 (dk_at dksJ43_iterator_1 0 rfl rfl)
theorem dJ43_iterator_25 : decode cJ43_iterator 25 = .ok (.checkcast 19, 3) := dk_192 0 19 (dk_at dksJ43_iterator_1 3 rfl rfl)
theorem dJ43_iterator_28 : decode cJ43_iterator 28 = .ok (.invokevirtual 21, 3) := dk_182 0 21 (dk_at dksJ43_iterator_1 6 rfl rfl)
theorem dJ43_iterator_31 : decode cJ43_iterator 31 = .ok (.areturn, 1) := dk_176 (dk_at dksJ43_iterator_1 9 rfl rfl)
theorem yk_J43_iterator : yk yJ43_iterator 0 := by unfold yk; decide +kernel
abbrev KJ43_iterator (G : Gx) (d mc ms : Nat) (av : List Sv) (M : Mem) (post : Option Sv → Mem → Prop) : Prop := Ct G yJ43_iterator cJ43_iterator 1 ((Option.some (Jvm.ClassFile.FieldType.object "java/util/Iterator"))) d mc ms av M post
abbrev cJ51_iterator : ByteArray := prog_92_method_2_code
def yJ51_iterator : MethodName := ⟨RJ51, "iterator", "()Ljava/util/Iterator;"⟩
def dkwJ51_iterator_0 : List UInt8 := [187, 0, 13, 89, 42, 180, 0, 1, 42, 180, 0, 1, 182, 0, 15, 183, 0, 21, 176]
abbrev dktJ51_iterator_0 : List UInt8 := dkwJ51_iterator_0 ++ []
theorem dksJ51_iterator_0 : cJ51_iterator.data.toList.drop 0 = dktJ51_iterator_0 := by decide +kernel
theorem dJ51_iterator_0 : decode cJ51_iterator 0 = .ok (.new 13, 3) := dk_187 0 13 (dk_at dksJ51_iterator_0 0 rfl rfl)
theorem dJ51_iterator_3 : decode cJ51_iterator 3 = .ok (.dup, 1) := dk_89 (dk_at dksJ51_iterator_0 3 rfl rfl)
theorem dJ51_iterator_4 : decode cJ51_iterator 4 = .ok (.aload_n 0, 1) := dk_42 (dk_at dksJ51_iterator_0 4 rfl rfl)
theorem dJ51_iterator_5 : decode cJ51_iterator 5 = .ok (.getfield 1, 3) := dk_180 0 1 (dk_at dksJ51_iterator_0 5 rfl rfl)
theorem dJ51_iterator_8 : decode cJ51_iterator 8 = .ok (.aload_n 0, 1) := dk_42 (dk_at dksJ51_iterator_0 8 rfl rfl)
theorem dJ51_iterator_9 : decode cJ51_iterator 9 = .ok (.getfield 1, 3) := dk_180 0 1 (dk_at dksJ51_iterator_0 9 rfl rfl)
theorem dJ51_iterator_12 : decode cJ51_iterator 12 = .ok (.invokevirtual 15, 3) := dk_182 0 15 (dk_at dksJ51_iterator_0 12 rfl rfl)
theorem dJ51_iterator_15 : decode cJ51_iterator 15 = .ok (.invokespecial 21, 3) := dk_183 0 21 (dk_at dksJ51_iterator_0 15 rfl rfl)
theorem dJ51_iterator_18 : decode cJ51_iterator 18 = .ok (.areturn, 1) := dk_176 (dk_at dksJ51_iterator_0 18 rfl rfl)
theorem yk_J51_iterator : yk yJ51_iterator 0 := by unfold yk; decide +kernel
abbrev KJ51_iterator (G : Gx) (d mc ms : Nat) (av : List Sv) (M : Mem) (post : Option Sv → Mem → Prop) : Prop := Ct G yJ51_iterator cJ51_iterator 1 ((Option.some (Jvm.ClassFile.FieldType.object "java/util/Iterator"))) d mc ms av M post
abbrev cJ6_keyIterator : ByteArray := prog_83_method_65_code
def yJ6_keyIterator : MethodName := ⟨RJ6, "keyIterator", "()Ljava/util/Iterator;"⟩
def dkwJ6_keyIterator_0 : List UInt8 := [187, 1, 13, 89, 42, 42, 182, 0, 54, 183, 1, 15, 176]
abbrev dktJ6_keyIterator_0 : List UInt8 := dkwJ6_keyIterator_0 ++ []
theorem dksJ6_keyIterator_0 : cJ6_keyIterator.data.toList.drop 0 = dktJ6_keyIterator_0 := by decide +kernel
theorem dJ6_keyIterator_0 : decode cJ6_keyIterator 0 = .ok (.new 269, 3) := dk_187 1 13 (dk_at dksJ6_keyIterator_0 0 rfl rfl)
theorem dJ6_keyIterator_3 : decode cJ6_keyIterator 3 = .ok (.dup, 1) := dk_89 (dk_at dksJ6_keyIterator_0 3 rfl rfl)
theorem dJ6_keyIterator_4 : decode cJ6_keyIterator 4 = .ok (.aload_n 0, 1) := dk_42 (dk_at dksJ6_keyIterator_0 4 rfl rfl)
theorem dJ6_keyIterator_5 : decode cJ6_keyIterator 5 = .ok (.aload_n 0, 1) := dk_42 (dk_at dksJ6_keyIterator_0 5 rfl rfl)
theorem dJ6_keyIterator_6 : decode cJ6_keyIterator 6 = .ok (.invokevirtual 54, 3) := dk_182 0 54 (dk_at dksJ6_keyIterator_0 6 rfl rfl)
theorem dJ6_keyIterator_9 : decode cJ6_keyIterator 9 = .ok (.invokespecial 271, 3) := dk_183 1 15 (dk_at dksJ6_keyIterator_0 9 rfl rfl)
theorem dJ6_keyIterator_12 : decode cJ6_keyIterator 12 = .ok (.areturn, 1) := dk_176 (dk_at dksJ6_keyIterator_0 12 rfl rfl)
theorem yk_J6_keyIterator : yk yJ6_keyIterator 0 := by unfold yk; decide +kernel
abbrev KJ6_keyIterator (G : Gx) (d mc ms : Nat) (av : List Sv) (M : Mem) (post : Option Sv → Mem → Prop) : Prop := Ct G yJ6_keyIterator cJ6_keyIterator 1 ((Option.some (Jvm.ClassFile.FieldType.object "java/util/Iterator"))) d mc ms av M post
theorem q77 : (Jvm.Cond.initialized "java/util/TreeMap$KeyIterator") ∈ lw_all := lw_g (lw_at lw_m1 29 rfl) rfl
theorem q115 : (Jvm.Cond.initialized "java/util/TreeMap$ValueIterator") ∈ lw_all := lw_g (lw_at lw_m1 67 rfl) rfl
theorem q671 : (Jvm.Cond.classLink "java/util/TreeMap$EntrySet" (13 : Nat) "java/util/TreeMap$EntryIterator") ∈ lw_all := lw_g (lw_at lw_m3 143 rfl) rfl
theorem q672 : (Jvm.Cond.instantiable "java/util/TreeMap$EntryIterator" (4 : Nat)) ∈ lw_all := lw_g (lw_at lw_m3 144 rfl) rfl
theorem q673 : (Jvm.Cond.methodLink "java/util/TreeMap$EntrySet" (15 : Nat) ({ cls := "java/util/TreeMap", name := "getFirstEntry", desc := "()Ljava/util/TreeMap$Entry;" } : Jvm.MethodName)) ∈ lw_all := lw_g (lw_at lw_m3 145 rfl) rfl
theorem q674 : (Jvm.Cond.instanceMethod ({ cls := "java/util/TreeMap", name := "getFirstEntry", desc := "()Ljava/util/TreeMap$Entry;" } : Jvm.MethodName)) ∈ lw_all := lw_g (lw_at lw_m3 146 rfl) rfl
theorem q675 : (Jvm.Cond.selects "java/util/TreeMap" ({ cls := "java/util/TreeMap", name := "getFirstEntry", desc := "()Ljava/util/TreeMap$Entry;" } : Jvm.MethodName) ({ cls := "java/util/TreeMap", name := "getFirstEntry", desc := "()Ljava/util/TreeMap$Entry;" } : Jvm.MethodName)) ∈ lw_all := lw_g (lw_at lw_m3 147 rfl) rfl
theorem q676 : (Jvm.Cond.code ({ cls := "java/util/TreeMap", name := "getFirstEntry", desc := "()Ljava/util/TreeMap$Entry;" } : Jvm.MethodName) prog_83_method_72_code (2 : Nat) (Option.some (Jvm.ClassFile.FieldType.object "java/util/TreeMap$Entry"))) ∈ lw_all := lw_g (lw_at lw_m3 148 rfl) rfl
theorem q677 : (Jvm.Cond.methodLink "java/util/TreeMap$EntrySet" (21 : Nat) ({ cls := "java/util/TreeMap$EntryIterator", name := "<init>", desc := "(Ljava/util/TreeMap;Ljava/util/TreeMap$Entry;)V" } : Jvm.MethodName)) ∈ lw_all := lw_g (lw_at lw_m3 149 rfl) rfl
theorem q678 : (Jvm.Cond.instanceMethod ({ cls := "java/util/TreeMap$EntryIterator", name := "<init>", desc := "(Ljava/util/TreeMap;Ljava/util/TreeMap$Entry;)V" } : Jvm.MethodName)) ∈ lw_all := lw_g (lw_at lw_m3 150 rfl) rfl
theorem q679 : (Jvm.Cond.code ({ cls := "java/util/TreeMap$EntryIterator", name := "<init>", desc := "(Ljava/util/TreeMap;Ljava/util/TreeMap$Entry;)V" } : Jvm.MethodName) prog_85_method_1_code (3 : Nat) (Option.none : Option Jvm.ClassFile.FieldType)) ∈ lw_all := lw_g (lw_at lw_m3 151 rfl) rfl
theorem q703 : (Jvm.Cond.classLink "java/util/TreeMap$KeySet" (13 : Nat) "java/util/TreeMap") ∈ lw_all := lw_g (lw_at lw_m3 175 rfl) rfl
theorem q704 : (Jvm.Cond.methodLink "java/util/TreeMap$KeySet" (15 : Nat) ({ cls := "java/util/TreeMap", name := "keyIterator", desc := "()Ljava/util/Iterator;" } : Jvm.MethodName)) ∈ lw_all := lw_g (lw_at lw_m3 176 rfl) rfl
theorem q705 : (Jvm.Cond.instanceMethod ({ cls := "java/util/TreeMap", name := "keyIterator", desc := "()Ljava/util/Iterator;" } : Jvm.MethodName)) ∈ lw_all := lw_g (lw_at lw_m3 177 rfl) rfl
theorem q706 : (Jvm.Cond.selects "java/util/TreeMap" ({ cls := "java/util/TreeMap", name := "keyIterator", desc := "()Ljava/util/Iterator;" } : Jvm.MethodName) ({ cls := "java/util/TreeMap", name := "keyIterator", desc := "()Ljava/util/Iterator;" } : Jvm.MethodName)) ∈ lw_all := lw_g (lw_at lw_m3 178 rfl) rfl
theorem q707 : (Jvm.Cond.code ({ cls := "java/util/TreeMap", name := "keyIterator", desc := "()Ljava/util/Iterator;" } : Jvm.MethodName) prog_83_method_65_code (1 : Nat) (Option.some (Jvm.ClassFile.FieldType.object "java/util/Iterator"))) ∈ lw_all := lw_g (lw_at lw_m3 179 rfl) rfl
theorem q708 : (Jvm.Cond.classLink "java/util/TreeMap" (269 : Nat) "java/util/TreeMap$KeyIterator") ∈ lw_all := lw_g (lw_at lw_m3 180 rfl) rfl
theorem q709 : (Jvm.Cond.instantiable "java/util/TreeMap$KeyIterator" (4 : Nat)) ∈ lw_all := lw_g (lw_at lw_m3 181 rfl) rfl
theorem q710 : (Jvm.Cond.methodLink "java/util/TreeMap" (54 : Nat) ({ cls := "java/util/TreeMap", name := "getFirstEntry", desc := "()Ljava/util/TreeMap$Entry;" } : Jvm.MethodName)) ∈ lw_all := lw_g (lw_at lw_m3 182 rfl) rfl
theorem q711 : (Jvm.Cond.methodLink "java/util/TreeMap" (271 : Nat) ({ cls := "java/util/TreeMap$KeyIterator", name := "<init>", desc := "(Ljava/util/TreeMap;Ljava/util/TreeMap$Entry;)V" } : Jvm.MethodName)) ∈ lw_all := lw_g (lw_at lw_m3 183 rfl) rfl
theorem q712 : (Jvm.Cond.instanceMethod ({ cls := "java/util/TreeMap$KeyIterator", name := "<init>", desc := "(Ljava/util/TreeMap;Ljava/util/TreeMap$Entry;)V" } : Jvm.MethodName)) ∈ lw_all := lw_g (lw_at lw_m3 184 rfl) rfl
theorem q713 : (Jvm.Cond.code ({ cls := "java/util/TreeMap$KeyIterator", name := "<init>", desc := "(Ljava/util/TreeMap;Ljava/util/TreeMap$Entry;)V" } : Jvm.MethodName) prog_87_method_1_code (3 : Nat) (Option.none : Option Jvm.ClassFile.FieldType)) ∈ lw_all := lw_g (lw_at lw_m3 185 rfl) rfl
theorem q2797 : (Jvm.Cond.classLink "java/util/TreeMap$Values" (13 : Nat) "java/util/TreeMap$ValueIterator") ∈ lw_all := lw_g (lw_at lw_m12 109 rfl) rfl
theorem q2798 : (Jvm.Cond.instantiable "java/util/TreeMap$ValueIterator" (4 : Nat)) ∈ lw_all := lw_g (lw_at lw_m12 110 rfl) rfl
theorem q2799 : (Jvm.Cond.methodLink "java/util/TreeMap$Values" (15 : Nat) ({ cls := "java/util/TreeMap", name := "getFirstEntry", desc := "()Ljava/util/TreeMap$Entry;" } : Jvm.MethodName)) ∈ lw_all := lw_g (lw_at lw_m12 111 rfl) rfl
theorem q2800 : (Jvm.Cond.methodLink "java/util/TreeMap$Values" (21 : Nat) ({ cls := "java/util/TreeMap$ValueIterator", name := "<init>", desc := "(Ljava/util/TreeMap;Ljava/util/TreeMap$Entry;)V" } : Jvm.MethodName)) ∈ lw_all := lw_g (lw_at lw_m12 112 rfl) rfl
theorem q2801 : (Jvm.Cond.instanceMethod ({ cls := "java/util/TreeMap$ValueIterator", name := "<init>", desc := "(Ljava/util/TreeMap;Ljava/util/TreeMap$Entry;)V" } : Jvm.MethodName)) ∈ lw_all := lw_g (lw_at lw_m12 113 rfl) rfl
theorem q2802 : (Jvm.Cond.code ({ cls := "java/util/TreeMap$ValueIterator", name := "<init>", desc := "(Ljava/util/TreeMap;Ljava/util/TreeMap$Entry;)V" } : Jvm.MethodName) prog_91_method_1_code (3 : Nat) (Option.none : Option Jvm.ClassFile.FieldType)) ∈ lw_all := lw_g (lw_at lw_m12 114 rfl) rfl
/-! ===== TreeMap: iterators are made ===== -/
theorem g_instS {C : Cx} {G : Gx} {cc : ByteArray} {own nm : String} {d kc ks pc : Nat} {lv : Lv} {st : List Sv} {M : Mem} {k n : Nat} (hC : Ok C G cc own nm d kc ks) {x : Option Nat} {a ci idx : Nat} {q : vw_C} {E : String} (hx : x = some a) (hk : mK M a = ci + 1) (hc : clz[ci]? = some q) (he : E = q.1) (hcl : Cond.classLink own idx E ∈ lw_all) (hdg : decode cc pc = .ok (.instanceof idx, 3)) (kk : Go C (pc + 3) lv (vi 1 :: st) M k n) : Go C pc lv (vr x :: st) M k n := by
  subst hx; subst he
  obtain ⟨p, l, e, R, s, m, args, below, meth, c, Q, s0, D, nL⟩ := C
  intro H locs ls hR hO hl hv
  obtain ⟨hxx, hb, hml, hown, hts, hW, hB, -⟩ := hC
  exact va_instE hxx hb hown (hts _ hcl) (Rp.recv hB hW hR hk hc) hdg (kk H locs ls hR hO hl hv)
section Iter2
variable {G : Gx} {M : Mem} {ρ t n : Nat} {ad ps lo hi : Nat → Nat} {ky : Nat → Int32} {vl : Nat → Nat}
def mkIt (M : Mem) (it κ ρi t : Nat) (x : Int32) (r : Option Nat) : Mem := sR (sR (sI (sR (nw M it κ 0 ρi) it 3 (some t)) it 2 x) it 1 none) it 0 r
theorem mkIt_fr {P : Nat → Prop} {it κ ρi : Nat} {x : Int32} {r : Option Nat} (h0 : mK M it = 0) : Fr P M (mkIt M it κ ρi t x r) := fun b hb => by
  have e : b ≠ it := fun q => hb (q ▸ h0)
  unfold mkIt
  refine ⟨?_, ?_, ?_, fun _ k => ⟨?_, ?_, ?_⟩⟩
  · rw [mK_sR, mK_sR, mK_sI, mK_sR, mK_nw, if_neg e]
  · rw [mN_sR, mN_sR, mN_sI, mN_sR, mN_nw, if_neg e]
  · rw [mO_sR, mO_sR, mO_sI, mO_sR, mO_nw, if_neg e]
  · rw [mI_sR, mI_sR, mI_sI, mI_sR, mI_nw]; simp [e]
  · rw [mR_sRa e, mR_sRa e, mR_sI, mR_sRa e, mR_nw, if_neg e]
  · rw [mL_sR, mL_sR, mL_sI, mL_sR, mL_nw, if_neg e]
theorem mkIt_it {it κ ρi : Nat} {r : Option Nat} (h0 : mK M it = 0) (ht : mK M t ≠ 0) : It (mkIt M it κ ρi t (mI M t 5) r) κ it ρi t r := by
  have hti : t ≠ it := by intro e; subst e; exact ht h0
  refine ⟨?_, ?_, ?_, ?_, ?_⟩
  · unfold mkIt; rw [mK_sR, mK_sR, mK_sI, mK_sR, mK_nw, if_pos rfl]
  · unfold mkIt; rw [mO_sR, mO_sR, mO_sI, mO_sR, mO_nw, if_pos rfl]
  · unfold mkIt; exact mR_sRe _ _ _
  · unfold mkIt; rw [mR_sRk it (by decide), mR_sRk it (by decide), mR_sI]; exact mR_sRe _ _ _
  · rw [(mkIt_fr (P := Nu) h0).i ht (fun q => q)]
    unfold mkIt; rw [mI_sR, mI_sR, mI_sI]; simp
theorem ct_EntrySet_iterator (hB : Base G) (hT : TMc M ρ t n ad ps lo hi ky vl) {s : Nat} (hks : mK M s = kTE) (hs : mR M s 0 = some t) (ρi : Nat) : KJ16_iterator G 4 1 4 [vr (some s)] M (fun v M' => ∃ it, v = some (vr (some it)) ∧ Fr Nu M M' ∧ It M' kEI it ρi t (if 0 < n then some (ad 0) else none)) := by
  have hkt := hT.1.1
  refine Ct.of (own := RJ16) (nm := "iterator") hB (by decide) rfl rfl rfl rfl (fun C hC hQ => ?_)
  refine g_new hC (ci := 21) (ρi) 4 rfl rfl q671 q672 q76 dJ16_iterator_0 (by omega) (by omega) (fun it hi0 => ?_)
  have hki : mK (nw M it 22 0 ρi) it = kEI := by rw [mK_nw, if_pos rfl]
  have hti : t ≠ it := by intro e; subst e; rw [hkt] at hi0; cases hi0
  have hsi : s ≠ it := by intro e; subst e; rw [hks] at hi0; cases hi0
  have hks1 : mK (nw M it 22 0 ρi) s = kTE := by rw [mK_nw, if_neg hsi]; exact hks
  have hs1 : mR (nw M it 22 0 ρi) s 0 = some t := by rw [mR_nw, if_neg hsi]; exact hs
  have hF1 : Fr Nu M (nw M it 22 0 ρi) := Fr.nw hi0
  have hT1 := hT.fr hF1 (fun q => q) (fun q => q)
  have hkt1 := hT1.1.1
  refine g_dup hC dJ16_iterator_3 rfl ?_
  refine g_aload_n hC dJ16_iterator_4 rfl ?_
  refine g_getR hC (ci := 18) (by first | with_reducible rfl | with_reducible assumption | (simp only [mR_sI, mR_sL]; with_reducible assumption) | exact rfl | assumption) (by first | with_reducible assumption | (simp only [mK_sI, mK_sR, mK_sL, mK_sO]; with_reducible assumption) | assumption | (simp only [mK_sI, mK_sR, mK_sL, mK_sO, mK_nw, mK_sK]; first | assumption | (simp only [*]; done))) rfl 0 (by decide) q608 (Or.inl rfl) rfl dJ16_iterator_5 ?_
  rw [hs1]
  refine g_aload_n hC dJ16_iterator_8 rfl ?_
  refine g_getR hC (ci := 18) (by first | with_reducible rfl | with_reducible assumption | (simp only [mR_sI, mR_sL]; with_reducible assumption) | exact rfl | assumption) (by first | with_reducible assumption | (simp only [mK_sI, mK_sR, mK_sL, mK_sO]; with_reducible assumption) | assumption | (simp only [mK_sI, mK_sR, mK_sL, mK_sO, mK_nw, mK_sK]; first | assumption | (simp only [*]; done))) rfl 0 (by decide) q608 (Or.inl rfl) rfl dJ16_iterator_9 ?_
  rw [hs1]
  refine g_callV hC (by first | with_reducible rfl | with_reducible assumption | (simp only [mR_sI, mR_sL]; with_reducible assumption) | exact rfl | assumption) (Rk.o (ci := 8) (by first | with_reducible assumption | (simp only [mK_sI, mK_sR, mK_sL, mK_sO]; with_reducible assumption) | assumption | (simp only [mK_sI, mK_sR, mK_sL, mK_sO, mK_nw, mK_sK]; first | assumption | (simp only [*]; done))) rfl) (ct_getFirstEntry hB hT1.1) rfl (by decide) rfl rfl yk_J6_getFirstEntry q673 q674 q675 q59 q676 rfl dJ16_iterator_12 (by omega) (by omega) (fun v M1 hp => ?_)
  obtain ⟨rfl, hM⟩ := hp
  cases hM.symm
  simp only [Option.toList_some, Option.toList_none, List.cons_append, List.nil_append, Nat.add_zero, Nat.zero_add]
  generalize hnx : (if 0 < n then some (ad 0) else none) = nx
  refine g_callI hC (by first | with_reducible rfl | with_reducible assumption | (simp only [mR_sI, mR_sL]; with_reducible assumption) | exact rfl | assumption) (ct_J21_init hB hki hkt1) rfl (by decide) rfl yk_J21_init rfl q677 q678 q76 q679 rfl dJ16_iterator_15 (by omega) (by omega) (fun v M1 hp => ?_)
  obtain ⟨rfl, hM⟩ := hp
  cases hM.symm
  simp only [Option.toList_some, Option.toList_none, List.cons_append, List.nil_append, Nat.add_zero, Nat.zero_add]
  have e5 : mI (nw M it 22 0 ρi) t 5 = mI M t 5 := by rw [mI_nw, if_neg hti]
  rw [e5]
  show Go C 18 _ _ (mkIt M it kEI ρi t (mI M t 5) nx) _ _
  have g1 : Fr Nu M (mkIt M it kEI ρi t (mI M t 5) nx) := mkIt_fr hi0
  have g2 : It (mkIt M it kEI ρi t (mI M t 5) nx) kEI it ρi t nx := mkIt_it hi0 (by rw [hkt]; decide)
  generalize mkIt M it kEI ρi t (mI M t 5) nx = M9 at g1 g2 ⊢
  refine g_aret hC hQ (by omega) (by omega) rfl dJ16_iterator_18 ?_
  exact ⟨it, rfl, g1, by rw [hnx]; exact g2⟩
theorem ct_Values_iterator (hB : Base G) (hT : TMc M ρ t n ad ps lo hi ky vl) {s : Nat} (hks : mK M s = kTV) (hs : mR M s 0 = some t) (ρi : Nat) : KJ51_iterator G 4 1 4 [vr (some s)] M (fun v M' => ∃ it, v = some (vr (some it)) ∧ Fr Nu M M' ∧ It M' kVI it ρi t (if 0 < n then some (ad 0) else none)) := by
  have hkt := hT.1.1
  refine Ct.of (own := RJ51) (nm := "iterator") hB (by decide) rfl rfl rfl rfl (fun C hC hQ => ?_)
  refine g_new hC (ci := 23) (ρi) 4 rfl rfl q2797 q2798 q115 dJ51_iterator_0 (by omega) (by omega) (fun it hi0 => ?_)
  have hki : mK (nw M it 24 0 ρi) it = kVI := by rw [mK_nw, if_pos rfl]
  have hti : t ≠ it := by intro e; subst e; rw [hkt] at hi0; cases hi0
  have hsi : s ≠ it := by intro e; subst e; rw [hks] at hi0; cases hi0
  have hks1 : mK (nw M it 24 0 ρi) s = kTV := by rw [mK_nw, if_neg hsi]; exact hks
  have hs1 : mR (nw M it 24 0 ρi) s 0 = some t := by rw [mR_nw, if_neg hsi]; exact hs
  have hF1 : Fr Nu M (nw M it 24 0 ρi) := Fr.nw hi0
  have hT1 := hT.fr hF1 (fun q => q) (fun q => q)
  have hkt1 := hT1.1.1
  refine g_dup hC dJ51_iterator_3 rfl ?_
  refine g_aload_n hC dJ51_iterator_4 rfl ?_
  refine g_getR hC (ci := 20) (by first | with_reducible rfl | with_reducible assumption | (simp only [mR_sI, mR_sL]; with_reducible assumption) | exact rfl | assumption) (by first | with_reducible assumption | (simp only [mK_sI, mK_sR, mK_sL, mK_sO]; with_reducible assumption) | assumption | (simp only [mK_sI, mK_sR, mK_sL, mK_sO, mK_nw, mK_sK]; first | assumption | (simp only [*]; done))) rfl 0 (by decide) q2693 (Or.inl rfl) rfl dJ51_iterator_5 ?_
  rw [hs1]
  refine g_aload_n hC dJ51_iterator_8 rfl ?_
  refine g_getR hC (ci := 20) (by first | with_reducible rfl | with_reducible assumption | (simp only [mR_sI, mR_sL]; with_reducible assumption) | exact rfl | assumption) (by first | with_reducible assumption | (simp only [mK_sI, mK_sR, mK_sL, mK_sO]; with_reducible assumption) | assumption | (simp only [mK_sI, mK_sR, mK_sL, mK_sO, mK_nw, mK_sK]; first | assumption | (simp only [*]; done))) rfl 0 (by decide) q2693 (Or.inl rfl) rfl dJ51_iterator_9 ?_
  rw [hs1]
  refine g_callV hC (by first | with_reducible rfl | with_reducible assumption | (simp only [mR_sI, mR_sL]; with_reducible assumption) | exact rfl | assumption) (Rk.o (ci := 8) (by first | with_reducible assumption | (simp only [mK_sI, mK_sR, mK_sL, mK_sO]; with_reducible assumption) | assumption | (simp only [mK_sI, mK_sR, mK_sL, mK_sO, mK_nw, mK_sK]; first | assumption | (simp only [*]; done))) rfl) (ct_getFirstEntry hB hT1.1) rfl (by decide) rfl rfl yk_J6_getFirstEntry q2799 q674 q675 q59 q676 rfl dJ51_iterator_12 (by omega) (by omega) (fun v M1 hp => ?_)
  obtain ⟨rfl, hM⟩ := hp
  cases hM.symm
  simp only [Option.toList_some, Option.toList_none, List.cons_append, List.nil_append, Nat.add_zero, Nat.zero_add]
  generalize hnx : (if 0 < n then some (ad 0) else none) = nx
  refine g_callI hC (by first | with_reducible rfl | with_reducible assumption | (simp only [mR_sI, mR_sL]; with_reducible assumption) | exact rfl | assumption) (ct_J55_init hB hki hkt1) rfl (by decide) rfl yk_J55_init rfl q2800 q2801 q115 q2802 rfl dJ51_iterator_15 (by omega) (by omega) (fun v M1 hp => ?_)
  obtain ⟨rfl, hM⟩ := hp
  cases hM.symm
  simp only [Option.toList_some, Option.toList_none, List.cons_append, List.nil_append, Nat.add_zero, Nat.zero_add]
  have e5 : mI (nw M it 24 0 ρi) t 5 = mI M t 5 := by rw [mI_nw, if_neg hti]
  rw [e5]
  show Go C 18 _ _ (mkIt M it kVI ρi t (mI M t 5) nx) _ _
  have g1 : Fr Nu M (mkIt M it kVI ρi t (mI M t 5) nx) := mkIt_fr hi0
  have g2 : It (mkIt M it kVI ρi t (mI M t 5) nx) kVI it ρi t nx := mkIt_it hi0 (by rw [hkt]; decide)
  generalize mkIt M it kVI ρi t (mI M t 5) nx = M9 at g1 g2 ⊢
  refine g_aret hC hQ (by omega) (by omega) rfl dJ51_iterator_18 ?_
  exact ⟨it, rfl, g1, by rw [hnx]; exact g2⟩
theorem ct_keyIterator (hB : Base G) (hT : TMc M ρ t n ad ps lo hi ky vl) (ρi : Nat) : KJ6_keyIterator G 4 1 4 [vr (some t)] M (fun v M' => ∃ it, v = some (vr (some it)) ∧ Fr Nu M M' ∧ It M' kKT it ρi t (if 0 < n then some (ad 0) else none)) := by
  have hkt := hT.1.1
  refine Ct.of (own := RJ6) (nm := "keyIterator") hB (by decide) rfl rfl rfl rfl (fun C hC hQ => ?_)
  refine g_new hC (ci := 22) (ρi) 4 rfl rfl q708 q709 q77 dJ6_keyIterator_0 (by omega) (by omega) (fun it hi0 => ?_)
  have hki : mK (nw M it 23 0 ρi) it = kKT := by rw [mK_nw, if_pos rfl]
  have hti : t ≠ it := by intro e; subst e; rw [hkt] at hi0; cases hi0
  have hF1 : Fr Nu M (nw M it 23 0 ρi) := Fr.nw hi0
  have hT1 := hT.fr hF1 (fun q => q) (fun q => q)
  have hkt1 := hT1.1.1
  refine g_dup hC dJ6_keyIterator_3 rfl ?_
  refine g_aload_n hC dJ6_keyIterator_4 rfl ?_
  refine g_aload_n hC dJ6_keyIterator_5 rfl ?_
  refine g_callV hC (by first | with_reducible rfl | with_reducible assumption | (simp only [mR_sI, mR_sL]; with_reducible assumption) | exact rfl | assumption) (Rk.o (ci := 8) (by first | with_reducible assumption | (simp only [mK_sI, mK_sR, mK_sL, mK_sO]; with_reducible assumption) | assumption | (simp only [mK_sI, mK_sR, mK_sL, mK_sO, mK_nw, mK_sK]; first | assumption | (simp only [*]; done))) rfl) (ct_getFirstEntry hB hT1.1) rfl (by decide) rfl rfl yk_J6_getFirstEntry q710 q674 q675 q59 q676 rfl dJ6_keyIterator_6 (by omega) (by omega) (fun v M1 hp => ?_)
  obtain ⟨rfl, hM⟩ := hp
  cases hM.symm
  simp only [Option.toList_some, Option.toList_none, List.cons_append, List.nil_append, Nat.add_zero, Nat.zero_add]
  generalize hnx : (if 0 < n then some (ad 0) else none) = nx
  refine g_callI hC (by first | with_reducible rfl | with_reducible assumption | (simp only [mR_sI, mR_sL]; with_reducible assumption) | exact rfl | assumption) (ct_J22_init hB hki hkt1) rfl (by decide) rfl yk_J22_init rfl q711 q712 q77 q713 rfl dJ6_keyIterator_9 (by omega) (by omega) (fun v M1 hp => ?_)
  obtain ⟨rfl, hM⟩ := hp
  cases hM.symm
  simp only [Option.toList_some, Option.toList_none, List.cons_append, List.nil_append, Nat.add_zero, Nat.zero_add]
  have e5 : mI (nw M it 23 0 ρi) t 5 = mI M t 5 := by rw [mI_nw, if_neg hti]
  rw [e5]
  show Go C 12 _ _ (mkIt M it kKT ρi t (mI M t 5) nx) _ _
  have g1 : Fr Nu M (mkIt M it kKT ρi t (mI M t 5) nx) := mkIt_fr hi0
  have g2 : It (mkIt M it kKT ρi t (mI M t 5) nx) kKT it ρi t nx := mkIt_it hi0 (by rw [hkt]; decide)
  generalize mkIt M it kKT ρi t (mI M t 5) nx = M9 at g1 g2 ⊢
  refine g_aret hC hQ (by omega) (by omega) rfl dJ6_keyIterator_12 ?_
  exact ⟨it, rfl, g1, by rw [hnx]; exact g2⟩
theorem ct_KeySet_iterator (hB : Base G) (hT : TMc M ρ t n ad ps lo hi ky vl) {s : Nat} (hks : mK M s = kTK) (hs : mR M s 0 = some t) (ρi : Nat) : KJ43_iterator G 5 1 4 [vr (some s)] M (fun v M' => ∃ it, v = some (vr (some it)) ∧ Fr Nu M M' ∧ It M' kKT it ρi t (if 0 < n then some (ad 0) else none)) := by
  have hkt := hT.1.1
  refine Ct.of (own := RJ43) (nm := "iterator") hB (by decide) rfl rfl rfl rfl (fun C hC hQ => ?_)
  refine g_aload_n hC dJ43_iterator_0 rfl ?_
  refine g_getR hC (ci := 19) (by first | with_reducible rfl | with_reducible assumption | (simp only [mR_sI, mR_sL]; with_reducible assumption) | exact rfl | assumption) (by first | with_reducible assumption | (simp only [mK_sI, mK_sR, mK_sL, mK_sO]; with_reducible assumption) | assumption | (simp only [mK_sI, mK_sR, mK_sL, mK_sO, mK_nw, mK_sK]; first | assumption | (simp only [*]; done))) rfl 0 (by decide) q1903 (Or.inl rfl) rfl dJ43_iterator_1 ?_
  rw [hs]
  refine g_instS hC (ci := 8) (by first | with_reducible rfl | with_reducible assumption | (simp only [mR_sI, mR_sL]; with_reducible assumption) | exact rfl | assumption) (by first | with_reducible assumption | (simp only [mK_sI, mK_sR, mK_sL, mK_sO]; with_reducible assumption) | assumption | (simp only [mK_sI, mK_sR, mK_sL, mK_sO, mK_nw, mK_sK]; first | assumption | (simp only [*]; done))) rfl rfl q703 dJ43_iterator_4 ?_
  refine g_if_eq hC 21 dJ43_iterator_7 (by decide) (fun hc => ?_) (fun hc => ?_)
  · exact absurd hc (by decide)
  · refine g_aload_n hC dJ43_iterator_10 rfl ?_
    refine g_getR hC (ci := 19) (by first | with_reducible rfl | with_reducible assumption | (simp only [mR_sI, mR_sL]; with_reducible assumption) | exact rfl | assumption) (by first | with_reducible assumption | (simp only [mK_sI, mK_sR, mK_sL, mK_sO]; with_reducible assumption) | assumption | (simp only [mK_sI, mK_sR, mK_sL, mK_sO, mK_nw, mK_sK]; first | assumption | (simp only [*]; done))) rfl 0 (by decide) q1903 (Or.inl rfl) rfl dJ43_iterator_11 ?_
    rw [hs]
    refine g_castS hC (ci := 8) (by first | with_reducible rfl | with_reducible assumption | (simp only [mR_sI, mR_sL]; with_reducible assumption) | exact rfl | assumption) (by first | with_reducible assumption | (simp only [mK_sI, mK_sR, mK_sL, mK_sO]; with_reducible assumption) | assumption | (simp only [mK_sI, mK_sR, mK_sL, mK_sO, mK_nw, mK_sK]; first | assumption | (simp only [*]; done))) rfl rfl q703 dJ43_iterator_14 ?_
    refine g_callV hC (by first | with_reducible rfl | with_reducible assumption | (simp only [mR_sI, mR_sL]; with_reducible assumption) | exact rfl | assumption) (Rk.o (ci := 8) (by first | with_reducible assumption | (simp only [mK_sI, mK_sR, mK_sL, mK_sO]; with_reducible assumption) | assumption | (simp only [mK_sI, mK_sR, mK_sL, mK_sO, mK_nw, mK_sK]; first | assumption | (simp only [*]; done))) rfl) (ct_keyIterator hB hT ρi) rfl (by decide) rfl rfl yk_J6_keyIterator q704 q705 q706 q59 q707 rfl dJ43_iterator_17 (by omega) (by omega) (fun v M1 hp => ?_)
    obtain ⟨it, rfl, g1, g2⟩ := hp
    simp only [Option.toList_some, Option.toList_none, List.cons_append, List.nil_append, Nat.add_zero, Nat.zero_add]
    refine g_aret hC hQ (by omega) (by omega) rfl dJ43_iterator_20 ?_
    exact ⟨it, rfl, g1, g2⟩
end Iter2

