set_option maxRecDepth 100000
def RJ23 : String := "java/lang/Number"
abbrev cJ23_init : ByteArray := prog_27_method_1_code
def yJ23_init : MethodName := ⟨RJ23, "<init>", "()V"⟩
theorem dJ23_init_0 : decode cJ23_init 0 = .ok (.aload_n 0, 1) := by decide +kernel
theorem dJ23_init_1 : decode cJ23_init 1 = .ok (.invokespecial 1, 3) := by decide +kernel
theorem dJ23_init_4 : decode cJ23_init 4 = .ok (.return_, 1) := by decide +kernel
theorem yk_J23_init : yk yJ23_init 0 := by unfold yk; decide +kernel
abbrev KJ23_init (G : Gx) (d mc ms : Nat) (av : List Sv) (M : Mem) (post : Option Sv → Mem → Prop) : Prop := Ct G yJ23_init cJ23_init 1 ((Option.none : Option Jvm.ClassFile.FieldType)) d mc ms av M post
abbrev cJ24_init : ByteArray := prog_22_method_23_code
def yJ24_init : MethodName := ⟨RJ24, "<init>", "(I)V"⟩
def dkwJ24_init_0 : List UInt8 := [42, 183, 0, 202, 42, 27, 181, 0, 205, 177]
abbrev dktJ24_init_0 : List UInt8 := dkwJ24_init_0 ++ []
theorem dksJ24_init_0 : cJ24_init.data.toList.drop 0 = dktJ24_init_0 := by decide +kernel
theorem dJ24_init_0 : decode cJ24_init 0 = .ok (.aload_n 0, 1) := dk_42 (dk_at dksJ24_init_0 0 rfl rfl)
theorem dJ24_init_1 : decode cJ24_init 1 = .ok (.invokespecial 202, 3) := dk_183 0 202 (dk_at dksJ24_init_0 1 rfl rfl)
theorem dJ24_init_4 : decode cJ24_init 4 = .ok (.aload_n 0, 1) := dk_42 (dk_at dksJ24_init_0 4 rfl rfl)
theorem dJ24_init_5 : decode cJ24_init 5 = .ok (.iload_n 1, 1) := dk_27 (dk_at dksJ24_init_0 5 rfl rfl)
theorem dJ24_init_6 : decode cJ24_init 6 = .ok (.putfield 205, 3) := dk_181 0 205 (dk_at dksJ24_init_0 6 rfl rfl)
theorem dJ24_init_9 : decode cJ24_init 9 = .ok (.return_, 1) := dk_177 (dk_at dksJ24_init_0 9 rfl rfl)
theorem yk_J24_init : yk yJ24_init 1 := by unfold yk; decide +kernel
abbrev KJ24_init (G : Gx) (d mc ms : Nat) (av : List Sv) (M : Mem) (post : Option Sv → Mem → Prop) : Prop := Ct G yJ24_init cJ24_init 2 ((Option.none : Option Jvm.ClassFile.FieldType)) d mc ms av M post
abbrev cJ24_valueOf : ByteArray := prog_22_method_22_code
def yJ24_valueOf : MethodName := ⟨RJ24, "valueOf", "(I)Ljava/lang/Integer;"⟩
def dkwJ24_valueOf_1 : List UInt8 := [187, 0, 1, 89, 26, 183, 0, 199, 176]
abbrev dktJ24_valueOf_1 : List UInt8 := dkwJ24_valueOf_1 ++ []
def dkwJ24_valueOf_0 : List UInt8 := [26, 16, 128, 161, 0, 20, 26, 178, 0, 191, 163, 0, 13, 178, 0, 195, 26, 17, 0, 128, 96, 50, 176]
abbrev dktJ24_valueOf_0 : List UInt8 := dkwJ24_valueOf_0 ++ dktJ24_valueOf_1
theorem dksJ24_valueOf_0 : cJ24_valueOf.data.toList.drop 0 = dktJ24_valueOf_0 := by decide +kernel
theorem dksJ24_valueOf_1 : cJ24_valueOf.data.toList.drop 23 = dktJ24_valueOf_1 := dk_seg dksJ24_valueOf_0 23 rfl rfl
theorem dJ24_valueOf_0 : decode cJ24_valueOf 0 = .ok (.iload_n 0, 1) := dk_26 (dk_at dksJ24_valueOf_0 0 rfl rfl)
theorem dJ24_valueOf_1 : decode cJ24_valueOf 1 = .ok (.bipush (-128), 2) := dk_16 128 (dk_at dksJ24_valueOf_0 1 rfl rfl)
theorem dJ24_valueOf_3 : decode cJ24_valueOf 3 = .ok (.if_icmp .lt 20, 3) := dk_161 0 20 (dk_at dksJ24_valueOf_0 3 rfl rfl)
theorem dJ24_valueOf_6 : decode cJ24_valueOf 6 = .ok (.iload_n 0, 1) := dk_26 (dk_at dksJ24_valueOf_0 6 rfl rfl)
theorem dJ24_valueOf_7 : decode cJ24_valueOf 7 = .ok (.getstatic 191, 3) := dk_178 0 191 (dk_at dksJ24_valueOf_0 7 rfl rfl)
theorem dJ24_valueOf_10 : decode cJ24_valueOf 10 = .ok (.if_icmp .gt 13, 3) := dk_163 0 13 (dk_at dksJ24_valueOf_0 10 rfl rfl)
theorem dJ24_valueOf_13 : decode cJ24_valueOf 13 = .ok (.getstatic 195, 3) := dk_178 0 195 (dk_at dksJ24_valueOf_0 13 rfl rfl)
theorem dJ24_valueOf_16 : decode cJ24_valueOf 16 = .ok (.iload_n 0, 1) := dk_26 (dk_at dksJ24_valueOf_0 16 rfl rfl)
theorem dJ24_valueOf_17 : decode cJ24_valueOf 17 = .ok (.sipush 128, 3) := dk_17 0 128 (dk_at dksJ24_valueOf_0 17 rfl rfl)
theorem dJ24_valueOf_20 : decode cJ24_valueOf 20 = .ok (.iadd, 1) := dk_96 (dk_at dksJ24_valueOf_0 20 rfl rfl)
theorem dJ24_valueOf_21 : decode cJ24_valueOf 21 = .ok (.aaload, 1) := dk_50 (dk_at dksJ24_valueOf_0 21 rfl rfl)
theorem dJ24_valueOf_22 : decode cJ24_valueOf 22 = .ok (.areturn, 1) := dk_176 (dk_at dksJ24_valueOf_0 22 rfl rfl)
theorem dJ24_valueOf_23 : decode cJ24_valueOf 23 = .ok (.new 1, 3) := dk_187 0 1 (dk_at dksJ24_valueOf_1 0 rfl rfl)
theorem dJ24_valueOf_26 : decode cJ24_valueOf 26 = .ok (.dup, 1) := dk_89 (dk_at dksJ24_valueOf_1 3 rfl rfl)
theorem dJ24_valueOf_27 : decode cJ24_valueOf 27 = .ok (.iload_n 0, 1) := dk_26 (dk_at dksJ24_valueOf_1 4 rfl rfl)
theorem dJ24_valueOf_28 : decode cJ24_valueOf 28 = .ok (.invokespecial 199, 3) := dk_183 0 199 (dk_at dksJ24_valueOf_1 5 rfl rfl)
theorem dJ24_valueOf_31 : decode cJ24_valueOf 31 = .ok (.areturn, 1) := dk_176 (dk_at dksJ24_valueOf_1 8 rfl rfl)
theorem yk_J24_valueOf : yk yJ24_valueOf 1 := by unfold yk; decide +kernel
abbrev KJ24_valueOf (G : Gx) (d mc ms : Nat) (av : List Sv) (M : Mem) (post : Option Sv → Mem → Prop) : Prop := Ct G yJ24_valueOf cJ24_valueOf 1 ((Option.some (Jvm.ClassFile.FieldType.object "java/lang/Integer"))) d mc ms av M post
theorem q78 : (Jvm.Cond.initialized "java/lang/Number") ∈ lw_all := lw_g (lw_at lw_m1 30 rfl) rfl
theorem q101 : (Jvm.Cond.initialized "java/lang/Integer$IntegerCache") ∈ lw_all := lw_g (lw_at lw_m1 53 rfl) rfl
theorem q1988 : (Jvm.Cond.fieldLink "java/lang/Integer" (191 : Nat) "java/lang/Integer$IntegerCache" "high" "I") ∈ lw_all := lw_g (lw_at lw_m9 20 rfl) rfl
theorem q1989 : (Jvm.Cond.laysStatic "java/lang/Integer$IntegerCache" "high" "I") ∈ lw_tbl := lw_at lw_m9 21 rfl
theorem q1990 : (Jvm.Cond.fieldLink "java/lang/Integer" (195 : Nat) "java/lang/Integer$IntegerCache" "cache" "[Ljava/lang/Integer;") ∈ lw_all := lw_g (lw_at lw_m9 22 rfl) rfl
theorem q1991 : (Jvm.Cond.laysStatic "java/lang/Integer$IntegerCache" "cache" "[Ljava/lang/Integer;") ∈ lw_tbl := lw_at lw_m9 23 rfl
theorem q1992 : (Jvm.Cond.instantiable "java/lang/Integer" (1 : Nat)) ∈ lw_all := lw_g (lw_at lw_m9 24 rfl) rfl
theorem q1993 : (Jvm.Cond.methodLink "java/lang/Integer" (199 : Nat) ({ cls := "java/lang/Integer", name := "<init>", desc := "(I)V" } : Jvm.MethodName)) ∈ lw_all := lw_g (lw_at lw_m9 25 rfl) rfl
theorem q1994 : (Jvm.Cond.instanceMethod ({ cls := "java/lang/Integer", name := "<init>", desc := "(I)V" } : Jvm.MethodName)) ∈ lw_all := lw_g (lw_at lw_m9 26 rfl) rfl
theorem q1995 : (Jvm.Cond.code ({ cls := "java/lang/Integer", name := "<init>", desc := "(I)V" } : Jvm.MethodName) prog_22_method_23_code (2 : Nat) (Option.none : Option Jvm.ClassFile.FieldType)) ∈ lw_all := lw_g (lw_at lw_m9 27 rfl) rfl
theorem q1996 : (Jvm.Cond.methodLink "java/lang/Integer" (202 : Nat) ({ cls := "java/lang/Number", name := "<init>", desc := "()V" } : Jvm.MethodName)) ∈ lw_all := lw_g (lw_at lw_m9 28 rfl) rfl
theorem q1997 : (Jvm.Cond.instanceMethod ({ cls := "java/lang/Number", name := "<init>", desc := "()V" } : Jvm.MethodName)) ∈ lw_all := lw_g (lw_at lw_m9 29 rfl) rfl
theorem q1998 : (Jvm.Cond.code ({ cls := "java/lang/Number", name := "<init>", desc := "()V" } : Jvm.MethodName) prog_27_method_1_code (1 : Nat) (Option.none : Option Jvm.ClassFile.FieldType)) ∈ lw_all := lw_g (lw_at lw_m9 30 rfl) rfl
theorem q1999 : (Jvm.Cond.methodLink "java/lang/Number" (1 : Nat) ({ cls := "java/lang/Object", name := "<init>", desc := "()V" } : Jvm.MethodName)) ∈ lw_all := lw_g (lw_at lw_m9 31 rfl) rfl
/-! ===== statics; Integer.valueOf, Boolean.valueOf ===== -/
/-- what doesn't change: the cells that were there at the law's start -/
abbrev A0 (G : Gx) : Nat → Prop := fun q => G.2.1.heap.size ≤ q
abbrev Zs (G : Gx) (Cn f ds : String) (v : Value) : Prop := va_Z Cn f ds v (A0 G) G.2.1 G.2.1.heap
section Statics
variable {C : Cx} {G : Gx} {cc : ByteArray} {own nm : String} {d kc ks pc : Nat} {lv : Lv} {st : List Sv} {M : Mem} {k n : Nat}
theorem g_gets (hC : Ok C G cc own nm d kc ks) {Cn f ds : String} {idx : Nat} {w : Sv} (hZ : Zs G Cn f ds (toV w)) (hw : Cond.fieldLink own idx Cn f ds ∈ lw_all) (hdg : decode cc pc = .ok (.getstatic idx, 3)) (kk : Go C (pc + 3) lv (w :: st) M k n) : Go C pc lv st M k n := by
  obtain ⟨p, l, e, R, s, m, args, below, meth, c, Q, s0, D, nL⟩ := C
  obtain ⟨hx, hb, hml, hown, hts, hW, hB, -, -, -, -, -, -, rfl⟩ := hC
  intro H locs ls hR hO hl hv
  obtain ⟨cf, kf, fi, f, a, cell, h1, h2, h3, h4, h5, h6, h7, h8⟩ := va_Z.moved hW.alike hZ
  have ha : a < s0.heap.size := Nat.not_le.mp h8
  refine W.gets hx hb hown (hts _ hw) h1 h2 h3 h4 (by rw [hO.2 a ha]; exact h5) (by intro e; rw [e] at h6; cases h6) h7 rfl hdg (kk H locs ls hR hO hl hv)
/-- an old array of references is read -/
theorem g_aaldT (hC : Ok C G cc own nm d kc ks) {x : Option Nat} {t N j : Nat} {E : String} {f : Nat → Value} {z : Int32} {r : Option Nat} (hx : x = some t) (hT : va_T (.object E) t N f (A0 G) G.2.1 G.2.1.heap) (hin : vp_in z N) (hj : z.toNatClampNeg = j) (hf : f j = va_rf r) (hdg : decode cc pc = .ok (.aaload, 1)) (kk : Go C (pc + 1) lv (vr r :: st) M k n) : Go C pc lv (vi z :: vr x :: st) M k n := by
  subst hx; subst hj
  obtain ⟨p, l, e, R, s, m, args, below, meth, c, Q, s0, D, nL⟩ := C
  obtain ⟨hx, hb, hml, hown, hts, hW, hB, -, -, -, -, -, -, rfl⟩ := hC
  intro H locs ls hR hO hl hv
  obtain ⟨cell, h1, h2, h3, h4, h5, h6, h7⟩ := hT
  have ha : t < s0.heap.size := Nat.not_le.mp h7
  have hlt : z.toNatClampNeg < N := Nat.not_le.mp fun q => hin (Or.inr q)
  refine W.aald (ty := .object E) hx hb (by rw [hO.2 t ha]; exact h1) (State.isArrayOf_alike hW.alike h2) rfl h3 (fun q => ?_) (v := va_rf r) (by rw [h6 _ hlt, hf]) rfl rfl hdg (kk H locs ls hR hO hl hv)
  rcases q with q | q
  · exact hin (Or.inl q)
  · omega
end Statics
/-- the cache of small Integers, in the memory -/
def IC (G : Gx) (M : Mem) : Prop := Zs G "java/lang/Integer$IntegerCache" "high" "I" (.int 127) ∧ ∃ (t : Nat) (ad : Nat → Nat), Zs G "java/lang/Integer$IntegerCache" "cache" "[Ljava/lang/Integer;" (.ref t) ∧ va_T (.object "java/lang/Integer") t 256 (fun k => .ref (ad k)) (A0 G) G.2.1 G.2.1.heap ∧ ∀ k, k < 256 → Bx M (ad k) (vb_c k)
theorem IC.fr {G : Gx} {P : Nat → Prop} {M M1 : Mem} (h : IC G M) (hF : Fr P M M1) (hP : ¬ P 0) : IC G M1 := by
  obtain ⟨h0, t, ad, h1, h2, h3⟩ := h
  exact ⟨h0, t, ad, h1, h2, fun k hk => (h3 k hk).fr hF hP⟩
theorem Fr.sK {P : Nat → Prop} {M : Mem} {a κ : Nat} (h0 : mK M a = 0) : Fr P M (sK M a κ) := fun b hb => by
  have e : ¬ b = a := fun e => hb (e ▸ h0)
  exact ⟨by rw [mK_sK, if_neg e], rfl, rfl, fun _ k => ⟨rfl, rfl, rfl⟩⟩
/-- nothing of the memory changes, but that cells are new -/
abbrev Nu : Nat → Prop := fun _ => False
section Boxes
variable {G : Gx}
theorem ct_Number_init (hB : Base G) (a : Nat) (M : Mem) : KJ23_init G 1 0 0 [vr (some a)] M (fun v M' => v = none ∧ M' = M) := by
  refine Ct.of (own := RJ23) (nm := "<init>") hB (by decide) rfl rfl rfl rfl (fun C hC hQ => ?_)
  refine g_aload_n hC dJ23_init_0 rfl ?_
  refine g_objInit hC (by first | exact rfl | assumption) q1999 q_oi1 q_oi2 (by decide) rfl dJ23_init_1 ?_
  refine g_vret hC hQ (by omega) (by omega) dJ23_init_4 ?_
  exact ⟨rfl, rfl⟩
theorem ct_Integer_init (hB : Base G) (a : Nat) (x : Int32) (M : Mem) (hk : mK M a = kIN) : KJ24_init G 2 0 0 [vr (some a), vi x] M (fun v M' => v = none ∧ M' = sI M a 0 x) := by
  refine Ct.of (own := RJ24) (nm := "<init>") hB (by decide) rfl rfl rfl rfl (fun C hC hQ => ?_)
  refine g_aload_n hC dJ24_init_0 rfl ?_
  refine g_callI hC (by first | exact rfl | assumption) (ct_Number_init hB a M) rfl (by decide) rfl yk_J23_init rfl q1996 q1997 q78 q1998 rfl dJ24_init_1 (by omega) (by omega) (fun v M1 hp => ?_)
  obtain ⟨rfl, rfl⟩ := hp
  simp only [Option.toList_some, Option.toList_none, List.cons_append, List.nil_append, Nat.add_zero, Nat.zero_add]
  refine g_aload_n hC dJ24_init_4 rfl ?_
  refine g_iload_n hC dJ24_init_5 rfl ?_
  refine g_putI hC (ci := 17) (by first | exact rfl | assumption) (by first | assumption | (simp only [mK_sI, mK_sR, mK_sL, mK_sO, mK_nw, mK_sK]; first | assumption | (simp only [*]; done))) rfl 0 (by decide) q2000 (Or.inl rfl) (Or.inr ⟨rfl, rfl, rfl⟩) rfl rfl rfl dJ24_init_6 ?_
  refine g_vret hC hQ (by omega) (by omega) dJ24_init_9 ?_
  exact ⟨rfl, rfl⟩
/-- Integer.valueOf: an Integer of that value, that nobody writes; at most one cell is new -/
theorem ct_valueOf (hB : Base G) (x : Int32) {M : Mem} (hI : IC G M) : KJ24_valueOf G 3 1 1 [vi x] M (fun v M' => ∃ b, v = some (vr (some b)) ∧ Bx M' b x ∧ Fr Nu M M') := by
  obtain ⟨hhi, t, ad, hca, hT, hbx⟩ := hI
  have mk : ∀ C, Ok C G cJ24_valueOf RJ24 "valueOf" 3 1 1 → Rt C G (some (.object "java/lang/Integer")) 1 1 (fun v M' => ∃ b, v = some (vr (some b)) ∧ Bx M' b x ∧ Fr Nu M M') → Go C 23 [some (vi x)] [] M 0 0 := by
    intro C hC hQ
    refine g_new hC (ci := 17) (0) 1 rfl rfl q548 q1992 q79 dJ24_valueOf_23 (by omega) (by omega) (fun a ha => ?_)
    have hka : mK (nw M a 18 0 0) a = kIN := by rw [mK_nw, if_pos rfl]
    refine g_dup hC dJ24_valueOf_26 rfl ?_
    refine g_iload_n hC dJ24_valueOf_27 rfl ?_
    refine g_callI hC (by first | exact rfl | assumption) (ct_Integer_init hB a x _ hka) rfl (by decide) rfl yk_J24_init rfl q1993 q1994 q79 q1995 rfl dJ24_valueOf_28 (by omega) (by omega) (fun v M1 hp => ?_)
    obtain ⟨rfl, rfl⟩ := hp
    simp only [Option.toList_some, Option.toList_none, List.cons_append, List.nil_append, Nat.add_zero, Nat.zero_add]
    refine go_box (a := a) hka ?_
    refine g_aret hC hQ (by omega) (by omega) rfl dJ24_valueOf_31 ?_
    refine ⟨a, rfl, ⟨by rw [mK_sK, if_pos rfl], by rw [mI_sK, mI_sI]; simp, by rw [mO_sK, mO_sI, mO_nw, if_pos rfl]⟩, fun b hb => ?_⟩
    have e : ¬ b = a := fun e => hb (e ▸ ha)
    exact ⟨by rw [mK_sK, if_neg e, mK_sI, mK_nw, if_neg e], by rw [mN_sK, mN_sI, mN_nw, if_neg e], by rw [mO_sK, mO_sI, mO_nw, if_neg e], fun _ k => ⟨by rw [mI_sK, mI_sI, mI_nw]; simp [e], by rw [mR_sK, mR_sI, mR_nw]; simp [e], by rw [mL_sK, mL_sI, mL_nw]; simp [e]⟩⟩
  refine Ct.of (own := RJ24) (nm := "valueOf") hB (by decide) rfl rfl rfl rfl (fun C hC hQ => ?_)
  refine g_iload_n hC dJ24_valueOf_0 rfl ?_
  refine g_bipush (v := (-128)) hC dJ24_valueOf_1 (by decide) ?_
  refine g_icmp_lt hC 23 dJ24_valueOf_3 (by decide) (fun h1 => ?_) (fun h1 => ?_)
  · exact mk C hC hQ
  · refine g_iload_n hC dJ24_valueOf_6 rfl ?_
    refine g_gets (w := vi 127) hC hhi q1988 dJ24_valueOf_7 ?_
    refine g_icmp_gt hC 23 dJ24_valueOf_10 (by decide) (fun h2 => ?_) (fun h2 => ?_)
    · exact mk C hC hQ
    · obtain ⟨j, hj, e1, e2⟩ := bx_small h1 (Int32.not_lt.mpr h2)
      refine g_gets (w := vr (some t)) hC hca q1990 dJ24_valueOf_13 ?_
      refine g_iload_n hC dJ24_valueOf_16 rfl ?_
      refine g_sipush (v := 128) hC dJ24_valueOf_17 (by decide) ?_
      refine g_iadd hC dJ24_valueOf_20 ?_
      refine g_aaldT (r := some (ad j)) hC rfl hT (by rw [e1]; exact vp_in_nI hj (by decide)) (by rw [e1]; exact nI_clamp (by omega)) rfl dJ24_valueOf_21 ?_
      refine g_aret hC hQ (by omega) (by omega) rfl dJ24_valueOf_22 ?_
      exact ⟨ad j, rfl, by rw [e2]; exact hbx j hj, Fr.rf _ _⟩
end Boxes

