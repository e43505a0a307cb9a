set_option maxRecDepth 100000
abbrev cJ6_colorOf : ByteArray := prog_83_method_76_code
def yJ6_colorOf : MethodName := ⟨RJ6, "colorOf", "(Ljava/util/TreeMap$Entry;)Z"⟩
def dkwJ6_colorOf_0 : List UInt8 := [42, 199, 0, 7, 4, 167, 0, 7, 42, 180, 1, 34, 172]
abbrev dktJ6_colorOf_0 : List UInt8 := dkwJ6_colorOf_0 ++ []
theorem dksJ6_colorOf_0 : cJ6_colorOf.data.toList.drop 0 = dktJ6_colorOf_0 := by decide +kernel
theorem dJ6_colorOf_0 : decode cJ6_colorOf 0 = .ok (.aload_n 0, 1) := dk_42 (dk_at dksJ6_colorOf_0 0 rfl rfl)
theorem dJ6_colorOf_1 : decode cJ6_colorOf 1 = .ok (.ifnonnull 7, 3) := dk_199 0 7 (dk_at dksJ6_colorOf_0 1 rfl rfl)
theorem dJ6_colorOf_4 : decode cJ6_colorOf 4 = .ok (.iconst 1, 1) := dk_4 (dk_at dksJ6_colorOf_0 4 rfl rfl)
theorem dJ6_colorOf_5 : decode cJ6_colorOf 5 = .ok (.goto 7, 3) := dk_167 0 7 (dk_at dksJ6_colorOf_0 5 rfl rfl)
theorem dJ6_colorOf_8 : decode cJ6_colorOf 8 = .ok (.aload_n 0, 1) := dk_42 (dk_at dksJ6_colorOf_0 8 rfl rfl)
theorem dJ6_colorOf_9 : decode cJ6_colorOf 9 = .ok (.getfield 290, 3) := dk_180 1 34 (dk_at dksJ6_colorOf_0 9 rfl rfl)
theorem dJ6_colorOf_12 : decode cJ6_colorOf 12 = .ok (.ireturn, 1) := dk_172 (dk_at dksJ6_colorOf_0 12 rfl rfl)
theorem yk_J6_colorOf : yk yJ6_colorOf 1 := by unfold yk; decide +kernel
abbrev KJ6_colorOf (G : Gx) (d mc ms : Nat) (av : List Sv) (M : Mem) (post : Option Sv → Mem → Prop) : Prop := Ct G yJ6_colorOf cJ6_colorOf 1 ((Option.some Jvm.ClassFile.FieldType.boolean)) d mc ms av M post
abbrev cJ6_leftOf : ByteArray := prog_83_method_79_code
def yJ6_leftOf : MethodName := ⟨RJ6, "leftOf", "(Ljava/util/TreeMap$Entry;)Ljava/util/TreeMap$Entry;"⟩
def dkwJ6_leftOf_0 : List UInt8 := [42, 199, 0, 7, 1, 167, 0, 7, 42, 180, 0, 111, 176]
abbrev dktJ6_leftOf_0 : List UInt8 := dkwJ6_leftOf_0 ++ []
theorem dksJ6_leftOf_0 : cJ6_leftOf.data.toList.drop 0 = dktJ6_leftOf_0 := by decide +kernel
theorem dJ6_leftOf_0 : decode cJ6_leftOf 0 = .ok (.aload_n 0, 1) := dk_42 (dk_at dksJ6_leftOf_0 0 rfl rfl)
theorem dJ6_leftOf_1 : decode cJ6_leftOf 1 = .ok (.ifnonnull 7, 3) := dk_199 0 7 (dk_at dksJ6_leftOf_0 1 rfl rfl)
theorem dJ6_leftOf_4 : decode cJ6_leftOf 4 = .ok (.aconst_null, 1) := dk_1 (dk_at dksJ6_leftOf_0 4 rfl rfl)
theorem dJ6_leftOf_5 : decode cJ6_leftOf 5 = .ok (.goto 7, 3) := dk_167 0 7 (dk_at dksJ6_leftOf_0 5 rfl rfl)
theorem dJ6_leftOf_8 : decode cJ6_leftOf 8 = .ok (.aload_n 0, 1) := dk_42 (dk_at dksJ6_leftOf_0 8 rfl rfl)
theorem dJ6_leftOf_9 : decode cJ6_leftOf 9 = .ok (.getfield 111, 3) := dk_180 0 111 (dk_at dksJ6_leftOf_0 9 rfl rfl)
theorem dJ6_leftOf_12 : decode cJ6_leftOf 12 = .ok (.areturn, 1) := dk_176 (dk_at dksJ6_leftOf_0 12 rfl rfl)
theorem yk_J6_leftOf : yk yJ6_leftOf 1 := by unfold yk; decide +kernel
abbrev KJ6_leftOf (G : Gx) (d mc ms : Nat) (av : List Sv) (M : Mem) (post : Option Sv → Mem → Prop) : Prop := Ct G yJ6_leftOf cJ6_leftOf 1 ((Option.some (Jvm.ClassFile.FieldType.object "java/util/TreeMap$Entry"))) d mc ms av M post
abbrev cJ6_parentOf : ByteArray := prog_83_method_77_code
def yJ6_parentOf : MethodName := ⟨RJ6, "parentOf", "(Ljava/util/TreeMap$Entry;)Ljava/util/TreeMap$Entry;"⟩
def dkwJ6_parentOf_0 : List UInt8 := [42, 199, 0, 7, 1, 167, 0, 7, 42, 180, 0, 124, 176]
abbrev dktJ6_parentOf_0 : List UInt8 := dkwJ6_parentOf_0 ++ []
theorem dksJ6_parentOf_0 : cJ6_parentOf.data.toList.drop 0 = dktJ6_parentOf_0 := by decide +kernel
theorem dJ6_parentOf_0 : decode cJ6_parentOf 0 = .ok (.aload_n 0, 1) := dk_42 (dk_at dksJ6_parentOf_0 0 rfl rfl)
theorem dJ6_parentOf_1 : decode cJ6_parentOf 1 = .ok (.ifnonnull 7, 3) := dk_199 0 7 (dk_at dksJ6_parentOf_0 1 rfl rfl)
theorem dJ6_parentOf_4 : decode cJ6_parentOf 4 = .ok (.aconst_null, 1) := dk_1 (dk_at dksJ6_parentOf_0 4 rfl rfl)
theorem dJ6_parentOf_5 : decode cJ6_parentOf 5 = .ok (.goto 7, 3) := dk_167 0 7 (dk_at dksJ6_parentOf_0 5 rfl rfl)
theorem dJ6_parentOf_8 : decode cJ6_parentOf 8 = .ok (.aload_n 0, 1) := dk_42 (dk_at dksJ6_parentOf_0 8 rfl rfl)
theorem dJ6_parentOf_9 : decode cJ6_parentOf 9 = .ok (.getfield 124, 3) := dk_180 0 124 (dk_at dksJ6_parentOf_0 9 rfl rfl)
theorem dJ6_parentOf_12 : decode cJ6_parentOf 12 = .ok (.areturn, 1) := dk_176 (dk_at dksJ6_parentOf_0 12 rfl rfl)
theorem yk_J6_parentOf : yk yJ6_parentOf 1 := by unfold yk; decide +kernel
abbrev KJ6_parentOf (G : Gx) (d mc ms : Nat) (av : List Sv) (M : Mem) (post : Option Sv → Mem → Prop) : Prop := Ct G yJ6_parentOf cJ6_parentOf 1 ((Option.some (Jvm.ClassFile.FieldType.object "java/util/TreeMap$Entry"))) d mc ms av M post
abbrev cJ6_rightOf : ByteArray := prog_83_method_80_code
def yJ6_rightOf : MethodName := ⟨RJ6, "rightOf", "(Ljava/util/TreeMap$Entry;)Ljava/util/TreeMap$Entry;"⟩
def dkwJ6_rightOf_0 : List UInt8 := [42, 199, 0, 7, 1, 167, 0, 7, 42, 180, 0, 114, 176]
abbrev dktJ6_rightOf_0 : List UInt8 := dkwJ6_rightOf_0 ++ []
theorem dksJ6_rightOf_0 : cJ6_rightOf.data.toList.drop 0 = dktJ6_rightOf_0 := by decide +kernel
theorem dJ6_rightOf_0 : decode cJ6_rightOf 0 = .ok (.aload_n 0, 1) := dk_42 (dk_at dksJ6_rightOf_0 0 rfl rfl)
theorem dJ6_rightOf_1 : decode cJ6_rightOf 1 = .ok (.ifnonnull 7, 3) := dk_199 0 7 (dk_at dksJ6_rightOf_0 1 rfl rfl)
theorem dJ6_rightOf_4 : decode cJ6_rightOf 4 = .ok (.aconst_null, 1) := dk_1 (dk_at dksJ6_rightOf_0 4 rfl rfl)
theorem dJ6_rightOf_5 : decode cJ6_rightOf 5 = .ok (.goto 7, 3) := dk_167 0 7 (dk_at dksJ6_rightOf_0 5 rfl rfl)
theorem dJ6_rightOf_8 : decode cJ6_rightOf 8 = .ok (.aload_n 0, 1) := dk_42 (dk_at dksJ6_rightOf_0 8 rfl rfl)
theorem dJ6_rightOf_9 : decode cJ6_rightOf 9 = .ok (.getfield 114, 3) := dk_180 0 114 (dk_at dksJ6_rightOf_0 9 rfl rfl)
theorem dJ6_rightOf_12 : decode cJ6_rightOf 12 = .ok (.areturn, 1) := dk_176 (dk_at dksJ6_rightOf_0 12 rfl rfl)
theorem yk_J6_rightOf : yk yJ6_rightOf 1 := by unfold yk; decide +kernel
abbrev KJ6_rightOf (G : Gx) (d mc ms : Nat) (av : List Sv) (M : Mem) (post : Option Sv → Mem → Prop) : Prop := Ct G yJ6_rightOf cJ6_rightOf 1 ((Option.some (Jvm.ClassFile.FieldType.object "java/util/TreeMap$Entry"))) d mc ms av M post
abbrev cJ6_setColor : ByteArray := prog_83_method_78_code
def yJ6_setColor : MethodName := ⟨RJ6, "setColor", "(Ljava/util/TreeMap$Entry;Z)V"⟩
def dkwJ6_setColor_0 : List UInt8 := [42, 198, 0, 8, 42, 27, 181, 1, 34, 177]
abbrev dktJ6_setColor_0 : List UInt8 := dkwJ6_setColor_0 ++ []
theorem dksJ6_setColor_0 : cJ6_setColor.data.toList.drop 0 = dktJ6_setColor_0 := by decide +kernel
theorem dJ6_setColor_0 : decode cJ6_setColor 0 = .ok (.aload_n 0, 1) := dk_42 (dk_at dksJ6_setColor_0 0 rfl rfl)
theorem dJ6_setColor_1 : decode cJ6_setColor 1 = .ok (.ifnull 8, 3) := dk_198 0 8 (dk_at dksJ6_setColor_0 1 rfl rfl)
theorem dJ6_setColor_4 : decode cJ6_setColor 4 = .ok (.aload_n 0, 1) := dk_42 (dk_at dksJ6_setColor_0 4 rfl rfl)
theorem dJ6_setColor_5 : decode cJ6_setColor 5 = .ok (.iload_n 1, 1) := dk_27 (dk_at dksJ6_setColor_0 5 rfl rfl)
theorem dJ6_setColor_6 : decode cJ6_setColor 6 = .ok (.putfield 290, 3) := dk_181 1 34 (dk_at dksJ6_setColor_0 6 rfl rfl)
theorem dJ6_setColor_9 : decode cJ6_setColor 9 = .ok (.return_, 1) := dk_177 (dk_at dksJ6_setColor_0 9 rfl rfl)
theorem yk_J6_setColor : yk yJ6_setColor 2 := by unfold yk; decide +kernel
abbrev KJ6_setColor (G : Gx) (d mc ms : Nat) (av : List Sv) (M : Mem) (post : Option Sv → Mem → Prop) : Prop := Ct G yJ6_setColor cJ6_setColor 2 ((Option.none : Option Jvm.ClassFile.FieldType)) d mc ms av M post
theorem q986 : (Jvm.Cond.fieldLink "java/util/TreeMap" (290 : Nat) "java/util/TreeMap$Entry" "color" "Z") ∈ lw_all := lw_g (lw_at lw_m4 218 rfl) rfl
/-! ===== TreeMap: colours, fixAfterInsertion ===== -/
def b01 (c : Int32) : Prop := c = 0 ∨ c = 1
theorem b01.nar {c : Int32} (h : b01 c) : narrow .boolean (.int c) = .int c := by rcases h with rfl | rfl <;> rfl
theorem b01.fit {c : Int32} (h : b01 c) : fits .boolean (.int c) = true := by rcases h with rfl | rfl <;> rfl
theorem b01.z : b01 0 := Or.inl rfl
theorem b01.o : b01 1 := Or.inr rfl
section Col
variable {G : Gx} {M : Mem}
theorem ct_po (hB : Base G) {a : Nat} (hk : mK M a = kEN) : KJ6_parentOf G 1 0 0 [vr (some a)] M (fun v M' => v = some (vr (mR M a 4)) ∧ M' = M) := by
  refine Ct.of (own := RJ6) (nm := "parentOf") hB (by decide) rfl rfl rfl rfl (fun C hC hQ => ?_)
  refine g_aload_n hC dJ6_parentOf_0 rfl ?_
  refine g_ifnonnull hC 8 dJ6_parentOf_1 (by decide) (fun y1 h => ?_) (fun h => ?_)
  · refine g_aload_n hC dJ6_parentOf_8 rfl ?_
    refine g_getR hC (ci := 9) (by first | exact rfl | assumption) (by first | assumption | (simp only [mK_sI, mK_sR, mK_sL, mK_sO, mK_nw, mK_sK]; first | assumption | (simp only [*]; done))) rfl 4 (by decide) q984 (Or.inl rfl) rfl dJ6_parentOf_9 ?_
    refine g_aret hC hQ (by omega) (by omega) rfl dJ6_parentOf_12 ?_
    exact ⟨rfl, rfl⟩
  · cases h
theorem ct_po0 (hB : Base G) : KJ6_parentOf G 1 0 0 [vr none] M (fun v M' => v = some (vr none) ∧ M' = M) := by
  refine Ct.of (own := RJ6) (nm := "parentOf") hB (by decide) rfl rfl rfl rfl (fun C hC hQ => ?_)
  refine g_aload_n hC dJ6_parentOf_0 rfl ?_
  refine g_ifnonnull hC 8 dJ6_parentOf_1 (by decide) (fun y1 h => ?_) (fun h => ?_)
  · cases h
  · refine g_null hC dJ6_parentOf_4 ?_
    refine g_goto hC 12 dJ6_parentOf_5 (by decide) ?_
    refine g_aret hC hQ (by omega) (by omega) rfl dJ6_parentOf_12 ?_
    exact ⟨rfl, rfl⟩
theorem ct_lo (hB : Base G) {a : Nat} (hk : mK M a = kEN) : KJ6_leftOf G 1 0 0 [vr (some a)] M (fun v M' => v = some (vr (mR M a 2)) ∧ M' = M) := by
  refine Ct.of (own := RJ6) (nm := "leftOf") hB (by decide) rfl rfl rfl rfl (fun C hC hQ => ?_)
  refine g_aload_n hC dJ6_leftOf_0 rfl ?_
  refine g_ifnonnull hC 8 dJ6_leftOf_1 (by decide) (fun y1 h => ?_) (fun h => ?_)
  · refine g_aload_n hC dJ6_leftOf_8 rfl ?_
    refine g_getR hC (ci := 9) (by first | exact rfl | assumption) (by first | assumption | (simp only [mK_sI, mK_sR, mK_sL, mK_sO, mK_nw, mK_sK]; first | assumption | (simp only [*]; done))) rfl 2 (by decide) q980 (Or.inl rfl) rfl dJ6_leftOf_9 ?_
    refine g_aret hC hQ (by omega) (by omega) rfl dJ6_leftOf_12 ?_
    exact ⟨rfl, rfl⟩
  · cases h
theorem ct_lo0 (hB : Base G) : KJ6_leftOf G 1 0 0 [vr none] M (fun v M' => v = some (vr none) ∧ M' = M) := by
  refine Ct.of (own := RJ6) (nm := "leftOf") hB (by decide) rfl rfl rfl rfl (fun C hC hQ => ?_)
  refine g_aload_n hC dJ6_leftOf_0 rfl ?_
  refine g_ifnonnull hC 8 dJ6_leftOf_1 (by decide) (fun y1 h => ?_) (fun h => ?_)
  · cases h
  · refine g_null hC dJ6_leftOf_4 ?_
    refine g_goto hC 12 dJ6_leftOf_5 (by decide) ?_
    refine g_aret hC hQ (by omega) (by omega) rfl dJ6_leftOf_12 ?_
    exact ⟨rfl, rfl⟩
theorem ct_ro (hB : Base G) {a : Nat} (hk : mK M a = kEN) : KJ6_rightOf G 1 0 0 [vr (some a)] M (fun v M' => v = some (vr (mR M a 3)) ∧ M' = M) := by
  refine Ct.of (own := RJ6) (nm := "rightOf") hB (by decide) rfl rfl rfl rfl (fun C hC hQ => ?_)
  refine g_aload_n hC dJ6_rightOf_0 rfl ?_
  refine g_ifnonnull hC 8 dJ6_rightOf_1 (by decide) (fun y1 h => ?_) (fun h => ?_)
  · refine g_aload_n hC dJ6_rightOf_8 rfl ?_
    refine g_getR hC (ci := 9) (by first | exact rfl | assumption) (by first | assumption | (simp only [mK_sI, mK_sR, mK_sL, mK_sO, mK_nw, mK_sK]; first | assumption | (simp only [*]; done))) rfl 3 (by decide) q982 (Or.inl rfl) rfl dJ6_rightOf_9 ?_
    refine g_aret hC hQ (by omega) (by omega) rfl dJ6_rightOf_12 ?_
    exact ⟨rfl, rfl⟩
  · cases h
theorem ct_ro0 (hB : Base G) : KJ6_rightOf G 1 0 0 [vr none] M (fun v M' => v = some (vr none) ∧ M' = M) := by
  refine Ct.of (own := RJ6) (nm := "rightOf") hB (by decide) rfl rfl rfl rfl (fun C hC hQ => ?_)
  refine g_aload_n hC dJ6_rightOf_0 rfl ?_
  refine g_ifnonnull hC 8 dJ6_rightOf_1 (by decide) (fun y1 h => ?_) (fun h => ?_)
  · cases h
  · refine g_null hC dJ6_rightOf_4 ?_
    refine g_goto hC 12 dJ6_rightOf_5 (by decide) ?_
    refine g_aret hC hQ (by omega) (by omega) rfl dJ6_rightOf_12 ?_
    exact ⟨rfl, rfl⟩
/-- colorOf: a node's colour, of none black -/
def cO (M : Mem) (x : Option Nat) : Int32 := match x with
  | none => 1
  | some a => mI M a 5
theorem ct_co (hB : Base G) (x : Option Nat) (hk : ∀ a, x = some a → mK M a = kEN ∧ b01 (mI M a 5)) : KJ6_colorOf G 1 0 0 [vr x] M (fun v M' => v = some (vi (cO M x)) ∧ M' = M) := by
  refine Ct.of (own := RJ6) (nm := "colorOf") hB (by decide) rfl rfl rfl rfl (fun C hC hQ => ?_)
  refine g_aload_n hC dJ6_colorOf_0 rfl ?_
  refine g_ifnonnull hC 8 dJ6_colorOf_1 (by decide) (fun a h => ?_) (fun h => ?_)
  · obtain ⟨h1, h2⟩ := hk a h
    have h3 := h2.nar
    refine g_aload_n hC dJ6_colorOf_8 rfl ?_
    refine g_getI hC (ci := 9) (by first | exact rfl | assumption) (by first | assumption | (simp only [mK_sI, mK_sR, mK_sL, mK_sO, mK_nw, mK_sK]; first | assumption | (simp only [*]; done))) rfl 5 (by decide) q986 (Or.inl rfl) rfl dJ6_colorOf_9 ?_
    refine g_zret hC hQ (by omega) (by omega) dJ6_colorOf_12 (by first | rfl | assumption) ?_
    exact ⟨by rw [h]; rfl, rfl⟩
  · refine g_iconst (v := 1) hC dJ6_colorOf_4 (by decide) ?_
    refine g_goto hC 12 dJ6_colorOf_5 (by decide) ?_
    refine g_zret hC hQ (by omega) (by omega) dJ6_colorOf_12 (by first | rfl | assumption) ?_
    exact ⟨by rw [h]; rfl, rfl⟩
theorem ct_sc (hB : Base G) {a : Nat} {c : Int32} (hk : mK M a = kEN) (hc : b01 c) : KJ6_setColor G 1 0 0 [vr (some a), vi c] M (fun v M' => v = none ∧ M' = sI M a 5 c) := by
  have hc1 := hc.nar
  have hc2 := hc.fit
  refine Ct.of (own := RJ6) (nm := "setColor") hB (by decide) rfl rfl rfl rfl (fun C hC hQ => ?_)
  refine g_aload_n hC dJ6_setColor_0 rfl ?_
  refine g_ifnull hC 9 dJ6_setColor_1 (by decide) (fun h => ?_) (fun y1 h => ?_)
  · cases h
  · refine g_aload_n hC dJ6_setColor_4 rfl ?_
    refine g_iload_n hC dJ6_setColor_5 rfl ?_
    refine g_putI hC (ci := 9) (by first | exact rfl | assumption) (by first | assumption | (simp only [mK_sI, mK_sR, mK_sL, mK_sO, mK_nw, mK_sK]; first | assumption | (simp only [*]; done))) rfl 5 (by decide) q986 (Or.inl rfl) (Or.inl rfl) rfl (by first | rfl | assumption) (by first | rfl | assumption) dJ6_setColor_6 ?_
    refine g_vret hC hQ (by omega) (by omega) dJ6_setColor_9 ?_
    exact ⟨rfl, rfl⟩
theorem ct_sc0 (hB : Base G) {c : Int32} : KJ6_setColor G 1 0 0 [vr none, vi c] M (fun v M' => v = none ∧ M' = M) := by
  refine Ct.of (own := RJ6) (nm := "setColor") hB (by decide) rfl rfl rfl rfl (fun C hC hQ => ?_)
  refine g_aload_n hC dJ6_setColor_0 rfl ?_
  refine g_ifnull hC 9 dJ6_setColor_1 (by decide) (fun h => ?_) (fun y1 h => ?_)
  · refine g_vret hC hQ (by omega) (by omega) dJ6_setColor_9 ?_
    exact ⟨rfl, rfl⟩
  · cases h
theorem ct_rotL0 (hB : Base G) (t : Nat) : KJ6_rotateLeft G 1 0 0 [vr (some t), vr none] M (fun v M' => v = none ∧ M' = M) := by
  refine Ct.of (own := RJ6) (nm := "rotateLeft") hB (by decide) rfl rfl rfl rfl (fun C hC hQ => ?_)
  refine g_aload_n hC dJ6_rotateLeft_0 rfl ?_
  refine g_ifnull hC 95 dJ6_rotateLeft_1 (by decide) (fun h => ?_) (fun y1 h => ?_)
  · refine g_vret hC hQ (by omega) (by omega) dJ6_rotateLeft_95 ?_
    exact ⟨rfl, rfl⟩
  · cases h
theorem ct_rotR0 (hB : Base G) (t : Nat) : KJ6_rotateRight G 1 0 0 [vr (some t), vr none] M (fun v M' => v = none ∧ M' = M) := by
  refine Ct.of (own := RJ6) (nm := "rotateRight") hB (by decide) rfl rfl rfl rfl (fun C hC hQ => ?_)
  refine g_aload_n hC dJ6_rotateRight_0 rfl ?_
  refine g_ifnull hC 95 dJ6_rotateRight_1 (by decide) (fun h => ?_) (fun y1 h => ?_)
  · refine g_vret hC hQ (by omega) (by omega) dJ6_rotateRight_95 ?_
    exact ⟨rfl, rfl⟩
  · cases h
end Col
/-- what mending the tree keeps: M0 before, M now -/
def Fx (M0 M : Mem) (ρ t n : Nat) (ad ps lo hi : Nat → Nat) : Prop := TMt M ρ t n ad ps lo hi ∧ (∀ x, Nd n ad ps x → b01 (mI M x 5)) ∧ Fr (fun r => r = ρ) M0 M ∧ (∀ x, Nd n ad ps x → mR M x 0 = mR M0 x 0 ∧ mR M x 1 = mR M0 x 1) ∧ (∀ k, k ≠ 3 → mR M t k = mR M0 t k) ∧ (∀ k, mI M t k = mI M0 t k) ∧ mK M t = kTM ∧ mO M t = ρ
section FxLaws
variable {M0 M M' : Mem} {ρ t n : Nat} {ad ps lo hi : Nat → Nat}
theorem Fx.col (h : Fx M0 M ρ t n ad ps lo hi) {x : Nat} {c : Int32} (hx : Nd n ad ps x) (hc : b01 c) : Fx M0 (sI M x 5 c) ρ t n ad ps lo hi := by
  obtain ⟨h1, h2, h3, h4, h5, h6, h7, h8⟩ := h
  have hxt : t ≠ x := (h1.ne h7 hx).symm
  refine ⟨h1, fun y hy => ?_, h3.tr (Fr.sI (by rw [(h1.2 x hx).2])), h4, h5, fun k => ?_, h7, h8⟩
  · rw [mI_sI]
    by_cases e : y = x
    · simp [e]; exact hc
    · simp [e]; exact h2 y hy
  · rw [mI_sI]; simp [hxt]; exact h6 k
theorem Sh.fr {P : Nat → Prop} (hS : Sh t M M') (h : ∀ x k, k = 2 ∨ k = 3 ∨ k = 4 → ¬ P (mO M x) → mK M x ≠ 0 → mR M' x k = mR M x k) : Fr P M M' := by
  obtain ⟨s1, s2, s3⟩ := hS
  intro a ha
  refine ⟨(s1 a).1, (s1 a).2.1, (s1 a).2.2, fun hp k => ⟨(s2 a k).1, ?_, (s2 a k).2⟩⟩
  by_cases e : k < 2 ∨ 4 < k
  · exact s3 a k e
  · exact h a k (by omega) hp ha
theorem Fx.rl (h : Fx M0 M ρ t n ad ps lo hi) {p r : Nat} (hp : Nd n ad ps p) (hr : mR M p 3 = some r) (hR : RL M M' t p r) : Fx M0 M' ρ t n ad ps (fun x => if x = r then lo p else lo x) (fun x => if x = p then ps r else hi x) := by
  obtain ⟨h1, h2, h3, h4, h5, h6, h7, h8⟩ := h
  have hT := h1.rotL h7 hp hr hR
  obtain ⟨a1, a2, a3, a4, a5, a6, a7, a8, a9, a10, a11, a12, hS⟩ := hR
  have hrN := (h1.1.2.2.2.2.2.1 p r hp hr).1
  have hrO := (h1.2 r hrN).2
  have hpO := (h1.2 p hp).2
  have hF : Fr (fun r => r = ρ) M M' := hS.fr (fun x k hk hP hx => by
    have x1 : x ≠ p := by intro e; subst e; exact hP hpO
    have x2 : x ≠ r := by intro e; subst e; exact hP hrO
    have x3 : x ≠ t := by intro e; subst e; exact hP h8
    have x4 : mR M p 4 ≠ some x := by
      intro e
      exact hP (h1.2 x (h1.1.2.2.2.2.2.2.2.1 p x hp e).1).2
    have x5 : mR M r 2 ≠ some x := by
      intro e
      exact hP (h1.2 x (h1.1.2.2.2.1 r x hrN e).1).2
    rcases hk with rfl | rfl | rfl
    · exact a11 x x2 (fun e => x4 e.1)
    · exact a12 x x1 x3 (fun e => x4 e.1)
    · exact a6 x x1 x2 x5)
  have hpt := h1.ne h7 hp
  have hrt := h1.ne h7 hrN
  refine ⟨hT, fun y hy => by rw [(hS.2.1 y 5).1]; exact h2 y hy, h3.tr hF, fun y hy => ?_, fun k hk => ?_, fun k => by rw [(hS.2.1 t k).1]; exact h6 k, by rw [(hS.1 t).1]; exact h7, by rw [(hS.1 t).2.2]; exact h8⟩
  · rw [hS.2.2 y 0 (by omega), hS.2.2 y 1 (by omega)]; exact h4 y hy
  · rw [← h5 k hk]
    by_cases e : k < 2 ∨ 4 < k
    · exact hS.2.2 t k e
    · have x4 : mR M p 4 ≠ some t := by
        intro e
        exact (h1.ne h7 (h1.1.2.2.2.2.2.2.2.1 p t hp e).1) rfl
      have x5 : mR M r 2 ≠ some t := by
        intro e
        exact (h1.ne h7 (h1.1.2.2.2.1 r t hrN e).1) rfl
      have : k = 2 ∨ k = 4 := by omega
      rcases this with rfl | rfl
      · exact a11 t hrt.symm (fun e => x4 e.1)
      · exact a6 t hpt.symm hrt.symm x5
theorem Fx.rr (h : Fx M0 M ρ t n ad ps lo hi) {p r : Nat} (hp : Nd n ad ps p) (hr : mR M p 2 = some r) (hR : RR M M' t p r) : Fx M0 M' ρ t n ad ps (fun x => if x = p then ps r + 1 else lo x) (fun x => if x = r then hi p else hi x) := by
  obtain ⟨h1, h2, h3, h4, h5, h6, h7, h8⟩ := h
  have hT := h1.rotR h7 hp hr hR
  obtain ⟨a1, a2, a3, a4, a5, a6, a7, a8, a9, a10, a11, a12, hS⟩ := hR
  have hrN := (h1.1.2.2.2.1 p r hp hr).1
  have hrO := (h1.2 r hrN).2
  have hpO := (h1.2 p hp).2
  have hF : Fr (fun r => r = ρ) M M' := hS.fr (fun x k hk hP hx => by
    have x1 : x ≠ p := by intro e; subst e; exact hP hpO
    have x2 : x ≠ r := by intro e; subst e; exact hP hrO
    have x3 : x ≠ t := by intro e; subst e; exact hP h8
    have x4 : mR M p 4 ≠ some x := by
      intro e
      exact hP (h1.2 x (h1.1.2.2.2.2.2.2.2.1 p x hp e).1).2
    have x5 : mR M r 3 ≠ some x := by
      intro e
      exact hP (h1.2 x (h1.1.2.2.2.2.2.1 r x hrN e).1).2
    rcases hk with rfl | rfl | rfl
    · exact a12 x x1 (fun e => x4 e.1)
    · exact a11 x x2 x3 (fun e => x4 e.1)
    · exact a6 x x1 x2 x5)
  have hpt := h1.ne h7 hp
  have hrt := h1.ne h7 hrN
  refine ⟨hT, fun y hy => by rw [(hS.2.1 y 5).1]; exact h2 y hy, h3.tr hF, fun y hy => ?_, fun k hk => ?_, fun k => by rw [(hS.2.1 t k).1]; exact h6 k, by rw [(hS.1 t).1]; exact h7, by rw [(hS.1 t).2.2]; exact h8⟩
  · rw [hS.2.2 y 0 (by omega), hS.2.2 y 1 (by omega)]; exact h4 y hy
  · rw [← h5 k hk]
    by_cases e : k < 2 ∨ 4 < k
    · exact hS.2.2 t k e
    · have x4 : mR M p 4 ≠ some t := by
        intro e
        exact (h1.ne h7 (h1.1.2.2.2.2.2.2.2.1 p t hp e).1) rfl
      have x5 : mR M r 3 ≠ some t := by
        intro e
        exact (h1.ne h7 (h1.1.2.2.2.2.2.1 r t hrN e).1) rfl
      have : k = 2 ∨ k = 4 := by omega
      rcases this with rfl | rfl
      · exact a12 t hpt.symm (fun e => x4 e.1)
      · exact a6 t hpt.symm hrt.symm x5
end FxLaws

