set_option maxRecDepth 100000
abbrev cJ6_rotateRight : ByteArray := prog_83_method_82_code
def yJ6_rotateRight : MethodName := ⟨RJ6, "rotateRight", "(Ljava/util/TreeMap$Entry;)V"⟩
def dkwJ6_rotateRight_4 : List UInt8 := [177]
abbrev dktJ6_rotateRight_4 : List UInt8 := dkwJ6_rotateRight_4 ++ []
def dkwJ6_rotateRight_3 : List UInt8 := [181, 0, 114, 167, 0, 11, 43, 180, 0, 124, 44, 181, 0, 111, 44, 43, 181, 0, 114, 43, 44, 181, 0, 124]
abbrev dktJ6_rotateRight_3 : List UInt8 := dkwJ6_rotateRight_3 ++ dktJ6_rotateRight_4
def dkwJ6_rotateRight_2 : List UInt8 := [44, 181, 0, 101, 167, 0, 33, 43, 180, 0, 124, 180, 0, 114, 43, 166, 0, 14, 43, 180, 0, 124, 44]
abbrev dktJ6_rotateRight_2 : List UInt8 := dkwJ6_rotateRight_2 ++ dktJ6_rotateRight_3
def dkwJ6_rotateRight_1 : List UInt8 := [44, 180, 0, 114, 43, 181, 0, 124, 44, 43, 180, 0, 124, 181, 0, 124, 43, 180, 0, 124, 199, 0, 11, 42]
abbrev dktJ6_rotateRight_1 : List UInt8 := dkwJ6_rotateRight_1 ++ dktJ6_rotateRight_2
def dkwJ6_rotateRight_0 : List UInt8 := [43, 198, 0, 94, 43, 180, 0, 111, 77, 43, 44, 180, 0, 114, 181, 0, 111, 44, 180, 0, 114, 198, 0, 11]
abbrev dktJ6_rotateRight_0 : List UInt8 := dkwJ6_rotateRight_0 ++ dktJ6_rotateRight_1
theorem dksJ6_rotateRight_0 : cJ6_rotateRight.data.toList.drop 0 = dktJ6_rotateRight_0 := by decide +kernel
theorem dksJ6_rotateRight_1 : cJ6_rotateRight.data.toList.drop 24 = dktJ6_rotateRight_1 := dk_seg dksJ6_rotateRight_0 24 rfl rfl
theorem dksJ6_rotateRight_2 : cJ6_rotateRight.data.toList.drop 48 = dktJ6_rotateRight_2 := dk_seg dksJ6_rotateRight_1 24 rfl rfl
theorem dksJ6_rotateRight_3 : cJ6_rotateRight.data.toList.drop 71 = dktJ6_rotateRight_3 := dk_seg dksJ6_rotateRight_2 23 rfl rfl
theorem dksJ6_rotateRight_4 : cJ6_rotateRight.data.toList.drop 95 = dktJ6_rotateRight_4 := dk_seg dksJ6_rotateRight_3 24 rfl rfl
theorem dJ6_rotateRight_0 : decode cJ6_rotateRight 0 = .ok (.aload_n 1, 1) := dk_43 (dk_at dksJ6_rotateRight_0 0 rfl rfl)
theorem dJ6_rotateRight_1 : decode cJ6_rotateRight 1 = .ok (.ifnull 94, 3) := dk_198 0 94 (dk_at dksJ6_rotateRight_0 1 rfl rfl)
theorem dJ6_rotateRight_4 : decode cJ6_rotateRight 4 = .ok (.aload_n 1, 1) := dk_43 (dk_at dksJ6_rotateRight_0 4 rfl rfl)
theorem dJ6_rotateRight_5 : decode cJ6_rotateRight 5 = .ok (.getfield 111, 3) := dk_180 0 111 (dk_at dksJ6_rotateRight_0 5 rfl rfl)
theorem dJ6_rotateRight_8 : decode cJ6_rotateRight 8 = .ok (.astore_n 2, 1) := dk_77 (dk_at dksJ6_rotateRight_0 8 rfl rfl)
theorem dJ6_rotateRight_9 : decode cJ6_rotateRight 9 = .ok (.aload_n 1, 1) := dk_43 (dk_at dksJ6_rotateRight_0 9 rfl rfl)
theorem dJ6_rotateRight_10 : decode cJ6_rotateRight 10 = .ok (.aload_n 2, 1) := dk_44 (dk_at dksJ6_rotateRight_0 10 rfl rfl)
theorem dJ6_rotateRight_11 : decode cJ6_rotateRight 11 = .ok (.getfield 114, 3) := dk_180 0 114 (dk_at dksJ6_rotateRight_0 11 rfl rfl)
theorem dJ6_rotateRight_14 : decode cJ6_rotateRight 14 = .ok (.putfield 111, 3) := dk_181 0 111 (dk_at dksJ6_rotateRight_0 14 rfl rfl)
theorem dJ6_rotateRight_17 : decode cJ6_rotateRight 17 = .ok (.aload_n 2, 1) := dk_44 (dk_at dksJ6_rotateRight_0 17 rfl rfl)
theorem dJ6_rotateRight_18 : decode cJ6_rotateRight 18 = .ok (.getfield 114, 3) := dk_180 0 114 (dk_at dksJ6_rotateRight_0 18 rfl rfl)
theorem dJ6_rotateRight_21 : decode cJ6_rotateRight 21 = .ok (.ifnull 11, 3) := dk_198 0 11 (dk_at dksJ6_rotateRight_0 21 rfl rfl)
theorem dJ6_rotateRight_24 : decode cJ6_rotateRight 24 = .ok (.aload_n 2, 1) := dk_44 (dk_at dksJ6_rotateRight_1 0 rfl rfl)
theorem dJ6_rotateRight_25 : decode cJ6_rotateRight 25 = .ok (.getfield 114, 3) := dk_180 0 114 (dk_at dksJ6_rotateRight_1 1 rfl rfl)
theorem dJ6_rotateRight_28 : decode cJ6_rotateRight 28 = .ok (.aload_n 1, 1) := dk_43 (dk_at dksJ6_rotateRight_1 4 rfl rfl)
theorem dJ6_rotateRight_29 : decode cJ6_rotateRight 29 = .ok (.putfield 124, 3) := dk_181 0 124 (dk_at dksJ6_rotateRight_1 5 rfl rfl)
theorem dJ6_rotateRight_32 : decode cJ6_rotateRight 32 = .ok (.aload_n 2, 1) := dk_44 (dk_at dksJ6_rotateRight_1 8 rfl rfl)
theorem dJ6_rotateRight_33 : decode cJ6_rotateRight 33 = .ok (.aload_n 1, 1) := dk_43 (dk_at dksJ6_rotateRight_1 9 rfl rfl)
theorem dJ6_rotateRight_34 : decode cJ6_rotateRight 34 = .ok (.getfield 124, 3) := dk_180 0 124 (dk_at dksJ6_rotateRight_1 10 rfl rfl)
theorem dJ6_rotateRight_37 : decode cJ6_rotateRight 37 = .ok (.putfield 124, 3) := dk_181 0 124 (dk_at dksJ6_rotateRight_1 13 rfl rfl)
theorem dJ6_rotateRight_40 : decode cJ6_rotateRight 40 = .ok (.aload_n 1, 1) := dk_43 (dk_at dksJ6_rotateRight_1 16 rfl rfl)
theorem dJ6_rotateRight_41 : decode cJ6_rotateRight 41 = .ok (.getfield 124, 3) := dk_180 0 124 (dk_at dksJ6_rotateRight_1 17 rfl rfl)
theorem dJ6_rotateRight_44 : decode cJ6_rotateRight 44 = .ok (.ifnonnull 11, 3) := dk_199 0 11 (dk_at dksJ6_rotateRight_1 20 rfl rfl)
theorem dJ6_rotateRight_47 : decode cJ6_rotateRight 47 = .ok (.aload_n 0, 1) := dk_42 (dk_at dksJ6_rotateRight_1 23 rfl rfl)
theorem dJ6_rotateRight_48 : decode cJ6_rotateRight 48 = .ok (.aload_n 2, 1) := dk_44 (dk_at dksJ6_rotateRight_2 0 rfl rfl)
theorem dJ6_rotateRight_49 : decode cJ6_rotateRight 49 = .ok (.putfield 101, 3) := dk_181 0 101 (dk_at dksJ6_rotateRight_2 1 rfl rfl)
theorem dJ6_rotateRight_52 : decode cJ6_rotateRight 52 = .ok (.goto 33, 3) := dk_167 0 33 (dk_at dksJ6_rotateRight_2 4 rfl rfl)
theorem dJ6_rotateRight_55 : decode cJ6_rotateRight 55 = .ok (.aload_n 1, 1) := dk_43 (dk_at dksJ6_rotateRight_2 7 rfl rfl)
theorem dJ6_rotateRight_56 : decode cJ6_rotateRight 56 = .ok (.getfield 124, 3) := dk_180 0 124 (dk_at dksJ6_rotateRight_2 8 rfl rfl)
theorem dJ6_rotateRight_59 : decode cJ6_rotateRight 59 = .ok (.getfield 114, 3) := dk_180 0 114 (dk_at dksJ6_rotateRight_2 11 rfl rfl)
theorem dJ6_rotateRight_62 : decode cJ6_rotateRight 62 = .ok (.aload_n 1, 1) := dk_43 (dk_at dksJ6_rotateRight_2 14 rfl rfl)
theorem dJ6_rotateRight_63 : decode cJ6_rotateRight 63 = .ok (.if_acmp .ne 14, 3) := dk_166 0 14 (dk_at dksJ6_rotateRight_2 15 rfl rfl)
theorem dJ6_rotateRight_66 : decode cJ6_rotateRight 66 = .ok (.aload_n 1, 1) := dk_43 (dk_at dksJ6_rotateRight_2 18 rfl rfl)
theorem dJ6_rotateRight_67 : decode cJ6_rotateRight 67 = .ok (.getfield 124, 3) := dk_180 0 124 (dk_at dksJ6_rotateRight_2 19 rfl rfl)
theorem dJ6_rotateRight_70 : decode cJ6_rotateRight 70 = .ok (.aload_n 2, 1) := dk_44 (dk_at dksJ6_rotateRight_2 22 rfl rfl)
theorem dJ6_rotateRight_71 : decode cJ6_rotateRight 71 = .ok (.putfield 114, 3) := dk_181 0 114 (dk_at dksJ6_rotateRight_3 0 rfl rfl)
theorem dJ6_rotateRight_74 : decode cJ6_rotateRight 74 = .ok (.goto 11, 3) := dk_167 0 11 (dk_at dksJ6_rotateRight_3 3 rfl rfl)
theorem dJ6_rotateRight_77 : decode cJ6_rotateRight 77 = .ok (.aload_n 1, 1) := dk_43 (dk_at dksJ6_rotateRight_3 6 rfl rfl)
theorem dJ6_rotateRight_78 : decode cJ6_rotateRight 78 = .ok (.getfield 124, 3) := dk_180 0 124 (dk_at dksJ6_rotateRight_3 7 rfl rfl)
theorem dJ6_rotateRight_81 : decode cJ6_rotateRight 81 = .ok (.aload_n 2, 1) := dk_44 (dk_at dksJ6_rotateRight_3 10 rfl rfl)
theorem dJ6_rotateRight_82 : decode cJ6_rotateRight 82 = .ok (.putfield 111, 3) := dk_181 0 111 (dk_at dksJ6_rotateRight_3 11 rfl rfl)
theorem dJ6_rotateRight_85 : decode cJ6_rotateRight 85 = .ok (.aload_n 2, 1) := dk_44 (dk_at dksJ6_rotateRight_3 14 rfl rfl)
theorem dJ6_rotateRight_86 : decode cJ6_rotateRight 86 = .ok (.aload_n 1, 1) := dk_43 (dk_at dksJ6_rotateRight_3 15 rfl rfl)
theorem dJ6_rotateRight_87 : decode cJ6_rotateRight 87 = .ok (.putfield 114, 3) := dk_181 0 114 (dk_at dksJ6_rotateRight_3 16 rfl rfl)
theorem dJ6_rotateRight_90 : decode cJ6_rotateRight 90 = .ok (.aload_n 1, 1) := dk_43 (dk_at dksJ6_rotateRight_3 19 rfl rfl)
theorem dJ6_rotateRight_91 : decode cJ6_rotateRight 91 = .ok (.aload_n 2, 1) := dk_44 (dk_at dksJ6_rotateRight_3 20 rfl rfl)
theorem dJ6_rotateRight_92 : decode cJ6_rotateRight 92 = .ok (.putfield 124, 3) := dk_181 0 124 (dk_at dksJ6_rotateRight_3 21 rfl rfl)
theorem dJ6_rotateRight_95 : decode cJ6_rotateRight 95 = .ok (.return_, 1) := dk_177 (dk_at dksJ6_rotateRight_4 0 rfl rfl)
theorem yk_J6_rotateRight : yk yJ6_rotateRight 1 := by unfold yk; decide +kernel
abbrev KJ6_rotateRight (G : Gx) (d mc ms : Nat) (av : List Sv) (M : Mem) (post : Option Sv → Mem → Prop) : Prop := Ct G yJ6_rotateRight cJ6_rotateRight 3 ((Option.none : Option Jvm.ClassFile.FieldType)) d mc ms av M post
/-! ===== TreeMap.rotateRight (by exchange of words out of rotateLeft) ===== -/
section RotR
variable {G : Gx} {M M' : Mem} {ρ t n : Nat} {ad ps lo hi : Nat → Nat}
theorem ct_rotR (hB : Base G) (ht : mK M t = kTM) (hT : TMt M ρ t n ad ps lo hi) {p r : Nat} (hp : Nd n ad ps p) (hr : mR M p 2 = some r) : KJ6_rotateRight G 1 0 0 [vr (some t), vr (some p)] M (fun v M' => v = none ∧ RR M M' t p r) := by
  have hnt : ∀ x, Nd n ad ps x → x ≠ t := fun x hx => hT.ne ht hx
  obtain ⟨hTT, hk⟩ := hT
  obtain ⟨h1, h2, h3, h4, h5, h6, h7, h8, h9, h10⟩ := hTT
  have hkp := (hk p hp).1
  obtain ⟨hrN, hrP, hrl, hrh⟩ := h4 p r hp hr
  have hkr := (hk r hrN).1
  have hpt := hnt p hp
  have hrt := hnt r hrN
  have b1 := h2 p hp
  have b2 := h2 r hrN
  have hrp : r ≠ p := by intro e; subst e; omega
  have hpr : p ≠ r := hrp.symm
  have hq : ∀ q, mR M p 4 = some q → Nd n ad ps q ∧ q ≠ t ∧ q ≠ p ∧ q ≠ r ∧ mK M q = kEN ∧ (mR M q 2 = some p ∨ mR M q 3 = some p) := by
    intro q e
    obtain ⟨c1, c2⟩ := h8 p q hp e
    have c3 := h2 q c1
    refine ⟨c1, hnt q c1, ?_, ?_, (hk q c1).1, c2⟩
    · intro z; subst z
      rcases c2.symm with c2 | c2
      · have := h6 q q hp c2; omega
      · have := h4 q q hp c2; omega
    · intro z; subst z
      rcases c2.symm with c2 | c2
      · have := h6 q p c1 c2; omega
      · have := h4 q p c1 c2; omega
  have hy : ∀ y, mR M r 3 = some y → Nd n ad ps y ∧ y ≠ t ∧ y ≠ p ∧ y ≠ r ∧ mK M y = kEN ∧ mR M y 4 = some r := by
    intro y e
    obtain ⟨c1, c2, c3, c4⟩ := h6 r y hrN e
    have c5 := h2 y c1
    refine ⟨c1, hnt y c1, ?_, ?_, (hk y c1).1, c2⟩
    · intro z; subst z; omega
    · intro z; subst z; omega
  have join : ∀ C, Ok C G cJ6_rotateRight RJ6 "rotateRight" 1 0 0 → Rt C G none 0 0 (fun v M' => v = none ∧ RR M M' t p r) → ∀ M2 : Mem, (∀ x, mR M2 x 3 = mR M x 3) → mR M2 p 2 = mR M r 3 → (∀ x, x ≠ p → mR M2 x 2 = mR M x 2) → (∀ x, mR M r 3 = some x → mR M2 x 4 = some p) → (∀ x, mR M r 3 ≠ some x → mR M2 x 4 = mR M x 4) → Sh t M M2 → Go C 32 [some (vr (some t)), some (vr (some p)), some (vr (some r))] [] M2 0 0 := by
    intro C hC hQ M2 k2 k3 k3' k4 k4' hS
    obtain ⟨s1, s2, s3⟩ := hS
    have hkt : mK M2 t = kTM := by rw [(s1 t).1]; exact ht
    have hkp : mK M2 p = kEN := by rw [(s1 p).1]; exact hkp
    have hkr : mK M2 r = kEN := by rw [(s1 r).1]; exact hkr
    have hp4 : mR M2 p 4 = mR M p 4 := k4' p (fun e => (hy p e).2.2.1 rfl)
    refine g_aload_n hC dJ6_rotateRight_32 rfl ?_
    refine g_aload_n hC dJ6_rotateRight_33 rfl ?_
    refine g_getR hC (ci := 9) (by first | exact rfl | assumption) (by first | assumption | (simp only [mK_sI, mK_sR, mK_sL, mK_sO, mK_nw, mK_sK]; first | assumption | (simp only [*]; done))) rfl 4 (by decide) q984 (Or.inl rfl) rfl dJ6_rotateRight_34 ?_
    refine g_putR hC (ci := 9) (by first | exact rfl | assumption) (by first | assumption | (simp only [mK_sI, mK_sR, mK_sL, mK_sO, mK_nw, mK_sK]; first | assumption | (simp only [*]; done))) rfl 4 (by decide) q984 (Or.inl rfl) (Or.inl rfl) rfl dJ6_rotateRight_37 ?_
    refine g_aload_n hC dJ6_rotateRight_40 rfl ?_
    refine g_getR hC (ci := 9) (by first | exact rfl | assumption) (by first | assumption | (simp only [mK_sI, mK_sR, mK_sL, mK_sO, mK_nw, mK_sK]; first | assumption | (simp only [*]; done))) rfl 4 (by decide) q984 (Or.inl rfl) rfl dJ6_rotateRight_41 ?_
    have e1 : mR (sR M2 r 4 (mR M2 p 4)) p 4 = mR M p 4 := by rw [mR_sR]; simp [hpr, hp4]
    rw [e1]
    refine g_ifnonnull hC 55 dJ6_rotateRight_44 (by decide) (fun q hc => ?_) (fun hc => ?_)
    · obtain ⟨d1, d2, d3, d4, d5, d6⟩ := hq q hc
      have hkq : mK M2 q = kEN := by rw [(s1 q).1]; exact d5
      refine g_aload_n hC dJ6_rotateRight_55 rfl ?_
      refine g_getR hC (ci := 9) (by first | exact rfl | assumption) (by first | assumption | (simp only [mK_sI, mK_sR, mK_sL, mK_sO, mK_nw, mK_sK]; first | assumption | (simp only [*]; done))) rfl 4 (by decide) q984 (Or.inl rfl) rfl dJ6_rotateRight_56 ?_
      rw [e1]
      refine g_getR hC (ci := 9) (by first | exact rfl | assumption) (by first | assumption | (simp only [mK_sI, mK_sR, mK_sL, mK_sO, mK_nw, mK_sK]; first | assumption | (simp only [*]; done))) rfl 3 (by decide) q982 (Or.inl rfl) rfl dJ6_rotateRight_59 ?_
      refine g_aload_n hC dJ6_rotateRight_62 rfl ?_
      have e2 : mR (sR M2 r 4 (mR M2 p 4)) q 3 = mR M q 3 := k2 q
      rw [e2]
      refine g_acmp_ne hC 77 dJ6_rotateRight_63 (by decide) (fun hc2 => ?_) (fun hc2 => ?_)
      · refine g_aload_n hC dJ6_rotateRight_77 rfl ?_
        refine g_getR hC (ci := 9) (by first | exact rfl | assumption) (by first | assumption | (simp only [mK_sI, mK_sR, mK_sL, mK_sO, mK_nw, mK_sK]; first | assumption | (simp only [*]; done))) rfl 4 (by decide) q984 (Or.inl rfl) rfl dJ6_rotateRight_78 ?_
        rw [e1]
        refine g_aload_n hC dJ6_rotateRight_81 rfl ?_
        refine g_putR hC (ci := 9) (by first | exact rfl | assumption) (by first | assumption | (simp only [mK_sI, mK_sR, mK_sL, mK_sO, mK_nw, mK_sK]; first | assumption | (simp only [*]; done))) rfl 2 (by decide) q980 (Or.inl rfl) (Or.inl rfl) rfl dJ6_rotateRight_82 ?_
        refine g_aload_n hC dJ6_rotateRight_85 rfl ?_
        refine g_aload_n hC dJ6_rotateRight_86 rfl ?_
        refine g_putR hC (ci := 9) (by first | exact rfl | assumption) (by first | assumption | (simp only [mK_sI, mK_sR, mK_sL, mK_sO, mK_nw, mK_sK]; first | assumption | (simp only [*]; done))) rfl 3 (by decide) q982 (Or.inl rfl) (Or.inl rfl) rfl dJ6_rotateRight_87 ?_
        refine g_aload_n hC dJ6_rotateRight_90 rfl ?_
        refine g_aload_n hC dJ6_rotateRight_91 rfl ?_
        refine g_putR hC (ci := 9) (by first | exact rfl | assumption) (by first | assumption | (simp only [mK_sI, mK_sR, mK_sL, mK_sO, mK_nw, mK_sK]; first | assumption | (simp only [*]; done))) rfl 4 (by decide) q984 (Or.inl rfl) (Or.inl rfl) rfl dJ6_rotateRight_92 ?_
        refine g_vret hC hQ (by omega) (by omega) dJ6_rotateRight_95 ?_
        refine ⟨rfl, ?_⟩
        unfold RR Sh
        simp only [mK_sR, mN_sR, mO_sR, mI_sR, mL_sR, mR_sR]
        refine ⟨?_, ?_, ?_, ?_, ?_, ?_, ?_, ?_, ?_, ?_, ?_, ?_, s1, s2, ?_⟩ <;> grind
      · refine g_aload_n hC dJ6_rotateRight_66 rfl ?_
        refine g_getR hC (ci := 9) (by first | exact rfl | assumption) (by first | assumption | (simp only [mK_sI, mK_sR, mK_sL, mK_sO, mK_nw, mK_sK]; first | assumption | (simp only [*]; done))) rfl 4 (by decide) q984 (Or.inl rfl) rfl dJ6_rotateRight_67 ?_
        rw [e1]
        refine g_aload_n hC dJ6_rotateRight_70 rfl ?_
        refine g_putR hC (ci := 9) (by first | exact rfl | assumption) (by first | assumption | (simp only [mK_sI, mK_sR, mK_sL, mK_sO, mK_nw, mK_sK]; first | assumption | (simp only [*]; done))) rfl 3 (by decide) q982 (Or.inl rfl) (Or.inl rfl) rfl dJ6_rotateRight_71 ?_
        refine g_goto hC 85 dJ6_rotateRight_74 (by decide) ?_
        refine g_aload_n hC dJ6_rotateRight_85 rfl ?_
        refine g_aload_n hC dJ6_rotateRight_86 rfl ?_
        refine g_putR hC (ci := 9) (by first | exact rfl | assumption) (by first | assumption | (simp only [mK_sI, mK_sR, mK_sL, mK_sO, mK_nw, mK_sK]; first | assumption | (simp only [*]; done))) rfl 3 (by decide) q982 (Or.inl rfl) (Or.inl rfl) rfl dJ6_rotateRight_87 ?_
        refine g_aload_n hC dJ6_rotateRight_90 rfl ?_
        refine g_aload_n hC dJ6_rotateRight_91 rfl ?_
        refine g_putR hC (ci := 9) (by first | exact rfl | assumption) (by first | assumption | (simp only [mK_sI, mK_sR, mK_sL, mK_sO, mK_nw, mK_sK]; first | assumption | (simp only [*]; done))) rfl 4 (by decide) q984 (Or.inl rfl) (Or.inl rfl) rfl dJ6_rotateRight_92 ?_
        refine g_vret hC hQ (by omega) (by omega) dJ6_rotateRight_95 ?_
        refine ⟨rfl, ?_⟩
        unfold RR Sh
        simp only [mK_sR, mN_sR, mO_sR, mI_sR, mL_sR, mR_sR]
        refine ⟨?_, ?_, ?_, ?_, ?_, ?_, ?_, ?_, ?_, ?_, ?_, ?_, s1, s2, ?_⟩ <;> grind
    · refine g_aload_n hC dJ6_rotateRight_47 rfl ?_
      refine g_aload_n hC dJ6_rotateRight_48 rfl ?_
      refine g_putR hC (ci := 8) (by first | exact rfl | assumption) (by first | assumption | (simp only [mK_sI, mK_sR, mK_sL, mK_sO, mK_nw, mK_sK]; first | assumption | (simp only [*]; done))) rfl 3 (by decide) q273 (Or.inl rfl) (Or.inl rfl) rfl dJ6_rotateRight_49 ?_
      refine g_goto hC 85 dJ6_rotateRight_52 (by decide) ?_
      refine g_aload_n hC dJ6_rotateRight_85 rfl ?_
      refine g_aload_n hC dJ6_rotateRight_86 rfl ?_
      refine g_putR hC (ci := 9) (by first | exact rfl | assumption) (by first | assumption | (simp only [mK_sI, mK_sR, mK_sL, mK_sO, mK_nw, mK_sK]; first | assumption | (simp only [*]; done))) rfl 3 (by decide) q982 (Or.inl rfl) (Or.inl rfl) rfl dJ6_rotateRight_87 ?_
      refine g_aload_n hC dJ6_rotateRight_90 rfl ?_
      refine g_aload_n hC dJ6_rotateRight_91 rfl ?_
      refine g_putR hC (ci := 9) (by first | exact rfl | assumption) (by first | assumption | (simp only [mK_sI, mK_sR, mK_sL, mK_sO, mK_nw, mK_sK]; first | assumption | (simp only [*]; done))) rfl 4 (by decide) q984 (Or.inl rfl) (Or.inl rfl) rfl dJ6_rotateRight_92 ?_
      refine g_vret hC hQ (by omega) (by omega) dJ6_rotateRight_95 ?_
      refine ⟨rfl, ?_⟩
      unfold RR Sh
      simp only [mK_sR, mN_sR, mO_sR, mI_sR, mL_sR, mR_sR]
      refine ⟨?_, ?_, ?_, ?_, ?_, ?_, ?_, ?_, ?_, ?_, ?_, ?_, s1, s2, ?_⟩ <;> grind
  refine Ct.of (own := RJ6) (nm := "rotateRight") hB (by decide) rfl rfl rfl rfl (fun C hC hQ => ?_)
  refine g_aload_n hC dJ6_rotateRight_0 rfl ?_
  refine g_ifnull hC 95 dJ6_rotateRight_1 (by decide) (fun hc => ?_) (fun y1 hc => ?_)
  · cases hc
  · refine g_aload_n hC dJ6_rotateRight_4 rfl ?_
    refine g_getR hC (ci := 9) (by first | exact rfl | assumption) (by first | assumption | (simp only [mK_sI, mK_sR, mK_sL, mK_sO, mK_nw, mK_sK]; first | assumption | (simp only [*]; done))) rfl 2 (by decide) q980 (Or.inl rfl) rfl dJ6_rotateRight_5 ?_
    rw [hr]
    refine g_astore_n hC dJ6_rotateRight_8 rfl rfl ?_
    try simp only [stL, clr]
    refine g_aload_n hC dJ6_rotateRight_9 rfl ?_
    refine g_aload_n hC dJ6_rotateRight_10 rfl ?_
    refine g_getR hC (ci := 9) (by first | exact rfl | assumption) (by first | assumption | (simp only [mK_sI, mK_sR, mK_sL, mK_sO, mK_nw, mK_sK]; first | assumption | (simp only [*]; done))) rfl 3 (by decide) q982 (Or.inl rfl) rfl dJ6_rotateRight_11 ?_
    refine g_putR hC (ci := 9) (by first | exact rfl | assumption) (by first | assumption | (simp only [mK_sI, mK_sR, mK_sL, mK_sO, mK_nw, mK_sK]; first | assumption | (simp only [*]; done))) rfl 2 (by decide) q980 (Or.inl rfl) (Or.inl rfl) rfl dJ6_rotateRight_14 ?_
    refine g_aload_n hC dJ6_rotateRight_17 rfl ?_
    refine g_getR hC (ci := 9) (by first | exact rfl | assumption) (by first | assumption | (simp only [mK_sI, mK_sR, mK_sL, mK_sO, mK_nw, mK_sK]; first | assumption | (simp only [*]; done))) rfl 3 (by decide) q982 (Or.inl rfl) rfl dJ6_rotateRight_18 ?_
    refine g_ifnull hC 32 dJ6_rotateRight_21 (by decide) (fun hl => ?_) (fun y hl => ?_)
    · have hl : mR M r 3 = none := hl
      refine join C hC hQ _ (fun x => rfl) ?_ ?_ ?_ ?_ ⟨fun x => ⟨rfl, rfl, rfl⟩, fun x k => ⟨rfl, rfl⟩, ?_⟩
      · rw [mR_sR]; simp
      · intro x hx; rw [mR_sR]; simp [hx]
      · intro x e; rw [hl] at e; cases e
      · intro x e; rw [mR_sR]; simp
      · intro x k e; rw [mR_sR]; rw [if_neg (by omega)]
    · have hl : mR M r 3 = some y := hl
      obtain ⟨d1, d2, d3, d4, d5, d6⟩ := hy y hl
      refine g_aload_n hC dJ6_rotateRight_24 rfl ?_
      refine g_getR hC (ci := 9) (by first | exact rfl | assumption) (by first | assumption | (simp only [mK_sI, mK_sR, mK_sL, mK_sO, mK_nw, mK_sK]; first | assumption | (simp only [*]; done))) rfl 3 (by decide) q982 (Or.inl rfl) rfl dJ6_rotateRight_25 ?_
      refine g_aload_n hC dJ6_rotateRight_28 rfl ?_
      refine g_putR hC (ci := 9) (by first | exact rfl | assumption) (by first | assumption | (simp only [mK_sI, mK_sR, mK_sL, mK_sO, mK_nw, mK_sK]; first | assumption | (simp only [*]; done))) rfl 4 (by decide) q984 (Or.inl rfl) (Or.inl rfl) rfl dJ6_rotateRight_29 ?_
      refine join C hC hQ _ ?_ ?_ ?_ ?_ ?_ ⟨fun x => ⟨rfl, rfl, rfl⟩, fun x k => ⟨rfl, rfl⟩, ?_⟩
      · intro x; simp [mR_sR]
      · simp [mR_sR]
      · intro x hx; simp [mR_sR, hx]
      · intro x e; rw [hl] at e; cases e; simp [mR_sR]
      · intro x e
        have : x ≠ y := by intro z; subst z; exact e hl
        simp [mR_sR, this]
      · intro x k e; rw [mR_sR, mR_sR]; rw [if_neg (by omega), if_neg (by omega)]
end RotR

