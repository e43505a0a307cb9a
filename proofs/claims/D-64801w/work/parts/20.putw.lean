set_option maxRecDepth 100000
abbrev cJ6_addEntry : ByteArray := prog_83_method_29_code
def yJ6_addEntry : MethodName := ⟨RJ6, "addEntry", "(Ljava/lang/Object;Ljava/lang/Object;Ljava/util/TreeMap$Entry;Z)V"⟩
def dkwJ6_addEntry_2 : List UInt8 := [181, 0, 7, 42, 89, 180, 0, 13, 4, 96, 181, 0, 13, 177]
abbrev dktJ6_addEntry_2 : List UInt8 := dkwJ6_addEntry_2 ++ []
def dkwJ6_addEntry_1 : List UInt8 := [167, 0, 9, 45, 25, 5, 181, 0, 114, 42, 25, 5, 182, 0, 170, 42, 89, 180, 0, 7, 4, 96]
abbrev dktJ6_addEntry_1 : List UInt8 := dkwJ6_addEntry_1 ++ dktJ6_addEntry_2
def dkwJ6_addEntry_0 : List UInt8 := [187, 0, 59, 89, 43, 44, 45, 183, 0, 167, 58, 5, 21, 4, 153, 0, 12, 45, 25, 5, 181, 0, 111]
abbrev dktJ6_addEntry_0 : List UInt8 := dkwJ6_addEntry_0 ++ dktJ6_addEntry_1
theorem dksJ6_addEntry_0 : cJ6_addEntry.data.toList.drop 0 = dktJ6_addEntry_0 := by decide +kernel
theorem dksJ6_addEntry_1 : cJ6_addEntry.data.toList.drop 23 = dktJ6_addEntry_1 := dk_seg dksJ6_addEntry_0 23 rfl rfl
theorem dksJ6_addEntry_2 : cJ6_addEntry.data.toList.drop 45 = dktJ6_addEntry_2 := dk_seg dksJ6_addEntry_1 22 rfl rfl
theorem dJ6_addEntry_0 : decode cJ6_addEntry 0 = .ok (.new 59, 3) := dk_187 0 59 (dk_at dksJ6_addEntry_0 0 rfl rfl)
theorem dJ6_addEntry_3 : decode cJ6_addEntry 3 = .ok (.dup, 1) := dk_89 (dk_at dksJ6_addEntry_0 3 rfl rfl)
theorem dJ6_addEntry_4 : decode cJ6_addEntry 4 = .ok (.aload_n 1, 1) := dk_43 (dk_at dksJ6_addEntry_0 4 rfl rfl)
theorem dJ6_addEntry_5 : decode cJ6_addEntry 5 = .ok (.aload_n 2, 1) := dk_44 (dk_at dksJ6_addEntry_0 5 rfl rfl)
theorem dJ6_addEntry_6 : decode cJ6_addEntry 6 = .ok (.aload_n 3, 1) := dk_45 (dk_at dksJ6_addEntry_0 6 rfl rfl)
theorem dJ6_addEntry_7 : decode cJ6_addEntry 7 = .ok (.invokespecial 167, 3) := dk_183 0 167 (dk_at dksJ6_addEntry_0 7 rfl rfl)
theorem dJ6_addEntry_10 : decode cJ6_addEntry 10 = .ok (.astore 5, 2) := dk_58 5 (dk_at dksJ6_addEntry_0 10 rfl rfl)
theorem dJ6_addEntry_12 : decode cJ6_addEntry 12 = .ok (.iload 4, 2) := dk_21 4 (dk_at dksJ6_addEntry_0 12 rfl rfl)
theorem dJ6_addEntry_14 : decode cJ6_addEntry 14 = .ok (.ifCond .eq 12, 3) := dk_153 0 12 (dk_at dksJ6_addEntry_0 14 rfl rfl)
theorem dJ6_addEntry_17 : decode cJ6_addEntry 17 = .ok (.aload_n 3, 1) := dk_45 (dk_at dksJ6_addEntry_0 17 rfl rfl)
theorem dJ6_addEntry_18 : decode cJ6_addEntry 18 = .ok (.aload 5, 2) := dk_25 5 (dk_at dksJ6_addEntry_0 18 rfl rfl)
theorem dJ6_addEntry_20 : decode cJ6_addEntry 20 = .ok (.putfield 111, 3) := dk_181 0 111 (dk_at dksJ6_addEntry_0 20 rfl rfl)
theorem dJ6_addEntry_23 : decode cJ6_addEntry 23 = .ok (.goto 9, 3) := dk_167 0 9 (dk_at dksJ6_addEntry_1 0 rfl rfl)
theorem dJ6_addEntry_26 : decode cJ6_addEntry 26 = .ok (.aload_n 3, 1) := dk_45 (dk_at dksJ6_addEntry_1 3 rfl rfl)
theorem dJ6_addEntry_27 : decode cJ6_addEntry 27 = .ok (.aload 5, 2) := dk_25 5 (dk_at dksJ6_addEntry_1 4 rfl rfl)
theorem dJ6_addEntry_29 : decode cJ6_addEntry 29 = .ok (.putfield 114, 3) := dk_181 0 114 (dk_at dksJ6_addEntry_1 6 rfl rfl)
theorem dJ6_addEntry_32 : decode cJ6_addEntry 32 = .ok (.aload_n 0, 1) := dk_42 (dk_at dksJ6_addEntry_1 9 rfl rfl)
theorem dJ6_addEntry_33 : decode cJ6_addEntry 33 = .ok (.aload 5, 2) := dk_25 5 (dk_at dksJ6_addEntry_1 10 rfl rfl)
theorem dJ6_addEntry_35 : decode cJ6_addEntry 35 = .ok (.invokevirtual 170, 3) := dk_182 0 170 (dk_at dksJ6_addEntry_1 12 rfl rfl)
theorem dJ6_addEntry_38 : decode cJ6_addEntry 38 = .ok (.aload_n 0, 1) := dk_42 (dk_at dksJ6_addEntry_1 15 rfl rfl)
theorem dJ6_addEntry_39 : decode cJ6_addEntry 39 = .ok (.dup, 1) := dk_89 (dk_at dksJ6_addEntry_1 16 rfl rfl)
theorem dJ6_addEntry_40 : decode cJ6_addEntry 40 = .ok (.getfield 7, 3) := dk_180 0 7 (dk_at dksJ6_addEntry_1 17 rfl rfl)
theorem dJ6_addEntry_43 : decode cJ6_addEntry 43 = .ok (.iconst 1, 1) := dk_4 (dk_at dksJ6_addEntry_1 20 rfl rfl)
theorem dJ6_addEntry_44 : decode cJ6_addEntry 44 = .ok (.iadd, 1) := dk_96 (dk_at dksJ6_addEntry_1 21 rfl rfl)
theorem dJ6_addEntry_45 : decode cJ6_addEntry 45 = .ok (.putfield 7, 3) := dk_181 0 7 (dk_at dksJ6_addEntry_2 0 rfl rfl)
theorem dJ6_addEntry_48 : decode cJ6_addEntry 48 = .ok (.aload_n 0, 1) := dk_42 (dk_at dksJ6_addEntry_2 3 rfl rfl)
theorem dJ6_addEntry_49 : decode cJ6_addEntry 49 = .ok (.dup, 1) := dk_89 (dk_at dksJ6_addEntry_2 4 rfl rfl)
theorem dJ6_addEntry_50 : decode cJ6_addEntry 50 = .ok (.getfield 13, 3) := dk_180 0 13 (dk_at dksJ6_addEntry_2 5 rfl rfl)
theorem dJ6_addEntry_53 : decode cJ6_addEntry 53 = .ok (.iconst 1, 1) := dk_4 (dk_at dksJ6_addEntry_2 8 rfl rfl)
theorem dJ6_addEntry_54 : decode cJ6_addEntry 54 = .ok (.iadd, 1) := dk_96 (dk_at dksJ6_addEntry_2 9 rfl rfl)
theorem dJ6_addEntry_55 : decode cJ6_addEntry 55 = .ok (.putfield 13, 3) := dk_181 0 13 (dk_at dksJ6_addEntry_2 10 rfl rfl)
theorem dJ6_addEntry_58 : decode cJ6_addEntry 58 = .ok (.return_, 1) := dk_177 (dk_at dksJ6_addEntry_2 13 rfl rfl)
theorem yk_J6_addEntry : yk yJ6_addEntry 4 := by unfold yk; decide +kernel
abbrev KJ6_addEntry (G : Gx) (d mc ms : Nat) (av : List Sv) (M : Mem) (post : Option Sv → Mem → Prop) : Prop := Ct G yJ6_addEntry cJ6_addEntry 6 ((Option.none : Option Jvm.ClassFile.FieldType)) d mc ms av M post
theorem q85 : (Jvm.Cond.initialized "java/util/TreeMap$Entry") ∈ lw_all := lw_g (lw_at lw_m1 37 rfl) rfl
theorem q275 : (Jvm.Cond.fieldLink "java/util/TreeMap" (13 : Nat) "java/util/TreeMap" "modCount" "I") ∈ lw_all := lw_g (lw_at lw_m1 227 rfl) rfl
theorem q967 : (Jvm.Cond.classLink "java/util/TreeMap" (59 : Nat) "java/util/TreeMap$Entry") ∈ lw_all := lw_g (lw_at lw_m4 199 rfl) rfl
theorem q968 : (Jvm.Cond.instantiable "java/util/TreeMap$Entry" (6 : Nat)) ∈ lw_all := lw_g (lw_at lw_m4 200 rfl) rfl
theorem q969 : (Jvm.Cond.methodLink "java/util/TreeMap" (167 : Nat) ({ cls := "java/util/TreeMap$Entry", name := "<init>", desc := "(Ljava/lang/Object;Ljava/lang/Object;Ljava/util/TreeMap$Entry;)V" } : Jvm.MethodName)) ∈ lw_all := lw_g (lw_at lw_m4 201 rfl) rfl
theorem q970 : (Jvm.Cond.instanceMethod ({ cls := "java/util/TreeMap$Entry", name := "<init>", desc := "(Ljava/lang/Object;Ljava/lang/Object;Ljava/util/TreeMap$Entry;)V" } : Jvm.MethodName)) ∈ lw_all := lw_g (lw_at lw_m4 202 rfl) rfl
theorem q971 : (Jvm.Cond.code ({ cls := "java/util/TreeMap$Entry", name := "<init>", desc := "(Ljava/lang/Object;Ljava/lang/Object;Ljava/util/TreeMap$Entry;)V" } : Jvm.MethodName) prog_84_method_1_code (4 : Nat) (Option.none : Option Jvm.ClassFile.FieldType)) ∈ lw_all := lw_g (lw_at lw_m4 203 rfl) rfl
theorem q1857 : (Jvm.Cond.methodLink "java/util/TreeMap" (170 : Nat) ({ cls := "java/util/TreeMap", name := "fixAfterInsertion", desc := "(Ljava/util/TreeMap$Entry;)V" } : Jvm.MethodName)) ∈ lw_all := lw_g (lw_at lw_m8 129 rfl) rfl
theorem q1859 : (Jvm.Cond.instanceMethod ({ cls := "java/util/TreeMap", name := "fixAfterInsertion", desc := "(Ljava/util/TreeMap$Entry;)V" } : Jvm.MethodName)) ∈ lw_all := lw_g (lw_at lw_m8 131 rfl) rfl
theorem q1860 : (Jvm.Cond.code ({ cls := "java/util/TreeMap", name := "fixAfterInsertion", desc := "(Ljava/util/TreeMap$Entry;)V" } : Jvm.MethodName) prog_83_method_83_code (3 : Nat) (Option.none : Option Jvm.ClassFile.FieldType)) ∈ lw_all := lw_g (lw_at lw_m8 132 rfl) rfl
/-! ===== TreeMap.put: the walk ===== -/
theorem mR_sRk {M : Mem} {a k : Nat} {v : Option Nat} (b : Nat) {j : Nat} (h : j ≠ k) : mR (sR M a k v) b j = mR M b j := by rw [mR_sR, if_neg h]
theorem mR_sRa {M : Mem} {a k : Nat} {v : Option Nat} {b : Nat} (h : b ≠ a) (j : Nat) : mR (sR M a k v) b j = mR M b j := by rw [mR_sR, if_neg h]; split <;> rfl
theorem mR_sRe {M : Mem} (a k : Nat) (v : Option Nat) : mR (sR M a k v) a k = v := by rw [mR_sR, if_pos rfl, if_pos rfl]
/-- M2 is M with the new entry e -/
def NewE (M M2 : Mem) (e ρ : Nat) (k v p : Option Nat) : Prop := (∀ x, x ≠ e → mK M2 x = mK M x ∧ mO M2 x = mO M x ∧ ∀ j, mR M2 x j = mR M x j ∧ mI M2 x j = mI M x j) ∧ mR M2 e 0 = k ∧ mR M2 e 1 = v ∧ mR M2 e 2 = none ∧ mR M2 e 3 = none ∧ mR M2 e 4 = p ∧ mI M2 e 5 = 1 ∧ mK M2 e = kEN ∧ mO M2 e = ρ
theorem mkE_new (M : Mem) (e ρ : Nat) (k v p : Option Nat) : NewE M (mkE M e ρ k v p) e ρ k v p := ⟨fun x h => ⟨mkE_K M e ρ k v p h, mkE_O M e ρ k v p h, fun j => ⟨mkE_R M e ρ k v p h j, mkE_I M e ρ k v p h j⟩⟩, mkE_e0 M e ρ k v p, mkE_e1 M e ρ k v p, mkE_e2 M e ρ k v p, mkE_e3 M e ρ k v p, mkE_e4 M e ρ k v p, mkE_e5 M e ρ k v p, mkE_eK M e ρ k v p, mkE_eO M e ρ k v p⟩
section PutW
variable {G : Gx} {M : Mem} {ρ t n : Nat} {ad ps lo hi : Nat → Nat} {ky : Nat → Int32} {vl : Nat → Nat}
/-- the map has the new pair (k, v) at its place -/
def Grown (M M' : Mem) (ρ t n : Nat) (ky : Nat → Int32) (vl : Nat → Nat) (i : Nat) (k : Int32) (v : Nat) : Prop := Fr (fun r => r = ρ) M M' ∧ ∃ ad' ps' lo' hi', TMc M' ρ t (n + 1) ad' ps' lo' hi' (insF ky i k) (insF vl i v)
theorem ct_addEntry (hB : Base G) (hT : TMc M ρ t n ad ps lo hi ky vl) (hn : n < 1000) {b v x i : Nat} {k z : Int32} (hb : Bx M b k) (hx : Nd n ad ps x) (hz : (z = 1 ∧ mR M x 2 = none ∧ i = ps x) ∨ (z = 0 ∧ mR M x 3 = none ∧ i = ps x + 1)) (hlo : ∀ j, j < i → ky j < k) (hhi : ∀ j, i ≤ j → j < n → k < ky j) :
    KJ6_addEntry G 3 1 6 [vr (some t), vr (some b), vr (some v), vr (some x), vi z] M (fun r M' => r = none ∧ Grown M M' ρ t n ky vl i k v) := by
  have hkt := hT.1.1
  have hot := hT.1.2.1
  have hcmp := hT.1.2.2.1
  have hsz := hT.1.2.2.2.1
  have hTt := hT.1.2.2.2.2.2.2.1
  have hxt := hTt.ne hkt hx
  have hkx := (hTt.2 x hx).1
  have hox := (hTt.2 x hx).2
  have hxn := hx.1
  refine Ct.of (own := RJ6) (nm := "addEntry") hB (by decide) rfl rfl rfl rfl (fun C hC hQ => ?_)
  refine g_new hC (ci := 9) (ρ) 6 rfl rfl q967 q968 q85 dJ6_addEntry_0 (by omega) (by omega) (fun e he0 => ?_)
  have hke : mK (nw M e 10 0 ρ) e = kEN := by rw [mK_nw, if_pos rfl]
  have hNe : ∀ y, Nd n ad ps y → y ≠ e := by
    intro y hy q; subst q
    have := (hTt.2 y hy).1
    rw [he0] at this; cases this
  have he : ¬ Nd n ad ps e := fun q => hNe e q rfl
  have hte : t ≠ e := by intro q; subst q; rw [hkt] at he0; cases he0
  have hxe : x ≠ e := hNe x hx
  refine g_dup hC dJ6_addEntry_3 rfl ?_
  refine g_aload_n hC dJ6_addEntry_4 rfl ?_
  refine g_aload_n hC dJ6_addEntry_5 rfl ?_
  refine g_aload_n hC dJ6_addEntry_6 rfl ?_
  refine g_callI hC (by first | with_reducible rfl | with_reducible assumption | (simp only [mR_sI, mR_sL]; with_reducible assumption) | exact rfl | assumption) (ct_Entry_init hB hke) rfl (by decide) rfl yk_J30_init rfl q969 q970 q85 q971 rfl dJ6_addEntry_7 (by omega) (by omega) (fun v M1 hp => ?_)
  obtain ⟨rfl, hM⟩ := hp
  cases hM.symm
  simp only [Option.toList_some, Option.toList_none, List.cons_append, List.nil_append, Nat.add_zero, Nat.zero_add]
  show Go C 10 _ _ (mkE M e ρ (some b) (some v) (some x)) _ _
  have hNE := mkE_new M e ρ (some b) (some v) (some x)
  have hFr0 : Fr (fun r => r = ρ) M (mkE M e ρ (some b) (some v) (some x)) := mkE_fr _ _ _ _ _ _ he0
  generalize mkE M e ρ (some b) (some v) (some x) = M2 at hNE hFr0 ⊢
  obtain ⟨n0, ne0, ne1, ne2, ne3, ne4, ne5, neK, neO⟩ := hNE
  have hkt1 : mK M2 t = kTM := by rw [(n0 t hte).1]; exact hkt
  have hkx1 : mK M2 x = kEN := by rw [(n0 x hxe).1]; exact hkx
  have hox1 : mO M2 x = ρ := by rw [(n0 x hxe).2.1]; exact hox
  have hot1 : mO M2 t = ρ := by rw [(n0 t hte).2.1]; exact hot
  have hkin : i ≤ n → ∀ y, Nd (n + 1) (inA ad i e) (inP ps i e) y → mK M2 y = kEN ∧ mO M2 y = ρ ∧ b01 (mI M2 y 5) := by
    intro hin y hy
    by_cases q : y = e
    · rw [q, neK, neO, ne5]; exact ⟨rfl, rfl, b01.o⟩
    · have := (Nd.inO hTt.1.1 hin he q).mp hy
      rw [(n0 y q).1, (n0 y q).2.1, ((n0 y q).2.2 5).2]
      exact ⟨(hTt.2 y this).1, (hTt.2 y this).2, hT.2.1 y this⟩
  have tail : i ≤ n → ∀ (M3 : Mem) (lo3 hi3 : Nat → Nat), Fx M3 M3 ρ t (n + 1) (inA ad i e) (inP ps i e) lo3 hi3 → Fr (fun r => r = ρ) M M3 → (∀ y, Nd n ad ps y → mR M3 y 0 = mR M y 0 ∧ mR M3 y 1 = mR M y 1) → mR M3 e 0 = some b → mR M3 e 1 = some v → (∀ k, k ≠ 3 → mR M3 t k = mR M t k) → mI M3 t 4 = nI n → Go C 32 [some (vr (some t)), some (vr (some b)), some (vr (some v)), some (vr (some x)), some (vi z), some (vr (some e))] [] M3 1 6 := by
    intro hin M3 lo3 hi3 hF hF0 hk0 h30 h31 h32 h34
    have hkt3 := hF.2.2.2.2.2.2.1
    refine g_aload_n hC dJ6_addEntry_32 rfl ?_
    refine g_aload hC dJ6_addEntry_33 rfl ?_
    refine g_callV hC (by first | with_reducible rfl | with_reducible assumption | (simp only [mR_sI, mR_sL]; with_reducible assumption) | exact rfl | assumption) (Rk.o (ci := 8) (by first | with_reducible assumption | (simp only [mK_sI, mK_sR, mK_sL, mK_sO]; with_reducible assumption) | assumption | (simp only [mK_sI, mK_sR, mK_sL, mK_sO, mK_nw, mK_sK]; first | assumption | (simp only [*]; done))) rfl) (ct_fixIns hB hF (Nd.inE hin)) rfl (by decide) rfl rfl yk_J6_fixAfterInsertion q1857 q1859 qs14 q59 q1860 rfl dJ6_addEntry_35 (by omega) (by omega) (fun v M1 hp => ?_)
    obtain ⟨rfl, lo4, hi4, hF4⟩ := hp
    simp only [Option.toList_some, Option.toList_none, List.cons_append, List.nil_append, Nat.add_zero, Nat.zero_add]
    have hkt4 := hF4.2.2.2.2.2.2.1
    refine g_aload_n hC dJ6_addEntry_38 rfl ?_
    refine g_dup hC dJ6_addEntry_39 rfl ?_
    refine g_getI hC (ci := 8) (by first | with_reducible rfl | with_reducible assumption | (simp only [mR_sI, mR_sL]; with_reducible assumption) | exact rfl | assumption) (by first | with_reducible assumption | (simp only [mK_sI, mK_sR, mK_sL, mK_sO]; with_reducible assumption) | assumption | (simp only [mK_sI, mK_sR, mK_sL, mK_sO, mK_nw, mK_sK]; first | assumption | (simp only [*]; done))) rfl 4 (by decide) q274 (Or.inl rfl) rfl dJ6_addEntry_40 ?_
    refine g_iconst (v := 1) hC dJ6_addEntry_43 (by decide) ?_
    refine g_iadd hC dJ6_addEntry_44 ?_
    have e4 : mI M1 t 4 + 1 = nI (n + 1) := by rw [hF4.2.2.2.2.2.1 4, h34]; exact nI_1 n
    rw [e4]
    refine g_putI hC (ci := 8) (by first | with_reducible rfl | with_reducible assumption | (simp only [mR_sI, mR_sL]; with_reducible assumption) | exact rfl | assumption) (by first | with_reducible assumption | (simp only [mK_sI, mK_sR, mK_sL, mK_sO]; with_reducible assumption) | assumption | (simp only [mK_sI, mK_sR, mK_sL, mK_sO, mK_nw, mK_sK]; first | assumption | (simp only [*]; done))) rfl 4 (by decide) q274 (Or.inl rfl) (Or.inl rfl) rfl rfl rfl dJ6_addEntry_45 ?_
    refine g_aload_n hC dJ6_addEntry_48 rfl ?_
    refine g_dup hC dJ6_addEntry_49 rfl ?_
    refine g_getI hC (ci := 8) (by first | with_reducible rfl | with_reducible assumption | (simp only [mR_sI, mR_sL]; with_reducible assumption) | exact rfl | assumption) (by first | with_reducible assumption | (simp only [mK_sI, mK_sR, mK_sL, mK_sO]; with_reducible assumption) | assumption | (simp only [mK_sI, mK_sR, mK_sL, mK_sO, mK_nw, mK_sK]; first | assumption | (simp only [*]; done))) rfl 5 (by decide) q275 (Or.inl rfl) rfl dJ6_addEntry_50 ?_
    refine g_iconst (v := 1) hC dJ6_addEntry_53 (by decide) ?_
    refine g_iadd hC dJ6_addEntry_54 ?_
    refine g_putI hC (ci := 8) (by first | with_reducible rfl | with_reducible assumption | (simp only [mR_sI, mR_sL]; with_reducible assumption) | exact rfl | assumption) (by first | with_reducible assumption | (simp only [mK_sI, mK_sR, mK_sL, mK_sO]; with_reducible assumption) | assumption | (simp only [mK_sI, mK_sR, mK_sL, mK_sO, mK_nw, mK_sK]; first | assumption | (simp only [*]; done))) rfl 5 (by decide) q275 (Or.inl rfl) (Or.inl rfl) rfl rfl rfl dJ6_addEntry_55 ?_
    refine g_vret hC hQ (by omega) (by omega) dJ6_addEntry_58 ?_
    obtain ⟨g1, g2⟩ := TMc.grown (c := mI (sI M1 t 4 (nI (n + 1))) t 5 + 1) hT hn hin hlo hhi he hb hF0 hk0 h30 h31 h32 hF4
    exact ⟨rfl, g2, _, _, _, _, g1⟩
  refine g_astore hC dJ6_addEntry_10 rfl rfl ?_
  try simp only [stL, clr]
  refine g_iload hC dJ6_addEntry_12 rfl ?_
  refine g_if_eq hC 26 dJ6_addEntry_14 (by decide) (fun hc => ?_) (fun hc => ?_)
  · rcases hz with ⟨rfl, -, -⟩ | ⟨rfl, hl, rfl⟩
    · exact absurd hc (by decide)
    · refine g_aload_n hC dJ6_addEntry_26 rfl ?_
      refine g_aload hC dJ6_addEntry_27 rfl ?_
      refine g_putR hC (ci := 9) (by first | with_reducible rfl | with_reducible assumption | (simp only [mR_sI, mR_sL]; with_reducible assumption) | exact rfl | assumption) (by first | with_reducible assumption | (simp only [mK_sI, mK_sR, mK_sL, mK_sO]; with_reducible assumption) | assumption | (simp only [mK_sI, mK_sR, mK_sL, mK_sO, mK_nw, mK_sK]; first | assumption | (simp only [*]; done))) rfl 3 (by decide) q982 (Or.inl rfl) (Or.inl rfl) rfl dJ6_addEntry_29 ?_
      have hTT3 := TT.insR (L' := fun y => mR (sR M2 x 3 (some e)) y 2) (R' := fun y => mR (sR M2 x 3 (some e)) y 3) (P' := fun y => mR (sR M2 x 3 (some e)) y 4) (e := e) hTt.1 hx he hl
        (mR_sRe x 3 (some e)) ((mR_sRa hxe.symm 3).trans ne3) (fun y h1 h2 => (mR_sRa h1 3).trans ((n0 y h2).2.2 3).1)
        ((mR_sRk e (by decide)).trans ne2) (fun y h => (mR_sRk y (by decide)).trans ((n0 y h).2.2 2).1)
        ((mR_sRk e (by decide)).trans ne4) (fun y h => (mR_sRk y (by decide)).trans ((n0 y h).2.2 4).1)
      have hr3 : mR (sR M2 x 3 (some e)) t 3 = mR M t 3 := (mR_sRa hxt.symm 3).trans ((n0 t hte).2.2 3).1
      refine tail (by omega) _ _ _ ⟨⟨by rw [hr3]; exact hTT3, fun y hy => ⟨(hkin (by omega) y hy).1, (hkin (by omega) y hy).2.1⟩⟩, fun y hy => (hkin (by omega) y hy).2.2, Fr.rf _ _, fun _ _ => ⟨rfl, rfl⟩, fun _ _ => rfl, fun _ => rfl, hkt1, hot1⟩ (hFr0.tr (Fr.sR hox1)) (fun y hy => ⟨?_, ?_⟩) ?_ ?_ ?_ ?_
      · exact (mR_sRk y (by decide)).trans ((n0 y (hNe y hy)).2.2 0).1
      · exact (mR_sRk y (by decide)).trans ((n0 y (hNe y hy)).2.2 1).1
      · exact (mR_sRk e (by decide)).trans ne0
      · exact (mR_sRk e (by decide)).trans ne1
      · exact fun k _ => (mR_sRa hxt.symm k).trans ((n0 t hte).2.2 k).1
      · rw [mI_sR]; exact ((n0 t hte).2.2 4).2.trans hsz
  · rcases hz with ⟨rfl, hl, rfl⟩ | ⟨rfl, -, -⟩
    · refine g_aload_n hC dJ6_addEntry_17 rfl ?_
      refine g_aload hC dJ6_addEntry_18 rfl ?_
      refine g_putR hC (ci := 9) (by first | with_reducible rfl | with_reducible assumption | (simp only [mR_sI, mR_sL]; with_reducible assumption) | exact rfl | assumption) (by first | with_reducible assumption | (simp only [mK_sI, mK_sR, mK_sL, mK_sO]; with_reducible assumption) | assumption | (simp only [mK_sI, mK_sR, mK_sL, mK_sO, mK_nw, mK_sK]; first | assumption | (simp only [*]; done))) rfl 2 (by decide) q980 (Or.inl rfl) (Or.inl rfl) rfl dJ6_addEntry_20 ?_
      refine g_goto hC 32 dJ6_addEntry_23 (by decide) ?_
      have hTT3 := TT.insL (L' := fun y => mR (sR M2 x 2 (some e)) y 2) (R' := fun y => mR (sR M2 x 2 (some e)) y 3) (P' := fun y => mR (sR M2 x 2 (some e)) y 4) (e := e) hTt.1 hx he hl
        (mR_sRe x 2 (some e)) ((mR_sRa hxe.symm 2).trans ne2) (fun y h1 h2 => (mR_sRa h1 2).trans ((n0 y h2).2.2 2).1)
        ((mR_sRk e (by decide)).trans ne3) (fun y h => (mR_sRk y (by decide)).trans ((n0 y h).2.2 3).1)
        ((mR_sRk e (by decide)).trans ne4) (fun y h => (mR_sRk y (by decide)).trans ((n0 y h).2.2 4).1)
      have hr3 : mR (sR M2 x 2 (some e)) t 3 = mR M t 3 := (mR_sRa hxt.symm 3).trans ((n0 t hte).2.2 3).1
      refine tail (by omega) _ _ _ ⟨⟨by rw [hr3]; exact hTT3, fun y hy => ⟨(hkin (by omega) y hy).1, (hkin (by omega) y hy).2.1⟩⟩, fun y hy => (hkin (by omega) y hy).2.2, Fr.rf _ _, fun _ _ => ⟨rfl, rfl⟩, fun _ _ => rfl, fun _ => rfl, hkt1, hot1⟩ (hFr0.tr (Fr.sR hox1)) (fun y hy => ⟨?_, ?_⟩) ?_ ?_ ?_ ?_
      · exact (mR_sRk y (by decide)).trans ((n0 y (hNe y hy)).2.2 0).1
      · exact (mR_sRk y (by decide)).trans ((n0 y (hNe y hy)).2.2 1).1
      · exact (mR_sRk e (by decide)).trans ne0
      · exact (mR_sRk e (by decide)).trans ne1
      · exact fun k _ => (mR_sRa hxt.symm k).trans ((n0 t hte).2.2 k).1
      · rw [mI_sR]; exact ((n0 t hte).2.2 4).2.trans hsz
    · exact absurd rfl hc
end PutW

