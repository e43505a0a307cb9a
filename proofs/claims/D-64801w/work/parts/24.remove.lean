set_option maxRecDepth 100000
abbrev cJ6_clear : ByteArray := prog_83_method_35_code
def yJ6_clear : MethodName := ⟨RJ6, "clear", "()V"⟩
def dkwJ6_clear_0 : List UInt8 := [42, 89, 180, 0, 13, 4, 96, 181, 0, 13, 42, 3, 181, 0, 7, 42, 1, 181, 0, 101, 177]
abbrev dktJ6_clear_0 : List UInt8 := dkwJ6_clear_0 ++ []
theorem dksJ6_clear_0 : cJ6_clear.data.toList.drop 0 = dktJ6_clear_0 := by decide +kernel
theorem dJ6_clear_0 : decode cJ6_clear 0 = .ok (.aload_n 0, 1) := dk_42 (dk_at dksJ6_clear_0 0 rfl rfl)
theorem dJ6_clear_1 : decode cJ6_clear 1 = .ok (.dup, 1) := dk_89 (dk_at dksJ6_clear_0 1 rfl rfl)
theorem dJ6_clear_2 : decode cJ6_clear 2 = .ok (.getfield 13, 3) := dk_180 0 13 (dk_at dksJ6_clear_0 2 rfl rfl)
theorem dJ6_clear_5 : decode cJ6_clear 5 = .ok (.iconst 1, 1) := dk_4 (dk_at dksJ6_clear_0 5 rfl rfl)
theorem dJ6_clear_6 : decode cJ6_clear 6 = .ok (.iadd, 1) := dk_96 (dk_at dksJ6_clear_0 6 rfl rfl)
theorem dJ6_clear_7 : decode cJ6_clear 7 = .ok (.putfield 13, 3) := dk_181 0 13 (dk_at dksJ6_clear_0 7 rfl rfl)
theorem dJ6_clear_10 : decode cJ6_clear 10 = .ok (.aload_n 0, 1) := dk_42 (dk_at dksJ6_clear_0 10 rfl rfl)
theorem dJ6_clear_11 : decode cJ6_clear 11 = .ok (.iconst 0, 1) := dk_3 (dk_at dksJ6_clear_0 11 rfl rfl)
theorem dJ6_clear_12 : decode cJ6_clear 12 = .ok (.putfield 7, 3) := dk_181 0 7 (dk_at dksJ6_clear_0 12 rfl rfl)
theorem dJ6_clear_15 : decode cJ6_clear 15 = .ok (.aload_n 0, 1) := dk_42 (dk_at dksJ6_clear_0 15 rfl rfl)
theorem dJ6_clear_16 : decode cJ6_clear 16 = .ok (.aconst_null, 1) := dk_1 (dk_at dksJ6_clear_0 16 rfl rfl)
theorem dJ6_clear_17 : decode cJ6_clear 17 = .ok (.putfield 101, 3) := dk_181 0 101 (dk_at dksJ6_clear_0 17 rfl rfl)
theorem dJ6_clear_20 : decode cJ6_clear 20 = .ok (.return_, 1) := dk_177 (dk_at dksJ6_clear_0 20 rfl rfl)
theorem yk_J6_clear : yk yJ6_clear 0 := by unfold yk; decide +kernel
abbrev KJ6_clear (G : Gx) (d mc ms : Nat) (av : List Sv) (M : Mem) (post : Option Sv → Mem → Prop) : Prop := Ct G yJ6_clear cJ6_clear 1 ((Option.none : Option Jvm.ClassFile.FieldType)) d mc ms av M post
abbrev cJ6_remove : ByteArray := prog_83_method_34_code
def yJ6_remove : MethodName := ⟨RJ6, "remove", "(Ljava/lang/Object;)Ljava/lang/Object;"⟩
def dkwJ6_remove_0 : List UInt8 := [42, 43, 182, 0, 50, 77, 44, 199, 0, 5, 1, 176, 44, 180, 0, 58, 78, 42, 44, 182, 0, 174, 45, 176]
abbrev dktJ6_remove_0 : List UInt8 := dkwJ6_remove_0 ++ []
theorem dksJ6_remove_0 : cJ6_remove.data.toList.drop 0 = dktJ6_remove_0 := by decide +kernel
theorem dJ6_remove_0 : decode cJ6_remove 0 = .ok (.aload_n 0, 1) := dk_42 (dk_at dksJ6_remove_0 0 rfl rfl)
theorem dJ6_remove_1 : decode cJ6_remove 1 = .ok (.aload_n 1, 1) := dk_43 (dk_at dksJ6_remove_0 1 rfl rfl)
theorem dJ6_remove_2 : decode cJ6_remove 2 = .ok (.invokevirtual 50, 3) := dk_182 0 50 (dk_at dksJ6_remove_0 2 rfl rfl)
theorem dJ6_remove_5 : decode cJ6_remove 5 = .ok (.astore_n 2, 1) := dk_77 (dk_at dksJ6_remove_0 5 rfl rfl)
theorem dJ6_remove_6 : decode cJ6_remove 6 = .ok (.aload_n 2, 1) := dk_44 (dk_at dksJ6_remove_0 6 rfl rfl)
theorem dJ6_remove_7 : decode cJ6_remove 7 = .ok (.ifnonnull 5, 3) := dk_199 0 5 (dk_at dksJ6_remove_0 7 rfl rfl)
theorem dJ6_remove_10 : decode cJ6_remove 10 = .ok (.aconst_null, 1) := dk_1 (dk_at dksJ6_remove_0 10 rfl rfl)
theorem dJ6_remove_11 : decode cJ6_remove 11 = .ok (.areturn, 1) := dk_176 (dk_at dksJ6_remove_0 11 rfl rfl)
theorem dJ6_remove_12 : decode cJ6_remove 12 = .ok (.aload_n 2, 1) := dk_44 (dk_at dksJ6_remove_0 12 rfl rfl)
theorem dJ6_remove_13 : decode cJ6_remove 13 = .ok (.getfield 58, 3) := dk_180 0 58 (dk_at dksJ6_remove_0 13 rfl rfl)
theorem dJ6_remove_16 : decode cJ6_remove 16 = .ok (.astore_n 3, 1) := dk_78 (dk_at dksJ6_remove_0 16 rfl rfl)
theorem dJ6_remove_17 : decode cJ6_remove 17 = .ok (.aload_n 0, 1) := dk_42 (dk_at dksJ6_remove_0 17 rfl rfl)
theorem dJ6_remove_18 : decode cJ6_remove 18 = .ok (.aload_n 2, 1) := dk_44 (dk_at dksJ6_remove_0 18 rfl rfl)
theorem dJ6_remove_19 : decode cJ6_remove 19 = .ok (.invokevirtual 174, 3) := dk_182 0 174 (dk_at dksJ6_remove_0 19 rfl rfl)
theorem dJ6_remove_22 : decode cJ6_remove 22 = .ok (.aload_n 3, 1) := dk_45 (dk_at dksJ6_remove_0 22 rfl rfl)
theorem dJ6_remove_23 : decode cJ6_remove 23 = .ok (.areturn, 1) := dk_176 (dk_at dksJ6_remove_0 23 rfl rfl)
theorem yk_J6_remove : yk yJ6_remove 1 := by unfold yk; decide +kernel
abbrev KJ6_remove (G : Gx) (d mc ms : Nat) (av : List Sv) (M : Mem) (post : Option Sv → Mem → Prop) : Prop := Ct G yJ6_remove cJ6_remove 4 ((Option.some (Jvm.ClassFile.FieldType.object "java/lang/Object"))) d mc ms av M post
theorem q908 : (Jvm.Cond.static ({ cls := "java/util/TreeMap", name := "successor", desc := "(Ljava/util/TreeMap$Entry;)Ljava/util/TreeMap$Entry;" } : Jvm.MethodName)) ∈ lw_all := lw_g (lw_at lw_m4 140 rfl) rfl
theorem q909 : (Jvm.Cond.code ({ cls := "java/util/TreeMap", name := "successor", desc := "(Ljava/util/TreeMap$Entry;)Ljava/util/TreeMap$Entry;" } : Jvm.MethodName) prog_83_method_74_code (3 : Nat) (Option.some (Jvm.ClassFile.FieldType.object "java/util/TreeMap$Entry"))) ∈ lw_all := lw_g (lw_at lw_m4 141 rfl) rfl
theorem q2260 : (Jvm.Cond.instanceMethod ({ cls := "java/util/TreeMap", name := "deleteEntry", desc := "(Ljava/util/TreeMap$Entry;)V" } : Jvm.MethodName)) ∈ lw_all := lw_g (lw_at lw_m10 52 rfl) rfl
theorem q2261 : (Jvm.Cond.code ({ cls := "java/util/TreeMap", name := "deleteEntry", desc := "(Ljava/util/TreeMap$Entry;)V" } : Jvm.MethodName) prog_83_method_84_code (3 : Nat) (Option.none : Option Jvm.ClassFile.FieldType)) ∈ lw_all := lw_g (lw_at lw_m10 53 rfl) rfl
theorem q2262 : (Jvm.Cond.methodLink "java/util/TreeMap" (68 : Nat) ({ cls := "java/util/TreeMap", name := "successor", desc := "(Ljava/util/TreeMap$Entry;)Ljava/util/TreeMap$Entry;" } : Jvm.MethodName)) ∈ lw_all := lw_g (lw_at lw_m10 54 rfl) rfl
theorem q2455 : (Jvm.Cond.methodLink "java/util/TreeMap" (174 : Nat) ({ cls := "java/util/TreeMap", name := "deleteEntry", desc := "(Ljava/util/TreeMap$Entry;)V" } : Jvm.MethodName)) ∈ lw_all := lw_g (lw_at lw_m11 7 rfl) rfl
/-! ===== TreeMap.deleteEntry, remove, clear, <init> ===== -/
section Rem
variable {G : Gx} {M M' : Mem} {ρ t n : Nat} {ad ps lo hi : Nat → Nat} {ky : Nat → Int32} {vl : Nat → Nat}
def Shr (M M' : Mem) (ρ t n : Nat) (ky : Nat → Int32) (vl : Nat → Nat) (i : Nat) : Prop := Fr (fun r => r = ρ) M M' ∧ ∃ ad' ps' lo' hi', TMc M' ρ t n ad' ps' lo' hi' (delF ky i) (delF vl i)
theorem Gone.tm {Mq : Mem} {d : Nat} {ky2 : Nat → Int32} {vl2 : Nat → Nat} (hG : Gone Mq M' ρ t n ad ps d) (hd : d < n + 1) (hFr : Fr (fun r => r = ρ) M Mq) (hρ : ρ ≠ 0) (hn : n ≤ 1000) (hc : mR M t 2 = none) (hvw : Vw M t) (hk : ∀ k, k ≠ 3 → mR Mq t k = mR M t k) (hs : mI Mq t 4 = nI n) (hky : ∀ j, j < n + 1 → ∃ b, mR Mq (ad j) 0 = some b ∧ Bx Mq b (ky2 j)) (hvl : ∀ j, j < n + 1 → mR Mq (ad j) 1 = some (vl2 j)) (hps : ∀ i, i < n + 1 → ps (ad i) = i) (hord : ∀ a b, a < b → b < n → delF ky2 d a < delF ky2 d b) :
    Fr (fun r => r = ρ) M M' ∧ ∃ ad' ps' lo' hi', TMc M' ρ t n ad' ps' lo' hi' (delF ky2 d) (delF vl2 d) := by
  obtain ⟨lo', hi', f1, f2, f3, f4, f5, f6, f7, f8⟩ := hG
  have hN : ∀ j, j < n → Nd n (deA ad d) (deP ps d) (deA ad d j) := fun j hj => ⟨by rw [deA_ps hps hd j hj]; exact hj, by rw [deA_ps hps hd j hj]⟩
  refine ⟨hFr.tr f3, _, _, _, _, ⟨f7, f8, by rw [f5 2 (by decide), hk 2 (by decide)]; exact hc, by rw [f6 4]; exact hs, hn, hρ, f1, ?_, ?_, hord⟩, f2, hvw.fr (hFr.tr f3) (fun q => hρ q.symm) (fun k h => (f5 k h).trans (hk k h))⟩
  · intro j hj
    rw [(f4 _ (hN j hj)).1]
    unfold deA delF
    by_cases a : j < d
    · rw [if_pos a, if_pos a]
      obtain ⟨b, c1, c2⟩ := hky j (by omega)
      exact ⟨b, c1, c2.fr f3 (fun q => hρ q.symm)⟩
    · rw [if_neg a, if_neg a]
      obtain ⟨b, c1, c2⟩ := hky (j + 1) (by omega)
      exact ⟨b, c1, c2.fr f3 (fun q => hρ q.symm)⟩
  · intro j hj
    rw [(f4 _ (hN j hj)).2]
    unfold deA delF
    by_cases a : j < d
    · rw [if_pos a, if_pos a]; exact hvl j (by omega)
    · rw [if_neg a, if_neg a]; exact hvl (j + 1) (by omega)
theorem ct_deleteEntry (hB : Base G) (hT : TMc M ρ t (n + 1) ad ps lo hi ky vl) {i : Nat} (hin : i < n + 1) : KJ6_deleteEntry G 3 0 0 [vr (some t), vr (some (ad i))] M (fun r M' => r = none ∧ Shr M M' ρ t n ky vl i) := by
  obtain ⟨⟨hkt, hot, hcmp, hsz, hn, hρ, hTt, hky, hvl, hord⟩, hcol, hvw⟩ := hT
  have h1 := hTt.1.1
  have hx : Nd (n + 1) ad ps (ad i) := ⟨by rw [h1 i hin]; exact hin, by rw [h1 i hin]⟩
  have hpx : ps (ad i) = i := h1 i hin
  have hxt := hTt.ne hkt hx
  have hkx := (hTt.2 _ hx).1
  have hox := (hTt.2 _ hx).2
  have hord1 : ∀ a b, a < b → b < n → delF ky i a < delF ky i b := by
    intro a b hab hb
    unfold delF
    split <;> split
    · exact hord a b hab (by omega)
    · exact hord a (b + 1) (by omega) (by omega)
    · omega
    · exact hord (a + 1) (b + 1) (by omega) (by omega)
  refine Ct.of (own := RJ6) (nm := "deleteEntry") hB (by decide) rfl rfl rfl rfl (fun C hC hQ => ?_)
  refine g_aload_n hC dJ6_deleteEntry_0 rfl ?_
  refine g_dup hC dJ6_deleteEntry_1 rfl ?_
  refine g_getI hC (ci := 8) (by first | with_reducible rfl | with_reducible assumption | (simp only [mR_sI, mR_sL]; with_reducible assumption) | exact rfl | assumption) (by first | with_reducible assumption | (simp only [mK_sI, mK_sR, mK_sL, mK_sO]; with_reducible assumption) | assumption | (simp only [mK_sI, mK_sR, mK_sL, mK_sO, mK_nw, mK_sK]; first | assumption | (simp only [*]; done))) rfl 5 (by decide) q275 (Or.inl rfl) rfl dJ6_deleteEntry_2 ?_
  refine g_iconst (v := 1) hC dJ6_deleteEntry_5 (by decide) ?_
  refine g_iadd hC dJ6_deleteEntry_6 ?_
  refine g_putI hC (ci := 8) (by first | with_reducible rfl | with_reducible assumption | (simp only [mR_sI, mR_sL]; with_reducible assumption) | exact rfl | assumption) (by first | with_reducible assumption | (simp only [mK_sI, mK_sR, mK_sL, mK_sO]; with_reducible assumption) | assumption | (simp only [mK_sI, mK_sR, mK_sL, mK_sO, mK_nw, mK_sK]; first | assumption | (simp only [*]; done))) rfl 5 (by decide) q275 (Or.inl rfl) (Or.inl rfl) rfl rfl rfl dJ6_deleteEntry_7 ?_
  refine g_aload_n hC dJ6_deleteEntry_10 rfl ?_
  refine g_dup hC dJ6_deleteEntry_11 rfl ?_
  refine g_getI hC (ci := 8) (by first | with_reducible rfl | with_reducible assumption | (simp only [mR_sI, mR_sL]; with_reducible assumption) | exact rfl | assumption) (by first | with_reducible assumption | (simp only [mK_sI, mK_sR, mK_sL, mK_sO]; with_reducible assumption) | assumption | (simp only [mK_sI, mK_sR, mK_sL, mK_sO, mK_nw, mK_sK]; first | assumption | (simp only [*]; done))) rfl 4 (by decide) q274 (Or.inl rfl) rfl dJ6_deleteEntry_12 ?_
  refine g_iconst (v := 1) hC dJ6_deleteEntry_15 (by decide) ?_
  refine g_isub hC dJ6_deleteEntry_16 ?_
  have e4 : mI (sI M t 5 (mI M t 5 + 1)) t 4 - 1 = nI n := by
    rw [mI_sI]; simp only [Nat.reduceEqDiff, if_false]
    rw [hsz]; exact nI_pred n
  rw [e4]
  refine g_putI hC (ci := 8) (by first | with_reducible rfl | with_reducible assumption | (simp only [mR_sI, mR_sL]; with_reducible assumption) | exact rfl | assumption) (by first | with_reducible assumption | (simp only [mK_sI, mK_sR, mK_sL, mK_sO]; with_reducible assumption) | assumption | (simp only [mK_sI, mK_sR, mK_sL, mK_sO, mK_nw, mK_sK]; first | assumption | (simp only [*]; done))) rfl 4 (by decide) q274 (Or.inl rfl) (Or.inl rfl) rfl rfl rfl dJ6_deleteEntry_17 ?_
  have hRR : ∀ x k, mR (sI (sI M t 5 (mI M t 5 + 1)) t 4 (nI n)) x k = mR M x k := fun x k => by rw [mR_sI, mR_sI]
  have hII : ∀ x, x ≠ t → ∀ k, mI (sI (sI M t 5 (mI M t 5 + 1)) t 4 (nI n)) x k = mI M x k := fun x hx k => by
    rw [mI_sI, mI_sI]; simp [hx]
  have hI4 : mI (sI (sI M t 5 (mI M t 5 + 1)) t 4 (nI n)) t 4 = nI n := by rw [mI_sI]; simp
  have hKK : ∀ x, mK (sI (sI M t 5 (mI M t 5 + 1)) t 4 (nI n)) x = mK M x := fun x => by rw [mK_sI, mK_sI]
  have hOO : ∀ x, mO (sI (sI M t 5 (mI M t 5 + 1)) t 4 (nI n)) x = mO M x := fun x => by rw [mO_sI, mO_sI]
  have hFr : Fr (fun r => r = ρ) M (sI (sI M t 5 (mI M t 5 + 1)) t 4 (nI n)) := (Fr.sI hot).tr (Fr.sI hot)
  generalize sI (sI M t 5 (mI M t 5 + 1)) t 4 (nI n) = M2 at hRR hII hI4 hKK hOO hFr ⊢
  have hkt2 : mK M2 t = kTM := (hKK t).trans hkt
  have hkx2 : mK M2 (ad i) = kEN := (hKK _).trans hkx
  have hTt2 : TMt M2 ρ t (n + 1) ad ps lo hi := by
    refine ⟨?_, fun y hy => ⟨(hKK y).trans (hTt.2 y hy).1, (hOO y).trans (hTt.2 y hy).2⟩⟩
    have e2 : (fun y => mR M2 y 2) = fun y => mR M y 2 := funext fun y => hRR y 2
    have e3 : (fun y => mR M2 y 3) = fun y => mR M y 3 := funext fun y => hRR y 3
    have e4 : (fun y => mR M2 y 4) = fun y => mR M y 4 := funext fun y => hRR y 4
    rw [e2, e3, e4, hRR t 3]
    exact hTt.1
  have hF2 : Fx M2 M2 ρ t (n + 1) ad ps lo hi := ⟨hTt2, fun y hy => by rw [hII y (hTt.ne hkt hy)]; exact hcol y hy, Fr.rf _ _, fun _ _ => ⟨rfl, rfl⟩, fun _ _ => rfl, fun _ => rfl, hkt2, (hOO t).trans hot⟩
  have hky2 : ∀ j, j < n + 1 → ∃ b, mR M2 (ad j) 0 = some b ∧ Bx M2 b (ky j) := fun j hj => by
    obtain ⟨b, c1, c2⟩ := hky j hj
    exact ⟨b, (hRR _ 0).trans c1, c2.fr hFr (fun q => hρ q.symm)⟩
  have hvl2 : ∀ j, j < n + 1 → mR M2 (ad j) 1 = some (vl j) := fun j hj => (hRR _ 1).trans (hvl j hj)
  have hend : ∀ M', Gone M2 M' ρ t n ad ps (ps (ad i)) → (fun (r : Option Sv) M' => r = none ∧ Shr M M' ρ t n ky vl i) none M' := by
    intro M' hG
    rw [hpx] at hG
    exact ⟨rfl, hG.tm hin hFr hρ (by omega) hcmp hvw (fun k _ => hRR t k) hI4 hky2 hvl2 h1 hord1⟩
  refine g_aload_n hC dJ6_deleteEntry_20 rfl ?_
  refine g_getR hC (ci := 9) (by first | with_reducible rfl | with_reducible assumption | (simp only [mR_sI, mR_sL]; with_reducible assumption) | exact rfl | assumption) (by first | with_reducible assumption | (simp only [mK_sI, mK_sR, mK_sL, mK_sO]; with_reducible assumption) | assumption | (simp only [mK_sI, mK_sR, mK_sL, mK_sO, mK_nw, mK_sK]; first | assumption | (simp only [*]; done))) rfl 2 (by decide) q980 (Or.inl rfl) rfl dJ6_deleteEntry_21 ?_
  refine g_ifnull hC 57 dJ6_deleteEntry_24 (by decide) (fun hc => ?_) (fun l hc => ?_)
  · exact de_out hB C hC _ hQ M2 lo hi (ad i) _ hF2 hx (Or.inl hc) hend
  · refine g_aload_n hC dJ6_deleteEntry_27 rfl ?_
    refine g_getR hC (ci := 9) (by first | with_reducible rfl | with_reducible assumption | (simp only [mR_sI, mR_sL]; with_reducible assumption) | exact rfl | assumption) (by first | with_reducible assumption | (simp only [mK_sI, mK_sR, mK_sL, mK_sO]; with_reducible assumption) | assumption | (simp only [mK_sI, mK_sR, mK_sL, mK_sO, mK_nw, mK_sK]; first | assumption | (simp only [*]; done))) rfl 3 (by decide) q982 (Or.inl rfl) rfl dJ6_deleteEntry_28 ?_
    refine g_ifnull hC 57 dJ6_deleteEntry_31 (by decide) (fun hc2 => ?_) (fun r hc2 => ?_)
    · exact de_out hB C hC _ hQ M2 lo hi (ad i) _ hF2 hx (Or.inr hc2) hend
    · refine g_aload_n hC dJ6_deleteEntry_34 rfl ?_
      refine g_callS hC (ct_successorT hB hTt2 hin) rfl (by decide) rfl yk_J6_successor q2262 q908 q59 q909 rfl dJ6_deleteEntry_35 (by omega) (by omega) (fun v M1 hp => ?_)
      obtain ⟨⟨rfl, hM⟩, hs⟩ := hp
      cases hM.symm
      obtain ⟨hi1, hsl⟩ := hs (by rw [hc2]; simp)
      rw [if_pos hi1]
      simp only [Option.toList_some, Option.toList_none, List.cons_append, List.nil_append, Nat.add_zero, Nat.zero_add]
      have hsN : Nd (n + 1) ad ps (ad (i + 1)) := ⟨by rw [h1 (i + 1) hi1]; exact hi1, by rw [h1 (i + 1) hi1]⟩
      have hps1 : ps (ad (i + 1)) = i + 1 := h1 (i + 1) hi1
      have hks2 : mK M2 (ad (i + 1)) = kEN := (hTt2.2 _ hsN).1
      have hsx : ad (i + 1) ≠ ad i := by intro q; rw [q, hpx] at hps1; omega
      obtain ⟨b1, hb1, hb2⟩ := hky2 (i + 1) hi1
      refine g_astore_n hC dJ6_deleteEntry_38 rfl rfl ?_
      try simp only [stL, clr]
      refine g_aload_n hC dJ6_deleteEntry_39 rfl ?_
      refine g_aload_n hC dJ6_deleteEntry_40 rfl ?_
      refine g_getR hC (ci := 9) (by first | with_reducible rfl | with_reducible assumption | (simp only [mR_sI, mR_sL]; with_reducible assumption) | exact rfl | assumption) (by first | with_reducible assumption | (simp only [mK_sI, mK_sR, mK_sL, mK_sO]; with_reducible assumption) | assumption | (simp only [mK_sI, mK_sR, mK_sL, mK_sO, mK_nw, mK_sK]; first | assumption | (simp only [*]; done))) rfl 0 (by decide) q975 (Or.inl rfl) rfl dJ6_deleteEntry_41 ?_
      rw [hb1]
      refine g_putR hC (ci := 9) (by first | with_reducible rfl | with_reducible assumption | (simp only [mR_sI, mR_sL]; with_reducible assumption) | exact rfl | assumption) (by first | with_reducible assumption | (simp only [mK_sI, mK_sR, mK_sL, mK_sO]; with_reducible assumption) | assumption | (simp only [mK_sI, mK_sR, mK_sL, mK_sO, mK_nw, mK_sK]; first | assumption | (simp only [*]; done))) rfl 0 (by decide) q975 (Or.inl rfl) (Or.inl rfl) rfl dJ6_deleteEntry_44 ?_
      refine g_aload_n hC dJ6_deleteEntry_47 rfl ?_
      refine g_aload_n hC dJ6_deleteEntry_48 rfl ?_
      refine g_getR hC (ci := 9) (by first | with_reducible rfl | with_reducible assumption | (simp only [mR_sI, mR_sL]; with_reducible assumption) | exact rfl | assumption) (by first | with_reducible assumption | (simp only [mK_sI, mK_sR, mK_sL, mK_sO]; with_reducible assumption) | assumption | (simp only [mK_sI, mK_sR, mK_sL, mK_sO, mK_nw, mK_sK]; first | assumption | (simp only [*]; done))) rfl 1 (by decide) q978 (Or.inl rfl) rfl dJ6_deleteEntry_49 ?_
      have e1 : mR (sR M2 (ad i) 0 (some b1)) (ad (i + 1)) 1 = some (vl (i + 1)) := (mR_sRk _ (by decide)).trans (hvl2 (i + 1) hi1)
      rw [e1]
      refine g_putR hC (ci := 9) (by first | with_reducible rfl | with_reducible assumption | (simp only [mR_sI, mR_sL]; with_reducible assumption) | exact rfl | assumption) (by first | with_reducible assumption | (simp only [mK_sI, mK_sR, mK_sL, mK_sO]; with_reducible assumption) | assumption | (simp only [mK_sI, mK_sR, mK_sL, mK_sO, mK_nw, mK_sK]; first | assumption | (simp only [*]; done))) rfl 1 (by decide) q978 (Or.inl rfl) (Or.inl rfl) rfl dJ6_deleteEntry_52 ?_
      refine g_aload_n hC dJ6_deleteEntry_55 rfl ?_
      refine g_astore_n hC dJ6_deleteEntry_56 rfl rfl ?_
      try simp only [stL, clr]
      have hox2 : mO M2 (ad i) = ρ := (hOO _).trans hox
      have hFr3 : Fr (fun r => r = ρ) M2 (sR (sR M2 (ad i) 0 (some b1)) (ad i) 1 (some (vl (i + 1)))) := (Fr.sR hox2).tr (Fr.sR hox2)
      have hR3 : ∀ y k, k ≠ 0 → k ≠ 1 → mR (sR (sR M2 (ad i) 0 (some b1)) (ad i) 1 (some (vl (i + 1)))) y k = mR M2 y k := fun y k h1 h2 => (mR_sRk y h2).trans (mR_sRk y h1)
      have hR4 : ∀ y k, y ≠ ad i → mR (sR (sR M2 (ad i) 0 (some b1)) (ad i) 1 (some (vl (i + 1)))) y k = mR M2 y k := fun y k h => (mR_sRa h k).trans (mR_sRa h k)
      have hx0 : mR (sR (sR M2 (ad i) 0 (some b1)) (ad i) 1 (some (vl (i + 1)))) (ad i) 0 = some b1 := (mR_sRk _ (by decide)).trans (mR_sRe _ _ _)
      have hx1 : mR (sR (sR M2 (ad i) 0 (some b1)) (ad i) 1 (some (vl (i + 1)))) (ad i) 1 = some (vl (i + 1)) := mR_sRe _ _ _
      have hI3 : ∀ y k, mI (sR (sR M2 (ad i) 0 (some b1)) (ad i) 1 (some (vl (i + 1)))) y k = mI M2 y k := fun y k => by rw [mI_sR, mI_sR]
      have hK3 : ∀ y, mK (sR (sR M2 (ad i) 0 (some b1)) (ad i) 1 (some (vl (i + 1)))) y = mK M2 y := fun y => by rw [mK_sR, mK_sR]
      have hO3 : ∀ y, mO (sR (sR M2 (ad i) 0 (some b1)) (ad i) 1 (some (vl (i + 1)))) y = mO M2 y := fun y => by rw [mO_sR, mO_sR]
      generalize sR (sR M2 (ad i) 0 (some b1)) (ad i) 1 (some (vl (i + 1))) = M3 at hFr3 hR3 hR4 hx0 hx1 hI3 hK3 hO3 ⊢
      have hTt3 : TMt M3 ρ t (n + 1) ad ps lo hi := by
        refine ⟨?_, fun y hy => ⟨(hK3 y).trans (hTt2.2 y hy).1, (hO3 y).trans (hTt2.2 y hy).2⟩⟩
        have e2 : (fun y => mR M3 y 2) = fun y => mR M2 y 2 := funext fun y => hR3 y 2 (by decide) (by decide)
        have e3 : (fun y => mR M3 y 3) = fun y => mR M2 y 3 := funext fun y => hR3 y 3 (by decide) (by decide)
        have e4 : (fun y => mR M3 y 4) = fun y => mR M2 y 4 := funext fun y => hR3 y 4 (by decide) (by decide)
        rw [e2, e3, e4, hR3 t 3 (by decide) (by decide)]
        exact hTt2.1
      have hF3 : Fx M3 M3 ρ t (n + 1) ad ps lo hi := ⟨hTt3, fun y hy => by rw [hI3]; exact hF2.2.1 y hy, Fr.rf _ _, fun _ _ => ⟨rfl, rfl⟩, fun _ _ => rfl, fun _ => rfl, (hK3 t).trans hkt2, (hO3 t).trans ((hOO t).trans hot)⟩
      refine de_out hB C hC _ hQ M3 lo hi (ad (i + 1)) _ hF3 hsN (Or.inl ((hR3 _ 2 (by decide) (by decide)).trans hsl)) (fun M' hG => ?_)
      rw [hps1] at hG
      have ek : delF (up1 ky i (ky (i + 1))) (i + 1) = delF ky i := by
        funext j
        unfold delF up1
        by_cases a : j < i
        · rw [if_pos (by omega), if_neg (by omega), if_pos a]
        · by_cases a2 : j = i
          · rw [if_pos (by omega), if_pos a2, if_neg a, a2]
          · rw [if_neg (by omega), if_neg (by omega), if_neg a]
      have ev : delF (up1 vl i (vl (i + 1))) (i + 1) = delF vl i := by
        funext j
        unfold delF up1
        by_cases a : j < i
        · rw [if_pos (by omega), if_neg (by omega), if_pos a]
        · by_cases a2 : j = i
          · rw [if_pos (by omega), if_pos a2, if_neg a, a2]
          · rw [if_neg (by omega), if_neg (by omega), if_neg a]
      have hne : ∀ j, j < n + 1 → j ≠ i → ad j ≠ ad i := by
        intro j hj q z
        have := h1 j hj
        rw [z, hpx] at this; exact q this.symm
      have := hG.tm (M := M) (ky2 := up1 ky i (ky (i + 1))) (vl2 := up1 vl i (vl (i + 1))) hi1 (hFr.tr hFr3) hρ (by omega) hcmp hvw (fun k _ => (hR4 t k hxt.symm).trans (hRR t k)) ((hI3 t 4).trans hI4)
        (fun j hj => by
          unfold up1
          by_cases a : j = i
          · rw [if_pos a, a]; exact ⟨b1, hx0, hb2.fr hFr3 (fun q => hρ q.symm)⟩
          · rw [if_neg a]
            obtain ⟨b, c1, c2⟩ := hky2 j hj
            exact ⟨b, (hR4 _ 0 (hne j hj a)).trans c1, c2.fr hFr3 (fun q => hρ q.symm)⟩)
        (fun j hj => by
          unfold up1
          by_cases a : j = i
          · rw [if_pos a, a]; exact hx1
          · rw [if_neg a]; exact (hR4 _ 1 (hne j hj a)).trans (hvl2 j hj)) h1 (by rw [ek]; exact hord1)
      rw [ek, ev] at this
      exact ⟨rfl, this⟩
/-- remove: the key is there, and its pair goes, or nothing changes -/
def RemP (M M' : Mem) (ρ t n : Nat) (ky : Nat → Int32) (vl : Nat → Nat) (k : Int32) (ret : Option Nat) : Prop :=
  (∃ i m, n = m + 1 ∧ i < n ∧ ky i = k ∧ ret = some (vl i) ∧ Shr M M' ρ t m ky vl i) ∨ ((∀ i, i < n → ky i ≠ k) ∧ ret = none ∧ M' = M)
theorem ct_remove (hB : Base G) (hT : TMc M ρ t n ad ps lo hi ky vl) {b : Nat} {k : Int32} (hb : Bx M b k) : KJ6_remove G 5 0 0 [vr (some t), vr (some b)] M (fun r M' => ∃ ret, r = some (vr ret) ∧ RemP M M' ρ t n ky vl k ret) := by
  have hkt := hT.1.1
  refine Ct.of (own := RJ6) (nm := "remove") hB (by decide) rfl rfl rfl rfl (fun C hC hQ => ?_)
  refine g_aload_n hC dJ6_remove_0 rfl ?_
  refine g_aload_n hC dJ6_remove_1 rfl ?_
  refine g_callV hC (by first | with_reducible rfl | with_reducible assumption | (simp only [mR_sI, mR_sL]; with_reducible assumption) | exact rfl | assumption) (Rk.o (ci := 8) (by first | with_reducible assumption | (simp only [mK_sI, mK_sR, mK_sL, mK_sO]; with_reducible assumption) | assumption | (simp only [mK_sI, mK_sR, mK_sL, mK_sO, mK_nw, mK_sK]; first | assumption | (simp only [*]; done))) rfl) (ct_getEntry hB hT.1 hb) rfl (by decide) rfl rfl yk_J6_getEntry q2296 q2297 q2298 q59 q2299 rfl dJ6_remove_2 (by omega) (by omega) (fun v M1 hp => ?_)
  obtain ⟨hM, r, rfl, hF⟩ := hp
  cases hM.symm
  simp only [Option.toList_some, Option.toList_none, List.cons_append, List.nil_append, Nat.add_zero, Nat.zero_add]
  refine g_astore_n hC dJ6_remove_5 rfl rfl ?_
  try simp only [stL, clr]
  refine g_aload_n hC dJ6_remove_6 rfl ?_
  rcases hF with ⟨i, hin, e1, e2⟩ | ⟨e1, e2⟩
  · subst e2
    have hkx := (hT.1.2.2.2.2.2.2.1.2 (ad i) ⟨by rw [hT.1.2.2.2.2.2.2.1.1.1 i hin]; exact hin, by rw [hT.1.2.2.2.2.2.2.1.1.1 i hin]⟩).1
    have hv := hT.1.2.2.2.2.2.2.2.2.1 i hin
    obtain ⟨m, rfl⟩ : ∃ m, n = m + 1 := ⟨n - 1, by omega⟩
    refine g_ifnonnull hC 12 dJ6_remove_7 (by decide) (fun y7 hc => ?_) (fun hc => ?_)
    · refine g_aload_n hC dJ6_remove_12 rfl ?_
      refine g_getR hC (ci := 9) (by first | with_reducible rfl | with_reducible assumption | (simp only [mR_sI, mR_sL]; with_reducible assumption) | exact rfl | assumption) (by first | with_reducible assumption | (simp only [mK_sI, mK_sR, mK_sL, mK_sO]; with_reducible assumption) | assumption | (simp only [mK_sI, mK_sR, mK_sL, mK_sO, mK_nw, mK_sK]; first | assumption | (simp only [*]; done))) rfl 1 (by decide) q978 (Or.inl rfl) rfl dJ6_remove_13 ?_
      rw [hv]
      refine g_astore_n hC dJ6_remove_16 rfl rfl ?_
      try simp only [stL, clr]
      refine g_aload_n hC dJ6_remove_17 rfl ?_
      refine g_aload_n hC dJ6_remove_18 rfl ?_
      refine g_callV hC (by first | with_reducible rfl | with_reducible assumption | (simp only [mR_sI, mR_sL]; with_reducible assumption) | exact rfl | assumption) (Rk.o (ci := 8) (by first | with_reducible assumption | (simp only [mK_sI, mK_sR, mK_sL, mK_sO]; with_reducible assumption) | assumption | (simp only [mK_sI, mK_sR, mK_sL, mK_sO, mK_nw, mK_sK]; first | assumption | (simp only [*]; done))) rfl) (ct_deleteEntry hB hT hin) rfl (by decide) rfl rfl yk_J6_deleteEntry q2455 q2260 qs27 q59 q2261 rfl dJ6_remove_19 (by omega) (by omega) (fun v M1 hp => ?_)
      obtain ⟨rfl, hS⟩ := hp
      simp only [Option.toList_some, Option.toList_none, List.cons_append, List.nil_append, Nat.add_zero, Nat.zero_add]
      refine g_aload_n hC dJ6_remove_22 rfl ?_
      refine g_aret hC hQ (by omega) (by omega) rfl dJ6_remove_23 ?_
      exact ⟨_, rfl, Or.inl ⟨i, m, rfl, hin, e1, rfl, hS⟩⟩
    · cases hc
  · subst e1
    refine g_ifnonnull hC 12 dJ6_remove_7 (by decide) (fun y7 hc => ?_) (fun hc => ?_)
    · cases hc
    · refine g_null hC dJ6_remove_10 ?_
      refine g_aret hC hQ (by omega) (by omega) rfl dJ6_remove_11 ?_
      exact ⟨none, rfl, Or.inr ⟨e2, rfl, rfl⟩⟩
theorem ct_clear (hB : Base G) (hT : TMc M ρ t n ad ps lo hi ky vl) : KJ6_clear G 1 0 0 [vr (some t)] M (fun r M' => r = none ∧ Fr (fun r => r = ρ) M M' ∧ TMc M' ρ t 0 ad ps lo hi ky vl) := by
  obtain ⟨⟨hkt, hot, hcmp, hsz, hn, hρ, hTt, hky, hvl, hord⟩, hcol, hvw⟩ := hT
  refine Ct.of (own := RJ6) (nm := "clear") hB (by decide) rfl rfl rfl rfl (fun C hC hQ => ?_)
  refine g_aload_n hC dJ6_clear_0 rfl ?_
  refine g_dup hC dJ6_clear_1 rfl ?_
  refine g_getI hC (ci := 8) (by first | with_reducible rfl | with_reducible assumption | (simp only [mR_sI, mR_sL]; with_reducible assumption) | exact rfl | assumption) (by first | with_reducible assumption | (simp only [mK_sI, mK_sR, mK_sL, mK_sO]; with_reducible assumption) | assumption | (simp only [mK_sI, mK_sR, mK_sL, mK_sO, mK_nw, mK_sK]; first | assumption | (simp only [*]; done))) rfl 5 (by decide) q275 (Or.inl rfl) rfl dJ6_clear_2 ?_
  refine g_iconst (v := 1) hC dJ6_clear_5 (by decide) ?_
  refine g_iadd hC dJ6_clear_6 ?_
  refine g_putI hC (ci := 8) (by first | with_reducible rfl | with_reducible assumption | (simp only [mR_sI, mR_sL]; with_reducible assumption) | exact rfl | assumption) (by first | with_reducible assumption | (simp only [mK_sI, mK_sR, mK_sL, mK_sO]; with_reducible assumption) | assumption | (simp only [mK_sI, mK_sR, mK_sL, mK_sO, mK_nw, mK_sK]; first | assumption | (simp only [*]; done))) rfl 5 (by decide) q275 (Or.inl rfl) (Or.inl rfl) rfl rfl rfl dJ6_clear_7 ?_
  refine g_aload_n hC dJ6_clear_10 rfl ?_
  refine g_iconst (v := 0) hC dJ6_clear_11 (by decide) ?_
  refine g_putI hC (ci := 8) (by first | with_reducible rfl | with_reducible assumption | (simp only [mR_sI, mR_sL]; with_reducible assumption) | exact rfl | assumption) (by first | with_reducible assumption | (simp only [mK_sI, mK_sR, mK_sL, mK_sO]; with_reducible assumption) | assumption | (simp only [mK_sI, mK_sR, mK_sL, mK_sO, mK_nw, mK_sK]; first | assumption | (simp only [*]; done))) rfl 4 (by decide) q274 (Or.inl rfl) (Or.inl rfl) rfl rfl rfl dJ6_clear_12 ?_
  refine g_aload_n hC dJ6_clear_15 rfl ?_
  refine g_null hC dJ6_clear_16 ?_
  refine g_putR hC (ci := 8) (by first | with_reducible rfl | with_reducible assumption | (simp only [mR_sI, mR_sL]; with_reducible assumption) | exact rfl | assumption) (by first | with_reducible assumption | (simp only [mK_sI, mK_sR, mK_sL, mK_sO]; with_reducible assumption) | assumption | (simp only [mK_sI, mK_sR, mK_sL, mK_sO, mK_nw, mK_sK]; first | assumption | (simp only [*]; done))) rfl 3 (by decide) q273 (Or.inl rfl) (Or.inl rfl) rfl dJ6_clear_17 ?_
  refine g_vret hC hQ (by omega) (by omega) dJ6_clear_20 ?_
  have hFA := (((Fr.sI hot).tr (Fr.sI hot)).tr (Fr.sR hot) : Fr (fun r => r = ρ) M (sR (sI (sI M t 5 (mI M t 5 + 1)) t 4 0) t 3 none))
  refine ⟨rfl, hFA, ⟨hkt, hot, ?_, ?_, by omega, hρ, ⟨?_, ?_⟩, ?_, ?_, ?_⟩, ?_, hvw.fr hFA (fun q => hρ q.symm) (fun k hk => by rw [mR_sRk t hk, mR_sI, mR_sI])⟩
  · rw [mR_sRk t (by decide), mR_sI, mR_sI]; exact hcmp
  · rw [mI_sR, mI_sI]; simp; rfl
  · rw [mR_sRe]; exact TT.nil
  · intro x hx; have := hx.1; omega
  · intro i hi; omega
  · intro i hi; omega
  · intro i j h1 h2; omega
  · intro x hx; have := hx.1; omega
end Rem

