set_option maxRecDepth 100000
abbrev cJ30_init : ByteArray := prog_84_method_1_code
def yJ30_init : MethodName := ⟨RJ30, "<init>", "(Ljava/lang/Object;Ljava/lang/Object;Ljava/util/TreeMap$Entry;)V"⟩
def dkwJ30_init_1 : List UInt8 := [177]
abbrev dktJ30_init_1 : List UInt8 := dkwJ30_init_1 ++ []
def dkwJ30_init_0 : List UInt8 := [42, 183, 0, 3, 42, 4, 181, 0, 9, 42, 43, 181, 0, 15, 42, 44, 181, 0, 19, 42, 45, 181, 0, 22]
abbrev dktJ30_init_0 : List UInt8 := dkwJ30_init_0 ++ dktJ30_init_1
theorem dksJ30_init_0 : cJ30_init.data.toList.drop 0 = dktJ30_init_0 := by decide +kernel
theorem dksJ30_init_1 : cJ30_init.data.toList.drop 24 = dktJ30_init_1 := dk_seg dksJ30_init_0 24 rfl rfl
theorem dJ30_init_0 : decode cJ30_init 0 = .ok (.aload_n 0, 1) := dk_42 (dk_at dksJ30_init_0 0 rfl rfl)
theorem dJ30_init_1 : decode cJ30_init 1 = .ok (.invokespecial 3, 3) := dk_183 0 3 (dk_at dksJ30_init_0 1 rfl rfl)
theorem dJ30_init_4 : decode cJ30_init 4 = .ok (.aload_n 0, 1) := dk_42 (dk_at dksJ30_init_0 4 rfl rfl)
theorem dJ30_init_5 : decode cJ30_init 5 = .ok (.iconst 1, 1) := dk_4 (dk_at dksJ30_init_0 5 rfl rfl)
theorem dJ30_init_6 : decode cJ30_init 6 = .ok (.putfield 9, 3) := dk_181 0 9 (dk_at dksJ30_init_0 6 rfl rfl)
theorem dJ30_init_9 : decode cJ30_init 9 = .ok (.aload_n 0, 1) := dk_42 (dk_at dksJ30_init_0 9 rfl rfl)
theorem dJ30_init_10 : decode cJ30_init 10 = .ok (.aload_n 1, 1) := dk_43 (dk_at dksJ30_init_0 10 rfl rfl)
theorem dJ30_init_11 : decode cJ30_init 11 = .ok (.putfield 15, 3) := dk_181 0 15 (dk_at dksJ30_init_0 11 rfl rfl)
theorem dJ30_init_14 : decode cJ30_init 14 = .ok (.aload_n 0, 1) := dk_42 (dk_at dksJ30_init_0 14 rfl rfl)
theorem dJ30_init_15 : decode cJ30_init 15 = .ok (.aload_n 2, 1) := dk_44 (dk_at dksJ30_init_0 15 rfl rfl)
theorem dJ30_init_16 : decode cJ30_init 16 = .ok (.putfield 19, 3) := dk_181 0 19 (dk_at dksJ30_init_0 16 rfl rfl)
theorem dJ30_init_19 : decode cJ30_init 19 = .ok (.aload_n 0, 1) := dk_42 (dk_at dksJ30_init_0 19 rfl rfl)
theorem dJ30_init_20 : decode cJ30_init 20 = .ok (.aload_n 3, 1) := dk_45 (dk_at dksJ30_init_0 20 rfl rfl)
theorem dJ30_init_21 : decode cJ30_init 21 = .ok (.putfield 22, 3) := dk_181 0 22 (dk_at dksJ30_init_0 21 rfl rfl)
theorem dJ30_init_24 : decode cJ30_init 24 = .ok (.return_, 1) := dk_177 (dk_at dksJ30_init_1 0 rfl rfl)
theorem yk_J30_init : yk yJ30_init 3 := by unfold yk; decide +kernel
abbrev KJ30_init (G : Gx) (d mc ms : Nat) (av : List Sv) (M : Mem) (post : Option Sv → Mem → Prop) : Prop := Ct G yJ30_init cJ30_init 4 ((Option.none : Option Jvm.ClassFile.FieldType)) d mc ms av M post
theorem q972 : (Jvm.Cond.methodLink "java/util/TreeMap$Entry" (3 : Nat) ({ cls := "java/lang/Object", name := "<init>", desc := "()V" } : Jvm.MethodName)) ∈ lw_all := lw_g (lw_at lw_m4 204 rfl) rfl
theorem q973 : (Jvm.Cond.fieldLink "java/util/TreeMap$Entry" (15 : Nat) "java/util/TreeMap$Entry" "key" "Ljava/lang/Object;") ∈ lw_all := lw_g (lw_at lw_m4 205 rfl) rfl
theorem q976 : (Jvm.Cond.fieldLink "java/util/TreeMap$Entry" (19 : Nat) "java/util/TreeMap$Entry" "value" "Ljava/lang/Object;") ∈ lw_all := lw_g (lw_at lw_m4 208 rfl) rfl
theorem q983 : (Jvm.Cond.fieldLink "java/util/TreeMap$Entry" (22 : Nat) "java/util/TreeMap$Entry" "parent" "Ljava/util/TreeMap$Entry;") ∈ lw_all := lw_g (lw_at lw_m4 215 rfl) rfl
theorem q985 : (Jvm.Cond.fieldLink "java/util/TreeMap$Entry" (9 : Nat) "java/util/TreeMap$Entry" "color" "Z") ∈ lw_all := lw_g (lw_at lw_m4 217 rfl) rfl
/-! ===== TreeMap.put ===== -/
def insF {α : Type} (f : Nat → α) (i : Nat) (v : α) : Nat → α := fun j => if j < i then f j else if j = i then v else f (j - 1)
/-- the views that t has made (of region 0: nobody writes them) -/
def Vw1 (M : Mem) (t f κ : Nat) : Prop := ∀ s, mR M t f = some s → mK M s = κ ∧ mR M s 0 = some t ∧ mO M s = 0
def Vw (M : Mem) (t : Nat) : Prop := Vw1 M t 6 kTE ∧ Vw1 M t 7 kTK ∧ Vw1 M t 1 kTV
theorem Vw1.fr {P : Nat → Prop} {M M' : Mem} {t f κ : Nat} (h : Vw1 M t f κ) (hκ : κ ≠ 0) (hF : Fr P M M') (hP : ¬ P 0) (ht : mR M' t f = mR M t f) : Vw1 M' t f κ := by
  intro s hs
  rw [ht] at hs
  obtain ⟨a, b, c⟩ := h s hs
  have h0 : mK M s ≠ 0 := by rw [a]; exact hκ
  exact ⟨hF.k a hκ, by rw [hF.r h0 (by rw [c]; exact hP)]; exact b, hF.o h0 c⟩
theorem Vw.fr {P : Nat → Prop} {M M' : Mem} {t : Nat} (h : Vw M t) (hF : Fr P M M') (hP : ¬ P 0) (ht : ∀ k, k ≠ 3 → mR M' t k = mR M t k) : Vw M' t :=
  ⟨h.1.fr (by decide) hF hP (ht 6 (by decide)), h.2.1.fr (by decide) hF hP (ht 7 (by decide)), h.2.2.fr (by decide) hF hP (ht 1 (by decide))⟩
/-- a TreeMap, its colours known to be colours, its views its own -/
def TMc (M : Mem) (ρ t n : Nat) (ad ps lo hi : Nat → Nat) (ky : Nat → Int32) (vl : Nat → Nat) : Prop := TMap M ρ t n ad ps lo hi ky vl ∧ (∀ x, Nd n ad ps x → b01 (mI M x 5)) ∧ Vw M t
/-- the memory with a new entry e -/
def mkE (M : Mem) (e ρ : Nat) (k v p : Option Nat) : Mem := sR (sR (sR (sI (nw M e kEN 0 ρ) e 5 1) e 0 k) e 1 v) e 4 p
section MkE
variable (M : Mem) (e ρ : Nat) (k v p : Option Nat) {x : Nat}
theorem mkE_R (h : x ≠ e) (j : Nat) : mR (mkE M e ρ k v p) x j = mR M x j := by
  simp only [mkE, mR_sR, mR_sI, mR_nw, if_neg h]; split <;> split <;> split <;> rfl
theorem mkE_I (h : x ≠ e) (j : Nat) : mI (mkE M e ρ k v p) x j = mI M x j := by
  simp only [mkE, mI_sR, mI_sI, mI_nw, if_neg h]; split <;> rfl
theorem mkE_L (h : x ≠ e) (j : Nat) : mL (mkE M e ρ k v p) x j = mL M x j := by
  simp only [mkE, mL_sR, mL_sI, mL_nw, if_neg h]
theorem mkE_K (h : x ≠ e) : mK (mkE M e ρ k v p) x = mK M x := by simp only [mkE, mK_sR, mK_sI, mK_nw, if_neg h]
theorem mkE_N (h : x ≠ e) : mN (mkE M e ρ k v p) x = mN M x := by simp only [mkE, mN_sR, mN_sI, mN_nw, if_neg h]
theorem mkE_O (h : x ≠ e) : mO (mkE M e ρ k v p) x = mO M x := by simp only [mkE, mO_sR, mO_sI, mO_nw, if_neg h]
theorem mkE_e0 : mR (mkE M e ρ k v p) e 0 = k := by simp [mkE, mR_sR]
theorem mkE_e1 : mR (mkE M e ρ k v p) e 1 = v := by simp [mkE, mR_sR]
theorem mkE_e2 : mR (mkE M e ρ k v p) e 2 = none := by simp [mkE, mR_sR, mR_sI, mR_nw]
theorem mkE_e3 : mR (mkE M e ρ k v p) e 3 = none := by simp [mkE, mR_sR, mR_sI, mR_nw]
theorem mkE_e4 : mR (mkE M e ρ k v p) e 4 = p := by simp [mkE, mR_sR]
theorem mkE_e5 : mI (mkE M e ρ k v p) e 5 = 1 := by simp [mkE, mI_sR, mI_sI]
theorem mkE_eK : mK (mkE M e ρ k v p) e = kEN := by simp [mkE, mK_sR, mK_sI, mK_nw]
theorem mkE_eO : mO (mkE M e ρ k v p) e = ρ := by simp [mkE, mO_sR, mO_sI, mO_nw]
theorem mkE_fr {P : Nat → Prop} (h0 : mK M e = 0) : Fr P M (mkE M e ρ k v p) := fun b hb => by
  have h : b ≠ e := fun q => hb (q ▸ h0)
  exact ⟨mkE_K M e ρ k v p h, mkE_N M e ρ k v p h, mkE_O M e ρ k v p h, fun _ j => ⟨mkE_I M e ρ k v p h j, mkE_R M e ρ k v p h j, mkE_L M e ρ k v p h j⟩⟩
end MkE
section Put
variable {G : Gx} {M : Mem} {ρ t n : Nat} {ad ps lo hi : Nat → Nat} {ky : Nat → Int32} {vl : Nat → Nat}
theorem ct_Entry_init (hB : Base G) {e : Nat} {k v p : Option Nat} (hk : mK M e = kEN) : KJ30_init G 2 0 0 [vr (some e), vr k, vr v, vr p] M (fun r M' => r = none ∧ M' = sR (sR (sR (sI M e 5 1) e 0 k) e 1 v) e 4 p) := by
  refine Ct.of (own := RJ30) (nm := "<init>") hB (by decide) rfl rfl rfl rfl (fun C hC hQ => ?_)
  refine g_aload_n hC dJ30_init_0 rfl ?_
  refine g_objInit hC (by first | with_reducible rfl | with_reducible assumption | (simp only [mR_sI, mR_sL]; with_reducible assumption) | exact rfl | assumption) q972 q_oi1 q_oi2 (by decide) rfl dJ30_init_1 ?_
  refine g_aload_n hC dJ30_init_4 rfl ?_
  refine g_iconst (v := 1) hC dJ30_init_5 (by decide) ?_
  refine g_putI hC (ci := 9) (by first | with_reducible rfl | with_reducible assumption | (simp only [mR_sI, mR_sL]; with_reducible assumption) | exact rfl | assumption) (by first | with_reducible assumption | (simp only [mK_sI, mK_sR, mK_sL, mK_sO]; with_reducible assumption) | assumption | (simp only [mK_sI, mK_sR, mK_sL, mK_sO, mK_nw, mK_sK]; first | assumption | (simp only [*]; done))) rfl 5 (by decide) q985 (Or.inl rfl) (Or.inl rfl) rfl (by first | rfl | assumption) (by first | rfl | assumption) dJ30_init_6 ?_
  refine g_aload_n hC dJ30_init_9 rfl ?_
  refine g_aload_n hC dJ30_init_10 rfl ?_
  refine g_putR hC (ci := 9) (by first | with_reducible rfl | with_reducible assumption | (simp only [mR_sI, mR_sL]; with_reducible assumption) | exact rfl | assumption) (by first | with_reducible assumption | (simp only [mK_sI, mK_sR, mK_sL, mK_sO]; with_reducible assumption) | assumption | (simp only [mK_sI, mK_sR, mK_sL, mK_sO, mK_nw, mK_sK]; first | assumption | (simp only [*]; done))) rfl 0 (by decide) q973 (Or.inl rfl) (Or.inl rfl) rfl dJ30_init_11 ?_
  refine g_aload_n hC dJ30_init_14 rfl ?_
  refine g_aload_n hC dJ30_init_15 rfl ?_
  refine g_putR hC (ci := 9) (by first | with_reducible rfl | with_reducible assumption | (simp only [mR_sI, mR_sL]; with_reducible assumption) | exact rfl | assumption) (by first | with_reducible assumption | (simp only [mK_sI, mK_sR, mK_sL, mK_sO]; with_reducible assumption) | assumption | (simp only [mK_sI, mK_sR, mK_sL, mK_sO, mK_nw, mK_sK]; first | assumption | (simp only [*]; done))) rfl 1 (by decide) q976 (Or.inl rfl) (Or.inl rfl) rfl dJ30_init_16 ?_
  refine g_aload_n hC dJ30_init_19 rfl ?_
  refine g_aload_n hC dJ30_init_20 rfl ?_
  refine g_putR hC (ci := 9) (by first | with_reducible rfl | with_reducible assumption | (simp only [mR_sI, mR_sL]; with_reducible assumption) | exact rfl | assumption) (by first | with_reducible assumption | (simp only [mK_sI, mK_sR, mK_sL, mK_sO]; with_reducible assumption) | assumption | (simp only [mK_sI, mK_sR, mK_sL, mK_sO, mK_nw, mK_sK]; first | assumption | (simp only [*]; done))) rfl 4 (by decide) q983 (Or.inl rfl) (Or.inl rfl) rfl dJ30_init_21 ?_
  refine g_vret hC hQ (by omega) (by omega) dJ30_init_24 ?_
  exact ⟨rfl, rfl⟩
/-- the tree has the new leaf e; the map's size is one more: out of what mending kept -/
theorem TMc.grown {M M3 M4 : Mem} {i e b v : Nat} {k c : Int32} {lo4 hi4 : Nat → Nat} (hT : TMc M ρ t n ad ps lo hi ky vl) (hn : n < 1000) (hin : i ≤ n) (hlo : ∀ j, j < i → ky j < k) (hhi : ∀ j, i ≤ j → j < n → k < ky j) (he : ¬ Nd n ad ps e) (hb : Bx M b k)
    (hF0 : Fr (fun r => r = ρ) M M3) (hk0 : ∀ x, Nd n ad ps x → mR M3 x 0 = mR M x 0 ∧ mR M3 x 1 = mR M x 1) (he0 : mR M3 e 0 = some b) (he1 : mR M3 e 1 = some v) (ht2 : ∀ k, k ≠ 3 → mR M3 t k = mR M t k)
    (hF : Fx M3 M4 ρ t (n + 1) (inA ad i e) (inP ps i e) lo4 hi4) : TMc (sI (sI M4 t 4 (nI (n + 1))) t 5 c) ρ t (n + 1) (inA ad i e) (inP ps i e) lo4 hi4 (insF ky i k) (insF vl i v) ∧ Fr (fun r => r = ρ) M (sI (sI M4 t 4 (nI (n + 1))) t 5 c) := by
  obtain ⟨⟨hkt, hot, hcmp, hsz, hn0, hρ, ⟨hTT, hkk⟩, hky, hvl, hord⟩, hcol, hvw⟩ := hT
  obtain ⟨f1, f2, f3, f4, f5, f6, f7, f8⟩ := hF
  have hFF : Fr (fun r => r = ρ) M4 (sI (sI M4 t 4 (nI (n + 1))) t 5 c) := (Fr.sI f8).tr (Fr.sI f8)
  have hFA : Fr (fun r => r = ρ) M (sI (sI M4 t 4 (nI (n + 1))) t 5 c) := (hF0.tr f3).tr hFF
  have hN : ∀ j, j < n → Nd n ad ps (ad j) := fun j hj => ⟨by rw [hTT.1 j hj]; exact hj, by rw [hTT.1 j hj]⟩
  have hNe : ∀ j, j < n → ad j ≠ e := fun j hj q => he (q ▸ hN j hj)
  have hN' : ∀ x, x = e ∨ Nd n ad ps x → Nd (n + 1) (inA ad i e) (inP ps i e) x := by
    rintro x (rfl | hx)
    · exact Nd.inE hin
    · exact (Nd.inO hTT.1 hin he (fun q => he (q ▸ hx))).mpr hx
  have hne : ∀ x, Nd (n + 1) (inA ad i e) (inP ps i e) x → x ≠ t := fun x hx => f1.ne f7 hx
  refine ⟨⟨⟨f7, f8, ?_, ?_, by omega, hρ, f1, ?_, ?_, ?_⟩, fun x hx => ?_, hvw.fr hFA (fun q => hρ q.symm) (fun k hk => (f5 k hk).trans (ht2 k hk))⟩, hFA⟩
  · show mR M4 t 2 = none
    rw [f5 2 (by decide), ht2 2 (by decide)]; exact hcmp
  · rw [mI_sI, mI_sI]; simp
  · intro j hj
    show ∃ b, mR M4 (inA ad i e j) 0 = some b ∧ _
    unfold inA insF
    by_cases a : j < i
    · rw [if_pos a, if_pos a]
      obtain ⟨b', c1, c2⟩ := hky j (by omega)
      exact ⟨b', by rw [(f4 _ (hN' _ (Or.inr (hN j (by omega))))).1, (hk0 _ (hN j (by omega))).1]; exact c1, c2.fr hFA (fun q => hρ q.symm)⟩
    · by_cases a2 : j = i
      · rw [if_neg a, if_neg a, if_pos a2, if_pos a2]
        exact ⟨b, by rw [(f4 _ (hN' _ (Or.inl rfl))).1]; exact he0, hb.fr hFA (fun q => hρ q.symm)⟩
      · rw [if_neg a, if_neg a, if_neg a2, if_neg a2]
        obtain ⟨b', c1, c2⟩ := hky (j - 1) (by omega)
        exact ⟨b', by rw [(f4 _ (hN' _ (Or.inr (hN (j - 1) (by omega))))).1, (hk0 _ (hN (j - 1) (by omega))).1]; exact c1, c2.fr hFA (fun q => hρ q.symm)⟩
  · intro j hj
    show mR M4 (inA ad i e j) 1 = _
    unfold inA insF
    by_cases a : j < i
    · rw [if_pos a, if_pos a, (f4 _ (hN' _ (Or.inr (hN j (by omega))))).2, (hk0 _ (hN j (by omega))).2]; exact hvl j (by omega)
    · by_cases a2 : j = i
      · rw [if_neg a, if_neg a, if_pos a2, if_pos a2, (f4 _ (hN' _ (Or.inl rfl))).2]; exact he1
      · rw [if_neg a, if_neg a, if_neg a2, if_neg a2, (f4 _ (hN' _ (Or.inr (hN (j - 1) (by omega))))).2, (hk0 _ (hN (j - 1) (by omega))).2]; exact hvl (j - 1) (by omega)
  · intro j j2 hj hj2
    unfold insF
    by_cases a : j < i
    · rw [if_pos a]
      by_cases a2 : j2 < i
      · rw [if_pos a2]; exact hord j j2 hj (by omega)
      · rw [if_neg a2]
        by_cases a3 : j2 = i
        · rw [if_pos a3]; exact hlo j a
        · rw [if_neg a3]; exact hord j (j2 - 1) (by omega) (by omega)
    · rw [if_neg a, if_neg (by omega : ¬ j2 < i), if_neg (by omega : ¬ j2 = i)]
      by_cases a3 : j = i
      · rw [if_pos a3]; exact hhi (j2 - 1) (by omega) (by omega)
      · rw [if_neg a3]; exact hord (j - 1) (j2 - 1) (by omega) (by omega)
  · rw [mI_sI, mI_sI]; simp [hne x hx]; exact f2 x hx
end Put

