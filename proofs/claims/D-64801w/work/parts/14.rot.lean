set_option maxRecDepth 100000
abbrev cJ6_rotateLeft : ByteArray := prog_83_method_81_code
def yJ6_rotateLeft : MethodName := ⟨RJ6, "rotateLeft", "(Ljava/util/TreeMap$Entry;)V"⟩
def dkwJ6_rotateLeft_4 : List UInt8 := [177]
abbrev dktJ6_rotateLeft_4 : List UInt8 := dkwJ6_rotateLeft_4 ++ []
def dkwJ6_rotateLeft_3 : List UInt8 := [181, 0, 111, 167, 0, 11, 43, 180, 0, 124, 44, 181, 0, 114, 44, 43, 181, 0, 111, 43, 44, 181, 0, 124]
abbrev dktJ6_rotateLeft_3 : List UInt8 := dkwJ6_rotateLeft_3 ++ dktJ6_rotateLeft_4
def dkwJ6_rotateLeft_2 : List UInt8 := [44, 181, 0, 101, 167, 0, 33, 43, 180, 0, 124, 180, 0, 111, 43, 166, 0, 14, 43, 180, 0, 124, 44]
abbrev dktJ6_rotateLeft_2 : List UInt8 := dkwJ6_rotateLeft_2 ++ dktJ6_rotateLeft_3
def dkwJ6_rotateLeft_1 : List UInt8 := [44, 180, 0, 111, 43, 181, 0, 124, 44, 43, 180, 0, 124, 181, 0, 124, 43, 180, 0, 124, 199, 0, 11, 42]
abbrev dktJ6_rotateLeft_1 : List UInt8 := dkwJ6_rotateLeft_1 ++ dktJ6_rotateLeft_2
def dkwJ6_rotateLeft_0 : List UInt8 := [43, 198, 0, 94, 43, 180, 0, 114, 77, 43, 44, 180, 0, 111, 181, 0, 114, 44, 180, 0, 111, 198, 0, 11]
abbrev dktJ6_rotateLeft_0 : List UInt8 := dkwJ6_rotateLeft_0 ++ dktJ6_rotateLeft_1
theorem dksJ6_rotateLeft_0 : cJ6_rotateLeft.data.toList.drop 0 = dktJ6_rotateLeft_0 := by decide +kernel
theorem dksJ6_rotateLeft_1 : cJ6_rotateLeft.data.toList.drop 24 = dktJ6_rotateLeft_1 := dk_seg dksJ6_rotateLeft_0 24 rfl rfl
theorem dksJ6_rotateLeft_2 : cJ6_rotateLeft.data.toList.drop 48 = dktJ6_rotateLeft_2 := dk_seg dksJ6_rotateLeft_1 24 rfl rfl
theorem dksJ6_rotateLeft_3 : cJ6_rotateLeft.data.toList.drop 71 = dktJ6_rotateLeft_3 := dk_seg dksJ6_rotateLeft_2 23 rfl rfl
theorem dksJ6_rotateLeft_4 : cJ6_rotateLeft.data.toList.drop 95 = dktJ6_rotateLeft_4 := dk_seg dksJ6_rotateLeft_3 24 rfl rfl
theorem dJ6_rotateLeft_0 : decode cJ6_rotateLeft 0 = .ok (.aload_n 1, 1) := dk_43 (dk_at dksJ6_rotateLeft_0 0 rfl rfl)
theorem dJ6_rotateLeft_1 : decode cJ6_rotateLeft 1 = .ok (.ifnull 94, 3) := dk_198 0 94 (dk_at dksJ6_rotateLeft_0 1 rfl rfl)
theorem dJ6_rotateLeft_4 : decode cJ6_rotateLeft 4 = .ok (.aload_n 1, 1) := dk_43 (dk_at dksJ6_rotateLeft_0 4 rfl rfl)
theorem dJ6_rotateLeft_5 : decode cJ6_rotateLeft 5 = .ok (.getfield 114, 3) := dk_180 0 114 (dk_at dksJ6_rotateLeft_0 5 rfl rfl)
theorem dJ6_rotateLeft_8 : decode cJ6_rotateLeft 8 = .ok (.astore_n 2, 1) := dk_77 (dk_at dksJ6_rotateLeft_0 8 rfl rfl)
theorem dJ6_rotateLeft_9 : decode cJ6_rotateLeft 9 = .ok (.aload_n 1, 1) := dk_43 (dk_at dksJ6_rotateLeft_0 9 rfl rfl)
theorem dJ6_rotateLeft_10 : decode cJ6_rotateLeft 10 = .ok (.aload_n 2, 1) := dk_44 (dk_at dksJ6_rotateLeft_0 10 rfl rfl)
theorem dJ6_rotateLeft_11 : decode cJ6_rotateLeft 11 = .ok (.getfield 111, 3) := dk_180 0 111 (dk_at dksJ6_rotateLeft_0 11 rfl rfl)
theorem dJ6_rotateLeft_14 : decode cJ6_rotateLeft 14 = .ok (.putfield 114, 3) := dk_181 0 114 (dk_at dksJ6_rotateLeft_0 14 rfl rfl)
theorem dJ6_rotateLeft_17 : decode cJ6_rotateLeft 17 = .ok (.aload_n 2, 1) := dk_44 (dk_at dksJ6_rotateLeft_0 17 rfl rfl)
theorem dJ6_rotateLeft_18 : decode cJ6_rotateLeft 18 = .ok (.getfield 111, 3) := dk_180 0 111 (dk_at dksJ6_rotateLeft_0 18 rfl rfl)
theorem dJ6_rotateLeft_21 : decode cJ6_rotateLeft 21 = .ok (.ifnull 11, 3) := dk_198 0 11 (dk_at dksJ6_rotateLeft_0 21 rfl rfl)
theorem dJ6_rotateLeft_24 : decode cJ6_rotateLeft 24 = .ok (.aload_n 2, 1) := dk_44 (dk_at dksJ6_rotateLeft_1 0 rfl rfl)
theorem dJ6_rotateLeft_25 : decode cJ6_rotateLeft 25 = .ok (.getfield 111, 3) := dk_180 0 111 (dk_at dksJ6_rotateLeft_1 1 rfl rfl)
theorem dJ6_rotateLeft_28 : decode cJ6_rotateLeft 28 = .ok (.aload_n 1, 1) := dk_43 (dk_at dksJ6_rotateLeft_1 4 rfl rfl)
theorem dJ6_rotateLeft_29 : decode cJ6_rotateLeft 29 = .ok (.putfield 124, 3) := dk_181 0 124 (dk_at dksJ6_rotateLeft_1 5 rfl rfl)
theorem dJ6_rotateLeft_32 : decode cJ6_rotateLeft 32 = .ok (.aload_n 2, 1) := dk_44 (dk_at dksJ6_rotateLeft_1 8 rfl rfl)
theorem dJ6_rotateLeft_33 : decode cJ6_rotateLeft 33 = .ok (.aload_n 1, 1) := dk_43 (dk_at dksJ6_rotateLeft_1 9 rfl rfl)
theorem dJ6_rotateLeft_34 : decode cJ6_rotateLeft 34 = .ok (.getfield 124, 3) := dk_180 0 124 (dk_at dksJ6_rotateLeft_1 10 rfl rfl)
theorem dJ6_rotateLeft_37 : decode cJ6_rotateLeft 37 = .ok (.putfield 124, 3) := dk_181 0 124 (dk_at dksJ6_rotateLeft_1 13 rfl rfl)
theorem dJ6_rotateLeft_40 : decode cJ6_rotateLeft 40 = .ok (.aload_n 1, 1) := dk_43 (dk_at dksJ6_rotateLeft_1 16 rfl rfl)
theorem dJ6_rotateLeft_41 : decode cJ6_rotateLeft 41 = .ok (.getfield 124, 3) := dk_180 0 124 (dk_at dksJ6_rotateLeft_1 17 rfl rfl)
theorem dJ6_rotateLeft_44 : decode cJ6_rotateLeft 44 = .ok (.ifnonnull 11, 3) := dk_199 0 11 (dk_at dksJ6_rotateLeft_1 20 rfl rfl)
theorem dJ6_rotateLeft_47 : decode cJ6_rotateLeft 47 = .ok (.aload_n 0, 1) := dk_42 (dk_at dksJ6_rotateLeft_1 23 rfl rfl)
theorem dJ6_rotateLeft_48 : decode cJ6_rotateLeft 48 = .ok (.aload_n 2, 1) := dk_44 (dk_at dksJ6_rotateLeft_2 0 rfl rfl)
theorem dJ6_rotateLeft_49 : decode cJ6_rotateLeft 49 = .ok (.putfield 101, 3) := dk_181 0 101 (dk_at dksJ6_rotateLeft_2 1 rfl rfl)
theorem dJ6_rotateLeft_52 : decode cJ6_rotateLeft 52 = .ok (.goto 33, 3) := dk_167 0 33 (dk_at dksJ6_rotateLeft_2 4 rfl rfl)
theorem dJ6_rotateLeft_55 : decode cJ6_rotateLeft 55 = .ok (.aload_n 1, 1) := dk_43 (dk_at dksJ6_rotateLeft_2 7 rfl rfl)
theorem dJ6_rotateLeft_56 : decode cJ6_rotateLeft 56 = .ok (.getfield 124, 3) := dk_180 0 124 (dk_at dksJ6_rotateLeft_2 8 rfl rfl)
theorem dJ6_rotateLeft_59 : decode cJ6_rotateLeft 59 = .ok (.getfield 111, 3) := dk_180 0 111 (dk_at dksJ6_rotateLeft_2 11 rfl rfl)
theorem dJ6_rotateLeft_62 : decode cJ6_rotateLeft 62 = .ok (.aload_n 1, 1) := dk_43 (dk_at dksJ6_rotateLeft_2 14 rfl rfl)
theorem dJ6_rotateLeft_63 : decode cJ6_rotateLeft 63 = .ok (.if_acmp .ne 14, 3) := dk_166 0 14 (dk_at dksJ6_rotateLeft_2 15 rfl rfl)
theorem dJ6_rotateLeft_66 : decode cJ6_rotateLeft 66 = .ok (.aload_n 1, 1) := dk_43 (dk_at dksJ6_rotateLeft_2 18 rfl rfl)
theorem dJ6_rotateLeft_67 : decode cJ6_rotateLeft 67 = .ok (.getfield 124, 3) := dk_180 0 124 (dk_at dksJ6_rotateLeft_2 19 rfl rfl)
theorem dJ6_rotateLeft_70 : decode cJ6_rotateLeft 70 = .ok (.aload_n 2, 1) := dk_44 (dk_at dksJ6_rotateLeft_2 22 rfl rfl)
theorem dJ6_rotateLeft_71 : decode cJ6_rotateLeft 71 = .ok (.putfield 111, 3) := dk_181 0 111 (dk_at dksJ6_rotateLeft_3 0 rfl rfl)
theorem dJ6_rotateLeft_74 : decode cJ6_rotateLeft 74 = .ok (.goto 11, 3) := dk_167 0 11 (dk_at dksJ6_rotateLeft_3 3 rfl rfl)
theorem dJ6_rotateLeft_77 : decode cJ6_rotateLeft 77 = .ok (.aload_n 1, 1) := dk_43 (dk_at dksJ6_rotateLeft_3 6 rfl rfl)
theorem dJ6_rotateLeft_78 : decode cJ6_rotateLeft 78 = .ok (.getfield 124, 3) := dk_180 0 124 (dk_at dksJ6_rotateLeft_3 7 rfl rfl)
theorem dJ6_rotateLeft_81 : decode cJ6_rotateLeft 81 = .ok (.aload_n 2, 1) := dk_44 (dk_at dksJ6_rotateLeft_3 10 rfl rfl)
theorem dJ6_rotateLeft_82 : decode cJ6_rotateLeft 82 = .ok (.putfield 114, 3) := dk_181 0 114 (dk_at dksJ6_rotateLeft_3 11 rfl rfl)
theorem dJ6_rotateLeft_85 : decode cJ6_rotateLeft 85 = .ok (.aload_n 2, 1) := dk_44 (dk_at dksJ6_rotateLeft_3 14 rfl rfl)
theorem dJ6_rotateLeft_86 : decode cJ6_rotateLeft 86 = .ok (.aload_n 1, 1) := dk_43 (dk_at dksJ6_rotateLeft_3 15 rfl rfl)
theorem dJ6_rotateLeft_87 : decode cJ6_rotateLeft 87 = .ok (.putfield 111, 3) := dk_181 0 111 (dk_at dksJ6_rotateLeft_3 16 rfl rfl)
theorem dJ6_rotateLeft_90 : decode cJ6_rotateLeft 90 = .ok (.aload_n 1, 1) := dk_43 (dk_at dksJ6_rotateLeft_3 19 rfl rfl)
theorem dJ6_rotateLeft_91 : decode cJ6_rotateLeft 91 = .ok (.aload_n 2, 1) := dk_44 (dk_at dksJ6_rotateLeft_3 20 rfl rfl)
theorem dJ6_rotateLeft_92 : decode cJ6_rotateLeft 92 = .ok (.putfield 124, 3) := dk_181 0 124 (dk_at dksJ6_rotateLeft_3 21 rfl rfl)
theorem dJ6_rotateLeft_95 : decode cJ6_rotateLeft 95 = .ok (.return_, 1) := dk_177 (dk_at dksJ6_rotateLeft_4 0 rfl rfl)
theorem yk_J6_rotateLeft : yk yJ6_rotateLeft 1 := by unfold yk; decide +kernel
abbrev KJ6_rotateLeft (G : Gx) (d mc ms : Nat) (av : List Sv) (M : Mem) (post : Option Sv → Mem → Prop) : Prop := Ct G yJ6_rotateLeft cJ6_rotateLeft 3 ((Option.none : Option Jvm.ClassFile.FieldType)) d mc ms av M post
theorem q273 : (Jvm.Cond.fieldLink "java/util/TreeMap" (101 : Nat) "java/util/TreeMap" "root" "Ljava/util/TreeMap$Entry;") ∈ lw_all := lw_g (lw_at lw_m1 225 rfl) rfl
theorem q980 : (Jvm.Cond.fieldLink "java/util/TreeMap" (111 : Nat) "java/util/TreeMap$Entry" "left" "Ljava/util/TreeMap$Entry;") ∈ lw_all := lw_g (lw_at lw_m4 212 rfl) rfl
theorem q982 : (Jvm.Cond.fieldLink "java/util/TreeMap" (114 : Nat) "java/util/TreeMap$Entry" "right" "Ljava/util/TreeMap$Entry;") ∈ lw_all := lw_g (lw_at lw_m4 214 rfl) rfl
theorem q984 : (Jvm.Cond.fieldLink "java/util/TreeMap" (124 : Nat) "java/util/TreeMap$Entry" "parent" "Ljava/util/TreeMap$Entry;") ∈ lw_all := lw_g (lw_at lw_m4 216 rfl) rfl
/-! ===== TreeMap: rotateLeft, rotateRight, colorOf .. over the memory ===== -/
/-- the tree of the TreeMap t (fields: Entry 0 key, 1 value, 2 left, 3 right, 4 parent, 5 color; TreeMap 3 root) -/
def TMt (M : Mem) (ρ t n : Nat) (ad ps lo hi : Nat → Nat) : Prop := TT n ad ps lo hi (fun x => mR M x 2) (fun x => mR M x 3) (fun x => mR M x 4) (mR M t 3) ∧ ∀ x, Nd n ad ps x → mK M x = kEN ∧ mO M x = ρ
/-- only left, right, parent of nodes, and t's root, have changed -/
def Sh (t : Nat) (M M' : Mem) : Prop := (∀ x, mK M' x = mK M x ∧ mN M' x = mN M x ∧ mO M' x = mO M x) ∧ (∀ x k, mI M' x k = mI M x k ∧ mL M' x k = mL M x k) ∧ (∀ x k, k < 2 ∨ 4 < k → mR M' x k = mR M x k)
/-- the rotation to the left at p, right child r -/
def RL (M M' : Mem) (t p r : Nat) : Prop :=
  mR M' p 3 = mR M r 2 ∧ mR M' r 2 = some p ∧ mR M' p 4 = some r ∧ mR M' r 4 = mR M p 4 ∧
  (∀ x, mR M r 2 = some x → mR M' x 4 = some p) ∧ (∀ x, x ≠ p → x ≠ r → mR M r 2 ≠ some x → mR M' x 4 = mR M x 4) ∧
  (mR M p 4 = none → mR M' t 3 = some r) ∧ (mR M p 4 ≠ none → mR M' t 3 = mR M t 3) ∧
  (∀ q, mR M p 4 = some q → mR M q 2 = some p → mR M' q 2 = some r) ∧ (∀ q, mR M p 4 = some q → mR M q 2 ≠ some p → mR M' q 3 = some r) ∧
  (∀ x, x ≠ r → ¬ (mR M p 4 = some x ∧ mR M x 2 = some p) → mR M' x 2 = mR M x 2) ∧ (∀ x, x ≠ p → x ≠ t → ¬ (mR M p 4 = some x ∧ mR M x 2 ≠ some p) → mR M' x 3 = mR M x 3) ∧
  Sh t M M'
def RR (M M' : Mem) (t p r : Nat) : Prop :=
  mR M' p 2 = mR M r 3 ∧ mR M' r 3 = some p ∧ mR M' p 4 = some r ∧ mR M' r 4 = mR M p 4 ∧
  (∀ x, mR M r 3 = some x → mR M' x 4 = some p) ∧ (∀ x, x ≠ p → x ≠ r → mR M r 3 ≠ some x → mR M' x 4 = mR M x 4) ∧
  (mR M p 4 = none → mR M' t 3 = some r) ∧ (mR M p 4 ≠ none → mR M' t 3 = mR M t 3) ∧
  (∀ q, mR M p 4 = some q → mR M q 3 = some p → mR M' q 3 = some r) ∧ (∀ q, mR M p 4 = some q → mR M q 3 ≠ some p → mR M' q 2 = some r) ∧
  (∀ x, x ≠ r → x ≠ t → ¬ (mR M p 4 = some x ∧ mR M x 3 = some p) → mR M' x 3 = mR M x 3) ∧ (∀ x, x ≠ p → ¬ (mR M p 4 = some x ∧ mR M x 3 ≠ some p) → mR M' x 2 = mR M x 2) ∧
  Sh t M M'
section Rot
variable {G : Gx} {M M' : Mem} {ρ t n : Nat} {ad ps lo hi : Nat → Nat}
theorem TMt.ne (hT : TMt M ρ t n ad ps lo hi) (ht : mK M t = kTM) {x : Nat} (hx : Nd n ad ps x) : x ≠ t := by
  intro e; subst e
  have := (hT.2 x hx).1
  rw [ht] at this; cases this
theorem TMt.kinds (hT : TMt M ρ t n ad ps lo hi) (h : Sh t M M') : ∀ x, Nd n ad ps x → mK M' x = kEN ∧ mO M' x = ρ := fun x hx => ⟨by rw [(h.1 x).1]; exact (hT.2 x hx).1, by rw [(h.1 x).2.2]; exact (hT.2 x hx).2⟩
theorem TMt.rotL (hT : TMt M ρ t n ad ps lo hi) (ht : mK M t = kTM) {p r : Nat} (hp : Nd n ad ps p) (hr : mR M p 3 = some r) (h : RL M M' t p r) : TMt M' ρ t n ad ps (fun x => if x = r then lo p else lo x) (fun x => if x = p then ps r else hi x) := by
  obtain ⟨a1, a2, a3, a4, a5, a6, a7, a8, a9, a10, a11, a12, hS⟩ := h
  refine ⟨?_, hT.kinds hS⟩
  have hnt : ∀ x, Nd n ad ps x → x ≠ t := fun x hx => hT.ne ht hx
  -- R' off the nodes is of no account: take R itself at t
  have h0 := TT.rotL (L' := fun x => mR M' x 2) (R' := fun x => if x = t then mR M x 3 else mR M' x 3) (P' := fun x => mR M' x 4) (rt' := mR M' t 3) hT.1 hp hr
    (by show (if p = t then _ else _) = _; rw [if_neg (hnt p hp)]; exact a1) a2 a3 a4 a5 a6 a7 a8 a9
    (fun q h1 h2 => by show (if q = t then _ else _) = _; rw [if_neg (hnt q (hT.1.2.2.2.2.2.2.2.1 p q hp h1).1)]; exact a10 q h1 h2) a11
    (fun x h1 h2 => by
      show (if x = t then _ else _) = _
      by_cases e : x = t
      · rw [if_pos e]
      · rw [if_neg e]; exact a12 x h1 e h2)
  obtain ⟨c1, c2, c3, c4, c5, c6, c7, c8, c9, c10⟩ := h0
  refine ⟨c1, c2, c3, c4, fun x hx hn => c5 x hx ?_, fun x y hx hn => c6 x y hx ?_, c7, fun x y hx hn => ?_, c9, c10⟩
  · show (if x = t then _ else _) = _; rw [if_neg (hnt x hx)]; exact hn
  · show (if x = t then _ else _) = _; rw [if_neg (hnt x hx)]; exact hn
  · obtain ⟨d1, d2⟩ := c8 x y hx hn
    refine ⟨d1, ?_⟩
    have : (if y = t then mR M y 3 else mR M' y 3) = mR M' y 3 := if_neg (hnt y d1)
    simpa [this] using d2
theorem TMt.rotR (hT : TMt M ρ t n ad ps lo hi) (ht : mK M t = kTM) {p r : Nat} (hp : Nd n ad ps p) (hr : mR M p 2 = some r) (h : RR M M' t p r) : TMt M' ρ t n ad ps (fun x => if x = p then ps r + 1 else lo x) (fun x => if x = r then hi p else hi x) := by
  obtain ⟨a1, a2, a3, a4, a5, a6, a7, a8, a9, a10, a11, a12, hS⟩ := h
  refine ⟨?_, hT.kinds hS⟩
  have hnt : ∀ x, Nd n ad ps x → x ≠ t := fun x hx => hT.ne ht hx
  have hrr := (hT.1.2.2.2.1 p r hp hr).1
  have h0 := TT.rotR (R' := fun x => if x = t then mR M x 3 else mR M' x 3) (L' := fun x => mR M' x 2) (P' := fun x => mR M' x 4) (rt' := mR M' t 3) hT.1 hp hr
    a1 (by show (if r = t then _ else _) = _; rw [if_neg (hnt r hrr)]; exact a2) a3 a4 a5 a6 a7 a8
    (fun q h1 h2 => by show (if q = t then _ else _) = _; rw [if_neg (hnt q (hT.1.2.2.2.2.2.2.2.1 p q hp h1).1)]; exact a9 q h1 h2) a10
    (fun x h1 h2 => by
      show (if x = t then _ else _) = _
      by_cases e : x = t
      · rw [if_pos e]
      · rw [if_neg e]; exact a11 x h1 e h2) a12
  obtain ⟨c1, c2, c3, c4, c5, c6, c7, c8, c9, c10⟩ := h0
  refine ⟨c1, c2, c3, c4, fun x hx hn => c5 x hx ?_, fun x y hx hn => c6 x y hx ?_, c7, fun x y hx hn => ?_, c9, c10⟩
  · show (if x = t then _ else _) = _; rw [if_neg (hnt x hx)]; exact hn
  · show (if x = t then _ else _) = _; rw [if_neg (hnt x hx)]; exact hn
  · obtain ⟨d1, d2⟩ := c8 x y hx hn
    refine ⟨d1, ?_⟩
    have : (if y = t then mR M y 3 else mR M' y 3) = mR M' y 3 := if_neg (hnt y d1)
    simpa [this] using d2
theorem ct_rotL (hB : Base G) (ht : mK M t = kTM) (hT : TMt M ρ t n ad ps lo hi) {p r : Nat} (hp : Nd n ad ps p) (hr : mR M p 3 = some r) : KJ6_rotateLeft G 1 0 0 [vr (some t), vr (some p)] M (fun v M' => v = none ∧ RL M M' t p r) := by
  have hnt : ∀ x, Nd n ad ps x → x ≠ t := fun x hx => hT.ne ht hx
  obtain ⟨hTT, hk⟩ := hT
  obtain ⟨h1, h2, h3, h4, h5, h6, h7, h8, h9, h10⟩ := hTT
  have hkp := (hk p hp).1
  obtain ⟨hrN, hrP, hrl, hrh⟩ := h6 p r hp hr
  have hkr := (hk r hrN).1
  have hpt := hnt p hp
  have hrt := hnt r hrN
  have b1 := h2 p hp
  have b2 := h2 r hrN
  have hrp : r ≠ p := by intro e; subst e; omega
  have hpr : p ≠ r := hrp.symm
  have hq : ∀ q, mR M p 4 = some q → Nd n ad ps q ∧ q ≠ t ∧ q ≠ p ∧ q ≠ r ∧ mK M q = kEN ∧ (mR M q 2 = some p ∨ mR M q 3 = some p) := by
    intro q e
    obtain ⟨c1, c2⟩ := h8 p q hp e
    have c3 := h2 q c1
    refine ⟨c1, hnt q c1, ?_, ?_, (hk q c1).1, c2⟩
    · intro z; subst z
      rcases c2 with c2 | c2
      · have := h4 q q hp c2; omega
      · have := h6 q q hp c2; omega
    · intro z; subst z
      rcases c2 with c2 | c2
      · have := h4 q p c1 c2; omega
      · have := h6 q p c1 c2; omega
  have hy : ∀ y, mR M r 2 = some y → Nd n ad ps y ∧ y ≠ t ∧ y ≠ p ∧ y ≠ r ∧ mK M y = kEN ∧ mR M y 4 = some r := by
    intro y e
    obtain ⟨c1, c2, c3, c4⟩ := h4 r y hrN e
    have c5 := h2 y c1
    refine ⟨c1, hnt y c1, ?_, ?_, (hk y c1).1, c2⟩
    · intro z; subst z; omega
    · intro z; subst z; omega
  have join : ∀ C, Ok C G cJ6_rotateLeft RJ6 "rotateLeft" 1 0 0 → Rt C G none 0 0 (fun v M' => v = none ∧ RL M M' t p r) → ∀ M2 : Mem, (∀ x, mR M2 x 2 = mR M x 2) → mR M2 p 3 = mR M r 2 → (∀ x, x ≠ p → mR M2 x 3 = mR M x 3) → (∀ x, mR M r 2 = some x → mR M2 x 4 = some p) → (∀ x, mR M r 2 ≠ some x → mR M2 x 4 = mR M x 4) → Sh t M M2 → Go C 32 [some (vr (some t)), some (vr (some p)), some (vr (some r))] [] M2 0 0 := by
    intro C hC hQ M2 k2 k3 k3' k4 k4' hS
    obtain ⟨s1, s2, s3⟩ := hS
    have hkt : mK M2 t = kTM := by rw [(s1 t).1]; exact ht
    have hkp : mK M2 p = kEN := by rw [(s1 p).1]; exact hkp
    have hkr : mK M2 r = kEN := by rw [(s1 r).1]; exact hkr
    have hp4 : mR M2 p 4 = mR M p 4 := k4' p (fun e => (hy p e).2.2.1 rfl)
    refine g_aload_n hC dJ6_rotateLeft_32 rfl ?_
    refine g_aload_n hC dJ6_rotateLeft_33 rfl ?_
    refine g_getR hC (ci := 9) (by first | exact rfl | assumption) (by first | assumption | (simp only [mK_sI, mK_sR, mK_sL, mK_sO, mK_nw, mK_sK]; first | assumption | (simp only [*]; done))) rfl 4 (by decide) q984 (Or.inl rfl) rfl dJ6_rotateLeft_34 ?_
    refine g_putR hC (ci := 9) (by first | exact rfl | assumption) (by first | assumption | (simp only [mK_sI, mK_sR, mK_sL, mK_sO, mK_nw, mK_sK]; first | assumption | (simp only [*]; done))) rfl 4 (by decide) q984 (Or.inl rfl) (Or.inl rfl) rfl dJ6_rotateLeft_37 ?_
    refine g_aload_n hC dJ6_rotateLeft_40 rfl ?_
    refine g_getR hC (ci := 9) (by first | exact rfl | assumption) (by first | assumption | (simp only [mK_sI, mK_sR, mK_sL, mK_sO, mK_nw, mK_sK]; first | assumption | (simp only [*]; done))) rfl 4 (by decide) q984 (Or.inl rfl) rfl dJ6_rotateLeft_41 ?_
    have e1 : mR (sR M2 r 4 (mR M2 p 4)) p 4 = mR M p 4 := by rw [mR_sR]; simp [hpr, hp4]
    rw [e1]
    refine g_ifnonnull hC 55 dJ6_rotateLeft_44 (by decide) (fun q hc => ?_) (fun hc => ?_)
    · obtain ⟨d1, d2, d3, d4, d5, d6⟩ := hq q hc
      have hkq : mK M2 q = kEN := by rw [(s1 q).1]; exact d5
      refine g_aload_n hC dJ6_rotateLeft_55 rfl ?_
      refine g_getR hC (ci := 9) (by first | exact rfl | assumption) (by first | assumption | (simp only [mK_sI, mK_sR, mK_sL, mK_sO, mK_nw, mK_sK]; first | assumption | (simp only [*]; done))) rfl 4 (by decide) q984 (Or.inl rfl) rfl dJ6_rotateLeft_56 ?_
      rw [e1]
      refine g_getR hC (ci := 9) (by first | exact rfl | assumption) (by first | assumption | (simp only [mK_sI, mK_sR, mK_sL, mK_sO, mK_nw, mK_sK]; first | assumption | (simp only [*]; done))) rfl 2 (by decide) q980 (Or.inl rfl) rfl dJ6_rotateLeft_59 ?_
      refine g_aload_n hC dJ6_rotateLeft_62 rfl ?_
      have e2 : mR (sR M2 r 4 (mR M2 p 4)) q 2 = mR M q 2 := k2 q
      rw [e2]
      refine g_acmp_ne hC 77 dJ6_rotateLeft_63 (by decide) (fun hc2 => ?_) (fun hc2 => ?_)
      · refine g_aload_n hC dJ6_rotateLeft_77 rfl ?_
        refine g_getR hC (ci := 9) (by first | exact rfl | assumption) (by first | assumption | (simp only [mK_sI, mK_sR, mK_sL, mK_sO, mK_nw, mK_sK]; first | assumption | (simp only [*]; done))) rfl 4 (by decide) q984 (Or.inl rfl) rfl dJ6_rotateLeft_78 ?_
        rw [e1]
        refine g_aload_n hC dJ6_rotateLeft_81 rfl ?_
        refine g_putR hC (ci := 9) (by first | exact rfl | assumption) (by first | assumption | (simp only [mK_sI, mK_sR, mK_sL, mK_sO, mK_nw, mK_sK]; first | assumption | (simp only [*]; done))) rfl 3 (by decide) q982 (Or.inl rfl) (Or.inl rfl) rfl dJ6_rotateLeft_82 ?_
        refine g_aload_n hC dJ6_rotateLeft_85 rfl ?_
        refine g_aload_n hC dJ6_rotateLeft_86 rfl ?_
        refine g_putR hC (ci := 9) (by first | exact rfl | assumption) (by first | assumption | (simp only [mK_sI, mK_sR, mK_sL, mK_sO, mK_nw, mK_sK]; first | assumption | (simp only [*]; done))) rfl 2 (by decide) q980 (Or.inl rfl) (Or.inl rfl) rfl dJ6_rotateLeft_87 ?_
        refine g_aload_n hC dJ6_rotateLeft_90 rfl ?_
        refine g_aload_n hC dJ6_rotateLeft_91 rfl ?_
        refine g_putR hC (ci := 9) (by first | exact rfl | assumption) (by first | assumption | (simp only [mK_sI, mK_sR, mK_sL, mK_sO, mK_nw, mK_sK]; first | assumption | (simp only [*]; done))) rfl 4 (by decide) q984 (Or.inl rfl) (Or.inl rfl) rfl dJ6_rotateLeft_92 ?_
        refine g_vret hC hQ (by omega) (by omega) dJ6_rotateLeft_95 ?_
        refine ⟨rfl, ?_⟩
        unfold RL Sh
        simp only [mK_sR, mN_sR, mO_sR, mI_sR, mL_sR, mR_sR]
        refine ⟨?_, ?_, ?_, ?_, ?_, ?_, ?_, ?_, ?_, ?_, ?_, ?_, s1, s2, ?_⟩ <;> grind
      · refine g_aload_n hC dJ6_rotateLeft_66 rfl ?_
        refine g_getR hC (ci := 9) (by first | exact rfl | assumption) (by first | assumption | (simp only [mK_sI, mK_sR, mK_sL, mK_sO, mK_nw, mK_sK]; first | assumption | (simp only [*]; done))) rfl 4 (by decide) q984 (Or.inl rfl) rfl dJ6_rotateLeft_67 ?_
        rw [e1]
        refine g_aload_n hC dJ6_rotateLeft_70 rfl ?_
        refine g_putR hC (ci := 9) (by first | exact rfl | assumption) (by first | assumption | (simp only [mK_sI, mK_sR, mK_sL, mK_sO, mK_nw, mK_sK]; first | assumption | (simp only [*]; done))) rfl 2 (by decide) q980 (Or.inl rfl) (Or.inl rfl) rfl dJ6_rotateLeft_71 ?_
        refine g_goto hC 85 dJ6_rotateLeft_74 (by decide) ?_
        refine g_aload_n hC dJ6_rotateLeft_85 rfl ?_
        refine g_aload_n hC dJ6_rotateLeft_86 rfl ?_
        refine g_putR hC (ci := 9) (by first | exact rfl | assumption) (by first | assumption | (simp only [mK_sI, mK_sR, mK_sL, mK_sO, mK_nw, mK_sK]; first | assumption | (simp only [*]; done))) rfl 2 (by decide) q980 (Or.inl rfl) (Or.inl rfl) rfl dJ6_rotateLeft_87 ?_
        refine g_aload_n hC dJ6_rotateLeft_90 rfl ?_
        refine g_aload_n hC dJ6_rotateLeft_91 rfl ?_
        refine g_putR hC (ci := 9) (by first | exact rfl | assumption) (by first | assumption | (simp only [mK_sI, mK_sR, mK_sL, mK_sO, mK_nw, mK_sK]; first | assumption | (simp only [*]; done))) rfl 4 (by decide) q984 (Or.inl rfl) (Or.inl rfl) rfl dJ6_rotateLeft_92 ?_
        refine g_vret hC hQ (by omega) (by omega) dJ6_rotateLeft_95 ?_
        refine ⟨rfl, ?_⟩
        unfold RL Sh
        simp only [mK_sR, mN_sR, mO_sR, mI_sR, mL_sR, mR_sR]
        refine ⟨?_, ?_, ?_, ?_, ?_, ?_, ?_, ?_, ?_, ?_, ?_, ?_, s1, s2, ?_⟩ <;> grind
    · refine g_aload_n hC dJ6_rotateLeft_47 rfl ?_
      refine g_aload_n hC dJ6_rotateLeft_48 rfl ?_
      refine g_putR hC (ci := 8) (by first | exact rfl | assumption) (by first | assumption | (simp only [mK_sI, mK_sR, mK_sL, mK_sO, mK_nw, mK_sK]; first | assumption | (simp only [*]; done))) rfl 3 (by decide) q273 (Or.inl rfl) (Or.inl rfl) rfl dJ6_rotateLeft_49 ?_
      refine g_goto hC 85 dJ6_rotateLeft_52 (by decide) ?_
      refine g_aload_n hC dJ6_rotateLeft_85 rfl ?_
      refine g_aload_n hC dJ6_rotateLeft_86 rfl ?_
      refine g_putR hC (ci := 9) (by first | exact rfl | assumption) (by first | assumption | (simp only [mK_sI, mK_sR, mK_sL, mK_sO, mK_nw, mK_sK]; first | assumption | (simp only [*]; done))) rfl 2 (by decide) q980 (Or.inl rfl) (Or.inl rfl) rfl dJ6_rotateLeft_87 ?_
      refine g_aload_n hC dJ6_rotateLeft_90 rfl ?_
      refine g_aload_n hC dJ6_rotateLeft_91 rfl ?_
      refine g_putR hC (ci := 9) (by first | exact rfl | assumption) (by first | assumption | (simp only [mK_sI, mK_sR, mK_sL, mK_sO, mK_nw, mK_sK]; first | assumption | (simp only [*]; done))) rfl 4 (by decide) q984 (Or.inl rfl) (Or.inl rfl) rfl dJ6_rotateLeft_92 ?_
      refine g_vret hC hQ (by omega) (by omega) dJ6_rotateLeft_95 ?_
      refine ⟨rfl, ?_⟩
      unfold RL Sh
      simp only [mK_sR, mN_sR, mO_sR, mI_sR, mL_sR, mR_sR]
      refine ⟨?_, ?_, ?_, ?_, ?_, ?_, ?_, ?_, ?_, ?_, ?_, ?_, s1, s2, ?_⟩ <;> grind
  refine Ct.of (own := RJ6) (nm := "rotateLeft") hB (by decide) rfl rfl rfl rfl (fun C hC hQ => ?_)
  refine g_aload_n hC dJ6_rotateLeft_0 rfl ?_
  refine g_ifnull hC 95 dJ6_rotateLeft_1 (by decide) (fun hc => ?_) (fun y1 hc => ?_)
  · cases hc
  · refine g_aload_n hC dJ6_rotateLeft_4 rfl ?_
    refine g_getR hC (ci := 9) (by first | exact rfl | assumption) (by first | assumption | (simp only [mK_sI, mK_sR, mK_sL, mK_sO, mK_nw, mK_sK]; first | assumption | (simp only [*]; done))) rfl 3 (by decide) q982 (Or.inl rfl) rfl dJ6_rotateLeft_5 ?_
    rw [hr]
    refine g_astore_n hC dJ6_rotateLeft_8 rfl rfl ?_
    try simp only [stL, clr]
    refine g_aload_n hC dJ6_rotateLeft_9 rfl ?_
    refine g_aload_n hC dJ6_rotateLeft_10 rfl ?_
    refine g_getR hC (ci := 9) (by first | exact rfl | assumption) (by first | assumption | (simp only [mK_sI, mK_sR, mK_sL, mK_sO, mK_nw, mK_sK]; first | assumption | (simp only [*]; done))) rfl 2 (by decide) q980 (Or.inl rfl) rfl dJ6_rotateLeft_11 ?_
    refine g_putR hC (ci := 9) (by first | exact rfl | assumption) (by first | assumption | (simp only [mK_sI, mK_sR, mK_sL, mK_sO, mK_nw, mK_sK]; first | assumption | (simp only [*]; done))) rfl 3 (by decide) q982 (Or.inl rfl) (Or.inl rfl) rfl dJ6_rotateLeft_14 ?_
    refine g_aload_n hC dJ6_rotateLeft_17 rfl ?_
    refine g_getR hC (ci := 9) (by first | exact rfl | assumption) (by first | assumption | (simp only [mK_sI, mK_sR, mK_sL, mK_sO, mK_nw, mK_sK]; first | assumption | (simp only [*]; done))) rfl 2 (by decide) q980 (Or.inl rfl) rfl dJ6_rotateLeft_18 ?_
    refine g_ifnull hC 32 dJ6_rotateLeft_21 (by decide) (fun hl => ?_) (fun y hl => ?_)
    · have hl : mR M r 2 = none := hl
      refine join C hC hQ _ (fun x => rfl) ?_ ?_ ?_ ?_ ⟨fun x => ⟨rfl, rfl, rfl⟩, fun x k => ⟨rfl, rfl⟩, ?_⟩
      · rw [mR_sR]; simp
      · intro x hx; rw [mR_sR]; simp [hx]
      · intro x e; rw [hl] at e; cases e
      · intro x e; rw [mR_sR]; simp
      · intro x k e; rw [mR_sR]; rw [if_neg (by omega)]
    · have hl : mR M r 2 = some y := hl
      obtain ⟨d1, d2, d3, d4, d5, d6⟩ := hy y hl
      refine g_aload_n hC dJ6_rotateLeft_24 rfl ?_
      refine g_getR hC (ci := 9) (by first | exact rfl | assumption) (by first | assumption | (simp only [mK_sI, mK_sR, mK_sL, mK_sO, mK_nw, mK_sK]; first | assumption | (simp only [*]; done))) rfl 2 (by decide) q980 (Or.inl rfl) rfl dJ6_rotateLeft_25 ?_
      refine g_aload_n hC dJ6_rotateLeft_28 rfl ?_
      refine g_putR hC (ci := 9) (by first | exact rfl | assumption) (by first | assumption | (simp only [mK_sI, mK_sR, mK_sL, mK_sO, mK_nw, mK_sK]; first | assumption | (simp only [*]; done))) rfl 4 (by decide) q984 (Or.inl rfl) (Or.inl rfl) rfl dJ6_rotateLeft_29 ?_
      refine join C hC hQ _ ?_ ?_ ?_ ?_ ?_ ⟨fun x => ⟨rfl, rfl, rfl⟩, fun x k => ⟨rfl, rfl⟩, ?_⟩
      · intro x; simp [mR_sR]
      · simp [mR_sR]
      · intro x hx; simp [mR_sR, hx]
      · intro x e; rw [hl] at e; cases e; simp [mR_sR]
      · intro x e
        have : x ≠ y := by intro z; subst z; exact e hl
        simp [mR_sR, this]
      · intro x k e; rw [mR_sR, mR_sR]; rw [if_neg (by omega), if_neg (by omega)]
end Rot

