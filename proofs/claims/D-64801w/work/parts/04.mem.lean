/-! ===== the abstract memory: kind, length, region (ghost), ints, references, longs of every address ===== -/
abbrev Mem : Type := (Nat → Nat) × (Nat → Nat) × (Nat → Nat) × (Nat → Nat → Int32) × (Nat → Nat → Option Nat) × (Nat → Nat → Int64)
def mK (M : Mem) (a : Nat) : Nat := M.1 a
def mN (M : Mem) (a : Nat) : Nat := M.2.1 a
def mO (M : Mem) (a : Nat) : Nat := M.2.2.1 a
def mI (M : Mem) (a k : Nat) : Int32 := M.2.2.2.1 a k
def mR (M : Mem) (a k : Nat) : Option Nat := M.2.2.2.2.1 a k
def mL (M : Mem) (a k : Nat) : Int64 := M.2.2.2.2.2 a k
def up1 {α : Type} (f : Nat → α) (a : Nat) (v : α) : Nat → α := fun x => if x = a then v else f x
def up2 {α : Type} (f : Nat → Nat → α) (a k : Nat) (v : α) : Nat → Nat → α := fun x j => if j = k then (if x = a then v else f x j) else f x j
def upA {α : Type} (f : Nat → Nat → α) (a : Nat) (v : Nat → α) : Nat → Nat → α := fun x => if x = a then v else f x
def sI (M : Mem) (a k : Nat) (v : Int32) : Mem := (M.1, M.2.1, M.2.2.1, up2 M.2.2.2.1 a k v, M.2.2.2.2.1, M.2.2.2.2.2)
def sR (M : Mem) (a k : Nat) (v : Option Nat) : Mem := (M.1, M.2.1, M.2.2.1, M.2.2.2.1, up2 M.2.2.2.2.1 a k v, M.2.2.2.2.2)
def sL (M : Mem) (a k : Nat) (v : Int64) : Mem := (M.1, M.2.1, M.2.2.1, M.2.2.2.1, M.2.2.2.2.1, up2 M.2.2.2.2.2 a k v)
/-- a new cell at a: kind κ, length n, region ρ, all zero or null -/
def nw (M : Mem) (a κ n ρ : Nat) : Mem := (up1 M.1 a κ, up1 M.2.1 a n, up1 M.2.2.1 a ρ, upA M.2.2.2.1 a (fun _ => 0), upA M.2.2.2.2.1 a (fun _ => none), upA M.2.2.2.2.2 a (fun _ => 0))
/-- another kind, another region (ghosts) -/
def sK (M : Mem) (a κ : Nat) : Mem := (up1 M.1 a κ, M.2)
def sO (M : Mem) (a ρ : Nat) : Mem := (M.1, M.2.1, up1 M.2.2.1 a ρ, M.2.2.2)
/-- a whole array's contents -/
def sAI (M : Mem) (a : Nat) (f : Nat → Int32) : Mem := (M.1, M.2.1, M.2.2.1, upA M.2.2.2.1 a f, M.2.2.2.2.1, M.2.2.2.2.2)
def sAR (M : Mem) (a : Nat) (f : Nat → Option Nat) : Mem := (M.1, M.2.1, M.2.2.1, M.2.2.2.1, upA M.2.2.2.2.1 a f, M.2.2.2.2.2)
def sAL (M : Mem) (a : Nat) (f : Nat → Int64) : Mem := (M.1, M.2.1, M.2.2.1, M.2.2.2.1, M.2.2.2.2.1, upA M.2.2.2.2.2 a f)
section MemLaws
variable (M : Mem) (a k κ n ρ b j : Nat) (x : Int32) (r : Option Nat) (y : Int64)
theorem mK_sI : mK (sI M a k x) b = mK M b := rfl
theorem mN_sI : mN (sI M a k x) b = mN M b := rfl
theorem mO_sI : mO (sI M a k x) b = mO M b := rfl
theorem mI_sI : mI (sI M a k x) b j = if j = k then (if b = a then x else mI M b j) else mI M b j := rfl
theorem mR_sI : mR (sI M a k x) b j = mR M b j := rfl
theorem mL_sI : mL (sI M a k x) b j = mL M b j := rfl
theorem mK_sR : mK (sR M a k r) b = mK M b := rfl
theorem mN_sR : mN (sR M a k r) b = mN M b := rfl
theorem mO_sR : mO (sR M a k r) b = mO M b := rfl
theorem mI_sR : mI (sR M a k r) b j = mI M b j := rfl
theorem mR_sR : mR (sR M a k r) b j = if j = k then (if b = a then r else mR M b j) else mR M b j := rfl
theorem mL_sR : mL (sR M a k r) b j = mL M b j := rfl
theorem mK_sL : mK (sL M a k y) b = mK M b := rfl
theorem mN_sL : mN (sL M a k y) b = mN M b := rfl
theorem mO_sL : mO (sL M a k y) b = mO M b := rfl
theorem mI_sL : mI (sL M a k y) b j = mI M b j := rfl
theorem mR_sL : mR (sL M a k y) b j = mR M b j := rfl
theorem mL_sL : mL (sL M a k y) b j = if j = k then (if b = a then y else mL M b j) else mL M b j := rfl
theorem mK_nw : mK (nw M a κ n ρ) b = if b = a then κ else mK M b := rfl
theorem mN_nw : mN (nw M a κ n ρ) b = if b = a then n else mN M b := rfl
theorem mO_nw : mO (nw M a κ n ρ) b = if b = a then ρ else mO M b := rfl
theorem mI_nw : mI (nw M a κ n ρ) b j = if b = a then 0 else mI M b j := by
  show (upA M.2.2.2.1 a (fun _ => 0)) b j = _
  unfold upA; by_cases h : b = a <;> simp [h, mI]
theorem mR_nw : mR (nw M a κ n ρ) b j = if b = a then none else mR M b j := by
  show (upA M.2.2.2.2.1 a (fun _ => none)) b j = _
  unfold upA; by_cases h : b = a <;> simp [h, mR]
theorem mL_nw : mL (nw M a κ n ρ) b j = if b = a then 0 else mL M b j := by
  show (upA M.2.2.2.2.2 a (fun _ => 0)) b j = _
  unfold upA; by_cases h : b = a <;> simp [h, mL]
theorem mK_sK : mK (sK M a κ) b = if b = a then κ else mK M b := rfl
theorem mN_sK : mN (sK M a κ) b = mN M b := rfl
theorem mO_sK : mO (sK M a κ) b = mO M b := rfl
theorem mI_sK : mI (sK M a κ) b j = mI M b j := rfl
theorem mR_sK : mR (sK M a κ) b j = mR M b j := rfl
theorem mL_sK : mL (sK M a κ) b j = mL M b j := rfl
theorem mK_sO : mK (sO M a ρ) b = mK M b := rfl
theorem mN_sO : mN (sO M a ρ) b = mN M b := rfl
theorem mO_sO : mO (sO M a ρ) b = if b = a then ρ else mO M b := rfl
theorem mI_sO : mI (sO M a ρ) b j = mI M b j := rfl
theorem mR_sO : mR (sO M a ρ) b j = mR M b j := rfl
theorem mL_sO : mL (sO M a ρ) b j = mL M b j := rfl
variable (f : Nat → Int32) (g : Nat → Option Nat) (h : Nat → Int64)
theorem mK_sAI : mK (sAI M a f) b = mK M b := rfl
theorem mN_sAI : mN (sAI M a f) b = mN M b := rfl
theorem mO_sAI : mO (sAI M a f) b = mO M b := rfl
theorem mI_sAI : mI (sAI M a f) b j = if b = a then f j else mI M b j := by
  show (upA M.2.2.2.1 a f) b j = _
  unfold upA; by_cases h : b = a <;> simp [h, mI]
theorem mR_sAI : mR (sAI M a f) b j = mR M b j := rfl
theorem mL_sAI : mL (sAI M a f) b j = mL M b j := rfl
theorem mK_sAR : mK (sAR M a g) b = mK M b := rfl
theorem mN_sAR : mN (sAR M a g) b = mN M b := rfl
theorem mO_sAR : mO (sAR M a g) b = mO M b := rfl
theorem mI_sAR : mI (sAR M a g) b j = mI M b j := rfl
theorem mR_sAR : mR (sAR M a g) b j = if b = a then g j else mR M b j := by
  show (upA M.2.2.2.2.1 a g) b j = _
  unfold upA; by_cases h : b = a <;> simp [h, mR]
theorem mL_sAR : mL (sAR M a g) b j = mL M b j := rfl
theorem mK_sAL : mK (sAL M a h) b = mK M b := rfl
theorem mN_sAL : mN (sAL M a h) b = mN M b := rfl
theorem mO_sAL : mO (sAL M a h) b = mO M b := rfl
theorem mI_sAL : mI (sAL M a h) b j = mI M b j := rfl
theorem mR_sAL : mR (sAL M a h) b j = mR M b j := rfl
theorem mL_sAL : mL (sAL M a h) b j = if b = a then h j else mL M b j := by
  show (upA M.2.2.2.2.2 a h) b j = _
  unfold upA; by_cases e : b = a <;> simp [e, mL]
end MemLaws
/-! ===== one memory behind another: what isn't of the regions P stays; kinds, lengths, regions stay ===== -/
def Kp (M M' : Mem) (a : Nat) : Prop := ∀ k : Nat, mI M' a k = mI M a k ∧ mR M' a k = mR M a k ∧ mL M' a k = mL M a k
def Fr (P : Nat → Prop) (M M' : Mem) : Prop := ∀ a : Nat, mK M a ≠ 0 → mK M' a = mK M a ∧ mN M' a = mN M a ∧ mO M' a = mO M a ∧ (¬ P (mO M a) → Kp M M' a)
theorem Kp.rf (M : Mem) (a : Nat) : Kp M M a := fun _ => ⟨rfl, rfl, rfl⟩
theorem Kp.tr {M M1 M2 : Mem} {a : Nat} (h1 : Kp M M1 a) (h2 : Kp M1 M2 a) : Kp M M2 a := fun k =>
  ⟨(h2 k).1.trans (h1 k).1, (h2 k).2.1.trans (h1 k).2.1, (h2 k).2.2.trans (h1 k).2.2⟩
theorem Fr.rf (P : Nat → Prop) (M : Mem) : Fr P M M := fun _ _ => ⟨rfl, rfl, rfl, fun _ => Kp.rf M _⟩
theorem Fr.tr {P : Nat → Prop} {M M1 M2 : Mem} (h1 : Fr P M M1) (h2 : Fr P M1 M2) : Fr P M M2 := by
  intro a ha
  obtain ⟨k1, n1, o1, v1⟩ := h1 a ha
  obtain ⟨k2, n2, o2, v2⟩ := h2 a (by rw [k1]; exact ha)
  exact ⟨k2.trans k1, n2.trans n1, o2.trans o1, fun hp => (v1 hp).tr (v2 (by rw [o1]; exact hp))⟩
theorem Fr.mono {P P' : Nat → Prop} {M M1 : Mem} (h1 : Fr P M M1) (hp : ∀ r, P r → P' r) : Fr P' M M1 := fun a ha =>
  ⟨(h1 a ha).1, (h1 a ha).2.1, (h1 a ha).2.2.1, fun h => (h1 a ha).2.2.2 (fun q => h (hp _ q))⟩
theorem Fr.k {P : Nat → Prop} {M M1 : Mem} {a κ : Nat} (h : Fr P M M1) (hk : mK M a = κ) (h0 : κ ≠ 0) : mK M1 a = κ := ((h a (by rw [hk]; exact h0)).1).trans hk
theorem Fr.n {P : Nat → Prop} {M M1 : Mem} {a n : Nat} (h : Fr P M M1) (h0 : mK M a ≠ 0) (hk : mN M a = n) : mN M1 a = n := ((h a h0).2.1).trans hk
theorem Fr.o {P : Nat → Prop} {M M1 : Mem} {a n : Nat} (h : Fr P M M1) (h0 : mK M a ≠ 0) (hk : mO M a = n) : mO M1 a = n := ((h a h0).2.2.1).trans hk
theorem Fr.i {P : Nat → Prop} {M M1 : Mem} {a : Nat} (h : Fr P M M1) (h0 : mK M a ≠ 0) (hp : ¬ P (mO M a)) (k : Nat) : mI M1 a k = mI M a k := ((h a h0).2.2.2 hp k).1
theorem Fr.r {P : Nat → Prop} {M M1 : Mem} {a : Nat} (h : Fr P M M1) (h0 : mK M a ≠ 0) (hp : ¬ P (mO M a)) (k : Nat) : mR M1 a k = mR M a k := ((h a h0).2.2.2 hp k).2.1
theorem Fr.l {P : Nat → Prop} {M M1 : Mem} {a : Nat} (h : Fr P M M1) (h0 : mK M a ≠ 0) (hp : ¬ P (mO M a)) (k : Nat) : mL M1 a k = mL M a k := ((h a h0).2.2.2 hp k).2.2
theorem Fr.sI {P : Nat → Prop} {M : Mem} {a k : Nat} {x : Int32} (hp : P (mO M a)) : Fr P M (sI M a k x) := fun b _ =>
  ⟨rfl, rfl, rfl, fun q j => ⟨by
    rw [mI_sI]
    by_cases e : b = a
    · exact absurd (e ▸ hp) q
    · simp [e], rfl, rfl⟩⟩
theorem Fr.sR {P : Nat → Prop} {M : Mem} {a k : Nat} {x : Option Nat} (hp : P (mO M a)) : Fr P M (sR M a k x) := fun b _ =>
  ⟨rfl, rfl, rfl, fun q j => ⟨rfl, by
    rw [mR_sR]
    by_cases e : b = a
    · exact absurd (e ▸ hp) q
    · simp [e], rfl⟩⟩
theorem Fr.sL {P : Nat → Prop} {M : Mem} {a k : Nat} {x : Int64} (hp : P (mO M a)) : Fr P M (sL M a k x) := fun b _ =>
  ⟨rfl, rfl, rfl, fun q j => ⟨rfl, rfl, by
    rw [mL_sL]
    by_cases e : b = a
    · exact absurd (e ▸ hp) q
    · simp [e]⟩⟩
theorem Fr.nw {P : Nat → Prop} {M : Mem} {a κ n ρ : Nat} (h0 : mK M a = 0) : Fr P M (nw M a κ n ρ) := fun b hb => by
  have e : ¬ b = a := fun e => hb (e ▸ h0)
  refine ⟨by rw [mK_nw, if_neg e], by rw [mN_nw, if_neg e], by rw [mO_nw, if_neg e], fun _ k => ⟨?_, ?_, ?_⟩⟩
  · rw [mI_nw, if_neg e]
  · rw [mR_nw, if_neg e]
  · rw [mL_nw, if_neg e]
theorem Fr.sAI {P : Nat → Prop} {M : Mem} {a : Nat} {f : Nat → Int32} (hp : P (mO M a)) : Fr P M (sAI M a f) := fun b _ =>
  ⟨rfl, rfl, rfl, fun q j => ⟨by
    rw [mI_sAI]
    by_cases e : b = a
    · exact absurd (e ▸ hp) q
    · simp [e], rfl, rfl⟩⟩
theorem Fr.sAR {P : Nat → Prop} {M : Mem} {a : Nat} {f : Nat → Option Nat} (hp : P (mO M a)) : Fr P M (sAR M a f) := fun b _ =>
  ⟨rfl, rfl, rfl, fun q j => ⟨rfl, by
    rw [mR_sAR]
    by_cases e : b = a
    · exact absurd (e ▸ hp) q
    · simp [e], rfl⟩⟩
theorem Fr.sAL {P : Nat → Prop} {M : Mem} {a : Nat} {f : Nat → Int64} (hp : P (mO M a)) : Fr P M (sAL M a f) := fun b _ =>
  ⟨rfl, rfl, rfl, fun q j => ⟨rfl, rfl, by
    rw [mL_sAL]
    by_cases e : b = a
    · exact absurd (e ▸ hp) q
    · simp [e]⟩⟩
/-! ===== typed values of locals and stack ===== -/
abbrev Sv : Type := Int32 ⊕ (Option Nat ⊕ (Int64 ⊕ UInt32))
abbrev vi (x : Int32) : Sv := .inl x
abbrev vr (x : Option Nat) : Sv := .inr (.inl x)
abbrev vl (x : Int64) : Sv := .inr (.inr (.inl x))
abbrev vf (x : UInt32) : Sv := .inr (.inr (.inr x))
def toV : Sv → Value
  | .inl x => .int x
  | .inr (.inl r) => va_rf r
  | .inr (.inr (.inl y)) => .long y
  | .inr (.inr (.inr z)) => .float z
def catS : Sv → Nat
  | .inr (.inr (.inl _)) => 2
  | _ => 1
theorem toV_cat (v : Sv) : (toV v).category = catS v := by
  rcases v with x | r | y | z
  · rfl
  · cases r <;> rfl
  · rfl
  · rfl
abbrev Lv : Type := List (Option Sv)
def clr : Option Sv → Option Sv
  | some (.inr (.inr (.inl _))) => none
  | x => x
def stL : Lv → Nat → Sv → Lv
  | [], _, _ => []
  | _ :: xs, 0, v => some v :: xs
  | x :: xs, 1, v => clr x :: stL xs 0 v
  | x :: xs, i + 2, v => x :: stL xs (i + 1) v
theorem clr_some {x : Option Sv} {w : Sv} (h : clr x = some w) : x = some w ∧ catS w ≠ 2 := by
  rcases x with _ | (x | r | y | z)
  · cases h
  · cases h; exact ⟨rfl, by simp [catS]⟩
  · cases h; exact ⟨rfl, by simp [catS]⟩
  · cases h
  · cases h; exact ⟨rfl, by simp [catS]⟩
theorem stL_get : ∀ (lv : Lv) (i : Nat) (v : Sv) (j : Nat) (w : Sv), (stL lv i v)[j]? = some (some w) → (j = i ∧ w = v) ∨ (j ≠ i ∧ lv[j]? = some (some w) ∧ (j + 1 = i → catS w ≠ 2)) := by
  intro lv
  induction lv with
  | nil => intro i v j w h; simp [stL] at h
  | cons x xs ih =>
    intro i v j w h
    match i, h with
    | 0, h =>
      match j, h with
      | 0, h => simp [stL] at h; exact Or.inl ⟨rfl, h.symm⟩
      | j + 1, h => simp [stL] at h; exact Or.inr ⟨by omega, by simpa using h, by omega⟩
    | 1, h =>
      match j, h with
      | 0, h =>
        simp only [stL, List.getElem?_cons_zero, Option.some.injEq] at h
        obtain ⟨h1, h2⟩ := clr_some h
        exact Or.inr ⟨by omega, by rw [h1]; rfl, fun _ => h2⟩
      | j + 1, h =>
        simp only [stL, List.getElem?_cons_succ] at h
        rcases ih 0 v j w h with ⟨e, e2⟩ | ⟨e, e2, e3⟩
        · exact Or.inl ⟨by omega, e2⟩
        · exact Or.inr ⟨by omega, by simpa using e2, by omega⟩
    | i + 2, h =>
      match j, h with
      | 0, h =>
        simp only [stL, List.getElem?_cons_zero, Option.some.injEq] at h
        exact Or.inr ⟨by omega, by rw [h]; rfl, by omega⟩
      | j + 1, h =>
        simp only [stL, List.getElem?_cons_succ] at h
        rcases ih (i + 1) v j w h with ⟨e, e2⟩ | ⟨e, e2, e3⟩
        · exact Or.inl ⟨by omega, e2⟩
        · exact Or.inr ⟨by omega, by simpa using e2, fun q => e3 (by omega)⟩
/-- the machine's locals hold the typed ones -/
def lvh (ls : Array Slot) (nL : Nat) (lv : Lv) : Prop := lv.length ≤ nL ∧ ∃ l : List (Nat × Value), lv_has ls nL l ∧ ∀ (i : Nat) (v : Sv), lv[i]? = some (some v) → (i, toV v) ∈ l
theorem lvh.at {ls : Array Slot} {nL : Nat} {lv : Lv} {i : Nat} {v : Sv} (h : lvh ls nL lv) (hi : lv[i]? = some (some v)) : ls[i]? = some (.val (toV v)) := by
  obtain ⟨-, l, h1, h2⟩ := h
  exact h1.2.2 _ (h2 i v hi)
theorem lvh.size {ls : Array Slot} {nL : Nat} {lv : Lv} (h : lvh ls nL lv) : ls.size = nL := by
  obtain ⟨-, l, h1, -⟩ := h
  exact h1.1
theorem lvh.sub {ls : Array Slot} {nL : Nat} {lv lv' : Lv} (h : lvh ls nL lv) (h0 : lv'.length ≤ lv.length) (hs : ∀ (i : Nat) (v : Sv), lv'[i]? = some (some v) → lv[i]? = some (some v)) : lvh ls nL lv' := by
  obtain ⟨hn, l, h1, h2⟩ := h
  exact ⟨Nat.le_trans h0 hn, l, h1, fun i v hv => h2 i v (hs i v hv)⟩
theorem stL_len : ∀ (lv : Lv) (i : Nat) (v : Sv), (stL lv i v).length = lv.length := by
  intro lv
  induction lv with
  | nil => intro i v; rfl
  | cons x xs ih =>
    intro i v
    match i with
    | 0 => rfl
    | 1 => simp [stL, ih]
    | i + 2 => simp [stL, ih]
theorem st_mem {l : List (Nat × Value)} {lv : Lv} {i : Nat} {v : Sv} (h2 : ∀ (i : Nat) (v : Sv), lv[i]? = some (some v) → (i, toV v) ∈ l) : ∀ (j : Nat) (w : Sv), (stL lv i v)[j]? = some (some w) → (j, toV w) ∈ (i, toV v) :: l.filter (fun q => !(q.1 == i) && !(q.1 + 1 == i && q.2.category == 2)) := by
  intro j w hw
  rcases stL_get lv i v j w hw with ⟨e1, e2⟩ | ⟨e1, e2, e3⟩
  · rw [e1, e2]; exact List.mem_cons_self
  · refine List.mem_cons_of_mem _ (List.mem_filter.mpr ⟨h2 j w e2, ?_⟩)
    simp only [Bool.and_eq_true, Bool.not_eq_true', beq_eq_false_iff_ne, ne_eq, Bool.and_eq_false_iff, toV_cat]
    refine ⟨e1, ?_⟩
    by_cases z : j + 1 = i
    · exact Or.inr (e3 z)
    · exact Or.inl z
/-- a long's second half isn't a local of its own -/
def stL2 (lv : Lv) (i : Nat) (v : Sv) : Lv := (stL lv i v).set (i + 1) none
theorem stL2_len (lv : Lv) (i : Nat) (v : Sv) : (stL2 lv i v).length = lv.length := by simp [stL2, stL_len]
theorem st_mem2 {l : List (Nat × Value)} {lv : Lv} {i : Nat} {v : Sv} (h2 : ∀ (i : Nat) (v : Sv), lv[i]? = some (some v) → (i, toV v) ∈ l) : ∀ (j : Nat) (w : Sv), (stL2 lv i v)[j]? = some (some w) → (j, toV w) ∈ (i, toV v) :: l.filter (fun q => !(q.1 == i) && (!(q.1 == i + 1) && !(q.1 + 1 == i && q.2.category == 2))) := by
  intro j w hw
  unfold stL2 at hw
  rw [List.getElem?_set] at hw
  by_cases z1 : i + 1 = j
  · rw [if_pos z1] at hw
    split at hw <;> cases hw
  · rw [if_neg z1] at hw
    rcases stL_get lv i v j w hw with ⟨e1, e2⟩ | ⟨e1, e2, e3⟩
    · rw [e1, e2]; exact List.mem_cons_self
    · refine List.mem_cons_of_mem _ (List.mem_filter.mpr ⟨h2 j w e2, ?_⟩)
      simp only [Bool.and_eq_true, Bool.not_eq_true', beq_eq_false_iff_ne, ne_eq, Bool.and_eq_false_iff, toV_cat]
      refine ⟨e1, fun q => z1 q.symm, ?_⟩
      by_cases z : j + 1 = i
      · exact Or.inr (e3 z)
      · exact Or.inl z
/-- the arguments as locals -/
def lvA : List Sv → Lv
  | [] => []
  | .inr (.inr (.inl y)) :: t => some (vl y) :: none :: lvA t
  | v :: t => some v :: lvA t
theorem lvA_mem : ∀ (av : List Sv) (o i : Nat) (v : Sv), (lvA av)[i]? = some (some v) → (o + i, toV v) ∈ lv_args o (av.map toV) := by
  intro av
  induction av with
  | nil => intro o i v h; simp [lvA] at h
  | cons w t ih =>
    intro o i v h
    rcases w with x | r | y | z
    · match i, h with
      | 0, h => simp [lvA] at h; subst h; simp [lv_args, toV]
      | i + 1, h =>
        have h' : (lvA t)[i]? = some (some v) := by simpa [lvA] using h
        have := ih (o + 1) i v h'
        simp only [List.map_cons, lv_args]
        refine List.mem_cons_of_mem _ ?_
        rw [show o + (i + 1) = o + 1 + i by omega]
        simpa [toV, Value.category] using this
    · match i, h with
      | 0, h => simp [lvA] at h; subst h; simp [lv_args]
      | i + 1, h =>
        have h' : (lvA t)[i]? = some (some v) := by simpa [lvA] using h
        have := ih (o + 1) i v h'
        simp only [List.map_cons, lv_args]
        refine List.mem_cons_of_mem _ ?_
        rw [show o + (i + 1) = o + 1 + i by omega]
        cases r <;> simpa [toV, va_rf, Value.category] using this
    · match i, h with
      | 0, h => simp [lvA] at h; subst h; simp [lv_args]
      | 1, h => simp [lvA] at h
      | i + 2, h =>
        have h' : (lvA t)[i]? = some (some v) := by simpa [lvA] using h
        have := ih (o + 2) i v h'
        simp only [List.map_cons, lv_args]
        refine List.mem_cons_of_mem _ ?_
        rw [show o + (i + 2) = o + 2 + i by omega]
        simpa [toV, Value.category] using this
    · match i, h with
      | 0, h => simp [lvA] at h; subst h; simp [lv_args]
      | i + 1, h =>
        have h' : (lvA t)[i]? = some (some v) := by simpa [lvA] using h
        have := ih (o + 1) i v h'
        simp only [List.map_cons, lv_args]
        refine List.mem_cons_of_mem _ ?_
        rw [show o + (i + 1) = o + 1 + i by omega]
        simpa [toV, Value.category] using this
