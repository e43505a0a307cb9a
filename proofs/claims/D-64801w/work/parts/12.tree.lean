set_option maxRecDepth 100000
/-! ===== binary search trees with parents, by positions: no recursion. A node x stands at the place ps x of the order; its subtree is the places lo x .. hi x - 1 ===== -/
/-- x is a node -/
def Nd (n : Nat) (ad ps : Nat → Nat) (x : Nat) : Prop := ps x < n ∧ ad (ps x) = x
/-- the tree: left, right, parent, root -/
def TT (n : Nat) (ad ps lo hi : Nat → Nat) (L R P : Nat → Option Nat) (rt : Option Nat) : Prop :=
  (∀ i, i < n → ps (ad i) = i) ∧
  (∀ x, Nd n ad ps x → lo x ≤ ps x ∧ ps x < hi x ∧ hi x ≤ n) ∧
  (∀ x, Nd n ad ps x → L x = none → lo x = ps x) ∧
  (∀ x y, Nd n ad ps x → L x = some y → Nd n ad ps y ∧ P y = some x ∧ lo y = lo x ∧ hi y = ps x) ∧
  (∀ x, Nd n ad ps x → R x = none → hi x = ps x + 1) ∧
  (∀ x y, Nd n ad ps x → R x = some y → Nd n ad ps y ∧ P y = some x ∧ lo y = ps x + 1 ∧ hi y = hi x) ∧
  (∀ x, Nd n ad ps x → P x = none → rt = some x) ∧
  (∀ x y, Nd n ad ps x → P x = some y → Nd n ad ps y ∧ (L y = some x ∨ R y = some x)) ∧
  (rt = none → n = 0) ∧
  (∀ x, rt = some x → Nd n ad ps x ∧ P x = none ∧ lo x = 0 ∧ hi x = n)
section Tree
variable {n : Nat} {ad ps lo hi : Nat → Nat} {L R P : Nat → Option Nat} {rt : Option Nat}
theorem Nd.inj {x y : Nat} (hx : Nd n ad ps x) (hy : Nd n ad ps y) (h : ps x = ps y) : x = y := by
  rw [← hx.2, ← hy.2, h]
/-- the rotation at p, whose child is r -/
theorem TT.rotL {p r : Nat} (h : TT n ad ps lo hi L R P rt) (hp : Nd n ad ps p) (hr : R p = some r) {L' R' P' : Nat → Option Nat} {rt' : Option Nat}
    (hR1 : R' p = L r) (hL1 : L' r = some p) (hP1 : P' p = some r) (hP2 : P' r = P p)
    (hP3 : ∀ x, L r = some x → P' x = some p) (hP4 : ∀ x, x ≠ p → x ≠ r → L r ≠ some x → P' x = P x)
    (hu1 : P p = none → rt' = some r) (hu2 : P p ≠ none → rt' = rt)
    (hu3 : ∀ q, P p = some q → L q = some p → L' q = some r) (hu4 : ∀ q, P p = some q → L q ≠ some p → R' q = some r)
    (hL2 : ∀ x, x ≠ r → ¬ (P p = some x ∧ L x = some p) → L' x = L x) (hR2 : ∀ x, x ≠ p → ¬ (P p = some x ∧ L x ≠ some p) → R' x = R x) :
    TT n ad ps (fun x => if x = r then lo p else lo x) (fun x => if x = p then ps r else hi x) L' R' P' rt' := by
  obtain ⟨h1, h2, h3, h4, h5, h6, h7, h8, h9, h10⟩ := h
  have hrr := h6 p r hp hr
  have hrp : r ≠ p := by intro e; have := h2 p hp; have := h2 r hrr.1; subst e; omega
  have hpr : P p ≠ some r := by
    intro e
    obtain ⟨h11, h12⟩ := h8 p r hp e
    have a1 := h2 p hp
    have a2 := h2 r hrr.1
    have h12 : L r = some p ∨ R r = some p := by first | exact h12 | exact h12.symm
    rcases h12 with h12 | h12
    · have := h4 r p h11 h12; omega
    · have := h6 r p h11 h12; omega
  have hlr : ∀ y, L r = some y → Nd n ad ps y ∧ P y = some r ∧ y ≠ p ∧ y ≠ r := by
    intro y hy
    obtain ⟨b1, b2, b3, b4⟩ := h4 r y hrr.1 hy
    have a1 := h2 p hp
    have a2 := h2 r hrr.1
    have a3 := h2 y b1
    refine ⟨b1, b2, ?_, ?_⟩
    · intro e; subst e; omega
    · intro e; subst e; omega
  refine ⟨h1, ?_, ?_, ?_, ?_, ?_, ?_, ?_, ?_, ?_⟩
  · grind
  · grind
  · intro x y hx hL
    by_cases e1 : x = r
    · subst e1
      rw [hL1] at hL
      cases hL
      exact ⟨hp, hP1, by grind, by grind⟩
    · by_cases e2 : P p = some x ∧ L x = some p
      · rw [hu3 x e2.1 e2.2] at hL
        cases hL
        have := h4 x p hx e2.2
        exact ⟨hrr.1, by rw [hP2]; exact e2.1, by grind, by grind⟩
      · rw [hL2 x e1 e2] at hL
        obtain ⟨b1, b2, b3, b4⟩ := h4 x y hx hL
        have y1 : y ≠ p := by intro e; subst e; exact e2 ⟨b2, hL⟩
        have y2 : y ≠ r := by
          intro e; subst e
          have : x = p := by have := hrr.2.1.symm.trans b2; cases this; rfl
          subst this
          have := h2 x hp; omega
        have y3 : L r ≠ some y := by intro e; have := (hlr y e).2.1.symm.trans b2; cases this; exact e1 rfl
        exact ⟨b1, by rw [hP4 y y1 y2 y3]; exact b2, by grind, by grind⟩
  · grind
  · intro x y hx hR
    by_cases e1 : x = p
    · subst e1
      rw [hR1] at hR
      obtain ⟨b1, b2, b5, b6⟩ := hlr y hR
      have b7 := h4 r y hrr.1 hR
      exact ⟨b1, hP3 y hR, by grind, by grind⟩
    · by_cases e2 : P p = some x ∧ L x ≠ some p
      · rw [hu4 x e2.1 e2.2] at hR
        cases hR
        have h12 : L x = some p ∨ R x = some p := by first | exact (h8 p x hp e2.1).2 | exact (h8 p x hp e2.1).2.symm
        have h11 := h12.resolve_left e2.2
        have := h6 x p hx h11
        exact ⟨hrr.1, by rw [hP2]; exact e2.1, by grind, by grind⟩
      · rw [hR2 x e1 e2] at hR
        obtain ⟨b1, b2, b3, b4⟩ := h6 x y hx hR
        have y1 : y ≠ p := by
          intro e; subst e
          have e3 : L x = some y := Classical.byContradiction fun q => e2 ⟨b2, q⟩
          have c1 := h4 x y hx e3
          have := h2 x hx
          have := h2 y b1
          omega
        have y2 : y ≠ r := by intro e; subst e; have := hrr.2.1.symm.trans b2; cases this; exact e1 rfl
        have y3 : L r ≠ some y := by
          intro e
          have c1 := hlr y e
          have c3 := h4 r y hrr.1 e
          have c2 := c1.2.1.symm.trans b2
          cases c2
          have := h2 y b1; omega
        exact ⟨b1, by rw [hP4 y y1 y2 y3]; exact b2, by grind, by grind⟩
  · grind
  · intro x y hx hP
    by_cases e1 : x = p
    · subst e1; rw [hP1] at hP; cases hP; exact ⟨hrr.1, by simp [hL1]⟩
    · by_cases e2 : x = r
      · subst e2; rw [hP2] at hP
        refine ⟨(h8 p y hp hP).1, ?_⟩
        by_cases e3 : L y = some p
        · simp [hu3 y hP e3]
        · simp [hu4 y hP e3]
      · by_cases e3 : L r = some x
        · rw [hP3 x e3] at hP; cases hP; exact ⟨hp, by simp [hR1, e3]⟩
        · rw [hP4 x e1 e2 e3] at hP
          obtain ⟨b1, b2⟩ := h8 x y hx hP
          refine ⟨b1, ?_⟩
          have b2 : L y = some x ∨ R y = some x := by first | exact b2 | exact b2.symm
          rcases b2 with b2 | b2
          · have z : L' y = some x := by
              rw [hL2 y (by intro e; subst e; exact e3 b2) (by rintro ⟨-, c2⟩; rw [b2] at c2; cases c2; exact e1 rfl)]
              exact b2
            simp [z]
          · have y1 : y ≠ p := by intro e; subst e; rw [hr] at b2; cases b2; exact e2 rfl
            have z : R' y = some x := by
              rw [hR2 y y1 (by
                rintro ⟨c1, c2⟩
                have h12 : L y = some p ∨ R y = some p := by first | exact (h8 p y hp c1).2 | exact (h8 p y hp c1).2.symm
                have := h12.resolve_left c2
                rw [this] at b2; cases b2; exact e1 rfl)]
              exact b2
            simp [z]
  · grind
  · intro x hx
    by_cases e0 : P p = none
    · rw [hu1 e0] at hx
      cases hx
      have := h10 p (h7 p hp e0)
      exact ⟨hrr.1, by rw [hP2]; exact e0, by grind, by grind⟩
    · rw [hu2 e0] at hx
      obtain ⟨b1, b2, b3, b4⟩ := h10 x hx
      have x1 : x ≠ p := by intro e; subst e; exact e0 b2
      have x2 : x ≠ r := by intro e; subst e; rw [hrr.2.1] at b2; cases b2
      have x3 : L r ≠ some x := by intro e; have := (hlr x e).2.1; rw [this] at b2; cases b2
      exact ⟨b1, by rw [hP4 x x1 x2 x3]; exact b2, by grind, by grind⟩
/-- the rotation at p, whose child is r -/
theorem TT.rotR {p r : Nat} (h : TT n ad ps lo hi L R P rt) (hp : Nd n ad ps p) (hr : L p = some r) {L' R' P' : Nat → Option Nat} {rt' : Option Nat}
    (hR1 : L' p = R r) (hL1 : R' r = some p) (hP1 : P' p = some r) (hP2 : P' r = P p)
    (hP3 : ∀ x, R r = some x → P' x = some p) (hP4 : ∀ x, x ≠ p → x ≠ r → R r ≠ some x → P' x = P x)
    (hu1 : P p = none → rt' = some r) (hu2 : P p ≠ none → rt' = rt)
    (hu3 : ∀ q, P p = some q → R q = some p → R' q = some r) (hu4 : ∀ q, P p = some q → R q ≠ some p → L' q = some r)
    (hL2 : ∀ x, x ≠ r → ¬ (P p = some x ∧ R x = some p) → R' x = R x) (hR2 : ∀ x, x ≠ p → ¬ (P p = some x ∧ R x ≠ some p) → L' x = L x) :
    TT n ad ps (fun x => if x = p then ps r + 1 else lo x) (fun x => if x = r then hi p else hi x) L' R' P' rt' := by
  obtain ⟨h1, h2, h3, h4, h5, h6, h7, h8, h9, h10⟩ := h
  have hrr := h4 p r hp hr
  have hrp : r ≠ p := by intro e; have := h2 p hp; have := h2 r hrr.1; subst e; omega
  have hpr : P p ≠ some r := by
    intro e
    obtain ⟨h11, h12⟩ := h8 p r hp e
    have a1 := h2 p hp
    have a2 := h2 r hrr.1
    have h12 : R r = some p ∨ L r = some p := by first | exact h12 | exact h12.symm
    rcases h12 with h12 | h12
    · have := h6 r p h11 h12; omega
    · have := h4 r p h11 h12; omega
  have hlr : ∀ y, R r = some y → Nd n ad ps y ∧ P y = some r ∧ y ≠ p ∧ y ≠ r := by
    intro y hy
    obtain ⟨b1, b2, b3, b4⟩ := h6 r y hrr.1 hy
    have a1 := h2 p hp
    have a2 := h2 r hrr.1
    have a3 := h2 y b1
    refine ⟨b1, b2, ?_, ?_⟩
    · intro e; subst e; omega
    · intro e; subst e; omega
  refine ⟨h1, ?_, ?_, ?_, ?_, ?_, ?_, ?_, ?_, ?_⟩
  · grind
  · grind
  · intro x y hx hR
    by_cases e1 : x = p
    · subst e1
      rw [hR1] at hR
      obtain ⟨b1, b2, b5, b6⟩ := hlr y hR
      have b7 := h6 r y hrr.1 hR
      exact ⟨b1, hP3 y hR, by grind, by grind⟩
    · by_cases e2 : P p = some x ∧ R x ≠ some p
      · rw [hu4 x e2.1 e2.2] at hR
        cases hR
        have h12 : R x = some p ∨ L x = some p := by first | exact (h8 p x hp e2.1).2 | exact (h8 p x hp e2.1).2.symm
        have h11 := h12.resolve_left e2.2
        have := h4 x p hx h11
        exact ⟨hrr.1, by rw [hP2]; exact e2.1, by grind, by grind⟩
      · rw [hR2 x e1 e2] at hR
        obtain ⟨b1, b2, b3, b4⟩ := h4 x y hx hR
        have y1 : y ≠ p := by
          intro e; subst e
          have e3 : R x = some y := Classical.byContradiction fun q => e2 ⟨b2, q⟩
          have c1 := h6 x y hx e3
          have := h2 x hx
          have := h2 y b1
          omega
        have y2 : y ≠ r := by intro e; subst e; have := hrr.2.1.symm.trans b2; cases this; exact e1 rfl
        have y3 : R r ≠ some y := by
          intro e
          have c1 := hlr y e
          have c3 := h6 r y hrr.1 e
          have c2 := c1.2.1.symm.trans b2
          cases c2
          have := h2 y b1; omega
        exact ⟨b1, by rw [hP4 y y1 y2 y3]; exact b2, by grind, by grind⟩
  · grind
  · intro x y hx hL
    by_cases e1 : x = r
    · subst e1
      rw [hL1] at hL
      cases hL
      exact ⟨hp, hP1, by grind, by grind⟩
    · by_cases e2 : P p = some x ∧ R x = some p
      · rw [hu3 x e2.1 e2.2] at hL
        cases hL
        have := h6 x p hx e2.2
        exact ⟨hrr.1, by rw [hP2]; exact e2.1, by grind, by grind⟩
      · rw [hL2 x e1 e2] at hL
        obtain ⟨b1, b2, b3, b4⟩ := h6 x y hx hL
        have y1 : y ≠ p := by intro e; subst e; exact e2 ⟨b2, hL⟩
        have y2 : y ≠ r := by
          intro e; subst e
          have : x = p := by have := hrr.2.1.symm.trans b2; cases this; rfl
          subst this
          have := h2 x hp; omega
        have y3 : R r ≠ some y := by intro e; have := (hlr y e).2.1.symm.trans b2; cases this; exact e1 rfl
        exact ⟨b1, by rw [hP4 y y1 y2 y3]; exact b2, by grind, by grind⟩
  · grind
  · intro x y hx hP
    by_cases e1 : x = p
    · subst e1; rw [hP1] at hP; cases hP; exact ⟨hrr.1, by simp [hL1]⟩
    · by_cases e2 : x = r
      · subst e2; rw [hP2] at hP
        refine ⟨(h8 p y hp hP).1, ?_⟩
        by_cases e3 : R y = some p
        · simp [hu3 y hP e3]
        · simp [hu4 y hP e3]
      · by_cases e3 : R r = some x
        · rw [hP3 x e3] at hP; cases hP; exact ⟨hp, by simp [hR1, e3]⟩
        · rw [hP4 x e1 e2 e3] at hP
          obtain ⟨b1, b2⟩ := h8 x y hx hP
          refine ⟨b1, ?_⟩
          have b2 : R y = some x ∨ L y = some x := by first | exact b2 | exact b2.symm
          rcases b2 with b2 | b2
          · have z : R' y = some x := by
              rw [hL2 y (by intro e; subst e; exact e3 b2) (by rintro ⟨-, c2⟩; rw [b2] at c2; cases c2; exact e1 rfl)]
              exact b2
            simp [z]
          · have y1 : y ≠ p := by intro e; subst e; rw [hr] at b2; cases b2; exact e2 rfl
            have z : L' y = some x := by
              rw [hR2 y y1 (by
                rintro ⟨c1, c2⟩
                have h12 : R y = some p ∨ L y = some p := by first | exact (h8 p y hp c1).2 | exact (h8 p y hp c1).2.symm
                have := h12.resolve_left c2
                rw [this] at b2; cases b2; exact e1 rfl)]
              exact b2
            simp [z]
  · grind
  · intro x hx
    by_cases e0 : P p = none
    · rw [hu1 e0] at hx
      cases hx
      have := h10 p (h7 p hp e0)
      exact ⟨hrr.1, by rw [hP2]; exact e0, by grind, by grind⟩
    · rw [hu2 e0] at hx
      obtain ⟨b1, b2, b3, b4⟩ := h10 x hx
      have x1 : x ≠ p := by intro e; subst e; exact e0 b2
      have x2 : x ≠ r := by intro e; subst e; rw [hrr.2.1] at b2; cases b2
      have x3 : R r ≠ some x := by intro e; have := (hlr x e).2.1; rw [this] at b2; cases b2
      exact ⟨b1, by rw [hP4 x x1 x2 x3]; exact b2, by grind, by grind⟩
end Tree

