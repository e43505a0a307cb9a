set_option maxRecDepth 100000
/-! ===== a leaf comes, a node of at most one child goes (pure) ===== -/
section TreeID
variable {n : Nat} {ad ps lo hi : Nat → Nat} {L R P : Nat → Option Nat} {rt : Option Nat}
/-- places move up behind i -/
def inA (ad : Nat → Nat) (i e : Nat) : Nat → Nat := fun j => if j < i then ad j else if j = i then e else ad (j - 1)
def inP (ps : Nat → Nat) (i e : Nat) : Nat → Nat := fun y => if y = e then i else if ps y < i then ps y else ps y + 1
def inL (lo : Nat → Nat) (i e c : Nat) : Nat → Nat := fun y => if y = e then i else if c ≤ lo y then lo y + 1 else lo y
def inH (hi : Nat → Nat) (i e c : Nat) : Nat → Nat := fun y => if y = e then i + 1 else if c ≤ hi y then hi y + 1 else hi y
theorem Nd.inE {i e : Nat} (hi : i ≤ n) : Nd (n + 1) (inA ad i e) (inP ps i e) e := by
  constructor
  · simp only [inP, if_true]; omega
  · simp [inP, inA]
theorem Nd.inO {i e y : Nat} (h1 : ∀ i, i < n → ps (ad i) = i) (hi : i ≤ n) (he : ¬ Nd n ad ps e) (hy : y ≠ e) : Nd (n + 1) (inA ad i e) (inP ps i e) y ↔ Nd n ad ps y := by
  unfold Nd
  simp only [inP, inA, if_neg hy]
  constructor
  · rintro ⟨a1, a2⟩
    by_cases h : ps y < i
    · simp only [h, if_true] at a1 a2
      exact ⟨by omega, a2⟩
    · simp only [h, if_false] at a1 a2
      rw [if_neg (by omega), if_neg (by omega)] at a2
      exact ⟨by omega, by simpa using a2⟩
  · rintro ⟨a1, a2⟩
    by_cases h : ps y < i
    · simp only [h, if_true]
      exact ⟨by omega, a2⟩
    · simp only [h, if_false]
      rw [if_neg (by omega), if_neg (by omega)]
      exact ⟨by omega, by simpa using a2⟩
theorem inA_ps {i e : Nat} (h1 : ∀ i, i < n → ps (ad i) = i) (hi : i ≤ n) (he : ¬ Nd n ad ps e) : ∀ j, j < n + 1 → inP ps i e (inA ad i e j) = j := by
  intro j hj
  have hne : ∀ j, j < n → ad j ≠ e := by
    intro j hj q
    apply he
    rw [← q]
    exact ⟨by rw [h1 j hj]; exact hj, by rw [h1 j hj]⟩
  unfold inA inP
  by_cases a : j < i
  · have := h1 j (by omega)
    rw [if_pos a, if_neg (hne j (by omega)), this, if_pos a]
  · by_cases b : j = i
    · subst b; simp
    · have := h1 (j - 1) (by omega)
      rw [if_neg a, if_neg b, if_neg (hne _ (by omega)), this, if_neg (by omega)]
      omega
/-- e becomes the left child of x -/
theorem TT.insL {x e : Nat} (h : TT n ad ps lo hi L R P rt) (hx : Nd n ad ps x) (he : ¬ Nd n ad ps e) (hl : L x = none) {L' R' P' : Nat → Option Nat}
    (hL1 : L' x = some e) (hL2 : L' e = none) (hL3 : ∀ y, y ≠ x → y ≠ e → L' y = L y) (hR2 : R' e = none) (hR3 : ∀ y, y ≠ e → R' y = R y) (hP2 : P' e = some x) (hP3 : ∀ y, y ≠ e → P' y = P y) :
    TT (n + 1) (inA ad (ps x) e) (inP ps (ps x) e) (inL lo (ps x) e (ps x + 1)) (inH hi (ps x) e (ps x + 1)) L' R' P' rt := by
  obtain ⟨h1, h2, h3, h4, h5, h6, h7, h8, h9, h10⟩ := h
  have hxn : ps x ≤ n := Nat.le_of_lt hx.1
  have hE := Nd.inE (n := n) (ad := ad) (ps := ps) (i := ps x) (e := e) hxn
  have hO := fun y hy => Nd.inO (n := n) (ad := ad) (ps := ps) (i := ps x) (e := e) (y := y) h1 hxn he hy
  have hnx : x ≠ e := by intro q; subst q; exact he hx
  have hne : ∀ y, Nd n ad ps y → y ≠ e := by intro y hy q; subst q; exact he hy
  have hinj : ∀ y, Nd n ad ps y → ps y = ps x → y = x := fun y a b => Nd.inj a hx b
  have hx2 := h2 x hx
  have hx3 := h3 x hx hl
  refine ⟨inA_ps h1 hxn he, ?_, ?_, ?_, ?_, ?_, ?_, ?_, ?_, ?_⟩
  · intro y hy
    by_cases q : y = e
    · subst q; simp only [inP, inL, inH, if_true]; omega
    · have hy' := (hO y q).mp hy
      have := h2 y hy'
      have := hinj y hy'
      simp only [inP, inL, inH, if_neg q]
      split <;> split <;> split <;> omega
  · intro y hy hn
    by_cases q : y = e
    · subst q; simp only [inP, inL, if_true]
    · have hy' := (hO y q).mp hy
      have hyx : y ≠ x := by intro z; subst z; rw [hL1] at hn; cases hn
      rw [hL3 y hyx q] at hn
      have := h3 y hy' hn
      have : ps y ≠ ps x := fun z => hyx (hinj y hy' z)
      simp only [inP, inL, if_neg q]
      split <;> split <;> omega
  · intro y z hy hz
    by_cases q : y = e
    · subst q; rw [hL2] at hz; cases hz
    · have hy' := (hO y q).mp hy
      by_cases qx : y = x
      · subst qx
        rw [hL1] at hz; cases hz
        refine ⟨hE, hP2, ?_, ?_⟩
        · simp only [inL, if_true, if_neg hnx]; split <;> omega
        · simp only [inH, inP, if_true, if_neg hnx]; split <;> omega
      · rw [hL3 y qx q] at hz
        obtain ⟨b1, b2, b3, b4⟩ := h4 y z hy' hz
        have qz := hne z b1
        have : ps y ≠ ps x := fun w => qx (hinj y hy' w)
        refine ⟨(hO z qz).mpr b1, by rw [hP3 z qz]; exact b2, ?_, ?_⟩
        · simp only [inL, if_neg q, if_neg qz, b3]
        · simp only [inH, inP, if_neg q, if_neg qz, b4]; split <;> split <;> omega
  · intro y hy hn
    by_cases q : y = e
    · subst q; simp only [inH, inP, if_true]
    · have hy' := (hO y q).mp hy
      rw [hR3 y q] at hn
      have := h5 y hy' hn
      simp only [inH, inP, if_neg q]
      split <;> split <;> omega
  · intro y z hy hz
    by_cases q : y = e
    · subst q; rw [hR2] at hz; cases hz
    · have hy' := (hO y q).mp hy
      rw [hR3 y q] at hz
      obtain ⟨b1, b2, b3, b4⟩ := h6 y z hy' hz
      have qz := hne z b1
      refine ⟨(hO z qz).mpr b1, by rw [hP3 z qz]; exact b2, ?_, ?_⟩
      · simp only [inL, inP, if_neg q, if_neg qz, b3]; split <;> split <;> omega
      · simp only [inH, if_neg q, if_neg qz, b4]
  · intro y hy hn
    by_cases q : y = e
    · subst q; rw [hP2] at hn; cases hn
    · rw [hP3 y q] at hn
      exact h7 y ((hO y q).mp hy) hn
  · intro y z hy hz
    by_cases q : y = e
    · subst q; rw [hP2] at hz; cases hz
      exact ⟨(hO _ hnx).mpr hx, Or.inl hL1⟩
    · rw [hP3 y q] at hz
      obtain ⟨b1, b2⟩ := h8 y z ((hO y q).mp hy) hz
      have qz := hne z b1
      refine ⟨(hO z qz).mpr b1, ?_⟩
      rcases b2 with b2 | b2
      · left
        have : z ≠ x := by intro w; subst w; rw [hl] at b2; cases b2
        rw [hL3 z this qz]; exact b2
      · right; rw [hR3 z qz]; exact b2
  · intro q
    have := h9 q
    have := hx.1
    omega
  · intro y hy
    obtain ⟨b1, b2, b3, b4⟩ := h10 y hy
    have q := hne y b1
    have := hx.1
    refine ⟨(hO y q).mpr b1, by rw [hP3 y q]; exact b2, ?_, ?_⟩
    · simp only [inL, if_neg q]; split <;> omega
    · simp only [inH, if_neg q]; split <;> omega
/-- e becomes the right child of x -/
theorem TT.insR {x e : Nat} (h : TT n ad ps lo hi L R P rt) (hx : Nd n ad ps x) (he : ¬ Nd n ad ps e) (hl : R x = none) {L' R' P' : Nat → Option Nat}
    (hR1 : R' x = some e) (hR2 : R' e = none) (hR3 : ∀ y, y ≠ x → y ≠ e → R' y = R y) (hL2 : L' e = none) (hL3 : ∀ y, y ≠ e → L' y = L y) (hP2 : P' e = some x) (hP3 : ∀ y, y ≠ e → P' y = P y) :
    TT (n + 1) (inA ad (ps x + 1) e) (inP ps (ps x + 1) e) (inL lo (ps x + 1) e (ps x + 1)) (inH hi (ps x + 1) e (ps x + 1)) L' R' P' rt := by
  obtain ⟨h1, h2, h3, h4, h5, h6, h7, h8, h9, h10⟩ := h
  have hxn : ps x + 1 ≤ n := hx.1
  have hE := Nd.inE (n := n) (ad := ad) (ps := ps) (i := ps x + 1) (e := e) hxn
  have hO := fun y hy => Nd.inO (n := n) (ad := ad) (ps := ps) (i := ps x + 1) (e := e) (y := y) h1 hxn he hy
  have hnx : x ≠ e := by intro q; subst q; exact he hx
  have hne : ∀ y, Nd n ad ps y → y ≠ e := by intro y hy q; subst q; exact he hy
  have hinj : ∀ y, Nd n ad ps y → ps y = ps x → y = x := fun y a b => Nd.inj a hx b
  have hx2 := h2 x hx
  have hx3 := h5 x hx hl
  refine ⟨inA_ps h1 hxn he, ?_, ?_, ?_, ?_, ?_, ?_, ?_, ?_, ?_⟩
  · intro y hy
    by_cases q : y = e
    · subst q; simp only [inP, inL, inH, if_true]; omega
    · have hy' := (hO y q).mp hy
      have := h2 y hy'
      have := hinj y hy'
      simp only [inP, inL, inH, if_neg q]
      split <;> split <;> split <;> omega
  · intro y hy hn
    by_cases q : y = e
    · subst q; simp only [inP, inL, if_true]
    · have hy' := (hO y q).mp hy
      rw [hL3 y q] at hn
      have := h3 y hy' hn
      simp only [inP, inL, if_neg q]
      split <;> split <;> omega
  · intro y z hy hz
    by_cases q : y = e
    · subst q; rw [hL2] at hz; cases hz
    · have hy' := (hO y q).mp hy
      rw [hL3 y q] at hz
      obtain ⟨b1, b2, b3, b4⟩ := h4 y z hy' hz
      have qz := hne z b1
      refine ⟨(hO z qz).mpr b1, by rw [hP3 z qz]; exact b2, ?_, ?_⟩
      · simp only [inL, if_neg q, if_neg qz, b3]
      · simp only [inH, inP, if_neg q, if_neg qz, b4]; split <;> split <;> omega
  · intro y hy hn
    by_cases q : y = e
    · subst q; simp only [inH, inP, if_true]
    · have hy' := (hO y q).mp hy
      have hyx : y ≠ x := by intro z; subst z; rw [hR1] at hn; cases hn
      rw [hR3 y hyx q] at hn
      have := h5 y hy' hn
      have : ps y ≠ ps x := fun z => hyx (hinj y hy' z)
      simp only [inH, inP, if_neg q]
      split <;> split <;> omega
  · intro y z hy hz
    by_cases q : y = e
    · subst q; rw [hR2] at hz; cases hz
    · have hy' := (hO y q).mp hy
      by_cases qx : y = x
      · subst qx
        rw [hR1] at hz; cases hz
        refine ⟨hE, hP2, ?_, ?_⟩
        · simp only [inL, inP, if_true, if_neg hnx]; split <;> omega
        · simp only [inH, if_true, if_neg hnx]; split <;> omega
      · rw [hR3 y qx q] at hz
        obtain ⟨b1, b2, b3, b4⟩ := h6 y z hy' hz
        have qz := hne z b1
        have : ps y ≠ ps x := fun w => qx (hinj y hy' w)
        refine ⟨(hO z qz).mpr b1, by rw [hP3 z qz]; exact b2, ?_, ?_⟩
        · simp only [inL, inP, if_neg q, if_neg qz, b3]; split <;> split <;> omega
        · simp only [inH, if_neg q, if_neg qz, b4]
  · intro y hy hn
    by_cases q : y = e
    · subst q; rw [hP2] at hn; cases hn
    · rw [hP3 y q] at hn
      exact h7 y ((hO y q).mp hy) hn
  · intro y z hy hz
    by_cases q : y = e
    · subst q; rw [hP2] at hz; cases hz
      exact ⟨(hO _ hnx).mpr hx, Or.inr hR1⟩
    · rw [hP3 y q] at hz
      obtain ⟨b1, b2⟩ := h8 y z ((hO y q).mp hy) hz
      have qz := hne z b1
      refine ⟨(hO z qz).mpr b1, ?_⟩
      rcases b2 with b2 | b2
      · left; rw [hL3 z qz]; exact b2
      · right
        have : z ≠ x := by intro w; subst w; rw [hl] at b2; cases b2
        rw [hR3 z this qz]; exact b2
  · intro q
    have := h9 q
    have := hx.1
    omega
  · intro y hy
    obtain ⟨b1, b2, b3, b4⟩ := h10 y hy
    have q := hne y b1
    have := hx.1
    refine ⟨(hO y q).mpr b1, by rw [hP3 y q]; exact b2, ?_, ?_⟩
    · simp only [inL, if_neg q]; split <;> omega
    · simp only [inH, if_neg q]; split <;> omega
/-- a tree of one node -/
theorem TT.one {e : Nat} {L R P : Nat → Option Nat} (hl : L e = none) (hr : R e = none) (hp : P e = none) : TT 1 (fun _ => e) (fun _ => 0) (fun _ => 0) (fun _ => 1) L R P (some e) := by
  have hN : ∀ y, Nd 1 (fun _ => e) (fun _ => 0) y → y = e := fun y h => h.2.symm
  refine ⟨fun i hi => by show 0 = i; omega, fun y _ => by simp, fun _ _ _ => rfl, ?_, fun _ _ _ => rfl, ?_, ?_, ?_, fun q => by simp at q, ?_⟩
  · intro x y hx h; rw [hN x hx, hl] at h; cases h
  · intro x y hx h; rw [hN x hx, hr] at h; cases h
  · intro x hx _; rw [hN x hx]
  · intro x y hx h; rw [hN x hx, hp] at h; cases h
  · intro x hx; cases hx; exact ⟨⟨Nat.zero_lt_one, rfl⟩, hp, rfl, rfl⟩
theorem TT.nil {L R P : Nat → Option Nat} {ad ps lo hi : Nat → Nat} : TT 0 ad ps lo hi L R P none := by
  have hN : ∀ y, ¬ Nd 0 ad ps y := fun y h => by have := h.1; omega
  refine ⟨fun i hi => by omega, fun y h => absurd h (hN y), fun y h => absurd h (hN y), fun y z h => absurd h (hN y), fun y h => absurd h (hN y), fun y z h => absurd h (hN y), fun y h => absurd h (hN y), fun y z h => absurd h (hN y), fun _ => rfl, fun x q => by cases q⟩
/-- places move down behind i -/
def deA (ad : Nat → Nat) (i : Nat) : Nat → Nat := fun j => if j < i then ad j else ad (j + 1)
def deP (ps : Nat → Nat) (i : Nat) : Nat → Nat := fun y => if i < ps y then ps y - 1 else ps y
theorem deA_ps {i : Nat} (h1 : ∀ i, i < n + 1 → ps (ad i) = i) (hi : i < n + 1) : ∀ j, j < n → deP ps i (deA ad i j) = j := by
  intro j hj
  unfold deA deP
  by_cases a : j < i
  · have := h1 j (by omega)
    rw [if_pos a, this, if_neg (by omega)]
  · have := h1 (j + 1) (by omega)
    rw [if_neg a, this, if_pos (by omega)]
    omega
theorem Nd.deO {p y : Nat} (h1 : ∀ i, i < n + 1 → ps (ad i) = i) (hp : Nd (n + 1) ad ps p) (hy : y ≠ p) : Nd n (deA ad (ps p)) (deP ps (ps p)) y ↔ Nd (n + 1) ad ps y := by
  have hpn := hp.1
  unfold Nd
  simp only [deP, deA]
  constructor
  · rintro ⟨a1, a2⟩
    by_cases h : ps p < ps y
    · simp only [h, if_true] at a1 a2
      rw [if_neg (by omega)] at a2
      have : ps y - 1 + 1 = ps y := by omega
      rw [this] at a2
      exact ⟨by omega, a2⟩
    · simp only [h, if_false] at a1 a2
      by_cases h' : ps y < ps p
      · rw [if_pos h'] at a2; exact ⟨by omega, a2⟩
      · rw [if_neg h'] at a2
        have := h1 (ps y + 1) (by omega)
        rw [a2] at this
        omega
  · rintro ⟨a1, a2⟩
    have hne : ps y ≠ ps p := fun q => hy (Nd.inj ⟨a1, a2⟩ hp q)
    by_cases h : ps p < ps y
    · simp only [h, if_true]
      rw [if_neg (by omega)]
      have : ps y - 1 + 1 = ps y := by omega
      rw [this]
      exact ⟨by omega, a2⟩
    · simp only [h, if_false]
      rw [if_pos (by omega)]
      exact ⟨by omega, a2⟩
/-- the node p, that has at most the child ch, goes; its parent has ch in its place -/
theorem TT.del {p : Nat} {ch : Option Nat} (h : TT (n + 1) ad ps lo hi L R P rt) (hp : Nd (n + 1) ad ps p) (hch : (L p = none ∧ R p = ch) ∨ (R p = none ∧ L p = ch)) {L' R' P' : Nat → Option Nat} {rt' : Option Nat}
    (hu1 : P p = none → rt' = ch) (hu2 : P p ≠ none → rt' = rt)
    (hu3 : ∀ q, P p = some q → L q = some p → L' q = ch) (hu4 : ∀ q, P p = some q → L q ≠ some p → R' q = ch)
    (hL2 : ∀ x, x ≠ p → ¬ (P p = some x ∧ L x = some p) → L' x = L x) (hR2 : ∀ x, x ≠ p → ¬ (P p = some x ∧ L x ≠ some p) → R' x = R x)
    (hP1 : ∀ c, ch = some c → P' c = P p) (hP2 : ∀ x, x ≠ p → ch ≠ some x → P' x = P x) :
    TT n (deA ad (ps p)) (deP ps (ps p)) (deP lo (ps p)) (deP hi (ps p)) L' R' P' rt' := by
  obtain ⟨h1, h2, h3, h4, h5, h6, h7, h8, h9, h10⟩ := h
  have hO := fun y hy => Nd.deO (n := n) (ad := ad) (ps := ps) (p := p) (y := y) h1 hp hy
  have hpN : ¬ Nd n (deA ad (ps p)) (deP ps (ps p)) p := by
    have e1 : deP ps (ps p) p = ps p := by unfold deP; rw [if_neg (by omega)]
    rintro ⟨a1, a2⟩
    rw [e1] at a1 a2
    unfold deA at a2
    rw [if_neg (by omega)] at a2
    have := h1 (ps p + 1) (by omega)
    rw [a2] at this; omega
  have hN : ∀ y, Nd n (deA ad (ps p)) (deP ps (ps p)) y → y ≠ p ∧ Nd (n + 1) ad ps y := by
    intro y hy
    have q : y ≠ p := by intro q; subst q; exact hpN hy
    exact ⟨q, (hO y q).mp hy⟩
  have hinj : ∀ y, Nd (n + 1) ad ps y → ps y = ps p → y = p := fun y a b => Nd.inj a hp b
  have hp2 := h2 p hp
  -- the child
  have hc : ∀ c, ch = some c → Nd (n + 1) ad ps c ∧ P c = some p ∧ c ≠ p ∧ ((lo c = ps p + 1 ∧ hi c = hi p ∧ lo p = ps p) ∨ (lo c = lo p ∧ hi c = ps p ∧ hi p = ps p + 1)) := by
    intro c e
    rcases hch with ⟨a, b⟩ | ⟨a, b⟩
    · obtain ⟨b1, b2, b3, b4⟩ := h6 p c hp (b.trans e)
      have := h2 c b1
      have := h3 p hp a
      exact ⟨b1, b2, by intro q; subst q; omega, Or.inl ⟨b3, b4, this⟩⟩
    · obtain ⟨b1, b2, b3, b4⟩ := h4 p c hp (b.trans e)
      have := h2 c b1
      have := h5 p hp a
      exact ⟨b1, b2, by intro q; subst q; omega, Or.inr ⟨b3, b4, this⟩⟩
  have hc0 : ch = none → lo p = ps p ∧ hi p = ps p + 1 := by
    intro e
    rcases hch with ⟨a, b⟩ | ⟨a, b⟩
    · exact ⟨h3 p hp a, h5 p hp (b.trans e)⟩
    · exact ⟨h3 p hp (b.trans e), h5 p hp a⟩
  refine ⟨deA_ps h1 hp.1, ?_, ?_, ?_, ?_, ?_, ?_, ?_, ?_, ?_⟩
  · intro y hy
    obtain ⟨q, hy'⟩ := hN y hy
    have := h2 y hy'
    have : ps y ≠ ps p := fun z => q (hinj y hy' z)
    simp only [deP]
    split <;> split <;> split <;> omega
  · intro y hy hn
    obtain ⟨q, hy'⟩ := hN y hy
    have hpy : ps y ≠ ps p := fun z => q (hinj y hy' z)
    by_cases e : P p = some y ∧ L y = some p
    · rw [hu3 y e.1 e.2] at hn
      have a := hc0 hn
      obtain ⟨b1, b2, b3, b4⟩ := h4 y p hy' e.2
      simp only [deP]; split <;> split <;> omega
    · rw [hL2 y q e] at hn
      have := h3 y hy' hn
      simp only [deP]; split <;> split <;> omega
  · intro y z hy hz
    obtain ⟨q, hy'⟩ := hN y hy
    have hpy : ps y ≠ ps p := fun z => q (hinj y hy' z)
    by_cases e : P p = some y ∧ L y = some p
    · rw [hu3 y e.1 e.2] at hz
      obtain ⟨c1, c2, c3, c4⟩ := hc z hz
      obtain ⟨b1, b2, b3, b4⟩ := h4 y p hy' e.2
      have := h2 z c1
      have hz' : ps z ≠ ps p := fun w => c3 (hinj z c1 w)
      refine ⟨(hO z c3).mpr c1, by rw [hP1 z hz]; exact e.1, ?_, ?_⟩
      · simp only [deP]; split <;> split <;> omega
      · simp only [deP]; split <;> split <;> omega
    · rw [hL2 y q e] at hz
      obtain ⟨b1, b2, b3, b4⟩ := h4 y z hy' hz
      have c3 : z ≠ p := by intro w; subst w; exact e ⟨b2, hz⟩
      have c4 : ch ≠ some z := by intro w; have := (hc z w).2.1; rw [b2] at this; cases this; exact q rfl
      refine ⟨(hO z c3).mpr b1, by rw [hP2 z c3 c4]; exact b2, ?_, ?_⟩
      · simp only [deP, b3]
      · simp only [deP, b4]
  · intro y hy hn
    obtain ⟨q, hy'⟩ := hN y hy
    have hpy : ps y ≠ ps p := fun z => q (hinj y hy' z)
    by_cases e : P p = some y ∧ L y ≠ some p
    · rw [hu4 y e.1 e.2] at hn
      have a := hc0 hn
      have e2 := (h8 p y hp e.1).2.resolve_left e.2
      obtain ⟨b1, b2, b3, b4⟩ := h6 y p hy' e2
      simp only [deP]; split <;> split <;> omega
    · rw [hR2 y q e] at hn
      have := h5 y hy' hn
      simp only [deP]; split <;> split <;> omega
  · intro y z hy hz
    obtain ⟨q, hy'⟩ := hN y hy
    have hpy : ps y ≠ ps p := fun z => q (hinj y hy' z)
    by_cases e : P p = some y ∧ L y ≠ some p
    · rw [hu4 y e.1 e.2] at hz
      obtain ⟨c1, c2, c3, c4⟩ := hc z hz
      have e2 := (h8 p y hp e.1).2.resolve_left e.2
      obtain ⟨b1, b2, b3, b4⟩ := h6 y p hy' e2
      have := h2 z c1
      have hz' : ps z ≠ ps p := fun w => c3 (hinj z c1 w)
      refine ⟨(hO z c3).mpr c1, by rw [hP1 z hz]; exact e.1, ?_, ?_⟩
      · simp only [deP]; split <;> split <;> omega
      · simp only [deP]; split <;> split <;> omega
    · rw [hR2 y q e] at hz
      obtain ⟨b1, b2, b3, b4⟩ := h6 y z hy' hz
      have c3 : z ≠ p := by
        intro w; subst w
        have e3 : L y = some z := Classical.byContradiction fun w => e ⟨b2, w⟩
        have c1 := h4 y z hy' e3
        have := h2 y hy'
        omega
      have c4 : ch ≠ some z := by intro w; have := (hc z w).2.1; rw [b2] at this; cases this; exact q rfl
      refine ⟨(hO z c3).mpr b1, by rw [hP2 z c3 c4]; exact b2, ?_, ?_⟩
      · simp only [deP, b3]; split <;> split <;> omega
      · simp only [deP, b4]
  · intro y hy hn
    obtain ⟨q, hy'⟩ := hN y hy
    by_cases e : ch = some y
    · rw [hP1 y e] at hn
      rw [hu1 hn]; exact e
    · rw [hP2 y q e] at hn
      have a := h7 y hy' hn
      have b : P p ≠ none := by
        intro w
        have := h7 p hp w
        rw [this] at a; cases a; exact q rfl
      rw [hu2 b]; exact a
  · intro y z hy hz
    obtain ⟨q, hy'⟩ := hN y hy
    by_cases e : ch = some y
    · rw [hP1 y e] at hz
      obtain ⟨b1, b2⟩ := h8 p z hp hz
      have c3 : z ≠ p := by
        intro w; subst w
        rcases b2 with b2 | b2
        · have := h4 z z hp b2; omega
        · have := h6 z z hp b2; omega
      refine ⟨(hO z c3).mpr b1, ?_⟩
      by_cases e3 : L z = some p
      · left; rw [hu3 z hz e3]; exact e
      · right; rw [hu4 z hz e3]; exact e
    · rw [hP2 y q e] at hz
      obtain ⟨b1, b2⟩ := h8 y z hy' hz
      have c3 : z ≠ p := by
        intro w; subst w
        rcases b2 with b2 | b2 <;> rcases hch with ⟨a, b⟩ | ⟨a, b⟩
        · rw [a] at b2; cases b2
        · rw [b] at b2; exact e b2
        · rw [b] at b2; exact e b2
        · rw [a] at b2; cases b2
      refine ⟨(hO z c3).mpr b1, ?_⟩
      rcases b2 with b2 | b2
      · left
        rw [hL2 z c3 (by rintro ⟨-, w⟩; rw [b2] at w; cases w; exact q rfl)]; exact b2
      · right
        rw [hR2 z c3 (by
          rintro ⟨w1, w2⟩
          have := (h8 p z hp w1).2.resolve_left w2
          rw [b2] at this; cases this; exact q rfl)]
        exact b2
  · intro e
    by_cases b : P p = none
    · rw [hu1 b] at e
      have a := hc0 e
      have := h10 p (h7 p hp b)
      omega
    · rw [hu2 b] at e
      have := h9 e
      omega
  · intro y hy
    by_cases b : P p = none
    · rw [hu1 b] at hy
      obtain ⟨c1, c2, c3, c4⟩ := hc y hy
      have := h10 p (h7 p hp b)
      refine ⟨(hO y c3).mpr c1, by rw [hP1 y hy]; exact b, ?_, ?_⟩
      · simp only [deP]; split <;> omega
      · have := h2 y c1
        simp only [deP]; split <;> omega
    · rw [hu2 b] at hy
      obtain ⟨b1, b2, b3, b4⟩ := h10 y hy
      have c3 : y ≠ p := by intro w; subst w; exact b b2
      have c4 : ch ≠ some y := by intro w; have := (hc y w).2.1; rw [b2] at this; cases this
      have := hp.1
      refine ⟨(hO y c3).mpr b1, by rw [hP2 y c3 c4]; exact b2, ?_, ?_⟩
      · simp only [deP]; split <;> omega
      · simp only [deP]; split <;> omega
end TreeID

