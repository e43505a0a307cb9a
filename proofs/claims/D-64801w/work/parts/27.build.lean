set_option maxRecDepth 100000
/-! ===== trees over a stretch of places (pure): for buildFromSorted ===== -/
def Nr (a z : Nat) (ad ps : Nat → Nat) (x : Nat) : Prop := a ≤ ps x ∧ ps x < z ∧ ad (ps x) = x
def TR (a z : Nat) (ad ps lo hi : Nat → Nat) (L R P : Nat → Option Nat) (rt : Option Nat) : Prop :=
  (∀ i, a ≤ i → i < z → ps (ad i) = i) ∧
  (∀ x, Nr a z ad ps x → a ≤ lo x ∧ lo x ≤ ps x ∧ ps x < hi x ∧ hi x ≤ z) ∧
  (∀ x, Nr a z ad ps x → L x = none → lo x = ps x) ∧
  (∀ x y, Nr a z ad ps x → L x = some y → Nr a z ad ps y ∧ P y = some x ∧ lo y = lo x ∧ hi y = ps x) ∧
  (∀ x, Nr a z ad ps x → R x = none → hi x = ps x + 1) ∧
  (∀ x y, Nr a z ad ps x → R x = some y → Nr a z ad ps y ∧ P y = some x ∧ lo y = ps x + 1 ∧ hi y = hi x) ∧
  (∀ x, Nr a z ad ps x → P x = none → rt = some x) ∧
  (∀ x y, Nr a z ad ps x → P x = some y → Nr a z ad ps y ∧ (L y = some x ∨ R y = some x)) ∧
  (rt = none → a = z) ∧
  (∀ x, rt = some x → Nr a z ad ps x ∧ P x = none ∧ lo x = a ∧ hi x = z)
theorem TR.nil {a : Nat} {ad ps lo hi : Nat → Nat} {L R P : Nat → Option Nat} : TR a a ad ps lo hi L R P none := by
  have hN : ∀ y, ¬ Nr a a ad ps y := fun y h => by have := h.1; have := h.2.1; omega
  exact ⟨fun i h1 h2 => by omega, fun y h => absurd h (hN y), fun y h => absurd h (hN y), fun y z h => absurd h (hN y), fun y h => absurd h (hN y), fun y z h => absurd h (hN y), fun y h => absurd h (hN y), fun y z h => absurd h (hN y), fun _ => rfl, fun x q => by cases q⟩
theorem TR.tt {n : Nat} {ad ps lo hi : Nat → Nat} {L R P : Nat → Option Nat} {rt : Option Nat} (h : TR 0 n ad ps lo hi L R P rt) : TT n ad ps lo hi L R P rt := by
  have hN : ∀ x, Nd n ad ps x → Nr 0 n ad ps x := fun x h => ⟨by omega, h.1, h.2⟩
  have hM : ∀ x, Nr 0 n ad ps x → Nd n ad ps x := fun x h => ⟨h.2.1, h.2.2⟩
  obtain ⟨h1, h2, h3, h4, h5, h6, h7, h8, h9, h10⟩ := h
  exact ⟨fun i hi => h1 i (by omega) hi, fun x hx => (h2 x (hN x hx)).2, fun x hx => h3 x (hN x hx), fun x y hx e => ⟨hM y (h4 x y (hN x hx) e).1, (h4 x y (hN x hx) e).2⟩, fun x hx => h5 x (hN x hx), fun x y hx e => ⟨hM y (h6 x y (hN x hx) e).1, (h6 x y (hN x hx) e).2⟩, fun x hx => h7 x (hN x hx), fun x y hx e => ⟨hM y (h8 x y (hN x hx) e).1, (h8 x y (hN x hx) e).2⟩, fun e => (h9 e).symm, fun x e => ⟨hM x (h10 x e).1, (h10 x e).2⟩⟩
/-- a left tree, a middle node, a right tree: by one and the same ghosts -/
theorem TR.join {a m z e : Nat} {ad ps lo hi : Nat → Nat} {L1 R1 P1 L2 R2 P2 L R P : Nat → Option Nat} {l r : Option Nat} (h1 : TR a m ad ps lo hi L1 R1 P1 l) (h2 : TR (m + 1) z ad ps lo hi L2 R2 P2 r) (ham : a ≤ m) (hmz : m < z) (hem : ad m = e) (hpe : ps e = m) (hle : lo e = a) (hhe : hi e = z)
    (hL1 : ∀ x, Nr a m ad ps x → L x = L1 x ∧ R x = R1 x) (hL2 : ∀ x, Nr (m + 1) z ad ps x → L x = L2 x ∧ R x = R2 x) (hLe : L e = l) (hRe : R e = r) (hPe : P e = none)
    (hP1 : ∀ x, Nr a m ad ps x → P x = if l = some x then some e else P1 x) (hP2 : ∀ x, Nr (m + 1) z ad ps x → P x = if r = some x then some e else P2 x) :
    TR a z ad ps lo hi L R P (some e) := by
  obtain ⟨a1, a2, a3, a4, a5, a6, a7, a8, a9, a10⟩ := h1
  obtain ⟨b1, b2, b3, b4, b5, b6, b7, b8, b9, b10⟩ := h2
  have hE : Nr a z ad ps e := ⟨by omega, by omega, by rw [hpe]; exact hem⟩
  have up1 : ∀ x, Nr a m ad ps x → Nr a z ad ps x := fun x h => ⟨h.1, by have := h.2.1; omega, h.2.2⟩
  have up2 : ∀ x, Nr (m + 1) z ad ps x → Nr a z ad ps x := fun x h => ⟨by have := h.1; omega, h.2.1, h.2.2⟩
  have cs : ∀ x, Nr a z ad ps x → Nr a m ad ps x ∨ x = e ∨ Nr (m + 1) z ad ps x := by
    intro x hx
    rcases Nat.lt_trichotomy (ps x) m with q | q | q
    · exact Or.inl ⟨hx.1, q, hx.2.2⟩
    · right; left
      have := hx.2.2
      rw [q, hem] at this; exact this.symm
    · exact Or.inr (Or.inr ⟨q, hx.2.1, hx.2.2⟩)
  refine ⟨?_, ?_, ?_, ?_, ?_, ?_, ?_, ?_, (fun q => by cases q), ?_⟩
  · intro i hi1 hi2
    rcases Nat.lt_trichotomy i m with q | q | q
    · exact a1 i hi1 q
    · rw [q, hem]; exact hpe
    · exact b1 i q hi2
  · intro x hx
    rcases cs x hx with h | rfl | h
    · have := a2 x h; omega
    · omega
    · have := b2 x h; omega
  · intro x hx e1
    rcases cs x hx with h | rfl | h
    · exact a3 x h ((hL1 x h).1.symm.trans e1)
    · rw [hLe] at e1; rw [hle, hpe]; exact a9 e1
    · exact b3 x h ((hL2 x h).1.symm.trans e1)
  · intro x y hx e1
    rcases cs x hx with h | rfl | h
    · obtain ⟨c1, c2, c3, c4⟩ := a4 x y h ((hL1 x h).1.symm.trans e1)
      refine ⟨up1 y c1, ?_, c3, c4⟩
      rw [hP1 y c1, if_neg, c2]
      intro q
      have := (a10 y q).2.1
      rw [c2] at this; cases this
    · rw [hLe] at e1
      obtain ⟨c1, c2, c3, c4⟩ := a10 y e1
      exact ⟨up1 y c1, by rw [hP1 y c1, if_pos e1], by omega, by omega⟩
    · obtain ⟨c1, c2, c3, c4⟩ := b4 x y h ((hL2 x h).1.symm.trans e1)
      refine ⟨up2 y c1, ?_, c3, c4⟩
      rw [hP2 y c1, if_neg, c2]
      intro q
      have := (b10 y q).2.1
      rw [c2] at this; cases this
  · intro x hx e1
    rcases cs x hx with h | rfl | h
    · exact a5 x h ((hL1 x h).2.symm.trans e1)
    · rw [hRe] at e1; rw [hhe, hpe]; exact (b9 e1).symm
    · exact b5 x h ((hL2 x h).2.symm.trans e1)
  · intro x y hx e1
    rcases cs x hx with h | rfl | h
    · obtain ⟨c1, c2, c3, c4⟩ := a6 x y h ((hL1 x h).2.symm.trans e1)
      refine ⟨up1 y c1, ?_, c3, c4⟩
      rw [hP1 y c1, if_neg, c2]
      intro q
      have := (a10 y q).2.1
      rw [c2] at this; cases this
    · rw [hRe] at e1
      obtain ⟨c1, c2, c3, c4⟩ := b10 y e1
      exact ⟨up2 y c1, by rw [hP2 y c1, if_pos e1], by omega, by omega⟩
    · obtain ⟨c1, c2, c3, c4⟩ := b6 x y h ((hL2 x h).2.symm.trans e1)
      refine ⟨up2 y c1, ?_, c3, c4⟩
      rw [hP2 y c1, if_neg, c2]
      intro q
      have := (b10 y q).2.1
      rw [c2] at this; cases this
  · intro x hx e1
    rcases cs x hx with h | rfl | h
    · exfalso
      rw [hP1 x h] at e1
      split at e1
      · cases e1
      · rename_i q; exact q (a7 x h e1)
    · rfl
    · exfalso
      rw [hP2 x h] at e1
      split at e1
      · cases e1
      · rename_i q; exact q (b7 x h e1)
  · intro x y hx e1
    rcases cs x hx with h | rfl | h
    · rw [hP1 x h] at e1
      split at e1
      · rename_i q; cases e1; exact ⟨hE, Or.inl (by rw [hLe]; exact q)⟩
      · obtain ⟨c1, c2⟩ := a8 x y h e1
        exact ⟨up1 y c1, by rw [(hL1 y c1).1, (hL1 y c1).2]; exact c2⟩
    · rw [hPe] at e1; cases e1
    · rw [hP2 x h] at e1
      split at e1
      · rename_i q; cases e1; exact ⟨hE, Or.inr (by rw [hRe]; exact q)⟩
      · obtain ⟨c1, c2⟩ := b8 x y h e1
        exact ⟨up2 y c1, by rw [(hL2 y c1).1, (hL2 y c1).2]; exact c2⟩
  · intro x hx; cases hx; exact ⟨hE, hPe, hle, hhe⟩
/-- the same tree by ghosts and links that agree on its nodes -/
theorem TR.to {a z : Nat} {ad ps lo hi ad' ps' lo' hi' : Nat → Nat} {L R P L' R' P' : Nat → Option Nat} {rt : Option Nat} (h : TR a z ad ps lo hi L R P rt) (had : ∀ i, a ≤ i → i < z → ad' i = ad i) (hps : ∀ i, a ≤ i → i < z → ps' (ad i) = i ∧ lo' (ad i) = lo (ad i) ∧ hi' (ad i) = hi (ad i)) (hl : ∀ i, a ≤ i → i < z → L' (ad i) = L (ad i) ∧ R' (ad i) = R (ad i) ∧ P' (ad i) = P (ad i)) : TR a z ad' ps' lo' hi' L' R' P' rt := by
  obtain ⟨h1, h2, h3, h4, h5, h6, h7, h8, h9, h10⟩ := h
  have hN : ∀ x, Nr a z ad' ps' x → Nr a z ad ps x := by
    intro x ⟨q1, q2, q3⟩
    have e := had _ q1 q2
    rw [q3] at e
    have := h1 _ q1 q2
    rw [← e] at this
    exact ⟨by omega, by omega, by rw [this]; exact e.symm⟩
  have hM : ∀ x, Nr a z ad ps x → Nr a z ad' ps' x ∧ ps' x = ps x ∧ lo' x = lo x ∧ hi' x = hi x ∧ L' x = L x ∧ R' x = R x ∧ P' x = P x := by
    intro x ⟨q1, q2, q3⟩
    obtain ⟨c1, c2, c3⟩ := hps _ q1 q2
    obtain ⟨d1, d2, d3⟩ := hl _ q1 q2
    rw [q3] at c1 c2 c3 d1 d2 d3
    exact ⟨⟨by omega, by omega, by rw [c1, had _ q1 q2]; exact q3⟩, c1, c2, c3, d1, d2, d3⟩
  refine ⟨?_, ?_, ?_, ?_, ?_, ?_, ?_, ?_, h9, ?_⟩
  · intro i q1 q2; rw [had i q1 q2]; exact (hps i q1 q2).1
  · intro x hx
    have hx' := hN x hx
    obtain ⟨-, c1, c2, c3, -⟩ := hM x hx'
    rw [c1, c2, c3]; exact h2 x hx'
  · intro x hx e
    have hx' := hN x hx
    obtain ⟨-, c1, c2, c3, c4, c5, c6⟩ := hM x hx'
    rw [c1, c2]; exact h3 x hx' (c4.symm.trans e)
  · intro x y hx e
    have hx' := hN x hx
    obtain ⟨-, c1, c2, c3, c4, c5, c6⟩ := hM x hx'
    obtain ⟨g1, g2, g3, g4⟩ := h4 x y hx' (c4.symm.trans e)
    obtain ⟨d0, d1, d2, d3, d4, d5, d6⟩ := hM y g1
    exact ⟨d0, d6.trans g2, by rw [d2, c2]; exact g3, by rw [d3, c1]; exact g4⟩
  · intro x hx e
    have hx' := hN x hx
    obtain ⟨-, c1, c2, c3, c4, c5, c6⟩ := hM x hx'
    rw [c1, c3]; exact h5 x hx' (c5.symm.trans e)
  · intro x y hx e
    have hx' := hN x hx
    obtain ⟨-, c1, c2, c3, c4, c5, c6⟩ := hM x hx'
    obtain ⟨g1, g2, g3, g4⟩ := h6 x y hx' (c5.symm.trans e)
    obtain ⟨d0, d1, d2, d3, d4, d5, d6⟩ := hM y g1
    exact ⟨d0, d6.trans g2, by rw [d2, c1]; exact g3, by rw [d3, c3]; exact g4⟩
  · intro x hx e
    have hx' := hN x hx
    obtain ⟨-, c1, c2, c3, c4, c5, c6⟩ := hM x hx'
    exact h7 x hx' (c6.symm.trans e)
  · intro x y hx e
    have hx' := hN x hx
    obtain ⟨-, c1, c2, c3, c4, c5, c6⟩ := hM x hx'
    obtain ⟨g1, g2⟩ := h8 x y hx' (c6.symm.trans e)
    obtain ⟨d0, d1, d2, d3, d4, d5, d6⟩ := hM y g1
    exact ⟨d0, by rw [d4, d5]; exact g2⟩
  · intro x e
    obtain ⟨g1, g2, g3, g4⟩ := h10 x e
    obtain ⟨d0, d1, d2, d3, d4, d5, d6⟩ := hM x g1
    exact ⟨d0, d6.trans g2, d2.trans g3, d3.trans g4⟩

