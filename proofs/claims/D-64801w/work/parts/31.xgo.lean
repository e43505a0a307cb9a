/-! ===== contracts that return or throw; methods with handlers ===== -/
def XCof (G : Gx) (xp : String → Mem → Prop) : String → State → State → Prop := fun E _ t => ∃ M' : Mem, xp E M' ∧ Rp G.2.1 G.2.2 M' t.heap ∧ Ol G.2.1 t.heap
/-- the method y returns: post, or throws a new object of the class E: xp E -/
def CtX (G : Gx) (y : MethodName) (cc : ByteArray) (nL : Nat) (ret : Option FieldType) (d mc ms : Nat) (av : List Sv) (M : Mem) (post : Option Sv → Mem → Prop) (xp : String → Mem → Prop) : Prop :=
  vx_Met G.1 y (ws_ y cc nL ret) (rmL d mc ms) (CtP G av M) (CtQ G post) (XCof G xp) mc ms (fun q => G.2.1.heap.size ≤ q)
/-- a method with handlers that returns: post -/
def CtW (G : Gx) (y : MethodName) (cc : ByteArray) (nL : Nat) (ret : Option FieldType) (hh : List (Nat × Nat × Nat × Nat)) (d mc ms : Nat) (av : List Sv) (M : Mem) (post : Option Sv → Mem → Prop) : Prop :=
  Met G.1 y (wsW_ y cc nL ret hh) (rmL d mc ms) (CtP G av M) (CtQ G post) mc ms (fun q => G.2.1.heap.size ≤ q)
/-- throwing out of the frame with xp is an end that it may come to -/
def Xt : Cx → Gx → Nat → Nat → (String → Mem → Prop) → Prop
  | (_, _, _, _, s, _, args, below, _, c, Q, _, _, _), G, mc, ms, xp => ((∀ x ∈ c.exceptionTable.toList, False) ∧ Ol G.2.1 s.heap) ∧ ∀ t, vx_MQ below (fun _ _ _ _ => False) (XCof G xp) args s mc ms (fun q => G.2.1.heap.size ≤ q) t → Q t
/-- the frame's table of handlers -/
def Tb : Cx → List (Nat × Nat × Nat × Nat) → Prop
  | (_, _, _, _, _, _, _, _, _, c, _, _, _, _), hh => c.exceptionTable.toList = tableOf hh
/-- an object of the class E was thrown over the frame -/
def GoX : Cx → Nat → Lv → String → Mem → Nat → Nat → Prop
  | (p, l, e, R, s, m, args, below, meth, c, Q, s0, D, nL), pc, lv, E, M, k, n => ∀ (H : Heap) (locs : List Loc) (ls : Array Slot) (rest : List Value) (q : Addr) (ce : Cell), Rp s0 D M H → Ol s0 H → (∀ z ∈ locs, s0.heap.size ≤ z.base) → lvh ls nL lv → H[q]? = some ce → ce.vm = .none → s.vm.findClass E = some ce.cls → vx_W p l e R s m args below meth c H locs k n Q (F0 m pc ls rest) q
theorem CtX.of {G : Gx} {y : MethodName} {cc : ByteArray} {nL : Nat} {ret : Option FieldType} {d mc ms : Nat} {av : List Sv} {M : Mem} {post : Option Sv → Mem → Prop} {xp : String → Mem → Prop} {own nm : String} {lv : Lv} (hB : Base G) (hy : plainName y.cls = true) (ho : y.cls = own) (hn : y.name = nm) (hlv : lvA av ++ List.replicate (nL - (lvA av).length) none = lv) (hsz : Nat.ble (lvA av).length nL = true)
    (body : ∀ C : Cx, Ok C G cc own nm d mc ms → Rt C G ret mc ms post → Xt C G mc ms xp → Go C 0 lv [] M 0 0) : CtX G y cc nL ret d mc ms av M post xp := by
  obtain ⟨l, s0, D⟩ := G
  have hsz := Nat.le_of_ble_eq_true hsz
  refine vx_ofW (cc := cc) (maxL := nL) (ret := ret) hy rfl ?_
  intro p e s m args below meth c s₁ B hml htab hv
  obtain ⟨rfl, hW, hR, hO⟩ := hv
  have hx := B.exec
  have hb := B.bytes
  have hr := B.returns
  have hts := atoms_spec (ws := ws_ y cc nL ret) B.pre
  have hts : ∀ w ∈ lw_all, w.before _ s = true := fun w h => hts w (List.mem_cons_of_mem _ h)
  have hown : s.vm.findClass own = some m.cls := by rw [← ho]; exact findClass_of_methodNamed B.named
  have hin : meth.name = nm := by rw [← hn]; exact (name_of_methodNamed B.named B.method).1
  have hlen := sl_len av
  have hl := lv_entry (av.map toV) (n := nL) (by rw [hlen]; exact hsz)
  rw [lg_entry_eq]
  refine body (p, l, e, rmL d mc ms, s, m, (av.map toV).toArray, below, meth, c, vx_MQ below (CtQ (l, s0, D) post) (XCof (l, s0, D) xp) (av.map toV).toArray s mc ms (fun q => s0.heap.size ≤ q), s0, D, nL) ⟨hx, hb, hml, hown, hts, hW, hB, hin, Nat.le_refl _, Nat.le_refl _, Nat.le_refl _, Nat.le_refl _, B.notSynchronized, rfl⟩ ⟨hr, fun t h => ?_⟩ ⟨⟨htab, hO⟩, fun t h => ?_⟩ s.heap [] _ hR hO (fun q h => by cases h) ⟨?_, _, hl, ?_⟩
  · obtain ⟨o, b1, b2, b3, b4⟩ := h
    exact ⟨o, b1, b2, Or.inl ⟨b3, b4⟩⟩
  · obtain ⟨o, b1, b2, b3⟩ := h
    rcases b3 with b3 | b3
    · exact b3.1.elim
    · exact ⟨o, b1, b2, Or.inr b3⟩
  · rw [← hlv]; simp; omega
  · intro i v hi
    have h2 := lvA_mem av 0 i v
    rw [Nat.zero_add] at h2
    refine h2 ?_
    rw [← hlv] at hi
    by_cases hlt : i < (lvA av).length
    · rwa [List.getElem?_append_left hlt] at hi
    · rw [List.getElem?_append_right (by omega), List.getElem?_replicate] at hi
      split at hi <;> cases hi
section GoX
variable {C : Cx} {G : Gx} {cc : ByteArray} {own nm : String} {d kc ks pc : Nat} {lv : Lv} {st : List Sv} {M : Mem} {k n mc ms : Nat} {post : Option Sv → Mem → Prop} {xp : String → Mem → Prop} {E : String}
/-- not caught here -/
theorem g_out (hC : Ok C G cc own nm d kc ks) (hX : Xt C G mc ms xp) (h1 : k ≤ mc) (h2 : n ≤ ms) (hp : xp E M) : GoX C pc lv E M k n := by
  obtain ⟨p, l, e, R, s, m, args, below, meth, c, Q, s0, D, nL⟩ := C
  obtain ⟨hx, hb, hml, hown, hts, hW, hB, -, -, -, -, -, hlk, rfl⟩ := hC
  intro H locs ls rest q ce hR hO hl hv hcell hcv hcl T hT X
  obtain ⟨t, a, b⟩ := vx_out (Qc := fun _ _ _ _ => False) (XC := XCof (l, s0, D) xp) (mc := mc) (ms := ms) (free := fun q => s0.heap.size ≤ q) (fun x hx => (hX.1.1 x hx).elim) hlk hcell hcv hcl (fun t ht _ => ⟨M, hp, by rw [ht]; exact hR, by rw [ht]; exact hO⟩) hl h1 h2 T hT X
  exact ⟨t, a, hX.2 t b⟩
end GoX
