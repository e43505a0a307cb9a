/-! ===== the heap holds a memory; the machine over a memory ===== -/
abbrev Dx : Type := (Nat → ClassId) × (Nat → Nat → Nat) × (Nat → ClassId)
abbrev Gx : Type := Launch × State × Dx
/-- the kinds of arrays -/
abbrev atz : List FieldType := [.int, .long, .boolean, .object "java/lang/Object", .object "java/util/HashMap$Node", .array .int]
abbrev kI : Nat := 51
abbrev kL : Nat := 52
abbrev kZ : Nat := 53
abbrev kO : Nat := 54
abbrev kH : Nat := 55
abbrev kII : Nat := 56
/-- Integers that nobody writes; the two Booleans; the empty Object[] of ArrayList -/
abbrev kBx : Nat := 41
abbrev kBo : Nat := 42
abbrev kE0 : Nat := 43
def fv (M : Mem) (ty : FieldType) (a k : Nat) : Value := match ty with
  | .long => .long (mL M a k)
  | .float => .float (mI M a k).toUInt32
  | .object _ => va_rf (mR M a k)
  | .array _ => va_rf (mR M a k)
  | _ => .int (mI M a k)
def Bxc (D : Dx) (M : Mem) (H : Heap) (a : Nat) : Prop := ∃ cell : Cell, H[a]? = some cell ∧ cell.cls = D.1 17 ∧ cell.vm.isStatics = false ∧ cell.vm ≠ .unknown ∧ cell.slots[D.2.1 17 0]? = some (.int (mI M a 0))
def Boc (s0 : State) (H : Heap) (a : Nat) : Prop := ∃ cell : Cell, H[a]? = some cell ∧ cell.vm.isStatics = false ∧ s0.vm.findClass "java/lang/Boolean" = some cell.cls
def E0c (D : Dx) (M : Mem) (H : Heap) (a : Nat) : Prop := ∃ cell : Cell, H[a]? = some cell ∧ cell.cls = D.2.2 3 ∧ (∀ q, cell.vm ≠ .statics q) ∧ cell.vm ≠ .unknown ∧ cell.slots.size = 0 ∧ mN M a = 0
def Rc (s0 : State) (D : Dx) (M : Mem) (H : Heap) (a : Nat) : Prop :=
  (∀ (ci : Nat) (q : vw_C), mK M a = ci + 1 → clz[ci]? = some q → t_OB a (D.1 ci) q.2.2 (D.2.1 ci) H (fun k => fv M (tyz ci k) a k)) ∧
  (∀ (i : Nat) (ty : FieldType), mK M a = i + 51 → atz[i]? = some ty → H[a]? = some (arrV (D.2.2 i) (mN M a) (fun j => fv M ty a j))) ∧
  (mK M a = kBx → Bxc D M H a) ∧ (mK M a = kBo → Boc s0 H a) ∧ (mK M a = kE0 → E0c D M H a) ∧
  (mK M a ≠ 0 → a < H.size ∧ (mK M a ≠ kBx → mK M a ≠ kBo → mK M a ≠ kE0 → s0.heap.size ≤ a))
def Rp (s0 : State) (D : Dx) (M : Mem) (H : Heap) : Prop := ∀ a : Nat, Rc s0 D M H a
def Ol (s0 : State) (H : Heap) : Prop := s0.heap.size ≤ H.size ∧ ∀ q : Nat, q < s0.heap.size → H[q]? = s0.heap[q]?
def AOk (s : State) (cA : ClassId) (ty : FieldType) : Prop := ArrOfT s cA ty ∧ s.vm.findClass ("[" ++ ty.toString) = some cA ∧ ∃ (kA : Class) (comp : ClassId), s.vm.classes[cA]? = some kA ∧ kA.kind = .array comp ty ∧ (∀ C, ty = .object C → s.vm.findClass C = some comp) ∧ (∀ t, ty = .array t → s.vm.findClass (FieldType.array t).toString = some comp)
theorem AOk.moved {s U : State} {cA : ClassId} {ty : FieldType} (hvm : s.vm.Alike U.vm) (h : AOk s cA ty) : AOk U cA ty := by
  obtain ⟨h1, h2, kA, comp, h3, h4, h5, h6⟩ := h
  obtain ⟨k', hk', he⟩ := hvm.2.2 _ _ h3
  exact ⟨arrOfT_moved hvm h1, by rw [hvm.findClass]; exact h2, k', comp, hk', by rw [he]; exact h4, fun C e => by rw [hvm.findClass]; exact h5 C e, fun t e => by rw [hvm.findClass]; exact h6 t e⟩
/-- what is known at the law's start -/
def Base (G : Gx) : Prop := ∃ b : Addr, (∀ w ∈ lw_tbl, w.before #[Value.ref b] G.2.1 = true) ∧ (∀ (ci : Nat) (q : vw_C), clz[ci]? = some q → u_Kn G.2.1 q.1 q.2.1 q.2.2 (G.2.2.1 ci) (G.2.2.2.1 ci)) ∧ (∀ (i : Nat) (ty : FieldType), atz[i]? = some ty → AOk G.2.1 (G.2.2.2.2 i) ty) ∧ G.1.flags = flags0 ∧ (Cond.and given_1 narrow_1).before #[Value.ref b] G.2.1 = true
/-- a method's run: program, launch, env, room, start, method, arguments, frames below, its method and code, what is to come, the law's start, the classes, the number of locals -/
abbrev Cx : Type := Program × Launch × Env × Room × State × MethodId × Array Value × List Frame × Method × Code × (State → Prop) × State × Dx × Nat
def Go : Cx → Nat → Lv → List Sv → Mem → Nat → Nat → Prop
  | (p, l, e, R, s, m, args, below, meth, c, Q, s0, D, nL), pc, lv, st, M, k, n => ∀ (H : Heap) (locs : List Loc) (ls : Array Slot), Rp s0 D M H → Ol s0 H → (∀ q ∈ locs, s0.heap.size ≤ q.base) → lvh ls nL lv → W p l e R s m args below meth c H locs k n Q (F0 m pc ls (st.map toV))
def Ok : Cx → Gx → ByteArray → String → String → Nat → Nat → Nat → Prop
  | (p, l, _, R, s, m, args, _, meth, c, _, s0, D, nL), G, cc, own, nm, d, kc, ks => p.tables.exec = Jvm.exec ∧ c.code = cc ∧ c.maxLocals = nL ∧ s.vm.findClass own = some m.cls ∧ (∀ w ∈ lw_all, w.before args s = true) ∧ s0.WarmedH s.vm ∧ Base (l, s0, D) ∧ meth.name = nm ∧ d ≤ R.frames ∧ 64 * d ≤ R.locals ∧ kc ≤ R.cells ∧ ks ≤ R.slots ∧ meth.locks = false ∧ G = (l, s0, D)
theorem Ok.words {p l e R s m args below meth c Q s0 D nL G cc own nm d kc ks} (h : Ok (p, l, e, R, s, m, args, below, meth, c, Q, s0, D, nL) G cc own nm d kc ks) : ∀ w ∈ lw_all, w.before args s = true := h.2.2.2.2.1
section GoRows
variable {C : Cx} {G : Gx} {cc : ByteArray} {own nm : String} {d kc ks pc : Nat} {lv : Lv} {st : List Sv} {M : Mem} {k n : Nat}
theorem go_eq {st' : List Sv} {lv' : Lv} {M' : Mem} (kk : Go C pc lv' st' M' k n) (h1 : lv = lv') (h2 : st = st') (h3 : M = M') : Go C pc lv st M k n := by subst h1; subst h2; subst h3; exact kk
theorem go_widen {k' n' : Nat} (h1 : k ≤ k') (h2 : n ≤ n') (kk : Go C pc lv st M k' n') : Go C pc lv st M k n := by
  obtain ⟨p, l, e, R, s, m, args, below, meth, c, Q, s0, D, nL⟩ := C
  intro H locs ls hR hO hl hv
  exact W.widen h1 h2 (kk H locs ls hR hO hl hv)
/-- fewer locals known -/
theorem go_lv {lv' : Lv} (h0 : lv'.length ≤ lv.length) (hs : ∀ (i : Nat) (v : Sv), lv'[i]? = some (some v) → lv[i]? = some (some v)) (kk : Go C pc lv' st M k n) : Go C pc lv st M k n := by
  obtain ⟨p, l, e, R, s, m, args, below, meth, c, Q, s0, D, nL⟩ := C
  intro H locs ls hR hO hl hv
  exact kk H locs ls hR hO hl (hv.sub h0 hs)
theorem g_iconst (hC : Ok C G cc own nm d kc ks) {z : Int} {v : Int32} (hdg : decode cc pc = .ok (.iconst z, 1)) (hz : Int32.ofInt z = v) (kk : Go C (pc + 1) lv (vi v :: st) M k n) : Go C pc lv st M k n := by
  obtain ⟨p, l, e, R, s, m, args, below, meth, c, Q, s0, D, nL⟩ := C
  intro H locs ls hR hO hl hv
  exact lv_iconst hC.1 hC.2.1 hdg hz (kk H locs ls hR hO hl hv)
theorem g_bipush (hC : Ok C G cc own nm d kc ks) {z : Int} {v : Int32} (hdg : decode cc pc = .ok (.bipush z, 2)) (hz : (Int8.ofInt z).toInt32 = v) (kk : Go C (pc + 2) lv (vi v :: st) M k n) : Go C pc lv st M k n := by
  obtain ⟨p, l, e, R, s, m, args, below, meth, c, Q, s0, D, nL⟩ := C
  intro H locs ls hR hO hl hv
  exact lv_bipush hC.1 hC.2.1 hdg hz (kk H locs ls hR hO hl hv)
theorem g_sipush (hC : Ok C G cc own nm d kc ks) {z : Int} {v : Int32} (hdg : decode cc pc = .ok (.sipush z, 3)) (hz : (Int16.ofInt z).toInt32 = v) (kk : Go C (pc + 3) lv (vi v :: st) M k n) : Go C pc lv st M k n := by
  obtain ⟨p, l, e, R, s, m, args, below, meth, c, Q, s0, D, nL⟩ := C
  intro H locs ls hR hO hl hv
  exact lv_sipush hC.1 hC.2.1 hdg hz (kk H locs ls hR hO hl hv)
theorem g_null (hC : Ok C G cc own nm d kc ks) (hdg : decode cc pc = .ok (.aconst_null, 1)) (kk : Go C (pc + 1) lv (vr none :: st) M k n) : Go C pc lv st M k n := by
  obtain ⟨p, l, e, R, s, m, args, below, meth, c, Q, s0, D, nL⟩ := C
  intro H locs ls hR hO hl hv
  exact lv_null hC.1 hC.2.1 hdg (kk H locs ls hR hO hl hv)
theorem g_iload_n (hC : Ok C G cc own nm d kc ks) {i : Fin 4} {x : Int32} (hdg : decode cc pc = .ok (.iload_n i, 1)) (hi : lv[(i : Nat)]? = some (some (vi x))) (kk : Go C (pc + 1) lv (vi x :: st) M k n) : Go C pc lv st M k n := by
  obtain ⟨p, l, e, R, s, m, args, below, meth, c, Q, s0, D, nL⟩ := C
  intro H locs ls hR hO hl hv
  exact lv_iload_n hC.1 hC.2.1 hdg rfl (hv.at hi) (kk H locs ls hR hO hl hv)
theorem g_iload (hC : Ok C G cc own nm d kc ks) {i : Nat} {x : Int32} (hdg : decode cc pc = .ok (.iload i, 2)) (hi : lv[i]? = some (some (vi x))) (kk : Go C (pc + 2) lv (vi x :: st) M k n) : Go C pc lv st M k n := by
  obtain ⟨p, l, e, R, s, m, args, below, meth, c, Q, s0, D, nL⟩ := C
  intro H locs ls hR hO hl hv
  exact lv_iload hC.1 hC.2.1 hdg (hv.at hi) (kk H locs ls hR hO hl hv)
theorem g_lload_n (hC : Ok C G cc own nm d kc ks) {i : Fin 4} {x : Int64} (hdg : decode cc pc = .ok (.lload_n i, 1)) (hi : lv[(i : Nat)]? = some (some (vl x))) (kk : Go C (pc + 1) lv (vl x :: st) M k n) : Go C pc lv st M k n := by
  obtain ⟨p, l, e, R, s, m, args, below, meth, c, Q, s0, D, nL⟩ := C
  intro H locs ls hR hO hl hv
  exact lv_lload_n hC.1 hC.2.1 hdg rfl (hv.at hi) (kk H locs ls hR hO hl hv)
theorem g_aload_n (hC : Ok C G cc own nm d kc ks) {i : Fin 4} {x : Option Nat} (hdg : decode cc pc = .ok (.aload_n i, 1)) (hi : lv[(i : Nat)]? = some (some (vr x))) (kk : Go C (pc + 1) lv (vr x :: st) M k n) : Go C pc lv st M k n := by
  obtain ⟨p, l, e, R, s, m, args, below, meth, c, Q, s0, D, nL⟩ := C
  intro H locs ls hR hO hl hv
  cases x with
  | none => exact lv_aload_nN hC.1 hC.2.1 hdg rfl (hv.at hi) (kk H locs ls hR hO hl hv)
  | some a => exact lv_aload_n hC.1 hC.2.1 hdg rfl (hv.at hi) (kk H locs ls hR hO hl hv)
theorem g_aload (hC : Ok C G cc own nm d kc ks) {i : Nat} {x : Option Nat} (hdg : decode cc pc = .ok (.aload i, 2)) (hi : lv[i]? = some (some (vr x))) (kk : Go C (pc + 2) lv (vr x :: st) M k n) : Go C pc lv st M k n := by
  obtain ⟨p, l, e, R, s, m, args, below, meth, c, Q, s0, D, nL⟩ := C
  intro H locs ls hR hO hl hv
  cases x with
  | none => exact lv_aloadN hC.1 hC.2.1 hdg (hv.at hi) (kk H locs ls hR hO hl hv)
  | some a => exact lv_aload hC.1 hC.2.1 hdg (hv.at hi) (kk H locs ls hR hO hl hv)
end GoRows
