/-! ===== rows of the Go layer: fields, arrays, new ===== -/
theorem fv_kept {M M' : Mem} {a : Nat} (h : Kp M M' a) (ty : FieldType) (k : Nat) : fv M' ty a k = fv M ty a k := by
  obtain ⟨h1, h2, h3⟩ := h k
  cases ty <;> simp [fv, h1, h2, h3]
theorem clz_lt {ci : Nat} {q : vw_C} (h : clz[ci]? = some q) : ci < 24 := (List.getElem?_eq_some_iff.mp h).1
theorem atz_lt {i : Nat} {ty : FieldType} (h : atz[i]? = some ty) : i < 6 := (List.getElem?_eq_some_iff.mp h).1
theorem Rc.kept {s0 : State} {D : Dx} {M M' : Mem} {H H' : Heap} {b : Nat} (h : Rc s0 D M H b) (hq : H'[b]? = H[b]?) (hz : H.size ≤ H'.size) (hk : mK M' b = mK M b) (hn : mN M' b = mN M b) (hp : Kp M M' b) : Rc s0 D M' H' b := by
  obtain ⟨h1, h2, h3, h4, h5, h6⟩ := h
  have hf : ∀ ty k, fv M' ty b k = fv M ty b k := fun ty k => fv_kept hp ty k
  refine ⟨fun ci q e hc => ?_, fun i ty e hc => ?_, fun e => ?_, fun e => ?_, fun e => ?_, fun e => ?_⟩
  · rw [hk] at e
    exact ((h1 ci q e hc).kept hq).to (fun k _ => (hf _ k).symm)
  · rw [hk] at e
    rw [hq, h2 i ty e hc, hn]
    congr 2
    funext j
    exact (hf ty j).symm
  · rw [hk] at e
    obtain ⟨cell, a1, a2, a3, a4, a5⟩ := h3 e
    exact ⟨cell, by rw [hq]; exact a1, a2, a3, a4, by rw [(hp 0).1]; exact a5⟩
  · rw [hk] at e
    obtain ⟨cell, a1, a2⟩ := h4 e
    exact ⟨cell, by rw [hq]; exact a1, a2⟩
  · rw [hk] at e
    obtain ⟨cell, a1, a2, a3, a4, a5, a6⟩ := h5 e
    exact ⟨cell, by rw [hq]; exact a1, a2, a3, a4, a5, by rw [hn]; exact a6⟩
  · rw [hk] at e ⊢
    exact ⟨Nat.lt_of_lt_of_le (h6 e).1 hz, (h6 e).2⟩
theorem Rp.upd {s0 : State} {D : Dx} {M M' : Mem} {H H' : Heap} {a : Nat} (h : Rp s0 D M H) (hz : H'.size = H.size) (ho : ∀ q, q ≠ a → H'[q]? = H[q]?) (hM : ∀ b, mK M' b = mK M b ∧ mN M' b = mN M b ∧ (b ≠ a → Kp M M' b)) (ha : Rc s0 D M' H' a) : Rp s0 D M' H' := by
  intro b
  by_cases e : b = a
  · rw [e]; exact ha
  · exact (h b).kept (ho b e) (by omega) (hM b).1 (hM b).2.1 ((hM b).2.2 e)
/-- an object of the class ci, after its cell was written -/
theorem Rc.obj {s0 : State} {D : Dx} {M M' : Mem} {H H' : Heap} {a ci : Nat} {q : vw_C} (h : Rc s0 D M H a) (hk : mK M a = ci + 1) (hc : clz[ci]? = some q) (hk' : mK M' a = mK M a) (hz : H'.size = H.size) (ht : t_OB a (D.1 ci) q.2.2 (D.2.1 ci) H' (fun k => fv M' (tyz ci k) a k)) : Rc s0 D M' H' a := by
  have hlt := clz_lt hc
  have h6 := h.2.2.2.2.2
  rw [hk] at h6 hk'
  refine ⟨fun ci' q' e hc' => ?_, fun i ty e hc' => ?_, fun e => ?_, fun e => ?_, fun e => ?_, fun e => ?_⟩
  · have : ci' = ci := by omega
    subst this
    cases hc.symm.trans hc'
    exact ht
  · have := atz_lt hc'; omega
  · simp only [kBx] at e; omega
  · simp only [kBo] at e; omega
  · simp only [kE0] at e; omega
  · rw [hk', hz]; exact h6 (by omega)
theorem Rc.arr {s0 : State} {D : Dx} {M M' : Mem} {H H' : Heap} {a i : Nat} {ty : FieldType} (h : Rc s0 D M H a) (hk : mK M a = i + 51) (hc : atz[i]? = some ty) (hk' : mK M' a = mK M a) (hz : H'.size = H.size) (ht : H'[a]? = some (arrV (D.2.2 i) (mN M' a) (fun j => fv M' ty a j))) : Rc s0 D M' H' a := by
  have h6 := h.2.2.2.2.2
  rw [hk] at h6 hk'
  refine ⟨fun ci' q' e hc' => ?_, fun i' ty' e hc' => ?_, fun e => ?_, fun e => ?_, fun e => ?_, fun e => ?_⟩
  · have := clz_lt hc'; omega
  · have : i' = i := by omega
    subst this
    cases hc.symm.trans hc'
    exact ht
  · simp only [kBx] at e; omega
  · simp only [kBo] at e; omega
  · simp only [kE0] at e; omega
  · rw [hk', hz]; exact h6 (by omega)
theorem Rp.fresh {s0 : State} {D : Dx} {M : Mem} {H : Heap} (h : Rp s0 D M H) : mK M H.size = 0 := by
  by_cases e : mK M H.size = 0
  · exact e
  · have := ((h H.size).2.2.2.2.2 e).1
    omega
/-- the class of a receiver, by its kind -/
theorem Rp.recv {s0 : State} {D : Dx} {M : Mem} {H : Heap} {l : Launch} {s : State} {a ci : Nat} {q : vw_C} (hB : Base (l, s0, D)) (hW : s0.WarmedH s.vm) (h : Rp s0 D M H) (hk : mK M a = ci + 1) (hc : clz[ci]? = some q) : ∃ cell : Cell, H[a]? = some cell ∧ cell.vm.isStatics = false ∧ s.vm.findClass q.1 = some cell.cls := by
  obtain ⟨cell, h1, h2, h3, -⟩ := (h a).1 ci q hk hc
  obtain ⟨b, -, hKn, -⟩ := hB
  have h4 := hKn ci q hc
  exact ⟨cell, h1, by rw [h3]; rfl, by rw [hW.alike.findClass, h2]; exact h4.2.1⟩
theorem Rp.recvBx {s0 : State} {D : Dx} {M : Mem} {H : Heap} {l : Launch} {s : State} {a : Nat} (hB : Base (l, s0, D)) (hW : s0.WarmedH s.vm) (h : Rp s0 D M H) (hk : mK M a = kBx) : ∃ cell : Cell, H[a]? = some cell ∧ cell.vm.isStatics = false ∧ s.vm.findClass "java/lang/Integer" = some cell.cls := by
  obtain ⟨cell, h1, h2, h3, -⟩ := (h a).2.2.1 hk
  obtain ⟨b, -, hKn, -⟩ := hB
  have h4 := hKn 17 _ rfl
  exact ⟨cell, h1, h3, by rw [hW.alike.findClass, h2]; exact h4.2.1⟩
theorem Base.kn {l : Launch} {s0 s : State} {D : Dx} (hB : Base (l, s0, D)) (hW : s0.WarmedH s.vm) {ci : Nat} {q : vw_C} (hc : clz[ci]? = some q) : u_Kn s q.1 q.2.1 q.2.2 (D.1 ci) (D.2.1 ci) := by
  obtain ⟨b, -, hKn, -⟩ := hB
  exact u_Kn_moved hW.alike (hKn ci q hc)
theorem Base.ao {l : Launch} {s0 s : State} {D : Dx} (hB : Base (l, s0, D)) (hW : s0.WarmedH s.vm) {i : Nat} {ty : FieldType} (hc : atz[i]? = some ty) : AOk s (D.2.2 i) ty := by
  obtain ⟨b, -, -, hA, -⟩ := hB
  exact (hA i ty hc).moved hW.alike
/-- a word of the tables that isn't good, at a later state: castable -/
theorem Base.cast {l : Launch} {s0 s : State} {D : Dx} (hB : Base (l, s0, D)) (hW : s0.WarmedH s.vm) {A B : String} (hw : Cond.castable A B ∈ lw_tbl) : va_Nw (.castable A B) s := by
  obtain ⟨b, ht, -⟩ := hB
  exact va_Nw.warmC hW (va_Nw.of rfl (ht _ hw))
def sameF (own : String) (q : vw_C) (f : Nat) (ref : String) : Prop := ref = (q.2.1 f).1 ∨ Cond.sameField ref (q.2.1 f).1 (q.2.1 f).2.1 (q.2.1 f).2.2.1 ∈ lw_all
theorem sameF.ok {own ref : String} {q : vw_C} {f : Nat} {s : State} {args : Array Value} (h : sameF own q f ref) (hts : ∀ w ∈ lw_all, w.before args s = true) : ∀ x, s.fieldFound? (q.2.1 f).1 (q.2.1 f).2.1 (q.2.1 f).2.2.1 = some x → s.fieldFound? ref (q.2.1 f).2.1 (q.2.1 f).2.2.1 = some x := by
  rcases h with h | h
  · rw [h]; exact fun x hx => hx
  · exact u_same (hts _ h)
def isI : FieldType → Bool
  | .long | .float | .double | .object _ | .array _ => false
  | _ => true
def isR : FieldType → Bool
  | .object _ | .array _ => true
  | _ => false
theorem fv_i {M : Mem} {ty : FieldType} {a k : Nat} (h : isI ty = true) : fv M ty a k = .int (mI M a k) := by
  cases ty <;> first | rfl | cases h
theorem fv_r {M : Mem} {ty : FieldType} {a k : Nat} (h : isR ty = true) : fv M ty a k = va_rf (mR M a k) := by
  cases ty <;> first | rfl | cases h
section GoHeap
variable {C : Cx} {G : Gx} {cc : ByteArray} {own nm : String} {d kc ks pc : Nat} {lv : Lv} {st : List Sv} {M : Mem} {k n : Nat}
/-- a field is read, as its type's value -/
theorem go_get (hC : Ok C G cc own nm d kc ks) {x : Option Nat} {a ci idx : Nat} {q : vw_C} {ref : String} {w : Sv} (hx : x = some a) (hk : mK M a = ci + 1) (hc : clz[ci]? = some q) (f : Nat) (hf : f < q.2.2) (hw : Cond.fieldLink own idx ref (q.2.1 f).2.1 (q.2.1 f).2.2.1 ∈ lw_all) (hs : sameF own q f ref) (hv0 : fv M (tyz ci f) a f = toV w) (hdg : decode cc pc = .ok (.getfield idx, 3)) (kk : Go C (pc + 3) lv (w :: st) M k n) : Go C pc lv (vr x :: st) M k n := by
  subst hx
  obtain ⟨p, l, e, R, s, m, args, below, meth, c, Q, s0, D, nL⟩ := C
  intro H locs ls hR hO hl hv
  obtain ⟨hxx, hb, hml, hown, hts, hW, hB, -⟩ := hC
  obtain ⟨cell, q1, q2, q3, q4⟩ := (hR a).1 ci q hk hc
  obtain ⟨hS, hfc, kC, hkC, hkind⟩ := hB.kn hW hc
  obtain ⟨cf, kf, fi, fd, hi, hsl⟩ := hS f hf
  refine W.getf hxx hb hown (hts _ hw) (hs.ok hts _ hi) (u_facts hfc hkC (u_lays hts (clz_ok ci q hc).1 hf) hi).1 q1 (by rw [q3]; exact fun h => by cases h) (v := toV w) ?_ rfl rfl hdg (kk H locs ls hR hO hl hv)
  rw [hsl, q4 f hf]
  exact congrArg some hv0
theorem g_getI (hC : Ok C G cc own nm d kc ks) {x : Option Nat} {a ci idx : Nat} {q : vw_C} {ref : String} (hx : x = some a) (hk : mK M a = ci + 1) (hc : clz[ci]? = some q) (f : Nat) (hf : f < q.2.2) (hw : Cond.fieldLink own idx ref (q.2.1 f).2.1 (q.2.1 f).2.2.1 ∈ lw_all) (hs : sameF own q f ref) (ht : isI (tyz ci f) = true) (hdg : decode cc pc = .ok (.getfield idx, 3)) (kk : Go C (pc + 3) lv (vi (mI M a f) :: st) M k n) : Go C pc lv (vr x :: st) M k n :=
  go_get hC hx hk hc f hf hw hs (fv_i ht) hdg kk
theorem g_getR (hC : Ok C G cc own nm d kc ks) {x : Option Nat} {a ci idx : Nat} {q : vw_C} {ref : String} (hx : x = some a) (hk : mK M a = ci + 1) (hc : clz[ci]? = some q) (f : Nat) (hf : f < q.2.2) (hw : Cond.fieldLink own idx ref (q.2.1 f).2.1 (q.2.1 f).2.2.1 ∈ lw_all) (hs : sameF own q f ref) (ht : isR (tyz ci f) = true) (hdg : decode cc pc = .ok (.getfield idx, 3)) (kk : Go C (pc + 3) lv (vr (mR M a f) :: st) M k n) : Go C pc lv (vr x :: st) M k n :=
  go_get hC hx hk hc f hf hw hs (fv_r ht) hdg kk
/-- a nest mate's private field is read -/
theorem go_getN (hC : Ok C G cc own nm d kc ks) {x : Option Nat} {a ci idx : Nat} {q : vw_C} {ref host : String} {w : Sv} (hx : x = some a) (hk : mK M a = ci + 1) (hc : clz[ci]? = some q) (f : Nat) (hf : f < q.2.2) (hw : Cond.fieldLinkNest own idx ref (q.2.1 f).2.1 (q.2.1 f).2.2.1 host ∈ lw_tbl) (hs : sameF own q f ref) (hv0 : fv M (tyz ci f) a f = toV w) (hdg : decode cc pc = .ok (.getfield idx, 3)) (kk : Go C (pc + 3) lv (w :: st) M k n) : Go C pc lv (vr x :: st) M k n := by
  subst hx
  obtain ⟨p, l, e, R, s, m, args, below, meth, c, Q, s0, D, nL⟩ := C
  intro H locs ls hR hO hl hv
  obtain ⟨hxx, hb, hml, hown, hts, hW, hB, -⟩ := hC
  obtain ⟨cell, q1, q2, q3, q4⟩ := (hR a).1 ci q hk hc
  obtain ⟨hS, hfc, kC, hkC, hkind⟩ := hB.kn hW hc
  obtain ⟨cf, kf, fi, fd, hi, hsl⟩ := hS f hf
  have hw' : (Cond.fieldLinkNest own idx ref (q.2.1 f).2.1 (q.2.1 f).2.2.1 host).before args s = true := by
    obtain ⟨b, ht, -⟩ := hB
    exact va_Nw.use rfl (va_Nw.warmF hW (va_Nw.of rfl (ht _ hw)))
  refine va_Wgetf hxx hb hown hw' (hs.ok hts _ hi) (u_facts hfc hkC (u_lays hts (clz_ok ci q hc).1 hf) hi).1 q1 (by rw [q3]; exact fun h => by cases h) (v := toV w) ?_ rfl rfl hdg (kk H locs ls hR hO hl hv)
  rw [hsl, q4 f hf]
  exact congrArg some hv0
theorem g_getNI (hC : Ok C G cc own nm d kc ks) {x : Option Nat} {a ci idx : Nat} {q : vw_C} {ref host : String} (hx : x = some a) (hk : mK M a = ci + 1) (hc : clz[ci]? = some q) (f : Nat) (hf : f < q.2.2) (hw : Cond.fieldLinkNest own idx ref (q.2.1 f).2.1 (q.2.1 f).2.2.1 host ∈ lw_tbl) (hs : sameF own q f ref) (ht : isI (tyz ci f) = true) (hdg : decode cc pc = .ok (.getfield idx, 3)) (kk : Go C (pc + 3) lv (vi (mI M a f) :: st) M k n) : Go C pc lv (vr x :: st) M k n :=
  go_getN hC hx hk hc f hf hw hs (fv_i ht) hdg kk
theorem g_getNR (hC : Ok C G cc own nm d kc ks) {x : Option Nat} {a ci idx : Nat} {q : vw_C} {ref host : String} (hx : x = some a) (hk : mK M a = ci + 1) (hc : clz[ci]? = some q) (f : Nat) (hf : f < q.2.2) (hw : Cond.fieldLinkNest own idx ref (q.2.1 f).2.1 (q.2.1 f).2.2.1 host ∈ lw_tbl) (hs : sameF own q f ref) (ht : isR (tyz ci f) = true) (hdg : decode cc pc = .ok (.getfield idx, 3)) (kk : Go C (pc + 3) lv (vr (mR M a f) :: st) M k n) : Go C pc lv (vr x :: st) M k n :=
  go_getN hC hx hk hc f hf hw hs (fv_r ht) hdg kk
/-- the value of an Integer that nobody writes -/
theorem g_getBx (hC : Ok C G cc own nm d kc ks) {x : Option Nat} {a idx : Nat} (hx : x = some a) (hk : mK M a = kBx) (hw : Cond.fieldLink own idx "java/lang/Integer" "value" "I" ∈ lw_all) (hdg : decode cc pc = .ok (.getfield idx, 3)) (kk : Go C (pc + 3) lv (vi (mI M a 0) :: st) M k n) : Go C pc lv (vr x :: st) M k n := by
  subst hx
  obtain ⟨p, l, e, R, s, m, args, below, meth, c, Q, s0, D, nL⟩ := C
  intro H locs ls hR hO hl hv
  obtain ⟨hxx, hb, hml, hown, hts, hW, hB, -⟩ := hC
  obtain ⟨cell, q1, q2, q3, q4, q5⟩ := (hR a).2.2.1 hk
  have hc : clz[17]? = some (RJ24, TJ24, 1) := rfl
  obtain ⟨hS, hfc, kC, hkC, hkind⟩ := hB.kn hW hc
  obtain ⟨cf, kf, fi, fd, hi, hsl⟩ := hS 0 (by decide)
  refine W.getf hxx hb hown (hts _ hw) (ref := "java/lang/Integer") (name := "value") (desc := "I") hi (u_facts hfc hkC (u_lays hts (clz_ok 17 _ hc).1 (by decide)) hi).1 q1 q4 (v := .int (mI M a 0)) ?_ rfl rfl hdg (kk H locs ls hR hO hl hv)
  rw [hsl, q5]
/-- a field is written -/
theorem go_put (hC : Ok C G cc own nm d kc ks) {x : Option Nat} {a ci idx : Nat} {q : vw_C} {ref : String} {w : Sv} {M' : Mem} (hx : x = some a) (hk : mK M a = ci + 1) (hc : clz[ci]? = some q) (f : Nat) (hf : f < q.2.2) (hw : Cond.fieldLink own idx ref (q.2.1 f).2.1 (q.2.1 f).2.2.1 ∈ lw_all) (hs : sameF own q f ref) (hfin : (q.2.1 f).2.2.2 = false ∨ ((q.2.1 f).2.2.2 = true ∧ nm = "<init>" ∧ (q.2.1 f).1 = own)) (hn : narrow (tyz ci f) (toV w) = toV w) (hfit : fits (tyz ci f) (toV w) = true) (hdg : decode cc pc = .ok (.putfield idx, 3))
    (hV : ∀ j, updV (fun j => fv M (tyz ci j) a j) f (toV w) j = fv M' (tyz ci j) a j) (hM : ∀ b, mK M' b = mK M b ∧ mN M' b = mN M b ∧ (b ≠ a → Kp M M' b)) (kk : Go C (pc + 3) lv st M' k n) : Go C pc lv (w :: vr x :: st) M k n := by
  subst hx
  obtain ⟨p, l, e, R, s, m, args, below, meth, c, Q, s0, D, nL⟩ := C
  intro H locs ls hR hO hl hv
  obtain ⟨hxx, hb, hml, hown, hts, hW, hB, hnm, -⟩ := hC
  have hba : s0.heap.size ≤ a := by
    have h6 := (hR a).2.2.2.2.2
    have := clz_lt hc
    rw [hk] at h6
    exact (h6 (by omega)).2 (by simp only [kBx, ne_eq]; omega) (by simp only [kBo, ne_eq]; omega) (by simp only [kE0, ne_eq]; omega)
  obtain ⟨cell, q1, q2, q3, q4⟩ := (hR a).1 ci q hk hc
  have hKn := hB.kn hW hc
  obtain ⟨hS, hfc, kC, hkC, hkind⟩ := hKn
  obtain ⟨cf, kf, fi, fd, hi, hsl⟩ := hS f hf
  obtain ⟨hin, hty, hnmz⟩ := clz_ok ci q hc
  have hap : ∀ x y, x < q.2.2 → y < q.2.2 → x ≠ y → (D.2.1 ci) x ≠ (D.2.1 ci) y := by
    intro x y hx hy hne
    obtain ⟨_, _, _, fa, hia, ea⟩ := hS x hx
    obtain ⟨_, _, _, fb, hib, eb⟩ := hS y hy
    rw [← ea, ← eb]
    refine u_apart (u_lays hts hin hx) (u_lays hts hin hy) hia hib ?_
    rw [(State.fieldFound?_type hia (hty x hx)).1, (State.fieldFound?_type hib (hty y hy)).1]
    exact hnmz x hx y hy hne
  have hst := (u_facts hfc hkC (u_lays hts hin hf) hi).1
  have hlay := hts _ (hin _ (u_in_lay hf))
  unfold u_lay at hlay
  have hend : ∀ (H' : Heap) (locs' : List Loc), H'[a]? = some (cell.setSlot (D.2.1 ci f) (toV w)) → H'.size = H.size → (∀ q, q ≠ a → H'[q]? = H[q]?) → (∀ q ∈ locs', s0.heap.size ≤ q.base) → W p l e R s m args below meth c H' locs' k n Q (F0 m (pc + 3) ls (st.map toV)) := by
    intro H' locs' e1 e2 e3 hl'
    refine kk H' locs' ls (hR.upd e2 e3 hM ?_) ⟨by rw [e2]; exact hO.1, fun z hz => by rw [e3 z (by omega)]; exact hO.2 z hz⟩ hl' hv
    refine (hR a).obj hk hc (hM a).1 e2 ?_
    exact t_OB.to (V := updV (fun j => fv M (tyz ci j) a j) f (toV w)) ⟨_, e1, q2, q3, t_set q4 hap hf (toV w)⟩ (fun j _ => hV j)
  have hlc : ∀ z ∈ locs ++ [(⟨a, D.2.1 ci f⟩ : Loc)], s0.heap.size ≤ z.base := by
    intro z hz
    rcases List.mem_append.mp hz with h | h
    · exact hl z h
    · rw [List.mem_singleton.mp h]; exact hba
  rcases hfin with hfin | ⟨hfin, hin2, hdecl⟩
  · rw [if_neg (by rw [hfin]; decide)] at hlay
    have h6 := u_store hfc hkC hkind hlay hi (hty f hf) hn hfit
    refine W.putK hxx hb (f := fd) ⟨hown, hts _ hw, ⟨_, _, _, hs.ok hts _ hi⟩, hst⟩ (by rw [q2]; exact h6) q1 q3 (by rw [hsl]; exact k2_hasslot (q4 f hf)) rfl rfl hdg fun H' e1 e2 e3 => ?_
    rw [hsl] at e1 ⊢
    exact hend H' _ e1 e2 e3 hlc
  · rw [if_pos hfin] at hlay
    have hcf : m.cls = cf := by
      obtain ⟨_, _, c', _, _, _, -, -, hf', -, -, -, hown2, -⟩ := Cond.laysFinal_spec hlay
      have e1 : c' = cf := by have := hi.symm.trans hf'; simp at this; exact this.1.symm
      rw [hdecl] at hown2
      rw [← e1]; exact Option.some.inj (hown.symm.trans hown2)
    have h6 := u_fits hfc hkC hkind (Or.inr hlay) hi (hty f hf) hn hfit
    refine W.putFinK hxx hb hown (hts _ hw) (hs.ok hts _ hi) hst hcf (by rw [hnm]; exact hin2) (by rw [q2]; exact h6) q1 q3 (by rw [hsl]; exact k2_hasslot (q4 f hf)) rfl rfl hdg fun H' e1 e2 e3 => ?_
    rw [hsl] at e1 ⊢
    exact hend H' _ e1 e2 e3 hlc
end GoHeap
theorem upd_sI {M : Mem} {a f : Nat} {y : Int32} (t : Nat → FieldType) (ht : isI (t f) = true) (j : Nat) : updV (fun j => fv M (t j) a j) f (.int y) j = fv (sI M a f y) (t j) a j := by
  unfold updV
  by_cases e : j = f
  · subst e; rw [if_pos rfl, fv_i ht, mI_sI]; simp
  · rw [if_neg e]
    show fv M (t j) a j = fv _ (t j) a j
    cases t j <;> simp [fv, mI_sI, mR_sI, mL_sI, e]
theorem upd_sR {M : Mem} {a f : Nat} {y : Option Nat} (t : Nat → FieldType) (ht : isR (t f) = true) (j : Nat) : updV (fun j => fv M (t j) a j) f (va_rf y) j = fv (sR M a f y) (t j) a j := by
  unfold updV
  by_cases e : j = f
  · subst e; rw [if_pos rfl, fv_r ht, mR_sR]; simp
  · rw [if_neg e]
    show fv M (t j) a j = fv _ (t j) a j
    cases t j <;> simp [fv, mI_sR, mR_sR, mL_sR, e]
theorem upd_sL {M : Mem} {a f : Nat} {y : Int64} (t : Nat → FieldType) (ht : t f = .long) (j : Nat) : updV (fun j => fv M (t j) a j) f (.long y) j = fv (sL M a f y) (t j) a j := by
  unfold updV
  by_cases e : j = f
  · subst e; rw [if_pos rfl, ht]; simp [fv, mL_sL]
  · rw [if_neg e]
    show fv M (t j) a j = fv _ (t j) a j
    cases t j <;> simp [fv, mI_sL, mR_sL, mL_sL, e]
theorem upd_sF {M : Mem} {a f : Nat} {y : UInt32} (t : Nat → FieldType) (ht : t f = .float) (j : Nat) : updV (fun j => fv M (t j) a j) f (.float y) j = fv (sI M a f y.toInt32) (t j) a j := by
  unfold updV
  by_cases e : j = f
  · subst e; rw [if_pos rfl, ht]; simp [fv, mI_sI]
  · rw [if_neg e]
    show fv M (t j) a j = fv _ (t j) a j
    cases t j <;> simp [fv, mI_sI, mR_sI, mL_sI, e]
theorem kp_sI (M : Mem) (a f : Nat) (y : Int32) (b : Nat) : mK (sI M a f y) b = mK M b ∧ mN (sI M a f y) b = mN M b ∧ (b ≠ a → Kp M (sI M a f y) b) := ⟨rfl, rfl, fun h j => ⟨by rw [mI_sI]; simp [h], rfl, rfl⟩⟩
theorem kp_sR (M : Mem) (a f : Nat) (y : Option Nat) (b : Nat) : mK (sR M a f y) b = mK M b ∧ mN (sR M a f y) b = mN M b ∧ (b ≠ a → Kp M (sR M a f y) b) := ⟨rfl, rfl, fun h j => ⟨rfl, by rw [mR_sR]; simp [h], rfl⟩⟩
theorem kp_sL (M : Mem) (a f : Nat) (y : Int64) (b : Nat) : mK (sL M a f y) b = mK M b ∧ mN (sL M a f y) b = mN M b ∧ (b ≠ a → Kp M (sL M a f y) b) := ⟨rfl, rfl, fun h j => ⟨rfl, rfl, by rw [mL_sL]; simp [h]⟩⟩
section GoHeap2
variable {C : Cx} {G : Gx} {cc : ByteArray} {own nm : String} {d kc ks pc : Nat} {lv : Lv} {st : List Sv} {M : Mem} {k n : Nat}
theorem g_putI (hC : Ok C G cc own nm d kc ks) {x : Option Nat} {a ci idx : Nat} {q : vw_C} {ref : String} {y : Int32} (hx : x = some a) (hk : mK M a = ci + 1) (hc : clz[ci]? = some q) (f : Nat) (hf : f < q.2.2) (hw : Cond.fieldLink own idx ref (q.2.1 f).2.1 (q.2.1 f).2.2.1 ∈ lw_all) (hs : sameF own q f ref) (hfin : (q.2.1 f).2.2.2 = false ∨ ((q.2.1 f).2.2.2 = true ∧ nm = "<init>" ∧ (q.2.1 f).1 = own)) (ht : isI (tyz ci f) = true) (hn : narrow (tyz ci f) (.int y) = .int y) (hfit : fits (tyz ci f) (.int y) = true) (hdg : decode cc pc = .ok (.putfield idx, 3)) (kk : Go C (pc + 3) lv st (sI M a f y) k n) : Go C pc lv (vi y :: vr x :: st) M k n :=
  go_put hC hx hk hc f hf hw hs hfin hn hfit hdg (upd_sI (tyz ci) ht) (kp_sI M a f y) kk
theorem fits_r {ty : FieldType} (ht : isR ty = true) (y : Option Nat) : narrow ty (va_rf y) = va_rf y ∧ fits ty (va_rf y) = true := by
  cases ty <;> first | (cases y <;> exact ⟨rfl, rfl⟩) | cases ht
theorem g_putR (hC : Ok C G cc own nm d kc ks) {x : Option Nat} {a ci idx : Nat} {q : vw_C} {ref : String} {y : Option Nat} (hx : x = some a) (hk : mK M a = ci + 1) (hc : clz[ci]? = some q) (f : Nat) (hf : f < q.2.2) (hw : Cond.fieldLink own idx ref (q.2.1 f).2.1 (q.2.1 f).2.2.1 ∈ lw_all) (hs : sameF own q f ref) (hfin : (q.2.1 f).2.2.2 = false ∨ ((q.2.1 f).2.2.2 = true ∧ nm = "<init>" ∧ (q.2.1 f).1 = own)) (ht : isR (tyz ci f) = true) (hdg : decode cc pc = .ok (.putfield idx, 3)) (kk : Go C (pc + 3) lv st (sR M a f y) k n) : Go C pc lv (vr y :: vr x :: st) M k n :=
  go_put hC hx hk hc f hf hw hs hfin (fits_r ht y).1 (fits_r ht y).2 hdg (upd_sR (tyz ci) ht) (kp_sR M a f y) kk
theorem g_putF (hC : Ok C G cc own nm d kc ks) {x : Option Nat} {a ci idx : Nat} {q : vw_C} {ref : String} {y : UInt32} (hx : x = some a) (hk : mK M a = ci + 1) (hc : clz[ci]? = some q) (f : Nat) (hf : f < q.2.2) (hw : Cond.fieldLink own idx ref (q.2.1 f).2.1 (q.2.1 f).2.2.1 ∈ lw_all) (hs : sameF own q f ref) (hfin : (q.2.1 f).2.2.2 = false ∨ ((q.2.1 f).2.2.2 = true ∧ nm = "<init>" ∧ (q.2.1 f).1 = own)) (ht : tyz ci f = .float) (hn : narrow (tyz ci f) (.float y) = .float y) (hfit : fits (tyz ci f) (.float y) = true) (hdg : decode cc pc = .ok (.putfield idx, 3)) (kk : Go C (pc + 3) lv st (sI M a f y.toInt32) k n) : Go C pc lv (vf y :: vr x :: st) M k n :=
  go_put hC hx hk hc f hf hw hs hfin hn hfit hdg (upd_sF (tyz ci) ht) (kp_sI M a f y.toInt32) kk
theorem dv_nw (M : Mem) (a κ n ρ : Nat) (ty : FieldType) (j : Nat) (hd : ty ≠ .double) : defaultValue ty = fv (nw M a κ n ρ) ty a j := by
  cases ty <;> first | exact absurd rfl hd | (simp [defaultValue, fv, mI_nw, mR_nw, mL_nw, va_rf]; done) | (simp [defaultValue, fv, mI_nw, mR_nw, mL_nw, va_rf]; rfl)
theorem clz_nd : ∀ (ci : Nat) (q : vw_C), clz[ci]? = some q → ∀ j, j < q.2.2 → tyz ci j ≠ .double := by
  intro ci q hc j hj he
  have h1 := (clz_ok ci q hc).2.1 j hj
  rw [he] at h1
  have : ∀ ci : Fin 24, ∀ j : Fin 24, tyz ci.1 j.1 ≠ .double := by decide +kernel
  have hl := clz_lt hc
  have hj2 : j < 24 := by
    have : ∀ ci : Fin 24, ∀ q, clz[ci.1]? = some q → q.2.2 ≤ 24 := by
      intro ci q h
      have h2 : ∀ ci : Fin 24, (clz[ci.1]?.map (fun q => decide (q.2.2 ≤ 24))) = some true := by decide +kernel
      have h3 := h2 ci
      rw [h] at h3
      simpa using h3
    have := this ⟨ci, hl⟩ q hc
    omega
  exact this ⟨ci, hl⟩ ⟨j, hj2⟩ he
/-- a new object -/
theorem g_new (hC : Ok C G cc own nm d kc ks) {ci idx : Nat} {q : vw_C} (ρ N : Nat) (hc : clz[ci]? = some q) (hN : q.2.2 = N) (hcl : Cond.classLink own idx q.1 ∈ lw_all) (hinst : Cond.instantiable q.1 q.2.2 ∈ lw_all) (hini : Cond.initialized q.1 ∈ lw_all) (hdg : decode cc pc = .ok (.new idx, 3)) (hk : k + 1 ≤ kc) (hn : n + N ≤ ks)
    (kk : ∀ a : Nat, mK M a = 0 → Go C (pc + 3) lv (vr (some a) :: st) (nw M a (ci + 1) 0 ρ) (k + 1) (n + N)) : Go C pc lv st M k n := by
  subst hN
  obtain ⟨p, l, e, R, s, m, args, below, meth, c, Q, s0, D, nL⟩ := C
  intro H locs ls hR hO hl hv
  obtain ⟨hxx, hb, hml, hown, hts, hW, hB, -, -, -, hkc, hks, -⟩ := hC
  have hKn := hB.kn hW hc
  obtain ⟨hin, hty, hnmz⟩ := clz_ok ci q hc
  have hlt := clz_lt hc
  refine W.newcK hxx hb hown (hts _ hcl) (hts _ hinst) (hts _ hini) rfl hdg (by omega) (by omega) hKn.2.1 rfl fun H1 kC hkC e1 z1 o1 => ?_
  have h0 := hR.fresh
  refine kk H.size h0 H1 locs ls (fun b => ?_) ⟨by have := hO.1; omega, fun z hz => by rw [o1 z (by have := hO.1; omega)]; exact hO.2 z hz⟩ hl hv
  by_cases eb : b = H.size
  · subst eb
    refine ⟨fun ci' q' e hc' => ?_, fun i' ty' e hc' => ?_, fun e => ?_, fun e => ?_, fun e => ?_, fun e => ?_⟩
    · rw [mK_nw, if_pos rfl] at e
      have : ci' = ci := by omega
      subst this
      cases hc.symm.trans hc'
      exact (u_born (tyz ci') hts hin hKn hkC e1 hty).to (fun j hj => dv_nw M _ _ _ _ _ _ (clz_nd _ _ hc j hj))
    · rw [mK_nw, if_pos rfl] at e
      have := atz_lt hc'; omega
    · rw [mK_nw, if_pos rfl] at e; simp only [kBx] at e; omega
    · rw [mK_nw, if_pos rfl] at e; simp only [kBo] at e; omega
    · rw [mK_nw, if_pos rfl] at e; simp only [kE0] at e; omega
    · exact ⟨by omega, fun _ _ _ => hO.1⟩
  · by_cases eb2 : b < H.size
    · refine (hR b).kept (o1 b eb2) (by omega) (by rw [mK_nw, if_neg eb]) (by rw [mN_nw, if_neg eb]) (fun j => ⟨by rw [mI_nw, if_neg eb], by rw [mR_nw, if_neg eb], by rw [mL_nw, if_neg eb]⟩)
    · have hb0 : mK M b = 0 := by
        by_cases z : mK M b = 0
        · exact z
        · exact absurd ((hR b).2.2.2.2.2 z).1 eb2
      have hb1 : mK (nw M H.size (ci + 1) 0 ρ) b = 0 := by rw [mK_nw, if_neg eb]; exact hb0
      refine ⟨fun ci' q' e hc' => ?_, fun i' ty' e hc' => ?_, fun e => ?_, fun e => ?_, fun e => ?_, fun e => ?_⟩
      · omega
      · omega
      · simp only [kBx] at e; omega
      · simp only [kBo] at e; omega
      · simp only [kE0] at e; omega
      · exact absurd hb1 e
end GoHeap2
