/-! ===== contracts over memories, returns, calls ===== -/
/-- a contract's start and end -/
def CtP (G : Gx) (av : List Sv) (M : Mem) : Array Value → State → Prop := fun v U => v = (av.map toV).toArray ∧ G.2.1.WarmedH U.vm ∧ Rp G.2.1 G.2.2 M U.heap ∧ Ol G.2.1 U.heap
def CtQ (G : Gx) (post : Option Sv → Mem → Prop) : Array Value → State → Outcome → State → Prop := fun _ _ o t => ∃ (v : Option Sv) (M' : Mem), o = .returned (v.map toV) ∧ post v M' ∧ Rp G.2.1 G.2.2 M' t.heap ∧ Ol G.2.1 t.heap
def rmL (d mc ms : Nat) : Room := { frames := d, cells := mc, slots := ms, locals := 64 * d }
/-- the method y, called with av over the memory M, returns: post; at most mc cells of ms slots are new; d calls deep -/
def Ct (G : Gx) (y : MethodName) (cc : ByteArray) (nL : Nat) (ret : Option FieldType) (d mc ms : Nat) (av : List Sv) (M : Mem) (post : Option Sv → Mem → Prop) : Prop :=
  Met G.1 y (ws_ y cc nL ret) (rmL d mc ms) (CtP G av M) (CtQ G post) mc ms (fun q => G.2.1.heap.size ≤ q)
/-- returning with post is an end that the frame may come to -/
def Rt : Cx → Gx → Option FieldType → Nat → Nat → (Option Sv → Mem → Prop) → Prop
  | (_, _, _, _, s, _, args, below, meth, _, Q, _, _, _), G, ret, mc, ms, post => meth.sig.returnType = ret ∧ ∀ t, MQ below (CtQ G post) args s mc ms (fun q => G.2.1.heap.size ≤ q) t → Q t
theorem Ok.base {C : Cx} {G : Gx} {cc : ByteArray} {own nm : String} {d kc ks : Nat} (h : Ok C G cc own nm d kc ks) : Base G := by
  obtain ⟨p, l, e, R, s, m, args, below, meth, c, Q, s0, D, nL⟩ := C
  obtain ⟨-, -, -, -, -, -, hB, -, -, -, -, -, -, rfl⟩ := h
  exact hB
theorem CtP.blind {G : Gx} {av : List Sv} {M : Mem} : FrameBlind (CtP G av M) := fun _ _ _ _ h => h
theorem W.mono {p : Program} {l : Launch} {e : Env} {R : Room} {s : State} {m : MethodId} {args : Array Value} {below : List Frame} {meth : Method} {c : Code} {H : Heap} {locs : List Loc} {cells slots : Nat} {Q Q' : State → Prop} {g : JFrame} (h : ∀ t, Q t → Q' t) (kk : W p l e R s m args below meth c H locs cells slots Q g) : W p l e R s m args below meth c H locs cells slots Q' g := by
  intro T hT X
  obtain ⟨t, a, b⟩ := kk T hT X
  exact ⟨t, a, h t b⟩
theorem sl_len : ∀ av : List Sv, (lg_sl (av.map toV)).length = (lvA av).length := by
  intro av
  induction av with
  | nil => rfl
  | cons v t ih =>
    have e1 : lg_sl ((v :: t).map toV) = (if (toV v).category = 2 then [.val (toV v), .second] else [.val (toV v)]) ++ lg_sl (t.map toV) := by simp [lg_sl]
    rw [e1, List.length_append, ih, toV_cat]
    rcases v with x | r | z | z <;> simp [catS, lvA] <;> omega
theorem Ct.of {G : Gx} {y : MethodName} {cc : ByteArray} {nL : Nat} {ret : Option FieldType} {d mc ms : Nat} {av : List Sv} {M : Mem} {post : Option Sv → Mem → Prop} {own nm : String} {lv : Lv} (hB : Base G) (hy : plainName y.cls = true) (ho : y.cls = own) (hn : y.name = nm) (hlv : lvA av ++ List.replicate (nL - (lvA av).length) none = lv) (hsz : Nat.ble (lvA av).length nL = true)
    (body : ∀ C : Cx, Ok C G cc own nm d mc ms → Rt C G ret mc ms post → Go C 0 lv [] M 0 0) : Ct G y cc nL ret d mc ms av M post := by
  obtain ⟨l, s0, D⟩ := G
  have hsz := Nat.le_of_ble_eq_true hsz
  refine Met.ofW (cc := cc) (maxL := nL) (ret := ret) hy rfl ?_
  intro p e s m args below meth c s₁ B hml hv
  obtain ⟨rfl, hW, hR, hO⟩ := hv
  have hx := B.exec
  have hb := B.bytes
  have hr := B.returns
  have hts := atoms_spec (ws := ws_ y cc nL ret) B.pre
  have hts : ∀ w ∈ lw_all, w.before _ s = true := fun w h => hts w (List.mem_cons_of_mem _ h)
  have hown : s.vm.findClass own = some m.cls := by rw [← ho]; exact findClass_of_methodNamed B.named
  have hin : meth.name = nm := by rw [← hn]; exact (name_of_methodNamed B.named B.method).1
  have hlen := sl_len av
  have hl := lv_entry (av.map toV) (n := nL) (by rw [hlen]; exact hsz)
  rw [lg_entry_eq]
  refine body (p, l, e, rmL d mc ms, s, m, (av.map toV).toArray, below, meth, c, MQ below (CtQ (l, s0, D) post) (av.map toV).toArray s mc ms (fun q => s0.heap.size ≤ q), s0, D, nL) ⟨hx, hb, hml, hown, hts, hW, hB, hin, Nat.le_refl _, Nat.le_refl _, Nat.le_refl _, Nat.le_refl _, B.notSynchronized, rfl⟩ ⟨hr, fun t h => h⟩ s.heap [] _ hR hO (fun q h => by cases h) ⟨?_, _, hl, ?_⟩
  · rw [← hlv]; simp; omega
  · intro i v hi
    have h2 := lvA_mem av 0 i v
    rw [Nat.zero_add] at h2
    refine h2 ?_
    rw [← hlv] at hi
    by_cases hlt : i < (lvA av).length
    · rwa [List.getElem?_append_left hlt] at hi
    · rw [List.getElem?_append_right (by omega), List.getElem?_replicate] at hi
      split at hi <;> cases hi
section GoRet
variable {C : Cx} {G : Gx} {cc : ByteArray} {own nm : String} {d kc ks pc : Nat} {lv : Lv} {st : List Sv} {M : Mem} {k n mc ms : Nat} {post : Option Sv → Mem → Prop}
theorem g_iret (hC : Ok C G cc own nm d kc ks) {x : Int32} (hQ : Rt C G (some .int) mc ms post) (h1 : k ≤ mc) (h2 : n ≤ ms) (hdg : decode cc pc = .ok (.ireturn, 1)) (hp : post (some (vi x)) M) : Go C pc lv [vi x] M k n := by
  obtain ⟨p, l, e, R, s, m, args, below, meth, c, Q, s0, D, nL⟩ := C
  obtain ⟨hx, hb, hml, hown, hts, hW, hB, -, -, -, -, -, hlk, rfl⟩ := hC
  intro H locs ls hR hO hl hv
  refine W.widen h1 h2 (W.mono hQ.2 ?_)
  exact W.iret hx hb hQ.1 (fun t ht hW => ⟨some (vi x), M, rfl, hp, by rw [ht]; exact hR, by rw [ht]; exact hO⟩) hl hdg hlk
theorem g_zret (hC : Ok C G cc own nm d kc ks) {x : Int32} {ty : FieldType} (hQ : Rt C G (some ty) mc ms post) (h1 : k ≤ mc) (h2 : n ≤ ms) (hdg : decode cc pc = .ok (.ireturn, 1)) (hn : narrow ty (.int x) = .int x) (hp : post (some (vi x)) M) : Go C pc lv [vi x] M k n := by
  obtain ⟨p, l, e, R, s, m, args, below, meth, c, Q, s0, D, nL⟩ := C
  obtain ⟨hx, hb, hml, hown, hts, hW, hB, -, -, -, -, -, hlk, rfl⟩ := hC
  intro H locs ls hR hO hl hv
  refine W.widen h1 h2 (W.mono hQ.2 ?_)
  exact W.zret hx hb hQ.1 hn (fun t ht hW => ⟨some (vi x), M, rfl, hp, by rw [ht]; exact hR, by rw [ht]; exact hO⟩) hl hdg hlk
theorem g_lret (hC : Ok C G cc own nm d kc ks) {x : Int64} (hQ : Rt C G (some .long) mc ms post) (h1 : k ≤ mc) (h2 : n ≤ ms) (hdg : decode cc pc = .ok (.lreturn, 1)) (hp : post (some (vl x)) M) : Go C pc lv [vl x] M k n := by
  obtain ⟨p, l, e, R, s, m, args, below, meth, c, Q, s0, D, nL⟩ := C
  obtain ⟨hx, hb, hml, hown, hts, hW, hB, -, -, -, -, -, hlk, rfl⟩ := hC
  intro H locs ls hR hO hl hv
  refine W.widen h1 h2 (W.mono hQ.2 ?_)
  exact W.lret hx hb hQ.1 (fun t ht hW => ⟨some (vl x), M, rfl, hp, by rw [ht]; exact hR, by rw [ht]; exact hO⟩) hl hdg hlk
theorem g_vret (hC : Ok C G cc own nm d kc ks) (hQ : Rt C G none mc ms post) (h1 : k ≤ mc) (h2 : n ≤ ms) (hdg : decode cc pc = .ok (.return_, 1)) (hp : post none M) : Go C pc lv [] M k n := by
  obtain ⟨p, l, e, R, s, m, args, below, meth, c, Q, s0, D, nL⟩ := C
  obtain ⟨hx, hb, hml, hown, hts, hW, hB, -, -, -, -, -, hlk, rfl⟩ := hC
  intro H locs ls hR hO hl hv
  refine W.widen h1 h2 (W.mono hQ.2 ?_)
  exact W.vret hx hb hQ.1 (fun t ht hW => ⟨none, M, rfl, hp, by rw [ht]; exact hR, by rw [ht]; exact hO⟩) hl hdg hlk
theorem g_aret (hC : Ok C G cc own nm d kc ks) {x : Option Nat} {ty : FieldType} (hQ : Rt C G (some ty) mc ms post) (h1 : k ≤ mc) (h2 : n ≤ ms) (hty : isR ty = true) (hdg : decode cc pc = .ok (.areturn, 1)) (hp : post (some (vr x)) M) : Go C pc lv [vr x] M k n := by
  obtain ⟨p, l, e, R, s, m, args, below, meth, c, Q, s0, D, nL⟩ := C
  obtain ⟨hx, hb, hml, hown, hts, hW, hB, -, -, -, -, -, hlk, rfl⟩ := hC
  intro H locs ls hR hO hl hv
  refine W.widen h1 h2 (W.mono hQ.2 ?_)
  have h3 : (∃ n, ty = .object n) ∨ ∃ t, ty = .array t := by
    cases ty <;> first | exact Or.inl ⟨_, rfl⟩ | exact Or.inr ⟨_, rfl⟩ | cases hty
  have h4 : va_rf x = .null ∨ ∃ a, va_rf x = .ref a := by
    cases x
    · exact Or.inl rfl
    · exact Or.inr ⟨_, rfl⟩
  exact W.aret hx hb hQ.1 h3 h4 (fun t ht hW => ⟨some (vr x), M, rfl, hp, by rw [ht]; exact hR, by rw [ht]; exact hO⟩) hl hdg hlk
/-- ghosts: an Integer that nobody will write; another region -/
theorem go_box {a : Nat} (hk : mK M a = kIN) (kk : Go C pc lv st (sK M a kBx) k n) : Go C pc lv st M k n := by
  obtain ⟨p, l, e, R, s, m, args, below, meth, c, Q, s0, D, nL⟩ := C
  intro H locs ls hR hO hl hv
  refine kk H locs ls (fun b => ?_) hO hl hv
  by_cases eb : b = a
  · subst eb
    have h1 := (hR b).1 17 _ hk rfl
    have h6 := (hR b).2.2.2.2.2 (by rw [hk]; decide)
    obtain ⟨cell, q1, q2, q3, q4⟩ := h1
    refine ⟨fun ci' q' e hc' => ?_, fun i' ty' e hc' => ?_, fun e => ?_, fun e => ?_, fun e => ?_, fun e => ?_⟩
    · rw [mK_sK, if_pos rfl] at e
      have := clz_lt hc'
      simp only [kBx] at e; omega
    · rw [mK_sK, if_pos rfl] at e; simp only [kBx] at e; omega
    · exact ⟨cell, q1, q2, by rw [q3]; rfl, (by rw [q3]; exact fun h => (by cases h)), q4 0 (by decide)⟩
    · rw [mK_sK, if_pos rfl] at e; cases e
    · rw [mK_sK, if_pos rfl] at e; cases e
    · exact ⟨h6.1, fun h => absurd (by rw [mK_sK, if_pos rfl]) h⟩
  · exact (hR b).kept rfl (Nat.le_refl _) (by rw [mK_sK, if_neg eb]) rfl (fun j => ⟨rfl, rfl, rfl⟩)
theorem go_own (a ρ : Nat) (kk : Go C pc lv st (sO M a ρ) k n) : Go C pc lv st M k n := by
  obtain ⟨p, l, e, R, s, m, args, below, meth, c, Q, s0, D, nL⟩ := C
  intro H locs ls hR hO hl hv
  exact kk H locs ls (fun b => (hR b).kept rfl (Nat.le_refl _) rfl rfl (fun j => ⟨rfl, rfl, rfl⟩)) hO hl hv
/-- java.lang.Object's constructor -/
theorem g_objInit (hC : Ok C G cc own nm d kc ks) {x : Option Nat} {a idx : Nat} (hx : x = some a) (hq1 : Cond.methodLink own idx Lib.objectInit ∈ lw_all) (hq2 : Cond.instanceMethod Lib.objectInit ∈ lw_all) (hq3 : Cond.code Lib.objectInit ⟨#[0xb1]⟩ 1 none ∈ lw_all) (hd : 1 ≤ d) (hroom : Nat.ble (st.map catS).sum 8 = true) (hdg : decode cc pc = .ok (.invokespecial idx, 3)) (kk : Go C (pc + 3) lv st M k n) : Go C pc lv (vr x :: st) M k n := by
  subst hx
  obtain ⟨p, l, e, R, s, m, args, below, meth, c, Q, s0, D, nL⟩ := C
  obtain ⟨hx, hb, hml, hown, hts, hW, hB, -, hf, hlo, -, -, hlk, rfl⟩ := hC
  intro H locs ls hR hO hl hv
  have hcat : ((st.map toV).map fun v => v.category).sum = (st.map catS).sum := by
    rw [List.map_map]; congr 1; apply List.map_congr_left; intro v _; exact toV_cat v
  have hroom := Nat.le_of_ble_eq_true hroom
  refine W.objInit hx hb hown (hts _ hq1) (hts _ hq2) (hts _ hq3) rfl (by rw [hml]; exact hv.size) rfl hdg (by omega) ?_ (kk H locs ls hR hO hl hv)
  show 2 * 0 + ((st.map toV).map fun v => v.category).sum + 12 ≤ R.locals
  rw [hcat]; omega
end GoRet
/-! calls -/
def yk (y : MethodName) (n : Nat) : Prop := y.cls ≠ "java/lang/invoke/MethodHandle" ∧ y.cls ≠ "java/lang/invoke/VarHandle" ∧ (parseMethodDescriptor y.desc).map (fun d => d.parameters.length) = some n
/-- the receiver's class, by its kind -/
def Rk (M : Mem) (b : Nat) (Cn : String) (ci : Nat) : Prop := (∃ q : vw_C, mK M b = ci + 1 ∧ clz[ci]? = some q ∧ q.1 = Cn) ∨ (mK M b = kBx ∧ Cn = "java/lang/Integer" ∧ ci = 17)
theorem Rk.o {M : Mem} {b ci : Nat} {q : vw_C} (hk : mK M b = ci + 1) (hc : clz[ci]? = some q) : Rk M b q.1 ci := Or.inl ⟨q, hk, hc, rfl⟩
theorem Rk.b {M : Mem} {b : Nat} (hk : mK M b = kBx) : Rk M b "java/lang/Integer" 17 := Or.inr ⟨hk, rfl, rfl⟩
theorem Rk.cell {s0 : State} {D : Dx} {M : Mem} {H : Heap} {l : Launch} {s : State} {b ci : Nat} {Cn : String} (h : Rk M b Cn ci) (hB : Base (l, s0, D)) (hW : s0.WarmedH s.vm) (hR : Rp s0 D M H) : (∃ cell : Cell, H[b]? = some cell ∧ cell.vm.isStatics = false ∧ s.vm.findClass Cn = some cell.cls) ∧ ClassAt s Cn (D.1 ci) := by
  rcases h with ⟨q, h1, h2, rfl⟩ | ⟨h1, rfl, rfl⟩
  · exact ⟨Rp.recv hB hW hR h1 h2, (hB.kn hW h2).2⟩
  · exact ⟨Rp.recvBx hB hW hR h1, (hB.kn hW (ci := 17) (q := (RJ24, TJ24, 1)) rfl).2⟩
section GoCall
variable {C : Cx} {G : Gx} {cc cc' : ByteArray} {own nm : String} {d d' kc ks pc : Nat} {lv : Lv} {st stk av as : List Sv} {M : Mem} {k n mc ms nL' idx : Nat} {post : Option Sv → Mem → Prop} {y y0 : MethodName} {ret' : Option FieldType}
theorem cat_sum (st : List Sv) : ((st.map toV).map fun v => v.category).sum = (st.map catS).sum := by
  rw [List.map_map]; congr 1; apply List.map_congr_left; intro v _; exact toV_cat v
theorem go_run {p : Program} {l : Launch} {e : Env} {R : Room} {s : State} {m : MethodId} {args : Array Value} {below : List Frame} {meth : Method} {c : Code} {Q : State → Prop} {H : Heap} {locs : List Loc} {ls : Array Slot} {s0 : State} {D : Dx} {nL : Nat} {a : Array Value}
    (hr : va_Run p l e R s m args below meth c H locs k n mc ms (F0 m pc ls (stk.map toV)) (st.map toV) (CtQ (l, s0, D) post a) (fun q => s0.heap.size ≤ q)) (hl : ∀ q ∈ locs, s0.heap.size ≤ q.base) (hv : lvh ls nL lv)
    (kk : ∀ v M', post v M' → Go (p, l, e, R, s, m, args, below, meth, c, Q, s0, D, nL) (pc + 3) lv (v.toList ++ st) M' (k + mc) (n + ms)) : W p l e R s m args below meth c H locs k n Q (F0 m pc ls (stk.map toV)) := by
  intro T hT X
  obtain ⟨v, st₀, t, T', L, h0, X', hL, e1, e2, ⟨v', M', hv', hp, hR', hO'⟩, stp⟩ := hr T hT X
  have hv2 : v = v'.map toV := by injection hv'
  subst hv2
  obtain ⟨t2, a1, b1⟩ := kk v' M' hp T'.heap (locs ++ L) ls (by rw [e1]; exact hR') (by rw [e1]; exact hO') (fun q hq => by
    rcases List.mem_append.mp hq with h | h
    · exact hl q h
    · exact hL q h) hv T' rfl X'
  refine ⟨t2, stp t2 ?_, b1⟩
  have e3 : (v'.map toV).toList ++ st.map toV = (v'.toList ++ st).map toV := by cases v' <;> rfl
  rw [e3]
  exact a1
theorem go_run5 {p : Program} {l : Launch} {e : Env} {R : Room} {s : State} {m : MethodId} {args : Array Value} {below : List Frame} {meth : Method} {c : Code} {Q : State → Prop} {H : Heap} {locs : List Loc} {ls : Array Slot} {s0 : State} {D : Dx} {nL : Nat} {a : Array Value}
    (hr : va_Run5 p l e R s m args below meth c H locs k n mc ms (F0 m pc ls (stk.map toV)) (st.map toV) (CtQ (l, s0, D) post a) (fun q => s0.heap.size ≤ q)) (hl : ∀ q ∈ locs, s0.heap.size ≤ q.base) (hv : lvh ls nL lv)
    (kk : ∀ v M', post v M' → Go (p, l, e, R, s, m, args, below, meth, c, Q, s0, D, nL) (pc + 5) lv (v.toList ++ st) M' (k + mc) (n + ms)) : W p l e R s m args below meth c H locs k n Q (F0 m pc ls (stk.map toV)) := by
  intro T hT X
  obtain ⟨v, st₀, t, T', L, h0, X', hL, e1, e2, ⟨v', M', hv', hp, hR', hO'⟩, stp⟩ := hr T hT X
  have hv2 : v = v'.map toV := by injection hv'
  subst hv2
  obtain ⟨t2, a1, b1⟩ := kk v' M' hp T'.heap (locs ++ L) ls (by rw [e1]; exact hR') (by rw [e1]; exact hO') (fun q hq => by
    rcases List.mem_append.mp hq with h | h
    · exact hl q h
    · exact hL q h) hv T' rfl X'
  refine ⟨t2, stp t2 ?_, b1⟩
  have e3 : (v'.map toV).toList ++ st.map toV = (v'.toList ++ st).map toV := by cases v' <;> rfl
  rw [e3]
  exact a1
theorem rm_ok {R : Room} (hf : d ≤ R.frames) (hlo : 64 * d ≤ R.locals) (hd : d' < d) (hnl : Nat.ble nL' 45 = true) : (rmL d' mc ms).frames + 1 ≤ R.frames ∧ 8 + (nL' + 11) + (rmL d' mc ms).locals ≤ R.locals := by
  have := Nat.le_of_ble_eq_true hnl
  constructor
  · show d' + 1 ≤ R.frames; omega
  · show 8 + (nL' + 11) + 64 * d' ≤ R.locals; omega
theorem g_callS (hC : Ok C G cc own nm d kc ks) (hM : Ct G y cc' nL' ret' d' mc ms av M post) (hst : stk = av.reverse ++ st) (hd : d' < d) (hnl : Nat.ble nL' 45 = true) (hy : yk y av.length) (hq1 : Cond.methodLink own idx y ∈ lw_all) (hq2 : Cond.static y ∈ lw_all) (hq3 : Cond.initialized y.cls ∈ lw_all) (hq4 : Cond.code y cc' nL' ret' ∈ lw_all) (hroom : Nat.ble (st.map catS).sum 8 = true) (hdg : decode cc pc = .ok (.invokestatic idx, 3)) (hk : k + mc ≤ kc) (hn : n + ms ≤ ks)
    (kk : ∀ v M', post v M' → Go C (pc + 3) lv (v.toList ++ st) M' (k + mc) (n + ms)) : Go C pc lv stk M k n := by
  obtain ⟨p, l, e, R, s, m, args, below, meth, c, Q, s0, D, nL⟩ := C
  obtain ⟨hx, hb, hml, hown, hts, hW, hB, -, hf, hlo, hkc, hks, hlk, rfl⟩ := hC
  intro H locs ls hR hO hl hv
  subst hst
  refine go_run (a := (av.map toV).toArray) (va_runS (As := av.map toV) (rest := st.map toV) ⟨hx, hb, hml, hown, hts⟩ hM (va_cwS av.length hts (lw_S hq1 hq2 hq3 hq4) rfl rfl rfl hy (rm_ok hf hlo hd hnl)) ⟨CtP.blind, fun U hU hWU => ⟨rfl, hW.trans hWU, by rw [hU]; exact hR, by rw [hU]; exact hO⟩⟩ rfl (by simp) hv.size (by simp) (lv_room (by rw [cat_sum]; exact Nat.le_of_ble_eq_true hroom)) hdg ⟨by omega, by omega⟩) hl hv kk
/-- a constructor -/
theorem g_callI (hC : Ok C G cc own nm d kc ks) {x : Option Nat} {b : Nat} (hx : x = some b) (hM : Ct G y cc' nL' none d' mc ms (vr (some b) :: as) M post) (hst : stk = as.reverse ++ vr x :: st) (hd : d' < d) (hnl : Nat.ble nL' 45 = true) (hy : yk y as.length) (hyi : y.name = "<init>") (hq1 : Cond.methodLink own idx y ∈ lw_all) (hq2 : Cond.instanceMethod y ∈ lw_all) (hq3 : Cond.initialized y.cls ∈ lw_all) (hq4 : Cond.code y cc' nL' none ∈ lw_all) (hroom : Nat.ble (st.map catS).sum 8 = true) (hdg : decode cc pc = .ok (.invokespecial idx, 3)) (hk : k + mc ≤ kc) (hn : n + ms ≤ ks)
    (kk : ∀ v M', post v M' → Go C (pc + 3) lv (v.toList ++ st) M' (k + mc) (n + ms)) : Go C pc lv stk M k n := by
  subst hx
  obtain ⟨p, l, e, R, s, m, args, below, meth, c, Q, s0, D, nL⟩ := C
  obtain ⟨hx, hb, hml, hown, hts, hW, hB, -, hf, hlo, hkc, hks, hlk, rfl⟩ := hC
  intro H locs ls hR hO hl hv
  subst hst
  refine go_run (a := ((vr (some b) :: as).map toV).toArray) (va_runI (b := b) (As := as.map toV) (rest := st.map toV) ⟨hx, hb, hml, hown, hts⟩ hM (cwI as.length hts (lw_meth hq4) rfl rfl rfl (hts _ hq3) (hts _ hq1) (hts _ hq2) hyi hy (rm_ok hf hlo hd hnl)) ⟨CtP.blind, fun U hU hWU => ⟨rfl, hW.trans hWU, by rw [hU]; exact hR, by rw [hU]; exact hO⟩⟩ rfl (by simp) hv.size (by simp [toV, va_rf]) (lv_room (by rw [cat_sum]; exact Nat.le_of_ble_eq_true hroom)) hdg ⟨by omega, by omega⟩) hl hv kk
/-- a method of the receiver's own class -/
theorem g_callV (hC : Ok C G cc own nm d kc ks) {x : Option Nat} {b ci : Nat} {Cn : String} (hx : x = some b) (hr : Rk M b Cn ci) (hM : Ct G y cc' nL' ret' d' mc ms (vr (some b) :: as) M post) (hst : stk = as.reverse ++ vr x :: st) (hd : d' < d) (hnl : Nat.ble nL' 45 = true) (hyc : y.cls = Cn) (hy : yk y as.length) (hq1 : Cond.methodLink own idx y ∈ lw_all) (hq2 : Cond.instanceMethod y ∈ lw_all) (hq3 : Cond.selects Cn y y ∈ lw_all) (hq4 : Cond.initialized Cn ∈ lw_all) (hq5 : Cond.code y cc' nL' ret' ∈ lw_all) (hroom : Nat.ble (st.map catS).sum 8 = true) (hdg : decode cc pc = .ok (.invokevirtual idx, 3)) (hk : k + mc ≤ kc) (hn : n + ms ≤ ks)
    (kk : ∀ v M', post v M' → Go C (pc + 3) lv (v.toList ++ st) M' (k + mc) (n + ms)) : Go C pc lv stk M k n := by
  subst hx
  obtain ⟨p, l, e, R, s, m, args, below, meth, c, Q, s0, D, nL⟩ := C
  obtain ⟨hx, hb, hml, hown, hts, hW, hB, -, hf, hlo, hkc, hks, hlk, rfl⟩ := hC
  intro H locs ls hR hO hl hv
  subst hst
  refine go_run (a := ((vr (some b) :: as).map toV).toArray) (va_runV (b := b) (C := Cn) (As := as.map toV) (rest := st.map toV) ⟨hx, hb, hml, hown, hts⟩ hM (cwV as.length hts (lw_V hq1 hq2 hq3 hq4 hq5) rfl rfl rfl ⟨hyc, hy⟩ (rm_ok hf hlo hd hnl)) ⟨CtP.blind, (hr.cell hB hW hR).1, fun U hU hWU => ⟨rfl, hW.trans hWU, by rw [hU]; exact hR, by rw [hU]; exact hO⟩⟩ rfl (by simp) hv.size (by simp [toV, va_rf]) (lv_room (by rw [cat_sum]; exact Nat.le_of_ble_eq_true hroom)) hdg ⟨by omega, by omega⟩) hl hv kk
theorem lw_list {ws : List Cond} (h : ∀ w ∈ ws, w ∈ lw_all) {y : MethodName} {b : ByteArray} {L : Nat} {r : Option FieldType} (h5 : Cond.code y b L r ∈ lw_all) : GoodIn lw_all (ws ++ ws_ y b L r) := lw_app h (lw_meth h5)
/-- an inherited method: the link names y0, which is owner's y -/
theorem g_callU (hC : Ok C G cc own nm d kc ks) {x : Option Nat} {b ci : Nat} {Cn owner : String} (hx : x = some b) (hr : Rk M b Cn ci) (hM : Ct G y cc' nL' ret' d' mc ms (vr (some b) :: as) M post) (hst : stk = as.reverse ++ vr x :: st) (hd : d' < d) (hnl : Nat.ble nL' 45 = true) (hyx : y = ⟨owner, y0.name, y0.desc⟩) (hy : yk y as.length) (hq1 : Cond.methodLink own idx y0 ∈ lw_all) (hq2 : Cond.sameMethod y0.cls owner y0.name y0.desc ∈ lw_all) (hq3 : Cond.selects Cn y0 y ∈ lw_all) (hq4 : Cond.instanceMethod y ∈ lw_all) (hq5 : Cond.initialized y.cls ∈ lw_all) (hq6 : Cond.code y cc' nL' ret' ∈ lw_all) (hroom : Nat.ble (st.map catS).sum 8 = true) (hdg : decode cc pc = .ok (.invokevirtual idx, 3)) (hk : k + mc ≤ kc) (hn : n + ms ≤ ks)
    (kk : ∀ v M', post v M' → Go C (pc + 3) lv (v.toList ++ st) M' (k + mc) (n + ms)) : Go C pc lv stk M k n := by
  subst hx
  obtain ⟨p, l, e, R, s, m, args, below, meth, c, Q, s0, D, nL⟩ := C
  obtain ⟨hx, hb, hml, hown, hts, hW, hB, -, hf, hlo, hkc, hks, hlk, rfl⟩ := hC
  intro H locs ls hR hO hl hv
  subst hst
  have hy' : owner ≠ "java/lang/invoke/MethodHandle" ∧ owner ≠ "java/lang/invoke/VarHandle" ∧ (parseMethodDescriptor y0.desc).map (fun d => d.parameters.length) = some as.length := by rw [hyx] at hy; exact hy
  have hG : GoodIn lw_all (va_wsU own idx Cn owner y0 y (ws_ y cc' nL' ret')) := lw_list (by
    intro w hw
    simp only [List.mem_cons, List.not_mem_nil, or_false] at hw
    rcases hw with e | e | e | e | e <;> rw [e] <;> assumption) hq6
  refine go_run (a := ((vr (some b) :: as).map toV).toArray) (va_runU (b := b) (C := Cn) (As := as.map toV) (rest := st.map toV) ⟨hx, hb, hml, hown, hts⟩ hM (va_cwU as.length hts hG rfl rfl rfl hyx hy' (rm_ok hf hlo hd hnl)) ⟨CtP.blind, (hr.cell hB hW hR).1, fun U hU hWU => ⟨rfl, hW.trans hWU, by rw [hU]; exact hR, by rw [hU]; exact hO⟩⟩ rfl (by simp) hv.size (by simp [toV, va_rf]) (lv_room (by rw [cat_sum]; exact Nat.le_of_ble_eq_true hroom)) hdg ⟨by omega, by omega⟩) hl hv kk
/-- a method that the receiver's class has of its own, for owner's that the link names -/
theorem g_callO (hC : Ok C G cc own nm d kc ks) {x : Option Nat} {b ci : Nat} {Cn owner : String} {b0 : ByteArray} {m0 : Nat} {r0 : Option FieldType} (hx : x = some b) (hr : Rk M b Cn ci) (hM : Ct G y cc' nL' ret' d' mc ms (vr (some b) :: as) M post) (hst : stk = as.reverse ++ vr x :: st) (hd : d' < d) (hnl : Nat.ble nL' 45 = true) (hy : yk ⟨owner, y0.name, y0.desc⟩ as.length) (hq1 : Cond.methodLink own idx y0 ∈ lw_all) (hq2 : Cond.sameMethod y0.cls owner y0.name y0.desc ∈ lw_all) (hq2' : Cond.instanceMethod ⟨owner, y0.name, y0.desc⟩ ∈ lw_all) (hq0 : Cond.code ⟨owner, y0.name, y0.desc⟩ b0 m0 r0 ∈ lw_all) (hq3 : Cond.selects Cn y0 y ∈ lw_all) (hq4 : Cond.instanceMethod y ∈ lw_all) (hq5 : Cond.initialized y.cls ∈ lw_all) (hq6 : Cond.code y cc' nL' ret' ∈ lw_all) (hroom : Nat.ble (st.map catS).sum 8 = true) (hdg : decode cc pc = .ok (.invokevirtual idx, 3)) (hk : k + mc ≤ kc) (hn : n + ms ≤ ks)
    (kk : ∀ v M', post v M' → Go C (pc + 3) lv (v.toList ++ st) M' (k + mc) (n + ms)) : Go C pc lv stk M k n := by
  subst hx
  obtain ⟨p, l, e, R, s, m, args, below, meth, c, Q, s0, D, nL⟩ := C
  obtain ⟨hx, hb, hml, hown, hts, hW, hB, -, hf, hlo, hkc, hks, hlk, rfl⟩ := hC
  intro H locs ls hR hO hl hv
  subst hst
  have hG : GoodIn lw_all (va_wsO own idx Cn owner y0 y (ws_ y cc' nL' ret')) := lw_list (by
    intro w hw
    simp only [List.mem_cons, List.not_mem_nil, or_false] at hw
    rcases hw with e | e | e | e | e | e <;> rw [e] <;> assumption) hq6
  refine go_run (a := ((vr (some b) :: as).map toV).toArray) (va_runU (b := b) (C := Cn) (As := as.map toV) (rest := st.map toV) ⟨hx, hb, hml, hown, hts⟩ hM (va_cwO as.length hts hG rfl rfl rfl hq0 hy (rm_ok hf hlo hd hnl)) ⟨CtP.blind, (hr.cell hB hW hR).1, fun U hU hWU => ⟨rfl, hW.trans hWU, by rw [hU]; exact hR, by rw [hU]; exact hO⟩⟩ rfl (by simp) hv.size (by simp [toV, va_rf]) (lv_room (by rw [cat_sum]; exact Nat.le_of_ble_eq_true hroom)) hdg ⟨by omega, by omega⟩) hl hv kk
/-- through an interface -/
theorem g_callF (hC : Ok C G cc own nm d kc ks) {x : Option Nat} {b ci count : Nat} {Cn : String} (hx : x = some b) (hr : Rk M b Cn ci) (hM : Ct G y cc' nL' ret' d' mc ms (vr (some b) :: as) M post) (hst : stk = as.reverse ++ vr x :: st) (hd : d' < d) (hnl : Nat.ble nL' 45 = true) (hy : yk y0 as.length) (hq1 : Cond.methodLink own idx y0 ∈ lw_all) (hq2 : Cond.selects Cn y0 y ∈ lw_all) (hq3 : Cond.instanceMethod y ∈ lw_all) (hq4 : Cond.initialized y.cls ∈ lw_all) (hq5 : Cond.code y cc' nL' ret' ∈ lw_all)
    (ht1 : Cond.declares y0 ∈ lw_tbl) (ht2 : Cond.interfaceMethod y0.cls y0.cls y0.name y0.desc ∈ lw_tbl) (ht3 : Cond.publicMethod y ∈ lw_tbl) (ht4 : Cond.unhidden Cn y0.name y0.desc ∈ lw_tbl) (ht5 : Cond.castable Cn y0.cls ∈ lw_tbl) (hroom : Nat.ble (st.map catS).sum 8 = true) (hdg : decode cc pc = .ok (.invokeinterface idx count, 5)) (hk : k + mc ≤ kc) (hn : n + ms ≤ ks)
    (kk : ∀ v M', post v M' → Go C (pc + 5) lv (v.toList ++ st) M' (k + mc) (n + ms)) : Go C pc lv stk M k n := by
  subst hx
  obtain ⟨p, l, e, R, s, m, args, below, meth, c, Q, s0, D, nL⟩ := C
  obtain ⟨hx, hb, hml, hown, hts, hW, hB, -, hf, hlo, hkc, hks, hlk, rfl⟩ := hC
  intro H locs ls hR hO hl hv
  subst hst
  have hG : GoodIn lw_all (va_wsF own idx Cn y0 y (ws_ y cc' nL' ret')) := lw_list (by
    intro w hw
    simp only [List.mem_cons, List.not_mem_nil, or_false] at hw
    rcases hw with e | e | e | e <;> rw [e] <;> assumption) hq5
  have hFw : va_Fw Cn y0 y s := by
    obtain ⟨b9, ht, -⟩ := hB
    exact (va_Fw.of (ht _ ht1) (ht _ ht2) (ht _ ht3) (ht _ ht4) (ht _ ht5)).moved ⟨hy.1, hy.2.1⟩ hW.alike
  obtain ⟨hcell, hat⟩ := hr.cell hB hW hR
  refine go_run5 (a := ((vr (some b) :: as).map toV).toArray) (va_runF (b := b) (C := Cn) (As := as.map toV) (rest := st.map toV) hat ⟨hx, hb, hml, hown, hts⟩ hM (va_cwF as.length hts hG rfl rfl rfl hFw hy (rm_ok hf hlo hd hnl)) ⟨CtP.blind, hcell, fun U hU hWU => ⟨rfl, hW.trans hWU, by rw [hU]; exact hR, by rw [hU]; exact hO⟩⟩ rfl (by simp) hv.size (by simp [toV, va_rf]) (lv_room (by rw [cat_sum]; exact Nat.le_of_ble_eq_true hroom)) hdg ⟨by omega, by omega⟩) hl hv kk
/-- a superclass's method by invokespecial -/
theorem g_callSU (hC : Ok C G cc own nm d kc ks) {x : Option Nat} {b ci : Nat} {Cn : String} (hx : x = some b) (hr : Rk M b Cn ci) (hM : Ct G y cc' nL' ret' d' mc ms (vr (some b) :: as) M post) (hst : stk = as.reverse ++ vr x :: st) (hd : d' < d) (hnl : Nat.ble nL' 45 = true) (hy : yk y as.length) (hyi : y.name ≠ "<init>") (hq1 : Cond.methodLink own idx y ∈ lw_all) (hq2 : Cond.sameMethod y.cls y.cls y.name y.desc ∈ lw_all) (hq3 : Cond.superclass own y.cls ∈ lw_all) (hq4 : Cond.instanceMethod y ∈ lw_all) (hq5 : Cond.initialized y.cls ∈ lw_all) (hq6 : Cond.code y cc' nL' ret' ∈ lw_all) (hroom : Nat.ble (st.map catS).sum 8 = true) (hdg : decode cc pc = .ok (.invokespecial idx, 3)) (hk : k + mc ≤ kc) (hn : n + ms ≤ ks)
    (kk : ∀ v M', post v M' → Go C (pc + 3) lv (v.toList ++ st) M' (k + mc) (n + ms)) : Go C pc lv stk M k n := by
  subst hx
  obtain ⟨p, l, e, R, s, m, args, below, meth, c, Q, s0, D, nL⟩ := C
  obtain ⟨hx, hb, hml, hown, hts, hW, hB, -, hf, hlo, hkc, hks, hlk, rfl⟩ := hC
  intro H locs ls hR hO hl hv
  subst hst
  have hG : GoodIn lw_all (va_wsSU own idx y (ws_ y cc' nL' ret')) := lw_list (by
    intro w hw
    simp only [List.mem_cons, List.not_mem_nil, or_false] at hw
    rcases hw with e | e | e | e | e <;> rw [e] <;> assumption) hq6
  obtain ⟨hcell, hat⟩ := hr.cell hB hW hR
  refine go_run (a := ((vr (some b) :: as).map toV).toArray) (va_runSU (b := b) (C := Cn) (As := as.map toV) (rest := st.map toV) hat ⟨hx, hb, hml, hown, hts⟩ hM (va_cwSU as.length hts hG rfl rfl rfl ⟨hyi, hy.2.2⟩ (rm_ok hf hlo hd hnl)) ⟨CtP.blind, hcell, fun U hU hWU => ⟨rfl, hW.trans hWU, by rw [hU]; exact hR, by rw [hU]; exact hO⟩⟩ rfl (by simp) hv.size (by simp [toV, va_rf]) (lv_room (by rw [cat_sum]; exact Nat.le_of_ble_eq_true hroom)) hdg ⟨by omega, by omega⟩) hl hv kk
/-- a nest mate's private constructor -/
theorem g_callIN (hC : Ok C G cc own nm d kc ks) {x : Option Nat} {b : Nat} {host : String} (hx : x = some b) (hM : Ct G y cc' nL' none d' mc ms (vr (some b) :: as) M post) (hst : stk = as.reverse ++ vr x :: st) (hd : d' < d) (hnl : Nat.ble nL' 45 = true) (hy : yk y as.length) (hyi : y.name = "<init>") (hq1 : Cond.methodLinkNest own idx y host ∈ lw_tbl) (hq2 : Cond.instanceMethod y ∈ lw_all) (hq3 : Cond.initialized y.cls ∈ lw_all) (hq4 : Cond.code y cc' nL' none ∈ lw_all) (hroom : Nat.ble (st.map catS).sum 8 = true) (hdg : decode cc pc = .ok (.invokespecial idx, 3)) (hk : k + mc ≤ kc) (hn : n + ms ≤ ks)
    (kk : ∀ v M', post v M' → Go C (pc + 3) lv (v.toList ++ st) M' (k + mc) (n + ms)) : Go C pc lv stk M k n := by
  subst hx
  obtain ⟨p, l, e, R, s, m, args, below, meth, c, Q, s0, D, nL⟩ := C
  obtain ⟨hx, hb, hml, hown, hts, hW, hB, -, hf, hlo, hkc, hks, hlk, rfl⟩ := hC
  intro H locs ls hR hO hl hv
  subst hst
  have hln : va_Nw (.methodLinkNest own idx y host) s := by
    obtain ⟨b9, ht, -⟩ := hB
    exact va_Nw.warmM hW (va_Nw.of rfl (ht _ hq1))
  refine go_run (a := ((vr (some b) :: as).map toV).toArray) (va_runIN (b := b) (host := host) (As := as.map toV) (rest := st.map toV) ⟨hx, hb, hml, hown, hts⟩ hM ⟨va_cnB as.length hts (lw_meth hq4) rfl rfl rfl hln (hts _ hq3) hy (rm_ok hf hlo hd hnl), hyi, hts _ hq2⟩ ⟨CtP.blind, fun U hU hWU => ⟨rfl, hW.trans hWU, by rw [hU]; exact hR, by rw [hU]; exact hO⟩⟩ rfl (by simp) hv.size (by simp [toV, va_rf]) (lv_room (by rw [cat_sum]; exact Nat.le_of_ble_eq_true hroom)) hdg ⟨by omega, by omega⟩) hl hv kk
/-- a nest mate's private method -/
theorem g_callVN (hC : Ok C G cc own nm d kc ks) {x : Option Nat} {b ci : Nat} {Cn host : String} (hx : x = some b) (hr : Rk M b Cn ci) (hM : Ct G y cc' nL' ret' d' mc ms (vr (some b) :: as) M post) (hst : stk = as.reverse ++ vr x :: st) (hd : d' < d) (hnl : Nat.ble nL' 45 = true) (hy : yk y as.length) (hq1 : Cond.methodLinkNest own idx y host ∈ lw_tbl) (hq2 : Cond.instanceMethod y ∈ lw_all) (hq3 : Cond.selects Cn y y ∈ lw_all) (hq4 : Cond.initialized y.cls ∈ lw_all) (hq5 : Cond.code y cc' nL' ret' ∈ lw_all) (hroom : Nat.ble (st.map catS).sum 8 = true) (hdg : decode cc pc = .ok (.invokevirtual idx, 3)) (hk : k + mc ≤ kc) (hn : n + ms ≤ ks)
    (kk : ∀ v M', post v M' → Go C (pc + 3) lv (v.toList ++ st) M' (k + mc) (n + ms)) : Go C pc lv stk M k n := by
  subst hx
  obtain ⟨p, l, e, R, s, m, args, below, meth, c, Q, s0, D, nL⟩ := C
  obtain ⟨hx, hb, hml, hown, hts, hW, hB, -, hf, hlo, hkc, hks, hlk, rfl⟩ := hC
  intro H locs ls hR hO hl hv
  subst hst
  have hln : va_Nw (.methodLinkNest own idx y host) s := by
    obtain ⟨b9, ht, -⟩ := hB
    exact va_Nw.warmM hW (va_Nw.of rfl (ht _ hq1))
  refine go_run (a := ((vr (some b) :: as).map toV).toArray) (va_runVN (b := b) (C := Cn) (host := host) (As := as.map toV) (rest := st.map toV) ⟨hx, hb, hml, hown, hts⟩ hM ⟨va_cnB as.length hts (lw_meth hq5) rfl rfl rfl hln (hts _ hq4) hy (rm_ok hf hlo hd hnl), hts _ hq2, hts _ hq3⟩ ⟨CtP.blind, (hr.cell hB hW hR).1, fun U hU hWU => ⟨rfl, hW.trans hWU, by rw [hU]; exact hR, by rw [hU]; exact hO⟩⟩ rfl (by simp) hv.size (by simp [toV, va_rf]) (lv_room (by rw [cat_sum]; exact Nat.le_of_ble_eq_true hroom)) hdg ⟨by omega, by omega⟩) hl hv kk
end GoCall
