/-! ===== methods with handlers: their bodies, their calls; calls that may throw; catching ===== -/
theorem CtW.of {G : Gx} {y : MethodName} {cc : ByteArray} {nL : Nat} {ret : Option FieldType} {hh : List (Nat × Nat × Nat × Nat)} {d mc ms : Nat} {av : List Sv} {M : Mem} {post : Option Sv → Mem → Prop} {own nm : String} {lv : Lv} (hB : Base G) (hy : plainName y.cls = true) (ho : y.cls = own) (hn : y.name = nm) (hlv : lvA av ++ List.replicate (nL - (lvA av).length) none = lv) (hsz : Nat.ble (lvA av).length nL = true)
    (body : ∀ C : Cx, Ok C G cc own nm d mc ms → Rt C G ret mc ms post → Tb C hh → Go C 0 lv [] M 0 0) : CtW G y cc nL ret hh d mc ms av M post := by
  obtain ⟨l, s0, D⟩ := G
  have hsz := Nat.le_of_ble_eq_true hsz
  unfold CtW Met
  refine MetFree.of_bodyS (code := cc) (maxLocals := nL) (ret := ret) hy ?_ ?_
  · intro args s m h hn
    obtain ⟨m9, meth, c, hn9, h1, h2, h3, h4, -, h5, h6, -⟩ := Cond.codeWith_spec (atoms_spec (ws := wsW_ y cc nL ret hh) h _ List.mem_cons_self)
    cases hn.symm.trans hn9
    exact ⟨meth, c, h1, h2, h3, h4, h5, h6⟩
  · intro p e s m args below meth c s₁ B hml hP _
    have hh0 : s₁.heap = s.heap := by rw [B.state]; rfl
    obtain ⟨rfl, hW, hR, hO⟩ := hP
    have hx := B.exec
    have hb := B.bytes
    have hr := B.returns
    have hts := atoms_spec (ws := wsW_ y cc nL ret hh) B.pre
    have htab := vx_table (x := y) B (hts _ List.mem_cons_self)
    have hts : ∀ w ∈ lw_all, w.before _ s = true := fun w h => hts w (List.mem_cons_of_mem _ h)
    have hown : s.vm.findClass own = some m.cls := by rw [← ho]; exact findClass_of_methodNamed B.named
    have hin : meth.name = nm := by rw [← hn]; exact (name_of_methodNamed B.named B.method).1
    have hlen := sl_len av
    have hl := lv_entry (av.map toV) (n := nL) (by rw [hlen]; exact hsz)
    have main : W p l e (rmL d mc ms) s m (av.map toV).toArray below meth c s.heap [] 0 0 (MQ below (CtQ (l, s0, D) post) (av.map toV).toArray s mc ms (fun q => s0.heap.size ≤ q)) (entryFrame m (av.map toV).toArray nL) := by
      rw [lg_entry_eq]
      refine body (p, l, e, rmL d mc ms, s, m, (av.map toV).toArray, below, meth, c, MQ below (CtQ (l, s0, D) post) (av.map toV).toArray s mc ms (fun q => s0.heap.size ≤ q), s0, D, nL) ⟨hx, hb, hml, hown, hts, hW, hB, hin, Nat.le_refl _, Nat.le_refl _, Nat.le_refl _, Nat.le_refl _, B.notSynchronized, rfl⟩ ⟨hr, fun t h => h⟩ htab s.heap [] _ hR hO (fun q h => by cases h) ⟨?_, _, hl, ?_⟩
      · rw [← hlv]; simp; omega
      · intro i v hi
        have h2 := lvA_mem av 0 i v
        rw [Nat.zero_add] at h2
        refine h2 ?_
        rw [← hlv] at hi
        by_cases hlt : i < (lvA av).length
        · rwa [List.getElem?_append_left hlt] at hi
        · rw [List.getElem?_append_right (by omega), List.getElem?_replicate] at hi
          split at hi <;> cases hi
    obtain ⟨t, a1, o, b1, b2, b3⟩ := main s₁ hh0 (Stand.of_body B)
    exact ⟨t, o, a1, b1, b2, b3⟩
section XCalls
variable {C : Cx} {G : Gx} {cc cc' : ByteArray} {own nm : String} {d d' kc ks pc : Nat} {lv : Lv} {st stk av as : List Sv} {M : Mem} {k n mc ms nL' idx : Nat} {post : Option Sv → Mem → Prop} {xp : String → Mem → Prop} {y y0 : MethodName} {ret' : Option FieldType} {hh : List (Nat × Nat × Nat × Nat)} {E : String}
/-- a static method with handlers -/
theorem g_callSW (hC : Ok C G cc own nm d kc ks) (hM : CtW G y cc' nL' ret' hh d' mc ms av M post) (hst : stk = av.reverse ++ st) (hd : d' < d) (hnl : Nat.ble nL' 45 = true) (hy : yk y av.length) (hq1 : Cond.methodLink own idx y ∈ lw_all) (hq2 : Cond.static y ∈ lw_all) (hq3 : Cond.initialized y.cls ∈ lw_all) (hq4 : Cond.codeWith y cc' nL' ret' hh ∈ lw_all) (hroom : Nat.ble (st.map catS).sum 8 = true) (hdg : decode cc pc = .ok (.invokestatic idx, 3)) (hk : k + mc ≤ kc) (hn : n + ms ≤ ks)
    (kk : ∀ v M', post v M' → Go C (pc + 3) lv (v.toList ++ st) M' (k + mc) (n + ms)) : Go C pc lv stk M k n := by
  obtain ⟨p, l, e, R, s, m, args, below, meth, c, Q, s0, D, nL⟩ := C
  obtain ⟨hx, hb, hml, hown, hts, hW, hB, -, hf, hlo, hkc, hks, hlk, rfl⟩ := hC
  intro H locs ls hR hO hl hv
  subst hst
  refine go_run (a := (av.map toV).toArray) (vx_runSW (As := av.map toV) (rest := st.map toV) ⟨hx, hb, hml, hown, hts⟩ hM (vx_cwSW av.length hts (lw_SW hq1 hq2 hq3 hq4) rfl rfl rfl hy (rm_ok hf hlo hd hnl)) ⟨CtP.blind, fun U hU hWU => ⟨rfl, hW.trans hWU, by rw [hU]; exact hR, by rw [hU]; exact hO⟩⟩ rfl (by simp) hv.size (by simp) (lv_room (by rw [cat_sum]; exact Nat.le_of_ble_eq_true hroom)) hdg ⟨by omega, by omega⟩) hl hv kk
/-- a method with handlers of the receiver's own class -/
theorem g_callVW (hC : Ok C G cc own nm d kc ks) {x : Option Nat} {b ci : Nat} {Cn : String} (hx : x = some b) (hr : Rk M b Cn ci) (hM : CtW G y cc' nL' ret' hh d' mc ms (vr (some b) :: as) M post) (hst : stk = as.reverse ++ vr x :: st) (hd : d' < d) (hnl : Nat.ble nL' 45 = true) (hyc : y.cls = Cn) (hy : yk y as.length) (hq1 : Cond.methodLink own idx y ∈ lw_all) (hq2 : Cond.instanceMethod y ∈ lw_all) (hq3 : Cond.selects Cn y y ∈ lw_all) (hq4 : Cond.initialized Cn ∈ lw_all) (hq5 : Cond.codeWith y cc' nL' ret' hh ∈ lw_all) (hroom : Nat.ble (st.map catS).sum 8 = true) (hdg : decode cc pc = .ok (.invokevirtual idx, 3)) (hk : k + mc ≤ kc) (hn : n + ms ≤ ks)
    (kk : ∀ v M', post v M' → Go C (pc + 3) lv (v.toList ++ st) M' (k + mc) (n + ms)) : Go C pc lv stk M k n := by
  subst hx
  obtain ⟨p, l, e, R, s, m, args, below, meth, c, Q, s0, D, nL⟩ := C
  obtain ⟨hx, hb, hml, hown, hts, hW, hB, -, hf, hlo, hkc, hks, hlk, rfl⟩ := hC
  intro H locs ls hR hO hl hv
  subst hst
  refine go_run (a := ((vr (some b) :: as).map toV).toArray) (vx_runVW (b := b) (C := Cn) (As := as.map toV) (rest := st.map toV) ⟨hx, hb, hml, hown, hts⟩ hM (vx_cwVW as.length hts (lw_VW hq1 hq2 hq3 hq4 hq5) rfl rfl rfl ⟨hyc, hy⟩ (rm_ok hf hlo hd hnl)) ⟨CtP.blind, (hr.cell hB hW hR).1, fun U hU hWU => ⟨rfl, hW.trans hWU, by rw [hU]; exact hR, by rw [hU]; exact hO⟩⟩ rfl (by simp) hv.size (by simp [toV, va_rf]) (lv_room (by rw [cat_sum]; exact Nat.le_of_ble_eq_true hroom)) hdg ⟨by omega, by omega⟩) hl hv kk
theorem go_runX {p : Program} {l : Launch} {e : Env} {R : Room} {s : State} {m : MethodId} {args : Array Value} {below : List Frame} {meth : Method} {c : Code} {Q : State → Prop} {H : Heap} {locs : List Loc} {ls : Array Slot} {s0 : State} {D : Dx} {nL : Nat} {a : Array Value}
    (hr : vx_Run p l e R s m args below meth c H locs k n mc ms (F0 m pc ls (stk.map toV)) (st.map toV) (CtQ (l, s0, D) post a) (XCof (l, s0, D) xp) (fun q => s0.heap.size ≤ q)) (hl : ∀ q ∈ locs, s0.heap.size ≤ q.base) (hv : lvh ls nL lv)
    (kk : ∀ v M', post v M' → Go (p, l, e, R, s, m, args, below, meth, c, Q, s0, D, nL) (pc + 3) lv (v.toList ++ st) M' (k + mc) (n + ms))
    (kx : ∀ E M', xp E M' → GoX (p, l, e, R, s, m, args, below, meth, c, Q, s0, D, nL) pc lv E M' (k + mc) (n + ms)) : W p l e R s m args below meth c H locs k n Q (F0 m pc ls (stk.map toV)) := by
  intro T hT X
  rcases hr T hT X with ⟨v, st₀, t, T', L, h0, X', hL, e1, e2, ⟨v', M', hv', hp, hR', hO'⟩, stp⟩ | ⟨q, st₀, t, T', L, E, ce, h0, X', hL, e1, e2, ⟨M', hp, hR', hO'⟩, hce, hcv, hcl, stp⟩
  · have hv2 : v = v'.map toV := by injection hv'
    subst hv2
    obtain ⟨t2, a1, b1⟩ := kk v' M' hp T'.heap (locs ++ L) ls (by rw [e1]; exact hR') (by rw [e1]; exact hO') (fun q hq => by
      rcases List.mem_append.mp hq with h | h
      · exact hl q h
      · exact hL q h) hv T' rfl X'
    refine ⟨t2, stp t2 ?_, b1⟩
    have e3 : (v'.map toV).toList ++ st.map toV = (v'.toList ++ st).map toV := by cases v' <;> rfl
    rw [e3]
    exact a1
  · obtain ⟨t2, a1, b1⟩ := kx E M' hp T'.heap (locs ++ L) ls (st.map toV) q ce (by rw [e1]; exact hR') (by rw [e1]; exact hO') (fun q hq => by
      rcases List.mem_append.mp hq with h | h
      · exact hl q h
      · exact hL q h) hv (by rw [e1]; exact hce) hcv hcl T' rfl X'
    exact ⟨t2, stp.trans a1, b1⟩
/-- a static method that may throw -/
theorem g_callSX (hC : Ok C G cc own nm d kc ks) (hM : CtX G y cc' nL' ret' d' mc ms av M post xp) (hst : stk = av.reverse ++ st) (hd : d' < d) (hnl : Nat.ble nL' 45 = true) (hy : yk y av.length) (hq1 : Cond.methodLink own idx y ∈ lw_all) (hq2 : Cond.static y ∈ lw_all) (hq3 : Cond.initialized y.cls ∈ lw_all) (hq4 : Cond.code y cc' nL' ret' ∈ lw_all) (hroom : Nat.ble (st.map catS).sum 8 = true) (hdg : decode cc pc = .ok (.invokestatic idx, 3)) (hk : k + mc ≤ kc) (hn : n + ms ≤ ks)
    (kk : ∀ v M', post v M' → Go C (pc + 3) lv (v.toList ++ st) M' (k + mc) (n + ms)) (kx : ∀ E M', xp E M' → GoX C pc lv E M' (k + mc) (n + ms)) : Go C pc lv stk M k n := by
  obtain ⟨p, l, e, R, s, m, args, below, meth, c, Q, s0, D, nL⟩ := C
  obtain ⟨hx, hb, hml, hown, hts, hW, hB, -, hf, hlo, hkc, hks, hlk, rfl⟩ := hC
  intro H locs ls hR hO hl hv
  subst hst
  refine go_runX (a := (av.map toV).toArray) (vx_runS (As := av.map toV) (rest := st.map toV) ⟨hx, hb, hml, hown, hts⟩ hM (va_cwS av.length hts (lw_S hq1 hq2 hq3 hq4) rfl rfl rfl hy (rm_ok hf hlo hd hnl)) ⟨CtP.blind, fun U hU hWU => ⟨rfl, hW.trans hWU, by rw [hU]; exact hR, by rw [hU]; exact hO⟩⟩ rfl (by simp) hv.size (by simp) (lv_room (by rw [cat_sum]; exact Nat.le_of_ble_eq_true hroom)) hdg ⟨by omega, by omega⟩) hl hv kk kx
/-- a method of the receiver's own class that may throw -/
theorem g_callVX (hC : Ok C G cc own nm d kc ks) {x : Option Nat} {b ci : Nat} {Cn : String} (hx : x = some b) (hr : Rk M b Cn ci) (hM : CtX G y cc' nL' ret' d' mc ms (vr (some b) :: as) M post xp) (hst : stk = as.reverse ++ vr x :: st) (hd : d' < d) (hnl : Nat.ble nL' 45 = true) (hyc : y.cls = Cn) (hy : yk y as.length) (hq1 : Cond.methodLink own idx y ∈ lw_all) (hq2 : Cond.instanceMethod y ∈ lw_all) (hq3 : Cond.selects Cn y y ∈ lw_all) (hq4 : Cond.initialized Cn ∈ lw_all) (hq5 : Cond.code y cc' nL' ret' ∈ lw_all) (hroom : Nat.ble (st.map catS).sum 8 = true) (hdg : decode cc pc = .ok (.invokevirtual idx, 3)) (hk : k + mc ≤ kc) (hn : n + ms ≤ ks)
    (kk : ∀ v M', post v M' → Go C (pc + 3) lv (v.toList ++ st) M' (k + mc) (n + ms)) (kx : ∀ E M', xp E M' → GoX C pc lv E M' (k + mc) (n + ms)) : Go C pc lv stk M k n := by
  subst hx
  obtain ⟨p, l, e, R, s, m, args, below, meth, c, Q, s0, D, nL⟩ := C
  obtain ⟨hx, hb, hml, hown, hts, hW, hB, -, hf, hlo, hkc, hks, hlk, rfl⟩ := hC
  intro H locs ls hR hO hl hv
  subst hst
  refine go_runX (a := ((vr (some b) :: as).map toV).toArray) (vx_runV (b := b) (C := Cn) (As := as.map toV) (rest := st.map toV) ⟨hx, hb, hml, hown, hts⟩ hM (cwV as.length hts (lw_V hq1 hq2 hq3 hq4 hq5) rfl rfl rfl ⟨hyc, hy⟩ (rm_ok hf hlo hd hnl)) ⟨CtP.blind, (hr.cell hB hW hR).1, fun U hU hWU => ⟨rfl, hW.trans hWU, by rw [hU]; exact hR, by rw [hU]; exact hO⟩⟩ rfl (by simp) hv.size (by simp [toV, va_rf]) (lv_room (by rw [cat_sum]; exact Nat.le_of_ble_eq_true hroom)) hdg ⟨by omega, by omega⟩) hl hv kk kx
/-- caught by the row x of the table; the rows ahead name other classes -/
theorem g_catch (hC : Ok C G cc own nm d kc ks) (hT : Tb C hh) {name : String} (pre : List (Nat × Nat × Nat × Nat)) (x : Nat × Nat × Nat × Nat) (suf : List (Nat × Nat × Nat × Nat)) (hsp : hh = pre ++ x :: suf) (hpass : ∀ z ∈ pre, z.2.2.2 ≠ 0 ∧ ∃ nm' : String, Cond.classLink own z.2.2.2 nm' ∈ lw_all ∧ Cond.not (.castable E nm') ∈ flatC (Cond.and given_1 narrow_1)) (hcov : Nat.ble x.1 pc = true ∧ Nat.blt pc x.2.1 = true) (h0 : x.2.2.2 ≠ 0)
    (hlink : Cond.classLink own x.2.2.2 name ∈ lw_all) (hcast : Cond.castable E name ∈ lw_tbl) (kk : ∀ q, Go C x.2.2.1 lv [vr (some q)] M k n) : GoX C pc lv E M k n := by
  obtain ⟨p, l, e, R, s, m, args, below, meth, c, Q, s0, D, nL⟩ := C
  obtain ⟨hx, hb, hml, hown, hts, hW, hB, -, -, -, -, -, hlk, rfl⟩ := hC
  intro H locs ls rest q ce hR hO hl hv hcell hcv hcl
  have hT' : c.exceptionTable.toList = tableOf hh := hT
  refine vx_catch hown (tableOf pre) _ (tableOf suf) (by rw [hT', hsp]; simp [tableOf]; rfl) ?_ ?_ h0 (hts _ hlink) (va_Nw.use rfl (hB.cast hW hcast)) hcell hcv hcl (kk q H locs ls hR hO hl hv)
  · intro z hz
    obtain ⟨z0, hz0, rfl⟩ := List.mem_map.mp hz
    obtain ⟨h1, nm', h2, h3⟩ := hpass z0 hz0
    refine Or.inr ⟨h1, nm', hts _ h2, ?_⟩
    obtain ⟨b, -, -, -, -, hg⟩ := hB
    exact (va_Nc.of (flat_of_before _ hg _ h3)).moved hW.alike
  · have q1 := Nat.le_of_ble_eq_true hcov.1
    have q2 : pc < x.2.1 := Nat.le_of_ble_eq_true hcov.2
    simp [covers, q1, q2]
end XCalls
