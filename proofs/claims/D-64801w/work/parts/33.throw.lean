/-! ===== 'throw new E(..)' ===== -/
/-- what a throw reads of the old heap -/
def Thx (G : Gx) : Prop := vx_Zq Bundle.tN "UNASSIGNED_STACK" Bundle.steD (A0 G) G.2.1 G.2.1.heap ∧ vx_Zq Bundle.tN "SUPPRESSED_SENTINEL" Bundle.listD (A0 G) G.2.1 G.2.1.heap ∧ G.1.stackTraces = false
/-- a word of the tables that is good, or a castable -/
def okW (w : Cond) : Prop := w ∈ lw_all ∨ (∃ A B, w = .castable A B ∧ w ∈ lw_tbl) ∨ ∃ y, w = .declares y ∧ w ∈ lw_tbl
theorem okW.ok {l : Launch} {s0 s : State} {D : Dx} {args : Array Value} (hB : Base (l, s0, D)) (hW : s0.WarmedH s.vm) (hts : ∀ w ∈ lw_all, w.before args s = true) {w : Cond} (h : okW w) : w.before args s = true ∧ vx_ot w = true := by
  rcases h with h | ⟨A, B, rfl, h⟩ | ⟨y, rfl, h⟩
  · refine ⟨hts w h, ?_⟩
    have := (List.mem_filter.mp h).2
    simp [vx_ot, this]
  · exact ⟨va_Nw.use rfl (hB.cast hW h), rfl⟩
  · obtain ⟨b, ht, -⟩ := hB
    exact ⟨va_Nw.use rfl (va_Nw.warmD hW (va_Nw.of rfl (ht _ h))), rfl⟩
theorem Rp.grown {s0 : State} {D : Dx} {M : Mem} {H H' : Heap} (h : Rp s0 D M H) (hz : H.size ≤ H'.size) (hq : ∀ q : Nat, q < H.size → H'[q]? = H[q]?) : Rp s0 D M H' := by
  intro b
  by_cases hb : b < H.size
  · exact (h b).kept (hq b hb) hz rfl rfl (Kp.rf M b)
  · have h0 : mK M b = 0 := by
      by_cases e : mK M b = 0
      · exact e
      · exact absurd ((h b).2.2.2.2.2 e).1 hb
    refine ⟨fun ci q e _ => ?_, fun i ty e _ => ?_, fun e => ?_, fun e => ?_, fun e => ?_, fun e => ?_⟩ <;> rw [h0] at e
    · omega
    · omega
    · cases e
    · cases e
    · cases e
    · exact absurd rfl e
theorem Ol.grown {s0 : State} {H H' : Heap} (h : Ol s0 H) (hz : H.size ≤ H'.size) (hq : ∀ q : Nat, q < H.size → H'[q]? = H[q]?) : Ol s0 H' := ⟨Nat.le_trans h.1 hz, fun q hh => (hq q (Nat.lt_of_lt_of_le hh h.1)).trans (h.2 q hh)⟩
section Throws
variable {C : Cx} {G : Gx} {cc : ByteArray} {own nm : String} {d kc ks pc : Nat} {lv : Lv} {st : List Sv} {M : Mem} {k n mc ms : Nat} {post : Option Sv → Mem → Prop} {xp : String → Mem → Prop}
theorem g_throwS (hC : Ok C G cc own nm d kc ks) (hX : Xt C G mc ms xp) (hTh : Thx G) {cls text : String} {names : List String} {ik is ic : Nat} (hstr : ∃ sa, vk_R own is text sa G.2.1) (hcls : Bundle.fit cls = true) (hnames : ∀ n ∈ names, Bundle.fit n = true) (hk : Cond.classLink own ik cls ∈ lw_all) (hini : Cond.initialized cls ∈ lw_all) (hat : ∀ w ∈ vx_atS own ic cls names, okW w)
    (d0 : decode cc pc = .ok (.new ik, 3)) (d3 : decode cc (pc + 3) = .ok (.dup, 1)) (d4 : decode cc (pc + 4) = .ok (.ldc is, 2)) (d6 : decode cc (pc + 6) = .ok (.invokespecial ic, 3)) (d9 : decode cc (pc + 9) = .ok (.athrow, 1))
    (hnl : names.length ≤ 4) (hd : 8 ≤ d) (hroom : Nat.ble (st.map catS).sum 8 = true) (hc : k + 1 ≤ mc) (hs : n + 6 ≤ ms) (hkc : mc ≤ kc) (hks : ms ≤ ks) (hp : xp cls M) : Go C pc lv st M k n := by
  obtain ⟨p, l, e, R, s, m, args, below, meth, c, Q, s0, D, nL⟩ := C
  obtain ⟨hx, hb, hml, hown, hts, hW, hB, -, hf, hlo, hkc', hks', hlk, rfl⟩ := hC
  obtain ⟨sa, hsa⟩ := hstr
  intro H locs ls hR hO hl hv T hT X
  have hroom := Nat.le_of_ble_eq_true hroom
  have hfr := vx_frame X.same
  have hsO : Ol s0 s.heap := hX.1.2
  obtain ⟨t, a, b⟩ := vx_throwS (Qc := fun _ _ _ _ => False) (XC := XCof (l, s0, D) xp) (mc := mc) (ms := ms) (free := fun q => s0.heap.size ≤ q) (A := A0 (l, s0, D)) (rest := st.map toV) hx hb hTh.2.2 hown hcls hnames (hts _ hk) (hts _ hini) (vk_R.warm hW hsa)
    (fun w hw => ((hat w hw).ok hB hW hts).1) (fun w hw => by
      rcases List.mem_cons.mp hw with rfl | hw
      · exact (okW.ok hB hW hts (Or.inl hk)).2
      · rcases List.mem_cons.mp hw with rfl | hw
        · exact (okW.ok hB hW hts (Or.inl hini)).2
        · exact ((hat w hw).ok hB hW hts).2)
    (vx_Zq.moved hW.alike (vx_Zq.kept hTh.1 (fun q hq _ => hsO.2 q hq))) (vx_Zq.moved hW.alike (vx_Zq.kept hTh.2.1 (fun q hq _ => hsO.2 q hq)))
    ⟨by rw [← hT]; exact hfr.1, fun q hq hA => by rw [hO.2 q (Nat.not_le.mp hA), hsO.2 q (Nat.not_le.mp hA)], hl⟩ (by rw [hml]; exact hv.size) d0 d3 d4 d6 d9 (fun x hx => (hX.1.1 x hx).elim) (by omega) (by rw [cat_sum]; omega) (by omega) (by omega) hlk
    (fun t _ hz hq => ⟨M, hp, hR.grown hz hq, hO.grown hz hq⟩) hl hc hs T hT X
  exact ⟨t, a, hX.2 t b⟩
end Throws
