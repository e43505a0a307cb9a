/-! ===== rows of the Go layer: arrays, casts ===== -/
theorem upd_aI {M : Mem} {a f : Nat} {y : Int32} (ty : FieldType) (ht : isI ty = true) (j : Nat) : updV (fun j => fv M ty a j) f (.int y) j = fv (sI M a f y) ty a j := upd_sI (fun _ => ty) ht j
theorem upd_aR {M : Mem} {a f : Nat} {y : Option Nat} (ty : FieldType) (ht : isR ty = true) (j : Nat) : updV (fun j => fv M ty a j) f (va_rf y) j = fv (sR M a f y) ty a j := upd_sR (fun _ => ty) ht j
theorem upd_aL {M : Mem} {a f : Nat} {y : Int64} (j : Nat) : updV (fun j => fv M .long a j) f (.long y) j = fv (sL M a f y) .long a j := upd_sL (fun _ => .long) rfl j
theorem Rp.base {s0 : State} {D : Dx} {M : Mem} {H : Heap} {a i : Nat} (hR : Rp s0 D M H) (hk : mK M a = i + 51) : s0.heap.size ≤ a := by
  have h6 := (hR a).2.2.2.2.2
  rw [hk] at h6
  exact (h6 (by omega)).2 (by simp only [kBx, ne_eq]; omega) (by simp only [kBo, ne_eq]; omega) (by simp only [kE0, ne_eq]; omega)
section GoArr
variable {C : Cx} {G : Gx} {cc : ByteArray} {own nm : String} {d kc ks pc : Nat} {lv : Lv} {st : List Sv} {M : Mem} {k n : Nat}
/-- a new array's memory -/
theorem Rp.newA {s0 : State} {D : Dx} {M : Mem} {H H1 : Heap} {i N ρ : Nat} {ty : FieldType} (hR : Rp s0 D M H) (hO : Ol s0 H) (hc : atz[i]? = some ty) (e1 : H1[H.size]? = some (arrV (D.2.2 i) N (fun _ => defaultValue ty))) (z1 : H1.size = H.size + 1) (o1 : ∀ q, q < H.size → H1[q]? = H[q]?) : Rp s0 D (nw M H.size (i + 51) N ρ) H1 ∧ Ol s0 H1 := by
  have hlt := atz_lt hc
  have hnd : ty ≠ .double := by
    intro e
    subst e
    have : ∀ i : Fin 6, (atz[i.1]?.map (fun t => decide (t = FieldType.double))) = some false := by decide +kernel
    have := this ⟨i, hlt⟩
    rw [hc] at this
    simp at this
  refine ⟨fun b => ?_, ⟨by have := hO.1; omega, fun z hz => by rw [o1 z (by have := hO.1; omega)]; exact hO.2 z hz⟩⟩
  by_cases eb : b = H.size
  · subst eb
    refine ⟨fun ci' q' e hc' => ?_, fun i' ty' e hc' => ?_, fun e => ?_, fun e => ?_, fun e => ?_, fun e => ?_⟩
    · rw [mK_nw, if_pos rfl] at e
      have := clz_lt hc'; omega
    · rw [mK_nw, if_pos rfl] at e
      have : i' = i := by omega
      subst this
      cases hc.symm.trans hc'
      rw [e1, mN_nw, if_pos rfl]
      congr 2
      funext j
      exact dv_nw M _ _ _ _ _ _ hnd
    · rw [mK_nw, if_pos rfl] at e; simp only [kBx] at e; omega
    · rw [mK_nw, if_pos rfl] at e; simp only [kBo] at e; omega
    · rw [mK_nw, if_pos rfl] at e; simp only [kE0] at e; omega
    · exact ⟨by omega, fun _ _ _ => hO.1⟩
  · by_cases eb2 : b < H.size
    · refine (hR b).kept (o1 b eb2) (by omega) (by rw [mK_nw, if_neg eb]) (by rw [mN_nw, if_neg eb]) (fun j => ⟨by rw [mI_nw, if_neg eb], by rw [mR_nw, if_neg eb], by rw [mL_nw, if_neg eb]⟩)
    · have hb0 : mK M b = 0 := by
        by_cases z : mK M b = 0
        · exact z
        · exact absurd ((hR b).2.2.2.2.2 z).1 eb2
      have hb1 : mK (nw M H.size (i + 51) N ρ) b = 0 := by rw [mK_nw, if_neg eb]; exact hb0
      refine ⟨fun ci' q' e hc' => ?_, fun i' ty' e hc' => ?_, fun e => ?_, fun e => ?_, fun e => ?_, fun e => ?_⟩
      · omega
      · omega
      · simp only [kBx] at e; omega
      · simp only [kBo] at e; omega
      · simp only [kE0] at e; omega
      · exact absurd hb1 e
/-- newarray of a small type -/
theorem g_newarray (hC : Ok C G cc own nm d kc ks) {i N : Nat} {atype : ArrayType} {z : Int32} (ρ : Nat) (hc : atz[i]? = some (newarray.typeOf atype)) (hw : Cond.arrayClass (newarray.typeOf atype) ∈ lw_all) (hz : ¬ z < 0) (hN : z.toNatClampNeg = N) (hbytes : N * componentBytes (newarray.typeOf atype) ≤ 536870912) (hdg : decode cc pc = .ok (.newarray atype, 2)) (hk : k + 1 ≤ kc) (hn : n + N ≤ ks)
    (kk : ∀ a : Nat, mK M a = 0 → Go C (pc + 2) lv (vr (some a) :: st) (nw M a (i + 51) N ρ) (k + 1) (n + N)) : Go C pc lv (vi z :: st) M k n := by
  obtain ⟨p, l, e, R, s, m, args, below, meth, c, Q, s0, D, nL⟩ := C
  intro H locs ls hR hO hl hv
  obtain ⟨hxx, hb, hml, hown, hts, hW, hB, -, -, -, hkc, hks, -⟩ := hC
  refine va_newaK hxx hb (hts _ hw) rfl hdg rfl hz hN hbytes (by omega) (by omega) rfl fun H1 cA e1 z1 o1 hAr hNm => ?_
  have hcA : cA = D.2.2 i := Option.some.inj (hNm.symm.trans (hB.ao hW hc).2.1)
  rw [hcA] at e1
  obtain ⟨h1, h2⟩ := hR.newA (ρ := ρ) hO hc e1 z1 o1
  exact kk H.size hR.fresh H1 locs ls h1 h2 hl hv
/-- anewarray of a class's objects -/
theorem g_anewarray (hC : Ok C G cc own nm d kc ks) {i N idx : Nat} {E : String} {z : Int32} (ρ : Nat) (hc : atz[i]? = some (.object E)) (hcl : Cond.classLink own idx E ∈ lw_all) (hao : Cond.arrayOver (.object E) ∈ lw_tbl) (hz : ¬ z < 0) (hN : z.toNatClampNeg = N) (hbytes : N * 4 ≤ 536870912) (hdg : decode cc pc = .ok (.anewarray idx, 3)) (hk : k + 1 ≤ kc) (hn : n + N ≤ ks)
    (kk : ∀ a : Nat, mK M a = 0 → Go C (pc + 3) lv (vr (some a) :: st) (nw M a (i + 51) N ρ) (k + 1) (n + N)) : Go C pc lv (vi z :: st) M k n := by
  obtain ⟨p, l, e, R, s, m, args, below, meth, c, Q, s0, D, nL⟩ := C
  intro H locs ls hR hO hl hv
  obtain ⟨hxx, hb, hml, hown, hts, hW, hB, -, -, -, hkc, hks, -⟩ := hC
  have hao' : (Cond.arrayOver (.object E)).before args s = true := by
    obtain ⟨b, ht, -⟩ := hB
    exact va_AO.use (va_AO.moved hW.alike (va_AO.of (ht _ hao)))
  subst hN
  refine W.anew hxx hb hown (hts _ hcl) hao' rfl hdg rfl hz hbytes (by omega) (by omega) fun cA kA comp h1 h2 h3 h4 => ?_
  have hcA : cA = D.2.2 i := Option.some.inj (h1.symm.trans (hB.ao hW hc).2.1)
  subst hcA
  obtain ⟨g1, g2⟩ := hR.newA (ρ := ρ) (N := z.toNatClampNeg) (H1 := H.push { cls := D.2.2 i, slots := Array.replicate z.toNatClampNeg .null, vm := .none }) hO hc (by rw [← arrV_new]; simp [defaultValue]) (by simp) (fun q hq => by rw [Array.getElem?_push, if_neg (Nat.ne_of_lt hq)])
  exact kk H.size hR.fresh _ locs ls g1 g2 hl hv
/-- loads -/
theorem g_iald (hC : Ok C G cc own nm d kc ks) {x : Option Nat} {a j : Nat} {z : Int32} (hx : x = some a) (hk : mK M a = kI) (hin : vp_in z (mN M a)) (hj : z.toNatClampNeg = j) (hdg : decode cc pc = .ok (.iaload, 1)) (kk : Go C (pc + 1) lv (vi (mI M a j) :: st) M k n) : Go C pc lv (vi z :: vr x :: st) M k n := by
  subst hx; subst hj
  obtain ⟨p, l, e, R, s, m, args, below, meth, c, Q, s0, D, nL⟩ := C
  intro H locs ls hR hO hl hv
  obtain ⟨hxx, hb, hml, hown, hts, hW, hB, -⟩ := hC
  have hlt : z.toNatClampNeg < mN M a := Nat.not_le.mp fun q => hin (Or.inr q)
  refine W.iald hxx hb ((hR a).2.1 0 .int hk rfl) ((hB.ao hW (i := 0) rfl).1 _ _) (fun q => by cases q) (by rw [arrV_size]; exact hin) (v := .int (mI M a z.toNatClampNeg)) (by rw [arrV_read _ _ hlt]; rfl) rfl rfl hdg (kk H locs ls hR hO hl hv)
theorem g_lald (hC : Ok C G cc own nm d kc ks) {x : Option Nat} {a j : Nat} {z : Int32} (hx : x = some a) (hk : mK M a = kL) (hin : vp_in z (mN M a)) (hj : z.toNatClampNeg = j) (hdg : decode cc pc = .ok (.laload, 1)) (kk : Go C (pc + 1) lv (vl (mL M a j) :: st) M k n) : Go C pc lv (vi z :: vr x :: st) M k n := by
  subst hx; subst hj
  obtain ⟨p, l, e, R, s, m, args, below, meth, c, Q, s0, D, nL⟩ := C
  intro H locs ls hR hO hl hv
  obtain ⟨hxx, hb, hml, hown, hts, hW, hB, -⟩ := hC
  have hlt : z.toNatClampNeg < mN M a := Nat.not_le.mp fun q => hin (Or.inr q)
  refine W.lald hxx hb ((hR a).2.1 1 .long hk rfl) ((hB.ao hW (i := 1) rfl).1 _ _) (fun q => by cases q) (by rw [arrV_size]; exact hin) (v := .long (mL M a z.toNatClampNeg)) (by rw [arrV_read _ _ hlt]; rfl) rfl rfl hdg (kk H locs ls hR hO hl hv)
theorem g_zald (hC : Ok C G cc own nm d kc ks) {x : Option Nat} {a j : Nat} {z : Int32} (hx : x = some a) (hk : mK M a = kZ) (hin : vp_in z (mN M a)) (hj : z.toNatClampNeg = j) (hdg : decode cc pc = .ok (.baload, 1)) (kk : Go C (pc + 1) lv (vi (mI M a j) :: st) M k n) : Go C pc lv (vi z :: vr x :: st) M k n := by
  subst hx; subst hj
  obtain ⟨p, l, e, R, s, m, args, below, meth, c, Q, s0, D, nL⟩ := C
  intro H locs ls hR hO hl hv
  obtain ⟨hxx, hb, hml, hown, hts, hW, hB, -⟩ := hC
  have hlt : z.toNatClampNeg < mN M a := Nat.not_le.mp fun q => hin (Or.inr q)
  refine W.zald hxx hb ((hR a).2.1 2 .boolean hk rfl) ((hB.ao hW (i := 2) rfl).1 _ _) (fun q => by cases q) (by rw [arrV_size]; exact hin) (v := .int (mI M a z.toNatClampNeg)) (by rw [arrV_read _ _ hlt]; rfl) rfl rfl hdg (kk H locs ls hR hO hl hv)
theorem g_aald (hC : Ok C G cc own nm d kc ks) {x : Option Nat} {a j i : Nat} {ty : FieldType} {z : Int32} (hx : x = some a) (hk : mK M a = i + 51) (hc : atz[i]? = some ty) (hr : ty.isReference = true) (hr2 : isR ty = true) (hin : vp_in z (mN M a)) (hj : z.toNatClampNeg = j) (hdg : decode cc pc = .ok (.aaload, 1)) (kk : Go C (pc + 1) lv (vr (mR M a j) :: st) M k n) : Go C pc lv (vi z :: vr x :: st) M k n := by
  subst hx; subst hj
  obtain ⟨p, l, e, R, s, m, args, below, meth, c, Q, s0, D, nL⟩ := C
  intro H locs ls hR hO hl hv
  obtain ⟨hxx, hb, hml, hown, hts, hW, hB, -⟩ := hC
  have hlt : z.toNatClampNeg < mN M a := Nat.not_le.mp fun q => hin (Or.inr q)
  refine W.aald hxx hb ((hR a).2.1 i ty hk hc) ((hB.ao hW hc).1 _ _) hr (fun q => by cases q) (by rw [arrV_size]; exact hin) (v := va_rf (mR M a z.toNatClampNeg)) (by rw [arrV_read _ _ hlt, fv_r hr2]) rfl rfl hdg (kk H locs ls hR hO hl hv)
/-- stores -/
theorem Rp.setA {s0 : State} {D : Dx} {M M' : Mem} {H H' : Heap} {a i j : Nat} {ty : FieldType} {v : Value} {locs : List Loc} (hR : Rp s0 D M H) (hO : Ol s0 H) (hl : ∀ q ∈ locs, s0.heap.size ≤ q.base) (hk : mK M a = i + 51) (hc : atz[i]? = some ty) (e1 : H'[a]? = some ((arrV (D.2.2 i) (mN M a) (fun j => fv M ty a j)).setSlot j v)) (e2 : H'.size = H.size) (e3 : ∀ q, q ≠ a → H'[q]? = H[q]?) (hV : ∀ t, updV (fun j => fv M ty a j) j v t = fv M' ty a t) (hM : ∀ b, mK M' b = mK M b ∧ mN M' b = mN M b ∧ (b ≠ a → Kp M M' b)) : Rp s0 D M' H' ∧ Ol s0 H' ∧ ∀ q ∈ locs ++ [(⟨a, j⟩ : Loc)], s0.heap.size ≤ q.base := by
  have hba := hR.base hk
  refine ⟨hR.upd e2 e3 hM ((hR a).arr hk hc (hM a).1 e2 ?_), ⟨by rw [e2]; exact hO.1, fun z hz => by rw [e3 z (by omega)]; exact hO.2 z hz⟩, fun z hz => ?_⟩
  · rw [e1, arrV_store, (hM a).2.1]
    congr 2
    funext t
    exact hV t
  · rcases List.mem_append.mp hz with h | h
    · exact hl z h
    · rw [List.mem_singleton.mp h]; exact hba
theorem g_iast (hC : Ok C G cc own nm d kc ks) {x : Option Nat} {a j : Nat} {z y : Int32} (hx : x = some a) (hk : mK M a = kI) (hin : vp_in z (mN M a)) (hj : z.toNatClampNeg = j) (hdg : decode cc pc = .ok (.iastore, 1)) (kk : Go C (pc + 1) lv st (sI M a j y) k n) : Go C pc lv (vi y :: vi z :: vr x :: st) M k n := by
  subst hx; subst hj
  obtain ⟨p, l, e, R, s, m, args, below, meth, c, Q, s0, D, nL⟩ := C
  intro H locs ls hR hO hl hv
  obtain ⟨hxx, hb, hml, hown, hts, hW, hB, -⟩ := hC
  refine W.iast hxx hb ((hR a).2.1 0 .int hk rfl) ((hB.ao hW (i := 0) rfl).1 _ _) (fun q => by cases q) (by rw [arrV_size]; exact hin) rfl rfl hdg fun H' e1 e2 e3 => ?_
  obtain ⟨h1, h2, h3⟩ := hR.setA hO hl hk (ty := .int) rfl e1 e2 e3 (upd_aI .int rfl) (kp_sI M a _ y)
  exact kk H' _ ls h1 h2 h3 hv
theorem g_last (hC : Ok C G cc own nm d kc ks) {x : Option Nat} {a j : Nat} {z : Int32} {y : Int64} (hx : x = some a) (hk : mK M a = kL) (hin : vp_in z (mN M a)) (hj : z.toNatClampNeg = j) (hdg : decode cc pc = .ok (.lastore, 1)) (kk : Go C (pc + 1) lv st (sL M a j y) k n) : Go C pc lv (vl y :: vi z :: vr x :: st) M k n := by
  subst hx; subst hj
  obtain ⟨p, l, e, R, s, m, args, below, meth, c, Q, s0, D, nL⟩ := C
  intro H locs ls hR hO hl hv
  obtain ⟨hxx, hb, hml, hown, hts, hW, hB, -⟩ := hC
  refine W.last hxx hb ((hR a).2.1 1 .long hk rfl) ((hB.ao hW (i := 1) rfl).1 _ _) (fun q => by cases q) (by rw [arrV_size]; exact hin) rfl rfl hdg fun H' e1 e2 e3 => ?_
  obtain ⟨h1, h2, h3⟩ := hR.setA hO hl hk (ty := .long) rfl e1 e2 e3 (upd_aL (y := y)) (kp_sL M a _ y)
  exact kk H' _ ls h1 h2 h3 hv
theorem g_zast (hC : Ok C G cc own nm d kc ks) {x : Option Nat} {a j : Nat} {z y : Int32} (hx : x = some a) (hk : mK M a = kZ) (hin : vp_in z (mN M a)) (hj : z.toNatClampNeg = j) (hy : narrow .boolean (.int y) = .int y) (hdg : decode cc pc = .ok (.bastore, 1)) (kk : Go C (pc + 1) lv st (sI M a j y) k n) : Go C pc lv (vi y :: vi z :: vr x :: st) M k n := by
  subst hx; subst hj
  obtain ⟨p, l, e, R, s, m, args, below, meth, c, Q, s0, D, nL⟩ := C
  intro H locs ls hR hO hl hv
  obtain ⟨hxx, hb, hml, hown, hts, hW, hB, -⟩ := hC
  refine W.zast hxx hb ((hR a).2.1 2 .boolean hk rfl) ((hB.ao hW (i := 2) rfl).1 _ _) (fun q => by cases q) (by rw [arrV_size]; exact hin) rfl rfl hdg fun H' e1 e2 e3 => ?_
  rw [hy] at e1
  obtain ⟨h1, h2, h3⟩ := hR.setA hO hl hk (ty := .boolean) rfl e1 e2 e3 (upd_aI .boolean rfl) (kp_sI M a _ y)
  exact kk H' _ ls h1 h2 h3 hv
/-- null into an array of a class's objects -/
theorem g_aastN (hC : Ok C G cc own nm d kc ks) {x : Option Nat} {a j i : Nat} {E : String} {z : Int32} (hx : x = some a) (hk : mK M a = i + 51) (hc : atz[i]? = some (.object E)) (hin : vp_in z (mN M a)) (hj : z.toNatClampNeg = j) (hdg : decode cc pc = .ok (.aastore, 1)) (kk : Go C (pc + 1) lv st (sR M a j none) k n) : Go C pc lv (vr none :: vi z :: vr x :: st) M k n := by
  subst hx; subst hj
  obtain ⟨p, l, e, R, s, m, args, below, meth, c, Q, s0, D, nL⟩ := C
  intro H locs ls hR hO hl hv
  obtain ⟨hxx, hb, hml, hown, hts, hW, hB, -⟩ := hC
  refine va_WaastN hxx hb ((hR a).2.1 i _ hk hc) ((hB.ao hW hc).1 _ _) (fun q => by cases q) (by rw [arrV_size]; exact hin) rfl rfl hdg fun H' e1 e2 e3 => ?_
  obtain ⟨h1, h2, h3⟩ := hR.setA hO hl hk hc e1 e2 e3 (upd_aR (y := none) _ rfl) (kp_sR M a _ none)
  exact kk H' _ ls h1 h2 h3 hv
/-- what may be put into an array whose component is the class of id comp -/
def Asg (s : State) (H : Heap) (v : Nat) (comp : ClassId) : Prop := ∃ (cv : Cell) (kv : Class), H[v]? = some cv ∧ (∀ q, cv.vm ≠ .statics q) ∧ s.vm.classes[cv.cls]? = some kv ∧ s.vm.assignable cv.cls comp = true
theorem go_aast (hC : Ok C G cc own nm d kc ks) {x : Option Nat} {a j i v : Nat} {ty : FieldType} {z : Int32} (hx : x = some a) (hk : mK M a = i + 51) (hc : atz[i]? = some ty) (hr : ty.isReference = true) (hr2 : isR ty = true) (hin : vp_in z (mN M a)) (hj : z.toNatClampNeg = j)
    (hcm : ∀ (s s0 : State) (D : Dx) (l : Launch) (H : Heap) (comp : ClassId), Base (l, s0, D) → s0.WarmedH s.vm → Rp s0 D M H → (∀ C, ty = .object C → s.vm.findClass C = some comp) → (∀ t, ty = .array t → s.vm.findClass (FieldType.array t).toString = some comp) → Asg s H v comp ∧ ∃ kc, s.vm.classes[comp]? = some kc)
    (hdg : decode cc pc = .ok (.aastore, 1)) (kk : Go C (pc + 1) lv st (sR M a j (some v)) k n) : Go C pc lv (vr (some v) :: vi z :: vr x :: st) M k n := by
  subst hx; subst hj
  obtain ⟨p, l, e, R, s, m, args, below, meth, c, Q, s0, D, nL⟩ := C
  intro H locs ls hR hO hl hv
  obtain ⟨hxx, hb, hml, hown, hts, hW, hB, -⟩ := hC
  obtain ⟨g1, g2, kA, comp, g3, g4, g5, g6⟩ := hB.ao hW hc
  obtain ⟨⟨cv, kv, a1, a2, a3, a4⟩, kcm, hkcm⟩ := hcm s s0 D l H comp hB hW hR g5 g6
  have hlt : z.toNatClampNeg < mN M a := Nat.not_le.mp fun q => hin (Or.inr q)
  refine W.aast hxx hb ((hR a).2.1 i _ hk hc) (fun q h => by cases h) (fun q => by cases q) g3 g4 hr hkcm ⟨fun h => hin (Or.inl h), by rw [arrV_size]; exact hlt⟩ a1 a2 a3 a4 rfl rfl hdg fun H' e1 e2 e3 => ?_
  obtain ⟨h1, h2, h3⟩ := hR.setA hO hl hk hc e1 e2 e3 (upd_aR (y := some v) _ hr2) (kp_sR M a _ (some v))
  exact kk H' _ ls h1 h2 h3 hv
theorem isStat {v : VmData} (h : v.isStatics = false) : ∀ q, v ≠ .statics q := by
  intro q e
  rw [e] at h
  cases h
/-- an object of the class ci into an array of E -/
theorem g_aast (hC : Ok C G cc own nm d kc ks) {x : Option Nat} {a j i v ci : Nat} {q : vw_C} {E : String} {z : Int32} (hx : x = some a) (hk : mK M a = i + 51) (hc : atz[i]? = some (.object E)) (hv : mK M v = ci + 1) (hq : clz[ci]? = some q) (hw : Cond.castable q.1 E ∈ lw_tbl) (hin : vp_in z (mN M a)) (hj : z.toNatClampNeg = j) (hdg : decode cc pc = .ok (.aastore, 1)) (kk : Go C (pc + 1) lv st (sR M a j (some v)) k n) : Go C pc lv (vr (some v) :: vi z :: vr x :: st) M k n := by
  refine go_aast hC hx hk hc rfl rfl hin hj (fun s s0 D l H comp hB hW hR g5 _ => ?_) hdg kk
  obtain ⟨cell, h1, h2, h3⟩ := Rp.recv hB hW hR hv hq
  obtain ⟨c1, c2, f1, f2, f3⟩ := Cond.castable_spec (va_Nw.use (A := #[]) rfl (hB.cast hW hw))
  cases h3.symm.trans f1
  cases (g5 E rfl).symm.trans f2
  obtain ⟨-, hfc, kC, hkC, -⟩ := hB.kn hW hq
  have e9 := Option.some.inj (h3.symm.trans hfc)
  refine ⟨⟨cell, kC, h1, isStat h2, by rw [e9]; exact hkC, f3⟩, ?_⟩
  obtain ⟨k9, hh, -⟩ := Vm.findClass_spec f2
  exact ⟨k9, hh⟩
/-- an Integer that nobody writes, into an Object[] -/
theorem g_aastBx (hC : Ok C G cc own nm d kc ks) {x : Option Nat} {a j i v : Nat} {E : String} {z : Int32} (hx : x = some a) (hk : mK M a = i + 51) (hc : atz[i]? = some (.object E)) (hv : mK M v = kBx) (hw : Cond.castable "java/lang/Integer" E ∈ lw_tbl) (hin : vp_in z (mN M a)) (hj : z.toNatClampNeg = j) (hdg : decode cc pc = .ok (.aastore, 1)) (kk : Go C (pc + 1) lv st (sR M a j (some v)) k n) : Go C pc lv (vr (some v) :: vi z :: vr x :: st) M k n := by
  refine go_aast hC hx hk hc rfl rfl hin hj (fun s s0 D l H comp hB hW hR g5 _ => ?_) hdg kk
  obtain ⟨cell, h1, h2, h3⟩ := Rp.recvBx hB hW hR hv
  obtain ⟨c1, c2, f1, f2, f3⟩ := Cond.castable_spec (va_Nw.use (A := #[]) rfl (hB.cast hW hw))
  cases h3.symm.trans f1
  cases (g5 E rfl).symm.trans f2
  obtain ⟨-, hfc, kC, hkC, -⟩ := hB.kn hW (ci := 17) rfl
  have e9 := Option.some.inj (h3.symm.trans hfc)
  refine ⟨⟨cell, kC, h1, isStat h2, by rw [e9]; exact hkC, f3⟩, ?_⟩
  obtain ⟨k9, hh, -⟩ := Vm.findClass_spec f2
  exact ⟨k9, hh⟩
/-- the length of an array -/
theorem g_alen (hC : Ok C G cc own nm d kc ks) {x : Option Nat} {a i : Nat} {ty : FieldType} (hx : x = some a) (hk : mK M a = i + 51) (hc : atz[i]? = some ty) (hdg : decode cc pc = .ok (.arraylength, 1)) (kk : Go C (pc + 1) lv (vi (nI (mN M a)) :: st) M k n) : Go C pc lv (vr x :: st) M k n := by
  subst hx
  obtain ⟨p, l, e, R, s, m, args, below, meth, c, Q, s0, D, nL⟩ := C
  intro H locs ls hR hO hl hv
  obtain ⟨hxx, hb, hml, hown, hts, hW, hB, -⟩ := hC
  refine W.alen (n := nI (mN M a)) hxx hb ((hR a).2.1 i ty hk hc) ((hB.ao hW hc).1 _ _) (by rw [arrV_size] <;> rfl) rfl rfl hdg (kk H locs ls hR hO hl hv)
theorem g_alen0 (hC : Ok C G cc own nm d kc ks) {x : Option Nat} {a : Nat} (hx : x = some a) (hk : mK M a = kE0) (hdg : decode cc pc = .ok (.arraylength, 1)) (kk : Go C (pc + 1) lv (vi 0 :: st) M k n) : Go C pc lv (vr x :: st) M k n := by
  subst hx
  obtain ⟨p, l, e, R, s, m, args, below, meth, c, Q, s0, D, nL⟩ := C
  intro H locs ls hR hO hl hv
  obtain ⟨hxx, hb, hml, hown, hts, hW, hB, -⟩ := hC
  obtain ⟨cell, h1, h2, h3, h4, h5, h6⟩ := (hR a).2.2.2.2.1 hk
  obtain ⟨g1, g2, kA, comp, g3, g4, -⟩ := hB.ao hW (i := 3) rfl
  refine W.alen (n := 0) (ty := .object "java/lang/Object") hxx hb h1 ⟨h3, kA, by rw [h2]; exact g3, comp, g4⟩ (by rw [h5] <;> rfl) rfl rfl hdg (kk H locs ls hR hO hl hv)
/-- checkcast of null, of an object of a class that can be cast, of one of the class itself -/
theorem g_castN (hC : Ok C G cc own nm d kc ks) {x : Option Nat} {idx : Nat} (hx : x = none) (hdg : decode cc pc = .ok (.checkcast idx, 3)) (kk : Go C (pc + 3) lv (vr x :: st) M k n) : Go C pc lv (vr x :: st) M k n := by
  subst hx
  obtain ⟨p, l, e, R, s, m, args, below, meth, c, Q, s0, D, nL⟩ := C
  intro H locs ls hR hO hl hv
  exact lv_castN hC.1 hC.2.1 hdg (kk H locs ls hR hO hl hv)
theorem g_castY (hC : Ok C G cc own nm d kc ks) {x : Option Nat} {a ci idx : Nat} {q : vw_C} {E : String} (hx : x = some a) (hk : mK M a = ci + 1) (hc : clz[ci]? = some q) (hcl : Cond.classLink own idx E ∈ lw_all) (hw : Cond.castable q.1 E ∈ lw_tbl) (hdg : decode cc pc = .ok (.checkcast idx, 3)) (kk : Go C (pc + 3) lv (vr x :: st) M k n) : Go C pc lv (vr x :: st) M k n := by
  subst hx
  obtain ⟨p, l, e, R, s, m, args, below, meth, c, Q, s0, D, nL⟩ := C
  intro H locs ls hR hO hl hv
  obtain ⟨hxx, hb, hml, hown, hts, hW, hB, -⟩ := hC
  exact va_castY hxx hb hown (hts _ hcl) (hB.cast hW hw) (Rp.recv hB hW hR hk hc) hdg (kk H locs ls hR hO hl hv)
theorem g_castS (hC : Ok C G cc own nm d kc ks) {x : Option Nat} {a ci idx : Nat} {q : vw_C} {E : String} (hx : x = some a) (hk : mK M a = ci + 1) (hc : clz[ci]? = some q) (he : E = q.1) (hcl : Cond.classLink own idx E ∈ lw_all) (hdg : decode cc pc = .ok (.checkcast idx, 3)) (kk : Go C (pc + 3) lv (vr x :: st) M k n) : Go C pc lv (vr x :: st) M k n := by
  subst hx; subst he
  obtain ⟨p, l, e, R, s, m, args, below, meth, c, Q, s0, D, nL⟩ := C
  intro H locs ls hR hO hl hv
  obtain ⟨hxx, hb, hml, hown, hts, hW, hB, -⟩ := hC
  exact va_castE hxx hb hown (hts _ hcl) (Rp.recv hB hW hR hk hc) hdg (kk H locs ls hR hO hl hv)
theorem g_castBxS (hC : Ok C G cc own nm d kc ks) {x : Option Nat} {a idx : Nat} (hx : x = some a) (hk : mK M a = kBx) (hcl : Cond.classLink own idx "java/lang/Integer" ∈ lw_all) (hdg : decode cc pc = .ok (.checkcast idx, 3)) (kk : Go C (pc + 3) lv (vr x :: st) M k n) : Go C pc lv (vr x :: st) M k n := by
  subst hx
  obtain ⟨p, l, e, R, s, m, args, below, meth, c, Q, s0, D, nL⟩ := C
  intro H locs ls hR hO hl hv
  obtain ⟨hxx, hb, hml, hown, hts, hW, hB, -⟩ := hC
  exact va_castE hxx hb hown (hts _ hcl) (Rp.recvBx hB hW hR hk) hdg (kk H locs ls hR hO hl hv)
theorem g_castBxY (hC : Ok C G cc own nm d kc ks) {x : Option Nat} {a idx : Nat} {E : String} (hx : x = some a) (hk : mK M a = kBx) (hcl : Cond.classLink own idx E ∈ lw_all) (hw : Cond.castable "java/lang/Integer" E ∈ lw_tbl) (hdg : decode cc pc = .ok (.checkcast idx, 3)) (kk : Go C (pc + 3) lv (vr x :: st) M k n) : Go C pc lv (vr x :: st) M k n := by
  subst hx
  obtain ⟨p, l, e, R, s, m, args, below, meth, c, Q, s0, D, nL⟩ := C
  intro H locs ls hR hO hl hv
  obtain ⟨hxx, hb, hml, hown, hts, hW, hB, -⟩ := hC
  exact va_castY hxx hb hown (hts _ hcl) (hB.cast hW hw) (Rp.recvBx hB hW hR hk) hdg (kk H locs ls hR hO hl hv)
/-- instanceof -/
theorem g_instY (hC : Ok C G cc own nm d kc ks) {x : Option Nat} {a ci idx : Nat} {q : vw_C} {E : String} (hx : x = some a) (hk : mK M a = ci + 1) (hc : clz[ci]? = some q) (hcl : Cond.classLink own idx E ∈ lw_all) (hw : Cond.castable q.1 E ∈ lw_tbl) (hdg : decode cc pc = .ok (.instanceof idx, 3)) (kk : Go C (pc + 3) lv (vi 1 :: st) M k n) : Go C pc lv (vr x :: st) M k n := by
  subst hx
  obtain ⟨p, l, e, R, s, m, args, below, meth, c, Q, s0, D, nL⟩ := C
  intro H locs ls hR hO hl hv
  obtain ⟨hxx, hb, hml, hown, hts, hW, hB, -⟩ := hC
  exact va_instY hxx hb hown (hts _ hcl) (hB.cast hW hw) (Rp.recv hB hW hR hk hc) hdg (kk H locs ls hR hO hl hv)
theorem g_instBxS (hC : Ok C G cc own nm d kc ks) {x : Option Nat} {a idx : Nat} (hx : x = some a) (hk : mK M a = kBx) (hcl : Cond.classLink own idx "java/lang/Integer" ∈ lw_all) (hdg : decode cc pc = .ok (.instanceof idx, 3)) (kk : Go C (pc + 3) lv (vi 1 :: st) M k n) : Go C pc lv (vr x :: st) M k n := by
  subst hx
  obtain ⟨p, l, e, R, s, m, args, below, meth, c, Q, s0, D, nL⟩ := C
  intro H locs ls hR hO hl hv
  obtain ⟨hxx, hb, hml, hown, hts, hW, hB, -⟩ := hC
  exact va_instE hxx hb hown (hts _ hcl) (Rp.recvBx hB hW hR hk) hdg (kk H locs ls hR hO hl hv)
theorem g_instNo (hC : Ok C G cc own nm d kc ks) {x : Option Nat} {a ci idx : Nat} {q : vw_C} {E : String} (hx : x = some a) (hk : mK M a = ci + 1) (hc : clz[ci]? = some q) (hcl : Cond.classLink own idx E ∈ lw_all) (hw : Cond.not (.castable q.1 E) ∈ flatC (Cond.and given_1 narrow_1)) (hdg : decode cc pc = .ok (.instanceof idx, 3)) (kk : Go C (pc + 3) lv (vi 0 :: st) M k n) : Go C pc lv (vr x :: st) M k n := by
  subst hx
  obtain ⟨p, l, e, R, s, m, args, below, meth, c, Q, s0, D, nL⟩ := C
  intro H locs ls hR hO hl hv
  obtain ⟨hxx, hb, hml, hown, hts, hW, hB, -⟩ := hC
  have hn : va_Nc q.1 E s := by
    obtain ⟨b, -, -, -, -, hg⟩ := hB
    exact (va_Nc.of (flat_of_before _ hg _ hw)).moved hW.alike
  exact va_instNo hxx hb hown (hts _ hcl) hn (Rp.recv hB hW hR hk hc) hdg (kk H locs ls hR hO hl hv)
end GoArr
