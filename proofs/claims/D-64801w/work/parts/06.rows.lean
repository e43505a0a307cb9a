/-! ===== rows of the Go layer (by program): arithmetic, stack, locals, branches ===== -/
section GoRows2
variable {C : Cx} {G : Gx} {cc : ByteArray} {own nm : String} {d kc ks pc : Nat} {lv : Lv} {st : List Sv} {M : Mem} {k n : Nat}
theorem g_iadd (hC : Ok C G cc own nm d kc ks) {x y : Int32} (hdg : decode cc pc = .ok (.iadd, 1)) (kk : Go C (pc + 1) lv (vi (x + y) :: st) M k n) : Go C pc lv (vi y :: vi x :: st) M k n := by
  obtain ⟨p, l, e, R, s, m, args, below, meth, c, Q, s0, D, nL⟩ := C
  intro H locs ls hR hO hl hv
  exact lv_iadd hC.1 hC.2.1 hdg (kk H locs ls hR hO hl hv)
theorem g_isub (hC : Ok C G cc own nm d kc ks) {x y : Int32} (hdg : decode cc pc = .ok (.isub, 1)) (kk : Go C (pc + 1) lv (vi (x - y) :: st) M k n) : Go C pc lv (vi y :: vi x :: st) M k n := by
  obtain ⟨p, l, e, R, s, m, args, below, meth, c, Q, s0, D, nL⟩ := C
  intro H locs ls hR hO hl hv
  exact lv_isub hC.1 hC.2.1 hdg (kk H locs ls hR hO hl hv)
theorem g_imul (hC : Ok C G cc own nm d kc ks) {x y : Int32} (hdg : decode cc pc = .ok (.imul, 1)) (kk : Go C (pc + 1) lv (vi (x * y) :: st) M k n) : Go C pc lv (vi y :: vi x :: st) M k n := by
  obtain ⟨p, l, e, R, s, m, args, below, meth, c, Q, s0, D, nL⟩ := C
  intro H locs ls hR hO hl hv
  exact lv_imul hC.1 hC.2.1 hdg (kk H locs ls hR hO hl hv)
theorem g_iand (hC : Ok C G cc own nm d kc ks) {x y : Int32} (hdg : decode cc pc = .ok (.iand, 1)) (kk : Go C (pc + 1) lv (vi (x &&& y) :: st) M k n) : Go C pc lv (vi y :: vi x :: st) M k n := by
  obtain ⟨p, l, e, R, s, m, args, below, meth, c, Q, s0, D, nL⟩ := C
  intro H locs ls hR hO hl hv
  exact lv_iand hC.1 hC.2.1 hdg (kk H locs ls hR hO hl hv)
theorem g_ior (hC : Ok C G cc own nm d kc ks) {x y : Int32} (hdg : decode cc pc = .ok (.ior, 1)) (kk : Go C (pc + 1) lv (vi (x ||| y) :: st) M k n) : Go C pc lv (vi y :: vi x :: st) M k n := by
  obtain ⟨p, l, e, R, s, m, args, below, meth, c, Q, s0, D, nL⟩ := C
  intro H locs ls hR hO hl hv
  exact lv_ior hC.1 hC.2.1 hdg (kk H locs ls hR hO hl hv)
theorem g_ixor (hC : Ok C G cc own nm d kc ks) {x y : Int32} (hdg : decode cc pc = .ok (.ixor, 1)) (kk : Go C (pc + 1) lv (vi (x ^^^ y) :: st) M k n) : Go C pc lv (vi y :: vi x :: st) M k n := by
  obtain ⟨p, l, e, R, s, m, args, below, meth, c, Q, s0, D, nL⟩ := C
  intro H locs ls hR hO hl hv
  exact lv_ixor hC.1 hC.2.1 hdg (kk H locs ls hR hO hl hv)
theorem g_ishl (hC : Ok C G cc own nm d kc ks) {x y : Int32} (hdg : decode cc pc = .ok (.ishl, 1)) (kk : Go C (pc + 1) lv (vi (x <<< (y &&& 31)) :: st) M k n) : Go C pc lv (vi y :: vi x :: st) M k n := by
  obtain ⟨p, l, e, R, s, m, args, below, meth, c, Q, s0, D, nL⟩ := C
  intro H locs ls hR hO hl hv
  exact lv_ishl hC.1 hC.2.1 hdg (kk H locs ls hR hO hl hv)
theorem g_ishr (hC : Ok C G cc own nm d kc ks) {x y : Int32} (hdg : decode cc pc = .ok (.ishr, 1)) (kk : Go C (pc + 1) lv (vi (x >>> (y &&& 31)) :: st) M k n) : Go C pc lv (vi y :: vi x :: st) M k n := by
  obtain ⟨p, l, e, R, s, m, args, below, meth, c, Q, s0, D, nL⟩ := C
  intro H locs ls hR hO hl hv
  exact lv_ishr hC.1 hC.2.1 hdg (kk H locs ls hR hO hl hv)
theorem g_idiv (hC : Ok C G cc own nm d kc ks) {x y : Int32} (hdg : decode cc pc = .ok (.idiv, 1)) (hne : ¬ y = 0) (kk : Go C (pc + 1) lv (vi (x / y) :: st) M k n) : Go C pc lv (vi y :: vi x :: st) M k n := by
  obtain ⟨p, l, e, R, s, m, args, below, meth, c, Q, s0, D, nL⟩ := C
  intro H locs ls hR hO hl hv
  exact lv_idiv hC.1 hC.2.1 hdg hne (kk H locs ls hR hO hl hv)
theorem g_irem (hC : Ok C G cc own nm d kc ks) {x y : Int32} (hdg : decode cc pc = .ok (.irem, 1)) (hne : ¬ y = 0) (kk : Go C (pc + 1) lv (vi (x - x / y * y) :: st) M k n) : Go C pc lv (vi y :: vi x :: st) M k n := by
  obtain ⟨p, l, e, R, s, m, args, below, meth, c, Q, s0, D, nL⟩ := C
  intro H locs ls hR hO hl hv
  exact lv_irem hC.1 hC.2.1 hdg hne (kk H locs ls hR hO hl hv)
theorem g_iushr (hC : Ok C G cc own nm d kc ks) {x y : Int32} (hdg : decode cc pc = .ok (.iushr, 1)) (kk : Go C (pc + 1) lv (vi (x.toUInt32 >>> (y.toUInt32 &&& Int32.toUInt32 31)).toInt32 :: st) M k n) : Go C pc lv (vi y :: vi x :: st) M k n := by
  obtain ⟨p, l, e, R, s, m, args, below, meth, c, Q, s0, D, nL⟩ := C
  intro H locs ls hR hO hl hv
  exact lv_iushr hC.1 hC.2.1 hdg rfl (kk H locs ls hR hO hl hv)
theorem g_ladd (hC : Ok C G cc own nm d kc ks) {x y : Int64} (hdg : decode cc pc = .ok (.ladd, 1)) (kk : Go C (pc + 1) lv (vl (x + y) :: st) M k n) : Go C pc lv (vl y :: vl x :: st) M k n := by
  obtain ⟨p, l, e, R, s, m, args, below, meth, c, Q, s0, D, nL⟩ := C
  intro H locs ls hR hO hl hv
  exact lv_ladd hC.1 hC.2.1 hdg (kk H locs ls hR hO hl hv)
theorem g_lsub (hC : Ok C G cc own nm d kc ks) {x y : Int64} (hdg : decode cc pc = .ok (.lsub, 1)) (kk : Go C (pc + 1) lv (vl (x - y) :: st) M k n) : Go C pc lv (vl y :: vl x :: st) M k n := by
  obtain ⟨p, l, e, R, s, m, args, below, meth, c, Q, s0, D, nL⟩ := C
  intro H locs ls hR hO hl hv
  exact lv_lsub hC.1 hC.2.1 hdg (kk H locs ls hR hO hl hv)
theorem g_land (hC : Ok C G cc own nm d kc ks) {x y : Int64} (hdg : decode cc pc = .ok (.land, 1)) (kk : Go C (pc + 1) lv (vl (x &&& y) :: st) M k n) : Go C pc lv (vl y :: vl x :: st) M k n := by
  obtain ⟨p, l, e, R, s, m, args, below, meth, c, Q, s0, D, nL⟩ := C
  intro H locs ls hR hO hl hv
  exact lv_land hC.1 hC.2.1 hdg (kk H locs ls hR hO hl hv)
theorem g_lor (hC : Ok C G cc own nm d kc ks) {x y : Int64} (hdg : decode cc pc = .ok (.lor, 1)) (kk : Go C (pc + 1) lv (vl (x ||| y) :: st) M k n) : Go C pc lv (vl y :: vl x :: st) M k n := by
  obtain ⟨p, l, e, R, s, m, args, below, meth, c, Q, s0, D, nL⟩ := C
  intro H locs ls hR hO hl hv
  exact lv_lor hC.1 hC.2.1 hdg (kk H locs ls hR hO hl hv)
theorem g_lxor (hC : Ok C G cc own nm d kc ks) {x y : Int64} (hdg : decode cc pc = .ok (.lxor, 1)) (kk : Go C (pc + 1) lv (vl (x ^^^ y) :: st) M k n) : Go C pc lv (vl y :: vl x :: st) M k n := by
  obtain ⟨p, l, e, R, s, m, args, below, meth, c, Q, s0, D, nL⟩ := C
  intro H locs ls hR hO hl hv
  exact lv_lxor hC.1 hC.2.1 hdg (kk H locs ls hR hO hl hv)
theorem g_lshl (hC : Ok C G cc own nm d kc ks) {x : Int64} {y : Int32} (hdg : decode cc pc = .ok (.lshl, 1)) (kk : Go C (pc + 1) lv (vl (x <<< (y.toInt64 &&& 63)) :: st) M k n) : Go C pc lv (vi y :: vl x :: st) M k n := by
  obtain ⟨p, l, e, R, s, m, args, below, meth, c, Q, s0, D, nL⟩ := C
  intro H locs ls hR hO hl hv
  exact lv_lshl hC.1 hC.2.1 hdg rfl (kk H locs ls hR hO hl hv)
theorem g_lushr (hC : Ok C G cc own nm d kc ks) {x : Int64} {y : Int32} (hdg : decode cc pc = .ok (.lushr, 1)) (kk : Go C (pc + 1) lv (vl (x.toUInt64 >>> (y.toInt64.toUInt64 &&& Int64.toUInt64 63)).toInt64 :: st) M k n) : Go C pc lv (vi y :: vl x :: st) M k n := by
  obtain ⟨p, l, e, R, s, m, args, below, meth, c, Q, s0, D, nL⟩ := C
  intro H locs ls hR hO hl hv
  exact lv_lushr hC.1 hC.2.1 hdg rfl (kk H locs ls hR hO hl hv)
theorem g_lcmp (hC : Ok C G cc own nm d kc ks) {x y : Int64} (hdg : decode cc pc = .ok (.lcmp, 1)) (kk : Go C (pc + 1) lv (vi (lg_cmp x y) :: st) M k n) : Go C pc lv (vl y :: vl x :: st) M k n := by
  obtain ⟨p, l, e, R, s, m, args, below, meth, c, Q, s0, D, nL⟩ := C
  intro H locs ls hR hO hl hv
  exact W.lcmp hC.1 hC.2.1 hdg (kk H locs ls hR hO hl hv)
theorem g_i2l (hC : Ok C G cc own nm d kc ks) {x : Int32} (hdg : decode cc pc = .ok (.i2l, 1)) (kk : Go C (pc + 1) lv (vl x.toInt64 :: st) M k n) : Go C pc lv (vi x :: st) M k n := by
  obtain ⟨p, l, e, R, s, m, args, below, meth, c, Q, s0, D, nL⟩ := C
  intro H locs ls hR hO hl hv
  exact lv_i2l hC.1 hC.2.1 hdg rfl (kk H locs ls hR hO hl hv)
theorem g_l2i (hC : Ok C G cc own nm d kc ks) {x : Int64} (hdg : decode cc pc = .ok (.l2i, 1)) (kk : Go C (pc + 1) lv (vi x.toInt32 :: st) M k n) : Go C pc lv (vl x :: st) M k n := by
  obtain ⟨p, l, e, R, s, m, args, below, meth, c, Q, s0, D, nL⟩ := C
  intro H locs ls hR hO hl hv
  exact lv_l2i hC.1 hC.2.1 hdg rfl (kk H locs ls hR hO hl hv)
theorem g_lconst (hC : Ok C G cc own nm d kc ks) {z : Fin 2} (hdg : decode cc pc = .ok (.lconst z, 1)) (kk : Go C (pc + 1) lv (vl (Int64.ofNat (z : Nat)) :: st) M k n) : Go C pc lv (st) M k n := by
  obtain ⟨p, l, e, R, s, m, args, below, meth, c, Q, s0, D, nL⟩ := C
  intro H locs ls hR hO hl hv
  exact lv_lconst hC.1 hC.2.1 hdg rfl (kk H locs ls hR hO hl hv)
theorem g_dup (hC : Ok C G cc own nm d kc ks) {v : Sv} (hdg : decode cc pc = .ok (.dup, 1)) (h1 : catS v = 1) (kk : Go C (pc + 1) lv (v :: v :: st) M k n) : Go C pc lv (v :: st) M k n := by
  obtain ⟨p, l, e, R, s, m, args, below, meth, c, Q, s0, D, nL⟩ := C
  intro H locs ls hR hO hl hv
  exact lv_dup hC.1 hC.2.1 hdg (by rw [toV_cat]; exact h1) (kk H locs ls hR hO hl hv)
theorem g_pop (hC : Ok C G cc own nm d kc ks) {v : Sv} (hdg : decode cc pc = .ok (.pop, 1)) (h1 : catS v = 1) (kk : Go C (pc + 1) lv (st) M k n) : Go C pc lv (v :: st) M k n := by
  obtain ⟨p, l, e, R, s, m, args, below, meth, c, Q, s0, D, nL⟩ := C
  intro H locs ls hR hO hl hv
  exact lv_pop hC.1 hC.2.1 hdg (by rw [toV_cat]; exact h1) (kk H locs ls hR hO hl hv)
theorem g_dup_x1 (hC : Ok C G cc own nm d kc ks) {v w : Sv} (hdg : decode cc pc = .ok (.dup_x1, 1)) (h1 : catS v = 1) (h2 : catS w = 1) (kk : Go C (pc + 1) lv (v :: w :: v :: st) M k n) : Go C pc lv (v :: w :: st) M k n := by
  obtain ⟨p, l, e, R, s, m, args, below, meth, c, Q, s0, D, nL⟩ := C
  intro H locs ls hR hO hl hv
  exact lv_dup_x1 hC.1 hC.2.1 hdg (by rw [toV_cat]; exact h1) (by rw [toV_cat]; exact h2) (kk H locs ls hR hO hl hv)
theorem g_dup_x2 (hC : Ok C G cc own nm d kc ks) {v w u : Sv} (hdg : decode cc pc = .ok (.dup_x2, 1)) (h1 : catS v = 1) (h2 : catS w = 1) (h3 : catS u = 1) (kk : Go C (pc + 1) lv (v :: w :: u :: v :: st) M k n) : Go C pc lv (v :: w :: u :: st) M k n := by
  obtain ⟨p, l, e, R, s, m, args, below, meth, c, Q, s0, D, nL⟩ := C
  intro H locs ls hR hO hl hv
  exact lv_dup_x2 hC.1 hC.2.1 hdg (by rw [toV_cat]; exact h1) (by rw [toV_cat]; exact h2) (by rw [toV_cat]; exact h3) (kk H locs ls hR hO hl hv)
theorem g_dup2 (hC : Ok C G cc own nm d kc ks) {v w : Sv} (hdg : decode cc pc = .ok (.dup2, 1)) (h1 : catS v = 1) (h2 : catS w = 1) (kk : Go C (pc + 1) lv (v :: w :: v :: w :: st) M k n) : Go C pc lv (v :: w :: st) M k n := by
  obtain ⟨p, l, e, R, s, m, args, below, meth, c, Q, s0, D, nL⟩ := C
  intro H locs ls hR hO hl hv
  exact lv_dup2_11 hC.1 hC.2.1 hdg (by rw [toV_cat]; exact h1) (by rw [toV_cat]; exact h2) (kk H locs ls hR hO hl hv)
theorem g_if_eq (hC : Ok C G cc own nm d kc ks) {x : Int32} {off : Int} (tgt : Nat) (hdg : decode cc pc = .ok (.ifCond .eq off, 3)) (ht : (pc : Int) + off = (tgt : Int)) (kt : x = 0 → Go C tgt lv st M k n) (kf : ¬ x = 0 → Go C (pc + 3) lv st M k n) : Go C pc lv (vi x :: st) M k n := by
  obtain ⟨p, l, e, R, s, m, args, below, meth, c, Q, s0, D, nL⟩ := C
  intro H locs ls hR hO hl hv
  exact lv_if_eq hC.1 hC.2.1 hdg ht (fun q => kt (by first | exact q | grind) H locs ls hR hO hl hv) (fun q => kf (by first | exact q | grind) H locs ls hR hO hl hv)
theorem g_if_ne (hC : Ok C G cc own nm d kc ks) {x : Int32} {off : Int} (tgt : Nat) (hdg : decode cc pc = .ok (.ifCond .ne off, 3)) (ht : (pc : Int) + off = (tgt : Int)) (kt : ¬ x = 0 → Go C tgt lv st M k n) (kf : x = 0 → Go C (pc + 3) lv st M k n) : Go C pc lv (vi x :: st) M k n := by
  obtain ⟨p, l, e, R, s, m, args, below, meth, c, Q, s0, D, nL⟩ := C
  intro H locs ls hR hO hl hv
  exact lv_if_ne hC.1 hC.2.1 hdg ht (fun q => kt (by first | exact q | grind) H locs ls hR hO hl hv) (fun q => kf (by first | exact q | grind) H locs ls hR hO hl hv)
theorem g_if_lt (hC : Ok C G cc own nm d kc ks) {x : Int32} {off : Int} (tgt : Nat) (hdg : decode cc pc = .ok (.ifCond .lt off, 3)) (ht : (pc : Int) + off = (tgt : Int)) (kt : x < 0 → Go C tgt lv st M k n) (kf : ¬ x < 0 → Go C (pc + 3) lv st M k n) : Go C pc lv (vi x :: st) M k n := by
  obtain ⟨p, l, e, R, s, m, args, below, meth, c, Q, s0, D, nL⟩ := C
  intro H locs ls hR hO hl hv
  exact lv_if_lt hC.1 hC.2.1 hdg ht (fun q => kt (by first | exact q | grind) H locs ls hR hO hl hv) (fun q => kf (by first | exact q | grind) H locs ls hR hO hl hv)
theorem g_if_ge (hC : Ok C G cc own nm d kc ks) {x : Int32} {off : Int} (tgt : Nat) (hdg : decode cc pc = .ok (.ifCond .ge off, 3)) (ht : (pc : Int) + off = (tgt : Int)) (kt : ¬ x < 0 → Go C tgt lv st M k n) (kf : x < 0 → Go C (pc + 3) lv st M k n) : Go C pc lv (vi x :: st) M k n := by
  obtain ⟨p, l, e, R, s, m, args, below, meth, c, Q, s0, D, nL⟩ := C
  intro H locs ls hR hO hl hv
  exact lv_if_ge hC.1 hC.2.1 hdg ht (fun q => kt (by first | exact q | grind) H locs ls hR hO hl hv) (fun q => kf (by first | exact q | grind) H locs ls hR hO hl hv)
theorem g_if_gt (hC : Ok C G cc own nm d kc ks) {x : Int32} {off : Int} (tgt : Nat) (hdg : decode cc pc = .ok (.ifCond .gt off, 3)) (ht : (pc : Int) + off = (tgt : Int)) (kt : ¬ x ≤ 0 → Go C tgt lv st M k n) (kf : x ≤ 0 → Go C (pc + 3) lv st M k n) : Go C pc lv (vi x :: st) M k n := by
  obtain ⟨p, l, e, R, s, m, args, below, meth, c, Q, s0, D, nL⟩ := C
  intro H locs ls hR hO hl hv
  exact lv_if_gt hC.1 hC.2.1 hdg ht (fun q => kt (by first | exact q | grind) H locs ls hR hO hl hv) (fun q => kf (by first | exact q | grind) H locs ls hR hO hl hv)
theorem g_if_le (hC : Ok C G cc own nm d kc ks) {x : Int32} {off : Int} (tgt : Nat) (hdg : decode cc pc = .ok (.ifCond .le off, 3)) (ht : (pc : Int) + off = (tgt : Int)) (kt : x ≤ 0 → Go C tgt lv st M k n) (kf : ¬ x ≤ 0 → Go C (pc + 3) lv st M k n) : Go C pc lv (vi x :: st) M k n := by
  obtain ⟨p, l, e, R, s, m, args, below, meth, c, Q, s0, D, nL⟩ := C
  intro H locs ls hR hO hl hv
  exact lv_if_le hC.1 hC.2.1 hdg ht (fun q => kt (by first | exact q | grind) H locs ls hR hO hl hv) (fun q => kf (by first | exact q | grind) H locs ls hR hO hl hv)
theorem g_icmp_eq (hC : Ok C G cc own nm d kc ks) {x y : Int32} {off : Int} (tgt : Nat) (hdg : decode cc pc = .ok (.if_icmp .eq off, 3)) (ht : (pc : Int) + off = (tgt : Int)) (kt : x = y → Go C tgt lv st M k n) (kf : ¬ x = y → Go C (pc + 3) lv st M k n) : Go C pc lv (vi y :: vi x :: st) M k n := by
  obtain ⟨p, l, e, R, s, m, args, below, meth, c, Q, s0, D, nL⟩ := C
  intro H locs ls hR hO hl hv
  exact lv_icmp_eq hC.1 hC.2.1 hdg ht (fun q => kt (by first | exact q | grind) H locs ls hR hO hl hv) (fun q => kf (by first | exact q | grind) H locs ls hR hO hl hv)
theorem g_icmp_ne (hC : Ok C G cc own nm d kc ks) {x y : Int32} {off : Int} (tgt : Nat) (hdg : decode cc pc = .ok (.if_icmp .ne off, 3)) (ht : (pc : Int) + off = (tgt : Int)) (kt : ¬ x = y → Go C tgt lv st M k n) (kf : x = y → Go C (pc + 3) lv st M k n) : Go C pc lv (vi y :: vi x :: st) M k n := by
  obtain ⟨p, l, e, R, s, m, args, below, meth, c, Q, s0, D, nL⟩ := C
  intro H locs ls hR hO hl hv
  exact lv_icmp_ne hC.1 hC.2.1 hdg ht (fun q => kt (by first | exact q | grind) H locs ls hR hO hl hv) (fun q => kf (by first | exact q | grind) H locs ls hR hO hl hv)
theorem g_icmp_lt (hC : Ok C G cc own nm d kc ks) {x y : Int32} {off : Int} (tgt : Nat) (hdg : decode cc pc = .ok (.if_icmp .lt off, 3)) (ht : (pc : Int) + off = (tgt : Int)) (kt : x < y → Go C tgt lv st M k n) (kf : ¬ x < y → Go C (pc + 3) lv st M k n) : Go C pc lv (vi y :: vi x :: st) M k n := by
  obtain ⟨p, l, e, R, s, m, args, below, meth, c, Q, s0, D, nL⟩ := C
  intro H locs ls hR hO hl hv
  exact lv_icmp_lt hC.1 hC.2.1 hdg ht (fun q => kt (by first | exact q | grind) H locs ls hR hO hl hv) (fun q => kf (by first | exact q | grind) H locs ls hR hO hl hv)
theorem g_icmp_ge (hC : Ok C G cc own nm d kc ks) {x y : Int32} {off : Int} (tgt : Nat) (hdg : decode cc pc = .ok (.if_icmp .ge off, 3)) (ht : (pc : Int) + off = (tgt : Int)) (kt : ¬ x < y → Go C tgt lv st M k n) (kf : x < y → Go C (pc + 3) lv st M k n) : Go C pc lv (vi y :: vi x :: st) M k n := by
  obtain ⟨p, l, e, R, s, m, args, below, meth, c, Q, s0, D, nL⟩ := C
  intro H locs ls hR hO hl hv
  exact lv_icmp_ge hC.1 hC.2.1 hdg ht (fun q => kt (by first | exact q | grind) H locs ls hR hO hl hv) (fun q => kf (by first | exact q | grind) H locs ls hR hO hl hv)
theorem g_icmp_gt (hC : Ok C G cc own nm d kc ks) {x y : Int32} {off : Int} (tgt : Nat) (hdg : decode cc pc = .ok (.if_icmp .gt off, 3)) (ht : (pc : Int) + off = (tgt : Int)) (kt : ¬ x ≤ y → Go C tgt lv st M k n) (kf : x ≤ y → Go C (pc + 3) lv st M k n) : Go C pc lv (vi y :: vi x :: st) M k n := by
  obtain ⟨p, l, e, R, s, m, args, below, meth, c, Q, s0, D, nL⟩ := C
  intro H locs ls hR hO hl hv
  exact lv_icmp_gt hC.1 hC.2.1 hdg ht (fun q => kt (by first | exact q | grind) H locs ls hR hO hl hv) (fun q => kf (by first | exact q | grind) H locs ls hR hO hl hv)
theorem g_icmp_le (hC : Ok C G cc own nm d kc ks) {x y : Int32} {off : Int} (tgt : Nat) (hdg : decode cc pc = .ok (.if_icmp .le off, 3)) (ht : (pc : Int) + off = (tgt : Int)) (kt : x ≤ y → Go C tgt lv st M k n) (kf : ¬ x ≤ y → Go C (pc + 3) lv st M k n) : Go C pc lv (vi y :: vi x :: st) M k n := by
  obtain ⟨p, l, e, R, s, m, args, below, meth, c, Q, s0, D, nL⟩ := C
  intro H locs ls hR hO hl hv
  exact lv_icmp_le hC.1 hC.2.1 hdg ht (fun q => kt (by first | exact q | grind) H locs ls hR hO hl hv) (fun q => kf (by first | exact q | grind) H locs ls hR hO hl hv)
theorem g_acmp_eq (hC : Ok C G cc own nm d kc ks) {x y : Option Nat} {off : Int} (tgt : Nat) (hdg : decode cc pc = .ok (.if_acmp .eq off, 3)) (ht : (pc : Int) + off = (tgt : Int)) (kt : x = y → Go C tgt lv st M k n) (kf : ¬ x = y → Go C (pc + 3) lv st M k n) : Go C pc lv (vr y :: vr x :: st) M k n := by
  obtain ⟨p, l, e, R, s, m, args, below, meth, c, Q, s0, D, nL⟩ := C
  intro H locs ls hR hO hl hv
  exact lv_acmp_eq hC.1 hC.2.1 hdg ht (fun q => kt (by first | exact q | grind) H locs ls hR hO hl hv) (fun q => kf (by first | exact q | grind) H locs ls hR hO hl hv)
theorem g_acmp_ne (hC : Ok C G cc own nm d kc ks) {x y : Option Nat} {off : Int} (tgt : Nat) (hdg : decode cc pc = .ok (.if_acmp .ne off, 3)) (ht : (pc : Int) + off = (tgt : Int)) (kt : ¬ x = y → Go C tgt lv st M k n) (kf : x = y → Go C (pc + 3) lv st M k n) : Go C pc lv (vr y :: vr x :: st) M k n := by
  obtain ⟨p, l, e, R, s, m, args, below, meth, c, Q, s0, D, nL⟩ := C
  intro H locs ls hR hO hl hv
  exact lv_acmp_ne hC.1 hC.2.1 hdg ht (fun q => kt (by first | exact q | grind) H locs ls hR hO hl hv) (fun q => kf (by first | exact q | grind) H locs ls hR hO hl hv)
theorem g_ifnull (hC : Ok C G cc own nm d kc ks) {x : Option Nat} {off : Int} (tgt : Nat) (hdg : decode cc pc = .ok (.ifnull off, 3)) (ht : (pc : Int) + off = (tgt : Int)) (kt : x = none → Go C tgt lv st M k n) (kf : ∀ a, x = some a → Go C (pc + 3) lv st M k n) : Go C pc lv (vr x :: st) M k n := by
  obtain ⟨p, l, e, R, s, m, args, below, meth, c, Q, s0, D, nL⟩ := C
  intro H locs ls hR hO hl hv
  cases x with
  | none => exact lv_ifnullN hC.1 hC.2.1 hdg ht (kt rfl H locs ls hR hO hl hv)
  | some a => exact lv_ifnull hC.1 hC.2.1 hdg (kf a rfl H locs ls hR hO hl hv)
theorem g_ifnonnull (hC : Ok C G cc own nm d kc ks) {x : Option Nat} {off : Int} (tgt : Nat) (hdg : decode cc pc = .ok (.ifnonnull off, 3)) (ht : (pc : Int) + off = (tgt : Int)) (kt : ∀ a, x = some a → Go C tgt lv st M k n) (kf : x = none → Go C (pc + 3) lv st M k n) : Go C pc lv (vr x :: st) M k n := by
  obtain ⟨p, l, e, R, s, m, args, below, meth, c, Q, s0, D, nL⟩ := C
  intro H locs ls hR hO hl hv
  cases x with
  | none => exact lv_ifnonnullN hC.1 hC.2.1 hdg (kf rfl H locs ls hR hO hl hv)
  | some a => exact lv_ifnonnull hC.1 hC.2.1 hdg ht (kt a rfl H locs ls hR hO hl hv)
theorem g_goto (hC : Ok C G cc own nm d kc ks) {off : Int} (tgt : Nat) (hdg : decode cc pc = .ok (.goto off, 3)) (ht : (pc : Int) + off = (tgt : Int)) (kk : Go C tgt lv st M k n) : Go C pc lv st M k n := by
  obtain ⟨p, l, e, R, s, m, args, below, meth, c, Q, s0, D, nL⟩ := C
  intro H locs ls hR hO hl hv
  exact lv_goto hC.1 hC.2.1 hdg ht (kk H locs ls hR hO hl hv)
theorem g_istore_n (hC : Ok C G cc own nm d kc ks) {i : Fin 4} {lv' : Lv} {x : Int32} (hdg : decode cc pc = .ok (.istore_n i, 1)) (hn : Nat.ble (i + 1) lv.length = true) (hs : stL lv i (vi x) = lv') (kk : Go C (pc + 1) lv' st M k n) : Go C pc lv (vi x :: st) M k n := by
  subst hs
  obtain ⟨p, l, e, R, s, m, args, below, meth, c, Q, s0, D, nL⟩ := C
  intro H locs ls hR hO hl hv
  obtain ⟨h0, l0, h1, h2⟩ := hv
  have hn : i < nL := Nat.le_trans (Nat.le_of_ble_eq_true hn) h0
  exact lv_istore_n hC.1 hC.2.1 hdg rfl h1 hn rfl (fun ls' h => kk H locs ls' hR hO hl ⟨by rw [stL_len]; exact h0, _, h, st_mem h2⟩)
theorem g_istore (hC : Ok C G cc own nm d kc ks) {i : Nat} {lv' : Lv} {x : Int32} (hdg : decode cc pc = .ok (.istore i, 2)) (hn : Nat.ble (i + 1) lv.length = true) (hs : stL lv i (vi x) = lv') (kk : Go C (pc + 2) lv' st M k n) : Go C pc lv (vi x :: st) M k n := by
  subst hs
  obtain ⟨p, l, e, R, s, m, args, below, meth, c, Q, s0, D, nL⟩ := C
  intro H locs ls hR hO hl hv
  obtain ⟨h0, l0, h1, h2⟩ := hv
  have hn : i < nL := Nat.le_trans (Nat.le_of_ble_eq_true hn) h0
  exact lv_istore hC.1 hC.2.1 hdg h1 hn rfl (fun ls' h => kk H locs ls' hR hO hl ⟨by rw [stL_len]; exact h0, _, h, st_mem h2⟩)
theorem g_astore_n (hC : Ok C G cc own nm d kc ks) {i : Fin 4} {lv' : Lv} {x : Option Nat} (hdg : decode cc pc = .ok (.astore_n i, 1)) (hn : Nat.ble (i + 1) lv.length = true) (hs : stL lv i (vr x) = lv') (kk : Go C (pc + 1) lv' st M k n) : Go C pc lv (vr x :: st) M k n := by
  subst hs
  obtain ⟨p, l, e, R, s, m, args, below, meth, c, Q, s0, D, nL⟩ := C
  intro H locs ls hR hO hl hv
  obtain ⟨h0, l0, h1, h2⟩ := hv
  have hn : i < nL := Nat.le_trans (Nat.le_of_ble_eq_true hn) h0
  cases x with
  | none => exact lv_astore_nN hC.1 hC.2.1 hdg rfl h1 hn rfl (fun ls' h => kk H locs ls' hR hO hl ⟨by rw [stL_len]; exact h0, _, h, st_mem h2⟩)
  | some a => exact lv_astore_n hC.1 hC.2.1 hdg rfl h1 hn rfl (fun ls' h => kk H locs ls' hR hO hl ⟨by rw [stL_len]; exact h0, _, h, st_mem h2⟩)
theorem g_astore (hC : Ok C G cc own nm d kc ks) {i : Nat} {lv' : Lv} {x : Option Nat} (hdg : decode cc pc = .ok (.astore i, 2)) (hn : Nat.ble (i + 1) lv.length = true) (hs : stL lv i (vr x) = lv') (kk : Go C (pc + 2) lv' st M k n) : Go C pc lv (vr x :: st) M k n := by
  subst hs
  obtain ⟨p, l, e, R, s, m, args, below, meth, c, Q, s0, D, nL⟩ := C
  intro H locs ls hR hO hl hv
  obtain ⟨h0, l0, h1, h2⟩ := hv
  have hn : i < nL := Nat.le_trans (Nat.le_of_ble_eq_true hn) h0
  cases x with
  | none => exact lv_astoreN hC.1 hC.2.1 hdg h1 hn rfl (fun ls' h => kk H locs ls' hR hO hl ⟨by rw [stL_len]; exact h0, _, h, st_mem h2⟩)
  | some a => exact lv_astore hC.1 hC.2.1 hdg h1 hn rfl (fun ls' h => kk H locs ls' hR hO hl ⟨by rw [stL_len]; exact h0, _, h, st_mem h2⟩)
theorem g_lstore_n (hC : Ok C G cc own nm d kc ks) {i : Fin 4} {lv' : Lv} {x : Int64} (hdg : decode cc pc = .ok (.lstore_n i, 1)) (hn : Nat.ble (i + 2) lv.length = true) (hs : stL2 lv i (vl x) = lv') (kk : Go C (pc + 1) lv' st M k n) : Go C pc lv (vl x :: st) M k n := by
  subst hs
  obtain ⟨p, l, e, R, s, m, args, below, meth, c, Q, s0, D, nL⟩ := C
  intro H locs ls hR hO hl hv
  obtain ⟨h0, l0, h1, h2⟩ := hv
  have hn : i + 1 < nL := Nat.le_trans (Nat.le_of_ble_eq_true hn) h0
  exact lv_lstore_n hC.1 hC.2.1 hdg rfl h1 hn rfl (fun ls' h => kk H locs ls' hR hO hl ⟨by rw [stL2_len]; exact h0, _, h, st_mem2 h2⟩)
theorem g_iinc (hC : Ok C G cc own nm d kc ks) {i : Nat} {z : Int} {x : Int32} {lv' : Lv} (hdg : decode cc pc = .ok (.iinc i z, 3)) (hi : lv[i]? = some (some (vi x))) (hn : Nat.ble (i + 1) lv.length = true) (hs : stL lv i (vi (x + Int32.ofInt z)) = lv') (kk : Go C (pc + 3) lv' st M k n) : Go C pc lv st M k n := by
  subst hs
  obtain ⟨p, l, e, R, s, m, args, below, meth, c, Q, s0, D, nL⟩ := C
  intro H locs ls hR hO hl hv
  obtain ⟨h0, l0, h1, h2⟩ := hv
  have hn : i < nL := Nat.le_trans (Nat.le_of_ble_eq_true hn) h0
  obtain ⟨j, hj⟩ := List.getElem?_of_mem (h2 i _ hi)
  exact lv_iinc hC.1 hC.2.1 hdg h1 hj rfl hn rfl (fun ls' h => kk H locs ls' hR hO hl ⟨by rw [stL_len]; exact h0, _, h, st_mem h2⟩)
theorem g_ldc (hC : Ok C G cc own nm d kc ks) {idx : Nat} {v : Int32} (hw : Cond.constant own idx v ∈ lw_all) (hdg : decode cc pc = .ok (.ldc idx, 2)) (kk : Go C (pc + 2) lv (vi v :: st) M k n) : Go C pc lv st M k n := by
  obtain ⟨p, l, e, R, s, m, args, below, meth, c, Q, s0, D, nL⟩ := C
  intro H locs ls hR hO hl hv
  exact lv_ldc hC.1 hC.2.1 hC.2.2.2.1 (hC.words _ hw) hdg (kk H locs ls hR hO hl hv)
theorem g_ldc_w (hC : Ok C G cc own nm d kc ks) {idx : Nat} {v : Int32} (hw : Cond.constant own idx v ∈ lw_all) (hdg : decode cc pc = .ok (.ldc_w idx, 3)) (kk : Go C (pc + 3) lv (vi v :: st) M k n) : Go C pc lv st M k n := by
  obtain ⟨p, l, e, R, s, m, args, below, meth, c, Q, s0, D, nL⟩ := C
  intro H locs ls hR hO hl hv
  exact lv_ldcw hC.1 hC.2.1 hC.2.2.2.1 (hC.words _ hw) hdg (kk H locs ls hR hO hl hv)
theorem g_ldc2 (hC : Ok C G cc own nm d kc ks) {idx : Nat} {v : Int64} (hw : Cond.constantLong own idx v ∈ lw_all) (hdg : decode cc pc = .ok (.ldc2_w idx, 3)) (kk : Go C (pc + 3) lv (vl v :: st) M k n) : Go C pc lv st M k n := by
  obtain ⟨p, l, e, R, s, m, args, below, meth, c, Q, s0, D, nL⟩ := C
  intro H locs ls hR hO hl hv
  exact lv_ldc2 hC.1 hC.2.1 hC.2.2.2.1 (hC.words _ hw) hdg (kk H locs ls hR hO hl hv)
end GoRows2
