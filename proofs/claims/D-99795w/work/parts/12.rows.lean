/-! ===== ROWS OF THE SMALL WORLD: numbers, locals, branches ===== -/
set_option maxRecDepth 100000
section EVN
variable {G : ev_G} {M : ev_M} {R : Room} {Qf : List Frame → Array Value → State → State → Prop} {pc uc us : Nat} {L : List (Option ev_V)} {st : List ev_V} {h : ev_H}
theorem r_iconst {n : Int} {v : Int32} (hd : decode M.2.1 pc = .ok (.iconst n, 1)) (hv : Int32.ofInt n = v) (k : Ev G M R Qf (pc + 1) L (vI v :: st) h uc us) : Ev G M R Qf pc L (st) h uc us := fun p e s m args below meth c H locs ls X hr hS hl => lv_iconst X.1 X.2.1 hd hv (k p e s m args below meth c H locs ls X hr hS hl)
theorem r_bipush {n : Int} {v : Int32} (hd : decode M.2.1 pc = .ok (.bipush n, 2)) (hv : (Int8.ofInt n).toInt32 = v) (k : Ev G M R Qf (pc + 2) L (vI v :: st) h uc us) : Ev G M R Qf pc L (st) h uc us := fun p e s m args below meth c H locs ls X hr hS hl => lv_bipush X.1 X.2.1 hd hv (k p e s m args below meth c H locs ls X hr hS hl)
theorem r_sipush {n : Int} {v : Int32} (hd : decode M.2.1 pc = .ok (.sipush n, 3)) (hv : (Int16.ofInt n).toInt32 = v) (k : Ev G M R Qf (pc + 3) L (vI v :: st) h uc us) : Ev G M R Qf pc L (st) h uc us := fun p e s m args below meth c H locs ls X hr hS hl => lv_sipush X.1 X.2.1 hd hv (k p e s m args below meth c H locs ls X hr hS hl)
theorem r_lconst {n : Fin 2} {v : Int64} (hd : decode M.2.1 pc = .ok (.lconst n, 1)) (hv : Int64.ofNat (n : Nat) = v) (k : Ev G M R Qf (pc + 1) L (vJ v :: st) h uc us) : Ev G M R Qf pc L (st) h uc us := fun p e s m args below meth c H locs ls X hr hS hl => lv_lconst X.1 X.2.1 hd hv (k p e s m args below meth c H locs ls X hr hS hl)
theorem r_null (hd : decode M.2.1 pc = .ok (.aconst_null, 1)) (k : Ev G M R Qf (pc + 1) L (vR 0 :: st) h uc us) : Ev G M R Qf pc L (st) h uc us := fun p e s m args below meth c H locs ls X hr hS hl => lv_null X.1 X.2.1 hd  (k p e s m args below meth c H locs ls X hr hS hl)
theorem r_iadd {x y : Int32} (hd : decode M.2.1 pc = .ok (.iadd, 1)) (k : Ev G M R Qf (pc + 1) L (vI (x + y) :: st) h uc us) : Ev G M R Qf pc L (vI y :: vI x :: st) h uc us := fun p e s m args below meth c H locs ls X hr hS hl => lv_iadd X.1 X.2.1 hd  (k p e s m args below meth c H locs ls X hr hS hl)
theorem r_isub {x y : Int32} (hd : decode M.2.1 pc = .ok (.isub, 1)) (k : Ev G M R Qf (pc + 1) L (vI (x - y) :: st) h uc us) : Ev G M R Qf pc L (vI y :: vI x :: st) h uc us := fun p e s m args below meth c H locs ls X hr hS hl => lv_isub X.1 X.2.1 hd  (k p e s m args below meth c H locs ls X hr hS hl)
theorem r_imul {x y : Int32} (hd : decode M.2.1 pc = .ok (.imul, 1)) (k : Ev G M R Qf (pc + 1) L (vI (x * y) :: st) h uc us) : Ev G M R Qf pc L (vI y :: vI x :: st) h uc us := fun p e s m args below meth c H locs ls X hr hS hl => lv_imul X.1 X.2.1 hd  (k p e s m args below meth c H locs ls X hr hS hl)
theorem r_iand {x y : Int32} (hd : decode M.2.1 pc = .ok (.iand, 1)) (k : Ev G M R Qf (pc + 1) L (vI (x &&& y) :: st) h uc us) : Ev G M R Qf pc L (vI y :: vI x :: st) h uc us := fun p e s m args below meth c H locs ls X hr hS hl => lv_iand X.1 X.2.1 hd  (k p e s m args below meth c H locs ls X hr hS hl)
theorem r_ior {x y : Int32} (hd : decode M.2.1 pc = .ok (.ior, 1)) (k : Ev G M R Qf (pc + 1) L (vI (x ||| y) :: st) h uc us) : Ev G M R Qf pc L (vI y :: vI x :: st) h uc us := fun p e s m args below meth c H locs ls X hr hS hl => lv_ior X.1 X.2.1 hd  (k p e s m args below meth c H locs ls X hr hS hl)
theorem r_ixor {x y : Int32} (hd : decode M.2.1 pc = .ok (.ixor, 1)) (k : Ev G M R Qf (pc + 1) L (vI (x ^^^ y) :: st) h uc us) : Ev G M R Qf pc L (vI y :: vI x :: st) h uc us := fun p e s m args below meth c H locs ls X hr hS hl => lv_ixor X.1 X.2.1 hd  (k p e s m args below meth c H locs ls X hr hS hl)
theorem r_idiv {x y : Int32} (hd : decode M.2.1 pc = .ok (.idiv, 1)) (hne : ¬ y = 0) (k : Ev G M R Qf (pc + 1) L (vI (x / y) :: st) h uc us) : Ev G M R Qf pc L (vI y :: vI x :: st) h uc us := fun p e s m args below meth c H locs ls X hr hS hl => lv_idiv X.1 X.2.1 hd hne (k p e s m args below meth c H locs ls X hr hS hl)
theorem r_irem {x y : Int32} (hd : decode M.2.1 pc = .ok (.irem, 1)) (hne : ¬ y = 0) (k : Ev G M R Qf (pc + 1) L (vI (x - x / y * y) :: st) h uc us) : Ev G M R Qf pc L (vI y :: vI x :: st) h uc us := fun p e s m args below meth c H locs ls X hr hS hl => lv_irem X.1 X.2.1 hd hne (k p e s m args below meth c H locs ls X hr hS hl)
theorem r_ineg {x : Int32} (hd : decode M.2.1 pc = .ok (.ineg, 1)) (k : Ev G M R Qf (pc + 1) L (vI (-x) :: st) h uc us) : Ev G M R Qf pc L (vI x :: st) h uc us := fun p e s m args below meth c H locs ls X hr hS hl => lv_ineg X.1 X.2.1 hd  (k p e s m args below meth c H locs ls X hr hS hl)
theorem r_ishl {x y : Int32} (hd : decode M.2.1 pc = .ok (.ishl, 1)) (k : Ev G M R Qf (pc + 1) L (vI (x <<< (y &&& 31)) :: st) h uc us) : Ev G M R Qf pc L (vI y :: vI x :: st) h uc us := fun p e s m args below meth c H locs ls X hr hS hl => lv_ishl X.1 X.2.1 hd  (k p e s m args below meth c H locs ls X hr hS hl)
theorem r_ishr {x y : Int32} (hd : decode M.2.1 pc = .ok (.ishr, 1)) (k : Ev G M R Qf (pc + 1) L (vI (x >>> (y &&& 31)) :: st) h uc us) : Ev G M R Qf pc L (vI y :: vI x :: st) h uc us := fun p e s m args below meth c H locs ls X hr hS hl => lv_ishr X.1 X.2.1 hd  (k p e s m args below meth c H locs ls X hr hS hl)
theorem r_iushr {x y v : Int32} (hd : decode M.2.1 pc = .ok (.iushr, 1)) (hv : (x.toUInt32 >>> (y.toUInt32 &&& Int32.toUInt32 31)).toInt32 = v) (k : Ev G M R Qf (pc + 1) L (vI v :: st) h uc us) : Ev G M R Qf pc L (vI y :: vI x :: st) h uc us := fun p e s m args below meth c H locs ls X hr hS hl => lv_iushr X.1 X.2.1 hd hv (k p e s m args below meth c H locs ls X hr hS hl)
theorem r_lor {x y : Int64} (hd : decode M.2.1 pc = .ok (.lor, 1)) (k : Ev G M R Qf (pc + 1) L (vJ (x ||| y) :: st) h uc us) : Ev G M R Qf pc L (vJ y :: vJ x :: st) h uc us := fun p e s m args below meth c H locs ls X hr hS hl => lv_lor X.1 X.2.1 hd  (k p e s m args below meth c H locs ls X hr hS hl)
theorem r_lshl {x v : Int64} {y : Int32} (hd : decode M.2.1 pc = .ok (.lshl, 1)) (hv : x <<< (y.toInt64 &&& 63) = v) (k : Ev G M R Qf (pc + 1) L (vJ v :: st) h uc us) : Ev G M R Qf pc L (vI y :: vJ x :: st) h uc us := fun p e s m args below meth c H locs ls X hr hS hl => lv_lshl X.1 X.2.1 hd hv (k p e s m args below meth c H locs ls X hr hS hl)
theorem r_lcmp {x y : Int64} (hd : decode M.2.1 pc = .ok (.lcmp, 1)) (k : Ev G M R Qf (pc + 1) L (vI (lg_cmp x y) :: st) h uc us) : Ev G M R Qf pc L (vJ y :: vJ x :: st) h uc us := fun p e s m args below meth c H locs ls X hr hS hl => W.lcmp X.1 X.2.1 hd  (k p e s m args below meth c H locs ls X hr hS hl)
theorem r_i2l {x : Int32} {v : Int64} (hd : decode M.2.1 pc = .ok (.i2l, 1)) (hv : x.toInt64 = v) (k : Ev G M R Qf (pc + 1) L (vJ v :: st) h uc us) : Ev G M R Qf pc L (vI x :: st) h uc us := fun p e s m args below meth c H locs ls X hr hS hl => lv_i2l X.1 X.2.1 hd hv (k p e s m args below meth c H locs ls X hr hS hl)
theorem r_i2b {x v : Int32} (hd : decode M.2.1 pc = .ok (.i2b, 1)) (hv : x.toInt8.toInt32 = v) (k : Ev G M R Qf (pc + 1) L (vI v :: st) h uc us) : Ev G M R Qf pc L (vI x :: st) h uc us := fun p e s m args below meth c H locs ls X hr hS hl => lv_i2b X.1 X.2.1 hd hv (k p e s m args below meth c H locs ls X hr hS hl)
theorem r_i2c {x v : Int32} (hd : decode M.2.1 pc = .ok (.i2c, 1)) (hv : (x.toUInt32 % 65536).toInt32 = v) (k : Ev G M R Qf (pc + 1) L (vI v :: st) h uc us) : Ev G M R Qf pc L (vI x :: st) h uc us := fun p e s m args below meth c H locs ls X hr hS hl => lv_i2c X.1 X.2.1 hd hv (k p e s m args below meth c H locs ls X hr hS hl)
def vc1 (v : ev_V) : Bool := match v with
  | .inr (.inl _) => false
  | _ => true
theorem vc1_ok {v : ev_V} (hv : vc1 v = true) : (tv G v).category = 1 := by
  match v, hv with
  | .inl x, _ => rfl
  | .inr (.inr r), _ =>
    show (va_rf (go G r)).category = 1
    cases go G r <;> rfl
theorem r_dup {v : ev_V} (hd : decode M.2.1 pc = .ok (.dup, 1)) (hv : vc1 v = true) (k : Ev G M R Qf (pc + 1) L (v :: v :: st) h uc us) : Ev G M R Qf pc L (v :: st) h uc us := fun p e s m args below meth c H locs ls X hr hS hl => lv_dup X.1 X.2.1 hd (vc1_ok hv) (k p e s m args below meth c H locs ls X hr hS hl)
theorem r_pop {v : ev_V} (hd : decode M.2.1 pc = .ok (.pop, 1)) (hv : vc1 v = true) (k : Ev G M R Qf (pc + 1) L (st) h uc us) : Ev G M R Qf pc L (v :: st) h uc us := fun p e s m args below meth c H locs ls X hr hS hl => lv_pop X.1 X.2.1 hd (vc1_ok hv) (k p e s m args below meth c H locs ls X hr hS hl)
theorem r_dup_x1 {v w : ev_V} (hd : decode M.2.1 pc = .ok (.dup_x1, 1)) (hv : vc1 v = true) (hw : vc1 w = true) (k : Ev G M R Qf (pc + 1) L (v :: w :: v :: st) h uc us) : Ev G M R Qf pc L (v :: w :: st) h uc us := fun p e s m args below meth c H locs ls X hr hS hl => lv_dup_x1 X.1 X.2.1 hd (vc1_ok hv) (vc1_ok hw) (k p e s m args below meth c H locs ls X hr hS hl)
theorem r_dup_x2 {v w z : ev_V} (hd : decode M.2.1 pc = .ok (.dup_x2, 1)) (hv : vc1 v = true) (hw : vc1 w = true) (hz : vc1 z = true) (k : Ev G M R Qf (pc + 1) L (v :: w :: z :: v :: st) h uc us) : Ev G M R Qf pc L (v :: w :: z :: st) h uc us := fun p e s m args below meth c H locs ls X hr hS hl => lv_dup_x2 X.1 X.2.1 hd (vc1_ok hv) (vc1_ok hw) (vc1_ok hz) (k p e s m args below meth c H locs ls X hr hS hl)
theorem r_dup2 {v w : ev_V} (hd : decode M.2.1 pc = .ok (.dup2, 1)) (hv : vc1 v = true) (hw : vc1 w = true) (k : Ev G M R Qf (pc + 1) L (v :: w :: v :: w :: st) h uc us) : Ev G M R Qf pc L (v :: w :: st) h uc us := fun p e s m args below meth c H locs ls X hr hS hl => lv_dup2_11 X.1 X.2.1 hd (vc1_ok hv) (vc1_ok hw) (k p e s m args below meth c H locs ls X hr hS hl)
theorem r_goto {off : Int} {tgt : Nat} (hd : decode M.2.1 pc = .ok (.goto off, 3)) (ht : (pc : Int) + off = (tgt : Int)) (k : Ev G M R Qf tgt L st h uc us) : Ev G M R Qf pc L st h uc us := fun p e s m args below meth c H locs ls X hr hS hl => lv_goto X.1 X.2.1 hd ht (k p e s m args below meth c H locs ls X hr hS hl)
theorem r_if_eq {x : Int32} {off : Int} {tgt : Nat} (hd : decode M.2.1 pc = .ok (.ifCond .eq off, 3)) (ht : (pc : Int) + off = (tgt : Int)) (kt : x = 0 → Ev G M R Qf tgt L st h uc us) (kf : ¬ x = 0 → Ev G M R Qf (pc + 3) L st h uc us) : Ev G M R Qf pc L (vI x :: st) h uc us := fun p e s m args below meth c H locs ls X hr hS hl => lv_if_eq X.1 X.2.1 hd ht (fun q => kt q p e s m args below meth c H locs ls X hr hS hl) (fun q => kf q p e s m args below meth c H locs ls X hr hS hl)
theorem r_icmp_eq {x y : Int32} {off : Int} {tgt : Nat} (hd : decode M.2.1 pc = .ok (.if_icmp .eq off, 3)) (ht : (pc : Int) + off = (tgt : Int)) (kt : x = y → Ev G M R Qf tgt L st h uc us) (kf : ¬ x = y → Ev G M R Qf (pc + 3) L st h uc us) : Ev G M R Qf pc L (vI y :: vI x :: st) h uc us := fun p e s m args below meth c H locs ls X hr hS hl => lv_icmp_eq X.1 X.2.1 hd ht (fun q => kt q p e s m args below meth c H locs ls X hr hS hl) (fun q => kf q p e s m args below meth c H locs ls X hr hS hl)
theorem r_if_ne {x : Int32} {off : Int} {tgt : Nat} (hd : decode M.2.1 pc = .ok (.ifCond .ne off, 3)) (ht : (pc : Int) + off = (tgt : Int)) (kt : ¬ x = 0 → Ev G M R Qf tgt L st h uc us) (kf : x = 0 → Ev G M R Qf (pc + 3) L st h uc us) : Ev G M R Qf pc L (vI x :: st) h uc us := fun p e s m args below meth c H locs ls X hr hS hl => lv_if_ne X.1 X.2.1 hd ht (fun q => kt q p e s m args below meth c H locs ls X hr hS hl) (fun q => kf q p e s m args below meth c H locs ls X hr hS hl)
theorem r_icmp_ne {x y : Int32} {off : Int} {tgt : Nat} (hd : decode M.2.1 pc = .ok (.if_icmp .ne off, 3)) (ht : (pc : Int) + off = (tgt : Int)) (kt : ¬ x = y → Ev G M R Qf tgt L st h uc us) (kf : x = y → Ev G M R Qf (pc + 3) L st h uc us) : Ev G M R Qf pc L (vI y :: vI x :: st) h uc us := fun p e s m args below meth c H locs ls X hr hS hl => lv_icmp_ne X.1 X.2.1 hd ht (fun q => kt q p e s m args below meth c H locs ls X hr hS hl) (fun q => kf q p e s m args below meth c H locs ls X hr hS hl)
theorem r_if_lt {x : Int32} {off : Int} {tgt : Nat} (hd : decode M.2.1 pc = .ok (.ifCond .lt off, 3)) (ht : (pc : Int) + off = (tgt : Int)) (kt : x < 0 → Ev G M R Qf tgt L st h uc us) (kf : ¬ x < 0 → Ev G M R Qf (pc + 3) L st h uc us) : Ev G M R Qf pc L (vI x :: st) h uc us := fun p e s m args below meth c H locs ls X hr hS hl => lv_if_lt X.1 X.2.1 hd ht (fun q => kt q p e s m args below meth c H locs ls X hr hS hl) (fun q => kf q p e s m args below meth c H locs ls X hr hS hl)
theorem r_icmp_lt {x y : Int32} {off : Int} {tgt : Nat} (hd : decode M.2.1 pc = .ok (.if_icmp .lt off, 3)) (ht : (pc : Int) + off = (tgt : Int)) (kt : x < y → Ev G M R Qf tgt L st h uc us) (kf : ¬ x < y → Ev G M R Qf (pc + 3) L st h uc us) : Ev G M R Qf pc L (vI y :: vI x :: st) h uc us := fun p e s m args below meth c H locs ls X hr hS hl => lv_icmp_lt X.1 X.2.1 hd ht (fun q => kt q p e s m args below meth c H locs ls X hr hS hl) (fun q => kf q p e s m args below meth c H locs ls X hr hS hl)
theorem r_if_ge {x : Int32} {off : Int} {tgt : Nat} (hd : decode M.2.1 pc = .ok (.ifCond .ge off, 3)) (ht : (pc : Int) + off = (tgt : Int)) (kt : 0 ≤ x → Ev G M R Qf tgt L st h uc us) (kf : ¬ 0 ≤ x → Ev G M R Qf (pc + 3) L st h uc us) : Ev G M R Qf pc L (vI x :: st) h uc us := fun p e s m args below meth c H locs ls X hr hS hl => lv_if_ge X.1 X.2.1 hd ht (fun q => kt q p e s m args below meth c H locs ls X hr hS hl) (fun q => kf q p e s m args below meth c H locs ls X hr hS hl)
theorem r_icmp_ge {x y : Int32} {off : Int} {tgt : Nat} (hd : decode M.2.1 pc = .ok (.if_icmp .ge off, 3)) (ht : (pc : Int) + off = (tgt : Int)) (kt : y ≤ x → Ev G M R Qf tgt L st h uc us) (kf : ¬ y ≤ x → Ev G M R Qf (pc + 3) L st h uc us) : Ev G M R Qf pc L (vI y :: vI x :: st) h uc us := fun p e s m args below meth c H locs ls X hr hS hl => lv_icmp_ge X.1 X.2.1 hd ht (fun q => kt q p e s m args below meth c H locs ls X hr hS hl) (fun q => kf q p e s m args below meth c H locs ls X hr hS hl)
theorem r_if_gt {x : Int32} {off : Int} {tgt : Nat} (hd : decode M.2.1 pc = .ok (.ifCond .gt off, 3)) (ht : (pc : Int) + off = (tgt : Int)) (kt : 0 < x → Ev G M R Qf tgt L st h uc us) (kf : ¬ 0 < x → Ev G M R Qf (pc + 3) L st h uc us) : Ev G M R Qf pc L (vI x :: st) h uc us := fun p e s m args below meth c H locs ls X hr hS hl => lv_if_gt X.1 X.2.1 hd ht (fun q => kt q p e s m args below meth c H locs ls X hr hS hl) (fun q => kf q p e s m args below meth c H locs ls X hr hS hl)
theorem r_icmp_gt {x y : Int32} {off : Int} {tgt : Nat} (hd : decode M.2.1 pc = .ok (.if_icmp .gt off, 3)) (ht : (pc : Int) + off = (tgt : Int)) (kt : y < x → Ev G M R Qf tgt L st h uc us) (kf : ¬ y < x → Ev G M R Qf (pc + 3) L st h uc us) : Ev G M R Qf pc L (vI y :: vI x :: st) h uc us := fun p e s m args below meth c H locs ls X hr hS hl => lv_icmp_gt X.1 X.2.1 hd ht (fun q => kt q p e s m args below meth c H locs ls X hr hS hl) (fun q => kf q p e s m args below meth c H locs ls X hr hS hl)
theorem r_if_le {x : Int32} {off : Int} {tgt : Nat} (hd : decode M.2.1 pc = .ok (.ifCond .le off, 3)) (ht : (pc : Int) + off = (tgt : Int)) (kt : x ≤ 0 → Ev G M R Qf tgt L st h uc us) (kf : ¬ x ≤ 0 → Ev G M R Qf (pc + 3) L st h uc us) : Ev G M R Qf pc L (vI x :: st) h uc us := fun p e s m args below meth c H locs ls X hr hS hl => lv_if_le X.1 X.2.1 hd ht (fun q => kt q p e s m args below meth c H locs ls X hr hS hl) (fun q => kf q p e s m args below meth c H locs ls X hr hS hl)
theorem r_icmp_le {x y : Int32} {off : Int} {tgt : Nat} (hd : decode M.2.1 pc = .ok (.if_icmp .le off, 3)) (ht : (pc : Int) + off = (tgt : Int)) (kt : x ≤ y → Ev G M R Qf tgt L st h uc us) (kf : ¬ x ≤ y → Ev G M R Qf (pc + 3) L st h uc us) : Ev G M R Qf pc L (vI y :: vI x :: st) h uc us := fun p e s m args below meth c H locs ls X hr hS hl => lv_icmp_le X.1 X.2.1 hd ht (fun q => kt q p e s m args below meth c H locs ls X hr hS hl) (fun q => kf q p e s m args below meth c H locs ls X hr hS hl)
theorem r_lookup {dflt : Int} {ps : Array (Int × Int)} {len : Nat} {x : Int32} {off : Int} {tgt : Nat} (hd : decode M.2.1 pc = .ok (.lookupswitch dflt ps, len)) (hp : (ps.toList.zip (ps.toList.drop 1)).all (fun (a, next) => a.1 < next.1) = true) (ho : Op.lookupswitch.offset ps.toList dflt x.toInt = off) (ht : (pc : Int) + off = (tgt : Int)) (k : Ev G M R Qf tgt L (st) h uc us) : Ev G M R Qf pc L (vI x :: st) h uc us := fun p e s m args below meth c H locs ls X hr hS hl => lv_lookup X.1 X.2.1 hd hp ho ht (k p e s m args below meth c H locs ls X hr hS hl)
theorem r_tableOut {dflt lo hi : Int} {offs : Array Int} {len : Nat} {x : Int32} {tgt : Nat} (hd : decode M.2.1 pc = .ok (.tableswitch dflt lo hi offs, len)) (hx : x.toInt < lo ∨ hi < x.toInt) (ht : (pc : Int) + dflt = (tgt : Int)) (k : Ev G M R Qf tgt L (st) h uc us) : Ev G M R Qf pc L (vI x :: st) h uc us := fun p e s m args below meth c H locs ls X hr hS hl => lv_tableOut X.1 X.2.1 hd hx ht (k p e s m args below meth c H locs ls X hr hS hl)
theorem r_tableIn {dflt lo hi : Int} {offs : Array Int} {len : Nat} {x : Int32} {off : Int} {tgt : Nat} (hd : decode M.2.1 pc = .ok (.tableswitch dflt lo hi offs, len)) (h1 : ¬ x.toInt < lo) (h2 : ¬ hi < x.toInt) (ho : offs[(x.toInt - lo).toNat]? = some off) (ht : (pc : Int) + off = (tgt : Int)) (k : Ev G M R Qf tgt L (st) h uc us) : Ev G M R Qf pc L (vI x :: st) h uc us := fun p e s m args below meth c H locs ls X hr hS hl => lv_tableIn X.1 X.2.1 hd h1 h2 ho ht (k p e s m args below meth c H locs ls X hr hS hl)
theorem r_iload {i : Nat} {x : Int32} (hd : decode M.2.1 pc = .ok (.iload i, 2)) (hi : L[i]? = some (some (vI x))) (k : Ev G M R Qf (pc + 2) L (vI x :: st) h uc us) : Ev G M R Qf pc L st h uc us := fun p e s m args below meth c H locs ls X hr hS hl => lv_iload X.1 X.2.1 hd (hl.2.2 i (vI x) hi) (k p e s m args below meth c H locs ls X hr hS hl)
theorem r_iload_n {i : Fin 4} {x : Int32} (hd : decode M.2.1 pc = .ok (.iload_n i, 1)) (hi : L[(i : Nat)]? = some (some (vI x))) (k : Ev G M R Qf (pc + 1) L (vI x :: st) h uc us) : Ev G M R Qf pc L st h uc us := fun p e s m args below meth c H locs ls X hr hS hl => lv_iload_n X.1 X.2.1 hd rfl (hl.2.2 i (vI x) hi) (k p e s m args below meth c H locs ls X hr hS hl)
theorem r_lload {i : Nat} {x : Int64} (hd : decode M.2.1 pc = .ok (.lload i, 2)) (hi : L[i]? = some (some (vJ x))) (k : Ev G M R Qf (pc + 2) L (vJ x :: st) h uc us) : Ev G M R Qf pc L st h uc us := fun p e s m args below meth c H locs ls X hr hS hl => lv_lload X.1 X.2.1 hd (hl.2.2 i (vJ x) hi) (k p e s m args below meth c H locs ls X hr hS hl)
theorem r_lload_n {i : Fin 4} {x : Int64} (hd : decode M.2.1 pc = .ok (.lload_n i, 1)) (hi : L[(i : Nat)]? = some (some (vJ x))) (k : Ev G M R Qf (pc + 1) L (vJ x :: st) h uc us) : Ev G M R Qf pc L st h uc us := fun p e s m args below meth c H locs ls X hr hS hl => lv_lload_n X.1 X.2.1 hd rfl (hl.2.2 i (vJ x) hi) (k p e s m args below meth c H locs ls X hr hS hl)
theorem r_aload {i : Nat} {x : Nat} (hd : decode M.2.1 pc = .ok (.aload i, 2)) (hi : L[i]? = some (some (vR x))) (k : Ev G M R Qf (pc + 2) L (vR x :: st) h uc us) : Ev G M R Qf pc L st h uc us := by
  intro p e s m args below meth c H locs ls X hr hS hl
  have k := k p e s m args below meth c H locs ls X hr hS hl
  have hv : ls[i]? = some (.val (va_rf (go G x))) := hl.2.2 _ (vR x) hi
  have k : W p G.1 e R s m args below meth c H locs uc us (Qf below args s) (F0 m (pc + 2) ls (va_rf (go G x) :: st.map (tv G))) := k
  cases hg : go G x with
  | none =>
    rw [hg] at hv k
    exact lv_aloadN X.1 X.2.1 hd hv k
  | some a =>
    rw [hg] at hv k
    exact lv_aload X.1 X.2.1 hd hv k
theorem r_aload_n {i : Fin 4} {x : Nat} (hd : decode M.2.1 pc = .ok (.aload_n i, 1)) (hi : L[(i : Nat)]? = some (some (vR x))) (k : Ev G M R Qf (pc + 1) L (vR x :: st) h uc us) : Ev G M R Qf pc L st h uc us := by
  intro p e s m args below meth c H locs ls X hr hS hl
  have k := k p e s m args below meth c H locs ls X hr hS hl
  have hv : ls[(i : Nat)]? = some (.val (va_rf (go G x))) := hl.2.2 _ (vR x) hi
  have k : W p G.1 e R s m args below meth c H locs uc us (Qf below args s) (F0 m (pc + 1) ls (va_rf (go G x) :: st.map (tv G))) := k
  cases hg : go G x with
  | none =>
    rw [hg] at hv k
    exact lv_aload_nN X.1 X.2.1 hd rfl hv k
  | some a =>
    rw [hg] at hv k
    exact lv_aload_n X.1 X.2.1 hd rfl hv k
/-- what lies in the locals, as the kit lists it -/
def ev_as (G : ev_G) (L : List (Option ev_V)) : List (Nat × Value) := (List.range L.length).filterMap (fun i => (L.getD i none).map (fun v => (i, tv G v)))
theorem ev_as_mem {i : Nat} {w : Value} : (i, w) ∈ ev_as G L ↔ ∃ v, L[i]? = some (some v) ∧ tv G v = w := by
  unfold ev_as
  rw [List.mem_filterMap]
  constructor
  · rintro ⟨j, hj, e⟩
    rw [List.mem_range] at hj
    rw [List.getD_eq_getElem?_getD, List.getElem?_eq_getElem hj, Option.getD_some] at e
    cases hv : L[j] with
    | none => rw [hv] at e; cases e
    | some v =>
      rw [hv] at e
      have e := Option.some.inj e
      cases e
      exact ⟨v, by rw [List.getElem?_eq_getElem hj, hv], rfl⟩
  · rintro ⟨v, hv, rfl⟩
    have hj := (List.getElem?_eq_some_iff.mp hv).1
    refine ⟨i, List.mem_range.mpr hj, ?_⟩
    rw [List.getD_eq_getElem?_getD, hv]
    rfl
theorem ev_L.has {ls : Array Slot} {nL : Nat} (hl : ev_L G ls nL L) : lv_has ls nL (ev_as G L) := by
  refine ⟨hl.1, hl.2.1, fun q hq => ?_⟩
  obtain ⟨v, hv, e⟩ := ev_as_mem.mp (show (q.1, q.2) ∈ ev_as G L from hq)
  rw [← e]
  exact hl.2.2 _ _ hv
/-- no long ends at i -/
def ev_nl (L : List (Option ev_V)) (i : Nat) : Bool := match i with
  | 0 => true
  | j + 1 => match L[j]? with
    | some (some (.inr (.inl _))) => false
    | _ => true
theorem ev_nl_cat {j : Nat} {v : ev_V} (hn : ev_nl L (j + 1) = true) (hv : L[j]? = some (some v)) : ((tv G v).category == 2) = false := by
  have hn : (match L[j]? with
    | some (some (.inr (.inl _))) => false
    | _ => true) = true := hn
  rw [hv] at hn
  match v, hn with
  | .inl x, _ => rfl
  | .inr (.inr r), _ =>
    show ((va_rf (go G r)).category == 2) = false
    cases go G r <;> rfl
theorem ev_L.st1 {ls ls' : Array Slot} {nL i : Nat} {v : ev_V} (hn : ev_nl L i = true) (hl : lv_has ls' nL ((i, tv G v) :: (ev_as G L).filter (fun q => !(q.1 == i) && !(q.1 + 1 == i && q.2.category == 2)))) : ev_L G ls' nL (L.set i (some v)) := by
  refine ⟨hl.1, hl.2.1, fun j w hw => ?_⟩
  by_cases hij : i = j
  · subst hij
    have hlt := (List.getElem?_eq_some_iff.mp hw).1
    rw [List.length_set] at hlt
    rw [List.getElem?_set_self hlt] at hw
    cases Option.some.inj (Option.some.inj hw)
    exact hl.2.2 (i, tv G v) List.mem_cons_self
  · rw [List.getElem?_set_ne hij] at hw
    refine hl.2.2 (j, tv G w) (List.mem_cons_of_mem _ (List.mem_filter.mpr ⟨ev_as_mem.mpr ⟨w, hw, rfl⟩, ?_⟩))
    have e1 : (j == i) = false := by simpa using fun e => hij e.symm
    show (!(j == i) && !(j + 1 == i && (tv G w).category == 2)) = true
    rw [e1]
    by_cases h2 : j + 1 = i
    · subst h2
      rw [ev_nl_cat hn hw]
      simp
    · have e2 : (j + 1 == i) = false := by simpa using h2
      rw [e2]
      rfl
theorem ev_L.st2 {ls ls' : Array Slot} {nL i : Nat} {v : ev_V} (hn : ev_nl L i = true) (hl : lv_has ls' nL ((i, tv G v) :: (ev_as G L).filter (fun q => !(q.1 == i) && (!(q.1 == i + 1) && !(q.1 + 1 == i && q.2.category == 2))))) : ev_L G ls' nL ((L.set i (some v)).set (i + 1) none) := by
  refine ⟨hl.1, hl.2.1, fun j w hw => ?_⟩
  by_cases hij1 : i + 1 = j
  · subst hij1
    have hlt := (List.getElem?_eq_some_iff.mp hw).1
    rw [List.length_set] at hlt
    rw [List.getElem?_set_self hlt] at hw
    cases hw
  rw [List.getElem?_set_ne hij1] at hw
  by_cases hij : i = j
  · subst hij
    have hlt := (List.getElem?_eq_some_iff.mp hw).1
    rw [List.length_set] at hlt
    rw [List.getElem?_set_self hlt] at hw
    cases Option.some.inj (Option.some.inj hw)
    exact hl.2.2 (i, tv G v) List.mem_cons_self
  · rw [List.getElem?_set_ne hij] at hw
    refine hl.2.2 (j, tv G w) (List.mem_cons_of_mem _ (List.mem_filter.mpr ⟨ev_as_mem.mpr ⟨w, hw, rfl⟩, ?_⟩))
    have e1 : (j == i) = false := by simpa using fun e => hij e.symm
    have e3 : (j == i + 1) = false := by simpa using fun e => hij1 e.symm
    show (!(j == i) && (!(j == i + 1) && !(j + 1 == i && (tv G w).category == 2))) = true
    rw [e1, e3]
    by_cases h2 : j + 1 = i
    · subst h2
      rw [ev_nl_cat hn hw]
      simp
    · have e2 : (j + 1 == i) = false := by simpa using h2
      rw [e2]
      rfl
theorem r_istore {i : Nat} {x : Int32} (hd : decode M.2.1 pc = .ok (.istore i, 2)) (hn : i < M.2.2.1) (hw : ev_nl L i = true) (k : Ev G M R Qf (pc + 2) (L.set i (some (vI x))) st h uc us) : Ev G M R Qf pc L (vI x :: st) h uc us := fun p e s m args below meth c H locs ls X hr hS hl => lv_istore X.1 X.2.1 hd hl.has hn rfl (fun ls' hl' => k p e s m args below meth c H locs ls' X hr hS (ev_L.st1 (ls := ls) hw hl'))
theorem r_istore_n {i : Fin 4} {x : Int32} (hd : decode M.2.1 pc = .ok (.istore_n i, 1)) (hn : (i : Nat) < M.2.2.1) (hw : ev_nl L (i : Nat) = true) (k : Ev G M R Qf (pc + 1) (L.set (i : Nat) (some (vI x))) st h uc us) : Ev G M R Qf pc L (vI x :: st) h uc us := fun p e s m args below meth c H locs ls X hr hS hl => lv_istore_n X.1 X.2.1 hd rfl hl.has hn rfl (fun ls' hl' => k p e s m args below meth c H locs ls' X hr hS (ev_L.st1 (ls := ls) hw hl'))
theorem r_lstore {i : Nat} {x : Int64} (hd : decode M.2.1 pc = .ok (.lstore i, 2)) (hn : i + 1 < M.2.2.1) (hw : ev_nl L i = true) (k : Ev G M R Qf (pc + 2) ((L.set i (some (vJ x))).set (i + 1) none) st h uc us) : Ev G M R Qf pc L (vJ x :: st) h uc us := fun p e s m args below meth c H locs ls X hr hS hl => lv_lstore X.1 X.2.1 hd hl.has hn rfl (fun ls' hl' => k p e s m args below meth c H locs ls' X hr hS (ev_L.st2 (ls := ls) hw hl'))
theorem r_lstore_n {i : Fin 4} {x : Int64} (hd : decode M.2.1 pc = .ok (.lstore_n i, 1)) (hn : (i : Nat) + 1 < M.2.2.1) (hw : ev_nl L (i : Nat) = true) (k : Ev G M R Qf (pc + 1) ((L.set (i : Nat) (some (vJ x))).set ((i : Nat) + 1) none) st h uc us) : Ev G M R Qf pc L (vJ x :: st) h uc us := fun p e s m args below meth c H locs ls X hr hS hl => lv_lstore_n X.1 X.2.1 hd rfl hl.has hn rfl (fun ls' hl' => k p e s m args below meth c H locs ls' X hr hS (ev_L.st2 (ls := ls) hw hl'))
theorem r_astore {i : Nat} {x : Nat} (hd : decode M.2.1 pc = .ok (.astore i, 2)) (hn : i < M.2.2.1) (hw : ev_nl L i = true) (k : Ev G M R Qf (pc + 2) (L.set i (some (vR x))) st h uc us) : Ev G M R Qf pc L (vR x :: st) h uc us := by
  intro p e s m args below meth c H locs ls X hr hS hl
  have k : ∀ ls' : Array Slot, lv_has ls' M.2.2.1 ((i, va_rf (go G x)) :: (ev_as G L).filter (fun q => !(q.1 == i) && !(q.1 + 1 == i && q.2.category == 2))) → _ := fun ls' hl' => k p e s m args below meth c H locs ls' X hr hS (ev_L.st1 (ls := ls) (v := vR x) hw hl')
  show W p G.1 e R s m args below meth c H locs uc us (Qf below args s) (F0 m pc ls (va_rf (go G x) :: st.map (tv G)))
  cases hg : go G x with
  | none =>
    rw [hg] at k
    exact lv_astoreN X.1 X.2.1 hd hl.has hn rfl k
  | some a =>
    rw [hg] at k
    exact lv_astore X.1 X.2.1 hd hl.has hn rfl k
theorem r_astore_n {i : Fin 4} {x : Nat} (hd : decode M.2.1 pc = .ok (.astore_n i, 1)) (hn : (i : Nat) < M.2.2.1) (hw : ev_nl L (i : Nat) = true) (k : Ev G M R Qf (pc + 1) (L.set (i : Nat) (some (vR x))) st h uc us) : Ev G M R Qf pc L (vR x :: st) h uc us := by
  intro p e s m args below meth c H locs ls X hr hS hl
  have k : ∀ ls' : Array Slot, lv_has ls' M.2.2.1 (((i : Nat), va_rf (go G x)) :: (ev_as G L).filter (fun q => !(q.1 == (i : Nat)) && !(q.1 + 1 == (i : Nat) && q.2.category == 2))) → _ := fun ls' hl' => k p e s m args below meth c H locs ls' X hr hS (ev_L.st1 (ls := ls) (v := vR x) hw hl')
  show W p G.1 e R s m args below meth c H locs uc us (Qf below args s) (F0 m pc ls (va_rf (go G x) :: st.map (tv G)))
  cases hg : go G x with
  | none =>
    rw [hg] at k
    exact lv_astore_nN X.1 X.2.1 hd rfl hl.has hn rfl k
  | some a =>
    rw [hg] at k
    exact lv_astore_n X.1 X.2.1 hd rfl hl.has hn rfl k
theorem r_iinc {i : Nat} {n : Int} {x v : Int32} (hd : decode M.2.1 pc = .ok (.iinc i n, 3)) (hi : L[i]? = some (some (vI x))) (hv : x + Int32.ofInt n = v) (hn : i < M.2.2.1) (hw : ev_nl L i = true) (k : Ev G M R Qf (pc + 3) (L.set i (some (vI v))) st h uc us) : Ev G M R Qf pc L st h uc us := by
  intro p e s m args below meth c H locs ls X hr hS hl
  obtain ⟨kk, hkk⟩ := List.getElem?_of_mem (ev_as_mem (G := G).mpr ⟨vI x, hi, rfl⟩)
  exact lv_iinc X.1 X.2.1 hd hl.has hkk hv hn rfl (fun ls' hl' => k p e s m args below meth c H locs ls' X hr hS (ev_L.st1 (ls := ls) (v := vI v) hw hl'))
/-- fewer locals -/
theorem r_less (L' : List (Option ev_V)) (hs : ∀ (i : Nat) (v : ev_V), L'[i]? = some (some v) → L[i]? = some (some v)) (k : Ev G M R Qf pc L' st h uc us) : Ev G M R Qf pc L st h uc us := fun p e s m args below meth c H locs ls X hr hS hl => k p e s m args below meth c H locs ls X hr hS ⟨hl.1, hl.2.1, fun i v hv => hl.2.2 i v (hs i v hv)⟩
/-- which locals are forgotten -/
def ev_sub : List (Option ev_V) → List (Option ev_V) → Prop
  | [], _ => True
  | none :: l, _ :: r => ev_sub l r
  | some v :: l, w :: r => w = some v ∧ ev_sub l r
  | none :: l, [] => ev_sub l []
  | some _ :: _, [] => False
theorem ev_sub_at : ∀ (l r : List (Option ev_V)), ev_sub l r → ∀ (i : Nat) (v : ev_V), l[i]? = some (some v) → r[i]? = some (some v)
  | [], r, _, i, v, h => by simp at h
  | none :: l, w :: r, hs, 0, v, h => by simp at h
  | none :: l, w :: r, hs, i + 1, v, h => by
    rw [List.getElem?_cons_succ] at h ⊢
    exact ev_sub_at l r hs i v h
  | some u :: l, w :: r, hs, 0, v, h => by
    rw [List.getElem?_cons_zero] at h ⊢
    rw [hs.1]
    exact h
  | some u :: l, w :: r, hs, i + 1, v, h => by
    rw [List.getElem?_cons_succ] at h ⊢
    exact ev_sub_at l r hs.2 i v h
  | none :: l, [], hs, 0, v, h => by simp at h
  | none :: l, [], hs, i + 1, v, h => by
    rw [List.getElem?_cons_succ] at h
    have := ev_sub_at l [] hs i v h
    simp at this
  | some u :: l, [], hs, i, v, h => hs.elim
theorem r_sub (L' : List (Option ev_V)) (hs : ev_sub L' L) (k : Ev G M R Qf pc L' st h uc us) : Ev G M R Qf pc L st h uc us := r_less L' (ev_sub_at L' L hs) k
end EVN
