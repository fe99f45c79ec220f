set_option maxRecDepth 100000
/-! THE RULES OF THE ABSTRACT MACHINE -/
section R3
variable {M : MI} {G : Gl} {d : Nat} {Qr : Option AV → AH → Prop} {Qx : String → Nat → AH → Prop} {rc rs : Nat} {H : AH} {pc : Nat} {ls : List (Option AV)} {st : List AV}
theorem fin_Q {args : Array Value} {s t : State} {Hc : Heap} {locs : List Loc} {v : Option AV} (hq : Qr v H) (hR : Rep G H Hc) (hS : va_S (gBase G) s.heap Hc locs) (ht : t.heap = Hc) : QcOf G Qr args s (.returned (v.map tV)) t := ⟨v, H, rfl, hq, by rw [ht]; exact hR, hS.F ht⟩
theorem r_iadd {x y : Int32} (hd : decode M.2.1 pc = .ok (.iadd, 1)) (k : AW M G d Qr Qx rc rs H (pc + 1) ls (vI (x + y) :: st)) : AW M G d Qr Qx rc rs H (pc) ls (vI y :: vI x :: st) := by
  intro mc ms p e R s m args below meth c hC Hc locs arr cells slots hR hS hl ha hc hs
  exact lv_iadd hC.1 hC.2.1 hd (k mc ms p e R s m args below meth c hC Hc locs arr cells slots hR hS hl ha hc hs)
theorem r_isub {x y : Int32} (hd : decode M.2.1 pc = .ok (.isub, 1)) (k : AW M G d Qr Qx rc rs H (pc + 1) ls (vI (x - y) :: st)) : AW M G d Qr Qx rc rs H (pc) ls (vI y :: vI x :: st) := by
  intro mc ms p e R s m args below meth c hC Hc locs arr cells slots hR hS hl ha hc hs
  exact lv_isub hC.1 hC.2.1 hd (k mc ms p e R s m args below meth c hC Hc locs arr cells slots hR hS hl ha hc hs)
theorem r_imul {x y : Int32} (hd : decode M.2.1 pc = .ok (.imul, 1)) (k : AW M G d Qr Qx rc rs H (pc + 1) ls (vI (x * y) :: st)) : AW M G d Qr Qx rc rs H (pc) ls (vI y :: vI x :: st) := by
  intro mc ms p e R s m args below meth c hC Hc locs arr cells slots hR hS hl ha hc hs
  exact lv_imul hC.1 hC.2.1 hd (k mc ms p e R s m args below meth c hC Hc locs arr cells slots hR hS hl ha hc hs)
theorem r_iand {x y : Int32} (hd : decode M.2.1 pc = .ok (.iand, 1)) (k : AW M G d Qr Qx rc rs H (pc + 1) ls (vI (x &&& y) :: st)) : AW M G d Qr Qx rc rs H (pc) ls (vI y :: vI x :: st) := by
  intro mc ms p e R s m args below meth c hC Hc locs arr cells slots hR hS hl ha hc hs
  exact lv_iand hC.1 hC.2.1 hd (k mc ms p e R s m args below meth c hC Hc locs arr cells slots hR hS hl ha hc hs)
theorem r_ior {x y : Int32} (hd : decode M.2.1 pc = .ok (.ior, 1)) (k : AW M G d Qr Qx rc rs H (pc + 1) ls (vI (x ||| y) :: st)) : AW M G d Qr Qx rc rs H (pc) ls (vI y :: vI x :: st) := by
  intro mc ms p e R s m args below meth c hC Hc locs arr cells slots hR hS hl ha hc hs
  exact lv_ior hC.1 hC.2.1 hd (k mc ms p e R s m args below meth c hC Hc locs arr cells slots hR hS hl ha hc hs)
theorem r_ixor {x y : Int32} (hd : decode M.2.1 pc = .ok (.ixor, 1)) (k : AW M G d Qr Qx rc rs H (pc + 1) ls (vI (x ^^^ y) :: st)) : AW M G d Qr Qx rc rs H (pc) ls (vI y :: vI x :: st) := by
  intro mc ms p e R s m args below meth c hC Hc locs arr cells slots hR hS hl ha hc hs
  exact lv_ixor hC.1 hC.2.1 hd (k mc ms p e R s m args below meth c hC Hc locs arr cells slots hR hS hl ha hc hs)
theorem r_ishl {x y : Int32} (hd : decode M.2.1 pc = .ok (.ishl, 1)) (k : AW M G d Qr Qx rc rs H (pc + 1) ls (vI (x <<< (y &&& 31)) :: st)) : AW M G d Qr Qx rc rs H (pc) ls (vI y :: vI x :: st) := by
  intro mc ms p e R s m args below meth c hC Hc locs arr cells slots hR hS hl ha hc hs
  exact lv_ishl hC.1 hC.2.1 hd (k mc ms p e R s m args below meth c hC Hc locs arr cells slots hR hS hl ha hc hs)
theorem r_ishr {x y : Int32} (hd : decode M.2.1 pc = .ok (.ishr, 1)) (k : AW M G d Qr Qx rc rs H (pc + 1) ls (vI (x >>> (y &&& 31)) :: st)) : AW M G d Qr Qx rc rs H (pc) ls (vI y :: vI x :: st) := by
  intro mc ms p e R s m args below meth c hC Hc locs arr cells slots hR hS hl ha hc hs
  exact lv_ishr hC.1 hC.2.1 hd (k mc ms p e R s m args below meth c hC Hc locs arr cells slots hR hS hl ha hc hs)
theorem r_iushr {x y : Int32} (hd : decode M.2.1 pc = .ok (.iushr, 1)) (k : AW M G d Qr Qx rc rs H (pc + 1) ls (vI ((x.toUInt32 >>> (y.toUInt32 &&& Int32.toUInt32 31)).toInt32) :: st)) : AW M G d Qr Qx rc rs H (pc) ls (vI y :: vI x :: st) := by
  intro mc ms p e R s m args below meth c hC Hc locs arr cells slots hR hS hl ha hc hs
  exact lv_iushr hC.1 hC.2.1 hd rfl (k mc ms p e R s m args below meth c hC Hc locs arr cells slots hR hS hl ha hc hs)
theorem r_idiv {x y : Int32} (hd : decode M.2.1 pc = .ok (.idiv, 1)) (hne : ¬ y = 0) (k : AW M G d Qr Qx rc rs H (pc + 1) ls (vI (x / y) :: st)) : AW M G d Qr Qx rc rs H (pc) ls (vI y :: vI x :: st) := by
  intro mc ms p e R s m args below meth c hC Hc locs arr cells slots hR hS hl ha hc hs
  exact lv_idiv hC.1 hC.2.1 hd hne (k mc ms p e R s m args below meth c hC Hc locs arr cells slots hR hS hl ha hc hs)
theorem r_irem {x y : Int32} (hd : decode M.2.1 pc = .ok (.irem, 1)) (hne : ¬ y = 0) (k : AW M G d Qr Qx rc rs H (pc + 1) ls (vI (x - x / y * y) :: st)) : AW M G d Qr Qx rc rs H (pc) ls (vI y :: vI x :: st) := by
  intro mc ms p e R s m args below meth c hC Hc locs arr cells slots hR hS hl ha hc hs
  exact lv_irem hC.1 hC.2.1 hd hne (k mc ms p e R s m args below meth c hC Hc locs arr cells slots hR hS hl ha hc hs)
theorem r_ineg {x : Int32} (hd : decode M.2.1 pc = .ok (.ineg, 1)) (k : AW M G d Qr Qx rc rs H (pc + 1) ls (vI (-x) :: st)) : AW M G d Qr Qx rc rs H (pc) ls (vI x :: st) := by
  intro mc ms p e R s m args below meth c hC Hc locs arr cells slots hR hS hl ha hc hs
  exact lv_ineg hC.1 hC.2.1 hd (k mc ms p e R s m args below meth c hC Hc locs arr cells slots hR hS hl ha hc hs)
theorem r_land {x y : Int64} (hd : decode M.2.1 pc = .ok (.land, 1)) (k : AW M G d Qr Qx rc rs H (pc + 1) ls (vL (x &&& y) :: st)) : AW M G d Qr Qx rc rs H (pc) ls (vL y :: vL x :: st) := by
  intro mc ms p e R s m args below meth c hC Hc locs arr cells slots hR hS hl ha hc hs
  exact lv_land hC.1 hC.2.1 hd (k mc ms p e R s m args below meth c hC Hc locs arr cells slots hR hS hl ha hc hs)
theorem r_lor {x y : Int64} (hd : decode M.2.1 pc = .ok (.lor, 1)) (k : AW M G d Qr Qx rc rs H (pc + 1) ls (vL (x ||| y) :: st)) : AW M G d Qr Qx rc rs H (pc) ls (vL y :: vL x :: st) := by
  intro mc ms p e R s m args below meth c hC Hc locs arr cells slots hR hS hl ha hc hs
  exact lv_lor hC.1 hC.2.1 hd (k mc ms p e R s m args below meth c hC Hc locs arr cells slots hR hS hl ha hc hs)
theorem r_lxor {x y : Int64} (hd : decode M.2.1 pc = .ok (.lxor, 1)) (k : AW M G d Qr Qx rc rs H (pc + 1) ls (vL (x ^^^ y) :: st)) : AW M G d Qr Qx rc rs H (pc) ls (vL y :: vL x :: st) := by
  intro mc ms p e R s m args below meth c hC Hc locs arr cells slots hR hS hl ha hc hs
  exact lv_lxor hC.1 hC.2.1 hd (k mc ms p e R s m args below meth c hC Hc locs arr cells slots hR hS hl ha hc hs)
theorem r_ladd {x y : Int64} (hd : decode M.2.1 pc = .ok (.ladd, 1)) (k : AW M G d Qr Qx rc rs H (pc + 1) ls (vL (x + y) :: st)) : AW M G d Qr Qx rc rs H (pc) ls (vL y :: vL x :: st) := by
  intro mc ms p e R s m args below meth c hC Hc locs arr cells slots hR hS hl ha hc hs
  exact lv_ladd hC.1 hC.2.1 hd (k mc ms p e R s m args below meth c hC Hc locs arr cells slots hR hS hl ha hc hs)
theorem r_lshl {x : Int64} {y : Int32} (hd : decode M.2.1 pc = .ok (.lshl, 1)) (k : AW M G d Qr Qx rc rs H (pc + 1) ls (vL (x <<< (y.toInt64 &&& 63)) :: st)) : AW M G d Qr Qx rc rs H (pc) ls (vI y :: vL x :: st) := by
  intro mc ms p e R s m args below meth c hC Hc locs arr cells slots hR hS hl ha hc hs
  exact lv_lshl hC.1 hC.2.1 hd rfl (k mc ms p e R s m args below meth c hC Hc locs arr cells slots hR hS hl ha hc hs)
theorem r_lushr {x : Int64} {y : Int32} (hd : decode M.2.1 pc = .ok (.lushr, 1)) (k : AW M G d Qr Qx rc rs H (pc + 1) ls (vL ((x.toUInt64 >>> (y.toInt64.toUInt64 &&& Int64.toUInt64 63)).toInt64) :: st)) : AW M G d Qr Qx rc rs H (pc) ls (vI y :: vL x :: st) := by
  intro mc ms p e R s m args below meth c hC Hc locs arr cells slots hR hS hl ha hc hs
  exact lv_lushr hC.1 hC.2.1 hd rfl (k mc ms p e R s m args below meth c hC Hc locs arr cells slots hR hS hl ha hc hs)
theorem r_i2l {x : Int32} (hd : decode M.2.1 pc = .ok (.i2l, 1)) (k : AW M G d Qr Qx rc rs H (pc + 1) ls (vL x.toInt64 :: st)) : AW M G d Qr Qx rc rs H (pc) ls (vI x :: st) := by
  intro mc ms p e R s m args below meth c hC Hc locs arr cells slots hR hS hl ha hc hs
  exact lv_i2l hC.1 hC.2.1 hd rfl (k mc ms p e R s m args below meth c hC Hc locs arr cells slots hR hS hl ha hc hs)
theorem r_l2i {x : Int64} (hd : decode M.2.1 pc = .ok (.l2i, 1)) (k : AW M G d Qr Qx rc rs H (pc + 1) ls (vI x.toInt32 :: st)) : AW M G d Qr Qx rc rs H (pc) ls (vL x :: st) := by
  intro mc ms p e R s m args below meth c hC Hc locs arr cells slots hR hS hl ha hc hs
  exact lv_l2i hC.1 hC.2.1 hd rfl (k mc ms p e R s m args below meth c hC Hc locs arr cells slots hR hS hl ha hc hs)
theorem r_i2b {x : Int32} (hd : decode M.2.1 pc = .ok (.i2b, 1)) (k : AW M G d Qr Qx rc rs H (pc + 1) ls (vI x.toInt8.toInt32 :: st)) : AW M G d Qr Qx rc rs H (pc) ls (vI x :: st) := by
  intro mc ms p e R s m args below meth c hC Hc locs arr cells slots hR hS hl ha hc hs
  exact lv_i2b hC.1 hC.2.1 hd rfl (k mc ms p e R s m args below meth c hC Hc locs arr cells slots hR hS hl ha hc hs)
theorem r_i2c {x : Int32} (hd : decode M.2.1 pc = .ok (.i2c, 1)) (k : AW M G d Qr Qx rc rs H (pc + 1) ls (vI (x.toUInt32 % 65536).toInt32 :: st)) : AW M G d Qr Qx rc rs H (pc) ls (vI x :: st) := by
  intro mc ms p e R s m args below meth c hC Hc locs arr cells slots hR hS hl ha hc hs
  exact lv_i2c hC.1 hC.2.1 hd rfl (k mc ms p e R s m args below meth c hC Hc locs arr cells slots hR hS hl ha hc hs)
theorem r_i2f {x : Int32} (hd : decode M.2.1 pc = .ok (.i2f, 1)) (k : AW M G d Qr Qx rc rs H (pc + 1) ls (vF (FP.i2f x) :: st)) : AW M G d Qr Qx rc rs H (pc) ls (vI x :: st) := by
  intro mc ms p e R s m args below meth c hC Hc locs arr cells slots hR hS hl ha hc hs
  exact lv_i2f hC.1 hC.2.1 hd (k mc ms p e R s m args below meth c hC Hc locs arr cells slots hR hS hl ha hc hs)
theorem r_i2d {x : Int32} (hd : decode M.2.1 pc = .ok (.i2d, 1)) (k : AW M G d Qr Qx rc rs H (pc + 1) ls (vD (FP.i2d x) :: st)) : AW M G d Qr Qx rc rs H (pc) ls (vI x :: st) := by
  intro mc ms p e R s m args below meth c hC Hc locs arr cells slots hR hS hl ha hc hs
  exact lv_i2d hC.1 hC.2.1 hd (k mc ms p e R s m args below meth c hC Hc locs arr cells slots hR hS hl ha hc hs)
theorem r_f2d {x : UInt32} (hd : decode M.2.1 pc = .ok (.f2d, 1)) (hne : vf_n64 (FP.f2d x)) (k : AW M G d Qr Qx rc rs H (pc + 1) ls (vD (FP.f2d x) :: st)) : AW M G d Qr Qx rc rs H (pc) ls (vF x :: st) := by
  intro mc ms p e R s m args below meth c hC Hc locs arr cells slots hR hS hl ha hc hs
  exact lv_f2d hC.1 hC.2.1 hd hne (k mc ms p e R s m args below meth c hC Hc locs arr cells slots hR hS hl ha hc hs)
theorem r_fdiv {x y : UInt32} (hd : decode M.2.1 pc = .ok (.fdiv, 1)) (hne : vf_n32 (FP.fdiv x y)) (k : AW M G d Qr Qx rc rs H (pc + 1) ls (vF (FP.fdiv x y) :: st)) : AW M G d Qr Qx rc rs H (pc) ls (vF y :: vF x :: st) := by
  intro mc ms p e R s m args below meth c hC Hc locs arr cells slots hR hS hl ha hc hs
  exact lv_fdiv hC.1 hC.2.1 hd hne (k mc ms p e R s m args below meth c hC Hc locs arr cells slots hR hS hl ha hc hs)
theorem r_ddiv {x y : UInt64} (hd : decode M.2.1 pc = .ok (.ddiv, 1)) (hne : vf_n64 (FP.ddiv x y)) (k : AW M G d Qr Qx rc rs H (pc + 1) ls (vD (FP.ddiv x y) :: st)) : AW M G d Qr Qx rc rs H (pc) ls (vD y :: vD x :: st) := by
  intro mc ms p e R s m args below meth c hC Hc locs arr cells slots hR hS hl ha hc hs
  exact lv_ddiv hC.1 hC.2.1 hd hne (k mc ms p e R s m args below meth c hC Hc locs arr cells slots hR hS hl ha hc hs)
theorem r_lcmp {x y : Int64} (hd : decode M.2.1 pc = .ok (.lcmp, 1)) (k : AW M G d Qr Qx rc rs H (pc + 1) ls (vI (lg_cmp x y) :: st)) : AW M G d Qr Qx rc rs H (pc) ls (vL y :: vL x :: st) := by
  intro mc ms p e R s m args below meth c hC Hc locs arr cells slots hR hS hl ha hc hs
  exact W.lcmp hC.1 hC.2.1 hd (k mc ms p e R s m args below meth c hC Hc locs arr cells slots hR hS hl ha hc hs)
theorem r_fcmp {x y : UInt32} {op : CmpOp} (hd : decode M.2.1 pc = .ok (.fcmp op, 1)) (k : AW M G d Qr Qx rc rs H (pc + 1) ls (vI (Op.cmpValue (FP.fcmp x y) op) :: st)) : AW M G d Qr Qx rc rs H (pc) ls (vF y :: vF x :: st) := by
  intro mc ms p e R s m args below meth c hC Hc locs arr cells slots hR hS hl ha hc hs
  exact lv_fcmp hC.1 hC.2.1 hd (k mc ms p e R s m args below meth c hC Hc locs arr cells slots hR hS hl ha hc hs)
theorem r_dcmp {x y : UInt64} {op : CmpOp} (hd : decode M.2.1 pc = .ok (.dcmp op, 1)) (k : AW M G d Qr Qx rc rs H (pc + 1) ls (vI (Op.cmpValue (FP.dcmp x y) op) :: st)) : AW M G d Qr Qx rc rs H (pc) ls (vD y :: vD x :: st) := by
  intro mc ms p e R s m args below meth c hC Hc locs arr cells slots hR hS hl ha hc hs
  exact lv_dcmp hC.1 hC.2.1 hd (k mc ms p e R s m args below meth c hC Hc locs arr cells slots hR hS hl ha hc hs)
theorem r_iconst {n : Int} {v : Int32} (hd : decode M.2.1 pc = .ok (.iconst n, 1)) (hv : Int32.ofInt n = v) (k : AW M G d Qr Qx rc rs H (pc + 1) ls (vI v :: st)) : AW M G d Qr Qx rc rs H (pc) ls (st) := by
  intro mc ms p e R s m args below meth c hC Hc locs arr cells slots hR hS hl ha hc hs
  exact lv_iconst hC.1 hC.2.1 hd hv (k mc ms p e R s m args below meth c hC Hc locs arr cells slots hR hS hl ha hc hs)
theorem r_bipush {n : Int} {v : Int32} (hd : decode M.2.1 pc = .ok (.bipush n, 2)) (hv : (Int8.ofInt n).toInt32 = v) (k : AW M G d Qr Qx rc rs H (pc + 2) ls (vI v :: st)) : AW M G d Qr Qx rc rs H (pc) ls (st) := by
  intro mc ms p e R s m args below meth c hC Hc locs arr cells slots hR hS hl ha hc hs
  exact lv_bipush hC.1 hC.2.1 hd hv (k mc ms p e R s m args below meth c hC Hc locs arr cells slots hR hS hl ha hc hs)
theorem r_sipush {n : Int} {v : Int32} (hd : decode M.2.1 pc = .ok (.sipush n, 3)) (hv : (Int16.ofInt n).toInt32 = v) (k : AW M G d Qr Qx rc rs H (pc + 3) ls (vI v :: st)) : AW M G d Qr Qx rc rs H (pc) ls (st) := by
  intro mc ms p e R s m args below meth c hC Hc locs arr cells slots hR hS hl ha hc hs
  exact lv_sipush hC.1 hC.2.1 hd hv (k mc ms p e R s m args below meth c hC Hc locs arr cells slots hR hS hl ha hc hs)
theorem r_lconst {n : Fin 2} {v : Int64} (hd : decode M.2.1 pc = .ok (.lconst n, 1)) (hv : Int64.ofNat (n : Nat) = v) (k : AW M G d Qr Qx rc rs H (pc + 1) ls (vL v :: st)) : AW M G d Qr Qx rc rs H (pc) ls (st) := by
  intro mc ms p e R s m args below meth c hC Hc locs arr cells slots hR hS hl ha hc hs
  exact lv_lconst hC.1 hC.2.1 hd hv (k mc ms p e R s m args below meth c hC Hc locs arr cells slots hR hS hl ha hc hs)
theorem r_fconst0 (hd : decode M.2.1 pc = .ok (.fconst 0, 1)) (k : AW M G d Qr Qx rc rs H (pc + 1) ls (vF FP.fconst0 :: st)) : AW M G d Qr Qx rc rs H (pc) ls (st) := by
  intro mc ms p e R s m args below meth c hC Hc locs arr cells slots hR hS hl ha hc hs
  exact lv_fconst0 hC.1 hC.2.1 hd (k mc ms p e R s m args below meth c hC Hc locs arr cells slots hR hS hl ha hc hs)
theorem r_dconst0 (hd : decode M.2.1 pc = .ok (.dconst 0, 1)) (k : AW M G d Qr Qx rc rs H (pc + 1) ls (vD FP.dconst0 :: st)) : AW M G d Qr Qx rc rs H (pc) ls (st) := by
  intro mc ms p e R s m args below meth c hC Hc locs arr cells slots hR hS hl ha hc hs
  exact lv_dconst0 hC.1 hC.2.1 hd (k mc ms p e R s m args below meth c hC Hc locs arr cells slots hR hS hl ha hc hs)
theorem r_null (hd : decode M.2.1 pc = .ok (.aconst_null, 1)) (k : AW M G d Qr Qx rc rs H (pc + 1) ls (vR none :: st)) : AW M G d Qr Qx rc rs H (pc) ls (st) := by
  intro mc ms p e R s m args below meth c hC Hc locs arr cells slots hR hS hl ha hc hs
  exact lv_null hC.1 hC.2.1 hd (k mc ms p e R s m args below meth c hC Hc locs arr cells slots hR hS hl ha hc hs)
theorem r_ldc {i : Nat} {v : Int32} (hd : decode M.2.1 pc = .ok (.ldc i, 2)) (hw : Cond.constant M.1.cls i v ∈ lw_all) (k : AW M G d Qr Qx rc rs H (pc + 2) ls (vI v :: st)) : AW M G d Qr Qx rc rs H (pc) ls (st) := by
  intro mc ms p e R s m args below meth c hC Hc locs arr cells slots hR hS hl ha hc hs
  exact lv_ldc hC.1 hC.2.1 hC.2.2.2.1 (hC.2.2.2.2.2.2.2.2.2.2.2.1.2.1 _ hw _) hd (k mc ms p e R s m args below meth c hC Hc locs arr cells slots hR hS hl ha hc hs)
theorem r_ldcf {i : Nat} {v : UInt32} (hd : decode M.2.1 pc = .ok (.ldc i, 2)) (hw : Cond.constantFloat M.1.cls i v ∈ lw_all) (k : AW M G d Qr Qx rc rs H (pc + 2) ls (vF v :: st)) : AW M G d Qr Qx rc rs H (pc) ls (st) := by
  intro mc ms p e R s m args below meth c hC Hc locs arr cells slots hR hS hl ha hc hs
  exact lv_ldcf hC.1 hC.2.1 hC.2.2.2.1 (hC.2.2.2.2.2.2.2.2.2.2.2.1.2.1 _ hw _) hd (k mc ms p e R s m args below meth c hC Hc locs arr cells slots hR hS hl ha hc hs)
theorem r_dup {v : AV} (hd : decode M.2.1 pc = .ok (.dup, 1)) (hw : isW v = false) (k : AW M G d Qr Qx rc rs H (pc + 1) ls (v :: v :: st)) : AW M G d Qr Qx rc rs H (pc) ls (v :: st) := by
  intro mc ms p e R s m args below meth c hC Hc locs arr cells slots hR hS hl ha hc hs
  exact lv_dup hC.1 hC.2.1 hd (by rw [cat_tV, hw]; rfl) (k mc ms p e R s m args below meth c hC Hc locs arr cells slots hR hS hl ha hc hs)
theorem r_pop {v : AV} (hd : decode M.2.1 pc = .ok (.pop, 1)) (hw : isW v = false) (k : AW M G d Qr Qx rc rs H (pc + 1) ls (st)) : AW M G d Qr Qx rc rs H (pc) ls (v :: st) := by
  intro mc ms p e R s m args below meth c hC Hc locs arr cells slots hR hS hl ha hc hs
  exact lv_pop hC.1 hC.2.1 hd (by rw [cat_tV, hw]; rfl) (k mc ms p e R s m args below meth c hC Hc locs arr cells slots hR hS hl ha hc hs)
theorem r_dup_x1 {v w : AV} (hd : decode M.2.1 pc = .ok (.dup_x1, 1)) (hv : isW v = false) (hw : isW w = false) (k : AW M G d Qr Qx rc rs H (pc + 1) ls (v :: w :: v :: st)) : AW M G d Qr Qx rc rs H (pc) ls (v :: w :: st) := by
  intro mc ms p e R s m args below meth c hC Hc locs arr cells slots hR hS hl ha hc hs
  exact lv_dup_x1 hC.1 hC.2.1 hd (by rw [cat_tV, hv]; rfl) (by rw [cat_tV, hw]; rfl) (k mc ms p e R s m args below meth c hC Hc locs arr cells slots hR hS hl ha hc hs)
theorem r_dup_x2 {v w u : AV} (hd : decode M.2.1 pc = .ok (.dup_x2, 1)) (hv : isW v = false) (hw : isW w = false) (hu : isW u = false) (k : AW M G d Qr Qx rc rs H (pc + 1) ls (v :: w :: u :: v :: st)) : AW M G d Qr Qx rc rs H (pc) ls (v :: w :: u :: st) := by
  intro mc ms p e R s m args below meth c hC Hc locs arr cells slots hR hS hl ha hc hs
  exact lv_dup_x2 hC.1 hC.2.1 hd (by rw [cat_tV, hv]; rfl) (by rw [cat_tV, hw]; rfl) (by rw [cat_tV, hu]; rfl) (k mc ms p e R s m args below meth c hC Hc locs arr cells slots hR hS hl ha hc hs)
theorem r_dup2 {v w : AV} (hd : decode M.2.1 pc = .ok (.dup2, 1)) (hv : isW v = false) (hw : isW w = false) (k : AW M G d Qr Qx rc rs H (pc + 1) ls (v :: w :: v :: w :: st)) : AW M G d Qr Qx rc rs H (pc) ls (v :: w :: st) := by
  intro mc ms p e R s m args below meth c hC Hc locs arr cells slots hR hS hl ha hc hs
  exact lv_dup2_11 hC.1 hC.2.1 hd (by rw [cat_tV, hv]; rfl) (by rw [cat_tV, hw]; rfl) (k mc ms p e R s m args below meth c hC Hc locs arr cells slots hR hS hl ha hc hs)
theorem r_if_eq {x : Int32} {off : Int} {tgt : Nat} (hd : decode M.2.1 pc = .ok (.ifCond .eq off, 3)) (ht : (pc : Int) + off = (tgt : Int)) (kt : x = 0 → AW M G d Qr Qx rc rs H (tgt) ls (st)) (kf : ¬ x = 0 → AW M G d Qr Qx rc rs H (pc + 3) ls (st)) : AW M G d Qr Qx rc rs H (pc) ls (vI x :: st) := by
  intro mc ms p e R s m args below meth c hC Hc locs arr cells slots hR hS hl ha hc hs
  exact lv_if_eq hC.1 hC.2.1 hd ht (fun q => (kt q mc ms p e R s m args below meth c hC Hc locs arr cells slots hR hS hl ha hc hs)) (fun q => (kf q mc ms p e R s m args below meth c hC Hc locs arr cells slots hR hS hl ha hc hs))
theorem r_if_ne {x : Int32} {off : Int} {tgt : Nat} (hd : decode M.2.1 pc = .ok (.ifCond .ne off, 3)) (ht : (pc : Int) + off = (tgt : Int)) (kt : ¬ x = 0 → AW M G d Qr Qx rc rs H (tgt) ls (st)) (kf : x = 0 → AW M G d Qr Qx rc rs H (pc + 3) ls (st)) : AW M G d Qr Qx rc rs H (pc) ls (vI x :: st) := by
  intro mc ms p e R s m args below meth c hC Hc locs arr cells slots hR hS hl ha hc hs
  exact lv_if_ne hC.1 hC.2.1 hd ht (fun q => (kt q mc ms p e R s m args below meth c hC Hc locs arr cells slots hR hS hl ha hc hs)) (fun q => (kf q mc ms p e R s m args below meth c hC Hc locs arr cells slots hR hS hl ha hc hs))
theorem r_if_lt {x : Int32} {off : Int} {tgt : Nat} (hd : decode M.2.1 pc = .ok (.ifCond .lt off, 3)) (ht : (pc : Int) + off = (tgt : Int)) (kt : x < 0 → AW M G d Qr Qx rc rs H (tgt) ls (st)) (kf : ¬ x < 0 → AW M G d Qr Qx rc rs H (pc + 3) ls (st)) : AW M G d Qr Qx rc rs H (pc) ls (vI x :: st) := by
  intro mc ms p e R s m args below meth c hC Hc locs arr cells slots hR hS hl ha hc hs
  exact lv_if_lt hC.1 hC.2.1 hd ht (fun q => (kt q mc ms p e R s m args below meth c hC Hc locs arr cells slots hR hS hl ha hc hs)) (fun q => (kf q mc ms p e R s m args below meth c hC Hc locs arr cells slots hR hS hl ha hc hs))
theorem r_if_ge {x : Int32} {off : Int} {tgt : Nat} (hd : decode M.2.1 pc = .ok (.ifCond .ge off, 3)) (ht : (pc : Int) + off = (tgt : Int)) (kt : 0 ≤ x → AW M G d Qr Qx rc rs H (tgt) ls (st)) (kf : ¬ 0 ≤ x → AW M G d Qr Qx rc rs H (pc + 3) ls (st)) : AW M G d Qr Qx rc rs H (pc) ls (vI x :: st) := by
  intro mc ms p e R s m args below meth c hC Hc locs arr cells slots hR hS hl ha hc hs
  exact lv_if_ge hC.1 hC.2.1 hd ht (fun q => (kt q mc ms p e R s m args below meth c hC Hc locs arr cells slots hR hS hl ha hc hs)) (fun q => (kf q mc ms p e R s m args below meth c hC Hc locs arr cells slots hR hS hl ha hc hs))
theorem r_if_gt {x : Int32} {off : Int} {tgt : Nat} (hd : decode M.2.1 pc = .ok (.ifCond .gt off, 3)) (ht : (pc : Int) + off = (tgt : Int)) (kt : 0 < x → AW M G d Qr Qx rc rs H (tgt) ls (st)) (kf : ¬ 0 < x → AW M G d Qr Qx rc rs H (pc + 3) ls (st)) : AW M G d Qr Qx rc rs H (pc) ls (vI x :: st) := by
  intro mc ms p e R s m args below meth c hC Hc locs arr cells slots hR hS hl ha hc hs
  exact lv_if_gt hC.1 hC.2.1 hd ht (fun q => (kt q mc ms p e R s m args below meth c hC Hc locs arr cells slots hR hS hl ha hc hs)) (fun q => (kf q mc ms p e R s m args below meth c hC Hc locs arr cells slots hR hS hl ha hc hs))
theorem r_if_le {x : Int32} {off : Int} {tgt : Nat} (hd : decode M.2.1 pc = .ok (.ifCond .le off, 3)) (ht : (pc : Int) + off = (tgt : Int)) (kt : x ≤ 0 → AW M G d Qr Qx rc rs H (tgt) ls (st)) (kf : ¬ x ≤ 0 → AW M G d Qr Qx rc rs H (pc + 3) ls (st)) : AW M G d Qr Qx rc rs H (pc) ls (vI x :: st) := by
  intro mc ms p e R s m args below meth c hC Hc locs arr cells slots hR hS hl ha hc hs
  exact lv_if_le hC.1 hC.2.1 hd ht (fun q => (kt q mc ms p e R s m args below meth c hC Hc locs arr cells slots hR hS hl ha hc hs)) (fun q => (kf q mc ms p e R s m args below meth c hC Hc locs arr cells slots hR hS hl ha hc hs))
theorem r_icmp_eq {x y : Int32} {off : Int} {tgt : Nat} (hd : decode M.2.1 pc = .ok (.if_icmp .eq off, 3)) (ht : (pc : Int) + off = (tgt : Int)) (kt : x = y → AW M G d Qr Qx rc rs H (tgt) ls (st)) (kf : ¬ x = y → AW M G d Qr Qx rc rs H (pc + 3) ls (st)) : AW M G d Qr Qx rc rs H (pc) ls (vI y :: vI x :: st) := by
  intro mc ms p e R s m args below meth c hC Hc locs arr cells slots hR hS hl ha hc hs
  exact lv_icmp_eq hC.1 hC.2.1 hd ht (fun q => (kt q mc ms p e R s m args below meth c hC Hc locs arr cells slots hR hS hl ha hc hs)) (fun q => (kf q mc ms p e R s m args below meth c hC Hc locs arr cells slots hR hS hl ha hc hs))
theorem r_icmp_ne {x y : Int32} {off : Int} {tgt : Nat} (hd : decode M.2.1 pc = .ok (.if_icmp .ne off, 3)) (ht : (pc : Int) + off = (tgt : Int)) (kt : ¬ x = y → AW M G d Qr Qx rc rs H (tgt) ls (st)) (kf : x = y → AW M G d Qr Qx rc rs H (pc + 3) ls (st)) : AW M G d Qr Qx rc rs H (pc) ls (vI y :: vI x :: st) := by
  intro mc ms p e R s m args below meth c hC Hc locs arr cells slots hR hS hl ha hc hs
  exact lv_icmp_ne hC.1 hC.2.1 hd ht (fun q => (kt q mc ms p e R s m args below meth c hC Hc locs arr cells slots hR hS hl ha hc hs)) (fun q => (kf q mc ms p e R s m args below meth c hC Hc locs arr cells slots hR hS hl ha hc hs))
theorem r_icmp_lt {x y : Int32} {off : Int} {tgt : Nat} (hd : decode M.2.1 pc = .ok (.if_icmp .lt off, 3)) (ht : (pc : Int) + off = (tgt : Int)) (kt : x < y → AW M G d Qr Qx rc rs H (tgt) ls (st)) (kf : ¬ x < y → AW M G d Qr Qx rc rs H (pc + 3) ls (st)) : AW M G d Qr Qx rc rs H (pc) ls (vI y :: vI x :: st) := by
  intro mc ms p e R s m args below meth c hC Hc locs arr cells slots hR hS hl ha hc hs
  exact lv_icmp_lt hC.1 hC.2.1 hd ht (fun q => (kt q mc ms p e R s m args below meth c hC Hc locs arr cells slots hR hS hl ha hc hs)) (fun q => (kf q mc ms p e R s m args below meth c hC Hc locs arr cells slots hR hS hl ha hc hs))
theorem r_icmp_ge {x y : Int32} {off : Int} {tgt : Nat} (hd : decode M.2.1 pc = .ok (.if_icmp .ge off, 3)) (ht : (pc : Int) + off = (tgt : Int)) (kt : y ≤ x → AW M G d Qr Qx rc rs H (tgt) ls (st)) (kf : ¬ y ≤ x → AW M G d Qr Qx rc rs H (pc + 3) ls (st)) : AW M G d Qr Qx rc rs H (pc) ls (vI y :: vI x :: st) := by
  intro mc ms p e R s m args below meth c hC Hc locs arr cells slots hR hS hl ha hc hs
  exact lv_icmp_ge hC.1 hC.2.1 hd ht (fun q => (kt q mc ms p e R s m args below meth c hC Hc locs arr cells slots hR hS hl ha hc hs)) (fun q => (kf q mc ms p e R s m args below meth c hC Hc locs arr cells slots hR hS hl ha hc hs))
theorem r_icmp_gt {x y : Int32} {off : Int} {tgt : Nat} (hd : decode M.2.1 pc = .ok (.if_icmp .gt off, 3)) (ht : (pc : Int) + off = (tgt : Int)) (kt : y < x → AW M G d Qr Qx rc rs H (tgt) ls (st)) (kf : ¬ y < x → AW M G d Qr Qx rc rs H (pc + 3) ls (st)) : AW M G d Qr Qx rc rs H (pc) ls (vI y :: vI x :: st) := by
  intro mc ms p e R s m args below meth c hC Hc locs arr cells slots hR hS hl ha hc hs
  exact lv_icmp_gt hC.1 hC.2.1 hd ht (fun q => (kt q mc ms p e R s m args below meth c hC Hc locs arr cells slots hR hS hl ha hc hs)) (fun q => (kf q mc ms p e R s m args below meth c hC Hc locs arr cells slots hR hS hl ha hc hs))
theorem r_icmp_le {x y : Int32} {off : Int} {tgt : Nat} (hd : decode M.2.1 pc = .ok (.if_icmp .le off, 3)) (ht : (pc : Int) + off = (tgt : Int)) (kt : x ≤ y → AW M G d Qr Qx rc rs H (tgt) ls (st)) (kf : ¬ x ≤ y → AW M G d Qr Qx rc rs H (pc + 3) ls (st)) : AW M G d Qr Qx rc rs H (pc) ls (vI y :: vI x :: st) := by
  intro mc ms p e R s m args below meth c hC Hc locs arr cells slots hR hS hl ha hc hs
  exact lv_icmp_le hC.1 hC.2.1 hd ht (fun q => (kt q mc ms p e R s m args below meth c hC Hc locs arr cells slots hR hS hl ha hc hs)) (fun q => (kf q mc ms p e R s m args below meth c hC Hc locs arr cells slots hR hS hl ha hc hs))
theorem r_acmp_eq {x y : Option Nat} {off : Int} {tgt : Nat} (hd : decode M.2.1 pc = .ok (.if_acmp .eq off, 3)) (ht : (pc : Int) + off = (tgt : Int)) (kt : x = y → AW M G d Qr Qx rc rs H (tgt) ls (st)) (kf : ¬ x = y → AW M G d Qr Qx rc rs H (pc + 3) ls (st)) : AW M G d Qr Qx rc rs H (pc) ls (vR y :: vR x :: st) := by
  intro mc ms p e R s m args below meth c hC Hc locs arr cells slots hR hS hl ha hc hs
  exact lv_acmp_eq hC.1 hC.2.1 hd ht (fun q => (kt q mc ms p e R s m args below meth c hC Hc locs arr cells slots hR hS hl ha hc hs)) (fun q => (kf q mc ms p e R s m args below meth c hC Hc locs arr cells slots hR hS hl ha hc hs))
theorem r_acmp_ne {x y : Option Nat} {off : Int} {tgt : Nat} (hd : decode M.2.1 pc = .ok (.if_acmp .ne off, 3)) (ht : (pc : Int) + off = (tgt : Int)) (kt : ¬ x = y → AW M G d Qr Qx rc rs H (tgt) ls (st)) (kf : x = y → AW M G d Qr Qx rc rs H (pc + 3) ls (st)) : AW M G d Qr Qx rc rs H (pc) ls (vR y :: vR x :: st) := by
  intro mc ms p e R s m args below meth c hC Hc locs arr cells slots hR hS hl ha hc hs
  exact lv_acmp_ne hC.1 hC.2.1 hd ht (fun q => (kt q mc ms p e R s m args below meth c hC Hc locs arr cells slots hR hS hl ha hc hs)) (fun q => (kf q mc ms p e R s m args below meth c hC Hc locs arr cells slots hR hS hl ha hc hs))
theorem r_goto {off : Int} {tgt : Nat} (hd : decode M.2.1 pc = .ok (.goto off, 3)) (ht : (pc : Int) + off = (tgt : Int)) (k : AW M G d Qr Qx rc rs H (tgt) ls (st)) : AW M G d Qr Qx rc rs H (pc) ls (st) := by
  intro mc ms p e R s m args below meth c hC Hc locs arr cells slots hR hS hl ha hc hs
  exact lv_goto hC.1 hC.2.1 hd ht (k mc ms p e R s m args below meth c hC Hc locs arr cells slots hR hS hl ha hc hs)
theorem r_ifnull {x : Option Nat} {off : Int} {tgt : Nat} (hd : decode M.2.1 pc = .ok (.ifnull off, 3)) (ht : (pc : Int) + off = (tgt : Int)) (kt : x = none → AW M G d Qr Qx rc rs H (tgt) ls (st)) (kf : ∀ a, x = some a → AW M G d Qr Qx rc rs H (pc + 3) ls (st)) : AW M G d Qr Qx rc rs H (pc) ls (vR x :: st) := by
  intro mc ms p e R s m args below meth c hC Hc locs arr cells slots hR hS hl ha hc hs
  cases x with
  | none => exact lv_ifnullN hC.1 hC.2.1 hd ht (kt rfl mc ms p e R s m args below meth c hC Hc locs arr cells slots hR hS hl ha hc hs)
  | some a => exact lv_ifnull hC.1 hC.2.1 hd (kf a rfl mc ms p e R s m args below meth c hC Hc locs arr cells slots hR hS hl ha hc hs)
theorem r_ifnonnull {x : Option Nat} {off : Int} {tgt : Nat} (hd : decode M.2.1 pc = .ok (.ifnonnull off, 3)) (ht : (pc : Int) + off = (tgt : Int)) (kt : ∀ a, x = some a → AW M G d Qr Qx rc rs H (tgt) ls (st)) (kf : x = none → AW M G d Qr Qx rc rs H (pc + 3) ls (st)) : AW M G d Qr Qx rc rs H (pc) ls (vR x :: st) := by
  intro mc ms p e R s m args below meth c hC Hc locs arr cells slots hR hS hl ha hc hs
  cases x with
  | none => exact lv_ifnonnullN hC.1 hC.2.1 hd (kf rfl mc ms p e R s m args below meth c hC Hc locs arr cells slots hR hS hl ha hc hs)
  | some a => exact lv_ifnonnull hC.1 hC.2.1 hd ht (kt a rfl mc ms p e R s m args below meth c hC Hc locs arr cells slots hR hS hl ha hc hs)
theorem r_lookup {dflt off : Int} {ps : Array (Int × Int)} {len tgt : Nat} {x : Int32} (hd : decode M.2.1 pc = .ok (.lookupswitch dflt ps, len)) (hp : (ps.toList.zip (ps.toList.drop 1)).all (fun (a, next) => a.1 < next.1) = true) (ho : Op.lookupswitch.offset ps.toList dflt x.toInt = off) (ht : (pc : Int) + off = (tgt : Int)) (k : AW M G d Qr Qx rc rs H (tgt) ls (st)) : AW M G d Qr Qx rc rs H (pc) ls (vI x :: st) := by
  intro mc ms p e R s m args below meth c hC Hc locs arr cells slots hR hS hl ha hc hs
  exact lv_lookup hC.1 hC.2.1 hd hp ho ht (k mc ms p e R s m args below meth c hC Hc locs arr cells slots hR hS hl ha hc hs)
theorem r_tableOut {dflt lo hi : Int} {offs : Array Int} {len tgt : Nat} {x : Int32} (hd : decode M.2.1 pc = .ok (.tableswitch dflt lo hi offs, len)) (h : x.toInt < lo ∨ hi < x.toInt) (ht : (pc : Int) + dflt = (tgt : Int)) (k : AW M G d Qr Qx rc rs H (tgt) ls (st)) : AW M G d Qr Qx rc rs H (pc) ls (vI x :: st) := by
  intro mc ms p e R s m args below meth c hC Hc locs arr cells slots hR hS hl ha hc hs
  exact lv_tableOut hC.1 hC.2.1 hd h ht (k mc ms p e R s m args below meth c hC Hc locs arr cells slots hR hS hl ha hc hs)
theorem r_tableIn {dflt lo hi off : Int} {offs : Array Int} {len tgt : Nat} {x : Int32} (hd : decode M.2.1 pc = .ok (.tableswitch dflt lo hi offs, len)) (h1 : ¬ x.toInt < lo) (h2 : ¬ hi < x.toInt) (ho : offs[(x.toInt - lo).toNat]? = some off) (ht : (pc : Int) + off = (tgt : Int)) (k : AW M G d Qr Qx rc rs H (tgt) ls (st)) : AW M G d Qr Qx rc rs H (pc) ls (vI x :: st) := by
  intro mc ms p e R s m args below meth c hC Hc locs arr cells slots hR hS hl ha hc hs
  exact lv_tableIn hC.1 hC.2.1 hd h1 h2 ho ht (k mc ms p e R s m args below meth c hC Hc locs arr cells slots hR hS hl ha hc hs)
theorem r_iload_n {j : Fin 4} {i : Nat} {x : Int32} (hd : decode M.2.1 pc = .ok (.iload_n j, 1)) (hi : (j : Nat) = i) (hx : ls[i]? = some (some (vI x))) (k : AW M G d Qr Qx rc rs H (pc + 1) ls (vI x :: st)) : AW M G d Qr Qx rc rs H (pc) ls (st) := by
  intro mc ms p e R s m args below meth c hC Hc locs arr cells slots hR hS hl ha hc hs
  exact lv_iload_n hC.1 hC.2.1 hd hi (hl.2.2 _ _ hx) (k mc ms p e R s m args below meth c hC Hc locs arr cells slots hR hS hl ha hc hs)
theorem r_iload {i : Nat} {x : Int32} (hd : decode M.2.1 pc = .ok (.iload i, 2)) (hx : ls[i]? = some (some (vI x))) (k : AW M G d Qr Qx rc rs H (pc + 2) ls (vI x :: st)) : AW M G d Qr Qx rc rs H (pc) ls (st) := by
  intro mc ms p e R s m args below meth c hC Hc locs arr cells slots hR hS hl ha hc hs
  exact lv_iload hC.1 hC.2.1 hd (hl.2.2 _ _ hx) (k mc ms p e R s m args below meth c hC Hc locs arr cells slots hR hS hl ha hc hs)
theorem r_fload_n {j : Fin 4} {i : Nat} {x : UInt32} (hd : decode M.2.1 pc = .ok (.fload_n j, 1)) (hi : (j : Nat) = i) (hx : ls[i]? = some (some (vF x))) (k : AW M G d Qr Qx rc rs H (pc + 1) ls (vF x :: st)) : AW M G d Qr Qx rc rs H (pc) ls (st) := by
  intro mc ms p e R s m args below meth c hC Hc locs arr cells slots hR hS hl ha hc hs
  exact lv_fload_n hC.1 hC.2.1 hd hi (hl.2.2 _ _ hx) (k mc ms p e R s m args below meth c hC Hc locs arr cells slots hR hS hl ha hc hs)
theorem r_fload {i : Nat} {x : UInt32} (hd : decode M.2.1 pc = .ok (.fload i, 2)) (hx : ls[i]? = some (some (vF x))) (k : AW M G d Qr Qx rc rs H (pc + 2) ls (vF x :: st)) : AW M G d Qr Qx rc rs H (pc) ls (st) := by
  intro mc ms p e R s m args below meth c hC Hc locs arr cells slots hR hS hl ha hc hs
  exact lv_fload hC.1 hC.2.1 hd (hl.2.2 _ _ hx) (k mc ms p e R s m args below meth c hC Hc locs arr cells slots hR hS hl ha hc hs)
theorem r_lload_n {j : Fin 4} {i : Nat} {x : Int64} (hd : decode M.2.1 pc = .ok (.lload_n j, 1)) (hi : (j : Nat) = i) (hx : ls[i]? = some (some (vL x))) (k : AW M G d Qr Qx rc rs H (pc + 1) ls (vL x :: st)) : AW M G d Qr Qx rc rs H (pc) ls (st) := by
  intro mc ms p e R s m args below meth c hC Hc locs arr cells slots hR hS hl ha hc hs
  exact lv_lload_n hC.1 hC.2.1 hd hi (hl.2.2 _ _ hx) (k mc ms p e R s m args below meth c hC Hc locs arr cells slots hR hS hl ha hc hs)
theorem r_lload {i : Nat} {x : Int64} (hd : decode M.2.1 pc = .ok (.lload i, 2)) (hx : ls[i]? = some (some (vL x))) (k : AW M G d Qr Qx rc rs H (pc + 2) ls (vL x :: st)) : AW M G d Qr Qx rc rs H (pc) ls (st) := by
  intro mc ms p e R s m args below meth c hC Hc locs arr cells slots hR hS hl ha hc hs
  exact lv_lload hC.1 hC.2.1 hd (hl.2.2 _ _ hx) (k mc ms p e R s m args below meth c hC Hc locs arr cells slots hR hS hl ha hc hs)
theorem r_dload_n {j : Fin 4} {i : Nat} {x : UInt64} (hd : decode M.2.1 pc = .ok (.dload_n j, 1)) (hi : (j : Nat) = i) (hx : ls[i]? = some (some (vD x))) (k : AW M G d Qr Qx rc rs H (pc + 1) ls (vD x :: st)) : AW M G d Qr Qx rc rs H (pc) ls (st) := by
  intro mc ms p e R s m args below meth c hC Hc locs arr cells slots hR hS hl ha hc hs
  exact lv_dload_n hC.1 hC.2.1 hd hi (hl.2.2 _ _ hx) (k mc ms p e R s m args below meth c hC Hc locs arr cells slots hR hS hl ha hc hs)
theorem r_dload {i : Nat} {x : UInt64} (hd : decode M.2.1 pc = .ok (.dload i, 2)) (hx : ls[i]? = some (some (vD x))) (k : AW M G d Qr Qx rc rs H (pc + 2) ls (vD x :: st)) : AW M G d Qr Qx rc rs H (pc) ls (st) := by
  intro mc ms p e R s m args below meth c hC Hc locs arr cells slots hR hS hl ha hc hs
  exact lv_dload hC.1 hC.2.1 hd (hl.2.2 _ _ hx) (k mc ms p e R s m args below meth c hC Hc locs arr cells slots hR hS hl ha hc hs)
theorem r_aload_n {j : Fin 4} {i : Nat} {x : Option Nat} (hd : decode M.2.1 pc = .ok (.aload_n j, 1)) (hi : (j : Nat) = i) (hx : ls[i]? = some (some (vR x))) (k : AW M G d Qr Qx rc rs H (pc + 1) ls (vR x :: st)) : AW M G d Qr Qx rc rs H (pc) ls (st) := by
  intro mc ms p e R s m args below meth c hC Hc locs arr cells slots hR hS hl ha hc hs
  cases x with
  | none => exact lv_aload_nN hC.1 hC.2.1 hd hi (hl.2.2 _ _ hx) (k mc ms p e R s m args below meth c hC Hc locs arr cells slots hR hS hl ha hc hs)
  | some a => exact lv_aload_n hC.1 hC.2.1 hd hi (hl.2.2 _ _ hx) (k mc ms p e R s m args below meth c hC Hc locs arr cells slots hR hS hl ha hc hs)
theorem r_aload {i : Nat} {x : Option Nat} (hd : decode M.2.1 pc = .ok (.aload i, 2)) (hx : ls[i]? = some (some (vR x))) (k : AW M G d Qr Qx rc rs H (pc + 2) ls (vR x :: st)) : AW M G d Qr Qx rc rs H (pc) ls (st) := by
  intro mc ms p e R s m args below meth c hC Hc locs arr cells slots hR hS hl ha hc hs
  cases x with
  | none => exact lv_aloadN hC.1 hC.2.1 hd (hl.2.2 _ _ hx) (k mc ms p e R s m args below meth c hC Hc locs arr cells slots hR hS hl ha hc hs)
  | some a => exact lv_aload hC.1 hC.2.1 hd (hl.2.2 _ _ hx) (k mc ms p e R s m args below meth c hC Hc locs arr cells slots hR hS hl ha hc hs)
theorem r_istore_n {j : Fin 4} {i : Nat} {x : Int32} {ls2 : List (Option AV)} (hd : decode M.2.1 pc = .ok (.istore_n j, 1)) (hi : (j : Nat) = i) (hn : i < ls.length) (hs2 : lset ls i (vI x) = ls2) (k : AW M G d Qr Qx rc rs H (pc + 1) ls2 (st)) : AW M G d Qr Qx rc rs H (pc) ls (vI x :: st) := by
  intro mc ms p e R s m args below meth c hC Hc locs arr cells slots hR hS hl ha hc hs
  exact lv_istore_n hC.1 hC.2.1 hd hi hl.has hn rfl (fun arr' h9 => k mc ms p e R s m args below meth c hC Hc locs arr' cells slots hR hS (by rw [← hs2]; exact LR.set (v := vI x) h9) (by rw [h9.1, ← hl.1]; exact ha) hc hs)
theorem r_istore {i : Nat} {x : Int32} {ls2 : List (Option AV)} (hd : decode M.2.1 pc = .ok (.istore i, 2)) (hn : i < ls.length) (hs2 : lset ls i (vI x) = ls2) (k : AW M G d Qr Qx rc rs H (pc + 2) ls2 (st)) : AW M G d Qr Qx rc rs H (pc) ls (vI x :: st) := by
  intro mc ms p e R s m args below meth c hC Hc locs arr cells slots hR hS hl ha hc hs
  exact lv_istore hC.1 hC.2.1 hd hl.has hn rfl (fun arr' h9 => k mc ms p e R s m args below meth c hC Hc locs arr' cells slots hR hS (by rw [← hs2]; exact LR.set (v := vI x) h9) (by rw [h9.1, ← hl.1]; exact ha) hc hs)
theorem r_fstore_n {j : Fin 4} {i : Nat} {x : UInt32} {ls2 : List (Option AV)} (hd : decode M.2.1 pc = .ok (.fstore_n j, 1)) (hi : (j : Nat) = i) (hn : i < ls.length) (hs2 : lset ls i (vF x) = ls2) (k : AW M G d Qr Qx rc rs H (pc + 1) ls2 (st)) : AW M G d Qr Qx rc rs H (pc) ls (vF x :: st) := by
  intro mc ms p e R s m args below meth c hC Hc locs arr cells slots hR hS hl ha hc hs
  exact lv_fstore_n hC.1 hC.2.1 hd hi hl.has hn rfl (fun arr' h9 => k mc ms p e R s m args below meth c hC Hc locs arr' cells slots hR hS (by rw [← hs2]; exact LR.set (v := vF x) h9) (by rw [h9.1, ← hl.1]; exact ha) hc hs)
theorem r_fstore {i : Nat} {x : UInt32} {ls2 : List (Option AV)} (hd : decode M.2.1 pc = .ok (.fstore i, 2)) (hn : i < ls.length) (hs2 : lset ls i (vF x) = ls2) (k : AW M G d Qr Qx rc rs H (pc + 2) ls2 (st)) : AW M G d Qr Qx rc rs H (pc) ls (vF x :: st) := by
  intro mc ms p e R s m args below meth c hC Hc locs arr cells slots hR hS hl ha hc hs
  exact lv_fstore hC.1 hC.2.1 hd hl.has hn rfl (fun arr' h9 => k mc ms p e R s m args below meth c hC Hc locs arr' cells slots hR hS (by rw [← hs2]; exact LR.set (v := vF x) h9) (by rw [h9.1, ← hl.1]; exact ha) hc hs)
theorem r_astore_n {j : Fin 4} {i : Nat} {x : Option Nat} {ls2 : List (Option AV)} (hd : decode M.2.1 pc = .ok (.astore_n j, 1)) (hi : (j : Nat) = i) (hn : i < ls.length) (hs2 : lset ls i (vR x) = ls2) (k : AW M G d Qr Qx rc rs H (pc + 1) ls2 (st)) : AW M G d Qr Qx rc rs H (pc) ls (vR x :: st) := by
  intro mc ms p e R s m args below meth c hC Hc locs arr cells slots hR hS hl ha hc hs
  cases x with
  | none => exact lv_astore_nN hC.1 hC.2.1 hd hi hl.has hn rfl (fun arr' h9 => k mc ms p e R s m args below meth c hC Hc locs arr' cells slots hR hS (by rw [← hs2]; exact LR.set (v := vR none) h9) (by rw [h9.1, ← hl.1]; exact ha) hc hs)
  | some b => exact lv_astore_n hC.1 hC.2.1 hd hi hl.has hn rfl (fun arr' h9 => k mc ms p e R s m args below meth c hC Hc locs arr' cells slots hR hS (by rw [← hs2]; exact LR.set (v := vR (some b)) h9) (by rw [h9.1, ← hl.1]; exact ha) hc hs)
theorem r_astore {i : Nat} {x : Option Nat} {ls2 : List (Option AV)} (hd : decode M.2.1 pc = .ok (.astore i, 2)) (hn : i < ls.length) (hs2 : lset ls i (vR x) = ls2) (k : AW M G d Qr Qx rc rs H (pc + 2) ls2 (st)) : AW M G d Qr Qx rc rs H (pc) ls (vR x :: st) := by
  intro mc ms p e R s m args below meth c hC Hc locs arr cells slots hR hS hl ha hc hs
  cases x with
  | none => exact lv_astoreN hC.1 hC.2.1 hd hl.has hn rfl (fun arr' h9 => k mc ms p e R s m args below meth c hC Hc locs arr' cells slots hR hS (by rw [← hs2]; exact LR.set (v := vR none) h9) (by rw [h9.1, ← hl.1]; exact ha) hc hs)
  | some b => exact lv_astore hC.1 hC.2.1 hd hl.has hn rfl (fun arr' h9 => k mc ms p e R s m args below meth c hC Hc locs arr' cells slots hR hS (by rw [← hs2]; exact LR.set (v := vR (some b)) h9) (by rw [h9.1, ← hl.1]; exact ha) hc hs)
theorem r_lstore_n {j : Fin 4} {i : Nat} {x : Int64} {ls2 : List (Option AV)} (hd : decode M.2.1 pc = .ok (.lstore_n j, 1)) (hi : (j : Nat) = i) (hn : i + 1 < ls.length) (hs2 : lset2 ls i (vL x) = ls2) (k : AW M G d Qr Qx rc rs H (pc + 1) ls2 (st)) : AW M G d Qr Qx rc rs H (pc) ls (vL x :: st) := by
  intro mc ms p e R s m args below meth c hC Hc locs arr cells slots hR hS hl ha hc hs
  exact lv_lstore_n hC.1 hC.2.1 hd hi hl.has hn rfl (fun arr' h9 => k mc ms p e R s m args below meth c hC Hc locs arr' cells slots hR hS (by rw [← hs2]; exact LR.set2 (v := vL x) h9) (by rw [h9.1, ← hl.1]; exact ha) hc hs)
theorem r_lstore {i : Nat} {x : Int64} {ls2 : List (Option AV)} (hd : decode M.2.1 pc = .ok (.lstore i, 2)) (hn : i + 1 < ls.length) (hs2 : lset2 ls i (vL x) = ls2) (k : AW M G d Qr Qx rc rs H (pc + 2) ls2 (st)) : AW M G d Qr Qx rc rs H (pc) ls (vL x :: st) := by
  intro mc ms p e R s m args below meth c hC Hc locs arr cells slots hR hS hl ha hc hs
  exact lv_lstore hC.1 hC.2.1 hd hl.has hn rfl (fun arr' h9 => k mc ms p e R s m args below meth c hC Hc locs arr' cells slots hR hS (by rw [← hs2]; exact LR.set2 (v := vL x) h9) (by rw [h9.1, ← hl.1]; exact ha) hc hs)
theorem r_dstore_n {j : Fin 4} {i : Nat} {x : UInt64} {ls2 : List (Option AV)} (hd : decode M.2.1 pc = .ok (.dstore_n j, 1)) (hi : (j : Nat) = i) (hn : i + 1 < ls.length) (hs2 : lset2 ls i (vD x) = ls2) (k : AW M G d Qr Qx rc rs H (pc + 1) ls2 (st)) : AW M G d Qr Qx rc rs H (pc) ls (vD x :: st) := by
  intro mc ms p e R s m args below meth c hC Hc locs arr cells slots hR hS hl ha hc hs
  exact lv_dstore_n hC.1 hC.2.1 hd hi hl.has hn rfl (fun arr' h9 => k mc ms p e R s m args below meth c hC Hc locs arr' cells slots hR hS (by rw [← hs2]; exact LR.set2 (v := vD x) h9) (by rw [h9.1, ← hl.1]; exact ha) hc hs)
theorem r_dstore {i : Nat} {x : UInt64} {ls2 : List (Option AV)} (hd : decode M.2.1 pc = .ok (.dstore i, 2)) (hn : i + 1 < ls.length) (hs2 : lset2 ls i (vD x) = ls2) (k : AW M G d Qr Qx rc rs H (pc + 2) ls2 (st)) : AW M G d Qr Qx rc rs H (pc) ls (vD x :: st) := by
  intro mc ms p e R s m args below meth c hC Hc locs arr cells slots hR hS hl ha hc hs
  exact lv_dstore hC.1 hC.2.1 hd hl.has hn rfl (fun arr' h9 => k mc ms p e R s m args below meth c hC Hc locs arr' cells slots hR hS (by rw [← hs2]; exact LR.set2 (v := vD x) h9) (by rw [h9.1, ← hl.1]; exact ha) hc hs)
theorem r_iinc {i : Nat} {n : Int} {x v : Int32} {ls2 : List (Option AV)} (hd : decode M.2.1 pc = .ok (.iinc i n, 3)) (hx : ls[i]? = some (some (vI x))) (hv : x + Int32.ofInt n = v) (hs2 : lset ls i (vI v) = ls2) (k : AW M G d Qr Qx rc rs H (pc + 3) ls2 (st)) : AW M G d Qr Qx rc rs H (pc) ls (st) := by
  intro mc ms p e R s m args below meth c hC Hc locs arr cells slots hR hS hl ha hc hs
  obtain ⟨j, hj⟩ := List.getElem?_of_mem (lpairs_mem hx)
  exact lv_iinc hC.1 hC.2.1 hd hl.has hj hv (List.getElem?_eq_some_iff.mp hx).1 rfl (fun arr' h9 => k mc ms p e R s m args below meth c hC Hc locs arr' cells slots hR hS (by rw [← hs2]; exact LR.set (v := vI v) h9) (by rw [h9.1, ← hl.1]; exact ha) hc hs)
theorem r_ireturn {x : Int32} {ty : FieldType} (hd : decode M.2.1 pc = .ok (.ireturn, 1)) (hr : M.2.2.1 = some ty) (hn : narrow ty (.int x) = .int x) (hq : Qr (some (vI x)) H) : AW M G d Qr Qx rc rs H pc ls [vI x] := by
  intro mc ms p e R s m args below meth c hC Hc locs arr cells slots hR hS hl ha hc hs
  exact W.widen (k := mc) (n := ms) (Nat.le_trans (Nat.le_add_right _ _) hc) (Nat.le_trans (Nat.le_add_right _ _) hs) (vx_ret (W.zret (v := x) hC.1 hC.2.1 (hC.2.2.1.trans hr) hn (fun t ht hW => fin_Q (v := some (vI x)) hq hR hS ht) hS.2.2 hd hC.2.2.2.2.1))
theorem r_return (hd : decode M.2.1 pc = .ok (.return_, 1)) (hr : M.2.2.1 = none) (hq : Qr none H) : AW M G d Qr Qx rc rs H pc ls [] := by
  intro mc ms p e R s m args below meth c hC Hc locs arr cells slots hR hS hl ha hc hs
  exact W.widen (k := mc) (n := ms) (Nat.le_trans (Nat.le_add_right _ _) hc) (Nat.le_trans (Nat.le_add_right _ _) hs) (vx_ret (W.vret hC.1 hC.2.1 (hC.2.2.1.trans hr) (fun t ht hW => fin_Q (v := none) hq hR hS ht) hS.2.2 hd hC.2.2.2.2.1))
theorem r_areturn {x : Option Nat} {ty : FieldType} (hd : decode M.2.1 pc = .ok (.areturn, 1)) (hr : M.2.2.1 = some ty) (ht : (∃ n, ty = .object n) ∨ ∃ t, ty = .array t) (hq : Qr (some (vR x)) H) : AW M G d Qr Qx rc rs H pc ls [vR x] := by
  intro mc ms p e R s m args below meth c hC Hc locs arr cells slots hR hS hl ha hc hs
  exact W.widen (k := mc) (n := ms) (Nat.le_trans (Nat.le_add_right _ _) hc) (Nat.le_trans (Nat.le_add_right _ _) hs) (vx_ret (W.aret (v := tV (vR x)) hC.1 hC.2.1 (hC.2.2.1.trans hr) ht (by cases x with | none => exact Or.inl rfl | some a => exact Or.inr ⟨a, rfl⟩) (fun t ht hW => fin_Q (v := some (vR x)) hq hR hS ht) hS.2.2 hd hC.2.2.2.2.1))
theorem r_dreturn {x : UInt64} (hd : decode M.2.1 pc = .ok (.dreturn, 1)) (hr : M.2.2.1 = some .double) (hq : Qr (some (vD x)) H) : AW M G d Qr Qx rc rs H pc ls [vD x] := by
  intro mc ms p e R s m args below meth c hC Hc locs arr cells slots hR hS hl ha hc hs
  exact W.widen (k := mc) (n := ms) (Nat.le_trans (Nat.le_add_right _ _) hc) (Nat.le_trans (Nat.le_add_right _ _) hs) (vx_ret (W.dret (v := x) hC.1 hC.2.1 (hC.2.2.1.trans hr) (fun t ht hW => fin_Q (v := some (vD x)) hq hR hS ht) hS.2.2 hd hC.2.2.2.2.1))
theorem r_freturn {x : UInt32} (hd : decode M.2.1 pc = .ok (.freturn, 1)) (hr : M.2.2.1 = some .float) (hq : Qr (some (vF x)) H) : AW M G d Qr Qx rc rs H pc ls [vF x] := by
  intro mc ms p e R s m args below meth c hC Hc locs arr cells slots hR hS hl ha hc hs
  exact W.widen (k := mc) (n := ms) (Nat.le_trans (Nat.le_add_right _ _) hc) (Nat.le_trans (Nat.le_add_right _ _) hs) (vx_ret (W.fret (v := x) hC.1 hC.2.1 (hC.2.2.1.trans hr) (fun t ht hW => fin_Q (v := some (vF x)) hq hR hS ht) hS.2.2 hd hC.2.2.2.2.1))
end R3
