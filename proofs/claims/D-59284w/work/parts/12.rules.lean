/-! rules: one instruction each (printed by tools/mkrules.py) -/
set_option maxRecDepth 100000
theorem R_iadd {Ω : Wd} {M : MD} {d r : Nat} {Q : Hp → Out → Prop} {pc : Nat} {L : List (Option Value)} {S : List Value} {h : Hp} {x y : Int32} (hd : decode M.code pc = .ok (.iadd, 1)) (k : At Ω M d r Q (pc + 1) L (.int (x + y) :: S) h) : At Ω M d r Q pc L (.int y :: .int x :: S) h := by
  intro p e R s m args below meth c Qf C F H locs cells slots ls hR hl hc hs hL
  exact lv_iadd C.exec C.bytes hd (k p e R s m args below meth c Qf C F H locs cells slots ls hR hl hc hs hL)
theorem R_isub {Ω : Wd} {M : MD} {d r : Nat} {Q : Hp → Out → Prop} {pc : Nat} {L : List (Option Value)} {S : List Value} {h : Hp} {x y : Int32} (hd : decode M.code pc = .ok (.isub, 1)) (k : At Ω M d r Q (pc + 1) L (.int (x - y) :: S) h) : At Ω M d r Q pc L (.int y :: .int x :: S) h := by
  intro p e R s m args below meth c Qf C F H locs cells slots ls hR hl hc hs hL
  exact lv_isub C.exec C.bytes hd (k p e R s m args below meth c Qf C F H locs cells slots ls hR hl hc hs hL)
theorem R_imul {Ω : Wd} {M : MD} {d r : Nat} {Q : Hp → Out → Prop} {pc : Nat} {L : List (Option Value)} {S : List Value} {h : Hp} {x y : Int32} (hd : decode M.code pc = .ok (.imul, 1)) (k : At Ω M d r Q (pc + 1) L (.int (x * y) :: S) h) : At Ω M d r Q pc L (.int y :: .int x :: S) h := by
  intro p e R s m args below meth c Qf C F H locs cells slots ls hR hl hc hs hL
  exact lv_imul C.exec C.bytes hd (k p e R s m args below meth c Qf C F H locs cells slots ls hR hl hc hs hL)
theorem R_iand {Ω : Wd} {M : MD} {d r : Nat} {Q : Hp → Out → Prop} {pc : Nat} {L : List (Option Value)} {S : List Value} {h : Hp} {x y : Int32} (hd : decode M.code pc = .ok (.iand, 1)) (k : At Ω M d r Q (pc + 1) L (.int (x &&& y) :: S) h) : At Ω M d r Q pc L (.int y :: .int x :: S) h := by
  intro p e R s m args below meth c Qf C F H locs cells slots ls hR hl hc hs hL
  exact lv_iand C.exec C.bytes hd (k p e R s m args below meth c Qf C F H locs cells slots ls hR hl hc hs hL)
theorem R_ior {Ω : Wd} {M : MD} {d r : Nat} {Q : Hp → Out → Prop} {pc : Nat} {L : List (Option Value)} {S : List Value} {h : Hp} {x y : Int32} (hd : decode M.code pc = .ok (.ior, 1)) (k : At Ω M d r Q (pc + 1) L (.int (x ||| y) :: S) h) : At Ω M d r Q pc L (.int y :: .int x :: S) h := by
  intro p e R s m args below meth c Qf C F H locs cells slots ls hR hl hc hs hL
  exact lv_ior C.exec C.bytes hd (k p e R s m args below meth c Qf C F H locs cells slots ls hR hl hc hs hL)
theorem R_idiv {Ω : Wd} {M : MD} {d r : Nat} {Q : Hp → Out → Prop} {pc : Nat} {L : List (Option Value)} {S : List Value} {h : Hp} {x y : Int32} (hd : decode M.code pc = .ok (.idiv, 1)) (hne : ¬ y = 0) (k : At Ω M d r Q (pc + 1) L (.int (x / y) :: S) h) : At Ω M d r Q pc L (.int y :: .int x :: S) h := by
  intro p e R s m args below meth c Qf C F H locs cells slots ls hR hl hc hs hL
  exact lv_idiv C.exec C.bytes hd hne (k p e R s m args below meth c Qf C F H locs cells slots ls hR hl hc hs hL)
theorem R_ineg {Ω : Wd} {M : MD} {d r : Nat} {Q : Hp → Out → Prop} {pc : Nat} {L : List (Option Value)} {S : List Value} {h : Hp} {x : Int32} (hd : decode M.code pc = .ok (.ineg, 1)) (k : At Ω M d r Q (pc + 1) L (.int (-x) :: S) h) : At Ω M d r Q pc L (.int x :: S) h := by
  intro p e R s m args below meth c Qf C F H locs cells slots ls hR hl hc hs hL
  exact lv_ineg C.exec C.bytes hd (k p e R s m args below meth c Qf C F H locs cells slots ls hR hl hc hs hL)
theorem R_ishl {Ω : Wd} {M : MD} {d r : Nat} {Q : Hp → Out → Prop} {pc : Nat} {L : List (Option Value)} {S : List Value} {h : Hp} {x y : Int32} {v : Int32} (hd : decode M.code pc = .ok (.ishl, 1)) (hv : x <<< (y &&& 31) = v) (k : At Ω M d r Q (pc + 1) L (.int v :: S) h) : At Ω M d r Q pc L (.int y :: .int x :: S) h := by
  intro p e R s m args below meth c Qf C F H locs cells slots ls hR hl hc hs hL
  exact lv_ishl C.exec C.bytes hd (hv ▸ (k p e R s m args below meth c Qf C F H locs cells slots ls hR hl hc hs hL))
theorem R_ishr {Ω : Wd} {M : MD} {d r : Nat} {Q : Hp → Out → Prop} {pc : Nat} {L : List (Option Value)} {S : List Value} {h : Hp} {x y : Int32} {v : Int32} (hd : decode M.code pc = .ok (.ishr, 1)) (hv : x >>> (y &&& 31) = v) (k : At Ω M d r Q (pc + 1) L (.int v :: S) h) : At Ω M d r Q pc L (.int y :: .int x :: S) h := by
  intro p e R s m args below meth c Qf C F H locs cells slots ls hR hl hc hs hL
  exact lv_ishr C.exec C.bytes hd (hv ▸ (k p e R s m args below meth c Qf C F H locs cells slots ls hR hl hc hs hL))
theorem R_iushr {Ω : Wd} {M : MD} {d r : Nat} {Q : Hp → Out → Prop} {pc : Nat} {L : List (Option Value)} {S : List Value} {h : Hp} {x y : Int32} {v : Int32} (hd : decode M.code pc = .ok (.iushr, 1)) (hv : (x.toUInt32 >>> (y.toUInt32 &&& Int32.toUInt32 31)).toInt32 = v) (k : At Ω M d r Q (pc + 1) L (.int v :: S) h) : At Ω M d r Q pc L (.int y :: .int x :: S) h := by
  intro p e R s m args below meth c Qf C F H locs cells slots ls hR hl hc hs hL
  exact lv_iushr C.exec C.bytes hd hv (k p e R s m args below meth c Qf C F H locs cells slots ls hR hl hc hs hL)
theorem R_ladd {Ω : Wd} {M : MD} {d r : Nat} {Q : Hp → Out → Prop} {pc : Nat} {L : List (Option Value)} {S : List Value} {h : Hp} {x y : Int64} (hd : decode M.code pc = .ok (.ladd, 1)) (k : At Ω M d r Q (pc + 1) L (.long (x + y) :: S) h) : At Ω M d r Q pc L (.long y :: .long x :: S) h := by
  intro p e R s m args below meth c Qf C F H locs cells slots ls hR hl hc hs hL
  exact lv_ladd C.exec C.bytes hd (k p e R s m args below meth c Qf C F H locs cells slots ls hR hl hc hs hL)
theorem R_lmul {Ω : Wd} {M : MD} {d r : Nat} {Q : Hp → Out → Prop} {pc : Nat} {L : List (Option Value)} {S : List Value} {h : Hp} {x y : Int64} (hd : decode M.code pc = .ok (.lmul, 1)) (k : At Ω M d r Q (pc + 1) L (.long (x * y) :: S) h) : At Ω M d r Q pc L (.long y :: .long x :: S) h := by
  intro p e R s m args below meth c Qf C F H locs cells slots ls hR hl hc hs hL
  exact lv_lmul C.exec C.bytes hd (k p e R s m args below meth c Qf C F H locs cells slots ls hR hl hc hs hL)
theorem R_i2l {Ω : Wd} {M : MD} {d r : Nat} {Q : Hp → Out → Prop} {pc : Nat} {L : List (Option Value)} {S : List Value} {h : Hp} {x : Int32} (hd : decode M.code pc = .ok (.i2l, 1)) (k : At Ω M d r Q (pc + 1) L (.long x.toInt64 :: S) h) : At Ω M d r Q pc L (.int x :: S) h := by
  intro p e R s m args below meth c Qf C F H locs cells slots ls hR hl hc hs hL
  exact lv_i2l C.exec C.bytes hd rfl (k p e R s m args below meth c Qf C F H locs cells slots ls hR hl hc hs hL)
theorem R_i2b {Ω : Wd} {M : MD} {d r : Nat} {Q : Hp → Out → Prop} {pc : Nat} {L : List (Option Value)} {S : List Value} {h : Hp} {x v : Int32} (hd : decode M.code pc = .ok (.i2b, 1)) (hv : x.toInt8.toInt32 = v) (k : At Ω M d r Q (pc + 1) L (.int v :: S) h) : At Ω M d r Q pc L (.int x :: S) h := by
  intro p e R s m args below meth c Qf C F H locs cells slots ls hR hl hc hs hL
  exact lv_i2b C.exec C.bytes hd hv (k p e R s m args below meth c Qf C F H locs cells slots ls hR hl hc hs hL)
theorem R_i2c {Ω : Wd} {M : MD} {d r : Nat} {Q : Hp → Out → Prop} {pc : Nat} {L : List (Option Value)} {S : List Value} {h : Hp} {x v : Int32} (hd : decode M.code pc = .ok (.i2c, 1)) (hv : (x.toUInt32 % 65536).toInt32 = v) (k : At Ω M d r Q (pc + 1) L (.int v :: S) h) : At Ω M d r Q pc L (.int x :: S) h := by
  intro p e R s m args below meth c Qf C F H locs cells slots ls hR hl hc hs hL
  exact lv_i2c C.exec C.bytes hd hv (k p e R s m args below meth c Qf C F H locs cells slots ls hR hl hc hs hL)
theorem R_i2f {Ω : Wd} {M : MD} {d r : Nat} {Q : Hp → Out → Prop} {pc : Nat} {L : List (Option Value)} {S : List Value} {h : Hp} {x : Int32} (hd : decode M.code pc = .ok (.i2f, 1)) (k : At Ω M d r Q (pc + 1) L (.float (FP.i2f x) :: S) h) : At Ω M d r Q pc L (.int x :: S) h := by
  intro p e R s m args below meth c Qf C F H locs cells slots ls hR hl hc hs hL
  exact lv_i2f C.exec C.bytes hd (k p e R s m args below meth c Qf C F H locs cells slots ls hR hl hc hs hL)
theorem R_i2d {Ω : Wd} {M : MD} {d r : Nat} {Q : Hp → Out → Prop} {pc : Nat} {L : List (Option Value)} {S : List Value} {h : Hp} {x : Int32} (hd : decode M.code pc = .ok (.i2d, 1)) (k : At Ω M d r Q (pc + 1) L (.double (FP.i2d x) :: S) h) : At Ω M d r Q pc L (.int x :: S) h := by
  intro p e R s m args below meth c Qf C F H locs cells slots ls hR hl hc hs hL
  exact lv_i2d C.exec C.bytes hd (k p e R s m args below meth c Qf C F H locs cells slots ls hR hl hc hs hL)
theorem R_l2d {Ω : Wd} {M : MD} {d r : Nat} {Q : Hp → Out → Prop} {pc : Nat} {L : List (Option Value)} {S : List Value} {h : Hp} {x : Int64} (hd : decode M.code pc = .ok (.l2d, 1)) (k : At Ω M d r Q (pc + 1) L (.double (FP.l2d x) :: S) h) : At Ω M d r Q pc L (.long x :: S) h := by
  intro p e R s m args below meth c Qf C F H locs cells slots ls hR hl hc hs hL
  exact lv_l2d C.exec C.bytes hd (k p e R s m args below meth c Qf C F H locs cells slots ls hR hl hc hs hL)
theorem R_fdiv {Ω : Wd} {M : MD} {d r : Nat} {Q : Hp → Out → Prop} {pc : Nat} {L : List (Option Value)} {S : List Value} {h : Hp} {x y : UInt32} (hd : decode M.code pc = .ok (.fdiv, 1)) (hne : vf_n32 (FP.fdiv x y)) (k : At Ω M d r Q (pc + 1) L (.float (FP.fdiv x y) :: S) h) : At Ω M d r Q pc L (.float y :: .float x :: S) h := by
  intro p e R s m args below meth c Qf C F H locs cells slots ls hR hl hc hs hL
  exact lv_fdiv C.exec C.bytes hd hne (k p e R s m args below meth c Qf C F H locs cells slots ls hR hl hc hs hL)
theorem R_ddiv {Ω : Wd} {M : MD} {d r : Nat} {Q : Hp → Out → Prop} {pc : Nat} {L : List (Option Value)} {S : List Value} {h : Hp} {x y : UInt64} (hd : decode M.code pc = .ok (.ddiv, 1)) (hne : vf_n64 (FP.ddiv x y)) (k : At Ω M d r Q (pc + 1) L (.double (FP.ddiv x y) :: S) h) : At Ω M d r Q pc L (.double y :: .double x :: S) h := by
  intro p e R s m args below meth c Qf C F H locs cells slots ls hR hl hc hs hL
  exact lv_ddiv C.exec C.bytes hd hne (k p e R s m args below meth c Qf C F H locs cells slots ls hR hl hc hs hL)
theorem R_dmul {Ω : Wd} {M : MD} {d r : Nat} {Q : Hp → Out → Prop} {pc : Nat} {L : List (Option Value)} {S : List Value} {h : Hp} {x y : UInt64} (hd : decode M.code pc = .ok (.dmul, 1)) (hne : vf_n64 (FP.dmul x y)) (k : At Ω M d r Q (pc + 1) L (.double (FP.dmul x y) :: S) h) : At Ω M d r Q pc L (.double y :: .double x :: S) h := by
  intro p e R s m args below meth c Qf C F H locs cells slots ls hR hl hc hs hL
  exact lv_dmul C.exec C.bytes hd hne (k p e R s m args below meth c Qf C F H locs cells slots ls hR hl hc hs hL)
theorem R_dsub {Ω : Wd} {M : MD} {d r : Nat} {Q : Hp → Out → Prop} {pc : Nat} {L : List (Option Value)} {S : List Value} {h : Hp} {x y : UInt64} (hd : decode M.code pc = .ok (.dsub, 1)) (hne : vf_n64 (FP.dsub x y)) (k : At Ω M d r Q (pc + 1) L (.double (FP.dsub x y) :: S) h) : At Ω M d r Q pc L (.double y :: .double x :: S) h := by
  intro p e R s m args below meth c Qf C F H locs cells slots ls hR hl hc hs hL
  exact lv_dsub C.exec C.bytes hd hne (k p e R s m args below meth c Qf C F H locs cells slots ls hR hl hc hs hL)
theorem R_fcmp {Ω : Wd} {M : MD} {d r : Nat} {Q : Hp → Out → Prop} {pc : Nat} {L : List (Option Value)} {S : List Value} {h : Hp} {x y : UInt32} {op : CmpOp} (hd : decode M.code pc = .ok (.fcmp op, 1)) (k : At Ω M d r Q (pc + 1) L (.int (Op.cmpValue (FP.fcmp x y) op) :: S) h) : At Ω M d r Q pc L (.float y :: .float x :: S) h := by
  intro p e R s m args below meth c Qf C F H locs cells slots ls hR hl hc hs hL
  exact lv_fcmp C.exec C.bytes hd (k p e R s m args below meth c Qf C F H locs cells slots ls hR hl hc hs hL)
theorem R_dcmp {Ω : Wd} {M : MD} {d r : Nat} {Q : Hp → Out → Prop} {pc : Nat} {L : List (Option Value)} {S : List Value} {h : Hp} {x y : UInt64} {op : CmpOp} (hd : decode M.code pc = .ok (.dcmp op, 1)) (k : At Ω M d r Q (pc + 1) L (.int (Op.cmpValue (FP.dcmp x y) op) :: S) h) : At Ω M d r Q pc L (.double y :: .double x :: S) h := by
  intro p e R s m args below meth c Qf C F H locs cells slots ls hR hl hc hs hL
  exact lv_dcmp C.exec C.bytes hd (k p e R s m args below meth c Qf C F H locs cells slots ls hR hl hc hs hL)
theorem R_dup {Ω : Wd} {M : MD} {d r : Nat} {Q : Hp → Out → Prop} {pc : Nat} {L : List (Option Value)} {S : List Value} {h : Hp} {v : Value} (hd : decode M.code pc = .ok (.dup, 1)) (hv : v.category = 1) (k : At Ω M d r Q (pc + 1) L (v :: v :: S) h) : At Ω M d r Q pc L (v :: S) h := by
  intro p e R s m args below meth c Qf C F H locs cells slots ls hR hl hc hs hL
  exact lv_dup C.exec C.bytes hd hv (k p e R s m args below meth c Qf C F H locs cells slots ls hR hl hc hs hL)
theorem R_pop {Ω : Wd} {M : MD} {d r : Nat} {Q : Hp → Out → Prop} {pc : Nat} {L : List (Option Value)} {S : List Value} {h : Hp} {v : Value} (hd : decode M.code pc = .ok (.pop, 1)) (hv : v.category = 1) (k : At Ω M d r Q (pc + 1) L (S) h) : At Ω M d r Q pc L (v :: S) h := by
  intro p e R s m args below meth c Qf C F H locs cells slots ls hR hl hc hs hL
  exact lv_pop C.exec C.bytes hd hv (k p e R s m args below meth c Qf C F H locs cells slots ls hR hl hc hs hL)
theorem R_dup_x1 {Ω : Wd} {M : MD} {d r : Nat} {Q : Hp → Out → Prop} {pc : Nat} {L : List (Option Value)} {S : List Value} {h : Hp} {v w : Value} (hd : decode M.code pc = .ok (.dup_x1, 1)) (hv : v.category = 1) (hw : w.category = 1) (k : At Ω M d r Q (pc + 1) L (v :: w :: v :: S) h) : At Ω M d r Q pc L (v :: w :: S) h := by
  intro p e R s m args below meth c Qf C F H locs cells slots ls hR hl hc hs hL
  exact lv_dup_x1 C.exec C.bytes hd hv hw (k p e R s m args below meth c Qf C F H locs cells slots ls hR hl hc hs hL)
theorem R_dup2 {Ω : Wd} {M : MD} {d r : Nat} {Q : Hp → Out → Prop} {pc : Nat} {L : List (Option Value)} {S : List Value} {h : Hp} {v w : Value} (hd : decode M.code pc = .ok (.dup2, 1)) (hv : v.category = 1) (hw : w.category = 1) (k : At Ω M d r Q (pc + 1) L (v :: w :: v :: w :: S) h) : At Ω M d r Q pc L (v :: w :: S) h := by
  intro p e R s m args below meth c Qf C F H locs cells slots ls hR hl hc hs hL
  exact lv_dup2_11 C.exec C.bytes hd hv hw (k p e R s m args below meth c Qf C F H locs cells slots ls hR hl hc hs hL)
theorem R_iconst {Ω : Wd} {M : MD} {d r : Nat} {Q : Hp → Out → Prop} {pc : Nat} {L : List (Option Value)} {S : List Value} {h : Hp} {n : Int} {v : Int32} (hd : decode M.code pc = .ok (.iconst n, 1)) (hv : Int32.ofInt n = v) (k : At Ω M d r Q (pc + 1) L (.int v :: S) h) : At Ω M d r Q pc L (S) h := by
  intro p e R s m args below meth c Qf C F H locs cells slots ls hR hl hc hs hL
  exact lv_iconst C.exec C.bytes hd hv (k p e R s m args below meth c Qf C F H locs cells slots ls hR hl hc hs hL)
theorem R_bipush {Ω : Wd} {M : MD} {d r : Nat} {Q : Hp → Out → Prop} {pc : Nat} {L : List (Option Value)} {S : List Value} {h : Hp} {n : Int} {v : Int32} (hd : decode M.code pc = .ok (.bipush n, 2)) (hv : (Int8.ofInt n).toInt32 = v) (k : At Ω M d r Q (pc + 2) L (.int v :: S) h) : At Ω M d r Q pc L (S) h := by
  intro p e R s m args below meth c Qf C F H locs cells slots ls hR hl hc hs hL
  exact lv_bipush C.exec C.bytes hd hv (k p e R s m args below meth c Qf C F H locs cells slots ls hR hl hc hs hL)
theorem R_sipush {Ω : Wd} {M : MD} {d r : Nat} {Q : Hp → Out → Prop} {pc : Nat} {L : List (Option Value)} {S : List Value} {h : Hp} {n : Int} {v : Int32} (hd : decode M.code pc = .ok (.sipush n, 3)) (hv : (Int16.ofInt n).toInt32 = v) (k : At Ω M d r Q (pc + 3) L (.int v :: S) h) : At Ω M d r Q pc L (S) h := by
  intro p e R s m args below meth c Qf C F H locs cells slots ls hR hl hc hs hL
  exact lv_sipush C.exec C.bytes hd hv (k p e R s m args below meth c Qf C F H locs cells slots ls hR hl hc hs hL)
theorem R_lconst {Ω : Wd} {M : MD} {d r : Nat} {Q : Hp → Out → Prop} {pc : Nat} {L : List (Option Value)} {S : List Value} {h : Hp} {n : Fin 2} {v : Int64} (hd : decode M.code pc = .ok (.lconst n, 1)) (hv : Int64.ofNat (n : Nat) = v) (k : At Ω M d r Q (pc + 1) L (.long v :: S) h) : At Ω M d r Q pc L (S) h := by
  intro p e R s m args below meth c Qf C F H locs cells slots ls hR hl hc hs hL
  exact lv_lconst C.exec C.bytes hd hv (k p e R s m args below meth c Qf C F H locs cells slots ls hR hl hc hs hL)
theorem R_dconst_0 {Ω : Wd} {M : MD} {d r : Nat} {Q : Hp → Out → Prop} {pc : Nat} {L : List (Option Value)} {S : List Value} {h : Hp} (hd : decode M.code pc = .ok (.dconst 0, 1)) (k : At Ω M d r Q (pc + 1) L (.double FP.dconst0 :: S) h) : At Ω M d r Q pc L (S) h := by
  intro p e R s m args below meth c Qf C F H locs cells slots ls hR hl hc hs hL
  exact lv_dconst0 C.exec C.bytes hd (k p e R s m args below meth c Qf C F H locs cells slots ls hR hl hc hs hL)
theorem R_dconst_1 {Ω : Wd} {M : MD} {d r : Nat} {Q : Hp → Out → Prop} {pc : Nat} {L : List (Option Value)} {S : List Value} {h : Hp} (hd : decode M.code pc = .ok (.dconst 1, 1)) (k : At Ω M d r Q (pc + 1) L (.double FP.dconst1 :: S) h) : At Ω M d r Q pc L (S) h := by
  intro p e R s m args below meth c Qf C F H locs cells slots ls hR hl hc hs hL
  exact lv_dconst1 C.exec C.bytes hd (k p e R s m args below meth c Qf C F H locs cells slots ls hR hl hc hs hL)
theorem R_null {Ω : Wd} {M : MD} {d r : Nat} {Q : Hp → Out → Prop} {pc : Nat} {L : List (Option Value)} {S : List Value} {h : Hp} (hd : decode M.code pc = .ok (.aconst_null, 1)) (k : At Ω M d r Q (pc + 1) L (.null :: S) h) : At Ω M d r Q pc L (S) h := by
  intro p e R s m args below meth c Qf C F H locs cells slots ls hR hl hc hs hL
  exact lv_null C.exec C.bytes hd (k p e R s m args below meth c Qf C F H locs cells slots ls hR hl hc hs hL)
theorem R_goto {Ω : Wd} {M : MD} {d r : Nat} {Q : Hp → Out → Prop} {pc : Nat} {L : List (Option Value)} {S : List Value} {h : Hp} {off : Int} {tgt : Nat} (hd : decode M.code pc = .ok (.goto off, 3)) (ht : (pc : Int) + off = (tgt : Int)) (k : At Ω M d r Q tgt L (S) h) : At Ω M d r Q pc L (S) h := by
  intro p e R s m args below meth c Qf C F H locs cells slots ls hR hl hc hs hL
  exact lv_goto C.exec C.bytes hd ht (k p e R s m args below meth c Qf C F H locs cells slots ls hR hl hc hs hL)
theorem R_castN {Ω : Wd} {M : MD} {d r : Nat} {Q : Hp → Out → Prop} {pc : Nat} {L : List (Option Value)} {S : List Value} {h : Hp} {i : Nat} (hd : decode M.code pc = .ok (.checkcast i, 3)) (k : At Ω M d r Q (pc + 3) L (.null :: S) h) : At Ω M d r Q pc L (.null :: S) h := by
  intro p e R s m args below meth c Qf C F H locs cells slots ls hR hl hc hs hL
  exact lv_castN C.exec C.bytes hd (k p e R s m args below meth c Qf C F H locs cells slots ls hR hl hc hs hL)
theorem R_iload_n {Ω : Wd} {M : MD} {d r : Nat} {Q : Hp → Out → Prop} {pc : Nat} {L : List (Option Value)} {S : List Value} {h : Hp} {j : Fin 4} {i : Nat} {x : Int32} (hd : decode M.code pc = .ok (.iload_n j, 1)) (hi : (j : Nat) = i) (hx : L[i]? = some (some (.int x))) (k : At Ω M d r Q (pc + 1) L (.int x :: S) h) : At Ω M d r Q pc L (S) h := by
  intro p e R s m args below meth c Qf C F H locs cells slots ls hR hl hc hs hL
  exact lv_iload_n C.exec C.bytes hd hi (hL.2.2 _ _ hx) (k p e R s m args below meth c Qf C F H locs cells slots ls hR hl hc hs hL)
theorem R_iload {Ω : Wd} {M : MD} {d r : Nat} {Q : Hp → Out → Prop} {pc : Nat} {L : List (Option Value)} {S : List Value} {h : Hp} {i : Nat} {x : Int32} (hd : decode M.code pc = .ok (.iload i, 2)) (hx : L[i]? = some (some (.int x))) (k : At Ω M d r Q (pc + 2) L (.int x :: S) h) : At Ω M d r Q pc L (S) h := by
  intro p e R s m args below meth c Qf C F H locs cells slots ls hR hl hc hs hL
  exact lv_iload C.exec C.bytes hd (hL.2.2 _ _ hx) (k p e R s m args below meth c Qf C F H locs cells slots ls hR hl hc hs hL)
theorem R_lload_n {Ω : Wd} {M : MD} {d r : Nat} {Q : Hp → Out → Prop} {pc : Nat} {L : List (Option Value)} {S : List Value} {h : Hp} {j : Fin 4} {i : Nat} {x : Int64} (hd : decode M.code pc = .ok (.lload_n j, 1)) (hi : (j : Nat) = i) (hx : L[i]? = some (some (.long x))) (k : At Ω M d r Q (pc + 1) L (.long x :: S) h) : At Ω M d r Q pc L (S) h := by
  intro p e R s m args below meth c Qf C F H locs cells slots ls hR hl hc hs hL
  exact lv_lload_n C.exec C.bytes hd hi (hL.2.2 _ _ hx) (k p e R s m args below meth c Qf C F H locs cells slots ls hR hl hc hs hL)
theorem R_lload {Ω : Wd} {M : MD} {d r : Nat} {Q : Hp → Out → Prop} {pc : Nat} {L : List (Option Value)} {S : List Value} {h : Hp} {i : Nat} {x : Int64} (hd : decode M.code pc = .ok (.lload i, 2)) (hx : L[i]? = some (some (.long x))) (k : At Ω M d r Q (pc + 2) L (.long x :: S) h) : At Ω M d r Q pc L (S) h := by
  intro p e R s m args below meth c Qf C F H locs cells slots ls hR hl hc hs hL
  exact lv_lload C.exec C.bytes hd (hL.2.2 _ _ hx) (k p e R s m args below meth c Qf C F H locs cells slots ls hR hl hc hs hL)
theorem R_fload_n {Ω : Wd} {M : MD} {d r : Nat} {Q : Hp → Out → Prop} {pc : Nat} {L : List (Option Value)} {S : List Value} {h : Hp} {j : Fin 4} {i : Nat} {x : UInt32} (hd : decode M.code pc = .ok (.fload_n j, 1)) (hi : (j : Nat) = i) (hx : L[i]? = some (some (.float x))) (k : At Ω M d r Q (pc + 1) L (.float x :: S) h) : At Ω M d r Q pc L (S) h := by
  intro p e R s m args below meth c Qf C F H locs cells slots ls hR hl hc hs hL
  exact lv_fload_n C.exec C.bytes hd hi (hL.2.2 _ _ hx) (k p e R s m args below meth c Qf C F H locs cells slots ls hR hl hc hs hL)
theorem R_fload {Ω : Wd} {M : MD} {d r : Nat} {Q : Hp → Out → Prop} {pc : Nat} {L : List (Option Value)} {S : List Value} {h : Hp} {i : Nat} {x : UInt32} (hd : decode M.code pc = .ok (.fload i, 2)) (hx : L[i]? = some (some (.float x))) (k : At Ω M d r Q (pc + 2) L (.float x :: S) h) : At Ω M d r Q pc L (S) h := by
  intro p e R s m args below meth c Qf C F H locs cells slots ls hR hl hc hs hL
  exact lv_fload C.exec C.bytes hd (hL.2.2 _ _ hx) (k p e R s m args below meth c Qf C F H locs cells slots ls hR hl hc hs hL)
theorem R_dload_n {Ω : Wd} {M : MD} {d r : Nat} {Q : Hp → Out → Prop} {pc : Nat} {L : List (Option Value)} {S : List Value} {h : Hp} {j : Fin 4} {i : Nat} {x : UInt64} (hd : decode M.code pc = .ok (.dload_n j, 1)) (hi : (j : Nat) = i) (hx : L[i]? = some (some (.double x))) (k : At Ω M d r Q (pc + 1) L (.double x :: S) h) : At Ω M d r Q pc L (S) h := by
  intro p e R s m args below meth c Qf C F H locs cells slots ls hR hl hc hs hL
  exact lv_dload_n C.exec C.bytes hd hi (hL.2.2 _ _ hx) (k p e R s m args below meth c Qf C F H locs cells slots ls hR hl hc hs hL)
theorem R_dload {Ω : Wd} {M : MD} {d r : Nat} {Q : Hp → Out → Prop} {pc : Nat} {L : List (Option Value)} {S : List Value} {h : Hp} {i : Nat} {x : UInt64} (hd : decode M.code pc = .ok (.dload i, 2)) (hx : L[i]? = some (some (.double x))) (k : At Ω M d r Q (pc + 2) L (.double x :: S) h) : At Ω M d r Q pc L (S) h := by
  intro p e R s m args below meth c Qf C F H locs cells slots ls hR hl hc hs hL
  exact lv_dload C.exec C.bytes hd (hL.2.2 _ _ hx) (k p e R s m args below meth c Qf C F H locs cells slots ls hR hl hc hs hL)
theorem R_aload_n {Ω : Wd} {M : MD} {d r : Nat} {Q : Hp → Out → Prop} {pc : Nat} {L : List (Option Value)} {S : List Value} {h : Hp} {j : Fin 4} {i : Nat} {v : Value} (hd : decode M.code pc = .ok (.aload_n j, 1)) (hi : (j : Nat) = i) (hx : L[i]? = some (some v)) (hv : isR v = true) (k : At Ω M d r Q (pc + 1) L (v :: S) h) : At Ω M d r Q pc L S h := by
  intro p e R s m args below meth c Qf C F H locs cells slots ls hR hl hc hs hL
  have K := k p e R s m args below meth c Qf C F H locs cells slots ls hR hl hc hs hL
  have hy := hL.2.2 _ _ hx
  cases v with
  | ref a => exact lv_aload_n C.exec C.bytes hd hi hy K
  | null => exact lv_aload_nN C.exec C.bytes hd hi hy K
  | _ => cases hv
theorem R_aload {Ω : Wd} {M : MD} {d r : Nat} {Q : Hp → Out → Prop} {pc : Nat} {L : List (Option Value)} {S : List Value} {h : Hp} {i : Nat} {v : Value} (hd : decode M.code pc = .ok (.aload i, 2)) (hx : L[i]? = some (some v)) (hv : isR v = true) (k : At Ω M d r Q (pc + 2) L (v :: S) h) : At Ω M d r Q pc L S h := by
  intro p e R s m args below meth c Qf C F H locs cells slots ls hR hl hc hs hL
  have K := k p e R s m args below meth c Qf C F H locs cells slots ls hR hl hc hs hL
  have hy := hL.2.2 _ _ hx
  cases v with
  | ref a => exact lv_aload C.exec C.bytes hd hy K
  | null => exact lv_aloadN C.exec C.bytes hd hy K
  | _ => cases hv
theorem R_istore_n {Ω : Wd} {M : MD} {d r : Nat} {Q : Hp → Out → Prop} {pc : Nat} {L L' : List (Option Value)} {S : List Value} {h : Hp} {j : Fin 4} {i : Nat} {x : Int32} (hd : decode M.code pc = .ok (.istore_n j, 1)) (hi : (j : Nat) = i) (hn : i < M.maxL) (hk : okSt L i = true) (he : L.set i (some (.int x)) = L') (k : At Ω M d r Q (pc + 1) L' S h) : At Ω M d r Q pc L (.int x :: S) h := by
  intro p e R s m args below meth c Qf C F H locs cells slots ls hR hl hc hs hL
  subst he
  exact lv_istore_n C.exec C.bytes hd hi (lvOf_has hL) hn rfl (fun ls hls => k p e R s m args below meth c Qf C F H locs cells slots ls hR hl hc hs (LR.st1 hL hk rfl (hls : lv_has ls M.maxL _)))
theorem R_istore {Ω : Wd} {M : MD} {d r : Nat} {Q : Hp → Out → Prop} {pc : Nat} {L L' : List (Option Value)} {S : List Value} {h : Hp} {i : Nat} {x : Int32} (hd : decode M.code pc = .ok (.istore i, 2)) (hn : i < M.maxL) (hk : okSt L i = true) (he : L.set i (some (.int x)) = L') (k : At Ω M d r Q (pc + 2) L' S h) : At Ω M d r Q pc L (.int x :: S) h := by
  intro p e R s m args below meth c Qf C F H locs cells slots ls hR hl hc hs hL
  subst he
  exact lv_istore C.exec C.bytes hd (lvOf_has hL) hn rfl (fun ls hls => k p e R s m args below meth c Qf C F H locs cells slots ls hR hl hc hs (LR.st1 hL hk rfl (hls : lv_has ls M.maxL _)))
theorem R_lstore_n {Ω : Wd} {M : MD} {d r : Nat} {Q : Hp → Out → Prop} {pc : Nat} {L L' : List (Option Value)} {S : List Value} {h : Hp} {j : Fin 4} {i : Nat} {x : Int64} (hd : decode M.code pc = .ok (.lstore_n j, 1)) (hi : (j : Nat) = i) (hn : i + 1 < M.maxL) (hk : okSt L i = true) (he : (L.set i (some (.long x))).set (i + 1) none = L') (k : At Ω M d r Q (pc + 1) L' S h) : At Ω M d r Q pc L (.long x :: S) h := by
  intro p e R s m args below meth c Qf C F H locs cells slots ls hR hl hc hs hL
  subst he
  exact lv_lstore_n C.exec C.bytes hd hi (lvOf_has hL) hn rfl (fun ls hls => k p e R s m args below meth c Qf C F H locs cells slots ls hR hl hc hs (LR.st2 hL hk rfl (hls : lv_has ls M.maxL _)))
theorem R_lstore {Ω : Wd} {M : MD} {d r : Nat} {Q : Hp → Out → Prop} {pc : Nat} {L L' : List (Option Value)} {S : List Value} {h : Hp} {i : Nat} {x : Int64} (hd : decode M.code pc = .ok (.lstore i, 2)) (hn : i + 1 < M.maxL) (hk : okSt L i = true) (he : (L.set i (some (.long x))).set (i + 1) none = L') (k : At Ω M d r Q (pc + 2) L' S h) : At Ω M d r Q pc L (.long x :: S) h := by
  intro p e R s m args below meth c Qf C F H locs cells slots ls hR hl hc hs hL
  subst he
  exact lv_lstore C.exec C.bytes hd (lvOf_has hL) hn rfl (fun ls hls => k p e R s m args below meth c Qf C F H locs cells slots ls hR hl hc hs (LR.st2 hL hk rfl (hls : lv_has ls M.maxL _)))
theorem R_fstore_n {Ω : Wd} {M : MD} {d r : Nat} {Q : Hp → Out → Prop} {pc : Nat} {L L' : List (Option Value)} {S : List Value} {h : Hp} {j : Fin 4} {i : Nat} {x : UInt32} (hd : decode M.code pc = .ok (.fstore_n j, 1)) (hi : (j : Nat) = i) (hn : i < M.maxL) (hk : okSt L i = true) (he : L.set i (some (.float x)) = L') (k : At Ω M d r Q (pc + 1) L' S h) : At Ω M d r Q pc L (.float x :: S) h := by
  intro p e R s m args below meth c Qf C F H locs cells slots ls hR hl hc hs hL
  subst he
  exact lv_fstore_n C.exec C.bytes hd hi (lvOf_has hL) hn rfl (fun ls hls => k p e R s m args below meth c Qf C F H locs cells slots ls hR hl hc hs (LR.st1 hL hk rfl (hls : lv_has ls M.maxL _)))
theorem R_fstore {Ω : Wd} {M : MD} {d r : Nat} {Q : Hp → Out → Prop} {pc : Nat} {L L' : List (Option Value)} {S : List Value} {h : Hp} {i : Nat} {x : UInt32} (hd : decode M.code pc = .ok (.fstore i, 2)) (hn : i < M.maxL) (hk : okSt L i = true) (he : L.set i (some (.float x)) = L') (k : At Ω M d r Q (pc + 2) L' S h) : At Ω M d r Q pc L (.float x :: S) h := by
  intro p e R s m args below meth c Qf C F H locs cells slots ls hR hl hc hs hL
  subst he
  exact lv_fstore C.exec C.bytes hd (lvOf_has hL) hn rfl (fun ls hls => k p e R s m args below meth c Qf C F H locs cells slots ls hR hl hc hs (LR.st1 hL hk rfl (hls : lv_has ls M.maxL _)))
theorem R_dstore_n {Ω : Wd} {M : MD} {d r : Nat} {Q : Hp → Out → Prop} {pc : Nat} {L L' : List (Option Value)} {S : List Value} {h : Hp} {j : Fin 4} {i : Nat} {x : UInt64} (hd : decode M.code pc = .ok (.dstore_n j, 1)) (hi : (j : Nat) = i) (hn : i + 1 < M.maxL) (hk : okSt L i = true) (he : (L.set i (some (.double x))).set (i + 1) none = L') (k : At Ω M d r Q (pc + 1) L' S h) : At Ω M d r Q pc L (.double x :: S) h := by
  intro p e R s m args below meth c Qf C F H locs cells slots ls hR hl hc hs hL
  subst he
  exact lv_dstore_n C.exec C.bytes hd hi (lvOf_has hL) hn rfl (fun ls hls => k p e R s m args below meth c Qf C F H locs cells slots ls hR hl hc hs (LR.st2 hL hk rfl (hls : lv_has ls M.maxL _)))
theorem R_dstore {Ω : Wd} {M : MD} {d r : Nat} {Q : Hp → Out → Prop} {pc : Nat} {L L' : List (Option Value)} {S : List Value} {h : Hp} {i : Nat} {x : UInt64} (hd : decode M.code pc = .ok (.dstore i, 2)) (hn : i + 1 < M.maxL) (hk : okSt L i = true) (he : (L.set i (some (.double x))).set (i + 1) none = L') (k : At Ω M d r Q (pc + 2) L' S h) : At Ω M d r Q pc L (.double x :: S) h := by
  intro p e R s m args below meth c Qf C F H locs cells slots ls hR hl hc hs hL
  subst he
  exact lv_dstore C.exec C.bytes hd (lvOf_has hL) hn rfl (fun ls hls => k p e R s m args below meth c Qf C F H locs cells slots ls hR hl hc hs (LR.st2 hL hk rfl (hls : lv_has ls M.maxL _)))
theorem R_astore_n {Ω : Wd} {M : MD} {d r : Nat} {Q : Hp → Out → Prop} {pc : Nat} {L L' : List (Option Value)} {S : List Value} {h : Hp} {j : Fin 4} {i : Nat} {v : Value} (hd : decode M.code pc = .ok (.astore_n j, 1)) (hi : (j : Nat) = i) (hv : isR v = true) (hn : i < M.maxL) (hk : okSt L i = true) (he : L.set i (some v) = L') (k : At Ω M d r Q (pc + 1) L' S h) : At Ω M d r Q pc L (v :: S) h := by
  intro p e R s m args below meth c Qf C F H locs cells slots ls hR hl hc hs hL
  subst he
  cases v with
  | ref a => exact lv_astore_n C.exec C.bytes hd hi (lvOf_has hL) hn rfl (fun ls hls => k p e R s m args below meth c Qf C F H locs cells slots ls hR hl hc hs (LR.st1 hL hk rfl (hls : lv_has ls M.maxL _)))
  | null => exact lv_astore_nN C.exec C.bytes hd hi (lvOf_has hL) hn rfl (fun ls hls => k p e R s m args below meth c Qf C F H locs cells slots ls hR hl hc hs (LR.st1 hL hk rfl (hls : lv_has ls M.maxL _)))
  | _ => cases hv
theorem R_astore {Ω : Wd} {M : MD} {d r : Nat} {Q : Hp → Out → Prop} {pc : Nat} {L L' : List (Option Value)} {S : List Value} {h : Hp} {i : Nat} {v : Value} (hd : decode M.code pc = .ok (.astore i, 2)) (hv : isR v = true) (hn : i < M.maxL) (hk : okSt L i = true) (he : L.set i (some v) = L') (k : At Ω M d r Q (pc + 2) L' S h) : At Ω M d r Q pc L (v :: S) h := by
  intro p e R s m args below meth c Qf C F H locs cells slots ls hR hl hc hs hL
  subst he
  cases v with
  | ref a => exact lv_astore C.exec C.bytes hd (lvOf_has hL) hn rfl (fun ls hls => k p e R s m args below meth c Qf C F H locs cells slots ls hR hl hc hs (LR.st1 hL hk rfl (hls : lv_has ls M.maxL _)))
  | null => exact lv_astoreN C.exec C.bytes hd (lvOf_has hL) hn rfl (fun ls hls => k p e R s m args below meth c Qf C F H locs cells slots ls hR hl hc hs (LR.st1 hL hk rfl (hls : lv_has ls M.maxL _)))
  | _ => cases hv
theorem R_iinc {Ω : Wd} {M : MD} {d r : Nat} {Q : Hp → Out → Prop} {pc : Nat} {L L' : List (Option Value)} {S : List Value} {h : Hp} {i : Nat} {n : Int} {x v : Int32} (hd : decode M.code pc = .ok (.iinc i n, 3)) (hx : L[i]? = some (some (.int x))) (hv : x + Int32.ofInt n = v) (hn : i < M.maxL) (hk : okSt L i = true) (he : L.set i (some (.int v)) = L') (k : At Ω M d r Q (pc + 3) L' S h) : At Ω M d r Q pc L S h := by
  intro p e R s m args below meth c Qf C F H locs cells slots ls hR hl hc hs hL
  subst he
  refine lv_iinc (k := 0) (lv := (i, .int x) :: lvOf 0 L) C.exec C.bytes hd ⟨hL.1, hL.2.1, fun q hq => ?_⟩ rfl hv hn rfl (fun ls hls => k p e R s m args below meth c Qf C F H locs cells slots ls hR hl hc hs (LR.st1 hL hk rfl ⟨hls.1, hls.2.1, fun q hq => hls.2.2 q ?_⟩))
  · rcases List.mem_cons.mp hq with e | e
    · rw [e]; exact hL.2.2 _ _ hx
    · exact (lvOf_has hL).2.2 q e
  · rcases List.mem_cons.mp hq with e | e
    · rw [e]; exact List.mem_cons_self
    · refine List.mem_cons_of_mem _ ?_
      rw [List.filter_cons]
      split
      · exact List.mem_cons_of_mem _ e
      · exact e
theorem R_if_eq {Ω : Wd} {M : MD} {d r : Nat} {Q : Hp → Out → Prop} {pc : Nat} {L : List (Option Value)} {S : List Value} {h : Hp} {x : Int32} {off : Int} {tgt : Nat} (hd : decode M.code pc = .ok (.ifCond .eq off, 3)) (ht : (pc : Int) + off = (tgt : Int)) (kt : x = 0 → At Ω M d r Q tgt L S h) (kf : ¬ x = 0 → At Ω M d r Q (pc + 3) L S h) : At Ω M d r Q pc L (.int x :: S) h := by
  intro p e R s m args below meth c Qf C F H locs cells slots ls hR hl hc hs hL
  exact lv_if_eq C.exec C.bytes hd ht (fun z => kt z p e R s m args below meth c Qf C F H locs cells slots ls hR hl hc hs hL) (fun z => kf z p e R s m args below meth c Qf C F H locs cells slots ls hR hl hc hs hL)
theorem R_icmp_eq {Ω : Wd} {M : MD} {d r : Nat} {Q : Hp → Out → Prop} {pc : Nat} {L : List (Option Value)} {S : List Value} {h : Hp} {x y : Int32} {off : Int} {tgt : Nat} (hd : decode M.code pc = .ok (.if_icmp .eq off, 3)) (ht : (pc : Int) + off = (tgt : Int)) (kt : x = y → At Ω M d r Q tgt L S h) (kf : ¬ x = y → At Ω M d r Q (pc + 3) L S h) : At Ω M d r Q pc L (.int y :: .int x :: S) h := by
  intro p e R s m args below meth c Qf C F H locs cells slots ls hR hl hc hs hL
  exact lv_icmp_eq C.exec C.bytes hd ht (fun z => kt z p e R s m args below meth c Qf C F H locs cells slots ls hR hl hc hs hL) (fun z => kf z p e R s m args below meth c Qf C F H locs cells slots ls hR hl hc hs hL)
theorem R_if_ne {Ω : Wd} {M : MD} {d r : Nat} {Q : Hp → Out → Prop} {pc : Nat} {L : List (Option Value)} {S : List Value} {h : Hp} {x : Int32} {off : Int} {tgt : Nat} (hd : decode M.code pc = .ok (.ifCond .ne off, 3)) (ht : (pc : Int) + off = (tgt : Int)) (kt : ¬ x = 0 → At Ω M d r Q tgt L S h) (kf : x = 0 → At Ω M d r Q (pc + 3) L S h) : At Ω M d r Q pc L (.int x :: S) h := by
  intro p e R s m args below meth c Qf C F H locs cells slots ls hR hl hc hs hL
  exact lv_if_ne C.exec C.bytes hd ht (fun z => kt z p e R s m args below meth c Qf C F H locs cells slots ls hR hl hc hs hL) (fun z => kf z p e R s m args below meth c Qf C F H locs cells slots ls hR hl hc hs hL)
theorem R_icmp_ne {Ω : Wd} {M : MD} {d r : Nat} {Q : Hp → Out → Prop} {pc : Nat} {L : List (Option Value)} {S : List Value} {h : Hp} {x y : Int32} {off : Int} {tgt : Nat} (hd : decode M.code pc = .ok (.if_icmp .ne off, 3)) (ht : (pc : Int) + off = (tgt : Int)) (kt : ¬ x = y → At Ω M d r Q tgt L S h) (kf : x = y → At Ω M d r Q (pc + 3) L S h) : At Ω M d r Q pc L (.int y :: .int x :: S) h := by
  intro p e R s m args below meth c Qf C F H locs cells slots ls hR hl hc hs hL
  exact lv_icmp_ne C.exec C.bytes hd ht (fun z => kt z p e R s m args below meth c Qf C F H locs cells slots ls hR hl hc hs hL) (fun z => kf z p e R s m args below meth c Qf C F H locs cells slots ls hR hl hc hs hL)
theorem R_if_lt {Ω : Wd} {M : MD} {d r : Nat} {Q : Hp → Out → Prop} {pc : Nat} {L : List (Option Value)} {S : List Value} {h : Hp} {x : Int32} {off : Int} {tgt : Nat} (hd : decode M.code pc = .ok (.ifCond .lt off, 3)) (ht : (pc : Int) + off = (tgt : Int)) (kt : x < 0 → At Ω M d r Q tgt L S h) (kf : ¬ x < 0 → At Ω M d r Q (pc + 3) L S h) : At Ω M d r Q pc L (.int x :: S) h := by
  intro p e R s m args below meth c Qf C F H locs cells slots ls hR hl hc hs hL
  exact lv_if_lt C.exec C.bytes hd ht (fun z => kt z p e R s m args below meth c Qf C F H locs cells slots ls hR hl hc hs hL) (fun z => kf z p e R s m args below meth c Qf C F H locs cells slots ls hR hl hc hs hL)
theorem R_icmp_lt {Ω : Wd} {M : MD} {d r : Nat} {Q : Hp → Out → Prop} {pc : Nat} {L : List (Option Value)} {S : List Value} {h : Hp} {x y : Int32} {off : Int} {tgt : Nat} (hd : decode M.code pc = .ok (.if_icmp .lt off, 3)) (ht : (pc : Int) + off = (tgt : Int)) (kt : x < y → At Ω M d r Q tgt L S h) (kf : ¬ x < y → At Ω M d r Q (pc + 3) L S h) : At Ω M d r Q pc L (.int y :: .int x :: S) h := by
  intro p e R s m args below meth c Qf C F H locs cells slots ls hR hl hc hs hL
  exact lv_icmp_lt C.exec C.bytes hd ht (fun z => kt z p e R s m args below meth c Qf C F H locs cells slots ls hR hl hc hs hL) (fun z => kf z p e R s m args below meth c Qf C F H locs cells slots ls hR hl hc hs hL)
theorem R_if_ge {Ω : Wd} {M : MD} {d r : Nat} {Q : Hp → Out → Prop} {pc : Nat} {L : List (Option Value)} {S : List Value} {h : Hp} {x : Int32} {off : Int} {tgt : Nat} (hd : decode M.code pc = .ok (.ifCond .ge off, 3)) (ht : (pc : Int) + off = (tgt : Int)) (kt : 0 ≤ x → At Ω M d r Q tgt L S h) (kf : ¬ 0 ≤ x → At Ω M d r Q (pc + 3) L S h) : At Ω M d r Q pc L (.int x :: S) h := by
  intro p e R s m args below meth c Qf C F H locs cells slots ls hR hl hc hs hL
  exact lv_if_ge C.exec C.bytes hd ht (fun z => kt z p e R s m args below meth c Qf C F H locs cells slots ls hR hl hc hs hL) (fun z => kf z p e R s m args below meth c Qf C F H locs cells slots ls hR hl hc hs hL)
theorem R_icmp_ge {Ω : Wd} {M : MD} {d r : Nat} {Q : Hp → Out → Prop} {pc : Nat} {L : List (Option Value)} {S : List Value} {h : Hp} {x y : Int32} {off : Int} {tgt : Nat} (hd : decode M.code pc = .ok (.if_icmp .ge off, 3)) (ht : (pc : Int) + off = (tgt : Int)) (kt : y ≤ x → At Ω M d r Q tgt L S h) (kf : ¬ y ≤ x → At Ω M d r Q (pc + 3) L S h) : At Ω M d r Q pc L (.int y :: .int x :: S) h := by
  intro p e R s m args below meth c Qf C F H locs cells slots ls hR hl hc hs hL
  exact lv_icmp_ge C.exec C.bytes hd ht (fun z => kt z p e R s m args below meth c Qf C F H locs cells slots ls hR hl hc hs hL) (fun z => kf z p e R s m args below meth c Qf C F H locs cells slots ls hR hl hc hs hL)
theorem R_if_gt {Ω : Wd} {M : MD} {d r : Nat} {Q : Hp → Out → Prop} {pc : Nat} {L : List (Option Value)} {S : List Value} {h : Hp} {x : Int32} {off : Int} {tgt : Nat} (hd : decode M.code pc = .ok (.ifCond .gt off, 3)) (ht : (pc : Int) + off = (tgt : Int)) (kt : 0 < x → At Ω M d r Q tgt L S h) (kf : ¬ 0 < x → At Ω M d r Q (pc + 3) L S h) : At Ω M d r Q pc L (.int x :: S) h := by
  intro p e R s m args below meth c Qf C F H locs cells slots ls hR hl hc hs hL
  exact lv_if_gt C.exec C.bytes hd ht (fun z => kt z p e R s m args below meth c Qf C F H locs cells slots ls hR hl hc hs hL) (fun z => kf z p e R s m args below meth c Qf C F H locs cells slots ls hR hl hc hs hL)
theorem R_icmp_gt {Ω : Wd} {M : MD} {d r : Nat} {Q : Hp → Out → Prop} {pc : Nat} {L : List (Option Value)} {S : List Value} {h : Hp} {x y : Int32} {off : Int} {tgt : Nat} (hd : decode M.code pc = .ok (.if_icmp .gt off, 3)) (ht : (pc : Int) + off = (tgt : Int)) (kt : y < x → At Ω M d r Q tgt L S h) (kf : ¬ y < x → At Ω M d r Q (pc + 3) L S h) : At Ω M d r Q pc L (.int y :: .int x :: S) h := by
  intro p e R s m args below meth c Qf C F H locs cells slots ls hR hl hc hs hL
  exact lv_icmp_gt C.exec C.bytes hd ht (fun z => kt z p e R s m args below meth c Qf C F H locs cells slots ls hR hl hc hs hL) (fun z => kf z p e R s m args below meth c Qf C F H locs cells slots ls hR hl hc hs hL)
theorem R_if_le {Ω : Wd} {M : MD} {d r : Nat} {Q : Hp → Out → Prop} {pc : Nat} {L : List (Option Value)} {S : List Value} {h : Hp} {x : Int32} {off : Int} {tgt : Nat} (hd : decode M.code pc = .ok (.ifCond .le off, 3)) (ht : (pc : Int) + off = (tgt : Int)) (kt : x ≤ 0 → At Ω M d r Q tgt L S h) (kf : ¬ x ≤ 0 → At Ω M d r Q (pc + 3) L S h) : At Ω M d r Q pc L (.int x :: S) h := by
  intro p e R s m args below meth c Qf C F H locs cells slots ls hR hl hc hs hL
  exact lv_if_le C.exec C.bytes hd ht (fun z => kt z p e R s m args below meth c Qf C F H locs cells slots ls hR hl hc hs hL) (fun z => kf z p e R s m args below meth c Qf C F H locs cells slots ls hR hl hc hs hL)
theorem R_icmp_le {Ω : Wd} {M : MD} {d r : Nat} {Q : Hp → Out → Prop} {pc : Nat} {L : List (Option Value)} {S : List Value} {h : Hp} {x y : Int32} {off : Int} {tgt : Nat} (hd : decode M.code pc = .ok (.if_icmp .le off, 3)) (ht : (pc : Int) + off = (tgt : Int)) (kt : x ≤ y → At Ω M d r Q tgt L S h) (kf : ¬ x ≤ y → At Ω M d r Q (pc + 3) L S h) : At Ω M d r Q pc L (.int y :: .int x :: S) h := by
  intro p e R s m args below meth c Qf C F H locs cells slots ls hR hl hc hs hL
  exact lv_icmp_le C.exec C.bytes hd ht (fun z => kt z p e R s m args below meth c Qf C F H locs cells slots ls hR hl hc hs hL) (fun z => kf z p e R s m args below meth c Qf C F H locs cells slots ls hR hl hc hs hL)
theorem R_ifnull_r {Ω : Wd} {M : MD} {d r : Nat} {Q : Hp → Out → Prop} {pc : Nat} {L : List (Option Value)} {S : List Value} {h : Hp} {a : Nat} {off : Int} (hd : decode M.code pc = .ok (.ifnull off, 3)) (k : At Ω M d r Q (pc + 3) L S h) : At Ω M d r Q pc L (.ref a :: S) h := by
  intro p e R s m args below meth c Qf C F H locs cells slots ls hR hl hc hs hL
  exact lv_ifnull C.exec C.bytes hd (k p e R s m args below meth c Qf C F H locs cells slots ls hR hl hc hs hL)
theorem R_ifnonnull_n {Ω : Wd} {M : MD} {d r : Nat} {Q : Hp → Out → Prop} {pc : Nat} {L : List (Option Value)} {S : List Value} {h : Hp} {off : Int} (hd : decode M.code pc = .ok (.ifnonnull off, 3)) (k : At Ω M d r Q (pc + 3) L S h) : At Ω M d r Q pc L (.null :: S) h := by
  intro p e R s m args below meth c Qf C F H locs cells slots ls hR hl hc hs hL
  exact lv_ifnonnullN C.exec C.bytes hd (k p e R s m args below meth c Qf C F H locs cells slots ls hR hl hc hs hL)
theorem R_ifnull_n {Ω : Wd} {M : MD} {d r : Nat} {Q : Hp → Out → Prop} {pc : Nat} {L : List (Option Value)} {S : List Value} {h : Hp} {off : Int} {tgt : Nat} (hd : decode M.code pc = .ok (.ifnull off, 3)) (ht : (pc : Int) + off = (tgt : Int)) (k : At Ω M d r Q tgt L S h) : At Ω M d r Q pc L (.null :: S) h := by
  intro p e R s m args below meth c Qf C F H locs cells slots ls hR hl hc hs hL
  exact lv_ifnullN C.exec C.bytes hd ht (k p e R s m args below meth c Qf C F H locs cells slots ls hR hl hc hs hL)
theorem R_ifnonnull_r {Ω : Wd} {M : MD} {d r : Nat} {Q : Hp → Out → Prop} {pc : Nat} {L : List (Option Value)} {S : List Value} {h : Hp} {a : Nat} {off : Int} {tgt : Nat} (hd : decode M.code pc = .ok (.ifnonnull off, 3)) (ht : (pc : Int) + off = (tgt : Int)) (k : At Ω M d r Q tgt L S h) : At Ω M d r Q pc L (.ref a :: S) h := by
  intro p e R s m args below meth c Qf C F H locs cells slots ls hR hl hc hs hL
  exact lv_ifnonnull C.exec C.bytes hd ht (k p e R s m args below meth c Qf C F H locs cells slots ls hR hl hc hs hL)
theorem R_acmp_eq {Ω : Wd} {M : MD} {d r : Nat} {Q : Hp → Out → Prop} {pc : Nat} {L : List (Option Value)} {S : List Value} {h : Hp} {v w : Value} {off : Int} {tgt : Nat} (hd : decode M.code pc = .ok (.if_acmp .eq off, 3)) (hv : isR v = true) (hw : isR w = true) (ht : (pc : Int) + off = (tgt : Int)) (kt : v = w → At Ω M d r Q tgt L S h) (kf : ¬ v = w → At Ω M d r Q (pc + 3) L S h) : At Ω M d r Q pc L (w :: v :: S) h := by
  intro p e R s m args below meth c Qf C F H locs cells slots ls hR hl hc hs hL
  obtain ⟨rv, rfl⟩ := isR.rf hv
  obtain ⟨rw', rfl⟩ := isR.rf hw
  exact lv_acmp_eq C.exec C.bytes hd ht (fun z => kt (congrArg va_rf z) p e R s m args below meth c Qf C F H locs cells slots ls hR hl hc hs hL) (fun z => kf (fun q => z (va_rf_inj q)) p e R s m args below meth c Qf C F H locs cells slots ls hR hl hc hs hL)
theorem R_acmp_ne {Ω : Wd} {M : MD} {d r : Nat} {Q : Hp → Out → Prop} {pc : Nat} {L : List (Option Value)} {S : List Value} {h : Hp} {v w : Value} {off : Int} {tgt : Nat} (hd : decode M.code pc = .ok (.if_acmp .ne off, 3)) (hv : isR v = true) (hw : isR w = true) (ht : (pc : Int) + off = (tgt : Int)) (kt : ¬ v = w → At Ω M d r Q tgt L S h) (kf : v = w → At Ω M d r Q (pc + 3) L S h) : At Ω M d r Q pc L (w :: v :: S) h := by
  intro p e R s m args below meth c Qf C F H locs cells slots ls hR hl hc hs hL
  obtain ⟨rv, rfl⟩ := isR.rf hv
  obtain ⟨rw', rfl⟩ := isR.rf hw
  exact lv_acmp_ne C.exec C.bytes hd ht (fun z => kt (fun q => z (va_rf_inj q)) p e R s m args below meth c Qf C F H locs cells slots ls hR hl hc hs hL) (fun z => kf (congrArg va_rf z) p e R s m args below meth c Qf C F H locs cells slots ls hR hl hc hs hL)
theorem R_ldc {Ω : Wd} {M : MD} {d r : Nat} {Q : Hp → Out → Prop} {pc : Nat} {L : List (Option Value)} {S : List Value} {h : Hp} {i : Nat} {v : Int32} (hd : decode M.code pc = .ok (.ldc i, 2)) (hq : Cond.constant M.y.cls i v ∈ lw_all) (k : At Ω M d r Q (pc + 2) L (.int v :: S) h) : At Ω M d r Q pc L S h := by
  intro p e R s m args below meth c Qf C F H locs cells slots ls hR hl hc hs hL
  exact lv_ldc C.exec C.bytes C.owns (C.words _ hq) hd (k p e R s m args below meth c Qf C F H locs cells slots ls hR hl hc hs hL)
theorem R_ldcf {Ω : Wd} {M : MD} {d r : Nat} {Q : Hp → Out → Prop} {pc : Nat} {L : List (Option Value)} {S : List Value} {h : Hp} {i : Nat} {v : UInt32} (hd : decode M.code pc = .ok (.ldc i, 2)) (hq : Cond.constantFloat M.y.cls i v ∈ lw_all) (k : At Ω M d r Q (pc + 2) L (.float v :: S) h) : At Ω M d r Q pc L S h := by
  intro p e R s m args below meth c Qf C F H locs cells slots ls hR hl hc hs hL
  exact lv_ldcf C.exec C.bytes C.owns (C.words _ hq) hd (k p e R s m args below meth c Qf C F H locs cells slots ls hR hl hc hs hL)
theorem R_ldc2 {Ω : Wd} {M : MD} {d r : Nat} {Q : Hp → Out → Prop} {pc : Nat} {L : List (Option Value)} {S : List Value} {h : Hp} {i : Nat} {v : Int64} (hd : decode M.code pc = .ok (.ldc2_w i, 3)) (hq : Cond.constantLong M.y.cls i v ∈ lw_all) (k : At Ω M d r Q (pc + 3) L (.long v :: S) h) : At Ω M d r Q pc L S h := by
  intro p e R s m args below meth c Qf C F H locs cells slots ls hR hl hc hs hL
  exact lv_ldc2 C.exec C.bytes C.owns (C.words _ hq) hd (k p e R s m args below meth c Qf C F H locs cells slots ls hR hl hc hs hL)
theorem R_ldc2d {Ω : Wd} {M : MD} {d r : Nat} {Q : Hp → Out → Prop} {pc : Nat} {L : List (Option Value)} {S : List Value} {h : Hp} {i : Nat} {v : UInt64} (hd : decode M.code pc = .ok (.ldc2_w i, 3)) (hq : Cond.constantDouble M.y.cls i v ∈ lw_all) (k : At Ω M d r Q (pc + 3) L (.double v :: S) h) : At Ω M d r Q pc L S h := by
  intro p e R s m args below meth c Qf C F H locs cells slots ls hR hl hc hs hL
  exact lv_ldc2d C.exec C.bytes C.owns (C.words _ hq) hd (k p e R s m args below meth c Qf C F H locs cells slots ls hR hl hc hs hL)

