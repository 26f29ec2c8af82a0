/-! ===== MM: rules of the instructions that leave the heap alone (printed by gen/mkops.py) ===== -/
set_option maxRecDepth 100000
theorem zw_cons {n : Nat} {v : Value} {st : List Value} (hv : zw n v) (h : ∀ v ∈ st, zw n v) : ∀ w ∈ v :: st, zw n w := List.forall_mem_cons.mpr ⟨hv, h⟩
theorem zw_tl {n : Nat} {v : Value} {st : List Value} (h : ∀ w ∈ v :: st, zw n w) : ∀ w ∈ st, zw n w := (List.forall_mem_cons.mp h).2
theorem zw_hd {n : Nat} {v : Value} {st : List Value} (h : ∀ w ∈ v :: st, zw n w) : zw n v := (List.forall_mem_cons.mp h).1
section ZO
variable {G : zG} {y : zY} {d pc : Nat} {lv : List (Nat × Value)} {st : List Value} {h : zH} {Q : zO → zH → Prop}
theorem zV_iconst {n : Int} (dec : decode (yC y) pc = .ok (.iconst n, 1)) (k : zV G y d (pc + 1) lv (.int (Int32.ofInt n) :: st) h Q) : zV G y d pc lv (st) h Q :=
  zV.pure (fun w1 w2 => ⟨(zw_cons zw_int w1), w2⟩) (fun hX hl kk => lv_iconst hX.1 hX.2.1 dec rfl (kk _ hl)) k
theorem zV_bipush {n : Int} (dec : decode (yC y) pc = .ok (.bipush n, 2)) (k : zV G y d (pc + 2) lv (.int (Int8.ofInt n).toInt32 :: st) h Q) : zV G y d pc lv (st) h Q :=
  zV.pure (fun w1 w2 => ⟨(zw_cons zw_int w1), w2⟩) (fun hX hl kk => lv_bipush hX.1 hX.2.1 dec rfl (kk _ hl)) k
theorem zV_sipush {n : Int} (dec : decode (yC y) pc = .ok (.sipush n, 3)) (k : zV G y d (pc + 3) lv (.int (Int16.ofInt n).toInt32 :: st) h Q) : zV G y d pc lv (st) h Q :=
  zV.pure (fun w1 w2 => ⟨(zw_cons zw_int w1), w2⟩) (fun hX hl kk => lv_sipush hX.1 hX.2.1 dec rfl (kk _ hl)) k
theorem zV_lconst {n : Fin 2} (dec : decode (yC y) pc = .ok (.lconst n, 1)) (k : zV G y d (pc + 1) lv (.long (Int64.ofNat (n : Nat)) :: st) h Q) : zV G y d pc lv (st) h Q :=
  zV.pure (fun w1 w2 => ⟨(zw_cons zw_long w1), w2⟩) (fun hX hl kk => lv_lconst hX.1 hX.2.1 dec rfl (kk _ hl)) k
theorem zV_null (dec : decode (yC y) pc = .ok (.aconst_null, 1)) (k : zV G y d (pc + 1) lv (.null :: st) h Q) : zV G y d pc lv (st) h Q :=
  zV.pure (fun w1 w2 => ⟨(zw_cons zw_null w1), w2⟩) (fun hX hl kk => lv_null hX.1 hX.2.1 dec (kk _ hl)) k
theorem zV_fconst1 (dec : decode (yC y) pc = .ok (.fconst 1, 1)) (k : zV G y d (pc + 1) lv (.float FP.fconst1 :: st) h Q) : zV G y d pc lv (st) h Q :=
  zV.pure (fun w1 w2 => ⟨(zw_cons zw_float w1), w2⟩) (fun hX hl kk => lv_fconst1 hX.1 hX.2.1 dec (kk _ hl)) k
theorem zV_dconst0 (dec : decode (yC y) pc = .ok (.dconst 0, 1)) (k : zV G y d (pc + 1) lv (.double FP.dconst0 :: st) h Q) : zV G y d pc lv (st) h Q :=
  zV.pure (fun w1 w2 => ⟨(zw_cons zw_double w1), w2⟩) (fun hX hl kk => lv_dconst0 hX.1 hX.2.1 dec (kk _ hl)) k
theorem zV_iadd {x y0 : Int32} (dec : decode (yC y) pc = .ok (.iadd, 1)) (k : zV G y d (pc + 1) lv (.int (x + y0) :: st) h Q) : zV G y d pc lv (.int y0 :: .int x :: st) h Q :=
  zV.pure (fun w1 w2 => ⟨(zw_cons zw_int (zw_tl (zw_tl w1))), w2⟩) (fun hX hl kk => lv_iadd hX.1 hX.2.1 dec (kk _ hl)) k
theorem zV_isub {x y0 : Int32} (dec : decode (yC y) pc = .ok (.isub, 1)) (k : zV G y d (pc + 1) lv (.int (x - y0) :: st) h Q) : zV G y d pc lv (.int y0 :: .int x :: st) h Q :=
  zV.pure (fun w1 w2 => ⟨(zw_cons zw_int (zw_tl (zw_tl w1))), w2⟩) (fun hX hl kk => lv_isub hX.1 hX.2.1 dec (kk _ hl)) k
theorem zV_imul {x y0 : Int32} (dec : decode (yC y) pc = .ok (.imul, 1)) (k : zV G y d (pc + 1) lv (.int (x * y0) :: st) h Q) : zV G y d pc lv (.int y0 :: .int x :: st) h Q :=
  zV.pure (fun w1 w2 => ⟨(zw_cons zw_int (zw_tl (zw_tl w1))), w2⟩) (fun hX hl kk => lv_imul hX.1 hX.2.1 dec (kk _ hl)) k
theorem zV_iand {x y0 : Int32} (dec : decode (yC y) pc = .ok (.iand, 1)) (k : zV G y d (pc + 1) lv (.int (x &&& y0) :: st) h Q) : zV G y d pc lv (.int y0 :: .int x :: st) h Q :=
  zV.pure (fun w1 w2 => ⟨(zw_cons zw_int (zw_tl (zw_tl w1))), w2⟩) (fun hX hl kk => lv_iand hX.1 hX.2.1 dec (kk _ hl)) k
theorem zV_ior {x y0 : Int32} (dec : decode (yC y) pc = .ok (.ior, 1)) (k : zV G y d (pc + 1) lv (.int (x ||| y0) :: st) h Q) : zV G y d pc lv (.int y0 :: .int x :: st) h Q :=
  zV.pure (fun w1 w2 => ⟨(zw_cons zw_int (zw_tl (zw_tl w1))), w2⟩) (fun hX hl kk => lv_ior hX.1 hX.2.1 dec (kk _ hl)) k
theorem zV_ixor {x y0 : Int32} (dec : decode (yC y) pc = .ok (.ixor, 1)) (k : zV G y d (pc + 1) lv (.int (x ^^^ y0) :: st) h Q) : zV G y d pc lv (.int y0 :: .int x :: st) h Q :=
  zV.pure (fun w1 w2 => ⟨(zw_cons zw_int (zw_tl (zw_tl w1))), w2⟩) (fun hX hl kk => lv_ixor hX.1 hX.2.1 dec (kk _ hl)) k
theorem zV_ishl {x y0 : Int32} (dec : decode (yC y) pc = .ok (.ishl, 1)) (k : zV G y d (pc + 1) lv (.int (x <<< (y0 &&& 31)) :: st) h Q) : zV G y d pc lv (.int y0 :: .int x :: st) h Q :=
  zV.pure (fun w1 w2 => ⟨(zw_cons zw_int (zw_tl (zw_tl w1))), w2⟩) (fun hX hl kk => lv_ishl hX.1 hX.2.1 dec (kk _ hl)) k
theorem zV_ishr {x y0 : Int32} (dec : decode (yC y) pc = .ok (.ishr, 1)) (k : zV G y d (pc + 1) lv (.int (x >>> (y0 &&& 31)) :: st) h Q) : zV G y d pc lv (.int y0 :: .int x :: st) h Q :=
  zV.pure (fun w1 w2 => ⟨(zw_cons zw_int (zw_tl (zw_tl w1))), w2⟩) (fun hX hl kk => lv_ishr hX.1 hX.2.1 dec (kk _ hl)) k
theorem zV_idiv {x y0 : Int32} (dec : decode (yC y) pc = .ok (.idiv, 1)) (hne : ¬ y0 = 0) (k : zV G y d (pc + 1) lv (.int (x / y0) :: st) h Q) : zV G y d pc lv (.int y0 :: .int x :: st) h Q :=
  zV.pure (fun w1 w2 => ⟨(zw_cons zw_int (zw_tl (zw_tl w1))), w2⟩) (fun hX hl kk => lv_idiv hX.1 hX.2.1 dec hne (kk _ hl)) k
theorem zV_irem {x y0 : Int32} (dec : decode (yC y) pc = .ok (.irem, 1)) (hne : ¬ y0 = 0) (k : zV G y d (pc + 1) lv (.int (x - x / y0 * y0) :: st) h Q) : zV G y d pc lv (.int y0 :: .int x :: st) h Q :=
  zV.pure (fun w1 w2 => ⟨(zw_cons zw_int (zw_tl (zw_tl w1))), w2⟩) (fun hX hl kk => lv_irem hX.1 hX.2.1 dec hne (kk _ hl)) k
theorem zV_iushr {x y0 : Int32} (dec : decode (yC y) pc = .ok (.iushr, 1)) (k : zV G y d (pc + 1) lv (.int (x.toUInt32 >>> (y0.toUInt32 &&& Int32.toUInt32 31)).toInt32 :: st) h Q) : zV G y d pc lv (.int y0 :: .int x :: st) h Q :=
  zV.pure (fun w1 w2 => ⟨(zw_cons zw_int (zw_tl (zw_tl w1))), w2⟩) (fun hX hl kk => lv_iushr hX.1 hX.2.1 dec rfl (kk _ hl)) k
theorem zV_lushr {x : Int64} {y0 : Int32} (dec : decode (yC y) pc = .ok (.lushr, 1)) (k : zV G y d (pc + 1) lv (.long (x.toUInt64 >>> (y0.toInt64.toUInt64 &&& Int64.toUInt64 63)).toInt64 :: st) h Q) : zV G y d pc lv (.int y0 :: .long x :: st) h Q :=
  zV.pure (fun w1 w2 => ⟨(zw_cons zw_long (zw_tl (zw_tl w1))), w2⟩) (fun hX hl kk => lv_lushr hX.1 hX.2.1 dec rfl (kk _ hl)) k
theorem zV_lshl {x : Int64} {y0 : Int32} (dec : decode (yC y) pc = .ok (.lshl, 1)) (k : zV G y d (pc + 1) lv (.long (x <<< (y0.toInt64 &&& 63)) :: st) h Q) : zV G y d pc lv (.int y0 :: .long x :: st) h Q :=
  zV.pure (fun w1 w2 => ⟨(zw_cons zw_long (zw_tl (zw_tl w1))), w2⟩) (fun hX hl kk => lv_lshl hX.1 hX.2.1 dec rfl (kk _ hl)) k
theorem zV_lshr {x : Int64} {y0 : Int32} (dec : decode (yC y) pc = .ok (.lshr, 1)) (k : zV G y d (pc + 1) lv (.long (x >>> (y0.toInt64 &&& 63)) :: st) h Q) : zV G y d pc lv (.int y0 :: .long x :: st) h Q :=
  zV.pure (fun w1 w2 => ⟨(zw_cons zw_long (zw_tl (zw_tl w1))), w2⟩) (fun hX hl kk => lv_lshr hX.1 hX.2.1 dec rfl (kk _ hl)) k
theorem zV_ineg {x : Int32} (dec : decode (yC y) pc = .ok (.ineg, 1)) (k : zV G y d (pc + 1) lv (.int (-x) :: st) h Q) : zV G y d pc lv (.int x :: st) h Q :=
  zV.pure (fun w1 w2 => ⟨(zw_cons zw_int (zw_tl w1)), w2⟩) (fun hX hl kk => lv_ineg hX.1 hX.2.1 dec (kk _ hl)) k
theorem zV_ladd {x y0 : Int64} (dec : decode (yC y) pc = .ok (.ladd, 1)) (k : zV G y d (pc + 1) lv (.long (x + y0) :: st) h Q) : zV G y d pc lv (.long y0 :: .long x :: st) h Q :=
  zV.pure (fun w1 w2 => ⟨(zw_cons zw_long (zw_tl (zw_tl w1))), w2⟩) (fun hX hl kk => lv_ladd hX.1 hX.2.1 dec (kk _ hl)) k
theorem zV_lsub {x y0 : Int64} (dec : decode (yC y) pc = .ok (.lsub, 1)) (k : zV G y d (pc + 1) lv (.long (x - y0) :: st) h Q) : zV G y d pc lv (.long y0 :: .long x :: st) h Q :=
  zV.pure (fun w1 w2 => ⟨(zw_cons zw_long (zw_tl (zw_tl w1))), w2⟩) (fun hX hl kk => lv_lsub hX.1 hX.2.1 dec (kk _ hl)) k
theorem zV_lmul {x y0 : Int64} (dec : decode (yC y) pc = .ok (.lmul, 1)) (k : zV G y d (pc + 1) lv (.long (x * y0) :: st) h Q) : zV G y d pc lv (.long y0 :: .long x :: st) h Q :=
  zV.pure (fun w1 w2 => ⟨(zw_cons zw_long (zw_tl (zw_tl w1))), w2⟩) (fun hX hl kk => lv_lmul hX.1 hX.2.1 dec (kk _ hl)) k
theorem zV_land {x y0 : Int64} (dec : decode (yC y) pc = .ok (.land, 1)) (k : zV G y d (pc + 1) lv (.long (x &&& y0) :: st) h Q) : zV G y d pc lv (.long y0 :: .long x :: st) h Q :=
  zV.pure (fun w1 w2 => ⟨(zw_cons zw_long (zw_tl (zw_tl w1))), w2⟩) (fun hX hl kk => lv_land hX.1 hX.2.1 dec (kk _ hl)) k
theorem zV_lor {x y0 : Int64} (dec : decode (yC y) pc = .ok (.lor, 1)) (k : zV G y d (pc + 1) lv (.long (x ||| y0) :: st) h Q) : zV G y d pc lv (.long y0 :: .long x :: st) h Q :=
  zV.pure (fun w1 w2 => ⟨(zw_cons zw_long (zw_tl (zw_tl w1))), w2⟩) (fun hX hl kk => lv_lor hX.1 hX.2.1 dec (kk _ hl)) k
theorem zV_lxor {x y0 : Int64} (dec : decode (yC y) pc = .ok (.lxor, 1)) (k : zV G y d (pc + 1) lv (.long (x ^^^ y0) :: st) h Q) : zV G y d pc lv (.long y0 :: .long x :: st) h Q :=
  zV.pure (fun w1 w2 => ⟨(zw_cons zw_long (zw_tl (zw_tl w1))), w2⟩) (fun hX hl kk => lv_lxor hX.1 hX.2.1 dec (kk _ hl)) k
theorem zV_i2l {x : Int32} (dec : decode (yC y) pc = .ok (.i2l, 1)) (k : zV G y d (pc + 1) lv (.long x.toInt64 :: st) h Q) : zV G y d pc lv (.int x :: st) h Q :=
  zV.pure (fun w1 w2 => ⟨(zw_cons zw_long (zw_tl w1)), w2⟩) (fun hX hl kk => lv_i2l hX.1 hX.2.1 dec rfl (kk _ hl)) k
theorem zV_l2i {x : Int64} (dec : decode (yC y) pc = .ok (.l2i, 1)) (k : zV G y d (pc + 1) lv (.int x.toInt32 :: st) h Q) : zV G y d pc lv (.long x :: st) h Q :=
  zV.pure (fun w1 w2 => ⟨(zw_cons zw_int (zw_tl w1)), w2⟩) (fun hX hl kk => lv_l2i hX.1 hX.2.1 dec rfl (kk _ hl)) k
theorem zV_i2b {x : Int32} (dec : decode (yC y) pc = .ok (.i2b, 1)) (k : zV G y d (pc + 1) lv (.int x.toInt8.toInt32 :: st) h Q) : zV G y d pc lv (.int x :: st) h Q :=
  zV.pure (fun w1 w2 => ⟨(zw_cons zw_int (zw_tl w1)), w2⟩) (fun hX hl kk => lv_i2b hX.1 hX.2.1 dec rfl (kk _ hl)) k
theorem zV_i2s {x : Int32} (dec : decode (yC y) pc = .ok (.i2s, 1)) (k : zV G y d (pc + 1) lv (.int x.toInt16.toInt32 :: st) h Q) : zV G y d pc lv (.int x :: st) h Q :=
  zV.pure (fun w1 w2 => ⟨(zw_cons zw_int (zw_tl w1)), w2⟩) (fun hX hl kk => lv_i2s hX.1 hX.2.1 dec rfl (kk _ hl)) k
theorem zV_i2c {x : Int32} (dec : decode (yC y) pc = .ok (.i2c, 1)) (k : zV G y d (pc + 1) lv (.int x.toUInt32.toUInt16.toUInt32.toInt32 :: st) h Q) : zV G y d pc lv (.int x :: st) h Q :=
  zV.pure (fun w1 w2 => ⟨(zw_cons zw_int (zw_tl w1)), w2⟩) (fun hX hl kk => lv_i2c hX.1 hX.2.1 dec rfl (kk _ hl)) k
theorem zV_i2f {x : Int32} (dec : decode (yC y) pc = .ok (.i2f, 1)) (k : zV G y d (pc + 1) lv (.float (FP.i2f x) :: st) h Q) : zV G y d pc lv (.int x :: st) h Q :=
  zV.pure (fun w1 w2 => ⟨(zw_cons zw_float (zw_tl w1)), w2⟩) (fun hX hl kk => lv_i2f hX.1 hX.2.1 dec (kk _ hl)) k
theorem zV_i2d {x : Int32} (dec : decode (yC y) pc = .ok (.i2d, 1)) (k : zV G y d (pc + 1) lv (.double (FP.i2d x) :: st) h Q) : zV G y d pc lv (.int x :: st) h Q :=
  zV.pure (fun w1 w2 => ⟨(zw_cons zw_double (zw_tl w1)), w2⟩) (fun hX hl kk => lv_i2d hX.1 hX.2.1 dec (kk _ hl)) k
theorem zV_f2d {x : UInt32} (dec : decode (yC y) pc = .ok (.f2d, 1)) (hne : vf_n64 (FP.f2d x)) (k : zV G y d (pc + 1) lv (.double (FP.f2d x) :: st) h Q) : zV G y d pc lv (.float x :: st) h Q :=
  zV.pure (fun w1 w2 => ⟨(zw_cons zw_double (zw_tl w1)), w2⟩) (fun hX hl kk => lv_f2d hX.1 hX.2.1 dec hne (kk _ hl)) k
theorem zV_fdiv {x y0 : UInt32} (dec : decode (yC y) pc = .ok (.fdiv, 1)) (hne : vf_n32 (FP.fdiv x y0)) (k : zV G y d (pc + 1) lv (.float (FP.fdiv x y0) :: st) h Q) : zV G y d pc lv (.float y0 :: .float x :: st) h Q :=
  zV.pure (fun w1 w2 => ⟨(zw_cons zw_float (zw_tl (zw_tl w1))), w2⟩) (fun hX hl kk => lv_fdiv hX.1 hX.2.1 dec hne (kk _ hl)) k
theorem zV_ddiv {x y0 : UInt64} (dec : decode (yC y) pc = .ok (.ddiv, 1)) (hne : vf_n64 (FP.ddiv x y0)) (k : zV G y d (pc + 1) lv (.double (FP.ddiv x y0) :: st) h Q) : zV G y d pc lv (.double y0 :: .double x :: st) h Q :=
  zV.pure (fun w1 w2 => ⟨(zw_cons zw_double (zw_tl (zw_tl w1))), w2⟩) (fun hX hl kk => lv_ddiv hX.1 hX.2.1 dec hne (kk _ hl)) k
theorem zV_dcmp {x y0 : UInt64} {op : CmpOp} (dec : decode (yC y) pc = .ok (.dcmp op, 1)) (k : zV G y d (pc + 1) lv (.int (Op.cmpValue (FP.dcmp x y0) op) :: st) h Q) : zV G y d pc lv (.double y0 :: .double x :: st) h Q :=
  zV.pure (fun w1 w2 => ⟨(zw_cons zw_int (zw_tl (zw_tl w1))), w2⟩) (fun hX hl kk => lv_dcmp hX.1 hX.2.1 dec (kk _ hl)) k
theorem zV_lcmp {x y0 : Int64} (dec : decode (yC y) pc = .ok (.lcmp, 1)) (k : zV G y d (pc + 1) lv (.int (lg_cmp x y0) :: st) h Q) : zV G y d pc lv (.long y0 :: .long x :: st) h Q :=
  zV.pure (fun w1 w2 => ⟨(zw_cons zw_int (zw_tl (zw_tl w1))), w2⟩) (fun hX hl kk => W.lcmp hX.1 hX.2.1 dec (kk _ hl)) k
theorem zV_ldc {i : Nat} {v : Int32} (dec : decode (yC y) pc = .ok (.ldc i, 2)) (hc : Cond.constant (yN y).cls i v ∈ lw_all) (k : zV G y d (pc + 2) lv (.int v :: st) h Q) : zV G y d pc lv st h Q :=
  zV.pure (fun w1 w2 => ⟨zw_cons zw_int w1, w2⟩) (fun hX hl kk => lv_ldc hX.1 hX.2.1 hX.2.2.2.2.2.1 (hX.2.2.2.2.2.2.2.1 _ hc) dec (kk _ hl)) k
theorem zV_ldcw {i : Nat} {v : Int32} (dec : decode (yC y) pc = .ok (.ldc_w i, 3)) (hc : Cond.constant (yN y).cls i v ∈ lw_all) (k : zV G y d (pc + 3) lv (.int v :: st) h Q) : zV G y d pc lv st h Q :=
  zV.pure (fun w1 w2 => ⟨zw_cons zw_int w1, w2⟩) (fun hX hl kk => lv_ldcw hX.1 hX.2.1 hX.2.2.2.2.2.1 (hX.2.2.2.2.2.2.2.1 _ hc) dec (kk _ hl)) k
theorem zV_ldc2 {i : Nat} {v : Int64} (dec : decode (yC y) pc = .ok (.ldc2_w i, 3)) (hc : Cond.constantLong (yN y).cls i v ∈ lw_all) (k : zV G y d (pc + 3) lv (.long v :: st) h Q) : zV G y d pc lv st h Q :=
  zV.pure (fun w1 w2 => ⟨zw_cons zw_long w1, w2⟩) (fun hX hl kk => lv_ldc2 hX.1 hX.2.1 hX.2.2.2.2.2.1 (hX.2.2.2.2.2.2.2.1 _ hc) dec (kk _ hl)) k
theorem zV_dup {v : Value} (dec : decode (yC y) pc = .ok (.dup, 1)) (hv : v.category = 1) (k : zV G y d (pc + 1) lv (v :: v :: st) h Q) : zV G y d pc lv (v :: st) h Q :=
  zV.pure (fun w1 w2 => ⟨zw_cons (zw_hd w1) w1, w2⟩) (fun hX hl kk => lv_dup hX.1 hX.2.1 dec (by rw [ze_cat]; exact hv) (kk _ hl)) k
theorem zV_dup_x1 {v w : Value} (dec : decode (yC y) pc = .ok (.dup_x1, 1)) (hv : v.category = 1) (hw : w.category = 1) (k : zV G y d (pc + 1) lv (v :: w :: v :: st) h Q) : zV G y d pc lv (v :: w :: st) h Q :=
  zV.pure (fun w1 w2 => ⟨zw_cons (zw_hd w1) (zw_cons (zw_hd (zw_tl w1)) (zw_cons (zw_hd w1) (zw_tl (zw_tl w1)))), w2⟩) (fun hX hl kk => lv_dup_x1 hX.1 hX.2.1 dec (by rw [ze_cat]; exact hv) (by rw [ze_cat]; exact hw) (kk _ hl)) k
theorem zV_dup2 {v w : Value} (dec : decode (yC y) pc = .ok (.dup2, 1)) (hv : v.category = 1) (hw : w.category = 1) (k : zV G y d (pc + 1) lv (v :: w :: v :: w :: st) h Q) : zV G y d pc lv (v :: w :: st) h Q :=
  zV.pure (fun w1 w2 => ⟨zw_cons (zw_hd w1) (zw_cons (zw_hd (zw_tl w1)) w1), w2⟩) (fun hX hl kk => lv_dup2_11 hX.1 hX.2.1 dec (by rw [ze_cat]; exact hv) (by rw [ze_cat]; exact hw) (kk _ hl)) k
theorem zV_pop {v : Value} (dec : decode (yC y) pc = .ok (.pop, 1)) (hv : v.category = 1) (k : zV G y d (pc + 1) lv st h Q) : zV G y d pc lv (v :: st) h Q :=
  zV.pure (fun w1 w2 => ⟨zw_tl w1, w2⟩) (fun hX hl kk => lv_pop hX.1 hX.2.1 dec (by rw [ze_cat]; exact hv) (kk _ hl)) k
theorem zV_iload_n {n : Fin 4} {x : Int32} (i : Nat) (dec : decode (yC y) pc = .ok (.iload_n n, 1)) (hi : (n : Nat) = i) (hg : zget lv i = some (.int x)) (k : zV G y d (pc + 1) lv (.int x :: st) h Q) : zV G y d pc lv st h Q :=
  zV.pure (fun w1 w2 => ⟨zw_cons zw_int w1, w2⟩) (fun hX hl kk => lv_iload_n hX.1 hX.2.1 dec hi (zget_slot hl hg) (kk _ hl)) k
theorem zV_iload {i : Nat} {x : Int32} (dec : decode (yC y) pc = .ok (.iload i, 2)) (hg : zget lv i = some (.int x)) (k : zV G y d (pc + 2) lv (.int x :: st) h Q) : zV G y d pc lv st h Q :=
  zV.pure (fun w1 w2 => ⟨zw_cons zw_int w1, w2⟩) (fun hX hl kk => lv_iload hX.1 hX.2.1 dec (zget_slot hl hg) (kk _ hl)) k
theorem zV_lload_n {n : Fin 4} {x : Int64} (i : Nat) (dec : decode (yC y) pc = .ok (.lload_n n, 1)) (hi : (n : Nat) = i) (hg : zget lv i = some (.long x)) (k : zV G y d (pc + 1) lv (.long x :: st) h Q) : zV G y d pc lv st h Q :=
  zV.pure (fun w1 w2 => ⟨zw_cons zw_long w1, w2⟩) (fun hX hl kk => lv_lload_n hX.1 hX.2.1 dec hi (zget_slot hl hg) (kk _ hl)) k
theorem zV_lload {i : Nat} {x : Int64} (dec : decode (yC y) pc = .ok (.lload i, 2)) (hg : zget lv i = some (.long x)) (k : zV G y d (pc + 2) lv (.long x :: st) h Q) : zV G y d pc lv st h Q :=
  zV.pure (fun w1 w2 => ⟨zw_cons zw_long w1, w2⟩) (fun hX hl kk => lv_lload hX.1 hX.2.1 dec (zget_slot hl hg) (kk _ hl)) k
theorem zV_dload_n {n : Fin 4} {x : UInt64} (i : Nat) (dec : decode (yC y) pc = .ok (.dload_n n, 1)) (hi : (n : Nat) = i) (hg : zget lv i = some (.double x)) (k : zV G y d (pc + 1) lv (.double x :: st) h Q) : zV G y d pc lv st h Q :=
  zV.pure (fun w1 w2 => ⟨zw_cons zw_double w1, w2⟩) (fun hX hl kk => lv_dload_n hX.1 hX.2.1 dec hi (zget_slot hl hg) (kk _ hl)) k
theorem zV_dload {i : Nat} {x : UInt64} (dec : decode (yC y) pc = .ok (.dload i, 2)) (hg : zget lv i = some (.double x)) (k : zV G y d (pc + 2) lv (.double x :: st) h Q) : zV G y d pc lv st h Q :=
  zV.pure (fun w1 w2 => ⟨zw_cons zw_double w1, w2⟩) (fun hX hl kk => lv_dload hX.1 hX.2.1 dec (zget_slot hl hg) (kk _ hl)) k
theorem zV_fload_n {n : Fin 4} {x : UInt32} (i : Nat) (dec : decode (yC y) pc = .ok (.fload_n n, 1)) (hi : (n : Nat) = i) (hg : zget lv i = some (.float x)) (k : zV G y d (pc + 1) lv (.float x :: st) h Q) : zV G y d pc lv st h Q :=
  zV.pure (fun w1 w2 => ⟨zw_cons zw_float w1, w2⟩) (fun hX hl kk => lv_fload_n hX.1 hX.2.1 dec hi (zget_slot hl hg) (kk _ hl)) k
theorem zV_fload {i : Nat} {x : UInt32} (dec : decode (yC y) pc = .ok (.fload i, 2)) (hg : zget lv i = some (.float x)) (k : zV G y d (pc + 2) lv (.float x :: st) h Q) : zV G y d pc lv st h Q :=
  zV.pure (fun w1 w2 => ⟨zw_cons zw_float w1, w2⟩) (fun hX hl kk => lv_fload hX.1 hX.2.1 dec (zget_slot hl hg) (kk _ hl)) k
theorem zget_wf {n i : Nat} {v : Value} (w2 : ∀ q ∈ lv, zw n q.2) (hg : zget lv i = some v) : zw n v := w2 _ (zget_mem hg)
/-- a reference or null out of a local -/
theorem zV_aload_n {n : Fin 4} {v : Value} (i : Nat) (dec : decode (yC y) pc = .ok (.aload_n n, 1)) (hi : (n : Nat) = i) (hg : zget lv i = some v) (hv : v = .null ∨ ∃ a, v = .ref a) (k : zV G y d (pc + 1) lv (v :: st) h Q) : zV G y d pc lv st h Q :=
  zV.pure (fun w1 w2 => ⟨zw_cons (zget_wf w2 hg) w1, w2⟩) (fun hX hl kk => by
    rcases hv with rfl | ⟨a, rfl⟩
    · exact lv_aload_nN hX.1 hX.2.1 dec hi (zget_slot hl hg) (kk _ hl)
    · exact lv_aload_n hX.1 hX.2.1 dec hi (zget_slot hl hg) (kk _ hl)) k
theorem zV_aload {i : Nat} {v : Value} (dec : decode (yC y) pc = .ok (.aload i, 2)) (hg : zget lv i = some v) (hv : v = .null ∨ ∃ a, v = .ref a) (k : zV G y d (pc + 2) lv (v :: st) h Q) : zV G y d pc lv st h Q :=
  zV.pure (fun w1 w2 => ⟨zw_cons (zget_wf w2 hg) w1, w2⟩) (fun hX hl kk => by
    rcases hv with rfl | ⟨a, rfl⟩
    · exact lv_aloadN hX.1 hX.2.1 dec (zget_slot hl hg) (kk _ hl)
    · exact lv_aload hX.1 hX.2.1 dec (zget_slot hl hg) (kk _ hl)) k
theorem zV_istore_n {n : Fin 4} {x : Int32} {lv' : List (Nat × Value)} (i : Nat) (dec : decode (yC y) pc = .ok (.istore_n n, 1)) (hi : (n : Nat) = i) (hb : i < yL y) (hk : zkeys lv = true) (hs : zset lv i (.int x) = lv') (k : zV G y d (pc + 1) lv' st h Q) : zV G y d pc lv (.int x :: st) h Q :=
  zV.pure (fun w1 w2 => ⟨zw_tl w1, by rw [← hs]; exact zset_wf hk w2 zw_int⟩) (fun hX hl kk => lv_istore_n hX.1 hX.2.1 dec hi hl hb rfl (fun ls' hl' => kk ls' (by rw [← hs]; exact zset_has hk (fun _ => hl') (fun e => by cases e)))) k
theorem zV_istore {i : Nat} {x : Int32} {lv' : List (Nat × Value)} (dec : decode (yC y) pc = .ok (.istore i, 2)) (hb : i < yL y) (hk : zkeys lv = true) (hs : zset lv i (.int x) = lv') (k : zV G y d (pc + 2) lv' st h Q) : zV G y d pc lv (.int x :: st) h Q :=
  zV.pure (fun w1 w2 => ⟨zw_tl w1, by rw [← hs]; exact zset_wf hk w2 zw_int⟩) (fun hX hl kk => lv_istore hX.1 hX.2.1 dec hl hb rfl (fun ls' hl' => kk ls' (by rw [← hs]; exact zset_has hk (fun _ => hl') (fun e => by cases e)))) k
theorem zV_lstore_n {n : Fin 4} {x : Int64} {lv' : List (Nat × Value)} (i : Nat) (dec : decode (yC y) pc = .ok (.lstore_n n, 1)) (hi : (n : Nat) = i) (hb : i + 1 < yL y) (hk : zkeys lv = true) (hs : zset lv i (.long x) = lv') (k : zV G y d (pc + 1) lv' st h Q) : zV G y d pc lv (.long x :: st) h Q :=
  zV.pure (fun w1 w2 => ⟨zw_tl w1, by rw [← hs]; exact zset_wf hk w2 zw_long⟩) (fun hX hl kk => lv_lstore_n hX.1 hX.2.1 dec hi hl hb rfl (fun ls' hl' => kk ls' (by rw [← hs]; exact zset_has hk (fun e => by cases e) (fun _ => hl')))) k
theorem zV_lstore {i : Nat} {x : Int64} {lv' : List (Nat × Value)} (dec : decode (yC y) pc = .ok (.lstore i, 2)) (hb : i + 1 < yL y) (hk : zkeys lv = true) (hs : zset lv i (.long x) = lv') (k : zV G y d (pc + 2) lv' st h Q) : zV G y d pc lv (.long x :: st) h Q :=
  zV.pure (fun w1 w2 => ⟨zw_tl w1, by rw [← hs]; exact zset_wf hk w2 zw_long⟩) (fun hX hl kk => lv_lstore hX.1 hX.2.1 dec hl hb rfl (fun ls' hl' => kk ls' (by rw [← hs]; exact zset_has hk (fun e => by cases e) (fun _ => hl')))) k
theorem zV_dstore_n {n : Fin 4} {x : UInt64} {lv' : List (Nat × Value)} (i : Nat) (dec : decode (yC y) pc = .ok (.dstore_n n, 1)) (hi : (n : Nat) = i) (hb : i + 1 < yL y) (hk : zkeys lv = true) (hs : zset lv i (.double x) = lv') (k : zV G y d (pc + 1) lv' st h Q) : zV G y d pc lv (.double x :: st) h Q :=
  zV.pure (fun w1 w2 => ⟨zw_tl w1, by rw [← hs]; exact zset_wf hk w2 zw_double⟩) (fun hX hl kk => lv_dstore_n hX.1 hX.2.1 dec hi hl hb rfl (fun ls' hl' => kk ls' (by rw [← hs]; exact zset_has hk (fun e => by cases e) (fun _ => hl')))) k
theorem zV_dstore {i : Nat} {x : UInt64} {lv' : List (Nat × Value)} (dec : decode (yC y) pc = .ok (.dstore i, 2)) (hb : i + 1 < yL y) (hk : zkeys lv = true) (hs : zset lv i (.double x) = lv') (k : zV G y d (pc + 2) lv' st h Q) : zV G y d pc lv (.double x :: st) h Q :=
  zV.pure (fun w1 w2 => ⟨zw_tl w1, by rw [← hs]; exact zset_wf hk w2 zw_double⟩) (fun hX hl kk => lv_dstore hX.1 hX.2.1 dec hl hb rfl (fun ls' hl' => kk ls' (by rw [← hs]; exact zset_has hk (fun e => by cases e) (fun _ => hl')))) k
theorem zV_astore_n {n : Fin 4} {v : Value} {lv' : List (Nat × Value)} (i : Nat) (dec : decode (yC y) pc = .ok (.astore_n n, 1)) (hi : (n : Nat) = i) (hv : v = .null ∨ ∃ a, v = .ref a) (hb : i < yL y) (hk : zkeys lv = true) (hs : zset lv i v = lv') (k : zV G y d (pc + 1) lv' st h Q) : zV G y d pc lv (v :: st) h Q :=
  zV.pure (fun w1 w2 => ⟨zw_tl w1, by rw [← hs]; exact zset_wf hk w2 (zw_hd w1)⟩) (fun hX hl kk => by
    rcases hv with rfl | ⟨a, rfl⟩
    · exact lv_astore_nN hX.1 hX.2.1 dec hi hl hb rfl (fun ls' hl' => kk ls' (by rw [← hs]; exact zset_has hk (fun _ => hl') (fun e => by cases e)))
    · exact lv_astore_n hX.1 hX.2.1 dec hi hl hb rfl (fun ls' hl' => kk ls' (by rw [← hs]; exact zset_has hk (fun _ => hl') (fun e => by cases e)))) k
theorem zV_astore {i : Nat} {v : Value} {lv' : List (Nat × Value)} (dec : decode (yC y) pc = .ok (.astore i, 2)) (hv : v = .null ∨ ∃ a, v = .ref a) (hb : i < yL y) (hk : zkeys lv = true) (hs : zset lv i v = lv') (k : zV G y d (pc + 2) lv' st h Q) : zV G y d pc lv (v :: st) h Q :=
  zV.pure (fun w1 w2 => ⟨zw_tl w1, by rw [← hs]; exact zset_wf hk w2 (zw_hd w1)⟩) (fun hX hl kk => by
    rcases hv with rfl | ⟨a, rfl⟩
    · exact lv_astoreN hX.1 hX.2.1 dec hl hb rfl (fun ls' hl' => kk ls' (by rw [← hs]; exact zset_has hk (fun _ => hl') (fun e => by cases e)))
    · exact lv_astore hX.1 hX.2.1 dec hl hb rfl (fun ls' hl' => kk ls' (by rw [← hs]; exact zset_has hk (fun _ => hl') (fun e => by cases e)))) k
theorem zget_at {ρ : Nat → Nat} {i : Nat} {v : Value} (h : zget lv i = some v) : ∃ j : Nat, (lv.map (zel ρ))[j]? = some (i, ze ρ v) := by
  obtain ⟨j, hj⟩ := List.getElem?_of_mem (zget_mem h)
  exact ⟨j, by rw [List.getElem?_map, hj]; rfl⟩
theorem zV_iinc {i : Nat} {n : Int} {x : Int32} {lv' : List (Nat × Value)} (dec : decode (yC y) pc = .ok (.iinc i n, 3)) (hg : zget lv i = some (.int x)) (hb : i < yL y) (hk : zkeys lv = true) (hs : zset lv i (.int (x + Int32.ofInt n)) = lv') (k : zV G y d (pc + 3) lv' st h Q) : zV G y d pc lv st h Q :=
  zV.pure (fun w1 w2 => ⟨w1, by rw [← hs]; exact zset_wf hk w2 zw_int⟩) (fun {_ _ _ _ _ _ _ _ _ _ _ _ _ _ ρ _} hX hl kk => by
    obtain ⟨j, hj⟩ := zget_at (ρ := ρ) hg
    exact lv_iinc hX.1 hX.2.1 dec hl hj rfl hb rfl (fun ls' hl' => kk ls' (by rw [← hs]; exact zset_has hk (fun _ => hl') (fun e => by cases e)))) k
theorem zV_if_eq {x : Int32} {off : Int} (tgt : Nat) (dec : decode (yC y) pc = .ok (.ifCond .eq off, 3)) (ht : (pc : Int) + off = (tgt : Int)) (kt : x = 0 → zV G y d tgt lv st h Q) (kf : ¬ x = 0 → zV G y d (pc + 3) lv st h Q) : zV G y d pc lv (.int x :: st) h Q := by
  by_cases hc : x = 0
  · exact zV.pure (fun w1 w2 => ⟨zw_tl w1, w2⟩) (fun hX hl kk => lv_if_eq hX.1 hX.2.1 dec ht (fun _ => kk _ hl) (fun hn => absurd hc (by first | exact hn | (intro z; exact z hn)))) (kt hc)
  · exact zV.pure (fun w1 w2 => ⟨zw_tl w1, w2⟩) (fun hX hl kk => lv_if_eq hX.1 hX.2.1 dec ht (fun hn => absurd hn hc) (fun _ => kk _ hl)) (kf (by first | exact hc | exact Classical.not_not.mp hc))
theorem zV_icmp_eq {x y0 : Int32} {off : Int} (tgt : Nat) (dec : decode (yC y) pc = .ok (.if_icmp .eq off, 3)) (ht : (pc : Int) + off = (tgt : Int)) (kt : x = y0 → zV G y d tgt lv st h Q) (kf : ¬ x = y0 → zV G y d (pc + 3) lv st h Q) : zV G y d pc lv (.int y0 :: .int x :: st) h Q := by
  by_cases hc : x = y0
  · exact zV.pure (fun w1 w2 => ⟨zw_tl (zw_tl w1), w2⟩) (fun hX hl kk => lv_icmp_eq hX.1 hX.2.1 dec ht (fun _ => kk _ hl) (fun hn => absurd hc (by first | exact hn | (intro z; exact z hn)))) (kt hc)
  · exact zV.pure (fun w1 w2 => ⟨zw_tl (zw_tl w1), w2⟩) (fun hX hl kk => lv_icmp_eq hX.1 hX.2.1 dec ht (fun hn => absurd hn hc) (fun _ => kk _ hl)) (kf (by first | exact hc | exact Classical.not_not.mp hc))
theorem zV_if_ne {x : Int32} {off : Int} (tgt : Nat) (dec : decode (yC y) pc = .ok (.ifCond .ne off, 3)) (ht : (pc : Int) + off = (tgt : Int)) (kt : ¬ x = 0 → zV G y d tgt lv st h Q) (kf : x = 0 → zV G y d (pc + 3) lv st h Q) : zV G y d pc lv (.int x :: st) h Q := by
  by_cases hc : ¬ x = 0
  · exact zV.pure (fun w1 w2 => ⟨zw_tl w1, w2⟩) (fun hX hl kk => lv_if_ne hX.1 hX.2.1 dec ht (fun _ => kk _ hl) (fun hn => absurd hc (by first | exact hn | (intro z; exact z hn)))) (kt hc)
  · exact zV.pure (fun w1 w2 => ⟨zw_tl w1, w2⟩) (fun hX hl kk => lv_if_ne hX.1 hX.2.1 dec ht (fun hn => absurd hn hc) (fun _ => kk _ hl)) (kf (by first | exact hc | exact Classical.not_not.mp hc))
theorem zV_icmp_ne {x y0 : Int32} {off : Int} (tgt : Nat) (dec : decode (yC y) pc = .ok (.if_icmp .ne off, 3)) (ht : (pc : Int) + off = (tgt : Int)) (kt : ¬ x = y0 → zV G y d tgt lv st h Q) (kf : x = y0 → zV G y d (pc + 3) lv st h Q) : zV G y d pc lv (.int y0 :: .int x :: st) h Q := by
  by_cases hc : ¬ x = y0
  · exact zV.pure (fun w1 w2 => ⟨zw_tl (zw_tl w1), w2⟩) (fun hX hl kk => lv_icmp_ne hX.1 hX.2.1 dec ht (fun _ => kk _ hl) (fun hn => absurd hc (by first | exact hn | (intro z; exact z hn)))) (kt hc)
  · exact zV.pure (fun w1 w2 => ⟨zw_tl (zw_tl w1), w2⟩) (fun hX hl kk => lv_icmp_ne hX.1 hX.2.1 dec ht (fun hn => absurd hn hc) (fun _ => kk _ hl)) (kf (by first | exact hc | exact Classical.not_not.mp hc))
theorem zV_if_lt {x : Int32} {off : Int} (tgt : Nat) (dec : decode (yC y) pc = .ok (.ifCond .lt off, 3)) (ht : (pc : Int) + off = (tgt : Int)) (kt : x < 0 → zV G y d tgt lv st h Q) (kf : ¬ x < 0 → zV G y d (pc + 3) lv st h Q) : zV G y d pc lv (.int x :: st) h Q := by
  by_cases hc : x < 0
  · exact zV.pure (fun w1 w2 => ⟨zw_tl w1, w2⟩) (fun hX hl kk => lv_if_lt hX.1 hX.2.1 dec ht (fun _ => kk _ hl) (fun hn => absurd hc (by first | exact hn | (intro z; exact z hn)))) (kt hc)
  · exact zV.pure (fun w1 w2 => ⟨zw_tl w1, w2⟩) (fun hX hl kk => lv_if_lt hX.1 hX.2.1 dec ht (fun hn => absurd hn hc) (fun _ => kk _ hl)) (kf (by first | exact hc | exact Classical.not_not.mp hc))
theorem zV_icmp_lt {x y0 : Int32} {off : Int} (tgt : Nat) (dec : decode (yC y) pc = .ok (.if_icmp .lt off, 3)) (ht : (pc : Int) + off = (tgt : Int)) (kt : x < y0 → zV G y d tgt lv st h Q) (kf : ¬ x < y0 → zV G y d (pc + 3) lv st h Q) : zV G y d pc lv (.int y0 :: .int x :: st) h Q := by
  by_cases hc : x < y0
  · exact zV.pure (fun w1 w2 => ⟨zw_tl (zw_tl w1), w2⟩) (fun hX hl kk => lv_icmp_lt hX.1 hX.2.1 dec ht (fun _ => kk _ hl) (fun hn => absurd hc (by first | exact hn | (intro z; exact z hn)))) (kt hc)
  · exact zV.pure (fun w1 w2 => ⟨zw_tl (zw_tl w1), w2⟩) (fun hX hl kk => lv_icmp_lt hX.1 hX.2.1 dec ht (fun hn => absurd hn hc) (fun _ => kk _ hl)) (kf (by first | exact hc | exact Classical.not_not.mp hc))
theorem zV_if_ge {x : Int32} {off : Int} (tgt : Nat) (dec : decode (yC y) pc = .ok (.ifCond .ge off, 3)) (ht : (pc : Int) + off = (tgt : Int)) (kt : 0 ≤ x → zV G y d tgt lv st h Q) (kf : ¬ 0 ≤ x → zV G y d (pc + 3) lv st h Q) : zV G y d pc lv (.int x :: st) h Q := by
  by_cases hc : 0 ≤ x
  · exact zV.pure (fun w1 w2 => ⟨zw_tl w1, w2⟩) (fun hX hl kk => lv_if_ge hX.1 hX.2.1 dec ht (fun _ => kk _ hl) (fun hn => absurd hc (by first | exact hn | (intro z; exact z hn)))) (kt hc)
  · exact zV.pure (fun w1 w2 => ⟨zw_tl w1, w2⟩) (fun hX hl kk => lv_if_ge hX.1 hX.2.1 dec ht (fun hn => absurd hn hc) (fun _ => kk _ hl)) (kf (by first | exact hc | exact Classical.not_not.mp hc))
theorem zV_icmp_ge {x y0 : Int32} {off : Int} (tgt : Nat) (dec : decode (yC y) pc = .ok (.if_icmp .ge off, 3)) (ht : (pc : Int) + off = (tgt : Int)) (kt : y0 ≤ x → zV G y d tgt lv st h Q) (kf : ¬ y0 ≤ x → zV G y d (pc + 3) lv st h Q) : zV G y d pc lv (.int y0 :: .int x :: st) h Q := by
  by_cases hc : y0 ≤ x
  · exact zV.pure (fun w1 w2 => ⟨zw_tl (zw_tl w1), w2⟩) (fun hX hl kk => lv_icmp_ge hX.1 hX.2.1 dec ht (fun _ => kk _ hl) (fun hn => absurd hc (by first | exact hn | (intro z; exact z hn)))) (kt hc)
  · exact zV.pure (fun w1 w2 => ⟨zw_tl (zw_tl w1), w2⟩) (fun hX hl kk => lv_icmp_ge hX.1 hX.2.1 dec ht (fun hn => absurd hn hc) (fun _ => kk _ hl)) (kf (by first | exact hc | exact Classical.not_not.mp hc))
theorem zV_if_gt {x : Int32} {off : Int} (tgt : Nat) (dec : decode (yC y) pc = .ok (.ifCond .gt off, 3)) (ht : (pc : Int) + off = (tgt : Int)) (kt : 0 < x → zV G y d tgt lv st h Q) (kf : ¬ 0 < x → zV G y d (pc + 3) lv st h Q) : zV G y d pc lv (.int x :: st) h Q := by
  by_cases hc : 0 < x
  · exact zV.pure (fun w1 w2 => ⟨zw_tl w1, w2⟩) (fun hX hl kk => lv_if_gt hX.1 hX.2.1 dec ht (fun _ => kk _ hl) (fun hn => absurd hc (by first | exact hn | (intro z; exact z hn)))) (kt hc)
  · exact zV.pure (fun w1 w2 => ⟨zw_tl w1, w2⟩) (fun hX hl kk => lv_if_gt hX.1 hX.2.1 dec ht (fun hn => absurd hn hc) (fun _ => kk _ hl)) (kf (by first | exact hc | exact Classical.not_not.mp hc))
theorem zV_icmp_gt {x y0 : Int32} {off : Int} (tgt : Nat) (dec : decode (yC y) pc = .ok (.if_icmp .gt off, 3)) (ht : (pc : Int) + off = (tgt : Int)) (kt : y0 < x → zV G y d tgt lv st h Q) (kf : ¬ y0 < x → zV G y d (pc + 3) lv st h Q) : zV G y d pc lv (.int y0 :: .int x :: st) h Q := by
  by_cases hc : y0 < x
  · exact zV.pure (fun w1 w2 => ⟨zw_tl (zw_tl w1), w2⟩) (fun hX hl kk => lv_icmp_gt hX.1 hX.2.1 dec ht (fun _ => kk _ hl) (fun hn => absurd hc (by first | exact hn | (intro z; exact z hn)))) (kt hc)
  · exact zV.pure (fun w1 w2 => ⟨zw_tl (zw_tl w1), w2⟩) (fun hX hl kk => lv_icmp_gt hX.1 hX.2.1 dec ht (fun hn => absurd hn hc) (fun _ => kk _ hl)) (kf (by first | exact hc | exact Classical.not_not.mp hc))
theorem zV_if_le {x : Int32} {off : Int} (tgt : Nat) (dec : decode (yC y) pc = .ok (.ifCond .le off, 3)) (ht : (pc : Int) + off = (tgt : Int)) (kt : x ≤ 0 → zV G y d tgt lv st h Q) (kf : ¬ x ≤ 0 → zV G y d (pc + 3) lv st h Q) : zV G y d pc lv (.int x :: st) h Q := by
  by_cases hc : x ≤ 0
  · exact zV.pure (fun w1 w2 => ⟨zw_tl w1, w2⟩) (fun hX hl kk => lv_if_le hX.1 hX.2.1 dec ht (fun _ => kk _ hl) (fun hn => absurd hc (by first | exact hn | (intro z; exact z hn)))) (kt hc)
  · exact zV.pure (fun w1 w2 => ⟨zw_tl w1, w2⟩) (fun hX hl kk => lv_if_le hX.1 hX.2.1 dec ht (fun hn => absurd hn hc) (fun _ => kk _ hl)) (kf (by first | exact hc | exact Classical.not_not.mp hc))
theorem zV_icmp_le {x y0 : Int32} {off : Int} (tgt : Nat) (dec : decode (yC y) pc = .ok (.if_icmp .le off, 3)) (ht : (pc : Int) + off = (tgt : Int)) (kt : x ≤ y0 → zV G y d tgt lv st h Q) (kf : ¬ x ≤ y0 → zV G y d (pc + 3) lv st h Q) : zV G y d pc lv (.int y0 :: .int x :: st) h Q := by
  by_cases hc : x ≤ y0
  · exact zV.pure (fun w1 w2 => ⟨zw_tl (zw_tl w1), w2⟩) (fun hX hl kk => lv_icmp_le hX.1 hX.2.1 dec ht (fun _ => kk _ hl) (fun hn => absurd hc (by first | exact hn | (intro z; exact z hn)))) (kt hc)
  · exact zV.pure (fun w1 w2 => ⟨zw_tl (zw_tl w1), w2⟩) (fun hX hl kk => lv_icmp_le hX.1 hX.2.1 dec ht (fun hn => absurd hn hc) (fun _ => kk _ hl)) (kf (by first | exact hc | exact Classical.not_not.mp hc))
theorem zV_goto {off : Int} (tgt : Nat) (dec : decode (yC y) pc = .ok (.goto off, 3)) (ht : (pc : Int) + off = (tgt : Int)) (k : zV G y d tgt lv st h Q) : zV G y d pc lv st h Q :=
  zV.pure (fun w1 w2 => ⟨w1, w2⟩) (fun hX hl kk => lv_goto hX.1 hX.2.1 dec ht (kk _ hl)) k
theorem zV_ifnull {off : Int} {v : Value} (tgt : Nat) (dec : decode (yC y) pc = .ok (.ifnull off, 3)) (ht : (pc : Int) + off = (tgt : Int)) (hv : v = .null) (k : zV G y d tgt lv st h Q) : zV G y d pc lv (v :: st) h Q :=
  zV.pure (fun w1 w2 => ⟨zw_tl w1, w2⟩) (fun hX hl kk => by subst hv; exact lv_ifnullN hX.1 hX.2.1 dec ht (kk _ hl)) k
theorem zV_ifnullF {off : Int} {v : Value} {a : Nat} (dec : decode (yC y) pc = .ok (.ifnull off, 3)) (hv : v = .ref a) (k : zV G y d (pc + 3) lv st h Q) : zV G y d pc lv (v :: st) h Q :=
  zV.pure (fun w1 w2 => ⟨zw_tl w1, w2⟩) (fun hX hl kk => by subst hv; exact lv_ifnull hX.1 hX.2.1 dec (kk _ hl)) k
theorem zV_ifnonnull {off : Int} {v : Value} {a : Nat} (tgt : Nat) (dec : decode (yC y) pc = .ok (.ifnonnull off, 3)) (ht : (pc : Int) + off = (tgt : Int)) (hv : v = .ref a) (k : zV G y d tgt lv st h Q) : zV G y d pc lv (v :: st) h Q :=
  zV.pure (fun w1 w2 => ⟨zw_tl w1, w2⟩) (fun hX hl kk => by subst hv; exact lv_ifnonnull hX.1 hX.2.1 dec ht (kk _ hl)) k
theorem zV_ifnonnullF {off : Int} {v : Value} (dec : decode (yC y) pc = .ok (.ifnonnull off, 3)) (hv : v = .null) (k : zV G y d (pc + 3) lv st h Q) : zV G y d pc lv (v :: st) h Q :=
  zV.pure (fun w1 w2 => ⟨zw_tl w1, w2⟩) (fun hX hl kk => by subst hv; exact lv_ifnonnullN hX.1 hX.2.1 dec (kk _ hl)) k
theorem zV_tableOut {dflt lo hi : Int} {offs : Array Int} {len : Nat} {x : Int32} (tgt : Nat) (dec : decode (yC y) pc = .ok (.tableswitch dflt lo hi offs, len)) (hx : x.toInt < lo ∨ hi < x.toInt) (ht : (pc : Int) + dflt = (tgt : Int)) (k : zV G y d tgt lv st h Q) : zV G y d pc lv (.int x :: st) h Q :=
  zV.pure (fun w1 w2 => ⟨zw_tl w1, w2⟩) (fun hX hl kk => lv_tableOut hX.1 hX.2.1 dec hx ht (kk _ hl)) k
theorem zV_tableIn {dflt lo hi : Int} {offs : Array Int} {len : Nat} {x : Int32} {off : Int} (tgt : Nat) (dec : decode (yC y) pc = .ok (.tableswitch dflt lo hi offs, len)) (h1 : ¬ x.toInt < lo) (h2 : ¬ hi < x.toInt) (ho : offs[(x.toInt - lo).toNat]? = some off) (ht : (pc : Int) + off = (tgt : Int)) (k : zV G y d tgt lv st h Q) : zV G y d pc lv (.int x :: st) h Q :=
  zV.pure (fun w1 w2 => ⟨zw_tl w1, w2⟩) (fun hX hl kk => lv_tableIn hX.1 hX.2.1 dec h1 h2 ho ht (kk _ hl)) k
theorem zV_lookup {dflt : Int} {ps : Array (Int × Int)} {len : Nat} {x : Int32} {off : Int} (tgt : Nat) (dec : decode (yC y) pc = .ok (.lookupswitch dflt ps, len)) (hp : (ps.toList.zip (ps.toList.drop 1)).all (fun (a, next) => a.1 < next.1) = true) (ho : Op.lookupswitch.offset ps.toList dflt x.toInt = off) (ht : (pc : Int) + off = (tgt : Int)) (k : zV G y d tgt lv st h Q) : zV G y d pc lv (.int x :: st) h Q :=
  zV.pure (fun w1 w2 => ⟨zw_tl w1, w2⟩) (fun hX hl kk => lv_lookup hX.1 hX.2.1 dec hp ho ht (kk _ hl)) k
end ZO
