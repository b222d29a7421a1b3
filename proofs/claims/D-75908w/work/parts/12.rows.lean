/-! EW: a row an instruction, written by gen/core2.py out of the kit's heads -/
set_option maxRecDepth 100000
theorem ew_iconst {g : eg} {K : ek} {d pc : Nat} {L rest : List Value} {h : eh} {Q : Outcome → eh → Prop} {n : Int} {v : Int32} (hdg : decode K.2.1 pc = .ok (.iconst n, 1)) (hv : Int32.ofInt n = v) (k : ew_G g K d (pc + 1) L ((.int v :: rest)) h Q) : ew_G g K d pc L ((rest)) h Q :=
  ew_purel (fun C _ _ _ _ _ _ _ _ kk => lv_iconst C.1 C.2.1 hdg hv kk) k
theorem ew_bipush {g : eg} {K : ek} {d pc : Nat} {L rest : List Value} {h : eh} {Q : Outcome → eh → Prop} {n : Int} {v : Int32} (hdg : decode K.2.1 pc = .ok (.bipush n, 2)) (hv : (Int8.ofInt n).toInt32 = v) (k : ew_G g K d (pc + 2) L ((.int v :: rest)) h Q) : ew_G g K d pc L ((rest)) h Q :=
  ew_purel (fun C _ _ _ _ _ _ _ _ kk => lv_bipush C.1 C.2.1 hdg hv kk) k
theorem ew_sipush {g : eg} {K : ek} {d pc : Nat} {L rest : List Value} {h : eh} {Q : Outcome → eh → Prop} {n : Int} {v : Int32} (hdg : decode K.2.1 pc = .ok (.sipush n, 3)) (hv : (Int16.ofInt n).toInt32 = v) (k : ew_G g K d (pc + 3) L ((.int v :: rest)) h Q) : ew_G g K d pc L ((rest)) h Q :=
  ew_purel (fun C _ _ _ _ _ _ _ _ kk => lv_sipush C.1 C.2.1 hdg hv kk) k
theorem ew_lconst {g : eg} {K : ek} {d pc : Nat} {L rest : List Value} {h : eh} {Q : Outcome → eh → Prop} {n : Fin 2} {v : Int64} (hdg : decode K.2.1 pc = .ok (.lconst n, 1)) (hv : Int64.ofNat (n : Nat) = v) (k : ew_G g K d (pc + 1) L ((.long v :: rest)) h Q) : ew_G g K d pc L ((rest)) h Q :=
  ew_purel (fun C _ _ _ _ _ _ _ _ kk => lv_lconst C.1 C.2.1 hdg hv kk) k
theorem ew_iadd {g : eg} {K : ek} {d pc : Nat} {L rest : List Value} {h : eh} {Q : Outcome → eh → Prop} {x y : Int32} (hdg : decode K.2.1 pc = .ok (.iadd, 1)) (k : ew_G g K d (pc + 1) L ((.int (x + y) :: rest)) h Q) : ew_G g K d pc L ((.int y :: .int x :: rest)) h Q :=
  ew_purel (fun C _ _ _ _ _ _ _ _ kk => lv_iadd C.1 C.2.1 hdg kk) k
theorem ew_isub {g : eg} {K : ek} {d pc : Nat} {L rest : List Value} {h : eh} {Q : Outcome → eh → Prop} {x y : Int32} (hdg : decode K.2.1 pc = .ok (.isub, 1)) (k : ew_G g K d (pc + 1) L ((.int (x - y) :: rest)) h Q) : ew_G g K d pc L ((.int y :: .int x :: rest)) h Q :=
  ew_purel (fun C _ _ _ _ _ _ _ _ kk => lv_isub C.1 C.2.1 hdg kk) k
theorem ew_imul {g : eg} {K : ek} {d pc : Nat} {L rest : List Value} {h : eh} {Q : Outcome → eh → Prop} {x y : Int32} (hdg : decode K.2.1 pc = .ok (.imul, 1)) (k : ew_G g K d (pc + 1) L ((.int (x * y) :: rest)) h Q) : ew_G g K d pc L ((.int y :: .int x :: rest)) h Q :=
  ew_purel (fun C _ _ _ _ _ _ _ _ kk => lv_imul C.1 C.2.1 hdg kk) k
theorem ew_iand {g : eg} {K : ek} {d pc : Nat} {L rest : List Value} {h : eh} {Q : Outcome → eh → Prop} {x y : Int32} (hdg : decode K.2.1 pc = .ok (.iand, 1)) (k : ew_G g K d (pc + 1) L ((.int (x &&& y) :: rest)) h Q) : ew_G g K d pc L ((.int y :: .int x :: rest)) h Q :=
  ew_purel (fun C _ _ _ _ _ _ _ _ kk => lv_iand C.1 C.2.1 hdg kk) k
theorem ew_ior {g : eg} {K : ek} {d pc : Nat} {L rest : List Value} {h : eh} {Q : Outcome → eh → Prop} {x y : Int32} (hdg : decode K.2.1 pc = .ok (.ior, 1)) (k : ew_G g K d (pc + 1) L ((.int (x ||| y) :: rest)) h Q) : ew_G g K d pc L ((.int y :: .int x :: rest)) h Q :=
  ew_purel (fun C _ _ _ _ _ _ _ _ kk => lv_ior C.1 C.2.1 hdg kk) k
theorem ew_ixor {g : eg} {K : ek} {d pc : Nat} {L rest : List Value} {h : eh} {Q : Outcome → eh → Prop} {x y : Int32} (hdg : decode K.2.1 pc = .ok (.ixor, 1)) (k : ew_G g K d (pc + 1) L ((.int (x ^^^ y) :: rest)) h Q) : ew_G g K d pc L ((.int y :: .int x :: rest)) h Q :=
  ew_purel (fun C _ _ _ _ _ _ _ _ kk => lv_ixor C.1 C.2.1 hdg kk) k
theorem ew_idiv {g : eg} {K : ek} {d pc : Nat} {L rest : List Value} {h : eh} {Q : Outcome → eh → Prop} {x y : Int32} (hdg : decode K.2.1 pc = .ok (.idiv, 1)) (hne : ¬ y = 0) (k : ew_G g K d (pc + 1) L ((.int (x / y) :: rest)) h Q) : ew_G g K d pc L ((.int y :: .int x :: rest)) h Q :=
  ew_purel (fun C _ _ _ _ _ _ _ _ kk => lv_idiv C.1 C.2.1 hdg hne kk) k
theorem ew_irem {g : eg} {K : ek} {d pc : Nat} {L rest : List Value} {h : eh} {Q : Outcome → eh → Prop} {x y : Int32} (hdg : decode K.2.1 pc = .ok (.irem, 1)) (hne : ¬ y = 0) (k : ew_G g K d (pc + 1) L ((.int (x - x / y * y) :: rest)) h Q) : ew_G g K d pc L ((.int y :: .int x :: rest)) h Q :=
  ew_purel (fun C _ _ _ _ _ _ _ _ kk => lv_irem C.1 C.2.1 hdg hne kk) k
theorem ew_ineg {g : eg} {K : ek} {d pc : Nat} {L rest : List Value} {h : eh} {Q : Outcome → eh → Prop} {x : Int32} (hdg : decode K.2.1 pc = .ok (.ineg, 1)) (k : ew_G g K d (pc + 1) L ((.int (-x) :: rest)) h Q) : ew_G g K d pc L ((.int x :: rest)) h Q :=
  ew_purel (fun C _ _ _ _ _ _ _ _ kk => lv_ineg C.1 C.2.1 hdg kk) k
theorem ew_ladd {g : eg} {K : ek} {d pc : Nat} {L rest : List Value} {h : eh} {Q : Outcome → eh → Prop} {x y : Int64} (hdg : decode K.2.1 pc = .ok (.ladd, 1)) (k : ew_G g K d (pc + 1) L ((.long (x + y) :: rest)) h Q) : ew_G g K d pc L ((.long y :: .long x :: rest)) h Q :=
  ew_purel (fun C _ _ _ _ _ _ _ _ kk => lv_ladd C.1 C.2.1 hdg kk) k
theorem ew_lsub {g : eg} {K : ek} {d pc : Nat} {L rest : List Value} {h : eh} {Q : Outcome → eh → Prop} {x y : Int64} (hdg : decode K.2.1 pc = .ok (.lsub, 1)) (k : ew_G g K d (pc + 1) L ((.long (x - y) :: rest)) h Q) : ew_G g K d pc L ((.long y :: .long x :: rest)) h Q :=
  ew_purel (fun C _ _ _ _ _ _ _ _ kk => lv_lsub C.1 C.2.1 hdg kk) k
theorem ew_land {g : eg} {K : ek} {d pc : Nat} {L rest : List Value} {h : eh} {Q : Outcome → eh → Prop} {x y : Int64} (hdg : decode K.2.1 pc = .ok (.land, 1)) (k : ew_G g K d (pc + 1) L ((.long (x &&& y) :: rest)) h Q) : ew_G g K d pc L ((.long y :: .long x :: rest)) h Q :=
  ew_purel (fun C _ _ _ _ _ _ _ _ kk => lv_land C.1 C.2.1 hdg kk) k
theorem ew_lor {g : eg} {K : ek} {d pc : Nat} {L rest : List Value} {h : eh} {Q : Outcome → eh → Prop} {x y : Int64} (hdg : decode K.2.1 pc = .ok (.lor, 1)) (k : ew_G g K d (pc + 1) L ((.long (x ||| y) :: rest)) h Q) : ew_G g K d pc L ((.long y :: .long x :: rest)) h Q :=
  ew_purel (fun C _ _ _ _ _ _ _ _ kk => lv_lor C.1 C.2.1 hdg kk) k
theorem ew_lxor {g : eg} {K : ek} {d pc : Nat} {L rest : List Value} {h : eh} {Q : Outcome → eh → Prop} {x y : Int64} (hdg : decode K.2.1 pc = .ok (.lxor, 1)) (k : ew_G g K d (pc + 1) L ((.long (x ^^^ y) :: rest)) h Q) : ew_G g K d pc L ((.long y :: .long x :: rest)) h Q :=
  ew_purel (fun C _ _ _ _ _ _ _ _ kk => lv_lxor C.1 C.2.1 hdg kk) k
theorem ew_ishl {g : eg} {K : ek} {d pc : Nat} {L rest : List Value} {h : eh} {Q : Outcome → eh → Prop} {x y : Int32} (hdg : decode K.2.1 pc = .ok (.ishl, 1)) (k : ew_G g K d (pc + 1) L ((.int (x <<< (y &&& 31)) :: rest)) h Q) : ew_G g K d pc L ((.int y :: .int x :: rest)) h Q :=
  ew_purel (fun C _ _ _ _ _ _ _ _ kk => lv_ishl C.1 C.2.1 hdg kk) k
theorem ew_ishr {g : eg} {K : ek} {d pc : Nat} {L rest : List Value} {h : eh} {Q : Outcome → eh → Prop} {x y : Int32} (hdg : decode K.2.1 pc = .ok (.ishr, 1)) (k : ew_G g K d (pc + 1) L ((.int (x >>> (y &&& 31)) :: rest)) h Q) : ew_G g K d pc L ((.int y :: .int x :: rest)) h Q :=
  ew_purel (fun C _ _ _ _ _ _ _ _ kk => lv_ishr C.1 C.2.1 hdg kk) k
theorem ew_iushr {g : eg} {K : ek} {d pc : Nat} {L rest : List Value} {h : eh} {Q : Outcome → eh → Prop} {x y v : Int32} (hdg : decode K.2.1 pc = .ok (.iushr, 1)) (hv : (x.toUInt32 >>> (y.toUInt32 &&& Int32.toUInt32 31)).toInt32 = v) (k : ew_G g K d (pc + 1) L ((.int v :: rest)) h Q) : ew_G g K d pc L ((.int y :: .int x :: rest)) h Q :=
  ew_purel (fun C _ _ _ _ _ _ _ _ kk => lv_iushr C.1 C.2.1 hdg hv kk) k
theorem ew_i2l {g : eg} {K : ek} {d pc : Nat} {L rest : List Value} {h : eh} {Q : Outcome → eh → Prop} {x : Int32} {v : Int64} (hdg : decode K.2.1 pc = .ok (.i2l, 1)) (hv : x.toInt64 = v) (k : ew_G g K d (pc + 1) L ((.long v :: rest)) h Q) : ew_G g K d pc L ((.int x :: rest)) h Q :=
  ew_purel (fun C _ _ _ _ _ _ _ _ kk => lv_i2l C.1 C.2.1 hdg hv kk) k
theorem ew_l2i {g : eg} {K : ek} {d pc : Nat} {L rest : List Value} {h : eh} {Q : Outcome → eh → Prop} {x : Int64} {v : Int32} (hdg : decode K.2.1 pc = .ok (.l2i, 1)) (hv : x.toInt32 = v) (k : ew_G g K d (pc + 1) L ((.int v :: rest)) h Q) : ew_G g K d pc L ((.long x :: rest)) h Q :=
  ew_purel (fun C _ _ _ _ _ _ _ _ kk => lv_l2i C.1 C.2.1 hdg hv kk) k
theorem ew_i2b {g : eg} {K : ek} {d pc : Nat} {L rest : List Value} {h : eh} {Q : Outcome → eh → Prop} {x : Int32} {v : Int32} (hdg : decode K.2.1 pc = .ok (.i2b, 1)) (hv : x.toInt8.toInt32 = v) (k : ew_G g K d (pc + 1) L ((.int v :: rest)) h Q) : ew_G g K d pc L ((.int x :: rest)) h Q :=
  ew_purel (fun C _ _ _ _ _ _ _ _ kk => lv_i2b C.1 C.2.1 hdg hv kk) k
theorem ew_i2c {g : eg} {K : ek} {d pc : Nat} {L rest : List Value} {h : eh} {Q : Outcome → eh → Prop} {x : Int32} {v : Int32} (hdg : decode K.2.1 pc = .ok (.i2c, 1)) (hv : (x.toUInt32 % 65536).toInt32 = v) (k : ew_G g K d (pc + 1) L ((.int v :: rest)) h Q) : ew_G g K d pc L ((.int x :: rest)) h Q :=
  ew_purel (fun C _ _ _ _ _ _ _ _ kk => lv_i2c C.1 C.2.1 hdg hv kk) k
theorem ew_lushr {g : eg} {K : ek} {d pc : Nat} {L rest : List Value} {h : eh} {Q : Outcome → eh → Prop} {x v : Int64} {y : Int32} (hdg : decode K.2.1 pc = .ok (.lushr, 1)) (hv : (x.toUInt64 >>> (y.toInt64.toUInt64 &&& Int64.toUInt64 63)).toInt64 = v) (k : ew_G g K d (pc + 1) L ((.long v :: rest)) h Q) : ew_G g K d pc L ((.int y :: .long x :: rest)) h Q :=
  ew_purel (fun C _ _ _ _ _ _ _ _ kk => lv_lushr C.1 C.2.1 hdg hv kk) k
theorem ew_lshl {g : eg} {K : ek} {d pc : Nat} {L rest : List Value} {h : eh} {Q : Outcome → eh → Prop} {x v : Int64} {y : Int32} (hdg : decode K.2.1 pc = .ok (.lshl, 1)) (hv : x <<< (y.toInt64 &&& 63) = v) (k : ew_G g K d (pc + 1) L ((.long v :: rest)) h Q) : ew_G g K d pc L ((.int y :: .long x :: rest)) h Q :=
  ew_purel (fun C _ _ _ _ _ _ _ _ kk => lv_lshl C.1 C.2.1 hdg hv kk) k
theorem ew_lshr {g : eg} {K : ek} {d pc : Nat} {L rest : List Value} {h : eh} {Q : Outcome → eh → Prop} {x v : Int64} {y : Int32} (hdg : decode K.2.1 pc = .ok (.lshr, 1)) (hv : x >>> (y.toInt64 &&& 63) = v) (k : ew_G g K d (pc + 1) L ((.long v :: rest)) h Q) : ew_G g K d pc L ((.int y :: .long x :: rest)) h Q :=
  ew_purel (fun C _ _ _ _ _ _ _ _ kk => lv_lshr C.1 C.2.1 hdg hv kk) k
theorem ew_dup {g : eg} {K : ek} {d pc : Nat} {L rest : List Value} {h : eh} {Q : Outcome → eh → Prop} {va : Value} (hdg : decode K.2.1 pc = .ok (.dup, 1)) (hva : va.category = 1) (k : ew_G g K d (pc + 1) L ((va :: va :: rest)) h Q) : ew_G g K d pc L ((va :: rest)) h Q :=
  ew_purel (fun C _ _ _ _ _ _ _ _ kk => lv_dup C.1 C.2.1 hdg hva kk) k
theorem ew_pop {g : eg} {K : ek} {d pc : Nat} {L rest : List Value} {h : eh} {Q : Outcome → eh → Prop} {va : Value} (hdg : decode K.2.1 pc = .ok (.pop, 1)) (hva : va.category = 1) (k : ew_G g K d (pc + 1) L ((rest)) h Q) : ew_G g K d pc L ((va :: rest)) h Q :=
  ew_purel (fun C _ _ _ _ _ _ _ _ kk => lv_pop C.1 C.2.1 hdg hva kk) k
theorem ew_dup_x1 {g : eg} {K : ek} {d pc : Nat} {L rest : List Value} {h : eh} {Q : Outcome → eh → Prop} {va vb : Value} (hdg : decode K.2.1 pc = .ok (.dup_x1, 1)) (hva : va.category = 1) (hvb : vb.category = 1) (k : ew_G g K d (pc + 1) L ((va :: vb :: va :: rest)) h Q) : ew_G g K d pc L ((va :: vb :: rest)) h Q :=
  ew_purel (fun C _ _ _ _ _ _ _ _ kk => lv_dup_x1 C.1 C.2.1 hdg hva hvb kk) k
theorem ew_dup2_11 {g : eg} {K : ek} {d pc : Nat} {L rest : List Value} {h : eh} {Q : Outcome → eh → Prop} {va vb : Value} (hdg : decode K.2.1 pc = .ok (.dup2, 1)) (hva : va.category = 1) (hvb : vb.category = 1) (k : ew_G g K d (pc + 1) L ((va :: vb :: va :: vb :: rest)) h Q) : ew_G g K d pc L ((va :: vb :: rest)) h Q :=
  ew_purel (fun C _ _ _ _ _ _ _ _ kk => lv_dup2_11 C.1 C.2.1 hdg hva hvb kk) k
theorem ew_goto {g : eg} {K : ek} {d pc : Nat} {L rest : List Value} {h : eh} {Q : Outcome → eh → Prop} {off : Int} {tgt : Nat} (hdg : decode K.2.1 pc = .ok (.goto off, 3)) (ht : (pc : Int) + off = (tgt : Int)) (k : ew_G g K d tgt L (rest) h Q) : ew_G g K d pc L (rest) h Q :=
  ew_purel (fun C _ _ _ _ _ _ _ _ kk => lv_goto C.1 C.2.1 hdg ht kk) k
theorem ew_fconst0 {g : eg} {K : ek} {d pc : Nat} {L rest : List Value} {h : eh} {Q : Outcome → eh → Prop}  (hdg : decode K.2.1 pc = .ok (.fconst 0, 1)) (k : ew_G g K d (pc + 1) L ((.float FP.fconst0 :: rest)) h Q) : ew_G g K d pc L ((rest)) h Q :=
  ew_purel (fun C _ _ _ _ _ _ _ _ kk => lv_fconst0 C.1 C.2.1 hdg kk) k
theorem ew_dconst0 {g : eg} {K : ek} {d pc : Nat} {L rest : List Value} {h : eh} {Q : Outcome → eh → Prop}  (hdg : decode K.2.1 pc = .ok (.dconst 0, 1)) (k : ew_G g K d (pc + 1) L ((.double FP.dconst0 :: rest)) h Q) : ew_G g K d pc L ((rest)) h Q :=
  ew_purel (fun C _ _ _ _ _ _ _ _ kk => lv_dconst0 C.1 C.2.1 hdg kk) k
theorem ew_fdiv {g : eg} {K : ek} {d pc : Nat} {L rest : List Value} {h : eh} {Q : Outcome → eh → Prop} {x y : UInt32} (hdg : decode K.2.1 pc = .ok (.fdiv, 1)) (hne : vf_n32 (FP.fdiv x y)) (k : ew_G g K d (pc + 1) L ((.float (FP.fdiv x y) :: rest)) h Q) : ew_G g K d pc L ((.float y :: .float x :: rest)) h Q :=
  ew_purel (fun C _ _ _ _ _ _ _ _ kk => lv_fdiv C.1 C.2.1 hdg hne kk) k
theorem ew_fcmp {g : eg} {K : ek} {d pc : Nat} {L rest : List Value} {h : eh} {Q : Outcome → eh → Prop} {x y : UInt32} {op : CmpOp} (hdg : decode K.2.1 pc = .ok (.fcmp op, 1)) (k : ew_G g K d (pc + 1) L ((.int (Op.cmpValue (FP.fcmp x y) op) :: rest)) h Q) : ew_G g K d pc L ((.float y :: .float x :: rest)) h Q :=
  ew_purel (fun C _ _ _ _ _ _ _ _ kk => lv_fcmp C.1 C.2.1 hdg kk) k
theorem ew_dcmp {g : eg} {K : ek} {d pc : Nat} {L rest : List Value} {h : eh} {Q : Outcome → eh → Prop} {x y : UInt64} {op : CmpOp} (hdg : decode K.2.1 pc = .ok (.dcmp op, 1)) (k : ew_G g K d (pc + 1) L ((.int (Op.cmpValue (FP.dcmp x y) op) :: rest)) h Q) : ew_G g K d pc L ((.double y :: .double x :: rest)) h Q :=
  ew_purel (fun C _ _ _ _ _ _ _ _ kk => lv_dcmp C.1 C.2.1 hdg kk) k
theorem ew_i2f {g : eg} {K : ek} {d pc : Nat} {L rest : List Value} {h : eh} {Q : Outcome → eh → Prop} {x : Int32} (hdg : decode K.2.1 pc = .ok (.i2f, 1)) (k : ew_G g K d (pc + 1) L ((.float (FP.i2f x) :: rest)) h Q) : ew_G g K d pc L ((.int x :: rest)) h Q :=
  ew_purel (fun C _ _ _ _ _ _ _ _ kk => lv_i2f C.1 C.2.1 hdg kk) k
theorem ew_i2d {g : eg} {K : ek} {d pc : Nat} {L rest : List Value} {h : eh} {Q : Outcome → eh → Prop} {x : Int32} (hdg : decode K.2.1 pc = .ok (.i2d, 1)) (k : ew_G g K d (pc + 1) L ((.double (FP.i2d x) :: rest)) h Q) : ew_G g K d pc L ((.int x :: rest)) h Q :=
  ew_purel (fun C _ _ _ _ _ _ _ _ kk => lv_i2d C.1 C.2.1 hdg kk) k
theorem ew_f2d {g : eg} {K : ek} {d pc : Nat} {L rest : List Value} {h : eh} {Q : Outcome → eh → Prop} {x : UInt32} (hdg : decode K.2.1 pc = .ok (.f2d, 1)) (hne : vf_n64 (FP.f2d x)) (k : ew_G g K d (pc + 1) L ((.double (FP.f2d x) :: rest)) h Q) : ew_G g K d pc L ((.float x :: rest)) h Q :=
  ew_purel (fun C _ _ _ _ _ _ _ _ kk => lv_f2d C.1 C.2.1 hdg hne kk) k
theorem ew_ddiv {g : eg} {K : ek} {d pc : Nat} {L rest : List Value} {h : eh} {Q : Outcome → eh → Prop} {x y : UInt64} (hdg : decode K.2.1 pc = .ok (.ddiv, 1)) (hne : vf_n64 (FP.ddiv x y)) (k : ew_G g K d (pc + 1) L ((.double (FP.ddiv x y) :: rest)) h Q) : ew_G g K d pc L ((.double y :: .double x :: rest)) h Q :=
  ew_purel (fun C _ _ _ _ _ _ _ _ kk => lv_ddiv C.1 C.2.1 hdg hne kk) k
theorem ew_null {g : eg} {K : ek} {d pc : Nat} {L rest : List Value} {h : eh} {Q : Outcome → eh → Prop}  (hdg : decode K.2.1 pc = .ok (.aconst_null, 1)) (k : ew_G g K d (pc + 1) L ((.null :: rest)) h Q) : ew_G g K d pc L (rest) h Q :=
  ew_purel (fun C _ _ _ _ _ _ _ _ kk => lv_null C.1 C.2.1 hdg kk) k
theorem ew_ifnull {g : eg} {K : ek} {d pc : Nat} {L rest : List Value} {h : eh} {Q : Outcome → eh → Prop} {x : Nat} {off : Int} (hdg : decode K.2.1 pc = .ok (.ifnull off, 3)) (k : ew_G g K d (pc + 3) L (rest) h Q) : ew_G g K d pc L ((.ref x :: rest)) h Q :=
  ew_purel (fun C _ _ _ _ _ _ _ _ kk => lv_ifnull C.1 C.2.1 hdg kk) k
theorem ew_ifnonnull {g : eg} {K : ek} {d pc : Nat} {L rest : List Value} {h : eh} {Q : Outcome → eh → Prop} {x : Nat} {off : Int} {tgt : Nat} (hdg : decode K.2.1 pc = .ok (.ifnonnull off, 3)) (ht : (pc : Int) + off = (tgt : Int)) (k : ew_G g K d tgt L (rest) h Q) : ew_G g K d pc L ((.ref x :: rest)) h Q :=
  ew_purel (fun C _ _ _ _ _ _ _ _ kk => lv_ifnonnull C.1 C.2.1 hdg ht kk) k
theorem ew_ifnullN {g : eg} {K : ek} {d pc : Nat} {L rest : List Value} {h : eh} {Q : Outcome → eh → Prop} {off : Int} {tgt : Nat} (hdg : decode K.2.1 pc = .ok (.ifnull off, 3)) (ht : (pc : Int) + off = (tgt : Int)) (k : ew_G g K d tgt L (rest) h Q) : ew_G g K d pc L ((.null :: rest)) h Q :=
  ew_purel (fun C _ _ _ _ _ _ _ _ kk => lv_ifnullN C.1 C.2.1 hdg ht kk) k
theorem ew_ifnonnullN {g : eg} {K : ek} {d pc : Nat} {L rest : List Value} {h : eh} {Q : Outcome → eh → Prop} {off : Int} (hdg : decode K.2.1 pc = .ok (.ifnonnull off, 3)) (k : ew_G g K d (pc + 3) L (rest) h Q) : ew_G g K d pc L ((.null :: rest)) h Q :=
  ew_purel (fun C _ _ _ _ _ _ _ _ kk => lv_ifnonnullN C.1 C.2.1 hdg kk) k
theorem ew_lookup {g : eg} {K : ek} {d pc : Nat} {L rest : List Value} {h : eh} {Q : Outcome → eh → Prop} {dflt : Int} {ps : Array (Int × Int)} {len : Nat} {x : Int32} {off : Int} {tgt : Nat} (hdg : decode K.2.1 pc = .ok (.lookupswitch dflt ps, len)) (hp : (ps.toList.zip (ps.toList.drop 1)).all (fun (a, next) => a.1 < next.1) = true) (ho : Op.lookupswitch.offset ps.toList dflt x.toInt = off) (ht : (pc : Int) + off = (tgt : Int)) (k : ew_G g K d tgt L (rest) h Q) : ew_G g K d pc L ((.int x :: rest)) h Q :=
  ew_purel (fun C _ _ _ _ _ _ _ _ kk => lv_lookup C.1 C.2.1 hdg hp ho ht kk) k
theorem ew_tableOut {g : eg} {K : ek} {d pc : Nat} {L rest : List Value} {h : eh} {Q : Outcome → eh → Prop} {dflt lo hi : Int} {offs : Array Int} {len : Nat} {x : Int32} {tgt : Nat} (hdg : decode K.2.1 pc = .ok (.tableswitch dflt lo hi offs, len)) (h9 : x.toInt < lo ∨ hi < x.toInt) (ht : (pc : Int) + dflt = (tgt : Int)) (k : ew_G g K d tgt L (rest) h Q) : ew_G g K d pc L ((.int x :: rest)) h Q :=
  ew_purel (fun C _ _ _ _ _ _ _ _ kk => lv_tableOut C.1 C.2.1 hdg h9 ht kk) k
theorem ew_tableIn {g : eg} {K : ek} {d pc : Nat} {L rest : List Value} {h : eh} {Q : Outcome → eh → Prop} {dflt lo hi : Int} {offs : Array Int} {len : Nat} {x : Int32} {off : Int} {tgt : Nat} (hdg : decode K.2.1 pc = .ok (.tableswitch dflt lo hi offs, len)) (h1 : ¬ x.toInt < lo) (h2 : ¬ hi < x.toInt) (ho : offs[(x.toInt - lo).toNat]? = some off) (ht : (pc : Int) + off = (tgt : Int)) (k : ew_G g K d tgt L (rest) h Q) : ew_G g K d pc L ((.int x :: rest)) h Q :=
  ew_purel (fun C _ _ _ _ _ _ _ _ kk => lv_tableIn C.1 C.2.1 hdg h1 h2 ho ht kk) k
theorem ew_if_eq {g : eg} {K : ek} {d pc : Nat} {L rest : List Value} {h : eh} {Q : Outcome → eh → Prop} {x : Int32} {off : Int} {tgt : Nat} (hdg : decode K.2.1 pc = .ok (.ifCond .eq off, 3)) (ht : (pc : Int) + off = (tgt : Int)) (kt : x = 0 → ew_G g K d tgt L (rest) h Q) (kf : ¬ x = 0 → ew_G g K d (pc + 3) L (rest) h Q) : ew_G g K d pc L ((.int x :: rest)) h Q := by
  by_cases hc : x = 0
  · exact ew_purel (fun C _ _ _ _ _ _ _ _ kk => lv_if_eq C.1 C.2.1 hdg ht (fun _ => kk) (fun h9 => absurd hc h9)) (kt hc)
  · exact ew_purel (fun C _ _ _ _ _ _ _ _ kk => lv_if_eq C.1 C.2.1 hdg ht (fun h9 => absurd h9 hc) (fun _ => kk)) (kf hc)
theorem ew_if_ne {g : eg} {K : ek} {d pc : Nat} {L rest : List Value} {h : eh} {Q : Outcome → eh → Prop} {x : Int32} {off : Int} {tgt : Nat} (hdg : decode K.2.1 pc = .ok (.ifCond .ne off, 3)) (ht : (pc : Int) + off = (tgt : Int)) (kt : ¬ x = 0 → ew_G g K d tgt L (rest) h Q) (kf : x = 0 → ew_G g K d (pc + 3) L (rest) h Q) : ew_G g K d pc L ((.int x :: rest)) h Q := by
  by_cases hc : x = 0
  · exact ew_purel (fun C _ _ _ _ _ _ _ _ kk => lv_if_ne C.1 C.2.1 hdg ht (fun h9 => absurd hc h9) (fun _ => kk)) (kf hc)
  · exact ew_purel (fun C _ _ _ _ _ _ _ _ kk => lv_if_ne C.1 C.2.1 hdg ht (fun _ => kk) (fun h9 => absurd h9 hc)) (kt hc)
theorem ew_if_lt {g : eg} {K : ek} {d pc : Nat} {L rest : List Value} {h : eh} {Q : Outcome → eh → Prop} {x : Int32} {off : Int} {tgt : Nat} (hdg : decode K.2.1 pc = .ok (.ifCond .lt off, 3)) (ht : (pc : Int) + off = (tgt : Int)) (kt : x < 0 → ew_G g K d tgt L (rest) h Q) (kf : ¬ x < 0 → ew_G g K d (pc + 3) L (rest) h Q) : ew_G g K d pc L ((.int x :: rest)) h Q := by
  by_cases hc : x < 0
  · exact ew_purel (fun C _ _ _ _ _ _ _ _ kk => lv_if_lt C.1 C.2.1 hdg ht (fun _ => kk) (fun h9 => absurd hc h9)) (kt hc)
  · exact ew_purel (fun C _ _ _ _ _ _ _ _ kk => lv_if_lt C.1 C.2.1 hdg ht (fun h9 => absurd h9 hc) (fun _ => kk)) (kf hc)
theorem ew_if_ge {g : eg} {K : ek} {d pc : Nat} {L rest : List Value} {h : eh} {Q : Outcome → eh → Prop} {x : Int32} {off : Int} {tgt : Nat} (hdg : decode K.2.1 pc = .ok (.ifCond .ge off, 3)) (ht : (pc : Int) + off = (tgt : Int)) (kt : 0 ≤ x → ew_G g K d tgt L (rest) h Q) (kf : ¬ 0 ≤ x → ew_G g K d (pc + 3) L (rest) h Q) : ew_G g K d pc L ((.int x :: rest)) h Q := by
  by_cases hc : 0 ≤ x
  · exact ew_purel (fun C _ _ _ _ _ _ _ _ kk => lv_if_ge C.1 C.2.1 hdg ht (fun _ => kk) (fun h9 => absurd hc h9)) (kt hc)
  · exact ew_purel (fun C _ _ _ _ _ _ _ _ kk => lv_if_ge C.1 C.2.1 hdg ht (fun h9 => absurd h9 hc) (fun _ => kk)) (kf hc)
theorem ew_if_gt {g : eg} {K : ek} {d pc : Nat} {L rest : List Value} {h : eh} {Q : Outcome → eh → Prop} {x : Int32} {off : Int} {tgt : Nat} (hdg : decode K.2.1 pc = .ok (.ifCond .gt off, 3)) (ht : (pc : Int) + off = (tgt : Int)) (kt : 0 < x → ew_G g K d tgt L (rest) h Q) (kf : ¬ 0 < x → ew_G g K d (pc + 3) L (rest) h Q) : ew_G g K d pc L ((.int x :: rest)) h Q := by
  by_cases hc : 0 < x
  · exact ew_purel (fun C _ _ _ _ _ _ _ _ kk => lv_if_gt C.1 C.2.1 hdg ht (fun _ => kk) (fun h9 => absurd hc h9)) (kt hc)
  · exact ew_purel (fun C _ _ _ _ _ _ _ _ kk => lv_if_gt C.1 C.2.1 hdg ht (fun h9 => absurd h9 hc) (fun _ => kk)) (kf hc)
theorem ew_if_le {g : eg} {K : ek} {d pc : Nat} {L rest : List Value} {h : eh} {Q : Outcome → eh → Prop} {x : Int32} {off : Int} {tgt : Nat} (hdg : decode K.2.1 pc = .ok (.ifCond .le off, 3)) (ht : (pc : Int) + off = (tgt : Int)) (kt : x ≤ 0 → ew_G g K d tgt L (rest) h Q) (kf : ¬ x ≤ 0 → ew_G g K d (pc + 3) L (rest) h Q) : ew_G g K d pc L ((.int x :: rest)) h Q := by
  by_cases hc : x ≤ 0
  · exact ew_purel (fun C _ _ _ _ _ _ _ _ kk => lv_if_le C.1 C.2.1 hdg ht (fun _ => kk) (fun h9 => absurd hc h9)) (kt hc)
  · exact ew_purel (fun C _ _ _ _ _ _ _ _ kk => lv_if_le C.1 C.2.1 hdg ht (fun h9 => absurd h9 hc) (fun _ => kk)) (kf hc)
theorem ew_icmp_eq {g : eg} {K : ek} {d pc : Nat} {L rest : List Value} {h : eh} {Q : Outcome → eh → Prop} {x y : Int32} {off : Int} {tgt : Nat} (hdg : decode K.2.1 pc = .ok (.if_icmp .eq off, 3)) (ht : (pc : Int) + off = (tgt : Int)) (kt : x = y → ew_G g K d tgt L (rest) h Q) (kf : ¬ x = y → ew_G g K d (pc + 3) L (rest) h Q) : ew_G g K d pc L ((.int y :: .int x :: rest)) h Q := by
  by_cases hc : x = y
  · exact ew_purel (fun C _ _ _ _ _ _ _ _ kk => lv_icmp_eq C.1 C.2.1 hdg ht (fun _ => kk) (fun h9 => absurd hc h9)) (kt hc)
  · exact ew_purel (fun C _ _ _ _ _ _ _ _ kk => lv_icmp_eq C.1 C.2.1 hdg ht (fun h9 => absurd h9 hc) (fun _ => kk)) (kf hc)
theorem ew_icmp_ne {g : eg} {K : ek} {d pc : Nat} {L rest : List Value} {h : eh} {Q : Outcome → eh → Prop} {x y : Int32} {off : Int} {tgt : Nat} (hdg : decode K.2.1 pc = .ok (.if_icmp .ne off, 3)) (ht : (pc : Int) + off = (tgt : Int)) (kt : ¬ x = y → ew_G g K d tgt L (rest) h Q) (kf : x = y → ew_G g K d (pc + 3) L (rest) h Q) : ew_G g K d pc L ((.int y :: .int x :: rest)) h Q := by
  by_cases hc : x = y
  · exact ew_purel (fun C _ _ _ _ _ _ _ _ kk => lv_icmp_ne C.1 C.2.1 hdg ht (fun h9 => absurd hc h9) (fun _ => kk)) (kf hc)
  · exact ew_purel (fun C _ _ _ _ _ _ _ _ kk => lv_icmp_ne C.1 C.2.1 hdg ht (fun _ => kk) (fun h9 => absurd h9 hc)) (kt hc)
theorem ew_icmp_lt {g : eg} {K : ek} {d pc : Nat} {L rest : List Value} {h : eh} {Q : Outcome → eh → Prop} {x y : Int32} {off : Int} {tgt : Nat} (hdg : decode K.2.1 pc = .ok (.if_icmp .lt off, 3)) (ht : (pc : Int) + off = (tgt : Int)) (kt : x < y → ew_G g K d tgt L (rest) h Q) (kf : ¬ x < y → ew_G g K d (pc + 3) L (rest) h Q) : ew_G g K d pc L ((.int y :: .int x :: rest)) h Q := by
  by_cases hc : x < y
  · exact ew_purel (fun C _ _ _ _ _ _ _ _ kk => lv_icmp_lt C.1 C.2.1 hdg ht (fun _ => kk) (fun h9 => absurd hc h9)) (kt hc)
  · exact ew_purel (fun C _ _ _ _ _ _ _ _ kk => lv_icmp_lt C.1 C.2.1 hdg ht (fun h9 => absurd h9 hc) (fun _ => kk)) (kf hc)
theorem ew_icmp_ge {g : eg} {K : ek} {d pc : Nat} {L rest : List Value} {h : eh} {Q : Outcome → eh → Prop} {x y : Int32} {off : Int} {tgt : Nat} (hdg : decode K.2.1 pc = .ok (.if_icmp .ge off, 3)) (ht : (pc : Int) + off = (tgt : Int)) (kt : y ≤ x → ew_G g K d tgt L (rest) h Q) (kf : ¬ y ≤ x → ew_G g K d (pc + 3) L (rest) h Q) : ew_G g K d pc L ((.int y :: .int x :: rest)) h Q := by
  by_cases hc : y ≤ x
  · exact ew_purel (fun C _ _ _ _ _ _ _ _ kk => lv_icmp_ge C.1 C.2.1 hdg ht (fun _ => kk) (fun h9 => absurd hc h9)) (kt hc)
  · exact ew_purel (fun C _ _ _ _ _ _ _ _ kk => lv_icmp_ge C.1 C.2.1 hdg ht (fun h9 => absurd h9 hc) (fun _ => kk)) (kf hc)
theorem ew_icmp_gt {g : eg} {K : ek} {d pc : Nat} {L rest : List Value} {h : eh} {Q : Outcome → eh → Prop} {x y : Int32} {off : Int} {tgt : Nat} (hdg : decode K.2.1 pc = .ok (.if_icmp .gt off, 3)) (ht : (pc : Int) + off = (tgt : Int)) (kt : y < x → ew_G g K d tgt L (rest) h Q) (kf : ¬ y < x → ew_G g K d (pc + 3) L (rest) h Q) : ew_G g K d pc L ((.int y :: .int x :: rest)) h Q := by
  by_cases hc : y < x
  · exact ew_purel (fun C _ _ _ _ _ _ _ _ kk => lv_icmp_gt C.1 C.2.1 hdg ht (fun _ => kk) (fun h9 => absurd hc h9)) (kt hc)
  · exact ew_purel (fun C _ _ _ _ _ _ _ _ kk => lv_icmp_gt C.1 C.2.1 hdg ht (fun h9 => absurd h9 hc) (fun _ => kk)) (kf hc)
theorem ew_icmp_le {g : eg} {K : ek} {d pc : Nat} {L rest : List Value} {h : eh} {Q : Outcome → eh → Prop} {x y : Int32} {off : Int} {tgt : Nat} (hdg : decode K.2.1 pc = .ok (.if_icmp .le off, 3)) (ht : (pc : Int) + off = (tgt : Int)) (kt : x ≤ y → ew_G g K d tgt L (rest) h Q) (kf : ¬ x ≤ y → ew_G g K d (pc + 3) L (rest) h Q) : ew_G g K d pc L ((.int y :: .int x :: rest)) h Q := by
  by_cases hc : x ≤ y
  · exact ew_purel (fun C _ _ _ _ _ _ _ _ kk => lv_icmp_le C.1 C.2.1 hdg ht (fun _ => kk) (fun h9 => absurd hc h9)) (kt hc)
  · exact ew_purel (fun C _ _ _ _ _ _ _ _ kk => lv_icmp_le C.1 C.2.1 hdg ht (fun h9 => absurd h9 hc) (fun _ => kk)) (kf hc)
theorem ew_acmp_eq {g : eg} {K : ek} {d pc : Nat} {L rest : List Value} {h : eh} {Q : Outcome → eh → Prop} {rx ry : Option Nat} {off : Int} {tgt : Nat} (hdg : decode K.2.1 pc = .ok (.if_acmp .eq off, 3)) (ht : (pc : Int) + off = (tgt : Int)) (kt : rx = ry → ew_G g K d tgt L (rest) h Q) (kf : ¬ rx = ry → ew_G g K d (pc + 3) L (rest) h Q) : ew_G g K d pc L ((va_rf ry :: va_rf rx :: rest)) h Q := by
  by_cases hc : rx = ry
  · exact ew_purel (fun C _ _ _ _ _ _ _ _ kk => lv_acmp_eq C.1 C.2.1 hdg ht (fun _ => kk) (fun h9 => absurd hc h9)) (kt hc)
  · exact ew_purel (fun C _ _ _ _ _ _ _ _ kk => lv_acmp_eq C.1 C.2.1 hdg ht (fun h9 => absurd h9 hc) (fun _ => kk)) (kf hc)
theorem ew_acmp_ne {g : eg} {K : ek} {d pc : Nat} {L rest : List Value} {h : eh} {Q : Outcome → eh → Prop} {rx ry : Option Nat} {off : Int} {tgt : Nat} (hdg : decode K.2.1 pc = .ok (.if_acmp .ne off, 3)) (ht : (pc : Int) + off = (tgt : Int)) (kt : ¬ rx = ry → ew_G g K d tgt L (rest) h Q) (kf : rx = ry → ew_G g K d (pc + 3) L (rest) h Q) : ew_G g K d pc L ((va_rf ry :: va_rf rx :: rest)) h Q := by
  by_cases hc : rx = ry
  · exact ew_purel (fun C _ _ _ _ _ _ _ _ kk => lv_acmp_ne C.1 C.2.1 hdg ht (fun h9 => absurd hc h9) (fun _ => kk)) (kf hc)
  · exact ew_purel (fun C _ _ _ _ _ _ _ _ kk => lv_acmp_ne C.1 C.2.1 hdg ht (fun _ => kk) (fun h9 => absurd h9 hc)) (kt hc)
theorem ew_lcmp {g : eg} {K : ek} {d pc : Nat} {L rest : List Value} {h : eh} {Q : Outcome → eh → Prop} {x y : Int64} (hdg : decode K.2.1 pc = .ok (.lcmp, 1)) (k : ew_G g K d (pc + 1) L ((.int (lg_cmp x y) :: rest)) h Q) : ew_G g K d pc L ((.long y :: .long x :: rest)) h Q :=
  ew_purel (fun C _ _ _ _ _ _ _ _ kk => W.lcmp C.1 C.2.1 hdg kk) k
theorem ew_iload_n {g : eg} {K : ek} {d pc : Nat} {L rest : List Value} {h : eh} {Q : Outcome → eh → Prop} {k : Fin 4} {x : Int32} (hdg : decode K.2.1 pc = .ok (.iload_n k, 1)) (hl : L[(k : Nat)]? = some (.int x)) (kk : ew_G g K d (pc + 1) L (.int x :: rest) h Q) : ew_G g K d pc L rest h Q :=
  ew_purel (fun C _ _ _ _ _ _ _ hl9 kk => lv_iload_n C.1 C.2.1 hdg rfl (hl9.2.2 _ _ hl rfl) kk) kk
theorem ew_iload {g : eg} {K : ek} {d pc : Nat} {L rest : List Value} {h : eh} {Q : Outcome → eh → Prop} {i : Nat} {x : Int32} (hdg : decode K.2.1 pc = .ok (.iload i, 2)) (hl : L[i]? = some (.int x)) (kk : ew_G g K d (pc + 2) L (.int x :: rest) h Q) : ew_G g K d pc L rest h Q :=
  ew_purel (fun C _ _ _ _ _ _ _ hl9 kk => lv_iload C.1 C.2.1 hdg (hl9.2.2 _ _ hl rfl) kk) kk
theorem ew_lload_n {g : eg} {K : ek} {d pc : Nat} {L rest : List Value} {h : eh} {Q : Outcome → eh → Prop} {k : Fin 4} {x : Int64} (hdg : decode K.2.1 pc = .ok (.lload_n k, 1)) (hl : L[(k : Nat)]? = some (.long x)) (kk : ew_G g K d (pc + 1) L (.long x :: rest) h Q) : ew_G g K d pc L rest h Q :=
  ew_purel (fun C _ _ _ _ _ _ _ hl9 kk => lv_lload_n C.1 C.2.1 hdg rfl (hl9.2.2 _ _ hl rfl) kk) kk
theorem ew_lload {g : eg} {K : ek} {d pc : Nat} {L rest : List Value} {h : eh} {Q : Outcome → eh → Prop} {i : Nat} {x : Int64} (hdg : decode K.2.1 pc = .ok (.lload i, 2)) (hl : L[i]? = some (.long x)) (kk : ew_G g K d (pc + 2) L (.long x :: rest) h Q) : ew_G g K d pc L rest h Q :=
  ew_purel (fun C _ _ _ _ _ _ _ hl9 kk => lv_lload C.1 C.2.1 hdg (hl9.2.2 _ _ hl rfl) kk) kk
theorem ew_fload_n {g : eg} {K : ek} {d pc : Nat} {L rest : List Value} {h : eh} {Q : Outcome → eh → Prop} {k : Fin 4} {x : UInt32} (hdg : decode K.2.1 pc = .ok (.fload_n k, 1)) (hl : L[(k : Nat)]? = some (.float x)) (kk : ew_G g K d (pc + 1) L (.float x :: rest) h Q) : ew_G g K d pc L rest h Q :=
  ew_purel (fun C _ _ _ _ _ _ _ hl9 kk => lv_fload_n C.1 C.2.1 hdg rfl (hl9.2.2 _ _ hl rfl) kk) kk
theorem ew_fload {g : eg} {K : ek} {d pc : Nat} {L rest : List Value} {h : eh} {Q : Outcome → eh → Prop} {i : Nat} {x : UInt32} (hdg : decode K.2.1 pc = .ok (.fload i, 2)) (hl : L[i]? = some (.float x)) (kk : ew_G g K d (pc + 2) L (.float x :: rest) h Q) : ew_G g K d pc L rest h Q :=
  ew_purel (fun C _ _ _ _ _ _ _ hl9 kk => lv_fload C.1 C.2.1 hdg (hl9.2.2 _ _ hl rfl) kk) kk
theorem ew_dload_n {g : eg} {K : ek} {d pc : Nat} {L rest : List Value} {h : eh} {Q : Outcome → eh → Prop} {k : Fin 4} {x : UInt64} (hdg : decode K.2.1 pc = .ok (.dload_n k, 1)) (hl : L[(k : Nat)]? = some (.double x)) (kk : ew_G g K d (pc + 1) L (.double x :: rest) h Q) : ew_G g K d pc L rest h Q :=
  ew_purel (fun C _ _ _ _ _ _ _ hl9 kk => lv_dload_n C.1 C.2.1 hdg rfl (hl9.2.2 _ _ hl rfl) kk) kk
theorem ew_dload {g : eg} {K : ek} {d pc : Nat} {L rest : List Value} {h : eh} {Q : Outcome → eh → Prop} {i : Nat} {x : UInt64} (hdg : decode K.2.1 pc = .ok (.dload i, 2)) (hl : L[i]? = some (.double x)) (kk : ew_G g K d (pc + 2) L (.double x :: rest) h Q) : ew_G g K d pc L rest h Q :=
  ew_purel (fun C _ _ _ _ _ _ _ hl9 kk => lv_dload C.1 C.2.1 hdg (hl9.2.2 _ _ hl rfl) kk) kk
theorem ew_aload_n {g : eg} {K : ek} {d pc : Nat} {L rest : List Value} {h : eh} {Q : Outcome → eh → Prop} {k : Fin 4} {x : Nat} (hdg : decode K.2.1 pc = .ok (.aload_n k, 1)) (hl : L[(k : Nat)]? = some (.ref x)) (kk : ew_G g K d (pc + 1) L (.ref x :: rest) h Q) : ew_G g K d pc L rest h Q :=
  ew_purel (fun C _ _ _ _ _ _ _ hl9 kk => lv_aload_n C.1 C.2.1 hdg rfl (hl9.2.2 _ _ hl rfl) kk) kk
theorem ew_aload {g : eg} {K : ek} {d pc : Nat} {L rest : List Value} {h : eh} {Q : Outcome → eh → Prop} {i : Nat} {x : Nat} (hdg : decode K.2.1 pc = .ok (.aload i, 2)) (hl : L[i]? = some (.ref x)) (kk : ew_G g K d (pc + 2) L (.ref x :: rest) h Q) : ew_G g K d pc L rest h Q :=
  ew_purel (fun C _ _ _ _ _ _ _ hl9 kk => lv_aload C.1 C.2.1 hdg (hl9.2.2 _ _ hl rfl) kk) kk
theorem ew_aload_nN {g : eg} {K : ek} {d pc : Nat} {L rest : List Value} {h : eh} {Q : Outcome → eh → Prop} {k : Fin 4} (hdg : decode K.2.1 pc = .ok (.aload_n k, 1)) (hl : L[(k : Nat)]? = some .null) (kk : ew_G g K d (pc + 1) L (.null :: rest) h Q) : ew_G g K d pc L rest h Q :=
  ew_purel (fun C _ _ _ _ _ _ _ hl9 kk => lv_aload_nN C.1 C.2.1 hdg rfl (hl9.2.2 _ _ hl rfl) kk) kk
theorem ew_aloadN {g : eg} {K : ek} {d pc : Nat} {L rest : List Value} {h : eh} {Q : Outcome → eh → Prop} {i : Nat} (hdg : decode K.2.1 pc = .ok (.aload i, 2)) (hl : L[i]? = some .null) (kk : ew_G g K d (pc + 2) L (.null :: rest) h Q) : ew_G g K d pc L rest h Q :=
  ew_purel (fun C _ _ _ _ _ _ _ hl9 kk => lv_aloadN C.1 C.2.1 hdg (hl9.2.2 _ _ hl rfl) kk) kk
theorem ew_aload_nq {g : eg} {K : ek} {d pc : Nat} {L rest : List Value} {h : eh} {Q : Outcome → eh → Prop} {k : Fin 4} {o : Option Nat} (hdg : decode K.2.1 pc = .ok (.aload_n k, 1)) (hl : L[(k : Nat)]? = some (va_rf o)) (kk : ew_G g K d (pc + 1) L (va_rf o :: rest) h Q) : ew_G g K d pc L rest h Q := by
  cases o with
  | none => exact ew_aload_nN hdg hl kk
  | some x => exact ew_aload_n hdg hl kk
theorem ew_aloadq {g : eg} {K : ek} {d pc : Nat} {L rest : List Value} {h : eh} {Q : Outcome → eh → Prop} {i : Nat} {o : Option Nat} (hdg : decode K.2.1 pc = .ok (.aload i, 2)) (hl : L[i]? = some (va_rf o)) (kk : ew_G g K d (pc + 2) L (va_rf o :: rest) h Q) : ew_G g K d pc L rest h Q := by
  cases o with
  | none => exact ew_aloadN hdg hl kk
  | some x => exact ew_aload hdg hl kk
/-- the places of the locals, as the kit's rows list them -/
def ew_ll (L : List Value) : List (Nat × Value) := L.zipIdx.filterMap (fun q => if ew_isv q.1 = true then some (q.2, q.1) else none)
theorem ew_ll_mem {L : List Value} {i : Nat} {v : Value} (h : L[i]? = some v) (hv : ew_isv v = true) : (i, v) ∈ ew_ll L := by
  refine List.mem_filterMap.mpr ⟨(v, i), ?_, by simp [hv]⟩
  exact List.mem_iff_getElem?.mpr ⟨i, by simp [List.getElem?_zipIdx, h]⟩
theorem ew_loc.has {L : List Value} {ls : Array Slot} {n : Nat} (h : ew_loc L ls n) : lv_has ls n (ew_ll L) := by
  refine ⟨h.1, h.2.1, fun q hq => ?_⟩
  obtain ⟨⟨v, i⟩, h1, h2⟩ := List.mem_filterMap.mp hq
  obtain ⟨j, hj⟩ := List.mem_iff_getElem?.mp h1
  rw [List.getElem?_zipIdx] at hj
  cases hL : L[j]? with
  | none => rw [hL] at hj; simp at hj
  | some w =>
    rw [hL] at hj
    simp only [Option.map_some, Option.some.injEq, Prod.mk.injEq] at hj
    obtain ⟨rfl, hji⟩ := hj
    by_cases hv : ew_isv w = true
    · simp only [hv, if_true, Option.some.injEq] at h2
      subst h2
      have e : i = j := by omega
      subst e
      exact h.2.2 _ _ hL hv
    · simp [hv] at h2
def ew_put1 (L : List Value) (i : Nat) (v : Value) (L1 : List Value) : Prop := ∀ (j : Nat) (w : Value), L1[j]? = some w → ew_isv w = true → (j = i ∧ w = v) ∨ (j ≠ i ∧ L[j]? = some w ∧ (j + 1 = i → w.category ≠ 2))
def ew_put2 (L : List Value) (i : Nat) (v : Value) (L1 : List Value) : Prop := ∀ (j : Nat) (w : Value), L1[j]? = some w → ew_isv w = true → (j = i ∧ w = v) ∨ (j ≠ i ∧ j ≠ i + 1 ∧ L[j]? = some w ∧ (j + 1 = i → w.category ≠ 2))
theorem p1_z {y v : Value} {r : List Value} : ew_put1 (y :: r) 0 v (v :: r) := by
  intro j w h hw
  cases j with
  | zero => exact Or.inl ⟨rfl, by simpa using h.symm⟩
  | succ j => exact Or.inr ⟨by omega, by simpa using h, fun h9 => by omega⟩
theorem p1_s {y v : Value} {i : Nat} {r r1 : List Value} (hr : ew_put1 r i v r1) (hc : i = 0 → y.category ≠ 2) : ew_put1 (y :: r) (i + 1) v (y :: r1) := by
  intro j w h hw
  cases j with
  | zero =>
    have e : y = w := by simpa using h
    subst e
    exact Or.inr ⟨by omega, rfl, fun h9 => hc (by omega)⟩
  | succ j =>
    rcases hr j w (by simpa using h) hw with ⟨h1, h2⟩ | ⟨h1, h2, h3⟩
    · exact Or.inl ⟨by omega, h2⟩
    · exact Or.inr ⟨by omega, by simpa using h2, fun h9 => h3 (by omega)⟩
theorem p2_z {y z v : Value} {r : List Value} : ew_put2 (y :: z :: r) 0 v (v :: no_ :: r) := by
  intro j w h hw
  match j, h with
  | 0, h => exact Or.inl ⟨rfl, by simpa using h.symm⟩
  | 1, h =>
    have e : no_ = w := by simpa using h
    subst e
    cases hw
  | j + 2, h => exact Or.inr ⟨by omega, by omega, by simpa using h, fun h9 => by omega⟩
theorem p2_s {y v : Value} {i : Nat} {r r1 : List Value} (hr : ew_put2 r i v r1) (hc : i = 0 → y.category ≠ 2) : ew_put2 (y :: r) (i + 1) v (y :: r1) := by
  intro j w h hw
  cases j with
  | zero =>
    have e : y = w := by simpa using h
    subst e
    exact Or.inr ⟨by omega, by omega, rfl, fun h9 => hc (by omega)⟩
  | succ j =>
    rcases hr j w (by simpa using h) hw with ⟨h1, h2⟩ | ⟨h1, h2, h3, h4⟩
    · exact Or.inl ⟨by omega, h2⟩
    · exact Or.inr ⟨by omega, by omega, by simpa using h3, fun h9 => h4 (by omega)⟩
def ew_c2 : Value → Bool
  | .long _ => true
  | .double _ => true
  | _ => false
theorem ew_c2n {v : Value} (h : ew_c2 v = false) : v.category ≠ 2 := by
  cases v <;> first | (cases h; done) | (intro h9; cases h9)
theorem p1_0 {y0 v : Value} {r : List Value} : ew_put1 (y0 :: r) 0 v (v :: r) := p1_z
theorem p2_0 {y0 z v : Value} {r : List Value} : ew_put2 (y0 :: z :: r) 0 v (v :: no_ :: r) := p2_z
theorem p1_1 {y0 y1 v : Value} {r : List Value} (hc : ew_c2 y0 = false) : ew_put1 (y0 :: y1 :: r) 1 v (y0 :: v :: r) := p1_s (p1_z) (fun _ => ew_c2n hc)
theorem p2_1 {y0 y1 z v : Value} {r : List Value} (hc : ew_c2 y0 = false) : ew_put2 (y0 :: y1 :: z :: r) 1 v (y0 :: v :: no_ :: r) := p2_s (p2_z) (fun _ => ew_c2n hc)
theorem p1_2 {y0 y1 y2 v : Value} {r : List Value} (hc : ew_c2 y1 = false) : ew_put1 (y0 :: y1 :: y2 :: r) 2 v (y0 :: y1 :: v :: r) := p1_s (p1_s (p1_z) (fun _ => ew_c2n hc)) (fun h9 => absurd h9 (Nat.succ_ne_zero _))
theorem p2_2 {y0 y1 y2 z v : Value} {r : List Value} (hc : ew_c2 y1 = false) : ew_put2 (y0 :: y1 :: y2 :: z :: r) 2 v (y0 :: y1 :: v :: no_ :: r) := p2_s (p2_s (p2_z) (fun _ => ew_c2n hc)) (fun h9 => absurd h9 (Nat.succ_ne_zero _))
theorem p1_3 {y0 y1 y2 y3 v : Value} {r : List Value} (hc : ew_c2 y2 = false) : ew_put1 (y0 :: y1 :: y2 :: y3 :: r) 3 v (y0 :: y1 :: y2 :: v :: r) := p1_s (p1_s (p1_s (p1_z) (fun _ => ew_c2n hc)) (fun h9 => absurd h9 (Nat.succ_ne_zero _))) (fun h9 => absurd h9 (Nat.succ_ne_zero _))
theorem p2_3 {y0 y1 y2 y3 z v : Value} {r : List Value} (hc : ew_c2 y2 = false) : ew_put2 (y0 :: y1 :: y2 :: y3 :: z :: r) 3 v (y0 :: y1 :: y2 :: v :: no_ :: r) := p2_s (p2_s (p2_s (p2_z) (fun _ => ew_c2n hc)) (fun h9 => absurd h9 (Nat.succ_ne_zero _))) (fun h9 => absurd h9 (Nat.succ_ne_zero _))
theorem p1_4 {y0 y1 y2 y3 y4 v : Value} {r : List Value} (hc : ew_c2 y3 = false) : ew_put1 (y0 :: y1 :: y2 :: y3 :: y4 :: r) 4 v (y0 :: y1 :: y2 :: y3 :: v :: r) := p1_s (p1_s (p1_s (p1_s (p1_z) (fun _ => ew_c2n hc)) (fun h9 => absurd h9 (Nat.succ_ne_zero _))) (fun h9 => absurd h9 (Nat.succ_ne_zero _))) (fun h9 => absurd h9 (Nat.succ_ne_zero _))
theorem p2_4 {y0 y1 y2 y3 y4 z v : Value} {r : List Value} (hc : ew_c2 y3 = false) : ew_put2 (y0 :: y1 :: y2 :: y3 :: y4 :: z :: r) 4 v (y0 :: y1 :: y2 :: y3 :: v :: no_ :: r) := p2_s (p2_s (p2_s (p2_s (p2_z) (fun _ => ew_c2n hc)) (fun h9 => absurd h9 (Nat.succ_ne_zero _))) (fun h9 => absurd h9 (Nat.succ_ne_zero _))) (fun h9 => absurd h9 (Nat.succ_ne_zero _))
theorem p1_5 {y0 y1 y2 y3 y4 y5 v : Value} {r : List Value} (hc : ew_c2 y4 = false) : ew_put1 (y0 :: y1 :: y2 :: y3 :: y4 :: y5 :: r) 5 v (y0 :: y1 :: y2 :: y3 :: y4 :: v :: r) := p1_s (p1_s (p1_s (p1_s (p1_s (p1_z) (fun _ => ew_c2n hc)) (fun h9 => absurd h9 (Nat.succ_ne_zero _))) (fun h9 => absurd h9 (Nat.succ_ne_zero _))) (fun h9 => absurd h9 (Nat.succ_ne_zero _))) (fun h9 => absurd h9 (Nat.succ_ne_zero _))
theorem p2_5 {y0 y1 y2 y3 y4 y5 z v : Value} {r : List Value} (hc : ew_c2 y4 = false) : ew_put2 (y0 :: y1 :: y2 :: y3 :: y4 :: y5 :: z :: r) 5 v (y0 :: y1 :: y2 :: y3 :: y4 :: v :: no_ :: r) := p2_s (p2_s (p2_s (p2_s (p2_s (p2_z) (fun _ => ew_c2n hc)) (fun h9 => absurd h9 (Nat.succ_ne_zero _))) (fun h9 => absurd h9 (Nat.succ_ne_zero _))) (fun h9 => absurd h9 (Nat.succ_ne_zero _))) (fun h9 => absurd h9 (Nat.succ_ne_zero _))
theorem p1_6 {y0 y1 y2 y3 y4 y5 y6 v : Value} {r : List Value} (hc : ew_c2 y5 = false) : ew_put1 (y0 :: y1 :: y2 :: y3 :: y4 :: y5 :: y6 :: r) 6 v (y0 :: y1 :: y2 :: y3 :: y4 :: y5 :: v :: r) := p1_s (p1_s (p1_s (p1_s (p1_s (p1_s (p1_z) (fun _ => ew_c2n hc)) (fun h9 => absurd h9 (Nat.succ_ne_zero _))) (fun h9 => absurd h9 (Nat.succ_ne_zero _))) (fun h9 => absurd h9 (Nat.succ_ne_zero _))) (fun h9 => absurd h9 (Nat.succ_ne_zero _))) (fun h9 => absurd h9 (Nat.succ_ne_zero _))
theorem p2_6 {y0 y1 y2 y3 y4 y5 y6 z v : Value} {r : List Value} (hc : ew_c2 y5 = false) : ew_put2 (y0 :: y1 :: y2 :: y3 :: y4 :: y5 :: y6 :: z :: r) 6 v (y0 :: y1 :: y2 :: y3 :: y4 :: y5 :: v :: no_ :: r) := p2_s (p2_s (p2_s (p2_s (p2_s (p2_s (p2_z) (fun _ => ew_c2n hc)) (fun h9 => absurd h9 (Nat.succ_ne_zero _))) (fun h9 => absurd h9 (Nat.succ_ne_zero _))) (fun h9 => absurd h9 (Nat.succ_ne_zero _))) (fun h9 => absurd h9 (Nat.succ_ne_zero _))) (fun h9 => absurd h9 (Nat.succ_ne_zero _))
theorem p1_7 {y0 y1 y2 y3 y4 y5 y6 y7 v : Value} {r : List Value} (hc : ew_c2 y6 = false) : ew_put1 (y0 :: y1 :: y2 :: y3 :: y4 :: y5 :: y6 :: y7 :: r) 7 v (y0 :: y1 :: y2 :: y3 :: y4 :: y5 :: y6 :: v :: r) := p1_s (p1_s (p1_s (p1_s (p1_s (p1_s (p1_s (p1_z) (fun _ => ew_c2n hc)) (fun h9 => absurd h9 (Nat.succ_ne_zero _))) (fun h9 => absurd h9 (Nat.succ_ne_zero _))) (fun h9 => absurd h9 (Nat.succ_ne_zero _))) (fun h9 => absurd h9 (Nat.succ_ne_zero _))) (fun h9 => absurd h9 (Nat.succ_ne_zero _))) (fun h9 => absurd h9 (Nat.succ_ne_zero _))
theorem p2_7 {y0 y1 y2 y3 y4 y5 y6 y7 z v : Value} {r : List Value} (hc : ew_c2 y6 = false) : ew_put2 (y0 :: y1 :: y2 :: y3 :: y4 :: y5 :: y6 :: y7 :: z :: r) 7 v (y0 :: y1 :: y2 :: y3 :: y4 :: y5 :: y6 :: v :: no_ :: r) := p2_s (p2_s (p2_s (p2_s (p2_s (p2_s (p2_s (p2_z) (fun _ => ew_c2n hc)) (fun h9 => absurd h9 (Nat.succ_ne_zero _))) (fun h9 => absurd h9 (Nat.succ_ne_zero _))) (fun h9 => absurd h9 (Nat.succ_ne_zero _))) (fun h9 => absurd h9 (Nat.succ_ne_zero _))) (fun h9 => absurd h9 (Nat.succ_ne_zero _))) (fun h9 => absurd h9 (Nat.succ_ne_zero _))
theorem p1_8 {y0 y1 y2 y3 y4 y5 y6 y7 y8 v : Value} {r : List Value} (hc : ew_c2 y7 = false) : ew_put1 (y0 :: y1 :: y2 :: y3 :: y4 :: y5 :: y6 :: y7 :: y8 :: r) 8 v (y0 :: y1 :: y2 :: y3 :: y4 :: y5 :: y6 :: y7 :: v :: r) := p1_s (p1_s (p1_s (p1_s (p1_s (p1_s (p1_s (p1_s (p1_z) (fun _ => ew_c2n hc)) (fun h9 => absurd h9 (Nat.succ_ne_zero _))) (fun h9 => absurd h9 (Nat.succ_ne_zero _))) (fun h9 => absurd h9 (Nat.succ_ne_zero _))) (fun h9 => absurd h9 (Nat.succ_ne_zero _))) (fun h9 => absurd h9 (Nat.succ_ne_zero _))) (fun h9 => absurd h9 (Nat.succ_ne_zero _))) (fun h9 => absurd h9 (Nat.succ_ne_zero _))
theorem p2_8 {y0 y1 y2 y3 y4 y5 y6 y7 y8 z v : Value} {r : List Value} (hc : ew_c2 y7 = false) : ew_put2 (y0 :: y1 :: y2 :: y3 :: y4 :: y5 :: y6 :: y7 :: y8 :: z :: r) 8 v (y0 :: y1 :: y2 :: y3 :: y4 :: y5 :: y6 :: y7 :: v :: no_ :: r) := p2_s (p2_s (p2_s (p2_s (p2_s (p2_s (p2_s (p2_s (p2_z) (fun _ => ew_c2n hc)) (fun h9 => absurd h9 (Nat.succ_ne_zero _))) (fun h9 => absurd h9 (Nat.succ_ne_zero _))) (fun h9 => absurd h9 (Nat.succ_ne_zero _))) (fun h9 => absurd h9 (Nat.succ_ne_zero _))) (fun h9 => absurd h9 (Nat.succ_ne_zero _))) (fun h9 => absurd h9 (Nat.succ_ne_zero _))) (fun h9 => absurd h9 (Nat.succ_ne_zero _))
theorem p1_9 {y0 y1 y2 y3 y4 y5 y6 y7 y8 y9 v : Value} {r : List Value} (hc : ew_c2 y8 = false) : ew_put1 (y0 :: y1 :: y2 :: y3 :: y4 :: y5 :: y6 :: y7 :: y8 :: y9 :: r) 9 v (y0 :: y1 :: y2 :: y3 :: y4 :: y5 :: y6 :: y7 :: y8 :: v :: r) := p1_s (p1_s (p1_s (p1_s (p1_s (p1_s (p1_s (p1_s (p1_s (p1_z) (fun _ => ew_c2n hc)) (fun h9 => absurd h9 (Nat.succ_ne_zero _))) (fun h9 => absurd h9 (Nat.succ_ne_zero _))) (fun h9 => absurd h9 (Nat.succ_ne_zero _))) (fun h9 => absurd h9 (Nat.succ_ne_zero _))) (fun h9 => absurd h9 (Nat.succ_ne_zero _))) (fun h9 => absurd h9 (Nat.succ_ne_zero _))) (fun h9 => absurd h9 (Nat.succ_ne_zero _))) (fun h9 => absurd h9 (Nat.succ_ne_zero _))
theorem p2_9 {y0 y1 y2 y3 y4 y5 y6 y7 y8 y9 z v : Value} {r : List Value} (hc : ew_c2 y8 = false) : ew_put2 (y0 :: y1 :: y2 :: y3 :: y4 :: y5 :: y6 :: y7 :: y8 :: y9 :: z :: r) 9 v (y0 :: y1 :: y2 :: y3 :: y4 :: y5 :: y6 :: y7 :: y8 :: v :: no_ :: r) := p2_s (p2_s (p2_s (p2_s (p2_s (p2_s (p2_s (p2_s (p2_s (p2_z) (fun _ => ew_c2n hc)) (fun h9 => absurd h9 (Nat.succ_ne_zero _))) (fun h9 => absurd h9 (Nat.succ_ne_zero _))) (fun h9 => absurd h9 (Nat.succ_ne_zero _))) (fun h9 => absurd h9 (Nat.succ_ne_zero _))) (fun h9 => absurd h9 (Nat.succ_ne_zero _))) (fun h9 => absurd h9 (Nat.succ_ne_zero _))) (fun h9 => absurd h9 (Nat.succ_ne_zero _))) (fun h9 => absurd h9 (Nat.succ_ne_zero _))
theorem p1_10 {y0 y1 y2 y3 y4 y5 y6 y7 y8 y9 y10 v : Value} {r : List Value} (hc : ew_c2 y9 = false) : ew_put1 (y0 :: y1 :: y2 :: y3 :: y4 :: y5 :: y6 :: y7 :: y8 :: y9 :: y10 :: r) 10 v (y0 :: y1 :: y2 :: y3 :: y4 :: y5 :: y6 :: y7 :: y8 :: y9 :: v :: r) := p1_s (p1_s (p1_s (p1_s (p1_s (p1_s (p1_s (p1_s (p1_s (p1_s (p1_z) (fun _ => ew_c2n hc)) (fun h9 => absurd h9 (Nat.succ_ne_zero _))) (fun h9 => absurd h9 (Nat.succ_ne_zero _))) (fun h9 => absurd h9 (Nat.succ_ne_zero _))) (fun h9 => absurd h9 (Nat.succ_ne_zero _))) (fun h9 => absurd h9 (Nat.succ_ne_zero _))) (fun h9 => absurd h9 (Nat.succ_ne_zero _))) (fun h9 => absurd h9 (Nat.succ_ne_zero _))) (fun h9 => absurd h9 (Nat.succ_ne_zero _))) (fun h9 => absurd h9 (Nat.succ_ne_zero _))
theorem p2_10 {y0 y1 y2 y3 y4 y5 y6 y7 y8 y9 y10 z v : Value} {r : List Value} (hc : ew_c2 y9 = false) : ew_put2 (y0 :: y1 :: y2 :: y3 :: y4 :: y5 :: y6 :: y7 :: y8 :: y9 :: y10 :: z :: r) 10 v (y0 :: y1 :: y2 :: y3 :: y4 :: y5 :: y6 :: y7 :: y8 :: y9 :: v :: no_ :: r) := p2_s (p2_s (p2_s (p2_s (p2_s (p2_s (p2_s (p2_s (p2_s (p2_s (p2_z) (fun _ => ew_c2n hc)) (fun h9 => absurd h9 (Nat.succ_ne_zero _))) (fun h9 => absurd h9 (Nat.succ_ne_zero _))) (fun h9 => absurd h9 (Nat.succ_ne_zero _))) (fun h9 => absurd h9 (Nat.succ_ne_zero _))) (fun h9 => absurd h9 (Nat.succ_ne_zero _))) (fun h9 => absurd h9 (Nat.succ_ne_zero _))) (fun h9 => absurd h9 (Nat.succ_ne_zero _))) (fun h9 => absurd h9 (Nat.succ_ne_zero _))) (fun h9 => absurd h9 (Nat.succ_ne_zero _))
theorem p1_11 {y0 y1 y2 y3 y4 y5 y6 y7 y8 y9 y10 y11 v : Value} {r : List Value} (hc : ew_c2 y10 = false) : ew_put1 (y0 :: y1 :: y2 :: y3 :: y4 :: y5 :: y6 :: y7 :: y8 :: y9 :: y10 :: y11 :: r) 11 v (y0 :: y1 :: y2 :: y3 :: y4 :: y5 :: y6 :: y7 :: y8 :: y9 :: y10 :: v :: r) := p1_s (p1_s (p1_s (p1_s (p1_s (p1_s (p1_s (p1_s (p1_s (p1_s (p1_s (p1_z) (fun _ => ew_c2n hc)) (fun h9 => absurd h9 (Nat.succ_ne_zero _))) (fun h9 => absurd h9 (Nat.succ_ne_zero _))) (fun h9 => absurd h9 (Nat.succ_ne_zero _))) (fun h9 => absurd h9 (Nat.succ_ne_zero _))) (fun h9 => absurd h9 (Nat.succ_ne_zero _))) (fun h9 => absurd h9 (Nat.succ_ne_zero _))) (fun h9 => absurd h9 (Nat.succ_ne_zero _))) (fun h9 => absurd h9 (Nat.succ_ne_zero _))) (fun h9 => absurd h9 (Nat.succ_ne_zero _))) (fun h9 => absurd h9 (Nat.succ_ne_zero _))
theorem p2_11 {y0 y1 y2 y3 y4 y5 y6 y7 y8 y9 y10 y11 z v : Value} {r : List Value} (hc : ew_c2 y10 = false) : ew_put2 (y0 :: y1 :: y2 :: y3 :: y4 :: y5 :: y6 :: y7 :: y8 :: y9 :: y10 :: y11 :: z :: r) 11 v (y0 :: y1 :: y2 :: y3 :: y4 :: y5 :: y6 :: y7 :: y8 :: y9 :: y10 :: v :: no_ :: r) := p2_s (p2_s (p2_s (p2_s (p2_s (p2_s (p2_s (p2_s (p2_s (p2_s (p2_s (p2_z) (fun _ => ew_c2n hc)) (fun h9 => absurd h9 (Nat.succ_ne_zero _))) (fun h9 => absurd h9 (Nat.succ_ne_zero _))) (fun h9 => absurd h9 (Nat.succ_ne_zero _))) (fun h9 => absurd h9 (Nat.succ_ne_zero _))) (fun h9 => absurd h9 (Nat.succ_ne_zero _))) (fun h9 => absurd h9 (Nat.succ_ne_zero _))) (fun h9 => absurd h9 (Nat.succ_ne_zero _))) (fun h9 => absurd h9 (Nat.succ_ne_zero _))) (fun h9 => absurd h9 (Nat.succ_ne_zero _))) (fun h9 => absurd h9 (Nat.succ_ne_zero _))
theorem p1_12 {y0 y1 y2 y3 y4 y5 y6 y7 y8 y9 y10 y11 y12 v : Value} {r : List Value} (hc : ew_c2 y11 = false) : ew_put1 (y0 :: y1 :: y2 :: y3 :: y4 :: y5 :: y6 :: y7 :: y8 :: y9 :: y10 :: y11 :: y12 :: r) 12 v (y0 :: y1 :: y2 :: y3 :: y4 :: y5 :: y6 :: y7 :: y8 :: y9 :: y10 :: y11 :: v :: r) := p1_s (p1_s (p1_s (p1_s (p1_s (p1_s (p1_s (p1_s (p1_s (p1_s (p1_s (p1_s (p1_z) (fun _ => ew_c2n hc)) (fun h9 => absurd h9 (Nat.succ_ne_zero _))) (fun h9 => absurd h9 (Nat.succ_ne_zero _))) (fun h9 => absurd h9 (Nat.succ_ne_zero _))) (fun h9 => absurd h9 (Nat.succ_ne_zero _))) (fun h9 => absurd h9 (Nat.succ_ne_zero _))) (fun h9 => absurd h9 (Nat.succ_ne_zero _))) (fun h9 => absurd h9 (Nat.succ_ne_zero _))) (fun h9 => absurd h9 (Nat.succ_ne_zero _))) (fun h9 => absurd h9 (Nat.succ_ne_zero _))) (fun h9 => absurd h9 (Nat.succ_ne_zero _))) (fun h9 => absurd h9 (Nat.succ_ne_zero _))
theorem p2_12 {y0 y1 y2 y3 y4 y5 y6 y7 y8 y9 y10 y11 y12 z v : Value} {r : List Value} (hc : ew_c2 y11 = false) : ew_put2 (y0 :: y1 :: y2 :: y3 :: y4 :: y5 :: y6 :: y7 :: y8 :: y9 :: y10 :: y11 :: y12 :: z :: r) 12 v (y0 :: y1 :: y2 :: y3 :: y4 :: y5 :: y6 :: y7 :: y8 :: y9 :: y10 :: y11 :: v :: no_ :: r) := p2_s (p2_s (p2_s (p2_s (p2_s (p2_s (p2_s (p2_s (p2_s (p2_s (p2_s (p2_s (p2_z) (fun _ => ew_c2n hc)) (fun h9 => absurd h9 (Nat.succ_ne_zero _))) (fun h9 => absurd h9 (Nat.succ_ne_zero _))) (fun h9 => absurd h9 (Nat.succ_ne_zero _))) (fun h9 => absurd h9 (Nat.succ_ne_zero _))) (fun h9 => absurd h9 (Nat.succ_ne_zero _))) (fun h9 => absurd h9 (Nat.succ_ne_zero _))) (fun h9 => absurd h9 (Nat.succ_ne_zero _))) (fun h9 => absurd h9 (Nat.succ_ne_zero _))) (fun h9 => absurd h9 (Nat.succ_ne_zero _))) (fun h9 => absurd h9 (Nat.succ_ne_zero _))) (fun h9 => absurd h9 (Nat.succ_ne_zero _))
theorem p1_13 {y0 y1 y2 y3 y4 y5 y6 y7 y8 y9 y10 y11 y12 y13 v : Value} {r : List Value} (hc : ew_c2 y12 = false) : ew_put1 (y0 :: y1 :: y2 :: y3 :: y4 :: y5 :: y6 :: y7 :: y8 :: y9 :: y10 :: y11 :: y12 :: y13 :: r) 13 v (y0 :: y1 :: y2 :: y3 :: y4 :: y5 :: y6 :: y7 :: y8 :: y9 :: y10 :: y11 :: y12 :: v :: r) := p1_s (p1_s (p1_s (p1_s (p1_s (p1_s (p1_s (p1_s (p1_s (p1_s (p1_s (p1_s (p1_s (p1_z) (fun _ => ew_c2n hc)) (fun h9 => absurd h9 (Nat.succ_ne_zero _))) (fun h9 => absurd h9 (Nat.succ_ne_zero _))) (fun h9 => absurd h9 (Nat.succ_ne_zero _))) (fun h9 => absurd h9 (Nat.succ_ne_zero _))) (fun h9 => absurd h9 (Nat.succ_ne_zero _))) (fun h9 => absurd h9 (Nat.succ_ne_zero _))) (fun h9 => absurd h9 (Nat.succ_ne_zero _))) (fun h9 => absurd h9 (Nat.succ_ne_zero _))) (fun h9 => absurd h9 (Nat.succ_ne_zero _))) (fun h9 => absurd h9 (Nat.succ_ne_zero _))) (fun h9 => absurd h9 (Nat.succ_ne_zero _))) (fun h9 => absurd h9 (Nat.succ_ne_zero _))
theorem p2_13 {y0 y1 y2 y3 y4 y5 y6 y7 y8 y9 y10 y11 y12 y13 z v : Value} {r : List Value} (hc : ew_c2 y12 = false) : ew_put2 (y0 :: y1 :: y2 :: y3 :: y4 :: y5 :: y6 :: y7 :: y8 :: y9 :: y10 :: y11 :: y12 :: y13 :: z :: r) 13 v (y0 :: y1 :: y2 :: y3 :: y4 :: y5 :: y6 :: y7 :: y8 :: y9 :: y10 :: y11 :: y12 :: v :: no_ :: r) := p2_s (p2_s (p2_s (p2_s (p2_s (p2_s (p2_s (p2_s (p2_s (p2_s (p2_s (p2_s (p2_s (p2_z) (fun _ => ew_c2n hc)) (fun h9 => absurd h9 (Nat.succ_ne_zero _))) (fun h9 => absurd h9 (Nat.succ_ne_zero _))) (fun h9 => absurd h9 (Nat.succ_ne_zero _))) (fun h9 => absurd h9 (Nat.succ_ne_zero _))) (fun h9 => absurd h9 (Nat.succ_ne_zero _))) (fun h9 => absurd h9 (Nat.succ_ne_zero _))) (fun h9 => absurd h9 (Nat.succ_ne_zero _))) (fun h9 => absurd h9 (Nat.succ_ne_zero _))) (fun h9 => absurd h9 (Nat.succ_ne_zero _))) (fun h9 => absurd h9 (Nat.succ_ne_zero _))) (fun h9 => absurd h9 (Nat.succ_ne_zero _))) (fun h9 => absurd h9 (Nat.succ_ne_zero _))
theorem p1_14 {y0 y1 y2 y3 y4 y5 y6 y7 y8 y9 y10 y11 y12 y13 y14 v : Value} {r : List Value} (hc : ew_c2 y13 = false) : ew_put1 (y0 :: y1 :: y2 :: y3 :: y4 :: y5 :: y6 :: y7 :: y8 :: y9 :: y10 :: y11 :: y12 :: y13 :: y14 :: r) 14 v (y0 :: y1 :: y2 :: y3 :: y4 :: y5 :: y6 :: y7 :: y8 :: y9 :: y10 :: y11 :: y12 :: y13 :: v :: r) := p1_s (p1_s (p1_s (p1_s (p1_s (p1_s (p1_s (p1_s (p1_s (p1_s (p1_s (p1_s (p1_s (p1_s (p1_z) (fun _ => ew_c2n hc)) (fun h9 => absurd h9 (Nat.succ_ne_zero _))) (fun h9 => absurd h9 (Nat.succ_ne_zero _))) (fun h9 => absurd h9 (Nat.succ_ne_zero _))) (fun h9 => absurd h9 (Nat.succ_ne_zero _))) (fun h9 => absurd h9 (Nat.succ_ne_zero _))) (fun h9 => absurd h9 (Nat.succ_ne_zero _))) (fun h9 => absurd h9 (Nat.succ_ne_zero _))) (fun h9 => absurd h9 (Nat.succ_ne_zero _))) (fun h9 => absurd h9 (Nat.succ_ne_zero _))) (fun h9 => absurd h9 (Nat.succ_ne_zero _))) (fun h9 => absurd h9 (Nat.succ_ne_zero _))) (fun h9 => absurd h9 (Nat.succ_ne_zero _))) (fun h9 => absurd h9 (Nat.succ_ne_zero _))
theorem p2_14 {y0 y1 y2 y3 y4 y5 y6 y7 y8 y9 y10 y11 y12 y13 y14 z v : Value} {r : List Value} (hc : ew_c2 y13 = false) : ew_put2 (y0 :: y1 :: y2 :: y3 :: y4 :: y5 :: y6 :: y7 :: y8 :: y9 :: y10 :: y11 :: y12 :: y13 :: y14 :: z :: r) 14 v (y0 :: y1 :: y2 :: y3 :: y4 :: y5 :: y6 :: y7 :: y8 :: y9 :: y10 :: y11 :: y12 :: y13 :: v :: no_ :: r) := p2_s (p2_s (p2_s (p2_s (p2_s (p2_s (p2_s (p2_s (p2_s (p2_s (p2_s (p2_s (p2_s (p2_s (p2_z) (fun _ => ew_c2n hc)) (fun h9 => absurd h9 (Nat.succ_ne_zero _))) (fun h9 => absurd h9 (Nat.succ_ne_zero _))) (fun h9 => absurd h9 (Nat.succ_ne_zero _))) (fun h9 => absurd h9 (Nat.succ_ne_zero _))) (fun h9 => absurd h9 (Nat.succ_ne_zero _))) (fun h9 => absurd h9 (Nat.succ_ne_zero _))) (fun h9 => absurd h9 (Nat.succ_ne_zero _))) (fun h9 => absurd h9 (Nat.succ_ne_zero _))) (fun h9 => absurd h9 (Nat.succ_ne_zero _))) (fun h9 => absurd h9 (Nat.succ_ne_zero _))) (fun h9 => absurd h9 (Nat.succ_ne_zero _))) (fun h9 => absurd h9 (Nat.succ_ne_zero _))) (fun h9 => absurd h9 (Nat.succ_ne_zero _))
theorem p1_15 {y0 y1 y2 y3 y4 y5 y6 y7 y8 y9 y10 y11 y12 y13 y14 y15 v : Value} {r : List Value} (hc : ew_c2 y14 = false) : ew_put1 (y0 :: y1 :: y2 :: y3 :: y4 :: y5 :: y6 :: y7 :: y8 :: y9 :: y10 :: y11 :: y12 :: y13 :: y14 :: y15 :: r) 15 v (y0 :: y1 :: y2 :: y3 :: y4 :: y5 :: y6 :: y7 :: y8 :: y9 :: y10 :: y11 :: y12 :: y13 :: y14 :: v :: r) := p1_s (p1_s (p1_s (p1_s (p1_s (p1_s (p1_s (p1_s (p1_s (p1_s (p1_s (p1_s (p1_s (p1_s (p1_s (p1_z) (fun _ => ew_c2n hc)) (fun h9 => absurd h9 (Nat.succ_ne_zero _))) (fun h9 => absurd h9 (Nat.succ_ne_zero _))) (fun h9 => absurd h9 (Nat.succ_ne_zero _))) (fun h9 => absurd h9 (Nat.succ_ne_zero _))) (fun h9 => absurd h9 (Nat.succ_ne_zero _))) (fun h9 => absurd h9 (Nat.succ_ne_zero _))) (fun h9 => absurd h9 (Nat.succ_ne_zero _))) (fun h9 => absurd h9 (Nat.succ_ne_zero _))) (fun h9 => absurd h9 (Nat.succ_ne_zero _))) (fun h9 => absurd h9 (Nat.succ_ne_zero _))) (fun h9 => absurd h9 (Nat.succ_ne_zero _))) (fun h9 => absurd h9 (Nat.succ_ne_zero _))) (fun h9 => absurd h9 (Nat.succ_ne_zero _))) (fun h9 => absurd h9 (Nat.succ_ne_zero _))
theorem p2_15 {y0 y1 y2 y3 y4 y5 y6 y7 y8 y9 y10 y11 y12 y13 y14 y15 z v : Value} {r : List Value} (hc : ew_c2 y14 = false) : ew_put2 (y0 :: y1 :: y2 :: y3 :: y4 :: y5 :: y6 :: y7 :: y8 :: y9 :: y10 :: y11 :: y12 :: y13 :: y14 :: y15 :: z :: r) 15 v (y0 :: y1 :: y2 :: y3 :: y4 :: y5 :: y6 :: y7 :: y8 :: y9 :: y10 :: y11 :: y12 :: y13 :: y14 :: v :: no_ :: r) := p2_s (p2_s (p2_s (p2_s (p2_s (p2_s (p2_s (p2_s (p2_s (p2_s (p2_s (p2_s (p2_s (p2_s (p2_s (p2_z) (fun _ => ew_c2n hc)) (fun h9 => absurd h9 (Nat.succ_ne_zero _))) (fun h9 => absurd h9 (Nat.succ_ne_zero _))) (fun h9 => absurd h9 (Nat.succ_ne_zero _))) (fun h9 => absurd h9 (Nat.succ_ne_zero _))) (fun h9 => absurd h9 (Nat.succ_ne_zero _))) (fun h9 => absurd h9 (Nat.succ_ne_zero _))) (fun h9 => absurd h9 (Nat.succ_ne_zero _))) (fun h9 => absurd h9 (Nat.succ_ne_zero _))) (fun h9 => absurd h9 (Nat.succ_ne_zero _))) (fun h9 => absurd h9 (Nat.succ_ne_zero _))) (fun h9 => absurd h9 (Nat.succ_ne_zero _))) (fun h9 => absurd h9 (Nat.succ_ne_zero _))) (fun h9 => absurd h9 (Nat.succ_ne_zero _))) (fun h9 => absurd h9 (Nat.succ_ne_zero _))
theorem p1_16 {y0 y1 y2 y3 y4 y5 y6 y7 y8 y9 y10 y11 y12 y13 y14 y15 y16 v : Value} {r : List Value} (hc : ew_c2 y15 = false) : ew_put1 (y0 :: y1 :: y2 :: y3 :: y4 :: y5 :: y6 :: y7 :: y8 :: y9 :: y10 :: y11 :: y12 :: y13 :: y14 :: y15 :: y16 :: r) 16 v (y0 :: y1 :: y2 :: y3 :: y4 :: y5 :: y6 :: y7 :: y8 :: y9 :: y10 :: y11 :: y12 :: y13 :: y14 :: y15 :: v :: r) := p1_s (p1_s (p1_s (p1_s (p1_s (p1_s (p1_s (p1_s (p1_s (p1_s (p1_s (p1_s (p1_s (p1_s (p1_s (p1_s (p1_z) (fun _ => ew_c2n hc)) (fun h9 => absurd h9 (Nat.succ_ne_zero _))) (fun h9 => absurd h9 (Nat.succ_ne_zero _))) (fun h9 => absurd h9 (Nat.succ_ne_zero _))) (fun h9 => absurd h9 (Nat.succ_ne_zero _))) (fun h9 => absurd h9 (Nat.succ_ne_zero _))) (fun h9 => absurd h9 (Nat.succ_ne_zero _))) (fun h9 => absurd h9 (Nat.succ_ne_zero _))) (fun h9 => absurd h9 (Nat.succ_ne_zero _))) (fun h9 => absurd h9 (Nat.succ_ne_zero _))) (fun h9 => absurd h9 (Nat.succ_ne_zero _))) (fun h9 => absurd h9 (Nat.succ_ne_zero _))) (fun h9 => absurd h9 (Nat.succ_ne_zero _))) (fun h9 => absurd h9 (Nat.succ_ne_zero _))) (fun h9 => absurd h9 (Nat.succ_ne_zero _))) (fun h9 => absurd h9 (Nat.succ_ne_zero _))
theorem p2_16 {y0 y1 y2 y3 y4 y5 y6 y7 y8 y9 y10 y11 y12 y13 y14 y15 y16 z v : Value} {r : List Value} (hc : ew_c2 y15 = false) : ew_put2 (y0 :: y1 :: y2 :: y3 :: y4 :: y5 :: y6 :: y7 :: y8 :: y9 :: y10 :: y11 :: y12 :: y13 :: y14 :: y15 :: y16 :: z :: r) 16 v (y0 :: y1 :: y2 :: y3 :: y4 :: y5 :: y6 :: y7 :: y8 :: y9 :: y10 :: y11 :: y12 :: y13 :: y14 :: y15 :: v :: no_ :: r) := p2_s (p2_s (p2_s (p2_s (p2_s (p2_s (p2_s (p2_s (p2_s (p2_s (p2_s (p2_s (p2_s (p2_s (p2_s (p2_s (p2_z) (fun _ => ew_c2n hc)) (fun h9 => absurd h9 (Nat.succ_ne_zero _))) (fun h9 => absurd h9 (Nat.succ_ne_zero _))) (fun h9 => absurd h9 (Nat.succ_ne_zero _))) (fun h9 => absurd h9 (Nat.succ_ne_zero _))) (fun h9 => absurd h9 (Nat.succ_ne_zero _))) (fun h9 => absurd h9 (Nat.succ_ne_zero _))) (fun h9 => absurd h9 (Nat.succ_ne_zero _))) (fun h9 => absurd h9 (Nat.succ_ne_zero _))) (fun h9 => absurd h9 (Nat.succ_ne_zero _))) (fun h9 => absurd h9 (Nat.succ_ne_zero _))) (fun h9 => absurd h9 (Nat.succ_ne_zero _))) (fun h9 => absurd h9 (Nat.succ_ne_zero _))) (fun h9 => absurd h9 (Nat.succ_ne_zero _))) (fun h9 => absurd h9 (Nat.succ_ne_zero _))) (fun h9 => absurd h9 (Nat.succ_ne_zero _))
theorem ew_sto1 {L L1 : List Value} {i n : Nat} {v : Value} {ls' : Array Slot} (hp : ew_put1 L i v L1) (h : lv_has ls' n ((i, v) :: (ew_ll L).filter (fun q => !(q.1 == i) && !(q.1 + 1 == i && q.2.category == 2)))) : ew_loc L1 ls' n := by
  refine ⟨h.1, h.2.1, fun j w hj hw => ?_⟩
  rcases hp j w hj hw with ⟨rfl, rfl⟩ | ⟨h1, h2, h3⟩
  · exact h.2.2 _ List.mem_cons_self
  · refine h.2.2 (j, w) (List.mem_cons_of_mem _ (List.mem_filter.mpr ⟨ew_ll_mem h2 hw, ?_⟩))
    by_cases h9 : j + 1 = i
    · have := h3 h9
      simp [h1, this]
    · simp [h1, h9]
theorem ew_sto2 {L L1 : List Value} {i n : Nat} {v : Value} {ls' : Array Slot} (hp : ew_put2 L i v L1) (h : lv_has ls' n ((i, v) :: (ew_ll L).filter (fun q => !(q.1 == i) && (!(q.1 == i + 1) && !(q.1 + 1 == i && q.2.category == 2))))) : ew_loc L1 ls' n := by
  refine ⟨h.1, h.2.1, fun j w hj hw => ?_⟩
  rcases hp j w hj hw with ⟨rfl, rfl⟩ | ⟨h1, h0, h2, h3⟩
  · exact h.2.2 _ List.mem_cons_self
  · refine h.2.2 (j, w) (List.mem_cons_of_mem _ (List.mem_filter.mpr ⟨ew_ll_mem h2 hw, ?_⟩))
    by_cases h9 : j + 1 = i
    · have := h3 h9
      simp [h1, h0, this]
    · simp [h1, h0, h9]
theorem ew_istore_n {g : eg} {K : ek} {d pc : Nat} {L L1 rest : List Value} {h : eh} {Q : Outcome → eh → Prop} {k : Fin 4} {i : Nat} {x : Int32} (hdg : decode K.2.1 pc = .ok (.istore_n k, 1)) (hk : (k : Nat) = i) (hi : i < K.2.2.1) (hp : ew_put1 L i (.int x) L1) (kk : ew_G g K d (pc + 1) L1 rest h Q) : ew_G g K d pc L (.int x :: rest) h Q :=
  ew_pure (fun C _ _ _ _ _ _ _ hl kk => lv_istore_n C.1 C.2.1 hdg hk hl.has hi rfl (fun ls1 h1 => kk ls1 (ew_sto1 hp h1))) kk
theorem ew_istore {g : eg} {K : ek} {d pc : Nat} {L L1 rest : List Value} {h : eh} {Q : Outcome → eh → Prop} {i : Nat} {x : Int32} (hdg : decode K.2.1 pc = .ok (.istore i, 2)) (hi : i < K.2.2.1) (hp : ew_put1 L i (.int x) L1) (kk : ew_G g K d (pc + 2) L1 rest h Q) : ew_G g K d pc L (.int x :: rest) h Q :=
  ew_pure (fun C _ _ _ _ _ _ _ hl kk => lv_istore C.1 C.2.1 hdg hl.has hi rfl (fun ls1 h1 => kk ls1 (ew_sto1 hp h1))) kk
theorem ew_astore_n {g : eg} {K : ek} {d pc : Nat} {L L1 rest : List Value} {h : eh} {Q : Outcome → eh → Prop} {k : Fin 4} {i : Nat} {x : Nat} (hdg : decode K.2.1 pc = .ok (.astore_n k, 1)) (hk : (k : Nat) = i) (hi : i < K.2.2.1) (hp : ew_put1 L i (.ref x) L1) (kk : ew_G g K d (pc + 1) L1 rest h Q) : ew_G g K d pc L (.ref x :: rest) h Q :=
  ew_pure (fun C _ _ _ _ _ _ _ hl kk => lv_astore_n C.1 C.2.1 hdg hk hl.has hi rfl (fun ls1 h1 => kk ls1 (ew_sto1 hp h1))) kk
theorem ew_astore {g : eg} {K : ek} {d pc : Nat} {L L1 rest : List Value} {h : eh} {Q : Outcome → eh → Prop} {i : Nat} {x : Nat} (hdg : decode K.2.1 pc = .ok (.astore i, 2)) (hi : i < K.2.2.1) (hp : ew_put1 L i (.ref x) L1) (kk : ew_G g K d (pc + 2) L1 rest h Q) : ew_G g K d pc L (.ref x :: rest) h Q :=
  ew_pure (fun C _ _ _ _ _ _ _ hl kk => lv_astore C.1 C.2.1 hdg hl.has hi rfl (fun ls1 h1 => kk ls1 (ew_sto1 hp h1))) kk
theorem ew_fstore_n {g : eg} {K : ek} {d pc : Nat} {L L1 rest : List Value} {h : eh} {Q : Outcome → eh → Prop} {k : Fin 4} {i : Nat} {x : UInt32} (hdg : decode K.2.1 pc = .ok (.fstore_n k, 1)) (hk : (k : Nat) = i) (hi : i < K.2.2.1) (hp : ew_put1 L i (.float x) L1) (kk : ew_G g K d (pc + 1) L1 rest h Q) : ew_G g K d pc L (.float x :: rest) h Q :=
  ew_pure (fun C _ _ _ _ _ _ _ hl kk => lv_fstore_n C.1 C.2.1 hdg hk hl.has hi rfl (fun ls1 h1 => kk ls1 (ew_sto1 hp h1))) kk
theorem ew_fstore {g : eg} {K : ek} {d pc : Nat} {L L1 rest : List Value} {h : eh} {Q : Outcome → eh → Prop} {i : Nat} {x : UInt32} (hdg : decode K.2.1 pc = .ok (.fstore i, 2)) (hi : i < K.2.2.1) (hp : ew_put1 L i (.float x) L1) (kk : ew_G g K d (pc + 2) L1 rest h Q) : ew_G g K d pc L (.float x :: rest) h Q :=
  ew_pure (fun C _ _ _ _ _ _ _ hl kk => lv_fstore C.1 C.2.1 hdg hl.has hi rfl (fun ls1 h1 => kk ls1 (ew_sto1 hp h1))) kk
theorem ew_lstore_n {g : eg} {K : ek} {d pc : Nat} {L L1 rest : List Value} {h : eh} {Q : Outcome → eh → Prop} {k : Fin 4} {i : Nat} {x : Int64} (hdg : decode K.2.1 pc = .ok (.lstore_n k, 1)) (hk : (k : Nat) = i) (hi : i + 1 < K.2.2.1) (hp : ew_put2 L i (.long x) L1) (kk : ew_G g K d (pc + 1) L1 rest h Q) : ew_G g K d pc L (.long x :: rest) h Q :=
  ew_pure (fun C _ _ _ _ _ _ _ hl kk => lv_lstore_n C.1 C.2.1 hdg hk hl.has hi rfl (fun ls1 h1 => kk ls1 (ew_sto2 hp h1))) kk
theorem ew_lstore {g : eg} {K : ek} {d pc : Nat} {L L1 rest : List Value} {h : eh} {Q : Outcome → eh → Prop} {i : Nat} {x : Int64} (hdg : decode K.2.1 pc = .ok (.lstore i, 2)) (hi : i + 1 < K.2.2.1) (hp : ew_put2 L i (.long x) L1) (kk : ew_G g K d (pc + 2) L1 rest h Q) : ew_G g K d pc L (.long x :: rest) h Q :=
  ew_pure (fun C _ _ _ _ _ _ _ hl kk => lv_lstore C.1 C.2.1 hdg hl.has hi rfl (fun ls1 h1 => kk ls1 (ew_sto2 hp h1))) kk
theorem ew_dstore_n {g : eg} {K : ek} {d pc : Nat} {L L1 rest : List Value} {h : eh} {Q : Outcome → eh → Prop} {k : Fin 4} {i : Nat} {x : UInt64} (hdg : decode K.2.1 pc = .ok (.dstore_n k, 1)) (hk : (k : Nat) = i) (hi : i + 1 < K.2.2.1) (hp : ew_put2 L i (.double x) L1) (kk : ew_G g K d (pc + 1) L1 rest h Q) : ew_G g K d pc L (.double x :: rest) h Q :=
  ew_pure (fun C _ _ _ _ _ _ _ hl kk => lv_dstore_n C.1 C.2.1 hdg hk hl.has hi rfl (fun ls1 h1 => kk ls1 (ew_sto2 hp h1))) kk
theorem ew_dstore {g : eg} {K : ek} {d pc : Nat} {L L1 rest : List Value} {h : eh} {Q : Outcome → eh → Prop} {i : Nat} {x : UInt64} (hdg : decode K.2.1 pc = .ok (.dstore i, 2)) (hi : i + 1 < K.2.2.1) (hp : ew_put2 L i (.double x) L1) (kk : ew_G g K d (pc + 2) L1 rest h Q) : ew_G g K d pc L (.double x :: rest) h Q :=
  ew_pure (fun C _ _ _ _ _ _ _ hl kk => lv_dstore C.1 C.2.1 hdg hl.has hi rfl (fun ls1 h1 => kk ls1 (ew_sto2 hp h1))) kk
theorem ew_astore_nN {g : eg} {K : ek} {d pc : Nat} {L L1 rest : List Value} {h : eh} {Q : Outcome → eh → Prop} {k : Fin 4} {i : Nat} (hdg : decode K.2.1 pc = .ok (.astore_n k, 1)) (hk : (k : Nat) = i) (hi : i < K.2.2.1) (hp : ew_put1 L i .null L1) (kk : ew_G g K d (pc + 1) L1 rest h Q) : ew_G g K d pc L (.null :: rest) h Q :=
  ew_pure (fun C _ _ _ _ _ _ _ hl kk => lv_astore_nN C.1 C.2.1 hdg hk hl.has hi rfl (fun ls1 h1 => kk ls1 (ew_sto1 hp h1))) kk
theorem ew_astoreN {g : eg} {K : ek} {d pc : Nat} {L L1 rest : List Value} {h : eh} {Q : Outcome → eh → Prop} {i : Nat} (hdg : decode K.2.1 pc = .ok (.astore i, 2)) (hi : i < K.2.2.1) (hp : ew_put1 L i .null L1) (kk : ew_G g K d (pc + 2) L1 rest h Q) : ew_G g K d pc L (.null :: rest) h Q :=
  ew_pure (fun C _ _ _ _ _ _ _ hl kk => lv_astoreN C.1 C.2.1 hdg hl.has hi rfl (fun ls1 h1 => kk ls1 (ew_sto1 hp h1))) kk
theorem ew_astore_nq {g : eg} {K : ek} {d pc : Nat} {L L1 rest : List Value} {h : eh} {Q : Outcome → eh → Prop} {k : Fin 4} {i : Nat} {o : Option Nat} (hdg : decode K.2.1 pc = .ok (.astore_n k, 1)) (hk : (k : Nat) = i) (hi : i < K.2.2.1) (hp : ew_put1 L i (va_rf o) L1) (kk : ew_G g K d (pc + 1) L1 rest h Q) : ew_G g K d pc L (va_rf o :: rest) h Q := by
  cases o with
  | none => exact ew_astore_nN hdg hk hi hp kk
  | some x => exact ew_astore_n hdg hk hi hp kk
theorem ew_astoreq {g : eg} {K : ek} {d pc : Nat} {L L1 rest : List Value} {h : eh} {Q : Outcome → eh → Prop} {i : Nat} {o : Option Nat} (hdg : decode K.2.1 pc = .ok (.astore i, 2)) (hi : i < K.2.2.1) (hp : ew_put1 L i (va_rf o) L1) (kk : ew_G g K d (pc + 2) L1 rest h Q) : ew_G g K d pc L (va_rf o :: rest) h Q := by
  cases o with
  | none => exact ew_astoreN hdg hi hp kk
  | some x => exact ew_astore hdg hi hp kk
theorem ew_iinc {g : eg} {K : ek} {d pc : Nat} {L L1 rest : List Value} {h : eh} {Q : Outcome → eh → Prop} {i : Nat} {n : Int} {x v : Int32} (hdg : decode K.2.1 pc = .ok (.iinc i n, 3)) (hx : L[i]? = some (.int x)) (hv : x + Int32.ofInt n = v) (hi : i < K.2.2.1) (hp : ew_put1 L i (.int v) L1) (kk : ew_G g K d (pc + 3) L1 rest h Q) : ew_G g K d pc L rest h Q := by
  refine ew_pure (fun C _ _ _ _ _ _ _ hl kk => ?_) kk
  obtain ⟨j, hj⟩ := List.mem_iff_getElem?.mp (ew_ll_mem hx rfl)
  exact lv_iinc C.1 C.2.1 hdg hl.has (k := j) hj hv hi rfl (fun ls1 h1 => kk ls1 (ew_sto1 hp h1))
theorem ew_ldc {g : eg} {K : ek} {d pc : Nat} {L rest : List Value} {h : eh} {Q : Outcome → eh → Prop} {index : Nat} {v : Int32} (hw : ew_w (.constant K.1.cls index v)) (hdg : decode K.2.1 pc = .ok (.ldc index, 2)) (k : ew_G g K d (pc + 2) L (.int v :: rest) h Q) : ew_G g K d pc L rest h Q :=
  ew_purel (fun C _ _ _ _ _ _ _ _ kk => lv_ldc C.1 C.2.1 C.2.2.2.2.2.1 (C.2.2.2.2.2.2.2.2.1.word hw _) hdg kk) k
theorem ew_ldcw {g : eg} {K : ek} {d pc : Nat} {L rest : List Value} {h : eh} {Q : Outcome → eh → Prop} {index : Nat} {v : Int32} (hw : ew_w (.constant K.1.cls index v)) (hdg : decode K.2.1 pc = .ok (.ldc_w index, 3)) (k : ew_G g K d (pc + 3) L (.int v :: rest) h Q) : ew_G g K d pc L rest h Q :=
  ew_purel (fun C _ _ _ _ _ _ _ _ kk => lv_ldcw C.1 C.2.1 C.2.2.2.2.2.1 (C.2.2.2.2.2.2.2.2.1.word hw _) hdg kk) k
theorem ew_ldc2 {g : eg} {K : ek} {d pc : Nat} {L rest : List Value} {h : eh} {Q : Outcome → eh → Prop} {index : Nat} {v : Int64} (hw : ew_w (.constantLong K.1.cls index v)) (hdg : decode K.2.1 pc = .ok (.ldc2_w index, 3)) (k : ew_G g K d (pc + 3) L (.long v :: rest) h Q) : ew_G g K d pc L rest h Q :=
  ew_purel (fun C _ _ _ _ _ _ _ _ kk => lv_ldc2 C.1 C.2.1 C.2.2.2.2.2.1 (C.2.2.2.2.2.2.2.2.1.word hw _) hdg kk) k
theorem ew_ldcS {g : eg} {K : ek} {d pc : Nat} {L rest : List Value} {h : eh} {Q : Outcome → eh → Prop} {index a : Nat} (hw : eg_k g K.1.cls index = some a) (hdg : decode K.2.1 pc = .ok (.ldc index, 2)) (k : ew_G g K d (pc + 2) L (.ref a :: rest) h Q) : ew_G g K d pc L rest h Q :=
  ew_purel (fun C _ _ _ _ _ _ _ _ kk => (C.2.2.2.2.2.2.2.2.1.2.2.2.2.1 _ _ _ hw).elim fun tx hx => va_ldcS C.1 C.2.1 C.2.2.2.2.2.1 hx hdg kk) k
theorem ew_ldcM {g : eg} {K : ek} {d pc : Nat} {L rest : List Value} {h : eh} {Q : Outcome → eh → Prop} {index mi : Nat} {cn : String} (hw : ew_w (.classLink K.1.cls index cn)) (hm : eg_m g cn = some mi) (hdg : decode K.2.1 pc = .ok (.ldc index, 2)) (k : ew_G g K d (pc + 2) L (.ref mi :: rest) h Q) : ew_G g K d pc L rest h Q :=
  ew_purel (fun C _ _ _ _ _ _ _ _ kk => va_ldcM C.1 C.2.1 C.2.2.2.2.2.1 (C.2.2.2.2.2.2.2.2.1.word hw _) (C.2.2.2.2.2.2.2.2.1.2.2.2.2.2.1 _ _ hm) hdg kk) k
