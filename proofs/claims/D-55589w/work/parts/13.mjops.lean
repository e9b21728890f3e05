/-! ===== mj: the simple instructions (printed by src/gen_rules.py) ===== -/
section MOPS
variable {G : mG} {y : mY} {d pc : Nat} {L : List (Option Value)} {st : List Value} {M : mM} {t u : Nat} {Q : mQt}
theorem r_iadd {a b : Int32} (hd : decode (mYc y) pc = .ok (.iadd, 1)) (k : mW G y d (pc + 1) L (.int (a + b) :: st) M t u Q) : mW G y d pc L (.int b :: .int a :: st) M t u Q := by
  intro p e R s m args below meth c C H locs ls cells slots hR hl hL
  exact lv_iadd C.hx C.hb hd  (k p e R s m args below meth c C H locs ls cells slots hR hl hL)
theorem r_isub {a b : Int32} (hd : decode (mYc y) pc = .ok (.isub, 1)) (k : mW G y d (pc + 1) L (.int (a - b) :: st) M t u Q) : mW G y d pc L (.int b :: .int a :: st) M t u Q := by
  intro p e R s m args below meth c C H locs ls cells slots hR hl hL
  exact lv_isub C.hx C.hb hd  (k p e R s m args below meth c C H locs ls cells slots hR hl hL)
theorem r_imul {a b : Int32} (hd : decode (mYc y) pc = .ok (.imul, 1)) (k : mW G y d (pc + 1) L (.int (a * b) :: st) M t u Q) : mW G y d pc L (.int b :: .int a :: st) M t u Q := by
  intro p e R s m args below meth c C H locs ls cells slots hR hl hL
  exact lv_imul C.hx C.hb hd  (k p e R s m args below meth c C H locs ls cells slots hR hl hL)
theorem r_iand {a b : Int32} (hd : decode (mYc y) pc = .ok (.iand, 1)) (k : mW G y d (pc + 1) L (.int (a &&& b) :: st) M t u Q) : mW G y d pc L (.int b :: .int a :: st) M t u Q := by
  intro p e R s m args below meth c C H locs ls cells slots hR hl hL
  exact lv_iand C.hx C.hb hd  (k p e R s m args below meth c C H locs ls cells slots hR hl hL)
theorem r_ior {a b : Int32} (hd : decode (mYc y) pc = .ok (.ior, 1)) (k : mW G y d (pc + 1) L (.int (a ||| b) :: st) M t u Q) : mW G y d pc L (.int b :: .int a :: st) M t u Q := by
  intro p e R s m args below meth c C H locs ls cells slots hR hl hL
  exact lv_ior C.hx C.hb hd  (k p e R s m args below meth c C H locs ls cells slots hR hl hL)
theorem r_ixor {a b : Int32} (hd : decode (mYc y) pc = .ok (.ixor, 1)) (k : mW G y d (pc + 1) L (.int (a ^^^ b) :: st) M t u Q) : mW G y d pc L (.int b :: .int a :: st) M t u Q := by
  intro p e R s m args below meth c C H locs ls cells slots hR hl hL
  exact lv_ixor C.hx C.hb hd  (k p e R s m args below meth c C H locs ls cells slots hR hl hL)
theorem r_ishl {a b : Int32} (hd : decode (mYc y) pc = .ok (.ishl, 1)) (k : mW G y d (pc + 1) L (.int (a <<< (b &&& 31)) :: st) M t u Q) : mW G y d pc L (.int b :: .int a :: st) M t u Q := by
  intro p e R s m args below meth c C H locs ls cells slots hR hl hL
  exact lv_ishl C.hx C.hb hd  (k p e R s m args below meth c C H locs ls cells slots hR hl hL)
theorem r_ishr {a b : Int32} (hd : decode (mYc y) pc = .ok (.ishr, 1)) (k : mW G y d (pc + 1) L (.int (a >>> (b &&& 31)) :: st) M t u Q) : mW G y d pc L (.int b :: .int a :: st) M t u Q := by
  intro p e R s m args below meth c C H locs ls cells slots hR hl hL
  exact lv_ishr C.hx C.hb hd  (k p e R s m args below meth c C H locs ls cells slots hR hl hL)
theorem r_idiv {a b : Int32} (hd : decode (mYc y) pc = .ok (.idiv, 1)) (hne : ¬ b = 0) (k : mW G y d (pc + 1) L (.int (a / b) :: st) M t u Q) : mW G y d pc L (.int b :: .int a :: st) M t u Q := by
  intro p e R s m args below meth c C H locs ls cells slots hR hl hL
  exact lv_idiv C.hx C.hb hd hne (k p e R s m args below meth c C H locs ls cells slots hR hl hL)
theorem r_irem {a b : Int32} (hd : decode (mYc y) pc = .ok (.irem, 1)) (hne : ¬ b = 0) (k : mW G y d (pc + 1) L (.int (a - a / b * b) :: st) M t u Q) : mW G y d pc L (.int b :: .int a :: st) M t u Q := by
  intro p e R s m args below meth c C H locs ls cells slots hR hl hL
  exact lv_irem C.hx C.hb hd hne (k p e R s m args below meth c C H locs ls cells slots hR hl hL)
theorem r_ineg {a : Int32} (hd : decode (mYc y) pc = .ok (.ineg, 1)) (k : mW G y d (pc + 1) L (.int (-a) :: st) M t u Q) : mW G y d pc L (.int a :: st) M t u Q := by
  intro p e R s m args below meth c C H locs ls cells slots hR hl hL
  exact lv_ineg C.hx C.hb hd  (k p e R s m args below meth c C H locs ls cells slots hR hl hL)
theorem r_iushr {a b v : Int32} (hd : decode (mYc y) pc = .ok (.iushr, 1)) (hv : (a.toUInt32 >>> (b.toUInt32 &&& Int32.toUInt32 31)).toInt32 = v) (k : mW G y d (pc + 1) L (.int v :: st) M t u Q) : mW G y d pc L (.int b :: .int a :: st) M t u Q := by
  intro p e R s m args below meth c C H locs ls cells slots hR hl hL
  exact lv_iushr C.hx C.hb hd hv (k p e R s m args below meth c C H locs ls cells slots hR hl hL)
theorem r_fadd {a b : UInt32} (hd : decode (mYc y) pc = .ok (.fadd, 1)) (hne : vf_n32 (FP.fadd a b)) (k : mW G y d (pc + 1) L (.float (FP.fadd a b) :: st) M t u Q) : mW G y d pc L (.float b :: .float a :: st) M t u Q := by
  intro p e R s m args below meth c C H locs ls cells slots hR hl hL
  exact lv_fadd C.hx C.hb hd hne (k p e R s m args below meth c C H locs ls cells slots hR hl hL)
theorem r_fmul {a b : UInt32} (hd : decode (mYc y) pc = .ok (.fmul, 1)) (hne : vf_n32 (FP.fmul a b)) (k : mW G y d (pc + 1) L (.float (FP.fmul a b) :: st) M t u Q) : mW G y d pc L (.float b :: .float a :: st) M t u Q := by
  intro p e R s m args below meth c C H locs ls cells slots hR hl hL
  exact lv_fmul C.hx C.hb hd hne (k p e R s m args below meth c C H locs ls cells slots hR hl hL)
theorem r_fdiv {a b : UInt32} (hd : decode (mYc y) pc = .ok (.fdiv, 1)) (hne : vf_n32 (FP.fdiv a b)) (k : mW G y d (pc + 1) L (.float (FP.fdiv a b) :: st) M t u Q) : mW G y d pc L (.float b :: .float a :: st) M t u Q := by
  intro p e R s m args below meth c C H locs ls cells slots hR hl hL
  exact lv_fdiv C.hx C.hb hd hne (k p e R s m args below meth c C H locs ls cells slots hR hl hL)
theorem r_ddiv {a b : UInt64} (hd : decode (mYc y) pc = .ok (.ddiv, 1)) (hne : vf_n64 (FP.ddiv a b)) (k : mW G y d (pc + 1) L (.double (FP.ddiv a b) :: st) M t u Q) : mW G y d pc L (.double b :: .double a :: st) M t u Q := by
  intro p e R s m args below meth c C H locs ls cells slots hR hl hL
  exact lv_ddiv C.hx C.hb hd hne (k p e R s m args below meth c C H locs ls cells slots hR hl hL)
theorem r_i2l {a : Int32} (hd : decode (mYc y) pc = .ok (.i2l, 1)) (k : mW G y d (pc + 1) L (.long a.toInt64 :: st) M t u Q) : mW G y d pc L (.int a :: st) M t u Q := by
  intro p e R s m args below meth c C H locs ls cells slots hR hl hL
  exact lv_i2l C.hx C.hb hd rfl (k p e R s m args below meth c C H locs ls cells slots hR hl hL)
theorem r_i2c {a : Int32} (hd : decode (mYc y) pc = .ok (.i2c, 1)) (k : mW G y d (pc + 1) L (.int (a.toUInt32 % 65536).toInt32 :: st) M t u Q) : mW G y d pc L (.int a :: st) M t u Q := by
  intro p e R s m args below meth c C H locs ls cells slots hR hl hL
  exact lv_i2c C.hx C.hb hd rfl (k p e R s m args below meth c C H locs ls cells slots hR hl hL)
theorem r_i2b {a : Int32} (hd : decode (mYc y) pc = .ok (.i2b, 1)) (k : mW G y d (pc + 1) L (.int a.toInt8.toInt32 :: st) M t u Q) : mW G y d pc L (.int a :: st) M t u Q := by
  intro p e R s m args below meth c C H locs ls cells slots hR hl hL
  exact lv_i2b C.hx C.hb hd rfl (k p e R s m args below meth c C H locs ls cells slots hR hl hL)
theorem r_i2f {a : Int32} (hd : decode (mYc y) pc = .ok (.i2f, 1)) (k : mW G y d (pc + 1) L (.float (FP.i2f a) :: st) M t u Q) : mW G y d pc L (.int a :: st) M t u Q := by
  intro p e R s m args below meth c C H locs ls cells slots hR hl hL
  exact lv_i2f C.hx C.hb hd  (k p e R s m args below meth c C H locs ls cells slots hR hl hL)
theorem r_i2d {a : Int32} (hd : decode (mYc y) pc = .ok (.i2d, 1)) (k : mW G y d (pc + 1) L (.double (FP.i2d a) :: st) M t u Q) : mW G y d pc L (.int a :: st) M t u Q := by
  intro p e R s m args below meth c C H locs ls cells slots hR hl hL
  exact lv_i2d C.hx C.hb hd  (k p e R s m args below meth c C H locs ls cells slots hR hl hL)
theorem r_f2d {a : UInt32} (hd : decode (mYc y) pc = .ok (.f2d, 1)) (hne : vf_n64 (FP.f2d a)) (k : mW G y d (pc + 1) L (.double (FP.f2d a) :: st) M t u Q) : mW G y d pc L (.float a :: st) M t u Q := by
  intro p e R s m args below meth c C H locs ls cells slots hR hl hL
  exact lv_f2d C.hx C.hb hd hne (k p e R s m args below meth c C H locs ls cells slots hR hl hL)
theorem r_fcmp {a b : UInt32} {op : CmpOp} (hd : decode (mYc y) pc = .ok (.fcmp op, 1)) (k : mW G y d (pc + 1) L (.int (Op.cmpValue (FP.fcmp a b) op) :: st) M t u Q) : mW G y d pc L (.float b :: .float a :: st) M t u Q := by
  intro p e R s m args below meth c C H locs ls cells slots hR hl hL
  exact lv_fcmp C.hx C.hb hd  (k p e R s m args below meth c C H locs ls cells slots hR hl hL)
theorem r_dcmp {a b : UInt64} {op : CmpOp} (hd : decode (mYc y) pc = .ok (.dcmp op, 1)) (k : mW G y d (pc + 1) L (.int (Op.cmpValue (FP.dcmp a b) op) :: st) M t u Q) : mW G y d pc L (.double b :: .double a :: st) M t u Q := by
  intro p e R s m args below meth c C H locs ls cells slots hR hl hL
  exact lv_dcmp C.hx C.hb hd  (k p e R s m args below meth c C H locs ls cells slots hR hl hL)
theorem r_fconst0 (hd : decode (mYc y) pc = .ok (.fconst 0, 1)) (k : mW G y d (pc + 1) L (.float FP.fconst0 :: st) M t u Q) : mW G y d pc L (st) M t u Q := by
  intro p e R s m args below meth c C H locs ls cells slots hR hl hL
  exact lv_fconst0 C.hx C.hb hd  (k p e R s m args below meth c C H locs ls cells slots hR hl hL)
theorem r_fconst1 (hd : decode (mYc y) pc = .ok (.fconst 1, 1)) (k : mW G y d (pc + 1) L (.float FP.fconst1 :: st) M t u Q) : mW G y d pc L (st) M t u Q := by
  intro p e R s m args below meth c C H locs ls cells slots hR hl hL
  exact lv_fconst1 C.hx C.hb hd  (k p e R s m args below meth c C H locs ls cells slots hR hl hL)
theorem r_dconst0 (hd : decode (mYc y) pc = .ok (.dconst 0, 1)) (k : mW G y d (pc + 1) L (.double FP.dconst0 :: st) M t u Q) : mW G y d pc L (st) M t u Q := by
  intro p e R s m args below meth c C H locs ls cells slots hR hl hL
  exact lv_dconst0 C.hx C.hb hd  (k p e R s m args below meth c C H locs ls cells slots hR hl hL)
theorem r_lconst {n : Fin 2} {v : Int64} (hd : decode (mYc y) pc = .ok (.lconst n, 1)) (hv : Int64.ofNat (n : Nat) = v) (k : mW G y d (pc + 1) L (.long v :: st) M t u Q) : mW G y d pc L (st) M t u Q := by
  intro p e R s m args below meth c C H locs ls cells slots hR hl hL
  exact lv_lconst C.hx C.hb hd hv (k p e R s m args below meth c C H locs ls cells slots hR hl hL)
theorem r_null (hd : decode (mYc y) pc = .ok (.aconst_null, 1)) (k : mW G y d (pc + 1) L (.null :: st) M t u Q) : mW G y d pc L (st) M t u Q := by
  intro p e R s m args below meth c C H locs ls cells slots hR hl hL
  exact lv_null C.hx C.hb hd  (k p e R s m args below meth c C H locs ls cells slots hR hl hL)
theorem r_iconst {n : Int} {v : Int32} (hd : decode (mYc y) pc = .ok (.iconst n, 1)) (hv : Int32.ofInt n = v) (k : mW G y d (pc + 1) L (.int v :: st) M t u Q) : mW G y d pc L (st) M t u Q := by
  intro p e R s m args below meth c C H locs ls cells slots hR hl hL
  exact lv_iconst C.hx C.hb hd hv (k p e R s m args below meth c C H locs ls cells slots hR hl hL)
theorem r_bipush {n : Int} {v : Int32} (hd : decode (mYc y) pc = .ok (.bipush n, 2)) (hv : (Int8.ofInt n).toInt32 = v) (k : mW G y d (pc + 2) L (.int v :: st) M t u Q) : mW G y d pc L (st) M t u Q := by
  intro p e R s m args below meth c C H locs ls cells slots hR hl hL
  exact lv_bipush C.hx C.hb hd hv (k p e R s m args below meth c C H locs ls cells slots hR hl hL)
theorem r_sipush {n : Int} {v : Int32} (hd : decode (mYc y) pc = .ok (.sipush n, 3)) (hv : (Int16.ofInt n).toInt32 = v) (k : mW G y d (pc + 3) L (.int v :: st) M t u Q) : mW G y d pc L (st) M t u Q := by
  intro p e R s m args below meth c C H locs ls cells slots hR hl hL
  exact lv_sipush C.hx C.hb hd hv (k p e R s m args below meth c C H locs ls cells slots hR hl hL)
theorem r_dup {va : Value} (hd : decode (mYc y) pc = .ok (.dup, 1)) (hva : va.category = 1) (k : mW G y d (pc + 1) L (va :: va :: st) M t u Q) : mW G y d pc L (va :: st) M t u Q := by
  intro p e R s m args below meth c C H locs ls cells slots hR hl hL
  exact lv_dup C.hx C.hb hd hva (k p e R s m args below meth c C H locs ls cells slots hR hl hL)
theorem r_pop {va : Value} (hd : decode (mYc y) pc = .ok (.pop, 1)) (hva : va.category = 1) (k : mW G y d (pc + 1) L (st) M t u Q) : mW G y d pc L (va :: st) M t u Q := by
  intro p e R s m args below meth c C H locs ls cells slots hR hl hL
  exact lv_pop C.hx C.hb hd hva (k p e R s m args below meth c C H locs ls cells slots hR hl hL)
theorem r_dup_x1 {va vb : Value} (hd : decode (mYc y) pc = .ok (.dup_x1, 1)) (hva : va.category = 1) (hvb : vb.category = 1) (k : mW G y d (pc + 1) L (va :: vb :: va :: st) M t u Q) : mW G y d pc L (va :: vb :: st) M t u Q := by
  intro p e R s m args below meth c C H locs ls cells slots hR hl hL
  exact lv_dup_x1 C.hx C.hb hd hva hvb (k p e R s m args below meth c C H locs ls cells slots hR hl hL)
theorem r_dup2 {va vb : Value} (hd : decode (mYc y) pc = .ok (.dup2, 1)) (hva : va.category = 1) (hvb : vb.category = 1) (k : mW G y d (pc + 1) L (va :: vb :: va :: vb :: st) M t u Q) : mW G y d pc L (va :: vb :: st) M t u Q := by
  intro p e R s m args below meth c C H locs ls cells slots hR hl hL
  exact lv_dup2_11 C.hx C.hb hd hva hvb (k p e R s m args below meth c C H locs ls cells slots hR hl hL)
theorem r_iload_n {k0 : Fin 4} {x : Int32} (hd : decode (mYc y) pc = .ok (.iload_n k0, 1)) (hx : L[(k0 : Nat)]? = some (some (.int x))) (k : mW G y d (pc + 1) L (.int x :: st) M t u Q) : mW G y d pc L st M t u Q := by
  intro p e R s m args below meth c C H locs ls cells slots hR hl hL
  exact lv_iload_n C.hx C.hb hd rfl (hL.at hx) (k p e R s m args below meth c C H locs ls cells slots hR hl hL)
theorem r_iload {i : Nat} {x : Int32} (hd : decode (mYc y) pc = .ok (.iload i, 2)) (hx : L[i]? = some (some (.int x))) (k : mW G y d (pc + 2) L (.int x :: st) M t u Q) : mW G y d pc L st M t u Q := by
  intro p e R s m args below meth c C H locs ls cells slots hR hl hL
  exact lv_iload C.hx C.hb hd (hL.at hx) (k p e R s m args below meth c C H locs ls cells slots hR hl hL)
theorem r_aload_n {k0 : Fin 4} {x : Nat} (hd : decode (mYc y) pc = .ok (.aload_n k0, 1)) (hx : L[(k0 : Nat)]? = some (some (.ref x))) (k : mW G y d (pc + 1) L (.ref x :: st) M t u Q) : mW G y d pc L st M t u Q := by
  intro p e R s m args below meth c C H locs ls cells slots hR hl hL
  exact lv_aload_n C.hx C.hb hd rfl (hL.at hx) (k p e R s m args below meth c C H locs ls cells slots hR hl hL)
theorem r_aload {i : Nat} {x : Nat} (hd : decode (mYc y) pc = .ok (.aload i, 2)) (hx : L[i]? = some (some (.ref x))) (k : mW G y d (pc + 2) L (.ref x :: st) M t u Q) : mW G y d pc L st M t u Q := by
  intro p e R s m args below meth c C H locs ls cells slots hR hl hL
  exact lv_aload C.hx C.hb hd (hL.at hx) (k p e R s m args below meth c C H locs ls cells slots hR hl hL)
theorem r_fload_n {k0 : Fin 4} {x : UInt32} (hd : decode (mYc y) pc = .ok (.fload_n k0, 1)) (hx : L[(k0 : Nat)]? = some (some (.float x))) (k : mW G y d (pc + 1) L (.float x :: st) M t u Q) : mW G y d pc L st M t u Q := by
  intro p e R s m args below meth c C H locs ls cells slots hR hl hL
  exact lv_fload_n C.hx C.hb hd rfl (hL.at hx) (k p e R s m args below meth c C H locs ls cells slots hR hl hL)
theorem r_fload {i : Nat} {x : UInt32} (hd : decode (mYc y) pc = .ok (.fload i, 2)) (hx : L[i]? = some (some (.float x))) (k : mW G y d (pc + 2) L (.float x :: st) M t u Q) : mW G y d pc L st M t u Q := by
  intro p e R s m args below meth c C H locs ls cells slots hR hl hL
  exact lv_fload C.hx C.hb hd (hL.at hx) (k p e R s m args below meth c C H locs ls cells slots hR hl hL)
theorem r_dload_n {k0 : Fin 4} {x : UInt64} (hd : decode (mYc y) pc = .ok (.dload_n k0, 1)) (hx : L[(k0 : Nat)]? = some (some (.double x))) (k : mW G y d (pc + 1) L (.double x :: st) M t u Q) : mW G y d pc L st M t u Q := by
  intro p e R s m args below meth c C H locs ls cells slots hR hl hL
  exact lv_dload_n C.hx C.hb hd rfl (hL.at hx) (k p e R s m args below meth c C H locs ls cells slots hR hl hL)
theorem r_dload {i : Nat} {x : UInt64} (hd : decode (mYc y) pc = .ok (.dload i, 2)) (hx : L[i]? = some (some (.double x))) (k : mW G y d (pc + 2) L (.double x :: st) M t u Q) : mW G y d pc L st M t u Q := by
  intro p e R s m args below meth c C H locs ls cells slots hR hl hL
  exact lv_dload C.hx C.hb hd (hL.at hx) (k p e R s m args below meth c C H locs ls cells slots hR hl hL)
theorem r_aload_nN {k0 : Fin 4} (hd : decode (mYc y) pc = .ok (.aload_n k0, 1)) (hx : L[(k0 : Nat)]? = some (some .null)) (k : mW G y d (pc + 1) L (.null :: st) M t u Q) : mW G y d pc L st M t u Q := by
  intro p e R s m args below meth c C H locs ls cells slots hR hl hL
  exact lv_aload_nN C.hx C.hb hd rfl (hL.at hx) (k p e R s m args below meth c C H locs ls cells slots hR hl hL)
theorem r_aloadN {i : Nat} (hd : decode (mYc y) pc = .ok (.aload i, 2)) (hx : L[i]? = some (some .null)) (k : mW G y d (pc + 2) L (.null :: st) M t u Q) : mW G y d pc L st M t u Q := by
  intro p e R s m args below meth c C H locs ls cells slots hR hl hL
  exact lv_aloadN C.hx C.hb hd (hL.at hx) (k p e R s m args below meth c C H locs ls cells slots hR hl hL)
theorem r_aload_nq {k0 : Fin 4} {r : Option Nat} (hd : decode (mYc y) pc = .ok (.aload_n k0, 1)) (hx : L[(k0 : Nat)]? = some (some (va_rf r))) (k : mW G y d (pc + 1) L (va_rf r :: st) M t u Q) : mW G y d pc L st M t u Q := by
  cases r with
  | none => exact r_aload_nN hd hx k
  | some a => exact r_aload_n hd hx k
theorem r_aloadq {i : Nat} {r : Option Nat} (hd : decode (mYc y) pc = .ok (.aload i, 2)) (hx : L[i]? = some (some (va_rf r))) (k : mW G y d (pc + 2) L (va_rf r :: st) M t u Q) : mW G y d pc L st M t u Q := by
  cases r with
  | none => exact r_aloadN hd hx k
  | some a => exact r_aload hd hx k
theorem r_istore_n {k0 : Fin 4} {x : Int32} (hd : decode (mYc y) pc = .ok (.istore_n k0, 1)) (hn : (k0 : Nat) < mYl y) (k : mW G y d (pc + 1) (mst1 L (k0 : Nat) (.int x)) st M t u Q) : mW G y d pc L (.int x :: st) M t u Q := by
  intro p e R s m args below meth c C H locs ls cells slots hR hl hL
  exact lv_istore_n C.hx C.hb hd rfl hL.1 hn rfl (fun ls' h' => k p e R s m args below meth c C H locs ls' cells slots hR hl (hL.st1 h'))
theorem r_istore {i : Nat} {x : Int32} (hd : decode (mYc y) pc = .ok (.istore i, 2)) (hn : i < mYl y) (k : mW G y d (pc + 2) (mst1 L i (.int x)) st M t u Q) : mW G y d pc L (.int x :: st) M t u Q := by
  intro p e R s m args below meth c C H locs ls cells slots hR hl hL
  exact lv_istore C.hx C.hb hd hL.1 hn rfl (fun ls' h' => k p e R s m args below meth c C H locs ls' cells slots hR hl (hL.st1 h'))
theorem r_astore_n {k0 : Fin 4} {x : Nat} (hd : decode (mYc y) pc = .ok (.astore_n k0, 1)) (hn : (k0 : Nat) < mYl y) (k : mW G y d (pc + 1) (mst1 L (k0 : Nat) (.ref x)) st M t u Q) : mW G y d pc L (.ref x :: st) M t u Q := by
  intro p e R s m args below meth c C H locs ls cells slots hR hl hL
  exact lv_astore_n C.hx C.hb hd rfl hL.1 hn rfl (fun ls' h' => k p e R s m args below meth c C H locs ls' cells slots hR hl (hL.st1 h'))
theorem r_astore {i : Nat} {x : Nat} (hd : decode (mYc y) pc = .ok (.astore i, 2)) (hn : i < mYl y) (k : mW G y d (pc + 2) (mst1 L i (.ref x)) st M t u Q) : mW G y d pc L (.ref x :: st) M t u Q := by
  intro p e R s m args below meth c C H locs ls cells slots hR hl hL
  exact lv_astore C.hx C.hb hd hL.1 hn rfl (fun ls' h' => k p e R s m args below meth c C H locs ls' cells slots hR hl (hL.st1 h'))
theorem r_fstore_n {k0 : Fin 4} {x : UInt32} (hd : decode (mYc y) pc = .ok (.fstore_n k0, 1)) (hn : (k0 : Nat) < mYl y) (k : mW G y d (pc + 1) (mst1 L (k0 : Nat) (.float x)) st M t u Q) : mW G y d pc L (.float x :: st) M t u Q := by
  intro p e R s m args below meth c C H locs ls cells slots hR hl hL
  exact lv_fstore_n C.hx C.hb hd rfl hL.1 hn rfl (fun ls' h' => k p e R s m args below meth c C H locs ls' cells slots hR hl (hL.st1 h'))
theorem r_fstore {i : Nat} {x : UInt32} (hd : decode (mYc y) pc = .ok (.fstore i, 2)) (hn : i < mYl y) (k : mW G y d (pc + 2) (mst1 L i (.float x)) st M t u Q) : mW G y d pc L (.float x :: st) M t u Q := by
  intro p e R s m args below meth c C H locs ls cells slots hR hl hL
  exact lv_fstore C.hx C.hb hd hL.1 hn rfl (fun ls' h' => k p e R s m args below meth c C H locs ls' cells slots hR hl (hL.st1 h'))
theorem r_dstore_n {k0 : Fin 4} {x : UInt64} (hd : decode (mYc y) pc = .ok (.dstore_n k0, 1)) (hn : (k0 : Nat) + 1 < mYl y) (k : mW G y d (pc + 1) (mst2 L (k0 : Nat) (.double x)) st M t u Q) : mW G y d pc L (.double x :: st) M t u Q := by
  intro p e R s m args below meth c C H locs ls cells slots hR hl hL
  exact lv_dstore_n C.hx C.hb hd rfl hL.1 hn rfl (fun ls' h' => k p e R s m args below meth c C H locs ls' cells slots hR hl (hL.st2 h'))
theorem r_dstore {i : Nat} {x : UInt64} (hd : decode (mYc y) pc = .ok (.dstore i, 2)) (hn : i + 1 < mYl y) (k : mW G y d (pc + 2) (mst2 L i (.double x)) st M t u Q) : mW G y d pc L (.double x :: st) M t u Q := by
  intro p e R s m args below meth c C H locs ls cells slots hR hl hL
  exact lv_dstore C.hx C.hb hd hL.1 hn rfl (fun ls' h' => k p e R s m args below meth c C H locs ls' cells slots hR hl (hL.st2 h'))
theorem r_astore_nN {k0 : Fin 4} (hd : decode (mYc y) pc = .ok (.astore_n k0, 1)) (hn : (k0 : Nat) < mYl y) (k : mW G y d (pc + 1) (mst1 L (k0 : Nat) .null) st M t u Q) : mW G y d pc L (.null :: st) M t u Q := by
  intro p e R s m args below meth c C H locs ls cells slots hR hl hL
  exact lv_astore_nN C.hx C.hb hd rfl hL.1 hn rfl (fun ls' h' => k p e R s m args below meth c C H locs ls' cells slots hR hl (hL.st1 h'))
theorem r_astoreN {i : Nat} (hd : decode (mYc y) pc = .ok (.astore i, 2)) (hn : i < mYl y) (k : mW G y d (pc + 2) (mst1 L i .null) st M t u Q) : mW G y d pc L (.null :: st) M t u Q := by
  intro p e R s m args below meth c C H locs ls cells slots hR hl hL
  exact lv_astoreN C.hx C.hb hd hL.1 hn rfl (fun ls' h' => k p e R s m args below meth c C H locs ls' cells slots hR hl (hL.st1 h'))
theorem r_astore_nq {k0 : Fin 4} {r : Option Nat} (hd : decode (mYc y) pc = .ok (.astore_n k0, 1)) (hn : (k0 : Nat) < mYl y) (k : mW G y d (pc + 1) (mst1 L (k0 : Nat) (va_rf r)) st M t u Q) : mW G y d pc L (va_rf r :: st) M t u Q := by
  cases r with
  | none => exact r_astore_nN hd hn k
  | some a => exact r_astore_n hd hn k
theorem r_astoreq {i : Nat} {r : Option Nat} (hd : decode (mYc y) pc = .ok (.astore i, 2)) (hn : i < mYl y) (k : mW G y d (pc + 2) (mst1 L i (va_rf r)) st M t u Q) : mW G y d pc L (va_rf r :: st) M t u Q := by
  cases r with
  | none => exact r_astoreN hd hn k
  | some a => exact r_astore hd hn k
theorem r_iinc {i : Nat} {n : Int} {x v : Int32} (hd : decode (mYc y) pc = .ok (.iinc i n, 3)) (hx : L[i]? = some (some (.int x))) (hv : x + Int32.ofInt n = v) (hn : i < mYl y) (k : mW G y d (pc + 3) (mst1 L i (.int v)) st M t u Q) : mW G y d pc L st M t u Q := by
  intro p e R s m args below meth c C H locs ls cells slots hR hl hL
  obtain ⟨j, hj⟩ := List.mem_iff_getElem?.mp (mAs_0.mpr hx)
  exact lv_iinc C.hx C.hb hd hL.1 hj hv hn rfl (fun ls' h' => k p e R s m args below meth c C H locs ls' cells slots hR hl (hL.st1 h'))
theorem r_if_eq {x : Int32} {off : Int} {tgt : Nat} (hd : decode (mYc y) pc = .ok (.ifCond .eq off, 3)) (ht : (pc : Int) + off = (tgt : Int)) (kt : x = 0 → mW G y d tgt L st M t u Q) (kf : ¬ x = 0 → mW G y d (pc + 3) L st M t u Q) : mW G y d pc L (.int x :: st) M t u Q := by
  intro p e R s m args below meth c C H locs ls cells slots hR hl hL
  exact lv_if_eq C.hx C.hb hd ht (fun h => kt h p e R s m args below meth c C H locs ls cells slots hR hl hL) (fun h => kf h p e R s m args below meth c C H locs ls cells slots hR hl hL)
theorem r_if_ne {x : Int32} {off : Int} {tgt : Nat} (hd : decode (mYc y) pc = .ok (.ifCond .ne off, 3)) (ht : (pc : Int) + off = (tgt : Int)) (kt : ¬ x = 0 → mW G y d tgt L st M t u Q) (kf : x = 0 → mW G y d (pc + 3) L st M t u Q) : mW G y d pc L (.int x :: st) M t u Q := by
  intro p e R s m args below meth c C H locs ls cells slots hR hl hL
  exact lv_if_ne C.hx C.hb hd ht (fun h => kt h p e R s m args below meth c C H locs ls cells slots hR hl hL) (fun h => kf h p e R s m args below meth c C H locs ls cells slots hR hl hL)
theorem r_if_lt {x : Int32} {off : Int} {tgt : Nat} (hd : decode (mYc y) pc = .ok (.ifCond .lt off, 3)) (ht : (pc : Int) + off = (tgt : Int)) (kt : x < 0 → mW G y d tgt L st M t u Q) (kf : ¬ x < 0 → mW G y d (pc + 3) L st M t u Q) : mW G y d pc L (.int x :: st) M t u Q := by
  intro p e R s m args below meth c C H locs ls cells slots hR hl hL
  exact lv_if_lt C.hx C.hb hd ht (fun h => kt h p e R s m args below meth c C H locs ls cells slots hR hl hL) (fun h => kf h p e R s m args below meth c C H locs ls cells slots hR hl hL)
theorem r_if_ge {x : Int32} {off : Int} {tgt : Nat} (hd : decode (mYc y) pc = .ok (.ifCond .ge off, 3)) (ht : (pc : Int) + off = (tgt : Int)) (kt : 0 ≤ x → mW G y d tgt L st M t u Q) (kf : ¬ 0 ≤ x → mW G y d (pc + 3) L st M t u Q) : mW G y d pc L (.int x :: st) M t u Q := by
  intro p e R s m args below meth c C H locs ls cells slots hR hl hL
  exact lv_if_ge C.hx C.hb hd ht (fun h => kt h p e R s m args below meth c C H locs ls cells slots hR hl hL) (fun h => kf h p e R s m args below meth c C H locs ls cells slots hR hl hL)
theorem r_if_gt {x : Int32} {off : Int} {tgt : Nat} (hd : decode (mYc y) pc = .ok (.ifCond .gt off, 3)) (ht : (pc : Int) + off = (tgt : Int)) (kt : 0 < x → mW G y d tgt L st M t u Q) (kf : ¬ 0 < x → mW G y d (pc + 3) L st M t u Q) : mW G y d pc L (.int x :: st) M t u Q := by
  intro p e R s m args below meth c C H locs ls cells slots hR hl hL
  exact lv_if_gt C.hx C.hb hd ht (fun h => kt h p e R s m args below meth c C H locs ls cells slots hR hl hL) (fun h => kf h p e R s m args below meth c C H locs ls cells slots hR hl hL)
theorem r_if_le {x : Int32} {off : Int} {tgt : Nat} (hd : decode (mYc y) pc = .ok (.ifCond .le off, 3)) (ht : (pc : Int) + off = (tgt : Int)) (kt : x ≤ 0 → mW G y d tgt L st M t u Q) (kf : ¬ x ≤ 0 → mW G y d (pc + 3) L st M t u Q) : mW G y d pc L (.int x :: st) M t u Q := by
  intro p e R s m args below meth c C H locs ls cells slots hR hl hL
  exact lv_if_le C.hx C.hb hd ht (fun h => kt h p e R s m args below meth c C H locs ls cells slots hR hl hL) (fun h => kf h p e R s m args below meth c C H locs ls cells slots hR hl hL)
theorem r_icmp_eq {x z : Int32} {off : Int} {tgt : Nat} (hd : decode (mYc y) pc = .ok (.if_icmp .eq off, 3)) (ht : (pc : Int) + off = (tgt : Int)) (kt : x = z → mW G y d tgt L st M t u Q) (kf : ¬ x = z → mW G y d (pc + 3) L st M t u Q) : mW G y d pc L (.int z :: .int x :: st) M t u Q := by
  intro p e R s m args below meth c C H locs ls cells slots hR hl hL
  exact lv_icmp_eq C.hx C.hb hd ht (fun h => kt h p e R s m args below meth c C H locs ls cells slots hR hl hL) (fun h => kf h p e R s m args below meth c C H locs ls cells slots hR hl hL)
theorem r_icmp_ne {x z : Int32} {off : Int} {tgt : Nat} (hd : decode (mYc y) pc = .ok (.if_icmp .ne off, 3)) (ht : (pc : Int) + off = (tgt : Int)) (kt : ¬ x = z → mW G y d tgt L st M t u Q) (kf : x = z → mW G y d (pc + 3) L st M t u Q) : mW G y d pc L (.int z :: .int x :: st) M t u Q := by
  intro p e R s m args below meth c C H locs ls cells slots hR hl hL
  exact lv_icmp_ne C.hx C.hb hd ht (fun h => kt h p e R s m args below meth c C H locs ls cells slots hR hl hL) (fun h => kf h p e R s m args below meth c C H locs ls cells slots hR hl hL)
theorem r_icmp_lt {x z : Int32} {off : Int} {tgt : Nat} (hd : decode (mYc y) pc = .ok (.if_icmp .lt off, 3)) (ht : (pc : Int) + off = (tgt : Int)) (kt : x < z → mW G y d tgt L st M t u Q) (kf : ¬ x < z → mW G y d (pc + 3) L st M t u Q) : mW G y d pc L (.int z :: .int x :: st) M t u Q := by
  intro p e R s m args below meth c C H locs ls cells slots hR hl hL
  exact lv_icmp_lt C.hx C.hb hd ht (fun h => kt h p e R s m args below meth c C H locs ls cells slots hR hl hL) (fun h => kf h p e R s m args below meth c C H locs ls cells slots hR hl hL)
theorem r_icmp_ge {x z : Int32} {off : Int} {tgt : Nat} (hd : decode (mYc y) pc = .ok (.if_icmp .ge off, 3)) (ht : (pc : Int) + off = (tgt : Int)) (kt : z ≤ x → mW G y d tgt L st M t u Q) (kf : ¬ z ≤ x → mW G y d (pc + 3) L st M t u Q) : mW G y d pc L (.int z :: .int x :: st) M t u Q := by
  intro p e R s m args below meth c C H locs ls cells slots hR hl hL
  exact lv_icmp_ge C.hx C.hb hd ht (fun h => kt h p e R s m args below meth c C H locs ls cells slots hR hl hL) (fun h => kf h p e R s m args below meth c C H locs ls cells slots hR hl hL)
theorem r_icmp_gt {x z : Int32} {off : Int} {tgt : Nat} (hd : decode (mYc y) pc = .ok (.if_icmp .gt off, 3)) (ht : (pc : Int) + off = (tgt : Int)) (kt : z < x → mW G y d tgt L st M t u Q) (kf : ¬ z < x → mW G y d (pc + 3) L st M t u Q) : mW G y d pc L (.int z :: .int x :: st) M t u Q := by
  intro p e R s m args below meth c C H locs ls cells slots hR hl hL
  exact lv_icmp_gt C.hx C.hb hd ht (fun h => kt h p e R s m args below meth c C H locs ls cells slots hR hl hL) (fun h => kf h p e R s m args below meth c C H locs ls cells slots hR hl hL)
theorem r_icmp_le {x z : Int32} {off : Int} {tgt : Nat} (hd : decode (mYc y) pc = .ok (.if_icmp .le off, 3)) (ht : (pc : Int) + off = (tgt : Int)) (kt : x ≤ z → mW G y d tgt L st M t u Q) (kf : ¬ x ≤ z → mW G y d (pc + 3) L st M t u Q) : mW G y d pc L (.int z :: .int x :: st) M t u Q := by
  intro p e R s m args below meth c C H locs ls cells slots hR hl hL
  exact lv_icmp_le C.hx C.hb hd ht (fun h => kt h p e R s m args below meth c C H locs ls cells slots hR hl hL) (fun h => kf h p e R s m args below meth c C H locs ls cells slots hR hl hL)
theorem r_goto {off : Int} {tgt : Nat} (hd : decode (mYc y) pc = .ok (.goto off, 3)) (ht : (pc : Int) + off = (tgt : Int)) (k : mW G y d tgt L st M t u Q) : mW G y d pc L st M t u Q := by
  intro p e R s m args below meth c C H locs ls cells slots hR hl hL
  exact lv_goto C.hx C.hb hd ht (k p e R s m args below meth c C H locs ls cells slots hR hl hL)
theorem r_ifnull {x : Nat} {off : Int} (hd : decode (mYc y) pc = .ok (.ifnull off, 3)) (k : mW G y d (pc + 3) L st M t u Q) : mW G y d pc L (.ref x :: st) M t u Q := by
  intro p e R s m args below meth c C H locs ls cells slots hR hl hL
  exact lv_ifnull C.hx C.hb hd (k p e R s m args below meth c C H locs ls cells slots hR hl hL)
theorem r_ifnullN {off : Int} {tgt : Nat} (hd : decode (mYc y) pc = .ok (.ifnull off, 3)) (ht : (pc : Int) + off = (tgt : Int)) (k : mW G y d tgt L st M t u Q) : mW G y d pc L (.null :: st) M t u Q := by
  intro p e R s m args below meth c C H locs ls cells slots hR hl hL
  exact lv_ifnullN C.hx C.hb hd ht (k p e R s m args below meth c C H locs ls cells slots hR hl hL)
theorem r_ifnonnull {x : Nat} {off : Int} {tgt : Nat} (hd : decode (mYc y) pc = .ok (.ifnonnull off, 3)) (ht : (pc : Int) + off = (tgt : Int)) (k : mW G y d tgt L st M t u Q) : mW G y d pc L (.ref x :: st) M t u Q := by
  intro p e R s m args below meth c C H locs ls cells slots hR hl hL
  exact lv_ifnonnull C.hx C.hb hd ht (k p e R s m args below meth c C H locs ls cells slots hR hl hL)
theorem r_ifnonnullN {off : Int} (hd : decode (mYc y) pc = .ok (.ifnonnull off, 3)) (k : mW G y d (pc + 3) L st M t u Q) : mW G y d pc L (.null :: st) M t u Q := by
  intro p e R s m args below meth c C H locs ls cells slots hR hl hL
  exact lv_ifnonnullN C.hx C.hb hd (k p e R s m args below meth c C H locs ls cells slots hR hl hL)
theorem r_ifnullq {r : Option Nat} {off : Int} {tgt : Nat} (hd : decode (mYc y) pc = .ok (.ifnull off, 3)) (ht : (pc : Int) + off = (tgt : Int)) (kt : r = none → mW G y d tgt L st M t u Q) (kf : (∃ a, r = some a) → mW G y d (pc + 3) L st M t u Q) : mW G y d pc L (va_rf r :: st) M t u Q := by
  cases r with
  | none => exact r_ifnullN hd ht (kt rfl)
  | some a => exact r_ifnull hd (kf ⟨a, rfl⟩)
theorem r_ifnonnullq {r : Option Nat} {off : Int} {tgt : Nat} (hd : decode (mYc y) pc = .ok (.ifnonnull off, 3)) (ht : (pc : Int) + off = (tgt : Int)) (kt : (∃ a, r = some a) → mW G y d tgt L st M t u Q) (kf : r = none → mW G y d (pc + 3) L st M t u Q) : mW G y d pc L (va_rf r :: st) M t u Q := by
  cases r with
  | none => exact r_ifnonnullN hd (kf rfl)
  | some a => exact r_ifnonnull hd ht (kt ⟨a, rfl⟩)
theorem r_acmp_eq {r0 r1 : Option Nat} {off : Int} {tgt : Nat} (hd : decode (mYc y) pc = .ok (.if_acmp .eq off, 3)) (ht : (pc : Int) + off = (tgt : Int)) (kt : r0 = r1 → mW G y d tgt L st M t u Q) (kf : ¬ r0 = r1 → mW G y d (pc + 3) L st M t u Q) : mW G y d pc L (va_rf r1 :: va_rf r0 :: st) M t u Q := by
  intro p e R s m args below meth c C H locs ls cells slots hR hl hL
  exact lv_acmp_eq C.hx C.hb hd ht (fun h => kt h p e R s m args below meth c C H locs ls cells slots hR hl hL) (fun h => kf h p e R s m args below meth c C H locs ls cells slots hR hl hL)
theorem r_acmp_ne {r0 r1 : Option Nat} {off : Int} {tgt : Nat} (hd : decode (mYc y) pc = .ok (.if_acmp .ne off, 3)) (ht : (pc : Int) + off = (tgt : Int)) (kt : ¬ r0 = r1 → mW G y d tgt L st M t u Q) (kf : r0 = r1 → mW G y d (pc + 3) L st M t u Q) : mW G y d pc L (va_rf r1 :: va_rf r0 :: st) M t u Q := by
  intro p e R s m args below meth c C H locs ls cells slots hR hl hL
  exact lv_acmp_ne C.hx C.hb hd ht (fun h => kt h p e R s m args below meth c C H locs ls cells slots hR hl hL) (fun h => kf h p e R s m args below meth c C H locs ls cells slots hR hl hL)
theorem r_tableIn {dflt lo hi : Int} {offs : Array Int} {len : Nat} {x : Int32} {off : Int} {tgt : Nat} (hd : decode (mYc y) pc = .ok (.tableswitch dflt lo hi offs, len)) (h1 : ¬ x.toInt < lo) (h2 : ¬ hi < x.toInt) (ho : offs[(x.toInt - lo).toNat]? = some off) (ht : (pc : Int) + off = (tgt : Int)) (k : mW G y d tgt L st M t u Q) : mW G y d pc L (.int x :: st) M t u Q := by
  intro p e R s m args below meth c C H locs ls cells slots hR hl hL
  exact lv_tableIn C.hx C.hb hd h1 h2 ho ht (k p e R s m args below meth c C H locs ls cells slots hR hl hL)
theorem r_tableOut {dflt lo hi : Int} {offs : Array Int} {len : Nat} {x : Int32} {tgt : Nat} (hd : decode (mYc y) pc = .ok (.tableswitch dflt lo hi offs, len)) (h : x.toInt < lo ∨ hi < x.toInt) (ht : (pc : Int) + dflt = (tgt : Int)) (k : mW G y d tgt L st M t u Q) : mW G y d pc L (.int x :: st) M t u Q := by
  intro p e R s m args below meth c C H locs ls cells slots hR hl hL
  exact lv_tableOut C.hx C.hb hd h ht (k p e R s m args below meth c C H locs ls cells slots hR hl hL)
theorem r_lookup {dflt : Int} {ps : Array (Int × Int)} {len : Nat} {x : Int32} {off : Int} {tgt : Nat} (hd : decode (mYc y) pc = .ok (.lookupswitch dflt ps, len)) (hp : (ps.toList.zip (ps.toList.drop 1)).all (fun (a, next) => a.1 < next.1) = true) (ho : Op.lookupswitch.offset ps.toList dflt x.toInt = off) (ht : (pc : Int) + off = (tgt : Int)) (k : mW G y d tgt L st M t u Q) : mW G y d pc L (.int x :: st) M t u Q := by
  intro p e R s m args below meth c C H locs ls cells slots hR hl hL
  exact lv_lookup C.hx C.hb hd hp ho ht (k p e R s m args below meth c C H locs ls cells slots hR hl hL)
theorem r_lcmp {a b : Int64} (hd : decode (mYc y) pc = .ok (.lcmp, 1)) (k : mW G y d (pc + 1) L (.int (lg_cmp a b) :: st) M t u Q) : mW G y d pc L (.long b :: .long a :: st) M t u Q := by
  intro p e R s m args below meth c C H locs ls cells slots hR hl hL
  exact W.lcmp C.hx C.hb hd (k p e R s m args below meth c C H locs ls cells slots hR hl hL)
theorem r_ldc {i : Nat} {v : Int32} (hd : decode (mYc y) pc = .ok (.ldc i, 2)) (hc : Jvm.Cond.constant (mYn y).cls i v ∈ lw_all) (k : mW G y d (pc + 2) L (.int v :: st) M t u Q) : mW G y d pc L st M t u Q := by
  intro p e R s m args below meth c C H locs ls cells slots hR hl hL
  exact lv_ldc C.hx C.hb C.own (C.ts hc) hd (k p e R s m args below meth c C H locs ls cells slots hR hl hL)
theorem r_ldcf {i : Nat} {v : UInt32} (hd : decode (mYc y) pc = .ok (.ldc i, 2)) (hc : Jvm.Cond.constantFloat (mYn y).cls i v ∈ lw_all) (k : mW G y d (pc + 2) L (.float v :: st) M t u Q) : mW G y d pc L st M t u Q := by
  intro p e R s m args below meth c C H locs ls cells slots hR hl hL
  exact lv_ldcf C.hx C.hb C.own (C.ts hc) hd (k p e R s m args below meth c C H locs ls cells slots hR hl hL)
theorem r_castN {i : Nat} (hd : decode (mYc y) pc = .ok (.checkcast i, 3)) (k : mW G y d (pc + 3) L (.null :: st) M t u Q) : mW G y d pc L (.null :: st) M t u Q := by
  intro p e R s m args below meth c C H locs ls cells slots hR hl hL
  exact lv_castN C.hx C.hb hd (k p e R s m args below meth c C H locs ls cells slots hR hl hL)
end MOPS
