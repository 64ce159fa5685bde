set_option maxRecDepth 100000
/-! ===== the x layer, 3: rows of the stack, the locals, branches (printed by gen_rows.py) ===== -/
section XR
variable {G : xG} {y : xM} {d C S pc : Nat} {L : List (Option Value)} {st : List Value} {h : xH} {Q : xQ}
theorem x_iadd {a b : Int32} (hd : decode y.2.1 pc = .ok (.iadd, 1))  (k : xRun G y d C S (pc + 1) L (.int (a + b) :: st) h Q) : xRun G y d C S pc L (.int b :: .int a :: st) h Q :=
  fun p e s m args below meth c ls H locs cells slots mc ms X A => lv_iadd X.1 X.2.1 hd (k p e s m args below meth c ls H locs cells slots mc ms X A)
theorem x_isub {a b : Int32} (hd : decode y.2.1 pc = .ok (.isub, 1))  (k : xRun G y d C S (pc + 1) L (.int (a - b) :: st) h Q) : xRun G y d C S pc L (.int b :: .int a :: st) h Q :=
  fun p e s m args below meth c ls H locs cells slots mc ms X A => lv_isub X.1 X.2.1 hd (k p e s m args below meth c ls H locs cells slots mc ms X A)
theorem x_imul {a b : Int32} (hd : decode y.2.1 pc = .ok (.imul, 1))  (k : xRun G y d C S (pc + 1) L (.int (a * b) :: st) h Q) : xRun G y d C S pc L (.int b :: .int a :: st) h Q :=
  fun p e s m args below meth c ls H locs cells slots mc ms X A => lv_imul X.1 X.2.1 hd (k p e s m args below meth c ls H locs cells slots mc ms X A)
theorem x_iand {a b : Int32} (hd : decode y.2.1 pc = .ok (.iand, 1))  (k : xRun G y d C S (pc + 1) L (.int (a &&& b) :: st) h Q) : xRun G y d C S pc L (.int b :: .int a :: st) h Q :=
  fun p e s m args below meth c ls H locs cells slots mc ms X A => lv_iand X.1 X.2.1 hd (k p e s m args below meth c ls H locs cells slots mc ms X A)
theorem x_ior {a b : Int32} (hd : decode y.2.1 pc = .ok (.ior, 1))  (k : xRun G y d C S (pc + 1) L (.int (a ||| b) :: st) h Q) : xRun G y d C S pc L (.int b :: .int a :: st) h Q :=
  fun p e s m args below meth c ls H locs cells slots mc ms X A => lv_ior X.1 X.2.1 hd (k p e s m args below meth c ls H locs cells slots mc ms X A)
theorem x_ixor {a b : Int32} (hd : decode y.2.1 pc = .ok (.ixor, 1))  (k : xRun G y d C S (pc + 1) L (.int (a ^^^ b) :: st) h Q) : xRun G y d C S pc L (.int b :: .int a :: st) h Q :=
  fun p e s m args below meth c ls H locs cells slots mc ms X A => lv_ixor X.1 X.2.1 hd (k p e s m args below meth c ls H locs cells slots mc ms X A)
theorem x_ladd {a b : Int64} (hd : decode y.2.1 pc = .ok (.ladd, 1))  (k : xRun G y d C S (pc + 1) L (.long (a + b) :: st) h Q) : xRun G y d C S pc L (.long b :: .long a :: st) h Q :=
  fun p e s m args below meth c ls H locs cells slots mc ms X A => lv_ladd X.1 X.2.1 hd (k p e s m args below meth c ls H locs cells slots mc ms X A)
theorem x_lsub {a b : Int64} (hd : decode y.2.1 pc = .ok (.lsub, 1))  (k : xRun G y d C S (pc + 1) L (.long (a - b) :: st) h Q) : xRun G y d C S pc L (.long b :: .long a :: st) h Q :=
  fun p e s m args below meth c ls H locs cells slots mc ms X A => lv_lsub X.1 X.2.1 hd (k p e s m args below meth c ls H locs cells slots mc ms X A)
theorem x_lmul {a b : Int64} (hd : decode y.2.1 pc = .ok (.lmul, 1))  (k : xRun G y d C S (pc + 1) L (.long (a * b) :: st) h Q) : xRun G y d C S pc L (.long b :: .long a :: st) h Q :=
  fun p e s m args below meth c ls H locs cells slots mc ms X A => lv_lmul X.1 X.2.1 hd (k p e s m args below meth c ls H locs cells slots mc ms X A)
theorem x_land {a b : Int64} (hd : decode y.2.1 pc = .ok (.land, 1))  (k : xRun G y d C S (pc + 1) L (.long (a &&& b) :: st) h Q) : xRun G y d C S pc L (.long b :: .long a :: st) h Q :=
  fun p e s m args below meth c ls H locs cells slots mc ms X A => lv_land X.1 X.2.1 hd (k p e s m args below meth c ls H locs cells slots mc ms X A)
theorem x_lor {a b : Int64} (hd : decode y.2.1 pc = .ok (.lor, 1))  (k : xRun G y d C S (pc + 1) L (.long (a ||| b) :: st) h Q) : xRun G y d C S pc L (.long b :: .long a :: st) h Q :=
  fun p e s m args below meth c ls H locs cells slots mc ms X A => lv_lor X.1 X.2.1 hd (k p e s m args below meth c ls H locs cells slots mc ms X A)
theorem x_idiv {a b : Int32} (hd : decode y.2.1 pc = .ok (.idiv, 1)) (hn : ¬ b = 0) (k : xRun G y d C S (pc + 1) L (.int (a / b) :: st) h Q) : xRun G y d C S pc L (.int b :: .int a :: st) h Q :=
  fun p e s m args below meth c ls H locs cells slots mc ms X A => lv_idiv X.1 X.2.1 hd hn (k p e s m args below meth c ls H locs cells slots mc ms X A)
theorem x_irem {a b : Int32} (hd : decode y.2.1 pc = .ok (.irem, 1)) (hn : ¬ b = 0) (k : xRun G y d C S (pc + 1) L (.int (a - a / b * b) :: st) h Q) : xRun G y d C S pc L (.int b :: .int a :: st) h Q :=
  fun p e s m args below meth c ls H locs cells slots mc ms X A => lv_irem X.1 X.2.1 hd hn (k p e s m args below meth c ls H locs cells slots mc ms X A)
theorem x_ldiv {a b : Int64} (hd : decode y.2.1 pc = .ok (.ldiv, 1)) (hn : ¬ b = 0) (k : xRun G y d C S (pc + 1) L (.long (a / b) :: st) h Q) : xRun G y d C S pc L (.long b :: .long a :: st) h Q :=
  fun p e s m args below meth c ls H locs cells slots mc ms X A => lv_ldiv X.1 X.2.1 hd hn (k p e s m args below meth c ls H locs cells slots mc ms X A)
theorem x_lrem {a b : Int64} (hd : decode y.2.1 pc = .ok (.lrem, 1)) (hn : ¬ b = 0) (k : xRun G y d C S (pc + 1) L (.long (a - a / b * b) :: st) h Q) : xRun G y d C S pc L (.long b :: .long a :: st) h Q :=
  fun p e s m args below meth c ls H locs cells slots mc ms X A => lv_lrem X.1 X.2.1 hd hn (k p e s m args below meth c ls H locs cells slots mc ms X A)
theorem x_ineg {a : Int32} (hd : decode y.2.1 pc = .ok (.ineg, 1))  (k : xRun G y d C S (pc + 1) L (.int (-a) :: st) h Q) : xRun G y d C S pc L (.int a :: st) h Q :=
  fun p e s m args below meth c ls H locs cells slots mc ms X A => lv_ineg X.1 X.2.1 hd (k p e s m args below meth c ls H locs cells slots mc ms X A)
theorem x_ishl {a b : Int32} (hd : decode y.2.1 pc = .ok (.ishl, 1))  (k : xRun G y d C S (pc + 1) L (.int (a <<< (b &&& 31)) :: st) h Q) : xRun G y d C S pc L (.int b :: .int a :: st) h Q :=
  fun p e s m args below meth c ls H locs cells slots mc ms X A => lv_ishl X.1 X.2.1 hd (k p e s m args below meth c ls H locs cells slots mc ms X A)
theorem x_ishr {a b : Int32} (hd : decode y.2.1 pc = .ok (.ishr, 1))  (k : xRun G y d C S (pc + 1) L (.int (a >>> (b &&& 31)) :: st) h Q) : xRun G y d C S pc L (.int b :: .int a :: st) h Q :=
  fun p e s m args below meth c ls H locs cells slots mc ms X A => lv_ishr X.1 X.2.1 hd (k p e s m args below meth c ls H locs cells slots mc ms X A)
theorem x_iushr {a b : Int32} (hd : decode y.2.1 pc = .ok (.iushr, 1))  (k : xRun G y d C S (pc + 1) L (.int ((a.toUInt32 >>> (b.toUInt32 &&& Int32.toUInt32 31)).toInt32) :: st) h Q) : xRun G y d C S pc L (.int b :: .int a :: st) h Q :=
  fun p e s m args below meth c ls H locs cells slots mc ms X A => lv_iushr X.1 X.2.1 hd rfl (k p e s m args below meth c ls H locs cells slots mc ms X A)
theorem x_lshl {a : Int64} {b : Int32} (hd : decode y.2.1 pc = .ok (.lshl, 1))  (k : xRun G y d C S (pc + 1) L (.long (a <<< (b.toInt64 &&& 63)) :: st) h Q) : xRun G y d C S pc L (.int b :: .long a :: st) h Q :=
  fun p e s m args below meth c ls H locs cells slots mc ms X A => lv_lshl X.1 X.2.1 hd rfl (k p e s m args below meth c ls H locs cells slots mc ms X A)
theorem x_i2l {a : Int32} (hd : decode y.2.1 pc = .ok (.i2l, 1))  (k : xRun G y d C S (pc + 1) L (.long a.toInt64 :: st) h Q) : xRun G y d C S pc L (.int a :: st) h Q :=
  fun p e s m args below meth c ls H locs cells slots mc ms X A => lv_i2l X.1 X.2.1 hd rfl (k p e s m args below meth c ls H locs cells slots mc ms X A)
theorem x_l2i {a : Int64} (hd : decode y.2.1 pc = .ok (.l2i, 1))  (k : xRun G y d C S (pc + 1) L (.int a.toInt32 :: st) h Q) : xRun G y d C S pc L (.long a :: st) h Q :=
  fun p e s m args below meth c ls H locs cells slots mc ms X A => lv_l2i X.1 X.2.1 hd rfl (k p e s m args below meth c ls H locs cells slots mc ms X A)
theorem x_i2b {a : Int32} (hd : decode y.2.1 pc = .ok (.i2b, 1))  (k : xRun G y d C S (pc + 1) L (.int a.toInt8.toInt32 :: st) h Q) : xRun G y d C S pc L (.int a :: st) h Q :=
  fun p e s m args below meth c ls H locs cells slots mc ms X A => lv_i2b X.1 X.2.1 hd rfl (k p e s m args below meth c ls H locs cells slots mc ms X A)
theorem x_i2c {a : Int32} (hd : decode y.2.1 pc = .ok (.i2c, 1))  (k : xRun G y d C S (pc + 1) L (.int (a.toUInt32 % 65536).toInt32 :: st) h Q) : xRun G y d C S pc L (.int a :: st) h Q :=
  fun p e s m args below meth c ls H locs cells slots mc ms X A => lv_i2c X.1 X.2.1 hd rfl (k p e s m args below meth c ls H locs cells slots mc ms X A)
theorem x_lcmp {a b : Int64} (hd : decode y.2.1 pc = .ok (.lcmp, 1))  (k : xRun G y d C S (pc + 1) L (.int (lg_cmp a b) :: st) h Q) : xRun G y d C S pc L (.long b :: .long a :: st) h Q :=
  fun p e s m args below meth c ls H locs cells slots mc ms X A => W.lcmp X.1 X.2.1 hd (k p e s m args below meth c ls H locs cells slots mc ms X A)
theorem x_dup {v : Value} (hd : decode y.2.1 pc = .ok (.dup, 1)) (hv : v.category = 1) (k : xRun G y d C S (pc + 1) L (v :: v :: st) h Q) : xRun G y d C S pc L (v :: st) h Q :=
  fun p e s m args below meth c ls H locs cells slots mc ms X A => lv_dup X.1 X.2.1 hd hv (k p e s m args below meth c ls H locs cells slots mc ms X A)
theorem x_pop {v : Value} (hd : decode y.2.1 pc = .ok (.pop, 1)) (hv : v.category = 1) (k : xRun G y d C S (pc + 1) L (st) h Q) : xRun G y d C S pc L (v :: st) h Q :=
  fun p e s m args below meth c ls H locs cells slots mc ms X A => lv_pop X.1 X.2.1 hd hv (k p e s m args below meth c ls H locs cells slots mc ms X A)
theorem x_pop2 {v : Value} (hd : decode y.2.1 pc = .ok (.pop2, 1)) (hv : v.category = 2) (k : xRun G y d C S (pc + 1) L (st) h Q) : xRun G y d C S pc L (v :: st) h Q :=
  fun p e s m args below meth c ls H locs cells slots mc ms X A => lv_pop2_2 X.1 X.2.1 hd hv (k p e s m args below meth c ls H locs cells slots mc ms X A)
theorem x_dup_x1 {v w : Value} (hd : decode y.2.1 pc = .ok (.dup_x1, 1)) (hv : v.category = 1) (hw : w.category = 1) (k : xRun G y d C S (pc + 1) L (v :: w :: v :: st) h Q) : xRun G y d C S pc L (v :: w :: st) h Q :=
  fun p e s m args below meth c ls H locs cells slots mc ms X A => lv_dup_x1 X.1 X.2.1 hd hv hw (k p e s m args below meth c ls H locs cells slots mc ms X A)
theorem x_dup_x2 {v w u : Value} (hd : decode y.2.1 pc = .ok (.dup_x2, 1)) (hv : v.category = 1) (hw : w.category = 1) (hu : u.category = 1) (k : xRun G y d C S (pc + 1) L (v :: w :: u :: v :: st) h Q) : xRun G y d C S pc L (v :: w :: u :: st) h Q :=
  fun p e s m args below meth c ls H locs cells slots mc ms X A => lv_dup_x2 X.1 X.2.1 hd hv hw hu (k p e s m args below meth c ls H locs cells slots mc ms X A)
theorem x_dup2 {v w : Value} (hd : decode y.2.1 pc = .ok (.dup2, 1)) (hv : v.category = 1) (hw : w.category = 1) (k : xRun G y d C S (pc + 1) L (v :: w :: v :: w :: st) h Q) : xRun G y d C S pc L (v :: w :: st) h Q :=
  fun p e s m args below meth c ls H locs cells slots mc ms X A => lv_dup2_11 X.1 X.2.1 hd hv hw (k p e s m args below meth c ls H locs cells slots mc ms X A)
theorem x_dup2L {v : Value} (hd : decode y.2.1 pc = .ok (.dup2, 1)) (hv : v.category = 2) (k : xRun G y d C S (pc + 1) L (v :: v :: st) h Q) : xRun G y d C S pc L (v :: st) h Q :=
  fun p e s m args below meth c ls H locs cells slots mc ms X A => lv_dup2_2 X.1 X.2.1 hd hv (k p e s m args below meth c ls H locs cells slots mc ms X A)
theorem x_iconst {n : Int} (hd : decode y.2.1 pc = .ok ((.iconst n), 1)) (v : Int32) (hv : Int32.ofInt n = v) (k : xRun G y d C S (pc + 1) L (.int v :: st) h Q) : xRun G y d C S pc L (st) h Q :=
  fun p e s m args below meth c ls H locs cells slots mc ms X A => lv_iconst X.1 X.2.1 hd hv (k p e s m args below meth c ls H locs cells slots mc ms X A)
theorem x_bipush {n : Int} (hd : decode y.2.1 pc = .ok ((.bipush n), 2)) (v : Int32) (hv : (Int8.ofInt n).toInt32 = v) (k : xRun G y d C S (pc + 2) L (.int v :: st) h Q) : xRun G y d C S pc L (st) h Q :=
  fun p e s m args below meth c ls H locs cells slots mc ms X A => lv_bipush X.1 X.2.1 hd hv (k p e s m args below meth c ls H locs cells slots mc ms X A)
theorem x_sipush {n : Int} (hd : decode y.2.1 pc = .ok ((.sipush n), 3)) (v : Int32) (hv : (Int16.ofInt n).toInt32 = v) (k : xRun G y d C S (pc + 3) L (.int v :: st) h Q) : xRun G y d C S pc L (st) h Q :=
  fun p e s m args below meth c ls H locs cells slots mc ms X A => lv_sipush X.1 X.2.1 hd hv (k p e s m args below meth c ls H locs cells slots mc ms X A)
theorem x_lconst {n : Fin 2} (hd : decode y.2.1 pc = .ok ((.lconst n), 1)) (v : Int64) (hv : Int64.ofNat (n : Nat) = v) (k : xRun G y d C S (pc + 1) L (.long v :: st) h Q) : xRun G y d C S pc L (st) h Q :=
  fun p e s m args below meth c ls H locs cells slots mc ms X A => lv_lconst X.1 X.2.1 hd hv (k p e s m args below meth c ls H locs cells slots mc ms X A)
theorem x_ldc {i : Nat} (hd : decode y.2.1 pc = .ok ((.ldc i), 2)) (v : Int32) (hq : Cond.constant y.1.cls i v ∈ lw_all) (k : xRun G y d C S (pc + 2) L (.int v :: st) h Q) : xRun G y d C S pc L (st) h Q :=
  fun p e s m args below meth c ls H locs cells slots mc ms X A => lv_ldc X.1 X.2.1 X.2.2.2.2.2.1 (X.2.2.2.2.2.2.1 _ hq) hd (k p e s m args below meth c ls H locs cells slots mc ms X A)
theorem x_ldcw {i : Nat} (hd : decode y.2.1 pc = .ok ((.ldc_w i), 3)) (v : Int32) (hq : Cond.constant y.1.cls i v ∈ lw_all) (k : xRun G y d C S (pc + 3) L (.int v :: st) h Q) : xRun G y d C S pc L (st) h Q :=
  fun p e s m args below meth c ls H locs cells slots mc ms X A => lv_ldcw X.1 X.2.1 X.2.2.2.2.2.1 (X.2.2.2.2.2.2.1 _ hq) hd (k p e s m args below meth c ls H locs cells slots mc ms X A)
theorem x_ldc2 {i : Nat} (hd : decode y.2.1 pc = .ok ((.ldc2_w i), 3)) (v : Int64) (hq : Cond.constantLong y.1.cls i v ∈ lw_all) (k : xRun G y d C S (pc + 3) L (.long v :: st) h Q) : xRun G y d C S pc L (st) h Q :=
  fun p e s m args below meth c ls H locs cells slots mc ms X A => lv_ldc2 X.1 X.2.1 X.2.2.2.2.2.1 (X.2.2.2.2.2.2.1 _ hq) hd (k p e s m args below meth c ls H locs cells slots mc ms X A)
theorem x_ldcS {i q : Nat} {tx : String} (hd : decode y.2.1 pc = .ok ((.ldc i), 2)) (hq : (y.1.cls, i, tx, q) ∈ G.2.2.2.2) (k : xRun G y d C S (pc + 2) L (.ref q :: st) h Q) : xRun G y d C S pc L (st) h Q :=
  fun p e s m args below meth c ls H locs cells slots mc ms X A => va_ldcS X.1 X.2.1 X.2.2.2.2.2.1 (X.2.2.2.2.2.2.2.2.2.2.2.2.2.2.2.1 _ hq) hd (k p e s m args below meth c ls H locs cells slots mc ms X A)
theorem x_null  (hd : decode y.2.1 pc = .ok (.aconst_null, 1))  (k : xRun G y d C S (pc + 1) L (.null :: st) h Q) : xRun G y d C S pc L (st) h Q :=
  fun p e s m args below meth c ls H locs cells slots mc ms X A => lv_null X.1 X.2.1 hd (k p e s m args below meth c ls H locs cells slots mc ms X A)
theorem x_iload_n {j : Fin 4} {x : Int32} (hd : decode y.2.1 pc = .ok ((.iload_n j), 1)) (hl : L[(j : Nat)]? = some (some (.int x))) (k : xRun G y d C S (pc + 1) L (.int x :: st) h Q) : xRun G y d C S pc L (st) h Q :=
  fun p e s m args below meth c ls H locs cells slots mc ms X A => lv_iload_n X.1 X.2.1 hd rfl (A.1.2.2 _ _ hl) (k p e s m args below meth c ls H locs cells slots mc ms X A)
theorem x_iload {i : Nat} {x : Int32} (hd : decode y.2.1 pc = .ok ((.iload i), 2)) (hl : L[i]? = some (some (.int x))) (k : xRun G y d C S (pc + 2) L (.int x :: st) h Q) : xRun G y d C S pc L (st) h Q :=
  fun p e s m args below meth c ls H locs cells slots mc ms X A => lv_iload X.1 X.2.1 hd (A.1.2.2 _ _ hl) (k p e s m args below meth c ls H locs cells slots mc ms X A)
theorem x_lload_n {j : Fin 4} {x : Int64} (hd : decode y.2.1 pc = .ok ((.lload_n j), 1)) (hl : L[(j : Nat)]? = some (some (.long x))) (k : xRun G y d C S (pc + 1) L (.long x :: st) h Q) : xRun G y d C S pc L (st) h Q :=
  fun p e s m args below meth c ls H locs cells slots mc ms X A => lv_lload_n X.1 X.2.1 hd rfl (A.1.2.2 _ _ hl) (k p e s m args below meth c ls H locs cells slots mc ms X A)
theorem x_lload {i : Nat} {x : Int64} (hd : decode y.2.1 pc = .ok ((.lload i), 2)) (hl : L[i]? = some (some (.long x))) (k : xRun G y d C S (pc + 2) L (.long x :: st) h Q) : xRun G y d C S pc L (st) h Q :=
  fun p e s m args below meth c ls H locs cells slots mc ms X A => lv_lload X.1 X.2.1 hd (A.1.2.2 _ _ hl) (k p e s m args below meth c ls H locs cells slots mc ms X A)
theorem x_aload_n {j : Fin 4} {x : Nat} (hd : decode y.2.1 pc = .ok ((.aload_n j), 1)) (hl : L[(j : Nat)]? = some (some (.ref x))) (k : xRun G y d C S (pc + 1) L (.ref x :: st) h Q) : xRun G y d C S pc L (st) h Q :=
  fun p e s m args below meth c ls H locs cells slots mc ms X A => lv_aload_n X.1 X.2.1 hd rfl (A.1.2.2 _ _ hl) (k p e s m args below meth c ls H locs cells slots mc ms X A)
theorem x_aload {i : Nat} {x : Nat} (hd : decode y.2.1 pc = .ok ((.aload i), 2)) (hl : L[i]? = some (some (.ref x))) (k : xRun G y d C S (pc + 2) L (.ref x :: st) h Q) : xRun G y d C S pc L (st) h Q :=
  fun p e s m args below meth c ls H locs cells slots mc ms X A => lv_aload X.1 X.2.1 hd (A.1.2.2 _ _ hl) (k p e s m args below meth c ls H locs cells slots mc ms X A)
theorem x_aload_nN {j : Fin 4} (hd : decode y.2.1 pc = .ok ((.aload_n j), 1)) (hl : L[(j : Nat)]? = some (some .null)) (k : xRun G y d C S (pc + 1) L (.null :: st) h Q) : xRun G y d C S pc L (st) h Q :=
  fun p e s m args below meth c ls H locs cells slots mc ms X A => lv_aload_nN X.1 X.2.1 hd rfl (A.1.2.2 _ _ hl) (k p e s m args below meth c ls H locs cells slots mc ms X A)
theorem x_aloadN {i : Nat} (hd : decode y.2.1 pc = .ok ((.aload i), 2)) (hl : L[i]? = some (some .null)) (k : xRun G y d C S (pc + 2) L (.null :: st) h Q) : xRun G y d C S pc L (st) h Q :=
  fun p e s m args below meth c ls H locs cells slots mc ms X A => lv_aloadN X.1 X.2.1 hd (A.1.2.2 _ _ hl) (k p e s m args below meth c ls H locs cells slots mc ms X A)
theorem x_if_eq {a : Int32} {off : Int} (tgt : Nat) (hd : decode y.2.1 pc = .ok (.ifCond .eq off, 3)) (ht : (pc : Int) + off = (tgt : Int)) (kt : a = 0 → xRun G y d C S tgt L st h Q) (kf : ¬ a = 0 → xRun G y d C S (pc + 3) L st h Q) : xRun G y d C S pc L (.int a :: st) h Q :=
  fun p e s m args below meth c ls H locs cells slots mc ms X A => lv_if_eq X.1 X.2.1 hd ht (fun q => kt q p e s m args below meth c ls H locs cells slots mc ms X A) (fun q => kf q p e s m args below meth c ls H locs cells slots mc ms X A)
theorem x_icmp_eq {a b : Int32} {off : Int} (tgt : Nat) (hd : decode y.2.1 pc = .ok (.if_icmp .eq off, 3)) (ht : (pc : Int) + off = (tgt : Int)) (kt : a = b → xRun G y d C S tgt L st h Q) (kf : ¬ a = b → xRun G y d C S (pc + 3) L st h Q) : xRun G y d C S pc L (.int b :: .int a :: st) h Q :=
  fun p e s m args below meth c ls H locs cells slots mc ms X A => lv_icmp_eq X.1 X.2.1 hd ht (fun q => kt q p e s m args below meth c ls H locs cells slots mc ms X A) (fun q => kf q p e s m args below meth c ls H locs cells slots mc ms X A)
theorem x_if_ne {a : Int32} {off : Int} (tgt : Nat) (hd : decode y.2.1 pc = .ok (.ifCond .ne off, 3)) (ht : (pc : Int) + off = (tgt : Int)) (kt : ¬ a = 0 → xRun G y d C S tgt L st h Q) (kf : a = 0 → xRun G y d C S (pc + 3) L st h Q) : xRun G y d C S pc L (.int a :: st) h Q :=
  fun p e s m args below meth c ls H locs cells slots mc ms X A => lv_if_ne X.1 X.2.1 hd ht (fun q => kt q p e s m args below meth c ls H locs cells slots mc ms X A) (fun q => kf q p e s m args below meth c ls H locs cells slots mc ms X A)
theorem x_icmp_ne {a b : Int32} {off : Int} (tgt : Nat) (hd : decode y.2.1 pc = .ok (.if_icmp .ne off, 3)) (ht : (pc : Int) + off = (tgt : Int)) (kt : ¬ a = b → xRun G y d C S tgt L st h Q) (kf : a = b → xRun G y d C S (pc + 3) L st h Q) : xRun G y d C S pc L (.int b :: .int a :: st) h Q :=
  fun p e s m args below meth c ls H locs cells slots mc ms X A => lv_icmp_ne X.1 X.2.1 hd ht (fun q => kt q p e s m args below meth c ls H locs cells slots mc ms X A) (fun q => kf q p e s m args below meth c ls H locs cells slots mc ms X A)
theorem x_if_lt {a : Int32} {off : Int} (tgt : Nat) (hd : decode y.2.1 pc = .ok (.ifCond .lt off, 3)) (ht : (pc : Int) + off = (tgt : Int)) (kt : a < 0 → xRun G y d C S tgt L st h Q) (kf : ¬ a < 0 → xRun G y d C S (pc + 3) L st h Q) : xRun G y d C S pc L (.int a :: st) h Q :=
  fun p e s m args below meth c ls H locs cells slots mc ms X A => lv_if_lt X.1 X.2.1 hd ht (fun q => kt q p e s m args below meth c ls H locs cells slots mc ms X A) (fun q => kf q p e s m args below meth c ls H locs cells slots mc ms X A)
theorem x_icmp_lt {a b : Int32} {off : Int} (tgt : Nat) (hd : decode y.2.1 pc = .ok (.if_icmp .lt off, 3)) (ht : (pc : Int) + off = (tgt : Int)) (kt : a < b → xRun G y d C S tgt L st h Q) (kf : ¬ a < b → xRun G y d C S (pc + 3) L st h Q) : xRun G y d C S pc L (.int b :: .int a :: st) h Q :=
  fun p e s m args below meth c ls H locs cells slots mc ms X A => lv_icmp_lt X.1 X.2.1 hd ht (fun q => kt q p e s m args below meth c ls H locs cells slots mc ms X A) (fun q => kf q p e s m args below meth c ls H locs cells slots mc ms X A)
theorem x_if_ge {a : Int32} {off : Int} (tgt : Nat) (hd : decode y.2.1 pc = .ok (.ifCond .ge off, 3)) (ht : (pc : Int) + off = (tgt : Int)) (kt : 0 ≤ a → xRun G y d C S tgt L st h Q) (kf : ¬ 0 ≤ a → xRun G y d C S (pc + 3) L st h Q) : xRun G y d C S pc L (.int a :: st) h Q :=
  fun p e s m args below meth c ls H locs cells slots mc ms X A => lv_if_ge X.1 X.2.1 hd ht (fun q => kt q p e s m args below meth c ls H locs cells slots mc ms X A) (fun q => kf q p e s m args below meth c ls H locs cells slots mc ms X A)
theorem x_icmp_ge {a b : Int32} {off : Int} (tgt : Nat) (hd : decode y.2.1 pc = .ok (.if_icmp .ge off, 3)) (ht : (pc : Int) + off = (tgt : Int)) (kt : b ≤ a → xRun G y d C S tgt L st h Q) (kf : ¬ b ≤ a → xRun G y d C S (pc + 3) L st h Q) : xRun G y d C S pc L (.int b :: .int a :: st) h Q :=
  fun p e s m args below meth c ls H locs cells slots mc ms X A => lv_icmp_ge X.1 X.2.1 hd ht (fun q => kt q p e s m args below meth c ls H locs cells slots mc ms X A) (fun q => kf q p e s m args below meth c ls H locs cells slots mc ms X A)
theorem x_if_gt {a : Int32} {off : Int} (tgt : Nat) (hd : decode y.2.1 pc = .ok (.ifCond .gt off, 3)) (ht : (pc : Int) + off = (tgt : Int)) (kt : 0 < a → xRun G y d C S tgt L st h Q) (kf : ¬ 0 < a → xRun G y d C S (pc + 3) L st h Q) : xRun G y d C S pc L (.int a :: st) h Q :=
  fun p e s m args below meth c ls H locs cells slots mc ms X A => lv_if_gt X.1 X.2.1 hd ht (fun q => kt q p e s m args below meth c ls H locs cells slots mc ms X A) (fun q => kf q p e s m args below meth c ls H locs cells slots mc ms X A)
theorem x_icmp_gt {a b : Int32} {off : Int} (tgt : Nat) (hd : decode y.2.1 pc = .ok (.if_icmp .gt off, 3)) (ht : (pc : Int) + off = (tgt : Int)) (kt : b < a → xRun G y d C S tgt L st h Q) (kf : ¬ b < a → xRun G y d C S (pc + 3) L st h Q) : xRun G y d C S pc L (.int b :: .int a :: st) h Q :=
  fun p e s m args below meth c ls H locs cells slots mc ms X A => lv_icmp_gt X.1 X.2.1 hd ht (fun q => kt q p e s m args below meth c ls H locs cells slots mc ms X A) (fun q => kf q p e s m args below meth c ls H locs cells slots mc ms X A)
theorem x_if_le {a : Int32} {off : Int} (tgt : Nat) (hd : decode y.2.1 pc = .ok (.ifCond .le off, 3)) (ht : (pc : Int) + off = (tgt : Int)) (kt : a ≤ 0 → xRun G y d C S tgt L st h Q) (kf : ¬ a ≤ 0 → xRun G y d C S (pc + 3) L st h Q) : xRun G y d C S pc L (.int a :: st) h Q :=
  fun p e s m args below meth c ls H locs cells slots mc ms X A => lv_if_le X.1 X.2.1 hd ht (fun q => kt q p e s m args below meth c ls H locs cells slots mc ms X A) (fun q => kf q p e s m args below meth c ls H locs cells slots mc ms X A)
theorem x_icmp_le {a b : Int32} {off : Int} (tgt : Nat) (hd : decode y.2.1 pc = .ok (.if_icmp .le off, 3)) (ht : (pc : Int) + off = (tgt : Int)) (kt : a ≤ b → xRun G y d C S tgt L st h Q) (kf : ¬ a ≤ b → xRun G y d C S (pc + 3) L st h Q) : xRun G y d C S pc L (.int b :: .int a :: st) h Q :=
  fun p e s m args below meth c ls H locs cells slots mc ms X A => lv_icmp_le X.1 X.2.1 hd ht (fun q => kt q p e s m args below meth c ls H locs cells slots mc ms X A) (fun q => kf q p e s m args below meth c ls H locs cells slots mc ms X A)
theorem x_acmp_eq {a b : Option Nat} {off : Int} (tgt : Nat) (hd : decode y.2.1 pc = .ok (.if_acmp .eq off, 3)) (ht : (pc : Int) + off = (tgt : Int)) (kt : a = b → xRun G y d C S tgt L st h Q) (kf : ¬ a = b → xRun G y d C S (pc + 3) L st h Q) : xRun G y d C S pc L (va_rf b :: va_rf a :: st) h Q :=
  fun p e s m args below meth c ls H locs cells slots mc ms X A => lv_acmp_eq X.1 X.2.1 hd ht (fun q => kt q p e s m args below meth c ls H locs cells slots mc ms X A) (fun q => kf q p e s m args below meth c ls H locs cells slots mc ms X A)
theorem x_acmp_ne {a b : Option Nat} {off : Int} (tgt : Nat) (hd : decode y.2.1 pc = .ok (.if_acmp .ne off, 3)) (ht : (pc : Int) + off = (tgt : Int)) (kt : ¬ a = b → xRun G y d C S tgt L st h Q) (kf : a = b → xRun G y d C S (pc + 3) L st h Q) : xRun G y d C S pc L (va_rf b :: va_rf a :: st) h Q :=
  fun p e s m args below meth c ls H locs cells slots mc ms X A => lv_acmp_ne X.1 X.2.1 hd ht (fun q => kt q p e s m args below meth c ls H locs cells slots mc ms X A) (fun q => kf q p e s m args below meth c ls H locs cells slots mc ms X A)
theorem x_goto {off : Int} (tgt : Nat) (hd : decode y.2.1 pc = .ok (.goto off, 3)) (ht : (pc : Int) + off = (tgt : Int)) (k : xRun G y d C S tgt L st h Q) : xRun G y d C S pc L st h Q :=
  fun p e s m args below meth c ls H locs cells slots mc ms X A => lv_goto X.1 X.2.1 hd ht (k p e s m args below meth c ls H locs cells slots mc ms X A)
theorem x_ifnull {q : Nat} {off : Int} (hd : decode y.2.1 pc = .ok (.ifnull off, 3)) (k : xRun G y d C S (pc + 3) L st h Q) : xRun G y d C S pc L (.ref q :: st) h Q :=
  fun p e s m args below meth c ls H locs cells slots mc ms X A => lv_ifnull X.1 X.2.1 hd (k p e s m args below meth c ls H locs cells slots mc ms X A)
theorem x_ifnullN {off : Int} (tgt : Nat) (hd : decode y.2.1 pc = .ok (.ifnull off, 3)) (ht : (pc : Int) + off = (tgt : Int)) (k : xRun G y d C S tgt L st h Q) : xRun G y d C S pc L (.null :: st) h Q :=
  fun p e s m args below meth c ls H locs cells slots mc ms X A => lv_ifnullN X.1 X.2.1 hd ht (k p e s m args below meth c ls H locs cells slots mc ms X A)
theorem x_ifnonnull {q : Nat} {off : Int} (tgt : Nat) (hd : decode y.2.1 pc = .ok (.ifnonnull off, 3)) (ht : (pc : Int) + off = (tgt : Int)) (k : xRun G y d C S tgt L st h Q) : xRun G y d C S pc L (.ref q :: st) h Q :=
  fun p e s m args below meth c ls H locs cells slots mc ms X A => lv_ifnonnull X.1 X.2.1 hd ht (k p e s m args below meth c ls H locs cells slots mc ms X A)
theorem x_ifnonnullN {off : Int} (hd : decode y.2.1 pc = .ok (.ifnonnull off, 3)) (k : xRun G y d C S (pc + 3) L st h Q) : xRun G y d C S pc L (.null :: st) h Q :=
  fun p e s m args below meth c ls H locs cells slots mc ms X A => lv_ifnonnullN X.1 X.2.1 hd (k p e s m args below meth c ls H locs cells slots mc ms X A)
theorem x_tableIn {dflt lo hi : Int} {offs : Array Int} {len : Nat} {a : Int32} {off : Int} (tgt : Nat) (hd : decode y.2.1 pc = .ok (.tableswitch dflt lo hi offs, len)) (h1 : ¬ a.toInt < lo) (h2 : ¬ hi < a.toInt) (ho : offs[(a.toInt - lo).toNat]? = some off) (ht : (pc : Int) + off = (tgt : Int)) (k : xRun G y d C S tgt L st h Q) : xRun G y d C S pc L (.int a :: st) h Q :=
  fun p e s m args below meth c ls H locs cells slots mc ms X A => lv_tableIn X.1 X.2.1 hd h1 h2 ho ht (k p e s m args below meth c ls H locs cells slots mc ms X A)
theorem x_tableOut {dflt lo hi : Int} {offs : Array Int} {len : Nat} {a : Int32} (tgt : Nat) (hd : decode y.2.1 pc = .ok (.tableswitch dflt lo hi offs, len)) (h1 : a.toInt < lo ∨ hi < a.toInt) (ht : (pc : Int) + dflt = (tgt : Int)) (k : xRun G y d C S tgt L st h Q) : xRun G y d C S pc L (.int a :: st) h Q :=
  fun p e s m args below meth c ls H locs cells slots mc ms X A => lv_tableOut X.1 X.2.1 hd h1 ht (k p e s m args below meth c ls H locs cells slots mc ms X A)
theorem x_lookup {dflt : Int} {ps : Array (Int × Int)} {len : Nat} {a : Int32} {off : Int} (tgt : Nat) (hd : decode y.2.1 pc = .ok (.lookupswitch dflt ps, len)) (hp : (ps.toList.zip (ps.toList.drop 1)).all (fun (a, next) => a.1 < next.1) = true) (ho : Op.lookupswitch.offset ps.toList dflt a.toInt = off) (ht : (pc : Int) + off = (tgt : Int)) (k : xRun G y d C S tgt L st h Q) : xRun G y d C S pc L (.int a :: st) h Q :=
  fun p e s m args below meth c ls H locs cells slots mc ms X A => lv_lookup X.1 X.2.1 hd hp ho ht (k p e s m args below meth c ls H locs cells slots mc ms X A)
theorem xpairs (L : List (Option Value)) : ∃ l : List (Nat × Value), ∀ (i : Nat) (v : Value), (i, v) ∈ l ↔ L[i]? = some (some v) := by
  refine ⟨(List.range L.length).filterMap (fun i => match L[i]? with | some (some v) => some (i, v) | _ => none), fun i v => ?_⟩
  rw [List.mem_filterMap]
  constructor
  · rintro ⟨j, hj, h1⟩
    match hL : L[j]?, h1 with
    | some (some w), h1 =>
      simp only [hL, Option.some.injEq, Prod.mk.injEq] at h1
      obtain ⟨rfl, rfl⟩ := h1
      exact hL
    | some none, h1 => simp [hL] at h1
    | none, h1 => simp [hL] at h1
  · intro h1
    refine ⟨i, List.mem_range.mpr (List.getElem?_eq_some_iff.mp h1).1, ?_⟩
    simp [h1]
/-- a value of one slot is stored at i: the list L' says of the locals what L said, but for i and a long that lay ahead of it -/
def xst1 (L L' : List (Option Value)) (i : Nat) (v : Value) : Prop := ∀ (j : Nat) (w : Value), L'[j]? = some (some w) → (j = i ∧ w = v) ∨ (j ≠ i ∧ L[j]? = some (some w) ∧ (j + 1 = i → w.category = 1))
def xst2 (L L' : List (Option Value)) (i : Nat) (v : Value) : Prop := ∀ (j : Nat) (w : Value), L'[j]? = some (some w) → (j = i ∧ w = v) ∨ (j ≠ i ∧ j ≠ i + 1 ∧ L[j]? = some (some w) ∧ (j + 1 = i → w.category = 1))
theorem xst1_loc {ls' : Array Slot} {n i : Nat} {L L' : List (Option Value)} {l : List (Nat × Value)} {v : Value} (hl : ∀ (i : Nat) (v : Value), (i, v) ∈ l ↔ L[i]? = some (some v)) (hs : xst1 L L' i v) (h : lv_has ls' n ((i, v) :: l.filter (fun q => !(q.1 == i) && !(q.1 + 1 == i && q.2.category == 2)))) : xLoc ls' n L' := by
  refine ⟨h.1, h.2.1, fun j w hj => ?_⟩
  rcases hs j w hj with ⟨rfl, rfl⟩ | ⟨h1, h2, h3⟩
  · exact h.2.2 _ List.mem_cons_self
  · refine h.2.2 (j, w) (List.mem_cons_of_mem _ (List.mem_filter.mpr ⟨(hl j w).mpr h2, ?_⟩))
    by_cases h4 : j + 1 = i
    · simp [h1, h3 h4]
    · simp [h1, h4]
theorem xst2_loc {ls' : Array Slot} {n i : Nat} {L L' : List (Option Value)} {l : List (Nat × Value)} {v : Value} (hl : ∀ (i : Nat) (v : Value), (i, v) ∈ l ↔ L[i]? = some (some v)) (hs : xst2 L L' i v) (h : lv_has ls' n ((i, v) :: l.filter (fun q => !(q.1 == i) && (!(q.1 == i + 1) && !(q.1 + 1 == i && q.2.category == 2))))) : xLoc ls' n L' := by
  refine ⟨h.1, h.2.1, fun j w hj => ?_⟩
  rcases hs j w hj with ⟨rfl, rfl⟩ | ⟨h1, h5, h2, h3⟩
  · exact h.2.2 _ List.mem_cons_self
  · refine h.2.2 (j, w) (List.mem_cons_of_mem _ (List.mem_filter.mpr ⟨(hl j w).mpr h2, ?_⟩))
    by_cases h4 : j + 1 = i
    · simp [h1, h3 h4]
      omega
    · simp [h1, h4, h5]
def xnl (v : Option Value) : Bool := match v with | some w => w.category == 1 | none => true
theorem xst1_set {L : List (Option Value)} {i : Nat} {v : Value} (hc : ∀ j, j + 1 = i → xnl (L.getD j none) = true) : xst1 L (L.set i (some v)) i v := by
  intro j w hj
  by_cases h1 : j = i
  · subst h1
    rw [List.getElem?_set] at hj
    simp only [if_true] at hj
    split at hj
    · cases hj; exact Or.inl ⟨rfl, rfl⟩
    · cases hj
  · rw [List.getElem?_set_ne (Ne.symm h1)] at hj
    refine Or.inr ⟨h1, hj, fun h2 => ?_⟩
    have h3 := hc j h2
    rw [List.getD_eq_getElem?_getD, hj] at h3
    simpa [xnl] using h3
theorem xst2_set {L : List (Option Value)} {i : Nat} {v : Value} (hc : ∀ j, j + 1 = i → xnl (L.getD j none) = true) : xst2 L ((L.set i (some v)).set (i + 1) none) i v := by
  intro j w hj
  by_cases h0 : j = i + 1
  · subst h0
    rw [List.getElem?_set] at hj
    simp only [if_true] at hj
    split at hj <;> cases hj
  · rw [List.getElem?_set_ne (Ne.symm h0)] at hj
    by_cases h1 : j = i
    · subst h1
      rw [List.getElem?_set] at hj
      simp only [if_true] at hj
      split at hj
      · cases hj; exact Or.inl ⟨rfl, rfl⟩
      · cases hj
    · rw [List.getElem?_set_ne (Ne.symm h1)] at hj
      refine Or.inr ⟨h1, h0, hj, fun h2 => ?_⟩
      have h3 := hc j h2
      rw [List.getD_eq_getElem?_getD, hj] at h3
      simpa [xnl] using h3
theorem xLoc.lv {ls : Array Slot} {n : Nat} {L : List (Option Value)} (h : xLoc ls n L) {l : List (Nat × Value)} (hl : ∀ (i : Nat) (v : Value), (i, v) ∈ l ↔ L[i]? = some (some v)) : lv_has ls n l := ⟨h.1, h.2.1, fun q hq => h.2.2 q.1 q.2 ((hl q.1 q.2).mp hq)⟩
theorem x_istore_n {j : Fin 4} {x : Int32} {L' : List (Option Value)} (hd : decode y.2.1 pc = .ok ((.istore_n j), 1)) (hn : (j : Nat) < y.2.2.1) (hs : xst1 L L' (j : Nat) (.int x)) (k : xRun G y d C S (pc + 1) L' st h Q) : xRun G y d C S pc L (.int x :: st) h Q := by
  intro p e s m args below meth c ls H locs cells slots mc ms X A
  obtain ⟨l, hl⟩ := xpairs L
  exact lv_istore_n X.1 X.2.1 hd rfl (A.1.lv hl) hn rfl (fun ls' h9 => k p e s m args below meth c ls' H locs cells slots mc ms X ⟨xst1_loc hl hs h9, A.2⟩)
theorem x_istore {i : Nat} {x : Int32} {L' : List (Option Value)} (hd : decode y.2.1 pc = .ok ((.istore i), 2)) (hn : i < y.2.2.1) (hs : xst1 L L' i (.int x)) (k : xRun G y d C S (pc + 2) L' st h Q) : xRun G y d C S pc L (.int x :: st) h Q := by
  intro p e s m args below meth c ls H locs cells slots mc ms X A
  obtain ⟨l, hl⟩ := xpairs L
  exact lv_istore X.1 X.2.1 hd (A.1.lv hl) hn rfl (fun ls' h9 => k p e s m args below meth c ls' H locs cells slots mc ms X ⟨xst1_loc hl hs h9, A.2⟩)
theorem x_astore_n {j : Fin 4} {x : Nat} {L' : List (Option Value)} (hd : decode y.2.1 pc = .ok ((.astore_n j), 1)) (hn : (j : Nat) < y.2.2.1) (hs : xst1 L L' (j : Nat) (.ref x)) (k : xRun G y d C S (pc + 1) L' st h Q) : xRun G y d C S pc L (.ref x :: st) h Q := by
  intro p e s m args below meth c ls H locs cells slots mc ms X A
  obtain ⟨l, hl⟩ := xpairs L
  exact lv_astore_n X.1 X.2.1 hd rfl (A.1.lv hl) hn rfl (fun ls' h9 => k p e s m args below meth c ls' H locs cells slots mc ms X ⟨xst1_loc hl hs h9, A.2⟩)
theorem x_astore {i : Nat} {x : Nat} {L' : List (Option Value)} (hd : decode y.2.1 pc = .ok ((.astore i), 2)) (hn : i < y.2.2.1) (hs : xst1 L L' i (.ref x)) (k : xRun G y d C S (pc + 2) L' st h Q) : xRun G y d C S pc L (.ref x :: st) h Q := by
  intro p e s m args below meth c ls H locs cells slots mc ms X A
  obtain ⟨l, hl⟩ := xpairs L
  exact lv_astore X.1 X.2.1 hd (A.1.lv hl) hn rfl (fun ls' h9 => k p e s m args below meth c ls' H locs cells slots mc ms X ⟨xst1_loc hl hs h9, A.2⟩)
theorem x_lstore_n {j : Fin 4} {x : Int64} {L' : List (Option Value)} (hd : decode y.2.1 pc = .ok ((.lstore_n j), 1)) (hn : (j : Nat) + 1 < y.2.2.1) (hs : xst2 L L' (j : Nat) (.long x)) (k : xRun G y d C S (pc + 1) L' st h Q) : xRun G y d C S pc L (.long x :: st) h Q := by
  intro p e s m args below meth c ls H locs cells slots mc ms X A
  obtain ⟨l, hl⟩ := xpairs L
  exact lv_lstore_n X.1 X.2.1 hd rfl (A.1.lv hl) hn rfl (fun ls' h9 => k p e s m args below meth c ls' H locs cells slots mc ms X ⟨xst2_loc hl hs h9, A.2⟩)
theorem x_lstore {i : Nat} {x : Int64} {L' : List (Option Value)} (hd : decode y.2.1 pc = .ok ((.lstore i), 2)) (hn : i + 1 < y.2.2.1) (hs : xst2 L L' i (.long x)) (k : xRun G y d C S (pc + 2) L' st h Q) : xRun G y d C S pc L (.long x :: st) h Q := by
  intro p e s m args below meth c ls H locs cells slots mc ms X A
  obtain ⟨l, hl⟩ := xpairs L
  exact lv_lstore X.1 X.2.1 hd (A.1.lv hl) hn rfl (fun ls' h9 => k p e s m args below meth c ls' H locs cells slots mc ms X ⟨xst2_loc hl hs h9, A.2⟩)
theorem x_astore_nN {j : Fin 4}  {L' : List (Option Value)} (hd : decode y.2.1 pc = .ok ((.astore_n j), 1)) (hn : (j : Nat) < y.2.2.1) (hs : xst1 L L' (j : Nat) (.null)) (k : xRun G y d C S (pc + 1) L' st h Q) : xRun G y d C S pc L (.null :: st) h Q := by
  intro p e s m args below meth c ls H locs cells slots mc ms X A
  obtain ⟨l, hl⟩ := xpairs L
  exact lv_astore_nN X.1 X.2.1 hd rfl (A.1.lv hl) hn rfl (fun ls' h9 => k p e s m args below meth c ls' H locs cells slots mc ms X ⟨xst1_loc hl hs h9, A.2⟩)
theorem x_astoreN {i : Nat}  {L' : List (Option Value)} (hd : decode y.2.1 pc = .ok ((.astore i), 2)) (hn : i < y.2.2.1) (hs : xst1 L L' i (.null)) (k : xRun G y d C S (pc + 2) L' st h Q) : xRun G y d C S pc L (.null :: st) h Q := by
  intro p e s m args below meth c ls H locs cells slots mc ms X A
  obtain ⟨l, hl⟩ := xpairs L
  exact lv_astoreN X.1 X.2.1 hd (A.1.lv hl) hn rfl (fun ls' h9 => k p e s m args below meth c ls' H locs cells slots mc ms X ⟨xst1_loc hl hs h9, A.2⟩)
theorem x_iinc {i : Nat} {n : Int} {x : Int32} {L' : List (Option Value)} (v : Int32) (hd : decode y.2.1 pc = .ok (.iinc i n, 3)) (hx : L[i]? = some (some (.int x))) (hv : x + Int32.ofInt n = v) (hn : i < y.2.2.1) (hs : xst1 L L' i (.int v)) (k : xRun G y d C S (pc + 3) L' st h Q) : xRun G y d C S pc L st h Q := by
  intro p e s m args below meth c ls H locs cells slots mc ms X A
  obtain ⟨l, hl⟩ := xpairs L
  obtain ⟨k9, hk9⟩ := List.getElem?_of_mem ((hl i (.int x)).mpr hx)
  exact lv_iinc X.1 X.2.1 hd (A.1.lv hl) hk9 hv hn rfl (fun ls' h9 => k p e s m args below meth c ls' H locs cells slots mc ms X ⟨xst1_loc hl hs h9, A.2⟩)
theorem x_iincW {i : Nat} {n : Int} {x : Int32} {L' : List (Option Value)} (v : Int32) (hd : decode y.2.1 pc = .ok (.iinc i n, 6)) (hx : L[i]? = some (some (.int x))) (hv : x + Int32.ofInt n = v) (hn : i < y.2.2.1) (hs : xst1 L L' i (.int v)) (k : xRun G y d C S (pc + 6) L' st h Q) : xRun G y d C S pc L st h Q := by
  intro p e s m args below meth c ls H locs cells slots mc ms X A
  obtain ⟨l, hl⟩ := xpairs L
  obtain ⟨k9, hk9⟩ := List.getElem?_of_mem ((hl i (.int x)).mpr hx)
  exact lv_iincW X.1 X.2.1 hd (A.1.lv hl) hk9 hv hn rfl (fun ls' h9 => k p e s m args below meth c ls' H locs cells slots mc ms X ⟨xst1_loc hl hs h9, A.2⟩)
theorem x_weak {L' : List (Option Value)} (hs : ∀ (j : Nat) (w : Value), L'[j]? = some (some w) → L[j]? = some (some w)) (k : xRun G y d C S pc L' st h Q) : xRun G y d C S pc L st h Q :=
  fun p e s m args below meth c ls H locs cells slots mc ms X A => k p e s m args below meth c ls H locs cells slots mc ms X ⟨⟨A.1.1, A.1.2.1, fun j w hj => A.1.2.2 j w (hs j w hj)⟩, A.2⟩
/-- some locals forgotten: those where bs says false -/
def xkeep : List Bool → List (Option Value) → List (Option Value)
  | b :: bs, v :: vs => (if b then v else none) :: xkeep bs vs
  | _, _ => []
theorem xkeep_sub (bs : List Bool) : ∀ (L : List (Option Value)) (j : Nat) (w : Value), (xkeep bs L)[j]? = some (some w) → L[j]? = some (some w) := by
  induction bs with
  | nil => intro L j w h; cases L <;> simp [xkeep] at h
  | cons b bs ih =>
    intro L j w h
    cases L with
    | nil => simp [xkeep] at h
    | cons v vs =>
      cases j with
      | zero => cases b <;> simp_all [xkeep]
      | succ j => exact ih vs j w (by simpa [xkeep] using h)
theorem x_keep (bs : List Bool) {L' : List (Option Value)} (hL : xkeep bs L = L') (k : xRun G y d C S pc L' st h Q) : xRun G y d C S pc L st h Q := x_weak (fun j w hj => xkeep_sub bs L j w (by rw [hL]; exact hj)) k
theorem x_mono {C' S' : Nat} (hC : C' ≤ C) (hS : S' ≤ S) (k : xRun G y d C' S' pc L st h Q) : xRun G y d C S pc L st h Q :=
  fun p e s m args below meth c ls H locs cells slots mc ms X A => k p e s m args below meth c ls H locs cells slots mc ms X ⟨A.1, A.2.1, A.2.2.1, Nat.le_trans (Nat.add_le_add_left hC _) A.2.2.2.1, Nat.le_trans (Nat.add_le_add_left hS _) A.2.2.2.2⟩
theorem x_post {Q' : xQ} (hQ : ∀ o h1, Q' o h1 → Q o h1) (k : xRun G y d C S pc L st h Q') : xRun G y d C S pc L st h Q := by
  intro p e s m args below meth c ls H locs cells slots mc ms X A T hT X0
  obtain ⟨t, a1, o, b1, b2, h9, L9, b3, b4⟩ := k p e s m args below meth c ls H locs cells slots mc ms X A T hT X0
  exact ⟨t, a1, o, b1, b2, h9, L9, hQ _ _ b3, b4⟩
/-- the ends -/
theorem xend {G : xG} {y : xM} {d C S pc : Nat} {L : List (Option Value)} {h : xH} {Q : xQ} {st : List Value} {r : Option Value} (hQ : Q (.returned r) h) (k : ∀ (p : Program) (e : Env) (s : State) (m : MethodId) (args : Array Value) (below : List Frame) (meth : Method) (c : Code) (ls : Array Slot) (H : Heap) (locs : List Loc) (mc ms : Nat), xCtx G y p s m args meth c → ∀ (Qc : Array Value → State → Outcome → State → Prop) (free : Addr → Prop), (∀ t : State, t.heap = H → s.WarmedH t.vm → Qc args s (.returned r) t) → (∀ q ∈ locs, free q.base) → W p G.1 e (xroom d mc ms) s m args below meth c H locs mc ms (MQ below Qc args s mc ms free) (F0 m pc ls st)) : xRun G y d C S pc L st h Q := by
  intro p e s m args below meth c ls H locs cells slots mc ms X A
  refine W.widen (k := mc) (n := ms) (by have := A.2.2.2.1; omega) (by have := A.2.2.2.2; omega) ?_
  intro T hT X0
  obtain ⟨t, a1, o, b1, b2, b3, L9, b4, b5⟩ := k p e s m args below meth c ls H locs mc ms X (fun _ st o t => t.heap = H ∧ o = .returned r) (fun a => G.2.2.1 ≤ a) (fun t ht _ => ⟨ht, rfl⟩) A.2.2.1.2.2 T hT X0
  obtain ⟨e1, rfl⟩ := b3
  refine ⟨t, a1, _, b1, b2, h, L9, hQ, by rw [e1]; exact A.2.1, ?_, b4.2.1, b4.2.2, b5⟩
  have hS := A.2.2.1
  rw [← e1] at hS
  exact ⟨hS.1, hS.2.1⟩
theorem x_ireturn {v : Int32} (hd : decode y.2.1 pc = .ok (.ireturn, 1)) (hr : y.2.2.2.1 = some .int) (hQ : Q (.returned (some (.int v))) h) : xRun G y d C S pc L [.int v] h Q :=
  xend hQ (fun p e s m args below meth c ls H locs mc ms X Qc free hq hf => W.iret X.1 X.2.1 (by rw [X.2.2.1]; exact hr) hq hf hd X.2.2.2.1)
theorem x_zreturn {v : Int32} (hd : decode y.2.1 pc = .ok (.ireturn, 1)) (hr : y.2.2.2.1 = some .boolean) (hv : narrow .boolean (.int v) = .int v) (hQ : Q (.returned (some (.int v))) h) : xRun G y d C S pc L [.int v] h Q :=
  xend hQ (fun p e s m args below meth c ls H locs mc ms X Qc free hq hf => W.zret X.1 X.2.1 (by rw [X.2.2.1]; exact hr) hv hq hf hd X.2.2.2.1)
theorem x_breturn {v : Int32} {ty : FieldType} (hd : decode y.2.1 pc = .ok (.ireturn, 1)) (hr : y.2.2.2.1 = some ty) (hv : narrow ty (.int v) = .int v) (hQ : Q (.returned (some (.int v))) h) : xRun G y d C S pc L [.int v] h Q :=
  xend hQ (fun p e s m args below meth c ls H locs mc ms X Qc free hq hf => W.zret X.1 X.2.1 (by rw [X.2.2.1]; exact hr) hv hq hf hd X.2.2.2.1)
theorem x_lreturn {v : Int64} (hd : decode y.2.1 pc = .ok (.lreturn, 1)) (hr : y.2.2.2.1 = some .long) (hQ : Q (.returned (some (.long v))) h) : xRun G y d C S pc L [.long v] h Q :=
  xend hQ (fun p e s m args below meth c ls H locs mc ms X Qc free hq hf => W.lret X.1 X.2.1 (by rw [X.2.2.1]; exact hr) hq hf hd X.2.2.2.1)
theorem x_areturn {v : Value} {rt : FieldType} (hd : decode y.2.1 pc = .ok (.areturn, 1)) (hr : y.2.2.2.1 = some rt) (hrt : (∃ n, rt = .object n) ∨ ∃ t, rt = .array t) (hv : v = .null ∨ ∃ a, v = .ref a) (hQ : Q (.returned (some v)) h) : xRun G y d C S pc L [v] h Q :=
  xend hQ (fun p e s m args below meth c ls H locs mc ms X Qc free hq hf => W.aret X.1 X.2.1 (by rw [X.2.2.1]; exact hr) hrt hv hq hf hd X.2.2.2.1)
theorem x_return (hd : decode y.2.1 pc = .ok (.return_, 1)) (hr : y.2.2.2.1 = none) (hQ : Q (.returned none) h) : xRun G y d C S pc L [] h Q :=
  xend hQ (fun p e s m args below meth c ls H locs mc ms X Qc free hq hf => W.vret X.1 X.2.1 (by rw [X.2.2.1]; exact hr) hq hf hd X.2.2.2.1)
end XR
