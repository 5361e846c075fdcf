/-! ===== RUNS OF kx_run, part 2: a rule for each simple instruction (printed by tools/gen_ops.py) ===== -/
section KYO
variable {V : kx_V} {F L : Nat} {M : kx_M} {pc : Nat} {lv : kx_L} {st : List Value} {X : kx_X} {C S : Nat} {Q : kx_Rs → kx_X → Nat → Nat → Prop}
theorem ky_iconst {n : Int} (hd : decode M.2.1 pc = .ok (.iconst n, 1)) (kk : ky V F L M (pc + 1) lv (.int (Int32.ofInt n) :: st) (X) C S Q) : ky V F L M pc lv (st) X C S Q := by
  refine ky_s hd ?_ kk
  simp only [kx_st1, if_pos]
theorem ky_bipush {n : Int} (hd : decode M.2.1 pc = .ok (.bipush n, 2)) (kk : ky V F L M (pc + 2) lv (.int (Int8.ofInt n).toInt32 :: st) (X) C S Q) : ky V F L M pc lv (st) X C S Q := by
  refine ky_s hd ?_ kk
  simp only [kx_st1, if_pos]
theorem ky_sipush {n : Int} (hd : decode M.2.1 pc = .ok (.sipush n, 3)) (kk : ky V F L M (pc + 3) lv (.int (Int16.ofInt n).toInt32 :: st) (X) C S Q) : ky V F L M pc lv (st) X C S Q := by
  refine ky_s hd ?_ kk
  simp only [kx_st1, if_pos]
theorem ky_lconst {n : Fin 2} (hd : decode M.2.1 pc = .ok (.lconst n, 1)) (kk : ky V F L M (pc + 1) lv (.long (Int64.ofNat (n : Nat)) :: st) (X) C S Q) : ky V F L M pc lv (st) X C S Q := by
  refine ky_s hd ?_ kk
  simp only [kx_st1, if_pos]
theorem ky_null (hd : decode M.2.1 pc = .ok (.aconst_null, 1)) (kk : ky V F L M (pc + 1) lv (.null :: st) (X) C S Q) : ky V F L M pc lv (st) X C S Q := by
  refine ky_s hd ?_ kk
  simp only [kx_st1, if_pos]
theorem ky_iload_n {k : Fin 4} {x : Int32} (hd : decode M.2.1 pc = .ok (.iload_n k, 1)) (h : kx_lk lv (k : Nat) = some (.int x)) (kk : ky V F L M (pc + 1) lv (.int x :: st) (X) C S Q) : ky V F L M pc lv (st) X C S Q := by
  refine ky_s hd ?_ kk
  simp only [kx_st1, h, if_pos]
theorem ky_lload_n {k : Fin 4} {x : Int64} (hd : decode M.2.1 pc = .ok (.lload_n k, 1)) (h : kx_lk lv (k : Nat) = some (.long x)) (kk : ky V F L M (pc + 1) lv (.long x :: st) (X) C S Q) : ky V F L M pc lv (st) X C S Q := by
  refine ky_s hd ?_ kk
  simp only [kx_st1, h, if_pos]
theorem ky_aload_n {k : Fin 4} {x : Nat} (hd : decode M.2.1 pc = .ok (.aload_n k, 1)) (h : kx_lk lv (k : Nat) = some (.ref x)) (kk : ky V F L M (pc + 1) lv (.ref x :: st) (X) C S Q) : ky V F L M pc lv (st) X C S Q := by
  refine ky_s hd ?_ kk
  simp only [kx_st1, h, if_pos]
theorem ky_aload_nN {k : Fin 4} (hd : decode M.2.1 pc = .ok (.aload_n k, 1)) (h : kx_lk lv (k : Nat) = some .null) (kk : ky V F L M (pc + 1) lv (.null :: st) (X) C S Q) : ky V F L M pc lv (st) X C S Q := by
  refine ky_s hd ?_ kk
  simp only [kx_st1, h, if_pos]
theorem ky_iload {k : Nat} {x : Int32} (hd : decode M.2.1 pc = .ok (.iload k, 2)) (h : kx_lk lv k = some (.int x)) (kk : ky V F L M (pc + 2) lv (.int x :: st) (X) C S Q) : ky V F L M pc lv (st) X C S Q := by
  refine ky_s hd ?_ kk
  simp only [kx_st1, h, if_pos]
theorem ky_lload {k : Nat} {x : Int64} (hd : decode M.2.1 pc = .ok (.lload k, 2)) (h : kx_lk lv k = some (.long x)) (kk : ky V F L M (pc + 2) lv (.long x :: st) (X) C S Q) : ky V F L M pc lv (st) X C S Q := by
  refine ky_s hd ?_ kk
  simp only [kx_st1, h, if_pos]
theorem ky_aload {k : Nat} {x : Nat} (hd : decode M.2.1 pc = .ok (.aload k, 2)) (h : kx_lk lv k = some (.ref x)) (kk : ky V F L M (pc + 2) lv (.ref x :: st) (X) C S Q) : ky V F L M pc lv (st) X C S Q := by
  refine ky_s hd ?_ kk
  simp only [kx_st1, h, if_pos]
theorem ky_aloadN {k : Nat} (hd : decode M.2.1 pc = .ok (.aload k, 2)) (h : kx_lk lv k = some .null) (kk : ky V F L M (pc + 2) lv (.null :: st) (X) C S Q) : ky V F L M pc lv (st) X C S Q := by
  refine ky_s hd ?_ kk
  simp only [kx_st1, h, if_pos]
theorem ky_istore_n {k : Fin 4} {x : Int32} {lv' : kx_L} (hd : decode M.2.1 pc = .ok (.istore_n k, 1)) (h : kx_sto M.2.2.1 lv (k : Nat) (.int x) = some lv') (kk : ky V F L M (pc + 1) lv' (st) (X) C S Q) : ky V F L M pc lv (.int x :: st) X C S Q := by
  refine ky_s hd ?_ kk
  simp only [kx_st1, h, if_pos]
theorem ky_lstore_n {k : Fin 4} {x : Int64} {lv' : kx_L} (hd : decode M.2.1 pc = .ok (.lstore_n k, 1)) (h : kx_stw M.2.2.1 lv (k : Nat) (.long x) = some lv') (kk : ky V F L M (pc + 1) lv' (st) (X) C S Q) : ky V F L M pc lv (.long x :: st) X C S Q := by
  refine ky_s hd ?_ kk
  simp only [kx_st1, h, if_pos]
theorem ky_astore_n {k : Fin 4} {x : Nat} {lv' : kx_L} (hd : decode M.2.1 pc = .ok (.astore_n k, 1)) (h : kx_sto M.2.2.1 lv (k : Nat) (.ref x) = some lv') (kk : ky V F L M (pc + 1) lv' (st) (X) C S Q) : ky V F L M pc lv (.ref x :: st) X C S Q := by
  refine ky_s hd ?_ kk
  simp only [kx_st1, h, if_pos]
theorem ky_astore_nN {k : Fin 4} {lv' : kx_L} (hd : decode M.2.1 pc = .ok (.astore_n k, 1)) (h : kx_sto M.2.2.1 lv (k : Nat) .null = some lv') (kk : ky V F L M (pc + 1) lv' (st) (X) C S Q) : ky V F L M pc lv (.null :: st) X C S Q := by
  refine ky_s hd ?_ kk
  simp only [kx_st1, h, if_pos]
theorem ky_istore {k : Nat} {x : Int32} {lv' : kx_L} (hd : decode M.2.1 pc = .ok (.istore k, 2)) (h : kx_sto M.2.2.1 lv k (.int x) = some lv') (kk : ky V F L M (pc + 2) lv' (st) (X) C S Q) : ky V F L M pc lv (.int x :: st) X C S Q := by
  refine ky_s hd ?_ kk
  simp only [kx_st1, h, if_pos]
theorem ky_lstore {k : Nat} {x : Int64} {lv' : kx_L} (hd : decode M.2.1 pc = .ok (.lstore k, 2)) (h : kx_stw M.2.2.1 lv k (.long x) = some lv') (kk : ky V F L M (pc + 2) lv' (st) (X) C S Q) : ky V F L M pc lv (.long x :: st) X C S Q := by
  refine ky_s hd ?_ kk
  simp only [kx_st1, h, if_pos]
theorem ky_astore {k : Nat} {x : Nat} {lv' : kx_L} (hd : decode M.2.1 pc = .ok (.astore k, 2)) (h : kx_sto M.2.2.1 lv k (.ref x) = some lv') (kk : ky V F L M (pc + 2) lv' (st) (X) C S Q) : ky V F L M pc lv (.ref x :: st) X C S Q := by
  refine ky_s hd ?_ kk
  simp only [kx_st1, h, if_pos]
theorem ky_astoreN {k : Nat} {lv' : kx_L} (hd : decode M.2.1 pc = .ok (.astore k, 2)) (h : kx_sto M.2.2.1 lv k .null = some lv') (kk : ky V F L M (pc + 2) lv' (st) (X) C S Q) : ky V F L M pc lv (.null :: st) X C S Q := by
  refine ky_s hd ?_ kk
  simp only [kx_st1, h, if_pos]
theorem ky_iadd {x y : Int32} (hd : decode M.2.1 pc = .ok (.iadd, 1)) (kk : ky V F L M (pc + 1) lv (.int (x + y) :: st) (X) C S Q) : ky V F L M pc lv (.int y :: .int x :: st) X C S Q := by
  refine ky_s hd ?_ kk
  simp only [kx_st1, if_pos]
theorem ky_isub {x y : Int32} (hd : decode M.2.1 pc = .ok (.isub, 1)) (kk : ky V F L M (pc + 1) lv (.int (x - y) :: st) (X) C S Q) : ky V F L M pc lv (.int y :: .int x :: st) X C S Q := by
  refine ky_s hd ?_ kk
  simp only [kx_st1, if_pos]
theorem ky_imul {x y : Int32} (hd : decode M.2.1 pc = .ok (.imul, 1)) (kk : ky V F L M (pc + 1) lv (.int (x * y) :: st) (X) C S Q) : ky V F L M pc lv (.int y :: .int x :: st) X C S Q := by
  refine ky_s hd ?_ kk
  simp only [kx_st1, if_pos]
theorem ky_iand {x y : Int32} (hd : decode M.2.1 pc = .ok (.iand, 1)) (kk : ky V F L M (pc + 1) lv (.int (x &&& y) :: st) (X) C S Q) : ky V F L M pc lv (.int y :: .int x :: st) X C S Q := by
  refine ky_s hd ?_ kk
  simp only [kx_st1, if_pos]
theorem ky_ior {x y : Int32} (hd : decode M.2.1 pc = .ok (.ior, 1)) (kk : ky V F L M (pc + 1) lv (.int (x ||| y) :: st) (X) C S Q) : ky V F L M pc lv (.int y :: .int x :: st) X C S Q := by
  refine ky_s hd ?_ kk
  simp only [kx_st1, if_pos]
theorem ky_ixor {x y : Int32} (hd : decode M.2.1 pc = .ok (.ixor, 1)) (kk : ky V F L M (pc + 1) lv (.int (x ^^^ y) :: st) (X) C S Q) : ky V F L M pc lv (.int y :: .int x :: st) X C S Q := by
  refine ky_s hd ?_ kk
  simp only [kx_st1, if_pos]
theorem ky_ishl {x y : Int32} (hd : decode M.2.1 pc = .ok (.ishl, 1)) (kk : ky V F L M (pc + 1) lv (.int (x <<< (y &&& 31)) :: st) (X) C S Q) : ky V F L M pc lv (.int y :: .int x :: st) X C S Q := by
  refine ky_s hd ?_ kk
  simp only [kx_st1, if_pos]
theorem ky_ishr {x y : Int32} (hd : decode M.2.1 pc = .ok (.ishr, 1)) (kk : ky V F L M (pc + 1) lv (.int (x >>> (y &&& 31)) :: st) (X) C S Q) : ky V F L M pc lv (.int y :: .int x :: st) X C S Q := by
  refine ky_s hd ?_ kk
  simp only [kx_st1, if_pos]
theorem ky_iushr {x y : Int32} (hd : decode M.2.1 pc = .ok (.iushr, 1)) (kk : ky V F L M (pc + 1) lv (.int ((x.toUInt32 >>> (y.toUInt32 &&& Int32.toUInt32 31)).toInt32) :: st) (X) C S Q) : ky V F L M pc lv (.int y :: .int x :: st) X C S Q := by
  refine ky_s hd ?_ kk
  simp only [kx_st1, if_pos]
theorem ky_idiv {x y : Int32} (hd : decode M.2.1 pc = .ok (.idiv, 1)) (h : ¬ y = 0) (kk : ky V F L M (pc + 1) lv (.int (x / y) :: st) (X) C S Q) : ky V F L M pc lv (.int y :: .int x :: st) X C S Q := by
  refine ky_s hd ?_ kk
  simp only [kx_st1, if_neg h, if_pos]
theorem ky_irem {x y : Int32} (hd : decode M.2.1 pc = .ok (.irem, 1)) (h : ¬ y = 0) (kk : ky V F L M (pc + 1) lv (.int (x - x / y * y) :: st) (X) C S Q) : ky V F L M pc lv (.int y :: .int x :: st) X C S Q := by
  refine ky_s hd ?_ kk
  simp only [kx_st1, if_neg h, if_pos]
theorem ky_ladd {x y : Int64} (hd : decode M.2.1 pc = .ok (.ladd, 1)) (kk : ky V F L M (pc + 1) lv (.long (x + y) :: st) (X) C S Q) : ky V F L M pc lv (.long y :: .long x :: st) X C S Q := by
  refine ky_s hd ?_ kk
  simp only [kx_st1, if_pos]
theorem ky_lsub {x y : Int64} (hd : decode M.2.1 pc = .ok (.lsub, 1)) (kk : ky V F L M (pc + 1) lv (.long (x - y) :: st) (X) C S Q) : ky V F L M pc lv (.long y :: .long x :: st) X C S Q := by
  refine ky_s hd ?_ kk
  simp only [kx_st1, if_pos]
theorem ky_lmul {x y : Int64} (hd : decode M.2.1 pc = .ok (.lmul, 1)) (kk : ky V F L M (pc + 1) lv (.long (x * y) :: st) (X) C S Q) : ky V F L M pc lv (.long y :: .long x :: st) X C S Q := by
  refine ky_s hd ?_ kk
  simp only [kx_st1, if_pos]
theorem ky_land {x y : Int64} (hd : decode M.2.1 pc = .ok (.land, 1)) (kk : ky V F L M (pc + 1) lv (.long (x &&& y) :: st) (X) C S Q) : ky V F L M pc lv (.long y :: .long x :: st) X C S Q := by
  refine ky_s hd ?_ kk
  simp only [kx_st1, if_pos]
theorem ky_lor {x y : Int64} (hd : decode M.2.1 pc = .ok (.lor, 1)) (kk : ky V F L M (pc + 1) lv (.long (x ||| y) :: st) (X) C S Q) : ky V F L M pc lv (.long y :: .long x :: st) X C S Q := by
  refine ky_s hd ?_ kk
  simp only [kx_st1, if_pos]
theorem ky_ldiv {x y : Int64} (hd : decode M.2.1 pc = .ok (.ldiv, 1)) (h : ¬ y = 0) (kk : ky V F L M (pc + 1) lv (.long (x / y) :: st) (X) C S Q) : ky V F L M pc lv (.long y :: .long x :: st) X C S Q := by
  refine ky_s hd ?_ kk
  simp only [kx_st1, if_neg h, if_pos]
theorem ky_lrem {x y : Int64} (hd : decode M.2.1 pc = .ok (.lrem, 1)) (h : ¬ y = 0) (kk : ky V F L M (pc + 1) lv (.long (x - x / y * y) :: st) (X) C S Q) : ky V F L M pc lv (.long y :: .long x :: st) X C S Q := by
  refine ky_s hd ?_ kk
  simp only [kx_st1, if_neg h, if_pos]
theorem ky_ineg {x : Int32} (hd : decode M.2.1 pc = .ok (.ineg, 1)) (kk : ky V F L M (pc + 1) lv (.int (-x) :: st) (X) C S Q) : ky V F L M pc lv (.int x :: st) X C S Q := by
  refine ky_s hd ?_ kk
  simp only [kx_st1, if_pos]
theorem ky_lneg {x : Int64} (hd : decode M.2.1 pc = .ok (.lneg, 1)) (kk : ky V F L M (pc + 1) lv (.long (-x) :: st) (X) C S Q) : ky V F L M pc lv (.long x :: st) X C S Q := by
  refine ky_s hd ?_ kk
  simp only [kx_st1, if_pos]
theorem ky_lshl {y : Int32} {x : Int64} (hd : decode M.2.1 pc = .ok (.lshl, 1)) (kk : ky V F L M (pc + 1) lv (.long (x <<< (y.toInt64 &&& 63)) :: st) (X) C S Q) : ky V F L M pc lv (.int y :: .long x :: st) X C S Q := by
  refine ky_s hd ?_ kk
  simp only [kx_st1, if_pos]
theorem ky_lcmp {x y : Int64} (hd : decode M.2.1 pc = .ok (.lcmp, 1)) (kk : ky V F L M (pc + 1) lv (.int (lg_cmp x y) :: st) (X) C S Q) : ky V F L M pc lv (.long y :: .long x :: st) X C S Q := by
  refine ky_s hd ?_ kk
  simp only [kx_st1, if_pos]
theorem ky_i2l {x : Int32} (hd : decode M.2.1 pc = .ok (.i2l, 1)) (kk : ky V F L M (pc + 1) lv (.long x.toInt64 :: st) (X) C S Q) : ky V F L M pc lv (.int x :: st) X C S Q := by
  refine ky_s hd ?_ kk
  simp only [kx_st1, if_pos]
theorem ky_l2i {x : Int64} (hd : decode M.2.1 pc = .ok (.l2i, 1)) (kk : ky V F L M (pc + 1) lv (.int x.toInt32 :: st) (X) C S Q) : ky V F L M pc lv (.long x :: st) X C S Q := by
  refine ky_s hd ?_ kk
  simp only [kx_st1, if_pos]
theorem ky_i2b {x : Int32} (hd : decode M.2.1 pc = .ok (.i2b, 1)) (kk : ky V F L M (pc + 1) lv (.int x.toInt8.toInt32 :: st) (X) C S Q) : ky V F L M pc lv (.int x :: st) X C S Q := by
  refine ky_s hd ?_ kk
  simp only [kx_st1, if_pos]
theorem ky_i2c {x : Int32} (hd : decode M.2.1 pc = .ok (.i2c, 1)) (kk : ky V F L M (pc + 1) lv (.int (x.toUInt32 % 65536).toInt32 :: st) (X) C S Q) : ky V F L M pc lv (.int x :: st) X C S Q := by
  refine ky_s hd ?_ kk
  simp only [kx_st1, if_pos]
theorem ky_dup {a : Value} (hd : decode M.2.1 pc = .ok (.dup, 1)) (h : a.category = 1) (kk : ky V F L M (pc + 1) lv (a :: a :: st) (X) C S Q) : ky V F L M pc lv (a :: st) X C S Q := by
  refine ky_s hd ?_ kk
  simp only [kx_st1, if_pos h, if_pos]
theorem ky_pop {a : Value} (hd : decode M.2.1 pc = .ok (.pop, 1)) (h : a.category = 1) (kk : ky V F L M (pc + 1) lv (st) (X) C S Q) : ky V F L M pc lv (a :: st) X C S Q := by
  refine ky_s hd ?_ kk
  simp only [kx_st1, if_pos h, if_pos]
theorem ky_dup_x1 {a b : Value} (hd : decode M.2.1 pc = .ok (.dup_x1, 1)) (h : a.category = 1 ∧ b.category = 1) (kk : ky V F L M (pc + 1) lv (a :: b :: a :: st) (X) C S Q) : ky V F L M pc lv (a :: b :: st) X C S Q := by
  refine ky_s hd ?_ kk
  simp only [kx_st1, if_pos h, if_pos]
theorem ky_dup2 {a b : Value} (hd : decode M.2.1 pc = .ok (.dup2, 1)) (h : a.category = 1 ∧ b.category = 1) (kk : ky V F L M (pc + 1) lv (a :: b :: a :: b :: st) (X) C S Q) : ky V F L M pc lv (a :: b :: st) X C S Q := by
  refine ky_s hd ?_ kk
  simp only [kx_st1, if_pos h, if_pos]
theorem ky_goto {off : Int} {t : Nat} (hd : decode M.2.1 pc = .ok (.goto off, 3)) (h : kx_tg pc off = some t) (kk : ky V F L M t lv (st) (X) C S Q) : ky V F L M pc lv (st) X C S Q := by
  refine ky_s hd ?_ kk
  simp only [kx_st1, h, if_pos]
theorem ky_ifnullN {off : Int} {t : Nat} (hd : decode M.2.1 pc = .ok (.ifnull off, 3)) (h : kx_tg pc off = some t) (kk : ky V F L M t lv (st) (X) C S Q) : ky V F L M pc lv (.null :: st) X C S Q := by
  refine ky_s hd ?_ kk
  simp only [kx_st1, h, if_pos]
theorem ky_ifnullR {off : Int} {a : Nat} (hd : decode M.2.1 pc = .ok (.ifnull off, 3)) (kk : ky V F L M (pc + 3) lv (st) (X) C S Q) : ky V F L M pc lv (.ref a :: st) X C S Q := by
  refine ky_s hd ?_ kk
  simp only [kx_st1, if_pos]
theorem ky_ifnonnullR {off : Int} {t a : Nat} (hd : decode M.2.1 pc = .ok (.ifnonnull off, 3)) (h : kx_tg pc off = some t) (kk : ky V F L M t lv (st) (X) C S Q) : ky V F L M pc lv (.ref a :: st) X C S Q := by
  refine ky_s hd ?_ kk
  simp only [kx_st1, h, if_pos]
theorem ky_ifnonnullN {off : Int} (hd : decode M.2.1 pc = .ok (.ifnonnull off, 3)) (kk : ky V F L M (pc + 3) lv (st) (X) C S Q) : ky V F L M pc lv (.null :: st) X C S Q := by
  refine ky_s hd ?_ kk
  simp only [kx_st1, if_pos]
theorem ky_iinc {k : Nat} {n : Int} {x : Int32} {lv' : kx_L} (hd : decode M.2.1 pc = .ok (.iinc k n, 3)) (h : kx_lk lv k = some (.int x)) (h2 : kx_sto M.2.2.1 lv k (.int (x + Int32.ofInt n)) = some lv') (kk : ky V F L M (pc + 3) lv' (st) (X) C S Q) : ky V F L M pc lv (st) X C S Q := by
  refine ky_s hd ?_ kk
  simp only [kx_st1, h, h2, if_pos]
theorem ky_ldcI {j : Nat} {x : Int32} (hd : decode M.2.1 pc = .ok (.ldc j, 2)) (h : kx_ci V M.1.cls j = some x) (kk : ky V F L M (pc + 2) lv (.int x :: st) (X) C S Q) : ky V F L M pc lv (st) X C S Q := by
  refine ky_s hd ?_ kk
  simp only [kx_st1, h, if_pos]
theorem ky_ldcw {j : Nat} {x : Int32} (hd : decode M.2.1 pc = .ok (.ldc_w j, 3)) (h : kx_ci V M.1.cls j = some x) (kk : ky V F L M (pc + 3) lv (.int x :: st) (X) C S Q) : ky V F L M pc lv (st) X C S Q := by
  refine ky_s hd ?_ kk
  simp only [kx_st1, h, if_pos]
theorem ky_ldcS {j q : Nat} (hd : decode M.2.1 pc = .ok (.ldc j, 2)) (h : kx_ci V M.1.cls j = none) (h2 : kx_rv V M.1.cls j = some q) (kk : ky V F L M (pc + 2) lv (.ref q :: st) (X) C S Q) : ky V F L M pc lv (st) X C S Q := by
  refine ky_s hd ?_ kk
  simp only [kx_st1, h, h2, if_pos]
theorem ky_ldc2 {j : Nat} {x : Int64} (hd : decode M.2.1 pc = .ok (.ldc2_w j, 3)) (h : kx_cL V M.1.cls j = some x) (kk : ky V F L M (pc + 3) lv (.long x :: st) (X) C S Q) : ky V F L M pc lv (st) X C S Q := by
  refine ky_s hd ?_ kk
  simp only [kx_st1, h, if_pos]
theorem ky_gets {j : Nat} {r n d : String} {v : Value} (hd : decode M.2.1 pc = .ok (.getstatic j, 3)) (h : kx_fl V M.1.cls j = some (r, n, d)) (h2 : kx_sv V r n d = some v) (kk : ky V F L M (pc + 3) lv (v :: st) (X) C S Q) : ky V F L M pc lv (st) X C S Q := by
  refine ky_s hd ?_ kk
  simp only [kx_st1, h, h2, if_pos]
theorem ky_alen {a k : Nat} {x : vp_A} (hd : decode M.2.1 pc = .ok (.arraylength, 1)) (ha : X.1 a = some (.inl (k, x))) (hk : k < (kx_tl V).length) (kk : ky V F L M (pc + 1) lv (.int (Int32.ofNat x.1) :: st) (X) C S Q) : ky V F L M pc lv (.ref a :: st) X C S Q := by
  refine ky_s hd ?_ kk
  simp only [kx_st1, ha, if_pos hk, if_pos]
theorem ky_iald {i : Int32} {a k n : Nat} {f : Nat → Int32} (hd : decode M.2.1 pc = .ok (.iaload, 1)) (ha : X.1 a = some (.inl (k, n, .inl f))) (h : (kx_tl V)[k]? = some .int ∧ kx_inb i n = true) (kk : ky V F L M (pc + 1) lv (.int (f i.toNatClampNeg) :: st) (X) C S Q) : ky V F L M pc lv (.int i :: .ref a :: st) X C S Q := by
  refine ky_s hd ?_ kk
  simp only [kx_st1, ha, if_pos h, if_pos]
theorem ky_bald {i : Int32} {a k n : Nat} {f : Nat → Int32} (hd : decode M.2.1 pc = .ok (.baload, 1)) (ha : X.1 a = some (.inl (k, n, .inl f))) (h : ((kx_tl V)[k]? = some .byte ∨ (kx_tl V)[k]? = some .boolean) ∧ kx_inb i n = true) (kk : ky V F L M (pc + 1) lv (.int (f i.toNatClampNeg) :: st) (X) C S Q) : ky V F L M pc lv (.int i :: .ref a :: st) X C S Q := by
  refine ky_s hd ?_ kk
  simp only [kx_st1, ha, if_pos h, if_pos]
theorem ky_lald {i : Int32} {a k n : Nat} {f : Nat → Int64} (hd : decode M.2.1 pc = .ok (.laload, 1)) (ha : X.1 a = some (.inl (k, n, .inr (.inl f)))) (h : (kx_tl V)[k]? = some .long ∧ kx_inb i n = true) (kk : ky V F L M (pc + 1) lv (.long (f i.toNatClampNeg) :: st) (X) C S Q) : ky V F L M pc lv (.int i :: .ref a :: st) X C S Q := by
  refine ky_s hd ?_ kk
  simp only [kx_st1, ha, if_pos h, if_pos]
theorem ky_aald {i : Int32} {a k n : Nat} {f : Nat → Option Nat} {ty : FieldType} (hd : decode M.2.1 pc = .ok (.aaload, 1)) (ha : X.1 a = some (.inl (k, n, .inr (.inr (.inr (.inr f)))))) (hk : (kx_tl V)[k]? = some ty) (h : ty.isReference = true ∧ kx_inb i n = true) (kk : ky V F L M (pc + 1) lv (va_rf (f i.toNatClampNeg) :: st) (X) C S Q) : ky V F L M pc lv (.int i :: .ref a :: st) X C S Q := by
  refine ky_s hd ?_ kk
  simp only [kx_st1, ha, hk, if_pos h, if_pos]
theorem ky_iast {x i : Int32} {a k n : Nat} {f : Nat → Int32} (hd : decode M.2.1 pc = .ok (.iastore, 1)) (ha : X.1 a = some (.inl (k, n, .inl f))) (h : kx_lo V ≤ a ∧ (kx_tl V)[k]? = some .int ∧ kx_inb i n = true) (kk : ky V F L M (pc + 1) lv (st) (kx_set X a (.inl (k, n, .inl (upd f i.toNatClampNeg x)))) C S Q) : ky V F L M pc lv (.int x :: .int i :: .ref a :: st) X C S Q := by
  refine ky_s hd ?_ kk
  simp only [kx_st1, ha, if_pos h, if_pos]
theorem ky_last {x : Int64} {i : Int32} {a k n : Nat} {f : Nat → Int64} (hd : decode M.2.1 pc = .ok (.lastore, 1)) (ha : X.1 a = some (.inl (k, n, .inr (.inl f)))) (h : kx_lo V ≤ a ∧ (kx_tl V)[k]? = some .long ∧ kx_inb i n = true) (kk : ky V F L M (pc + 1) lv (st) (kx_set X a (.inl (k, n, .inr (.inl (vp_updL f i.toNatClampNeg x))))) C S Q) : ky V F L M pc lv (.long x :: .int i :: .ref a :: st) X C S Q := by
  refine ky_s hd ?_ kk
  simp only [kx_st1, ha, if_pos h, if_pos]
theorem ky_bast {x i : Int32} {a k n : Nat} {f : Nat → Int32} (hd : decode M.2.1 pc = .ok (.bastore, 1)) (ha : X.1 a = some (.inl (k, n, .inl f))) (h : kx_lo V ≤ a ∧ kx_inb i n = true) (hb : (kx_tl V)[k]? = some .byte) (kk : ky V F L M (pc + 1) lv (st) (kx_set X a (.inl (k, n, .inl (upd f i.toNatClampNeg (vp_nar .byte x))))) C S Q) : ky V F L M pc lv (.int x :: .int i :: .ref a :: st) X C S Q := by
  refine ky_s hd ?_ kk
  simp only [kx_st1, ha, if_pos h, if_pos hb, if_pos]
theorem ky_zast {x i : Int32} {a k n : Nat} {f : Nat → Int32} (hd : decode M.2.1 pc = .ok (.bastore, 1)) (ha : X.1 a = some (.inl (k, n, .inl f))) (h : kx_lo V ≤ a ∧ kx_inb i n = true) (hb : (kx_tl V)[k]? = some .boolean) (kk : ky V F L M (pc + 1) lv (st) (kx_set X a (.inl (k, n, .inl (upd f i.toNatClampNeg (vp_nar .boolean x))))) C S Q) : ky V F L M pc lv (.int x :: .int i :: .ref a :: st) X C S Q := by
  refine ky_s hd ?_ kk
  simp only [kx_st1, ha, if_pos h, hb, if_pos]
  rfl
theorem ky_aast {v : Nat} {i : Int32} {a k n ci : Nat} {vs : List Value} {q : vw_C} {f : Nat → Option Nat} (hd : decode M.2.1 pc = .ok (.aastore, 1)) (ha : X.1 a = some (.inl (k, n, .inr (.inr (.inr (.inr f)))))) (h : kx_lo V ≤ a ∧ kx_inb i n = true) (hv : X.1 v = some (.inr (ci, vs))) (hc : (kx_cl V)[ci]? = some q) (hk : (kx_tl V)[k]? = some (.object q.1)) (kk : ky V F L M (pc + 1) lv (st) (kx_set X a (.inl (k, n, .inr (.inr (.inr (.inr (va_up f i.toNatClampNeg (some v)))))))) C S Q) : ky V F L M pc lv (.ref v :: .int i :: .ref a :: st) X C S Q := by
  refine ky_s hd ?_ kk
  simp only [kx_st1, ha, if_pos h, hv, hc, if_pos hk, if_pos]
end KYO
