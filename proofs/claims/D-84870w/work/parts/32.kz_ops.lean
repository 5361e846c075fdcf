/-! ===== RUNS OVER A TYPED STATE, part 5: a rule for each simple instruction (printed by tools/gen_kz.py out of part 26) ===== -/
section KZO
variable {V : kx_V} {G : wT} {ob : Nat → Nat} {ot : Nat → Option kx_E} {L : Nat} {M : kx_M} {pc : Nat} {lv : kx_L} {st : List Value} {w : wS} {Q : kx_Rs → wS → Prop}
theorem kz_iconst {n : Int} (hd : decode M.2.1 pc = .ok (.iconst n, 1)) (kk : kz V G ob ot L M (pc + 1) lv (.int (Int32.ofInt n) :: st) w Q) : kz V G ob ot L M pc lv (st) w Q := fun F hF X hX => ky_iconst hd (kk F hF X hX)
theorem kz_bipush {n : Int} (hd : decode M.2.1 pc = .ok (.bipush n, 2)) (kk : kz V G ob ot L M (pc + 2) lv (.int (Int8.ofInt n).toInt32 :: st) w Q) : kz V G ob ot L M pc lv (st) w Q := fun F hF X hX => ky_bipush hd (kk F hF X hX)
theorem kz_sipush {n : Int} (hd : decode M.2.1 pc = .ok (.sipush n, 3)) (kk : kz V G ob ot L M (pc + 3) lv (.int (Int16.ofInt n).toInt32 :: st) w Q) : kz V G ob ot L M pc lv (st) w Q := fun F hF X hX => ky_sipush hd (kk F hF X hX)
theorem kz_lconst {n : Fin 2} (hd : decode M.2.1 pc = .ok (.lconst n, 1)) (kk : kz V G ob ot L M (pc + 1) lv (.long (Int64.ofNat (n : Nat)) :: st) w Q) : kz V G ob ot L M pc lv (st) w Q := fun F hF X hX => ky_lconst hd (kk F hF X hX)
theorem kz_null (hd : decode M.2.1 pc = .ok (.aconst_null, 1)) (kk : kz V G ob ot L M (pc + 1) lv (.null :: st) w Q) : kz V G ob ot L M pc lv (st) w Q := fun F hF X hX => ky_null hd (kk F hF X hX)
theorem kz_iload_n {k : Fin 4} {x : Int32} (hd : decode M.2.1 pc = .ok (.iload_n k, 1)) (h : kx_lk lv (k : Nat) = some (.int x)) (kk : kz V G ob ot L M (pc + 1) lv (.int x :: st) w Q) : kz V G ob ot L M pc lv (st) w Q := fun F hF X hX => ky_iload_n hd h (kk F hF X hX)
theorem kz_lload_n {k : Fin 4} {x : Int64} (hd : decode M.2.1 pc = .ok (.lload_n k, 1)) (h : kx_lk lv (k : Nat) = some (.long x)) (kk : kz V G ob ot L M (pc + 1) lv (.long x :: st) w Q) : kz V G ob ot L M pc lv (st) w Q := fun F hF X hX => ky_lload_n hd h (kk F hF X hX)
theorem kz_aload_n {k : Fin 4} {x : Nat} (hd : decode M.2.1 pc = .ok (.aload_n k, 1)) (h : kx_lk lv (k : Nat) = some (.ref x)) (kk : kz V G ob ot L M (pc + 1) lv (.ref x :: st) w Q) : kz V G ob ot L M pc lv (st) w Q := fun F hF X hX => ky_aload_n hd h (kk F hF X hX)
theorem kz_aload_nN {k : Fin 4} (hd : decode M.2.1 pc = .ok (.aload_n k, 1)) (h : kx_lk lv (k : Nat) = some .null) (kk : kz V G ob ot L M (pc + 1) lv (.null :: st) w Q) : kz V G ob ot L M pc lv (st) w Q := fun F hF X hX => ky_aload_nN hd h (kk F hF X hX)
theorem kz_iload {k : Nat} {x : Int32} (hd : decode M.2.1 pc = .ok (.iload k, 2)) (h : kx_lk lv k = some (.int x)) (kk : kz V G ob ot L M (pc + 2) lv (.int x :: st) w Q) : kz V G ob ot L M pc lv (st) w Q := fun F hF X hX => ky_iload hd h (kk F hF X hX)
theorem kz_lload {k : Nat} {x : Int64} (hd : decode M.2.1 pc = .ok (.lload k, 2)) (h : kx_lk lv k = some (.long x)) (kk : kz V G ob ot L M (pc + 2) lv (.long x :: st) w Q) : kz V G ob ot L M pc lv (st) w Q := fun F hF X hX => ky_lload hd h (kk F hF X hX)
theorem kz_aload {k : Nat} {x : Nat} (hd : decode M.2.1 pc = .ok (.aload k, 2)) (h : kx_lk lv k = some (.ref x)) (kk : kz V G ob ot L M (pc + 2) lv (.ref x :: st) w Q) : kz V G ob ot L M pc lv (st) w Q := fun F hF X hX => ky_aload hd h (kk F hF X hX)
theorem kz_aloadN {k : Nat} (hd : decode M.2.1 pc = .ok (.aload k, 2)) (h : kx_lk lv k = some .null) (kk : kz V G ob ot L M (pc + 2) lv (.null :: st) w Q) : kz V G ob ot L M pc lv (st) w Q := fun F hF X hX => ky_aloadN hd h (kk F hF X hX)
theorem kz_istore_n {k : Fin 4} {x : Int32} {lv' : kx_L} (hd : decode M.2.1 pc = .ok (.istore_n k, 1)) (h : kx_sto M.2.2.1 lv (k : Nat) (.int x) = some lv') (kk : kz V G ob ot L M (pc + 1) lv' (st) w Q) : kz V G ob ot L M pc lv (.int x :: st) w Q := fun F hF X hX => ky_istore_n hd h (kk F hF X hX)
theorem kz_lstore_n {k : Fin 4} {x : Int64} {lv' : kx_L} (hd : decode M.2.1 pc = .ok (.lstore_n k, 1)) (h : kx_stw M.2.2.1 lv (k : Nat) (.long x) = some lv') (kk : kz V G ob ot L M (pc + 1) lv' (st) w Q) : kz V G ob ot L M pc lv (.long x :: st) w Q := fun F hF X hX => ky_lstore_n hd h (kk F hF X hX)
theorem kz_astore_n {k : Fin 4} {x : Nat} {lv' : kx_L} (hd : decode M.2.1 pc = .ok (.astore_n k, 1)) (h : kx_sto M.2.2.1 lv (k : Nat) (.ref x) = some lv') (kk : kz V G ob ot L M (pc + 1) lv' (st) w Q) : kz V G ob ot L M pc lv (.ref x :: st) w Q := fun F hF X hX => ky_astore_n hd h (kk F hF X hX)
theorem kz_astore_nN {k : Fin 4} {lv' : kx_L} (hd : decode M.2.1 pc = .ok (.astore_n k, 1)) (h : kx_sto M.2.2.1 lv (k : Nat) .null = some lv') (kk : kz V G ob ot L M (pc + 1) lv' (st) w Q) : kz V G ob ot L M pc lv (.null :: st) w Q := fun F hF X hX => ky_astore_nN hd h (kk F hF X hX)
theorem kz_istore {k : Nat} {x : Int32} {lv' : kx_L} (hd : decode M.2.1 pc = .ok (.istore k, 2)) (h : kx_sto M.2.2.1 lv k (.int x) = some lv') (kk : kz V G ob ot L M (pc + 2) lv' (st) w Q) : kz V G ob ot L M pc lv (.int x :: st) w Q := fun F hF X hX => ky_istore hd h (kk F hF X hX)
theorem kz_lstore {k : Nat} {x : Int64} {lv' : kx_L} (hd : decode M.2.1 pc = .ok (.lstore k, 2)) (h : kx_stw M.2.2.1 lv k (.long x) = some lv') (kk : kz V G ob ot L M (pc + 2) lv' (st) w Q) : kz V G ob ot L M pc lv (.long x :: st) w Q := fun F hF X hX => ky_lstore hd h (kk F hF X hX)
theorem kz_astore {k : Nat} {x : Nat} {lv' : kx_L} (hd : decode M.2.1 pc = .ok (.astore k, 2)) (h : kx_sto M.2.2.1 lv k (.ref x) = some lv') (kk : kz V G ob ot L M (pc + 2) lv' (st) w Q) : kz V G ob ot L M pc lv (.ref x :: st) w Q := fun F hF X hX => ky_astore hd h (kk F hF X hX)
theorem kz_astoreN {k : Nat} {lv' : kx_L} (hd : decode M.2.1 pc = .ok (.astore k, 2)) (h : kx_sto M.2.2.1 lv k .null = some lv') (kk : kz V G ob ot L M (pc + 2) lv' (st) w Q) : kz V G ob ot L M pc lv (.null :: st) w Q := fun F hF X hX => ky_astoreN hd h (kk F hF X hX)
theorem kz_iadd {x y : Int32} (hd : decode M.2.1 pc = .ok (.iadd, 1)) (kk : kz V G ob ot L M (pc + 1) lv (.int (x + y) :: st) w Q) : kz V G ob ot L M pc lv (.int y :: .int x :: st) w Q := fun F hF X hX => ky_iadd hd (kk F hF X hX)
theorem kz_isub {x y : Int32} (hd : decode M.2.1 pc = .ok (.isub, 1)) (kk : kz V G ob ot L M (pc + 1) lv (.int (x - y) :: st) w Q) : kz V G ob ot L M pc lv (.int y :: .int x :: st) w Q := fun F hF X hX => ky_isub hd (kk F hF X hX)
theorem kz_imul {x y : Int32} (hd : decode M.2.1 pc = .ok (.imul, 1)) (kk : kz V G ob ot L M (pc + 1) lv (.int (x * y) :: st) w Q) : kz V G ob ot L M pc lv (.int y :: .int x :: st) w Q := fun F hF X hX => ky_imul hd (kk F hF X hX)
theorem kz_iand {x y : Int32} (hd : decode M.2.1 pc = .ok (.iand, 1)) (kk : kz V G ob ot L M (pc + 1) lv (.int (x &&& y) :: st) w Q) : kz V G ob ot L M pc lv (.int y :: .int x :: st) w Q := fun F hF X hX => ky_iand hd (kk F hF X hX)
theorem kz_ior {x y : Int32} (hd : decode M.2.1 pc = .ok (.ior, 1)) (kk : kz V G ob ot L M (pc + 1) lv (.int (x ||| y) :: st) w Q) : kz V G ob ot L M pc lv (.int y :: .int x :: st) w Q := fun F hF X hX => ky_ior hd (kk F hF X hX)
theorem kz_ixor {x y : Int32} (hd : decode M.2.1 pc = .ok (.ixor, 1)) (kk : kz V G ob ot L M (pc + 1) lv (.int (x ^^^ y) :: st) w Q) : kz V G ob ot L M pc lv (.int y :: .int x :: st) w Q := fun F hF X hX => ky_ixor hd (kk F hF X hX)
theorem kz_ishl {x y : Int32} (hd : decode M.2.1 pc = .ok (.ishl, 1)) (kk : kz V G ob ot L M (pc + 1) lv (.int (x <<< (y &&& 31)) :: st) w Q) : kz V G ob ot L M pc lv (.int y :: .int x :: st) w Q := fun F hF X hX => ky_ishl hd (kk F hF X hX)
theorem kz_ishr {x y : Int32} (hd : decode M.2.1 pc = .ok (.ishr, 1)) (kk : kz V G ob ot L M (pc + 1) lv (.int (x >>> (y &&& 31)) :: st) w Q) : kz V G ob ot L M pc lv (.int y :: .int x :: st) w Q := fun F hF X hX => ky_ishr hd (kk F hF X hX)
theorem kz_iushr {x y : Int32} (hd : decode M.2.1 pc = .ok (.iushr, 1)) (kk : kz V G ob ot L M (pc + 1) lv (.int ((x.toUInt32 >>> (y.toUInt32 &&& Int32.toUInt32 31)).toInt32) :: st) w Q) : kz V G ob ot L M pc lv (.int y :: .int x :: st) w Q := fun F hF X hX => ky_iushr hd (kk F hF X hX)
theorem kz_idiv {x y : Int32} (hd : decode M.2.1 pc = .ok (.idiv, 1)) (h : ¬ y = 0) (kk : kz V G ob ot L M (pc + 1) lv (.int (x / y) :: st) w Q) : kz V G ob ot L M pc lv (.int y :: .int x :: st) w Q := fun F hF X hX => ky_idiv hd h (kk F hF X hX)
theorem kz_irem {x y : Int32} (hd : decode M.2.1 pc = .ok (.irem, 1)) (h : ¬ y = 0) (kk : kz V G ob ot L M (pc + 1) lv (.int (x - x / y * y) :: st) w Q) : kz V G ob ot L M pc lv (.int y :: .int x :: st) w Q := fun F hF X hX => ky_irem hd h (kk F hF X hX)
theorem kz_ladd {x y : Int64} (hd : decode M.2.1 pc = .ok (.ladd, 1)) (kk : kz V G ob ot L M (pc + 1) lv (.long (x + y) :: st) w Q) : kz V G ob ot L M pc lv (.long y :: .long x :: st) w Q := fun F hF X hX => ky_ladd hd (kk F hF X hX)
theorem kz_lsub {x y : Int64} (hd : decode M.2.1 pc = .ok (.lsub, 1)) (kk : kz V G ob ot L M (pc + 1) lv (.long (x - y) :: st) w Q) : kz V G ob ot L M pc lv (.long y :: .long x :: st) w Q := fun F hF X hX => ky_lsub hd (kk F hF X hX)
theorem kz_lmul {x y : Int64} (hd : decode M.2.1 pc = .ok (.lmul, 1)) (kk : kz V G ob ot L M (pc + 1) lv (.long (x * y) :: st) w Q) : kz V G ob ot L M pc lv (.long y :: .long x :: st) w Q := fun F hF X hX => ky_lmul hd (kk F hF X hX)
theorem kz_land {x y : Int64} (hd : decode M.2.1 pc = .ok (.land, 1)) (kk : kz V G ob ot L M (pc + 1) lv (.long (x &&& y) :: st) w Q) : kz V G ob ot L M pc lv (.long y :: .long x :: st) w Q := fun F hF X hX => ky_land hd (kk F hF X hX)
theorem kz_lor {x y : Int64} (hd : decode M.2.1 pc = .ok (.lor, 1)) (kk : kz V G ob ot L M (pc + 1) lv (.long (x ||| y) :: st) w Q) : kz V G ob ot L M pc lv (.long y :: .long x :: st) w Q := fun F hF X hX => ky_lor hd (kk F hF X hX)
theorem kz_ldiv {x y : Int64} (hd : decode M.2.1 pc = .ok (.ldiv, 1)) (h : ¬ y = 0) (kk : kz V G ob ot L M (pc + 1) lv (.long (x / y) :: st) w Q) : kz V G ob ot L M pc lv (.long y :: .long x :: st) w Q := fun F hF X hX => ky_ldiv hd h (kk F hF X hX)
theorem kz_lrem {x y : Int64} (hd : decode M.2.1 pc = .ok (.lrem, 1)) (h : ¬ y = 0) (kk : kz V G ob ot L M (pc + 1) lv (.long (x - x / y * y) :: st) w Q) : kz V G ob ot L M pc lv (.long y :: .long x :: st) w Q := fun F hF X hX => ky_lrem hd h (kk F hF X hX)
theorem kz_ineg {x : Int32} (hd : decode M.2.1 pc = .ok (.ineg, 1)) (kk : kz V G ob ot L M (pc + 1) lv (.int (-x) :: st) w Q) : kz V G ob ot L M pc lv (.int x :: st) w Q := fun F hF X hX => ky_ineg hd (kk F hF X hX)
theorem kz_lneg {x : Int64} (hd : decode M.2.1 pc = .ok (.lneg, 1)) (kk : kz V G ob ot L M (pc + 1) lv (.long (-x) :: st) w Q) : kz V G ob ot L M pc lv (.long x :: st) w Q := fun F hF X hX => ky_lneg hd (kk F hF X hX)
theorem kz_lshl {y : Int32} {x : Int64} (hd : decode M.2.1 pc = .ok (.lshl, 1)) (kk : kz V G ob ot L M (pc + 1) lv (.long (x <<< (y.toInt64 &&& 63)) :: st) w Q) : kz V G ob ot L M pc lv (.int y :: .long x :: st) w Q := fun F hF X hX => ky_lshl hd (kk F hF X hX)
theorem kz_lcmp {x y : Int64} (hd : decode M.2.1 pc = .ok (.lcmp, 1)) (kk : kz V G ob ot L M (pc + 1) lv (.int (lg_cmp x y) :: st) w Q) : kz V G ob ot L M pc lv (.long y :: .long x :: st) w Q := fun F hF X hX => ky_lcmp hd (kk F hF X hX)
theorem kz_i2l {x : Int32} (hd : decode M.2.1 pc = .ok (.i2l, 1)) (kk : kz V G ob ot L M (pc + 1) lv (.long x.toInt64 :: st) w Q) : kz V G ob ot L M pc lv (.int x :: st) w Q := fun F hF X hX => ky_i2l hd (kk F hF X hX)
theorem kz_l2i {x : Int64} (hd : decode M.2.1 pc = .ok (.l2i, 1)) (kk : kz V G ob ot L M (pc + 1) lv (.int x.toInt32 :: st) w Q) : kz V G ob ot L M pc lv (.long x :: st) w Q := fun F hF X hX => ky_l2i hd (kk F hF X hX)
theorem kz_i2b {x : Int32} (hd : decode M.2.1 pc = .ok (.i2b, 1)) (kk : kz V G ob ot L M (pc + 1) lv (.int x.toInt8.toInt32 :: st) w Q) : kz V G ob ot L M pc lv (.int x :: st) w Q := fun F hF X hX => ky_i2b hd (kk F hF X hX)
theorem kz_i2c {x : Int32} (hd : decode M.2.1 pc = .ok (.i2c, 1)) (kk : kz V G ob ot L M (pc + 1) lv (.int (x.toUInt32 % 65536).toInt32 :: st) w Q) : kz V G ob ot L M pc lv (.int x :: st) w Q := fun F hF X hX => ky_i2c hd (kk F hF X hX)
theorem kz_dup {a : Value} (hd : decode M.2.1 pc = .ok (.dup, 1)) (h : a.category = 1) (kk : kz V G ob ot L M (pc + 1) lv (a :: a :: st) w Q) : kz V G ob ot L M pc lv (a :: st) w Q := fun F hF X hX => ky_dup hd h (kk F hF X hX)
theorem kz_pop {a : Value} (hd : decode M.2.1 pc = .ok (.pop, 1)) (h : a.category = 1) (kk : kz V G ob ot L M (pc + 1) lv (st) w Q) : kz V G ob ot L M pc lv (a :: st) w Q := fun F hF X hX => ky_pop hd h (kk F hF X hX)
theorem kz_dup_x1 {a b : Value} (hd : decode M.2.1 pc = .ok (.dup_x1, 1)) (h : a.category = 1 ∧ b.category = 1) (kk : kz V G ob ot L M (pc + 1) lv (a :: b :: a :: st) w Q) : kz V G ob ot L M pc lv (a :: b :: st) w Q := fun F hF X hX => ky_dup_x1 hd h (kk F hF X hX)
theorem kz_dup2 {a b : Value} (hd : decode M.2.1 pc = .ok (.dup2, 1)) (h : a.category = 1 ∧ b.category = 1) (kk : kz V G ob ot L M (pc + 1) lv (a :: b :: a :: b :: st) w Q) : kz V G ob ot L M pc lv (a :: b :: st) w Q := fun F hF X hX => ky_dup2 hd h (kk F hF X hX)
theorem kz_goto {off : Int} {t : Nat} (hd : decode M.2.1 pc = .ok (.goto off, 3)) (h : kx_tg pc off = some t) (kk : kz V G ob ot L M t lv (st) w Q) : kz V G ob ot L M pc lv (st) w Q := fun F hF X hX => ky_goto hd h (kk F hF X hX)
theorem kz_ifnullN {off : Int} {t : Nat} (hd : decode M.2.1 pc = .ok (.ifnull off, 3)) (h : kx_tg pc off = some t) (kk : kz V G ob ot L M t lv (st) w Q) : kz V G ob ot L M pc lv (.null :: st) w Q := fun F hF X hX => ky_ifnullN hd h (kk F hF X hX)
theorem kz_ifnullR {off : Int} {a : Nat} (hd : decode M.2.1 pc = .ok (.ifnull off, 3)) (kk : kz V G ob ot L M (pc + 3) lv (st) w Q) : kz V G ob ot L M pc lv (.ref a :: st) w Q := fun F hF X hX => ky_ifnullR hd (kk F hF X hX)
theorem kz_ifnonnullR {off : Int} {t a : Nat} (hd : decode M.2.1 pc = .ok (.ifnonnull off, 3)) (h : kx_tg pc off = some t) (kk : kz V G ob ot L M t lv (st) w Q) : kz V G ob ot L M pc lv (.ref a :: st) w Q := fun F hF X hX => ky_ifnonnullR hd h (kk F hF X hX)
theorem kz_ifnonnullN {off : Int} (hd : decode M.2.1 pc = .ok (.ifnonnull off, 3)) (kk : kz V G ob ot L M (pc + 3) lv (st) w Q) : kz V G ob ot L M pc lv (.null :: st) w Q := fun F hF X hX => ky_ifnonnullN hd (kk F hF X hX)
theorem kz_iinc {k : Nat} {n : Int} {x : Int32} {lv' : kx_L} (hd : decode M.2.1 pc = .ok (.iinc k n, 3)) (h : kx_lk lv k = some (.int x)) (h2 : kx_sto M.2.2.1 lv k (.int (x + Int32.ofInt n)) = some lv') (kk : kz V G ob ot L M (pc + 3) lv' (st) w Q) : kz V G ob ot L M pc lv (st) w Q := fun F hF X hX => ky_iinc hd h h2 (kk F hF X hX)
theorem kz_ldcI {j : Nat} {x : Int32} (hd : decode M.2.1 pc = .ok (.ldc j, 2)) (h : kx_ci V M.1.cls j = some x) (kk : kz V G ob ot L M (pc + 2) lv (.int x :: st) w Q) : kz V G ob ot L M pc lv (st) w Q := fun F hF X hX => ky_ldcI hd h (kk F hF X hX)
theorem kz_ldcw {j : Nat} {x : Int32} (hd : decode M.2.1 pc = .ok (.ldc_w j, 3)) (h : kx_ci V M.1.cls j = some x) (kk : kz V G ob ot L M (pc + 3) lv (.int x :: st) w Q) : kz V G ob ot L M pc lv (st) w Q := fun F hF X hX => ky_ldcw hd h (kk F hF X hX)
theorem kz_ldcS {j q : Nat} (hd : decode M.2.1 pc = .ok (.ldc j, 2)) (h : kx_ci V M.1.cls j = none) (h2 : kx_rv V M.1.cls j = some q) (kk : kz V G ob ot L M (pc + 2) lv (.ref q :: st) w Q) : kz V G ob ot L M pc lv (st) w Q := fun F hF X hX => ky_ldcS hd h h2 (kk F hF X hX)
theorem kz_ldc2 {j : Nat} {x : Int64} (hd : decode M.2.1 pc = .ok (.ldc2_w j, 3)) (h : kx_cL V M.1.cls j = some x) (kk : kz V G ob ot L M (pc + 3) lv (.long x :: st) w Q) : kz V G ob ot L M pc lv (st) w Q := fun F hF X hX => ky_ldc2 hd h (kk F hF X hX)
theorem kz_gets {j : Nat} {r n d : String} {v : Value} (hd : decode M.2.1 pc = .ok (.getstatic j, 3)) (h : kx_fl V M.1.cls j = some (r, n, d)) (h2 : kx_sv V r n d = some v) (kk : kz V G ob ot L M (pc + 3) lv (v :: st) w Q) : kz V G ob ot L M pc lv (st) w Q := fun F hF X hX => ky_gets hd h h2 (kk F hF X hX)
theorem kz_if_eq {off : Int} (hd : decode M.2.1 pc = .ok (.ifCond .eq off, 3)) {t : Nat} (ht : kx_tg pc off = some t) {x : Int32} {A B : Prop} (h : if x = 0 then A else B) (h1 : A → kz V G ob ot L M t lv st w Q) (h2 : B → kz V G ob ot L M (pc + 3) lv st w Q) : kz V G ob ot L M pc lv (.int x :: st) w Q := by
  intro F hF X hX
  refine ky_if hd ht (fun hc => ?_) (fun hc => ?_)
  · have e : x = 0 := of_decide_eq_true hc
    rw [if_pos e] at h
    exact h1 h F hF X hX
  · have e : ¬ (x = 0) := of_decide_eq_false hc
    rw [if_neg e] at h
    exact h2 h F hF X hX
theorem kz_icmp_eq {off : Int} (hd : decode M.2.1 pc = .ok (.if_icmp .eq off, 3)) {t : Nat} (ht : kx_tg pc off = some t) {x y : Int32} {A B : Prop} (h : if x = y then A else B) (h1 : A → kz V G ob ot L M t lv st w Q) (h2 : B → kz V G ob ot L M (pc + 3) lv st w Q) : kz V G ob ot L M pc lv (.int y :: .int x :: st) w Q := by
  intro F hF X hX
  refine ky_icmp hd ht (fun hc => ?_) (fun hc => ?_)
  · have e : x = y := of_decide_eq_true hc
    rw [if_pos e] at h
    exact h1 h F hF X hX
  · have e : ¬ (x = y) := of_decide_eq_false hc
    rw [if_neg e] at h
    exact h2 h F hF X hX
theorem kz_if_ne {off : Int} (hd : decode M.2.1 pc = .ok (.ifCond .ne off, 3)) {t : Nat} (ht : kx_tg pc off = some t) {x : Int32} {A B : Prop} (h : if ¬ x = 0 then A else B) (h1 : A → kz V G ob ot L M t lv st w Q) (h2 : B → kz V G ob ot L M (pc + 3) lv st w Q) : kz V G ob ot L M pc lv (.int x :: st) w Q := by
  intro F hF X hX
  refine ky_if hd ht (fun hc => ?_) (fun hc => ?_)
  · have e : ¬ x = 0 := of_decide_eq_true hc
    rw [if_pos e] at h
    exact h1 h F hF X hX
  · have e : ¬ (¬ x = 0) := of_decide_eq_false hc
    rw [if_neg e] at h
    exact h2 h F hF X hX
theorem kz_icmp_ne {off : Int} (hd : decode M.2.1 pc = .ok (.if_icmp .ne off, 3)) {t : Nat} (ht : kx_tg pc off = some t) {x y : Int32} {A B : Prop} (h : if ¬ x = y then A else B) (h1 : A → kz V G ob ot L M t lv st w Q) (h2 : B → kz V G ob ot L M (pc + 3) lv st w Q) : kz V G ob ot L M pc lv (.int y :: .int x :: st) w Q := by
  intro F hF X hX
  refine ky_icmp hd ht (fun hc => ?_) (fun hc => ?_)
  · have e : ¬ x = y := of_decide_eq_true hc
    rw [if_pos e] at h
    exact h1 h F hF X hX
  · have e : ¬ (¬ x = y) := of_decide_eq_false hc
    rw [if_neg e] at h
    exact h2 h F hF X hX
theorem kz_if_lt {off : Int} (hd : decode M.2.1 pc = .ok (.ifCond .lt off, 3)) {t : Nat} (ht : kx_tg pc off = some t) {x : Int32} {A B : Prop} (h : if x < 0 then A else B) (h1 : A → kz V G ob ot L M t lv st w Q) (h2 : B → kz V G ob ot L M (pc + 3) lv st w Q) : kz V G ob ot L M pc lv (.int x :: st) w Q := by
  intro F hF X hX
  refine ky_if hd ht (fun hc => ?_) (fun hc => ?_)
  · have e : x < 0 := of_decide_eq_true hc
    rw [if_pos e] at h
    exact h1 h F hF X hX
  · have e : ¬ (x < 0) := of_decide_eq_false hc
    rw [if_neg e] at h
    exact h2 h F hF X hX
theorem kz_icmp_lt {off : Int} (hd : decode M.2.1 pc = .ok (.if_icmp .lt off, 3)) {t : Nat} (ht : kx_tg pc off = some t) {x y : Int32} {A B : Prop} (h : if x < y then A else B) (h1 : A → kz V G ob ot L M t lv st w Q) (h2 : B → kz V G ob ot L M (pc + 3) lv st w Q) : kz V G ob ot L M pc lv (.int y :: .int x :: st) w Q := by
  intro F hF X hX
  refine ky_icmp hd ht (fun hc => ?_) (fun hc => ?_)
  · have e : x < y := of_decide_eq_true hc
    rw [if_pos e] at h
    exact h1 h F hF X hX
  · have e : ¬ (x < y) := of_decide_eq_false hc
    rw [if_neg e] at h
    exact h2 h F hF X hX
theorem kz_if_ge {off : Int} (hd : decode M.2.1 pc = .ok (.ifCond .ge off, 3)) {t : Nat} (ht : kx_tg pc off = some t) {x : Int32} {A B : Prop} (h : if 0 ≤ x then A else B) (h1 : A → kz V G ob ot L M t lv st w Q) (h2 : B → kz V G ob ot L M (pc + 3) lv st w Q) : kz V G ob ot L M pc lv (.int x :: st) w Q := by
  intro F hF X hX
  refine ky_if hd ht (fun hc => ?_) (fun hc => ?_)
  · have e : 0 ≤ x := of_decide_eq_true hc
    rw [if_pos e] at h
    exact h1 h F hF X hX
  · have e : ¬ (0 ≤ x) := of_decide_eq_false hc
    rw [if_neg e] at h
    exact h2 h F hF X hX
theorem kz_icmp_ge {off : Int} (hd : decode M.2.1 pc = .ok (.if_icmp .ge off, 3)) {t : Nat} (ht : kx_tg pc off = some t) {x y : Int32} {A B : Prop} (h : if y ≤ x then A else B) (h1 : A → kz V G ob ot L M t lv st w Q) (h2 : B → kz V G ob ot L M (pc + 3) lv st w Q) : kz V G ob ot L M pc lv (.int y :: .int x :: st) w Q := by
  intro F hF X hX
  refine ky_icmp hd ht (fun hc => ?_) (fun hc => ?_)
  · have e : y ≤ x := of_decide_eq_true hc
    rw [if_pos e] at h
    exact h1 h F hF X hX
  · have e : ¬ (y ≤ x) := of_decide_eq_false hc
    rw [if_neg e] at h
    exact h2 h F hF X hX
theorem kz_if_gt {off : Int} (hd : decode M.2.1 pc = .ok (.ifCond .gt off, 3)) {t : Nat} (ht : kx_tg pc off = some t) {x : Int32} {A B : Prop} (h : if 0 < x then A else B) (h1 : A → kz V G ob ot L M t lv st w Q) (h2 : B → kz V G ob ot L M (pc + 3) lv st w Q) : kz V G ob ot L M pc lv (.int x :: st) w Q := by
  intro F hF X hX
  refine ky_if hd ht (fun hc => ?_) (fun hc => ?_)
  · have e : 0 < x := of_decide_eq_true hc
    rw [if_pos e] at h
    exact h1 h F hF X hX
  · have e : ¬ (0 < x) := of_decide_eq_false hc
    rw [if_neg e] at h
    exact h2 h F hF X hX
theorem kz_icmp_gt {off : Int} (hd : decode M.2.1 pc = .ok (.if_icmp .gt off, 3)) {t : Nat} (ht : kx_tg pc off = some t) {x y : Int32} {A B : Prop} (h : if y < x then A else B) (h1 : A → kz V G ob ot L M t lv st w Q) (h2 : B → kz V G ob ot L M (pc + 3) lv st w Q) : kz V G ob ot L M pc lv (.int y :: .int x :: st) w Q := by
  intro F hF X hX
  refine ky_icmp hd ht (fun hc => ?_) (fun hc => ?_)
  · have e : y < x := of_decide_eq_true hc
    rw [if_pos e] at h
    exact h1 h F hF X hX
  · have e : ¬ (y < x) := of_decide_eq_false hc
    rw [if_neg e] at h
    exact h2 h F hF X hX
theorem kz_if_le {off : Int} (hd : decode M.2.1 pc = .ok (.ifCond .le off, 3)) {t : Nat} (ht : kx_tg pc off = some t) {x : Int32} {A B : Prop} (h : if x ≤ 0 then A else B) (h1 : A → kz V G ob ot L M t lv st w Q) (h2 : B → kz V G ob ot L M (pc + 3) lv st w Q) : kz V G ob ot L M pc lv (.int x :: st) w Q := by
  intro F hF X hX
  refine ky_if hd ht (fun hc => ?_) (fun hc => ?_)
  · have e : x ≤ 0 := of_decide_eq_true hc
    rw [if_pos e] at h
    exact h1 h F hF X hX
  · have e : ¬ (x ≤ 0) := of_decide_eq_false hc
    rw [if_neg e] at h
    exact h2 h F hF X hX
theorem kz_icmp_le {off : Int} (hd : decode M.2.1 pc = .ok (.if_icmp .le off, 3)) {t : Nat} (ht : kx_tg pc off = some t) {x y : Int32} {A B : Prop} (h : if x ≤ y then A else B) (h1 : A → kz V G ob ot L M t lv st w Q) (h2 : B → kz V G ob ot L M (pc + 3) lv st w Q) : kz V G ob ot L M pc lv (.int y :: .int x :: st) w Q := by
  intro F hF X hX
  refine ky_icmp hd ht (fun hc => ?_) (fun hc => ?_)
  · have e : x ≤ y := of_decide_eq_true hc
    rw [if_pos e] at h
    exact h1 h F hF X hX
  · have e : ¬ (x ≤ y) := of_decide_eq_false hc
    rw [if_neg e] at h
    exact h2 h F hF X hX
theorem kz_aload_nv {k : Fin 4} {x : Option Nat} (hd : decode M.2.1 pc = .ok (.aload_n k, 1)) (h : kx_lk lv (k : Nat) = some (va_rf x)) (kk : kz V G ob ot L M (pc + 1) lv (va_rf x :: st) w Q) : kz V G ob ot L M pc lv st w Q := by
  cases x with
  | none => exact kz_aload_nN hd h kk
  | some a => exact kz_aload_n hd h kk
theorem kz_aloadv {k : Nat} {x : Option Nat} (hd : decode M.2.1 pc = .ok (.aload k, 2)) (h : kx_lk lv k = some (va_rf x)) (kk : kz V G ob ot L M (pc + 2) lv (va_rf x :: st) w Q) : kz V G ob ot L M pc lv st w Q := by
  cases x with
  | none => exact kz_aloadN hd h kk
  | some a => exact kz_aload hd h kk
theorem kz_astore_nv {k : Fin 4} {x : Option Nat} {lv' : kx_L} (hd : decode M.2.1 pc = .ok (.astore_n k, 1)) (h : kx_sto M.2.2.1 lv (k : Nat) (va_rf x) = some lv') (kk : kz V G ob ot L M (pc + 1) lv' st w Q) : kz V G ob ot L M pc lv (va_rf x :: st) w Q := by
  cases x with
  | none => exact kz_astore_nN hd h kk
  | some a => exact kz_astore_n hd h kk
theorem kz_astorev {k : Nat} {x : Option Nat} {lv' : kx_L} (hd : decode M.2.1 pc = .ok (.astore k, 2)) (h : kx_sto M.2.2.1 lv k (va_rf x) = some lv') (kk : kz V G ob ot L M (pc + 2) lv' st w Q) : kz V G ob ot L M pc lv (va_rf x :: st) w Q := by
  cases x with
  | none => exact kz_astoreN hd h kk
  | some a => exact kz_astore hd h kk
theorem kz_iret {ty : FieldType} (hd : decode M.2.1 pc = .ok (.ireturn, 1)) (hr : M.2.2.2.1 = some ty) {v : Int32} (hn : narrow ty (.int v) = .int v) (k : Q (.inl (some (.int v))) w) : kz V G ob ot L M pc lv [.int v] w Q := fun _ _ X hX => ky_iret hd hr hn ⟨w, hX, wle_rf w, rfl, rfl, k⟩
theorem kz_iretz (hd : decode M.2.1 pc = .ok (.ireturn, 1)) (hr : M.2.2.2.1 = some .boolean) {v : Int32} (hn : v = 0 ∨ v = 1) (k : Q (.inl (some (.int v))) w) : kz V G ob ot L M pc lv [.int v] w Q := by
  refine kz_iret hd hr ?_ k
  rcases hn with rfl | rfl
  · rfl
  · rfl
theorem kz_lret (hd : decode M.2.1 pc = .ok (.lreturn, 1)) (hr : M.2.2.2.1 = some .long) {v : Int64} (k : Q (.inl (some (.long v))) w) : kz V G ob ot L M pc lv [.long v] w Q := fun _ _ X hX => ky_end hd rfl rfl (v := some (.long v)) (by simp only [kx_end, hr]; simp) ⟨w, hX, wle_rf w, rfl, rfl, k⟩
theorem kz_ret (hd : decode M.2.1 pc = .ok (.return_, 1)) (hr : M.2.2.2.1 = none) (k : Q (.inl none) w) : kz V G ob ot L M pc lv [] w Q := fun _ _ X hX => ky_end hd rfl rfl (v := none) (by simp only [kx_end, hr]; simp) ⟨w, hX, wle_rf w, rfl, rfl, k⟩
theorem kz_areto {Cn : String} (hd : decode M.2.1 pc = .ok (.areturn, 1)) (hr : M.2.2.2.1 = some (.object Cn)) {x : Option Nat} (k : Q (.inl (some (va_rf x))) w) : kz V G ob ot L M pc lv [va_rf x] w Q := by
  intro F hF X hX
  cases x with
  | none => exact ky_end hd rfl rfl (v := some .null) (by show kx_end M .areturn 1 [.null] = _; simp only [kx_end, hr]; simp) ⟨w, hX, wle_rf w, rfl, rfl, k⟩
  | some a => exact ky_end hd rfl rfl (v := some (.ref a)) (by show kx_end M .areturn 1 [.ref a] = _; simp only [kx_end, hr]; simp) ⟨w, hX, wle_rf w, rfl, rfl, k⟩
theorem kz_areta {T : FieldType} (hd : decode M.2.1 pc = .ok (.areturn, 1)) (hr : M.2.2.2.1 = some (.array T)) {a : Nat} (k : Q (.inl (some (.ref a))) w) : kz V G ob ot L M pc lv [.ref a] w Q := fun _ _ X hX => ky_end hd rfl rfl (v := some (.ref a)) (by show kx_end M .areturn 1 [.ref a] = _; simp only [kx_end, hr]; simp) ⟨w, hX, wle_rf w, rfl, rfl, k⟩
theorem kz_ifnull {off : Int} (hd : decode M.2.1 pc = .ok (.ifnull off, 3)) {t : Nat} (ht : kx_tg pc off = some t) {x : Option Nat} {A B : Prop} (h : if x = none then A else B) (h1 : A → kz V G ob ot L M t lv st w Q) (h2 : B → kz V G ob ot L M (pc + 3) lv st w Q) : kz V G ob ot L M pc lv (va_rf x :: st) w Q := by
  cases x with
  | none =>
    rw [if_pos rfl] at h
    refine kz_s hd (fun X => ?_) (h1 h)
    show kx_st1 V _ _ _ (.ifnull off) 3 pc lv (.null :: st) X = _
    simp only [kx_st1, ht, if_pos]
  | some a =>
    rw [if_neg (fun e => nomatch e)] at h
    refine kz_s hd (fun X => ?_) (h2 h)
    show kx_st1 V _ _ _ (.ifnull off) 3 pc lv (.ref a :: st) X = _
    simp only [kx_st1, if_pos]
theorem kz_ifnonnull {off : Int} (hd : decode M.2.1 pc = .ok (.ifnonnull off, 3)) {t : Nat} (ht : kx_tg pc off = some t) {x : Option Nat} {A B : Prop} (h : if ¬ x = none then A else B) (h1 : A → kz V G ob ot L M t lv st w Q) (h2 : B → kz V G ob ot L M (pc + 3) lv st w Q) : kz V G ob ot L M pc lv (va_rf x :: st) w Q := by
  cases x with
  | none =>
    rw [if_neg (fun e => e rfl)] at h
    refine kz_s hd (fun X => ?_) (h2 h)
    show kx_st1 V _ _ _ (.ifnonnull off) 3 pc lv (.null :: st) X = _
    simp only [kx_st1, if_pos]
  | some a =>
    rw [if_pos (fun e => nomatch e)] at h
    refine kz_s hd (fun X => ?_) (h1 h)
    show kx_st1 V _ _ _ (.ifnonnull off) 3 pc lv (.ref a :: st) X = _
    simp only [kx_st1, ht, if_pos]
end KZO
