/-- one instruction that is no call and no end: the program counter, locals, stack, heap behind it; how many cells and slots it makes -/
def kx_st1 (V : kx_V) (own mn : String) (nL : Nat) (i : Instr) (len pc : Nat) (lv : kx_L) (st : List Value) (X : kx_X) : Option kx_N := match i with
  | .iconst n => if len = 1 then some (pc + 1, lv, .int (Int32.ofInt n) :: st, X, 0, 0) else none
  | .bipush n => if len = 2 then some (pc + 2, lv, .int (Int8.ofInt n).toInt32 :: st, X, 0, 0) else none
  | .sipush n => if len = 3 then some (pc + 3, lv, .int (Int16.ofInt n).toInt32 :: st, X, 0, 0) else none
  | .lconst n => if len = 1 then some (pc + 1, lv, .long (Int64.ofNat (n : Nat)) :: st, X, 0, 0) else none
  | .aconst_null => if len = 1 then some (pc + 1, lv, .null :: st, X, 0, 0) else none
  | .iload_n k => if len = 1 then match kx_lk lv k with
      | some (.int x) => some (pc + 1, lv, .int x :: st, X, 0, 0)
      | _ => none
    else none
  | .iload k => if len = 2 then match kx_lk lv k with
      | some (.int x) => some (pc + 2, lv, .int x :: st, X, 0, 0)
      | _ => none
    else none
  | .lload_n k => if len = 1 then match kx_lk lv k with
      | some (.long x) => some (pc + 1, lv, .long x :: st, X, 0, 0)
      | _ => none
    else none
  | .lload k => if len = 2 then match kx_lk lv k with
      | some (.long x) => some (pc + 2, lv, .long x :: st, X, 0, 0)
      | _ => none
    else none
  | .aload_n k => if len = 1 then match kx_lk lv k with
      | some (.ref x) => some (pc + 1, lv, .ref x :: st, X, 0, 0)
      | some .null => some (pc + 1, lv, .null :: st, X, 0, 0)
      | _ => none
    else none
  | .aload k => if len = 2 then match kx_lk lv k with
      | some (.ref x) => some (pc + 2, lv, .ref x :: st, X, 0, 0)
      | some .null => some (pc + 2, lv, .null :: st, X, 0, 0)
      | _ => none
    else none
  | .istore_n k => if len = 1 then match st with
      | .int x :: r => match kx_sto nL lv k (.int x) with
        | some lv' => some (pc + 1, lv', r, X, 0, 0)
        | none => none
      | _ => none
    else none
  | .istore k => if len = 2 then match st with
      | .int x :: r => match kx_sto nL lv k (.int x) with
        | some lv' => some (pc + 2, lv', r, X, 0, 0)
        | none => none
      | _ => none
    else none
  | .lstore_n k => if len = 1 then match st with
      | .long x :: r => match kx_stw nL lv k (.long x) with
        | some lv' => some (pc + 1, lv', r, X, 0, 0)
        | none => none
      | _ => none
    else none
  | .lstore k => if len = 2 then match st with
      | .long x :: r => match kx_stw nL lv k (.long x) with
        | some lv' => some (pc + 2, lv', r, X, 0, 0)
        | none => none
      | _ => none
    else none
  | .astore_n k => if len = 1 then match st with
      | .ref x :: r => match kx_sto nL lv k (.ref x) with
        | some lv' => some (pc + 1, lv', r, X, 0, 0)
        | none => none
      | .null :: r => match kx_sto nL lv k .null with
        | some lv' => some (pc + 1, lv', r, X, 0, 0)
        | none => none
      | _ => none
    else none
  | .astore k => if len = 2 then match st with
      | .ref x :: r => match kx_sto nL lv k (.ref x) with
        | some lv' => some (pc + 2, lv', r, X, 0, 0)
        | none => none
      | .null :: r => match kx_sto nL lv k .null with
        | some lv' => some (pc + 2, lv', r, X, 0, 0)
        | none => none
      | _ => none
    else none
  | .iinc k n => if len = 3 then match kx_lk lv k with
      | some (.int x) => match kx_sto nL lv k (.int (x + Int32.ofInt n)) with
        | some lv' => some (pc + 3, lv', st, X, 0, 0)
        | none => none
      | _ => none
    else none
  | .iadd => if len = 1 then match st with
      | .int y :: .int x :: r => some (pc + 1, lv, .int (x + y) :: r, X, 0, 0)
      | _ => none
    else none
  | .isub => if len = 1 then match st with
      | .int y :: .int x :: r => some (pc + 1, lv, .int (x - y) :: r, X, 0, 0)
      | _ => none
    else none
  | .imul => if len = 1 then match st with
      | .int y :: .int x :: r => some (pc + 1, lv, .int (x * y) :: r, X, 0, 0)
      | _ => none
    else none
  | .iand => if len = 1 then match st with
      | .int y :: .int x :: r => some (pc + 1, lv, .int (x &&& y) :: r, X, 0, 0)
      | _ => none
    else none
  | .ior => if len = 1 then match st with
      | .int y :: .int x :: r => some (pc + 1, lv, .int (x ||| y) :: r, X, 0, 0)
      | _ => none
    else none
  | .ixor => if len = 1 then match st with
      | .int y :: .int x :: r => some (pc + 1, lv, .int (x ^^^ y) :: r, X, 0, 0)
      | _ => none
    else none
  | .idiv => if len = 1 then match st with
      | .int y :: .int x :: r => if y = 0 then none else some (pc + 1, lv, .int (x / y) :: r, X, 0, 0)
      | _ => none
    else none
  | .irem => if len = 1 then match st with
      | .int y :: .int x :: r => if y = 0 then none else some (pc + 1, lv, .int (x - x / y * y) :: r, X, 0, 0)
      | _ => none
    else none
  | .ineg => if len = 1 then match st with
      | .int x :: r => some (pc + 1, lv, .int (-x) :: r, X, 0, 0)
      | _ => none
    else none
  | .ishl => if len = 1 then match st with
      | .int y :: .int x :: r => some (pc + 1, lv, .int (x <<< (y &&& 31)) :: r, X, 0, 0)
      | _ => none
    else none
  | .ishr => if len = 1 then match st with
      | .int y :: .int x :: r => some (pc + 1, lv, .int (x >>> (y &&& 31)) :: r, X, 0, 0)
      | _ => none
    else none
  | .iushr => if len = 1 then match st with
      | .int y :: .int x :: r => some (pc + 1, lv, .int (x.toUInt32 >>> (y.toUInt32 &&& Int32.toUInt32 31)).toInt32 :: r, X, 0, 0)
      | _ => none
    else none
  | .ladd => if len = 1 then match st with
      | .long y :: .long x :: r => some (pc + 1, lv, .long (x + y) :: r, X, 0, 0)
      | _ => none
    else none
  | .lsub => if len = 1 then match st with
      | .long y :: .long x :: r => some (pc + 1, lv, .long (x - y) :: r, X, 0, 0)
      | _ => none
    else none
  | .lmul => if len = 1 then match st with
      | .long y :: .long x :: r => some (pc + 1, lv, .long (x * y) :: r, X, 0, 0)
      | _ => none
    else none
  | .land => if len = 1 then match st with
      | .long y :: .long x :: r => some (pc + 1, lv, .long (x &&& y) :: r, X, 0, 0)
      | _ => none
    else none
  | .lor => if len = 1 then match st with
      | .long y :: .long x :: r => some (pc + 1, lv, .long (x ||| y) :: r, X, 0, 0)
      | _ => none
    else none
  | .ldiv => if len = 1 then match st with
      | .long y :: .long x :: r => if y = 0 then none else some (pc + 1, lv, .long (x / y) :: r, X, 0, 0)
      | _ => none
    else none
  | .lrem => if len = 1 then match st with
      | .long y :: .long x :: r => if y = 0 then none else some (pc + 1, lv, .long (x - x / y * y) :: r, X, 0, 0)
      | _ => none
    else none
  | .lneg => if len = 1 then match st with
      | .long x :: r => some (pc + 1, lv, .long (-x) :: r, X, 0, 0)
      | _ => none
    else none
  | .lshl => if len = 1 then match st with
      | .int y :: .long x :: r => some (pc + 1, lv, .long (x <<< (y.toInt64 &&& 63)) :: r, X, 0, 0)
      | _ => none
    else none
  | .lcmp => if len = 1 then match st with
      | .long y :: .long x :: r => some (pc + 1, lv, .int (lg_cmp x y) :: r, X, 0, 0)
      | _ => none
    else none
  | .i2l => if len = 1 then match st with
      | .int x :: r => some (pc + 1, lv, .long x.toInt64 :: r, X, 0, 0)
      | _ => none
    else none
  | .l2i => if len = 1 then match st with
      | .long x :: r => some (pc + 1, lv, .int x.toInt32 :: r, X, 0, 0)
      | _ => none
    else none
  | .i2b => if len = 1 then match st with
      | .int x :: r => some (pc + 1, lv, .int x.toInt8.toInt32 :: r, X, 0, 0)
      | _ => none
    else none
  | .i2c => if len = 1 then match st with
      | .int x :: r => some (pc + 1, lv, .int (x.toUInt32 % 65536).toInt32 :: r, X, 0, 0)
      | _ => none
    else none
  | .dup => if len = 1 then match st with
      | a :: r => if a.category = 1 then some (pc + 1, lv, a :: a :: r, X, 0, 0) else none
      | _ => none
    else none
  | .pop => if len = 1 then match st with
      | a :: r => if a.category = 1 then some (pc + 1, lv, r, X, 0, 0) else none
      | _ => none
    else none
  | .dup_x1 => if len = 1 then match st with
      | a :: b :: r => if a.category = 1 ∧ b.category = 1 then some (pc + 1, lv, a :: b :: a :: r, X, 0, 0) else none
      | _ => none
    else none
  | .dup2 => if len = 1 then match st with
      | a :: b :: r => if a.category = 1 ∧ b.category = 1 then some (pc + 1, lv, a :: b :: a :: b :: r, X, 0, 0) else none
      | _ => none
    else none
  | .ifCond cd off => if len = 3 then match st with
      | .int x :: r => match kx_tg pc off with
        | some t => if kx_c1 cd x = true then some (t, lv, r, X, 0, 0) else some (pc + 3, lv, r, X, 0, 0)
        | none => none
      | _ => none
    else none
  | .if_icmp cd off => if len = 3 then match st with
      | .int y :: .int x :: r => match kx_tg pc off with
        | some t => if kx_c2 cd x y = true then some (t, lv, r, X, 0, 0) else some (pc + 3, lv, r, X, 0, 0)
        | none => none
      | _ => none
    else none
  | .if_acmp cd off => if len = 3 then match st with
      | b :: a :: r => match kx_rf a, kx_rf b, kx_tg pc off with
        | some x, some y, some t => (match cd with
          | .eq => if x = y then some (t, lv, r, X, 0, 0) else some (pc + 3, lv, r, X, 0, 0)
          | .ne => if x = y then some (pc + 3, lv, r, X, 0, 0) else some (t, lv, r, X, 0, 0))
        | _, _, _ => none
      | _ => none
    else none
  | .ifnull off => if len = 3 then match st with
      | .ref _ :: r => some (pc + 3, lv, r, X, 0, 0)
      | .null :: r => match kx_tg pc off with
        | some t => some (t, lv, r, X, 0, 0)
        | none => none
      | _ => none
    else none
  | .ifnonnull off => if len = 3 then match st with
      | .null :: r => some (pc + 3, lv, r, X, 0, 0)
      | .ref _ :: r => match kx_tg pc off with
        | some t => some (t, lv, r, X, 0, 0)
        | none => none
      | _ => none
    else none
  | .goto off => if len = 3 then match kx_tg pc off with
      | some t => some (t, lv, st, X, 0, 0)
      | none => none
    else none
  | .tableswitch dflt lo hi offs => match st with
      | .int x :: r => if x.toInt < lo ∨ hi < x.toInt then (match kx_tg pc dflt with
          | some t => some (t, lv, r, X, 0, 0)
          | none => none)
        else match offs[(x.toInt - lo).toNat]? with
          | some off => match kx_tg pc off with
            | some t => some (t, lv, r, X, 0, 0)
            | none => none
          | none => none
      | _ => none
  | .lookupswitch dflt ps => match st with
      | .int x :: r => if (ps.toList.zip (ps.toList.drop 1)).all (fun (a, next) => a.1 < next.1) = true then match kx_tg pc (Op.lookupswitch.offset ps.toList dflt x.toInt) with
          | some t => some (t, lv, r, X, 0, 0)
          | none => none
        else none
      | _ => none
  | .ldc j => if len = 2 then match kx_ci V own j, kx_rv V own j with
      | some v, _ => some (pc + 2, lv, .int v :: st, X, 0, 0)
      | none, some q => some (pc + 2, lv, .ref q :: st, X, 0, 0)
      | none, none => none
    else none
  | .ldc_w j => if len = 3 then match kx_ci V own j with
      | some v => some (pc + 3, lv, .int v :: st, X, 0, 0)
      | none => none
    else none
  | .ldc2_w j => if len = 3 then match kx_cL V own j with
      | some v => some (pc + 3, lv, .long v :: st, X, 0, 0)
      | none => none
    else none
  | .getstatic j => if len = 3 then match kx_fl V own j with
      | some (r, n, d) => match kx_sv V r n d with
        | some v => some (pc + 3, lv, v :: st, X, 0, 0)
        | none => none
      | none => none
    else none
  | .getfield j => if len = 3 then match st with
      | .ref a :: r => match X.1 a with
        | some (.inr (ci, fs)) => match (kx_cl V)[ci]?, kx_fl V own j with
          | some (_, T, N), some q => match kx_fk T N q with
            | some k => match fs[k]? with
              | some v => some (pc + 3, lv, v :: r, X, 0, 0)
              | none => none
            | none => none
          | _, _ => none
        | _ => none
      | _ => none
    else none
  | .putfield j => if len = 3 then match st with
      | v :: .ref a :: r => match X.1 a with
        | some (.inr (ci, fs)) => match (kx_cl V)[ci]?, kx_fl V own j with
          | some (_, T, N), some q => match kx_fk T N q with
            | some k => match parseFieldDescriptor q.2.2 with
              | some ty => if kx_lo V ≤ a ∧ narrow ty v = v ∧ fits ty v = true ∧ k < fs.length ∧ ((T k).2.2.2 = false ∨ (mn = "<init>" ∧ q.1 = own)) then some (pc + 3, lv, r, kx_set X a (.inr (ci, fs.set k v)), 0, 0) else none
              | none => none
            | none => none
          | _, _ => none
        | _ => none
      | _ => none
    else none
  | .arraylength => if len = 1 then match st with
      | .ref a :: r => match X.1 a with
        | some (.inl (k, x)) => if k < (kx_tl V).length then some (pc + 1, lv, .int (Int32.ofNat x.1) :: r, X, 0, 0) else none
        | _ => match kx_ro V a with
          | some (_, n, _) => some (pc + 1, lv, .int (Int32.ofNat n) :: r, X, 0, 0)
          | none => none
      | _ => none
    else none
  | .iaload => if len = 1 then match st with
      | .int i :: .ref a :: r => match X.1 a with
        | some (.inl (k, n, .inl f)) => if (kx_tl V)[k]? = some .int ∧ kx_inb i n = true then some (pc + 1, lv, .int (f i.toNatClampNeg) :: r, X, 0, 0) else none
        | _ => match kx_ro V a with
          | some (k, n, f) => if (kx_tl V)[k]? = some .int ∧ kx_inb i n = true then some (pc + 1, lv, .int (f i.toNatClampNeg) :: r, X, 0, 0) else none
          | none => none
      | _ => none
    else none
  | .baload => if len = 1 then match st with
      | .int i :: .ref a :: r => match X.1 a with
        | some (.inl (k, n, .inl f)) => if ((kx_tl V)[k]? = some .byte ∨ (kx_tl V)[k]? = some .boolean) ∧ kx_inb i n = true then some (pc + 1, lv, .int (f i.toNatClampNeg) :: r, X, 0, 0) else none
        | _ => match kx_ro V a with
          | some (k, n, f) => if (kx_tl V)[k]? = some .byte ∧ kx_inb i n = true then some (pc + 1, lv, .int (f i.toNatClampNeg) :: r, X, 0, 0) else none
          | none => none
      | _ => none
    else none
  | .laload => if len = 1 then match st with
      | .int i :: .ref a :: r => match X.1 a with
        | some (.inl (k, n, .inr (.inl f))) => if (kx_tl V)[k]? = some .long ∧ kx_inb i n = true then some (pc + 1, lv, .long (f i.toNatClampNeg) :: r, X, 0, 0) else none
        | _ => none
      | _ => none
    else none
  | .aaload => if len = 1 then match st with
      | .int i :: .ref a :: r => match X.1 a with
        | some (.inl (k, n, .inr (.inr (.inr (.inr f))))) => match (kx_tl V)[k]? with
          | some ty => if ty.isReference = true ∧ kx_inb i n = true then some (pc + 1, lv, va_rf (f i.toNatClampNeg) :: r, X, 0, 0) else none
          | none => none
        | _ => none
      | _ => none
    else none
  | .iastore => if len = 1 then match st with
      | .int x :: .int i :: .ref a :: r => match X.1 a with
        | some (.inl (k, n, .inl f)) => if kx_lo V ≤ a ∧ (kx_tl V)[k]? = some .int ∧ kx_inb i n = true then some (pc + 1, lv, r, kx_set X a (.inl (k, n, .inl (upd f i.toNatClampNeg x))), 0, 0) else none
        | _ => none
      | _ => none
    else none
  | .bastore => if len = 1 then match st with
      | .int x :: .int i :: .ref a :: r => match X.1 a with
        | some (.inl (k, n, .inl f)) => if kx_lo V ≤ a ∧ kx_inb i n = true then
            (if (kx_tl V)[k]? = some .byte then some (pc + 1, lv, r, kx_set X a (.inl (k, n, .inl (upd f i.toNatClampNeg (vp_nar .byte x)))), 0, 0)
            else if (kx_tl V)[k]? = some .boolean then some (pc + 1, lv, r, kx_set X a (.inl (k, n, .inl (upd f i.toNatClampNeg (vp_nar .boolean x)))), 0, 0)
            else none) else none
        | _ => none
      | _ => none
    else none
  | .lastore => if len = 1 then match st with
      | .long x :: .int i :: .ref a :: r => match X.1 a with
        | some (.inl (k, n, .inr (.inl f))) => if kx_lo V ≤ a ∧ (kx_tl V)[k]? = some .long ∧ kx_inb i n = true then some (pc + 1, lv, r, kx_set X a (.inl (k, n, .inr (.inl (vp_updL f i.toNatClampNeg x)))), 0, 0) else none
        | _ => none
      | _ => none
    else none
  | .aastore => if len = 1 then match st with
      | .ref v :: .int i :: .ref a :: r => match X.1 a with
        | some (.inl (k, n, .inr (.inr (.inr (.inr f))))) => if kx_lo V ≤ a ∧ kx_inb i n = true then match X.1 v with
          | some (.inr (ci, _)) => match (kx_cl V)[ci]? with
            | some q => if (kx_tl V)[k]? = some (.object q.1) then some (pc + 1, lv, r, kx_set X a (.inl (k, n, .inr (.inr (.inr (.inr (va_up f i.toNatClampNeg (some v))))))), 0, 0) else none
            | none => none
          | some (.inl (k2, _)) => if (kx_tl V)[k]? = some (.array .int) ∧ (kx_tl V)[k2]? = some .int then some (pc + 1, lv, r, kx_set X a (.inl (k, n, .inr (.inr (.inr (.inr (va_up f i.toNatClampNeg (some v))))))), 0, 0) else none
          | none => none
          else none
        | _ => none
      | _ => none
    else none
  | .newarray t => if len = 2 then match st with
      | .int n :: r => match kx_na t n.toNatClampNeg with
        | some a0 => match (kx_tl V).findIdx? (fun y => y == newarray.typeOf t) with
          | some k => if ¬ n < 0 ∧ n.toNatClampNeg * componentBytes (newarray.typeOf t) ≤ 536870912 ∧ (kx_tl V)[k]? = some (newarray.typeOf t) ∧ Jvm.Cond.arrayClass (newarray.typeOf t) ∈ kx_Tb V then some (pc + 2, lv, .ref X.2 :: r, kx_push X (.inl (k, a0)), 1, n.toNatClampNeg) else none
          | none => none
        | none => none
      | _ => none
    else none
  | .new j => if len = 3 then match kx_kl V own j with
      | some C => match (kx_cl V).findIdx? (fun q => q.1 == C) with
        | some ci => match (kx_cl V)[ci]? with
          | some (C', T, N) => if C' = C ∧ Jvm.Cond.instantiable C N ∈ kx_Tb V ∧ Jvm.Cond.initialized C ∈ kx_Tb V then some (pc + 3, lv, .ref X.2 :: st, kx_push X (.inr (ci, kx_dv T N)), 1, N) else none
          | none => none
        | none => none
      | none => none
    else none
  | .anewarray j => if len = 3 then match st with
      | .int n :: r => match kx_kl V own j with
        | some C => if ¬ n < 0 ∧ n.toNatClampNeg * 4 ≤ 536870912 then (match (kx_tl V).findIdx? (fun y => y == .object C) with
            | some k => if (kx_tl V)[k]? = some (.object C) ∧ Jvm.Cond.arrayOver (.object C) ∈ kx_Ns V then some (pc + 3, lv, .ref X.2 :: r, kx_push X (.inl (k, n.toNatClampNeg, .inr (.inr (.inr (.inr (fun _ => none)))))), 1, n.toNatClampNeg) else none
            | none => if C = (FieldType.array .int).toString then (match (kx_tl V).findIdx? (fun y => y == .array .int) with
              | some k => if (kx_tl V)[k]? = some (.array .int) ∧ Jvm.Cond.arrayOver (.array .int) ∈ kx_Ns V then some (pc + 3, lv, .ref X.2 :: r, kx_push X (.inl (k, n.toNatClampNeg, .inr (.inr (.inr (.inr (fun _ => none)))))), 1, n.toNatClampNeg) else none
              | none => none) else none) else none
        | none => none
      | _ => none
    else none
  | _ => none
