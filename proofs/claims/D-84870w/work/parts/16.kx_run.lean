/-! ===== THE MACHINE IN ONE THEOREM, part 5: the run of a method over the abstract heap ===== -/
abbrev kx_Rs : Type := Option Value ⊕ String
/-- how a run ends: an answer or an exception's class, the heap, how many cells and slots it made -/
abbrev kx_Z : Type := kx_Rs × kx_X × Nat × Nat
def kx_add (dc ds : Nat) (z : Option kx_Z) : Option kx_Z := z.map (fun q => (q.1, q.2.1, dc + q.2.2.1, ds + q.2.2.2))
def kx_mn (Ns : List Jvm.Cond) (own : String) (i : Nat) : Option (MethodName × String) := Ns.findSome? (fun w => match w with
  | .methodLinkNest o j y h => if j = i ∧ o = own then some (y, h) else none
  | _ => none)
def kx_fn (Ns : List Jvm.Cond) (own : String) (i : Nat) : Option ((String × String × String) × String) := Ns.findSome? (fun w => match w with
  | .fieldLinkNest o j r n d h => if j = i ∧ o = own then some ((r, n, d), h) else none
  | _ => none)
def kx_np (y : MethodName) : Option Nat := (parseMethodDescriptor y.desc).map (fun d => d.parameters.length)
theorem kx_mn_mem {Ns : List Jvm.Cond} {own : String} {i : Nat} {y : MethodName} {host : String} (h : kx_mn Ns own i = some (y, host)) : Jvm.Cond.methodLinkNest own i y host ∈ Ns := by
  obtain ⟨w, hw, h1⟩ := List.exists_of_findSome?_eq_some h
  split at h1
  · split at h1
    · rename_i hc
      obtain ⟨rfl, rfl⟩ := hc
      cases h1
      exact hw
    · cases h1
  · cases h1
theorem kx_fn_mem {Ns : List Jvm.Cond} {own : String} {i : Nat} {r n d host : String} (h : kx_fn Ns own i = some ((r, n, d), host)) : Jvm.Cond.fieldLinkNest own i r n d host ∈ Ns := by
  obtain ⟨w, hw, h1⟩ := List.exists_of_findSome?_eq_some h
  split at h1
  · split at h1
    · rename_i hc
      obtain ⟨rfl, rfl⟩ := hc
      cases h1
      exact hw
    · cases h1
  · cases h1
def kx_arg (n : Nat) (st : List Value) : Option (List Value × List Value) := if n ≤ st.length then some ((st.take n).reverse, st.drop n) else none
theorem kx_arg_eq {n : Nat} {st As rest : List Value} (h : kx_arg n st = some (As, rest)) : st = As.reverse ++ rest ∧ As.length = n := by
  unfold kx_arg at h
  split at h
  · cases h
    simp [*]
  · cases h
def kx_cat (st : List Value) : Nat := (st.map fun v => v.category).sum
/-- the classes above an exception's class, up to java/lang/Throwable -/
def kx_xn (C : String) : Option (List String) := if C = "java/lang/ArithmeticException" ∨ C = "java/lang/IllegalStateException" ∨ C = "java/lang/IllegalArgumentException" then some ["java/lang/RuntimeException", "java/lang/Exception"] else none
/-- steps that need the room too, or carried words: Object.<init>, a nest mate's field, arraycopy, an exception that is made -/
def kx_st2 (V : kx_V) (F L : Nat) (M : kx_M) (i : Instr) (len pc : Nat) (lv : kx_L) (st : List Value) (X : kx_X) : Option kx_N := match i with
  | .invokespecial j => if len = 3 then match st with
      | .ref _ :: r => if kx_ml V M.1.cls j = some Lib.objectInit ∧ Jvm.Cond.instanceMethod Lib.objectInit ∈ kx_Tb V ∧ Jvm.Cond.code Lib.objectInit ⟨#[0xb1]⟩ 1 none ∈ kx_Tb V ∧ 1 ≤ F ∧ kx_cat r + 12 ≤ L then some (pc + 3, lv, r, X, 0, 0) else none
      | _ => none
    else none
  | .getfield j => if len = 3 then match st with
      | .ref a :: r => match X.1 a with
        | some (.inr (ci, fs)) => match (kx_cl V)[ci]?, kx_fn (kx_Ns V) M.1.cls j with
          | some (_, T, N), some (q, _) => match kx_fk T N q with
            | some k => match fs[k]? with
              | some v => some (pc + 3, lv, v :: r, X, 0, 0)
              | none => none
            | none => none
          | _, _ => none
        | none => match kx_oo V a, kx_fl V M.1.cls j with
          | some (_, fs), some (rf, n, d) => match fs.find? (fun q => decide (q.1 = rf ∧ q.2.1 = n ∧ q.2.2.1 = d)) with
            | some q => some (pc + 3, lv, q.2.2.2 :: r, X, 0, 0)
            | none => none
          | _, _ => none
        | _ => none
      | _ => none
    else none
  | .aastore => if len = 1 then match st with
      | .ref v :: .int i :: .ref a :: r => match X.1 a, kx_oo V v with
        | some (.inl (k, n, .inr (.inr (.inr (.inr f))))), some (C, _) => if kx_lo V ≤ a ∧ kx_inb i n = true ∧ (kx_tl V)[k]? = some (.object C) then some (pc + 1, lv, r, kx_set X a (.inl (k, n, .inr (.inr (.inr (.inr (va_up f i.toNatClampNeg (some v))))))), 0, 0) else none
        | _, _ => none
      | _ => none
    else none
  | .invokestatic j => if len = 3 ∧ kx_ml V M.1.cls j = some arraycopyName ∧ Jvm.Cond.native arraycopyName ∈ kx_Tb V ∧ Jvm.Cond.static arraycopyName ∈ kx_Tb V ∧ Jvm.Cond.initialized "java/lang/System" ∈ kx_Tb V then match st with
      | .int n :: .int dp :: .ref a :: .int sp :: .ref a0 :: r => if ¬ sp < 0 ∧ ¬ dp < 0 ∧ ¬ n < 0 ∧ kx_lo V ≤ a ∧ 1 ≤ F ∧ kx_cat r + (nativeFrameWords "java/lang/System" "arraycopy" 5 + 11) ≤ L then match X.1 a0, X.1 a with
          | some (.inl (k0, n0, .inl f)), some (.inl (k1, n1, .inl g)) => match (kx_tl V)[k0]? with
            | some ty => if (kx_tl V)[k1]? = some ty ∧ refKind ty = false ∧ sp.toNatClampNeg + n.toNatClampNeg ≤ n0 ∧ dp.toNatClampNeg + n.toNatClampNeg ≤ n1 ∧ (List.range n.toNatClampNeg).all (fun i => fits ty (.int (f (sp.toNatClampNeg + i)))) = true then some (pc + 3, lv, r, kx_set X a (.inl (k1, n1, .inl (va_cpy f g sp.toNatClampNeg dp.toNatClampNeg n.toNatClampNeg))), 0, 0) else none
            | none => none
          | some (.inl (k0, n0, .inr (.inr (.inr (.inr f))))), some (.inl (k1, n1, .inr (.inr (.inr (.inr g))))) => match (kx_tl V)[k0]?, (kx_tl V)[k1]? with
            | some (.object _), some (.object E1) => match (kx_cl V).findIdx? (fun q => q.1 == E1) with
              | some ci => match (kx_cl V)[ci]? with
                | some q => if q.1 = E1 ∧ sp.toNatClampNeg + n.toNatClampNeg ≤ n0 ∧ dp.toNatClampNeg + n.toNatClampNeg ≤ n1 ∧ (List.range n.toNatClampNeg).all (fun i => match f (sp.toNatClampNeg + i) with
                    | none => true
                    | some y => match X.1 y with
                      | some (.inr (c2, _)) => c2 == ci
                      | _ => false) = true then some (pc + 3, lv, r, kx_set X a (.inl (k1, n1, .inr (.inr (.inr (.inr (va_cpy f g sp.toNatClampNeg dp.toNatClampNeg n.toNatClampNeg)))))), 0, 0) else none
                | none => none
              | none => none
            | _, _ => none
          | _, _ => none
          else none
      | _ => none
    else if len = 3 ∧ kx_ml V M.1.cls j = some Lib.Math.max.name ∧ Jvm.Cond.static Lib.Math.max.name ∈ kx_Tb V ∧ Jvm.Cond.initialized "java/lang/Math" ∈ kx_Tb V ∧ Jvm.Cond.code Lib.Math.max.name Lib.Math.max.code 2 (some .int) ∈ kx_Tb V then match st with
      | .int y :: .int x :: r => if 1 ≤ F ∧ kx_cat r + 13 ≤ L then some (pc + 3, lv, .int (if x < y then y else x) :: r, X, 0, 0) else none
      | _ => none
    else if len = 3 ∧ kx_ml V M.1.cls j = some Lib.Math.min.name ∧ Jvm.Cond.static Lib.Math.min.name ∈ kx_Tb V ∧ Jvm.Cond.initialized "java/lang/Math" ∈ kx_Tb V ∧ Jvm.Cond.code Lib.Math.min.name Lib.Math.min.code 2 (some .int) ∈ kx_Tb V then match st with
      | .int y :: .int x :: r => if 1 ≤ F ∧ kx_cat r + 13 ≤ L then some (pc + 3, lv, .int (if y < x then y else x) :: r, X, 0, 0) else none
      | _ => none
    else if len = 3 ∧ kx_ml V M.1.cls j = some Lib.MathLoose.min_long.x ∧ Jvm.Cond.static Lib.MathLoose.min_long.x ∈ kx_Tb V ∧ Jvm.Cond.initialized "java/lang/Math" ∈ kx_Tb V ∧ Jvm.Cond.code Lib.MathLoose.min_long.x Lib.MathLoose.min_long.code 4 (some .long) ∈ kx_Tb V then match st with
      | .long y :: .long x :: r => if 1 ≤ F ∧ kx_cat r + 15 ≤ L then some (pc + 3, lv, .long (if y < x then y else x) :: r, X, 0, 0) else none
      | _ => none
    else none
  | .new j => if len = 3 then match kx_kl V M.1.cls j with
      | some C => match kx_xn C, decode M.2.1 (pc + 3), decode M.2.1 (pc + 4), (kx_cl V).findIdx? (fun q => q.1 == C) with
        | some names, .ok (.dup, 1), .ok (.invokespecial ic, 3), some ci => match (kx_cl V)[ci]? with
          | some (C', _, N) => if C' = C ∧ N = 0 ∧ Bundle.fit C = true ∧ (names.all (fun n => Bundle.fit n)) = true ∧ Jvm.Cond.initialized C ∈ kx_Tb V ∧ ((vx_at0 M.1.cls ic C names).all (fun w => decide (w ∈ kx_Tb V) || (decide (w ∈ kx_Ns V) && (match w with
              | .castable .. => true
              | .declares .. => true
              | _ => false)))) = true ∧ ((Jvm.Cond.classLink M.1.cls j C :: Jvm.Cond.initialized C :: vx_at0 M.1.cls ic C names).all vx_ot) = true ∧ names.length + 3 < F ∧ kx_cat st + (13 * (names.length + 1) + 42) ≤ L then some (pc + 7, lv, .ref X.2 :: st, kx_push X (.inr (ci, [])), 1, 6) else none
          | none => none
        | _, _, _, _ => none
      | none => none
    else none
  | .ldc_w j => if len = 3 then match kx_ci V M.1.cls j, kx_rv V M.1.cls j with
      | none, some q => some (pc + 3, lv, .ref q :: st, X, 0, 0)
      | _, _ => none
    else none
  | _ => none
/-- a method's end with an answer -/
def kx_end (M : kx_M) (i : Instr) (len : Nat) (st : List Value) : Option (Option Value) := match i, st with
  | .return_, [] => if len = 1 ∧ M.2.2.2.1 = none then some none else none
  | .ireturn, [.int v] => match M.2.2.2.1 with
    | some ty => if len = 1 ∧ narrow ty (.int v) = .int v then some (some (.int v)) else none
    | none => none
  | .lreturn, [.long v] => if len = 1 ∧ M.2.2.2.1 = some .long then some (some (.long v)) else none
  | .areturn, [.ref a] => match M.2.2.2.1 with
    | some (.object _) => if len = 1 then some (some (.ref a)) else none
    | some (.array _) => if len = 1 then some (some (.ref a)) else none
    | _ => none
  | .areturn, [.null] => match M.2.2.2.1 with
    | some (.object _) => if len = 1 then some (some .null) else none
    | some (.array _) => if len = 1 then some (some .null) else none
    | _ => none
  | _, _ => none
/-- where an exception of class E is caught (none within: nowhere) -/
def kx_hd (V : kx_V) (own : String) (pc : Nat) (E : String) : List (Nat × Nat × Nat × Nat) → Option (Option Nat)
  | [] => some none
  | (a, b, h, ct) :: r => if covers ⟨a, b, h, ct⟩ pc = true then (if ct = 0 then none else match kx_kl V own ct with
      | some nm => if Jvm.Cond.castable E nm ∈ kx_Ns V then some (some h) else if Jvm.Cond.not (.castable E nm) ∈ kx_Ns V then kx_hd V own pc E r else none
      | none => none) else kx_hd V own pc E r
/-- a handler's first instruction stores the exception away: which one is not kept -/
def kx_hs (nL : Nat) (cc : ByteArray) (h : Nat) (lv : kx_L) : Option (Nat × kx_L) := match decode cc h with
  | .ok (.astore_n k, 1) => if (k : Nat) < nL then some (h + 1, lv.filter (fun q => !(q.1 == (k : Nat)) && !(q.1 + 1 == (k : Nat) && q.2.category == 2))) else none
  | .ok (.astore k, 2) => if k < nL then some (h + 2, lv.filter (fun q => !(q.1 == k) && !(q.1 + 1 == k && q.2.category == 2))) else none
  | _ => none
def kx_fit (F L : Nat) (M : kx_M) (As rest : List Value) : Bool := plainName M.1.cls && decide (M.1.cls ≠ "java/lang/invoke/MethodHandle") && decide (M.1.cls ≠ "java/lang/invoke/VarHandle") && decide (1 ≤ F) && decide (19 + M.2.2.1 ≤ L) && decide ((lg_sl As).length ≤ M.2.2.1) && decide (kx_cat rest ≤ 8)
/-- an object's class: of a new one, of an old one -/
def kx_cc (V : kx_V) (X : kx_X) (b : Nat) : Option String := match X.1 b with
  | some (.inr (ci, _)) => match (kx_cl V)[ci]? with
    | some (C, _, _) => some C
    | none => none
  | none => match kx_oo V b with
    | some (C, _) => some C
    | none => none
  | _ => none
/-- an invocation: the method, its arguments (the receiver first), what stays on the stack -/
def kx_inv (V : kx_V) (own : String) (F L : Nat) (i : Instr) (len : Nat) (st : List Value) (X : kx_X) : Option (kx_M × List Value × List Value) := match i with
  | .invokestatic j => if len = 3 then match kx_ml V own j with
      | some y => match kx_md V own j y, kx_np y with
        | some M, some k => match kx_arg k st with
          | some (As, rest) => if Jvm.Cond.static y ∈ kx_Tb V ∧ Jvm.Cond.initialized y.cls ∈ kx_Tb V ∧ kx_fit F L M As rest = true then some (M, As, rest) else none
          | none => none
        | _, _ => none
      | none => match kx_mn (kx_Ns V) own j with
        | some (y, _) => match kx_md V own j y, kx_np y with
          | some M, some k => match kx_arg k st with
            | some (As, rest) => if M.2.2.2.2 = none ∧ Jvm.Cond.static y ∈ kx_Tb V ∧ Jvm.Cond.initialized y.cls ∈ kx_Tb V ∧ kx_fit F L M As rest = true then some (M, As, rest) else none
            | none => none
          | _, _ => none
        | none => none
    else none
  | .invokespecial j => if len = 3 then match kx_ml V own j with
      | some y => match kx_md V own j y, kx_np y with
        | some M, some k => match kx_arg k st with
          | some (As, .ref b :: rest) => if M.2.2.2.2 = none ∧ M.2.2.2.1 = none ∧ y.name = "<init>" ∧ Jvm.Cond.instanceMethod y ∈ kx_Tb V ∧ Jvm.Cond.initialized y.cls ∈ kx_Tb V ∧ kx_fit F L M (.ref b :: As) rest = true then some (M, .ref b :: As, rest) else none
          | _ => none
        | _, _ => none
      | none => match kx_mn (kx_Ns V) own j with
        | some (y, _) => match kx_md V own j y, kx_np y with
          | some M, some k => match kx_arg k st with
            | some (As, .ref b :: rest) => if M.2.2.2.2 = none ∧ M.2.2.2.1 = none ∧ y.name = "<init>" ∧ Jvm.Cond.instanceMethod y ∈ kx_Tb V ∧ Jvm.Cond.initialized y.cls ∈ kx_Tb V ∧ kx_fit F L M (.ref b :: As) rest = true then some (M, .ref b :: As, rest) else none
            | _ => none
          | _, _ => none
        | none => none
    else none
  | .invokevirtual j => if len = 3 then match kx_ml V own j with
      | some y => match kx_np y with
        | some k => match kx_arg k st with
          | some (As, .ref b :: rest) => match kx_cc V X b with
              | some C => if y.cls = C ∧ Jvm.Cond.selects C y y ∈ kx_Tb V then (match kx_md V own j y with
                  | some M => if Jvm.Cond.instanceMethod y ∈ kx_Tb V ∧ Jvm.Cond.initialized C ∈ kx_Tb V ∧ kx_fit F L M (.ref b :: As) rest = true then some (M, .ref b :: As, rest) else none
                  | none => none)
                else (match kx_md V own j ⟨"java/lang/Enum", y.name, y.desc⟩ with
                  | some M => if M.2.2.2.2 = none ∧ ((va_wsU own j C "java/lang/Enum" y ⟨"java/lang/Enum", y.name, y.desc⟩ []).all (fun w => decide (w ∈ kx_Tb V))) = true ∧ kx_fit F L M (.ref b :: As) rest = true then some (M, .ref b :: As, rest) else none
                  | none => none)
              | none => none
          | _ => none
        | none => none
      | none => none
    else none
  | _ => none
/-- the run: fuel, frames, words of locals; the method, where it stands -/
def kx_run (V : kx_V) : Nat → Nat → Nat → kx_M → Nat → kx_L → List Value → kx_X → Option kx_Z
  | 0, _, _, _, _, _, _, _ => none
  | n + 1, F, L, M, pc, lv, st, X => match decode M.2.1 pc with
    | .error _ => none
    | .ok (i, len) => match kx_st1 V M.1.cls M.1.name M.2.2.1 i len pc lv st X with
      | some (pc', lv', st', X', dc, ds) => kx_add dc ds (kx_run V n F L M pc' lv' st' X')
      | none => match kx_st2 V F L M i len pc lv st X with
        | some (pc', lv', st', X', dc, ds) => kx_add dc ds (kx_run V n F L M pc' lv' st' X')
        | none => match kx_end M i len st with
          | some v => some (.inl v, X, 0, 0)
          | none => match kx_inv V M.1.cls F L i len st X with
            | some (M', As, rest) => match kx_run V n (F - 1) (L - (19 + M'.2.2.1)) M' 0 (lv_args 0 As) [] X with
              | some (.inl v, X', dc, ds) => kx_add dc ds (kx_run V n F L M (pc + 3) lv (v.toList ++ rest) X')
              | some (.inr E, X', dc, ds) => kx_add dc ds (match kx_hd V M.1.cls pc E (M.2.2.2.2.getD []) with
                | some none => some (.inr E, X', 0, 0)
                | some (some h) => match kx_hs M.2.2.1 M.2.1 h lv with
                  | some (pc', lv') => kx_run V n F L M pc' lv' [] X'
                  | none => none
                | none => none)
              | none => none
            | none => match i, st with
              | .athrow, .ref a :: _ => match X.1 a with
                | some (.inr (ci, _)) => match (kx_cl V)[ci]? with
                  | some (E, _, _) => if len = 1 then (match kx_hd V M.1.cls pc E (M.2.2.2.2.getD []) with
                    | some none => some (.inr E, X, 0, 0)
                    | some (some h) => match kx_hs M.2.2.1 M.2.1 h lv with
                      | some (pc', lv') => kx_run V n F L M pc' lv' [] X
                      | none => none
                    | none => none) else none
                  | none => none
                | _ => none
              | _, _ => none
