/-! ===== THE MACHINE IN ONE THEOREM, part 3: one instruction, over the abstract heap ===== -/
/-- a method: its name, code, number of locals, answer's type, handlers (none: it has no table) -/
abbrev kx_M : Type := MethodName × ByteArray × Nat × Option FieldType × Option (List (Nat × Nat × Nat × Nat))
/-- links by class and place: fields, classes, ints, longs, methods' names, methods -/
abbrev kx_Lk : Type := (String → Nat → Option (String × String × String)) × (String → Nat → Option String) × (String → Nat → Option Int32) × (String → Nat → Option Int64) × (String → Nat → Option MethodName) × (String → Nat → Option kx_M)
/-- what a run knows of the tables and of old cells: words that hold all through; words that are carried; classes; array types; statics; String constants; old arrays of ints and bytes; the first new cell; old objects: class, known fields; tables of links -/
abbrev kx_V : Type := List Jvm.Cond × List Jvm.Cond × List vw_C × List FieldType × (String → String → String → Option Value) × (String → Nat → Option Nat) × (Nat → Option (Nat × Nat × (Nat → Int32))) × Nat × (Nat → Option (String × List (String × String × String × Value))) × kx_Lk
abbrev kx_Tb (V : kx_V) : List Jvm.Cond := V.1
abbrev kx_Ns (V : kx_V) : List Jvm.Cond := V.2.1
abbrev kx_cl (V : kx_V) : List vw_C := V.2.2.1
abbrev kx_tl (V : kx_V) : List FieldType := V.2.2.2.1
abbrev kx_sv (V : kx_V) : String → String → String → Option Value := V.2.2.2.2.1
abbrev kx_rv (V : kx_V) : String → Nat → Option Nat := V.2.2.2.2.2.1
abbrev kx_ro (V : kx_V) : Nat → Option (Nat × Nat × (Nat → Int32)) := V.2.2.2.2.2.2.1
abbrev kx_lo (V : kx_V) : Nat := V.2.2.2.2.2.2.2.1
abbrev kx_oo (V : kx_V) : Nat → Option (String × List (String × String × String × Value)) := V.2.2.2.2.2.2.2.2.1
abbrev kx_ln (V : kx_V) : kx_Lk := V.2.2.2.2.2.2.2.2.2
abbrev kx_A (V : kx_V) : Nat → Prop := fun q => kx_lo V ≤ q
def kx_fl (V : kx_V) (own : String) (i : Nat) : Option (String × String × String) := (kx_ln V).1 own i
def kx_kl (V : kx_V) (own : String) (i : Nat) : Option String := (kx_ln V).2.1 own i
def kx_ci (V : kx_V) (own : String) (i : Nat) : Option Int32 := (kx_ln V).2.2.1 own i
def kx_cL (V : kx_V) (own : String) (i : Nat) : Option Int64 := (kx_ln V).2.2.2.1 own i
def kx_ml (V : kx_V) (own : String) (i : Nat) : Option MethodName := (kx_ln V).2.2.2.2.1 own i
def kx_md (V : kx_V) (own : String) (i : Nat) (y : MethodName) : Option kx_M := ((kx_ln V).2.2.2.2.2 own i).filter (fun M => decide (M.1 = y))
def kx_cw (M : kx_M) : Jvm.Cond := match M.2.2.2.2 with
  | none => .code M.1 M.2.1 M.2.2.1 M.2.2.2.1
  | some hh => .codeWith M.1 M.2.1 M.2.2.1 M.2.2.2.1 hh
/-- words that are carried: links of nest mates, arrays over a class, casts that pass, casts that don't -/
def kx_nw (w : Jvm.Cond) (U : State) : Prop := match w with
  | .not (.castable C T) => va_Nc C T U
  | w => va_Nw w U
def kx_nk (w : Jvm.Cond) : Bool := match w with
  | .not (.castable _ _) => true
  | .fieldLinkNest .. => true
  | .methodLinkNest .. => true
  | .arrayOver (.object _) => true
  | .arrayOver (.array _) => true
  | .castable .. => true
  | .declares .. => true
  | _ => false
/-- what holds of a state all through -/
def kx_F (V : kx_V) (D : kx_G) (U : State) (H : Heap) : Prop := kx_K (kx_tl V) D (kx_cl V) U ∧ (∀ r n d v, kx_sv V r n d = some v → va_Z r n d v (kx_A V) U H) ∧ (∀ own i q, kx_rv V own i = some q → ∃ tx, vk_R own i tx q U) ∧ (∀ a k n f, kx_ro V a = some (k, n, f) → ∃ ty, (kx_tl V)[k]? = some ty ∧ va_T ty a n (fun j => .int (f j)) (kx_A V) U H) ∧ (∀ w ∈ kx_Ns V, kx_nw w U) ∧ vx_Zq Bundle.tN "UNASSIGNED_STACK" Bundle.steD (kx_A V) U H ∧ vx_Zq Bundle.tN "SUPPRESSED_SENTINEL" Bundle.listD (kx_A V) U H ∧ (∀ a C fs, kx_oo V a = some (C, fs) → va_O C a (kx_A V) U H ∧ ∀ q ∈ fs, va_OF q.1 q.2.1 q.2.2.1 q.2.2.2 a (kx_A V) U H)
/-- what is known of the class table itself, of the tables of links -/
def kx_lok (V : kx_V) : Prop := (∀ own i q, kx_fl V own i = some q → Jvm.Cond.fieldLink own i q.1 q.2.1 q.2.2 ∈ kx_Tb V) ∧ (∀ own i C, kx_kl V own i = some C → Jvm.Cond.classLink own i C ∈ kx_Tb V) ∧ (∀ own i v, kx_ci V own i = some v → Jvm.Cond.constant own i v ∈ kx_Tb V) ∧ (∀ own i v, kx_cL V own i = some v → Jvm.Cond.constantLong own i v ∈ kx_Tb V) ∧ (∀ own i y, kx_ml V own i = some y → Jvm.Cond.methodLink own i y ∈ kx_Tb V) ∧ ∀ own i M, (kx_ln V).2.2.2.2.2 own i = some M → kx_cw M ∈ kx_Tb V
def kx_ok (V : kx_V) : Prop := ((∀ w ∈ kx_Tb V, goodWord w = true) ∧ kx_lok V) ∧ (∀ w ∈ kx_Ns V, kx_nk w = true) ∧ ∀ (ci : Nat) (C : String) (T : u_T) (N : Nat), (kx_cl V)[ci]? = some (C, T, N) → (∀ w ∈ u_ws C T N, w ∈ kx_Tb V) ∧ (∀ a, a < N → ∀ b, b < N → a ≠ b → (T a).2.1 ≠ (T b).2.1) ∧ ∃ ty : Nat → FieldType, ∀ k, k < N → parseFieldDescriptor (T k).2.2.1 = some (ty k)
abbrev kx_L : Type := List (Nat × Value)
abbrev kx_N : Type := Nat × kx_L × List Value × kx_X × Nat × Nat
def kx_lk (lv : kx_L) (i : Nat) : Option Value := (lv.find? (fun q => q.1 == i)).map (·.2)
def kx_sto (nL : Nat) (lv : kx_L) (i : Nat) (v : Value) : Option kx_L := if i < nL then some ((i, v) :: lv.filter (fun q => !(q.1 == i) && !(q.1 + 1 == i && q.2.category == 2))) else none
def kx_stw (nL : Nat) (lv : kx_L) (i : Nat) (v : Value) : Option kx_L := if i + 1 < nL then some ((i, v) :: lv.filter (fun q => !(q.1 == i) && (!(q.1 == i + 1) && !(q.1 + 1 == i && q.2.category == 2)))) else none
def kx_tg (pc : Nat) (off : Int) : Option Nat := if 0 ≤ (pc : Int) + off then some ((pc : Int) + off).toNat else none
def kx_c1 (cd : ClassFile.Cond) (x : Int32) : Bool := match cd with
  | .eq => decide (x = 0) | .ne => decide (¬ x = 0) | .lt => decide (x < 0) | .ge => decide (0 ≤ x) | .gt => decide (0 < x) | .le => decide (x ≤ 0)
def kx_c2 (cd : ClassFile.Cond) (x y : Int32) : Bool := match cd with
  | .eq => decide (x = y) | .ne => decide (¬ x = y) | .lt => decide (x < y) | .ge => decide (y ≤ x) | .gt => decide (y < x) | .le => decide (x ≤ y)
def kx_rf (v : Value) : Option (Option Nat) := match v with
  | .null => some none
  | .ref a => some (some a)
  | _ => none
theorem kx_fl_mem {V : kx_V} (hV : kx_ok V) {own : String} {i : Nat} {r n d : String} (h : kx_fl V own i = some (r, n, d)) : Jvm.Cond.fieldLink own i r n d ∈ kx_Tb V := hV.1.2.1 _ _ _ h
theorem kx_kl_mem {V : kx_V} (hV : kx_ok V) {own : String} {i : Nat} {C : String} (h : kx_kl V own i = some C) : Jvm.Cond.classLink own i C ∈ kx_Tb V := hV.1.2.2.1 _ _ _ h
theorem kx_ci_mem {V : kx_V} (hV : kx_ok V) {own : String} {i : Nat} {v : Int32} (h : kx_ci V own i = some v) : Jvm.Cond.constant own i v ∈ kx_Tb V := hV.1.2.2.2.1 _ _ _ h
theorem kx_cL_mem {V : kx_V} (hV : kx_ok V) {own : String} {i : Nat} {v : Int64} (h : kx_cL V own i = some v) : Jvm.Cond.constantLong own i v ∈ kx_Tb V := hV.1.2.2.2.2.1 _ _ _ h
theorem kx_ml_mem {V : kx_V} (hV : kx_ok V) {own : String} {i : Nat} {y : MethodName} (h : kx_ml V own i = some y) : Jvm.Cond.methodLink own i y ∈ kx_Tb V := hV.1.2.2.2.2.2.1 _ _ _ h
theorem kx_md_mem {V : kx_V} (hV : kx_ok V) {own : String} {i : Nat} {y : MethodName} {M : kx_M} (h : kx_md V own i y = some M) : M.1 = y ∧ kx_cw M ∈ kx_Tb V := by
  unfold kx_md at h
  obtain ⟨h1, h2⟩ := Option.filter_eq_some_iff.mp h
  exact ⟨of_decide_eq_true h2, hV.1.2.2.2.2.2.2 _ _ _ h1⟩
theorem kx_lk_at {ls : Array Slot} {nL : Nat} {lv : kx_L} (h : lv_has ls nL lv) {i : Nat} {v : Value} (hk : kx_lk lv i = some v) : ls[i]? = some (.val v) := by
  unfold kx_lk at hk
  obtain ⟨q, hq, rfl⟩ := Option.map_eq_some_iff.mp hk
  have h1 := List.mem_of_find?_eq_some hq
  have h2 := List.find?_some hq
  have h3 : q.1 = i := by simpa using h2
  subst h3
  exact h.2.2 q h1
theorem kx_lk_ix {lv : kx_L} {i : Nat} {v : Value} (hk : kx_lk lv i = some v) : ∃ k : Nat, lv[k]? = some (i, v) := by
  unfold kx_lk at hk
  obtain ⟨q, hq, rfl⟩ := Option.map_eq_some_iff.mp hk
  have h1 := List.mem_of_find?_eq_some hq
  have h2 := List.find?_some hq
  have h3 : q.1 = i := by simpa using h2
  subst h3
  obtain ⟨k, hk⟩ := List.getElem?_of_mem h1
  exact ⟨k, hk⟩
theorem kx_tg_eq {pc : Nat} {off : Int} {t : Nat} (h : kx_tg pc off = some t) : (pc : Int) + off = (t : Int) := by
  unfold kx_tg at h
  split at h
  · cases h
    omega
  · cases h
theorem kx_rf_eq {v : Value} {r : Option Nat} (h : kx_rf v = some r) : v = va_rf r := by
  unfold kx_rf at h
  split at h
  · cases h; rfl
  · cases h; rfl
  · cases h
/-- which field of the class T a link means -/
def kx_fk (T : u_T) (N : Nat) (q : String × String × String) : Option Nat := (List.range N).find? (fun k => decide ((T k).1 = q.1) && decide ((T k).2.1 = q.2.1) && decide ((T k).2.2.1 = q.2.2))
theorem kx_fk_eq {T : u_T} {N k : Nat} {r n d : String} (h : kx_fk T N (r, n, d) = some k) : k < N ∧ (T k).1 = r ∧ (T k).2.1 = n ∧ (T k).2.2.1 = d := by
  unfold kx_fk at h
  have h1 := List.mem_of_find?_eq_some h
  have h2 := List.find?_some h
  simp only [Bool.and_eq_true, decide_eq_true_eq] at h2
  exact ⟨List.mem_range.mp h1, h2.1.1, h2.1.2, h2.2⟩
def kx_inb (i : Int32) (n : Nat) : Bool := decide (¬ i < 0) && decide (i.toNatClampNeg < n)
theorem kx_inb_in {i : Int32} {n : Nat} (h : kx_inb i n = true) : vp_in i n := by
  simp only [kx_inb, Bool.and_eq_true, decide_eq_true_eq] at h
  rintro (h1 | h1)
  · exact h.1 h1
  · omega
/-- the default values of a new object -/
def kx_dv (T : u_T) (N : Nat) : List Value := (List.range N).map (fun k => match parseFieldDescriptor (T k).2.2.1 with
  | some ty => defaultValue ty
  | none => .null)
theorem kx_dv_at {T : u_T} {N : Nat} {ty : Nat → FieldType} (hty : ∀ k, k < N → parseFieldDescriptor (T k).2.2.1 = some (ty k)) : ∀ j, j < N → defaultValue (ty j) = vp_V (kx_dv T N) j := by
  intro j hj
  unfold vp_V kx_dv
  rw [List.getD_eq_getElem?_getD, List.getElem?_map, List.getElem?_range hj]
  simp only [Option.map_some, Option.getD_some, hty j hj]
/-- the contents of a new array of a small type -/
def kx_na (atype : ArrayType) (n : Nat) : Option vp_A := match atype with
  | .int | .byte | .boolean => some (n, .inl (fun _ => 0))
  | .long => some (n, .inr (.inl (fun _ => 0)))
  | _ => none
theorem kx_na_eq {atype : ArrayType} {n : Nat} {a0 : vp_A} (h : kx_na atype n = some a0) : ∀ cA : ClassId, vp_cell cA a0 = arrV cA n (fun _ => defaultValue (newarray.typeOf atype)) := by
  intro cA
  cases atype <;> simp only [kx_na] at h <;> cases h <;> rfl
