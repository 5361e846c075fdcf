/-! ===== THE START, part 2: what a run knows at the law's entry ===== -/
def kw_in : List (String × String × String × Int32) := [("java/lang/String", "COMPACT_STRINGS", "Z", 1), ("java/lang/StringUTF16", "$assertionsDisabled", "Z", 1), ("java/lang/StringUTF16", "HI_BYTE_SHIFT", "I", 0), ("java/lang/StringUTF16", "LO_BYTE_SHIFT", "I", 8)]
def kw_rf : List (String × String × String) := [("java/lang/Throwable", "UNASSIGNED_STACK", "[Ljava/lang/StackTraceElement;"), ("java/lang/Throwable", "SUPPRESSED_SENTINEL", "Ljava/util/List;"), ("jdk/internal/util/Preconditions", "SIOOBE_FORMATTER", "Ljava/util/function/BiFunction;")]
/-- words that are carried -/
def kw_Ns : List Cond := lw_tbl.filter (fun w => !goodWord w && kx_nk w) ++ (flatC (Jvm.Cond.and given_1 narrow_1)).filter (fun w => match w with
  | .not (.castable _ _) => true
  | _ => false)
def kw_sv (adE : Nat → Nat) (zr : Nat → Value) (r n d : String) : Option Value := match kw_en.findIdx? (fun q => decide (q.1 = r ∧ q.2.1 = n ∧ q.2.2.1 = d)) with
  | some i => some (.ref (adE i))
  | none => match kw_in.find? (fun q => decide (q.1 = r ∧ q.2.1 = n ∧ q.2.2.1 = d)) with
    | some q => some (.int q.2.2.2)
    | none => match kw_rf.findIdx? (fun q => decide (q.1 = r ∧ q.2.1 = n ∧ q.2.2 = d)) with
      | some i => some (zr i)
      | none => none
def kw_rv (adK : Nat → Nat) (own : String) (i : Nat) : Option Nat := (kw_st.findIdx? (fun q => decide (q.1 = own ∧ q.2.1 = i))).map adK
/-- the first j < n with f j = a -/
def kw_first (f : Nat → Nat) (n a : Nat) : Option Nat := (List.range n).find? (fun j => decide (f j = a))
theorem kw_first_eq {f : Nat → Nat} {n a j : Nat} (h : kw_first f n a = some j) : j < n ∧ f j = a := by
  unfold kw_first at h
  have h1 := List.mem_of_find?_eq_some h
  have h2 := List.find?_some h
  exact ⟨List.mem_range.mp h1, by simpa using h2⟩
def kw_ro (adV : Nat → Nat) (b L : Nat) (xs : Nat → Int32) (a : Nat) : Option (Nat × Nat × (Nat → Int32)) := if a = b then some (0, L, xs) else match kw_first adV 68 a with
  | some j => match kw_st[j]? with
    | some q => some (1, q.2.2.2.length, fun k => q.2.2.2.getD k 0)
    | none => none
  | none => none
def kw_oo (adE adK adV : Nat → Nat) (a : Nat) : Option (String × List (String × String × String × Value)) := match kw_first adE 69 a with
  | some i => match kw_en[i]? with
    | some q => some (q.1, [("java/lang/Enum", "ordinal", "I", .int q.2.2.2)])
    | none => none
  | none => match kw_first adK 68 a with
    | some j => some ("java/lang/String", [("java/lang/String", "coder", "B", .int 0), ("java/lang/String", "value", "[B", .ref (adV j))])
    | none => none
def kw_V (adE adK adV : Nat → Nat) (zr : Nat → Value) (b L : Nat) (xs : Nat → Int32) (lo : Nat) : kx_V := (lw_all, kw_Ns, kw_cl, kw_tl, kw_sv adE zr, kw_rv adK, kw_ro adV b L xs, lo, kw_oo adE adK adV, kt_links)
theorem kt_lok {adE adK adV : Nat → Nat} {zr : Nat → Value} {b L : Nat} {xs : Nat → Int32} {lo : Nat} : kx_lok (kw_V adE adK adV zr b L xs lo) := by
  refine ⟨fun own i q h => ?_, fun own i q h => ?_, fun own i q h => ?_, fun own i q h => ?_, fun own i q h => ?_, fun own i q h => ?_⟩
  · obtain ⟨p, h1, rfl, h3⟩ := kt_get_mem (A := kt_flA) h
    exact kt_flA_ok p h1 _ h3
  · obtain ⟨p, h1, rfl, h3⟩ := kt_get_mem (A := kt_klA) h
    exact kt_klA_ok p h1 _ h3
  · obtain ⟨p, h1, rfl, h3⟩ := kt_get_mem (A := kt_ciA) h
    exact kt_ciA_ok p h1 _ h3
  · obtain ⟨p, h1, rfl, h3⟩ := kt_get_mem (A := kt_cLA) h
    exact kt_cLA_ok p h1 _ h3
  · obtain ⟨p, h1, rfl, h3⟩ := kt_get_mem (A := kt_mlA) h
    exact kt_mlA_ok p h1 _ h3
  · obtain ⟨p, h1, rfl, h3⟩ := kt_get_mem (A := kt_mcA) h
    exact kt_mcA_ok p h1 _ h3
theorem kw_ok (adE adK adV : Nat → Nat) (zr : Nat → Value) (b L : Nat) (xs : Nat → Int32) (lo : Nat) : kx_ok (kw_V adE adK adV zr b L xs lo) := by
  refine ⟨⟨fun w hw => (List.mem_filter.mp hw).2, kt_lok⟩, fun w hw => ?_, kw_cl_ok⟩
  rcases List.mem_append.mp (show w ∈ kw_Ns from hw) with h | h
  · have h1 := (List.mem_filter.mp h).2
    simp only [Bool.and_eq_true] at h1
    exact h1.2
  · have h1 := (List.mem_filter.mp h).2
    split at h1
    · rfl
    · cases h1
theorem kw_nw_of {w : Cond} {args : Array Value} {s : State} (hk : kx_nk w = true) (h : w.before args s = true) : kx_nw w s := by
  cases w with
  | not c =>
    cases c with
    | castable C T => exact va_Nc.of h
    | _ => cases hk
  | arrayOver t => exact h
  | fieldLinkNest => exact va_Nw.of rfl h
  | methodLinkNest => exact va_Nw.of rfl h
  | castable => exact va_Nw.of rfl h
  | declares => exact va_Nw.of rfl h
  | _ => cases hk
/-- the classes and array types -/
theorem kw_K {args : Array Value} {s : State} (hts : ∀ w ∈ lw_tbl, w.before args s = true) : ∃ D : kx_G, kx_K kw_tl D kw_cl s := by
  have h1 : ∀ c : Nat, ∃ p : ClassId × (Nat → Nat), ∀ q, kw_cl[c]? = some q → u_Kn s q.1 q.2.1 q.2.2 p.1 p.2 := by
    intro c
    cases hc : kw_cl[c]? with
    | none => exact ⟨(0, fun _ => 0), fun q hq => nomatch hq⟩
    | some q =>
      obtain ⟨C, T, N⟩ := q
      obtain ⟨n, hn⟩ := kw_cl_inst c _ hc
      obtain ⟨cC, iS, h⟩ := u_known hts (fun w hw => lw_all_tbl ((kw_cl_ok c C T N hc).1 w hw)) (hts _ hn)
      exact ⟨(cC, iS), fun q hq => by cases hq; exact h⟩
  have h2 : ∀ k : Nat, ∃ cA : ClassId, ∀ ty, kw_tl[k]? = some ty → (ArrOfT s cA ty ∧ va_RA s cA ty) ∧ kx_RB s cA ty := by
    intro k
    cases hk : kw_tl[k]? with
    | none => exact ⟨0, fun q hq => nomatch hq⟩
    | some ty =>
      have hw := hts _ (kw_tl_ok ty (List.mem_of_getElem? hk))
      have prim : (Cond.arrayClass ty).before args s = true → (∀ C, ty ≠ .object C) → (∀ t, ty ≠ .array t) → ∃ cA : ClassId, ∀ q, some ty = some q → (ArrOfT s cA q ∧ va_RA s cA q) ∧ kx_RB s cA q := by
        intro hw n1 n2
        obtain ⟨c, kA, comp, e1, e2, e3⟩ := Cond.arrayClass_spec hw
        refine ⟨c, fun q hq => ?_⟩
        cases hq
        refine ⟨⟨fun n z => ⟨(fun q h => nomatch h), kA, e2, comp, e3⟩, ?_⟩, ?_⟩
        · cases ty with
          | object C => exact absurd rfl (n1 C)
          | _ => exact e1
        · cases ty with
          | array t => exact absurd rfl (n2 t)
          | _ => trivial
      cases ty with
      | object C =>
        obtain ⟨comp, c, kA, e1, e2, e3, e4, e5⟩ := Cond.arrayOver_spec hw
        exact ⟨c, fun q hq => by cases hq; exact ⟨⟨fun n z => ⟨(fun q h => nomatch h), kA, e3, comp, e4⟩, kA, comp, e3, e4, e1, e5⟩, trivial⟩⟩
      | array t =>
        obtain ⟨comp, c, kA, e1, e2, e3, e4, e5⟩ := arrayOverA_spec hw
        exact ⟨c, fun q hq => by cases hq; exact ⟨⟨fun n z => ⟨(fun q h => nomatch h), kA, e3, comp, e4⟩, e5⟩, kA, comp, e3, e4, e1⟩⟩
      | _ => exact prim hw (fun C h => by cases h) (fun t h => by cases h)
  obtain ⟨p, hp⟩ := Classical.axiomOfChoice h1
  obtain ⟨a, ha⟩ := Classical.axiomOfChoice h2
  exact ⟨((fun c => (p c).1, fun c => (p c).2), a), hp, ha⟩
