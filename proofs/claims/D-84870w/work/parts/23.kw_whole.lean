/-! ===== THE START, part 4: the claim out of runs of kx_run ===== -/
theorem kw_enum {args : Array Value} {s : State} (hts : ∀ w ∈ lw_tbl, w.before args s = true) (hn : ∀ w ∈ flatC kw_nar, w.before args s = true) {A : Nat → Prop} (hA : ∀ a : Nat, a < s.heap.size → ¬ A a) : ∃ ad : Nat → Nat, ∀ (i : Nat) (q : String × String × String × Int32), kw_en[i]? = some q → va_Z q.1 q.2.1 q.2.2.1 (.ref (ad i)) A s s.heap ∧ va_O q.1 (ad i) A s s.heap ∧ va_OF "java/lang/Enum" "ordinal" "I" (.int q.2.2.2) (ad i) A s s.heap := by
  have h0 : ∀ i : Nat, ∃ t : Nat, ∀ q : String × String × String × Int32, kw_en[i]? = some q → va_Z q.1 q.2.1 q.2.2.1 (.ref t) A s s.heap ∧ va_O q.1 t A s s.heap ∧ va_OF "java/lang/Enum" "ordinal" "I" (.int q.2.2.2) t A s s.heap := by
    intro i
    cases hi : kw_en[i]? with
    | none => exact ⟨0, fun q hq => nomatch hq⟩
    | some q =>
      obtain ⟨w1, w2, w3, w4⟩ := kw_en_all q (List.mem_of_getElem? hi)
      obtain ⟨a, c, cell, k, q1, q2, q3, q4, q5, q6, -⟩ := Cond.exactly_spec (hn _ w3)
      refine ⟨a, fun q' hq' => ?_⟩
      cases hq'
      exact ⟨va_Zref (hts _ w1) (hts _ w2) q1 hA, ⟨cell, q3, q5, by rw [q6]; exact q2, hA a (Array.getElem?_eq_some_iff.mp q3).1⟩, vk_OFof q1 (va_eqt (hn _ w4)) hA⟩
  exact Classical.axiomOfChoice h0
theorem kw_strs {args : Array Value} {s : State} (hts : ∀ w ∈ lw_tbl, w.before args s = true) (hn : ∀ w ∈ flatC kw_nar, w.before args s = true) {A : Nat → Prop} (hA : ∀ a : Nat, a < s.heap.size → ¬ A a) : ∃ adK adV : Nat → Nat, ∀ (i : Nat) (q : String × Nat × String × List Int32), kw_st[i]? = some q → vk_R q.1 q.2.1 q.2.2.1 (adK i) s ∧ va_O "java/lang/String" (adK i) A s s.heap ∧ va_OF "java/lang/String" "coder" "B" (.int 0) (adK i) A s s.heap ∧ va_OF "java/lang/String" "value" "[B" (.ref (adV i)) (adK i) A s s.heap ∧ va_T .byte (adV i) q.2.2.2.length (fun j => .int (q.2.2.2.getD j 0)) A s s.heap := by
  have h0 : ∀ i : Nat, ∃ t : Nat × Nat, ∀ q : String × Nat × String × List Int32, kw_st[i]? = some q → vk_R q.1 q.2.1 q.2.2.1 t.1 s ∧ va_O "java/lang/String" t.1 A s s.heap ∧ va_OF "java/lang/String" "coder" "B" (.int 0) t.1 A s s.heap ∧ va_OF "java/lang/String" "value" "[B" (.ref t.2) t.1 A s s.heap ∧ va_T .byte t.2 q.2.2.2.length (fun j => .int (q.2.2.2.getD j 0)) A s s.heap := by
    intro i
    cases hi : kw_st[i]? with
    | none => exact ⟨(0, 0), fun q hq => nomatch hq⟩
    | some q =>
      obtain ⟨w1, w2, w3, w4, w5, w6, w7⟩ := kw_st_all q (List.mem_of_getElem? hi)
      obtain ⟨a, c, cell, k, q1, q2, q3, q4, q5, q6, -⟩ := Cond.exactly_spec (hn _ w3)
      obtain ⟨t, ht, hT⟩ := va_Tof (f := fun j => .int (q.2.2.2.getD j 0)) (A := A) (Nat.lt_trans w2 (by decide)) (hn _ w5) (va_eqt (hn _ w6)) (fun j hj => va_eqt (hn _ (w7 j hj))) hA
      refine ⟨(a, t), fun q' hq' => ?_⟩
      cases hq'
      refine ⟨vk_R.of (A := #[]) ?_ ?_, ⟨cell, q3, q5, by rw [q6]; exact q2, hA a (Array.getElem?_eq_some_iff.mp q3).1⟩, vk_OFof q1 (va_eqt (hn _ w4)) hA, vk_OFof q1 ht hA, hT⟩
      · exact hts _ w1
      · exact q1
  obtain ⟨ad, had⟩ := Classical.axiomOfChoice h0
  exact ⟨fun i => (ad i).1, fun i => (ad i).2, had⟩
theorem kw_refs {args : Array Value} {s : State} (hts : ∀ w ∈ lw_tbl, w.before args s = true) (hn : ∀ w ∈ flatC kw_nar, w.before args s = true) {A : Nat → Prop} (hA : ∀ a : Nat, a < s.heap.size → ¬ A a) : ∃ zr : Nat → Value, (∀ i, zr i = .null ∨ ∃ t, zr i = .ref t) ∧ ∀ (i : Nat) (q : String × String × String), kw_rf[i]? = some q → va_Z q.1 q.2.1 q.2.2 (zr i) A s s.heap := by
  have h0 : ∀ i : Nat, ∃ v : Value, (v = .null ∨ ∃ t, v = .ref t) ∧ ∀ q : String × String × String, kw_rf[i]? = some q → va_Z q.1 q.2.1 q.2.2 v A s s.heap := by
    intro i
    cases hi : kw_rf[i]? with
    | none => exact ⟨.null, Or.inl rfl, fun q hq => nomatch hq⟩
    | some q =>
      obtain ⟨w1, w2, w3⟩ := kw_rf_all q (List.mem_of_getElem? hi)
      rcases va_Zqof (A := A) (hts _ w1) (hts _ w2) (hn _ w3) hA with h | ⟨t, h⟩
      · exact ⟨.null, Or.inl rfl, fun q' hq' => by cases hq'; exact h⟩
      · exact ⟨.ref t, Or.inr ⟨t, rfl⟩, fun q' hq' => by cases hq'; exact h⟩
  obtain ⟨z, hz⟩ := Classical.axiomOfChoice h0
  exact ⟨z, fun i => (hz i).1, fun i => (hz i).2⟩
theorem kw_F1 {s : State} {b L : Nat} {xs : Nat → Int32} (hts : ∀ w ∈ lw_tbl, w.before #[Value.ref b] s = true) (hn : ∀ w ∈ flatC kw_nar, w.before #[Value.ref b] s = true) (hX : va_X b L xs s s.heap) (hbl : b < s.heap.size) {adE adK adV : Nat → Nat} {zr : Nat → Value} {D : kx_G}
    (hE : ∀ (i : Nat) (q : String × String × String × Int32), kw_en[i]? = some q → va_Z q.1 q.2.1 q.2.2.1 (.ref (adE i)) (fun q : Nat => s.heap.size ≤ q) s s.heap ∧ va_O q.1 (adE i) (fun q : Nat => s.heap.size ≤ q) s s.heap ∧ va_OF "java/lang/Enum" "ordinal" "I" (.int q.2.2.2) (adE i) (fun q : Nat => s.heap.size ≤ q) s s.heap)
    (hK : ∀ (i : Nat) (q : String × Nat × String × List Int32), kw_st[i]? = some q → vk_R q.1 q.2.1 q.2.2.1 (adK i) s ∧ va_O "java/lang/String" (adK i) (fun q : Nat => s.heap.size ≤ q) s s.heap ∧ va_OF "java/lang/String" "coder" "B" (.int 0) (adK i) (fun q : Nat => s.heap.size ≤ q) s s.heap ∧ va_OF "java/lang/String" "value" "[B" (.ref (adV i)) (adK i) (fun q : Nat => s.heap.size ≤ q) s s.heap ∧ va_T .byte (adV i) q.2.2.2.length (fun j => .int (q.2.2.2.getD j 0)) (fun q : Nat => s.heap.size ≤ q) s s.heap)
    (hr : ∀ (i : Nat) (q : String × String × String), kw_rf[i]? = some q → va_Z q.1 q.2.1 q.2.2 (zr i) (fun q : Nat => s.heap.size ≤ q) s s.heap) (hD : kx_K kw_tl D kw_cl s) : kx_F (kw_V adE adK adV zr b L xs s.heap.size) D s s.heap := by
  have hA : ∀ a : Nat, a < s.heap.size → ¬ (fun q : Nat => s.heap.size ≤ q) a := fun a h1 h2 => Nat.not_le.mpr h1 h2
  refine ⟨hD, ?_, ?_, ?_, ?_, ?_, ?_, ?_⟩
  · intro r n d v h
    simp only [kx_sv, kw_V, kw_sv] at h
    split at h
    · rename_i i hi
      cases h
      obtain ⟨hlt, hp, -⟩ := List.findIdx?_eq_some_iff_getElem.mp hi
      have hq : kw_en[i]? = some kw_en[i] := List.getElem?_eq_getElem hlt
      have hp := of_decide_eq_true hp
      obtain ⟨e1, e2, e3⟩ := hp
      have := (hE i _ hq).1
      rw [e1, e2, e3] at this
      exact this
    · split at h
      · rename_i q hq
        cases h
        have q1 := List.mem_of_find?_eq_some hq
        have q2 := List.find?_some hq
        obtain ⟨e1, e2, e3⟩ := of_decide_eq_true q2
        obtain ⟨w1, w2, w3⟩ := kw_in_all q q1
        have := va_Zof (A := fun q : Nat => s.heap.size ≤ q) (hts _ w1) (hts _ w2) (va_eqi (hn _ w3)) hA
        rw [e1, e2, e3] at this
        exact this
      · split at h
        · rename_i i hi
          cases h
          obtain ⟨hlt, hp, -⟩ := List.findIdx?_eq_some_iff_getElem.mp hi
          have hq : kw_rf[i]? = some kw_rf[i] := List.getElem?_eq_getElem hlt
          obtain ⟨e1, e2, e3⟩ := of_decide_eq_true hp
          have := hr i _ hq
          rw [e1, e2, e3] at this
          exact this
        · cases h
  · intro own i q h
    simp only [kx_rv, kw_V, kw_rv] at h
    obtain ⟨j, hj, rfl⟩ := Option.map_eq_some_iff.mp h
    obtain ⟨hlt, hp, -⟩ := List.findIdx?_eq_some_iff_getElem.mp hj
    have hq : kw_st[j]? = some kw_st[j] := List.getElem?_eq_getElem hlt
    obtain ⟨e1, e2⟩ := of_decide_eq_true hp
    have := (hK j _ hq).1
    rw [e1, e2] at this
    exact ⟨_, this⟩
  · intro a k n f h
    simp only [kx_ro, kw_V, kw_ro] at h
    split at h
    · rename_i e
      cases h
      subst e
      obtain ⟨scr, h1, h2, h3, h4, h5⟩ := hX
      exact ⟨.int, rfl, scr, h1, h2, h3, Nat.le_of_eq h4.symm, by rw [h4], h5, hA _ hbl⟩
    · split at h
      · rename_i j hj
        obtain ⟨-, rfl⟩ := kw_first_eq hj
        split at h
        · rename_i q hq
          cases h
          exact ⟨.byte, rfl, (hK j q hq).2.2.2.2⟩
        · cases h
      · cases h
  · intro w hw
    rcases List.mem_append.mp (show w ∈ kw_Ns from hw) with h | h
    · have h1 := (List.mem_filter.mp h).2
      simp only [Bool.and_eq_true] at h1
      exact kw_nw_of h1.2 (hts _ (List.mem_filter.mp h).1)
    · have h1 := (List.mem_filter.mp h).2
      split at h1
      · exact kw_nw_of rfl (hn _ (List.mem_filter.mp h).1)
      · cases h1
  · exact vx_Zqof (hts _ (kw_rf_all _ (List.mem_of_getElem? (i := 0) rfl)).1) (hts _ (kw_rf_all _ (List.mem_of_getElem? (i := 0) rfl)).2.1) (hn _ (kw_rf_all _ (List.mem_of_getElem? (i := 0) rfl)).2.2) hA
  · exact vx_Zqof (hts _ (kw_rf_all _ (List.mem_of_getElem? (i := 1) rfl)).1) (hts _ (kw_rf_all _ (List.mem_of_getElem? (i := 1) rfl)).2.1) (hn _ (kw_rf_all _ (List.mem_of_getElem? (i := 1) rfl)).2.2) hA
  · intro a C fs h
    simp only [kx_oo, kw_V, kw_oo] at h
    split at h
    · rename_i i hi
      obtain ⟨-, rfl⟩ := kw_first_eq hi
      split at h
      · rename_i q hq
        cases h
        refine ⟨(hE i q hq).2.1, fun z hz => ?_⟩
        rw [List.mem_singleton] at hz
        subst hz
        exact (hE i q hq).2.2
      · cases h
    · split at h
      · rename_i j hj
        obtain ⟨hlt, rfl⟩ := kw_first_eq hj
        cases h
        have hq : kw_st[j]? = some (kw_st[j]'(by rw [kw_lens.2]; exact hlt)) := List.getElem?_eq_getElem _
        obtain ⟨-, k1, k2, k3, -⟩ := hK j _ hq
        refine ⟨k1, fun z hz => ?_⟩
        simp only [List.mem_cons, List.not_mem_nil, or_false] at hz
        rcases hz with rfl | rfl
        · exact k2
        · exact k3
      · cases h
/-! ===== THE START, part 5: what is owed, with no machine in sight ===== -/
theorem kw_name {s : State} {A B : String} {c : ClassId} (h1 : s.vm.findClass A = some c) (h2 : s.vm.findClass B = some c) : A = B := by
  obtain ⟨k, e1, e2⟩ := Vm.findClass_spec h1
  obtain ⟨k', e3, e4⟩ := Vm.findClass_spec h2
  cases e1.symm.trans e3
  exact e2.symm.trans e4
theorem kw_OF_eq {o n d : String} {v w : Value} {t : Nat} {A : Nat → Prop} {U : State} {H : Heap} (h1 : va_OF o n d v t A U H) (h2 : va_OF o n d w t A U H) : v = w := by
  obtain ⟨cf, k, i, f, cell, a1, a2, a3, a4, a5, a6⟩ := h1
  obtain ⟨cf', k', i', f', cell', b1, b2, b3, b4, b5, b6⟩ := h2
  cases a1.symm.trans b1
  cases a3.symm.trans b3
  exact Option.some.inj (a5.symm.trans b5)
theorem kw_en_two : ∀ i, i < 69 → ∀ j, j < 69 → (kw_en.getD i ("", "", "", 0)).1 = (kw_en.getD j ("", "", "", 0)).1 → (kw_en.getD i ("", "", "", 0)).2.2.2 = (kw_en.getD j ("", "", "", 0)).2.2.2 → i = j := by decide +kernel
theorem kw_en_str : ∀ i, i < 69 → (kw_en.getD i ("", "", "", 0)).1 ≠ "java/lang/String" := by decide +kernel
/-- the addresses of a start: constants apart, new cells behind all -/
def kw_ad (adE adK adV : Nat → Nat) (zr : Nat → Value) (b lo : Nat) : Prop := (∀ i, i < 69 → ∀ j, j < 69 → adE i = adE j → i = j) ∧ (∀ i, i < 69 → ∀ j, j < 68 → adE i ≠ adK j) ∧ (∀ i, i < 68 → ∀ j, j < 68 → adK i = adK j → adV i = adV j) ∧ (∀ i, i < 68 → ∀ j, j < 68 → adV i = adV j → ∀ k, k < (kw_st.getD i ("", 0, "", [])).2.2.2.length → k < (kw_st.getD j ("", 0, "", [])).2.2.2.length → (kw_st.getD i ("", 0, "", [])).2.2.2.getD k 0 = (kw_st.getD j ("", 0, "", [])).2.2.2.getD k 0) ∧ (∀ i, i < 68 → ∀ j, j < 68 → adV i = adV j → (kw_st.getD i ("", 0, "", [])).2.2.2.length = (kw_st.getD j ("", 0, "", [])).2.2.2.length) ∧ (∀ i, i < 68 → adV i ≠ b) ∧ b < lo ∧ (∀ i, i < 69 → adE i < lo) ∧ (∀ i, i < 68 → adK i < lo ∧ adV i < lo) ∧ ∀ i, zr i = .null ∨ ∃ t, zr i = .ref t
def kw_law : kx_M := (x, code, 7, ret, none)
/-- WHAT IS OWED: over kx_run, for each script, the law's run ends with 1, within the claim's room -/
def kw_owed : Prop := ∀ (adE adK adV : Nat → Nat) (zr : Nat → Value) (b L : Nat) (xs : Nat → Int32) (lo : Nat), kw_ad adE adK adV zr b lo → L ≤ 384 → ∃ (n : Nat) (X9 : kx_X) (dc ds : Nat), kx_run (kw_V adE adK adV zr b L xs lo) n 8192 104096 kw_law 0 [(0, .ref b)] [] (fun _ => none, lo) = some (.inl (some (.int 1)), X9, dc, ds) ∧ dc ≤ 531286 ∧ ds ≤ 7481767
theorem kw_F2 {s : State} {b L : Nat} {xs : Nat → Int32} (hts : ∀ w ∈ lw_tbl, w.before #[Value.ref b] s = true) (hn : ∀ w ∈ flatC kw_nar, w.before #[Value.ref b] s = true) (hX : va_X b L xs s s.heap) (hbl : b < s.heap.size) : ∃ (adE adK adV : Nat → Nat) (zr : Nat → Value) (D : kx_G), kw_ad adE adK adV zr b s.heap.size ∧ kx_F (kw_V adE adK adV zr b L xs s.heap.size) D s s.heap := by
  have hA : ∀ a : Nat, a < s.heap.size → ¬ (fun q : Nat => s.heap.size ≤ q) a := fun a h1 h2 => Nat.not_le.mpr h1 h2
  have lt : ∀ {a : Nat} {c : Cell}, s.heap[a]? = some c → a < s.heap.size := fun h => (Array.getElem?_eq_some_iff.mp h).1
  obtain ⟨adE, hE⟩ := kw_enum hts hn hA
  obtain ⟨adK, adV, hK⟩ := kw_strs hts hn hA
  obtain ⟨zr, hz, hr⟩ := kw_refs hts hn hA
  have gE : ∀ i, i < 69 → kw_en[i]? = some (kw_en.getD i ("", "", "", 0)) := fun i hi => by
    rw [List.getD_eq_getElem?_getD, List.getElem?_eq_getElem (by rw [kw_lens.1]; exact hi)]
    rfl
  have gK : ∀ i, i < 68 → kw_st[i]? = some (kw_st.getD i ("", 0, "", [])) := fun i hi => by
    rw [List.getD_eq_getElem?_getD, List.getElem?_eq_getElem (by rw [kw_lens.2]; exact hi)]
    rfl
  obtain ⟨D, hD⟩ := kw_K hts
  refine ⟨adE, adK, adV, zr, D, ⟨?_, ?_, ?_, ?_, ?_, ?_, hbl, ?_, ?_, hz⟩, kw_F1 hts hn hX hbl hE hK hr hD⟩
  · intro i hi j hj e
    obtain ⟨-, ⟨c1, a1, -, a3, -⟩, a4⟩ := hE i _ (gE i hi)
    obtain ⟨-, ⟨c2, b1, -, b3, -⟩, b4⟩ := hE j _ (gE j hj)
    rw [e] at a1 a4
    cases a1.symm.trans b1
    have h1 := kw_name a3 b3
    have h2 := kw_OF_eq a4 b4
    exact kw_en_two i hi j hj h1 (by injection h2)
  · intro i hi j hj e
    obtain ⟨-, ⟨c1, a1, -, a3, -⟩, a4⟩ := hE i _ (gE i hi)
    obtain ⟨-, ⟨c2, b1, -, b3, -⟩, -⟩ := hK j _ (gK j hj)
    rw [e] at a1
    cases a1.symm.trans b1
    exact kw_en_str i hi (kw_name a3 b3)
  · intro i hi j hj e
    obtain ⟨-, -, -, a4, -⟩ := hK i _ (gK i hi)
    obtain ⟨-, -, -, b4, -⟩ := hK j _ (gK j hj)
    rw [e] at a4
    have h2 := kw_OF_eq a4 b4
    injection h2
  · intro i hi j hj e k hk1 hk2
    obtain ⟨c1, a1, -, -, -, -, a7, -⟩ := (hK i _ (gK i hi)).2.2.2.2
    obtain ⟨c2, b1, -, -, -, -, b7, -⟩ := (hK j _ (gK j hj)).2.2.2.2
    rw [e] at a1
    cases a1.symm.trans b1
    have h1 := a7 k hk1
    have h2 := b7 k hk2
    have h3 := Option.some.inj (h1.symm.trans h2)
    injection h3
  · intro i hi j hj e
    obtain ⟨c1, a1, -, -, -, a6, -⟩ := (hK i _ (gK i hi)).2.2.2.2
    obtain ⟨c2, b1, -, -, -, b6, -⟩ := (hK j _ (gK j hj)).2.2.2.2
    rw [e] at a1
    cases a1.symm.trans b1
    have l1 := (kw_st_all _ (List.mem_of_getElem? (gK i hi))).2.1
    have l2 := (kw_st_all _ (List.mem_of_getElem? (gK j hj))).2.1
    have h3 := a6.symm.trans b6
    have h4 := congrArg Int32.toInt h3
    have e1 := nI_toInt (n := (kw_st.getD i ("", 0, "", [])).2.2.2.length) (by omega)
    have e2 := nI_toInt (n := (kw_st.getD j ("", 0, "", [])).2.2.2.length) (by omega)
    simp only [nI] at e1 e2
    rw [e1, e2] at h4
    omega
  · intro i hi e
    obtain ⟨c1, a1, a2, -⟩ := (hK i _ (gK i hi)).2.2.2.2
    obtain ⟨scr, b1, b2, -⟩ := hX
    rw [e] at a1
    cases a1.symm.trans b1
    obtain ⟨-, k1, e1, comp1, e2⟩ := a2
    obtain ⟨-, k2, e3, comp2, e4⟩ := b2
    cases e1.symm.trans e3
    have h9 := e2.symm.trans e4
    cases h9
  · intro i hi
    obtain ⟨-, ⟨c1, a1, -⟩, -⟩ := hE i _ (gE i hi)
    exact lt a1
  · intro i hi
    obtain ⟨-, ⟨c1, a1, -⟩, -, -, ⟨c2, b1, -⟩⟩ := hK i _ (gK i hi)
    exact ⟨lt a1, lt b1⟩
def lw_P (b : Addr) (xs : List Int32) (args : Array Value) (s : State) : Prop := args = #[.ref b] ∧ s.IntsAt b xs ∧ xs.length ≤ 384 ∧ (Jvm.Cond.and given_1 narrow_1).before args s = true
def lw_Q (_ : Array Value) (s : State) (o : Outcome) (t : State) : Prop := o = .returned (some (.int 1)) ∧ Framed s o t [] 531286 7481767
def lw_Z (below : List Frame) (a : Array Value) (s : State) : State → Prop := fun t => ∃ o, t.status = .running ∧ Ended t below o ∧ lw_Q a s o t
/-- the law's own end, with 1 on the stack, nothing written that was there before, its room as the claim has it -/
theorem lw_ret {p : Program} {l : Launch} {e : Env} {s : State} {m : MethodId} {below : List Frame} {meth : Method} {c : Code} {b : Nat} (hx : p.tables.exec = Jvm.exec) (hb : c.code = code) (hr : meth.sig.returnType = ret) (hlocks : meth.locks = false) {pc : Nat} {H : Heap} {ls : Array Slot} (hdg : decode code pc = .ok (.ireturn, 1)) : W p l e room_1 s m #[Value.ref b] below meth c H [] 531286 7481767 (lw_Z below #[Value.ref b] s) (F0 m pc ls [.int 1]) := by
  intro T hT X
  obtain ⟨fs, hret, hrun, hended, hW, hframe⟩ := X.leave (v := some (.int 1)) (hlocks := hlocks) (fun h => by rw [hr] at h; cases h)
  have hmeth' : T.vm.method? m = some meth := X.method'
  refine ⟨T.setFrames fs, ?_, .returned (some (.int 1)), hrun, hended, rfl, ⟨_, rfl⟩, hW, hframe⟩
  jvm_step X.here [X.here.top, hx, hb, hdg, hmeth', hr, ret, narrow_b1]
  (try refine ⟨rfl, ?_⟩); (try refine ⟨rfl, ?_⟩)
  first | (intro acts; rw [hret _ acts rfl rfl rfl]) | rw [hret _ _ rfl rfl rfl]
  exact Steps.refl _
theorem kw_flags {l : Launch} (h : l.flags = flags0) : l.stackTraces = false := by
  unfold Launch.stackTraces
  rw [h]
  decide +kernel
theorem kw_start {p : Program} {e : Env} {s : State} {m : MethodId} {below : List Frame} {meth : Method} {c : Code} (l : Launch) (hflags : l.flags = flags0) (hO : kw_owed) {b L : Nat} {xs : Nat → Int32} (hL : L ≤ 384) (hx : p.tables.exec = Jvm.exec) (hb : c.code = code) (hr : meth.sig.returnType = ret) (hml : c.maxLocals = 7) (hown : s.vm.findClass x.cls = some m.cls) (hname : meth.name = x.name) (htab : c.exceptionTable.toList = []) (hts : ∀ w ∈ lw_tbl, w.before #[Value.ref b] s = true) (hX : va_X b L xs s s.heap) (hbl : b < s.heap.size) (hlocks : meth.locks = false) (hn : kw_nar.before #[Value.ref b] s = true) :
    W p l e room_1 s m #[Value.ref b] below meth c s.heap [] 0 0 (lw_Z below #[Value.ref b] s) (entryFrame m ([Value.ref b] : List Value).toArray 7) := by
  obtain ⟨adE, adK, adV, zr, D, had, hF⟩ := kw_F2 hts (flat_of_before _ hn) hX hbl
  obtain ⟨n, X9, dc, ds, hrun, hdc, hds⟩ := hO adE adK adV zr b L xs s.heap.size had hL
  have htr : l.stackTraces = false := kw_flags hflags
  rw [lg_entry_eq]
  have hlen : (lg_sl [Value.ref b]).length ≤ 7 := by simp [lg_sl, Value.category]
  refine kx_go (kw_V adE adK adV zr b L xs s.heap.size) (kw_ok adE adK adV zr b L xs s.heap.size) htr D n (M := kw_law) (R := room_1) (mc := 531286) (ms := 7481767) hx (fun w hw => hts w (lw_all_tbl hw)) hF hb hml hname hown htab (Nat.le_refl _) (Nat.le_refl _) ?_ ?_ (Nat.le_refl _) (Nat.le_refl _) hrun (by omega) (by omega) (lv_entry [Value.ref b] hlen) ⟨rfl, fun a x h => nomatch h⟩ va_S.rf
  · intro H locs cells slots pc ls st i len v hd hv hrv hR hS hc hs
    cases hrv
    have hst : i = .ireturn ∧ len = 1 ∧ st = [.int 1] := by
      unfold kx_end at hv
      split at hv
      · split at hv
        · cases hv
        · cases hv
      · split at hv
        · split at hv
          · rename_i hcnd
            cases hv
            exact ⟨rfl, hcnd.1, rfl⟩
          · cases hv
        · cases hv
      · split at hv
        · cases hv
        · cases hv
      · split at hv
        · split at hv
          · cases hv
          · cases hv
        · split at hv
          · cases hv
          · cases hv
        · cases hv
      · split at hv
        · split at hv
          · cases hv
          · cases hv
        · split at hv
          · cases hv
          · cases hv
        · cases hv
      · cases hv
    obtain ⟨rfl, rfl, rfl⟩ := hst
    intro T hT XX
    have X1 : Stand p l e room_1 s m #[Value.ref b] below meth c T ([] ++ locs) 531286 7481767 := stand_widen XX hc hs
    exact lw_ret (b := b) hx hb hr hlocks hd T hT (Stand.forget X1 hS.2.2)
  · intro H locs cells slots pc ls rest E ce q hps hq hcv hcl hre
    cases hre
