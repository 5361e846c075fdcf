/-! ===== RUNS OVER A TYPED STATE, part 6: a run that knows more of its locals ===== -/
def kv_sub (lv lv' : kx_L) : Prop := (∀ i v, kx_lk lv' i = some v → kx_lk lv i = some v) ∧ (lv'.map (·.1)).Nodup
theorem kv_lk_cons {i j : Nat} {v : Value} {r : kx_L} : kx_lk ((i, v) :: r) j = if i = j then some v else kx_lk r j := by
  unfold kx_lk
  rw [List.find?_cons]
  by_cases h : i = j
  · subst h
    simp
  · have e : (i == j) = false := by simpa using h
    show Option.map _ (match i == j with | true => some (i, v) | false => _) = _
    rw [e, if_neg h]
theorem kv_lk_mem {lv : kx_L} {i : Nat} {v : Value} (h : kx_lk lv i = some v) : (i, v) ∈ lv := by
  obtain ⟨k, hk⟩ := kx_lk_ix h
  exact List.mem_of_getElem? hk
theorem kv_mem_lk : ∀ {lv : kx_L} {i : Nat} {v : Value}, (lv.map (·.1)).Nodup → (i, v) ∈ lv → kx_lk lv i = some v
  | [], _, _, _, h => absurd h List.not_mem_nil
  | q :: r, i, v, hn, h => by
    rw [List.map_cons, List.nodup_cons] at hn
    rcases List.mem_cons.mp h with h | h1
    · subst h
      rw [kv_lk_cons, if_pos rfl]
    · obtain ⟨q1, q2⟩ := q
      rw [kv_lk_cons, if_neg, kv_mem_lk hn.2 h1]
      intro e
      subst e
      exact hn.1 (List.mem_map.mpr ⟨_, h1, rfl⟩)
/-- the first one of a key stays the first one in a part that keeps it -/
theorem kv_lk_filter : ∀ {lv : kx_L} {p : Nat × Value → Bool} {i : Nat} {v : Value}, kx_lk lv i = some v → p (i, v) = true → kx_lk (lv.filter p) i = some v
  | [], _, _, _, h, _ => by cases h
  | q :: r, p, i, v, h, hp => by
    obtain ⟨q1, q2⟩ := q
    rw [kv_lk_cons] at h
    by_cases e : q1 = i
    · rw [if_pos e] at h
      cases h
      subst e
      rw [List.filter_cons, if_pos hp, kv_lk_cons, if_pos rfl]
    · rw [if_neg e] at h
      rw [List.filter_cons]
      split
      · rw [kv_lk_cons, if_neg e]
        exact kv_lk_filter h hp
      · exact kv_lk_filter h hp
theorem kv_filter {lv lv' : kx_L} (h : kv_sub lv lv') (p : Nat × Value → Bool) : kv_sub (lv.filter p) (lv'.filter p) := by
  have hn : ((lv'.filter p).map (·.1)).Nodup := List.Sublist.nodup (List.Sublist.map _ List.filter_sublist) h.2
  refine ⟨fun i v hv => ?_, hn⟩
  have h1 := kv_lk_mem hv
  obtain ⟨h2, h3⟩ := List.mem_filter.mp h1
  exact kv_lk_filter (h.1 i v (kv_mem_lk h.2 h2)) h3
theorem kv_cons {lv lv' : kx_L} (h : kv_sub lv lv') {i : Nat} (v : Value) (hi : i ∉ lv'.map (·.1)) : kv_sub ((i, v) :: lv) ((i, v) :: lv') := by
  refine ⟨fun j u hu => ?_, ?_⟩
  · rw [kv_lk_cons] at hu ⊢
    by_cases e : i = j
    · rw [if_pos e] at hu ⊢
      exact hu
    · rw [if_neg e] at hu ⊢
      exact h.1 j u hu
  · rw [List.map_cons, List.nodup_cons]
    exact ⟨hi, h.2⟩
theorem kv_sto {nL : Nat} {lv lv' l' : kx_L} {i : Nat} {v : Value} (h : kv_sub lv lv') (hs : kx_sto nL lv' i v = some l') : ∃ l, kx_sto nL lv i v = some l ∧ kv_sub l l' := by
  unfold kx_sto at hs ⊢
  split at hs
  · rename_i hi
    cases hs
    rw [if_pos hi]
    refine ⟨_, rfl, kv_cons (kv_filter h _) v ?_⟩
    intro hm
    obtain ⟨q, hq, e⟩ := List.mem_map.mp hm
    have := (List.mem_filter.mp hq).2
    simp [e] at this
  · cases hs
theorem kv_stw {nL : Nat} {lv lv' l' : kx_L} {i : Nat} {v : Value} (h : kv_sub lv lv') (hs : kx_stw nL lv' i v = some l') : ∃ l, kx_stw nL lv i v = some l ∧ kv_sub l l' := by
  unfold kx_stw at hs ⊢
  split at hs
  · rename_i hi
    cases hs
    rw [if_pos hi]
    refine ⟨_, rfl, kv_cons (kv_filter h _) v ?_⟩
    intro hm
    obtain ⟨q, hq, e⟩ := List.mem_map.mp hm
    have := (List.mem_filter.mp hq).2
    simp [e] at this
  · cases hs
def kv_loc (i : Instr) : Bool := match i with
  | .iload_n _ | .iload _ | .lload_n _ | .lload _ | .aload_n _ | .aload _ | .istore_n _ | .istore _ | .lstore_n _ | .lstore _ | .astore_n _ | .astore _ | .iinc _ _ => true
  | _ => false
theorem kv_st1 {V : kx_V} {own mn : String} {nL : Nat} {i : Instr} {len pc : Nat} {lv lv' : kx_L} {st : List Value} {X : kx_X} (hi : kv_loc i = false) : kx_st1 V own mn nL i len pc lv st X = (kx_st1 V own mn nL i len pc lv' st X).map (fun r => (r.1, lv, r.2.2)) := by
  cases i <;> first | (cases hi; done) | (simp only [kx_st1]; done) | (simp only [kx_st1]; (repeat' split) <;> rfl)
theorem kv_st1L {V : kx_V} {own mn : String} {nL : Nat} {i : Instr} {len pc : Nat} {lv lv' l' : kx_L} {st st' : List Value} {X X' : kx_X} {pc' dc ds : Nat} (h : kv_sub lv lv') (hi : kv_loc i = true) (hs : kx_st1 V own mn nL i len pc lv' st X = some (pc', l', st', X', dc, ds)) : ∃ l, kx_st1 V own mn nL i len pc lv st X = some (pc', l, st', X', dc, ds) ∧ kv_sub l l' := by
  cases i <;> first
    | (cases hi; done)
    | (simp only [kx_st1] at hs ⊢
       split at hs
       · rename_i hlen
         simp only [if_pos hlen]
         split at hs
         · rename_i hk
           cases hs
           exact ⟨lv, by simp only [h.1 _ _ hk], h⟩
         · cases hs
       · cases hs)
    | (simp only [kx_st1] at hs ⊢
       split at hs
       · rename_i hlen
         simp only [if_pos hlen]
         split at hs
         · rename_i hk
           cases hs
           exact ⟨lv, by simp only [h.1 _ _ hk], h⟩
         · rename_i hk
           cases hs
           exact ⟨lv, by simp only [h.1 _ _ hk], h⟩
         · cases hs
       · cases hs)
    | (simp only [kx_st1] at hs ⊢
       split at hs
       · rename_i hlen
         simp only [if_pos hlen]
         split at hs
         · split at hs
           · rename_i hk
             cases hs
             obtain ⟨l, h1, h2⟩ := kv_sto h hk
             exact ⟨l, by simp only [h1], h2⟩
           · cases hs
         · cases hs
       · cases hs)
    | (simp only [kx_st1] at hs ⊢
       split at hs
       · rename_i hlen
         simp only [if_pos hlen]
         split at hs
         · split at hs
           · rename_i hk
             cases hs
             obtain ⟨l, h1, h2⟩ := kv_stw h hk
             exact ⟨l, by simp only [h1], h2⟩
           · cases hs
         · cases hs
       · cases hs)
    | (simp only [kx_st1] at hs ⊢
       split at hs
       · rename_i hlen
         simp only [if_pos hlen]
         split at hs
         · split at hs
           · rename_i hk
             cases hs
             obtain ⟨l, h1, h2⟩ := kv_sto h hk
             exact ⟨l, by simp only [h1], h2⟩
           · cases hs
         · split at hs
           · rename_i hk
             cases hs
             obtain ⟨l, h1, h2⟩ := kv_sto h hk
             exact ⟨l, by simp only [h1], h2⟩
           · cases hs
         · cases hs
       · cases hs)
    | (simp only [kx_st1] at hs ⊢
       split at hs
       · rename_i hlen
         simp only [if_pos hlen]
         split at hs
         · rename_i hk0
           split at hs
           · rename_i hk
             cases hs
             obtain ⟨l, h1, h2⟩ := kv_sto h hk
             exact ⟨l, by simp only [h.1 _ _ hk0, h1], h2⟩
           · cases hs
         · cases hs
       · cases hs)
theorem kv_st2 {V : kx_V} {F L : Nat} {M : kx_M} {i : Instr} {len pc : Nat} {lv lv' : kx_L} {st : List Value} {X : kx_X} : kx_st2 V F L M i len pc lv st X = (kx_st2 V F L M i len pc lv' st X).map (fun r => (r.1, lv, r.2.2)) := by
  cases i <;> first | (simp only [kx_st2]; done) | (simp only [kx_st2]; (repeat' split) <;> rfl)
theorem kv_hs {nL : Nat} {cc : ByteArray} {h : Nat} {lv lv' l' : kx_L} {pc' : Nat} (hv : kv_sub lv lv') (hs : kx_hs nL cc h lv' = some (pc', l')) : ∃ l, kx_hs nL cc h lv = some (pc', l) ∧ kv_sub l l' := by
  unfold kx_hs at hs ⊢
  split at hs
  · split at hs
    · rename_i hk
      cases hs
      rw [if_pos hk]
      exact ⟨_, rfl, kv_filter hv _⟩
    · cases hs
  · split at hs
    · rename_i hk
      cases hs
      rw [if_pos hk]
      exact ⟨_, rfl, kv_filter hv _⟩
    · cases hs
  · cases hs
theorem kv_locN {V : kx_V} {F L : Nat} {M : kx_M} {i : Instr} {len pc : Nat} {lv : kx_L} {st : List Value} {X : kx_X} {own : String} (hi : kv_loc i = true) : kx_st2 V F L M i len pc lv st X = none ∧ kx_end M i len st = none ∧ kx_inv V own F L i len st X = none ∧ i ≠ .athrow := by
  cases i <;> first
    | (cases hi; done)
    | exact ⟨rfl, rfl, rfl, fun e => by cases e⟩
theorem kv_add {dc ds : Nat} {o o' : Option kx_Z} (h : ∀ z, o = some z → o' = some z) {z : kx_Z} (hz : kx_add dc ds o = some z) : kx_add dc ds o' = some z := ky_add_mono h hz
theorem kv_run {V : kx_V} : ∀ (n F L : Nat) (M : kx_M) (pc : Nat) (lv lv' : kx_L) (st : List Value) (X : kx_X) (z : kx_Z), kv_sub lv lv' → kx_run V n F L M pc lv' st X = some z → kx_run V n F L M pc lv st X = some z := by
  intro n
  induction n with
  | zero =>
    intro F L M pc lv lv' st X z _ h
    cases h
  | succ n ih =>
    intro F L M pc lv lv' st X z hs h
    rw [ky_run_eq] at h ⊢
    unfold ky_body at h ⊢
    split at h
    · cases h
    · rename_i i len hd
      cases hL : kv_loc i with
      | true =>
        obtain ⟨n2, n3, n4, n5⟩ := kv_locN (V := V) (F := F) (L := L) (M := M) (len := len) (pc := pc) (lv := lv') (st := st) (X := X) (own := M.1.cls) hL
        split at h
        · rename_i pc' l' st' X' dc ds h1
          obtain ⟨l, g1, g2⟩ := kv_st1L hs hL h1
          simp only [g1]
          exact kv_add (fun z => ih _ _ _ _ _ _ _ _ z g2) h
        · simp only [n2, n3, n4] at h
          split at h
          · exact absurd rfl n5
          · cases h
      | false =>
        rw [kv_st1 (lv := lv) (lv' := lv') hL]
        cases h1 : kx_st1 V M.1.cls M.1.name M.2.2.1 i len pc lv' st X with
        | some r =>
          obtain ⟨pc', l', st', X', dc, ds⟩ := r
          simp only [h1] at h
          have e := kv_st1 (V := V) (own := M.1.cls) (mn := M.1.name) (nL := M.2.2.1) (len := len) (pc := pc) (lv := lv') (lv' := lv') (st := st) (X := X) hL
          rw [h1] at e
          simp only [Option.map_some, Option.some.injEq, Prod.mk.injEq] at e
          have e2 : l' = lv' := e.2.1
          subst e2
          simp only [Option.map_some]
          exact kv_add (fun z => ih _ _ _ _ _ _ _ _ z hs) h
        | none =>
          simp only [h1] at h
          simp only [Option.map_none]
          rw [kv_st2 (lv := lv) (lv' := lv')]
          cases h2 : kx_st2 V F L M i len pc lv' st X with
          | some r =>
            obtain ⟨pc', l', st', X', dc, ds⟩ := r
            simp only [h2] at h
            have e := kv_st2 (V := V) (F := F) (L := L) (M := M) (i := i) (len := len) (pc := pc) (lv := lv') (lv' := lv') (st := st) (X := X)
            rw [h2] at e
            simp only [Option.map_some, Option.some.injEq, Prod.mk.injEq] at e
            have e2 : l' = lv' := e.2.1
            subst e2
            simp only [Option.map_some]
            exact kv_add (fun z => ih _ _ _ _ _ _ _ _ z hs) h
          | none =>
            simp only [h2] at h
            simp only [Option.map_none]
            split at h
            · rename_i v h3
              exact h
            · rename_i h3
              split at h
              · rename_i M' As rest h4
                split at h
                · rename_i v X' dc ds h5
                  exact kv_add (fun z => ih _ _ _ _ _ _ _ _ z hs) h
                · rename_i E X' dc ds h5
                  refine kv_add (fun z hz => ?_) h
                  split at hz
                  · rename_i h6
                    exact hz
                  · rename_i hh h6
                    split at hz
                    · rename_i pc' l' h7
                      obtain ⟨l, g1, g2⟩ := kv_hs hs h7
                      simp only [g1]
                      exact ih _ _ _ _ _ _ _ _ z g2 hz
                    · cases hz
                  · cases hz
                · cases h
              · rename_i h4
                split at h
                · split at h
                  · rename_i h8
                    split at h
                    · rename_i h9
                      split at h
                      · rename_i hlen
                        split at h
                        · rename_i h6
                          rw [if_pos hlen]
                          exact h
                        · rename_i hh h6
                          split at h
                          · rename_i pc' l' h7
                            obtain ⟨l, g1, g2⟩ := kv_hs hs h7
                            simp only [g1]
                            rw [if_pos hlen]
                            exact ih _ _ _ _ _ _ _ _ z g2 h
                          · cases h
                        · cases h
                      · cases h
                    · cases h
                  · cases h
                · cases h
theorem ky_weak {V : kx_V} {F L : Nat} {M : kx_M} {pc : Nat} {lv lv' : kx_L} {st : List Value} {X : kx_X} {C S : Nat} {Q : kx_Rs → kx_X → Nat → Nat → Prop} (hs : kv_sub lv lv') (h : ky V F L M pc lv' st X C S Q) : ky V F L M pc lv st X C S Q := by
  obtain ⟨n, r, X', dc, ds, C', S', h1, h2, h3, h4⟩ := h
  exact ⟨n, r, X', dc, ds, C', S', kv_run n _ _ _ _ _ _ _ _ _ hs h1, h2, h3, h4⟩
/-- a list of locals, each of which stands there, no place twice -/
def kv_ck (lv : kx_L) : kx_L → Prop
  | [] => True
  | q :: r => kx_lk lv q.1 = some q.2 ∧ kv_ck lv r
theorem kv_ck_mem {lv : kx_L} : ∀ {r : kx_L}, kv_ck lv r → ∀ q ∈ r, kx_lk lv q.1 = some q.2
  | [], _, q, h => absurd h List.not_mem_nil
  | p :: r, hc, q, h => by
    rcases List.mem_cons.mp h with rfl | h
    · exact hc.1
    · exact kv_ck_mem hc.2 q h
def kv_nd : List Nat → Bool
  | [] => true
  | a :: r => !(r.any (Nat.beq a)) && kv_nd r
theorem kv_nd_ok : ∀ {l : List Nat}, kv_nd l = true → l.Nodup
  | [], _ => List.nodup_nil
  | a :: r, h => by
    simp only [kv_nd, Bool.and_eq_true, Bool.not_eq_true'] at h
    rw [List.nodup_cons]
    refine ⟨fun hm => ?_, kv_nd_ok h.2⟩
    have : r.any (Nat.beq a) = true := List.any_eq_true.mpr ⟨a, hm, Nat.beq_refl a⟩
    rw [this] at h
    exact absurd h.1 (by decide)
theorem kz_weak {V : kx_V} {G : wT} {ob : Nat → Nat} {ot : Nat → Option kx_E} {L : Nat} {M : kx_M} {pc : Nat} {lv : kx_L} {st : List Value} {w : wS} {Q : kx_Rs → wS → Prop} (lv' : kx_L) (hc : kv_ck lv lv') (hn : kv_nd (lv'.map (·.1)) = true) (h : kz V G ob ot L M pc lv' st w Q) : kz V G ob ot L M pc lv st w Q := fun F hF X hX => ky_weak ⟨fun i v hv => kv_ck_mem hc (i, v) (kv_lk_mem hv), kv_nd_ok hn⟩ (h F hF X hX)
