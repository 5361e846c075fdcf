/-! ===== RUNS OF kx_run, part 1: more fuel; a run by what it must bring; rules ===== -/
/-- one round of kx_run, with what goes on left open -/
def ky_body (V : kx_V) (rec : Nat → Nat → kx_M → Nat → kx_L → List Value → kx_X → Option kx_Z) (F L : Nat) (M : kx_M) (pc : Nat) (lv : kx_L) (st : List Value) (X : kx_X) : Option kx_Z := match decode M.2.1 pc with
    | .error _ => none
    | .ok (i, len) => match kx_st1 V M.1.cls M.1.name M.2.2.1 i len pc lv st X with
      | some (pc', lv', st', X', dc, ds) => kx_add dc ds (rec F L M pc' lv' st' X')
      | none => match kx_st2 V F L M i len pc lv st X with
        | some (pc', lv', st', X', dc, ds) => kx_add dc ds (rec F L M pc' lv' st' X')
        | none => match kx_end M i len st with
          | some v => some (.inl v, X, 0, 0)
          | none => match kx_inv V M.1.cls F L i len st X with
            | some (M', As, rest) => match rec (F - 1) (L - (19 + M'.2.2.1)) M' 0 (lv_args 0 As) [] X with
              | some (.inl v, X', dc, ds) => kx_add dc ds (rec F L M (pc + 3) lv (v.toList ++ rest) X')
              | some (.inr E, X', dc, ds) => kx_add dc ds (match kx_hd V M.1.cls pc E (M.2.2.2.2.getD []) with
                | some none => some (.inr E, X', 0, 0)
                | some (some h) => match kx_hs M.2.2.1 M.2.1 h lv with
                  | some (pc', lv') => rec F L M pc' lv' [] X'
                  | none => none
                | none => none)
              | none => none
            | none => match i, st with
              | .athrow, .ref a :: _ => match X.1 a with
                | some (.inr (ci, _)) => match (kx_cl V)[ci]? with
                  | some (E, _, _) => if len = 1 then (match kx_hd V M.1.cls pc E (M.2.2.2.2.getD []) with
                    | some none => some (.inr E, X, 0, 0)
                    | some (some h) => match kx_hs M.2.2.1 M.2.1 h lv with
                      | some (pc', lv') => rec F L M pc' lv' [] X
                      | none => none
                    | none => none) else none
                  | none => none
                | _ => none
              | _, _ => none
theorem ky_run_eq (V : kx_V) (n F L : Nat) (M : kx_M) (pc : Nat) (lv : kx_L) (st : List Value) (X : kx_X) : kx_run V (n + 1) F L M pc lv st X = ky_body V (kx_run V n) F L M pc lv st X := rfl
theorem ky_add_mono {dc ds : Nat} {o o' : Option kx_Z} (h : ∀ z, o = some z → o' = some z) {z : kx_Z} (hz : kx_add dc ds o = some z) : kx_add dc ds o' = some z := by
  unfold kx_add at hz ⊢
  obtain ⟨q, h1, rfl⟩ := Option.map_eq_some_iff.mp hz
  rw [h q h1]
  rfl
theorem ky_body_mono {V : kx_V} {r1 r2 : Nat → Nat → kx_M → Nat → kx_L → List Value → kx_X → Option kx_Z} (hr : ∀ F L M pc lv st X z, r1 F L M pc lv st X = some z → r2 F L M pc lv st X = some z) {F L : Nat} {M : kx_M} {pc : Nat} {lv : kx_L} {st : List Value} {X : kx_X} {z : kx_Z} (h : ky_body V r1 F L M pc lv st X = some z) : ky_body V r2 F L M pc lv st X = some z := by
  unfold ky_body at h ⊢
  split at h
  · cases h
  · split at h
    · exact ky_add_mono (fun z => hr _ _ _ _ _ _ _ z) h
    · split at h
      · exact ky_add_mono (fun z => hr _ _ _ _ _ _ _ z) h
      · split at h
        · exact h
        · split at h
          · split at h
            · rename_i hc
              rw [hr _ _ _ _ _ _ _ _ hc]
              exact ky_add_mono (fun z => hr _ _ _ _ _ _ _ z) h
            · rename_i hc
              rw [hr _ _ _ _ _ _ _ _ hc]
              refine ky_add_mono (fun z hz => ?_) h
              split at hz
              · exact hz
              · split at hz
                · exact hr _ _ _ _ _ _ _ z hz
                · cases hz
              · cases hz
            · cases h
          · split at h
            · split at h
              · split at h
                · split at h
                  · rename_i hlen
                    rw [if_pos hlen]
                    split at h
                    · exact h
                    · split at h
                      · exact hr _ _ _ _ _ _ _ z h
                      · cases h
                    · cases h
                  · cases h
                · cases h
              · cases h
            · cases h
theorem ky_fuel1 {V : kx_V} (n : Nat) : ∀ (F L : Nat) (M : kx_M) (pc : Nat) (lv : kx_L) (st : List Value) (X : kx_X) (z : kx_Z), kx_run V n F L M pc lv st X = some z → kx_run V (n + 1) F L M pc lv st X = some z := by
  induction n with
  | zero =>
    intro F L M pc lv st X z h
    cases h
  | succ n ih =>
    intro F L M pc lv st X z h
    rw [ky_run_eq] at h ⊢
    exact ky_body_mono ih h
theorem ky_fuel {V : kx_V} {n k F L : Nat} {M : kx_M} {pc : Nat} {lv : kx_L} {st : List Value} {X : kx_X} {z : kx_Z} (hk : n ≤ k) (h : kx_run V n F L M pc lv st X = some z) : kx_run V k F L M pc lv st X = some z := by
  induction k with
  | zero =>
    have : n = 0 := by omega
    subst this
    exact h
  | succ k ih =>
    by_cases hn : n = k + 1
    · subst hn
      exact h
    · exact ky_fuel1 k _ _ _ _ _ _ _ _ (ih (by omega))
/-- a run from here comes to an end at which Q holds, of the answer, the heap, the cells and slots that are left -/
def ky (V : kx_V) (F L : Nat) (M : kx_M) (pc : Nat) (lv : kx_L) (st : List Value) (X : kx_X) (C S : Nat) (Q : kx_Rs → kx_X → Nat → Nat → Prop) : Prop := ∃ (n : Nat) (r : kx_Rs) (X' : kx_X) (dc ds C' S' : Nat), kx_run V n F L M pc lv st X = some (r, X', dc, ds) ∧ C = dc + C' ∧ S = ds + S' ∧ Q r X' C' S'
section KYR
variable {V : kx_V} {F L : Nat} {M : kx_M} {pc : Nat} {lv : kx_L} {st : List Value} {X : kx_X} {C S : Nat} {Q : kx_Rs → kx_X → Nat → Nat → Prop}
theorem ky_mono {Q' : kx_Rs → kx_X → Nat → Nat → Prop} (h : ky V F L M pc lv st X C S Q) (hq : ∀ r X C S, Q r X C S → Q' r X C S) : ky V F L M pc lv st X C S Q' := by
  obtain ⟨n, r, X', dc, ds, C', S', h1, h2, h3, h4⟩ := h
  exact ⟨n, r, X', dc, ds, C', S', h1, h2, h3, hq _ _ _ _ h4⟩
theorem ky_step {i : Instr} {len : Nat} (hd : decode M.2.1 pc = .ok (i, len)) {pc' : Nat} {lv' : kx_L} {st' : List Value} {X' : kx_X} {dc ds : Nat} (h : kx_st1 V M.1.cls M.1.name M.2.2.1 i len pc lv st X = some (pc', lv', st', X', dc, ds)) {C' S' : Nat} (hC : C = dc + C') (hS : S = ds + S') (k : ky V F L M pc' lv' st' X' C' S' Q) : ky V F L M pc lv st X C S Q := by
  obtain ⟨n, r, X2, dc2, ds2, C2, S2, h1, h2, h3, h4⟩ := k
  refine ⟨n + 1, r, X2, dc + dc2, ds + ds2, C2, S2, ?_, by omega, by omega, h4⟩
  rw [ky_run_eq]
  unfold ky_body
  simp only [hd, h, h1]
  rfl
/-- .. that makes nothing -/
theorem ky_s {i : Instr} {len : Nat} (hd : decode M.2.1 pc = .ok (i, len)) {pc' : Nat} {lv' : kx_L} {st' : List Value} {X' : kx_X} (h : kx_st1 V M.1.cls M.1.name M.2.2.1 i len pc lv st X = some (pc', lv', st', X', 0, 0)) (k : ky V F L M pc' lv' st' X' C S Q) : ky V F L M pc lv st X C S Q := ky_step hd h (Nat.zero_add C).symm (Nat.zero_add S).symm k
theorem ky_step2 {i : Instr} {len : Nat} (hd : decode M.2.1 pc = .ok (i, len)) (h0 : kx_st1 V M.1.cls M.1.name M.2.2.1 i len pc lv st X = none) {pc' : Nat} {lv' : kx_L} {st' : List Value} {X' : kx_X} {dc ds : Nat} (h : kx_st2 V F L M i len pc lv st X = some (pc', lv', st', X', dc, ds)) {C' S' : Nat} (hC : C = dc + C') (hS : S = ds + S') (k : ky V F L M pc' lv' st' X' C' S' Q) : ky V F L M pc lv st X C S Q := by
  obtain ⟨n, r, X2, dc2, ds2, C2, S2, h1, h2, h3, h4⟩ := k
  refine ⟨n + 1, r, X2, dc + dc2, ds + ds2, C2, S2, ?_, by omega, by omega, h4⟩
  rw [ky_run_eq]
  unfold ky_body
  simp only [hd, h0, h, h1]
  rfl
theorem ky_end {i : Instr} {len : Nat} (hd : decode M.2.1 pc = .ok (i, len)) (h0 : kx_st1 V M.1.cls M.1.name M.2.2.1 i len pc lv st X = none) (h1 : kx_st2 V F L M i len pc lv st X = none) {v : Option Value} (h : kx_end M i len st = some v) (k : Q (.inl v) X C S) : ky V F L M pc lv st X C S Q := by
  refine ⟨1, .inl v, X, 0, 0, C, S, ?_, by omega, by omega, k⟩
  rw [ky_run_eq]
  unfold ky_body
  simp only [hd, h0, h1, h]
/-- where an exception of class E goes, thrown at pc -/
def ky_x (V : kx_V) (F L : Nat) (M : kx_M) (pc : Nat) (lv : kx_L) (E : String) (X : kx_X) (C S : Nat) (Q : kx_Rs → kx_X → Nat → Nat → Prop) : Prop := match kx_hd V M.1.cls pc E (M.2.2.2.2.getD []) with
  | some none => Q (.inr E) X C S
  | some (some h) => match kx_hs M.2.2.1 M.2.1 h lv with
    | some (pc', lv') => ky V F L M pc' lv' [] X C S Q
    | none => False
  | none => False
theorem ky_call {i : Instr} {len : Nat} (hd : decode M.2.1 pc = .ok (i, len)) (h0 : kx_st1 V M.1.cls M.1.name M.2.2.1 i len pc lv st X = none) (h1 : kx_st2 V F L M i len pc lv st X = none) (h2 : kx_end M i len st = none) {M' : kx_M} {As rest : List Value} (h : kx_inv V M.1.cls F L i len st X = some (M', As, rest))
    (k : ky V (F - 1) (L - (19 + M'.2.2.1)) M' 0 (lv_args 0 As) [] X C S (fun r X' C' S' => match r with
      | .inl v => ky V F L M (pc + 3) lv (v.toList ++ rest) X' C' S' Q
      | .inr E => ky_x V F L M pc lv E X' C' S' Q)) : ky V F L M pc lv st X C S Q := by
  obtain ⟨n, r, X2, dc2, ds2, C2, S2, g1, g2, g3, g4⟩ := k
  cases r with
  | inl v =>
    obtain ⟨n9, r9, X9, dc9, ds9, C9, S9, f1, f2, f3, f4⟩ := g4
    refine ⟨max n n9 + 1, r9, X9, dc2 + dc9, ds2 + ds9, C9, S9, ?_, by omega, by omega, f4⟩
    rw [ky_run_eq]
    unfold ky_body
    simp only [hd, h0, h1, h2, h, ky_fuel (Nat.le_max_left n n9) g1, ky_fuel (Nat.le_max_right n n9) f1]
    rfl
  | inr E =>
    simp only [ky_x] at g4
    split at g4
    · rename_i hh
      refine ⟨n + 1, .inr E, X2, dc2 + 0, ds2 + 0, C2, S2, ?_, by omega, by omega, g4⟩
      rw [ky_run_eq]
      unfold ky_body
      simp only [hd, h0, h1, h2, h, g1, hh]
      rfl
    · rename_i hp hh
      split at g4
      · rename_i pc' lv' hhs
        obtain ⟨n9, r9, X9, dc9, ds9, C9, S9, f1, f2, f3, f4⟩ := g4
        refine ⟨max n n9 + 1, r9, X9, dc2 + dc9, ds2 + ds9, C9, S9, ?_, by omega, by omega, f4⟩
        rw [ky_run_eq]
        unfold ky_body
        simp only [hd, h0, h1, h2, h, ky_fuel (Nat.le_max_left n n9) g1, hh, hhs, ky_fuel (Nat.le_max_right n n9) f1]
        rfl
      · exact g4.elim
    · exact g4.elim
theorem ky_throw (hd : decode M.2.1 pc = .ok (.athrow, 1)) {a : Nat} {r1 : List Value} {ci : Nat} {fs : List Value} (ha : X.1 a = some (.inr (ci, fs))) {E : String} {T : u_T} {N : Nat} (hc : (kx_cl V)[ci]? = some (E, T, N)) (k : ky_x V F L M pc lv E X C S Q) : ky V F L M pc lv (.ref a :: r1) X C S Q := by
  simp only [ky_x] at k
  split at k
  · rename_i hh
    refine ⟨1, .inr E, X, 0, 0, C, S, ?_, by omega, by omega, k⟩
    rw [ky_run_eq]
    unfold ky_body
    simp only [hd, kx_st1, kx_st2, kx_end, kx_inv, ha, hc, hh, if_pos]
  · rename_i hp hh
    split at k
    · rename_i pc' lv' hhs
      obtain ⟨n9, r9, X9, dc9, ds9, C9, S9, f1, f2, f3, f4⟩ := k
      refine ⟨n9 + 1, r9, X9, dc9, ds9, C9, S9, ?_, f2, f3, f4⟩
      rw [ky_run_eq]
      unfold ky_body
      simp only [hd, kx_st1, kx_st2, kx_end, kx_inv, ha, hc, hh, hhs, f1, if_pos]
    · exact k.elim
  · exact k.elim
end KYR
