/-! ===== RUNS OVER A TYPED STATE, part 9: one environment; stores, switches, throws ===== -/
/-- what is fixed all through: the addresses of constants and of fixed objects, what else lies in the heap -/
abbrev zE : Type := ((Nat → Nat) × (Nat → Nat) × (Nat → Nat) × (Nat → Value) × Nat × Nat × (Nat → Int32) × Nat) × (Nat → Nat) × (Nat → Option kx_E)
abbrev zV (E : zE) : kx_V := kw_V E.1.1 E.1.2.1 E.1.2.2.1 E.1.2.2.2.1 E.1.2.2.2.2.1 E.1.2.2.2.2.2.1 E.1.2.2.2.2.2.2.1 E.1.2.2.2.2.2.2.2
abbrev kzE (E : zE) (L : Nat) (M : kx_M) (pc : Nat) (lv : kx_L) (st : List Value) (w : wS) (Q : kx_Rs → wS → Prop) : Prop := kz (zV E) wG E.2.1 E.2.2 L M pc lv st w Q
/-- a method from its entry -/
def zw (E : zE) (L : Nat) (M : kx_M) (As : List Value) (w : wS) (Q : kx_Rs → wS → Prop) : Prop := kz (zV E) wG E.2.1 E.2.2 L M 0 (lv_args 0 As) [] w Q
abbrev zr_ (E : zE) (c o : Nat) : Value := .ref (w_adr E.2.1 c o)
theorem w_cat (x : Option Nat) : (va_rf x).category = 1 := by cases x <;> rfl
/-- what is kept of the locals at a store at place k -/
def kv_sk (lv : kx_L) (k : Nat) : kx_L → Prop
  | [] => True
  | q :: r => (kx_lk lv q.1 = some q.2 ∧ Nat.beq q.1 k = false ∧ (Nat.beq (q.1 + 1) k = false ∨ q.2.category = 1)) ∧ kv_sk lv k r
theorem kv_sk_mem {lv : kx_L} {k : Nat} : ∀ {r : kx_L}, kv_sk lv k r → ∀ q ∈ r, kx_lk lv q.1 = some q.2 ∧ q.1 ≠ k ∧ (q.1 + 1 ≠ k ∨ q.2.category = 1)
  | [], _, q, h => absurd h List.not_mem_nil
  | p :: r, hc, q, h => by
    rcases List.mem_cons.mp h with rfl | h
    · refine ⟨hc.1.1, fun e => ?_, hc.1.2.2.elim (fun h1 => .inl (fun e => ?_)) .inr⟩
      · have := hc.1.2.1
        rw [e, Nat.beq_refl] at this
        cases this
      · rw [e, Nat.beq_refl] at h1
        cases h1
    · exact kv_sk_mem hc.2 q h
theorem kv_sto_sub {nL : Nat} {lv lv' : kx_L} {k : Nat} {v : Value} (hk : k < nL) (hc : kv_sk lv k lv') (hn : kv_nd (k :: lv'.map (·.1)) = true) : ∃ l, kx_sto nL lv k v = some l ∧ kv_sub l ((k, v) :: lv') := by
  refine ⟨_, if_pos hk, fun i u hu => ?_, ?_⟩
  · have hm := kv_lk_mem hu
    rw [kv_lk_cons]
    rcases List.mem_cons.mp hm with h | h
    · cases h
      rw [if_pos rfl]
    · obtain ⟨h1, h2, h3⟩ := kv_sk_mem hc _ h
      rw [if_neg (fun e => h2 e.symm)]
      refine kv_lk_filter h1 ?_
      simp only [Bool.and_eq_true, Bool.not_eq_true', beq_eq_false_iff_ne, ne_eq]
      refine ⟨h2, ?_⟩
      rcases h3 with h3 | h3
      · simp [h3]
      · simp [h3]
  · exact kv_nd_ok hn
theorem kv_stw_sub {nL : Nat} {lv lv' : kx_L} {k : Nat} {v : Value} (hk : k + 1 < nL) (hc : kv_sk lv k lv') (hc2 : (lv'.any (fun q => Nat.beq q.1 (k + 1))) = false) (hn : kv_nd (k :: lv'.map (·.1)) = true) : ∃ l, kx_stw nL lv k v = some l ∧ kv_sub l ((k, v) :: lv') := by
  refine ⟨_, if_pos hk, fun i u hu => ?_, ?_⟩
  · have hm := kv_lk_mem hu
    rw [kv_lk_cons]
    rcases List.mem_cons.mp hm with h | h
    · cases h
      rw [if_pos rfl]
    · obtain ⟨h1, h2, h3⟩ := kv_sk_mem hc _ h
      rw [if_neg (fun e => h2 e.symm)]
      refine kv_lk_filter h1 ?_
      have h4 : i ≠ k + 1 := by
        intro e
        have := List.any_eq_false.mp hc2 _ h
        rw [e] at this
        exact this (Nat.beq_refl _)
      simp only [Bool.and_eq_true, Bool.not_eq_true', beq_eq_false_iff_ne, ne_eq]
      refine ⟨h2, h4, ?_⟩
      rcases h3 with h3 | h3
      · simp [h3]
      · simp [h3]
  · exact kv_nd_ok hn
section KM
variable {V : kx_V} {G : wT} {ob : Nat → Nat} {ot : Nat → Option kx_E} {L : Nat} {M : kx_M} {pc : Nat} {lv : kx_L} {st : List Value} {w : wS} {Q : kx_Rs → wS → Prop}
theorem kz_sub_go {lv lv' : kx_L} (hs : kv_sub lv lv') (h : kz V G ob ot L M pc lv' st w Q) : kz V G ob ot L M pc lv st w Q := fun F hF X hX => ky_weak hs (h F hF X hX)
theorem kz_sti_n {k : Fin 4} {x : Int32} (lv' : kx_L) (hd : decode M.2.1 pc = .ok (.istore_n k, 1)) (hk : (k : Nat) < M.2.2.1) (hc : kv_sk lv k lv') (hn : kv_nd ((k : Nat) :: lv'.map (·.1)) = true) (kk : kz V G ob ot L M (pc + 1) (((k : Nat), .int x) :: lv') st w Q) : kz V G ob ot L M pc lv (.int x :: st) w Q := by
  obtain ⟨l, h1, h2⟩ := kv_sto_sub (v := .int x) hk hc hn
  exact kz_istore_n hd h1 (kz_sub_go h2 kk)
theorem kz_sti {k : Nat} {x : Int32} (lv' : kx_L) (hd : decode M.2.1 pc = .ok (.istore k, 2)) (hk : k < M.2.2.1) (hc : kv_sk lv k lv') (hn : kv_nd (k :: lv'.map (·.1)) = true) (kk : kz V G ob ot L M (pc + 2) ((k, .int x) :: lv') st w Q) : kz V G ob ot L M pc lv (.int x :: st) w Q := by
  obtain ⟨l, h1, h2⟩ := kv_sto_sub (v := .int x) hk hc hn
  exact kz_istore hd h1 (kz_sub_go h2 kk)
theorem kz_stl_n {k : Fin 4} {x : Int64} (lv' : kx_L) (hd : decode M.2.1 pc = .ok (.lstore_n k, 1)) (hk : (k : Nat) + 1 < M.2.2.1) (hc : kv_sk lv k lv') (hc2 : (lv'.any (fun q => Nat.beq q.1 ((k : Nat) + 1))) = false) (hn : kv_nd ((k : Nat) :: lv'.map (·.1)) = true) (kk : kz V G ob ot L M (pc + 1) (((k : Nat), .long x) :: lv') st w Q) : kz V G ob ot L M pc lv (.long x :: st) w Q := by
  obtain ⟨l, h1, h2⟩ := kv_stw_sub (v := .long x) hk hc hc2 hn
  exact kz_lstore_n hd h1 (kz_sub_go h2 kk)
theorem kz_stl {k : Nat} {x : Int64} (lv' : kx_L) (hd : decode M.2.1 pc = .ok (.lstore k, 2)) (hk : k + 1 < M.2.2.1) (hc : kv_sk lv k lv') (hc2 : (lv'.any (fun q => Nat.beq q.1 (k + 1))) = false) (hn : kv_nd (k :: lv'.map (·.1)) = true) (kk : kz V G ob ot L M (pc + 2) ((k, .long x) :: lv') st w Q) : kz V G ob ot L M pc lv (.long x :: st) w Q := by
  obtain ⟨l, h1, h2⟩ := kv_stw_sub (v := .long x) hk hc hc2 hn
  exact kz_lstore hd h1 (kz_sub_go h2 kk)
theorem kz_sta_n {k : Fin 4} {x : Nat} (lv' : kx_L) (hd : decode M.2.1 pc = .ok (.astore_n k, 1)) (hk : (k : Nat) < M.2.2.1) (hc : kv_sk lv k lv') (hn : kv_nd ((k : Nat) :: lv'.map (·.1)) = true) (kk : kz V G ob ot L M (pc + 1) (((k : Nat), .ref x) :: lv') st w Q) : kz V G ob ot L M pc lv (.ref x :: st) w Q := by
  obtain ⟨l, h1, h2⟩ := kv_sto_sub (v := .ref x) hk hc hn
  exact kz_astore_n hd h1 (kz_sub_go h2 kk)
theorem kz_sta {k : Nat} {x : Nat} (lv' : kx_L) (hd : decode M.2.1 pc = .ok (.astore k, 2)) (hk : k < M.2.2.1) (hc : kv_sk lv k lv') (hn : kv_nd (k :: lv'.map (·.1)) = true) (kk : kz V G ob ot L M (pc + 2) ((k, .ref x) :: lv') st w Q) : kz V G ob ot L M pc lv (.ref x :: st) w Q := by
  obtain ⟨l, h1, h2⟩ := kv_sto_sub (v := .ref x) hk hc hn
  exact kz_astore hd h1 (kz_sub_go h2 kk)
theorem kz_stv_n {k : Fin 4} {x : Option Nat} (lv' : kx_L) (hd : decode M.2.1 pc = .ok (.astore_n k, 1)) (hk : (k : Nat) < M.2.2.1) (hc : kv_sk lv k lv') (hn : kv_nd ((k : Nat) :: lv'.map (·.1)) = true) (kk : kz V G ob ot L M (pc + 1) (((k : Nat), va_rf x) :: lv') st w Q) : kz V G ob ot L M pc lv (va_rf x :: st) w Q := by
  obtain ⟨l, h1, h2⟩ := kv_sto_sub (v := va_rf x) hk hc hn
  exact kz_astore_nv hd h1 (kz_sub_go h2 kk)
theorem kz_stv {k : Nat} {x : Option Nat} (lv' : kx_L) (hd : decode M.2.1 pc = .ok (.astore k, 2)) (hk : k < M.2.2.1) (hc : kv_sk lv k lv') (hn : kv_nd (k :: lv'.map (·.1)) = true) (kk : kz V G ob ot L M (pc + 2) ((k, va_rf x) :: lv') st w Q) : kz V G ob ot L M pc lv (va_rf x :: st) w Q := by
  obtain ⟨l, h1, h2⟩ := kv_sto_sub (v := va_rf x) hk hc hn
  exact kz_astorev hd h1 (kz_sub_go h2 kk)
theorem kz_inc {k : Nat} {n : Int} {x : Int32} (lv' : kx_L) (hd : decode M.2.1 pc = .ok (.iinc k n, 3)) (hx : kx_lk lv k = some (.int x)) (hk : k < M.2.2.1) (hc : kv_sk lv k lv') (hn : kv_nd (k :: lv'.map (·.1)) = true) (kk : kz V G ob ot L M (pc + 3) ((k, .int (x + Int32.ofInt n)) :: lv') st w Q) : kz V G ob ot L M pc lv st w Q := by
  obtain ⟨l, h1, h2⟩ := kv_sto_sub (nL := M.2.2.1) (v := .int (x + Int32.ofInt n)) hk hc hn
  refine kz_s (pc' := pc + 3) (lv' := l) (st' := st) hd (fun X => ?_) (kz_sub_go h2 kk)
  simp only [kx_st1, hx, h1, if_pos]
/-- constants as they are written -/
theorem kz_ic {n : Int} (v : Int32) (hd : decode M.2.1 pc = .ok (.iconst n, 1)) (hv : Int32.ofInt n = v) (kk : kz V G ob ot L M (pc + 1) lv (.int v :: st) w Q) : kz V G ob ot L M pc lv st w Q := kz_iconst hd (hv ▸ kk)
theorem kz_bi {n : Int} (v : Int32) (hd : decode M.2.1 pc = .ok (.bipush n, 2)) (hv : (Int8.ofInt n).toInt32 = v) (kk : kz V G ob ot L M (pc + 2) lv (.int v :: st) w Q) : kz V G ob ot L M pc lv st w Q := kz_bipush hd (hv ▸ kk)
theorem kz_si {n : Int} (v : Int32) (hd : decode M.2.1 pc = .ok (.sipush n, 3)) (hv : (Int16.ofInt n).toInt32 = v) (kk : kz V G ob ot L M (pc + 3) lv (.int v :: st) w Q) : kz V G ob ot L M pc lv st w Q := kz_sipush hd (hv ▸ kk)
/-- a thrown fixed object -/
theorem kz_throw {x : Option Nat} {c o : Nat} {E : String} {st1 : List Value} (hd : decode M.2.1 pc = .ok (.athrow, 1)) (hc : ((kx_cl V)[c]?).map (·.1) = some E) (hl : G.2.2.2 c o = true ∨ w_l w ob c o) {A : Prop} (h : x = some (w_adr ob c o) ∧ A) (k : A → kzx V G ob ot L M pc lv E w Q) : kz V G ob ot L M pc lv (va_rf x :: st1) w Q := by
  obtain ⟨rfl, h⟩ := h
  intro F hF X hX
  obtain ⟨q, e1, e2⟩ := Option.map_eq_some_iff.mp hc
  obtain ⟨Cn, T, N⟩ := q
  simp only at e2
  subst e2
  refine ky_throw hd (hX.obj hl) e1 ?_
  have g6 := k h
  unfold kzx at g6
  unfold ky_x
  cases e1 : kx_hd V M.1.cls pc Cn (M.2.2.2.2.getD []) with
  | none =>
    simp only [e1] at g6
  | some x =>
    cases x with
    | none =>
      simp only [e1] at g6
      exact ⟨w, hX, wle_rf w, rfl, rfl, g6⟩
    | some h =>
      simp only [e1] at g6
      simp only
      cases e2 : kx_hs M.2.2.1 M.2.1 h lv with
      | none =>
        simp only [e2] at g6
      | some x =>
        simp only [e2] at g6
        exact g6 F hF X hX
/-- a switch, case by case -/
def wsw (x : Int32) (D : Prop) : List (Int32 × Nat) → List Prop → Prop
  | q :: r, A :: s => if x = q.1 then A else wsw x D r s
  | _, _ => D
def wswK (R : Nat → Prop) : List (Int32 × Nat) → List Prop → Prop
  | q :: r, A :: s => (A → R q.2) ∧ wswK R r s
  | [], _ => True
  | _ :: _, [] => False
def wswt (x : Int32) (t0 : Nat) : List (Int32 × Nat) → Nat
  | [] => t0
  | q :: r => if x = q.1 then q.2 else wswt x t0 r
theorem wsw_go {x : Int32} {D : Prop} {R : Nat → Prop} {t0 : Nat} (kd : D → R t0) : ∀ (cs : List (Int32 × Nat)) (As : List Prop), wsw x D cs As → wswK R cs As → R (wswt x t0 cs)
  | [], _, h, _ => kd (by unfold wsw at h; exact h)
  | _ :: _, [], _, hk => hk.elim
  | q :: r, A :: s, h, hk => by
    simp only [wsw] at h
    simp only [wswt]
    split at h
    · rename_i e
      rw [if_pos e]
      exact hk.1 h
    · rename_i e
      rw [if_neg e]
      exact wsw_go kd r s h hk.2
theorem wswt_no {x : Int32} {t0 : Nat} : ∀ {cs : List (Int32 × Nat)}, (∀ q ∈ cs, x ≠ q.1) → wswt x t0 cs = t0
  | [], _ => rfl
  | q :: r, h => by
    simp only [wswt]
    rw [if_neg (h q List.mem_cons_self), wswt_no (fun p hp => h p (List.mem_cons_of_mem _ hp))]
/-- a table's targets are those of the cases -/
def wts_ck (pc : Nat) (dflt lo hi : Int) (offs : Array Int) (cs : List (Int32 × Nat)) (t0 : Nat) : Bool := decide (kx_tg pc dflt = some t0) && ((List.range offs.size).all (fun k => match offs[k]? with
  | some off => decide (kx_tg pc off = some (wswt (Int32.ofInt (lo + k)) t0 cs))
  | none => false) && (cs.all (fun q => decide (lo ≤ q.1.toInt ∧ q.1.toInt ≤ hi)) && decide ((offs.size : Int) = hi - lo + 1)))
theorem kz_tsw {dflt lo hi : Int} {offs : Array Int} {len : Nat} {x : Int32} {D : Prop} (cs : List (Int32 × Nat)) (As : List Prop) (t0 : Nat) (hd : decode M.2.1 pc = .ok (.tableswitch dflt lo hi offs, len)) (hc : wts_ck pc dflt lo hi offs cs t0 = true) (h : wsw x D cs As) (ks : wswK (fun t => kz V G ob ot L M t lv st w Q) cs As) (kd : D → kz V G ob ot L M t0 lv st w Q) : kz V G ob ot L M pc lv (.int x :: st) w Q := by
  have hg := wsw_go (R := fun t => kz V G ob ot L M t lv st w Q) (t0 := t0) kd cs As h ks
  unfold wts_ck at hc
  simp only [Bool.and_eq_true, decide_eq_true_eq] at hc
  obtain ⟨h1, h2, h3, h4⟩ := hc
  refine kz_s (pc' := wswt x t0 cs) (lv' := lv) (st' := st) hd (fun X => ?_) hg
  simp only [kx_st1]
  split
  · rename_i hr
    rw [h1]
    rw [wswt_no]
    intro q hq e
    have h5 := of_decide_eq_true (List.all_eq_true.mp h3 q hq)
    rw [← e] at h5
    omega
  · rename_i hr
    have hk : (x.toInt - lo).toNat < offs.size := by omega
    have h5 := List.all_eq_true.mp h2 (x.toInt - lo).toNat (List.mem_range.mpr hk)
    have e : Int32.ofInt (lo + ((x.toInt - lo).toNat : Int)) = x := by
      rw [show lo + ((x.toInt - lo).toNat : Int) = x.toInt by omega]
      exact Int32.ofInt_toInt x
    rw [Array.getElem?_eq_getElem hk] at h5 ⊢
    simp only at h5 ⊢
    rw [e] at h5
    rw [of_decide_eq_true h5]
end KM
def wls_ck (pc : Nat) (dflt : Int) (t0 : Nat) : List (Int × Int) → List (Int32 × Nat) → Bool
  | [], [] => decide (kx_tg pc dflt = some t0)
  | p :: r, q :: s => decide (q.1.toInt = p.1) && (decide (kx_tg pc p.2 = some q.2) && wls_ck pc dflt t0 r s)
  | _, _ => false
theorem wls_eq {pc : Nat} {dflt : Int} {t0 : Nat} {x : Int32} : ∀ {ps : List (Int × Int)} {cs : List (Int32 × Nat)}, wls_ck pc dflt t0 ps cs = true → kx_tg pc (Op.lookupswitch.offset ps dflt x.toInt) = some (wswt x t0 cs)
  | [], [], h => of_decide_eq_true h
  | [], _ :: _, h => by cases h
  | _ :: _, [], h => by cases h
  | p :: r, q :: s, h => by
    simp only [wls_ck, Bool.and_eq_true, decide_eq_true_eq] at h
    obtain ⟨h1, h2, h3⟩ := h
    obtain ⟨a, o⟩ := p
    simp only [Op.lookupswitch.offset, wswt]
    simp only at h1 h2
    by_cases e : x = q.1
    · rw [if_pos e, if_pos (by rw [e]; exact h1.symm)]
      exact h2
    · rw [if_neg e, if_neg (fun e2 => e (Int32.toInt_inj.mp (e2.symm.trans h1.symm)))]
      exact wls_eq h3
theorem kz_lsw {V : kx_V} {G : wT} {ob : Nat → Nat} {ot : Nat → Option kx_E} {L : Nat} {M : kx_M} {pc : Nat} {lv : kx_L} {st : List Value} {w : wS} {Q : kx_Rs → wS → Prop} {dflt : Int} {ps : Array (Int × Int)} {len : Nat} {x : Int32} {D : Prop} (cs : List (Int32 × Nat)) (As : List Prop) (t0 : Nat) (hd : decode M.2.1 pc = .ok (.lookupswitch dflt ps, len)) (hs : (ps.toList.zip (ps.toList.drop 1)).all (fun (a, next) => decide (a.1 < next.1)) = true) (hc : wls_ck pc dflt t0 ps.toList cs = true) (h : wsw x D cs As) (ks : wswK (fun t => kz V G ob ot L M t lv st w Q) cs As) (kd : D → kz V G ob ot L M t0 lv st w Q) : kz V G ob ot L M pc lv (.int x :: st) w Q := by
  have hg := wsw_go (R := fun t => kz V G ob ot L M t lv st w Q) (t0 := t0) kd cs As h ks
  refine kz_s (pc' := wswt x t0 cs) (lv' := lv) (st' := st) hd (fun X => ?_) hg
  simp only [kx_st1, hs, if_pos, wls_eq hc]
/-- a longer branch: what is known of a value that is met again -/
theorem kz_gfiD {V : kx_V} {G : wT} {ob : Nat → Nat} {ot : Nat → Option kx_E} {L : Nat} {M : kx_M} {pc : Nat} {lv : kx_L} {st : List Value} {w : wS} {Q : kx_Rs → wS → Prop} {j c o k : Nat} {x : Option Nat} (hd : decode M.2.1 pc = .ok (.getfield j, 3)) (hf : wF V G M.1.cls j c k 0) (hx : x = some (w_adr ob c o)) (hl : G.2.2.2 c o = true ∨ w_l w ob c o) (kk : kz V G ob ot L M (pc + 3) lv (.int (w_i w c o k) :: st) w Q) : kz V G ob ot L M pc lv (va_rf x :: st) w Q := by
  subst hx
  exact kz_gfi hd hf hl kk
section KE
variable {V : kx_V} {G : wT} {ob : Nat → Nat} {ot : Nat → Option kx_E} {L : Nat} {M : kx_M} {pc : Nat} {lv : kx_L} {st : List Value} {w : wS} {Q : kx_Rs → wS → Prop}
theorem kz_gfiR {j c o k : Nat} (v : Int32) (hd : decode M.2.1 pc = .ok (.getfield j, 3)) (hf : wF V G M.1.cls j c k 0) (hl : G.2.2.2 c o = true ∨ w_l w ob c o) (hv : w_i w c o k = v) (kk : kz V G ob ot L M (pc + 3) lv (.int v :: st) w Q) : kz V G ob ot L M pc lv (.ref (w_adr ob c o) :: st) w Q := kz_gfi hd hf hl (hv ▸ kk)
theorem kz_gfgR {j c o k : Nat} (v : Int64) (hd : decode M.2.1 pc = .ok (.getfield j, 3)) (hf : wF V G M.1.cls j c k 1) (hl : G.2.2.2 c o = true ∨ w_l w ob c o) (hv : w_g w c o k = v) (kk : kz V G ob ot L M (pc + 3) lv (.long v :: st) w Q) : kz V G ob ot L M pc lv (.ref (w_adr ob c o) :: st) w Q := kz_gfg hd hf hl (hv ▸ kk)
theorem kz_gfpR {j c o k : Nat} (v : Option Nat) (hd : decode M.2.1 pc = .ok (.getfield j, 3)) (hf : wF V G M.1.cls j c k 2) (hl : G.2.2.2 c o = true ∨ w_l w ob c o) (hv : w_p w c o k = v) (kk : kz V G ob ot L M (pc + 3) lv (va_rf v :: st) w Q) : kz V G ob ot L M pc lv (.ref (w_adr ob c o) :: st) w Q := kz_gfp hd hf hl (hv ▸ kk)
theorem kz_ialdR {i : Int32} {c o k n : Nat} (v : Int32) (hd : decode M.2.1 pc = .ok (.iaload, 1)) (ho : w_own w G ob 0 c o k) {a : Nat} (ha : w_aa G ob w c o k = a) (ht : (kx_tl V)[0]? = some .int) (hn : w_n w c o k = n) (hv : w_a w c o k i.toNatClampNeg = v) {A : Prop} (h : kx_inb i n = true ∧ A) (kk : A → kz V G ob ot L M (pc + 1) lv (.int v :: st) w Q) : kz V G ob ot L M pc lv (.int i :: .ref a :: st) w Q := kz_iald hd ho ha ht (hn ▸ h) (fun z => hv ▸ kk z)
theorem kz_baldR {i : Int32} {c o k n : Nat} (v : Int32) (hd : decode M.2.1 pc = .ok (.baload, 1)) (ho : w_own w G ob 1 c o k) {a : Nat} (ha : w_aa G ob w c o k = a) (ht : (kx_tl V)[1]? = some .byte) (hn : w_n w c o k = n) (hv : w_a w c o k i.toNatClampNeg = v) {A : Prop} (h : kx_inb i n = true ∧ A) (kk : A → kz V G ob ot L M (pc + 1) lv (.int v :: st) w Q) : kz V G ob ot L M pc lv (.int i :: .ref a :: st) w Q := kz_bald hd ho ha ht (hn ▸ h) (fun z => hv ▸ kk z)
theorem kz_zaldR {i : Int32} {c o k n : Nat} (v : Int32) (hd : decode M.2.1 pc = .ok (.baload, 1)) (ho : w_own w G ob 2 c o k) {a : Nat} (ha : w_aa G ob w c o k = a) (ht : (kx_tl V)[2]? = some .boolean) (hn : w_n w c o k = n) (hv : w_a w c o k i.toNatClampNeg = v) {A : Prop} (h : kx_inb i n = true ∧ A) (kk : A → kz V G ob ot L M (pc + 1) lv (.int v :: st) w Q) : kz V G ob ot L M pc lv (.int i :: .ref a :: st) w Q := kz_zald hd ho ha ht (hn ▸ h) (fun z => hv ▸ kk z)
theorem kz_laldR {i : Int32} {c o k n : Nat} (v : Int64) (hd : decode M.2.1 pc = .ok (.laload, 1)) (ho : w_own w G ob 3 c o k) {a : Nat} (ha : w_aa G ob w c o k = a) (ht : (kx_tl V)[3]? = some .long) (hn : w_n w c o k = n) (hv : w_b w c o k i.toNatClampNeg = v) {A : Prop} (h : kx_inb i n = true ∧ A) (kk : A → kz V G ob ot L M (pc + 1) lv (.long v :: st) w Q) : kz V G ob ot L M pc lv (.int i :: .ref a :: st) w Q := kz_lald hd ho ha ht (hn ▸ h) (fun z => hv ▸ kk z)
theorem kz_iastR {i x : Int32} {c o k n : Nat} (hd : decode M.2.1 pc = .ok (.iastore, 1)) (ho : w_own w G ob 0 c o k) {a : Nat} (ha : w_aa G ob w c o k = a) (ht : (kx_tl V)[0]? = some .int) (hn : w_n w c o k = n) {A : Prop} (h : kx_inb i n = true ∧ A) (kk : A → kz V G ob ot L M (pc + 1) lv st (ws_a w c o k i.toNatClampNeg x) Q) : kz V G ob ot L M pc lv (.int x :: .int i :: .ref a :: st) w Q := kz_iast hd ho ha ht (hn ▸ h) kk
theorem kz_bastR {i x : Int32} {c o k n : Nat} (hd : decode M.2.1 pc = .ok (.bastore, 1)) (ho : w_own w G ob 1 c o k) {a : Nat} (ha : w_aa G ob w c o k = a) (ht : (kx_tl V)[1]? = some .byte) (hn : w_n w c o k = n) {A : Prop} (h : kx_inb i n = true ∧ A) (kk : A → kz V G ob ot L M (pc + 1) lv st (ws_a w c o k i.toNatClampNeg (vp_nar .byte x)) Q) : kz V G ob ot L M pc lv (.int x :: .int i :: .ref a :: st) w Q := kz_bast hd ho ha ht (hn ▸ h) kk
theorem kz_zastR {i x : Int32} {c o k n : Nat} (hd : decode M.2.1 pc = .ok (.bastore, 1)) (ho : w_own w G ob 2 c o k) {a : Nat} (ha : w_aa G ob w c o k = a) (ht : (kx_tl V)[2]? = some .boolean) (hn : w_n w c o k = n) {A : Prop} (h : kx_inb i n = true ∧ A) (kk : A → kz V G ob ot L M (pc + 1) lv st (ws_a w c o k i.toNatClampNeg (vp_nar .boolean x)) Q) : kz V G ob ot L M pc lv (.int x :: .int i :: .ref a :: st) w Q := kz_zast hd ho ha ht (hn ▸ h) kk
theorem wR.setB {X : kx_X} (h : wR V G ob ot w X) {c o k : Nat} (ho : w_own w G ob 3 c o k) (j : Nat) (v : Int64) : wR V G ob ot (ws_b w c o k j v) (kx_set X (w_aa G ob w c o k) (.inl (3, w_n w c o k, .inr (.inl (w_b (ws_b w c o k j v) c o k))))) := by
  obtain ⟨g1, g2, g3⟩ := h.own ho
  have hne : ∀ c' o' k', (c', o', k') ≠ (c, o, k) → w_b (ws_b w c o k j v) c' o' k' = w_b w c' o' k' := fun c' o' k' hne => w_u4_ne _ _ hne
  have h1 := h.set (w' := ws_b w c o k j v) rfl (fun _ => rfl) (fun _ _ _ => rfl) g1 (by
    intro q hq
    unfold w_cont
    by_cases h9 : q.2.2 = 999
    · rw [if_pos h9, if_pos h9, w_fs_congr]
      intro j
      unfold w_val
      split <;> rfl
    · rw [if_neg h9, if_neg h9]
      unfold w_arr
      rw [hne q.1 q.2.1 q.2.2 hq]
      rfl)
  have e : w_cont G ob (ws_b w c o k j v) (c, o, k) = .inl (3, w_n w c o k, .inr (.inl (w_b (ws_b w c o k j v) c o k))) := by
    unfold w_cont
    rw [if_neg g3]
    have e9 : (if c = 99 then w_t (ws_b w c o k j v) o else G.2.1 c k) = 3 := by
      rcases ho with ⟨rfl, rfl, q1, q2⟩ | ⟨q1, q2, q3⟩
      · rw [if_pos rfl]
        exact q2
      · rw [if_neg (h.2.2.2.2.2.2.2 c k q2).2, q3]
    rw [show (if (c, o, k).1 = 99 then w_t (ws_b w c o k j v) (c, o, k).2.1 else G.2.1 (c, o, k).1 (c, o, k).2.2) = 3 from e9]
    rfl
  rw [e] at h1
  exact h1
theorem kz_last {i : Int32} {x : Int64} {c o k : Nat} (hd : decode M.2.1 pc = .ok (.lastore, 1)) (ho : w_own w G ob 3 c o k) {a : Nat} (ha : w_aa G ob w c o k = a) (ht : (kx_tl V)[3]? = some .long) {A : Prop} (h : kx_inb i (w_n w c o k) = true ∧ A) (kk : A → kz V G ob ot L M (pc + 1) lv st (ws_b w c o k i.toNatClampNeg x) Q) : kz V G ob ot L M pc lv (.long x :: .int i :: .ref a :: st) w Q := by
  subst ha
  intro F hF X hX
  have h1 := hX.own ho
  have h2 := kk h.2 F hF _ (hX.setB ho i.toNatClampNeg x)
  refine ky_last hd h1.2.1 ⟨hX.lo h1.1, ht, h.1⟩ ?_
  have e : w_b (ws_b w c o k i.toNatClampNeg x) c o k = vp_updL (w_b w c o k) i.toNatClampNeg x := by
    show w_u4 w.2.2.2.2.1 c o k i.toNatClampNeg x c o k = _
    rw [w_u4_eq]
    rfl
  rw [e] at h2
  exact h2
theorem kz_lastR {i : Int32} {x : Int64} {c o k n : Nat} (hd : decode M.2.1 pc = .ok (.lastore, 1)) (ho : w_own w G ob 3 c o k) {a : Nat} (ha : w_aa G ob w c o k = a) (ht : (kx_tl V)[3]? = some .long) (hn : w_n w c o k = n) {A : Prop} (h : kx_inb i n = true ∧ A) (kk : A → kz V G ob ot L M (pc + 1) lv st (ws_b w c o k i.toNatClampNeg x) Q) : kz V G ob ot L M pc lv (.long x :: .int i :: .ref a :: st) w Q := kz_last hd ho ha ht (hn ▸ h) kk
end KE
/-! reads behind writes -/
theorem rd_i_i {w : wS} {c o k  c' o' k' : Nat}  {v : Int32} (h : Nat.beq k' k = false) : w_i (ws_i w c o k v) c' o' k' = w_i w c' o' k' := by
  show w_u3 _ c o k  v c' o' k' = _
  rw [w_u3_at, if_neg]
  · rfl
  · rintro ⟨e, -⟩
    rw [e, Nat.beq_refl] at h
    cases h
theorem rd_i_e {w : wS} {c o k : Nat} {v : Int32} : w_i (ws_i w c o k v) c o k = v := w_u3_eq _ _ _ _ _
theorem rd_i_g {w : wS} {c o k  c' o' k'  : Nat} {v : Int64} : w_i (ws_g w c o k v) c' o' k' = w_i w c' o' k' := rfl
theorem rd_i_p {w : wS} {c o k  c' o' k'  : Nat} {v : Option Nat} : w_i (ws_p w c o k v) c' o' k' = w_i w c' o' k' := rfl
theorem rd_i_a {w : wS} {c o k j c' o' k'  : Nat} {v : Int32} : w_i (ws_a w c o k j v) c' o' k' = w_i w c' o' k' := rfl
theorem rd_i_b {w : wS} {c o k j c' o' k'  : Nat} {v : Int64} : w_i (ws_b w c o k j v) c' o' k' = w_i w c' o' k' := rfl
theorem rd_i_r {w : wS} {c o k j c' o' k'  : Nat} {v : Option Nat} : w_i (ws_r w c o k j v) c' o' k' = w_i w c' o' k' := rfl
theorem rd_g_i {w : wS} {c o k  c' o' k'  : Nat} {v : Int32} : w_g (ws_i w c o k v) c' o' k' = w_g w c' o' k' := rfl
theorem rd_g_g {w : wS} {c o k  c' o' k' : Nat}  {v : Int64} (h : Nat.beq k' k = false) : w_g (ws_g w c o k v) c' o' k' = w_g w c' o' k' := by
  show w_u3 _ c o k  v c' o' k' = _
  rw [w_u3_at, if_neg]
  · rfl
  · rintro ⟨e, -⟩
    rw [e, Nat.beq_refl] at h
    cases h
theorem rd_g_e {w : wS} {c o k : Nat} {v : Int64} : w_g (ws_g w c o k v) c o k = v := w_u3_eq _ _ _ _ _
theorem rd_g_p {w : wS} {c o k  c' o' k'  : Nat} {v : Option Nat} : w_g (ws_p w c o k v) c' o' k' = w_g w c' o' k' := rfl
theorem rd_g_a {w : wS} {c o k j c' o' k'  : Nat} {v : Int32} : w_g (ws_a w c o k j v) c' o' k' = w_g w c' o' k' := rfl
theorem rd_g_b {w : wS} {c o k j c' o' k'  : Nat} {v : Int64} : w_g (ws_b w c o k j v) c' o' k' = w_g w c' o' k' := rfl
theorem rd_g_r {w : wS} {c o k j c' o' k'  : Nat} {v : Option Nat} : w_g (ws_r w c o k j v) c' o' k' = w_g w c' o' k' := rfl
theorem rd_p_i {w : wS} {c o k  c' o' k'  : Nat} {v : Int32} : w_p (ws_i w c o k v) c' o' k' = w_p w c' o' k' := rfl
theorem rd_p_g {w : wS} {c o k  c' o' k'  : Nat} {v : Int64} : w_p (ws_g w c o k v) c' o' k' = w_p w c' o' k' := rfl
theorem rd_p_p {w : wS} {c o k  c' o' k' : Nat}  {v : Option Nat} (h : Nat.beq k' k = false) : w_p (ws_p w c o k v) c' o' k' = w_p w c' o' k' := by
  show w_u3 _ c o k  v c' o' k' = _
  rw [w_u3_at, if_neg]
  · rfl
  · rintro ⟨e, -⟩
    rw [e, Nat.beq_refl] at h
    cases h
theorem rd_p_e {w : wS} {c o k : Nat} {v : Option Nat} : w_p (ws_p w c o k v) c o k = v := w_u3_eq _ _ _ _ _
theorem rd_p_a {w : wS} {c o k j c' o' k'  : Nat} {v : Int32} : w_p (ws_a w c o k j v) c' o' k' = w_p w c' o' k' := rfl
theorem rd_p_b {w : wS} {c o k j c' o' k'  : Nat} {v : Int64} : w_p (ws_b w c o k j v) c' o' k' = w_p w c' o' k' := rfl
theorem rd_p_r {w : wS} {c o k j c' o' k'  : Nat} {v : Option Nat} : w_p (ws_r w c o k j v) c' o' k' = w_p w c' o' k' := rfl
theorem rd_a_i {w : wS} {c o k  c' o' k' j' : Nat} {v : Int32} : w_a (ws_i w c o k v) c' o' k' j' = w_a w c' o' k' j' := rfl
theorem rd_a_g {w : wS} {c o k  c' o' k' j' : Nat} {v : Int64} : w_a (ws_g w c o k v) c' o' k' j' = w_a w c' o' k' j' := rfl
theorem rd_a_p {w : wS} {c o k  c' o' k' j' : Nat} {v : Option Nat} : w_a (ws_p w c o k v) c' o' k' j' = w_a w c' o' k' j' := rfl
theorem rd_a_a {w : wS} {c o k j c' o' k' : Nat} {j' : Nat} {v : Int32} (h : Nat.beq k' k = false) : w_a (ws_a w c o k j v) c' o' k' j' = w_a w c' o' k' j' := by
  show w_u4 _ c o k j v c' o' k' j' = _
  rw [w_u4_at, if_neg]
  · rfl
  · rintro ⟨e, -⟩
    rw [e, Nat.beq_refl] at h
    cases h
theorem rd_a_b {w : wS} {c o k j c' o' k' j' : Nat} {v : Int64} : w_a (ws_b w c o k j v) c' o' k' j' = w_a w c' o' k' j' := rfl
theorem rd_a_r {w : wS} {c o k j c' o' k' j' : Nat} {v : Option Nat} : w_a (ws_r w c o k j v) c' o' k' j' = w_a w c' o' k' j' := rfl
theorem rd_b_i {w : wS} {c o k  c' o' k' j' : Nat} {v : Int32} : w_b (ws_i w c o k v) c' o' k' j' = w_b w c' o' k' j' := rfl
theorem rd_b_g {w : wS} {c o k  c' o' k' j' : Nat} {v : Int64} : w_b (ws_g w c o k v) c' o' k' j' = w_b w c' o' k' j' := rfl
theorem rd_b_p {w : wS} {c o k  c' o' k' j' : Nat} {v : Option Nat} : w_b (ws_p w c o k v) c' o' k' j' = w_b w c' o' k' j' := rfl
theorem rd_b_a {w : wS} {c o k j c' o' k' j' : Nat} {v : Int32} : w_b (ws_a w c o k j v) c' o' k' j' = w_b w c' o' k' j' := rfl
theorem rd_b_b {w : wS} {c o k j c' o' k' : Nat} {j' : Nat} {v : Int64} (h : Nat.beq k' k = false) : w_b (ws_b w c o k j v) c' o' k' j' = w_b w c' o' k' j' := by
  show w_u4 _ c o k j v c' o' k' j' = _
  rw [w_u4_at, if_neg]
  · rfl
  · rintro ⟨e, -⟩
    rw [e, Nat.beq_refl] at h
    cases h
theorem rd_b_r {w : wS} {c o k j c' o' k' j' : Nat} {v : Option Nat} : w_b (ws_r w c o k j v) c' o' k' j' = w_b w c' o' k' j' := rfl
theorem rd_r_i {w : wS} {c o k  c' o' k' j' : Nat} {v : Int32} : w_r (ws_i w c o k v) c' o' k' j' = w_r w c' o' k' j' := rfl
theorem rd_r_g {w : wS} {c o k  c' o' k' j' : Nat} {v : Int64} : w_r (ws_g w c o k v) c' o' k' j' = w_r w c' o' k' j' := rfl
theorem rd_r_p {w : wS} {c o k  c' o' k' j' : Nat} {v : Option Nat} : w_r (ws_p w c o k v) c' o' k' j' = w_r w c' o' k' j' := rfl
theorem rd_r_a {w : wS} {c o k j c' o' k' j' : Nat} {v : Int32} : w_r (ws_a w c o k j v) c' o' k' j' = w_r w c' o' k' j' := rfl
theorem rd_r_b {w : wS} {c o k j c' o' k' j' : Nat} {v : Int64} : w_r (ws_b w c o k j v) c' o' k' j' = w_r w c' o' k' j' := rfl
theorem rd_r_r {w : wS} {c o k j c' o' k' : Nat} {j' : Nat} {v : Option Nat} (h : Nat.beq k' k = false) : w_r (ws_r w c o k j v) c' o' k' j' = w_r w c' o' k' j' := by
  show w_u4 _ c o k j v c' o' k' j' = _
  rw [w_u4_at, if_neg]
  · rfl
  · rintro ⟨e, -⟩
    rw [e, Nat.beq_refl] at h
    cases h
theorem rd_n_i {w : wS} {c o k  c' o' k'  : Nat} {v : Int32} : w_n (ws_i w c o k v) c' o' k' = w_n w c' o' k' := rfl
theorem rd_n_g {w : wS} {c o k  c' o' k'  : Nat} {v : Int64} : w_n (ws_g w c o k v) c' o' k' = w_n w c' o' k' := rfl
theorem rd_n_p {w : wS} {c o k  c' o' k'  : Nat} {v : Option Nat} : w_n (ws_p w c o k v) c' o' k' = w_n w c' o' k' := rfl
theorem rd_n_a {w : wS} {c o k j c' o' k'  : Nat} {v : Int32} : w_n (ws_a w c o k j v) c' o' k' = w_n w c' o' k' := rfl
theorem rd_n_b {w : wS} {c o k j c' o' k'  : Nat} {v : Int64} : w_n (ws_b w c o k j v) c' o' k' = w_n w c' o' k' := rfl
theorem rd_n_r {w : wS} {c o k j c' o' k'  : Nat} {v : Option Nat} : w_n (ws_r w c o k j v) c' o' k' = w_n w c' o' k' := rfl
theorem rd_d_i {w : wS} {c o k  c' o' k'  : Nat} {v : Int32} : w_d (ws_i w c o k v) c' o' k' = w_d w c' o' k' := rfl
theorem rd_d_g {w : wS} {c o k  c' o' k'  : Nat} {v : Int64} : w_d (ws_g w c o k v) c' o' k' = w_d w c' o' k' := rfl
theorem rd_d_p {w : wS} {c o k  c' o' k'  : Nat} {v : Option Nat} : w_d (ws_p w c o k v) c' o' k' = w_d w c' o' k' := rfl
theorem rd_d_a {w : wS} {c o k j c' o' k'  : Nat} {v : Int32} : w_d (ws_a w c o k j v) c' o' k' = w_d w c' o' k' := rfl
theorem rd_d_b {w : wS} {c o k j c' o' k'  : Nat} {v : Int64} : w_d (ws_b w c o k j v) c' o' k' = w_d w c' o' k' := rfl
theorem rd_d_r {w : wS} {c o k j c' o' k'  : Nat} {v : Option Nat} : w_d (ws_r w c o k j v) c' o' k' = w_d w c' o' k' := rfl
