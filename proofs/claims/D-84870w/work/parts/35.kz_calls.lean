/-! ===== RUNS OVER A TYPED STATE, part 7: calls (printed by tools/gen_calls.py) ===== -/
/-- what a call's link means; what the tables say of a method -/
def wLk (V : kx_V) (own : String) (j : Nat) (M' : kx_M) (n : Nat) : Prop := kx_ml V own j = some M'.1 ∧ kx_md V own j M'.1 = some M' ∧ kx_np M'.1 = some n
def wMn (M' : kx_M) : Bool := plainName M'.1.cls && (decide (M'.1.cls ≠ "java/lang/invoke/MethodHandle") && (decide (M'.1.cls ≠ "java/lang/invoke/VarHandle") && (decide (M'.1 ≠ arraycopyName) && decide (M'.1.cls ≠ "java/lang/Object"))))
def wMv (V : kx_V) (M' : kx_M) : Prop := wMn M' = true ∧ Jvm.Cond.selects M'.1.cls M'.1 M'.1 ∈ kx_Tb V ∧ Jvm.Cond.instanceMethod M'.1 ∈ kx_Tb V ∧ Jvm.Cond.initialized M'.1.cls ∈ kx_Tb V
def wMs (V : kx_V) (M' : kx_M) : Prop := wMn M' = true ∧ Jvm.Cond.static M'.1 ∈ kx_Tb V ∧ Jvm.Cond.initialized M'.1.cls ∈ kx_Tb V
/-- ends by what they answer -/
def wk0 (f : wS → Prop) (g : String → wS → Prop) (r : kx_Rs) (w : wS) : Prop := match r with
  | .inl none => f w
  | .inl (some _) => False
  | .inr E => g E w
def wk1 (f : Int32 → wS → Prop) (g : String → wS → Prop) (r : kx_Rs) (w : wS) : Prop := match r with
  | .inl (some (.int v)) => f v w
  | .inr E => g E w
  | _ => False
def wkl (f : Int64 → wS → Prop) (g : String → wS → Prop) (r : kx_Rs) (w : wS) : Prop := match r with
  | .inl (some (.long v)) => f v w
  | .inr E => g E w
  | _ => False
def wkr (f : Option Nat → wS → Prop) (g : String → wS → Prop) (r : kx_Rs) (w : wS) : Prop := match r with
  | .inl (some .null) => f none w
  | .inl (some (.ref a)) => f (some a) w
  | .inr E => g E w
  | _ => False
theorem wM_fit {F L : Nat} {M' : kx_M} {As rest : List Value} (hm : wMn M' = true) (hF : 1 ≤ F) (hL : 19 + M'.2.2.1 ≤ L) (hfit : (lg_sl As).length ≤ M'.2.2.1) (hcat : kx_cat rest ≤ 8) : kx_fit F L M' As rest = true := by
  unfold wMn at hm
  simp only [Bool.and_eq_true] at hm
  unfold kx_fit
  rw [hm.1, hm.2.1, hm.2.2.1, decide_eq_true hF, decide_eq_true hL, decide_eq_true hfit, decide_eq_true hcat]
  rfl
section KC
variable {V : kx_V} {G : wT} {ob : Nat → Nat} {ot : Nat → Option kx_E} {L : Nat} {M : kx_M} {pc : Nat} {lv : kx_L} {st : List Value} {w : wS} {Q : kx_Rs → wS → Prop}
/-- where an exception goes -/
def kzx (V : kx_V) (G : wT) (ob : Nat → Nat) (ot : Nat → Option kx_E) (L : Nat) (M : kx_M) (pc : Nat) (lv : kx_L) (E : String) (w : wS) (Q : kx_Rs → wS → Prop) : Prop := match kx_hd V M.1.cls pc E (M.2.2.2.2.getD []) with
  | some none => Q (.inr E) w
  | some (some h) => match kx_hs M.2.2.1 M.2.1 h lv with
    | some (pc', lv') => kz V G ob ot L M pc' lv' [] w Q
    | none => False
  | none => False
theorem kzx_no (hx : M.2.2.2.2 = none) {E : String} (h : Q (.inr E) w) : kzx V G ob ot L M pc lv E w Q := by
  unfold kzx
  rw [hx]
  exact h
theorem kz_inv {i : Instr} {len : Nat} (hd : decode M.2.1 pc = .ok (i, len)) {M' : kx_M} {As rest : List Value} (hL : 19 + M'.2.2.1 ≤ L) (h0 : ∀ X, kx_st1 V M.1.cls M.1.name M.2.2.1 i len pc lv st X = none) (h1 : ∀ F X, kx_st2 V F L M i len pc lv st X = none) (h2 : kx_end M i len st = none) (h : ∀ F X, 1 ≤ F → wR V G ob ot w X → kx_inv V M.1.cls F L i len st X = some (M', As, rest))
    (kk : kz V G ob ot (L - (19 + M'.2.2.1)) M' 0 (lv_args 0 As) [] w (fun r w' => wle w w' → match r with
      | .inl v => kz V G ob ot L M (pc + 3) lv (v.toList ++ rest) w' Q
      | .inr E => kzx V G ob ot L M pc lv E w' Q)) : kz V G ob ot L M pc lv st w Q := by
  intro F hF X hX
  have hF1 : 1 ≤ F := by omega
  refine ky_call hd (h0 X) (h1 F X) h2 (h F X hF1 hX) (ky_mono (kk (F - 1) (by omega) X hX) (fun r X' C' S' hw => ?_))
  obtain ⟨w', g1, g2, g3, g4, g5⟩ := hw
  have g6 := g5 g2
  cases r with
  | inl v =>
    have g7 := g6 F hF X' g1
    rw [g3, g4] at g7
    exact ky_mono g7 (fun r X C S ⟨w2, k1, k2, k3, k4, k5⟩ => ⟨w2, k1, wle_tr g2 k2, k3, k4, k5⟩)
  | inr E =>
    simp only [kzx] at g6
    show ky_x V F L M pc lv E X' C' S' _
    unfold ky_x
    cases e1 : kx_hd V M.1.cls pc E (M.2.2.2.2.getD []) with
    | none =>
      simp only [e1] at g6
    | some x =>
      cases x with
      | none =>
        simp only [e1] at g6
        exact ⟨w', g1, g2, g3, g4, g6⟩
      | some h =>
        simp only [e1] at g6
        simp only
        cases e2 : kx_hs M.2.2.1 M.2.1 h lv with
        | none =>
          simp only [e2] at g6
        | some x =>
          simp only [e2] at g6
          simp only
          have g7 := g6 F hF X' g1
          rw [g3, g4] at g7
          exact ky_mono g7 (fun r X C S ⟨w2, k1, k2, k3, k4, k5⟩ => ⟨w2, k1, wle_tr g2 k2, k3, k4, k5⟩)
theorem kz_callv {j n c o : Nat} {M' : kx_M} {As rest : List Value} (hd : decode M.2.1 pc = .ok (.invokevirtual j, 3)) (hk : wLk V M.1.cls j M' n) (hm : wMv V M') (hc : ((kx_cl V)[c]?).map (·.1) = some M'.1.cls) (hl : G.2.2.2 c o = true ∨ w_l w ob c o) (hst : kx_arg n st = some (As, .ref (w_adr ob c o) :: rest)) (hL : 19 + M'.2.2.1 ≤ L) (hfit : (lg_sl (.ref (w_adr ob c o) :: As)).length ≤ M'.2.2.1) (hcat : kx_cat rest ≤ 8)
    (kk : kz V G ob ot (L - (19 + M'.2.2.1)) M' 0 (lv_args 0 (.ref (w_adr ob c o) :: As)) [] w (fun r w' => wle w w' → match r with
      | .inl v => kz V G ob ot L M (pc + 3) lv (v.toList ++ rest) w' Q
      | .inr E => kzx V G ob ot L M pc lv E w' Q)) : kz V G ob ot L M pc lv st w Q := by
  refine kz_inv hd hL (fun X => rfl) (fun F X => rfl) rfl (fun F X hF hX => ?_) kk
  obtain ⟨k1, k2, k3⟩ := hk
  obtain ⟨m1, m2, m3, m4⟩ := hm
  obtain ⟨q, e1, e2⟩ := Option.map_eq_some_iff.mp hc
  obtain ⟨Cn, T, N⟩ := q
  simp only at e2
  subst e2
  have hcc : kx_cc V X (w_adr ob c o) = some M'.1.cls := by
    unfold kx_cc
    rw [hX.obj hl]
    simp only [e1]
  have hf := wM_fit m1 hF hL hfit hcat
  simp only [kx_inv, k1, k3, hst, hcc, k2, hf, if_pos, m2, m3, m4, and_self, and_true]
theorem kz_calls {j n : Nat} {M' : kx_M} {As rest : List Value} (hd : decode M.2.1 pc = .ok (.invokestatic j, 3)) (hk : wLk V M.1.cls j M' n) (hm : wMs V M') (hst : kx_arg n st = some (As, rest)) (hL : 19 + M'.2.2.1 ≤ L) (hfit : (lg_sl As).length ≤ M'.2.2.1) (hcat : kx_cat rest ≤ 8)
    (kk : kz V G ob ot (L - (19 + M'.2.2.1)) M' 0 (lv_args 0 As) [] w (fun r w' => wle w w' → match r with
      | .inl v => kz V G ob ot L M (pc + 3) lv (v.toList ++ rest) w' Q
      | .inr E => kzx V G ob ot L M pc lv E w' Q)) : kz V G ob ot L M pc lv st w Q := by
  obtain ⟨k1, k2, k3⟩ := hk
  obtain ⟨m1, m2, m3⟩ := hm
  have m4 := m1
  unfold wMn at m4
  simp only [Bool.and_eq_true, decide_eq_true_eq] at m4
  refine kz_inv hd hL (fun X => rfl) (fun F X => ?_) rfl (fun F X hF hX => ?_) kk
  · simp only [kx_st2]
    have hmath : ∀ y : MethodName, y.cls = "java/lang/Math" → ¬ M'.1 = y := by
      intro y hy e
      have h1 := m4.1
      rw [e, hy] at h1
      exact absurd h1 (by decide +kernel)
    rw [if_neg, if_neg, if_neg, if_neg]
    · rintro ⟨-, e, -⟩
      rw [k1] at e
      exact hmath _ rfl (Option.some.inj e)
    · rintro ⟨-, e, -⟩
      rw [k1] at e
      exact hmath _ rfl (Option.some.inj e)
    · rintro ⟨-, e, -⟩
      rw [k1] at e
      exact hmath _ rfl (Option.some.inj e)
    · rintro ⟨-, e, -⟩
      rw [k1] at e
      exact m4.2.2.2.1 (Option.some.inj e)
  · have hf := wM_fit m1 hF hL hfit hcat
    simp only [kx_inv, k1, k3, hst, k2, hf, if_pos, m2, m3, and_self, and_true]
theorem kz_cv0 {j n c o : Nat} {M' : kx_M} {As rest : List Value} {f : wS → Prop} {g : String → wS → Prop} (hd : decode M.2.1 pc = .ok (.invokevirtual j, 3)) (hk : wLk V M.1.cls j M' n) (hm : wMv V M') (hc : ((kx_cl V)[c]?).map (·.1) = some M'.1.cls) (hl : G.2.2.2 c o = true ∨ w_l w ob c o) (hst : kx_arg n st = some (As, .ref (w_adr ob c o) :: rest)) (hL : 19 + M'.2.2.1 ≤ L) (hfit : (lg_sl (.ref (w_adr ob c o) :: As)).length ≤ M'.2.2.1) (hcat : kx_cat rest ≤ 8) (h : kz V G ob ot (L - (19 + M'.2.2.1)) M' 0 (lv_args 0 (.ref (w_adr ob c o) :: As)) [] w (wk0 f g)) (hf : ∀ w', wle w w' → f w' → kz V G ob ot L M (pc + 3) lv rest w' Q) (hg : ∀ E w', wle w w' → g E w' → kzx V G ob ot L M pc lv E w' Q) : kz V G ob ot L M pc lv st w Q := by
  refine kz_callv hd hk hm hc hl hst hL hfit hcat (kz_mono h (fun r w' hle hq _ => ?_))
  cases r with
  | inr E => exact hg E w' hle hq
  | inl v =>
    cases v with
    | none => exact hf w' hle hq
    | some v => exact hq.elim
theorem kz_cs0 {j n : Nat} {M' : kx_M} {As rest : List Value} {f : wS → Prop} {g : String → wS → Prop} (hd : decode M.2.1 pc = .ok (.invokestatic j, 3)) (hk : wLk V M.1.cls j M' n) (hm : wMs V M') (hst : kx_arg n st = some (As, rest)) (hL : 19 + M'.2.2.1 ≤ L) (hfit : (lg_sl As).length ≤ M'.2.2.1) (hcat : kx_cat rest ≤ 8) (h : kz V G ob ot (L - (19 + M'.2.2.1)) M' 0 (lv_args 0 As) [] w (wk0 f g)) (hf : ∀ w', wle w w' → f w' → kz V G ob ot L M (pc + 3) lv rest w' Q) (hg : ∀ E w', wle w w' → g E w' → kzx V G ob ot L M pc lv E w' Q) : kz V G ob ot L M pc lv st w Q := by
  refine kz_calls hd hk hm hst hL hfit hcat (kz_mono h (fun r w' hle hq _ => ?_))
  cases r with
  | inr E => exact hg E w' hle hq
  | inl v =>
    cases v with
    | none => exact hf w' hle hq
    | some v => exact hq.elim
theorem kz_cv1 {j n c o : Nat} {M' : kx_M} {As rest : List Value} {f : Int32 → wS → Prop} {g : String → wS → Prop} (hd : decode M.2.1 pc = .ok (.invokevirtual j, 3)) (hk : wLk V M.1.cls j M' n) (hm : wMv V M') (hc : ((kx_cl V)[c]?).map (·.1) = some M'.1.cls) (hl : G.2.2.2 c o = true ∨ w_l w ob c o) (hst : kx_arg n st = some (As, .ref (w_adr ob c o) :: rest)) (hL : 19 + M'.2.2.1 ≤ L) (hfit : (lg_sl (.ref (w_adr ob c o) :: As)).length ≤ M'.2.2.1) (hcat : kx_cat rest ≤ 8) (h : kz V G ob ot (L - (19 + M'.2.2.1)) M' 0 (lv_args 0 (.ref (w_adr ob c o) :: As)) [] w (wk1 f g)) (hf : ∀ v w', wle w w' → f v w' → kz V G ob ot L M (pc + 3) lv (.int v :: rest) w' Q) (hg : ∀ E w', wle w w' → g E w' → kzx V G ob ot L M pc lv E w' Q) : kz V G ob ot L M pc lv st w Q := by
  refine kz_callv hd hk hm hc hl hst hL hfit hcat (kz_mono h (fun r w' hle hq _ => ?_))
  cases r with
  | inr E => exact hg E w' hle hq
  | inl v =>
    cases v with
    | none => exact hq.elim
    | some v =>
      cases v with
      | int v => exact hf v w' hle hq
      | _ => exact hq.elim
theorem kz_cs1 {j n : Nat} {M' : kx_M} {As rest : List Value} {f : Int32 → wS → Prop} {g : String → wS → Prop} (hd : decode M.2.1 pc = .ok (.invokestatic j, 3)) (hk : wLk V M.1.cls j M' n) (hm : wMs V M') (hst : kx_arg n st = some (As, rest)) (hL : 19 + M'.2.2.1 ≤ L) (hfit : (lg_sl As).length ≤ M'.2.2.1) (hcat : kx_cat rest ≤ 8) (h : kz V G ob ot (L - (19 + M'.2.2.1)) M' 0 (lv_args 0 As) [] w (wk1 f g)) (hf : ∀ v w', wle w w' → f v w' → kz V G ob ot L M (pc + 3) lv (.int v :: rest) w' Q) (hg : ∀ E w', wle w w' → g E w' → kzx V G ob ot L M pc lv E w' Q) : kz V G ob ot L M pc lv st w Q := by
  refine kz_calls hd hk hm hst hL hfit hcat (kz_mono h (fun r w' hle hq _ => ?_))
  cases r with
  | inr E => exact hg E w' hle hq
  | inl v =>
    cases v with
    | none => exact hq.elim
    | some v =>
      cases v with
      | int v => exact hf v w' hle hq
      | _ => exact hq.elim
theorem kz_cvl {j n c o : Nat} {M' : kx_M} {As rest : List Value} {f : Int64 → wS → Prop} {g : String → wS → Prop} (hd : decode M.2.1 pc = .ok (.invokevirtual j, 3)) (hk : wLk V M.1.cls j M' n) (hm : wMv V M') (hc : ((kx_cl V)[c]?).map (·.1) = some M'.1.cls) (hl : G.2.2.2 c o = true ∨ w_l w ob c o) (hst : kx_arg n st = some (As, .ref (w_adr ob c o) :: rest)) (hL : 19 + M'.2.2.1 ≤ L) (hfit : (lg_sl (.ref (w_adr ob c o) :: As)).length ≤ M'.2.2.1) (hcat : kx_cat rest ≤ 8) (h : kz V G ob ot (L - (19 + M'.2.2.1)) M' 0 (lv_args 0 (.ref (w_adr ob c o) :: As)) [] w (wkl f g)) (hf : ∀ v w', wle w w' → f v w' → kz V G ob ot L M (pc + 3) lv (.long v :: rest) w' Q) (hg : ∀ E w', wle w w' → g E w' → kzx V G ob ot L M pc lv E w' Q) : kz V G ob ot L M pc lv st w Q := by
  refine kz_callv hd hk hm hc hl hst hL hfit hcat (kz_mono h (fun r w' hle hq _ => ?_))
  cases r with
  | inr E => exact hg E w' hle hq
  | inl v =>
    cases v with
    | none => exact hq.elim
    | some v =>
      cases v with
      | long v => exact hf v w' hle hq
      | _ => exact hq.elim
theorem kz_csl {j n : Nat} {M' : kx_M} {As rest : List Value} {f : Int64 → wS → Prop} {g : String → wS → Prop} (hd : decode M.2.1 pc = .ok (.invokestatic j, 3)) (hk : wLk V M.1.cls j M' n) (hm : wMs V M') (hst : kx_arg n st = some (As, rest)) (hL : 19 + M'.2.2.1 ≤ L) (hfit : (lg_sl As).length ≤ M'.2.2.1) (hcat : kx_cat rest ≤ 8) (h : kz V G ob ot (L - (19 + M'.2.2.1)) M' 0 (lv_args 0 As) [] w (wkl f g)) (hf : ∀ v w', wle w w' → f v w' → kz V G ob ot L M (pc + 3) lv (.long v :: rest) w' Q) (hg : ∀ E w', wle w w' → g E w' → kzx V G ob ot L M pc lv E w' Q) : kz V G ob ot L M pc lv st w Q := by
  refine kz_calls hd hk hm hst hL hfit hcat (kz_mono h (fun r w' hle hq _ => ?_))
  cases r with
  | inr E => exact hg E w' hle hq
  | inl v =>
    cases v with
    | none => exact hq.elim
    | some v =>
      cases v with
      | long v => exact hf v w' hle hq
      | _ => exact hq.elim
theorem kz_cvr {j n c o : Nat} {M' : kx_M} {As rest : List Value} {f : Option Nat → wS → Prop} {g : String → wS → Prop} (hd : decode M.2.1 pc = .ok (.invokevirtual j, 3)) (hk : wLk V M.1.cls j M' n) (hm : wMv V M') (hc : ((kx_cl V)[c]?).map (·.1) = some M'.1.cls) (hl : G.2.2.2 c o = true ∨ w_l w ob c o) (hst : kx_arg n st = some (As, .ref (w_adr ob c o) :: rest)) (hL : 19 + M'.2.2.1 ≤ L) (hfit : (lg_sl (.ref (w_adr ob c o) :: As)).length ≤ M'.2.2.1) (hcat : kx_cat rest ≤ 8) (h : kz V G ob ot (L - (19 + M'.2.2.1)) M' 0 (lv_args 0 (.ref (w_adr ob c o) :: As)) [] w (wkr f g)) (hf : ∀ v w', wle w w' → f v w' → kz V G ob ot L M (pc + 3) lv (va_rf v :: rest) w' Q) (hg : ∀ E w', wle w w' → g E w' → kzx V G ob ot L M pc lv E w' Q) : kz V G ob ot L M pc lv st w Q := by
  refine kz_callv hd hk hm hc hl hst hL hfit hcat (kz_mono h (fun r w' hle hq _ => ?_))
  cases r with
  | inr E => exact hg E w' hle hq
  | inl v =>
    cases v with
    | none => exact hq.elim
    | some v =>
      cases v with
      | null => exact hf none w' hle hq
      | ref a => exact hf (some a) w' hle hq
      | _ => exact hq.elim
theorem kz_csr {j n : Nat} {M' : kx_M} {As rest : List Value} {f : Option Nat → wS → Prop} {g : String → wS → Prop} (hd : decode M.2.1 pc = .ok (.invokestatic j, 3)) (hk : wLk V M.1.cls j M' n) (hm : wMs V M') (hst : kx_arg n st = some (As, rest)) (hL : 19 + M'.2.2.1 ≤ L) (hfit : (lg_sl As).length ≤ M'.2.2.1) (hcat : kx_cat rest ≤ 8) (h : kz V G ob ot (L - (19 + M'.2.2.1)) M' 0 (lv_args 0 As) [] w (wkr f g)) (hf : ∀ v w', wle w w' → f v w' → kz V G ob ot L M (pc + 3) lv (va_rf v :: rest) w' Q) (hg : ∀ E w', wle w w' → g E w' → kzx V G ob ot L M pc lv E w' Q) : kz V G ob ot L M pc lv st w Q := by
  refine kz_calls hd hk hm hst hL hfit hcat (kz_mono h (fun r w' hle hq _ => ?_))
  cases r with
  | inr E => exact hg E w' hle hq
  | inl v =>
    cases v with
    | none => exact hq.elim
    | some v =>
      cases v with
      | null => exact hf none w' hle hq
      | ref a => exact hf (some a) w' hle hq
      | _ => exact hq.elim
end KC
