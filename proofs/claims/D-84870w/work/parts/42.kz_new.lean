/-! ===== RUNS OVER A TYPED STATE, part 11: new arrays, arrays that come to fields, arrays of references ===== -/
section KN
variable {V : kx_V} {G : wT} {ob : Nat → Nat} {ot : Nat → Option kx_E} {L : Nat} {M : kx_M} {pc : Nat} {lv : kx_L} {st : List Value} {w : wS} {Q : kx_Rs → wS → Prop} {X : kx_X}
theorem w_z_ne (h : wR V G ob ot w X) {a : Nat} {q : Nat × Nat × Nat} (ha : w_o w a = some q) : a ≠ w_z w := by
  have := (h.2.2.2.2.1 a q ha).2.2.1
  omega
theorem w_o_new {τ n : Nat} (a : Nat) : w_o (ws_new w τ n) a = if a = w_z w then some (99, w_z w, 0) else w_o w a := w_u1_at _ _ _ _
theorem w_at_new {τ n : Nat} (q : Nat × Nat × Nat) : w_at G ob (ws_new w τ n) q = w_at G ob w q := w_at_eq (fun _ _ _ => rfl) q
theorem wR.new (h : wR V G ob ot w X) {τ n : Nat} (hτ : τ < 3) : wR V G ob ot (ws_new w τ n) (kx_push X (.inl (τ, n, .inl (fun _ => 0)))) := by
  have hz : X.2 = w_z w := h.1
  have hne : ∀ a q, w_o w a = some q → a ≠ w_z w := fun a q ha => w_z_ne h ha
  refine ⟨?_, ?_, fun b hb => ?_, fun b e hb => ?_, fun b p hb => ?_, fun c o hs => ?_, fun c o k h1 h2 => ?_, h.2.2.2.2.2.2.2⟩
  · show X.2 + 1 = w_z w + 1
    rw [hz]
  · show kx_lo V ≤ w_z w + 1
    have := h.2.1
    omega
  · show (if b = X.2 then _ else X.1 b) = none
    rw [if_neg (by have := h.2.1; omega)]
    exact h.2.2.1 b hb
  · obtain ⟨h1, h2, h3⟩ := h.2.2.2.1 b e hb
    refine ⟨?_, ?_, ?_⟩
    · show (if b = X.2 then _ else X.1 b) = some e
      rw [if_neg (by omega)]
      exact h1
    · rw [w_o_new, if_neg (by omega)]
      exact h2
    · show b < w_z w + 1
      omega
  · rw [w_o_new] at hb
    by_cases e : b = w_z w
    · rw [if_pos e] at hb
      cases hb
      refine ⟨?_, ?_, ?_, ?_⟩
      · rw [w_at_new, e]
        rfl
      · rw [e]
        exact h.2.1
      · show b < w_z w + 1
        omega
      · show (if b = X.2 then _ else X.1 b) = _
        rw [if_pos (by omega)]
        unfold w_cont
        rw [if_neg (show ¬ (0 : Nat) = 999 by decide), if_pos rfl]
        have e1 : w_t (ws_new w τ n) (w_z w) = τ := by
          show w_u1 _ _ _ _ = _
          rw [w_u1_at, if_pos rfl]
        have e2 : w_n (ws_new w τ n) 99 (w_z w) 0 = n := w_u3_eq _ _ _ _ _
        have e3 : w_a (ws_new w τ n) 99 (w_z w) 0 = fun _ => 0 := w_f4_eq _ _ _ _ _
        show some _ = some (w_arr (ws_new w τ n) (w_t (ws_new w τ n) (w_z w)) 99 (w_z w) 0)
        rw [e1]
        unfold w_arr
        rw [e2]
        match τ, hτ with
        | 0, _ => rw [e3]; rfl
        | 1, _ => rw [e3]; rfl
        | 2, _ => rw [e3]; rfl
    · rw [if_neg e] at hb
      obtain ⟨g1, g2, g3, g4⟩ := h.2.2.2.2.1 b p hb
      refine ⟨by rw [w_at_new]; exact g1, g2, by show b < w_z w + 1; omega, ?_⟩
      show (if b = X.2 then _ else X.1 b) = _
      rw [if_neg (by omega), g4]
      congr 1
      unfold w_cont
      by_cases h9 : p.2.2 = 999
      · rw [if_pos h9, if_pos h9]
        rfl
      · rw [if_neg h9, if_neg h9]
        have hp : (p.1, p.2.1, p.2.2) ≠ (99, w_z w, 0) := by
          intro e2
          simp only [Prod.mk.injEq] at e2
          obtain ⟨e3, e4, e5⟩ := e2
          have : b = w_z w := by
            rw [g1]
            unfold w_at
            rw [if_pos (Or.inr e3), e3, e4]
            rfl
          exact e this
        have et : (if p.1 = 99 then w_t (ws_new w τ n) p.2.1 else G.2.1 p.1 p.2.2) = (if p.1 = 99 then w_t w p.2.1 else G.2.1 p.1 p.2.2) := by
          by_cases e99 : p.1 = 99
          · rw [if_pos e99, if_pos e99]
            show w_u1 _ _ _ _ = _
            rw [w_u1_at, if_neg]
            intro e4
            have : b = w_z w := by
              rw [g1]
              unfold w_at
              rw [if_pos (Or.inr e99), e99, e4]
              rfl
            exact e this
          · rw [if_neg e99, if_neg e99]
        rw [et]
        unfold w_arr
        have e1 : w_n (ws_new w τ n) p.1 p.2.1 p.2.2 = w_n w p.1 p.2.1 p.2.2 := w_u3_ne _ _ hp
        have e2 : w_a (ws_new w τ n) p.1 p.2.1 p.2.2 = w_a w p.1 p.2.1 p.2.2 := w_f4_ne _ _ hp
        have e3 : w_b (ws_new w τ n) p.1 p.2.1 p.2.2 = w_b w p.1 p.2.1 p.2.2 := w_f4_ne _ _ hp
        have e4 : w_r (ws_new w τ n) p.1 p.2.1 p.2.2 = w_r w p.1 p.2.1 p.2.2 := w_f4_ne _ _ hp
        rw [e1, e2, e3, e4]
  · have h1 := h.2.2.2.2.2.1 c o hs
    unfold w_l at h1 ⊢
    rw [w_o_new, if_neg (hne _ _ h1)]
    exact h1
  · have h3 : w_l w ob c o := by
      unfold w_l at h1 ⊢
      rw [w_o_new] at h1
      by_cases e : w_adr ob c o = w_z w
      · rw [if_pos e] at h1
        simp at h1
      · rw [if_neg e] at h1
        exact h1
    have h4 := h.2.2.2.2.2.2.1 c o k h3 h2
    have e : w_ad G ob (ws_new w τ n) c o k = w_ad G ob w c o k := w_ad_eq (fun _ _ _ => rfl) c o k
    rw [e, w_o_new, if_neg (hne _ _ h4)]
    exact h4
theorem wle_new (h : wR V G ob ot w X) {τ n : Nat} : wle w (ws_new w τ n) := by
  intro a c o ha
  rw [w_o_new, if_neg (w_z_ne h ha)]
  exact ha
theorem kz_newi {n : Int32} (hd : decode M.2.1 pc = .ok (.newarray .int, 2)) (ht : (kx_tl V).findIdx? (fun y => y == FieldType.int) = some 0) (ht2 : (kx_tl V)[0]? = some .int) (hc : Jvm.Cond.arrayClass .int ∈ kx_Tb V) {A : Prop} (h : (¬ n < 0 ∧ n.toNatClampNeg * 4 ≤ 536870912 ∧ 1 ≤ w_C w ∧ n.toNatClampNeg ≤ w_S w) ∧ A) (kk : A → kz V G ob ot L M (pc + 2) lv (.ref (w_z w) :: st) (ws_new w 0 n.toNatClampNeg) Q) : kz V G ob ot L M pc lv (.int n :: st) w Q := by
  obtain ⟨⟨h1, h2, h3, h4⟩, h⟩ := h
  intro F hF X hX
  have g := kk h F hF _ (hX.new (τ := 0) (n := n.toNatClampNeg) (by decide))
  have hz : X.2 = w_z w := hX.1
  refine ky_step hd (pc' := pc + 2) (lv' := lv) (st' := .ref X.2 :: st) (X' := kx_push X (.inl (0, n.toNatClampNeg, .inl (fun _ => 0)))) (dc := 1) (ds := n.toNatClampNeg) ?_ (C' := w_C w - 1) (S' := w_S w - n.toNatClampNeg) (by omega) (by omega) ?_
  · have e1 : newarray.typeOf .int = FieldType.int := rfl
    simp only [kx_st1, kx_na, e1, ht]
    rw [if_pos trivial, if_pos ⟨h1, h2, ht2, hc⟩]
  · rw [hz]
    exact ky_mono g (fun r X C S ⟨w2, k1, k2, k3, k4, k5⟩ => ⟨w2, k1, wle_tr (wle_new hX) k2, k3, k4, k5⟩)
end KN
section KPU
variable {V : kx_V} {G : wT} {ob : Nat → Nat} {ot : Nat → Option kx_E} {L : Nat} {M : kx_M} {pc : Nat} {lv : kx_L} {st : List Value} {w : wS} {Q : kx_Rs → wS → Prop} {X : kx_X}
theorem w_o_put {c o k a : Nat} (b : Nat) : w_o (ws_put w c o k a) b = if b = a then some (c, o, k) else if b = w_d w c o k then none else w_o w b := by
  show w_u1 (w_u1 (w_o w) (w_d w c o k) none) a _ b = _
  rw [w_u1_at, w_u1_at]
theorem wR.put2 (h : wR V G ob ot w X) {τ c o k a : Nat} (hl : G.2.2.2 c o = true ∨ w_l w ob c o) (hk : k < G.2.2.1 c) (hg : G.1 c k = 3) (hτ : G.2.1 c k = τ) (ha : w_o w a = some (99, a, 0)) (hat : w_t w a = τ) : wR V G ob ot (ws_put w c o k a) (kx_set X (w_adr ob c o) (.inr (c, (w_fs G ob w c o).set k (.ref a)))) := by
  have hlv := h.live hl
  have har : w_ar G c k = true := by
    unfold w_ar
    rw [hg]
    rfl
  have hkc := h.2.2.2.2.2.2.2 c k har
  have hfa : w_fa G c k = false := by
    unfold w_fa
    rw [hg]
    cases hb : Nat.beq 3 (1004 + 256 * c + k) with
    | false => rfl
    | true =>
      have := w_beq.mp hb
      omega
  have hd0 : w_ad G ob w c o k = w_d w c o k := by
    unfold w_ad
    rw [hfa]
    rfl
  have hod : w_o w (w_d w c o k) = some (c, o, k) := by
    have := h.2.2.2.2.2.2.1 c o k hlv har
    rw [hd0] at this
    exact this
  have hda : w_d w c o k ≠ a := by
    intro e
    rw [e, ha] at hod
    cases hod
    exact hkc.2 rfl
  have hoa : w_adr ob c o ≠ a := by
    intro e
    unfold w_l at hlv
    rw [e, ha] at hlv
    simp at hlv
  have hdd : ∀ c' o' k', (c', o', k') ≠ (c, o, k) → w_d (ws_put w c o k a) c' o' k' = w_d w c' o' k' := fun c' o' k' hne => w_u3_ne _ _ hne
  have hatq : ∀ q : Nat × Nat × Nat, q ≠ (c, o, k) → w_at G ob (ws_put w c o k a) q = w_at G ob w q := by
    intro q hq
    unfold w_at w_ad
    rw [hdd q.1 q.2.1 q.2.2 hq]
  have hal : ∀ c' o', w_l (ws_put w c o k a) ob c' o' ↔ w_l w ob c' o' := by
    intro c' o'
    unfold w_l
    rw [w_o_put]
    by_cases e1 : w_adr ob c' o' = a
    · rw [if_pos e1, e1, ha]
      constructor
      · intro e2
        simp only [Option.some.injEq, Prod.mk.injEq] at e2
        exact absurd e2.2.2 hkc.1
      · intro e2
        simp at e2
    · rw [if_neg e1]
      by_cases e2 : w_adr ob c' o' = w_d w c o k
      · rw [if_pos e2, e2, hod]
        constructor
        · intro e3
          cases e3
        · intro e3
          simp only [Option.some.injEq, Prod.mk.injEq] at e3
          exact absurd e3.2.2 hkc.1
      · rw [if_neg e2]
  have hcont : ∀ q : Nat × Nat × Nat, q ≠ (c, o, k) → q ≠ (c, o, 999) → w_cont G ob (ws_put w c o k a) q = w_cont G ob w q := by
    intro q hq hq9
    unfold w_cont
    by_cases h9 : q.2.2 = 999
    · rw [if_pos h9, if_pos h9, w_fs_congr]
      intro j
      unfold w_val
      split
      · rfl
      · rfl
      · rfl
      · exact congrArg Value.ref (hdd _ _ _ (w_obj_ne hq9 h9 k j))
      · rfl
    · rw [if_neg h9, if_neg h9]
      unfold w_arr
      have e1 : w_n (ws_put w c o k a) q.1 q.2.1 q.2.2 = w_n w q.1 q.2.1 q.2.2 := w_u3_ne _ _ hq
      have e2 : w_a (ws_put w c o k a) q.1 q.2.1 q.2.2 = w_a w q.1 q.2.1 q.2.2 := w_f4_ne _ _ hq
      have e3 : w_b (ws_put w c o k a) q.1 q.2.1 q.2.2 = w_b w q.1 q.2.1 q.2.2 := w_f4_ne _ _ hq
      have e4 : w_r (ws_put w c o k a) q.1 q.2.1 q.2.2 = w_r w q.1 q.2.1 q.2.2 := w_f4_ne _ _ hq
      have e5 : ∀ b, w_t (ws_put w c o k a) b = w_t w b := fun _ => rfl
      rw [e1, e2, e3, e4, e5]
  refine ⟨h.1, h.2.1, fun b hb => ?_, fun b e hb => ?_, fun b p hb => ?_, fun c' o' hs => (hal c' o').mpr (h.2.2.2.2.2.1 c' o' hs), fun c' o' k' h1 h2 => ?_, h.2.2.2.2.2.2.2⟩
  · show (if b = w_adr ob c o then _ else X.1 b) = none
    rw [if_neg (by have := (h.2.2.2.2.1 _ _ hlv).2.1; omega)]
    exact h.2.2.1 b hb
  · obtain ⟨h1, h2, h3⟩ := h.2.2.2.1 b e hb
    refine ⟨?_, ?_, h3⟩
    · show (if b = w_adr ob c o then _ else X.1 b) = some e
      rw [if_neg]
      · exact h1
      · intro e2
        unfold w_l at hlv
        rw [← e2, h2] at hlv
        cases hlv
    · rw [w_o_put, if_neg, h2]
      · split <;> rfl
      · intro e2
        rw [e2, ha] at h2
        cases h2
  · rw [w_o_put] at hb
    by_cases e1 : b = a
    · rw [if_pos e1] at hb
      cases hb
      have g := h.2.2.2.2.1 a _ ha
      subst e1
      refine ⟨?_, g.2.1, g.2.2.1, ?_⟩
      · unfold w_at w_ad
        rw [if_neg (by simp only [not_or]; exact hkc), hfa]
        show b = w_u3 _ c o k b c o k
        rw [w_u3_eq]
      · show (if b = w_adr ob c o then _ else X.1 b) = _
        rw [if_neg (fun e => hoa e.symm), g.2.2.2]
        congr 1
        unfold w_cont
        rw [if_neg (show ¬ (0 : Nat) = 999 by decide), if_pos rfl, if_neg hkc.1, if_neg hkc.2]
        rw [show w_t w (99, b, 0).2.1 = τ from hat, show G.2.1 (c, o, k).1 (c, o, k).2.2 = τ from hτ]
        unfold w_arr
        have e1 : w_n (ws_put w c o k b) c o k = w_n w 99 b 0 := w_u3_eq _ _ _ _ _
        have e2 : w_a (ws_put w c o k b) c o k = w_a w 99 b 0 := w_f4_eq _ _ _ _ _
        have e3 : w_b (ws_put w c o k b) c o k = w_b w 99 b 0 := w_f4_eq _ _ _ _ _
        have e4 : w_r (ws_put w c o k b) c o k = w_r w 99 b 0 := w_f4_eq _ _ _ _ _
        rw [e1, e2, e3, e4]
    · rw [if_neg e1] at hb
      by_cases e2 : b = w_d w c o k
      · rw [if_pos e2] at hb
        cases hb
      · rw [if_neg e2] at hb
        obtain ⟨g1, g2, g3, g4⟩ := h.2.2.2.2.1 b p hb
        have hp : p ≠ (c, o, k) := by
          intro e3
          subst e3
          apply e2
          rw [g1]
          unfold w_at
          rw [if_neg (by simp only [not_or]; exact hkc)]
          exact hd0
        refine ⟨by rw [hatq p hp]; exact g1, g2, g3, ?_⟩
        show (if b = w_adr ob c o then _ else X.1 b) = _
        by_cases e3 : b = w_adr ob c o
        · rw [if_pos e3]
          have : p = (c, o, 999) := by
            unfold w_l at hlv
            rw [e3] at hb
            exact Option.some.inj (hb.symm.trans hlv)
          subst this
          congr 1
          unfold w_cont
          rw [if_pos rfl]
          congr 2
          refine (w_fs_set hk (fun j hj => ?_) ?_).symm
          · unfold w_val
            split
            · rfl
            · rfl
            · rfl
            · exact congrArg Value.ref (hdd _ _ _ (by simp [hj]))
            · rfl
          · unfold w_val
            rw [hg]
            exact congrArg Value.ref (w_u3_eq _ _ _ _ _)
        · rw [if_neg e3, g4, hcont p hp]
          intro e4
          subst e4
          apply e3
          rw [g1]
          unfold w_at
          rw [if_pos (Or.inl rfl)]
  · have h3 := (hal c' o').mp h1
    have h4 := h.2.2.2.2.2.2.1 c' o' k' h3 h2
    by_cases e : (c', o', k') = (c, o, k)
    · cases e
      have e5 : w_ad G ob (ws_put w c o k a) c o k = a := by
        unfold w_ad
        rw [hfa]
        exact w_u3_eq _ _ _ _ _
      rw [e5, w_o_put, if_pos rfl]
    · have e5 : w_ad G ob (ws_put w c o k a) c' o' k' = w_ad G ob w c' o' k' := by
        unfold w_ad
        rw [hdd _ _ _ e]
      rw [e5, w_o_put, if_neg, if_neg]
      · exact h4
      · intro e6
        rw [e6, hod] at h4
        cases h4
        exact e rfl
      · intro e6
        rw [e6, ha] at h4
        cases h4
        exact (h.2.2.2.2.2.2.2 _ _ h2).2 rfl
theorem wle_put (h : wR V G ob ot w X) {c o k a : Nat} (hl : G.2.2.2 c o = true ∨ w_l w ob c o) (hg : G.1 c k = 3) (ha : w_o w a = some (99, a, 0)) : wle w (ws_put w c o k a) := by
  intro b c' o' hb
  have har : w_ar G c k = true := by
    unfold w_ar
    rw [hg]
    rfl
  have hkc := h.2.2.2.2.2.2.2 c k har
  have hod : w_o w (w_ad G ob w c o k) = some (c, o, k) := h.2.2.2.2.2.2.1 c o k (h.live hl) har
  have hd0 : w_ad G ob w c o k = w_d w c o k := by
    unfold w_ad w_fa
    rw [hg]
    cases hb : Nat.beq 3 (1004 + 256 * c + k) with
    | false => rfl
    | true =>
      have := w_beq.mp hb
      omega
  rw [hd0] at hod
  rw [w_o_put, if_neg, if_neg]
  · exact hb
  · intro e
    rw [e, hod] at hb
    simp only [Option.some.injEq, Prod.mk.injEq] at hb
    exact hkc.1 hb.2.2
  · intro e
    rw [e, ha] at hb
    simp at hb
theorem kz_pfa {j c o k τ a : Nat} {T : FieldType} (hd : decode M.2.1 pc = .ok (.putfield j, 3)) (hf : wP V G M.1.cls j c k 3 (.array T)) (hl : G.2.2.2 c o = true ∨ w_l w ob c o) (hτ : G.2.1 c k = τ) {A : Prop} (h : (w_o w a = some (99, a, 0) ∧ w_t w a = τ) ∧ A) (kk : A → kz V G ob ot L M (pc + 3) lv st (ws_put w c o k a) Q) : kz V G ob ot L M pc lv (.ref a :: .ref (w_adr ob c o) :: st) w Q := by
  obtain ⟨q, Cn, T', N, h1, h2, h3, h4, h5, h6, h8⟩ := hf
  obtain ⟨⟨ha, hat⟩, h⟩ := h
  intro F hF X hX
  have g := kk h F hF _ (hX.put2 hl h4 h5 hτ ha hat)
  exact ky_putf hd h1 h2 h3 h6 h8 (hX.obj hl) (hX.lo (hX.live hl)) rfl rfl (by rw [w_fs_len]; exact h4) (ky_mono g (fun r X C S ⟨w2, k1, k2, k3, k4, k5⟩ => ⟨w2, k1, wle_tr (wle_put hX hl h5 ha) k2, k3, k4, k5⟩))
end KPU
