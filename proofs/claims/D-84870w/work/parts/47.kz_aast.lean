/-! ===== RUNS OVER A TYPED STATE, part 14: arrays of references are written ===== -/
section KR
variable {V : kx_V} {G : wT} {ob : Nat → Nat} {ot : Nat → Option kx_E} {L : Nat} {M : kx_M} {pc : Nat} {lv : kx_L} {st : List Value} {w : wS} {Q : kx_Rs → wS → Prop} {X : kx_X}
theorem wR.setR (h : wR V G ob ot w X) {τ c o k : Nat} (ho : w_own w G ob (τ + 4) c o k) (j : Nat) (v : Option Nat) : wR V G ob ot (ws_r w c o k j v) (kx_set X (w_aa G ob w c o k) (.inl (τ + 4, w_n w c o k, .inr (.inr (.inr (.inr (w_r (ws_r w c o k j v) c o k))))))) := by
  obtain ⟨g1, g2, g3⟩ := h.own ho
  have hne : ∀ c' o' k', (c', o', k') ≠ (c, o, k) → w_r (ws_r w c o k j v) c' o' k' = w_r w c' o' k' := fun c' o' k' hne => w_u4_ne _ _ hne
  have h1 := h.set (w' := ws_r w c o k j v) rfl (fun _ => rfl) (fun _ _ _ => rfl) g1 (by
    intro q hq
    unfold w_cont
    by_cases h9 : q.2.2 = 999
    · rw [if_pos h9, if_pos h9, w_fs_congr]
      intro j
      unfold w_val
      split <;> rfl
    · rw [if_neg h9, if_neg h9]
      unfold w_arr
      rw [hne q.1 q.2.1 q.2.2 hq]
      rfl)
  have e : w_cont G ob (ws_r w c o k j v) (c, o, k) = .inl (τ + 4, w_n w c o k, .inr (.inr (.inr (.inr (w_r (ws_r w c o k j v) c o k))))) := by
    unfold w_cont
    rw [if_neg g3]
    have e9 : (if c = 99 then w_t (ws_r w c o k j v) o else G.2.1 c k) = τ + 4 := by
      rcases ho with ⟨rfl, rfl, q1, q2⟩ | ⟨q1, q2, q3⟩
      · rw [if_pos rfl]
        exact q2
      · rw [if_neg (h.2.2.2.2.2.2.2 c k q2).2, q3]
    rw [show (if (c, o, k).1 = 99 then w_t (ws_r w c o k j v) (c, o, k).2.1 else G.2.1 (c, o, k).1 (c, o, k).2.2) = τ + 4 from e9]
    rfl
  rw [e] at h1
  exact h1
/-- an int array comes to a place of an array of such -/
theorem kz_aastA {i : Int32} {v τ c o k : Nat} (hd : decode M.2.1 pc = .ok (.aastore, 1)) (ho : w_own w G ob (τ + 4) c o k) {a : Nat} (ha : w_aa G ob w c o k = a) (ht : (kx_tl V)[τ + 4]? = some (.array .int)) (ht0 : (kx_tl V)[0]? = some .int) {A : Prop} (h : (w_o w v = some (99, v, 0) ∧ w_t w v = 0) ∧ kx_inb i (w_n w c o k) = true ∧ A) (kk : A → kz V G ob ot L M (pc + 1) lv st (ws_r w c o k i.toNatClampNeg (some v)) Q) : kz V G ob ot L M pc lv (.ref v :: .int i :: .ref a :: st) w Q := by
  subst ha
  obtain ⟨⟨hv1, hv2⟩, h1, h2⟩ := h
  intro F hF X hX
  have g := hX.own ho
  have gv := (hX.own (τ := 0) (c := 99) (o := v) (k := 0) (.inl ⟨rfl, rfl, hv1, hv2⟩)).2.1
  have ev : w_aa G ob w 99 v 0 = v := rfl
  rw [ev] at gv
  have hs := kk h2 F hF _ (hX.setR ho i.toNatClampNeg (some v))
  have e : w_r (ws_r w c o k i.toNatClampNeg (some v)) c o k = va_up (w_r w c o k) i.toNatClampNeg (some v) := by
    show w_u4 w.2.2.2.2.2.1 c o k i.toNatClampNeg (some v) c o k = _
    rw [w_u4_eq]
    funext q
    unfold va_up
    rfl
  rw [e] at hs
  refine ky_s hd ?_ hs
  have gx := g.2.1
  unfold w_arr at gx
  unfold w_arr at gv
  simp only at gx gv
  simp only [kx_st1, gx, gv, ht, ht0, if_pos, h1, hX.lo g.1, and_self]
end KR
