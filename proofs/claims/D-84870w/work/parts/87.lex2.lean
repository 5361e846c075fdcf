/-! ===== TOKENS, part 4: what a token is; MeetingHouse reads one ===== -/
theorem i_eqk {c k : Int} (hc : -1000 ≤ c ∧ c ≤ 1000) (h1 : -1000 ≤ k) (h2 : k ≤ 1000) : (i_ c = i_ k) = (c = k) := propext (i_eq (by omega) (by omega))
theorem i_ltk {c k : Int} (hc : -1000 ≤ c ∧ c ≤ 1000) (h1 : -1000 ≤ k) (h2 : k ≤ 1000) : (i_ c < i_ k) = (c < k) := propext (i_lt (by omega) (by omega))
theorem i_lek {c k : Int} (hc : -1000 ≤ c ∧ c ≤ 1000) (h1 : -1000 ≤ k) (h2 : k ≤ 1000) : (i_ c ≤ i_ k) = (c ≤ k) := propext (i_le (by omega) (by omega))
theorem i_kl {c k : Int} (hc : -1000 ≤ c ∧ c ≤ 1000) (h1 : -1000 ≤ k) (h2 : k ≤ 1000) : (i_ k < i_ c) = (k < c) := propext (i_lt (by omega) (by omega))
/-- a sign of a string or character -/
def sg (T : Nat → Int) (p : Nat) : Option (Int × Nat) :=
  if T p = 42 then (if T (p + 1) = 110 then some (10, p + 2) else if T (p + 1) = 116 then some (9, p + 2) else if T (p + 1) = 115 then some (32, p + 2) else if T (p + 1) = 39 ∨ T (p + 1) = 34 ∨ T (p + 1) = 42 then some (T (p + 1), p + 2) else none)
  else if T p < 32 ∨ 126 < T p ∨ T p = 39 ∨ T p = 34 then none else some (T p, p + 1)
theorem sg_v {T : Nat → Int} {p p' : Nat} {v : Int} (h : sg T p = some (v, p')) : 0 ≤ v ∧ v < 128 := by
  unfold sg at h
  split at h
  · split at h
    · cases h; omega
    · split at h
      · cases h; omega
      · split at h
        · cases h; omega
        · split at h
          · cases h; omega
          · cases h
  · split at h
    · cases h
    · cases h; omega
theorem sg_p {T : Nat → Int} {p p' : Nat} {v : Int} (h : sg T p = some (v, p')) : T p ≠ 10 ∧ ((p' = p + 1) ∨ (p' = p + 2 ∧ T (p + 1) ≠ 10)) := by
  unfold sg at h
  split at h
  · split at h
    · cases h; omega
    · split at h
      · cases h; omega
      · split at h
        · cases h; omega
        · split at h
          · cases h; omega
          · cases h
  · split at h
    · cases h
    · cases h; omega
/-- the text as MeetingHouse has it -/
def CT (w : wS) (T : Nat → Int) (n : Nat) : Prop := tx T n ∧ TL2 w ∧ w_i w 1 0 1 = i_ n ∧ ∀ k, k < n → w_a w 1 0 0 k = i_ (sb (T k))
theorem CT.frm {P : Nat → Nat → Bool} {w w' : wS} {T : Nat → Int} {n : Nat} (h : CT w T n) (hf : frm P w w') (hp : P 1 0 = false ∧ P 1 1 = false) : CT w' T n := by
  obtain ⟨h1, h2, h3, h4⟩ := h
  refine ⟨h1, ?_, by rw [hf.i hp.2]; exact h3, fun k hk => by rw [hf.a hp.1]; exact h4 k hk⟩
  unfold TL2 at h2 ⊢
  simp only [hf.n]
  exact h2
section LX
variable {E : zE} {L : Nat} {w : wS} {Q : kx_Rs → wS → Prop} {T : Nat → Int} {n e p sm : Nat}
/-- a sign kept -/
def sg_add (w : wS) (sm : Nat) (v : Int) : wS := ws_a (ws_i w 1 0 11 (i_ (sm + 1 : Nat))) 1 0 10 sm (i_ v)
theorem c2_oneSign (hL : 60 ≤ L) (hC : CT w T n) (he : e ≤ n) (hp : p ≤ e) (h10 : T e = 10) (hsm : w_i w 1 0 11 = i_ sm) (hsm2 : sm < 6000) (h0 : sg T p = none → Q (.inl (some (.int (i_ (-1))))) w) (h1 : ∀ v p', sg T p = some (v, p') → Q (.inl (some (.int (i_ p')))) (sg_add w sm v)) : zw E L kt_M246 [.ref (w_adr E.2.1 1 0), .int (i_ p), .int (i_ e)] w Q := by
  obtain ⟨⟨hn, hx10, hxr⟩, ⟨⟨l0, -, -, -, -, -, l10⟩, -⟩, -, hT⟩ := hC
  have hc := hxr p
  have hd := hxr (p + 1)
  refine zt_X2_oneSign_p0 (by omega) ?_
  simp only [zb_X2_oneSign_p0, zb_X2_oneSign_p19, zb_X2_oneSign_p49, zb_X2_oneSign_p108, zb_X2_oneSign_p114, zb_X2_oneSign_p171]
  by_cases hpe : p < e
  · rw [if_neg (fun q => by have := (i_le (by omega) (by omega)).mp q; omega)]
    refine ⟨i_inb' (by omega) (by omega), ?_⟩
    simp only [i_nat' (show p < 2147483648 by omega), hT p (by omega), sb_and' hc, hsm, l0, l10, i_nat' (show sm < 2147483648 by omega), i_inb' (show sm < 2147483648 by omega) hsm2]
    by_cases hpe2 : p + 1 < e
    · have hin : kx_inb (i_ p + 1) 6000 = true := by
        rw [i_1, i_add]
        exact i_inb (by omega) (by omega)
      have hna : (i_ p + 1).toNatClampNeg = p + 1 := by
        rw [i_1, i_add, show (p : Int) + 1 = ((p + 1 : Nat) : Int) by omega]
        exact i_nat' (by omega)
      have hle : ¬ i_ e ≤ i_ p + 1 := by
        rw [i_1, i_add]
        intro q
        have := (i_le (by omega) (by omega)).mp q
        omega
      simp only [if_neg hle, hin, hna, hT (p + 1) (by omega), sb_and' hd, true_and]
      simp only [show ((-1) : Int32) = i_ (-1) from rfl, show (0 : Int32) = i_ 0 from rfl, show (1 : Int32) = i_ 1 from rfl, show (2 : Int32) = i_ 2 from rfl, show (9 : Int32) = i_ 9 from rfl, show (10 : Int32) = i_ 10 from rfl, show (11 : Int32) = i_ 11 from rfl, show (32 : Int32) = i_ 32 from rfl, show (34 : Int32) = i_ 34 from rfl, show (39 : Int32) = i_ 39 from rfl, show (42 : Int32) = i_ 42 from rfl, show (110 : Int32) = i_ 110 from rfl, show (115 : Int32) = i_ 115 from rfl, show (116 : Int32) = i_ 116 from rfl, show (126 : Int32) = i_ 126 from rfl, show (255 : Int32) = i_ 255 from rfl, i_neg, i_add]
      simp only [show (p : Int) + 1 = ((p + 1 : Nat) : Int) by omega, show (p : Int) + 2 = ((p + 2 : Nat) : Int) by omega, show (sm : Int) + 1 = ((sm + 1 : Nat) : Int) by omega, Int.reduceLE, Int.reduceNeg, not_true_eq_false, if_false, i_eqk (show -1000 ≤ T p ∧ T p ≤ 1000 by omega), i_ltk (show -1000 ≤ T p ∧ T p ≤ 1000 by omega), i_kl (show -1000 ≤ T p ∧ T p ≤ 1000 by omega), i_eqk (show -1000 ≤ T (p + 1) ∧ T (p + 1) ≤ 1000 by omega), i_eqk (show -1000 ≤ (32 : Int) ∧ (32 : Int) ≤ 1000 by omega), i_eqk (show -1000 ≤ (9 : Int) ∧ (9 : Int) ≤ 1000 by omega), i_eqk (show -1000 ≤ (10 : Int) ∧ (10 : Int) ≤ 1000 by omega)]
      by_cases a1 : T p = 42
      · rw [if_neg (fun q => q a1)]
        by_cases a2 : T (p + 1) = 110
        · rw [if_neg (fun q => q a2), if_pos (by omega), vp_nar_b (by omega)]
          exact h1 _ _ (by unfold sg; rw [if_pos a1, if_pos a2])
        rw [if_pos a2]
        by_cases a3 : T (p + 1) = 116
        · rw [if_neg (fun q => q a3), if_pos (by omega), vp_nar_b (by omega)]
          exact h1 _ _ (by unfold sg; rw [if_pos a1, if_neg a2, if_pos a3])
        rw [if_pos a3]
        by_cases a4 : T (p + 1) = 115
        · rw [if_neg (fun q => q a4), if_pos (by omega), vp_nar_b (by omega)]
          exact h1 _ _ (by unfold sg; rw [if_pos a1, if_neg a2, if_neg a3, if_pos a4])
        rw [if_pos a4]
        by_cases a5 : T (p + 1) = 39 ∨ T (p + 1) = 34 ∨ T (p + 1) = 42
        · have hz := h1 (T (p + 1)) (p + 2) (by unfold sg; rw [if_pos a1, if_neg a2, if_neg a3, if_neg a4, if_pos a5])
          have hv : vp_nar .byte ((i_ (T (p + 1)) : Int32).toInt8.toInt32) = i_ (T (p + 1)) := vp_nar_b (by omega)
          simp only [hv, if_pos (show ¬ T (p + 1) = -1 by omega)]
          repeat' split
          all_goals first
            | exact hz
            | omega
        · rw [if_neg (by omega), if_neg (by omega), if_pos (by omega)]
          exact h0 (by unfold sg; rw [if_pos a1, if_neg a2, if_neg a3, if_neg a4, if_neg a5])
      · rw [if_pos a1]
        by_cases a2 : T p < 32 ∨ 126 < T p ∨ T p = 39 ∨ T p = 34
        · have hz := h0 (by unfold sg; rw [if_neg a1, if_pos a2])
          repeat' split
          all_goals first
            | exact hz
            | omega
        · rw [if_neg (by omega), if_neg (by omega), if_neg (by omega), if_pos (by omega), vp_nar_b (by omega)]
          exact h1 _ _ (by unfold sg; rw [if_neg a1, if_neg a2])
    · have hle : i_ e ≤ i_ p + 1 := by
        rw [i_1, i_add]
        exact (i_le (by omega) (by omega)).mpr (by omega)
      have hT1 : T (p + 1) = 10 := by
        rw [show p + 1 = e by omega]
        exact h10
      simp only [if_pos hle, true_and]
      simp only [show ((-1) : Int32) = i_ (-1) from rfl, show (0 : Int32) = i_ 0 from rfl, show (1 : Int32) = i_ 1 from rfl, show (2 : Int32) = i_ 2 from rfl, show (9 : Int32) = i_ 9 from rfl, show (10 : Int32) = i_ 10 from rfl, show (11 : Int32) = i_ 11 from rfl, show (32 : Int32) = i_ 32 from rfl, show (34 : Int32) = i_ 34 from rfl, show (39 : Int32) = i_ 39 from rfl, show (42 : Int32) = i_ 42 from rfl, show (110 : Int32) = i_ 110 from rfl, show (115 : Int32) = i_ 115 from rfl, show (116 : Int32) = i_ 116 from rfl, show (126 : Int32) = i_ 126 from rfl, show (255 : Int32) = i_ 255 from rfl, i_neg, i_add]
      simp only [show (p : Int) + 1 = ((p + 1 : Nat) : Int) by omega, show (p : Int) + 2 = ((p + 2 : Nat) : Int) by omega, show (sm : Int) + 1 = ((sm + 1 : Nat) : Int) by omega, Int.reduceLE, Int.reduceNeg, not_true_eq_false, if_false, i_eqk (show -1000 ≤ T p ∧ T p ≤ 1000 by omega), i_ltk (show -1000 ≤ T p ∧ T p ≤ 1000 by omega), i_kl (show -1000 ≤ T p ∧ T p ≤ 1000 by omega), i_eqk (show -1000 ≤ (-1 : Int) ∧ (-1 : Int) ≤ 1000 by omega)]
      by_cases a1 : T p = 42
      · rw [if_neg (fun q => q a1)]
        have hz := h0 (by unfold sg; rw [if_pos a1, hT1]; rfl)
        repeat' split
        all_goals first
          | exact hz
          | omega
      · rw [if_pos a1]
        by_cases a2 : T p < 32 ∨ 126 < T p ∨ T p = 39 ∨ T p = 34
        · have hz := h0 (by unfold sg; rw [if_neg a1, if_pos a2])
          repeat' split
          all_goals first
            | exact hz
            | omega
        · rw [if_neg (by omega), if_neg (by omega), if_neg (by omega), if_pos (by omega), vp_nar_b (by omega)]
          exact h1 _ _ (by unfold sg; rw [if_neg a1, if_neg a2])
  · rw [if_pos ((i_le (by omega) (by omega)).mpr (by omega))]
    have hT1 : T p = 10 := by
      rw [show p = e by omega]
      exact h10
    simp only [Int.reduceLE, Int.reduceNeg, show ((-1) : Int32) = i_ (-1) from rfl, show (0 : Int32) = i_ 0 from rfl, show (1 : Int32) = i_ 1 from rfl, show (2 : Int32) = i_ 2 from rfl, show (9 : Int32) = i_ 9 from rfl, show (10 : Int32) = i_ 10 from rfl, show (11 : Int32) = i_ 11 from rfl, show (32 : Int32) = i_ 32 from rfl, show (34 : Int32) = i_ 34 from rfl, show (39 : Int32) = i_ 39 from rfl, show (42 : Int32) = i_ 42 from rfl, show (110 : Int32) = i_ 110 from rfl, show (115 : Int32) = i_ 115 from rfl, show (116 : Int32) = i_ 116 from rfl, show (126 : Int32) = i_ 126 from rfl, show (255 : Int32) = i_ 255 from rfl, i_neg, i_add, i_eqk (show -1000 ≤ (-1 : Int) ∧ (-1 : Int) ≤ 1000 by omega), i_ltk (show -1000 ≤ (-1 : Int) ∧ (-1 : Int) ≤ 1000 by omega)]
    have hz := h0 (by unfold sg; rw [hT1]; rfl)
    repeat' split
    all_goals first
      | exact hz
      | omega
end LX
