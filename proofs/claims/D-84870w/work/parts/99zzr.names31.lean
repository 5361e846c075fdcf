/-! ===== ROUNDS, part 33: the twin asks for tags ===== -/
section NTH
variable {D : pD} {V : pV} {nu : pN} {tn : Nat → Prop} {rt p q n s sp A P c : Nat} {S S' : nS} {t : wS} {E' : zE} {L' : Nat} {Q : kx_Rs → wS → Prop} {b : Bool}
theorem t_tag0 (hL : 40 ≤ L') (hq : Q (.inl (some (.int 0))) t) : zw E' L' kt_M427 [.ref (w_adr E'.2.1 12 0), .int (-1)] t Q := by
  refine zt_X13_hasTags_p0 (by omega) ?_
  simp only [zb_X13_hasTags_p0, zb_X13_hasTags_p53, zb_X13_hasTags_p54]
  rw [if_pos (by decide)]
  exact ⟨.inl trivial, hq⟩
theorem t_tags (hI : IVN D V nu tn rt S) (hst : STR D V nu tn rt) (hs : S.ys s = some A) (h46 : w_a S.t 12 0 46 s = i_ 3) (hL : 40 ≤ L') (hb : b = true ↔ tgs V S s) (hq : Q (.inl (some (.int (bI b)))) S.t) : zw E' L' kt_M427 [.ref (w_adr E'.2.1 12 0), .int (i_ s)] S.t Q := by
  have hsl := hI.sl hs
  have hT := hI.1.2.1
  have hs61 : s < 6100 := (hI.2.2.2.1.1 s A hs).2.1.1
  have q0 : ¬ tgs V S s → Q (.inl (some (.int 0))) S.t := fun e => by
    cases b with
    | true => exact absurd (hb.mp rfl) e
    | false => exact hq
  have q1 : tgs V S s → Q (.inl (some (.int 1))) S.t := fun e => by
    cases b with
    | true => exact hq
    | false => exact absurd (hb.mpr e) (by decide)
  have sub16 : ∀ sp : Nat, sp < 6100 → (i_ (16 + sp : Nat) : Int32) - 16 = i_ sp := fun sp h => by
    rw [show (16 : Int32) = i_ 16 from rfl, i_sub]
    congr 1
    omega
  have ge16 : ∀ sp : Nat, sp < 6100 → ¬ (i_ (16 + sp : Nat) : Int32) < 16 := fun sp h => by
    rw [show (16 : Int32) = i_ 16 from rfl, i_lt (by omega) (by omega)]
    omega
  refine zt_X13_hasTags_p0 (by omega) ?_
  simp only [zb_X13_hasTags_p0, zb_X13_hasTags_p53, zb_X13_hasTags_p54, i_nat' (show s < 2147483648 by omega), h46]
  rw [if_neg (i_nn (by omega))]
  refine ⟨hT.sy rfl hs61, ?_⟩
  rw [if_neg (show ¬ ¬ (i_ 3 : Int32) = 3 by decide)]
  refine ⟨hT.sy rfl hs61, ?_⟩
  rcases hI.tgc hst hs h46 with ⟨e, P, sp, nd, -, -, -, e47, h1, e49, h2, e26⟩ | ⟨e, -, ⟨z, z1, z2, e47⟩ | ⟨sp, nd, e47, h1, e49, h2, e26⟩⟩
  · simp only [e47, sub16 sp h1, i_nat' (show sp < 2147483648 by omega), e49, i_nat' (show nd < 2147483648 by omega), e26]
    rw [if_neg (ge16 sp h1)]
    refine ⟨hT.sy rfl hs61, hT.sy rfl h1, hT.i rfl h2, ?_⟩
    rw [if_neg (by decide)]
    exact ⟨.inr trivial, q1 e⟩
  · rw [e47, if_pos (by rw [show (16 : Int32) = i_ 16 from rfl, i_lt (by omega) (by omega)]; omega)]
    exact ⟨.inl trivial, q0 e⟩
  · simp only [e47, sub16 sp h1, i_nat' (show sp < 2147483648 by omega), e49, i_nat' (show nd < 2147483648 by omega), e26]
    rw [if_neg (ge16 sp h1)]
    refine ⟨hT.sy rfl hs61, hT.sy rfl h1, hT.i rfl h2, ?_⟩
    rw [if_pos (by decide)]
    exact ⟨.inl trivial, q0 e⟩
end NTH
