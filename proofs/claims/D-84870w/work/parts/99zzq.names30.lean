/-! ===== ROUNDS, part 32: tags of channels ===== -/
section NTG
variable {D : pD} {V : pV} {nu : pN} {tn : Nat → Prop} {rt p q n s sp A P : Nat} {S S' : nS}
/-- a PROTOCOL's symbol -/
theorem IVN.ptc (hI : IVN D V nu tn rt S) (hst : STR D V nu tn rt) (hP : S.ys sp = some P) (h5 : w_a S.t 12 0 46 sp = i_ 5) : ∃ nd : Nat, w_a S.t 12 0 49 sp = i_ nd ∧ nd < 14000 ∧ ((V.2.2.1 26 nd = i_ (35 : Nat) ∧ w_i S.w 15 P 16 = 0) ∨ (V.2.2.1 26 nd = i_ (36 : Nat) ∧ w_i S.w 15 P 16 = 1)) ∧ w_a S.t 12 0 26 nd = V.2.2.1 26 nd := by
  obtain ⟨⟨-, hl⟩, -, c, hc, h46, -, -, -, -, hR⟩ := (hI.2.2.2.1.1 sp P hP).2
  have ec : c = 5 := by
    have := (i_eq (by omega) (by omega)).mp (h46.symm.trans h5)
    omega
  subst ec
  rcases hR with ⟨e, -⟩ | ⟨nd, d, r, dd, kd, ⟨a1, a2, a3, a4⟩, hk⟩
  · omega
  · refine ⟨nd, a1, a2, ?_, ?_⟩
    · unfold RNk at hk
      rcases hk with ⟨e1, e2, -⟩ | ⟨e1, e2, -⟩ | ⟨e1, e2, -⟩ | ⟨e1, e2, -⟩ | ⟨e1, e2, -⟩ | ⟨e1, e2, e3, e4, -⟩ | ⟨e1, e2, e3, e4⟩ | ⟨e1, e2, -⟩ | ⟨e1, e2, -⟩ | ⟨e1, e2, -⟩ | ⟨e1, e2, -⟩ | ⟨e1, e2, -⟩
      · exact absurd e2 (by decide)
      · exact absurd e2 (by decide)
      · exact absurd e2 (by decide)
      · exact absurd e2 (by decide)
      · exact absurd e2 (by decide)
      · exact .inl ⟨by rw [a4, e1], e4⟩
      · exact .inr ⟨by rw [a4, e1], e4⟩
      · exact absurd e2 (by decide)
      · exact absurd e2 (by decide)
      · exact absurd e2 (by decide)
      · exact absurd e2 (by decide)
      · rcases e2 with ⟨e, -⟩ | ⟨e, -⟩ | ⟨e, -⟩ <;> exact absurd e (by decide)
    · rcases hst.2.1 d nd r dd a3 with e | ⟨h1, -⟩
      · omega
      · exact hI.1.2.2 nd h1 26 rfl
/-- a channel has tags, or it has none: on both sides -/
theorem IVN.tgc (hI : IVN D V nu tn rt S) (hst : STR D V nu tn rt) (hs : S.ys s = some A) (h46 : w_a S.t 12 0 46 s = i_ 3) :
    (tgs V S s ∧ ∃ P sp nd : Nat, w_p S.w 15 A 15 = some P ∧ w_l S.w D.1.2.1 15 P ∧ w_i S.w 15 P 16 = 1 ∧ w_a S.t 12 0 47 s = i_ (16 + sp : Nat) ∧ sp < 6100 ∧ w_a S.t 12 0 49 sp = i_ nd ∧ nd < 14000 ∧ w_a S.t 12 0 26 nd = i_ (36 : Nat)) ∨
    (¬ tgs V S s ∧ (w_p S.w 15 A 15 = none ∨ ∃ P : Nat, w_p S.w 15 A 15 = some P ∧ w_l S.w D.1.2.1 15 P ∧ w_i S.w 15 P 16 = 0) ∧ ((∃ z : Int, -2 < z ∧ z < 16 ∧ w_a S.t 12 0 47 s = i_ z) ∨ ∃ sp nd : Nat, w_a S.t 12 0 47 s = i_ (16 + sp : Nat) ∧ sp < 6100 ∧ w_a S.t 12 0 49 sp = i_ nd ∧ nd < 14000 ∧ w_a S.t 12 0 26 nd = i_ (35 : Nat))) := by
  obtain ⟨-, -, c, hc, h46', -, -, hT, -, -⟩ := (hI.2.2.2.1.1 s A hs).2
  have ec : c = 3 := by
    have := (i_eq (by omega) (by omega)).mp (h46'.symm.trans h46)
    omega
  subst ec
  have none_ : ∀ z : Int, -2 < z → z < 16 → w_a S.t 12 0 47 s = i_ z → ¬ tgs V S s := fun z z1 z2 e => by
    rintro ⟨sp, nd, a1, a2, -⟩
    have := (i_eq (by omega) (by omega)).mp (e.symm.trans a1)
    omega
  rcases hT with ⟨-, y, hy, -, e1, e⟩ | ⟨-, -, ⟨e1, e⟩ | hR⟩ | ⟨e, -⟩ | ⟨e, -⟩ | ⟨e, -⟩
  · exact Or.inr ⟨none_ y (by omega) (by omega) e, .inl e1, .inl ⟨y, by omega, by omega, e⟩⟩
  · exact Or.inr ⟨none_ (-1) (by omega) (by omega) e, .inl e1, .inl ⟨-1, by omega, by omega, e⟩⟩
  · obtain ⟨sp, P, g1, g2, g3, g4, g5⟩ := hR
    obtain ⟨nd, b1, b2, b3, b4⟩ := hI.ptc hst g2 g5
    have hl : w_l S.w D.1.2.1 15 P := (hI.2.2.2.1.1 sp P g2).2.1.2
    rcases b3 with ⟨b3, b5⟩ | ⟨b3, b5⟩
    · refine Or.inr ⟨?_, .inr ⟨P, g1, hl, b5⟩, .inr ⟨sp, nd, g3, g4, b1, b2, b4.trans b3⟩⟩
      rintro ⟨sp', nd', a1, a2, a3, a4, a5⟩
      have e1 := (i_eq (by omega) (by omega)).mp (g3.symm.trans a1)
      have e2 : sp' = sp := by omega
      subst e2
      have e3 := (i_eq (by omega) (by omega)).mp (b1.symm.trans a3)
      have e4 : nd' = nd := by omega
      subst e4
      have e5 := (i_eq (by omega) (by omega)).mp (b3.symm.trans a5)
      omega
    · exact Or.inl ⟨⟨sp, nd, g3, g4, b1, b2, b3⟩, P, sp, nd, g1, hl, b5, g3, g4, b1, b2, b4.trans b3⟩
  · omega
  · omega
  · omega
end NTG
