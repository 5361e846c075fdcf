/-! ===== ROUNDS, part 57: the start of the round of names ===== -/
def PRC (D : pD) (w : wS) (A nm ty sr : Nat) (bf : Option Nat) : Prop := w_l w D.1.2.1 15 A ∧ (w_i w 15 A 1 = i_ nm ∧ w_p w 15 A 0 = some (D.1.1.1 53) ∧ w_i w 15 A 13 = 0 ∧ w_i w 15 A 5 = i_ ty ∧ w_p w 15 A 15 = none) ∧ (w_i w 15 A 9 = 0 ∧ w_i w 15 A 11 = 0 ∧ w_i w 15 A 14 = 0) ∧ w_i w 15 A 3 = i_ sr ∧ w_p w 15 A 4 = bf
def PRT (t : wS) (s y l : Nat) (v : Int32) : Prop := (w_a t 12 0 45 s = v ∧ w_a t 12 0 46 s = i_ (3 : Nat) ∧ w_a t 12 0 47 s = i_ y ∧ w_a t 12 0 48 s = i_ (-1) ∧ w_a t 12 0 49 s = i_ (-1)) ∧ w_a t 12 0 51 s = i_ (0 : Nat) ∧ w_a t 12 0 52 s = i_ l ∧ w_a t 12 0 53 s = 0 ∧ w_a t 12 0 54 s = i_ (-1)
def ys0 (A1 A2 : Nat) : Nat → Option Nat := fun s => if s = 0 then some A1 else if s = 1 then some A2 else none
def nS0 (w t : wS) (al : List Nat) (A1 A2 : Nat) : nS := (w, t, (al, 2), (ys0 A1 A2, 2), ([1, 0], [1, 0]), (0, 1, []), ([], fun _ _ => False, fun _ => False))
section INI
variable {D : pD} {V : pV} {nu : pN} {tn : Nat → Prop} {rt p q n nr r d j k k0 f s u y l A A1 A2 nm ty sr lm : Nat} {w w1 w2 w5 t t5 : wS} {al : List Nat} {v v1 v2 bf : Option Nat} {x1 x2 x3 x4 x5 x6 y1 y2 : Int32} {L L' : Nat} {E E' : zE} {ol : Option Int32} {Q : kx_Rs → wS → Prop} {ys : Nat → Option Nat}
theorem t_symbol0 (hT : TLN t) (h44 : w_i t 12 0 44 = i_ s) (h62 : w_i t 12 0 62 = i_ u) (hsn : s < 6050) (hu : u < 6100) (hL : 60 ≤ L') (hq : Q (.inl (some (.int (i_ s)))) (tsy t s u x1 x2 x3 x4 x5 x6)) : zw E' L' kt_M550 [.ref (w_adr E'.2.1 12 0), .int x1, .int x2, .int x3, .int x4, .int x5, .int x6] t Q := by
  have hv : vp_nar .boolean 0 = 0 := rfl
  have i1 : ∀ k, tl61 k = true → kx_inb (i_ s) (w_n t 12 0 k) = true := fun k hk => hT.sy hk (by omega)
  have h120 : ∀ (t1 : wS) (y0 : Int32), w_i t1 12 0 62 = i_ u → (∀ k, w_n t1 12 0 k = w_n t 12 0 k) → (y0 = 0 ∨ y0 = 1) → Q (.inl (some (.int (i_ s)))) (ts2 t1 s u (if y0 = 0 then 0 else if x4 = -1 then 1 else 2)) → zb_X13_symbol_p120 E' L' Q x4 (i_ s) y0 t1 := by
    intro t1 y0 g1 g2 g3 g4
    simp only [zb_X13_symbol_p120, zb_X13_symbol_p152, g1, g2, hv, i_nat' (show u < 2147483648 by omega), i_nat' (show s < 2147483648 by omega)]
    have iu : kx_inb (i_ u) (w_n t 12 0 61) = true := hT.sy rfl hu
    refine ⟨iu, ?_⟩
    rcases g3 with e | e <;> subst e
    · rw [if_neg (by decide)]
      rw [if_pos rfl] at g4
      exact ⟨iu, i1 _ rfl, i1 _ rfl, i1 _ rfl, i1 _ rfl, i1 _ rfl, i1 _ rfl, g4⟩
    · rw [if_pos (by decide)]
      rw [if_neg (by decide)] at g4
      by_cases e4 : x4 = -1
      · rw [if_neg (not_not_intro e4)]
        rw [if_pos e4] at g4
        exact ⟨iu, i1 _ rfl, i1 _ rfl, i1 _ rfl, i1 _ rfl, i1 _ rfl, i1 _ rfl, g4⟩
      · rw [if_pos e4]
        rw [if_neg e4] at g4
        exact ⟨iu, i1 _ rfl, i1 _ rfl, i1 _ rfl, i1 _ rfl, i1 _ rfl, i1 _ rfl, g4⟩
  have key : ∀ y0 : Int32, (y0 = 0 ∨ y0 = 1) → (if y0 = 0 then (0 : Int32) else if x4 = -1 then 1 else 2) = lz x2 x4 → zb_X13_symbol_p120 E' L' Q x4 (i_ s) y0 (ts1 t s u x1 x2 x3 x4 x5 x6) := by
    intro y0 h0 h1
    refine h120 _ y0 ?_ (fun _ => rfl) h0 ?_
    · unfold ts1
      simp only [Ria]
      rw [Rii, if_neg (by decide)]
      exact h62
    · rw [h1]
      exact hq
  refine zt_X13_symbol_p0 (by omega) ?_
  simp only [zb_X13_symbol_p0, zb_X13_symbol_p115, h44, h62, i_nat' (show s < 2147483648 by omega), i_nat' (show u < 2147483648 by omega)]
  refine ⟨i1 _ rfl, i1 _ rfl, i1 _ rfl, i1 _ rfl, i1 _ rfl, i1 _ rfl, i1 _ rfl, hT.sy rfl hu, i1 _ rfl, ?_⟩
  unfold lz at key
  by_cases c1 : x2 = 1
  · rw [if_pos c1]
    exact key 1 (.inr rfl) (by simp [c1])
  rw [if_neg c1]
  by_cases c2 : x2 = 2
  · rw [if_pos c2]
    exact key 1 (.inr rfl) (by simp [c2])
  rw [if_neg c2]
  by_cases c3 : x2 = 3
  · rw [if_pos c3]
    exact key 1 (.inr rfl) (by simp [c3])
  rw [if_neg c3]
  by_cases c9 : x2 = 9
  · rw [if_neg (not_not_intro c9)]
    exact key 1 (.inr rfl) (by simp [c9])
  rw [if_pos c9]
  exact key 0 (.inl rfl) (by simp [c1, c2, c3, c9])
theorem PRC.rs1 (h : PRC D w A nm (y + 1) sr bf) (ht : PRT t s y l x1) (hn : nmS D (i_ nm) x1) (hy : y < 3) (hs : s < 2) : RS1 D V nu w t ys s A := by
  obtain ⟨h0, ⟨h1, h2, h3, h4, h5⟩, ⟨h6, h7, h8⟩, -, -⟩ := h
  obtain ⟨⟨g1, g2, g3, g4, g5⟩, -, -, g6, g7⟩ := ht
  exact ⟨⟨by omega, h0⟩, by rw [h1, g1]; exact hn, 3, by decide, g2, h2, h3, .inl ⟨by decide, y, hy, h4, h5, g3⟩, .inl ⟨by decide, false, h6, g4, fun _ => rfl⟩, .inl ⟨rfl, hs, g5, h7, h8, g6, g7⟩⟩
theorem PRT.lk1 (h : PRT t s y l x1) : lyk t s = 1 := by
  obtain ⟨⟨-, g2, -, g4, -⟩, -⟩ := h
  unfold lyk
  rw [if_pos (.inr (.inr (.inl g2))), if_pos (g4.trans i_m1.symm)]
theorem IVN.ini (hT : TRCn D V nu w ∧ TRTn V tn t) (hS : SSO D.1 w al 2) (hA : A1 ∈ al.take 2 ∧ A2 ∈ al.take 2 ∧ A1 ≠ A2) (h1 : PRC D w A1 36 2 0 none) (h2 : PRC D w A2 37 1 1 (some A1)) (h5 : w_p w 5 0 3 = some A2 ∧ w_i w 5 0 4 = i_ (2 : Nat)) (g1 : PRT t 0 1 0 y1) (g2 : PRT t 1 0 1 y2) (hn : nmS D (i_ (36 : Nat)) y1 ∧ nmS D (i_ (37 : Nat)) y2) (ti : w_i t 12 0 44 = i_ (2 : Nat) ∧ w_i t 12 0 59 = i_ (1 : Nat) ∧ w_i t 12 0 62 = i_ (0 : Nat) ∧ w_i t 12 0 56 = i_ (2 : Nat)) (t57 : w_a t 12 0 57 0 = i_ (0 : Nat) ∧ w_a t 12 0 57 1 = i_ (1 : Nat)) (t60 : w_a t 12 0 60 0 = -1 ∧ w_a t 12 0 61 0 = i_ (2 : Nat)) (hf : fkk (w_i w 2 0 1) ∧ fkk (w_i t 12 0 64)) : IVN D V nu tn rt (nS0 w t al A1 A2) := by
  have hc : ∀ s A, ys0 A1 A2 s = some A → (s = 0 ∧ A = A1) ∨ (s = 1 ∧ A = A2) := fun s A h => by
    unfold ys0 at h
    by_cases e : s = 0
    · rw [if_pos e] at h
      cases h
      exact .inl ⟨e, rfl⟩
    · rw [if_neg e] at h
      by_cases e1 : s = 1
      · rw [if_pos e1] at h
        cases h
        exact .inr ⟨e1, rfl⟩
      · rw [if_neg e1] at h
        cases h
  have y0 : ys0 A1 A2 0 = some A1 := rfl
  have y1' : ys0 A1 A2 1 = some A2 := rfl
  have s1 : ser w A1 = 0 := by
    unfold ser
    rw [h1.2.2.2.1]
    rfl
  have s2 : ser w A2 = 1 := by
    unfold ser
    rw [h2.2.2.2.1]
    rfl
  refine ⟨hT, ⟨hS, (by show (2 : Nat) ≤ 2 + 2 * 0; decide)⟩, ⟨⟨ti.1, (by show (2 : Nat) ≤ 2 + 0; decide)⟩, ⟨ti.2.1, (by show (1 : Nat) ≤ 1 + 0; decide)⟩, ti.2.2.1, Nat.zero_lt_one⟩, ⟨fun s A h => ?_, fun s s' A h h' => ?_, ⟨2, h5.2, Nat.le_refl _, fun s A h _ => ?_, fun q hq => absurd hq List.not_mem_nil⟩, fun s A s' A' h h' _ _ hss => ?_, fun q hq => absurd hq List.not_mem_nil⟩, ⟨⟨t60.1, fun x h h' => ?_⟩, fun x hx => ?_, fun s hs => ?_, fun s s' hss hs' _ l l' hl hl' e e' => ?_⟩, ⟨⟨?_, fun s hs => ?_⟩, ti.2.2.2, ?_, Nat.le_refl _, fun s hs => ?_⟩, hf, ⟨⟨List.nodup_nil, fun a ha => absurd ha List.not_mem_nil⟩, fun _ _ h => h.elim, fun q hq => absurd hq List.not_mem_nil, fun _ h => h.elim⟩⟩
  · rcases hc s A h with ⟨e1, e2⟩ | ⟨e1, e2⟩
    · subst e1 e2
      exact ⟨⟨Nat.zero_lt_succ _, hA.1⟩, h1.rs1 g1 hn.1 (by decide) (by decide)⟩
    · subst e1 e2
      exact ⟨⟨Nat.lt_succ_self _, hA.2.1⟩, h2.rs1 g2 hn.2 (by decide) (by decide)⟩
  · rcases hc s A h with ⟨e1, e2⟩ | ⟨e1, e2⟩ <;> rcases hc s' A h' with ⟨e3, e4⟩ | ⟨e3, e4⟩
    · omega
    · exact absurd (e2.symm.trans e4) hA.2.2
    · exact absurd (e4.symm.trans e2) hA.2.2
    · omega
  · show 0 ≤ ser w A ∧ ser w A < ((2 : Nat) : Int)
    rcases hc s A h with ⟨e1, e2⟩ | ⟨e1, e2⟩
    · rw [e2, s1]
      omega
    · rw [e2, s2]
      omega
  · show ser w A < ser w A'
    rcases hc s A h with ⟨e1, e2⟩ | ⟨e1, e2⟩ <;> rcases hc s' A' h' with ⟨e3, e4⟩ | ⟨e3, e4⟩
    · omega
    · rw [e2, e4, s1, s2]
      omega
    · omega
    · omega
  · have h' : x < 1 := h'
    omega
  · have hx : x < 1 := hx
    have e : x = 0 := by omega
    subst e
    refine ⟨2, (by show (2 : Nat) ≤ 2 * 2; decide), t60.2, fun s hs _ => ?_⟩
    have hs : s < 2 := hs
    have e : s = 0 ∨ s = 1 := by omega
    rcases e with e | e <;> subst e
    · exact ⟨0, g1.2.2.1, by show 0 + lyk t 0 ≤ 2; rw [g1.lk1]; decide⟩
    · exact ⟨1, g2.2.2.1, by show 1 + lyk t 1 ≤ 2; rw [g2.lk1]; decide⟩
  · have hs : s < 2 := hs
    have e : s = 0 ∨ s = 1 := by omega
    rcases e with e | e <;> subst e
    · exact ⟨0, Nat.zero_lt_one, g1.2.1⟩
    · exact ⟨0, Nat.zero_lt_one, g2.2.1⟩
  · have hs' : s' < 2 := hs'
    have e1 : s = 0 := by omega
    have e2 : s' = 1 := by omega
    subst e1 e2
    show l + lyk t 0 ≤ l'
    rw [g1.lk1]
    have a1 := (i_eq (by omega) (by omega)).mp (g1.2.2.1.symm.trans e)
    have a2 := (i_eq (by omega) (by omega)).mp (g2.2.2.1.symm.trans e')
    omega
  · exact ⟨h5.1, A2, rfl, h2.2.2.2.2, A1, rfl, h1.2.2.2.2⟩
  · show ys0 A1 A2 s ≠ none
    rcases List.mem_cons.mp hs with e | e
    · rw [e, y1']
      simp
    · rw [List.mem_singleton.mp e, y0]
      simp
  · exact ⟨t57.2, t57.1, trivial⟩
  · rcases List.mem_cons.mp hs with e | e
    · subst e
      exact ⟨Nat.lt_succ_self _, by show ys0 A1 A2 1 ≠ none; rw [y1']; simp, 0, 0, g2.2.1, rfl⟩
    · rw [List.mem_singleton.mp e]
      exact ⟨Nat.zero_lt_succ _, by show ys0 A1 A2 0 ≠ none; rw [y0]; simp, 0, 0, g1.2.1, rfl⟩
end INI
