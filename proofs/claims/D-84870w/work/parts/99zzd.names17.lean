/-! ===== ROUNDS, part 19: a scope ends ===== -/
def nS.rs (S : nS) (w' t' : wS) (kr : List Nat) : nS := (w', t', S.2.2.1, S.2.2.2.1, (kr, kr), S.2.2.2.2.2)
section SCP
variable {D : pD} {V : pV} {nu : pN} {tn : Nat → Prop} {rt p q n r d j k s u A cr : Nat} {J : List Nat} {S S0 : nS} {w w' t t' : wS} {v x x' : Option Nat} {T T' : Int} {kr ks : List Nat} {ys ys' : Nat → Option Nat}
theorem CHN.app : ∀ {ks : List Nat} {x : Option Nat}, CHN w ys (ks ++ kr) x → ∃ x', CHN w ys kr x'
  | [], x, h => ⟨x, h⟩
  | s :: ks, x, h => by
    obtain ⟨-, A, -, h3⟩ := h
    exact CHN.app h3
theorem CHN.hd (h : CHN w ys kr x) (h' : CHN w' ys' kr x') (hy : ∀ s ∈ kr, ys s = ys' s) : x = x' := by
  cases kr with
  | nil => exact h.trans h'.symm
  | cons s kr => exact h.1.trans ((hy s List.mem_cons_self).trans h'.1.symm)
theorem KNr.app : ∀ {ks : List Nat}, KNr t (ks ++ kr) → KNr t kr
  | [], h => h
  | s :: ks, h => KNr.app h.2
/-- MeetingHouse's and the twin's known names are as they were -/
theorem HM.rs (h : HM D V nu tn rt p J cr S0 S T T') (hk : KRE S (ks ++ kr)) (hx : CHN w' ys' kr x) (hy : ∀ s ∈ kr, ys' s = S.ys s) : HM D V nu tn rt p J cr S0 (S.rs (ws_p S.w 5 0 3 x) (ws_i S.t 12 0 56 (i_ kr.length)) kr) T T' ∧ NX nu S (S.rs (ws_p S.w 5 0 3 x) (ws_i S.t 12 0 56 (i_ kr.length)) kr) := by
  obtain ⟨⟨⟨a1, a2⟩, ⟨a3, a4⟩, ⟨⟨b1, b2⟩, ⟨b3, b4⟩, b5, b6⟩, ⟨c1, c2, c3⟩, d1, ⟨⟨e1, e2⟩, e3, e4, e5, e6⟩, ⟨f1, f2⟩, g1⟩, ⟨⟨i1, i2⟩, i3, i4, i5, i6, i7, i8, i9⟩, j1, k1, l1, l2, l3⟩ := h
  rw [hk.1] at e1 e2
  rw [hk.2] at e4 e5 e6
  have hx5 : ∀ a k', w_p (ws_p S.w 5 0 3 x) 15 a k' = w_p S.w 15 a k' := fun a k' => by rw [Rpp, if_neg (fun z => absurd z.2.1 (by decide))]
  have h14 : ∀ a k', w_p (ws_p S.w 5 0 3 x) 14 a k' = w_p S.w 14 a k' := fun a k' => by rw [Rpp, if_neg (fun z => absurd z.2.1 (by decide))]
  have hi : ∀ k', k' ≠ 56 → w_i (ws_i S.t 12 0 56 (i_ kr.length)) 12 0 k' = w_i S.t 12 0 k' := fun k' hk' => by rw [Rii, if_neg (fun z => hk' z.1)]
  have hmem : ∀ s ∈ kr, s ∈ ks ++ kr := fun s hs => List.mem_append_right _ hs
  have hlen : kr.length ≤ (ks ++ kr).length := by rw [List.length_append]; omega
  obtain ⟨x2, hc2⟩ := e1.app
  have hxx : x2 = x := hc2.hd hx (fun s hs => (hy s hs).symm)
  subst hxx
  have hI : IVN D V nu tn rt (S.rs (ws_p S.w 5 0 3 x2) (ws_i S.t 12 0 56 (i_ kr.length)) kr) := by
    refine ⟨⟨a1.o rfl (fun _ _ => rfl) (fun a k _ => h14 a k), a2⟩, ⟨a3.p, a4⟩, ⟨⟨(hi 44 (by decide)).trans b1, b2⟩, ⟨(hi 59 (by decide)).trans b3, b4⟩, (hi 62 (by decide)).trans b5, b6⟩, ⟨fun s A hs => ⟨(c1 s A hs).1, (c1 s A hs).2.cg (fun _ => rfl) (fun k _ => hx5 A k) (fun _ _ => rfl) (fun _ _ _ => rfl) (fun _ _ h => h) (c1 s A hs).2.1.2⟩, c2, c3.cg (fun _ _ _ => rfl) rfl (fun _ _ _ => rfl)⟩, d1, ⟨⟨?_, fun s hs => e2 s (hmem s hs)⟩, ?_, KNr.cg (t := S.t) (t' := ws_i S.t 12 0 56 (i_ kr.length)) rfl e4.app, ?_, fun s hs => ?_⟩, ⟨f1, ?_⟩, g1⟩
    · show CHN (ws_p S.w 5 0 3 x2) S.ys kr (w_p (ws_p S.w 5 0 3 x2) 5 0 3)
      rw [Rpp, if_pos ⟨rfl, rfl, rfl⟩]
      exact hc2.cg (fun s A _ => hx5 A 4)
    · show w_i (ws_i S.t 12 0 56 (i_ kr.length)) 12 0 56 = i_ kr.length
      rw [Rii, if_pos ⟨rfl, rfl, rfl⟩]
    · show kr.length ≤ S.sn
      omega
    · obtain ⟨q1, q2, x, k', q3, q4⟩ := e6 s (hmem s hs)
      exact ⟨q1, q2, x, k', q3, uch.cg (t := S.t) (t' := ws_i S.t 12 0 56 (i_ kr.length)) rfl q4⟩
    · show fkk (w_i (ws_i S.t 12 0 56 (i_ kr.length)) 12 0 64)
      rw [hi 64 (by decide)]
      exact f2
  have hsm : ∀ b, SMN nu S (S.rs (ws_p S.w 5 0 3 x2) (ws_i S.t 12 0 56 (i_ kr.length)) kr) b := fun b => ⟨⟨h14 b 16, rfl⟩, fun _ _ _ _ _ _ => rfl⟩
  have hSM : SMS S (S.rs (ws_p S.w 5 0 3 x2) (ws_i S.t 12 0 56 (i_ kr.length)) kr) := ⟨fun s A hs => ⟨hs, fun k => ⟨rfl, fun _ => hx5 A k⟩⟩, fun _ _ _ _ => rfl, Nat.le_refl _, fun _ h => .inl h, ⟨Nat.le_refl _, fun _ _ => ⟨rfl, fun _ => rfl⟩⟩, fun _ h => h⟩
  refine ⟨⟨hI, ⟨⟨i1.tr (FN_p rfl), i2.tr (frm_i (by decide))⟩, i3.tr hSM i9, fun b hb => ⟨(i4 b hb).1.tr (hsm b), (i4 b hb).2⟩, i5, i6, i7, i8, i9⟩, j1, k1, l1, l2, ?_⟩, ⟨hSM, fun b hb => ⟨hb, hsm b⟩, fun _ _ h => h⟩⟩
  show fct (ws_i S.t 12 0 56 (i_ kr.length)) = _
  have : fct (ws_i S.t 12 0 56 (i_ kr.length)) = fct S.t := by
    unfold fct
    rw [hi 64 (by decide), hi 65 (by decide)]
  rw [this]
  exact l3
end SCP
