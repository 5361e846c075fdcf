/-! ===== TYPES, part 22: MeetingHouse: an argument ===== -/
section MYG
variable {D : pD} {V : pV} {tn : Nat → Prop} {nu : pNz} {Y : yV} {kr : List Nat} {G : tG} {F : tF} {SM : Nat → sF} {w w' w'' w1 : wS} {l y ty u : Int32} {f n m p o k s L q q2 A : Nat} {v T T' cw : Int} {C : Nat → Prop} {N N' : List Nat} {Q : kx_Rs → wS → Prop} {x a b : nF} {c : Bool} {X : String → wS → Prop} {S : sF} {X0 : Nat → nF}
theorem c_arg (hL : 120 ≤ L) (hC : MYC D V nu Y kr F SM w) (hq0 : nu q ≠ none) (hm : nu m ≠ none) (hl : V.1 q 2 = l) (h : MYR N w T w1) (ha : NRc w1 q a) (hYm : Y.2.1 m = some A) (hA : w_l w1 D.1.2.1 15 A) {va ch nv : Bool} (hch : w_p w1 15 A 0 = some (D.1.1.1 53) ↔ ch = true) (hva : w_i w1 15 A 12 = bI va) (h5 : w_i w1 15 A 5 = S.1) (h9 : w_i w1 15 A 9 = bI S.2.2.2.1) (hnm : (V.2.1 q 0 = some (D.1.1.1 18) ∧ V.1 q 12 = 0 ∧ ∃ A2, Y.2.1 q = some A2 ∧ w_l w1 D.1.2.1 15 A2 ∧ (w_p w1 15 A2 0 = some (D.1.1.1 54) ↔ nv = true)) ∨ (¬ (V.2.1 q 0 = some (D.1.1.1 18) ∧ V.1 q 12 = 0) ∧ nv = false)) (hq : ∀ w', MYR N w (min T (agM (16 * l.toInt) S va ch nv a)) w' → (∀ o k, w_i w' 14 o k = w_i w1 14 o k) → Q (.inl none) w') : zw D.1 L kt_M258 [.ref (w_adr D.1.2.1 6 0), va_rf (some q), va_rf (some m), .int 0] w1 Q := by
  have hC1 := hC.r h
  obtain ⟨a1, a2, a3, a4, a5, a6⟩ := ha
  have ok : agM (16 * l.toInt) S va ch nv a = NOF → Q (.inl none) w1 := fun e => by
    rw [e] at hq
    exact hq _ (h.tr (MYR.rf h.2.1)) (fun _ _ => rfl)
  have bad : agM (16 * l.toInt) S va ch nv a = 16 * l.toInt + 7 → ∃ p1, some q = some p1 ∧ w_l w1 D.1.2.1 14 p1 ∧ zw D.1 (L - 22) kt_M56 [.ref (w_adr D.1.2.1 2 0), .int 7, .int (w_i w1 14 p1 2)] w1 (wk0 (fun w2 => wle w1 w2 → Q (.inl none) w2) (fun e w => Q (.inr e) w)) := fun e => by
    rw [e] at hq
    exact ⟨q, rfl, hC1.al hq0, c_tell (k := 7) (K := fun w2 => Q (.inl none) w2) (.inl rfl) rfl (by omega) hC hq0 hl h (fun h2 => hq _ h2 (fun _ _ => ru_14))⟩
  have st125 : ch = false → ∀ g : Bool, (va || nv) = g → zb_X7_argument_p125 D.1 L Q (some q) (some A) (bI g) w1 := fun hc g hg => by
    have ea : agM (16 * l.toInt) S va ch nv a = if a.1 = 0 ∧ g = true then NOF else if g = true ∧ a.1 = S.1 ∧ a.2.2.2.1 = S.2.2.2.1 then NOF else 16 * l.toInt + 7 := by
      unfold agM
      rw [hc, if_neg Bool.false_ne_true, hg]
    have st140 : ¬ (a.1 = 0 ∧ g = true) → zb_X7_argument_p140 D.1 L Q (some q) (some A) (bI g) w1 := fun hz => by
      rw [if_neg hz] at ea
      unfold zb_X7_argument_p140 zb_X7_argument_p169 zb_X7_argument_p182
      cases g with
      | false =>
        rw [if_pos (show bI false = 0 from rfl)]
        exact bad (by rw [ea, if_neg (fun z => Bool.false_ne_true z.1)])
      | true =>
        rw [if_neg (show ¬ bI true = 0 by decide)]
        refine ⟨q, rfl, hC1.al hq0, A, rfl, hA, ?_⟩
        rw [a1, a4, h5, h9]
        by_cases d1 : a.1 = S.1
        · rw [if_neg (fun z => z d1)]
          by_cases d2 : a.2.2.2.1 = S.2.2.2.1
          · rw [d2, if_pos rfl]
            exact ok (by rw [ea, if_pos ⟨rfl, d1, d2⟩])
          · rw [if_neg (fun z => d2 (by
              cases h1 : a.2.2.2.1 <;> cases h2 : S.2.2.2.1 <;> rw [h1, h2] at z <;> first | rfl | exact absurd z (by decide)))]
            exact bad (by rw [ea, if_neg (fun z => d2 z.2.2)])
        · rw [if_pos d1]
          exact bad (by rw [ea, if_neg (fun z => d1 z.2.1)])
    unfold zb_X7_argument_p125
    refine ⟨q, rfl, hC1.al hq0, ?_⟩
    rw [a1]
    by_cases d : a.1 = 0
    · rw [if_neg (fun z => z d)]
      cases g with
      | false =>
        rw [if_pos (show bI false = 0 from rfl)]
        exact st140 (fun z => Bool.false_ne_true z.2)
      | true =>
        rw [if_neg (show ¬ bI true = 0 by decide)]
        exact ok (by rw [ea, if_pos ⟨d, rfl⟩])
    · rw [if_pos d]
      exact st140 (fun z => d z.1)
  have st28 : ∀ nm : Bool, ((nm = true ∧ ∃ A2, Y.2.1 q = some A2 ∧ w_l w1 D.1.2.1 15 A2 ∧ (w_p w1 15 A2 0 = some (D.1.1.1 54) ↔ nv = true)) ∨ (nm = false ∧ nv = false)) → zb_X7_argument_p28 D.1 L Q (some q) 0 (some A) (bI nm) w1 := fun nm hn => by
    unfold zb_X7_argument_p28 zb_X7_argument_p124 zb_X7_argument_p120 zb_X7_argument_p76 zb_X7_argument_p89
    refine ⟨A, rfl, hA, ?_⟩
    rw [hva]
    cases hcc : ch with
    | true =>
      rw [if_neg (fun z => z (hch.mpr hcc)), if_pos (show (0 : Int32) = 0 from rfl)]
      exact bad (by unfold agM; rw [hcc, if_pos rfl])
    | false =>
      rw [if_pos (fun z => by have := hch.mp z; rw [hcc] at this; exact Bool.false_ne_true this), if_neg (show ¬ ¬ (0 : Int32) = 0 from fun z => z rfl)]
      cases hvv : va with
      | true =>
        rw [if_pos (show ¬ bI true = 0 by decide)]
        exact st125 hcc true (by rw [hvv] <;> rfl)
      | false =>
        rw [if_neg (show ¬ ¬ bI false = 0 from fun z => z rfl)]
        rcases hn with ⟨e, A2, g1, g2, g3⟩ | ⟨e, e2⟩
        · subst e
          rw [if_neg (show ¬ bI true = 0 by decide)]
          refine ⟨q, rfl, hC1.al hq0, A2, (hC1.smb hq0).trans g1, g2, ?_⟩
          cases hnv : nv with
          | true =>
            rw [if_neg (fun z => z (g3.mpr hnv))]
            exact st125 hcc true (by rw [hvv, hnv] <;> rfl)
          | false =>
            rw [if_pos (fun z => by have := g3.mp z; rw [hnv] at this; exact Bool.false_ne_true this)]
            exact st125 hcc false (by rw [hvv, hnv] <;> rfl)
        · subst e
          rw [if_pos (show bI false = 0 from rfl)]
          exact st125 hcc false (by rw [hvv, e2] <;> rfl)
  refine zt_X7_argument_p0 (by omega) ?_
  unfold zb_X7_argument_p0 zb_X7_argument_p27
  refine ⟨m, rfl, hC1.al hm, q, rfl, hC1.al hq0, ?_⟩
  rw [hC1.smb hm, hYm, hC1.pt hq0 (by decide), hC1.br hq0]
  by_cases d1 : V.2.1 q 0 = some (D.1.1.1 18)
  · rw [if_neg (fun z => z d1)]
    by_cases d2 : V.1 q 12 = 0
    · rw [if_neg (fun z => z d2)]
      rcases hnm with ⟨-, -, g⟩ | ⟨g, -⟩
      · exact st28 true (.inl ⟨rfl, g⟩)
      · exact absurd ⟨d1, d2⟩ g
    · rw [if_pos d2]
      rcases hnm with ⟨-, g, -⟩ | ⟨-, g⟩
      · exact absurd g d2
      · exact st28 false (.inr ⟨rfl, g⟩)
  · rw [if_pos d1]
    rcases hnm with ⟨g, -⟩ | ⟨-, g⟩
    · exact absurd g d1
    · exact st28 false (.inr ⟨rfl, g⟩)
end MYG
