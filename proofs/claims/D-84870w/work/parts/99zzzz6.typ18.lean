/-! ===== TYPES, part 18: MeetingHouse: an index ===== -/
section MYI
variable {D : pD} {V : pV} {tn : Nat → Prop} {nu : pNz} {Y : yV} {kr : List Nat} {G : tG} {F : tF} {SM : Nat → sF} {w w' w'' w1 : wS} {l y ty u : Int32} {f n m p o k s L q q2 A : Nat} {v T T' cw : Int} {C : Nat → Prop} {N N' : List Nat} {Q : kx_Rs → wS → Prop} {x a b : nF} {c : Bool} {X : String → wS → Prop} {S : sF}
theorem c_index (hL : 120 ≤ L) (hC : MYC D V nu Y kr F SM w) (hp : nu p ≠ none) (hq0 : nu q ≠ none) (hN : p ∈ N) (hl : V.1 p 2 = l) (h3 : V.2.1 p 3 = some q) (hs : s ∈ kr) (hA : Y.2.2.1 s = some A) (h : MYR N w T w1) (hx : NRc w1 p ((SM s).1, -1, x.2.2.1, false, x.2.2.2.2.1, x.2.2.2.2.2)) (ha : NRc w1 q a) (hq : ∀ w', MYR N w (min T (ixM (16 * l.toInt) (SM s) x a).2) w' → NRc w' p (ixM (16 * l.toInt) (SM s) x a).1 → Q (.inl none) w') : zw D.1 L kt_M270 [.ref (w_adr D.1.2.1 6 0), va_rf (some p), va_rf (some A)] w1 Q := by
  have hC1 := hC.r h
  obtain ⟨g1, ⟨g2, g3, g4, g5, g6⟩, -⟩ := hC1.1.2.2 s hs A hA
  obtain ⟨a1, a2, a3, a4, a5, a6⟩ := ha
  have p3 : w_p w1 14 p 3 = some q := (hC1.pt hp (by decide)).trans h3
  refine zt_X7_index_p0 (by omega) ?_
  unfold zb_X7_index_p0 zb_X7_index_p34 zb_X7_index_p38 zb_X7_index_p39 zb_X7_index_p99 zb_X7_index_p122
  refine ⟨p, rfl, hC1.al hp, A, rfl, g1, ?_⟩
  rw [g5, p3]
  have wr : ((SM s).2.2.2.1 = false ∨ (a.1 ≠ 0 ∧ (a.1 ≠ 1 ∨ a.2.2.2.1 = true))) → zw D.1 (L - 21) kt_M290 [.ref (w_adr D.1.2.1 6 0), va_rf (some p)] w1 (wk0 (fun w3 => wle w1 w3 → ∃ p5, some p = some p5 ∧ w_l w3 D.1.2.1 14 p5 ∧ Q (.inl none) (ws_i w3 14 p5 11 1)) (fun e w => Q (.inr e) w)) := fun hz => by
    unfold ixM at hq
    rw [if_pos hz] at hq
    exact c_wrong (by omega) hC hp hN hl h hx (fun w3 k1 k2 => fun _ => ⟨p, rfl, (hC.r k1).al hp, hq _ (k1.i hN rfl) (k2.s11 (c := true))⟩)
  have ok : ¬ ((SM s).2.2.2.1 = false ∨ (a.1 ≠ 0 ∧ (a.1 ≠ 1 ∨ a.2.2.2.1 = true))) → ¬ (a.2.2.2.2.1 = true ∧ a.2.2.2.2.2 = false ∧ (a.2.2.1 < 0 ∨ ((SM s).2.1 ≠ -1 ∧ ¬ a.2.2.1 < (SM s).2.1))) → Q (.inl none) w1 := fun hz hy => by
    unfold ixM at hq
    rw [if_neg hz, if_neg hy] at hq
    exact hq _ (h.tr (MYR.rf h.2.1)) hx
  have fa : ¬ ((SM s).2.2.2.1 = false ∨ (a.1 ≠ 0 ∧ (a.1 ≠ 1 ∨ a.2.2.2.1 = true))) → (a.2.2.2.2.1 = true ∧ a.2.2.2.2.2 = false ∧ (a.2.2.1 < 0 ∨ ((SM s).2.1 ≠ -1 ∧ ¬ a.2.2.1 < (SM s).2.1))) → ∃ p1, some p = some p1 ∧ w_l w1 D.1.2.1 14 p1 ∧ zw D.1 (L - 22) kt_M56 [.ref (w_adr D.1.2.1 2 0), .int 9, .int (w_i w1 14 p1 2)] w1 (wk0 (fun w2 => wle w1 w2 → Q (.inl none) (ws_i (ws_i w2 14 p1 17 0) 14 p1 11 1)) (fun e w => Q (.inr e) w)) := fun hz hy => by
    unfold ixM at hq
    rw [if_neg hz, if_pos hy] at hq
    exact ⟨p, rfl, hC1.al hp, c_tell (k := 9) (K := fun w2 => Q (.inl none) (ws_i (ws_i w2 14 p 17 0) 14 p 11 1)) (.inr (.inr rfl)) rfl (by omega) hC hp hl h (fun h2 => hq _ ((h2.i hN rfl).i hN rfl) ((hx.ru.s17 (y := 0)).s11 (c := true)))⟩
  have in0 : ¬ ((SM s).2.2.2.1 = false ∨ (a.1 ≠ 0 ∧ (a.1 ≠ 1 ∨ a.2.2.2.1 = true))) → ∃ p1, some q = some p1 ∧ w_l w1 D.1.2.1 14 p1 ∧ (if w_i w1 14 p1 21 = 0 then Q (.inl none) w1 else (if ¬ w_i w1 14 p1 11 = 0 then Q (.inl none) w1 else (if w_i w1 14 p1 19 < 0 then (∃ p1, some p = some p1 ∧ w_l w1 D.1.2.1 14 p1 ∧ zw D.1 (L - 22) kt_M56 [.ref (w_adr D.1.2.1 2 0), .int 9, .int (w_i w1 14 p1 2)] w1 (wk0 (fun w2 => wle w1 w2 → Q (.inl none) (ws_i (ws_i w2 14 p1 17 0) 14 p1 11 1)) (fun e w => Q (.inr e) w))) else (∃ p2, some A = some p2 ∧ w_l w1 D.1.2.1 15 p2 ∧ (if w_i w1 15 p2 6 = (-1) then Q (.inl none) w1 else (if w_i w1 14 p1 19 < w_i w1 15 p2 6 then Q (.inl none) w1 else (∃ p1, some p = some p1 ∧ w_l w1 D.1.2.1 14 p1 ∧ zw D.1 (L - 22) kt_M56 [.ref (w_adr D.1.2.1 2 0), .int 9, .int (w_i w1 14 p1 2)] w1 (wk0 (fun w2 => wle w1 w2 → Q (.inl none) (ws_i (ws_i w2 14 p1 17 0) 14 p1 11 1)) (fun e w => Q (.inr e) w)))))))) ) := fun hz => by
    refine ⟨q, rfl, hC1.al hq0, ?_⟩
    rw [a3, a5, a6]
    cases hcs : a.2.2.2.2.1 with
    | false =>
      rw [if_pos (show bI false = 0 from rfl)]
      exact ok hz (fun z => by rw [hcs] at z; exact Bool.false_ne_true z.1)
    | true =>
      rw [if_neg (show ¬ bI true = 0 by decide)]
      cases hfl : a.2.2.2.2.2 with
      | true =>
        rw [if_pos (show ¬ bI true = 0 by decide)]
        exact ok hz (fun z => by rw [hfl] at z; exact Bool.false_ne_true z.2.1.symm)
      | false =>
        rw [if_neg (show ¬ ¬ bI false = 0 from fun z => z rfl)]
        by_cases d1 : a.2.2.1 < 0
        · rw [if_pos d1]
          exact fa hz ⟨hcs, hfl, .inl d1⟩
        · rw [if_neg d1]
          refine ⟨A, rfl, g1, ?_⟩
          rw [g3]
          by_cases d2 : (SM s).2.1 = -1
          · rw [if_pos d2]
            exact ok hz (fun z => z.2.2.elim d1 (fun z => z.1 d2))
          · rw [if_neg d2]
            by_cases d3 : a.2.2.1 < (SM s).2.1
            · rw [if_pos d3]
              exact ok hz (fun z => z.2.2.elim d1 (fun z => z.2 d3))
            · rw [if_neg d3]
              exact fa hz ⟨hcs, hfl, .inr ⟨d2, d3⟩⟩
  have e10 : ¬ (1 : Int32) = 0 := by decide
  cases har : (SM s).2.2.2.1 with
  | false =>
    rw [if_pos (show bI false = 0 from rfl), if_neg e10]
    exact wr (.inl har)
  | true =>
    rw [if_neg (show ¬ bI true = 0 by decide)]
    refine ⟨q, rfl, hC1.al hq0, ?_⟩
    rw [a1, a4]
    have ns : ¬ (SM s).2.2.2.1 = false := fun z => by rw [har] at z; exact Bool.false_ne_true z.symm
    by_cases d1 : a.1 = 0
    · rw [if_pos d1, if_pos (show (0 : Int32) = 0 from rfl)]
      exact in0 (fun z => z.elim ns (fun z => z.1 d1))
    · rw [if_neg d1]
      by_cases d2 : a.1 = 1
      · rw [if_neg (fun z => z d2)]
        cases hr : a.2.2.2.1 with
        | false =>
          rw [if_pos (show bI false = 0 from rfl), if_pos (show (0 : Int32) = 0 from rfl)]
          exact in0 (fun z => z.elim ns (fun z => z.2.elim (fun z => z d2) (fun z => by rw [hr] at z; exact Bool.false_ne_true z)))
        | true =>
          rw [if_neg (show ¬ bI true = 0 by decide), if_neg e10]
          exact wr (.inr ⟨d1, .inr hr⟩)
      · rw [if_pos d2, if_neg e10]
        exact wr (.inr ⟨d1, .inl d2⟩)
end MYI
