/-! ===== TYPES, part 16: MeetingHouse: two sides, all together ===== -/
section MYX
variable {D : pD} {V : pV} {tn : Nat → Prop} {nu : pNz} {Y : yV} {kr : List Nat} {G : tG} {F : tF} {SM : Nat → sF} {w w' w'' w1 : wS} {l y ty u : Int32} {f n m p o k s L q q2 : Nat} {v T T' cw : Int} {C : Nat → Prop} {N N' : List Nat} {Q : kx_Rs → wS → Prop} {x a b : nF} {c : Bool} {X : String → wS → Prop}
theorem c_t87 {E : zE} {pp q1 qq : Option Nat} {cx : Int32} {eq or g0 : Bool} (hl1 : w_l w1 E.2.1 14 q) (hl2 : w_l w1 E.2.1 14 q2) (h1 : q1 = some q) (h2 : qq = some q2) (ha : NRc w1 q a) (hbb : NRc w1 q2 b) (heq : (v = 51 ∨ v = 52) ↔ eq = true) (hor : (53 ≤ v ∧ v ≤ 56) ↔ or = true) (hg : (a.2.2.2.1 = true ∨ b.2.2.2.1 = true) ↔ g0 = true) (fin : ∀ g : Bool, (bdM v a b ↔ g = true) → zb_X7_two_p202 E L Q pp q1 qq cx (bI eq) (bI or) (bI g) w1) : zb_X7_two_p87 E L Q pp q1 qq cx (bI eq) (bI or) (bI g0) w1 := by
  have a1 := ha.1
  have b1 := hbb.1
  have z1 : ¬ (0 : Int32) = 3 := by decide
  have cmp : (51 ≤ v ∧ v ≤ 56) → zb_X7_two_p99 E L Q pp q1 qq cx (bI eq) (bI or) (bI g0) w1 := fun hv => by
    have bd : bdM v a b ↔ (a.2.2.2.1 = true ∨ b.2.2.2.1 = true) ∨ ((a.1 ≠ 0 ∧ b.1 ≠ 0 ∧ a.1 ≠ b.1) ∨ (53 ≤ v ∧ (a.1 = 3 ∨ b.1 = 3))) := by
      unfold bdM
      rw [if_pos hv]
    unfold zb_X7_two_p99 zb_X7_two_p150 zb_X7_two_p155
    cases g0 with
    | true =>
      rw [if_pos (show ¬ bI true = 0 by decide)]
      exact fin true ⟨fun _ => rfl, fun _ => .inl (hg.mpr rfl)⟩
    | false =>
      rw [if_neg (show ¬ ¬ bI false = 0 from fun z => z rfl)]
      have nar : ¬ (a.2.2.2.1 = true ∨ b.2.2.2.1 = true) := fun z => Bool.false_ne_true (hg.mp z)
      have st : ¬ (a.1 ≠ 0 ∧ b.1 ≠ 0 ∧ a.1 ≠ b.1) → zb_X7_two_p129 E L Q pp q1 qq cx (bI eq) (bI or) w1 := fun hz => by
        unfold zb_X7_two_p129 zb_X7_two_p150 zb_X7_two_p154 zb_X7_two_p155
        cases or with
        | false =>
          rw [if_pos (show bI false = 0 from rfl)]
          exact fin false ⟨fun z => ((bd.mp z).elim (fun z => absurd z nar) (fun z => z.elim (fun z => absurd z hz) (fun z => by have := hor.mp ⟨z.1, hv.2⟩; exact this))), fun z => absurd z Bool.false_ne_true⟩
        | true =>
          rw [if_neg (show ¬ bI true = 0 by decide)]
          have h53 := (hor.mpr rfl).1
          refine ⟨q, h1, hl1, ?_⟩
          rw [a1]
          by_cases d1 : a.1 = 3
          · rw [if_pos d1]
            exact fin true ⟨fun _ => rfl, fun _ => bd.mpr (.inr (.inr ⟨h53, .inl d1⟩))⟩
          · rw [if_neg d1]
            refine ⟨q2, h2, hl2, ?_⟩
            rw [b1]
            by_cases d2 : b.1 = 3
            · rw [if_neg (fun z => z d2)]
              exact fin true ⟨fun _ => rfl, fun _ => bd.mpr (.inr (.inr ⟨h53, .inr d2⟩))⟩
            · rw [if_pos d2]
              exact fin false ⟨fun z => ((bd.mp z).elim (fun z => absurd z nar) (fun z => z.elim (fun z => absurd z hz) (fun z => z.2.elim (fun z => absurd z d1) (fun z => absurd z d2)))), fun z => absurd z Bool.false_ne_true⟩
      refine ⟨q, h1, hl1, ?_⟩
      rw [a1]
      by_cases d1 : a.1 = 0
      · rw [if_pos d1]
        exact st (fun z => z.1 d1)
      · rw [if_neg d1]
        refine ⟨q2, h2, hl2, ?_⟩
        rw [b1]
        by_cases d2 : b.1 = 0
        · rw [if_pos d2]
          exact st (fun z => z.2.1 d2)
        · rw [if_neg d2]
          by_cases d3 : a.1 = b.1
          · rw [if_neg (fun z => z d3)]
            exact st (fun z => z.2.2 d3)
          · rw [if_pos d3]
            exact fin true ⟨fun _ => rfl, fun _ => bd.mpr (.inr (.inl ⟨d1, d2, d3⟩))⟩
  unfold zb_X7_two_p87
  cases eq with
  | true =>
    rw [if_pos (show ¬ bI true = 0 by decide)]
    exact cmp (by have := heq.mpr rfl; omega)
  | false =>
    rw [if_neg (show ¬ ¬ bI false = 0 from fun z => z rfl)]
    cases or with
    | true =>
      rw [if_neg (show ¬ bI true = 0 by decide)]
      exact cmp (by have := hor.mpr rfl; omega)
    | false =>
      rw [if_pos (show bI false = 0 from rfl)]
      have n1 : ¬ (51 ≤ v ∧ v ≤ 56) := fun z => by
        by_cases d : 53 ≤ v
        · exact Bool.false_ne_true (hor.mp ⟨d, z.2⟩)
        · exact Bool.false_ne_true (heq.mp (by omega))
      have bd : bdM v a b ↔ (a.2.2.2.1 = true ∨ b.2.2.2.1 = true) ∨ ((a.1 ≠ 0 ∧ a.1 ≠ 1) ∨ (b.1 ≠ 0 ∧ b.1 ≠ 1)) := by
        unfold bdM
        rw [if_neg n1]
      unfold zb_X7_two_p195 zb_X7_two_p200 zb_X7_two_p180 zb_X7_two_p199 zb_X7_two_p195 zb_X7_two_p200
      cases g0 with
      | true =>
        rw [if_pos (show ¬ bI true = 0 by decide)]
        exact fin true ⟨fun _ => rfl, fun _ => .inl (hg.mpr rfl)⟩
      | false =>
        rw [if_neg (show ¬ ¬ bI false = 0 from fun z => z rfl)]
        have nar : ¬ (a.2.2.2.1 = true ∨ b.2.2.2.1 = true) := fun z => Bool.false_ne_true (hg.mp z)
        have st : ¬ (a.1 ≠ 0 ∧ a.1 ≠ 1) → ∃ p1, qq = some p1 ∧ w_l w1 E.2.1 14 p1 ∧ (if w_i w1 14 p1 17 = 0 then zb_X7_two_p202 E L Q pp q1 qq cx (bI false) (bI false) 0 w1 else (if w_i w1 14 p1 17 = 1 then zb_X7_two_p202 E L Q pp q1 qq cx (bI false) (bI false) 0 w1 else zb_X7_two_p202 E L Q pp q1 qq cx (bI false) (bI false) 1 w1)) := fun hz => by
          refine ⟨q2, h2, hl2, ?_⟩
          rw [b1]
          by_cases d1 : b.1 = 0
          · rw [if_pos d1]
            exact fin false ⟨fun z => ((bd.mp z).elim (fun z => absurd z nar) (fun z => z.elim (fun z => absurd z hz) (fun z => absurd d1 z.1))), fun z => absurd z Bool.false_ne_true⟩
          · rw [if_neg d1]
            by_cases d2 : b.1 = 1
            · rw [if_pos d2]
              exact fin false ⟨fun z => ((bd.mp z).elim (fun z => absurd z nar) (fun z => z.elim (fun z => absurd z hz) (fun z => absurd d2 z.2))), fun z => absurd z Bool.false_ne_true⟩
            · rw [if_neg d2]
              exact fin true ⟨fun _ => rfl, fun _ => bd.mpr (.inr (.inr ⟨d1, d2⟩))⟩
        refine ⟨q, h1, hl1, ?_⟩
        rw [a1]
        by_cases d1 : a.1 = 0
        · rw [if_pos d1]
          exact st (fun z => z.1 d1)
        · rw [if_neg d1]
          by_cases d2 : a.1 = 1
          · rw [if_neg (fun z => z d2)]
            exact st (fun z => z.2 d2)
          · rw [if_pos d2]
            exact fin true ⟨fun _ => rfl, fun _ => bd.mpr (.inr (.inl ⟨d1, d2⟩))⟩
end MYX
