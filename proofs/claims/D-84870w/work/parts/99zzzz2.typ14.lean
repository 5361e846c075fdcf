/-! ===== TYPES, part 14: MeetingHouse: one sign, all together ===== -/
section MYU
variable {D : pD} {V : pV} {tn : Nat → Prop} {nu : pNz} {Y : yV} {kr : List Nat} {G : tG} {F : tF} {SM : Nat → sF} {w w' w'' w1 : wS} {l y ty u : Int32} {f n m p o k s L q : Nat} {v T T' cw : Int} {C : Nat → Prop} {N N' : List Nat} {Q : kx_Rs → wS → Prop} {x a b : nF} {c : Bool} {X : String → wS → Prop}
/-- behind bad or not -/
theorem c_o157 (hL : 120 ≤ L) (hC : MYC D V nu Y kr F SM w) (hp : nu p ≠ none) (hq0 : nu q ≠ none) (hN : p ∈ N) (hNq : q ≠ p) (hl : V.1 p 2 = l) (h8 : V.1 p 8 = i_ cw) (hc58 : ((i_ cw : Int32) = 54) = (v = 58)) (h : MYR N w T w1) (hx : NRc w1 p x) (ha : NRc w1 q a) (h27 : v ≠ 27) (hty : (if v = 17 then (3 : Int32) else 1) = ty) {g : Bool} (hg : (a.1 ≠ 0 ∧ (a.1 ≠ ty ∨ a.2.2.2.1 = true)) ↔ g = true) (hu : wv1 v a.2.2.1 = u) (hq : ∀ w', MYR N w (min T (onM (16 * l.toInt) x v a).2) w' → NRc w' p (onM (16 * l.toInt) x v a).1 → Q (.inl none) w') : zb_X7_one_p157 D.1 L Q (some p) (some q) ty (bI g) u w1 := by
  have hC1 := hC.r h
  have haa := ha
  obtain ⟨a1, a2, a3, a4, a5, a6⟩ := ha
  unfold zb_X7_one_p157 zb_X7_one_p222 zb_X7_one_p217 zb_X7_one_p222
  refine ⟨q, rfl, hC1.al hq0, ?_⟩
  rw [a5]
  refine c_givenF (by omega) hC hp hN h hx (fun w2 g1 g2 g3 => fun _ => ?_)
  have hC2 := hC.r g1
  obtain ⟨b1, b2, b3, b4, b5, b6⟩ := haa.ot g3 hNq
  have on : onM (16 * l.toInt) x v a = if g = true then (wrN (gvN x ty a.2.2.2.2.1 u), 16 * l.toInt + 7) else if a.2.2.2.2.1 = true ∧ (a.2.2.2.2.2 = true ∨ (v = 58 ∧ a.2.2.1 = -2147483648)) then (faN (gvN x ty a.2.2.2.2.1 u), 16 * l.toInt + 9) else (gvN x ty a.2.2.2.2.1 u, NOF) := by
    unfold onM
    rw [if_neg h27, hty, hu]
    by_cases d : g = true
    · rw [if_pos d, if_pos (hg.mpr d)]
    · rw [if_neg d, if_neg (fun z => d (hg.mp z))]
  cases g with
  | true =>
    rw [if_neg (show ¬ bI true = 0 by decide)]
    exact c_wr (by omega) hC hp hN hl g1 g2 (by rw [on, if_pos rfl]) hq
  | false =>
    rw [if_pos (show bI false = 0 from rfl), b5, b6]
    rw [if_neg Bool.false_ne_true] at on
    cases hcs : a.2.2.2.2.1 with
    | false =>
      rw [if_pos (show bI false = 0 from rfl)]
      rw [hcs] at on g2
      exact c_ok g1 g2 (by rw [on, if_neg (fun z => Bool.false_ne_true z.1)]) hq
    | true =>
      rw [if_neg (show ¬ bI true = 0 by decide)]
      rw [hcs] at on g2
      cases hfl : a.2.2.2.2.2 with
      | true =>
        rw [if_pos (show ¬ bI true = 0 by decide)]
        exact c_fa (by omega) hC hp hN hl g1 g2 (by rw [on, if_pos ⟨rfl, .inl hfl⟩]) hq
      | false =>
        rw [if_neg (show ¬ ¬ bI false = 0 from fun z => z rfl)]
        refine ⟨p, rfl, hC2.al hp, ?_⟩
        have e8 : w_i w2 14 p 8 = i_ cw := (hC2.wrd hp).trans h8
        rw [e8]
        by_cases d1 : v = 58
        · rw [if_neg (fun z => z (hc58 ▸ d1))]
          rw [b3]
          by_cases d2 : a.2.2.1 = -2147483648
          · rw [if_neg (fun z => z d2)]
            exact c_fa (by omega) hC hp hN hl g1 g2 (by rw [on, if_pos ⟨rfl, .inr ⟨d1, d2⟩⟩]) hq
          · rw [if_pos d2]
            exact c_ok g1 g2 (by rw [on, if_neg (fun z => z.2.elim (fun z => by rw [hfl] at z; exact Bool.false_ne_true z) (fun z => d2 z.2))]) hq
        · rw [if_pos (fun z => d1 (hc58 ▸ z))]
          exact c_ok g1 g2 (by rw [on, if_neg (fun z => z.2.elim (fun z => by rw [hfl] at z; exact Bool.false_ne_true z) (fun z => d1 z.1))]) hq
/-- a sign but SIZE -/
theorem c_o86 (hL : 120 ≤ L) (hC : MYC D V nu Y kr F SM w) (hp : nu p ≠ none) (hq0 : nu q ≠ none) (hN : p ∈ N) (hNq : q ≠ p) (hl : V.1 p 2 = l) (h8 : V.1 p 8 = i_ cw) (hcv : (v = 17 ∧ cw = 17) ∨ (v = 14 ∧ cw = 14) ∨ (v = 58 ∧ cw = 54) ∨ (v = 67 ∧ cw = 63)) (h : MYR N w T w1) (hx : NRc w1 p x) (ha : NRc w1 q a) (hty : (if v = 17 then (3 : Int32) else 1) = ty) (hq : ∀ w', MYR N w (min T (onM (16 * l.toInt) x v a).2) w' → NRc w' p (onM (16 * l.toInt) x v a).1 → Q (.inl none) w') : zb_X7_one_p86 D.1 L Q (some p) (some q) ty w1 := by
  have hC1 := hC.r h
  have haa := ha
  obtain ⟨a1, a2, a3, a4, a5, a6⟩ := ha
  have e8 : w_i w1 14 p 8 = i_ cw := (hC1.wrd hp).trans h8
  have h27 : v ≠ 27 := by omega
  have st : ∀ g : Bool, ((a.1 ≠ 0 ∧ (a.1 ≠ ty ∨ a.2.2.2.1 = true)) ↔ g = true) → zb_X7_one_p114 D.1 L Q (some p) (some q) ty (bI g) w1 := fun g hg => by
    unfold zb_X7_one_p114
    refine ⟨p, rfl, hC1.al hp, ?_⟩
    rw [e8]
    rcases hcv with ⟨e, e'⟩ | ⟨e, e'⟩ | ⟨e, e'⟩ | ⟨e, e'⟩ <;> subst e <;> subst e'
    · rw [if_neg (show ¬ ¬ (i_ 17 : Int32) = 17 from fun z => z rfl)]
      refine ⟨q, rfl, hC1.al hq0, ?_⟩
      rw [a3]
      exact c_o157 (v := 17) hL hC hp hq0 hN hNq hl h8 (propext ⟨fun z => absurd z (by decide), fun z => absurd z (by decide)⟩) h hx haa h27 hty hg rfl hq
    · rw [if_pos (show ¬ (i_ 14 : Int32) = 17 by decide), if_pos (show ¬ (i_ 14 : Int32) = 63 by decide)]
      refine ⟨q, rfl, hC1.al hq0, ?_⟩
      rw [a3]
      exact c_o157 (v := 14) hL hC hp hq0 hN hNq hl h8 (propext ⟨fun z => absurd z (by decide), fun z => absurd z (by decide)⟩) h hx haa h27 hty hg rfl hq
    · rw [if_pos (show ¬ (i_ 54 : Int32) = 17 by decide), if_pos (show ¬ (i_ 54 : Int32) = 63 by decide)]
      refine ⟨q, rfl, hC1.al hq0, ?_⟩
      rw [a3]
      exact c_o157 (v := 58) hL hC hp hq0 hN hNq hl h8 (propext ⟨fun _ => rfl, fun _ => rfl⟩) h hx haa h27 hty hg rfl hq
    · rw [if_pos (show ¬ (i_ 63 : Int32) = 17 by decide), if_neg (show ¬ ¬ (i_ 63 : Int32) = 63 from fun z => z rfl)]
      refine ⟨q, rfl, hC1.al hq0, ?_⟩
      rw [a3]
      exact c_o157 (v := 67) hL hC hp hq0 hN hNq hl h8 (propext ⟨fun z => absurd z (by decide), fun z => absurd z (by decide)⟩) h hx haa h27 hty hg rfl hq
  unfold zb_X7_one_p86 zb_X7_one_p113 zb_X7_one_p109
  refine ⟨q, rfl, hC1.al hq0, ?_⟩
  rw [a1, a4]
  by_cases d1 : a.1 = 0
  · rw [if_pos d1]
    exact st false ⟨fun z => absurd d1 z.1, fun z => absurd z Bool.false_ne_true⟩
  · rw [if_neg d1]
    by_cases d2 : a.1 = ty
    · rw [if_neg (fun z => z d2)]
      cases har : a.2.2.2.1 with
      | false =>
        rw [if_pos (show bI false = 0 from rfl)]
        exact st false ⟨fun z => z.2.elim (fun z => absurd d2 z) (fun z => by rw [har] at z; exact z), fun z => absurd z Bool.false_ne_true⟩
      | true =>
        rw [if_neg (show ¬ bI true = 0 by decide)]
        exact st true ⟨fun _ => rfl, fun _ => ⟨d1, .inr har⟩⟩
    · rw [if_pos d2]
      exact st true ⟨fun _ => rfl, fun _ => ⟨d1, .inl d2⟩⟩
/-- behind a sign's child -/
theorem c_one (hL : 120 ≤ L) (hC : MYC D V nu Y kr F SM w) (hp : nu p ≠ none) (hq0 : nu q ≠ none) (hN : p ∈ N) (hNq : q ≠ p) (hl : V.1 p 2 = l) (hw : wcd cw v) (hu : bUn v = true) (h8 : V.1 p 8 = i_ cw) (h : MYR N w T w1) (hx : NRc w1 p x) (ha : NRc w1 q a) (hq : ∀ w', MYR N w (min T (onM (16 * l.toInt) x v a).2) w' → NRc w' p (onM (16 * l.toInt) x v a).1 → Q (.inl none) w') : (if ¬ w_i w1 14 p 8 = 27 then (if ¬ w_i w1 14 p 8 = 17 then zb_X7_one_p86 D.1 L Q (some p) (some q) 1 w1 else zb_X7_one_p86 D.1 L Q (some p) (some q) 3 w1) else (∃ p4, some q = some p4 ∧ w_l w1 D.1.2.1 14 p4 ∧ (if w_i w1 14 p4 17 = 0 then zb_X7_one_p31 D.1 L Q (some p) (some q) 0 w1 else zb_X7_one_p31 D.1 L Q (some p) (some q) 1 w1))) := by
  have hC1 := hC.r h
  have e8 : w_i w1 14 p 8 = i_ cw := (hC1.wrd hp).trans h8
  have hcv : (v = 27 ∧ cw = 27) ∨ (v = 17 ∧ cw = 17) ∨ (v = 14 ∧ cw = 14) ∨ (v = 58 ∧ cw = 54) ∨ (v = 67 ∧ cw = 63) := by
    have hc := wcd_c hw
    simp only [bUn, Bool.or_eq_true, decide_eq_true_eq] at hu
    rcases hu with e | e | e | e | e <;> subst e <;> simp (decide := true) only [if_true, if_false] at hc <;> omega
  clear hw hu
  rw [e8]
  rcases hcv with ⟨e, e'⟩ | hcv
  · subst e e'
    rw [if_neg (show ¬ ¬ (i_ 27 : Int32) = 27 from fun z => z rfl)]
    refine ⟨q, rfl, hC1.al hq0, ?_⟩
    rw [ha.1]
    by_cases d : a.1 = 0
    · rw [if_pos d]
      exact c_size (g := false) hL hC hp hq0 hN hNq hl h hx ha (decide_eq_true d) hq
    · rw [if_neg d]
      exact c_size (g := true) hL hC hp hq0 hN hNq hl h hx ha (decide_eq_false d) hq
  · have n27 : ¬ (i_ cw : Int32) = 27 := by
      rcases hcv with ⟨-, e⟩ | ⟨-, e⟩ | ⟨-, e⟩ | ⟨-, e⟩ <;> subst e <;> decide
    rw [if_pos n27]
    by_cases d : v = 17
    · have ec : cw = 17 := by omega
      rw [ec, if_neg (show ¬ ¬ (i_ 17 : Int32) = 17 from fun z => z rfl)]
      exact c_o86 hL hC hp hq0 hN hNq hl h8 hcv h hx ha (if_pos d) hq
    · have n17 : ¬ (i_ cw : Int32) = 17 := by
        rcases hcv with ⟨e0, e⟩ | ⟨-, e⟩ | ⟨-, e⟩ | ⟨-, e⟩
        · exact absurd e0 d
        all_goals subst e; decide
      rw [if_pos n17]
      exact c_o86 hL hC hp hq0 hN hNq hl h8 hcv h hx ha (if_neg d) hq
end MYU
