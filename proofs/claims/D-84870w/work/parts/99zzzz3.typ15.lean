/-! ===== TYPES, part 15: MeetingHouse: two sides ===== -/
section MYV
variable {D : pD} {V : pV} {tn : Nat → Prop} {nu : pNz} {Y : yV} {kr : List Nat} {G : tG} {F : tF} {SM : Nat → sF} {w w' w'' w1 : wS} {l y ty u : Int32} {f n m p o k s L q q2 : Nat} {v T T' cw : Int} {C : Nat → Prop} {N N' : List Nat} {Q : kx_Rs → wS → Prop} {x a b : nF} {c : Bool} {X : String → wS → Prop}
/-- what is bad about two sides -/
def bdM (v : Int) (a b : nF) : Prop := (a.2.2.2.1 = true ∨ b.2.2.2.1 = true) ∨ (if 51 ≤ v ∧ v ≤ 56 then (a.1 ≠ 0 ∧ b.1 ≠ 0 ∧ a.1 ≠ b.1) ∨ (53 ≤ v ∧ (a.1 = 3 ∨ b.1 = 3)) else (a.1 ≠ 0 ∧ a.1 ≠ 1) ∨ (b.1 ≠ 0 ∧ b.1 ≠ 1))
theorem c_t243 (hL : 120 ≤ L) (hC : MYC D V nu Y kr F SM w) (hp : nu p ≠ none) (hq1 : nu q ≠ none) (hq2 : nu q2 ≠ none) (hN : p ∈ N) (hN1 : q ≠ p) (hN2 : q2 ≠ p) (hl : V.1 p 2 = l) (hw : wcd cw v) (hb : bOp v = true) (h : MYR N w T w1) (hx : NRc w1 p x) (ha : NRc w1 q a) (hbb : NRc w1 q2 b) (hty : (if (51 ≤ v ∧ v ≤ 56) ∨ v = 0 then (3 : Int32) else 1) = ty) {g : Bool} (hg : bdM v a b ↔ g = true) (hc : (a.2.2.2.2.1 && b.2.2.2.2.1) = c) (hq : ∀ w', MYR N w (min T (twM (16 * l.toInt) x v a b).2) w' → NRc w' p (twM (16 * l.toInt) x v a b).1 → Q (.inl none) w') : zb_X7_two_p243 D.1 L Q (some p) (some q) (some q2) (i_ cw) (bI g) (bI c) ty (some p) w1 := by
  have hC1 := hC.r h
  unfold zb_X7_two_p243 zb_X7_two_p322 zb_X7_two_p297 zb_X7_two_p322
  refine c_givenF (by omega) hC hp hN h hx (fun w2 g1 g2 g3 => fun _ => ?_)
  have hC2 := hC.r g1
  obtain ⟨a1, a2, a3, a4, a5, a6⟩ := ha.ot g3 hN1
  obtain ⟨b1, b2, b3, b4, b5, b6⟩ := hbb.ot g3 hN2
  have on : twM (16 * l.toInt) x v a b = if g = true then (wrN (gvN x ty c 0), 16 * l.toInt + 7) else if c = true then (if a.2.2.2.2.2 = true ∨ b.2.2.2.2.2 = true ∨ ok2 v a.2.2.1 b.2.2.1 = false then (faN (gvN x ty true 0), 16 * l.toInt + 9) else (gvN x ty true (wv2 v a.2.2.1 b.2.2.1), NOF)) else (gvN x ty false 0, NOF) := by
    unfold twM
    rw [hty, hc]
    by_cases d : g = true
    · rw [if_pos d]
      exact if_pos (hg.mpr d)
    · rw [if_neg d]
      exact if_neg (fun z => d (hg.mp z))
  cases g with
  | true =>
    rw [if_neg (show ¬ bI true = 0 by decide)]
    exact c_wr (by omega) hC hp hN hl g1 g2 (by rw [on, if_pos rfl]) hq
  | false =>
    rw [if_pos (show bI false = 0 from rfl)]
    rw [if_neg Bool.false_ne_true] at on
    refine ⟨p, rfl, hC2.al hp, ?_⟩
    have e21 : w_i w2 14 p 21 = bI c := g2.2.2.2.2.1
    rw [e21]
    cases c with
    | false =>
      rw [if_pos (show bI false = 0 from rfl)]
      exact c_ok g1 g2 (by rw [on, if_neg Bool.false_ne_true]) hq
    | true =>
      rw [if_neg (show ¬ bI true = 0 by decide)]
      rw [if_pos rfl] at on
      refine ⟨q, rfl, hC2.al hq1, ?_⟩
      rw [a6]
      cases hf1 : a.2.2.2.2.2 with
      | true =>
        rw [if_pos (show ¬ bI true = 0 by decide)]
        exact c_fa (by omega) hC hp hN hl g1 g2 (by rw [on, if_pos (.inl hf1)]) hq
      | false =>
        rw [if_neg (show ¬ ¬ bI false = 0 from fun z => z rfl)]
        refine ⟨q2, rfl, hC2.al hq2, ?_⟩
        rw [b6]
        cases hf2 : b.2.2.2.2.2 with
        | true =>
          rw [if_pos (show ¬ bI true = 0 by decide)]
          exact c_fa (by omega) hC hp hN hl g1 g2 (by rw [on, if_pos (.inr (.inl hf2))]) hq
        | false =>
          rw [if_neg (show ¬ ¬ bI false = 0 from fun z => z rfl), a3, b3]
          refine c_flt hw hb (by omega) (fun hok => fun _ => ?_) (fun y hok hy => fun _ => ?_)
          · rw [if_pos (show (0 : Int32) = 0 from rfl), a3, b3]
            refine c_two hw hb hok (by omega) (fun _ => ?_)
            have nf : ¬ (a.2.2.2.2.2 = true ∨ b.2.2.2.2.2 = true ∨ ok2 v a.2.2.1 b.2.2.1 = false) := fun z => by
              rw [hf1, hf2, hok] at z
              exact z.elim Bool.false_ne_true (fun z => z.elim Bool.false_ne_true (fun z => Bool.false_ne_true z.symm))
            exact c_ok (x := gvN x ty true (wv2 v a.2.2.1 b.2.2.1)) (g1.i hN rfl) g2.s19 (by rw [on, if_neg nf]) hq
          · rw [if_neg hy]
            exact c_fa (by omega) hC hp hN hl g1 g2 (by rw [on, if_pos (.inr (.inr hok))]) hq
theorem c_t202 (hL : 120 ≤ L) (hC : MYC D V nu Y kr F SM w) (hp : nu p ≠ none) (hq1 : nu q ≠ none) (hq2 : nu q2 ≠ none) (hN : p ∈ N) (hN1 : q ≠ p) (hN2 : q2 ≠ p) (hl : V.1 p 2 = l) (hw : wcd cw v) (hb : bOp v = true) (h : MYR N w T w1) (hx : NRc w1 p x) (ha : NRc w1 q a) (hbb : NRc w1 q2 b) {eq or : Bool} (heq : (v = 51 ∨ v = 52) ↔ eq = true) (hor : (53 ≤ v ∧ v ≤ 56) ↔ or = true) {g : Bool} (hg : bdM v a b ↔ g = true) (hq : ∀ w', MYR N w (min T (twM (16 * l.toInt) x v a b).2) w' → NRc w' p (twM (16 * l.toInt) x v a b).1 → Q (.inl none) w') : zb_X7_two_p202 D.1 L Q (some p) (some q) (some q2) (i_ cw) (bI eq) (bI or) (bI g) w1 := by
  have hC1 := hC.r h
  have a5 := ha.2.2.2.2.1
  have b5 := hbb.2.2.2.2.1
  have st : ∀ ty : Int32, (if (51 ≤ v ∧ v ≤ 56) ∨ v = 0 then (3 : Int32) else 1) = ty → zb_X7_two_p224 D.1 L Q (some p) (some q) (some q2) (i_ cw) (bI g) ty (some p) w1 := fun ty hty => by
    unfold zb_X7_two_p224 zb_X7_two_p242
    refine ⟨q, rfl, hC1.al hq1, ?_⟩
    rw [a5]
    cases hc1 : a.2.2.2.2.1 with
    | false =>
      rw [if_pos (show bI false = 0 from rfl)]
      exact c_t243 (c := false) hL hC hp hq1 hq2 hN hN1 hN2 hl hw hb h hx ha hbb hty hg (by rw [hc1] <;> rfl) hq
    | true =>
      rw [if_neg (show ¬ bI true = 0 by decide)]
      refine ⟨q2, rfl, hC1.al hq2, ?_⟩
      rw [b5]
      cases hc2 : b.2.2.2.2.1 with
      | false =>
        rw [if_pos (show bI false = 0 from rfl)]
        exact c_t243 (c := false) hL hC hp hq1 hq2 hN hN1 hN2 hl hw hb h hx ha hbb hty hg (by rw [hc1, hc2] <;> rfl) hq
      | true =>
        rw [if_neg (show ¬ bI true = 0 by decide)]
        exact c_t243 (c := true) hL hC hp hq1 hq2 hN hN1 hN2 hl hw hb h hx ha hbb hty hg (by rw [hc1, hc2] <;> rfl) hq
  have hr := bOp_r hb
  have hcw := wcd_c hw
  have e0 : ((i_ cw : Int32) = 0) = (cw = 0) := i_eqk (k := 0) (by split at hcw <;> omega) (by decide) (by decide)
  unfold zb_X7_two_p202 zb_X7_two_p219
  simp only [e0]
  cases eq with
  | true =>
    rw [if_pos (show ¬ bI true = 0 by decide)]
    exact st 3 (if_pos (.inl (by have := heq.mpr rfl; omega)))
  | false =>
    rw [if_neg (show ¬ ¬ bI false = 0 from fun z => z rfl)]
    cases or with
    | true =>
      rw [if_pos (show ¬ bI true = 0 by decide)]
      exact st 3 (if_pos (.inl (by have := hor.mpr rfl; omega)))
    | false =>
      rw [if_neg (show ¬ ¬ bI false = 0 from fun z => z rfl)]
      have n1 : ¬ (v = 51 ∨ v = 52) := fun z => Bool.false_ne_true (heq.mp z)
      have n2 : ¬ (53 ≤ v ∧ v ≤ 56) := fun z => Bool.false_ne_true (hor.mp z)
      by_cases d : cw = 0
      · rw [if_neg (fun z => z d)]
        exact st 3 (if_pos (.inr (by split at hcw <;> omega)))
      · rw [if_pos d]
        exact st 1 (if_neg (fun z => z.elim (fun z => by omega) (fun z => d (by rw [z] at hcw; exact hcw))))
end MYV
