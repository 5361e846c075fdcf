/-! ===== TYPES, part 13: MeetingHouse: one sign ===== -/
section MYO
variable {D : pD} {V : pV} {tn : Nat → Prop} {nu : pNz} {Y : yV} {kr : List Nat} {G : tG} {F : tF} {SM : Nat → sF} {w w' w'' w1 : wS} {l y ty u : Int32} {f n m p o k s L q : Nat} {v T T' cw : Int} {C : Nat → Prop} {N N' : List Nat} {Q : kx_Rs → wS → Prop} {x a b : nF} {c : Bool} {X : String → wS → Prop}
theorem NRc.ot (h : NRc w q x) (hf : ∀ o, o ≠ p → ∀ k, w_i w' 14 o k = w_i w 14 o k) (hq : q ≠ p) : NRc w' q x := by
  obtain ⟨h1, h2, h3, h4, h5, h6⟩ := h
  exact ⟨(hf q hq _).trans h1, (hf q hq _).trans h2, (hf q hq _).trans h3, (hf q hq _).trans h4, (hf q hq _).trans h5, (hf q hq _).trans h6⟩
theorem c_givenF (hL : 40 ≤ L) (hC : MYC D V nu Y kr F SM w) (hp : nu p ≠ none) (hN : p ∈ N) (h : MYR N w T w1) (hx : NRc w1 p x) (hq : ∀ w', MYR N w T w' → NRc w' p (gvN x ty c u) → (∀ o, o ≠ p → ∀ k, w_i w' 14 o k = w_i w1 14 o k) → Q (.inl none) w') : zw D.1 L kt_M269 [.ref (w_adr D.1.2.1 6 0), va_rf (some p), .int ty, .int (bI c), .int u] w1 Q := by
  have hC1 := hC.r h
  refine zt_X7_given_p0 (by omega) ?_
  simp only [zb_X7_given_p0]
  refine ⟨p, rfl, hC1.al hp, bI_01, hq _ (((((h.i hN rfl).i hN rfl).i hN rfl).i hN rfl).i hN rfl) ((((hx.s17 (y := ty)).s20 (c := false)).s18 (y := -1)).s21 (c := c)).s19 (fun o ho k => ?_)⟩
  rw [Rii, if_neg (fun z => ho z.2.2), Rii, if_neg (fun z => ho z.2.2), Rii, if_neg (fun z => ho z.2.2), Rii, if_neg (fun z => ho z.2.2), Rii, if_neg (fun z => ho z.2.2)]
/-- the end of a node's walk: right, wrong, at fault -/
theorem c_ok (h : MYR N w T w1) (hx : NRc w1 p x) {r : nF × Int} (hr : (x, NOF) = r) (hq : ∀ w', MYR N w (min T r.2) w' → NRc w' p r.1 → Q (.inl none) w') : Q (.inl none) w1 := by
  subst hr
  exact hq _ (h.tr (MYR.rf h.2.1)) hx
theorem c_wr (hL : 80 ≤ L) (hC : MYC D V nu Y kr F SM w) (hp : nu p ≠ none) (hN : p ∈ N) (hl : V.1 p 2 = l) (h : MYR N w T w1) (hx : NRc w1 p x) {r : nF × Int} (hr : (wrN x, 16 * l.toInt + 7) = r) (hq : ∀ w', MYR N w (min T r.2) w' → NRc w' p r.1 → Q (.inl none) w') : zw D.1 L kt_M290 [.ref (w_adr D.1.2.1 6 0), va_rf (some p)] w1 (wk0 (fun w5 => wle w1 w5 → Q (.inl none) w5) X) := by
  subst hr
  exact c_wrong hL hC hp hN hl h hx (fun w3 k1 k2 => fun _ => hq _ k1 k2)
theorem c_fa (hL : 80 ≤ L) (hC : MYC D V nu Y kr F SM w) (hp : nu p ≠ none) (hN : p ∈ N) (hl : V.1 p 2 = l) (h : MYR N w T w1) (hx : NRc w1 p x) {r : nF × Int} (hr : (faN x, 16 * l.toInt + 9) = r) (hq : ∀ w', MYR N w (min T r.2) w' → NRc w' p r.1 → Q (.inl none) w') : zw D.1 L kt_M267 [.ref (w_adr D.1.2.1 6 0), va_rf (some p)] w1 (wk0 (fun w5 => wle w1 w5 → Q (.inl none) w5) X) := by
  subst hr
  exact c_fault hL hC hp hN hl h hx (fun w3 k1 k2 => fun _ => hq _ k1 k2)
/-- how many there are -/
theorem c_size (hL : 120 ≤ L) (hC : MYC D V nu Y kr F SM w) (hp : nu p ≠ none) (hq0 : nu q ≠ none) (hN : p ∈ N) (hNq : q ≠ p) (hl : V.1 p 2 = l) (h : MYR N w T w1) (hx : NRc w1 p x) (ha : NRc w1 q a) {g : Bool} (hg : decide (a.1 = 0) = !g) (hq : ∀ w', MYR N w (min T (onM (16 * l.toInt) x 27 a).2) w' → NRc w' p (onM (16 * l.toInt) x 27 a).1 → Q (.inl none) w') : zb_X7_one_p31 D.1 L Q (some p) (some q) (bI g) w1 := by
  have hC1 := hC.r h
  have haa := ha
  obtain ⟨a1, a2, a3, a4, a5, a6⟩ := ha
  unfold zb_X7_one_p31 zb_X7_one_p48 zb_X7_one_p71
  refine ⟨q, rfl, hC1.al hq0, ?_⟩
  have run : ∀ c : Bool, (!decide (a.2.1 = -1)) = c → ∃ p1, some q = some p1 ∧ w_l w1 D.1.2.1 14 p1 ∧ zw D.1 (L - 24) kt_M269 [.ref (w_adr D.1.2.1 6 0), va_rf (some p), .int 1, .int (bI c), .int (w_i w1 14 p1 18)] w1 (wk0 (fun w2 => wle w1 w2 → (if bI g = 0 then Q (.inl none) w2 else (if ¬ w_i w2 14 p1 20 = 0 then Q (.inl none) w2 else zw D.1 (L - 21) kt_M290 [.ref (w_adr D.1.2.1 6 0), va_rf (some p)] w2 (wk0 (fun w4 => wle w2 w4 → Q (.inl none) w4) (fun e w => Q (.inr e) w))))) (fun e w => Q (.inr e) w)) := fun c hc => by
    refine ⟨q, rfl, hC1.al hq0, ?_⟩
    rw [a2]
    refine c_givenF (by omega) hC hp hN h hx (fun w2 g1 g2 g3 => fun _ => ?_)
    have e20 : w_i w2 14 q 20 = bI a.2.2.2.1 := (haa.ot g3 hNq).2.2.2.1
    have on : onM (16 * l.toInt) x 27 a = if a.1 ≠ 0 ∧ a.2.2.2.1 = false then (wrN (gvN x 1 c a.2.1), 16 * l.toInt + 7) else (gvN x 1 c a.2.1, NOF) := by
      unfold onM
      rw [if_pos rfl, hc]
    cases g with
    | false =>
      have e0 : a.1 = 0 := of_decide_eq_true hg
      rw [if_pos (show bI false = 0 from rfl)]
      exact c_ok g1 g2 (by rw [on, if_neg (fun z => z.1 e0)]) hq
    | true =>
      have e0 : ¬ a.1 = 0 := of_decide_eq_false hg
      rw [if_neg (show ¬ bI true = 0 by decide), e20]
      cases har : a.2.2.2.1 with
      | true =>
        rw [if_pos (show ¬ bI true = 0 by decide)]
        exact c_ok g1 g2 (by rw [on, har, if_neg (fun z => Bool.false_ne_true z.2.symm)]) hq
      | false =>
        rw [if_neg (show ¬ ¬ bI false = 0 from fun z => z rfl)]
        exact c_wr (by omega) hC hp hN hl g1 g2 (by rw [on, har, if_pos ⟨e0, rfl⟩]) hq
  rw [a2]
  by_cases d : a.2.1 = -1
  · rw [if_pos d]
    exact run false (by rw [decide_eq_true d] <;> rfl)
  · rw [if_neg d]
    exact run true (by rw [decide_eq_false d] <;> rfl)
end MYO
