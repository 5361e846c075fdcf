/-! ===== TYPES, part 12: MeetingHouse: given, wrong, fault, conversions, signs ===== -/
section MYQ
variable {D : pD} {V : pV} {tn : Nat → Prop} {nu : pNz} {Y : yV} {kr : List Nat} {G : tG} {F : tF} {SM : Nat → sF} {w w' w'' w1 : wS} {l y ty u : Int32} {f n m p o k s L : Nat} {v T T' : Int} {C : Nat → Prop} {N N' : List Nat} {Q : kx_Rs → wS → Prop} {x a b : nF} {c : Bool} {X : String → wS → Prop}
theorem MYC.al (h : MYC D V nu Y kr F SM w) (hp : nu p ≠ none) : w_l w D.1.2.1 14 p := (h.1.2.1 p hp).1
theorem MYC.pt (h : MYC D V nu Y kr F SM w) (hp : nu p ≠ none) (hk : k < 8) : w_p w 14 p k = V.2.1 p k := (h.1.2.1 p hp).2.1 k hk
theorem MYC.lin (h : MYC D V nu Y kr F SM w) (hp : nu p ≠ none) : w_i w 14 p 2 = V.1 p 2 := (h.1.2.1 p hp).2.2.1.1
theorem MYC.wrd (h : MYC D V nu Y kr F SM w) (hp : nu p ≠ none) : w_i w 14 p 8 = V.1 p 8 := (h.1.2.1 p hp).2.2.1.2.1
theorem MYC.br (h : MYC D V nu Y kr F SM w) (hp : nu p ≠ none) : w_i w 14 p 12 = V.1 p 12 := (h.1.2.1 p hp).2.2.1.2.2
theorem MYC.smb (h : MYC D V nu Y kr F SM w) (hp : nu p ≠ none) : w_p w 14 p 16 = Y.2.1 p := (h.1.2.1 p hp).2.2.2.2
/-- tells a rule of a node's line -/
theorem c_tell {K : wS → Prop} (hk : k = 7 ∨ k = 8 ∨ k = 9) {xk : Int32} (hxk : xk = i_ k) (hL : 40 ≤ L) (hC : MYC D V nu Y kr F SM w) (hp : nu p ≠ none) (hl : V.1 p 2 = l) (h : MYR N w T w1) (hq : MYR N w (min T (16 * l.toInt + k)) (ru w1 (fln k l)) → K (ru w1 (fln k l))) : zw D.1 L kt_M56 [.ref (w_adr D.1.2.1 2 0), .int xk, .int (w_i w1 14 p 2)] w1 (wk0 (fun w2 => wle w1 w2 → K w2) X) := by
  have hC1 := hC.r h
  rw [hC1.lin hp, hl, hxk]
  exact c_rule (by omega) hC1.2.2 (by omega) (fun _ => hq (h.ru (by omega)))
theorem c_given (hL : 40 ≤ L) (hC : MYC D V nu Y kr F SM w) (hp : nu p ≠ none) (hN : p ∈ N) (h : MYR N w T w1) (hx : NRc w1 p x) (hq : ∀ w', MYR N w T w' → NRc w' p (gvN x ty c u) → Q (.inl none) w') : zw D.1 L kt_M269 [.ref (w_adr D.1.2.1 6 0), va_rf (some p), .int ty, .int (bI c), .int u] w1 Q := by
  have hC1 := hC.r h
  refine zt_X7_given_p0 (by omega) ?_
  simp only [zb_X7_given_p0]
  exact ⟨p, rfl, hC1.al hp, bI_01, hq _ (((((h.i hN rfl).i hN rfl).i hN rfl).i hN rfl).i hN rfl) ((((hx.s17 (y := ty)).s20 (c := false)).s18 (y := -1)).s21 (c := c)).s19⟩
theorem c_wrong (hL : 80 ≤ L) (hC : MYC D V nu Y kr F SM w) (hp : nu p ≠ none) (hN : p ∈ N) (hl : V.1 p 2 = l) (h : MYR N w T w1) (hx : NRc w1 p x) (hq : ∀ w', MYR N w (min T (16 * l.toInt + 7)) w' → NRc w' p (wrN x) → Q (.inl none) w') : zw D.1 L kt_M290 [.ref (w_adr D.1.2.1 6 0), va_rf (some p)] w1 Q := by
  have hC1 := hC.r h
  refine zt_X7_wrong_p0 (by omega) ?_
  simp only [zb_X7_wrong_p0]
  exact ⟨p, rfl, hC1.al hp, c_tell (k := 7) (K := fun w2 => Q (.inl none) (ws_i (ws_i (ws_i w2 14 p 17 0) 14 p 20 0) 14 p 21 0)) (.inl rfl) rfl (by omega) hC hp hl h (fun h2 => hq _ (((h2.i hN rfl).i hN rfl).i hN rfl) (((hx.ru.s17 (y := 0)).s20 (c := false)).s21 (c := false)))⟩
theorem c_fault (hL : 80 ≤ L) (hC : MYC D V nu Y kr F SM w) (hp : nu p ≠ none) (hN : p ∈ N) (hl : V.1 p 2 = l) (h : MYR N w T w1) (hx : NRc w1 p x) (hq : ∀ w', MYR N w (min T (16 * l.toInt + 9)) w' → NRc w' p (faN x) → Q (.inl none) w') : zw D.1 L kt_M267 [.ref (w_adr D.1.2.1 6 0), va_rf (some p)] w1 Q := by
  have hC1 := hC.r h
  refine zt_X7_fault_p0 (by omega) ?_
  simp only [zb_X7_fault_p0]
  exact ⟨p, rfl, hC1.al hp, c_tell (k := 9) (K := fun w2 => Q (.inl none) (ws_i (ws_i w2 14 p 17 0) 14 p 11 1)) (.inr (.inr rfl)) rfl (by omega) hC hp hl h (fun h2 => hq _ ((h2.i hN rfl).i hN rfl) ((hx.ru.s17 (y := 0)).s11 (c := true)))⟩
/-- behind a node's child: the rest of a conversion -/
theorem c_cnv {q : Nat} {w0 : wS} (hL : 120 ≤ L) (hC : MYC D V nu Y kr F SM w) (hp : nu p ≠ none) (hq0 : nu q ≠ none) (h3 : V.2.1 p 3 = some q) (hN : p ∈ N) (hNq : q ≠ p) (hl : V.1 p 2 = l) (hs : s < 3) (h8 : V.1 p 8 = i_ (s + 1 : Nat)) (h : MYR N w T w1) (hx : NRc w1 p x) (ha : NRc w1 q a) (hq : ∀ w', MYR N w (min T (cvM (16 * l.toInt) x s a).2) w' → NRc w' p (cvM (16 * l.toInt) x s a).1 → Q (.inl none) w') : (∃ p4, w_p w1 14 p 3 = some p4 ∧ w_l w1 D.1.2.1 14 p4 ∧ (if w_i w1 14 p4 20 = 0 then (if w_i w1 14 p4 21 = 0 then zb_X7_conversion_p92 D.1 L Q (some p) (w_i w1 14 p4 19) w1 else (if ¬ w_i w1 14 p4 11 = 0 then zb_X7_conversion_p88 D.1 L Q (some p) (w_i w1 14 p4 19) w1 else (if ¬ w_i w1 14 p 8 = 2 then zb_X7_conversion_p71 D.1 L Q (some p) (w_i w1 14 p4 19) w1 else (if w_i w1 14 p4 19 < 0 then zb_X7_conversion_p88 D.1 L Q (some p) (w_i w1 14 p4 19) w1 else (if 255 < w_i w1 14 p4 19 then zb_X7_conversion_p88 D.1 L Q (some p) (w_i w1 14 p4 19) w1 else zb_X7_conversion_p71 D.1 L Q (some p) (w_i w1 14 p4 19) w1))))) else zw D.1 (L - 21) kt_M290 [.ref (w_adr D.1.2.1 6 0), va_rf (some p)] w1 (wk0 (fun w5 => wle w1 w5 → Q (.inl none) w5) X))) := by
  have hC1 := hC.r h
  obtain ⟨a1, a2, a3, a4, a5, a6⟩ := ha
  have e8 : w_i w1 14 p 8 = i_ (s + 1 : Nat) := (hC1.wrd hp).trans h8
  refine ⟨q, (hC1.pt hp (by decide)).trans h3, hC1.al hq0, ?_⟩
  have fin : ∀ b : Bool, (a.2.2.2.2.1 && (a.2.2.2.2.2 || ((decide (s = 1) && (decide (a.2.2.1 < 0) || decide (255 < a.2.2.1))) || (decide (s = 2) && (decide (a.2.2.1 < 0) || !decide (a.2.2.1 ≤ 1)))))) = b → a.2.2.2.1 = false → zb_X7_conversion_p93 D.1 L Q (some p) a.2.2.1 (bI b) w1 := fun b hb har => by
    unfold zb_X7_conversion_p93 zb_X7_conversion_p120
    refine ⟨p, rfl, hC1.al hp, q, (hC1.pt hp (by decide)).trans h3, hC1.al hq0, ?_⟩
    rw [e8, a5]
    have hcv : cvM (16 * l.toInt) x s a = if b then (faN (gvN x (i_ (s + 1 : Nat)) a.2.2.2.2.1 a.2.2.1), 16 * l.toInt + 9) else (gvN x (i_ (s + 1 : Nat)) a.2.2.2.2.1 a.2.2.1, NOF) := by
      unfold cvM
      rw [har, if_neg Bool.false_ne_true, hb]
    rw [hcv] at hq
    refine c_given (by omega) hC hp hN h hx (fun w2 g1 g2 => fun _ => ?_)
    cases b with
    | false =>
      rw [if_pos (show bI false = 0 from rfl)]
      rw [if_neg Bool.false_ne_true] at hq
      exact hq _ (g1.tr (MYR.rf g1.2.1)) g2
    | true =>
      rw [if_neg (show ¬ bI true = 0 by decide)]
      rw [if_pos rfl] at hq
      exact c_fault (by omega) hC hp hN hl g1 g2 (fun w3 k1 k2 => fun _ => hq _ k1 k2)
  rw [a3, a4, a5, a6, e8]
  cases har : a.2.2.2.1 with
  | true =>
    rw [if_neg (show ¬ bI true = 0 by decide)]
    unfold cvM at hq
    rw [har, if_pos rfl] at hq
    exact c_wrong (by omega) hC hp hN hl h hx (fun w2 g1 g2 => fun _ => hq _ g1 g2)
  | false =>
    rw [if_pos (show bI false = 0 from rfl)]
    unfold zb_X7_conversion_p92 zb_X7_conversion_p88 zb_X7_conversion_p71
    unfold zb_X7_conversion_p92 zb_X7_conversion_p88
    rw [har] at fin
    have F := fun b hb => fin b hb rfl
    cases hcs : a.2.2.2.2.1 with
    | false =>
      rw [if_pos (show bI false = 0 from rfl)]
      exact F false (by rw [hcs] <;> rfl)
    | true =>
      rw [if_neg (show ¬ bI true = 0 by decide)]
      rw [hcs] at F
      cases hfl : a.2.2.2.2.2 with
      | true =>
        rw [if_pos (show ¬ bI true = 0 by decide)]
        exact F true (by rw [hfl] <;> rfl)
      | false =>
        rw [if_neg (show ¬ ¬ bI false = 0 from fun z => z rfl)]
        rw [hfl] at F
        have ep : w_i w1 14 p 8 = i_ (s + 1 : Nat) := e8
        rcases (show s = 0 ∨ s = 1 ∨ s = 2 by omega) with e | e | e <;> subst e
        · rw [if_pos (show ¬ (i_ (0 + 1 : Nat) : Int32) = 2 by decide)]
          refine ⟨p, rfl, hC1.al hp, ?_⟩
          rw [ep, if_pos (show ¬ (i_ (0 + 1 : Nat) : Int32) = 3 by decide)]
          exact F false rfl
        · rw [if_neg (show ¬ ¬ (i_ (1 + 1 : Nat) : Int32) = 2 by decide)]
          by_cases d1 : a.2.2.1 < 0
          · rw [if_pos d1]
            exact F true (by rw [decide_eq_true d1] <;> rfl)
          · rw [if_neg d1]
            by_cases d2 : 255 < a.2.2.1
            · rw [if_pos d2]
              exact F true (by rw [decide_eq_false d1, decide_eq_true d2] <;> rfl)
            · rw [if_neg d2]
              refine ⟨p, rfl, hC1.al hp, ?_⟩
              rw [ep, if_pos (show ¬ (i_ (1 + 1 : Nat) : Int32) = 3 by decide)]
              exact F false (by rw [decide_eq_false d1, decide_eq_false d2] <;> rfl)
        · rw [if_pos (show ¬ (i_ (2 + 1 : Nat) : Int32) = 2 by decide)]
          refine ⟨p, rfl, hC1.al hp, ?_⟩
          rw [ep, if_neg (show ¬ ¬ (i_ (2 + 1 : Nat) : Int32) = 3 by decide)]
          by_cases d1 : a.2.2.1 < 0
          · rw [if_pos d1]
            exact F true (by rw [decide_eq_true d1] <;> rfl)
          · rw [if_neg d1]
            by_cases d2 : a.2.2.1 ≤ 1
            · rw [if_pos d2]
              exact F false (by rw [decide_eq_false d1, decide_eq_true d2] <;> rfl)
            · rw [if_neg d2]
              exact F true (by rw [decide_eq_false d1, decide_eq_false d2] <;> rfl)
end MYQ
