/-! ===== TYPES, part 17: MeetingHouse: behind two sides; elements ===== -/
section MYZ
variable {D : pD} {V : pV} {tn : Nat → Prop} {nu : pNz} {Y : yV} {kr : List Nat} {G : tG} {F : tF} {SM : Nat → sF} {w w' w'' w1 : wS} {l y ty u : Int32} {f n m p o k s L q q2 A : Nat} {v T T' cw : Int} {C : Nat → Prop} {N N' : List Nat} {Q : kx_Rs → wS → Prop} {x a b : nF} {c : Bool} {X : String → wS → Prop} {S : sF}
theorem c_twoE (hL : 120 ≤ L) (hC : MYC D V nu Y kr F SM w) (hp : nu p ≠ none) (hq1 : nu q ≠ none) (hq2 : nu q2 ≠ none) (hN : p ∈ N) (hN1 : q ≠ p) (hN2 : q2 ≠ p) (hl : V.1 p 2 = l) (hw : wcd cw v) (hb : bOp v = true) (h8 : V.1 p 8 = i_ cw) (h : MYR N w T w1) (hx : NRc w1 p x) (ha : NRc w1 q a) (hbb : NRc w1 q2 b) (hq : ∀ w', MYR N w (min T (twM (16 * l.toInt) x v a b).2) w' → NRc w' p (twM (16 * l.toInt) x v a b).1 → Q (.inl none) w') : (if w_i w1 14 p 8 = 47 then zb_X7_two_p40 D.1 L Q (some p) (some q) (some q2) (w_i w1 14 p 8) w1 else (if ¬ w_i w1 14 p 8 = 48 then zb_X7_two_p45 D.1 L Q (some p) (some q) (some q2) (w_i w1 14 p 8) 0 w1 else zb_X7_two_p40 D.1 L Q (some p) (some q) (some q2) (w_i w1 14 p 8) w1)) := by
  have hC1 := hC.r h
  have hr := bOp_r hb
  have hcw := wcd_c hw
  have hcr : -1000 ≤ cw ∧ cw ≤ 1000 := by split at hcw <;> omega
  have hv36 : v ≤ 35 ∨ 40 ≤ v := by unfold wcd at hw; omega
  have hv0 : 0 ≤ v := by unfold wcd at hw; omega
  have e47 : ((i_ cw : Int32) = 47) = (cw = 47) := i_eqk (k := 47) hcr (by decide) (by decide)
  have e48 : ((i_ cw : Int32) = 48) = (cw = 48) := i_eqk (k := 48) hcr (by decide) (by decide)
  have e49 : ((i_ cw : Int32) < 49) = (cw < 49) := i_ltk (k := 49) hcr (by decide) (by decide)
  have e52 : ((52 : Int32) < i_ cw) = (52 < cw) := i_kl (k := 52) hcr (by decide) (by decide)
  have c47 : cw = 47 ↔ v = 51 := by split at hcw <;> omega
  have c48 : cw = 48 ↔ v = 52 := by split at hcw <;> omega
  have c49 : (49 ≤ cw ∧ cw ≤ 52) ↔ (53 ≤ v ∧ v ≤ 56) := by split at hcw <;> omega
  have st66 : ∀ eq or : Bool, ((v = 51 ∨ v = 52) ↔ eq = true) → ((53 ≤ v ∧ v ≤ 56) ↔ or = true) → zb_X7_two_p66 D.1 L Q (some p) (some q) (some q2) (i_ cw) (bI eq) (bI or) w1 := fun eq or heq hor => by
    have st : ∀ g0 : Bool, ((a.2.2.2.1 = true ∨ b.2.2.2.1 = true) ↔ g0 = true) → zb_X7_two_p87 D.1 L Q (some p) (some q) (some q2) (i_ cw) (bI eq) (bI or) (bI g0) w1 := fun g0 hg => c_t87 (hC1.al hq1) (hC1.al hq2) rfl rfl ha hbb heq hor hg (fun g hg2 => c_t202 hL hC hp hq1 hq2 hN hN1 hN2 hl hw hb h hx ha hbb heq hor hg2 hq)
    unfold zb_X7_two_p66 zb_X7_two_p82
    refine ⟨q, rfl, hC1.al hq1, ?_⟩
    rw [ha.2.2.2.1]
    cases h1 : a.2.2.2.1 with
    | true =>
      rw [if_pos (show ¬ bI true = 0 by decide)]
      exact st true ⟨fun _ => rfl, fun _ => .inl h1⟩
    | false =>
      rw [if_neg (show ¬ ¬ bI false = 0 from fun z => z rfl)]
      refine ⟨q2, rfl, hC1.al hq2, ?_⟩
      rw [hbb.2.2.2.1]
      cases h2 : b.2.2.2.1 with
      | false =>
        rw [if_pos (show bI false = 0 from rfl)]
        exact st false ⟨fun z => z.elim (fun z => by rw [h1] at z; exact z) (fun z => by rw [h2] at z; exact z), fun z => absurd z Bool.false_ne_true⟩
      | true =>
        rw [if_neg (show ¬ bI true = 0 by decide)]
        exact st true ⟨fun _ => rfl, fun _ => .inr h2⟩
  have st45 : ∀ eq : Bool, ((v = 51 ∨ v = 52) ↔ eq = true) → zb_X7_two_p45 D.1 L Q (some p) (some q) (some q2) (i_ cw) (bI eq) w1 := fun eq heq => by
    unfold zb_X7_two_p45 zb_X7_two_p65
    simp only [e49, e52]
    by_cases d1 : cw < 49
    · rw [if_pos d1]
      exact st66 eq false heq ⟨fun z => by have := c49.mpr z; omega, fun z => absurd z Bool.false_ne_true⟩
    · rw [if_neg d1]
      by_cases d2 : 52 < cw
      · rw [if_pos d2]
        exact st66 eq false heq ⟨fun z => by have := c49.mpr z; omega, fun z => absurd z Bool.false_ne_true⟩
      · rw [if_neg d2]
        exact st66 eq true heq ⟨fun _ => rfl, fun _ => c49.mp (by omega)⟩
  rw [(hC1.wrd hp).trans h8]
  unfold zb_X7_two_p40
  simp only [e47, e48]
  by_cases d1 : cw = 47
  · rw [if_pos d1]
    exact st45 true ⟨fun _ => rfl, fun _ => .inl (c47.mp d1)⟩
  · rw [if_neg d1]
    by_cases d2 : cw = 48
    · rw [if_neg (fun z => z d2)]
      exact st45 true ⟨fun _ => rfl, fun _ => .inr (c48.mp d2)⟩
    · rw [if_pos d2]
      exact st45 false ⟨fun z => absurd z (fun z => z.elim (fun z => d1 (c47.mpr z)) (fun z => d2 (c48.mpr z))), fun z => absurd z Bool.false_ne_true⟩
/-- an element without an index -/
theorem c_el0 (hL : 80 ≤ L) (hC : MYC D V nu Y kr F SM w) (hp : nu p ≠ none) (hN : p ∈ N) (h3 : V.2.1 p 3 = none) (hs : s ∈ kr) (hA : Y.2.2.1 s = some A) (hY : Y.2.1 p = some A) (h : MYR N w T w1) (hx : NRc w1 p x) (hq : ∀ w', MYR N w T w' → NRc w' p (elM (SM s) x) → Q (.inl none) w') : zw D.1 L kt_M265 [.ref (w_adr D.1.2.1 6 0), va_rf (some p)] w1 Q := by
  have hC1 := hC.r h
  obtain ⟨g1, ⟨g2, g3, g4, g5, g6⟩, -⟩ := hC1.1.2.2 s hs A hA
  refine zt_X7_element_p0 (by omega) ?_
  unfold zb_X7_element_p0 zb_X7_element_p65 zb_X7_element_p66
  refine ⟨p, rfl, hC1.al hp, ?_⟩
  rw [(hC1.pt hp (by decide)).trans h3, hC1.smb hp, hY]
  rw [if_neg (show ¬ ¬ (none : Option Nat) = none from fun z => z rfl), if_pos (show ¬ (some A : Option Nat) = none from fun z => by cases z)]
  refine ⟨A, rfl, g1, ?_⟩
  rw [g2, g3, g5, g6]
  have base := ((h.i (y := (SM s).1) hN (k := 17) rfl).i (y := bI (SM s).2.2.2.1) hN (k := 20) rfl).i (y := (SM s).2.1) hN (k := 18) rfl
  have nb := ((hx.s17 (y := (SM s).1)).s20 (c := (SM s).2.2.2.1)).s18 (y := (SM s).2.1)
  have hC2 := hC.r base
  have g7 := (hC2.1.2.2 s hs A hA).2.1.2.2.1
  have fin : ∀ c : Bool, ((SM s).2.2.2.2 && !(SM s).2.2.2.1) = c → ∃ p1, some p = some p1 ∧ w_l (ws_i (ws_i (ws_i w1 14 p 17 (SM s).1) 14 p 20 (bI (SM s).2.2.2.1)) 14 p 18 (SM s).2.1) D.1.2.1 14 p1 ∧ ((bI c = 0 ∨ bI c = 1) ∧ (∃ p2, some A = some p2 ∧ w_l (ws_i (ws_i (ws_i (ws_i w1 14 p 17 (SM s).1) 14 p 20 (bI (SM s).2.2.2.1)) 14 p 18 (SM s).2.1) 14 p1 21 (bI c)) D.1.2.1 15 p2 ∧ (∃ p3, some p = some p3 ∧ w_l (ws_i (ws_i (ws_i (ws_i w1 14 p 17 (SM s).1) 14 p 20 (bI (SM s).2.2.2.1)) 14 p 18 (SM s).2.1) 14 p1 21 (bI c)) D.1.2.1 14 p3 ∧ Q (.inl none) (ws_i (ws_i (ws_i (ws_i (ws_i w1 14 p 17 (SM s).1) 14 p 20 (bI (SM s).2.2.2.1)) 14 p 18 (SM s).2.1) 14 p1 21 (bI c)) 14 p3 19 (w_i (ws_i (ws_i (ws_i w1 14 p 17 (SM s).1) 14 p 20 (bI (SM s).2.2.2.1)) 14 p 18 (SM s).2.1) 15 p2 7))))) := fun c hc => by
    have b2 := base.i (y := bI c) hN (k := 21) rfl
    have hC3 := hC.r b2
    refine ⟨p, rfl, hC2.al hp, bI_01, A, rfl, (hC3.1.2.2 s hs A hA).1, p, rfl, hC3.al hp, ?_⟩
    rw [g7]
    refine hq _ (b2.i hN rfl) ?_
    have nc := (nb.s21 (c := c)).s19 (y := (SM s).2.2.1)
    unfold elM
    rw [hc]
    exact nc
  refine ⟨bI_01, ?_⟩
  cases hcs : (SM s).2.2.2.2 with
  | false =>
    rw [if_pos (show bI false = 0 from rfl)]
    exact fin false (by rw [hcs] <;> rfl)
  | true =>
    rw [if_neg (show ¬ bI true = 0 by decide)]
    by_cases d : bI (SM s).2.2.2.1 = 0
    · rw [if_neg (fun z => z d)]
      exact fin true (by rw [hcs, bI_0.mp d] <;> rfl)
    · rw [if_pos d]
      have e : (SM s).2.2.2.1 = true := by
        cases hh : (SM s).2.2.2.1 with
        | true => rfl
        | false => exact absurd (by rw [hh]; rfl) d
      exact fin false (by rw [hcs, e] <;> rfl)
end MYZ
