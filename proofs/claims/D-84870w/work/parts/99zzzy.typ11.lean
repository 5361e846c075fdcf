/-! ===== TYPES, part 11: MeetingHouse: what changes, given, wrong, fault ===== -/
def pT2 (c k : Nat) : Bool := pk 14 [11, 17, 18, 19, 20, 21] c k || pk 2 [1, 2] c k
/-- nodes of N are filled, faults told -/
def FXN (N : List Nat) (w w' : wS) : Prop := frm pT2 w w' ∧ ∀ o, o ∉ N → ∀ k, w_i w' 14 o k = w_i w 14 o k
def NRc (w : wS) (p : Nat) (x : nF) : Prop := w_i w 14 p 17 = x.1 ∧ w_i w 14 p 18 = x.2.1 ∧ w_i w 14 p 19 = x.2.2.1 ∧ w_i w 14 p 20 = bI x.2.2.2.1 ∧ w_i w 14 p 21 = bI x.2.2.2.2.1 ∧ w_i w 14 p 11 = bI x.2.2.2.2.2
/-- what MeetingHouse reads of nodes and symbols -/
def TCs (D : pD) (V : pV) (nu : pNz) (Y : yV) (kr : List Nat) (SM : Nat → sF) (w : wS) : Prop := zA D.1 ∧ (∀ a, nu a ≠ none → w_l w D.1.2.1 14 a ∧ (∀ k, k < 8 → w_p w 14 a k = V.2.1 a k) ∧ (w_i w 14 a 2 = V.1 a 2 ∧ w_i w 14 a 8 = V.1 a 8 ∧ w_i w 14 a 12 = V.1 a 12) ∧ (n10 D (V.2.1 a 0) ∨ w_i w 14 a 10 = V.1 a 10) ∧ w_p w 14 a 16 = Y.2.1 a) ∧ ∀ s ∈ kr, ∀ A, Y.2.2.1 s = some A → w_l w D.1.2.1 15 A ∧ (w_i w 15 A 5 = (SM s).1 ∧ w_i w 15 A 6 = (SM s).2.1 ∧ w_i w 15 A 7 = (SM s).2.2.1 ∧ w_i w 15 A 9 = bI (SM s).2.2.2.1 ∧ w_i w 15 A 10 = bI (SM s).2.2.2.2) ∧ ∃ c : Nat, c ≤ 9 ∧ Y.2.2.2 s = i_ c ∧ w_p w 15 A 0 = some (D.1.1.1 (wc c))
/-- formals, as MeetingHouse has them -/
def FMM (D : pD) (V : pV) (nu : pNz) (Y : yV) (SM : Nat → sF) (w : wS) : List (Nat × Bool × Bool × Bool) → Option Nat → Prop
  | [], x => x = none
  | f :: fs, x => ∃ m A : Nat, x = some m ∧ nu m ≠ none ∧ Y.2.1 m = some A ∧ w_l w D.1.2.1 15 A ∧ (w_p w 15 A 0 = some (D.1.1.1 53) ↔ f.2.2.2 = true) ∧ w_i w 15 A 12 = bI f.2.1 ∧ (w_i w 15 A 5 = (SM f.1).1 ∧ w_i w 15 A 9 = bI (SM f.1).2.2.2.1) ∧ FMM D V nu Y SM w fs (V.2.1 m 7)
def TFM (D : pD) (V : pV) (nu : pNz) (Y : yV) (kr : List Nat) (F : tF) (SM : Nat → sF) (w : wS) : Prop := ∀ s ∈ kr, ∀ A, Y.2.2.1 s = some A → Y.2.2.2 s = i_ (8 : Nat) → ∃ d : Nat, w_p w 15 A 19 = some d ∧ nu d ≠ none ∧ FMM D V nu Y SM w (F s) (V.2.1 d 3)
def MYC (D : pD) (V : pV) (nu : pNz) (Y : yV) (kr : List Nat) (F : tF) (SM : Nat → sF) (w : wS) : Prop := TCs D V nu Y kr SM w ∧ TFM D V nu Y kr F SM w ∧ fkk (w_i w 2 0 1)
def MYR (N : List Nat) (w : wS) (T : Int) (w' : wS) : Prop := FXN N w w' ∧ fkk (w_i w' 2 0 1) ∧ fcc w' = min (fcc w) T
section MYP
variable {D : pD} {V : pV} {tn : Nat → Prop} {nu : pNz} {Y : yV} {kr : List Nat} {G : tG} {F : tF} {SM : Nat → sF} {w w' w'' w1 : wS} {l y ty u : Int32} {f n m p o k s L : Nat} {v T T' : Int} {C : Nat → Prop} {N N' : List Nat} {Q : kx_Rs → wS → Prop} {x : nF} {c : Bool} {X : String → wS → Prop}
theorem FXN.rf : FXN N w w := ⟨frm.rf, fun _ _ _ => rfl⟩
theorem FXN.tr (h : FXN N w w') (h' : FXN N w' w'') : FXN N w w'' := ⟨frm.tr h.1 h'.1, fun o ho k => (h'.2 o ho k).trans (h.2 o ho k)⟩
theorem FXN.mono (h : FXN N w w') (hN : ∀ o, o ∈ N → o ∈ N') : FXN N' w w' := ⟨h.1, fun o ho k => h.2 o (fun z => ho (hN o z)) k⟩
theorem pT2_14 (h : pT2 n k = false) : pk 14 [11, 17, 18, 19, 20, 21] n k = false := (Bool.or_eq_false_iff.mp h).1
theorem pT2_2 (h : pT2 n k = false) : pk 2 [1, 2] n k = false := (Bool.or_eq_false_iff.mp h).2
theorem FXN.i (hp : p ∈ N) (hk : [11, 17, 18, 19, 20, 21].any (Nat.beq k) = true) : FXN N w (ws_i w 14 p k y) := ⟨(frm_i hk).wk (fun _ _ h => pT2_14 h), fun o ho j => by rw [Rii, if_neg (fun z : j = k ∧ 14 = 14 ∧ o = p => ho (z.2.2.symm ▸ hp))]⟩
theorem ru_fr : frm (pk 2 [1, 2]) w (ru w T) := by
  unfold ru
  split
  · exact frm.rf
  · exact frm.tr (frm_i rfl) (frm_i rfl)
theorem ru_14 : w_i (ru w T) 14 o k = w_i w 14 o k := ru_fr.i rfl
theorem FXN.ru : FXN N w (ru w T) := ⟨ru_fr.wk (fun _ _ h => pT2_2 h), fun _ _ _ => ru_14⟩
theorem NRc.fx (h : NRc w p x) (hf : FXN N w w') (hp : p ∉ N) : NRc w' p x := by
  obtain ⟨h1, h2, h3, h4, h5, h6⟩ := h
  exact ⟨(hf.2 p hp _).trans h1, (hf.2 p hp _).trans h2, (hf.2 p hp _).trans h3, (hf.2 p hp _).trans h4, (hf.2 p hp _).trans h5, (hf.2 p hp _).trans h6⟩
theorem NRc.ru (h : NRc w p x) : NRc (ru w T) p x := by
  obtain ⟨h1, h2, h3, h4, h5, h6⟩ := h
  exact ⟨ru_14.trans h1, ru_14.trans h2, ru_14.trans h3, ru_14.trans h4, ru_14.trans h5, ru_14.trans h6⟩
/-- one of its fields is set -/
theorem NRc.s17 (h : NRc w p x) : NRc (ws_i w 14 p 17 y) p (y, x.2) := by
  obtain ⟨h1, h2, h3, h4, h5, h6⟩ := h
  refine ⟨by rw [Rii, if_pos ⟨rfl, rfl, rfl⟩], ?_, ?_, ?_, ?_, ?_⟩ <;> rw [Rii, if_neg (fun z => absurd z.1 (by decide))] <;> assumption
theorem NRc.s18 (h : NRc w p x) : NRc (ws_i w 14 p 18 y) p (x.1, y, x.2.2) := by
  obtain ⟨h1, h2, h3, h4, h5, h6⟩ := h
  refine ⟨?_, by rw [Rii, if_pos ⟨rfl, rfl, rfl⟩], ?_, ?_, ?_, ?_⟩ <;> rw [Rii, if_neg (fun z => absurd z.1 (by decide))] <;> assumption
theorem NRc.s19 (h : NRc w p x) : NRc (ws_i w 14 p 19 y) p (x.1, x.2.1, y, x.2.2.2) := by
  obtain ⟨h1, h2, h3, h4, h5, h6⟩ := h
  refine ⟨?_, ?_, by rw [Rii, if_pos ⟨rfl, rfl, rfl⟩], ?_, ?_, ?_⟩ <;> rw [Rii, if_neg (fun z => absurd z.1 (by decide))] <;> assumption
theorem NRc.s20 (h : NRc w p x) : NRc (ws_i w 14 p 20 (bI c)) p (x.1, x.2.1, x.2.2.1, c, x.2.2.2.2) := by
  obtain ⟨h1, h2, h3, h4, h5, h6⟩ := h
  refine ⟨?_, ?_, ?_, by rw [Rii, if_pos ⟨rfl, rfl, rfl⟩], ?_, ?_⟩ <;> rw [Rii, if_neg (fun z => absurd z.1 (by decide))] <;> assumption
theorem NRc.s21 (h : NRc w p x) : NRc (ws_i w 14 p 21 (bI c)) p (x.1, x.2.1, x.2.2.1, x.2.2.2.1, c, x.2.2.2.2.2) := by
  obtain ⟨h1, h2, h3, h4, h5, h6⟩ := h
  refine ⟨?_, ?_, ?_, ?_, by rw [Rii, if_pos ⟨rfl, rfl, rfl⟩], ?_⟩ <;> rw [Rii, if_neg (fun z => absurd z.1 (by decide))] <;> assumption
theorem NRc.s11 (h : NRc w p x) : NRc (ws_i w 14 p 11 (bI c)) p (x.1, x.2.1, x.2.2.1, x.2.2.2.1, x.2.2.2.2.1, c) := by
  obtain ⟨h1, h2, h3, h4, h5, h6⟩ := h
  refine ⟨?_, ?_, ?_, ?_, ?_, by rw [Rii, if_pos ⟨rfl, rfl, rfl⟩]⟩ <;> rw [Rii, if_neg (fun z => absurd z.1 (by decide))] <;> assumption
theorem MYR.rf (h : fkk (w_i w 2 0 1)) : MYR N w NOF w := ⟨FXN.rf, h, by
  have := fcd_le (y := w_i w 2 0 2) h
  unfold fcc
  omega⟩
theorem MYR.tr (h : MYR N w T w') (h' : MYR N w' T' w'') : MYR N w (min T T') w'' := ⟨h.1.tr h'.1, h'.2.1, by
  have h1 := h.2.2
  have h2 := h'.2.2
  omega⟩
theorem MYR.e (h : MYR N w T w') (e : T = T') : MYR N w T' w' := e ▸ h
theorem MYR.mono (h : MYR N w T w') (hN : ∀ o, o ∈ N → o ∈ N') : MYR N' w T w' := ⟨h.1.mono hN, h.2⟩
theorem MYR.nof (h : MYR N w (min NOF T) w') (hk : fkk (w_i w 2 0 1)) : MYR N w T w' := ⟨h.1, h.2.1, by
  have h1 := fcd_le (y := w_i w 2 0 2) hk
  have h2 := h.2.2
  have h3 : fcc w = fcd (w_i w 2 0 1) (w_i w 2 0 2) := rfl
  omega⟩
theorem MYR.i (h : MYR N w T w') (hp : p ∈ N) (hk : [11, 17, 18, 19, 20, 21].any (Nat.beq k) = true) : MYR N w T (ws_i w' 14 p k y) := by
  have e : ∀ j, w_i (ws_i w' 14 p k y) 2 0 j = w_i w' 2 0 j := fun j => by rw [Rii, if_neg (fun z => absurd z.2.1 (by decide))]
  refine ⟨h.1.tr (FXN.i hp hk), by rw [e]; exact h.2.1, ?_⟩
  unfold fcc
  rw [e, e]
  exact h.2.2
theorem MYR.ru (h : MYR N w T w') (hk : 1 ≤ k ∧ k ≤ 15) : MYR N w (min T (16 * l.toInt + k)) (ru w' (fln k l)) := by
  obtain ⟨h1, h2⟩ := ru_fcc (T := fln k l) h.2.1 (.inr ⟨k, l, hk, rfl⟩)
  refine ⟨h.1.tr FXN.ru, h2, ?_⟩
  have h3 := h.2.2
  have h4 : fln k l = 16 * l.toInt + k := rfl
  omega
theorem pT2_15 (h : n = 15) : pT2 n k = false := by
  subst h
  rfl
theorem pT2_p : ∀ {k : Nat}, k < 8 → pT2 14 k = false := by decide
theorem FMM.fr (hf : FXN N w w') : ∀ {fs : List (Nat × Bool × Bool × Bool)} {x : Option Nat}, FMM D V nu Y SM w fs x → FMM D V nu Y SM w' fs x
  | [], _, h => h
  | f :: fs, x, ⟨m, A, h1, h2, h3, h4, h5, h6, ⟨h7, h8⟩, h9⟩ => ⟨m, A, h1, h2, h3, hf.1.l h4, by rw [hf.1.p (pT2_15 rfl)]; exact h5, (hf.1.i (pT2_15 rfl)).trans h6, ⟨(hf.1.i (pT2_15 rfl)).trans h7, (hf.1.i (pT2_15 rfl)).trans h8⟩, FMM.fr hf h9⟩
theorem MYC.fr (h : MYC D V nu Y kr F SM w) (hf : FXN N w w') (hk : fkk (w_i w' 2 0 1)) : MYC D V nu Y kr F SM w' := by
  obtain ⟨⟨h0, h1, h2⟩, h3, -⟩ := h
  refine ⟨⟨h0, fun a ha => ?_, fun s hs A hA => ?_⟩, fun s hs A hA h8 => ?_, hk⟩
  · obtain ⟨g1, g2, ⟨g3, g4, g5⟩, g6, g7⟩ := h1 a ha
    exact ⟨hf.1.l g1, fun k hk => (hf.1.p (pT2_p hk)).trans (g2 k hk), ⟨(hf.1.i rfl).trans g3, (hf.1.i rfl).trans g4, (hf.1.i rfl).trans g5⟩, g6.imp id (fun g => (hf.1.i rfl).trans g), (hf.1.p rfl).trans g7⟩
  · obtain ⟨g1, ⟨g2, g3, g4, g5, g6⟩, c, g7, g8, g9⟩ := h2 s hs A hA
    exact ⟨hf.1.l g1, ⟨(hf.1.i rfl).trans g2, (hf.1.i rfl).trans g3, (hf.1.i rfl).trans g4, (hf.1.i rfl).trans g5, (hf.1.i rfl).trans g6⟩, c, g7, g8, (hf.1.p rfl).trans g9⟩
  · obtain ⟨d, g1, g2, g3⟩ := h3 s hs A hA h8
    exact ⟨d, (hf.1.p rfl).trans g1, g2, FMM.fr hf g3⟩
theorem MYC.r (h : MYC D V nu Y kr F SM w) (hr : MYR N w T w') : MYC D V nu Y kr F SM w' := h.fr hr.1 hr.2.1
end MYP
