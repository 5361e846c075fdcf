/-! ===== ROUNDS, part 3: what a name means ===== -/
/-- a symbol's name on both sides: one of the text, or one that is predefined and does not stand there -/
def nmS (D : pD) (x y : Int32) : Prop := nmr D x y ∨ (y = i_ (-9) ∧ ∃ c : Nat, x = i_ c ∧ (c < D.2.1.length ∧ c < 1400) ∧ ∀ c', c' < D.2.2.1.length → D.2.2.1.getD c' [] ≠ D.2.1.getD c [])
/-- no name stands twice in a table -/
def NDD (D : pD) : Prop := D.2.1.Nodup ∧ D.2.2.1.Nodup
theorem nm_iff {D : pD} {x y x' y' : Int32} (hN : NDD D) (h : nmS D x y) (h' : nmr D x' y') : (x = x' ↔ y = y') := by
  obtain ⟨c, c', ⟨rfl, rfl⟩, ⟨h1, h2, h3, h4⟩, h5⟩ := h'
  rcases h with ⟨b, b', ⟨rfl, rfl⟩, ⟨g1, g2, g3, g4⟩, g5⟩ | ⟨rfl, b, rfl, ⟨g1, g2⟩, g3⟩
  · rw [i_eq (by omega) (by omega), i_eq (by omega) (by omega)]
    constructor
    · intro e
      have e : b = c := by omega
      subst e
      have := getD_inj hN.2 g2 h2 (g5.symm.trans h5)
      omega
    · intro e
      have e : b' = c' := by omega
      subst e
      have := getD_inj hN.1 g1 h1 (g5.trans h5.symm)
      omega
  · rw [i_eq (by omega) (by omega), i_eq (by omega) (by omega)]
    constructor
    · intro e
      have e : b = c := by omega
      subst e
      exact absurd h5.symm (g3 c' h2)
    · intro e
      omega
/-- MeetingHouse's chain of known names -/
def CHN (w : wS) (ys : Nat → Option Nat) : List Nat → Option Nat → Prop
  | [], x => x = none
  | s :: r, x => x = ys s ∧ ∃ A, ys s = some A ∧ CHN w ys r (w_p w 15 A 4)
/-- the twin's row of known names -/
def KNr (t : wS) : List Nat → Prop
  | [] => True
  | s :: r => w_a t 12 0 57 r.length = i_ s ∧ KNr t r
/-- symbols and their names -/
def NMS (D : pD) (w t : wS) (ys : Nat → Option Nat) (kr : List Nat) : Prop := ∀ s ∈ kr, s < 6100 ∧ ∃ A, ys s = some A ∧ w_l w D.1.2.1 15 A ∧ nmS D (w_i w 15 A 1) (w_a t 12 0 45 s)
/-- the latest known name that is so -/
def fnd (t : wS) (kr : List Nat) (y : Int32) : Option Nat := kr.find? (fun s => decide (w_a t 12 0 45 s = y))
def fT (r : Option Nat) (l : Int32) : Int := if r = none then fln 5 l else NOF
theorem fT_ok {r : Option Nat} {l : Int32} : FTK (fT r l) := by
  unfold fT
  split
  · exact .inr ⟨5, l, ⟨by decide, by decide⟩, rfl⟩
  · exact .inl rfl
theorem NMS.tl {D : pD} {w t : wS} {ys : Nat → Option Nat} {s : Nat} {kr : List Nat} (h : NMS D w t ys (s :: kr)) : NMS D w t ys kr := fun s' hs => h s' (List.mem_cons_of_mem _ hs)
theorem fnd_mem {t : wS} {kr : List Nat} {y : Int32} {s : Nat} (h : fnd t kr y = some s) : s ∈ kr ∧ w_a t 12 0 45 s = y := ⟨List.mem_of_find?_eq_some h, by have := List.find?_some h; simpa using this⟩
theorem fnd_cons {t : wS} {kr : List Nat} {y : Int32} {s : Nat} : fnd t (s :: kr) y = if w_a t 12 0 45 s = y then some s else fnd t kr y := by
  unfold fnd
  rw [List.find?_cons]
  split <;> simp_all
section FND
variable {D : pD} {E : zE} {L : Nat} {w t : wS} {ys : Nat → Option Nat} {x y l : Int32} {Q : kx_Rs → wS → Prop}
theorem c_find_loop (hL : 62 ≤ L) (hN : NDD D) (hx : nmr D x y) (hf : fkk (w_i w 2 0 1)) : ∀ {kr : List Nat} {x3 : Option Nat}, CHN w ys kr x3 → NMS D w t ys kr → Q (.inl (some (va_rf ((fnd t kr y).bind ys)))) (ru w (fT (fnd t kr y) l)) → zL_X6_find_p5 D.1 L Q x l x3 w
  | [], x3, hc, hm, hq => by
    have hc : x3 = none := hc
    subst hc
    refine zt_X6_find_p5 (by omega) ?_
    simp only [zb_X6_find_p5, zb_X6_find_p25, zb_X6_find_p38]
    rw [if_pos trivial, if_neg (not_not_intro trivial)]
    refine c_rule (k := 5) (by omega) hf ⟨by decide, by decide⟩ ?_
    exact fun _ => hq
  | s :: kr, x3, hc, hm, hq => by
    obtain ⟨rfl, A, hA, hc⟩ := hc
    obtain ⟨-, A', hA', hw, hn⟩ := hm s List.mem_cons_self
    rw [hA] at hA'
    cases hA'
    rw [fnd_cons] at hq
    refine zt_X6_find_p5 (by omega) ?_
    simp only [zb_X6_find_p5, zb_X6_find_p25, zb_X6_find_p38, hA]
    rw [if_neg (by simp)]
    refine ⟨A, rfl, hw, ?_⟩
    have hi := nm_iff hN hn hx
    by_cases e : w_i w 15 A 1 = x
    · rw [if_pos e, if_pos (by simp)]
      rw [if_pos (hi.mp e)] at hq
      have e2 : fT (some s) l = NOF := rfl
      rw [e2, ru_nof hf] at hq
      simp only [Option.bind_some, hA] at hq
      exact hq
    · rw [if_neg e]
      rw [if_neg (fun z => e (hi.mpr z))] at hq
      exact c_find_loop hL hN hx hf hc hm.tl hq
/-- MeetingHouse looks a name up -/
theorem c_find (hL : 80 ≤ L) (hN : NDD D) (hx : nmr D x y) (hf : fkk (w_i w 2 0 1)) {kr : List Nat} (hc : CHN w ys kr (w_p w 5 0 3)) (hm : NMS D w t ys kr) (hq : Q (.inl (some (va_rf ((fnd t kr y).bind ys)))) (ru w (fT (fnd t kr y) l))) : zw D.1 L kt_M142 [.ref (w_adr D.1.2.1 5 0), .int x, .int l] w Q := by
  refine zt_X6_find_p0 (by omega) ?_
  simp only [zb_X6_find_p0]
  exact c_find_loop (by omega) hN hx hf hc hm hq
theorem t_meant_loop (hL : 60 ≤ L) (hl : w_n t 12 0 57 = 6100 ∧ w_n t 12 0 45 = 6100) : ∀ {kr : List Nat}, kr.length ≤ 6000 → KNr t kr → (∀ s ∈ kr, s < 6100) → Q (.inl (some (.int (match fnd t kr y with | some s => i_ s | none => -1)))) t → zL_X13_meant_p7 E L Q y (i_ kr.length - 1) t
  | [], hk, h, hs, hq => by
    refine zt_X13_meant_p7 (by omega) ?_
    simp only [zb_X13_meant_p7]
    rw [if_pos (by decide)]
    exact hq
  | s :: kr, hk, h, hs, hq => by
    obtain ⟨h1, h2⟩ := h
    have hs0 := hs s List.mem_cons_self
    rw [List.length_cons] at hk
    have e : i_ ((s :: kr).length : Nat) - 1 = i_ kr.length := by
      rw [List.length_cons, i_1, i_sub]
      congr 1
      omega
    rw [e]
    refine zt_X13_meant_p7 (by omega) ?_
    simp only [zb_X13_meant_p7, i_nat' (show kr.length < 2147483648 by omega), h1, i_nat' (show s < 2147483648 by omega)]
    rw [if_neg (by rw [i_0, i_lt (by omega) (by omega)]; omega)]
    refine ⟨i_inb' (by omega) (by rw [hl.1]; omega), i_inb' (by omega) (by rw [hl.2]; omega), ?_⟩
    rw [fnd_cons] at hq
    by_cases c : w_a t 12 0 45 s = y
    · rw [if_neg (not_not_intro c)]
      rw [if_pos c] at hq
      exact ⟨i_inb' (by omega) (by rw [hl.1]; omega), hq⟩
    · rw [if_pos c]
      rw [if_neg c] at hq
      have e2 : (i_ kr.length : Int32) + (-1) = i_ kr.length - 1 := by
        rw [i_m1, i_1, i_add, i_sub]
        congr 1
      rw [e2]
      exact t_meant_loop hL hl (by omega) h2 (fun z hz => hs z (List.mem_cons_of_mem _ hz)) hq
/-- the twin's number of what a name means -/
def sno (r : Option Nat) : Int32 := match r with
  | some s => i_ s
  | none => -1
/-- the twin looks a name up -/
theorem t_find (hL : 100 ≤ L) (hl : w_n t 12 0 57 = 6100 ∧ w_n t 12 0 45 = 6100) (hf : fkk (w_i t 12 0 64)) {kr : List Nat} (hk : kr.length ≤ 6000) (hkn : w_i t 12 0 56 = i_ kr.length) (h : KNr t kr) (hs : ∀ s ∈ kr, s < 6100) (hq : Q (.inl (some (.int (sno (fnd t kr y))))) (tu t (fT (fnd t kr y) l))) : zw E L kt_M411 [.ref (w_adr E.2.1 12 0), .int y, .int l] t Q := by
  refine zt_X13_find_p0 (by omega) ?_
  simp only [zb_X13_find_p0, zb_X13_find_p17]
  refine zt_X13_meant_p0 (by omega) ?_
  simp only [zb_X13_meant_p0, hkn]
  refine t_meant_loop (by omega) hl hk h hs ?_
  simp only [wk1]
  intro _
  unfold sno at hq
  cases e : fnd t kr y with
  | some s =>
    simp only [e] at hq
    have hs1 := hs s (fnd_mem e).1
    have hne : ¬ (i_ (s : Int) : Int32) = -1 := fun z => by
      rw [i_m1, i_eq (by omega) (by omega)] at z
      omega
    simp only [if_pos hne]
    have e2 : fT (some s) l = NOF := rfl
    rw [e2, tu_nof hf] at hq
    exact hq
  | none =>
    simp only [e] at hq
    simp only [not_true_eq_false, if_false]
    refine t_tells (k := 5) (by omega) hf ⟨by decide, by decide⟩ ?_
    exact fun _ => hq
end FND
