/-! ===== ROUNDS, part 2: faults that are told; what a name means ===== -/
/-- a fault of the rules by its line and number, as one number; none -/
def NOF : Int := 1099511627776
def fln (k : Nat) (l : Int32) : Int := 16 * l.toInt + k
def fcd (k l : Int32) : Int := if k = 0 then NOF else 16 * l.toInt + k.toInt
def fcc (w : wS) : Int := fcd (w_i w 2 0 1) (w_i w 2 0 2)
def fct (t : wS) : Int := fcd (w_i t 12 0 64) (w_i t 12 0 65)
def fkk (k : Int32) : Prop := 0 ≤ k.toInt ∧ k.toInt ≤ 15
/-- a number of a fault, or none -/
def FTK (T : Int) : Prop := T = NOF ∨ ∃ (k : Nat) (l : Int32), (1 ≤ k ∧ k ≤ 15) ∧ T = fln k l
/-- MeetingHouse, the twin behind such a fault -/
def ru (w : wS) (T : Int) : wS := if fcc w ≤ T then w else ws_i (ws_i w 2 0 1 (i_ (T % 16))) 2 0 2 (i_ (T / 16))
def tu (t : wS) (T : Int) : wS := if fct t ≤ T then t else ws_i (ws_i t 12 0 64 (i_ (T % 16))) 12 0 65 (i_ (T / 16))
section RGS
variable {E : zE} {L : Nat} {w t : wS} {k : Nat} {l x y : Int32} {T T' : Int} {Q : kx_Rs → wS → Prop}
theorem fcd_le (h : fkk x) : fcd x y ≤ NOF := by
  have h1 := i_rng y
  unfold fkk at h
  unfold fcd NOF
  split <;> omega
theorem fln_m (hk : 1 ≤ k ∧ k ≤ 15) : fln k l % 16 = k ∧ fln k l / 16 = l.toInt ∧ fln k l < NOF := by
  have h1 := i_rng l
  unfold fln NOF
  omega
theorem fkk_i (hk : 1 ≤ k ∧ k ≤ 15) : fkk (i_ k) ∧ ¬ (i_ k : Int32) = 0 ∧ (i_ k : Int32).toInt = k := by
  have e : (i_ k : Int32).toInt = k := i_toInt (by omega)
  refine ⟨⟨by omega, by omega⟩, fun z => ?_, e⟩
  rw [z] at e
  have : (0 : Int32).toInt = 0 := rfl
  omega
theorem fcd_fln (hk : 1 ≤ k ∧ k ≤ 15) : fcd (i_ (fln k l % 16)) (i_ (fln k l / 16)) = fln k l := by
  obtain ⟨e1, e2, -⟩ := fln_m (l := l) hk
  obtain ⟨-, h2, h3⟩ := fkk_i hk
  rw [e1, e2, ← i_of]
  unfold fcd
  rw [if_neg h2, h3]
  rfl
theorem ru_fcc (h : fkk (w_i w 2 0 1)) (hT : FTK T) : fcc (ru w T) = min (fcc w) T ∧ fkk (w_i (ru w T) 2 0 1) := by
  unfold ru
  by_cases c : fcc w ≤ T
  · rw [if_pos c]
    exact ⟨by omega, h⟩
  · rw [if_neg c]
    rcases hT with e | ⟨k, l, hk, e⟩
    · subst e
      exact absurd (fcd_le h) c
    · subst e
      have e1 : w_i (ws_i (ws_i w 2 0 1 (i_ (fln k l % 16))) 2 0 2 (i_ (fln k l / 16))) 2 0 1 = i_ (fln k l % 16) := by rw [Rii, if_neg (by decide), Rii, if_pos ⟨rfl, rfl, rfl⟩]
      have e2 : w_i (ws_i (ws_i w 2 0 1 (i_ (fln k l % 16))) 2 0 2 (i_ (fln k l / 16))) 2 0 2 = i_ (fln k l / 16) := by rw [Rii, if_pos ⟨rfl, rfl, rfl⟩]
      refine ⟨?_, ?_⟩
      · unfold fcc at c ⊢
        rw [e1, e2, fcd_fln hk]
        omega
      · rw [e1, (fln_m (l := l) hk).1]
        exact (fkk_i hk).1
theorem tu_fct (h : fkk (w_i t 12 0 64)) (hT : FTK T) : fct (tu t T) = min (fct t) T ∧ fkk (w_i (tu t T) 12 0 64) := by
  unfold tu
  by_cases c : fct t ≤ T
  · rw [if_pos c]
    exact ⟨by omega, h⟩
  · rw [if_neg c]
    rcases hT with e | ⟨k, l, hk, e⟩
    · subst e
      exact absurd (fcd_le h) c
    · subst e
      have e1 : w_i (ws_i (ws_i t 12 0 64 (i_ (fln k l % 16))) 12 0 65 (i_ (fln k l / 16))) 12 0 64 = i_ (fln k l % 16) := by rw [Rii, if_neg (by decide), Rii, if_pos ⟨rfl, rfl, rfl⟩]
      have e2 : w_i (ws_i (ws_i t 12 0 64 (i_ (fln k l % 16))) 12 0 65 (i_ (fln k l / 16))) 12 0 65 = i_ (fln k l / 16) := by rw [Rii, if_pos ⟨rfl, rfl, rfl⟩]
      refine ⟨?_, ?_⟩
      · unfold fct at c ⊢
        rw [e1, e2, fcd_fln hk]
        omega
      · rw [e1, (fln_m (l := l) hk).1]
        exact (fkk_i hk).1
theorem ru_nof (h : fkk (w_i w 2 0 1)) : ru w NOF = w := if_pos (fcd_le h)
theorem tu_nof (h : fkk (w_i t 12 0 64)) : tu t NOF = t := if_pos (fcd_le h)
/-- MeetingHouse tells a fault -/
theorem c_rule (hL : 40 ≤ L) (h : fkk (w_i w 2 0 1)) (hk : 1 ≤ k ∧ k ≤ 15) (hq : Q (.inl none) (ru w (fln k l))) : zw E L kt_M56 [.ref (w_adr E.2.1 2 0), .int (i_ k), .int l] w Q := by
  refine zt_X3_rule_p0 (by omega) ?_
  simp only [zb_X3_rule_p0, zb_X3_rule_p32, zb_X3_rule_p31]
  obtain ⟨e1, e2, e3⟩ := fln_m (l := l) hk
  obtain ⟨f1, f2, f3⟩ := fkk_i hk
  have hgt : ¬ fcc w ≤ fln k l → Q (.inl none) (ws_i (ws_i w 2 0 1 (i_ k)) 2 0 2 l) := fun e => by
    unfold ru at hq
    rw [if_neg e, e1, e2, ← i_of] at hq
    exact hq
  have hle : fcc w ≤ fln k l → Q (.inl none) w := fun e => by
    unfold ru at hq
    rw [if_pos e] at hq
    exact hq
  unfold fcc fcd at hgt hle
  by_cases c0 : w_i w 2 0 1 = 0
  · rw [if_pos c0]
    rw [if_pos c0] at hgt
    exact hgt (by omega)
  rw [if_neg c0]
  rw [if_neg c0] at hgt hle
  unfold fkk at h
  unfold fln at hgt hle
  have r0 : (w_i w 2 0 1).toInt ≠ 0 := fun z => c0 (by rw [i_of (w_i w 2 0 1), z]; rfl)
  by_cases c1 : w_i w 2 0 2 < l
  · rw [if_pos c1]
    rw [Int32.lt_iff_toInt_lt] at c1
    exact hle (by omega)
  rw [if_neg c1]
  rw [Int32.lt_iff_toInt_lt] at c1
  by_cases c2 : l = w_i w 2 0 2
  · rw [if_neg (not_not_intro c2)]
    have c2 := congrArg Int32.toInt c2
    by_cases c3 : i_ k < w_i w 2 0 1
    · rw [if_pos c3]
      rw [Int32.lt_iff_toInt_lt] at c3
      exact hgt (by omega)
    · rw [if_neg c3]
      rw [Int32.lt_iff_toInt_lt] at c3
      exact hle (by omega)
  · rw [if_pos c2]
    have c2 : l.toInt ≠ (w_i w 2 0 2).toInt := fun z => c2 (by rw [i_of l, z, ← i_of])
    exact hgt (by omega)
/-- the twin tells one -/
theorem t_tells (hL : 40 ≤ L) (h : fkk (w_i t 12 0 64)) (hk : 1 ≤ k ∧ k ≤ 15) (hq : Q (.inl none) (tu t (fln k l))) : zw E L kt_M560 [.ref (w_adr E.2.1 12 0), .int (i_ k), .int l] t Q := by
  refine zt_X13_tells_p0 (by omega) ?_
  simp only [zb_X13_tells_p0, zb_X13_tells_p31, zb_X13_tells_p41]
  obtain ⟨e1, e2, e3⟩ := fln_m (l := l) hk
  obtain ⟨f1, f2, f3⟩ := fkk_i hk
  have hgt : ¬ fct t ≤ fln k l → Q (.inl none) (ws_i (ws_i t 12 0 64 (i_ k)) 12 0 65 l) := fun e => by
    unfold tu at hq
    rw [if_neg e, e1, e2, ← i_of] at hq
    exact hq
  have hle : fct t ≤ fln k l → Q (.inl none) t := fun e => by
    unfold tu at hq
    rw [if_pos e] at hq
    exact hq
  unfold fct fcd at hgt hle
  by_cases c0 : w_i t 12 0 64 = 0
  · rw [if_pos c0]
    rw [if_pos c0] at hgt
    exact hgt (by omega)
  rw [if_neg c0]
  rw [if_neg c0] at hgt hle
  unfold fkk at h
  unfold fln at hgt hle
  have r0 : (w_i t 12 0 64).toInt ≠ 0 := fun z => c0 (by rw [i_of (w_i t 12 0 64), z]; rfl)
  by_cases c1 : l < w_i t 12 0 65
  · rw [if_pos c1]
    rw [Int32.lt_iff_toInt_lt] at c1
    exact hgt (by omega)
  rw [if_neg c1]
  rw [Int32.lt_iff_toInt_lt] at c1
  by_cases c2 : l = w_i t 12 0 65
  · rw [if_neg (not_not_intro c2)]
    have c2 := congrArg Int32.toInt c2
    by_cases c3 : w_i t 12 0 64 ≤ i_ k
    · rw [if_pos c3]
      rw [Int32.le_iff_toInt_le] at c3
      exact hle (by omega)
    · rw [if_neg c3]
      rw [Int32.le_iff_toInt_le] at c3
      exact hgt (by omega)
  · rw [if_pos c2]
    have c2 : l.toInt ≠ (w_i t 12 0 65).toInt := fun z => c2 (by rw [i_of l, z, ← i_of])
    exact hle (by omega)
end RGS
