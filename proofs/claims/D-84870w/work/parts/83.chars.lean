/-! ===== TOKENS, part 1: sorts of bytes, spans; what both programs ask of bytes ===== -/
def isL (c : Int) : Bool := (decide (97 ≤ c) && decide (c ≤ 122)) || (decide (65 ≤ c) && decide (c ≤ 90))
def isD (c : Int) : Bool := decide (48 ≤ c) && decide (c ≤ 57)
def isN (c : Int) : Bool := isL c || (isD c || decide (c = 46))
def isH (c : Int) : Bool := isD c || (decide (65 ≤ c) && decide (c ≤ 70))
def bI (b : Bool) : Int32 := bif b then 1 else 0
/-- how far a span goes -/
def spn (p : Int → Bool) (T : Nat → Int) : Nat → Nat → Nat
  | 0, a => a
  | k + 1, a => if p (T a) = true then spn p T k (a + 1) else a
def nd (p : Int → Bool) (T : Nat → Int) (n a : Nat) : Nat := spn p T (n - a) a
theorem nd_end {p : Int → Bool} {T : Nat → Int} {n a : Nat} (h : n ≤ a) : nd p T n a = a := by
  unfold nd
  rw [show n - a = 0 by omega]
  rfl
theorem nd_go {p : Int → Bool} {T : Nat → Int} {n a : Nat} (h : a < n) (hp : p (T a) = true) : nd p T n a = nd p T n (a + 1) := by
  unfold nd
  rw [show n - a = (n - (a + 1)) + 1 by omega]
  show (if p (T a) = true then spn p T (n - (a + 1)) (a + 1) else a) = _
  rw [if_pos hp]
theorem nd_stop {p : Int → Bool} {T : Nat → Int} {n a : Nat} (hp : p (T a) = false) : nd p T n a = a := by
  unfold nd
  cases h : n - a with
  | zero => rfl
  | succ k =>
    show (if p (T a) = true then _ else a) = _
    rw [hp]
    rfl
theorem nd_ge {p : Int → Bool} {T : Nat → Int} {n : Nat} : ∀ {k a : Nat}, n - a = k → a ≤ nd p T n a
  | 0, a, h => by rw [nd_end (by omega)]; exact Nat.le_refl _
  | k + 1, a, h => by
    cases hp : p (T a) with
    | true =>
      rw [nd_go (by omega) hp]
      have := nd_ge (p := p) (T := T) (n := n) (k := k) (a := a + 1) (by omega)
      omega
    | false => rw [nd_stop hp]; exact Nat.le_refl _
theorem nd_le {p : Int → Bool} {T : Nat → Int} {n : Nat} : ∀ {k a : Nat}, n - a = k → a ≤ n → nd p T n a ≤ n
  | 0, a, h, ha => by rw [nd_end (by omega)]; exact ha
  | k + 1, a, h, ha => by
    cases hp : p (T a) with
    | true =>
      rw [nd_go (by omega) hp]
      exact nd_le (k := k) (by omega) (by omega)
    | false => rw [nd_stop hp]; exact ha
theorem nd_at {p : Int → Bool} {T : Nat → Int} {n : Nat} (hT : ∀ k, n ≤ k → p (T k) = false) : ∀ {k a : Nat}, n - a = k → p (T (nd p T n a)) = false
  | 0, a, h => by rw [nd_end (by omega)]; exact hT _ (by omega)
  | k + 1, a, h => by
    cases hp : p (T a) with
    | true =>
      rw [nd_go (by omega) hp]
      exact nd_at hT (k := k) (by omega)
    | false => rw [nd_stop hp]; exact hp
theorem nd_in {p : Int → Bool} {T : Nat → Int} {n : Nat} : ∀ {k a : Nat}, n - a = k → ∀ j, a ≤ j → j < nd p T n a → p (T j) = true
  | 0, a, h, j, h1, h2 => by rw [nd_end (by omega)] at h2; omega
  | k + 1, a, h, j, h1, h2 => by
    cases hp : p (T a) with
    | true =>
      rw [nd_go (by omega) hp] at h2
      by_cases e : j = a
      · rw [e]; exact hp
      · exact nd_in (k := k) (by omega) j (by omega) h2
    | false => rw [nd_stop hp] at h2; omega
/-- a text: bytes, 10 behind its end -/
def tx (T : Nat → Int) (n : Nat) : Prop := n ≤ 1280 ∧ (∀ k, n ≤ k → T k = 10) ∧ ∀ k, 0 ≤ T k ∧ T k ≤ 255
/-- a byte as a byte array has it -/
def sb (c : Int) : Int := if c < 128 then c else c - 256
theorem sb_and : ∀ c : Nat, c < 256 → (i_ (sb c) &&& 255 : Int32) = i_ c := by decide +kernel
theorem sb_and' {c : Int} (h : 0 ≤ c ∧ c ≤ 255) : (i_ (sb c) &&& 255 : Int32) = i_ c := by
  obtain ⟨k, rfl⟩ := Int.eq_ofNat_of_zero_le h.1
  exact sb_and k (by omega)
theorem sb_rng {c : Int} (h : 0 ≤ c ∧ c ≤ 255) : -128 ≤ sb c ∧ sb c ≤ 127 := by
  unfold sb
  split <;> omega
theorem sb_eq {c d : Int} (h : 0 ≤ c ∧ c ≤ 255) (hd : 0 ≤ d ∧ d < 128) : sb c = d ↔ c = d := by
  unfold sb
  split <;> omega
theorem sb_D {c : Int} (h : 0 ≤ c ∧ c ≤ 255) : isD (sb c) = isD c := by
  unfold sb isD
  split
  · rfl
  · rename_i h1
    have e1 : decide (48 ≤ c - 256) = false := by simp; omega
    have e2 : decide (c ≤ 57) = false := by simp; omega
    rw [e1, e2]
    simp
theorem sb_H {c : Int} (h : 0 ≤ c ∧ c ≤ 255) : isH (sb c) = isH c := by
  unfold isH
  rw [sb_D h]
  unfold sb
  split
  · rfl
  · rename_i h1
    have e1 : decide (65 ≤ c - 256) = false := by simp; omega
    have e2 : decide (c ≤ 70) = false := by simp; omega
    rw [e1, e2]
    simp
section TC
variable {E : zE} {L : Nat} {x : Int32} {w : wS} {Q : kx_Rs → wS → Prop}
theorem c2_isLetter (hL : 19 ≤ L) (h : Q (.inl (some (.int (bI (isL x.toInt))))) w) : zw E L kt_M241 [.int x] w Q := by
  refine zt_X2_isLetter_p0 hL ?_
  simp only [zb_X2_isLetter_p0, zb_X2_isLetter_p12, zb_X2_isLetter_p24, zb_X2_isLetter_p28, zb_X2_isLetter_p29, Int32.lt_iff_toInt_lt, Int32.le_iff_toInt_le, show (0 : Int32).toInt = 0 from rfl, show (1 : Int32).toInt = 1 from rfl, show (65 : Int32).toInt = 65 from rfl, show (90 : Int32).toInt = 90 from rfl, show (97 : Int32).toInt = 97 from rfl, show (122 : Int32).toInt = 122 from rfl]
  repeat' split
  all_goals first
    | (have e : isL x.toInt = true := by (simp [isL] <;> omega)
       rw [e] at h
       exact ⟨by simp, h⟩)
    | (have e : isL x.toInt = false := by (simp [isL] <;> omega)
       rw [e] at h
       exact ⟨by simp, h⟩)
theorem c2_isDigit (hL : 19 ≤ L) (h : Q (.inl (some (.int (bI (isD x.toInt))))) w) : zw E L kt_M240 [.int x] w Q := by
  refine zt_X2_isDigit_p0 hL ?_
  simp only [zb_X2_isDigit_p0, zb_X2_isDigit_p16, zb_X2_isDigit_p17, Int32.lt_iff_toInt_lt, Int32.le_iff_toInt_le, show (0 : Int32).toInt = 0 from rfl, show (1 : Int32).toInt = 1 from rfl, show (48 : Int32).toInt = 48 from rfl, show (57 : Int32).toInt = 57 from rfl]
  repeat' split
  all_goals first
    | (have e : isD x.toInt = true := by (simp [isD] <;> omega)
       rw [e] at h
       exact ⟨by simp, h⟩)
    | (have e : isD x.toInt = false := by (simp [isD] <;> omega)
       rw [e] at h
       exact ⟨by simp, h⟩)
theorem t_isLetter (hL : 19 ≤ L) (h : Q (.inl (some (.int (bI (isL x.toInt))))) w) : zw E L kt_M443 [.int x] w Q := by
  refine zt_X13_isLetter_p0 hL ?_
  simp only [zb_X13_isLetter_p0, zb_X13_isLetter_p12, zb_X13_isLetter_p24, zb_X13_isLetter_p28, zb_X13_isLetter_p29, Int32.lt_iff_toInt_lt, Int32.le_iff_toInt_le, show (0 : Int32).toInt = 0 from rfl, show (1 : Int32).toInt = 1 from rfl, show (65 : Int32).toInt = 65 from rfl, show (90 : Int32).toInt = 90 from rfl, show (97 : Int32).toInt = 97 from rfl, show (122 : Int32).toInt = 122 from rfl]
  repeat' split
  all_goals first
    | (have e : isL x.toInt = true := by (simp [isL] <;> omega)
       rw [e] at h
       exact ⟨by simp, h⟩)
    | (have e : isL x.toInt = false := by (simp [isL] <;> omega)
       rw [e] at h
       exact ⟨by simp, h⟩)
theorem t_isDigit (hL : 19 ≤ L) (h : Q (.inl (some (.int (bI (isD x.toInt))))) w) : zw E L kt_M441 [.int x] w Q := by
  refine zt_X13_isDigit_p0 hL ?_
  simp only [zb_X13_isDigit_p0, zb_X13_isDigit_p16, zb_X13_isDigit_p17, Int32.lt_iff_toInt_lt, Int32.le_iff_toInt_le, show (0 : Int32).toInt = 0 from rfl, show (1 : Int32).toInt = 1 from rfl, show (48 : Int32).toInt = 48 from rfl, show (57 : Int32).toInt = 57 from rfl]
  repeat' split
  all_goals first
    | (have e : isD x.toInt = true := by (simp [isD] <;> omega)
       rw [e] at h
       exact ⟨by simp, h⟩)
    | (have e : isD x.toInt = false := by (simp [isD] <;> omega)
       rw [e] at h
       exact ⟨by simp, h⟩)
theorem bI_0 {b : Bool} : bI b = 0 ↔ b = false := by cases b <;> decide
theorem i_46 {x : Int32} : x = 46 ↔ x.toInt = 46 := by
  rw [← Int32.toInt_inj]
  rfl
theorem c2_isNamed (hL : 60 ≤ L) (h : Q (.inl (some (.int (bI (isN x.toInt))))) w) : zw E L kt_M242 [.int x] w Q := by
  refine zt_X2_isNamed_p0 (by omega) ?_
  simp only [zb_X2_isNamed_p0, zb_X2_isNamed_p20, zb_X2_isNamed_p25]
  refine c2_isLetter (by omega) ?_
  intro _
  simp only [bI_0, Bool.not_eq_false]
  split
  · rename_i h1
    refine ⟨by simp, ?_⟩
    rw [show isN x.toInt = true by simp [isN, h1]] at h
    exact h
  rename_i h1
  refine c2_isDigit (by omega) ?_
  intro _
  simp only [bI_0, Bool.not_eq_false]
  split
  · rename_i h2
    refine ⟨by simp, ?_⟩
    rw [show isN x.toInt = true by simp [isN, h2]] at h
    exact h
  rename_i h2
  simp only [i_46]
  split
  · rename_i h3
    refine ⟨by simp, ?_⟩
    rw [show isN x.toInt = false by simp [isN, h1, h2, h3]] at h
    exact h
  · rename_i h3
    refine ⟨by simp, ?_⟩
    rw [show isN x.toInt = true by simp [isN, Classical.not_not.mp h3]] at h
    exact h
theorem t_goesOn (hL : 60 ≤ L) (h : Q (.inl (some (.int (bI (isN x.toInt))))) w) : zw E L kt_M421 [.int x] w Q := by
  refine zt_X13_goesOn_p0 (by omega) ?_
  simp only [zb_X13_goesOn_p0, zb_X13_goesOn_p20, zb_X13_goesOn_p25]
  refine t_isLetter (by omega) ?_
  intro _
  simp only [bI_0, Bool.not_eq_false]
  split
  · rename_i h1
    refine ⟨by simp, ?_⟩
    rw [show isN x.toInt = true by simp [isN, h1]] at h
    exact h
  rename_i h1
  refine t_isDigit (by omega) ?_
  intro _
  simp only [bI_0, Bool.not_eq_false]
  split
  · rename_i h2
    refine ⟨by simp, ?_⟩
    rw [show isN x.toInt = true by simp [isN, h2]] at h
    exact h
  rename_i h2
  simp only [i_46]
  split
  · rename_i h3
    refine ⟨by simp, ?_⟩
    rw [show isN x.toInt = false by simp [isN, h1, h2, h3]] at h
    exact h
  · rename_i h3
    refine ⟨by simp, ?_⟩
    rw [show isN x.toInt = true by simp [isN, Classical.not_not.mp h3]] at h
    exact h
end TC
