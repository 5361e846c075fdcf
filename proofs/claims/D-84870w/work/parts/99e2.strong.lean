/-! ===== PARSERS, part 5b: the same with more told: what kind of node a link leads to, how deep, which tokens it was read from ===== -/
/-- the lines of the tokens, from where, up to where -/
abbrev pO := (Nat → Nat) × Nat × Nat
/-- a rank, where it was read -/
abbrev pR := Nat × pO
abbrev pNz := Nat → Option (Nat × pR × Nat)
/-- its line, a class, ranks below, where -/
abbrev pOL := Option Int32 × Nat × Nat × pO
/-- classes: 0 expressions, 1 processes, 2 actions, 3 declarations, others by their kind -/
def cok (cl kd : Nat) : Prop := (cl = 0 ∧ 50 ≤ kd ∧ kd ≤ 64) ∨ (cl = 1 ∧ kd = 1) ∨ (cl = 2 ∧ 2 ≤ kd ∧ kd ≤ 17 ∧ kd ≠ 13 ∧ kd ≠ 15) ∨ (cl = 3 ∧ 30 ≤ kd ∧ kd ≤ 38) ∨ (10 ≤ cl ∧ kd = cl)
/-- wider -/
def OLw (a b : pOL) : Prop := (∀ l, b.1 = some l → a.1 = some l) ∧ b.2.1 = a.2.1 ∧ a.2.2.1 ≤ b.2.2.1 ∧ b.2.2.2.1 = a.2.2.2.1 ∧ b.2.2.2.2.1 ≤ a.2.2.2.2.1 ∧ a.2.2.2.2.2 ≤ b.2.2.2.2.2
theorem OLw.rf {a : pOL} : OLw a a := ⟨fun _ h => h, rfl, Nat.le_refl _, rfl, Nat.le_refl _, Nat.le_refl _⟩
theorem OLw.mk {l : Option Int32} {cl bd bd' s s' e e' : Nat} {g : Nat → Nat} (h1 : bd ≤ bd') (h2 : s' ≤ s) (h3 : e ≤ e') : OLw (l, cl, bd, g, s, e) (l, cl, bd', g, s', e') := ⟨fun _ h => h, rfl, h1, rfl, h2, h3⟩
theorem OLw.mn {l : Option Int32} {cl bd bd' s s' e e' : Nat} {g : Nat → Nat} (h1 : bd ≤ bd') (h2 : s' ≤ s) (h3 : e ≤ e') : OLw (l, cl, bd, g, s, e) (none, cl, bd', g, s', e') := ⟨fun _ h => (by cases h), rfl, h1, rfl, h2, h3⟩
theorem OLw.tr {a b c : pOL} (h1 : OLw a b) (h2 : OLw b c) : OLw a c := ⟨fun l h => h1.1 l (h2.1 l h), h2.2.1.trans h1.2.1, Nat.le_trans h1.2.2.1 h2.2.2.1, h2.2.2.2.1.trans h1.2.2.2.1, Nat.le_trans h2.2.2.2.2.1 h1.2.2.2.2.1, Nat.le_trans h1.2.2.2.2.2 h2.2.2.2.2.2⟩
/-- what else is told of a node n that stands for m (its rank and place r), through brackets c -/
def OLk (V : pV) (ol : pOL) (n m : Nat) (r : pR) (c : List Nat) : Prop := (∀ l, ol.1 = some l → V.2.2.1 27 n = l) ∧ (∃ kd : Nat, V.2.2.1 26 m = i_ kd ∧ kd < 65 ∧ cok ol.2.1 kd ∧ (kd < 50 → c = [])) ∧ r.1 + c.length < ol.2.2.1 ∧ r.2.1 = ol.2.2.2.1 ∧ ol.2.2.2.2.1 ≤ r.2.2.1 ∧ r.2.2.1 < r.2.2.2 ∧ r.2.2.2 ≤ ol.2.2.2.2.2
theorem OLk.wk {V : pV} {ol ol' : pOL} {n m : Nat} {r : pR} {c : List Nat} (h : OLk V ol n m r c) (ho : OLw ol ol') : OLk V ol' n m r c := by
  obtain ⟨h1, h2, h3, h4, h5, h6, h7⟩ := h
  obtain ⟨o1, o2, o3, o4, o5, o6⟩ := ho
  exact ⟨fun l e => h1 l (o1 l e), by rw [o2]; exact h2, Nat.lt_of_lt_of_le h3 o3, h4.trans o4.symm, Nat.le_trans o5 h5, h6, Nat.le_trans h7 o6⟩
theorem OLk.cv {V V' : pV} {ol : pOL} {n m : Nat} {r : pR} {c : List Nat} (h : OLk V ol n m r c) (h1 : V'.2.2.1 27 n = V.2.2.1 27 n) (h2 : V'.2.2.1 26 m = V.2.2.1 26 m) : OLk V' ol n m r c := ⟨fun l e => h1.trans (h.1 l e), by rw [h2]; exact h.2.1, h.2.2⟩
theorem OLk.se {V : pV} {ol : pOL} {n m : Nat} {r : pR} {c : List Nat} (h : OLk V ol n m r c) : ol.2.2.2.2.1 < ol.2.2.2.2.2 ∧ 0 < ol.2.2.1 := by
  obtain ⟨h1, h2, h3, h4, h5, h6, h7⟩ := h
  exact ⟨Nat.lt_of_le_of_lt h5 (Nat.lt_of_lt_of_le h6 h7), Nat.lt_of_le_of_lt (Nat.zero_le _) h3⟩
def CHz (V : pV) (tn : Nat → Prop) (nu : pNz) (_k : Nat) (ol : pOL) (n p d : Nat) : Prop := ∃ m c r, PCH V c n m ∧ (∀ x ∈ m :: c, tn x) ∧ nu p = some (m, r, d) ∧ m < 14000 ∧ V.1 p 12 = bI (!c.isEmpty) ∧ OLk V ol n m r c
/-- a list's beginning: up to where -/
def LPz (V : pV) (tn : Nat → Prop) (nu : pNz) (k : Nat) : pOL → List (Nat × Nat × Nat) → Option Nat → Int32 → Option Nat → Int32 → Prop
  | _, [], a, x, b, y => a = b ∧ x = y
  | ol, q :: r, a, x, b, y => a = some q.2.1 ∧ x = i_ q.1 ∧ ∃ e1, e1 ≤ ol.2.2.2.2.2 ∧ CHz V tn nu k (ol.1, ol.2.1, ol.2.2.1, ol.2.2.2.1, ol.2.2.2.2.1, e1) q.1 q.2.1 q.2.2 ∧ LPz V tn nu k (ol.1, ol.2.1, ol.2.2.1, ol.2.2.2.1, e1, ol.2.2.2.2.2) r (V.2.1 q.2.1 7) (V.2.2.1 32 q.1) b y
def LSz (V : pV) (tn : Nat → Prop) (nu : pNz) (k : Nat) (ol : pOL) (l : List (Nat × Nat × Nat)) (a : Option Nat) (x : Int32) : Prop := LPz V tn nu k ol l a x none (-1)
/-- a part that is there -/
def ECz (V : pV) (tn : Nat → Prop) (nu : pNz) (k : Nat) (ol : pOL) (d : Nat) (a : Option Nat) (x : Int32) : Prop := ∃ p n : Nat, a = some p ∧ x = i_ n ∧ CHz V tn nu k ol n p d
def EOz (V : pV) (tn : Nat → Prop) (nu : pNz) (k : Nat) (ol : pOL) (d : Nat) (a : Option Nat) (x : Int32) : Prop := (a = none ∧ x = -1) ∨ ECz V tn nu k ol d a x
/-- an element -/
def EEz (V : pV) (tn : Nat → Prop) (nu : pNz) (k : Nat) (ol : pOL) (a : Option Nat) (x : Int32) : Prop := ∃ p n : Nat, a = some p ∧ x = i_ n ∧ CHz V tn nu k ol n p 0 ∧ V.2.2.1 26 n = 60
def SLz (V : pV) (tn : Nat → Prop) (nu : pNz) (k : Nat) (ol : pOL) (d : Nat) (a : Option Nat) (x : Int32) : Prop := ∃ l, LSz V tn nu k ol l a x ∧ d = dsum l
/-- a list with something in it -/
def S1z (V : pV) (tn : Nat → Prop) (nu : pNz) (k : Nat) (ol : pOL) (d : Nat) (a : Option Nat) (x : Int32) : Prop := ∃ l, LSz V tn nu k ol l a x ∧ d = dsum l ∧ l ≠ []
/-- a list of nodes of one kind -/
def SKz (V : pV) (tn : Nat → Prop) (nu : pNz) (k : Nat) (ol : pOL) (d kd : Nat) (a : Option Nat) (x : Int32) : Prop := ∃ l, LSz V tn nu k ol l a x ∧ d = dsum l ∧ ∀ q ∈ l, V.2.2.1 26 q.1 = i_ kd
def SK1z (V : pV) (tn : Nat → Prop) (nu : pNz) (k : Nat) (ol : pOL) (d kd : Nat) (a : Option Nat) (x : Int32) : Prop := ∃ l, LSz V tn nu k ol l a x ∧ d = dsum l ∧ l ≠ [] ∧ ∀ q ∈ l, V.2.2.1 26 q.1 = i_ kd
/-- elements -/
def LEz (V : pV) (tn : Nat → Prop) (nu : pNz) (k : Nat) (ol : pOL) (a : Option Nat) (x : Int32) : Prop := ∃ l, LSz V tn nu k ol l a x ∧ l ≠ [] ∧ ∀ q ∈ l, V.2.2.1 26 q.1 = 60
/-- names -/
def LNz (V : pV) (tn : Nat → Prop) (nu : pNz) (k : Nat) (ol : pOL) (d : Nat) (a : Option Nat) (x : Int32) : Prop := ∃ l, LSz V tn nu k ol l a x ∧ l ≠ [] ∧ d = dsum l ∧ ∀ q ∈ l, V.2.2.1 26 q.1 = 39
/-- nodes of a class, perhaps with a REPLICATOR -/
def SRz (V : pV) (tn : Nat → Prop) (nu : pNz) (k : Nat) (g : Nat → Nat) (s e cl d : Nat) (a : Option Nat) (x : Int32) (b : Option Nat) (y : Int32) : Prop := ∃ l e1, (s ≤ e1 ∧ e1 ≤ e) ∧ LSz V tn nu k (none, cl, k, g, e1, e) l b y ∧ d = dsum l ∧ ((a = none ∧ x = -1) ∨ (ECz V tn nu k (none, 20, k, g, s, e1) 0 a x ∧ l.length = 1))
section LFSz
variable (D : pD) (V : pV) (tn T2 : Nat → Prop) (nu : pNz) (k : Nat) (O : pO) (d p n : Nat)
def LFgz (n2 : Nat) : Prop := T2 n2 ∧ V.2.2.1 27 n2 = V.2.2.1 27 n ∧
  ((V.2.2.1 26 n2 = 2 ∧ V.1 p 10 = 0 ∧ V.2.1 p 3 = none ∧ ECz V tn nu k (none, 1, k, O) d (V.2.1 p 6) (V.2.2.1 30 n)) ∨
   (V.2.2.1 26 n2 = 5 ∧ V.1 p 10 = 1 ∧ EEz V tn nu k (some (V.2.2.1 27 n), 0, k, O) (V.2.1 p 3) (V.2.2.1 28 n2) ∧ LEz V tn nu k (some (V.2.2.1 27 n), 0, k, O) (V.2.1 p 4) (V.2.2.1 29 n2) ∧ ECz V tn nu k (none, 1, k, O) d (V.2.1 p 6) (V.2.2.1 30 n)) ∨
   (V.2.2.1 26 n2 = 6 ∧ V.1 p 10 = 2 ∧ EEz V tn nu k (some (V.2.2.1 27 n), 0, k, O) (V.2.1 p 3) (V.2.2.1 28 n2) ∧ ECz V tn nu k (some (V.2.2.1 27 n), 0, k, O) 0 (V.2.1 p 4) (V.2.2.1 29 n2) ∧ ECz V tn nu k (none, 1, k, O) d (V.2.1 p 6) (V.2.2.1 30 n)) ∨
   (V.2.2.1 26 n2 = 7 ∧ V.1 p 10 = 3 ∧ EEz V tn nu k (some (V.2.2.1 27 n), 0, k, O) (V.2.1 p 3) (V.2.2.1 28 n2) ∧ S1z V tn nu k (none, 19, k, O) d (V.2.1 p 4) (V.2.2.1 29 n2) ∧ V.2.1 p 6 = none ∧ V.2.2.1 30 n = -1))
def LFkz : Nat → Prop
  | 50 => d = 0 ∧ kdi D V p 15 ∧ V.1 p 10 = V.2.2.1 28 n
  | 51 => d = 0 ∧ kdi D V p 17 ∧ V.1 p 10 = V.2.2.1 28 n ∧ ∃ c : Nat, c < 128 ∧ V.2.2.1 28 n = i_ c
  | 52 => d = 0 ∧ kdi D V p 16 ∧ ∃ a q : Nat, V.1 p 10 = i_ a ∧ V.2.2.1 28 n = i_ q ∧ q < D.2.2.2.1.length ∧ V.1 p 18 = i_ (D.2.2.2.1.getD q []).length ∧ (D.2.2.2.1.getD q []).length ≤ 60 ∧ a + (D.2.2.2.1.getD q []).length ≤ D.2.2.2.2 ∧ ∀ j, j < (D.2.2.2.1.getD q []).length → V.2.2.2 (a + j) = i_ ((D.2.2.2.1.getD q []).getD j 0)
  | 53 => d = 0 ∧ kdi D V p 20 ∧ V.1 p 10 = 1
  | 54 => d = 0 ∧ kdi D V p 20 ∧ V.1 p 10 = 0
  | 55 => d = 0 ∧ kdi D V p 15 ∧ V.1 p 10 = 2147483647
  | 56 => d = 0 ∧ kdi D V p 15 ∧ V.1 p 10 = -2147483648
  | 57 => d = 0 ∧ kdi D V p 21 ∧ tyr (V.1 p 8) (V.2.2.1 29 n) ∧ ECz V tn nu k (some (V.2.2.1 27 n), 0, k, O) 0 (V.2.1 p 3) (V.2.2.1 28 n)
  | 59 => d = 0 ∧ kdi D V p 22 ∧ S1z V tn nu k (some (V.2.2.1 27 n), 0, k - 1, O) 0 (V.2.1 p 3) (V.2.2.1 28 n)
  | 60 => d = 0 ∧ kdi D V p 18 ∧ nmr D (V.1 p 9) (V.2.2.1 30 n) ∧ EOz V tn nu k (some (V.2.2.1 27 n), 0, k - 1, O) 0 (V.2.1 p 3) (V.2.2.1 28 n)
  | 61 => d = 0 ∧ kdi D V p 19 ∧ nmr D (V.1 p 9) (V.2.2.1 30 n) ∧ SLz V tn nu k (some (V.2.2.1 27 n), 0, k - 1, O) 0 (V.2.1 p 4) (V.2.2.1 28 n)
  | 62 => d = 0 ∧ kdi D V p 14 ∧ (∃ c v : Int, wcd c v ∧ V.1 p 8 = i_ c ∧ V.2.2.1 29 n = i_ v ∧ bUn v = true) ∧ ECz V tn nu k (some (V.2.2.1 27 n), 0, k, O) 0 (V.2.1 p 3) (V.2.2.1 28 n) ∧ ∃ n1 j : Nat, V.2.2.1 28 n = i_ n1 ∧ tn n1 ∧ V.2.2.1 26 n1 = i_ j ∧ j ≤ 61
  | 63 => d = 0 ∧ kdi D V p 24 ∧ (∃ c v : Int, wcd c v ∧ V.1 p 8 = i_ c ∧ V.2.2.1 29 n = i_ v ∧ bOp v = true) ∧ ECz V tn nu k (some (V.2.2.1 27 n), 0, k - 1, O) 0 (V.2.1 p 3) (V.2.2.1 28 n) ∧ ECz V tn nu k (some (V.2.2.1 27 n), 0, k - 1, O) 0 (V.2.1 p 4) (V.2.2.1 30 n)
  | 64 => d = 0 ∧ kdi D V p 23 ∧ (∃ c : Int, (c = 2 ∨ c = 19) ∧ V.1 p 8 = i_ c ∧ V.2.2.1 29 n = i_ c) ∧ S1z V tn nu k (some (V.2.2.1 27 n), 0, k, O) 0 (V.2.1 p 3) (V.2.2.1 28 n)
  | 1 => kdi D V p 9 ∧ ∃ d1 d2 e1, d = d1 + d2 ∧ (O.2.1 ≤ e1 ∧ e1 ≤ O.2.2) ∧ SLz V tn nu k (none, 3, k, O.1, O.2.1, e1) d1 (V.2.1 p 3) (V.2.2.1 28 n) ∧ ECz V tn nu k (none, 2, k, O.1, e1, O.2.2) d2 (V.2.1 p 4) (V.2.2.1 29 n)
  | 2 => d = 0 ∧ kdi D V p 34
  | 3 => d = 0 ∧ kdi D V p 42
  | 4 => d = 0 ∧ kdi D V p 36 ∧ LEz V tn nu k (some (V.2.2.1 27 n), 0, k, O) (V.2.1 p 3) (V.2.2.1 28 n) ∧ S1z V tn nu k (some (V.2.2.1 27 n), 0, k, O) 0 (V.2.1 p 4) (V.2.2.1 29 n)
  | 5 => d = 0 ∧ kdi D V p 40 ∧ EEz V tn nu k (some (V.2.2.1 27 n), 0, k, O) (V.2.1 p 3) (V.2.2.1 28 n) ∧ LEz V tn nu k (some (V.2.2.1 27 n), 0, k, O) (V.2.1 p 4) (V.2.2.1 29 n)
  | 6 => d = 0 ∧ kdi D V p 38 ∧ EEz V tn nu k (some (V.2.2.1 27 n), 0, k, O) (V.2.1 p 3) (V.2.2.1 28 n) ∧ ECz V tn nu k (some (V.2.2.1 27 n), 0, k, O) 0 (V.2.1 p 4) (V.2.2.1 29 n)
  | 7 => kdi D V p 39 ∧ EEz V tn nu k (some (V.2.2.1 27 n), 0, k, O) (V.2.1 p 3) (V.2.2.1 28 n) ∧ S1z V tn nu k (none, 19, k, O) d (V.2.1 p 4) (V.2.2.1 29 n)
  | 8 => d = 0 ∧ kdi D V p 37 ∧ EEz V tn nu k (some (V.2.2.1 27 n), 0, k, O) (V.2.1 p 3) (V.2.2.1 28 n) ∧ S1z V tn nu k (some (V.2.2.1 27 n), 0, k, O) 0 (V.2.1 p 4) (V.2.2.1 29 n)
  | 9 => d = 0 ∧ kdi D V p 35 ∧ nmr D (V.1 p 9) (V.2.2.1 30 n) ∧ SLz V tn nu k (some (V.2.2.1 27 n), 0, k, O) 0 (V.2.1 p 4) (V.2.2.1 28 n)
  | 10 => kdi D V p 43 ∧ SRz V tn nu k O.1 O.2.1 O.2.2 1 d (V.2.1 p 3) (V.2.2.1 28 n) (V.2.1 p 4) (V.2.2.1 29 n)
  | 11 => kdi D V p 44 ∧ SRz V tn nu k O.1 O.2.1 O.2.2 1 d (V.2.1 p 3) (V.2.2.1 28 n) (V.2.1 p 4) (V.2.2.1 29 n)
  | 12 => kdi D V p 46 ∧ V.2.1 p 3 = none ∧ SLz V tn nu k (none, 13, k, O) d (V.2.1 p 4) (V.2.2.1 29 n)
  | 13 => kdi D V p 47 ∧ (∃ q, V.2.1 p 3 = some q ∧ V.2.1 q 7 = none) ∧ ECz V tn nu k (some (V.2.2.1 27 n), 0, k, O) 0 (V.2.1 p 3) (V.2.2.1 28 n) ∧ ECz V tn nu k (none, 1, k, O) d (V.2.1 p 4) (V.2.2.1 29 n)
  | 14 => kdi D V p 48 ∧ ECz V tn nu k (some (V.2.2.1 27 n), 0, k, O) 0 (V.2.1 p 3) (V.2.2.1 28 n) ∧ SLz V tn nu k (none, 15, k, O) d (V.2.1 p 4) (V.2.2.1 29 n)
  | 15 => kdi D V p 49 ∧ ECz V tn nu k (none, 1, k, O) d (V.2.1 p 4) (V.2.2.1 29 n) ∧ ((V.1 p 11 = 1 ∧ V.2.1 p 3 = none ∧ V.2.2.1 28 n = -1) ∨ (V.1 p 11 = 0 ∧ S1z V tn nu k (some (V.2.2.1 27 n), 0, k, O) 0 (V.2.1 p 3) (V.2.2.1 28 n)))
  | 16 => kdi D V p 50 ∧ ECz V tn nu k (some (V.2.2.1 27 n), 0, k, O) 0 (V.2.1 p 3) (V.2.2.1 28 n) ∧ ECz V tn nu k (none, 1, k, O) d (V.2.1 p 4) (V.2.2.1 29 n)
  | 17 => kdi D V p 51 ∧ (∃ b : Bool, V.1 p 11 = bI b ∧ V.2.2.1 30 n = bI b) ∧ SRz V tn nu k O.1 O.2.1 O.2.2 18 d (V.2.1 p 3) (V.2.2.1 28 n) (V.2.1 p 4) (V.2.2.1 29 n)
  | 18 => kdi D V p 52 ∧ EOz V tn nu k (some (V.2.2.1 27 n), 0, k, O) 0 (V.2.1 p 5) (V.2.2.1 28 n) ∧ ∃ n2 : Nat, V.2.2.1 29 n = i_ n2 ∧ LFgz V tn T2 nu k O d p n n2
  | 19 => kdi D V p 41 ∧ nmr D (V.1 p 9) (V.2.2.1 28 n) ∧ ((V.2.1 p 4 = none ∧ V.2.2.1 29 n = -1) ∨ LEz V tn nu k (some (V.2.2.1 27 n), 0, k, O) (V.2.1 p 4) (V.2.2.1 29 n)) ∧ ECz V tn nu k (none, 1, k, O) d (V.2.1 p 6) (V.2.2.1 30 n)
  | 20 => d = 0 ∧ kdi D V p 45 ∧ nmr D (V.1 p 9) (V.2.2.1 30 n) ∧ ECz V tn nu k (some (V.2.2.1 27 n), 0, k, O) 0 (V.2.1 p 3) (V.2.2.1 28 n) ∧ ECz V tn nu k (some (V.2.2.1 27 n), 0, k, O) 0 (V.2.1 p 4) (V.2.2.1 29 n)
  | 30 => kdi D V p 10 ∧ V.1 p 14 = 0 ∧ tyr (V.1 p 8) (V.2.2.1 33 n) ∧ ((V.2.1 p 3 = none ∧ V.2.2.1 28 n = -1 ∧ V.2.2.1 34 n = 0) ∨ (ECz V tn nu k (some (V.2.2.1 27 n), 0, k, O) 0 (V.2.1 p 3) (V.2.2.1 28 n) ∧ V.2.2.1 34 n = 1)) ∧ LNz V tn nu k (some (V.2.2.1 27 n), 39, k, O) d (V.2.1 p 4) (V.2.2.1 29 n)
  | 31 => kdi D V p 26 ∧ V.1 p 14 = 1 ∧ KN D V nu (V.2.1 p 5) (V.2.2.1 33 n) ∧ ((V.2.1 p 3 = none ∧ V.2.2.1 28 n = -1 ∧ V.2.2.1 34 n = 2) ∨ (ECz V tn nu k (some (V.2.2.1 27 n), 0, k, O) 0 (V.2.1 p 3) (V.2.2.1 28 n) ∧ V.2.2.1 34 n = 3)) ∧ LNz V tn nu k (some (V.2.2.1 27 n), 39, k, O) d (V.2.1 p 4) (V.2.2.1 29 n)
  | 32 => kdi D V p 27 ∧ V.1 p 8 = -1 ∧ V.1 p 14 = 0 ∧ V.2.1 p 3 = none ∧ V.2.2.1 28 n = -1 ∧ V.2.2.1 34 n = 0 ∧ LNz V tn nu k (some (V.2.2.1 27 n), 39, k, O) d (V.2.1 p 4) (V.2.2.1 29 n)
  | 33 => d = 1 ∧ kdi D V p 28 ∧ nmr D (V.1 p 9) (V.2.2.1 30 n) ∧ ECz V tn nu k (some (V.2.2.1 27 n), 0, k, O) 0 (V.2.1 p 3) (V.2.2.1 28 n) ∧ tyr (V.1 p 8) (V.2.2.1 33 n) ∧ ∃ o : Bool, V.1 p 13 = bI o ∧ V.2.2.1 34 n = i_ ((if o then 1 else 0) + 4)
  | 34 => d = 1 ∧ kdi D V p 25 ∧ nmr D (V.1 p 9) (V.2.2.1 30 n) ∧ EEz V tn nu k (some (V.2.2.1 27 n), 0, k, O) (V.2.1 p 3) (V.2.2.1 28 n) ∧ KSP D V nu (V.1 p 8) (V.2.1 p 5) (V.1 p 13) (V.1 p 14) 0 (V.2.2.1 33 n) (V.2.2.1 34 n)
  | 35 => d = 1 ∧ kdi D V p 29 ∧ nmr D (V.1 p 9) (V.2.2.1 30 n) ∧ SK1z V tn nu k (some (V.2.2.1 27 n), 40, k, O) 0 40 (V.2.1 p 4) (V.2.2.1 29 n)
  | 36 => d = 1 ∧ kdi D V p 31 ∧ nmr D (V.1 p 9) (V.2.2.1 30 n) ∧ SK1z V tn nu k (none, 41, k, O) 0 41 (V.2.1 p 4) (V.2.2.1 29 n)
  | 37 => kdi D V p 33 ∧ nmr D (V.1 p 9) (V.2.2.1 30 n) ∧ SKz V tn nu k (some (V.2.2.1 27 n), 42, k, O) 0 42 (V.2.1 p 3) (V.2.2.1 28 n) ∧ ∃ d2, d = 1 + d2 ∧ ECz V tn nu k (none, 1, k, O) d2 (V.2.1 p 4) (V.2.2.1 29 n)
  | 38 => kdi D V p 11 ∧ nmr D (V.1 p 9) (V.2.2.1 30 n) ∧ tyr (V.1 p 8) (V.2.2.1 33 n) ∧ SKz V tn nu k (some (V.2.2.1 27 n), 42, k, O) 0 42 (V.2.1 p 3) (V.2.2.1 28 n) ∧
      ((V.1 p 11 = 1 ∧ ECz V tn nu k (none, 0, k, O) 0 (V.2.1 p 4) (V.2.2.1 41 n) ∧ V.2.2.1 42 n = -1 ∧ V.2.2.1 29 n = -1 ∧ V.2.1 p 5 = none ∧ d = 1) ∨
       (V.1 p 11 = 0 ∧ ∃ d1 d2 e1 e2, d = 1 + d1 + d2 ∧ (O.2.1 ≤ e1 ∧ e1 ≤ e2 ∧ e2 ≤ O.2.2) ∧ SLz V tn nu k (none, 3, k, O.1, O.2.1, e1) d1 (V.2.1 p 5) (V.2.2.1 42 n) ∧ ECz V tn nu k (none, 1, k, O.1, e1, e2) d2 (V.2.1 p 4) (V.2.2.1 29 n) ∧ ECz V tn nu k (none, 0, k, O.1, e2, O.2.2) 0 (V.2.1 p 6) (V.2.2.1 41 n)))
  | 39 => d = 1 ∧ kdi D V p 13 ∧ nmr D (V.1 p 9) (V.2.2.1 30 n)
  | 40 => d = 0 ∧ kdi D V p 30 ∧ tyr (V.1 p 8) (V.2.2.1 33 n) ∧ ((V.2.1 p 3 = none ∧ V.2.2.1 28 n = -1 ∧ V.2.2.1 34 n = 0) ∨ (ECz V tn nu k (some (V.2.2.1 27 n), 0, k, O) 0 (V.2.1 p 3) (V.2.2.1 28 n) ∧ V.2.2.1 34 n = 1))
  | 41 => d = 0 ∧ kdi D V p 32 ∧ nmr D (V.1 p 9) (V.2.2.1 30 n) ∧ SKz V tn nu k (some (V.2.2.1 27 n), 40, k, O) 0 40 (V.2.1 p 4) (V.2.2.1 29 n)
  | 42 => d = 0 ∧ kdi D V p 12 ∧ nmr D (V.1 p 9) (V.2.2.1 30 n) ∧ KSP D V nu (V.1 p 8) (V.2.1 p 5) (V.1 p 13) (V.1 p 14) (V.1 p 15) (V.2.2.1 33 n) (V.2.2.1 34 n)
  | _ => False
end LFSz
/-- a node with its rank and place -/
def LFz (D : pD) (V : pV) (tn T2 : Nat → Prop) (nu : pNz) (r : pR) (d p n : Nat) : Prop := (V.1 p 2 = V.2.2.1 27 n ∧ V.2.2.1 27 n = i_ (r.2.1 r.2.2.1)) ∧ ∃ kd : Nat, V.2.2.1 26 n = i_ kd ∧ kd < 65 ∧ (50 ≤ kd → V.1 p 11 = 0 ∧ V.1 p 21 = 0) ∧ LFkz D V tn T2 nu r.1 r.2 d p n kd
/-- the nodes of MeetingHouse that are done, what the twin has for them -/
def GLz (D : pD) (V : pV) (al : List Nat) (m N : Nat) (nu : pNz) (tn : Nat → Prop) : Prop := (∀ a n r d, nu a = some (n, r, d) → a ∈ al.take m ∧ (n = 99999 ∨ (tn n ∧ n < 14000 ∧ LFz D V tn tn nu r d a n))) ∧ ∀ n, tn n → n < N
section UPz
variable {D : pD} {V V' : pV} {tn tn' T2 T2' : Nat → Prop} {nu nu' : pNz} {k k' d p n m bd : Nat} {ol ol' : pOL} {O : pO} {a : Option Nat} {x : Int32} {c : List Nat}
theorem CHz.tnx (h : CHz V tn nu k ol n p d) : tn n := by
  obtain ⟨m, c, r, h1, h2, -⟩ := h
  exact h2 _ h1.mem
theorem CHz.nux (h : CHz V tn nu k ol n p d) : nu p ≠ none := by
  obtain ⟨m, c, r, -, -, h2, -⟩ := h
  rw [h2]
  simp
theorem CHz.wk (h : CHz V tn nu k ol n p d) (ho : OLw ol ol' := by first | exact OLw.rf | exact OLw.mk (by omega) (by omega) (by omega) | exact OLw.mn (by omega) (by omega) (by omega)) : CHz V tn nu k' ol' n p d := by
  obtain ⟨m, c, r, h1, h1b, h2, h3, h4, h5⟩ := h
  exact ⟨m, c, r, h1, h1b, h2, h3, h4, h5.wk ho⟩
/-- where it was read from is a place -/
theorem CHz.se {l : Option Int32} {cl bd s e : Nat} {g : Nat → Nat} (h : CHz V tn nu k (l, cl, bd, g, s, e) n p d) : s < e ∧ 0 < bd := by
  obtain ⟨m, c, r, h1, h1b, h2, h3, h4, h5, h6, h7, h8, h9, h10, h11⟩ := h
  have h9 : s ≤ r.2.2.1 := h9
  have h11 : r.2.2.2 ≤ e := h11
  have h7 : r.1 + c.length < bd := h7
  omega
theorem CHz.up (h : CHz V tn nu k ol n p d) (hv : VWa V V' tn nu) (hn : nle nu nu') (hN : ∀ y, tn y → tn' y) (hk : k ≤ k) (ho : OLw ol ol' := by first | exact OLw.rf | exact OLw.mk (by omega) (by omega) (by omega) | exact OLw.mn (by omega) (by omega) (by omega)) : CHz V' tn' nu' k' ol' n p d := by
  have ht := h.tnx
  obtain ⟨m, c, r, h1, h1b, h2, h3, h4, h5, h6, h7⟩ := h.wk (k' := k') ho
  have hm := h1b m List.mem_cons_self
  refine ⟨m, c, r, PCH.up (fun y hy k _ hk => hv.2.1 k y (h1b y hy) (.inl hk)) h1, fun y hy => hN y (h1b y hy), hn _ _ h2, h3, ?_, fun l e => ?_, ?_, h7⟩
  · rw [(hv.1 p (by rw [h2]; simp)).1]; exact h4
  · rw [hv.2.1 _ _ ht (.inl (by decide))]; exact h5 l e
  · rw [hv.2.1 _ _ hm (.inl (by decide))]; exact h6
theorem LPz.wk {b : Option Nat} {y : Int32} : ∀ {l : List (Nat × Nat × Nat)} {ol ol' : pOL} {a : Option Nat} {x : Int32}, LPz V tn nu k ol l a x b y → OLw ol ol' → LPz V tn nu k' ol' l a x b y
  | [], _, _, _, _, h, _ => h
  | q :: r, ol, ol', a, x, h, ho => by
    obtain ⟨h1, h2, e1, h3, h4, h5⟩ := h
    obtain ⟨o1, o2, o3, o4, o5, o6⟩ := ho
    exact ⟨h1, h2, e1, Nat.le_trans h3 o6, h4.wk ⟨o1, o2, o3, o4, o5, Nat.le_refl _⟩, LPz.wk h5 ⟨o1, o2, o3, o4, Nat.le_refl _, o6⟩⟩
theorem LPz.up0 {b : Option Nat} {y : Int32} (hv : VWa V V' tn nu) (hn : nle nu nu') (hN : ∀ y, tn y → tn' y) (hk : k ≤ k) : ∀ {l : List (Nat × Nat × Nat)} {ol : pOL} {a : Option Nat} {x : Int32}, LPz V tn nu k ol l a x b y → LPz V' tn' nu' k' ol l a x b y
  | [], _, _, _, h => h
  | q :: r, ol, a, x, h => by
    obtain ⟨h1, h2, e1, h3, h4, h5⟩ := h
    refine ⟨h1, h2, e1, h3, h4.up hv hn hN hk OLw.rf, ?_⟩
    rw [(hv.1 q.2.1 h4.nux).2, hv.2.1 _ _ h4.tnx (.inl (by decide))]
    exact LPz.up0 hv hn hN hk h5
theorem LPz.up {b : Option Nat} {y : Int32} {l : List (Nat × Nat × Nat)} (hv : VWa V V' tn nu) (hn : nle nu nu') (hN : ∀ y, tn y → tn' y) (hk : k ≤ k) (h : LPz V tn nu k ol l a x b y) (ho : OLw ol ol' := by first | exact OLw.rf | exact OLw.mk (by omega) (by omega) (by omega) | exact OLw.mn (by omega) (by omega) (by omega)) : LPz V' tn' nu' k' ol' l a x b y := LPz.wk (k := k) (LPz.up0 (k' := k) hv hn hN hk h) ho
theorem LPz.mem {b : Option Nat} {y : Int32} : ∀ {l : List (Nat × Nat × Nat)} {ol : pOL} {a : Option Nat} {x : Int32}, LPz V tn nu k ol l a x b y → ∀ q ∈ l, CHz V tn nu k ol q.1 q.2.1 q.2.2
  | [], _, _, _, _, _, hq => absurd hq List.not_mem_nil
  | q0 :: r, ol, _, _, h, q, hq => by
    obtain ⟨h1, h2, e1, h3, h4, h5⟩ := h
    have hs : ol.2.2.2.2.1 ≤ e1 := Nat.le_of_lt h4.se.1
    rcases List.mem_cons.mp hq with e | e
    · subst e
      exact h4.wk ⟨fun _ h => h, rfl, Nat.le_refl _, rfl, Nat.le_refl _, h3⟩
    · exact (LPz.mem h5 q e).wk ⟨fun _ h => h, rfl, Nat.le_refl _, rfl, hs, Nat.le_refl _⟩
/-- one more behind -/
theorem LPz.snoc {q : Nat × Nat × Nat} {l1 : Option Int32} {cl bd e1 e2 : Nat} {g : Nat → Nat} : ∀ {l : List (Nat × Nat × Nat)} {s : Nat} {a : Option Nat} {x : Int32}, LPz V tn nu k (l1, cl, bd, g, s, e1) l a x (some q.2.1) (i_ q.1) → CHz V tn nu k (l1, cl, bd, g, e1, e2) q.1 q.2.1 q.2.2 → s ≤ e1 → LPz V tn nu k (l1, cl, bd, g, s, e2) (l ++ [q]) a x (V.2.1 q.2.1 7) (V.2.2.1 32 q.1)
  | [], s, a, x, h, hc, hs => ⟨h.1, h.2, e2, Nat.le_refl _, hc.wk (OLw.mk (Nat.le_refl _) hs (Nat.le_refl _)), rfl, rfl⟩
  | q0 :: r, s, a, x, h, hc, hs => by
    obtain ⟨h1, h2, e3, h3, h4, h5⟩ := h
    have h3 : e3 ≤ e1 := h3
    have he := hc.se.1
    exact ⟨h1, h2, e3, by show e3 ≤ e2; omega, h4, LPz.snoc h5 hc h3⟩
theorem ECz.up (h : ECz V tn nu k ol d a x) (hv : VWa V V' tn nu) (hn : nle nu nu') (hN : ∀ y, tn y → tn' y) (hk : k ≤ k) (ho : OLw ol ol' := by first | exact OLw.rf | exact OLw.mk (by omega) (by omega) (by omega) | exact OLw.mn (by omega) (by omega) (by omega)) : ECz V' tn' nu' k' ol' d a x := by
  obtain ⟨p, n, h1, h2, h3⟩ := h
  exact ⟨p, n, h1, h2, h3.up hv hn hN hk ho⟩
theorem EOz.up (h : EOz V tn nu k ol d a x) (hv : VWa V V' tn nu) (hn : nle nu nu') (hN : ∀ y, tn y → tn' y) (hk : k ≤ k) (ho : OLw ol ol' := by first | exact OLw.rf | exact OLw.mk (by omega) (by omega) (by omega) | exact OLw.mn (by omega) (by omega) (by omega)) : EOz V' tn' nu' k' ol' d a x := h.elim .inl (fun h => .inr (h.up hv hn hN hk ho))
theorem EEz.up (h : EEz V tn nu k ol a x) (hv : VWa V V' tn nu) (hn : nle nu nu') (hN : ∀ y, tn y → tn' y) (hk : k ≤ k) (ho : OLw ol ol' := by first | exact OLw.rf | exact OLw.mk (by omega) (by omega) (by omega) | exact OLw.mn (by omega) (by omega) (by omega)) : EEz V' tn' nu' k' ol' a x := by
  obtain ⟨p, n, h1, h2, h3, h4⟩ := h
  exact ⟨p, n, h1, h2, h3.up hv hn hN hk ho, by rw [hv.2.1 _ _ h3.tnx (.inl (by decide))]; exact h4⟩
theorem SLz.up (h : SLz V tn nu k ol d a x) (hv : VWa V V' tn nu) (hn : nle nu nu') (hN : ∀ y, tn y → tn' y) (hk : k ≤ k) (ho : OLw ol ol' := by first | exact OLw.rf | exact OLw.mk (by omega) (by omega) (by omega) | exact OLw.mn (by omega) (by omega) (by omega)) : SLz V' tn' nu' k' ol' d a x := by
  obtain ⟨l, h1, h2⟩ := h
  exact ⟨l, LPz.up hv hn hN hk h1 ho, h2⟩
theorem S1z.up (h : S1z V tn nu k ol d a x) (hv : VWa V V' tn nu) (hn : nle nu nu') (hN : ∀ y, tn y → tn' y) (hk : k ≤ k) (ho : OLw ol ol' := by first | exact OLw.rf | exact OLw.mk (by omega) (by omega) (by omega) | exact OLw.mn (by omega) (by omega) (by omega)) : S1z V' tn' nu' k' ol' d a x := by
  obtain ⟨l, h1, h2, h3⟩ := h
  exact ⟨l, LPz.up hv hn hN hk h1 ho, h2, h3⟩
theorem SKz.up {kd : Nat} (h : SKz V tn nu k ol d kd a x) (hv : VWa V V' tn nu) (hn : nle nu nu') (hN : ∀ y, tn y → tn' y) (hk : k ≤ k) (ho : OLw ol ol' := by first | exact OLw.rf | exact OLw.mk (by omega) (by omega) (by omega) | exact OLw.mn (by omega) (by omega) (by omega)) : SKz V' tn' nu' k' ol' d kd a x := by
  obtain ⟨l, h1, h2, h3⟩ := h
  exact ⟨l, LPz.up hv hn hN hk h1 ho, h2, fun q hq => by rw [hv.2.1 _ _ (LPz.mem h1 q hq).tnx (.inl (by decide))]; exact h3 q hq⟩
theorem SK1z.up {kd : Nat} (h : SK1z V tn nu k ol d kd a x) (hv : VWa V V' tn nu) (hn : nle nu nu') (hN : ∀ y, tn y → tn' y) (hk : k ≤ k) (ho : OLw ol ol' := by first | exact OLw.rf | exact OLw.mk (by omega) (by omega) (by omega) | exact OLw.mn (by omega) (by omega) (by omega)) : SK1z V' tn' nu' k' ol' d kd a x := by
  obtain ⟨l, h1, h2, h4, h3⟩ := h
  exact ⟨l, LPz.up hv hn hN hk h1 ho, h2, h4, fun q hq => by rw [hv.2.1 _ _ (LPz.mem h1 q hq).tnx (.inl (by decide))]; exact h3 q hq⟩
theorem LEz.up (h : LEz V tn nu k ol a x) (hv : VWa V V' tn nu) (hn : nle nu nu') (hN : ∀ y, tn y → tn' y) (hk : k ≤ k) (ho : OLw ol ol' := by first | exact OLw.rf | exact OLw.mk (by omega) (by omega) (by omega) | exact OLw.mn (by omega) (by omega) (by omega)) : LEz V' tn' nu' k' ol' a x := by
  obtain ⟨l, h1, h2, h3⟩ := h
  exact ⟨l, LPz.up hv hn hN hk h1 ho, h2, fun q hq => by rw [hv.2.1 _ _ (LPz.mem h1 q hq).tnx (.inl (by decide))]; exact h3 q hq⟩
theorem LNz.up (h : LNz V tn nu k ol d a x) (hv : VWa V V' tn nu) (hn : nle nu nu') (hN : ∀ y, tn y → tn' y) (hk : k ≤ k) (ho : OLw ol ol' := by first | exact OLw.rf | exact OLw.mk (by omega) (by omega) (by omega) | exact OLw.mn (by omega) (by omega) (by omega)) : LNz V' tn' nu' k' ol' d a x := by
  obtain ⟨l, h1, h2, h2b, h3⟩ := h
  exact ⟨l, LPz.up hv hn hN hk h1 ho, h2, h2b, fun q hq => by rw [hv.2.1 _ _ (LPz.mem h1 q hq).tnx (.inl (by decide))]; exact h3 q hq⟩
theorem SRz.up {cl s e : Nat} {g : Nat → Nat} {b : Option Nat} {y : Int32} (h : SRz V tn nu k g s e cl d a x b y) (hv : VWa V V' tn nu) (hn : nle nu nu') (hN : ∀ y, tn y → tn' y) : SRz V' tn' nu' k g s e cl d a x b y := by
  obtain ⟨l, e1, h0, h1, h2, h3⟩ := h
  exact ⟨l, e1, h0, LPz.up hv hn hN (Nat.le_refl _) h1 OLw.rf, h2, h3.elim .inl (fun h => .inr ⟨h.1.up hv hn hN (Nat.le_refl _) OLw.rf, h.2⟩)⟩
theorem LPz.wk' {b : Option Nat} {y : Int32} {l : List (Nat × Nat × Nat)} (h : LPz V tn nu k ol l a x b y) (ho : OLw ol ol' := by first | exact OLw.rf | exact OLw.mk (by omega) (by omega) (by omega) | exact OLw.mn (by omega) (by omega) (by omega)) : LPz V tn nu k' ol' l a x b y := LPz.wk h ho
theorem ECz.wk (h : ECz V tn nu k ol d a x) (ho : OLw ol ol' := by first | exact OLw.rf | exact OLw.mk (by omega) (by omega) (by omega) | exact OLw.mn (by omega) (by omega) (by omega)) : ECz V tn nu k' ol' d a x := by
  obtain ⟨p, n, h1, h2, h3⟩ := h
  exact ⟨p, n, h1, h2, h3.wk ho⟩
theorem EOz.wk (h : EOz V tn nu k ol d a x) (ho : OLw ol ol' := by first | exact OLw.rf | exact OLw.mk (by omega) (by omega) (by omega) | exact OLw.mn (by omega) (by omega) (by omega)) : EOz V tn nu k' ol' d a x := h.elim .inl (fun h => .inr (h.wk ho))
theorem EEz.wk (h : EEz V tn nu k ol a x) (ho : OLw ol ol' := by first | exact OLw.rf | exact OLw.mk (by omega) (by omega) (by omega) | exact OLw.mn (by omega) (by omega) (by omega)) : EEz V tn nu k' ol' a x := by
  obtain ⟨p, n, h1, h2, h3, h4⟩ := h
  exact ⟨p, n, h1, h2, h3.wk ho, h4⟩
theorem SLz.wk (h : SLz V tn nu k ol d a x) (ho : OLw ol ol' := by first | exact OLw.rf | exact OLw.mk (by omega) (by omega) (by omega) | exact OLw.mn (by omega) (by omega) (by omega)) : SLz V tn nu k' ol' d a x := by
  obtain ⟨l, h1, h2⟩ := h
  exact ⟨l, LPz.wk h1 ho, h2⟩
theorem S1z.wk (h : S1z V tn nu k ol d a x) (ho : OLw ol ol' := by first | exact OLw.rf | exact OLw.mk (by omega) (by omega) (by omega) | exact OLw.mn (by omega) (by omega) (by omega)) : S1z V tn nu k' ol' d a x := by
  obtain ⟨l, h1, h2⟩ := h
  exact ⟨l, LPz.wk h1 ho, h2⟩
theorem SKz.wk {kd : Nat} (h : SKz V tn nu k ol d kd a x) (ho : OLw ol ol' := by first | exact OLw.rf | exact OLw.mk (by omega) (by omega) (by omega) | exact OLw.mn (by omega) (by omega) (by omega)) : SKz V tn nu k' ol' d kd a x := by
  obtain ⟨l, h1, h2⟩ := h
  exact ⟨l, LPz.wk h1 ho, h2⟩
theorem SK1z.wk {kd : Nat} (h : SK1z V tn nu k ol d kd a x) (ho : OLw ol ol' := by first | exact OLw.rf | exact OLw.mk (by omega) (by omega) (by omega) | exact OLw.mn (by omega) (by omega) (by omega)) : SK1z V tn nu k' ol' d kd a x := by
  obtain ⟨l, h1, h2⟩ := h
  exact ⟨l, LPz.wk h1 ho, h2⟩
theorem LEz.wk (h : LEz V tn nu k ol a x) (ho : OLw ol ol' := by first | exact OLw.rf | exact OLw.mk (by omega) (by omega) (by omega) | exact OLw.mn (by omega) (by omega) (by omega)) : LEz V tn nu k' ol' a x := by
  obtain ⟨l, h1, h2⟩ := h
  exact ⟨l, LPz.wk h1 ho, h2⟩
theorem LNz.wk (h : LNz V tn nu k ol d a x) (ho : OLw ol ol' := by first | exact OLw.rf | exact OLw.mk (by omega) (by omega) (by omega) | exact OLw.mn (by omega) (by omega) (by omega)) : LNz V tn nu k' ol' d a x := by
  obtain ⟨l, h1, h2⟩ := h
  exact ⟨l, LPz.wk h1 ho, h2⟩
theorem LFgz.up {n2 : Nat} (h : LFgz V tn T2 nu k O d p n n2) (hv : VW V V' tn T2 nu p n) (hn : nle nu nu') (hN : ∀ y, tn y → tn' y) (hT : ∀ y, T2 y → T2' y) : LFgz V' tn' T2' nu' k O d p n n2 := by
  obtain ⟨h1, h2, h3⟩ := h
  obtain ⟨e1, e2⟩ := hv.2.1
  have e3 : ∀ j, j ≠ 32 → j < 35 → V'.2.2.1 j n = V.2.2.1 j n := fun j h3 hj => hv.2.2 _ _ (.inr rfl) h3 (.inl hj)
  have e4 : ∀ j, j ≠ 32 → j < 35 → V'.2.2.1 j n2 = V.2.2.1 j n2 := fun j h3 hj => hv.2.2 _ _ (.inl h1) h3 (.inl hj)
  unfold LFgz
  rw [e1 10 (by decide), e2 3 (by decide), e2 4 (by decide), e2 6 (by decide), e3 27 (by decide) (by decide), e3 30 (by decide) (by decide), e4 27 (by decide) (by decide), e4 26 (by decide) (by decide), e4 28 (by decide) (by decide), e4 29 (by decide) (by decide)]
  refine ⟨hT _ h1, h2, ?_⟩
  rcases h3 with h3 | h3 | h3 | h3
  · exact .inl ⟨h3.1, h3.2.1, h3.2.2.1, h3.2.2.2.up hv.1 hn hN (Nat.le_refl _)⟩
  · exact .inr (.inl ⟨h3.1, h3.2.1, h3.2.2.1.up hv.1 hn hN (Nat.le_refl _), h3.2.2.2.1.up hv.1 hn hN (Nat.le_refl _), h3.2.2.2.2.up hv.1 hn hN (Nat.le_refl _)⟩)
  · exact .inr (.inr (.inl ⟨h3.1, h3.2.1, h3.2.2.1.up hv.1 hn hN (Nat.le_refl _), h3.2.2.2.1.up hv.1 hn hN (Nat.le_refl _), h3.2.2.2.2.up hv.1 hn hN (Nat.le_refl _)⟩))
  · exact .inr (.inr (.inr ⟨h3.1, h3.2.1, h3.2.2.1.up hv.1 hn hN (Nat.le_refl _), h3.2.2.2.1.up hv.1 hn hN (Nat.le_refl _), h3.2.2.2.2⟩))
theorem LFz.up {r : pR} (h : LFz D V tn T2 nu r d p n) (hv : VW V V' tn T2 nu p n) (hn : nle nu nu') (hN : ∀ y, tn y → tn' y) (hT : ∀ y, T2 y → T2' y) (_hk : 0 ≤ 0 := Nat.le_refl 0) : LFz D V' tn' T2' nu' r d p n := by
  obtain ⟨h1, kd, h2, h3, hz, h4⟩ := h
  obtain ⟨e1, e2⟩ := hv.2.1
  have e3 : ∀ j, j ≠ 32 → j < 35 → V'.2.2.1 j n = V.2.2.1 j n := fun j h3 hj => hv.2.2 _ _ (.inr rfl) h3 (.inl hj)
  have e41 : V'.2.2.1 41 n = V.2.2.1 41 n := hv.2.2 _ _ (.inr rfl) (by decide) (.inr (.inl rfl))
  have e42 : V'.2.2.1 42 n = V.2.2.1 42 n := hv.2.2 _ _ (.inr rfl) (by decide) (.inr (.inr rfl))
  refine ⟨by rw [e1 2 (by decide), e3 27 (by decide) (by decide)]; exact h1, kd, by rw [e3 26 (by decide) (by decide)]; exact h2, h3, by rw [e1 11 (by decide), e1 21 (by decide)]; exact hz, ?_⟩
  unfold LFkz kdi at h4 ⊢
  rw [e1 8 (by decide), e1 9 (by decide), e1 10 (by decide), e1 11 (by decide), e1 13 (by decide), e1 14 (by decide), e1 15 (by decide), e1 18 (by decide), e2 0 (by decide), e2 3 (by decide), e2 4 (by decide), e2 5 (by decide), e2 6 (by decide), e3 27 (by decide) (by decide), e3 28 (by decide) (by decide), e3 29 (by decide) (by decide), e3 30 (by decide) (by decide), e3 33 (by decide) (by decide), e3 34 (by decide) (by decide), e41, e42, hv.1.2.2]
  split at h4
  · exact h4
  · exact h4
  · exact h4
  · exact h4
  · exact h4
  · exact h4
  · exact h4
  · exact ⟨h4.1, h4.2.1, h4.2.2.1, h4.2.2.2.up hv.1 hn hN (Nat.le_refl _)⟩
  · exact ⟨h4.1, h4.2.1, h4.2.2.up hv.1 hn hN (Nat.le_refl _)⟩
  · exact ⟨h4.1, h4.2.1, h4.2.2.1, h4.2.2.2.up hv.1 hn hN (Nat.le_refl _)⟩
  · exact ⟨h4.1, h4.2.1, h4.2.2.1, h4.2.2.2.up hv.1 hn hN (Nat.le_refl _)⟩
  · obtain ⟨q1, q2, q3, q4, n1, j, q5, q6, q7, q8⟩ := h4
    exact ⟨q1, q2, q3, q4.up hv.1 hn hN (Nat.le_refl _), n1, j, q5, hN n1 q6, by rw [hv.1.2.1 26 n1 q6 (.inl (by decide))]; exact q7, q8⟩
  · exact ⟨h4.1, h4.2.1, h4.2.2.1, h4.2.2.2.1.up hv.1 hn hN (Nat.le_refl _), h4.2.2.2.2.up hv.1 hn hN (Nat.le_refl _)⟩
  · exact ⟨h4.1, h4.2.1, h4.2.2.1, h4.2.2.2.up hv.1 hn hN (Nat.le_refl _)⟩
  · obtain ⟨q1, d1, d2, e1, q2, q2b, q3, q4⟩ := h4
    exact ⟨q1, d1, d2, e1, q2, q2b, q3.up hv.1 hn hN (Nat.le_refl _), q4.up hv.1 hn hN (Nat.le_refl _)⟩
  · exact h4
  · exact h4
  · exact ⟨h4.1, h4.2.1, h4.2.2.1.up hv.1 hn hN (Nat.le_refl _), h4.2.2.2.up hv.1 hn hN (Nat.le_refl _)⟩
  · exact ⟨h4.1, h4.2.1, h4.2.2.1.up hv.1 hn hN (Nat.le_refl _), h4.2.2.2.up hv.1 hn hN (Nat.le_refl _)⟩
  · exact ⟨h4.1, h4.2.1, h4.2.2.1.up hv.1 hn hN (Nat.le_refl _), h4.2.2.2.up hv.1 hn hN (Nat.le_refl _)⟩
  · exact ⟨h4.1, h4.2.1.up hv.1 hn hN (Nat.le_refl _), h4.2.2.up hv.1 hn hN (Nat.le_refl _)⟩
  · exact ⟨h4.1, h4.2.1, h4.2.2.1.up hv.1 hn hN (Nat.le_refl _), h4.2.2.2.up hv.1 hn hN (Nat.le_refl _)⟩
  · exact ⟨h4.1, h4.2.1, h4.2.2.1, h4.2.2.2.up hv.1 hn hN (Nat.le_refl _)⟩
  · exact ⟨h4.1, h4.2.up hv.1 hn hN⟩
  · exact ⟨h4.1, h4.2.up hv.1 hn hN⟩
  · exact ⟨h4.1, h4.2.1, h4.2.2.up hv.1 hn hN (Nat.le_refl _)⟩
  · obtain ⟨q0, ⟨q, q1, q2⟩, q3, q4⟩ := h4
    have hq : nu q ≠ none := by
      obtain ⟨p', n', f1, f2, f3⟩ := q3
      rw [q1] at f1
      cases f1
      exact f3.nux
    exact ⟨q0, ⟨q, q1, by rw [(hv.1.1 q hq).2]; exact q2⟩, q3.up hv.1 hn hN (Nat.le_refl _), q4.up hv.1 hn hN (Nat.le_refl _)⟩
  · exact ⟨h4.1, h4.2.1.up hv.1 hn hN (Nat.le_refl _), h4.2.2.up hv.1 hn hN (Nat.le_refl _)⟩
  · exact ⟨h4.1, h4.2.1.up hv.1 hn hN (Nat.le_refl _), h4.2.2.elim .inl (fun h => .inr ⟨h.1, h.2.up hv.1 hn hN (Nat.le_refl _)⟩)⟩
  · exact ⟨h4.1, h4.2.1.up hv.1 hn hN (Nat.le_refl _), h4.2.2.up hv.1 hn hN (Nat.le_refl _)⟩
  · exact ⟨h4.1, h4.2.1, h4.2.2.up hv.1 hn hN⟩
  · obtain ⟨q1, q2, n2, q3, q4⟩ := h4
    exact ⟨q1, q2.up hv.1 hn hN (Nat.le_refl _), n2, q3, q4.up hv hn hN hT⟩
  · exact ⟨h4.1, h4.2.1, h4.2.2.1.elim .inl (fun h => .inr (h.up hv.1 hn hN (Nat.le_refl _))), h4.2.2.2.up hv.1 hn hN (Nat.le_refl _)⟩
  · exact ⟨h4.1, h4.2.1, h4.2.2.1, h4.2.2.2.1.up hv.1 hn hN (Nat.le_refl _), h4.2.2.2.2.up hv.1 hn hN (Nat.le_refl _)⟩
  · exact ⟨h4.1, h4.2.1, h4.2.2.1, h4.2.2.2.1.elim .inl (fun h => .inr ⟨h.1.up hv.1 hn hN (Nat.le_refl _), h.2⟩), h4.2.2.2.2.up hv.1 hn hN (Nat.le_refl _)⟩
  · exact ⟨h4.1, h4.2.1, h4.2.2.1.up hv.1 hn, h4.2.2.2.1.elim .inl (fun h => .inr ⟨h.1.up hv.1 hn hN (Nat.le_refl _), h.2⟩), h4.2.2.2.2.up hv.1 hn hN (Nat.le_refl _)⟩
  · exact ⟨h4.1, h4.2.1, h4.2.2.1, h4.2.2.2.1, h4.2.2.2.2.1, h4.2.2.2.2.2.1, h4.2.2.2.2.2.2.up hv.1 hn hN (Nat.le_refl _)⟩
  · exact ⟨h4.1, h4.2.1, h4.2.2.1, h4.2.2.2.1.up hv.1 hn hN (Nat.le_refl _), h4.2.2.2.2⟩
  · exact ⟨h4.1, h4.2.1, h4.2.2.1, h4.2.2.2.1.up hv.1 hn hN (Nat.le_refl _), h4.2.2.2.2.up hv.1 hn⟩
  · exact ⟨h4.1, h4.2.1, h4.2.2.1, h4.2.2.2.up hv.1 hn hN (Nat.le_refl _)⟩
  · exact ⟨h4.1, h4.2.1, h4.2.2.1, h4.2.2.2.up hv.1 hn hN (Nat.le_refl _)⟩
  · obtain ⟨q1, q2, q3, d2, q4, q5⟩ := h4
    exact ⟨q1, q2, q3.up hv.1 hn hN (Nat.le_refl _), d2, q4, q5.up hv.1 hn hN (Nat.le_refl _)⟩
  · obtain ⟨q1, q2, q3, q4, q5⟩ := h4
    refine ⟨q1, q2, q3, q4.up hv.1 hn hN (Nat.le_refl _), ?_⟩
    rcases q5 with q5 | ⟨q5, d1, d2, e1, e2, q6, q6b, q7, q8, q9⟩
    · exact .inl ⟨q5.1, q5.2.1.up hv.1 hn hN (Nat.le_refl _), q5.2.2⟩
    · exact .inr ⟨q5, d1, d2, e1, e2, q6, q6b, q7.up hv.1 hn hN (Nat.le_refl _), q8.up hv.1 hn hN (Nat.le_refl _), q9.up hv.1 hn hN (Nat.le_refl _)⟩
  · exact h4
  · exact ⟨h4.1, h4.2.1, h4.2.2.1, h4.2.2.2.elim .inl (fun h => .inr ⟨h.1.up hv.1 hn hN (Nat.le_refl _), h.2⟩)⟩
  · exact ⟨h4.1, h4.2.1, h4.2.2.1, h4.2.2.2.up hv.1 hn hN (Nat.le_refl _)⟩
  · exact ⟨h4.1, h4.2.1, h4.2.2.1, h4.2.2.2.up hv.1 hn⟩
  · exact h4
end UPz
