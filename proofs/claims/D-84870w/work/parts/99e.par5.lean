/-! ===== PARSERS, part 5: how the two trees go together ===== -/
/-- MeetingHouse's nodes (ints, references by address and field), the twin's rows (by field and number), the row of signs -/
abbrev pV := (Nat → Nat → Int32) × (Nat → Nat → Option Nat) × (Nat → Nat → Int32) × (Nat → Int32)
def vw (w t : wS) : pV := (fun a k => w_i w 14 a k, fun a k => w_p w 14 a k, fun k n => w_a t 12 0 k n, fun j => w_a w 1 0 10 j)
/-- what a node of MeetingHouse stands for: the twin's node, a rank, how many names are declared in it -/
abbrev pN := Nat → Option (Nat × Nat × Nat)
/-- constants; names of both; strings; how many signs -/
abbrev pD := zE × List (List Int) × List (List Int) × List (List Int) × Nat
/-- through brackets c from n to m -/
def PCH (V : pV) : List Nat → Nat → Nat → Prop
  | [], n, m => n = m
  | x :: c, n, m => x = n ∧ V.2.2.1 26 n = 58 ∧ ∃ n' : Nat, n' < 14000 ∧ V.2.2.1 28 n = i_ n' ∧ V.2.2.1 27 n = V.2.2.1 27 n' ∧ PCH V c n' m
def CHx (V : pV) (tn : Nat → Prop) (nu : pN) (k : Nat) (ol : Option Int32) (n p d : Nat) : Prop := ∃ m c r, PCH V c n m ∧ (∀ x ∈ m :: c, tn x) ∧ nu p = some (m, r, d) ∧ (r + c.length < k ∧ m < 14000) ∧ V.1 p 12 = bI (!c.isEmpty) ∧ ∀ l, ol = some l → V.2.2.1 27 n = l
/-- a list's beginning: up to where -/
def LPx (V : pV) (tn : Nat → Prop) (nu : pN) (k : Nat) (ol : Option Int32) : List (Nat × Nat × Nat) → Option Nat → Int32 → Option Nat → Int32 → Prop
  | [], a, x, b, y => a = b ∧ x = y
  | q :: r, a, x, b, y => a = some q.2.1 ∧ x = i_ q.1 ∧ CHx V tn nu k ol q.1 q.2.1 q.2.2 ∧ LPx V tn nu k ol r (V.2.1 q.2.1 7) (V.2.2.1 32 q.1) b y
def LSx (V : pV) (tn : Nat → Prop) (nu : pN) (k : Nat) (ol : Option Int32) (l : List (Nat × Nat × Nat)) (a : Option Nat) (x : Int32) : Prop := LPx V tn nu k ol l a x none (-1)
def dsum (l : List (Nat × Nat × Nat)) : Nat := (l.map (fun q => q.2.2)).sum
def wrd (x y : Int32) : Prop := ∃ c v : Int, wcd c v ∧ x = i_ c ∧ y = i_ v
def nmr (D : pD) (x y : Int32) : Prop := ∃ c c' : Nat, (x = i_ c ∧ y = i_ c') ∧ (c < D.2.1.length ∧ c' < D.2.2.1.length ∧ c < 1400 ∧ c' < 1400) ∧ D.2.1.getD c [] = D.2.2.1.getD c' []
/-- a part that is there -/
def EC (V : pV) (tn : Nat → Prop) (nu : pN) (k : Nat) (ol : Option Int32) (d : Nat) (a : Option Nat) (x : Int32) : Prop := ∃ p n : Nat, a = some p ∧ x = i_ n ∧ CHx V tn nu k ol n p d
def EO (V : pV) (tn : Nat → Prop) (nu : pN) (k : Nat) (ol : Option Int32) (d : Nat) (a : Option Nat) (x : Int32) : Prop := (a = none ∧ x = -1) ∨ EC V tn nu k ol d a x
/-- an element -/
def EE (V : pV) (tn : Nat → Prop) (nu : pN) (k : Nat) (ol : Option Int32) (a : Option Nat) (x : Int32) : Prop := ∃ p n : Nat, a = some p ∧ x = i_ n ∧ CHx V tn nu k ol n p 0 ∧ V.2.2.1 26 n = 60
def SL (V : pV) (tn : Nat → Prop) (nu : pN) (k : Nat) (ol : Option Int32) (d : Nat) (a : Option Nat) (x : Int32) : Prop := ∃ l, LSx V tn nu k ol l a x ∧ d = dsum l
/-- a list with something in it -/
def S1 (V : pV) (tn : Nat → Prop) (nu : pN) (k : Nat) (ol : Option Int32) (d : Nat) (a : Option Nat) (x : Int32) : Prop := ∃ l, LSx V tn nu k ol l a x ∧ d = dsum l ∧ l ≠ []
/-- a list of nodes of one kind -/
def SK (V : pV) (tn : Nat → Prop) (nu : pN) (k : Nat) (ol : Option Int32) (d kd : Nat) (a : Option Nat) (x : Int32) : Prop := ∃ l, LSx V tn nu k ol l a x ∧ d = dsum l ∧ ∀ q ∈ l, V.2.2.1 26 q.1 = i_ kd
def SK1 (V : pV) (tn : Nat → Prop) (nu : pN) (k : Nat) (ol : Option Int32) (d kd : Nat) (a : Option Nat) (x : Int32) : Prop := ∃ l, LSx V tn nu k ol l a x ∧ d = dsum l ∧ l ≠ [] ∧ ∀ q ∈ l, V.2.2.1 26 q.1 = i_ kd
/-- elements -/
def LE (V : pV) (tn : Nat → Prop) (nu : pN) (k : Nat) (ol : Option Int32) (a : Option Nat) (x : Int32) : Prop := ∃ l, LSx V tn nu k ol l a x ∧ l ≠ [] ∧ ∀ q ∈ l, V.2.2.1 26 q.1 = 60
/-- names -/
def LN (V : pV) (tn : Nat → Prop) (nu : pN) (k : Nat) (ol : Option Int32) (d : Nat) (a : Option Nat) (x : Int32) : Prop := ∃ l, LSx V tn nu k ol l a x ∧ l ≠ [] ∧ d = dsum l ∧ ∀ q ∈ l, V.2.2.1 26 q.1 = 39
/-- processes, perhaps with a REPLICATOR -/
def SR (V : pV) (tn : Nat → Prop) (nu : pN) (k d : Nat) (a : Option Nat) (x : Int32) (b : Option Nat) (y : Int32) : Prop := ∃ l, LSx V tn nu k none l b y ∧ d = dsum l ∧ ((a = none ∧ x = -1) ∨ (EC V tn nu k none 0 a x ∧ l.length = 1))
def tyr (x y : Int32) : Prop := ∃ c : Nat, c < 3 ∧ x = i_ (c + 1 : Nat) ∧ y = i_ c
/-- the KIND of channels -/
def KN {ρ : Type} (D : pD) (V : pV) (nu : Nat → Option (Nat × ρ × Nat)) (a : Option Nat) (x : Int32) : Prop := ∃ p, a = some p ∧ V.2.1 p 0 = some (D.1.1.1 13) ∧ (∃ r d, nu p = some (99999, r, d)) ∧ ((tyr (V.1 p 8) x ∧ V.1 p 9 = -1) ∨ (∃ c : Nat, c < 1400 ∧ x = i_ (-2 - (c : Int)) ∧ nmr D (V.1 p 9) (i_ c) ∧ V.1 p 8 = -1))
/-- a specification: word, KIND, open, of channels, with VAL; in the twin a type and marks -/
def KSP {ρ : Type} (D : pD) (V : pV) (nu : Nat → Option (Nat × ρ × Nat)) (word : Int32) (c : Option Nat) (op ch vl : Int32) (ty sp : Int32) : Prop := ∃ o v : Bool, op = bI o ∧ vl = bI v ∧ ((ch = 0 ∧ c = none ∧ tyr word ty ∧ sp = i_ ((if o then 1 else 0) + (if v then 4 else 0))) ∨ (ch = 1 ∧ KN D V nu c ty ∧ v = false ∧ sp = i_ ((if o then 1 else 0) + 2)))
section LFS
variable (D : pD) (V : pV) (tn T2 : Nat → Prop) (nu : pN) (k d p n : Nat)
def kdi (i : Nat) : Prop := V.2.1 p 0 = some (D.1.1.1 i)
def LFg (n2 : Nat) : Prop := T2 n2 ∧ V.2.2.1 27 n2 = V.2.2.1 27 n ∧
  ((V.2.2.1 26 n2 = 2 ∧ V.1 p 10 = 0 ∧ V.2.1 p 3 = none ∧ EC V tn nu k none d (V.2.1 p 6) (V.2.2.1 30 n)) ∨
   (V.2.2.1 26 n2 = 5 ∧ V.1 p 10 = 1 ∧ EE V tn nu k (some (V.2.2.1 27 n)) (V.2.1 p 3) (V.2.2.1 28 n2) ∧ LE V tn nu k (some (V.2.2.1 27 n)) (V.2.1 p 4) (V.2.2.1 29 n2) ∧ EC V tn nu k none d (V.2.1 p 6) (V.2.2.1 30 n)) ∨
   (V.2.2.1 26 n2 = 6 ∧ V.1 p 10 = 2 ∧ EE V tn nu k (some (V.2.2.1 27 n)) (V.2.1 p 3) (V.2.2.1 28 n2) ∧ EC V tn nu k (some (V.2.2.1 27 n)) 0 (V.2.1 p 4) (V.2.2.1 29 n2) ∧ EC V tn nu k none d (V.2.1 p 6) (V.2.2.1 30 n)) ∨
   (V.2.2.1 26 n2 = 7 ∧ V.1 p 10 = 3 ∧ EE V tn nu k (some (V.2.2.1 27 n)) (V.2.1 p 3) (V.2.2.1 28 n2) ∧ S1 V tn nu k none d (V.2.1 p 4) (V.2.2.1 29 n2) ∧ V.2.1 p 6 = none ∧ V.2.2.1 30 n = -1))
def LFk : Nat → Prop
  | 50 => d = 0 ∧ kdi D V p 15 ∧ V.1 p 10 = V.2.2.1 28 n
  | 51 => d = 0 ∧ kdi D V p 17 ∧ V.1 p 10 = V.2.2.1 28 n ∧ ∃ c : Nat, c < 128 ∧ V.2.2.1 28 n = i_ c
  | 52 => d = 0 ∧ kdi D V p 16 ∧ ∃ a q : Nat, V.1 p 10 = i_ a ∧ V.2.2.1 28 n = i_ q ∧ q < D.2.2.2.1.length ∧ V.1 p 18 = i_ (D.2.2.2.1.getD q []).length ∧ (D.2.2.2.1.getD q []).length ≤ 60 ∧ a + (D.2.2.2.1.getD q []).length ≤ D.2.2.2.2 ∧ ∀ j, j < (D.2.2.2.1.getD q []).length → V.2.2.2 (a + j) = i_ ((D.2.2.2.1.getD q []).getD j 0)
  | 53 => d = 0 ∧ kdi D V p 20 ∧ V.1 p 10 = 1
  | 54 => d = 0 ∧ kdi D V p 20 ∧ V.1 p 10 = 0
  | 55 => d = 0 ∧ kdi D V p 15 ∧ V.1 p 10 = 2147483647
  | 56 => d = 0 ∧ kdi D V p 15 ∧ V.1 p 10 = -2147483648
  | 57 => d = 0 ∧ kdi D V p 21 ∧ tyr (V.1 p 8) (V.2.2.1 29 n) ∧ EC V tn nu k (some (V.2.2.1 27 n)) 0 (V.2.1 p 3) (V.2.2.1 28 n)
  | 59 => d = 0 ∧ kdi D V p 22 ∧ S1 V tn nu k (some (V.2.2.1 27 n)) 0 (V.2.1 p 3) (V.2.2.1 28 n)
  | 60 => d = 0 ∧ kdi D V p 18 ∧ nmr D (V.1 p 9) (V.2.2.1 30 n) ∧ EO V tn nu k (some (V.2.2.1 27 n)) 0 (V.2.1 p 3) (V.2.2.1 28 n)
  | 61 => d = 0 ∧ kdi D V p 19 ∧ nmr D (V.1 p 9) (V.2.2.1 30 n) ∧ SL V tn nu k (some (V.2.2.1 27 n)) 0 (V.2.1 p 4) (V.2.2.1 28 n)
  | 62 => d = 0 ∧ kdi D V p 14 ∧ (∃ c v : Int, wcd c v ∧ V.1 p 8 = i_ c ∧ V.2.2.1 29 n = i_ v ∧ bUn v = true) ∧ EC V tn nu k (some (V.2.2.1 27 n)) 0 (V.2.1 p 3) (V.2.2.1 28 n)
  | 63 => d = 0 ∧ kdi D V p 24 ∧ (∃ c v : Int, wcd c v ∧ V.1 p 8 = i_ c ∧ V.2.2.1 29 n = i_ v ∧ bOp v = true) ∧ EC V tn nu k (some (V.2.2.1 27 n)) 0 (V.2.1 p 3) (V.2.2.1 28 n) ∧ EC V tn nu k (some (V.2.2.1 27 n)) 0 (V.2.1 p 4) (V.2.2.1 30 n)
  | 64 => d = 0 ∧ kdi D V p 23 ∧ (∃ c : Int, (c = 2 ∨ c = 19) ∧ V.1 p 8 = i_ c ∧ V.2.2.1 29 n = i_ c) ∧ S1 V tn nu k (some (V.2.2.1 27 n)) 0 (V.2.1 p 3) (V.2.2.1 28 n)
  | 1 => kdi D V p 9 ∧ ∃ d1 d2, d = d1 + d2 ∧ SL V tn nu k none d1 (V.2.1 p 3) (V.2.2.1 28 n) ∧ EC V tn nu k none d2 (V.2.1 p 4) (V.2.2.1 29 n)
  | 2 => d = 0 ∧ kdi D V p 34
  | 3 => d = 0 ∧ kdi D V p 42
  | 4 => d = 0 ∧ kdi D V p 36 ∧ LE V tn nu k (some (V.2.2.1 27 n)) (V.2.1 p 3) (V.2.2.1 28 n) ∧ S1 V tn nu k (some (V.2.2.1 27 n)) 0 (V.2.1 p 4) (V.2.2.1 29 n)
  | 5 => d = 0 ∧ kdi D V p 40 ∧ EE V tn nu k (some (V.2.2.1 27 n)) (V.2.1 p 3) (V.2.2.1 28 n) ∧ LE V tn nu k (some (V.2.2.1 27 n)) (V.2.1 p 4) (V.2.2.1 29 n)
  | 6 => d = 0 ∧ kdi D V p 38 ∧ EE V tn nu k (some (V.2.2.1 27 n)) (V.2.1 p 3) (V.2.2.1 28 n) ∧ EC V tn nu k (some (V.2.2.1 27 n)) 0 (V.2.1 p 4) (V.2.2.1 29 n)
  | 7 => kdi D V p 39 ∧ EE V tn nu k (some (V.2.2.1 27 n)) (V.2.1 p 3) (V.2.2.1 28 n) ∧ S1 V tn nu k none d (V.2.1 p 4) (V.2.2.1 29 n)
  | 8 => d = 0 ∧ kdi D V p 37 ∧ EE V tn nu k (some (V.2.2.1 27 n)) (V.2.1 p 3) (V.2.2.1 28 n) ∧ S1 V tn nu k (some (V.2.2.1 27 n)) 0 (V.2.1 p 4) (V.2.2.1 29 n)
  | 9 => d = 0 ∧ kdi D V p 35 ∧ nmr D (V.1 p 9) (V.2.2.1 30 n) ∧ SL V tn nu k (some (V.2.2.1 27 n)) 0 (V.2.1 p 4) (V.2.2.1 28 n)
  | 10 => kdi D V p 43 ∧ SR V tn nu k d (V.2.1 p 3) (V.2.2.1 28 n) (V.2.1 p 4) (V.2.2.1 29 n)
  | 11 => kdi D V p 44 ∧ SR V tn nu k d (V.2.1 p 3) (V.2.2.1 28 n) (V.2.1 p 4) (V.2.2.1 29 n)
  | 12 => kdi D V p 46 ∧ SL V tn nu k none d (V.2.1 p 4) (V.2.2.1 29 n)
  | 13 => kdi D V p 47 ∧ EC V tn nu k (some (V.2.2.1 27 n)) 0 (V.2.1 p 3) (V.2.2.1 28 n) ∧ EC V tn nu k none d (V.2.1 p 4) (V.2.2.1 29 n)
  | 14 => kdi D V p 48 ∧ EC V tn nu k (some (V.2.2.1 27 n)) 0 (V.2.1 p 3) (V.2.2.1 28 n) ∧ SL V tn nu k none d (V.2.1 p 4) (V.2.2.1 29 n)
  | 15 => kdi D V p 49 ∧ EC V tn nu k none d (V.2.1 p 4) (V.2.2.1 29 n) ∧ ((V.1 p 11 = 1 ∧ V.2.1 p 3 = none ∧ V.2.2.1 28 n = -1) ∨ (V.1 p 11 = 0 ∧ S1 V tn nu k (some (V.2.2.1 27 n)) 0 (V.2.1 p 3) (V.2.2.1 28 n)))
  | 16 => kdi D V p 50 ∧ EC V tn nu k (some (V.2.2.1 27 n)) 0 (V.2.1 p 3) (V.2.2.1 28 n) ∧ EC V tn nu k none d (V.2.1 p 4) (V.2.2.1 29 n)
  | 17 => kdi D V p 51 ∧ (∃ b : Bool, V.1 p 11 = bI b ∧ V.2.2.1 30 n = bI b) ∧ SR V tn nu k d (V.2.1 p 3) (V.2.2.1 28 n) (V.2.1 p 4) (V.2.2.1 29 n)
  | 18 => kdi D V p 52 ∧ EO V tn nu k (some (V.2.2.1 27 n)) 0 (V.2.1 p 5) (V.2.2.1 28 n) ∧ ∃ n2 : Nat, V.2.2.1 29 n = i_ n2 ∧ LFg V tn T2 nu k d p n n2
  | 19 => kdi D V p 41 ∧ nmr D (V.1 p 9) (V.2.2.1 28 n) ∧ ((V.2.1 p 4 = none ∧ V.2.2.1 29 n = -1) ∨ LE V tn nu k (some (V.2.2.1 27 n)) (V.2.1 p 4) (V.2.2.1 29 n)) ∧ EC V tn nu k none d (V.2.1 p 6) (V.2.2.1 30 n)
  | 20 => d = 0 ∧ kdi D V p 45 ∧ nmr D (V.1 p 9) (V.2.2.1 30 n) ∧ EC V tn nu k (some (V.2.2.1 27 n)) 0 (V.2.1 p 3) (V.2.2.1 28 n) ∧ EC V tn nu k (some (V.2.2.1 27 n)) 0 (V.2.1 p 4) (V.2.2.1 29 n)
  | 30 => kdi D V p 10 ∧ V.1 p 14 = 0 ∧ tyr (V.1 p 8) (V.2.2.1 33 n) ∧ ((V.2.1 p 3 = none ∧ V.2.2.1 28 n = -1 ∧ V.2.2.1 34 n = 0) ∨ (EC V tn nu k (some (V.2.2.1 27 n)) 0 (V.2.1 p 3) (V.2.2.1 28 n) ∧ V.2.2.1 34 n = 1)) ∧ LN V tn nu k (some (V.2.2.1 27 n)) d (V.2.1 p 4) (V.2.2.1 29 n)
  | 31 => kdi D V p 26 ∧ V.1 p 14 = 1 ∧ KN D V nu (V.2.1 p 5) (V.2.2.1 33 n) ∧ ((V.2.1 p 3 = none ∧ V.2.2.1 28 n = -1 ∧ V.2.2.1 34 n = 2) ∨ (EC V tn nu k (some (V.2.2.1 27 n)) 0 (V.2.1 p 3) (V.2.2.1 28 n) ∧ V.2.2.1 34 n = 3)) ∧ LN V tn nu k (some (V.2.2.1 27 n)) d (V.2.1 p 4) (V.2.2.1 29 n)
  | 32 => kdi D V p 27 ∧ V.1 p 14 = 0 ∧ V.2.1 p 3 = none ∧ V.2.2.1 28 n = -1 ∧ V.2.2.1 34 n = 0 ∧ LN V tn nu k (some (V.2.2.1 27 n)) d (V.2.1 p 4) (V.2.2.1 29 n)
  | 33 => d = 1 ∧ kdi D V p 28 ∧ nmr D (V.1 p 9) (V.2.2.1 30 n) ∧ EC V tn nu k (some (V.2.2.1 27 n)) 0 (V.2.1 p 3) (V.2.2.1 28 n) ∧ tyr (V.1 p 8) (V.2.2.1 33 n) ∧ ∃ o : Bool, V.1 p 13 = bI o ∧ V.2.2.1 34 n = i_ ((if o then 1 else 0) + 4)
  | 34 => d = 1 ∧ kdi D V p 25 ∧ nmr D (V.1 p 9) (V.2.2.1 30 n) ∧ EE V tn nu k (some (V.2.2.1 27 n)) (V.2.1 p 3) (V.2.2.1 28 n) ∧ KSP D V nu (V.1 p 8) (V.2.1 p 5) (V.1 p 13) (V.1 p 14) 0 (V.2.2.1 33 n) (V.2.2.1 34 n)
  | 35 => d = 1 ∧ kdi D V p 29 ∧ nmr D (V.1 p 9) (V.2.2.1 30 n) ∧ SK1 V tn nu k (some (V.2.2.1 27 n)) 0 40 (V.2.1 p 4) (V.2.2.1 29 n)
  | 36 => d = 1 ∧ kdi D V p 31 ∧ nmr D (V.1 p 9) (V.2.2.1 30 n) ∧ SK1 V tn nu k none 0 41 (V.2.1 p 4) (V.2.2.1 29 n)
  | 37 => kdi D V p 33 ∧ nmr D (V.1 p 9) (V.2.2.1 30 n) ∧ SK V tn nu k (some (V.2.2.1 27 n)) 0 42 (V.2.1 p 3) (V.2.2.1 28 n) ∧ ∃ d2, d = 1 + d2 ∧ EC V tn nu k none d2 (V.2.1 p 4) (V.2.2.1 29 n)
  | 38 => kdi D V p 11 ∧ nmr D (V.1 p 9) (V.2.2.1 30 n) ∧ tyr (V.1 p 8) (V.2.2.1 33 n) ∧ SK V tn nu k (some (V.2.2.1 27 n)) 0 42 (V.2.1 p 3) (V.2.2.1 28 n) ∧
      ((V.1 p 11 = 1 ∧ EC V tn nu k none 0 (V.2.1 p 4) (V.2.2.1 41 n) ∧ V.2.2.1 42 n = -1 ∧ V.2.2.1 29 n = -1 ∧ V.2.1 p 5 = none ∧ d = 1) ∨
       (V.1 p 11 = 0 ∧ ∃ d1 d2, d = 1 + d1 + d2 ∧ SL V tn nu k none d1 (V.2.1 p 5) (V.2.2.1 42 n) ∧ EC V tn nu k none d2 (V.2.1 p 4) (V.2.2.1 29 n) ∧ EC V tn nu k none 0 (V.2.1 p 6) (V.2.2.1 41 n)))
  | 39 => d = 1 ∧ kdi D V p 13 ∧ nmr D (V.1 p 9) (V.2.2.1 30 n)
  | 40 => d = 0 ∧ kdi D V p 30 ∧ tyr (V.1 p 8) (V.2.2.1 33 n) ∧ ((V.2.1 p 3 = none ∧ V.2.2.1 28 n = -1 ∧ V.2.2.1 34 n = 0) ∨ (EC V tn nu k (some (V.2.2.1 27 n)) 0 (V.2.1 p 3) (V.2.2.1 28 n) ∧ V.2.2.1 34 n = 1))
  | 41 => d = 0 ∧ kdi D V p 32 ∧ nmr D (V.1 p 9) (V.2.2.1 30 n) ∧ SK V tn nu k (some (V.2.2.1 27 n)) 0 40 (V.2.1 p 4) (V.2.2.1 29 n)
  | 42 => d = 0 ∧ kdi D V p 12 ∧ nmr D (V.1 p 9) (V.2.2.1 30 n) ∧ KSP D V nu (V.1 p 8) (V.2.1 p 5) (V.1 p 13) (V.1 p 14) (V.1 p 15) (V.2.2.1 33 n) (V.2.2.1 34 n)
  | _ => False
def LF : Prop := V.1 p 2 = V.2.2.1 27 n ∧ ∃ kd : Nat, V.2.2.1 26 n = i_ kd ∧ kd < 65 ∧ LFk D V tn T2 nu k d p n kd
end LFS
/-- the nodes of MeetingHouse that are done, what the twin has for them -/
def GL (D : pD) (V : pV) (al : List Nat) (m N : Nat) (nu : pN) (tn : Nat → Prop) : Prop := (∀ a n r d, nu a = some (n, r, d) → a ∈ al.take m ∧ (n = 99999 ∨ (tn n ∧ n < 14000 ∧ LF D V tn tn nu r d a n))) ∧ ∀ n, tn n → n < N
/-- views that agree on what is done -/
def VWa {ρ : Type} (V V' : pV) (tn : Nat → Prop) (nu : Nat → Option (Nat × ρ × Nat)) : Prop := (∀ a, nu a ≠ none → V'.1 a = V.1 a ∧ V'.2.1 a = V.2.1 a) ∧ (∀ k n, tn n → (k < 35 ∨ k = 41 ∨ k = 42) → V'.2.2.1 k n = V.2.2.1 k n) ∧ V'.2.2.2 = V.2.2.2
def VW {ρ : Type} (V V' : pV) (tn T2 : Nat → Prop) (nu : Nat → Option (Nat × ρ × Nat)) (p n : Nat) : Prop := VWa V V' tn nu ∧ ((∀ j, j ≠ 12 → V'.1 p j = V.1 p j) ∧ ∀ j, j ≠ 7 → V'.2.1 p j = V.2.1 p j) ∧ (∀ k n', T2 n' ∨ n' = n → k ≠ 32 → (k < 35 ∨ k = 41 ∨ k = 42) → V'.2.2.1 k n' = V.2.2.1 k n')
def nle {ρ : Type} (nu nu' : Nat → Option (Nat × ρ × Nat)) : Prop := ∀ a x, nu a = some x → nu' a = some x
section UP
variable {D : pD} {V V' : pV} {tn tn' T2 T2' : Nat → Prop} {nu nu' : pN} {k k' d p n m : Nat} {ol : Option Int32} {a : Option Nat} {x : Int32} {c : List Nat}
theorem PCH.mem : ∀ {c : List Nat} {n : Nat}, PCH V c n m → n ∈ m :: c
  | [], n, h => by
    have : n = m := h
    rw [this]
    exact List.mem_cons_self
  | y :: c, n, h => by
    rw [← h.1]
    exact List.mem_cons_of_mem _ List.mem_cons_self
theorem PCH.up : ∀ {c : List Nat} {n : Nat}, (∀ y ∈ m :: c, ∀ k, k ≠ 32 → k < 35 → V'.2.2.1 k y = V.2.2.1 k y) → PCH V c n m → PCH V' c n m
  | [], n, _, h => h
  | y :: c, n, hv, h => by
    obtain ⟨h1, h2, n', h6, h3, h4, h5⟩ := h
    subst h1
    have hy := hv y (List.mem_cons_of_mem _ List.mem_cons_self)
    have hr : ∀ z ∈ m :: c, ∀ k, k ≠ 32 → k < 35 → V'.2.2.1 k z = V.2.2.1 k z := fun z hz => hv z (by
      rcases List.mem_cons.mp hz with e | e
      · rw [e]; exact List.mem_cons_self
      · exact List.mem_cons_of_mem _ (List.mem_cons_of_mem _ e))
    refine ⟨rfl, ?_, n', h6, ?_, ?_, PCH.up hr h5⟩
    · rw [hy 26 (by decide) (by decide)]; exact h2
    · rw [hy 28 (by decide) (by decide)]; exact h3
    · rw [hy 27 (by decide) (by decide), hr n' h5.mem 27 (by decide) (by decide)]; exact h4
theorem CHx.tnx (h : CHx V tn nu k ol n p d) : tn n := by
  obtain ⟨m, c, r, h1, h2, -⟩ := h
  exact h2 _ h1.mem
theorem CHx.nux (h : CHx V tn nu k ol n p d) : nu p ≠ none := by
  obtain ⟨m, c, r, -, -, h2, -⟩ := h
  rw [h2]
  simp
theorem CHx.up (h : CHx V tn nu k ol n p d) (hv : VWa V V' tn nu) (hn : nle nu nu') (hN : ∀ y, tn y → tn' y) (hk : k ≤ k') : CHx V' tn' nu' k' ol n p d := by
  have ht := h.tnx
  obtain ⟨m, c, r, h1, h1b, h2, ⟨h3, h3b⟩, h4, h5⟩ := h
  refine ⟨m, c, r, PCH.up (fun y hy k _ hk => hv.2.1 k y (h1b y hy) (.inl hk)) h1, fun y hy => hN y (h1b y hy), hn _ _ h2, ⟨by omega, h3b⟩, ?_, fun l e => ?_⟩
  · rw [(hv.1 p (by rw [h2]; simp)).1]; exact h4
  · rw [hv.2.1 _ _ ht (.inl (by decide))]; exact h5 l e
theorem LPx.up (hv : VWa V V' tn nu) (hn : nle nu nu') (hN : ∀ y, tn y → tn' y) (hk : k ≤ k') {b : Option Nat} {y : Int32} : ∀ {l : List (Nat × Nat × Nat)} {a : Option Nat} {x : Int32}, LPx V tn nu k ol l a x b y → LPx V' tn' nu' k' ol l a x b y
  | [], _, _, h => h
  | q :: r, a, x, h => by
    obtain ⟨h1, h2, h3, h4⟩ := h
    refine ⟨h1, h2, h3.up hv hn hN hk, ?_⟩
    rw [(hv.1 q.2.1 h3.nux).2, hv.2.1 _ _ h3.tnx (.inl (by decide))]
    exact LPx.up hv hn hN hk h4
theorem LPx.mem {b : Option Nat} {y : Int32} : ∀ {l : List (Nat × Nat × Nat)} {a : Option Nat} {x : Int32}, LPx V tn nu k ol l a x b y → ∀ q ∈ l, CHx V tn nu k ol q.1 q.2.1 q.2.2
  | [], _, _, _, _, hq => absurd hq List.not_mem_nil
  | q0 :: r, _, _, h, q, hq => by
    rcases List.mem_cons.mp hq with e | e
    · subst e
      exact h.2.2.1
    · exact LPx.mem h.2.2.2 q e
/-- one more behind -/
theorem LPx.snoc {q : Nat × Nat × Nat} : ∀ {l : List (Nat × Nat × Nat)} {a : Option Nat} {x : Int32}, LPx V tn nu k ol l a x (some q.2.1) (i_ q.1) → CHx V tn nu k ol q.1 q.2.1 q.2.2 → LPx V tn nu k ol (l ++ [q]) a x (V.2.1 q.2.1 7) (V.2.2.1 32 q.1)
  | [], a, x, h, hc => ⟨h.1, h.2, hc, rfl, rfl⟩
  | q0 :: r, a, x, h, hc => ⟨h.1, h.2.1, h.2.2.1, LPx.snoc h.2.2.2 hc⟩
theorem dsum_snoc {l : List (Nat × Nat × Nat)} {q : Nat × Nat × Nat} : dsum (l ++ [q]) = dsum l + q.2.2 := by simp [dsum]
theorem EC.up (h : EC V tn nu k ol d a x) (hv : VWa V V' tn nu) (hn : nle nu nu') (hN : ∀ y, tn y → tn' y) (hk : k ≤ k') : EC V' tn' nu' k' ol d a x := by
  obtain ⟨p, n, h1, h2, h3⟩ := h
  exact ⟨p, n, h1, h2, h3.up hv hn hN hk⟩
theorem EO.up (h : EO V tn nu k ol d a x) (hv : VWa V V' tn nu) (hn : nle nu nu') (hN : ∀ y, tn y → tn' y) (hk : k ≤ k') : EO V' tn' nu' k' ol d a x := h.elim .inl (fun h => .inr (h.up hv hn hN hk))
theorem EE.up (h : EE V tn nu k ol a x) (hv : VWa V V' tn nu) (hn : nle nu nu') (hN : ∀ y, tn y → tn' y) (hk : k ≤ k') : EE V' tn' nu' k' ol a x := by
  obtain ⟨p, n, h1, h2, h3, h4⟩ := h
  exact ⟨p, n, h1, h2, h3.up hv hn hN hk, by rw [hv.2.1 _ _ h3.tnx (.inl (by decide))]; exact h4⟩
theorem SL.up (h : SL V tn nu k ol d a x) (hv : VWa V V' tn nu) (hn : nle nu nu') (hN : ∀ y, tn y → tn' y) (hk : k ≤ k') : SL V' tn' nu' k' ol d a x := by
  obtain ⟨l, h1, h2⟩ := h
  exact ⟨l, LPx.up hv hn hN hk h1, h2⟩
theorem S1.up (h : S1 V tn nu k ol d a x) (hv : VWa V V' tn nu) (hn : nle nu nu') (hN : ∀ y, tn y → tn' y) (hk : k ≤ k') : S1 V' tn' nu' k' ol d a x := by
  obtain ⟨l, h1, h2, h3⟩ := h
  exact ⟨l, LPx.up hv hn hN hk h1, h2, h3⟩
theorem SK.up {kd : Nat} (h : SK V tn nu k ol d kd a x) (hv : VWa V V' tn nu) (hn : nle nu nu') (hN : ∀ y, tn y → tn' y) (hk : k ≤ k') : SK V' tn' nu' k' ol d kd a x := by
  obtain ⟨l, h1, h2, h3⟩ := h
  exact ⟨l, LPx.up hv hn hN hk h1, h2, fun q hq => by rw [hv.2.1 _ _ (LPx.mem h1 q hq).tnx (.inl (by decide))]; exact h3 q hq⟩
theorem SK1.up {kd : Nat} (h : SK1 V tn nu k ol d kd a x) (hv : VWa V V' tn nu) (hn : nle nu nu') (hN : ∀ y, tn y → tn' y) (hk : k ≤ k') : SK1 V' tn' nu' k' ol d kd a x := by
  obtain ⟨l, h1, h2, h4, h3⟩ := h
  exact ⟨l, LPx.up hv hn hN hk h1, h2, h4, fun q hq => by rw [hv.2.1 _ _ (LPx.mem h1 q hq).tnx (.inl (by decide))]; exact h3 q hq⟩
theorem LE.up (h : LE V tn nu k ol a x) (hv : VWa V V' tn nu) (hn : nle nu nu') (hN : ∀ y, tn y → tn' y) (hk : k ≤ k') : LE V' tn' nu' k' ol a x := by
  obtain ⟨l, h1, h2, h3⟩ := h
  exact ⟨l, LPx.up hv hn hN hk h1, h2, fun q hq => by rw [hv.2.1 _ _ (LPx.mem h1 q hq).tnx (.inl (by decide))]; exact h3 q hq⟩
theorem LN.up (h : LN V tn nu k ol d a x) (hv : VWa V V' tn nu) (hn : nle nu nu') (hN : ∀ y, tn y → tn' y) (hk : k ≤ k') : LN V' tn' nu' k' ol d a x := by
  obtain ⟨l, h1, h2, h2b, h3⟩ := h
  exact ⟨l, LPx.up hv hn hN hk h1, h2, h2b, fun q hq => by rw [hv.2.1 _ _ (LPx.mem h1 q hq).tnx (.inl (by decide))]; exact h3 q hq⟩
theorem SR.up {b : Option Nat} {y : Int32} (h : SR V tn nu k d a x b y) (hv : VWa V V' tn nu) (hn : nle nu nu') (hN : ∀ y, tn y → tn' y) (hk : k ≤ k') : SR V' tn' nu' k' d a x b y := by
  obtain ⟨l, h1, h2, h3⟩ := h
  exact ⟨l, LPx.up hv hn hN hk h1, h2, h3.elim .inl (fun h => .inr ⟨h.1.up hv hn hN hk, h.2⟩)⟩
theorem KN.up {ρ : Type} {nu nu' : Nat → Option (Nat × ρ × Nat)} (h : KN D V nu a x) (hv : VWa V V' tn nu) (hn : nle nu nu') : KN D V' nu' a x := by
  obtain ⟨p, h1, h2, ⟨r, d, h3⟩, h4⟩ := h
  obtain ⟨e1, e2⟩ := hv.1 p (by rw [h3]; simp)
  exact ⟨p, h1, by rw [e2]; exact h2, ⟨r, d, hn _ _ h3⟩, by rw [e1]; exact h4⟩
theorem KSP.up {ρ : Type} {nu nu' : Nat → Option (Nat × ρ × Nat)} {w1 op ch vl sp : Int32} (h : KSP D V nu w1 a op ch vl x sp) (hv : VWa V V' tn nu) (hn : nle nu nu') : KSP D V' nu' w1 a op ch vl x sp := by
  obtain ⟨o, v, h1, h2, h3⟩ := h
  exact ⟨o, v, h1, h2, h3.elim .inl (fun h => .inr ⟨h.1, h.2.1.up hv hn, h.2.2⟩)⟩
theorem LFg.up {n2 : Nat} (h : LFg V tn T2 nu k d p n n2) (hv : VW V V' tn T2 nu p n) (hn : nle nu nu') (hN : ∀ y, tn y → tn' y) (hT : ∀ y, T2 y → T2' y) (hk : k ≤ k') : LFg V' tn' T2' nu' k' d p n n2 := by
  obtain ⟨h1, h2, h3⟩ := h
  obtain ⟨e1, e2⟩ := hv.2.1
  have e3 : ∀ j, j ≠ 32 → j < 35 → V'.2.2.1 j n = V.2.2.1 j n := fun j h3 hj => hv.2.2 _ _ (.inr rfl) h3 (.inl hj)
  have e4 : ∀ j, j ≠ 32 → j < 35 → V'.2.2.1 j n2 = V.2.2.1 j n2 := fun j h3 hj => hv.2.2 _ _ (.inl h1) h3 (.inl hj)
  unfold LFg
  rw [e1 10 (by decide), e2 3 (by decide), e2 4 (by decide), e2 6 (by decide), e3 27 (by decide) (by decide), e3 30 (by decide) (by decide), e4 27 (by decide) (by decide), e4 26 (by decide) (by decide), e4 28 (by decide) (by decide), e4 29 (by decide) (by decide)]
  refine ⟨hT _ h1, h2, ?_⟩
  rcases h3 with h3 | h3 | h3 | h3
  · exact .inl ⟨h3.1, h3.2.1, h3.2.2.1, h3.2.2.2.up hv.1 hn hN hk⟩
  · exact .inr (.inl ⟨h3.1, h3.2.1, h3.2.2.1.up hv.1 hn hN hk, h3.2.2.2.1.up hv.1 hn hN hk, h3.2.2.2.2.up hv.1 hn hN hk⟩)
  · exact .inr (.inr (.inl ⟨h3.1, h3.2.1, h3.2.2.1.up hv.1 hn hN hk, h3.2.2.2.1.up hv.1 hn hN hk, h3.2.2.2.2.up hv.1 hn hN hk⟩))
  · exact .inr (.inr (.inr ⟨h3.1, h3.2.1, h3.2.2.1.up hv.1 hn hN hk, h3.2.2.2.1.up hv.1 hn hN hk, h3.2.2.2.2⟩))
theorem LF.up (h : LF D V tn T2 nu k d p n) (hv : VW V V' tn T2 nu p n) (hn : nle nu nu') (hN : ∀ y, tn y → tn' y) (hT : ∀ y, T2 y → T2' y) (hk : k ≤ k') : LF D V' tn' T2' nu' k' d p n := by
  obtain ⟨h1, kd, h2, h3, h4⟩ := h
  obtain ⟨e1, e2⟩ := hv.2.1
  have e3 : ∀ j, j ≠ 32 → j < 35 → V'.2.2.1 j n = V.2.2.1 j n := fun j h3 hj => hv.2.2 _ _ (.inr rfl) h3 (.inl hj)
  have e41 : V'.2.2.1 41 n = V.2.2.1 41 n := hv.2.2 _ _ (.inr rfl) (by decide) (.inr (.inl rfl))
  have e42 : V'.2.2.1 42 n = V.2.2.1 42 n := hv.2.2 _ _ (.inr rfl) (by decide) (.inr (.inr rfl))
  refine ⟨by rw [e1 2 (by decide), e3 27 (by decide) (by decide)]; exact h1, kd, by rw [e3 26 (by decide) (by decide)]; exact h2, h3, ?_⟩
  unfold LFk kdi at h4 ⊢
  rw [e1 8 (by decide), e1 9 (by decide), e1 10 (by decide), e1 11 (by decide), e1 13 (by decide), e1 14 (by decide), e1 15 (by decide), e1 18 (by decide), e2 0 (by decide), e2 3 (by decide), e2 4 (by decide), e2 5 (by decide), e2 6 (by decide), e3 27 (by decide) (by decide), e3 28 (by decide) (by decide), e3 29 (by decide) (by decide), e3 30 (by decide) (by decide), e3 33 (by decide) (by decide), e3 34 (by decide) (by decide), e41, e42, hv.1.2.2]
  split at h4
  · exact h4
  · exact h4
  · exact h4
  · exact h4
  · exact h4
  · exact h4
  · exact h4
  · exact ⟨h4.1, h4.2.1, h4.2.2.1, h4.2.2.2.up hv.1 hn hN hk⟩
  · exact ⟨h4.1, h4.2.1, h4.2.2.up hv.1 hn hN hk⟩
  · exact ⟨h4.1, h4.2.1, h4.2.2.1, h4.2.2.2.up hv.1 hn hN hk⟩
  · exact ⟨h4.1, h4.2.1, h4.2.2.1, h4.2.2.2.up hv.1 hn hN hk⟩
  · exact ⟨h4.1, h4.2.1, h4.2.2.1, h4.2.2.2.up hv.1 hn hN hk⟩
  · exact ⟨h4.1, h4.2.1, h4.2.2.1, h4.2.2.2.1.up hv.1 hn hN hk, h4.2.2.2.2.up hv.1 hn hN hk⟩
  · exact ⟨h4.1, h4.2.1, h4.2.2.1, h4.2.2.2.up hv.1 hn hN hk⟩
  · obtain ⟨q1, d1, d2, q2, q3, q4⟩ := h4
    exact ⟨q1, d1, d2, q2, q3.up hv.1 hn hN hk, q4.up hv.1 hn hN hk⟩
  · exact h4
  · exact h4
  · exact ⟨h4.1, h4.2.1, h4.2.2.1.up hv.1 hn hN hk, h4.2.2.2.up hv.1 hn hN hk⟩
  · exact ⟨h4.1, h4.2.1, h4.2.2.1.up hv.1 hn hN hk, h4.2.2.2.up hv.1 hn hN hk⟩
  · exact ⟨h4.1, h4.2.1, h4.2.2.1.up hv.1 hn hN hk, h4.2.2.2.up hv.1 hn hN hk⟩
  · exact ⟨h4.1, h4.2.1.up hv.1 hn hN hk, h4.2.2.up hv.1 hn hN hk⟩
  · exact ⟨h4.1, h4.2.1, h4.2.2.1.up hv.1 hn hN hk, h4.2.2.2.up hv.1 hn hN hk⟩
  · exact ⟨h4.1, h4.2.1, h4.2.2.1, h4.2.2.2.up hv.1 hn hN hk⟩
  · exact ⟨h4.1, h4.2.up hv.1 hn hN hk⟩
  · exact ⟨h4.1, h4.2.up hv.1 hn hN hk⟩
  · exact ⟨h4.1, h4.2.up hv.1 hn hN hk⟩
  · exact ⟨h4.1, h4.2.1.up hv.1 hn hN hk, h4.2.2.up hv.1 hn hN hk⟩
  · exact ⟨h4.1, h4.2.1.up hv.1 hn hN hk, h4.2.2.up hv.1 hn hN hk⟩
  · exact ⟨h4.1, h4.2.1.up hv.1 hn hN hk, h4.2.2.elim .inl (fun h => .inr ⟨h.1, h.2.up hv.1 hn hN hk⟩)⟩
  · exact ⟨h4.1, h4.2.1.up hv.1 hn hN hk, h4.2.2.up hv.1 hn hN hk⟩
  · exact ⟨h4.1, h4.2.1, h4.2.2.up hv.1 hn hN hk⟩
  · obtain ⟨q1, q2, n2, q3, q4⟩ := h4
    exact ⟨q1, q2.up hv.1 hn hN hk, n2, q3, q4.up hv hn hN hT hk⟩
  · exact ⟨h4.1, h4.2.1, h4.2.2.1.elim .inl (fun h => .inr (h.up hv.1 hn hN hk)), h4.2.2.2.up hv.1 hn hN hk⟩
  · exact ⟨h4.1, h4.2.1, h4.2.2.1, h4.2.2.2.1.up hv.1 hn hN hk, h4.2.2.2.2.up hv.1 hn hN hk⟩
  · exact ⟨h4.1, h4.2.1, h4.2.2.1, h4.2.2.2.1.elim .inl (fun h => .inr ⟨h.1.up hv.1 hn hN hk, h.2⟩), h4.2.2.2.2.up hv.1 hn hN hk⟩
  · exact ⟨h4.1, h4.2.1, h4.2.2.1.up hv.1 hn, h4.2.2.2.1.elim .inl (fun h => .inr ⟨h.1.up hv.1 hn hN hk, h.2⟩), h4.2.2.2.2.up hv.1 hn hN hk⟩
  · exact ⟨h4.1, h4.2.1, h4.2.2.1, h4.2.2.2.1, h4.2.2.2.2.1, h4.2.2.2.2.2.up hv.1 hn hN hk⟩
  · exact ⟨h4.1, h4.2.1, h4.2.2.1, h4.2.2.2.1.up hv.1 hn hN hk, h4.2.2.2.2⟩
  · exact ⟨h4.1, h4.2.1, h4.2.2.1, h4.2.2.2.1.up hv.1 hn hN hk, h4.2.2.2.2.up hv.1 hn⟩
  · exact ⟨h4.1, h4.2.1, h4.2.2.1, h4.2.2.2.up hv.1 hn hN hk⟩
  · exact ⟨h4.1, h4.2.1, h4.2.2.1, h4.2.2.2.up hv.1 hn hN hk⟩
  · obtain ⟨q1, q2, q3, d2, q4, q5⟩ := h4
    exact ⟨q1, q2, q3.up hv.1 hn hN hk, d2, q4, q5.up hv.1 hn hN hk⟩
  · obtain ⟨q1, q2, q3, q4, q5⟩ := h4
    refine ⟨q1, q2, q3, q4.up hv.1 hn hN hk, ?_⟩
    rcases q5 with q5 | ⟨q5, d1, d2, q6, q7, q8, q9⟩
    · exact .inl ⟨q5.1, q5.2.1.up hv.1 hn hN hk, q5.2.2⟩
    · exact .inr ⟨q5, d1, d2, q6, q7.up hv.1 hn hN hk, q8.up hv.1 hn hN hk, q9.up hv.1 hn hN hk⟩
  · exact h4
  · exact ⟨h4.1, h4.2.1, h4.2.2.1, h4.2.2.2.elim .inl (fun h => .inr ⟨h.1.up hv.1 hn hN hk, h.2⟩)⟩
  · exact ⟨h4.1, h4.2.1, h4.2.2.1, h4.2.2.2.up hv.1 hn hN hk⟩
  · exact ⟨h4.1, h4.2.1, h4.2.2.1, h4.2.2.2.up hv.1 hn⟩
  · exact h4
end UP
