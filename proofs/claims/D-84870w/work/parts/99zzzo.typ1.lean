/-! ===== TYPES, part 1: what expressions are, in plain Lean ===== -/
/-- of symbols: their types, how many, whether they are constant, values; what they are -/
abbrev tG := (Nat → Int32) × (Nat → Int32) × (Nat → Bool) × (Nat → Int32) × (Nat → Int32)
/-- formals: symbol, with VAL, open, of channels -/
abbrev tF := Nat → List (Nat × Bool × Bool × Bool)
def inr32 (z : Int) : Bool := decide (-2147483648 ≤ z) && decide (z < 2147483648)
/-- whether an operation has a value -/
def ok2 (v : Int) (l r : Int32) : Bool :=
  if v = 57 then inr32 (l.toInt + r.toInt)
  else if v = 58 then inr32 (l.toInt - r.toInt)
  else if v = 59 then inr32 (l.toInt * r.toInt)
  else if v = 60 then !decide (r = 0) && !(decide (l = -2147483648) && decide (r = -1))
  else if v = 61 then !decide (r = 0)
  else if v = 65 ∨ v = 66 then !decide (r < 0) && !decide (32 < r)
  else true
def wv2 (v : Int) (l r : Int32) : Int32 :=
  if v = 14 ∨ v = 58 then l - r
  else if v = 21 ∨ v = 57 then l + r
  else if v = 31 ∨ v = 59 then l * r
  else if v = 51 then bI (decide (l = r))
  else if v = 52 then bI (!decide (l = r))
  else if v = 53 then bI (!decide (r ≤ l))
  else if v = 54 then bI (!decide (r < l))
  else if v = 55 then bI (!decide (l ≤ r))
  else if v = 56 then bI (!decide (l < r))
  else if v = 60 then l / r
  else if v = 61 then (if r = -1 then 0 else l - l / r * r)
  else if v = 62 then l &&& r
  else if v = 63 then l ||| r
  else if v = 64 then l ^^^ r
  else if v = 65 then (if r = 32 then 0 else l <<< (r &&& 31))
  else if v = 66 then (if r = 32 then 0 else (l.toUInt32 >>> (r.toUInt32 &&& Int32.toUInt32 31)).toInt32)
  else bI (!decide (l - r ≤ 0))
def wv1 (v : Int) (x : Int32) : Int32 := if v = 14 ∨ v = 58 then -x else if v = 67 then x ^^^ (-1) else 1 - x
def strl (D : pD) (q : Nat) : Int32 := i_ (D.2.2.2.1.getD q []).length
def mnyK (D : pD) (G : tG) {α : Type} (g : α → Int32) (s : Nat) : Nat → List α → Int32
  | 52, _ => strl D s
  | 58, a :: _ => g a
  | 59, cs => i_ cs.length
  | 60, [] => if G.2.1 s < 0 then -1 else G.2.1 s
  | _, _ => -1
/-- the number of an array, none: -1 -/
def mnyE (D : pD) (G : tG) : (f : Nat) → ExT f → Int32
  | 0, e => Empty.elim e
  | f + 1, e => mnyK D G (mnyE D G f) (xs e) (xk e) (xcs e)
def isCK (G : tG) {α : Type} (m : α → Int32) (g : α → Bool) (v : Int) (s : Nat) : Nat → List α → Bool
  | 52, _ => false
  | 59, _ => false
  | 61, _ => false
  | 60, [] => decide (G.2.2.2.2 s = 2) && G.2.2.1 s
  | 60, _ :: _ => false
  | 58, a :: _ => g a
  | 62, a :: _ => if v = 27 then !decide (m a < 0) else g a
  | _, cs => cs.all g
/-- a constant -/
def isC (D : pD) (G : tG) : (f : Nat) → ExT f → Bool
  | 0, e => Empty.elim e
  | f + 1, e => isCK G (mnyE D G f) (isC D G f) (xv e) (xs e) (xk e) (xcs e)
def cvb (c : Nat) (x : Int32) : Bool := decide ((c = 1 ∧ (x < 0 ∨ 255 < x)) ∨ (c = 2 ∧ x ≠ 0 ∧ x ≠ 1))
def hVs {α : Type} (g : α → Option Int32) (v : Int) : Bool → List α → Option Int32
  | b, [] => some (bI b)
  | b, e :: ls => (g e).bind (fun x => hVs g v (if v = 2 then b && decide (x = 1) else b || decide (x = 1)) ls)
def hVK (G : tG) {α : Type} (m : α → Int32) (g : α → Option Int32) (v : Int) (s : Nat) : Nat → List α → Option Int32
  | 50, _ => some (i_ v)
  | 51, _ => some (i_ v)
  | 53, _ => some 1
  | 54, _ => some 0
  | 55, _ => some 2147483647
  | 56, _ => some (-2147483648)
  | 57, a :: _ => (g a).bind (fun x => if cvb s x then none else some x)
  | 58, a :: _ => g a
  | 60, [] => some (G.2.2.2.1 s)
  | 62, a :: _ => if v = 27 then some (m a) else (g a).bind (fun x => if v = 58 ∧ x = -2147483648 then none else some (wv1 v x))
  | 63, a :: b :: _ => (g a).bind (fun l => (g b).bind (fun r => if ok2 v l r then some (wv2 v l r) else none))
  | 64, cs => hVs g v (decide (v = 2)) cs
  | _, _ => none
/-- its value, if it has one -/
def hV (D : pD) (G : tG) : (f : Nat) → ExT f → Option Int32
  | 0, e => Empty.elim e
  | f + 1, e => hVK G (mnyE D G f) (hV D G f) (xv e) (xs e) (xk e) (xcs e)
/-- what is told of an expression: type (none: -1), how many (no array: -1, not known: -2), the fault -/
abbrev tR := Int32 × Int32 × Int
/-- a constant that would be a fault; l : 16 times the line -/
def tyF (l : Int) (c : Bool) (o : Option Int32) (r : tR) : tR := if r.1 ≠ -1 ∧ c = true ∧ o = none then (-1, -1, min r.2.2 (l + 9)) else r
/-- one that is to be of a type, no array -/
def wnT (l : Int) (w : Int32) (r : tR) : Int := if ¬ (r.1 = -1 ∨ r.1 = w) ∨ (r.1 ≠ -1 ∧ r.2.1 ≠ -1) then min r.2.2 (l + 7) else r.2.2
/-- the symbol of an element -/
def isEl {f : Nat} (e : ExT f) : Option Nat := if xk e = 60 then some (xs e) else none
/-- an argument against a formal; o: the symbol of an element -/
def arT (G : tG) (l : Int) (f : Nat × Bool × Bool × Bool) (o : Option Nat) (r : tR) : Int :=
  if (if f.2.1 then (match o with | some s => !decide (G.2.2.2.2 s = 3) | none => true) else (match o with | some s => decide (G.2.2.2.2 s = (if f.2.2.2 then 3 else 1)) | none => false)) = true ∧ (r.1 = -1 ∨ G.1 f.1 = -1 ∨ r.1 = G.1 f.1) ∧ (r.1 = -1 ∨ (r.2.1 = -1 ↔ f.2.2.1 = false)) then r.2.2 else min r.2.2 (l + 7)
/-- a table: its type, how many, faults so far -/
def tyT {α : Type} (g : α → tR) (l : Int) : Int32 → Nat → Int → List α → tR
  | o, k, T, [] => (o, i_ k, T)
  | o, k, T, e :: ls => if (g e).1 = -1 then tyT g l o (k + 1) (min T (g e).2.2) ls else if (g e).2.1 ≠ -1 ∨ 2 < (g e).1 ∨ (o ≠ -1 ∧ (g e).1 ≠ o) then tyT g l o (k + 1) (min (min T (g e).2.2) (l + 7)) ls else tyT g l (g e).1 (k + 1) (min T (g e).2.2) ls
/-- truths -/
def tyW {α : Type} (g : α → tR) (l : Int) : Int → List α → Int
  | T, [] => T
  | T, e :: ls => tyW g l (min T (wnT l 2 (g e))) ls
/-- arguments -/
def tyA {α : Type} (G : tG) (el : α → Option Nat) (g : α → tR) (l : Int) : List (Nat × Bool × Bool × Bool) → Int → List α → Int
  | fs, T, [] => if fs = [] then T else min T (l + 8)
  | [], T, e :: ls => min (tyA G el g l [] (min T (g e).2.2) ls) (l + 8)
  | f :: fs, T, e :: ls => tyA G el g l fs (min T (arT G l f (el e) (g e))) ls
/-- an index that is out of bounds -/
def ixB (m : Int32) : Option Int32 → Bool
  | some v => decide (v < 0) || (!decide (m < 0) && !decide (v < m))
  | none => false
/-- an index -/
def tyI (G : tG) (l : Int) (s : Nat) (c : Bool) (o : Option Int32) (r : tR) : tR := if G.2.1 s = -1 then (-1, -1, min (wnT l 0 r) (l + 7)) else if c = true ∧ ixB (G.2.1 s) o = true then (-1, -1, min (wnT l 0 r) (l + 9)) else (G.1 s, -1, wnT l 0 r)
/-- a comparison is right -/
def cmpG (v : Int) (a b : tR) : Bool := (((decide (a.1 = -1) || (decide (a.2.1 = -1) && !decide (2 < a.1))) && (decide (b.1 = -1) || (decide (b.2.1 = -1) && !decide (2 < b.1)))) && (decide (a.1 = -1) || (decide (b.1 = -1) || decide (a.1 = b.1)))) && ((decide (v = 51) || decide (v = 52)) || (!decide (a.1 = 2) && !decide (b.1 = 2)))
def tyK (D : pD) (G : tG) (F : tF) (l : Int) {α : Type} (c : α → Bool) (o : α → Option Int32) (el : α → Option Nat) (g : α → tR) (v : Int) (s : Nat) : Nat → List α → tR
  | 50, _ => (0, -1, NOF)
  | 51, _ => (1, -1, NOF)
  | 52, _ => (1, strl D s, NOF)
  | 53, _ => (2, -1, NOF)
  | 54, _ => (2, -1, NOF)
  | 55, _ => (0, -1, NOF)
  | 56, _ => (0, -1, NOF)
  | 57, a :: _ => if (g a).1 ≠ -1 ∧ ((g a).2.1 ≠ -1 ∨ 2 < (g a).1) then (-1, -1, min (g a).2.2 (l + 7)) else (i_ s, -1, (g a).2.2)
  | 58, a :: _ => g a
  | 59, cs => tyT g l (-1) 0 NOF cs
  | 60, [] => (G.1 s, G.2.1 s, NOF)
  | 60, a :: _ => tyI G l s (c a) (o a) (g a)
  | 61, cs => (G.1 s, -1, tyA G el g l (F s) NOF cs)
  | 62, a :: _ => if v = 27 then (if (g a).1 ≠ -1 ∧ (g a).2.1 = -1 then (-1, -1, min (g a).2.2 (l + 7)) else (0, -1, (g a).2.2)) else (if v = 17 then 2 else 0, -1, wnT l (if v = 17 then 2 else 0) (g a))
  | 63, a :: b :: _ => if 51 ≤ v ∧ v ≤ 56 then (2, -1, if cmpG v (g a) (g b) = true then min (g a).2.2 (g b).2.2 else min (min (g a).2.2 (g b).2.2) (l + 7)) else (if v = 0 then 2 else 0, -1, min (wnT l 0 (g a)) (wnT l 0 (g b)))
  | 64, cs => (2, -1, tyW g l NOF cs)
  | _, _ => (-1, -1, NOF)
def tyE (D : pD) (G : tG) (F : tF) (l : Int) : (f : Nat) → ExT f → tR
  | 0, e => Empty.elim e
  | f + 1, e => tyF l (isC D G (f + 1) e) (hV D G (f + 1) e) (tyK D G F l (isC D G f) (hV D G f) isEl (tyE D G F l f) (xv e) (xs e) (xk e) (xcs e))
section TYS
variable {D : pD} {G : tG} {F : tF} {l : Int} {f n p k s : Nat} {v : Int} {cs : List (ExT f)} {c : Bool} {o : Option Int32} {r : tR}
theorem mnyE_mk : mnyE D G (f + 1) (xmk (n, p, k, v, s) cs) = mnyK D G (mnyE D G f) s k cs := rfl
theorem isC_mk : isC D G (f + 1) (xmk (n, p, k, v, s) cs) = isCK G (mnyE D G f) (isC D G f) v s k cs := rfl
theorem hV_mk : hV D G (f + 1) (xmk (n, p, k, v, s) cs) = hVK G (mnyE D G f) (hV D G f) v s k cs := rfl
theorem tyE_mk : tyE D G F l (f + 1) (xmk (n, p, k, v, s) cs) = tyF l (isC D G (f + 1) (xmk (n, p, k, v, s) cs)) (hV D G (f + 1) (xmk (n, p, k, v, s) cs)) (tyK D G F l (isC D G f) (hV D G f) isEl (tyE D G F l f) v s k cs) := rfl
theorem tyF_id : tyF l c o (tyF l c o r) = tyF l c o r := by
  unfold tyF
  by_cases h : r.1 ≠ -1 ∧ c = true ∧ o = none
  · rw [if_pos h, if_neg (fun z => z.1 rfl)]
  · rw [if_neg h, if_neg h]
/-- brackets change nothing -/
theorem tyE_par {a : ExT f} : ∀ {f' : Nat} (e : f = f' + 1), tyE D G F l (f + 1) (xmk (n, p, 58, v, s) [a]) = tyE D G F l f a := by
  intro f' e
  subst e
  show tyF l (isC D G (f' + 1) a) (hV D G (f' + 1) a) (tyE D G F l (f' + 1) a) = tyE D G F l (f' + 1) a
  exact tyF_id
end TYS
