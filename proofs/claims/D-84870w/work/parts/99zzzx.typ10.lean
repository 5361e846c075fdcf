/-! ===== TYPES, part 10: what MeetingHouse makes of expressions, in plain Lean ===== -/
/-- of a node: type, how many, value, array, constant, flag -/
abbrev nF := Int32 × Int32 × Int32 × Bool × Bool × Bool
/-- of a symbol: type, how many, value, array, constant -/
abbrev sF := Int32 × Int32 × Int32 × Bool × Bool
def gvN (x : nF) (ty : Int32) (c : Bool) (v : Int32) : nF := (ty, -1, v, false, c, x.2.2.2.2.2)
def wrN (x : nF) : nF := (0, x.2.1, x.2.2.1, false, false, x.2.2.2.2.2)
def faN (x : nF) : nF := (0, x.2.1, x.2.2.1, x.2.2.2.1, x.2.2.2.2.1, true)
/-- a fault of this kind, or none -/
def tlM (l : Int) (k : Nat) (b : Bool) : Int := if b then l + k else NOF
def cvM (l : Int) (x : nF) (c : Nat) (a : nF) : nF × Int :=
  if a.2.2.2.1 then (wrN x, l + 7)
  else if a.2.2.2.2.1 && (a.2.2.2.2.2 || ((decide (c = 1) && (decide (a.2.2.1 < 0) || decide (255 < a.2.2.1))) || (decide (c = 2) && (decide (a.2.2.1 < 0) || !decide (a.2.2.1 ≤ 1))))) then (faN (gvN x (i_ (c + 1 : Nat)) a.2.2.2.2.1 a.2.2.1), l + 9)
  else (gvN x (i_ (c + 1 : Nat)) a.2.2.2.2.1 a.2.2.1, NOF)
/-- a table: how many, type, bad, faults so far -/
def tbM {α : Type} (g : α → nF × Int) (l : Int) (x : nF) : Nat → Int32 → Bool → Int → List α → nF × Int
  | n, ty, b, T, [] => if b then (wrN (ty, i_ n, x.2.2.1, !decide (ty = 0), x.2.2.2.2.1, x.2.2.2.2.2), min T (l + 7)) else ((ty, i_ n, x.2.2.1, !decide (ty = 0), x.2.2.2.2.1, x.2.2.2.2.2), T)
  | n, ty, b, T, e :: r => tbM g l x (n + 1) (if ty = 0 ∧ (g e).1.2.2.2.1 = false then (g e).1.1 else ty) (b || ((g e).1.2.2.2.1 || (!decide ((g e).1.1 = 0) && (!decide (ty = 0) && !decide ((g e).1.1 = ty))))) (min T (g e).2) r
def elM (S : sF) (x : nF) : nF := (S.1, S.2.1, S.2.2.1, S.2.2.2.1, S.2.2.2.2 && !S.2.2.2.1, x.2.2.2.2.2)
def ixM (l : Int) (S : sF) (x a : nF) : nF × Int :=
  if S.2.2.2.1 = false ∨ (a.1 ≠ 0 ∧ (a.1 ≠ 1 ∨ a.2.2.2.1 = true)) then ((0, -1, x.2.2.1, false, false, true), l + 7)
  else if a.2.2.2.2.1 = true ∧ a.2.2.2.2.2 = false ∧ (a.2.2.1 < 0 ∨ (S.2.1 ≠ -1 ∧ ¬ a.2.2.1 < S.2.1)) then ((0, -1, x.2.2.1, false, x.2.2.2.2.1, true), l + 9)
  else ((S.1, -1, x.2.2.1, false, x.2.2.2.2.1, x.2.2.2.2.2), NOF)
/-- an argument against a formal: type, array; whether VAL, of channels; whether a variable is named -/
def agM (l : Int) (S : sF) (va ch nv : Bool) (x : nF) : Int :=
  if ch then l + 7
  else if x.1 = 0 ∧ (va || nv) = true then NOF
  else if (va || nv) = true ∧ x.1 = S.1 ∧ x.2.2.2.1 = S.2.2.2.1 then NOF
  else l + 7
def asM {α : Type} (SM : Nat → sF) (nv : α → Bool) (g : α → nF × Int) (l : Int) : List (Nat × Bool × Bool × Bool) → Int → List α → Int
  | fs, T, [] => if fs = [] then T else min T (l + 8)
  | [], T, e :: r => asM SM nv g l [] (min (min T (g e).2) (l + 8)) r
  | f :: fs, T, e :: r => asM SM nv g l fs (min (min T (g e).2) (agM l (SM f.1) f.2.1 f.2.2.2 (nv e) (g e).1)) r
def onM (l : Int) (x : nF) (v : Int) (a : nF) : nF × Int :=
  if v = 27 then
    (if a.1 ≠ 0 ∧ a.2.2.2.1 = false then (wrN (gvN x 1 (!decide (a.2.1 = -1)) a.2.1), l + 7) else (gvN x 1 (!decide (a.2.1 = -1)) a.2.1, NOF))
  else if a.1 ≠ 0 ∧ (a.1 ≠ (if v = 17 then 3 else 1) ∨ a.2.2.2.1 = true) then (wrN (gvN x (if v = 17 then 3 else 1) a.2.2.2.2.1 (wv1 v a.2.2.1)), l + 7)
  else if a.2.2.2.2.1 = true ∧ (a.2.2.2.2.2 = true ∨ (v = 58 ∧ a.2.2.1 = -2147483648)) then (faN (gvN x (if v = 17 then 3 else 1) a.2.2.2.2.1 (wv1 v a.2.2.1)), l + 9)
  else (gvN x (if v = 17 then 3 else 1) a.2.2.2.2.1 (wv1 v a.2.2.1), NOF)
def twM (l : Int) (x : nF) (v : Int) (a b : nF) : nF × Int :=
  if (a.2.2.2.1 = true ∨ b.2.2.2.1 = true) ∨ (if 51 ≤ v ∧ v ≤ 56 then (a.1 ≠ 0 ∧ b.1 ≠ 0 ∧ a.1 ≠ b.1) ∨ (53 ≤ v ∧ (a.1 = 3 ∨ b.1 = 3)) else (a.1 ≠ 0 ∧ a.1 ≠ 1) ∨ (b.1 ≠ 0 ∧ b.1 ≠ 1)) then (wrN (gvN x (if (51 ≤ v ∧ v ≤ 56) ∨ v = 0 then 3 else 1) (a.2.2.2.2.1 && b.2.2.2.2.1) 0), l + 7)
  else if (a.2.2.2.2.1 && b.2.2.2.2.1) = true then
    (if a.2.2.2.2.2 = true ∨ b.2.2.2.2.2 = true ∨ ok2 v a.2.2.1 b.2.2.1 = false then (faN (gvN x (if (51 ≤ v ∧ v ≤ 56) ∨ v = 0 then 3 else 1) true 0), l + 9) else (gvN x (if (51 ≤ v ∧ v ≤ 56) ∨ v = 0 then 3 else 1) true (wv2 v a.2.2.1 b.2.2.1), NOF))
  else (gvN x (if (51 ≤ v ∧ v ≤ 56) ∨ v = 0 then 3 else 1) false 0, NOF)
/-- truths: bad, constant, faulty, value, faults so far -/
def chM {α : Type} (g : α → nF × Int) (l : Int) (x : nF) (v : Int) : Bool → Bool → Bool → Int32 → Int → List α → nF × Int
  | b, c, q, y, T, [] => if b then (wrN (gvN x 3 c y), min T (l + 7)) else if c && q then (faN (gvN x 3 c y), min T (l + 9)) else (gvN x 3 c y, T)
  | b, c, q, y, T, e :: r => chM g l x v (b || (!decide ((g e).1.1 = 0) && (!decide ((g e).1.1 = 3) || (g e).1.2.2.2.1))) (c && (g e).1.2.2.2.2.1) (q || (g e).1.2.2.2.2.2) (if v = 2 then y &&& (g e).1.2.2.1 else y ||| (g e).1.2.2.1) (min T (g e).2) r
def mxK (SM : Nat → sF) (F : tF) (l : Int) {α : Type} (nv : α → Bool) (g : α → nF × Int) (x : nF) (v : Int) (s : Nat) : Nat → List α → nF × Int
  | 50, _ => (gvN x 1 true (i_ v), NOF)
  | 51, _ => (gvN x 2 true (i_ v), NOF)
  | 52, _ => ((2, x.2.1, x.2.2.1, true, x.2.2.2.2.1, x.2.2.2.2.2), NOF)
  | 53, _ => (gvN x 3 true 1, NOF)
  | 54, _ => (gvN x 3 true 0, NOF)
  | 55, _ => (gvN x 1 true 2147483647, NOF)
  | 56, _ => (gvN x 1 true (-2147483648), NOF)
  | 57, a :: _ => ((cvM l x s (g a).1).1, min (g a).2 (cvM l x s (g a).1).2)
  | 58, a :: _ => g a
  | 59, cs => tbM g l x 0 0 false NOF cs
  | 60, [] => (elM (SM s) x, NOF)
  | 60, a :: _ => ((ixM l (SM s) x (g a).1).1, min (g a).2 (ixM l (SM s) x (g a).1).2)
  | 61, cs => (gvN x (SM s).1 false 0, asM SM nv g l (F s) NOF cs)
  | 62, a :: _ => ((onM l x v (g a).1).1, min (g a).2 (onM l x v (g a).1).2)
  | 63, a :: b :: _ => ((twM l x v (g a).1 (g b).1).1, min (min (g a).2 (g b).2) (twM l x v (g a).1 (g b).1).2)
  | 64, cs => chM g l x v false true false (bI (decide (v = 2))) NOF cs
  | _, _ => (x, NOF)
/-- a variable by its name, not in brackets -/
def nvE (G : tG) {f : Nat} (e : ExT f) : Bool := decide (xk e = 60) && decide (G.2.2.2.2 (xs e) = 1)
/-- MeetingHouse: what an expression's node holds behind it, the fault that is told; l : 16 times the line; X0 : what nodes hold before -/
def mxE (SM : Nat → sF) (G : tG) (F : tF) (l : Int) (X0 : Nat → nF) : (f : Nat) → ExT f → nF × Int
  | 0, e => Empty.elim e
  | f + 1, e => mxK SM F l (nvE G) (mxE SM G F l X0 f) (X0 (xp e)) (xv e) (xs e) (xk e) (xcs e)
section MXL
variable {SM : Nat → sF} {G : tG} {F : tF} {l : Int} {X0 : Nat → nF} {f n p k s : Nat} {v : Int} {cs : List (ExT f)}
theorem mxE_mk : mxE SM G F l X0 (f + 1) (xmk (n, p, k, v, s) cs) = mxK SM F l (nvE G) (mxE SM G F l X0 f) (X0 p) v s k cs := rfl
end MXL
