/-! ===== TREES, part 1: expressions as trees ===== -/
/-- of a node: the twin's, MeetingHouse's, kind, number, symbol or string -/
abbrev xL := Nat × Nat × Nat × Int × Nat
/-- an expression, less than f deep: of its node, what is below -/
def ExT : Nat → Type
  | 0 => Empty
  | f + 1 => xL × List (ExT f)
def xmk {f : Nat} (L : xL) (cs : List (ExT f)) : ExT (f + 1) := (L, cs)
def xlb : (f : Nat) → ExT f → xL
  | 0, e => Empty.elim e
  | _ + 1, e => Prod.fst e
def xn {f : Nat} (e : ExT f) : Nat := (xlb f e).1
def xp {f : Nat} (e : ExT f) : Nat := (xlb f e).2.1
def xk {f : Nat} (e : ExT f) : Nat := (xlb f e).2.2.1
def xv {f : Nat} (e : ExT f) : Int := (xlb f e).2.2.2.1
def xs {f : Nat} (e : ExT f) : Nat := (xlb f e).2.2.2.2
def xcs {f : Nat} (e : ExT (f + 1)) : List (ExT f) := Prod.snd e
def xbr {f : Nat} (e : ExT f) : Bool := decide (xk e = 58)
def hdn {f : Nat} : List (ExT f) → Int32
  | [] => -1
  | e :: _ => i_ (xn e)
def hdp {f : Nat} : List (ExT f) → Option Nat
  | [] => none
  | e :: _ => some (xp e)
/-- words of the stack that a node takes, by its kind -/
def cst : Nat → Nat
  | 57 => 50
  | 58 => 50
  | 59 => 75
  | 60 => 95
  | 61 => 105
  | 62 => 95
  | 63 => 100
  | 64 => 75
  | _ => 0
/-- the greatest of them -/
def mxl {α : Type} (g : α → Nat) : List α → Nat
  | [] => 0
  | a :: r => max (g a) (mxl g r)
def wdK {α : Type} (g : α → Nat) (k : Nat) : List α → Nat
  | [] => 0
  | a :: r => cst k + mxl g (a :: r)
/-- words that an expression takes -/
def wd : (f : Nat) → ExT f → Nat
  | 0, e => Empty.elim e
  | f + 1, e => wdK (wd f) (xk e) (xcs e)
theorem mxl_le {α : Type} {g : α → Nat} : ∀ {l : List α} {a : α}, a ∈ l → g a ≤ mxl g l
  | b :: r, a, h => by
    rcases List.mem_cons.mp h with e | e
    · rw [e]; exact Nat.le_max_left _ _
    · exact Nat.le_trans (mxl_le e) (Nat.le_max_right _ _)
theorem mxl_of {α : Type} {g : α → Nat} {m : Nat} : ∀ {l : List α}, (∀ a ∈ l, g a ≤ m) → mxl g l ≤ m
  | [], _ => Nat.zero_le _
  | b :: r, h => Nat.max_le.mpr ⟨h b List.mem_cons_self, mxl_of (fun a ha => h a (List.mem_cons_of_mem _ ha))⟩
theorem wd_le {f n p k s : Nat} {v : Int} {cs : List (ExT f)} {a : ExT f} (h : a ∈ cs) : cst k + wd f a ≤ wd (f + 1) (xmk (n, p, k, v, s) cs) := by
  cases cs with
  | nil => cases h
  | cons b r => exact Nat.add_le_add_left (mxl_le h) _
theorem wd_of {f n p k s m : Nat} {v : Int} {cs : List (ExT f)} (h : ∀ a ∈ cs, cst k + wd f a ≤ m) : wd (f + 1) (xmk (n, p, k, v, s) cs) ≤ m := by
  cases cs with
  | nil => exact Nat.zero_le _
  | cons b r =>
    have h1 := h b List.mem_cons_self
    have h2 : mxl (wd f) (b :: r) ≤ m - cst k := mxl_of (fun a ha => by have := h a ha; omega)
    show cst k + mxl (wd f) (b :: r) ≤ m
    omega
theorem wd1 {f n p k s m : Nat} {v : Int} {e : ExT f} (h : cst k + wd f e ≤ m) : wd (f + 1) (xmk (n, p, k, v, s) [e]) ≤ m := wd_of (fun a ha => by rw [List.mem_singleton.mp ha]; exact h)
theorem wd2 {f n p k s m : Nat} {v : Int} {e e2 : ExT f} (h : cst k + wd f e ≤ m) (h2 : cst k + wd f e2 ≤ m) : wd (f + 1) (xmk (n, p, k, v, s) [e, e2]) ≤ m := wd_of (fun a ha => by
  rcases List.mem_cons.mp ha with q | q
  · rw [q]; exact h
  · rw [List.mem_singleton.mp q]; exact h2)
theorem ExT.el {f : Nat} (e : ExT (f + 1)) : ∃ n p k v s cs, e = xmk (n, p, k, v, s) cs := ⟨_, _, _, _, _, _, rfl⟩
/-- names that are told: the twin's row, MeetingHouse's links, symbols, what they are -/
abbrev yV := (Nat → Int32) × (Nat → Option Nat) × (Nat → Option Nat) × (Nat → Int32)
def yOf (S : nS) : yV := (fun n => w_a S.t 12 0 31 n, fun p => w_p S.w 14 p 16, S.ys, fun s => w_a S.t 12 0 46 s)
def SYu (Y : yV) (kr : List Nat) (C : Nat → Prop) (n p s : Nat) : Prop := s ∈ kr ∧ Y.1 n = i_ s ∧ (∃ A, Y.2.2.1 s = some A ∧ Y.2.1 p = some A) ∧ ∃ c : Nat, Y.2.2.2 s = i_ c ∧ C c
def RB (V : pV) (tn : Nat → Prop) (nu : pNz) (l : Int32) (n p : Nat) : Prop := (tn n ∧ n < 14000) ∧ nu p ≠ none ∧ V.2.2.1 27 n = l ∧ V.1 p 2 = l ∧ V.1 p 11 = 0 ∧ V.1 p 21 = 0
def LKe (V : pV) (j k p n : Nat) {f : Nat} (e : ExT f) : Prop := V.2.1 p j = some (xp e) ∧ V.2.2.1 k n = i_ (xn e) ∧ V.1 (xp e) 12 = bI (xbr e)
def LKl (V : pV) (j k p n : Nat) {f : Nat} (l : List (ExT f)) : Prop := V.2.1 p j = hdp l ∧ V.2.2.1 k n = hdn l
/-- a list of them stands in both heaps -/
def RXs (V : pV) {f : Nat} (R : ExT f → Prop) : List (ExT f) → Prop
  | [] => True
  | e :: r => V.1 (xp e) 12 = bI (xbr e) ∧ R e ∧ (V.2.1 (xp e) 7 = hdp r ∧ V.2.2.1 32 (xn e) = hdn r) ∧ RXs V R r
/-- by kind -/
def RXk (D : pD) (V : pV) (tn : Nat → Prop) (nu : pNz) (Y : yV) (kr : List Nat) (l : Int32) {f : Nat} (R : (Nat → Prop) → ExT f → Prop) (C : Nat → Prop) (n p : Nat) (v : Int) (s : Nat) (cs : List (ExT f)) : Nat → Prop
  | 50 => RB V tn nu l n p ∧ kdi D V p 15 ∧ cs = [] ∧ V.1 p 10 = i_ v ∧ V.2.2.1 28 n = i_ v
  | 51 => RB V tn nu l n p ∧ kdi D V p 17 ∧ cs = [] ∧ V.1 p 10 = i_ v ∧ V.2.2.1 28 n = i_ v ∧ 0 ≤ v ∧ v < 128
  | 52 => RB V tn nu l n p ∧ kdi D V p 16 ∧ cs = [] ∧ ∃ z : Nat, V.1 p 10 = i_ z ∧ V.2.2.1 28 n = i_ s ∧ s < D.2.2.2.1.length ∧ V.1 p 18 = i_ (D.2.2.2.1.getD s []).length ∧ (D.2.2.2.1.getD s []).length ≤ 60 ∧ z + (D.2.2.2.1.getD s []).length ≤ D.2.2.2.2 ∧ ∀ j, j < (D.2.2.2.1.getD s []).length → V.2.2.2 (z + j) = i_ ((D.2.2.2.1.getD s []).getD j 0)
  | 53 => RB V tn nu l n p ∧ kdi D V p 20 ∧ cs = [] ∧ V.1 p 10 = 1
  | 54 => RB V tn nu l n p ∧ kdi D V p 20 ∧ cs = [] ∧ V.1 p 10 = 0
  | 55 => RB V tn nu l n p ∧ kdi D V p 15 ∧ cs = [] ∧ V.1 p 10 = 2147483647
  | 56 => RB V tn nu l n p ∧ kdi D V p 15 ∧ cs = [] ∧ V.1 p 10 = -2147483648
  | 57 => RB V tn nu l n p ∧ kdi D V p 21 ∧ ∃ a, cs = [a] ∧ (s < 3 ∧ V.1 p 8 = i_ (s + 1 : Nat) ∧ V.2.2.1 29 n = i_ s) ∧ LKe V 3 28 p n a ∧ R Cv a
  | 58 => (tn n ∧ n < 14000) ∧ V.2.2.1 27 n = l ∧ ∃ a, cs = [a] ∧ p = xp a ∧ V.2.2.1 28 n = i_ (xn a) ∧ R C a
  | 59 => RB V tn nu l n p ∧ kdi D V p 22 ∧ (LKl V 3 28 p n cs ∧ cs ≠ []) ∧ RXs V (R Cv) cs
  | 60 => RB V tn nu l n p ∧ kdi D V p 18 ∧ SYu Y kr C n p s ∧ ((V.2.1 p 3 = none ∧ V.2.2.1 28 n = -1 ∧ cs = []) ∨ ∃ a, cs = [a] ∧ LKe V 3 28 p n a ∧ R Cv a)
  | 61 => RB V tn nu l n p ∧ kdi D V p 19 ∧ SYu Y kr (fun c => c = 8) n p s ∧ LKl V 4 28 p n cs ∧ RXs V (R Cv) cs
  | 62 => RB V tn nu l n p ∧ kdi D V p 14 ∧ (∃ c : Int, wcd c v ∧ V.1 p 8 = i_ c ∧ V.2.2.1 29 n = i_ v ∧ bUn v = true) ∧ ∃ a, cs = [a] ∧ LKe V 3 28 p n a ∧ R Cv a
  | 63 => RB V tn nu l n p ∧ kdi D V p 24 ∧ (∃ c : Int, wcd c v ∧ V.1 p 8 = i_ c ∧ V.2.2.1 29 n = i_ v ∧ bOp v = true) ∧ ∃ a b, cs = [a, b] ∧ (LKe V 3 28 p n a ∧ LKe V 4 30 p n b) ∧ R Cv a ∧ R Cv b
  | 64 => RB V tn nu l n p ∧ kdi D V p 23 ∧ ((v = 2 ∨ v = 19) ∧ V.1 p 8 = i_ v ∧ V.2.2.1 29 n = i_ v) ∧ (LKl V 3 28 p n cs ∧ cs ≠ []) ∧ RXs V (R Cv) cs
  | _ => False
/-- an expression stands in both heaps -/
def RX (D : pD) (V : pV) (tn : Nat → Prop) (nu : pNz) (Y : yV) (kr : List Nat) (l : Int32) : (f : Nat) → (Nat → Prop) → ExT f → Prop
  | 0, _, _ => False
  | f + 1, C, e => V.2.2.1 26 (xn e) = i_ (xk e) ∧ RXk D V tn nu Y kr l (RX D V tn nu Y kr l f) C (xn e) (xp e) (xv e) (xs e) (xcs e) (xk e)
section RXO
variable {D : pD} {V : pV} {tn : Nat → Prop} {nu : pNz} {S : nS} {kr : List Nat} {k n p m d f g s : Nat} {v : Int} {ol : pOL} {a : Option Nat} {x ln l : Int32} {C : Nat → Prop} {Y : yV}
theorem RX.mk {cs : List (ExT f)} : RX D V tn nu Y kr l (f + 1) C (xmk (n, p, k, v, s) cs) ↔ V.2.2.1 26 n = i_ k ∧ RXk D V tn nu Y kr l (RX D V tn nu Y kr l f) C n p v s cs k := Iff.rfl
theorem RXk.ks {R : (Nat → Prop) → ExT f → Prop} {cs : List (ExT f)} (h : RXk D V tn nu Y kr l R C n p v s cs k) : k = 50 ∨ k = 51 ∨ k = 52 ∨ k = 53 ∨ k = 54 ∨ k = 55 ∨ k = 56 ∨ k = 57 ∨ k = 58 ∨ k = 59 ∨ k = 60 ∨ k = 61 ∨ k = 62 ∨ k = 63 ∨ k = 64 := by
  unfold RXk at h
  split at h
  all_goals first
    | exact h.elim
    | (clear h; omega)
theorem RXk.ht {R : (Nat → Prop) → ExT f → Prop} {cs : List (ExT f)} (h : RXk D V tn nu Y kr l R C n p v s cs k) : tn n ∧ n < 14000 := by
  rcases h.ks with e | e | e | e | e | e | e | e | e | e | e | e | e | e | e <;> subst e <;> first | exact h.1.1 | exact h.1
theorem RXk.hl {R : (Nat → Prop) → ExT f → Prop} {cs : List (ExT f)} (h : RXk D V tn nu Y kr l R C n p v s cs k) : V.2.2.1 27 n = l := by
  rcases h.ks with e | e | e | e | e | e | e | e | e | e | e | e | e | e | e <;> subst e <;> first | exact h.1.2.2.1 | exact h.2.1
theorem RXk.w24 {R : (Nat → Prop) → ExT f → Prop} {cs : List (ExT f)} (h : RXk D V tn nu Y kr l R C n p v s cs k) : ∀ a ∈ cs, wd f a + 50 ≤ wd (f + 1) (xmk (n, p, k, v, s) cs) := fun a ha => by
  have h1 := wd_le (n := n) (p := p) (k := k) (v := v) (s := s) ha
  have h2 : 50 ≤ cst k := by
    rcases h.ks with e | e | e | e | e | e | e | e | e | e | e | e | e | e | e <;> subst e <;> first | decide | (rw [h.2.2.1] at ha; cases ha)
  omega
theorem RX.ht : ∀ {f : Nat} {C : Nat → Prop} {e : ExT f}, RX D V tn nu Y kr l f C e → tn (xn e) ∧ xn e < 14000
  | 0, _, _, h => h.elim
  | _ + 1, _, _, h => h.2.ht
theorem RX.hl : ∀ {f : Nat} {C : Nat → Prop} {e : ExT f}, RX D V tn nu Y kr l f C e → V.2.2.1 27 (xn e) = l
  | 0, _, _, h => h.elim
  | _ + 1, _, _, h => h.2.hl
theorem RX.k26 : ∀ {f : Nat} {C : Nat → Prop} {e : ExT f}, RX D V tn nu Y kr l f C e → V.2.2.1 26 (xn e) = i_ (xk e) ∧ xk e ≤ 64
  | 0, _, _, h => h.elim
  | _ + 1, _, _, h => ⟨h.1, by have := h.2.ks; omega⟩
theorem RXs.and {R P : ExT f → Prop} : ∀ {ls : List (ExT f)}, RXs V R ls → (∀ a ∈ ls, P a) → RXs V (fun e => R e ∧ P e) ls
  | [], _, _ => trivial
  | _ :: _, h, hp => ⟨h.1, ⟨h.2.1, hp _ List.mem_cons_self⟩, h.2.2.1, RXs.and h.2.2.2 (fun a ha => hp a (List.mem_cons_of_mem _ ha))⟩
theorem PCH.l27 : ∀ {c : List Nat} {n : Nat}, PCH V c n m → V.2.2.1 27 n = V.2.2.1 27 m
  | [], n, h => by
    have h : n = m := h
    rw [h]
  | x :: c, n, h => by
    obtain ⟨-, -, n', -, -, h4, h5⟩ := h
    exact h4.trans h5.l27
theorem USE.y (h : USE S kr p n C) : ∃ s, SYu (yOf S) kr C n p s := by
  obtain ⟨s, c, h1, ⟨A, h2, h3, h4⟩, h5, h6⟩ := h
  exact ⟨s, h1, h4, ⟨A, h2, h3⟩, c, h5, h6⟩
/-- expressions of smaller rank are trees -/
def RXI (D : pD) (V : pV) (tn : Nat → Prop) (nu : pNz) (S : nS) (kr : List Nat) (f : Nat) : Prop := ∀ (k : Nat) (ol : pOL) (n p d g : Nat) (C : Nat → Prop), CHz V tn nu k ol n p d → ol.2.1 = 0 → ol.2.2.1 ≤ f → NE V (nuW nu) S kr g C p → ∃ e : ExT f, xn e = n ∧ xp e = p ∧ V.1 p 12 = bI (xbr e) ∧ RX D V tn nu (yOf S) kr (V.2.2.1 27 n) f C e ∧ wd f e + 55 ≤ 75 * ol.2.2.1 ∧ (xk e ≤ 61 → wd f e + 75 ≤ 75 * ol.2.2.1)
theorem CHz.hl (h : CHz V tn nu k ol n p d) {l : Int32} (e : ol.1 = some l) : V.2.2.1 27 n = l := by
  obtain ⟨m, c, r, h1, h2, h3, h4, h5, h6, h7⟩ := h
  exact h6 l e
theorem RXs.of (I : RXI D V tn nu S kr f) : ∀ {l : List (Nat × Nat × Nat)} {ol : pOL} {a : Option Nat} {x : Int32}, LPz V tn nu k ol l a x none (-1) → ol.2.1 = 0 → ol.2.2.1 ≤ f → ol.1 = some ln → (∀ i q, nxi V i a = some q → NE V (nuW nu) S kr g C q) → ∃ ls : List (ExT f), hdp ls = a ∧ hdn ls = x ∧ RXs V (RX D V tn nu (yOf S) kr ln f C) ls ∧ ls.map (fun e => (xn e, xp e)) = l.map (fun z => (z.1, z.2.1)) ∧ ∀ e ∈ ls, wd f e + 55 ≤ 75 * ol.2.2.1
  | [], _, _, _, h, _, _, _, _ => ⟨[], h.1.symm, h.2.symm, trivial, rfl, fun _ h => nomatch h⟩
  | q :: r, ol, a, x, h, hc, hb, hl, hn => by
    obtain ⟨h1, h2, e1, h3, h4, h5⟩ := h
    obtain ⟨e, g1, g2, g3, g4, g5, -⟩ := I k _ q.1 q.2.1 q.2.2 g C h4 hc hb (hn 0 q.2.1 h1)
    obtain ⟨ls, f1, f2, f3, f4, f5⟩ := RXs.of I h5 hc hb hl (fun i q' hq' => hn (i + 1) q' (by rw [h1, nxi_s]; exact hq'))
    have hq := h4.hl hl
    rw [hq] at g4
    refine ⟨e :: ls, ?_, ?_, ⟨by rw [g2]; exact g3, g4, ⟨by rw [g2]; exact f1.symm, by rw [g1]; exact f2.symm⟩, f3⟩, ?_, fun e' he' => ?_⟩
    · rw [h1, ← g2]
      rfl
    · rw [h2, ← g1]
      rfl
    · rw [List.map_cons, List.map_cons, f4, g1, g2]
    · rcases List.mem_cons.mp he' with e1 | e1
      · rw [e1]; exact g5
      · exact f5 e' e1
theorem RX.wrap {j : Nat} {e0 : ExT j} (hN : ∀ n, tn n → n < 14000) (h0 : xn e0 = m) (hp : xp e0 = p) (hb : xbr e0 = false) (hR : RX D V tn nu Y kr l j C e0) (hm : V.2.2.1 27 m = l) : ∀ {c : List Nat} {n : Nat}, PCH V c n m → (∀ x ∈ m :: c, tn x) → ∃ e : ExT (j + c.length), xn e = n ∧ xp e = p ∧ xbr e = !c.isEmpty ∧ RX D V tn nu Y kr l (j + c.length) C e ∧ wd (j + c.length) e = wd j e0 + 50 * c.length ∧ (xk e ≤ 61 → c ≠ [] ∨ xk e0 ≤ 61)
  | [], n, h, _ => by
    have h : n = m := h
    exact ⟨e0, h0.trans h.symm, hp, hb, hR, rfl, .inr⟩
  | y :: c, n, h, ht => by
    have hl := h.l27
    obtain ⟨h1, h2, n', h3, h4, h5, h6⟩ := h
    obtain ⟨e, g1, g2, g3, g4, g5, -⟩ := RX.wrap hN h0 hp hb hR hm h6 (fun z hz => ht z (by
      rcases List.mem_cons.mp hz with q | q
      · rw [q]; exact List.mem_cons_self
      · exact List.mem_cons_of_mem _ (List.mem_cons_of_mem _ q)))
    have hy : tn n := by
      rw [← h1]
      exact ht y (List.mem_cons_of_mem _ List.mem_cons_self)
    refine ⟨xmk (n, xp e, 58, 0, 0) [e], rfl, g2, rfl, RX.mk.mpr ⟨h2, ⟨⟨hy, hN n hy⟩, hl.trans hm, e, rfl, rfl, by rw [g1]; exact h4, g4⟩⟩, ?_, fun _ => .inl (List.cons_ne_nil _ _)⟩
    show 50 + max (wd (j + c.length) e) 0 = wd j e0 + 50 * (c.length + 1)
    rw [g5]
    omega
theorem xll_ne {l : List (Nat × Nat × Nat)} {ls : List (ExT f)} (h : ls.map (fun e => (xn e, xp e)) = l.map (fun z => (z.1, z.2.1))) (hl : l ≠ []) : ls ≠ [] := fun e => by
  rw [e] at h
  cases l with
  | nil => exact hl rfl
  | cons a b => cases h
theorem i_toI (x : Int32) : i_ x.toInt = x := (i_of x).symm
/-- every expression is a tree -/
theorem RX.of (hG : ∀ a n r d, nu a = some (n, r, d) → n = 99999 ∨ (tn n ∧ n < 14000 ∧ LFz D V tn tn nu r d a n)) (hN : ∀ n, tn n → n < 14000) : ∀ f, RXI D V tn nu S kr f := by
  intro f
  induction f using Nat.strongRecOn with
  | ind f ih =>
    intro k ol n p d g C h hc0 hb hne
    obtain ⟨m, c, r, h1, h2, h3, h4, h5, h6, ⟨kd, h7, h7b, h7c, h7d⟩, h8, h9⟩ := h
    cases g with
    | zero => exact hne.elim
    | succ g =>
    obtain ⟨-, n', r', d', kd', q1, ⟨q2, q2b⟩, q3, q4, q5, q6⟩ := hne
    rw [nuW_s h3] at q1
    cases q1
    rcases hG p m r d h3 with e | ⟨htn, -, ⟨hl1, -⟩, kd2, g2, g3, gz, g4⟩
    · omega
    have e : kd2 = kd := by
      have := (i_eq (by omega) (by omega)).mp (g2.symm.trans h7)
      omega
    have e' : kd' = kd := by
      have := (i_eq (by omega) (by omega)).mp (q3.symm.trans h7)
      omega
    subst e e'
    obtain ⟨f, rfl⟩ : ∃ j, f = j + 1 + c.length := ⟨f - 1 - c.length, by omega⟩
    have hr : r.1 ≤ f := by omega
    have ih := ih f (by omega)
    rw [hc0] at h7c
    have hkd : 50 ≤ kd' ∧ kd' ≤ 64 := by unfold cok at h7c; omega
    have hrb : RB V tn nu (V.2.2.1 27 m) m p := ⟨⟨htn, h4⟩, by rw [h3]; simp, rfl, hl1, gz hkd.1⟩
    have core : ∃ e0 : ExT (f + 1), xn e0 = m ∧ xp e0 = p ∧ xbr e0 = false ∧ RX D V tn nu (yOf S) kr (V.2.2.1 27 m) (f + 1) C e0 ∧ wd (f + 1) e0 ≤ 75 * r.1 + 20 ∧ (xk e0 ≤ 61 → wd (f + 1) e0 ≤ 75 * r.1) := by
      have one : ∀ {j k B : Nat} {ol : pOL}, chl kd' j → ol.2.1 = 0 → ol.2.2.1 = B → B ≤ r.1 → ol.1 = some (V.2.2.1 27 m) → ECz V tn nu r.1 ol 0 (V.2.1 p j) (V.2.2.1 k m) → ∃ e : ExT f, LKe V j k p m e ∧ RX D V tn nu (yOf S) kr (V.2.2.1 27 m) f Cv e ∧ wd f e + 55 ≤ 75 * B ∧ (xk e ≤ 61 → wd f e + 75 ≤ 75 * B) ∧ 1 ≤ B := by
        intro j k B ol hj hc hB hb hol hE
        subst hB
        obtain ⟨p1, n1, e1, e2, hC1⟩ := hE
        obtain ⟨e, x1, x2, x3, x4, x5, x6⟩ := ih r.1 ol n1 p1 0 g Cv hC1 hc (by omega) (q4 j hj 0 p1 (.inl rfl) e1)
        rw [hC1.hl hol] at x4
        exact ⟨e, ⟨by rw [x2]; exact e1, by rw [x1]; exact e2, by rw [x2]; exact x3⟩, x4, x5, x6, by omega⟩
      have many : ∀ {j k B : Nat} {ol : pOL} {l : List (Nat × Nat × Nat)}, chl kd' j → isl (V.1 p 10) kd' j → ol.2.1 = 0 → ol.2.2.1 = B → B ≤ r.1 → ol.1 = some (V.2.2.1 27 m) → LSz V tn nu r.1 ol l (V.2.1 p j) (V.2.2.1 k m) → ∃ ls : List (ExT f), LKl V j k p m ls ∧ RXs V (RX D V tn nu (yOf S) kr (V.2.2.1 27 m) f Cv) ls ∧ (l ≠ [] → ls ≠ []) ∧ ∀ e ∈ ls, wd f e + 55 ≤ 75 * B := by
        intro j k B ol l hj hi hc hB hb hol hE
        subst hB
        obtain ⟨ls, x1, x2, x3, x4, x5⟩ := RXs.of ih hE hc (by omega) hol (fun i q hq => q4 j hj i q (.inr hi) hq)
        exact ⟨ls, ⟨x1.symm, x2.symm⟩, x3, xll_ne x4, x5⟩
      have hks : kd' = 50 ∨ kd' = 51 ∨ kd' = 52 ∨ kd' = 53 ∨ kd' = 54 ∨ kd' = 55 ∨ kd' = 56 ∨ kd' = 57 ∨ kd' = 58 ∨ kd' = 59 ∨ kd' = 60 ∨ kd' = 61 ∨ kd' = 62 ∨ kd' = 63 ∨ kd' = 64 := by omega
      rcases hks with e | e | e | e | e | e | e | e | e | e | e | e | e | e | e <;> subst e
      · exact ⟨xmk (m, p, 50, (V.2.2.1 28 m).toInt, 0) [], rfl, rfl, rfl, RX.mk.mpr ⟨h7, hrb, g4.2.1, rfl, by rw [i_toI]; exact g4.2.2, (i_toI _).symm⟩, Nat.zero_le _, fun _ => Nat.zero_le _⟩
      · obtain ⟨-, a2, a3, c0, a4, a5⟩ := g4
        exact ⟨xmk (m, p, 51, (c0 : Int), 0) [], rfl, rfl, rfl, RX.mk.mpr ⟨h7, hrb, a2, rfl, a3.trans a5, a5, by omega, by omega⟩, Nat.zero_le _, fun _ => Nat.zero_le _⟩
      · obtain ⟨-, a2, z, q, a3, a4, a5⟩ := g4
        exact ⟨xmk (m, p, 52, 0, q) [], rfl, rfl, rfl, RX.mk.mpr ⟨h7, hrb, a2, rfl, z, a3, a4, a5⟩, Nat.zero_le _, fun _ => Nat.zero_le _⟩
      · exact ⟨xmk (m, p, 53, 1, 0) [], rfl, rfl, rfl, RX.mk.mpr ⟨h7, hrb, g4.2.1, rfl, g4.2.2⟩, Nat.zero_le _, fun _ => Nat.zero_le _⟩
      · exact ⟨xmk (m, p, 54, 0, 0) [], rfl, rfl, rfl, RX.mk.mpr ⟨h7, hrb, g4.2.1, rfl, g4.2.2⟩, Nat.zero_le _, fun _ => Nat.zero_le _⟩
      · exact ⟨xmk (m, p, 55, 2147483647, 0) [], rfl, rfl, rfl, RX.mk.mpr ⟨h7, hrb, g4.2.1, rfl, g4.2.2⟩, Nat.zero_le _, fun _ => Nat.zero_le _⟩
      · exact ⟨xmk (m, p, 56, -2147483648, 0) [], rfl, rfl, rfl, RX.mk.mpr ⟨h7, hrb, g4.2.1, rfl, g4.2.2⟩, Nat.zero_le _, fun _ => Nat.zero_le _⟩
      · obtain ⟨-, a2, ⟨c0, a3, a4, a5⟩, a6⟩ := g4
        obtain ⟨e, x1, x2, xw, xv, xo⟩ := one (B := r.1) (.inl ⟨rfl, by decide⟩) rfl rfl (Nat.le_refl _) rfl a6
        refine ⟨xmk (m, p, 57, 0, c0) [e], rfl, rfl, rfl, RX.mk.mpr ⟨h7, hrb, a2, e, rfl, ⟨a3, a4, a5⟩, x1, x2⟩, ?_, ?_⟩
        · exact wd1 (show 50 + wd f e ≤ _ by omega)
        · exact fun _ => wd1 (show 50 + wd f e ≤ _ by omega)
      · exact g4.elim
      · obtain ⟨-, a2, l, a3, -, a4⟩ := g4
        obtain ⟨ls, x1, x2, x3, xw⟩ := many (B := r.1 - 1) (.inl ⟨rfl, by decide⟩) (.inr (.inl ⟨rfl, by simp⟩)) rfl rfl (Nat.sub_le _ _) rfl a3
        refine ⟨xmk (m, p, 59, 0, 0) ls, rfl, rfl, rfl, RX.mk.mpr ⟨h7, hrb, a2, ⟨x1, x3 a4⟩, x2⟩, ?_, ?_⟩
        · exact (wd_of (fun a ha => by have := xw a ha; show 75 + wd f a ≤ _; omega))
        · exact fun _ => (wd_of (fun a ha => by have := xw a ha; show 75 + wd f a ≤ _; omega))
      · obtain ⟨s, hs⟩ := (q5 rfl).y
        obtain ⟨-, a2, -, a3 | a3⟩ := g4
        · exact ⟨xmk (m, p, 60, 0, s) [], rfl, rfl, rfl, RX.mk.mpr ⟨h7, hrb, a2, hs, .inl ⟨a3.1, a3.2, rfl⟩⟩, Nat.zero_le _, fun _ => Nat.zero_le _⟩
        · obtain ⟨e, x1, x2, xw, xv, xo⟩ := one (B := r.1 - 1) (.inl ⟨rfl, by decide⟩) rfl rfl (Nat.sub_le _ _) rfl a3
          refine ⟨xmk (m, p, 60, 0, s) [e], rfl, rfl, rfl, RX.mk.mpr ⟨h7, hrb, a2, hs, .inr ⟨e, rfl, x1, x2⟩⟩, ?_, ?_⟩
          · exact wd1 (show 95 + wd f e ≤ _ by omega)
          · exact fun _ => wd1 (show 95 + wd f e ≤ _ by omega)
      · obtain ⟨s, hs⟩ := (q6 rfl).y
        obtain ⟨-, a2, -, l, a3, -⟩ := g4
        obtain ⟨ls, x1, x2, -, xw⟩ := many (B := r.1 - 1) (.inr ⟨rfl, by decide⟩) (.inl ⟨rfl, by simp⟩) rfl rfl (Nat.sub_le _ _) rfl a3
        refine ⟨xmk (m, p, 61, 0, s) ls, rfl, rfl, rfl, RX.mk.mpr ⟨h7, hrb, a2, hs, x1, x2⟩, ?_, ?_⟩
        · exact (wd_of (fun a ha => by have := xw a ha; show 105 + wd f a ≤ _; omega))
        · exact fun _ => (wd_of (fun a ha => by have := xw a ha; show 105 + wd f a ≤ _; omega))
      · obtain ⟨-, a2, ⟨c0, v, a3⟩, a6, n1, j, a7, a8, a9, a10⟩ := g4
        obtain ⟨e, x1, x2, xw, xv, xo⟩ := one (B := r.1) (.inl ⟨rfl, by decide⟩) rfl rfl (Nat.le_refl _) rfl a6
        have hx := x2.ht
        have hy := x2.k26
        have hn1 := hN n1 a8
        have en : n1 = xn e := by
          have := (i_eq (by omega) (by omega)).mp (a7.symm.trans x1.2.1)
          omega
        rw [en] at a9
        have ej : xk e = j := by
          have := (i_eq (by omega) (by omega)).mp (hy.1.symm.trans a9)
          omega
        have xv := xv (by omega)
        refine ⟨xmk (m, p, 62, v, 0) [e], rfl, rfl, rfl, RX.mk.mpr ⟨h7, hrb, a2, ⟨c0, a3⟩, e, rfl, x1, x2⟩, ?_, ?_⟩
        · exact wd1 (show 95 + wd f e ≤ _ by omega)
        · exact fun q => absurd (show 62 ≤ 61 from q) (by decide)
      · obtain ⟨-, a2, ⟨c0, v, a3⟩, a6, a7⟩ := g4
        obtain ⟨e, x1, x2, xw, xv, xo⟩ := one (B := r.1 - 1) (.inl ⟨rfl, by decide⟩) rfl rfl (Nat.sub_le _ _) rfl a6
        obtain ⟨e2, y1, y2, yw, yv, yo⟩ := one (B := r.1 - 1) (.inr ⟨rfl, by decide⟩) rfl rfl (Nat.sub_le _ _) rfl a7
        refine ⟨xmk (m, p, 63, v, 0) [e, e2], rfl, rfl, rfl, RX.mk.mpr ⟨h7, hrb, a2, ⟨c0, a3⟩, e, e2, rfl, ⟨x1, y1⟩, x2, y2⟩, ?_, ?_⟩
        · exact wd2 (show 100 + wd f e ≤ _ by omega) (show 100 + wd f e2 ≤ _ by omega)
        · exact fun _ => wd2 (show 100 + wd f e ≤ _ by omega) (show 100 + wd f e2 ≤ _ by omega)
      · obtain ⟨-, a2, ⟨c0, a3, a4, a5⟩, l, a6, -, a7⟩ := g4
        obtain ⟨ls, x1, x2, x3, xw⟩ := many (B := r.1) (.inl ⟨rfl, by decide⟩) (.inr (.inl ⟨rfl, by simp⟩)) rfl rfl (Nat.le_refl _) rfl a6
        refine ⟨xmk (m, p, 64, c0, 0) ls, rfl, rfl, rfl, RX.mk.mpr ⟨h7, hrb, a2, ⟨a3, a4, a5⟩, ⟨x1, x3 a7⟩, x2⟩, ?_, ?_⟩
        · exact (wd_of (fun a ha => by have := xw a ha; show 75 + wd f a ≤ _; omega))
        · exact fun q => absurd (show 64 ≤ 61 from q) (by decide)
    obtain ⟨e0, c1, c2, c3, c4, c5, c6⟩ := core
    obtain ⟨e, f1, f2, f3, f4, f5, f6⟩ := RX.wrap hN c1 c2 c3 c4 rfl h1 h2
    rw [h1.l27]
    refine ⟨e, f1, f2, by rw [h5, f3], f4, by rw [f5]; omega, fun q => ?_⟩
    rw [f5]
    rcases f6 q with g | g
    · have := List.length_pos_iff.mpr g
      omega
    · have := c6 g
      omega
end RXO
