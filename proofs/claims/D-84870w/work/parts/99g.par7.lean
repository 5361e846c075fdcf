/-! ===== PARSERS, part 7: nodes at work, nodes to be linked, what two methods bring ===== -/
def ink (k : Nat) : Bool := Nat.beq k 1 || (Nat.beq k 2 || ((Nat.ble 8 k && Nat.ble k 15) || (Nat.ble 17 k && Nat.ble k 21)))
def rfk (k : Nat) : Bool := Nat.beq k 0 || ((Nat.ble 3 k && Nat.ble k 7) || Nat.beq k 16)
def up_ {α : Type} (f : Nat → α) (k : Nat) (v : α) : Nat → α := fun j => if j = k then v else f j
def ndI (x2 x3 : Int32) : Nat → Int32 := fun k => if k = 1 then x2 else if k = 2 then x3 else if k = 8 ∨ k = 9 ∨ k = 18 then -1 else 0
def ndP (x1 : Option Nat) : Nat → Option Nat := fun k => if k = 0 then x1 else none
def ndT (x l : Int32) : Nat → Int32 := fun k => if k = 26 then x else if k = 27 then l else if k = 34 then 0 else -1
/-- a node of MeetingHouse that is being filled -/
def OWx (cc : Bool) (S : pS) (a : Nat) (fi : Nat → Int32) (fp : Nat → Option Nat) : Prop := ((a ∈ S.2.2.1.take S.2.2.2.1 ∧ (cc = true → NR S a)) ∧ S.2.2.2.2.2.1 a = none) ∧ (∀ k, ink k = true → w_i S.1 14 a k = fi k) ∧ ∀ k, rfk k = true → w_p S.1 14 a k = fp k
/-- that is linked from nowhere; that is linked already -/
abbrev OWc := OWx true
abbrev OWl := OWx false
def tkk (k : Nat) : Bool := (Nat.ble 26 k && Nat.ble k 30) || (Nat.beq k 32 || (Nat.beq k 33 || Nat.beq k 34))
/-- one of the twin -/
def OWt (S : pS) (n : Nat) (ft : Nat → Int32) : Prop := (n < S.2.2.2.2.1 ∧ ¬ S.2.2.2.2.2.2 n) ∧ ∀ k, tkk k = true → w_a S.2.1 12 0 k n = ft k
theorem OWc.new {w t : wS} {al : List Nat} {m N b : Nat} {nu : pNz} {tn : Nat → Prop} {x1 : Option Nat} {x2 x3 : Int32} (h : ndr w b x1 x2 x3) (hb : b ∈ al.take m) (hn : nu b = none) (hr : NRw w (al.take m) b) : OWc (w, t, al, m, N, nu, tn) b (ndI x2 x3) (ndP x1) := by
  obtain ⟨⟨a1, a2, a3⟩, ⟨a4, a5, a6, a7, a8, a9⟩, ⟨b1, b2, b3, b4, b5, b6, b7, b8⟩, b9, b10, b11, b12, b13⟩ := h
  refine ⟨⟨⟨hb, fun _ => hr⟩, hn⟩, fun k hk => ?_, fun k hk => ?_⟩
  · have hk2 : k < 22 := by
      unfold ink at hk
      simp only [Bool.or_eq_true, Bool.and_eq_true, Nat.ble_eq, Nat.beq_eq] at hk
      omega
    have : ∀ k, k < 22 → ink k = true → k = 1 ∨ k = 2 ∨ k = 8 ∨ k = 9 ∨ k = 10 ∨ k = 11 ∨ k = 12 ∨ k = 13 ∨ k = 14 ∨ k = 15 ∨ k = 17 ∨ k = 18 ∨ k = 19 ∨ k = 20 ∨ k = 21 := by decide
    rcases this k hk2 hk with e | e | e | e | e | e | e | e | e | e | e | e | e | e | e <;> subst e <;> assumption
  · have hk2 : k < 22 := by
      unfold rfk at hk
      simp only [Bool.or_eq_true, Bool.and_eq_true, Nat.ble_eq, Nat.beq_eq] at hk
      omega
    have : ∀ k, k < 22 → rfk k = true → k = 0 ∨ k = 3 ∨ k = 4 ∨ k = 5 ∨ k = 6 ∨ k = 7 ∨ k = 16 := by decide
    rcases this k hk2 hk with e | e | e | e | e | e | e <;> subst e <;> assumption
section OW
variable {cc : Bool} {ex et : List Nat} {S0 S S' : pS} {D : pD} {K : pK} {p q o o' m N a b k n n2 : Nat} {w t : wS} {al : List Nat} {nu : pNz} {tn : Nat → Prop} {fi : Nat → Int32} {fp : Nat → Option Nat} {ft : Nat → Int32}
theorem OWx.wk (h : OWx cc S a fi fp) : OWl S a fi fp := ⟨⟨⟨h.1.1.1, fun e => by cases e⟩, h.1.2⟩, h.2⟩
theorem OWx.mn (h : OWx cc S a fi fp) : a ∈ S.2.2.1.take S.2.2.2.1 ∧ S.2.2.2.2.2.1 a = none := ⟨h.1.1.1, h.1.2⟩
theorem OWx.fr {R : Prop} (h : OWx cc S a fi fp) (hf : R) (hx : a ∉ ex) (hR : R → FRr ex et S S' := by first | exact fun h => FRr.cb (FR.rr h) | exact FR.rr | exact id) : OWx cc S' a fi fp := by
  have hf := hR hf
  obtain ⟨⟨⟨h1, h1r⟩, h2⟩, h3, h4⟩ := h
  refine ⟨⟨⟨hf.sub h1, fun e => hf.nr h1 (h1r e)⟩, ?_⟩, fun k hk => (hf.2.2.1 a h1 hx k).1.trans (h3 k hk), fun k hk => (hf.2.2.1 a h1 hx k).2.trans (h4 k hk)⟩
  cases e : S'.2.2.2.2.2.1 a with
  | none => rfl
  | some x =>
    rcases hf.2.2.2.2.1.2.2.1 a (by rw [e]; simp) with h | h
    · exact absurd h2 h
    · exact absurd h1 h
theorem OWt.fr {R : Prop} (h : OWt S n ft) (hf : R) (hx : n ∉ et) (hR : R → FRr ex et S S' := by first | exact fun h => FRr.cb (FR.rr h) | exact FR.rr | exact id) : OWt S' n ft := by
  have hf := hR hf
  obtain ⟨⟨h1, h2⟩, h3⟩ := h
  refine ⟨⟨by have := hf.2.1.2.2.1; omega, fun e => ?_⟩, fun k hk => (hf.2.2.2.1 n h1 hx k (.inl ?_)).trans (h3 k hk)⟩
  · rcases hf.2.2.2.2.1.2.2.2 n e with h | h
    · exact h2 h
    · omega
  · unfold tkk at hk
    simp only [Bool.or_eq_true, Bool.and_eq_true, Nat.ble_eq, Nat.beq_eq] at hk
    omega
theorem OWx.w4 (h : OWx cc (w, t, al, m, N, nu, tn) a fi fp) {v : Int32} (hk : k < 14 ∨ 14 < k) {j : Nat} : OWx cc (ws_i w k 0 j v, t, al, m, N, nu, tn) a fi fp := ⟨h.1, fun k' hk' => by
  show w_i (ws_i w k 0 j v) 14 a k' = _
  rw [Rii, if_neg (fun z => by have := z.2.1; omega)]
  exact h.2.1 k' hk', h.2.2⟩
theorem OWx.tt (h : OWx cc (w, t, al, m, N, nu, tn) a fi fp) {t' : wS} {N' : Nat} : OWx cc (w, t', al, m, N', nu, tn) a fi fp := h
theorem OWt.ww (h : OWt (w, t, al, m, N, nu, tn) n ft) {w' : wS} {al' : List Nat} {m' : Nat} : OWt (w', t, al', m', N, nu, tn) n ft := h
theorem OWx.si (h : OWx cc (w, t, al, m, N, nu, tn) a fi fp) {v : Int32} : OWx cc (ws_i w 14 a k v, t, al, m, N, nu, tn) a (up_ fi k v) fp := ⟨h.1, fun k' hk' => by
  show w_i (ws_i w 14 a k v) 14 a k' = _
  unfold up_
  rw [Rii]
  by_cases e : k' = k
  · rw [if_pos ⟨e, rfl, rfl⟩, if_pos e]
  · rw [if_neg (fun z => e z.1), if_neg e]
    exact h.2.1 k' hk', h.2.2⟩
theorem OWx.sp (h : OWx cc (w, t, al, m, N, nu, tn) a fi fp) {v : Option Nat} (hv : cc = false ∨ (k < 3 ∨ 7 < k) ∨ v ≠ some a := by first | exact .inl rfl | (refine .inr (.inl ?_); decide) | (refine .inr (.inr (fun e => ?_)); injection e with e; first | exact absurd e (by assumption) | exact absurd e.symm (by assumption)) | exact .inr (.inr (fun e => nomatch e))) : OWx cc (ws_p w 14 a k v, t, al, m, N, nu, tn) a fi (up_ fp k v) := ⟨⟨⟨h.1.1.1, fun ec => NRw.wp (h.1.1.2 ec) (hv.elim (fun e => by rw [e] at ec; cases ec) id)⟩, h.1.2⟩, h.2.1, fun k' hk' => by
  show w_p (ws_p w 14 a k v) 14 a k' = _
  unfold up_
  rw [Rpp]
  by_cases e : k' = k
  · rw [if_pos ⟨e, rfl, rfl⟩, if_pos e]
  · rw [if_neg (fun z => e z.1), if_neg e]
    exact h.2.2 k' hk'⟩
theorem OWx.oi (h : OWx cc (w, t, al, m, N, nu, tn) a fi fp) {v : Int32} (hb : a ≠ b) : OWx cc (ws_i w 14 b k v, t, al, m, N, nu, tn) a fi fp := ⟨h.1, fun k' hk' => by
  show w_i (ws_i w 14 b k v) 14 a k' = _
  rw [Rii, if_neg (fun z => hb z.2.2)]
  exact h.2.1 k' hk', h.2.2⟩
theorem OWx.op (h : OWx cc (w, t, al, m, N, nu, tn) a fi fp) {v : Option Nat} (hb : a ≠ b) (hv : cc = false ∨ (k < 3 ∨ 7 < k) ∨ v ≠ some a := by first | exact .inl rfl | (refine .inr (.inl ?_); decide) | (refine .inr (.inr (fun e => ?_)); injection e with e; first | exact absurd e (by assumption) | exact absurd e.symm (by assumption)) | exact .inr (.inr (fun e => nomatch e))) : OWx cc (ws_p w 14 b k v, t, al, m, N, nu, tn) a fi fp := ⟨⟨⟨h.1.1.1, fun ec => NRw.wp (h.1.1.2 ec) (hv.elim (fun e => by rw [e] at ec; cases ec) id)⟩, h.1.2⟩, h.2.1, fun k' hk' => by
  show w_p (ws_p w 14 b k v) 14 a k' = _
  rw [Rpp, if_neg (fun z => hb z.2.2)]
  exact h.2.2 k' hk'⟩
theorem OWt.si (h : OWt (w, t, al, m, N, nu, tn) n ft) {v : Int32} : OWt (w, ws_a t 12 0 k n v, al, m, N, nu, tn) n (up_ ft k v) := ⟨h.1, fun k' hk' => by
  show w_a (ws_a t 12 0 k n v) 12 0 k' n = _
  unfold up_
  rw [Raa]
  by_cases e : k' = k
  · rw [if_pos ⟨e, rfl, rfl, rfl⟩, if_pos e]
  · rw [if_neg (fun z => e z.1), if_neg e]
    exact h.2 k' hk'⟩
theorem OWt.oi (h : OWt (w, t, al, m, N, nu, tn) n ft) {v : Int32} (hb : n ≠ n2) : OWt (w, ws_a t 12 0 k n2 v, al, m, N, nu, tn) n ft := ⟨h.1, fun k' hk' => by
  show w_a (ws_a t 12 0 k n2 v) 12 0 k' n = _
  rw [Raa, if_neg (fun z => hb z.2.2.2)]
  exact h.2 k' hk'⟩
theorem OWt.i (h : OWt (w, t, al, m, N, nu, tn) n ft) {v : Int32} {j : Nat} : OWt (w, ws_i t 12 0 j v, al, m, N, nu, tn) n ft := h
theorem OWt.nd (h : OWt (w, t, al, m, N, nu, tn) n ft) {x l : Int32} : OWt (w, nd3 t N x l, al, m, N + 1, nu, tn) n ft := by
  obtain ⟨⟨h1, h2⟩, h3⟩ := h
  have h1' : n < N := h1
  refine ⟨⟨Nat.lt_succ_of_lt h1', h2⟩, fun k hk => ?_⟩
  have : w_a (nd3 t N x l) 12 0 k n = w_a t 12 0 k n := by
    unfold nd3
    simp only [Rii, Rgi, Rpi, Rai, Rbi, Rri, Rni, Rdi, Roi, Rti, Rzi, RCi, RSi, Ria, Rga, Rpa, Raa, Rba, Rra, Rna, Rda, Roa, Rta, Rza, RCa, RSa]
    simp [show n ≠ N by omega]
  exact this.trans (h3 k hk)
theorem OWt.new {x l : Int32} (h : HY D K ex et S0 (w, t, al, m, N, nu, tn) p q o o') : OWt (w, nd3 t N x l, al, m, N + 1, nu, tn) N (ndT x l) := by
  refine ⟨⟨Nat.lt_succ_self N, fun e => ?_⟩, fun k hk => ?_⟩
  · have : N < N := h.1.gl.2 N e
    omega
  · obtain ⟨⟨a1, a2⟩, a3, a4, a5, a6, a7, a8⟩ := @nd3_f N t x l
    have hk2 : k < 35 := by
      unfold tkk at hk
      simp only [Bool.or_eq_true, Bool.and_eq_true, Nat.ble_eq, Nat.beq_eq] at hk
      omega
    have : ∀ k, k < 35 → tkk k = true → k = 26 ∨ k = 27 ∨ k = 28 ∨ k = 29 ∨ k = 30 ∨ k = 32 ∨ k = 33 ∨ k = 34 := by decide
    rcases this k hk2 hk with e | e | e | e | e | e | e | e <;> subst e <;> assumption
end OW
/-- a node that is done but for its next one: behind brackets in the twin, too -/
def PND (D : pD) (S : pS) (lo hi : Nat) (ol : pOL) (b n d : Nat) : Prop := hi ≤ S.2.2.2.2.1 ∧ ∃ (own c : List Nat) (m' : Nat) (r : pR), PCH (vw S.1 S.2.1) c n m' ∧ (∀ x ∈ m' :: c, x ∈ own) ∧ (∀ x ∈ own, (¬ S.2.2.2.2.2.2 x ∧ lo ≤ x) ∧ x < hi ∧ x < 14000) ∧ LFz D (vw S.1 S.2.1) S.2.2.2.2.2.2 (fun x => x ∈ own) S.2.2.2.2.2.1 r d b m' ∧ w_i S.1 14 b 12 = bI (!c.isEmpty) ∧ (b ∈ S.2.2.1.take S.2.2.2.1 ∧ S.2.2.2.2.2.1 b = none) ∧ OLk (vw S.1 S.2.1) ol n m' r c
/-- no next one yet -/
def NXo (S : pS) (b n : Nat) : Prop := w_p S.1 14 b 7 = none ∧ w_a S.2.1 12 0 32 n = -1
/-- nor is it linked -/
def NXT (S : pS) (b n : Nat) : Prop := w_p S.1 14 b 7 = none ∧ w_a S.2.1 12 0 32 n = -1 ∧ NR S b
def nuU (nu : pNz) (b : Nat) (x : Nat × pR × Nat) : pNz := fun a => if a = b then some x else nu a
section PNDS
variable {ex et : List Nat} {S0 S S' : pS} {D : pD} {K : pK} {p q o o' m N a b k n n2 lo hi d : Nat} {w t : wS} {al : List Nat} {nu : pNz} {tn : Nat → Prop} {ol : pOL}
theorem PND.lt (h : PND D S lo hi ol b n d) : n < S.2.2.2.2.1 ∧ lo ≤ n ∧ ¬ S.2.2.2.2.2.2 n ∧ n < 14000 ∧ n < hi := by
  obtain ⟨hh, own, c, m', r, h1, h2, h3, -⟩ := h
  have := h3 n (h2 n h1.mem)
  exact ⟨by omega, this.1.2, this.1.1, this.2.2, this.2.1⟩
theorem PND.bm (h : PND D S lo hi ol b n d) : b ∈ S.2.2.1.take S.2.2.2.1 ∧ S.2.2.2.2.2.1 b = none := by
  obtain ⟨hh, own, c, m', r, h1, h2, h3, h4, h5, h6, h7⟩ := h
  exact h6
theorem PND.wk {ol' : pOL} (h : PND D S lo hi ol b n d) (ho : OLw ol ol' := by first | exact OLw.rf | exact OLw.mk (by omega) (by omega) (by omega) | exact OLw.mn (by omega) (by omega) (by omega)) : PND D S lo hi ol' b n d := by
  obtain ⟨hh, own, c, m', r, h1, h2, h3, h4, h5, h6, h7⟩ := h
  exact ⟨hh, own, c, m', r, h1, h2, h3, h4, h5, h6, h7.wk ho⟩
theorem PND.se {l1 : Option Int32} {cl1 bd1 s1 e1 : Nat} {g1 : Nat → Nat} (h : PND D S lo hi (l1, cl1, bd1, g1, s1, e1) b n d) : s1 < e1 ∧ 0 < bd1 := by
  obtain ⟨hh, own, c, m', r, h1, h2, h3, h4, h5, h6, h7⟩ := h
  exact h7.se
theorem LKO.mk (h1 : b ∈ S.2.2.1.take S.2.2.2.1) (h2 : NR S b) (h3 : b ∉ S0.2.2.1.take S0.2.2.2.1) : LKO S0 S k (some b) := .inr (fun p e => by
  cases e
  exact ⟨h1, .inl h2, fun e => absurd e h3⟩)
theorem LKO.op {x : Option Nat} (h : ∀ p, x = some p → p ∈ S.2.2.1.take S.2.2.2.1 ∧ NR S p ∧ p ∉ S0.2.2.1.take S0.2.2.2.1) : LKO S0 S k x := .inr (fun p e => ⟨(h p e).1, .inl (h p e).2.1, fun e2 => absurd e2 (h p e).2.2⟩)
theorem PND.fr {R : Prop} (h : PND D S lo hi ol b n d) (hs : SY D K S p q o o') (hf : R) (hx : b ∉ ex) (hexn : ∀ a ∈ ex, S.2.2.2.2.2.1 a = none) (htx : ∀ y ∈ et, y < lo ∧ ¬ S.2.2.2.2.2.2 y) (hR : R → FRr ex et S S' := by first | exact fun h => FRr.cb (FR.rr h) | exact FR.rr | exact id) : PND D S' lo hi ol b n d := by
  have hf := hR hf
  have hn := h.lt
  obtain ⟨hh, own, c, m', r, h1, h2, h3, h4, h5, ⟨h6, h6b⟩, h7⟩ := h
  have hgl := hs.gl
  have h3' : ∀ x, x ∈ own → x < S.2.2.2.2.1 := fun x hx => by have := (h3 x hx).2.1; omega
  have hown : ∀ x, x ∈ own → ∀ k, (k < 35 ∨ k = 41 ∨ k = 42) → w_a S'.2.1 12 0 k x = w_a S.2.1 12 0 k x := fun x hx k hk => hf.2.2.2.1 x (h3' x hx) (fun e => by have := (htx x e).1; have := (h3 x hx).1.2; omega) k hk
  have htn : ∀ x, S.2.2.2.2.2.2 x → ∀ k, (k < 35 ∨ k = 41 ∨ k = 42) → w_a S'.2.1 12 0 k x = w_a S.2.1 12 0 k x := fun x hx k hk => hf.2.2.2.1 x (hgl.2 x hx) (fun e => (htx x e).2 hx) k hk
  have hnd : ∀ a, a ∈ S.2.2.1.take S.2.2.2.1 → a ∉ ex → (vw S'.1 S'.2.1).1 a = (vw S.1 S.2.1).1 a ∧ (vw S'.1 S'.2.1).2.1 a = (vw S.1 S.2.1).2.1 a := fun a ha hx => ⟨funext (fun k => (hf.2.2.1 a ha hx k).1), funext (fun k => (hf.2.2.1 a ha hx k).2)⟩
  have hnu : ∀ a, S.2.2.2.2.2.1 a ≠ none → (vw S'.1 S'.2.1).1 a = (vw S.1 S.2.1).1 a ∧ (vw S'.1 S'.2.1).2.1 a = (vw S.1 S.2.1).2.1 a := by
    intro a ha
    cases e : S.2.2.2.2.2.1 a with
    | none => exact absurd e ha
    | some x =>
      obtain ⟨x1, x2, x3⟩ := x
      exact hnd a (hgl.1 a x1 x2 x3 e).1 (fun e2 => ha (hexn a e2))
  have hsg : (vw S'.1 S'.2.1).2.2.2 = (vw S.1 S.2.1).2.2.2 := funext (fun j => congrFun (hf.1.1.1 1 10 rfl 0).2.1.1 j)
  have hv : VW (vw S.1 S.2.1) (vw S'.1 S'.2.1) S.2.2.2.2.2.2 (fun x => x ∈ own) S.2.2.2.2.2.1 b m' := ⟨⟨hnu, fun k y hy hk => htn y hy k hk, hsg⟩, ⟨fun j _ => by rw [(hnd b h6 hx).1], fun j _ => by rw [(hnd b h6 hx).2]⟩, fun k y hy _ hk => hown y (by
    rcases hy with hy | hy
    · exact hy
    · rw [hy]
      exact h2 m' List.mem_cons_self) k hk⟩
  refine ⟨by have := hf.2.1.2.2.1; omega, own, c, m', r, PCH.up (V := vw S.1 S.2.1) (V' := vw S'.1 S'.2.1) (fun y hy k _ hk => hown y (h2 y hy) k (.inl hk)) h1, h2, fun x hx => ⟨⟨fun e => ?_, (h3 x hx).1.2⟩, (h3 x hx).2⟩, h4.up hv hf.2.2.2.2.1.1 hf.2.2.2.2.1.2.1 (fun _ h => h), ?_, ⟨hf.sub h6, ?_⟩, fun l e => ?_, ?_, h7.2.2⟩
  · rcases hf.2.2.2.2.1.2.2.2 x e with h | h
    · exact (h3 x hx).1.1 h
    · have := h3' x hx
      omega
  · rw [(hf.2.2.1 b h6 hx 12).1]
    exact h5
  · cases e : S'.2.2.2.2.2.1 b with
    | none => rfl
    | some x =>
      rcases hf.2.2.2.2.1.2.2.1 b (by rw [e]; simp) with h | h
      · exact absurd h6b h
      · exact absurd h6 h
  · show w_a S'.2.1 12 0 27 n = l
    rw [hown n (h2 n h1.mem) 27 (.inl (by decide))]
    exact h7.1 l e
  · show ∃ kd : Nat, w_a S'.2.1 12 0 26 m' = _ ∧ _
    rw [hown m' (h2 m' List.mem_cons_self) 26 (.inl (by decide))]
    exact h7.2.1
theorem NXT.fr {R : Prop} (h : NXT S b n) (hf : R) (hb : b ∈ S.2.2.1.take S.2.2.2.1) (hn : n < S.2.2.2.2.1) (hx : b ∉ ex) (ht : n ∉ et) (hR : R → FRr ex et S S' := by first | exact fun h => FRr.cb (FR.rr h) | exact FR.rr | exact id) : NXT S' b n := by
  have hf := hR hf
  exact ⟨(hf.2.2.1 b hb hx 7).2.trans h.1, (hf.2.2.2.1 n hn ht 32 (.inl (by decide))).trans h.2.1, hf.nr hb h.2.2⟩
theorem NXo.fr {R : Prop} (h : NXo S b n) (hf : R) (hb : b ∈ S.2.2.1.take S.2.2.2.1) (hn : n < S.2.2.2.2.1) (hx : b ∉ ex) (ht : n ∉ et) (hR : R → FRr ex et S S' := by first | exact fun h => FRr.cb (FR.rr h) | exact FR.rr | exact id) : NXo S' b n := by
  have hf := hR hf
  exact ⟨(hf.2.2.1 b hb hx 7).2.trans h.1, (hf.2.2.2.1 n hn ht 32 (.inl (by decide))).trans h.2⟩
theorem nle_nuU {x : Nat × pR × Nat} (h : nu b = none) : nle nu (nuU nu b x) := by
  intro a y hy
  unfold nuU
  rw [if_neg (fun e => by rw [e, h] at hy; cases hy)]
  exact hy
theorem INJ.upn {x : Nat × pR × Nat} (h : INJ nu) (hx : x.1 = 99999 → False) (hn : ∀ a r d, nu a = some (x.1, r, d) → False) : INJ (nuU nu b x) := by
  intro a a' n r d r' d' h1 h2 h3
  unfold nuU at h1 h2
  by_cases e1 : a = b
  · by_cases e2 : a' = b
    · rw [e1, e2]
    · rw [if_pos e1] at h1
      rw [if_neg e2] at h2
      cases h1
      exact (hn _ _ _ h2).elim
  · rw [if_neg e1] at h1
    by_cases e2 : a' = b
    · rw [if_pos e2] at h2
      cases h2
      exact (hn _ _ _ h1).elim
    · rw [if_neg e2] at h2
      exact h a a' n r d r' d' h1 h2 h3
/-- it is done -/
theorem HY.fin {l1 : Option Int32} {cl1 bd1 s1 e1 : Nat} {g1 : Nat → Nat} (h : HY D K ex et S0 (w, t, al, m, N, nu, tn) p q o o') (hp : PND D (w, t, al, m, N, nu, tn) lo hi (l1, cl1, bd1, g1, s1, e1) b n d) (hb : b ∉ S0.2.2.1.take S0.2.2.2.1) (hlo : S0.2.2.2.2.1 ≤ lo) : ∃ x tn' r, HY D K ex et S0 (w, t, al, m, N, nuU nu b x, tn') p q o o' ∧ CHz (vw w t) tn' (nuU nu b x) (r + 1) (l1, cl1, bd1, g1, s1, e1) n b d ∧ (∀ y, tn y → tn' y) ∧ (∀ y, tn' y → tn y ∨ (lo ≤ y ∧ y < hi)) ∧ nu b = none := by
  have hlt := hp.lt
  obtain ⟨hh, own, c, m', r, h1, h2, h3, h4, h5, ⟨h6, h6b⟩, h7⟩ := hp
  obtain ⟨⟨⟨g1, g1a, g1b, g1c, g1d⟩, g2, g3, g4, g5⟩, f1, f2, f3, f4, ⟨f5, f6, f7, f8⟩, f9⟩ := h
  have hm' := h3 m' (h2 m' List.mem_cons_self)
  have hnl : nle nu (nuU nu b (m', r, d)) := nle_nuU h6b
  have hvr : VW (vw w t) (vw w t) tn (fun x => x ∈ own) nu b m' := ⟨⟨fun _ _ => ⟨rfl, rfl⟩, fun _ _ _ _ => rfl, rfl⟩, ⟨fun _ _ => rfl, fun _ _ => rfl⟩, fun _ _ _ _ _ => rfl⟩
  have hself : nuU nu b (m', r, d) b = some (m', r, d) := by unfold nuU; rw [if_pos rfl]
  refine ⟨(m', r, d), fun y => tn y ∨ y ∈ own, r.1 + c.length, ⟨⟨⟨g1, g1a, g1b, g1c.mn hnl, INJ.upn g1d (fun e => ?_) ?_⟩, g2, g3, g4, ?_⟩, f1, f2, f3, f4, ⟨fun a x hx => hnl a x (f5 a x hx), fun y hy => .inl (f6 y hy), fun a ha => ?_, fun y hy => ?_⟩, f9⟩, ⟨m', c, r, h1, fun x hx => .inr (h2 x hx), hself, (h3 m' (h2 m' List.mem_cons_self)).2.2, h5, h7⟩, fun y hy => .inl hy, fun y hy => ?_, h6b⟩
  · have := hm'.2.2
    omega
  · intro a r2 d2 e
    rcases (g5.1 a m' r2 d2 e).2 with h | h
    · have := hm'.2.2
      omega
    · exact hm'.1.1 h.1
  · refine ⟨fun a n' r' d' hn => ?_, fun y hy => ?_⟩
    · by_cases e : a = b
      · subst e
        have hn : nuU nu a (m', r, d) a = some (n', r', d') := hn
        rw [hself] at hn
        cases hn
        refine ⟨h6, .inr ⟨.inr (h2 m' List.mem_cons_self), (h3 m' (h2 m' List.mem_cons_self)).2.2, ?_⟩⟩
        exact h4.up hvr hnl (fun y hy => .inl hy) (fun y hy => .inr hy)
      · have hn : nuU nu b (m', r, d) a = some (n', r', d') := hn
        unfold nuU at hn
        rw [if_neg e] at hn
        obtain ⟨q1, q2⟩ := g5.1 a n' r' d' hn
        refine ⟨q1, q2.elim .inl (fun ⟨q2, q3, q4⟩ => .inr ⟨.inl q2, q3, ?_⟩)⟩
        exact q4.up ⟨⟨fun _ _ => ⟨rfl, rfl⟩, fun _ _ _ _ => rfl, rfl⟩, ⟨fun _ _ => rfl, fun _ _ => rfl⟩, fun _ _ _ _ _ => rfl⟩ hnl (fun y hy => .inl hy) (fun y hy => .inl hy)
    · rcases hy with hy | hy
      · exact g5.2 y hy
      · have := (h3 y hy).2.1
        have hh' : hi ≤ N := hh
        show y < N
        omega
  · have ha : nuU nu b (m', r, d) a ≠ none := ha
    unfold nuU at ha
    by_cases e : a = b
    · subst e
      exact .inr hb
    · rw [if_neg e] at ha
      exact f7 a ha
  · rcases hy with hy | hy
    · exact f8 y hy
    · exact .inr (by have := (h3 y hy).1.2; omega)
  · rcases hy with hy | hy
    · exact .inl hy
    · exact .inr ⟨(h3 y hy).1.2, (h3 y hy).2.1⟩
theorem OWx.fin {cc : Bool} {fi : Nat → Int32} {fp : Nat → Option Nat} {x : Nat × pR × Nat} {tn' : Nat → Prop} (h : OWx cc (w, t, al, m, N, nu, tn) a fi fp) (hb : a ≠ b) : OWx cc (w, t, al, m, N, nuU nu b x, tn') a fi fp := ⟨⟨h.1.1, by
  show nuU nu b x a = none
  unfold nuU
  rw [if_neg hb]
  exact h.1.2⟩, h.2⟩
theorem OWt.fin {ft : Nat → Int32} {nu' : pNz} {tn' : Nat → Prop} (h : OWt (w, t, al, m, N, nu, tn) n ft) (ht : ∀ y, tn' y → tn y ∨ (lo ≤ y ∧ y < hi)) (hn : n < lo ∨ hi ≤ n) : OWt (w, t, al, m, N, nu', tn') n ft := ⟨⟨h.1.1, fun e => by
  rcases ht n e with h1 | h1
  · exact h.1.2 h1
  · omega⟩, h.2⟩
/-- what is done stays so where another node becomes done -/
theorem CHz.fin {x : Nat × pR × Nat} {tn' : Nat → Prop} {V : pV} (h : CHz V tn nu k ol n b d) (ha : nu a = none) (ht : ∀ y, tn y → tn' y) : CHz V tn' (nuU nu a x) k ol n b d := h.up ⟨fun _ _ => ⟨rfl, rfl⟩, fun _ _ _ _ => rfl, rfl⟩ (nle_nuU ha) ht (Nat.le_refl _)
end PNDS
/-! ===== what two methods bring ===== -/
def rl_ (b : Bool) (x : Option Nat) : kx_Rs := bif b then .inl (some (va_rf x)) else .inl none
def rr_ (b : Bool) (v : Int32) : kx_Rs := bif b then .inl (some (.int v)) else .inl none
/-- the twin stands at a bad token -/
def DEAD (D : pD) (K : pK) (t : wS) : Prop := TA t K D.2.2.1 D.2.2.2.1 (K.length - 1) ∧ kk K (K.length - 1) = 76 ∧ ∃ N : Nat, w_i t 12 0 25 = i_ N ∧ N ≤ 11000
/-- MeetingHouse has stopped: what is asked of the twin -/
def TLP (D : pD) (K : pK) (w0 t0 : wS) (b : Bool) (lo : Int) (w' : wS) (r' : kx_Rs) (t' : wS) : Prop := FY w0 w' ∧ TX t0 t' ∧ ((r' = .inr HT_ ∧ w_i w' 2 0 1 = w_i t' 12 0 36 ∧ w_i w' 2 0 2 = w_i t' 12 0 37) ∨ ((∃ v : Int, lo ≤ v ∧ v < 14000 ∧ r' = rr_ b (i_ v)) ∧ w_i w' 2 0 1 = i_ 1 ∧ w_i w' 2 0 2 = i_ (kln K (K.length - 1)) ∧ DEAD D K t'))
/-- MeetingHouse has stopped at a bad token -/
def DDx (K : pK) (S0 : pS) (w' : wS) : Prop := FY S0.1 w' ∧ w_i w' 2 0 1 = i_ 1 ∧ w_i w' 2 0 2 = i_ (kln K (K.length - 1))
/-- and the twin stands there -/
def DDs (D : pD) (K : pK) (S0 : pS) (w' t : wS) : Prop := (DDx K S0 w' ∧ KRG K) ∧ TX S0.2.1 t ∧ DEAD D K t
abbrev pG := Option Nat → Int32 → pS → Nat → Prop
def PR (D : pD) (K : pK) (ex et : List Nat) (S0 : pS) (p0 o : Nat) (bl br : Bool) (lo : Int) (G : pG) (r : kx_Rs) (w' : wS) (r' : kx_Rs) (t' : wS) : Prop := (r = .inr AE_ ∧ TLP D K S0.1 S0.2.1 br lo w' r' t') ∨ ∃ x v al m N nu tn p, r = rl_ bl x ∧ r' = rr_ br v ∧ HY D K ex et S0 (w', t', al, m, N, nu, tn) p p o o ∧ (p0 < p ∧ m + 4 * p0 ≤ S0.2.2.2.1 + 4 * p ∧ N + 4 * p0 ≤ S0.2.2.2.2.1 + 4 * p) ∧ G x v (w', t', al, m, N, nu, tn) p
section PRS
variable {ex et ex' et' : List Nat} {S0 : pS} {D : pD} {K : pK} {p p0 q o o' oA m N : Nat} {w t : wS} {al : List Nat} {nu : pNz} {tn : Nat → Prop} {bl br : Bool} {lo lo1 : Int} {G G1 : pG} {E E' : zE} {L L' : Nat} {M M' : kx_M} {As As' : List Value} {gt gc : pQ}
/-- MeetingHouse stops -/
theorem PR_stop {w' : wS} (h : eS gt (fun r' t' => TLP D K S0.1 S0.2.1 br lo w' r' t')) : PS (fun Q => Q (.inr AE_) w') gt (PR D K ex et S0 p0 o bl br lo G) := PS_el (eS_mono h (fun r' t' h => .inl ⟨rfl, h⟩))
theorem TLP_thr {w0 t0 w' t' : wS} (h1 : FY w0 w') (h2 : TX t0 t') (h3 : w_i w' 2 0 1 = w_i t' 12 0 36) (h4 : w_i w' 2 0 2 = w_i t' 12 0 37) : eS (fun Q => Q (.inr HT_) t') (fun r' t' => TLP D K w0 t0 br lo w' r' t') := eS_ret ⟨h1, h2, .inl ⟨rfl, h3, h4⟩⟩
theorem TLP_ded {w0 t0 w' t' : wS} {v : Int} {r : kx_Rs} (h1 : FY w0 w') (h2 : TX t0 t') (hr : r = rr_ br (i_ v)) (hv : lo ≤ v ∧ v < 14000) (h3 : w_i w' 2 0 1 = i_ 1) (h4 : w_i w' 2 0 2 = i_ (kln K (K.length - 1))) (h5 : DEAD D K t') : eS (fun Q => Q r t') (fun r' t' => TLP D K w0 t0 br lo w' r' t') := eS_ret ⟨h1, h2, .inr ⟨⟨v, hv.1, hv.2, hr⟩, h3, h4, h5⟩⟩
/-- both call -/
theorem PR_cG (hK : KRG K) {Kc Kt : (kx_Rs → wS → Prop) → kx_Rs → wS → Prop} {A : (kx_Rs → wS → Prop) → Option Nat → wS → Prop} {B : (kx_Rs → wS → Prop) → Int32 → wS → Prop} {bl1 br1 : Bool} (hF : FR ex et S0 (w, t, al, m, N, nu, tn)) (h : PW w t (fun Q => zw E L M As w Q) (fun Q => zw E' L' M' As' t Q) (PR D K ex' et' (w, t, al, m, N, nu, tn) p o bl1 br1 lo1 G1)) (hx : ∀ a ∈ ex', a ∈ S0.2.2.1.take S0.2.2.2.1 → a ∈ ex) (ht : ∀ n ∈ et', n < S0.2.2.2.2.1 → n ∈ et)
    (kc : ∀ Q x w2, A Q x w2 → Kc Q (rl_ bl1 x) w2) (kt : ∀ Q v t2, B Q v t2 → Kt Q (rr_ br1 v) t2) (kcx : ∀ (Q : kx_Rs → wS → Prop) e w2, Q (.inr e) w2 → Kc Q (.inr e) w2) (ktx : ∀ (Q : kx_Rs → wS → Prop) e t2, Q (.inr e) t2 → Kt Q (.inr e) t2)
    (k1 : ∀ x v w2 t2 al2 m2 N2 nu2 tn2 p2, wle w w2 → HY D K ex et S0 (w2, t2, al2, m2, N2, nu2, tn2) p2 p2 o o → HY D K ex' et' (w, t, al, m, N, nu, tn) (w2, t2, al2, m2, N2, nu2, tn2) p2 p2 o o → (p < p2 ∧ m2 + 4 * p ≤ m + 4 * p2 ∧ N2 + 4 * p ≤ N + 4 * p2) → G1 x v (w2, t2, al2, m2, N2, nu2, tn2) p2 → PS (fun Q => A Q x w2) (fun Q => B Q v t2) (PR D K ex et S0 p0 oA bl br lo G))
    (k2 : ∀ (v : Int) w2 t2, lo1 ≤ v → v < 14000 → DDs D K S0 w2 t2 → eS (fun Q => B Q (i_ v) t2) (fun r' t' => TLP D K S0.1 S0.2.1 br lo w2 r' t')) :
    PS (fun Q => zw E L M As w (Kc Q)) (fun Q => zw E' L' M' As' t (Kt Q)) (PR D K ex et S0 p0 oA bl br lo G) := by
  refine PS_c (Kc := Kc) (Kt := Kt) h (fun r w2 r' t2 hl1 hl2 hr => ?_)
  rcases hr with ⟨e, f1, f2, hr⟩ | ⟨x, v, al2, m2, N2, nu2, tn2, p2, e1, e2, h1, h2, h3⟩
  · subst e
    refine PS_l (fun Q a => kcx Q _ _ a) (PR_stop ?_)
    rcases hr with ⟨e, e1, e2⟩ | ⟨⟨v, e0, e0b, e⟩, e1, e2, hd⟩
    · subst e
      exact eS_l (fun Q a => ktx Q _ _ a) (TLP_thr (hF.1.1.ty f1) (hF.1.2.tr f2) e1 e2)
    · subst e
      exact eS_l (fun Q a => kt Q _ _ a) (k2 v w2 t2 e0 e0b ⟨⟨⟨hF.1.1.ty f1, e1, e2⟩, hK⟩, hF.1.2.tr f2, hd⟩)
  · subst e1 e2
    exact PS_l (fun Q a => kc Q _ _ a) (PS_r (fun Q a => kt Q _ _ a) (k1 x v w2 t2 al2 m2 N2 nu2 tn2 p2 hl1 ⟨h1.1, hF.tr h1.2 hx ht⟩ h1 h2 h3))
theorem wkr_k {A : Option Nat → wS → Prop} {X : String → wS → Prop} {x : Option Nat} {w w2 : wS} (h : A x w2) : wkr (fun v w1 => wle w w1 → A v w1) X (rl_ true x) w2 := by
  cases x with
  | none => exact fun _ => h
  | some a => exact fun _ => h
theorem PR_c11 {B : (kx_Rs → wS → Prop) → Int32 → wS → Prop} (hK : KRG K) {A : (kx_Rs → wS → Prop) → Option Nat → wS → Prop} (hF : FR ex et S0 (w, t, al, m, N, nu, tn)) (h : PW w t (fun Q => zw E L M As w Q) (fun Q => zw E' L' M' As' t Q) (PR D K ex' et' (w, t, al, m, N, nu, tn) p o true true lo1 G1)) (hx : ∀ a ∈ ex', a ∈ S0.2.2.1.take S0.2.2.2.1 → a ∈ ex) (ht : ∀ n ∈ et', n < S0.2.2.2.2.1 → n ∈ et)
    (k1 : ∀ x v w2 t2 al2 m2 N2 nu2 tn2 p2, wle w w2 → HY D K ex et S0 (w2, t2, al2, m2, N2, nu2, tn2) p2 p2 o o → HY D K ex' et' (w, t, al, m, N, nu, tn) (w2, t2, al2, m2, N2, nu2, tn2) p2 p2 o o → (p < p2 ∧ m2 + 4 * p ≤ m + 4 * p2 ∧ N2 + 4 * p ≤ N + 4 * p2) → G1 x v (w2, t2, al2, m2, N2, nu2, tn2) p2 → PS (fun Q => A Q x w2) (fun Q => B Q v t2) (PR D K ex et S0 p0 oA bl br lo G))
        (k2 : ∀ (v : Int) w2 t2, lo1 ≤ v → v < 14000 → DDs D K S0 w2 t2 → eS (fun Q => B Q (i_ v) t2) (fun r' t' => TLP D K S0.1 S0.2.1 br lo w2 r' t')) :
    PS (fun Q => zw E L M As w (wkr (fun v w1 => wle w w1 → A Q v w1) (fun e w => Q (.inr e) w))) (fun Q => zw E' L' M' As' t (wk1 (fun v w1 => wle t w1 → B Q v w1) (fun e w => Q (.inr e) w))) (PR D K ex et S0 p0 oA bl br lo G) :=
  PR_cG (A := A) (B := B) hK hF h hx ht (fun _ _ _ a => wkr_k a) (fun _ _ _ a => fun _ => a) (fun _ _ _ a => a) (fun _ _ _ a => a) k1 k2
/-- the twin's call is its last -/
theorem PR_c1t (hK : KRG K) {A : (kx_Rs → wS → Prop) → Option Nat → wS → Prop} (hF : FR ex et S0 (w, t, al, m, N, nu, tn)) (h : PW w t (fun Q => zw E L M As w Q) (fun Q => zw E' L' M' As' t Q) (PR D K ex' et' (w, t, al, m, N, nu, tn) p o true true lo1 G1)) (hx : ∀ a ∈ ex', a ∈ S0.2.2.1.take S0.2.2.2.1 → a ∈ ex) (ht : ∀ n ∈ et', n < S0.2.2.2.2.1 → n ∈ et)
    (k1 : ∀ x v w2 t2 al2 m2 N2 nu2 tn2 p2, wle w w2 → HY D K ex et S0 (w2, t2, al2, m2, N2, nu2, tn2) p2 p2 o o → HY D K ex' et' (w, t, al, m, N, nu, tn) (w2, t2, al2, m2, N2, nu2, tn2) p2 p2 o o → (p < p2 ∧ m2 + 4 * p ≤ m + 4 * p2 ∧ N2 + 4 * p ≤ N + 4 * p2) → G1 x v (w2, t2, al2, m2, N2, nu2, tn2) p2 → PS (fun Q => A Q x w2) (fun Q => Q (.inl (some (.int v))) t2) (PR D K ex et S0 p0 oA bl br lo G))
        (k2 : ∀ (v : Int) w2 t2, lo1 ≤ v → v < 14000 → DDs D K S0 w2 t2 → eS (fun Q => Q (.inl (some (.int (i_ v)))) t2) (fun r' t' => TLP D K S0.1 S0.2.1 br lo w2 r' t')) :
    PS (fun Q => zw E L M As w (wkr (fun v w1 => wle w w1 → A Q v w1) (fun e w => Q (.inr e) w))) (fun Q => zw E' L' M' As' t Q) (PR D K ex et S0 p0 oA bl br lo G) :=
  PR_cG (Kt := fun Q => Q) (A := A) (B := fun Q v t2 => Q (.inl (some (.int v))) t2) hK hF h hx ht (fun _ _ _ a => wkr_k a) (fun _ _ _ a => a) (fun _ _ _ a => a) (fun _ _ _ a => a) k1 k2
theorem eS_tail {P : kx_Rs → wS → Prop} (h : eW t (fun Q => zw E L M As t Q) P) : eS (fun Q => zw E L M As t Q) P := h.elim .inl (fun ⟨r, t', _, a, b⟩ => .inr ⟨r, t', a, b⟩)
end PRS
