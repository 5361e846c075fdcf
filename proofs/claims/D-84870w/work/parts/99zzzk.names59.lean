/-! ===== ROUNDS, part 61: kinds of the tree, as the rounds want them ===== -/
section KXP
variable {D : pD} {V : pV} {tn : Nat → Prop} {nu : pNz} {k d p n m f kd cl j bd : Nat} {ol : pOL} {O : pO} {l1 : Option Int32} {a b : Option Nat} {x y nb : Int32} {r : pR} {l : List (Nat × Nat × Nat)}
theorem nxi_n : ∀ i, nxi V i none = none
  | 0 => rfl
  | i + 1 => by
    show (nxi V i none).bind _ = none
    rw [nxi_n i]
    rfl
theorem nxi_s {q : Nat} : ∀ i, nxi V (i + 1) (some q) = nxi V i (V.2.1 q 7)
  | 0 => rfl
  | i + 1 => by
    show (nxi V (i + 1) (some q)).bind _ = (nxi V i (V.2.1 q 7)).bind _
    rw [nxi_s i]
/-- links of smaller rank lead to trees -/
def KXI (V : pV) (tn : Nat → Prop) (nu : pNz) (f : Nat) : Prop := ∀ (k : Nat) (ol : pOL) (n p d cl : Nat), CHz V tn nu k ol n p d → ol.2.2.1 ≤ f → (cl = ol.2.1 ∨ (cl = 60 ∧ V.2.2.1 26 n = i_ (60 : Nat))) → KX V (nuW nu) f cl p
/-- what a field leads to -/
def KXF (V : pV) (nu : pNz) (f : Nat) (ls : Prop) (a : Option Nat) (cl : Nat) : Prop := ∀ i q, (i = 0 ∨ ls) → nxi V i a = some q → KX V (nuW nu) f cl q
theorem KXF.non {ls : Prop} (h : a = none) : KXF V nu f ls a cl := fun i q _ hq => by
  rw [h, nxi_n] at hq
  cases hq
theorem KXF.ec {ls : Prop} (I : KXI V tn nu f) (hl : ¬ ls) (h : ECz V tn nu k (l1, cl, bd, O) d a x) (hb : bd ≤ f) : KXF V nu f ls a cl := fun i q hi hq => by
  obtain ⟨p, n, h1, h2, h3⟩ := h
  rcases hi with e | e
  · subst e
    rw [h1] at hq
    cases hq
    exact I k _ n _ d cl h3 hb (.inl rfl)
  · exact absurd e hl
theorem KXF.eo {ls : Prop} (I : KXI V tn nu f) (hl : ¬ ls) (h : EOz V tn nu k (l1, cl, bd, O) d a x) (hb : bd ≤ f) : KXF V nu f ls a cl := h.elim (fun h => KXF.non h.1) (fun h => KXF.ec I hl h hb)
theorem KXF.ee {ls : Prop} (I : KXI V tn nu f) (hl : ¬ ls) (h : EEz V tn nu k (l1, cl, bd, O) a x) (hb : bd ≤ f) : KXF V nu f ls a 60 := fun i q hi hq => by
  obtain ⟨p, n, h1, h2, h3, h4⟩ := h
  rcases hi with e | e
  · subst e
    rw [h1] at hq
    cases hq
    exact I k _ n _ 0 60 h3 hb (.inr ⟨rfl, h4⟩)
  · exact absurd e hl
theorem KXF.lp {cl' : Nat} (I : KXI V tn nu f) : ∀ {l : List (Nat × Nat × Nat)} {ol : pOL} {a : Option Nat} {x : Int32}, LPz V tn nu k ol l a x none (-1) → ol.2.2.1 ≤ f → (cl' = ol.2.1 ∨ (cl' = 60 ∧ ∀ q ∈ l, V.2.2.1 26 q.1 = i_ (60 : Nat))) → ∀ i q, nxi V i a = some q → KX V (nuW nu) f cl' q
  | [], _, _, _, h, _, _, i, q, hq => by
    rw [h.1, nxi_n] at hq
    cases hq
  | z :: r, ol, a, x, h, hb, hc, i, q, hq => by
    obtain ⟨h1, h2, e1, h3, h4, h5⟩ := h
    rw [h1] at hq
    cases i with
    | zero =>
      cases hq
      exact I k _ z.1 z.2.1 z.2.2 cl' h4 hb (hc.imp id (fun h => ⟨h.1, h.2 z List.mem_cons_self⟩))
    | succ i =>
      rw [nxi_s] at hq
      exact KXF.lp I h5 hb (hc.imp id (fun h => ⟨h.1, fun q hq => h.2 q (List.mem_cons_of_mem _ hq)⟩)) i q hq
theorem KXF.ls {ls : Prop} (I : KXI V tn nu f) (h : LSz V tn nu k (l1, cl, bd, O) l a x) (hb : bd ≤ f) : KXF V nu f ls a cl := fun i q _ hq => KXF.lp I h hb (.inl rfl) i q hq
theorem KXF.sl {ls : Prop} (I : KXI V tn nu f) (h : SLz V tn nu k (l1, cl, bd, O) d a x) (hb : bd ≤ f) : KXF V nu f ls a cl := by
  obtain ⟨l, h1, -⟩ := h
  exact KXF.ls I h1 hb
theorem KXF.s1 {ls : Prop} (I : KXI V tn nu f) (h : S1z V tn nu k (l1, cl, bd, O) d a x) (hb : bd ≤ f) : KXF V nu f ls a cl := by
  obtain ⟨l, h1, -⟩ := h
  exact KXF.ls I h1 hb
theorem KXF.sk {ls : Prop} (I : KXI V tn nu f) (h : SKz V tn nu k (l1, cl, bd, O) d kd a x) (hb : bd ≤ f) : KXF V nu f ls a cl := by
  obtain ⟨l, h1, -⟩ := h
  exact KXF.ls I h1 hb
theorem KXF.sk1 {ls : Prop} (I : KXI V tn nu f) (h : SK1z V tn nu k (l1, cl, bd, O) d kd a x) (hb : bd ≤ f) : KXF V nu f ls a cl := by
  obtain ⟨l, h1, -⟩ := h
  exact KXF.ls I h1 hb
theorem KXF.ln {ls : Prop} (I : KXI V tn nu f) (h : LNz V tn nu k (l1, cl, bd, O) d a x) (hb : bd ≤ f) : KXF V nu f ls a cl := by
  obtain ⟨l, h1, -⟩ := h
  exact KXF.ls I h1 hb
theorem KXF.le {ls : Prop} (I : KXI V tn nu f) (h : LEz V tn nu k (l1, cl, bd, O) a x) (hb : bd ≤ f) : KXF V nu f ls a 60 := fun i q _ hq => by
  obtain ⟨l, h1, -, h2⟩ := h
  exact KXF.lp I h1 hb (.inr ⟨rfl, h2⟩) i q hq
theorem KXF.wcl {ls : Prop} {c c' : Nat} (h : KXF V nu f ls a c) (e : c' = c) : KXF V nu f ls a c' := by
  rw [e]
  exact h
theorem KXF.wl {ls ls' : Prop} (h : KXF V nu f ls a cl) (e : ls' → ls) : KXF V nu f ls' a cl := fun i q hi hq => h i q (hi.imp id e) hq
end KXP
