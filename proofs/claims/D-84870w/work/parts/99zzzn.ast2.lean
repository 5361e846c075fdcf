/-! ===== TREES, part 2: the nodes of a tree are distinct ===== -/
/-- from head a, i links along: x; u: nodes that count -/
def ownE (V : pV) (u : Nat → Prop) : Nat → Option Nat → Nat → Prop
  | 0, a, x => a = some x
  | i + 1, a, x => ∃ z, ownE V u i a z ∧ u z ∧ V.2.1 z 7 = some x
/-- x stands in y's list j at place i -/
def OWN (V : pV) (u : Nat → Prop) (y j i x : Nat) : Prop := (u y ∧ 3 ≤ j ∧ j ≤ 6) ∧ ownE V u i (V.2.1 y j) x
/-- a node of these is linked once -/
def ULK (V : pV) (u : Nat → Prop) : Prop := ∀ a a' j j' x, u a → u a' → (3 ≤ j ∧ j ≤ 7) → (3 ≤ j' ∧ j' ≤ 7) → V.2.1 a j = some x → V.2.1 a' j' = some x → u x → a' = a ∧ j' = j
/-- a tree: its root, its nodes -/
def TS (V : pV) (u : Nat → Prop) (rk : Nat → Nat) (x0 : Nat) (N : List Nat) : Prop := x0 ∈ N ∧ (∀ x ∈ N, u x ∧ (x = x0 ∨ rk x < rk x0)) ∧ (∀ x ∈ N, x = x0 ∨ ∃ y j i, y ∈ N ∧ OWN V u y j i x ∧ rk x < rk y) ∧ N.Nodup
section TSS
variable {V : pV} {u : Nat → Prop} {rk : Nat → Nat} {p a b : Nat} {A B : List Nat}
theorem OWN.uniq (hU : ULK V u) {y j y' j' : Nat} : ∀ {i i' x : Nat}, u x → OWN V u y j i x → OWN V u y' j' i' x → y' = y ∧ j' = j ∧ i' = i
  | 0, 0, x, hx, h, h' => by
    obtain ⟨g1, g2⟩ := hU y y' j j' x h.1.1 h'.1.1 ⟨h.1.2.1, by have := h.1.2.2; omega⟩ ⟨h'.1.2.1, by have := h'.1.2.2; omega⟩ h.2 h'.2 hx
    exact ⟨g1, g2, rfl⟩
  | 0, i' + 1, x, hx, h, h' => by
    obtain ⟨g, z, g1, g2, g3⟩ := h'
    have := (hU y z j 7 x h.1.1 g2 ⟨h.1.2.1, by have := h.1.2.2; omega⟩ ⟨by omega, by omega⟩ h.2 g3 hx).2
    have := h.1.2.2
    omega
  | i + 1, 0, x, hx, h, h' => by
    obtain ⟨g, z, g1, g2, g3⟩ := h
    have := (hU y' z j' 7 x h'.1.1 g2 ⟨h'.1.2.1, by have := h'.1.2.2; omega⟩ ⟨by omega, by omega⟩ h'.2 g3 hx).2
    have := h'.1.2.2
    omega
  | i + 1, i' + 1, x, hx, h, h' => by
    obtain ⟨g, z, g1, g2, g3⟩ := h
    obtain ⟨g', z', g1', g2', g3'⟩ := h'
    have e := (hU z z' 7 7 x g2 g2' ⟨by omega, by omega⟩ ⟨by omega, by omega⟩ g3 g3' hx).1
    subst e
    obtain ⟨f1, f2, f3⟩ := OWN.uniq hU g2 ⟨g, g1⟩ ⟨g', g1'⟩
    exact ⟨f1, f2, by rw [f3]⟩
/-- two trees below one node have no node in common -/
theorem TS.dj (hU : ULK V u) {ja ia jb ib : Nat} (hA : TS V u rk a A) (hB : TS V u rk b B) (oA : OWN V u p ja ia a) (oB : OWN V u p jb ib b) (hab : a ≠ b) (ra : rk a < rk p) (rb : rk b < rk p) : ∀ m x, rk p ≤ rk x + m → x ∈ A → x ∉ B
  | 0, x, hm, h1, _ => by
    rcases (hA.2.1 x h1).2 with e | e
    · rw [e] at hm
      omega
    · omega
  | m + 1, x, hm, h1, h2 => by
    have hux := (hA.2.1 x h1).1
    have up : ∀ z ∈ A, u z ∧ rk z < rk p := fun z hz => ⟨(hA.2.1 z hz).1, by
      rcases (hA.2.1 z hz).2 with e | e
      · rw [e]; exact ra
      · omega⟩
    have vp : ∀ z ∈ B, u z ∧ rk z < rk p := fun z hz => ⟨(hB.2.1 z hz).1, by
      rcases (hB.2.1 z hz).2 with e | e
      · rw [e]; exact rb
      · omega⟩
    rcases hA.2.2.1 x h1 with e | ⟨y, j, i, y1, y2, y3⟩
    · rcases hB.2.2.1 x h2 with e' | ⟨y', j', i', z1, z2, z3⟩
      · exact hab (e.symm.trans e')
      · subst e
        have := (OWN.uniq hU hux oA z2).1
        subst this
        have := (vp _ z1).2
        omega
    · rcases hB.2.2.1 x h2 with e' | ⟨y', j', i', z1, z2, z3⟩
      · subst e'
        have := (OWN.uniq hU hux oB y2).1
        subst this
        have := (up _ y1).2
        omega
      · have e := (OWN.uniq hU hux y2 z2).1
        subst e
        exact TS.dj hU hA hB oA oB hab ra rb m y' (by omega) y1 z1
/-- a tree out of trees -/
theorem TS.mk (hU : ULK V u) (hp : u p) : ∀ cs : List ((Nat × Nat) × Nat × List Nat), (∀ z ∈ cs, TS V u rk z.2.1 z.2.2 ∧ OWN V u p z.1.1 z.1.2 z.2.1 ∧ rk z.2.1 < rk p) → (cs.map (fun z => z.1)).Nodup → TS V u rk p (p :: cs.flatMap (fun z => z.2.2)) := by
  intro cs h hn
  have low : ∀ x ∈ cs.flatMap (fun z => z.2.2), u x ∧ rk x < rk p := fun x hx => by
    obtain ⟨z, h1, h2⟩ := List.mem_flatMap.mp hx
    obtain ⟨g1, -, g3⟩ := h z h1
    refine ⟨(g1.2.1 x h2).1, ?_⟩
    rcases (g1.2.1 x h2).2 with e | e
    · rw [e]; exact g3
    · omega
  refine ⟨List.mem_cons_self, fun x hx => ?_, fun x hx => ?_, List.nodup_cons.mpr ⟨fun hx => by have := (low p hx).2; omega, ?_⟩⟩
  · rcases List.mem_cons.mp hx with e | e
    · rw [e]; exact ⟨hp, .inl rfl⟩
    · exact ⟨(low x e).1, .inr (low x e).2⟩
  · rcases List.mem_cons.mp hx with e | e
    · exact .inl e
    · obtain ⟨z, h1, h2⟩ := List.mem_flatMap.mp e
      obtain ⟨g1, g2, g3⟩ := h z h1
      rcases g1.2.2.1 x h2 with q | ⟨y, j, i, y1, y2, y3⟩
      · subst q
        exact .inr ⟨p, _, _, List.mem_cons_self, g2, g3⟩
      · exact .inr ⟨y, j, i, List.mem_cons_of_mem _ (List.mem_flatMap.mpr ⟨z, h1, y1⟩), y2, y3⟩
  · clear low
    induction cs with
    | nil => exact List.nodup_nil
    | cons z cs ih =>
      rw [List.flatMap_cons, List.nodup_append]
      rw [List.map_cons, List.nodup_cons] at hn
      obtain ⟨g1, g2, g3⟩ := h z List.mem_cons_self
      refine ⟨g1.2.2.2, ih (fun y hy => h y (List.mem_cons_of_mem _ hy)) hn.2, fun x hx x' hx' e => ?_⟩
      subst e
      obtain ⟨y, h1, h2⟩ := List.mem_flatMap.mp hx'
      obtain ⟨f1, f2, f3⟩ := h y (List.mem_cons_of_mem _ h1)
      have hne : z.2.1 ≠ y.2.1 := fun e => by
        rw [e] at g2
        obtain ⟨-, k1, k2⟩ := OWN.uniq hU (f1.2.1 _ f1.1).1 g2 f2
        exact hn.1 (List.mem_map.mpr ⟨y, h1, Prod.ext k1 k2⟩)
      exact TS.dj hU g1 f1 g2 f2 hne g3 f3 (rk p) x (Nat.le_add_left _ _) hx h2
end TSS
