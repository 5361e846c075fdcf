/-! ===== WHAT STAYS ===== -/
/-- fields (class, place) that may change; nothing is made -/
def frm (P : Nat → Nat → Bool) (w w' : wS) : Prop := (∀ c k, P c k = false → ∀ o, w_i w' c o k = w_i w c o k ∧ w_g w' c o k = w_g w c o k ∧ w_p w' c o k = w_p w c o k ∧ w_a w' c o k = w_a w c o k ∧ w_b w' c o k = w_b w c o k ∧ w_r w' c o k = w_r w c o k) ∧ w_n w' = w_n w ∧ w_d w' = w_d w ∧ w_o w' = w_o w ∧ w_t w' = w_t w ∧ w_z w' = w_z w ∧ w_C w' = w_C w ∧ w_S w' = w_S w
def pk (c : Nat) (K : List Nat) : Nat → Nat → Bool := fun c' k => Nat.beq c' c && K.any (Nat.beq k)
section FR
variable {P P' : Nat → Nat → Bool} {w w' w'' : wS} {c o k : Nat}
theorem frm.i (h : frm P w w') (hp : P c k = false) : w_i w' c o k = w_i w c o k := (h.1 c k hp o).1
theorem frm.g (h : frm P w w') (hp : P c k = false) : w_g w' c o k = w_g w c o k := (h.1 c k hp o).2.1
theorem frm.p (h : frm P w w') (hp : P c k = false) : w_p w' c o k = w_p w c o k := (h.1 c k hp o).2.2.1
theorem frm.a (h : frm P w w') (hp : P c k = false) {j : Nat} : w_a w' c o k j = w_a w c o k j := congrFun (h.1 c k hp o).2.2.2.1 j
theorem frm.b (h : frm P w w') (hp : P c k = false) {j : Nat} : w_b w' c o k j = w_b w c o k j := congrFun (h.1 c k hp o).2.2.2.2.1 j
theorem frm.r (h : frm P w w') (hp : P c k = false) {j : Nat} : w_r w' c o k j = w_r w c o k j := congrFun (h.1 c k hp o).2.2.2.2.2 j
theorem frm.n (h : frm P w w') : w_n w' c o k = w_n w c o k := by rw [h.2.1]
theorem frm.l (h : frm P w w') {ob : Nat → Nat} (hl : w_l w ob c o) : w_l w' ob c o := by
  unfold w_l
  rw [h.2.2.2.1]
  exact hl
theorem frm.rf : frm P w w := ⟨fun _ _ _ _ => ⟨rfl, rfl, rfl, rfl, rfl, rfl⟩, rfl, rfl, rfl, rfl, rfl, rfl, rfl⟩
theorem frm.tr (h : frm P w w') (h' : frm P w' w'') : frm P w w'' := ⟨fun c k hp o => ⟨(h'.1 c k hp o).1.trans (h.1 c k hp o).1, (h'.1 c k hp o).2.1.trans (h.1 c k hp o).2.1, (h'.1 c k hp o).2.2.1.trans (h.1 c k hp o).2.2.1, (h'.1 c k hp o).2.2.2.1.trans (h.1 c k hp o).2.2.2.1, (h'.1 c k hp o).2.2.2.2.1.trans (h.1 c k hp o).2.2.2.2.1, (h'.1 c k hp o).2.2.2.2.2.trans (h.1 c k hp o).2.2.2.2.2⟩, h'.2.1.trans h.2.1, h'.2.2.1.trans h.2.2.1, h'.2.2.2.1.trans h.2.2.2.1, h'.2.2.2.2.1.trans h.2.2.2.2.1, h'.2.2.2.2.2.1.trans h.2.2.2.2.2.1, h'.2.2.2.2.2.2.1.trans h.2.2.2.2.2.2.1, h'.2.2.2.2.2.2.2.trans h.2.2.2.2.2.2.2⟩
theorem frm.wk (h : frm P w w') (hp : ∀ c k, P' c k = false → P c k = false) : frm P' w w' := ⟨fun c k h1 o => h.1 c k (hp c k h1) o, h.2⟩
theorem pk_ne {c c' k k' : Nat} {K : List Nat} (h : pk c K c' k' = false) (hk : K.any (Nat.beq k) = true) : ¬ (k' = k ∧ c' = c) := by
  rintro ⟨rfl, rfl⟩
  unfold pk at h
  rw [hk, Nat.beq_refl] at h
  cases h
theorem frm_i {K : List Nat} {v : Int32} (hk : K.any (Nat.beq k) = true) : frm (pk c K) w (ws_i w c o k v) := ⟨fun c' k' h o' => ⟨by rw [Rii, if_neg (fun q => pk_ne h hk ⟨q.1, q.2.1⟩)], rfl, rfl, rfl, rfl, rfl⟩, rfl, rfl, rfl, rfl, rfl, rfl, rfl⟩
theorem frm_p {K : List Nat} {v : Option Nat} (hk : K.any (Nat.beq k) = true) : frm (pk c K) w (ws_p w c o k v) := ⟨fun c' k' h o' => ⟨rfl, rfl, by rw [Rpp, if_neg (fun q => pk_ne h hk ⟨q.1, q.2.1⟩)], rfl, rfl, rfl⟩, rfl, rfl, rfl, rfl, rfl, rfl, rfl⟩
theorem frm_g {K : List Nat} {v : Int64} (hk : K.any (Nat.beq k) = true) : frm (pk c K) w (ws_g w c o k v) := ⟨fun c' k' h o' => ⟨rfl, by rw [Rgg, if_neg (fun q => pk_ne h hk ⟨q.1, q.2.1⟩)], rfl, rfl, rfl, rfl⟩, rfl, rfl, rfl, rfl, rfl, rfl, rfl⟩
theorem frm_a {K : List Nat} {j : Nat} {v : Int32} (hk : K.any (Nat.beq k) = true) : frm (pk c K) w (ws_a w c o k j v) := ⟨fun c' k' h o' => ⟨rfl, rfl, rfl, by funext j'; rw [Raa, if_neg (fun q => pk_ne h hk ⟨q.1, q.2.1⟩)], rfl, rfl⟩, rfl, rfl, rfl, rfl, rfl, rfl, rfl⟩
theorem frm_b {K : List Nat} {j : Nat} {v : Int64} (hk : K.any (Nat.beq k) = true) : frm (pk c K) w (ws_b w c o k j v) := ⟨fun c' k' h o' => ⟨rfl, rfl, rfl, rfl, by funext j'; rw [Rbb, if_neg (fun q => pk_ne h hk ⟨q.1, q.2.1⟩)], rfl⟩, rfl, rfl, rfl, rfl, rfl, rfl, rfl⟩
theorem frm_r {K : List Nat} {j : Nat} {v : Option Nat} (hk : K.any (Nat.beq k) = true) : frm (pk c K) w (ws_r w c o k j v) := ⟨fun c' k' h o' => ⟨rfl, rfl, rfl, rfl, rfl, by funext j'; rw [Rrr, if_neg (fun q => pk_ne h hk ⟨q.1, q.2.1⟩)]⟩, rfl, rfl, rfl, rfl, rfl, rfl, rfl⟩
theorem frm_A {K : List Nat} {v : Nat → Int32} (hk : K.any (Nat.beq k) = true) : frm (pk c K) w (ws_A w c o k v) := ⟨fun c' k' h o' => ⟨rfl, rfl, rfl, by funext j'; rw [RaA, if_neg (fun q => pk_ne h hk ⟨q.1, q.2.1⟩)], rfl, rfl⟩, rfl, rfl, rfl, rfl, rfl, rfl, rfl⟩
end FR
