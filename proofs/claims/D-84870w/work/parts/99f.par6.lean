/-! ===== PARSERS, part 6: both at once ===== -/
/-- nothing refers to a node; each node is referred to once -/
def NRw (w : wS) (U : List Nat) (p : Nat) : Prop := ∀ a ∈ U, ∀ j, 3 ≤ j → j ≤ 7 → w_p w 14 a j ≠ some p
/-- a KIND's node, which several formals may have -/
def KDN {ρ : Type} (nu : Nat → Option (Nat × ρ × Nat)) (p : Nat) : Prop := ∃ r d, nu p = some (99999, r, d)
def UPw (w : wS) (nu : pNz) (U : List Nat) : Prop := ∀ a ∈ U, ∀ j, 3 ≤ j → j ≤ 7 → ∀ p, w_p w 14 a j = some p → p ∈ U ∧ (KDN nu p ∨ ∀ a' ∈ U, ∀ j', 3 ≤ j' → j' ≤ 7 → w_p w 14 a' j' = some p → a' = a ∧ j' = j)
/-- a node of the twin belongs to one of MeetingHouse -/
def INJ {ρ : Type} (nu : Nat → Option (Nat × ρ × Nat)) : Prop := ∀ a a' n r d r' d', nu a = some (n, r, d) → nu a' = some (n, r', d') → n ≠ 99999 → a = a'
/-- both states, all nodes of MeetingHouse, how many are in use, how many the twin has, what is done -/
abbrev pS := wS × wS × List Nat × Nat × Nat × pNz × (Nat → Prop)
def NR (S : pS) (p : Nat) : Prop := NRw S.1 (S.2.2.1.take S.2.2.2.1) p
def UPN (S : pS) : Prop := UPw S.1 S.2.2.2.2.2.1 (S.2.2.1.take S.2.2.2.1) ∧ INJ S.2.2.2.2.2.1
def SY (D : pD) (K : pK) (S : pS) (p q o o' : Nat) : Prop := (((KC D.1 S.1 K D.2.1 D.2.2.2.2 ∧ KOK K ∧ KRG K) ∧ KT3 S.2.1 K D.2.2.1 D.2.2.2.1) ∧ D.2.1.length ≤ 1400 ∧ D.2.2.1.length ≤ 1400 ∧ UPN S) ∧ ((w_i S.1 4 0 3 = i_ p ∧ p < K.length ∧ kk K p ≠ 76 ∧ w_i S.1 4 0 4 = i_ o ∧ o ≤ 20) ∧ (w_i S.2.1 12 0 35 = i_ q ∧ q < K.length ∧ w_i S.2.1 12 0 38 = i_ o' ∧ o' ≤ 20)) ∧ STO D.1 S.1 S.2.2.1 S.2.2.2.1 ∧ (w_i S.2.1 12 0 25 = i_ S.2.2.2.2.1 ∧ ∀ n, n < S.2.2.2.2.1 → w_a S.2.1 12 0 96 n = 0) ∧ GLz D (vw S.1 S.2.1) S.2.2.1 S.2.2.2.1 S.2.2.2.2.1 S.2.2.2.2.2.1 S.2.2.2.2.2.2
/-- what stays, but for nodes that are told -/
def FR (ex et : List Nat) (S0 S : pS) : Prop := (FX S0.1 S.1 ∧ TX S0.2.1 S.2.1) ∧ (S0.2.2.1 <+: S.2.2.1 ∧ S0.2.2.2.1 ≤ S.2.2.2.1 ∧ S0.2.2.2.2.1 ≤ S.2.2.2.2.1 ∧ S0.2.2.2.1 ≤ S0.2.2.1.length) ∧ (∀ a, a ∈ S0.2.2.1.take S0.2.2.2.1 → a ∉ ex → ∀ k, w_i S.1 14 a k = w_i S0.1 14 a k ∧ w_p S.1 14 a k = w_p S0.1 14 a k) ∧ (∀ n, n < S0.2.2.2.2.1 → n ∉ et → ∀ k, k < 35 ∨ k = 41 ∨ k = 42 → w_a S.2.1 12 0 k n = w_a S0.2.1 12 0 k n) ∧ (nle S0.2.2.2.2.2.1 S.2.2.2.2.2.1 ∧ (∀ y, S0.2.2.2.2.2.2 y → S.2.2.2.2.2.2 y) ∧ (∀ a, S.2.2.2.2.2.1 a ≠ none → S0.2.2.2.2.2.1 a ≠ none ∨ a ∉ S0.2.2.1.take S0.2.2.2.1) ∧ ∀ y, S.2.2.2.2.2.2 y → S0.2.2.2.2.2.2 y ∨ S0.2.2.2.2.1 ≤ y) ∧ w_C S0.1 + S0.2.2.1.length + w_n S0.1 3 0 0 ≤ w_C S.1 + S.2.2.1.length + w_n S.1 3 0 0 ∧ w_S S0.1 + 22 * S0.2.2.1.length + 2 * w_n S0.1 3 0 0 ≤ w_S S.1 + 22 * S.2.2.1.length + 2 * w_n S.1 3 0 0 ∧ ∀ p, p ∈ S0.2.2.1.take S0.2.2.2.1 → NR S0 p → NR S p
/-- the same, but for the count of names that are declared -/
def FRr (ex et : List Nat) (S0 S : pS) : Prop := (FY S0.1 S.1 ∧ TX S0.2.1 S.2.1) ∧ (S0.2.2.1 <+: S.2.2.1 ∧ S0.2.2.2.1 ≤ S.2.2.2.1 ∧ S0.2.2.2.2.1 ≤ S.2.2.2.2.1 ∧ S0.2.2.2.1 ≤ S0.2.2.1.length) ∧ (∀ a, a ∈ S0.2.2.1.take S0.2.2.2.1 → a ∉ ex → ∀ k, w_i S.1 14 a k = w_i S0.1 14 a k ∧ w_p S.1 14 a k = w_p S0.1 14 a k) ∧ (∀ n, n < S0.2.2.2.2.1 → n ∉ et → ∀ k, k < 35 ∨ k = 41 ∨ k = 42 → w_a S.2.1 12 0 k n = w_a S0.2.1 12 0 k n) ∧ (nle S0.2.2.2.2.2.1 S.2.2.2.2.2.1 ∧ (∀ y, S0.2.2.2.2.2.2 y → S.2.2.2.2.2.2 y) ∧ (∀ a, S.2.2.2.2.2.1 a ≠ none → S0.2.2.2.2.2.1 a ≠ none ∨ a ∉ S0.2.2.1.take S0.2.2.2.1) ∧ ∀ y, S.2.2.2.2.2.2 y → S0.2.2.2.2.2.2 y ∨ S0.2.2.2.2.1 ≤ y) ∧ w_C S0.1 + S0.2.2.1.length + w_n S0.1 3 0 0 ≤ w_C S.1 + S.2.2.1.length + w_n S.1 3 0 0 ∧ w_S S0.1 + 22 * S0.2.2.1.length + 2 * w_n S0.1 3 0 0 ≤ w_S S.1 + 22 * S.2.2.1.length + 2 * w_n S.1 3 0 0 ∧ ∀ p, p ∈ S0.2.2.1.take S0.2.2.2.1 → NR S0 p → NR S p
/-- the state as if c more names had been counted -/
def cb (S0 : pS) (c : Nat) : pS := (ws_i S0.1 4 0 5 (w_i S0.1 4 0 5 + i_ c), S0.2)
theorem take_pre {al al' : List Nat} {m m' : Nat} (h : al <+: al') (hm : m ≤ m') (hl : m ≤ al.length) {a : Nat} (ha : a ∈ al.take m) : a ∈ al'.take m' := by
  obtain ⟨t, rfl⟩ := h
  have h1 : (al ++ t).take m = al.take m := List.take_append_of_le_length hl
  rw [← h1] at ha
  exact (List.take_subset_take_left (al ++ t) hm) ha
section FRS
variable {ex et ex' et' : List Nat} {S0 S S' : pS} {D : pD} {K : pK} {p q o o' : Nat}
theorem FR.sub (h : FR ex et S0 S) {a : Nat} (ha : a ∈ S0.2.2.1.take S0.2.2.2.1) : a ∈ S.2.2.1.take S.2.2.2.1 := take_pre h.2.1.1 h.2.1.2.1 h.2.1.2.2.2 ha
theorem FR.rf (hm : S.2.2.2.1 ≤ S.2.2.1.length) : FR ex et S S := ⟨⟨FX.rf, frm.rf⟩, ⟨List.prefix_refl _, Nat.le_refl _, Nat.le_refl _, hm⟩, fun _ _ _ _ => ⟨rfl, rfl⟩, fun _ _ _ _ _ => rfl, ⟨fun _ _ h => h, fun _ h => h, fun _ h => .inl h, fun _ h => .inl h⟩, Nat.le_refl _, Nat.le_refl _, fun _ _ h => h⟩
theorem FR.tr (h : FR ex et S0 S) (h' : FR ex' et' S S') (hx : ∀ a ∈ ex', a ∈ S0.2.2.1.take S0.2.2.2.1 → a ∈ ex) (ht : ∀ n ∈ et', n < S0.2.2.2.2.1 → n ∈ et) : FR ex et S0 S' := by
  have hs : ∀ {a}, a ∈ S0.2.2.1.take S0.2.2.2.1 → a ∈ S.2.2.1.take S.2.2.2.1 := fun ha => h.sub ha
  obtain ⟨⟨a1, a2⟩, ⟨a3, a4, a5, a6⟩, a7, a8, ⟨a9, a10, a11, a12⟩, a13, a14, a15⟩ := h
  obtain ⟨⟨b1, b2⟩, ⟨b3, b4, b5, b6⟩, b7, b8, ⟨b9, b10, b11, b12⟩, b13, b14, b15⟩ := h'
  refine ⟨⟨a1.tr b1, a2.tr b2⟩, ⟨a3.trans b3, by omega, by omega, a6⟩, fun a ha hn k => ?_, fun n hn hne k hk => ?_, ⟨fun a x hx => b9 a x (a9 a x hx), fun y hy => b10 y (a10 y hy), fun a ha => ?_, fun y hy => ?_⟩, by omega, by omega, fun p hp hn => b15 p (hs hp) (a15 p hp hn)⟩
  · obtain ⟨c1, c2⟩ := b7 a (hs ha) (fun e => hn (hx a e ha)) k
    obtain ⟨d1, d2⟩ := a7 a ha hn k
    exact ⟨c1.trans d1, c2.trans d2⟩
  · exact (b8 n (by omega) (fun e => hne (ht n e hn)) k hk).trans (a8 n hn hne k hk)
  · rcases b11 a ha with h | h
    · exact a11 a h
    · exact .inr (fun e => h (hs e))
  · rcases b12 y hy with h | h
    · exact a12 y h
    · exact .inr (by omega)
theorem FR.rr (h : FR ex et S0 S) : FRr ex et S0 S := ⟨⟨h.1.1.y, h.1.2⟩, h.2⟩
theorem FRr.sub (h : FRr ex et S0 S) {a : Nat} (ha : a ∈ S0.2.2.1.take S0.2.2.2.1) : a ∈ S.2.2.1.take S.2.2.2.1 := take_pre h.2.1.1 h.2.1.2.1 h.2.1.2.2.2 ha
theorem FRr.nr (h : FRr ex et S0 S) {a : Nat} (ha : a ∈ S0.2.2.1.take S0.2.2.2.1) (hn : NR S0 a) : NR S a := h.2.2.2.2.2.2.2 a ha hn
theorem FR.nr (h : FR ex et S0 S) {a : Nat} (ha : a ∈ S0.2.2.1.take S0.2.2.2.1) (hn : NR S0 a) : NR S a := h.2.2.2.2.2.2.2 a ha hn

theorem SY.ca (h : SY D K S p q o o') : CA D.1 S.1 K D.2.1 D.2.2.2.2 p := ⟨⟨h.1.1.1.1, h.1.1.1.2.1⟩, h.2.1.1.1, h.2.1.1.2.1⟩
theorem SY.ta (h : SY D K S p q o o') : TA S.2.1 K D.2.2.1 D.2.2.2.1 q := ⟨⟨h.1.1.2, h.1.1.1.2.1⟩, h.2.1.2.1, h.2.1.2.2.1⟩
theorem SY.krg (h : SY D K S p q o o') : KRG K := h.1.1.1.2.2
theorem SY.mle (h : SY D K S p q o o') : S.2.2.2.1 ≤ S.2.2.1.length := h.2.2.1.1.2.1
theorem SY.gl (h : SY D K S p q o o') : GLz D (vw S.1 S.2.1) S.2.2.1 S.2.2.2.1 S.2.2.2.2.1 S.2.2.2.2.2.1 S.2.2.2.2.2.2 := h.2.2.2.2
end FRS
section GLS
variable {D : pD} {V V' : pV} {al al' : List Nat} {m m' N N' : Nat} {nu : pNz} {tn : Nat → Prop}
/-- what is done stays done where only other nodes change -/
theorem GLz.keep (h : GLz D V al m N nu tn) (ha : ∀ a, a ∈ al.take m → a ∈ al'.take m') (hN : N ≤ N') (h1 : ∀ a, nu a ≠ none → V'.1 a = V.1 a ∧ V'.2.1 a = V.2.1 a) (h2 : ∀ k n, tn n → (k < 35 ∨ k = 41 ∨ k = 42) → V'.2.2.1 k n = V.2.2.1 k n) (h3 : V'.2.2.2 = V.2.2.2) : GLz D V' al' m' N' nu tn := by
  refine ⟨fun a n r d hn => ?_, fun n hn => by have := h.2 n hn; omega⟩
  obtain ⟨g1, g2⟩ := h.1 a n r d hn
  refine ⟨ha a g1, g2.elim .inl (fun ⟨g2, g3, g4⟩ => .inr ⟨g2, g3, ?_⟩)⟩
  obtain ⟨e1, e2⟩ := h1 a (by rw [hn]; simp)
  refine g4.up ⟨⟨h1, h2, h3⟩, ⟨fun j _ => by rw [e1], fun j _ => by rw [e2]⟩, fun k n' hn' _ hk => ?_⟩ (fun _ _ h => h) (fun _ h => h) (fun _ h => h) (Nat.le_refl _)
  rcases hn' with hn' | hn'
  · exact h2 k n' hn' hk
  · rw [hn']
    exact h2 k n g2 hk
end GLS
/-- both stand at places, since a start -/
def HY (D : pD) (K : pK) (ex et : List Nat) (S0 S : pS) (p q o o' : Nat) : Prop := SY D K S p q o o' ∧ FR ex et S0 S
theorem i4_14 {w : wS} {j a k : Nat} {v : Int32} : w_i (ws_i w 4 0 j v) 14 a k = w_i w 14 a k := by rw [Rii, if_neg (fun z => absurd z.2.1 (by decide))]
theorem vw_4 {w t : wS} {j : Nat} {v : Int32} : vw (ws_i w 4 0 j v) t = vw w t := by
  unfold vw
  simp only [i4_14]
  rfl
theorem nx_14 {w : wS} {p a k : Nat} : w_i (nx w p) 14 a k = w_i w 14 a k := i4_14
theorem vw_nx {w t : wS} {p : Nat} : vw (nx w p) t = vw w t := vw_4
section HYS
variable {ex et : List Nat} {S0 : pS} {D : pD} {K : pK} {p q o o' m N a k n : Nat} {w t : wS} {al : List Nat} {nu : pNz} {tn : Nat → Prop}
theorem HY.wi {v : Int32} (h : HY D K ex et S0 (w, t, al, m, N, nu, tn) p q o o') (ha : nu a = none) (hb : a ∈ S0.2.2.1.take S0.2.2.2.1 → a ∈ ex) : HY D K ex et S0 (ws_i w 14 a k v, t, al, m, N, nu, tn) p q o o' := by
  obtain ⟨⟨⟨⟨⟨h1, h2⟩, h3⟩, h4⟩, h5, h6, h7, h8⟩, ⟨f1, f2⟩, f3, f4⟩ := h
  refine ⟨⟨⟨⟨⟨h1.fx (FX_i rfl), h2⟩, h3⟩, h4⟩, ?_, h6.i (by decide), h7, h8.keep (fun _ h => h) (Nat.le_refl _) (fun a' hn => ?_) (fun _ _ _ _ => rfl) rfl⟩, ⟨f1.tr (FX_i rfl), f2⟩, f3, ?_, f4.2⟩
  · simp only [Rii, Rgi, Rpi, Rai, Rbi, Rri, Rni, Rdi, Roi, Rti, Rzi, RCi, RSi] at h5 ⊢
    rw [if_neg (fun q => absurd q.2.1 (by decide)), if_neg (fun q => absurd q.2.1 (by decide))]
    exact h5
  · have hne : a' ≠ a := fun e => hn (by rw [e]; exact ha)
    refine ⟨?_, rfl⟩
    funext k'
    show w_i (ws_i w 14 a k v) 14 a' k' = w_i w 14 a' k'
    rw [Rii, if_neg (fun z => hne z.2.2)]
  · intro a' ha' hx k'
    have hne : a' ≠ a := fun e => hx (by rw [e]; exact hb (by rw [← e]; exact ha'))
    obtain ⟨g1, g2⟩ := f4.1 a' ha' hx k'
    refine ⟨?_, g2⟩
    show w_i (ws_i w 14 a k v) 14 a' k' = _
    rw [Rii, if_neg (fun z => hne z.2.2)]
    exact g1
/-- what may be linked -/
def LKO (S0 S : pS) (k : Nat) (v : Option Nat) : Prop := (k < 3 ∨ 7 < k) ∨ ∀ p, v = some p → p ∈ S.2.2.1.take S.2.2.2.1 ∧ (NR S p ∨ KDN S.2.2.2.2.2.1 p) ∧ (p ∈ S0.2.2.1.take S0.2.2.2.1 → ¬ NR S0 p)
theorem UPw.wp {U : List Nat} {v : Option Nat} (h : UPw w nu U) (hv : (k < 3 ∨ 7 < k) ∨ ∀ p, v = some p → p ∈ U ∧ (NRw w U p ∨ KDN nu p)) : UPw (ws_p w 14 a k v) nu U := by
  intro a1 h1 j1 h3 h7 p1 hp
  rw [Rpp] at hp
  by_cases hk : KDN nu p1
  · refine ⟨?_, .inl hk⟩
    by_cases e1 : j1 = k ∧ (14 : Nat) = 14 ∧ a1 = a
    · rw [if_pos e1] at hp
      rcases hv with hv | hv
      · omega
      exact (hv p1 hp).1
    · rw [if_neg e1] at hp
      exact (h a1 h1 j1 h3 h7 p1 hp).1
  by_cases e1 : j1 = k ∧ (14 : Nat) = 14 ∧ a1 = a
  · rw [if_pos e1] at hp
    rcases hv with hv | hv
    · omega
    obtain ⟨g1, g2⟩ := hv p1 hp
    refine ⟨g1, .inr (fun a' h1' j' h3' h7' hp' => ?_)⟩
    rw [Rpp] at hp'
    by_cases e2 : j' = k ∧ (14 : Nat) = 14 ∧ a' = a
    · exact ⟨e2.2.2.trans e1.2.2.symm, e2.1.trans e1.1.symm⟩
    · rw [if_neg e2] at hp'
      exact absurd hp' (g2.resolve_right hk a' h1' j' h3' h7')
  · rw [if_neg e1] at hp
    obtain ⟨g1, g2⟩ := h a1 h1 j1 h3 h7 p1 hp
    have g2 := g2.resolve_left hk
    refine ⟨g1, .inr (fun a' h1' j' h3' h7' hp' => ?_)⟩
    rw [Rpp] at hp'
    by_cases e2 : j' = k ∧ (14 : Nat) = 14 ∧ a' = a
    · rw [if_pos e2] at hp'
      rcases hv with hv | hv
      · omega
      exact absurd hp ((hv p1 hp').2.resolve_right hk a1 h1 j1 h3 h7)
    · rw [if_neg e2] at hp'
      exact g2 a' h1' j' h3' h7' hp'
theorem UPw.mn {U : List Nat} {nu' : pNz} (h : UPw w nu U) (hn : nle nu nu') : UPw w nu' U := fun a1 h1 j1 h3 h7 p1 hp => ⟨(h a1 h1 j1 h3 h7 p1 hp).1, (h a1 h1 j1 h3 h7 p1 hp).2.elim (fun ⟨r, d, e⟩ => .inl ⟨r, d, hn _ _ e⟩) .inr⟩
theorem NRw.wp {U : List Nat} {v : Option Nat} (h : NRw w U n) (hv : (k < 3 ∨ 7 < k) ∨ v ≠ some n) : NRw (ws_p w 14 a k v) U n := by
  intro a1 h1 j1 h3 h7
  rw [Rpp]
  by_cases e1 : j1 = k ∧ (14 : Nat) = 14 ∧ a1 = a
  · rw [if_pos e1]
    rcases hv with hv | hv
    · omega
    · exact hv
  · rw [if_neg e1]
    exact h a1 h1 j1 h3 h7
theorem HY.wp {v : Option Nat} (h : HY D K ex et S0 (w, t, al, m, N, nu, tn) p q o o') (ha : nu a = none) (hb : a ∈ S0.2.2.1.take S0.2.2.2.1 → a ∈ ex) (hl : LKO S0 (w, t, al, m, N, nu, tn) k v := by first | (refine .inl ?_; decide) | exact .inr (fun _ h => nomatch h)) : HY D K ex et S0 (ws_p w 14 a k v, t, al, m, N, nu, tn) p q o o' := by
  obtain ⟨⟨⟨⟨⟨h1, h2⟩, h3⟩, h4, h4b, h4c, h4d⟩, h5, h6, h7, h8⟩, ⟨f1, f2⟩, f3, f4, f5, f6, f7, f8, f9⟩ := h
  refine ⟨⟨⟨⟨⟨h1.fx (FX_p rfl), h2⟩, h3⟩, h4, h4b, UPw.wp h4c (hl.elim .inl (fun hl => .inr (fun p hp => ⟨(hl p hp).1, (hl p hp).2.1⟩))), h4d⟩, h5, h6.p, h7, h8.keep (fun _ h => h) (Nat.le_refl _) (fun a' hn => ?_) (fun _ _ _ _ => rfl) rfl⟩, ⟨f1.tr (FX_p rfl), f2⟩, f3, ?_, f5, f6, f7, f8, fun p hp hn => NRw.wp (f9 p hp hn) (hl.elim .inl (fun hl => .inr (fun e => (hl p e).2.2 hp hn)))⟩
  · have hne : a' ≠ a := fun e => hn (by rw [e]; exact ha)
    refine ⟨rfl, ?_⟩
    funext k'
    show w_p (ws_p w 14 a k v) 14 a' k' = w_p w 14 a' k'
    rw [Rpp, if_neg (fun z => hne z.2.2)]
  · intro a' ha' hx k'
    have hne : a' ≠ a := fun e => hx (by rw [e]; exact hb (by rw [← e]; exact ha'))
    obtain ⟨g1, g2⟩ := f4 a' ha' hx k'
    refine ⟨g1, ?_⟩
    show w_p (ws_p w 14 a k v) 14 a' k' = _
    rw [Rpp, if_neg (fun z => hne z.2.2)]
    exact g2
theorem HY.cn (h : HY D K ex et S0 (w, t, al, m, N, nu, tn) p q o o') (h5 : kk K p ≠ 75) (h6 : kk K (p + 1) ≠ 76) : HY D K ex et S0 (nx w p, t, al, m, N, nu, tn) (p + 1) q o o' := by
  have hca := h.1.ca.nxt h5 h.1.2.1.1.2.2.1
  obtain ⟨⟨⟨⟨⟨h1, h2⟩, h3⟩, h4⟩, ⟨⟨h5a, h5b, h5c, h5d⟩, h5e⟩, h6, h7, h8⟩, ⟨f1, f2⟩, f3, f4⟩ := h
  refine ⟨⟨⟨⟨⟨h1.fx FX_nx, h2⟩, h3⟩, h4⟩, ⟨⟨hca.2.1, hca.2.2, by assumption, ?_, h5d.2⟩, h5e⟩, h6.i (by decide), h7, by show GLz D (vw (nx w p) t) al m N nu tn; rw [vw_nx]; exact h8⟩, ⟨f1.tr FX_nx, f2⟩, f3, ⟨fun a ha hx k => by show w_i (nx w p) 14 a k = _ ∧ _; rw [nx_14]; exact f4.1 a ha hx k, f4.2⟩⟩
  show w_i (nx w p) 4 0 4 = _
  unfold nx
  rw [Rii, if_neg (by decide)]
  exact h5d.1
theorem HY.co {u : Nat} (h : HY D K ex et S0 (w, t, al, m, N, nu, tn) p q o o') (hu : u ≤ 20) : HY D K ex et S0 (ws_i w 4 0 4 (i_ u), t, al, m, N, nu, tn) p q u o' := by
  obtain ⟨⟨⟨⟨⟨h1, h2⟩, h3⟩, h4⟩, ⟨⟨h5a, h5b, h5c, h5d⟩, h5e⟩, h6, h7, h8⟩, ⟨f1, f2⟩, f3, f4⟩ := h
  refine ⟨⟨⟨⟨⟨h1.fx (FX_i rfl), h2⟩, h3⟩, h4⟩, ⟨⟨?_, h5b, h5c, ?_, hu⟩, h5e⟩, h6.i (by decide), h7, by show GLz D (vw (ws_i w 4 0 4 (i_ u)) t) al m N nu tn; rw [vw_4]; exact h8⟩, ⟨f1.tr (FX_i rfl), f2⟩, f3, ⟨fun a ha hx k => by show w_i (ws_i w 4 0 4 (i_ u)) 14 a k = _ ∧ _; rw [i4_14]; exact f4.1 a ha hx k, f4.2⟩⟩
  · show w_i (ws_i w 4 0 4 _) 4 0 3 = _
    rw [Rii, if_neg (by decide)]
    exact h5a
  · show w_i (ws_i w 4 0 4 _) 4 0 4 = _
    rw [Rii, if_pos ⟨rfl, rfl, rfl⟩]
theorem HY.tnx (h : HY D K ex et S0 (w, t, al, m, N, nu, tn) p q o o') (h5 : kk K q ≠ 75) (h6 : kk K q ≠ 76) : HY D K ex et S0 (w, nx3 t q, al, m, N, nu, tn) p (q + 1) o o' := by
  have hta := h.1.ta.nxt h5 h6
  obtain ⟨⟨⟨⟨⟨h1, h2⟩, h3⟩, h4⟩, ⟨h5d, ⟨h5a, h5b, h5c, h5e⟩⟩, h6, h7, h8⟩, ⟨f1, f2⟩, f3, f4⟩ := h
  refine ⟨⟨⟨⟨⟨h1, h2⟩, h3.tx TX_nx3⟩, h4⟩, ⟨h5d, ⟨hta.2.1, hta.2.2, ?_, h5e⟩⟩, h6, ?_, h8⟩, ⟨f1, f2.tr TX_nx3⟩, f3, f4⟩
  · show w_i (nx3 t q) 12 0 38 = _
    unfold nx3
    rw [Rii, if_neg (by decide)]
    exact h5c
  · show w_i (nx3 t q) 12 0 25 = _ ∧ _
    refine ⟨?_, h7.2⟩
    unfold nx3
    rw [Rii, if_neg (by decide)]
    exact h7.1
theorem HY.to {u : Nat} (h : HY D K ex et S0 (w, t, al, m, N, nu, tn) p q o o') (hu : u ≤ 20) : HY D K ex et S0 (w, ws_i t 12 0 38 (i_ u), al, m, N, nu, tn) p q o u := by
  obtain ⟨⟨⟨⟨⟨h1, h2⟩, h3⟩, h4⟩, ⟨h5d, ⟨h5a, h5b, h5c, h5e⟩⟩, h6, h7, h8⟩, ⟨f1, f2⟩, f3, f4⟩ := h
  have hf : TX t (ws_i t 12 0 38 (i_ u)) := frm_i rfl
  refine ⟨⟨⟨⟨⟨h1, h2⟩, h3.tx hf⟩, h4⟩, ⟨h5d, ⟨?_, h5b, ?_, hu⟩⟩, h6, ?_, h8⟩, ⟨f1, f2.tr hf⟩, f3, f4⟩
  · show w_i (ws_i t 12 0 38 (i_ u)) 12 0 35 = _
    rw [Rii, if_neg (by decide)]
    exact h5a
  · show w_i (ws_i t 12 0 38 (i_ u)) 12 0 38 = _
    rw [Rii, if_pos ⟨rfl, rfl, rfl⟩]
  · show w_i (ws_i t 12 0 38 (i_ u)) 12 0 25 = _ ∧ _
    rw [Rii, if_neg (by decide)]
    exact h7
/-- a row of the twin's nodes, at a node that is not done -/
def kT3 (k : Nat) : Bool := (Nat.ble 26 k && Nat.ble k 34) || (Nat.beq k 41 || Nat.beq k 42)
theorem HY.ta {v : Int32} (h : HY D K ex et S0 (w, t, al, m, N, nu, tn) p q o o') (hk : kT3 k = true) (ha : ¬ tn n) (hb : n < S0.2.2.2.2.1 → n ∈ et) : HY D K ex et S0 (w, ws_a t 12 0 k n v, al, m, N, nu, tn) p q o o' := by
  obtain ⟨⟨⟨⟨⟨h1, h2⟩, h3⟩, h4⟩, h5, h6, h7, h8⟩, ⟨f1, f2⟩, f3, f4, f5, f6⟩ := h
  have hk2 : (26 ≤ k ∧ k ≤ 34) ∨ k = 41 ∨ k = 42 := by
    unfold kT3 at hk
    simp only [Bool.or_eq_true, Bool.and_eq_true, Nat.ble_eq] at hk
    rcases hk with hk | hk | hk
    · exact .inl hk
    · exact .inr (.inl (Nat.eq_of_beq_eq_true hk))
    · exact .inr (.inr (Nat.eq_of_beq_eq_true hk))
  have hf : TX t (ws_a t 12 0 k n v) := frm_a (by
    have h43 : k < 43 := by omega
    have : ∀ k, k < 43 → ((26 ≤ k ∧ k ≤ 34) ∨ k = 41 ∨ k = 42) → pT3.any (Nat.beq k) = true := by decide
    exact this k h43 hk2)
  refine ⟨⟨⟨⟨⟨h1, h2⟩, h3.tx hf⟩, h4⟩, h5, h6, ⟨h7.1, fun n' hn' => ?_⟩, h8.keep (fun _ h => h) (Nat.le_refl _) (fun _ _ => ⟨rfl, rfl⟩) (fun k' n' hn' _ => ?_) rfl⟩, ⟨f1, f2.tr hf⟩, f3, f4, ?_, f6⟩
  · show w_a (ws_a t 12 0 k n v) 12 0 96 n' = 0
    rw [Raa, if_neg (fun z => by have := z.1; omega)]
    exact h7.2 n' hn'
  · show w_a (ws_a t 12 0 k n v) 12 0 k' n' = w_a t 12 0 k' n'
    rw [Raa, if_neg (fun z => ha (by rw [← z.2.2.2]; exact hn'))]
  · intro n' hn' hx k' hk'
    show w_a (ws_a t 12 0 k n v) 12 0 k' n' = _
    rw [Raa, if_neg (fun z => hx (by rw [z.2.2.2]; exact hb (by rw [← z.2.2.2]; exact hn')))]
    exact f5 n' hn' hx k' hk'
/-- a new node of the twin -/
theorem HY.tnd {x l : Int32} (h : HY D K ex et S0 (w, t, al, m, N, nu, tn) p q o o') : HY D K ex et S0 (w, nd3 t N x l, al, m, N + 1, nu, tn) p q o o' := by
  obtain ⟨⟨⟨⟨⟨h1, h2⟩, h3⟩, h4⟩, ⟨h5d, ⟨h5a, h5b, h5c, h5e⟩⟩, h6, h7, h8⟩, ⟨f1, f2⟩, f3, f4, f5, f6⟩ := h
  have e : ∀ k n', n' ≠ N → w_a (nd3 t N x l) 12 0 k n' = w_a t 12 0 k n' := by
    intro k n' hne
    unfold nd3
    simp only [Rii, Rgi, Rpi, Rai, Rbi, Rri, Rni, Rdi, Roi, Rti, Rzi, RCi, RSi, Ria, Rga, Rpa, Raa, Rba, Rra, Rna, Rda, Roa, Rta, Rza, RCa, RSa]
    simp [hne]
  have e2 : ∀ k, k = 35 ∨ k = 38 → w_i (nd3 t N x l) 12 0 k = w_i t 12 0 k := by
    intro k hk
    unfold nd3
    simp only [Rii, Rgi, Rpi, Rai, Rbi, Rri, Rni, Rdi, Roi, Rti, Rzi, RCi, RSi, Ria, Rga, Rpa, Raa, Rba, Rra, Rna, Rda, Roa, Rta, Rza, RCa, RSa]
    rw [if_neg (fun z => by have := z.1; omega)]
  refine ⟨⟨⟨⟨⟨h1, h2⟩, h3.tx TX_nd3⟩, h4⟩, ⟨h5d, ⟨(e2 35 (.inl rfl)).trans h5a, h5b, (e2 38 (.inr rfl)).trans h5c, h5e⟩⟩, h6, ⟨?_, fun n' hn' => ?_⟩, h8.keep (fun _ h => h) (Nat.le_succ _) (fun _ _ => ⟨rfl, rfl⟩) (fun k' n' hn' _ => ?_) rfl⟩, ⟨f1, f2.tr TX_nd3⟩, ?_, f4, ?_, f6⟩
  · show w_i (nd3 t N x l) 12 0 25 = i_ (N + 1 : Nat)
    unfold nd3
    simp only [Rii, Rgi, Rpi, Rai, Rbi, Rri, Rni, Rdi, Roi, Rti, Rzi, RCi, RSi, Ria, Rga, Rpa, Raa, Rba, Rra, Rna, Rda, Roa, Rta, Rza, RCa, RSa]
    simp
  · show w_a (nd3 t N x l) 12 0 96 n' = 0
    by_cases hne : n' = N
    · subst hne
      unfold nd3
      simp only [Rii, Rgi, Rpi, Rai, Rbi, Rri, Rni, Rdi, Roi, Rti, Rzi, RCi, RSi, Ria, Rga, Rpa, Raa, Rba, Rra, Rna, Rda, Roa, Rta, Rza, RCa, RSa]
      simp
    · rw [e _ _ hne]
      have hn2 : n' < N + 1 := hn'
      exact h7.2 n' (by show n' < N; omega)
  · have : n' < N := h8.2 n' hn'
    exact e k' n' (by omega)
  · exact ⟨f3.1, f3.2.1, Nat.le_succ_of_le f3.2.2.1, f3.2.2.2⟩
  · intro n' hn' hx k' hk'
    have : S0.2.2.2.2.1 ≤ N := f3.2.2.1
    exact (e k' n' (by omega)).trans (f5 n' hn' hx k' hk')
/-- the twin's new node -/
theorem nd3_f {x l : Int32} : (w_a (nd3 t N x l) 12 0 26 N = x ∧ w_a (nd3 t N x l) 12 0 27 N = l) ∧ (w_a (nd3 t N x l) 12 0 28 N = -1 ∧ w_a (nd3 t N x l) 12 0 29 N = -1 ∧ w_a (nd3 t N x l) 12 0 30 N = -1 ∧ w_a (nd3 t N x l) 12 0 32 N = -1 ∧ w_a (nd3 t N x l) 12 0 33 N = -1 ∧ w_a (nd3 t N x l) 12 0 34 N = 0) := by
  unfold nd3
  simp only [Rii, Rgi, Rpi, Rai, Rbi, Rri, Rni, Rdi, Roi, Rti, Rzi, RCi, RSi, Ria, Rga, Rpa, Raa, Rba, Rra, Rna, Rda, Roa, Rta, Rza, RCa, RSa]
  simp
/-- a new node of MeetingHouse -/
theorem HY.cnd {x1 : Option Nat} {x2 x3 : Int32} {r : kx_Rs} {w' : wS} (h : HY D K ex et S0 (w, t, al, m, N, nu, tn) p q o o') (hn : NO2 D.1 w al m x1 x2 x3 r w') (hl : wle w w') : ∃ b al', r = .inl (some (va_rf (some b))) ∧ HY D K ex et S0 (w', t, al', m + 1, N, nu, tn) p q o o' ∧ FR [] [] (w, t, al, m, N, nu, tn) (w', t, al', m + 1, N, nu, tn) ∧ ndr w' b x1 x2 x3 ∧ nu b = none ∧ b ∈ al'.take (m + 1) ∧ b ∉ al.take m ∧ b ∉ S0.2.2.1.take S0.2.2.2.1 ∧ w_l w' D.1.2.1 14 b ∧ NRw w' (al'.take (m + 1)) b := by
  obtain ⟨b, al', g1, g2, g3, g4, g5, g6, g7, g8, g9, g10, g11, g12⟩ := hn
  have hgl := h.1.gl
  have hal := h.1.2.2.1.2.2.2.2.1
  have hml := h.1.mle
  have hnb : nu b = none := by
    cases hb : nu b with
    | none => rfl
    | some x =>
      obtain ⟨x1, x2, x3⟩ := x
      exact absurd (hgl.1 b x1 x2 x3 hb).1 g5
  have hold : ∀ a, a ∈ al.take m → ∀ k, w_i w' 14 a k = w_i w 14 a k ∧ w_p w' 14 a k = w_p w 14 a k := fun a ha k => g7 a k (fun e => g5 (by rw [← e]; exact ha)) (hal a (List.mem_of_mem_take ha)).2
  have hfx : FX w w' := ⟨g8, hl, g9⟩
  have hbm : b ∈ al'.take (m + 1) := by
    have hlen : m < al'.length := by have := g3.1.2.1; omega
    have e : al'[m] = b := by
      rw [List.getD_eq_getElem?_getD, List.getElem?_eq_getElem hlen] at g4
      simpa using g4
    rw [← e]
    exact List.mem_take_iff_getElem.mpr ⟨m, by omega, rfl⟩
  have hsp : ∀ a, a ∈ al'.take (m + 1) → a = b ∨ a ∈ al.take m := by
    intro a ha
    obtain ⟨j, hj, e⟩ := List.mem_take_iff_getElem.mp ha
    by_cases hjm : j = m
    · subst hjm
      left
      rw [← e, ← g4, List.getD_eq_getElem?_getD, List.getElem?_eq_getElem (by omega)]
      rfl
    · right
      have e2 : al'.take m = al.take m := by
        obtain ⟨s, rfl⟩ := g2
        exact List.take_append_of_le_length hml
      rw [← e2]
      exact List.mem_take_iff_getElem.mpr ⟨j, by omega, e⟩
  have hbf : ∀ j, 3 ≤ j → j ≤ 7 → w_p w' 14 b j = none := by
    intro j h3 h7
    obtain ⟨-, ⟨n1, n2, n3, n4, n5, -⟩, -⟩ := g6
    have : j = 3 ∨ j = 4 ∨ j = 5 ∨ j = 6 ∨ j = 7 := by omega
    rcases this with e | e | e | e | e <;> subst e <;> assumption
  have hup := h.1.1.2.2.2.1
  have hnr : NRw w' (al'.take (m + 1)) b := by
    intro a ha j h3 h7 e
    rcases hsp a ha with e1 | e1
    · rw [e1, hbf j h3 h7] at e
      cases e
    · rw [(hold a e1 j).2] at e
      exact g5 (hup a e1 j h3 h7 b e).1
  have hup' : UPw w' nu (al'.take (m + 1)) := by
    intro a ha j h3 h7 p hp
    rcases hsp a ha with e1 | e1
    · rw [e1, hbf j h3 h7] at hp
      cases hp
    · rw [(hold a e1 j).2] at hp
      obtain ⟨q1, q2⟩ := hup a e1 j h3 h7 p hp
      refine ⟨take_pre (m' := m + 1) g2 (Nat.le_succ _) hml q1, q2.elim .inl (fun q2 => .inr (fun a' ha' j' h3' h7' hp' => ?_))⟩
      rcases hsp a' ha' with e2 | e2
      · rw [e2, hbf j' h3' h7'] at hp'
        cases hp'
      · rw [(hold a' e2 j').2] at hp'
        exact q2 a' e2 j' h3' h7' hp'
  have hF : FR [] [] (w, t, al, m, N, nu, tn) (w', t, al', m + 1, N, nu, tn) := ⟨⟨hfx, frm.rf⟩, ⟨g2, Nat.le_succ _, Nat.le_refl _, hml⟩, fun a ha _ k => hold a ha k, fun _ _ _ _ _ => rfl, ⟨fun _ _ h => h, fun _ h => h, fun _ h => .inl h, fun _ h => .inl h⟩, g11, g12, fun p hp hn a ha j h3 h7 e => (hsp a ha).elim (fun e1 => by rw [e1, hbf j h3 h7] at e; cases e) (fun e1 => hn a e1 j h3 h7 ((hold a e1 j).2.symm.trans e))⟩
  have hS : SY D K (w', t, al', m + 1, N, nu, tn) p q o o' := by
    obtain ⟨⟨⟨⟨⟨h1, h2⟩, h3⟩, h4, h4b, h4c, h4d⟩, ⟨⟨h5a, h5b, h5c, h5d, h5e⟩, h5f⟩, h6, h7, h8⟩, -⟩ := h
    refine ⟨⟨⟨⟨h1.fx hfx, h2⟩, h3⟩, h4, h4b, hup', h4d⟩, ⟨⟨g10.1.trans h5a, h5b, h5c, g10.2.1.trans h5d, h5e⟩, h5f⟩, g3, h7, h8.keep (fun a ha => hF.sub ha) (Nat.le_refl _) (fun a ha => ?_) (fun _ _ _ _ => rfl) ?_⟩
    · cases hb : nu a with
      | none => exact absurd hb ha
      | some x =>
        obtain ⟨x1, x2, x3⟩ := x
        have := hold a (hgl.1 a x1 x2 x3 hb).1
        exact ⟨funext (fun k => (this k).1), funext (fun k => (this k).2)⟩
    · funext j
      exact congrFun (g8 1 10 rfl 0).2.1.1 j
  refine ⟨b, al', g1, ⟨hS, h.2.tr hF (fun a h => absurd h List.not_mem_nil) (fun a h => absurd h List.not_mem_nil)⟩, hF, g6, hnb, hbm, g5, fun e => g5 (h.2.sub e), ?_, hnr⟩
  exact (g3.2.2.2.2.1 b (List.mem_of_mem_take hbm)).1
end HYS
section CBS
variable {ex et ex' et' : List Nat} {S0 S S' : pS} {D : pD} {K : pK} {p q o o' : Nat} {w : wS}
theorem wsi5 {x y : Int32} : ws_i (ws_i w 4 0 5 x) 4 0 5 y = ws_i w 4 0 5 y := by
  have h : (ws_i (ws_i w 4 0 5 x) 4 0 5 y).1 = (ws_i w 4 0 5 y).1 := by
    funext c o k
    show w_i (ws_i (ws_i w 4 0 5 x) 4 0 5 y) c o k = w_i (ws_i w 4 0 5 y) c o k
    rw [Rii, Rii, Rii]
    split <;> rfl
  exact Prod.ext h rfl
theorem wsi5e : ws_i w 4 0 5 (w_i w 4 0 5) = w := by
  have h : (ws_i w 4 0 5 (w_i w 4 0 5)).1 = w.1 := by
    funext c o k
    show w_i (ws_i w 4 0 5 (w_i w 4 0 5)) c o k = w_i w c o k
    rw [Rii]
    split
    · rename_i h
      obtain ⟨rfl, rfl, rfl⟩ := h
      rfl
    · rfl
  exact Prod.ext h rfl
theorem cb_cb {a b : Nat} : cb (cb S0 a) b = cb S0 (a + b) := by
  show (ws_i (ws_i S0.1 4 0 5 (w_i S0.1 4 0 5 + i_ a)) 4 0 5 (w_i (ws_i S0.1 4 0 5 (w_i S0.1 4 0 5 + i_ a)) 4 0 5 + i_ b), S0.2) = (ws_i S0.1 4 0 5 (w_i S0.1 4 0 5 + i_ (a + b : Nat)), S0.2)
  rw [wsi5, Rii, if_pos ⟨rfl, rfl, rfl⟩, Int32.add_assoc, i_add, cNn]
theorem cb_0 : cb S0 0 = S0 := by
  show (ws_i S0.1 4 0 5 (w_i S0.1 4 0 5 + i_ (0 : Nat)), S0.2) = S0
  rw [show w_i S0.1 4 0 5 + i_ (0 : Nat) = w_i S0.1 4 0 5 from Int32.add_zero _, wsi5e]
theorem FY_5 {v : Int32} : FY w (ws_i w 4 0 5 v) := ⟨fun c' k' hp o' => ⟨⟨by rw [Rii, if_neg (fun q => by rw [q.1, q.2.1] at hp; exact absurd hp (by decide))], rfl, rfl⟩, ⟨rfl, rfl, rfl⟩, rfl, rfl⟩, fun _ _ _ h => h, Nat.le_refl _⟩
theorem FRr.cb {c : Nat} (h : FRr ex et (cb S0 c) S) : FRr ex et S0 S := by
  obtain ⟨⟨a1, a2⟩, a3, a7, a8⟩ := h
  refine ⟨⟨FY_5.tr a1, a2⟩, a3, fun a ha hn k => ?_, a8⟩
  have h := a7 a ha hn k
  have e : w_i (ws_i S0.1 4 0 5 (w_i S0.1 4 0 5 + i_ c)) 14 a k = w_i S0.1 14 a k := i4_14
  exact ⟨h.1.trans e, h.2⟩
theorem FR.cbm {c : Nat} (h : FR ex et S0 S) : FR ex et (cb S0 c) (cb S c) := by
  obtain ⟨⟨⟨a0, a1, a2⟩, b2⟩, a3, a7, a8⟩ := h
  refine ⟨⟨⟨fun c' k' hp o' => ?_, a1, a2⟩, b2⟩, a3, fun a ha hn k => ?_, a8⟩
  · have h := a0 c' k' hp o'
    refine ⟨⟨?_, h.1.2⟩, h.2⟩
    have h1 := h.1.1
    show w_i (ws_i S.1 4 0 5 _) c' o' k' = w_i (ws_i S0.1 4 0 5 _) c' o' k'
    rw [Rii, Rii, h1]
    split
    · rw [(a0 4 5 rfl 0).1.1]
    · rfl
  · have h := a7 a ha hn k
    show w_i (ws_i S.1 4 0 5 _) 14 a k = w_i (ws_i S0.1 4 0 5 _) 14 a k ∧ _
    rw [i4_14, i4_14]
    exact h
theorem FR.trc {c : Nat} (h : FR ex et S0 S) (h' : FR ex' et' (cb S c) S') (hx : ∀ a ∈ ex', a ∈ S0.2.2.1.take S0.2.2.2.1 → a ∈ ex) (ht : ∀ n ∈ et', n < S0.2.2.2.2.1 → n ∈ et) : FR ex et (cb S0 c) S' := (h.cbm (c := c)).tr h' hx ht
end CBS
