/-! ===== ROUNDS, part 55: processes, actions and declarations, joined ===== -/
section NAL
variable {D : pD} {V : pV} {nu : pN} {tn : Nat → Prop} {rt f : Nat} {E' : zE}
/-- a declaration, by its kind -/
theorem n_D (hs : STR D V nu tn rt) (IH : NPA D V nu tn rt E' kt_M149 kt_M473 1 f) (ID : NPD D V nu tn rt E' f) : NPD D V nu tn rt E' (f + 1) := by
  intro S kr p n d k0 ol L L' hI hC hK hv hk hL hL'
  obtain ⟨r, kd, hnu, hm, hr, h26, hcl⟩ := hK.nb ⟨by decide, by decide⟩ hC
  have hkd : kd = 30 ∨ kd = 31 ∨ kd = 32 ∨ kd = 33 ∨ kd = 34 ∨ kd = 35 ∨ kd = 36 ∨ kd = 37 ∨ kd = 38 := by unfold cok at hcl; omega
  rcases hkd with e | e | e | e | e | e | e | e | e <;> subst e
  · exact n_DS (.inl ⟨rfl, rfl, rfl⟩) hs hI hC h26 hK hv hk hL hL'
  · exact n_DS (.inr (.inl ⟨rfl, rfl, rfl⟩)) hs hI hC h26 hK hv hk hL hL'
  · exact n_DS (.inr (.inr ⟨rfl, rfl, rfl⟩)) hs hI hC h26 hK hv hk hL hL'
  · exact n_D33 hs hI hC h26 hK hv hk hL hL'
  · exact n_D34 hs hI hC h26 hK hv hk hL hL'
  · exact n_D35 hs hI hC h26 hK hv hk hL hL'
  · exact n_D36 hs hI hC h26 hK hv hk hL hL'
  · exact n_DR (isf := false) (.inl ⟨rfl, rfl, rfl, rfl, rfl⟩) hs IH ID hI hC h26 hK hv hk hL hL'
  · exact n_DR (isf := true) (.inr ⟨rfl, rfl, rfl, rfl, rfl⟩) hs IH ID hI hC h26 hK hv hk hL hL'
/-- the round of names, at every depth -/
theorem n_ALL (hs : STR D V nu tn rt) : ∀ f, ∀ g, g ≤ f → NPA D V nu tn rt E' kt_M149 kt_M473 1 g ∧ NPC D V nu tn rt E' g ∧ NPD D V nu tn rt E' g
  | 0, g, hg => by
    have e : g = 0 := by omega
    subst e
    exact ⟨fun S kr q n d k0 ol L L' hI hC hK => hK.elim, fun S kr q n d k0 ol L L' hI hC hK => hK.elim, fun S kr q n d k0 ol L L' hI hC hK => hK.elim⟩
  | f + 1, g, hg => by
    by_cases e : g ≤ f
    · exact n_ALL hs f g e
    · have e : g = f + 1 := by omega
      subst e
      have h := n_ALL hs f
      obtain ⟨h1, h2, h3⟩ := h f (Nat.le_refl _)
      exact ⟨n_P1 hs h3 h2, n_C hs (fun g hg => (h g hg).1), n_D hs h1 h3⟩
end NAL
