/-! ===== ROUNDS, part 62: each row's fields (printed by tools/gen_kx.py) ===== -/
section KXR
variable {D : pD} {V : pV} {tn T2 : Nat → Prop} {nu : pNz} {k d p n j f : Nat} {O : pO} {nb fl : Int32}
theorem KXF.r50 (I : KXI V tn nu f) (hk : k ≤ f) (h : LFkz D V tn T2 nu k O d p n 50) (hj : 3 ≤ j ∧ j ≤ 6) (hu : ujk (V.1 p 10) (V.1 p 11) 50 j) : KXF V nu f (isl (V.1 p 10) 50 j) (V.2.1 p j) (ccl (V.1 p 10) (V.1 p 11) 50 j) := by
  exfalso
  unfold ujk chl at hu
  omega
theorem KXF.r51 (I : KXI V tn nu f) (hk : k ≤ f) (h : LFkz D V tn T2 nu k O d p n 51) (hj : 3 ≤ j ∧ j ≤ 6) (hu : ujk (V.1 p 10) (V.1 p 11) 51 j) : KXF V nu f (isl (V.1 p 10) 51 j) (V.2.1 p j) (ccl (V.1 p 10) (V.1 p 11) 51 j) := by
  exfalso
  unfold ujk chl at hu
  omega
theorem KXF.r52 (I : KXI V tn nu f) (hk : k ≤ f) (h : LFkz D V tn T2 nu k O d p n 52) (hj : 3 ≤ j ∧ j ≤ 6) (hu : ujk (V.1 p 10) (V.1 p 11) 52 j) : KXF V nu f (isl (V.1 p 10) 52 j) (V.2.1 p j) (ccl (V.1 p 10) (V.1 p 11) 52 j) := by
  exfalso
  unfold ujk chl at hu
  omega
theorem KXF.r53 (I : KXI V tn nu f) (hk : k ≤ f) (h : LFkz D V tn T2 nu k O d p n 53) (hj : 3 ≤ j ∧ j ≤ 6) (hu : ujk (V.1 p 10) (V.1 p 11) 53 j) : KXF V nu f (isl (V.1 p 10) 53 j) (V.2.1 p j) (ccl (V.1 p 10) (V.1 p 11) 53 j) := by
  exfalso
  unfold ujk chl at hu
  omega
theorem KXF.r54 (I : KXI V tn nu f) (hk : k ≤ f) (h : LFkz D V tn T2 nu k O d p n 54) (hj : 3 ≤ j ∧ j ≤ 6) (hu : ujk (V.1 p 10) (V.1 p 11) 54 j) : KXF V nu f (isl (V.1 p 10) 54 j) (V.2.1 p j) (ccl (V.1 p 10) (V.1 p 11) 54 j) := by
  exfalso
  unfold ujk chl at hu
  omega
theorem KXF.r55 (I : KXI V tn nu f) (hk : k ≤ f) (h : LFkz D V tn T2 nu k O d p n 55) (hj : 3 ≤ j ∧ j ≤ 6) (hu : ujk (V.1 p 10) (V.1 p 11) 55 j) : KXF V nu f (isl (V.1 p 10) 55 j) (V.2.1 p j) (ccl (V.1 p 10) (V.1 p 11) 55 j) := by
  exfalso
  unfold ujk chl at hu
  omega
theorem KXF.r56 (I : KXI V tn nu f) (hk : k ≤ f) (h : LFkz D V tn T2 nu k O d p n 56) (hj : 3 ≤ j ∧ j ≤ 6) (hu : ujk (V.1 p 10) (V.1 p 11) 56 j) : KXF V nu f (isl (V.1 p 10) 56 j) (V.2.1 p j) (ccl (V.1 p 10) (V.1 p 11) 56 j) := by
  exfalso
  unfold ujk chl at hu
  omega
theorem KXF.r57 (I : KXI V tn nu f) (hk : k ≤ f) (h : LFkz D V tn T2 nu k O d p n 57) (hj : 3 ≤ j ∧ j ≤ 6) (hu : ujk (V.1 p 10) (V.1 p 11) 57 j) : KXF V nu f (isl (V.1 p 10) 57 j) (V.2.1 p j) (ccl (V.1 p 10) (V.1 p 11) 57 j) := by
  have e : j = 3 := by
    unfold ujk chl at hu
    omega
  subst e
  · exact KXF.ec I (by unfold isl; simp) h.2.2.2 hk
theorem KXF.r59 (I : KXI V tn nu f) (hk : k ≤ f) (h : LFkz D V tn T2 nu k O d p n 59) (hj : 3 ≤ j ∧ j ≤ 6) (hu : ujk (V.1 p 10) (V.1 p 11) 59 j) : KXF V nu f (isl (V.1 p 10) 59 j) (V.2.1 p j) (ccl (V.1 p 10) (V.1 p 11) 59 j) := by
  have e : j = 3 := by
    unfold ujk chl at hu
    omega
  subst e
  · exact KXF.s1 I h.2.2 (Nat.le_trans (Nat.sub_le _ _) hk)
theorem KXF.r60 (I : KXI V tn nu f) (hk : k ≤ f) (h : LFkz D V tn T2 nu k O d p n 60) (hj : 3 ≤ j ∧ j ≤ 6) (hu : ujk (V.1 p 10) (V.1 p 11) 60 j) : KXF V nu f (isl (V.1 p 10) 60 j) (V.2.1 p j) (ccl (V.1 p 10) (V.1 p 11) 60 j) := by
  have e : j = 3 := by
    unfold ujk chl at hu
    omega
  subst e
  · exact KXF.eo I (by unfold isl; simp) h.2.2.2 (Nat.le_trans (Nat.sub_le _ _) hk)
theorem KXF.r61 (I : KXI V tn nu f) (hk : k ≤ f) (h : LFkz D V tn T2 nu k O d p n 61) (hj : 3 ≤ j ∧ j ≤ 6) (hu : ujk (V.1 p 10) (V.1 p 11) 61 j) : KXF V nu f (isl (V.1 p 10) 61 j) (V.2.1 p j) (ccl (V.1 p 10) (V.1 p 11) 61 j) := by
  have e : j = 4 := by
    unfold ujk chl at hu
    omega
  subst e
  · exact KXF.sl I h.2.2.2 (Nat.le_trans (Nat.sub_le _ _) hk)
theorem KXF.r62 (I : KXI V tn nu f) (hk : k ≤ f) (h : LFkz D V tn T2 nu k O d p n 62) (hj : 3 ≤ j ∧ j ≤ 6) (hu : ujk (V.1 p 10) (V.1 p 11) 62 j) : KXF V nu f (isl (V.1 p 10) 62 j) (V.2.1 p j) (ccl (V.1 p 10) (V.1 p 11) 62 j) := by
  have e : j = 3 := by
    unfold ujk chl at hu
    omega
  subst e
  · exact KXF.ec I (by unfold isl; simp) h.2.2.2.1 hk
theorem KXF.r63 (I : KXI V tn nu f) (hk : k ≤ f) (h : LFkz D V tn T2 nu k O d p n 63) (hj : 3 ≤ j ∧ j ≤ 6) (hu : ujk (V.1 p 10) (V.1 p 11) 63 j) : KXF V nu f (isl (V.1 p 10) 63 j) (V.2.1 p j) (ccl (V.1 p 10) (V.1 p 11) 63 j) := by
  have hj2 : j = 3 ∨ j = 4 := by
    unfold ujk chl at hu
    omega
  rcases hj2 with e | e <;> subst e
  · exact KXF.ec I (by unfold isl; simp) h.2.2.2.1 (Nat.le_trans (Nat.sub_le _ _) hk)
  · exact KXF.ec I (by unfold isl; simp) h.2.2.2.2 (Nat.le_trans (Nat.sub_le _ _) hk)
theorem KXF.r64 (I : KXI V tn nu f) (hk : k ≤ f) (h : LFkz D V tn T2 nu k O d p n 64) (hj : 3 ≤ j ∧ j ≤ 6) (hu : ujk (V.1 p 10) (V.1 p 11) 64 j) : KXF V nu f (isl (V.1 p 10) 64 j) (V.2.1 p j) (ccl (V.1 p 10) (V.1 p 11) 64 j) := by
  have e : j = 3 := by
    unfold ujk chl at hu
    omega
  subst e
  · exact KXF.s1 I h.2.2.2 hk
theorem KXF.r1 (I : KXI V tn nu f) (hk : k ≤ f) (h : LFkz D V tn T2 nu k O d p n 1) (hj : 3 ≤ j ∧ j ≤ 6) (hu : ujk (V.1 p 10) (V.1 p 11) 1 j) : KXF V nu f (isl (V.1 p 10) 1 j) (V.2.1 p j) (ccl (V.1 p 10) (V.1 p 11) 1 j) := by
  have hj2 : j = 3 ∨ j = 4 := by
    unfold ujk chl at hu
    omega
  rcases hj2 with e | e <;> subst e
  · obtain ⟨-, d1, d2, e1, -, -, q3, q4⟩ := h
    exact KXF.sl I q3 hk
  · obtain ⟨-, d1, d2, e1, -, -, q3, q4⟩ := h
    exact KXF.ec I (by unfold isl; simp) q4 hk
theorem KXF.r2 (I : KXI V tn nu f) (hk : k ≤ f) (h : LFkz D V tn T2 nu k O d p n 2) (hj : 3 ≤ j ∧ j ≤ 6) (hu : ujk (V.1 p 10) (V.1 p 11) 2 j) : KXF V nu f (isl (V.1 p 10) 2 j) (V.2.1 p j) (ccl (V.1 p 10) (V.1 p 11) 2 j) := by
  exfalso
  unfold ujk chl at hu
  omega
theorem KXF.r3 (I : KXI V tn nu f) (hk : k ≤ f) (h : LFkz D V tn T2 nu k O d p n 3) (hj : 3 ≤ j ∧ j ≤ 6) (hu : ujk (V.1 p 10) (V.1 p 11) 3 j) : KXF V nu f (isl (V.1 p 10) 3 j) (V.2.1 p j) (ccl (V.1 p 10) (V.1 p 11) 3 j) := by
  exfalso
  unfold ujk chl at hu
  omega
theorem KXF.r4 (I : KXI V tn nu f) (hk : k ≤ f) (h : LFkz D V tn T2 nu k O d p n 4) (hj : 3 ≤ j ∧ j ≤ 6) (hu : ujk (V.1 p 10) (V.1 p 11) 4 j) : KXF V nu f (isl (V.1 p 10) 4 j) (V.2.1 p j) (ccl (V.1 p 10) (V.1 p 11) 4 j) := by
  have hj2 : j = 3 ∨ j = 4 := by
    unfold ujk chl at hu
    omega
  rcases hj2 with e | e <;> subst e
  · exact KXF.le I h.2.2.1 hk
  · exact KXF.s1 I h.2.2.2 hk
theorem KXF.r5 (I : KXI V tn nu f) (hk : k ≤ f) (h : LFkz D V tn T2 nu k O d p n 5) (hj : 3 ≤ j ∧ j ≤ 6) (hu : ujk (V.1 p 10) (V.1 p 11) 5 j) : KXF V nu f (isl (V.1 p 10) 5 j) (V.2.1 p j) (ccl (V.1 p 10) (V.1 p 11) 5 j) := by
  have hj2 : j = 3 ∨ j = 4 := by
    unfold ujk chl at hu
    omega
  rcases hj2 with e | e <;> subst e
  · exact KXF.ee I (by unfold isl; simp) h.2.2.1 hk
  · exact KXF.le I h.2.2.2 hk
theorem KXF.r6 (I : KXI V tn nu f) (hk : k ≤ f) (h : LFkz D V tn T2 nu k O d p n 6) (hj : 3 ≤ j ∧ j ≤ 6) (hu : ujk (V.1 p 10) (V.1 p 11) 6 j) : KXF V nu f (isl (V.1 p 10) 6 j) (V.2.1 p j) (ccl (V.1 p 10) (V.1 p 11) 6 j) := by
  have hj2 : j = 3 ∨ j = 4 := by
    unfold ujk chl at hu
    omega
  rcases hj2 with e | e <;> subst e
  · exact KXF.ee I (by unfold isl; simp) h.2.2.1 hk
  · exact KXF.ec I (by unfold isl; simp) h.2.2.2 hk
theorem KXF.r7 (I : KXI V tn nu f) (hk : k ≤ f) (h : LFkz D V tn T2 nu k O d p n 7) (hj : 3 ≤ j ∧ j ≤ 6) (hu : ujk (V.1 p 10) (V.1 p 11) 7 j) : KXF V nu f (isl (V.1 p 10) 7 j) (V.2.1 p j) (ccl (V.1 p 10) (V.1 p 11) 7 j) := by
  have hj2 : j = 3 ∨ j = 4 := by
    unfold ujk chl at hu
    omega
  rcases hj2 with e | e <;> subst e
  · exact KXF.ee I (by unfold isl; simp) h.2.1 hk
  · exact KXF.s1 I h.2.2 hk
theorem KXF.r8 (I : KXI V tn nu f) (hk : k ≤ f) (h : LFkz D V tn T2 nu k O d p n 8) (hj : 3 ≤ j ∧ j ≤ 6) (hu : ujk (V.1 p 10) (V.1 p 11) 8 j) : KXF V nu f (isl (V.1 p 10) 8 j) (V.2.1 p j) (ccl (V.1 p 10) (V.1 p 11) 8 j) := by
  have hj2 : j = 3 ∨ j = 4 := by
    unfold ujk chl at hu
    omega
  rcases hj2 with e | e <;> subst e
  · exact KXF.ee I (by unfold isl; simp) h.2.2.1 hk
  · exact KXF.s1 I h.2.2.2 hk
theorem KXF.r9 (I : KXI V tn nu f) (hk : k ≤ f) (h : LFkz D V tn T2 nu k O d p n 9) (hj : 3 ≤ j ∧ j ≤ 6) (hu : ujk (V.1 p 10) (V.1 p 11) 9 j) : KXF V nu f (isl (V.1 p 10) 9 j) (V.2.1 p j) (ccl (V.1 p 10) (V.1 p 11) 9 j) := by
  have e : j = 4 := by
    unfold ujk chl at hu
    omega
  subst e
  · exact KXF.sl I h.2.2.2 hk
theorem KXF.r10 (I : KXI V tn nu f) (hk : k ≤ f) (h : LFkz D V tn T2 nu k O d p n 10) (hj : 3 ≤ j ∧ j ≤ 6) (hu : ujk (V.1 p 10) (V.1 p 11) 10 j) : KXF V nu f (isl (V.1 p 10) 10 j) (V.2.1 p j) (ccl (V.1 p 10) (V.1 p 11) 10 j) := by
  have hj2 : j = 3 ∨ j = 4 := by
    unfold ujk chl at hu
    omega
  rcases hj2 with e | e <;> subst e
  · obtain ⟨-, l, e1, -, q1, -, q2⟩ := h
    exact q2.elim (fun h => KXF.non h.1) (fun h => KXF.ec I (by unfold isl; simp) h.1 hk)
  · obtain ⟨-, l, e1, -, q1, -, q2⟩ := h
    exact KXF.ls I q1 hk
theorem KXF.r11 (I : KXI V tn nu f) (hk : k ≤ f) (h : LFkz D V tn T2 nu k O d p n 11) (hj : 3 ≤ j ∧ j ≤ 6) (hu : ujk (V.1 p 10) (V.1 p 11) 11 j) : KXF V nu f (isl (V.1 p 10) 11 j) (V.2.1 p j) (ccl (V.1 p 10) (V.1 p 11) 11 j) := by
  have hj2 : j = 3 ∨ j = 4 := by
    unfold ujk chl at hu
    omega
  rcases hj2 with e | e <;> subst e
  · obtain ⟨-, l, e1, -, q1, -, q2⟩ := h
    exact q2.elim (fun h => KXF.non h.1) (fun h => KXF.ec I (by unfold isl; simp) h.1 hk)
  · obtain ⟨-, l, e1, -, q1, -, q2⟩ := h
    exact KXF.ls I q1 hk
theorem KXF.r12 (I : KXI V tn nu f) (hk : k ≤ f) (h : LFkz D V tn T2 nu k O d p n 12) (hj : 3 ≤ j ∧ j ≤ 6) (hu : ujk (V.1 p 10) (V.1 p 11) 12 j) : KXF V nu f (isl (V.1 p 10) 12 j) (V.2.1 p j) (ccl (V.1 p 10) (V.1 p 11) 12 j) := by
  have hj2 : j = 3 ∨ j = 4 := by
    unfold ujk chl at hu
    omega
  rcases hj2 with e | e <;> subst e
  · exact KXF.non h.2.1
  · exact KXF.sl I h.2.2 hk
theorem KXF.r13 (I : KXI V tn nu f) (hk : k ≤ f) (h : LFkz D V tn T2 nu k O d p n 13) (hj : 3 ≤ j ∧ j ≤ 6) (hu : ujk (V.1 p 10) (V.1 p 11) 13 j) : KXF V nu f (isl (V.1 p 10) 13 j) (V.2.1 p j) (ccl (V.1 p 10) (V.1 p 11) 13 j) := by
  have hj2 : j = 3 ∨ j = 4 := by
    unfold ujk chl at hu
    omega
  rcases hj2 with e | e <;> subst e
  · exact KXF.ec I (by unfold isl; simp) h.2.2.1 hk
  · exact KXF.ec I (by unfold isl; simp) h.2.2.2 hk
theorem KXF.r14 (I : KXI V tn nu f) (hk : k ≤ f) (h : LFkz D V tn T2 nu k O d p n 14) (hj : 3 ≤ j ∧ j ≤ 6) (hu : ujk (V.1 p 10) (V.1 p 11) 14 j) : KXF V nu f (isl (V.1 p 10) 14 j) (V.2.1 p j) (ccl (V.1 p 10) (V.1 p 11) 14 j) := by
  have hj2 : j = 3 ∨ j = 4 := by
    unfold ujk chl at hu
    omega
  rcases hj2 with e | e <;> subst e
  · exact KXF.ec I (by unfold isl; simp) h.2.1 hk
  · exact KXF.sl I h.2.2 hk
theorem KXF.r15 (I : KXI V tn nu f) (hk : k ≤ f) (h : LFkz D V tn T2 nu k O d p n 15) (hj : 3 ≤ j ∧ j ≤ 6) (hu : ujk (V.1 p 10) (V.1 p 11) 15 j) : KXF V nu f (isl (V.1 p 10) 15 j) (V.2.1 p j) (ccl (V.1 p 10) (V.1 p 11) 15 j) := by
  have hj2 : j = 3 ∨ j = 4 := by
    unfold ujk chl at hu
    omega
  rcases hj2 with e | e <;> subst e
  · exact h.2.2.elim (fun h => KXF.non h.2.1) (fun h => KXF.s1 I h.2 hk)
  · exact KXF.ec I (by unfold isl; simp) h.2.1 hk
theorem KXF.r16 (I : KXI V tn nu f) (hk : k ≤ f) (h : LFkz D V tn T2 nu k O d p n 16) (hj : 3 ≤ j ∧ j ≤ 6) (hu : ujk (V.1 p 10) (V.1 p 11) 16 j) : KXF V nu f (isl (V.1 p 10) 16 j) (V.2.1 p j) (ccl (V.1 p 10) (V.1 p 11) 16 j) := by
  have hj2 : j = 3 ∨ j = 4 := by
    unfold ujk chl at hu
    omega
  rcases hj2 with e | e <;> subst e
  · exact KXF.ec I (by unfold isl; simp) h.2.1 hk
  · exact KXF.ec I (by unfold isl; simp) h.2.2 hk
theorem KXF.r17 (I : KXI V tn nu f) (hk : k ≤ f) (h : LFkz D V tn T2 nu k O d p n 17) (hj : 3 ≤ j ∧ j ≤ 6) (hu : ujk (V.1 p 10) (V.1 p 11) 17 j) : KXF V nu f (isl (V.1 p 10) 17 j) (V.2.1 p j) (ccl (V.1 p 10) (V.1 p 11) 17 j) := by
  have hj2 : j = 3 ∨ j = 4 := by
    unfold ujk chl at hu
    omega
  rcases hj2 with e | e <;> subst e
  · obtain ⟨-, -, l, e1, -, q1, -, q2⟩ := h
    exact q2.elim (fun h => KXF.non h.1) (fun h => KXF.ec I (by unfold isl; simp) h.1 hk)
  · obtain ⟨-, -, l, e1, -, q1, -, q2⟩ := h
    exact KXF.ls I q1 hk
theorem KXF.r19 (I : KXI V tn nu f) (hk : k ≤ f) (h : LFkz D V tn T2 nu k O d p n 19) (hj : 3 ≤ j ∧ j ≤ 6) (hu : ujk (V.1 p 10) (V.1 p 11) 19 j) : KXF V nu f (isl (V.1 p 10) 19 j) (V.2.1 p j) (ccl (V.1 p 10) (V.1 p 11) 19 j) := by
  have hj2 : j = 4 ∨ j = 6 := by
    unfold ujk chl at hu
    omega
  rcases hj2 with e | e <;> subst e
  · exact h.2.2.1.elim (fun h => KXF.non h.1) (fun h => KXF.le I h hk)
  · exact KXF.ec I (by unfold isl; simp) h.2.2.2 hk
theorem KXF.r20 (I : KXI V tn nu f) (hk : k ≤ f) (h : LFkz D V tn T2 nu k O d p n 20) (hj : 3 ≤ j ∧ j ≤ 6) (hu : ujk (V.1 p 10) (V.1 p 11) 20 j) : KXF V nu f (isl (V.1 p 10) 20 j) (V.2.1 p j) (ccl (V.1 p 10) (V.1 p 11) 20 j) := by
  have hj2 : j = 3 ∨ j = 4 := by
    unfold ujk chl at hu
    omega
  rcases hj2 with e | e <;> subst e
  · exact KXF.ec I (by unfold isl; simp) h.2.2.2.1 hk
  · exact KXF.ec I (by unfold isl; simp) h.2.2.2.2 hk
theorem KXF.r30 (I : KXI V tn nu f) (hk : k ≤ f) (h : LFkz D V tn T2 nu k O d p n 30) (hj : 3 ≤ j ∧ j ≤ 6) (hu : ujk (V.1 p 10) (V.1 p 11) 30 j) : KXF V nu f (isl (V.1 p 10) 30 j) (V.2.1 p j) (ccl (V.1 p 10) (V.1 p 11) 30 j) := by
  have hj2 : j = 3 ∨ j = 4 := by
    unfold ujk chl at hu
    omega
  rcases hj2 with e | e <;> subst e
  · exact h.2.2.2.1.elim (fun h => KXF.non h.1) (fun h => KXF.ec I (by unfold isl; simp) h.1 hk)
  · exact KXF.ln I h.2.2.2.2 hk
theorem KXF.r31 (I : KXI V tn nu f) (hk : k ≤ f) (h : LFkz D V tn T2 nu k O d p n 31) (hj : 3 ≤ j ∧ j ≤ 6) (hu : ujk (V.1 p 10) (V.1 p 11) 31 j) : KXF V nu f (isl (V.1 p 10) 31 j) (V.2.1 p j) (ccl (V.1 p 10) (V.1 p 11) 31 j) := by
  have hj2 : j = 3 ∨ j = 4 := by
    unfold ujk chl at hu
    omega
  rcases hj2 with e | e <;> subst e
  · exact h.2.2.2.1.elim (fun h => KXF.non h.1) (fun h => KXF.ec I (by unfold isl; simp) h.1 hk)
  · exact KXF.ln I h.2.2.2.2 hk
theorem KXF.r32 (I : KXI V tn nu f) (hk : k ≤ f) (h : LFkz D V tn T2 nu k O d p n 32) (hj : 3 ≤ j ∧ j ≤ 6) (hu : ujk (V.1 p 10) (V.1 p 11) 32 j) : KXF V nu f (isl (V.1 p 10) 32 j) (V.2.1 p j) (ccl (V.1 p 10) (V.1 p 11) 32 j) := by
  have hj2 : j = 3 ∨ j = 4 := by
    unfold ujk chl at hu
    omega
  rcases hj2 with e | e <;> subst e
  · exact KXF.non h.2.2.2.1
  · exact KXF.ln I h.2.2.2.2.2.2 hk
theorem KXF.r33 (I : KXI V tn nu f) (hk : k ≤ f) (h : LFkz D V tn T2 nu k O d p n 33) (hj : 3 ≤ j ∧ j ≤ 6) (hu : ujk (V.1 p 10) (V.1 p 11) 33 j) : KXF V nu f (isl (V.1 p 10) 33 j) (V.2.1 p j) (ccl (V.1 p 10) (V.1 p 11) 33 j) := by
  have e : j = 3 := by
    unfold ujk chl at hu
    omega
  subst e
  · exact KXF.ec I (by unfold isl; simp) h.2.2.2.1 hk
theorem KXF.r34 (I : KXI V tn nu f) (hk : k ≤ f) (h : LFkz D V tn T2 nu k O d p n 34) (hj : 3 ≤ j ∧ j ≤ 6) (hu : ujk (V.1 p 10) (V.1 p 11) 34 j) : KXF V nu f (isl (V.1 p 10) 34 j) (V.2.1 p j) (ccl (V.1 p 10) (V.1 p 11) 34 j) := by
  have e : j = 3 := by
    unfold ujk chl at hu
    omega
  subst e
  · exact KXF.ee I (by unfold isl; simp) h.2.2.2.1 hk
theorem KXF.r35 (I : KXI V tn nu f) (hk : k ≤ f) (h : LFkz D V tn T2 nu k O d p n 35) (hj : 3 ≤ j ∧ j ≤ 6) (hu : ujk (V.1 p 10) (V.1 p 11) 35 j) : KXF V nu f (isl (V.1 p 10) 35 j) (V.2.1 p j) (ccl (V.1 p 10) (V.1 p 11) 35 j) := by
  have e : j = 4 := by
    unfold ujk chl at hu
    omega
  subst e
  · exact KXF.sk1 I h.2.2.2 hk
theorem KXF.r36 (I : KXI V tn nu f) (hk : k ≤ f) (h : LFkz D V tn T2 nu k O d p n 36) (hj : 3 ≤ j ∧ j ≤ 6) (hu : ujk (V.1 p 10) (V.1 p 11) 36 j) : KXF V nu f (isl (V.1 p 10) 36 j) (V.2.1 p j) (ccl (V.1 p 10) (V.1 p 11) 36 j) := by
  have e : j = 4 := by
    unfold ujk chl at hu
    omega
  subst e
  · exact KXF.sk1 I h.2.2.2 hk
theorem KXF.r37 (I : KXI V tn nu f) (hk : k ≤ f) (h : LFkz D V tn T2 nu k O d p n 37) (hj : 3 ≤ j ∧ j ≤ 6) (hu : ujk (V.1 p 10) (V.1 p 11) 37 j) : KXF V nu f (isl (V.1 p 10) 37 j) (V.2.1 p j) (ccl (V.1 p 10) (V.1 p 11) 37 j) := by
  have hj2 : j = 3 ∨ j = 4 := by
    unfold ujk chl at hu
    omega
  rcases hj2 with e | e <;> subst e
  · obtain ⟨-, -, q3, d2, -, q5⟩ := h
    exact KXF.sk I q3 hk
  · obtain ⟨-, -, q3, d2, -, q5⟩ := h
    exact KXF.ec I (by unfold isl; simp) q5 hk
theorem KXF.r39 (I : KXI V tn nu f) (hk : k ≤ f) (h : LFkz D V tn T2 nu k O d p n 39) (hj : 3 ≤ j ∧ j ≤ 6) (hu : ujk (V.1 p 10) (V.1 p 11) 39 j) : KXF V nu f (isl (V.1 p 10) 39 j) (V.2.1 p j) (ccl (V.1 p 10) (V.1 p 11) 39 j) := by
  exfalso
  unfold ujk chl at hu
  omega
theorem KXF.r40 (I : KXI V tn nu f) (hk : k ≤ f) (h : LFkz D V tn T2 nu k O d p n 40) (hj : 3 ≤ j ∧ j ≤ 6) (hu : ujk (V.1 p 10) (V.1 p 11) 40 j) : KXF V nu f (isl (V.1 p 10) 40 j) (V.2.1 p j) (ccl (V.1 p 10) (V.1 p 11) 40 j) := by
  have e : j = 3 := by
    unfold ujk chl at hu
    omega
  subst e
  · exact h.2.2.2.elim (fun h => KXF.non h.1) (fun h => KXF.ec I (by unfold isl; simp) h.1 hk)
theorem KXF.r41 (I : KXI V tn nu f) (hk : k ≤ f) (h : LFkz D V tn T2 nu k O d p n 41) (hj : 3 ≤ j ∧ j ≤ 6) (hu : ujk (V.1 p 10) (V.1 p 11) 41 j) : KXF V nu f (isl (V.1 p 10) 41 j) (V.2.1 p j) (ccl (V.1 p 10) (V.1 p 11) 41 j) := by
  have e : j = 4 := by
    unfold ujk chl at hu
    omega
  subst e
  · exact KXF.sk I h.2.2.2 hk
theorem KXF.r42 (I : KXI V tn nu f) (hk : k ≤ f) (h : LFkz D V tn T2 nu k O d p n 42) (hj : 3 ≤ j ∧ j ≤ 6) (hu : ujk (V.1 p 10) (V.1 p 11) 42 j) : KXF V nu f (isl (V.1 p 10) 42 j) (V.2.1 p j) (ccl (V.1 p 10) (V.1 p 11) 42 j) := by
  exfalso
  unfold ujk chl at hu
  omega
theorem KXF.r18 (I : KXI V tn nu f) (hk : k ≤ f) (h : LFkz D V tn T2 nu k O d p n 18) (hj : 3 ≤ j ∧ j ≤ 6) (hu : ujk (V.1 p 10) (V.1 p 11) 18 j) : KXF V nu f (isl (V.1 p 10) 18 j) (V.2.1 p j) (ccl (V.1 p 10) (V.1 p 11) 18 j) := by
  obtain ⟨-, h5, n2, -, -, -, hg⟩ := h
  have hj2 : j = 3 ∨ j = 4 ∨ j = 5 ∨ j = 6 := by omega
  rcases hj2 with e | e | e | e <;> subst e
  · rcases hg with g | g | g | g
    · exact KXF.non g.2.2.1
    · exact KXF.ee I (by unfold isl; simp) g.2.2.1 hk
    · exact KXF.ee I (by unfold isl; simp) g.2.2.1 hk
    · exact KXF.ee I (by unfold isl; simp) g.2.2.1 hk
  · rcases hg with g | g | g | g
    · exact absurd g.2.1 (hu.2.2.1 ⟨rfl, rfl⟩)
    · rw [g.2.1]
      exact KXF.le I g.2.2.2.1 hk
    · rw [g.2.1]
      exact KXF.ec I (by unfold isl; simp) g.2.2.2.1 hk
    · rw [g.2.1]
      exact KXF.s1 I g.2.2.2.1 hk
  · exact KXF.eo I (by unfold isl; simp) h5 hk
  · rcases hg with g | g | g | g
    · exact KXF.ec I (by unfold isl; simp) g.2.2.2 hk
    · exact KXF.ec I (by unfold isl; simp) g.2.2.2.2 hk
    · exact KXF.ec I (by unfold isl; simp) g.2.2.2.2 hk
    · exact KXF.non g.2.2.2.2.1
theorem KXF.r38 (I : KXI V tn nu f) (hk : k ≤ f) (h : LFkz D V tn T2 nu k O d p n 38) (hj : 3 ≤ j ∧ j ≤ 6) (hu : ujk (V.1 p 10) (V.1 p 11) 38 j) : KXF V nu f (isl (V.1 p 10) 38 j) (V.2.1 p j) (ccl (V.1 p 10) (V.1 p 11) 38 j) := by
  obtain ⟨-, -, -, h3, hg⟩ := h
  have hj2 : j = 3 ∨ j = 4 ∨ j = 5 ∨ j = 6 := by omega
  rcases hj2 with e | e | e | e <;> subst e
  · exact KXF.sk I h3 hk
  · rcases hg with g | ⟨g0, d1, d2, e1, e2, -, -, g7, g8, g9⟩
    · rw [g.1]
      exact KXF.ec I (by unfold isl; simp) g.2.1 hk
    · rw [g0]
      exact KXF.ec I (by unfold isl; simp) g8 hk
  · rcases hg with g | ⟨g0, d1, d2, e1, e2, -, -, g7, g8, g9⟩
    · exact KXF.non g.2.2.2.2.1
    · exact KXF.sl I g7 hk
  · rcases hg with g | ⟨g0, d1, d2, e1, e2, -, -, g7, g8, g9⟩
    · exact absurd g.1 (hu.2.2.2 ⟨rfl, rfl⟩)
    · exact KXF.ec I (by unfold isl; simp) g9 hk
theorem KXF.all {kd : Nat} (I : KXI V tn nu f) (hk : k ≤ f) (h : LFkz D V tn T2 nu k O d p n kd) (hj : 3 ≤ j ∧ j ≤ 6) (hu : ujk (V.1 p 10) (V.1 p 11) kd j) : KXF V nu f (isl (V.1 p 10) kd j) (V.2.1 p j) (ccl (V.1 p 10) (V.1 p 11) kd j) := by
  have h0 := h
  unfold LFkz at h
  split at h
  · exact KXF.r50 I hk h0 hj hu
  · exact KXF.r51 I hk h0 hj hu
  · exact KXF.r52 I hk h0 hj hu
  · exact KXF.r53 I hk h0 hj hu
  · exact KXF.r54 I hk h0 hj hu
  · exact KXF.r55 I hk h0 hj hu
  · exact KXF.r56 I hk h0 hj hu
  · exact KXF.r57 I hk h0 hj hu
  · exact KXF.r59 I hk h0 hj hu
  · exact KXF.r60 I hk h0 hj hu
  · exact KXF.r61 I hk h0 hj hu
  · exact KXF.r62 I hk h0 hj hu
  · exact KXF.r63 I hk h0 hj hu
  · exact KXF.r64 I hk h0 hj hu
  · exact KXF.r1 I hk h0 hj hu
  · exact KXF.r2 I hk h0 hj hu
  · exact KXF.r3 I hk h0 hj hu
  · exact KXF.r4 I hk h0 hj hu
  · exact KXF.r5 I hk h0 hj hu
  · exact KXF.r6 I hk h0 hj hu
  · exact KXF.r7 I hk h0 hj hu
  · exact KXF.r8 I hk h0 hj hu
  · exact KXF.r9 I hk h0 hj hu
  · exact KXF.r10 I hk h0 hj hu
  · exact KXF.r11 I hk h0 hj hu
  · exact KXF.r12 I hk h0 hj hu
  · exact KXF.r13 I hk h0 hj hu
  · exact KXF.r14 I hk h0 hj hu
  · exact KXF.r15 I hk h0 hj hu
  · exact KXF.r16 I hk h0 hj hu
  · exact KXF.r17 I hk h0 hj hu
  · exact KXF.r18 I hk h0 hj hu
  · exact KXF.r19 I hk h0 hj hu
  · exact KXF.r20 I hk h0 hj hu
  · exact KXF.r30 I hk h0 hj hu
  · exact KXF.r31 I hk h0 hj hu
  · exact KXF.r32 I hk h0 hj hu
  · exact KXF.r33 I hk h0 hj hu
  · exact KXF.r34 I hk h0 hj hu
  · exact KXF.r35 I hk h0 hj hu
  · exact KXF.r36 I hk h0 hj hu
  · exact KXF.r37 I hk h0 hj hu
  · exact KXF.r38 I hk h0 hj hu
  · exact KXF.r39 I hk h0 hj hu
  · exact KXF.r40 I hk h0 hj hu
  · exact KXF.r41 I hk h0 hj hu
  · exact KXF.r42 I hk h0 hj hu
  · exact h.elim
theorem KX.ext {kd : Nat} (h : LFkz D V tn T2 nu k O d p n kd) (h12 : kd < 50 → V.1 p 12 = 0) : kxe V p kd := by
  refine ⟨fun e q hq => ?_, h12, fun e => ?_, fun e => ?_⟩
  · subst e
    obtain ⟨-, ⟨q', h1, h2⟩, -⟩ := h
    rw [h1] at hq
    cases hq
    exact h2
  · subst e
    exact h.2.1
  · subst e
    exact h.2.1
end KXR
section KXA
variable {D : pD} {V : pV} {tn : Nat → Prop} {nu : pNz}
/-- all trees are of their class -/
theorem KX.ofz (hG : ∀ a n r d, nu a = some (n, r, d) → n = 99999 ∨ (tn n ∧ n < 14000 ∧ LFz D V tn tn nu r d a n)) : ∀ f, KXI V tn nu f := by
  intro f
  induction f with
  | zero =>
    intro k ol n p d cl h hb _
    obtain ⟨m, c, r, h1, h2, h3, h4, h5, h6, h7, h8, h9⟩ := h
    omega
  | succ f ih =>
    intro k ol n p d cl h hb hc
    obtain ⟨m, c, r, h1, h2, h3, h4, h5, h6, ⟨kd, h7, h7b, h7c, h7d⟩, h8, h9⟩ := h
    rcases hG p m r d h3 with e | ⟨-, -, -, kd', g2, g3, -, g4⟩
    · omega
    have e : kd' = kd := by
      have := (i_eq (by omega) (by omega)).mp (g2.symm.trans h7)
      omega
    subst e
    have hcok : cok cl kd' := by
      rcases hc with e | ⟨e, e60⟩
      · rw [e]; exact h7c
      · cases c with
        | cons z c =>
          have h58 : V.2.2.1 26 n = 58 := h1.2.1
          rw [e60] at h58
          exact absurd h58 (by decide)
        | nil =>
          have h1 : n = m := h1
          subst h1
          have e2 : kd' = 60 := by
            have := (i_eq (by omega) (by omega)).mp (h7.symm.trans e60)
            omega
          subst e2
          unfold cok
          omega
    refine ⟨m, r.1, d, kd', nuW_s h3, h4, h7, hcok, KX.ext g4 (fun e => ?_), fun j hj _ hu i q hi hq => ?_⟩
    · rw [h5, h7d e]
      rfl
    · exact KXF.all ih (by omega) g4 hj hu i q hi hq
/-- what the rounds ask of the tree that was read -/
theorem PRG.kx {K : pK} {w t : wS} {al : List Nat} {m N b n dd p k : Nat} {q o o' : Nat} (h : SY D K (w, t, al, m, N, nu, tn) p q o o') (hC : CHz (vw w t) tn nu k (oN K 1 0 p) n b dd) : KX (vw w t) (nuW nu) K.length 1 b ∧ CHx (vw w t) tn (nuW nu) K.length none n b dd := by
  have hp : p < K.length := h.ca.2.2
  refine ⟨KX.ofz (fun a n r d e => (h.2.2.2.2.1 a n r d e).2) K.length k _ n b dd 1 hC (by show p - 0 ≤ K.length; omega) (.inl rfl), ?_⟩
  exact (hC.wk (k' := k) (ol' := (none, 1, K.length, kln K, 0, p)) (OLw.mk (by omega) (Nat.le_refl _) (Nat.le_refl _))).w
end KXA
