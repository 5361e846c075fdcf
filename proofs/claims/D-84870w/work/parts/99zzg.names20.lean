/-! ===== ROUNDS, part 22: CASE, IF ===== -/
section NCI
variable {D : pD} {V : pV} {nu : pN} {tn : Nat → Prop} {rt p q n nq r d dq j k k0 f s u A cr W kd cl : Nat} {J J' : List Nat} {S S' S0 : nS} {w w2 w' t t' : wS} {v : Option Nat} {x x2 : Int32} {T T' : Int} {kr kr' : List Nat} {L L' Lx Ly Lt : Nat} {E' : zE} {gc gt : pQ} {Φ : kx_Rs → wS → kx_Rs → wS → Prop} {ol : Option Int32} {C : Nat → Prop} {Mc Mt : kx_M}
/-- what was known is known -/
def KUE (S S' : nS) : Prop := (∀ kr, KRE S kr → KRE S' kr) ∧ S'.u = S.u
theorem KUE.rf : KUE S S := ⟨fun _ h => h, rfl⟩
theorem KUE.tr {S1 : nS} (h : KUE S S') (h' : KUE S' S1) : KUE S S1 := ⟨fun kr a => h'.1 kr (h.1 kr a), h'.2.trans h.2⟩
theorem KUE.of (hk : KRE S kr) (hk' : KRE S' kr) (hu : S'.u = S.u) : KUE S S' := ⟨fun kr2 h => by
  have e : kr2 = kr := h.1.symm.trans hk.1
  rw [e]
  exact hk', hu⟩
/-- an item of a CASE -/
theorem n_it15 {gcl : Option Nat → wS → pQ} {gtl : Int32 → wS → pQ} {X Y : (kx_Rs → wS → Prop) → String → wS → Prop} (hs : STR D V nu tn rt) (IH : ∀ g, g ≤ f → NPA D V nu tn rt E' kt_M149 kt_M473 1 g) (hI : IVN D V nu tn rt S) (hC : CHx V tn nu k0 ol n p d) (hK : KX V nu f 15 p) (hv : VOK V nu rt S p) (hk : KRE S kr) (hL : 75 * k0 + 340 ≤ Lx) (hLy : 75 * k0 + 340 ≤ Ly) (hL' : 75 * k0 + 340 ≤ L')
    (hgt : ∀ t : wS, gtl (V.2.2.1 32 n) t = fun Q => zL_X13_nameAction_p522 E' L' Q x2 (V.2.2.1 32 n) t)
    (kc : ∀ r w' r' t', NPO D V nu tn rt p S (KUE S) (fun S' => NS V nu S' f S.u kr p kr) r w' r' t' → PS (gcl (V.2.1 p 7) w') (gtl (V.2.2.1 32 n) t') Φ) :
    PS (fun Q => zw D.1 Lx kt_M141 [.ref (w_adr D.1.2.1 5 0), va_rf (V.2.1 p 3)] S.w (wk0 (fun w2 => wle S.w w2 → zw D.1 Ly kt_M149 [.ref (w_adr D.1.2.1 5 0), va_rf (w_p w2 14 p 4)] w2 (wk0 (fun w4 => wle w2 w4 → gcl (w_p w4 14 p 7) w4 Q) (X Q))) (Y Q))) (fun Q => zL_X13_nameAction_p534 E' L' Q x2 (i_ n) (V.2.2.1 28 n) S.t) Φ := by
  cases f with
  | zero => exact hK.elim
  | succ f =>
  obtain ⟨r, kd, hnu, hm, hr, h26, hcl⟩ := hK.nb ⟨by decide, by decide⟩ hC
  have hkd : kd = 15 := by unfold cok at hcl; omega
  subst hkd
  obtain ⟨kd, h26', hcl', hch⟩ := hK.at hnu hm
  have hkd : kd = 15 := by unfold cok at hcl'; omega
  subst hkd
  obtain ⟨htm, hl2, hF⟩ := hs.lf hnu hm h26 (by decide)
  have H := HM.start hI hv
  have hkA : KRE (S.at p) kr := hk
  obtain ⟨hk0, ⟨qb, nb, hqb, h29, hCb⟩, hl0⟩ := hF
  have hl1 : ∃ l, LPx V tn nu r (some (V.2.2.1 27 n)) l (V.2.1 p 3) (V.2.2.1 28 n) none (-1) := by
    rcases hl0 with ⟨-, e1, e2⟩ | ⟨-, l, hl, -⟩
    · exact ⟨[], e1, e2⟩
    · exact ⟨l, hl⟩
  obtain ⟨l, hl⟩ := hl1
  have hc3 : ccl (V.1 p 10) (V.1 p 11) 15 3 = 0 := rfl
  have hc4 : ccl (V.1 p 10) (V.1 p 11) 15 4 = 1 := rfl
  have hX : ∀ z ∈ l, KX V nu f 0 z.2.1 := fun z hz => by
    obtain ⟨i, hi⟩ := hl.nx2 z hz
    have h := hch 3 ⟨by decide, by decide⟩ (by omega) (ujk.c (by omega)) i z.2.1 (.inr (.inr (.inl ⟨rfl, by simp⟩))) hi
    rw [hc3] at h
    exact h
  have hXb := hch 4 ⟨by decide, by decide⟩ (by omega) (ujk.c (by omega)) 0 qb (.inl rfl) hqb
  rw [hc4] at hXb
  refine n_exs (E' := E') (S := S.at p) (J := []) (J' := [3]) (l := l) (y := p) (j := 3) (gtl := fun x t Q => zL_X13_nameAction_p534 E' L' Q x2 (i_ n) x t) (n_EX hs f) hs H hkA ⟨H.2.2.1.1, H.2.2.1.2.1⟩ (fun e => absurd (H.2.2.1.2.2.2 3 e) List.not_mem_nil) ⟨by decide, by decide⟩ (fun i hi => absurd hi List.not_mem_nil) (fun _ => List.mem_cons_self) hl hX (by omega) (Lt := L' - 24) (by omega) (fun nq t gc Φ hnq h => ?_) (fun S1 T1 H1 hn1 hx1 hsm1 hG1 => ?_)
  · refine PS_r (fun Q h => zt_X13_nameAction_p534 (by omega) h) ?_
    simp only [zb_X13_nameAction_p534, i_nat' (show nq < 2147483648 by omega)]
    exact PS_rn (i_nn (by omega)) h
  · have hw1 := H1.1.nw hnu
    have ht1 := H1.1.1.2.2 n htm
    have hk1 : KRE S1 kr := hkA.nd hn1
    have hu1 : S1.u = S.u := congrArg Prod.fst hn1.2.2.2
    refine PS_r (fun Q h => zt_X13_nameAction_p534 (by omega) h) ?_
    simp only [zb_X13_nameAction_p534, i_nat' (show n < 2147483648 by omega), ht1 29 rfl, h29, hw1.2.1 4 (by decide), hqb]
    refine PS_rp (by decide) (PS_rand (H1.1.1.2.1.i rfl hm) ?_)
    refine n_cp (IH f (Nat.le_succ f)) hs H1 hk1 (by decide) ⟨by decide, by decide⟩ hqb hCb hXb (by omega) (by omega) (fun S2 T2 H2 hT2 hk2 hu2 hx2 hsm2 hG2 => ?_)
    have hw2 := H2.1.nw hnu
    have ht2 := H2.1.1.2.2 n htm
    refine PS_rand (H2.1.1.2.1.i rfl hm) ?_
    rw [hw2.2.1 7 (by decide)]
    simp only [i_nat' (show n < 2147483648 by omega), ht2 32 rfl]
    have hfin := kc (.inl none) S2.w (.inl none) S2.t (H2.en (by decide) (hu2.trans hu1) (KUE.of hk hk2 (hu2.trans hu1)) (fun e => ⟨.inr rfl, n, r, d, 15, hnu, hm, h26, rfl, fun i q hq => ?_, fun q hq => ?_⟩))
    · rw [hgt] at hfin
      exact hfin
    · obtain ⟨z, hz, e2⟩ := hl.nx1 hq
      rw [← e2]
      exact (((hG1 (min_nof H1.2.2.2.2.1.1 hT2 e).1).2 z hz).nx H1.1 hx2).nx H2.1 NX.fi
    · rw [hqb] at hq
      cases hq
      rw [← hu1]
      exact (hG2 (min_nof H1.2.2.2.2.1.1 hT2 e).2).nx H2.1 NX.fi
end NCI
