/-! ===== ROUNDS, part 23: CASE, IF ===== -/
section NCF
variable {D : pD} {V : pV} {nu : pN} {tn : Nat → Prop} {rt p q n nq r d dq j k k0 f s u A cr W kd cl : Nat} {J J' : List Nat} {S S' S0 : nS} {w w2 w' t t' : wS} {v : Option Nat} {x x2 : Int32} {T T' : Int} {kr kr' : List Nat} {L L' Lx Ly Lt : Nat} {E' : zE} {gc gt : pQ} {Φ : kx_Rs → wS → kx_Rs → wS → Prop} {ol : Option Int32} {C : Nat → Prop} {Mc Mt : kx_M}
/-- CASE -/
theorem n_A14 (hs : STR D V nu tn rt) (IH : ∀ g, g ≤ f → NPA D V nu tn rt E' kt_M149 kt_M473 1 g) (hI : IVN D V nu tn rt S) (hC : CHx V tn nu k0 ol n p d) (h26 : V.2.2.1 26 n = i_ (14 : Nat)) (hK : KX V nu (f + 1) 2 p) (hv : VOK V nu rt S p) (hk : KRE S kr) (hL : 75 * k0 + 340 ≤ L) (hL' : 75 * k0 + 340 ≤ L') : PS (fun Q => zw D.1 L kt_M131 [.ref (w_adr D.1.2.1 5 0), va_rf (some p)] S.w Q) (fun Q => zw E' L' kt_M471 [.ref (w_adr E'.2.1 12 0), .int (i_ n)] S.t Q) (NPO D V nu tn rt p S (fun S' => KRE S' kr) (fun S' => NS V nu S' (f + 1) S.u kr p kr)) := by
  obtain ⟨r, hnu, hm, -, hr, -⟩ := hC.nb h26 ⟨by decide, by decide⟩
  obtain ⟨kd, h26', hcl, hch⟩ := hK.at hnu hm
  have hkd : kd = 14 := by
    have := (i_eq (by unfold cok at hcl; omega) (by unfold cok at hcl; omega)).mp (h26.symm.trans h26')
    omega
  subst hkd
  obtain ⟨htm, hl2, hF⟩ := hs.lf hnu hm h26 (by decide)
  have H := HM.start hI hv
  have hw := hI.nw hnu
  have ht := hI.1.2.2 n htm
  have hT := hI.1.2.1
  have hkA : KRE (S.at p) kr := hk
  have h56 : w_i S.t 12 0 56 = i_ kr.length := hI.e56 hk
  obtain ⟨hk0, ⟨qa, na, hqa, h28, hCa⟩, l, hl, -⟩ := hF
  have hXa := hch 3 ⟨by decide, by decide⟩ (by omega) (ujk.c (by omega)) 0 qa (.inl rfl) hqa
  have hc3 : ccl (V.1 p 10) (V.1 p 11) 14 3 = 0 := rfl
  have hc4 : ccl (V.1 p 10) (V.1 p 11) 14 4 = 15 := rfl
  rw [hc3] at hXa
  have hXl : ∀ z ∈ l, KX V nu f 15 z.2.1 := fun z hz => by
    obtain ⟨i, hi⟩ := hl.nx2 z hz
    have h := hch 4 ⟨by decide, by decide⟩ (by omega) (ujk.c (by omega)) i z.2.1 (.inr (.inl ⟨rfl, by simp⟩)) hi
    rw [hc4] at h
    exact h
  refine PS_of (fun Q h => zt_X6_action_p0 (by omega) h) (fun Q h => zt_X13_nameAction_p0 (by omega) h) ?_
  simp only [zb_X6_action_p0, zb_X13_nameAction_p0, zb_X6_action_p208, i_nat' (show n < 2147483648 by omega), ht 26 rfl, h26, h56, ht 28 rfl, h28]
  refine PS_lex p rfl (PS_land hw.1 (PS_lex 48 (zO_k hs.1.1 (by decide) ((hw.2.1 0 (by decide)).trans hk0) rfl) ?_))
  refine PS_rand (hT.i rfl hm) ?_
  repeat (first | refine PS_lp (by decide) ?_ | refine PS_ln (by decide) ?_)
  repeat (first | refine PS_rp (by decide) ?_ | refine PS_rn (by decide) ?_)
  refine PS_rand (hT.i rfl hm) ?_
  refine PS_l (fun Q h => zt_X6_chosen_p0 (by omega) h) ?_
  simp only [zb_X6_chosen_p0, zb_X6_chosen_p15]
  refine PS_lex p rfl (PS_land hw.1 ?_)
  simp only [hw.2.1 3 (by decide), hqa]
  refine PS_ln (by simp) ?_
  refine n_ch (S := S.at p) (n_EX hs f) hs H hkA List.not_mem_nil ⟨by decide, by decide⟩ hqa hCa hXa (by omega) (by omega) (fun S1 T1 H1 hT1 hn1 hx1 hsm1 hG1 => ?_)
  have hw1 := H1.1.nw hnu
  have ht1 := H1.1.1.2.2 n htm
  have hk1 : KRE S1 kr := hkA.nd hn1
  have hu1 : S1.u = S.u := congrArg Prod.fst hn1.2.2.2
  refine PS_lex p rfl (PS_land hw1.1 ?_)
  simp only [ht1 29 rfl, hw1.2.1 4 (by decide)]
  refine PS_lp (fun z => eo_ne hs.1.1 (by decide) (by decide) (by decide) (((hw1.2.1 0 (by decide)).trans hk0).symm.trans z)) ?_
  refine PS_rand (H1.1.1.2.1.i rfl hm) ?_
  have H1' := H1.wk (J' := [4, 3]) (fun i hi => List.mem_cons_of_mem _ hi)
  refine n_list (J' := [4, 3]) (S0 := S) (cr := 5) (Kp := fun S1 => KRE S1 kr ∧ S1.u = S.u) (G := fun q S' => NS V nu S' f S.u kr q kr) (P := fun z => KX V nu f 15 z.2.1) (gcl := fun x w Q => zL_X6_chosen_p39 D.1 (L - 22) (wk0 (fun w1 => wle S.w w1 → Q (.inl none) w1) (fun e w => Q (.inr e) w)) x w) (gtl := fun x t Q => zL_X13_nameAction_p522 E' L' Q (i_ kr.length) x t) (R := KUE) (fun _ => KUE.rf) (fun _ _ _ => KUE.tr) (fun _ _ h hk => ⟨h.1 _ hk.1, h.2.trans hk.2⟩) (fun _ _ _ _ h => h) hs (fun S2 T2 y2 j2 q n2 d2 H2 hk2 I2 V2 hC2 hP2 kc => ?_) (fun q S S' hI h hx => h.nx hI hx) H1' ⟨hk1, hu1⟩ ⟨H1.2.2.1.1, H1.2.2.1.2.1⟩ (fun e => absurd (H1.2.2.1.2.2.2 4 e) (by decide)) ⟨by decide, by decide⟩ (fun _ => List.mem_cons_self) hl hXl (fun S2 T2 H2 hk2 hx2 hR2 hsm2 hG2 => ?_)
  · have hn2 := hC2.n14 hs
    have hC3 := hC2
    obtain ⟨m, c, rr, hP, htn, hnu2, -⟩ := hC3
    have hw2 := H2.1.nw hnu2
    have ht2 := H2.1.1.2.2 n2 (htn n2 hP.mem)
    refine PS_of (fun Q h => zt_X6_chosen_p39 (by omega) h) (fun Q h => zt_X13_nameAction_p522 (by omega) h) ?_
    simp only [zb_X6_chosen_p39, zb_X13_nameAction_p522, i_nat' (show n2 < 2147483648 by omega), ht2 28 rfl]
    refine PS_ln (by simp) (PS_lex q rfl (PS_land hw2.1 ?_))
    simp only [hw2.2.1 3 (by decide)]
    refine PS_rn (i_nn (by omega)) (PS_rand (H2.1.1.2.1.i rfl hn2) ?_)
    refine n_it15 (f := f) (S := S2.go y2 j2) (gcl := fun x w Q => zL_X6_chosen_p39 D.1 (L - 22) (wk0 (fun w1 => wle S.w w1 → Q (.inl none) w1) (fun e w => Q (.inr e) w)) x w) (gtl := fun x t Q => zL_X13_nameAction_p522 E' L' Q (i_ kr.length) x t) hs IH I2 hC2 hP2 V2 hk2.1 (by omega) (by omega) (by omega) (fun _ => rfl) (fun r w' r' t' hb => kc r w' r' t' (hb.imp (fun _ h => h) (fun S' h => ?_)))
    have e : (S2.go y2 j2).u = S.u := hk2.2
    rw [e] at h
    exact h
  · refine PS_of (fun Q h => zt_X6_chosen_p39 (by omega) h) (fun Q h => zt_X13_nameAction_p522 (by omega) h) ?_
    simp only [zb_X6_chosen_p39, zb_X13_nameAction_p522, zb_X13_nameAction_p697]
    refine PS_lp trivial (PS_rp (by decide) (PS_l (fun Q a => fun _ => a) ?_))
    refine n_ae hnu hm h26 H2 (by decide) hk2.1 hk2.2 (fun e => ⟨rfl, fun q hq => ?_, fun i q hq => ?_⟩)
    · rw [hqa] at hq
      cases hq
      exact ((hG1 (min_nof (.inl rfl) hT1 (hG2 e).1).2).nx H1.1 hx2).nx H2.1 NX.fi
    · obtain ⟨z, hz, e2⟩ := hl.nx1 hq
      rw [← e2]
      exact ((hG2 e).2 z hz).nx H2.1 NX.fi
/-- an item of an IF -/
theorem n_it13 {K : (kx_Rs → wS → Prop) → kx_Rs → wS → Prop} (hs : STR D V nu tn rt) (IH : ∀ g, g ≤ f → NPA D V nu tn rt E' kt_M149 kt_M473 1 g) (hI : IVN D V nu tn rt S) (hC : CHx V tn nu k0 ol n p d) (hK : KX V nu f 13 p) (hv : VOK V nu rt S p) (hk : KRE S kr) (hL : 75 * k0 + 340 ≤ Lx) (hL' : 75 * k0 + 340 ≤ L')
    (kc : ∀ r w' r' t', NPO D V nu tn rt p S (KUE S) (fun S' => NS V nu S' f S.u kr p kr) r w' r' t' → PS (fun Q => zL_X6_chosen_p39 D.1 Lx (K Q) (V.2.1 p 7) w') (fun Q => zL_X13_nameAction_p466 E' L' Q x2 (V.2.2.1 32 n) t') Φ) :
    PS (fun Q => zL_X6_chosen_p39 D.1 Lx (K Q) (some p) S.w) (fun Q => zL_X13_nameAction_p466 E' L' Q x2 (i_ n) S.t) Φ := by
  cases f with
  | zero => exact hK.elim
  | succ f =>
  obtain ⟨r, kd, hnu, hm, hr, h26, hcl⟩ := hK.nb ⟨by decide, by decide⟩ hC
  have hkd : kd = 13 := by unfold cok at hcl; omega
  subst hkd
  obtain ⟨kd, h26', hcl', hch⟩ := hK.at hnu hm
  have hkd : kd = 13 := by unfold cok at hcl'; omega
  subst hkd
  obtain ⟨htm, hl2, hF⟩ := hs.lf hnu hm h26 (by decide)
  have H := HM.start hI hv
  have hw := hI.nw hnu
  have ht := hI.1.2.2 n htm
  have hkA : KRE (S.at p) kr := hk
  obtain ⟨hk0, ⟨qa, na, hqa, h28, hCa⟩, qb, nb, hqb, h29, hCb⟩ := hF
  have hc3 : ccl (V.1 p 10) (V.1 p 11) 13 3 = 0 := rfl
  have hc4 : ccl (V.1 p 10) (V.1 p 11) 13 4 = 1 := rfl
  have hXa := hch 3 ⟨by decide, by decide⟩ (by omega) (ujk.c (by omega)) 0 qa (.inl rfl) hqa
  have hXb := hch 4 ⟨by decide, by decide⟩ (by omega) (ujk.c (by omega)) 0 qb (.inl rfl) hqb
  rw [hc3] at hXa
  rw [hc4] at hXb
  have h7 : V.2.1 qa 7 = none := hK.i13 hqa
  have hCa' := hCa
  obtain ⟨ma, ca, ra, -, -, hnua, -⟩ := hCa'
  refine PS_of (fun Q h => zt_X6_chosen_p39 (by omega) h) (fun Q h => zt_X13_nameAction_p466 (by omega) h) ?_
  simp only [zb_X6_chosen_p39, zb_X13_nameAction_p466, i_nat' (show n < 2147483648 by omega), ht 28 rfl, h28]
  refine PS_ln (by simp) (PS_lex p rfl (PS_land hw.1 ?_))
  simp only [hw.2.1 3 (by decide), hqa]
  refine PS_rn (i_nn (by omega)) (PS_rand (hI.1.2.1.i rfl hm) ?_)
  refine PS_l (fun Q h => zt_X6_expressions_p0 (by omega) h) ?_
  simp only [zb_X6_expressions_p0]
  refine PS_l (fun Q h => zt_X6_expressions_p2 (by omega) h) ?_
  simp only [zb_X6_expressions_p2]
  refine PS_ln (by simp) ?_
  refine n_ch (E' := E') (S := S.at p) (n_EX hs f) hs H hkA List.not_mem_nil ⟨by decide, by decide⟩ hqa hCa hXa (by omega) (by omega) (fun S1 T1 H1 hT1 hn1 hx1 hsm1 hG1 => ?_)
  have hw1 := H1.1.nw hnu
  have hwa := H1.1.nw hnua
  have ht1 := H1.1.1.2.2 n htm
  have hk1 : KRE S1 kr := hkA.nd hn1
  have hu1 : S1.u = S.u := congrArg Prod.fst hn1.2.2.2
  refine PS_lex qa rfl (PS_land hwa.1 ?_)
  simp only [hwa.2.1 7 (by decide), h7]
  refine PS_l (fun Q h => zt_X6_expressions_p2 (by omega) h) ?_
  simp only [zb_X6_expressions_p2]
  refine PS_lp trivial (PS_l (fun Q a => fun _ => a) ?_)
  simp only [ht1 29 rfl, h29, hw1.2.1 4 (by decide), hqb]
  refine PS_rand (H1.1.1.2.1.i rfl hm) ?_
  refine n_cp (IH f (Nat.le_succ f)) hs H1 hk1 (by decide) ⟨by decide, by decide⟩ hqb hCb hXb (by omega) (by omega) (fun S2 T2 H2 hT2 hk2 hu2 hx2 hsm2 hG2 => ?_)
  have hw2 := H2.1.nw hnu
  have ht2 := H2.1.1.2.2 n htm
  refine PS_rand (H2.1.1.2.1.i rfl hm) ?_
  simp only [hw2.2.1 7 (by decide), ht2 32 rfl]
  refine kc (.inl none) S2.w (.inl none) S2.t (H2.en (by decide) (hu2.trans hu1) (KUE.of hk hk2 (hu2.trans hu1)) (fun e => ⟨.inr rfl, n, r, d, 13, hnu, hm, h26, rfl, fun q hq => ?_, fun q hq => ?_⟩))
  · have e1 := min_nof H1.2.2.2.2.1.1 hT2 e
    rw [hqa] at hq
    cases hq
    exact ((hG1 (min_nof (.inl rfl) hT1 e1.1).2).nx H1.1 hx2).nx H2.1 NX.fi
  · rw [hqb] at hq
    cases hq
    rw [← hu1]
    exact (hG2 (min_nof H1.2.2.2.2.1.1 hT2 e).2).nx H2.1 NX.fi
/-- IF -/
theorem n_A12 (hs : STR D V nu tn rt) (IH : ∀ g, g ≤ f → NPA D V nu tn rt E' kt_M149 kt_M473 1 g) (hI : IVN D V nu tn rt S) (hC : CHx V tn nu k0 ol n p d) (h26 : V.2.2.1 26 n = i_ (12 : Nat)) (hK : KX V nu (f + 1) 2 p) (hv : VOK V nu rt S p) (hk : KRE S kr) (hL : 75 * k0 + 340 ≤ L) (hL' : 75 * k0 + 340 ≤ L') : PS (fun Q => zw D.1 L kt_M131 [.ref (w_adr D.1.2.1 5 0), va_rf (some p)] S.w Q) (fun Q => zw E' L' kt_M471 [.ref (w_adr E'.2.1 12 0), .int (i_ n)] S.t Q) (NPO D V nu tn rt p S (fun S' => KRE S' kr) (fun S' => NS V nu S' (f + 1) S.u kr p kr)) := by
  obtain ⟨r, hnu, hm, -, hr, -⟩ := hC.nb h26 ⟨by decide, by decide⟩
  obtain ⟨kd, h26', hcl, hch⟩ := hK.at hnu hm
  have hkd : kd = 12 := by
    have := (i_eq (by unfold cok at hcl; omega) (by unfold cok at hcl; omega)).mp (h26.symm.trans h26')
    omega
  subst hkd
  obtain ⟨htm, hl2, hF⟩ := hs.lf hnu hm h26 (by decide)
  have H := HM.start hI hv
  have hw := hI.nw hnu
  have ht := hI.1.2.2 n htm
  have hT := hI.1.2.1
  have hkA : KRE (S.at p) kr := hk
  have h56 : w_i S.t 12 0 56 = i_ kr.length := hI.e56 hk
  have h3 : V.2.1 p 3 = none := (hK.xe (by decide) hnu h26 (by decide)).2.2.1 rfl
  obtain ⟨hk0, l, hl, -⟩ := hF
  have hc4 : ccl (V.1 p 10) (V.1 p 11) 12 4 = 13 := rfl
  have hXl : ∀ z ∈ l, KX V nu f 13 z.2.1 := fun z hz => by
    obtain ⟨i, hi⟩ := hl.nx2 z hz
    have h := hch 4 ⟨by decide, by decide⟩ (by omega) (ujk.c (by omega)) i z.2.1 (.inr (.inl ⟨rfl, by simp⟩)) hi
    rw [hc4] at h
    exact h
  refine PS_of (fun Q h => zt_X6_action_p0 (by omega) h) (fun Q h => zt_X13_nameAction_p0 (by omega) h) ?_
  simp only [zb_X6_action_p0, zb_X13_nameAction_p0, zb_X6_action_p208, i_nat' (show n < 2147483648 by omega), ht 26 rfl, h26, h56, ht 29 rfl]
  refine PS_lex p rfl (PS_land hw.1 (PS_lex 46 (zO_k hs.1.1 (by decide) ((hw.2.1 0 (by decide)).trans hk0) rfl) ?_))
  refine PS_rand (hT.i rfl hm) ?_
  repeat (first | refine PS_lp (by decide) ?_ | refine PS_ln (by decide) ?_)
  repeat (first | refine PS_rp (by decide) ?_ | refine PS_rn (by decide) ?_)
  refine PS_rand (hT.i rfl hm) ?_
  refine PS_l (fun Q h => zt_X6_chosen_p0 (by omega) h) ?_
  simp only [zb_X6_chosen_p0, zb_X6_chosen_p15]
  refine PS_lex p rfl (PS_land hw.1 ?_)
  simp only [hw.2.1 3 (by decide), h3]
  refine PS_lp trivial (PS_lex p rfl (PS_land hw.1 ?_))
  refine PS_lp (fun z => eo_ne hs.1.1 (by decide) (by decide) (by decide) (((hw.2.1 0 (by decide)).trans hk0).symm.trans z)) ?_
  simp only [hw.2.1 4 (by decide)]
  have H1' := H.wk (J' := [4]) (fun i hi => List.mem_cons_of_mem _ hi)
  refine n_list (J' := [4]) (S0 := S) (S := S.at p) (cr := 5) (Kp := fun S1 => KRE S1 kr ∧ S1.u = S.u) (G := fun q S' => NS V nu S' f S.u kr q kr) (P := fun z => KX V nu f 13 z.2.1) (gcl := fun x w Q => zL_X6_chosen_p39 D.1 (L - 22) (wk0 (fun w1 => wle S.w w1 → Q (.inl none) w1) (fun e w => Q (.inr e) w)) x w) (gtl := fun x t Q => zL_X13_nameAction_p466 E' L' Q (i_ kr.length) x t) (R := KUE) (fun _ => KUE.rf) (fun _ _ _ => KUE.tr) (fun _ _ h hk => ⟨h.1 _ hk.1, h.2.trans hk.2⟩) (fun _ _ _ _ h => h) hs (fun S2 T2 y2 j2 q n2 d2 H2 hk2 I2 V2 hC2 hP2 kc => ?_) (fun q S S' hI h hx => h.nx hI hx) H1' ⟨hkA, rfl⟩ ⟨H.2.2.1.1, H.2.2.1.2.1⟩ (fun e => absurd (H.2.2.1.2.2.2 4 e) List.not_mem_nil) ⟨by decide, by decide⟩ (fun _ => List.mem_cons_self) hl hXl (fun S2 T2 H2 hk2 hx2 hR2 hsm2 hG2 => ?_)
  · refine n_it13 (f := f) (S := S2.go y2 j2) (K := fun Q => wk0 (fun w1 => wle S.w w1 → Q (.inl none) w1) (fun e w => Q (.inr e) w)) hs IH I2 hC2 hP2 V2 hk2.1 (by omega) (by omega) (fun r w' r' t' hb => kc r w' r' t' (hb.imp (fun _ h => h) (fun S' h => ?_)))
    have e : (S2.go y2 j2).u = S.u := hk2.2
    rw [e] at h
    exact h
  · refine PS_of (fun Q h => zt_X6_chosen_p39 (by omega) h) (fun Q h => zt_X13_nameAction_p466 (by omega) h) ?_
    simp only [zb_X6_chosen_p39, zb_X13_nameAction_p466, zb_X13_nameAction_p697]
    refine PS_lp trivial (PS_rp (by decide) (PS_l (fun Q a => fun _ => a) ?_))
    refine n_ae hnu hm h26 H2 (by decide) hk2.1 hk2.2 (fun e => ⟨rfl, fun i q hq => ?_⟩)
    obtain ⟨z, hz, e2⟩ := hl.nx1 hq
    rw [← e2]
    exact ((hG2 e).2 z hz).nx H2.1 NX.fi
end NCF
