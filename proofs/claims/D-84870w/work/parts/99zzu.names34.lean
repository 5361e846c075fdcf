/-! ===== ROUNDS, part 36: ALT ===== -/
section NAL
variable {D : pD} {V : pV} {nu : pN} {tn : Nat → Prop} {rt p q n n2 nq r d dq j k k0 f s u A c cr W Cx kd cl : Nat} {J J' : List Nat} {S S' S0 : nS} {w w2 w' t t' : wS} {v v2 : Option Nat} {x x2 y y0 : Int32} {T T' : Int} {kr kr' ks : List Nat} {L L' L2 Lc Lx Ly Lt : Nat} {E' : zE} {gc gt : pQ} {Φ : kx_Rs → wS → kx_Rs → wS → Prop} {ol : Option Int32} {C : Nat → Prop} {Q : kx_Rs → wS → Prop}
theorem GDN.nx (hI : IVN D V nu tn rt S) (hx : NX nu S S') (h : GDN V nu S f u kr p) : GDN V nu S' f u kr p := ⟨fun e => ⟨(h.1 e).1.imp (fun q h => h.nx hI hx), (h.1 e).2.imp (fun q h => h.nx hI hx)⟩, fun e => ⟨(h.2.1 e).1.imp (fun q h => h.nx hI hx), (h.2.1 e).2.imp (fun q h => h.nx hI hx)⟩, fun e => ⟨(h.2.2 e).1.imp (fun q h => h.nx hI hx), (h.2.2 e).2.imp (fun q h => h.nx hI hx)⟩⟩
/-- an item of an ALT -/
theorem n_it18 {K : (kx_Rs → wS → Prop) → kx_Rs → wS → Prop} (hs : STR D V nu tn rt) (IH : ∀ g, g ≤ f → NPA D V nu tn rt E' kt_M149 kt_M473 1 g) (hI : IVN D V nu tn rt S) (hC : CHx V tn nu k0 ol n p d) (hK : KX V nu f 18 p) (hv : VOK V nu rt S p) (hk : KRE S kr) (hL : 75 * k0 + 364 ≤ L) (hL' : 75 * k0 + 364 ≤ L')
    (kc : ∀ r w' r' t', NPO D V nu tn rt p S (KUE S) (fun S' => NS V nu S' f S.u kr p kr) r w' r' t' → PS (fun Q => zL_X6_alternation_p18 D.1 L (K Q) v2 (V.2.1 p 7) w') (fun Q => zL_X13_nameAction_p631 E' L' Q x2 (V.2.2.1 32 n) t') Φ) :
    PS (fun Q => zL_X6_alternation_p18 D.1 L (K Q) v2 (some p) S.w) (fun Q => zL_X13_nameAction_p631 E' L' Q x2 (i_ n) S.t) Φ := by
  cases f with
  | zero => exact hK.elim
  | succ f =>
  obtain ⟨r, kd, hnu, hm, hr, h26, hcl⟩ := hK.nb ⟨by decide, by decide⟩ hC
  have hkd : kd = 18 := by unfold cok at hcl; omega
  subst hkd
  obtain ⟨kd, h26', hcl', hch⟩ := hK.at hnu hm
  have hkd : kd = 18 := by unfold cok at hcl'; omega
  subst hkd
  obtain ⟨htm, hl2, hF⟩ := hs.lf hnu hm h26 (by decide)
  have H := HM.start hI hv
  have hw := hI.nw hnu
  have ht := hI.1.2.2 n htm
  have hT := hI.1.2.1
  have hkA : KRE (S.at p) kr := hk
  obtain ⟨hk0, h5, n2, h29, hg⟩ := hF
  have hch' : ∀ j, (3 ≤ j ∧ j ≤ 6) → (j = 4 → V.1 p 10 ≠ 0) → ∀ i q, (i = 0 ∨ isl (V.1 p 10) 18 j) → nxi V i (V.2.1 p j) = some q → KX V nu f (ccl (V.1 p 10) (V.1 p 11) 18 j) q := fun j hj hj4 i q hi hq => hch j hj (by omega) (ujk.g hj hj4) i q hi hq
  cases f with
  | zero =>
    obtain ⟨-, -, hg⟩ := hg
    rcases hg with ⟨-, -, -, q, n', hq, -⟩ | ⟨-, -, ⟨q, n', hq, -⟩, -⟩ | ⟨-, -, ⟨q, n', hq, -⟩, -⟩ | ⟨-, -, ⟨q, n', hq, -⟩, -⟩
    · exact (hch' 6 ⟨by decide, by decide⟩ (fun e => absurd e (by decide)) 0 q (.inl rfl) hq).elim
    · exact (hch' 3 ⟨by decide, by decide⟩ (fun e => absurd e (by decide)) 0 q (.inl rfl) hq).elim
    · exact (hch' 3 ⟨by decide, by decide⟩ (fun e => absurd e (by decide)) 0 q (.inl rfl) hq).elim
    · exact (hch' 3 ⟨by decide, by decide⟩ (fun e => absurd e (by decide)) 0 q (.inl rfl) hq).elim
  | succ f =>
  have hn2 : n2 < 14000 := hs.2.2.1 n2 hg.1
  have pr : (V.2.1 p 6 = none ∧ V.2.2.1 30 n = -1) ∨ EC V tn nu r none d (V.2.1 p 6) (V.2.2.1 30 n) := by
    obtain ⟨-, -, hg⟩ := hg
    rcases hg with ⟨-, -, -, h⟩ | ⟨-, -, -, -, h⟩ | ⟨-, -, -, -, h⟩ | ⟨-, -, -, -, h⟩
    · exact .inr h
    · exact .inr h
    · exact .inr h
    · exact .inl h
  -- the end of the item
  have last : ∀ (S3 : nS) (T3 : Int) (J3 : List Nat), HM D V nu tn rt p J3 5 S S3 T3 T3 → 7 ∉ J3 → KRE S3 kr → S3.u = S.u → (T3 = NOF → OP V p 5 (NE V nu S3 kr (f + 1) Cv) ∧ GDN V nu S3 (f + 1) S.u kr p ∧ OP V p 6 (fun q => NS V nu S3 (f + 1) S.u kr q kr)) → PS (fun Q => zb_X6_alternation_p68 D.1 L (K Q) v2 (some p) S3.w) (fun Q => zb_X13_nameAction_p684 E' L' Q x2 (i_ n) S3.t) Φ := by
    intro S3 T3 J3 H3 h7 hk3 hu3 hG3
    have hw3 := H3.1.nw hnu
    have ht3 := H3.1.1.2.2 n htm
    simp only [zb_X6_alternation_p68, zb_X13_nameAction_p684, i_nat' (show n < 2147483648 by omega), ht3 32 rfl]
    refine PS_lex p rfl (PS_land hw3.1 (PS_rand (H3.1.1.2.1.i rfl hm) ?_))
    simp only [hw3.2.1 7 (by decide)]
    refine kc (.inl none) S3.w (.inl none) S3.t (H3.en h7 hu3 (KUE.of hk hk3 hu3) (fun e => ⟨.inr rfl, n, r, d, 18, hnu, hm, h26, rfl, ?_, ?_, ?_⟩))
    · exact (hG3 e).1.imp (fun q h => h.nx H3.1 NX.fi)
    · exact (hG3 e).2.1.nx H3.1 NX.fi
    · exact (hG3 e).2.2.imp (fun q h => h.nx H3.1 NX.fi)
  -- behind the expression
  have rest : ∀ (S1 : nS) (T1 : Int) (J : List Nat), HM D V nu tn rt p J 5 S S1 T1 T1 → (∀ i ∈ J, i = 5) → NDC S S1 → (T1 = NOF → OP V p 5 (NE V nu S1 kr (f + 1) Cv)) → PS (fun Q => zb_X6_alternation_p37 D.1 L (K Q) v2 (some p) S1.w) (fun Q => zb_X13_nameAction_p655 E' L' Q x2 (i_ n) S1.t) Φ := by
    intro S1 T1 J H1 hJ hn1 hG1
    have ht1 := H1.1.1.2.2 n htm
    have hk1 : KRE S1 kr := hk.nd hn1
    have hu1 : S1.u = S.u := congrArg Prod.fst hn1.2.2.2
    simp only [zb_X13_nameAction_p655, i_nat' (show n < 2147483648 by omega), ht1 29 rfl, h29]
    refine PS_rand (H1.1.1.2.1.i rfl hm) ?_
    refine n_gd (f := f) (J := J) hs (fun g hg => IH g (by omega)) H1 hk1 hu1 (fun e => absurd (hJ 3 e) (by decide)) (fun e => absurd (hJ 4 e) (by decide)) (fun e => absurd (hJ 7 e) (by decide)) hnu hk0 hn2 hg hch' (by omega) (by omega) (fun S2 T2 H2 hKU2 hx2 hG2 => ?_)
    have hw2 := H2.1.nw hnu
    have ht2 := H2.1.1.2.2 n htm
    have hk2 : KRE S2 kr := hKU2.1 kr hk1
    have hu2 : S2.u = S.u := hKU2.2.trans hu1
    have h7 : 7 ∉ 4 :: 3 :: J := fun e => by
      rcases List.mem_cons.mp e with e | e
      · exact absurd e (by decide)
      · rcases List.mem_cons.mp e with e | e
        · exact absurd e (by decide)
        · exact absurd (hJ 7 e) (by decide)
    simp only [zb_X6_alternation_p53, ht2 30 rfl]
    refine PS_lex p rfl (PS_land hw2.1 (PS_rand (H2.1.1.2.1.i rfl hm) ?_))
    simp only [hw2.2.1 6 (by decide)]
    rcases pr with ⟨e6, e30⟩ | ⟨q6, n6, hq6, h30, hC6⟩
    · simp only [e30]
      refine PS_lp e6 (PS_rp (by decide) (last S2 T2 _ H2 h7 hk2 hu2 (fun e => ?_)))
      obtain ⟨a1, a2⟩ := hG2 e
      rw [hu1] at a2
      exact ⟨(hG1 a1).imp (fun q h => h.nx H1.1 hx2), a2, fun q hq => by rw [e6] at hq; cases hq⟩
    · have hX6 := hch' 6 ⟨by decide, by decide⟩ (fun e => absurd e (by decide)) 0 q6 (.inl rfl) hq6
      have hc6 : ccl (V.1 p 10) (V.1 p 11) 18 6 = 1 := rfl
      rw [hc6] at hX6
      simp only [hq6, h30]
      refine PS_ln (by simp) (PS_rn (i_nn (by have := hC6.n14 hs; omega)) (PS_rand (H2.1.1.2.1.i rfl hm) ?_))
      refine n_cp (IH (f + 1) (Nat.le_succ _)) hs H2 hk2 (fun e => ?_) ⟨by decide, by decide⟩ hq6 hC6 hX6 (by omega) (by omega) (fun S3 T3 H3 hT3 hk3 hu3 hx3 hsm3 hG3 => ?_)
      · rcases List.mem_cons.mp e with e | e
        · exact absurd e (by decide)
        · rcases List.mem_cons.mp e with e | e
          · exact absurd e (by decide)
          · exact absurd (hJ 6 e) (by decide)
      refine last S3 _ _ H3 (fun e => ?_) hk3 (hu3.trans hu2) (fun e => ?_)
      · rcases List.mem_cons.mp e with e | e
        · exact absurd e (by decide)
        · exact h7 e
      obtain ⟨b1, b2⟩ := min_nof H2.2.2.2.2.1.1 hT3 e
      obtain ⟨a1, a2⟩ := hG2 b1
      rw [hu1] at a2
      refine ⟨(hG1 a1).imp (fun q h => (h.nx H1.1 hx2).nx H2.1 hx3), a2.nx H2.1 hx3, fun q hq => ?_⟩
      rw [hq6] at hq
      cases hq
      rw [← hu2]
      exact hG3 b2
  refine PS_of (fun Q h => zt_X6_alternation_p18 (by omega) h) (fun Q h => zt_X13_nameAction_p631 (by omega) h) ?_
  simp only [zb_X6_alternation_p18, zb_X13_nameAction_p631, i_nat' (show n < 2147483648 by omega), ht 28 rfl]
  refine PS_ln (by simp) (PS_lex p rfl (PS_land hw.1 ?_))
  refine PS_rn (i_nn (by omega)) (PS_rand (hT.i rfl hm) ?_)
  simp only [hw.2.1 5 (by decide)]
  rcases h5 with ⟨e1, e2⟩ | ⟨q5, n5, hq5, h28, hC5⟩
  · simp only [e2]
    refine PS_lp e1 (PS_rp (by decide) (rest (S.at p) NOF [] H (fun i hi => absurd hi List.not_mem_nil) (NDC.rf (S := S)) (fun _ q hq => ?_)))
    rw [e1] at hq
    cases hq
  · have hX5 := hch' 5 ⟨by decide, by decide⟩ (fun e => absurd e (by decide)) 0 q5 (.inl rfl) hq5
    have hc5 : ccl (V.1 p 10) (V.1 p 11) 18 5 = 0 := rfl
    rw [hc5] at hX5
    simp only [hq5, h28]
    refine PS_ln (by simp) (PS_rn (i_nn (by have := hC5.n14 hs; omega)) (PS_rand (hT.i rfl hm) ?_))
    refine n_ch (S := S.at p) (n_EX hs (f + 1)) hs H hkA List.not_mem_nil ⟨by decide, by decide⟩ hq5 hC5 hX5 (by omega) (by omega) (fun S1 T1 H1 hT1 hn1 hx1 hsm1 hG1 => ?_)
    refine rest S1 _ [5] H1 (fun i hi => by simpa using hi) hn1 (fun e q hq => ?_)
    rw [hq5] at hq
    cases hq
    exact hG1 (min_nof (.inl rfl) hT1 e).2
/-- ALT -/
theorem n_A17 (hs : STR D V nu tn rt) (IH : ∀ g, g ≤ f → NPA D V nu tn rt E' kt_M149 kt_M473 1 g) (hI : IVN D V nu tn rt S) (hC : CHx V tn nu k0 ol n p d) (h26 : V.2.2.1 26 n = i_ (17 : Nat)) (hK : KX V nu (f + 1) 2 p) (hv : VOK V nu rt S p) (hk : KRE S kr) (hL : 75 * k0 + 340 ≤ L) (hL' : 75 * k0 + 340 ≤ L') : PS (fun Q => zw D.1 L kt_M131 [.ref (w_adr D.1.2.1 5 0), va_rf (some p)] S.w Q) (fun Q => zw E' L' kt_M471 [.ref (w_adr E'.2.1 12 0), .int (i_ n)] S.t Q) (NPO D V nu tn rt p S (fun S' => KRE S' kr) (fun S' => NS V nu S' (f + 1) S.u kr p kr)) := by
  obtain ⟨r, hnu, hm, -, hr, -⟩ := hC.nb h26 ⟨by decide, by decide⟩
  obtain ⟨kd, h26', hcl, hch⟩ := hK.at hnu hm
  have hkd : kd = 17 := by
    have := (i_eq (by unfold cok at hcl; omega) (by unfold cok at hcl; omega)).mp (h26.symm.trans h26')
    omega
  subst hkd
  obtain ⟨htm, hl2, hF⟩ := hs.lf hnu hm h26 (by decide)
  have H := HM.start hI hv
  have hw := hI.nw hnu
  have ht := hI.1.2.2 n htm
  have hT := hI.1.2.1
  have hkA : KRE (S.at p) kr := hk
  have h56 : w_i S.t 12 0 56 = i_ kr.length := hI.e56 hk
  obtain ⟨hk0, -, l, hl, -, hrep⟩ := hF
  have hc3 : ccl (V.1 p 10) (V.1 p 11) 17 3 = 20 := rfl
  have hc4 : ccl (V.1 p 10) (V.1 p 11) 17 4 = 18 := rfl
  have hXl : ∀ z ∈ l, KX V nu f 18 z.2.1 := fun z hz => by
    obtain ⟨i, hi⟩ := LPx.nx2 hl z hz
    have h := hch 4 ⟨by decide, by decide⟩ (by omega) (ujk.c (by omega)) i z.2.1 (.inr (.inl ⟨rfl, by simp⟩)) hi
    rw [hc4] at h
    exact h
  -- the items
  have loop : ∀ (S6 : nS) (T6 : Int) (J : List Nat) (ks : List Nat), HM D V nu tn rt p J 5 S S6 T6 T6 → (∀ i ∈ J, i = 3) → KRE S6 (ks ++ kr) → S6.u = S.u → (∀ S2, T6 = NOF → NX nu S6 S2 → ((V.2.1 p 3 = none ∧ ks ++ kr = kr) ∨ ∃ q, V.2.1 p 3 = some q ∧ NS V nu S2 f S.u kr q (ks ++ kr))) → PS (fun Q => zL_X6_alternation_p18 D.1 (L - 23) (wk0 (fun w1 => wle S.w w1 → Q (.inl none) w1) (fun e w => Q (.inr e) w)) (w_p S.w 5 0 3) (V.2.1 p 4) S6.w) (fun Q => zL_X13_nameAction_p631 E' L' Q (i_ kr.length) (V.2.2.1 29 n) S6.t) (NPO D V nu tn rt p S (fun S' => KRE S' kr) (fun S' => NS V nu S' (f + 1) S.u kr p kr)) := by
    intro S6 T6 J ks H6 hJ hk6 hu6 hR6
    have H6' := H6.wk (J' := [4, 3]) (fun i hi => by rw [hJ i hi]; decide)
    refine n_list (J' := [4, 3]) (S0 := S) (S := S6) (cr := 5) (Kp := fun S1 => KRE S1 (ks ++ kr) ∧ S1.u = S.u) (G := fun q S' => NS V nu S' f S.u (ks ++ kr) q (ks ++ kr)) (P := fun z => KX V nu f 18 z.2.1) (gcl := fun x w Q => zL_X6_alternation_p18 D.1 (L - 23) (wk0 (fun w1 => wle S.w w1 → Q (.inl none) w1) (fun e w => Q (.inr e) w)) (w_p S.w 5 0 3) x w) (gtl := fun x t Q => zL_X13_nameAction_p631 E' L' Q (i_ kr.length) x t) (R := KUE) (fun _ => KUE.rf) (fun _ _ _ => KUE.tr) (fun _ _ h hk => ⟨h.1 _ hk.1, h.2.trans hk.2⟩) (fun _ _ _ _ h => h) hs (fun S2 T2 y2 j2 q n2 d2 H2 hk2 I2 V2 hC2 hP2 kc => ?_) (fun q S S' hI h hx => h.nx hI hx) H6' ⟨hk6, hu6⟩ ⟨H6.2.2.1.1, H6.2.2.1.2.1⟩ (fun e => absurd (hJ 4 (H6.2.2.1.2.2.2 4 e)) (by decide)) ⟨by decide, by decide⟩ (fun _ => List.mem_cons_self) hl hXl (fun S2 T2 H2 hk2 hx2 hR2 hsm2 hG2 => ?_)
    · refine n_it18 (S := S2.go y2 j2) (kr := ks ++ kr) (K := fun Q => wk0 (fun w1 => wle S.w w1 → Q (.inl none) w1) (fun e w => Q (.inr e) w)) hs IH I2 hC2 hP2 V2 hk2.1 (by omega) (by omega) (fun r w' r' t' hb => kc r w' r' t' (hb.imp (fun _ h => h) (fun S' h => ?_)))
      have e : (S2.go y2 j2).u = S.u := hk2.2
      rw [e] at h
      exact h
    · refine PS_of (fun Q h => zt_X6_alternation_p18 (by omega) h) (fun Q h => zt_X13_nameAction_p631 (by omega) h) ?_
      simp only [zb_X6_alternation_p18, zb_X13_nameAction_p631, zb_X13_nameAction_p697]
      refine PS_lp trivial (PS_rp (by decide) (PS_l (fun Q a => fun _ => a) ?_))
      refine n_aer hI hk hnu hm h26 H2 (by decide) hk2.1 hk2.2 (fun S3 e hx3 => ⟨rfl, ks ++ kr, hR6 S3 (hG2 e).1 (hx2.tr hx3 (.inl (hk2.2.trans hu6.symm))), fun i q hq => ?_⟩)
      obtain ⟨z, hz, e2⟩ := LPx.nx1 hl hq
      rw [← e2]
      exact ((hG2 e).2 z hz).nx H2.1 hx3
  refine PS_of (fun Q h => zt_X6_action_p0 (by omega) h) (fun Q h => zt_X13_nameAction_p0 (by omega) h) ?_
  simp only [zb_X6_action_p0, zb_X13_nameAction_p0, zb_X6_action_p208, i_nat' (show n < 2147483648 by omega), ht 26 rfl, h26, h56, ht 28 rfl]
  refine PS_lex p rfl (PS_land hw.1 (PS_lex 51 (zO_k hs.1.1 (by decide) ((hw.2.1 0 (by decide)).trans hk0) rfl) ?_))
  refine PS_rand (hT.i rfl hm) ?_
  repeat (first | refine PS_lp (by decide) ?_ | refine PS_ln (by decide) ?_)
  iterate 11 refine PS_rn (by decide) ?_
  refine PS_rp (by decide) (PS_rand (hT.i rfl hm) ?_)
  refine PS_l (fun Q h => zt_X6_alternation_p0 (by omega) h) ?_
  simp only [zb_X6_alternation_p0]
  refine PS_lex p rfl (PS_land hw.1 ?_)
  simp only [hw.2.1 3 (by decide)]
  rcases hrep with ⟨g1, g2⟩ | ⟨⟨qa, na, hqa, h28, hCa⟩, hlen⟩
  · simp only [g1, g2]
    refine PS_l (fun Q h => zt_X6_replicator_p0 (by omega) h) ?_
    simp only [zb_X6_replicator_p0]
    refine PS_ln (by simp) (PS_l (fun Q a => fun _ => a) (PS_rp (by decide) ?_))
    simp only [zb_X13_nameAction_p624, i_nat' (show n < 2147483648 by omega), ht 29 rfl, hw.2.1 4 (by decide)]
    refine PS_rand (hT.i rfl hm) ?_
    exact loop (S.at p) NOF [] [] H (fun i hi => absurd hi List.not_mem_nil) hkA rfl (fun S2 _ _ => .inl ⟨g1, rfl⟩)
  · have hXa := hch 3 ⟨by decide, by decide⟩ (by omega) (ujk.c (by omega)) 0 qa (.inl rfl) hqa
    rw [hc3] at hXa
    cases f with
    | zero => exact hXa.elim
    | succ g =>
      obtain ⟨ra, kda, hnua, hma, hra, h26a, hcla⟩ := hXa.nb ⟨by decide, by decide⟩ hCa
      have hkda : kda = 20 := by unfold cok at hcla; omega
      subst hkda
      simp only [hqa, h28]
      have hnk := hCa.nk hs
      obtain ⟨I4, V4⟩ := H.go hs List.not_mem_nil ⟨by decide, by decide⟩ hqa hnk.1 hnk.2
      refine PS_rn (i_nn (by omega)) (PS_rand (hT.i rfl hm) ?_)
      have hch2 := n_rep (E' := E') (L := L - 23 - 21) (L' := L' - 21) hs I4 hCa h26a hXa V4 hkA (by omega) (by omega)
      refine PS_bind (gc1 := fun Q => zw D.1 (L - 23 - 21) kt_M152 [.ref (w_adr D.1.2.1 5 0), va_rf (some qa)] S.w Q) (gt1 := fun Q => zw E' (L' - 21) kt_M484 [.ref (w_adr E'.2.1 12 0), .int (i_ na)] S.t Q) hch2 (fun r1 w2 r2 t2 hb => ?_)
      obtain ⟨S', T1, ⟨e1, e2, e3, e4⟩, HB, hx, hq, hT1, ⟨hu, hsm⟩, ⟨s, hA⟩, hG⟩ := H.bk (J' := [3]) ⟨H.2.2.1.1, H.2.2.1.2.1⟩ ⟨fun _ => List.mem_cons_self, fun i hi => absurd hi List.not_mem_nil⟩ hb
      subst e1 e2 e3 e4
      have hwp := HB.1.nw hnu
      have htp := HB.1.1.2.2 n htm
      refine PS_l (fun Q a => fun _ => a) (PS_r (fun Q a => fun _ => a) ?_)
      simp only [zb_X13_nameAction_p624, i_nat' (show n < 2147483648 by omega), htp 29 rfl, hwp.2.1 4 (by decide)]
      refine PS_rand (HB.1.1.2.1.i rfl hm) ?_
      exact loop S' _ [3] [s] HB (fun i hi => by simpa using hi) hA hu (fun S2 e hx2 => .inr ⟨qa, hqa, NS.nx HB.1 hx2 ((hG (min_nof (.inl rfl) hT1 e).2).ns hnua hma h26a hA)⟩)
end NAL
