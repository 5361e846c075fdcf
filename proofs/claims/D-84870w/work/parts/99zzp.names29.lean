/-! ===== ROUNDS, part 31: IN CASE, the whole ===== -/
section NID
variable {D : pD} {V : pV} {nu : pN} {tn : Nat → Prop} {rt p q n nq r d dq j k k0 f s u A c cr W Cx kd cl : Nat} {J J' : List Nat} {S S' S0 : nS} {w w2 w' t t' : wS} {v : Option Nat} {x x2 y y4 y0 : Int32} {T T' : Int} {kr kr' ks : List Nat} {L L' L2 Lc Lx Ly Lt : Nat} {E' : zE} {gc gt : pQ} {Φ : kx_Rs → wS → kx_Rs → wS → Prop} {ol : Option Int32} {C : Nat → Prop} {Q : kx_Rs → wS → Prop}
/-- IN CASE -/
theorem n_A7 (hs : STR D V nu tn rt) (IH : ∀ g, g ≤ f → NPA D V nu tn rt E' kt_M149 kt_M473 1 g) (hI : IVN D V nu tn rt S) (hC : CHx V tn nu k0 ol n p d) (h26 : V.2.2.1 26 n = i_ (7 : Nat)) (hK : KX V nu (f + 1) 2 p) (hv : VOK V nu rt S p) (hk : KRE S kr) (hL : 75 * k0 + 340 ≤ L) (hL' : 75 * k0 + 340 ≤ L') : PS (fun Q => zw D.1 L kt_M131 [.ref (w_adr D.1.2.1 5 0), va_rf (some p)] S.w Q) (fun Q => zw E' L' kt_M471 [.ref (w_adr E'.2.1 12 0), .int (i_ n)] S.t Q) (NPO D V nu tn rt p S (fun S' => KRE S' kr) (fun S' => NS V nu S' (f + 1) S.u kr p kr)) := by
  obtain ⟨r, hnu, hm, -, hr, -⟩ := hC.nb h26 ⟨by decide, by decide⟩
  obtain ⟨kd, h26', hcl, hch⟩ := hK.at hnu hm
  have hkd : kd = 7 := by
    have := (i_eq (by unfold cok at hcl; omega) (by unfold cok at hcl; omega)).mp (h26.symm.trans h26')
    omega
  subst hkd
  obtain ⟨htm, hl2, hF⟩ := hs.lf hnu hm h26 (by decide)
  have H := HM.start hI hv
  have hw := hI.nw hnu
  have ht := hI.1.2.2 n htm
  have hT := hI.1.2.1
  have hkA : KRE (S.at p) kr := hk
  have h56 : w_i S.t 12 0 56 = i_ kr.length := hI.e56 hk
  obtain ⟨hk0, ⟨q, nq, hq, h28, hCq, h60⟩, l, hl, -⟩ := hF
  have hXq := hch 3 ⟨by decide, by decide⟩ (by omega) (ujk.c (by omega)) 0 q (.inl rfl) hq
  have hc3 : ccl (V.1 p 10) (V.1 p 11) 7 3 = 60 := rfl
  have hc4 : ccl (V.1 p 10) (V.1 p 11) 7 4 = 19 := rfl
  rw [hc3] at hXq
  have hXl : ∀ z ∈ l, KX V nu f 19 z.2.1 := fun z hz => by
    obtain ⟨i, hi⟩ := LPx.nx2 hl z hz
    have h := hch 4 ⟨by decide, by decide⟩ (by omega) (ujk.c (by omega)) i z.2.1 (.inr (.inl ⟨rfl, by simp⟩)) hi
    rw [hc4] at h
    exact h
  have hq14 := hCq.n14 hs
  have htq : tn nq := by
    obtain ⟨m, c, r', hP, htn, -⟩ := hCq
    exact htn nq hP.mem
  cases f with
  | zero => exact hXq.elim
  | succ f =>
  refine PS_of (fun Q h => zt_X6_action_p0 (by omega) h) (fun Q h => zt_X13_nameAction_p0 (by omega) h) ?_
  simp only [zb_X6_action_p0, zb_X6_action_p126, zb_X13_nameAction_p0, zb_X13_nameAction_p697, zb_X6_action_p208, i_nat' (show n < 2147483648 by omega), ht 26 rfl, h26, h56, ht 28 rfl, h28]
  refine PS_lex p rfl (PS_land hw.1 (PS_lex 39 (zO_k hs.1.1 (by decide) ((hw.2.1 0 (by decide)).trans hk0) rfl) ?_))
  refine PS_rand (hT.i rfl hm) ?_
  repeat (first | refine PS_lp (by decide) ?_ | refine PS_ln (by decide) ?_)
  repeat (first | refine PS_rp (by decide) ?_ | refine PS_rn (by decide) ?_)
  refine PS_lp (fun z => eo_ne hs.1.1 (by decide) (by decide) (by decide) (((hw.2.1 0 (by decide)).trans hk0).symm.trans z)) (PS_lp (fun z => eo_ne hs.1.1 (by decide) (by decide) (by decide) (((hw.2.1 0 (by decide)).trans hk0).symm.trans z)) (PS_rand (hT.i rfl hm) ?_))
  refine PS_of (fun Q h => zt_X6_input_p0 (by omega) h) (fun Q h => zt_X13_nameAs_p0 (by omega) h) ?_
  simp only [zb_X13_nameAs_p0, zb_X13_nameAs_p32]
  refine n_inp (S := S.at p) (x2 := 3) (y4 := 0) (y0 := 1) (f := f) (L := L - 25) (Lt := L' - 23 - 21) (Kt := fun Q t => (kx_inb (i_ n) (w_n t 12 0 29) = true ∧ zL_X13_nameAction_p188 E' L' Q (i_ kr.length) (w_a t 12 0 29 n) t)) hs H hkA List.not_mem_nil hnu hq hCq h60 hXq (by omega) (by omega) (fun S1 Q v hI1 h => ?_) (fun S1 gc hI1 h => ?_) (fun S1 gc s c hI1 hs1 hc1 h46 hok h => ?_) (fun S1 gc s c hI1 hs1 hc1 h46 hok h => ?_) (fun S1 T1 H1 hT1 hn1 hx1 hsm1 hG1 => ?_)
  · unfold zb_X6_input_p48
    rw [if_neg (by decide), if_pos (by decide)]
    unfold zb_X6_input_p72 zb_X6_input_p73
    rw [if_neg (by decide)]
    exact h
  · refine PS_r (fun Q a => fun _ => a) (PS_rp (by decide) ?_)
    exact PS_r (fun Q a => fun _ => a) h
  · have ec : c = 3 := by
      unfold okp at hok
      rcases hok with ⟨e, -⟩ | ⟨-, e⟩
      · exact absurd rfl e
      · exact e
    subst ec
    refine PS_r (fun Q a => fun _ => a) (PS_rn (i_nn (by omega)) (PS_rand (hI1.1.2.1.sy rfl hs1) ?_))
    simp only [i_nat' (show s < 2147483648 by omega), h46]
    refine PS_rp (by decide) ?_
    exact PS_r (fun Q a => fun _ => a) h
  · have ec : c ≠ 3 := fun e => hok (.inr ⟨by decide, e⟩)
    have h27 : w_a S1.t 12 0 27 nq = V.2.2.1 27 nq := hI1.1.2.2 nq htq 27 rfl
    refine PS_r (fun Q a => fun _ => a) (PS_rn (i_nn (by omega)) (PS_rand (hI1.1.2.1.sy rfl hs1) ?_))
    simp only [i_nat' (show s < 2147483648 by omega), i_nat' (show nq < 2147483648 by omega), h46, h27]
    refine PS_rn (fun z => ec ((congrArg id (i_c1 hc1.2 3 (by decide))).mp z)) (PS_rand (hI1.1.2.1.i rfl hq14) ?_)
    refine PS_r0 (fun Q hq => t_tells (k := 6) (by omega) hI1.2.2.2.2.2.2.1.2 ⟨by decide, by decide⟩ hq) ?_
    exact PS_r (fun Q a => fun _ => a) h
  · have hw1 := H1.1.nw hnu
    have ht1 := H1.1.1.2.2 n htm
    have hk1 : KRE S1 kr := hkA.nd hn1
    have hu1 : S1.u = S.u := congrArg Prod.fst hn1.2.2.2
    simp only [zb_X6_input_p145, zb_X6_input_p185]
    refine PS_lp (by decide) (PS_lp (by decide) ?_)
    refine PS_lex p rfl (PS_land hw1.1 ?_)
    refine PS_l (fun Q h => zt_X6_variants_p0 (by omega) h) ?_
    simp only [zb_X6_variants_p0, hw1.2.1 4 (by decide), ht1 29 rfl]
    refine PS_rand (H1.1.1.2.1.i rfl hm) ?_
    have H1' := H1.wk (J' := [4, 3]) (fun i hi => List.mem_cons_of_mem _ hi)
    refine n_list (J' := [4, 3]) (S0 := S) (S := S1) (cr := 5) (Kp := fun S1 => KRE S1 kr ∧ S1.u = S.u) (G := fun q S' => NS V nu S' (f + 1) S.u kr q kr) (P := fun z => KX V nu (f + 1) 19 z.2.1) (gcl := fun x w Q => zL_X6_variants_p2 D.1 (L - 25 - 22) (wk0 (fun w2 => wle S1.w w2 → wk0 (fun w1 => wle S.w w1 → Q (.inl none) w1) (fun e w => Q (.inr e) w) (.inl none) w2) (fun e w => wk0 (fun w1 => wle S.w w1 → Q (.inl none) w1) (fun e w => Q (.inr e) w) (.inr e) w)) x w) (gtl := fun x t Q => zL_X13_nameAction_p188 E' L' Q (i_ kr.length) x t) (R := KUE) (fun _ => KUE.rf) (fun _ _ _ => KUE.tr) (fun _ _ h hk => ⟨h.1 _ hk.1, h.2.trans hk.2⟩) (fun _ _ _ _ h => h) hs (fun S2 T2 y2 j2 q2 n2 d2 H2 hk2 I2 V2 hC2 hP2 kc => ?_) (fun q S S' hI h hx => h.nx hI hx) H1' ⟨hk1, hu1⟩ ⟨H1.2.2.1.1, H1.2.2.1.2.1⟩ (fun e => absurd (H1.2.2.1.2.2.2 4 e) (by decide)) ⟨by decide, by decide⟩ (fun _ => List.mem_cons_self) hl hXl (fun S2 T2 H2 hk2 hx2 hR2 hsm2 hG2 => ?_)
    · refine n_it19 (f := f + 1) (S := S2.go y2 j2) (KT := fun Q => Q) (K := (fun Q => wk0 (fun w2 => wle S1.w w2 → wk0 (fun w1 => wle S.w w1 → Q (.inl none) w1) (fun e w => Q (.inr e) w) (.inl none) w2) (fun e w => wk0 (fun w1 => wle S.w w1 → Q (.inl none) w1) (fun e w => Q (.inr e) w) (.inr e) w))) (fun _ _ _ => rfl) hs IH I2 hC2 hP2 V2 hk2.1 (by omega) (by omega) (fun r w' r' t' hb => kc r w' r' t' (hb.imp (fun _ h => h) (fun S' h => ?_)))
      have e : (S2.go y2 j2).u = S.u := hk2.2
      rw [e] at h
      exact h
    · refine PS_of (fun Q h => zt_X6_variants_p2 (by omega) h) (fun Q h => zt_X13_nameAction_p188 (by omega) h) ?_
      simp only [zb_X6_variants_p2, zb_X13_nameAction_p188, zb_X13_nameAction_p697]
      refine PS_lp trivial (PS_rp (by decide) (PS_l (fun Q a => fun _ => a) (PS_l (fun Q a => fun _ => a) ?_)))
      refine n_ae hnu hm h26 H2 (by decide) hk2.1 hk2.2 (fun e => ⟨rfl, fun q' hq' => ?_, fun i q' hq' => ?_⟩)
      · rw [hq] at hq'
        cases hq'
        refine NE.c ((((hG1 (min_nof (.inl rfl) hT1 (hG2 e).1).2).nx H1.1 hx2).nx H2.1 NX.fi)) (fun c hc => ?_)
        unfold okp at hc
        rcases hc with ⟨e, -⟩ | ⟨-, e⟩
        · exact absurd rfl e
        · exact e
      · obtain ⟨z, hz, e2⟩ := LPx.nx1 hl hq'
        rw [← e2]
        exact ((hG2 e).2 z hz).nx H2.1 NX.fi
end NID
