/-! ===== ROUNDS, part 28: IN, its forms ===== -/
section NIA
variable {D : pD} {V : pV} {nu : pN} {tn : Nat → Prop} {rt p q n nq r d dq j k k0 f s u A c cr W Cx kd cl : Nat} {J J' : List Nat} {S S' S0 : nS} {w w2 w' t t' : wS} {v : Option Nat} {x x2 y y4 y0 : Int32} {T T' : Int} {kr kr' ks : List Nat} {L L' L2 Lc Lx Ly Lt : Nat} {E' : zE} {gc gt : pQ} {Φ : kx_Rs → wS → kx_Rs → wS → Prop} {ol : Option Int32} {C : Nat → Prop} {Q : kx_Rs → wS → Prop}
/-- AFTER -/
theorem n_A6 (hs : STR D V nu tn rt) (hI : IVN D V nu tn rt S) (hC : CHx V tn nu k0 ol n p d) (h26 : V.2.2.1 26 n = i_ (6 : Nat)) (hK : KX V nu (f + 1) 2 p) (hv : VOK V nu rt S p) (hk : KRE S kr) (hL : 75 * k0 + 340 ≤ L) (hL' : 75 * k0 + 340 ≤ L') : PS (fun Q => zw D.1 L kt_M131 [.ref (w_adr D.1.2.1 5 0), va_rf (some p)] S.w Q) (fun Q => zw E' L' kt_M471 [.ref (w_adr E'.2.1 12 0), .int (i_ n)] S.t Q) (NPO D V nu tn rt p S (fun S' => KRE S' kr) (fun S' => NS V nu S' (f + 1) S.u kr p kr)) := by
  obtain ⟨r, hnu, hm, -, hr, -⟩ := hC.nb h26 ⟨by decide, by decide⟩
  obtain ⟨kd, h26', hcl, hch⟩ := hK.at hnu hm
  have hkd : kd = 6 := by
    have := (i_eq (by unfold cok at hcl; omega) (by unfold cok at hcl; omega)).mp (h26.symm.trans h26')
    omega
  subst hkd
  obtain ⟨htm, hl2, hF⟩ := hs.lf hnu hm h26 (by decide)
  have H := HM.start hI hv
  have hw := hI.nw hnu
  have ht := hI.1.2.2 n htm
  have hT := hI.1.2.1
  have hkA : KRE (S.at p) kr := hk
  have h56 : w_i S.t 12 0 56 = i_ kr.length := hI.e56 hk
  obtain ⟨-, hk0, ⟨q, nq, hq, h28, hCq, h60⟩, qb, nb, hqb, h29, hCb⟩ := hF
  have hXq := hch 3 ⟨by decide, by decide⟩ (by omega) (ujk.c (by omega)) 0 q (.inl rfl) hq
  have hXb := hch 4 ⟨by decide, by decide⟩ (by omega) (ujk.c (by omega)) 0 qb (.inl rfl) hqb
  have hc3 : ccl (V.1 p 10) (V.1 p 11) 6 3 = 60 := rfl
  have hc4 : ccl (V.1 p 10) (V.1 p 11) 6 4 = 0 := rfl
  rw [hc3] at hXq
  rw [hc4] at hXb
  have hq14 := hCq.n14 hs
  have htq : tn nq := by
    obtain ⟨m, c, r', hP, htn, -⟩ := hCq
    exact htn nq hP.mem
  cases f with
  | zero => exact hXq.elim
  | succ f =>
  refine PS_of (fun Q h => zt_X6_action_p0 (by omega) h) (fun Q h => zt_X13_nameAction_p0 (by omega) h) ?_
  simp only [zb_X6_action_p0, zb_X6_action_p126, zb_X13_nameAction_p0, zb_X13_nameAction_p697, zb_X6_action_p208, i_nat' (show n < 2147483648 by omega), ht 26 rfl, h26, h56, ht 28 rfl, h28]
  refine PS_lex p rfl (PS_land hw.1 (PS_lex 38 (zO_k hs.1.1 (by decide) ((hw.2.1 0 (by decide)).trans hk0) rfl) ?_))
  refine PS_rand (hT.i rfl hm) ?_
  repeat (first | refine PS_lp (by decide) ?_ | refine PS_ln (by decide) ?_)
  repeat (first | refine PS_rp (by decide) ?_ | refine PS_rn (by decide) ?_)
  refine PS_ln (not_not_intro ((hw.2.1 0 (by decide)).trans hk0)) (PS_rand (hT.i rfl hm) ?_)
  refine PS_of (fun Q h => zt_X6_input_p0 (by omega) h) (fun Q h => zt_X13_nameAs_p0 (by omega) h) ?_
  simp only [zb_X13_nameAs_p0, zb_X13_nameAs_p32]
  refine n_inp (S := S.at p) (x2 := 2) (y4 := 1) (y0 := 0) (f := f) (L := L - 25) (Lt := L' - 23 - 21) (Kt := fun Q t => (kx_inb (i_ n) (w_n t 12 0 29) = true ∧ zw E' (L' - 24) kt_M476 [.ref (w_adr E'.2.1 12 0), .int (w_a t 12 0 29 n), .int 0] t (wk0 (fun w5 => wle t w5 → Q (.inl none) (ws_i w5 12 0 56 (i_ kr.length))) (fun e w => Q (.inr e) w)))) hs H hkA List.not_mem_nil hnu hq hCq h60 hXq (by omega) (by omega) (fun S1 Q v hI1 h => ?_) (fun S1 gc hI1 h => ?_) (fun S1 gc s c hI1 hs1 hc1 h46 hok h => ?_) (fun S1 gc s c hI1 hs1 hc1 h46 hok h => ?_) (fun S1 T1 H1 hT1 hn1 hx1 hsm1 hG1 => ?_)
  · simp only [zb_X6_input_p48, zb_X6_input_p68, zb_X6_input_p73]
    exact h
  · refine PS_r (fun Q a => fun _ => a) (PS_rp (by decide) ?_)
    exact PS_r (fun Q a => fun _ => a) h
  · have ec : c = 4 := by
      unfold okp at hok
      rcases hok with ⟨-, e⟩ | ⟨e, -⟩
      · exact e
      · exact absurd rfl e
    subst ec
    refine PS_r (fun Q a => fun _ => a) (PS_rn (i_nn (by omega)) (PS_rand (hI1.1.2.1.sy rfl hs1) ?_))
    simp only [i_nat' (show s < 2147483648 by omega), h46]
    refine PS_rp (by decide) ?_
    exact PS_r (fun Q a => fun _ => a) h
  · have ec : c ≠ 4 := fun e => hok (.inl ⟨by decide, e⟩)
    have h27 : w_a S1.t 12 0 27 nq = V.2.2.1 27 nq := hI1.1.2.2 nq htq 27 rfl
    refine PS_r (fun Q a => fun _ => a) (PS_rn (i_nn (by omega)) (PS_rand (hI1.1.2.1.sy rfl hs1) ?_))
    simp only [i_nat' (show s < 2147483648 by omega), i_nat' (show nq < 2147483648 by omega), h46, h27]
    refine PS_rn (fun z => ec ((congrArg id (i_c1 hc1.2 4 (by decide))).mp z)) (PS_rand (hI1.1.2.1.i rfl hq14) ?_)
    refine PS_r0 (fun Q hq => t_tells (k := 6) (by omega) hI1.2.2.2.2.2.2.1.2 ⟨by decide, by decide⟩ hq) ?_
    exact PS_r (fun Q a => fun _ => a) h
  · have hw1 := H1.1.nw hnu
    have ht1 := H1.1.1.2.2 n htm
    have hk1 : KRE S1 kr := hkA.nd hn1
    have hu1 : S1.u = S.u := congrArg Prod.fst hn1.2.2.2
    simp only [zb_X6_input_p145, zb_X6_input_p185]
    refine PS_lp (by decide) (PS_ln (by decide) ?_)
    refine PS_lex p rfl (PS_land hw1.1 ?_)
    simp only [hw1.2.1 4 (by decide), hqb, ht1 29 rfl, h29]
    refine PS_rand (H1.1.1.2.1.i rfl hm) ?_
    refine n_ch (n_EX hs (f + 1)) hs H1 hk1 (by decide) ⟨by decide, by decide⟩ hqb hCb hXb (by omega) (by omega) (fun S2 T2 H2 hT2 hn2 hx2 hsm2 hG2 => ?_)
    have hk2 : KRE S2 kr := hk1.nd hn2
    have hu2 : S2.u = S1.u := congrArg Prod.fst hn2.2.2.2
    refine PS_l (fun Q a => fun _ => a) ?_
    refine n_ae hnu hm h26 H2 (by decide) hk2 (hu2.trans hu1) (fun e => ⟨rfl, fun q' hq' => ?_, fun q' hq' => ?_⟩)
    · rw [hq] at hq'
      cases hq'
      have e1 := min_nof H1.2.2.2.2.1.1 hT2 e
      refine NE.c ((((hG1 (min_nof (.inl rfl) hT1 e1.1).2).nx H1.1 hx2).nx H2.1 NX.fi)) (fun c hc => ?_)
      unfold okp at hc
      rcases hc with ⟨-, e⟩ | ⟨e, -⟩
      · exact e
      · exact absurd rfl e
    · rw [hqb] at hq'
      cases hq'
      exact (hG2 (min_nof H1.2.2.2.2.1.1 hT2 e).2).nx H2.1 NX.fi
end NIA
