/-! ===== ROUNDS, part 29: IN to places ===== -/
section NIB
variable {D : pD} {V : pV} {nu : pN} {tn : Nat → Prop} {rt p q n nq r d dq j k k0 f s u A c cr W Cx kd cl : Nat} {J J' : List Nat} {S S' S0 : nS} {w w2 w' t t' : wS} {v : Option Nat} {x x2 y y0 : Int32} {T T' : Int} {kr kr' ks : List Nat} {L L' L2 Lc Lx Ly Lt : Nat} {E' : zE} {gc gt : pQ} {Φ : kx_Rs → wS → kx_Rs → wS → Prop} {ol : Option Int32} {C : Nat → Prop} {Q : kx_Rs → wS → Prop}
/-- the other of STOP, SKIP -/
theorem n_A3 (hs : STR D V nu tn rt) (hI : IVN D V nu tn rt S) (hC : CHx V tn nu k0 ol n p d) (h26 : V.2.2.1 26 n = i_ (3 : Nat)) (hK : KX V nu (f + 1) 2 p) (hv : VOK V nu rt S p) (hk : KRE S kr) (hL : 75 * k0 + 340 ≤ L) (hL' : 75 * k0 + 340 ≤ L') : PS (fun Q => zw D.1 L kt_M131 [.ref (w_adr D.1.2.1 5 0), va_rf (some p)] S.w Q) (fun Q => zw E' L' kt_M471 [.ref (w_adr E'.2.1 12 0), .int (i_ n)] S.t Q) (NPO D V nu tn rt p S (fun S' => KRE S' kr) (fun S' => NS V nu S' (f + 1) S.u kr p kr)) := by
  obtain ⟨r, hnu, hm, -, hr, -⟩ := hC.nb h26 ⟨by decide, by decide⟩
  obtain ⟨kd, h26', hcl, hch⟩ := hK.at hnu hm
  have hkd : kd = 3 := by
    have := (i_eq (by unfold cok at hcl; omega) (by unfold cok at hcl; omega)).mp (h26.symm.trans h26')
    omega
  subst hkd
  obtain ⟨htm, hl2, hF⟩ := hs.lf hnu hm h26 (by decide)
  have H := HM.start hI hv
  have hw := hI.nw hnu
  have ht := hI.1.2.2 n htm
  have hT := hI.1.2.1
  have hkA : KRE (S.at p) kr := hk
  have h56 : w_i S.t 12 0 56 = i_ kr.length := hI.e56 hk
  obtain ⟨-, hk0⟩ := hF
  refine PS_of (fun Q h => zt_X6_action_p0 (by omega) h) (fun Q h => zt_X13_nameAction_p0 (by omega) h) ?_
  simp only [zb_X6_action_p0, zb_X13_nameAction_p0, zb_X6_action_p208, zb_X13_nameAction_p697, i_nat' (show n < 2147483648 by omega), ht 26 rfl, h26, h56]
  refine PS_lex p rfl (PS_land hw.1 (PS_lex 42 (zO_k hs.1.1 (by decide) ((hw.2.1 0 (by decide)).trans hk0) rfl) ?_))
  refine PS_rand (hT.i rfl hm) ?_
  repeat (first | refine PS_lp (by decide) ?_ | refine PS_ln (by decide) ?_)
  repeat (first | refine PS_rp (by decide) ?_ | refine PS_rn (by decide) ?_)
  exact n_ae (S1 := S.at p) hnu hm h26 H List.not_mem_nil hkA rfl (fun _ => rfl)
/-- IN -/
theorem n_A5 (hs : STR D V nu tn rt) (hI : IVN D V nu tn rt S) (hC : CHx V tn nu k0 ol n p d) (h26 : V.2.2.1 26 n = i_ (5 : Nat)) (hK : KX V nu (f + 1) 2 p) (hv : VOK V nu rt S p) (hk : KRE S kr) (hL : 75 * k0 + 340 ≤ L) (hL' : 75 * k0 + 340 ≤ L') : PS (fun Q => zw D.1 L kt_M131 [.ref (w_adr D.1.2.1 5 0), va_rf (some p)] S.w Q) (fun Q => zw E' L' kt_M471 [.ref (w_adr E'.2.1 12 0), .int (i_ n)] S.t Q) (NPO D V nu tn rt p S (fun S' => KRE S' kr) (fun S' => NS V nu S' (f + 1) S.u kr p kr)) := by
  obtain ⟨r, hnu, hm, -, hr, -⟩ := hC.nb h26 ⟨by decide, by decide⟩
  obtain ⟨kd, h26', hcl, hch⟩ := hK.at hnu hm
  have hkd : kd = 5 := by
    have := (i_eq (by unfold cok at hcl; omega) (by unfold cok at hcl; omega)).mp (h26.symm.trans h26')
    omega
  subst hkd
  obtain ⟨htm, hl2, hF⟩ := hs.lf hnu hm h26 (by decide)
  have H := HM.start hI hv
  have hw := hI.nw hnu
  have ht := hI.1.2.2 n htm
  have hT := hI.1.2.1
  have hkA : KRE (S.at p) kr := hk
  have h56 : w_i S.t 12 0 56 = i_ kr.length := hI.e56 hk
  obtain ⟨-, hk0, ⟨q, nq, hq, h28, hCq, h60⟩, lb, hlb, hne, h60b⟩ := hF
  have hXq := hch 3 ⟨by decide, by decide⟩ (by omega) (ujk.c (by omega)) 0 q (.inl rfl) hq
  have hc3 : ccl (V.1 p 10) (V.1 p 11) 5 3 = 60 := rfl
  have hc4 : ccl (V.1 p 10) (V.1 p 11) 5 4 = 60 := rfl
  rw [hc3] at hXq
  have hXl : ∀ z ∈ lb, KX V nu f 60 z.2.1 ∧ V.2.2.1 26 z.1 = i_ (60 : Nat) := fun z hz => by
    obtain ⟨i, hi⟩ := LPx.nx2 hlb z hz
    have h := hch 4 ⟨by decide, by decide⟩ (by omega) (ujk.c (by omega)) i z.2.1 (.inr (.inl ⟨rfl, by simp⟩)) hi
    rw [hc4] at h
    exact ⟨h, h60b z hz⟩
  have hq14 := hCq.n14 hs
  have h27q : V.2.2.1 27 nq = V.2.2.1 27 n := by
    obtain ⟨m, c, r', hP, htn, h1, h2, h3, h4⟩ := hCq
    exact h4 _ rfl
  cases f with
  | zero => exact hXq.elim
  | succ f =>
  have hsg : ∃ (q4 n4 m4 r4 d4 : Nat) (y4 : Int32), V.2.1 p 4 = some q4 ∧ V.2.2.1 29 n = i_ n4 ∧ n4 < 14000 ∧ tn n4 ∧ nu q4 = some (m4, r4, d4) ∧ ((V.2.1 q4 7 = none ∧ V.2.2.1 32 n4 = -1 ∧ y4 = 1) ∨ (¬ V.2.1 q4 7 = none ∧ ¬ V.2.2.1 32 n4 = -1 ∧ y4 = 0)) := by
    cases lb with
    | nil => exact absurd rfl hne
    | cons z l =>
      obtain ⟨a1, a2, a3, a4⟩ := hlb
      have hz14 := a3.n14 hs
      obtain ⟨m, c, r', hP, htn, hnuz, -⟩ := a3
      cases l with
      | nil => exact ⟨z.2.1, z.1, m, r', _, 1, a1, a2, hz14, htn _ hP.mem, hnuz, .inl ⟨a4.1, a4.2, rfl⟩⟩
      | cons z2 l =>
        obtain ⟨b1, b2, b3, b4⟩ := a4
        have hz2 := b3.n14 hs
        refine ⟨z.2.1, z.1, m, r', _, 0, a1, a2, hz14, htn _ hP.mem, hnuz, .inr ⟨by rw [b1]; simp, fun e => ?_, rfl⟩⟩
        have := (i_eq (by omega) (by omega)).mp (b2.symm.trans (e.trans (show (-1 : Int32) = i_ (-1) from rfl)))
        omega
  obtain ⟨q4, n4, m4, r4, d4, y4, hq4, h29, hn4, ht4, hnu4, hcase⟩ := hsg
  refine PS_of (fun Q h => zt_X6_action_p0 (by omega) h) (fun Q h => zt_X13_nameAction_p0 (by omega) h) ?_
  simp only [zb_X6_action_p0, zb_X6_action_p126, zb_X13_nameAction_p0, zb_X13_nameAction_p697, zb_X6_action_p208, i_nat' (show n < 2147483648 by omega), ht 26 rfl, h26, h56]
  refine PS_lex p rfl (PS_land hw.1 (PS_lex 40 (zO_k hs.1.1 (by decide) ((hw.2.1 0 (by decide)).trans hk0) rfl) ?_))
  refine PS_rand (hT.i rfl hm) ?_
  repeat (first | refine PS_lp (by decide) ?_ | refine PS_ln (by decide) ?_)
  repeat (first | refine PS_rp (by decide) ?_ | refine PS_rn (by decide) ?_)
  refine PS_lp (fun z => eo_ne hs.1.1 (by decide) (by decide) (by decide) (((hw.2.1 0 (by decide)).trans hk0).symm.trans z)) (PS_ln (not_not_intro ((hw.2.1 0 (by decide)).trans hk0)) ?_)
  refine PS_of (fun Q h => zt_X6_input_p0 (by omega) h) (fun Q h => zt_X13_nameIn_p0 (by omega) h) ?_
  simp only [zb_X13_nameIn_p0, i_nat' (show n < 2147483648 by omega), ht 28 rfl, h28]
  refine PS_rand (hT.i rfl hm) ?_
  refine n_inp (S := S.at p) (x2 := 1) (y4 := y4) (y0 := 1) (f := f) (L := L - 25) (Lt := L' - 24 - 21) (Kt := fun Q t => zb_X13_nameIn_p72 E' (L' - 24) (wk0 (fun w1 => wle S.t w1 → Q (.inl none) (ws_i w1 12 0 56 (i_ kr.length))) (fun e w => Q (.inr e) w)) (i_ n) t) hs H hkA List.not_mem_nil hnu hq hCq h60 hXq (by omega) (by omega) (fun S1 Q v hI1 h => ?_) (fun S1 gc hI1 h => ?_) (fun S1 gc s c hI1 hs1 hc1 h46 hok h => ?_) (fun S1 gc s c hI1 hs1 hc1 h46 hok h => ?_) (fun S1 T1 H1 hT1 hn1 hx1 hsm1 hG1 => ?_)
  · have hw1 := hI1.nw hnu
    have hw4 := hI1.nw hnu4
    unfold zb_X6_input_p48
    rw [if_neg (by decide), if_neg (by decide)]
    refine ⟨p, rfl, hw1.1, q4, (hw1.2.1 4 (by decide)).trans hq4, hw4.1, ?_⟩
    rw [hw4.2.1 7 (by decide)]
    rcases hcase with ⟨e7, -, ey⟩ | ⟨e7, -, ey⟩
    · rw [if_neg (not_not_intro e7)]
      unfold zb_X6_input_p68 zb_X6_input_p73
      rw [if_neg (by decide)]
      rw [ey] at h
      exact h
    · rw [if_pos e7]
      unfold zb_X6_input_p72 zb_X6_input_p73
      rw [if_neg (by decide)]
      rw [ey] at h
      exact h
  · refine PS_r (fun Q a => fun _ => a) (PS_rand (hI1.1.2.1.i rfl hm) ?_)
    have h29' : w_a S1.t 12 0 29 n = i_ n4 := (hI1.1.2.2 n htm 29 rfl).trans h29
    have h32' : w_a S1.t 12 0 32 n4 = V.2.2.1 32 n4 := hI1.1.2.2 n4 ht4 32 rfl
    simp only [h29', i_nat' (show n4 < 2147483648 by omega), h32']
    refine PS_rand (hI1.1.2.1.i rfl hn4) ?_
    have key : ∀ y : Int32, PS gc (fun Q => zb_X13_nameIn_p31 E' (L' - 24) (wk0 (fun w1 => wle S.t w1 → Q (.inl none) (ws_i w1 12 0 56 (i_ kr.length))) (fun e w => Q (.inr e) w)) (i_ n) (-1) y S1.t) (NPO D V nu tn rt p S (fun S' => KRE S' kr) (fun S' => NS V nu S' (f + 1 + 1) S.u kr p kr)) := fun y => by
      simp only [zb_X13_nameIn_p31]
      exact PS_rp (by decide) h
    rcases hcase with ⟨-, e32, ey⟩ | ⟨-, e32, ey⟩
    · exact PS_rn (not_not_intro e32) (key _)
    · exact PS_rp e32 (key _)
  · refine PS_r (fun Q a => fun _ => a) (PS_rand (hI1.1.2.1.i rfl hm) ?_)
    have h29' : w_a S1.t 12 0 29 n = i_ n4 := (hI1.1.2.2 n htm 29 rfl).trans h29
    have h32' : w_a S1.t 12 0 32 n4 = V.2.2.1 32 n4 := hI1.1.2.2 n4 ht4 32 rfl
    simp only [h29', i_nat' (show n4 < 2147483648 by omega), h32']
    refine PS_rand (hI1.1.2.1.i rfl hn4) ?_
    have key : ∀ y : Int32, (y4 ≠ 0 → ¬ y = 0) → PS gc (fun Q => zb_X13_nameIn_p31 E' (L' - 24) (wk0 (fun w1 => wle S.t w1 → Q (.inl none) (ws_i w1 12 0 56 (i_ kr.length))) (fun e w => Q (.inr e) w)) (i_ n) (i_ s) y S1.t) (NPO D V nu tn rt p S (fun S' => KRE S' kr) (fun S' => NS V nu S' (f + 1 + 1) S.u kr p kr)) := fun y hy => by
      simp only [zb_X13_nameIn_p31, i_nat' (show s < 2147483648 by omega), h46]
      refine PS_rn (i_nn (by omega)) (PS_rand (hI1.1.2.1.sy rfl hs1) ?_)
      unfold okp at hok
      rcases hok with ⟨e4, e⟩ | ⟨-, e⟩
      · subst e
        exact PS_rn (by decide) (PS_rand (hI1.1.2.1.sy rfl hs1) (PS_rn (by decide) (PS_rp (hy e4) h)))
      · subst e
        exact PS_rp (by decide) h
    rcases hcase with ⟨-, e32, ey⟩ | ⟨-, e32, ey⟩
    · exact PS_rn (not_not_intro e32) (key _ (fun _ => by decide))
    · exact PS_rp e32 (key _ (fun e => absurd ey e))
  · have h27 : w_a S1.t 12 0 27 n = V.2.2.1 27 n := hI1.1.2.2 n htm 27 rfl
    refine PS_r (fun Q a => fun _ => a) (PS_rand (hI1.1.2.1.i rfl hm) ?_)
    have h29' : w_a S1.t 12 0 29 n = i_ n4 := (hI1.1.2.2 n htm 29 rfl).trans h29
    have h32' : w_a S1.t 12 0 32 n4 = V.2.2.1 32 n4 := hI1.1.2.2 n4 ht4 32 rfl
    simp only [h29', i_nat' (show n4 < 2147483648 by omega), h32']
    refine PS_rand (hI1.1.2.1.i rfl hn4) ?_
    have key : ∀ y : Int32, (y4 = 0 → y = 0) → PS gc (fun Q => zb_X13_nameIn_p31 E' (L' - 24) (wk0 (fun w1 => wle S.t w1 → Q (.inl none) (ws_i w1 12 0 56 (i_ kr.length))) (fun e w => Q (.inr e) w)) (i_ n) (i_ s) y S1.t) (NPO D V nu tn rt p S (fun S' => KRE S' kr) (fun S' => NS V nu S' (f + 1 + 1) S.u kr p kr)) := fun y hy => by
      simp only [zb_X13_nameIn_p31, i_nat' (show s < 2147483648 by omega), h46]
      have e3 : c ≠ 3 := fun e => hok (.inr ⟨by decide, e⟩)
      have p60 : PS gc (fun Q => zb_X13_nameIn_p60 E' (L' - 24) (wk0 (fun w1 => wle S.t w1 → Q (.inl none) (ws_i w1 12 0 56 (i_ kr.length))) (fun e w => Q (.inr e) w)) (i_ n) S1.t) (NPO D V nu tn rt p S (fun S' => KRE S' kr) (fun S' => NS V nu S' (f + 1 + 1) S.u kr p kr)) := by
        simp only [zb_X13_nameIn_p60, i_nat' (show n < 2147483648 by omega), h27]
        refine PS_rand (hI1.1.2.1.i rfl hm) ?_
        refine PS_r0 (fun Q hq => t_tells (k := 6) (by omega) hI1.2.2.2.2.2.2.1.2 ⟨by decide, by decide⟩ hq) ?_
        rw [← h27q]
        exact h
      refine PS_rn (i_nn (by omega)) (PS_rand (hI1.1.2.1.sy rfl hs1) ?_)
      refine PS_rn (fun z => e3 ((congrArg id (i_c1 hc1.2 3 (by decide))).mp z)) (PS_rand (hI1.1.2.1.sy rfl hs1) ?_)
      by_cases e4 : c = 4
      · have ey : y4 = 0 := by
          by_cases e : y4 = 0
          · exact e
          · exact absurd (.inl ⟨e, e4⟩) hok
        subst e4
        exact PS_rn (by decide) (PS_rn (not_not_intro (hy ey)) p60)
      · exact PS_rp (fun z => e4 ((congrArg id (i_c1 hc1.2 4 (by decide))).mp z)) p60
    rcases hcase with ⟨-, e32, ey⟩ | ⟨-, e32, ey⟩
    · exact PS_rn (not_not_intro e32) (key _ (fun e => absurd (ey.symm.trans e) (by decide)))
    · exact PS_rp e32 (key _ (fun _ => rfl))
  · have hw1 := H1.1.nw hnu
    have ht1 := H1.1.1.2.2 n htm
    have hk1 : KRE S1 kr := hkA.nd hn1
    have hu1 : S1.u = S.u := congrArg Prod.fst hn1.2.2.2
    simp only [zb_X6_input_p145, zb_X6_input_p185, zb_X13_nameIn_p72, i_nat' (show n < 2147483648 by omega), ht1 29 rfl]
    refine PS_ln (by decide) ?_
    refine PS_lex p rfl (PS_land hw1.1 (PS_rand (H1.1.1.2.1.i rfl hm) ?_))
    simp only [hw1.2.1 4 (by decide)]
    refine n_places (E' := E') (S := S1) (J := [3]) (J' := [4, 3]) (l := lb) (y := p) (j := 4) (gtl := fun x t Q => zL_X13_nameIn_p80 E' (L' - 24) (wk0 (fun w1 => wle S.t w1 → Q (.inl none) (ws_i w1 12 0 56 (i_ kr.length))) (fun e w => Q (.inr e) w)) x t) (n_EX hs f) hs H1 hk1 ⟨H1.2.2.1.1, H1.2.2.1.2.1⟩ (fun e => absurd (H1.2.2.1.2.2.2 4 e) (by decide)) ⟨by decide, by decide⟩ (fun i hi => List.mem_cons_of_mem _ hi) (fun _ => List.mem_cons_self) hlb hXl (by omega) (Lt := L' - 24 - 23) (by omega) (fun nq t gc Φ hnq h => ?_) (fun S2 T2 H2 hn2 hx2 hsm2 hG2 => ?_)
    · refine PS_r (fun Q h => zt_X13_nameIn_p80 (by omega) h) ?_
      simp only [zb_X13_nameIn_p80, i_nat' (show nq < 2147483648 by omega)]
      exact PS_rn (i_nn (by omega)) h
    · have hk2 : KRE S2 kr := hk1.nd hn2
      have hu2 : S2.u = S1.u := congrArg Prod.fst hn2.2.2.2
      refine PS_r (fun Q h => zt_X13_nameIn_p80 (by omega) h) ?_
      simp only [zb_X13_nameIn_p80]
      refine PS_rp (by decide) (PS_l (fun Q a => fun _ => a) (PS_r (fun Q a => fun _ => a) ?_))
      refine n_ae hnu hm h26 H2 (by decide) hk2 (hu2.trans hu1) (fun e => ⟨rfl, fun q' hq' => ?_, fun i q' hq' => ?_⟩)
      · rw [hq] at hq'
        cases hq'
        refine NE.c ((((hG1 (min_nof (.inl rfl) hT1 (hG2 e).1).2).nx H1.1 hx2).nx H2.1 NX.fi)) (fun c hc => ?_)
        unfold okp at hc
        rcases hc with ⟨e4, e⟩ | ⟨-, e⟩
        · refine .inr ⟨e, ?_⟩
          rcases hcase with ⟨e7, -, ey⟩ | ⟨-, -, ey⟩
          · rw [hq4]
            exact e7
          · exact absurd ey e4
        · exact .inl e
      · obtain ⟨z, hz, e2⟩ := LPx.nx1 hlb hq'
        rw [← e2]
        exact ((hG2 e).2 z hz).nx H2.1 NX.fi
end NIB
