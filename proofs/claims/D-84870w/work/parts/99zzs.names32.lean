/-! ===== ROUNDS, part 34: OUT ===== -/
section NOU
variable {D : pD} {V : pV} {nu : pN} {tn : Nat → Prop} {rt p q n nq r d dq j k k0 f s u A c cr W Cx kd cl : Nat} {J J' : List Nat} {S S' S0 : nS} {w w2 w' t t' : wS} {v : Option Nat} {x x2 y y4 y0 : Int32} {T T' : Int} {kr kr' ks : List Nat} {L L' L2 Lc Lx Ly Lt : Nat} {E' : zE} {gc gt : pQ} {Φ : kx_Rs → wS → kx_Rs → wS → Prop} {ol : Option Int32} {C : Nat → Prop} {Q : kx_Rs → wS → Prop}
/-- no channel, no tags -/
theorem t_tagN (hI : IVN D V nu tn rt S) (hs61 : s < 6100) (h46 : w_a S.t 12 0 46 s = i_ c) (hc : c ≤ 9 ∧ c ≠ 3) (hL : 40 ≤ L') (hq : Q (.inl (some (.int 0))) S.t) : zw E' L' kt_M427 [.ref (w_adr E'.2.1 12 0), .int (i_ s)] S.t Q := by
  refine zt_X13_hasTags_p0 (by omega) ?_
  simp only [zb_X13_hasTags_p0, zb_X13_hasTags_p53, zb_X13_hasTags_p54, i_nat' (show s < 2147483648 by omega), h46]
  rw [if_neg (i_nn (by omega))]
  refine ⟨hI.1.2.1.sy rfl hs61, ?_⟩
  have e3 : ((i_ c : Int32) = 3) = (c = 3) := i_c1 hc.1 3 (by decide)
  rw [if_pos (show ¬ (i_ c : Int32) = 3 by rw [e3]; exact hc.2)]
  exact ⟨.inl trivial, hq⟩
theorem if3n {a b c X Y : Prop} {_ : Decidable (¬ a)} {_ : Decidable (¬ b)} {_ : Decidable (¬ c)} (h : ¬ (a ∧ b ∧ c)) (x : X) : if ¬ a then X else if ¬ b then X else if ¬ c then X else Y := by
  by_cases ha : a
  · rw [if_neg (not_not_intro ha)]
    by_cases hb : b
    · rw [if_neg (not_not_intro hb), if_pos (fun hc => h ⟨ha, hb, hc⟩)]
      exact x
    · rw [if_pos hb]
      exact x
  · rw [if_pos ha]
    exact x
/-- OUT -/
theorem n_A8 (hs : STR D V nu tn rt) (hI : IVN D V nu tn rt S) (hC : CHx V tn nu k0 ol n p d) (h26 : V.2.2.1 26 n = i_ (8 : Nat)) (hK : KX V nu (f + 1) 2 p) (hv : VOK V nu rt S p) (hk : KRE S kr) (hL : 75 * k0 + 340 ≤ L) (hL' : 75 * k0 + 340 ≤ L') : PS (fun Q => zw D.1 L kt_M131 [.ref (w_adr D.1.2.1 5 0), va_rf (some p)] S.w Q) (fun Q => zw E' L' kt_M471 [.ref (w_adr E'.2.1 12 0), .int (i_ n)] S.t Q) (NPO D V nu tn rt p S (fun S' => KRE S' kr) (fun S' => NS V nu S' (f + 1) S.u kr p kr)) := by
  obtain ⟨r, hnu, hm, -, hr, -⟩ := hC.nb h26 ⟨by decide, by decide⟩
  obtain ⟨kd, h26', hcl, hch⟩ := hK.at hnu hm
  have hkd : kd = 8 := by
    have := (i_eq (by unfold cok at hcl; omega) (by unfold cok at hcl; omega)).mp (h26.symm.trans h26')
    omega
  subst hkd
  obtain ⟨htm, hl2, hF⟩ := hs.lf hnu hm h26 (by decide)
  have H := HM.start hI hv
  have hw := hI.nw hnu
  have ht := hI.1.2.2 n htm
  have hT := hI.1.2.1
  have hkA : KRE (S.at p) kr := hk
  have h56 : w_i S.t 12 0 56 = i_ kr.length := hI.e56 hk
  obtain ⟨-, hk0, ⟨q, nq, hq, h28, hCq, h60⟩, l, hl, -, hne⟩ := hF
  have hXq := hch 3 ⟨by decide, by decide⟩ (by omega) (ujk.c (by omega)) 0 q (.inl rfl) hq
  have hc3 : ccl (V.1 p 10) (V.1 p 11) 8 3 = 60 := rfl
  have hc4 : ccl (V.1 p 10) (V.1 p 11) 8 4 = 0 := rfl
  rw [hc3] at hXq
  have hXl : ∀ z ∈ l, KX V nu f 0 z.2.1 := fun z hz => by
    obtain ⟨i, hi⟩ := LPx.nx2 hl z hz
    have h := hch 4 ⟨by decide, by decide⟩ (by omega) (ujk.c (by omega)) i z.2.1 (.inr (.inl ⟨rfl, by simp⟩)) hi
    rw [hc4] at h
    exact h
  obtain ⟨rq, hnuq, hmq, -, hrq, -⟩ := hCq.nb h60 ⟨by decide, by decide⟩
  cases f with
  | zero => exact hXq.elim
  | succ f =>
  cases l with
  | nil => exact absurd rfl hne
  | cons z4 l' =>
  obtain ⟨n4, q4, d4⟩ := z4
  have hl0 := hl
  obtain ⟨hq4, h29, hC4, hl'⟩ := hl
  have hq4 : V.2.1 p 4 = some q4 := hq4
  have h29 : V.2.2.1 29 n = i_ n4 := h29
  have hC4 : CHx V tn nu r (some (V.2.2.1 27 n)) n4 q4 d4 := hC4
  have hl' : LPx V tn nu r (some (V.2.2.1 27 n)) l' (V.2.1 q4 7) (V.2.2.1 32 n4) none (-1) := hl'
  have hn4 : n4 < 14000 := hC4.n14 hs
  have hnk4 := hC4.nk hs
  obtain ⟨m4, c4, r4, hP4, htn4, hnu4, ⟨hr4, hm4⟩, hbr4, hol4⟩ := hC4
  have hX4 : KX V nu (f + 1) 0 q4 := hXl _ List.mem_cons_self
  obtain ⟨kd4, h264, hcl4, hch4⟩ := hX4.at hnu4 hm4
  have hkd4 : 50 ≤ kd4 ∧ kd4 ≤ 64 := by unfold cok at hcl4; omega
  obtain ⟨htm4, hl24, hF4⟩ := hs.lf hnu4 hm4 h264 (by omega)
  obtain ⟨i4, hi4, hk4, hi60⟩ := hF4.ki hkd4
  have htn4' : tn n4 := htn4 _ hP4.mem
  have cnd : (V.2.1 q4 0 = some (D.1.1.1 18) ∧ V.2.1 q4 3 = none ∧ V.1 q4 12 = 0) ↔ (V.2.2.1 26 n4 = 60 ∧ V.2.2.1 28 n4 = -1) := by
    cases c4 with
    | nil =>
      have e : n4 = m4 := hP4
      subst e
      constructor
      · rintro ⟨a, b, -⟩
        rw [hk4, eo_eq hs.1.1 hi4 (by decide)] at a
        have e6 : kd4 = 60 := hi60.mp a
        subst e6
        obtain ⟨-, -, -, hEO⟩ := hF4
        refine ⟨h264, ?_⟩
        rcases hEO with ⟨-, e⟩ | ⟨q', n', e, -⟩
        · exact e
        · rw [e] at b
          cases b
      · rintro ⟨a, b⟩
        have a' : V.2.2.1 26 n4 = i_ (60 : Nat) := a
        have e6 : kd4 = 60 := by
          have := (i_eq (by omega) (by omega)).mp (h264.symm.trans a')
          omega
        subst e6
        refine ⟨by rw [hk4, hi60.mpr rfl], ?_, hbr4⟩
        obtain ⟨-, -, -, hEO⟩ := hF4
        rcases hEO with ⟨e, -⟩ | ⟨q', n', -, e, h5⟩
        · exact e
        · have h14 := h5.n14 hs
          have b' : V.2.2.1 28 n4 = i_ (-1) := b
          have := (i_eq (by omega) (by omega)).mp (e.symm.trans b')
          omega
    | cons y c =>
      constructor
      · rintro ⟨-, -, b⟩
        rw [hbr4] at b
        exact absurd b (by simp [bI])
      · rintro ⟨a, -⟩
        have h58 : V.2.2.1 26 n4 = 58 := hP4.2.1
        rw [h58] at a
        exact absurd a (by decide)
  refine PS_of (fun Q h => zt_X6_action_p0 (by omega) h) (fun Q h => zt_X13_nameAction_p0 (by omega) h) ?_
  simp only [zb_X6_action_p0, zb_X13_nameAction_p0, zb_X6_action_p208, zb_X13_nameAction_p697, i_nat' (show n < 2147483648 by omega), ht 26 rfl, h26, h56]
  refine PS_lex p rfl (PS_land hw.1 (PS_lex 37 (zO_k hs.1.1 (by decide) ((hw.2.1 0 (by decide)).trans hk0) rfl) ?_))
  refine PS_rand (hT.i rfl hm) ?_
  repeat (first | refine PS_lp (by decide) ?_ | refine PS_ln (by decide) ?_)
  repeat (first | refine PS_rp (by decide) ?_ | refine PS_rn (by decide) ?_)
  refine PS_of (fun Q h => zt_X6_output_p0 (by omega) h) (fun Q h => zt_X13_nameOut_p0 (by omega) h) ?_
  simp only [zb_X6_output_p0, zb_X13_nameOut_p0, i_nat' (show n < 2147483648 by omega), ht 28 rfl, h28]
  refine PS_lex p rfl (PS_land hw.1 (PS_rand (hT.i rfl hm) ?_))
  simp only [hw.2.1 3 (by decide), hq]
  have hnk := hCq.nk hs
  obtain ⟨I4, V4⟩ := H.go hs List.not_mem_nil ⟨by decide, by decide⟩ hq hnk.1 hnk.2
  have hch1 := n_placeA (E' := E') (L := L - 23 - 22) (L' := L' - 22 - 23) hs (n_EX hs f) I4 hCq h60 hXq V4 hkA wc_3 (by omega) (by omega)
  refine PS_bind (gc1 := fun Q => zw D.1 (L - 23 - 22) kt_M138 [.ref (w_adr D.1.2.1 5 0), va_rf (some q), va_rf (some (D.1.1.1 53))] S.w Q) (gt1 := fun Q => zw E' (L' - 22 - 23) kt_M472 [.ref (w_adr E'.2.1 12 0), .int (i_ nq), .int 3] S.t Q) hch1 (fun r1 w2 r2 t2 hb => ?_)
  obtain ⟨S1, T1, ⟨e1, e2, e3, e4⟩, H1, hx1, hq1, hT1, ⟨hu1, hsm1⟩, ⟨hn1, hP1⟩, hG1⟩ := H.bk (J' := [3]) ⟨H.2.2.1.1, H.2.2.1.2.1⟩ ⟨fun _ => List.mem_cons_self, fun i hi => absurd hi List.not_mem_nil⟩ hb
  subst e1 e2 e3 e4
  have hk1 : KRE S1 kr := KRE.nd (S := S) hk hn1
  have hu1 : S1.u = S.u := hu1
  have hw1 := H1.1.nw hnu
  have hw1q := H1.1.nw hnuq
  have hw1r := H1.1.nw hnu4
  have ht1 := H1.1.1.2.2 n htm
  have ht14 := H1.1.1.2.2 n4 htn4'
  have hT1' := H1.1.1.2.1
  refine PS_l (fun Q a => fun _ => a) (PS_r (fun Q a => fun _ => a) ?_)
  refine PS_lex q ((hw1.2.1 3 (by decide)).trans hq) (PS_land hw1q.1 ?_)
  simp only [i_nat' (show n < 2147483648 by omega), ht1 29 rfl, ht1 28 rfl, h28, h29, i_nat' (show nq < 2147483648 by omega), hw1.2.1 4 (by decide)]
  refine PS_rand (hT1'.i rfl hm) (PS_rand (hT1'.i rfl hm) (PS_rand (hT1'.i rfl hmq) ?_))
  have plain : (T1 = NOF → ∃ s A, S1.ys s = some A ∧ w_a S1.t 12 0 31 nq = i_ s ∧ ¬ (tgs V S1 s ∧ V.2.1 q4 3 = none ∧ V.1 q4 12 = 0 ∧ ∃ m4 r4 d4, nu q4 = some (m4, r4, d4) ∧ V.2.2.1 26 m4 = i_ (60 : Nat))) → PS (fun Q => zb_X6_output_p93 D.1 (L - 23) (wk0 (fun w1 => wle S.w w1 → Q (.inl none) w1) (fun e w => Q (.inr e) w)) (V.2.1 p 4) S1.w) (fun Q => zL_X13_nameOut_p123 E' (L' - 22) (wk0 (fun w1 => wle S.t w1 → Q (.inl none) (ws_i w1 12 0 56 (i_ kr.length))) (fun e w => Q (.inr e) w)) (i_ n4) S1.t) (NPO D V nu tn rt p S (fun S' => KRE S' kr) (fun S' => NS V nu S' (f + 1 + 1) S.u kr p kr)) := fun hG => by
    simp only [zb_X6_output_p93]
    rw [← h29]
    refine n_exs (E' := E') (S := S1) (Lx := L - 23 - 22) (J := [3]) (J' := [4, 3]) (l := (n4, q4, d4) :: l') (y := p) (j := 4) (gtl := fun x t Q => zL_X13_nameOut_p123 E' (L' - 22) (wk0 (fun w1 => wle S.t w1 → Q (.inl none) (ws_i w1 12 0 56 (i_ kr.length))) (fun e w => Q (.inr e) w)) x t) (n_EX hs (f + 1)) hs H1 hk1 ⟨H1.2.2.1.1, H1.2.2.1.2.1⟩ (fun e => absurd (H1.2.2.1.2.2.2 4 e) (by decide)) ⟨by decide, by decide⟩ (fun i hi => List.mem_cons_of_mem _ hi) (fun _ => List.mem_cons_self) hl0 hXl (by omega) (Lt := L' - 22 - 24) (by omega) (fun nq t gc Φ hnq h => ?_) (fun S2 T2 H2 hn2 hx2 hsm2 hG2 => ?_)
    · refine PS_r (fun Q h => zt_X13_nameOut_p123 (by omega) h) ?_
      simp only [zb_X13_nameOut_p123, i_nat' (show nq < 2147483648 by omega)]
      exact PS_rn (i_nn (by omega)) h
    · have hu2 : S2.u = S1.u := congrArg Prod.fst hn2.2.2.2
      refine PS_r (fun Q h => zt_X13_nameOut_p123 (by omega) h) ?_
      simp only [zb_X13_nameOut_p123]
      refine PS_rp (by decide) (PS_l (fun Q a => fun _ => a) (PS_r (fun Q a => fun _ => a) ?_))
      refine n_ae hnu hm h26 H2 (by decide) (hk1.nd hn2) (hu2.trans hu1) (fun e => ?_)
      obtain ⟨a1, a2⟩ := hG2 e
      have a3 := (min_nof (.inl rfl) hT1 a1).2
      obtain ⟨s, A, g1, g2, g3⟩ := hG a3
      have hx3 : NX nu S1 (S2.fi p) := hx2.tr NX.fi (.inl hu2)
      refine ⟨rfl, q, q4, nq, rq, 0, s, A, hq, hq4, ⟨hnuq, ((hx3.2.1 q hq1.2.1).2.2 nq rq 0 hnuq 31 (.inl rfl)).trans g2, (hx3.1.1 s A g1).1⟩, (hG1 a3).nx H1.1 hx3, .inl ⟨fun i q' hq' => ?_, fun z => g3 ⟨(tgs.nx H1.1 hx3 g1).mp z.1, z.2⟩⟩⟩
      obtain ⟨z, hz, e2⟩ := LPx.nx1 hl0 hq'
      rw [← e2]
      exact (a2 z hz).nx H2.1 NX.fi
  rcases hP1 with ⟨s, A, g1, g2, g3, g4⟩ | ⟨g1, g2⟩
  · have hl15 : w_l S1.w D.1.2.1 15 A := (H1.1.2.2.2.1.1 s A g1).2.1.2
    refine PS_ln (by rw [g2]; simp) (PS_lex A g2 (PS_land hl15 ?_))
    simp only [g3]
    rcases H1.1.tgc hs g1 g4 with ⟨htg, P, sp, nd, c1, c2, c3, -⟩ | ⟨htg, c1, -⟩
    · refine PS_r1 (fun Q hq => t_tags (b := true) H1.1 hs g1 g4 (by omega) ⟨fun _ => htg, fun _ => rfl⟩ hq) (PS_rn (by decide) ?_)
      refine PS_ln (by rw [c1]; simp) (PS_lex P c1 (PS_land c2 (PS_ln (by rw [c3]; decide) ?_)))
      refine PS_lex q4 hq4 (PS_land hw1r.1 ?_)
      simp only [hw1r.2.1 0 (by decide), hw1r.2.1 3 (by decide), hw1r.2.2 12 (by decide), hw1r.2.2 9 (by decide), hw1r.2.2 2 (by decide), i_nat' (show n4 < 2147483648 by omega), ht14 26 rfl, ht14 28 rfl, ht14 30 rfl, ht14 27 rfl]
      by_cases hc : V.2.2.1 26 n4 = 60 ∧ V.2.2.1 28 n4 = -1
      · have hc3 := cnd.mpr hc
        refine PS_ln (not_not_intro hc3.1) (PS_ln (not_not_intro hc3.2.1) (PS_ln (not_not_intro hc3.2.2) ?_))
        refine PS_rand (hT1'.i rfl hn4) (PS_rn (not_not_intro hc.1) (PS_rand (hT1'.i rfl hn4) (PS_rn (not_not_intro hc.2) (PS_rand (hT1'.i rfl hn4) (PS_rand (hT1'.i rfl hn4) ?_)))))
        cases c4 with
        | cons y c =>
          have b := hc3.2.2
          rw [hbr4] at b
          exact absurd b (by simp [bI])
        | nil =>
        have e : n4 = m4 := hP4
        subst e
        have hc1 : V.2.2.1 26 n4 = i_ (60 : Nat) := hc.1
        have e6 : kd4 = 60 := by
          have := (i_eq (by omega) (by omega)).mp (h264.symm.trans hc1)
          omega
        subst e6
        obtain ⟨-, -, hnm4, -⟩ := hF4
        obtain ⟨I5, V5⟩ := H1.go (j := 4) hs (by decide) ⟨by decide, by decide⟩ hq4 hnk4.1 hnk4.2
        have H5 := HM.start I5 V5
        have hq4v : q4 ∉ S1.vs := V5.1.1
        have hq40 : q4 ∉ S.vs := fun e => hq4v (H1.2.1.2.2.2.1 _ e)
        have hq4p : q4 ≠ p := fun e => hq4v (by rw [e]; exact H1.2.2.1.1)
        simp only [hl24]
        refine n_f2 (S := (S1.go p 4).at q4) (J := []) (cr := 5) (S0 := S1.go p 4) (kr := kr) (Kc := fun Q v w1 => zb_X6_output_p93 D.1 (L - 23) (wk0 (fun w1 => wle S.w w1 → Q (.inl none) w1) (fun e w => Q (.inr e) w)) (w_p w1 14 q4 7) (ws_p w1 14 q4 16 v)) (Kt := fun Q t => zb_X13_nameOut_p116 E' (L' - 22) (wk0 (fun w1 => wle S.t w1 → Q (.inl none) (ws_i w1 12 0 56 (i_ kr.length))) (fun e w => Q (.inr e) w)) (i_ n4) t) hs H5 hk1 hnu4 htm4 hm4 wc_6 (by decide) rfl hnm4 (by omega) (by omega) (by omega) (fun S4 T4 vv hT4 H4 hn4' hx4 hw4 hwk hU => ?_)
        have hw4' : S4.w = ws_p (ru S1.w T4) 14 q4 16 vv := hw4
        have hwk7 : w_p (ru S1.w T4) 14 q4 7 = V.2.1 q4 7 := hwk 7 (by decide)
        show PS (fun Q => zb_X6_output_p93 D.1 (L - 23) (wk0 (fun w1 => wle S.w w1 → Q (.inl none) w1) (fun e w => Q (.inr e) w)) (w_p (ru S1.w T4) 14 q4 7) (ws_p (ru S1.w T4) 14 q4 16 vv)) _ _
        rw [hwk7, ← hw4']
        have hb2 : NPO D V nu tn rt q4 (S1.go p 4) (NDC S1) (fun S' => S'.dn q4 ∧ USE S' kr q4 n4 (fun c => c = 6)) (.inl none) S4.w (.inl none) S4.t := H4.en List.not_mem_nil (congrArg Prod.fst hn4'.2.2.2) hn4' (fun e => ⟨.inr rfl, hU (min_nof (.inl rfl) hT4 e).2⟩)
        obtain ⟨S5, T5, ⟨-, -, e3, e4⟩, H6, hx5, hq5, hT5, ⟨hu5, hsm5⟩, hn5, hG5⟩ := H1.bk (J' := [4, 3]) ⟨H1.2.2.1.1, H1.2.2.1.2.1⟩ ⟨fun _ => List.mem_cons_self, fun i hi => List.mem_cons_of_mem _ hi⟩ hb2
        rw [← e3, ← e4]
        simp only [zb_X13_nameOut_p116, zb_X6_output_p93, i_nat' (show n4 < 2147483648 by omega), H6.1.1.2.2 n4 htm4 32 rfl]
        refine PS_rand (H6.1.1.2.1.i rfl hn4) ?_
        have hk5 : KRE S5 kr := hk1.nd hn5
        refine n_exs (E' := E') (S := S5) (Lx := L - 23 - 22) (J := [4, 3]) (J' := [4, 3]) (l := l') (y := q4) (j := 7) (gtl := fun x t Q => zL_X13_nameOut_p123 E' (L' - 22) (wk0 (fun w1 => wle S.t w1 → Q (.inl none) (ws_i w1 12 0 56 (i_ kr.length))) (fun e w => Q (.inr e) w)) x t) (n_EX hs (f + 1)) hs H6 hk5 ⟨hq5.1, hq40⟩ hq5.2.2 ⟨by decide, by decide⟩ (fun i hi => hi) (fun e => absurd e hq4p) hl' (fun z hz => hXl z (List.mem_cons_of_mem _ hz)) (by omega) (Lt := L' - 22 - 24) (by omega) (fun nq t gc Φ hnq h => ?_) (fun S2 T2 H2 hn2 hx2 hsm2 hG2 => ?_)
        · refine PS_r (fun Q h => zt_X13_nameOut_p123 (by omega) h) ?_
          simp only [zb_X13_nameOut_p123, i_nat' (show nq < 2147483648 by omega)]
          exact PS_rn (i_nn (by omega)) h
        · have hu2 : S2.u = S5.u := congrArg Prod.fst hn2.2.2.2
          refine PS_r (fun Q h => zt_X13_nameOut_p123 (by omega) h) ?_
          simp only [zb_X13_nameOut_p123]
          refine PS_rp (by decide) (PS_l (fun Q a => fun _ => a) (PS_r (fun Q a => fun _ => a) ?_))
          refine n_ae hnu hm h26 H2 (by decide) (hk5.nd hn2) (hu2.trans (hu5.trans hu1)) (fun e => ?_)
          obtain ⟨a1, a2⟩ := hG2 e
          obtain ⟨a3, a4⟩ := min_nof H1.2.2.2.2.1.1 hT5 a1
          have a5 := (min_nof (.inl rfl) hT1 a3).2
          obtain ⟨-, b2⟩ := hG5 a4
          have hx3 : NX nu S5 (S2.fi p) := hx2.tr NX.fi (.inl hu2)
          have hx6 : NX nu S1 (S2.fi p) := hx5.tr hx3 (.inl hu5)
          refine ⟨rfl, q, q4, nq, rq, 0, s, A, hq, hq4, ⟨hnuq, ((hx6.2.1 q hq1.2.1).2.2 nq rq 0 hnuq 31 (.inl rfl)).trans g3, (hx6.1.1 s A g1).1⟩, (hG1 a5).nx H1.1 hx6, .inr ⟨(tgs.nx H1.1 hx6 g1).mpr htg, hc3.2, (hx3.2.1 q4 hq5.2.1).1, ⟨n4, r4, d4, hnu4, h264, b2.nx H6.1 hnu4 hq5.2.1 hx3⟩, fun i q' hq' => ?_⟩⟩
          obtain ⟨z, hz, e2⟩ := LPx.nx1 hl' hq'
          rw [← e2]
          exact (a2 z hz).nx H2.1 NX.fi
      · have hc' : ¬ (V.2.1 q4 0 = some (D.1.1.1 18) ∧ V.2.1 q4 3 = none ∧ V.1 q4 12 = 0) := fun z => hc (cnd.mp z)
        refine PS_l (fun Q h => if3n hc' h) (PS_rand (hT1'.i rfl hn4) ?_)
        have pl := plain (fun _ => ⟨s, A, g1, g3, fun z => by
          obtain ⟨-, z2, z3, m', r', d', z4, z5⟩ := z
          rw [hnu4] at z4
          cases z4
          have e6 : kd4 = 60 := by
            have := (i_eq (by omega) (by omega)).mp (h264.symm.trans z5)
            omega
          exact hc' ⟨by rw [hk4, hi60.mpr e6], z2, z3⟩⟩)
        by_cases h6 : V.2.2.1 26 n4 = 60
        · exact PS_rn (not_not_intro h6) (PS_rand (hT1'.i rfl hn4) (PS_rp (fun e => hc ⟨h6, e⟩) pl))
        · exact PS_rp h6 pl
    · refine PS_r1 (fun Q hq => t_tags (b := false) H1.1 hs g1 g4 (by omega) ⟨fun e => absurd e (by decide), fun e => absurd e htg⟩ hq) (PS_rp rfl ?_)
      have pl := plain (fun _ => ⟨s, A, g1, g3, fun z => htg z.1⟩)
      rcases c1 with c1 | ⟨P, c1, c2, c3⟩
      · exact PS_lp c1 pl
      · exact PS_ln (by rw [c1]; simp) (PS_lex P c1 (PS_land c2 (PS_lp c3 pl)))
  · have hno : T1 = NOF → ∃ s A, S1.ys s = some A ∧ w_a S1.t 12 0 31 nq = i_ s ∧ ¬ (tgs V S1 s ∧ V.2.1 q4 3 = none ∧ V.1 q4 12 = 0 ∧ ∃ m4 r4 d4, nu q4 = some (m4, r4, d4) ∧ V.2.2.1 26 m4 = i_ (60 : Nat)) := fun e => by
      obtain ⟨-, n', r', d', kd', a1, a2, a3, a4, a5, a6⟩ := hG1 e
      rw [hnuq] at a1
      cases a1
      have h60' : V.2.2.1 26 nq = i_ (60 : Nat) := h60
      have e6 : kd' = 60 := i_kd a3 h60' (by omega)
      obtain ⟨s, c, b1, ⟨A, b2, b3, b4⟩, b5, b6⟩ := a5 e6
      rw [g1] at b3
      cases b3
    refine PS_lp g1 ?_
    rcases g2 with g2 | ⟨s, A, c, b1, b2, b3, b4⟩
    · simp only [g2]
      exact PS_r1 (fun Q hq => t_tag0 (by omega) hq) (PS_rp rfl (plain hno))
    · obtain ⟨c', g2', g3', g4', g5', g6'⟩ := H1.1.sy b1
      have ec : c' = c := i_kd g3' b3 (by omega)
      subst ec
      simp only [b2]
      exact PS_r1 (fun Q hq => t_tagN H1.1 g6' b3 ⟨g2'.2, b4.1⟩ (by omega) hq) (PS_rp rfl (plain hno))
end NOU
