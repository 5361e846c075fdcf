/-! ===== ROUNDS, part 26: SEQ ===== -/
section NSQ
variable {D : pD} {V : pV} {nu : pN} {tn : Nat → Prop} {rt p q n nq r d dq j k k0 f s u A cr W Cx kd cl : Nat} {J J' : List Nat} {S S' S0 : nS} {w w2 w' t t' : wS} {v : Option Nat} {x x2 y : Int32} {T T' : Int} {kr kr' ks : List Nat} {L L' L2 Lc Lx Ly Lt : Nat} {E' : zE} {gc gt : pQ} {Φ : kx_Rs → wS → kx_Rs → wS → Prop} {ol : Option Int32} {C : Nat → Prop} {Mc Mt : kx_M}
/-- MeetingHouse writes a node's number -/
theorem HM.i10 (h : HM D V nu tn rt p J cr S0 S T T') (hn : n10 D (V.2.1 p 0)) : HM D V nu tn rt p J cr S0 (S.wt (ws_i S.w 14 p 10 x) S.t) T T' ∧ NX nu S (S.wt (ws_i S.w 14 p 10 x) S.t) := by
  have hf := h.1.2.2.2.2.2.2.1
  have h14 : ∀ a k', ¬ (k' = 10 ∧ a = p) → w_i (ws_i S.w 14 p 10 x) 14 a k' = w_i S.w 14 a k' := fun a k' hne => by rw [Rii, if_neg (fun z => hne ⟨z.1, z.2.2⟩)]
  have h15 : ∀ s A', S.ys s = some A' → ∀ k', w_i (ws_i S.w 14 p 10 x) 15 A' k' = w_i S.w 15 A' k' ∧ w_p (ws_i S.w 14 p 10 x) 15 A' k' = w_p S.w 15 A' k' := fun s A' hs k' => ⟨by rw [Rii, if_neg (fun z => absurd z.2.1 (by decide))], rfl⟩
  refine ⟨HM.nof (HM.wt (w' := ws_i S.w 14 p 10 x) (t' := S.t) h (h.1.cw h15 ⟨by rw [Rii, if_neg (fun z => absurd z.2.1 (by decide))], rfl⟩ rfl (h.1.2.1.1.i (by decide)) (by rw [Rii, if_neg (fun z => absurd z.2.1 (by decide))]; exact hf.1) (fun a ha => ?_)) ⟨FN_i rfl, frm.rf⟩ h15 (fun _ _ => rfl) (fun b hb => ⟨⟨rfl, h14 b 10 (fun z => h.2.2.1.2.1 (by rw [← z.2]; exact hb))⟩, fun _ _ _ _ _ _ => rfl⟩) ⟨.inl rfl, .inl rfl⟩ ?_ (fct_nof hf.2)) h.2.2.2.2.1, NX.wt (w' := ws_i S.w 14 p 10 x) (t' := S.t) h15 (fun _ _ => rfl) (fun b hb => ⟨⟨rfl, h14 b 10 (fun z => h.2.2.1.2.2.1 (by rw [← z.2]; exact hb))⟩, fun _ _ _ _ _ _ => rfl⟩)⟩
  · obtain ⟨a1, a2, a3, a4⟩ := h.1.1.1 a ha
    refine ⟨a1, a2, fun k hk => (h14 a k (fun z => hk z.1)).trans (a3 k hk), ?_⟩
    by_cases e : a = p
    · subst e
      exact .inl hn
    · exact a4.imp id (fun a4 => (h14 a 10 (fun z => e z.2)).trans a4)
  · have e1 : fcc (ws_i S.w 14 p 10 x) = fcc S.w := by
      unfold fcc
      rw [Rii, if_neg (fun z => absurd z.2.1 (by decide)), Rii, if_neg (fun z => absurd z.2.1 (by decide))]
    rw [e1]
    exact fcc_nof hf.1
theorem NPO.impu {A G A' G' : nS → Prop} {r r' : kx_Rs} {w t : wS} (h : NPO D V nu tn rt p S A G r w r' t) (hA : ∀ S', S'.u = S.u → A S' → A' S') (hG : ∀ S', G S' → G' S') : NPO D V nu tn rt p S A' G' r w r' t := by
  obtain ⟨S', T, e, h1, h2, h3, h4, h5, h6, h7⟩ := h
  exact ⟨S', T, e, h1, h2, h3, h4, h5, hA _ h3.2.2.2 h6, fun e => hG _ (h7 e)⟩
/-- at the end of an action that has its own names -/
theorem n_aer {S1 : nS} (hI : IVN D V nu tn rt S) (hk0 : KRE S kr) (hnu : nu p = some (n, r, d)) (hm : n < 14000) (h26 : V.2.2.1 26 n = i_ kd) (H : HM D V nu tn rt p J cr S S1 T T) (h7 : 7 ∉ J) (hk : KRE S1 (ks ++ kr)) (hu : S1.u = S.u) (hG : ∀ S2, T = NOF → NX nu S1 S2 → NSk V nu S2 (NS V nu S2 f) (fun kr C q => NE V nu S2 kr f C q) S.u kr p kr n kd) :
    PS (fun Q => Q (.inl none) (ws_p S1.w 5 0 3 (w_p S.w 5 0 3))) (fun Q => Q (.inl none) (ws_i S1.t 12 0 56 (i_ kr.length))) (NPO D V nu tn rt p S (fun S' => KRE S' kr) (fun S' => NS V nu S' (f + 1) S.u kr p kr)) := by
  have hx : CHN S.w S.ys kr (w_p S.w 5 0 3) := by
    have := hI.2.2.2.2.2.1.1.1
    rw [hk0.1] at this
    exact this
  have hy : ∀ s ∈ kr, S.ys s = S1.ys s := fun s hs => by
    have h2 : S.ys s ≠ none := hI.2.2.2.2.2.1.1.2 s (by rw [hk0.1]; exact hs)
    cases e : S.ys s with
    | none => exact absurd e h2
    | some A => exact ((H.2.1.2.1.1 s A e).1).symm
  obtain ⟨H2, hx2⟩ := H.rs hk hx hy
  exact PS_ret (H2.en h7 hu ⟨rfl, rfl⟩ (fun e => ⟨.inr rfl, n, r, d, kd, hnu, hm, h26, hG _ e (hx2.tr NX.fi (.inl rfl))⟩))
/-- what is told of a REPLICATOR, as of a statement -/
theorem NR1.ns {g : Nat} (h : NR1 V nu S kr g q nq) (hnu : nu q = some (nq, r, d)) (hm : nq < 14000) (h26 : V.2.2.1 26 nq = i_ (20 : Nat)) (hk : KRE S (s :: kr)) : NS V nu S (g + 1) u kr q (s :: kr) := by
  obtain ⟨h1, h2, s', h3, h4, h5⟩ := h
  have e : s' = s := by
    have := h3.symm.trans hk.1
    simp only [List.cons.injEq] at this
    exact this.1
  subst e
  exact ⟨h1, nq, r, d, 20, hnu, hm, h26, fun q' hq' => h2 3 (.inl rfl) q' hq', fun q' hq' => h2 4 (.inr rfl) q' hq', s', rfl, h4, h5⟩
/-- SEQ -/
theorem n_A10 (hs : STR D V nu tn rt) (IH : NPA D V nu tn rt E' kt_M149 kt_M473 1 f) (hI : IVN D V nu tn rt S) (hC : CHx V tn nu k0 ol n p d) (h26 : V.2.2.1 26 n = i_ (10 : Nat)) (hK : KX V nu (f + 1) 2 p) (hv : VOK V nu rt S p) (hk : KRE S kr) (hL : 75 * k0 + 340 ≤ L) (hL' : 75 * k0 + 340 ≤ L') : PS (fun Q => zw D.1 L kt_M131 [.ref (w_adr D.1.2.1 5 0), va_rf (some p)] S.w Q) (fun Q => zw E' L' kt_M471 [.ref (w_adr E'.2.1 12 0), .int (i_ n)] S.t Q) (NPO D V nu tn rt p S (fun S' => KRE S' kr) (fun S' => NS V nu S' (f + 1) S.u kr p kr)) := by
  obtain ⟨r, hnu, hm, -, hr, -⟩ := hC.nb h26 ⟨by decide, by decide⟩
  obtain ⟨kd, h26', hcl, hch⟩ := hK.at hnu hm
  have hkd : kd = 10 := by
    have := (i_eq (by unfold cok at hcl; omega) (by unfold cok at hcl; omega)).mp (h26.symm.trans h26')
    omega
  subst hkd
  obtain ⟨htm, hl2, hF⟩ := hs.lf hnu hm h26 (by decide)
  have H := HM.start hI hv
  have hw := hI.nw hnu
  have ht := hI.1.2.2 n htm
  have hT := hI.1.2.1
  have hkA : KRE (S.at p) kr := hk
  have h56 : w_i S.t 12 0 56 = i_ kr.length := hI.e56 hk
  obtain ⟨hk0, l, hl, -, hrep⟩ := hF
  have hc3 : ccl (V.1 p 10) (V.1 p 11) 10 3 = 20 := rfl
  have hc4 : ccl (V.1 p 10) (V.1 p 11) 10 4 = 1 := rfl
  have hXl : ∀ z ∈ l, KX V nu f 1 z.2.1 := fun z hz => by
    obtain ⟨i, hi⟩ := LPx.nx2 hl z hz
    have h := hch 4 ⟨by decide, by decide⟩ (by omega) (ujk.c (by omega)) i z.2.1 (.inr (.inl ⟨rfl, by simp⟩)) hi
    rw [hc4] at h
    exact h
  -- the processes
  have loop : ∀ (S6 : nS) (T6 : Int) (J : List Nat) (ks : List Nat), HM D V nu tn rt p J 5 S S6 T6 T6 → (∀ i ∈ J, i = 3) → KRE S6 (ks ++ kr) → S6.u = S.u → (∀ S2, T6 = NOF → NX nu S6 S2 → ((V.2.1 p 3 = none ∧ ks ++ kr = kr) ∨ ∃ q, V.2.1 p 3 = some q ∧ NS V nu S2 f S.u kr q (ks ++ kr))) → PS (fun Q => zL_X6_repeated_p26 D.1 (L - 23) (wk0 (fun w1 => wle S.w w1 → Q (.inl none) w1) (fun e w => Q (.inr e) w)) (w_p S.w 5 0 3) (V.2.1 p 4) S6.w) (fun Q => zL_X13_nameAction_p429 E' L' Q (i_ kr.length) (V.2.2.1 29 n) S6.t) (NPO D V nu tn rt p S (fun S' => KRE S' kr) (fun S' => NS V nu S' (f + 1) S.u kr p kr)) := by
    intro S6 T6 J ks H6 hJ hk6 hu6 hR6
    have H6' := H6.wk (J' := [4, 3]) (fun i hi => by rw [hJ i hi]; decide)
    refine n_list (J' := [4, 3]) (S0 := S) (S := S6) (cr := 5) (Kp := fun S1 => KRE S1 (ks ++ kr) ∧ S1.u = S.u) (G := fun q S' => NS V nu S' f S.u (ks ++ kr) q (ks ++ kr)) (P := fun z => KX V nu f 1 z.2.1) (gcl := fun x w Q => zL_X6_repeated_p26 D.1 (L - 23) (wk0 (fun w1 => wle S.w w1 → Q (.inl none) w1) (fun e w => Q (.inr e) w)) (w_p S.w 5 0 3) x w) (gtl := fun x t Q => zL_X13_nameAction_p429 E' L' Q (i_ kr.length) x t) (R := KUE) (fun _ => KUE.rf) (fun _ _ _ => KUE.tr) (fun _ _ h hk => ⟨h.1 _ hk.1, h.2.trans hk.2⟩) (fun _ _ _ _ h => h) hs (fun S2 T2 y2 j2 q n2 d2 H2 hk2 I2 V2 hC2 hP2 kc => ?_) (fun q S S' hI h hx => h.nx hI hx) H6' ⟨hk6, hu6⟩ ⟨H6.2.2.1.1, H6.2.2.1.2.1⟩ (fun e => absurd (hJ 4 (H6.2.2.1.2.2.2 4 e)) (by decide)) ⟨by decide, by decide⟩ (fun _ => List.mem_cons_self) hl hXl (fun S2 T2 H2 hk2 hx2 hR2 hsm2 hG2 => ?_)
    · have hn2 := hC2.n14 hs
      have hC3 := hC2
      refine PS_of (fun Q h => zt_X6_repeated_p26 (by omega) h) (fun Q h => zt_X13_nameAction_p429 (by omega) h) ?_
      simp only [zb_X6_repeated_p26, zb_X13_nameAction_p429, i_nat' (show n2 < 2147483648 by omega)]
      refine PS_ln (by simp) (PS_rn (i_nn (by omega)) ?_)
      have hch := IH (S2.go y2 j2) (ks ++ kr) q n2 d2 r none (L - 23 - 23) (L' - 22) I2 hC2 hP2 V2 hk2.1 (by omega) (by omega)
      refine PS_bind (gc1 := fun Q => zw D.1 (L - 23 - 23) kt_M149 [.ref (w_adr D.1.2.1 5 0), va_rf (some q)] S2.w Q) (gt1 := fun Q => zw E' (L' - 22) kt_M473 [.ref (w_adr E'.2.1 12 0), .int (i_ n2)] S2.t Q) hch (fun r1 w2 r2 t2 hb => ?_)
      have hb2 := hb.impu (A' := KUE (S2.go y2 j2)) (G' := fun S' => NS V nu S' f S.u (ks ++ kr) q (ks ++ kr)) (fun S' hu h => KUE.of hk2.1 h.1 hu) (fun S' h => by
        have e : (S2.go y2 j2).u = S.u := hk2.2
        rw [e] at h
        exact h)
      obtain ⟨S', T1, ⟨e1, e2, e3, e4⟩, hI', -⟩ := hb
      subst e1 e2 e3 e4
      obtain ⟨m, c, r', hP, htn, hnu2, -⟩ := hC3
      have hw' := hI'.nw hnu2
      have ht' := hI'.1.2.2 n2 (htn n2 hP.mem) 32 rfl
      refine PS_l (fun Q a => fun _ => a) (PS_r (fun Q a => fun _ => a) (PS_lex q rfl (PS_land hw'.1 (PS_rand (hI'.1.2.1.i rfl hn2) ?_))))
      rw [hw'.2.1 7 (by decide), ht']
      exact kc _ _ _ _ hb2
    · refine PS_of (fun Q h => zt_X6_repeated_p26 (by omega) h) (fun Q h => zt_X13_nameAction_p429 (by omega) h) ?_
      simp only [zb_X6_repeated_p26, zb_X13_nameAction_p429, zb_X13_nameAction_p697]
      refine PS_lp trivial (PS_rp (by decide) (PS_l (fun Q a => fun _ => a) ?_))
      refine n_aer hI hk hnu hm h26 H2 (by decide) hk2.1 hk2.2 (fun S3 e hx3 => ⟨rfl, ks ++ kr, hR6 S3 (hG2 e).1 (hx2.tr hx3 (.inl (hk2.2.trans hu6.symm))), fun i q hq => ?_⟩)
      obtain ⟨z, hz, e2⟩ := LPx.nx1 hl hq
      rw [← e2]
      exact ((hG2 e).2 z hz).nx H2.1 hx3
  refine PS_of (fun Q h => zt_X6_action_p0 (by omega) h) (fun Q h => zt_X13_nameAction_p0 (by omega) h) ?_
  simp only [zb_X6_action_p0, zb_X13_nameAction_p0, zb_X6_action_p208, i_nat' (show n < 2147483648 by omega), ht 26 rfl, h26, h56, ht 28 rfl]
  refine PS_lex p rfl (PS_land hw.1 (PS_lex 43 (zO_k hs.1.1 (by decide) ((hw.2.1 0 (by decide)).trans hk0) rfl) ?_))
  refine PS_rand (hT.i rfl hm) ?_
  repeat (first | refine PS_lp (by decide) ?_ | refine PS_ln (by decide) ?_)
  iterate 6 refine PS_rn (by decide) ?_
  refine PS_rp (by decide) (PS_rand (hT.i rfl hm) ?_)
  refine PS_l (fun Q h => zt_X6_repeated_p0 (by omega) h) ?_
  simp only [zb_X6_repeated_p0]
  refine PS_lex p rfl (PS_land hw.1 ?_)
  simp only [hw.2.1 3 (by decide)]
  obtain ⟨H5a, hx5a⟩ := H.i10 (x := w_i S.w 5 0 4) (.inl hk0)
  obtain ⟨S5, hw5, ht5, hn5, hx5, H5⟩ : ∃ S5 : nS, S5.w = ws_i S.w 14 p 10 (w_i S.w 5 0 4) ∧ S5.t = S.t ∧ NDC S S5 ∧ NX nu (S.at p) S5 ∧ HM D V nu tn rt p [] 5 S S5 NOF NOF := ⟨(S.at p).wt (ws_i S.w 14 p 10 (w_i S.w 5 0 4)) S.t, rfl, rfl, NDC.rf (S := S), hx5a, H5a⟩
  simp only [← hw5, ← ht5]
  have hk5 : KRE S5 kr := hk.nd hn5
  have hu5 : S5.u = S.u := congrArg Prod.fst hn5.2.2.2
  have e3 : w_p S.w 5 0 3 = w_p S.w 5 0 3 := rfl
  rcases hrep with ⟨g1, g2⟩ | ⟨⟨qa, na, hqa, h28, hCa⟩, hlen⟩
  · simp only [g1, g2]
    refine PS_l (fun Q h => zt_X6_replicator_p0 (by omega) h) ?_
    simp only [zb_X6_replicator_p0]
    refine PS_ln (by simp) (PS_l (fun Q a => fun _ => a) (PS_rp (by decide) ?_))
    have hwp := H5.1.nw hnu
    have htp := H5.1.1.2.2 n htm
    simp only [zb_X13_nameAction_p422, i_nat' (show n < 2147483648 by omega), htp 29 rfl, hwp.2.1 4 (by decide)]
    refine PS_rand (H5.1.1.2.1.i rfl hm) ?_
    exact loop S5 NOF [] [] H5 (fun i hi => absurd hi List.not_mem_nil) hk5 hu5 (fun S2 _ _ => .inl ⟨g1, rfl⟩)
  · have hXa := hch 3 ⟨by decide, by decide⟩ (by omega) (ujk.c (by omega)) 0 qa (.inl rfl) hqa
    rw [hc3] at hXa
    cases f with
    | zero => exact hXa.elim
    | succ g =>
      obtain ⟨ra, kda, hnua, hma, hra, h26a, hcla⟩ := hXa.nb ⟨by decide, by decide⟩ hCa
      have hkda : kda = 20 := by unfold cok at hcla; omega
      subst hkda
      simp only [hqa, h28]
      have hnk := hCa.nk hs
      obtain ⟨I4, V4⟩ := H5.go hs List.not_mem_nil ⟨by decide, by decide⟩ hqa hnk.1 hnk.2
      refine PS_rn (i_nn (by omega)) (PS_rand (by rw [ht5]; exact hT.i rfl hm) ?_)
      have hch2 := n_rep (E' := E') (L := L - 23 - 21) (L' := L' - 21) hs I4 hCa h26a hXa V4 hk5 (by omega) (by omega)
      refine PS_bind (gc1 := fun Q => zw D.1 (L - 23 - 21) kt_M152 [.ref (w_adr D.1.2.1 5 0), va_rf (some qa)] S5.w Q) (gt1 := fun Q => zw E' (L' - 21) kt_M484 [.ref (w_adr E'.2.1 12 0), .int (i_ na)] S5.t Q) hch2 (fun r1 w2 r2 t2 hb => ?_)
      obtain ⟨S', T1, ⟨e1, e2, e3, e4⟩, HB, hx, hq, hT1, ⟨hu, hsm⟩, ⟨s, hA⟩, hG⟩ := H5.bk (J' := [3]) ⟨H5.2.2.1.1, H5.2.2.1.2.1⟩ ⟨fun _ => List.mem_cons_self, fun i hi => absurd hi List.not_mem_nil⟩ hb
      subst e1 e2 e3 e4
      have hwp := HB.1.nw hnu
      have htp := HB.1.1.2.2 n htm
      refine PS_l (fun Q a => fun _ => a) (PS_r (fun Q a => fun _ => a) ?_)
      simp only [zb_X13_nameAction_p422, i_nat' (show n < 2147483648 by omega), htp 29 rfl, hwp.2.1 4 (by decide)]
      refine PS_rand (HB.1.1.2.1.i rfl hm) ?_
      exact loop S' _ [3] [s] HB (fun i hi => by simpa using hi) hA (hu.trans hu5) (fun S2 e hx2 => .inr ⟨qa, hqa, NS.nx HB.1 hx2 ((hG (min_nof (.inl rfl) hT1 e).2).ns hnua hma h26a hA)⟩)
end NSQ
