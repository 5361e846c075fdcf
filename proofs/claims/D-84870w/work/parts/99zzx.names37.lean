/-! ===== ROUNDS, part 39: PAR ===== -/
section NPP
variable {D : pD} {V : pV} {nu : pN} {tn : Nat → Prop} {rt p q n nq m r d dq j k k' k0 f s u un y A c cr crq kd : Nat} {J J' Jq : List Nat} {S S' S0 S1 : nS} {w w2 w' t t' : wS} {v v2 : Option Nat} {x x1 x2 z y9 : Int32} {T T' T1 : Int} {kr ks : List Nat} {L L' Lc Ls Lk : Nat} {E' : zE} {ol : Option Int32} {Q : kx_Rs → wS → Prop} {Φ : kx_Rs → wS → kx_Rs → wS → Prop}
/-- the name of a REPLICATOR is declared -/
theorem n_rcore {Kc Kt : (kx_Rs → wS → Prop) → wS → Prop} {Xc Xt Zt : (kx_Rs → wS → Prop) → String → wS → Prop} (hs : STR D V nu tn rt) (H : HM D V nu tn rt p J cr S0 S T T) (hcr : 2 ≤ cr) (hsl : S.sn + S0.vs.length + 1 ≤ S0.sn + S.vs.length) (hk : KRE S kr) (hnu : nu p = some (n, r, d)) (hm : n < 14000) (h26 : V.2.2.1 26 n = i_ (20 : Nat)) (hnm : nmr D y9 (V.2.2.1 30 n)) (hLc : 200 ≤ Lc) (hLs : 60 ≤ Ls) (hLk : 40 ≤ Lk)
    (kk : ∀ (S4 : nS) (s : Nat), HM D V nu tn rt p J (cr - 2 - (cr - 2) % 2) S0 S4 T T → KRE S4 (s :: kr) → (S4.u = S.u ∧ S4.un = S.un) → NX nu S S4 → SYM S4 p n s → w_a S4.t 12 0 46 s = i_ (9 : Nat) → PS (fun Q => Kc Q S4.w) (fun Q => Kt Q S4.t) Φ) :
    PS (fun Q => zw D.1 Lc kt_M137 [.ref (w_adr D.1.2.1 5 0), va_rf (some (D.1.1.1 55)), .int y9, .int (V.2.2.1 27 n)] S.w (wkr (fun v w1 => wle S.w w1 → (∃ p8, v = some p8 ∧ w_l (ws_p w1 14 p 16 v) D.1.2.1 15 p8 ∧ Kc Q (ws_i (ws_i (ws_p w1 14 p 16 v) 15 p8 5 1) 15 p8 13 1))) (Xc Q))) (fun Q => zw E' Ls kt_M550 [.ref (w_adr E'.2.1 12 0), .int (V.2.2.1 30 n), .int 9, .int 0, .int (-1), .int (i_ n), .int (V.2.2.1 27 n)] S.t (wk1 (fun v w1 => wle S.t w1 → (kx_inb (i_ n) (w_n w1 12 0 31) = true ∧ (kx_inb (i_ n) (w_n w1 12 0 31) = true ∧ (kx_inb (w_a (ws_a w1 12 0 31 n v) 12 0 31 n) (w_n w1 12 0 55) = true ∧ (kx_inb (i_ n) (w_n w1 12 0 31) = true ∧ zw E' Lk kt_M455 [.ref (w_adr E'.2.1 12 0), .int (w_a (ws_a w1 12 0 31 n v) 12 0 31 n)] (ws_a (ws_a w1 12 0 31 n v) 12 0 55 (w_a (ws_a w1 12 0 31 n v) 12 0 31 n).toNatClampNeg (i_ n)) (wk0 (fun w3 => wle (ws_a (ws_a w1 12 0 31 n v) 12 0 55 (w_a (ws_a w1 12 0 31 n v) 12 0 31 n).toNatClampNeg (i_ n)) w3 → Kt Q w3) (Zt Q))))))) (Xt Q))) Φ := by
  refine PS_dcl H hs hcr hLc (fun A al' w2 H3 hsd hA hx3 h14 => ?_)
  have hvl := hs.2.2.2.2.2.2 S.vs H.1.2.2.2.2.2.2.2.1.1 (fun a ha => (H.1.2.2.2.2.2.2.2.1.2 a ha).1)
  have hsn := H.1.2.2.1.1.2
  have hun := H.1.2.2.1.2.1.2
  have hu := H.1.2.2.1.2.2.2
  refine PS_r1 (fun Q hq => t_symbol (S := S.sy w2 al') H3.1 (by show S.sn < 6050; omega) (by show S.u < 6100; omega) hLs hq) ?_
  have hTs : DTs V tn (S.sy w2 al') n (tsy S.t S.sn S.u (V.2.2.1 30 n) (i_ (9 : Nat)) 0 (-1) (i_ n) (V.2.2.1 27 n)) := DTs.t0 (S := S.sy w2 al') (by decide) H3.1.1.2
  have hTs1 := hTs.a31 (x := i_ S.sn)
  have hTs2 := hTs1.a5 (k := 55) (x := i_ n) (.inr (.inr rfl))
  simp only [show (S.sy w2 al').t = S.t from rfl, show (S.sy w2 al').sn = S.sn from rfl, show (S.sy w2 al').u = S.u from rfl, show (9 : Int32) = i_ (9 : Nat) from rfl]
  generalize hts : tsy S.t S.sn S.u (V.2.2.1 30 n) (i_ (9 : Nat)) 0 (-1) (i_ n) (V.2.2.1 27 n) = ts at hTs hTs1 hTs2 ⊢
  have hs9 := hts ▸ (tsy_s (t := S.t) (s := S.sn) (u := S.u) (x1 := V.2.2.1 30 n) (x2 := i_ (9 : Nat)) (x3 := 0) (x4 := -1) (x5 := i_ n) (x6 := V.2.2.1 27 n))
  have e31 : w_a (ws_a ts 12 0 31 n (i_ S.sn)) 12 0 31 n = i_ S.sn := by rw [Raa, if_pos ⟨rfl, rfl, rfl, rfl⟩]
  simp only [e31, i_nat' (show S.sn < 2147483648 by omega)]
  have hTt : TLN ts := hTs.2.2.2.2.2.2.1.1
  have hkt : S.kt.length ≤ S.sn := H.1.2.2.2.2.2.1.2.2.2.1
  have h56 : w_i ts 12 0 56 = i_ S.kt.length := hTs.2.2.2.2.2.1.1.2.trans H.1.2.2.2.2.2.1.2.1
  refine PS_rand (hTt.i rfl hm) (PS_rand (hTt.i rfl hm) (PS_rand (hTt.sy rfl (by omega)) (PS_rand (hTt.i rfl hm) ?_)))
  refine PS_r0 (fun Q hq => t_know (m := S.kt.length) hTs2.2.2.2.2.2.2.1.1 (by omega) h56 hLk hq) ?_
  have hDc : DCf D (S.sy w2 al') p A (ws_i (ws_i (ws_p (dcl w2 A) 14 p 16 (some A)) 15 A 5 1) 15 A 13 1) := (((DCf.d0 (S := S.sy w2 al') H3.1.2.1.1).qz).i (by decide)).i (by decide)
  refine PS_l (fun Q a => wkr_k (x := some A) a) (PS_lex A rfl (PS_land hA.2.2 ?_))
  obtain ⟨⟨d0, d1, d2⟩, ⟨d4, d15, d17, d18, d19, d20⟩, d3, d5, d6, d7, d8, d9, d10, d11, d12, d13, d14, d16, -⟩ := hsd
  have hR : RS1 D V nu (ws_i (ws_i (ws_p (dcl w2 A) 14 p 16 (some A)) 15 A 5 1) 15 A 13 1) (tkn (ws_a (ws_a ts 12 0 31 n (i_ S.sn)) 12 0 55 S.sn (i_ n)) S.kt.length (i_ S.sn)) (ysU S.ys S.sn A) S.sn A := by
    have ek : ∀ k j, k ≠ 31 → k ≠ 55 → k ≠ 57 → w_a (tkn (ws_a (ws_a ts 12 0 31 n (i_ S.sn)) 12 0 55 S.sn (i_ n)) S.kt.length (i_ S.sn)) 12 0 k j = w_a ts 12 0 k j := fun k j h1 h2 h3 => by
      unfold tkn
      rw [Rai, Raa, if_neg (fun z => h3 z.1), Raa, if_neg (fun z => h2 z.1), Raa, if_neg (fun z => h1 z.1)]
    have e55 : w_a (tkn (ws_a (ws_a ts 12 0 31 n (i_ S.sn)) 12 0 55 S.sn (i_ n)) S.kt.length (i_ S.sn)) 12 0 55 S.sn = i_ n := by
      unfold tkn
      rw [Rai, Raa, if_neg (fun z => absurd z.1 (by decide)), Raa, if_pos ⟨rfl, rfl, rfl, rfl⟩]
    refine ⟨⟨by omega, hA.2.2⟩, ?_, 9, by decide, ?_, ?_, ?_, .inl ⟨by decide, 0, by decide, ?_, ?_, ?_⟩, .inl ⟨by decide, false, ?_, ?_, fun _ => rfl⟩, .inr ⟨n, p, r, d, 20, ⟨?_, hm, hnu, h26⟩, .inr (.inr (.inr (.inr (.inr (.inr (.inr (.inr (.inr (.inr (.inl ⟨rfl, rfl, ⟨?_, ?_, ?_, ?_⟩, ?_⟩))))))))))⟩⟩
    · rw [ek 45 _ (by decide) (by decide) (by decide), hs9.1.1]
      refine .inl ?_
      unfold dcl
      simp only [Rii, Rgi, Rpi, Rai, Rbi, Rri, Rni, Rdi, Roi, Rti, Rzi, RCi, RSi, Rip, Rgp, Rpp, Rap, Rbp, Rrp, Rnp, Rdp, Rop, Rtp, Rzp, RCp, RSp]
      simp [d1]
      exact hnm
    · rw [ek 46 _ (by decide) (by decide) (by decide), hs9.1.2.1]
    · unfold dcl
      simp only [Rii, Rgi, Rpi, Rai, Rbi, Rri, Rni, Rdi, Roi, Rti, Rzi, RCi, RSi, Rip, Rgp, Rpp, Rap, Rbp, Rrp, Rnp, Rdp, Rop, Rtp, Rzp, RCp, RSp]
      simp [d0, wc]
    · unfold dcl
      simp only [Rii, Rgi, Rpi, Rai, Rbi, Rri, Rni, Rdi, Roi, Rti, Rzi, RCi, RSi, Rip, Rgp, Rpp, Rap, Rbp, Rrp, Rnp, Rdp, Rop, Rtp, Rzp, RCp, RSp]
      simp [bI]
    · unfold dcl
      simp only [Rii, Rgi, Rpi, Rai, Rbi, Rri, Rni, Rdi, Roi, Rti, Rzi, RCi, RSi, Rip, Rgp, Rpp, Rap, Rbp, Rrp, Rnp, Rdp, Rop, Rtp, Rzp, RCp, RSp]
      simp
      rfl
    · unfold dcl
      simp only [Rii, Rgi, Rpi, Rai, Rbi, Rri, Rni, Rdi, Roi, Rti, Rzi, RCi, RSi, Rip, Rgp, Rpp, Rap, Rbp, Rrp, Rnp, Rdp, Rop, Rtp, Rzp, RCp, RSp]
      simp [d15]
    · rw [ek 47 _ (by decide) (by decide) (by decide), hs9.1.2.2.1]
      rfl
    · unfold dcl
      simp only [Rii, Rgi, Rpi, Rai, Rbi, Rri, Rni, Rdi, Roi, Rti, Rzi, RCi, RSi, Rip, Rgp, Rpp, Rap, Rbp, Rrp, Rnp, Rdp, Rop, Rtp, Rzp, RCp, RSp]
      simp [d9, bI]
    · rw [ek 48 _ (by decide) (by decide) (by decide), hs9.1.2.2.2.1]
      rfl
    · rw [ek 49 _ (by decide) (by decide) (by decide), hs9.1.2.2.2.2.1]
    · unfold dcl
      simp only [Rii, Rgi, Rpi, Rai, Rbi, Rri, Rni, Rdi, Roi, Rti, Rzi, RCi, RSi, Rip, Rgp, Rpp, Rap, Rbp, Rrp, Rnp, Rdp, Rop, Rtp, Rzp, RCp, RSp]
      simp [d11]
    · unfold dcl
      simp only [Rii, Rgi, Rpi, Rai, Rbi, Rri, Rni, Rdi, Roi, Rti, Rzi, RCi, RSi, Rip, Rgp, Rpp, Rap, Rbp, Rrp, Rnp, Rdp, Rop, Rtp, Rzp, RCp, RSp]
      simp [d14]
    · rw [ek 53 _ (by decide) (by decide) (by decide), hs9.2.2.2.1]
    · rw [ek 54 _ (by decide) (by decide) (by decide), hs9.2.2.2.2.1]
      rfl
    · exact e55
  obtain ⟨H4, hx4⟩ := H3.dk hA hsl hnu hm hs hDc hTs2 hR
  refine kk ((S.sy w2 al').de (ws_i (ws_i (ws_p (dcl w2 A) 14 p 16 (some A)) 15 A 5 1) 15 A 13 1) (tkn (ws_a (ws_a ts 12 0 31 n (i_ S.sn)) 12 0 55 S.sn (i_ n)) S.kt.length (i_ S.sn)) A) S.sn H4 ⟨by show S.sn :: S.kc = _; rw [hk.1], by show S.sn :: S.kt = _; rw [hk.2]⟩ ⟨rfl, rfl⟩ (hx3.tr hx4 (.inl rfl)) ⟨A, ?_, ?_, ?_⟩ ?_
  · show ysU S.ys S.sn A S.sn = some A
    unfold ysU
    rw [if_pos rfl]
  · show w_p (ws_i (ws_i (ws_p (dcl w2 A) 14 p 16 (some A)) 15 A 5 1) 15 A 13 1) 14 p 16 = some A
    rw [Rpi, Rpi, Rpp, if_pos ⟨rfl, rfl, rfl⟩]
  · show w_a (tkn (ws_a (ws_a ts 12 0 31 n (i_ S.sn)) 12 0 55 S.sn (i_ n)) S.kt.length (i_ S.sn)) 12 0 31 n = i_ S.sn
    unfold tkn
    rw [Rai, Raa, if_neg (fun z => absurd z.1 (by decide)), Raa, if_neg (fun z => absurd z.1 (by decide)), Raa, if_pos ⟨rfl, rfl, rfl, rfl⟩]
  · show w_a (tkn (ws_a (ws_a ts 12 0 31 n (i_ S.sn)) 12 0 55 S.sn (i_ n)) S.kt.length (i_ S.sn)) 12 0 46 S.sn = i_ (9 : Nat)
    unfold tkn
    rw [Rai, Raa, if_neg (fun z => absurd z.1 (by decide)), Raa, if_neg (fun z => absurd z.1 (by decide)), Raa, if_neg (fun z => absurd z.1 (by decide)), hs9.1.2.1]
theorem NX.fp1 (h : NX nu S S') : NX nu S (S'.fi p) := ⟨h.1, fun b hb => ⟨.inl (h.2.1 b hb).1, (h.2.1 b hb).2⟩, h.2.2⟩
/-- PAR -/
theorem n_A11 (hs : STR D V nu tn rt) (IH : NPA D V nu tn rt E' kt_M149 kt_M473 1 f) (hI : IVN D V nu tn rt S) (hC : CHx V tn nu k0 ol n p d) (h26 : V.2.2.1 26 n = i_ (11 : Nat)) (hK : KX V nu (f + 1) 2 p) (hv : VOK V nu rt S p) (hk : KRE S kr) (hL : 75 * k0 + 340 ≤ L) (hL' : 75 * k0 + 340 ≤ L') : PS (fun Q => zw D.1 L kt_M131 [.ref (w_adr D.1.2.1 5 0), va_rf (some p)] S.w Q) (fun Q => zw E' L' kt_M471 [.ref (w_adr E'.2.1 12 0), .int (i_ n)] S.t Q) (NPO D V nu tn rt p S (fun S' => KRE S' kr) (fun S' => NS V nu S' (f + 1) S.u kr p kr)) := by
  obtain ⟨r, hnu, hm, -, hr, -⟩ := hC.nb h26 ⟨by decide, by decide⟩
  obtain ⟨kd, h26', hcl, hch⟩ := hK.at hnu hm
  have hkd : kd = 11 := by
    have := (i_eq (by unfold cok at hcl; omega) (by unfold cok at hcl; omega)).mp (h26.symm.trans h26')
    omega
  subst hkd
  obtain ⟨htm, hl2, hF⟩ := hs.lf hnu hm h26 (by decide)
  have H := HM.start hI hv
  have hw := hI.nw hnu
  have ht := hI.1.2.2 n htm
  have hT := hI.1.2.1
  have hkA : KRE (S.at p) kr := hk
  have h56 : w_i S.t 12 0 56 = i_ kr.length := hI.e56 hk
  obtain ⟨hk0, l, hl, -, hrep⟩ := hF
  have hc3 : ccl (V.1 p 10) (V.1 p 11) 11 3 = 20 := rfl
  have hc4 : ccl (V.1 p 10) (V.1 p 11) 11 4 = 1 := rfl
  have hXl : ∀ z ∈ l, KX V nu f 1 z.2.1 := fun z hz => by
    obtain ⟨i, hi⟩ := LPx.nx2 hl z hz
    have h := hch 4 ⟨by decide, by decide⟩ (by omega) (ujk.c (by omega)) i z.2.1 (.inr (.inl ⟨rfl, by simp⟩)) hi
    rw [hc4] at h
    exact h
  have h62 : w_i S.t 12 0 62 = i_ S.u := hI.2.2.1.2.2.1
  have h44 : w_i S.t 12 0 44 = i_ S.sn := hI.2.2.1.1.1
  refine PS_of (fun Q h => zt_X6_action_p0 (by omega) h) (fun Q h => zt_X13_nameAction_p0 (by omega) h) ?_
  simp only [zb_X6_action_p0, zb_X13_nameAction_p0, zb_X6_action_p208, zb_X13_nameAction_p697, i_nat' (show n < 2147483648 by omega), ht 26 rfl, h26, h56]
  refine PS_lex p rfl (PS_land hw.1 (PS_lex 44 (zO_k hs.1.1 (by decide) ((hw.2.1 0 (by decide)).trans hk0) rfl) ?_))
  refine PS_rand (hT.i rfl hm) ?_
  repeat (first | refine PS_lp (by decide) ?_ | refine PS_ln (by decide) ?_)
  iterate 7 refine PS_rn (by decide) ?_
  refine PS_rp (by decide) ?_
  refine PS_of (fun Q h => zt_X6_repeated_p0 (by omega) h) (fun Q h => zt_X13_namePar_p0 (by omega) h) ?_
  simp only [zb_X6_repeated_p0, zb_X13_namePar_p0, i_nat' (show n < 2147483648 by omega), ht 28 rfl, h62, h44]
  refine PS_lex p rfl (PS_land hw.1 (PS_rand (hT.i rfl hm) (PS_rand (hT.i rfl hm) ?_)))
  simp only [hw.2.1 3 (by decide)]
  obtain ⟨S5, z, hw5, ht5, hk5, hu5, hck5, hz5, H5⟩ : ∃ (S5 : nS) (z : Nat), S5.w = ws_i S.w 14 p 10 (w_i S.w 5 0 4) ∧ S5.t = ws_a S.t 12 0 66 n (i_ S.sn) ∧ KRE S5 kr ∧ S5.u = S.u ∧ (S.sn, (z : Int)) ∈ S5.ck ∧ w_i S.w 5 0 4 = i_ z ∧ HM D V nu tn rt p [] 5 S S5 NOF NOF := by
    obtain ⟨H5a, -⟩ := H.i10 (x := w_i S.w 5 0 4) (.inr (.inl hk0))
    have H5b := H5a.ta (x := i_ S.sn) hs.2.2.2.1 hnu hm (.inr (.inr (.inl rfl)))
    obtain ⟨z, hz, hH, -⟩ := H5b.cp
    refine ⟨_, z, ?_, ?_, ?_, ?_, ?_, ?_, hH⟩
    · rfl
    · rfl
    · exact hk
    · rfl
    · exact List.mem_cons_self
    have hz : w_i (ws_i S.w 14 p 10 (w_i S.w 5 0 4)) 5 0 4 = i_ z := hz
    rw [Rii, if_neg (fun z => absurd z.2.1 (by decide))] at hz
    exact hz
  have e66 : w_a S5.t 12 0 66 n = i_ S.sn := by rw [ht5, Raa, if_pos ⟨rfl, rfl, rfl, rfl⟩]
  have e10 : w_i S5.w 14 p 10 = i_ z := by rw [hw5, Rii, if_pos ⟨rfl, rfl, rfl⟩, hz5]
  have hmk : ∀ S2 : nS, SMS S5 S2 → SMN nu S5 S2 p → ∃ a z : Nat, (a, (z : Int)) ∈ S2.ck ∧ w_a S2.t 12 0 66 n = i_ a ∧ w_i S2.w 14 p 10 = i_ z := fun S2 h1 h2 => ⟨S.sn, z, h1.2.2.2.2.2 _ hck5, (h2.2 n r d hnu 66 (.inr (.inr (.inl rfl)))).trans e66, h2.1.2.trans e10⟩
  simp only [← hw5, ← ht5]
  rcases hrep with ⟨g1, g2⟩ | ⟨⟨qa, na, hqa, h28, hCa⟩, hlen⟩
  · simp only [g1, g2]
    refine PS_l (fun Q h => zt_X6_replicator_p0 (by omega) h) ?_
    simp only [zb_X6_replicator_p0]
    refine PS_ln (by simp) (PS_l (fun Q a => fun _ => a) (PS_rp (by decide) (PS_rand (hT.i rfl hm) ?_)))
    have hw5' := H5.1.nw hnu
    simp only [ht 29 rfl, hw5'.2.1 4 (by decide)]
    refine n_parl (S0 := S) (S := S5) (J' := [4]) (K := fun Q => wk0 (fun w1 => wle S.w w1 → Q (.inl none) w1) (fun e w => Q (.inr e) w)) (KT := fun Q => wk0 (fun w1 => wle S.t w1 → Q (.inl none) (ws_i w1 12 0 56 (i_ kr.length))) (fun e w => Q (.inr e) w)) hs IH (by omega) (by omega) (H5.wk (fun i hi => absurd hi List.not_mem_nil)) hk5 hu5 ⟨H5.2.2.1.1, H5.2.2.1.2.1⟩ (fun e => absurd (H5.2.2.1.2.2.2 4 e) List.not_mem_nil) ⟨by decide, by decide⟩ (fun _ => List.mem_cons_self) hl hXl (fun S6 T6 H6 hk6 hu6 hx6 hsm6 hG6 => ?_)
    refine PS_of (fun Q h => zt_X6_repeated_p26 (by omega) h) (fun Q h => zt_X13_namePar_p158 (by omega) h) ?_
    simp only [zb_X6_repeated_p26, zb_X13_namePar_p158]
    refine PS_lp trivial (PS_rp (by decide) (PS_l (fun Q a => fun _ => a) (PS_r (fun Q a => fun _ => a) ?_)))
    refine n_aer2 (ks := []) hI hk hnu hm h26 H6 (by decide) hk6 hu6 (fun S7 e hx7 hsm7 => ⟨rfl, hmk S7 (hx6.tr hx7 (.inl (hu6.trans hu5.symm))).1 ((hsm6 p H5.2.2.1.1).tr hsm7), .inl ⟨g1, fun i q hq => ?_⟩⟩)
    obtain ⟨z', hz', e2⟩ := LPx.nx1 hl hq
    obtain ⟨x, hU, hN⟩ := (hG6 e).2 z' hz'
    rw [← e2]
    exact ⟨x, hU.nx hx7 hN.dn, hN.nx H6.1 hx7⟩
  · have hXa := hch 3 ⟨by decide, by decide⟩ (by omega) (ujk.c (by omega)) 0 qa (.inl rfl) hqa
    rw [hc3] at hXa
    cases f with
    | zero => exact hXa.elim
    | succ g =>
    obtain ⟨ra, kda, hnua, hma, hra, h26a, hcla⟩ := hXa.nb ⟨by decide, by decide⟩ hCa
    have hkda : kda = 20 := by unfold cok at hcla; omega
    subst hkda
    obtain ⟨kda, h26a', hcla', hcha⟩ := hXa.at hnua hma
    have hkda : kda = 20 := by unfold cok at hcla'; omega
    subst hkda
    obtain ⟨htma, hla, hFa⟩ := hs.lf hnua hma h26a (by decide)
    obtain ⟨-, hka, hnma, ⟨qc, nc, hqc, hc28, hCc⟩, qe, ne, hqe, he29, hCe⟩ := hFa
    have hXc := hcha 3 ⟨by decide, by decide⟩ (by omega) (ujk.c (by omega)) 0 qc (.inl rfl) hqc
    have hXe := hcha 4 ⟨by decide, by decide⟩ (by omega) (ujk.c (by omega)) 0 qe (.inl rfl) hqe
    have hc0 : ∀ j, ccl (V.1 qa 10) (V.1 qa 11) 20 j = 0 := fun j => rfl
    rw [hc0] at hXc hXe
    cases l with
    | nil => exact absurd hlen (by decide)
    | cons z0 l =>
    cases l with
    | cons z1 l => exact absurd hlen (by simp)
    | nil =>
    obtain ⟨n0, q0, d0⟩ := z0
    have hX0 : KX V nu (g + 1) 1 q0 := hXl _ List.mem_cons_self
    have hl0 := hl
    obtain ⟨hq0, h29, hC0, hend, -⟩ := hl
    have hq0 : V.2.1 p 4 = some q0 := hq0
    have h29 : V.2.2.1 29 n = i_ n0 := h29
    have hC0 : CHx V tn nu r none n0 q0 d0 := hC0
    have hend : V.2.1 q0 7 = none := hend
    obtain ⟨r0, kd0, hnu0, hm0, hr0, h260, hcl0⟩ := hX0.nb ⟨by decide, by decide⟩ hC0
    have hnk := hCa.nk hs
    have hnk0 := hC0.nk hs
    obtain ⟨I6, V6⟩ := H5.go hs List.not_mem_nil ⟨by decide, by decide⟩ hqa hnk.1 hnk.2
    have Hq := HM.start I6 V6
    have ht5a := H5.1.1.2.2 na htma
    have hta := hI.1.2.2 na htma
    have hw5a := H5.1.nw hnua
    simp only [hqa, h28, i_nat' (show na < 2147483648 by omega), hta 28 rfl, hc28]
    refine PS_l (fun Q h => zt_X6_replicator_p0 (by omega) h) ?_
    simp only [zb_X6_replicator_p0]
    refine PS_lp (by simp) (PS_lex qa rfl (PS_land hw5a.1 (PS_rn (i_nn (by omega)) (PS_rand (hT.i rfl hm) (PS_rand (hT.i rfl hma) ?_)))))
    simp only [hw5a.2.1 3 (by decide), hqc]
    refine n_ch (S := (S5.go p 3).at qa) (p := qa) (Lx := L - 23 - 21 - 21) (Lt := L' - 23 - 24) (n_EX hs g) hs Hq hk5 List.not_mem_nil ⟨by decide, by decide⟩ hqc hCc hXc (by omega) (by omega) (fun S6 T6 H6 hT6 hn6 hx6 hsm6 hG6 => ?_)
    have hw6 := H6.1.nw hnua
    have ht6 := H6.1.1.2.2 na htma
    have ht6n := H6.1.1.2.2 n htm
    simp only [hw6.2.1 4 (by decide), ht6n 28 rfl, h28, i_nat' (show na < 2147483648 by omega), ht6 29 rfl, hqe, he29]
    refine PS_rand (H6.1.1.2.1.i rfl hm) (PS_rand (H6.1.1.2.1.i rfl hma) ?_)
    refine n_ch (Lx := L - 23 - 21 - 21) (Lt := L' - 23 - 24) (n_EX hs g) hs H6 (KRE.nd (S := S5) hk5 hn6) (by decide) ⟨by decide, by decide⟩ hqe hCe hXe (by omega) (by omega) (fun S7 T7 H7 hT7 hn7 hx7 hsm7 hG7 => ?_)
    have hk7 : KRE S7 kr := KRE.nd (S := S6) (KRE.nd (S := S5) hk5 hn6) hn7
    have hu7 : S7.u = S.u := ((congrArg Prod.fst hn7.2.2.2).trans (congrArg Prod.fst hn6.2.2.2)).trans hu5
    have hw7 := H7.1.nw hnua
    have ht7 := H7.1.1.2.2 na htma
    have ht7n := H7.1.1.2.2 n htm
    have hvl := hs.2.2.2.2.2.2 S7.vs H7.1.2.2.2.2.2.2.2.1.1 (fun a ha => (H7.1.2.2.2.2.2.2.2.1.2 a ha).1)
    have hun7 := H7.1.2.2.1.2.1.2
    have hsl7 := H7.2.2.2.1.1.1
    refine PS_r1 (fun Q hq => t_newUnit H7.1 (by omega) (by omega) hq) ?_
    obtain ⟨H8, hx8, hsm8⟩ := H7.nun hs rfl
    obtain ⟨S8, hS8⟩ : ∃ S8 : nS, S8 = S7.nu (tnv S7.t S7.un S7.u) := ⟨_, rfl⟩
    rw [← hS8] at H8 hx8 hsm8
    have hw8 : S8.w = S7.w := by rw [hS8]; rfl
    have ht8 : ws_i (tnu S7.t S7.un S7.u) 12 0 62 (i_ S7.un) = S8.t := by rw [hS8]; rfl
    have hk8 : KRE S8 kr := by rw [hS8]; exact hk7
    have hu8 : S8.u = S7.un := by rw [hS8]; rfl
    have hun8 : S8.un = S7.un + 1 := by rw [hS8]; rfl
    have hl7 : TLN (tnu S7.t S7.un S7.u) := ⟨fun k hk => H7.1.1.2.1.1 k hk, fun k hk => H7.1.1.2.1.2 k hk⟩
    have hr7 : ∀ k j, k ≠ 60 → k ≠ 61 → w_a (tnu S7.t S7.un S7.u) 12 0 k j = w_a S7.t 12 0 k j := fun k j h1 h2 => by
      unfold tnu
      rw [Rai, Raa, if_neg (fun z => h2 z.1), Raa, if_neg (fun z => h1 z.1)]
    simp only [hr7 28 n (by decide) (by decide), ht7n 28 rfl, h28, i_nat' (show na < 2147483648 by omega), hr7 30 na (by decide) (by decide), hr7 27 na (by decide) (by decide), ht7 30 rfl, ht7 27 rfl, ht8, hw7.2.2 9 (by decide), (hw7.2.2 2 (by decide)).trans hla]
    refine PS_rand (hl7.i rfl hm) (PS_rand (hl7.i rfl hma) (PS_rand (hl7.i rfl hma) ?_))
    rw [← hw8]
    refine n_rcore (S := S8) (kr := kr) hs H8 (by decide) (by rw [hS8]; exact hsl7) hk8 hnua hma h26a hnma (by omega) (by omega) (by omega) (fun S9 s H9 hk9 hu9 hx9 hy9 h469 => ?_)
    obtain ⟨H10, hx10, hq10, hT10, hsm10, hu10⟩ := HM.sub (J' := [3]) H5 ⟨fun _ => List.mem_cons_self, fun i hi => absurd hi List.not_mem_nil⟩ ⟨H5.2.2.1.1, H5.2.2.1.2.1⟩ H9 (by decide)
    obtain ⟨I11, V11⟩ := H10.go hs (by decide) ⟨by decide, by decide⟩ hq0 hnk0.1 hnk0.2
    have g11 : q0 ∉ (S9.fi qa).vs := V11.1.1
    have ht10 := H10.1.1.2.2 n htm
    have hw10 := H10.1.nw hnu
    have h62' : w_i (S9.fi qa).t 12 0 62 = i_ S8.u := by
      rw [← hu9.1]
      exact H10.1.2.2.1.2.2.1
    simp only [show S9.t = (S9.fi qa).t from rfl, show S9.w = (S9.fi qa).w from rfl, ht10 29 rfl, h29, h62', i_nat' (show n0 < 2147483648 by omega), hw10.2.1 4 (by decide), hq0]
    refine PS_rand (H10.1.1.2.1.i rfl hm) (PS_rand (H10.1.1.2.1.i rfl hm0) (PS_rand (H10.1.1.2.1.i rfl hm) ?_))
    refine PS_l (fun Q a => fun _ => a) ?_
    have e4q : w_p S9.w 14 p 4 = some q0 := (hw10.2.1 4 (by decide)).trans hq0
    simp only [show (S9.fi qa).w = S9.w from rfl, e4q]
    refine PS_l (fun Q h => zt_X6_repeated_p26 (by omega) h) ?_
    simp only [zb_X6_repeated_p26]
    refine PS_ln (by simp) ?_
    simp only [show S9.w = (S9.fi qa).w from rfl]
    obtain ⟨H12, hx12, hsm12⟩ := H10.t63 (x := i_ S8.u) hs.2.2.2.1 g11 hnu0 hm0
    obtain ⟨I13, V13⟩ := H12.go hs (by decide) ⟨by decide, by decide⟩ hq0 hnk0.1 hnk0.2
    obtain ⟨S12, hS12⟩ : ∃ S12 : nS, S12 = ((S9.fi qa).wt (S9.fi qa).w (ws_a (S9.fi qa).t 12 0 63 n0 (i_ S8.u))) := ⟨_, rfl⟩
    rw [← hS12] at H12 hx12 hsm12 I13 V13
    have hw12 : (S9.fi qa).w = S12.w := by rw [hS12]; rfl
    have ht12 : ws_a (S9.fi qa).t 12 0 63 n0 (i_ S8.u) = S12.t := by rw [hS12]; rfl
    have hk12 : KRE S12 (s :: kr) := by rw [hS12]; exact hk9
    have hu12 : S12.u = S8.u := by rw [hS12]; exact hu9.1
    have hv12 : S12.vs = (S9.fi qa).vs := by rw [hS12]; rfl
    rw [hw12, ht12]
    have hch0 := IH (S12.go p 4) (s :: kr) q0 n0 d0 r none (L - 23 - 23) (L' - 23 - 22) I13 hC0 hX0 V13 hk12 (by omega) (by omega)
    refine PS_bind (gc1 := fun Q => zw D.1 (L - 23 - 23) kt_M149 [.ref (w_adr D.1.2.1 5 0), va_rf (some q0)] S12.w Q) (gt1 := fun Q => zw E' (L' - 23 - 22) kt_M473 [.ref (w_adr E'.2.1 12 0), .int (i_ n0)] S12.t Q) hch0 (fun r1 w2 r2 t2 hb => ?_)
    obtain ⟨S13, T13, ⟨e1, e2, e3, e4⟩, H13, hx13, hq13, hT13, ⟨hu13, hsm13⟩, ⟨hA1, -, hA3⟩, hG13⟩ := H12.bk (J' := [4, 3]) ⟨H12.2.2.1.1, H12.2.2.1.2.1⟩ ⟨fun _ => List.mem_cons_self, fun i hi => List.mem_cons_of_mem _ hi⟩ hb
    subst e1 e2 e3 e4
    have hw13 := H13.1.nw hnu0
    have hu13' : S13.u = S8.u := hu13.trans hu12
    refine PS_l (fun Q a => fun _ => a) (PS_r (fun Q a => fun _ => a) (PS_lex q0 rfl (PS_land hw13.1 ?_)))
    simp only [hw13.2.1 7 (by decide), hend]
    refine PS_l (fun Q h => zt_X6_repeated_p26 (by omega) h) ?_
    simp only [zb_X6_repeated_p26]
    refine PS_lp trivial (PS_l (fun Q a => fun _ => a) (PS_r (fun Q a => fun _ => a) ?_))
    -- the end: names and unit as before
    have hxc : CHN S.w S.ys kr (w_p S.w 5 0 3) := by
      have := hI.2.2.2.2.2.1.1.1
      rw [hk.1] at this
      exact this
    have hyc : ∀ s ∈ kr, S.ys s = S13.ys s := fun s hs => by
      have h2 : S.ys s ≠ none := hI.2.2.2.2.2.1.1.2 s (by rw [hk.1]; exact hs)
      cases e : S.ys s with
      | none => exact absurd e h2
      | some A => exact ((H13.2.1.2.1.1 s A e).1).symm
    obtain ⟨S15, hw15, ht15, hk15, hu15, H15, hx15, hsm15⟩ : ∃ S15 : nS, S15.w = ws_p S13.w 5 0 3 (w_p S.w 5 0 3) ∧ S15.t = ws_i (ws_i S13.t 12 0 62 (i_ S.u)) 12 0 56 (i_ kr.length) ∧ KRE S15 kr ∧ S15.u = S.u ∧ HM D V nu tn rt p [4, 3] 5 S S15 (min (min NOF (min (min NOF T6) T7)) T13) (min (min NOF (min (min NOF T6) T7)) T13) ∧ NX nu S13 S15 ∧ SMN nu S13 S15 p := by
      obtain ⟨H14, hx14⟩ := H13.rs (ks := [s]) hA1 hxc hyc
      obtain ⟨H15, hx15, hsm15⟩ := H14.su (by have h1 := hI.2.2.1.2.2.2; have h2 := H14.2.1.2.1.2.2.2.2.1.1; omega) (fun s' hs' => hI.ku hk H14.2.1.2.1.w s' hs')
      have hsm14 : SMN nu S13 (S13.rs (ws_p S13.w 5 0 3 (w_p S.w 5 0 3)) (ws_i S13.t 12 0 56 (i_ kr.length)) kr) p := ⟨⟨by show w_p (ws_p S13.w 5 0 3 (w_p S.w 5 0 3)) 14 p 16 = _; rw [Rpp, if_neg (fun z => absurd z.2.1 (by decide))], rfl⟩, fun _ _ _ _ _ _ => rfl⟩
      refine ⟨_, ?_, ?_, ?_, ?_, H15, hx14.tr hx15 (.inl rfl), hsm14.tr (hsm15 p)⟩
      · rfl
      · exact ws_ii (by decide)
      · exact ⟨rfl, rfl⟩
      · rfl
    rw [← hw15, ← ht15]
    have hxs : NX nu (S9.fi qa) S15 := (hx12.tr hx13 (.inl (hu12.trans hu9.1.symm))).tr hx15 (.inl (hu13'.trans hu9.1.symm))
    have hxs5 : NX nu S5 (S15.fi p) := (hx10.tr hxs hu10).fp1
    refine PS_ret (H15.en (by decide) hu15 hk15 (fun e => ?_))
    obtain ⟨b1, b2⟩ := min_nof H12.2.2.2.2.1.1 hT13 e
    have b3 := (min_nof (.inl rfl) hT10 b1).2
    obtain ⟨b4, b5⟩ := min_nof H6.2.2.2.2.1.1 hT7 b3
    have b6 := (min_nof (.inl rfl) hT6 b4).2
    have hNR : NR1 V nu (S9.fi qa) kr g qa na := ⟨.inr rfl, fun j hj q hq => by
      rcases hj with e3 | e3 <;> subst e3
      · rw [hqc] at hq
        cases hq
        exact ((((hG6 b6).nx H6.1 hx7).nx H7.1 hx8).nx H8.1 hx9).nx H9.1 NX.fi
      · rw [hqe] at hq
        cases hq
        exact (((hG7 b5).nx H7.1 hx8).nx H8.1 hx9).nx H9.1 NX.fi, s, hk9.1, hy9, h469⟩
    have h60 : w_a S13.t 12 0 60 S7.un = i_ S.u := by
      rw [(hx13.1.2.2.2.2.1.2 S7.un (by have h1 : S12.un = S9.un := by rw [hS12]; rfl
                                        have h2 := hu9.2
                                        omega)).1, ← ht12, Raa, if_neg (fun z => absurd z.1 (by decide))]
      show w_a S9.t 12 0 60 S7.un = _
      rw [(hx9.1.2.2.2.2.1.2 S7.un (by omega)).1, hS8]
      show w_a (tnv S7.t S7.un S7.u) 12 0 60 S7.un = _
      rw [tnv_un.1, hu7]
    have h63 : w_a S13.t 12 0 63 n0 = i_ S7.un := by
      have h1 : w_a S13.t 12 0 63 n0 = w_a S12.t 12 0 63 n0 := hA3
      rw [h1, ← ht12, Raa, if_pos ⟨rfl, rfl, rfl, rfl⟩, hu8]
    have hU : UOF nu S13 S.u q0 S7.un := ⟨by have h1 := hx13.1.2.2.2.2.1.1
                                             have h2 : S12.un = S9.un := by rw [hS12]; rfl
                                             have h3 := hu9.2
                                             omega, h60, n0, r0, d0, hnu0, h63⟩
    have hN0 := hG13 b2
    have hu4 : (S12.go p 4).u = S7.un := hu12.trans hu8
    rw [hu4] at hN0
    refine ⟨.inr rfl, n, r, d, 11, hnu, hm, h26, rfl, hmk (S15.fi p) hxs5.1 ?_, .inr ⟨qa, S7.un, s :: kr, hqa, ?_, fun i q' hq' => ?_⟩⟩
    · have h1 : SMN nu S15 (S15.fi p) p := ⟨⟨rfl, rfl⟩, fun _ _ _ _ _ _ => rfl⟩
      exact ((((hsm10 p H5.2.2.1.1).tr (hsm12 p H10.2.2.1.1)).tr (hsm13 p H12.2.2.1.1).1).tr hsm15).tr h1
    · exact NS.nx H10.1 hxs.fp1 (hNR.ns hnua hma h26a hk9)
    · obtain ⟨z', hz', e2⟩ := LPx.nx1 hl0 hq'
      have e3 : z' = (n0, q0, d0) := List.mem_singleton.mp hz'
      subst e3
      have e2 : q0 = q' := e2
      subst e2
      exact ⟨hU.nx hx15.fp1 hq13.2.1, NS.nx H13.1 hx15.fp1 hN0⟩
end NPP
