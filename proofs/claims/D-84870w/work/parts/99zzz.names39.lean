/-! ===== ROUNDS, part 41: declarations of one name ===== -/
section NDA
variable {D : pD} {V : pV} {nu : pN} {tn : Nat → Prop} {rt p q n nq m r d dq j k k' k0 f s u un y A c cr crq kd : Nat} {J J' Jq : List Nat} {S S' S0 S1 : nS} {w w2 w' t t' : wS} {v v2 : Option Nat} {x x1 x2 z y9 : Int32} {T T' T1 : Int} {kr ks : List Nat} {L L' Lc Ls Lk Lx Lt : Nat} {E' : zE} {ol : Option Int32} {Q : kx_Rs → wS → Prop} {Φ : kx_Rs → wS → kx_Rs → wS → Prop}
/-- VAL -/
theorem n_D33 (hs : STR D V nu tn rt) (hI : IVN D V nu tn rt S) (hC : CHx V tn nu k0 ol n p d) (h26 : V.2.2.1 26 n = i_ (33 : Nat)) (hK : KX V nu (f + 1) 3 p) (hv : VOK V nu rt S p) (hk : KRE S kr) (hL : 75 * k0 + 340 ≤ L) (hL' : 75 * k0 + 340 ≤ L') : PS (fun Q => zw D.1 L kt_M136 [.ref (w_adr D.1.2.1 5 0), va_rf (some p)] S.w Q) (fun Q => zw E' L' kt_M474 [.ref (w_adr E'.2.1 12 0), .int (i_ n)] S.t Q) (NPO D V nu tn rt p S (fun S' => ∃ ks, KRE S' (ks ++ kr)) (fun S' => NS V nu S' (f + 1) S.u kr p S'.kc)) := by
  obtain ⟨r, hnu, hm, -, hr, -⟩ := hC.nb h26 ⟨by decide, by decide⟩
  obtain ⟨kd, h26', hcl, hch⟩ := hK.at hnu hm
  have hkd : kd = 33 := by
    have := (i_eq (by unfold cok at hcl; omega) (by unfold cok at hcl; omega)).mp (h26.symm.trans h26')
    omega
  subst hkd
  obtain ⟨htm, hl2, hF⟩ := hs.lf hnu hm h26 (by decide)
  have H := HM.start hI hv
  have hw := hI.nw hnu
  have ht := hI.1.2.2 n htm
  have hT := hI.1.2.1
  have hkA : KRE (S.at p) kr := hk
  obtain ⟨hd1, hk0, hnm, ⟨qa, na, hqa, h28, hCa⟩, ⟨cy, hcy, hy8, hy33⟩, o, ho13, ho34⟩ := hF
  have hXa := hch 3 ⟨by decide, by decide⟩ (by omega) (ujk.c (by omega)) 0 qa (.inl rfl) hqa
  have hc3 : ccl (V.1 p 10) (V.1 p 11) 33 3 = 0 := rfl
  rw [hc3] at hXa
  have hmany : ∀ (gc : pQ) (Φ : kx_Rs → wS → kx_Rs → wS → Prop) (t : wS), PS gc (fun Q => zb_X13_nameDeclaration_p343 E' L' Q (i_ n) (V.2.2.1 27 n) (i_ (if o = true then -2 else -1)) (V.2.2.1 33 n) 2 (V.2.2.1 30 n) (i_ n) t) Φ → PS gc (fun Q => if (V.2.2.1 34 n &&& 1) = 0 then zb_X13_nameDeclaration_p343 E' L' Q (i_ n) (V.2.2.1 27 n) (-1) (V.2.2.1 33 n) 2 (V.2.2.1 30 n) (i_ n) t else zb_X13_nameDeclaration_p343 E' L' Q (i_ n) (V.2.2.1 27 n) (-2) (V.2.2.1 33 n) 2 (V.2.2.1 30 n) (i_ n) t) Φ := fun gc Φ t h => by
    rw [ho34]
    cases o with
    | false => exact PS_rp (by decide) h
    | true => exact PS_rn (by decide) h
  refine PS_of (fun Q h => zt_X6_declaration_p0 (by omega) h) (fun Q h => zt_X13_nameDeclaration_p0 (by omega) h) ?_
  simp only [zb_X6_declaration_p0, zb_X13_nameDeclaration_p0, zb_X6_declaration_p271, i_nat' (show n < 2147483648 by omega), ht 26 rfl, ht 27 rfl, h26, ht 28 rfl, h28]
  refine PS_lex p rfl (PS_land hw.1 (PS_lex 28 (zO_k hs.1.1 (by decide) ((hw.2.1 0 (by decide)).trans hk0) rfl) ?_))
  refine PS_rand (hT.i rfl hm) (PS_rand (hT.i rfl hm) ?_)
  repeat (first | refine PS_lp (by decide) ?_ | refine PS_ln (by decide) ?_)
  repeat (first | refine PS_rp (by decide) ?_ | refine PS_rn (by decide) ?_)
  refine PS_rand (hT.i rfl hm) ?_
  simp only [hw.2.1 3 (by decide), hqa]
  refine n_ch (S := S.at p) (n_EX hs f) hs H hkA List.not_mem_nil ⟨by decide, by decide⟩ hqa hCa hXa (by omega) (by omega) (fun S1 T1 H1 hT1 hn1 hx1 hsm1 hG1 => ?_)
  have hw1 := H1.1.nw hnu
  have ht1 := H1.1.1.2.2 n htm
  have hk1 : KRE S1 kr := hkA.nd hn1
  have hu1 : S1.u = S.u := congrArg Prod.fst hn1.2.2.2
  simp only [hw1.2.2 9 (by decide), (hw1.2.2 2 (by decide)).trans hl2, ht1 30 rfl, ht1 33 rfl, ht1 34 rfl]
  refine PS_rand (H1.1.1.2.1.i rfl hm) (PS_rand (H1.1.1.2.1.i rfl hm) (PS_rand (H1.1.1.2.1.i rfl hm) ?_))
  refine hmany _ _ _ ?_
  simp only [zb_X13_nameDeclaration_p343, i_nat' (show n < 2147483648 by omega)]
  refine PS_dcl H1 hs (by decide) (by omega) (fun A al' w2 H3 hsd hA hx3 h14 => ?_)
  have hvl := hs.2.2.2.2.2.2 S1.vs H1.1.2.2.2.2.2.2.2.1.1 (fun a ha => (H1.1.2.2.2.2.2.2.2.1.2 a ha).1)
  have hsn := H1.1.2.2.1.1.2
  have hun := H1.1.2.2.1.2.1.2
  have hu := H1.1.2.2.1.2.2.2
  refine PS_r1 (fun Q hq => t_symbol (S := S1.sy w2 al') H3.1 (by show S1.sn < 6050; omega) (by show S1.u < 6100; omega) (by omega) hq) ?_
  have hTs : DTs V tn (S1.sy w2 al') n (tsy S1.t S1.sn S1.u (V.2.2.1 30 n) (i_ (2 : Nat)) (V.2.2.1 33 n) (i_ (if o = true then -2 else -1)) (i_ n) (V.2.2.1 27 n)) := DTs.t0 (S := S1.sy w2 al') (by decide) H3.1.1.2
  have hTs1 := hTs.a31 (x := i_ S1.sn)
  simp only [show (S1.sy w2 al').t = S1.t from rfl, show (S1.sy w2 al').sn = S1.sn from rfl, show (S1.sy w2 al').u = S1.u from rfl, show (2 : Int32) = i_ (2 : Nat) from rfl]
  generalize hts : tsy S1.t S1.sn S1.u (V.2.2.1 30 n) (i_ (2 : Nat)) (V.2.2.1 33 n) (i_ (if o = true then -2 else -1)) (i_ n) (V.2.2.1 27 n) = ts at hTs hTs1 ⊢
  have hs9 := hts ▸ (tsy_s (t := S1.t) (s := S1.sn) (u := S1.u) (x1 := V.2.2.1 30 n) (x2 := i_ (2 : Nat)) (x3 := (V.2.2.1 33 n)) (x4 := (i_ (if o = true then -2 else -1))) (x5 := i_ n) (x6 := V.2.2.1 27 n))
  have e31 : w_a (ws_a ts 12 0 31 n (i_ S1.sn)) 12 0 31 n = i_ S1.sn := by rw [Raa, if_pos ⟨rfl, rfl, rfl, rfl⟩]
  have hTt : TLN ts := hTs.2.2.2.2.2.2.1.1
  have hTr := hTs.2.2.2.2.2.2.1.2 n htm
  have hkt : S1.kt.length ≤ S1.sn := H1.1.2.2.2.2.2.1.2.2.2.1
  have hTs2 := hTs1.a5 (k := 55) (x := V.2.2.1 28 n) (.inr (.inr rfl))
  have hTs3 := hTs2.i58 (x := w_i ts 12 0 58 + 1)
  simp only [e31, i_nat' (show S1.sn < 2147483648 by omega), hTr 28 rfl]
  refine PS_rand (hTt.i rfl hm) (PS_rand (hTt.i rfl hm) (PS_rand (hTt.i rfl hm) (PS_rand (hTt.sy rfl (by omega)) ?_)))
  have e31' : w_a (ws_a (ws_a ts 12 0 31 n (i_ S1.sn)) 12 0 55 S1.sn (V.2.2.1 28 n)) 12 0 31 n = i_ S1.sn := by rw [Raa, if_neg (fun z => absurd z.1 (by decide)), e31]
  simp only [zb_X13_nameDeclaration_p560, i_nat' (show n < 2147483648 by omega), e31']
  refine PS_rand (hTt.i rfl hm) ?_
  have h56 : w_i (ws_i (ws_a (ws_a ts 12 0 31 n (i_ S1.sn)) 12 0 55 S1.sn (V.2.2.1 28 n)) 12 0 58 (w_i ts 12 0 58 + 1)) 12 0 56 = i_ S1.kt.length := hTs3.2.2.2.2.2.1.1.2.trans H1.1.2.2.2.2.2.1.2.1
  refine PS_r0 (fun Q hq => t_know (m := S1.kt.length) hTs3.2.2.2.2.2.2.1.1 (by omega) h56 (by omega) hq) ?_
  have e13 : w_i (dcl w2 A) 14 p 13 = V.1 p 13 := by
    unfold dcl
    simp only [Rii, Rgi, Rpi, Rai, Rbi, Rri, Rni, Rdi, Roi, Rti, Rzi, RCi, RSi, Rip, Rgp, Rpp, Rap, Rbp, Rrp, Rnp, Rdp, Rop, Rtp, Rzp, RCp, RSp]
    simp [(h14 p 13).1, hw1.2.2 13 (by decide)]
  have e8 : w_i (dcl w2 A) 14 p 8 = V.1 p 8 := by
    unfold dcl
    simp only [Rii, Rgi, Rpi, Rai, Rbi, Rri, Rni, Rdi, Roi, Rti, Rzi, RCi, RSi, Rip, Rgp, Rpp, Rap, Rbp, Rrp, Rnp, Rdp, Rop, Rtp, Rzp, RCp, RSp]
    simp [(h14 p 8).1, hw1.2.2 8 (by decide)]
  refine PS_l (fun Q a => wkr_k (x := some A) a) (PS_lex A rfl (PS_land hA.2.2 (PS_land (by rw [e13, ho13]; cases o <;> simp [bI]) ?_)))
  simp only [e13, e8]
  have hDc : DCf D (S1.sy w2 al') p A (ws_p (ws_i (ws_i (ws_p (dcl w2 A) 14 p 16 (some A)) 15 A 5 (V.1 p 8)) 15 A 9 (V.1 p 13)) 15 A 19 (some p)) := ((((DCf.d0 (S := S1.sy w2 al') H3.1.2.1.1).qz).i (by decide)).i (by decide)).pz (by decide)
  obtain ⟨⟨d0, d1, d2⟩, ⟨d4, d15, d17, d18, d19, d20⟩, d3, d5, d6, d7, d8, d9, d10, d11, d12, d13, d14, d16, -⟩ := hsd
  have ek : ∀ k j, k ≠ 31 → k ≠ 55 → k ≠ 57 → w_a (tkn (ws_i (ws_a (ws_a ts 12 0 31 n (i_ S1.sn)) 12 0 55 S1.sn (V.2.2.1 28 n)) 12 0 58 (w_i ts 12 0 58 + 1)) S1.kt.length (i_ S1.sn)) 12 0 k j = w_a ts 12 0 k j := fun k j h1 h2 h3 => by
    unfold tkn
    rw [Rai, Raa, if_neg (fun z => h3 z.1), Rai, Raa, if_neg (fun z => h2 z.1), Raa, if_neg (fun z => h1 z.1)]
  have e55 : w_a (tkn (ws_i (ws_a (ws_a ts 12 0 31 n (i_ S1.sn)) 12 0 55 S1.sn (V.2.2.1 28 n)) 12 0 58 (w_i ts 12 0 58 + 1)) S1.kt.length (i_ S1.sn)) 12 0 55 S1.sn = V.2.2.1 28 n := by
    unfold tkn
    rw [Rai, Raa, if_neg (fun z => absurd z.1 (by decide)), Rai, Raa, if_pos ⟨rfl, rfl, rfl, rfl⟩]
  have e31f : w_a (tkn (ws_i (ws_a (ws_a ts 12 0 31 n (i_ S1.sn)) 12 0 55 S1.sn (V.2.2.1 28 n)) 12 0 58 (w_i ts 12 0 58 + 1)) S1.kt.length (i_ S1.sn)) 12 0 31 n = i_ S1.sn := by
    unfold tkn
    rw [Rai, Raa, if_neg (fun z => absurd z.1 (by decide)), Rai, e31']
  obtain ⟨tf, htf⟩ : ∃ tf : wS, tf = tkn (ws_i (ws_a (ws_a ts 12 0 31 n (i_ S1.sn)) 12 0 55 S1.sn (V.2.2.1 28 n)) 12 0 58 (w_i ts 12 0 58 + 1)) S1.kt.length (i_ S1.sn) := ⟨_, rfl⟩
  rw [← htf] at ek e55 e31f
  have hR : RS1 D V nu (ws_p (ws_i (ws_i (ws_p (dcl w2 A) 14 p 16 (some A)) 15 A 5 (V.1 p 8)) 15 A 9 (V.1 p 13)) 15 A 19 (some p)) tf (ysU S1.ys S1.sn A) S1.sn A := by
    refine ⟨⟨by omega, hA.2.2⟩, ?_, 2, by decide, ?_, ?_, ?_, .inl ⟨by decide, cy, hcy, ?_, ?_, ?_⟩, .inl ⟨by decide, o, ?_, ?_, fun e => absurd e (by decide)⟩, .inr ⟨n, p, r, d, 33, ⟨?_, hm, hnu, h26⟩, .inr (.inr (.inr (.inl ⟨rfl, rfl, ⟨?_, ?_, ?_, ?_⟩, ?_, ?_, ?_⟩)))⟩⟩
    · rw [ek 45 _ (by decide) (by decide) (by decide), hs9.1.1]
      refine .inl ?_
      unfold dcl
      simp only [Rii, Rgi, Rpi, Rai, Rbi, Rri, Rni, Rdi, Roi, Rti, Rzi, RCi, RSi, Rip, Rgp, Rpp, Rap, Rbp, Rrp, Rnp, Rdp, Rop, Rtp, Rzp, RCp, RSp]
      simp [d1]
      exact hnm
    · rw [ek 46 _ (by decide) (by decide) (by decide), hs9.1.2.1]
    · unfold dcl
      simp only [Rii, Rgi, Rpi, Rai, Rbi, Rri, Rni, Rdi, Roi, Rti, Rzi, RCi, RSi, Rip, Rgp, Rpp, Rap, Rbp, Rrp, Rnp, Rdp, Rop, Rtp, Rzp, RCp, RSp]
      simp [d0, wc]
    · unfold dcl
      simp only [Rii, Rgi, Rpi, Rai, Rbi, Rri, Rni, Rdi, Roi, Rti, Rzi, RCi, RSi, Rip, Rgp, Rpp, Rap, Rbp, Rrp, Rnp, Rdp, Rop, Rtp, Rzp, RCp, RSp]
      simp [d13, bI]
    · unfold dcl
      simp only [Rii, Rgi, Rpi, Rai, Rbi, Rri, Rni, Rdi, Roi, Rti, Rzi, RCi, RSi, Rip, Rgp, Rpp, Rap, Rbp, Rrp, Rnp, Rdp, Rop, Rtp, Rzp, RCp, RSp]
      simp [hy8]
    · unfold dcl
      simp only [Rii, Rgi, Rpi, Rai, Rbi, Rri, Rni, Rdi, Roi, Rti, Rzi, RCi, RSi, Rip, Rgp, Rpp, Rap, Rbp, Rrp, Rnp, Rdp, Rop, Rtp, Rzp, RCp, RSp]
      simp [d15]
    · rw [ek 47 _ (by decide) (by decide) (by decide), hs9.1.2.2.1, hy33]
    · unfold dcl
      simp only [Rii, Rgi, Rpi, Rai, Rbi, Rri, Rni, Rdi, Roi, Rti, Rzi, RCi, RSi, Rip, Rgp, Rpp, Rap, Rbp, Rrp, Rnp, Rdp, Rop, Rtp, Rzp, RCp, RSp]
      simp [ho13]
    · rw [ek 48 _ (by decide) (by decide) (by decide), hs9.1.2.2.2.1]
    · rw [ek 49 _ (by decide) (by decide) (by decide), hs9.1.2.2.2.2.1]
    · unfold dcl
      simp only [Rii, Rgi, Rpi, Rai, Rbi, Rri, Rni, Rdi, Roi, Rti, Rzi, RCi, RSi, Rip, Rgp, Rpp, Rap, Rbp, Rrp, Rnp, Rdp, Rop, Rtp, Rzp, RCp, RSp]
      simp [d11]
    · unfold dcl
      simp only [Rii, Rgi, Rpi, Rai, Rbi, Rri, Rni, Rdi, Roi, Rti, Rzi, RCi, RSi, Rip, Rgp, Rpp, Rap, Rbp, Rrp, Rnp, Rdp, Rop, Rtp, Rzp, RCp, RSp]
      simp [d14]
    · rw [ek 53 _ (by decide) (by decide) (by decide), hs9.2.2.2.1]
    · rw [ek 54 _ (by decide) (by decide) (by decide), hs9.2.2.2.2.1]
      rfl
    · unfold dcl
      simp only [Rii, Rgi, Rpi, Rai, Rbi, Rri, Rni, Rdi, Roi, Rti, Rzi, RCi, RSi, Rip, Rgp, Rpp, Rap, Rbp, Rrp, Rnp, Rdp, Rop, Rtp, Rzp, RCp, RSp]
      simp [h14]
    · exact e55
    · unfold dcl
      simp only [Rii, Rgi, Rpi, Rai, Rbi, Rri, Rni, Rdi, Roi, Rti, Rzi, RCi, RSi, Rip, Rgp, Rpp, Rap, Rbp, Rrp, Rnp, Rdp, Rop, Rtp, Rzp, RCp, RSp]
      simp [h14]
  have hdk := H3.dk hA H3.2.2.2.1.1.1 hnu hm hs hDc hTs3 (by rw [htf] at hR; exact hR)
  simp only [show (S1.sy w2 al').kt = S1.kt from rfl, show (S1.sy w2 al').sn = S1.sn from rfl] at hdk
  rw [← htf] at hdk
  obtain ⟨H4, hx4⟩ := hdk
  rw [show tkn (ws_i (ws_a (ws_a ts 12 0 31 n (i_ S1.sn)) 12 0 55 S1.sn (V.2.2.1 28 n)) 12 0 58 (w_i (ws_a (ws_a ts 12 0 31 n (i_ S1.sn)) 12 0 55 S1.sn (V.2.2.1 28 n)) 12 0 58 + 1)) S1.kt.length (i_ S1.sn) = tf from htf.symm]
  refine PS_ret (H4.en (by decide) hu1 ⟨[S1.sn], by show S1.sn :: S1.kc = _; rw [hk1.1]; rfl, by show S1.sn :: S1.kt = _; rw [hk1.2]; rfl⟩ (fun e => ⟨.inr rfl, n, r, d, 33, hnu, hm, h26, fun q hq => ?_, .inr rfl, n, r, d, S1.sn, hnu, by show S1.sn :: S1.kc = _; rw [hk1.1], ⟨A, ?_, ?_, e31f⟩, ?_, ?_⟩))
  · rw [hqa] at hq
    cases hq
    exact (((hG1 (min_nof (.inl rfl) hT1 e).2).nx H1.1 hx3).nx H3.1 hx4).nx H4.1 NX.fi
  · show ysU S1.ys S1.sn A S1.sn = some A
    unfold ysU
    rw [if_pos rfl]
  · show w_p (ws_p (ws_i (ws_i (ws_p (dcl w2 A) 14 p 16 (some A)) 15 A 5 (V.1 p 8)) 15 A 9 (V.1 p 13)) 15 A 19 (some p)) 14 p 16 = some A
    rw [Rpp, if_neg (fun z => absurd z.2.1 (by decide)), Rpi, Rpi, Rpp, if_pos ⟨rfl, rfl, rfl⟩]
  · show w_a tf 12 0 46 S1.sn = i_ (2 : Nat)
    rw [ek 46 _ (by decide) (by decide) (by decide), hs9.1.2.1]
  · show w_a tf 12 0 51 S1.sn = i_ S.u
    rw [ek 51 _ (by decide) (by decide) (by decide), hs9.2.1, hu1]
end NDA
