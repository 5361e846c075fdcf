/-! ===== ROUNDS, part 42: parts of messages, PROTOCOL ===== -/
section NDB
variable {D : pD} {V : pV} {nu : pN} {tn : Nat → Prop} {rt p q n nq m r d dq j k k' k0 f s u un y A c cr crq kd : Nat} {J J' Jq : List Nat} {S S' S0 S1 : nS} {w w2 w' t t' : wS} {v v2 : Option Nat} {x x1 x2 z y9 : Int32} {T T' T1 : Int} {kr ks : List Nat} {L L' Lc Ls Lk Lx Lt : Nat} {E' : zE} {ol : Option Int32} {Q : kx_Rs → wS → Prop} {Φ : kx_Rs → wS → kx_Rs → wS → Prop}
theorem NE.up : ∀ {f : Nat} {C : Nat → Prop} {p : Nat}, NE V nu S kr f C p → NE V nu S kr (f + 1) C p
  | 0, _, _, h => h.elim
  | f + 1, _, _, h => by
    obtain ⟨h0, n, r, d, kd, h1, h2, h3, h4, h5⟩ := h
    exact ⟨h0, n, r, d, kd, h1, h2, h3, fun j hj i q hi hq => NE.up (h4 j hj i q hi hq), h5⟩
/-- the parts of a message -/
theorem n_parts {Ac Bt : (kx_Rs → wS → Prop) → wS → Prop} {X Y : (kx_Rs → wS → Prop) → String → wS → Prop} {l : List (Nat × Nat × Nat)} (hs : STR D V nu tn rt) (H : HM D V nu tn rt p J cr S0 S T T) (hk : KRE S kr) {y : Nat} (hy : y ∈ S.vs ∧ y ∉ S0.vs) (hty : ¬ S.tl y j) (hj7 : 3 ≤ j ∧ j ≤ 7) (hJ : ∀ i ∈ J, i ∈ J') (hJ' : y = p → j ∈ J') (hl : LPx V tn nu k0 ol l (V.2.1 y j) x none (-1)) (hX : ∀ z ∈ l, KX V nu (f + 1) 40 z.2.1) (hL : 75 * k0 + 300 ≤ Lx) (hL' : 75 * k0 + 300 ≤ Lt)
    (kk : ∀ (S1 : nS) (T1 : Int), HM D V nu tn rt p J' cr S0 S1 T1 T1 → NDC S S1 → NX nu S S1 → (∀ b ∈ S.vs, SMN nu S S1 b) → (T1 = NOF → T = NOF ∧ ∀ z ∈ l, OP V z.2.1 3 (NE V nu S1 kr f Cv)) → PS (fun Q => Ac Q S1.w) (fun Q => Bt Q S1.t) Φ) :
    PS (fun Q => zw D.1 Lx kt_M148 [.ref (w_adr D.1.2.1 5 0), va_rf (V.2.1 y j)] S.w (wk0 (fun w1 => wle S.w w1 → Ac Q w1) (X Q))) (fun Q => zw E' Lt kt_M483 [.ref (w_adr E'.2.1 12 0), .int x] S.t (wk0 (fun t1 => wle S.t t1 → Bt Q t1) (Y Q))) Φ := by
  refine PS_l (gc' := fun Q => zL_X6_parts_p2 D.1 Lx (wk0 (fun w1 => wle S.w w1 → Ac Q w1) (X Q)) (V.2.1 y j) S.w) (fun Q h => ?_) ?_
  · have h2 : zb_X6_parts_p0 D.1 Lx (wk0 (fun w1 => wle S.w w1 → Ac Q w1) (X Q)) (V.2.1 y j) S.w := h
    clear hl
    generalize V.2.1 y j = a at h2 ⊢
    cases a <;> exact zt_X6_parts_p0 (by omega) h2
  refine PS_r (gt' := fun Q => zL_X13_nameParts_p2 E' Lt (wk0 (fun t1 => wle S.t t1 → Bt Q t1) (Y Q)) x S.t) (fun Q h => ?_) ?_
  · have h2 : zb_X13_nameParts_p0 E' Lt (wk0 (fun t1 => wle S.t t1 → Bt Q t1) (Y Q)) x S.t := h
    exact zt_X13_nameParts_p0 (by omega) h2
  refine n_list (J' := J') (Kp := fun S => KRE S kr) (G := fun q S' => OP V q 3 (NE V nu S' kr f Cv)) (P := fun z => KX V nu (f + 1) 40 z.2.1) (gcl := fun x w Q => zL_X6_parts_p2 D.1 Lx (wk0 (fun w1 => wle S.w w1 → Ac Q w1) (X Q)) x w) (gtl := fun x t Q => zL_X13_nameParts_p2 E' Lt (wk0 (fun t1 => wle S.t t1 → Bt Q t1) (Y Q)) x t) (R := NDC) (fun _ => NDC.rf) (fun _ _ _ => NDC.tr) (fun _ _ h hk => hk.nd h) (fun _ _ _ _ h => h) hs (fun S2 T2 y2 j2 q n d H2 hk2 I2 V2 hC hX2 kc => ?_) (fun q S S' hI h hx => h.imp (fun _ h => h.nx hI hx)) (H.wk hJ) hk hy hty hj7 hJ' hl hX (fun S' T' H' hk' hx hnd hsm hG => ?_)
  · obtain ⟨r, kd, hnu, hm, hr, h26, hcl⟩ := hX2.nb ⟨by decide, by decide⟩ hC
    have hkd : kd = 40 := by unfold cok at hcl; omega
    subst hkd
    obtain ⟨kd, h26', hcl', hch⟩ := hX2.at hnu hm
    have hkd : kd = 40 := by unfold cok at hcl'; omega
    subst hkd
    obtain ⟨htm, hl2, hF⟩ := hs.lf hnu hm h26 (by decide)
    obtain ⟨-, -, -, hF⟩ := hF
    have Hq := HM.start I2 V2
    have hw := H2.1.nw hnu
    have ht := H2.1.1.2.2 n htm
    have hT := H2.1.1.2.1
    refine PS_of (fun Q h => zt_X6_parts_p2 (by omega) h) (fun Q h => zt_X13_nameParts_p2 (by omega) h) ?_
    simp only [zb_X6_parts_p2, zb_X13_nameParts_p2, i_nat' (show n < 2147483648 by omega), ht 28 rfl]
    refine PS_ln (by simp) (PS_lex q rfl (PS_land hw.1 (PS_rn (i_nn (by omega)) (PS_rand (hT.i rfl hm) ?_))))
    simp only [hw.2.1 3 (by decide)]
    rcases hF with ⟨e1, e2, -⟩ | ⟨⟨qa, na, hqa, h28, hCa⟩, -⟩
    · simp only [e2]
      refine PS_lp e1 (PS_rp (by decide) ?_)
      simp only [zb_X6_parts_p21, zb_X13_nameParts_p26, i_nat' (show n < 2147483648 by omega), ht 32 rfl]
      refine PS_lex q rfl (PS_land hw.1 (PS_rand (hT.i rfl hm) ?_))
      simp only [hw.2.1 7 (by decide)]
      refine kc (.inl none) S2.w (.inl none) S2.t (Hq.en List.not_mem_nil rfl (NDC.rf (S := S2)) (fun _ q' hq' => ?_))
      rw [e1] at hq'
      cases hq'
    · have hXa := hch 3 ⟨by decide, by decide⟩ (by omega) (ujk.c (by omega)) 0 qa (.inl rfl) hqa
      have hc3 : ccl (V.1 q 10) (V.1 q 11) 40 3 = 0 := rfl
      rw [hc3] at hXa
      have hna := hCa.n14 hs
      simp only [hqa, h28]
      refine PS_ln (by simp) (PS_rn (i_nn (by omega)) (PS_rand (hT.i rfl hm) ?_))
      refine n_ch (S := (S2.go y2 j2).at q) (p := q) (n_EX hs f) hs Hq hk2 List.not_mem_nil ⟨by decide, by decide⟩ hqa hCa hXa (by omega) (by omega) (fun S3 T3 H3 hT3 hn3 hx3 hsm3 hG3 => ?_)
      have hw3 := H3.1.nw hnu
      have ht3 := H3.1.1.2.2 n htm
      simp only [zb_X6_parts_p21, zb_X13_nameParts_p26, i_nat' (show n < 2147483648 by omega), ht3 32 rfl]
      refine PS_lex q rfl (PS_land hw3.1 (PS_rand (H3.1.1.2.1.i rfl hm) ?_))
      simp only [hw3.2.1 7 (by decide)]
      refine kc (.inl none) S3.w (.inl none) S3.t (H3.en (by decide) (congrArg Prod.fst hn3.2.2.2) hn3 (fun e q' hq' => ?_))
      rw [hqa] at hq'
      cases hq'
      exact (hG3 (min_nof (.inl rfl) hT3 e).2).nx H3.1 NX.fi
  · refine PS_of (fun Q h => zt_X6_parts_p2 (by omega) h) (fun Q h => zt_X13_nameParts_p2 (by omega) h) ?_
    simp only [zb_X6_parts_p2, zb_X13_nameParts_p2]
    exact PS_lp trivial (PS_rp (by decide) (PS_l (fun Q a => fun _ => a) (PS_r (fun Q a => fun _ => a) (kk S' T' H' hnd hx hsm hG))))
/-- PROTOCOL -/
theorem n_D35 (hs : STR D V nu tn rt) (hI : IVN D V nu tn rt S) (hC : CHx V tn nu k0 ol n p d) (h26 : V.2.2.1 26 n = i_ (35 : Nat)) (hK : KX V nu (f + 1) 3 p) (hv : VOK V nu rt S p) (hk : KRE S kr) (hL : 75 * k0 + 340 ≤ L) (hL' : 75 * k0 + 340 ≤ L') : PS (fun Q => zw D.1 L kt_M136 [.ref (w_adr D.1.2.1 5 0), va_rf (some p)] S.w Q) (fun Q => zw E' L' kt_M474 [.ref (w_adr E'.2.1 12 0), .int (i_ n)] S.t Q) (NPO D V nu tn rt p S (fun S' => ∃ ks, KRE S' (ks ++ kr)) (fun S' => NS V nu S' (f + 1) S.u kr p S'.kc)) := by
  obtain ⟨r, hnu, hm, -, hr, -⟩ := hC.nb h26 ⟨by decide, by decide⟩
  obtain ⟨kd, h26', hcl, hch⟩ := hK.at hnu hm
  have hkd : kd = 35 := by
    have := (i_eq (by unfold cok at hcl; omega) (by unfold cok at hcl; omega)).mp (h26.symm.trans h26')
    omega
  subst hkd
  obtain ⟨htm, hl2, hF⟩ := hs.lf hnu hm h26 (by decide)
  have H := HM.start hI hv
  have hw := hI.nw hnu
  have ht := hI.1.2.2 n htm
  have hT := hI.1.2.1
  have hkA : KRE (S.at p) kr := hk
  obtain ⟨hd1, hk0, hnm, l, hl, -, hne, h40⟩ := hF
  have hc4 : ccl (V.1 p 10) (V.1 p 11) 35 4 = 40 := rfl
  have hXl : ∀ z ∈ l, KX V nu f 40 z.2.1 := fun z hz => by
    obtain ⟨i, hi⟩ := LPx.nx2 hl z hz
    have h := hch 4 ⟨by decide, by decide⟩ (by omega) (ujk.c (by omega)) i z.2.1 (.inr (.inl ⟨rfl, by simp⟩)) hi
    rw [hc4] at h
    exact h
  cases f with
  | zero =>
    cases l with
    | nil => exact absurd rfl hne
    | cons z l => exact (hXl z List.mem_cons_self).elim
  | succ f =>
  refine PS_of (fun Q h => zt_X6_declaration_p0 (by omega) h) (fun Q h => zt_X13_nameDeclaration_p0 (by omega) h) ?_
  simp only [zb_X6_declaration_p0, zb_X13_nameDeclaration_p0, zb_X6_declaration_p271, i_nat' (show n < 2147483648 by omega), ht 26 rfl, ht 27 rfl, h26, ht 29 rfl]
  refine PS_lex p rfl (PS_land hw.1 (PS_lex 29 (zO_k hs.1.1 (by decide) ((hw.2.1 0 (by decide)).trans hk0) rfl) ?_))
  refine PS_rand (hT.i rfl hm) (PS_rand (hT.i rfl hm) ?_)
  repeat (first | refine PS_lp (by decide) ?_ | refine PS_ln (by decide) ?_)
  repeat (first | refine PS_rp (by decide) ?_ | refine PS_rn (by decide) ?_)
  refine PS_rand (hT.i rfl hm) ?_
  refine PS_l (fun Q h => zt_X6_protocol_p0 (by omega) h) ?_
  simp only [zb_X6_protocol_p0]
  refine PS_lex p rfl (PS_land hw.1 (PS_ln (not_not_intro ((hw.2.1 0 (by decide)).trans hk0)) ?_))
  simp only [hw.2.1 4 (by decide)]
  refine n_parts (E' := E') (S := S.at p) (J := []) (J' := [4]) (y := p) (j := 4) hs H hkA ⟨H.2.2.1.1, H.2.2.1.2.1⟩ (fun e => absurd (H.2.2.1.2.2.2 4 e) List.not_mem_nil) ⟨by decide, by decide⟩ (fun i hi => absurd hi List.not_mem_nil) (fun _ => List.mem_cons_self) hl hXl (by omega) (by omega) (fun S1 T1 H1 hn1 hx1 hsm1 hG1 => ?_)
  have hw1 := H1.1.nw hnu
  have ht1 := H1.1.1.2.2 n htm
  have hk1 : KRE S1 kr := hkA.nd hn1
  have hu1 : S1.u = S.u := congrArg Prod.fst hn1.2.2.2
  simp only [hw1.2.2 9 (by decide), (hw1.2.2 2 (by decide)).trans hl2, ht1 30 rfl]
  refine PS_rand (H1.1.1.2.1.i rfl hm) ?_
  refine PS_dcl H1 hs (by decide) (by omega) (fun A al' w2 H3 hsd hA hx3 h14 => ?_)
  have hvl := hs.2.2.2.2.2.2 S1.vs H1.1.2.2.2.2.2.2.2.1.1 (fun a ha => (H1.1.2.2.2.2.2.2.2.1.2 a ha).1)
  have hsn := H1.1.2.2.1.1.2
  have hun := H1.1.2.2.1.2.1.2
  have hu := H1.1.2.2.1.2.2.2
  refine PS_r1 (fun Q hq => t_symbol (S := S1.sy w2 al') H3.1 (by show S1.sn < 6050; omega) (by show S1.u < 6100; omega) (by omega) hq) ?_
  have hTs : DTs V tn (S1.sy w2 al') n (tsy S1.t S1.sn S1.u (V.2.2.1 30 n) (i_ (5 : Nat)) (-1) (-1) (i_ n) (V.2.2.1 27 n)) := DTs.t0 (S := S1.sy w2 al') (by decide) H3.1.1.2
  have hTs1 := hTs.a31 (x := i_ S1.sn)
  simp only [show (S1.sy w2 al').t = S1.t from rfl, show (S1.sy w2 al').sn = S1.sn from rfl, show (S1.sy w2 al').u = S1.u from rfl, show (5 : Int32) = i_ (5 : Nat) from rfl]
  generalize hts : tsy S1.t S1.sn S1.u (V.2.2.1 30 n) (i_ (5 : Nat)) (-1) (-1) (i_ n) (V.2.2.1 27 n) = ts at hTs hTs1 ⊢
  have hs9 := hts ▸ (tsy_s (t := S1.t) (s := S1.sn) (u := S1.u) (x1 := V.2.2.1 30 n) (x2 := i_ (5 : Nat)) (x3 := (-1)) (x4 := (-1)) (x5 := i_ n) (x6 := V.2.2.1 27 n))
  have e31 : w_a (ws_a ts 12 0 31 n (i_ S1.sn)) 12 0 31 n = i_ S1.sn := by rw [Raa, if_pos ⟨rfl, rfl, rfl, rfl⟩]
  have hTt : TLN ts := hTs.2.2.2.2.2.2.1.1
  have hTr := hTs.2.2.2.2.2.2.1.2 n htm
  have hkt : S1.kt.length ≤ S1.sn := H1.1.2.2.2.2.2.1.2.2.2.1
  have hTs3 := hTs1.i58 (x := w_i ts 12 0 58 + 1)
  refine PS_rand (hTt.i rfl hm) ?_
  simp only [zb_X13_nameDeclaration_p560, i_nat' (show n < 2147483648 by omega), e31]
  refine PS_rand (hTt.i rfl hm) ?_
  have h56 : w_i (ws_i (ws_a ts 12 0 31 n (i_ S1.sn)) 12 0 58 (w_i ts 12 0 58 + 1)) 12 0 56 = i_ S1.kt.length := hTs3.2.2.2.2.2.1.1.2.trans H1.1.2.2.2.2.2.1.2.1
  refine PS_r0 (fun Q hq => t_know (m := S1.kt.length) hTs3.2.2.2.2.2.2.1.1 (by omega) h56 (by omega) hq) ?_
  have e4 : w_p (dcl w2 A) 14 p 4 = V.2.1 p 4 := by
    unfold dcl
    simp only [Rii, Rgi, Rpi, Rai, Rbi, Rri, Rni, Rdi, Roi, Rti, Rzi, RCi, RSi, Rip, Rgp, Rpp, Rap, Rbp, Rrp, Rnp, Rdp, Rop, Rtp, Rzp, RCp, RSp]
    simp [(h14 p 4).2, hw1.2.1 4 (by decide)]
  refine PS_l (fun Q a => wkr_k (x := some A) a) (PS_lex A rfl (PS_land hA.2.2 ?_))
  simp only [e4]
  refine PS_l (fun Q a => fun _ => a) ?_
  have hDc : DCf D (S1.sy w2 al') p A (ws_p (ws_p (dcl w2 A) 14 p 16 (some A)) 15 A 17 (V.2.1 p 4)) := ((DCf.d0 (S := S1.sy w2 al') H3.1.2.1.1).qz).pz (by decide)
  obtain ⟨⟨d0, d1, d2⟩, ⟨d4, d15, d17, d18, d19, d20⟩, d3, d5, d6, d7, d8, d9, d10, d11, d12, d13, d14, d16, -⟩ := hsd
  obtain ⟨tf, htf⟩ : ∃ tf : wS, tf = tkn (ws_i (ws_a ts 12 0 31 n (i_ S1.sn)) 12 0 58 (w_i ts 12 0 58 + 1)) S1.kt.length (i_ S1.sn) := ⟨_, rfl⟩
  have ek : ∀ k j, k ≠ 31 → k ≠ 57 → w_a tf 12 0 k j = w_a ts 12 0 k j := fun k j h1 h3 => by
    rw [htf]
    unfold tkn
    rw [Rai, Raa, if_neg (fun z => h3 z.1), Rai, Raa, if_neg (fun z => h1 z.1)]
  have e31f : w_a tf 12 0 31 n = i_ S1.sn := by
    rw [htf]
    unfold tkn
    rw [Rai, Raa, if_neg (fun z => absurd z.1 (by decide)), Rai, e31]
  have hR : RS1 D V nu (ws_p (ws_p (dcl w2 A) 14 p 16 (some A)) 15 A 17 (V.2.1 p 4)) tf (ysU S1.ys S1.sn A) S1.sn A := by
    refine ⟨⟨by omega, hA.2.2⟩, ?_, 5, by decide, ?_, ?_, ?_, .inr (.inr (.inr (.inl ⟨.inl rfl, ?_, ?_⟩))), .inl ⟨by decide, false, ?_, ?_, fun _ => rfl⟩, .inr ⟨n, p, r, d, 35, ⟨?_, hm, hnu, h26⟩, .inr (.inr (.inr (.inr (.inr (.inl ⟨rfl, rfl, ⟨?_, ?_, ?_, ?_⟩, ?_, ?_⟩)))))⟩⟩
    · rw [ek 45 _ (by decide) (by decide), hs9.1.1]
      refine .inl ?_
      unfold dcl
      simp only [Rii, Rgi, Rpi, Rai, Rbi, Rri, Rni, Rdi, Roi, Rti, Rzi, RCi, RSi, Rip, Rgp, Rpp, Rap, Rbp, Rrp, Rnp, Rdp, Rop, Rtp, Rzp, RCp, RSp]
      simp [d1]
      exact hnm
    · rw [ek 46 _ (by decide) (by decide), hs9.1.2.1]
    · unfold dcl
      simp only [Rii, Rgi, Rpi, Rai, Rbi, Rri, Rni, Rdi, Roi, Rti, Rzi, RCi, RSi, Rip, Rgp, Rpp, Rap, Rbp, Rrp, Rnp, Rdp, Rop, Rtp, Rzp, RCp, RSp]
      simp [d0, wc]
    · unfold dcl
      simp only [Rii, Rgi, Rpi, Rai, Rbi, Rri, Rni, Rdi, Roi, Rti, Rzi, RCi, RSi, Rip, Rgp, Rpp, Rap, Rbp, Rrp, Rnp, Rdp, Rop, Rtp, Rzp, RCp, RSp]
      simp [d13, bI]
    · unfold dcl
      simp only [Rii, Rgi, Rpi, Rai, Rbi, Rri, Rni, Rdi, Roi, Rti, Rzi, RCi, RSi, Rip, Rgp, Rpp, Rap, Rbp, Rrp, Rnp, Rdp, Rop, Rtp, Rzp, RCp, RSp]
      simp [d15]
    · rw [ek 47 _ (by decide) (by decide), hs9.1.2.2.1]
      rfl
    · unfold dcl
      simp only [Rii, Rgi, Rpi, Rai, Rbi, Rri, Rni, Rdi, Roi, Rti, Rzi, RCi, RSi, Rip, Rgp, Rpp, Rap, Rbp, Rrp, Rnp, Rdp, Rop, Rtp, Rzp, RCp, RSp]
      simp [d9, bI]
    · rw [ek 48 _ (by decide) (by decide), hs9.1.2.2.2.1]
      rfl
    · rw [ek 49 _ (by decide) (by decide), hs9.1.2.2.2.2.1]
    · unfold dcl
      simp only [Rii, Rgi, Rpi, Rai, Rbi, Rri, Rni, Rdi, Roi, Rti, Rzi, RCi, RSi, Rip, Rgp, Rpp, Rap, Rbp, Rrp, Rnp, Rdp, Rop, Rtp, Rzp, RCp, RSp]
      simp [d11]
    · unfold dcl
      simp only [Rii, Rgi, Rpi, Rai, Rbi, Rri, Rni, Rdi, Roi, Rti, Rzi, RCi, RSi, Rip, Rgp, Rpp, Rap, Rbp, Rrp, Rnp, Rdp, Rop, Rtp, Rzp, RCp, RSp]
      simp [d14]
    · rw [ek 53 _ (by decide) (by decide), hs9.2.2.2.1]
    · rw [ek 54 _ (by decide) (by decide), hs9.2.2.2.2.1]
      rfl
    · unfold dcl
      simp only [Rii, Rgi, Rpi, Rai, Rbi, Rri, Rni, Rdi, Roi, Rti, Rzi, RCi, RSi, Rip, Rgp, Rpp, Rap, Rbp, Rrp, Rnp, Rdp, Rop, Rtp, Rzp, RCp, RSp]
      simp [d16]
    · unfold dcl
      simp only [Rii, Rgi, Rpi, Rai, Rbi, Rri, Rni, Rdi, Roi, Rti, Rzi, RCi, RSi, Rip, Rgp, Rpp, Rap, Rbp, Rrp, Rnp, Rdp, Rop, Rtp, Rzp, RCp, RSp]
      simp [h14]
  have hdk := H3.dk hA H3.2.2.2.1.1.1 hnu hm hs hDc hTs3 (by rw [htf] at hR; exact hR)
  simp only [show (S1.sy w2 al').kt = S1.kt from rfl, show (S1.sy w2 al').sn = S1.sn from rfl] at hdk
  rw [← htf] at hdk
  obtain ⟨H4, hx4⟩ := hdk
  rw [show tkn (ws_i (ws_a ts 12 0 31 n (i_ S1.sn)) 12 0 58 (w_i (ws_a ts 12 0 31 n (i_ S1.sn)) 12 0 58 + 1)) S1.kt.length (i_ S1.sn) = tf from htf.symm]
  refine PS_ret (H4.en (by decide) hu1 ⟨[S1.sn], by show S1.sn :: S1.kc = _; rw [hk1.1]; rfl, by show S1.sn :: S1.kt = _; rw [hk1.2]; rfl⟩ (fun e => ⟨.inr rfl, n, r, d, 35, hnu, hm, h26, fun i q hq => ?_, .inr rfl, n, r, d, S1.sn, hnu, by show S1.sn :: S1.kc = _; rw [hk1.1], ⟨A, ?_, ?_, e31f⟩, ?_, ?_⟩))
  · obtain ⟨z, hz, e2⟩ := LPx.nx1 hl hq
    rw [← e2]
    exact ((hG1 e).2 z hz).imp (fun q h => (((NE.up h).nx H1.1 hx3).nx H3.1 hx4).nx H4.1 NX.fi)
  · show ysU S1.ys S1.sn A S1.sn = some A
    unfold ysU
    rw [if_pos rfl]
  · show w_p (ws_p (ws_p (dcl w2 A) 14 p 16 (some A)) 15 A 17 (V.2.1 p 4)) 14 p 16 = some A
    rw [Rpp, if_neg (fun z => absurd z.2.1 (by decide)), Rpp, if_pos ⟨rfl, rfl, rfl⟩]
  · show w_a tf 12 0 46 S1.sn = i_ (5 : Nat)
    rw [ek 46 _ (by decide) (by decide), hs9.1.2.1]
  · show w_a tf 12 0 51 S1.sn = i_ S.u
    rw [ek 51 _ (by decide) (by decide), hs9.2.1, hu1]
end NDB
