/-! ===== ROUNDS, part 49: a PROTOCOL with tags, as a declaration ===== -/
section ND6
variable {D : pD} {V : pV} {nu : pN} {tn : Nat → Prop} {rt p q n nq m r d dq j k k' k0 f s s0 sP u un y A A0 P c cr crq kd W i : Nat} {J J' Jq : List Nat} {S S' S0 S1 : nS} {w w2 w' t t' : wS} {v2 pr : Option Nat} {x x1 x2 x3 z y9 l' ty v ln : Int32} {T T' T1 T2 : Int} {kr ks : List Nat} {L L' Lc Ls Lk Lx Lt : Nat} {E E' : zE} {ol : Option Int32} {Q : kx_Rs → wS → Prop} {gc gt : pQ} {Φ : kx_Rs → wS → kx_Rs → wS → Prop} {C : Nat → Prop} {o : Bool}
/-- the twin counts names -/
theorem HM.t58 (h : HM D V nu tn rt p J cr S0 S T T') : HM D V nu tn rt p J cr S0 (S.wt S.w (ws_i S.t 12 0 58 x)) T T' ∧ NX nu S (S.wt S.w (ws_i S.t 12 0 58 x)) ∧ ∀ b, SMN nu S (S.wt S.w (ws_i S.t 12 0 58 x)) b := by
  have hf := h.1.2.2.2.2.2.2.1
  have hi : ∀ k', k' ≠ 58 → w_i (ws_i S.t 12 0 58 x) 12 0 k' = w_i S.t 12 0 k' := fun k' hk' => by rw [Rii, if_neg (fun z => hk' z.1)]
  have hsm : ∀ b, SMN nu S (S.wt S.w (ws_i S.t 12 0 58 x)) b := fun b => ⟨⟨rfl, rfl⟩, fun _ _ _ _ _ _ => rfl⟩
  refine ⟨HM.nof (HM.wt (w' := S.w) (t' := ws_i S.t 12 0 58 x) h (h.1.tw (fun _ _ => rfl) (fun k' hk' => hi k' (by omega)) (by rw [hi 64 (by decide)]; exact hf.2) ⟨h.1.1.2.1, h.1.1.2.2⟩) ⟨FN.rf, frm_i (by decide)⟩ (fun _ a _ k => ⟨rfl, rfl⟩) (fun _ _ => rfl) (fun b _ => hsm b) ⟨.inl rfl, .inl rfl⟩ (fcc_nof hf.1) ?_) h.2.2.2.2.1, NX.wt (w' := S.w) (t' := ws_i S.t 12 0 58 x) (fun _ _ _ _ => ⟨rfl, rfl⟩) (fun _ _ => rfl) (fun b _ => hsm b), hsm⟩
  have e : fct (ws_i S.t 12 0 58 x) = fct S.t := by
    unfold fct
    rw [hi 64 (by decide), hi 65 (by decide)]
  rw [e]
  exact fct_nof hf.2
/-- a PROTOCOL with tags -/
theorem n_D36 (hs : STR D V nu tn rt) (hI : IVN D V nu tn rt S) (hC : CHx V tn nu k0 ol n p d) (h26 : V.2.2.1 26 n = i_ (36 : Nat)) (hK : KX V nu (f + 1) 3 p) (hv : VOK V nu rt S p) (hk : KRE S kr) (hL : 75 * k0 + 340 ≤ L) (hL' : 75 * k0 + 340 ≤ L') : PS (fun Q => zw D.1 L kt_M136 [.ref (w_adr D.1.2.1 5 0), va_rf (some p)] S.w Q) (fun Q => zw E' L' kt_M474 [.ref (w_adr E'.2.1 12 0), .int (i_ n)] S.t Q) (NPO D V nu tn rt p S (fun S' => ∃ ks, KRE S' (ks ++ kr)) (fun S' => NS V nu S' (f + 1) S.u kr p S'.kc)) := by
  obtain ⟨r, hnu, hm, -, hr, -⟩ := hC.nb h26 ⟨by decide, by decide⟩
  obtain ⟨kd, h26', hcl, hch⟩ := hK.at hnu hm
  have hkd : kd = 36 := by
    have := (i_eq (by unfold cok at hcl; omega) (by unfold cok at hcl; omega)).mp (h26.symm.trans h26')
    omega
  subst hkd
  obtain ⟨htm, hl2, hF⟩ := hs.lf hnu hm h26 (by decide)
  have H := HM.start hI hv
  have hw := hI.nw hnu
  have ht := hI.1.2.2 n htm
  have hT := hI.1.2.1
  have hkA : KRE (S.at p) kr := hk
  obtain ⟨hd1, hk0, hnm, l, hl, -, hne, h41⟩ := hF
  have hc4 : ccl (V.1 p 10) (V.1 p 11) 36 4 = 41 := rfl
  have hXl : ∀ z ∈ l, KX V nu f 41 z.2.1 := fun z hz => by
    obtain ⟨i, hi⟩ := LPx.nx2 hl z hz
    have h := hch 4 ⟨by decide, by decide⟩ (by omega) (ujk.c (by omega)) i z.2.1 (.inr (.inl ⟨rfl, by simp⟩)) hi
    rw [hc4] at h
    exact h
  cases f with
  | zero =>
    cases l with
    | nil => exact absurd rfl hne
    | cons z l => exact (hXl z List.mem_cons_self).elim
  | succ f =>
  have hX2 : ∀ z ∈ l, V.2.2.1 26 z.1 = i_ (41 : Nat) ∧ KX V nu (f + 2) 41 z.2.1 := fun z hz => ⟨h41 z hz, (hXl z hz).up⟩
  have hNM : ∀ z ∈ l, NMD D V nu z := fun z hz => by
    obtain ⟨rz, hnuz, hmz, -⟩ := (hl.mem z hz).nb (hX2 z hz).1 ⟨by decide, by decide⟩
    obtain ⟨-, h2, -, -, h3, -⟩ := hs.lf hnuz hmz (hX2 z hz).1 (by decide)
    exact ⟨h3, h2, by rw [hnuz]; simp⟩
  have hf := hI.2.2.2.2.2.2.1
  have hpv : p ∉ S.vs := hv.1.1
  have hpd : ¬ S.dn p := fun e => hpv (hI.2.2.2.2.2.2.2.2.2.2 p e)
  have hvl := hs.2.2.2.2.2.2 (S.at p).vs H.1.2.2.2.2.2.2.2.1.1 (fun a ha => (H.1.2.2.2.2.2.2.2.1.2 a ha).1)
  have hsn := H.1.2.2.1.1.2
  have hun := H.1.2.2.1.2.1.2
  have hu := H.1.2.2.1.2.2.2
  have hvl1 : (S.at p).vs.length = S.vs.length + 1 := rfl
  have hsn' : S.sn ≤ 2 + S.vs.length := hI.2.2.1.1.2
  have hun' : S.un ≤ 1 + S.vs.length := hI.2.2.1.2.1.2
  have hu' : S.u < S.un := hI.2.2.1.2.2.2
  refine PS_of (fun Q h => zt_X6_declaration_p0 (by omega) h) (fun Q h => zt_X13_nameDeclaration_p0 (by omega) h) ?_
  simp only [zb_X6_declaration_p0, zb_X13_nameDeclaration_p0, zb_X6_declaration_p271, i_nat' (show n < 2147483648 by omega), ht 26 rfl, ht 27 rfl, h26, ht 30 rfl]
  refine PS_lex p rfl (PS_land hw.1 (PS_lex 31 (zO_k hs.1.1 (by decide) ((hw.2.1 0 (by decide)).trans hk0) rfl) ?_))
  refine PS_rand (hT.i rfl hm) (PS_rand (hT.i rfl hm) ?_)
  repeat (first | refine PS_lp (by decide) ?_ | refine PS_ln (by decide) ?_)
  repeat (first | refine PS_rp (by decide) ?_ | refine PS_rn (by decide) ?_)
  refine PS_rand (hT.i rfl hm) ?_
  -- the twin makes its symbol
  refine PS_r1 (fun Q hq => t_symbol (S := S) hI (by omega) (by omega) (by omega) hq) ?_
  have hTs : DTs V tn S n (tsy S.t S.sn S.u (V.2.2.1 30 n) (i_ (5 : Nat)) (-1) (-1) (i_ n) (V.2.2.1 27 n)) := DTs.t0 (S := S) (by decide) hI.1.2
  have hTs1 := hTs.a31 (x := i_ S.sn)
  simp only [show (5 : Int32) = i_ (5 : Nat) from rfl]
  have hs9 := tsy_s (t := S.t) (s := S.sn) (u := S.u) (x1 := V.2.2.1 30 n) (x2 := i_ (5 : Nat)) (x3 := -1) (x4 := -1) (x5 := i_ n) (x6 := V.2.2.1 27 n)
  generalize tsy S.t S.sn S.u (V.2.2.1 30 n) (i_ (5 : Nat)) (-1) (-1) (i_ n) (V.2.2.1 27 n) = ts at hTs hTs1 hs9 ⊢
  have hTt : TLN ts := hTs.2.2.2.2.2.2.1.1
  refine PS_rand (hTt.i rfl hm) ?_
  obtain ⟨H1, hx1, hsm1⟩ := H.ts1 (y := p) (by show S.sn + S.vs.length + 1 ≤ S.sn + (S.at p).vs.length; omega) ⟨hpv, hpd⟩ hnu hm hs hTs1
  obtain ⟨t1, ht1⟩ : ∃ t1, t1 = ws_a ts 12 0 31 n (i_ S.sn) := ⟨_, rfl⟩
  have ek : ∀ k j, k ≠ 31 → w_a t1 12 0 k j = w_a ts 12 0 k j := fun k j h1 => by
    rw [ht1, Raa, if_neg (fun z => h1 z.1)]
  have e31 : w_a t1 12 0 31 n = i_ S.sn := by rw [ht1, Raa, if_pos ⟨rfl, rfl, rfl, rfl⟩]
  rw [← ht1] at H1 hx1 hsm1 ⊢
  -- MeetingHouse tells names that stand twice
  refine PS_l (fun Q h => zt_X6_protocol_p0 (by omega) h) ?_
  simp only [zb_X6_protocol_p0]
  refine PS_lex p rfl (PS_land hw.1 (PS_lp (by rw [hw.2.1 0 (by decide), hk0]; exact eo_ne hs.1.1 (by decide) (by decide) (by decide)) ?_))
  rw [hw.2.1 4 (by decide)]
  refine PS_l0 (fun Q hq => c_again hs.1.2 (by omega) hI.1.1 hf.1 hl hNM hq) ?_
  have H2 : HM D V nu tn rt p [] (5 - 5 % 2) S (((S.at p).ts t1).wt (ru S.w (agT V [] (l.map (fun z => z.1)))) t1) (min NOF (agT V [] (l.map (fun z => z.1)))) NOF := H1.cru (agT_ok (V := V) (l := l.map (fun z => z.1)) (pre := []))
  have hx2 : NX nu ((S.at p).ts t1) (((S.at p).ts t1).wt (ru S.w (agT V [] (l.map (fun z => z.1)))) t1) := by
    have := NX.ft (nu := nu) (S := (S.at p).ts t1) (T := agT V [] (l.map (fun z => z.1))) (T' := NOF)
    rw [tu_nof H1.1.2.2.2.2.2.2.1.2] at this
    exact this
  have hw2 := H2.1.nw hnu
  have ht2 := H2.1.1.2.2 n htm
  have e4 : w_p (ru S.w (agT V [] (l.map (fun z => z.1)))) 14 p 4 = V.2.1 p 4 := hw2.2.1 4 (by decide)
  rw [e4]
  refine PS_r (fun Q h => zt_X13_nameTags_p0 (by omega) h) ?_
  have e44 : w_i t1 12 0 44 = i_ (S.sn + 1 : Nat) := H2.1.2.2.1.1.1
  have e29 : w_a t1 12 0 29 n = V.2.2.1 29 n := ht2 29 rfl
  simp only [zb_X13_nameTags_p0, i_nat' (show n < 2147483648 by omega), e44, e29]
  refine PS_rand (H2.1.1.2.1.i rfl hm) ?_
  refine n_tg1 (f := f) (k0 := r) (KC := fun Q => wk0 (fun w1 => wle S.w w1 → Q (.inl none) w1) (fun e w => Q (.inr e) w)) (KT := fun Q => wk0 (fun w1 => wle t1 w1 → Q (.inl none) (ws_i w1 12 0 58 (w_i w1 12 0 58 + 1))) (fun e w => Q (.inr e) w)) (J := [4]) (s0 := S.sn + 1) (sP := S.sn) (pre := []) (cr := 4) (T' := NOF) (y := p) (j := 4) (kr := kr) hs hnu hm htm (by omega) (by omega) (H2.wk (fun i hi => absurd hi List.not_mem_nil)) (by decide) hk rfl e31 (Nat.lt_succ_self _) ⟨H2.2.2.1.1, H2.2.2.1.2.1⟩ (fun e => absurd (H2.2.2.1.2.2.2 4 e) List.not_mem_nil) ⟨by decide, by decide⟩ (fun _ => List.mem_cons_self) hl hX2 trivial (fun z hz => absurd hz List.not_mem_nil) (fun S3 T3 H3 hkn3 hys3 h63 hsn3 hx3 hsm3 hQ3 hv3 hG3 => ?_)
  have eL : ([] : List (Nat × Nat × Nat)) ++ l = l := rfl
  have eN : ([] : List (Nat × Nat × Nat)).length + l.length = l.length := Nat.zero_add _
  rw [eL] at hQ3 hv3
  rw [eN] at hsn3
  have hys3 : S3.ys = S.ys := hys3
  have hkc3 : S3.kc = kr := (congrArg Prod.fst hkn3).trans hk.1
  have hkt3 : S3.kt = kr := (congrArg Prod.snd hkn3).trans hk.2
  have hu3 : S3.u = S.u := congrArg Prod.fst h63
  have hck3 : S3.ck = S.ck := congrArg (fun z => z.2.2) h63
  have hw3 := H3.1.nw hnu
  have ht3 := H3.1.1.2.2 n htm
  have hpd3 : ¬ S3.dn p := H3.2.2.1.2.2.1
  have hx13 : NX nu ((S.at p).ts t1) S3 := hx2.tr hx3 (.inl rfl)
  have hP3 : ∀ k, (45 ≤ k ∧ k ≤ 55) → w_a S3.t 12 0 k S.sn = w_a t1 12 0 k S.sn := fun k hk' => hx13.1.2.1 S.sn (Nat.lt_succ_self _) k hk'
  have h313 : w_a S3.t 12 0 31 n = i_ S.sn := ((hsm3 p H2.2.2.1.1).1.2 _ _ _ hnu 31 (.inl rfl)).trans e31
  -- MeetingHouse declares it
  simp only [zb_X6_protocol_p62]
  refine PS_lp trivial (PS_lex p rfl (PS_land hw3.1 ?_))
  simp only [hw3.2.2 9 (by decide), (hw3.2.2 2 (by decide)).trans hl2]
  refine PS_dcl2 H3 hs (by omega) (by omega) (fun A al' w2 H4 hsd hA hx4 h14 hsm4 hold => ?_)
  refine PS_l (fun Q a => wkr_k (x := some A) a) (PS_lex A rfl (PS_land hA.2.2 ?_))
  have r4 : w_p (dcl w2 A) 14 p 4 = V.2.1 p 4 := by
    unfold dcl
    simp only [Rii, Rgi, Rpi, Rai, Rbi, Rri, Rni, Rdi, Roi, Rti, Rzi, RCi, RSi, Rip, Rgp, Rpp, Rap, Rbp, Rrp, Rnp, Rdp, Rop, Rtp, Rzp, RCp, RSp]
    simp [(h14 p 4).2, hw3.2.1 4 (by decide)]
  rw [r4]
  obtain ⟨wf, hwf⟩ : ∃ wf, wf = ws_i (ws_p (dcl w2 A) 14 p 16 (some A)) 15 A 16 1 := ⟨_, rfl⟩
  have hDc : DCf D (S3.sy w2 al') p A wf := by
    rw [hwf]
    exact ((DCf.d0 (S := S3.sy w2 al') H4.1.2.1.1).qz).i (by decide)
  obtain ⟨dc1, dc2, dc3, dc4, dc5, ⟨dc6, dc7⟩, ⟨dc8, dc9⟩, dc10, dc11⟩ := hDc
  obtain ⟨⟨d0, d1, d2⟩, ⟨d4, d15, d17, d18, d19, d20⟩, d3, d5, d6, d7, d8, d9, d10, d11, d12, d13, d14, d16, -⟩ := hsd
  have hysP : S3.ys S.sn = none := by
    rw [hys3]
    cases e : S.ys S.sn with
    | none => rfl
    | some A' => exact absurd (hI.sl e) (Nat.lt_irrefl _)
  have ri : ∀ k, k ≠ 3 → k ≠ 16 → w_i wf 15 A k = w_i w2 15 A k := fun k h1 h2 => by
    rw [hwf]
    unfold dcl
    simp only [Rii, Rgi, Rpi, Rai, Rbi, Rri, Rni, Rdi, Roi, Rti, Rzi, RCi, RSi, Rip, Rgp, Rpp, Rap, Rbp, Rrp, Rnp, Rdp, Rop, Rtp, Rzp, RCp, RSp]
    simp [h1, h2]
  have rp : ∀ k, k ≠ 4 → w_p wf 15 A k = w_p w2 15 A k := fun k h1 => by
    rw [hwf]
    unfold dcl
    simp only [Rii, Rgi, Rpi, Rai, Rbi, Rri, Rni, Rdi, Roi, Rti, Rzi, RCi, RSi, Rip, Rgp, Rpp, Rap, Rbp, Rrp, Rnp, Rdp, Rop, Rtp, Rzp, RCp, RSp]
    simp [h1]
  have r16 : w_i wf 15 A 16 = 1 := by rw [hwf, Rii, if_pos ⟨rfl, rfl, rfl⟩]
  have rp16 : w_p wf 14 p 16 = some A := by rw [hwf, Rpi, Rpp, if_pos ⟨rfl, rfl, rfl⟩]
  have hR : RS1 D V nu wf S3.t (ysU S3.ys S.sn A) S.sn A := by
    refine ⟨⟨by omega, ?_⟩, ?_, 5, by decide, ?_, ?_, ?_, .inr (.inr (.inr (.inl ⟨.inl rfl, ?_, ?_⟩))), .inl ⟨by decide, false, ?_, ?_, fun _ => rfl⟩, .inr ⟨n, p, r, d, 36, ⟨?_, hm, hnu, h26⟩, .inr (.inr (.inr (.inr (.inr (.inr (.inl ⟨rfl, rfl, ⟨?_, ?_, ?_, ?_⟩, r16⟩))))))⟩⟩
    · have h := hA.2.2
      unfold w_l at h ⊢
      rw [dc2]
      exact h
    · rw [hP3 45 (by decide), ek 45 _ (by decide), hs9.1.1, ri 1 (by decide) (by decide), d1]
      exact .inl hnm
    · rw [hP3 46 (by decide), ek 46 _ (by decide), hs9.1.2.1]
    · rw [rp 0 (by decide), d0]
      rfl
    · rw [ri 13 (by decide) (by decide), d13]
      rfl
    · rw [rp 15 (by decide), d15]
    · rw [hP3 47 (by decide), ek 47 _ (by decide), hs9.1.2.2.1]
      rfl
    · rw [ri 9 (by decide) (by decide), d9]
      rfl
    · rw [hP3 48 (by decide), ek 48 _ (by decide), hs9.1.2.2.2.1]
      rfl
    · rw [hP3 49 (by decide), ek 49 _ (by decide), hs9.1.2.2.2.2.1]
    · rw [ri 11 (by decide) (by decide), d11]
    · rw [ri 14 (by decide) (by decide), d14]
    · rw [hP3 53 (by decide), ek 53 _ (by decide), hs9.2.2.2.1]
    · rw [hP3 54 (by decide), ek 54 _ (by decide), hs9.2.2.2.2.1]
      rfl
  have hck0 : ∀ q' ∈ S.ck, q'.1 ≤ S.sn := fun q' hq' => (hI.2.2.2.1.2.2.1.choose_spec.2.2.2 q' hq').1
  obtain ⟨H5, hx5, hsm5⟩ := H4.dz (s := S.sn) (y := p) (w' := wf) (kc' := S.sn :: S3.kc) hA ⟨hpv, hpd3⟩ hs hysP (by show S.sn < S3.sn; omega) (Nat.le_refl _) (fun _ s' A' h _ => hI.sl (by have h : S3.ys s' = some A' := h; rw [hys3] at h; exact h)) (fun _ q' hq' => hck0 q' (by have hq' : q' ∈ S3.ck := hq'; rw [hck3] at hq'; exact hq')) dc1 dc2 dc3 dc4 dc5 dc7 dc9 (.inr ⟨rfl, dc6, dc8⟩) dc10 dc11 hR
  obtain ⟨S5, hS5⟩ : ∃ S5, S5 = (S3.sy w2 al').dz wf S.sn A (S.sn :: S3.kc) := ⟨_, rfl⟩
  have b5 : S5.w = wf ∧ S5.t = S3.t ∧ S5.ys = ysU S3.ys S.sn A ∧ S5.sn = S3.sn ∧ S5.kc = S.sn :: S3.kc ∧ S5.kt = S3.kt ∧ S5.2.2.2.2.2.1 = S3.2.2.2.2.2.1 ∧ S5.vs = S3.vs ∧ S5.dn = S3.dn := by subst hS5; exact ⟨rfl, rfl, rfl, rfl, rfl, rfl, rfl, rfl, rfl⟩
  have hx35 : NXw nu S3 S5 := by
    subst hS5
    exact hx4.w.tr hx5 (.inl rfl)
  have hsm35 : ∀ b ∈ S3.vs, b ≠ p → SMN nu S3 S5 b := fun b hb hbp => by
    subst hS5
    exact (hsm4 b hb).tr (hsm5 b hbp)
  rw [← hS5] at H5
  clear hS5 hx5 hsm5 hR
  obtain ⟨bw, bt, bys, bsn, bkc, bkt, b6, bvs, bdn⟩ := b5
  have bu : S5.u = S3.u := congrArg Prod.fst b6
  have bck : S5.ck = S3.ck := congrArg (fun z => z.2.2) b6
  have H5 := H5.crd (cr' := 2 + 2 * l.length) (by omega) (by omega)
  have hgw : ∀ Q : kx_Rs → wS → Prop, zL_X6_protocol_p116 D.1 (L - 23) (wk0 (fun w1 => wle S.w w1 → Q (.inl none) w1) (fun e w => Q (.inr e) w)) (some p) (i_ (([] : List (Nat × Nat × Nat)).length : Nat)) (V.2.1 p 4) S5.w → zL_X6_protocol_p116 D.1 (L - 23) (wk0 (fun w1 => wle S.w w1 → Q (.inl none) w1) (fun e w => Q (.inr e) w)) (some p) 0 (V.2.1 p 4) wf := fun Q h => by
    rw [bw] at h
    exact h
  rw [← hwf]
  refine PS_l hgw ?_
  refine n_tg2 (KC := fun Q => wk0 (fun w1 => wle S.w w1 → Q (.inl none) w1) (fun e w => Q (.inr e) w)) (kr := S.sn :: kr) (s0 := S.sn + 1) (sP := S.sn) (P := A) (pre := []) (cr := 2) hs hnu (by omega) H5 (by rw [bkc, hkc3]; rfl) ?_ (by rw [bw]; exact rp16) ?_ ⟨?_, by omega⟩ (Nat.le_succ _) (fun s' hs' => ?_) (fun q' hq' => ?_) hl (fun z hz => (hX2 z hz).1) ?_ trivial (fun z hz => ?_) (LPx.nd hl) (fun S6 H6 hkc6 hkt6 h66 hsn6 ht6 hvs6 hx6 hsm6 hI6 => ?_)
  · rw [bys]
    unfold ysU
    rw [if_pos rfl]
  · rw [bt, hP3 46 (by decide), ek 46 _ (by decide), hs9.1.2.1]
    rfl
  · rw [bsn, hsn3]
    exact Nat.le_refl _
  · rw [bys] at hs'
    unfold ysU at hs'
    show s' < S.sn + 1
    by_cases e : s' = S.sn
    · omega
    · rw [if_neg e, hys3] at hs'
      cases e2 : S.ys s' with
      | none => exact absurd e2 hs'
      | some A' =>
        have := hI.sl e2
        omega
  · rw [bck, hck3] at hq'
    have := hck0 q' hq'
    omega
  · rw [bu]
    exact hQ3.st hx35.1 (fun z hz => hsm35 _ (hv3 z hz).1 (hv3 z hz).2.2.1)
  · have h := hv3 z hz
    rw [bvs, bdn]
    exact h
  · rw [eL] at hI6
    rw [eN] at hkc6
    refine PS_l (fun Q a => fun _ => a) ?_
    have et : S6.t = S3.t := ht6.trans bt
    have hu6 : S6.u = S.u := (congrArg Prod.fst h66).trans (bu.trans hu3)
    have hkt6' : S6.kt = kr := hkt6.trans (bkt.trans hkt3)
    have hsn6' : S6.sn = S.sn + 1 + l.length := hsn6.trans (bsn.trans hsn3)
    have hkl : kr.length ≤ S.sn := by
      have := hI.2.2.2.2.2.1.2.2.2.1
      rw [hk.2] at this
      exact this
    have ht6' := H6.1.1.2.2 n htm
    have hT6 := H6.1.1.2.1
    have h316 : w_a S6.t 12 0 31 n = i_ S.sn := by rw [et]; exact h313
    have hP6 : ∀ k, (45 ≤ k ∧ k ≤ 55) → w_a S6.t 12 0 k S.sn = w_a t1 12 0 k S.sn := fun k hk' => by rw [et]; exact hP3 k hk'
    have hysP6 : S6.ys S.sn = some A := (hx6.1.1 S.sn A (by rw [bys]; unfold ysU; rw [if_pos rfl])).1
    have hp166 : w_p S6.w 14 p 16 = some A := hsm6.1.1.trans (by rw [bw]; exact rp16)
    rw [← et]
    simp only [zb_X13_nameTags_p12, i_nat' (show n < 2147483648 by omega), h316]
    refine PS_rp (by decide) (PS_rand (hT6.i rfl hm) ?_)
    have h51 : w_a S6.t 12 0 51 S.sn = i_ S.u := by rw [hP6 51 (by decide), ek 51 _ (by decide), hs9.2.1]
    obtain ⟨H7, hx7, hsm7⟩ := H6.tk (s := S.sn) (by omega) (by rw [hysP6]; simp) (by rw [hu6]; exact h51) (by rw [hkt6']; omega)
    refine PS_r0 (fun Q hq => t_know (m := S6.kt.length) hT6 (by rw [hkt6']; omega) H6.1.2.2.2.2.2.1.2.1 (by omega) hq) ?_
    have e297 : w_a (tkn S6.t S6.kt.length (i_ S.sn)) 12 0 29 n = V.2.2.1 29 n := H7.1.1.2.2 n htm 29 rfl
    refine PS_rand (H7.1.1.2.1.i rfl hm) ?_
    rw [e297]
    have hI7 : ITL V nu (S6.tk (tkn S6.t S6.kt.length (i_ S.sn)) S.sn) (fun c' => c' = 6) S6.u (S.sn + 1 + 0) l := hI6.st hx7.1.w (fun z _ => hsm7 z.2.1)
    refine n_kn (E' := E') (S := S6.tk (tkn S6.t S6.kt.length (i_ S.sn)) S.sn) (gtl := fun x t Q => zL_X13_nameTags_p138 E' (L' - 24) (wk0 (fun w1 => wle t1 w1 → Q (.inl none) (ws_i w1 12 0 58 (w_i w1 12 0 58 + 1))) (fun e w => Q (.inr e) w)) x t) (Lt := L' - 24 - 21) (Y := fun Q e w => Q (.inr e) w) (s0 := S.sn + 1) (i := 0) (kr := S.sn :: kr) hs (by omega) (fun S8 n8 hn8 hT8 h => ?_) H7 (by show S.sn :: S6.kt = _; rw [hkt6']; rfl) (by rw [List.length_cons]; omega) hl hI7 (fun S8 H8 hkt8 ha8 hy8 hkc8 hu8 hw8 hx8 hsm8 => ?_)
    · refine PS_r (fun Q h => zt_X13_nameTags_p138 (by omega) h) ?_
      simp only [zb_X13_nameTags_p138, i_nat' (show n8 < 2147483648 by omega)]
      exact PS_rn (i_nn (by omega)) (PS_rand (hT8.i rfl hn8) h)
    · refine PS_r (fun Q h => zt_X13_nameTags_p138 (by omega) h) ?_
      simp only [zb_X13_nameTags_p138]
      refine PS_rp (by decide) (PS_r (fun Q a => fun _ => a) ?_)
      obtain ⟨H9, hx9, hsm9⟩ := H8.t58 (x := w_i S8.t 12 0 58 + 1)
      have hu8' : S8.u = S.u := (congrArg (fun z => z.1.1) hu8).trans hu6
      have hvs8 : S8.vs = S3.vs := (congrArg (fun z => z.2.1) hu8).trans (hvs6.trans bvs)
      obtain ⟨H10, hx10, hsm10⟩ := H9.fin (P := fun a => ∃ z ∈ l, z.2.1 = a) (fun y hy => by
        obtain ⟨z, hz, e⟩ := hy
        rw [← e]
        refine ⟨?_, (hv3 z hz).2.1, (hv3 z hz).2.2.1⟩
        show z.2.1 ∈ S8.vs
        rw [hvs8]
        exact (hv3 z hz).1)
      have hkc8' : S8.kc = rsq (S.sn + 1) l.length ++ (S.sn :: kr) := hkc8.trans hkc6
      have hkt8' : S8.kt = rsq (S.sn + 1) l.length ++ (S.sn :: kr) := by rw [hkt8, Nat.zero_add]
      obtain ⟨Se, hSe⟩ : ∃ Se, Se = ((S8.wt S8.w (ws_i S8.t 12 0 58 (w_i S8.t 12 0 58 + 1))).fl (fun a => ∃ z ∈ l, z.2.1 = a)).fi p := ⟨_, rfl⟩
      have hx7e : NX nu (S6.tk (tkn S6.t S6.kt.length (i_ S.sn)) S.sn) Se := by
        rw [hSe]
        have hu8a : S8.u = (S6.tk (tkn S6.t S6.kt.length (i_ S.sn)) S.sn).u := congrArg (fun z => z.1.1) hu8
        exact ((hx8.tr hx9 (.inl hu8a)).tr hx10 (.inl hu8a)).tr NX.fi (.inl hu8a)
      have hsm7e : ∀ b, SMN nu (S6.tk (tkn S6.t S6.kt.length (i_ S.sn)) S.sn) Se b := fun b => by
        rw [hSe]
        exact ((hsm8 b).tr (hsm9 b)).tr (hsm10 b)
      have hx3e : NXw nu S3 Se := ((hx35.tr hx6 (.inl bu)).tr hx7.w (.inl (congrArg Prod.fst h66 |>.trans bu))).tr hx7e.w (.inl (congrArg Prod.fst h66 |>.trans bu))
      have hsm6e : ∀ b, SMN nu S6 Se b := fun b => (hsm7 b).tr (hsm7e b)
      have hx6e : NX nu S6 Se := hx7.tr hx7e (.inl rfl)
      have hwe : S6.w = S8.w := hw8.symm
      rw [hwe]
      refine PS_ret (H10.en (by decide) hu8' ⟨rsq (S.sn + 1) l.length ++ [S.sn], by show S8.kc = _; rw [hkc8', List.append_assoc]; rfl, by show S8.kt = _; rw [hkt8', List.append_assoc]; rfl⟩ (fun e => ?_))
      rw [← hSe]
      have hdn : ∀ z ∈ l, Se.dn z.2.1 := fun z hz => by rw [hSe]; exact .inl (.inr ⟨z, hz, rfl⟩)
      have hIe : ITL V nu Se (fun c' => c' = 6) S.u (S.sn + 1 + 0) l := by
        have := hI6.st hx6e.1.w (fun z _ => hsm6e z.2.1)
        rw [hu6] at this
        exact this
      obtain ⟨Lc, hLc⟩ := hIe.lch (kr := S.sn :: kr) hl hdn
      have hkce : Se.kc = rsq (S.sn + 1) (0 + l.length) ++ (S.sn :: kr) := by rw [hSe, Nat.zero_add]; exact hkc8'
      refine ⟨by rw [hSe]; exact .inr rfl, n, r, d, 36, hnu, hm, h26, fun i q hq => ?_, S.sn :: kr, Lc, ⟨by rw [hSe]; exact .inr rfl, n, r, d, S.sn, hnu, rfl, ⟨A, (hx6e.1.1 S.sn A hysP6).1, (hsm6e p).1.1.trans hp166, ((hsm6e p).2 _ _ _ hnu 31 (.inl rfl)).trans h316⟩, ?_, ?_⟩, ?_⟩
      · obtain ⟨z, hz, e2⟩ := LPx.nx1 hl hq
        rw [← e2]
        exact ((hG3 e).2 z hz).imp (fun q' h' => h'.imp (fun q2 h2 => (NE.up h2).nxw H3.1 hx3e))
      · rw [hx6e.1.2.1 S.sn (by omega) 46 (by decide), hP6 46 (by decide), ek 46 _ (by decide), hs9.1.2.1]
      · rw [hx6e.1.2.1 S.sn (by omega) 51 (by decide)]
        exact h51
      · rw [hkce]
        exact hLc.imp (fun _ _ _ ⟨c', h1, h2⟩ => by rw [← h1]; exact h2)
end ND6
