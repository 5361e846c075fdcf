/-! ===== ROUNDS, part 18: REPLICATORs ===== -/
section NRP
variable {D : pD} {V : pV} {nu : pN} {tn : Nat → Prop} {rt p q n r d j k k0 f s u A cr W : Nat} {J : List Nat} {S S0 : nS} {w w2 w' t t' : wS} {v : Option Nat} {x x1 x2 x3 x4 x5 x6 : Int32} {T T' : Int} {kr : List Nat} {L L' : Nat} {E' : zE} {gt : pQ} {Φ : kx_Rs → wS → kx_Rs → wS → Prop} {ol : Option Int32}
/-- MeetingHouse declares a name -/
theorem PS_dcl {Kc : (kx_Rs → wS → Prop) → kx_Rs → wS → Prop} (H : HM D V nu tn rt p J cr S0 S T T') (hst : STR D V nu tn rt) (hc : 2 ≤ cr) (hL : 200 ≤ L) (kk : ∀ (A : Nat) (al' : List Nat) (w2 : wS), HM D V nu tn rt p J (cr - 2) S0 (S.sy w2 al') T T' → sdr w2 A (some (D.1.1.1 W)) x2 x3 → FRA D (S.sy w2 al') A → NX nu S (S.sy w2 al') → (∀ a k, w_i w2 14 a k = w_i S.w 14 a k ∧ w_p w2 14 a k = w_p S.w 14 a k) → PS (fun Q => Kc Q (.inl (some (va_rf (some A)))) (dcl w2 A)) gt Φ) : PS (fun Q => zw D.1 L kt_M137 [.ref (w_adr D.1.2.1 5 0), va_rf (some (D.1.1.1 W)), .int x2, .int x3] S.w (Kc Q)) gt Φ := by
  refine PS_l (fun Q h => zt_X6_declare_p0 (by omega) h) ?_
  simp only [zb_X6_declare_p0]
  have hvl := hst.2.2.2.2.2.2 S.vs H.1.2.2.2.2.2.2.2.1.1 (fun a ha => (H.1.2.2.2.2.2.2.2.1.2 a ha).1)
  have ham := H.1.2.1.2
  refine PS_lce (c_symbol (x1 := some (D.1.1.1 W)) (by omega) H.1.2.1.1 (by omega)) (fun rs w2 hle hb => ?_)
  obtain ⟨A, al', e, H2, hsd, hA, hx, h5, h14, hsm⟩ := H.sy1 hc hb hle
  subst e
  refine PS_l (fun Q a => wkr_k (x := some A) a) (PS_lex A rfl (PS_land hA.2.2 ?_))
  exact kk A al' w2 H2 hsd hA hx h14
/-- what is told of a REPLICATOR -/
def NR1 (V : pV) (nu : pN) (S : nS) (kr : List Nat) (f p n : Nat) : Prop := S.dn p ∧ (∀ j, (j = 3 ∨ j = 4) → ∀ q, V.2.1 p j = some q → NE V nu S kr f Cv q) ∧ ∃ s, S.kc = s :: kr ∧ SYM S p n s ∧ w_a S.t 12 0 46 s = i_ (9 : Nat)
theorem n_rep (hs : STR D V nu tn rt) (hI : IVN D V nu tn rt S) (hC : CHx V tn nu k0 ol n p d) (h26 : V.2.2.1 26 n = i_ (20 : Nat)) (hK : KX V nu (f + 1) 20 p) (hv : VOK V nu rt S p) (hk : KRE S kr) (hL : 75 * k0 + 300 ≤ L) (hL' : 75 * k0 + 300 ≤ L') :
    PS (fun Q => zw D.1 L kt_M152 [.ref (w_adr D.1.2.1 5 0), va_rf (some p)] S.w Q) (fun Q => zw E' L' kt_M484 [.ref (w_adr E'.2.1 12 0), .int (i_ n)] S.t Q) (NPO D V nu tn rt p S (fun S' => ∃ s, KRE S' (s :: kr)) (fun S' => NR1 V nu S' kr f p n)) := by
  obtain ⟨r, hnu, hm, -, hr, -⟩ := hC.nb h26 ⟨by decide, by decide⟩
  obtain ⟨kd, h26', hcl, hch⟩ := hK.at hnu hm
  have hkd : kd = 20 := by unfold cok at hcl; omega
  subst hkd
  obtain ⟨htm, hl2, hF⟩ := hs.lf hnu hm h26 (by decide)
  obtain ⟨-, hk0, hnm, ⟨qa, na, hqa, h28, hCa⟩, qb, nb, hqb, h29, hCb⟩ := hF
  have hXa := hch 3 ⟨by decide, by decide⟩ (by omega) (ujk.c (by omega)) 0 qa (.inl rfl) hqa
  have hXb := hch 4 ⟨by decide, by decide⟩ (by omega) (ujk.c (by omega)) 0 qb (.inl rfl) hqb
  have hc0 : ∀ j, ccl (V.1 p 10) (V.1 p 11) 20 j = 0 := fun j => rfl
  rw [hc0] at hXa hXb
  have H := HM.start hI hv
  have hw := hI.nw hnu
  have ht := hI.1.2.2 n htm
  have hT := hI.1.2.1
  have hkA : KRE (S.at p) kr := hk
  refine PS_of (fun Q h => zt_X6_replicator_p0 (by omega) h) (fun Q h => zt_X13_nameReplicator_p0 (by omega) h) ?_
  simp only [zb_X6_replicator_p0, zb_X13_nameReplicator_p0, i_nat' (show n < 2147483648 by omega), ht 28 rfl, hw.2.1 3 (by decide), hqa, h28]
  refine PS_lp (by simp) (PS_lex p rfl (PS_land hw.1 (PS_rand (hT.i rfl hm) ?_)))
  simp only [hw.2.1 3 (by decide), hqa]
  refine n_ch (S := S.at p) (n_EX hs f) hs H hkA List.not_mem_nil ⟨by decide, by decide⟩ hqa hCa hXa (by omega) (by omega) (fun S1 T1 H1 hT1 hn1 hx1 hsm1 hG1 => ?_)
  have hw1 := H1.1.nw hnu
  have ht1 := H1.1.1.2.2 n htm
  simp only [hw1.2.1 4 (by decide), ht1 29 rfl, hqb, h29]
  refine PS_rand (H1.1.1.2.1.i rfl hm) ?_
  refine n_ch (n_EX hs f) hs H1 (hkA.nd hn1) (by decide) ⟨by decide, by decide⟩ hqb hCb hXb (by omega) (by omega) (fun S2 T2 H2 hT2 hn2 hx2 hsm2 hG2 => ?_)
  have hw2 := H2.1.nw hnu
  have ht2 := H2.1.1.2.2 n htm
  have hk2 : KRE S2 kr := (hkA.nd hn1).nd hn2
  simp only [hw2.2.2 9 (by decide), (hw2.2.2 2 (by decide)).trans hl2, ht2 30 rfl, ht2 27 rfl]
  refine PS_rand (H2.1.1.2.1.i rfl hm) (PS_rand (H2.1.1.2.1.i rfl hm) ?_)
  refine PS_dcl H2 hs (by decide) (by omega) (fun A al' w2 H3 hsd hA hx3 h14 => ?_)
  have hvl := hs.2.2.2.2.2.2 S2.vs H2.1.2.2.2.2.2.2.2.1.1 (fun a ha => (H2.1.2.2.2.2.2.2.2.1.2 a ha).1)
  have hsn := H2.1.2.2.1.1.2
  have hun := H2.1.2.2.1.2.1.2
  have hu := H2.1.2.2.1.2.2.2
  refine PS_r1 (fun Q hq => t_symbol (S := S2.sy w2 al') H3.1 (by show S2.sn < 6050; omega) (by show S2.u < 6100; omega) (by omega) hq) ?_
  have hTs : DTs V tn (S2.sy w2 al') n (tsy S2.t S2.sn S2.u (V.2.2.1 30 n) (i_ (9 : Nat)) 0 (-1) (i_ n) (V.2.2.1 27 n)) := DTs.t0 (S := S2.sy w2 al') (by decide) H3.1.1.2
  have hTs1 := hTs.a31 (x := i_ S2.sn)
  have hTs2 := hTs1.a5 (k := 55) (x := i_ n) (.inr (.inr rfl))
  simp only [show (S2.sy w2 al').t = S2.t from rfl, show (S2.sy w2 al').sn = S2.sn from rfl, show (S2.sy w2 al').u = S2.u from rfl, show (9 : Int32) = i_ (9 : Nat) from rfl]
  generalize hts : tsy S2.t S2.sn S2.u (V.2.2.1 30 n) (i_ (9 : Nat)) 0 (-1) (i_ n) (V.2.2.1 27 n) = ts at hTs hTs1 hTs2 ⊢
  have hs9 := hts ▸ (tsy_s (t := S2.t) (s := S2.sn) (u := S2.u) (x1 := V.2.2.1 30 n) (x2 := i_ (9 : Nat)) (x3 := 0) (x4 := -1) (x5 := i_ n) (x6 := V.2.2.1 27 n))
  have e31 : w_a (ws_a ts 12 0 31 n (i_ S2.sn)) 12 0 31 n = i_ S2.sn := by rw [Raa, if_pos ⟨rfl, rfl, rfl, rfl⟩]
  simp only [e31, i_nat' (show S2.sn < 2147483648 by omega)]
  have hTt : TLN ts := hTs.2.2.2.2.2.2.1.1
  have hkt : S2.kt.length ≤ S2.sn := H2.1.2.2.2.2.2.1.2.2.2.1
  have h56 : w_i ts 12 0 56 = i_ S2.kt.length := hTs.2.2.2.2.2.1.1.2.trans H2.1.2.2.2.2.2.1.2.1
  refine PS_rand (hTt.i rfl hm) (PS_rand (hTt.i rfl hm) (PS_rand (hTt.sy rfl (by omega)) (PS_rand (hTt.i rfl hm) ?_)))
  refine PS_r0 (fun Q hq => t_know (m := S2.kt.length) hTs2.2.2.2.2.2.2.1.1 (by omega) h56 (by omega) hq) ?_
  have hDc : DCf D (S2.sy w2 al') p A (ws_i (ws_i (ws_p (dcl w2 A) 14 p 16 (some A)) 15 A 5 1) 15 A 13 1) := (((DCf.d0 (S := S2.sy w2 al') H3.1.2.1.1).qz).i (by decide)).i (by decide)
  refine PS_l (fun Q a => wkr_k (x := some A) a) (PS_lex A rfl (PS_land hA.2.2 ?_))
  obtain ⟨⟨d0, d1, d2⟩, ⟨d4, d15, d17, d18, d19, d20⟩, d3, d5, d6, d7, d8, d9, d10, d11, d12, d13, d14, d16, -⟩ := hsd
  have hR : RS1 D V nu (ws_i (ws_i (ws_p (dcl w2 A) 14 p 16 (some A)) 15 A 5 1) 15 A 13 1) (tkn (ws_a (ws_a ts 12 0 31 n (i_ S2.sn)) 12 0 55 S2.sn (i_ n)) S2.kt.length (i_ S2.sn)) (ysU S2.ys S2.sn A) S2.sn A := by
    have ek : ∀ k j, k ≠ 31 → k ≠ 55 → k ≠ 57 → w_a (tkn (ws_a (ws_a ts 12 0 31 n (i_ S2.sn)) 12 0 55 S2.sn (i_ n)) S2.kt.length (i_ S2.sn)) 12 0 k j = w_a ts 12 0 k j := fun k j h1 h2 h3 => by
      unfold tkn
      rw [Rai, Raa, if_neg (fun z => h3 z.1), Raa, if_neg (fun z => h2 z.1), Raa, if_neg (fun z => h1 z.1)]
    have e55 : w_a (tkn (ws_a (ws_a ts 12 0 31 n (i_ S2.sn)) 12 0 55 S2.sn (i_ n)) S2.kt.length (i_ S2.sn)) 12 0 55 S2.sn = i_ n := by
      unfold tkn
      rw [Rai, Raa, if_neg (fun z => absurd z.1 (by decide)), Raa, if_pos ⟨rfl, rfl, rfl, rfl⟩]
    refine ⟨⟨by omega, hA.2.2⟩, ?_, 9, by decide, ?_, ?_, ?_, .inl ⟨by decide, 0, by decide, ?_, ?_, ?_⟩, .inl ⟨by decide, false, ?_, ?_, fun _ => rfl⟩, .inr ⟨n, p, r, d, 20, ⟨?_, hm, hnu, h26⟩, .inr (.inr (.inr (.inr (.inr (.inr (.inr (.inr (.inr (.inr (.inl ⟨rfl, rfl, ⟨?_, ?_, ?_, ?_⟩, ?_⟩))))))))))⟩⟩
    · rw [ek 45 _ (by decide) (by decide) (by decide), hs9.1.1]
      refine .inl ?_
      unfold dcl
      simp only [Rii, Rgi, Rpi, Rai, Rbi, Rri, Rni, Rdi, Roi, Rti, Rzi, RCi, RSi, Rip, Rgp, Rpp, Rap, Rbp, Rrp, Rnp, Rdp, Rop, Rtp, Rzp, RCp, RSp]
      simp [d1]
      exact hnm
    · rw [ek 46 _ (by decide) (by decide) (by decide), hs9.1.2.1]
    · unfold dcl
      simp only [Rii, Rgi, Rpi, Rai, Rbi, Rri, Rni, Rdi, Roi, Rti, Rzi, RCi, RSi, Rip, Rgp, Rpp, Rap, Rbp, Rrp, Rnp, Rdp, Rop, Rtp, Rzp, RCp, RSp]
      simp [d0, wc]
    · unfold dcl
      simp only [Rii, Rgi, Rpi, Rai, Rbi, Rri, Rni, Rdi, Roi, Rti, Rzi, RCi, RSi, Rip, Rgp, Rpp, Rap, Rbp, Rrp, Rnp, Rdp, Rop, Rtp, Rzp, RCp, RSp]
      simp [bI]
    · unfold dcl
      simp only [Rii, Rgi, Rpi, Rai, Rbi, Rri, Rni, Rdi, Roi, Rti, Rzi, RCi, RSi, Rip, Rgp, Rpp, Rap, Rbp, Rrp, Rnp, Rdp, Rop, Rtp, Rzp, RCp, RSp]
      simp
      rfl
    · unfold dcl
      simp only [Rii, Rgi, Rpi, Rai, Rbi, Rri, Rni, Rdi, Roi, Rti, Rzi, RCi, RSi, Rip, Rgp, Rpp, Rap, Rbp, Rrp, Rnp, Rdp, Rop, Rtp, Rzp, RCp, RSp]
      simp [d15]
    · rw [ek 47 _ (by decide) (by decide) (by decide), hs9.1.2.2.1]
      rfl
    · unfold dcl
      simp only [Rii, Rgi, Rpi, Rai, Rbi, Rri, Rni, Rdi, Roi, Rti, Rzi, RCi, RSi, Rip, Rgp, Rpp, Rap, Rbp, Rrp, Rnp, Rdp, Rop, Rtp, Rzp, RCp, RSp]
      simp [d9, bI]
    · rw [ek 48 _ (by decide) (by decide) (by decide), hs9.1.2.2.2.1]
      rfl
    · rw [ek 49 _ (by decide) (by decide) (by decide), hs9.1.2.2.2.2.1]
    · unfold dcl
      simp only [Rii, Rgi, Rpi, Rai, Rbi, Rri, Rni, Rdi, Roi, Rti, Rzi, RCi, RSi, Rip, Rgp, Rpp, Rap, Rbp, Rrp, Rnp, Rdp, Rop, Rtp, Rzp, RCp, RSp]
      simp [d11]
    · unfold dcl
      simp only [Rii, Rgi, Rpi, Rai, Rbi, Rri, Rni, Rdi, Roi, Rti, Rzi, RCi, RSi, Rip, Rgp, Rpp, Rap, Rbp, Rrp, Rnp, Rdp, Rop, Rtp, Rzp, RCp, RSp]
      simp [d14]
    · rw [ek 53 _ (by decide) (by decide) (by decide), hs9.2.2.2.1]
    · rw [ek 54 _ (by decide) (by decide) (by decide), hs9.2.2.2.2.1]
      rfl
    · exact e55
  obtain ⟨H4, hx4⟩ := H3.dk hA H3.2.2.2.1.1.1 hnu hm hs hDc hTs2 hR
  refine PS_ret (H4.en (by decide) (congrArg Prod.fst (hn1.tr hn2).2.2.2) ⟨S2.sn, by show S2.sn :: S2.kc = _; rw [hk2.1], by show S2.sn :: S2.kt = _; rw [hk2.2]⟩ (fun e => ?_))
  have e2 := min_nof H1.2.2.2.2.1.1 hT2 e
  have e1 := min_nof (.inl rfl) hT1 e2.1
  have hxf : NX nu ((S2.sy w2 al').de (ws_i (ws_i (ws_p (dcl w2 A) 14 p 16 (some A)) 15 A 5 1) 15 A 13 1) (tkn (ws_a (ws_a ts 12 0 31 n (i_ S2.sn)) 12 0 55 S2.sn (i_ n)) S2.kt.length (i_ S2.sn)) A) (((S2.sy w2 al').de (ws_i (ws_i (ws_p (dcl w2 A) 14 p 16 (some A)) 15 A 5 1) 15 A 13 1) (tkn (ws_a (ws_a ts 12 0 31 n (i_ S2.sn)) 12 0 55 S2.sn (i_ n)) S2.kt.length (i_ S2.sn)) A).fi p) := ⟨SMS.rf, fun b hb => ⟨.inl hb, SMN.rf⟩, fun _ _ h => h⟩
  refine ⟨.inr rfl, fun j hj q hq => ?_, S2.sn, by show S2.sn :: S2.kc = _; rw [hk2.1], ⟨A, ?_, ?_, ?_⟩, ?_⟩
  · rcases hj with e3 | e3 <;> subst e3
    · rw [hqa] at hq
      cases hq
      exact ((((hG1 e1.2).nx H1.1 hx2).nx H2.1 hx3).nx H3.1 hx4).nx H4.1 hxf
    · rw [hqb] at hq
      cases hq
      exact (((hG2 e2.2).nx H2.1 hx3).nx H3.1 hx4).nx H4.1 hxf
  · show ysU S2.ys S2.sn A S2.sn = some A
    unfold ysU
    rw [if_pos rfl]
  · show w_p (ws_i (ws_i (ws_p (dcl w2 A) 14 p 16 (some A)) 15 A 5 1) 15 A 13 1) 14 p 16 = some A
    rw [Rpi, Rpi, Rpp, if_pos ⟨rfl, rfl, rfl⟩]
  · show w_a (tkn (ws_a (ws_a ts 12 0 31 n (i_ S2.sn)) 12 0 55 S2.sn (i_ n)) S2.kt.length (i_ S2.sn)) 12 0 31 n = i_ S2.sn
    unfold tkn
    rw [Rai, Raa, if_neg (fun z => absurd z.1 (by decide)), Raa, if_neg (fun z => absurd z.1 (by decide)), Raa, if_pos ⟨rfl, rfl, rfl, rfl⟩]
  · show w_a (tkn (ws_a (ws_a ts 12 0 31 n (i_ S2.sn)) 12 0 55 S2.sn (i_ n)) S2.kt.length (i_ S2.sn)) 12 0 46 S2.sn = i_ (9 : Nat)
    unfold tkn
    rw [Rai, Raa, if_neg (fun z => absurd z.1 (by decide)), Raa, if_neg (fun z => absurd z.1 (by decide)), Raa, if_neg (fun z => absurd z.1 (by decide)), hs9.1.2.1]
end NRP
