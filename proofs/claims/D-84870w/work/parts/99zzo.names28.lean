/-! ===== ROUNDS, part 30: IN CASE ===== -/
section NIC
variable {D : pD} {V : pV} {nu : pN} {tn : Nat → Prop} {rt p q n nq r d dq j k k0 f s u A c cr W Cx kd cl : Nat} {J J' : List Nat} {S S' S0 : nS} {w w2 w' t t' : wS} {v : Option Nat} {x x2 y y0 : Int32} {T T' : Int} {kr kr' ks : List Nat} {L L' L2 Lc Lx Ly Lt : Nat} {E' : zE} {gc gt : pQ} {Φ : kx_Rs → wS → kx_Rs → wS → Prop} {ol : Option Int32} {C : Nat → Prop} {Q : kx_Rs → wS → Prop}
/-- an item of an IN CASE -/
theorem n_it19 {K KT : (kx_Rs → wS → Prop) → kx_Rs → wS → Prop} (hKT : ∀ Q e w, KT Q (.inr e) w = Q (.inr e) w) (hs : STR D V nu tn rt) (IH : ∀ g, g ≤ f → NPA D V nu tn rt E' kt_M149 kt_M473 1 g) (hI : IVN D V nu tn rt S) (hC : CHx V tn nu k0 ol n p d) (hK : KX V nu f 19 p) (hv : VOK V nu rt S p) (hk : KRE S kr) (hL : 75 * k0 + 340 ≤ Lx) (hL' : 75 * k0 + 340 ≤ L')
    (kc : ∀ r w' r' t', NPO D V nu tn rt p S (KUE S) (fun S' => NS V nu S' f S.u kr p kr) r w' r' t' → PS (fun Q => zL_X6_variants_p2 D.1 Lx (K Q) (V.2.1 p 7) w') (fun Q => zL_X13_nameAction_p188 E' L' (KT Q) x2 (V.2.2.1 32 n) t') Φ) :
    PS (fun Q => zL_X6_variants_p2 D.1 Lx (K Q) (some p) S.w) (fun Q => zL_X13_nameAction_p188 E' L' (KT Q) x2 (i_ n) S.t) Φ := by
  cases f with
  | zero => exact hK.elim
  | succ f =>
  obtain ⟨r, kd, hnu, hm, hr, h26, hcl⟩ := hK.nb ⟨by decide, by decide⟩ hC
  have hkd : kd = 19 := by unfold cok at hcl; omega
  subst hkd
  obtain ⟨kd, h26', hcl', hch⟩ := hK.at hnu hm
  have hkd : kd = 19 := by unfold cok at hcl'; omega
  subst hkd
  obtain ⟨htm, hl2, hF⟩ := hs.lf hnu hm h26 (by decide)
  have H := HM.start hI hv
  have hw := hI.nw hnu
  have ht := hI.1.2.2 n htm
  have hkA : KRE (S.at p) kr := hk
  obtain ⟨hk0, hnm, hl0, qb, nb, hqb, h30, hCb⟩ := hF
  have hl1 : ∃ l, LPx V tn nu r (some (V.2.2.1 27 n)) l (V.2.1 p 4) (V.2.2.1 29 n) none (-1) ∧ ∀ z ∈ l, V.2.2.1 26 z.1 = 60 := by
    rcases hl0 with ⟨e1, e2⟩ | ⟨l, hl, -, h60⟩
    · exact ⟨[], ⟨e1, e2⟩, fun z hz => absurd hz List.not_mem_nil⟩
    · exact ⟨l, hl, h60⟩
  obtain ⟨l, hl, h60⟩ := hl1
  have hc4 : ccl (V.1 p 10) (V.1 p 11) 19 4 = 60 := rfl
  have hc6 : ccl (V.1 p 10) (V.1 p 11) 19 6 = 1 := rfl
  have hX : ∀ z ∈ l, KX V nu f 60 z.2.1 ∧ V.2.2.1 26 z.1 = i_ (60 : Nat) := fun z hz => by
    obtain ⟨i, hi⟩ := hl.nx2 z hz
    have h := hch 4 ⟨by decide, by decide⟩ (by omega) (ujk.c (by omega)) i z.2.1 (.inr (.inl ⟨rfl, by simp⟩)) hi
    rw [hc4] at h
    exact ⟨h, h60 z hz⟩
  have hXb := hch 6 ⟨by decide, by decide⟩ (by omega) (ujk.c (by omega)) 0 qb (.inl rfl) hqb
  rw [hc6] at hXb
  cases f with
  | zero => exact hXb.elim
  | succ f =>
  refine PS_of (fun Q h => zt_X6_variants_p2 (by omega) h) (fun Q h => zt_X13_nameAction_p188 (by omega) h) ?_
  simp only [zb_X6_variants_p2, zb_X13_nameAction_p188, i_nat' (show n < 2147483648 by omega), ht 28 rfl, ht 27 rfl]
  refine PS_ln (by simp) (PS_lex p rfl (PS_land hw.1 ?_))
  refine PS_rn (i_nn (by omega)) (PS_rand (hI.1.2.1.i rfl hm) (PS_rand (hI.1.2.1.i rfl hm) ?_))
  simp only [hw.2.2 9 (by decide), (hw.2.2 2 (by decide)).trans hl2]
  refine n_f2 (S := S.at p) (Kc := fun Q v w1 => zw D.1 (Lx - 22) kt_M139 [.ref (w_adr D.1.2.1 5 0), va_rf (w_p w1 14 p 4)] (ws_p w1 14 p 16 v) (wk0 (fun w4 => wle (ws_p w1 14 p 16 v) w4 → zw D.1 (Lx - 23) kt_M149 [.ref (w_adr D.1.2.1 5 0), va_rf (w_p w4 14 p 6)] w4 (wk0 (fun w6 => wle w4 w6 → zL_X6_variants_p2 D.1 Lx (K Q) (w_p w6 14 p 7) w6) (fun e w => K Q (.inr e) w))) (fun e w => K Q (.inr e) w))) (Kt := fun Q t => zb_X13_nameAction_p251 E' L' (KT Q) x2 (i_ n) t) hs H hkA hnu htm hm wc_6 (by decide) rfl hnm (by omega) (by omega) (by omega) (fun S4 T4 vv hT4 H4 hn4 hx4 hw4 hwk hU => ?_)
  have hk4 : KRE S4 kr := hkA.nd hn4
  have hu4 : S4.u = S.u := congrArg Prod.fst hn4.2.2.2
  have ht4 := H4.1.1.2.2 n htm
  have hw4' : S4.w = ws_p (ru S.w T4) 14 p 16 vv := hw4
  have hwk' : w_p (ru S.w T4) 14 p 4 = V.2.1 p 4 := hwk 4 (by decide)
  simp only [zb_X13_nameAction_p251, i_nat' (show n < 2147483648 by omega), ht4 29 rfl]
  refine PS_rand (H4.1.1.2.1.i rfl hm) ?_
  simp only [show (S.at p).w = S.w from rfl, hwk', ← hw4']
  refine n_places (E' := E') (S := S4) (J := []) (J' := [4]) (l := l) (y := p) (j := 4) (gtl := fun x t Q => zL_X13_nameAction_p259 E' L' (KT Q) x2 (i_ n) x t) (n_EX hs f) hs H4 hk4 ⟨H4.2.2.1.1, H4.2.2.1.2.1⟩ (fun e => absurd (H4.2.2.1.2.2.2 4 e) List.not_mem_nil) ⟨by decide, by decide⟩ (fun i hi => absurd hi List.not_mem_nil) (fun _ => List.mem_cons_self) hl hX (by omega) (Lt := L' - 23) (by omega) (fun nq t gc Φ hnq h => ?_) (fun S1 T1 H1 hn1 hx1 hsm1 hG1 => ?_)
  · refine PS_r (fun Q h => zt_X13_nameAction_p259 (by omega) h) ?_
    simp only [zb_X13_nameAction_p259, i_nat' (show nq < 2147483648 by omega), hKT]
    exact PS_rn (i_nn (by omega)) h
  · have hw1 := H1.1.nw hnu
    have ht1 := H1.1.1.2.2 n htm
    have hk1 : KRE S1 kr := hk4.nd hn1
    have hu1 : S1.u = S.u := (congrArg Prod.fst hn1.2.2.2).trans hu4
    refine PS_r (fun Q h => zt_X13_nameAction_p259 (by omega) h) ?_
    simp only [zb_X13_nameAction_p259, i_nat' (show n < 2147483648 by omega), ht1 30 rfl, h30, hw1.2.1 6 (by decide), hqb]
    refine PS_rp (by decide) (PS_rand (H1.1.1.2.1.i rfl hm) ?_)
    have hTT : T1 = min T1 T1 := by omega
    refine n_cp (IH (f + 1) (Nat.le_succ _)) hs H1 hk1 (by decide) ⟨by decide, by decide⟩ hqb hCb hXb (by omega) (by omega) (fun S2 T2 H2 hT2 hk2 hu2 hx2 hsm2 hG2 => ?_)
    have hw2 := H2.1.nw hnu
    have ht2 := H2.1.1.2.2 n htm
    refine PS_rand (H2.1.1.2.1.i rfl hm) ?_
    simp only [hw2.2.1 7 (by decide), ht2 32 rfl]
    refine kc (.inl none) S2.w (.inl none) S2.t (H2.en (by decide) (hu2.trans hu1) (KUE.of hk hk2 (hu2.trans hu1)) (fun e => ⟨.inr rfl, n, r, d, 19, hnu, hm, h26, rfl, ?_, fun i q hq => ?_, fun q hq => ?_⟩))
    · have e1 := (min_nof H1.2.2.2.2.1.1 hT2 e).1
      obtain ⟨s, c, g1, ⟨A, g2, g3, g4⟩, g5, g6⟩ := hU (min_nof (.inl rfl) hT4 (hG1 e1).1).2
      have hsp1 := hsm1 p H4.2.2.1.1
      have hsp2 := hsm2 p H1.2.2.1.1
      exact ⟨s, c, g1, ⟨A, (hx2.1.1 s A (hx1.1.1 s A g2).1).1, by rw [show (S2.fi p).w = S2.w from rfl, hsp2.1.1, hsp1.1.1]; exact g3, by rw [show (S2.fi p).t = S2.t from rfl, hsp2.2 n r d hnu 31 (.inl rfl), hsp1.2 n r d hnu 31 (.inl rfl)]; exact g4⟩, by rw [show (S2.fi p).t = S2.t from rfl, hx2.1.2.1 s (H1.1.sl (hx1.1.1 s A g2).1) 46 (by decide), hx1.1.2.1 s (H4.1.sl g2) 46 (by decide)]; exact g5, g6⟩
    · obtain ⟨z, hz, e2⟩ := hl.nx1 hq
      rw [← e2]
      exact (((hG1 (min_nof H1.2.2.2.2.1.1 hT2 e).1).2 z hz).nx H1.1 hx2).nx H2.1 NX.fi
    · rw [hqb] at hq
      cases hq
      rw [← hu1]
      exact (hG2 (min_nof H1.2.2.2.2.1.1 hT2 e).2).nx H2.1 NX.fi
end NIC
