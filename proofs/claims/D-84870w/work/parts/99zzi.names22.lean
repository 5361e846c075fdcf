/-! ===== ROUNDS, part 24: assignments, IN to one ===== -/
section NAS
variable {D : pD} {V : pV} {nu : pN} {tn : Nat → Prop} {rt p q n nq r d dq j k k0 f s u A cr W kd cl : Nat} {J J' : List Nat} {S S' S0 : nS} {w w2 w' t t' : wS} {v : Option Nat} {x x2 : Int32} {T T' : Int} {kr kr' : List Nat} {L L' Lx Ly Lt : Nat} {E' : zE} {gc gt : pQ} {Φ : kx_Rs → wS → kx_Rs → wS → Prop} {ol : Option Int32} {C : Nat → Prop} {Mc Mt : kx_M}
/-- an assignment -/
theorem n_A4 (hs : STR D V nu tn rt) (hI : IVN D V nu tn rt S) (hC : CHx V tn nu k0 ol n p d) (h26 : V.2.2.1 26 n = i_ (4 : Nat)) (hK : KX V nu (f + 1) 2 p) (hv : VOK V nu rt S p) (hk : KRE S kr) (hL : 75 * k0 + 340 ≤ L) (hL' : 75 * k0 + 340 ≤ L') : PS (fun Q => zw D.1 L kt_M131 [.ref (w_adr D.1.2.1 5 0), va_rf (some p)] S.w Q) (fun Q => zw E' L' kt_M471 [.ref (w_adr E'.2.1 12 0), .int (i_ n)] S.t Q) (NPO D V nu tn rt p S (fun S' => KRE S' kr) (fun S' => NS V nu S' (f + 1) S.u kr p kr)) := by
  obtain ⟨r, hnu, hm, -, hr, -⟩ := hC.nb h26 ⟨by decide, by decide⟩
  obtain ⟨kd, h26', hcl, hch⟩ := hK.at hnu hm
  have hkd : kd = 4 := by
    have := (i_eq (by unfold cok at hcl; omega) (by unfold cok at hcl; omega)).mp (h26.symm.trans h26')
    omega
  subst hkd
  obtain ⟨htm, hl2, hF⟩ := hs.lf hnu hm h26 (by decide)
  have H := HM.start hI hv
  have hw := hI.nw hnu
  have ht := hI.1.2.2 n htm
  have hT := hI.1.2.1
  have hkA : KRE (S.at p) kr := hk
  have h56 : w_i S.t 12 0 56 = i_ kr.length := hI.e56 hk
  obtain ⟨-, hk0, ⟨la, hla, hne, h60⟩, lb, hlb, -⟩ := hF
  have hc3 : ccl (V.1 p 10) (V.1 p 11) 4 3 = 60 := rfl
  have hc4 : ccl (V.1 p 10) (V.1 p 11) 4 4 = 0 := rfl
  have hXa : ∀ z ∈ la, KX V nu f 60 z.2.1 ∧ V.2.2.1 26 z.1 = i_ (60 : Nat) := fun z hz => by
    obtain ⟨i, hi⟩ := LPx.nx2 hla z hz
    have h := hch 3 ⟨by decide, by decide⟩ (by omega) (ujk.c (by omega)) i z.2.1 (.inr (.inr (.inl ⟨rfl, by simp⟩))) hi
    rw [hc3] at h
    exact ⟨h, h60 z hz⟩
  have hXb : ∀ z ∈ lb, KX V nu f 0 z.2.1 := fun z hz => by
    obtain ⟨i, hi⟩ := LPx.nx2 hlb z hz
    have h := hch 4 ⟨by decide, by decide⟩ (by omega) (ujk.c (by omega)) i z.2.1 (.inr (.inl ⟨rfl, by simp⟩)) hi
    rw [hc4] at h
    exact h
  cases f with
  | zero =>
    obtain ⟨z, hz⟩ := List.exists_mem_of_ne_nil la hne
    exact (hXa z hz).1.elim
  | succ f =>
  refine PS_of (fun Q h => zt_X6_action_p0 (by omega) h) (fun Q h => zt_X13_nameAction_p0 (by omega) h) ?_
  simp only [zb_X6_action_p0, zb_X13_nameAction_p0, zb_X6_action_p208, i_nat' (show n < 2147483648 by omega), ht 26 rfl, h26, h56, ht 28 rfl]
  refine PS_lex p rfl (PS_land hw.1 (PS_lex 36 (zO_k hs.1.1 (by decide) ((hw.2.1 0 (by decide)).trans hk0) rfl) ?_))
  refine PS_rand (hT.i rfl hm) ?_
  repeat (first | refine PS_lp (by decide) ?_ | refine PS_ln (by decide) ?_)
  repeat (first | refine PS_rp (by decide) ?_ | refine PS_rn (by decide) ?_)
  simp only [hw.2.1 3 (by decide)]
  refine PS_rand (hT.i rfl hm) ?_
  refine n_places (E' := E') (S := S.at p) (J := []) (J' := [3]) (l := la) (y := p) (j := 3) (gtl := fun x t Q => zL_X13_nameAction_p87 E' L' Q (i_ n) (i_ kr.length) x t) (n_EX hs f) hs H hkA ⟨H.2.2.1.1, H.2.2.1.2.1⟩ (fun e => absurd (H.2.2.1.2.2.2 3 e) List.not_mem_nil) ⟨by decide, by decide⟩ (fun i hi => absurd hi List.not_mem_nil) (fun _ => List.mem_cons_self) hla hXa (by omega) (Lt := L' - 23) (by omega) (fun nq t gc Φ hnq h => ?_) (fun S1 T1 H1 hn1 hx1 hsm1 hG1 => ?_)
  · refine PS_r (fun Q h => zt_X13_nameAction_p87 (by omega) h) ?_
    simp only [zb_X13_nameAction_p87, i_nat' (show nq < 2147483648 by omega)]
    exact PS_rn (i_nn (by omega)) h
  · have hw1 := H1.1.nw hnu
    have ht1 := H1.1.1.2.2 n htm
    have hk1 : KRE S1 kr := hkA.nd hn1
    have hu1 : S1.u = S.u := congrArg Prod.fst hn1.2.2.2
    refine PS_r (fun Q h => zt_X13_nameAction_p87 (by omega) h) ?_
    simp only [zb_X13_nameAction_p87, i_nat' (show n < 2147483648 by omega), ht1 29 rfl, hw1.2.1 4 (by decide)]
    refine PS_rp (by decide) (PS_rand (H1.1.1.2.1.i rfl hm) ?_)
    refine n_exs (E' := E') (S := S1) (J := [3]) (J' := [4, 3]) (l := lb) (y := p) (j := 4) (gtl := fun x t Q => zL_X13_nameAction_p114 E' L' Q (i_ kr.length) x t) (n_EX hs (f + 1)) hs H1 hk1 ⟨H1.2.2.1.1, H1.2.2.1.2.1⟩ (fun e => absurd (H1.2.2.1.2.2.2 4 e) (by decide)) ⟨by decide, by decide⟩ (fun i hi => List.mem_cons_of_mem _ hi) (fun _ => List.mem_cons_self) hlb hXb (by omega) (Lt := L' - 24) (by omega) (fun nq t gc Φ hnq h => ?_) (fun S2 T2 H2 hn2 hx2 hsm2 hG2 => ?_)
    · refine PS_r (fun Q h => zt_X13_nameAction_p114 (by omega) h) ?_
      simp only [zb_X13_nameAction_p114, i_nat' (show nq < 2147483648 by omega)]
      exact PS_rn (i_nn (by omega)) h
    · have hk2 : KRE S2 kr := hk1.nd hn2
      have hu2 : S2.u = S1.u := congrArg Prod.fst hn2.2.2.2
      refine PS_r (fun Q h => zt_X13_nameAction_p114 (by omega) h) ?_
      simp only [zb_X13_nameAction_p114, zb_X13_nameAction_p697]
      refine PS_rp (by decide) ?_
      refine n_ae hnu hm h26 H2 (by decide) hk2 (hu2.trans hu1) (fun e => ⟨rfl, fun i q hq => ?_, fun i q hq => ?_⟩)
      · obtain ⟨z, hz, e2⟩ := LPx.nx1 hla hq
        rw [← e2]
        exact (((hG1 (hG2 e).1).2 z hz).nx H1.1 hx2).nx H2.1 NX.fi
      · obtain ⟨z, hz, e2⟩ := LPx.nx1 hlb hq
        rw [← e2]
        exact ((hG2 e).2 z hz).nx H2.1 NX.fi
end NAS
