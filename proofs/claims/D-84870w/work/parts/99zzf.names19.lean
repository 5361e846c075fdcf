/-! ===== ROUNDS, part 21: processes and actions: steps ===== -/
/-- what is asked of a process, of an action -/
def NPA (D : pD) (V : pV) (nu : pN) (tn : Nat → Prop) (rt : Nat) (E' : zE) (Mc Mt : kx_M) (cl f : Nat) : Prop := ∀ (S : nS) (kr : List Nat) (q n d k0 : Nat) (ol : Option Int32) (L L' : Nat), IVN D V nu tn rt S → CHx V tn nu k0 ol n q d → KX V nu f cl q → VOK V nu rt S q → KRE S kr → 75 * k0 + 340 ≤ L → 75 * k0 + 340 ≤ L' → PS (fun Q => zw D.1 L Mc [.ref (w_adr D.1.2.1 5 0), va_rf (some q)] S.w Q) (fun Q => zw E' L' Mt [.ref (w_adr E'.2.1 12 0), .int (i_ n)] S.t Q) (NPO D V nu tn rt q S (fun S' => KRE S' kr ∧ (S'.un + S.vs.length + 1 ≤ S.un + S'.vs.length ∧ S'.sn + S.vs.length + 1 ≤ S.sn + S'.vs.length) ∧ w_a S'.t 12 0 63 n = w_a S.t 12 0 63 n) (fun S' => NS V nu S' f S.u kr q kr))
section NST
variable {D : pD} {V : pV} {nu : pN} {tn : Nat → Prop} {rt p q n nq r d dq j k k0 f s u A cr W kd cl : Nat} {J J' : List Nat} {S S' S0 : nS} {w w2 w' t t' : wS} {v : Option Nat} {x : Int32} {T T' : Int} {kr kr' : List Nat} {L L' Lx Lt : Nat} {E' : zE} {gc gt : pQ} {Φ : kx_Rs → wS → kx_Rs → wS → Prop} {ol : Option Int32} {C : Nat → Prop} {Mc Mt : kx_M}
theorem IVN.e56 (h : IVN D V nu tn rt S) (hk : KRE S kr) : w_i S.t 12 0 56 = i_ kr.length := by
  have := h.2.2.2.2.2.1.2.1
  rw [hk.2] at this
  exact this
theorem ws_id (h : w_i t j k s = x) : ws_i t j k s x = t := by
  have e : w_u3 t.1 j k s x = t.1 := by
    funext a b c
    have := w_u3_at t.1 j k s x a b c
    rw [this]
    split
    · rename_i z
      obtain ⟨z1, z2, z3⟩ := z
      subst z1 z2 z3
      exact h.symm
    · rfl
  show (w_u3 t.1 j k s x, t.2) = t
  rw [e]
theorem ws_56 (h : IVN D V nu tn rt S) (hk : KRE S kr) : ws_i S.t 12 0 56 (i_ kr.length) = S.t := ws_id (h.e56 hk)
/-- a process below -/
theorem n_cp {Ac Bt : (kx_Rs → wS → Prop) → wS → Prop} {X Y : (kx_Rs → wS → Prop) → String → wS → Prop} (IH : NPA D V nu tn rt E' Mc Mt cl f) (hs : STR D V nu tn rt) (H : HM D V nu tn rt p J cr S0 S T T) (hk : KRE S kr) (hj : j ∉ J) (hj7 : 3 ≤ j ∧ j ≤ 7) (hq : V.2.1 p j = some q) (hC : CHx V tn nu k0 ol nq q dq) (hX : KX V nu f cl q) (hL : 75 * k0 + 340 ≤ Lx) (hL' : 75 * k0 + 340 ≤ Lt)
    (kk : ∀ (S1 : nS) (T1 : Int), HM D V nu tn rt p (j :: J) cr S0 S1 (min T T1) (min T T1) → FTK T1 → KRE S1 kr → S1.u = S.u → NX nu S S1 → (∀ b ∈ S.vs, SMN nu S S1 b) → (T1 = NOF → NS V nu S1 f S.u kr q kr) → PS (fun Q => Ac Q S1.w) (fun Q => Bt Q S1.t) Φ) :
    PS (fun Q => zw D.1 Lx Mc [.ref (w_adr D.1.2.1 5 0), va_rf (some q)] S.w (wk0 (fun w1 => wle S.w w1 → Ac Q w1) (X Q))) (fun Q => zw E' Lt Mt [.ref (w_adr E'.2.1 12 0), .int (i_ nq)] S.t (wk0 (fun t1 => wle S.t t1 → Bt Q t1) (Y Q))) Φ := by
  have hnk := hC.nk hs
  obtain ⟨I4, V4⟩ := H.go hs hj hj7 hq hnk.1 hnk.2
  have hch := IH _ kr q nq dq k0 ol Lx Lt I4 hC hX V4 hk hL hL'
  refine PS_bind (gc1 := fun Q => zw D.1 Lx Mc [.ref (w_adr D.1.2.1 5 0), va_rf (some q)] S.w Q) (gt1 := fun Q => zw E' Lt Mt [.ref (w_adr E'.2.1 12 0), .int (i_ nq)] S.t Q) hch (fun r1 w2 r2 t2 hb => ?_)
  obtain ⟨S', T1, ⟨e1, e2, e3, e4⟩, HB, hx, hq, hT1, ⟨hu, hsm⟩, hA, hG⟩ := H.bk (J' := j :: J) ⟨H.2.2.1.1, H.2.2.1.2.1⟩ ⟨fun _ => List.mem_cons_self, fun i hi => List.mem_cons_of_mem _ hi⟩ hb
  subst e1 e2 e3 e4
  exact PS_l (fun Q a => fun _ => a) (PS_r (fun Q a => fun _ => a) (kk S' T1 HB hT1 hA.1 hu hx (fun b hb => (hsm b hb).1) hG))
/-- at the end of an action -/
theorem n_ae {S1 : nS} (hnu : nu p = some (n, r, d)) (hm : n < 14000) (h26 : V.2.2.1 26 n = i_ kd) (H : HM D V nu tn rt p J cr S S1 T T) (h7 : 7 ∉ J) (hk : KRE S1 kr) (hu : S1.u = S.u) (hG : T = NOF → NSk V nu (S1.fi p) (NS V nu (S1.fi p) f) (fun kr C q => NE V nu (S1.fi p) kr f C q) S.u kr p kr n kd) :
    PS (fun Q => Q (.inl none) S1.w) (fun Q => Q (.inl none) (ws_i S1.t 12 0 56 (i_ kr.length))) (NPO D V nu tn rt p S (fun S' => KRE S' kr) (fun S' => NS V nu S' (f + 1) S.u kr p kr)) := by
  rw [ws_56 H.1 hk]
  exact PS_ret (H.en h7 hu hk (fun e => ⟨.inr rfl, n, r, d, kd, hnu, hm, h26, hG e⟩))
theorem NX.fi {S1 : nS} : NX nu S1 (S1.fi p) := ⟨SMS.rf, fun b hb => ⟨.inl hb, SMN.rf⟩, fun _ _ h => h⟩
/-- STOP, SKIP -/
theorem n_A2 (hs : STR D V nu tn rt) (hI : IVN D V nu tn rt S) (hC : CHx V tn nu k0 ol n p d) (h26 : V.2.2.1 26 n = i_ (2 : Nat)) (hK : KX V nu (f + 1) 2 p) (hv : VOK V nu rt S p) (hk : KRE S kr) (hL : 75 * k0 + 340 ≤ L) (hL' : 75 * k0 + 340 ≤ L') : PS (fun Q => zw D.1 L kt_M131 [.ref (w_adr D.1.2.1 5 0), va_rf (some p)] S.w Q) (fun Q => zw E' L' kt_M471 [.ref (w_adr E'.2.1 12 0), .int (i_ n)] S.t Q) (NPO D V nu tn rt p S (fun S' => KRE S' kr) (fun S' => NS V nu S' (f + 1) S.u kr p kr)) := by
  obtain ⟨r, hnu, hm, -, hr, -⟩ := hC.nb h26 ⟨by decide, by decide⟩
  obtain ⟨kd, h26', hcl, hch⟩ := hK.at hnu hm
  have hkd : kd = 2 := by
    have := (i_eq (by unfold cok at hcl; omega) (by unfold cok at hcl; omega)).mp (h26.symm.trans h26')
    omega
  subst hkd
  obtain ⟨htm, hl2, hF⟩ := hs.lf hnu hm h26 (by decide)
  have H := HM.start hI hv
  have hw := hI.nw hnu
  have ht := hI.1.2.2 n htm
  have hT := hI.1.2.1
  have hkA : KRE (S.at p) kr := hk
  have h56 : w_i S.t 12 0 56 = i_ kr.length := hI.e56 hk
  obtain ⟨-, hk0⟩ := hF
  refine PS_of (fun Q h => zt_X6_action_p0 (by omega) h) (fun Q h => zt_X13_nameAction_p0 (by omega) h) ?_
  simp only [zb_X6_action_p0, zb_X13_nameAction_p0, zb_X6_action_p208, zb_X13_nameAction_p697, i_nat' (show n < 2147483648 by omega), ht 26 rfl, h26, h56]
  refine PS_lex p rfl (PS_land hw.1 (PS_lex 34 (zO_k hs.1.1 (by decide) ((hw.2.1 0 (by decide)).trans hk0) rfl) ?_))
  refine PS_rand (hT.i rfl hm) ?_
  repeat (first | refine PS_lp (by decide) ?_ | refine PS_ln (by decide) ?_)
  repeat (first | refine PS_rp (by decide) ?_ | refine PS_rn (by decide) ?_)
  exact n_ae (S1 := S.at p) hnu hm h26 H List.not_mem_nil hkA rfl (fun _ => rfl)
/-- WHILE -/
theorem n_A16 (hs : STR D V nu tn rt) (IH : NPA D V nu tn rt E' kt_M149 kt_M473 1 f) (hI : IVN D V nu tn rt S) (hC : CHx V tn nu k0 ol n p d) (h26 : V.2.2.1 26 n = i_ (16 : Nat)) (hK : KX V nu (f + 1) 2 p) (hv : VOK V nu rt S p) (hk : KRE S kr) (hL : 75 * k0 + 340 ≤ L) (hL' : 75 * k0 + 340 ≤ L') : PS (fun Q => zw D.1 L kt_M131 [.ref (w_adr D.1.2.1 5 0), va_rf (some p)] S.w Q) (fun Q => zw E' L' kt_M471 [.ref (w_adr E'.2.1 12 0), .int (i_ n)] S.t Q) (NPO D V nu tn rt p S (fun S' => KRE S' kr) (fun S' => NS V nu S' (f + 1) S.u kr p kr)) := by
  obtain ⟨r, hnu, hm, -, hr, -⟩ := hC.nb h26 ⟨by decide, by decide⟩
  obtain ⟨kd, h26', hcl, hch⟩ := hK.at hnu hm
  have hkd : kd = 16 := by
    have := (i_eq (by unfold cok at hcl; omega) (by unfold cok at hcl; omega)).mp (h26.symm.trans h26')
    omega
  subst hkd
  obtain ⟨htm, hl2, hF⟩ := hs.lf hnu hm h26 (by decide)
  have H := HM.start hI hv
  have hw := hI.nw hnu
  have ht := hI.1.2.2 n htm
  have hT := hI.1.2.1
  have hkA : KRE (S.at p) kr := hk
  have h56 : w_i S.t 12 0 56 = i_ kr.length := hI.e56 hk
  obtain ⟨hk0, ⟨qa, na, hqa, h28, hCa⟩, qb, nb, hqb, h29, hCb⟩ := hF
  have hXa := hch 3 ⟨by decide, by decide⟩ (by omega) (ujk.c (by omega)) 0 qa (.inl rfl) hqa
  have hXb := hch 4 ⟨by decide, by decide⟩ (by omega) (ujk.c (by omega)) 0 qb (.inl rfl) hqb
  have hc3 : ccl (V.1 p 10) (V.1 p 11) 16 3 = 0 := rfl
  have hc4 : ccl (V.1 p 10) (V.1 p 11) 16 4 = 1 := rfl
  rw [hc3] at hXa
  rw [hc4] at hXb
  refine PS_of (fun Q h => zt_X6_action_p0 (by omega) h) (fun Q h => zt_X13_nameAction_p0 (by omega) h) ?_
  simp only [zb_X6_action_p0, zb_X13_nameAction_p0, zb_X6_action_p208, zb_X13_nameAction_p697, i_nat' (show n < 2147483648 by omega), ht 26 rfl, h26, h56, ht 28 rfl, h28]
  refine PS_lex p rfl (PS_land hw.1 (PS_lex 50 (zO_k hs.1.1 (by decide) ((hw.2.1 0 (by decide)).trans hk0) rfl) ?_))
  refine PS_rand (hT.i rfl hm) ?_
  repeat (first | refine PS_lp (by decide) ?_ | refine PS_ln (by decide) ?_)
  repeat (first | refine PS_rp (by decide) ?_ | refine PS_rn (by decide) ?_)
  refine PS_rand (hT.i rfl hm) ?_
  refine PS_l (fun Q h => zt_X6_chosen_p0 (by omega) h) ?_
  simp only [zb_X6_chosen_p0, zb_X6_chosen_p15]
  refine PS_lex p rfl (PS_land hw.1 ?_)
  simp only [hw.2.1 3 (by decide), hqa]
  refine PS_ln (by simp) ?_
  refine n_ch (S := S.at p) (n_EX hs f) hs H hkA List.not_mem_nil ⟨by decide, by decide⟩ hqa hCa hXa (by omega) (by omega) (fun S1 T1 H1 hT1 hn1 hx1 hsm1 hG1 => ?_)
  have hw1 := H1.1.nw hnu
  have ht1 := H1.1.1.2.2 n htm
  have hk1 : KRE S1 kr := hkA.nd hn1
  have hu1 : S1.u = S.u := congrArg Prod.fst hn1.2.2.2
  refine PS_lex p rfl (PS_land hw1.1 ?_)
  simp only [ht1 29 rfl, h29, hw1.2.1 4 (by decide), hqb]
  refine PS_ln (not_not_intro ((hw1.2.1 0 (by decide)).trans hk0)) ?_
  refine PS_rand (H1.1.1.2.1.i rfl hm) ?_
  refine n_cp IH hs H1 hk1 (by decide) ⟨by decide, by decide⟩ hqb hCb hXb (by omega) (by omega) (fun S2 T2 H2 hT2 hk2 hu2 hx2 hsm2 hG2 => ?_)
  refine PS_l (fun Q a => fun _ => a) ?_
  refine n_ae hnu hm h26 H2 (by decide) hk2 (hu2.trans hu1) (fun e => ⟨rfl, fun q hq => ?_, fun q hq => ?_⟩)
  · have e1 := min_nof H1.2.2.2.2.1.1 hT2 e
    rw [hqa] at hq
    cases hq
    exact ((hG1 (min_nof (.inl rfl) hT1 e1.1).2).nx H1.1 hx2).nx H2.1 NX.fi
  · have e1 := min_nof H1.2.2.2.2.1.1 hT2 e
    rw [hqb] at hq
    cases hq
    rw [← hu1]
    exact (hG2 e1.2).nx H2.1 NX.fi
end NST
