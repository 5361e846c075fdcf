/-! ===== ROUNDS, part 40: processes ===== -/
/-- what is asked of an action -/
def NPC (D : pD) (V : pV) (nu : pN) (tn : Nat → Prop) (rt : Nat) (E' : zE) (f : Nat) : Prop := ∀ (S : nS) (kr : List Nat) (q n d k0 : Nat) (ol : Option Int32) (L L' : Nat), IVN D V nu tn rt S → CHx V tn nu k0 ol n q d → KX V nu f 2 q → VOK V nu rt S q → KRE S kr → 75 * k0 + 340 ≤ L → 75 * k0 + 340 ≤ L' → PS (fun Q => zw D.1 L kt_M131 [.ref (w_adr D.1.2.1 5 0), va_rf (some q)] S.w Q) (fun Q => zw E' L' kt_M471 [.ref (w_adr E'.2.1 12 0), .int (i_ n)] S.t Q) (NPO D V nu tn rt q S (fun S' => KRE S' kr) (fun S' => NS V nu S' f S.u kr q kr))
/-- what is asked of a declaration -/
def NPD (D : pD) (V : pV) (nu : pN) (tn : Nat → Prop) (rt : Nat) (E' : zE) (f : Nat) : Prop := ∀ (S : nS) (kr : List Nat) (q n d k0 : Nat) (ol : Option Int32) (L L' : Nat), IVN D V nu tn rt S → CHx V tn nu k0 ol n q d → KX V nu f 3 q → VOK V nu rt S q → KRE S kr → 75 * k0 + 340 ≤ L → 75 * k0 + 340 ≤ L' → PS (fun Q => zw D.1 L kt_M136 [.ref (w_adr D.1.2.1 5 0), va_rf (some q)] S.w Q) (fun Q => zw E' L' kt_M474 [.ref (w_adr E'.2.1 12 0), .int (i_ n)] S.t Q) (NPO D V nu tn rt q S (fun S' => ∃ ks, KRE S' (ks ++ kr)) (fun S' => NS V nu S' f S.u kr q S'.kc))
section NPX
variable {D : pD} {V : pV} {nu : pN} {tn : Nat → Prop} {rt p q n nq m r d dq j k k' k0 f s u un y A c cr crq kd : Nat} {J J' Jq : List Nat} {S S' S0 S1 : nS} {w w2 w' t t' : wS} {v v2 : Option Nat} {x x1 x2 z y9 : Int32} {T T' T1 : Int} {kr ks : List Nat} {L L' Lc Ls Lk Lx Lt : Nat} {E' : zE} {ol : Option Int32} {Q : kx_Rs → wS → Prop} {Φ : kx_Rs → wS → kx_Rs → wS → Prop}
/-- an action below -/
theorem n_cc {Ac Bt : (kx_Rs → wS → Prop) → wS → Prop} {X Y : (kx_Rs → wS → Prop) → String → wS → Prop} (IH : NPC D V nu tn rt E' f) (hs : STR D V nu tn rt) (H : HM D V nu tn rt p J cr S0 S T T) (hk : KRE S kr) (hj : j ∉ J) (hj7 : 3 ≤ j ∧ j ≤ 7) (hq : V.2.1 p j = some q) (hC : CHx V tn nu k0 ol nq q dq) (hX : KX V nu f 2 q) (hL : 75 * k0 + 340 ≤ Lx) (hL' : 75 * k0 + 340 ≤ Lt)
    (kk : ∀ (S1 : nS) (T1 : Int), HM D V nu tn rt p (j :: J) cr S0 S1 (min T T1) (min T T1) → FTK T1 → KRE S1 kr → S1.u = S.u → NX nu S S1 → (∀ b ∈ S.vs, SMN nu S S1 b) → (T1 = NOF → NS V nu S1 f S.u kr q kr) → PS (fun Q => Ac Q S1.w) (fun Q => Bt Q S1.t) Φ) :
    PS (fun Q => zw D.1 Lx kt_M131 [.ref (w_adr D.1.2.1 5 0), va_rf (some q)] S.w (wk0 (fun w1 => wle S.w w1 → Ac Q w1) (X Q))) (fun Q => zw E' Lt kt_M471 [.ref (w_adr E'.2.1 12 0), .int (i_ nq)] S.t (wk0 (fun t1 => wle S.t t1 → Bt Q t1) (Y Q))) Φ := by
  have hnk := hC.nk hs
  obtain ⟨I4, V4⟩ := H.go hs hj hj7 hq hnk.1 hnk.2
  have hch := IH _ kr q nq dq k0 ol Lx Lt I4 hC hX V4 hk hL hL'
  refine PS_bind (gc1 := fun Q => zw D.1 Lx kt_M131 [.ref (w_adr D.1.2.1 5 0), va_rf (some q)] S.w Q) (gt1 := fun Q => zw E' Lt kt_M471 [.ref (w_adr E'.2.1 12 0), .int (i_ nq)] S.t Q) hch (fun r1 w2 r2 t2 hb => ?_)
  obtain ⟨S', T1, ⟨e1, e2, e3, e4⟩, HB, hx, hq, hT1, ⟨hu, hsm⟩, hA, hG⟩ := H.bk (J' := j :: J) ⟨H.2.2.1.1, H.2.2.1.2.1⟩ ⟨fun _ => List.mem_cons_self, fun i hi => List.mem_cons_of_mem _ hi⟩ hb
  subst e1 e2 e3 e4
  exact PS_l (fun Q a => fun _ => a) (PS_r (fun Q a => fun _ => a) (kk S' T1 HB hT1 hA hu hx (fun b hb => (hsm b hb).1) hG))
/-- declarations in a row -/
theorem n_decs {gcl : Option Nat → wS → pQ} {gtl : Int32 → wS → pQ} {X Y : (kx_Rs → wS → Prop) → String → wS → Prop} {Lx Lt : Nat} (hs : STR D V nu tn rt) (ID : NPD D V nu tn rt E' f) (hL : 75 * k0 + 340 ≤ Lx) (hL' : 75 * k0 + 340 ≤ Lt)
    (hst : ∀ (S : nS) (q n : Nat), n < 14000 → (∀ (gc1 gt1 : pQ), gc1 = (fun Q => zw D.1 Lx kt_M136 [.ref (w_adr D.1.2.1 5 0), va_rf (some q)] S.w Q) → gt1 = (fun Q => zw E' Lt kt_M474 [.ref (w_adr E'.2.1 12 0), .int (i_ n)] S.t Q) → PS (fun Q => gc1 (wk0 (fun w1 => wle S.w w1 → (∃ p3, some q = some p3 ∧ w_l w1 D.1.2.1 14 p3 ∧ gcl (w_p w1 14 p3 7) w1 Q)) (X Q))) (fun Q => gt1 (wk0 (fun t1 => wle S.t t1 → (kx_inb (i_ n) (w_n t1 12 0 32) = true ∧ gtl (w_a t1 12 0 32 n) t1 Q)) (Y Q))) Φ) → PS (gcl (some q) S.w) (gtl (i_ n) S.t) Φ) :
    ∀ {l : List (Nat × Nat × Nat)} {S : nS} {T : Int} {y j : Nat} {x : Int32} {kr : List Nat}, HM D V nu tn rt p J' cr S0 S T T → KRE S kr → (y ∈ S.vs ∧ y ∉ S0.vs) → ¬ S.tl y j → (3 ≤ j ∧ j ≤ 7) → (y = p → j ∈ J') → LPx V tn nu k0 ol l (V.2.1 y j) x none (-1) → (∀ z ∈ l, KX V nu f 3 z.2.1) → (∀ (S' : nS) (T' : Int) (ks : List Nat), HM D V nu tn rt p J' cr S0 S' T' T' → KRE S' (ks ++ kr) → S'.u = S.u → NX nu S S' → (∀ b ∈ S.vs, SMN nu S S' b) → (T' = NOF → T = NOF ∧ ∃ L, LCH V (NS V nu S' f S.u) L (V.2.1 y j) kr (ks ++ kr)) → PS (gcl none S'.w) (gtl (-1) S'.t) Φ) → PS (gcl (V.2.1 y j) S.w) (gtl x S.t) Φ
  | [], S, T, y, j, x, kr, H, hk, hy, ht, hj, hyj, hl, hX, kk => by
    obtain ⟨h1, h2⟩ := hl
    rw [h1, h2]
    exact kk S T [] H hk rfl NX.rf (fun _ _ => SMN.rf) (fun e => ⟨e, [], by rw [h1]; exact ⟨rfl, rfl⟩⟩)
  | z :: l, S, T, y, j, x, kr, H, hk, hy, ht, hj, hyj, hl, hX, kk => by
    obtain ⟨n, q, d⟩ := z
    obtain ⟨h1, h2, h3, h4⟩ := hl
    have h1 : V.2.1 y j = some q := h1
    have h2 : x = i_ n := h2
    have h3 : CHx V tn nu k0 ol n q d := h3
    have h4 : LPx V tn nu k0 ol l (V.2.1 q 7) (V.2.2.1 32 n) none (-1) := h4
    have hX1 : KX V nu f 3 q := hX _ List.mem_cons_self
    have hnk := h3.nk hs
    obtain ⟨r, kd, hnu, hm, hr, h26, hcl⟩ := hX1.nbx ⟨by decide, by decide⟩ h3
    have htn : tn n := by
      obtain ⟨m, c, r', hP, htn, -⟩ := h3
      exact htn n hP.mem
    obtain ⟨I4, V4⟩ := H.1.go hs hy.1 ht hj h1 hnk.1 hnk.2
    rw [h1, h2]
    refine hst S q n hm (fun gc1 gt1 eg1 eg2 => ?_)
    have hch := ID (S.go y j) kr q n d k0 ol Lx Lt I4 h3 hX1 V4 hk hL hL'
    subst eg1 eg2
    refine PS_bind (gc1 := fun Q => zw D.1 Lx kt_M136 [.ref (w_adr D.1.2.1 5 0), va_rf (some q)] S.w Q) (gt1 := fun Q => zw E' Lt kt_M474 [.ref (w_adr E'.2.1 12 0), .int (i_ n)] S.t Q) hch (fun r1 w2 r2 t2 hb => ?_)
    obtain ⟨S', T1, ⟨e1, e2, e3, e4⟩, HB, hx, hq, hT1, ⟨hu', hsm⟩, ⟨ks, hA⟩, hG⟩ := H.bk (J' := J') hy ⟨hyj, fun i hi => hi⟩ hb
    subst e1 e2 e3 e4
    have hq0 : q ∉ S0.vs := fun e => V4.1.1 (H.2.1.2.2.2.1 _ e)
    have hqp : q ≠ p := fun e => V4.1.1 (by rw [e]; exact H.2.2.1.1)
    have hw' := HB.1.nw hnu
    have ht' := HB.1.1.2.2 n htn 32 rfl
    refine PS_l (fun Q a => fun _ => a) (PS_r (fun Q a => fun _ => a) (PS_lex q rfl (PS_land hw'.1 (PS_rand (HB.1.1.2.1.i rfl hm) ?_))))
    rw [hw'.2.1 7 (by decide), ht']
    refine n_decs hs ID hL hL' hst HB hA ⟨hq.1, hq0⟩ hq.2.2 ⟨by decide, by decide⟩ (fun e => absurd e hqp) h4 (fun z hz => hX z (List.mem_cons_of_mem _ hz)) (fun S5 T5 ks5 H5 hk5 hu5 hx5 hsm5 hG5 => ?_)
    refine kk S5 T5 (ks5 ++ ks) H5 (by rw [List.append_assoc]; exact hk5) (hu5.trans hu') (hx.tr hx5 (.inl hu')) (fun b hb => (hsm b hb).1.tr (hsm5 b (hsm b hb).2)) (fun e => ?_)
    obtain ⟨a1, L2, a2⟩ := hG5 e
    obtain ⟨a3, a4⟩ := min_nof H.2.2.2.2.1.1 hT1 a1
    have hN : NS V nu S' f S.u kr q S'.kc := hG a4
    rw [hA.1] at hN
    rw [hu'] at a2
    refine ⟨a3, (q, ks ++ kr) :: L2, ?_⟩
    rw [h1, List.append_assoc]
    exact ⟨rfl, hN.nx HB.1 hx5, a2⟩
/-- a process -/
theorem n_P1 (hs : STR D V nu tn rt) (ID : NPD D V nu tn rt E' f) (IC : NPC D V nu tn rt E' f) : NPA D V nu tn rt E' kt_M149 kt_M473 1 (f + 1) := by
  intro S kr p n d k0 ol L L' hI hC hK hv hk hL hL'
  obtain ⟨r, kd, hnu, hm, hr, h26, hcl⟩ := hK.nb ⟨by decide, by decide⟩ hC
  have hkd : kd = 1 := by unfold cok at hcl; omega
  subst hkd
  obtain ⟨kd, h26', hcl', hch⟩ := hK.at hnu hm
  have hkd : kd = 1 := by unfold cok at hcl'; omega
  subst hkd
  obtain ⟨htm, hl2, hF⟩ := hs.lf hnu hm h26 (by decide)
  have H := HM.start hI hv
  have hw := hI.nw hnu
  have ht := hI.1.2.2 n htm
  have hT := hI.1.2.1
  have hkA : KRE (S.at p) kr := hk
  have h56 : w_i S.t 12 0 56 = i_ kr.length := hI.e56 hk
  obtain ⟨hk0, d1, d2, -, ⟨l, hl, -⟩, qb, nb, hqb, h29, hCb⟩ := hF
  have hc3 : ccl (V.1 p 10) (V.1 p 11) 1 3 = 3 := rfl
  have hc4 : ccl (V.1 p 10) (V.1 p 11) 1 4 = 2 := rfl
  have hXl : ∀ z ∈ l, KX V nu f 3 z.2.1 := fun z hz => by
    obtain ⟨i, hi⟩ := LPx.nx2 hl z hz
    have h := hch 3 ⟨by decide, by decide⟩ (by omega) (ujk.c (by omega)) i z.2.1 (.inr (.inr (.inl ⟨rfl, by simp⟩))) hi
    rw [hc3] at h
    exact h
  have hXb := hch 4 ⟨by decide, by decide⟩ (by omega) (ujk.c (by omega)) 0 qb (.inl rfl) hqb
  rw [hc4] at hXb
  refine PS_of (fun Q h => zt_X6_process_p0 (by omega) h) (fun Q h => zt_X13_nameBlock_p0 (by omega) h) ?_
  simp only [zb_X6_process_p0, zb_X13_nameBlock_p0, i_nat' (show n < 2147483648 by omega), ht 28 rfl, h56]
  refine PS_lex p rfl (PS_land hw.1 (PS_rand (hT.i rfl hm) ?_))
  refine PS_r (fun Q h => zt_X13_nameDeclarations_p0 (by omega) h) ?_
  simp only [zb_X13_nameDeclarations_p0, hw.2.1 3 (by decide)]
  refine n_decs (S := S.at p) (S0 := S) (cr := 5) (J' := [3]) (Lx := L - 22) (Lt := L' - 22 - 26) (X := fun Q e w => Q (.inr e) w) (Y := fun Q e w => Q (.inr e) w) (gcl := fun x w Q => zL_X6_process_p10 D.1 L Q (some p) (w_p S.w 5 0 3) x w) (gtl := fun x t Q => zL_X13_nameDeclarations_p2 E' (L' - 22) (wk0 (fun w1 => wle S.t w1 → (kx_inb (i_ n) (w_n w1 12 0 29) = true ∧ zw E' (L' - 24) kt_M471 [.ref (w_adr E'.2.1 12 0), .int (w_a w1 12 0 29 n)] w1 (wk0 (fun w3 => wle w1 w3 → Q (.inl none) (ws_i w3 12 0 56 (i_ kr.length))) (fun e w => Q (.inr e) w)))) (fun e w => Q (.inr e) w)) x t) hs ID (by omega) (by omega) (fun S2 q2 n2 hn2 kc => ?_) (H.wk (fun i hi => absurd hi List.not_mem_nil)) hkA ⟨H.2.2.1.1, H.2.2.1.2.1⟩ (fun e => absurd (H.2.2.1.2.2.2 3 e) List.not_mem_nil) ⟨by decide, by decide⟩ (fun _ => List.mem_cons_self) hl hXl (fun S2 T2 ks H2 hk2 hu2 hx2 hsm2 hG2 => ?_)
  · refine PS_of (fun Q h => zt_X6_process_p10 (by omega) h) (fun Q h => zt_X13_nameDeclarations_p2 (by omega) h) ?_
    simp only [zb_X6_process_p10, zb_X13_nameDeclarations_p2, i_nat' (show n2 < 2147483648 by omega)]
    refine PS_ln (by simp) (PS_rn (i_nn (by omega)) ?_)
    exact kc _ _ rfl rfl
  · have hw2 := H2.1.nw hnu
    have ht2 := H2.1.1.2.2 n htm
    refine PS_of (fun Q h => zt_X6_process_p10 (by omega) h) (fun Q h => zt_X13_nameDeclarations_p2 (by omega) h) ?_
    simp only [zb_X6_process_p10, zb_X13_nameDeclarations_p2]
    refine PS_lp trivial (PS_lex p rfl (PS_land hw2.1 (PS_rp (by decide) (PS_r (fun Q a => fun _ => a) (PS_rand (H2.1.1.2.1.i rfl hm) ?_)))))
    simp only [hw2.2.1 4 (by decide), hqb, ht2 29 rfl, h29]
    refine n_cc IC hs H2 hk2 (by decide) ⟨by decide, by decide⟩ hqb hCb hXb (by omega) (by omega) (fun S3 T3 H3 hT3 hk3 hu3 hx3 hsm3 hG3 => ?_)
    have hu3' : S3.u = S.u := hu3.trans hu2
    have hxc : CHN S.w S.ys kr (w_p S.w 5 0 3) := by
      have := hI.2.2.2.2.2.1.1.1
      rw [hk.1] at this
      exact this
    have hyc : ∀ s ∈ kr, S.ys s = S3.ys s := fun s hs => by
      have h2 : S.ys s ≠ none := hI.2.2.2.2.2.1.1.2 s (by rw [hk.1]; exact hs)
      cases e : S.ys s with
      | none => exact absurd e h2
      | some A => exact ((H3.2.1.2.1.1 s A e).1).symm
    obtain ⟨H4, hx4⟩ := H3.rs hk3 hxc hyc
    have h63 : w_a S3.t 12 0 63 n = w_a S.t 12 0 63 n := ((hsm3 p H2.2.2.1.1).2 n r d hnu 63 (.inr (.inl rfl))).trans ((hsm2 p H.2.2.1.1).2 n r d hnu 63 (.inr (.inl rfl)))
    refine PS_ret (H4.en (by decide) hu3' ⟨⟨rfl, rfl⟩, ⟨H4.2.2.2.1.2.2.1, H4.2.2.2.1.1.1⟩, h63⟩ (fun e => ⟨.inr rfl, n, r, d, 1, hnu, hm, h26, ?_⟩))
    obtain ⟨a1, a2⟩ := min_nof H2.2.2.2.2.1.1 hT3 e
    obtain ⟨-, L2, a3⟩ := hG2 a1
    have hxf : NX nu S3 ((S3.rs (ws_p S3.w 5 0 3 (w_p S.w 5 0 3)) (ws_i S3.t 12 0 56 (i_ kr.length)) kr).fi p) := hx4.tr NX.fi (.inl rfl)
    have e2 : (S.at p).u = S.u := rfl
    rw [e2] at a3
    refine ⟨rfl, L2, ks ++ kr, a3.imp (fun _ _ _ h => (NS.nx H2.1 hx3 h).nx H3.1 hxf), fun q' hq' => ?_⟩
    rw [hqb] at hq'
    cases hq'
    have hN := hG3 a2
    have e3 : S2.u = S.u := hu2
    rw [e3] at hN
    exact hN.nx H3.1 hxf
/-- an action, by its kind -/
theorem n_C (hs : STR D V nu tn rt) (IH : ∀ g, g ≤ f → NPA D V nu tn rt E' kt_M149 kt_M473 1 g) : NPC D V nu tn rt E' (f + 1) := by
  intro S kr p n d k0 ol L L' hI hC hK hv hk hL hL'
  obtain ⟨r, kd, hnu, hm, hr, h26, hcl⟩ := hK.nb ⟨by decide, by decide⟩ hC
  have hkd : kd = 2 ∨ kd = 3 ∨ kd = 4 ∨ kd = 5 ∨ kd = 6 ∨ kd = 7 ∨ kd = 8 ∨ kd = 9 ∨ kd = 10 ∨ kd = 11 ∨ kd = 12 ∨ kd = 14 ∨ kd = 16 ∨ kd = 17 := by unfold cok at hcl; omega
  rcases hkd with e | e | e | e | e | e | e | e | e | e | e | e | e | e <;> subst e
  · exact n_A2 hs hI hC h26 hK hv hk hL hL'
  · exact n_A3 hs hI hC h26 hK hv hk hL hL'
  · exact n_A4 hs hI hC h26 hK hv hk hL hL'
  · exact n_A5 hs hI hC h26 hK hv hk hL hL'
  · exact n_A6 hs hI hC h26 hK hv hk hL hL'
  · exact n_A7 hs IH hI hC h26 hK hv hk hL hL'
  · exact n_A8 hs hI hC h26 hK hv hk hL hL'
  · exact n_A9 hs hI hC h26 hK hv hk hL hL'
  · exact n_A10 hs (IH f (Nat.le_refl _)) hI hC h26 hK hv hk hL hL'
  · exact n_A11 hs (IH f (Nat.le_refl _)) hI hC h26 hK hv hk hL hL'
  · exact n_A12 hs IH hI hC h26 hK hv hk hL hL'
  · exact n_A14 hs IH hI hC h26 hK hv hk hL hL'
  · exact n_A16 hs (IH f (Nat.le_refl _)) hI hC h26 hK hv hk hL hL'
  · exact n_A17 hs IH hI hC h26 hK hv hk hL hL'
end NPX
