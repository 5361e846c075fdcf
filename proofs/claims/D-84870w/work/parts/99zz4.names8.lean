/-! ===== ROUNDS, part 10: expressions, kind by kind ===== -/
section NEZ
variable {D : pD} {V : pV} {nu : pN} {tn : Nat → Prop} {rt p q n nq m r d dq j k s A cr f b b' k0 kd : Nat} {J J' : List Nat} {S0 S S' : nS} {T T' T1 Tc : Int} {v rr : Option Nat} {x x' : Int32} {kr : List Nat} {C C' : Nat → Prop} {E' : zE} {L L' Lc Lx Lt : Nat} {Φ : kx_Rs → wS → kx_Rs → wS → Prop} {ol : Option Int32} {ar : Bool}
theorem CHx.n14 (hs : STR D V nu tn rt) (h : CHx V tn nu k0 ol n p d) : n < 14000 := by
  obtain ⟨m, c, r, h1, h2, -⟩ := h
  exact hs.2.2.1 _ (h2 _ h1.mem)
/-- an expression below -/
theorem n_ch {A B : (kx_Rs → wS → Prop) → wS → Prop} {X Y : (kx_Rs → wS → Prop) → String → wS → Prop} (IH : NCE D V nu tn rt E' f) (hs : STR D V nu tn rt) (H : HM D V nu tn rt p J cr S0 S T T) (hk : KRE S kr) (hj : j ∉ J) (hj7 : 3 ≤ j ∧ j ≤ 7) (hq : V.2.1 p j = some q) (hC : CHx V tn nu k0 ol nq q dq) (hX : KX V nu f 0 q) (hL : 75 * k0 + 300 ≤ Lx) (hL' : 75 * k0 + 300 ≤ Lt)
    (kk : ∀ (S1 : nS) (T1 : Int), HM D V nu tn rt p (j :: J) cr S0 S1 (min T T1) (min T T1) → FTK T1 → NDC S S1 → NX nu S S1 → (∀ b ∈ S.vs, SMN nu S S1 b) → (T1 = NOF → NE V nu S1 kr f Cv q) → PS (fun Q => A Q S1.w) (fun Q => B Q S1.t) Φ) :
    PS (fun Q => zw D.1 Lx kt_M140 [.ref (w_adr D.1.2.1 5 0), va_rf (some q)] S.w (wk0 (fun w1 => wle S.w w1 → A Q w1) (X Q))) (fun Q => zw E' Lt kt_M476 [.ref (w_adr E'.2.1 12 0), .int (i_ nq), .int 0] S.t (wk0 (fun t1 => wle S.t t1 → B Q t1) (Y Q))) Φ := by
  have hnk := hC.nk hs
  obtain ⟨I4, V4⟩ := H.go hs hj hj7 hq hnk.1 hnk.2
  have hch := IH _ kr q nq dq k0 ol Lx Lt 0 (.inl rfl) I4 hC hX V4 hk hL hL'
  refine PS_bind (gc1 := fun Q => zw D.1 Lx kt_M140 [.ref (w_adr D.1.2.1 5 0), va_rf (some q)] S.w Q) (gt1 := fun Q => zw E' Lt kt_M476 [.ref (w_adr E'.2.1 12 0), .int (i_ nq), .int 0] S.t Q) hch (fun r1 w2 r2 t2 hb => ?_)
  obtain ⟨S', T1, ⟨e1, e2, e3, e4⟩, HB, hx, hq, hT1, ⟨hu, hsm⟩, hA, hG⟩ := H.bk (J' := j :: J) ⟨H.2.2.1.1, H.2.2.1.2.1⟩ ⟨fun _ => List.mem_cons_self, fun i hi => List.mem_cons_of_mem _ hi⟩ hb
  subst e1 e2 e3 e4
  exact PS_l (fun Q a => fun _ => a) (PS_r (fun Q a => fun _ => a) (kk S' T1 HB hT1 hA hx (fun b hb => (hsm b hb).1) hG))
/-- expressions in a row -/
theorem n_exs {A : (kx_Rs → wS → Prop) → wS → Prop} {X : (kx_Rs → wS → Prop) → String → wS → Prop} {gtl : Int32 → wS → pQ} {l : List (Nat × Nat × Nat)} (IH : NCE D V nu tn rt E' f) (hs : STR D V nu tn rt) (H : HM D V nu tn rt p J cr S0 S T T) (hk : KRE S kr) {y : Nat} (hy : y ∈ S.vs ∧ y ∉ S0.vs) (hty : ¬ S.tl y j) (hj7 : 3 ≤ j ∧ j ≤ 7) (hJ : ∀ i ∈ J, i ∈ J') (hJ' : y = p → j ∈ J') (hl : LPx V tn nu k0 ol l (V.2.1 y j) x none (-1)) (hX : ∀ z ∈ l, KX V nu f 0 z.2.1) (hL : 75 * k0 + 322 ≤ Lx) (hL' : 75 * k0 + 300 ≤ Lt)
    (hgt : ∀ (nq : Nat) (t : wS) (gc : pQ) (Φ : kx_Rs → wS → kx_Rs → wS → Prop), nq < 14000 → PS gc (fun Q => zw E' Lt kt_M476 [.ref (w_adr E'.2.1 12 0), .int (i_ nq), .int 0] t (wk0 (fun t1 => wle t t1 → (kx_inb (i_ nq) (w_n t1 12 0 32) = true ∧ gtl (w_a t1 12 0 32 nq) t1 Q)) (fun e w => Q (.inr e) w))) Φ → PS gc (gtl (i_ nq) t) Φ)
    (kk : ∀ (S1 : nS) (T1 : Int), HM D V nu tn rt p J' cr S0 S1 T1 T1 → NDC S S1 → NX nu S S1 → (∀ b ∈ S.vs, SMN nu S S1 b) → (T1 = NOF → T = NOF ∧ ∀ z ∈ l, NE V nu S1 kr f Cv z.2.1) → PS (fun Q => A Q S1.w) (gtl (-1) S1.t) Φ) :
    PS (fun Q => zw D.1 Lx kt_M141 [.ref (w_adr D.1.2.1 5 0), va_rf (V.2.1 y j)] S.w (wk0 (fun w1 => wle S.w w1 → A Q w1) (X Q))) (gtl x S.t) Φ := by
  refine PS_l (gc' := fun Q => zL_X6_expressions_p2 D.1 Lx (wk0 (fun w1 => wle S.w w1 → A Q w1) (X Q)) (V.2.1 y j) S.w) (fun Q h => ?_) ?_
  · have h2 : zb_X6_expressions_p0 D.1 Lx (wk0 (fun w1 => wle S.w w1 → A Q w1) (X Q)) (V.2.1 y j) S.w := h
    clear hl
    generalize V.2.1 y j = a at h2 ⊢
    cases a <;> exact zt_X6_expressions_p0 (by omega) h2
  refine n_list (J' := J') (Kp := fun S => KRE S kr) (G := fun q S' => NE V nu S' kr f Cv q) (P := fun z => KX V nu f 0 z.2.1) (gcl := fun x w Q => zL_X6_expressions_p2 D.1 Lx (wk0 (fun w1 => wle S.w w1 → A Q w1) (X Q)) x w) (gtl := gtl) (R := NDC) (fun _ => NDC.rf) (fun _ _ _ => NDC.tr) (fun _ _ h hk => hk.nd h) (fun _ _ _ _ h => h) hs (fun S2 T2 y2 j2 q n d H2 hk2 I2 V2 hC hX2 kc => ?_) (fun q S S' hI h hx => h.nx hI hx) (H.wk hJ) hk hy hty hj7 hJ' hl hX (fun S' T' H' hk' hx hnd hsm hG => ?_)
  · have hn := hC.n14 hs
    refine PS_l (fun Q h => zt_X6_expressions_p2 (by omega) h) ?_
    simp only [zb_X6_expressions_p2]
    refine PS_ln (by simp) (hgt n _ _ _ hn ?_)
    have hch := IH _ kr q n d k0 ol (Lx - 21) Lt 0 (.inl rfl) I2 hC hX2 V2 hk2 (by omega) hL'
    refine PS_bind (gc1 := fun Q => zw D.1 (Lx - 21) kt_M140 [.ref (w_adr D.1.2.1 5 0), va_rf (some q)] S2.w Q) (gt1 := fun Q => zw E' Lt kt_M476 [.ref (w_adr E'.2.1 12 0), .int (i_ n), .int 0] S2.t Q) hch (fun r1 w2 r2 t2 hb => ?_)
    have hb2 := hb
    obtain ⟨S', T1, ⟨e1, e2, e3, e4⟩, hI', -⟩ := hb
    subst e1 e2 e3 e4
    obtain ⟨m, c, r, hP, htn, hnu, -⟩ := hC
    have hw := hI'.nw hnu
    have ht := hI'.1.2.2 n (htn n hP.mem) 32 rfl
    refine PS_l (fun Q a => fun _ => a) (PS_r (fun Q a => fun _ => a) (PS_lex q rfl (PS_land hw.1 (PS_rand (hI'.1.2.1.i rfl hn) ?_))))
    rw [hw.2.1 7 (by decide), ht]
    exact kc _ _ _ _ hb2
  · refine PS_l (fun Q h => zt_X6_expressions_p2 (by omega) h) ?_
    simp only [zb_X6_expressions_p2]
    exact PS_lp trivial (PS_l (fun Q a => fun _ => a) (kk S' T' H' hnd hx hsm hG))
end NEZ
