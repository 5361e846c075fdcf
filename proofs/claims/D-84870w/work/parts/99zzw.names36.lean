/-! ===== ROUNDS, part 38: branches of a PAR ===== -/
section NPR
variable {D : pD} {V : pV} {nu : pN} {tn : Nat → Prop} {rt p q n nq m r d dq j k k' k0 f s u un y A c cr crq kd : Nat} {J J' Jq : List Nat} {S S' S0 S1 : nS} {w w2 w' t t' : wS} {v v2 : Option Nat} {x x1 x2 z : Int32} {T T' T1 : Int} {kr ks : List Nat} {L L' : Nat} {E' : zE} {ol : Option Int32} {Q : kx_Rs → wS → Prop} {Φ : kx_Rs → wS → kx_Rs → wS → Prop}
theorem ws_ii (h : k ≠ k') : ws_i (ws_i t 12 0 k x) 12 0 k' z = ws_i (ws_i t 12 0 k' z) 12 0 k x := by
  have e : w_u3 (w_u3 t.1 12 0 k x) 12 0 k' z = w_u3 (w_u3 t.1 12 0 k' z) 12 0 k x := by
    funext a b c
    simp only [w_u3_at]
    by_cases h1 : c = k ∧ a = 12 ∧ b = 0
    · by_cases h2 : c = k' ∧ a = 12 ∧ b = 0
      · exact absurd (h1.1.symm.trans h2.1) h
      · simp only [if_neg h2, if_pos h1]
    · simp only [if_neg h1]
  show (w_u3 (w_u3 t.1 12 0 k x) 12 0 k' z, t.2) = (w_u3 (w_u3 t.1 12 0 k' z) 12 0 k x, t.2)
  rw [e]
theorem KX.nbx (h : KX V nu f k p) (hk : k ≠ 0 ∧ k < 50) (hC : CHx V tn nu k0 ol n p d) : ∃ r kd : Nat, nu p = some (n, r, d) ∧ n < 14000 ∧ r < k0 ∧ V.2.2.1 26 n = i_ kd ∧ cok k kd := by
  cases f with
  | zero => exact h.elim
  | succ f => exact h.nb hk hC
theorem HM.up (h : HM D V nu tn rt p J 4 S0 S T T') (h1 : S.sn + S0.vs.length + 1 ≤ S0.sn + S.vs.length) (h2 : S.un + S0.vs.length + 1 ≤ S0.un + S.vs.length) : HM D V nu tn rt p J 5 S0 S T T' := by
  obtain ⟨a, b, c, ⟨⟨k1, k2⟩, ⟨k3, k4⟩, k5, k6⟩, e⟩ := h
  exact ⟨a, b, c, ⟨⟨h1, k2⟩, ⟨k3, k4⟩, h2, k6⟩, e⟩
/-- a node below ends, the unit may have changed -/
theorem HM.sub (h : HM D V nu tn rt p J cr S0 S T T') (hJ : (y = p → j ∈ J') ∧ ∀ i ∈ J, i ∈ J') (hy : y ∈ S.vs ∧ y ∉ S0.vs) (h2 : HM D V nu tn rt q Jq crq (S.go y j) S1 T1 T1) (h7 : 7 ∉ Jq) : HM D V nu tn rt p J' cr S0 (S1.fi q) (min T T1) (min T' T1) ∧ NX nu S (S1.fi q) ∧ (q ∈ S1.vs ∧ ¬ S1.tl q 7) ∧ FTK T1 ∧ (∀ b ∈ S.vs, SMN nu S (S1.fi q) b) ∧ (S1.u = S.u ∨ S.un ≤ S1.u) := by
  obtain ⟨⟨i1, i2, i3, i4, i5, i6, i7, ⟨i8, i9, i10, i11⟩⟩, ⟨⟨g1, g2⟩, g3, g4, g5, g6, g7, ⟨g8, g8b⟩, g9⟩, ⟨q1, q2, q3, q4⟩, ⟨⟨k1, -⟩, ⟨k2, -⟩, k3, -⟩, ⟨hT, -⟩, f1, f2⟩ := h2
  obtain ⟨a0, ⟨⟨a1, a2⟩, a3, b1, b2, b3, b4, ⟨b5, b5b⟩, b6⟩, ⟨c1, c2, c3, c4⟩, ⟨⟨d1, d1b⟩, ⟨d2, d2b⟩, d3, d3b⟩, ⟨d4, d5⟩, d6, d7⟩ := h
  have k1 : S1.sn + S.vs.length + crq % 2 ≤ S.sn + S1.vs.length := k1
  have k2 : S1.am + 2 * S.vs.length + crq / 2 ≤ S.am + 2 * S1.vs.length := k2
  have k3 : S1.un + S.vs.length + crq % 2 ≤ S.un + S1.vs.length := k3
  have q2 : q ∉ S.vs := q2
  refine ⟨⟨⟨i1, i2, i3, i4, i5, i6, i7, ⟨i8, i9, i10, fun a ha => ?_⟩⟩, ⟨⟨a1.tr g1, a2.tr g2⟩, a3.tr g3 b6, fun b hb => ⟨(b1 b hb).1.tr (g4 b (b2 b hb)).1, fun i hi => ?_, fun e => ?_⟩, fun b hb => g5 b (b2 b hb), fun a i hi => g6 a i (.inl (b3 a i hi)), fun a ha => .inl (g7 a (b4 a ha)), ⟨Nat.le_trans b5 g8, fun a ha => g8b a (b5b a ha)⟩, HN.uu b6 g9 a3.2.2.2.2.1.1⟩, ⟨g5 p c1, c2, fun e => ?_, fun i hi => ?_⟩, ⟨⟨?_, d1b⟩, ⟨?_, d2b⟩, ?_, d3b⟩, ⟨d4.min hT, d5.min hT⟩, ?_, ?_⟩, ⟨g3, fun b hb => ⟨.inl (g7 b hb), (g4 b (a0.2.2.2.2.2.2.2.2.2.2 b hb)).1⟩, fun a i hi => g6 a i (.inl hi)⟩, ⟨q1, fun e => h7 (q4 7 e)⟩, hT, fun b hb => (g4 b hb).1, g9⟩
  · rcases ha with ha | ha
    · exact i11 a ha
    · rw [ha]; exact q1
  · rcases (g4 b (b2 b hb)).2.1 i hi with h | ⟨h, -⟩
    · exact (b1 b hb).2.1 i h
    · rw [h] at hb
      exact absurd hb hy.2
  · rcases e with e | e
    · exact (b1 b hb).2.2 ((g4 b (b2 b hb)).2.2 e)
    · rw [e] at hb
      exact absurd (b2 q hb) q2
  · rcases e with e | e
    · exact c3 ((g4 p c1).2.2 e)
    · rw [e] at c1
      exact q2 c1
  · rcases (g4 p c1).2.1 i hi with h | ⟨h1, h⟩
    · exact hJ.2 i (c4 i h)
    · rw [h]; exact hJ.1 h1.symm
  · show S1.sn + S0.vs.length + cr % 2 ≤ S0.sn + S1.vs.length
    omega
  · show S1.am + 2 * S0.vs.length + cr / 2 ≤ S0.am + 2 * S1.vs.length
    omega
  · show S1.un + S0.vs.length + cr % 2 ≤ S0.un + S1.vs.length
    omega
  · have : fcc S1.w = min (fcc S.w) T1 := f1
    show fcc S1.w = _
    rw [this, d6]
    omega
  · have : fct S1.t = min (fct S.t) T1 := f2
    show fct S1.t = _
    rw [this, d7]
    omega
/-- at the end of an action that has its own names; what it wrote at its node -/
theorem n_aer2 {S1 : nS} (hI : IVN D V nu tn rt S) (hk0 : KRE S kr) (hnu : nu p = some (n, r, d)) (hm : n < 14000) (h26 : V.2.2.1 26 n = i_ kd) (H : HM D V nu tn rt p J cr S S1 T T) (h7 : 7 ∉ J) (hk : KRE S1 (ks ++ kr)) (hu : S1.u = S.u) (hG : ∀ S2, T = NOF → NX nu S1 S2 → SMN nu S1 S2 p → NSk V nu S2 (NS V nu S2 f) (fun kr C q => NE V nu S2 kr f C q) S.u kr p kr n kd) :
    PS (fun Q => Q (.inl none) (ws_p S1.w 5 0 3 (w_p S.w 5 0 3))) (fun Q => Q (.inl none) (ws_i S1.t 12 0 56 (i_ kr.length))) (NPO D V nu tn rt p S (fun S' => KRE S' kr) (fun S' => NS V nu S' (f + 1) S.u kr p kr)) := by
  have hx : CHN S.w S.ys kr (w_p S.w 5 0 3) := by
    have := hI.2.2.2.2.2.1.1.1
    rw [hk0.1] at this
    exact this
  have hy : ∀ s ∈ kr, S.ys s = S1.ys s := fun s hs => by
    have h2 : S.ys s ≠ none := hI.2.2.2.2.2.1.1.2 s (by rw [hk0.1]; exact hs)
    cases e : S.ys s with
    | none => exact absurd e h2
    | some A => exact ((H.2.1.2.1.1 s A e).1).symm
  obtain ⟨H2, hx2⟩ := H.rs hk hx hy
  refine PS_ret (H2.en h7 hu ⟨rfl, rfl⟩ (fun e => ⟨.inr rfl, n, r, d, kd, hnu, hm, h26, hG _ e (hx2.tr NX.fi (.inl rfl)) ⟨⟨?_, rfl⟩, fun _ _ _ _ _ _ => rfl⟩⟩))
  show w_p (ws_p S1.w 5 0 3 (w_p S.w 5 0 3)) 14 p 16 = _
  rw [Rpp, if_neg (fun z => absurd z.2.1 (by decide))]
/-- the branches, each a unit -/
theorem n_parl {K KT : (kx_Rs → wS → Prop) → kx_Rs → wS → Prop} (hs : STR D V nu tn rt) (IH : NPA D V nu tn rt E' kt_M149 kt_M473 1 f) (hL : 75 * k0 + 363 ≤ L) (hL' : 75 * k0 + 363 ≤ L') : ∀ {l : List (Nat × Nat × Nat)} {S : nS} {T : Int} {y j : Nat} {x : Int32}, HM D V nu tn rt p J' 5 S0 S T T → KRE S kr → S.u = S0.u → (y ∈ S.vs ∧ y ∉ S0.vs) → ¬ S.tl y j → (3 ≤ j ∧ j ≤ 7) → (y = p → j ∈ J') → LPx V tn nu k0 ol l (V.2.1 y j) x none (-1) → (∀ z ∈ l, KX V nu f 1 z.2.1) → (∀ (S' : nS) (T' : Int), HM D V nu tn rt p J' 5 S0 S' T' T' → KRE S' kr → S'.u = S0.u → NX nu S S' → (∀ b ∈ S.vs, SMN nu S S' b) → (T' = NOF → T = NOF ∧ ∀ z ∈ l, ∃ x, UOF nu S' S0.u z.2.1 x ∧ NS V nu S' f x kr z.2.1 kr) → PS (fun Q => zL_X6_repeated_p26 D.1 L (K Q) v2 none S'.w) (fun Q => zL_X13_namePar_p158 E' L' (KT Q) (i_ S0.u) (-1) S'.t) Φ) → PS (fun Q => zL_X6_repeated_p26 D.1 L (K Q) v2 (V.2.1 y j) S.w) (fun Q => zL_X13_namePar_p158 E' L' (KT Q) (i_ S0.u) x S.t) Φ
  | [], S, T, y, j, x, H, hk, hu, hy, ht, hj, hyj, hl, hX, kk => by
    obtain ⟨h1, h2⟩ := hl
    rw [h1, h2]
    exact kk S T H hk hu NX.rf (fun _ _ => SMN.rf) (fun e => ⟨e, fun z hz => absurd hz List.not_mem_nil⟩)
  | z :: l, S, T, y, j, x, H, hk, hu, hy, ht, hj, hyj, hl, hX, kk => by
    obtain ⟨n, q, d⟩ := z
    obtain ⟨h1, h2, h3, h4⟩ := hl
    have h1 : V.2.1 y j = some q := h1
    have h2 : x = i_ n := h2
    have h3 : CHx V tn nu k0 ol n q d := h3
    have h4 : LPx V tn nu k0 ol l (V.2.1 q 7) (V.2.2.1 32 n) none (-1) := h4
    have hX1 : KX V nu f 1 q := hX _ List.mem_cons_self
    have hnk := h3.nk hs
    have hn14 := h3.n14 hs
    have htn : tn n := by
      obtain ⟨m, c, r', hP, htn, -⟩ := h3
      exact htn n hP.mem
    obtain ⟨r, kd, hnu, hm, hr, h26, hcl⟩ := hX1.nbx ⟨by decide, by decide⟩ h3
    have hI := H.1
    have hvl := hs.2.2.2.2.2.2 S.vs hI.2.2.2.2.2.2.2.1.1 (fun a ha => (hI.2.2.2.2.2.2.2.1.2 a ha).1)
    have hun := hI.2.2.1.2.1.2
    obtain ⟨H1, hx1, hsm1⟩ := H.nun hs rfl
    have g2 : q ∉ S.vs := (hI.go hs hy.1 ht hj h1 hnk.1 hnk.2).2.1.1
    obtain ⟨H2, hx2, hsm2⟩ := H1.t63 (x := i_ S.un) hs.2.2.2.1 g2 hnu hm
    obtain ⟨S2, hS2⟩ : ∃ S2 : nS, S2 = ((S.nu (tnv S.t S.un S.u)).wt (S.nu (tnv S.t S.un S.u)).w (ws_a (S.nu (tnv S.t S.un S.u)).t 12 0 63 n (i_ S.un))) := ⟨_, rfl⟩
    rw [← hS2] at H2 hx2 hsm2
    have hw2 : S2.w = S.w := by rw [hS2]; rfl
    have ht2 : S2.t = ws_a (tnv S.t S.un S.u) 12 0 63 n (i_ S.un) := by rw [hS2]; rfl
    have hk2 : KRE S2 kr := by rw [hS2]; exact hk
    have hv2 : S2.vs = S.vs := by rw [hS2]; rfl
    have htl2 : S2.tl = S.tl := by rw [hS2]; rfl
    have hu2 : S2.u = S.un := by rw [hS2]; rfl
    have hun2 : S2.un = S.un + 1 := by rw [hS2]; rfl
    have hsn2 : S2.sn = S.sn := by rw [hS2]; rfl
    have hx12 : NX nu S S2 := hx1.tr hx2 (.inr (Nat.le_refl _))
    obtain ⟨I4, V4⟩ := H2.1.go hs (by rw [hv2]; exact hy.1) (by rw [htl2]; exact ht) hj h1 hnk.1 hnk.2
    rw [h1, h2]
    refine PS_of (fun Q h => zt_X6_repeated_p26 (by omega) h) (fun Q h => zt_X13_namePar_p158 (by omega) h) ?_
    simp only [zb_X6_repeated_p26, zb_X13_namePar_p158, i_nat' (show n < 2147483648 by omega)]
    refine PS_ln (by simp) (PS_rn (i_nn (by omega)) ?_)
    refine PS_r1 (fun Q hq => t_newUnit hI (by omega) (by omega) hq) ?_
    have e63 : kx_inb (i_ n) (w_n (tnu S.t S.un S.u) 12 0 63) = true := hI.1.2.1.i (k := 63) rfl hm
    have et : ws_a (ws_i (tnu S.t S.un S.u) 12 0 62 (i_ S.un)) 12 0 63 n (i_ S.un) = S2.t := by rw [ht2]; rfl
    refine PS_rand e63 ?_
    rw [← hw2]
    simp only [et]
    have hch := IH (S2.go y j) kr q n d k0 ol (L - 23) (L' - 22) I4 h3 hX1 V4 hk2 (by omega) (by omega)
    refine PS_bind (gc1 := fun Q => zw D.1 (L - 23) kt_M149 [.ref (w_adr D.1.2.1 5 0), va_rf (some q)] S2.w Q) (gt1 := fun Q => zw E' (L' - 22) kt_M473 [.ref (w_adr E'.2.1 12 0), .int (i_ n)] S2.t Q) hch (fun r1 w2 r2 t2 hb => ?_)
    obtain ⟨S', T1, ⟨e1, e2, e3, e4⟩, HB, hx, hq, hT1, ⟨hu', hsm⟩, ⟨hA1, ⟨hA2, hA3⟩, hA4⟩, hG⟩ := H2.bk (J' := J') (by rw [hv2]; exact hy) ⟨hyj, fun i hi => hi⟩ hb
    subst e1 e2 e3 e4
    have hA2 : S'.un + S2.vs.length + 1 ≤ S2.un + S'.vs.length := hA2
    have hA3 : S'.sn + S2.vs.length + 1 ≤ S2.sn + S'.vs.length := hA3
    have hA4 : w_a S'.t 12 0 63 n = w_a S2.t 12 0 63 n := hA4
    rw [hv2, hun2] at hA2
    rw [hv2, hsn2] at hA3
    have hxs : NX nu S S' := hx12.tr hx (.inr (by omega))
    obtain ⟨H3, hx3, hsm3⟩ := HB.su (by have := hI.2.2.1.2.2.2; have := hxs.1.2.2.2.2.1.1; omega) (fun s hs' => by
      rw [hA1.2] at hs'
      have := hI.ku hk hxs.1.w s hs'
      rw [hu] at this
      exact this)
    have hb5 := H.2.2.2.1
    have H3' := HM.up H3 (by
      have := hb5.1.1
      show S'.sn + S0.vs.length + 1 ≤ S0.sn + S'.vs.length
      omega) (by
      have := hb5.2.2.1
      show S'.un + S0.vs.length + 1 ≤ S0.un + S'.vs.length
      omega)
    have hw' := HB.1.nw hnu
    have ht' := HB.1.1.2.2 n htn 32 rfl
    have hq0 : q ∉ S0.vs := fun e => g2 (H.2.1.2.2.2.1 _ e)
    have hqp : q ≠ p := fun e => g2 (by rw [e]; exact H.2.2.1.1)
    refine PS_l (fun Q a => fun _ => a) (PS_r (fun Q a => fun _ => a) (PS_lex q rfl (PS_land hw'.1 (PS_rand (HB.1.1.2.1.i rfl hm) ?_))))
    rw [hw'.2.1 7 (by decide), ht']
    refine n_parl (S := S'.su (ws_i S'.t 12 0 62 (i_ S0.u)) S0.u) hs IH hL hL' H3' hA1 rfl ⟨hq.1, hq0⟩ hq.2.2 ⟨by decide, by decide⟩ (fun e => absurd e hqp) h4 (fun z hz => hX z (List.mem_cons_of_mem _ hz)) (fun S5 T5 H5 hk5 hu5 hx5 hsm5 hG5 => ?_)
    have hxs3 : NX nu S (S'.su (ws_i S'.t 12 0 62 (i_ S0.u)) S0.u) := hxs.tr hx3 (.inr (by omega))
    refine kk S5 T5 H5 hk5 hu5 (hxs3.tr hx5 (.inl hu.symm)) (fun b hb => ((((hsm1 b).tr (hsm2 b hb)).tr (hsm b (by rw [hv2]; exact hb)).1).tr (hsm3 b)).tr (hsm5 b (hsm b (by rw [hv2]; exact hb)).2)) (fun e => ?_)
    obtain ⟨a1, a2⟩ := hG5 e
    obtain ⟨a3, a4⟩ := min_nof H.2.2.2.2.1.1 hT1 a1
    refine ⟨a3, fun z hz => ?_⟩
    rcases List.mem_cons.mp hz with e | e
    · rw [e]
      have hNS := hG a4
      have hu4 : (S2.go y j).u = S.un := hu2
      rw [hu4] at hNS
      have h60 : w_a S'.t 12 0 60 S.un = i_ S0.u := by
        rw [(hx.1.2.2.2.2.1.2 S.un (by omega)).1, ht2, Raa, if_neg (fun z => absurd z.1 (by decide)), tnv_un.1, hu]
      have h63 : w_a S'.t 12 0 63 n = i_ S.un := by
        rw [hA4, ht2, Raa, if_pos ⟨rfl, rfl, rfl, rfl⟩]
      have hU : UOF nu S' S0.u q S.un := ⟨by have := hx.1.2.2.2.2.1.1; omega, h60, n, r, d, hnu, h63⟩
      have hd3 := hx3.2.1 q hq.2.1
      exact ⟨S.un, (hU.nx hx3 hq.2.1).nx hx5 hd3.1, (hNS.nx HB.1 hx3).nx H3'.1 hx5⟩
    · exact a2 z e
end NPR
