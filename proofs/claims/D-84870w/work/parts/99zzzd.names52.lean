/-! ===== ROUNDS, part 54: PROC and FUNCTION, as declarations ===== -/
section RTD
variable {D : pD} {V : pV} {nu : pN} {tn : Nat → Prop} {rt p q n nq m r d dq j k k' k0 f s s0 sP u un y A A0 P c cr crq kd W i : Nat} {J J' Jq : List Nat} {S S' S0 S1 : nS} {w w2 w' t t' : wS} {v2 pr : Option Nat} {x x1 x2 x3 x5 x6 x7 z y9 l' ty v ln : Int32} {T T' T1 T2 : Int} {kr ks : List Nat} {L L' Lc Ls Lk Lx Lt : Nat} {E E' : zE} {ol : Option Int32} {Q : kx_Rs → wS → Prop} {gc gt : pQ} {Φ : kx_Rs → wS → kx_Rs → wS → Prop} {C : Nat → Prop} {o : Bool}
/-- by whether it is a FUNCTION: kind of node, MeetingHouse's, kind of symbol, MeetingHouse's -/
def RTK (isf : Bool) (kd i c W : Nat) : Prop := (isf = false ∧ kd = 37 ∧ i = 33 ∧ c = 7 ∧ W = 60) ∨ (isf = true ∧ kd = 38 ∧ i = 11 ∧ c = 8 ∧ W = 56)
def rtw (w2 : wS) (A p : Nat) (ty : Int32) : wS := ws_p (ws_i (ws_p (dcl w2 A) 14 p 16 (some A)) 15 A 5 ty) 15 A 19 (some p)
theorem n_DR {isf : Bool} (hRK : RTK isf kd i c W) (hs : STR D V nu tn rt) (IH : NPA D V nu tn rt E' kt_M149 kt_M473 1 f) (ID : NPD D V nu tn rt E' f) (hI : IVN D V nu tn rt S) (hC : CHx V tn nu k0 ol n p d) (h26 : V.2.2.1 26 n = i_ (kd : Nat)) (hK : KX V nu (f + 1) 3 p) (hv : VOK V nu rt S p) (hk : KRE S kr) (hL : 75 * k0 + 340 ≤ L) (hL' : 75 * k0 + 340 ≤ L') : PS (fun Q => zw D.1 L kt_M136 [.ref (w_adr D.1.2.1 5 0), va_rf (some p)] S.w Q) (fun Q => zw E' L' kt_M474 [.ref (w_adr E'.2.1 12 0), .int (i_ n)] S.t Q) (NPO D V nu tn rt p S (fun S' => ∃ ks, KRE S' (ks ++ kr)) (fun S' => NS V nu S' (f + 1) S.u kr p S'.kc)) := by
  have hkb : 37 ≤ kd ∧ kd ≤ 38 ∧ 7 ≤ c ∧ c ≤ 8 ∧ (i = 33 ∨ i = 11) := by unfold RTK at hRK; omega
  obtain ⟨r, hnu, hm, -, hr, -⟩ := hC.nb h26 ⟨by omega, by omega⟩
  obtain ⟨kd', h26', hcl, hch⟩ := hK.at hnu hm
  have hkd' : kd' = kd := by
    have := (i_eq (by unfold cok at hcl; omega) (by omega)).mp (h26'.symm.trans h26)
    omega
  subst hkd'
  obtain ⟨htm, hl2, hF⟩ := hs.lf hnu hm h26 (by omega)
  obtain ⟨hk0, hnm, hty, l, hl, h42, hF4⟩ : V.2.1 p 0 = some (D.1.1.1 i) ∧ nmr D (V.1 p 9) (V.2.2.1 30 n) ∧ (isf = true → tyr (V.1 p 8) (V.2.2.1 33 n)) ∧ ∃ l, LPx V tn nu r (some (V.2.2.1 27 n)) l (V.2.1 p 3) (V.2.2.1 28 n) none (-1) ∧ (∀ z ∈ l, V.2.2.1 26 z.1 = i_ (42 : Nat)) ∧ ((isf = false ∧ ∃ d2, EC V tn nu r none d2 (V.2.1 p 4) (V.2.2.1 29 n)) ∨ (isf = true ∧ ((V.1 p 11 = 1 ∧ EC V tn nu r none 0 (V.2.1 p 4) (V.2.2.1 41 n) ∧ V.2.2.1 42 n = -1 ∧ V.2.2.1 29 n = -1 ∧ V.2.1 p 5 = none) ∨ (V.1 p 11 = 0 ∧ ∃ d1 d2, SL V tn nu r none d1 (V.2.1 p 5) (V.2.2.1 42 n) ∧ EC V tn nu r none d2 (V.2.1 p 4) (V.2.2.1 29 n) ∧ EC V tn nu r none 0 (V.2.1 p 6) (V.2.2.1 41 n))))) := by
    rcases hRK with ⟨e1, e2, e3, e4, e5⟩ | ⟨e1, e2, e3, e4, e5⟩ <;> subst e1 e2 e3 e4 e5
    · obtain ⟨h0, h1, ⟨l, hl, -, h42⟩, d2, -, h3⟩ := hF
      exact ⟨h0, h1, fun e => absurd e (by decide), l, hl, h42, .inl ⟨rfl, d2, h3⟩⟩
    · obtain ⟨h0, h1, h2, ⟨l, hl, -, h42⟩, ⟨a1, a2, a3, a4, a5, -⟩ | ⟨a1, d1, d2, -, a3, a4, a5⟩⟩ := hF
      · exact ⟨h0, h1, fun _ => h2, l, hl, h42, .inr ⟨rfl, .inl ⟨a1, a2, a3, a4, a5⟩⟩⟩
      · exact ⟨h0, h1, fun _ => h2, l, hl, h42, .inr ⟨rfl, .inr ⟨a1, d1, d2, a3, a4, a5⟩⟩⟩
  clear hF
  have hk0' : V.2.1 p 0 = some (D.1.1.1 (if isf = true then 11 else 33)) := by
    rcases hRK with ⟨e1, -, e3, -⟩ | ⟨e1, -, e3, -⟩ <;> subst e1 e3 <;> exact hk0
  have hX4 : ∀ q, V.2.1 p 4 = some q → KX V nu f (if isf = true ∧ V.1 p 11 = 1 then 0 else 1) q := fun q hq => by
    have h := hch 4 ⟨by decide, by decide⟩ (by omega) (ujk.c (by omega)) 0 q (.inl rfl) hq
    have e : ccl (V.1 p 10) (V.1 p 11) kd' 4 = (if isf = true ∧ V.1 p 11 = 1 then 0 else 1) := by
      rcases hRK with ⟨e1, e2, -⟩ | ⟨e1, e2, -⟩ <;> subst e1 e2
      · rw [if_neg (fun z => absurd z.1 (by decide))]
        rfl
      · unfold ccl
        simp
    rw [e] at h
    exact h
  have hX6 : ∀ q, V.2.1 p 6 = some q → isf = true → V.1 p 11 = 0 → KX V nu f 0 q := fun q hq e1 e0 => by
    have e2 : kd' = 38 := by
      rcases hRK with ⟨e1', -⟩ | ⟨-, e2, -⟩
      · rw [e1] at e1'
        cases e1'
      · exact e2
    subst e2
    have h := hch 6 ⟨by decide, by decide⟩ (by omega) (ujk.f (by rw [e0]; decide)) 0 q (.inl rfl) hq
    have e : ccl (V.1 p 10) (V.1 p 11) 38 6 = 0 := rfl
    rw [e] at h
    exact h
  have hX5 : isf = true → ∀ i' q, nxi V i' (V.2.1 p 5) = some q → KX V nu f 3 q := fun e1 i' q hq => by
    have e2 : kd' = 38 := by
      rcases hRK with ⟨e1', -⟩ | ⟨-, e2, -⟩
      · rw [e1] at e1'
        cases e1'
      · exact e2
    subst e2
    exact hch 5 ⟨by decide, by decide⟩ (by omega) (ujk.c (by omega)) i' q (.inr (.inr (.inr ⟨rfl, rfl⟩))) hq
  have hNM : ∀ z ∈ l, NMD D V nu z := fun z hz => by
    obtain ⟨rz, hnuz, hmz, -⟩ := (hl.mem z hz).nb (h42 z hz) ⟨by decide, by decide⟩
    obtain ⟨-, h2, -, -, h3, -⟩ := hs.lf hnuz hmz (h42 z hz) (by decide)
    exact ⟨h3, h2, by rw [hnuz]; simp⟩
  have H := HM.start hI hv
  have hw := hI.nw hnu
  have ht := hI.1.2.2 n htm
  have hT := hI.1.2.1
  have hf := hI.2.2.2.2.2.2.1
  have hpv : p ∉ S.vs := hv.1.1
  have hpd : ¬ S.dn p := fun e => hpv (hI.2.2.2.2.2.2.2.2.2.2 p e)
  have hvl := hs.2.2.2.2.2.2 (S.at p).vs H.1.2.2.2.2.2.2.2.1.1 (fun a ha => (H.1.2.2.2.2.2.2.2.1.2 a ha).1)
  have hvl1 : (S.at p).vs.length = S.vs.length + 1 := rfl
  have hsn' : S.sn ≤ 2 + S.vs.length := hI.2.2.1.1.2
  have hun' : S.un ≤ 1 + S.vs.length := hI.2.2.1.2.1.2
  have hu' : S.u < S.un := hI.2.2.1.2.2.2
  have hck0 : ∀ q' ∈ S.ck, q'.1 ≤ S.sn := fun q' hq' => (hI.2.2.2.1.2.2.1.choose_spec.2.2.2 q' hq').1
  have hkl : kr.length ≤ S.sn := by
    have := hI.2.2.2.2.2.1.2.2.2.1
    rw [hk.2] at this
    exact this
  have hkrs : ∀ s ∈ kr, s < S.sn := fun s hs' => (hI.2.2.2.2.2.1.2.2.2.2 s (by rw [hk.2]; exact hs')).1
  have h56 : w_i S.t 12 0 56 = i_ kr.length := hI.e56 hk
  have h62 : w_i S.t 12 0 62 = i_ S.u := hI.2.2.1.2.2.1
  have hysP : S.ys S.sn = none := by
    cases e : S.ys S.sn with
    | none => rfl
    | some A' => exact absurd (hI.sl e) (Nat.lt_irrefl _)
  obtain ⟨xv, hxv⟩ : ∃ xv : Int32, (isf = false ∧ xv = i_ (-1)) ∨ (isf = true ∧ xv = V.2.2.1 33 n) := by
    cases isf with
    | false => exact ⟨_, .inl ⟨rfl, rfl⟩⟩
    | true => exact ⟨_, .inr ⟨rfl, rfl⟩⟩
  refine PS_of (fun Q h => zt_X6_declaration_p0 (by omega) h) (fun Q h => zt_X13_nameDeclaration_p0 (by omega) h) ?_
  simp only [zb_X6_declaration_p0, zb_X13_nameDeclaration_p0, zb_X6_declaration_p271, i_nat' (show n < 2147483648 by omega), ht 26 rfl, h26]
  have hzO : zO D.1 "MeetingHouse$Kind" (w_p S.w 14 p 0) i := zO_k hs.1.1 (by omega) ((hw.2.1 0 (by decide)).trans hk0) (by rcases hkb.2.2.2.2 with e | e <;> subst e <;> rfl)
  refine PS_lex p rfl (PS_land hw.1 (PS_lex i hzO (PS_rand (hT.i rfl hm) (PS_rand (hT.i rfl hm) ?_))))
  -- to the routine
  refine PS_l (gc' := fun Q => zw D.1 (L - 25) kt_M153 [.ref (w_adr D.1.2.1 5 0), va_rf (some p)] S.w (wk0 (fun w24 => wle S.w w24 → Q (.inl none) w24) (fun e w => Q (.inr e) w))) (fun Q h => ?_) ?_
  · rcases hRK with ⟨-, -, e3, -⟩ | ⟨-, -, e3, -⟩ <;> subst e3
    · iterate 7 rw [if_neg (by decide)]
      exact h
    · iterate 7 rw [if_neg (by decide)]
      exact h
  refine PS_r (gt' := fun Q => zw E' (L' - 25) kt_M486 [.ref (w_adr E'.2.1 12 0), .int (i_ n)] S.t (wk0 (fun w17 => wle S.t w17 → zb_X13_nameDeclaration_p560 E' L' Q (i_ n) w17) (fun e w => Q (.inr e) w))) (fun Q h => ?_) ?_
  · rcases hRK with ⟨-, e2, -⟩ | ⟨-, e2, -⟩ <;> subst e2
    · iterate 7 rw [if_neg (by decide)]
      exact h
    · iterate 7 rw [if_neg (by decide)]
      exact h
  refine PS_of (fun Q h => zt_X6_routine_p0 (by omega) h) (fun Q h => zt_X13_nameUnit_p0 (by omega) h) ?_
  simp only [zb_X6_routine_p0, zb_X13_nameUnit_p0, i_nat' (show n < 2147483648 by omega), ht 26 rfl, h26]
  refine PS_lex p rfl (PS_land hw.1 (PS_rand (hT.i rfl hm) ?_))
  rw [hw.2.1 3 (by decide)]
  -- the twin: what it is
  obtain ⟨KT, hKT⟩ : ∃ KT : (kx_Rs → wS → Prop) → kx_Rs → wS → Prop, KT = fun Q => wk0 (fun w17 => wle S.t w17 → zb_X13_nameDeclaration_p560 E' L' Q (i_ n) w17) (fun e w => Q (.inr e) w) := ⟨_, rfl⟩
  refine PS_r (gt' := fun Q => zb_X13_nameUnit_p49 E' (L' - 25) (KT Q) (i_ n) (bI isf) xv (i_ c) (V.2.2.1 30 n) S.t) (fun Q h => ?_) ?_
  · rw [hKT] at h
    rcases hRK with ⟨e1, e2, -, e4, -⟩ | ⟨e1, e2, -, e4, -⟩ <;> subst e1 e2 e4
    · rw [if_pos (by decide)]
      simp only [zb_X13_nameUnit_p16, zb_X13_nameUnit_p35, i_nat' (show n < 2147483648 by omega), ht 30 rfl]
      refine ⟨hT.i rfl hm, ?_⟩
      rw [if_pos trivial, if_pos trivial]
      rcases hxv with ⟨-, e⟩ | ⟨e, -⟩
      · rw [e] at h
        exact h
      · cases e
    · rw [if_neg (by decide)]
      simp only [zb_X13_nameUnit_p16, zb_X13_nameUnit_p35, i_nat' (show n < 2147483648 by omega), ht 30 rfl, ht 33 rfl]
      refine ⟨hT.i rfl hm, ?_⟩
      rw [if_neg (by decide), if_neg (by decide)]
      rcases hxv with ⟨e, -⟩ | ⟨-, e⟩
      · cases e
      · rw [e] at h
        exact ⟨hT.i rfl hm, h⟩
  -- its symbol, its unit
  simp only [zb_X13_nameUnit_p49, i_nat' (show n < 2147483648 by omega), ht 27 rfl]
  refine PS_rand (hT.i rfl hm) ?_
  refine PS_r1 (fun Q hq => t_symbol (S := S) hI (by omega) (by omega) (by omega) hq) ?_
  have hTs : DTs V tn S n (tsy S.t S.sn S.u (V.2.2.1 30 n) (i_ (c : Nat)) xv (-1) (i_ n) (V.2.2.1 27 n)) := DTs.t0 (S := S) (by omega) hI.1.2
  have hs9 := tsy_s (t := S.t) (s := S.sn) (u := S.u) (x1 := V.2.2.1 30 n) (x2 := i_ (c : Nat)) (x3 := xv) (x4 := -1) (x5 := i_ n) (x6 := V.2.2.1 27 n)
  generalize tsy S.t S.sn S.u (V.2.2.1 30 n) (i_ (c : Nat)) xv (-1) (i_ n) (V.2.2.1 27 n) = ts at hTs hs9 ⊢
  obtain ⟨H1, hx1, hsm1⟩ := H.ts1 (y := p) (by show S.sn + S.vs.length + 1 ≤ S.sn + (S.at p).vs.length; omega) ⟨hpv, hpd⟩ hnu hm hs hTs
  have hs62 : w_i ts 12 0 62 = i_ S.u := hTs.2.2.2.2.2.1.2.2.1.trans h62
  have hs56 : w_i ts 12 0 56 = i_ kr.length := hTs.2.2.2.2.2.1.1.2.trans h56
  have hs44 : w_i ts 12 0 44 = i_ (S.sn + 1 : Nat) := hTs.2.2.2.2.2.1.1.1
  simp only [hs62, hs56]
  refine PS_r1 (fun Q hq => t_newUnit (S := (S.at p).ts ts) H1.1 (by show S.un < 6100; omega) (by omega) hq) ?_
  obtain ⟨H2, hx2, hsm2⟩ := H1.nu2 hs (by decide) (by show S.un + S.vs.length + 1 ≤ S.un + (S.at p).vs.length; omega)
  have ecm : ∀ Q : kx_Rs → wS → Prop, True := fun _ => trivial
  clear ecm
  have hE2 : ws_i (tnu ts S.un S.u) 12 0 62 (i_ S.un) = tnv ts S.un S.u := rfl
  have hn44 : w_i (tnu ts S.un S.u) 12 0 44 = i_ (S.sn + 1 : Nat) := by
    unfold tnu
    rw [Rii, if_neg (fun z => absurd z.1 (by decide))]
    exact hs44
  obtain ⟨S2, hS2⟩ : ∃ S2, S2 = ((S.at p).ts ts).nu (tnv ts S.un S.u) := ⟨_, rfl⟩
  have b2 : S2.w = S.w ∧ S2.t = tnv ts S.un S.u ∧ S2.ys = S.ys ∧ S2.sn = S.sn + 1 ∧ S2.kc = S.kc ∧ S2.kt = S.kt ∧ S2.u = S.un ∧ S2.un = S.un + 1 ∧ S2.ck = S.ck ∧ S2.vs = p :: S.vs ∧ S2.dn = S.dn := by subst hS2; exact ⟨rfl, rfl, rfl, rfl, rfl, rfl, rfl, rfl, rfl, rfl, rfl⟩
  have H2 : HM D V nu tn rt p [] (5 - 5 % 2) S S2 NOF NOF := by rw [hS2]; exact H2
  have hx02 : NX nu (S.at p) S2 := by rw [hS2]; exact hx1.tr hx2 (.inl rfl)
  obtain ⟨b2w, b2t, b2y, b2s, b2c, b2k, b2u, b2n, b2q, b2v, b2d⟩ := b2
  clear hS2 hx1 hsm1 hx2 hsm2 H1
  have h60 : w_a S2.t 12 0 60 S.un = i_ S.u := by rw [b2t]; exact tnv_un.1
  have hP2 : ∀ k, (45 ≤ k ∧ k ≤ 55) → w_a S2.t 12 0 k S.sn = w_a ts 12 0 k S.sn := fun k hk' => by rw [b2t]; exact tnv_a (fun z => by omega)
  have hTn : TLN (tnu ts S.un S.u) := ⟨fun k hk' => hTs.2.2.2.2.2.2.1.1.1 k hk', fun k hk' => hTs.2.2.2.2.2.2.1.1.2 k hk'⟩
  have H3a := H2.ta (k := 63) (x := i_ S.un) hs.2.2.2.1 hnu hm (.inr (.inl rfl))
  have H3 := H3a.ta (k := 67) (x := i_ (S.sn + 1 : Nat)) hs.2.2.2.1 hnu hm (.inr (.inr (.inr rfl)))
  have hx3 := (NX.ta (x := i_ S.un) H2.2.2.1.2.2.1 hs.2.2.2.1 hnu hm (.inr (.inl rfl))).tr (NX.ta (x := i_ (S.sn + 1 : Nat)) H3a.2.2.1.2.2.1 hs.2.2.2.1 hnu hm (.inr (.inr (.inr rfl)))) (.inl rfl)
  obtain ⟨z, hz, H4, hx4, hsm4⟩ := H3.cp
  obtain ⟨S4, hS4⟩ : ∃ S4, S4 = ((S2.wt S2.w (ws_a S2.t 12 0 63 n (i_ S.un))).wt S2.w (ws_a (ws_a S2.t 12 0 63 n (i_ S.un)) 12 0 67 n (i_ (S.sn + 1 : Nat)))).cp (S2.sn, (z : Int)) := ⟨_, rfl⟩
  have b4 : S4.w = S2.w ∧ S4.t = ws_a (ws_a S2.t 12 0 63 n (i_ S.un)) 12 0 67 n (i_ (S.sn + 1 : Nat)) ∧ S4.ys = S2.ys ∧ S4.sn = S2.sn ∧ S4.kc = S2.kc ∧ S4.kt = S2.kt ∧ S4.u = S2.u ∧ S4.un = S2.un ∧ S4.ck = (S2.sn, (z : Int)) :: S2.ck := by subst hS4; exact ⟨rfl, rfl, rfl, rfl, rfl, rfl, rfl, rfl, rfl⟩
  have H4 : HM D V nu tn rt p [] (5 - 5 % 2) S S4 NOF NOF := by rw [hS4]; exact H4
  have hx24 : NX nu S2 S4 := by rw [hS4]; exact hx3.tr hx4 (.inl rfl)
  obtain ⟨b4w, b4t, b4y, b4s, b4c, b4k, b4u, b4n, b4q⟩ := b4
  clear hS4 hx3 hx4 hsm4 H3 H3a
  have h63 : w_a S4.t 12 0 63 n = i_ S.un := by rw [b4t, Raa, if_neg (fun z => absurd z.1 (by decide)), Raa, if_pos ⟨rfl, rfl, rfl, rfl⟩]
  have h67 : w_a S4.t 12 0 67 n = i_ (S.sn + 1 : Nat) := by rw [b4t, Raa, if_pos ⟨rfl, rfl, rfl, rfl⟩]
  have hz0 : w_i S.w 5 0 4 = i_ z := by
    have h : w_i S2.w 5 0 4 = i_ z := hz
    rw [b2w] at h
    exact h
  have eT4 : ws_a (ws_a (ws_i (tnu ts S.un S.u) 12 0 62 (i_ S.un)) 12 0 63 n (i_ S.un)) 12 0 67 n (i_ (S.sn + 1 : Nat)) = S4.t := by rw [b4t, b2t, hE2]
  simp only [show ((S.at p).ts ts).t = ts from rfl, show ((S.at p).ts ts).un = S.un from rfl, show ((S.at p).ts ts).u = S.u from rfl, hn44, eT4]
  refine PS_rand (hTn.i rfl hm) (PS_rand (hTn.i rfl hm) ?_)
  -- names of formals that stand twice
  refine PS_l0 (fun Q hq => c_again hs.1.2 (by omega) hI.1.1 hf.1 hl hNM hq) ?_
  have e4w : S4.w = S.w := b4w.trans b2w
  have H5 : HM D V nu tn rt p [] (5 - 5 % 2) S (S4.wt (ru S4.w (agT V [] (l.map (fun z => z.1)))) S4.t) (min NOF (agT V [] (l.map (fun z => z.1)))) NOF := H4.cru (agT_ok (V := V) (l := l.map (fun z => z.1)) (pre := []))
  have hx5 : NX nu S4 (S4.wt (ru S4.w (agT V [] (l.map (fun z => z.1)))) S4.t) := by
    have := NX.ft (nu := nu) (S := S4) (T := agT V [] (l.map (fun z => z.1))) (T' := NOF)
    rw [tu_nof H4.1.2.2.2.2.2.2.1.2] at this
    exact this
  obtain ⟨S5, hS5⟩ : ∃ S5, S5 = S4.wt (ru S4.w (agT V [] (l.map (fun z => z.1)))) S4.t := ⟨_, rfl⟩
  have b5 : S5.w = ru S.w (agT V [] (l.map (fun z => z.1))) ∧ S5.t = S4.t ∧ S5.ys = S4.ys ∧ S5.sn = S4.sn ∧ S5.kc = S4.kc ∧ S5.kt = S4.kt ∧ S5.u = S4.u ∧ S5.un = S4.un ∧ S5.ck = S4.ck := by subst hS5; exact ⟨by show ru S4.w _ = _; rw [e4w], rfl, rfl, rfl, rfl, rfl, rfl, rfl, rfl⟩
  rw [← hS5] at H5 hx5
  clear hS5
  obtain ⟨b5w, b5t, b5y, b5s, b5c, b5k, b5u, b5n, b5q⟩ := b5
  rw [← b5w, ← b5t]
  have hk5 : KRE S5 kr := ⟨b5c.trans (b4c.trans (b2c.trans hk.1)), b5k.trans (b4k.trans (b2k.trans hk.2))⟩
  have hu5 : S5.u = S.un := b5u.trans (b4u.trans b2u)
  have hs5 : S5.sn = S.sn + 1 := b5s.trans (b4s.trans b2s)
  have hy5 : S5.ys = S.ys := b5y.trans (b4y.trans b2y)
  have hw5 := H5.1.nw hnu
  have ht5 := H5.1.1.2.2 n htm
  have hT5 := H5.1.1.2.1
  have ebg : w_i S5.w 5 0 4 = i_ z := by rw [b5w, ru_i (by decide)]; exact hz0
  rw [ebg, hw5.2.1 3 (by decide)]
  refine PS_r (fun Q h => zt_X13_nameFormals_p0 (by omega) h) ?_
  simp only [zb_X13_nameFormals_p0, i_nat' (show n < 2147483648 by omega), ht5 28 rfl, H5.1.2.2.1.1.1, hs5]
  refine PS_rand (hT5.i rfl hm) ?_
  -- formals
  refine n_fm (L := L - 25) (L' := L' - 25 - 28) (KQ := fun Q => wk0 (fun w24 => wle S.w w24 → Q (.inl none) w24) (fun e w => Q (.inr e) w)) (KT := fun Q => wk0 (fun w5 => wle S5.t w5 → (if bI isf = 0 then zb_X13_nameUnit_p121 E' (L' - 25) (KT Q) (i_ n) (bI isf) (i_ S.sn) (i_ S.u) (i_ kr.length) w5 else (kx_inb (i_ n) (w_n w5 12 0 42) = true ∧ zw E' (L' - 25 - 22) kt_M475 [.ref (w_adr E'.2.1 12 0), .int (w_a w5 12 0 42 n)] w5 (wk0 (fun w7 => wle w5 w7 → zb_X13_nameUnit_p121 E' (L' - 25) (KT Q) (i_ n) (bI isf) (i_ S.sn) (i_ S.u) (i_ kr.length) w7) (fun e w => KT Q (.inr e) w))))) (fun e w => KT Q (.inr e) w)) (kp := w_p S.w 5 0 3) (bg := i_ z) (isf := isf) (s0 := S.sn + 1) (J := [3]) (kr := kr) (pre := []) (y := p) (j := 3) hs hnu hm htm hk0' (by omega) (by omega) ((H5.wk (fun i hi => absurd hi List.not_mem_nil)).crd (by decide) (by decide)) rfl hk5 hs5 (Nat.le_succ _) ⟨H5.2.2.1.1, H5.2.2.1.2.1⟩ (fun e => absurd (H5.2.2.1.2.2.2 3 e) List.not_mem_nil) ⟨by decide, by decide⟩ (fun _ => List.mem_cons_self) hl h42 trivial (fun z hz => absurd hz List.not_mem_nil) (fun s' A' h1 _ => H5.1.sl h1) (fun S6 T6 H6 hT6 hk6 h66 hsn6 hx6 hsm6 hyo6 hI6 hv6 => ?_)
  have eL : ([] : List (Nat × Nat × Nat)) ++ l = l := rfl
  have eN : ([] : List (Nat × Nat × Nat)).length + l.length = l.length := Nat.zero_add _
  rw [eL] at hI6 hv6
  rw [eN] at hsn6
  have ht6 := H6.1.1.2.2 n htm
  have hT6' := H6.1.1.2.1
  have hu6 : S6.u = S.un := (congrArg Prod.fst h66).trans hu5
  simp only [i_nat' (show n < 2147483648 by omega), ht6 28 rfl]
  refine PS_rand (hT6'.i rfl hm) ?_
  -- they become known
  refine n_lkl (C := Cf) (s0 := S.sn + 1) (i := 0) (kr := kr) hs (by omega) (fun s hs' => by have := hkrs s hs'; omega) H6 (by rw [hk6.1]; rfl) hl hI6 (fun S7 H7 hkc7 hkt7 hy7 h77 ht7 hx7 hsm7 => ?_)
  have hI7 : ITL V nu S7 Cf S7.u (S.sn + 1 + 0) l := by
    rw [show S7.u = S6.u from congrArg (fun z => z.1.1) h77]
    exact hI6.st hx7.1.w (fun z _ => hsm7 z.2.1)
  rw [← ht7]
  refine n_kn (E' := E') (C := Cf) (gtl := fun x t Q => zL_X13_nameFormals_p248 E' (L' - 25 - 28) (wk0 (fun w5 => wle S5.t w5 → (if bI isf = 0 then zb_X13_nameUnit_p121 E' (L' - 25) (KT Q) (i_ n) (bI isf) (i_ S.sn) (i_ S.u) (i_ kr.length) w5 else (kx_inb (i_ n) (w_n w5 12 0 42) = true ∧ zw E' (L' - 25 - 22) kt_M475 [.ref (w_adr E'.2.1 12 0), .int (w_a w5 12 0 42 n)] w5 (wk0 (fun w7 => wle w5 w7 → zb_X13_nameUnit_p121 E' (L' - 25) (KT Q) (i_ n) (bI isf) (i_ S.sn) (i_ S.u) (i_ kr.length) w7) (fun e w => KT Q (.inr e) w))))) (fun e w => KT Q (.inr e) w)) x t) (Lt := L' - 25 - 28 - 21) (Y := fun Q e w => wk0 (fun w5 => wle S5.t w5 → (if bI isf = 0 then zb_X13_nameUnit_p121 E' (L' - 25) (KT Q) (i_ n) (bI isf) (i_ S.sn) (i_ S.u) (i_ kr.length) w5 else (kx_inb (i_ n) (w_n w5 12 0 42) = true ∧ zw E' (L' - 25 - 22) kt_M475 [.ref (w_adr E'.2.1 12 0), .int (w_a w5 12 0 42 n)] w5 (wk0 (fun w7 => wle w5 w7 → zb_X13_nameUnit_p121 E' (L' - 25) (KT Q) (i_ n) (bI isf) (i_ S.sn) (i_ S.u) (i_ kr.length) w7) (fun e w => KT Q (.inr e) w))))) (fun e w => KT Q (.inr e) w) (.inr e) w) (s0 := S.sn + 1) (i := 0) (kr := kr) hs (by omega) (fun S8 n8 hn8 hT8 h => ?_) H7 (by rw [hkt7, hk6.2]; rfl) (by omega) hl hI7 (fun S8 H8 hkt8 ha8 hy8 hkc8 hu8 hw8 hx8 hsm8 => ?_)
  · refine PS_r (fun Q h => zt_X13_nameFormals_p248 (by omega) h) ?_
    simp only [zb_X13_nameFormals_p248, i_nat' (show n8 < 2147483648 by omega)]
    exact PS_rn (i_nn (by omega)) (PS_rand (hT8.i rfl hn8) h)
  refine PS_r (fun Q h => zt_X13_nameFormals_p248 (by omega) h) ?_
  simp only [zb_X13_nameFormals_p248]
  refine PS_rp (by decide) (PS_r (fun Q a => fun _ => a) ?_)
  have h88 : S8.2.2.2.2.2 = S6.2.2.2.2.2 := hu8.trans h77
  have hu8' : S8.u = S.un := (congrArg (fun z => z.1.1) h88).trans hu6
  have hvs8 : S8.vs = S6.vs := congrArg (fun z => z.2.1) h88
  obtain ⟨H9, hx9, hsm9⟩ := H8.fin (P := fun a => ∃ z ∈ l, z.2.1 = a) (fun y hy => by
    obtain ⟨z, hz, e⟩ := hy
    rw [← e]
    refine ⟨?_, (hv6 z hz).2⟩
    rw [hvs8]
    exact (hv6 z hz).1)
  obtain ⟨S9, hS9⟩ : ∃ S9, S9 = S8.fl (fun a => ∃ z ∈ l, z.2.1 = a) := ⟨_, rfl⟩
  have b9 : S9.w = S8.w ∧ S9.t = S8.t ∧ S9.kc = S8.kc ∧ S9.kt = S8.kt ∧ S9.u = S8.u ∧ S9.ys = S8.ys ∧ S9.sn = S8.sn ∧ S9.ck = S8.ck ∧ (∀ z ∈ l, S9.dn z.2.1) := by subst hS9; exact ⟨rfl, rfl, rfl, rfl, rfl, rfl, rfl, rfl, fun z hz => .inr ⟨z, hz, rfl⟩⟩
  rw [← hS9] at H9 hx9 hsm9
  clear hS9
  obtain ⟨b9w, b9t, b9c, b9k, b9u, b9y, b9s, b9q, hdn9⟩ := b9
  have hk9 : KRE S9 (rsq (S.sn + 1) l.length ++ kr) := by
    refine ⟨?_, ?_⟩
    · rw [b9c, hkc8, hkc7, Nat.zero_add]
    · rw [b9k, hkt8, Nat.zero_add]
  have hu9 : S9.u = S.un := b9u.trans hu8'
  have hI9 : ITL V nu S9 Cf S.un (S.sn + 1 + 0) l := by
    have := (hI7.st hx8.1.w (fun z _ => hsm8 z.2.1)).st hx9.1.w (fun z _ => hsm9 z.2.1)
    rw [show S7.u = S.un from (congrArg (fun z => z.1.1) h77).trans hu6] at this
    exact this
  have hx69 : NX nu S6 S9 := (hx7.tr hx8 (.inl (congrArg (fun z => z.1.1) h77))).tr hx9 (.inl (congrArg (fun z => z.1.1) h88))
  have hsm69 : ∀ b, SMN nu S6 S9 b := fun b => ((hsm7 b).tr (hsm8 b)).tr (hsm9 b)
  have hx59 : NXw nu S5 S9 := hx6.tr hx69.w (.inl (hu6.trans hu5.symm))
  have hsm59 : SMN nu S5 S9 p := ((hsm6 p H5.2.2.1.1).1).tr (hsm69 p)
  have ew9 : S7.w = S9.w := by rw [b9w, hw8]
  rw [ew9, ← b9t]
  have e42 : ∀ t : wS, w_a t 12 0 42 n = w_a t 12 0 42 (i_ n).toNatClampNeg := fun t => by rw [i_nat' (show n < 2147483648 by omega)]
  rw [e42]
  -- the body
  refine n_body (L := L - 25) (L' := L' - 25) (f := f) (KQ := fun Q => wk0 (fun w24 => wle S.w w24 → Q (.inl none) w24) (fun e w => Q (.inr e) w)) (KT := KT) (kf := rsq (S.sn + 1) l.length ++ kr) hs IH ID hnu hm htm hk0' hF4 hX4 hX6 hX5 H9 hk9 (by omega) (by omega) (fun S10 T10 ks H10 hk10 hu10 hx10 hsm10 hG10 => ?_)
  have hw10 := H10.1.nw hnu
  have ht10 := H10.1.1.2.2 n htm
  have hx5_10 : NXw nu S5 S10 := hx59.tr hx10.w (.inl (hu9.trans hu5.symm))
  have hsm5_10 : SMN nu S5 S10 p := hsm59.tr hsm10
  have hx25 : NX nu S2 S5 := hx24.tr hx5 (.inl b4u)
  -- back
  have hxc : CHN S.w S.ys kr (w_p S.w 5 0 3) := by
    have := hI.2.2.2.2.2.1.1.1
    rw [hk.1] at this
    exact this
  have hyc : ∀ s ∈ kr, S.ys s = S10.ys s := fun s hs' => by
    have h2 : S.ys s ≠ none := hI.2.2.2.2.2.1.1.2 s (by rw [hk.1]; exact hs')
    cases e : S.ys s with
    | none => exact absurd e h2
    | some A => exact ((H10.2.1.2.1.1 s A e).1).symm
  have hk10' : KRE S10 ((ks ++ rsq (S.sn + 1) l.length) ++ kr) := by rw [List.append_assoc]; exact hk10
  obtain ⟨H11, hx11⟩ := H10.rs hk10' hxc hyc
  have hun10 : S.un < S10.un := by
    have h1 := hx5_10.1.2.2.2.2.1.1
    rw [b5n, b4n, b2n] at h1
    omega
  obtain ⟨H12, hx12, hsm12⟩ := H11.su (by show S.u < S10.un; omega) (fun s' hs' => hI.ku hk H11.2.1.2.1.w s' hs')
  have H13 := H12.ta (k := 31) (x := i_ S.sn) hs.2.2.2.1 hnu hm (.inl rfl)
  have hx13 := NX.ta (x := i_ S.sn) (p := p) H12.2.2.1.2.2.1 hs.2.2.2.1 hnu hm (.inl rfl)
  obtain ⟨S13, hS13⟩ : ∃ S13, S13 = (((S10.rs (ws_p S10.w 5 0 3 (w_p S.w 5 0 3)) (ws_i S10.t 12 0 56 (i_ kr.length)) kr).su (ws_i (ws_i S10.t 12 0 56 (i_ kr.length)) 12 0 62 (i_ S.u)) S.u).wt (ws_p S10.w 5 0 3 (w_p S.w 5 0 3)) (ws_a (ws_i (ws_i S10.t 12 0 56 (i_ kr.length)) 12 0 62 (i_ S.u)) 12 0 31 n (i_ S.sn))) := ⟨_, rfl⟩
  have b13 : S13.w = ws_p S10.w 5 0 3 (w_p S.w 5 0 3) ∧ S13.t = ws_a (ws_i (ws_i S10.t 12 0 56 (i_ kr.length)) 12 0 62 (i_ S.u)) 12 0 31 n (i_ S.sn) ∧ S13.kc = kr ∧ S13.kt = kr ∧ S13.u = S.u ∧ S13.ys = S10.ys ∧ S13.sn = S10.sn ∧ S13.ck = S10.ck ∧ S13.dn = S10.dn := by subst hS13; exact ⟨rfl, rfl, rfl, rfl, rfl, rfl, rfl, rfl, rfl⟩
  have H13 : HM D V nu tn rt p [6, 4, 5, 3] 4 S S13 T10 T10 := by rw [hS13]; exact H13
  have hx10_13 : NXw nu S10 S13 := by
    rw [hS13]
    exact (hx11.w.tr hx12.w (.inl rfl)).trr hx13.w (fun x => by
      show w_a (ws_a _ 12 0 31 n _) 12 0 61 x = _
      rw [Raa, if_neg (fun z => absurd z.1 (by decide))]
      rfl)
  obtain ⟨c13w, c13t, c13c, c13k, c13u, c13y, c13s, c13q, c13d⟩ := b13
  clear hS13 hx11 hx12 hx13 hsm12 H11 H12
  have hT10 := H10.1.1.2.1
  have hysP10 : S10.ys S.sn = none := by
    cases e : S10.ys S.sn with
    | none => rfl
    | some A' =>
      exfalso
      have h9 : S9.ys S.sn = none := by
        rw [b9y, show S8.ys = S7.ys from congrArg Prod.fst hy8, show S7.ys = S6.ys from congrArg Prod.fst hy7, hyo6 S.sn (Nat.lt_succ_self _), hy5]
        exact hysP
      rcases hx10.1.2.2.2.1 S.sn (by rw [e]; simp) with h | h
      · exact h h9
      · have h2 : S.sn + 1 ≤ S9.sn := by
          rw [b9s, show S8.sn = S7.sn from congrArg Prod.snd hy8, show S7.sn = S6.sn from congrArg Prod.snd hy7, hsn6]
          exact Nat.le_add_right _ _
        omega
  have hsn13 : S.sn + 1 ≤ S13.sn := by
    rw [c13s]
    have h1 := hx5_10.1.2.2.1
    rw [hs5] at h1
    exact h1
  have hw13 := H13.1.nw hnu
  have e31 : w_a S13.t 12 0 31 n = i_ S.sn := by rw [c13t, Raa, if_pos ⟨rfl, rfl, rfl, rfl⟩]
  have h6313 : w_a S13.t 12 0 63 n = i_ S.un := by
    rw [c13t, Raa, if_neg (fun z => absurd z.1 (by decide)), Rai, Rai, hsm5_10.2 _ _ _ hnu 63 (.inr (.inl rfl)), b5t]
    exact h63
  have h6713 : w_a S13.t 12 0 67 n = i_ (S.sn + 1 : Nat) := by
    rw [c13t, Raa, if_neg (fun z => absurd z.1 (by decide)), Rai, Rai, hsm5_10.2 _ _ _ hnu 67 (.inr (.inr (.inr rfl))), b5t]
    exact h67
  have hx2_13 : NXw nu S2 S13 := (hx25.w.tr hx5_10 (.inl (b5u.trans b4u))).tr hx10_13 (.inl ((hu10.trans hu9).trans b2u.symm))
  have hP13 : ∀ k, (45 ≤ k ∧ k ≤ 55) → w_a S13.t 12 0 k S.sn = w_a ts 12 0 k S.sn := fun k hk' => (hx2_13.1.2.1 S.sn (by rw [b2s]; exact Nat.lt_succ_self _) k hk').trans (hP2 k hk')
  -- MeetingHouse declares it
  have e10 : w_p S10.w 14 p 0 = some (D.1.1.1 i) := (hw10.2.1 0 (by decide)).trans hk0
  refine PS_l (gc' := fun Q => zb_X6_routine_p328 D.1 (L - 25) (wk0 (fun w24 => wle S.w w24 → Q (.inl none) w24) (fun e w => Q (.inr e) w)) (some p) (i_ z) (some (D.1.1.1 W)) (some p) S13.w) (fun Q h => ?_) ?_
  · unfold zb_X6_routine_p302
    refine ⟨p, rfl, ?_, ?_⟩
    · rw [← c13w]
      exact hw13.1
    · rw [← c13w, e10]
      rcases hRK with ⟨-, -, e3, -, e5⟩ | ⟨-, -, e3, -, e5⟩ <;> subst e3 e5
      · rw [if_neg (not_not_intro rfl)]
        exact h
      · rw [if_pos (eo_ne hs.1.1 (by decide) (by decide) (by decide))]
        exact h
  simp only [zb_X6_routine_p328, zb_X13_nameUnit_p155, i_nat' (show n < 2147483648 by omega)]
  rw [← c13t]
  refine PS_lex p rfl (PS_land hw13.1 (PS_rand (hT10.i rfl hm) ?_))
  simp only [hw13.2.2 9 (by decide), (hw13.2.2 2 (by decide)).trans hl2]
  refine PS_dcl2 H13 hs (by decide) (by omega) (fun A al' w14 H14 hsd hA hx14 h14 hsm14 hold => ?_)
  have hlp14 : w_l w14 D.1.2.1 14 p := (H14.1.nw hnu).1
  have r8 : w_i (dcl w14 A) 14 p 8 = V.1 p 8 := by
    unfold dcl
    simp only [Rii, Rgi, Rpi, Rai, Rbi, Rri, Rni, Rdi, Roi, Rti, Rzi, RCi, RSi, Rip, Rgp, Rpp, Rap, Rbp, Rrp, Rnp, Rdp, Rop, Rtp, Rzp, RCp, RSp]
    simp [(h14 p 8).1, hw13.2.2 8 (by decide)]
  have rA : w_p (ws_p (dcl w14 A) 14 p 16 (some A)) 14 p 16 = some A := by rw [Rpp, if_pos ⟨rfl, rfl, rfl⟩]
  refine PS_l (fun Q a => wkr_k (x := some A) a) (PS_lex p rfl (PS_land hlp14 (PS_lex A rA (PS_land hA.2.2 (PS_lex A ?_ (PS_land hA.2.2 ?_))))))
  · rw [Rpi]
    exact rA
  rw [r8]
  refine PS_l (fun Q a => fun _ => a) ?_
  obtain ⟨wf, hwf⟩ : ∃ wf, wf = rtw w14 A p (V.1 p 8) := ⟨_, rfl⟩
  have hDc : DCf D (S13.sy w14 al') p A wf := by
    rw [hwf]
    exact (((DCf.d0 (S := S13.sy w14 al') H14.1.2.1.1).qz).i (by decide)).pz (by decide)
  obtain ⟨dc1, dc2, dc3, dc4, dc5, ⟨dc6, dc7⟩, ⟨dc8, dc9⟩, dc10, dc11⟩ := hDc
  obtain ⟨⟨d0, d1, d2⟩, ⟨d4, d15, d17, d18, d19, d20⟩, d3, d5, d6, d7, d8, d9, d10, d11, d12, d13, d14, d16, -⟩ := hsd
  have ri : ∀ k, k ≠ 3 → k ≠ 5 → w_i wf 15 A k = w_i w14 15 A k := fun k h1 h2 => by
    rw [hwf]
    unfold rtw dcl
    simp only [Rii, Rgi, Rpi, Rai, Rbi, Rri, Rni, Rdi, Roi, Rti, Rzi, RCi, RSi, Rip, Rgp, Rpp, Rap, Rbp, Rrp, Rnp, Rdp, Rop, Rtp, Rzp, RCp, RSp]
    simp [h1, h2]
  have rp : ∀ k, k ≠ 4 → k ≠ 19 → w_p wf 15 A k = w_p w14 15 A k := fun k h1 h2 => by
    rw [hwf]
    unfold rtw dcl
    simp only [Rii, Rgi, Rpi, Rai, Rbi, Rri, Rni, Rdi, Roi, Rti, Rzi, RCi, RSi, Rip, Rgp, Rpp, Rap, Rbp, Rrp, Rnp, Rdp, Rop, Rtp, Rzp, RCp, RSp]
    simp [h1, h2]
  have r5 : w_i wf 15 A 5 = V.1 p 8 := by rw [hwf]; unfold rtw; rw [Rip, Rii, if_pos ⟨rfl, rfl, rfl⟩]
  have r19 : w_p wf 15 A 19 = some p := by rw [hwf]; unfold rtw; rw [Rpp, if_pos ⟨rfl, rfl, rfl⟩]
  have r16 : w_p wf 14 p 16 = some A := by rw [hwf]; unfold rtw; rw [Rpp, if_neg (fun z => absurd z.1 (by decide)), Rpi]; exact rA
  have hnrt : ¬ nrt S13.t S.sn := fun h => by
    have e46 : w_a S13.t 12 0 46 S.sn = i_ (c : Nat) := (hP13 46 (by decide)).trans hs9.1.2.1
    rcases hRK with ⟨-, -, -, e4, -⟩ | ⟨-, -, -, e4, -⟩ <;> subst e4
    · exact h.1 e46
    · exact h.2 e46
  have hRN0 : RN0 wf S13.t S.sn A := by
    refine ⟨?_, ?_, ?_, ?_⟩
    · rw [ri 11 (by decide) (by decide), d11]
    · rw [ri 14 (by decide) (by decide), d14]
    · rw [hP13 53 (by decide), hs9.2.2.2.1]
    · rw [hP13 54 (by decide), hs9.2.2.2.2.1]
      rfl
  have hR : RS1 D V nu wf S13.t (ysU S13.ys S.sn A) S.sn A := by
    refine ⟨⟨by omega, ?_⟩, ?_, c, by omega, ?_, ?_, ?_, ?_, .inl ⟨by omega, false, ?_, ?_, fun _ => rfl⟩, .inr ⟨n, p, r, d, kd', ⟨?_, hm, hnu, h26⟩, ?_⟩⟩
    · have h := hA.2.2
      unfold w_l at h ⊢
      rw [dc2]
      exact h
    · rw [hP13 45 (by decide), hs9.1.1, ri 1 (by decide) (by decide), d1]
      exact .inl hnm
    · rw [hP13 46 (by decide), hs9.1.2.1]
    · rw [rp 0 (by decide) (by decide), d0]
      rcases hRK with ⟨-, -, -, e4, e5⟩ | ⟨-, -, -, e4, e5⟩ <;> subst e4 e5 <;> rfl
    · rw [ri 13 (by decide) (by decide), d13]
      have : c ≠ 9 := by omega
      simp [this, bI]
    · rcases hRK with ⟨e1, -, -, e4, -⟩ | ⟨e1, -, -, e4, -⟩
      · refine .inr (.inr (.inr (.inl ⟨.inr e4, ?_, ?_⟩)))
        · rw [rp 15 (by decide) (by decide), d15]
        · rw [hP13 47 (by decide), hs9.1.2.2.1]
          rcases hxv with ⟨-, e⟩ | ⟨e, -⟩
          · exact e
          · rw [e1] at e
            cases e
      · obtain ⟨cy, hcy, hy8, hy33⟩ := hty e1
        refine .inl ⟨by omega, cy, hcy, r5.trans hy8, ?_, ?_⟩
        · rw [rp 15 (by decide) (by decide), d15]
        · rw [hP13 47 (by decide), hs9.1.2.2.1]
          rcases hxv with ⟨e, -⟩ | ⟨-, e⟩
          · rw [e1] at e
            cases e
          · exact e.trans hy33
    · rw [ri 9 (by decide) (by decide), d9]
      rfl
    · rw [hP13 48 (by decide), hs9.1.2.2.2.1]
      rfl
    · rw [hP13 49 (by decide), hs9.1.2.2.2.2.1]
    · rcases hRK with ⟨-, e2, -, e4, -⟩ | ⟨-, e2, -, e4, -⟩
      · exact .inr (.inr (.inr (.inr (.inr (.inr (.inr (.inr (.inl ⟨e2, e4, hRN0, r19⟩))))))))
      · exact .inr (.inr (.inr (.inr (.inr (.inr (.inr (.inr (.inr (.inl ⟨e2, e4, hRN0, r19⟩)))))))))
  have hpd13 : ¬ S13.dn p := H13.2.2.1.2.2.1
  obtain ⟨H15, hx15, hsm15⟩ := H14.dz (s := S.sn) (y := p) (w' := wf) (kc' := S.sn :: S13.kc) hA ⟨hpv, hpd13⟩ hs (by show S13.ys S.sn = none; rw [c13y]; exact hysP10) (by show S.sn < S13.sn; omega) (Nat.le_refl _) (fun h => absurd h hnrt) (fun h => absurd h hnrt) dc1 dc2 dc3 dc4 dc5 dc7 dc9 (.inr ⟨rfl, dc6, dc8⟩) dc10 dc11 hR
  have hn10 : n10 D (V.2.1 p 0) := by
    rw [hk0]
    rcases hkb.2.2.2.2 with e | e <;> subst e
    · exact .inr (.inr (.inl rfl))
    · exact .inr (.inr (.inr rfl))
  obtain ⟨H16, hx16⟩ := H15.i10 (x := i_ z) hn10
  obtain ⟨H17, hx17, hsm17⟩ := H16.t58 (x := w_i S13.t 12 0 58 + 1)
  obtain ⟨S17, hS17⟩ : ∃ S17, S17 = ((((S13.sy w14 al').dz wf S.sn A (S.sn :: S13.kc)).wt (ws_i wf 14 p 10 (i_ z)) S13.t).wt (ws_i wf 14 p 10 (i_ z)) (ws_i S13.t 12 0 58 (w_i S13.t 12 0 58 + 1))) := ⟨_, rfl⟩
  have b17 : S17.w = ws_i wf 14 p 10 (i_ z) ∧ S17.t = ws_i S13.t 12 0 58 (w_i S13.t 12 0 58 + 1) ∧ S17.ys = ysU S13.ys S.sn A ∧ S17.sn = S13.sn ∧ S17.kc = S.sn :: S13.kc ∧ S17.kt = S13.kt ∧ S17.u = S13.u ∧ S17.ck = S13.ck := by subst hS17; exact ⟨rfl, rfl, rfl, rfl, rfl, rfl, rfl, rfl⟩
  have H17 : HM D V nu tn rt p [6, 4, 5, 3] (4 - 2) S S17 T10 T10 := by rw [hS17]; exact H17
  have hx13_17 : NXw nu S13 S17 := by
    rw [hS17]
    exact ((hx14.w.tr hx15 (.inl rfl)).tr hx16.w (.inl rfl)).tr hx17.w (.inl rfl)
  obtain ⟨c17w, c17t, c17y, c17s, c17c, c17k, c17u, c17q⟩ := b17
  clear hS17 hx15 hsm15 hx16 hx17 hsm17 H15 H16 hR
  have hysA : S17.ys S.sn = some A := by
    rw [c17y]
    unfold ysU
    rw [if_pos rfl]
  have hkt17 : S17.kt = kr := c17k.trans c13k
  have h51 : w_a S17.t 12 0 51 S.sn = i_ S17.u := by
    rw [c17t, Rai, hP13 51 (by decide), hs9.2.1, c17u, c13u]
  obtain ⟨H18, hx18, hsm18⟩ := H17.tk (s := S.sn) (by rw [c17s]; omega) (by rw [hysA]; simp) h51 (by rw [hkt17, c17s]; omega)
  -- the twin knows it
  have hT13 := H13.1.1.2.1
  have hvl17 := hs.2.2.2.2.2.2 S17.vs H17.1.2.2.2.2.2.2.2.1.1 (fun a ha => (H17.1.2.2.2.2.2.2.2.1.2 a ha).1)
  have hsn17 := H17.1.2.2.1.1.2
  refine PS_r (gt' := fun Q => zw E' (L' - 21) kt_M455 [.ref (w_adr E'.2.1 12 0), .int (i_ S.sn)] S17.t (wk0 (fun w1 => wle S17.t w1 → Q (.inl none) w1) (fun e w => Q (.inr e) w))) (fun Q h => ?_) ?_
  · rw [hKT]
    intro _
    unfold zb_X13_nameDeclaration_p560
    simp only [i_nat' (show n < 2147483648 by omega), e31]
    refine ⟨hT13.i rfl hm, ?_⟩
    rw [← c17t]
    exact h
  refine PS_r0 (fun Q hq => t_know (m := S17.kt.length) H17.1.1.2.1 (by rw [hkt17]; omega) H17.1.2.2.2.2.2.1.2.1 (by omega) hq) ?_
  have hwe : ws_i (ws_p (ws_i (ws_p (dcl w14 A) 14 p 16 (some A)) 15 A 5 (V.1 p 8)) 15 A 19 (some p)) 14 p 10 (i_ z) = S17.w := by
    rw [c17w, hwf]
    rfl
  rw [hwe]
  obtain ⟨Se, hSe⟩ : ∃ Se, Se = (S17.tk (tkn S17.t S17.kt.length (i_ S.sn)) S.sn).fi p := ⟨_, rfl⟩
  have hx17e : NX nu S17 Se := by rw [hSe]; exact hx18.tr NX.fi (.inl rfl)
  have hsm17e : ∀ b, SMN nu S17 Se b := fun b => by rw [hSe]; exact hsm18 b
  have h61 : ∀ x, w_a Se.t 12 0 61 x = w_a S13.t 12 0 61 x := fun x => by
    rw [hSe]
    show w_a (tkn S17.t S17.kt.length (i_ S.sn)) 12 0 61 x = _
    unfold tkn
    rw [Rai, Raa, if_neg (fun z => absurd z.1 (by decide)), c17t, Rai]
  have hx13e : NXw nu S13 Se := hx13_17.tr hx17e.w (.inl c17u)
  have hx10e : NXw nu S10 Se := hx10_13.trr hx13e h61
  have hx9e : NXw nu S9 Se := hx10.w.tr hx10e (.inl hu10)
  refine PS_ret (H18.en (by decide) (c17u.trans c13u) ⟨[S.sn], by show S17.kc = _; rw [c17c, c13c]; rfl, by show S.sn :: S17.kt = _; rw [hkt17]; rfl⟩ (fun e => ?_))
  rw [← hSe]
  have hIe : ITL V nu Se Cf S.un (S.sn + 1 + 0) l := hI9.st hx9e.1 (fun z hz => (hx9e.2.1 _ (hdn9 z hz)).2)
  obtain ⟨Lf, hLf⟩ := hIe.lch (kr := kr) hl (fun z hz => (hx9e.2.1 _ (hdn9 z hz)).1)
  rw [Nat.zero_add] at hLf
  have hLf' : LCH V (fun kr q kr' => ∃ c, DNM nu Se S.un c kr q kr') Lf (V.2.1 p 3) kr (rsq (S.sn + 1) l.length ++ kr) := hLf.imp (fun _ _ _ ⟨c', _, h2⟩ => ⟨c', h2⟩)
  have hu10' : S10.u = S.un := hu10.trans hu9
  have hunE : UOF nu Se S.u p S.un := by
    have h2e : NXw nu S2 S13 := hx2_13
    refine ⟨?_, ?_, n, r, d, hnu, ?_⟩
    · have h1 := h2e.1.2.2.2.2.1.1
      have h2 := hx13e.1.2.2.2.2.1.1
      rw [b2n] at h1
      omega
    · have h1 := (h2e.1.2.2.2.2.1.2 S.un (by rw [b2n]; exact Nat.lt_succ_self _)).1
      have h2 := (hx13e.1.2.2.2.2.1.2 S.un (by have := h2e.1.2.2.2.2.1.1; rw [b2n] at this; omega)).1
      exact h2.trans (h1.trans h60)
    · rw [(hsm17e p).2 _ _ _ hnu 63 (.inr (.inl rfl)), c17t, Rai]
      exact h6313
  have hckE : ∃ a z' : Nat, (a, (z' : Int)) ∈ Se.ck ∧ w_a Se.t 12 0 67 n = i_ a ∧ w_i Se.w 14 p 10 = i_ z' := by
    refine ⟨S.sn + 1, z, ?_, ?_, ?_⟩
    · have h1 : (S.sn + 1, (z : Int)) ∈ S5.ck := by
        rw [b5q, b4q, b2s]
        exact List.mem_cons_self
      exact hx10e.1.2.2.2.2.2 _ (hx5_10.1.2.2.2.2.2 _ h1)
    · rw [(hsm17e p).2 _ _ _ hnu 67 (.inr (.inr (.inr rfl))), c17t, Rai]
      exact h6713
    · rw [(hsm17e p).1.2, c17w, Rii, if_pos ⟨rfl, rfl, rfl⟩]
  have hDNM : DNM nu Se S.u c kr p Se.kc := by
    refine ⟨by rw [hSe]; exact .inr rfl, n, r, d, S.sn, hnu, ?_, ⟨A, (hx17e.1.1 S.sn A hysA).1, ?_, ?_⟩, ?_, ?_⟩
    · rw [hSe]
      show S17.kc = _
      rw [c17c, c13c]
    · rw [(hsm17e p).1.1, c17w, Rpi]
      exact r16
    · rw [(hsm17e p).2 _ _ _ hnu 31 (.inl rfl), c17t, Rai]
      exact e31
    · rw [hx17e.1.2.1 S.sn (by rw [c17s]; omega) 46 (by decide), c17t, Rai, hP13 46 (by decide), hs9.1.2.1]
    · rw [hx17e.1.2.1 S.sn (by rw [c17s]; omega) 51 (by decide), c17t, Rai, hP13 51 (by decide), hs9.2.1]
  have hG := hG10 e
  refine ⟨by rw [hSe]; exact .inr rfl, n, r, d, kd', hnu, hm, h26, ?_⟩
  rcases hRK with ⟨e1, e2, -, e4, -⟩ | ⟨e1, e2, -, e4, -⟩
  · rcases hG with ⟨-, g⟩ | ⟨g, -⟩ | ⟨g, -⟩
    · rw [e2]
      rw [e4] at hDNM
      rw [hu10'] at g
      exact ⟨S.un, Lf, rsq (S.sn + 1) l.length ++ kr, ⟨hunE, hckE⟩, hLf', g.imp (fun _ h => NS.nxw H10.1 hx10e h), hDNM⟩
    · rw [e1] at g
      cases g
    · rw [e1] at g
      cases g
  · rw [e2]
    rw [e4] at hDNM
    rcases hG with ⟨g, -⟩ | ⟨-, g1, g2⟩ | ⟨-, g1, L2, kg, g2, g3, g4⟩
    · rw [e1] at g
      cases g
    · exact ⟨S.un, Lf, rsq (S.sn + 1) l.length ++ kr, ⟨hunE, hckE⟩, hLf', .inl ⟨g1, g2.imp (fun _ h => NE.nxw H10.1 hx10e h)⟩, hDNM⟩
    · rw [hu10'] at g2 g3
      exact ⟨S.un, Lf, rsq (S.sn + 1) l.length ++ kr, ⟨hunE, hckE⟩, hLf', .inr ⟨g1, L2, kg, g2.imp (fun _ _ _ h => NS.nxw H10.1 hx10e h), g3.imp (fun _ h => NS.nxw H10.1 hx10e h), g4.imp (fun _ h => NE.nxw H10.1 hx10e h)⟩, hDNM⟩
end RTD
