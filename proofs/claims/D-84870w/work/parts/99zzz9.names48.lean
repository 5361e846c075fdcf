/-! ===== ROUNDS, part 50: abbreviations ===== -/
section ND4
variable {D : pD} {V : pV} {nu : pN} {tn : Nat → Prop} {rt p q n nq m r d dq j k k' k0 f s s0 sP u un y A A0 P c cr crq kd W i : Nat} {J J' Jq : List Nat} {S S' S0 S1 : nS} {w w2 w' t t' : wS} {v2 pr : Option Nat} {x x1 x2 x3 z y9 l' ty v ln : Int32} {T T' T1 T2 : Int} {kr ks : List Nat} {L L' Lc Ls Lk Lx Lt : Nat} {E E' : zE} {ol : Option Int32} {Q : kx_Rs → wS → Prop} {gc gt : pQ} {Φ : kx_Rs → wS → kx_Rs → wS → Prop} {C : Nat → Prop} {o : Bool} {ys ys' : Nat → Option Nat}
theorem RTY.ky (hc : c = 1 ∨ c = 2 ∨ c = 3) (h : KY1 w A x ∨ (c = 3 ∧ KY2 w t ys A x)) (h5 : w_i w' 15 A 5 = w_i w 15 A 5) (h15 : w_p w' 15 A 15 = w_p w 15 A 15) (h47 : w_a t' 12 0 47 s = x) (hy : ∀ sp P, ys sp = some P → ys' sp = some P ∧ w_a t' 12 0 46 sp = w_a t 12 0 46 sp) : RTY w' t' ys' s A c := by
  rcases h with ⟨cy, h1, h2, h3, h4⟩ | ⟨h0, h1, h2⟩
  · exact .inl ⟨by omega, cy, h1, h5.trans h2, h15.trans h3, h47.trans h4⟩
  · refine .inr (.inl ⟨h0, h5.trans h1, ?_⟩)
    rcases h2 with ⟨h2, h3⟩ | ⟨sp, P, a1, a2, a3, a4, a5⟩
    · exact .inl ⟨h15.trans h2, h47.trans h3⟩
    · exact .inr ⟨sp, P, h15.trans a1, (hy sp P a2).1, h47.trans a3, a4, (hy sp P a2).2.trans a5⟩
theorem fnd_st : ∀ {kr : List Nat}, (∀ s ∈ kr, w_a t' 12 0 45 s = w_a t 12 0 45 s) → fnd t' kr x = fnd t kr x
  | [], _ => rfl
  | s :: kr, h => by
    rw [fnd_cons, fnd_cons, h s List.mem_cons_self, fnd_st (fun s' hs => h s' (List.mem_cons_of_mem _ hs))]
theorem ki_st (h : ∀ s ∈ kr, w_a t' 12 0 45 s = w_a t 12 0 45 s ∧ w_a t' 12 0 46 s = w_a t 12 0 46 s) : kiV t' kr x = kiV t kr x ∧ kiT t' kr x ln = kiT t kr x ln := by
  have e : fnd t' kr (-2 - x) = fnd t kr (-2 - x) := fnd_st (fun s hs => (h s hs).1)
  unfold kiV kiT f2v f2T
  rw [e]
  cases e2 : fnd t kr (-2 - x) with
  | none => exact ⟨rfl, rfl⟩
  | some s =>
    have := (h s (fnd_mem e2).1).2
    simp only [Option.bind_some, this]
    exact ⟨trivial, trivial⟩
/-- an abbreviation -/
theorem n_D34 (hs : STR D V nu tn rt) (hI : IVN D V nu tn rt S) (hC : CHx V tn nu k0 ol n p d) (h26 : V.2.2.1 26 n = i_ (34 : Nat)) (hK : KX V nu (f + 1) 3 p) (hv : VOK V nu rt S p) (hk : KRE S kr) (hL : 75 * k0 + 340 ≤ L) (hL' : 75 * k0 + 340 ≤ L') : PS (fun Q => zw D.1 L kt_M136 [.ref (w_adr D.1.2.1 5 0), va_rf (some p)] S.w Q) (fun Q => zw E' L' kt_M474 [.ref (w_adr E'.2.1 12 0), .int (i_ n)] S.t Q) (NPO D V nu tn rt p S (fun S' => ∃ ks, KRE S' (ks ++ kr)) (fun S' => NS V nu S' (f + 1) S.u kr p S'.kc)) := by
  obtain ⟨r, hnu, hm, -, hr, -⟩ := hC.nb h26 ⟨by decide, by decide⟩
  obtain ⟨kd, h26', hcl, hch⟩ := hK.at hnu hm
  have hkd : kd = 34 := by
    have := (i_eq (by unfold cok at hcl; omega) (by unfold cok at hcl; omega)).mp (h26.symm.trans h26')
    omega
  subst hkd
  obtain ⟨htm, hl2, hF⟩ := hs.lf hnu hm h26 (by decide)
  have H := HM.start hI hv
  have hw := hI.nw hnu
  have ht := hI.1.2.2 n htm
  have hT := hI.1.2.1
  have hkA : KRE (S.at p) kr := hk
  obtain ⟨hd1, hk0, hnm, ⟨qa, na, hqa, h28, hCa, h26a⟩, o, v0, hop, hv0, hsp⟩ := hF
  have hXa := hch 3 ⟨by decide, by decide⟩ (by omega) (ujk.c (by omega)) 0 qa (.inl rfl) hqa
  have hc3 : ccl (V.1 p 10) (V.1 p 11) 34 3 = 60 := rfl
  rw [hc3] at hXa
  have hv0' : v0 = false := by
    cases v0 with
    | false => rfl
    | true => exact absurd hv0 (by decide)
  subst hv0'
  obtain ⟨c, W, hcW, hKI, h34a, h34b⟩ : ∃ c W : Nat, ((c = 1 ∧ W = 54) ∨ (c = 3 ∧ W = 53)) ∧ ((c = 1 ∧ V.1 p 14 = 0 ∧ tyr (V.1 p 8) (V.2.2.1 33 n)) ∨ (c = 3 ∧ V.1 p 14 = 1 ∧ KN D V nu (V.2.1 p 5) (V.2.2.1 33 n))) ∧ ((c = 1 → V.2.2.1 34 n &&& 2 = 0) ∧ (c = 3 → ¬ V.2.2.1 34 n &&& 2 = 0)) ∧ ((o = false → V.2.2.1 34 n &&& 1 = 0) ∧ (o = true → ¬ V.2.2.1 34 n &&& 1 = 0)) := by
    rcases hsp with ⟨h1, -, h2, h3⟩ | ⟨h1, h2, -, h3⟩
    · refine ⟨1, 54, .inl ⟨rfl, rfl⟩, .inl ⟨rfl, h1, h2⟩, ⟨fun _ => ?_, fun e => absurd e (by decide)⟩, ?_⟩
      · rw [h3]
        cases o <;> decide
      · rw [h3]
        cases o <;> exact ⟨by decide, by decide⟩
    · refine ⟨3, 53, .inr ⟨rfl, rfl⟩, .inr ⟨rfl, h1, h2⟩, ⟨fun e => absurd e (by decide), fun _ => ?_⟩, ?_⟩
      · rw [h3]
        cases o <;> decide
      · rw [h3]
        cases o <;> exact ⟨by decide, by decide⟩
  clear hsp
  have hwcC : wcC W c := by rcases hcW with ⟨e1, e2⟩ | ⟨e1, e2⟩ <;> subst e1 <;> subst e2 <;> first | exact wc_1 | exact wc_3
  have hWc : D.1.1.1 W = D.1.1.1 (wc c) := by rcases hcW with ⟨e1, e2⟩ | ⟨e1, e2⟩ <;> subst e1 <;> subst e2 <;> rfl
  have hc13 : c = 1 ∨ c = 3 := by omega
  have hf := hI.2.2.2.2.2.2.1
  cases f with
  | zero => exact hXa.elim
  | succ f =>
  have hna := hCa.n14 hs
  have h26a' : V.2.2.1 26 na = i_ (60 : Nat) := h26a
  refine PS_of (fun Q h => zt_X6_declaration_p0 (by omega) h) (fun Q h => zt_X13_nameDeclaration_p0 (by omega) h) ?_
  simp only [zb_X6_declaration_p0, zb_X13_nameDeclaration_p0, i_nat' (show n < 2147483648 by omega), ht 26 rfl, ht 27 rfl, h26, ht 34 rfl, hw.2.2 14 (by decide), hw.2.1 3 (by decide)]
  refine PS_lex p rfl (PS_land hw.1 (PS_lex 25 (zO_k hs.1.1 (by decide) ((hw.2.1 0 (by decide)).trans hk0) rfl) ?_))
  refine PS_rand (hT.i rfl hm) (PS_rand (hT.i rfl hm) ?_)
  simp only [hw.2.2 14 (by decide), hw.2.1 3 (by decide)]
  refine PS_ln (by decide) (PS_ln (by decide) (PS_ln (by decide) (PS_ln (by decide) (PS_lp (by decide) ?_))))
  refine PS_rn (by decide) (PS_rn (by decide) (PS_rn (by decide) (PS_rn (by decide) (PS_rp (by decide) ?_))))
  refine PS_rand (hT.i rfl hm) ?_
  obtain ⟨y0, hy0⟩ : ∃ y0 : Int32, (c = 1 ∧ y0 = 0) ∨ (c = 3 ∧ y0 = 1) := by
    rcases hc13 with e | e
    · exact ⟨0, .inl ⟨e, rfl⟩⟩
    · exact ⟨1, .inr ⟨e, rfl⟩⟩
  have hy00 : (y0 = 0 ↔ c = 1) := by
    rcases hy0 with ⟨e1, e2⟩ | ⟨e1, e2⟩ <;> subst e1 <;> subst e2 <;> decide
  refine PS_l (gc' := fun Q => zb_X6_declaration_p160 D.1 L Q (some p) (some (D.1.1.1 W)) (V.2.1 p 3) S.w) (fun Q h => ?_) ?_
  · rcases hcW with ⟨e1, e2⟩ | ⟨e1, e2⟩
    · rcases hKI with ⟨-, e3, -⟩ | ⟨e3, -⟩
      · rw [if_pos e3, ← e2]
        exact h
      · omega
    · rcases hKI with ⟨e3, -⟩ | ⟨-, e3, -⟩
      · omega
      · rw [if_neg (by rw [e3]; decide), ← e2]
        exact h
  refine PS_r (gt' := fun Q => zb_X13_nameDeclaration_p385 E' L' Q (i_ n) (V.2.2.1 27 n) y0 S.t) (fun Q h => ?_) ?_
  · rcases hy0 with ⟨e1, e2⟩ | ⟨e1, e2⟩
    · rw [if_pos (h34a.1 e1), ← e2]
      exact h
    · rw [if_neg (h34a.2 e1), ← e2]
      exact h
  -- the twin reads the KIND
  simp only [zb_X6_declaration_p160, zb_X13_nameDeclaration_p385, i_nat' (show n < 2147483648 by omega), ht 33 rfl]
  refine PS_rand (hT.i rfl hm) ?_
  refine PS_r1 (fun Q hq => t_kof (S := S) (kr := kr) hI hs hk (by omega) hq) ?_
  have H1 := H.ttu (kiT_ok (t := S.t) (kr := kr) (x := V.2.2.1 33 n) (l := V.2.2.1 27 n))
  have hx1 := NX.tuu (nu := nu) (S := S.at p) (T := kiT S.t kr (V.2.2.1 33 n) (V.2.2.1 27 n))
  obtain ⟨S1, hS1⟩ : ∃ S1, S1 = (S.at p).wt S.w (tu S.t (kiT S.t kr (V.2.2.1 33 n) (V.2.2.1 27 n))) := ⟨_, rfl⟩
  have b1 : S1.w = S.w ∧ S1.t = tu S.t (kiT S.t kr (V.2.2.1 33 n) (V.2.2.1 27 n)) ∧ S1.kc = S.kc ∧ S1.kt = S.kt ∧ S1.u = S.u ∧ S1.sn = S.sn ∧ S1.ys = S.ys := by subst hS1; exact ⟨rfl, rfl, rfl, rfl, rfl, rfl, rfl⟩
  have hx1' : NX nu S S1 := by rw [hS1]; exact hx1.1
  have H1 : HM D V nu tn rt p [] 5 S S1 NOF (min NOF (kiT S.t kr (V.2.2.1 33 n) (V.2.2.1 27 n))) := by rw [hS1]; exact H1
  obtain ⟨bw, bt, bkc, bkt, bu, bsn, bys⟩ := b1
  clear hx1
  have hk1 : KRE S1 kr := ⟨bkc.trans hk.1, bkt.trans hk.2⟩
  have ht1 := H1.1.1.2.2 n htm
  have hT1 := H1.1.1.2.1
  rw [← bt, ← bw, hqa]
  simp only [ht1 28 rfl, h28]
  refine PS_rand (hT1.i rfl hm) ?_
  refine PS_r (gt' := fun Q => zb_X13_nameDeclaration_p415 E' L' Q (i_ n) (V.2.2.1 27 n) y0 (kiV S.t kr (V.2.2.1 33 n)) (i_ c) (i_ na) S1.t) (fun Q h => ?_) ?_
  · rcases hy0 with ⟨e1, e2⟩ | ⟨e1, e2⟩
    · rw [if_pos e2]
      rw [e1] at h
      exact h
    · rw [if_neg (by rw [e2]; decide)]
      rw [e1] at h
      exact h
  -- the element
  simp only [zb_X13_nameDeclaration_p415]
  have hnk := hCa.nk hs
  obtain ⟨I4, V4⟩ := H1.go hs List.not_mem_nil ⟨by decide, by decide⟩ hqa hnk.1 hnk.2
  have hpl := n_place (E' := E') (L := L - 22) (L' := L' - 23) (kr := kr) hs (n_EX hs f) I4 hCa h26a' hXa V4 hk1 hwcC (by omega) (by omega)
  refine PS_bind (gc1 := fun Q => zw D.1 (L - 22) kt_M138 [.ref (w_adr D.1.2.1 5 0), va_rf (some qa), va_rf (some (D.1.1.1 W))] S1.w Q) (gt1 := fun Q => zw E' (L' - 23) kt_M472 [.ref (w_adr E'.2.1 12 0), .int (i_ na), .int (i_ c)] S1.t Q) hpl (fun r1 w2 r2 t2 hb => ?_)
  obtain ⟨S2, T2, ⟨e1, e2, e3, e4⟩, H2, hx2, hq2, hT2, ⟨hu2, hsm2⟩, hn2, hG2⟩ := H1.bk (J' := [3]) ⟨H1.2.2.1.1, H1.2.2.1.2.1⟩ ⟨fun _ => List.mem_cons_self, fun i hi => absurd hi List.not_mem_nil⟩ hb
  subst e1 e2 e3 e4
  have hn2 : NDC S1 S2 := hn2
  have hk2 : KRE S2 kr := hk1.nd hn2
  have hw2 := H2.1.nw hnu
  have ht2 := H2.1.1.2.2 n htm
  have hT2' := H2.1.1.2.1
  have hf2 := H2.1.2.2.2.2.2.2.1
  refine PS_l (fun Q a => fun _ => a) (PS_r (fun Q a => fun _ => a) ?_)
  simp only [hw2.2.2 14 (by decide), i_nat' (show n < 2147483648 by omega), ht2 30 rfl]
  refine PS_lex p rfl (PS_land hw2.1 (PS_rand (hT2'.i rfl hm) ?_))
  simp only [hw2.2.2 14 (by decide)]
  refine PS_l (gc' := fun Q => zb_X6_declaration_p183 D.1 L Q (some p) (some (D.1.1.1 W)) S2.w) (fun Q h => ?_) ?_
  · rcases hcW with ⟨e1, e2⟩ | ⟨e1, e2⟩
    · rcases hKI with ⟨-, e3, -⟩ | ⟨e3, -⟩
      · rw [if_pos e3, ← e2]
        exact h
      · omega
    · rcases hKI with ⟨e3, -⟩ | ⟨-, e3, -⟩
      · omega
      · rw [if_neg (by rw [e3]; decide), ← e2]
        exact h
  refine PS_r (gt' := fun Q => zb_X13_nameDeclaration_p439 E' L' Q (i_ n) (V.2.2.1 27 n) (kiV S.t kr (V.2.2.1 33 n)) (i_ c) (V.2.2.1 30 n) (i_ n) S2.t) (fun Q h => ?_) ?_
  · rcases hy0 with ⟨e1, e2⟩ | ⟨e1, e2⟩
    · rw [if_pos e2]
      rw [e1] at h
      exact h
    · rw [if_neg (by rw [e2]; decide)]
      rw [e1] at h
      exact h
  -- MeetingHouse's symbol, its KIND
  simp only [zb_X6_declaration_p183, zb_X6_declaration_p271]
  refine PS_lex p rfl (PS_land hw2.1 ?_)
  simp only [(hw2.2.2 9 (by decide)), (hw2.2.2 2 (by decide)).trans hl2]
  refine PS_sym H2 hs (by decide) (by omega) (fun A al' w3 H3 hsd hA hx3 h14 hsm3 hold h5 => ?_)
  refine PS_l (fun Q a => wkr_k (x := some A) a) ?_
  have hxS2 : NX nu S S2 := hx1'.tr hx2 (.inl bu)
  have hkst : ∀ s ∈ kr, w_a S2.t 12 0 45 s = w_a S.t 12 0 45 s ∧ w_a S2.t 12 0 46 s = w_a S.t 12 0 46 s := fun s hs' => by
    have h1 := (hI.2.2.2.2.2.1.2.2.2.2 s (by rw [hk.2]; exact hs')).1
    exact ⟨hxS2.1.2.1 s h1 45 (by decide), hxS2.1.2.1 s h1 46 (by decide)⟩
  obtain ⟨eV, eT⟩ := ki_st (x := V.2.2.1 33 n) (ln := V.2.2.1 27 n) hkst
  have hkS : KRE (S2.sy w3 al') kr := hk2
  have hpr0 : w_p w3 15 A 15 = none := hsd.2.1.2.1
  have hTk : FTK (kiT S.t kr (V.2.2.1 33 n) (V.2.2.1 27 n)) := kiT_ok
  -- what follows
  have kk2 : ∀ w4 : wS, HM D V nu tn rt p [3] 3 S ((S2.sy w3 al').wt w4 S2.t) (min (min NOF T2) (kiT S.t kr (V.2.2.1 33 n) (V.2.2.1 27 n))) (min (min NOF (kiT S.t kr (V.2.2.1 33 n) (V.2.2.1 27 n))) T2) → FRA D ((S2.sy w3 al').wt w4 S2.t) A → NX nu (S2.sy w3 al') ((S2.sy w3 al').wt w4 S2.t) → KFr w3 w4 A → (KY1 w4 A (kiV S.t kr (V.2.2.1 33 n)) ∨ (c = 3 ∧ KY2 w4 S2.t S2.ys A (kiV S.t kr (V.2.2.1 33 n)))) → PS (fun Q => ∃ p6, some A = some p6 ∧ w_l w4 D.1.2.1 15 p6 ∧ ((w_i w4 14 p 13 = 0 ∨ w_i w4 14 p 13 = 1) ∧ Q (.inl none) (ws_p (ws_p (ws_i (ws_i (ws_p (ws_i (ws_i (ws_p w4 15 p6 4 (w_p w4 5 0 3)) 5 0 4 ((w_i w4 5 0 4) + 1)) 15 p6 3 (w_i w4 5 0 4)) 5 0 3 (some A)) 15 p6 9 (w_i w4 14 p 13)) 15 p6 14 1) 15 p6 18 (w_p w4 14 p 3)) 14 p 16 (some A)))) (fun Q => zb_X13_nameDeclaration_p439 E' L' Q (i_ n) (V.2.2.1 27 n) (kiV S.t kr (V.2.2.1 33 n)) (i_ c) (V.2.2.1 30 n) (i_ n) S2.t) (NPO D V nu tn rt p S (fun S' => ∃ ks, KRE S' (ks ++ kr)) (fun S' => NS V nu S' (f + 1 + 1) S.u kr p S'.kc)) := by
    intro w4 H4 hA4 hx4 hfr hKY
    obtain ⟨fr1, fr2, fr3, fr4, fr5⟩ := hfr
    have hw4 := H4.1.nw hnu
    have hTm : min (min NOF (kiT S.t kr (V.2.2.1 33 n) (V.2.2.1 27 n))) T2 = min (min NOF T2) (kiT S.t kr (V.2.2.1 33 n) (V.2.2.1 27 n)) := by omega
    rw [hTm] at H4
    have e13 : w_i w4 14 p 13 = V.1 p 13 := hw4.2.2 13 (by decide)
    have e3 : w_p w4 14 p 3 = V.2.1 p 3 := hw4.2.1 3 (by decide)
    refine PS_lex A rfl (PS_land hA4.2.2 (PS_land (by rw [e13, hop]; cases o <;> simp [bI]) ?_))
    rw [e13, e3]
    obtain ⟨wf, hwf⟩ : ∃ wf, wf = ws_p (ws_p (ws_i (ws_i (dcl w4 A) 15 A 9 (V.1 p 13)) 15 A 14 1) 15 A 18 (V.2.1 p 3)) 14 p 16 (some A) := ⟨_, rfl⟩
    have hwf2 : ws_p (ws_p (ws_i (ws_i (ws_p (ws_i (ws_i (ws_p w4 15 A 4 (w_p w4 5 0 3)) 5 0 4 ((w_i w4 5 0 4) + 1)) 15 A 3 (w_i w4 5 0 4)) 5 0 3 (some A)) 15 A 9 (V.1 p 13)) 15 A 14 1) 15 A 18 (V.2.1 p 3)) 14 p 16 (some A) = wf := by rw [hwf]; rfl
    rw [hwf2]
    -- the twin's symbol
    simp only [zb_X13_nameDeclaration_p439, i_nat' (show n < 2147483648 by omega), ht2 34 rfl]
    refine PS_rand (hT2'.i rfl hm) ?_
    refine PS_r (gt' := fun Q => zb_X13_nameDeclaration_p458 E' L' Q (i_ n) (V.2.2.1 27 n) (i_ (if o = true then -2 else -1)) (kiV S.t kr (V.2.2.1 33 n)) (i_ c) (V.2.2.1 30 n) (i_ n) S2.t) (fun Q h => ?_) ?_
    · cases o with
      | false =>
        rw [if_pos (h34b.1 rfl)]
        exact h
      | true =>
        rw [if_neg (h34b.2 rfl)]
        exact h
    simp only [zb_X13_nameDeclaration_p458, i_nat' (show n < 2147483648 by omega)]
    obtain ⟨S4, hS4⟩ : ∃ S4, S4 = (S2.sy w3 al').wt w4 S2.t := ⟨_, rfl⟩
    have b4 : S4.w = w4 ∧ S4.t = S2.t ∧ S4.kc = S2.kc ∧ S4.kt = S2.kt ∧ S4.u = S2.u ∧ S4.sn = S2.sn ∧ S4.ys = S2.ys ∧ S4.vs = S2.vs := by subst hS4; exact ⟨rfl, rfl, rfl, rfl, rfl, rfl, rfl, rfl⟩
    rw [← hS4] at H4 hA4 hx4
    obtain ⟨cw, ct, ckc, ckt, cu, csn, cys, cvs⟩ := b4
    clear hS4
    have hvl := hs.2.2.2.2.2.2 S4.vs H4.1.2.2.2.2.2.2.2.1.1 (fun a ha => (H4.1.2.2.2.2.2.2.2.1.2 a ha).1)
    have hsn := H4.1.2.2.1.1.2
    have hun := H4.1.2.2.1.2.1.2
    have hu := H4.1.2.2.1.2.2.2
    have hkt : S4.kt.length ≤ S4.sn := H4.1.2.2.2.2.2.1.2.2.2.1
    rw [← ct]
    refine PS_r1 (fun Q hq => t_symbol (S := S4) H4.1 (by omega) (by omega) (by omega) hq) ?_
    have hTs : DTs V tn S4 n (tsy S4.t S4.sn S4.u (V.2.2.1 30 n) (i_ (c : Nat)) (kiV S.t kr (V.2.2.1 33 n)) (i_ (if o = true then -2 else -1)) (i_ n) (V.2.2.1 27 n)) := DTs.t0 (S := S4) (by omega) H4.1.1.2
    have hTs1 := hTs.a31 (x := i_ S4.sn)
    have hTs2 := hTs1.a5 (k := 54) (x := i_ na) (.inr (.inl rfl))
    have hs9 := tsy_s (t := S4.t) (s := S4.sn) (u := S4.u) (x1 := V.2.2.1 30 n) (x2 := i_ (c : Nat)) (x3 := kiV S.t kr (V.2.2.1 33 n)) (x4 := i_ (if o = true then -2 else -1)) (x5 := i_ n) (x6 := V.2.2.1 27 n)
    generalize tsy S4.t S4.sn S4.u (V.2.2.1 30 n) (i_ (c : Nat)) (kiV S.t kr (V.2.2.1 33 n)) (i_ (if o = true then -2 else -1)) (i_ n) (V.2.2.1 27 n) = ts at hTs hTs1 hTs2 hs9 ⊢
    have hTs3 := hTs2.i58 (x := w_i ts 12 0 58 + 1)
    have e31 : w_a (ws_a ts 12 0 31 n (i_ S4.sn)) 12 0 31 n = i_ S4.sn := by rw [Raa, if_pos ⟨rfl, rfl, rfl, rfl⟩]
    have hTt : TLN ts := hTs.2.2.2.2.2.2.1.1
    have hTr := hTs.2.2.2.2.2.2.1.2 n htm
    simp only [e31, i_nat' (show S4.sn < 2147483648 by omega), hTr 28 rfl, h28]
    refine PS_rand (hTt.i rfl hm) (PS_rand (hTt.i rfl hm) (PS_rand (hTt.i rfl hm) (PS_rand (hTt.sy rfl (by omega)) ?_)))
    have e31' : w_a (ws_a (ws_a ts 12 0 31 n (i_ S4.sn)) 12 0 54 S4.sn (i_ na)) 12 0 31 n = i_ S4.sn := by rw [Raa, if_neg (fun z => absurd z.1 (by decide)), e31]
    simp only [zb_X13_nameDeclaration_p560, i_nat' (show n < 2147483648 by omega), e31']
    refine PS_rand (hTt.i rfl hm) ?_
    have h56 : w_i (ws_i (ws_a (ws_a ts 12 0 31 n (i_ S4.sn)) 12 0 54 S4.sn (i_ na)) 12 0 58 (w_i ts 12 0 58 + 1)) 12 0 56 = i_ S4.kt.length := hTs3.2.2.2.2.2.1.1.2.trans H4.1.2.2.2.2.2.1.2.1
    refine PS_r0 (fun Q hq => t_know (m := S4.kt.length) hTs3.2.2.2.2.2.2.1.1 (by omega) h56 (by omega) hq) ?_
    obtain ⟨tf, htf⟩ : ∃ tf : wS, tf = tkn (ws_i (ws_a (ws_a ts 12 0 31 n (i_ S4.sn)) 12 0 54 S4.sn (i_ na)) 12 0 58 (w_i ts 12 0 58 + 1)) S4.kt.length (i_ S4.sn) := ⟨_, rfl⟩
    have ek : ∀ k j, k ≠ 31 → k ≠ 54 → k ≠ 57 → w_a tf 12 0 k j = w_a ts 12 0 k j := fun k j h1 h2 h3 => by
      rw [htf]
      unfold tkn
      rw [Rai, Raa, if_neg (fun z => h3 z.1), Rai, Raa, if_neg (fun z => h2 z.1), Raa, if_neg (fun z => h1 z.1)]
    have e54 : w_a tf 12 0 54 S4.sn = i_ na := by
      rw [htf]
      unfold tkn
      rw [Rai, Raa, if_neg (fun z => absurd z.1 (by decide)), Rai, Raa, if_pos ⟨rfl, rfl, rfl, rfl⟩]
    have e31f : w_a tf 12 0 31 n = i_ S4.sn := by
      rw [htf]
      unfold tkn
      rw [Rai, Raa, if_neg (fun z => absurd z.1 (by decide)), Rai, e31']
    have hDc : DCf D S4 p A wf := by
      rw [hwf, ← cw]
      exact (((((DCf.d0 (S := S4) H4.1.2.1.1).i (by decide)).i (by decide)).pz (by decide)).qz)
    have ri : ∀ k, k ≠ 3 → k ≠ 9 → k ≠ 14 → w_i wf 15 A k = w_i w4 15 A k := fun k h1 h2 h3 => by
      rw [hwf]
      unfold dcl
      simp only [Rii, Rgi, Rpi, Rai, Rbi, Rri, Rni, Rdi, Roi, Rti, Rzi, RCi, RSi, Rip, Rgp, Rpp, Rap, Rbp, Rrp, Rnp, Rdp, Rop, Rtp, Rzp, RCp, RSp]
      simp [h1, h2, h3]
    have rp : ∀ k, k ≠ 4 → k ≠ 18 → w_p wf 15 A k = w_p w4 15 A k := fun k h1 h2 => by
      rw [hwf]
      unfold dcl
      simp only [Rii, Rgi, Rpi, Rai, Rbi, Rri, Rni, Rdi, Roi, Rti, Rzi, RCi, RSi, Rip, Rgp, Rpp, Rap, Rbp, Rrp, Rnp, Rdp, Rop, Rtp, Rzp, RCp, RSp]
      simp [h1, h2]
    have r9 : w_i wf 15 A 9 = V.1 p 13 := by
      rw [hwf]
      simp only [Rii, Rgi, Rpi, Rai, Rbi, Rri, Rni, Rdi, Roi, Rti, Rzi, RCi, RSi, Rip, Rgp, Rpp, Rap, Rbp, Rrp, Rnp, Rdp, Rop, Rtp, Rzp, RCp, RSp]
      simp
    have r14 : w_i wf 15 A 14 = 1 := by
      rw [hwf]
      simp only [Rii, Rgi, Rpi, Rai, Rbi, Rri, Rni, Rdi, Roi, Rti, Rzi, RCi, RSi, Rip, Rgp, Rpp, Rap, Rbp, Rrp, Rnp, Rdp, Rop, Rtp, Rzp, RCp, RSp]
      simp
    have r18 : w_p wf 15 A 18 = V.2.1 p 3 := by
      rw [hwf]
      simp only [Rii, Rgi, Rpi, Rai, Rbi, Rri, Rni, Rdi, Roi, Rti, Rzi, RCi, RSi, Rip, Rgp, Rpp, Rap, Rbp, Rrp, Rnp, Rdp, Rop, Rtp, Rzp, RCp, RSp]
      simp
    have r16 : w_p wf 14 p 16 = some A := by rw [hwf, Rpp, if_pos ⟨rfl, rfl, rfl⟩]
    obtain ⟨⟨d0, d1, d2⟩, ⟨d4, d15, d17, d18, d19, d20⟩, d3, d5, d6, d7, d8, d9, d10, d11, d12, d13, d14, d16, -⟩ := hsd
    have hysn : S2.ys S4.sn = none := by
      cases e : S2.ys S4.sn with
      | none => rfl
      | some A' => exact absurd (H2.1.sl e) (by rw [csn]; exact Nat.lt_irrefl _)
    have hR : RS1 D V nu wf tf (ysU S4.ys S4.sn A) S4.sn A := by
      refine ⟨⟨by omega, ?_⟩, ?_, c, by omega, ?_, ?_, ?_, RTY.ky (w := w4) (t := S2.t) (ys := S2.ys) (by omega) hKY (ri 5 (by decide) (by decide) (by decide)) (rp 15 (by decide) (by decide)) ?_ (fun sp P hP => ⟨?_, ?_⟩), .inl ⟨by omega, o, r9.trans hop, ?_, fun e => by omega⟩, .inr ⟨n, p, r, d, 34, ⟨?_, hm, hnu, h26⟩, .inr (.inr (.inr (.inr (.inl ⟨rfl, hc13, r9, ⟨?_, r14, ?_⟩, e54.trans h28.symm, r18⟩))))⟩⟩
      · have h := hA4.2.2
        unfold w_l at h ⊢
        rw [hDc.2.1]
        exact h
      · rw [ek 45 _ (by decide) (by decide) (by decide), hs9.1.1, ri 1 (by decide) (by decide) (by decide), fr1 1 (by decide), d1]
        exact .inl hnm
      · rw [ek 46 _ (by decide) (by decide) (by decide), hs9.1.2.1]
      · rw [rp 0 (by decide) (by decide), fr2 0 (by decide), d0, hWc]
      · rw [ri 13 (by decide) (by decide) (by decide), fr1 13 (by decide), d13]
        have : c ≠ 9 := by omega
        simp [this, bI]
      · rw [ek 47 _ (by decide) (by decide) (by decide), hs9.1.2.2.1]
      · rw [cys]
        unfold ysU
        rw [if_neg (fun e => by rw [e, hysn] at hP; cases hP)]
        exact hP
      · have hlt : sp < S2.sn := H2.1.sl hP
        rw [ek 46 _ (by decide) (by decide) (by decide), hTs.1 46 (by decide) (by decide) sp (by omega), ct]
      · rw [ek 48 _ (by decide) (by decide) (by decide), hs9.1.2.2.2.1]
      · rw [ek 49 _ (by decide) (by decide) (by decide), hs9.1.2.2.2.2.1]
      · rw [ri 11 (by decide) (by decide) (by decide), fr1 11 (by decide), d11]
      · rw [ek 53 _ (by decide) (by decide) (by decide), hs9.2.2.2.1]
    obtain ⟨H5, hx5⟩ := H4.dk hA4 H4.2.2.2.1.1.1 hnu hm hs hDc hTs3 (by rw [← htf]; exact hR)
    rw [← htf] at H5 hx5
    rw [show tkn (ws_i (ws_a (ws_a ts 12 0 31 n (i_ S4.sn)) 12 0 54 S4.sn (i_ na)) 12 0 58 (w_i (ws_a (ws_a ts 12 0 31 n (i_ S4.sn)) 12 0 54 S4.sn (i_ na)) 12 0 58 + 1)) S4.kt.length (i_ S4.sn) = tf from htf.symm]
    have hu4 : S4.u = S.u := cu.trans (hu2.trans bu)
    have hkc4 : S4.kc = kr := ckc.trans hk2.1
    have hkt4 : S4.kt = kr := ckt.trans hk2.2
    refine PS_ret (H5.en (by decide) hu4 ⟨[S4.sn], by show S4.sn :: S4.kc = _; rw [hkc4]; rfl, by show S4.sn :: S4.kt = _; rw [hkt4]; rfl⟩ (fun e => ⟨.inr rfl, n, r, d, 34, hnu, hm, h26, c, hc13, fun q hq => ?_, .inr rfl, n, r, d, S4.sn, hnu, by show S4.sn :: S4.kc = _; rw [hkc4], ⟨A, ?_, r16, e31f⟩, ?_, ?_⟩))
    · rw [hqa] at hq
      cases hq
      have e2 : T2 = NOF := by
        have a1 := hT2.le
        have a2 := hTk.le
        omega
      exact ((((hG2 e2).nx H2.1 hx3).nx H3.1 hx4).nx H4.1 hx5).nx H5.1 NX.fi
    · show ysU S4.ys S4.sn A S4.sn = some A
      unfold ysU
      rw [if_pos rfl]
    · show w_a tf 12 0 46 S4.sn = i_ (c : Nat)
      rw [ek 46 _ (by decide) (by decide) (by decide), hs9.1.2.1]
    · show w_a tf 12 0 51 S4.sn = i_ S.u
      rw [ek 51 _ (by decide) (by decide) (by decide), hs9.2.1, hu4]
  rcases hKI with ⟨ec, hch0, hty⟩ | ⟨ec, hch1, hKN⟩
  · refine n_ck0 (q := p) (m := n) (r := r) (d := d) H3 hA hnu hch0 (by omega) (fun H4 hA4 => ?_)
    obtain ⟨cy, hcy, hy8, hy33⟩ := hty
    have hlt : ¬ V.2.2.1 33 n < 0 := by rw [hy33]; exact i_nn (by omega)
    have eT0 : kiT S.t kr (V.2.2.1 33 n) (V.2.2.1 27 n) = NOF := if_neg hlt
    have eV0 : kiV S.t kr (V.2.2.1 33 n) = V.2.2.1 33 n := if_neg hlt
    have hx4 : NX nu (S2.sy w3 al') ((S2.sy w3 al').wt (ws_i w3 15 A 5 (V.1 p 8)) S2.t) := NX.wt (S := S2.sy w3 al') (w' := ws_i w3 15 A 5 (V.1 p 8)) (t' := S2.t) (fun s A' hs' k => ⟨by rw [Rii, if_neg (fun z => hA.2.1 s (by rw [← z.2.2]; exact hs'))]; rfl, rfl⟩) (fun _ _ => rfl) (fun b _ => ⟨⟨rfl, by show w_i (ws_i w3 15 A 5 (V.1 p 8)) 14 b 10 = _; rw [Rii, if_neg (fun z => absurd z.2.1 (by decide))]; rfl⟩, fun _ _ _ _ _ _ => rfl⟩)
    refine kk2 _ ?_ hA4 hx4 KFr.rf.i (.inl ⟨cy, hcy, ?_, hpr0, eV0.trans hy33⟩)
    · have hTT := H4.2.2.2.2.1
      have e1 : min (min NOF T2) (kiT S.t kr (V.2.2.1 33 n) (V.2.2.1 27 n)) = min NOF T2 := by
        have := hTT.1.le
        omega
      rw [e1]
      exact H4
    · rw [Rii, if_pos ⟨rfl, rfl, rfl⟩]
      exact hy8
  · refine n_ck1 (q := p) (m := n) (r := r) (d := d) hs H3 hkS hA hpr0 hnu hch1 hKN hl2 (by omega) (fun w4 H4 hA4 hx4 hfr hKY => ?_)
    have eV' : kiV (S2.sy w3 al').t kr (V.2.2.1 33 n) = kiV S.t kr (V.2.2.1 33 n) := eV
    have eT' : kiT (S2.sy w3 al').t kr (V.2.2.1 33 n) (V.2.2.1 27 n) = kiT S.t kr (V.2.2.1 33 n) (V.2.2.1 27 n) := eT
    rw [eV'] at hKY
    rw [eT'] at H4
    exact kk2 w4 H4 hA4 hx4 hfr (hKY.imp id (fun h => ⟨ec, h⟩))
end ND4
