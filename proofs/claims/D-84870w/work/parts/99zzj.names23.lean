/-! ===== ROUNDS, part 25: a name of a kind; calls ===== -/
section NF2
variable {D : pD} {V : pV} {nu : pN} {tn : Nat → Prop} {rt p q n nq r d dq j k k0 f s u A cr W Cx kd cl : Nat} {J J' : List Nat} {S S' S0 : nS} {w w2 w' t t' : wS} {v : Option Nat} {x x2 y : Int32} {T T' : Int} {kr kr' : List Nat} {L L' L2 Lc Lx Ly Lt : Nat} {E' : zE} {gc gt : pQ} {Φ : kx_Rs → wS → kx_Rs → wS → Prop} {ol : Option Int32} {C : Nat → Prop} {Mc Mt : kx_M}
/-- a name that must be of a kind -/
theorem n_f2 {Kc : (kx_Rs → wS → Prop) → Option Nat → wS → Prop} {Kt : (kx_Rs → wS → Prop) → wS → Prop} {Xc Xt Zt : (kx_Rs → wS → Prop) → String → wS → Prop} {Cl : Int32} (hs : STR D V nu tn rt) (H : HM D V nu tn rt p J cr S0 S T T) (hk : KRE S kr) (hnu : nu p = some (n, r, d)) (htm : tn n) (hm : n < 14000) (hW : wcC W Cx) (hC0 : 1 ≤ Cx) (hCl : Cl = i_ Cx) (hnm : nmr D x y) (hLc : 120 ≤ Lc) (hLt : 100 ≤ Lt) (hL2 : 60 ≤ L2)
    (kk : ∀ (S4 : nS) (T4 : Int) (vv : Option Nat), FTK T4 → HM D V nu tn rt p J cr S0 S4 (min T T4) (min T T4) → NDC S S4 → NX nu S S4 → S4.w = ws_p (ru S.w T4) 14 p 16 vv → (∀ k, k ≠ 16 → w_p (ru S.w T4) 14 p k = V.2.1 p k) → (T4 = NOF → USE S4 kr p n (fun c => c = Cx)) → PS (fun Q => Kc Q vv (ru S.w T4)) (fun Q => Kt Q S4.t) Φ) :
    PS (fun Q => zw D.1 Lc kt_M143 [.ref (w_adr D.1.2.1 5 0), .int x, .int (V.2.2.1 27 n), va_rf (some (D.1.1.1 W))] S.w (wkr (fun v w1 => wle S.w w1 → Kc Q v w1) (Xc Q))) (fun Q => zw E' Lt kt_M411 [.ref (w_adr E'.2.1 12 0), .int y, .int (V.2.2.1 27 n)] S.t (wk1 (fun v w1 => wle S.t w1 → (kx_inb (i_ n) (w_n w1 12 0 31) = true ∧ (kx_inb (i_ n) (w_n w1 12 0 31) = true ∧ (if w_a (ws_a w1 12 0 31 n v) 12 0 31 n < 0 then Kt Q (ws_a w1 12 0 31 n v) else (kx_inb (i_ n) (w_n w1 12 0 31) = true ∧ (kx_inb (w_a (ws_a w1 12 0 31 n v) 12 0 31 n) (w_n w1 12 0 46) = true ∧ (if w_a w1 12 0 46 (w_a (ws_a w1 12 0 31 n v) 12 0 31 n).toNatClampNeg = Cl then Kt Q (ws_a w1 12 0 31 n v) else (kx_inb (i_ n) (w_n w1 12 0 27) = true ∧ zw E' L2 kt_M560 [.ref (w_adr E'.2.1 12 0), .int 6, .int (w_a w1 12 0 27 n)] (ws_a w1 12 0 31 n v) (wk0 (fun w3 => wle (ws_a w1 12 0 31 n v) w3 → Kt Q w3) (Zt Q)))))))))) (Xt Q))) Φ := by
  have hI := H.1
  have hfy := fnd_ys (t := S.t) hI hk (y := y)
  have hmr : ∀ s, fnd S.t kr y = some s → s ∈ kr := fun s e => (fnd_mem e).1
  refine PS_lr (fun Q hq => hI.cf2 hs hk hW hnm hLc hq) ?_
  refine PS_r1 (fun Q hq => hI.tf hs hk hLt hq) ?_
  generalize fnd S.t kr y = rr at hfy hmr ⊢
  have H2 := (H.cru (f2T_ok (t := S.t) (C := Cx) (rr := rr) (l := V.2.2.1 27 n))).ttu (fT_ok (r := rr) (l := V.2.2.1 27 n))
  have H4 := (H2.p16 (v := (f2v S.t Cx rr).bind S.ys)).ta (x := sno rr) hs.2.2.2.1 hnu hm (.inl rfl)
  have hT2 := H2.1.1.2.1
  have hwk : ∀ k, k ≠ 16 → w_p (ru S.w (f2T S.t Cx rr (V.2.2.1 27 n))) 14 p k = V.2.1 p k := (H2.1.nw hnu).2.1
  refine PS_rand (hT2.i rfl hm) (PS_rand (hT2.i rfl hm) ?_)
  have e31 : w_a (ws_a (tu S.t (fT rr (V.2.2.1 27 n))) 12 0 31 n (sno rr)) 12 0 31 n = sno rr := by rw [Raa, if_pos ⟨rfl, rfl, rfl, rfl⟩]
  have e16 : w_p (ws_p (ru S.w (f2T S.t Cx rr (V.2.2.1 27 n))) 14 p 16 ((f2v S.t Cx rr).bind S.ys)) 14 p 16 = (f2v S.t Cx rr).bind S.ys := by rw [Rpp, if_pos ⟨rfl, rfl, rfl⟩]
  simp only [e31]
  obtain ⟨S4, hw4, ht4, hn4, hy4, hx4, H4⟩ : ∃ S4 : nS, S4.w = ws_p (ru S.w (f2T S.t Cx rr (V.2.2.1 27 n))) 14 p 16 ((f2v S.t Cx rr).bind S.ys) ∧ S4.t = ws_a (tu S.t (fT rr (V.2.2.1 27 n))) 12 0 31 n (sno rr) ∧ NDC S S4 ∧ S4.ys = S.ys ∧ NX nu S S4 ∧ HM D V nu tn rt p J cr S0 S4 (min T (f2T S.t Cx rr (V.2.2.1 27 n))) (min T (fT rr (V.2.2.1 27 n))) := ⟨S.wt (ws_p (ru S.w (f2T S.t Cx rr (V.2.2.1 27 n))) 14 p 16 ((f2v S.t Cx rr).bind S.ys)) (ws_a (tu S.t (fT rr (V.2.2.1 27 n))) 12 0 31 n (sno rr)), rfl, rfl, NDC.rf (S := S), rfl, (NX.ft.tr (NX.p16 (p := p) H.2.2.1.2.2.1) (.inl rfl)).tr (NX.ta (p := p) H.2.2.1.2.2.1 hs.2.2.2.1 hnu hm (.inl rfl)) (.inl rfl), H4⟩
  simp only [← ht4]
  rw [← ht4] at e31
  rw [← hw4] at e16
  cases rr with
  | none =>
    refine PS_rp (by decide) ?_
    refine kk S4 (f2T S.t Cx none (V.2.2.1 27 n)) _ f2T_ok H4 hn4 hx4 hw4 hwk (fun e => ?_)
    have := (fln_m (k := 5) (l := V.2.2.1 27 n) ⟨by decide, by decide⟩).2.2
    have e9 : f2T S.t Cx none (V.2.2.1 27 n) = fln 5 (V.2.2.1 27 n) := rfl
    omega
  | some s =>
    have hms := hfy s rfl
    cases ea : S.ys s with
    | none => exact absurd ea hms
    | some A =>
      obtain ⟨c, g2, g3, g4, g5, g6⟩ := hI.sy ea
      have e46 : w_a S4.t 12 0 46 s = i_ c := by
        rw [ht4, Raa, if_neg (fun z => absurd z.1 (by decide)), tu_a]
        exact g3
      have e46' : w_a (tu S.t (fT (some s) (V.2.2.1 27 n))) 12 0 46 s = i_ c := by rw [tu_a]; exact g3
      simp only [sno, i_nat' (show s < 2147483648 by omega), e46', hCl]
      have hin : kx_inb (i_ s) (w_n (tu S.t (fT (some s) (V.2.2.1 27 n))) 12 0 46) = true := hT2.sy rfl g6
      refine PS_rn (i_nn (by omega)) (PS_rand (hT2.i rfl hm) (PS_rand hin ?_))
      have hc8 : (i_ c = (i_ Cx : Int32)) = (c = Cx) := i_c1 g2.2 Cx hW.2.1
      by_cases ec : c = Cx
      · refine PS_rp (by rw [ec]) ?_
        have ef : f2T S.t Cx (some s) (V.2.2.1 27 n) = NOF := by
          unfold f2T
          simp only [g3]
          rw [if_pos (by rw [ec])]
        have ev : f2v S.t Cx (some s) = some s := by
          unfold f2v
          simp only [Option.bind_some, g3]
          rw [if_pos (by rw [ec])]
        have e9 : min T (fT (some s) (V.2.2.1 27 n)) = min T (f2T S.t Cx (some s) (V.2.2.1 27 n)) := by
          rw [ef]
          rfl
        rw [e9] at H4
        refine kk S4 _ _ f2T_ok H4 hn4 hx4 hw4 hwk (fun _ => ⟨s, Cx, hmr s rfl, ⟨A, by rw [hy4]; exact ea, ?_, e31⟩, by rw [e46, ec], rfl⟩)
        rw [e16, ev]
        exact ea
      · refine PS_rn (fun z => ec (by rw [← hc8]; exact z)) (PS_rand (hT2.i rfl hm) ?_)
        have e27 : w_a (tu S.t (fT (some s) (V.2.2.1 27 n))) 12 0 27 n = V.2.2.1 27 n := H2.1.1.2.2 n htm 27 rfl
        simp only [e27]
        have h6 : FTK (fln 6 (V.2.2.1 27 n)) := .inr ⟨6, _, ⟨by decide, by decide⟩, rfl⟩
        have ef : f2T S.t Cx (some s) (V.2.2.1 27 n) = fln 6 (V.2.2.1 27 n) := by
          unfold f2T
          simp only [g3]
          rw [if_neg (fun z => ec (by rw [← hc8]; exact z))]
        refine PS_r0 (fun Q hq => t_tells (k := 6) (by omega) H4.1.2.2.2.2.2.2.1.2 ⟨by decide, by decide⟩ hq) ?_
        have H5 := H4.ttu h6
        have e9 : min (min T (fT (some s) (V.2.2.1 27 n))) (fln 6 (V.2.2.1 27 n)) = min T (f2T S.t Cx (some s) (V.2.2.1 27 n)) := by
          rw [ef]
          have e0 : fT (some s) (V.2.2.1 27 n) = NOF := rfl
          have := H.2.2.2.2.1.1.le
          rw [e0]
          omega
        rw [e9] at H5
        have hx5 : NX nu S4 (S4.wt S4.w (tu S4.t (fln 6 (V.2.2.1 27 n)))) := NX.wt (w' := S4.w) (t' := tu S4.t (fln 6 (V.2.2.1 27 n))) (fun _ _ _ k => ⟨rfl, rfl⟩) (fun k _ => tu_a) (fun b hb => ⟨⟨rfl, rfl⟩, fun _ _ _ _ k _ => congrFun tu_a _⟩)
        refine kk (S4.wt S4.w (tu S4.t (fln 6 (V.2.2.1 27 n)))) _ _ f2T_ok H5 hn4 (hx4.tr hx5 (.inl (congrArg Prod.fst hn4.2.2.2))) hw4 hwk (fun e => ?_)
        have := (fln_m (k := 6) (l := V.2.2.1 27 n) ⟨by decide, by decide⟩).2.2
        omega
/-- a call -/
theorem n_A9 (hs : STR D V nu tn rt) (hI : IVN D V nu tn rt S) (hC : CHx V tn nu k0 ol n p d) (h26 : V.2.2.1 26 n = i_ (9 : Nat)) (hK : KX V nu (f + 1) 2 p) (hv : VOK V nu rt S p) (hk : KRE S kr) (hL : 75 * k0 + 340 ≤ L) (hL' : 75 * k0 + 340 ≤ L') : PS (fun Q => zw D.1 L kt_M131 [.ref (w_adr D.1.2.1 5 0), va_rf (some p)] S.w Q) (fun Q => zw E' L' kt_M471 [.ref (w_adr E'.2.1 12 0), .int (i_ n)] S.t Q) (NPO D V nu tn rt p S (fun S' => KRE S' kr) (fun S' => NS V nu S' (f + 1) S.u kr p kr)) := by
  obtain ⟨r, hnu, hm, -, hr, -⟩ := hC.nb h26 ⟨by decide, by decide⟩
  obtain ⟨kd, h26', hcl, hch⟩ := hK.at hnu hm
  have hkd : kd = 9 := by
    have := (i_eq (by unfold cok at hcl; omega) (by unfold cok at hcl; omega)).mp (h26.symm.trans h26')
    omega
  subst hkd
  obtain ⟨htm, hl2, hF⟩ := hs.lf hnu hm h26 (by decide)
  have H := HM.start hI hv
  have hw := hI.nw hnu
  have ht := hI.1.2.2 n htm
  have hT := hI.1.2.1
  have hkA : KRE (S.at p) kr := hk
  have h56 : w_i S.t 12 0 56 = i_ kr.length := hI.e56 hk
  obtain ⟨-, hk0, hnm, l, hl, -⟩ := hF
  have hc4 : ccl (V.1 p 10) (V.1 p 11) 9 4 = 0 := rfl
  have hXl : ∀ z ∈ l, KX V nu f 0 z.2.1 := fun z hz => by
    obtain ⟨i, hi⟩ := LPx.nx2 hl z hz
    have h := hch 4 ⟨by decide, by decide⟩ (by omega) (ujk.c (by omega)) i z.2.1 (.inr (.inl ⟨rfl, by simp⟩)) hi
    rw [hc4] at h
    exact h
  refine PS_of (fun Q h => zt_X6_action_p0 (by omega) h) (fun Q h => zt_X13_nameAction_p0 (by omega) h) ?_
  simp only [zb_X6_action_p0, zb_X13_nameAction_p0, zb_X6_action_p208, i_nat' (show n < 2147483648 by omega), ht 26 rfl, h26, h56, ht 30 rfl, ht 27 rfl]
  refine PS_lex p rfl (PS_land hw.1 (PS_lex 35 (zO_k hs.1.1 (by decide) ((hw.2.1 0 (by decide)).trans hk0) rfl) ?_))
  refine PS_rand (hT.i rfl hm) ?_
  repeat (first | refine PS_lp (by decide) ?_ | refine PS_ln (by decide) ?_)
  repeat (first | refine PS_rp (by decide) ?_ | refine PS_rn (by decide) ?_)
  refine PS_rand (hT.i rfl hm) (PS_rand (hT.i rfl hm) ?_)
  simp only [hw.2.2 9 (by decide), (hw.2.2 2 (by decide)).trans hl2]
  refine n_f2 (S := S.at p) (Kc := fun Q v w1 => zL_X6_action_p164 D.1 L Q (w_p w1 14 p 4) (ws_p w1 14 p 16 v)) (Kt := fun Q t => zb_X13_nameAction_p373 E' L' Q (i_ n) (i_ kr.length) t) hs H hkA hnu htm hm wc_7 (by decide) rfl hnm (by omega) (by omega) (by omega) (fun S4 T4 vv hT4 H4 hn4 hx4 hw4 hwk hU => ?_)
  have hk4 : KRE S4 kr := hkA.nd hn4
  have hu4 : S4.u = S.u := congrArg Prod.fst hn4.2.2.2
  have ht4 := H4.1.1.2.2 n htm
  simp only [zb_X13_nameAction_p373, i_nat' (show n < 2147483648 by omega), ht4 28 rfl, hwk 4 (by decide)]
  refine PS_rand (H4.1.1.2.1.i rfl hm) ?_
  show PS (fun Q => zL_X6_action_p164 D.1 L Q (V.2.1 p 4) (ws_p (ru S.w T4) 14 p 16 vv)) _ _
  have hw4' : S4.w = ws_p (ru S.w T4) 14 p 16 vv := hw4
  rw [← hw4']
  have H4' := H4.wk (J' := [4]) (fun i hi => List.mem_cons_of_mem _ hi)
  refine n_list (J' := [4]) (S0 := S) (S := S4) (cr := 5) (Kp := fun S1 => KRE S1 kr) (G := fun q S' => NE V nu S' kr f (Ca V q) q) (P := fun z => KX V nu f 0 z.2.1) (gcl := fun x w Q => zL_X6_action_p164 D.1 L Q x w) (gtl := fun x t Q => zL_X13_nameAction_p380 E' L' Q (i_ kr.length) x t) (R := NDC) (fun _ => NDC.rf) (fun _ _ _ => NDC.tr) (fun _ _ h hk => hk.nd h) (fun _ _ _ _ h => h) hs (fun S2 T2 y2 j2 q n2 d2 H2 hk2 I2 V2 hC2 hP2 kc => ?_) (fun q S S' hI h hx => h.nx hI hx) H4' hk4 ⟨H4.2.2.1.1, H4.2.2.1.2.1⟩ (fun e => absurd (H4.2.2.1.2.2.2 4 e) List.not_mem_nil) ⟨by decide, by decide⟩ (fun _ => List.mem_cons_self) hl hXl (fun S2 T2 H2 hk2 hx2 hR2 hsm2 hG2 => ?_)
  · cases f with
    | zero => exact hP2.elim
    | succ f =>
      have hn2 := hC2.n14 hs
      have hC3 := hC2
      refine PS_of (fun Q h => zt_X6_action_p164 (by omega) h) (fun Q h => zt_X13_nameAction_p380 (by omega) h) ?_
      simp only [zb_X6_action_p164, zb_X13_nameAction_p380, i_nat' (show n2 < 2147483648 by omega)]
      refine PS_ln (by simp) (PS_rn (i_nn (by omega)) ?_)
      have hch := n_arg (L := L - 21) (L' := L' - 24) hs (n_EX (E' := E') hs f) (n_EX hs (f + 1)) I2 hC2 hP2 V2 hk2 (by omega) (by omega)
      refine PS_bind (gc1 := fun Q => zw D.1 (L - 21) kt_M134 [.ref (w_adr D.1.2.1 5 0), va_rf (some q)] S2.w Q) (gt1 := fun Q => zw E' (L' - 24) kt_M476 [.ref (w_adr E'.2.1 12 0), .int (i_ n2), .int 1] S2.t Q) hch (fun r1 w2 r2 t2 hb => ?_)
      have hb2 := hb
      obtain ⟨S', T1, ⟨e1, e2, e3, e4⟩, hI', -⟩ := hb
      subst e1 e2 e3 e4
      obtain ⟨m, c, r, hP, htn, hnu2, -⟩ := hC3
      have hw' := hI'.nw hnu2
      have ht' := hI'.1.2.2 n2 (htn n2 hP.mem) 32 rfl
      refine PS_l (fun Q a => fun _ => a) (PS_r (fun Q a => fun _ => a) (PS_lex q rfl (PS_land hw'.1 (PS_rand (hI'.1.2.1.i rfl hn2) ?_))))
      rw [hw'.2.1 7 (by decide), ht']
      exact kc _ _ _ _ hb2
  · refine PS_of (fun Q h => zt_X6_action_p164 (by omega) h) (fun Q h => zt_X13_nameAction_p380 (by omega) h) ?_
    simp only [zb_X6_action_p164, zb_X6_action_p208, zb_X13_nameAction_p380, zb_X13_nameAction_p697]
    refine PS_lp trivial (PS_rp (by decide) ?_)
    have hu2 : S2.u = S4.u := congrArg Prod.fst hR2.2.2.2
    refine n_ae hnu hm h26 H2 (by decide) hk2 (hu2.trans hu4) (fun e => ⟨rfl, ?_, fun i q hq => ?_⟩)
    · obtain ⟨s, c, g1, ⟨A, g2, g3, g4⟩, g5, g6⟩ := hU (min_nof (.inl rfl) hT4 (hG2 e).1).2
      have hsp := hsm2 p H4.2.2.1.1
      exact ⟨s, c, g1, ⟨A, (hx2.1.1 s A g2).1, by rw [show (S2.fi p).w = S2.w from rfl, hsp.1.1]; exact g3, by rw [show (S2.fi p).t = S2.t from rfl, hsp.2 n r d hnu 31 (.inl rfl)]; exact g4⟩, by rw [show (S2.fi p).t = S2.t from rfl, hx2.1.2.1 s (H4.1.sl g2) 46 (by decide)]; exact g5, g6⟩
    · obtain ⟨z, hz, e2⟩ := LPx.nx1 hl hq
      rw [← e2]
      exact ((hG2 e).2 z hz).nx H2.1 NX.fi
end NF2
