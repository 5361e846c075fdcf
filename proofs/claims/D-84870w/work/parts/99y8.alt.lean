/-! ===== PARSERS, part 33: alternations ===== -/
def zg_B (E : zE) (L : Nat) (Q : kx_Rs → wS → Prop) (x1 : Option Nat) (x2 : Int32) (x3 v4 : Option Nat) (w3 : wS) : Prop := zw E (L - 21) kt_M166 [va_rf x3, va_rf v4] w3 (wkr (fun v6 w5 => wle w3 w5 → (∃ p7, x1 = some p7 ∧ w_l w5 E.2.1 14 p7 ∧ (if ¬ (w_p w5 14 p7 4) = none then zb_X5_alternation_p126 E L Q x1 x2 v6 w5 else zb_X5_alternation_p126 E L Q x1 x2 v6 (ws_p w5 14 p7 4 v6)))) (fun e w => Q (.inr e) w))
/-- the guards of an alternation -/
def GAL (D : pD) (K : pK) (S : pS) (p bP nP : Nat) (fi : Nat → Int32) (fp : Nat → Option Nat) (ft : Nat → Int32) : pGd := fun cz x v S2 p2 => v = i_ nP ∧ (∃ k l f fT, LSz (vw S2.1 S2.2.1) S2.2.2.2.2.2.2 S2.2.2.2.2.2.1 k (oN K 18 p p2) l f fT ∧ OWc S2 bP fi (up_ fp 4 f) ∧ OWt S2 nP (up_ ft 29 fT) ∧ (dsum l + p ≤ p2 ∧ dsum l = cz)) ∧ kk K (p2 - 1) = 74 ∧ (S2.2.2.2.1 + 4 * p ≤ S.2.2.2.1 + 4 * p2 ∧ S2.2.2.2.2.1 + 4 * p ≤ S.2.2.2.2.1 + 4 * p2)
section ALT
variable {ex et : List Nat} {S S' S0 SA : pS} {D : pD} {K : pK} {p p0 q o o' oA dl m N n n2 b b2 lo hi lo2 hi2 r d d2 dd g pA pB nP bP : Nat} {w t w' : wS} {al : List Nat} {nu : pNz} {tn : Nat → Prop} {E E' : zE} {L L' : Nat} {ol : pOL} {f : Option Nat} {fT x1 x2 : Int32} {Q : kx_Rs → wS → Prop} {fi : Nat → Int32} {fp : Nat → Option Nat} {ft : Nat → Int32} {br : Bool} {lo1 : Int} {Φ : kx_Rs → wS → kx_Rs → wS → Prop} {bl : Option Nat}
theorem dd_al_loop {nl : Int32} (hd9 : d ≤ 800) (hL : 1000 ≤ L') (hn : n < 14000) (h : DDs D K S0 w' t) : eS (fun Q => zL_X13_alt_p71 E' L' Q (i_ d) (i_ n) nl t) (fun r' t' => TLP D K S0.1 S0.2.1 true 0 w' r' t') := by
  refine eS_l (fun Q h => zt_X13_alt_p71 (by omega) h) ?_
  simp only [zb_X13_alt_p71]
  rw [i_1, i_add, cN1]
  refine dd_isAt (d := d + 1) h (by omega) (by omega) (fun b => ?_)
  cases b with
  | false => exact eS_p rfl (h.ret rfl ⟨by omega, by omega⟩)
  | true =>
    refine eS_n (by decide) (eS_l (fun Q h => zt_X13_guard_p0 (by omega) h) ?_)
    simp only [zb_X13_guard_p0]
    exact dd_lineAt (d := d + 1) (how := 4) h (by omega) (by omega) rfl (by omega)
theorem lt_al_loop {nl : Int32} (hd9 : d ≤ 800) (hdl : d + 1 ≤ dl) (hL : 1000 ≤ L') (hn : n < 14000) (h : LTs D K dl S0 w' t) : eS (fun Q => zL_X13_alt_p71 E' L' Q (i_ d) (i_ n) nl t) (fun r' t' => TLPd D K d S0.1 S0.2.1 true 0 w' r' t') := by
  refine eS_l (fun Q h => zt_X13_alt_p71 (by omega) h) ?_
  simp only [zb_X13_alt_p71]
  rw [i_1, i_add, cN1]
  refine eS_1 (fun Q hq => h.isAt (d := d + 1) hdl (by omega) (by omega) hq) (eS_p rfl ?_)
  exact (h.dn (by omega)).ret rfl ⟨by omega, by omega⟩
/-- one GUARD, up to where both have it -/
theorem p_al_item {x1 : Option Nat} {G : Nat} {B : (kx_Rs → wS → Prop) → Int32 → wS → Prop} (IO : OPq D K E' G) (IH : EXq D K E' G) (IHP : PRq D K E' G) (hΦ : STL D K d S0 br lo1 Φ) (hd20 : d ≤ 20) (hL : dex d ≤ L + 100) (hL' : dex d ≤ L' + 100) (H : HY D K ex et S0 (w, t, al, m, N, nu, tn) p p 0 0) (h74 : kk K (p - 1) = 74) (hg : K.length ≤ p + G) (hB : m ≤ 4 * p + 7 ∧ N ≤ 4 * p + 7)
    (k1 : ∀ b3 n3 d3 w3 t3 al3 m3 N3 nu3 tn3 p3, HY D K ex et (cb S0 d3) (w3, t3, al3, m3, N3, nu3, tn3) p3 p3 0 0 → FR [] [] (cb (w, t, al, m, N, nu, tn) d3) (w3, t3, al3, m3, N3, nu3, tn3) → PND D (w3, t3, al3, m3, N3, nu3, tn3) N N3 (oN K 18 p p3) b3 n3 d3 → NXT (w3, t3, al3, m3, N3, nu3, tn3) b3 n3 → b3 ∉ al.take m → kk K (p3 - 1) = 74 → (p < p3 ∧ m3 + 4 * p + 1 ≤ m + 4 * p3 ∧ N3 + 4 * p + 1 ≤ N + 4 * p3) → d3 + p ≤ p3 → PS (fun Q => zg_B D.1 L Q x1 (i_ d) bl (some b3) w3) (fun Q => B Q (i_ n3) t3) Φ)
    (k2 : ∀ (v : Int) w2 t2, 0 ≤ v → v < 14000 → DDs D K S0 w2 t2 → eS (fun Q => B Q (i_ v) t2) (fun r' t' => TLP D K S0.1 S0.2.1 br lo1 w2 r' t'))
    (k3 : ∀ (v : Int) w2 t2, 0 ≤ v → v < 14000 → LTs D K (d + 1) S0 w2 t2 → eS (fun Q => B Q (i_ v) t2) (fun r' t' => TLPd D K d S0.1 S0.2.1 br lo1 w2 r' t')) :
    PS (fun Q => zL_X5_alternation_p71 D.1 L Q x1 (i_ d) bl 1 w) (fun Q => zw E' (L' - 24) kt_M422 [.ref (w_adr E'.2.1 12 0), .int (i_ (d + 1 : Nat))] t (wk1 (fun v w3 => wle t w3 → B Q v w3) (fun e w => Q (.inr e) w))) Φ := by
  have hgl : dex d ≤ L - 23 + 150 := by unfold dex at *; omega
  have hgl' : dex d ≤ L' - 24 + 150 := by unfold dex at *; omega
  unfold dex at hL hL'
  have hpl := H.1.ta.lt
  refine PS_of (fun Q h => zt_X5_alternation_p71 (by omega) h) (fun Q h => zt_X13_guard_p0 (by omega) h) ?_
  have e1 : (i_ d : Int32) + 1 = i_ (d + 1 : Nat) := by rw [i_1, i_add, cN1]
  simp only [zb_X5_alternation_p71, zb_X13_guard_p0, e1]
  have key : ∀ bb : Bool, bb = bBe 4 (kk K p) → PS (fun Q => zb_X5_alternation_p101 D.1 L Q x1 (i_ d) bl (bI bb) (i_ (d + 1 : Nat)) w) (fun Q => zw E' (L' - 24 - 22) kt_M458 [.ref (w_adr E'.2.1 12 0), .int (i_ (d + 1 : Nat)), .int 4] t (wk0 (fun w1 => wle t w1 → zg_T E' (L' - 24) (wk1 (fun v w3 => wle t w3 → B Q v w3) (fun e w => Q (.inr e) w)) (i_ (d + 1 : Nat)) w1) (fun e w => (wk1 (fun v w3 => wle t w3 → B Q v w3) (fun e w => Q (.inr e) w)) (.inr e) w))) Φ := by
    intro bb hbb
    simp only [zb_X5_alternation_p101]
    refine PSg_stand (d := d + 1) (how := 4) hΦ.stp (by omega) (by omega) H (by omega) (.inr h74) rfl (by omega) hbb (fun _ hbx hd1 H1 => ?_)
    have hbe : bBe 4 (kk K p) = true := by rw [← hbb]; exact hbx
    have H0 : HY D K [] [] (w, t, al, m, N, nu, tn) (w, t, al, m, N, nu, tn) p p 0 0 := ⟨H.1, FR.rf H.1.mle⟩
    have F1 := (H0.co (u := 0) (by omega)).2
    refine PSh_cG (gc1 := fun Q => zw D.1 (L - 23) kt_M181 [.ref (w_adr D.1.2.1 4 0), .int (i_ d)] (ws_i w 4 0 4 0) Q) (gt1 := fun Q => zg_T E' (L' - 24) Q (i_ (d + 1 : Nat)) t) (Kc := fun Q => wkr (fun v4 w3 => wle (ws_i w 4 0 4 0) w3 → zg_B D.1 L Q x1 (i_ d) bl v4 w3) (fun e w => Q (.inr e) w)) (Kt := fun Q => wk1 (fun v w3 => wle t w3 → B Q v w3) (fun e w => Q (.inr e) w)) (A := fun Q v4 w3 => zg_B D.1 L Q x1 (i_ d) bl v4 w3) (B := B) hΦ H1.1.krg H1.2 (p_guard IO IH IHP (by omega) hgl hgl' H1.1 hg hB hbe) (fun a h => absurd h List.not_mem_nil) (fun a h => absurd h List.not_mem_nil) (fun _ _ _ a => wkr_k a) (fun _ _ _ a => fun _ => a) (fun _ _ _ a => a) (fun _ _ _ a => a) (fun x v w3 t3 al3 m3 N3 nu3 tn3 p3 cz H3 HS3 hbd3 hgx => ?_) k2 k3
    obtain ⟨b3, n3, d3, rfl, rfl, hP3, hX3, hc3, e74b, hsl, hd3, rfl⟩ := hgx
    exact k1 b3 n3 d3 w3 t3 al3 m3 N3 nu3 tn3 p3 H3 (F1.trc HS3.2 (fun a h => absurd h List.not_mem_nil) (fun n h => absurd h List.not_mem_nil)) hP3.wk hX3 hc3 e74b ⟨hbd3.1, hsl.1, hsl.2⟩ hd3
  refine PS_ln (by decide) ?_
  refine PS_l1 (fun Q hq => c_beginsExpression (by omega) H.1.ca hq) ?_
  cases hE : bEx (kk K p) with
  | true =>
    refine PS_lp (by decide) ?_
    simp only [zb_X5_alternation_p96]
    exact key true (by show true = (bEx (kk K p) || decide (kk K p = 28)); rw [hE]; rfl)
  | false =>
    refine PS_ln (by decide) ?_
    refine PS_l1 (fun Q hq => c_is (c := 28) (v := 28) (by omega) H.1.ca rfl (by unfold wcd; omega) hq) ?_
    cases h28 : decide (kk K p = 28) with
    | false =>
      refine PS_lp (by decide) ?_
      exact key false (by show false = (bEx (kk K p) || decide (kk K p = 28)); rw [hE, h28]; rfl)
    | true =>
      refine PS_ln (by decide) ?_
      simp only [zb_X5_alternation_p96]
      exact key true (by show true = (bEx (kk K p) || decide (kk K p = 28)); rw [hE, h28]; rfl)
theorem OWx.up4 {cc : Bool} {S : pS} {v v2 : Option Nat} {k : Nat} (h : OWx cc S n fi (up_ (up_ fp k v) k v2)) : OWx cc S n fi (up_ fp k v2) := ⟨h.1, h.2.1, fun j hj => by
  rw [h.2.2 j hj]
  unfold up_
  by_cases e : j = k
  · rw [if_pos e, if_pos e]
  · rw [if_neg e, if_neg e, if_neg e]⟩
theorem OWx.upE {cc : Bool} {S : pS} {v : Option Nat} {k : Nat} (h : OWx cc S n fi fp) (e : fp k = v) : OWx cc S n fi (up_ fp k v) := ⟨h.1, h.2.1, fun j hj => by
  rw [h.2.2 j hj]
  unfold up_
  by_cases e' : j = k
  · rw [if_pos e', e', e]
  · rw [if_neg e']⟩
theorem HY.nuP {S : pS} (H : HY D K ex et SA S p q o o') (hbP : bP ∈ SA.2.2.1.take SA.2.2.2.1 ∧ SA.2.2.2.2.2.1 bP = none) : S.2.2.2.2.2.1 bP = none := by
  by_cases e : S.2.2.2.2.2.1 bP = none
  · exact e
  · rcases H.2.2.2.2.2.1.2.2.1 bP e with h | h
    · exact absurd hbP.2 h
    · exact absurd hbP.1 h
theorem p_al_loop {G : Nat} (IO : OPq D K E' G) (IH : EXq D K E' G) (IHP : PRq D K E' G) (hd20 : d ≤ 20) (hL : dex d ≤ L + 100) (hL' : dex d ≤ L' + 100) (hnP : nP < SA.2.2.2.2.1 ∧ nP < 14000) (hbP : bP ∈ SA.2.2.1.take SA.2.2.2.1 ∧ SA.2.2.2.2.2.1 bP = none) (h3 : fp 3 = none) : ∀ g w t al m N nu tn p f fT bl nl dd hi, K.length ≤ p + g → K.length ≤ p + G → HY D K [bP] [nP] (cb SA dd) (w, t, al, m, N, nu, tn) p p 0 0 → LQ anyk D (w, t, al, m, N, nu, tn) SA.2.2.2.2.1 hi (oN K 18 pB p) f fT bl nl none dd → OWc (w, t, al, m, N, nu, tn) bP fi (up_ fp 4 f) → OWt (w, t, al, m, N, nu, tn) nP (up_ ft 29 fT) → hi ≤ N → (∀ a, bl = some a → a ∉ SA.2.2.1.take SA.2.2.2.1) → kk K (p - 1) = 74 → (pA < p ∧ pB ≤ p ∧ dd + pB ≤ p) → (m ≤ 4 * p + 7 ∧ N ≤ 4 * p + 7) → (m + 4 * pA ≤ SA.2.2.2.1 + 4 * p ∧ N + 4 * pA ≤ SA.2.2.2.2.1 + 4 * p) → (m + 4 * pB ≤ SA.2.2.2.1 + 4 * p ∧ N + 4 * pB ≤ SA.2.2.2.2.1 + 4 * p) → bAt K p (d + 1) = true → PS (fun Q => zL_X5_alternation_p71 D.1 L Q (some bP) (i_ d) bl 1 w) (fun Q => zL_X13_alt_p71 E' L' Q (i_ d) (i_ nP) nl t) (PRd D K d [bP] [nP] SA pA 0 false true 0 (GAL D K SA pB bP nP fi fp ft)) := by
  have hLd := hL
  have hLd' := hL'
  unfold dex at hL hL'
  have e1 : (i_ d : Int32) + 1 = i_ (d + 1 : Nat) := by rw [i_1, i_add, cN1]
  have h22 : 400 ≤ L' - 22 := by omega
  have hL9 : 1000 ≤ L' := by omega
  intro g
  induction g with
  | zero =>
    intro w t al m N nu tn p f fT bl nl dd hi hg _ H
    have := H.1.ca.2.2
    omega
  | succ g ih =>
    intro w t al m N nu tn p f fT bl nl dd hi hg hG H hQ hO hT hhi hb0 h74 hpp hmN hbd hbd2 hA
    have hpl := H.1.ta.lt
    have hal := H.alive
    have hSA : SA.2.2.2.2.1 ≤ N := H.2.2.1.2.2.1
    have hΦ : STL D K d SA true 0 (PRd D K d [bP] [nP] SA pA 0 false true 0 (GAL D K SA pB bP nP fi fp ft)) := STL.of
    have hΦ := hΦ.cb (c := dd)
    refine PS_r (fun Q h => zt_X13_alt_p71 (by omega) h) ?_
    simp only [zb_X13_alt_p71, e1, i_nat' (show nP < 2147483648 by omega)]
    refine PS_r1 (fun Q hq => t_isAt (d := d + 1) (by omega) H.1.ta H.1.krg (by omega) hq) ?_
    rw [hA]
    refine PS_rn (by decide) ?_
    refine p_al_item IO IH IHP hΦ hd20 hLd hLd' H h74 hG hmN (fun b3 n3 d3 w3 t3 al3 m3 N3 nu3 tn3 p3 H3 F hP3 hX3 hc3 e74b hb3 hd3 => ?_) (fun v w2 t2 hv hv2 hdd => ?_) (fun v w2 t2 hv hv2 hdd => ?_)
    · simp only [zg_B]
      have hpl3 := H3.1.ta.lt
      have H3 := H3.cc
      have hQ3 := hQ.fr H.1 F (fun a h => absurd h List.not_mem_nil) (fun a h => absurd h List.not_mem_nil)
      have O3 := hO.fr F List.not_mem_nil
      have T3 := hT.fr F List.not_mem_nil
      have hn3 := hP3.lt
      have hn3N : n3 < N3 := hn3.1
      have hbb : bl ≠ some b3 := by
        rcases hQ.nlb H.1 with ⟨e, -⟩ | ⟨b, n, e, -, g1, -⟩
        · rw [e]; simp
        · rw [e]
          intro e2
          cases e2
          exact hc3 g1.1
      have hbp3 : bP ≠ b3 := fun e => hc3 (by rw [← e]; exact hO.1.1.1)
      have hc0 : b3 ∉ SA.2.2.1.take SA.2.2.2.1 := fun e => hc3 (H.2.sub e)
      refine PSq_behind (by omega) H3 hQ3 hb0 (LKO.mk hP3.bm.1 hX3.2.2 hc0) (fun w4 hw4 H4 hQ4 => ?_)
      have O4 := O3.bho hw4 (fun e => hb0 bP e hbP.1) (fun e => hbp3 (Option.some.inj e).symm)
      have hPX : PND D (w4, t3, al3, m3, N3, nu3, tn3) N N3 (oN K 18 p p3) b3 n3 d3 ∧ NXo (w4, t3, al3, m3, N3, nu3, tn3) b3 n3 := by
        rcases hw4 with e | ⟨a, ea, e⟩
        · rw [e]
          exact ⟨hP3, hX3.xo⟩
        · have hna : nu3 a = none := by
            rcases hQ3.nlb H3.1 with ⟨e', -⟩ | ⟨b, n, e', -, g1, -⟩
            · rw [e'] at ea; cases ea
            · rw [e'] at ea
              cases ea
              exact g1.2
          have hab : a ≠ b3 := fun z => hbb (by rw [ea, z])
          rw [e]
          refine ⟨hP3.wo hna hab, ?_, hX3.2.1⟩
          show w_p (ws_p w3 14 a 7 (some b3)) 14 b3 7 = none
          rw [Rpp, if_neg (fun z => hab z.2.2.symm)]
          exact hX3.1
      have hnb := hQ4.nlb H4.1
      refine PS_lex bP rfl (PS_land (O4.wl H4.1) ?_)
      have r4 : w_p w4 14 bP 4 = f := O4.2.2 4 rfl
      have tail : ∀ w5 f' fT', ((bl = none ∧ f' = some b3 ∧ fT' = i_ n3) ∨ (bl ≠ none ∧ f' = f ∧ fT' = fT)) → HY D K [bP] [nP] (cb SA (dd + d3)) (w5, t3, al3, m3, N3, nu3, tn3) p3 p3 0 0 → LQ anyk D (w5, t3, al3, m3, N3, nu3, tn3) SA.2.2.2.2.1 hi (oN K 18 pB p) f fT bl nl (some b3) dd → PND D (w5, t3, al3, m3, N3, nu3, tn3) N N3 (oN K 18 p p3) b3 n3 d3 ∧ NXo (w5, t3, al3, m3, N3, nu3, tn3) b3 n3 → OWc (w5, t3, al3, m3, N3, nu3, tn3) bP fi (up_ fp 4 f') → PS (fun Q => zb_X5_alternation_p126 D.1 L Q (some bP) (i_ d) (some b3) w5) (fun Q => zw E' (L' - 22) kt_M368 [.ref (w_adr E'.2.1 12 0), .int nl, .int (i_ n3)] t3 (wk1 (fun v6 w5 => wle t3 w5 → (kx_inb (i_ nP) (w_n w5 12 0 29) = true ∧ (if ¬ w_a w5 12 0 29 nP = (-1) then zb_X13_alt_p120 E' L' Q (i_ d) (i_ nP) v6 w5 else (kx_inb (i_ nP) (w_n w5 12 0 29) = true ∧ zb_X13_alt_p120 E' L' Q (i_ d) (i_ nP) v6 (ws_a w5 12 0 29 nP (i_ n3)))))) (fun e w => Q (.inr e) w))) (PRd D K d [bP] [nP] SA pA 0 false true 0 (GAL D K SA pB bP nP fi fp ft)) := by
        intro w5 f' fT' hf' H5 hQ5 hPX5 O5
        have T5 : OWt (w5, t3, al3, m3, N3, nu3, tn3) nP (up_ ft 29 fT) := T3
        have hf2 := hf'
        refine PSq_chain (f2 := f') (fT2 := fT') (by omega) hQ5 H5 hPX5.1 hPX5.2 hbb hhi hSA (.inr rfl) hb0 (Nat.le_refl _) trivial hf' (fun t6 nu6 tn6' nx hnx H6 hQ6 hA6 => ?_)
        have T6 := hA6.owt T5 hnP.1 hnx
        have r29 : w_a t6 12 0 29 nP = fT := T6.2 29 rfl
        refine PS_rand (by rw [H6.1.tl.2.2.2.1]; exact i_inb' (by omega) (by omega)) ?_
        have more : ∀ t7, HY D K [bP] [nP] (cb SA (dd + d3)) (w5, t7, al3, m3, N3, nu6, tn6') p3 p3 0 0 → LQ anyk D (w5, t7, al3, m3, N3, nu6, tn6') SA.2.2.2.2.1 N3 (oN K 18 pB p3) f' fT' (some b3) (i_ n3) none (dd + d3) → OWt (w5, t7, al3, m3, N3, nu6, tn6') nP (up_ ft 29 fT') → PS (fun Q => zb_X5_alternation_p126 D.1 L Q (some bP) (i_ d) (some b3) w5) (fun Q => zb_X13_alt_p120 E' L' Q (i_ d) (i_ nP) (i_ n3) t7) (PRd D K d [bP] [nP] SA pA 0 false true 0 (GAL D K SA pB bP nP fi fp ft)) := by
          intro t7 H7 hQ7 T7
          have O7 : OWc (w5, t7, al3, m3, N3, nu6, tn6') bP fi (up_ fp 4 f') := ⟨⟨O5.1.1, H7.nuP hbP⟩, O5.2⟩
          simp only [zb_X5_alternation_p126, zb_X13_alt_p120, e1]
          refine PS_lex bP rfl (PS_land (O7.wl H7.1) ?_)
          have r3 : w_p w5 14 bP 3 = none := (O7.2.2 3 rfl).trans h3
          refine PS_ln (not_not_intro r3) ?_
          refine PS_l1 (fun Q hq => c_more (d := d + 1) (by omega) H7.1.ca (by omega) (.inr e74b) hq) ?_
          by_cases eA : bAt K p3 (d + 1) = true
          · rw [eA]
            refine PS_ln (by decide) ?_
            simp only [zb_X5_alternation_p148]
            exact ih w5 t7 al3 m3 N3 nu6 tn6' p3 f' fT' (some b3) (i_ n3) (dd + d3) N3 (by omega) (by omega) H7 hQ7 O7 T7 (Nat.le_refl _) (fun a e => by cases e; exact hc0) e74b ⟨by omega, by omega, by omega⟩ ⟨by omega, by omega⟩ ⟨by omega, by omega⟩ ⟨by omega, by omega⟩ eA
          · have e' : bAt K p3 (d + 1) = false := by simpa using eA
            rw [e']
            refine PS_lp rfl ?_
            simp only [zb_X5_alternation_p147, zb_X5_alternation_p148]
            refine PS_of (fun Q h => zt_X5_alternation_p71 (by omega) h) (fun Q h => zt_X13_alt_p71 (by omega) h) ?_
            simp only [zb_X5_alternation_p71, zb_X13_alt_p71, e1]
            refine PS_lp trivial ?_
            refine PS_r1 (fun Q hq => t_isAt (d := d + 1) (by omega) H7.1.ta H7.1.krg (by omega) hq) ?_
            rw [e']
            refine PS_rp rfl ?_
            obtain ⟨nu', tn', k, HD, ⟨l, h1, h2, h3', h4⟩, h5⟩ := hQ7.done H7 (fun a e => by cases e; exact hc0) (Nat.le_refl _)
            have T8 : OWt (w5, t7, al3, m3, N3, nu', tn') nP (up_ ft 29 fT') := ⟨⟨T7.1.1, fun e => (h5.2.2 nP e).elim T7.1.2 (fun h => by omega)⟩, T7.2⟩
            have O8 : OWc (w5, t7, al3, m3, N3, nu', tn') bP fi (up_ fp 4 f') := ⟨⟨O5.1.1, HD.nuP hbP⟩, O5.2⟩
            exact PS_ret (.inr ⟨none, i_ nP, al3, m3, N3, nu', tn', p3, _, rfl, rfl, HD, ⟨by omega, by omega, by omega⟩, rfl, ⟨k, l, f', fT', h1, O8, T8, by omega⟩, e74b, ⟨by show m3 + 4 * pB ≤ SA.2.2.2.1 + 4 * p3; omega, by show N3 + 4 * pB ≤ SA.2.2.2.2.1 + 4 * p3; omega⟩⟩)
        rcases hf2 with ⟨g1, g2, g3⟩ | ⟨g1, g2, g3⟩
        · have efT : fT = -1 := by
            rcases hnb with ⟨-, -, -, e, -⟩ | ⟨b, n, e, -⟩
            · exact e
            · rw [g1] at e; cases e
          refine PS_rn (by rw [r29, efT]; exact fun h => h rfl) (PS_rand (by rw [H6.1.tl.2.2.2.1]; exact i_inb' (by omega) (by omega)) ?_)
          have H7 := H6.ta (k := 29) (n := nP) (v := i_ n3) rfl T6.1.2 (fun _ => List.mem_singleton_self nP)
          have F7 := ((show HY D K [] [nP] _ (w5, t6, al3, m3, N3, nu6, tn6') p3 p3 0 0 from ⟨H6.1, FR.rf H6.1.mle⟩).ta (k := 29) (n := nP) (v := i_ n3) rfl T6.1.2 (fun _ => List.mem_singleton_self nP)).2
          have hQ7 := hQ6.fr H6.1 F7 (fun a h => absurd h List.not_mem_nil) (fun y hy => by rw [List.mem_singleton.mp hy]; exact ⟨hnP.1, T6.1.2⟩)
          exact more _ H7 hQ7 (by rw [g3]; exact (T6.si (k := 29) (v := i_ n3)).up2)
        · have efT : fT ≠ -1 := by
            rcases hnb with ⟨e, -⟩ | ⟨b, n, -, -, -, -, n0, e, hn0⟩
            · exact absurd e g1
            · rw [e]
              have hn0 : n0 < N3 := hn0
              exact i_ne1 (by omega)
          refine PS_rp (by rw [r29]; exact efT) ?_
          exact more _ H6 hQ6 (by rw [g3]; exact T6)
      rcases hnb with ⟨g1, g2, g3, g4, g5⟩ | ⟨b, n, g1, g2, g3, ⟨f0, g4⟩, g5⟩
      · refine PS_ln (not_not_intro (r4.trans g3)) ?_
        have hna := O4.1.2
        have H5 := H4.wp (k := 4) (v := some b3) hna (fun _ => List.mem_singleton_self bP) (LKO.mk hP3.bm.1 (show NRw w4 (al3.take m3) b3 from hw4.elim (fun e => by rw [e]; exact hX3.2.2) (fun ⟨a, ea, _⟩ => by rw [g1] at ea; cases ea)) hc0)
        exact tail _ (some b3) (i_ n3) (.inl ⟨g1, rfl, rfl⟩) H5 (hQ4.oth hna (by rw [g1]; simp)) ⟨hPX.1.wo hna hbp3, by
          show w_p (ws_p w4 14 bP 4 (some b3)) 14 b3 7 = none
          rw [Rpp, if_neg (fun z => hbp3 z.2.2.symm)]
          exact hPX.2.1, hPX.2.2⟩ (O4.sp (k := 4) (v := some b3)).up4
      · refine PS_lp (by rw [r4, g4]; simp) ?_
        exact tail _ f fT (.inr ⟨by rw [g1]; simp, rfl, rfl⟩) H4 hQ4 hPX O4
    · refine eS_chain (by omega) hdd.2.2.tl.2.2.2.2.2.2.1 hQ.nl (fun t' ht' => ?_)
      have hdd := hdd.ch ht'
      refine eS_and (by rw [hdd.2.2.tl.2.2.2.1]; exact i_inb' (by omega) (by omega)) ?_
      exact eS_ifb (dd_al_loop (by omega) (by omega) hnP.2 hdd) (eS_and (by rw [hdd.2.2.tl.2.2.2.1]; exact i_inb' (by omega) (by omega)) (dd_al_loop (by omega) (by omega) hnP.2 (hdd.ta rfl)))
    · refine eS_chain (by omega) hdd.tl.2.2.2.2.2.2.1 hQ.nl (fun t' ht' => ?_)
      have hdd := hdd.ch ht'
      refine eS_and (by rw [hdd.tl.2.2.2.1]; exact i_inb' (by omega) (by omega)) ?_
      exact eS_ifb (lt_al_loop (by omega) (by omega) (by omega) hnP.2 hdd) (eS_and (by rw [hdd.tl.2.2.2.1]; exact i_inb' (by omega) (by omega)) (lt_al_loop (by omega) (by omega) (by omega) hnP.2 (hdd.ta rfl)))
end ALT
