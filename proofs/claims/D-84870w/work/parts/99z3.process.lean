/-! ===== PARSERS, part 37: process ===== -/
/-- the contract of declaration -/
def DCq (D : pD) (K : pK) (E' : zE) (g : Nat) : Prop := ∀ L L' w t al m N nu tn p d, dex d ≤ L + 40 → dex d ≤ L' + 40 → d ≤ 20 → SY D K (w, t, al, m, N, nu, tn) p p 0 0 → (p = 0 ∨ kk K (p - 1) = 74) → K.length ≤ p + 1 + g → m ≤ 4 * p + 7 ∧ N ≤ 4 * p + 7 → bDe (kk K p) = true → PW w t (fun Q => zw D.1 L kt_M171 [.ref (w_adr D.1.2.1 4 0), .int (i_ d)] w Q) (fun Q => zw E' L' kt_M383 [.ref (w_adr E'.2.1 12 0), .int (i_ d)] t Q) (PRd D K d [] [] (w, t, al, m, N, nu, tn) p 0 true true 0 (GPs 1 3 D K (w, t, al, m, N, nu, tn) p))
/-- what the loop gives back -/
def GPL (D : pD) (K : pK) (S : pS) (p bP nP : Nat) (fi : Nat → Int32) (fp : Nat → Option Nat) (ft : Nat → Int32) : pGd := fun cz x v S2 p2 => x = some bP ∧ v = i_ nP ∧ (∃ (k : Nat) (l : List (Nat × Nat × Nat)) (f a : Option Nat) (fT c : Int32) (d2 e1 : Nat), (LSz (vw S2.1 S2.2.1) S2.2.2.2.2.2.2 S2.2.2.2.2.2.1 k (oN K 3 p e1) l f fT ∧ ECz (vw S2.1 S2.2.1) S2.2.2.2.2.2.2 S2.2.2.2.2.2.1 k (oA K e1 p2) d2 a c) ∧ OWc S2 bP fi (up_ (up_ fp 3 f) 4 a) ∧ OWt S2 nP (up_ (up_ ft 28 fT) 29 c) ∧ (dsum l + d2 + p ≤ p2 ∧ dsum l + d2 = cz ∧ p ≤ e1 ∧ e1 < p2)) ∧ kk K (p2 - 1) = 74 ∧ (S2.2.2.2.1 + 4 * p + 2 ≤ S.2.2.2.1 + 4 * p2 ∧ S2.2.2.2.2.1 + 4 * p + 2 ≤ S.2.2.2.2.1 + 4 * p2)
section PRO
variable {ex et : List Nat} {S S' S0 SA : pS} {D : pD} {K : pK} {p p0 q o o' oA dl m N n n2 b b2 lo hi lo2 hi2 r d d2 dd g pA pB nP bP : Nat} {w t w' : wS} {al : List Nat} {nu : pNz} {tn : Nat → Prop} {E E' : zE} {L L' : Nat} {ol : pOL} {f : Option Nat} {fT x1 x2 : Int32} {Q : kx_Rs → wS → Prop} {fi : Nat → Int32} {fp : Nat → Option Nat} {ft : Nat → Int32} {br : Bool} {lo1 : Int} {Φ : kx_Rs → wS → kx_Rs → wS → Prop} {bl : Option Nat} {gt : pQ}
theorem bAc_70 {k : Int} (h : bAc k = false) : k ≠ 70 ∧ k ≠ 28 ∧ k ≠ 29 ∧ k ≠ 26 ∧ k ≠ 20 ∧ k ≠ 11 ∧ k ≠ 5 ∧ k ≠ 35 ∧ k ≠ 22 ∧ k ≠ 1 := by
  simp only [bAc, Bool.or_eq_false_iff, decide_eq_false_iff_not] at h
  omega
/-- MeetingHouse wants an action where none begins -/
theorem c_actBad {A : (kx_Rs → wS → Prop) → Option Nat → wS → Prop} (hΦ : STP D K S0 br lo1 Φ) (hL : 400 ≤ L) (hm : m < 11000) (H : HY D K ex et S0 (w, t, al, m, N, nu, tn) p q o o') (hno : bAc (kk K p) = false) (h : ∀ w', FX w w' → eS gt (fun r' t' => TLP D K S0.1 S0.2.1 br lo1 (fl2 w' 2 (kln K p)) r' t')) : PS (fun Q => zw D.1 L kt_M160 [.ref (w_adr D.1.2.1 4 0), .int (i_ d)] w (wkr (A Q) (fun e w => Q (.inr e) w))) gt Φ := by
  have hpl := H.1.ca.lt
  obtain ⟨n0, n1, n2, n3, n4, n5, n6, n7, n8, n9⟩ := bAc_70 hno
  refine PS_l (fun Q h => zt_X5_action_p0 (by omega) h) ?_
  simp only [zb_X5_action_p0]
  refine PS_cn (by omega) hm H (fun b al' w2 H1 HF O1 hb hb0 => ?_)
  refine PS_l1 (fun Q hq => c_isName (by omega) H1.1.ca hq) ?_
  rw [decide_eq_false n0]
  refine PS_lp rfl ?_
  have hC := H1.1.ca
  obtain ⟨l2, l3, l4, l5, l6⟩ := hC.1.1.2.1
  have hA := hC.1.1.1
  simp only [H1.cpos, l2, l3, i_nat' (show p < 2147483648 by omega), hC.ty]
  refine PS_land (i_inb' (by omega) (by omega)) ?_
  have hstop : ∀ {B : (kx_Rs → wS → Prop) → wS → Prop}, PS (fun Q => zw D.1 (L - 20) kt_M213 [.ref (w_adr D.1.2.1 4 0)] w2 (wk0 (B Q) (fun e w => Q (.inr e) w))) gt Φ := fun {B} => PS_lx0 (fun Q hq => c_unfit (by omega) hC hq) (PSg_stop hΦ (h w2 HF.1.1))
  have h09 := hC.1.2.2.2.2.2 p hC.2.2
  by_cases h0 : (kA K p).1.1 = 0
  · refine PS_lp (by rw [h0]) ?_
    have hs : w_a w2 1 0 3 p = i_ (kk K p) ∧ 0 ≤ kk K p ∧ kk K p < 36 := by
      rcases hC.kkc with h | h | h | h | h | h | h | h | h
      · exact ⟨h.2.1, h.2.2.1, h.2.2.2⟩
      all_goals omega
    simp only [zb_X5_action_p45, H1.cpos, l3, i_nat' (show p < 2147483648 by omega), hs.1]
    refine PS_land (i_inb' (by omega) (by omega)) ?_
    have ne : ∀ c : Int, -1000 ≤ c ∧ c ≤ 1000 → kk K p ≠ c → i_ (kk K p) ≠ i_ c := fun c hc hn e => hn ((i_eq (by omega) (by omega)).mp e)
    refine PS_ln (ne 1 (by decide) n9) (PS_ln (ne 5 (by decide) n6) (PS_ln (ne 11 (by decide) n5) (PS_ln (ne 20 (by decide) n4) (PS_ln (ne 22 (by decide) n8) (PS_ln (ne 26 (by decide) n3) (PS_ln (ne 28 (by decide) n1) (PS_ln (ne 29 (by decide) n2) (PS_ln (ne 35 (by decide) n7) ?_))))))))
    exact PS_lx0 (fun Q hq => c_unfit (by omega) hC hq) (PSg_stop hΦ (h w2 HF.1.1))
  · refine PS_ln (eo_ne hA (by omega) (by omega) h0) ?_
    exact PS_lx0 (fun Q hq => c_unfit (by omega) hC hq) (PSg_stop hΦ (h w2 HF.1.1))
theorem i_le20 (h : d ≤ 20) : (i_ d : Int32) ≤ 20 := by
  have : ∀ x : Fin 21, (i_ (x.1 : Nat) : Int32) ≤ 20 := by decide
  exact this ⟨d, by omega⟩
theorem lt_stop (h : LTs D K dl S0 w' t) (hL : 400 ≤ L) : eS (fun Q => zw E' L kt_M545 [.ref (w_adr E'.2.1 12 0), .int (i_ 2)] t (wkr (fun v2 w1 => wle t w1 → (v2 = some (w_adr E'.2.1 13 0) ∧ Q (.inr HT_) w1)) (fun e w => Q (.inr e) w))) (fun r' t' => TLP D K S0.1 S0.2.1 br lo1 w' r' t') := by
  obtain ⟨p, h1, h2, h3, h4, h5⟩ := h.2.2
  exact eS_l (fun Q hq => t_throw (no := 2) (e := "") (by omega) h2 (h2.kr h.1.2) (by rw [if_neg h3.1]; exact hq)) (LTs.thr ⟨h.1, h.2.1⟩ h1)
theorem dd_p89 (hd9 : d ≤ 800) (hL : 1000 ≤ L') (h : DDs D K S0 w' t) : eS (fun Q => zb_X13_process_p89 E' L' Q (i_ d) x1 t) (fun r' t' => TLP D K S0.1 S0.2.1 br lo1 w' r' t') := by
  simp only [zb_X13_process_p89, zb_X13_process_p107]
  refine dd_isAt (d := d) h (by omega) (by omega) (fun b => ?_)
  cases b with
  | false => exact eS_p rfl (dd_stop (no := 2) h (by omega))
  | true =>
    refine eS_n (by decide) ?_
    refine eS_1 (fun Q hq => t_look (by omega) h.2.2.1 hq) ?_
    rw [h.2.2.2.1]
    refine eS_1 (fun Q hq => t_acts (v := 76) (by omega) (by decide) hq) ?_
    exact eS_n (fun h => h rfl) (dd_stop (no := 2) h (by omega))
theorem dd_pr_loop {nl : Int32} (hd9 : d ≤ 800) (hL : 1000 ≤ L') (h : DDs D K S0 w' t) : eS (fun Q => zL_X13_process_p23 E' L' Q (i_ d) x1 nl t) (fun r' t' => TLP D K S0.1 S0.2.1 br lo1 w' r' t') := by
  refine eS_l (fun Q h => zt_X13_process_p23 (by omega) h) ?_
  simp only [zb_X13_process_p23]
  refine dd_isAt (d := d) h (by omega) (by omega) (fun b => ?_)
  cases b with
  | false => exact eS_p rfl (dd_p89 hd9 hL h)
  | true =>
    refine eS_n (by decide) ?_
    refine eS_1 (fun Q hq => t_look (by omega) h.2.2.1 hq) ?_
    rw [h.2.2.2.1]
    refine eS_1 (fun Q hq => t_declares (v := 76) (by omega) (by decide) hq) ?_
    exact eS_p rfl (dd_p89 hd9 hL h)
theorem lt_pr_loop {nl : Int32} (hd9 : d ≤ 800) (hdl : d ≤ dl) (hL : 1000 ≤ L') (h : LTs D K dl S0 w' t) : eS (fun Q => zL_X13_process_p23 E' L' Q (i_ d) x1 nl t) (fun r' t' => TLP D K S0.1 S0.2.1 br lo1 w' r' t') := by
  refine eS_l (fun Q h => zt_X13_process_p23 (by omega) h) ?_
  simp only [zb_X13_process_p23]
  refine eS_1 (fun Q hq => h.isAt (d := d) hdl (by omega) (by omega) hq) (eS_p rfl ?_)
  simp only [zb_X13_process_p89, zb_X13_process_p107]
  refine eS_1 (fun Q hq => h.isAt (d := d) hdl (by omega) (by omega) hq) (eS_p rfl ?_)
  exact lt_stop h (by omega)
theorem p_pr_loop {G : Nat} (ID : DCq D K E' G) (IHP : PRq D K E' G) (hd20 : d ≤ 20) (hL : dex d ≤ L) (hL' : dex d ≤ L') (hnP : nP < SA.2.2.2.2.1 ∧ nP < 14000) (hbP : bP ∈ SA.2.2.1.take SA.2.2.2.1 ∧ SA.2.2.2.2.2.1 bP = none) (f4 : fp 4 = none) (t29 : ft 29 = -1) : ∀ g w t al m N nu tn p f fT bl nl dd hi, K.length ≤ p + g → K.length ≤ p + 1 + G → HY D K [bP] [nP] (cb SA dd) (w, t, al, m, N, nu, tn) p p 0 0 → LQ anyk D (w, t, al, m, N, nu, tn) SA.2.2.2.2.1 hi (oN K 3 pA p) f fT bl nl none dd → OWc (w, t, al, m, N, nu, tn) bP fi (up_ fp 3 f) → OWt (w, t, al, m, N, nu, tn) nP (up_ ft 28 fT) → hi ≤ N → (∀ a, bl = some a → a ∉ SA.2.2.1.take SA.2.2.2.1) → (p = 0 ∨ kk K (p - 1) = 74) → (pA ≤ p ∧ dd + pA ≤ p) → (m ≤ 4 * p + 6 ∧ N ≤ 4 * p + 6) → (m + 4 * pA ≤ SA.2.2.2.1 + 4 * p ∧ N + 4 * pA ≤ SA.2.2.2.2.1 + 4 * p) → bAt K p d = true → bBe 0 (kk K p) = true → PS (fun Q => zL_X5_process_p34 D.1 L Q (i_ d) (some bP) bl w) (fun Q => zL_X13_process_p23 E' L' Q (i_ d) (i_ nP) nl t) (PRd D K d [bP] [nP] SA pA 0 true true 0 (GPL D K SA pA bP nP fi fp ft)) := by
  have hLa : dex d ≤ L - 23 + 40 := by omega
  have hLa' : dex d ≤ L' - 24 + 40 := by omega
  have hLd' : dex d ≤ L' - 25 + 40 := by omega
  unfold dex at hL hL'
  have h22 : 400 ≤ L' - 22 := by omega
  have hL9 : 1000 ≤ L' := by omega
  intro g
  induction g with
  | zero =>
    intro w t al m N nu tn p f fT bl nl dd hi hg _ H
    have := H.1.ca.2.2
    omega
  | succ g ih =>
    intro w t al m N nu tn p f fT bl nl dd hi hg hG H hQ hO hT hhi hb0 h74 hpp hmN hbd hA hbb0
    have hpl := H.1.ta.lt
    have hal := H.alive
    have hkr := H.1.ta.kr H.1.krg
    have hSA : SA.2.2.2.2.1 ≤ N := H.2.2.1.2.2.1
    have hΦ : STL D K d SA true 0 (PRd D K d [bP] [nP] SA pA 0 true true 0 (GPL D K SA pA bP nP fi fp ft)) := STL.of
    have hΦS := hΦ
    have hΦ := hΦ.cb (c := dd)
    refine PS_of (fun Q h => zt_X5_process_p34 (by omega) h) (fun Q h => zt_X13_process_p23 (by omega) h) ?_
    simp only [zb_X5_process_p34, zb_X13_process_p23, i_nat' (show nP < 2147483648 by omega)]
    refine PS_l1 (fun Q hq => c_beginsDeclaration (by omega) H.1.ca hq) ?_
    refine PS_r1 (fun Q hq => t_isAt (d := d) (by omega) H.1.ta H.1.krg (by omega) hq) ?_
    rw [hA]
    refine PS_rn (by decide) ?_
    refine PS_r1 (fun Q hq => t_look (by omega) H.1.ta hq) ?_
    refine PS_r1 (fun Q hq => t_declares (by omega) (by omega) hq) ?_
    cases hDe : bDe (kk K p) with
    | false =>
      refine PS_lp rfl (PS_rp rfl ?_)
      simp only [zb_X13_process_p89, i_nat' (show nP < 2147483648 by omega)]
      refine PS_r1 (fun Q hq => t_isAt (d := d) (by omega) H.1.ta H.1.krg (by omega) hq) ?_
      rw [hA]
      refine PS_rn (by decide) ?_
      refine PS_r1 (fun Q hq => t_look (by omega) H.1.ta hq) ?_
      refine PS_r1 (fun Q hq => t_acts (by omega) (by omega) hq) ?_
      have hAc : bAc (kk K p) = true := by
        have h : (bDe (kk K p) || bAc (kk K p)) = true := hbb0
        rw [hDe] at h
        exact h
      rw [hAc]
      refine PS_rp (by decide) ?_
      obtain ⟨nu', tn', k0, HD, ⟨l0, hl0, hdd0, -, -⟩, hnu⟩ := hQ.done H hb0 (Nat.le_refl _)
      have O1 : OWc (w, t, al, m, N, nu', tn') bP fi (up_ fp 3 f) := ⟨⟨hO.1.1, HD.nuP hbP⟩, hO.2⟩
      have T1 : OWt (w, t, al, m, N, nu', tn') nP (up_ ft 28 fT) := ⟨⟨hT.1.1, fun e => (hnu.2.2 nP e).elim hT.1.2 (fun h => by omega)⟩, hT.2⟩
      refine PSh_cG (dl1 := d) (gc1 := fun Q => zw D.1 (L - 23) kt_M160 [.ref (w_adr D.1.2.1 4 0), .int (i_ d)] w Q) (gt1 := fun Q => zw E' (L' - 24) kt_M346 [.ref (w_adr E'.2.1 12 0), .int (i_ d)] t Q) (Kc := fun Q => wkr (fun v4 w3 => wle w w3 → (∃ p5, some bP = some p5 ∧ w_l w3 D.1.2.1 14 p5 ∧ Q (.inl (some (va_rf (some bP)))) (ws_p w3 14 p5 4 v4))) (fun e w => Q (.inr e) w)) (Kt := fun Q => wk1 (fun v8 w7 => wle t w7 → (kx_inb (i_ nP) (w_n w7 12 0 29) = true ∧ Q (.inl (some (.int (i_ nP)))) (ws_a w7 12 0 29 nP v8))) (fun e w => Q (.inr e) w)) (A := fun Q v4 w3 => (∃ p5, some bP = some p5 ∧ w_l w3 D.1.2.1 14 p5 ∧ Q (.inl (some (va_rf (some bP)))) (ws_p w3 14 p5 4 v4))) (B := fun Q v8 w7 => (kx_inb (i_ nP) (w_n w7 12 0 29) = true ∧ Q (.inl (some (.int (i_ nP)))) (ws_a w7 12 0 29 nP v8))) (bl1 := true) (br1 := true) (ex' := []) (et' := []) hΦ HD.1.krg HD.2 (PW_ps (p_action IHP hd20 hLa hLa' HD.1 hG ⟨by omega, by omega⟩ hAc)) (fun a h => absurd h List.not_mem_nil) (fun n h => absurd h List.not_mem_nil) (fun _ _ _ a => wkr_k a) (fun _ _ _ a => fun _ => a) (fun _ _ _ a => a) (fun _ _ _ a => a) (fun x v w2 t2 al2 m2 N2 nu2 tn2 p2 cz H2 HS2 hbd2 hgx => ?_) (fun v w2 t2 hv hv2 hd => ?_) (fun v w2 t2 hv hv2 hd => ?_)
      · obtain ⟨b3, n3, d3, rfl, rfl, hP3, hX3, hc3, e74b, hsl, hd3, rfl⟩ := hgx
        have hsl : m2 + 4 * p + 2 ≤ m + 4 * p2 ∧ N2 + 4 * p + 2 ≤ N + 4 * p2 := hsl
        have hpl2 := H2.1.ta.lt
        have hN2 : N ≤ N2 := HS2.2.2.1.2.2.1
        have O2 := O1.fr HS2.2 List.not_mem_nil
        have T2 := T1.fr HS2.2 List.not_mem_nil
        have hvf := VWa.fr HD.1 HS2.2 (fun _ h => absurd h List.not_mem_nil) (fun _ h => absurd h List.not_mem_nil)
        have hl2 := LPz.up (k' := 0) hvf HS2.2.2.2.2.2.1.1 HS2.2.2.2.2.2.1.2.1 (Nat.le_refl _) hl0
        have hbp3 : bP ≠ b3 := fun e => hc3 (by rw [← e]; exact hO.1.1.1)
        have hc0 : b3 ∉ SA.2.2.1.take SA.2.2.2.1 := fun e => hc3 (HD.2.sub e)
        obtain ⟨x10, tn10, r10, H10, hC10, hm3, hm4, hn10⟩ := H2.fin hP3 hc0 hSA
        have O10 := O2.fin (x := x10) (tn' := tn10) hbp3
        have T10 := T2.fin (nu' := nuU nu2 b3 x10) hm4 (.inl (by show nP < N; omega))
        refine PS_lex bP rfl (PS_land (O10.wl H10.1) ?_)
        refine PS_rand (by rw [H10.1.tl.2.2.2.1]; exact i_inb' (by omega) (by omega)) ?_
        have HE := (H10.wp (k := 4) (v := some b3) O10.1.2 (fun _ => List.mem_singleton_self bP) (LKO.mk hP3.bm.1 hX3.2.2 hc0)).ta (k := 29) (n := nP) (v := i_ n3) rfl T10.1.2 (fun _ => List.mem_singleton_self nP)
        have OE : OWc (ws_p w2 14 bP 4 (some b3), ws_a t2 12 0 29 nP (i_ n3), al2, m2, N2, nuU nu2 b3 x10, tn10) bP _ _ := O10.sp (k := 4) (v := some b3)
        have TE : OWt (ws_p w2 14 bP 4 (some b3), ws_a t2 12 0 29 nP (i_ n3), al2, m2, N2, nuU nu2 b3 x10, tn10) nP _ := T10.si (k := 29) (v := i_ n3)
        have hvw := VWa.mk (w := w2) (t := t2) (w' := ws_p w2 14 bP 4 (some b3)) (t' := ws_a t2 12 0 29 nP (i_ n3)) (b := bP) (n := nP) (fun a h k => by simp only [nx, Rii, Rgi, Rpi, Rai, Rbi, Rri, Rni, Rdi, Roi, Rti, Rzi, RCi, RSi, Rip, Rgp, Rpp, Rap, Rbp, Rrp, Rnp, Rdp, Rop, Rtp, Rzp, RCp, RSp]; simp [h]) (fun y h k => by simp only [nx3, nd3, Rii, Rgi, Rpi, Rai, Rbi, Rri, Rni, Rdi, Roi, Rti, Rzi, RCi, RSi, Ria, Rga, Rpa, Raa, Rba, Rra, Rna, Rda, Roa, Rta, Rza, RCa, RSa]; simp [h]) rfl O10.1.2 T10.1.2
        have hlE := LPz.up (k' := 0) hvw (fun _ _ h => h) (fun _ h => h) (Nat.le_refl _) (LPz.up (k' := 0) (V' := vw w2 t2) ⟨fun _ _ => ⟨rfl, rfl⟩, fun _ _ _ _ => rfl, rfl⟩ (nle_nuU hn10) hm3 (Nat.le_refl _) hl2)
        exact PS_ret (.inr ⟨some bP, i_ nP, al2, m2, N2, nuU nu2 b3 x10, tn10, p2, _, rfl, rfl, HE.cc, ⟨by omega, by omega, by omega⟩, rfl, rfl, ⟨0, l0, f, some b3, fT, i_ n3, d3, p, ⟨hlE, b3, n3, rfl, rfl, hC10.up hvw (fun _ _ h => h) (fun _ h => h) (Nat.le_refl _)⟩, OE, TE, by omega⟩, e74b, ⟨by show m2 + _ + 2 ≤ _; omega, by show N2 + _ + 2 ≤ _; omega⟩⟩)
      · refine eS_and (by rw [hd.2.2.tl.2.2.2.1]; exact i_inb' (by omega) (by omega)) ?_
        exact (hd.ta rfl).ret rfl ⟨by omega, by omega⟩
      · refine eS_and (by rw [hd.tl.2.2.2.1]; exact i_inb' (by omega) (by omega)) ?_
        exact (hd.ta rfl).ret rfl ⟨by omega, by omega⟩
    | true =>
      refine PS_ln (by decide) (PS_rn (by decide) (PS_rp (show (i_ d : Int32) ≤ 20 from ?_) ?_))
      · exact (i_le20 hd20)
      refine PSh_c11 hΦ H.2 H.1.krg (ID (L - 23) (L' - 25) _ _ _ _ _ _ _ p d hLa hLd' hd20 H.1 h74 hG ⟨by omega, by omega⟩ hDe) (fun a h => absurd h List.not_mem_nil) (fun a h => absurd h List.not_mem_nil) (fun x v w3 t3 al3 m3 N3 nu3 tn3 p3 cz H3 HS3 hbd3 hgx => ?_) (fun v w2 t2 hv hv2 hdd => ?_) (fun v w2 t2 hv hv2 hdd => ?_)
      · obtain ⟨b3, n3, d3, rfl, rfl, hP3, hX3, hc3, e74b, hb3, hd3, rfl⟩ := hgx
        have hP3 : PND D (w3, t3, al3, m3, N3, nu3, tn3) N N3 (oN K 3 p p3) b3 n3 d3 := hP3.wk
        have hb3 : m3 + 4 * p + 1 ≤ m + 4 * p3 ∧ N3 + 4 * p + 1 ≤ N + 4 * p3 := hb3
        have F := HS3.2
        have H3 := H3.cc
        have hpl3 := H3.1.ta.lt
        have hkr3 := H3.1.ta.kr H3.1.krg
        have hal3 := H3.alive
        have hQ3 := hQ.fr H.1 F (fun a h => absurd h List.not_mem_nil) (fun a h => absurd h List.not_mem_nil)
        have O3 := hO.fr F List.not_mem_nil
        have T3 := hT.fr F List.not_mem_nil
        have hn3 := hP3.lt
        have hn3N : n3 < N3 := hn3.1
        have hbb : bl ≠ some b3 := by
          rcases hQ.nlb H.1 with ⟨e, -⟩ | ⟨b, n, e, -, g1, -⟩
          · rw [e]; simp
          · rw [e]
            intro e2
            cases e2
            exact hc3 g1.1
        have hbp3 : bP ≠ b3 := fun e => hc3 (by rw [← e]; exact hO.1.1.1)
        have hc0 : b3 ∉ SA.2.2.1.take SA.2.2.2.1 := fun e => hc3 (H.2.sub e)
        refine PSq_behind (by omega) H3 hQ3 hb0 (LKO.mk hP3.bm.1 hX3.2.2 hc0) (fun w4 hw4 H4 hQ4 => ?_)
        have O4 := O3.bho hw4 (fun e => hb0 bP e hbP.1) (fun e => hbp3 (Option.some.inj e).symm)
        have hPX : PND D (w4, t3, al3, m3, N3, nu3, tn3) N N3 (oN K 3 p p3) b3 n3 d3 ∧ NXo (w4, t3, al3, m3, N3, nu3, tn3) b3 n3 := by
          rcases hw4 with e | ⟨a, ea, e⟩
          · rw [e]
            exact ⟨hP3, hX3.xo⟩
          · have hna : nu3 a = none := by
              rcases hQ3.nlb H3.1 with ⟨e', -⟩ | ⟨b, n, e', -, g1, -⟩
              · rw [e'] at ea; cases ea
              · rw [e'] at ea
                cases ea
                exact g1.2
            have hab : a ≠ b3 := fun z => hbb (by rw [ea, z])
            rw [e]
            refine ⟨hP3.wo hna hab, ?_, hX3.2.1⟩
            show w_p (ws_p w3 14 a 7 (some b3)) 14 b3 7 = none
            rw [Rpp, if_neg (fun z => hab z.2.2.symm)]
            exact hX3.1
        have hnb := hQ4.nlb H4.1
        refine PS_lex bP rfl (PS_land (O4.wl H4.1) ?_)
        have r3 : w_p w4 14 bP 3 = f := O4.2.2 3 rfl
        have tail : ∀ w5 f' fT', ((bl = none ∧ f' = some b3 ∧ fT' = i_ n3) ∨ (bl ≠ none ∧ f' = f ∧ fT' = fT)) → HY D K [bP] [nP] (cb SA (dd + d3)) (w5, t3, al3, m3, N3, nu3, tn3) p3 p3 0 0 → LQ anyk D (w5, t3, al3, m3, N3, nu3, tn3) SA.2.2.2.2.1 hi (oN K 3 pA p) f fT bl nl (some b3) dd → PND D (w5, t3, al3, m3, N3, nu3, tn3) N N3 (oN K 3 p p3) b3 n3 d3 ∧ NXo (w5, t3, al3, m3, N3, nu3, tn3) b3 n3 → OWc (w5, t3, al3, m3, N3, nu3, tn3) bP fi (up_ fp 3 f') → PS (fun Q => zb_X5_process_p63 D.1 L Q (i_ d) (some bP) (some b3) w5) (fun Q => zw E' (L' - 22) kt_M368 [.ref (w_adr E'.2.1 12 0), .int nl, .int (i_ n3)] t3 (wk1 (fun v6 w5 => wle t3 w5 → (kx_inb (i_ nP) (w_n w5 12 0 28) = true ∧ (if ¬ w_a w5 12 0 28 nP = (-1) then zb_X13_process_p86 E' L' Q (i_ d) (i_ nP) v6 w5 else (kx_inb (i_ nP) (w_n w5 12 0 28) = true ∧ zb_X13_process_p86 E' L' Q (i_ d) (i_ nP) v6 (ws_a w5 12 0 28 nP (i_ n3)))))) (fun e w => Q (.inr e) w))) (PRd D K d [bP] [nP] SA pA 0 true true 0 (GPL D K SA pA bP nP fi fp ft)) := by
          intro w5 f' fT' hf' H5 hQ5 hPX5 O5
          have T5 : OWt (w5, t3, al3, m3, N3, nu3, tn3) nP (up_ ft 28 fT) := T3
          have hf2 := hf'
          refine PSq_chain (f2 := f') (fT2 := fT') (by omega) hQ5 H5 hPX5.1 hPX5.2 hbb hhi hSA (.inr rfl) hb0 (Nat.le_refl _) trivial hf' (fun t6 nu6 tn6' nx hnx H6 hQ6 hA6 => ?_)
          have T6 := hA6.owt T5 hnP.1 hnx
          have r28 : w_a t6 12 0 28 nP = fT := T6.2 28 rfl
          refine PS_rand (by rw [H6.1.tl.2.2.1]; exact i_inb' (by omega) (by omega)) ?_
          have more : ∀ t7, HY D K [bP] [nP] (cb SA (dd + d3)) (w5, t7, al3, m3, N3, nu6, tn6') p3 p3 0 0 → LQ anyk D (w5, t7, al3, m3, N3, nu6, tn6') SA.2.2.2.2.1 N3 (oN K 3 pA p3) f' fT' (some b3) (i_ n3) none (dd + d3) → OWt (w5, t7, al3, m3, N3, nu6, tn6') nP (up_ ft 28 fT') → PS (fun Q => zb_X5_process_p63 D.1 L Q (i_ d) (some bP) (some b3) w5) (fun Q => zb_X13_process_p86 E' L' Q (i_ d) (i_ nP) (i_ n3) t7) (PRd D K d [bP] [nP] SA pA 0 true true 0 (GPL D K SA pA bP nP fi fp ft)) := by
            intro t7 H7 hQ7 T7
            have O7 : OWc (w5, t7, al3, m3, N3, nu6, tn6') bP fi (up_ fp 3 f') := ⟨⟨O5.1.1, H7.nuP hbP⟩, O5.2⟩
            simp only [zb_X5_process_p63, zb_X13_process_p86]
            by_cases eA : bAt K p3 d = true
            · refine PS_l0 (fun Q hq => c_stands2 (by omega) H7.1.ca (by omega) (.inr e74b) (fun h => by rw [eA] at h; cases h) (fun _ => hq)) ?_
              have H8 := H7.co (u := 0) (by omega)
              have H7' : HY D K [] [] (w5, t7, al3, m3, N3, nu6, tn6') (w5, t7, al3, m3, N3, nu6, tn6') p3 p3 0 0 := ⟨H7.1, FR.rf H7.1.mle⟩
              have F8 := (H7'.co (u := 0) (by omega)).2
              have hQ8 := hQ7.fr H7.1 F8 (fun a h => absurd h List.not_mem_nil) (fun a h => absurd h List.not_mem_nil)
              have O8 := O7.fr F8 List.not_mem_nil
              have T8 := T7.fr F8 List.not_mem_nil
              cases hB3 : bBe 0 (kk K p3) with
              | true => exact ih (ws_i w5 4 0 4 0) t7 al3 m3 N3 nu6 tn6' p3 f' fT' (some b3) (i_ n3) (dd + d3) N3 (by omega) (by omega) H8 hQ8 O8 T8 (Nat.le_refl _) (fun a e => by cases e; exact hc0) (.inr e74b) ⟨by omega, by omega⟩ ⟨by omega, by omega⟩ ⟨by omega, by omega⟩ eA hB3
              | false =>
                have hBx : bDe (kk K p3) = false ∧ bAc (kk K p3) = false := by
                  have h : (bDe (kk K p3) || bAc (kk K p3)) = false := hB3
                  simpa using h
                refine PS_l (fun Q h => zt_X5_process_p34 (by omega) h) ?_
                simp only [zb_X5_process_p34]
                refine PS_l1 (fun Q hq => c_beginsDeclaration (by omega) H8.1.ca hq) ?_
                rw [hBx.1]
                refine PS_lp rfl ?_
                refine c_actBad (hΦS.cb (c := dd + d3)).stp (by omega) (by omega) H8 hBx.2 (fun w' hf => ?_)
                refine eS_l (fun Q h => zt_X13_process_p23 (by omega) h) ?_
                simp only [zb_X13_process_p23]
                refine eS_1 (fun Q hq => t_isAt (d := d) (by omega) H8.1.ta H8.1.krg (by omega) hq) ?_
                rw [eA]
                refine eS_n (by decide) ?_
                refine eS_1 (fun Q hq => t_look (by omega) H8.1.ta hq) ?_
                refine eS_1 (fun Q hq => t_declares (by omega) (by omega) hq) ?_
                rw [hBx.1]
                refine eS_p rfl ?_
                simp only [zb_X13_process_p89, zb_X13_process_p107]
                refine eS_1 (fun Q hq => t_isAt (d := d) (by omega) H8.1.ta H8.1.krg (by omega) hq) ?_
                rw [eA]
                refine eS_n (by decide) ?_
                refine eS_1 (fun Q hq => t_look (by omega) H8.1.ta hq) ?_
                refine eS_1 (fun Q hq => t_acts (by omega) (by omega) hq) ?_
                rw [hBx.2]
                refine eS_n (fun h => h rfl) ?_
                exact eS_l (fun Q hq => t_throw (no := 2) (e := "") (by omega) H8.1.ta hkr3 hq) (TLP_two H8 hf frm.rf hal3)
            · have e' : bAt K p3 d = false := by simpa using eA
              refine PS_lx0 (fun Q hq => c_stands2 (by omega) H7.1.ca (by omega) (.inr e74b) (fun _ => hq) (fun h => absurd h eA)) (PSg_stop (hΦS.cb (c := dd + d3)).stp ?_)
              refine eS_l (fun Q h => zt_X13_process_p23 (by omega) h) ?_
              simp only [zb_X13_process_p23]
              refine eS_1 (fun Q hq => t_isAt (d := d) (by omega) H7.1.ta H7.1.krg (by omega) hq) ?_
              rw [e']
              refine eS_p rfl ?_
              simp only [zb_X13_process_p89, zb_X13_process_p107]
              refine eS_1 (fun Q hq => t_isAt (d := d) (by omega) H7.1.ta H7.1.krg (by omega) hq) ?_
              rw [e']
              refine eS_p rfl ?_
              exact eS_l (fun Q hq => t_throw (no := 2) (e := "") (by omega) H7.1.ta hkr3 hq) (TLP_two H7 FX.rf frm.rf hal3)
          rcases hf2 with ⟨g1, g2, g3⟩ | ⟨g1, g2, g3⟩
          · have efT : fT = -1 := by
              rcases hnb with ⟨-, -, -, e, -⟩ | ⟨b, n, e, -⟩
              · exact e
              · rw [g1] at e; cases e
            refine PS_rn (by rw [r28, efT]; exact fun h => h rfl) (PS_rand (by rw [H6.1.tl.2.2.1]; exact i_inb' (by omega) (by omega)) ?_)
            have H7 := H6.ta (k := 28) (n := nP) (v := i_ n3) rfl T6.1.2 (fun _ => List.mem_singleton_self nP)
            have F7 := ((show HY D K [] [nP] _ (w5, t6, al3, m3, N3, nu6, tn6') p3 p3 0 0 from ⟨H6.1, FR.rf H6.1.mle⟩).ta (k := 28) (n := nP) (v := i_ n3) rfl T6.1.2 (fun _ => List.mem_singleton_self nP)).2
            have hQ7 := hQ6.fr H6.1 F7 (fun a h => absurd h List.not_mem_nil) (fun y hy => by rw [List.mem_singleton.mp hy]; exact ⟨hnP.1, T6.1.2⟩)
            exact more _ H7 hQ7 (by rw [g3]; exact (T6.si (k := 28) (v := i_ n3)).up2)
          · have efT : fT ≠ -1 := by
              rcases hnb with ⟨e, -⟩ | ⟨b, n, -, -, -, -, n0, e, hn0⟩
              · exact absurd e g1
              · rw [e]
                have hn0 : n0 < N3 := hn0
                exact i_ne1 (by omega)
            refine PS_rp (by rw [r28]; exact efT) ?_
            exact more _ H6 hQ6 (by rw [g3]; exact T6)
        rcases hnb with ⟨g1, g2, g3, g4, g5⟩ | ⟨b, n, g1, g2, g3, ⟨f0, g4⟩, g5⟩
        · refine PS_ln (not_not_intro (r3.trans g3)) ?_
          have hna := O4.1.2
          have H5 := H4.wp (k := 3) (v := some b3) hna (fun _ => List.mem_singleton_self bP) (LKO.mk hP3.bm.1 (show NRw w4 (al3.take m3) b3 from hw4.elim (fun e => by rw [e]; exact hX3.2.2) (fun ⟨a, ea, _⟩ => by rw [g1] at ea; cases ea)) hc0)
          exact tail _ (some b3) (i_ n3) (.inl ⟨g1, rfl, rfl⟩) H5 (hQ4.oth hna (by rw [g1]; simp)) ⟨hPX.1.wo hna hbp3, by
            show w_p (ws_p w4 14 bP 3 (some b3)) 14 b3 7 = none
            rw [Rpp, if_neg (fun z => hbp3 z.2.2.symm)]
            exact hPX.2.1, hPX.2.2⟩ (O4.sp (k := 3) (v := some b3)).up4
        · refine PS_lp (by rw [r3, g4]; simp) ?_
          exact tail _ f fT (.inr ⟨by rw [g1]; simp, rfl, rfl⟩) H4 hQ4 hPX O4
      · refine eS_chain (by omega) hdd.2.2.tl.2.2.2.2.2.2.1 hQ.nl (fun t' ht' => ?_)
        have hdd := hdd.ch ht'
        refine eS_and (by rw [hdd.2.2.tl.2.2.1]; exact i_inb' (by omega) (by omega)) ?_
        exact eS_ifb (dd_pr_loop (by omega) (by omega) hdd) (eS_and (by rw [hdd.2.2.tl.2.2.1]; exact i_inb' (by omega) (by omega)) (dd_pr_loop (by omega) (by omega) (hdd.ta rfl)))
      · refine eS_mono (show eS _ (fun r' t' => TLP D K (cb SA dd).1 (cb SA dd).2.1 true 0 w2 r' t') from ?_) (fun _ _ h => Or.inl h)
        refine eS_chain (by omega) hdd.tl.2.2.2.2.2.2.1 hQ.nl (fun t' ht' => ?_)
        have hdd := hdd.ch ht'
        refine eS_and (by rw [hdd.tl.2.2.1]; exact i_inb' (by omega) (by omega)) ?_
        exact eS_ifb (lt_pr_loop (by omega) (Nat.le_refl _) (by omega) hdd) (eS_and (by rw [hdd.tl.2.2.1]; exact i_inb' (by omega) (by omega)) (lt_pr_loop (by omega) (Nat.le_refl _) (by omega) (hdd.ta rfl)))
end PRO
