/-! ===== PARSERS, part 58: declarations in a FUNCTION ===== -/
/-- MeetingHouse's function, from VALOF on -/
def fnV (E : zE) (L : Nat) (Q : kx_Rs → wS → Prop) (x1 : Option Nat) (x2 : Int32) (w1 : wS) : Prop := zw E (L - 21) kt_M176 [.ref (w_adr E.2.1 4 0), .int 34] w1 (wk0 (fun w3 => wle w1 w3 → zw E (L - 20) kt_M174 [.ref (w_adr E.2.1 4 0)] w3 (wk0 (fun w5 => wle w3 w5 → zw E (L - 23) kt_M202 [.ref (w_adr E.2.1 4 0), .int (x2 + 2)] w5 (wkr (fun v8 w7 => wle w5 w7 → (∃ p9, x1 = some p9 ∧ w_l w7 E.2.1 14 p9 ∧ zw E (L - 21) kt_M210 [.ref (w_adr E.2.1 4 0), .int (x2 + 2)] (ws_p w7 14 p9 4 v8) (wk0 (fun w10 => wle (ws_p w7 14 p9 4 v8) w10 → zw E (L - 21) kt_M176 [.ref (w_adr E.2.1 4 0), .int 25] w10 (wk0 (fun w12 => wle w10 w12 → zw E (L - 22) kt_M177 [.ref (w_adr E.2.1 4 0)] w12 (wkr (fun v15 w14 => wle w12 w14 → zw E (L - 20) kt_M174 [.ref (w_adr E.2.1 4 0)] (ws_p w14 14 p9 6 v15) (wk0 (fun w16 => wle (ws_p w14 14 p9 6 v15) w16 → zw E (L - 21) kt_M170 [.ref (w_adr E.2.1 4 0), .int x2] w16 (wk0 (fun w18 => wle w16 w18 → Q (.inl (some (va_rf (x1)))) w18) (fun e w => Q (.inr e) w))) (fun e w => Q (.inr e) w))) (fun e w => Q (.inr e) w))) (fun e w => Q (.inr e) w))) (fun e w => Q (.inr e) w)))) (fun e w => Q (.inr e) w))) (fun e w => Q (.inr e) w))) (fun e w => Q (.inr e) w))
section FN1
variable {ex et : List Nat} {S S' S0 S1z SA : pS} {D : pD} {K : pK} {p p0 q o o' oA dl m N n n2 b b2 lo hi lo2 hi2 r d d2 dd g pA pB nP bP : Nat} {w t w' : wS} {al : List Nat} {nu : pNz} {tn : Nat → Prop} {E E' : zE} {L L' : Nat} {ol : pOL} {f : Option Nat} {fT x1 x2 c : Int32} {Q : kx_Rs → wS → Prop} {fi : Nat → Int32} {fp : Nat → Option Nat} {ft : Nat → Int32} {bl br : Bool} {lo1 : Int} {Φ : kx_Rs → wS → kx_Rs → wS → Prop} {gt gc : pQ} {G : pG}
/-- MeetingHouse reads a sign that is there -/
theorem PSg_exl {A : (kx_Rs → wS → Prop) → wS → Prop} {x : Int32} {c v : Int} (hΦ : STP D K S0 br lo1 Φ) (hL : 400 ≤ L) (H : HY D K ex et S0 (w, t, al, m, N, nu, tn) p q o o') (hx : x = i_ c) (hc : wcd c v) (h : kk K p = v) (h5 : kk K p ≠ 75)
    (k : HY D K ex et S0 (nx w p, t, al, m, N, nu, tn) (p + 1) q o o' → PS (fun Q => A Q (nx w p)) gt Φ)
    (kd : ∀ w', DDx K S0 w' → kk K (p + 1) = 76 → eS gt (fun r' t' => TLP D K S0.1 S0.2.1 br lo1 w' r' t')) :
    PS (fun Q => zw D.1 L kt_M176 [.ref (w_adr D.1.2.1 4 0), .int x] w (wk0 (fun w1 => wle w w1 → A Q w1) (fun e w => Q (.inr e) w))) gt Φ := by
  have hp1 := H.p1 h5
  by_cases h76 : kk K (p + 1) = 76
  · exact PS_lx0 (fun Q hq => c_expect (by omega) H.1.ca hx hc (fun h2 => absurd h h2) (fun _ h2 => absurd h76 h2) (fun _ _ => hq)) (PSg_stop hΦ (kd _ (H.ddx hp1 h76 (FX_nx (p := p))) h76))
  · exact PS_l0 (fun Q hq => c_expect (by omega) H.1.ca hx hc (fun h2 => absurd h h2) (fun _ _ => hq) (fun _ h2 => absurd h2 h76)) (k (H.cn h5 h76))
/-- a process that is too deep -/
theorem p_proc21 {A : (kx_Rs → wS → Prop) → Option Nat → wS → Prop} {B : (kx_Rs → wS → Prop) → Int32 → wS → Prop} (hΦ : STP D K S0 br lo1 Φ) (hL : 1000 ≤ L) (hL' : 1000 ≤ L') (hd : 20 < d) (hd9 : d ≤ 1000) (H : HY D K ex et S0 (w, t, al, m, N, nu, tn) p p o o') (h74 : p = 0 ∨ kk K (p - 1) = 74) :
    PS (fun Q => zw D.1 L kt_M202 [.ref (w_adr D.1.2.1 4 0), .int (i_ d)] w (wkr (fun v w1 => wle w w1 → A Q v w1) (fun e w => Q (.inr e) w))) (fun Q => zw E' L' kt_M514 [.ref (w_adr E'.2.1 12 0), .int (i_ d)] t (wk1 (fun v w1 => wle t w1 → B Q v w1) (fun e w => Q (.inr e) w))) Φ := by
  refine PS_of (fun Q h => zt_X5_process_p0 (by omega) h) (fun Q h => zt_X13_process_p0 (by omega) h) ?_
  simp only [zb_X5_process_p0, zb_X13_process_p0, zb_X5_process_p16, zb_X5_process_p21]
  refine PS_l1 (fun Q hq => c_beginsDeclaration (by omega) H.1.ca hq) ?_
  cases hD : bDe (kk K p) with
  | true =>
    refine PS_lp (by decide) ?_
    exact PSg_stand (b := true) (d := d) (how := 0) hΦ (by omega) (by omega) H hd9 h74 rfl (by omega) (by show true = (bDe (kk K p) || bAc (kk K p)); rw [hD]; rfl) (fun _ _ h _ => by omega)
  | false =>
    refine PS_ln (by decide) ?_
    refine PS_l1 (fun Q hq => c_beginsAction (by omega) H.1.ca hq) ?_
    cases hA : bAc (kk K p) with
    | true =>
      refine PS_ln (by decide) ?_
      exact PSg_stand (b := true) (d := d) (how := 0) hΦ (by omega) (by omega) H hd9 h74 rfl (by omega) (by show true = (bDe (kk K p) || bAc (kk K p)); rw [hD, hA]; rfl) (fun _ _ h _ => by omega)
    | false =>
      refine PS_lp rfl ?_
      exact PSg_stand (b := false) (d := d) (how := 0) hΦ (by omega) (by omega) H hd9 h74 rfl (by omega) (by show false = (bDe (kk K p) || bAc (kk K p)); rw [hD, hA]; rfl) (fun _ _ h _ => by omega)
theorem dd_fd {Ct : (kx_Rs → wS → Prop) → Int32 → wS → Prop} {nl : Int32} (hd : d ≤ 100) (hL : 1100 ≤ L') (h : DDs D K S0 w' t) : eS (fun Q => zL_X13_function_p105 E' L' (wk1 (Ct Q) (fun e w => Q (.inr e) w)) x1 (i_ d) nl t) (fun r' t' => TLP D K S0.1 S0.2.1 br lo1 w' r' t') := by
  refine eS_l (fun Q h => zt_X13_function_p105 (by omega) h) ?_
  simp only [zb_X13_function_p105, zb_X13_function_p163, i_add1, i_add2]
  refine dd_isAt h (by omega) (by omega) (fun b => ?_)
  cases b with
  | false => exact eS_p rfl (dd_lineAt (how := 8) h (by omega) (by omega) rfl (by omega))
  | true =>
    refine eS_n (by decide) ?_
    refine eS_1 (fun Q hq => t_look (by omega) h.2.2.1 hq) ?_
    rw [h.2.2.2.1]
    refine eS_1 (fun Q hq => t_declares (v := 76) (by omega) (by decide) hq) ?_
    exact eS_p rfl (dd_lineAt (how := 8) h (by omega) (by omega) rfl (by omega))
theorem lt_fd {Ct : (kx_Rs → wS → Prop) → Int32 → wS → Prop} {nl : Int32} (hd : d ≤ 100) (hdl : d + 1 ≤ dl) (hL : 1100 ≤ L') (h : LTs D K dl S0 w' t) : eS (fun Q => zL_X13_function_p105 E' L' (wk1 (Ct Q) (fun e w => Q (.inr e) w)) x1 (i_ d) nl t) (fun r' t' => TLP D K S0.1 S0.2.1 br lo1 w' r' t') := by
  refine eS_l (fun Q h => zt_X13_function_p105 (by omega) h) ?_
  simp only [zb_X13_function_p105, zb_X13_function_p163, i_add1, i_add2]
  refine eS_1 (fun Q hq => h.isAt (d := d + 1) hdl (by omega) (by omega) hq) (eS_p rfl ?_)
  exact h.lineAt (how := 8) hdl (by omega) (by omega) rfl (by omega)
theorem p_fd_loop {G : Nat} (ID : DCq D K E' G) {C : (kx_Rs → wS → Prop) → Option Nat → wS → Prop} {Ct : (kx_Rs → wS → Prop) → Int32 → wS → Prop} (hΦd : STL D K d SA br lo1 Φ) (hd20 : d + 1 ≤ 20) (hL : dex d ≤ L + 100) (hL' : dex d ≤ L' + 100) (hnP : nP < SA.2.2.2.2.1 ∧ nP < 14000) (hbP : bP ∈ SA.2.2.1.take SA.2.2.2.1 ∧ SA.2.2.2.2.2.1 bP = none)
    (kf : ∀ w2 t2 al2 m2 N2 nu2 tn2 p2 f2 fT2 dd2 k2, HY D K [bP] [nP] (cb SA dd2) (w2, t2, al2, m2, N2, nu2, tn2) p2 p2 0 0 → OWc (w2, t2, al2, m2, N2, nu2, tn2) bP fi (up_ fp 5 f2) → OWt (w2, t2, al2, m2, N2, nu2, tn2) nP ft → w_a t2 12 0 42 nP = fT2 → SLz (vw w2 t2) tn2 nu2 k2 (oN K 3 pB p2) dd2 f2 fT2 → kk K (p2 - 1) = 74 → bAt K p2 (d + 1) = true → (pB ≤ p2 ∧ dd2 + pB ≤ p2) → (m2 ≤ 4 * p2 + 6 ∧ N2 ≤ 4 * p2 + 6) → (m2 + 4 * pB ≤ SA.2.2.2.1 + 4 * p2 ∧ N2 + 4 * pB ≤ SA.2.2.2.2.1 + 4 * p2) → PS (fun Q => fnV D.1 L (wkr (C Q) (fun e w => Q (.inr e) w)) (some bP) (i_ d) w2) (fun Q => zb_X13_function_p163 E' L' (wk1 (Ct Q) (fun e w => Q (.inr e) w)) (i_ nP) (i_ d) t2) Φ) :
    ∀ g w t al m N nu tn p f fT bl nl dd hi, K.length ≤ p + g → K.length ≤ p + 1 + G → HY D K [bP] [nP] (cb SA dd) (w, t, al, m, N, nu, tn) p p 0 0 → LQ anyk D (w, t, al, m, N, nu, tn) SA.2.2.2.2.1 hi (oN K 3 pB p) f fT bl nl none dd → OWc (w, t, al, m, N, nu, tn) bP fi (up_ fp 5 f) → OWt (w, t, al, m, N, nu, tn) nP ft → w_a t 12 0 42 nP = fT → hi ≤ N → (∀ a, bl = some a → a ∉ SA.2.2.1.take SA.2.2.2.1) → kk K (p - 1) = 74 → (pB ≤ p ∧ dd + pB ≤ p) → (m ≤ 4 * p + 6 ∧ N ≤ 4 * p + 6) → (m + 4 * pB ≤ SA.2.2.2.1 + 4 * p ∧ N + 4 * pB ≤ SA.2.2.2.2.1 + 4 * p) → bAt K p (d + 1) = true → PS (fun Q => zL_X5_function_p109 D.1 L (wkr (C Q) (fun e w => Q (.inr e) w)) (some bP) (i_ d) bl w) (fun Q => zL_X13_function_p105 E' L' (wk1 (Ct Q) (fun e w => Q (.inr e) w)) (i_ nP) (i_ d) nl t) Φ := by
  have hLa : Unit → dex (d + 1) ≤ L - 23 + 40 := fun _ => by unfold dex at *; omega
  have hLa' : Unit → dex (d + 1) ≤ L' - 25 + 40 := fun _ => by unfold dex at *; omega
  have hL9 : 2000 ≤ L := by unfold dex at hL; omega
  have hL9' : 2000 ≤ L' := by unfold dex at hL'; omega
  clear hL hL'
  have hΦ := hΦd.stp
  intro g
  induction g with
  | zero =>
    intro w t al m N nu tn p f fT bl nl dd hi hg _ H
    have := H.1.ca.2.2
    omega
  | succ g ih =>
    intro w t al m N nu tn p f fT bl nl dd hi hg hG H hQ hO hT h42 hhi hb0 h74 hpp hmN hbd hA
    have hΦS := hΦd
    have hΦd := hΦd.cb (c := dd)
    have hpl := H.1.ta.lt
    have hal := H.alive
    have hkr := H.1.ta.kr H.1.krg
    have hSA : SA.2.2.2.2.1 ≤ N := H.2.2.1.2.2.1
    refine PS_of (fun Q h => zt_X5_function_p109 (by omega) h) (fun Q h => zt_X13_function_p105 (by omega) h) ?_
    simp only [zb_X5_function_p109, zb_X13_function_p105, i_add1, i_nat' (show nP < 2147483648 by omega)]
    refine PS_l1 (fun Q hq => c_beginsDeclaration (by omega) H.1.ca hq) ?_
    refine PS_r1 (fun Q hq => t_isAt (d := d + 1) (by omega) H.1.ta H.1.krg (by omega) hq) ?_
    rw [hA]
    refine PS_rn (by decide) ?_
    refine PS_r1 (fun Q hq => t_look (by omega) H.1.ta hq) ?_
    refine PS_r1 (fun Q hq => t_declares (by omega) (by omega) hq) ?_
    cases hDe : bDe (kk K p) with
    | false =>
      refine PS_lp rfl (PS_rp rfl ?_)
      obtain ⟨nu', tn', k0, HD, ⟨l0, hl0, hdd0, -, -⟩, hnu⟩ := hQ.done H hb0 (Nat.le_refl _)
      have O1 : OWc (w, t, al, m, N, nu', tn') bP fi (up_ fp 5 f) := ⟨⟨hO.1.1, HD.nuP hbP⟩, hO.2⟩
      have T1 : OWt (w, t, al, m, N, nu', tn') nP ft := ⟨⟨hT.1.1, fun e => (hnu.2.2 nP e).elim hT.1.2 (fun h => by omega)⟩, hT.2⟩
      exact kf w t al m N nu' tn' p f fT dd k0 HD O1 T1 h42 ⟨l0, hl0, hdd0⟩ h74 hA hpp hmN hbd
    | true =>
      refine PS_ln (by decide) (PS_rn (by decide) ?_)
      refine PSh_c11 hΦd H.2 H.1.krg (ID (L - 23) (L' - 25) _ _ _ _ _ _ _ p (d + 1) (hLa ()) (hLa' ()) hd20 H.1 (.inr h74) hG ⟨by omega, by omega⟩ hDe) (fun a h => absurd h List.not_mem_nil) (fun a h => absurd h List.not_mem_nil) (fun x v w3 t3 al3 m3 N3 nu3 tn3 p3 cz H3 HS3 hbd3 hgx => ?_) (fun v w2 t2 hv hv2 hdd => ?_) (fun v w2 t2 hv hv2 hdd => ?_)
      · obtain ⟨b3, n3, d3, rfl, rfl, hP3, hX3, hc3, e74b, hb3, hd3, rfl⟩ := hgx
        have hP3 : PND D (w3, t3, al3, m3, N3, nu3, tn3) N N3 (oN K 3 p p3) b3 n3 d3 := hP3.wk
        have hb3 : m3 + 4 * p + 1 ≤ m + 4 * p3 ∧ N3 + 4 * p + 1 ≤ N + 4 * p3 := hb3
        have F := HS3.2
        have H3 := H3.cc
        have hpl3 := H3.1.ta.lt
        have hal3 := H3.alive
        have hQ3 := hQ.fr H.1 F (fun a h => absurd h List.not_mem_nil) (fun a h => absurd h List.not_mem_nil)
        have O3 := hO.fr F List.not_mem_nil
        have T3 := hT.fr F List.not_mem_nil
        have h42c : w_a t3 12 0 42 nP = fT := (F.2.2.2.1 nP hT.1.1 List.not_mem_nil 42 (.inr (.inr rfl))).trans h42
        have hn3 := hP3.lt
        have hn3N : n3 < N3 := hn3.1
        have hbb : bl ≠ some b3 := by
          rcases hQ.nlb H.1 with ⟨e, -⟩ | ⟨b, n, e, -, g1, -⟩
          · rw [e]; simp
          · rw [e]
            intro e2
            cases e2
            exact hc3 g1.1
        have hbp3 : bP ≠ b3 := fun e => hc3 (by rw [← e]; exact hO.1.1.1)
        have hc0 : b3 ∉ SA.2.2.1.take SA.2.2.2.1 := fun e => hc3 (H.2.sub e)
        refine PSq_behind (by omega) H3 hQ3 hb0 (LKO.mk hP3.bm.1 hX3.2.2 hc0) (fun w4 hw4 H4 hQ4 => ?_)
        have O4 := O3.bho hw4 (fun e => hb0 bP e hbP.1) (fun e => hbp3 (Option.some.inj e).symm)
        have hPX : PND D (w4, t3, al3, m3, N3, nu3, tn3) N N3 (oN K 3 p p3) b3 n3 d3 ∧ NXo (w4, t3, al3, m3, N3, nu3, tn3) b3 n3 := by
          rcases hw4 with e | ⟨a, ea, e⟩
          · rw [e]
            exact ⟨hP3, hX3.xo⟩
          · have hna : nu3 a = none := by
              rcases hQ3.nlb H3.1 with ⟨e', -⟩ | ⟨b, n, e', -, g1, -⟩
              · rw [e'] at ea; cases ea
              · rw [e'] at ea
                cases ea
                exact g1.2
            have hab : a ≠ b3 := fun z => hbb (by rw [ea, z])
            rw [e]
            refine ⟨hP3.wo hna hab, ?_, hX3.2.1⟩
            show w_p (ws_p w3 14 a 7 (some b3)) 14 b3 7 = none
            rw [Rpp, if_neg (fun z => hab z.2.2.symm)]
            exact hX3.1
        have hnb := hQ4.nlb H4.1
        refine PS_lex bP rfl (PS_land (O4.wl H4.1) ?_)
        have r3 : w_p w4 14 bP 5 = f := O4.2.2 5 rfl
        obtain ⟨w5, f', fT', hf', H5, hQ5, hPX5, O5, he⟩ : ∃ w5 f' fT', ((bl = none ∧ f' = some b3 ∧ fT' = i_ n3) ∨ (bl ≠ none ∧ f' = f ∧ fT' = fT)) ∧ HY D K [bP] [nP] (cb SA (dd + d3)) (w5, t3, al3, m3, N3, nu3, tn3) p3 p3 0 0 ∧ LQ anyk D (w5, t3, al3, m3, N3, nu3, tn3) SA.2.2.2.2.1 hi (oN K 3 pB p) f fT bl nl (some b3) dd ∧ (PND D (w5, t3, al3, m3, N3, nu3, tn3) N N3 (oN K 3 p p3) b3 n3 d3 ∧ NXo (w5, t3, al3, m3, N3, nu3, tn3) b3 n3) ∧ OWc (w5, t3, al3, m3, N3, nu3, tn3) bP fi (up_ fp 5 f') ∧ ∀ Q : kx_Rs → wS → Prop, zb_X5_function_p140 D.1 L Q (some bP) (i_ d) (some b3) w5 → (if ¬ w_p w4 14 bP 5 = none then zb_X5_function_p140 D.1 L Q (some bP) (i_ d) (some b3) w4 else zb_X5_function_p140 D.1 L Q (some bP) (i_ d) (some b3) (ws_p w4 14 bP 5 (some b3))) := by
          rcases hnb with ⟨g1, g2, g3, g4, g5⟩ | ⟨b, n, g1, g2, g3, ⟨f0, g4⟩, g5⟩
          · have hna := O4.1.2
            refine ⟨_, some b3, i_ n3, .inl ⟨g1, rfl, rfl⟩, H4.wp (k := 5) (v := some b3) hna (fun _ => List.mem_singleton_self bP) (LKO.mk hP3.bm.1 (show NRw w4 (al3.take m3) b3 from hw4.elim (fun e => by rw [e]; exact hX3.2.2) (fun ⟨a, ea, _⟩ => by rw [g1] at ea; cases ea)) hc0), hQ4.oth hna (by rw [g1]; simp), ⟨hPX.1.wo hna hbp3, ?_, hPX.2.2⟩, (O4.sp (k := 5) (v := some b3)).up2, fun Q h => ?_⟩
            · show w_p (ws_p w4 14 bP 5 (some b3)) 14 b3 7 = none
              rw [Rpp, if_neg (fun z => hbp3 z.2.2.symm)]
              exact hPX.2.1
            · rw [if_neg (by rw [r3, g3]; simp)]
              exact h
          · refine ⟨w4, f, fT, .inr ⟨by rw [g1]; simp, rfl, rfl⟩, H4, hQ4, hPX, O4, fun Q h => ?_⟩
            rw [if_pos (by rw [r3, g4]; simp)]
            exact h
        refine PS_l (fun Q h => he _ h) ?_
        have T5 : OWt (w5, t3, al3, m3, N3, nu3, tn3) nP ft := T3
        have hf2 := hf'
        refine PSq_chain (f2 := f') (fT2 := fT') (by omega) hQ5 H5 hPX5.1 hPX5.2 hbb hhi hSA (.inr rfl) hb0 (Nat.le_refl _) trivial hf' (fun t6 nu6 tn6' nx6 hnx H6 hQ6 hA6 => ?_)
        have T6 := hA6.owt T5 hnP.1 hnx
        have O6 : OWc (w5, t6, al3, m3, N3, nu6, tn6') bP fi (up_ fp 5 f') := ⟨⟨O5.1.1, H6.nuP hbP⟩, O5.2⟩
        have r42 : w_a t6 12 0 42 nP = fT := by
          by_cases hne : w_a t6 12 0 42 nP = w_a t3 12 0 42 nP
          · exact hne.trans h42c
          · exact absurd (hA6.2.2.1 42 nP hne).1 (by decide)
        refine PS_rand (by rw [H6.1.tl.2.2.2.2.2.2.2.2.2.2.1]; exact i_inb' (by omega) (by omega)) ?_
        have more : ∀ t7, HY D K [bP] [nP] (cb SA (dd + d3)) (w5, t7, al3, m3, N3, nu6, tn6') p3 p3 0 0 → LQ anyk D (w5, t7, al3, m3, N3, nu6, tn6') SA.2.2.2.2.1 N3 (oN K 3 pB p3) f' fT' (some b3) (i_ n3) none (dd + d3) → OWt (w5, t7, al3, m3, N3, nu6, tn6') nP ft → w_a t7 12 0 42 nP = fT' → PS (fun Q => zb_X5_function_p140 D.1 L (wkr (C Q) (fun e w => Q (.inr e) w)) (some bP) (i_ d) (some b3) w5) (fun Q => zb_X13_function_p160 E' L' (wk1 (Ct Q) (fun e w => Q (.inr e) w)) (i_ nP) (i_ d) (i_ n3) t7) Φ := by
          intro t7 H7 hQ7 T7 h42d
          have O7 : OWc (w5, t7, al3, m3, N3, nu6, tn6') bP fi (up_ fp 5 f') := ⟨⟨O5.1.1, H7.nuP hbP⟩, O5.2⟩
          simp only [zb_X5_function_p140, zb_X13_function_p160, i_add1]
          by_cases eA : bAt K p3 (d + 1) = true
          · refine PS_l0 (fun Q hq => c_stands2 (d := d + 1) (by omega) H7.1.ca (by omega) (.inr e74b) (fun h => by rw [eA] at h; cases h) (fun _ => hq)) ?_
            have H8 := H7.co (u := 0) (by omega)
            have H7' : HY D K [] [] (w5, t7, al3, m3, N3, nu6, tn6') (w5, t7, al3, m3, N3, nu6, tn6') p3 p3 0 0 := ⟨H7.1, FR.rf H7.1.mle⟩
            have F8 := (H7'.co (u := 0) (by omega)).2
            have hQ8 := hQ7.fr H7.1 F8 (fun a h => absurd h List.not_mem_nil) (fun a h => absurd h List.not_mem_nil)
            have O8 := O7.fr F8 List.not_mem_nil
            have T8 := T7.fr F8 List.not_mem_nil
            exact ih (ws_i w5 4 0 4 0) t7 al3 m3 N3 nu6 tn6' p3 f' fT' (some b3) (i_ n3) (dd + d3) N3 (by omega) (by omega) H8 hQ8 O8 T8 h42d (Nat.le_refl _) (fun a e => by cases e; exact hc0) e74b ⟨by omega, by omega⟩ ⟨by omega, by omega⟩ ⟨by omega, by omega⟩ eA
          · have e' : bAt K p3 (d + 1) = false := by simpa using eA
            refine PS_lx0 (fun Q hq => c_stands2 (d := d + 1) (by omega) H7.1.ca (by omega) (.inr e74b) (fun _ => hq) (fun h => absurd h eA)) (PSg_stop (hΦS.cb (c := dd + d3)).stp ?_)
            refine eS_l (fun Q h => zt_X13_function_p105 (by omega) h) ?_
            simp only [zb_X13_function_p105, zb_X13_function_p163, i_add1, i_add2]
            refine eS_1 (fun Q hq => t_isAt (d := d + 1) (by omega) H7.1.ta H7.1.krg (by omega) hq) ?_
            rw [e']
            refine eS_p rfl ?_
            exact eS_x0 (fun Q hq => t_lineAt (d := d + 1) (how := 8) (by omega) H7.1.ta H7.1.krg (by omega) rfl (by omega) (fun _ => hq) (fun e => by rw [e'] at e; simp at e) (fun e => by rw [e'] at e; simp at e)) (TLP_two H7 FX.rf frm.rf hal3)
        rcases hf2 with ⟨g1, g2, g3⟩ | ⟨g1, g2, g3⟩
        · have efT : fT = -1 := by
            rcases hnb with ⟨-, -, -, e, -⟩ | ⟨b, n, e, -⟩
            · exact e
            · rw [g1] at e; cases e
          refine PS_rn (by rw [r42, efT]; exact fun h => h rfl) (PS_rand (by rw [H6.1.tl.2.2.2.2.2.2.2.2.2.2.1]; exact i_inb' (by omega) (by omega)) ?_)
          have H7 := H6.ta (k := 42) (n := nP) (v := i_ n3) rfl T6.1.2 (fun _ => List.mem_singleton_self nP)
          have F7 := ((show HY D K [] [nP] _ (w5, t6, al3, m3, N3, nu6, tn6') p3 p3 0 0 from ⟨H6.1, FR.rf H6.1.mle⟩).ta (k := 42) (n := nP) (v := i_ n3) rfl T6.1.2 (fun _ => List.mem_singleton_self nP)).2
          have hQ7 := hQ6.fr H6.1 F7 (fun a h => absurd h List.not_mem_nil) (fun y hy => by rw [List.mem_singleton.mp hy]; exact ⟨hnP.1, T6.1.2⟩)
          have T7 : OWt (w5, ws_a t6 12 0 42 nP (i_ n3), al3, m3, N3, nu6, tn6') nP ft := ⟨T6.1, fun k hk => by
            show w_a (ws_a t6 12 0 42 nP (i_ n3)) 12 0 k nP = _
            rw [Raa, if_neg (fun z => by rw [z.1] at hk; exact absurd hk (by decide))]
            exact T6.2 k hk⟩
          exact more _ H7 hQ7 T7 (by rw [g3, Raa, if_pos ⟨rfl, rfl, rfl, rfl⟩])
        · have efT : fT ≠ -1 := by
            rcases hnb with ⟨e, -⟩ | ⟨b, n, -, -, -, -, n0, e, hn0⟩
            · exact absurd e g1
            · rw [e]
              have hn0 : n0 < N3 := hn0
              exact i_ne1 (by omega)
          refine PS_rp (by rw [r42]; exact efT) ?_
          exact more _ H6 hQ6 T6 (by rw [g3]; exact r42)
      · refine eS_chain (by omega) hdd.2.2.tl.2.2.2.2.2.2.1 hQ.nl (fun t' ht' => ?_)
        have hdd := hdd.ch ht'
        refine eS_and (by rw [hdd.2.2.tl.2.2.2.2.2.2.2.2.2.2.1]; exact i_inb' (by omega) (by omega)) ?_
        simp only [zb_X13_function_p160]
        exact eS_ifb (dd_fd (by omega) (by omega) hdd) (eS_and (by rw [hdd.2.2.tl.2.2.2.2.2.2.2.2.2.2.1]; exact i_inb' (by omega) (by omega)) (dd_fd (by omega) (by omega) (hdd.ta rfl)))
      · refine eS_mono (show eS _ (fun r' t' => TLP D K (cb SA dd).1 (cb SA dd).2.1 br lo1 w2 r' t') from ?_) (fun _ _ h => Or.inl h)
        refine eS_chain (by omega) hdd.tl.2.2.2.2.2.2.1 hQ.nl (fun t' ht' => ?_)
        have hdd := hdd.ch ht'
        refine eS_and (by rw [hdd.tl.2.2.2.2.2.2.2.2.2.2.1]; exact i_inb' (by omega) (by omega)) ?_
        simp only [zb_X13_function_p160]
        exact eS_ifb (lt_fd (by omega) (Nat.le_refl _) (by omega) hdd) (eS_and (by rw [hdd.tl.2.2.2.2.2.2.2.2.2.2.1]; exact i_inb' (by omega) (by omega)) (lt_fd (by omega) (Nat.le_refl _) (by omega) (hdd.ta rfl)))
end FN1
