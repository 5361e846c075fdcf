/-! ===== PARSERS, part 20: actions that begin with an element ===== -/
section ST6
variable {ex et : List Nat} {S S' S0 : pS} {D : pD} {K : pK} {p p0 q o o' oA dl m N n n2 b b2 lo hi lo2 hi2 r d d2 dd g : Nat} {w t w' : wS} {al : List Nat} {nu : pNz} {tn : Nat → Prop} {E E' : zE} {L L' : Nat} {ol : pOL} {f : Option Nat} {fT : Int32} {Q : kx_Rs → wS → Prop} {fi : Nat → Int32} {fp : Nat → Option Nat} {ft : Nat → Int32}
theorem FR.a3 (h : FR ex et S S') : w_a S'.1 1 0 3 = w_a S.1 1 0 3 := (h.1.1.1 1 3 rfl 0).2.1.1
/-- behind the element, the twin alone at a bad token -/
theorem dd_stat {br : Bool} {lo' : Int} {x1 x2 : Int32} (h : DDs D K S0 w' t) (hL : 600 ≤ L') : eS (fun Q => zw E' (L' - 20) kt_M462 [.ref (w_adr E'.2.1 12 0)] t (wk1 (fun v4 w3 => wle t w3 → if ¬ v4 = 48 then zw E' (L' - 21) kt_M466 [.ref (w_adr E'.2.1 12 0), .int 49] w3 (wk1 (fun v6 w5 => wle w3 w5 → if v6 = 0 then zw E' (L' - 22) kt_M494 [.ref (w_adr E'.2.1 12 0), .int 4, .int x2] w5 (wk1 (fun v8 w7 => wle w5 w7 → kx_inb v8 (w_n w7 12 0 28) = true ∧ zL_X13_element_p142 E' L' Q v8 (i_ n) 1 (ws_a w7 12 0 28 v8.toNatClampNeg (i_ n))) (fun e w => Q (.inr e) w)) else zw E' (L' - 22) kt_M494 [.ref (w_adr E'.2.1 12 0), .int 8, .int x2] w5 (wk1 (fun v10 w9 => wle w5 w9 → kx_inb v10 (w_n w9 12 0 28) = true ∧ zw E' (L' - 22) kt_M393 [.ref (w_adr E'.2.1 12 0)] (ws_a w9 12 0 28 v10.toNatClampNeg (i_ n)) (wk1 (fun v12 w11 => wle (ws_a w9 12 0 28 v10.toNatClampNeg (i_ n)) w11 → kx_inb v10 (w_n w11 12 0 29) = true ∧ kx_inb v10 (w_n w11 12 0 29) = true ∧ zL_X13_element_p73 E' L' Q v10 (w_a (ws_a w11 12 0 29 v10.toNatClampNeg v12) 12 0 29 v10.toNatClampNeg) 1 (ws_a w11 12 0 29 v10.toNatClampNeg v12)) (fun e w => Q (.inr e) w))) (fun e w => Q (.inr e) w))) (fun e w => Q (.inr e) w)) else zw E' (L' - 26) kt_M354 [.ref (w_adr E'.2.1 12 0), .int (i_ n), .int (x1 + 1), .int x2] w3 (wk1 (fun v14 w13 => wle w3 w13 → Q (.inl (some (.int v14))) w13) (fun e w => Q (.inr e) w))) (fun e w => Q (.inr e) w))) (fun r' t' => TLP D K S0.1 S0.2.1 br lo' w' r' t') := by
  refine eS_1 (fun Q hq => t_look (by omega) h.2.2.1 hq) ?_
  rw [h.2.2.2.1]
  refine eS_p (by decide) ?_
  refine eS_1 (fun Q hq => t_may (v := 49) (by omega) h.2.2.1 h.1.2 rfl (by omega) (fun e => by have := h.2.2.2.1; omega) (fun _ => hq)) (eS_p rfl ?_)
  obtain ⟨N, hN, hN2⟩ := h.2.2.2.2
  refine eS_1 (fun Q hq => t_node (by omega) h.2.2.1.1.1 hN (by omega) hq) ?_
  have hp : w_i (nd3 t N 4 x2) 12 0 35 = w_i t 12 0 35 := by
    unfold nd3
    simp only [Rii, Rgi, Rpi, Rai, Rbi, Rri, Rni, Rdi, Roi, Rti, Rzi, RCi, RSi, Ria, Rga, Rpa, Raa, Rba, Rra, Rna, Rda, Roa, Rta, Rza, RCa, RSa]
    rw [if_neg (by decide)]
  have h2 := h.2.2.1.tx TX_nd3 hp
  simp only [i_nat' (show N < 2147483648 by omega)]
  refine eS_and (by rw [h2.1.1.2.1.2.2.1]; exact i_inb' (by omega) (by omega)) ?_
  have hf : TX (nd3 t N 4 x2) (ws_a (nd3 t N 4 x2) 12 0 28 N (i_ n)) := TX_ta rfl
  have h3 := h2.tx hf rfl
  refine eS_l (fun Q h => zt_X13_element_p142 (by omega) h) ?_
  simp only [zb_X13_element_p142]
  refine eS_1 (fun Q hq => t_may (v := 44) (by omega) h3 h.1.2 rfl (by omega) (fun e => by have := h.2.2.2.1; omega) (fun _ => hq)) (eS_p rfl ?_)
  exact eS_x0 (fun Q hq => t_want (v := 47) (by omega) h3 h.1.2 rfl (by omega) (fun e => by have := h.2.2.2.1; omega) (fun _ => by rw [h.if1]; exact hq)) (TLP_thr h.1.1.1 (((h.2.1.tr TX_nd3).tr hf).tr TX_fl3) (by rw [fl3_k]; exact h.1.1.2.1) (by rw [fl3_l]; exact h.1.1.2.2))
theorem dd_p65 {br : Bool} {lo' : Int} {x1 x4 x5 : Int32} (h : DDs D K S0 w' t) (hL : 600 ≤ L') (hd : d ≤ 900) : eS (fun Q => zL_X13_asks_p65 E' L' Q x1 (i_ d + 1) x4 x5 t) (fun r' t' => TLP D K S0.1 S0.2.1 br lo' w' r' t') := by
  refine eS_l (fun Q h => zt_X13_asks_p65 (by omega) h) ?_
  simp only [zb_X13_asks_p65]
  rw [i_1, i_add, cN1]
  exact dd_lineAt (d := d + 1) (how := 5) h (by omega) (by omega) rfl (by omega)
theorem p_elst {G : Nat} (IH : EXq D K E' G) (hdd : d ≤ 900) (hL : lex 0 + 600 ≤ L) (hL' : lex 0 + 600 ≤ L') (hS : SY D K (w, t, al, m, N, nu, tn) p p 0 0) (hg : K.length ≤ p + G) (hB : m ≤ 4 * p + 8 ∧ N ≤ 4 * p + 8) (h70 : kk K p = 70) (h40 : kk K (p + 1) ≠ 40) (hO : OWc (w, t, al, m, N, nu, tn) b fi fp) (f7 : fp 7 = none) (i2 : fi 2 = i_ (kln K p)) (i12 : fi 12 = 0) {l : Int32} (hl : l = i_ (kln K p))
    (hV : ∀ (fi : Nat → Int32) (fp : Nat → Option Nat) (ft : Nat → Int32) (w1 t1 : wS) (al1 : List Nat) (m1 N1 : Nat) (nu1 : pNz) (tn1 : Nat → Prop) (q kE b0 n0 nE : Nat), HY D K [b] [] (w, t, al, m, N, nu, tn) (w1, t1, al1, m1, N1, nu1, tn1) q q 0 0 → OWc (w1, t1, al1, m1, N1, nu1, tn1) b fi fp → OWt (w1, t1, al1, m1, N1, nu1, tn1) nE ft → (N ≤ nE ∧ nE < 14000) → (fp 0 = some (D.1.1.1 39) ∧ fp 3 = some b0 ∧ fp 7 = none ∧ fi 2 = i_ (kln K p) ∧ fi 12 = 0) → (ft 26 = 7 ∧ ft 27 = i_ (kln K p) ∧ ft 29 = -1 ∧ ft 32 = -1) → EEz (vw w1 t1) tn1 nu1 kE (oE K (kln K p) 0 p (q - 2)) (some b0) (i_ n0) → n0 < 14000 → kk K (q - 1) = 74 → (p + 2 < q ∧ m1 + 4 * p + 4 ≤ m + 4 * q ∧ N1 + 4 * p + 4 ≤ N + 4 * q) → (m1 ≤ 4 * q + 8 ∧ N1 ≤ 4 * q + 8) → PS (fun Q => zw D.1 (L - 23) kt_M215 [.ref (w_adr D.1.2.1 4 0), .int (i_ d + 1)] w1 (wkr (fun v w2 => wle w1 w2 → Q (.inl none) (ws_p w2 14 b 4 v)) (fun e w => Q (.inr e) w))) (fun Q => zL_X13_asks_p65 E' (L' - 26) Q (i_ n0) (i_ d + 1) (i_ nE) (-1) t1) (PRd D K dl [b] [] (w, t, al, m, N, nu, tn) p 0 false true 0 (GB D K (w, t, al, m, N, nu, tn) p b))) :
    PW w t (fun Q => zw D.1 L kt_M167 [.ref (w_adr D.1.2.1 4 0), va_rf (some b), .int (i_ d)] w Q) (fun Q => zw E' L' kt_M397 [.ref (w_adr E'.2.1 12 0), .int (i_ d), .int l] t Q) (PRd D K dl [b] [] (w, t, al, m, N, nu, tn) p 0 false true 0 (GB D K (w, t, al, m, N, nu, tn) p b)) := by
  subst hl
  have hlx := hL
  have hlx' := hL'
  unfold lex at hlx hlx'
  have hpl := hS.ta.lt
  have H : HY D K [b] [] (w, t, al, m, N, nu, tn) (w, t, al, m, N, nu, tn) p p 0 0 := ⟨hS, FR.rf hS.mle⟩
  have hal := H.alive
  have hnm := hS.nm h70
  have hp1 := H.p1 (by omega)
  have hln1 := H.1.ln hp1 (by omega)
  have hzA := H.1.ca.1.1.1
  refine PW_of' (fun Q h => zt_X5_byName_p0 (by omega) h) (fun Q h => zt_X13_element_p0 (by omega) h) ?_
  simp only [zb_X5_byName_p0, zb_X13_element_p0]
  refine PS_l1 (fun Q hq => c_line (by omega) hS.ca hq) ?_
  refine PSd_nml (by omega) H h70 (fun H1 => ?_) (fun w' hd h76 => ?_)
  · refine PS_l1 (fun Q hq => c_is (c := 36) (v := 40) (by omega) H1.1.ca rfl (by unfold wcd; omega) hq) (PS_lp (by rw [decide_eq_false h40]; decide) ?_)
    have O1 : OWc (nx w p, t, al, m, N, nu, tn) b fi fp := hO.w4 (.inl (by decide))
    simp only [H.cpos]
    refine PS_cn2 (by omega) (by omega) H1 (fun b2 al' w2 H2 HF O2 hb2 hb20 => ?_)
    have hbb : b2 ≠ b := fun e => hb2 (by rw [e]; exact O1.1.1.1)
    have O1' := O1.fr HF List.not_mem_nil
    have ha3 : w_a w2 1 0 3 = w_a w 1 0 3 := HF.a3
    refine PRd_c11 H.1.krg H2.2 (p_elem IH (L := L - 22) (L' := L' - 23) (by unfold lex; omega) (by unfold lex; omega) H2.1 (by omega) ⟨by omega, by omega⟩ h70 O2 rfl rfl rfl rfl rfl (by rw [ha3]) (by rw [ha3]; exact hnm)) (fun a ha h => ?_) (fun a h => absurd h List.not_mem_nil) (fun x v w4 t4 al4 m4 N4 nu4 tn4 p4 hl4 H6 HS hbd hgx => ?_) (fun v w4 t4 hv hv2 hd => ?_)
    · simp at ha
      subst ha
      exact absurd h hb20
    · obtain ⟨rfl, n2, rfl, hP, hX, hln4, hkd, hsl⟩ := hgx
      have hsl : m4 + 4 * p + 1 ≤ m + 1 + 4 * p4 := hsl
      have hpl4 := H6.1.ta.lt
      have hal4 := H6.alive
      have hkr4 := H6.1.ca.kr
      have hn2 := hP.lt
      have hn2N : n2 < N4 := hn2.1
      have O6 := O1'.fr (hR := FR.rr) HS.2 (by simp; exact fun e => hbb e.symm)
      have hN4 : N ≤ N4 := H6.2.2.1.2.2.1
      have hN4k : (N4 : Int) < 14000 := by omega
      refine PS_r1 (fun Q hq => t_look (by omega) H6.1.ta hq) ?_
      simp only [show (i_ (kk K p4) = (48 : Int32)) = (kk K p4 = 48) from i_eqk (show -1000 ≤ kk K p4 ∧ kk K p4 ≤ 1000 by omega) (show (-1000 : Int) ≤ 48 by decide) (by decide)]
      by_cases c48 : kk K p4 = 48
      · refine PS_rn (not_not_intro c48) ?_
        refine PS_l1 (fun Q hq => c_is (c := 40) (v := 44) (by omega) H6.1.ca rfl (by unfold wcd; omega) hq) (PS_ln (by rw [decide_eq_false (show ¬ kk K p4 = 44 by omega)]; decide) ?_)
        refine PS_l1 (fun Q hq => c_is (c := 43) (v := 47) (by omega) H6.1.ca rfl (by unfold wcd; omega) hq) (PS_lp (by rw [decide_eq_false (show ¬ kk K p4 = 47 by omega)]; decide) ?_)
        refine PS_l1 (fun Q hq => c_is (c := 45) (v := 49) (by omega) H6.1.ca rfl (by unfold wcd; omega) hq) (PS_lp (by rw [decide_eq_false (show ¬ kk K p4 = 49 by omega)]; decide) ?_)
        refine PSd_rtail (PS_r (fun Q h => zt_X13_asks_p0 (by omega) h) ?_)
        simp only [zb_X13_asks_p0, zb_X13_asks_p201]
        obtain ⟨x7, tn7, r7, H7, hC7, hm1, hm2, hn0⟩ := H6.fin hP hb20 (Nat.le_refl _)
        have hEE7 : EEz (vw w4 t4) tn7 (nuU nu4 b2 x7) 0 (oE K (kln K p) 0 p p4) (some b2) (i_ n2) := ⟨b2, n2, rfl, rfl, hC7, hkd⟩
        have O7 := O6.fin (x := x7) (tn' := tn7) (fun e => hbb e.symm)
        have hp5 := H7.p1 (by omega)
        have hln5 := H7.1.ln hp5 (by omega)
        refine PSd_exw (c := 44) (v := 48) (by omega) (by omega) (by omega) H7 rfl (by unfold wcd; omega) rfl (fun _ H8 => ?_) (fun w' hd => ?_)
        · have O8 : OWc (nx w4 p4, nx3 t4 p4, al4, m4, N4, nuU nu4 b2 x7, tn7) b _ _ := O7.w4 (j := 3) (v := i_ (p4 + 1 : Nat)) (.inl (by decide))
          have hEE8 : EEz (vw (nx w4 p4) (nx3 t4 p4)) tn7 (nuU nu4 b2 x7) 0 (oE K (kln K p) 0 p p4) (some b2) (i_ n2) := by
            rw [vw_n2]
            exact hEE7
          refine PS_lex b rfl (PS_land (O8.wl H8.1) ?_)
          have H9 := H8.wp (k := 3) (v := some b2) O8.1.2 (fun _ => List.mem_singleton_self b) (LKO.mk hP.bm.1 hX.2.2 hb20)
          have O9 := O8.sp (k := 3) (v := some b2)
          have hal9 := H9.alive
          have hkr9 := H9.1.ca.kr
          refine PS_l1 (fun Q hq => c_is (c := 0) (v := 0) (by omega) H9.1.ca rfl (by unfold wcd; omega) hq) ?_
          by_cases k0 : kk K (p4 + 1) = 0
          · refine PS_ln (by rw [decide_eq_true k0]; decide) ?_
            simp only [zb_X5_byName_p254, zb_X5_byName_p271, zb_X5_byName_p312, zb_X5_byName_p337]
            refine PS_lex b rfl (PS_land (O9.wl H9.1) (PS_lex b rfl (PS_land (by exact O9.wl H9.1) (PS_ln ?_ ?_))))
            · rw [Rpp, if_pos ⟨rfl, rfl, rfl⟩]
              exact eo_ne hzA (by decide) (by decide) (by decide)
            have HA := H9.wp (k := 0) (v := some (D.1.1.1 38)) O9.1.2 (fun _ => List.mem_singleton_self b)
            have OA := O9.sp (k := 0) (v := some (D.1.1.1 38))
            have hp6 := HA.p1 (by omega)
            have hln6 := HA.1.ln hp6 (by omega)
            refine PSd_nxl (by omega) HA (by omega) (fun HB => ?_) (fun w' hd h76 => ?_)
            · refine PS_r1 (fun Q hq => t_may (v := 0) (by omega) HB.1.ta HB.1.krg rfl (by omega) (fun _ => hq) (fun h => absurd k0 h)) (PS_rn (by decide) ?_)
              have HC := HB.tnx (by omega) (by omega)
              refine PS_r1 (fun Q hq => t_node (by omega) HC.kt HC.tN (by omega) hq) ?_
              simp only [i_nat' (show N4 < 2147483648 by omega)]
              have HD := HC.tnd (x := 6) (l := i_ (kln K p))
              have TD : OWt (nx (ws_p (ws_p (nx w4 p4) 14 b 3 (some b2)) 14 b 0 (some (D.1.1.1 38))) (p4 + 1), nd3 (nx3 (nx3 t4 p4) (p4 + 1)) N4 6 (i_ (kln K p)), al4, m4, N4 + 1, nuU nu4 b2 x7, tn7) N4 _ := OWt.new (x := 6) (l := i_ (kln K p)) HC
              have OD : OWc (nx (ws_p (ws_p (nx w4 p4) 14 b 3 (some b2)) 14 b 0 (some (D.1.1.1 38))) (p4 + 1), nd3 (nx3 (nx3 t4 p4) (p4 + 1)) N4 6 (i_ (kln K p)), al4, m4, N4 + 1, nuU nu4 b2 x7, tn7) b _ _ := OA.w4 (j := 3) (v := i_ (p4 + 1 + 1 : Nat)) (.inl (by decide))
              have hvwD : VWa (vw (nx w4 p4) (nx3 t4 p4)) (vw (nx (ws_p (ws_p (nx w4 p4) 14 b 3 (some b2)) 14 b 0 (some (D.1.1.1 38))) (p4 + 1)) (nd3 (nx3 (nx3 t4 p4) (p4 + 1)) N4 6 (i_ (kln K p)))) tn7 (nuU nu4 b2 x7) := by
                refine VWa.mk (b := b) (n := N4) ?_ ?_ ?_ O8.1.2 TD.1.2
                · exact (fun a h k => by simp only [nx, Rii, Rgi, Rpi, Rai, Rbi, Rri, Rni, Rdi, Roi, Rti, Rzi, RCi, RSi, Rip, Rgp, Rpp, Rap, Rbp, Rrp, Rnp, Rdp, Rop, Rtp, Rzp, RCp, RSp]; simp [h])
                · exact (fun y h k => by simp only [nx3, nd3, Rii, Rgi, Rpi, Rai, Rbi, Rri, Rni, Rdi, Roi, Rti, Rzi, RCi, RSi, Ria, Rga, Rpa, Raa, Rba, Rra, Rna, Rda, Roa, Rta, Rza, RCa, RSa]; simp [h])
                · rfl
              have hEED := hEE8.up (k' := 0) hvwD (fun _ _ h => h) (fun _ h => h) (Nat.le_refl _)
              refine PS_lex b rfl (PS_land (OD.wl HD.1) (PS_ln (not_not_intro (by rw [OD.2.2 0 rfl]; rfl)) ?_))
              refine PRd_c11 hS.krg HD.2 (IH (L - 22) (L' - 26 - 22) _ _ _ _ _ _ _ _ _ (by unfold lex; omega) (by unfold lex; omega) HD.1 (by omega) ⟨by omega, by omega⟩) (fun a h => absurd h List.not_mem_nil) (fun a h => absurd h List.not_mem_nil) (fun x v w6 t6 al6 m6 N6 nu6 tn6 p6 hl6 HF HSF hbdF hgx => ?_) (fun v w6 t6 hv hv2 hd => ?_)
              · obtain ⟨b1, n1, rfl, rfl, hP1, hX1, hb1, hlnz, hfk⟩ := hgx
                rw [hln6, hln5, hln4] at hP1
                have hpl6 := HF.1.ta.lt
                have OF0 := OD.fr HSF.2 List.not_mem_nil
                have TF0 := TD.fr HSF.2 List.not_mem_nil
                have hEEF0 := hEED.up (k' := 0) (VWa.fr HD.1 HSF.2 (fun _ h => absurd h List.not_mem_nil) (fun _ h => absurd h List.not_mem_nil)) HSF.2.2.2.2.2.1.1 HSF.2.2.2.2.2.1.2.1 (Nat.le_refl _)
                obtain ⟨x8, tn8, r8, HG, hCF, hm3, hm4, hn8⟩ := HF.fin hP1 (fun e => hb1 (HD.2.sub e)) (Nat.le_trans hN4 (Nat.le_succ _))
                have hbb1 : b ≠ b1 := fun e => hb1 (by rw [← e]; exact OD.1.1.1)
                have OF := OF0.fin (x := x8) (tn' := tn8) hbb1
                have TF := TF0.fin (nu' := nuU nu6 b1 x8) hm4 (.inl (Nat.lt_succ_self N4))
                have hEEF := hEEF0.up (k' := 0) (V' := vw w6 t6) ⟨fun _ _ => ⟨rfl, rfl⟩, fun _ _ _ _ => rfl, rfl⟩ (nle_nuU (x := x8) hn8) hm3 (Nat.le_refl _)
                refine PS_rand (by rw [HG.1.tl.2.2.2.1]; exact i_inb' (by omega) (by omega)) ?_
                have HH := (HG.wp (k := 4) (v := some b1) OF.1.2 (fun _ => List.mem_singleton_self b) (LKO.mk hP1.bm.1 hX1.2.2 (fun e => hb1 (HD.2.sub e)))).ta (k := 29) (n := N4) (v := i_ n1) rfl TF.1.2 (fun h => absurd h (Nat.not_lt_of_le hN4))
                have OH := OF.sp (k := 4) (v := some b1)
                have TH := TF.si (k := 29) (v := i_ n1)
                refine PSd_elw (by omega) (by omega) (by omega) HH (fun e74 HI => ?_) (fun w' hd => ?_)
                · have OI : OWc (nx (ws_p w6 14 b 4 (some b1)) p6, nx3 (ws_a t6 12 0 29 N4 (i_ n1)) p6, al6, m6, N6, nuU nu6 b1 x8, tn8) b _ _ := OH.w4 (j := 3) (v := i_ (p6 + 1 : Nat)) (.inl (by decide))
                  have TI : OWt (nx (ws_p w6 14 b 4 (some b1)) p6, nx3 (ws_a t6 12 0 29 N4 (i_ n1)) p6, al6, m6, N6, nuU nu6 b1 x8, tn8) N4 _ := TH
                  refine PS_lex b rfl (PS_land (OI.wl HI.1) (PS_lp ?_ ?_))
                  · rw [OI.2.2 0 rfl]
                    exact eo_ne hzA (by decide) (by decide) (by decide)
                  refine PS_rand (by rw [HI.1.tl.2.2.1]; exact i_inb' (by omega) (by omega)) ?_
                  have HE := HI.ta (k := 28) (n := N4) (v := i_ n2) rfl TI.1.2 (fun h => absurd h (Nat.not_lt_of_le hN4))
                  have OE : OWc (nx (ws_p w6 14 b 4 (some b1)) p6, ws_a (nx3 (ws_a t6 12 0 29 N4 (i_ n1)) p6) 12 0 28 N4 (i_ n2), al6, m6, N6, nuU nu6 b1 x8, tn8) b _ _ := OI
                  have TE : OWt (nx (ws_p w6 14 b 4 (some b1)) p6, ws_a (nx3 (ws_a t6 12 0 29 N4 (i_ n1)) p6) 12 0 28 N4 (i_ n2), al6, m6, N6, nuU nu6 b1 x8, tn8) N4 _ := TI.si (k := 28) (v := i_ n2)
                  have hvw : VWa (vw w6 t6) (vw (nx (ws_p w6 14 b 4 (some b1)) p6) (ws_a (nx3 (ws_a t6 12 0 29 N4 (i_ n1)) p6) 12 0 28 N4 (i_ n2))) tn8 (nuU nu6 b1 x8) := by
                    refine VWa.mk (b := b) (n := N4) ?_ ?_ ?_ OF.1.2 TF.1.2
                    · exact (fun a h k => by simp only [nx, Rii, Rgi, Rpi, Rai, Rbi, Rri, Rni, Rdi, Roi, Rti, Rzi, RCi, RSi, Rip, Rgp, Rpp, Rap, Rbp, Rrp, Rnp, Rdp, Rop, Rtp, Rzp, RCp, RSp]; simp [h])
                    · exact (fun y h k => by simp only [nx3, nd3, Rii, Rgi, Rpi, Rai, Rbi, Rri, Rni, Rdi, Roi, Rti, Rzi, RCi, RSi, Ria, Rga, Rpa, Raa, Rba, Rra, Rna, Rda, Roa, Rta, Rza, RCa, RSa]; simp [h])
                    · rfl
                  exact PS_ret (.inr ⟨none, i_ N4, al6, m6, N6, nuU nu6 b1 x8, tn8, p6 + 1, 0, rfl, rfl, HE.c0, ⟨by omega, by show m6 + _ ≤ m + _; omega, by show N6 + _ ≤ N + _; omega⟩, N4, 0, rfl, PND.mk1 (kd := 6) OE TE hN4 (by omega) (LFz.k6 OE TE i2 rfl ⟨rfl, rfl, hEEF.up hvw (fun _ _ h => h) (fun _ h => h) (Nat.le_refl _), ⟨b1, n1, rfl, rfl, hCF.up hvw (fun _ _ h => h) (fun _ h => h) (Nat.le_refl _)⟩⟩) i12 (fun l e => by cases e), NXT.mk1 OE TE f7 rfl, e74, ⟨by show m6 + _ + 3 ≤ m + _; omega, by show N6 + _ + 3 ≤ N + _; omega⟩, by omega⟩)
                · refine eS_and (by rw [hd.2.2.tl.2.2.1]; exact i_inb' (by omega) (by omega)) ?_
                  exact (hd.ta rfl).ret (v := (N4 : Int)) rfl ⟨Int.natCast_nonneg _, hN4k⟩
              · refine eS_and (by rw [hd.2.2.tl.2.2.2.1]; exact i_inb' (by omega) (by omega)) ?_
                exact dd_endOfLine (hd.ta rfl) (by omega)
            · refine eS_1 (fun Q hq => t_may (v := 0) (by omega) HA.1.ta HA.1.krg rfl (by omega) (fun _ => hq) (fun h => absurd k0 h)) (eS_n (by decide) ?_)
              have hd2 := HA.dd hd (by omega) (by omega) (by omega) h76
              have hN' : w_i (nx3 (nx3 t4 p4) (p4 + 1)) 12 0 25 = i_ N4 := by
                unfold nx3
                rw [Rii, if_neg (by decide)]
                exact HA.tN
              refine eS_1 (fun Q hq => t_node (by omega) hd2.2.2.1.1.1 hN' (by omega) hq) ?_
              have hd3 := hd2.nd (N := N4) (x := 6) (l := i_ (kln K p)) (by omega)
              exact dd_e hd3 (by omega)
          · refine PS_lp (by rw [decide_eq_false k0]; decide) ?_
            refine PS_l1 (fun Q hq => c_is (c := 5) (v := 5) (by omega) H9.1.ca rfl (by unfold wcd; omega) hq) ?_
            refine PS_r1 (fun Q hq => t_may (v := 0) (by omega) H9.1.ta H9.1.krg rfl (by omega) (fun h => absurd h k0) (fun _ => hq)) (PS_rp rfl ?_)
            by_cases k5 : kk K (p4 + 1) = 5
            · refine PS_ln (by rw [decide_eq_true k5]; decide) ?_
              simp only [zb_X5_byName_p254, zb_X5_byName_p271, zb_X5_byName_p312, zb_X5_byName_p337]
              refine PS_lex b rfl (PS_land (O9.wl H9.1) (PS_lex b rfl (PS_land (by exact O9.wl H9.1) (PS_ln ?_ ?_))))
              · rw [Rpp, if_pos ⟨rfl, rfl, rfl⟩]
                exact eo_ne hzA (by decide) (by decide) (by decide)
              have HA := H9.wp (k := 0) (v := some (D.1.1.1 39)) O9.1.2 (fun _ => List.mem_singleton_self b)
              have OA := O9.sp (k := 0) (v := some (D.1.1.1 39))
              have hp6 := HA.p1 (by omega)
              have hln6 := HA.1.ln hp6 (by omega)
              refine PSd_nxl (by omega) HA (by omega) (fun HB => ?_) (fun w' hd h76 => ?_)
              · refine PS_r1 (fun Q hq => t_may (v := 5) (by omega) HB.1.ta HB.1.krg rfl (by omega) (fun _ => hq) (fun h => absurd k5 h)) (PS_rn (by decide) ?_)
                have HC := HB.tnx (by omega) (by omega)
                refine PS_r1 (fun Q hq => t_node (by omega) HC.kt HC.tN (by omega) hq) ?_
                have HD := HC.tnd (x := 7) (l := i_ (kln K p))
                have TD : OWt (nx (ws_p (ws_p (nx w4 p4) 14 b 3 (some b2)) 14 b 0 (some (D.1.1.1 39))) (p4 + 1), nd3 (nx3 (nx3 t4 p4) (p4 + 1)) N4 7 (i_ (kln K p)), al4, m4, N4 + 1, nuU nu4 b2 x7, tn7) N4 _ := OWt.new (x := 7) (l := i_ (kln K p)) HC
                have OD : OWc (nx (ws_p (ws_p (nx w4 p4) 14 b 3 (some b2)) 14 b 0 (some (D.1.1.1 39))) (p4 + 1), nd3 (nx3 (nx3 t4 p4) (p4 + 1)) N4 7 (i_ (kln K p)), al4, m4, N4 + 1, nuU nu4 b2 x7, tn7) b _ _ := OA.w4 (j := 3) (v := i_ (p4 + 1 + 1 : Nat)) (.inl (by decide))
                refine PS_lex b rfl (PS_land (OD.wl HD.1) (PS_lp ?_ (PS_lp ?_ ?_)))
                · rw [OD.2.2 0 rfl]
                  exact eo_ne hzA (by decide) (by decide) (by decide)
                · rw [OD.2.2 0 rfl]
                  exact eo_ne hzA (by decide) (by decide) (by decide)
                refine PSd_elw (by omega) (by omega) (by omega) HD (fun e74 HI => ?_) (fun w' hd => ?_)
                · have hpl6 := HI.1.ta.lt
                  have OI : OWc (nx (nx (ws_p (ws_p (nx w4 p4) 14 b 3 (some b2)) 14 b 0 (some (D.1.1.1 39))) (p4 + 1)) (p4 + 1 + 1), nx3 (nd3 (nx3 (nx3 t4 p4) (p4 + 1)) N4 7 (i_ (kln K p))) (p4 + 1 + 1), al4, m4, N4 + 1, nuU nu4 b2 x7, tn7) b _ _ := OD.w4 (j := 3) (v := i_ (p4 + 1 + 1 + 1 : Nat)) (.inl (by decide))
                  have TI : OWt (nx (nx (ws_p (ws_p (nx w4 p4) 14 b 3 (some b2)) 14 b 0 (some (D.1.1.1 39))) (p4 + 1)) (p4 + 1 + 1), nx3 (nd3 (nx3 (nx3 t4 p4) (p4 + 1)) N4 7 (i_ (kln K p))) (p4 + 1 + 1), al4, m4, N4 + 1, nuU nu4 b2 x7, tn7) N4 _ := TD
                  have hvwI : VWa (vw (nx w4 p4) (nx3 t4 p4)) (vw (nx (nx (ws_p (ws_p (nx w4 p4) 14 b 3 (some b2)) 14 b 0 (some (D.1.1.1 39))) (p4 + 1)) (p4 + 1 + 1)) (nx3 (nd3 (nx3 (nx3 t4 p4) (p4 + 1)) N4 7 (i_ (kln K p))) (p4 + 1 + 1))) tn7 (nuU nu4 b2 x7) := by
                    refine VWa.mk (b := b) (n := N4) ?_ ?_ ?_ O8.1.2 TD.1.2
                    · exact (fun a h k => by simp only [nx, Rii, Rgi, Rpi, Rai, Rbi, Rri, Rni, Rdi, Roi, Rti, Rzi, RCi, RSi, Rip, Rgp, Rpp, Rap, Rbp, Rrp, Rnp, Rdp, Rop, Rtp, Rzp, RCp, RSp]; simp [h])
                    · exact (fun y h k => by simp only [nx3, nd3, Rii, Rgi, Rpi, Rai, Rbi, Rri, Rni, Rdi, Roi, Rti, Rzi, RCi, RSi, Ria, Rga, Rpa, Raa, Rba, Rra, Rna, Rda, Roa, Rta, Rza, RCa, RSa]; simp [h])
                    · rfl
                  have hEEI := hEE8.up (k' := 0) hvwI (fun _ _ h => h) (fun _ h => h) (Nat.le_refl _)
                  refine PS_lex b rfl (PS_land (OI.wl HI.1) (PS_ln (not_not_intro (by rw [OI.2.2 0 rfl]; rfl)) ?_))
                  exact hV _ _ _ _ _ _ _ _ _ _ (p4 + 1 + 1 + 1) 0 b2 n2 N4 HI OI TI ⟨hN4, by omega⟩ ⟨rfl, rfl, f7, i2, i12⟩ ⟨rfl, rfl, rfl, rfl⟩ hEEI.wk (by omega) e74 ⟨by omega, by show m4 + 4 * p + 4 ≤ m + 4 * (p4 + 1 + 1 + 1); omega, by show N4 + 1 + 4 * p + 4 ≤ N + 4 * (p4 + 1 + 1 + 1); omega⟩ ⟨by omega, by omega⟩
                · exact dd_p65 hd (by omega) hdd
              · refine eS_1 (fun Q hq => t_may (v := 5) (by omega) HA.1.ta HA.1.krg rfl (by omega) (fun _ => hq) (fun h => absurd k5 h)) (eS_n (by decide) ?_)
                have hd2 := HA.dd hd (by omega) (by omega) (by omega) h76
                have hN' : w_i (nx3 (nx3 t4 p4) (p4 + 1)) 12 0 25 = i_ N4 := by
                  unfold nx3
                  rw [Rii, if_neg (by decide)]
                  exact HA.tN
                refine eS_1 (fun Q hq => t_node (by omega) hd2.2.2.1.1.1 hN' (by omega) hq) ?_
                have hd3 := hd2.nd (N := N4) (x := 7) (l := i_ (kln K p)) (by omega)
                exact dd_endOfLine hd3 (by omega)
            · refine PS_lp (by rw [decide_eq_false k5]; decide) ?_
              refine PS_r1 (fun Q hq => t_may (v := 5) (by omega) H9.1.ta H9.1.krg rfl (by omega) (fun h => absurd h k5) (fun _ => hq)) (PS_rp rfl ?_)
              simp only [zb_X5_byName_p254, zb_X5_byName_p271, zb_X5_byName_p312, zb_X5_byName_p337]
              refine PS_lex b rfl (PS_land (O9.wl H9.1) (PS_lex b rfl (PS_land (by exact O9.wl H9.1) (PS_lp ?_ ?_))))
              · rw [Rpp, if_pos ⟨rfl, rfl, rfl⟩]
              have HA := H9.wp (k := 0) (v := some (D.1.1.1 40)) O9.1.2 (fun _ => List.mem_singleton_self b)
              have OA := O9.sp (k := 0) (v := some (D.1.1.1 40))
              refine PS_r1 (fun Q hq => t_node (by omega) HA.kt HA.tN (by omega) hq) ?_
              simp only [i_nat' (show N4 < 2147483648 by omega)]
              have HD := HA.tnd (x := 5) (l := i_ (kln K p))
              have TD : OWt (ws_p (ws_p (nx w4 p4) 14 b 3 (some b2)) 14 b 0 (some (D.1.1.1 40)), nd3 (nx3 t4 p4) N4 5 (i_ (kln K p)), al4, m4, N4 + 1, nuU nu4 b2 x7, tn7) N4 _ := OWt.new (x := 5) (l := i_ (kln K p)) HA
              have OD : OWc (ws_p (ws_p (nx w4 p4) 14 b 3 (some b2)) 14 b 0 (some (D.1.1.1 40)), nd3 (nx3 t4 p4) N4 5 (i_ (kln K p)), al4, m4, N4 + 1, nuU nu4 b2 x7, tn7) b _ _ := OA
              have hvwD : VWa (vw (nx w4 p4) (nx3 t4 p4)) (vw (ws_p (ws_p (nx w4 p4) 14 b 3 (some b2)) 14 b 0 (some (D.1.1.1 40))) (nd3 (nx3 t4 p4) N4 5 (i_ (kln K p)))) tn7 (nuU nu4 b2 x7) := by
                refine VWa.mk (b := b) (n := N4) ?_ ?_ ?_ O8.1.2 TD.1.2
                · exact (fun a h k => by simp only [nx, Rii, Rgi, Rpi, Rai, Rbi, Rri, Rni, Rdi, Roi, Rti, Rzi, RCi, RSi, Rip, Rgp, Rpp, Rap, Rbp, Rrp, Rnp, Rdp, Rop, Rtp, Rzp, RCp, RSp]; simp [h])
                · exact (fun y h k => by simp only [nx3, nd3, Rii, Rgi, Rpi, Rai, Rbi, Rri, Rni, Rdi, Roi, Rti, Rzi, RCi, RSi, Ria, Rga, Rpa, Raa, Rba, Rra, Rna, Rda, Roa, Rta, Rza, RCa, RSa]; simp [h])
                · rfl
              have hEED := hEE8.up (k' := 0) hvwD (fun _ _ h => h) (fun _ h => h) (Nat.le_refl _)
              refine PS_lex b rfl (PS_land (OD.wl HD.1) (PS_lp ?_ (PS_ln (not_not_intro (by rw [OD.2.2 0 rfl]; rfl)) ?_)))
              · rw [OD.2.2 0 rfl]
                exact eo_ne hzA (by decide) (by decide) (by decide)
              refine PRd_c11 hS.krg HD.2 (p_elements IH (L := L - 24) (L' := L' - 26 - 23) (by unfold lex; omega) (by unfold lex; omega) HD.1 (by omega) ⟨by omega, by omega⟩) (fun a h => absurd h List.not_mem_nil) (fun a h => absurd h List.not_mem_nil) (fun x v w6 t6 al6 m6 N6 nu6 tn6 p6 hl6 HF HSF hbdF hgx => ?_) (fun v w6 t6 hv hv2 hd => ?_)
              · obtain ⟨⟨k2, hLE⟩, hlnz, hhd⟩ := hgx
                rw [hln5, hln4] at hLE
                have hpl6 := HF.1.ta.lt
                have OF := OD.fr HSF.2 List.not_mem_nil
                have TF := TD.fr HSF.2 List.not_mem_nil
                have hEEF := hEED.up (k' := 0) (VWa.fr HD.1 HSF.2 (fun _ h => absurd h List.not_mem_nil) (fun _ h => absurd h List.not_mem_nil)) HSF.2.2.2.2.2.1.1 HSF.2.2.2.2.2.1.2.1 (Nat.le_refl _)
                refine PS_rand (by rw [HF.1.tl.2.2.2.1]; exact i_inb' (by omega) (by omega)) ?_
                have HH := (HF.wp (k := 4) (v := x) OF.1.2 (fun _ => List.mem_singleton_self b) (LKO.op (hhd.up (fun _ e => HD.2.sub e)))).ta (k := 29) (n := N4) (v := v) rfl TF.1.2 (fun h => absurd h (Nat.not_lt_of_le hN4))
                have OH := OF.sp (k := 4) (v := x) (.inr (.inr (fun e => (hhd _ e).2.2 OD.1.1.1)))
                have TH := TF.si (k := 29) (v := v)
                refine PSd_elw (by omega) (by omega) (by omega) HH (fun e74 HI => ?_) (fun w' hd => ?_)
                · have OI : OWc (nx (ws_p w6 14 b 4 x) p6, nx3 (ws_a t6 12 0 29 N4 v) p6, al6, m6, N6, nu6, tn6) b _ _ := OH.w4 (j := 3) (v := i_ (p6 + 1 : Nat)) (.inl (by decide))
                  have TI : OWt (nx (ws_p w6 14 b 4 x) p6, nx3 (ws_a t6 12 0 29 N4 v) p6, al6, m6, N6, nu6, tn6) N4 _ := TH
                  refine PS_lex b rfl (PS_land (OI.wl HI.1) (PS_lp ?_ ?_))
                  · rw [OI.2.2 0 rfl]
                    exact eo_ne hzA (by decide) (by decide) (by decide)
                  refine PS_rand (by rw [HI.1.tl.2.2.1]; exact i_inb' (by omega) (by omega)) ?_
                  have HE := HI.ta (k := 28) (n := N4) (v := i_ n2) rfl TI.1.2 (fun h => absurd h (Nat.not_lt_of_le hN4))
                  have OE : OWc (nx (ws_p w6 14 b 4 x) p6, ws_a (nx3 (ws_a t6 12 0 29 N4 v) p6) 12 0 28 N4 (i_ n2), al6, m6, N6, nu6, tn6) b _ _ := OI
                  have TE : OWt (nx (ws_p w6 14 b 4 x) p6, ws_a (nx3 (ws_a t6 12 0 29 N4 v) p6) 12 0 28 N4 (i_ n2), al6, m6, N6, nu6, tn6) N4 _ := TI.si (k := 28) (v := i_ n2)
                  have hvw : VWa (vw w6 t6) (vw (nx (ws_p w6 14 b 4 x) p6) (ws_a (nx3 (ws_a t6 12 0 29 N4 v) p6) 12 0 28 N4 (i_ n2))) tn6 nu6 := by
                    refine VWa.mk (b := b) (n := N4) ?_ ?_ ?_ OF.1.2 TF.1.2
                    · exact (fun a h k => by simp only [nx, Rii, Rgi, Rpi, Rai, Rbi, Rri, Rni, Rdi, Roi, Rti, Rzi, RCi, RSi, Rip, Rgp, Rpp, Rap, Rbp, Rrp, Rnp, Rdp, Rop, Rtp, Rzp, RCp, RSp]; simp [h])
                    · exact (fun y h k => by simp only [nx3, nd3, Rii, Rgi, Rpi, Rai, Rbi, Rri, Rni, Rdi, Roi, Rti, Rzi, RCi, RSi, Ria, Rga, Rpa, Raa, Rba, Rra, Rna, Rda, Roa, Rta, Rza, RCa, RSa]; simp [h])
                    · rfl
                  exact PS_ret (.inr ⟨none, i_ N4, al6, m6, N6, nu6, tn6, p6 + 1, 0, rfl, rfl, HE.c0, ⟨by omega, by show m6 + _ ≤ m + _; omega, by show N6 + _ ≤ N + _; omega⟩, N4, 0, rfl, PND.mk1 (kd := 5) OE TE hN4 (by omega) (LFz.k5 OE TE i2 rfl ⟨rfl, rfl, hEEF.up hvw (fun _ _ h => h) (fun _ h => h) (Nat.le_refl _), hLE.up hvw (fun _ _ h => h) (fun _ h => h) (Nat.le_refl _)⟩) i12 (fun l e => by cases e), NXT.mk1 OE TE f7 rfl, e74, ⟨by show m6 + _ + 3 ≤ m + _; omega, by show N6 + _ + 3 ≤ N + _; omega⟩, by omega⟩)
                · refine eS_and (by rw [hd.2.2.tl.2.2.1]; exact i_inb' (by omega) (by omega)) ?_
                  exact (hd.ta rfl).ret (v := (N4 : Int)) rfl ⟨Int.natCast_nonneg _, hN4k⟩
              · refine eS_and (by rw [hd.2.2.tl.2.2.2.1]; exact i_inb' (by omega) (by omega)) ?_
                exact dd_endOfLine (hd.ta rfl) (by omega)
        · refine eS_1 (fun Q hq => t_may (v := 0) (by omega) hd.2.2.1 hd.1.2 rfl (by omega) (fun e => by have := hd.2.2.2.1; omega) (fun _ => hq)) (eS_p rfl ?_)
          refine eS_1 (fun Q hq => t_may (v := 5) (by omega) hd.2.2.1 hd.1.2 rfl (by omega) (fun e => by have := hd.2.2.2.1; omega) (fun _ => hq)) (eS_p rfl ?_)
          have hN' : w_i (nx3 t4 p4) 12 0 25 = i_ N4 := by
            unfold nx3
            rw [Rii, if_neg (by decide)]
            exact H7.tN
          refine eS_1 (fun Q hq => t_node (by omega) hd.2.2.1.1.1 hN' (by omega) hq) ?_
          have hd3 := hd.nd (N := N4) (x := 5) (l := i_ (kln K p)) (by omega)
          exact dd_elements hd3 (by omega)
      refine PS_rp c48 ?_
      by_cases c49 : kk K p4 = 49
      · refine PS_l1 (fun Q hq => c_is (c := 40) (v := 44) (by omega) H6.1.ca rfl (by unfold wcd; omega) hq) (PS_ln (by rw [decide_eq_false (show ¬ kk K p4 = 44 by omega)]; decide) ?_)
        refine PS_l1 (fun Q hq => c_is (c := 43) (v := 47) (by omega) H6.1.ca rfl (by unfold wcd; omega) hq) (PS_lp (by rw [decide_eq_false (show ¬ kk K p4 = 47 by omega)]; decide) ?_)
        refine PS_l1 (fun Q hq => c_is (c := 45) (v := 49) (by omega) H6.1.ca rfl (by unfold wcd; omega) hq) (PS_ln (by rw [decide_eq_true c49]; decide) ?_)
        obtain ⟨x7, tn7, r7, H7, hC7, hm1, hm2, hn0⟩ := H6.fin hP hb20 (Nat.le_refl _)
        have hEE7 : EEz (vw w4 t4) tn7 (nuU nu4 b2 x7) 0 (oE K (kln K p) 0 p p4) (some b2) (i_ n2) := ⟨b2, n2, rfl, rfl, hC7, hkd⟩
        have O7 := O6.fin (x := x7) (tn' := tn7) (fun e => hbb e.symm)
        refine PS_lex b rfl (PS_land (O7.wl H7.1) ?_)
        have H8 := (H7.wp (k := 0) (v := some (D.1.1.1 37)) O7.1.2 (fun _ => List.mem_singleton_self b)).wp (k := 3) (v := some b2) O7.1.2 (fun _ => List.mem_singleton_self b) (LKO.mk hP.bm.1 (NRw.wp hX.2.2 (.inl (by decide))) hb20)
        have O8 := (O7.sp (k := 0) (v := some (D.1.1.1 37))).sp (k := 3) (v := some b2)
        have hp5 := H8.p1 (by omega)
        have hln5 := H8.1.ln hp5 (by omega)
        refine PSd_nxl (by omega) H8 (by omega) (fun H9 => ?_) (fun w' hd h76 => ?_)
        · refine PS_r1 (fun Q hq => t_may (v := 49) (by omega) H9.1.ta H9.1.krg rfl (by omega) (fun _ => hq) (fun h => absurd c49 h)) (PS_rn (by decide) ?_)
          have H10 := H9.tnx (by omega) hal4
          refine PS_r1 (fun Q hq => t_node (by omega) H10.kt H10.tN (by omega) hq) ?_
          simp only [i_nat' (show N4 < 2147483648 by omega)]
          have H11 := H10.tnd (x := 8) (l := i_ (kln K p))
          have T11 := OWt.new (x := 8) (l := i_ (kln K p)) H10
          refine PS_rand (by rw [H11.1.tl.2.2.1]; exact i_inb' (by omega) (by omega)) ?_
          have H12 := H11.ta (k := 28) (n := N4) (v := i_ n2) rfl T11.1.2 (fun h => absurd h (Nat.not_lt_of_le hN4))
          have O12 : OWc (nx (ws_p (ws_p w4 14 b 0 (some (D.1.1.1 37))) 14 b 3 (some b2)) p4, ws_a (nd3 (nx3 t4 p4) N4 8 (i_ (kln K p))) 12 0 28 N4 (i_ n2), al4, m4, N4 + 1, nuU nu4 b2 x7, tn7) b _ _ := O8.w4 (j := 3) (v := i_ (p4 + 1 : Nat)) (.inl (by decide))
          have T12 : OWt (nx (ws_p (ws_p w4 14 b 0 (some (D.1.1.1 37))) 14 b 3 (some b2)) p4, ws_a (nd3 (nx3 t4 p4) N4 8 (i_ (kln K p))) 12 0 28 N4 (i_ n2), al4, m4, N4 + 1, nuU nu4 b2 x7, tn7) N4 _ := T11.si (k := 28) (v := i_ n2)
          have hvw12 : VWa (vw w4 t4) (vw (nx (ws_p (ws_p w4 14 b 0 (some (D.1.1.1 37))) 14 b 3 (some b2)) p4) (ws_a (nd3 (nx3 t4 p4) N4 8 (i_ (kln K p))) 12 0 28 N4 (i_ n2))) tn7 (nuU nu4 b2 x7) := by
            refine VWa.mk (b := b) (n := N4) ?_ ?_ ?_ O7.1.2 T11.1.2
            · exact (fun a h k => by simp only [nx, Rii, Rgi, Rpi, Rai, Rbi, Rri, Rni, Rdi, Roi, Rti, Rzi, RCi, RSi, Rip, Rgp, Rpp, Rap, Rbp, Rrp, Rnp, Rdp, Rop, Rtp, Rzp, RCp, RSp]; simp [h])
            · exact (fun y h k => by simp only [nx3, nd3, Rii, Rgi, Rpi, Rai, Rbi, Rri, Rni, Rdi, Roi, Rti, Rzi, RCi, RSi, Ria, Rga, Rpa, Raa, Rba, Rra, Rna, Rda, Roa, Rta, Rza, RCa, RSa]; simp [h])
            · rfl
          have hEE12 := hEE7.up (k' := 0) hvw12 (fun _ _ h => h) (fun _ h => h) (Nat.le_refl _)
          refine PS_l (fun Q h => zt_X5_row_p0 (by omega) h) ?_
          simp only [zb_X5_row_p0]
          refine PRd_c11 hS.krg H12.2 (IH (L - 25 - 22) (L' - 22) _ _ _ _ _ _ _ _ _ (by unfold lex; omega) (by unfold lex; omega) H12.1 (by omega) ⟨by omega, by omega⟩) (fun a h => absurd h List.not_mem_nil) (fun a h => absurd h List.not_mem_nil) (fun x v w5 t5 al5 m5 N5 nu5 tn5 p5 hl5 H13 HS13 hbd5 hgx => ?_) (fun v w5 t5 hv hv2 hd => ?_)
          · obtain ⟨b1, n1, rfl, rfl, hP1, hX1, hb1, hlnz, hfk⟩ := hgx
            rw [hln5, hln4] at hP1
            have hpl5 := H13.1.ta.lt
            have hn1 := hP1.lt
            have hn1N : N4 + 1 ≤ n1 := hn1.2.1
            have hN5 : N4 + 1 ≤ N5 := HS13.2.2.1.2.2.1
            have O13 := O12.fr HS13.2 List.not_mem_nil
            have T13 := T12.fr HS13.2 List.not_mem_nil
            have hEE13 := hEE12.up (k' := 0) (VWa.fr H12.1 HS13.2 (fun _ h => absurd h List.not_mem_nil) (fun _ h => absurd h List.not_mem_nil)) HS13.2.2.2.2.2.1.1 HS13.2.2.2.2.2.1.2.1 (Nat.le_refl _)
            refine PS_rand (by rw [H13.1.tl.2.2.2.1]; exact i_inb' (by omega) (by omega)) (PS_rand (by rw [H13.1.tl.2.2.2.1]; exact i_inb' (by omega) (by omega)) ?_)
            have H14 := H13.ta (k := 29) (n := N4) (v := i_ n1) rfl T13.1.2 (fun h => absurd h (Nat.not_lt_of_le hN4))
            have T14 : OWt (w5, ws_a t5 12 0 29 N4 (i_ n1), al5, m5, N5, nu5, tn5) N4 _ := T13.si (k := 29) (v := i_ n1)
            have O14 : OWc (w5, ws_a t5 12 0 29 N4 (i_ n1), al5, m5, N5, nu5, tn5) b _ _ := O13
            have hbb1 : b1 ≠ b := fun e => hb1 (by rw [e]; exact O12.1.1.1)
            have hP14 : PND D (w5, ws_a t5 12 0 29 N4 (i_ n1), al5, m5, N5, nu5, tn5) (N4 + 1) N5 _ b1 n1 0 := hP1.cong (n := N4) (bx := b) (fun a h k => ⟨rfl, rfl⟩) rfl (fun y h k => by simp only [nx3, nd3, Rii, Rgi, Rpi, Rai, Rbi, Rri, Rni, Rdi, Roi, Rti, Rzi, RCi, RSi, Ria, Rga, Rpa, Raa, Rba, Rra, Rna, Rda, Roa, Rta, Rza, RCa, RSa]; simp [h]) ⟨.inl (Nat.lt_succ_self N4), T13.1.2⟩ ⟨O13.1.2, hbb1⟩
            have hX14 : NXo (w5, ws_a t5 12 0 29 N4 (i_ n1), al5, m5, N5, nu5, tn5) b1 n1 := hX1.xo.cong (n := N4) (bx := b) (fun a h k => ⟨rfl, rfl⟩) (fun y h k => by simp only [nx3, nd3, Rii, Rgi, Rpi, Rai, Rbi, Rri, Rni, Rdi, Roi, Rti, Rzi, RCi, RSi, Ria, Rga, Rpa, Raa, Rba, Rra, Rna, Rda, Roa, Rta, Rza, RCa, RSa]; simp [h]) (by omega) hbb1
            have hvw14 : VWa (vw w5 t5) (vw w5 (ws_a t5 12 0 29 N4 (i_ n1))) tn5 nu5 := VWa.mk (w := w5) (t := t5) (w' := w5) (t' := ws_a t5 12 0 29 N4 (i_ n1)) (b := b) (n := N4) (fun a h k => ⟨rfl, rfl⟩) (fun y h k => by simp only [nx3, nd3, Rii, Rgi, Rpi, Rai, Rbi, Rri, Rni, Rdi, Roi, Rti, Rzi, RCi, RSi, Ria, Rga, Rpa, Raa, Rba, Rra, Rna, Rda, Roa, Rta, Rza, RCa, RSa]; simp [h]) rfl O13.1.2 T13.1.2
            have hEE14 := hEE13.up (k' := 0) hvw14 (fun _ _ h => h) (fun _ h => h) (Nat.le_refl _)
            have ex5 : w_a (ws_a t5 12 0 29 N4 (i_ n1)) 12 0 29 N4 = i_ n1 := by rw [Raa, if_pos ⟨rfl, rfl, rfl, rfl⟩]
            rw [ex5]
            refine p_rowa_loop IH (L := L - 25) (L' := L') (KC := fun Q v w => zb_X5_byName_p312 D.1 L Q (some b) (i_ d) (ws_p w 14 b 4 v)) (fi := fi) (fp := up_ (up_ fp 0 (some (D.1.1.1 37))) 3 (some b2)) (ft := up_ (up_ (ndT 8 (i_ (kln K p))) 28 (i_ n2)) 29 (i_ n1)) (SA := (w, t, al, m, N, nu, tn)) (pA := p) (nE := N4) (bE := b) (b0 := b2) (n0 := n2) (pE := p4 + 1) (by unfold lex; omega) (by unfold lex; omega) (by omega) ?_ (by omega) K.length _ _ _ _ _ _ _ p5 1 b1 n1 (N4 + 1) N5 (r7 + 1) (Nat.le_trans hN4 (Nat.le_succ _)) (by omega) (by omega) H14 O14 T14 hEE14.wk (LI.one hP14 hX14) (fun q e => by cases e; exact ⟨hP1.bm.1, hX1.2.2, fun e => hb1 (H12.2.sub e)⟩) (by omega) (fun e => hb1 (H12.2.sub e)) ⟨hbb1, by omega, .inl (Nat.lt_succ_self N4)⟩ ⟨by omega, by show m5 + 4 * p ≤ m + 4 * p5 + 1; omega, by show N5 + 4 * p ≤ N + 4 * p5 + 1; omega⟩ ⟨by omega, by omega⟩ (by omega)
            intro wz tz alz mz Nz nuz tnz pz kE k hpz HZ OZ TZ hEZ hSZ hdZ hlZ hbZ hmZ
            have hplz := HZ.1.ta.lt
            have hbZ : p < pz ∧ mz + 4 * p ≤ m + 4 * pz + 1 ∧ Nz + 4 * p ≤ N + 4 * pz + 1 := hbZ
            simp only [zb_X5_byName_p312, zb_X5_byName_p337]
            have HA := HZ.wp (k := 4) (v := some b1) OZ.1.2 (fun _ => List.mem_singleton_self b) (LKO.op hdZ)
            have OA := OZ.sp (k := 4) (v := some b1)
            refine PSd_elw (by omega) (by omega) (by omega) HA (fun e74 HB => ?_) (fun w' hd => ?_)
            · have OE : OWc (nx (ws_p wz 14 b 4 (some b1)) pz, nx3 tz pz, alz, mz, Nz, nuz, tnz) b _ _ := OA.w4 (j := 3) (v := i_ (pz + 1 : Nat)) (.inl (by decide))
              have TE : OWt (nx (ws_p wz 14 b 4 (some b1)) pz, nx3 tz pz, alz, mz, Nz, nuz, tnz) N4 _ := TZ
              have hvw : VWa (vw wz tz) (vw (nx (ws_p wz 14 b 4 (some b1)) pz) (nx3 tz pz)) tnz nuz := by
                refine VWa.mk (b := b) (n := N4) ?_ ?_ ?_ OZ.1.2 TZ.1.2
                · exact (fun a h k => by simp only [nx, Rii, Rgi, Rpi, Rai, Rbi, Rri, Rni, Rdi, Roi, Rti, Rzi, RCi, RSi, Rip, Rgp, Rpp, Rap, Rbp, Rrp, Rnp, Rdp, Rop, Rtp, Rzp, RCp, RSp]; simp [h])
                · exact (fun y h k => by simp only [nx3, Rii, Rgi, Rpi, Rai, Rbi, Rri, Rni, Rdi, Roi, Rti, Rzi, RCi, RSi, Ria, Rga, Rpa, Raa, Rba, Rra, Rna, Rda, Roa, Rta, Rza, RCa, RSa])
                · rfl
              refine PS_lex b rfl (PS_land (OE.wl HB.1) (PS_lp ?_ ?_))
              · rw [OE.2.2 0 rfl]
                exact eo_ne hzA (by decide) (by decide) (by decide)
              exact PS_ret (.inr ⟨none, i_ N4, alz, mz, Nz, nuz, tnz, pz + 1, 0, rfl, rfl, HB.c0, ⟨by omega, by show mz + _ ≤ m + _; omega, by show Nz + _ ≤ N + _; omega⟩, N4, 0, rfl, PND.mk1 (kd := 8) OE TE hN4 (by omega) (LFz.k8 OE TE i2 rfl ⟨rfl, rfl, hEZ.up hvw (fun _ _ h => h) (fun _ h => h) (Nat.le_refl _), hSZ.up hvw (fun _ _ h => h) (fun _ h => h) (Nat.le_refl _)⟩) i12 (fun l e => by cases e), NXT.mk1 OE TE f7 rfl, e74, ⟨by show mz + _ + 3 ≤ m + _; omega, by show Nz + _ + 3 ≤ N + _; omega⟩, by omega⟩)
            · exact hd.ret (v := (N4 : Int)) rfl ⟨Int.natCast_nonneg _, hN4k⟩
          · refine eS_and (by rw [hd.2.2.tl.2.2.2.1]; exact i_inb' (by omega) (by omega)) (eS_and (by rw [hd.2.2.tl.2.2.2.1]; exact i_inb' (by omega) (by omega)) ?_)
            refine eS_l (fun Q h => zt_X13_element_p73 (by omega) h) ?_
            simp only [zb_X13_element_p73]
            have hd3 := hd.ta (n := N4) (k := 29) (v := i_ v) rfl
            refine eS_1 (fun Q hq => t_may (v := 45) (by omega) hd3.2.2.1 hd3.1.2 rfl (by omega) (fun e => by have := hd3.2.2.2.1; omega) (fun _ => hq)) (eS_p rfl ?_)
            exact dd_endOfLine hd3 (by omega)
        · refine eS_1 (fun Q hq => t_may (v := 49) (by omega) H8.1.ta H8.1.krg rfl (by omega) (fun _ => hq) (fun h => absurd c49 h)) (eS_n (by decide) ?_)
          have hd2 := H8.dd hd (by omega) (by omega) hal4 h76
          have hN' : w_i (nx3 t4 p4) 12 0 25 = i_ N4 := by
            unfold nx3
            rw [Rii, if_neg (by decide)]
            exact H8.tN
          refine eS_1 (fun Q hq => t_node (by omega) hd2.2.2.1.1.1 hN' (by omega) hq) ?_
          simp only [i_nat' (show N4 < 2147483648 by omega)]
          have hd3 := hd2.nd (N := N4) (x := 8) (l := i_ (kln K p)) (by omega)
          refine eS_and (by rw [hd3.2.2.tl.2.2.1]; exact i_inb' (by omega) (by omega)) ?_
          exact dd_e (hd3.ta rfl) (by omega)
      refine PS_r1 (fun Q hq => t_may (v := 49) (by omega) H6.1.ta H6.1.krg rfl (by omega) (fun h => absurd h c49) (fun _ => hq)) (PS_rp rfl ?_)
      refine PS_r1 (fun Q hq => t_node (by omega) H6.kt H6.tN (by omega) hq) ?_
      simp only [i_nat' (show N4 < 2147483648 by omega)]
      have H7 := H6.tnd (x := 4) (l := i_ (kln K p))
      have T7 := OWt.new (x := 4) (l := i_ (kln K p)) H6
      refine PS_rand (by rw [H7.1.tl.2.2.1]; exact i_inb' (by omega) (by omega)) ?_
      have H8 := H7.ta (k := 28) (n := N4) (v := i_ n2) rfl T7.1.2 (fun h => absurd h (Nat.not_lt_of_le hN4))
      have T8 := T7.si (k := 28) (v := i_ n2)
      have asg : PS (fun Q => zb_X5_byName_p91 D.1 L Q (some b) (i_ d) (some b2) w4) (fun Q => zL_X13_element_p142 E' L' Q (i_ N4) (i_ n2) 1 (ws_a (nd3 t4 N4 4 (i_ (kln K p))) 12 0 28 N4 (i_ n2))) (PRd D K dl [b] [] (w, t, al, m, N, nu, tn) p 0 false true 0 (GB D K (w, t, al, m, N, nu, tn) p b)) := by
        simp only [zb_X5_byName_p91]
        refine PS_lex b rfl (PS_land (O6.wl H6.1) ?_)
        have H9 := (H8.wp (k := 0) (v := some (D.1.1.1 36)) O6.1.2 (fun _ => List.mem_singleton_self b)).wp (k := 3) (v := some b2) O6.1.2 (fun _ => List.mem_singleton_self b) (LKO.mk hP.bm.1 (NRw.wp hX.2.2 (.inl (by decide))) hb20)
        have O9 : OWc (ws_p (ws_p w4 14 b 0 (some (D.1.1.1 36))) 14 b 3 (some b2), ws_a (nd3 t4 N4 4 (i_ (kln K p))) 12 0 28 N4 (i_ n2), al4, m4, N4 + 1, nu4, tn4) b _ _ := (O6.sp (k := 0) (v := some (D.1.1.1 36))).sp (k := 3) (v := some b2)
        have T9 : OWt (ws_p (ws_p w4 14 b 0 (some (D.1.1.1 36))) 14 b 3 (some b2), ws_a (nd3 t4 N4 4 (i_ (kln K p))) 12 0 28 N4 (i_ n2), al4, m4, N4 + 1, nu4, tn4) N4 _ := T8
        have hP9 : PND D (ws_p (ws_p w4 14 b 0 (some (D.1.1.1 36))) 14 b 3 (some b2), ws_a (nd3 t4 N4 4 (i_ (kln K p))) 12 0 28 N4 (i_ n2), al4, m4, N4, nu4, tn4) N N4 _ b2 n2 0 := hP.cong (n := N4) (bx := b) (fun a h k => by simp only [nx, Rii, Rgi, Rpi, Rai, Rbi, Rri, Rni, Rdi, Roi, Rti, Rzi, RCi, RSi, Rip, Rgp, Rpp, Rap, Rbp, Rrp, Rnp, Rdp, Rop, Rtp, Rzp, RCp, RSp]; simp [h]) rfl (fun y h k => by simp only [nx3, nd3, Rii, Rgi, Rpi, Rai, Rbi, Rri, Rni, Rdi, Roi, Rti, Rzi, RCi, RSi, Ria, Rga, Rpa, Raa, Rba, Rra, Rna, Rda, Roa, Rta, Rza, RCa, RSa]; simp [h]) ⟨.inr (Nat.le_refl _), T7.1.2⟩ ⟨O6.1.2, hbb⟩
        have hX9 : NXo (ws_p (ws_p w4 14 b 0 (some (D.1.1.1 36))) 14 b 3 (some b2), ws_a (nd3 t4 N4 4 (i_ (kln K p))) 12 0 28 N4 (i_ n2), al4, m4, N4 + 1, nu4, tn4) b2 n2 := hX.xo.cong (n := N4) (bx := b) (fun a h k => by simp only [nx, Rii, Rgi, Rpi, Rai, Rbi, Rri, Rni, Rdi, Roi, Rti, Rzi, RCi, RSi, Rip, Rgp, Rpp, Rap, Rbp, Rrp, Rnp, Rdp, Rop, Rtp, Rzp, RCp, RSp]; simp [h]) (fun y h k => by simp only [nx3, nd3, Rii, Rgi, Rpi, Rai, Rbi, Rri, Rni, Rdi, Roi, Rti, Rzi, RCi, RSi, Ria, Rga, Rpa, Raa, Rba, Rra, Rna, Rda, Roa, Rta, Rza, RCa, RSa]; simp [h]) (by omega) hbb
        have hkd9 : is60 (w_a (ws_a (nd3 t4 N4 4 (i_ (kln K p))) 12 0 28 N4 (i_ n2)) 12 0 26 n2) := by
          show w_a (ws_a (nd3 t4 N4 4 (i_ (kln K p))) 12 0 28 N4 (i_ n2)) 12 0 26 n2 = 60
          have hne : n2 ≠ N4 := by omega
          have : w_a (ws_a (nd3 t4 N4 4 (i_ (kln K p))) 12 0 28 N4 (i_ n2)) 12 0 26 n2 = w_a t4 12 0 26 n2 := by
            simp only [nd3, Rii, Rgi, Rpi, Rai, Rbi, Rri, Rni, Rdi, Roi, Rti, Rzi, RCi, RSi, Ria, Rga, Rpa, Raa, Rba, Rra, Rna, Rda, Roa, Rta, Rza, RCa, RSa]
            simp [hne]
          rw [this]
          exact hkd
        refine p_asg_loop IH (L := L) (L' := L') (by unfold lex; omega) (by unfold lex; omega) (SA := (w, t, al, m, N, nu, tn)) (pA := p) (fi := _) (fp := up_ (up_ fp 0 (some (D.1.1.1 36))) 3 (some b2)) (ft := up_ (ndT 4 (i_ (kln K p))) 28 (i_ n2)) (nE := N4) (bE := b) ⟨hN4, by omega⟩ rfl f7 i2 i12 rfl rfl rfl rfl rfl K.length _ _ _ _ _ _ _ p4 1 b2 n2 N N4 (Nat.le_refl _) (by omega) (by omega) H9 O9 T9 (LIk.one (hP9.nn (Nat.le_succ _)) hX9 hkd9) hln4 (fun e => hb20 e) ⟨hbb, by omega, .inr (Nat.le_refl _)⟩ ⟨by omega, by show m4 + 4 * p ≤ m + 4 * p4 + 1; omega, by show N4 + 1 + 4 * p ≤ N + 4 * p4 + 1; omega⟩ ⟨by omega, by omega⟩ (by omega)
      refine PS_l1 (fun Q hq => c_is (c := 40) (v := 44) (by omega) H6.1.ca rfl (by unfold wcd; omega) hq) ?_
      by_cases c44 : kk K p4 = 44
      · exact PS_lp (by rw [decide_eq_true c44]; decide) asg
      refine PS_ln (by rw [decide_eq_false c44]; decide) ?_
      refine PS_l1 (fun Q hq => c_is (c := 43) (v := 47) (by omega) H6.1.ca rfl (by unfold wcd; omega) hq) ?_
      by_cases c47 : kk K p4 = 47
      · exact PS_ln (by rw [decide_eq_true c47]; decide) asg
      refine PS_lp (by rw [decide_eq_false c47]; decide) ?_
      refine PS_l1 (fun Q hq => c_is (c := 45) (v := 49) (by omega) H6.1.ca rfl (by unfold wcd; omega) hq) (PS_lp (by rw [decide_eq_false c49]; decide) ?_)
      refine PS_lx0 (fun Q hq => c_expect (c := 44) (v := 48) (by omega) H6.1.ca rfl (by unfold wcd; omega) (fun _ => hq) (fun h => absurd h c48) (fun h => absurd h c48)) (PRd_stop ?_)
      refine eS_l (fun Q h => zt_X13_element_p142 (by omega) h) ?_
      simp only [zb_X13_element_p142]
      refine eS_1 (fun Q hq => t_may (v := 44) (by omega) H8.1.ta H8.1.krg rfl (by omega) (fun e => absurd e c44) (fun _ => hq)) (eS_p rfl ?_)
      exact eS_x0 (fun Q hq => t_want (v := 47) (by omega) H8.1.ta H8.1.krg rfl (by omega) (fun h => absurd h c47) (fun _ => hq)) (TLP_two H8 FX.rf frm.rf hal4)
    · have hvn : ∃ n2 : Nat, v = (n2 : Int) := ⟨v.toNat, by omega⟩
      obtain ⟨n2, rfl⟩ := hvn
      exact dd_stat hd (by omega)
  · refine eS_ce (dd_elemName (by omega) H hd (by omega) h70 h76) (fun r t' hl hh => ?_)
    obtain ⟨e, hd2⟩ := hh
    subst e
    refine eS_l (fun Q h => fun _ => h) ?_
    exact dd_stat hd2 (by omega)
end ST6
