/-! ===== PARSERS, part 29: behind an operand (printed by tools/gen_efrom.py out of 99n) ===== -/
def zg_X (E : zE) (L : Nat) (Q : kx_Rs → wS → Prop) (v12 : Option Nat) (w11 : wS) : Prop := zw E (L - 21) kt_M183 [.ref (w_adr E.2.1 4 0), .int 2] w11 (wk1 (fun v14 w13 => wle w11 w13 → (if ¬ v14 = 0 then zb_X5_expression_p105 E L Q v12 w13 else zw E (L - 21) kt_M183 [.ref (w_adr E.2.1 4 0), .int 19] w13 (wk1 (fun v16 w15 => wle w13 w15 → (if v16 = 0 then zw E (L - 21) kt_M185 [.ref (w_adr E.2.1 4 0)] w15 (wk1 (fun v18 w17 => wle w15 w17 → (if ¬ v18 = 0 then zw E (L - 21) kt_M196 [.ref (w_adr E.2.1 4 0), va_rf (some (E.1.1 24))] w17 (wkr (fun v20 w19 => wle w17 w19 → (kx_inb (w_i w19 4 0 3) (w_n w19 1 0 3) = true ∧ (∃ p21, v20 = some p21 ∧ w_l w19 E.2.1 14 p21 ∧ zw E (L - 20) kt_M195 [.ref (w_adr E.2.1 4 0)] (ws_i w19 14 p21 8 (w_a w19 1 0 3 (w_i w19 4 0 3).toNatClampNeg)) (wk0 (fun w22 => wle (ws_i w19 14 p21 8 (w_a w19 1 0 3 (w_i w19 4 0 3).toNatClampNeg)) w22 → zw E (L - 21) kt_M198 [.ref (w_adr E.2.1 4 0)] (ws_p w22 14 p21 3 v12) (wkr (fun v25 w24 => wle (ws_p w22 14 p21 3 v12) w24 → Q (.inl (some (va_rf (v20)))) (ws_p w24 14 p21 4 v25)) (fun e w => Q (.inr e) w))) (fun e w => Q (.inr e) w))))) (fun e w => Q (.inr e) w)) else Q (.inl (some (va_rf (v12)))) w17)) (fun e w => Q (.inr e) w)) else zb_X5_expression_p105 E L Q v12 w15)) (fun e w => Q (.inr e) w)))) (fun e w => Q (.inr e) w))
def zg_C (E : zE) (L : Nat) (Q : kx_Rs → wS → Prop) (x1 : Int32) (v2 v6 : Option Nat) (w5 : wS) : Prop := zw E (L - 21) kt_M183 [.ref (w_adr E.2.1 4 0), .int 46] w5 (wk1 (fun v8 w7 => wle w5 w7 → (if v8 = 0 then (∃ p9, v6 = some p9 ∧ w_l w7 E.2.1 14 p9 ∧ (if ¬ w_p w7 14 p9 0 = some (E.1.1 18) then zb_X5_guard_p80 E L Q x1 v2 v6 w7 else (if w_i w7 14 p9 12 = 0 then zb_X5_guard_p84 E L Q x1 v2 v6 w7 else zb_X5_guard_p80 E L Q x1 v2 v6 w7))) else zw E (L - 20) kt_M195 [.ref (w_adr E.2.1 4 0)] w7 (wk0 (fun w10 => wle w7 w10 → (∃ p12, v2 = some p12 ∧ w_l w10 E.2.1 14 p12 ∧ zw E (L - 21) kt_M183 [.ref (w_adr E.2.1 4 0), .int 28] (ws_p w10 14 p12 5 v6) (wk1 (fun v14 w13 => wle (ws_p w10 14 p12 5 v6) w13 → (if v14 = 0 then zw E (L - 22) kt_M172 [.ref (w_adr E.2.1 4 0)] w13 (wkr (fun v16 w15 => wle w13 w15 → zb_X5_guard_p59 E L Q x1 v2 v16 w15) (fun e w => Q (.inr e) w)) else zb_X5_guard_p59 E L Q x1 v2 none w13)) (fun e w => Q (.inr e) w)))) (fun e w => Q (.inr e) w)))) (fun e w => Q (.inr e) w))
def zg_T (E : zE) (L : Nat) (Q : kx_Rs → wS → Prop) (x1 : Int32) (w1 : wS) : Prop := (kx_inb (w_i w1 12 0 35) (w_n w1 12 0 9) = true ∧ zw E (L - 22) kt_M494 [.ref (w_adr E.2.1 12 0), .int 18, .int (w_a w1 12 0 9 (w_i w1 12 0 35).toNatClampNeg)] w1 (wk1 (fun v4 w3 => wle w1 w3 → zw E (L - 20) kt_M462 [.ref (w_adr E.2.1 12 0)] w3 (wk1 (fun v6 w5 => wle w3 w5 → (if v6 = 28 then zb_X13_guard_p113 E L Q x1 (w_a w1 12 0 9 (w_i w1 12 0 35).toNatClampNeg) v4 (-1) w5 else zw E (L - 20) kt_M462 [.ref (w_adr E.2.1 12 0)] w5 (wk1 (fun v8 w7 => wle w5 w7 → (if ¬ v8 = 70 then zb_X13_guard_p88 E L Q x1 (w_a w1 12 0 9 (w_i w1 12 0 35).toNatClampNeg) v4 (-1) w7 else zw E (L - 21) kt_M349 [.ref (w_adr E.2.1 12 0), .int 1] w7 (wk1 (fun v10 w9 => wle w7 w9 → (if v10 = 40 then zb_X13_guard_p88 E L Q x1 (w_a w1 12 0 9 (w_i w1 12 0 35).toNatClampNeg) v4 (-1) w9 else zw E (L - 23) kt_M396 [.ref (w_adr E.2.1 12 0)] w9 (wk1 (fun v12 w11 => wle w9 w11 → zw E (L - 20) kt_M462 [.ref (w_adr E.2.1 12 0)] w11 (wk1 (fun v14 w13 => wle w11 w13 → (if v14 = 48 then zb_X13_guard_p98 E L Q x1 (w_a w1 12 0 9 (w_i w1 12 0 35).toNatClampNeg) v4 v12 w13 else zw E (L - 24) kt_M394 [.ref (w_adr E.2.1 12 0), .int v12] w13 (wk1 (fun v16 w15 => wle w13 w15 → (kx_inb v4 (w_n w15 12 0 28) = true ∧ zb_X13_guard_p98 E L Q x1 (w_a w1 12 0 9 (w_i w1 12 0 35).toNatClampNeg) v4 (-1) (ws_a w15 12 0 28 (v4).toNatClampNeg v16))) (fun e w => Q (.inr e) w)))) (fun e w => Q (.inr e) w))) (fun e w => Q (.inr e) w)))) (fun e w => Q (.inr e) w)))) (fun e w => Q (.inr e) w)))) (fun e w => Q (.inr e) w))) (fun e w => Q (.inr e) w)))
section EFR
variable {ex et : List Nat} {S S' S0 SA : pS} {D : pD} {K : pK} {p p0 p2 q o o' oA dl m m2 N N2 n n1 n2 b b1 b2 lo hi r d g : Nat} {w t w' w2 t2 : wS} {al al2 : List Nat} {nu nu2 : pNz} {tn tn2 : Nat → Prop} {E E' : zE} {L L' : Nat} {Q : kx_Rs → wS → Prop}
theorem p_efrom (IO : OPq D K E' g) (hL : lex o ≤ L) (hL' : lex o ≤ L' + 24) (H : HY D K [] [] (w, t, al, m, N, nu, tn) (w, t, al, m, N, nu, tn) p p o o) (hg : K.length ≤ p + g) (hB : m ≤ 4 * p + 8 ∧ N ≤ 4 * p + 8) (H6 : HY D K [] [] (w, t, al, m, N, nu, tn) (w2, t2, al2, m2, N2, nu2, tn2) p2 p2 o o) (hb : p < p2 ∧ m2 + 4 * p ≤ m + 4 * p2 ∧ N2 + 4 * p ≤ N + 4 * p2) (hP1 : PND D (w2, t2, al2, m2, N2, nu2, tn2) N N2 (oE K (kln K p) 0 p p2) b1 n1 0) (hX1 : NXT (w2, t2, al2, m2, N2, nu2, tn2) b1 n1) (hb1 : b1 ∉ al.take m) (hln1 : kln K p2 = kln K p) :
    PS (fun Q => zg_X D.1 L Q (some b1) w2) (fun Q => zw E' L' kt_M394 [.ref (w_adr E'.2.1 12 0), .int (i_ n1)] t2 Q) (PR D K [] [] (w, t, al, m, N, nu, tn) p o true true 0 (GEx (fun p3 => p3 = p2) D K (w, t, al, m, N, nu, tn) p)) := by
  have hlx := hL
  have hlx' := hL'
  unfold lex at hlx hlx'
  have hpl := H.1.ta.lt
  have ho20 := H.1.2.1.1.2.2.2.2
  have hNs : ((w, t, al, m, N, nu, tn) : pS).2.2.2.2.1 ≤ N2 := H6.2.2.1.2.2.1
  have hNs2 : ((w, t, al, m, N, nu, tn) : pS).2.2.2.2.1 = N := rfl
  have hNs3 : ((w, t, al, m, N, nu, tn) : pS).2.2.2.1 = m := rfl
  simp only [zg_X, zb_X5_expression_p105]
  have hn1 := hP1.lt
  have hpl2 := H6.1.ta.lt
  have hal2 := H6.alive
  have hkr2 := H6.1.ca.kr
  have hn1N : n1 < N2 := hn1.1
  refine PS_r (fun Q h => zt_X13_eFrom_p0 (by omega) h) ?_
  simp only [zb_X13_eFrom_p0, zb_X13_eFrom_p77]
  refine PS_r1 (fun Q hq => t_look (by omega) H6.1.ta hq) ?_
  refine PS_r1 (fun Q hq => t_isOperator (by omega) (by omega) hq) ?_
  simp only [show (i_ (kk K p2) = (2 : Int32)) = (kk K p2 = 2) from i_eqk (show -1000 ≤ kk K p2 ∧ kk K p2 ≤ 1000 by omega) (show (-1000 : Int) ≤ 2 by decide) (by decide), show (i_ (kk K p2) = (19 : Int32)) = (kk K p2 = 19) from i_eqk (show -1000 ≤ kk K p2 ∧ kk K p2 ≤ 1000 by omega) (show (-1000 : Int) ≤ 19 by decide) (by decide), H6.tpos, i_nat' (show p2 < 2147483648 by omega), H6.1.r9, H6.l9.1]
  -- AND, OR
  have hall : ∀ c : Nat, (c = 2 ∨ c = 19) → kk K p2 = c → PS (fun Q => zw D.1 (L - 23) kt_M168 [.ref (w_adr D.1.2.1 4 0), va_rf (some b1)] w2 (wkr (fun v2 w1 => wle w2 w1 → Q (.inl (some (va_rf v2))) w1) (fun e w => Q (.inr e) w))) (fun Q => kx_inb (i_ p2) 12002 = true ∧ zw E' (L' - 22) kt_M494 [.ref (w_adr E'.2.1 12 0), .int 64, .int (i_ (kln K p2))] t2 (wk1 (fun v2 w1 => wle t2 w1 → kx_inb v2 (w_n w1 12 0 29) = true ∧ kx_inb v2 (w_n w1 12 0 28) = true ∧ zL_X13_eFrom_p110 E' L' Q (i_ (kk K p2)) v2 (i_ n1) (ws_a (ws_a w1 12 0 29 v2.toNatClampNeg (i_ (kk K p2))) 12 0 28 v2.toNatClampNeg (i_ n1))) (fun e w => Q (.inr e) w))) (PR D K [] [] (w, t, al, m, N, nu, tn) p o true true 0 (GEx (fun p3 => p3 = p2) D K (w, t, al, m, N, nu, tn) p)) := by
    intro c hc hkc
    refine PS_ltail (PS_l (fun Q h => zt_X5_chain_p0 (by omega) h) ?_)
    simp only [zb_X5_chain_p0]
    refine PS_cn (by omega) (by omega) H6 (fun b al' w3 H7 HF O7 hfr hb0' => ?_)
    obtain ⟨l2, l3, l4, l5, l6⟩ := H7.1.ca.1.1.2.1
    obtain ⟨cc, hc1, hc2, hc3, hc4⟩ := H7.1.cd (by omega)
    have hcc : cc = c := by unfold wcd at hc1; omega
    subst hcc
    simp only [H7.cpos, l3, i_nat' (show p2 < 2147483648 by omega), hc2]
    refine PS_land (i_inb' (by omega) (by omega)) (PS_lex b rfl (PS_land (O7.wl H7.1) ?_))
    have hb1b : b1 ≠ b := fun e => hfr (by rw [← e]; exact hP1.bm.1)
    have hNR7 : NR (w3, t2, al', m2 + 1, N2, nu2, tn2) b1 := HF.nr hP1.bm.1 hX1.2.2
    have H8 := (H7.wi (k := 8) (v := i_ (c : Nat)) O7.1.2 (fun e => absurd e hb0')).wp (k := 3) (v := some b1) O7.1.2 (fun e => absurd e hb0') (LKO.mk (HF.sub hP1.bm.1) hNR7 hb1)
    have O8 := (O7.si (k := 8) (v := i_ (c : Nat))).sp (k := 3) (v := some b1)
    refine PS_rand (i_inb' (by omega) (by omega)) ?_
    refine PS_r1 (fun Q hq => t_node (by omega) H8.kt H8.tN (by omega) hq) ?_
    simp only [i_nat' (show N2 < 2147483648 by omega), hkc]
    have H9 := H8.tnd (x := 64) (l := i_ (kln K p2))
    have T9 := OWt.new (x := 64) (l := i_ (kln K p2)) H8
    refine PS_rand (by rw [H9.1.tl.2.2.2.1]; exact i_inb' (by omega) (by omega)) (PS_rand (by rw [H9.1.tl.2.2.1]; exact i_inb' (by omega) (by omega)) ?_)
    have hN2 : N ≤ N2 := H6.2.2.1.2.2.1
    have H10 := (H9.ta (k := 29) (n := N2) (v := i_ (c : Nat)) rfl T9.1.2 (fun h => absurd h (by omega))).ta (k := 28) (n := N2) (v := i_ n1) rfl T9.1.2 (fun h => absurd h (by omega))
    have T10 := (T9.si (k := 29) (v := i_ (c : Nat))).si (k := 28) (v := i_ n1)
    have hP7 : PND D (w3, t2, al', m2 + 1, N2, nu2, tn2) N N2 (oE K (kln K p) 0 p p2) b1 n1 0 := hP1.fr H6.1 HF List.not_mem_nil (fun _ h => absurd h List.not_mem_nil) (fun _ h => absurd h List.not_mem_nil)
    have hX7 : NXo (w3, t2, al', m2 + 1, N2, nu2, tn2) b1 n1 := hX1.xo.fr HF hP1.bm.1 hn1N List.not_mem_nil List.not_mem_nil
    have hP8 : PND D (ws_p (ws_i w3 14 b 8 (i_ (c : Nat))) 14 b 3 (some b1), ws_a (ws_a (nd3 t2 N2 64 (i_ (kln K p2))) 12 0 29 N2 (i_ (c : Nat))) 12 0 28 N2 (i_ n1), al', m2 + 1, N2, nu2, tn2) N N2 (oE K (kln K p) 0 p p2) b1 n1 0 := hP7.cong (n := N2) (bx := b) (fun a h k => by simp only [nx, Rii, Rgi, Rpi, Rai, Rbi, Rri, Rni, Rdi, Roi, Rti, Rzi, RCi, RSi, Rip, Rgp, Rpp, Rap, Rbp, Rrp, Rnp, Rdp, Rop, Rtp, Rzp, RCp, RSp]; simp [h]) rfl (fun y h k => by simp only [nx3, nd3, Rii, Rgi, Rpi, Rai, Rbi, Rri, Rni, Rdi, Roi, Rti, Rzi, RCi, RSi, Ria, Rga, Rpa, Raa, Rba, Rra, Rna, Rda, Roa, Rta, Rza, RCa, RSa]; simp [h]) ⟨.inr (Nat.le_refl _), T9.1.2⟩ ⟨O7.1.2, hb1b⟩
    have hX8 : NXo (ws_p (ws_i w3 14 b 8 (i_ (c : Nat))) 14 b 3 (some b1), ws_a (ws_a (nd3 t2 N2 64 (i_ (kln K p2))) 12 0 29 N2 (i_ (c : Nat))) 12 0 28 N2 (i_ n1), al', m2 + 1, N2 + 1, nu2, tn2) b1 n1 := hX7.cong (n := N2) (bx := b) (fun a h k => by simp only [nx, Rii, Rgi, Rpi, Rai, Rbi, Rri, Rni, Rdi, Roi, Rti, Rzi, RCi, RSi, Rip, Rgp, Rpp, Rap, Rbp, Rrp, Rnp, Rdp, Rop, Rtp, Rzp, RCp, RSp]; simp [h]) (fun y h k => by simp only [nx3, nd3, Rii, Rgi, Rpi, Rai, Rbi, Rri, Rni, Rdi, Roi, Rti, Rzi, RCi, RSi, Ria, Rga, Rpa, Raa, Rba, Rra, Rna, Rda, Roa, Rta, Rza, RCa, RSa]; simp [h]) (by omega) hb1b
    rw [← hln1] at hP8
    have O10 : OWc (ws_p (ws_i w3 14 b 8 (i_ (c : Nat))) 14 b 3 (some b1), ws_a (ws_a (nd3 t2 N2 64 (i_ (kln K p2))) 12 0 29 N2 (i_ (c : Nat))) 12 0 28 N2 (i_ n1), al', m2 + 1, N2 + 1, nu2, tn2) b _ _ := O8
    refine p_all_loop IO (SA := (w, t, al, m, N, nu, tn)) (pA := p) (fi := up_ (ndI (i_ p2) (i_ (kln K p2))) 8 (i_ c)) (fp := up_ (ndP (some (D.1.1.1 23))) 3 (some b1)) (ft := up_ (up_ (ndT 64 (i_ (kln K p2))) 29 (i_ c)) 28 (i_ n1)) (by unfold lex; omega) (by unfold lex; omega) hc (nE := N2) (bE := b) ⟨hN2, by omega⟩ (fun e => hb0' e) rfl rfl (by rw [← hln1]; rfl) rfl rfl ⟨rfl, rfl⟩ rfl (by rw [← hln1]; rfl) rfl rfl rfl rfl K.length _ _ _ _ _ _ _ p2 b1 n1 N N2 (p2 - p) ⟨Nat.le_refl _, .inr hkc⟩ (Nat.le_refl _) (by omega) (by omega) H10 O10 T10 ?_ hln1 hb1 ⟨hb1b, by omega, .inr (Nat.le_refl _)⟩ ⟨by omega, ⟨by show m2 + 1 + 4 * p ≤ m + 4 * p2 + 1; omega, by show N2 + 1 + 4 * p ≤ N + 4 * p2 + 1; omega⟩, .inl hkc⟩ ⟨by omega, by omega⟩
    rw [← hln1]
    exact LI.one (hP8.nn (Nat.le_succ _)) hX8
  refine PS_l1 (fun Q hq => c_is (c := 2) (v := 2) (by omega) H6.1.ca rfl (by unfold wcd; omega) hq) ?_
  by_cases c2 : kk K p2 = 2
  · refine PS_lp (by rw [decide_eq_true c2]; decide) (PS_rp (by rw [c2]; decide) (PS_rp c2 ?_))
    exact hall 2 (.inl rfl) c2
  refine PS_ln (by rw [decide_eq_false c2]; decide) ?_
  refine PS_l1 (fun Q hq => c_is (c := 19) (v := 19) (by omega) H6.1.ca rfl (by unfold wcd; omega) hq) ?_
  by_cases c19 : kk K p2 = 19
  · refine PS_ln (by rw [decide_eq_true c19]; decide) (PS_rp (by rw [c19]; decide) (PS_rn c2 (PS_rp c19 ?_)))
    exact hall 19 (.inr rfl) c19
  refine PS_lp (by rw [decide_eq_false c19]; decide) ?_
  refine PS_l1 (fun Q hq => c_isOperation (by omega) H6.1.ca hq) ?_
  cases hop : bOp (kk K p2) with
  | false =>
    refine PS_ln (by decide) (PS_rp (by decide) (PS_rn c2 (PS_rn c19 ?_)))
    exact PS_ret (.inr ⟨some b1, i_ n1, al2, m2, N2, nu2, tn2, p2, rfl, rfl, H6, hb, b1, n1, rfl, rfl, hP1, hX1, hb1, hln1, fun _ => rfl⟩)
  | true =>
    have hop' := hop
    unfold bOp at hop'
    simp only [Bool.or_eq_true, Bool.and_eq_true, decide_eq_true_eq] at hop'
    refine PS_lp (by decide) (PS_rn (by decide) ?_)
    refine PS_cn (by omega) (by omega) H6 (fun b al' w3 H7 HF O7 hfr hb0' => ?_)
    obtain ⟨l2, l3, l4, l5, l6⟩ := H7.1.ca.1.1.2.1
    obtain ⟨cc, hc1, hc2, hc3, hc4⟩ := H7.1.cd (by omega)
    simp only [H7.cpos, l3, i_nat' (show p2 < 2147483648 by omega)]
    refine PS_land (i_inb' (by omega) (by omega)) (PS_lex b rfl (PS_land (O7.wl H7.1) ?_))
    have hb1b : b1 ≠ b := fun e => hfr (by rw [← e]; exact hP1.bm.1)
    have hP7 : PND D (w3, t2, al', m2 + 1, N2, nu2, tn2) N N2 (oE K (kln K p) 0 p p2) b1 n1 0 := hP1.fr H6.1 HF List.not_mem_nil (fun _ h => absurd h List.not_mem_nil) (fun _ h => absurd h List.not_mem_nil)
    obtain ⟨x6, tn4, r6, H7', hC7, hm1, hm2, hn0⟩ := H7.fin hP7 hb1 (Nat.le_refl _)
    have O7' := O7.fin (x := x6) (tn' := tn4) (fun e => hb1b e.symm)
    have hN2 : N ≤ N2 := H6.2.2.1.2.2.1
    have hnt : ¬ tn4 N2 := fun e => by
      have : N2 < N2 := H7'.1.gl.2 N2 e
      omega
    have H8 := H7'.wi (k := 8) (v := w_a w3 1 0 3 p2) O7'.1.2 (fun e => absurd e hb0')
    have O8 := O7'.si (k := 8) (v := w_a w3 1 0 3 p2)
    refine PS_rand (i_inb' (by omega) (by omega)) ?_
    have hp1 := H8.p1 (by omega)
    have hln2 := H8.1.ln hp1 (by omega)
    have HT1 := H8.tnd (x := 63) (l := i_ (kln K p2))
    have T1 := OWt.new (x := 63) (l := i_ (kln K p2)) H8
    have e35 : w_i (nd3 t2 N2 63 (i_ (kln K p2))) 12 0 35 = i_ p2 := HT1.tpos
    refine PS_nxl (by omega) H8 (by omega) (fun H3 => ?_) (fun w' hd h76 => ?_)
    · refine PS_r1 (fun Q hq => t_node (by omega) H3.kt H3.tN (by omega) hq) ?_
      simp only [i_nat' (show N2 < 2147483648 by omega), e35, p3e]
      have H4 := (((H3.tnd (x := 63) (l := i_ (kln K p2))).tnx (by omega) hal2).wp (k := 3) (v := some b1) (by exact O8.1.2) (fun e => absurd e hb0') (LKO.mk hP7.bm.1 (HF.nr hP1.bm.1 hX1.2.2) hb1))
      have O4 : OWc (ws_p (nx (ws_i w3 14 b 8 (w_a w3 1 0 3 p2)) p2) 14 b 3 (some b1), nx3 (nd3 t2 N2 63 (i_ (kln K p2))) p2, al', m2 + 1, N2 + 1, nuU nu2 b1 x6, tn4) b _ _ := (O8.w4 (j := 3) (v := i_ (p2 + 1 : Nat)) (.inl (by decide))).sp (k := 3) (v := some b1)
      refine PS_rand (by rw [HT1.1.tl.2.2.2.1]; exact i_inb' (by omega) (by omega)) (PS_rand (by rw [HT1.1.tl.2.2.1]; exact i_inb' (by omega) (by omega)) ?_)
      have T4 : OWt (ws_p (nx (ws_i w3 14 b 8 (w_a w3 1 0 3 p2)) p2) 14 b 3 (some b1), nx3 (nd3 t2 N2 63 (i_ (kln K p2))) p2, al', m2 + 1, N2 + 1, nuU nu2 b1 x6, tn4) N2 _ := T1
      have H5 := (H4.ta (k := 29) (n := N2) (v := i_ (kk K p2)) rfl T4.1.2 (fun h => absurd h (by omega))).ta (k := 28) (n := N2) (v := i_ n1) rfl T4.1.2 (fun h => absurd h (by omega))
      have T5 := (T4.si (k := 29) (v := i_ (kk K p2))).si (k := 28) (v := i_ n1)
      have hC5 : CHz (vw (ws_p (nx (ws_i w3 14 b 8 (w_a w3 1 0 3 p2)) p2) 14 b 3 (some b1)) (ws_a (ws_a (nx3 (nd3 t2 N2 63 (i_ (kln K p2))) p2) 12 0 29 N2 (i_ (kk K p2))) 12 0 28 N2 (i_ n1))) tn4 (nuU nu2 b1 x6) (r6 + 1) (oE K (kln K p) 0 p p2) n1 b1 0 := by
        refine hC7.up (VWa.mk (b := b) (n := N2) ?_ ?_ ?_ O7'.1.2 hnt) (fun _ _ h => h) (fun _ h => h) (Nat.le_refl _)
        · exact (fun a h k => by simp only [nx, Rii, Rgi, Rpi, Rai, Rbi, Rri, Rni, Rdi, Roi, Rti, Rzi, RCi, RSi, Rip, Rgp, Rpp, Rap, Rbp, Rrp, Rnp, Rdp, Rop, Rtp, Rzp, RCp, RSp]; simp [h])
        · exact (fun y h k => by simp only [nx3, nd3, Rii, Rgi, Rpi, Rai, Rbi, Rri, Rni, Rdi, Roi, Rti, Rzi, RCi, RSi, Ria, Rga, Rpa, Raa, Rba, Rra, Rna, Rda, Roa, Rta, Rza, RCa, RSa]; simp [h])
        · rfl
      have O5 : OWc (ws_p (nx (ws_i w3 14 b 8 (w_a w3 1 0 3 p2)) p2) 14 b 3 (some b1), ws_a (ws_a (nx3 (nd3 t2 N2 63 (i_ (kln K p2))) p2) 12 0 29 N2 (i_ (kk K p2))) 12 0 28 N2 (i_ n1), al', m2 + 1, N2 + 1, nuU nu2 b1 x6, tn4) b _ _ := O4
      refine PR_c11 H.1.krg H5.2 (IO (L - 21) (L' - 24) _ _ _ _ _ _ _ _ _ (by unfold lex; omega) (by unfold lex; omega) H5.1 (by omega) ⟨by omega, by omega⟩) (fun a h => absurd h List.not_mem_nil) (fun a h => absurd h List.not_mem_nil) (fun x v w5 t5 al5 m5 N5 nu5 tn5 p5 hl5 H9 HS9 hbd hgx => ?_) (fun v w5 t5 hv hv2 hd => ?_)
      · obtain ⟨b2, n2, rfl, rfl, hP9, hX9, hb2, hln9, hfk⟩ := hgx
        have O9 := O5.fr HS9.2 List.not_mem_nil
        have T9 := T5.fr HS9.2 List.not_mem_nil
        rw [hln2, hln1] at hP9
        have hC9 := hC5.up (k' := 0) (VWa.fr H5.1 HS9.2 (fun _ h => absurd h List.not_mem_nil) (fun _ h => absurd h List.not_mem_nil)) HS9.2.2.2.2.2.1.1 HS9.2.2.2.2.2.1.2.1 (Nat.le_refl _)
        obtain ⟨x10, tn10, r10, H10, hC10, hm3, hm4, hn10⟩ := H9.fin hP9 (fun e => hb2 (H5.2.sub e)) (Nat.le_trans hN2 (Nat.le_succ N2))
        have hbb : b ≠ b2 := fun e => hb2 (by rw [← e]; exact O4.1.1.1)
        have O10 := O9.fin (x := x10) (tn' := tn10) hbb
        have T10 := T9.fin (nu' := nuU nu5 b2 x10) hm4 (.inl (Nat.lt_succ_self N2))
        have hC9' := hC9.fin (x := x10) hn10 hm3
        have H11 := H10.wp (k := 4) (v := some b2) O10.1.2 (fun e => absurd e hb0') (LKO.mk hP9.bm.1 hX9.2.2 (fun e => hb2 (H5.2.sub e)))
        have O11 := O10.sp (k := 4) (v := some b2)
        refine PS_rand (by rw [H10.1.tl.2.2.2.2.1]; exact i_inb' (by omega) (by omega)) ?_
        have H12 := H11.ta (k := 30) (n := N2) (v := i_ n2) rfl T10.1.2 (fun h => absurd h (by omega))
        have T12 := T10.si (k := 30) (v := i_ n2)
        have OE : OWc (ws_p w5 14 b 4 (some b2), ws_a t5 12 0 30 N2 (i_ n2), al5, m5, N5, nuU nu5 b2 x10, tn10) b _ _ := O11
        have TE : OWt (ws_p w5 14 b 4 (some b2), ws_a t5 12 0 30 N2 (i_ n2), al5, m5, N5, nuU nu5 b2 x10, tn10) N2 _ := T12
        have hvw := VWa.mk (w := w5) (t := t5) (w' := ws_p w5 14 b 4 (some b2)) (t' := ws_a t5 12 0 30 N2 (i_ n2)) (b := b) (n := N2) (fun a h k => by simp only [nx, Rii, Rgi, Rpi, Rai, Rbi, Rri, Rni, Rdi, Roi, Rti, Rzi, RCi, RSi, Rip, Rgp, Rpp, Rap, Rbp, Rrp, Rnp, Rdp, Rop, Rtp, Rzp, RCp, RSp]; simp [h]) (fun y h k => by simp only [nx3, nd3, Rii, Rgi, Rpi, Rai, Rbi, Rri, Rni, Rdi, Roi, Rti, Rzi, RCi, RSi, Ria, Rga, Rpa, Raa, Rba, Rra, Rna, Rda, Roa, Rta, Rza, RCa, RSa]; simp [h]) rfl O10.1.2 T10.1.2
        have e27 : i_ (kln K p2) = i_ (kln K p) := by rw [hln1]
        refine PS_ret (.inr ⟨some b, i_ N2, al5, m5, N5, nuU nu5 b2 x10, tn10, p5, rfl, rfl, H12, ⟨by omega, by show m5 + _ ≤ m + _; omega, by show N5 + _ ≤ N + _; omega⟩, b, N2, rfl, rfl, PND.mk1 (kd := 63) OE TE hN2 (by omega) (LFz.two OE TE rfl rfl rfl hc1 hc2 rfl hop ⟨b1, n1, rfl, rfl, ?_⟩ ⟨b2, n2, rfl, rfl, ?_⟩) rfl (fun l e => by cases e; exact e27), NXT.mk1 OE TE rfl rfl, hb0', by omega, fun e => absurd ((TE.2 26 rfl).symm.trans e) (show ¬ ((63 : Int32) = 60) by decide)⟩)
        · show CHz _ _ _ _ (some (i_ (kln K p2)), _) _ _ _
          rw [e27]
          exact hC9'.up hvw (fun _ _ h => h) (fun _ h => h) (Nat.le_refl _)
        · show CHz _ _ _ _ (some (i_ (kln K p2)), _) _ _ _
          rw [e27]
          exact hC10.up hvw (fun _ _ h => h) (fun _ h => h) (Nat.le_refl _)
      · refine eS_and (by rw [hd.2.2.tl.2.2.2.2.1]; exact i_inb' (by omega) (by omega)) ?_
        exact (hd.ta rfl).ret rfl ⟨by omega, by omega⟩
    · refine eS_1 (fun Q hq => t_node (by omega) H8.kt H8.tN (by omega) hq) ?_
      simp only [i_nat' (show N2 < 2147483648 by omega), e35, p3e]
      refine eS_and (by rw [HT1.1.tl.2.2.2.1]; exact i_inb' (by omega) (by omega)) (eS_and (by rw [HT1.1.tl.2.2.1]; exact i_inb' (by omega) (by omega)) ?_)
      have hd2 := (H8.tnd (x := 63) (l := i_ (kln K p2))).dd hd (by omega) (by omega) hal2 h76
      exact dd_operand ((hd2.ta rfl).ta rfl) (by omega)
end EFR
