/-! ===== PARSERS, part 47: behind ']' ===== -/
section DC8
variable {ex et : List Nat} {S S' S0 SA SB : pS} {D : pD} {K : pK} {V V' : pV} {p p0 q o o' oA dl m N n n2 b b1 b2 lo hi lo2 hi2 r d d2 dd g pA pB nP bP y ks c k k' : Nat} {w t w' : wS} {al : List Nat} {nu nu' : pNz} {tn tn' : Nat → Prop} {E E' : zE} {L L' : Nat} {ol : pOL} {f : Option Nat} {fT x1 x2 : Int32} {Q : kx_Rs → wS → Prop} {fi fi1 : Nat → Int32} {fp fp1 : Nat → Option Nat} {ft : Nat → Int32} {br : Bool} {lo1 : Int} {Φ : kx_Rs → wS → kx_Rs → wS → Prop} {bl : Option Nat} {gt : pQ}
/-- a sized declaration, behind ']' -/
theorem p_dbk2 (hL : lex 0 + 400 ≤ L) (hL' : lex 0 + 400 ≤ L') (H : HY D K [] [] S0 (w, t, al, m, N, nu, tn) p p 0 0) (hO : OWc (w, t, al, m, N, nu, tn) b fi fp) (hT : OWt (w, t, al, m, N, nu, tn) n ft) (hb : b ∉ S0.2.2.1.take S0.2.2.2.1) (hn : S0.2.2.2.2.1 ≤ n ∧ n < 14000) (h5n : fp 5 = none) (hp0 : p0 ≤ p) (hln : kln K p = kln K p0)
    (hfi : fi 2 = i_ (kln K p0) ∧ fi 12 = 0 ∧ fi 13 = 0 ∧ fi 14 = 0 ∧ fp 7 = none) (hft : ft 26 = 30 ∧ ft 27 = i_ (kln K p0) ∧ ft 32 = -1 ∧ ft 34 = i_ 1) (hEC : ECz (vw w t) tn nu k (oE K (kln K p0) 0 p0 p) 0 (fp 3) (ft 28)) (hmN : m ≤ 4 * p + 8 ∧ N ≤ 4 * p + 8) (hbd : m + 4 * p0 ≤ S0.2.2.2.1 + 4 * p + 4 ∧ N + 4 * p0 ≤ S0.2.2.2.2.1 + 4 * p + 4) :
    PS (fun Q => zw D.1 (L - 21) kt_M187 [.ref (w_adr D.1.2.1 4 0), va_rf (some b)] w (wk0 (fun w3 => wle w w3 → (∃ p5, some b = some p5 ∧ w_l w3 D.1.2.1 14 p5 ∧ (if w_i w3 14 p5 14 = 0 then zb_X5_declaration_p130 D.1 L Q (some b) (some (D.1.1.1 10)) (some b) w3 else zb_X5_declaration_p130 D.1 L Q (some b) (some (D.1.1.1 26)) (some b) w3))) (fun e w => Q (.inr e) w)))
      (fun Q => zw E' (L' - 20) kt_M462 [.ref (w_adr E'.2.1 12 0)] t (wk1 (fun v44 w43 => wle t w43 → (if ¬ v44 = 6 then zw E' (L' - 22) kt_M554 [.ref (w_adr E'.2.1 12 0), .int (i_ n)] w43 (wk0 (fun w45 => wle w43 w45 → zb_X13_declaration_p254 E' L' Q (i_ n) w45) (fun e w => Q (.inr e) w)) else (kx_inb (i_ n) (w_n w43 12 0 26) = true ∧ zw E' (L' - 21) kt_M553 [.ref (w_adr E'.2.1 12 0), .int (i_ n)] (ws_a w43 12 0 26 n 31) (wk0 (fun w47 => wle (ws_a w43 12 0 26 n 31) w47 → zb_X13_declaration_p254 E' L' Q (i_ n) w47) (fun e w => Q (.inr e) w))))) (fun e w => Q (.inr e) w))) (PRd D K d [] [] S0 p0 0 true true 0 (GPs 1 3 D K S0 p0)) := by
  have hL9 : 2300 ≤ L := by unfold lex at hL; omega
  have hL9' : 2300 ≤ L' := by unfold lex at hL'; omega
  have hpl := H.1.ta.lt
  have hkr := H.1.ta.kr H.1.krg
  have hΦ : STL D K d S0 true 0 (PRd D K d [] [] S0 p0 0 true true 0 (GPs 1 3 D K S0 p0)) := STL.of
  have h3n : fp 3 ≠ none := by
    obtain ⟨pp, nn, e, -⟩ := hEC
    rw [e]; simp
  refine PS_r1 (fun Q hq => t_look (by clear hL hL'; omega) H.1.ta hq) ?_
  have e6v : (i_ (kk K p) = (6 : Int32)) = (kk K p = 6) := i_eqk (show -1000 ≤ kk K p ∧ kk K p ≤ 1000 by clear hL hL'; omega) (show (-1000 : Int) ≤ 6 by decide) (by decide)
  simp only [e6v]
  by_cases h6 : kk K p = 6
  · refine PS_rn (not_not_intro h6) ?_
    refine PS_rand (by rw [H.1.tl.1]; exact i_inb' (by clear hL hL'; omega) (by clear hL hL'; omega)) ?_
    have H1 := H.ta (k := 26) (n := n) (v := 31) rfl hT.1.2 (fun h => absurd h (Nat.not_lt.mpr hn.1))
    have T1 := hT.si (k := 26) (v := 31)
    have O1 : OWc (w, ws_a t 12 0 26 n 31, al, m, N, nu, tn) b fi fp := hO
    refine PSg_kdw (C := fun Q w3 => wle w w3 → (∃ p5, some b = some p5 ∧ w_l w3 D.1.2.1 14 p5 ∧ (if w_i w3 14 p5 14 = 0 then zb_X5_declaration_p130 D.1 L Q (some b) (some (D.1.1.1 10)) (some b) w3 else zb_X5_declaration_p130 D.1 L Q (some b) (some (D.1.1.1 26)) (some b) w3))) (Ct := fun Q w47 => wle (ws_a t 12 0 26 n 31) w47 → zb_X13_declaration_p254 E' L' Q (i_ n) w47) (o2 := 1) hΦ.stp (by clear hL hL'; omega) (by clear hL hL'; omega) (by clear hL hL'; omega) (by clear hL hL'; omega) H1 O1 T1 (fun e => absurd e hb) (fun h => absurd h (Nat.not_lt.mpr hn.1)) hn.2 h6 ⟨hft.2.2.2, by decide⟩ (fun b2 al2 w2 t2 nu2 ty H2 F2 O2 T2 hKN hln2 => ?_) (fun w' t' hN' hd => ?_)
    · refine PS_of (fun Q h => fun _ => h) (fun Q h => fun _ => h) ?_
      have hpl2 := H2.1.ta.lt
      refine PS_lex b rfl (PS_land (O2.wl H2.1) ?_)
      have r14 : w_i w2 14 b 14 = 1 := O2.2.1 14 rfl
      refine PS_ln (by rw [r14]; decide) ?_
      simp only [zb_X5_declaration_p130]
      have hE1 := hEC.up (k' := 0) (V' := vw w (ws_a t 12 0 26 n 31)) (VWa.mk (b := b) (n := n) (fun a ha k => ⟨rfl, rfl⟩) (fun y hy k => by rw [Raa, if_neg (fun z => hy z.2.2.2)]) rfl hO.1.2 hT.1.2) (fun _ _ h => h) (fun _ h => h) (Nat.le_refl _)
      have hE2 := hE1.up (k' := 0) (VWa.fr H1.1 F2 (fun a h => by rw [List.mem_singleton.mp h]; exact hO.1.2) (fun y h => by rw [List.mem_singleton.mp h]; exact hT.1.2)) F2.2.2.2.2.1.1 F2.2.2.2.2.1.2.1 (Nat.le_refl _)
      exact p_nm2 (c := 2) (y := 31) hL hL' H2 O2 T2 hb hn ⟨.inr (.inl ⟨rfl, rfl, rfl, rfl, hKN⟩), .inr ⟨hE2.wk, rfl⟩⟩ h3n hfi.2.2.1 ⟨hfi.1, hfi.2.1, hfi.2.2.2.2⟩ ⟨rfl, hft.2.1, hft.2.2.1⟩ (hln2.trans hln) (by clear hL hL'; omega) (by clear hL hL'; omega) (by clear hL hL'; omega)
    · refine eS_l (fun Q h => fun _ => h) ?_
      simp only [zb_X13_declaration_p254]
      exact dd_wantName hd (by clear hL hL'; omega)
  · refine PS_rp h6 ?_
    refine PS_l (fun Q h => zt_X5_kindOf_p0 (by clear hL hL'; omega) h) ?_
    simp only [zb_X5_kindOf_p0]
    refine PS_l1 (fun Q hq => c_is (c := 6) (v := 6) (by clear hL hL'; omega) H.1.ca rfl (by unfold wcd; omega) hq) ?_
    rw [decide_eq_false h6]
    refine PS_ln (fun h => h rfl) ?_
    refine PSg_tyw hΦ.stp (by clear hL hL'; omega) (by clear hL hL'; omega) (by clear hL hL'; omega) H hn.2 hT.1.2 (fun h => absurd h (Nat.not_lt.mpr hn.1)) (fun c hc hTy H2 => ?_) (fun c w' hc hd => ?_)
    · have n5 : kk K p ≠ 75 ∧ kk K p ≠ 74 := by
        have hk3 : kk K p = 12 ∨ kk K p = 4 ∨ kk K p = 3 := by
          simpa only [bTy, Bool.or_eq_true, decide_eq_true_eq] using hTy
        clear hL hL'
        omega
      have hp1 := H.p1 n5.1
      have hln1 := H.1.ln hp1 n5.2
      have hpl2 := H2.1.ta.lt
      have O2 : OWc (nx w p, nx3 (ws_a t 12 0 33 n (i_ c)) p, al, m, N, nu, tn) b _ _ := hO.w4 (j := 3) (v := i_ (p + 1 : Nat)) (.inl (by decide))
      have T2 : OWt (nx w p, nx3 (ws_a t 12 0 33 n (i_ c)) p, al, m, N, nu, tn) n _ := hT.si (k := 33) (v := i_ c)
      refine PS_lex b rfl (PS_land (O2.wl H2.1) ?_)
      refine PS_l (fun Q h => fun _ => h) ?_
      have H3 := H2.wi (k := 8) (v := i_ (c + 1 : Nat)) O2.1.2 (fun e => absurd e hb)
      have O3 := O2.si (k := 8) (v := i_ (c + 1 : Nat))
      have T3 : OWt (ws_i (nx w p) 14 b 8 (i_ (c + 1 : Nat)), nx3 (ws_a t 12 0 33 n (i_ c)) p, al, m, N, nu, tn) n _ := T2
      refine PS_lex b rfl (PS_land (O3.wl H3.1) ?_)
      have r14 : w_i (ws_i (nx w p) 14 b 8 (i_ (c + 1 : Nat))) 14 b 14 = 0 := (O3.2.1 14 rfl).trans hfi.2.2.2.1
      refine PS_lp r14 ?_
      simp only [zb_X5_declaration_p130]
      have hE2 := hEC.up (k' := 0) (V' := vw (ws_i (nx w p) 14 b 8 (i_ (c + 1 : Nat))) (nx3 (ws_a t 12 0 33 n (i_ c)) p)) (VWa.mk (b := b) (n := n) (fun a ha k => ⟨by
        rw [Rii, if_neg (fun z => ha z.2.2)]
        show w_i (nx w p) 14 a k = _
        rw [nx_14], rfl⟩) (fun y hy k => by
        show w_a (ws_a t 12 0 33 n (i_ c)) 12 0 k y = _
        rw [Raa, if_neg (fun z => hy z.2.2.2)]) rfl hO.1.2 hT.1.2) (fun _ _ h => h) (fun _ h => h) (Nat.le_refl _)
      exact p_nm2 (c := 0) (y := 30) hL hL' H3 O3 T3 hb hn ⟨.inl ⟨rfl, rfl, rfl, hfi.2.2.2.1, h5n, c, hc, rfl, rfl⟩, .inr ⟨hE2.wk, hft.2.2.2⟩⟩ h3n hfi.2.2.1 ⟨hfi.1, hfi.2.1, hfi.2.2.2.2⟩ ⟨hft.1, hft.2.1, hft.2.2.1⟩ (hln1.trans hln) (by clear hL hL'; omega) (by clear hL hL'; omega) (by clear hL hL'; omega)
    · simp only [zb_X13_declaration_p254]
      exact dd_wantName hd (by clear hL hL'; omega)
/-- an open declaration, behind ']' -/
theorem p_dbk3 (hL : lex 0 + 400 ≤ L) (hL' : lex 0 + 400 ≤ L') (H : HY D K [] [] S0 (w, t, al, m, N, nu, tn) p p 0 0) (hO : OWc (w, t, al, m, N, nu, tn) b fi fp) (hT : OWt (w, t, al, m, N, nu, tn) n ft) (hb : b ∉ S0.2.2.1.take S0.2.2.2.1) (hn : S0.2.2.2.2.1 ≤ n ∧ n < 14000) (h5n : fp 5 = none) (hp0 : p0 ≤ p) (hln : kln K p = kln K p0)
    (hfi : fi 2 = i_ (kln K p0) ∧ fi 12 = 0 ∧ fi 13 = 1 ∧ fi 14 = 0 ∧ fp 7 = none) (hft : ft 27 = i_ (kln K p0) ∧ ft 32 = -1 ∧ ft 34 = i_ 1) (h3n : fp 3 = none) (hmN : m ≤ 4 * p + 8 ∧ N ≤ 4 * p + 8) (hbd : m + 4 * p0 ≤ S0.2.2.2.1 + 4 * p + 4 ∧ N + 4 * p0 ≤ S0.2.2.2.2.1 + 4 * p + 4) :
    PS (fun Q => zw D.1 (L - 21) kt_M187 [.ref (w_adr D.1.2.1 4 0), va_rf (some b)] w (wk0 (fun w3 => wle w w3 → (∃ p5, some b = some p5 ∧ w_l w3 D.1.2.1 14 p5 ∧ (if w_i w3 14 p5 14 = 0 then zb_X5_declaration_p130 D.1 L Q (some b) (some (D.1.1.1 10)) (some b) w3 else zb_X5_declaration_p130 D.1 L Q (some b) (some (D.1.1.1 26)) (some b) w3))) (fun e w => Q (.inr e) w)))
      (fun Q => zw E' (L' - 20) kt_M462 [.ref (w_adr E'.2.1 12 0)] t (wk1 (fun v44 w43 => wle t w43 → (if ¬ v44 = 6 then zw E' (L' - 22) kt_M554 [.ref (w_adr E'.2.1 12 0), .int (i_ n)] w43 (wk0 (fun w45 => wle w43 w45 → zb_X13_declaration_p188 E' L' Q (i_ n) w45) (fun e w => Q (.inr e) w)) else zw E' (L' - 21) kt_M553 [.ref (w_adr E'.2.1 12 0), .int (i_ n)] w43 (wk0 (fun w47 => wle w43 w47 → zb_X13_declaration_p188 E' L' Q (i_ n) w47) (fun e w => Q (.inr e) w)))) (fun e w => Q (.inr e) w))) (PRd D K d [] [] S0 p0 0 true true 0 (GPs 1 3 D K S0 p0)) := by
  have hL9 : 2300 ≤ L := by unfold lex at hL; omega
  have hL9' : 2300 ≤ L' := by unfold lex at hL'; omega
  have hpl := H.1.ta.lt
  have hkr := H.1.ta.kr H.1.krg
  have hΦ : STL D K d S0 true 0 (PRd D K d [] [] S0 p0 0 true true 0 (GPs 1 3 D K S0 p0)) := STL.of
  refine PS_r1 (fun Q hq => t_look (by clear hL hL'; omega) H.1.ta hq) ?_
  have e6v : (i_ (kk K p) = (6 : Int32)) = (kk K p = 6) := i_eqk (show -1000 ≤ kk K p ∧ kk K p ≤ 1000 by clear hL hL'; omega) (show (-1000 : Int) ≤ 6 by decide) (by decide)
  simp only [e6v]
  by_cases h6 : kk K p = 6
  · refine PS_rn (not_not_intro h6) ?_
    refine PSg_kdw (C := fun Q w3 => wle w w3 → (∃ p5, some b = some p5 ∧ w_l w3 D.1.2.1 14 p5 ∧ (if w_i w3 14 p5 14 = 0 then zb_X5_declaration_p130 D.1 L Q (some b) (some (D.1.1.1 10)) (some b) w3 else zb_X5_declaration_p130 D.1 L Q (some b) (some (D.1.1.1 26)) (some b) w3))) (Ct := fun Q w47 => wle t w47 → zb_X13_declaration_p188 E' L' Q (i_ n) w47) (o2 := 1) hΦ.stp (by clear hL hL'; omega) (by clear hL hL'; omega) (by clear hL hL'; omega) (by clear hL hL'; omega) H hO hT (fun e => absurd e hb) (fun h => absurd h (Nat.not_lt.mpr hn.1)) hn.2 h6 ⟨hft.2.2, by decide⟩ (fun b2 al2 w2 t2 nu2 ty H2 F2 O2 T2 hKN hln2 => ?_) (fun w' t' hN' hd => ?_)
    · refine PS_of (fun Q h => fun _ => h) (fun Q h => fun _ => h) ?_
      have hpl2 := H2.1.ta.lt
      refine PS_lex b rfl (PS_land (O2.wl H2.1) ?_)
      have r14 : w_i w2 14 b 14 = 1 := O2.2.1 14 rfl
      refine PS_ln (by rw [r14]; decide) ?_
      simp only [zb_X5_declaration_p130]
      exact p_nm3 hL hL' H2 O2 T2 hb hn ⟨true, false, hfi.2.2.1, rfl, .inr ⟨rfl, hKN, rfl, rfl⟩⟩ h3n (by show fi 13 ≠ 0; rw [hfi.2.2.1]; decide) ⟨hfi.1, hfi.2.1, hfi.2.2.2.2⟩ ⟨hft.1, hft.2.1⟩ (hln2.trans hln) (by clear hL hL'; omega) (by clear hL hL'; omega) (by clear hL hL'; omega)
    · refine eS_l (fun Q h => fun _ => h) ?_
      simp only [zb_X13_declaration_p188]
      exact dd_wantName hd (by clear hL hL'; omega)
  · refine PS_rp h6 ?_
    refine PS_l (fun Q h => zt_X5_kindOf_p0 (by clear hL hL'; omega) h) ?_
    simp only [zb_X5_kindOf_p0]
    refine PS_l1 (fun Q hq => c_is (c := 6) (v := 6) (by clear hL hL'; omega) H.1.ca rfl (by unfold wcd; omega) hq) ?_
    rw [decide_eq_false h6]
    refine PS_ln (fun h => h rfl) ?_
    refine PSg_tyw hΦ.stp (by clear hL hL'; omega) (by clear hL hL'; omega) (by clear hL hL'; omega) H hn.2 hT.1.2 (fun h => absurd h (Nat.not_lt.mpr hn.1)) (fun c hc hTy H2 => ?_) (fun c w' hc hd => ?_)
    · have n5 : kk K p ≠ 75 ∧ kk K p ≠ 74 := by
        have hk3 : kk K p = 12 ∨ kk K p = 4 ∨ kk K p = 3 := by
          simpa only [bTy, Bool.or_eq_true, decide_eq_true_eq] using hTy
        clear hL hL'
        omega
      have hp1 := H.p1 n5.1
      have hln1 := H.1.ln hp1 n5.2
      have hpl2 := H2.1.ta.lt
      have O2 : OWc (nx w p, nx3 (ws_a t 12 0 33 n (i_ c)) p, al, m, N, nu, tn) b _ _ := hO.w4 (j := 3) (v := i_ (p + 1 : Nat)) (.inl (by decide))
      have T2 : OWt (nx w p, nx3 (ws_a t 12 0 33 n (i_ c)) p, al, m, N, nu, tn) n _ := hT.si (k := 33) (v := i_ c)
      refine PS_lex b rfl (PS_land (O2.wl H2.1) ?_)
      refine PS_l (fun Q h => fun _ => h) ?_
      have H3 := H2.wi (k := 8) (v := i_ (c + 1 : Nat)) O2.1.2 (fun e => absurd e hb)
      have O3 := O2.si (k := 8) (v := i_ (c + 1 : Nat))
      have T3 : OWt (ws_i (nx w p) 14 b 8 (i_ (c + 1 : Nat)), nx3 (ws_a t 12 0 33 n (i_ c)) p, al, m, N, nu, tn) n _ := T2
      refine PS_lex b rfl (PS_land (O3.wl H3.1) ?_)
      have r14 : w_i (ws_i (nx w p) 14 b 8 (i_ (c + 1 : Nat))) 14 b 14 = 0 := (O3.2.1 14 rfl).trans hfi.2.2.2.1
      refine PS_lp r14 ?_
      simp only [zb_X5_declaration_p130]
      exact p_nm3 hL hL' H3 O3 T3 hb hn ⟨true, false, hfi.2.2.1, rfl, .inl ⟨hfi.2.2.2.1, h5n, ⟨c, hc, rfl, rfl⟩, hft.2.2⟩⟩ h3n (by show fi 13 ≠ 0; rw [hfi.2.2.1]; decide) ⟨hfi.1, hfi.2.1, hfi.2.2.2.2⟩ ⟨hft.1, hft.2.1⟩ (hln1.trans hln) (by clear hL hL'; omega) (by clear hL hL'; omega) (by clear hL hL'; omega)
    · simp only [zb_X13_declaration_p188]
      exact dd_wantName hd (by clear hL hL'; omega)
end DC8
