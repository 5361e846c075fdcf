/-! ===== PARSERS, part 55: the specification of a formal ===== -/
section FMS
variable {ex et : List Nat} {S S' S0 S1z SA : pS} {D : pD} {K : pK} {p p0 q o o' oA dl m N n n2 b b2 lo hi lo2 hi2 r d d2 dd g pA pB nP bP : Nat} {w t w' : wS} {al : List Nat} {nu : pNz} {tn : Nat → Prop} {E E' : zE} {L L' : Nat} {ol : pOL} {f : Option Nat} {fT c : Int32} {Q : kx_Rs → wS → Prop} {fi : Nat → Int32} {fp : Nat → Option Nat} {ft : Nat → Int32} {bl br : Bool} {lo1 : Int} {Φ : kx_Rs → wS → kx_Rs → wS → Prop} {gt : pQ} {G : pG} {x1 x2 : Option Nat} {x4 y1 y2 y3 : Int32}
/-- [] -/
theorem PSg_open {C : (kx_Rs → wS → Prop) → wS → Prop} {A B : (kx_Rs → wS → Prop) → wS → Prop} (hΦ : STP D K S0 br lo1 Φ) (hL : 600 ≤ L) (hL' : 600 ≤ L') (hN : N ≤ 11000) (H : HY D K ex et S0 (w, t, al, m, N, nu, tn) p p o o) (hO : OWc (w, t, al, m, N, nu, tn) b fi fp) (hT : OWt (w, t, al, m, N, nu, tn) n ft) (hbx : b ∈ S0.2.2.1.take S0.2.2.2.1 → b ∈ ex)
    (k0 : kk K p ≠ 42 → PS (fun Q => C Q w) (fun Q => A Q t) Φ)
    (k1 : ∀ w2 t7, w_i t7 12 0 38 = i_ (o + 1 : Nat) → w_n t7 12 0 34 = 14000 → HY D K ex et S0 (w2, ws_i t7 12 0 38 (i_ o), al, m, N, nu, tn) (p + 1 + 1) (p + 1 + 1) o o → FR [b] [] (w, t, al, m, N, nu, tn) (w2, ws_i t7 12 0 38 (i_ o), al, m, N, nu, tn) → OWc (w2, ws_i t7 12 0 38 (i_ o), al, m, N, nu, tn) b (up_ fi 13 1) fp → OWt (w2, ws_i t7 12 0 38 (i_ o), al, m, N, nu, tn) n ft → kln K (p + 1 + 1) = kln K p → PS (fun Q => C Q w2) (fun Q => B Q t7) Φ)
    (kd : ∀ w' t7, DDs D K S0 w' t7 → eS (fun Q => B Q t7) (fun r' t' => TLP D K S0.1 S0.2.1 br lo1 w' r' t')) :
    PS (fun Q => zw D.1 L kt_M197 [.ref (w_adr D.1.2.1 4 0), va_rf (some b)] w (wk0 (C Q) (fun e w => Q (.inr e) w))) (fun Q => zw E' (L' - 20) kt_M462 [.ref (w_adr E'.2.1 12 0)] t (wk1 (fun v4 w3 => wle t w3 → (if ¬ v4 = 42 then A Q w3 else zw E' (L' - 20) kt_M497 [.ref (w_adr E'.2.1 12 0)] w3 (wk0 (fun w5 => wle w3 w5 → zw E' (L' - 21) kt_M600 [.ref (w_adr E'.2.1 12 0), .int 43] w5 (wk0 (fun w7 => wle w5 w7 → B Q w7) (fun e w => Q (.inr e) w))) (fun e w => Q (.inr e) w)))) (fun e w => Q (.inr e) w))) Φ := by
  have hpl := H.1.ta.lt
  have hal := H.alive
  have ho := H.1.2.1.1.2.2.2.2
  have HB : HY D K [b] [] (w, t, al, m, N, nu, tn) (w, t, al, m, N, nu, tn) p p o o := ⟨H.1, FR.rf H.1.mle⟩
  refine PS_l (fun Q h => zt_X5_openSpec_p0 (by omega) h) ?_
  simp only [zb_X5_openSpec_p0]
  refine PS_l1 (fun Q hq => c_is (c := 38) (v := 42) (by omega) H.1.ca rfl (by unfold wcd; omega) hq) ?_
  refine PS_r1 (fun Q hq => t_look (by omega) H.1.ta hq) ?_
  have hkr := H.1.ta.kr H.1.krg
  have e42v : (i_ (kk K p) = (42 : Int32)) = (kk K p = 42) := i_eqk (show -1000 ≤ kk K p ∧ kk K p ≤ 1000 by omega) (show (-1000 : Int) ≤ 42 by decide) (by decide)
  simp only [e42v]
  by_cases h42 : kk K p = 42
  · rw [decide_eq_true h42]
    refine PS_lp (by decide) (PS_rn (not_not_intro h42) ?_)
    have hp2 := H.p1 (by rw [h42]; decide)
    have hln2 := H.1.ln hp2 (by rw [h42]; decide)
    refine PSg_enw (o := o) hΦ (by omega) (by omega) hN H (by rw [h42]; decide) (fun ho20 H5 => ?_) (fun w' hd => dd_want (v := 43) hd (by omega) rfl (by omega))
    have HB5 := ((HB.co (u := o + 1) (by omega)).to (u := o + 1) (by omega))
    have O5 : OWc (nx (ws_i w 4 0 4 (i_ (o + 1 : Nat))) p, nx3 (ws_i t 12 0 38 (i_ (o + 1 : Nat))) p, al, m, N, nu, tn) b _ _ := (hO.w4 (k := 4) (j := 4) (v := i_ (o + 1 : Nat)) (.inl (by decide))).w4 (k := 4) (j := 3) (v := i_ (p + 1 : Nat)) (.inl (by decide))
    have T5 : OWt (nx (ws_i w 4 0 4 (i_ (o + 1 : Nat))) p, nx3 (ws_i t 12 0 38 (i_ (o + 1 : Nat))) p, al, m, N, nu, tn) n _ := hT
    have HB6 := (HB5.cn (by rw [h42]; decide) H5.alive).tnx (by rw [h42]; decide) hal
    refine PSg_lvw (o := o) (c := 39) (v := 43) hΦ (by omega) (by omega) hN H5 rfl (by unfold wcd; omega) rfl (fun h43 H6 => ?_) (fun w' hd => kd w' _ hd)
    have hp3 := H5.p1 (by rw [h43]; decide)
    have hln3 := H5.1.ln hp3 (by rw [h43]; decide)
    have HB7 := ((HB6.cn (by rw [h43]; decide) H6.alive).tnx (by rw [h43]; decide) H5.alive).co (u := o) (by omega)
    have O6 : OWc (ws_i (nx (nx (ws_i w 4 0 4 (i_ (o + 1 : Nat))) p) (p + 1)) 4 0 4 (i_ o), nx3 (nx3 (ws_i t 12 0 38 (i_ (o + 1 : Nat))) p) (p + 1), al, m, N, nu, tn) b _ _ := (O5.w4 (k := 4) (j := 3) (v := i_ (p + 1 + 1 : Nat)) (.inl (by decide))).w4 (k := 4) (j := 4) (v := i_ o) (.inl (by decide))
    have T6 : OWt (ws_i (nx (nx (ws_i w 4 0 4 (i_ (o + 1 : Nat))) p) (p + 1)) 4 0 4 (i_ o), nx3 (nx3 (ws_i t 12 0 38 (i_ (o + 1 : Nat))) p) (p + 1), al, m, N, nu, tn) n _ := T5
    refine PS_lex b rfl (PS_land (O6.wl H6.1) ?_)
    have r38 : w_i (nx3 (nx3 (ws_i t 12 0 38 (i_ (o + 1 : Nat))) p) (p + 1)) 12 0 38 = i_ (o + 1 : Nat) := H6.1.2.1.2.2.2.1
    exact k1 _ _ r38 H6.1.tl.2.2.2.2.2.2.2.2.1 ((H6.to (u := o) ho).wi (k := 13) (v := 1) O6.1.2 hbx) ((HB7.to (u := o) ho).wi (k := 13) (v := 1) O6.1.2 (fun _ => List.mem_singleton_self b)).2 (O6.si (k := 13) (v := 1)) T6 (hln3.trans hln2)
  · rw [decide_eq_false h42]
    refine PS_ln (fun h => h rfl) (PS_rp h42 ?_)
    exact k0 h42
/-- a type or CHAN OF, behind [] -/
theorem p_fty {ov : Bool} (hΦ : STP D K S0 br lo1 Φ) (hL : 1000 ≤ L) (hL' : 1100 ≤ L') (hm : m < 10900) (hN : N ≤ 10900) (H : HY D K ex et S0 (w, t, al, m, N, nu, tn) p p o o) (hO : OWc (w, t, al, m, N, nu, tn) b fi fp) (hT : OWt (w, t, al, m, N, nu, tn) n ft) (hbx : b ∈ S0.2.2.1.take S0.2.2.2.1 → b ∈ ex) (hnx : n < S0.2.2.2.2.1 → n ∈ et) (hn : n < 14000) (h5n : fp 5 = none) (hfi : fi 13 = bI ov ∧ fi 14 = 0 ∧ fi 15 = 0) (hft : ft 34 = i_ (if ov then 1 else 0 : Nat))
    (k : ∀ w2 t2 al2 m2 nu2 p2 fi2 fp2 ft2, HY D K ex et S0 (w2, t2, al2, m2, N, nu2, tn) p2 p2 o o → FR [b] [n] (w, t, al, m, N, nu, tn) (w2, t2, al2, m2, N, nu2, tn) → OWc (w2, t2, al2, m2, N, nu2, tn) b fi2 fp2 → OWt (w2, t2, al2, m2, N, nu2, tn) n ft2 → KSP D (vw w2 t2) nu2 (fi2 8) (fp2 5) (fi2 13) (fi2 14) (fi2 15) (ft2 33) (ft2 34) → (fi2 2 = fi 2 ∧ fi2 12 = fi 12 ∧ fp2 0 = fp 0 ∧ fp2 7 = fp 7) → (ft2 26 = ft 26 ∧ ft2 27 = ft 27 ∧ ft2 32 = ft 32) → (p < p2 ∧ m2 + 4 * p ≤ m + 4 * p2) → kln K p2 = kln K p → PS (fun Q => zb_X5_formals_p177 D.1 L Q x1 x2 x4 (some b) w2) (fun Q => zb_X13_formals_p186 E' L' Q y1 y2 y3 (i_ n) t2) Φ) :
    PS (fun Q => zw D.1 (L - 21) kt_M187 [.ref (w_adr D.1.2.1 4 0), va_rf (some b)] w (wk0 (fun w4 => wle w w4 → zb_X5_formals_p177 D.1 L Q x1 x2 x4 (some b) w4) (fun e w => Q (.inr e) w))) (fun Q => zb_X13_formals_p162 E' L' Q y1 y2 y3 (i_ n) t) Φ := by
  have hpl := H.1.ta.lt
  have hal := H.alive
  simp only [zb_X13_formals_p162]
  refine PS_r1 (fun Q hq => t_look (by omega) H.1.ta hq) ?_
  have hkr := H.1.ta.kr H.1.krg
  have e6v : (i_ (kk K p) = (6 : Int32)) = (kk K p = 6) := i_eqk (show -1000 ≤ kk K p ∧ kk K p ≤ 1000 by omega) (show (-1000 : Int) ≤ 6 by decide) (by decide)
  simp only [e6v]
  have bB : b ∈ ([b] : List Nat) := List.mem_singleton_self b
  by_cases h6 : kk K p = 6
  · refine PS_rn (not_not_intro h6) ?_
    refine PSg_kdw (C := fun Q w4 => wle w w4 → zb_X5_formals_p177 D.1 L Q x1 x2 x4 (some b) w4) (Ct := fun Q w5 => wle t w5 → zb_X13_formals_p186 E' L' Q y1 y2 y3 (i_ n) w5) (o2 := if ov then 1 else 0) hΦ (by omega) (by omega) hm hN H hO hT hbx hnx hn h6 ⟨hft, by cases ov <;> decide⟩ (fun b2 al2 w2 t2 nu2 ty H2 F2 O2 T2 hKN hln => ?_) (fun w' t' hN' hd => ?_)
    · refine PS_of (fun Q h => fun _ => h) (fun Q h => fun _ => h) ?_
      exact k w2 t2 al2 (m + 1) nu2 _ _ _ _ H2 F2 O2 T2 ⟨ov, false, hfi.1, hfi.2.2, .inr ⟨rfl, hKN, rfl, by cases ov <;> rfl⟩⟩ ⟨rfl, rfl, rfl, rfl⟩ ⟨rfl, rfl, rfl⟩ ⟨by omega, by omega⟩ hln
    · refine eS_l (fun Q h => fun _ => h) ?_
      simp only [zb_X13_formals_p186]
      exact dd_wantName hd (by omega)
  · refine PS_rp h6 (PS_l (fun Q h => zt_X5_kindOf_p0 (by omega) h) ?_)
    simp only [zb_X5_kindOf_p0]
    refine PS_l1 (fun Q hq => c_is (c := 6) (v := 6) (by omega) H.1.ca rfl (by unfold wcd; omega) hq) ?_
    rw [decide_eq_false h6]
    refine PS_ln (fun h => h rfl) ?_
    have HB : HY D K [b] [n] (w, t, al, m, N, nu, tn) (w, t, al, m, N, nu, tn) p p o o := ⟨H.1, FR.rf H.1.mle⟩
    refine PSg_tyw hΦ (by omega) (by omega) (by omega) H hn hT.1.2 hnx (fun c hc hTy H2 => ?_) (fun c w' hc hd => ?_)
    · have n5 : kk K p ≠ 75 ∧ kk K p ≠ 74 := by
        have hk3 : kk K p = 12 ∨ kk K p = 4 ∨ kk K p = 3 := by
          simpa only [bTy, Bool.or_eq_true, decide_eq_true_eq] using hTy
        omega
      have hp1 := H.p1 n5.1
      have hln1 := H.1.ln hp1 n5.2
      have HB2 := ((HB.ta (k := 33) (n := n) (v := i_ c) rfl hT.1.2 (fun _ => List.mem_singleton_self n)).cn n5.1 H2.alive).tnx n5.1 hal
      have O2 : OWc (nx w p, nx3 (ws_a t 12 0 33 n (i_ c)) p, al, m, N, nu, tn) b _ _ := hO.w4 (j := 3) (v := i_ (p + 1 : Nat)) (.inl (by decide))
      have T2 : OWt (nx w p, nx3 (ws_a t 12 0 33 n (i_ c)) p, al, m, N, nu, tn) n _ := hT.si (k := 33) (v := i_ c)
      refine PS_lex b rfl (PS_land (O2.wl H2.1) ?_)
      refine PS_l (fun Q h => fun _ => h) ?_
      have T3 : OWt (ws_i (nx w p) 14 b 8 (i_ (c + 1 : Nat)), nx3 (ws_a t 12 0 33 n (i_ c)) p, al, m, N, nu, tn) n _ := T2
      exact k _ _ al m nu _ _ _ _ (H2.wi (k := 8) (v := i_ (c + 1 : Nat)) O2.1.2 hbx) (HB2.wi (k := 8) (v := i_ (c + 1 : Nat)) O2.1.2 (fun _ => bB)).2 (O2.si (k := 8) (v := i_ (c + 1 : Nat))) T3 ⟨ov, false, hfi.1, hfi.2.2, .inl ⟨hfi.2.1, h5n, ⟨c, hc, rfl, rfl⟩, hft.trans (by cases ov <;> rfl)⟩⟩ ⟨rfl, rfl, rfl, rfl⟩ ⟨rfl, rfl, rfl⟩ ⟨by omega, by omega⟩ hln1
    · simp only [zb_X13_formals_p186]
      exact dd_wantName hd (by omega)
theorem dd_fty (hL' : 1000 ≤ L') (h : DDs D K S0 w' t) : eS (fun Q => zb_X13_formals_p162 E' L' Q y1 y2 y3 x4 t) (fun r' t' => TLP D K S0.1 S0.2.1 br lo1 w' r' t') := by
  simp only [zb_X13_formals_p162]
  refine eS_1 (fun Q hq => t_look (by omega) h.2.2.1 hq) ?_
  rw [h.2.2.2.1]
  exact eS_p (by decide) (dd_takeType (by omega) h)
/-- the specification -/
theorem p_fspec (hΦ : STP D K S0 br lo1 Φ) (hL : 1000 ≤ L) (hL' : 1100 ≤ L') (hm : m < 10900) (hN : N ≤ 10900) (H : HY D K ex et S0 (w, t, al, m, N, nu, tn) p p o o) (hO : OWc (w, t, al, m, N, nu, tn) b fi fp) (hT : OWt (w, t, al, m, N, nu, tn) n ft) (hbx : b ∈ S0.2.2.1.take S0.2.2.2.1 → b ∈ ex) (hnx : n < S0.2.2.2.2.1 → n ∈ et) (hn : n < 14000) (h5n : fp 5 = none) (hfi : fi 13 = 0 ∧ fi 14 = 0) (hft : ft 34 = 0)
    (k : ∀ w2 t2 al2 m2 nu2 p2 fi2 fp2 ft2, HY D K ex et S0 (w2, t2, al2, m2, N, nu2, tn) p2 p2 o o → FR [b] [n] (w, t, al, m, N, nu, tn) (w2, t2, al2, m2, N, nu2, tn) → OWc (w2, t2, al2, m2, N, nu2, tn) b fi2 fp2 → OWt (w2, t2, al2, m2, N, nu2, tn) n ft2 → KSP D (vw w2 t2) nu2 (fi2 8) (fp2 5) (fi2 13) (fi2 14) (fi2 15) (ft2 33) (ft2 34) → (fi2 2 = fi 2 ∧ fi2 12 = fi 12 ∧ fp2 0 = fp 0 ∧ fp2 7 = fp 7) → (ft2 26 = ft 26 ∧ ft2 27 = ft 27 ∧ ft2 32 = ft 32) → (p < p2 ∧ m2 + 4 * p ≤ m + 4 * p2) → kln K p2 = kln K p → PS (fun Q => zb_X5_formals_p177 D.1 L Q x1 x2 x4 (some b) w2) (fun Q => zb_X13_formals_p186 E' L' Q y1 y2 y3 (i_ n) t2) Φ) :
    PS (fun Q => zb_X5_formals_p122 D.1 L Q x1 x2 x4 (some b) w) (fun Q => zb_X13_formals_p107 E' L' Q y1 y2 y3 (i_ n) t) Φ := by
  have hpl := H.1.ta.lt
  have hal := H.alive
  have bB : b ∈ ([b] : List Nat) := List.mem_singleton_self b
  have nB : n ∈ ([n] : List Nat) := List.mem_singleton_self n
  have HB : HY D K [b] [n] (w, t, al, m, N, nu, tn) (w, t, al, m, N, nu, tn) p p o o := ⟨H.1, FR.rf H.1.mle⟩
  simp only [zb_X5_formals_p122, zb_X13_formals_p107]
  refine PS_l1 (fun Q hq => c_is (c := 33) (v := 33) (by omega) H.1.ca rfl (by unfold wcd; omega) hq) ?_
  refine PS_lex b rfl (PS_land (hO.wl H.1) ?_)
  by_cases h33 : kk K p = 33
  · rw [decide_eq_true h33, show bI true = 1 from rfl]
    refine PS_land (.inr rfl) (PS_ln (by decide) ?_)
    refine PS_r1 (fun Q hq => t_may (v := 33) (by omega) H.1.ta H.1.krg rfl ⟨by decide, by decide⟩ (fun _ => hq) (fun e => absurd h33 e)) (PS_rn (by decide) ?_)
    have H1 := H.wi (k := 15) (v := 1) hO.1.2 hbx
    have HB1 := HB.wi (k := 15) (v := 1) hO.1.2 (fun _ => bB)
    have O1 := hO.si (k := 15) (v := 1)
    have hp1 := H1.p1 (by rw [h33]; decide)
    have hln1 := H1.1.ln hp1 (by rw [h33]; decide)
    refine PSg_nxl hΦ (by omega) H1 (by rw [h33]; decide) (fun H2' => ?_) (fun w' hd h76 => dd_valSpec (by omega) hn (H1.dd hd (by omega) (by rw [h33]; decide) hal h76))
    have H2 := H2'.tnx (by rw [h33]; decide) hal
    have HB2 := (HB1.cn (by rw [h33]; decide) H2.alive).tnx (by rw [h33]; decide) hal
    have O2 : OWc (nx (ws_i w 14 b 15 1) p, nx3 t p, al, m, N, nu, tn) b _ _ := O1.w4 (j := 3) (v := i_ (p + 1 : Nat)) (.inl (by decide))
    have T2 : OWt (nx (ws_i w 14 b 15 1) p, nx3 t p, al, m, N, nu, tn) n ft := hT
    have hpl2 := H2.1.ta.lt
    refine PS_r (fun Q h => zt_X13_valSpec_p0 (by omega) h) ?_
    simp only [zb_X5_formals_p145, zb_X13_valSpec_p0, zb_X13_valSpec_p49, i_nat' (show n < 2147483648 by omega)]
    refine PS_rand (by rw [H2.1.tl.2.2.2.2.2.2.2.2.1]; exact i_inb' (by omega) (by omega)) (PS_rand (by rw [H2.1.tl.2.2.2.2.2.2.2.2.1]; exact i_inb' (by omega) (by omega)) ?_)
    have r34 : w_a (nx3 t p) 12 0 34 n = 0 := (T2.2 34 rfl).trans hft
    rw [r34, show (0 : Int32) ||| 4 = 4 from rfl]
    have H4 := H2.ta (k := 34) (n := n) (v := 4) rfl T2.1.2 hnx
    have HB4 := HB2.ta (k := 34) (n := n) (v := 4) rfl T2.1.2 (fun _ => nB)
    have T4 := T2.si (k := 34) (v := 4)
    have O4 : OWc (nx (ws_i w 14 b 15 1) p, ws_a (nx3 t p) 12 0 34 n 4, al, m, N, nu, tn) b _ _ := O2
    -- the type
    have ty : ∀ (R : (kx_Rs → wS → Prop) → wS → Prop) (ov : Bool) (w5 t5 : wS) (p5 : Nat) (fi5 : Nat → Int32) (ft5 : Nat → Int32), HY D K ex et S0 (w5, t5, al, m, N, nu, tn) p5 p5 o o → FR [b] [n] (w, t, al, m, N, nu, tn) (w5, t5, al, m, N, nu, tn) → OWc (w5, t5, al, m, N, nu, tn) b fi5 fp → OWt (w5, t5, al, m, N, nu, tn) n ft5 → (fi5 13 = bI ov ∧ fi5 14 = 0 ∧ fi5 15 = 1 ∧ fi5 2 = fi 2 ∧ fi5 12 = fi 12) → (ft5 34 = i_ ((if ov then 1 else 0) + 4) ∧ ft5 26 = ft 26 ∧ ft5 27 = ft 27 ∧ ft5 32 = ft 32) → p < p5 → kln K p5 = kln K p → (∀ Q w, zb_X13_formals_p186 E' L' Q y1 y2 y3 (i_ n) w → R Q w) → PS (fun Q => ∃ p3, some b = some p3 ∧ w_l w5 D.1.2.1 14 p3 ∧ (if w_i w5 14 p3 15 = 0 then zw D.1 (L - 21) kt_M187 [.ref (w_adr D.1.2.1 4 0), va_rf (some b)] w5 (wk0 (fun w4 => wle w5 w4 → zb_X5_formals_p177 D.1 L Q x1 x2 x4 (some b) w4) (fun e w => Q (.inr e) w)) else zw D.1 (L - 21) kt_M212 [.ref (w_adr D.1.2.1 4 0)] w5 (wk1 (fun v7 w6 => wle w5 w6 → zb_X5_formals_p177 D.1 L Q x1 x2 x4 (some b) (ws_i w6 14 p3 8 v7)) (fun e w => Q (.inr e) w)))) (fun Q => zw E' (L' - 21 - 22) kt_M554 [.ref (w_adr E'.2.1 12 0), .int (i_ n)] t5 (wk0 (fun w1 => wle t5 w1 → R Q w1) (fun e w => Q (.inr e) w))) Φ := by
      intro R ov w5 t5 p5 fi5 ft5 H5 F5 O5 T5 hf5 ht5 hp5 hln5 hR
      have hpl5 := H5.1.ta.lt
      refine PS_lex b rfl (PS_land (O5.wl H5.1) ?_)
      have r15 : w_i w5 14 b 15 = 1 := (O5.2.1 15 rfl).trans hf5.2.2.1
      refine PS_ln (by rw [r15]; decide) ?_
      refine PSg_tyw hΦ (by omega) (by omega) (by omega) H5 hn T5.1.2 hnx (fun c hc hTy H6 => ?_) (fun c w' hc hd => ?_)
      · have n5 : kk K p5 ≠ 75 ∧ kk K p5 ≠ 74 := by
          have hk3 : kk K p5 = 12 ∨ kk K p5 = 4 ∨ kk K p5 = 3 := by
            simpa only [bTy, Bool.or_eq_true, decide_eq_true_eq] using hTy
          omega
        have hp6 := H5.p1 n5.1
        have hln6 := H5.1.ln hp6 n5.2
        have HB5 : HY D K [b] [n] (w, t, al, m, N, nu, tn) (w5, t5, al, m, N, nu, tn) p5 p5 o o := ⟨H5.1, F5⟩
        have HB6 := ((HB5.ta (k := 33) (n := n) (v := i_ c) rfl T5.1.2 (fun _ => nB)).cn n5.1 H6.alive).tnx n5.1 H5.alive
        have O6 : OWc (nx w5 p5, nx3 (ws_a t5 12 0 33 n (i_ c)) p5, al, m, N, nu, tn) b _ _ := O5.w4 (j := 3) (v := i_ (p5 + 1 : Nat)) (.inl (by decide))
        have T6 : OWt (nx w5 p5, nx3 (ws_a t5 12 0 33 n (i_ c)) p5, al, m, N, nu, tn) n _ := T5.si (k := 33) (v := i_ c)
        have T7 : OWt (ws_i (nx w5 p5) 14 b 8 (i_ (c + 1 : Nat)), nx3 (ws_a t5 12 0 33 n (i_ c)) p5, al, m, N, nu, tn) n _ := T6
        refine PS_r (fun Q h => hR Q _ h) ?_
        exact k _ _ al m nu _ _ _ _ (H6.wi (k := 8) (v := i_ (c + 1 : Nat)) O6.1.2 hbx) (HB6.wi (k := 8) (v := i_ (c + 1 : Nat)) O6.1.2 (fun _ => bB)).2 (O6.si (k := 8) (v := i_ (c + 1 : Nat))) T7 ⟨ov, true, hf5.1, hf5.2.2.1, .inl ⟨hf5.2.1, h5n, ⟨c, hc, rfl, rfl⟩, ht5.1⟩⟩ ⟨hf5.2.2.2.1, hf5.2.2.2.2, rfl, rfl⟩ ⟨ht5.2.1, ht5.2.2.1, ht5.2.2.2⟩ ⟨by omega, by omega⟩ (hln6.trans hln5)
      · refine eS_l (fun Q h => hR Q _ h) ?_
        simp only [zb_X13_formals_p186]
        exact dd_wantName hd (by omega)
    refine PSg_open (C := fun Q w1 => wle (nx (ws_i w 14 b 15 1) p) w1 → ∃ p3, some b = some p3 ∧ w_l w1 D.1.2.1 14 p3 ∧ (if w_i w1 14 p3 15 = 0 then zw D.1 (L - 21) kt_M187 [.ref (w_adr D.1.2.1 4 0), va_rf (some b)] w1 (wk0 (fun w4 => wle w1 w4 → zb_X5_formals_p177 D.1 L Q x1 x2 x4 (some b) w4) (fun e w => Q (.inr e) w)) else zw D.1 (L - 21) kt_M212 [.ref (w_adr D.1.2.1 4 0)] w1 (wk1 (fun v7 w6 => wle w1 w6 → zb_X5_formals_p177 D.1 L Q x1 x2 x4 (some b) (ws_i w6 14 p3 8 v7)) (fun e w => Q (.inr e) w)))) hΦ (by omega) (by omega) (by omega) H4 O4 T4 hbx (fun h42 => ?_) (fun w7 t7 e38 e34 H7 F7 O7 T7 hln7 => ?_) (fun w' t7 hd => ?_)
    · refine PS_of (fun Q h => fun _ => h) (fun Q h => h) (ty (fun Q w1 => wk0 (fun w9 => wle (nx3 t p) w9 → zb_X13_formals_p186 E' L' Q y1 y2 y3 (i_ n) w9) (fun e w => Q (.inr e) w) (.inl none) w1) false _ _ (p + 1) _ _ H4 HB4.2 O4 T4 ⟨hfi.1, hfi.2, rfl, rfl, rfl⟩ ⟨rfl, rfl, rfl, rfl⟩ (by omega) hln1 (fun Q w h => fun _ => h))
    · have a34 : w_a t7 12 0 34 n = 4 := T7.2 34 rfl
      have hal7 := H7.1.ta.lt
      refine PS_rand (by rw [e34]; exact i_inb' (by omega) (by omega)) (PS_rand (by rw [e34]; exact i_inb' (by omega) (by omega)) ?_)
      rw [e38, a34, show (i_ (o + 1 : Nat) : Int32) - 1 = i_ o from by rw [i_1, i_sub]; congr 1; omega, show (4 : Int32) ||| 1 = 5 from rfl]
      have HB7 : HY D K [b] [n] (w, t, al, m, N, nu, tn) _ _ _ _ _ := ⟨H7.1, HB4.2.tr F7 (fun a ha _ => ha) (fun a h => absurd h List.not_mem_nil)⟩
      have T8 := T7.si (k := 34) (v := 5)
      have O8 : OWc (w7, ws_a (ws_i t7 12 0 38 (i_ o)) 12 0 34 n 5, al, m, N, nu, tn) b _ _ := O7
      refine PS_of (fun Q h => fun _ => h) (fun Q h => h) (ty (fun Q w1 => wk0 (fun w9 => wle (nx3 t p) w9 → zb_X13_formals_p186 E' L' Q y1 y2 y3 (i_ n) w9) (fun e w => Q (.inr e) w) (.inl none) w1) true _ _ (p + 1 + 1 + 1) _ _ (H7.ta (k := 34) (n := n) (v := 5) rfl T7.1.2 hnx) (HB7.ta (k := 34) (n := n) (v := 5) rfl T7.1.2 (fun _ => nB)).2 O8 T8 ⟨rfl, hfi.2, rfl, rfl, rfl⟩ ⟨rfl, rfl, rfl, rfl⟩ (by omega) (hln7.trans hln1) (fun Q w h => fun _ => h))
    · refine eS_and (by rw [hd.2.2.tl.2.2.2.2.2.2.2.2.1]; exact i_inb' (by omega) (by omega)) (eS_and (by rw [hd.2.2.tl.2.2.2.2.2.2.2.2.1]; exact i_inb' (by omega) (by omega)) ?_)
      exact dd_takeType (by omega) (hd.to.ta rfl)
  · rw [decide_eq_false h33, show bI false = 0 from rfl]
    refine PS_land (.inl rfl) (PS_lp rfl ?_)
    refine PS_r1 (fun Q hq => t_may (v := 33) (by omega) H.1.ta H.1.krg rfl ⟨by decide, by decide⟩ (fun e => absurd e h33) (fun _ => hq)) (PS_rp rfl ?_)
    have H1 := H.wi (k := 15) (v := 0) hO.1.2 hbx
    have HB1 := HB.wi (k := 15) (v := 0) hO.1.2 (fun _ => bB)
    have O1 := hO.si (k := 15) (v := 0)
    have T1 : OWt (ws_i w 14 b 15 0, t, al, m, N, nu, tn) n ft := hT
    simp only [zb_X5_formals_p145]
    refine PSg_open (C := fun Q w1 => wle (ws_i w 14 b 15 0) w1 → ∃ p3, some b = some p3 ∧ w_l w1 D.1.2.1 14 p3 ∧ (if w_i w1 14 p3 15 = 0 then zw D.1 (L - 21) kt_M187 [.ref (w_adr D.1.2.1 4 0), va_rf (some b)] w1 (wk0 (fun w4 => wle w1 w4 → zb_X5_formals_p177 D.1 L Q x1 x2 x4 (some b) w4) (fun e w => Q (.inr e) w)) else zw D.1 (L - 21) kt_M212 [.ref (w_adr D.1.2.1 4 0)] w1 (wk1 (fun v7 w6 => wle w1 w6 → zb_X5_formals_p177 D.1 L Q x1 x2 x4 (some b) (ws_i w6 14 p3 8 v7)) (fun e w => Q (.inr e) w)))) hΦ (by omega) (by omega) (by omega) H1 O1 T1 hbx (fun h42 => ?_) (fun w7 t7 e38 e34 H7 F7 O7 T7 hln7 => ?_) (fun w' t7 hd => ?_)
    · refine PS_l (fun Q h => fun _ => h) ?_
      refine PS_lex b rfl (PS_land (O1.wl H1.1) ?_)
      have r15 : w_i (ws_i w 14 b 15 0) 14 b 15 = 0 := O1.2.1 15 rfl
      refine PS_lp r15 ?_
      refine p_fty (ov := false) hΦ (by omega) (by omega) hm hN H1 O1 T1 hbx hnx hn h5n ⟨hfi.1, hfi.2, rfl⟩ hft (fun w2 t2 al2 m2 nu2 p2 fi2 fp2 ft2 H2 F2 O2 T2 hK hfi2 hft2 hpm hln2 => ?_)
      exact k w2 t2 al2 m2 nu2 p2 fi2 fp2 ft2 H2 (HB1.2.tr F2 (fun a ha _ => ha) (fun a ha _ => ha)) O2 T2 hK hfi2 hft2 hpm hln2
    · have hal7 := H7.1.ta.lt
      refine PS_rand (by rw [e34]; exact i_inb' (by omega) (by omega)) ?_
      rw [e38, show (i_ (o + 1 : Nat) : Int32) - 1 = i_ o from by rw [i_1, i_sub]; congr 1; omega]
      simp only [i_nat' (show n < 2147483648 by omega)]
      have HB7 : HY D K [b] [n] (w, t, al, m, N, nu, tn) _ _ _ _ _ := ⟨H7.1, HB1.2.tr F7 (fun a ha _ => ha) (fun a h => absurd h List.not_mem_nil)⟩
      have T8 := T7.si (k := 34) (v := 1)
      have O8 : OWc (w7, ws_a (ws_i t7 12 0 38 (i_ o)) 12 0 34 n 1, al, m, N, nu, tn) b _ _ := O7
      have H8 := H7.ta (k := 34) (n := n) (v := 1) rfl T7.1.2 hnx
      have HB8 := HB7.ta (k := 34) (n := n) (v := 1) rfl T7.1.2 (fun _ => nB)
      refine PS_l (fun Q h => fun _ => h) ?_
      refine PS_lex b rfl (PS_land (O8.wl H8.1) ?_)
      have r15 : w_i w7 14 b 15 = 0 := O8.2.1 15 rfl
      refine PS_lp r15 ?_
      refine p_fty (ov := true) hΦ (by omega) (by omega) hm hN H8 O8 T8 hbx hnx hn h5n ⟨rfl, hfi.2, rfl⟩ rfl (fun w2 t2 al2 m2 nu2 p2 fi2 fp2 ft2 H2 F2 O2 T2 hK hfi2 hft2 hpm hln2 => ?_)
      exact k w2 t2 al2 m2 nu2 p2 fi2 fp2 ft2 H2 (HB8.2.tr F2 (fun a ha _ => ha) (fun a ha _ => ha)) O2 T2 hK hfi2 hft2 ⟨by omega, by omega⟩ (hln2.trans hln7)
    · refine eS_and (by rw [hd.2.2.tl.2.2.2.2.2.2.2.2.1]; exact i_inb' (by omega) (by omega)) ?_
      exact dd_fty (by omega) (hd.to.ta rfl)
end FMS
