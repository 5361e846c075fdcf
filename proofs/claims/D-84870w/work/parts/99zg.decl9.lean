/-! ===== PARSERS, part 50: VAL, its head ===== -/
section DCW
variable {ex et : List Nat} {S S' S0 SA SB : pS} {D : pD} {K : pK} {p p0 q o o' dl m N n b d k : Nat} {w t w' : wS} {al : List Nat} {nu nu' : pNz} {tn tn' : Nat → Prop} {E E' : zE} {L L' : Nat} {x1 x2 : Int32} {Q : kx_Rs → wS → Prop} {fi : Nat → Int32} {fp : Nat → Option Nat} {ft : Nat → Int32} {br : Bool} {lo1 : Int}
theorem dd_valSpec {A : (kx_Rs → wS → Prop) → wS → Prop} (hL : 1000 ≤ L') (hn : n < 14000) (h : DDs D K S0 w' t) : eS (fun Q => zw E' L' kt_M595 [.ref (w_adr E'.2.1 12 0), .int (i_ n)] t (wk0 (A Q) (fun e w => Q (.inr e) w))) (fun r' t' => TLP D K S0.1 S0.2.1 br lo1 w' r' t') := by
  refine eS_l (fun Q h => zt_X13_valSpec_p0 (by omega) h) ?_
  simp only [zb_X13_valSpec_p0, zb_X13_valSpec_p49]
  refine eS_and (by rw [h.2.2.tl.2.2.2.2.2.2.2.2.1]; exact i_inb' (by omega) (by omega)) (eS_and (by rw [h.2.2.tl.2.2.2.2.2.2.2.2.1]; exact i_inb' (by omega) (by omega)) ?_)
  have hd := h.ta (k := 34) (n := (i_ n : Int32).toNatClampNeg) (v := w_a t 12 0 34 (i_ n : Int32).toNatClampNeg ||| 4) rfl
  refine eS_1 (fun Q hq => t_look (by omega) hd.2.2.1 hq) ?_
  rw [hd.2.2.2.1]
  exact eS_p (by decide) (dd_takeType (by omega) hd)
theorem p_val (hL : lex 0 + 500 ≤ L) (hL' : lex 0 + 500 ≤ L') (H : HY D K [] [] S0 (w, t, al, m, N, nu, tn) p p 0 0) (hO : OWc (w, t, al, m, N, nu, tn) b fi fp) (hT : OWt (w, t, al, m, N, nu, tn) n ft) (hb : b ∉ S0.2.2.1.take S0.2.2.2.1) (hn : S0.2.2.2.2.1 ≤ n ∧ n < 14000) (h33 : kk K p = 33)
    (hfi : fi 2 = i_ (kln K p) ∧ fi 12 = 0 ∧ fi 13 = 0 ∧ fp 7 = none) (hft : ft 27 = i_ (kln K p) ∧ ft 32 = -1 ∧ ft 34 = 0) (hmN : m ≤ 4 * p + 8 ∧ N ≤ 4 * p + 8) (hbd : m ≤ S0.2.2.2.1 + 1 ∧ N ≤ S0.2.2.2.2.1 + 1) :
    PS (fun Q => zw D.1 (L - 21) kt_M214 [.ref (w_adr D.1.2.1 4 0), va_rf (some b)] w (wk0 (fun w11 => wle w w11 → zb_X5_declaration_p219 D.1 L Q (some b) w11) (fun e w => Q (.inr e) w)))
      (fun Q => kx_inb (i_ n) (w_n t 12 0 26) = true ∧ zw E' (L' - 21) kt_M595 [.ref (w_adr E'.2.1 12 0), .int (i_ n)] (ws_i (ws_a t 12 0 26 n 33) 12 0 35 (w_i t 12 0 35 + 1)) (wk0 (fun w23 => wle (ws_i (ws_a t 12 0 26 n 33) 12 0 35 (w_i t 12 0 35 + 1)) w23 → zw E' (L' - 20) kt_M601 [.ref (w_adr E'.2.1 12 0)] w23 (wk1 (fun v26 w25 => wle w23 w25 → (kx_inb (i_ n) (w_n w25 12 0 30) = true ∧ zw E' (L' - 21) kt_M600 [.ref (w_adr E'.2.1 12 0), .int 13] (ws_a w25 12 0 30 n v26) (wk0 (fun w27 => wle (ws_a w25 12 0 30 n v26) w27 → zw E' (L' - 22) kt_M393 [.ref (w_adr E'.2.1 12 0)] w27 (wk1 (fun v30 w29 => wle w27 w29 → (kx_inb (i_ n) (w_n w29 12 0 28) = true ∧ zw E' (L' - 21) kt_M600 [.ref (w_adr E'.2.1 12 0), .int 46] (ws_a w29 12 0 28 n v30) (wk0 (fun w31 => wle (ws_a w29 12 0 28 n v30) w31 → zw E' (L' - 20) kt_M400 [.ref (w_adr E'.2.1 12 0)] w31 (wk0 (fun w33 => wle w31 w33 → Q (.inl (some (.int (i_ n)))) w33) (fun e w => Q (.inr e) w))) (fun e w => Q (.inr e) w)))) (fun e w => Q (.inr e) w))) (fun e w => Q (.inr e) w)))) (fun e w => Q (.inr e) w))) (fun e w => Q (.inr e) w))) (PRd D K d [] [] S0 p 0 true true 0 (GPs 1 3 D K S0 p)) := by
  have hLb' : lex 0 + 400 ≤ L' := Nat.le_trans (Nat.add_le_add_left (by decide) _) hL'
  have hle : lex 0 ≤ L - 21 - 22 := by unfold lex at *; omega
  have hL9 : 2300 ≤ L := by unfold lex at hL; omega
  have hL9' : 2300 ≤ L' := by unfold lex at hL'; omega
  clear hL hL'
  have hpl := H.1.ta.lt
  have hal := H.alive
  have hnN : n < N := hT.1.1
  have hp1 := H.p1 (by rw [h33]; decide)
  have hln1 := H.1.ln hp1 (by rw [h33]; decide)
  have hΦ : STL D K d S0 true 0 (PRd D K d [] [] S0 p 0 true true 0 (GPs 1 3 D K S0 p)) := STL.of
  refine PS_rand (by rw [H.1.tl.1]; exact i_inb' (by clear hLb' hle; omega) (by clear hLb' hle; omega)) ?_
  have e35 : ws_i (ws_a t 12 0 26 n 33) 12 0 35 (w_i t 12 0 35 + 1) = nx3 (ws_a t 12 0 26 n 33) p := by
    rw [H.tpos, i_1, i_add, cN1]
    rfl
  rw [e35]
  have H1 := H.ta (k := 26) (n := n) (v := 33) rfl hT.1.2 (fun h => absurd h (Nat.not_lt.mpr hn.1))
  have T1 := hT.si (k := 26) (v := 33)
  refine PS_l (fun Q h => zt_X5_value_p0 (by clear hLb' hle; omega) h) ?_
  simp only [zb_X5_value_p0]
  refine PSg_nxl hΦ.stp (by clear hLb' hle; omega) H1 (by rw [h33]; decide) (fun H2' => ?_) (fun w' hd h76 => dd_valSpec (by clear hLb' hle; omega) hn.2 (H1.dd hd (by clear hLb' hle; omega) (by rw [h33]; decide) hal h76))
  have H2 := H2'.tnx (by rw [h33]; decide) hal
  have O2 : OWc (nx w p, nx3 (ws_a t 12 0 26 n 33) p, al, m, N, nu, tn) b fi fp := hO.w4 (j := 3) (v := i_ (p + 1 : Nat)) (.inl (by decide))
  have T2 : OWt (nx w p, nx3 (ws_a t 12 0 26 n 33) p, al, m, N, nu, tn) n _ := T1
  have hpl2 := H2.1.ta.lt
  have hal2 := H2.alive
  refine PS_lex b rfl (PS_land (O2.wl H2.1) ?_)
  have H3 := H2.wp (k := 0) (v := some (D.1.1.1 28)) O2.1.2 (fun e => absurd e hb)
  have O3 := O2.sp (k := 0) (v := some (D.1.1.1 28))
  have T3 : OWt (ws_p (nx w p) 14 b 0 (some (D.1.1.1 28)), nx3 (ws_a t 12 0 26 n 33) p, al, m, N, nu, tn) n _ := T2
  refine PS_of (fun Q h => zt_X5_openSpec_p0 (by clear hLb' hle; omega) h) (fun Q h => zt_X13_valSpec_p0 (by clear hLb' hle; omega) h) ?_
  simp only [zb_X5_openSpec_p0, zb_X13_valSpec_p0, zb_X13_valSpec_p49, i_nat' (show n < 2147483648 by clear hLb' hle; omega)]
  refine PS_rand (by rw [H3.1.tl.2.2.2.2.2.2.2.2.1]; exact i_inb' (by clear hLb' hle; omega) (by clear hLb' hle; omega)) (PS_rand (by rw [H3.1.tl.2.2.2.2.2.2.2.2.1]; exact i_inb' (by clear hLb' hle; omega) (by clear hLb' hle; omega)) ?_)
  have r34 : w_a (nx3 (ws_a t 12 0 26 n 33) p) 12 0 34 n = 0 := (T3.2 34 rfl).trans hft.2.2
  rw [r34, show (0 : Int32) ||| 4 = 4 from rfl]
  have H4 := H3.ta (k := 34) (n := n) (v := 4) rfl T3.1.2 (fun h => absurd h (Nat.not_lt.mpr hn.1))
  have T4 := T3.si (k := 34) (v := 4)
  have O4 : OWc (ws_p (nx w p) 14 b 0 (some (D.1.1.1 28)), ws_a (nx3 (ws_a t 12 0 26 n 33) p) 12 0 34 n 4, al, m, N, nu, tn) b _ _ := O3
  refine PS_l1 (fun Q hq => c_is (c := 38) (v := 42) (by clear hLb' hle; omega) H4.1.ca rfl (by unfold wcd; omega) hq) ?_
  refine PS_r1 (fun Q hq => t_look (by clear hLb' hle; omega) H4.1.ta hq) ?_
  have hkr := H4.1.ta.kr H4.1.krg
  have e42v : (i_ (kk K (p + 1)) = (42 : Int32)) = (kk K (p + 1) = 42) := i_eqk (show -1000 ≤ kk K (p + 1) ∧ kk K (p + 1) ≤ 1000 by clear hLb' hle; omega) (show (-1000 : Int) ≤ 42 by decide) (by decide)
  simp only [e42v]
  by_cases h42 : kk K (p + 1) = 42
  · rw [decide_eq_true h42]
    refine PS_lp (by decide) (PS_rn (not_not_intro h42) ?_)
    have hp2 := H4.p1 (by rw [h42]; decide)
    have hln2 := H4.1.ln hp2 (by rw [h42]; decide)
    refine PSg_enw (o := 0) hΦ.stp (by clear hLb' hle; omega) (by clear hLb' hle; omega) (by clear hLb' hle; omega) H4 (by rw [h42]; decide) (fun _ H5 => ?_) (fun w' hd => dd_want (v := 43) hd (by clear hLb' hle; omega) rfl (by omega))
    have O5 : OWc (nx (ws_i (ws_p (nx w p) 14 b 0 (some (D.1.1.1 28))) 4 0 4 (i_ (0 + 1 : Nat))) (p + 1), nx3 (ws_i (ws_a (nx3 (ws_a t 12 0 26 n 33) p) 12 0 34 n 4) 12 0 38 (i_ (0 + 1 : Nat))) (p + 1), al, m, N, nu, tn) b _ _ := (O4.w4 (k := 4) (j := 4) (v := i_ (0 + 1 : Nat)) (.inl (by decide))).w4 (k := 4) (j := 3) (v := i_ (p + 1 + 1 : Nat)) (.inl (by decide))
    have T5 : OWt (nx (ws_i (ws_p (nx w p) 14 b 0 (some (D.1.1.1 28))) 4 0 4 (i_ (0 + 1 : Nat))) (p + 1), nx3 (ws_i (ws_a (nx3 (ws_a t 12 0 26 n 33) p) 12 0 34 n 4) 12 0 38 (i_ (0 + 1 : Nat))) (p + 1), al, m, N, nu, tn) n _ := T4
    have hpl5 := H5.1.ta.lt
    refine PSd_lvw (o := 0) (c := 39) (v := 43) (by clear hLb' hle; omega) (by clear hLb' hle; omega) (by clear hLb' hle; omega) H5 rfl (by unfold wcd; omega) rfl (fun h43 H6 => ?_) (fun w' hd => ?_)
    · have hp3 := H5.p1 (by rw [h43]; decide)
      have hln3 := H5.1.ln hp3 (by rw [h43]; decide)
      have hpl6 := H6.1.ta.lt
      have O6 : OWc (ws_i (nx (nx (ws_i (ws_p (nx w p) 14 b 0 (some (D.1.1.1 28))) 4 0 4 (i_ (0 + 1 : Nat))) (p + 1)) (p + 1 + 1)) 4 0 4 (i_ (0 : Nat)), nx3 (nx3 (ws_i (ws_a (nx3 (ws_a t 12 0 26 n 33) p) 12 0 34 n 4) 12 0 38 (i_ (0 + 1 : Nat))) (p + 1)) (p + 1 + 1), al, m, N, nu, tn) b _ _ := (O5.w4 (k := 4) (j := 3) (v := i_ (p + 1 + 1 + 1 : Nat)) (.inl (by decide))).w4 (k := 4) (j := 4) (v := i_ (0 : Nat)) (.inl (by decide))
      have T6 : OWt (ws_i (nx (nx (ws_i (ws_p (nx w p) 14 b 0 (some (D.1.1.1 28))) 4 0 4 (i_ (0 + 1 : Nat))) (p + 1)) (p + 1 + 1)) 4 0 4 (i_ (0 : Nat)), nx3 (nx3 (ws_i (ws_a (nx3 (ws_a t 12 0 26 n 33) p) 12 0 34 n 4) 12 0 38 (i_ (0 + 1 : Nat))) (p + 1)) (p + 1 + 1), al, m, N, nu, tn) n _ := T5
      refine PS_lex b rfl (PS_land (O6.wl H6.1) ?_)
      refine PS_l (fun Q h => fun _ => h) ?_
      refine PS_rand (by rw [H6.1.tl.2.2.2.2.2.2.2.2.1]; exact i_inb' (by clear hLb' hle; omega) (by clear hLb' hle; omega)) (PS_rand (by rw [H6.1.tl.2.2.2.2.2.2.2.2.1]; exact i_inb' (by clear hLb' hle; omega) (by clear hLb' hle; omega)) ?_)
      have r38 : w_i (nx3 (nx3 (ws_i (ws_a (nx3 (ws_a t 12 0 26 n 33) p) 12 0 34 n 4) 12 0 38 (i_ (0 + 1 : Nat))) (p + 1)) (p + 1 + 1)) 12 0 38 = i_ (0 + 1 : Nat) := H6.1.2.1.2.2.2.1
      have r34b : w_a (nx3 (nx3 (ws_i (ws_a (nx3 (ws_a t 12 0 26 n 33) p) 12 0 34 n 4) 12 0 38 (i_ (0 + 1 : Nat))) (p + 1)) (p + 1 + 1)) 12 0 34 n = 4 := T6.2 34 rfl
      rw [r38, r34b, show (i_ (0 + 1 : Nat) : Int32) - 1 = i_ (0 : Nat) from rfl, show (4 : Int32) ||| 1 = 5 from rfl]
      have H7 := ((H6.to (u := 0) (by omega)).ta (k := 34) (n := n) (v := 5) rfl T6.1.2 (fun h => absurd h (Nat.not_lt.mpr hn.1))).wi (k := 13) (v := 1) O6.1.2 (fun e => absurd e hb)
      have O7 : OWc (ws_i (ws_i (nx (nx (ws_i (ws_p (nx w p) 14 b 0 (some (D.1.1.1 28))) 4 0 4 (i_ (0 + 1 : Nat))) (p + 1)) (p + 1 + 1)) 4 0 4 (i_ (0 : Nat))) 14 b 13 1, ws_a (ws_i (nx3 (nx3 (ws_i (ws_a (nx3 (ws_a t 12 0 26 n 33) p) 12 0 34 n 4) 12 0 38 (i_ (0 + 1 : Nat))) (p + 1)) (p + 1 + 1)) 12 0 38 (i_ (0 : Nat))) 12 0 34 n 5, al, m, N, nu, tn) b _ _ := O6.si (k := 13) (v := 1)
      have T7 : OWt (ws_i (ws_i (nx (nx (ws_i (ws_p (nx w p) 14 b 0 (some (D.1.1.1 28))) 4 0 4 (i_ (0 + 1 : Nat))) (p + 1)) (p + 1 + 1)) 4 0 4 (i_ (0 : Nat))) 14 b 13 1, ws_a (ws_i (nx3 (nx3 (ws_i (ws_a (nx3 (ws_a t 12 0 26 n 33) p) 12 0 34 n 4) 12 0 38 (i_ (0 + 1 : Nat))) (p + 1)) (p + 1 + 1)) 12 0 38 (i_ (0 : Nat))) 12 0 34 n 5, al, m, N, nu, tn) n _ := (show OWt (ws_i (ws_i (nx (nx (ws_i (ws_p (nx w p) 14 b 0 (some (D.1.1.1 28))) 4 0 4 (i_ (0 + 1 : Nat))) (p + 1)) (p + 1 + 1)) 4 0 4 (i_ (0 : Nat))) 14 b 13 1, ws_i (nx3 (nx3 (ws_i (ws_a (nx3 (ws_a t 12 0 26 n 33) p) 12 0 34 n 4) 12 0 38 (i_ (0 + 1 : Nat))) (p + 1)) (p + 1 + 1)) 12 0 38 (i_ (0 : Nat)), al, m, N, nu, tn) n _ from T6).si (k := 34) (v := 5)
      exact p_valt (p0 := p) (op := true) (L := L) (L' := L') (C := fun Q w20 => wk0 (fun w11 => wle w w11 → zb_X5_declaration_p219 D.1 L Q (some b) w11) (fun e w => Q (.inr e) w) (.inl none) w20) (fun Q w h => fun _ => h) (fun Q w h => fun _ => h) hL9 hLb' (by clear hLb' hle; omega) (by clear hLb' hle; omega) hle H7 O7 T7 hb hn (by clear hLb' hle; omega) (hln3.trans (hln2.trans hln1)) ⟨hfi.1, hfi.2.1, rfl, rfl, hfi.2.2.2⟩ ⟨rfl, hft.1, hft.2.1, rfl⟩ ⟨by clear hLb' hle; omega, by clear hLb' hle; omega⟩ ⟨by clear hLb' hle; omega, by clear hLb' hle; omega⟩
    · refine eS_and (by rw [hd.2.2.tl.2.2.2.2.2.2.2.2.1]; exact i_inb' (by clear hLb' hle; omega) (by clear hLb' hle; omega)) (eS_and (by rw [hd.2.2.tl.2.2.2.2.2.2.2.2.1]; exact i_inb' (by clear hLb' hle; omega) (by clear hLb' hle; omega)) ?_)
      exact dd_takeType (by clear hLb' hle; omega) (hd.to.ta rfl)
  · rw [decide_eq_false h42]
    refine PS_ln (fun h => h rfl) (PS_rp h42 ?_)
    refine PS_l (fun Q h => fun _ => h) ?_
    exact p_valt (p0 := p) (op := false) (L := L) (L' := L') (C := fun Q w20 => wk0 (fun w11 => wle w w11 → zb_X5_declaration_p219 D.1 L Q (some b) w11) (fun e w => Q (.inr e) w) (.inl none) w20) (fun Q w h => fun _ => h) (fun Q w h => fun _ => h) hL9 hLb' (by clear hLb' hle; omega) (by clear hLb' hle; omega) hle H4 O4 T4 hb hn (by clear hLb' hle; omega) hln1 ⟨hfi.1, hfi.2.1, hfi.2.2.1, rfl, hfi.2.2.2⟩ ⟨rfl, hft.1, hft.2.1, rfl⟩ ⟨by clear hLb' hle; omega, by clear hLb' hle; omega⟩ ⟨by clear hLb' hle; omega, by clear hLb' hle; omega⟩
end DCW
