/-! ===== PARSERS, part 48: declarations that begin with '[' ===== -/
section DC9
variable {ex et : List Nat} {S S' S0 SA SB : pS} {D : pD} {K : pK} {V V' : pV} {p p0 q o o' oA dl m N n n2 b b1 b2 lo hi lo2 hi2 r d d2 dd g pA pB nP bP y ks c k k' : Nat} {w t w' : wS} {al : List Nat} {nu nu' : pNz} {tn tn' : Nat → Prop} {E E' : zE} {L L' : Nat} {ol : pOL} {f : Option Nat} {fT x1 x2 : Int32} {Q : kx_Rs → wS → Prop} {fi fi1 : Nat → Int32} {fp fp1 : Nat → Option Nat} {ft : Nat → Int32} {br : Bool} {lo1 : Int} {Φ : kx_Rs → wS → kx_Rs → wS → Prop} {bl : Option Nat} {gt : pQ}
/-- the twin goes on behind ']' at a bad token -/
theorem dd_dbk3 {x3 : Int32} (hL : 1000 ≤ L') (h : DDs D K S0 w' t) : eS (fun Q => zw E' (L' - 20) kt_M462 [.ref (w_adr E'.2.1 12 0)] t (wk1 (fun v44 w43 => wle t w43 → (if ¬ v44 = 6 then zw E' (L' - 22) kt_M554 [.ref (w_adr E'.2.1 12 0), .int x3] w43 (wk0 (fun w45 => wle w43 w45 → zb_X13_declaration_p188 E' L' Q x3 w45) (fun e w => Q (.inr e) w)) else zw E' (L' - 21) kt_M553 [.ref (w_adr E'.2.1 12 0), .int x3] w43 (wk0 (fun w47 => wle w43 w47 → zb_X13_declaration_p188 E' L' Q x3 w47) (fun e w => Q (.inr e) w)))) (fun e w => Q (.inr e) w))) (fun r' t' => TLP D K S0.1 S0.2.1 br lo1 w' r' t') := by
  refine eS_1 (fun Q hq => t_look (by omega) h.2.2.1 hq) ?_
  rw [h.2.2.2.1]
  exact eS_p (by decide) (dd_takeType (by omega) h)
theorem dd_dbk2 {x3 : Int32} (hL : 1000 ≤ L') (h : DDs D K S0 w' t) : eS (fun Q => zw E' (L' - 20) kt_M462 [.ref (w_adr E'.2.1 12 0)] t (wk1 (fun v44 w43 => wle t w43 → (if ¬ v44 = 6 then zw E' (L' - 22) kt_M554 [.ref (w_adr E'.2.1 12 0), .int x3] w43 (wk0 (fun w45 => wle w43 w45 → zb_X13_declaration_p254 E' L' Q x3 w45) (fun e w => Q (.inr e) w)) else (kx_inb x3 (w_n w43 12 0 26) = true ∧ zw E' (L' - 21) kt_M553 [.ref (w_adr E'.2.1 12 0), .int x3] (ws_a w43 12 0 26 n 31) (wk0 (fun w47 => wle (ws_a w43 12 0 26 n 31) w47 → zb_X13_declaration_p254 E' L' Q x3 w47) (fun e w => Q (.inr e) w))))) (fun e w => Q (.inr e) w))) (fun r' t' => TLP D K S0.1 S0.2.1 br lo1 w' r' t') := by
  refine eS_1 (fun Q hq => t_look (by omega) h.2.2.1 hq) ?_
  rw [h.2.2.2.1]
  exact eS_p (by decide) (dd_takeType (by omega) h)
theorem p_dbr (hL : lex 0 + 500 ≤ L) (hL' : lex 0 + 500 ≤ L') (H : HY D K [] [] S0 (w, t, al, m, N, nu, tn) p p 0 0) (hO : OWc (w, t, al, m, N, nu, tn) b fi fp) (hT : OWt (w, t, al, m, N, nu, tn) n ft) (hb : b ∉ S0.2.2.1.take S0.2.2.2.1) (hn : S0.2.2.2.2.1 ≤ n ∧ n < 14000) (h5n : fp 5 = none) (h42 : kk K p = 42)
    (hfi : fi 2 = i_ (kln K p) ∧ fi 12 = 0 ∧ fi 14 = 0 ∧ fp 3 = none ∧ fp 7 = none) (hft : ft 26 = 30 ∧ ft 27 = i_ (kln K p) ∧ ft 32 = -1) (hmN : m ≤ 4 * p + 8 ∧ N ≤ 4 * p + 8) (hbd : m ≤ S0.2.2.2.1 + 1 ∧ N ≤ S0.2.2.2.2.1 + 1) :
    PS (fun Q => zw D.1 (L - 20) kt_M175 [.ref (w_adr D.1.2.1 4 0)] w (wk0 (fun w22 => wle w w22 → zw D.1 (L - 21) kt_M183 [.ref (w_adr D.1.2.1 4 0), .int 39] w22 (wk1 (fun v25 w24 => wle w22 w24 → (∃ p26, some b = some p26 ∧ w_l w24 D.1.2.1 14 p26 ∧ ((v25 = 0 ∨ v25 = 1) ∧ (if ¬ v25 = 0 then zb_X5_declaration_p101 D.1 L Q (some b) (ws_i w24 14 p26 13 v25) else zw D.1 (L - 22) kt_M177 [.ref (w_adr D.1.2.1 4 0)] (ws_i w24 14 p26 13 v25) (wkr (fun v28 w27 => wle (ws_i w24 14 p26 13 v25) w27 → zb_X5_declaration_p101 D.1 L Q (some b) (ws_p w27 14 p26 3 v28)) (fun e w => Q (.inr e) w)))))) (fun e w => Q (.inr e) w))) (fun e w => Q (.inr e) w)))
      (fun Q => zw E' (L' - 20) kt_M497 [.ref (w_adr E'.2.1 12 0)] t (wk0 (fun w35 => wle t w35 → (kx_inb (i_ n) (w_n w35 12 0 34) = true ∧ zw E' (L' - 21) kt_M466 [.ref (w_adr E'.2.1 12 0), .int 43] (ws_a w35 12 0 34 n 1) (wk1 (fun v38 w37 => wle (ws_a w35 12 0 34 n 1) w37 → (if v38 = 0 then zw E' (L' - 22) kt_M393 [.ref (w_adr E'.2.1 12 0)] w37 (wk1 (fun v40 w39 => wle w37 w39 → (kx_inb (i_ n) (w_n w39 12 0 28) = true ∧ zw E' (L' - 21) kt_M600 [.ref (w_adr E'.2.1 12 0), .int 43] (ws_a w39 12 0 28 n v40) (wk0 (fun w41 => wle (ws_a w39 12 0 28 n v40) w41 → zw E' (L' - 20) kt_M462 [.ref (w_adr E'.2.1 12 0)] (ws_i w41 12 0 38 ((w_i w41 12 0 38) - 1)) (wk1 (fun v44 w43 => wle (ws_i w41 12 0 38 ((w_i w41 12 0 38) - 1)) w43 → (if ¬ v44 = 6 then zw E' (L' - 22) kt_M554 [.ref (w_adr E'.2.1 12 0), .int (i_ n)] w43 (wk0 (fun w45 => wle w43 w45 → zb_X13_declaration_p254 E' L' Q (i_ n) w45) (fun e w => Q (.inr e) w)) else (kx_inb (i_ n) (w_n w43 12 0 26) = true ∧ zw E' (L' - 21) kt_M553 [.ref (w_adr E'.2.1 12 0), .int (i_ n)] (ws_a w43 12 0 26 n 31) (wk0 (fun w47 => wle (ws_a w43 12 0 26 n 31) w47 → zb_X13_declaration_p254 E' L' Q (i_ n) w47) (fun e w => Q (.inr e) w))))) (fun e w => Q (.inr e) w))) (fun e w => Q (.inr e) w)))) (fun e w => Q (.inr e) w)) else zw E' (L' - 20) kt_M462 [.ref (w_adr E'.2.1 12 0)] (ws_i w37 12 0 38 ((w_i w37 12 0 38) - 1)) (wk1 (fun v50 w49 => wle (ws_i w37 12 0 38 ((w_i w37 12 0 38) - 1)) w49 → (if ¬ v50 = 6 then zw E' (L' - 22) kt_M554 [.ref (w_adr E'.2.1 12 0), .int (i_ n)] w49 (wk0 (fun w51 => wle w49 w51 → zb_X13_declaration_p188 E' L' Q (i_ n) w51) (fun e w => Q (.inr e) w)) else zw E' (L' - 21) kt_M553 [.ref (w_adr E'.2.1 12 0), .int (i_ n)] w49 (wk0 (fun w53 => wle w49 w53 → zb_X13_declaration_p188 E' L' Q (i_ n) w53) (fun e w => Q (.inr e) w)))) (fun e w => Q (.inr e) w)))) (fun e w => Q (.inr e) w)))) (fun e w => Q (.inr e) w))) (PRd D K d [] [] S0 p 0 true true 0 (GPs 1 3 D K S0 p)) := by
  have IH := (p_OE (D := D) (K := K) (E' := E') K.length).2
  have hLb : lex 0 + 400 ≤ L := Nat.le_trans (Nat.add_le_add_left (by decide) _) hL
  have hLb' : lex 0 + 400 ≤ L' := Nat.le_trans (Nat.add_le_add_left (by decide) _) hL'
  have hle : lex 1 ≤ L - 22 := by unfold lex at *; omega
  have hle' : lex 1 ≤ L' - 22 := by unfold lex at *; omega
  have hL9 : 2300 ≤ L := by unfold lex at hL; omega
  have hL9' : 2300 ≤ L' := by unfold lex at hL'; omega
  clear hL hL'
  have hpl := H.1.ta.lt
  have hal := H.alive
  have hp1 := H.p1 (by rw [h42]; decide)
  have hln1 := H.1.ln hp1 (by rw [h42]; decide)
  have hΦ : STL D K d S0 true 0 (PRd D K d [] [] S0 p 0 true true 0 (GPs 1 3 D K S0 p)) := STL.of
  refine PSg_enw (o := 0) hΦ.stp (by clear hLb hLb' hle hle'; omega) (by clear hLb hLb' hle hle'; omega) (by clear hLb hLb' hle hle'; omega) H (by rw [h42]; decide) (fun _ H1 => ?_) (fun w' hd => ?_)
  · have O1 : OWc (nx (ws_i w 4 0 4 (i_ (0 + 1 : Nat))) p, nx3 (ws_i t 12 0 38 (i_ (0 + 1 : Nat))) p, al, m, N, nu, tn) b _ _ := (hO.w4 (k := 4) (j := 4) (v := i_ (0 + 1 : Nat)) (.inl (by decide))).w4 (k := 4) (j := 3) (v := i_ (p + 1 : Nat)) (.inl (by decide))
    have T1 : OWt (nx (ws_i w 4 0 4 (i_ (0 + 1 : Nat))) p, nx3 (ws_i t 12 0 38 (i_ (0 + 1 : Nat))) p, al, m, N, nu, tn) n ft := hT
    have hpl1 := H1.1.ta.lt
    have hal1 := H1.alive
    refine PS_rand (by rw [H1.1.tl.2.2.2.2.2.2.2.2.1]; exact i_inb' (by clear hLb hLb' hle hle'; omega) (by clear hLb hLb' hle hle'; omega)) ?_
    have H2 := H1.ta (k := 34) (n := n) (v := 1) rfl T1.1.2 (fun h => absurd h (Nat.not_lt.mpr hn.1))
    have T2 := T1.si (k := 34) (v := 1)
    have O2 : OWc (nx (ws_i w 4 0 4 (i_ (0 + 1 : Nat))) p, ws_a (nx3 (ws_i t 12 0 38 (i_ (0 + 1 : Nat))) p) 12 0 34 n 1, al, m, N, nu, tn) b fi fp := O1
    refine PS_l1 (fun Q hq => c_is (c := 39) (v := 43) (by clear hLb hLb' hle hle'; omega) H2.1.ca rfl (by unfold wcd; omega) hq) ?_
    refine PS_lex b rfl (PS_land (O2.wl H2.1) ?_)
    by_cases h43 : kk K (p + 1) = 43
    · rw [decide_eq_true h43, show bI true = 1 from rfl]
      refine PS_land (.inr rfl) (PS_lp (by decide) ?_)
      refine PS_r1 (fun Q hq => t_may (v := 43) (by clear hLb hLb' hle hle'; omega) H2.1.ta H2.1.krg rfl ⟨by decide, by decide⟩ (fun _ => hq) (fun e => absurd h43 e)) (PS_rn (by decide) ?_)
      have H3 := H2.wi (k := 13) (v := 1) O2.1.2 (fun e => absurd e hb)
      have O3 := O2.si (k := 13) (v := 1)
      have hp2 := H3.p1 (by rw [h43]; decide)
      have hln2 := H3.1.ln hp2 (by rw [h43]; decide)
      simp only [zb_X5_declaration_p101]
      by_cases h76 : kk K (p + 1 + 1) = 76
      · refine PS_lx0 (fun Q hq => c_leave (o := 0) (c := 39) (v := 43) (by clear hLb hLb' hle hle'; omega) H3.1.ca H3.1.2.1.1.2.2.2.1 rfl (by unfold wcd; omega) (fun h => absurd h43 h) (fun _ h => absurd h76 h) (fun _ _ => hq)) (PRd_stop ?_)
        have hd := (H3.dd (H3.ddx hp2 h76 (FX_nx (p := p + 1))) (by clear hLb hLb' hle hle'; omega) (by rw [h43]; decide) hal1 h76).to (u := w_i (nx3 (ws_a (nx3 (ws_i t 12 0 38 (i_ (0 + 1 : Nat))) p) 12 0 34 n 1) (p + 1)) 12 0 38 - 1)
        exact dd_dbk3 (by clear hLb hLb' hle hle'; omega) hd
      · refine PS_l0 (fun Q hq => c_leave (o := 0) (c := 39) (v := 43) (by clear hLb hLb' hle hle'; omega) H3.1.ca H3.1.2.1.1.2.2.2.1 rfl (by unfold wcd; omega) (fun h => absurd h43 h) (fun _ _ => hq) (fun _ h => absurd h h76)) ?_
        have H4 := ((H3.cn (by rw [h43]; decide) h76).tnx (by rw [h43]; decide) hal1).co (u := 0) (by omega)
        have r38 : w_i (nx3 (ws_a (nx3 (ws_i t 12 0 38 (i_ (0 + 1 : Nat))) p) 12 0 34 n 1) (p + 1)) 12 0 38 = i_ (0 + 1 : Nat) := H4.1.2.1.2.2.2.1
        rw [r38, show (i_ (0 + 1 : Nat) : Int32) - 1 = i_ (0 : Nat) from rfl]
        have H5 := H4.to (u := 0) (by omega)
        have O5 : OWc (ws_i (nx (ws_i (nx (ws_i w 4 0 4 (i_ (0 + 1 : Nat))) p) 14 b 13 1) (p + 1)) 4 0 4 (i_ (0 : Nat)), ws_i (nx3 (ws_a (nx3 (ws_i t 12 0 38 (i_ (0 + 1 : Nat))) p) 12 0 34 n 1) (p + 1)) 12 0 38 (i_ (0 : Nat)), al, m, N, nu, tn) b (up_ fi 13 1) fp := (O3.w4 (k := 4) (j := 3) (v := i_ (p + 1 + 1 : Nat)) (.inl (by decide))).w4 (k := 4) (j := 4) (v := i_ (0 : Nat)) (.inl (by decide))
        have T5 : OWt (ws_i (nx (ws_i (nx (ws_i w 4 0 4 (i_ (0 + 1 : Nat))) p) 14 b 13 1) (p + 1)) 4 0 4 (i_ (0 : Nat)), ws_i (nx3 (ws_a (nx3 (ws_i t 12 0 38 (i_ (0 + 1 : Nat))) p) 12 0 34 n 1) (p + 1)) 12 0 38 (i_ (0 : Nat)), al, m, N, nu, tn) n (up_ ft 34 1) := T2
        exact p_dbk3 (p0 := p) hLb hLb' H5 O5 T5 hb hn h5n (by clear hLb hLb' hle hle'; omega) (hln2.trans hln1) ⟨hfi.1, hfi.2.1, rfl, hfi.2.2.1, hfi.2.2.2.2⟩ ⟨hft.2.1, hft.2.2, rfl⟩ hfi.2.2.2.1 (by clear hLb hLb' hle hle'; omega) (by clear hLb hLb' hle hle'; omega)
    · rw [decide_eq_false h43]
      refine PS_land (.inl rfl) (PS_ln (fun h => h rfl) ?_)
      refine PS_r1 (fun Q hq => t_may (v := 43) (by clear hLb hLb' hle hle'; omega) H2.1.ta H2.1.krg rfl ⟨by decide, by decide⟩ (fun e => absurd e h43) (fun _ => hq)) (PS_rp rfl ?_)
      have H3 := H2.wi (k := 13) (v := 0) O2.1.2 (fun e => absurd e hb)
      have O3 := O2.si (k := 13) (v := 0)
      have T3 : OWt (ws_i (nx (ws_i w 4 0 4 (i_ (0 + 1 : Nat))) p) 14 b 13 0, ws_a (nx3 (ws_i t 12 0 38 (i_ (0 + 1 : Nat))) p) 12 0 34 n 1, al, m, N, nu, tn) n _ := T2
      refine PRd_c11 H.1.krg H3.2 (IH (L - 22) (L' - 22) _ _ _ _ _ _ _ (p + 1) (0 + 1) hle hle' H3.1 (by clear hLb hLb' hle hle'; omega) ⟨by clear hLb hLb' hle hle'; omega, by clear hLb hLb' hle hle'; omega⟩) (fun a h => absurd h List.not_mem_nil) (fun a h => absurd h List.not_mem_nil) (fun x v w6 t6 al6 m6 N6 nu6 tn6 p6 hl6 H6 HS6 hbd6 hgx => ?_) (fun v w6 t6 hv hv2 hd => ?_)
      · obtain ⟨b1, n1, rfl, rfl, hP6, hX6, hb1, hln6, hfk⟩ := hgx
        have hpl6 := H6.1.ta.lt
        have hSN : S0.2.2.2.2.1 ≤ N := H.2.2.1.2.2.1
        have O6 := O3.fr HS6.2 List.not_mem_nil
        have T6 := T3.fr HS6.2 List.not_mem_nil
        have hn1 := hP6.lt
        have hnN : n < N := hT.1.1
        obtain ⟨x7, tn7, r7, H7, hC7, hm3, hm4, hn7⟩ := H6.fin hP6 (fun e => hb1 (H3.2.sub e)) hSN
        have hbb1 : b ≠ b1 := fun e => hb1 (by rw [← e]; exact O3.1.1.1)
        have O7 := O6.fin (x := x7) (tn' := tn7) hbb1
        have T7 := T6.fin (nu' := nuU nu6 b1 x7) hm4 (.inl hnN)
        refine PS_rand (by rw [H7.1.tl.2.2.1]; exact i_inb' (by clear hLb hLb' hle hle'; omega) (by clear hLb hLb' hle hle'; omega)) ?_
        have H8 := (H7.wp (k := 3) (v := some b1) O7.1.2 (fun e => absurd e hb) (LKO.mk hP6.bm.1 hX6.2.2 (fun e => hb1 (H3.2.sub e)))).ta (k := 28) (n := n) (v := i_ n1) rfl T7.1.2 (fun h => absurd h (Nat.not_lt.mpr hn.1))
        have O8 : OWc (ws_p w6 14 b 3 (some b1), ws_a t6 12 0 28 n (i_ n1), al6, m6, N6, nuU nu6 b1 x7, tn7) b _ _ := O7.sp (k := 3) (v := some b1)
        have T8 : OWt (ws_p w6 14 b 3 (some b1), ws_a t6 12 0 28 n (i_ n1), al6, m6, N6, nuU nu6 b1 x7, tn7) n _ := T7.si (k := 28) (v := i_ n1)
        simp only [zb_X5_declaration_p101]
        refine PSd_lvw (o := 0) (c := 39) (v := 43) (by clear hLb hLb' hle hle'; omega) (by clear hLb hLb' hle hle'; omega) (by clear hLb hLb' hle hle'; omega) H8 rfl (by unfold wcd; omega) rfl (fun h43 H9 => ?_) (fun w' hd => ?_)
        · have hp2 := H8.p1 (by rw [h43]; decide)
          have hln2 := H8.1.ln hp2 (by rw [h43]; decide)
          have hpl9 := H9.1.ta.lt
          have r38 : w_i (nx3 (ws_a t6 12 0 28 n (i_ n1)) p6) 12 0 38 = i_ (0 + 1 : Nat) := H9.1.2.1.2.2.2.1
          rw [r38, show (i_ (0 + 1 : Nat) : Int32) - 1 = i_ (0 : Nat) from rfl]
          have H10 := H9.to (u := 0) (by omega)
          have O10 : OWc (ws_i (nx (ws_p w6 14 b 3 (some b1)) p6) 4 0 4 (i_ (0 : Nat)), ws_i (nx3 (ws_a t6 12 0 28 n (i_ n1)) p6) 12 0 38 (i_ (0 : Nat)), al6, m6, N6, nuU nu6 b1 x7, tn7) b _ _ := (O8.w4 (k := 4) (j := 3) (v := i_ (p6 + 1 : Nat)) (.inl (by decide))).w4 (k := 4) (j := 4) (v := i_ (0 : Nat)) (.inl (by decide))
          have T10 : OWt (ws_i (nx (ws_p w6 14 b 3 (some b1)) p6) 4 0 4 (i_ (0 : Nat)), ws_i (nx3 (ws_a t6 12 0 28 n (i_ n1)) p6) 12 0 38 (i_ (0 : Nat)), al6, m6, N6, nuU nu6 b1 x7, tn7) n _ := T8
          have hv : VWa (vw w6 t6) (vw (ws_i (nx (ws_p w6 14 b 3 (some b1)) p6) 4 0 4 (i_ (0 : Nat))) (ws_i (nx3 (ws_a t6 12 0 28 n (i_ n1)) p6) 12 0 38 (i_ (0 : Nat)))) tn7 (nuU nu6 b1 x7) := by
            refine VWa.mk (b := b) (n := n) (fun a ha k => ⟨?_, ?_⟩) (fun y hy k => ?_) rfl O7.1.2 T7.1.2
            · rw [Rii, if_neg (fun z => absurd z.2.1 (by decide)), nx_14]
              rfl
            · show w_p (ws_p w6 14 b 3 (some b1)) 14 a k = _
              rw [Rpp, if_neg (fun z => ha z.2.2)]
            · show w_a (ws_a t6 12 0 28 n (i_ n1)) 12 0 k y = _
              rw [Raa, if_neg (fun z => hy z.2.2.2)]
          rw [hln1] at hC7
          exact p_dbk2 (p0 := p) (k := r7 + 1) hLb hLb' H10 O10 T10 hb hn h5n (by clear hLb hLb' hle hle'; omega) (hln2.trans (hln6.trans hln1)) ⟨hfi.1, hfi.2.1, rfl, hfi.2.2.1, hfi.2.2.2.2⟩ ⟨hft.1, hft.2.1, hft.2.2, rfl⟩ ⟨b1, n1, rfl, rfl, hC7.up hv (fun _ _ h => h) (fun _ h => h) (Nat.le_refl _)⟩ (by clear hLb hLb' hle hle'; omega) (by clear hLb hLb' hle hle'; omega)
        · exact dd_dbk2 (by clear hLb hLb' hle hle'; omega) hd.to
      · refine eS_and (by rw [hd.2.2.tl.2.2.1]; exact i_inb' (by clear hLb hLb' hle hle'; omega) (by clear hLb hLb' hle hle'; omega)) ?_
        exact dd_want (v := 43) (hd.ta rfl) (by clear hLb hLb' hle hle'; omega) rfl (by omega)
  · refine eS_and (by rw [hd.2.2.tl.2.2.2.2.2.2.2.2.1]; exact i_inb' (by clear hLb hLb' hle hle'; omega) (by clear hLb hLb' hle hle'; omega)) ?_
    have hd := hd.ta (k := 34) (n := n) (v := 1) rfl
    refine eS_1 (fun Q hq => t_may (v := 43) (by clear hLb hLb' hle hle'; omega) hd.2.2.1 hd.1.2 rfl ⟨by decide, by decide⟩ (fun e => by rw [hd.2.2.2.1] at e; exact absurd e (by decide)) (fun _ => hq)) (eS_p rfl ?_)
    exact dd_e hd (by clear hLb hLb' hle hle'; omega)
end DC9
