/-! ===== PARSERS, part 49: VAL ===== -/
section DCV
variable {ex et : List Nat} {S S' S0 SA SB : pS} {D : pD} {K : pK} {V V' : pV} {p p0 q o o' oA dl m N n n2 b b1 b2 lo hi lo2 hi2 r d d2 dd g pA pB nP bP y ks c k k' : Nat} {w t w' : wS} {al : List Nat} {nu nu' : pNz} {tn tn' : Nat → Prop} {E E' : zE} {L L' : Nat} {ol : pOL} {f : Option Nat} {fT x1 x2 : Int32} {Q : kx_Rs → wS → Prop} {fi fi1 : Nat → Int32} {fp fp1 : Nat → Option Nat} {ft : Nat → Int32} {br : Bool} {lo1 : Int} {Φ : kx_Rs → wS → kx_Rs → wS → Prop} {bl : Option Nat} {gt : pQ}
/-- VAL, from its type on -/
theorem p_valt {C Ct : (kx_Rs → wS → Prop) → wS → Prop} {L2 L3 L4 : Nat} {op : Bool} (hC : ∀ Q w, zb_X5_declaration_p219 D.1 L Q (some b) w → C Q w) (hCt : ∀ Q w, zw E' (L' - 20) kt_M601 [.ref (w_adr E'.2.1 12 0)] w (wk1 (fun v26 w25 => wle w w25 → (kx_inb (i_ n) (w_n w25 12 0 30) = true ∧ zw E' (L' - 21) kt_M600 [.ref (w_adr E'.2.1 12 0), .int 13] (ws_a w25 12 0 30 n v26) (wk0 (fun w27 => wle (ws_a w25 12 0 30 n v26) w27 → zw E' (L' - 22) kt_M393 [.ref (w_adr E'.2.1 12 0)] w27 (wk1 (fun v30 w29 => wle w27 w29 → (kx_inb (i_ n) (w_n w29 12 0 28) = true ∧ zw E' (L' - 21) kt_M600 [.ref (w_adr E'.2.1 12 0), .int 46] (ws_a w29 12 0 28 n v30) (wk0 (fun w31 => wle (ws_a w29 12 0 28 n v30) w31 → zw E' (L' - 20) kt_M400 [.ref (w_adr E'.2.1 12 0)] w31 (wk0 (fun w33 => wle w31 w33 → Q (.inl (some (.int (i_ n)))) w33) (fun e w => Q (.inr e) w))) (fun e w => Q (.inr e) w)))) (fun e w => Q (.inr e) w))) (fun e w => Q (.inr e) w)))) (fun e w => Q (.inr e) w)) → Ct Q w)
    (hL : 2300 ≤ L) (hL' : lex 0 + 400 ≤ L') (hL2 : 500 ≤ L2) (hL3 : 500 ≤ L3) (hL4 : lex 0 ≤ L4) (H : HY D K [] [] S0 (w, t, al, m, N, nu, tn) p p 0 0) (hO : OWc (w, t, al, m, N, nu, tn) b fi fp) (hT : OWt (w, t, al, m, N, nu, tn) n ft) (hb : b ∉ S0.2.2.1.take S0.2.2.2.1) (hn : S0.2.2.2.2.1 ≤ n ∧ n < 14000) (hp0 : p0 ≤ p) (hln : kln K p = kln K p0)
    (hfi : fi 2 = i_ (kln K p0) ∧ fi 12 = 0 ∧ fi 13 = bI op ∧ fp 0 = some (D.1.1.1 28) ∧ fp 7 = none) (hft : ft 26 = 33 ∧ ft 27 = i_ (kln K p0) ∧ ft 32 = -1 ∧ ft 34 = i_ ((if op then 1 else 0) + 4)) (hmN : m ≤ 4 * p + 8 ∧ N ≤ 4 * p + 8) (hbd : m + 4 * p0 ≤ S0.2.2.2.1 + 4 * p + 4 ∧ N + 4 * p0 ≤ S0.2.2.2.2.1 + 4 * p + 4) :
    PS (fun Q => zw D.1 L2 kt_M212 [.ref (w_adr D.1.2.1 4 0)] w (wk1 (fun v7 w6 => wle w w6 → zw D.1 L2 kt_M193 [.ref (w_adr D.1.2.1 4 0)] (ws_i w6 14 b 8 v7) (wk1 (fun v9 w8 => wle (ws_i w6 14 b 8 v7) w8 → zw D.1 L2 kt_M176 [.ref (w_adr D.1.2.1 4 0), .int 13] (ws_i w8 14 b 9 v9) (wk0 (fun w10 => wle (ws_i w8 14 b 9 v9) w10 → zw D.1 L4 kt_M177 [.ref (w_adr D.1.2.1 4 0)] w10 (wkr (fun v13 w12 => wle w10 w12 → C Q (ws_i (ws_p w12 14 b 3 v13) 4 0 5 ((w_i w12 4 0 5) + 1))) (fun e w => Q (.inr e) w))) (fun e w => Q (.inr e) w))) (fun e w => Q (.inr e) w))) (fun e w => Q (.inr e) w)))
      (fun Q => zw E' L3 kt_M554 [.ref (w_adr E'.2.1 12 0), .int (i_ n)] t (wk0 (fun w1 => wle t w1 → Ct Q w1) (fun e w => Q (.inr e) w))) (PRd D K d [] [] S0 p0 0 true true 0 (GPs 1 3 D K S0 p0)) := by
  have IH := (p_OE (D := D) (K := K) (E' := E') K.length).2
  have hle' : lex 0 ≤ L' - 22 := by unfold lex at *; omega
  have hL9' : 2300 ≤ L' := by unfold lex at hL'; omega
  clear hL'
  have hpl := H.1.ta.lt
  have hnN : n < N := hT.1.1
  have hSN : S0.2.2.2.2.1 ≤ N := H.2.2.1.2.2.1
  have hΦ : STL D K d S0 true 0 (PRd D K d [] [] S0 p0 0 true true 0 (GPs 1 3 D K S0 p0)) := STL.of
  refine PSg_tyw hΦ.stp (by clear hL4 hle'; omega) (by clear hL4 hle'; omega) (by clear hL4 hle'; omega) H hn.2 hT.1.2 (fun h => absurd h (Nat.not_lt.mpr hn.1)) (fun c hc hTy H2 => ?_) (fun c w' hc hd => eS_l (fun Q h => hCt Q _ h) (dd_wantName hd (by clear hL4 hle'; omega)))
  have n5 : kk K p ≠ 75 ∧ kk K p ≠ 74 := by
    have hk3 : kk K p = 12 ∨ kk K p = 4 ∨ kk K p = 3 := by
      simpa only [bTy, Bool.or_eq_true, decide_eq_true_eq] using hTy
    clear hL4 hle'
    omega
  have hp1 := H.p1 n5.1
  have hln1 := H.1.ln hp1 n5.2
  have hpl2 := H2.1.ta.lt
  have O2 : OWc (nx w p, nx3 (ws_a t 12 0 33 n (i_ c)) p, al, m, N, nu, tn) b _ _ := hO.w4 (j := 3) (v := i_ (p + 1 : Nat)) (.inl (by decide))
  have T2 : OWt (nx w p, nx3 (ws_a t 12 0 33 n (i_ c)) p, al, m, N, nu, tn) n _ := hT.si (k := 33) (v := i_ c)
  have H3 := H2.wi (k := 8) (v := i_ (c + 1 : Nat)) O2.1.2 (fun e => absurd e hb)
  have O3 := O2.si (k := 8) (v := i_ (c + 1 : Nat))
  have T3 : OWt (ws_i (nx w p) 14 b 8 (i_ (c + 1 : Nat)), nx3 (ws_a t 12 0 33 n (i_ c)) p, al, m, N, nu, tn) n _ := T2
  refine PS_r (fun Q h => hCt Q _ h) ?_
  refine PSg_nmw hΦ.stp (by clear hL4 hle'; omega) (by clear hL4 hle'; omega) (by clear hL4 hle'; omega) H3 (fun h70 H4 hnm => ?_) (fun w' hd => ?_)
  · have hp2 := H3.p1 (by rw [h70]; decide)
    have hln2 := H3.1.ln hp2 (by rw [h70]; decide)
    have hpl4 := H4.1.ta.lt
    have O4 : OWc (nx (ws_i (nx w p) 14 b 8 (i_ (c + 1 : Nat))) (p + 1), nx3 (nx3 (ws_a t 12 0 33 n (i_ c)) p) (p + 1), al, m, N, nu, tn) b _ _ := O3.w4 (j := 3) (v := i_ (p + 1 + 1 : Nat)) (.inl (by decide))
    have T4 : OWt (nx (ws_i (nx w p) 14 b 8 (i_ (c + 1 : Nat))) (p + 1), nx3 (nx3 (ws_a t 12 0 33 n (i_ c)) p) (p + 1), al, m, N, nu, tn) n _ := T3
    refine PS_rand (by rw [H4.1.tl.2.2.2.2.1]; exact i_inb' (by clear hL4 hle'; omega) (by clear hL4 hle'; omega)) ?_
    have H5 := (H4.wi (k := 9) (v := w_a (ws_i (nx w p) 14 b 8 (i_ (c + 1 : Nat))) 1 0 3 (p + 1)) O4.1.2 (fun e => absurd e hb)).ta (k := 30) (n := n) (v := w_a (nx3 (ws_a t 12 0 33 n (i_ c)) p) 12 0 8 (p + 1)) rfl T4.1.2 (fun h => absurd h (Nat.not_lt.mpr hn.1))
    have O5 := O4.si (k := 9) (v := w_a (ws_i (nx w p) 14 b 8 (i_ (c + 1 : Nat))) 1 0 3 (p + 1))
    have T5 := T4.si (k := 30) (v := w_a (nx3 (ws_a t 12 0 33 n (i_ c)) p) 12 0 8 (p + 1))
    refine PSg_exw (c := 13) (v := 13) hΦ.stp (by clear hL4 hle'; omega) (by clear hL4 hle'; omega) (by clear hL4 hle'; omega) H5 rfl (by unfold wcd; omega) rfl (fun h13 H6 => ?_) (fun w' hd => dd_e hd (by clear hL4 hle'; omega))
    have hp3 := H5.p1 (by rw [h13]; decide)
    have hln3 := H5.1.ln hp3 (by rw [h13]; decide)
    have hpl6 := H6.1.ta.lt
    refine PRd_c11 H.1.krg H6.2 (IH L4 (L' - 22) _ _ _ _ _ _ _ (p + 1 + 1 + 1) 0 hL4 hle' H6.1 (by clear hL4 hle'; omega) ⟨by clear hL4 hle'; omega, by clear hL4 hle'; omega⟩) (fun a h => absurd h List.not_mem_nil) (fun a h => absurd h List.not_mem_nil) (fun x v w7 t7 al7 m7 N7 nu7 tn7 p7 hl7 H7 HS7 hbd7 hgx => ?_) (fun v w7 t7 hv hv2 hd => ?_)
    · obtain ⟨b1, n1, rfl, rfl, hP7, hX7, hb1, hln7, hfk⟩ := hgx
      have hpl7 := H7.1.ta.lt
      have O6 : OWc (nx (ws_i (nx (ws_i (nx w p) 14 b 8 (i_ (c + 1 : Nat))) (p + 1)) 14 b 9 (w_a (ws_i (nx w p) 14 b 8 (i_ (c + 1 : Nat))) 1 0 3 (p + 1))) (p + 1 + 1), nx3 (ws_a (nx3 (nx3 (ws_a t 12 0 33 n (i_ c)) p) (p + 1)) 12 0 30 n (w_a (nx3 (ws_a t 12 0 33 n (i_ c)) p) 12 0 8 (p + 1))) (p + 1 + 1), al, m, N, nu, tn) b _ _ := O5.w4 (j := 3) (v := i_ (p + 1 + 1 + 1 : Nat)) (.inl (by decide))
      have T6 : OWt (nx (ws_i (nx (ws_i (nx w p) 14 b 8 (i_ (c + 1 : Nat))) (p + 1)) 14 b 9 (w_a (ws_i (nx w p) 14 b 8 (i_ (c + 1 : Nat))) 1 0 3 (p + 1))) (p + 1 + 1), nx3 (ws_a (nx3 (nx3 (ws_a t 12 0 33 n (i_ c)) p) (p + 1)) 12 0 30 n (w_a (nx3 (ws_a t 12 0 33 n (i_ c)) p) 12 0 8 (p + 1))) (p + 1 + 1), al, m, N, nu, tn) n _ := T5
      have O7 := O6.fr HS7.2 List.not_mem_nil
      have T7 := T6.fr HS7.2 List.not_mem_nil
      obtain ⟨x8, tn8, r8, H8, hC8, hm3, hm4, hn8⟩ := H7.fin hP7 (fun e => hb1 (H6.2.sub e)) hSN
      have hbb1 : b ≠ b1 := fun e => hb1 (by rw [← e]; exact O6.1.1.1)
      have O8 := O7.fin (x := x8) (tn' := tn8) hbb1
      have T8 := T7.fin (nu' := nuU nu7 b1 x8) hm4 (.inl hnN)
      refine PS_rand (by rw [H8.1.tl.2.2.1]; exact i_inb' (by clear hL4 hle'; omega) (by clear hL4 hle'; omega)) ?_
      have H9 := ((H8.wp (k := 3) (v := some b1) O8.1.2 (fun e => absurd e hb) (LKO.mk hP7.bm.1 hX7.2.2 (fun e => hb1 (H6.2.sub e)))).cd (v := w_i w7 4 0 5 + 1) rfl).ta (k := 28) (n := n) (v := i_ n1) rfl T8.1.2 (fun h => absurd h (Nat.not_lt.mpr hn.1))
      have O9 : OWc (ws_i (ws_p w7 14 b 3 (some b1)) 4 0 5 (w_i w7 4 0 5 + 1), ws_a t7 12 0 28 n (i_ n1), al7, m7, N7, nuU nu7 b1 x8, tn8) b _ _ := (O8.sp (k := 3) (v := some b1)).w4 (k := 4) (j := 5) (v := w_i w7 4 0 5 + 1) (.inl (by decide))
      have T9 : OWt (ws_i (ws_p w7 14 b 3 (some b1)) 4 0 5 (w_i w7 4 0 5 + 1), ws_a t7 12 0 28 n (i_ n1), al7, m7, N7, nuU nu7 b1 x8, tn8) n _ := T8.si (k := 28) (v := i_ n1)
      have hv : VWa (vw w7 t7) (vw (ws_i (ws_p w7 14 b 3 (some b1)) 4 0 5 (w_i w7 4 0 5 + 1)) (ws_a t7 12 0 28 n (i_ n1))) tn8 (nuU nu7 b1 x8) := by
        refine VWa.mk (b := b) (n := n) (fun a ha k => ⟨?_, ?_⟩) (fun y hy k => ?_) rfl O8.1.2 T8.1.2
        · rw [Rii, if_neg (fun z => absurd z.2.1 (by decide))]
          rfl
        · show w_p (ws_p w7 14 b 3 (some b1)) 14 a k = _
          rw [Rpp, if_neg (fun z => ha z.2.2)]
        · rw [Raa, if_neg (fun z => hy z.2.2.2)]
      rw [hln3, hln2, hln1, hln] at hC8
      refine PS_l (fun Q h => hC Q _ h) ?_
      exact p_dend (fun Q w h => h) (by clear hL4 hle'; omega) (by clear hL4 hle'; omega) (by clear hL4 hle'; omega) (by clear hL4 hle'; omega) H9 (PND.mk1 (kd := 33) O9 T9 hn.1 hn.2 (LFz.k33 O9 T9 (hfi.1.trans hft.2.1.symm) hft.1 ⟨rfl, hfi.2.2.2.1, hnm, ⟨b1, n1, rfl, rfl, by
        show CHz _ _ _ _ (some (ft 27), _) _ _ _
        rw [hft.2.1]
        exact hC8.up hv (fun _ _ h => h) (fun _ h => h) (Nat.le_refl _)⟩, ⟨c, hc, rfl, rfl⟩, op, hfi.2.2.1, hft.2.2.2⟩ hft.2.1) hfi.2.1 (fun l e => by cases e) hft.1) (NXT.mk1 O9 T9 hfi.2.2.2.2 hft.2.2.1) hb (by clear hL4 hle'; omega) (by clear hL4 hle'; omega) ⟨by clear hL4 hle'; omega, by clear hL4 hle'; omega⟩
    · refine eS_and (by rw [hd.2.2.tl.2.2.1]; exact i_inb' (by clear hL4 hle'; omega) (by clear hL4 hle'; omega)) ?_
      exact dd_want (v := 46) (hd.ta rfl) (by clear hL4 hle'; omega) rfl (by omega)
  · refine eS_and (by rw [hd.2.2.tl.2.2.2.2.1]; exact i_inb' (by clear hL4 hle'; omega) (by clear hL4 hle'; omega)) ?_
    exact dd_want (v := 13) (hd.ta rfl) (by clear hL4 hle'; omega) rfl (by omega)
end DCV
