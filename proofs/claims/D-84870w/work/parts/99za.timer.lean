/-! ===== PARSERS, part 44: TIMER, VAL ===== -/
section DC5
variable {ex et : List Nat} {S S' S0 SA SB : pS} {D : pD} {K : pK} {V V' : pV} {p p0 q o o' oA dl m N n n2 b b1 b2 lo hi lo2 hi2 r d d2 dd g pA pB nP bP y ks c k k' : Nat} {w t w' : wS} {al : List Nat} {nu nu' : pNz} {tn tn' : Nat → Prop} {E E' : zE} {L L' : Nat} {ol : pOL} {f : Option Nat} {fT x1 x2 : Int32} {Q : kx_Rs → wS → Prop} {fi fi1 : Nat → Int32} {fp fp1 : Nat → Option Nat} {ft : Nat → Int32} {br : Bool} {lo1 : Int} {Φ : kx_Rs → wS → kx_Rs → wS → Prop} {bl : Option Nat} {gt : pQ}
/-- TIMER, behind its word -/
theorem p_timer (hL9 : 2300 ≤ L) (hL9' : 2300 ≤ L') (H : HY D K [] [] S0 (w, t, al, m, N, nu, tn) p p 0 0) (hO : OWc (w, t, al, m, N, nu, tn) b fi fp) (hT : OWt (w, t, al, m, N, nu, tn) n ft) (hb : b ∉ S0.2.2.1.take S0.2.2.2.1) (hn : S0.2.2.2.2.1 ≤ n ∧ n < 14000)
    (h3 : fp 0 = some (D.1.1.1 27) ∧ fi 14 = 0 ∧ fp 3 = none ∧ ft 28 = -1 ∧ ft 34 = 0) (h8 : fi 8 = -1) (hfi : fi 2 = i_ (kln K p0) ∧ fi 12 = 0 ∧ fp 7 = none) (hft : ft 26 = 32 ∧ ft 27 = i_ (kln K p0) ∧ ft 32 = -1) (hln : kln K p = kln K p0) (hpp : p0 ≤ p) (hmN : m ≤ 4 * p + 9 ∧ N ≤ 4 * p + 9) (hbd : m + 4 * p0 ≤ S0.2.2.2.1 + 4 * p + 4 ∧ N + 4 * p0 ≤ S0.2.2.2.2.1 + 4 * p + 4) :
    PS (fun Q => zw D.1 (L - 21) kt_M190 [.ref (w_adr D.1.2.1 4 0), va_rf (some b)] w (wk0 (fun w20 => wle w w20 → zb_X5_declaration_p219 D.1 L Q (some b) w20) (fun e w => Q (.inr e) w))) (fun Q => zw E' (L' - 20) kt_M601 [.ref (w_adr E'.2.1 12 0)] t (wk1 (fun v20 w19 => wle t w19 → zw E' (L' - 24) kt_M451 [.ref (w_adr E'.2.1 12 0), .int (i_ n), .int v20] w19 (wk0 (fun w21 => wle w19 w21 → Q (.inl (some (.int (i_ n)))) w21) (fun e w => Q (.inr e) w))) (fun e w => Q (.inr e) w))) (PRd D K d [] [] S0 p0 0 true true 0 (GPs 1 3 D K S0 p0)) := by
  have hpl := H.1.ta.lt
  have hal := H.alive
  have hΦ : STL D K d S0 true 0 (PRd D K d [] [] S0 p0 0 true true 0 (GPs 1 3 D K S0 p0)) := STL.of
  refine PS_l (fun Q h => zt_X5_list_p0 (by omega) h) ?_
  simp only [zb_X5_list_p0]
  have HB0 : HY D K [b] [n] (w, t, al, m, N, nu, tn) (w, t, al, m, N, nu, tn) p p 0 0 := ⟨H.1, FR.rf H.1.mle⟩
  refine PS_cn (by omega) (by omega) H (fun b1 al1 w2 H2 HF2 O2n hb1 hb10 => ?_)
  have O2 := hO.fr HF2 List.not_mem_nil
  have T2 := hT.fr HF2 List.not_mem_nil
  have HB2 : HY D K [b] [n] (w, t, al, m, N, nu, tn) (w2, t, al1, m + 1, N, nu, tn) p p 0 0 := ⟨H2.1, HB0.2.tr HF2 (fun a h => absurd h List.not_mem_nil) (fun a h => absurd h List.not_mem_nil)⟩
  have hbb1 : b ≠ b1 := fun e => hb1 (by rw [← e]; exact hO.1.1.1)
  refine PS_lex b rfl (PS_land (O2.wl H2.1) ?_)
  have H3 := H2.wp (k := 4) (v := some b1) O2.1.2 (fun e => absurd e hb) (LKO.mk O2n.1.1.1 (O2n.1.1.2 rfl) hb10)
  have HB3 := HB2.wp (k := 4) (v := some b1) O2.1.2 (fun _ => List.mem_singleton_self b) (LKO.mk O2n.1.1.1 (O2n.1.1.2 rfl) hb1)
  have O3 := O2.sp (k := 4) (v := some b1)
  have O3n := O2n.wk.op (b := b) (k := 4) (v := some b1) (fun e => hbb1 e.symm)
  refine PSg_nmw hΦ.stp (by omega) (by omega) (by omega) H3 (fun h70 H4 hnm => ?_) (fun w' hd => ?_)
  · have hp1 := H3.p1 (by omega)
    have hln1 := H3.1.ln hp1 (by omega)
    have hal4 := H4.alive
    have HB4 := (HB3.cn (by omega) hal4).tnx (by omega) hal
    have O4 : OWc (nx (ws_p w2 14 b 4 (some b1)) p, nx3 t p, al1, m + 1, N, nu, tn) b _ _ := O3.w4 (j := 3) (v := i_ (p + 1 : Nat)) (.inl (by decide))
    have O4n : OWl (nx (ws_p w2 14 b 4 (some b1)) p, nx3 t p, al1, m + 1, N, nu, tn) b1 _ _ := O3n.w4 (j := 3) (v := i_ (p + 1 : Nat)) (.inl (by decide))
    have T4 : OWt (nx (ws_p w2 14 b 4 (some b1)) p, nx3 t p, al1, m + 1, N, nu, tn) n ft := T2
    refine PS_lex b1 rfl (PS_land (O4n.wl H4.1) ?_)
    have r4 : w_p (nx (ws_p w2 14 b 4 (some b1)) p) 14 b 4 = some b1 := O4.2.2 4 rfl
    rw [r4]
    have HB5 := HB4.wi (k := 9) (v := w_a (ws_p w2 14 b 4 (some b1)) 1 0 3 p) O4n.1.2 (fun e => absurd e hb1)
    have O5 := O4.oi (b := b1) (k := 9) (v := w_a (ws_p w2 14 b 4 (some b1)) 1 0 3 p) hbb1
    have O5n := O4n.si (k := 9) (v := w_a (ws_p w2 14 b 4 (some b1)) 1 0 3 p)
    have T5 : OWt (ws_i (nx (ws_p w2 14 b 4 (some b1)) p) 14 b1 9 (w_a (ws_p w2 14 b 4 (some b1)) 1 0 3 p), nx3 t p, al1, m + 1, N, nu, tn) n ft := T4
    have hpl4 := H4.1.ta.lt
    have hDS : DS D (vw w t) tn nu (oE K (kln K p0) 0 p0 p) 32 27 0 fi fp ft := ⟨.inr (.inr ⟨rfl, rfl, rfl, h3.2.1, h3.2.2.1, h8⟩), .inl ⟨h3.2.2.1, h3.2.2.2.1, h3.2.2.2.2⟩⟩
    exact p_nit0 (L3 := L - 21 - 23) (by omega) (fi := fi) (fp := fp) (g := K.length) (v := w_a t 12 0 8 p) (L := L) (L' := L') (SB := (w, t, al, m, N, nu, tn)) (C := fun Q w7 => wle (ws_i (nx (ws_p w2 14 b 4 (some b1)) p) 14 b1 9 (w_a (ws_p w2 14 b 4 (some b1)) 1 0 3 p)) w7 → wk0 (fun w20 => wle w w20 → zb_X5_declaration_p219 D.1 L Q (some b) w20) (fun e w => Q (.inr e) w) (.inl none) w7) (Ct := fun Q w13 => wle (nx3 t p) w13 → Q (.inl (some (.int (i_ n)))) w13) (fun Q w h => fun _ => fun _ => h) (fun Q w h => fun _ => h) (by omega) (by omega) H.2 HB5 rfl hb1 hO.mn O5 O5n hnm rfl (by show i_ (kln K p) = i_ (kln K p0); rw [hln]) T5 hb hn H.1 ⟨hDS.wk, hT.1.2⟩ ⟨hfi.1, hfi.2.1, hfi.2.2, h3.1⟩ hft (hln1.trans hln) hln (by omega) (by omega) ⟨by omega, by omega⟩ ⟨by omega, by omega⟩ (Nat.le_refl _)
  · have hN' : w_i (nx3 t p) 12 0 25 = i_ N := by
      unfold nx3
      rw [Rii, if_neg (by decide)]
      exact H.tN
    exact dd_itm (X := fun Q => wk0 (fun w13 => wle (nx3 t p) w13 → Q (.inl (some (.int (i_ n)))) w13) (fun e w => Q (.inr e) w)) (by omega) (fun _ _ _ a => a) hd hN' (by omega) hn.2
end DC5
