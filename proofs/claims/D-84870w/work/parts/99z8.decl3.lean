/-! ===== PARSERS, part 42: the head of names, and both its ways ===== -/
section DC3
variable {ex et : List Nat} {S S' S0 SA SB : pS} {D : pD} {K : pK} {V V' : pV} {p p0 q o o' oA dl m N n n2 b b1 b2 lo hi lo2 hi2 r d d2 dd g pA pB nP bP y ks c k k' : Nat} {w t w' : wS} {al : List Nat} {nu nu' : pNz} {tn tn' : Nat → Prop} {E E' : zE} {L L' : Nat} {ol : pOL} {f : Option Nat} {fT x1 x2 : Int32} {Q : kx_Rs → wS → Prop} {fi fi1 : Nat → Int32} {fp fp1 : Nat → Option Nat} {ft : Nat → Int32} {br : Bool} {lo1 : Int} {Φ : kx_Rs → wS → kx_Rs → wS → Prop} {bl : Option Nat} {gt : pQ}
theorem p_nhead {Qn : (kx_Rs → wS → Prop) → kx_Rs → wS → Prop} {B : (kx_Rs → wS → Prop) → Int32 → wS → Prop} {L2 : Nat} {C : (kx_Rs → wS → Prop) → wS → Prop} (hQn : Qn = fun Q => wk0 (C Q) (fun e w => Q (.inr e) w)) (hΦ : STL D K dl S0 br lo1 Φ) (hL : 500 ≤ L) (hL2 : 500 ≤ L2) (hm : m < 10900) (hN : N ≤ 10900) (H : HY D K [] [] S0 (w, t, al, m, N, nu, tn) p p 0 0) (hO : OWc (w, t, al, m, N, nu, tn) b fi fp) (hT : OWt (w, t, al, m, N, nu, tn) n ft) (hb : b ∉ S0.2.2.1.take S0.2.2.2.1)
    (k : ∀ (b1 : Nat) (al1 : List Nat) (w1 : wS) (fi1 : Nat → Int32), HY D K [b] [n] (w, t, al, m, N, nu, tn) (w1, nx3 t p, al1, m + 1, N, nu, tn) (p + 1) (p + 1) 0 0 → b1 ∉ al.take m → OWc (w1, nx3 t p, al1, m + 1, N, nu, tn) b fi (up_ fp 0 (some (D.1.1.1 ks))) → OWc (w1, nx3 t p, al1, m + 1, N, nu, tn) b1 fi1 (ndP (some (D.1.1.1 13))) → nmr D (fi1 9) (w_a t 12 0 8 p) → fi1 12 = 0 → fi1 2 = i_ (kln K p) → OWt (w1, nx3 t p, al1, m + 1, N, nu, tn) n ft → kln K (p + 1) = kln K p → PS (fun Q => (if ¬ bI (decide (kk K (p + 1) = 13)) = 0 then zb_X5_names_p49 D.1 L (Qn Q) (some b) (some b1) w1 else (if ¬ fi 13 = 0 then zb_X5_names_p49 D.1 L (Qn Q) (some b) (some b1) w1 else zw D.1 (L - 23) kt_M207 [.ref (w_adr D.1.2.1 4 0), va_rf (some b), va_rf (some b1)] (ws_p w1 14 b 4 (some b1)) (wk0 (fun w9 => wle (ws_p w1 14 b 4 (some b1)) w9 → Qn Q (.inl none) w9) (fun e w => Qn Q (.inr e) w))))) (fun Q => B Q (w_a t 12 0 8 p) (nx3 t p)) Φ)
    (kd : ∀ w', DDs D K S0 w' (nx3 t p) → eS (fun Q => B Q (w_a t 12 0 8 p) (nx3 t p)) (fun r' t' => TLP D K S0.1 S0.2.1 br lo1 w' r' t')) :
    PS (fun Q => zb_X5_names_p0 D.1 L (Qn Q) (some b) (some (D.1.1.1 ks)) w) (fun Q => zw E' L2 kt_M601 [.ref (w_adr E'.2.1 12 0)] t (wk1 (fun v w1 => wle t w1 → B Q v w1) (fun e w => Q (.inr e) w))) Φ := by
  subst hQn
  have hpl := H.1.ta.lt
  simp only [zb_X5_names_p0]
  refine PS_lex b rfl (PS_land (hO.wl H.1) ?_)
  have H1 := H.wp (k := 0) (v := some (D.1.1.1 ks)) hO.1.2 (fun e => absurd e hb)
  have O1 := hO.sp (k := 0) (v := some (D.1.1.1 ks))
  have HB1 : HY D K [b] [n] (w, t, al, m, N, nu, tn) _ p p 0 0 := (show HY D K [b] [n] (w, t, al, m, N, nu, tn) (w, t, al, m, N, nu, tn) p p 0 0 from ⟨H.1, FR.rf H.1.mle⟩).wp (k := 0) (v := some (D.1.1.1 ks)) hO.1.2 (fun _ => List.mem_singleton_self b)
  refine PS_cn (by omega) (by omega) H1 (fun b1 al1 w2 H2 HF2 O2n hb1 hb10 => ?_)
  have O2 := O1.fr HF2 List.not_mem_nil
  have T2 := (show OWt (ws_p w 14 b 0 (some (D.1.1.1 ks)), t, al, m, N, nu, tn) n ft from hT).fr HF2 List.not_mem_nil
  have HB2 : HY D K [b] [n] (w, t, al, m, N, nu, tn) (w2, t, al1, m + 1, N, nu, tn) p p 0 0 := ⟨H2.1, HB1.2.tr HF2 (fun a h => absurd h List.not_mem_nil) (fun a h => absurd h List.not_mem_nil)⟩
  refine PSg_nmw hΦ.stp (by omega) (by omega) (by omega) H2 (fun h70 H3 hnm => ?_) (fun w' hd => kd w' hd)
  have hp1 := H2.p1 (by omega)
  have hln1 := H2.1.ln hp1 (by omega)
  have hal2 := H2.alive
  have hal3 := H3.alive
  have HB3 := (HB2.cn (by omega) hal3).tnx (by omega) hal2
  have O3 : OWc (nx w2 p, nx3 t p, al1, m + 1, N, nu, tn) b _ _ := O2.w4 (j := 3) (v := i_ (p + 1 : Nat)) (.inl (by decide))
  have O3n : OWc (nx w2 p, nx3 t p, al1, m + 1, N, nu, tn) b1 _ _ := O2n.w4 (j := 3) (v := i_ (p + 1 : Nat)) (.inl (by decide))
  have T3 : OWt (nx w2 p, nx3 t p, al1, m + 1, N, nu, tn) n ft := T2
  have hbb1 : b ≠ b1 := fun e => hb1 (by rw [← e]; exact hO.1.1.1)
  refine PS_lex b1 rfl (PS_land (O3n.wl H3.1) ?_)
  have H4 := H3.wi (k := 9) (v := w_a w2 1 0 3 p) O3n.1.2 (fun e => absurd e hb10)
  have HB4 := HB3.wi (k := 9) (v := w_a w2 1 0 3 p) O3n.1.2 (fun e => absurd e hb1)
  have O4 := O3.oi (b := b1) (k := 9) (v := w_a w2 1 0 3 p) hbb1
  have O4n := O3n.si (k := 9) (v := w_a w2 1 0 3 p)
  have T4 : OWt (ws_i (nx w2 p) 14 b1 9 (w_a w2 1 0 3 p), nx3 t p, al1, m + 1, N, nu, tn) n ft := T3
  refine PS_l1 (fun Q hq => c_is (c := 13) (v := 13) (by omega) H4.1.ca rfl (by unfold wcd; omega) hq) ?_
  have r13 : w_i (ws_i (nx w2 p) 14 b1 9 (w_a w2 1 0 3 p)) 14 b 13 = fi 13 := O4.2.1 13 rfl
  rw [r13]
  exact k b1 al1 _ _ HB4 hb1 O4 O4n hnm rfl rfl T4 hln1
theorem dd_itm {X : (kx_Rs → wS → Prop) → kx_Rs → wS → Prop} {v : Int32} (hL : 1100 ≤ L') (hx : ∀ Q e w, Q (.inr e) w → X Q (.inr e) w) (h : DDs D K S0 w' t) (hN : w_i t 12 0 25 = i_ N) (hN2 : N ≤ 10990) (hn : n < 14000) : eS (fun Q => zw E' L' kt_M451 [.ref (w_adr E'.2.1 12 0), .int (i_ n), .int v] t (X Q)) (fun r' t' => TLP D K S0.1 S0.2.1 br lo1 w' r' t') := by
  refine eS_l (fun Q h => zt_X13_items_p0 (by omega) h) ?_
  simp only [zb_X13_items_p0]
  refine eS_and (by rw [h.2.2.tl.2.1]; exact i_inb' (by omega) (by omega)) ?_
  refine eS_c (E := E') (L := L' - 22) (M := kt_M494) (w := t) (Kc := fun Q => wk1 _ _) (fun Q hq => t_node (by omega) h.2.2.1.1.1 hN (by omega) hq) (fun hw => ?_)
  refine eS_l (fun Q a => fun _ => a) ?_
  have h1 := h.nd (N := N) (x := 39) (l := w_a t 12 0 27 (i_ n : Int32).toNatClampNeg) (by omega)
  refine eS_and (by rw [h1.2.2.tl.2.2.2.2.1]; exact i_inb' (by omega) (by omega)) ?_
  refine eS_and (by rw [h1.2.2.tl.2.2.2.1]; exact i_inb' (by omega) (by omega)) ?_
  exact dd_items (by omega) hx ((h1.ta rfl).ta rfl)
/-- names behind a type or behind CHAN OF .. -/
theorem p_nm1 (hL : lex 0 + 400 ≤ L) (hL' : lex 0 + 400 ≤ L') (H : HY D K [] [] S0 (w, t, al, m, N, nu, tn) p p 0 0) (hO : OWc (w, t, al, m, N, nu, tn) b fi fp) (hT : OWt (w, t, al, m, N, nu, tn) n ft) (hb : b ∉ S0.2.2.1.take S0.2.2.2.1) (hn : S0.2.2.2.2.1 ≤ n ∧ n < 14000)
    (hDS : DS D (vw w t) tn nu (oE K (kln K p0) 0 p0 p) y ks c fi fp ft) (hks : ks = 10 ∨ ks = 26) (h3 : fp 3 = none ∧ ft 34 = i_ c) (h13 : fi 13 = 0) (hfi : fi 2 = i_ (kln K p0) ∧ fi 12 = 0 ∧ fp 7 = none) (hft : ft 26 = i_ y ∧ ft 27 = i_ (kln K p0) ∧ ft 32 = -1) (hln : kln K p = kln K p0) (hpp : p0 ≤ p) (hmN : m ≤ 4 * p + 9 ∧ N ≤ 4 * p + 9) (hbd : m + 4 * p0 ≤ S0.2.2.2.1 + 4 * p + 4 ∧ N + 4 * p0 ≤ S0.2.2.2.2.1 + 4 * p + 4) :
    PS (fun Q => zw D.1 (L - 23) kt_M194 [.ref (w_adr D.1.2.1 4 0), va_rf (some b), va_rf (some (D.1.1.1 ks))] w (wk0 (fun w20 => wle w w20 → zb_X5_declaration_p219 D.1 L Q (some b) w20) (fun e w => Q (.inr e) w))) (fun Q => zw E' (L' - 20) kt_M601 [.ref (w_adr E'.2.1 12 0)] t (wk1 (fun v10 w9 => wle t w9 → zw E' (L' - 20) kt_M462 [.ref (w_adr E'.2.1 12 0)] w9 (wk1 (fun v12 w11 => wle w9 w11 → (if ¬ v12 = 13 then zw E' (L' - 24) kt_M451 [.ref (w_adr E'.2.1 12 0), .int (i_ n), .int v10] w11 (wk0 (fun w13 => wle w11 w13 → Q (.inl (some (.int (i_ n)))) w13) (fun e w => Q (.inr e) w)) else zw E' (L' - 22) kt_M339 [.ref (w_adr E'.2.1 12 0), .int (i_ n), .int v10] w11 (wk1 (fun v16 w15 => wle w11 w15 → Q (.inl (some (.int v16))) w15) (fun e w => Q (.inr e) w)))) (fun e w => Q (.inr e) w))) (fun e w => Q (.inr e) w))) (PRd D K d [] [] S0 p0 0 true true 0 (GPs 1 3 D K S0 p0)) := by
  have hLa : lex 0 + 100 ≤ L - 23 := by unfold lex at *; omega
  have hLa' : lex 0 + 100 ≤ L' - 22 := by unfold lex at *; omega
  have hL9 : 2300 ≤ L := by unfold lex at hL; omega
  have hL9' : 2300 ≤ L' := by unfold lex at hL'; omega
  clear hL hL'
  have hpl := H.1.ta.lt
  have hal := H.alive
  refine PS_l (fun Q h => zt_X5_names_p0 (by omega) h) ?_
  refine p_nhead (C := fun Q w20 => wle w w20 → zb_X5_declaration_p219 D.1 L Q (some b) w20) rfl STL.of (by omega) (by omega) (by omega) (by omega) H hO hT hb (fun b1 al1 w1 fi1 HB hb1 O1 O1n hnm h12 h2 T1 hln1 => ?_) (fun w' hd => ?_)
  · have H1 : HY D K [] [] S0 (w1, nx3 t p, al1, m + 1, N, nu, tn) (p + 1) (p + 1) 0 0 := ⟨HB.1, H.2.tr HB.2 (fun a h h2 => absurd h2 (by rw [List.mem_singleton.mp h]; exact hb)) (fun n' h h2 => absurd h2 (by rw [List.mem_singleton.mp h]; omega))⟩
    have hpl1 := H1.1.ta.lt
    have hkr := H1.1.ta.kr H1.1.krg
    refine PS_r1 (fun Q hq => t_look (by omega) H1.1.ta hq) ?_
    have e13v : (i_ (kk K (p + 1)) = (13 : Int32)) = (kk K (p + 1) = 13) := i_eqk (show -1000 ≤ kk K (p + 1) ∧ kk K (p + 1) ≤ 1000 by omega) (show (-1000 : Int) ≤ 13 by decide) (by decide)
    simp only [e13v]
    by_cases e13 : kk K (p + 1) = 13
    · rw [decide_eq_true e13]
      refine PS_lp (by decide) (PS_rn (not_not_intro e13) ?_)
      simp only [zb_X5_names_p49]
      refine PS_lex b rfl (PS_land (O1.wl H1.1) ?_)
      have r3 : w_p w1 14 b 3 = none := (O1.2.2 3 rfl).trans h3.1
      refine PS_lp r3 ?_
      have hvf := VWa.fr H.1 HB.2 (fun a h => by rw [List.mem_singleton.mp h]; exact hO.1.2) (fun y h => by rw [List.mem_singleton.mp h]; exact hT.1.2)
      have hKS : KSP D (vw w t) nu (fi 8) (fp 5) (fi 13) (fi 14) 0 (ft 33) (ft 34) := by
        refine ⟨false, false, h13, rfl, ?_⟩
        rcases hDS.1 with ⟨e1, e2, e3, q1, q2⟩ | ⟨e1, e2, e3, q1, q2⟩ | ⟨e1, e2, -⟩
        · exact .inl ⟨q1, q2.1, q2.2, by rw [h3.2, e3]; rfl⟩
        · exact .inr ⟨q1, q2, rfl, by rw [h3.2, e3]; rfl⟩
        · omega
      exact p_abb (fi := fi) (fp := up_ fp 0 (some (D.1.1.1 ks))) (ft := ft) (C := fun Q w20 => wle w w20 → zb_X5_declaration_p219 D.1 L Q (some b) w20) (A2 := fun Q v16 w15 => Q (.inl (some (.int v16))) w15) (fun Q w h => fun _ => h) (fun Q w h => h) (by omega) hLa hLa' H1 O1 O1n (fun e => hb1 (by rw [← e]; exact hO.1.1.1)) hnm T1 hb hn (hKS.up hvf (fun _ _ h => h)) hfi ⟨hft.2.1, hft.2.2⟩ (hln1.trans hln) (by omega) ⟨by omega, by omega⟩ ⟨by omega, by omega⟩
    · rw [decide_eq_false e13]
      refine PS_ln (fun h => h rfl) (PS_ln (not_not_intro h13) (PS_rp e13 ?_))
      exact p_nit (fi := fi) (fp := up_ fp 0 (some (D.1.1.1 ks))) (g := K.length) (v := w_a t 12 0 8 p) (L := L) (L' := L') (SB := (w, t, al, m, N, nu, tn)) (C := fun Q w9 => wle (ws_p w1 14 b 4 (some b1)) w9 → wk0 (fun w20 => wle w w20 → zb_X5_declaration_p219 D.1 L Q (some b) w20) (fun e w => Q (.inr e) w) (.inl none) w9) (Ct := fun Q w13 => wle (nx3 t p) w13 → Q (.inl (some (.int (i_ n)))) w13) (fun Q w h => fun _ => fun _ => h) (fun Q w h => fun _ => h) (by omega) (by omega) H.2 HB rfl hb1 hO.mn O1 O1n hnm h12 (h2.trans (by rw [hln])) T1 hb hn H.1 ⟨hDS.wk, hT.1.2⟩ ⟨hfi.1, hfi.2.1, hfi.2.2, rfl⟩ hft (hln1.trans hln) hln (by omega) (by omega) ⟨by omega, by omega⟩ ⟨by omega, by omega⟩ (Nat.le_refl _)
  · refine eS_1 (fun Q hq => t_look (by omega) hd.2.2.1 hq) ?_
    rw [hd.2.2.2.1]
    refine eS_p (by decide) ?_
    have hN' : w_i (nx3 t p) 12 0 25 = i_ N := by
      unfold nx3
      rw [Rii, if_neg (by decide)]
      exact H.tN
    exact dd_itm (X := fun Q => wk0 (fun w13 => wle (nx3 t p) w13 → Q (.inl (some (.int (i_ n)))) w13) (fun e w => Q (.inr e) w)) (by omega) (fun _ _ _ a => a) hd hN' (by omega) hn.2
end DC3
