/-! ===== PARSERS, part 45: the KIND of channels ===== -/
section DC6
variable {ex et : List Nat} {S S' S0 SA SB : pS} {D : pD} {K : pK} {V V' : pV} {p p0 q o o' oA dl m N n n2 b b1 b2 lo hi lo2 hi2 r d d2 dd g pA pB nP bP y ks c k k' : Nat} {w t w' : wS} {al : List Nat} {nu nu' : pNz} {tn tn' : Nat → Prop} {E E' : zE} {L L' : Nat} {ol : pOL} {f : Option Nat} {fT x1 x2 : Int32} {Q : kx_Rs → wS → Prop} {fi fi1 : Nat → Int32} {fp fp1 : Nat → Option Nat} {ft : Nat → Int32} {br : Bool} {lo1 : Int} {Φ : kx_Rs → wS → kx_Rs → wS → Prop} {bl : Option Nat} {gt : pQ}
theorem INJ.nk (h : INJ nu) : INJ (nuU nu b (99999, (0, fun _ => 0, 0, 0), 0)) := by
  intro a a' n r d r' d' h1 h2 h3
  unfold nuU at h1 h2
  by_cases e1 : a = b
  · rw [if_pos e1] at h1
    cases h1
    exact absurd rfl h3
  · rw [if_neg e1] at h1
    by_cases e2 : a' = b
    · rw [if_pos e2] at h2
      cases h2
      exact absurd rfl h3
    · rw [if_neg e2] at h2
      exact h a a' n r d r' d' h1 h2 h3
/-- a KIND's node is done: the twin has none for it -/
theorem HY.nk (h : HY D K ex et S0 (w, t, al, m, N, nu, tn) p q o o') (hb : b ∈ al.take m ∧ nu b = none) (hb0 : b ∉ S0.2.2.1.take S0.2.2.2.1) : HY D K ex et S0 (w, t, al, m, N, nuU nu b (99999, (0, fun _ => 0, 0, 0), 0), tn) p q o o' := by
  obtain ⟨⟨⟨g1, g1a, g1b, g1c, g1d⟩, g2, g3, g4, g5⟩, f1, f2, f3, f4, ⟨f5, f6, f7, f8⟩, f9⟩ := h
  have hnl : nle nu (nuU nu b (99999, (0, fun _ => 0, 0, 0), 0)) := nle_nuU hb.2
  have hself : nuU nu b (99999, (0, fun _ => 0, 0, 0), 0) b = some (99999, (0, fun _ => 0, 0, 0), 0) := by unfold nuU; rw [if_pos rfl]
  refine ⟨⟨⟨g1, g1a, g1b, g1c.mn hnl, g1d.nk⟩, g2, g3, g4, ⟨fun a n' r' d' hn => ?_, g5.2⟩⟩, f1, f2, f3, f4, ⟨fun a x hx => hnl a x (f5 a x hx), f6, fun a ha => ?_, f8⟩, f9⟩
  · by_cases e : a = b
    · subst e
      have hn : nuU nu a (99999, (0, fun _ => 0, 0, 0), 0) a = some (n', r', d') := hn
      rw [hself] at hn
      cases hn
      exact ⟨hb.1, .inl rfl⟩
    · have hn : nuU nu b (99999, (0, fun _ => 0, 0, 0), 0) a = some (n', r', d') := hn
      unfold nuU at hn
      rw [if_neg e] at hn
      obtain ⟨q1, q2⟩ := g5.1 a n' r' d' hn
      refine ⟨q1, q2.elim .inl (fun ⟨q2, q3, q4⟩ => .inr ⟨q2, q3, ?_⟩)⟩
      exact q4.up ⟨⟨fun _ _ => ⟨rfl, rfl⟩, fun _ _ _ _ => rfl, rfl⟩, ⟨fun _ _ => rfl, fun _ _ => rfl⟩, fun _ _ _ _ _ => rfl⟩ hnl (fun y hy => hy) (fun y hy => hy) (Nat.le_refl _)
  · have ha : nuU nu b (99999, (0, fun _ => 0, 0, 0), 0) a ≠ none := ha
    unfold nuU at ha
    by_cases e : a = b
    · subst e
      exact .inr hb0
    · rw [if_neg e] at ha
      exact f7 a ha
theorem dd_takeType {A : (kx_Rs → wS → Prop) → wS → Prop} (hL : 600 ≤ L') (h : DDs D K S0 w' t) : eS (fun Q => zw E' L' kt_M554 [.ref (w_adr E'.2.1 12 0), .int x1] t (wk0 (A Q) (fun e w => Q (.inr e) w))) (fun r' t' => TLP D K S0.1 S0.2.1 br lo1 w' r' t') := by
  refine eS_l (fun Q h => zt_X13_takeType_p0 (by omega) h) ?_
  simp only [zb_X13_takeType_p0]
  refine eS_1 (fun Q hq => t_look (by omega) h.2.2.1 hq) ?_
  rw [h.2.2.2.1]
  refine eS_1 (fun Q hq => t_isType (v := 76) (by omega) (by decide) hq) ?_
  exact eS_n (fun h => h rfl) (dd_stop (no := 2) h (by omega))
theorem i_or2 {o2 : Nat} (h : o2 ≤ 1) : (i_ o2 : Int32) ||| 2 = i_ (o2 + 2 : Nat) := by
  have : ∀ x : Fin 2, (i_ (x.1 : Nat) : Int32) ||| 2 = i_ (x.1 + 2 : Nat) := by decide
  exact this ⟨o2, by omega⟩
theorem i_m2 {c : Nat} (h : c < 1400) : (-2 : Int32) - i_ c = i_ (-2 - (c : Int)) := by
  rw [show (-2 : Int32) = i_ (-2) from rfl, i_sub]
theorem PSg_kdw (hΦ : STP D K S0 br lo1 Φ) {C Ct : (kx_Rs → wS → Prop) → wS → Prop} {o2 : Nat} (hL : 600 ≤ L) (hL' : 1000 ≤ L') (hm : m < 10900) (hN : N ≤ 10900) (H : HY D K ex et S0 (w, t, al, m, N, nu, tn) p p o o') (hO : OWc (w, t, al, m, N, nu, tn) b fi fp) (hT : OWt (w, t, al, m, N, nu, tn) n ft) (hbx : b ∈ S0.2.2.1.take S0.2.2.2.1 → b ∈ ex) (hnx : n < S0.2.2.2.2.1 → n ∈ et) (hn : n < 14000) (h6 : kk K p = 6) (ho2 : ft 34 = i_ o2 ∧ o2 ≤ 1)
    (k : ∀ (b2 : Nat) (al2 : List Nat) (w2 t2 : wS) (nu2 : pNz) (ty : Int32), HY D K ex et S0 (w2, t2, al2, m + 1, N, nu2, tn) (p + 1 + 1 + 1) (p + 1 + 1 + 1) o o' → FR [b] [n] (w, t, al, m, N, nu, tn) (w2, t2, al2, m + 1, N, nu2, tn) → OWc (w2, t2, al2, m + 1, N, nu2, tn) b (up_ fi 14 1) (up_ fp 5 (some b2)) → OWt (w2, t2, al2, m + 1, N, nu2, tn) n (up_ (up_ ft 34 (i_ (o2 + 2 : Nat))) 33 ty) → KN D (vw w2 t2) nu2 (some b2) ty → kln K (p + 1 + 1 + 1) = kln K p → PS (fun Q => C Q w2) (fun Q => Ct Q t2) Φ)
    (kd : ∀ w' t', w_i t' 12 0 25 = i_ N → DDs D K S0 w' t' → eS (fun Q => Ct Q t') (fun r' t' => TLP D K S0.1 S0.2.1 br lo1 w' r' t')) :
    PS (fun Q => zw D.1 L kt_M187 [.ref (w_adr D.1.2.1 4 0), va_rf (some b)] w (wk0 (C Q) (fun e w => Q (.inr e) w))) (fun Q => zw E' L' kt_M553 [.ref (w_adr E'.2.1 12 0), .int (i_ n)] t (wk0 (Ct Q) (fun e w => Q (.inr e) w))) Φ := by
  have hpl := H.1.ta.lt
  have hal := H.alive
  have hnN : n < N := hT.1.1
  have HB : HY D K [b] [n] (w, t, al, m, N, nu, tn) (w, t, al, m, N, nu, tn) p p o o' := ⟨H.1, FR.rf H.1.mle⟩
  have hbB : b ∈ ([b] : List Nat) := List.mem_singleton_self b
  have hnB : n ∈ ([n] : List Nat) := List.mem_singleton_self n
  refine PS_of (fun Q h => zt_X5_kindOf_p0 (by omega) h) (fun Q h => zt_X13_takeKind_p0 (by omega) h) ?_
  simp only [zb_X5_kindOf_p0, zb_X13_takeKind_p0, i_nat' (show n < 2147483648 by omega)]
  refine PS_l1 (fun Q hq => c_is (c := 6) (v := 6) (by omega) H.1.ca rfl (by unfold wcd; omega) hq) ?_
  rw [decide_eq_true h6]
  refine PS_lp (by decide) (PS_lex b rfl (PS_land (hO.wl H.1) ?_))
  have H1 := H.wi (k := 14) (v := 1) hO.1.2 hbx
  have HB1 := HB.wi (k := 14) (v := 1) hO.1.2 (fun _ => hbB)
  have O1 := hO.si (k := 14) (v := 1)
  refine PS_r0 (fun Q hq => t_want (v := 6) (by omega) H1.1.ta H1.1.krg rfl (by omega) (fun _ => hq) (fun e => absurd h6 e)) ?_
  have hp1 := H1.p1 (by omega)
  have hln1 := H1.1.ln hp1 (by omega)
  refine PSg_nxl hΦ (by omega) H1 (by omega) (fun H2' => ?_) (fun w' hd h76 => dd_want (v := 18) (H1.dd hd (by omega) (by omega) hal h76) (by omega) rfl (by omega))
  have H2 := H2'.tnx (by omega) hal
  have hal2 := H2.alive
  have HB2 := (HB1.cn (by omega) hal2).tnx (by omega) hal
  have O2 : OWc (nx (ws_i w 14 b 14 1) p, nx3 t p, al, m, N, nu, tn) b _ _ := O1.w4 (j := 3) (v := i_ (p + 1 : Nat)) (.inl (by decide))
  have T2 : OWt (nx (ws_i w 14 b 14 1) p, nx3 t p, al, m, N, nu, tn) n ft := hT
  have hpl2 := H2.1.ta.lt
  refine PSg_exw (c := 18) (v := 18) hΦ (by omega) (by omega) (by omega) H2 rfl (by unfold wcd; omega) rfl (fun h18 H3 => ?_) (fun w' hd => ?_)
  · have hp2 := H2.p1 (by omega)
    have hln2 := H2.1.ln hp2 (by omega)
    have hal3 := H3.alive
    have HB3 := (HB2.cn (by omega) hal3).tnx (by omega) hal2
    have O3 : OWc (nx (nx (ws_i w 14 b 14 1) p) (p + 1), nx3 (nx3 t p) (p + 1), al, m, N, nu, tn) b _ _ := O2.w4 (j := 3) (v := i_ (p + 1 + 1 : Nat)) (.inl (by decide))
    have T3 : OWt (nx (nx (ws_i w 14 b 14 1) p) (p + 1), nx3 (nx3 t p) (p + 1), al, m, N, nu, tn) n ft := T2
    have r34 : w_a (nx3 (nx3 t p) (p + 1)) 12 0 34 n = i_ o2 := (T3.2 34 rfl).trans ho2.1
    refine PS_rand (by rw [H3.1.tl.2.2.2.2.2.2.2.2.1]; exact i_inb' (by omega) (by omega)) (PS_rand (by rw [H3.1.tl.2.2.2.2.2.2.2.2.1]; exact i_inb' (by omega) (by omega)) ?_)
    rw [r34, i_or2 ho2.2]
    have H4 := H3.ta (k := 34) (n := n) (v := i_ (o2 + 2 : Nat)) rfl T3.1.2 hnx
    have HB4 := HB3.ta (k := 34) (n := n) (v := i_ (o2 + 2 : Nat)) rfl T3.1.2 (fun _ => hnB)
    have T4 := T3.si (k := 34) (v := i_ (o2 + 2 : Nat))
    have hpl4 := H4.1.ta.lt
    refine PS_cn (by omega) (by omega) H4 (fun b2 al2 w5 H5 HF5 O5n hb2 hb20 => ?_)
    have HB5 : HY D K [b] [n] (w, t, al, m, N, nu, tn) _ _ _ _ _ := ⟨H5.1, HB4.2.tr HF5 (fun a h => absurd h List.not_mem_nil) (fun a h => absurd h List.not_mem_nil)⟩
    have O5 : OWc (w5, ws_a (nx3 (nx3 t p) (p + 1)) 12 0 34 n (i_ (o2 + 2 : Nat)), al2, m + 1, N, nu, tn) b _ _ := (show OWc (nx (nx (ws_i w 14 b 14 1) p) (p + 1), ws_a (nx3 (nx3 t p) (p + 1)) 12 0 34 n (i_ (o2 + 2 : Nat)), al, m, N, nu, tn) b _ _ from O3).fr HF5 List.not_mem_nil
    have T5 := T4.fr HF5 List.not_mem_nil
    have hbb2 : b ≠ b2 := fun e => hb2 (by rw [← e]; exact hO.1.1.1)
    have H6 := H5.wp (k := 5) (v := some b2) O5.1.2 hbx (LKO.mk O5n.1.1.1 (O5n.1.1.2 rfl) hb20)
    have HB6 := HB5.wp (k := 5) (v := some b2) O5.1.2 (fun _ => hbB) (LKO.mk O5n.1.1.1 (O5n.1.1.2 rfl) hb2)
    have O6 := O5.sp (k := 5) (v := some b2)
    have O6n := O5n.wk.op (b := b) (k := 5) (v := some b2) (fun e => hbb2 e.symm)
    have T6 : OWt (ws_p w5 14 b 5 (some b2), ws_a (nx3 (nx3 t p) (p + 1)) 12 0 34 n (i_ (o2 + 2 : Nat)), al2, m + 1, N, nu, tn) n _ := T5
    refine PS_l1 (fun Q hq => c_isType (by omega) H6.1.ca hq) ?_
    refine PS_r1 (fun Q hq => t_look (by omega) H6.1.ta hq) ?_
    have hkr := H6.1.ta.kr H6.1.krg
    have e70v : (i_ (kk K (p + 1 + 1)) = (70 : Int32)) = (kk K (p + 1 + 1) = 70) := i_eqk (show -1000 ≤ kk K (p + 1 + 1) ∧ kk K (p + 1 + 1) ≤ 1000 by omega) (show (-1000 : Int) ≤ 70 by decide) (by decide)
    simp only [e70v]
    have r5 : w_p (ws_p w5 14 b 5 (some b2)) 14 b 5 = some b2 := O6.2.2 5 rfl
    have fin : ∀ (w7 t7 : wS) (ty : Int32) (fi7 : Nat → Int32), HY D K ex et S0 (w7, t7, al2, m + 1, N, nu, tn) (p + 1 + 1 + 1) (p + 1 + 1 + 1) o o' → FR [b] [n] (w, t, al, m, N, nu, tn) (w7, t7, al2, m + 1, N, nu, tn) → OWc (w7, t7, al2, m + 1, N, nu, tn) b (up_ fi 14 1) (up_ fp 5 (some b2)) → OWl (w7, t7, al2, m + 1, N, nu, tn) b2 fi7 (ndP (some (D.1.1.1 13))) → OWt (w7, t7, al2, m + 1, N, nu, tn) n (up_ (up_ ft 34 (i_ (o2 + 2 : Nat))) 33 ty) → ((tyr (fi7 8) ty ∧ fi7 9 = -1) ∨ (∃ c : Nat, c < 1400 ∧ ty = i_ (-2 - (c : Int)) ∧ nmr D (fi7 9) (i_ c) ∧ fi7 8 = -1)) → kln K (p + 1 + 1 + 1) = kln K (p + 1 + 1) → PS (fun Q => C Q w7) (fun Q => Ct Q t7) Φ := by
      intro w7 t7 ty fi7 H7 F7 O7 O7n T7 hty hln3
      have H8 := H7.nk O7n.mn hb20
      have HB7 : HY D K [b] [n] (w, t, al, m, N, nu, tn) _ _ _ _ _ := ⟨H7.1, F7⟩
      have F8 := (HB7.nk O7n.mn hb2).2
      refine k b2 al2 w7 t7 (nuU nu b2 (99999, (0, fun _ => 0, 0, 0), 0)) ty H8 F8 (O7.fin hbb2) T7 ⟨b2, rfl, O7n.2.2 0 rfl, ⟨(0, fun _ => 0, 0, 0), 0, by unfold nuU; rw [if_pos rfl]⟩, ?_⟩ (hln3.trans (hln2.trans hln1))
      have e8 : (vw w7 t7).1 b2 8 = fi7 8 := O7n.2.1 8 rfl
      have e9 : (vw w7 t7).1 b2 9 = fi7 9 := O7n.2.1 9 rfl
      rw [e8, e9]
      exact hty
    by_cases e70 : kk K (p + 1 + 1) = 70
    · rw [e70, show bTy 70 = false from rfl]
      refine PS_lp rfl (PS_rn (not_not_intro rfl) ?_)
      have hp3' := H6.p1 (by rw [e70]; decide)
      have hln3 := H6.1.ln hp3' (by rw [e70]; decide)
      have hal6 := H6.alive
      obtain ⟨c, c', ⟨hc1, hc2⟩, ⟨hc3, hc4, hc5, hc6⟩, hc7⟩ := H6.1.nm e70
      have l8 := H6.l9.2
      simp only [H6.tpos, i_nat' (show p + 1 + 1 < 2147483648 by omega)]
      refine PS_rand (by rw [l8]; exact i_inb' (by omega) (by omega)) (PS_rand (by rw [H6.1.tl.2.2.2.2.2.2.2.1]; exact i_inb' (by omega) (by omega)) ?_)
      have hc2 : w_a (ws_a (nx3 (nx3 t p) (p + 1)) 12 0 34 n (i_ (o2 + 2 : Nat))) 12 0 8 (p + 1 + 1) = i_ c' := hc2
      have hc1 : w_a (ws_p w5 14 b 5 (some b2)) 1 0 3 (p + 1 + 1) = i_ c := hc1
      rw [hc2, show (-2 : Int32) - i_ c' = i_ (-2 - (c' : Int)) from i_m2 hc6]
      have H7 := H6.ta (k := 33) (n := n) (v := i_ (-2 - (c' : Int))) rfl T6.1.2 hnx
      have HB7 := HB6.ta (k := 33) (n := n) (v := i_ (-2 - (c' : Int))) rfl T6.1.2 (fun _ => hnB)
      have T7 := T6.si (k := 33) (v := i_ (-2 - (c' : Int)))
      have e35 : ws_i (ws_a (ws_a (nx3 (nx3 t p) (p + 1)) 12 0 34 n (i_ (o2 + 2 : Nat))) 12 0 33 n (i_ (-2 - (c' : Int)))) 12 0 35 (i_ (p + 1 + 1 : Nat) + 1) = nx3 (ws_a (ws_a (nx3 (nx3 t p) (p + 1)) 12 0 34 n (i_ (o2 + 2 : Nat))) 12 0 33 n (i_ (-2 - (c' : Int)))) (p + 1 + 1) := by
        rw [i_1, i_add, cN1]
        rfl
      rw [e35]
      simp only [zb_X13_takeKind_p67, zb_X5_kindOf_p76]
      refine PSg_nml hΦ (by omega) H7 e70 (fun H8' => ?_) (fun w' hd h76 => ?_)
      · have H8 := H8'.tnx (by omega) hal6
        have hal8 := H8.alive
        have HB8 := (HB7.cn (by omega) hal8).tnx (by omega) hal6
        have O8 : OWc (nx (ws_p w5 14 b 5 (some b2)) (p + 1 + 1), nx3 (ws_a (ws_a (nx3 (nx3 t p) (p + 1)) 12 0 34 n (i_ (o2 + 2 : Nat))) 12 0 33 n (i_ (-2 - (c' : Int)))) (p + 1 + 1), al2, m + 1, N, nu, tn) b _ _ := O6.w4 (j := 3) (v := i_ (p + 1 + 1 + 1 : Nat)) (.inl (by decide))
        have O8n : OWl (nx (ws_p w5 14 b 5 (some b2)) (p + 1 + 1), nx3 (ws_a (ws_a (nx3 (nx3 t p) (p + 1)) 12 0 34 n (i_ (o2 + 2 : Nat))) 12 0 33 n (i_ (-2 - (c' : Int)))) (p + 1 + 1), al2, m + 1, N, nu, tn) b2 _ _ := O6n.w4 (j := 3) (v := i_ (p + 1 + 1 + 1 : Nat)) (.inl (by decide))
        refine PS_lex b2 r5 (PS_land (O8n.wl H8.1) ?_)
        refine PS_of (fun Q a => a) (fun Q a => a) (fin _ _ (i_ (-2 - (c' : Int))) _ (H8.wi (k := 9) (v := w_a (ws_p w5 14 b 5 (some b2)) 1 0 3 (p + 1 + 1)) O8n.1.2 (fun e => absurd e hb20)) (HB8.wi (k := 9) (v := w_a (ws_p w5 14 b 5 (some b2)) 1 0 3 (p + 1 + 1)) O8n.1.2 (fun e => absurd e hb2)).2 (O8.oi (b := b2) (k := 9) (v := w_a (ws_p w5 14 b 5 (some b2)) 1 0 3 (p + 1 + 1)) hbb2) (O8n.si (k := 9) (v := w_a (ws_p w5 14 b 5 (some b2)) 1 0 3 (p + 1 + 1))) T7 (.inr ⟨c', hc6, rfl, ⟨c, c', ⟨hc1, rfl⟩, ⟨hc3, hc4, hc5, hc6⟩, hc7⟩, rfl⟩) hln3)
      · exact kd w' _ (by
          unfold nx3
          rw [Rii, if_neg (by decide)]
          exact H6.tN) (H7.dd hd (by omega) (by omega) hal6 h76)
    · refine PS_rp e70 ?_
      simp only [zb_X13_takeKind_p67, zb_X5_kindOf_p76]
      cases hT : bTy (kk K (p + 1 + 1)) with
      | true =>
        refine PS_ln (by decide) ?_
        have hk3 : kk K (p + 1 + 1) = 12 ∨ kk K (p + 1 + 1) = 4 ∨ kk K (p + 1 + 1) = 3 := by
          simpa only [bTy, Bool.or_eq_true, decide_eq_true_eq] using hT
        have n5 : kk K (p + 1 + 1) ≠ 75 ∧ kk K (p + 1 + 1) ≠ 74 := by omega
        have hp3' := H6.p1 n5.1
        have hln3 := H6.1.ln hp3' n5.2
        have hal6 := H6.alive
        refine PSg_tyw hΦ (by omega) (by omega) (by omega) H6 hn T6.1.2 hnx (fun c hc _ H7 => ?_) (fun c w' hc hd => ?_)
        · have hal7 := H7.alive
          have HB7 := ((HB6.ta (k := 33) (n := n) (v := i_ c) rfl T6.1.2 (fun _ => hnB)).cn n5.1 hal7).tnx n5.1 hal6
          have O7 : OWc (nx (ws_p w5 14 b 5 (some b2)) (p + 1 + 1), nx3 (ws_a (ws_a (nx3 (nx3 t p) (p + 1)) 12 0 34 n (i_ (o2 + 2 : Nat))) 12 0 33 n (i_ c)) (p + 1 + 1), al2, m + 1, N, nu, tn) b _ _ := O6.w4 (j := 3) (v := i_ (p + 1 + 1 + 1 : Nat)) (.inl (by decide))
          have O7n : OWl (nx (ws_p w5 14 b 5 (some b2)) (p + 1 + 1), nx3 (ws_a (ws_a (nx3 (nx3 t p) (p + 1)) 12 0 34 n (i_ (o2 + 2 : Nat))) 12 0 33 n (i_ c)) (p + 1 + 1), al2, m + 1, N, nu, tn) b2 _ _ := O6n.w4 (j := 3) (v := i_ (p + 1 + 1 + 1 : Nat)) (.inl (by decide))
          have T7 := T6.si (k := 33) (v := i_ c)
          refine PS_lex b2 r5 (PS_land (O7n.wl H7.1) ?_)
          refine PS_of (fun Q a => a) (fun Q a => a) (fin _ _ (i_ c) _ (H7.wi (k := 8) (v := i_ (c + 1 : Nat)) O7n.1.2 (fun e => absurd e hb20)) (HB7.wi (k := 8) (v := i_ (c + 1 : Nat)) O7n.1.2 (fun e => absurd e hb2)).2 (O7.oi (b := b2) (k := 8) (v := i_ (c + 1 : Nat)) hbb2) (O7n.si (k := 8) (v := i_ (c + 1 : Nat))) T7 (.inl ⟨⟨c, hc, rfl, rfl⟩, rfl⟩) hln3)
        · exact kd w' _ (by
            unfold nx3
            rw [Rii, if_neg (by decide)]
            exact H6.tN) hd
      | false =>
        refine PS_lp rfl ?_
        refine PS_lx1 (fun Q hq => c_name (by omega) H6.1.ca (fun _ => hq) (fun h => absurd h e70) (fun h => absurd h e70)) (PSg_stop hΦ ?_)
        refine eS_l (fun Q h => zt_X13_takeType_p0 (by omega) h) ?_
        simp only [zb_X13_takeType_p0]
        refine eS_1 (fun Q hq => t_look (by omega) H6.1.ta hq) ?_
        refine eS_1 (fun Q hq => t_isType (by omega) (by omega) hq) ?_
        rw [hT]
        refine eS_n (fun h => h rfl) ?_
        exact eS_l (fun Q hq => t_throw (no := 2) (e := "") (by omega) H6.1.ta hkr hq) (TLP_two H6 FX.rf frm.rf H6.alive)
  · refine eS_and (by rw [hd.2.2.tl.2.2.2.2.2.2.2.2.1]; exact i_inb' (by omega) (by omega)) (eS_and (by rw [hd.2.2.tl.2.2.2.2.2.2.2.2.1]; exact i_inb' (by omega) (by omega)) ?_)
    have hd := hd.ta (k := 34) (n := n) (v := w_a (nx3 (nx3 t p) (p + 1)) 12 0 34 n ||| 2) rfl
    refine eS_1 (fun Q hq => t_look (by omega) hd.2.2.1 hq) ?_
    rw [hd.2.2.2.1]
    exact eS_p (by decide) (dd_takeType (by omega) hd)
end DC6
