/-! ===== PARSERS, part 53: the lines of a PROTOCOL ===== -/
def is41 (x : Int32) : Prop := x = 41
section TGS
variable {ex et : List Nat} {S S' S0 S1z SA : pS} {D : pD} {K : pK} {p p0 q o o' oA dl m N n n2 b b2 lo hi lo2 hi2 r d d2 dd g pA pB nP bP : Nat} {w t w' : wS} {al : List Nat} {nu : pNz} {tn : Nat → Prop} {E E' : zE} {L L' : Nat} {ol : pOL} {f : Option Nat} {fT x1 x2 c : Int32} {Q : kx_Rs → wS → Prop} {fi : Nat → Int32} {fp : Nat → Option Nat} {ft : Nat → Int32} {bl br : Bool} {lo1 : Int} {Φ : kx_Rs → wS → kx_Rs → wS → Prop} {gt : pQ} {G : pG}
theorem i_add2 {d : Nat} : (i_ d : Int32) + 2 = i_ (d + 2 : Nat) := by
  rw [show (2 : Int32) = i_ 2 from rfl, i_add, cN2]
theorem i_add1 {d : Nat} : (i_ d : Int32) + 1 = i_ (d + 1 : Nat) := by
  rw [i_1, i_add, cN1]
theorem OWx.up2 {cc : Bool} {S : pS} {v v2 : Option Nat} {k : Nat} (h : OWx cc S b fi (up_ (up_ fp k v) k v2)) : OWx cc S b fi (up_ fp k v2) := ⟨h.1, h.2.1, fun j hj => by
  have h2 := h.2.2 j hj
  unfold up_ at *
  by_cases hjk : j = k
  · rw [if_pos hjk] at *
    exact h2
  · rw [if_neg hjk, if_neg hjk] at h2
    rw [if_neg hjk]
    exact h2⟩
theorem dd_partsOf {A : (kx_Rs → wS → Prop) → Int32 → wS → Prop} (hL : 1100 ≤ L') (h : DDs D K S0 w' t) (hN0 : w_i t 12 0 25 = i_ N) (hN : N + 1 ≤ 11000) : eS (fun Q => zw E' L' kt_M507 [.ref (w_adr E'.2.1 12 0)] t (wk1 (A Q) (fun e w => Q (.inr e) w))) (fun r' t' => TLP D K S0.1 S0.2.1 br lo1 w' r' t') := by
  refine eS_l (fun Q h => zt_X13_partsOf_p0 (by omega) h) ?_
  simp only [zb_X13_partsOf_p0]
  exact dd_part (by omega) h hN0 hN
theorem dd_tg {Ct : (kx_Rs → wS → Prop) → Int32 → wS → Prop} {nl : Int32} (hd : d ≤ 100) (hL : 1100 ≤ L') (h : DDs D K S0 w' t) : eS (fun Q => zb_X13_protocol_p182 E' L' (wk1 (Ct Q) (fun e w => Q (.inr e) w)) x1 (i_ d) nl t) (fun r' t' => TLP D K S0.1 S0.2.1 br lo1 w' r' t') := by
  simp only [zb_X13_protocol_p182, i_add2]
  refine dd_isAt h (by omega) (by omega) (fun b => ?_)
  cases b with
  | false =>
    refine eS_n (fun h => h rfl) (eS_l (fun Q h => zt_X13_colon_p0 (by omega) h) ?_)
    simp only [zb_X13_colon_p0]
    exact dd_lineAt (how := 6) h (by omega) (by omega) rfl (by omega)
  | true =>
    refine eS_p (by decide) (eS_l (fun Q h => zt_X13_protocol_p96 (by omega) h) ?_)
    simp only [zb_X13_protocol_p96, i_add2]
    exact dd_lineAt (how := 5) h (by omega) (by omega) rfl (by omega)
theorem dd_tge {Ct : (kx_Rs → wS → Prop) → Int32 → wS → Prop} {nl : Int32} (hd : d ≤ 100) (hL : 1100 ≤ L') (h : DDs D K S0 w' t) : eS (fun Q => zb_X13_protocol_p152 E' L' (wk1 (Ct Q) (fun e w => Q (.inr e) w)) x1 (i_ d) nl x2 t) (fun r' t' => TLP D K S0.1 S0.2.1 br lo1 w' r' t') := by
  simp only [zb_X13_protocol_p152]
  exact dd_endOfLine h (by omega)
theorem p_tg_loop {C : (kx_Rs → wS → Prop) → wS → Prop} {Ct : (kx_Rs → wS → Prop) → Int32 → wS → Prop} (hΦ : STP D K SA br lo1 Φ) (hL : lex 0 + 200 ≤ L) (hL' : lex 0 + 200 ≤ L') (hd : d ≤ 20) (hnP : nP < SA.2.2.2.2.1 ∧ nP < 14000) (hbP : bP ∈ SA.2.2.1.take SA.2.2.2.1 ∧ SA.2.2.2.2.2.1 bP = none)
    (kf : ∀ w2 t2 al2 m2 N2 nu2 tn2 p2 f2 fT2 k2, HY D K [bP] [nP] SA (w2, t2, al2, m2, N2, nu2, tn2) p2 p2 0 0 → OWc (w2, t2, al2, m2, N2, nu2, tn2) bP fi (up_ fp 4 f2) → OWt (w2, t2, al2, m2, N2, nu2, tn2) nP (up_ ft 29 fT2) → SK1z (vw w2 t2) tn2 nu2 k2 (oN K 41 pB p2) 0 41 f2 fT2 → kk K (p2 - 1) = 74 → pB ≤ p2 → (m2 ≤ 4 * p2 + 9 ∧ N2 ≤ 4 * p2 + 9) → (m2 + 4 * pB ≤ SA.2.2.2.1 + 4 * p2 ∧ N2 + 4 * pB ≤ SA.2.2.2.2.1 + 4 * p2) → PS (fun Q => zw D.1 (L - 21) kt_M170 [.ref (w_adr D.1.2.1 4 0), .int (i_ d)] w2 (wk0 (fun w3 => wle w2 w3 → C Q w3) (fun e w => Q (.inr e) w))) (fun Q => zw E' (L' - 21) kt_M375 [.ref (w_adr E'.2.1 12 0), .int (i_ d)] t2 (wk0 (fun w3 => wle t2 w3 → Ct Q (i_ nP) w3) (fun e w => Q (.inr e) w))) Φ) :
    ∀ g w t al m N nu tn p f fT bl nl hi, K.length ≤ p + g → HY D K [bP] [nP] SA (w, t, al, m, N, nu, tn) p p 0 0 → LQ is41 D (w, t, al, m, N, nu, tn) SA.2.2.2.2.1 hi (oN K 41 pB p) f fT bl nl none 0 → OWc (w, t, al, m, N, nu, tn) bP fi (up_ fp 4 f) → OWt (w, t, al, m, N, nu, tn) nP (up_ ft 29 fT) → hi ≤ N → (∀ a, bl = some a → a ∉ SA.2.2.1.take SA.2.2.2.1) → kk K (p - 1) = 74 → (pB ≤ p ∧ 1 ≤ p) → (m ≤ 4 * p + 9 ∧ N ≤ 4 * p + 9) → (m + 4 * pB ≤ SA.2.2.2.1 + 4 * p ∧ N + 4 * pB ≤ SA.2.2.2.2.1 + 4 * p) → bAt K p (d + 2) = true → PS (fun Q => zL_X5_protocol_p105 D.1 L (wk0 (C Q) (fun e w => Q (.inr e) w)) (some bP) (i_ d) bl w) (fun Q => zL_X13_protocol_p96 E' L' (wk1 (Ct Q) (fun e w => Q (.inr e) w)) (i_ nP) (i_ d) nl t) Φ := by
  have hle : Unit → lex 0 + 100 ≤ L - 24 := fun _ => by unfold lex at *; omega
  have hle' : Unit → lex 0 + 100 ≤ L' - 23 := fun _ => by unfold lex at *; omega
  have hL9 : 2000 ≤ L := by unfold lex at hL; omega
  have hL9' : 2000 ≤ L' := by unfold lex at hL'; omega
  clear hL hL'
  intro g
  induction g with
  | zero =>
    intro w t al m N nu tn p f fT bl nl hi hg H
    have := H.1.ca.2.2
    omega
  | succ g ih =>
    intro w t al m N nu tn p f fT bl nl hi hg H hQ hO hT hhi hb0 h74 hpp hmN hbd hA
    have hpl := H.1.ta.lt
    have hal := H.alive
    have hSA : SA.2.2.2.2.1 ≤ N := H.2.2.1.2.2.1
    refine PS_of (fun Q h => zt_X5_protocol_p105 (by omega) h) (fun Q h => zt_X13_protocol_p96 (by omega) h) ?_
    simp only [zb_X5_protocol_p105, zb_X13_protocol_p96, i_add2]
    refine PS_l1 (fun Q hq => c_more (d := d + 2) (by omega) H.1.ca (by omega) (.inr h74) hq) ?_
    rw [hA]
    refine PS_ln (by decide) ?_
    refine PS_l1 (fun Q hq => c_isName (by omega) H.1.ca hq) ?_
    refine PSg_stand (d := d + 2) (how := 5) hΦ (by omega) (by omega) H (by omega) (.inr h74) rfl (by omega) rfl (fun _ hbx _ H1 => ?_)
    have h70 : kk K p = 70 := of_decide_eq_true hbx
    have F1 := ((show HY D K [] [] (w, t, al, m, N, nu, tn) (w, t, al, m, N, nu, tn) p p 0 0 from ⟨H.1, FR.rf H.1.mle⟩).co (u := 0) (by omega)).2
    have hQ1 : LQ is41 D (ws_i w 4 0 4 0, t, al, m, N, nu, tn) SA.2.2.2.2.1 hi (oN K 41 pB p) f fT bl nl none 0 := hQ.fr H.1 F1 (fun a h => absurd h List.not_mem_nil) (fun a h => absurd h List.not_mem_nil)
    have O1 : OWc (ws_i w 4 0 4 0, t, al, m, N, nu, tn) bP fi (up_ fp 4 f) := hO.fr F1 List.not_mem_nil
    refine PS_cn (by omega) (by omega) H1 (fun b1 al2 w2 H2 HF2 O2n hb2 hb20 => ?_)
    have hQ2 := hQ1.fr H1.1 HF2 (fun a h => absurd h List.not_mem_nil) (fun a h => absurd h List.not_mem_nil)
    have O2 := O1.fr HF2 List.not_mem_nil
    have T2 : OWt (w2, t, al2, m + 1, N, nu, tn) nP (up_ ft 29 fT) := hT
    have hbb : bl ≠ some b1 := by
      rcases hQ1.nlb H1.1 with ⟨e, -⟩ | ⟨b, n, e, -, g1, -⟩
      · rw [e]; simp
      · rw [e]
        intro e2
        cases e2
        exact hb2 g1.1
    have hbP1 : bP ≠ b1 := fun e => hb20 (by rw [← e]; exact hbP.1)
    have hblP : bl ≠ some bP := fun e => hb0 bP e hbP.1
    refine PSq_behind (by omega) H2 hQ2 hb0 (LKO.mk O2n.1.1.1 (O2n.1.1.2 rfl) hb20) (fun w3 hw3 H3 hQ3 => ?_)
    have O3n := O2n.bh hw3 hbb
    have O3 := O2.bho hw3 hblP (fun e => hbP1 (Option.some.inj e).symm)
    have hnb := hQ3.nlb H3.1
    refine PS_lex bP rfl (PS_land (O3.wl H3.1) ?_)
    have r4 : w_p w3 14 bP 4 = f := O3.2.2 4 rfl
    obtain ⟨w4, f', fT', hf', H4, hQ4, O4, O4n, he⟩ : ∃ w4 f' fT', ((bl = none ∧ f' = some b1 ∧ fT' = i_ N) ∨ (bl ≠ none ∧ f' = f ∧ fT' = fT)) ∧ HY D K [bP] [nP] SA (w4, t, al2, m + 1, N, nu, tn) p p 0 0 ∧ LQ is41 D (w4, t, al2, m + 1, N, nu, tn) SA.2.2.2.2.1 hi (oN K 41 pB p) f fT bl nl (some b1) 0 ∧ OWc (w4, t, al2, m + 1, N, nu, tn) bP fi (up_ fp 4 f') ∧ OWl (w4, t, al2, m + 1, N, nu, tn) b1 (ndI (i_ p) (i_ (kln K p))) (ndP (some (D.1.1.1 32))) ∧ ∀ Q : kx_Rs → wS → Prop, zb_X5_protocol_p150 D.1 L Q (some bP) (i_ d) (some b1) w4 → (if ¬ w_p w3 14 bP 4 = none then zb_X5_protocol_p150 D.1 L Q (some bP) (i_ d) (some b1) w3 else zb_X5_protocol_p150 D.1 L Q (some bP) (i_ d) (some b1) (ws_p w3 14 bP 4 (some b1))) := by
      rcases hnb with ⟨e1, e2, e3, e4, e5⟩ | ⟨b, n, e1, e2, g1, ⟨f0, g2⟩, n0, g3, g4⟩
      · refine ⟨_, some b1, i_ N, .inl ⟨e1, rfl, rfl⟩, H3.wp (k := 4) (v := some b1) O3.1.2 (fun _ => List.mem_singleton_self bP) (LKO.mk O2n.1.1.1 (show NRw w3 (al2.take (m + 1)) b1 from hw3.elim (fun e => by rw [e]; exact O2n.1.1.2 rfl) (fun ⟨a, ea, _⟩ => by rw [e1] at ea; cases ea)) hb20), hQ3.oth O3.1.2 hblP, (O3.sp (k := 4) (v := some b1)).up2, O3n.op (b := bP) (k := 4) (v := some b1) (fun e => hbP1 e.symm), fun Q h => ?_⟩
        rw [if_neg (by rw [r4, e3]; simp)]
        exact h
      · refine ⟨w3, f, fT, .inr ⟨by rw [e1]; simp, rfl, rfl⟩, H3, hQ3, O3, O3n, fun Q h => ?_⟩
        rw [if_pos (by rw [r4, g2]; simp)]
        exact h
    refine PS_l (fun Q h => he _ h) ?_
    have H4' : HY D K [b1] [] (w4, t, al2, m + 1, N, nu, tn) (w4, t, al2, m + 1, N, nu, tn) p p 0 0 := ⟨H4.1, FR.rf H4.1.mle⟩
    have hΦ1 := hΦ.up H4.2
    have hb1m : ∀ {X : Prop}, X → b1 ∈ [b1] := fun _ => List.mem_singleton_self b1
    have hp1 := H4'.p1 (by omega)
    have hln1 := H4'.1.ln hp1 (by omega)
    refine PS_rand (by rw [H4.tpos, H4.l9.1]; exact i_inb' (by omega) (by omega)) ?_
    simp only [H4.tpos, i_nat' (show p < 2147483648 by omega), H4.1.r9]
    refine PS_r1 (fun Q hq => t_node (by omega) H4.kt H4.tN (by omega) hq) ?_
    simp only [i_nat' (show N < 2147483648 by omega)]
    have HB := H4'.tnd (x := 41) (l := i_ (kln K p))
    have T5n : OWt (w4, nd3 t N 41 (i_ (kln K p)), al2, m + 1, N + 1, nu, tn) N _ := OWt.new (x := 41) (l := i_ (kln K p)) H4'
    have O5n : OWl (w4, nd3 t N 41 (i_ (kln K p)), al2, m + 1, N + 1, nu, tn) b1 _ _ := O4n.tt
    -- behind the parts
    have tail : ∀ (w5 t5 : wS) (al5 : List Nat) (m5 N5 : Nat) (nu5 : pNz) (tn5 : Nat → Prop) (p5 : Nat) (fi5 : Nat → Int32) (fp5 : Nat → Option Nat) (ft5 : Nat → Int32) (r5 : Nat), HY D K [b1] [] (w4, t, al2, m + 1, N, nu, tn) (w5, t5, al5, m5, N5, nu5, tn5) p5 p5 0 0 → OWl (w5, t5, al5, m5, N5, nu5, tn5) b1 fi5 fp5 → OWt (w5, t5, al5, m5, N5, nu5, tn5) N ft5 → (N + 1 ≤ N5 ∧ p < p5 ∧ m5 + 4 * p ≤ m + 1 + 4 * p5 ∧ N5 + 4 * p ≤ N + 1 + 4 * p5) → ((fi5 2 = i_ (kln K p) ∧ fi5 12 = 0 ∧ fp5 7 = none ∧ fp5 0 = some (D.1.1.1 32)) ∧ (ft5 26 = i_ 41 ∧ ft5 27 = i_ (kln K p) ∧ ft5 32 = -1)) → nmr D (fi5 9) (ft5 30) → SKz (vw w5 t5) tn5 nu5 r5 (oE K (kln K p) 40 p p5) 0 40 (fp5 4) (ft5 29) → PS (fun Q => zb_X5_protocol_p179 D.1 L (wk0 (C Q) (fun e w => Q (.inr e) w)) (some bP) (i_ d) (some b1) w5) (fun Q => zb_X13_protocol_p152 E' L' (wk1 (Ct Q) (fun e w => Q (.inr e) w)) (i_ nP) (i_ d) nl (i_ N) t5) Φ := by
      intro w5 t5 al5 m5 N5 nu5 tn5 p5 fi5 fp5 ft5 r5 H5 O5 T5 hbd5 hfi hnm hpt
      have hpl5 := H5.1.ta.lt
      simp only [zb_X5_protocol_p179, zb_X13_protocol_p152]
      refine PSg_elw hΦ1 (by omega) (by omega) (by omega) H5 (fun e74 H8 => ?_) (fun w' hdd => ?_)
      · have O8 : OWl (nx w5 p5, nx3 t5 p5, al5, m5, N5, nu5, tn5) b1 _ _ := O5.w4 (j := 3) (v := i_ (p5 + 1 : Nat)) (.inl (by decide))
        have T8 : OWt (nx w5 p5, nx3 t5 p5, al5, m5, N5, nu5, tn5) N _ := T5
        have hpt8 : SKz (vw (nx w5 p5) (nx3 t5 p5)) tn5 nu5 (p5 + 1 - p - 1) (some (i_ (kln K p)), 40, p5 + 1 - p - 1, kln K, p, p5 + 1) 0 40 (fp5 4) (ft5 29) := by rw [vw_n2]; exact hpt.wk
        have hPI : PND D (nx w5 p5, nx3 t5 p5, al5, m5, N5, nu5, tn5) N N5 (oN K 41 p (p5 + 1)) b1 N 0 := PND.mk1 (kd := 41) O8 T8 (Nat.le_refl _) (by omega) (LFz.k41 O8 T8 (hfi.1.1.trans hfi.2.2.1.symm) hfi.2.1 ⟨rfl, hfi.1.2.2.2, hnm, by
          show SKz _ _ _ _ (some (ft5 27), _) 0 40 (fp5 4) (ft5 29)
          rw [hfi.2.2.1]
          exact hpt8⟩ hfi.2.2.1) hfi.1.2.1 (fun l e => by cases e) hfi.2.1
        have hXI := NXo.mk1 O8 T8 hfi.1.2.2.1 hfi.2.2.2
        have HZ : HY D K [bP] [nP] SA (nx w5 p5, nx3 t5 p5, al5, m5, N5, nu5, tn5) (p5 + 1) (p5 + 1) 0 0 := ⟨H8.1, H4.2.tr H8.2 (fun a ha hin => absurd hin (by rw [List.mem_singleton.mp ha]; exact hb20)) (fun n h => absurd h List.not_mem_nil)⟩
        have hQZ := hQ4.fr H4.1 H8.2 (fun a ha => by rw [List.mem_singleton.mp ha]; exact ⟨O4n.1.2, hbb⟩) (fun a h => absurd h List.not_mem_nil)
        have OZ := O4.fr H8.2 (fun h => hbP1 (List.mem_singleton.mp h))
        have TZ : OWt (nx w5 p5, nx3 t5 p5, al5, m5, N5, nu5, tn5) nP _ := (T2.ww (w' := w4) (al' := al2) (m' := m + 1)).fr H8.2 List.not_mem_nil
        have h26 : is41 (w_a (nx3 t5 p5) 12 0 26 N) := (T8.2 26 rfl).trans hfi.2.1
        have hf2 := hf'
        refine PSq_chain (f2 := f') (fT2 := fT') (by omega) hQZ HZ hPI hXI hbb hhi hSA (.inr rfl) hb0 (Nat.le_refl _) h26 hf' (fun t6 nu6 tn6 nx6 hnx H6 hQ6 hA6 => ?_)
        have T6 := hA6.owt TZ hnP.1 hnx
        have O6 : OWc (nx w5 p5, t6, al5, m5, N5, nu6, tn6) bP fi (up_ fp 4 f') := ⟨⟨OZ.1.1, H6.nuP hbP⟩, OZ.2⟩
        have r29 : w_a t6 12 0 29 nP = fT := T6.2 29 rfl
        simp only [i_nat' (show nP < 2147483648 by omega)]
        refine PS_rand (by rw [H6.1.tl.2.2.2.1]; exact i_inb' (by omega) (by omega)) ?_
        -- the next line
        have more : ∀ t7, HY D K [bP] [nP] SA (nx w5 p5, t7, al5, m5, N5, nu6, tn6) (p5 + 1) (p5 + 1) 0 0 → LQ is41 D (nx w5 p5, t7, al5, m5, N5, nu6, tn6) SA.2.2.2.2.1 N5 (oN K 41 pB (p5 + 1)) f' fT' (some b1) (i_ N) none 0 → OWc (nx w5 p5, t7, al5, m5, N5, nu6, tn6) bP fi (up_ fp 4 f') → OWt (nx w5 p5, t7, al5, m5, N5, nu6, tn6) nP (up_ ft 29 fT') → PS (fun Q => zL_X5_protocol_p105 D.1 L (wk0 (C Q) (fun e w => Q (.inr e) w)) (some bP) (i_ d) (some b1) (nx w5 p5)) (fun Q => zb_X13_protocol_p182 E' L' (wk1 (Ct Q) (fun e w => Q (.inr e) w)) (i_ nP) (i_ d) (i_ N) t7) Φ := by
          intro t7 H7 hQ7 O7 T7
          have hpl7 := H7.1.ta.lt
          simp only [zb_X13_protocol_p182, i_add2]
          refine PS_r1 (fun Q hq => t_isAt (d := d + 2) (by omega) H7.1.ta H7.1.krg (by omega) hq) ?_
          by_cases eA : bAt K (p5 + 1) (d + 2) = true
          · rw [eA]
            refine PS_rp (by decide) ?_
            exact ih _ _ al5 m5 N5 nu6 tn6 (p5 + 1) f' fT' (some b1) (i_ N) N5 (by omega) H7 hQ7 O7 T7 (Nat.le_refl _) (fun a e => by cases e; exact hb20) e74 ⟨by omega, by omega⟩ ⟨by omega, by omega⟩ ⟨by omega, by omega⟩ eA
          · have e' : bAt K (p5 + 1) (d + 2) = false := by simpa using eA
            rw [e']
            refine PS_rn (fun h => h rfl) (PS_l (fun Q h => zt_X5_protocol_p105 (by omega) h) ?_)
            simp only [zb_X5_protocol_p105, i_add2]
            refine PS_l1 (fun Q hq => c_more (d := d + 2) (by omega) H7.1.ca (by omega) (.inr e74) hq) ?_
            rw [e']
            refine PS_lp rfl ?_
            obtain ⟨nu', tn', k, HD, ⟨l, h1, h2, h3, h4⟩, h5⟩ := hQ7.done H7 (fun a e => by cases e; exact hb20) (Nat.le_refl _)
            have T8' : OWt (nx w5 p5, t7, al5, m5, N5, nu', tn') nP (up_ ft 29 fT') := ⟨⟨T7.1.1, fun e => (h5.2.2 nP e).elim T7.1.2 (fun h => by omega)⟩, T7.2⟩
            have O8' : OWc (nx w5 p5, t7, al5, m5, N5, nu', tn') bP fi (up_ fp 4 f') := ⟨⟨O7.1.1, HD.nuP hbP⟩, O7.2⟩
            exact kf _ _ al5 m5 N5 nu' tn' (p5 + 1) f' fT' k HD O8' T8' ⟨l, h1, h2, h3 (by simp), h4⟩ e74 (by omega) ⟨by omega, by omega⟩ ⟨by omega, by omega⟩
        rcases hf2 with ⟨g1, g2, g3⟩ | ⟨g1, g2, g3⟩
        · have efT : fT = -1 := by
            rcases hnb with ⟨-, -, -, e, -⟩ | ⟨b, n, e, -⟩
            · exact e
            · rw [g1] at e; cases e
          refine PS_rn (by rw [r29, efT]; exact fun h => h rfl) (PS_rand (by rw [H6.1.tl.2.2.2.1]; exact i_inb' (by omega) (by omega)) ?_)
          have H7 := H6.ta (k := 29) (n := nP) (v := i_ N) rfl T6.1.2 (fun _ => List.mem_singleton_self nP)
          have F7 := ((show HY D K [bP] [nP] _ (nx w5 p5, t6, al5, m5, N5, nu6, tn6) (p5 + 1) (p5 + 1) 0 0 from ⟨H6.1, FR.rf H6.1.mle⟩).ta (k := 29) (n := nP) (v := i_ N) rfl T6.1.2 (fun _ => List.mem_singleton_self nP)).2
          have hQ7 := hQ6.fr H6.1 F7 (fun a h => by rw [List.mem_singleton.mp h]; exact ⟨O6.1.2, fun e => hbP1 (Option.some.inj e).symm⟩) (fun y hy => by rw [List.mem_singleton.mp hy]; exact ⟨hnP.1, T6.1.2⟩)
          exact more _ H7 hQ7 O6 (by rw [g3]; exact (T6.si (k := 29) (v := i_ N)).up2)
        · have efT : fT ≠ -1 := by
            rcases hnb with ⟨e, -⟩ | ⟨b, n, -, -, -, -, n0, e, hn0⟩
            · exact absurd e g1
            · rw [e]
              have hn0 : n0 < N := hn0
              exact i_ne1 (by omega)
          refine PS_rp (by rw [r29]; exact efT) ?_
          exact more _ H6 hQ6 O6 (by rw [g3]; exact T6)
      · refine eS_chain (by omega) hdd.2.2.tl.2.2.2.2.2.2.1 hQ.nl (fun t' ht' => ?_)
        have hdd := hdd.ch ht'
        refine eS_and (by rw [hdd.2.2.tl.2.2.2.1]; exact i_inb' (by omega) (by omega)) ?_
        exact eS_ifb (dd_tg (by omega) (by omega) hdd) (eS_and (by rw [hdd.2.2.tl.2.2.2.1]; exact i_inb' (by omega) (by omega)) (dd_tg (by omega) (by omega) (hdd.ta rfl)))
    simp only [zb_X5_protocol_p150]
    have hv8 : w_a (nd3 t N 41 (i_ (kln K p))) 12 0 8 p = w_a t 12 0 8 p := TX_nd3.a rfl
    refine PSg_nmw hΦ1 (by omega) (by omega) (by omega) HB (fun _ H6 hnm => ?_) (fun w' hd => ?_)
    · have O6n : OWl (nx w4 p, nx3 (nd3 t N 41 (i_ (kln K p))) p, al2, m + 1, N + 1, nu, tn) b1 _ _ := O5n.w4 (j := 3) (v := i_ (p + 1 : Nat)) (.inl (by decide))
      have T6n : OWt (nx w4 p, nx3 (nd3 t N 41 (i_ (kln K p))) p, al2, m + 1, N + 1, nu, tn) N _ := T5n
      refine PS_lex b1 rfl (PS_land (O6n.wl H6.1) ?_)
      refine PS_rand (by rw [H6.1.tl.2.2.2.2.1]; exact i_inb' (by omega) (by omega)) ?_
      have H7 := (H6.wi (k := 9) (v := w_a w4 1 0 3 p) O6n.1.2 hb1m).ta (k := 30) (n := N) (v := w_a (nd3 t N 41 (i_ (kln K p))) 12 0 8 p) rfl T6n.1.2 (fun h => absurd h (Nat.lt_irrefl _))
      have O7n : OWl (ws_i (nx w4 p) 14 b1 9 (w_a w4 1 0 3 p), ws_a (nx3 (nd3 t N 41 (i_ (kln K p))) p) 12 0 30 N (w_a (nd3 t N 41 (i_ (kln K p))) 12 0 8 p), al2, m + 1, N + 1, nu, tn) b1 _ _ := O6n.si (k := 9) (v := w_a w4 1 0 3 p)
      have T7n : OWt (ws_i (nx w4 p) 14 b1 9 (w_a w4 1 0 3 p), ws_a (nx3 (nd3 t N 41 (i_ (kln K p))) p) 12 0 30 N (w_a (nd3 t N 41 (i_ (kln K p))) 12 0 8 p), al2, m + 1, N + 1, nu, tn) N _ := T6n.si (k := 30) (v := w_a (nd3 t N 41 (i_ (kln K p))) 12 0 8 p)
      have hpl7 := H7.1.ta.lt
      have hal7 := H7.alive
      refine PS_l1 (fun Q hq => c_is (c := 41) (v := 45) (by omega) H7.1.ca rfl (by unfold wcd; omega) hq) ?_
      by_cases h45 : kk K (p + 1) = 45
      · rw [decide_eq_true h45]
        refine PS_ln (by decide) ?_
        refine PS_r1 (fun Q hq => t_may (v := 45) (by omega) H7.1.ta H7.1.krg rfl ⟨by decide, by decide⟩ (fun _ => hq) (fun e => absurd h45 e)) (PS_rn (by decide) ?_)
        have hp2 := H7.p1 (by rw [h45]; decide)
        have hln2 := H7.1.ln hp2 (by rw [h45]; decide)
        refine PSg_nxl hΦ1 (by omega) H7 (by rw [h45]; decide) (fun H8' => ?_) (fun w' hd h76 => ?_)
        · have H8 := H8'.tnx (by rw [h45]; decide) hal7
          have O8n : OWl (nx (ws_i (nx w4 p) 14 b1 9 (w_a w4 1 0 3 p)) (p + 1), nx3 (ws_a (nx3 (nd3 t N 41 (i_ (kln K p))) p) 12 0 30 N (w_a (nd3 t N 41 (i_ (kln K p))) 12 0 8 p)) (p + 1), al2, m + 1, N + 1, nu, tn) b1 _ _ := O7n.w4 (j := 3) (v := i_ (p + 1 + 1 : Nat)) (.inl (by decide))
          have T8n : OWt (nx (ws_i (nx w4 p) 14 b1 9 (w_a w4 1 0 3 p)) (p + 1), nx3 (ws_a (nx3 (nd3 t N 41 (i_ (kln K p))) p) 12 0 30 N (w_a (nd3 t N 41 (i_ (kln K p))) 12 0 8 p)) (p + 1), al2, m + 1, N + 1, nu, tn) N _ := T7n
          refine PSg_c11 hΦ1 H8.2 H8.1.krg (p_parts (p_OE (D := D) (K := K) (E' := E') K.length).2 (hle ()) (hle' ()) H8.1 (by omega) ⟨by omega, by omega⟩) (fun a h => absurd h List.not_mem_nil) (fun a h => absurd h List.not_mem_nil) (fun x v w9 t9 al9 m9 N9 nu9 tn9 p9 H9 HS9 hbd9 hgx => ?_) (fun v w9 t9 hv hv2 hd => ?_)
          · obtain ⟨⟨k9, hs⟩, hln9, hhd⟩ := hgx
            rw [hln2, hln1] at hs
            have hN9 : N + 1 ≤ N9 := HS9.2.2.1.2.2.1
            have hpl9 := H9.1.ta.lt
            have O9 := O8n.fr HS9.2 List.not_mem_nil
            have T9 := T8n.fr HS9.2 List.not_mem_nil
            refine PS_rand (by rw [H9.1.tl.2.2.2.1]; exact i_inb' (by omega) (by omega)) ?_
            have H10 := (H9.wp (k := 4) (v := x) O9.1.2 hb1m (LKO.op (hhd.up (fun _ e => H8.2.sub e)))).ta (k := 29) (n := N) (v := v) rfl T9.1.2 (fun h => absurd h (Nat.lt_irrefl _))
            have O10 : OWl (ws_p w9 14 b1 4 x, ws_a t9 12 0 29 N v, al9, m9, N9, nu9, tn9) b1 _ _ := O9.sp (k := 4) (v := x) (.inr (.inr (fun e => (hhd _ e).2.2 O8n.1.1.1)))
            have T10 : OWt (ws_p w9 14 b1 4 x, ws_a t9 12 0 29 N v, al9, m9, N9, nu9, tn9) N _ := T9.si (k := 29) (v := v)
            have hvw := VWa.mk (w := w9) (t := t9) (w' := ws_p w9 14 b1 4 x) (t' := ws_a t9 12 0 29 N v) (b := b1) (n := N) (fun a h k => by simp only [nx, Rii, Rgi, Rpi, Rai, Rbi, Rri, Rni, Rdi, Roi, Rti, Rzi, RCi, RSi, Rip, Rgp, Rpp, Rap, Rbp, Rrp, Rnp, Rdp, Rop, Rtp, Rzp, RCp, RSp]; simp [h]) (fun y h k => by simp only [nx3, nd3, Rii, Rgi, Rpi, Rai, Rbi, Rri, Rni, Rdi, Roi, Rti, Rzi, RCi, RSi, Ria, Rga, Rpa, Raa, Rba, Rra, Rna, Rda, Roa, Rta, Rza, RCa, RSa]; simp [h]) rfl O9.1.2 T9.1.2
            obtain ⟨l, q1, q2, q3, q4⟩ := hs.up (k' := k9) hvw (fun _ _ h => h) (fun _ h => h) (Nat.le_refl _)
            exact tail _ _ _ _ _ _ _ p9 _ _ _ k9 H10 O10 T10 ⟨by omega, by omega, by omega, by omega⟩ ⟨⟨rfl, rfl, rfl, rfl⟩, rfl, rfl, rfl⟩ hnm ⟨l, LPz.wk' q1, q2, q4⟩
          · refine eS_and (by rw [hd.2.2.tl.2.2.2.1]; exact i_inb' (by omega) (by omega)) ?_
            exact dd_tge (by omega) (by omega) (hd.ta rfl)
        · exact dd_partsOf (N := N + 1) (by omega) (H7.dd hd (by omega) (by rw [h45]; decide) hal7 h76) (by
            unfold nx3
            rw [Rii, if_neg (by decide)]
            exact H7.tN) (by omega)
      · rw [decide_eq_false h45]
        refine PS_lp rfl ?_
        refine PS_r1 (fun Q hq => t_may (v := 45) (by omega) H7.1.ta H7.1.krg rfl ⟨by decide, by decide⟩ (fun e => absurd e h45) (fun _ => hq)) (PS_rp rfl ?_)
        exact tail _ _ _ _ _ _ _ (p + 1) _ _ _ 0 H7 O7n T7n ⟨by omega, by omega, by omega, by omega⟩ ⟨⟨rfl, rfl, rfl, rfl⟩, rfl, rfl, rfl⟩ hnm ⟨[], ⟨rfl, rfl⟩, rfl, fun q h => absurd h List.not_mem_nil⟩
    · refine eS_and (by rw [hd.2.2.tl.2.2.2.2.1]; exact i_inb' (by omega) (by omega)) ?_
      have hdd := hd.ta (k := 30) (n := N) (v := w_a (nd3 t N 41 (i_ (kln K p))) 12 0 8 p) rfl
      refine eS_1 (fun Q hq => t_may (v := 45) (by omega) hdd.2.2.1 hdd.1.2 rfl ⟨by decide, by decide⟩ (fun e => by rw [hdd.2.2.2.1] at e; exact absurd e (by decide)) (fun _ => hq)) (eS_p rfl ?_)
      exact dd_tge (by omega) (by omega) hdd
end TGS
