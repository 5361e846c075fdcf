/-! ===== PARSERS, part 26: IF ===== -/
/-- a list that the twin's node n holds -/
def GCH (D : pD) (K : pK) (S : pS) (p n : Nat) (ft : Nat → Int32) (cl : Nat) : pGd := fun cz x v S2 p2 => v = i_ n ∧ (∃ k l fT, LSz (vw S2.1 S2.2.1) S2.2.2.2.2.2.2 S2.2.2.2.2.2.1 k (oN K cl p p2) l x fT ∧ OWt S2 n (up_ ft 29 fT) ∧ (dsum l + p ≤ p2 ∧ dsum l = cz)) ∧ kk K (p2 - 1) = 74 ∧ (S2.2.2.2.1 + 4 * p ≤ S.2.2.2.1 + 4 * p2 ∧ S2.2.2.2.2.1 + 4 * p ≤ S.2.2.2.2.1 + 4 * p2) ∧ HDN S S2 x
section STC
variable {ex et : List Nat} {S S' S0 SA : pS} {D : pD} {K : pK} {p p0 q o o' oA dl m N n n2 b b2 lo hi lo2 hi2 r d d2 dd g pA pB nP : Nat} {w t w' : wS} {al : List Nat} {nu : pNz} {tn : Nat → Prop} {E E' : zE} {L L' : Nat} {ol : pOL} {f : Option Nat} {fT : Int32} {Q : kx_Rs → wS → Prop} {fi : Nat → Int32} {fp : Nat → Option Nat} {ft : Nat → Int32}
theorem i_2 : (2 : Int32) = i_ 2 := rfl
theorem OWt.up2 {S : pS} {v v2 : Int32} {k : Nat} (h : OWt S n (up_ (up_ ft k v) k v2)) : OWt S n (up_ ft k v2) := ⟨h.1, fun j hj => by
  rw [h.2 j hj]
  unfold up_
  by_cases e : j = k
  · rw [if_pos e, if_pos e]
  · rw [if_neg e, if_neg e, if_neg e]⟩
theorem OWt.upE {S : pS} {v : Int32} {k : Nat} (h : OWt S n ft) (e : ft k = v) : OWt S n (up_ ft k v) := ⟨h.1, fun j hj => by
  rw [h.2 j hj]
  unfold up_
  by_cases e' : j = k
  · rw [if_pos e', e', e]
  · rw [if_neg e']⟩
theorem dd_ch_loop {nl : Int32} (hd9 : d ≤ 800) (hL : 1000 ≤ L') (hn : n < 14000) (h : DDs D K S0 w' t) : eS (fun Q => zL_X13_choices_p15 E' L' Q (i_ d) (i_ n) nl t) (fun r' t' => TLP D K S0.1 S0.2.1 true 0 w' r' t') := by
  refine eS_l (fun Q h => zt_X13_choices_p15 (by omega) h) ?_
  simp only [zb_X13_choices_p15]
  rw [i_1, i_add, cN1]
  refine dd_isAt (d := d + 1) h (by omega) (by omega) (fun b => ?_)
  cases b with
  | false => exact eS_p rfl (h.ret rfl ⟨by omega, by omega⟩)
  | true => exact eS_n (by decide) (dd_lineAt (how := 2) h (by omega) (by omega) rfl (by omega))
theorem lt_ch_loop {nl : Int32} (hd9 : d ≤ 800) (hdl : d + 1 ≤ dl) (hL : 1000 ≤ L') (hn : n < 14000) (h : LTs D K dl S0 w' t) : eS (fun Q => zL_X13_choices_p15 E' L' Q (i_ d) (i_ n) nl t) (fun r' t' => TLPd D K d S0.1 S0.2.1 true 0 w' r' t') := by
  refine eS_l (fun Q h => zt_X13_choices_p15 (by omega) h) ?_
  simp only [zb_X13_choices_p15]
  rw [i_1, i_add, cN1]
  refine eS_1 (fun Q hq => h.isAt (d := d + 1) hdl (by omega) (by omega) hq) (eS_p rfl ?_)
  exact (h.dn (by omega)).ret rfl ⟨by omega, by omega⟩
theorem p_ch_loop {G : Nat} (IH : EXq D K E' G) (IHP : PRq D K E' G) (hd : d ≤ 20) (hL : dex d ≤ L + 100) (hL' : dex d ≤ L' + 100) (hnP : nP < SA.2.2.2.2.1 ∧ nP < 14000) : ∀ g w t al m N nu tn p f fT bl nl dd hi, K.length ≤ p + g → K.length ≤ p + G → HY D K [] [nP] (cb SA dd) (w, t, al, m, N, nu, tn) p p 0 0 → LQ anyk D (w, t, al, m, N, nu, tn) SA.2.2.2.2.1 hi (oN K 13 pB p) f fT bl nl none dd → OWt (w, t, al, m, N, nu, tn) nP (up_ ft 29 fT) → hi ≤ N → (∀ a, bl = some a → a ∉ SA.2.2.1.take SA.2.2.2.1) → HDN SA (w, t, al, m, N, nu, tn) f → kk K (p - 1) = 74 → (pA < p ∧ pB ≤ p ∧ pA < pB ∧ dd + pB ≤ p) → (m ≤ 4 * p + 7 ∧ N ≤ 4 * p + 7) → (m + 4 * pB ≤ SA.2.2.2.1 + 4 * p ∧ N + 4 * pB ≤ SA.2.2.2.2.1 + 4 * p) → PS (fun Q => zL_X5_choices_p4 D.1 L Q (i_ d) f bl w) (fun Q => zL_X13_choices_p15 E' L' Q (i_ d) (i_ nP) nl t) (PRd D K d [] [nP] SA pA 0 true true 0 (GCH D K SA pB nP ft 13)) := by
  have hdx : dex (d + 2) ≤ L - 23 := by unfold dex at *; omega
  have hdx' : dex (d + 2) ≤ L' - 24 := by unfold dex at *; omega
  unfold dex at hL hL'
  have h24 : 400 ≤ L' - 24 := by omega
  have h20 : 400 ≤ L' - 20 := by omega
  have h22 : 400 ≤ L' - 22 := by omega
  have hL9 : 1000 ≤ L' := by omega
  intro g
  induction g with
  | zero =>
    intro w t al m N nu tn p f fT bl nl dd hi hg _ H
    have := H.1.ca.2.2
    omega
  | succ g ih =>
    intro w t al m N nu tn p f fT bl nl dd hi hg hG H hQ hT hhi hb0 hf0 h74 hpp hmN hbd
    have hpl := H.1.ta.lt
    have hal := H.alive
    have hSA : SA.2.2.2.2.1 ≤ N := H.2.2.1.2.2.1
    refine PS_of (fun Q h => zt_X5_choices_p4 (by omega) h) (fun Q h => zt_X13_choices_p15 (by omega) h) ?_
    simp only [zb_X5_choices_p4, zb_X13_choices_p15, zb_X13_choices_p107]
    rw [i_1, i_add, cN1]
    refine PS_l1 (fun Q hq => c_more (d := d + 1) (by omega) H.1.ca (by omega) (.inr h74) hq) ?_
    refine PS_r1 (fun Q hq => t_isAt (d := d + 1) (by omega) H.1.ta H.1.krg (by omega) hq) ?_
    have hΦ : STL D K d SA true 0 (PRd D K d [] [nP] SA pA 0 true true 0 (GCH D K SA pB nP ft 13)) := STL.of
    have hΦ := hΦ.cb (c := dd)
    by_cases e : bAt K p (d + 1) = true
    · rw [e]
      refine PS_ln (by decide) (PS_rn (by decide) ?_)
      refine PS_l1 (fun Q hq => c_beginsExpression (by omega) H.1.ca hq) ?_
      refine PSg_stand (d := d + 1) (how := 2) hΦ.stp (by omega) (by omega) H (by omega) (.inr h74) rfl (by omega) rfl (fun _ hbx _ H1 => ?_)
      have hkx : kk K p ≠ 75 ∧ kk K p ≠ 74 := ⟨fun e => (by rw [e] at hbx; exact absurd hbx (by decide)), fun e => (by rw [e] at hbx; exact absurd hbx (by decide))⟩
      have hQ1 : LQ anyk D (ws_i w 4 0 4 0, t, al, m, N, nu, tn) SA.2.2.2.2.1 hi (oN K 13 pB p) f fT bl nl none dd := hQ.fr H.1 ((show HY D K [] [] (w, t, al, m, N, nu, tn) (w, t, al, m, N, nu, tn) p p 0 0 from ⟨H.1, FR.rf H.1.mle⟩).co (u := 0) (by omega)).2 (fun a h => absurd h List.not_mem_nil) (fun a h => absurd h List.not_mem_nil)
      refine PS_cn (by omega) (by omega) H1 (fun b1 al2 w2 H2 HF2 O2 hb2 hb20 => ?_)
      have hQ2 := hQ1.fr H1.1 HF2 (fun a h => absurd h List.not_mem_nil) (fun a h => absurd h List.not_mem_nil)
      have hbb : bl ≠ some b1 := by
        rcases hQ1.nlb H1.1 with ⟨e, -⟩ | ⟨b, n, e, -, g1, -⟩
        · rw [e]; simp
        · rw [e]
          intro e2
          cases e2
          exact hb2 g1.1
      refine PSq_behind (by omega) H2 hQ2 hb0 (LKO.mk O2.1.1.1 (O2.1.1.2 rfl) hb20) (fun w3 hw3 H3 hQ3 => ?_)
      have O3 := O2.bh hw3 hbb
      have hfS : ∀ {f' : Option Nat} {X Y : Prop}, ((bl = none ∧ f' = some b1 ∧ X) ∨ (bl ≠ none ∧ f' = f ∧ Y)) → HDN SA (w3, t, al2, m + 1, N, nu, tn) f' := fun hf' => HDN.stf ((show HDN SA (ws_i w 4 0 4 0, t, al, m, N, nu, tn) f from hf0).fr HF2) hQ2 O2.1.1.1 O2.1.2 (O2.1.1.2 rfl) hb20 hbb hw3 hf'
      have hnb := hQ3.nlb H3.1
      -- the item, over a base of its own
      have H3' : HY D K [b1] [] (w3, t, al2, m + 1, N, nu, tn) (w3, t, al2, m + 1, N, nu, tn) p p 0 0 := ⟨H3.1, FR.rf H3.1.mle⟩
      have hΦ1 := hΦ.up H3.2
      have hb1m : ∀ {X : Prop}, X → b1 ∈ [b1] := fun _ => List.mem_singleton_self b1
      have hp1 := H3'.p1 (by omega)
      have hln1 := H3'.1.ln hp1 (by omega)
      refine PS_rand (by rw [H3.tpos, H3.l9.1]; exact i_inb' (by omega) (by omega)) ?_
      simp only [H3.tpos, i_nat' (show p < 2147483648 by omega), H3.1.r9]
      refine PS_r1 (fun Q hq => t_node (by omega) H3.kt H3.tN (by omega) hq) ?_
      simp only [i_nat' (show N < 2147483648 by omega)]
      have key : ∀ f' fT', ((bl = none ∧ f' = some b1 ∧ fT' = i_ N) ∨ (bl ≠ none ∧ f' = f ∧ fT' = fT)) → PS (fun Q => zb_X5_choices_p43 D.1 L Q (i_ d) f' (some b1) w3) (fun Q => zw E' (L' - 22) kt_M393 [.ref (w_adr E'.2.1 12 0)] (nd3 t N 13 (i_ (kln K p))) (wk1 (fun v8 w7 => wle (nd3 t N 13 (i_ (kln K p))) w7 → kx_inb (i_ N) (w_n w7 12 0 28) = true ∧ zw E' (L' - 20) kt_M400 [.ref (w_adr E'.2.1 12 0)] (ws_a w7 12 0 28 N v8) (wk0 (fun w9 => wle (ws_a w7 12 0 28 N v8) w9 → zw E' (L' - 24) kt_M514 [.ref (w_adr E'.2.1 12 0), .int (i_ d + 2)] w9 (wk1 (fun v12 w11 => wle w9 w11 → kx_inb (i_ N) (w_n w11 12 0 29) = true ∧ zw E' (L' - 22) kt_M368 [.ref (w_adr E'.2.1 12 0), .int nl, .int (i_ N)] (ws_a w11 12 0 29 N v12) (wk1 (fun v14 w13 => wle (ws_a w11 12 0 29 N v12) w13 → kx_inb (i_ nP) (w_n w13 12 0 29) = true ∧ (if ¬ w_a w13 12 0 29 (i_ nP : Int32).toNatClampNeg = (-1) then zL_X13_choices_p15 E' L' Q (i_ d) (i_ nP) v14 w13 else (kx_inb (i_ nP) (w_n w13 12 0 29) = true ∧ zL_X13_choices_p15 E' L' Q (i_ d) (i_ nP) v14 (ws_a w13 12 0 29 (i_ nP : Int32).toNatClampNeg (i_ N))))) (fun e w => Q (.inr e) w))) (fun e w => Q (.inr e) w))) (fun e w => Q (.inr e) w))) (fun e w => Q (.inr e) w))) (PRd D K d [] [nP] SA pA 0 true true 0 (GCH D K SA pB nP ft 13)) := by
        intro f' fT' hf'
        have hfF := hfS hf'
        simp only [zb_X5_choices_p43]
        rw [i_2, i_add, cN2, i_nat' (show nP < 2147483648 by omega)]
        have HB := H3'.tnd (x := 13) (l := i_ (kln K p))
        have T1 : OWt (w3, nd3 t N 13 (i_ (kln K p)), al2, m + 1, N + 1, nu, tn) N _ := OWt.new (x := 13) (l := i_ (kln K p)) H3'
        have O1 : OWl (w3, nd3 t N 13 (i_ (kln K p)), al2, m + 1, N + 1, nu, tn) b1 _ _ := O3.tt
        refine PSg_c11 hΦ1.stp HB.2 HB.1.krg (IH (L - 22) (L' - 22) _ _ _ _ _ _ _ _ _ (by unfold lex; omega) (by unfold lex; omega) HB.1 hG ⟨by omega, by omega⟩) (fun a h => absurd h List.not_mem_nil) (fun a h => absurd h List.not_mem_nil) (fun x v w5 t5 al5 m5 N5 nu5 tn5 p5 H5 HS5 hbd5 hgx => ?_) (fun v w5 t5 hv hv2 hdd => ?_)
        · obtain ⟨c1, n1, rfl, rfl, hP1, hX1, hc1, hlnz, hfk⟩ := hgx
          have hpl5 := H5.1.ta.lt
          have O5 := O1.fr HS5.2 List.not_mem_nil
          have T5 := T1.fr HS5.2 List.not_mem_nil
          obtain ⟨x6, tn6, r6, H6, hC6, hm1, hm2, hn6⟩ := H5.fin hP1 (fun e => hc1 (HB.2.sub e)) (by show N ≤ N + 1; omega)
          have hbc1 : b1 ≠ c1 := fun e => hc1 (by rw [← e]; exact O1.1.1.1)
          have O6 := O5.fin (x := x6) (tn' := tn6) hbc1
          have T6 := T5.fin (nu' := nuU nu5 c1 x6) hm2 (.inl (Nat.lt_succ_self N))
          refine PS_lex b1 rfl (PS_land (O6.wl H6.1) ?_)
          refine PS_rand (by rw [H6.1.tl.2.2.1]; exact i_inb' (by omega) (by omega)) ?_
          have H7 := (H6.wp (k := 3) (v := some c1) O6.1.2 hb1m (LKO.mk hP1.bm.1 hX1.2.2 (fun e => hc1 (HB.2.sub e)))).ta (k := 28) (n := N) (v := i_ n1) rfl T6.1.2 (fun h => absurd h (Nat.lt_irrefl _))
          have O7 := O6.sp (k := 3) (v := some c1)
          have T7 := T6.si (k := 28) (v := i_ n1)
          refine PSg_elw hΦ1.stp (by omega) (by omega) (by omega) H7 (fun e74 H8 => ?_) (fun w' hdd => ?_)
          · have O8 : OWl (nx (ws_p w5 14 b1 3 (some c1)) p5, nx3 (ws_a t5 12 0 28 N (i_ n1)) p5, al5, m5, N5, nuU nu5 c1 x6, tn6) b1 _ _ := O7.w4 (j := 3) (v := i_ (p5 + 1 : Nat)) (.inl (by decide))
            have T8 : OWt (nx (ws_p w5 14 b1 3 (some c1)) p5, nx3 (ws_a t5 12 0 28 N (i_ n1)) p5, al5, m5, N5, nuU nu5 c1 x6, tn6) N _ := T7
            have hvw8 : VWa (vw w5 t5) (vw (nx (ws_p w5 14 b1 3 (some c1)) p5) (nx3 (ws_a t5 12 0 28 N (i_ n1)) p5)) tn6 (nuU nu5 c1 x6) := by
              refine VWa.mk (b := b1) (n := N) ?_ ?_ ?_ O6.1.2 T6.1.2
              · exact (fun a h k => by simp only [nx, Rii, Rgi, Rpi, Rai, Rbi, Rri, Rni, Rdi, Roi, Rti, Rzi, RCi, RSi, Rip, Rgp, Rpp, Rap, Rbp, Rrp, Rnp, Rdp, Rop, Rtp, Rzp, RCp, RSp]; simp [h])
              · exact (fun y h k => by simp only [nx3, nd3, Rii, Rgi, Rpi, Rai, Rbi, Rri, Rni, Rdi, Roi, Rti, Rzi, RCi, RSi, Ria, Rga, Rpa, Raa, Rba, Rra, Rna, Rda, Roa, Rta, Rza, RCa, RSa]; simp [h])
              · rfl
            have hC8 := hC6.up (k' := 0) hvw8 (fun _ _ h => h) (fun _ h => h) (Nat.le_refl _)
            refine PSh_c11 hΦ1 H8.2 H8.1.krg (IHP (L - 23) (L' - 24) _ _ _ _ _ _ _ (p5 + 1) (d + 2) hdx hdx' (by omega) H8.1 (.inr e74) (by omega) ⟨by omega, by omega⟩) (fun a h => absurd h List.not_mem_nil) (fun a h => absurd h List.not_mem_nil) (fun x v w9 t9 al9 m9 N9 nu9 tn9 p9 cz H9 HS9 hbd9 hgx => ?_) (fun v w9 t9 hv hv2 hdd => ?_) (fun v w9 t9 hv hv2 hdd => ?_)
            · obtain ⟨c3, n3, d3, rfl, rfl, hP3, hX3, hc3, e74b, hsl, hd3, rfl⟩ := hgx
              have hpl9 := H9.1.ta.lt
              have hN5 : N + 1 ≤ N5 := HS5.2.2.1.2.2.1
              have hN9 : N5 ≤ N9 := HS9.2.2.1.2.2.1
              have O9 := O8.fr HS9.2 List.not_mem_nil
              have T9 := T8.fr HS9.2 List.not_mem_nil
              have hC9 := hC8.up (k' := 0) (VWa.fr H8.1 HS9.2 (fun _ h => absurd h List.not_mem_nil) (fun _ h => absurd h List.not_mem_nil)) HS9.2.2.2.2.2.1.1 HS9.2.2.2.2.2.1.2.1 (Nat.le_refl _)
              obtain ⟨x10, tn10, r10, H10, hC10, hm3, hm4, hn10⟩ := H9.fin hP3 (fun e => hc3 (H8.2.sub e)) (by show N ≤ N5; omega)
              have hbc3 : b1 ≠ c3 := fun e => hc3 (by rw [← e]; exact O8.1.1.1)
              have O10 := O9.fin (x := x10) (tn' := tn10) hbc3
              have T10 := T9.fin (nu' := nuU nu9 c3 x10) hm4 (.inl (by show N < N5; omega))
              have hC9' := hC9.fin (x := x10) hn10 hm3
              refine PS_rand (by rw [H10.1.tl.2.2.2.1]; exact i_inb' (by omega) (by omega)) ?_
              have HE := (H10.wp (k := 4) (v := some c3) O10.1.2 hb1m (LKO.mk hP3.bm.1 hX3.2.2 (fun e => hc3 (H8.2.sub e)))).ta (k := 29) (n := N) (v := i_ n3) rfl T10.1.2 (fun h => absurd h (Nat.lt_irrefl _))
              have hfE := hfF.fr HE.2
              have OE : OWl (ws_p w9 14 b1 4 (some c3), ws_a t9 12 0 29 N (i_ n3), al9, m9, N9, nuU nu9 c3 x10, tn10) b1 _ _ := O10.sp (k := 4) (v := some c3)
              have TE : OWt (ws_p w9 14 b1 4 (some c3), ws_a t9 12 0 29 N (i_ n3), al9, m9, N9, nuU nu9 c3 x10, tn10) N _ := T10.si (k := 29) (v := i_ n3)
              have hvw := VWa.mk (w := w9) (t := t9) (w' := ws_p w9 14 b1 4 (some c3)) (t' := ws_a t9 12 0 29 N (i_ n3)) (b := b1) (n := N) (fun a h k => by simp only [nx, Rii, Rgi, Rpi, Rai, Rbi, Rri, Rni, Rdi, Roi, Rti, Rzi, RCi, RSi, Rip, Rgp, Rpp, Rap, Rbp, Rrp, Rnp, Rdp, Rop, Rtp, Rzp, RCp, RSp]; simp [h]) (fun y h k => by simp only [nx3, nd3, Rii, Rgi, Rpi, Rai, Rbi, Rri, Rni, Rdi, Roi, Rti, Rzi, RCi, RSi, Ria, Rga, Rpa, Raa, Rba, Rra, Rna, Rda, Roa, Rta, Rza, RCa, RSa]; simp [h]) rfl O10.1.2 T10.1.2
              have hc17 : w_p (ws_p w9 14 b1 4 (some c3)) 14 c1 7 = none := by
                rw [Rpp, if_neg (fun z => absurd z.1 (by decide))]
                refine (HS9.2.2.2.1 c1 hP1.bm.1 List.not_mem_nil 7).2.trans ?_
                show w_p (ws_p w5 14 b1 3 (some c1)) 14 c1 7 = none
                rw [Rpp, if_neg (fun z => absurd z.1 (by decide))]
                exact hX1.1
              have hPI : PND D (ws_p w9 14 b1 4 (some c3), ws_a t9 12 0 29 N (i_ n3), al9, m9, N9, nuU nu9 c3 x10, tn10) N N9 (oN K 13 p p9) b1 N d3 := PND.mk1 (kd := 13) OE TE (Nat.le_refl _) (by omega) (LFz.k13 OE TE rfl rfl ⟨rfl, ⟨c1, rfl, hc17⟩, ⟨c1, n1, rfl, rfl, hC9'.up hvw (fun _ _ h => h) (fun _ h => h) (Nat.le_refl _)⟩, ⟨c3, n3, rfl, rfl, hC10.up hvw (fun _ _ h => h) (fun _ h => h) (Nat.le_refl _)⟩⟩) rfl (fun l e => by cases e)
              have hXI := NXo.mk1 OE TE rfl rfl
              have HZ : HY D K [] [nP] (cb SA (dd + d3)) (ws_p w9 14 b1 4 (some c3), ws_a t9 12 0 29 N (i_ n3), al9, m9, N9, nuU nu9 c3 x10, tn10) p9 p9 0 0 := HY.cc ⟨HE.1, H3.2.trc HE.2 (fun a ha hin => absurd hin (by rw [List.mem_singleton.mp ha]; exact hb20)) (fun n h => absurd h List.not_mem_nil)⟩
              have hQZ := hQ3.fr H3.1 HE.2 (fun a ha => by rw [List.mem_singleton.mp ha]; exact ⟨O3.1.2, hbb⟩) (fun a h => absurd h List.not_mem_nil)
              have TZ : OWt (ws_p w9 14 b1 4 (some c3), ws_a t9 12 0 29 N (i_ n3), al9, m9, N9, nuU nu9 c3 x10, tn10) nP _ := (hT.ww (w' := w3) (al' := al2) (m' := m + 1)).fr HE.2 List.not_mem_nil
              refine PSq_chain (f2 := f') (fT2 := fT') (by omega) hQZ HZ hPI hXI hbb hhi hSA (.inr rfl) hb0 (Nat.le_refl _) trivial hf' (fun t6 nu6 tn6' nx hnx H6 hQ6 hA => ?_)
              have T6 := hA.owt TZ hnP.1 hnx
              have r29 : w_a t6 12 0 29 nP = fT := T6.2 29 rfl
              refine PS_rand (by rw [H6.1.tl.2.2.2.1]; exact i_inb' (by omega) (by omega)) ?_
              rcases hf' with ⟨g1, g2, g3⟩ | ⟨g1, g2, g3⟩
              · have efT : fT = -1 := by
                  rcases hnb with ⟨-, -, -, e, -⟩ | ⟨b, n, e, -⟩
                  · exact e
                  · rw [g1] at e; cases e
                refine PS_rn (by rw [r29, efT]; exact fun h => h rfl) (PS_rand (by rw [H6.1.tl.2.2.2.1]; exact i_inb' (by omega) (by omega)) ?_)
                have H7 := H6.ta (k := 29) (n := nP) (v := i_ N) rfl T6.1.2 (fun _ => List.mem_singleton_self nP)
                have F7 := ((show HY D K [] [nP] _ (ws_p w9 14 b1 4 (some c3), t6, al9, m9, N9, nu6, tn6') p9 p9 0 0 from ⟨H6.1, FR.rf H6.1.mle⟩).ta (k := 29) (n := nP) (v := i_ N) rfl T6.1.2 (fun _ => List.mem_singleton_self nP)).2
                have hQ7 := hQ6.fr H6.1 F7 (fun a h => absurd h List.not_mem_nil) (fun y hy => by rw [List.mem_singleton.mp hy]; exact ⟨hnP.1, T6.1.2⟩)
                have T7 : OWt (ws_p w9 14 b1 4 (some c3), ws_a t6 12 0 29 nP (i_ N), al9, m9, N9, nu6, tn6') nP (up_ ft 29 fT') := by rw [g3]; exact (T6.si (k := 29) (v := i_ N)).up2
                exact ih _ _ al9 m9 N9 nu6 tn6' p9 f' fT' (some b1) (i_ N) (dd + d3) N9 (by omega) (by omega) H7 hQ7 T7 (Nat.le_refl _) (fun a e => by cases e; exact hb20) hfE e74b ⟨by omega, by omega, by omega, by omega⟩ ⟨by omega, by omega⟩ ⟨by omega, by omega⟩
              · have efT : fT ≠ -1 := by
                  rcases hnb with ⟨e, -⟩ | ⟨b, n, -, -, -, -, n0, e, hn0⟩
                  · exact absurd e g1
                  · rw [e]
                    have hn0 : n0 < N := hn0
                    exact i_ne1 (by omega)
                refine PS_rp (by rw [r29]; exact efT) ?_
                have T6 : OWt (ws_p w9 14 b1 4 (some c3), t6, al9, m9, N9, nu6, tn6') nP (up_ ft 29 fT') := by rw [g3]; exact T6
                exact ih _ _ al9 m9 N9 nu6 tn6' p9 f' fT' (some b1) (i_ N) (dd + d3) N9 (by omega) (by omega) H6 hQ6 T6 (Nat.le_refl _) (fun a e => by cases e; exact hb20) hfE e74b ⟨by omega, by omega, by omega, by omega⟩ ⟨by omega, by omega⟩ ⟨by omega, by omega⟩
            · refine eS_and (by rw [hdd.2.2.tl.2.2.2.1]; exact i_inb' (by omega) (by omega)) ?_
              have hdd := hdd.ta (k := 29) (n := N) (v := i_ v) rfl
              refine eS_chain (by omega) hdd.2.2.tl.2.2.2.2.2.2.1 hQ.nl (fun t' ht' => ?_)
              have hdd := hdd.ch ht'
              refine eS_and (by rw [hdd.2.2.tl.2.2.2.1]; exact i_inb' (by omega) (by omega)) ?_
              exact eS_ifb (dd_ch_loop (by omega) (by omega) hnP.2 hdd) (eS_and (by rw [hdd.2.2.tl.2.2.2.1]; exact i_inb' (by omega) (by omega)) (dd_ch_loop (by omega) (by omega) hnP.2 (hdd.ta rfl)))
            · refine eS_and (by rw [hdd.tl.2.2.2.1]; exact i_inb' (by omega) (by omega)) ?_
              have hdd := hdd.ta (k := 29) (n := N) (v := i_ v) rfl
              refine eS_chain (by omega) hdd.tl.2.2.2.2.2.2.1 hQ.nl (fun t' ht' => ?_)
              have hdd := hdd.ch ht'
              refine eS_and (by rw [hdd.tl.2.2.2.1]; exact i_inb' (by omega) (by omega)) ?_
              exact eS_ifb (lt_ch_loop (by omega) (by omega) (by omega) hnP.2 hdd) (eS_and (by rw [hdd.tl.2.2.2.1]; exact i_inb' (by omega) (by omega)) (lt_ch_loop (by omega) (by omega) (by omega) hnP.2 (hdd.ta rfl)))
          · exact dd_process (d := d + 2) hdd (by omega) h24
        · refine eS_and (by rw [hdd.2.2.tl.2.2.1]; exact i_inb' (by omega) (by omega)) ?_
          exact dd_endOfLine (hdd.ta rfl) h20
      rcases hnb with ⟨e1, e2, e3, e4, e5⟩ | ⟨b, n, e1, e2, g1, ⟨f0, g2⟩, n0, g3, g4⟩
      · rw [e3]
        exact PS_ln (fun h => h rfl) (key _ _ (.inl ⟨e1, rfl, rfl⟩))
      · refine PS_lp (by rw [g2]; simp) (key _ _ (.inr ⟨by rw [e1]; simp, rfl, rfl⟩))
    · have e' : bAt K p (d + 1) = false := by simpa using e
      rw [e']
      refine PS_lp rfl (PS_rp rfl ?_)
      obtain ⟨nu', tn', k, H2, ⟨l, h1, h2, h3, h4⟩, h5⟩ := hQ.done H hb0 (Nat.le_refl _)
      refine PS_ret (.inr ⟨f, i_ nP, al, m, N, nu', tn', p, _, rfl, rfl, H2, ⟨by omega, by omega, by omega⟩, rfl, ⟨k, l, fT, h1, ⟨⟨hT.1.1, fun e => ?_⟩, hT.2⟩, by omega⟩, h74, hbd, hf0⟩)
      rcases h5.2.2 nP e with h | h
      · exact hT.1.2 h
      · omega
/-- IF -/
theorem p_if {G : Nat} (IH : EXq D K E' G) (IHP : PRq D K E' G) (hd20 : d ≤ 20) (hL : dex d ≤ L + 50) (hL' : dex d ≤ L' + 50) (H : HY D K [] [] S0 (w, t, al, m, N, nu, tn) p p 0 0) (hS0 : S0.2.2.2.2.1 = N ∧ m ≤ S0.2.2.2.1 + 1) (hg : K.length ≤ p + 1 + G) (hB : m ≤ 4 * p + 9 ∧ N ≤ 4 * p + 8) (hk : kk K p = 11) (hO : OWc (w, t, al, m, N, nu, tn) b fi fp) (hb : b ∉ S0.2.2.1.take S0.2.2.2.1) (f7 : fp 7 = none) (f3 : fp 3 = none) (i2 : fi 2 = i_ (kln K p)) (i12 : fi 12 = 0) {l : Int32} (hl : l = i_ (kln K p)) :
    PS (fun Q => zw D.1 (L - 20) kt_M195 [.ref (w_adr D.1.2.1 4 0)] (ws_p w 14 b 0 (some (D.1.1.1 46))) (wk0 (fun w1 => wle (ws_p w 14 b 0 (some (D.1.1.1 46))) w1 → zw D.1 (L - 20) kt_M174 [.ref (w_adr D.1.2.1 4 0)] w1 (wk0 (fun w3 => wle w1 w3 → zw D.1 (L - 23) kt_M169 [.ref (w_adr D.1.2.1 4 0), .int (i_ d)] w3 (wkr (fun v4 w4 => wle w3 w4 → Q (.inl (some (va_rf (some b)))) (ws_p w4 14 b 4 v4)) (fun e w => Q (.inr e) w))) (fun e w => Q (.inr e) w))) (fun e w => Q (.inr e) w)))
      (fun Q => zw E' (L' - 25) kt_M371 [.ref (w_adr E'.2.1 12 0), .int (i_ d), .int l] (nx3 t p) (wk1 (fun v w1 => wle (nx3 t p) w1 → Q (.inl (some (.int v))) w1) (fun e w => Q (.inr e) w))) (PRd D K d [] [] S0 p 0 true true 0 (GP2 D K S0 p)) := by
  subst hl
  have hLd := hL
  have hLd' := hL'
  unfold dex at hL hL'
  have hpl := H.1.ta.lt
  have hal := H.alive
  refine PSd_rtail (PS_r (fun Q h => zt_X13_choices_p0 (by omega) h) ?_)
  simp only [zb_X13_choices_p0]
  have H1 := H.wp (k := 0) (v := some (D.1.1.1 46)) hO.1.2 (fun e => absurd e hb)
  have O1 := hO.sp (k := 0) (v := some (D.1.1.1 46))
  have hp1 := H1.p1 (by omega)
  refine PSd_nxl (by omega) H1 (by omega) (fun H2 => ?_) (fun w' hd h76 => ?_)
  · have H3 := H2.tnx (by omega) hal
    refine PS_r1 (fun Q hq => t_node (by omega) H3.kt H3.tN (by omega) hq) ?_
    have H4 := H3.tnd (x := 12) (l := i_ (kln K p))
    have T4 : OWt (nx (ws_p w 14 b 0 (some (D.1.1.1 46))) p, nd3 (nx3 t p) N 12 (i_ (kln K p)), al, m, N + 1, nu, tn) N _ := OWt.new (x := 12) (l := i_ (kln K p)) H3
    have O4 : OWc (nx (ws_p w 14 b 0 (some (D.1.1.1 46))) p, nd3 (nx3 t p) N 12 (i_ (kln K p)), al, m, N + 1, nu, tn) b _ _ := O1.w4 (j := 3) (v := i_ (p + 1 : Nat)) (.inl (by decide))
    refine PSd_elw (by omega) (by omega) (by omega) H4 (fun e74 H5 => ?_) (fun w' hd => dd_ch_loop (by omega) (by omega) (by omega) hd)
    have O5 : OWc (nx (nx (ws_p w 14 b 0 (some (D.1.1.1 46))) p) (p + 1), nx3 (nd3 (nx3 t p) N 12 (i_ (kln K p))) (p + 1), al, m, N + 1, nu, tn) b _ _ := O4.w4 (j := 3) (v := i_ (p + 1 + 1 : Nat)) (.inl (by decide))
    have T5 : OWt (nx (nx (ws_p w 14 b 0 (some (D.1.1.1 46))) p) (p + 1), nx3 (nd3 (nx3 t p) N 12 (i_ (kln K p))) (p + 1), al, m, N + 1, nu, tn) N _ := T4
    have hpl5 := H5.1.ta.lt
    have HS : HY D K [] [N] (nx (nx (ws_p w 14 b 0 (some (D.1.1.1 46))) p) (p + 1), nx3 (nd3 (nx3 t p) N 12 (i_ (kln K p))) (p + 1), al, m, N + 1, nu, tn) (nx (nx (ws_p w 14 b 0 (some (D.1.1.1 46))) p) (p + 1), nx3 (nd3 (nx3 t p) N 12 (i_ (kln K p))) (p + 1), al, m, N + 1, nu, tn) (p + 1 + 1) (p + 1 + 1) 0 0 := ⟨H5.1, FR.rf H5.1.mle⟩
    refine PS_l (fun Q h => zt_X5_choices_p0 (by omega) h) ?_
    simp only [zb_X5_choices_p0]
    refine PSh_cG (gc1 := fun Q => zL_X5_choices_p4 D.1 (L - 23) Q (i_ d) none none _) (gt1 := fun Q => zL_X13_choices_p15 E' (L' - 25) Q (i_ d) (i_ N) (-1) _) (Kc := fun Q => wkr (fun v4 w4 => wle _ w4 → Q (.inl (some (va_rf (some b)))) (ws_p w4 14 b 4 v4)) (fun e w => Q (.inr e) w)) (Kt := fun Q => Q) (A := fun Q v4 w4 => Q (.inl (some (va_rf (some b)))) (ws_p w4 14 b 4 v4)) (B := fun Q v t2 => Q (.inl (some (.int v))) t2) STL.of H5.1.krg H5.2 (p_ch_loop IH IHP hd20 (by unfold dex; omega) (by unfold dex; omega) ⟨Nat.lt_succ_self N, by omega⟩ (pA := p) (pB := p + 2) K.length _ _ al m (N + 1) nu tn (p + 1 + 1) none (-1) none (-1) 0 (N + 1) (by omega) (by omega) HS.c0 LQ.nil (T5.upE rfl) (Nat.le_refl _) (fun a e => by cases e) (fun a e => by cases e) e74 ⟨by omega, by omega, by omega, by omega⟩ ⟨by omega, by omega⟩ ⟨Nat.le_refl _, Nat.le_refl _⟩) (fun a h => absurd h List.not_mem_nil) (fun n hn hn2 => absurd hn2 (by rw [List.mem_singleton.mp hn]; omega)) (fun _ _ _ a => wkr_k a) (fun _ _ _ a => a) (fun _ _ _ a => a) (fun _ _ _ a => a) ?_ (fun v w2 t2 hv hv2 hd => hd.ret rfl ⟨by omega, by omega⟩) (fun v w2 t2 hv hv2 hd => hd.ret rfl ⟨by omega, by omega⟩)
    intro x v w2 t2 al2 m2 N2 nu2 tn2 p2 cz H6 HS6 hbd6 hgx
    obtain ⟨rfl, ⟨k, l, fT, hl, T6, hdd⟩, e74b, hb4, hhd⟩ := hgx
    have hb4 : m2 + 4 * (p + 2) ≤ m + 4 * p2 ∧ N2 + 4 * (p + 2) ≤ (N + 1) + 4 * p2 := hb4
    have O6 := O5.fr HS6.2 List.not_mem_nil
    have HE := H6.wp (k := 4) (v := x) O6.1.2 (fun e => absurd e hb) (LKO.op (hhd.up (fun _ e => H5.2.sub e)))
    have OE : OWc (ws_p w2 14 b 4 x, t2, al2, m2, N2, nu2, tn2) b _ _ := O6.sp (k := 4) (v := x) (.inr (.inr (fun e => (hhd _ e).2.2 O5.1.1.1)))
    have TE : OWt (ws_p w2 14 b 4 x, t2, al2, m2, N2, nu2, tn2) N _ := T6
    have hvw : VWa (vw w2 t2) (vw (ws_p w2 14 b 4 x) t2) tn2 nu2 := VWa.mk (b := b) (n := N) (fun a h k => by simp only [nx, Rii, Rgi, Rpi, Rai, Rbi, Rri, Rni, Rdi, Roi, Rti, Rzi, RCi, RSi, Rip, Rgp, Rpp, Rap, Rbp, Rrp, Rnp, Rdp, Rop, Rtp, Rzp, RCp, RSp]; simp [h]) (fun y h k => rfl) rfl O6.1.2 T6.1.2
    have hpl6 := H6.1.ta.lt
    exact PS_ret (.inr ⟨some b, i_ N, al2, m2, N2, nu2, tn2, p2, _, rfl, rfl, HE, ⟨by omega, by omega, by omega⟩, b, N, dsum l, rfl, rfl, PND.mk1 (kd := 12) OE TE (by omega) (by omega) (LFz.k12 OE TE i2 rfl ⟨rfl, f3, l, LPz.up hvw (fun _ _ h => h) (fun _ h => h) (Nat.le_refl _) hl, rfl⟩) i12 (fun l e => by cases e), NXT.mk1 OE TE f7 rfl, hb, e74b, ⟨by show m2 + _ + 2 ≤ _; omega, by show N2 + _ + 2 ≤ _; omega⟩, by omega⟩)
  · have hd2 := H1.dd hd (by omega) (by omega) hal h76
    have hN' : w_i (nx3 t p) 12 0 25 = i_ N := by
      unfold nx3
      rw [Rii, if_neg (by decide)]
      exact H.tN
    refine eS_1 (fun Q hq => t_node (by omega) hd2.2.2.1.1.1 hN' (by omega) hq) ?_
    exact dd_endOfLine (hd2.nd (N := N) (by omega)) (by omega)
end STC
