/-! ===== PARSERS, part 27: CASE ===== -/
section STO
variable {ex et : List Nat} {S S' S0 SA : pS} {D : pD} {K : pK} {p p0 q o o' oA dl m N n n2 b b2 lo hi lo2 hi2 r d d2 dd g pA pB nP : Nat} {w t w' : wS} {al : List Nat} {nu : pNz} {tn : Nat → Prop} {E E' : zE} {L L' : Nat} {ol : pOL} {f : Option Nat} {fT : Int32} {Q : kx_Rs → wS → Prop} {fi : Nat → Int32} {fp : Nat → Option Nat} {ft : Nat → Int32}
theorem dd_op_loop {nl : Int32} {ov : Int32} (hd9 : d ≤ 800) (hL : 1000 ≤ L') (hn : n < 14000) (h : DDs D K S0 w' t) : eS (fun Q => zL_X13_cases_p28 E' L' Q (i_ d) (i_ n) nl ov t) (fun r' t' => TLP D K S0.1 S0.2.1 true 0 w' r' t') := by
  refine eS_l (fun Q h => zt_X13_cases_p28 (by omega) h) ?_
  simp only [zb_X13_cases_p28, zb_X13_cases_p143]
  rw [i_1, i_add, cN1]
  refine dd_isAt (d := d + 1) h (by omega) (by omega) (fun b => ?_)
  cases b with
  | false => exact eS_p rfl (h.ret rfl ⟨by omega, by omega⟩)
  | true =>
    refine eS_n (by decide) (eS_ifb (h.ret rfl ⟨by omega, by omega⟩) ?_)
    exact dd_lineAt (how := 3) h (by omega) (by omega) rfl (by omega)
theorem lt_op_loop {nl : Int32} {ov : Int32} (hd9 : d ≤ 800) (hdl : d + 1 ≤ dl) (hL : 1000 ≤ L') (hn : n < 14000) (h : LTs D K dl S0 w' t) : eS (fun Q => zL_X13_cases_p28 E' L' Q (i_ d) (i_ n) nl ov t) (fun r' t' => TLPd D K d S0.1 S0.2.1 true 0 w' r' t') := by
  refine eS_l (fun Q h => zt_X13_cases_p28 (by omega) h) ?_
  simp only [zb_X13_cases_p28, zb_X13_cases_p143]
  rw [i_1, i_add, cN1]
  refine eS_1 (fun Q hq => h.isAt (d := d + 1) hdl (by omega) (by omega) hq) (eS_p rfl ?_)
  exact (h.dn (by omega)).ret rfl ⟨by omega, by omega⟩
theorem p_op_loop {G : Nat} (IH : EXq D K E' G) (IHP : PRq D K E' G) (hd : d ≤ 20) (hL : dex d ≤ L + 100) (hL' : dex d ≤ L' + 100) (hnP : nP < SA.2.2.2.2.1 ∧ nP < 14000) : ∀ g w t al m N nu tn p f fT bl nl dd hi (ov : Bool), K.length ≤ p + g → K.length ≤ p + G → HY D K [] [nP] (cb SA dd) (w, t, al, m, N, nu, tn) p p 0 0 → LQ anyk D (w, t, al, m, N, nu, tn) SA.2.2.2.2.1 hi (oN K 15 pB p) f fT bl nl none dd → OWt (w, t, al, m, N, nu, tn) nP (up_ ft 29 fT) → (bl = none → ov = false) ∧ (∀ a, bl = some a → w_i w 14 a 11 = bI ov) → hi ≤ N → (∀ a, bl = some a → a ∉ SA.2.2.1.take SA.2.2.2.1) → HDN SA (w, t, al, m, N, nu, tn) f → kk K (p - 1) = 74 → (pA < p ∧ pB ≤ p ∧ pA < pB ∧ dd + pB ≤ p) → (m ≤ 4 * p + 7 ∧ N ≤ 4 * p + 7) → (m + 4 * pB ≤ SA.2.2.2.1 + 4 * p ∧ N + 4 * pB ≤ SA.2.2.2.2.1 + 4 * p) → PS (fun Q => zL_X5_options_p4 D.1 L Q (i_ d) f bl w) (fun Q => zL_X13_cases_p28 E' L' Q (i_ d) (i_ nP) nl (bI ov) t) (PRd D K d [] [nP] SA pA 0 true true 0 (GCH D K SA pB nP ft 15)) := by
  have hdx : dex (d + 2) ≤ L - 23 := by unfold dex at *; omega
  have hdx' : dex (d + 2) ≤ L' - 24 := by unfold dex at *; omega
  unfold dex at hL hL'
  have h24 : 400 ≤ L' - 24 := by omega
  have h20 : 400 ≤ L' - 20 := by omega
  have h22 : 400 ≤ L' - 22 := by omega
  have hlx : lex 0 + 100 ≤ L - 20 := by unfold lex; omega
  have hlx' : lex 0 + 100 ≤ L' - 22 := by unfold lex; omega
  have h21 : 19 ≤ L' - 21 := by omega
  have hL9 : 1000 ≤ L' := by omega
  intro g
  induction g with
  | zero =>
    intro w t al m N nu tn p f fT bl nl dd hi ov hg _ H
    have := H.1.ca.2.2
    omega
  | succ g ih =>
    intro w t al m N nu tn p f fT bl nl dd hi ov hg hG H hQ hT hov hhi hb0 hf0 h74 hpp hmN hbd
    have hpl := H.1.ta.lt
    have hal := H.alive
    have hSA : SA.2.2.2.2.1 ≤ N := H.2.2.1.2.2.1
    refine PS_of (fun Q h => zt_X5_options_p4 (by omega) h) (fun Q h => zt_X13_cases_p28 (by omega) h) ?_
    simp only [zb_X5_options_p4, zb_X13_cases_p28, zb_X13_cases_p143, zb_X5_options_p49]
    rw [i_1, i_add, cN1]
    refine PS_l1 (fun Q hq => c_more (d := d + 1) (by omega) H.1.ca (by omega) (.inr h74) hq) ?_
    refine PS_r1 (fun Q hq => t_isAt (d := d + 1) (by omega) H.1.ta H.1.krg (by omega) hq) ?_
    have hΦ : STL D K d SA true 0 (PRd D K d [] [nP] SA pA 0 true true 0 (GCH D K SA pB nP ft 15)) := STL.of
    have hΦ := hΦ.cb (c := dd)
    by_cases e : bAt K p (d + 1) = true
    · have eA := e
      rw [e]
      refine PS_ln (by decide) (PS_rn (by decide) ?_)
      cases ov with
      | true =>
        -- behind ELSE
        obtain ⟨a, ea⟩ : ∃ a, bl = some a := by
          cases hbl : bl with
          | none => exact absurd (hov.1 hbl) (by decide)
          | some a => exact ⟨a, rfl⟩
        have hwl : w_l w D.1.2.1 14 a := by
          rcases hQ.nlb H.1 with ⟨e, -⟩ | ⟨b, n, e, -, g1, -⟩
          · rw [ea] at e; cases e
          · rw [ea] at e; cases e; exact H.1.wl g1.1
        refine PS_ln (by rw [ea]; simp) (PS_lex a ea (PS_land hwl (PS_lp (by rw [hov.2 a ea]; decide) ?_)))
        simp only [zb_X5_options_p50]
        have hk75 : kk K p ≠ 75 := fun e => by
          unfold bAt at eA
          rw [e] at eA
          simp at eA
        refine PS_lx0 (fun Q hq => c_stT (d := d + 1) (by omega) H.1.ca (by omega) (.inr h74) eA hq) (PSg_stopd hΦ ?_)
        refine eS_p (by decide) ?_
        have hlt : LTs D K d (cb SA dd) (fl2 (ws_i w 4 0 4 0) 2 (kln K p)) t := ⟨⟨((H.2.1.1.tr (FX_i rfl)).tr FX_fl2).y, H.1.krg⟩, H.2.1.2, p, ⟨fl2_k, fl2_l⟩, H.1.ta, ⟨hal, hk75, by omega, h74⟩, fun e he => ?_, N, H.tN, by omega⟩
        · exact hlt.ret rfl ⟨by omega, by omega⟩
        · unfold bAt at eA ⊢
          simp only [Bool.and_eq_true, Bool.not_eq_true', decide_eq_false_iff_not, decide_eq_true_eq] at eA
          rw [Bool.and_eq_false_iff]
          refine .inr ?_
          rw [decide_eq_false_iff_not]
          omega
      | false =>
        refine PS_rn (by decide) ?_
        have p50 : ∀ bb : Bool, bb = bBe 3 (kk K p) → PS (fun Q => zb_X5_options_p50 D.1 L Q (i_ d) f bl (bI bb) (i_ (d + 1 : Nat)) w) (fun Q => zw E' (L' - 22) kt_M458 [.ref (w_adr E'.2.1 12 0), .int (i_ (d + 1 : Nat)), .int 3] t (wk0 (fun w3 => wle t w3 → kx_inb (w_i w3 12 0 35) (w_n w3 12 0 9) = true ∧ zw E' (L' - 22) kt_M494 [.ref (w_adr E'.2.1 12 0), .int 15, .int (w_a w3 12 0 9 (w_i w3 12 0 35).toNatClampNeg)] w3 (wk1 (fun v6 w5 => wle w3 w5 → zw E' (L' - 21) kt_M466 [.ref (w_adr E'.2.1 12 0), .int 7] w5 (wk1 (fun v8 w7 => wle w5 w7 → (if v8 = 0 then zw E' (L' - 22) kt_M459 [.ref (w_adr E'.2.1 12 0)] w7 (wk1 (fun v10 w9 => wle w7 w9 → kx_inb v6 (w_n w9 12 0 28) = true ∧ zb_X13_cases_p94 E' L' Q (i_ d) (i_ nP) nl (bI false) v6 (ws_a w9 12 0 28 v6.toNatClampNeg v10)) (fun e w => Q (.inr e) w)) else zb_X13_cases_p94 E' L' Q (i_ d) (i_ nP) nl 1 v6 w7)) (fun e w => Q (.inr e) w))) (fun e w => Q (.inr e) w))) (fun e w => Q (.inr e) w))) (PRd D K d [] [nP] SA pA 0 true true 0 (GCH D K SA pB nP ft 15)) := by
          intro bb hbb3
          simp only [zb_X5_options_p50]
          refine PSg_stand (d := d + 1) (how := 3) hΦ.stp (by omega) (by omega) H (by omega) (.inr h74) rfl (by omega) hbb3 (fun _ hbx _ H1 => ?_)
          rw [hbx] at hbb3
          have hkx : kk K p ≠ 75 ∧ kk K p ≠ 74 := ⟨fun e => (by rw [e] at hbb3; exact absurd hbb3 (by decide)), fun e => (by rw [e] at hbb3; exact absurd hbb3 (by decide))⟩
          have hQ1 : LQ anyk D (ws_i w 4 0 4 0, t, al, m, N, nu, tn) SA.2.2.2.2.1 hi (oN K 15 pB p) f fT bl nl none dd := hQ.fr H.1 ((show HY D K [] [] (w, t, al, m, N, nu, tn) (w, t, al, m, N, nu, tn) p p 0 0 from ⟨H.1, FR.rf H.1.mle⟩).co (u := 0) (by omega)).2 (fun a h => absurd h List.not_mem_nil) (fun a h => absurd h List.not_mem_nil)
          refine PS_cn (by omega) (by omega) H1 (fun b1 al2 w2 H2 HF2 O2 hb2 hb20 => ?_)
          have hQ2 := hQ1.fr H1.1 HF2 (fun a h => absurd h List.not_mem_nil) (fun a h => absurd h List.not_mem_nil)
          have hbb : bl ≠ some b1 := by
            rcases hQ1.nlb H1.1 with ⟨e, -⟩ | ⟨b, n, e, -, g1, -⟩
            · rw [e]; simp
            · rw [e]
              intro e2
              cases e2
              exact hb2 g1.1
          refine PSq_behind (by omega) H2 hQ2 hb0 (LKO.mk O2.1.1.1 (O2.1.1.2 rfl) hb20) (fun w3 hw3 H3 hQ3 => ?_)
          have O3 := O2.bh hw3 hbb
          have hfS : ∀ {f' : Option Nat} {X Y : Prop}, ((bl = none ∧ f' = some b1 ∧ X) ∨ (bl ≠ none ∧ f' = f ∧ Y)) → HDN SA (w3, t, al2, m + 1, N, nu, tn) f' := fun hf' => HDN.stf ((show HDN SA (ws_i w 4 0 4 0, t, al, m, N, nu, tn) f from hf0).fr HF2) hQ2 O2.1.1.1 O2.1.2 (O2.1.1.2 rfl) hb20 hbb hw3 hf'
          have hnb := hQ3.nlb H3.1
          have H3' : HY D K [b1] [] (w3, t, al2, m + 1, N, nu, tn) (w3, t, al2, m + 1, N, nu, tn) p p 0 0 := ⟨H3.1, FR.rf H3.1.mle⟩
          have hΦ1 := hΦ.up H3.2
          have hb1m : ∀ {X : Prop}, X → b1 ∈ [b1] := fun _ => List.mem_singleton_self b1
          have hp1 := H3'.p1 (by omega)
          have hln1 := H3'.1.ln hp1 (by omega)
          refine PS_rand (by rw [H3.tpos, H3.l9.1]; exact i_inb' (by omega) (by omega)) ?_
          simp only [H3.tpos, i_nat' (show p < 2147483648 by omega), H3.1.r9]
          refine PS_r1 (fun Q hq => t_node (by omega) H3.kt H3.tN (by omega) hq) ?_
          simp only [i_nat' (show N < 2147483648 by omega)]
          have HB := H3'.tnd (x := 15) (l := i_ (kln K p))
          have T1 : OWt (w3, nd3 t N 15 (i_ (kln K p)), al2, m + 1, N + 1, nu, tn) N _ := OWt.new (x := 15) (l := i_ (kln K p)) H3'
          have O1 : OWl (w3, nd3 t N 15 (i_ (kln K p)), al2, m + 1, N + 1, nu, tn) b1 _ _ := O3.tt
          -- behind the E's
          have tail : ∀ (f' : Option Nat) (fT' : Int32) (ov' : Bool) (w5 t5 : wS) (al5 : List Nat) (m5 N5 : Nat) (nu5 : pNz) (tn5 : Nat → Prop) (p5 : Nat) (fi5 : Nat → Int32) (fp5 : Nat → Option Nat) (ft5 : Nat → Int32) (r5 : Nat), ((bl = none ∧ f' = some b1 ∧ fT' = i_ N) ∨ (bl ≠ none ∧ f' = f ∧ fT' = fT)) → HY D K [b1] [] (w3, t, al2, m + 1, N, nu, tn) (w5, t5, al5, m5, N5, nu5, tn5) p5 p5 0 0 → OWl (w5, t5, al5, m5, N5, nu5, tn5) b1 fi5 fp5 → OWt (w5, t5, al5, m5, N5, nu5, tn5) N ft5 → (N + 1 ≤ N5 ∧ p < p5 ∧ m5 + 4 * p ≤ m + 1 + 4 * p5 ∧ N5 + 4 * p ≤ N + 1 + 4 * p5) → ((fi5 2 = i_ (kln K p) ∧ fi5 12 = 0 ∧ fp5 7 = none ∧ fp5 0 = some (D.1.1.1 49)) ∧ (ft5 26 = i_ 15 ∧ ft5 27 = i_ (kln K p) ∧ ft5 32 = -1)) → fi5 11 = bI ov' → ((fi5 11 = 1 ∧ fp5 3 = none ∧ ft5 28 = -1) ∨ (fi5 11 = 0 ∧ S1z (vw w5 t5) tn5 nu5 r5 (oE K (kln K p) 0 p p5) 0 (fp5 3) (ft5 28))) → PS (fun Q => zb_X5_options_p103 D.1 L Q (i_ d) f' (some b1) w5) (fun Q => zb_X13_cases_p94 E' L' Q (i_ d) (i_ nP) nl (bI ov') (i_ N) t5) (PRd D K d [] [nP] SA pA 0 true true 0 (GCH D K SA pB nP ft 15)) := by
            intro f' fT' ov' w5 t5 al5 m5 N5 nu5 tn5 p5 fi5 fp5 ft5 r5 hf' H5 O5 T5 hbd5 hfi hov' harm
            have hpl5 := H5.1.ta.lt
            simp only [zb_X5_options_p103, zb_X13_cases_p94, zb_X13_cases_p140]
            rw [i_2, i_add, cN2, i_nat' (show nP < 2147483648 by omega), i_nat' (show N < 2147483648 by omega)]
            refine PSg_elw hΦ1.stp (by omega) (by omega) (by omega) H5 (fun e74 H8 => ?_) (fun w' hdd => ?_)
            · have O8 : OWl (nx w5 p5, nx3 t5 p5, al5, m5, N5, nu5, tn5) b1 _ _ := O5.w4 (j := 3) (v := i_ (p5 + 1 : Nat)) (.inl (by decide))
              have T8 : OWt (nx w5 p5, nx3 t5 p5, al5, m5, N5, nu5, tn5) N _ := T5
              refine PSh_c11 hΦ1 H8.2 H8.1.krg (IHP (L - 23) (L' - 24) _ _ _ _ _ _ _ (p5 + 1) (d + 2) hdx hdx' (by omega) H8.1 (.inr e74) (by omega) ⟨by omega, by omega⟩) (fun a h => absurd h List.not_mem_nil) (fun a h => absurd h List.not_mem_nil) (fun x v w9 t9 al9 m9 N9 nu9 tn9 p9 cz H9 HS9 hbd9 hgx => ?_) (fun v w9 t9 hv hv2 hdd => ?_) (fun v w9 t9 hv hv2 hdd => ?_)
              · obtain ⟨c3, n3, d3, rfl, rfl, hP3, hX3, hc3, e74b, hsl, hd3, rfl⟩ := hgx
                have hpl9 := H9.1.ta.lt
                have hN9 : N5 ≤ N9 := HS9.2.2.1.2.2.1
                have O9 := O8.fr HS9.2 List.not_mem_nil
                have T9 := T8.fr HS9.2 List.not_mem_nil
                have hvf := VWa.fr H8.1 HS9.2 (fun _ h => absurd h List.not_mem_nil) (fun _ h => absurd h List.not_mem_nil)
                obtain ⟨x10, tn10, r10, H10, hC10, hm3, hm4, hn10⟩ := H9.fin hP3 (fun e => hc3 (H8.2.sub e)) (by show N ≤ N5; omega)
                have hbc3 : b1 ≠ c3 := fun e => hc3 (by rw [← e]; exact O8.1.1.1)
                have O10 := O9.fin (x := x10) (tn' := tn10) hbc3
                have T10 := T9.fin (nu' := nuU nu9 c3 x10) hm4 (.inl (by show N < N5; omega))
                refine PS_lex b1 rfl (PS_land (O10.wl H10.1) ?_)
                refine PS_rand (by rw [H10.1.tl.2.2.2.1]; exact i_inb' (by omega) (by omega)) ?_
                have HE := (H10.wp (k := 4) (v := some c3) O10.1.2 hb1m (LKO.mk hP3.bm.1 hX3.2.2 (fun e => hc3 (H8.2.sub e)))).ta (k := 29) (n := N) (v := i_ n3) rfl T10.1.2 (fun h => absurd h (Nat.lt_irrefl _))
                have OE : OWl (ws_p w9 14 b1 4 (some c3), ws_a t9 12 0 29 N (i_ n3), al9, m9, N9, nuU nu9 c3 x10, tn10) b1 _ _ := O10.sp (k := 4) (v := some c3)
                have TE : OWt (ws_p w9 14 b1 4 (some c3), ws_a t9 12 0 29 N (i_ n3), al9, m9, N9, nuU nu9 c3 x10, tn10) N _ := T10.si (k := 29) (v := i_ n3)
                have hvw := VWa.mk (w := w9) (t := t9) (w' := ws_p w9 14 b1 4 (some c3)) (t' := ws_a t9 12 0 29 N (i_ n3)) (b := b1) (n := N) (fun a h k => by simp only [nx, Rii, Rgi, Rpi, Rai, Rbi, Rri, Rni, Rdi, Roi, Rti, Rzi, RCi, RSi, Rip, Rgp, Rpp, Rap, Rbp, Rrp, Rnp, Rdp, Rop, Rtp, Rzp, RCp, RSp]; simp [h]) (fun y h k => by simp only [nx3, nd3, Rii, Rgi, Rpi, Rai, Rbi, Rri, Rni, Rdi, Roi, Rti, Rzi, RCi, RSi, Ria, Rga, Rpa, Raa, Rba, Rra, Rna, Rda, Roa, Rta, Rza, RCa, RSa]; simp [h]) rfl O10.1.2 T10.1.2
                have harm2 : (fi5 11 = 1 ∧ fp5 3 = none ∧ ft5 28 = -1) ∨ (fi5 11 = 0 ∧ S1z (vw (ws_p w9 14 b1 4 (some c3)) (ws_a t9 12 0 29 N (i_ n3))) tn10 (nuU nu9 c3 x10) (p9 - p - 1) (some (i_ (kln K p)), 0, p9 - p - 1, kln K, p, p9) 0 (fp5 3) (ft5 28)) := by
                  rcases harm with h | ⟨h1, h2⟩
                  · exact .inl h
                  · have h2 : S1z (vw (nx w5 p5) (nx3 t5 p5)) tn5 nu5 r5 (oE K (kln K p) 0 p p5) 0 (fp5 3) (ft5 28) := by rw [vw_n2]; exact h2
                    exact .inr ⟨h1, ((h2.up (k' := 0) hvf HS9.2.2.2.2.2.1.1 HS9.2.2.2.2.2.1.2.1 (Nat.le_refl _)).up (k' := 0) (V' := vw w9 t9) ⟨fun _ _ => ⟨rfl, rfl⟩, fun _ _ _ _ => rfl, rfl⟩ (nle_nuU hn10) hm3 (Nat.le_refl _)).up hvw (fun _ _ h => h) (fun _ h => h) (Nat.le_refl _)⟩
                have hPI : PND D (ws_p w9 14 b1 4 (some c3), ws_a t9 12 0 29 N (i_ n3), al9, m9, N9, nuU nu9 c3 x10, tn10) N N9 (oN K 15 p p9) b1 N d3 := PND.mk1 (kd := 15) OE TE (Nat.le_refl _) (by omega) (LFz.k15 OE TE (hfi.1.1.trans hfi.2.2.1.symm) hfi.2.1 ⟨hfi.1.2.2.2, ⟨c3, n3, rfl, rfl, hC10.up hvw (fun _ _ h => h) (fun _ h => h) (Nat.le_refl _)⟩, by
                  show (fi5 11 = 1 ∧ fp5 3 = none ∧ ft5 28 = -1) ∨ (fi5 11 = 0 ∧ S1z _ _ _ _ (some (ft5 27), _) 0 (fp5 3) (ft5 28))
                  rw [hfi.2.2.1]
                  exact harm2⟩ hfi.2.2.1) hfi.1.2.1 (fun l e => by cases e) hfi.2.1
                have hXI := NXo.mk1 OE TE hfi.1.2.2.1 hfi.2.2.2
                have HZ : HY D K [] [nP] (cb SA (dd + d3)) (ws_p w9 14 b1 4 (some c3), ws_a t9 12 0 29 N (i_ n3), al9, m9, N9, nuU nu9 c3 x10, tn10) p9 p9 0 0 := HY.cc ⟨HE.1, H3.2.trc HE.2 (fun a ha hin => absurd hin (by rw [List.mem_singleton.mp ha]; exact hb20)) (fun n h => absurd h List.not_mem_nil)⟩
                have hQZ := hQ3.fr H3.1 HE.2 (fun a ha => by rw [List.mem_singleton.mp ha]; exact ⟨O3.1.2, hbb⟩) (fun a h => absurd h List.not_mem_nil)
                have TZ : OWt (ws_p w9 14 b1 4 (some c3), ws_a t9 12 0 29 N (i_ n3), al9, m9, N9, nuU nu9 c3 x10, tn10) nP _ := (hT.ww (w' := w3) (al' := al2) (m' := m + 1)).fr HE.2 List.not_mem_nil
                have e11 : w_i (ws_p w9 14 b1 4 (some c3)) 14 b1 11 = bI ov' := (OE.2.1 11 rfl).trans hov'
                refine PSq_chain (f2 := f') (fT2 := fT') (by omega) hQZ HZ hPI hXI hbb hhi hSA (.inr rfl) hb0 (Nat.le_refl _) trivial hf' (fun t6 nu6 tn6' nx hnx H6 hQ6 hA => ?_)
                have T6 := hA.owt TZ hnP.1 hnx
                have r29 : w_a t6 12 0 29 nP = fT := T6.2 29 rfl
                refine PS_rand (by rw [H6.1.tl.2.2.2.1]; exact i_inb' (by omega) (by omega)) ?_
                have hfE := (hfS hf').fr HE.2
                rcases hf' with ⟨g1, g2, g3⟩ | ⟨g1, g2, g3⟩
                · have efT : fT = -1 := by
                    rcases hnb with ⟨-, -, -, e, -⟩ | ⟨b, n, e, -⟩
                    · exact e
                    · rw [g1] at e; cases e
                  refine PS_rn (by rw [r29, efT]; exact fun h => h rfl) (PS_rand (by rw [H6.1.tl.2.2.2.1]; exact i_inb' (by omega) (by omega)) ?_)
                  have H7 := H6.ta (k := 29) (n := nP) (v := i_ N) rfl T6.1.2 (fun _ => List.mem_singleton_self nP)
                  have F7 := ((show HY D K [] [nP] _ (ws_p w9 14 b1 4 (some c3), t6, al9, m9, N9, nu6, tn6') p9 p9 0 0 from ⟨H6.1, FR.rf H6.1.mle⟩).ta (k := 29) (n := nP) (v := i_ N) rfl T6.1.2 (fun _ => List.mem_singleton_self nP)).2
                  have hQ7 := hQ6.fr H6.1 F7 (fun a h => absurd h List.not_mem_nil) (fun y hy => by rw [List.mem_singleton.mp hy]; exact ⟨hnP.1, T6.1.2⟩)
                  have T7 : OWt (ws_p w9 14 b1 4 (some c3), ws_a t6 12 0 29 nP (i_ N), al9, m9, N9, nu6, tn6') nP (up_ ft 29 fT') := by rw [g3]; exact (T6.si (k := 29) (v := i_ N)).up2
                  exact ih _ _ al9 m9 N9 nu6 tn6' p9 f' fT' (some b1) (i_ N) (dd + d3) N9 ov' (by omega) (by omega) H7 hQ7 T7 ⟨fun h => (by cases h), fun a h => (by cases h; exact e11)⟩ (Nat.le_refl _) (fun a e => by cases e; exact hb20) hfE e74b ⟨by omega, by omega, by omega, by omega⟩ ⟨by omega, by omega⟩ ⟨by omega, by omega⟩
                · have efT : fT ≠ -1 := by
                    rcases hnb with ⟨e, -⟩ | ⟨b, n, -, -, -, -, n0, e, hn0⟩
                    · exact absurd e g1
                    · rw [e]
                      have hn0 : n0 < N := hn0
                      exact i_ne1 (by omega)
                  refine PS_rp (by rw [r29]; exact efT) ?_
                  have T6 : OWt (ws_p w9 14 b1 4 (some c3), t6, al9, m9, N9, nu6, tn6') nP (up_ ft 29 fT') := by rw [g3]; exact T6
                  exact ih _ _ al9 m9 N9 nu6 tn6' p9 f' fT' (some b1) (i_ N) (dd + d3) N9 ov' (by omega) (by omega) H6 hQ6 T6 ⟨fun h => (by cases h), fun a h => (by cases h; exact e11)⟩ (Nat.le_refl _) (fun a e => by cases e; exact hb20) hfE e74b ⟨by omega, by omega, by omega, by omega⟩ ⟨by omega, by omega⟩ ⟨by omega, by omega⟩
              · refine eS_and (by rw [hdd.2.2.tl.2.2.2.1]; exact i_inb' (by omega) (by omega)) ?_
                have hdd := hdd.ta (k := 29) (n := N) (v := i_ v) rfl
                refine eS_chain (by omega) hdd.2.2.tl.2.2.2.2.2.2.1 hQ.nl (fun t' ht' => ?_)
                have hdd := hdd.ch ht'
                refine eS_and (by rw [hdd.2.2.tl.2.2.2.1]; exact i_inb' (by omega) (by omega)) ?_
                exact eS_ifb (dd_op_loop (by omega) (by omega) hnP.2 hdd) (eS_and (by rw [hdd.2.2.tl.2.2.2.1]; exact i_inb' (by omega) (by omega)) (dd_op_loop (by omega) (by omega) hnP.2 (hdd.ta rfl)))
              · refine eS_and (by rw [hdd.tl.2.2.2.1]; exact i_inb' (by omega) (by omega)) ?_
                have hdd := hdd.ta (k := 29) (n := N) (v := i_ v) rfl
                refine eS_chain (by omega) hdd.tl.2.2.2.2.2.2.1 hQ.nl (fun t' ht' => ?_)
                have hdd := hdd.ch ht'
                refine eS_and (by rw [hdd.tl.2.2.2.1]; exact i_inb' (by omega) (by omega)) ?_
                exact eS_ifb (lt_op_loop (by omega) (by omega) (by omega) hnP.2 hdd) (eS_and (by rw [hdd.tl.2.2.2.1]; exact i_inb' (by omega) (by omega)) (lt_op_loop (by omega) (by omega) (by omega) hnP.2 (hdd.ta rfl)))
            · exact dd_process (d := d + 2) hdd (by omega) h24
          have p71 : ∀ f' fT', ((bl = none ∧ f' = some b1 ∧ fT' = i_ N) ∨ (bl ≠ none ∧ f' = f ∧ fT' = fT)) → PS (fun Q => zb_X5_options_p71 D.1 L Q (i_ d) f' (some b1) w3) (fun Q => zw E' (L' - 21) kt_M466 [.ref (w_adr E'.2.1 12 0), .int 7] (nd3 t N 15 (i_ (kln K p))) (wk1 (fun v8 w7 => wle (nd3 t N 15 (i_ (kln K p))) w7 → (if v8 = 0 then zw E' (L' - 22) kt_M459 [.ref (w_adr E'.2.1 12 0)] w7 (wk1 (fun v10 w9 => wle w7 w9 → kx_inb (i_ N) (w_n w9 12 0 28) = true ∧ zb_X13_cases_p94 E' L' Q (i_ d) (i_ nP) nl (bI false) (i_ N) (ws_a w9 12 0 28 N v10)) (fun e w => Q (.inr e) w)) else zb_X13_cases_p94 E' L' Q (i_ d) (i_ nP) nl 1 (i_ N) w7)) (fun e w => Q (.inr e) w))) (PRd D K d [] [nP] SA pA 0 true true 0 (GCH D K SA pB nP ft 15)) := by
            intro f' fT' hf'
            simp only [zb_X5_options_p71]
            refine PS_l1 (fun Q hq => c_is (c := 7) (v := 7) (by omega) HB.1.ca rfl (by unfold wcd; omega) hq) ?_
            refine PS_lex b1 rfl (PS_land (O1.wl HB.1) ?_)
            cases h7 : decide (kk K p = 7) with
            | true =>
              have h7 : kk K p = 7 := of_decide_eq_true h7
              refine PS_land (.inr rfl) (PS_ln (by decide) ?_)
              have H4 := HB.wi (k := 11) (v := bI true) O1.1.2 hb1m
              have O4 := O1.si (k := 11) (v := bI true)
              refine PSg_nxl hΦ1.stp (by omega) H4 (by omega) (fun H5 => ?_) (fun w' hd h76 => ?_)
              · refine PS_r1 (fun Q hq => t_may (v := 7) (by omega) H5.1.ta H5.1.krg rfl (by omega) (fun _ => hq) (fun h => absurd h7 h)) (PS_rn (by decide) ?_)
                have H6 := H5.tnx (by omega) (by omega)
                have O6 : OWl (nx (ws_i w3 14 b1 11 (bI true)) p, nx3 (nd3 t N 15 (i_ (kln K p))) p, al2, m + 1, N + 1, nu, tn) b1 _ _ := O4.w4 (j := 3) (v := i_ (p + 1 : Nat)) (.inl (by decide))
                have T6 : OWt (nx (ws_i w3 14 b1 11 (bI true)) p, nx3 (nd3 t N 15 (i_ (kln K p))) p, al2, m + 1, N + 1, nu, tn) N _ := T1
                exact tail f' fT' true _ _ _ _ _ _ _ (p + 1) _ _ _ 0 hf' H6 O6 T6 ⟨by omega, by omega, by omega, by omega⟩ ⟨⟨rfl, rfl, rfl, rfl⟩, rfl, rfl, rfl⟩ rfl (.inl ⟨rfl, rfl, rfl⟩)
              · refine eS_1 (fun Q hq => t_may (v := 7) (by omega) H4.1.ta H4.1.krg rfl (by omega) (fun _ => hq) (fun h => absurd h7 h)) (eS_n (by decide) ?_)
                simp only [zb_X13_cases_p94]
                exact dd_endOfLine (H4.dd hd (by omega) (by omega) (by omega) h76) h20
            | false =>
              have h7 : ¬ kk K p = 7 := of_decide_eq_false h7
              refine PS_land (.inl rfl) (PS_lp (by decide) ?_)
              have H4 := HB.wi (k := 11) (v := bI false) O1.1.2 hb1m
              have O4 := O1.si (k := 11) (v := bI false)
              refine PS_r1 (fun Q hq => t_may (v := 7) (by omega) H4.1.ta H4.1.krg rfl (by omega) (fun h => absurd h h7) (fun _ => hq)) (PS_rp (by decide) ?_)
              refine PSg_c11 hΦ1.stp H4.2 H4.1.krg (p_list IH (L := L - 20) (L' := L' - 22) hlx hlx' H4.1 hG ⟨by omega, by omega⟩) (fun a h => absurd h List.not_mem_nil) (fun a h => absurd h List.not_mem_nil) (fun x v w5 t5 al5 m5 N5 nu5 tn5 p5 H5 HS5 hbd5 hgx => ?_) (fun v w5 t5 hv hv2 hdd => ?_)
              · obtain ⟨⟨k5, hs⟩, hln2, hhd⟩ := hgx
                have hN5 : N + 1 ≤ N5 := HS5.2.2.1.2.2.1
                have hpl5 := H5.1.ta.lt
                have O5 := O4.fr HS5.2 List.not_mem_nil
                have T4 : OWt (ws_i w3 14 b1 11 (bI false), nd3 t N 15 (i_ (kln K p)), al2, m + 1, N + 1, nu, tn) N _ := T1
                have T5 := T4.fr HS5.2 List.not_mem_nil
                refine PS_rand (by rw [H5.1.tl.2.2.1]; exact i_inb' (by omega) (by omega)) ?_
                have H7 := (H5.wp (k := 3) (v := x) O5.1.2 hb1m (LKO.op (hhd.up (fun _ e => H4.2.sub e)))).ta (k := 28) (n := N) (v := v) rfl T5.1.2 (fun h => absurd h (Nat.lt_irrefl _))
                have O7 := O5.sp (k := 3) (v := x) (.inr (.inr (fun e => (hhd _ e).2.2 O4.1.1.1)))
                have T7 := T5.si (k := 28) (v := v)
                have hvw := VWa.mk (w := w5) (t := t5) (w' := ws_p w5 14 b1 3 x) (t' := ws_a t5 12 0 28 N v) (b := b1) (n := N) (fun a h k => by simp only [nx, Rii, Rgi, Rpi, Rai, Rbi, Rri, Rni, Rdi, Roi, Rti, Rzi, RCi, RSi, Rip, Rgp, Rpp, Rap, Rbp, Rrp, Rnp, Rdp, Rop, Rtp, Rzp, RCp, RSp]; simp [h]) (fun y h k => by simp only [nx3, nd3, Rii, Rgi, Rpi, Rai, Rbi, Rri, Rni, Rdi, Roi, Rti, Rzi, RCi, RSi, Ria, Rga, Rpa, Raa, Rba, Rra, Rna, Rda, Roa, Rta, Rza, RCa, RSa]; simp [h]) rfl O5.1.2 T5.1.2
                exact tail f' fT' false _ _ _ _ _ _ _ p5 _ _ _ k5 hf' H7 O7 T7 ⟨by omega, by omega, by omega, by omega⟩ ⟨⟨rfl, rfl, rfl, rfl⟩, rfl, rfl, rfl⟩ rfl (.inr ⟨rfl, hs.up hvw (fun _ _ h => h) (fun _ h => h) (Nat.le_refl _)⟩)
              · refine eS_and (by rw [hdd.2.2.tl.2.2.1]; exact i_inb' (by omega) (by omega)) ?_
                simp only [zb_X13_cases_p94]
                exact dd_endOfLine (hdd.ta rfl) h20
          rcases hnb with ⟨e1, e2, e3, e4, e5⟩ | ⟨b, n, e1, e2, g1, ⟨f0, g2⟩, n0, g3, g4⟩
          · rw [e3]
            exact PS_ln (fun h => h rfl) (p71 _ _ (.inl ⟨e1, rfl, rfl⟩))
          · refine PS_lp (by rw [g2]; simp) (p71 _ _ (.inr ⟨by rw [e1]; simp, rfl, rfl⟩))
        have p29 : ∀ gt : pQ, (∀ bb : Bool, bb = bBe 3 (kk K p) → PS (fun Q => zb_X5_options_p50 D.1 L Q (i_ d) f bl (bI bb) (i_ (d + 1 : Nat)) w) gt (PRd D K d [] [nP] SA pA 0 true true 0 (GCH D K SA pB nP ft 15))) → PS (fun Q => zb_X5_options_p29 D.1 L Q (i_ d) f bl (i_ (d + 1 : Nat)) w) gt (PRd D K d [] [nP] SA pA 0 true true 0 (GCH D K SA pB nP ft 15)) := by
          intro gt p50
          simp only [zb_X5_options_p29, zb_X5_options_p45, zb_X5_options_p49]
          refine PS_l1 (fun Q hq => c_beginsExpression (by omega) H.1.ca hq) ?_
          cases hE : bEx (kk K p) with
          | true => exact PS_lp (by decide) (p50 true (by unfold bBe; simp [hE]))
          | false =>
            refine PS_ln (by decide) ?_
            refine PS_l1 (fun Q hq => c_is (c := 7) (v := 7) (by omega) H.1.ca rfl (by unfold wcd; omega) hq) ?_
            cases h7 : decide (kk K p = 7) with
            | true => exact PS_ln (by decide) (p50 true (by unfold bBe; simp [hE, h7]))
            | false => exact PS_lp (by decide) (p50 false (by unfold bBe; simp [hE]; simpa using h7))
        rcases hQ.nlb H.1 with ⟨e1, -⟩ | ⟨b, n, e1, e2, g1, -⟩
        · exact PS_lp e1 (p29 _ p50)
        · refine PS_ln (by rw [e1]; simp) (PS_lex b e1 (PS_land (H.1.wl g1.1) (PS_ln (by rw [hov.2 b e1]; exact fun h => h rfl) (p29 _ p50))))
    · have e' : bAt K p (d + 1) = false := by simpa using e
      rw [e']
      refine PS_lp rfl (PS_rp rfl ?_)
      obtain ⟨nu', tn', k, H2, ⟨l, h1, h2, h3, h4⟩, h5⟩ := hQ.done H hb0 (Nat.le_refl _)
      refine PS_ret (.inr ⟨f, i_ nP, al, m, N, nu', tn', p, _, rfl, rfl, H2, ⟨by omega, by omega, by omega⟩, rfl, ⟨k, l, fT, h1, ⟨⟨hT.1.1, fun e => ?_⟩, hT.2⟩, by omega⟩, h74, hbd, hf0⟩)
      rcases h5.2.2 nP e with h | h
      · exact hT.1.2 h
      · omega
/-- CASE -/
theorem p_case {G : Nat} (IH : EXq D K E' G) (IHP : PRq D K E' G) (hd20 : d ≤ 20) (hL : dex d ≤ L + 50) (hL' : dex d ≤ L' + 50) (H : HY D K [] [] S0 (w, t, al, m, N, nu, tn) p p 0 0) (hS0 : S0.2.2.2.2.1 = N ∧ m ≤ S0.2.2.2.1 + 1) (hg : K.length ≤ p + 1 + G) (hB : m ≤ 4 * p + 9 ∧ N ≤ 4 * p + 8) (hk : kk K p = 5) (hO : OWc (w, t, al, m, N, nu, tn) b fi fp) (hb : b ∉ S0.2.2.1.take S0.2.2.2.1) (f7 : fp 7 = none) (i2 : fi 2 = i_ (kln K p)) (i12 : fi 12 = 0) {l : Int32} (hl : l = i_ (kln K p)) :
    PS (fun Q => zw D.1 (L - 20) kt_M195 [.ref (w_adr D.1.2.1 4 0)] (ws_p w 14 b 0 (some (D.1.1.1 48))) (wk0 (fun w1 => wle (ws_p w 14 b 0 (some (D.1.1.1 48))) w1 → zw D.1 (L - 22) kt_M177 [.ref (w_adr D.1.2.1 4 0)] w1 (wkr (fun v2 w2 => wle w1 w2 → zw D.1 (L - 20) kt_M174 [.ref (w_adr D.1.2.1 4 0)] (ws_p w2 14 b 3 v2) (wk0 (fun w3 => wle (ws_p w2 14 b 3 v2) w3 → zw D.1 (L - 23) kt_M199 [.ref (w_adr D.1.2.1 4 0), .int (i_ d)] w3 (wkr (fun v4 w4 => wle w3 w4 → Q (.inl (some (va_rf (some b)))) (ws_p w4 14 b 4 v4)) (fun e w => Q (.inr e) w))) (fun e w => Q (.inr e) w))) (fun e w => Q (.inr e) w))) (fun e w => Q (.inr e) w)))
      (fun Q => zw E' (L' - 26) kt_M365 [.ref (w_adr E'.2.1 12 0), .int (i_ d), .int l] (nx3 t p) (wk1 (fun v w1 => wle (nx3 t p) w1 → Q (.inl (some (.int v))) w1) (fun e w => Q (.inr e) w))) (PRd D K d [] [] S0 p 0 true true 0 (GP2 D K S0 p)) := by
  subst hl
  have hLd := hL
  have hLd' := hL'
  have hdx : dex d ≤ L - 23 + 100 := by unfold dex at *; omega
  have hdx' : dex d ≤ L' - 26 + 100 := by unfold dex at *; omega
  unfold dex at hL hL'
  have hlx : lex 0 ≤ L - 22 := by unfold lex; omega
  have hlx' : lex 0 ≤ L' - 26 - 22 := by unfold lex; omega
  have h20 : 400 ≤ L' - 26 - 20 := by omega
  have hL9 : 1000 ≤ L' - 26 := by omega
  have hpl := H.1.ta.lt
  have hal := H.alive
  refine PSd_rtail (PS_r (fun Q h => zt_X13_cases_p0 (by omega) h) ?_)
  simp only [zb_X13_cases_p0]
  have H1 := H.wp (k := 0) (v := some (D.1.1.1 48)) hO.1.2 (fun e => absurd e hb)
  have O1 := hO.sp (k := 0) (v := some (D.1.1.1 48))
  have hp1 := H1.p1 (by omega)
  have hln1 := H1.1.ln hp1 (by omega)
  refine PSd_nxl (by omega) H1 (by omega) (fun H2 => ?_) (fun w' hd h76 => ?_)
  · have H3 := H2.tnx (by omega) hal
    refine PS_r1 (fun Q hq => t_node (by omega) H3.kt H3.tN (by omega) hq) ?_
    simp only [i_nat' (show N < 2147483648 by omega)]
    have H4 := H3.tnd (x := 14) (l := i_ (kln K p))
    have T4 : OWt (nx (ws_p w 14 b 0 (some (D.1.1.1 48))) p, nd3 (nx3 t p) N 14 (i_ (kln K p)), al, m, N + 1, nu, tn) N _ := OWt.new (x := 14) (l := i_ (kln K p)) H3
    have O4 : OWc (nx (ws_p w 14 b 0 (some (D.1.1.1 48))) p, nd3 (nx3 t p) N 14 (i_ (kln K p)), al, m, N + 1, nu, tn) b _ _ := O1.w4 (j := 3) (v := i_ (p + 1 : Nat)) (.inl (by decide))
    refine PRd_c11 H.1.krg H4.2 (IH (L - 22) (L' - 26 - 22) _ _ _ _ _ _ _ _ _ hlx hlx' H4.1 (by omega) ⟨by omega, by omega⟩) (fun a h => absurd h List.not_mem_nil) (fun a h => absurd h List.not_mem_nil) (fun x v w2 t2 al2 m2 N2 nu2 tn2 p2 hl2 H5 HS5 hbd5 hgx => ?_) (fun v w2 t2 hv hv2 hd => ?_)
    · obtain ⟨b1, n1, rfl, rfl, hP1, hX1, hb1, hlnz, hfk⟩ := hgx
      rw [hln1] at hP1
      have hpl2 := H5.1.ta.lt
      have O5 := O4.fr HS5.2 List.not_mem_nil
      have T5 := T4.fr HS5.2 List.not_mem_nil
      obtain ⟨x6, tn6, r6, H6, hC6, hm1, hm2, hn6⟩ := H5.fin hP1 (fun e => hb1 (H4.2.sub e)) (by show _ ≤ N + 1; omega)
      have hbb1 : b ≠ b1 := fun e => hb1 (by rw [← e]; exact O4.1.1.1)
      have O6 := O5.fin (x := x6) (tn' := tn6) hbb1
      have T6 := T5.fin (nu' := nuU nu2 b1 x6) hm2 (.inl (Nat.lt_succ_self N))
      refine PS_rand (by rw [H6.1.tl.2.2.1]; exact i_inb' (by omega) (by omega)) ?_
      have H7 := (H6.wp (k := 3) (v := some b1) O6.1.2 (fun e => absurd e hb) (LKO.mk hP1.bm.1 hX1.2.2 (fun e => hb1 (H4.2.sub e)))).ta (k := 28) (n := N) (v := i_ n1) rfl T6.1.2 (fun h => absurd h (by omega))
      have O7 := O6.sp (k := 3) (v := some b1)
      have T7 := T6.si (k := 28) (v := i_ n1)
      refine PSd_elw (by omega) (by omega) (by omega) H7 (fun e74 H8 => ?_) (fun w' hd => dd_op_loop (by omega) hL9 (by omega) hd)
      have O8 : OWc (nx (ws_p w2 14 b 3 (some b1)) p2, nx3 (ws_a t2 12 0 28 N (i_ n1)) p2, al2, m2, N2, nuU nu2 b1 x6, tn6) b _ _ := O7.w4 (j := 3) (v := i_ (p2 + 1 : Nat)) (.inl (by decide))
      have T8 : OWt (nx (ws_p w2 14 b 3 (some b1)) p2, nx3 (ws_a t2 12 0 28 N (i_ n1)) p2, al2, m2, N2, nuU nu2 b1 x6, tn6) N _ := T7
      have hvw8 : VWa (vw w2 t2) (vw (nx (ws_p w2 14 b 3 (some b1)) p2) (nx3 (ws_a t2 12 0 28 N (i_ n1)) p2)) tn6 (nuU nu2 b1 x6) := by
        refine VWa.mk (b := b) (n := N) ?_ ?_ ?_ O6.1.2 T6.1.2
        · exact (fun a h k => by simp only [nx, Rii, Rgi, Rpi, Rai, Rbi, Rri, Rni, Rdi, Roi, Rti, Rzi, RCi, RSi, Rip, Rgp, Rpp, Rap, Rbp, Rrp, Rnp, Rdp, Rop, Rtp, Rzp, RCp, RSp]; simp [h])
        · exact (fun y h k => by simp only [nx3, nd3, Rii, Rgi, Rpi, Rai, Rbi, Rri, Rni, Rdi, Roi, Rti, Rzi, RCi, RSi, Ria, Rga, Rpa, Raa, Rba, Rra, Rna, Rda, Roa, Rta, Rza, RCa, RSa]; simp [h])
        · rfl
      have hC8 := hC6.up (k' := 0) hvw8 (fun _ _ h => h) (fun _ h => h) (Nat.le_refl _)
      have hpl8 := H8.1.ta.lt
      have HS : HY D K [] [N] (nx (ws_p w2 14 b 3 (some b1)) p2, nx3 (ws_a t2 12 0 28 N (i_ n1)) p2, al2, m2, N2, nuU nu2 b1 x6, tn6) (nx (ws_p w2 14 b 3 (some b1)) p2, nx3 (ws_a t2 12 0 28 N (i_ n1)) p2, al2, m2, N2, nuU nu2 b1 x6, tn6) (p2 + 1) (p2 + 1) 0 0 := ⟨H8.1, FR.rf H8.1.mle⟩
      refine PS_l (fun Q h => zt_X5_options_p0 (by omega) h) ?_
      simp only [zb_X5_options_p0]
      refine PSh_cG (gc1 := fun Q => zL_X5_options_p4 D.1 (L - 23) Q (i_ d) none none _) (gt1 := fun Q => zL_X13_cases_p28 E' (L' - 26) Q (i_ d) (i_ N) (-1) 0 _) (Kc := fun Q => wkr (fun v4 w4 => wle _ w4 → Q (.inl (some (va_rf (some b)))) (ws_p w4 14 b 4 v4)) (fun e w => Q (.inr e) w)) (Kt := fun Q => Q) (A := fun Q v4 w4 => Q (.inl (some (va_rf (some b)))) (ws_p w4 14 b 4 v4)) (B := fun Q v t2 => Q (.inl (some (.int v))) t2) STL.of H8.1.krg H8.2 (p_op_loop IH IHP hd20 hdx hdx' ⟨T8.1.1, by omega⟩ (pA := p2) (pB := p2 + 1) K.length _ _ al2 m2 N2 _ tn6 (p2 + 1) none (-1) none (-1) 0 N2 false (by omega) (by omega) HS.c0 LQ.nil (T8.upE rfl) ⟨fun _ => rfl, fun a h => by cases h⟩ (Nat.le_refl _) (fun a e => by cases e) (fun a e => by cases e) e74 ⟨by omega, by omega, by omega, by omega⟩ ⟨by omega, by omega⟩ ⟨Nat.le_refl _, Nat.le_refl _⟩) (fun a h => absurd h List.not_mem_nil) (fun n hn hn2 => absurd hn2 (by rw [List.mem_singleton.mp hn]; omega)) (fun _ _ _ a => wkr_k a) (fun _ _ _ a => a) (fun _ _ _ a => a) (fun _ _ _ a => a) ?_ (fun v w2 t2 hv hv2 hd => hd.ret rfl ⟨by omega, by omega⟩) (fun v w2 t2 hv hv2 hd => hd.ret rfl ⟨by omega, by omega⟩)
      intro x v w3 t3 al3 m3 N3 nu3 tn3 p3 cz H9 HS9 hbd9 hgx
      obtain ⟨rfl, ⟨k, l, fT, hl, T9, hdd⟩, e74b, hb4, hhd⟩ := hgx
      have hb4 : m3 + 4 * (p2 + 1) ≤ m2 + 4 * p3 ∧ N3 + 4 * (p2 + 1) ≤ N2 + 4 * p3 := hb4
      have O9 := O8.fr HS9.2 List.not_mem_nil
      have HE := H9.wp (k := 4) (v := x) O9.1.2 (fun e => absurd e hb) (LKO.op (hhd.up (fun _ e => H8.2.sub e)))
      have OE : OWc (ws_p w3 14 b 4 x, t3, al3, m3, N3, nu3, tn3) b _ _ := O9.sp (k := 4) (v := x) (.inr (.inr (fun e => (hhd _ e).2.2 O8.1.1.1)))
      have TE : OWt (ws_p w3 14 b 4 x, t3, al3, m3, N3, nu3, tn3) N _ := T9
      have hvw : VWa (vw w3 t3) (vw (ws_p w3 14 b 4 x) t3) tn3 nu3 := VWa.mk (b := b) (n := N) (fun a h k => by simp only [nx, Rii, Rgi, Rpi, Rai, Rbi, Rri, Rni, Rdi, Roi, Rti, Rzi, RCi, RSi, Rip, Rgp, Rpp, Rap, Rbp, Rrp, Rnp, Rdp, Rop, Rtp, Rzp, RCp, RSp]; simp [h]) (fun y h k => rfl) rfl O9.1.2 T9.1.2
      have hvf := VWa.fr H8.1 HS9.2 (fun _ h => absurd h List.not_mem_nil) (fun y h => by rw [List.mem_singleton.mp h]; exact T8.1.2)
      have hpl6 := H9.1.ta.lt
      exact PS_ret (.inr ⟨some b, i_ N, al3, m3, N3, nu3, tn3, p3, _, rfl, rfl, HE, ⟨by omega, by omega, by omega⟩, b, N, dsum l, rfl, rfl, PND.mk1 (kd := 14) OE TE (by omega) (by omega) (LFz.k14 OE TE i2 rfl ⟨rfl, ⟨b1, n1, rfl, rfl, (hC8.up (k' := 0) hvf HS9.2.2.2.2.2.1.1 HS9.2.2.2.2.2.1.2.1 (Nat.le_refl _)).up hvw (fun _ _ h => h) (fun _ h => h) (Nat.le_refl _)⟩, l, LPz.up hvw (fun _ _ h => h) (fun _ h => h) (Nat.le_refl _) hl, rfl⟩) i12 (fun l e => by cases e), NXT.mk1 OE TE f7 rfl, hb, e74b, ⟨by show m3 + _ + 2 ≤ _; omega, by show N3 + _ + 2 ≤ _; omega⟩, by omega⟩)
    · refine eS_and (by rw [hd.2.2.tl.2.2.1]; exact i_inb' (by omega) (by omega)) ?_
      exact dd_endOfLine (hd.ta rfl) h20
  · have hd2 := H1.dd hd (by omega) (by omega) hal h76
    have hN' : w_i (nx3 t p) 12 0 25 = i_ N := by
      unfold nx3
      rw [Rii, if_neg (by decide)]
      exact H.tN
    refine eS_1 (fun Q hq => t_node (by omega) hd2.2.2.1.1.1 hN' (by omega) hq) ?_
    exact dd_e (hd2.nd (N := N) (by omega)) (by omega)
end STO
