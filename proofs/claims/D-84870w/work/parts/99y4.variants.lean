/-! ===== PARSERS, part 28: variants ===== -/
/-- variants that the twin's node n holds -/
def GVR (D : pD) (K : pK) (S : pS) (p n : Nat) (ft : Nat → Int32) (x1 : Int32) : pGd := fun cz x v S2 p2 => v = i_ n ∧ (∃ k l fT, LSz (vw S2.1 S2.2.1) S2.2.2.2.2.2.2 S2.2.2.2.2.2.1 k (oN K 19 p p2) l x fT ∧ OWt S2 n (up_ (up_ ft 29 fT) 28 x1) ∧ (dsum l + p ≤ p2 ∧ dsum l = cz) ∧ l ≠ []) ∧ kk K (p2 - 1) = 74 ∧ (S2.2.2.2.1 + 4 * p ≤ S.2.2.2.1 + 4 * p2 ∧ S2.2.2.2.2.1 + 4 * p ≤ S.2.2.2.2.1 + 4 * p2) ∧ HDN S S2 x
section STV
variable {ex et : List Nat} {S S' S0 SA : pS} {D : pD} {K : pK} {p p0 q o o' oA dl m N n n2 b b2 lo hi lo2 hi2 r d d2 dd g pA pB nP : Nat} {w t w' : wS} {al : List Nat} {nu : pNz} {tn : Nat → Prop} {E E' : zE} {L L' : Nat} {ol : pOL} {f : Option Nat} {fT x1 : Int32} {Q : kx_Rs → wS → Prop} {fi : Nat → Int32} {fp : Nat → Option Nat} {ft : Nat → Int32}
theorem dd_va_loop {nl : Int32} (hd9 : d ≤ 800) (hL : 1000 ≤ L') (hn : n < 14000) (h : DDs D K S0 w' t) : eS (fun Q => zb_X13_asks_p167 E' L' Q x1 (i_ d) (i_ n) nl t) (fun r' t' => TLP D K S0.1 S0.2.1 true 0 w' r' t') := by
  simp only [zb_X13_asks_p167, zb_X13_asks_p201]
  refine dd_isAt h (by omega) (by omega) (fun b => ?_)
  cases b with
  | false =>
    refine eS_n (fun h => h rfl) (eS_and (by rw [h.2.2.tl.2.2.1]; exact i_inb' (by omega) (by omega)) ?_)
    exact (h.ta rfl).ret rfl ⟨by omega, by omega⟩
  | true =>
    refine eS_p (by decide) ?_
    refine eS_l (fun Q h => zt_X13_asks_p65 (by omega) h) ?_
    simp only [zb_X13_asks_p65]
    exact dd_lineAt (how := 5) h (by omega) (by omega) rfl (by omega)
theorem lt_va_loop {nl : Int32} (hd9 : d ≤ 800) (hdl : d ≤ dl) (hL : 1000 ≤ L') (hn : n < 14000) (h : LTs D K dl S0 w' t) : eS (fun Q => zb_X13_asks_p167 E' L' Q x1 (i_ d) (i_ n) nl t) (fun r' t' => TLPd D K d S0.1 S0.2.1 true 0 w' r' t') := by
  simp only [zb_X13_asks_p167, zb_X13_asks_p201]
  refine eS_1 (fun Q hq => h.isAt (d := d) hdl (by omega) (by omega) hq) (eS_n (fun h => h rfl) ?_)
  refine eS_and (by rw [h.tl.2.2.1]; exact i_inb' (by omega) (by omega)) ?_
  exact ((h.dn hdl).ta rfl).ret rfl ⟨by omega, by omega⟩
theorem p_va_loop {G : Nat} (IH : EXq D K E' G) (IHP : PRq D K E' G) (hd : d ≤ 21) (hL : dex d ≤ L + 150) (hL' : dex d ≤ L' + 150) (hnP : nP < SA.2.2.2.2.1 ∧ nP < 14000) : ∀ g w t al m N nu tn p f fT bl nl dd hi, K.length ≤ p + g → K.length ≤ p + 1 + G → HY D K [] [nP] (cb SA dd) (w, t, al, m, N, nu, tn) p p 0 0 → LQ anyk D (w, t, al, m, N, nu, tn) SA.2.2.2.2.1 hi (oN K 19 pB p) f fT bl nl none dd → OWt (w, t, al, m, N, nu, tn) nP (up_ ft 29 fT) → hi ≤ N → (∀ a, bl = some a → a ∉ SA.2.2.1.take SA.2.2.2.1) → HDN SA (w, t, al, m, N, nu, tn) f → kk K (p - 1) = 74 → (pA ≤ p ∧ pA = pB ∧ 1 ≤ p ∧ dd + pB ≤ p) → (m ≤ 4 * p + 7 ∧ N ≤ 4 * p + 8) → (m + 4 * pB ≤ SA.2.2.2.1 + 4 * p ∧ N + 4 * pB ≤ SA.2.2.2.2.1 + 4 * p) → bAt K p d = true → PS (fun Q => zL_X5_variants_p13 D.1 L Q (i_ d) f bl w) (fun Q => zL_X13_asks_p65 E' L' Q x1 (i_ d) (i_ nP) nl t) (PRd D K d [] [nP] SA pA 0 true true 0 (GVR D K SA pB nP ft x1)) := by
  have hdx : dex (d + 1) ≤ L - 23 := by unfold dex at *; omega
  have hdx' : dex (d + 1) ≤ L' - 24 := by unfold dex at *; omega
  unfold dex at hL hL'
  have hlx : lex 0 ≤ L - 24 + 80 := by unfold lex; omega
  have hlx' : lex 0 ≤ L' - 23 + 80 := by unfold lex; omega
  have h24 : 400 ≤ L' - 24 := by omega
  have h20 : 400 ≤ L' - 20 := by omega
  have h21 : 400 ≤ L' - 21 := by omega
  have h23 : 400 ≤ L' - 23 := by omega
  have hL9 : 1000 ≤ L' := by omega
  intro g
  induction g with
  | zero =>
    intro w t al m N nu tn p f fT bl nl dd hi hg _ H
    have := H.1.ca.2.2
    omega
  | succ g ih =>
    intro w t al m N nu tn p f fT bl nl dd hi hg hG H hQ hT hhi hb0 hf0 h74 hpp hmN hbd hA
    have hpl := H.1.ta.lt
    have hal := H.alive
    have hSA : SA.2.2.2.2.1 ≤ N := H.2.2.1.2.2.1
    have hΦ : STL D K d SA true 0 (PRd D K d [] [nP] SA pA 0 true true 0 (GVR D K SA pB nP ft x1)) := STL.of
    have hΦ := hΦ.cb (c := dd)
    refine PS_of (fun Q h => zt_X5_variants_p13 (by omega) h) (fun Q h => zt_X13_asks_p65 (by omega) h) ?_
    simp only [zb_X5_variants_p13, zb_X13_asks_p65]
    refine PS_l1 (fun Q hq => c_more (d := d) (by omega) H.1.ca (by omega) (.inr h74) hq) ?_
    rw [hA]
    refine PS_ln (by decide) ?_
    refine PS_l1 (fun Q hq => c_isName (by omega) H.1.ca hq) ?_
    refine PSg_stand (d := d) (how := 5) hΦ.stp (by omega) (by omega) H (by omega) (.inr h74) rfl (by omega) rfl (fun _ hbx _ H1 => ?_)
    have h70 : kk K p = 70 := of_decide_eq_true hbx
    have hQ1 : LQ anyk D (ws_i w 4 0 4 0, t, al, m, N, nu, tn) SA.2.2.2.2.1 hi (oN K 19 pB p) f fT bl nl none dd := hQ.fr H.1 ((show HY D K [] [] (w, t, al, m, N, nu, tn) (w, t, al, m, N, nu, tn) p p 0 0 from ⟨H.1, FR.rf H.1.mle⟩).co (u := 0) (by omega)).2 (fun a h => absurd h List.not_mem_nil) (fun a h => absurd h List.not_mem_nil)
    refine PS_cn (by omega) (by omega) H1 (fun b1 al2 w2 H2 HF2 O2 hb2 hb20 => ?_)
    have hQ2 := hQ1.fr H1.1 HF2 (fun a h => absurd h List.not_mem_nil) (fun a h => absurd h List.not_mem_nil)
    have hbb : bl ≠ some b1 := by
      rcases hQ1.nlb H1.1 with ⟨e, -⟩ | ⟨b, n, e, -, g1, -⟩
      · rw [e]; simp
      · rw [e]
        intro e2
        cases e2
        exact hb2 g1.1
    refine PSq_behind (by omega) H2 hQ2 hb0 (LKO.mk O2.1.1.1 (O2.1.1.2 rfl) hb20) (fun w3 hw3 H3 hQ3 => ?_)
    have O3 := O2.bh hw3 hbb
    have hfS : ∀ {f' : Option Nat} {X Y : Prop}, ((bl = none ∧ f' = some b1 ∧ X) ∨ (bl ≠ none ∧ f' = f ∧ Y)) → HDN SA (w3, t, al2, m + 1, N, nu, tn) f' := fun hf' => HDN.stf ((show HDN SA (ws_i w 4 0 4 0, t, al, m, N, nu, tn) f from hf0).fr HF2) hQ2 O2.1.1.1 O2.1.2 (O2.1.1.2 rfl) hb20 hbb hw3 hf'
    have hnb := hQ3.nlb H3.1
    have H3' : HY D K [b1] [] (w3, t, al2, m + 1, N, nu, tn) (w3, t, al2, m + 1, N, nu, tn) p p 0 0 := ⟨H3.1, FR.rf H3.1.mle⟩
    have hΦ1 := hΦ.up H3.2
    have hb1m : ∀ {X : Prop}, X → b1 ∈ [b1] := fun _ => List.mem_singleton_self b1
    have hp1 := H3'.p1 (by omega)
    have hln1 := H3'.1.ln hp1 (by omega)
    refine PS_rand (by rw [H3.tpos, H3.l9.1]; exact i_inb' (by omega) (by omega)) ?_
    simp only [H3.tpos, i_nat' (show p < 2147483648 by omega), H3.1.r9]
    refine PS_r1 (fun Q hq => t_node (by omega) H3.kt H3.tN (by omega) hq) ?_
    simp only [i_nat' (show N < 2147483648 by omega)]
    have HB := H3'.tnd (x := 19) (l := i_ (kln K p))
    have T1 : OWt (w3, nd3 t N 19 (i_ (kln K p)), al2, m + 1, N + 1, nu, tn) N _ := OWt.new (x := 19) (l := i_ (kln K p)) H3'
    have O1 : OWl (w3, nd3 t N 19 (i_ (kln K p)), al2, m + 1, N + 1, nu, tn) b1 _ _ := O3.tt
    -- behind the elements
    have tail : ∀ (f' : Option Nat) (fT' : Int32) (w5 t5 : wS) (al5 : List Nat) (m5 N5 : Nat) (nu5 : pNz) (tn5 : Nat → Prop) (p5 : Nat) (fi5 : Nat → Int32) (fp5 : Nat → Option Nat) (ft5 : Nat → Int32) (r5 : Nat), ((bl = none ∧ f' = some b1 ∧ fT' = i_ N) ∨ (bl ≠ none ∧ f' = f ∧ fT' = fT)) → HY D K [b1] [] (w3, t, al2, m + 1, N, nu, tn) (w5, t5, al5, m5, N5, nu5, tn5) p5 p5 0 0 → OWl (w5, t5, al5, m5, N5, nu5, tn5) b1 fi5 fp5 → OWt (w5, t5, al5, m5, N5, nu5, tn5) N ft5 → (N + 1 ≤ N5 ∧ p < p5 ∧ m5 + 4 * p ≤ m + 1 + 4 * p5 ∧ N5 + 4 * p ≤ N + 1 + 4 * p5) → ((fi5 2 = i_ (kln K p) ∧ fi5 12 = 0 ∧ fp5 7 = none ∧ fp5 0 = some (D.1.1.1 41)) ∧ (ft5 26 = i_ 19 ∧ ft5 27 = i_ (kln K p) ∧ ft5 32 = -1)) → nmr D (fi5 9) (ft5 28) → ((fp5 4 = none ∧ ft5 29 = -1) ∨ LEz (vw w5 t5) tn5 nu5 r5 (oE K (kln K p) 0 p p5) (fp5 4) (ft5 29)) → PS (fun Q => zb_X5_variants_p79 D.1 L Q (i_ d) f' (some b1) w5) (fun Q => zb_X13_asks_p119 E' L' Q x1 (i_ d) (i_ nP) nl (i_ N) t5) (PRd D K d [] [nP] SA pA 0 true true 0 (GVR D K SA pB nP ft x1)) := by
      intro f' fT' w5 t5 al5 m5 N5 nu5 tn5 p5 fi5 fp5 ft5 r5 hf' H5 O5 T5 hbd5 hfi hnm harm
      have hpl5 := H5.1.ta.lt
      simp only [zb_X5_variants_p79, zb_X13_asks_p119]
      rw [i_1, i_add, cN1, i_nat' (show nP < 2147483648 by omega), i_nat' (show N < 2147483648 by omega)]
      refine PSg_elw hΦ1.stp (by omega) (by omega) (by omega) H5 (fun e74 H8 => ?_) (fun w' hdd => ?_)
      · have O8 : OWl (nx w5 p5, nx3 t5 p5, al5, m5, N5, nu5, tn5) b1 _ _ := O5.w4 (j := 3) (v := i_ (p5 + 1 : Nat)) (.inl (by decide))
        have T8 : OWt (nx w5 p5, nx3 t5 p5, al5, m5, N5, nu5, tn5) N _ := T5
        refine PSh_c11 hΦ1 H8.2 H8.1.krg (IHP (L - 23) (L' - 24) _ _ _ _ _ _ _ (p5 + 1) (d + 1) hdx hdx' (by omega) H8.1 (.inr e74) (by omega) ⟨by omega, by omega⟩) (fun a h => absurd h List.not_mem_nil) (fun a h => absurd h List.not_mem_nil) (fun x v w9 t9 al9 m9 N9 nu9 tn9 p9 cz H9 HS9 hbd9 hgx => ?_) (fun v w9 t9 hv hv2 hdd => ?_) (fun v w9 t9 hv hv2 hdd => ?_)
        · obtain ⟨c3, n3, d3, rfl, rfl, hP3, hX3, hc3, e74b, hsl, hd3, rfl⟩ := hgx
          have hpl9 := H9.1.ta.lt
          have hN9 : N5 ≤ N9 := HS9.2.2.1.2.2.1
          have O9 := O8.fr HS9.2 List.not_mem_nil
          have T9 := T8.fr HS9.2 List.not_mem_nil
          have hvf := VWa.fr H8.1 HS9.2 (fun _ h => absurd h List.not_mem_nil) (fun _ h => absurd h List.not_mem_nil)
          obtain ⟨x10, tn10, r10, H10, hC10, hm3, hm4, hn10⟩ := H9.fin hP3 (fun e => hc3 (H8.2.sub e)) (by show N ≤ N5; omega)
          have hbc3 : b1 ≠ c3 := fun e => hc3 (by rw [← e]; exact O8.1.1.1)
          have O10 := O9.fin (x := x10) (tn' := tn10) hbc3
          have T10 := T9.fin (nu' := nuU nu9 c3 x10) hm4 (.inl (by show N < N5; omega))
          refine PS_lex b1 rfl (PS_land (O10.wl H10.1) ?_)
          refine PS_rand (by rw [H10.1.tl.2.2.2.2.1]; exact i_inb' (by omega) (by omega)) ?_
          have HE := (H10.wp (k := 6) (v := some c3) O10.1.2 hb1m (LKO.mk hP3.bm.1 hX3.2.2 (fun e => hc3 (H8.2.sub e)))).ta (k := 30) (n := N) (v := i_ n3) rfl T10.1.2 (fun h => absurd h (Nat.lt_irrefl _))
          have OE : OWl (ws_p w9 14 b1 6 (some c3), ws_a t9 12 0 30 N (i_ n3), al9, m9, N9, nuU nu9 c3 x10, tn10) b1 _ _ := O10.sp (k := 6) (v := some c3)
          have TE : OWt (ws_p w9 14 b1 6 (some c3), ws_a t9 12 0 30 N (i_ n3), al9, m9, N9, nuU nu9 c3 x10, tn10) N _ := T10.si (k := 30) (v := i_ n3)
          have hvw := VWa.mk (w := w9) (t := t9) (w' := ws_p w9 14 b1 6 (some c3)) (t' := ws_a t9 12 0 30 N (i_ n3)) (b := b1) (n := N) (fun a h k => by simp only [nx, Rii, Rgi, Rpi, Rai, Rbi, Rri, Rni, Rdi, Roi, Rti, Rzi, RCi, RSi, Rip, Rgp, Rpp, Rap, Rbp, Rrp, Rnp, Rdp, Rop, Rtp, Rzp, RCp, RSp]; simp [h]) (fun y h k => by simp only [nx3, nd3, Rii, Rgi, Rpi, Rai, Rbi, Rri, Rni, Rdi, Roi, Rti, Rzi, RCi, RSi, Ria, Rga, Rpa, Raa, Rba, Rra, Rna, Rda, Roa, Rta, Rza, RCa, RSa]; simp [h]) rfl O10.1.2 T10.1.2
          have harm2 : (fp5 4 = none ∧ ft5 29 = -1) ∨ LEz (vw (ws_p w9 14 b1 6 (some c3)) (ws_a t9 12 0 30 N (i_ n3))) tn10 (nuU nu9 c3 x10) (p9 - p - 1) (some (i_ (kln K p)), 0, p9 - p - 1, kln K, p, p9) (fp5 4) (ft5 29) := by
            rcases harm with h | h2
            · exact .inl h
            · have h2 : LEz (vw (nx w5 p5) (nx3 t5 p5)) tn5 nu5 r5 (oE K (kln K p) 0 p p5) (fp5 4) (ft5 29) := by rw [vw_n2]; exact h2
              exact .inr (((h2.up (k' := 0) hvf HS9.2.2.2.2.2.1.1 HS9.2.2.2.2.2.1.2.1 (Nat.le_refl _)).up (k' := 0) (V' := vw w9 t9) ⟨fun _ _ => ⟨rfl, rfl⟩, fun _ _ _ _ => rfl, rfl⟩ (nle_nuU hn10) hm3 (Nat.le_refl _)).up hvw (fun _ _ h => h) (fun _ h => h) (Nat.le_refl _))
          have hPI : PND D (ws_p w9 14 b1 6 (some c3), ws_a t9 12 0 30 N (i_ n3), al9, m9, N9, nuU nu9 c3 x10, tn10) N N9 (oN K 19 p p9) b1 N d3 := PND.mk1 (kd := 19) OE TE (Nat.le_refl _) (by omega) (LFz.k19 OE TE (hfi.1.1.trans hfi.2.2.1.symm) hfi.2.1 ⟨hfi.1.2.2.2, hnm, by
            show (fp5 4 = none ∧ ft5 29 = -1) ∨ LEz _ _ _ _ (some (ft5 27), _) (fp5 4) (ft5 29)
            rw [hfi.2.2.1]
            exact harm2, ⟨c3, n3, rfl, rfl, hC10.up hvw (fun _ _ h => h) (fun _ h => h) (Nat.le_refl _)⟩⟩ hfi.2.2.1) hfi.1.2.1 (fun l e => by cases e) hfi.2.1
          have hXI := NXo.mk1 OE TE hfi.1.2.2.1 hfi.2.2.2
          have HZ : HY D K [] [nP] (cb SA (dd + d3)) (ws_p w9 14 b1 6 (some c3), ws_a t9 12 0 30 N (i_ n3), al9, m9, N9, nuU nu9 c3 x10, tn10) p9 p9 0 0 := HY.cc ⟨HE.1, H3.2.trc HE.2 (fun a ha hin => absurd hin (by rw [List.mem_singleton.mp ha]; exact hb20)) (fun n h => absurd h List.not_mem_nil)⟩
          have hQZ := hQ3.fr H3.1 HE.2 (fun a ha => by rw [List.mem_singleton.mp ha]; exact ⟨O3.1.2, hbb⟩) (fun a h => absurd h List.not_mem_nil)
          have TZ : OWt (ws_p w9 14 b1 6 (some c3), ws_a t9 12 0 30 N (i_ n3), al9, m9, N9, nuU nu9 c3 x10, tn10) nP _ := (hT.ww (w' := w3) (al' := al2) (m' := m + 1)).fr HE.2 List.not_mem_nil
          have hf2 := hf'
          have hfE := (hfS hf').fr HE.2
          refine PSq_chain (f2 := f') (fT2 := fT') (by omega) hQZ HZ hPI hXI hbb hhi hSA (.inr rfl) hb0 (Nat.le_refl _) trivial hf' (fun t6 nu6 tn6' nx hnx H6 hQ6 hA6 => ?_)
          have T6 := hA6.owt TZ hnP.1 hnx
          have r29 : w_a t6 12 0 29 nP = fT := T6.2 29 rfl
          refine PS_rand (by rw [H6.1.tl.2.2.2.1]; exact i_inb' (by omega) (by omega)) ?_
          -- the next line
          have more : ∀ t7, HY D K [] [nP] (cb SA (dd + d3)) (ws_p w9 14 b1 6 (some c3), t7, al9, m9, N9, nu6, tn6') p9 p9 0 0 → LQ anyk D (ws_p w9 14 b1 6 (some c3), t7, al9, m9, N9, nu6, tn6') SA.2.2.2.2.1 N9 (oN K 19 pB p9) f' fT' (some b1) (i_ N) none (dd + d3) → OWt (ws_p w9 14 b1 6 (some c3), t7, al9, m9, N9, nu6, tn6') nP (up_ ft 29 fT') → PS (fun Q => zL_X5_variants_p13 D.1 L Q (i_ d) f' (some b1) (ws_p w9 14 b1 6 (some c3))) (fun Q => zb_X13_asks_p167 E' L' Q x1 (i_ d) (i_ nP) (i_ N) t7) (PRd D K d [] [nP] SA pA 0 true true 0 (GVR D K SA pB nP ft x1)) := by
            intro t7 H7 hQ7 T7
            simp only [zb_X13_asks_p167, zb_X13_asks_p201]
            refine PS_r1 (fun Q hq => t_isAt (d := d) (by omega) H7.1.ta H7.1.krg (by omega) hq) ?_
            by_cases eA : bAt K p9 d = true
            · rw [eA]
              refine PS_rp (by decide) ?_
              exact ih _ _ al9 m9 N9 nu6 tn6' p9 f' fT' (some b1) (i_ N) (dd + d3) N9 (by omega) (by omega) H7 hQ7 T7 (Nat.le_refl _) (fun a e => by cases e; exact hb20) hfE e74b ⟨by omega, by omega, by omega, by omega⟩ ⟨by omega, by omega⟩ ⟨by omega, by omega⟩ eA
            · have e' : bAt K p9 d = false := by simpa using eA
              rw [e']
              refine PS_rn (fun h => h rfl) (PS_l (fun Q h => zt_X5_variants_p13 (by omega) h) ?_)
              simp only [zb_X5_variants_p13]
              refine PS_l1 (fun Q hq => c_more (d := d) (by omega) H7.1.ca (by omega) (.inr e74b) hq) ?_
              rw [e']
              refine PS_lp rfl ?_
              refine PS_rand (by rw [H7.1.tl.2.2.1]; exact i_inb' (by omega) (by omega)) ?_
              rw [i_nat' (show nP < 2147483648 by omega)]
              obtain ⟨nu', tn', k, HD, ⟨l, h1, h2, h3, h4⟩, h5⟩ := hQ7.done H7 (fun a e => by cases e; exact hb20) (Nat.le_refl _)
              have T8 : OWt (ws_p w9 14 b1 6 (some c3), t7, al9, m9, N9, nu', tn') nP (up_ ft 29 fT') := ⟨⟨T7.1.1, fun e => (h5.2.2 nP e).elim T7.1.2 (fun h => by omega)⟩, T7.2⟩
              have HD2 := HD.ta (k := 28) (n := nP) (v := x1) rfl T8.1.2 (fun _ => List.mem_singleton_self nP)
              have T9 := T8.si (k := 28) (v := x1)
              have hvd : VWa (vw (ws_p w9 14 b1 6 (some c3)) t7) (vw (ws_p w9 14 b1 6 (some c3)) (ws_a t7 12 0 28 nP x1)) tn' nu' := ⟨fun _ _ => ⟨rfl, rfl⟩, fun k y hy _ => by
                show w_a (ws_a t7 12 0 28 nP x1) 12 0 k y = w_a t7 12 0 k y
                rw [Raa, if_neg (fun z => T8.1.2 (by rw [← z.2.2.2]; exact hy))], rfl⟩
              exact PS_ret (.inr ⟨f', i_ nP, al9, m9, N9, nu', tn', p9, _, rfl, rfl, HD2, ⟨by omega, by omega, by omega⟩, rfl, ⟨k, l, fT', LPz.up hvd (fun _ _ h => h) (fun _ h => h) (Nat.le_refl _) h1, T9, by omega, h3 (by simp)⟩, e74b, ⟨by show m9 + 4 * pB ≤ SA.2.2.2.1 + 4 * p9; omega, by show N9 + 4 * pB ≤ SA.2.2.2.2.1 + 4 * p9; omega⟩, hfE⟩)
          rcases hf2 with ⟨g1, g2, g3⟩ | ⟨g1, g2, g3⟩
          · have efT : fT = -1 := by
              rcases hnb with ⟨-, -, -, e, -⟩ | ⟨b, n, e, -⟩
              · exact e
              · rw [g1] at e; cases e
            refine PS_rn (by rw [r29, efT]; exact fun h => h rfl) (PS_rand (by rw [H6.1.tl.2.2.2.1]; exact i_inb' (by omega) (by omega)) ?_)
            have H7 := H6.ta (k := 29) (n := nP) (v := i_ N) rfl T6.1.2 (fun _ => List.mem_singleton_self nP)
            have F7 := ((show HY D K [] [nP] _ (ws_p w9 14 b1 6 (some c3), t6, al9, m9, N9, nu6, tn6') p9 p9 0 0 from ⟨H6.1, FR.rf H6.1.mle⟩).ta (k := 29) (n := nP) (v := i_ N) rfl T6.1.2 (fun _ => List.mem_singleton_self nP)).2
            have hQ7 := hQ6.fr H6.1 F7 (fun a h => absurd h List.not_mem_nil) (fun y hy => by rw [List.mem_singleton.mp hy]; exact ⟨hnP.1, T6.1.2⟩)
            exact more _ H7 hQ7 (by rw [g3]; exact (T6.si (k := 29) (v := i_ N)).up2)
          · have efT : fT ≠ -1 := by
              rcases hnb with ⟨e, -⟩ | ⟨b, n, -, -, -, -, n0, e, hn0⟩
              · exact absurd e g1
              · rw [e]
                have hn0 : n0 < N := hn0
                exact i_ne1 (by omega)
            refine PS_rp (by rw [r29]; exact efT) ?_
            exact more _ H6 hQ6 (by rw [g3]; exact T6)
        · refine eS_and (by rw [hdd.2.2.tl.2.2.2.2.1]; exact i_inb' (by omega) (by omega)) ?_
          have hdd := hdd.ta (k := 30) (n := N) (v := i_ v) rfl
          refine eS_chain (by omega) hdd.2.2.tl.2.2.2.2.2.2.1 hQ.nl (fun t' ht' => ?_)
          have hdd := hdd.ch ht'
          refine eS_and (by rw [hdd.2.2.tl.2.2.2.1]; exact i_inb' (by omega) (by omega)) ?_
          exact eS_ifb (dd_va_loop (by omega) (by omega) hnP.2 hdd) (eS_and (by rw [hdd.2.2.tl.2.2.2.1]; exact i_inb' (by omega) (by omega)) (dd_va_loop (by omega) (by omega) hnP.2 (hdd.ta rfl)))
        · refine eS_and (by rw [hdd.tl.2.2.2.2.1]; exact i_inb' (by omega) (by omega)) ?_
          have hdd := hdd.ta (k := 30) (n := N) (v := i_ v) rfl
          refine eS_chain (by omega) hdd.tl.2.2.2.2.2.2.1 hQ.nl (fun t' ht' => ?_)
          have hdd := hdd.ch ht'
          refine eS_and (by rw [hdd.tl.2.2.2.1]; exact i_inb' (by omega) (by omega)) ?_
          exact eS_ifb (lt_va_loop (by omega) (by omega) (by omega) hnP.2 hdd) (eS_and (by rw [hdd.tl.2.2.2.1]; exact i_inb' (by omega) (by omega)) (lt_va_loop (by omega) (by omega) (by omega) hnP.2 (hdd.ta rfl)))
      · exact dd_process (d := d + 1) hdd (by omega) h24
    have p48 : ∀ f' fT', ((bl = none ∧ f' = some b1 ∧ fT' = i_ N) ∨ (bl ≠ none ∧ f' = f ∧ fT' = fT)) → PS (fun Q => zb_X5_variants_p48 D.1 L Q (i_ d) f' (some b1) w3) (fun Q => zw E' (L' - 20) kt_M601 [.ref (w_adr E'.2.1 12 0)] (nd3 t N 19 (i_ (kln K p))) (wk1 (fun v6 w5 => wle (nd3 t N 19 (i_ (kln K p))) w5 → kx_inb (i_ N) (w_n w5 12 0 28) = true ∧ zw E' (L' - 21) kt_M466 [.ref (w_adr E'.2.1 12 0), .int 45] (ws_a w5 12 0 28 N v6) (wk1 (fun v8 w7 => wle (ws_a w5 12 0 28 N v6) w7 → (if v8 = 0 then zb_X13_asks_p119 E' L' Q x1 (i_ d) (i_ nP) nl (i_ N) w7 else zw E' (L' - 23) kt_M398 [.ref (w_adr E'.2.1 12 0)] w7 (wk1 (fun v10 w9 => wle w7 w9 → kx_inb (i_ N) (w_n w9 12 0 29) = true ∧ zb_X13_asks_p119 E' L' Q x1 (i_ d) (i_ nP) nl (i_ N) (ws_a w9 12 0 29 N v10)) (fun e w => Q (.inr e) w)))) (fun e w => Q (.inr e) w))) (fun e w => Q (.inr e) w))) (PRd D K d [] [nP] SA pA 0 true true 0 (GVR D K SA pB nP ft x1)) := by
      intro f' fT' hf'
      simp only [zb_X5_variants_p48]
      have hv8 : w_a (nd3 t N 19 (i_ (kln K p))) 12 0 8 p = w_a t 12 0 8 p := TX_nd3.a rfl
      refine PSg_nmw hΦ1.stp (by omega) (by omega) (by omega) HB (fun _ H4 hnm => ?_) (fun w' hd => ?_)
      · have O4 : OWl (nx w3 p, nx3 (nd3 t N 19 (i_ (kln K p))) p, al2, m + 1, N + 1, nu, tn) b1 _ _ := O1.w4 (j := 3) (v := i_ (p + 1 : Nat)) (.inl (by decide))
        have T4 : OWt (nx w3 p, nx3 (nd3 t N 19 (i_ (kln K p))) p, al2, m + 1, N + 1, nu, tn) N _ := T1
        refine PS_lex b1 rfl (PS_land (O4.wl H4.1) ?_)
        refine PS_rand (by rw [H4.1.tl.2.2.1]; exact i_inb' (by omega) (by omega)) ?_
        have H5 := (H4.wi (k := 9) (v := w_a w3 1 0 3 p) O4.1.2 hb1m).ta (k := 28) (n := N) (v := w_a (nd3 t N 19 (i_ (kln K p))) 12 0 8 p) rfl T4.1.2 (fun h => absurd h (Nat.lt_irrefl _))
        have O5 := O4.si (k := 9) (v := w_a w3 1 0 3 p)
        have T5 : OWt (ws_i (nx w3 p) 14 b1 9 (w_a w3 1 0 3 p), ws_a (nx3 (nd3 t N 19 (i_ (kln K p))) p) 12 0 28 N (w_a (nd3 t N 19 (i_ (kln K p))) 12 0 8 p), al2, m + 1, N + 1, nu, tn) N _ := T4.si (k := 28) (v := w_a (nd3 t N 19 (i_ (kln K p))) 12 0 8 p)
        have O5 : OWl (ws_i (nx w3 p) 14 b1 9 (w_a w3 1 0 3 p), ws_a (nx3 (nd3 t N 19 (i_ (kln K p))) p) 12 0 28 N (w_a (nd3 t N 19 (i_ (kln K p))) 12 0 8 p), al2, m + 1, N + 1, nu, tn) b1 _ _ := O5
        have hpl5 := H5.1.ta.lt
        refine PS_l1 (fun Q hq => c_is (c := 41) (v := 45) (by omega) H5.1.ca rfl (by unfold wcd; omega) hq) ?_
        cases h45 : decide (kk K (p + 1) = 45) with
        | false =>
          have h45 : ¬ kk K (p + 1) = 45 := of_decide_eq_false h45
          refine PS_lp (by decide) ?_
          refine PS_r1 (fun Q hq => t_may (v := 45) (by omega) H5.1.ta H5.1.krg rfl (by omega) (fun h => absurd h h45) (fun _ => hq)) (PS_rp rfl ?_)
          exact tail f' fT' _ _ _ _ _ _ _ (p + 1) _ _ _ 0 hf' H5 O5 T5 ⟨by omega, by omega, by omega, by omega⟩ ⟨⟨rfl, rfl, rfl, rfl⟩, rfl, rfl, rfl⟩ hnm (.inl ⟨rfl, rfl⟩)
        | true =>
          have h45 : kk K (p + 1) = 45 := of_decide_eq_true h45
          refine PS_ln (by decide) ?_
          refine PSg_nxl hΦ1.stp (by omega) H5 (by omega) (fun H6 => ?_) (fun w' hd h76 => ?_)
          · refine PS_r1 (fun Q hq => t_may (v := 45) (by omega) H6.1.ta H6.1.krg rfl (by omega) (fun _ => hq) (fun h => absurd h45 h)) (PS_rn (by decide) ?_)
            have H7 := H6.tnx (by omega) (by omega)
            have hp2 := H5.p1 (by omega)
            have hln2 := H5.1.ln hp2 (by omega)
            have O7 : OWl (nx (ws_i (nx w3 p) 14 b1 9 (w_a w3 1 0 3 p)) (p + 1), nx3 (ws_a (nx3 (nd3 t N 19 (i_ (kln K p))) p) 12 0 28 N (w_a (nd3 t N 19 (i_ (kln K p))) 12 0 8 p)) (p + 1), al2, m + 1, N + 1, nu, tn) b1 _ _ := O5.w4 (j := 3) (v := i_ (p + 1 + 1 : Nat)) (.inl (by decide))
            have T7 : OWt (nx (ws_i (nx w3 p) 14 b1 9 (w_a w3 1 0 3 p)) (p + 1), nx3 (ws_a (nx3 (nd3 t N 19 (i_ (kln K p))) p) 12 0 28 N (w_a (nd3 t N 19 (i_ (kln K p))) 12 0 8 p)) (p + 1), al2, m + 1, N + 1, nu, tn) N _ := T5
            refine PSg_c11 hΦ1.stp H7.2 H7.1.krg (p_elements IH (L := L - 24) (L' := L' - 23) hlx hlx' H7.1 (by omega) ⟨by omega, by omega⟩) (fun a h => absurd h List.not_mem_nil) (fun a h => absurd h List.not_mem_nil) (fun x v w5 t5 al5 m5 N5 nu5 tn5 p5 H8 HS8 hbd8 hgx => ?_) (fun v w5 t5 hv hv2 hdd => ?_)
            · obtain ⟨⟨k5, hs⟩, hln3, hhd⟩ := hgx
              rw [hln2, hln1] at hs
              have hN5 : N + 1 ≤ N5 := HS8.2.2.1.2.2.1
              have hpl8 := H8.1.ta.lt
              have O8 := O7.fr HS8.2 List.not_mem_nil
              have T8 := T7.fr HS8.2 List.not_mem_nil
              refine PS_rand (by rw [H8.1.tl.2.2.2.1]; exact i_inb' (by omega) (by omega)) ?_
              have H9 := (H8.wp (k := 4) (v := x) O8.1.2 hb1m (LKO.op (hhd.up (fun _ e => H7.2.sub e)))).ta (k := 29) (n := N) (v := v) rfl T8.1.2 (fun h => absurd h (Nat.lt_irrefl _))
              have O9 := O8.sp (k := 4) (v := x) (.inr (.inr (fun e => (hhd _ e).2.2 O7.1.1.1)))
              have T9 := T8.si (k := 29) (v := v)
              have hvw := VWa.mk (w := w5) (t := t5) (w' := ws_p w5 14 b1 4 x) (t' := ws_a t5 12 0 29 N v) (b := b1) (n := N) (fun a h k => by simp only [nx, Rii, Rgi, Rpi, Rai, Rbi, Rri, Rni, Rdi, Roi, Rti, Rzi, RCi, RSi, Rip, Rgp, Rpp, Rap, Rbp, Rrp, Rnp, Rdp, Rop, Rtp, Rzp, RCp, RSp]; simp [h]) (fun y h k => by simp only [nx3, nd3, Rii, Rgi, Rpi, Rai, Rbi, Rri, Rni, Rdi, Roi, Rti, Rzi, RCi, RSi, Ria, Rga, Rpa, Raa, Rba, Rra, Rna, Rda, Roa, Rta, Rza, RCa, RSa]; simp [h]) rfl O8.1.2 T8.1.2
              exact tail f' fT' _ _ _ _ _ _ _ p5 _ _ _ k5 hf' H9 O9 T9 ⟨by omega, by omega, by omega, by omega⟩ ⟨⟨rfl, rfl, rfl, rfl⟩, rfl, rfl, rfl⟩ hnm (.inr (hs.up hvw (fun _ _ h => h) (fun _ h => h) (Nat.le_refl _)))
            · refine eS_and (by rw [hdd.2.2.tl.2.2.2.1]; exact i_inb' (by omega) (by omega)) ?_
              simp only [zb_X13_asks_p119]
              exact dd_endOfLine (hdd.ta rfl) h20
          · refine eS_1 (fun Q hq => t_may (v := 45) (by omega) H5.1.ta H5.1.krg rfl ⟨by decide, by decide⟩ (fun _ => hq) (fun h => absurd h45 h)) (eS_n (by decide) ?_)
            exact dd_elements (H5.dd hd (by omega) (by omega) (by omega) h76) h23
      · refine eS_and (by rw [hd.2.2.tl.2.2.1]; exact i_inb' (by omega) (by omega)) ?_
        have hdd := hd.ta (k := 28) (n := N) (v := w_a (nd3 t N 19 (i_ (kln K p))) 12 0 8 p) rfl
        refine eS_1 (fun Q hq => t_may (v := 45) (by omega) hdd.2.2.1 hdd.1.2 rfl ⟨by decide, by decide⟩ (fun e => by rw [hdd.2.2.2.1] at e; exact absurd e (by decide)) (fun _ => hq)) (eS_p rfl ?_)
        simp only [zb_X13_asks_p119]
        exact dd_endOfLine hdd h20
    rcases hnb with ⟨e1, e2, e3, e4, e5⟩ | ⟨b, n, e1, e2, g1, ⟨f0, g2⟩, n0, g3, g4⟩
    · rw [e3]
      exact PS_ln (fun h => h rfl) (p48 _ _ (.inl ⟨e1, rfl, rfl⟩))
    · refine PS_lp (by rw [g2]; simp) (p48 _ _ (.inr ⟨by rw [e1]; simp, rfl, rfl⟩))
/-- variants, from their first line -/
theorem p_variants {G : Nat} (IH : EXq D K E' G) (IHP : PRq D K E' G) (hd : d ≤ 21) (hL : dex d ≤ L + 120) (hL' : dex d ≤ L' + 120) (hT : OWt (w, t, al, m, N, nu, tn) nP ft) (hnP : nP < 14000) (hS : SY D K (w, t, al, m, N, nu, tn) p p 0 0) (h74 : kk K (p - 1) = 74) (hp1 : 1 ≤ p) (hg : K.length ≤ p + 1 + G) (hB : m ≤ 4 * p + 7 ∧ N ≤ 4 * p + 8) (h29 : ft 29 = -1) :
    PS (fun Q => zw D.1 L kt_M215 [.ref (w_adr D.1.2.1 4 0), .int (i_ d)] w Q) (fun Q => zL_X13_asks_p65 E' L' Q x1 (i_ d) (i_ nP) (-1) t) (PRd D K d [] [nP] (w, t, al, m, N, nu, tn) p 0 true true 0 (GVR D K (w, t, al, m, N, nu, tn) p nP ft x1)) := by
  have hLd := hL
  have hLd' := hL'
  unfold dex at hL hL'
  have hpl := hS.ta.lt
  have H : HY D K [] [nP] (w, t, al, m, N, nu, tn) (w, t, al, m, N, nu, tn) p p 0 0 := ⟨hS, FR.rf hS.mle⟩
  have hΦ : STL D K d (w, t, al, m, N, nu, tn) true 0 (PRd D K d [] [nP] (w, t, al, m, N, nu, tn) p 0 true true 0 (GVR D K (w, t, al, m, N, nu, tn) p nP ft x1)) := STL.of
  refine PS_l (fun Q h => zt_X5_variants_p0 (by omega) h) ?_
  simp only [zb_X5_variants_p0]
  refine PS_l1 (fun Q hq => c_isName (by omega) H.1.ca hq) ?_
  by_cases hok : bAt K p d = true ∧ kk K p = 70 ∧ d ≤ 20
  · rw [decide_eq_true hok.2.1]
    refine PS_l0 (fun Q hq => c_stands (b := true) (by omega) H.1.ca (by omega) (.inr h74) (fun w' _ h => by rw [hok.1] at h; simp at h) (fun _ h => by omega) (fun _ _ => hq)) ?_
    have H1 := H.co (u := 0) (by omega)
    have T1 : OWt (ws_i w 4 0 4 0, t, al, m, N, nu, tn) nP ft := hT
    exact p_va_loop IH IHP hd (by unfold dex; omega) (by unfold dex; omega) ⟨hT.1.1, hnP⟩ K.length _ t al m N nu tn p none (-1) none (-1) 0 N (by omega) hg H1.c0 LQ.nil (T1.upE h29) (Nat.le_refl _) (fun a e => by cases e) (fun a e => by cases e) h74 ⟨Nat.le_refl _, rfl, hp1, by omega⟩ hB ⟨Nat.le_refl _, Nat.le_refl _⟩ hok.1
  · refine PS_r (fun Q h => zt_X13_asks_p65 (by omega) h) ?_
    simp only [zb_X13_asks_p65]
    exact PSg_stand (d := d) (how := 5) hΦ.stp (by omega) (by omega) H (by omega) (.inr h74) rfl (by omega) rfl (fun h1 h2 h3 _ => absurd ⟨h1, of_decide_eq_true h2, h3⟩ hok)
end STV
