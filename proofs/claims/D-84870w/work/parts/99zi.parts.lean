/-! ===== PARSERS, part 52: parts of protocols ===== -/
def is40 (x : Int32) : Prop := x = 40
/-- parts that are read -/
def GPA (D : pD) (K : pK) (S : pS) (p : Nat) : pG := fun x v S2 p2 => (∃ k, SK1z (vw S2.1 S2.2.1) S2.2.2.2.2.2.2 S2.2.2.2.2.2.1 k (oE K (kln K p) 40 p p2) 0 40 x v) ∧ kln K p2 = kln K p ∧ HDN S S2 x
/-- what the twin does behind a part -/
def ptB (E' : zE) (L' : Nat) (Q : kx_Rs → wS → Prop) (one : Bool) (fT nl c v : Int32) (w : wS) : Prop := if one = true then zL_X13_partsOf_p9 E' L' Q v v 1 w else zw E' (L' - 22) kt_M368 [.ref (w_adr E'.2.1 12 0), .int nl, .int v] w (wk1 (fun v6 w5 => wle w w5 → zL_X13_partsOf_p9 E' L' Q fT v6 (c + 1) w5) (fun e w => Q (.inr e) w))
section PTS
variable {ex et : List Nat} {S S' S0 S1z SA : pS} {D : pD} {K : pK} {p p0 q o o' oA dl m N n n2 b b2 lo hi lo2 hi2 r d d2 dd g pA pB nP bP : Nat} {w t w' : wS} {al : List Nat} {nu : pNz} {tn : Nat → Prop} {E E' : zE} {L L' : Nat} {ol : pOL} {f : Option Nat} {fT x1 x2 c : Int32} {Q : kx_Rs → wS → Prop} {fi : Nat → Int32} {fp : Nat → Option Nat} {ft : Nat → Int32} {bl br : Bool} {lo1 : Int} {Φ : kx_Rs → wS → kx_Rs → wS → Prop} {gt : pQ} {G : pG}
theorem STP.ofPR : STP D K S0 br lo1 (PR D K ex et S0 p0 o bl br lo1 G) := fun _ _ _ x => .inl ⟨rfl, x⟩
theorem STP.up (h : STP D K S0 br lo1 Φ) (hF : FR ex et S0 S1z) : STP D K S1z br lo1 Φ := fun w' r' t' x => h w' r' t' (x.up hF)
theorem dd_pt9 {v nl : Int32} {a : Int} (hv : v = i_ a ∧ lo1 ≤ a ∧ a < 14000) (hL : 1000 ≤ L') (h : DDs D K S0 w' t) : eS (fun Q => zL_X13_partsOf_p9 E' L' Q v nl c t) (fun r' t' => TLP D K S0.1 S0.2.1 true lo1 w' r' t') := by
  refine eS_l (fun Q h => zt_X13_partsOf_p9 (by omega) h) ?_
  simp only [zb_X13_partsOf_p9]
  refine eS_1 (fun Q hq => t_may (v := 45) (by omega) h.2.2.1 h.1.2 rfl ⟨by decide, by decide⟩ (fun e => by rw [h.2.2.2.1] at e; exact absurd e (by decide)) (fun _ => hq)) (eS_p rfl ?_)
  rw [hv.1]
  exact h.ret rfl hv.2
theorem dd_part {A : (kx_Rs → wS → Prop) → Int32 → wS → Prop} (hL : 1000 ≤ L') (h : DDs D K S0 w' t) (hN0 : w_i t 12 0 25 = i_ N) (hN : N + 1 ≤ 11000) : eS (fun Q => zw E' L' kt_M503 [.ref (w_adr E'.2.1 12 0)] t (wk1 (A Q) (fun e w => Q (.inr e) w))) (fun r' t' => TLP D K S0.1 S0.2.1 br lo1 w' r' t') := by
  refine eS_l (fun Q h => zt_X13_part_p0 (by omega) h) ?_
  simp only [zb_X13_part_p0, zb_X13_part_p62]
  have hT := h.2.2.1
  have hp := hT.lt
  obtain ⟨l7, l8, l9, l10⟩ := hT.1.1.1
  refine eS_and (by rw [hT.2.1, l9]; exact i_inb' (by omega) (by omega)) ?_
  refine eS_1 (fun Q hq => t_node (by omega) hT.1.1 hN0 (by omega) hq) ?_
  have hd := h.nd hN (x := 40) (l := w_a t 12 0 9 (w_i t 12 0 35).toNatClampNeg)
  refine eS_1 (fun Q hq => t_look (by omega) hd.2.2.1 hq) ?_
  rw [hd.2.2.2.1]
  refine eS_p (by decide) ?_
  exact dd_takeType (by omega) hd
theorem p_pt_loop {G : Nat} (IH : EXq D K E' G) (hL : lex 0 + 100 ≤ L) (hL' : lex 0 + 100 ≤ L') : ∀ g w t al m N nu tn p (cnt : Nat) f fT bl nl hi, K.length ≤ p + g → K.length ≤ p + 1 + G → HY D K [] [] SA (w, t, al, m, N, nu, tn) p p 0 0 → LQ is40 D (w, t, al, m, N, nu, tn) SA.2.2.2.2.1 hi (oE K (kln K pA) 40 pA p) f fT bl nl none 0 → hi ≤ N → (∀ a, bl = some a → a ∉ SA.2.2.1.take SA.2.2.2.1) → HDN SA (w, t, al, m, N, nu, tn) f → kln K p = kln K pA → (pA ≤ p ∧ m + 4 * pA ≤ SA.2.2.2.1 + 4 * p ∧ N + 4 * pA ≤ SA.2.2.2.2.1 + 4 * p) → (m ≤ 4 * p + 9 ∧ N ≤ 4 * p + 9) → (cnt ≤ 15 ∧ (bl = none → cnt = 0)) → PS (fun Q => zb_X5_parts_p24 D.1 L Q f bl (i_ cnt) w) (fun Q => zw E' (L' - 21) kt_M503 [.ref (w_adr E'.2.1 12 0)] t (wk1 (fun v w1 => wle t w1 → ptB E' L' Q bl.isNone fT nl (i_ cnt) v w1) (fun e w => Q (.inr e) w))) (PR D K [] [] SA pA 0 true true 0 (GPA D K SA pA)) := by
  have hle : Unit → lex 1 ≤ L - 22 := fun _ => by unfold lex at *; omega
  have hle' : Unit → lex 1 ≤ L' - 21 - 22 := fun _ => by unfold lex at *; omega
  have hL9 : 2000 ≤ L := by unfold lex at hL; omega
  have hL9' : 2000 ≤ L' := by unfold lex at hL'; omega
  clear hL hL'
  intro g
  induction g with
  | zero =>
    intro w t al m N nu tn p cnt f fT bl nl hi hg _ H
    have := H.1.ca.2.2
    omega
  | succ g ih =>
    intro w t al m N nu tn p cnt f fT bl nl hi hg hG H hQ hhi hb0 hf0 hln hbd hmN hcnt
    have hpl := H.1.ta.lt
    have hal := H.alive
    have hSA : SA.2.2.2.2.1 ≤ N := H.2.2.1.2.2.1
    have hΦ : STP D K SA true 0 (PR D K [] [] SA pA 0 true true 0 (GPA D K SA pA)) := STP.ofPR
    refine PS_r (fun Q h => zt_X13_part_p0 (by omega) h) ?_
    simp only [zb_X5_parts_p24, zb_X13_part_p0]
    refine PS_cn (by omega) (by omega) H (fun b1 al2 w2 H2 HF2 O2 hb2 hb20 => ?_)
    have hQ2 := hQ.fr H.1 HF2 (fun a h => absurd h List.not_mem_nil) (fun a h => absurd h List.not_mem_nil)
    have hbb : bl ≠ some b1 := by
      rcases hQ.nlb H.1 with ⟨e, -⟩ | ⟨b, n, e, -, g1, -⟩
      · rw [e]; simp
      · rw [e]
        intro e2
        cases e2
        exact hb2 g1.1
    refine PSq_behind (by omega) H2 hQ2 hb0 (LKO.mk O2.1.1.1 (O2.1.1.2 rfl) hb20) (fun w3 hw3 H3 hQ3 => ?_)
    have O3 := O2.bh hw3 hbb
    have hfS : ∀ {f' : Option Nat} {X Y : Prop}, ((bl = none ∧ f' = some b1 ∧ X) ∨ (bl ≠ none ∧ f' = f ∧ Y)) → HDN SA (w3, t, al2, m + 1, N, nu, tn) f' := fun hf' => HDN.stf (hf0.fr HF2) hQ2 O2.1.1.1 O2.1.2 (O2.1.1.2 rfl) hb20 hbb hw3 hf'
    have hnb := hQ3.nlb H3.1
    have H3' : HY D K [b1] [] (w3, t, al2, m + 1, N, nu, tn) (w3, t, al2, m + 1, N, nu, tn) p p 0 0 := ⟨H3.1, FR.rf H3.1.mle⟩
    have hΦ1 := hΦ.up H3.2
    have hb1m : ∀ {X : Prop}, X → b1 ∈ [b1] := fun _ => List.mem_singleton_self b1
    refine PS_rand (by rw [H3.tpos, H3.l9.1]; exact i_inb' (by omega) (by omega)) ?_
    simp only [H3.tpos, i_nat' (show p < 2147483648 by omega), H3.1.r9]
    refine PS_r1 (fun Q hq => t_node (by omega) H3.kt H3.tN (by omega) hq) ?_
    simp only [i_nat' (show N < 2147483648 by omega)]
    have HB := H3'.tnd (x := 40) (l := i_ (kln K p))
    have T1 : OWt (w3, nd3 t N 40 (i_ (kln K p)), al2, m + 1, N + 1, nu, tn) N _ := OWt.new (x := 40) (l := i_ (kln K p)) H3'
    have O1 : OWl (w3, nd3 t N 40 (i_ (kln K p)), al2, m + 1, N + 1, nu, tn) b1 _ _ := O3.tt
    refine PS_r1 (fun Q hq => t_look (by omega) HB.1.ta hq) ?_
    have hkr := HB.1.ta.kr HB.1.krg
    have e42v : (i_ (kk K p) = (42 : Int32)) = (kk K p = 42) := i_eqk (show -1000 ≤ kk K p ∧ kk K p ≤ 1000 by omega) (show (-1000 : Int) ≤ 42 by decide) (by decide)
    simp only [e42v]
    -- from the type on
    have tail : ∀ (f' : Option Nat) (fT' : Int32) (w5 t5 : wS) (al5 : List Nat) (m5 N5 : Nat) (nu5 : pNz) (tn5 : Nat → Prop) (p5 : Nat) (fi5 : Nat → Int32) (fp5 : Nat → Option Nat) (ft5 : Nat → Int32) (r5 : Nat), ((bl = none ∧ f' = some b1 ∧ fT' = i_ N) ∨ (bl ≠ none ∧ f' = f ∧ fT' = fT)) → HY D K [b1] [] (w3, t, al2, m + 1, N, nu, tn) (w5, t5, al5, m5, N5, nu5, tn5) p5 p5 0 0 → OWl (w5, t5, al5, m5, N5, nu5, tn5) b1 fi5 fp5 → OWt (w5, t5, al5, m5, N5, nu5, tn5) N ft5 → kln K p5 = kln K p → (N + 1 ≤ N5 ∧ p ≤ p5 ∧ m5 + 4 * p ≤ m + 1 + 4 * p5 ∧ N5 + 4 * p ≤ N + 1 + 4 * p5) → ((fi5 2 = i_ (kln K p) ∧ fi5 12 = 0 ∧ fp5 7 = none ∧ fp5 0 = some (D.1.1.1 30)) ∧ (ft5 26 = i_ 40 ∧ ft5 27 = i_ (kln K p) ∧ ft5 32 = -1)) → ((fp5 3 = none ∧ ft5 28 = -1 ∧ ft5 34 = 0) ∨ (ECz (vw w5 t5) tn5 nu5 r5 (oE K (kln K p) 0 p p5) 0 (fp5 3) (ft5 28) ∧ ft5 34 = 1)) → PS (fun Q => zb_X5_parts_p72 D.1 L Q f' (some b1) (i_ cnt + 1) w5) (fun Q => zb_X13_part_p62 E' (L' - 21) (wk1 (fun v w1 => wle t w1 → ptB E' L' Q bl.isNone fT nl (i_ cnt) v w1) (fun e w => Q (.inr e) w)) (i_ N) t5) (PR D K [] [] SA pA 0 true true 0 (GPA D K SA pA)) := by
      intro f' fT' w5 t5 al5 m5 N5 nu5 tn5 p5 fi5 fp5 ft5 r5 hf' H5 O5 T5 hln5 hbd5 hfi hsz
      have hpl5 := H5.1.ta.lt
      simp only [zb_X5_parts_p72, zb_X13_part_p62]
      refine PSg_tyw hΦ1 (by omega) (by omega) (by omega) H5 (by omega) T5.1.2 (fun h => absurd h (Nat.lt_irrefl _)) (fun c hc hTy H6 => ?_) (fun c w' hc hd => ?_)
      · have n5 : kk K p5 ≠ 75 ∧ kk K p5 ≠ 74 := by
          have hk3 : kk K p5 = 12 ∨ kk K p5 = 4 ∨ kk K p5 = 3 := by
            simpa only [bTy, Bool.or_eq_true, decide_eq_true_eq] using hTy
          omega
        have hp1 := H5.p1 n5.1
        have hln1 := H5.1.ln hp1 n5.2
        have O6 : OWl (nx w5 p5, nx3 (ws_a t5 12 0 33 N (i_ c)) p5, al5, m5, N5, nu5, tn5) b1 _ _ := O5.w4 (j := 3) (v := i_ (p5 + 1 : Nat)) (.inl (by decide))
        have T6 : OWt (nx w5 p5, nx3 (ws_a t5 12 0 33 N (i_ c)) p5, al5, m5, N5, nu5, tn5) N _ := T5.si (k := 33) (v := i_ c)
        refine PS_lex b1 rfl (PS_land (O6.wl H6.1) ?_)
        have H7 := H6.wi (k := 8) (v := i_ (c + 1 : Nat)) O6.1.2 hb1m
        have O7 := O6.si (k := 8) (v := i_ (c + 1 : Nat))
        have T7 : OWt (ws_i (nx w5 p5) 14 b1 8 (i_ (c + 1 : Nat)), nx3 (ws_a t5 12 0 33 N (i_ c)) p5, al5, m5, N5, nu5, tn5) N _ := T6
        have hv7 : VWa (vw w5 t5) (vw (ws_i (nx w5 p5) 14 b1 8 (i_ (c + 1 : Nat))) (nx3 (ws_a t5 12 0 33 N (i_ c)) p5)) tn5 nu5 := VWa.mk (b := b1) (n := N) (fun a h k => by simp only [nx, Rii, Rgi, Rpi, Rai, Rbi, Rri, Rni, Rdi, Roi, Rti, Rzi, RCi, RSi, Rip, Rgp, Rpp, Rap, Rbp, Rrp, Rnp, Rdp, Rop, Rtp, Rzp, RCp, RSp]; simp [h]) (fun y h k => by simp only [nx3, nd3, Rii, Rgi, Rpi, Rai, Rbi, Rri, Rni, Rdi, Roi, Rti, Rzi, RCi, RSi, Ria, Rga, Rpa, Raa, Rba, Rra, Rna, Rda, Roa, Rta, Rza, RCa, RSa]; simp [h]) rfl O5.1.2 T5.1.2
        have hsz7 : (fp5 3 = none ∧ ft5 28 = -1 ∧ ft5 34 = 0) ∨ (ECz (vw (ws_i (nx w5 p5) 14 b1 8 (i_ (c + 1 : Nat))) (nx3 (ws_a t5 12 0 33 N (i_ c)) p5)) tn5 nu5 (p5 + 1 - p - 1) (some (i_ (kln K p)), 0, p5 + 1 - p - 1, kln K, p, p5 + 1) 0 (fp5 3) (ft5 28) ∧ ft5 34 = 1) := hsz.elim .inl (fun h => .inr ⟨h.1.up hv7 (fun _ _ h => h) (fun _ h => h) (Nat.le_refl _), h.2⟩)
        have hPI : PND D (ws_i (nx w5 p5) 14 b1 8 (i_ (c + 1 : Nat)), nx3 (ws_a t5 12 0 33 N (i_ c)) p5, al5, m5, N5, nu5, tn5) N N5 (oE K (kln K pA) 40 p (p5 + 1)) b1 N 0 := PND.mk1 (kd := 40) O7 T7 (Nat.le_refl _) (by omega) (LFz.k40 O7 T7 (hfi.1.1.trans hfi.2.2.1.symm) hfi.2.1 ⟨rfl, hfi.1.2.2.2, ⟨c, hc, rfl, rfl⟩, by
          show (fp5 3 = none ∧ ft5 28 = -1 ∧ ft5 34 = 0) ∨ (ECz _ _ _ _ (some (ft5 27), _) 0 (fp5 3) (ft5 28) ∧ ft5 34 = 1)
          rw [hfi.2.2.1]
          exact hsz7⟩ hfi.2.2.1) hfi.1.2.1 (fun l e => by cases e; exact hfi.2.2.1.trans (by rw [hln])) hfi.2.1
        have hXI := NXo.mk1 O7 T7 hfi.1.2.2.1 hfi.2.2.2
        have HZ : HY D K [] [] SA (ws_i (nx w5 p5) 14 b1 8 (i_ (c + 1 : Nat)), nx3 (ws_a t5 12 0 33 N (i_ c)) p5, al5, m5, N5, nu5, tn5) (p5 + 1) (p5 + 1) 0 0 := ⟨H7.1, H3.2.tr H7.2 (fun a ha hin => absurd hin (by rw [List.mem_singleton.mp ha]; exact hb20)) (fun n h => absurd h List.not_mem_nil)⟩
        have hQZ := hQ3.fr H3.1 H7.2 (fun a ha => by rw [List.mem_singleton.mp ha]; exact ⟨O3.1.2, hbb⟩) (fun a h => absurd h List.not_mem_nil)
        have h26 : is40 (w_a (nx3 (ws_a t5 12 0 33 N (i_ c)) p5) 12 0 26 N) := (T7.2 26 rfl).trans hfi.2.1
        have hfE := (hfS hf').fr H7.2
        -- behind the chain
        have fin : ∀ t8 nu8 tn8, HY D K [] [] SA (ws_i (nx w5 p5) 14 b1 8 (i_ (c + 1 : Nat)), t8, al5, m5, N5, nu8, tn8) (p5 + 1) (p5 + 1) 0 0 → LQ is40 D (ws_i (nx w5 p5) 14 b1 8 (i_ (c + 1 : Nat)), t8, al5, m5, N5, nu8, tn8) SA.2.2.2.2.1 N5 (oE K (kln K pA) 40 pA (p5 + 1)) f' fT' (some b1) (i_ N) none 0 → PS (fun Q => zw D.1 (L - 21) kt_M183 [.ref (w_adr D.1.2.1 4 0), .int 41] (ws_i (nx w5 p5) 14 b1 8 (i_ (c + 1 : Nat))) (wk1 (fun v5 w4 => wle (ws_i (nx w5 p5) 14 b1 8 (i_ (c + 1 : Nat))) w4 → (if v5 = 0 then zL_X5_parts_p9 D.1 L Q f' (some b1) v5 (i_ cnt + 1) w4 else zw D.1 (L - 20) kt_M195 [.ref (w_adr D.1.2.1 4 0)] w4 (wk0 (fun w6 => wle w4 w6 → zL_X5_parts_p9 D.1 L Q f' (some b1) v5 (i_ cnt + 1) w6) (fun e w => Q (.inr e) w)))) (fun e w => Q (.inr e) w))) (fun Q => zL_X13_partsOf_p9 E' L' Q fT' (i_ N) (i_ cnt + 1) t8) (PR D K [] [] SA pA 0 true true 0 (GPA D K SA pA)) := by
          intro t8 nu8 tn8 H8 hQ8
          have hpl8 := H8.1.ta.lt
          have hal8 := H8.alive
          rw [i_1, i_add, cN1]
          refine PS_r (fun Q h => zt_X13_partsOf_p9 (by omega) h) ?_
          simp only [zb_X13_partsOf_p9]
          refine PS_l1 (fun Q hq => c_is (c := 41) (v := 45) (by omega) H8.1.ca rfl (by unfold wcd; omega) hq) ?_
          by_cases h45 : kk K (p5 + 1) = 45
          · rw [decide_eq_true h45]
            refine PS_ln (by decide) ?_
            have e16 : (i_ ((cnt + 1 : Nat) : Int) = (16 : Int32)) = (cnt + 1 = 16) := by
              rw [show (16 : Int32) = i_ 16 from rfl]
              exact propext ((i_eq (by omega) (by omega)).trans (by omega))
            have hp2 := H8.p1 (by rw [h45]; decide)
            have hln2 := H8.1.ln hp2 (by rw [h45]; decide)
            refine PS_r1 (fun Q hq => t_may (v := 45) (by omega) H8.1.ta H8.1.krg rfl ⟨by decide, by decide⟩ (fun _ => hq) (fun e => absurd h45 e)) (PS_rn (by decide) ?_)
            refine PSg_nxl hΦ (by omega) H8 (by rw [h45]; decide) (fun H9 => ?_) (fun w' hd h76 => ?_)
            · have HA := H9.tnx (by rw [h45]; decide) hal8
              refine PS_l (fun Q h => zt_X5_parts_p9 (by omega) h) ?_
              simp only [zb_X5_parts_p9]
              refine PS_ln (by decide) ?_
              simp only [e16]
              by_cases hc16 : cnt + 1 = 16
              · refine PS_ln (not_not_intro hc16) (PS_rn (not_not_intro hc16) ?_)
                refine PSg_two hΦ (by omega) HA (fun w' e => ?_)
                subst e
                exact p_two (by omega) HA HA.alive
              · refine PS_lp hc16 (PS_rp hc16 ?_)
                have F9 := ((show HY D K [] [] (ws_i (nx w5 p5) 14 b1 8 (i_ (c + 1 : Nat)), t8, al5, m5, N5, nu8, tn8) (ws_i (nx w5 p5) 14 b1 8 (i_ (c + 1 : Nat)), t8, al5, m5, N5, nu8, tn8) (p5 + 1) (p5 + 1) 0 0 from ⟨H8.1, FR.rf H8.1.mle⟩).cn (by rw [h45]; decide) HA.alive).tnx (by rw [h45]; decide) hal8
                have hQA := hQ8.fr H8.1 F9.2 (fun a h => absurd h List.not_mem_nil) (fun a h => absurd h List.not_mem_nil)
                have hx := ih _ _ al5 m5 N5 nu8 tn8 (p5 + 1 + 1) (cnt + 1) f' fT' (some b1) (i_ N) N5 (by omega) (by omega) HA hQA.wk (Nat.le_refl _) (fun a e => by cases e; exact hb20) hfE (by rw [hln2, hln1, hln5, hln]) ⟨by omega, by omega, by omega⟩ ⟨by omega, by omega⟩ ⟨by omega, fun e => by cases e⟩
                exact hx
            · have hd2 := H8.dd hd (by omega) (by rw [h45]; decide) hal8 h76
              simp only [e16]
              by_cases hc16 : cnt + 1 = 16
              · exact eS_n (not_not_intro hc16) (dd_stop (no := 2) hd2 (by omega))
              · refine eS_p hc16 (dd_part (N := N5) (by omega) hd2 ?_ (by omega))
                unfold nx3
                rw [Rii, if_neg (by decide)]
                exact H8.tN
          · rw [decide_eq_false h45]
            refine PS_lp rfl ?_
            refine PS_r1 (fun Q hq => t_may (v := 45) (by omega) H8.1.ta H8.1.krg rfl ⟨by decide, by decide⟩ (fun e => absurd e h45) (fun _ => hq)) (PS_rp rfl ?_)
            refine PS_l (fun Q h => zt_X5_parts_p9 (by omega) h) ?_
            simp only [zb_X5_parts_p9]
            refine PS_lp rfl ?_
            obtain ⟨nu', tn', k, HD, ⟨l, h1, h2, h3, h4⟩, h5⟩ := hQ8.done H8 (fun a e => by cases e; exact hb20) (Nat.le_refl _)
            exact PS_ret (.inr ⟨f', fT', al5, m5, N5, nu', tn', p5 + 1, rfl, rfl, HD, ⟨by omega, by omega, by omega⟩, ⟨k, l, h1, h2, h3 (by simp), h4⟩, by rw [hln1, hln5, hln], hfE⟩)
        have hf2 := hf'
        refine PS_r (fun Q h => fun _ => h) ?_
        unfold ptB
        rcases hQZ.link HZ hPI hXI hbb hhi hSA (.inr rfl) hb0 (Nat.le_refl _) h26 hf' ⟨by omega, by omega⟩ ⟨by omega, by omega⟩ with ⟨e1, hQ9, -⟩ | ⟨n, nu', tn', ⟨e1, e1b, e1c, e1d, e1e⟩, H9, hQ9, hA9⟩
        · rcases hf2 with ⟨g1, g2, g3⟩ | ⟨g1, g2, g3⟩
          · rw [e1, hcnt.2 e1]
            refine PS_rp rfl ?_
            have h := fin _ nu5 tn5 HZ hQ9
            rw [hcnt.2 e1, g3] at h
            exact h
          · exact absurd e1 g1
        · rcases hf2 with ⟨g1, g2, g3⟩ | ⟨g1, g2, g3⟩
          · exact absurd g1 e1e
          · refine PS_rn (by cases bl <;> simp at e1e ⊢) ?_
            rw [e1]
            refine PS_r1 (fun Q hq => t_chain (by omega) e1d HZ.1.tl.2.2.2.2.2.2.1 hq) ?_
            have h := fin _ nu' tn' H9 hQ9
            rw [g3] at h
            exact h
      · unfold ptB
        refine eS_l (fun Q h => fun _ => h) ?_
        rcases hnb with ⟨e1, -, -, -, -⟩ | ⟨b, n, e1, -, -, -, n0, e4, e5⟩
        · refine eS_p (by rw [e1]; rfl) ?_
          exact dd_pt9 (a := N) ⟨rfl, by omega, by omega⟩ (by omega) hd
        · have e5 : n0 < N := e5
          refine eS_n (by rw [e1]; simp) ?_
          refine eS_chain (by omega) hd.2.2.tl.2.2.2.2.2.2.1 hQ.nl (fun t' ht' => ?_)
          exact dd_pt9 (a := n0) ⟨e4, by omega, by omega⟩ (by omega) (hd.ch ht')
    obtain ⟨f', fT', hf', he⟩ : ∃ f' fT', ((bl = none ∧ f' = some b1 ∧ fT' = i_ N) ∨ (bl ≠ none ∧ f' = f ∧ fT' = fT)) ∧ ∀ Q w3, zb_X5_parts_p45 D.1 L Q f' (some b1) (i_ cnt + 1) w3 → (if ¬ f = none then zb_X5_parts_p45 D.1 L Q f (some b1) (i_ cnt + 1) w3 else zb_X5_parts_p45 D.1 L Q (some b1) (some b1) (i_ cnt + 1) w3) := by
      rcases hnb with ⟨e1, e2, e3, e4, e5⟩ | ⟨b, n, e1, e2, g1, ⟨f0, g2⟩, n0, g3, g4⟩
      · exact ⟨some b1, i_ N, .inl ⟨e1, rfl, rfl⟩, fun Q w3 h => by rw [if_neg (by rw [e3]; simp)]; exact h⟩
      · exact ⟨f, fT, .inr ⟨by rw [e1]; simp, rfl, rfl⟩, fun Q w3 h => by rw [if_pos (by rw [g2]; simp)]; exact h⟩
    refine PS_l (fun Q h => he Q _ h) ?_
    simp only [zb_X5_parts_p45]
    refine PS_l1 (fun Q hq => c_is (c := 38) (v := 42) (by omega) HB.1.ca rfl (by unfold wcd; omega) hq) ?_
    by_cases h42 : kk K p = 42
    · rw [decide_eq_true h42]
      refine PS_ln (by decide) (PS_rn (not_not_intro h42) ?_)
      have hp1 := HB.p1 (by rw [h42]; decide)
      have hln1 := HB.1.ln hp1 (by rw [h42]; decide)
      refine PSg_enw (o := 0) hΦ1 (by omega) (by omega) (by omega) HB (by rw [h42]; decide) (fun _ H1 => ?_) (fun w' hd => ?_)
      · have Oa : OWl (nx (ws_i w3 4 0 4 (i_ (0 + 1 : Nat))) p, nx3 (ws_i (nd3 t N 40 (i_ (kln K p))) 12 0 38 (i_ (0 + 1 : Nat))) p, al2, m + 1, N + 1, nu, tn) b1 _ _ := (O1.w4 (k := 4) (j := 4) (v := i_ (0 + 1 : Nat)) (.inl (by decide))).w4 (k := 4) (j := 3) (v := i_ (p + 1 : Nat)) (.inl (by decide))
        have Ta : OWt (nx (ws_i w3 4 0 4 (i_ (0 + 1 : Nat))) p, nx3 (ws_i (nd3 t N 40 (i_ (kln K p))) 12 0 38 (i_ (0 + 1 : Nat))) p, al2, m + 1, N + 1, nu, tn) N _ := T1
        have hpl1 := H1.1.ta.lt
        refine PS_rand (by rw [H1.1.tl.2.2.2.2.2.2.2.2.1]; exact i_inb' (by omega) (by omega)) ?_
        have Hb := H1.ta (k := 34) (n := N) (v := 1) rfl Ta.1.2 (fun h => absurd h (Nat.lt_irrefl _))
        have Tb := Ta.si (k := 34) (v := 1)
        have Ob : OWl (nx (ws_i w3 4 0 4 (i_ (0 + 1 : Nat))) p, ws_a (nx3 (ws_i (nd3 t N 40 (i_ (kln K p))) 12 0 38 (i_ (0 + 1 : Nat))) p) 12 0 34 N 1, al2, m + 1, N + 1, nu, tn) b1 _ _ := Oa
        refine PSg_c11 hΦ1 Hb.2 Hb.1.krg (IH (L - 22) (L' - 21 - 22) _ _ _ _ _ _ _ (p + 1) (0 + 1) (hle ()) (hle' ()) Hb.1 (by omega) ⟨by omega, by omega⟩) (fun a h => absurd h List.not_mem_nil) (fun a h => absurd h List.not_mem_nil) (fun x v w6 t6 al6 m6 N6 nu6 tn6 p6 H6 HS6 hbd6 hgx => ?_) (fun v w6 t6 hv hv2 hd => ?_)
        · obtain ⟨b4, n4, rfl, rfl, hP6, hX6, hb4, hln6, hfk⟩ := hgx
          have hpl6 := H6.1.ta.lt
          have O6 := Ob.fr HS6.2 List.not_mem_nil
          have T6 := Tb.fr HS6.2 List.not_mem_nil
          have hn4 := hP6.lt
          have hN6 : N + 1 ≤ N6 := HS6.2.2.1.2.2.1
          obtain ⟨x7, tn7, r7, H7, hC7, hm3, hm4, hn7⟩ := H6.fin hP6 (fun e => hb4 (Hb.2.sub e)) (Nat.le_succ N)
          have hbb1 : b1 ≠ b4 := fun e => hb4 (by rw [← e]; exact Ob.1.1.1)
          have O7 := O6.fin (x := x7) (tn' := tn7) hbb1
          have T7 := T6.fin (nu' := nuU nu6 b4 x7) hm4 (.inl (Nat.lt_succ_self N))
          refine PS_lex b1 rfl (PS_land (O7.wl H7.1) ?_)
          refine PS_rand (by rw [H7.1.tl.2.2.1]; exact i_inb' (by omega) (by omega)) ?_
          have H8 := (H7.wp (k := 3) (v := some b4) O7.1.2 hb1m (LKO.mk hP6.bm.1 hX6.2.2 (fun e => hb4 (Hb.2.sub e)))).ta (k := 28) (n := N) (v := i_ n4) rfl T7.1.2 (fun h => absurd h (Nat.lt_irrefl _))
          have O8 : OWl (ws_p w6 14 b1 3 (some b4), ws_a t6 12 0 28 N (i_ n4), al6, m6, N6, nuU nu6 b4 x7, tn7) b1 _ _ := O7.sp (k := 3) (v := some b4)
          have T8 : OWt (ws_p w6 14 b1 3 (some b4), ws_a t6 12 0 28 N (i_ n4), al6, m6, N6, nuU nu6 b4 x7, tn7) N _ := T7.si (k := 28) (v := i_ n4)
          have hv8 : VWa (vw w6 t6) (vw (ws_p w6 14 b1 3 (some b4)) (ws_a t6 12 0 28 N (i_ n4))) tn7 (nuU nu6 b4 x7) := VWa.mk (b := b1) (n := N) (fun a h k => by simp only [nx, Rii, Rgi, Rpi, Rai, Rbi, Rri, Rni, Rdi, Roi, Rti, Rzi, RCi, RSi, Rip, Rgp, Rpp, Rap, Rbp, Rrp, Rnp, Rdp, Rop, Rtp, Rzp, RCp, RSp]; simp [h]) (fun y h k => by simp only [nx3, nd3, Rii, Rgi, Rpi, Rai, Rbi, Rri, Rni, Rdi, Roi, Rti, Rzi, RCi, RSi, Ria, Rga, Rpa, Raa, Rba, Rra, Rna, Rda, Roa, Rta, Rza, RCa, RSa]; simp [h]) rfl O7.1.2 T7.1.2
          refine PSg_lvw (o := 0) (c := 39) (v := 43) hΦ1 (by omega) (by omega) (by omega) H8 rfl (by unfold wcd; omega) rfl (fun h43 H9 => ?_) (fun w' hd => ?_)
          · have hp2 := H8.p1 (by rw [h43]; decide)
            have hln2 := H8.1.ln hp2 (by rw [h43]; decide)
            have hpl9 := H9.1.ta.lt
            have r38 : w_i (nx3 (ws_a t6 12 0 28 N (i_ n4)) p6) 12 0 38 = i_ (0 + 1 : Nat) := H9.1.2.1.2.2.2.1
            rw [r38, show (i_ (0 + 1 : Nat) : Int32) - 1 = i_ (0 : Nat) from rfl]
            have H10 := H9.to (u := 0) (by omega)
            have O10 : OWl (ws_i (nx (ws_p w6 14 b1 3 (some b4)) p6) 4 0 4 (i_ (0 : Nat)), ws_i (nx3 (ws_a t6 12 0 28 N (i_ n4)) p6) 12 0 38 (i_ (0 : Nat)), al6, m6, N6, nuU nu6 b4 x7, tn7) b1 _ _ := (O8.w4 (k := 4) (j := 3) (v := i_ (p6 + 1 : Nat)) (.inl (by decide))).w4 (k := 4) (j := 4) (v := i_ (0 : Nat)) (.inl (by decide))
            have T10 : OWt (ws_i (nx (ws_p w6 14 b1 3 (some b4)) p6) 4 0 4 (i_ (0 : Nat)), ws_i (nx3 (ws_a t6 12 0 28 N (i_ n4)) p6) 12 0 38 (i_ (0 : Nat)), al6, m6, N6, nuU nu6 b4 x7, tn7) N _ := T8
            have hv10 : vw (ws_i (nx (ws_p w6 14 b1 3 (some b4)) p6) 4 0 4 (i_ (0 : Nat))) (ws_i (nx3 (ws_a t6 12 0 28 N (i_ n4)) p6) 12 0 38 (i_ (0 : Nat))) = vw (ws_p w6 14 b1 3 (some b4)) (ws_a t6 12 0 28 N (i_ n4)) := by
              rw [vw_4]
              exact vw_n2 (q := p6)
            rw [hln1] at hC7
            exact tail f' fT' _ _ _ _ _ _ _ (p6 + 1) _ _ _ (r7 + 1) hf' H10 O10 T10 (by rw [hln2, hln6, hln1]) ⟨by omega, by omega, by omega, by omega⟩ ⟨⟨rfl, rfl, rfl, rfl⟩, rfl, rfl, rfl⟩ (.inr ⟨by rw [hv10]; exact ⟨b4, n4, rfl, rfl, hC7.up hv8 (fun _ _ h => h) (fun _ h => h) (Nat.le_refl _)⟩, rfl⟩)
          · exact dd_takeType (by omega) hd.to
        · refine eS_and (by rw [hd.2.2.tl.2.2.1]; exact i_inb' (by omega) (by omega)) ?_
          exact dd_want (v := 43) (hd.ta rfl) (by omega) rfl (by omega)
      · refine eS_and (by rw [hd.2.2.tl.2.2.2.2.2.2.2.2.1]; exact i_inb' (by omega) (by omega)) ?_
        exact dd_e (hd.ta rfl) (by omega)
    · rw [decide_eq_false h42]
      refine PS_lp rfl (PS_rp h42 ?_)
      exact tail f' fT' _ _ _ _ _ _ _ p _ _ _ 0 hf' HB O1 T1 rfl ⟨by omega, by omega, by omega, by omega⟩ ⟨⟨rfl, rfl, rfl, rfl⟩, rfl, rfl, rfl⟩ (.inl ⟨rfl, rfl, rfl⟩)
theorem p_parts {G : Nat} (IH : EXq D K E' G) (hL : lex 0 + 100 ≤ L) (hL' : lex 0 + 100 ≤ L') (hS : SY D K (w, t, al, m, N, nu, tn) p p 0 0) (hg : K.length ≤ p + 1 + G) (hB : m ≤ 4 * p + 9 ∧ N ≤ 4 * p + 9) :
    PW w t (fun Q => zw D.1 L kt_M200 [.ref (w_adr D.1.2.1 4 0)] w Q) (fun Q => zw E' L' kt_M507 [.ref (w_adr E'.2.1 12 0)] t Q) (PR D K [] [] (w, t, al, m, N, nu, tn) p 0 true true 0 (GPA D K (w, t, al, m, N, nu, tn) p)) := by
  have hL9 : 2000 ≤ L := by unfold lex at hL; omega
  have hL9' : 2000 ≤ L' := by unfold lex at hL'; omega
  have hpl := hS.ta.lt
  have H : HY D K [] [] (w, t, al, m, N, nu, tn) (w, t, al, m, N, nu, tn) p p 0 0 := ⟨hS, FR.rf hS.mle⟩
  refine PW_of' (fun Q h => zt_X5_parts_p0 (by omega) h) (fun Q h => zt_X13_partsOf_p0 (by omega) h) ?_
  simp only [zb_X5_parts_p0, zb_X13_partsOf_p0]
  refine PS_l (fun Q h => zt_X5_parts_p9 (by omega) h) ?_
  simp only [zb_X5_parts_p9]
  refine PS_ln (by decide) (PS_lp (by decide) ?_)
  have h := p_pt_loop (SA := (w, t, al, m, N, nu, tn)) (pA := p) IH hL hL' K.length w t al m N nu tn p 0 none (-1) none (-1) N (by omega) hg H LQ.nil (Nat.le_refl _) (fun a e => by cases e) (fun a e => by cases e) rfl ⟨Nat.le_refl _, Nat.le_refl _, Nat.le_refl _⟩ hB ⟨by omega, fun _ => rfl⟩
  simp only [ptB, Option.isNone_none, if_true] at h
  exact h
end PTS
