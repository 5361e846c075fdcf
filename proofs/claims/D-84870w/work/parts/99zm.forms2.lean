/-! ===== PARSERS, part 56: formals ===== -/
def is42 (x : Int32) : Prop := x = 42
/-- formals that are read -/
def GFM (D : pD) (K : pK) (S : pS) (p : Nat) : pG := fun x v S2 p2 => (∃ k, SKz (vw S2.1 S2.2.1) S2.2.2.2.2.2.2 S2.2.2.2.2.2.1 k (oE K (kln K p) 42 p p2) 0 42 x v) ∧ kln K p2 = kln K p ∧ HDN S S2 x ∧ ∃ v0 : Int, v = i_ v0 ∧ -1 ≤ v0 ∧ v0 < 14000
section FML
variable {ex et : List Nat} {S S' S0 S1z SA : pS} {D : pD} {K : pK} {p p0 q o o' oA dl m N n n2 b b2 lo hi lo2 hi2 r d d2 dd g pA pB nP bP : Nat} {w t w' : wS} {al : List Nat} {nu : pNz} {tn : Nat → Prop} {E E' : zE} {L L' : Nat} {ol : pOL} {f : Option Nat} {fT c : Int32} {Q : kx_Rs → wS → Prop} {fi : Nat → Int32} {fp : Nat → Option Nat} {ft : Nat → Int32} {bl br : Bool} {lo1 : Int} {Φ : kx_Rs → wS → kx_Rs → wS → Prop} {gt : pQ} {G : pG} {x1 x2 : Option Nat} {x4 y1 y2 y3 : Int32}
theorem PND.ksp (h : PND D S lo hi ol b n d) (h42 : w_a S.2.1 12 0 26 n = 42) : KSP D (vw S.1 S.2.1) S.2.2.2.2.2.1 (w_i S.1 14 b 8) (w_p S.1 14 b 5) (w_i S.1 14 b 13) (w_i S.1 14 b 14) (w_i S.1 14 b 15) (w_a S.2.1 12 0 33 n) (w_a S.2.1 12 0 34 n) := by
  obtain ⟨hh, own, c, m', r, h1, h2, h3, h4, h5, h6, h7⟩ := h
  cases c with
  | cons x c =>
    exfalso
    have h8 : w_a S.2.1 12 0 26 n = 58 := h1.2.1
    rw [h42] at h8
    exact absurd h8 (by decide)
  | nil =>
    have h1 : n = m' := h1
    subst h1
    obtain ⟨-, kd, g2, g3, g4⟩ := h4
    have g2 : w_a S.2.1 12 0 26 n = i_ kd := g2
    rw [h42, show (42 : Int32) = i_ (42 : Nat) from rfl] at g2
    have hk : 42 = kd := by
      have := (i_eq (show -2147483648 ≤ ((42 : Nat) : Int) ∧ ((42 : Nat) : Int) < 2147483648 by omega) (show -2147483648 ≤ (kd : Int) ∧ (kd : Int) < 2147483648 by omega)).mp g2
      omega
    subst hk
    exact g4.2.2.2.2
theorem dd_fm36 (hL' : 1100 ≤ L') (h : DDs D K S0 w' t) (hN0 : w_i t 12 0 25 = i_ N) (hN : N + 1 ≤ 11000) : eS (fun Q => zb_X13_formals_p36 E' L' Q y1 y2 y3 t) (fun r' t' => TLP D K S0.1 S0.2.1 br lo1 w' r' t') := by
  have hT := h.2.2.1
  have hp := hT.lt
  obtain ⟨l7, l8, l9, l10⟩ := hT.1.1.1
  simp only [zb_X13_formals_p36]
  by_cases h8 : y3 = 8
  · exact eS_n (not_not_intro h8) (dd_stop (no := 2) h (by omega))
  · refine eS_p h8 (eS_and (by rw [hT.2.1, l9]; exact i_inb' (by omega) (by omega)) ?_)
    refine eS_1 (fun Q hq => t_node (by omega) hT.1.1 hN0 (by omega) hq) ?_
    have hd := h.nd hN (x := 42) (l := w_a t 12 0 9 (w_i t 12 0 35).toNatClampNeg)
    refine eS_1 (fun Q hq => t_look (by omega) hd.2.2.1 hq) ?_
    rw [hd.2.2.2.1]
    refine eS_p (by decide) ?_
    simp only [zb_X13_formals_p107]
    refine dd_may0 (v := 33) hd (by omega) rfl (by omega) (eS_p rfl ?_)
    refine eS_1 (fun Q hq => t_look (by omega) hd.2.2.1 hq) ?_
    rw [hd.2.2.2.1]
    exact eS_p (by decide) (dd_fty (by omega) hd)
theorem dd_fm10 {nl y3 : Int32} {a : Int} (ha : y1 = i_ a ∧ -1 ≤ a ∧ a < 14000) (hL' : 1100 ≤ L') (h : DDs D K S0 w' t) (hN0 : w_i t 12 0 25 = i_ N) (hN : N + 1 ≤ 11000) : eS (fun Q => zL_X13_formals_p10 E' L' Q y1 nl y3 t) (fun r' t' => TLP D K S0.1 S0.2.1 br lo1 w' r' t') := by
  refine eS_l (fun Q h => zt_X13_formals_p10 (by omega) h) ?_
  simp only [zb_X13_formals_p10, zb_X13_formals_p219]
  refine eS_ifb ?_ ?_
  · refine dd_may0 (v := 44) h (by omega) rfl (by omega) (eS_p rfl ?_)
    exact dd_want (v := 41) h (by omega) rfl (by omega)
  · refine eS_1 (fun Q hq => t_look (by omega) h.2.2.1 hq) ?_
    rw [h.2.2.2.1]
    exact eS_n (by decide) (dd_fm36 hL' h hN0 hN)
theorem p_fm_loop (hL : 1200 ≤ L) (hL' : 1200 ≤ L') : ∀ g w t al m N nu tn p (cnt : Nat) f fT bl nl hi, K.length ≤ p + g → HY D K [] [] S0 (w, t, al, m, N, nu, tn) p p 1 1 → LQ is42 D (w, t, al, m, N, nu, tn) S0.2.2.2.2.1 hi (oE K (kln K p0) 42 p0 p) f fT bl nl none 0 → hi ≤ N → (∀ a, bl = some a → a ∉ S0.2.2.1.take S0.2.2.2.1) → HDN S0 (w, t, al, m, N, nu, tn) f → kln K p = kln K p0 → (p0 < p ∧ m + 4 * p0 ≤ S0.2.2.2.1 + 4 * p ∧ N + 4 * p0 ≤ S0.2.2.2.2.1 + 4 * p) → (m ≤ 4 * p + 9 ∧ N ≤ 4 * p + 9) → cnt ≤ 7 → PS (fun Q => zb_X5_formals_p54 D.1 L Q f bl (i_ cnt) w) (fun Q => zb_X13_formals_p36 E' L' Q fT nl (i_ cnt) t) (PR D K [] [] S0 p0 0 true true (-1) (GFM D K S0 p0)) := by
  intro g
  induction g with
  | zero =>
    intro w t al m N nu tn p cnt f fT bl nl hi hg H
    have := H.1.ca.2.2
    omega
  | succ g ih =>
    intro w t al m N nu tn p cnt f fT bl nl hi hg H hQ hhi hb0 hf0 hln hbd hmN hcnt
    have hpl := H.1.ta.lt
    have hal := H.alive
    have hSA : S0.2.2.2.2.1 ≤ N := H.2.2.1.2.2.1
    have hΦ : STP D K S0 true (-1) (PR D K [] [] S0 p0 0 true true (-1) (GFM D K S0 p0)) := STP.ofPR
    simp only [zb_X5_formals_p54, zb_X13_formals_p36]
    have e8 : ∀ a : Nat, a < 100 → (i_ (a : Int) = (8 : Int32)) = (a = 8) := fun a ha => by
      rw [show (8 : Int32) = i_ 8 from rfl]
      exact propext ((i_eq (by omega) (by omega)).trans (by omega))
    refine PS_rp (by rw [e8 cnt (by omega)]; omega) ?_
    refine PS_cn (by omega) (by omega) H (fun b1 al2 w2 H2 HF2 O2 hb2 hb20 => ?_)
    have hQ2 := hQ.fr H.1 HF2 (fun a h => absurd h List.not_mem_nil) (fun a h => absurd h List.not_mem_nil)
    have hbb : bl ≠ some b1 := by
      rcases hQ.nlb H.1 with ⟨e, -⟩ | ⟨b, n, e, -, g1, -⟩
      · rw [e]; simp
      · rw [e]
        intro e2
        cases e2
        exact hb2 g1.1
    have hnb := hQ2.nlb H2.1
    have H2' : HY D K [b1] [] (w2, t, al2, m + 1, N, nu, tn) (w2, t, al2, m + 1, N, nu, tn) p p 1 1 := ⟨H2.1, FR.rf H2.1.mle⟩
    have hΦ1 := hΦ.up H2.2
    have hb1m : ∀ {X : Prop}, X → b1 ∈ [b1] := fun _ => List.mem_singleton_self b1
    refine PS_rand (by rw [H2.tpos, H2.l9.1]; exact i_inb' (by omega) (by omega)) ?_
    simp only [H2.tpos, i_nat' (show p < 2147483648 by omega), H2.1.r9]
    refine PS_r1 (fun Q hq => t_node (by omega) H2.kt H2.tN (by omega) hq) ?_
    have HB := H2'.tnd (x := 42) (l := i_ (kln K p))
    have T1 : OWt (w2, nd3 t N 42 (i_ (kln K p)), al2, m + 1, N + 1, nu, tn) N _ := OWt.new (x := 42) (l := i_ (kln K p)) H2'
    have O1 : OWc (w2, nd3 t N 42 (i_ (kln K p)), al2, m + 1, N + 1, nu, tn) b1 _ _ := O2.tt
    have hNb : N < 14000 := by omega
    refine PS_l1 (fun Q hq => c_isName (by omega) HB.1.ca hq) ?_
    refine PS_r1 (fun Q hq => t_look (by omega) HB.1.ta hq) ?_
    have hkr := HB.1.ta.kr HB.1.krg
    have e70v : (i_ (kk K p) = (70 : Int32)) = (kk K p = 70) := i_eqk (show -1000 ≤ kk K p ∧ kk K p ≤ 1000 by omega) (show (-1000 : Int) ≤ 70 by decide) (by decide)
    simp only [e70v]
    -- from the name on
    have tail : ∀ (w5 t5 : wS) (al5 : List Nat) (m5 : Nat) (nu5 : pNz) (p5 : Nat) (fi5 : Nat → Int32) (fp5 : Nat → Option Nat) (ft5 : Nat → Int32), HY D K [b1] [] (w2, t, al2, m + 1, N, nu, tn) (w5, t5, al5, m5, N + 1, nu5, tn) p5 p5 1 1 → OWc (w5, t5, al5, m5, N + 1, nu5, tn) b1 fi5 fp5 → OWt (w5, t5, al5, m5, N + 1, nu5, tn) N ft5 → kln K p5 = kln K p → (p ≤ p5 ∧ m5 + 4 * p ≤ m + 1 + 4 * p5) → ((fi5 2 = i_ (kln K p) ∧ fi5 12 = 0 ∧ fp5 7 = none ∧ fp5 0 = some (D.1.1.1 12)) ∧ (ft5 26 = i_ 42 ∧ ft5 27 = i_ (kln K p) ∧ ft5 32 = -1)) → KSP D (vw w5 t5) nu5 (fi5 8) (fp5 5) (fi5 13) (fi5 14) (fi5 15) (ft5 33) (ft5 34) → PS (fun Q => zb_X5_formals_p177 D.1 L Q f bl (i_ cnt) (some b1) w5) (fun Q => zb_X13_formals_p186 E' L' Q fT nl (i_ cnt) (i_ N) t5) (PR D K [] [] S0 p0 0 true true (-1) (GFM D K S0 p0)) := by
      intro w5 t5 al5 m5 nu5 p5 fi5 fp5 ft5 H5 O5 T5 hln5 hbd5 hfi hK
      have hpl5 := H5.1.ta.lt
      simp only [zb_X5_formals_p177, zb_X13_formals_p186, i_nat' (show N < 2147483648 by omega)]
      refine PS_lex b1 rfl (PS_land (O5.wl H5.1) ?_)
      have H5b := H5.wi (k := 1) (v := w_i w5 4 0 3) O5.1.2 hb1m
      have O5b := O5.si (k := 1) (v := w_i w5 4 0 3)
      have T5b : OWt (ws_i w5 14 b1 1 (w_i w5 4 0 3), t5, al5, m5, N + 1, nu5, tn) N ft5 := T5
      refine PSg_nmw hΦ1 (by omega) (by omega) (by omega) H5b (fun h70 H6 hnm => ?_) (fun w' hd => ?_)
      · have hp6 := H5b.p1 (by rw [h70]; decide)
        have hln6 := H5b.1.ln hp6 (by rw [h70]; decide)
        have O6 : OWc (nx (ws_i w5 14 b1 1 (w_i w5 4 0 3)) p5, nx3 t5 p5, al5, m5, N + 1, nu5, tn) b1 _ _ := O5b.w4 (j := 3) (v := i_ (p5 + 1 : Nat)) (.inl (by decide))
        have T6 : OWt (nx (ws_i w5 14 b1 1 (w_i w5 4 0 3)) p5, nx3 t5 p5, al5, m5, N + 1, nu5, tn) N _ := T5b
        have H7 := (H6.wi (k := 9) (v := w_a (ws_i w5 14 b1 1 (w_i w5 4 0 3)) 1 0 3 p5) O6.1.2 hb1m).ta (k := 30) (n := N) (v := w_a t5 12 0 8 p5) rfl T6.1.2 (fun h => absurd h (Nat.lt_irrefl _))
        have O7 : OWc (ws_i (nx (ws_i w5 14 b1 1 (w_i w5 4 0 3)) p5) 14 b1 9 (w_a (ws_i w5 14 b1 1 (w_i w5 4 0 3)) 1 0 3 p5), ws_a (nx3 t5 p5) 12 0 30 N (w_a t5 12 0 8 p5), al5, m5, N + 1, nu5, tn) b1 _ _ := O6.si (k := 9) (v := w_a (ws_i w5 14 b1 1 (w_i w5 4 0 3)) 1 0 3 p5)
        have T7 : OWt (ws_i (nx (ws_i w5 14 b1 1 (w_i w5 4 0 3)) p5) 14 b1 9 (w_a (ws_i w5 14 b1 1 (w_i w5 4 0 3)) 1 0 3 p5), ws_a (nx3 t5 p5) 12 0 30 N (w_a t5 12 0 8 p5), al5, m5, N + 1, nu5, tn) N _ := T6.si (k := 30) (v := w_a t5 12 0 8 p5)
        have hv7 : VWa (vw w5 t5) (vw (ws_i (nx (ws_i w5 14 b1 1 (w_i w5 4 0 3)) p5) 14 b1 9 (w_a (ws_i w5 14 b1 1 (w_i w5 4 0 3)) 1 0 3 p5)) (ws_a (nx3 t5 p5) 12 0 30 N (w_a t5 12 0 8 p5))) tn nu5 := VWa.mk (b := b1) (n := N) (fun a h k => by simp only [nx, Rii, Rgi, Rpi, Rai, Rbi, Rri, Rni, Rdi, Roi, Rti, Rzi, RCi, RSi, Rip, Rgp, Rpp, Rap, Rbp, Rrp, Rnp, Rdp, Rop, Rtp, Rzp, RCp, RSp]; simp [h]) (fun y h k => by simp only [nx3, nd3, Rii, Rgi, Rpi, Rai, Rbi, Rri, Rni, Rdi, Roi, Rti, Rzi, RCi, RSi, Ria, Rga, Rpa, Raa, Rba, Rra, Rna, Rda, Roa, Rta, Rza, RCa, RSa]; simp [h]) rfl O5.1.2 T5.1.2
        generalize hw7 : ws_i (nx (ws_i w5 14 b1 1 (w_i w5 4 0 3)) p5) 14 b1 9 (w_a (ws_i w5 14 b1 1 (w_i w5 4 0 3)) 1 0 3 p5) = w7 at H7 O7 T7 hv7
        refine PS_rand (by rw [H6.1.tl.2.2.2.2.1]; exact i_inb' (by omega) (by omega)) ?_
        generalize ht7 : ws_a (nx3 t5 p5) 12 0 30 N (w_a t5 12 0 8 p5) = t7 at H7 O7 T7 hv7
        have HZ : HY D K [] [] S0 (w7, t7, al5, m5, N + 1, nu5, tn) (p5 + 1) (p5 + 1) 1 1 := ⟨H7.1, H2.2.tr H7.2 (fun a ha hin => absurd hin (by rw [List.mem_singleton.mp ha]; exact hb20)) (fun n h => absurd h List.not_mem_nil)⟩
        have hQZ := hQ2.fr H2.1 H7.2 (fun a ha => by rw [List.mem_singleton.mp ha]; exact ⟨O2.1.2, hbb⟩) (fun a h => absurd h List.not_mem_nil)
        refine PSq_behind (by omega) HZ hQZ hb0 (LKO.mk O7.1.1.1 (O7.1.1.2 rfl) hb20) (fun w8 hw8 H8 hQ8 => ?_)
        have O8 := O7.bh hw8 hbb
        have hfS : ∀ {f' : Option Nat} {X Y : Prop}, ((bl = none ∧ f' = some b1 ∧ X) ∨ (bl ≠ none ∧ f' = f ∧ Y)) → HDN S0 (w8, t7, al5, m5, N + 1, nu5, tn) f' := fun hf' => HDN.stf ((hf0.fr HF2).fr H7.2) hQZ O7.1.1.1 O7.1.2 (O7.1.1.2 rfl) hb20 hbb hw8 hf'
        have T8 : OWt (w8, t7, al5, m5, N + 1, nu5, tn) N _ := T7
        have hv8 : VWa (vw w7 t7) (vw w8 t7) tn nu5 := by
          rcases hw8 with e | ⟨a, e1, e⟩
          · subst e
            exact ⟨fun _ _ => ⟨rfl, rfl⟩, fun _ _ _ _ => rfl, rfl⟩
          · subst e
            have ha : nu5 a = none := by
              rcases hQZ.nlb HZ.1 with ⟨e2, -⟩ | ⟨b, n, e2, -, g1, -⟩
              · rw [e1] at e2; cases e2
              · rw [e1] at e2
                cases e2
                exact g1.2
            exact ⟨fun a' ha' => ⟨rfl, funext (fun k' => by
              show w_p (ws_p w7 14 a 7 (some b1)) 14 a' k' = w_p w7 14 a' k'
              rw [Rpp, if_neg (fun z => ha' (by rw [z.2.2]; exact ha))])⟩, fun _ _ _ _ => rfl, rfl⟩
        have hK8 := (hK.up hv7 (fun _ _ h => h)).up hv8 (fun _ _ h => h)
        have hPI : PND D (w8, t7, al5, m5, N + 1, nu5, tn) N (N + 1) (oE K (kln K p0) 42 p (p5 + 1)) b1 N 0 := PND.mk1 (kd := 42) O8 T8 (Nat.le_refl _) (by omega) (LFz.k42 O8 T8 (hfi.1.1.trans hfi.2.2.1.symm) hfi.2.1 ⟨rfl, hfi.1.2.2.2, hnm, hK8⟩ hfi.2.2.1) hfi.1.2.1 (fun l e => by cases e; exact hfi.2.2.1.trans (by rw [hln])) hfi.2.1
        have hXI := NXo.mk1 O8 T8 hfi.1.2.2.1 hfi.2.2.2
        have h26 : is42 (w_a t7 12 0 26 N) := (T8.2 26 rfl).trans hfi.2.1
        -- behind the chain
        have fin : ∀ (f' : Option Nat) (fT' : Int32) t9 nu9 tn9, HY D K [] [] S0 (w8, t9, al5, m5, N + 1, nu9, tn9) (p5 + 1) (p5 + 1) 1 1 → LQ is42 D (w8, t9, al5, m5, N + 1, nu9, tn9) S0.2.2.2.2.1 (N + 1) (oE K (kln K p0) 42 p0 (p5 + 1)) f' fT' (some b1) (i_ N) none 0 → (∃ v0 : Nat, fT' = i_ v0 ∧ v0 < 14000) → HDN S0 (w8, t9, al5, m5, N + 1, nu9, tn9) f' → PS (fun Q => zb_X5_formals_p209 D.1 L Q f' (some b1) (i_ cnt) w8) (fun Q => zb_X13_formals_p213 E' L' Q fT' (i_ N) (i_ cnt) t9) (PR D K [] [] S0 p0 0 true true (-1) (GFM D K S0 p0)) := by
          intro f' fT' t9 nu9 tn9 H9 hQ9 hfT hfE
          have hpl9 := H9.1.ta.lt
          have hal9 := H9.alive
          obtain ⟨v0, hv0, hv1⟩ := hfT
          simp only [zb_X5_formals_p209, zb_X5_formals_p224, zb_X13_formals_p213, i_add1]
          refine PS_r (fun Q h => zt_X13_formals_p10 (by omega) h) ?_
          simp only [zb_X13_formals_p10]
          refine PS_rp (by rw [hv0]; exact i_ne1 (by omega)) ?_
          refine PS_l1 (fun Q hq => c_is (c := 40) (v := 44) (by omega) H9.1.ca rfl (by unfold wcd; omega) hq) ?_
          by_cases h44 : kk K (p5 + 1) = 44
          · rw [decide_eq_true h44]
            refine PS_ln (by decide) ?_
            have hp2 := H9.p1 (by rw [h44]; decide)
            have hln2 := H9.1.ln hp2 (by rw [h44]; decide)
            refine PS_r1 (fun Q hq => t_may (v := 44) (by omega) H9.1.ta H9.1.krg rfl ⟨by decide, by decide⟩ (fun _ => hq) (fun e => absurd h44 e)) (PS_rn (by decide) ?_)
            refine PSg_nxl hΦ (by omega) H9 (by rw [h44]; decide) (fun HA' => ?_) (fun w' hd h76 => ?_)
            · have HA := HA'.tnx (by rw [h44]; decide) hal9
              refine PS_l (fun Q h => zt_X5_formals_p39 (by omega) h) ?_
              simp only [zb_X5_formals_p39]
              refine PS_ln (by decide) ?_
              simp only [e8 (cnt + 1) (by omega)]
              by_cases hc8 : cnt + 1 = 8
              · refine PS_ln (not_not_intro hc8) ?_
                refine PSg_two hΦ (by omega) HA (fun w' e => ?_)
                subst e
                simp only [zb_X13_formals_p36, e8 (cnt + 1) (by omega)]
                exact eS_n (not_not_intro hc8) (p_two (by omega) HA HA.alive)
              · refine PS_lp hc8 ?_
                have F9 := ((show HY D K [] [] (w8, t9, al5, m5, N + 1, nu9, tn9) (w8, t9, al5, m5, N + 1, nu9, tn9) (p5 + 1) (p5 + 1) 1 1 from ⟨H9.1, FR.rf H9.1.mle⟩).cn (by rw [h44]; decide) HA.alive).tnx (by rw [h44]; decide) hal9
                have hQA := hQ9.fr H9.1 F9.2 (fun a h => absurd h List.not_mem_nil) (fun a h => absurd h List.not_mem_nil)
                exact ih _ _ al5 m5 (N + 1) nu9 tn9 (p5 + 1 + 1) (cnt + 1) f' fT' (some b1) (i_ N) (N + 1) (by omega) HA hQA.wk (Nat.le_refl _) (fun a e => by cases e; exact hb20) hfE (by rw [hln2, hln6, hln5, hln]) ⟨by omega, by omega, by omega⟩ ⟨by omega, by omega⟩ (by omega)
            · exact dd_fm36 (N := N + 1) (by omega) (H9.dd hd (by omega) (by rw [h44]; decide) hal9 h76) (by
                unfold nx3
                rw [Rii, if_neg (by decide)]
                exact H9.tN) (by omega)
          · rw [decide_eq_false h44]
            refine PS_lp rfl ?_
            refine PS_r1 (fun Q hq => t_may (v := 44) (by omega) H9.1.ta H9.1.krg rfl ⟨by decide, by decide⟩ (fun e => absurd e h44) (fun _ => hq)) (PS_rp rfl ?_)
            refine PS_l (fun Q h => zt_X5_formals_p39 (by omega) h) ?_
            simp only [zb_X5_formals_p39, zb_X13_formals_p219]
            refine PS_lp rfl ?_
            obtain ⟨nu', tn', k, HD, ⟨l, h1, h2, h3, h4⟩, h5⟩ := hQ9.done H9 (fun a e => by cases e; exact hb20) (Nat.le_refl _)
            refine PSg_lvw (o := 0) (c := 37) (v := 41) hΦ (by omega) (by omega) (by omega) HD rfl (by unfold wcd; omega) rfl (fun h41 HE => ?_) (fun w' hd => hd.to.ret (by rw [hv0]; rfl) ⟨by omega, by omega⟩)
            have hpE := HD.p1 (by rw [h41]; decide)
            have hlnE := HD.1.ln hpE (by rw [h41]; decide)
            have r38 : w_i (nx3 t9 (p5 + 1)) 12 0 38 = i_ (0 + 1 : Nat) := HE.1.2.1.2.2.2.1
            rw [r38, show (i_ (0 + 1 : Nat) : Int32) - 1 = i_ (0 : Nat) from rfl]
            have HF := HE.to (u := 0) (by omega)
            have hvf : vw (ws_i (nx w8 (p5 + 1)) 4 0 4 (i_ (0 : Nat))) (ws_i (nx3 t9 (p5 + 1)) 12 0 38 (i_ (0 : Nat))) = vw w8 t9 := by
              rw [vw_4]
              exact vw_n2 (q := p5 + 1)
            exact PS_ret (.inr ⟨f', fT', al5, m5, N + 1, nu', tn', p5 + 1 + 1, rfl, rfl, HF, ⟨by omega, by omega, by omega⟩, ⟨k, by rw [hvf]; exact ⟨l, LPz.wk' h1, h2, h4⟩⟩, by rw [hlnE, hln6, hln5, hln], hfE, v0, hv0, by omega, by omega⟩)
        have ex2 : ∃ f' fT', ((bl = none ∧ f' = some b1 ∧ fT' = i_ N) ∨ (bl ≠ none ∧ f' = f ∧ fT' = fT)) ∧ (∃ v0 : Nat, fT' = i_ v0 ∧ v0 < 14000) ∧ (∀ (Q : kx_Rs → wS → Prop) w, zb_X5_formals_p209 D.1 L Q f' (some b1) (i_ cnt) w → (if ¬ f = none then zb_X5_formals_p209 D.1 L Q f (some b1) (i_ cnt) w else zb_X5_formals_p209 D.1 L Q (some b1) (some b1) (i_ cnt) w)) ∧ (∀ (Q : kx_Rs → wS → Prop) w, zb_X13_formals_p213 E' L' Q fT' (i_ N) (i_ cnt) w → (if ¬ fT = -1 then zb_X13_formals_p213 E' L' Q fT (i_ N) (i_ cnt) w else zb_X13_formals_p213 E' L' Q (i_ N) (i_ N) (i_ cnt) w)) := by
          rcases hnb with ⟨e1, e2, e3, e4, e5⟩ | ⟨b, n, e1, e2, g1, ⟨f0, g2⟩, n0, g3, g4⟩
          · exact ⟨some b1, i_ N, .inl ⟨e1, rfl, rfl⟩, ⟨N, rfl, hNb⟩, fun Q w h => by rw [if_neg (by rw [e3]; simp)]; exact h, fun Q w h => by rw [if_neg (by rw [e4]; simp)]; exact h⟩
          · have g4 : n0 < N := g4
            exact ⟨f, fT, .inr ⟨by rw [e1]; simp, rfl, rfl⟩, ⟨n0, g3, by omega⟩, fun Q w h => by rw [if_pos (by rw [g2]; simp)]; exact h, fun Q w h => by rw [if_pos (by rw [g3]; exact i_ne1 (by omega))]; exact h⟩
        obtain ⟨f', fT', hf', hvT, he1, he2⟩ := ex2
        refine PSq_chain (f2 := f') (fT2 := fT') (by omega) hQ8 H8 hPI hXI hbb hhi hSA (.inr rfl) hb0 (Nat.le_refl _) h26 hf' (fun t9 nu9 tn9 nx9 hnx H9 hQ9 hA9 => ?_)
        refine PS_of (fun Q h => he1 Q _ h) (fun Q h => he2 Q _ h) ?_
        exact fin f' fT' t9 nu9 tn9 H9 hQ9 hvT (hfS hf')
      · refine eS_and (by rw [hd.2.2.tl.2.2.2.2.1]; exact i_inb' (by omega) (by omega)) ?_
        have hd := hd.ta (k := 30) (n := N) (v := w_a t5 12 0 8 p5) rfl
        refine eS_chain (by omega) hd.2.2.tl.2.2.2.2.2.2.1 hQ.nl (fun t' ht' => ?_)
        have hd2 := hd.ch ht'
        have h25 : w_i t' 12 0 25 = i_ (N + 1 : Nat) := by
          have e0 : w_i (ws_a (nx3 t5 p5) 12 0 30 N (w_a t5 12 0 8 p5)) 12 0 25 = i_ (N + 1 : Nat) := by
            unfold nx3
            rw [Ria, Rii, if_neg (by decide)]
            exact H5b.tN
          rcases ht' with e | ⟨n, e⟩
          · rw [e]; exact e0
          · rw [e, Ria]; exact e0
        simp only [zb_X13_formals_p213]
        rcases hnb with ⟨e1, e2, e3, e4, e5⟩ | ⟨b, n, e1, e2, g1, ⟨f0, g2⟩, n0, g3, g4⟩
        · rw [e4]
          exact eS_n (by simp) (dd_fm10 (a := N) (N := N + 1) ⟨rfl, by omega, by omega⟩ (by omega) hd2 h25 (by omega))
        · have g4 : n0 < N := g4
          exact eS_p (by rw [g3]; exact i_ne1 (by omega)) (dd_fm10 (a := n0) (N := N + 1) ⟨g3, by omega, by omega⟩ (by omega) hd2 h25 (by omega))
    -- the specification
    have spec : PS (fun Q => zb_X5_formals_p122 D.1 L Q f bl (i_ cnt) (some b1) w2) (fun Q => zb_X13_formals_p107 E' L' Q fT nl (i_ cnt) (i_ N) (nd3 t N 42 (i_ (kln K p)))) (PR D K [] [] S0 p0 0 true true (-1) (GFM D K S0 p0)) := by
      refine p_fspec hΦ1 (by omega) (by omega) (by omega) (by omega) HB O1 T1 hb1m (fun h => absurd h (Nat.lt_irrefl _)) hNb rfl ⟨rfl, rfl⟩ rfl (fun w5 t5 al5 m5 nu5 p5 fi5 fp5 ft5 H5 F5 O5 T5 hK hfi5 hft5 hpm hln5 => ?_)
      exact tail w5 t5 al5 m5 nu5 p5 fi5 fp5 ft5 H5 O5 T5 hln5 ⟨by omega, by omega⟩ ⟨⟨hfi5.1, hfi5.2.1, hfi5.2.2.2, hfi5.2.2.1⟩, hft5.1, hft5.2.1, hft5.2.2⟩ hK
    by_cases h70 : kk K p = 70
    · rw [decide_eq_true h70]
      refine PS_ln (by decide) (PS_rn (not_not_intro h70) ?_)
      rcases hQ2 with h | ⟨b0, n0, d1, d2, ⟨q1, q2, ⟨f0, q3⟩, q4⟩, -, q5, -, q6⟩
      · exact PS_lp h.2.1.1 (PS_rp (by rw [h.2.1.2]; decide) spec)
      · have hlt := q5.lt
        have hltN : n0 < N := hlt.1
        have hn0 : n0 < 14000 := hlt.2.2.2.1
        have hK := q5.ksp q6
        have hb0l : w_l w2 D.1.2.1 14 b0 := HB.1.wl q5.bm.1
        refine PS_ln (by rw [q1]; simp) (PS_lex b0 q1 (PS_land hb0l (PS_lex b1 rfl (PS_land (O1.wl HB.1) ?_))))
        obtain ⟨kv, ko, kc⟩ : (w_i w2 14 b0 15 = 0 ∨ w_i w2 14 b0 15 = 1) ∧ (w_i w2 14 b0 13 = 0 ∨ w_i w2 14 b0 13 = 1) ∧ (w_i w2 14 b0 14 = 0 ∨ w_i w2 14 b0 14 = 1) := by
          obtain ⟨o1, v1, r1, r2, r3⟩ := hK
          refine ⟨?_, ?_, r3.elim (fun h => .inl h.1) (fun h => .inr h.1)⟩
          · rw [r2]; cases v1 <;> simp [bI]
          · rw [r1]; cases o1 <;> simp [bI]
        refine PS_land kv (PS_land ko (PS_land kc ?_))
        rw [q2]
        refine PS_rn (i_nn (by omega)) ?_
        simp only [i_nat' (show N < 2147483648 by omega), i_nat' (show n0 < 2147483648 by omega)]
        have tl := HB.1.tl
        refine PS_rand (by rw [tl.2.2.2.2.2.2.2.1]; exact i_inb' (by omega) (by omega)) (PS_rand (by rw [tl.2.2.2.2.2.2.2.1]; exact i_inb' (by omega) (by omega)) (PS_rand (by rw [tl.2.2.2.2.2.2.2.2.1]; exact i_inb' (by omega) (by omega)) (PS_rand (by rw [tl.2.2.2.2.2.2.2.2.1]; exact i_inb' (by omega) (by omega)) ?_)))
        have r33 : w_a (nd3 t N 42 (i_ (kln K p))) 12 0 33 n0 = w_a t 12 0 33 n0 := HB.2.2.2.2.1 n0 hltN List.not_mem_nil 33 (.inl (by decide))
        have r34 : w_a (nd3 t N 42 (i_ (kln K p))) 12 0 34 n0 = w_a t 12 0 34 n0 := HB.2.2.2.2.1 n0 hltN List.not_mem_nil 34 (.inl (by decide))
        rw [r33, r34]
        have hLK : LKO (w2, t, al2, m + 1, N, nu, tn) (ws_i (ws_i (ws_i (ws_i w2 14 b1 15 (w_i w2 14 b0 15)) 14 b1 13 (w_i w2 14 b0 13)) 14 b1 14 (w_i w2 14 b0 14)) 14 b1 8 (w_i w2 14 b0 8), nd3 t N 42 (i_ (kln K p)), al2, m + 1, N + 1, nu, tn) 5 (w_p w2 14 b0 5) := by
          refine .inr (fun q e => ?_)
          obtain ⟨o1, v1, r1, r2, r3⟩ := hK
          rcases r3 with ⟨-, r3, -⟩ | ⟨-, ⟨pk, r3, -, ⟨rk, dk, r4⟩, -⟩, -⟩
          · rw [r3] at e
            cases e
          · rw [r3] at e
            cases e
            exact ⟨(H2.1.gl.1 _ _ _ _ r4).1, .inr ⟨rk, dk, r4⟩, fun _ hn => hn b0 q5.bm.1 5 (by decide) (by decide) r3⟩
        have H5 := ((((((HB.wi (k := 15) (v := w_i w2 14 b0 15) O1.1.2 hb1m).wi (k := 13) (v := w_i w2 14 b0 13) O1.1.2 hb1m).wi (k := 14) (v := w_i w2 14 b0 14) O1.1.2 hb1m).wi (k := 8) (v := w_i w2 14 b0 8) O1.1.2 hb1m).wp (k := 5) (v := w_p w2 14 b0 5) O1.1.2 hb1m hLK).ta (k := 33) (n := N) (v := w_a t 12 0 33 n0) rfl T1.1.2 (fun h => absurd h (Nat.lt_irrefl _))).ta (k := 34) (n := N) (v := w_a t 12 0 34 n0) rfl T1.1.2 (fun h => absurd h (Nat.lt_irrefl _))
        have O5 : OWc (ws_p (ws_i (ws_i (ws_i (ws_i w2 14 b1 15 (w_i w2 14 b0 15)) 14 b1 13 (w_i w2 14 b0 13)) 14 b1 14 (w_i w2 14 b0 14)) 14 b1 8 (w_i w2 14 b0 8)) 14 b1 5 (w_p w2 14 b0 5), ws_a (ws_a (nd3 t N 42 (i_ (kln K p))) 12 0 33 N (w_a t 12 0 33 n0)) 12 0 34 N (w_a t 12 0 34 n0), al2, m + 1, N + 1, nu, tn) b1 _ _ := ((((O1.si (k := 15) (v := w_i w2 14 b0 15)).si (k := 13) (v := w_i w2 14 b0 13)).si (k := 14) (v := w_i w2 14 b0 14)).si (k := 8) (v := w_i w2 14 b0 8)).sp (k := 5) (v := w_p w2 14 b0 5) (.inr (.inr (fun e => O1.1.1.2 rfl b0 q5.bm.1 5 (by decide) (by decide) e)))
        have T5 : OWt (ws_p (ws_i (ws_i (ws_i (ws_i w2 14 b1 15 (w_i w2 14 b0 15)) 14 b1 13 (w_i w2 14 b0 13)) 14 b1 14 (w_i w2 14 b0 14)) 14 b1 8 (w_i w2 14 b0 8)) 14 b1 5 (w_p w2 14 b0 5), ws_a (ws_a (nd3 t N 42 (i_ (kln K p))) 12 0 33 N (w_a t 12 0 33 n0)) 12 0 34 N (w_a t 12 0 34 n0), al2, m + 1, N + 1, nu, tn) N _ := (T1.si (k := 33) (v := w_a t 12 0 33 n0)).si (k := 34) (v := w_a t 12 0 34 n0)
        have hv5 : VWa (vw w2 t) (vw (ws_p (ws_i (ws_i (ws_i (ws_i w2 14 b1 15 (w_i w2 14 b0 15)) 14 b1 13 (w_i w2 14 b0 13)) 14 b1 14 (w_i w2 14 b0 14)) 14 b1 8 (w_i w2 14 b0 8)) 14 b1 5 (w_p w2 14 b0 5)) (ws_a (ws_a (nd3 t N 42 (i_ (kln K p))) 12 0 33 N (w_a t 12 0 33 n0)) 12 0 34 N (w_a t 12 0 34 n0))) tn nu := VWa.mk (b := b1) (n := N) (fun a h k => by simp only [nx, Rii, Rgi, Rpi, Rai, Rbi, Rri, Rni, Rdi, Roi, Rti, Rzi, RCi, RSi, Rip, Rgp, Rpp, Rap, Rbp, Rrp, Rnp, Rdp, Rop, Rtp, Rzp, RCp, RSp]; simp [h]) (fun y h k => by simp only [nx3, nd3, Rii, Rgi, Rpi, Rai, Rbi, Rri, Rni, Rdi, Roi, Rti, Rzi, RCi, RSi, Ria, Rga, Rpa, Raa, Rba, Rra, Rna, Rda, Roa, Rta, Rza, RCa, RSa]; simp [h]) rfl O1.1.2 T1.1.2
        rw [← q2]
        exact tail _ _ al2 (m + 1) nu p _ _ _ H5 O5 T5 rfl ⟨Nat.le_refl _, Nat.le_refl _⟩ ⟨⟨rfl, rfl, rfl, rfl⟩, rfl, rfl, rfl⟩ (hK.up hv5 (fun _ _ h => h))
    · rw [decide_eq_false h70]
      refine PS_lp rfl (PS_rp h70 spec)
/-- formals, from their '(' on -/
theorem p_formals (hL : 1300 ≤ L) (hL' : 1300 ≤ L') (hS : SY D K (w, t, al, m, N, nu, tn) p p 0 0) (h40 : kk K p = 40) (hB : m ≤ 4 * p + 9 ∧ N ≤ 4 * p + 9) :
    PW w t (fun Q => zw D.1 L kt_M179 [.ref (w_adr D.1.2.1 4 0)] w Q) (fun Q => zw E' L' kt_M414 [.ref (w_adr E'.2.1 12 0)] t Q) (PR D K [] [] (w, t, al, m, N, nu, tn) p 0 true true (-1) (GFM D K (w, t, al, m, N, nu, tn) p)) := by
  have hpl := hS.ta.lt
  have H : HY D K [] [] (w, t, al, m, N, nu, tn) (w, t, al, m, N, nu, tn) p p 0 0 := ⟨hS, FR.rf hS.mle⟩
  have hal := H.alive
  have hΦ : STP D K (w, t, al, m, N, nu, tn) true (-1) (PR D K [] [] (w, t, al, m, N, nu, tn) p 0 true true (-1) (GFM D K (w, t, al, m, N, nu, tn) p)) := STP.ofPR
  refine PW_of' (fun Q h => zt_X5_formals_p0 (by omega) h) (fun Q h => zt_X13_formals_p0 (by omega) h) ?_
  simp only [zb_X5_formals_p0, zb_X5_formals_p13, zb_X13_formals_p0]
  refine PS_l1 (fun Q hq => c_is (c := 36) (v := 40) (by omega) H.1.ca rfl (by unfold wcd; omega) hq) ?_
  rw [decide_eq_true h40]
  refine PS_lp (by decide) ?_
  have hp1 := H.p1 (by rw [h40]; decide)
  have hln1 := H.1.ln hp1 (by rw [h40]; decide)
  refine PSg_enw (o := 0) hΦ (by omega) (by omega) (by omega) H (by rw [h40]; decide) (fun _ H1 => ?_) (fun w' hd => dd_fm10 (a := -1) (N := N) ⟨rfl, by omega, by omega⟩ (by omega) hd (by
    unfold nx3
    rw [Rii, if_neg (by decide), Rii, if_neg (by decide)]
    exact H.tN) (by omega))
  have hpl1 := H1.1.ta.lt
  have hal1 := H1.alive
  have hkr := H1.1.ta.kr H1.1.krg
  refine PS_l1 (fun Q hq => c_is (c := 37) (v := 41) (by omega) H1.1.ca rfl (by unfold wcd; omega) hq) ?_
  refine PS_r (fun Q h => zt_X13_formals_p10 (by omega) h) ?_
  simp only [zb_X13_formals_p10, zb_X5_formals_p35]
  refine PS_rn (by decide) ?_
  refine PS_r1 (fun Q hq => t_look (by omega) H1.1.ta hq) ?_
  have e41v : (i_ (kk K (p + 1)) = (41 : Int32)) = (kk K (p + 1) = 41) := i_eqk (show -1000 ≤ kk K (p + 1) ∧ kk K (p + 1) ≤ 1000 by omega) (show (-1000 : Int) ≤ 41 by decide) (by decide)
  simp only [e41v]
  by_cases h41 : kk K (p + 1) = 41
  · rw [decide_eq_true h41]
    refine PS_lp (by decide) (PS_rp h41 ?_)
    refine PS_l (fun Q h => zt_X5_formals_p39 (by omega) h) ?_
    simp only [zb_X5_formals_p39, zb_X13_formals_p219]
    refine PS_lp trivial ?_
    refine PSg_lvw (o := 0) (c := 37) (v := 41) hΦ (by omega) (by omega) (by omega) H1 rfl (by unfold wcd; omega) rfl (fun _ HE => ?_) (fun w' hd => hd.to.ret (v := -1) rfl ⟨by omega, by omega⟩)
    have hpE := H1.p1 (by rw [h41]; decide)
    have hlnE := H1.1.ln hpE (by rw [h41]; decide)
    have r38 : w_i (nx3 (nx3 (ws_i t 12 0 38 (i_ (0 + 1 : Nat))) p) (p + 1)) 12 0 38 = i_ (0 + 1 : Nat) := HE.1.2.1.2.2.2.1
    rw [r38, show (i_ (0 + 1 : Nat) : Int32) - 1 = i_ (0 : Nat) from rfl]
    have HF := HE.to (u := 0) (by omega)
    exact PS_ret (.inr ⟨none, -1, al, m, N, nu, tn, p + 1 + 1, rfl, rfl, HF, ⟨by omega, by show m + _ ≤ m + _; omega, by show N + _ ≤ N + _; omega⟩, ⟨0, [], ⟨rfl, rfl⟩, rfl, fun q h => absurd h List.not_mem_nil⟩, by rw [hlnE, hln1], (fun _ h => nomatch h), -1, rfl, by omega, by omega⟩)
  · rw [decide_eq_false h41]
    refine PS_ln (fun h => h rfl) (PS_rn h41 ?_)
    refine PS_l (fun Q h => zt_X5_formals_p39 (by omega) h) ?_
    simp only [zb_X5_formals_p39]
    refine PS_ln (by decide) (PS_lp (by decide) ?_)
    exact p_fm_loop (S0 := (w, t, al, m, N, nu, tn)) (p0 := p) (by omega) (by omega) K.length _ _ al m N nu tn (p + 1) 0 none (-1) none (-1) N (by omega) H1 LQ.nil (Nat.le_refl _) (fun a e => by cases e) (fun a e => by cases e) hln1 ⟨by omega, by show m + _ ≤ m + _; omega, by show N + _ ≤ N + _; omega⟩ ⟨by omega, by omega⟩ (by omega)
end FML
