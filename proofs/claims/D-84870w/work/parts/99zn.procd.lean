/-! ===== PARSERS, part 57: PROC ===== -/
section PCD
variable {ex et : List Nat} {S S' S0 S1z SA : pS} {D : pD} {K : pK} {p p0 q o o' oA dl m N n n2 b b2 lo hi lo2 hi2 r d d2 dd g pA pB nP bP : Nat} {w t w' : wS} {al : List Nat} {nu : pNz} {tn : Nat → Prop} {E E' : zE} {L L' : Nat} {ol : pOL} {f : Option Nat} {fT x1 x2 c : Int32} {Q : kx_Rs → wS → Prop} {fi : Nat → Int32} {fp : Nat → Option Nat} {ft : Nat → Int32} {bl br : Bool} {lo1 : Int} {Φ : kx_Rs → wS → kx_Rs → wS → Prop} {gt : pQ} {G : pG}
/-- no '(' where formals should be -/
theorem c_noForms {A : (kx_Rs → wS → Prop) → Option Nat → wS → Prop} (hΦ : STP D K S0 br lo1 Φ) (hL : 600 ≤ L) (hL' : 600 ≤ L') (H : HY D K ex et S0 (w, t, al, m, N, nu, tn) p p o o') (h40 : ¬ kk K p = 40) : PS (fun Q => zw D.1 L kt_M179 [.ref (w_adr D.1.2.1 4 0)] w (wkr (fun v w1 => wle w w1 → A Q v w1) (fun e w => Q (.inr e) w))) (fun Q => zw E' L' kt_M545 [.ref (w_adr E'.2.1 12 0), .int 2] t (wkr (fun v2 w1 => wle t w1 → (v2 = some (w_adr E'.2.1 13 0) ∧ Q (.inr HT_) w1)) (fun e w => Q (.inr e) w))) Φ := by
  have hal := H.alive
  refine PS_l (fun Q h => zt_X5_formals_p0 (by omega) h) ?_
  simp only [zb_X5_formals_p0]
  refine PS_l1 (fun Q hq => c_is (c := 36) (v := 40) (by omega) H.1.ca rfl (by unfold wcd; omega) hq) ?_
  rw [decide_eq_false h40]
  refine PS_ln (fun h => h rfl) ?_
  refine PSg_two hΦ (by omega) H (fun w' e => ?_)
  subst e
  exact p_two (by omega) H hal
theorem dd_colon {A : (kx_Rs → wS → Prop) → wS → Prop} (hd : d ≤ 1000) (hL : 600 ≤ L') (h : DDs D K S0 w' t) : eS (fun Q => zw E' L' kt_M375 [.ref (w_adr E'.2.1 12 0), .int (i_ d)] t (wk0 (A Q) (fun e w => Q (.inr e) w))) (fun r' t' => TLP D K S0.1 S0.2.1 br lo1 w' r' t') := by
  refine eS_l (fun Q h => zt_X13_colon_p0 (by omega) h) ?_
  simp only [zb_X13_colon_p0]
  exact dd_lineAt (how := 6) h (by omega) (by omega) rfl (by omega)
theorem lt_colon {A : (kx_Rs → wS → Prop) → wS → Prop} (hd : d ≤ dl) (hd9 : d ≤ 1000) (hL : 600 ≤ L') (h : LTs D K dl S0 w' t) : eS (fun Q => zw E' L' kt_M375 [.ref (w_adr E'.2.1 12 0), .int (i_ d)] t (wk0 (A Q) (fun e w => Q (.inr e) w))) (fun r' t' => TLP D K S0.1 S0.2.1 br lo1 w' r' t') := by
  refine eS_l (fun Q h => zt_X13_colon_p0 (by omega) h) ?_
  simp only [zb_X13_colon_p0]
  exact h.lineAt (how := 6) hd (by omega) (by omega) rfl (by omega)
theorem p_procd {g : Nat} (IHP : PRq D K E' g) {C : (kx_Rs → wS → Prop) → wS → Prop} {Ct : (kx_Rs → wS → Prop) → Int32 → wS → Prop} (hC : ∀ Q w, Q (.inl (some (va_rf (some b)))) w → C Q w) (hCt : ∀ Q w, Q (.inl (some (.int (i_ n)))) w → Ct Q (i_ n) w) (hd : d ≤ 20) (hL : dex d ≤ L + 100) (hL' : dex d ≤ L' + 100) (hg : K.length ≤ p + 1 + g)
    (H : HY D K [] [] S0 (w, t, al, m, N, nu, tn) p p 0 0) (hO : OWc (w, t, al, m, N, nu, tn) b fi fp) (hT : OWt (w, t, al, m, N, nu, tn) n ft) (hb : b ∉ S0.2.2.1.take S0.2.2.2.1) (hn : S0.2.2.2.2.1 ≤ n ∧ n < 14000) (h23 : kk K p = 23) (hfi : fi 2 = i_ (kln K p) ∧ fi 12 = 0 ∧ fp 7 = none) (hft : ft 27 = i_ (kln K p) ∧ ft 32 = -1) (hmN : m ≤ 4 * p + 8 ∧ N ≤ 4 * p + 8) (hbd : m ≤ S0.2.2.2.1 + 1 ∧ N ≤ S0.2.2.2.2.1 + 1) :
    PS (fun Q => zw D.1 L kt_M201 [.ref (w_adr D.1.2.1 4 0), va_rf (some b), .int (i_ d)] w (wk0 (C Q) (fun e w => Q (.inr e) w))) (fun Q => zw E' L' kt_M512 [.ref (w_adr E'.2.1 12 0), .int (i_ n), .int (i_ d)] t (wk1 (Ct Q) (fun e w => Q (.inr e) w))) (PRd D K d [] [] S0 p 0 true true 0 (GPs 1 3 D K S0 p)) := by
  have hle : Unit → dex (d + 1) ≤ L - 23 := fun _ => by unfold dex at *; omega
  have hle' : Unit → dex (d + 1) ≤ L' - 24 := fun _ => by unfold dex at *; omega
  have hL9 : 2300 ≤ L := by unfold dex at hL; omega
  have hL9' : 2300 ≤ L' := by unfold dex at hL'; omega
  clear hL hL'
  have hpl := H.1.ta.lt
  have hal := H.alive
  have hnN : n < N := hT.1.1
  have hSN : S0.2.2.2.2.1 ≤ N := H.2.2.1.2.2.1
  have hp1 := H.p1 (by rw [h23]; decide)
  have hln1 := H.1.ln hp1 (by rw [h23]; decide)
  have hΦd : STL D K d S0 true 0 (PRd D K d [] [] S0 p 0 true true 0 (GPs 1 3 D K S0 p)) := STL.of
  have hΦ := hΦd.stp
  refine PS_of (fun Q h => zt_X5_procedure_p0 (by omega) h) (fun Q h => zt_X13_procedure_p0 (by omega) h) ?_
  simp only [zb_X5_procedure_p0, zb_X13_procedure_p0, i_add1, i_nat' (show n < 2147483648 by omega)]
  refine PS_r0 (fun Q hq => t_want (v := 23) (by omega) H.1.ta H.1.krg rfl (by omega) (fun _ => hq) (fun e => absurd h23 e)) ?_
  refine PSg_nxl hΦ (by omega) H (by rw [h23]; decide) (fun H1' => ?_) (fun w' hd h76 => ?_)
  · have H1 := H1'.tnx (by rw [h23]; decide) hal
    have O1 : OWc (nx w p, nx3 t p, al, m, N, nu, tn) b fi fp := hO.w4 (j := 3) (v := i_ (p + 1 : Nat)) (.inl (by decide))
    have T1 : OWt (nx w p, nx3 t p, al, m, N, nu, tn) n ft := hT
    refine PS_rand (by rw [H1.1.tl.1]; exact i_inb' (by omega) (by omega)) ?_
    refine PS_lex b rfl (PS_land (O1.wl H1.1) ?_)
    have H1b := (H1.wp (k := 0) (v := some (D.1.1.1 33)) O1.1.2 (fun e => absurd e hb)).ta (k := 26) (n := n) (v := 37) rfl T1.1.2 (fun h => absurd h (Nat.not_lt.mpr hn.1))
    have O1b : OWc (ws_p (nx w p) 14 b 0 (some (D.1.1.1 33)), ws_a (nx3 t p) 12 0 26 n 37, al, m, N, nu, tn) b _ _ := O1.sp (k := 0) (v := some (D.1.1.1 33))
    have T1b : OWt (ws_p (nx w p) 14 b 0 (some (D.1.1.1 33)), ws_a (nx3 t p) 12 0 26 n 37, al, m, N, nu, tn) n _ := T1.si (k := 26) (v := 37)
    refine PSg_nmw hΦ (by omega) (by omega) (by omega) H1b (fun h70 H2 hnm => ?_) (fun w' hd => ?_)
    · have hp2 := H1b.p1 (by rw [h70]; decide)
      have hln2 := H1b.1.ln hp2 (by rw [h70]; decide)
      have O2 : OWc (nx (ws_p (nx w p) 14 b 0 (some (D.1.1.1 33))) (p + 1), nx3 (ws_a (nx3 t p) 12 0 26 n 37) (p + 1), al, m, N, nu, tn) b _ _ := O1b.w4 (j := 3) (v := i_ (p + 1 + 1 : Nat)) (.inl (by decide))
      have T2 : OWt (nx (ws_p (nx w p) 14 b 0 (some (D.1.1.1 33))) (p + 1), nx3 (ws_a (nx3 t p) 12 0 26 n 37) (p + 1), al, m, N, nu, tn) n _ := T1b
      refine PS_rand (by rw [H2.1.tl.2.2.2.2.1]; exact i_inb' (by omega) (by omega)) ?_
      have H3 := ((H2.wi (k := 9) (v := w_a (ws_p (nx w p) 14 b 0 (some (D.1.1.1 33))) 1 0 3 (p + 1)) O2.1.2 (fun e => absurd e hb)).cd (v := w_i (nx (ws_p (nx w p) 14 b 0 (some (D.1.1.1 33))) (p + 1)) 4 0 5 + 1) rfl).ta (k := 30) (n := n) (v := w_a (ws_a (nx3 t p) 12 0 26 n 37) 12 0 8 (p + 1)) rfl T2.1.2 (fun h => absurd h (Nat.not_lt.mpr hn.1))
      have O3 : OWc (ws_i (ws_i (nx (ws_p (nx w p) 14 b 0 (some (D.1.1.1 33))) (p + 1)) 14 b 9 (w_a (ws_p (nx w p) 14 b 0 (some (D.1.1.1 33))) 1 0 3 (p + 1))) 4 0 5 (w_i (nx (ws_p (nx w p) 14 b 0 (some (D.1.1.1 33))) (p + 1)) 4 0 5 + 1), ws_a (nx3 (ws_a (nx3 t p) 12 0 26 n 37) (p + 1)) 12 0 30 n (w_a (ws_a (nx3 t p) 12 0 26 n 37) 12 0 8 (p + 1)), al, m, N, nu, tn) b _ _ := (O2.si (k := 9) (v := w_a (ws_p (nx w p) 14 b 0 (some (D.1.1.1 33))) 1 0 3 (p + 1))).w4 (k := 4) (j := 5) (v := w_i (nx (ws_p (nx w p) 14 b 0 (some (D.1.1.1 33))) (p + 1)) 4 0 5 + 1) (.inl (by decide))
      have T3 : OWt (ws_i (ws_i (nx (ws_p (nx w p) 14 b 0 (some (D.1.1.1 33))) (p + 1)) 14 b 9 (w_a (ws_p (nx w p) 14 b 0 (some (D.1.1.1 33))) 1 0 3 (p + 1))) 4 0 5 (w_i (nx (ws_p (nx w p) 14 b 0 (some (D.1.1.1 33))) (p + 1)) 4 0 5 + 1), ws_a (nx3 (ws_a (nx3 t p) 12 0 26 n 37) (p + 1)) 12 0 30 n (w_a (ws_a (nx3 t p) 12 0 26 n 37) 12 0 8 (p + 1)), al, m, N, nu, tn) n _ := T2.si (k := 30) (v := w_a (ws_a (nx3 t p) 12 0 26 n 37) 12 0 8 (p + 1))
      generalize ws_i (ws_i (nx (ws_p (nx w p) 14 b 0 (some (D.1.1.1 33))) (p + 1)) 14 b 9 (w_a (ws_p (nx w p) 14 b 0 (some (D.1.1.1 33))) 1 0 3 (p + 1))) 4 0 5 (w_i (nx (ws_p (nx w p) 14 b 0 (some (D.1.1.1 33))) (p + 1)) 4 0 5 + 1) = w3 at H3 O3 T3
      generalize ws_a (nx3 (ws_a (nx3 t p) 12 0 26 n 37) (p + 1)) 12 0 30 n (w_a (ws_a (nx3 t p) 12 0 26 n 37) 12 0 8 (p + 1)) = t3 at H3 O3 T3
      have hpl3 := H3.1.ta.lt
      have hal3 := H3.alive
      have hΦ0 := hΦ
      have hΦ := hΦ.cb (c := 1)
      have hΦd := hΦd.cb (c := 1)
      have hcz : (cb S0 1).2.2.2.2.1 = S0.2.2.2.2.1 ∧ (cb S0 1).2.2.2.1 = S0.2.2.2.1 := ⟨rfl, rfl⟩
      have hkr := H3.1.ta.kr H3.1.krg
      refine PS_r1 (fun Q hq => t_look (by omega) H3.1.ta hq) ?_
      have e40v : (i_ (kk K (p + 1 + 1)) = (40 : Int32)) = (kk K (p + 1 + 1) = 40) := i_eqk (show -1000 ≤ kk K (p + 1 + 1) ∧ kk K (p + 1 + 1) ≤ 1000 by omega) (show (-1000 : Int) ≤ 40 by decide) (by decide)
      simp only [e40v]
      by_cases h40 : kk K (p + 1 + 1) = 40
      · refine PS_rp h40 ?_
        refine PSg_c11 hΦ H3.2 H3.1.krg (p_formals (by omega) (by omega) H3.1 h40 ⟨by omega, by omega⟩) (fun a h => absurd h List.not_mem_nil) (fun a h => absurd h List.not_mem_nil) (fun x v w9 t9 al9 m9 N9 nu9 tn9 p9 H9 HS9 hbd9 hgx => ?_) (fun v w9 t9 hv hv2 hd => ?_)
        · obtain ⟨⟨k9, hs⟩, hln9, hhd, v0, hv0, hv1⟩ := hgx
          rw [hln2, hln1] at hs
          have hpl9 := H9.1.ta.lt
          have O9 := O3.fr HS9.2 List.not_mem_nil
          have T9 := T3.fr HS9.2 List.not_mem_nil
          have hNN9 : N ≤ N9 := HS9.2.2.1.2.2.1
          refine PS_rand (by rw [H9.1.tl.2.2.1]; exact i_inb' (by omega) (by omega)) ?_
          have Ha := (H9.wp (k := 3) (v := x) O9.1.2 (fun e => absurd e hb) (LKO.op (hhd.up (fun _ e => H3.2.sub e)))).ta (k := 28) (n := n) (v := v) rfl T9.1.2 (fun h => absurd h (Nat.not_lt.mpr hn.1))
          have Oa : OWc (ws_p w9 14 b 3 x, ws_a t9 12 0 28 n v, al9, m9, N9, nu9, tn9) b _ _ := O9.sp (k := 3) (v := x) (.inr (.inr (fun e => (hhd _ e).2.2 O3.1.1.1)))
          have Ta : OWt (ws_p w9 14 b 3 x, ws_a t9 12 0 28 n v, al9, m9, N9, nu9, tn9) n _ := T9.si (k := 28) (v := v)
          have hva := VWa.mk (w := w9) (t := t9) (w' := ws_p w9 14 b 3 x) (t' := ws_a t9 12 0 28 n v) (b := b) (n := n) (fun a h k => by simp only [nx, Rii, Rgi, Rpi, Rai, Rbi, Rri, Rni, Rdi, Roi, Rti, Rzi, RCi, RSi, Rip, Rgp, Rpp, Rap, Rbp, Rrp, Rnp, Rdp, Rop, Rtp, Rzp, RCp, RSp]; simp [h]) (fun y h k => by simp only [nx3, nd3, Rii, Rgi, Rpi, Rai, Rbi, Rri, Rni, Rdi, Roi, Rti, Rzi, RCi, RSi, Ria, Rga, Rpa, Raa, Rba, Rra, Rna, Rda, Roa, Rta, Rza, RCa, RSa]; simp [h]) rfl O9.1.2 T9.1.2
          have hsa := hs.up (k' := 0) hva (fun _ _ h => h) (fun _ h => h) (Nat.le_refl _)
          refine PSg_elw hΦ (by omega) (by omega) (by omega) Ha (fun e74 Hb => ?_) (fun w' hd => dd_process hd (by omega) (by omega))
          have Ob : OWc (nx (ws_p w9 14 b 3 x) p9, nx3 (ws_a t9 12 0 28 n v) p9, al9, m9, N9, nu9, tn9) b _ _ := Oa.w4 (j := 3) (v := i_ (p9 + 1 : Nat)) (.inl (by decide))
          have Tb : OWt (nx (ws_p w9 14 b 3 x) p9, nx3 (ws_a t9 12 0 28 n v) p9, al9, m9, N9, nu9, tn9) n _ := Ta
          have hsb : SKz (vw (nx (ws_p w9 14 b 3 x) p9) (nx3 (ws_a t9 12 0 28 n v) p9)) tn9 nu9 0 (oE K (kln K p) 42 (p + 1 + 1) p9) 0 42 x v := by
            rw [vw_n2]
            exact hsa
          refine PSh_c11 hΦd Hb.2 Hb.1.krg (IHP (L - 23) (L' - 24) _ _ _ _ _ _ _ (p9 + 1) (d + 1) (hle ()) (hle' ()) (by omega) Hb.1 (.inr e74) (by omega) ⟨by omega, by omega⟩) (fun a h => absurd h List.not_mem_nil) (fun a h => absurd h List.not_mem_nil) (fun x2 v2 wc tc alc mc Nc nuc tnc pc cz Hc HSc hbdc hgc => ?_) (fun v wc tc hv hv2 hdd => ?_) (fun v wc tc hv hv2 hdd => ?_)
          · obtain ⟨c3, n3, d3, rfl, rfl, hP3, hX3, hc3, e74b, hsl, hd3, rfl⟩ := hgc
            have Hc := Hc.cc
            have hcz2 : (cb S0 (1 + d3)).2.2.2.2.1 = S0.2.2.2.2.1 ∧ (cb S0 (1 + d3)).2.2.2.1 = S0.2.2.2.1 := ⟨rfl, rfl⟩
            have hplc := Hc.1.ta.lt
            have hn3 := hP3.lt.2.2.2.1
            have hNc : N9 ≤ Nc := HSc.2.2.1.2.2.1
            have Oc := Ob.fr HSc.2 List.not_mem_nil
            have Tc := Tb.fr HSc.2 List.not_mem_nil
            have hvf := VWa.fr Hb.1 HSc.2 (fun _ h => absurd h List.not_mem_nil) (fun _ h => absurd h List.not_mem_nil)
            have hsc := hsb.up (k' := 0) hvf HSc.2.2.2.2.2.1.1 HSc.2.2.2.2.2.1.2.1 (Nat.le_refl _)
            obtain ⟨x10, tn10, r10, H10, hC10, hm3, hm4, hn10⟩ := Hc.fin hP3 (fun e => hc3 (Hb.2.sub e)) (by show _ ≤ N9; omega)
            have hbc3 : b ≠ c3 := fun e => hc3 (by rw [← e]; exact Ob.1.1.1)
            have O10 := Oc.fin (x := x10) (tn' := tn10) hbc3
            have T10 := Tc.fin (nu' := nuU nuc c3 x10) hm4 (.inl (by show n < N9; omega))
            refine PS_rand (by rw [H10.1.tl.2.2.2.1]; exact i_inb' (by omega) (by omega)) ?_
            have HE := (H10.wp (k := 4) (v := some c3) O10.1.2 (fun e => absurd e hb) (LKO.mk hP3.bm.1 hX3.2.2 (fun e => hc3 (Hb.2.sub e)))).ta (k := 29) (n := n) (v := i_ n3) rfl T10.1.2 (fun h => absurd h (Nat.not_lt.mpr hn.1))
            have OE : OWc (ws_p wc 14 b 4 (some c3), ws_a tc 12 0 29 n (i_ n3), alc, mc, Nc, nuU nuc c3 x10, tn10) b _ _ := O10.sp (k := 4) (v := some c3)
            have TE : OWt (ws_p wc 14 b 4 (some c3), ws_a tc 12 0 29 n (i_ n3), alc, mc, Nc, nuU nuc c3 x10, tn10) n _ := T10.si (k := 29) (v := i_ n3)
            have hvw := VWa.mk (w := wc) (t := tc) (w' := ws_p wc 14 b 4 (some c3)) (t' := ws_a tc 12 0 29 n (i_ n3)) (b := b) (n := n) (fun a h k => by simp only [nx, Rii, Rgi, Rpi, Rai, Rbi, Rri, Rni, Rdi, Roi, Rti, Rzi, RCi, RSi, Rip, Rgp, Rpp, Rap, Rbp, Rrp, Rnp, Rdp, Rop, Rtp, Rzp, RCp, RSp]; simp [h]) (fun y h k => by simp only [nx3, nd3, Rii, Rgi, Rpi, Rai, Rbi, Rri, Rni, Rdi, Roi, Rti, Rzi, RCi, RSi, Ria, Rga, Rpa, Raa, Rba, Rra, Rna, Rda, Roa, Rta, Rza, RCa, RSa]; simp [h]) rfl O10.1.2 T10.1.2
            have hs10 := (hsc.up (k' := 0) (V' := vw wc tc) ⟨fun _ _ => ⟨rfl, rfl⟩, fun _ _ _ _ => rfl, rfl⟩ (nle_nuU (x := x10) hn10) hm3 (Nat.le_refl _)).up (k' := 0) hvw (fun _ _ h => h) (fun _ h => h) (Nat.le_refl _)
            have hP : PND D (ws_p wc 14 b 4 (some c3), ws_a tc 12 0 29 n (i_ n3), alc, mc, Nc, nuU nuc c3 x10, tn10) S0.2.2.2.2.1 Nc (oN K 3 p pc) b n (1 + d3) := PND.mk1 (kd := 37) OE TE hn.1 hn.2 (LFz.k37 OE TE (hfi.1.trans hft.1.symm) rfl ⟨rfl, hnm, by
              show SKz _ _ _ _ (some (ft 27), _) 0 42 x v
              rw [hft.1]
              exact hs10.wk, d3, rfl, ⟨c3, n3, rfl, rfl, hC10.up hvw (fun _ _ h => h) (fun _ h => h) (Nat.le_refl _)⟩⟩ hft.1) hfi.2.1 (fun l e => by cases e)
            have hX := NXT.mk1 OE TE hfi.2.2 hft.2
            refine PSg_cls (hΦ0.cb (c := 1 + d3)) (by omega) (by omega) (by omega) HE hd e74b (fun h46 e74d Hf => ?_) (fun w' hd => eS_l (fun Q h => hCt Q _ h) (hd.ret rfl ⟨by omega, by omega⟩))
            refine PS_of (fun Q h => hC Q _ h) (fun Q h => hCt Q _ h) ?_
            have hP2 := ((hP.w4 (j := 4) (v := 0)).nx2 (p := pc) (q := pc)).nx2 (p := pc + 1) (q := pc + 1)
            have g1 : mc + 4 * (p9 + 1) + 1 ≤ m9 + 4 * pc := hsl.1
            have g2 : Nc + 4 * (p9 + 1) + 1 ≤ N9 + 4 * pc := hsl.2
            exact PS_ret (.inr ⟨some b, i_ n, alc, mc, Nc, nuU nuc c3 x10, tn10, pc + 1 + 1, _, rfl, rfl, Hf, ⟨by omega, by omega, by omega⟩, b, n, 1 + d3, rfl, rfl, hP2.wk, ⟨hX.1, hX.2.1, hX.2.2⟩, hb, e74d, ⟨by show mc + _ + 1 ≤ _; omega, by show Nc + _ + 1 ≤ _; omega⟩, by omega⟩)
          · refine eS_and (by rw [hdd.2.2.tl.2.2.2.1]; exact i_inb' (by omega) (by omega)) ?_
            exact dd_colon (by omega) (by omega) (hdd.ta rfl)
          · refine eS_and (by rw [hdd.tl.2.2.2.1]; exact i_inb' (by omega) (by omega)) ?_
            exact eS_mono (lt_colon (d := d) (dl := d + 1) (by omega) (by omega) (by omega) (hdd.ta rfl)) (fun r' t' h => .inl h)
        · refine eS_and (by rw [hd.2.2.tl.2.2.1]; exact i_inb' (by omega) (by omega)) ?_
          exact dd_endOfLine (hd.ta rfl) (by omega)
      · refine PS_rn h40 ?_
        exact c_noForms hΦ (by omega) (by omega) H3 h40
    · refine eS_and (by rw [hd.2.2.tl.2.2.2.2.1]; exact i_inb' (by omega) (by omega)) ?_
      have hdd := hd.ta (k := 30) (n := n) (v := w_a (ws_a (nx3 t p) 12 0 26 n 37) 12 0 8 (p + 1)) rfl
      refine eS_1 (fun Q hq => t_look (by omega) hdd.2.2.1 hq) ?_
      rw [hdd.2.2.2.1]
      exact eS_n (by decide) (dd_stop (no := 2) hdd (by omega))
  · have hdd := H.dd hd (by omega) (by rw [h23]; decide) hal h76
    refine eS_and (by rw [hdd.2.2.tl.1]; exact i_inb' (by omega) (by omega)) ?_
    exact dd_wantName (hdd.ta rfl) (by omega)
end PCD
