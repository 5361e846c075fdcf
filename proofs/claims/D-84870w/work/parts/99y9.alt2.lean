/-! ===== PARSERS, part 34: ALT ===== -/
/-- the node is b -/
def GPb (D : pD) (K : pK) (S : pS) (p b : Nat) : pGd := fun cz x v S2 p2 => x = some b ∧ GP2 D K S p cz x v S2 p2
section ALT2
variable {ex et : List Nat} {S S' S0 SA : pS} {D : pD} {K : pK} {p p0 q o o' oA dl m N n n2 b b2 lo hi lo2 hi2 r d d2 dd g pA pB nP bP : Nat} {w t w' : wS} {al : List Nat} {nu : pNz} {tn : Nat → Prop} {E E' : zE} {L L' : Nat} {ol : pOL} {f : Option Nat} {fT x1 x2 : Int32} {Q : kx_Rs → wS → Prop} {fi : Nat → Int32} {fp : Nat → Option Nat} {ft : Nat → Int32} {br : Bool} {lo1 : Int} {Φ : kx_Rs → wS → kx_Rs → wS → Prop} {bl : Option Nat}
theorem dd_p37 {l : Int32} (h : DDs D K S0 w' t) (hL : 1000 ≤ L') : eS (fun Q => zb_X13_alt_p37 E' L' Q x1 l t) (fun r' t' => TLP D K S0.1 S0.2.1 br lo1 w' r' t') := by
  simp only [zb_X13_alt_p37]
  exact dd_endOfLine h (by omega)
theorem dd_alt0 {l x3 : Int32} (h : DDs D K S0 w' t) (hN : w_i t 12 0 25 = i_ N) (hN2 : N ≤ 10990) (hL : 1000 ≤ L') : eS (fun Q => zb_X13_alt_p0 E' L' Q x1 l x3 t) (fun r' t' => TLP D K S0.1 S0.2.1 br lo1 w' r' t') := by
  simp only [zb_X13_alt_p0]
  refine eS_1 (fun Q hq => t_node (by omega) h.2.2.1.1.1 hN (by omega) hq) ?_
  have hd3 := h.nd (N := N) (x := 17) (l := l) (by omega)
  simp only [i_nat' (show N < 2147483648 by omega)]
  refine eS_and (by rw [hd3.2.2.tl.2.2.2.2.1]; exact i_inb' (by omega) (by omega)) ?_
  have hd4 := hd3.ta (k := 30) (n := N) (v := x3) rfl
  refine eS_1 (fun Q hq => t_look (by omega) hd4.2.2.1 hq) ?_
  rw [hd4.2.2.2.1]
  refine eS_n (by decide) ?_
  have hN2' : w_i (ws_a (nd3 t N 17 l) 12 0 30 N x3) 12 0 25 = i_ (N + 1 : Nat) := by
    show w_i (nd3 t N 17 l) 12 0 25 = _
    unfold nd3
    rw [Rii, if_pos ⟨rfl, rfl, rfl⟩]
  refine eS_x1 (fun Q hq => t_norep (by omega) hd4.2.2.1 hd4.1.2 hN2' (by omega) (by rw [hd4.2.2.2.1]; decide) hq) ?_
  rw [hd4.if1]
  exact (hd4.nd (N := N + 1) (by omega)).thr
theorem dd_p37b {l : Int32} (h : DDs D K S0 w' t) (hd9 : d ≤ 800) (hL : 1000 ≤ L') (hn : n < 14000) : eS (fun Q => kx_inb (i_ n) (w_n t 12 0 28) = true ∧ (if w_a t 12 0 28 n < 0 then zL_X13_alt_p71 E' L' Q (i_ d) (i_ n) (-1) t else zw E' (L' - 24) kt_M422 [.ref (w_adr E'.2.1 12 0), .int (i_ (d + 1 : Nat))] t (wk1 (fun v4 w3 => wle t w3 → (kx_inb (i_ n) (w_n w3 12 0 29) = true ∧ Q (.inl (some (.int (i_ n)))) (ws_a w3 12 0 29 n v4))) (fun e w => Q (.inr e) w)))) (fun r' t' => TLP D K S0.1 S0.2.1 true 0 w' r' t') := by
  refine eS_and (by rw [h.2.2.tl.2.2.1]; exact i_inb' (by omega) (by omega)) ?_
  refine eS_ifb (dd_al_loop (by omega) (by omega) hn h) (eS_l (fun Q h => zt_X13_guard_p0 (by omega) h) ?_)
  simp only [zb_X13_guard_p0]
  exact dd_lineAt (d := d + 1) (how := 4) h (by omega) (by omega) rfl (by omega)
/-- ALT's word has come -/
theorem p_altc {G : Nat} {pr : Bool} (IO : OPq D K E' G) (IH : EXq D K E' G) (IHP : PRq D K E' G) (hd20 : d ≤ 20) (hL : dex d ≤ L + 80) (hL' : dex d ≤ L' + 80) (H : HY D K [] [] S0 (w, t, al, m, N, nu, tn) p p 0 0) (hS0 : S0.2.2.2.2.1 = N ∧ m ≤ S0.2.2.2.1 + 1) (hg : K.length ≤ p + 1 + G) (hB : m ≤ 4 * p + 9 ∧ N ≤ 4 * p + 8) (hk : kk K p = 1) (hp0 : p0 ≤ p) (hO : OWc (w, t, al, m, N, nu, tn) b fi fp) (hb : b ∉ S0.2.2.1.take S0.2.2.2.1) (f7 : fp 7 = none) (f0 : fp 0 = some (D.1.1.1 51)) (i11 : fi 11 = bI pr) (f4 : fp 4 = none) (i12 : fi 12 = 0) (i2k : fi 2 = i_ (kln K p0)) {l : Int32} (i2 : fi 2 = l) :
    PS (fun Q => zb_X5_alternation_p28 D.1 L Q (some b) (i_ d) w) (fun Q => zb_X13_alt_p0 E' L' Q (i_ d) l (bI pr) (nx3 t p)) (PRd D K d [] [] S0 p0 0 false true 0 (GPb D K S0 p0 b)) := by
  subst i2
  have hLd : dex d ≤ L + 100 := by omega
  have hLd' : dex d ≤ L' + 100 := by omega
  unfold dex at hL hL'
  have hlx : lex 0 + 80 ≤ L - 21 := by unfold lex; omega
  have hlx' : lex 0 + 80 ≤ L' - 21 := by unfold lex; omega
  have e1 : (i_ d : Int32) + 1 = i_ (d + 1 : Nat) := by rw [i_1, i_add, cN1]
  have hpl := H.1.ta.lt
  have hal := H.alive
  have hp1 := H.p1 (by omega)
  have hL9 : 1000 ≤ L' := by omega
  simp only [zb_X5_alternation_p28]
  by_cases h76 : kk K (p + 1) = 76
  · refine PS_lx0 (fun Q hq => c_expect (c := 1) (v := 1) (by omega) H.1.ca rfl (by unfold wcd; omega) (fun h => absurd hk h) (fun _ h => absurd h76 h) (fun _ _ => hq)) (PRd_stop ?_)
    have hd2 := H.dd (H.ddx hp1 h76 (FX_nx (p := p))) (by omega) (by omega) hal h76
    have hN' : w_i (nx3 t p) 12 0 25 = i_ N := by
      unfold nx3
      rw [Rii, if_neg (by decide)]
      exact H.tN
    exact dd_alt0 hd2 hN' (by omega) hL9
  refine PS_l0 (fun Q hq => c_expect (c := 1) (v := 1) (by omega) H.1.ca rfl (by unfold wcd; omega) (fun h => absurd hk h) (fun _ _ => hq) (fun _ h => absurd h h76)) ?_
  have H3 := (H.cn (by omega) h76).tnx (by omega) hal
  have hal3 := H3.alive
  simp only [zb_X13_alt_p0]
  refine PS_r1 (fun Q hq => t_node (by omega) H3.kt H3.tN (by omega) hq) ?_
  simp only [i_nat' (show N < 2147483648 by omega)]
  have H4' := H3.tnd (x := 17) (l := fi 2)
  have T4' : OWt (nx w p, nd3 (nx3 t p) N 17 (fi 2), al, m, N + 1, nu, tn) N _ := OWt.new (x := 17) (l := fi 2) H3
  have O4' : OWc (nx w p, nd3 (nx3 t p) N 17 (fi 2), al, m, N + 1, nu, tn) b fi fp := hO.w4 (j := 3) (v := i_ (p + 1 : Nat)) (.inl (by decide))
  refine PS_rand (by rw [H4'.1.tl.2.2.2.2.1]; exact i_inb' (by omega) (by omega)) ?_
  have H4 := H4'.ta (k := 30) (n := N) (v := bI pr) rfl T4'.1.2 (fun h => absurd h (by omega))
  have T4 := T4'.si (k := 30) (v := bI pr)
  have O4 : OWc (nx w p, ws_a (nd3 (nx3 t p) N 17 (fi 2)) 12 0 30 N (bI pr), al, m, N + 1, nu, tn) b fi fp := O4'
  refine PS_r1 (fun Q hq => t_look (by omega) H4.1.ta hq) ?_
  have hkr := H4.1.ta.kr H4.1.krg
  have e74v : (i_ (kk K (p + 1)) = (74 : Int32)) = (kk K (p + 1) = 74) := i_eqk (show -1000 ≤ kk K (p + 1) ∧ kk K (p + 1) ≤ 1000 by omega) (show (-1000 : Int) ≤ 74 by decide) (by decide)
  simp only [e74v]
  have hbd0 : m + 4 * p0 ≤ S0.2.2.2.1 + 1 + 4 * p := by omega
  by_cases e70 : kk K (p + 1) = 70
  · refine PS_rn (by omega) ?_
    refine PRd_c11 H.1.krg H4.2 (p_replicator IH (L := L - 21) (L' := L' - 21) hlx hlx' H4.1 (by omega) ⟨by omega, by omega⟩ e70) (fun a h => absurd h List.not_mem_nil) (fun a h => absurd h List.not_mem_nil) (fun x v w2 t2 al2 m2 N2 nu2 tn2 p2 hl2 H5 HS5 hbd5 hgx => ?_) (fun v w2 t2 hv hv2 hd => ?_)
    · obtain ⟨b1, n1, rfl, rfl, hP1, hX1, hb1, hlnz, hfk⟩ := hgx
      have hpl2 := H5.1.ta.lt
      have O5 := O4.fr HS5.2 List.not_mem_nil
      have T5 := T4.fr HS5.2 List.not_mem_nil
      obtain ⟨x6, tn6, r6, H6, hC6, hm1, hm2, hn6⟩ := H5.fin hP1 (fun e => hb1 (H4.2.sub e)) (by show _ ≤ N + 1; omega)
      have hn1 := hP1.lt.2.2.2.1
      have hN2 : N + 1 ≤ N2 := HS5.2.2.1.2.2.1
      have hbb1 : b ≠ b1 := fun e => hb1 (by rw [← e]; exact O4.1.1.1)
      have O6 := O5.fin (x := x6) (tn' := tn6) hbb1
      have T6 := T5.fin (nu' := nuU nu2 b1 x6) hm2 (.inl (Nat.lt_succ_self N))
      refine PS_lex b rfl (PS_land (O6.wl H6.1) ?_)
      refine PS_rand (by rw [H6.1.tl.2.2.1]; exact i_inb' (by omega) (by omega)) ?_
      simp only [zb_X13_alt_p37, e1, i_nat' (show N < 2147483648 by omega)]
      have H7 := (H6.wp (k := 3) (v := some b1) O6.1.2 (fun e => absurd e hb) (LKO.mk hP1.bm.1 hX1.2.2 (fun e => hb1 (H4.2.sub e)))).ta (k := 28) (n := N) (v := i_ n1) rfl T6.1.2 (fun h => absurd h (by omega))
      have O7 := O6.sp (k := 3) (v := some b1)
      have T7 := T6.si (k := 28) (v := i_ n1)
      refine PSd_elw (by omega) (by omega) (by omega) H7 (fun e74 H8 => ?_) (fun w' hd => dd_p37b (d := d) (l := fi 2) hd (by omega) hL9 (by omega))
      have O8 : OWc (nx (ws_p w2 14 b 3 (some b1)) p2, nx3 (ws_a t2 12 0 28 N (i_ n1)) p2, al2, m2, N2, nuU nu2 b1 x6, tn6) b _ _ := O7.w4 (j := 3) (v := i_ (p2 + 1 : Nat)) (.inl (by decide))
      have T8 : OWt (nx (ws_p w2 14 b 3 (some b1)) p2, nx3 (ws_a t2 12 0 28 N (i_ n1)) p2, al2, m2, N2, nuU nu2 b1 x6, tn6) N _ := T7
      have hpl8 := H8.1.ta.lt
      have r3 : w_p (nx (ws_p w2 14 b 3 (some b1)) p2) 14 b 3 = some b1 := O8.2.2 3 rfl
      have r28 : w_a (nx3 (ws_a t2 12 0 28 N (i_ n1)) p2) 12 0 28 N = i_ n1 := T8.2 28 rfl
      refine PS_lp (by rw [r3]; simp) (PS_rand (by rw [H8.1.tl.2.2.1]; exact i_inb' (by omega) (by omega)) (PS_rn (by rw [r28]; exact i_nn (by omega)) ?_))
      simp only [zb_X5_alternation_p64, zb_X5_alternation_p69]
      have hvw8 : VWa (vw w2 t2) (vw (nx (ws_p w2 14 b 3 (some b1)) p2) (nx3 (ws_a t2 12 0 28 N (i_ n1)) p2)) tn6 (nuU nu2 b1 x6) := by
        refine VWa.mk (b := b) (n := N) ?_ ?_ ?_ O6.1.2 T6.1.2
        · exact (fun a h k => by simp only [nx, Rii, Rgi, Rpi, Rai, Rbi, Rri, Rni, Rdi, Roi, Rti, Rzi, RCi, RSi, Rip, Rgp, Rpp, Rap, Rbp, Rrp, Rnp, Rdp, Rop, Rtp, Rzp, RCp, RSp]; simp [h])
        · exact (fun y h k => by simp only [nx3, nd3, Rii, Rgi, Rpi, Rai, Rbi, Rri, Rni, Rdi, Roi, Rti, Rzi, RCi, RSi, Ria, Rga, Rpa, Raa, Rba, Rra, Rna, Rda, Roa, Rta, Rza, RCa, RSa]; simp [h])
        · rfl
      have hC8 := hC6.up (k' := 0) hvw8 (fun _ _ h => h) (fun _ h => h) (Nat.le_refl _)
      have hΦ : STL D K d S0 true 0 (PRd D K d [] [] S0 p0 0 false true 0 (GPb D K S0 p0 b)) := STL.of
      refine p_al_item IO IH IHP hΦ hd20 hLd hLd' H8 e74 (by omega) ⟨by omega, by omega⟩ (fun b3 n3 d3 w3 t3 al3 m3 N3 nu3 tn3 p3 H9 F hP3 hX3 hc3 e74b hb3 hd3 => ?_) (fun v w2 t2 hv hv2 hdd => ?_) (fun v w2 t2 hv hv2 hdd => ?_)
      · simp only [zg_B]
        have hpl9 := H9.1.ta.lt
        have hcz : (cb S0 d3).2.2.2.2.1 = S0.2.2.2.2.1 ∧ (cb S0 d3).2.2.2.1 = S0.2.2.2.1 := ⟨rfl, rfl⟩
        have hN9 : N2 ≤ N3 := F.2.1.2.2.1
        have O9 := O8.fr F List.not_mem_nil
        have T9 := T8.fr F List.not_mem_nil
        have hn3 := hP3.lt
        have hbb3 : b ≠ b3 := fun e => hc3 (by rw [← e]; exact O8.1.1.1)
        have hc0 : b3 ∉ S0.2.2.1.take S0.2.2.2.1 := fun e => hc3 (H8.2.sub e)
        have hC9 := hC8.up (k' := 0) (VWa.fr H8.1 F (fun _ h => absurd h List.not_mem_nil) (fun _ h => absurd h List.not_mem_nil)) F.2.2.2.2.1.1 F.2.2.2.2.1.2.1 (Nat.le_refl _)
        obtain ⟨x10, tn10, r10, H10, hC10, hm3, hm4, hn10⟩ := H9.fin hP3 hc0 (by omega)
        have O10 := O9.fin (x := x10) (tn' := tn10) hbb3
        have T10 := T9.fin (nu' := nuU nu3 b3 x10) hm4 (.inl (by omega))
        have hC9' := hC9.fin (x := x10) hn10 hm3
        refine PS_lr (fun Q hq => c_behind0 (by omega) hq) ?_
        refine PS_lex b rfl (PS_land (O10.wl H10.1) ?_)
        have r4 : w_p w3 14 b 4 = none := (O10.2.2 4 rfl).trans f4
        refine PS_ln (not_not_intro r4) ?_
        refine PS_rand (by rw [H10.1.tl.2.2.2.1]; exact i_inb' (by omega) (by omega)) ?_
        have HE := (H10.wp (k := 4) (v := some b3) O10.1.2 (fun e => absurd e hb) (LKO.mk hP3.bm.1 hX3.2.2 hc0)).ta (k := 29) (n := N) (v := i_ n3) rfl T10.1.2 (fun h => absurd h (by omega))
        have OE : OWc (ws_p w3 14 b 4 (some b3), ws_a t3 12 0 29 N (i_ n3), al3, m3, N3, nuU nu3 b3 x10, tn10) b _ _ := O10.sp (k := 4) (v := some b3)
        have TE : OWt (ws_p w3 14 b 4 (some b3), ws_a t3 12 0 29 N (i_ n3), al3, m3, N3, nuU nu3 b3 x10, tn10) N _ := T10.si (k := 29) (v := i_ n3)
        have hvw := VWa.mk (w := w3) (t := t3) (w' := ws_p w3 14 b 4 (some b3)) (t' := ws_a t3 12 0 29 N (i_ n3)) (b := b) (n := N) (fun a h k => by simp only [nx, Rii, Rgi, Rpi, Rai, Rbi, Rri, Rni, Rdi, Roi, Rti, Rzi, RCi, RSi, Rip, Rgp, Rpp, Rap, Rbp, Rrp, Rnp, Rdp, Rop, Rtp, Rzp, RCp, RSp]; simp [h]) (fun y h k => by simp only [nx3, nd3, Rii, Rgi, Rpi, Rai, Rbi, Rri, Rni, Rdi, Roi, Rti, Rzi, RCi, RSi, Ria, Rga, Rpa, Raa, Rba, Rra, Rna, Rda, Roa, Rta, Rza, RCa, RSa]; simp [h]) rfl O10.1.2 T10.1.2
        simp only [zb_X5_alternation_p126]
        refine PS_lex b rfl (PS_land (OE.wl HE.1) ?_)
        have r3' : w_p (ws_p w3 14 b 4 (some b3)) 14 b 3 = some b1 := OE.2.2 3 rfl
        refine PS_lp (by rw [r3']; simp) ?_
        simp only [zb_X5_alternation_p147, zb_X5_alternation_p148]
        refine PS_l (fun Q h => zt_X5_alternation_p71 (by omega) h) ?_
        simp only [zb_X5_alternation_p71]
        refine PS_lp trivial ?_
        have hn73 : w_p (ws_p w3 14 b 4 (some b3)) 14 b3 7 = none := by
          rw [Rpp, if_neg (fun z => hbb3 z.2.2.symm)]
          exact hX3.1
        have hn32 : w_a (ws_a t3 12 0 29 N (i_ n3)) 12 0 32 n3 = -1 := by
          rw [Raa, if_neg (fun z => by simp at z)]
          exact hX3.2.1
        refine PS_ret (.inr ⟨some b, i_ N, al3, m3, N3, nuU nu3 b3 x10, tn10, p3, _, rfl, rfl, HE, ⟨by omega, by omega, by omega⟩, rfl, b, N, d3, rfl, rfl, PND.mk1 (kd := 17) OE TE (by omega) (by omega) (LFz.k17 OE TE rfl rfl ⟨f0, ⟨pr, i11, rfl⟩, [(n3, b3, d3)], p2 + 1, ⟨by omega, by omega⟩, ?_, rfl, .inr ⟨⟨b1, n1, rfl, rfl, hC9'.up hvw (fun _ _ h => h) (fun _ h => h) (Nat.le_refl _)⟩, rfl⟩⟩ i2k) i12 (fun l e => by cases e), NXT.mk1 OE TE f7 rfl, hb, e74b, ⟨by show m3 + _ + 2 ≤ _; omega, by show N3 + _ + 2 ≤ _; omega⟩, by omega⟩)
        exact ⟨rfl, rfl, p3, Nat.le_refl _, hC10.up hvw (fun _ _ h => h) (fun _ h => h) (Nat.le_refl _) (OLw.mk (show p3 - (p2 + 1) ≤ p3 - p0 - (2 - 1) - 1 by omega) (Nat.le_refl _) (Nat.le_refl _)), hn73, hn32⟩
      · refine eS_and (by rw [hdd.2.2.tl.2.2.2.1]; exact i_inb' (by omega) (by omega)) ?_
        exact (hdd.ta rfl).ret rfl ⟨by omega, by omega⟩
      · refine eS_and (by rw [hdd.tl.2.2.2.1]; exact i_inb' (by omega) (by omega)) ?_
        exact ((hdd.ta rfl).dn (Nat.le_succ d)).ret rfl ⟨by omega, by omega⟩
    · simp only [zb_X13_alt_p37]
      refine eS_and (by rw [hd.2.2.tl.2.2.1]; exact i_inb' (by omega) (by omega)) ?_
      exact dd_endOfLine (hd.ta rfl) (by omega)
  · refine PS_lr (fun Q hq => c_norep (by omega) H4.1.ca e70 hq) ?_
    refine PS_lex b rfl (PS_land (O4.wl H4.1) ?_)
    have H5 := H4.wp (k := 3) (v := none) O4.1.2 (fun e => absurd e hb)
    have O5 := O4.sp (k := 3) (v := none)
    by_cases e74 : kk K (p + 1) = 74
    · refine PS_rp e74 ?_
      simp only [zb_X13_alt_p37, e1, i_nat' (show N < 2147483648 by omega)]
      refine PSd_elw (by omega) (by omega) (by omega) H5 (fun e74 H8 => ?_) (fun w' hd => dd_p37b (d := d) (l := fi 2) hd (by omega) hL9 (by omega))
      have O8 : OWc (nx (ws_p (nx w p) 14 b 3 none) (p + 1), nx3 (ws_a (nd3 (nx3 t p) N 17 (fi 2)) 12 0 30 N (bI pr)) (p + 1), al, m, N + 1, nu, tn) b _ _ := O5.w4 (j := 3) (v := i_ (p + 1 + 1 : Nat)) (.inl (by decide))
      have T8 : OWt (nx (ws_p (nx w p) 14 b 3 none) (p + 1), nx3 (ws_a (nd3 (nx3 t p) N 17 (fi 2)) 12 0 30 N (bI pr)) (p + 1), al, m, N + 1, nu, tn) N _ := T4
      have hpl8 := H8.1.ta.lt
      have r3 : w_p (nx (ws_p (nx w p) 14 b 3 none) (p + 1)) 14 b 3 = none := O8.2.2 3 rfl
      have r28 : w_a (nx3 (ws_a (nd3 (nx3 t p) N 17 (fi 2)) 12 0 30 N (bI pr)) (p + 1)) 12 0 28 N = -1 := T8.2 28 rfl
      refine PS_ln (not_not_intro r3) (PS_rand (by rw [H8.1.tl.2.2.1]; exact i_inb' (by omega) (by omega)) (PS_rp (by rw [r28]; decide) ?_))
      refine PS_l1 (fun Q hq => c_more (d := d + 1) (by omega) H8.1.ca (by omega) (.inr e74) hq) ?_
      by_cases eA : bAt K (p + 1 + 1) (d + 1) = true
      · rw [eA]
        refine PS_ln (by decide) ?_
        simp only [zb_X5_alternation_p64, zb_X5_alternation_p69]
        have HS : HY D K [b] [N] (nx (ws_p (nx w p) 14 b 3 none) (p + 1), nx3 (ws_a (nd3 (nx3 t p) N 17 (fi 2)) 12 0 30 N (bI pr)) (p + 1), al, m, N + 1, nu, tn) (nx (ws_p (nx w p) 14 b 3 none) (p + 1), nx3 (ws_a (nd3 (nx3 t p) N 17 (fi 2)) 12 0 30 N (bI pr)) (p + 1), al, m, N + 1, nu, tn) (p + 1 + 1) (p + 1 + 1) 0 0 := ⟨H8.1, FR.rf H8.1.mle⟩
        refine PSh_cG (gc1 := fun Q => zL_X5_alternation_p71 D.1 L Q (some b) (i_ d) none 1 _) (gt1 := fun Q => zL_X13_alt_p71 E' L' Q (i_ d) (i_ N) (-1) _) (Kc := fun Q => Q) (Kt := fun Q => Q) (A := fun Q v4 w4 => Q (.inl none) w4) (B := fun Q v t2 => Q (.inl (some (.int v))) t2) (bl1 := false) (br1 := true) STL.of H8.1.krg H8.2 (p_al_loop (pA := p0) (pB := p + 2) IO IH IHP hd20 hLd hLd' ⟨Nat.lt_succ_self N, by omega⟩ ⟨O8.1.1.1, O8.1.2⟩ (by rfl) K.length _ _ al m (N + 1) nu tn (p + 1 + 1) none (-1) none (-1) 0 (N + 1) (by omega) (by omega) HS.c0 LQ.nil (O8.upE f4) (T8.upE rfl) (Nat.le_refl _) (fun a e => by cases e) e74 ⟨by omega, by omega, by omega⟩ ⟨by omega, by omega⟩ ⟨by show m + 4 * p0 ≤ m + _; omega, by show N + 1 + 4 * p0 ≤ N + 1 + _; omega⟩ ⟨by show m + _ ≤ m + _; omega, by show N + 1 + _ ≤ N + 1 + _; omega⟩ eA) (fun a h h2 => absurd h2 (by rw [List.mem_singleton.mp h]; exact hb)) (fun n hn hn2 => absurd hn2 (by rw [List.mem_singleton.mp hn]; omega)) (fun _ _ _ a => a) (fun _ _ _ a => a) (fun _ _ _ a => a) (fun _ _ _ a => a) ?_ (fun v w2 t2 hv hv2 hd => hd.ret rfl ⟨by omega, by omega⟩) (fun v w2 t2 hv hv2 hd => hd.ret rfl ⟨by omega, by omega⟩)
        intro x v w2 t2 al2 m2 N2 nu2 tn2 p2 cz H6 HS6 hbd6 hgx
        obtain ⟨rfl, ⟨k, l, f, fT, hl, O6, T6, hdd⟩, e74b, hb4⟩ := hgx
        have hcz : (cb S0 cz).2.2.2.2.1 = S0.2.2.2.2.1 ∧ (cb S0 cz).2.2.2.1 = S0.2.2.2.1 := ⟨rfl, rfl⟩
        have hb4 : m2 + 4 * (p + 2) ≤ m + 4 * p2 ∧ N2 + 4 * (p + 2) ≤ (N + 1) + 4 * p2 := hb4
        have hpl6 := H6.1.ta.lt
        exact PS_ret (.inr ⟨some b, i_ N, al2, m2, N2, nu2, tn2, p2, _, rfl, rfl, H6, ⟨by omega, by omega, by omega⟩, rfl, b, N, dsum l, rfl, rfl, PND.mk1 (kd := 17) O6 T6 (by omega) (by omega) (LFz.k17 O6 T6 rfl rfl ⟨f0, ⟨pr, i11, rfl⟩, l, p + 2, ⟨by omega, by omega⟩, LPz.wk' hl, rfl, .inl ⟨rfl, rfl⟩⟩ i2k) i12 (fun l e => by cases e), NXT.mk1 O6 T6 f7 rfl, hb, e74b, ⟨by show m2 + _ + 2 ≤ _; omega, by show N2 + _ + 2 ≤ _; omega⟩, by omega⟩)
      · have e' : bAt K (p + 1 + 1) (d + 1) = false := by simpa using eA
        rw [e']
        refine PS_lp rfl ?_
        simp only [zb_X5_alternation_p69]
        refine PS_of (fun Q h => zt_X5_alternation_p71 (by omega) h) (fun Q h => zt_X13_alt_p71 (by omega) h) ?_
        simp only [zb_X5_alternation_p71, zb_X13_alt_p71, e1]
        refine PS_lp trivial ?_
        refine PS_r1 (fun Q hq => t_isAt (d := d + 1) (by omega) H8.1.ta H8.1.krg (by omega) hq) ?_
        rw [e']
        refine PS_rp rfl ?_
        exact PS_ret (.inr ⟨some b, i_ N, al, m, N + 1, nu, tn, p + 1 + 1, 0, rfl, rfl, H8.c0, ⟨by omega, by omega, by omega⟩, rfl, b, N, 0, rfl, rfl, PND.mk1 (kd := 17) O8 T8 (by omega) (by omega) (LFz.k17 O8 T8 rfl rfl ⟨f0, ⟨pr, i11, rfl⟩, [], p + 2, ⟨by omega, by omega⟩, ⟨f4, rfl⟩, rfl, .inl ⟨rfl, rfl⟩⟩ i2k) i12 (fun l e => by cases e), NXT.mk1 O8 T8 f7 rfl, hb, e74, ⟨by show m + _ + 2 ≤ _; omega, by show N + 1 + _ + 2 ≤ _; omega⟩, by omega⟩)
    · refine PS_rn e74 ?_
      refine PS_lx0 (fun Q hq => c_endLine (by omega) H5.1.ca (fun _ => hq) (fun h => absurd h e74) (fun h => absurd h e74)) (PRd_stop ?_)
      exact eS_x1 (fun Q hq => t_norep (by omega) H4.1.ta H4.1.krg H4.tN (by omega) e70 hq) (TLP_two H5 FX.rf TX_nd3 hal3)
end ALT2
