/-! ===== PARSERS, part 22: WHILE ===== -/
section ST8
variable {ex et : List Nat} {S S' S0 : pS} {D : pD} {K : pK} {p p0 q o o' oA dl m N n n2 b b2 lo hi lo2 hi2 r d d2 dd g : Nat} {w t w' : wS} {al : List Nat} {nu : pNz} {tn : Nat → Prop} {E E' : zE} {L L' : Nat} {ol : pOL} {f : Option Nat} {fT : Int32} {Q : kx_Rs → wS → Prop} {fi : Nat → Int32} {fp : Nat → Option Nat} {ft : Nat → Int32}
theorem p_while {G : Nat} (IH : EXq D K E' G) (IHP : PRq D K E' G) (hd20 : d ≤ 20) (hL : dex d ≤ L + 100) (hL' : dex d ≤ L' + 100) (H : HY D K [] [] S0 (w, t, al, m, N, nu, tn) p p 0 0) (hS0 : S0.2.2.2.2.1 = N ∧ m ≤ S0.2.2.2.1 + 1) (hg : K.length ≤ p + 1 + G) (hB : m ≤ 4 * p + 9 ∧ N ≤ 4 * p + 8) (hk : kk K p = 35) (hO : OWc (w, t, al, m, N, nu, tn) b fi fp) (hb : b ∉ S0.2.2.1.take S0.2.2.2.1) (f7 : fp 7 = none) (i2 : fi 2 = i_ (kln K p)) (i12 : fi 12 = 0) {l : Int32} (hl : l = i_ (kln K p)) :
    PS (fun Q => zw D.1 (L - 20) kt_M195 [.ref (w_adr D.1.2.1 4 0)] (ws_p w 14 b 0 (some (D.1.1.1 50))) (wk0 (fun w1 => wle (ws_p w 14 b 0 (some (D.1.1.1 50))) w1 → zw D.1 (L - 22) kt_M177 [.ref (w_adr D.1.2.1 4 0)] w1 (wkr (fun v2 w2 => wle w1 w2 → zw D.1 (L - 20) kt_M174 [.ref (w_adr D.1.2.1 4 0)] (ws_p w2 14 b 3 v2) (wk0 (fun w3 => wle (ws_p w2 14 b 3 v2) w3 → zw D.1 (L - 23) kt_M202 [.ref (w_adr D.1.2.1 4 0), .int (i_ (d + 1 : Nat))] w3 (wkr (fun v4 w4 => wle w3 w4 → Q (.inl (some (va_rf (some b)))) (ws_p w4 14 b 4 v4)) (fun e w => Q (.inr e) w))) (fun e w => Q (.inr e) w))) (fun e w => Q (.inr e) w))) (fun e w => Q (.inr e) w)))
      (fun Q => zw E' (L' - 22) kt_M494 [.ref (w_adr E'.2.1 12 0), .int 16, .int l] (nx3 t p) (wk1 (fun v6 w5 => wle (nx3 t p) w5 → zw E' (L' - 22) kt_M393 [.ref (w_adr E'.2.1 12 0)] w5 (wk1 (fun v8 w7 => wle w5 w7 → kx_inb v6 (w_n w7 12 0 28) = true ∧ zw E' (L' - 20) kt_M400 [.ref (w_adr E'.2.1 12 0)] (ws_a w7 12 0 28 v6.toNatClampNeg v8) (wk0 (fun w9 => wle (ws_a w7 12 0 28 v6.toNatClampNeg v8) w9 → zw E' (L' - 24) kt_M514 [.ref (w_adr E'.2.1 12 0), .int (i_ (d + 1 : Nat))] w9 (wk1 (fun v12 w11 => wle w9 w11 → kx_inb v6 (w_n w11 12 0 29) = true ∧ Q (.inl (some (.int v6))) (ws_a w11 12 0 29 v6.toNatClampNeg v12)) (fun e w => Q (.inr e) w))) (fun e w => Q (.inr e) w))) (fun e w => Q (.inr e) w))) (fun e w => Q (.inr e) w))) (PRd D K d [] [] S0 p 0 true true 0 (GP2 D K S0 p)) := by
  subst hl
  unfold dex at hL hL'
  have hpl := H.1.ta.lt
  have hal := H.alive
  have H1 := H.wp (k := 0) (v := some (D.1.1.1 50)) hO.1.2 (fun e => absurd e hb)
  have O1 := hO.sp (k := 0) (v := some (D.1.1.1 50))
  have hp1 := H1.p1 (by omega)
  have hln1 := H1.1.ln hp1 (by omega)
  refine PSd_nxl (by omega) H1 (by omega) (fun H2 => ?_) (fun w' hd h76 => ?_)
  · have H3 := H2.tnx (by omega) hal
    refine PS_r1 (fun Q hq => t_node (by omega) H3.kt H3.tN (by omega) hq) ?_
    simp only [i_nat' (show N < 2147483648 by omega)]
    have H4 := H3.tnd (x := 16) (l := i_ (kln K p))
    have T4 : OWt (nx (ws_p w 14 b 0 (some (D.1.1.1 50))) p, nd3 (nx3 t p) N 16 (i_ (kln K p)), al, m, N + 1, nu, tn) N _ := OWt.new (x := 16) (l := i_ (kln K p)) H3
    have O4 : OWc (nx (ws_p w 14 b 0 (some (D.1.1.1 50))) p, nd3 (nx3 t p) N 16 (i_ (kln K p)), al, m, N + 1, nu, tn) b _ _ := O1.w4 (j := 3) (v := i_ (p + 1 : Nat)) (.inl (by decide))
    refine PRd_c11 H.1.krg H4.2 (IH (L - 22) (L' - 22) _ _ _ _ _ _ _ _ _ (by unfold lex; omega) (by unfold lex; omega) H4.1 (by omega) ⟨by omega, by omega⟩) (fun a h => absurd h List.not_mem_nil) (fun a h => absurd h List.not_mem_nil) (fun x v w2 t2 al2 m2 N2 nu2 tn2 p2 hl2 H5 HS5 hbd5 hgx => ?_) (fun v w2 t2 hv hv2 hd => ?_)
    · obtain ⟨b1, n1, rfl, rfl, hP1, hX1, hb1, hlnz, hfk⟩ := hgx
      rw [hln1] at hP1
      have hpl2 := H5.1.ta.lt
      have O5 := O4.fr HS5.2 List.not_mem_nil
      have T5 := T4.fr HS5.2 List.not_mem_nil
      obtain ⟨x6, tn6, r6, H6, hC6, hm1, hm2, hn6⟩ := H5.fin hP1 (fun e => hb1 (H4.2.sub e)) (by show _ ≤ N + 1; omega)
      have hbb1 : b ≠ b1 := fun e => hb1 (by rw [← e]; exact O4.1.1.1)
      have O6 := O5.fin (x := x6) (tn' := tn6) hbb1
      have T6 := T5.fin (nu' := nuU nu2 b1 x6) hm2 (.inl (Nat.lt_succ_self N))
      refine PS_rand (by rw [H6.1.tl.2.2.1]; exact i_inb' (by omega) (by omega)) ?_
      have H7 := (H6.wp (k := 3) (v := some b1) O6.1.2 (fun e => absurd e hb) (LKO.mk hP1.bm.1 hX1.2.2 (fun e => hb1 (H4.2.sub e)))).ta (k := 28) (n := N) (v := i_ n1) rfl T6.1.2 (fun h => absurd h (by omega))
      have O7 := O6.sp (k := 3) (v := some b1)
      have T7 := T6.si (k := 28) (v := i_ n1)
      refine PSd_elw (by omega) (by omega) (by omega) H7 (fun e74 H8 => ?_) (fun w' hd => ?_)
      · have O8 : OWc (nx (ws_p w2 14 b 3 (some b1)) p2, nx3 (ws_a t2 12 0 28 N (i_ n1)) p2, al2, m2, N2, nuU nu2 b1 x6, tn6) b _ _ := O7.w4 (j := 3) (v := i_ (p2 + 1 : Nat)) (.inl (by decide))
        have T8 : OWt (nx (ws_p w2 14 b 3 (some b1)) p2, nx3 (ws_a t2 12 0 28 N (i_ n1)) p2, al2, m2, N2, nuU nu2 b1 x6, tn6) N _ := T7
        have hvw8 : VWa (vw w2 t2) (vw (nx (ws_p w2 14 b 3 (some b1)) p2) (nx3 (ws_a t2 12 0 28 N (i_ n1)) p2)) tn6 (nuU nu2 b1 x6) := by
          refine VWa.mk (b := b) (n := N) ?_ ?_ ?_ O6.1.2 T6.1.2
          · exact (fun a h k => by simp only [nx, Rii, Rgi, Rpi, Rai, Rbi, Rri, Rni, Rdi, Roi, Rti, Rzi, RCi, RSi, Rip, Rgp, Rpp, Rap, Rbp, Rrp, Rnp, Rdp, Rop, Rtp, Rzp, RCp, RSp]; simp [h])
          · exact (fun y h k => by simp only [nx3, nd3, Rii, Rgi, Rpi, Rai, Rbi, Rri, Rni, Rdi, Roi, Rti, Rzi, RCi, RSi, Ria, Rga, Rpa, Raa, Rba, Rra, Rna, Rda, Roa, Rta, Rza, RCa, RSa]; simp [h])
          · rfl
        have hC8 := hC6.up (k' := 0) hvw8 (fun _ _ h => h) (fun _ h => h) (Nat.le_refl _)
        refine PRe_c11 H.1.krg H8.2 (IHP (L - 23) (L' - 24) _ _ _ _ _ _ _ (p2 + 1) (d + 1) (by unfold dex; omega) (by unfold dex; omega) (by omega) H8.1 (.inr e74) (by omega) ⟨by omega, by omega⟩) (fun a h => absurd h List.not_mem_nil) (fun a h => absurd h List.not_mem_nil) (fun x v w4 t4 al4 m4 N4 nu4 tn4 p4 cz hl4 H9 HS9 hbd9 hgx => ?_) (fun v w4 t4 hv hv2 hd => ?_) (fun v w4 t4 hv hv2 hd => ?_)
        · obtain ⟨b3, n3, dd3, rfl, rfl, hP3, hX3, hb3, e74b, hsl, hdd⟩ := hgx
          have hcz : (cb S0 cz).2.2.2.2.1 = S0.2.2.2.2.1 ∧ (cb S0 cz).2.2.2.1 = S0.2.2.2.1 := ⟨rfl, rfl⟩
          have hpl4 := H9.1.ta.lt
          have hN2 : N + 1 ≤ N2 := HS5.2.2.1.2.2.1
          have O9 := O8.fr HS9.2 List.not_mem_nil
          have T9 := T8.fr HS9.2 List.not_mem_nil
          have hC9 := hC8.up (k' := 0) (VWa.fr H8.1 HS9.2 (fun _ h => absurd h List.not_mem_nil) (fun _ h => absurd h List.not_mem_nil)) HS9.2.2.2.2.2.1.1 HS9.2.2.2.2.2.1.2.1 (Nat.le_refl _)
          obtain ⟨x10, tn10, r10, H10, hC10, hm3, hm4, hn10⟩ := H9.fin hP3 (fun e => hb3 (H8.2.sub e)) (by show _ ≤ N2; omega)
          have hbb3 : b ≠ b3 := fun e => hb3 (by rw [← e]; exact O8.1.1.1)
          have O10 := O9.fin (x := x10) (tn' := tn10) hbb3
          have T10 := T9.fin (nu' := nuU nu4 b3 x10) hm4 (.inl (by show N < N2; omega))
          have hC9' := hC9.fin (x := x10) hn10 hm3
          refine PS_rand (by rw [H10.1.tl.2.2.2.1]; exact i_inb' (by omega) (by omega)) ?_
          have HE := (H10.wp (k := 4) (v := some b3) O10.1.2 (fun e => absurd e hb) (LKO.mk hP3.bm.1 hX3.2.2 (fun e => hb3 (H8.2.sub e)))).ta (k := 29) (n := N) (v := i_ n3) rfl T10.1.2 (fun h => absurd h (by omega))
          have OE : OWc (ws_p w4 14 b 4 (some b3), ws_a t4 12 0 29 N (i_ n3), al4, m4, N4, nuU nu4 b3 x10, tn10) b _ _ := O10.sp (k := 4) (v := some b3)
          have TE : OWt (ws_p w4 14 b 4 (some b3), ws_a t4 12 0 29 N (i_ n3), al4, m4, N4, nuU nu4 b3 x10, tn10) N _ := T10.si (k := 29) (v := i_ n3)
          have hvw := VWa.mk (w := w4) (t := t4) (w' := ws_p w4 14 b 4 (some b3)) (t' := ws_a t4 12 0 29 N (i_ n3)) (b := b) (n := N) (fun a h k => by simp only [nx, Rii, Rgi, Rpi, Rai, Rbi, Rri, Rni, Rdi, Roi, Rti, Rzi, RCi, RSi, Rip, Rgp, Rpp, Rap, Rbp, Rrp, Rnp, Rdp, Rop, Rtp, Rzp, RCp, RSp]; simp [h]) (fun y h k => by simp only [nx3, nd3, Rii, Rgi, Rpi, Rai, Rbi, Rri, Rni, Rdi, Roi, Rti, Rzi, RCi, RSi, Ria, Rga, Rpa, Raa, Rba, Rra, Rna, Rda, Roa, Rta, Rza, RCa, RSa]; simp [h]) rfl O10.1.2 T10.1.2
          exact PS_ret (.inr ⟨some b, i_ N, al4, m4, N4, nuU nu4 b3 x10, tn10, p4, _, rfl, rfl, HE, ⟨by omega, by omega, by omega⟩, b, N, dd3, rfl, rfl, PND.mk1 (kd := 16) OE TE (by omega) (by omega) (LFz.k16 OE TE i2 rfl ⟨rfl, ⟨b1, n1, rfl, rfl, hC9'.up hvw (fun _ _ h => h) (fun _ h => h) (Nat.le_refl _)⟩, ⟨b3, n3, rfl, rfl, hC10.up hvw (fun _ _ h => h) (fun _ h => h) (Nat.le_refl _)⟩⟩) i12 (fun l e => by cases e), NXT.mk1 OE TE f7 rfl, hb, e74b, ⟨by show m4 + _ + 2 ≤ _; omega, by show N4 + _ + 2 ≤ _; omega⟩, by omega⟩)
        · refine eS_and (by rw [hd.2.2.tl.2.2.2.1]; exact i_inb' (by omega) (by omega)) ?_
          exact (hd.ta rfl).ret rfl ⟨by omega, by omega⟩
        · refine eS_and (by rw [hd.tl.2.2.2.1]; exact i_inb' (by omega) (by omega)) ?_
          exact ((hd.ta rfl).dn (Nat.le_succ d)).ret rfl ⟨by omega, by omega⟩
      · exact dd_process hd (by omega) (by omega)
    · refine eS_and (by rw [hd.2.2.tl.2.2.1]; exact i_inb' (by omega) (by omega)) ?_
      exact dd_endOfLine (hd.ta rfl) (by omega)
  · have hd2 := H1.dd hd (by omega) (by omega) hal h76
    have hN' : w_i (nx3 t p) 12 0 25 = i_ N := by
      unfold nx3
      rw [Rii, if_neg (by decide)]
      exact H.tN
    refine eS_1 (fun Q hq => t_node (by omega) hd2.2.2.1.1.1 hN' (by omega) hq) ?_
    exact dd_e (hd2.nd (N := N) (by omega)) (by omega)
end ST8
