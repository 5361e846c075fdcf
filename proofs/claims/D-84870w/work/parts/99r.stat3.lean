/-! ===== PARSERS, part 18: assignments ===== -/
section ST4
variable {ex et : List Nat} {S S' S0 : pS} {D : pD} {K : pK} {p p0 q o o' oA dl m N n n2 b b2 lo hi lo2 hi2 r d d2 dd g : Nat} {w t w' : wS} {al : List Nat} {nu : pNz} {tn : Nat → Prop} {E E' : zE} {L L' : Nat} {ol : pOL} {f : Option Nat} {fT : Int32} {Q : kx_Rs → wS → Prop} {fi : Nat → Int32} {fp : Nat → Option Nat} {ft : Nat → Int32}
/-- X, Y := .. behind an element -/
theorem p_asg_loop {G : Nat} (IH : EXq D K E' G) (hL : lex 0 + 200 ≤ L) (hL' : lex 0 + 200 ≤ L') {x2 : Int32} {SA : pS} {pA : Nat} {nE bE : Nat} (hE : SA.2.2.2.2.1 ≤ nE ∧ nE < 14000) (f0 : fp 0 = some (D.1.1.1 36)) (f7 : fp 7 = none) (i2 : fi 2 = i_ (kln K pA)) (i12 : fi 12 = 0) (t26 : ft 26 = 4) (t27 : ft 27 = i_ (kln K pA)) (t32 : ft 32 = -1) {b1 n1 : Nat} (f3 : fp 3 = some b1) (t28 : ft 28 = i_ n1) : ∀ g w t al m N nu tn p (cnt : Nat) b n lo hi, SA.2.2.2.2.1 ≤ lo → K.length ≤ p + g → K.length ≤ p + G → HY D K [bE] [] SA (w, t, al, m, N, nu, tn) p p 0 0 → OWc (w, t, al, m, N, nu, tn) bE fi fp → OWt (w, t, al, m, N, nu, tn) nE ft → LIk is60 D (w, t, al, m, N, nu, tn) lo hi (oE K (kln K pA) 0 pA p) (some b1) (i_ n1) b n 0 0 → kln K p = kln K pA → b ∉ SA.2.2.1.take SA.2.2.2.1 → b ≠ bE ∧ n ≠ nE ∧ (nE < lo ∨ hi ≤ nE) → (pA < p ∧ m + 4 * pA ≤ SA.2.2.2.1 + 4 * p + 1 ∧ N + 4 * pA ≤ SA.2.2.2.2.1 + 4 * p + 1) → (m ≤ 4 * p + 9 ∧ N ≤ 4 * p + 9) → cnt ≤ 8 → PS (fun Q => zL_X5_byName_p111 D.1 L Q (some bE) x2 (some b) (i_ cnt) w) (fun Q => zL_X13_element_p142 E' L' Q (i_ nE) (i_ n) (i_ cnt) t) (PRd D K dl [bE] [] SA pA 0 false true 0 (GB D K SA pA bE)) := by
  have hlx := hL
  have hlx' := hL'
  unfold lex at hlx hlx'
  intro g
  induction g with
  | zero =>
    intro w t al m N nu tn p cnt b n lo hi hA hg _ H
    have := H.1.ca.2.2
    omega
  | succ g ih =>
    intro w t al m N nu tn p cnt b n lo hi hA hg hG H hO hT hI hln hb0 hne hbd hmN hcnt
    have hpl := H.1.ta.lt
    have hal := H.alive
    have hnl := hI.2.1.lt
    have hzA := H.1.ca.1.1.1
    refine PS_of (fun Q h => zt_X5_byName_p111 (by omega) h) (fun Q h => zt_X13_element_p142 (by omega) h) ?_
    simp only [zb_X5_byName_p111, zb_X5_byName_p135, zb_X5_byName_p312, zb_X5_byName_p337, zb_X13_element_p142]
    refine PS_l1 (fun Q hq => c_is (c := 40) (v := 44) (by omega) H.1.ca rfl (by unfold wcd; omega) hq) ?_
    by_cases e : kk K p = 44
    · refine PS_ln (by rw [decide_eq_true e]; decide) ?_
      have hp1 := H.p1 (by omega)
      have hln1 := H.1.ln hp1 (by omega)
      have e16 : (i_ (cnt : Int) = (8 : Int32)) = (cnt = 8) := by
        rw [show (8 : Int32) = i_ 8 from rfl]
        exact propext ((i_eq (by omega) (by omega)).trans (by omega))
      simp only [e16]
      refine PSd_nxl (by omega) H (by omega) (fun H2 => ?_) (fun w' hd h76 => ?_)
      · refine PS_r1 (fun Q hq => t_may (v := 44) (by omega) H2.1.ta H2.1.krg rfl (by omega) (fun _ => hq) (fun h => absurd e h)) (PS_rn (by decide) ?_)
        have H3 := H2.tnx (by omega) (by omega)
        by_cases hc : cnt = 8
        · refine PS_ln (not_not_intro hc) (PS_rn (not_not_intro hc) ?_)
          refine PSd_two (by omega) H3 (fun w' e => ?_)
          subst e
          exact p_two (by omega) H3 H3.alive
        refine PS_lp hc (PS_rp hc ?_)
        refine PRd_c11 H.1.krg H3.2 (p_element IH (L := L - 22) (L' := L' - 23) (by omega) (by omega) H3.1 (by omega) ⟨by omega, by omega⟩) (fun a h => absurd h List.not_mem_nil) (fun a h => absurd h List.not_mem_nil) (fun x v w2 t2 al2 m2 N2 nu2 tn2 p2 hl H6 HS hb hgx => ?_) (fun v w2 t2 hv hv2 hd => ?_)
        · obtain ⟨b2, n2, rfl, rfl, hP, hX, hb2, hln2, hkd⟩ := hgx
          have hI3 : LIk is60 D (nx w p, nx3 t p, al, m, N, nu, tn) lo hi (oE K (kln K pA) 0 pA p) (some b1) (i_ n1) b n 0 0 := hI.nx2
          have hI6 := hI3.fr H3.1 HS.2
          have hO6 := (show OWc (nx w p, nx3 t p, al, m, N, nu, tn) bE fi fp from hO.w4 (j := 3) (v := i_ (p + 1 : Nat)) (.inl (by decide))).fr HS.2 List.not_mem_nil
          have hT6 := (show OWt (nx w p, nx3 t p, al, m, N, nu, tn) nE ft from hT).fr HS.2 List.not_mem_nil
          have hbb : b2 ≠ b := fun e => hb2 (by rw [e]; exact hI.2.1.bm.1)
          have hbl : w_l w2 D.1.2.1 14 b := (H6.1.2.2.1.2.2.2.2.1 b (List.mem_of_mem_take hI6.2.1.bm.1)).1
          rw [hln1, hln] at hP
          have hlo2 : lo ≤ N := by have := hnl.2.1; have : n < N := hnl.1; omega
          have hnE : nE < N := hT.1.1
          have hn2 := hP.lt
          obtain ⟨x', tn', H7, hI7, hm1, hm2, -⟩ := hI6.link H6 hP hX hbb hI.2.1.1 hb0 hA hkd (fun e => hb2 (H.2.sub e))
          have hO7 := ((hO6.op (k := 7) (v := some b2) (fun e => hne.1 e.symm) (.inr (.inr (fun e => by cases e; exact hb2 hO.1.1.1)))).tt (t' := ws_a t2 12 0 32 n (i_ n2)) (N' := N2)).fin (x := x') (tn' := tn') (fun e => hne.1 e.symm)
          have hT7 : OWt (ws_p w2 14 b 7 (some b2), ws_a t2 12 0 32 n (i_ n2), al2, m2, N2, nuU nu2 b x', tn') nE ft := (hT6.oi (k := 32) (v := i_ n2) (fun e => hne.2.1 e.symm)).fin (nu' := nuU nu2 b x') hm2 hne.2.2
          refine PS_lr (fun Q hq => c_behind (by omega) hbl hq) ?_
          refine PS_r1 (fun Q hq => t_chain (by omega) hnl.2.2.2.1 H6.1.tl.2.2.2.2.2.2.1 hq) ?_
          rw [i_1, i_add, cN1]
          exact ih _ _ _ _ _ _ _ p2 (cnt + 1) b2 n2 _ _ (by have : SA.2.2.2.2.1 ≤ N := H.2.2.1.2.2.1; exact this) (by omega) (by omega) H7 hO7 hT7 hI7 (by omega) (fun e => hb2 (H.2.sub e)) ⟨fun e => hb2 (by rw [e]; exact hO.1.1.1), by have := hn2.2.1; have : N ≤ n2 := this; omega, .inl hnE⟩ ⟨by omega, by omega, by omega⟩ ⟨by omega, by omega⟩ (by omega)
        · have hvn : ∃ n2 : Nat, v = (n2 : Int) := ⟨v.toNat, by omega⟩
          obtain ⟨n2, rfl⟩ := hvn
          have hnn : n < 14000 := hnl.2.2.2.1
          refine eS_1 (fun Q hq => t_chain (by omega) hnn hd.2.2.tl.2.2.2.2.2.2.1 hq) ?_
          have hd2 := hd.ta (n := n) (k := 32) (v := i_ n2) rfl
          refine eS_l (fun Q h => zt_X13_element_p142 (by omega) h) ?_
          simp only [zb_X13_element_p142]
          refine eS_1 (fun Q hq => t_may (v := 44) (by omega) hd2.2.2.1 hd2.1.2 rfl (by omega) (fun e => by have := hd2.2.2.2.1; omega) (fun _ => hq)) (eS_p rfl ?_)
          exact dd_want (v := 47) hd2 (by omega) rfl (by omega)
      · refine eS_1 (fun Q hq => t_may (v := 44) (by omega) H.1.ta H.1.krg rfl (by omega) (fun _ => hq) (fun h => absurd e h)) (eS_n (by decide) ?_)
        have hd2 := H.dd hd (by omega) (by omega) hal h76
        by_cases hc : cnt = 8
        · refine eS_n (not_not_intro hc) ?_
          exact dd_stop (no := 2) hd2 (by omega)
        · exact eS_p hc (dd_elem hd2 (by omega))
    · refine PS_lp (by rw [decide_eq_false e]; decide) ?_
      refine PS_r1 (fun Q hq => t_may (v := 44) (by omega) H.1.ta H.1.krg rfl (by omega) (fun h => absurd h e) (fun _ => hq)) (PS_rp rfl ?_)
      obtain ⟨x', tn', k1, H7, ⟨l, hs1, -, hs2, hs3⟩, hm1, hm2⟩ := hI.doneK H hb0 hA
      have hLE : LEz (vw w t) tn' (nuU nu b x') k1 (oE K (kln K pA) 0 pA p) (some b1) (i_ n1) := ⟨l, hs1, hs2, hs3⟩
      have hO7 := hO.fin (x := x') (tn' := tn') (fun e => hne.1 e.symm)
      have hT7 := hT.fin (nu' := nuU nu b x') hm2 hne.2.2
      refine PSd_exw (c := 43) (v := 47) (by omega) (by omega) (by omega) H7 rfl (by unfold wcd; omega) rfl (fun e47 H8 => ?_) (fun w' hd => ?_)
      · have hln1 := H7.1.ln (H7.p1 (by omega)) (by omega)
        have hLE8 : LEz (vw (nx w p) (nx3 t p)) tn' (nuU nu b x') k1 (oE K (kln K pA) 0 pA p) (some b1) (i_ n1) := by
          rw [vw_n2]
          exact hLE
        have hO8 : OWc (nx w p, nx3 t p, al, m, N, nuU nu b x', tn') bE fi fp := hO7.w4 (j := 3) (v := i_ (p + 1 : Nat)) (.inl (by decide))
        have hT8 : OWt (nx w p, nx3 t p, al, m, N, nuU nu b x', tn') nE ft := hT7
        refine PRd_c11 H.1.krg H8.2 (p_list IH (L := L - 20) (L' := L' - 22) (by omega) (by omega) H8.1 (by omega) ⟨by omega, by omega⟩) (fun a h => absurd h List.not_mem_nil) (fun a h => absurd h List.not_mem_nil) (fun x v w2 t2 al2 m2 N2 nu2 tn2 p2 hl H6 HS hb hgx => ?_) (fun v w2 t2 hv hv2 hd => ?_)
        · obtain ⟨⟨k2, hs⟩, hln2, hhd⟩ := hgx
          rw [hln1, hln] at hs
          have hpl2 := H6.1.ta.lt
          have hO9 := hO8.fr HS.2 List.not_mem_nil
          have hT9 := hT8.fr HS.2 List.not_mem_nil
          have hLE9 := hLE8.up (k' := 0) (VWa.fr H8.1 HS.2 (fun _ h => absurd h List.not_mem_nil) (fun _ h => absurd h List.not_mem_nil)) HS.2.2.2.2.2.1.1 HS.2.2.2.2.2.1.2.1 (Nat.le_refl _)
          refine PS_lex bE rfl (PS_land (hO9.wl H6.1) ?_)
          have H10 := H6.wp (k := 4) (v := x) hO9.1.2 (fun _ => List.mem_singleton_self bE) (LKO.op (hhd.up (fun _ e => H8.2.sub e)))
          have hO10 := hO9.sp (k := 4) (v := x) (.inr (.inr (fun e => (hhd _ e).2.2 hO8.1.1.1)))
          refine PS_rand (by rw [H6.1.tl.2.2.2.1]; exact i_inb' (by omega) (by omega)) ?_
          have H11 := H10.ta (k := 29) (n := nE) (v := v) rfl hT9.1.2 (fun h => absurd h (by omega))
          have hT11 := hT9.si (k := 29) (v := v)
          simp only [i_nat' (show nE < 2147483648 by omega)]
          refine PSd_elw (by omega) (by omega) (by omega) H11 (fun e74 H12 => ?_) (fun w' hd => ?_)
          · have OE : OWc (nx (ws_p w2 14 bE 4 x) p2, nx3 (ws_a t2 12 0 29 nE v) p2, al2, m2, N2, nu2, tn2) bE _ _ := hO10.w4 (j := 3) (v := i_ (p2 + 1 : Nat)) (.inl (by decide))
            have TE : OWt (nx (ws_p w2 14 bE 4 x) p2, nx3 (ws_a t2 12 0 29 nE v) p2, al2, m2, N2, nu2, tn2) nE _ := hT11
            have hvw : VWa (vw w2 t2) (vw (nx (ws_p w2 14 bE 4 x) p2) (nx3 (ws_a t2 12 0 29 nE v) p2)) tn2 nu2 := by
              refine VWa.mk (b := bE) (n := nE) ?_ ?_ ?_ hO9.1.2 hT9.1.2
              · exact (fun a h k => by simp only [nx, Rii, Rgi, Rpi, Rai, Rbi, Rri, Rni, Rdi, Roi, Rti, Rzi, RCi, RSi, Rip, Rgp, Rpp, Rap, Rbp, Rrp, Rnp, Rdp, Rop, Rtp, Rzp, RCp, RSp]; simp [h])
              · exact (fun y h k => by simp only [nx3, nd3, Rii, Rgi, Rpi, Rai, Rbi, Rri, Rni, Rdi, Roi, Rti, Rzi, RCi, RSi, Ria, Rga, Rpa, Raa, Rba, Rra, Rna, Rda, Roa, Rta, Rza, RCa, RSa]; simp [h])
              · rfl
            refine PS_lex bE rfl (PS_land (OE.wl H12.1) (PS_lp ?_ ?_))
            · rw [OE.2.2 0 rfl]
              show ¬ (up_ fp 4 x 0 = _)
              rw [show up_ fp 4 x 0 = fp 0 from rfl, f0]
              exact eo_ne hzA (by decide) (by decide) (by decide)
            refine PS_ret (.inr ⟨none, i_ nE, al2, m2, N2, nu2, tn2, p2 + 1, 0, rfl, rfl, H12.c0, ⟨by omega, by omega, by omega⟩, nE, 0, rfl, PND.mk1 (kd := 4) OE TE hE.1 hE.2 (LFz.k4 OE TE ?_ ?_ ⟨rfl, ?_, ?_, ?_⟩) i12 (fun l e => by cases e), NXT.mk1 OE TE f7 t32, e74, ⟨by show m2 + _ + 3 ≤ _; omega, by show N2 + _ + 3 ≤ _; omega⟩, by omega⟩)
            · exact i2.trans t27.symm
            · exact t26
            · exact f0
            · show LEz _ _ _ _ (some (ft 27), _) (fp 3) (ft 28)
              rw [t27, f3, t28]
              exact hLE9.up hvw (fun _ _ h => h) (fun _ h => h) (Nat.le_refl _)
            · show S1z _ _ _ _ (some (ft 27), _) 0 x v
              rw [t27]
              exact hs.up hvw (fun _ _ h => h) (fun _ h => h) (Nat.le_refl _)
          · exact hd.ret rfl ⟨by omega, by omega⟩
        · refine eS_and (by rw [hd.2.2.tl.2.2.2.1]; exact i_inb' (by omega) (by omega)) ?_
          exact dd_endOfLine (hd.ta rfl) (by omega)
      · exact dd_list hd (by omega)
end ST4
