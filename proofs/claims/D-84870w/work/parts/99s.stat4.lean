/-! ===== PARSERS, part 19: rows that are assigned ===== -/
section ST5
variable {ex et : List Nat} {S S' S0 : pS} {D : pD} {K : pK} {p p0 q o o' oA dl m N n n2 b b2 lo hi lo2 hi2 r d d2 dd g : Nat} {w t w' : wS} {al : List Nat} {nu : pNz} {tn : Nat → Prop} {E E' : zE} {L L' : Nat} {ol : pOL} {f : Option Nat} {fT : Int32} {Q : kx_Rs → wS → Prop} {fi : Nat → Int32} {fp : Nat → Option Nat} {ft : Nat → Int32}
/-- expressions with ; between, the first of which both have written into their nodes (MeetingHouse in a call) -/
theorem p_rowa_loop {G : Nat} (IH : EXq D K E' G) (hL : lex 0 + 60 ≤ L) (hL' : lex 0 + 60 ≤ L') {KC : (kx_Rs → wS → Prop) → Option Nat → wS → Prop} {w0 : wS} {SA : pS} {pA pE nE bE b1 n1 b0 n0 : Nat} (hpE : pA < pE) (hK : ∀ w t al m N nu tn p kE k, pE < p → HY D K [bE] [] SA (w, t, al, m, N, nu, tn) p p 0 0 → OWc (w, t, al, m, N, nu, tn) bE fi fp → OWt (w, t, al, m, N, nu, tn) nE ft → EEz (vw w t) tn nu kE (oE K (kln K pA) 0 pA pE) (some b0) (i_ n0) → S1z (vw w t) tn nu k (oE K (kln K pA) 0 pE p) 0 (some b1) (i_ n1) → HDN SA (w, t, al, m, N, nu, tn) (some b1) → kln K p = kln K pA → (pA < p ∧ m + 4 * pA ≤ SA.2.2.2.1 + 4 * p + 1 ∧ N + 4 * pA ≤ SA.2.2.2.2.1 + 4 * p + 1) → (m ≤ 4 * p + 9 ∧ N ≤ 4 * p + 9) → PS (fun Q => KC Q (some b1) w) (fun Q => zw E' (L' - 20) kt_M400 [.ref (w_adr E'.2.1 12 0)] t (wk0 (fun w1 => wle t w1 → Q (.inl (some (.int (i_ nE)))) w1) (fun e w => Q (.inr e) w))) (PRd D K dl [bE] [] SA pA 0 false true 0 (GB D K SA pA bE))) (hE : nE < 14000) : ∀ g w t al m N nu tn p (cnt : Nat) b n lo hi kE, SA.2.2.2.2.1 ≤ lo → K.length ≤ p + g → K.length ≤ p + G → HY D K [bE] [] SA (w, t, al, m, N, nu, tn) p p 0 0 → OWc (w, t, al, m, N, nu, tn) bE fi fp → OWt (w, t, al, m, N, nu, tn) nE ft → EEz (vw w t) tn nu kE (oE K (kln K pA) 0 pA pE) (some b0) (i_ n0) → LI D (w, t, al, m, N, nu, tn) lo hi (oE K (kln K pA) 0 pE p) (some b1) (i_ n1) b n 0 0 → HDN SA (w, t, al, m, N, nu, tn) (some b1) → kln K p = kln K pA → b ∉ SA.2.2.1.take SA.2.2.2.1 → b ≠ bE ∧ n ≠ nE ∧ (nE < lo ∨ hi ≤ nE) → (pA < p ∧ m + 4 * pA ≤ SA.2.2.2.1 + 4 * p + 1 ∧ N + 4 * pA ≤ SA.2.2.2.2.1 + 4 * p + 1) → (m ≤ 4 * p + 9 ∧ N ≤ 4 * p + 9) → cnt ≤ 16 → PS (fun Q => zL_X5_row_p11 D.1 L (wkr (fun v w1 => wle w0 w1 → KC Q v w1) (fun e w => Q (.inr e) w)) 41 16 (some b1) (some b) (i_ cnt) w) (fun Q => zL_X13_element_p73 E' L' Q (i_ nE) (i_ n) (i_ cnt) t) (PRd D K dl [bE] [] SA pA 0 false true 0 (GB D K SA pA bE)) := by
  have hlx := hL
  have hlx' := hL'
  unfold lex at hlx hlx'
  intro g
  induction g with
  | zero =>
    intro w t al m N nu tn p cnt b n lo hi kE hA hg _ H
    have := H.1.ca.2.2
    omega
  | succ g ih =>
    intro w t al m N nu tn p cnt b n lo hi kE hA hg hG H hO hT hEE hI hf0 hln hb0 hne hbd hmN hcnt
    have hpl := H.1.ta.lt
    have hal := H.alive
    have hnl := hI.2.1.lt
    refine PS_of (fun Q h => zt_X5_row_p11 (by omega) h) (fun Q h => zt_X13_element_p73 (by omega) h) ?_
    simp only [zb_X5_row_p11, zb_X5_row_p33, zb_X13_element_p73]
    refine PS_l1 (fun Q hq => c_is (c := 41) (v := 45) (by omega) H.1.ca rfl (by unfold wcd; omega) hq) ?_
    by_cases e : kk K p = 45
    · refine PS_ln (by rw [decide_eq_true e]; decide) ?_
      have hp1 := H.p1 (by omega)
      have hln1 := H.1.ln hp1 (by omega)
      have e16 : (i_ (cnt : Int) = (16 : Int32)) = (cnt = 16) := by
        rw [show (16 : Int32) = i_ 16 from rfl]
        exact propext ((i_eq (by omega) (by omega)).trans (by omega))
      simp only [e16]
      refine PSd_nxl (by omega) H (by omega) (fun H2 => ?_) (fun w' hd h76 => ?_)
      · refine PS_r1 (fun Q hq => t_may (v := 45) (by omega) H2.1.ta H2.1.krg rfl (by omega) (fun _ => hq) (fun h => absurd e h)) (PS_rn (by decide) ?_)
        have H3 := H2.tnx (by omega) (by omega)
        by_cases hc : cnt = 16
        · refine PS_ln (not_not_intro hc) (PS_rn (not_not_intro hc) ?_)
          refine PSd_two (by omega) H3 (fun w' e => ?_)
          subst e
          exact p_two (by omega) H3 H3.alive
        refine PS_lp hc (PS_rp hc ?_)
        refine PRd_c11 H.1.krg H3.2 (IH (L - 22) (L' - 22) _ _ _ _ _ _ _ _ _ (by unfold lex; omega) (by unfold lex; omega) H3.1 (by omega) ⟨by omega, by omega⟩) (fun a h => absurd h List.not_mem_nil) (fun a h => absurd h List.not_mem_nil) (fun x v w2 t2 al2 m2 N2 nu2 tn2 p2 hl H6 HS hb hgx => ?_) (fun v w2 t2 hv hv2 hd => ?_)
        · obtain ⟨b2, n2, rfl, rfl, hP, hX, hb2, hln2, hfk⟩ := hgx
          have hI3 : LI D (nx w p, nx3 t p, al, m, N, nu, tn) lo hi (oE K (kln K pA) 0 pE p) (some b1) (i_ n1) b n 0 0 := hI.nx2
          have hI6 := hI3.fr H3.1 HS.2
          have hEE3 : EEz (vw (nx w p) (nx3 t p)) tn nu kE (oE K (kln K pA) 0 pA pE) (some b0) (i_ n0) := by
            rw [vw_n2]
            exact hEE
          have hEE6 := hEE3.up (k' := 0) (VWa.fr H3.1 HS.2 (fun _ h => absurd h List.not_mem_nil) (fun _ h => absurd h List.not_mem_nil)) HS.2.2.2.2.2.1.1 HS.2.2.2.2.2.1.2.1 (Nat.le_refl _)
          have hO6 := (show OWc (nx w p, nx3 t p, al, m, N, nu, tn) bE fi fp from hO.w4 (j := 3) (v := i_ (p + 1 : Nat)) (.inl (by decide))).fr HS.2 List.not_mem_nil
          have hT6 := (show OWt (nx w p, nx3 t p, al, m, N, nu, tn) nE ft from hT).fr HS.2 List.not_mem_nil
          have hbb : b2 ≠ b := fun e => hb2 (by rw [e]; exact hI.2.1.bm.1)
          have hbl : w_l w2 D.1.2.1 14 b := (H6.1.2.2.1.2.2.2.2.1 b (List.mem_of_mem_take hI6.2.1.bm.1)).1
          rw [hln1, hln] at hP
          have hlo2 : lo ≤ N := by have := hnl.2.1; have : n < N := hnl.1; omega
          have hnE : nE < N := hT.1.1
          have hn2 := hP.lt
          have hpp : pE < p := hI.2.1.se.1
          obtain ⟨x', tn', H7, hI7, hm1, hm2, hva, hnle⟩ := hI6.link H6 hP hX hbb hI.2.1.1 hb0 hA trivial (fun e => hb2 (H.2.sub e))
          have hO7 := ((hO6.op (k := 7) (v := some b2) (fun e => hne.1 e.symm) (.inr (.inr (fun e => by cases e; exact hb2 hO.1.1.1)))).tt (t' := ws_a t2 12 0 32 n (i_ n2)) (N' := N2)).fin (x := x') (tn' := tn') (fun e => hne.1 e.symm)
          have hT7 : OWt (ws_p w2 14 b 7 (some b2), ws_a t2 12 0 32 n (i_ n2), al2, m2, N2, nuU nu2 b x', tn') nE ft := (hT6.oi (k := 32) (v := i_ n2) (fun e => hne.2.1 e.symm)).fin (nu' := nuU nu2 b x') hm2 hne.2.2
          have hEE7 := hEE6.up (k' := 0) hva hnle hm1 (Nat.le_refl _)
          refine PS_lr (fun Q hq => c_behind (by omega) hbl hq) ?_
          refine PS_r1 (fun Q hq => t_chain (by omega) hnl.2.2.2.1 H6.1.tl.2.2.2.2.2.2.1 hq) ?_
          rw [i_1, i_add, cN1]
          exact ih _ _ _ _ _ _ _ p2 (cnt + 1) b2 n2 _ _ kE (by have : SA.2.2.2.2.1 ≤ N := H.2.2.1.2.2.1; exact this) (by omega) (by omega) H7 hO7 hT7 hEE7.wk hI7 (((show HD (nx w p, nx3 t p, al, m, N, nu, tn) (some b1) from hf0.hd).fr HS.2).link hI6 hP.bm.2 hbb |>.new (fun q e => (hf0 q e).2.2)) (by omega) (fun e => hb2 (H.2.sub e)) ⟨fun e => hb2 (by rw [e]; exact hO.1.1.1), by have := hn2.2.1; have : N ≤ n2 := this; omega, .inl hnE⟩ ⟨by omega, by omega, by omega⟩ ⟨by omega, by omega⟩ (by omega)
        · have hvn : ∃ n2 : Nat, v = (n2 : Int) := ⟨v.toNat, by omega⟩
          obtain ⟨n2, rfl⟩ := hvn
          have hnn : n < 14000 := hnl.2.2.2.1
          refine eS_1 (fun Q hq => t_chain (by omega) hnn hd.2.2.tl.2.2.2.2.2.2.1 hq) ?_
          have hd2 := hd.ta (n := n) (k := 32) (v := i_ n2) rfl
          refine eS_l (fun Q h => zt_X13_element_p73 (by omega) h) ?_
          simp only [zb_X13_element_p73]
          refine eS_1 (fun Q hq => t_may (v := 45) (by omega) hd2.2.2.1 hd2.1.2 rfl (by omega) (fun e => by have := hd2.2.2.2.1; omega) (fun _ => hq)) (eS_p rfl ?_)
          exact dd_endOfLine hd2 (by omega)
      · refine eS_1 (fun Q hq => t_may (v := 45) (by omega) H.1.ta H.1.krg rfl (by omega) (fun _ => hq) (fun h => absurd e h)) (eS_n (by decide) ?_)
        have hd2 := H.dd hd (by omega) (by omega) hal h76
        by_cases hc : cnt = 16
        · refine eS_n (not_not_intro hc) ?_
          exact dd_stop (no := 2) hd2 (by omega)
        · exact eS_p hc (dd_e hd2 (by omega))
    · refine PS_lp (by rw [decide_eq_false e]; decide) ?_
      refine PS_r1 (fun Q hq => t_may (v := 45) (by omega) H.1.ta H.1.krg rfl (by omega) (fun h => absurd h e) (fun _ => hq)) (PS_rp rfl ?_)
      obtain ⟨x', tn', k, H7, hS, hm1, hm2⟩ := hI.done H hb0 hA
      have hO7 := hO.fin (x := x') (tn' := tn') (fun e => hne.1 e.symm)
      have hT7 := hT.fin (nu' := nuU nu b x') hm2 hne.2.2
      have hEE7 : EEz (vw w t) tn' (nuU nu b x') kE (oE K (kln K pA) 0 pA pE) (some b0) (i_ n0) := hEE.up ⟨fun _ _ => ⟨rfl, rfl⟩, fun _ _ _ _ => rfl, rfl⟩ (nle_nuU hI.2.1.bm.2) hm1 (Nat.le_refl _)
      exact PS_l (fun Q h => fun _ => h) (hK _ _ _ _ _ _ _ p kE k hI.2.1.se.1 H7 hO7 hT7 hEE7 hS hf0 hln hbd hmN)
end ST5
