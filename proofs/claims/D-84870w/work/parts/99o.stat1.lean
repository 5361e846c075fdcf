/-! ===== PARSERS, part 15: elements with signs between, REPLICATORS ===== -/
section ST1
variable {ex et : List Nat} {S S' S0 : pS} {D : pD} {K : pK} {p p0 q o o' oA m N n n2 b b2 lo hi lo2 hi2 r d d2 dd g : Nat} {w t w' : wS} {al : List Nat} {nu : pNz} {tn : Nat → Prop} {E E' : zE} {L L' : Nat} {ol : pOL} {f : Option Nat} {fT : Int32} {Q : kx_Rs → wS → Prop} {fi : Nat → Int32} {fp : Nat → Option Nat} {ft : Nat → Int32}
/-- elements that are read -/
def GL1 (D : pD) (K : pK) (S : pS) (p : Nat) : pG := fun x v S2 p2 => (∃ k, LEz (vw S2.1 S2.2.1) S2.2.2.2.2.2.2 S2.2.2.2.2.2.1 k (oE K (kln K p) 0 p p2) x v) ∧ kln K p2 = kln K p ∧ HDN S S2 x
abbrev is60 : Int32 → Prop := fun x => x = 60
/-- the twin stops where it stands -/
theorem p_two {br : Bool} {lo' : Int} (hL' : 400 ≤ L') (H : HY D K ex et S0 (w, t, al, m, N, nu, tn) p p o o') (hal : kk K p ≠ 76) : eS (fun Q => zw E' L' kt_M545 [.ref (w_adr E'.2.1 12 0), .int 2] t (wkr (fun v2 w1 => wle t w1 → (v2 = some (w_adr E'.2.1 13 0) ∧ Q (.inr HT_) w1)) (fun e w => Q (.inr e) w))) (fun r' t' => TLP D K S0.1 S0.2.1 br lo' (fl2 w 2 (kln K p)) r' t') := by
  have hk := H.1.ta.kr H.1.krg
  refine eS_l (fun Q hq => t_throw (no := 2) (e := "") (by omega) H.1.ta hk hq) ?_
  exact TLP_two H FX.rf frm.rf hal
/-- the twin stops at a bad token -/
theorem dd_stop {S0 : pS} {no : Int} {br : Bool} {lo' : Int} (h : DDs D K S0 w' t) (hL : 400 ≤ L) : eS (fun Q => zw E' L kt_M545 [.ref (w_adr E'.2.1 12 0), .int (i_ no)] t (wkr (fun v2 w1 => wle t w1 → (v2 = some (w_adr E'.2.1 13 0) ∧ Q (.inr HT_) w1)) (fun e w => Q (.inr e) w))) (fun r' t' => TLP D K S0.1 S0.2.1 br lo' w' r' t') := by
  refine eS_l (fun Q hq => t_throw (no := no) (e := "") (by omega) h.2.2.1 (by have := h.2.2.2.1; omega) hq) ?_
  rw [h.if1]
  exact h.thr
theorem p_elems_loop {G : Nat} (IH : EXq D K E' G) (hL : lex oA ≤ L + 100) (hL' : lex oA ≤ L' + 100) {SA : pS} {pA : Nat} : ∀ g w t al m N nu tn p (cnt : Nat) b n lo hi fn, SA.2.2.2.2.1 ≤ lo → K.length ≤ p + g → K.length ≤ p + 1 + G → HY D K [] [] SA (w, t, al, m, N, nu, tn) p p oA oA → LIk is60 D (w, t, al, m, N, nu, tn) lo hi (oE K (kln K pA) 0 pA p) f (i_ (fn : Nat)) b n 0 0 → fn < 14000 → kln K p = kln K pA → b ∉ SA.2.2.1.take SA.2.2.2.1 → HDN SA (w, t, al, m, N, nu, tn) f → (pA < p ∧ m + 4 * pA ≤ SA.2.2.2.1 + 4 * p ∧ N + 4 * pA ≤ SA.2.2.2.2.1 + 4 * p) → (m ≤ 4 * p + 9 ∧ N ≤ 4 * p + 9) → cnt ≤ 16 → PS (fun Q => zL_X5_elements_p10 D.1 L Q 41 f (some b) (i_ cnt) w) (fun Q => zL_X13_elements_p9 E' L' Q (i_ fn) (i_ n) (i_ cnt) t) (PR D K [] [] SA pA oA true true 0 (GL1 D K SA pA)) := by
  have hlx := hL
  have hlx' := hL'
  unfold lex at hlx hlx'
  intro g
  induction g with
  | zero =>
    intro w t al m N nu tn p cnt b n lo hi fn hA hg _ H
    have := H.1.ca.2.2
    omega
  | succ g ih =>
    intro w t al m N nu tn p cnt b n lo hi fn hA hg hG H hI hfn hln hb0 hf0 hbd hmN hcnt
    have hpl := H.1.ta.lt
    have hal := H.alive
    have hnl := hI.2.1.lt
    refine PS_of (fun Q h => zt_X5_elements_p10 (by omega) h) (fun Q h => zt_X13_elements_p9 (by omega) h) ?_
    simp only [zb_X5_elements_p10, zb_X13_elements_p9, zb_X5_elements_p33]
    refine PS_l1 (fun Q hq => c_is (c := 41) (v := 45) (by omega) H.1.ca rfl (by unfold wcd; omega) hq) ?_
    by_cases e : kk K p = 45
    · refine PS_ln (by rw [decide_eq_true e]; decide) ?_
      have hp1 := H.p1 (by omega)
      have hln1 := H.1.ln hp1 (by omega)
      have e16 : (i_ (cnt : Int) = (16 : Int32)) = (cnt = 16) := by
        rw [show (16 : Int32) = i_ 16 from rfl]
        exact propext ((i_eq (by omega) (by omega)).trans (by omega))
      simp only [e16]
      refine PS_nxl (by omega) H (by omega) (fun H2 => ?_) (fun w' hd h76 => ?_)
      · refine PS_r1 (fun Q hq => t_may (v := 45) (by omega) H2.1.ta H2.1.krg rfl (by omega) (fun _ => hq) (fun h => absurd e h)) (PS_rn (by decide) ?_)
        have H3 := H2.tnx (by omega) (by omega)
        by_cases hc : cnt = 16
        · refine PS_ln (not_not_intro hc) (PS_rn (not_not_intro hc) ?_)
          refine PS_two (by omega) H3 (fun w' e => ?_)
          subst e
          exact p_two (by omega) H3 H3.alive
        refine PS_lp hc (PS_rp hc ?_)
        refine PR_c11 H.1.krg H3.2 (p_element IH (L := L - 22) (L' := L' - 23) (by unfold lex; omega) (by unfold lex; omega) H3.1 (by omega) ⟨by omega, by omega⟩) (fun a h => absurd h List.not_mem_nil) (fun a h => absurd h List.not_mem_nil) (fun x v w2 t2 al2 m2 N2 nu2 tn2 p2 hl H6 HS hb hgx => ?_) (fun v w2 t2 hv hv2 hd => ?_)
        · obtain ⟨b2, n2, rfl, rfl, hP, hX, hb2, hln2, hkd⟩ := hgx
          have hI3 : LIk is60 D (nx w p, nx3 t p, al, m, N, nu, tn) lo hi (oE K (kln K pA) 0 pA p) f (i_ fn) b n 0 0 := hI.nx2
          have hI6 := hI3.fr H3.1 HS.2
          have hbb : b2 ≠ b := fun e => hb2 (by rw [e]; exact hI.2.1.bm.1)
          have hbl : w_l w2 D.1.2.1 14 b := (H6.1.2.2.1.2.2.2.2.1 b (List.mem_of_mem_take hI6.2.1.bm.1)).1
          rw [hln1, hln] at hP
          have hlo2 : lo ≤ N := by have := hnl.2.1; have : n < N := hnl.1; omega
          obtain ⟨x', tn', H7, hI7, -⟩ := hI6.link H6 hP hX hbb hI.2.1.1 hb0 hA hkd (fun e => hb2 (H.2.sub e))
          refine PS_lr (fun Q hq => c_behind (by omega) hbl hq) ?_
          refine PS_r1 (fun Q hq => t_chain (by omega) hnl.2.2.2.1 H6.1.tl.2.2.2.2.2.2.1 hq) ?_
          rw [i_1, i_add, cN1]
          exact ih _ _ _ _ _ _ _ p2 (cnt + 1) b2 n2 _ _ fn (by have : SA.2.2.2.2.1 ≤ N := H.2.2.1.2.2.1; exact this) (by omega) (by omega) H7 hI7 hfn (by omega) (fun e => hb2 (H.2.sub e)) (((show HD (nx w p, nx3 t p, al, m, N, nu, tn) f from hf0.hd).fr HS.2).link hI6 hP.bm.2 hbb |>.new (fun q e => (hf0 q e).2.2)) ⟨by omega, by omega, by omega⟩ ⟨by omega, by omega⟩ (by omega)
        · have hvn : ∃ n2 : Nat, v = (n2 : Int) := ⟨v.toNat, by omega⟩
          obtain ⟨n2, rfl⟩ := hvn
          have hnn : n < 14000 := hnl.2.2.2.1
          refine eS_1 (fun Q hq => t_chain (by omega) hnn hd.2.2.tl.2.2.2.2.2.2.1 hq) ?_
          have hd2 := hd.ta (n := n) (k := 32) (v := i_ n2) rfl
          refine eS_l (fun Q h => zt_X13_elements_p9 (by omega) h) ?_
          simp only [zb_X13_elements_p9]
          refine eS_1 (fun Q hq => t_may (v := 45) (by omega) hd2.2.2.1 hd2.1.2 rfl (by omega) (fun e => by have := hd2.2.2.2.1; omega) (fun _ => hq)) (eS_p rfl ?_)
          exact hd2.ret rfl ⟨by omega, by omega⟩
      · refine eS_1 (fun Q hq => t_may (v := 45) (by omega) H.1.ta H.1.krg rfl (by omega) (fun _ => hq) (fun h => absurd e h)) (eS_n (by decide) ?_)
        have hd2 := H.dd hd (by omega) (by omega) hal h76
        by_cases hc : cnt = 16
        · refine eS_n (not_not_intro hc) ?_
          exact dd_stop (no := 2) hd2 (by omega)
        · exact eS_p hc (dd_elem hd2 (by omega))
    · refine PS_lp (by rw [decide_eq_false e]; decide) ?_
      refine PS_r1 (fun Q hq => t_may (v := 45) (by omega) H.1.ta H.1.krg rfl (by omega) (fun h => absurd h e) (fun _ => hq)) (PS_rp rfl ?_)
      obtain ⟨x', tn', k, H7, ⟨l, hs1, -, hs2, hs3⟩, -, -⟩ := hI.doneK H hb0 hA
      exact PS_ret (.inr ⟨f, i_ fn, al, m, N, nuU nu b x', tn', p, rfl, rfl, H7, hbd, ⟨k, l, hs1, hs2, hs3⟩, hln, hf0⟩)
theorem p_elements {G : Nat} (IH : EXq D K E' G) (hL : lex o ≤ L + 80) (hL' : lex o ≤ L' + 80) (hS : SY D K (w, t, al, m, N, nu, tn) p p o o) (hg : K.length ≤ p + 1 + G) (hB : m ≤ 4 * p + 9 ∧ N ≤ 4 * p + 9) :
    PW w t (fun Q => zw D.1 L kt_M173 [.ref (w_adr D.1.2.1 4 0), .int 41] w Q) (fun Q => zw E' L' kt_M398 [.ref (w_adr E'.2.1 12 0)] t Q) (PR D K [] [] (w, t, al, m, N, nu, tn) p o true true 0 (GL1 D K (w, t, al, m, N, nu, tn) p)) := by
  have hpl := hS.ta.lt
  have ho20 := hS.2.1.1.2.2.2.2
  have hlx := hL
  have hlx' := hL'
  unfold lex at hlx hlx'
  have H : HY D K [] [] (w, t, al, m, N, nu, tn) (w, t, al, m, N, nu, tn) p p o o := ⟨hS, FR.rf hS.mle⟩
  refine PW_of' (fun Q h => zt_X5_elements_p0 (by omega) h) (fun Q h => zt_X13_elements_p0 (by omega) h) ?_
  simp only [zb_X5_elements_p0, zb_X13_elements_p0]
  refine PR_c11 hS.krg H.2 (p_element IH (L := L - 22) (L' := L' - 23) (by unfold lex; omega) (by unfold lex; omega) H.1 hg hB) (fun a h => absurd h List.not_mem_nil) (fun a h => absurd h List.not_mem_nil) (fun x v w2 t2 al2 m2 N2 nu2 tn2 p2 hl H6 HS hb hgx => ?_) (fun v w2 t2 hv hv2 hd => ?_)
  · obtain ⟨b2, n2, rfl, rfl, hP, hX, hb2, hln2, hkd⟩ := hgx
    have hn2 := hP.lt
    exact p_elems_loop IH (by unfold lex; omega) (by unfold lex; omega) K.length _ _ _ _ _ _ _ p2 1 b2 n2 _ _ n2 (Nat.le_refl _) (by omega) (by omega) H6 (LIk.one hP hX.xo hkd) hn2.2.2.2.1 hln2 hb2 ((HD.one hP hX).new (fun q e => by cases e; exact hb2)) hb ⟨by omega, by omega⟩ (by omega)
  · refine eS_l (fun Q h => zt_X13_elements_p9 (by omega) h) ?_
    simp only [zb_X13_elements_p9]
    refine eS_1 (fun Q hq => t_may (v := 45) (by omega) hd.2.2.1 hd.1.2 rfl (by omega) (fun e => by have := hd.2.2.2.1; omega) (fun _ => hq)) (eS_p rfl ?_)
    exact hd.ret rfl ⟨hv, hv2⟩
end ST1
section ST2
variable {ex et : List Nat} {S S' S0 : pS} {D : pD} {K : pK} {p p0 q o o' oA m N n n2 b b2 lo hi lo2 hi2 r d d2 dd g : Nat} {w t w' : wS} {al : List Nat} {nu : pNz} {tn : Nat → Prop} {E E' : zE} {L L' : Nat} {ol : pOL} {f : Option Nat} {fT : Int32} {Q : kx_Rs → wS → Prop} {fi : Nat → Int32} {fp : Nat → Option Nat} {ft : Nat → Int32}
theorem LFz.rep {cc : Bool} {rk s e : Nat} {g : Nat → Nat} (hO : OWx cc S b fi fp) (hT : OWt S n ft) {T2 : Nat → Prop} (h2 : fi 2 = ft 27) (h26 : ft 26 = 20) (h0 : fp 0 = some (D.1.1.1 45)) (hn : nmr D (fi 9) (ft 30)) (hc : ECz (vw S.1 S.2.1) S.2.2.2.2.2.2 S.2.2.2.2.2.1 rk (some (ft 27), 0, rk, g, s, e) 0 (fp 3) (ft 28)) (hd : ECz (vw S.1 S.2.1) S.2.2.2.2.2.2 S.2.2.2.2.2.1 rk (some (ft 27), 0, rk, g, s, e) 0 (fp 4) (ft 29)) (hg : ft 27 = i_ (g s) := by first | rfl | assumption) : LFz D (vw S.1 S.2.1) S.2.2.2.2.2.2 T2 S.2.2.2.2.2.1 (rk, g, s, e) 0 b n := by
  refine ⟨⟨?_, (hT.2 27 rfl).trans hg⟩, 20, ?_, by decide, fun e => absurd e (by decide), ?_⟩
  · show w_i S.1 14 b 2 = w_a S.2.1 12 0 27 n
    rw [hO.2.1 2 rfl, hT.2 27 rfl]
    exact h2
  · show w_a S.2.1 12 0 26 n = _
    rw [hT.2 26 rfl]
    exact h26
  · show 0 = 0 ∧ w_p S.1 14 b 0 = _ ∧ nmr D (w_i S.1 14 b 9) (w_a S.2.1 12 0 30 n) ∧ ECz _ _ _ _ (some (w_a S.2.1 12 0 27 n), 0, rk, g, s, e) 0 (w_p S.1 14 b 3) (w_a S.2.1 12 0 28 n) ∧ ECz _ _ _ _ (some (w_a S.2.1 12 0 27 n), 0, rk, g, s, e) 0 (w_p S.1 14 b 4) (w_a S.2.1 12 0 29 n)
    rw [hO.2.2 0 rfl, hO.2.1 9 rfl, hO.2.2 3 rfl, hO.2.2 4 rfl, hT.2 30 rfl, hT.2 29 rfl, hT.2 27 rfl, hT.2 28 rfl]
    exact ⟨rfl, h0, hn, hc, hd⟩
/-- MeetingHouse finds no name: no REPLICATOR -/
theorem c_norep {ns : List (List Int)} {sm : Nat} (hL : 400 ≤ L) (hC : CA E w K ns sm p) (h70 : kk K p ≠ 70) (h : Q (.inl (some (va_rf none))) w) : zw E L kt_M206 [.ref (w_adr E.2.1 4 0)] w Q := by
  refine zt_X5_replicator_p0 (by omega) ?_
  simp only [zb_X5_replicator_p0]
  refine c_isName (by omega) hC ?_
  rw [decide_eq_false h70]
  simp only [wk1]
  intro _
  rw [if_neg (by decide)]
  exact h
/-- a REPLICATOR -/
theorem p_replicator {G : Nat} (IH : EXq D K E' G) (hL : lex o + 80 ≤ L) (hL' : lex o + 80 ≤ L') (hS : SY D K (w, t, al, m, N, nu, tn) p p o o) (hg : K.length ≤ p + 1 + G) (hB : m ≤ 4 * p + 9 ∧ N ≤ 4 * p + 9) (h70 : kk K p = 70) :
    PW w t (fun Q => zw D.1 L kt_M206 [.ref (w_adr D.1.2.1 4 0)] w Q) (fun Q => zw E' L' kt_M525 [.ref (w_adr E'.2.1 12 0)] t Q) (PR D K [] [] (w, t, al, m, N, nu, tn) p o true true 0 (GEy 20 (fun _ => False) D K (w, t, al, m, N, nu, tn) p)) := by
  have hpl := hS.ta.lt
  have ho20 := hS.2.1.1.2.2.2.2
  have hlx := hL
  have hlx' := hL'
  unfold lex at hlx hlx'
  have H : HY D K [] [] (w, t, al, m, N, nu, tn) (w, t, al, m, N, nu, tn) p p o o := ⟨hS, FR.rf hS.mle⟩
  refine PW_of' (fun Q h => zt_X5_replicator_p0 (by omega) h) (fun Q h => zt_X13_replicator_p0 (by omega) h) ?_
  simp only [zb_X5_replicator_p0, zb_X13_replicator_p0, H.tpos, i_nat' (show p < 2147483648 by omega), hS.r9, H.l9.1]
  refine PS_l1 (fun Q hq => c_isName (by omega) hS.ca hq) (PS_lp (by rw [decide_eq_true h70]; decide) ?_)
  refine PS_cn (by omega) (by omega) H (fun b al' w2 H1 HF O1 hb hb0 => ?_)
  refine PS_rand (i_inb' (by omega) (by omega)) ?_
  refine PS_r1 (fun Q hq => t_node (by omega) H1.kt H1.tN (by omega) hq) ?_
  simp only [i_nat' (show N < 2147483648 by omega)]
  have H2 := H1.tnd (x := 20) (l := i_ (kln K p))
  have T2 := OWt.new (x := 20) (l := i_ (kln K p)) H1
  have hvt : w_a (nd3 t N 20 (i_ (kln K p))) 12 0 8 p = w_a t 12 0 8 p := TX_nd3.a rfl
  have hln1 := H.1.ln (H.p1 (by omega)) (by omega)
  refine PS_nmw (by omega) (by omega) (by omega) H2 (fun _ H3 hnm => ?_) (fun w' hd => ?_)
  · have T3 : OWt (nx w2 p, nx3 (nd3 t N 20 (i_ (kln K p))) p, al', m + 1, N + 1, nu, tn) N _ := T2
    have O3 : OWc (nx w2 p, nx3 (nd3 t N 20 (i_ (kln K p))) p, al', m + 1, N + 1, nu, tn) b _ _ := O1.w4 (.inl (by decide))
    refine PS_lex b rfl (PS_land (O3.wl H3.1) ?_)
    refine PS_rand (by rw [H3.1.tl.2.2.2.2.1]; exact i_inb' (by omega) (by omega)) ?_
    have H4 := (H3.wi (k := 9) (v := w_a w2 1 0 3 p) O3.1.2 (fun e => absurd e hb0)).ta (k := 30) (n := N) (v := w_a (nd3 t N 20 (i_ (kln K p))) 12 0 8 p) rfl T3.1.2 (fun h => absurd h (Nat.lt_irrefl _))
    have O4 := O3.si (k := 9) (v := w_a w2 1 0 3 p)
    have T4 := T3.si (k := 30) (v := w_a (nd3 t N 20 (i_ (kln K p))) 12 0 8 p)
    refine PS_exw (c := 47) (v := 51) (by omega) (by omega) (by omega) H4 rfl (by unfold wcd; omega) rfl (fun e51 H5 => ?_) (fun w' hd => ?_)
    · have hln2 := H4.1.ln (H4.p1 (by omega)) (by omega)
      refine PR_c11 hS.krg H5.2 (IH (L - 22) (L' - 22) _ _ _ _ _ _ _ _ _ (by unfold lex; omega) (by unfold lex; omega) H5.1 (by omega) ⟨by omega, by omega⟩) (fun a h => absurd h List.not_mem_nil) (fun a h => absurd h List.not_mem_nil) (fun x v w5 t5 al5 m5 N5 nu5 tn5 p5 hl5 H6 HS6 hbd hgx => ?_) (fun v w5 t5 hv hv2 hd => ?_)
      · obtain ⟨b1, n1, rfl, rfl, hP, hX, hb1, hln5, hfk⟩ := hgx
        have O6 := (show OWc (nx (ws_i (nx w2 p) 14 b 9 (w_a w2 1 0 3 p)) (p + 1), nx3 (ws_a (nx3 (nd3 t N 20 (i_ (kln K p))) p) 12 0 30 N (w_a (nd3 t N 20 (i_ (kln K p))) 12 0 8 p)) (p + 1), al', m + 1, N + 1, nu, tn) b _ _ from O4.w4 (j := 3) (v := i_ (p + 1 + 1 : Nat)) (.inl (by decide))).fr HS6.2 List.not_mem_nil
        have T6 := (show OWt (nx (ws_i (nx w2 p) 14 b 9 (w_a w2 1 0 3 p)) (p + 1), nx3 (ws_a (nx3 (nd3 t N 20 (i_ (kln K p))) p) 12 0 30 N (w_a (nd3 t N 20 (i_ (kln K p))) 12 0 8 p)) (p + 1), al', m + 1, N + 1, nu, tn) N _ from T4).fr HS6.2 List.not_mem_nil
        rw [hln2, hln1] at hP
        obtain ⟨x6, tn6, r6, H7, hC7, hm1, hm2, hn0⟩ := H6.fin hP (fun e => hb1 (H5.2.sub e)) (Nat.le_succ _)
        have hbb : b ≠ b1 := fun e => hb1 (by rw [← e]; exact O3.1.1.1)
        have O7 := O6.fin (x := x6) (tn' := tn6) hbb
        have T7 := T6.fin (nu' := nuU nu5 b1 x6) hm2 (.inl (Nat.lt_succ_self N))
        have H8 := H7.wp (k := 3) (v := some b1) O7.1.2 (fun e => absurd e hb0) (LKO.mk hP.bm.1 hX.2.2 (fun e => hb1 (H5.2.sub e)))
        have O8 := O7.sp (k := 3) (v := some b1)
        refine PS_rand (by rw [H7.1.tl.2.2.1]; exact i_inb' (by omega) (by omega)) ?_
        have H9 := H8.ta (k := 28) (n := N) (v := i_ n1) rfl T7.1.2 (fun h => absurd h (Nat.lt_irrefl _))
        have T9 := T7.si (k := 28) (v := i_ n1)
        have hC9 := hC7.up (k' := 0) (VWa.mk (w := w5) (t := t5) (w' := ws_p w5 14 b 3 (some b1)) (t' := ws_a t5 12 0 28 N (i_ n1)) (b := b) (n := N) (fun a h k => by simp only [nx, Rii, Rgi, Rpi, Rai, Rbi, Rri, Rni, Rdi, Roi, Rti, Rzi, RCi, RSi, Rip, Rgp, Rpp, Rap, Rbp, Rrp, Rnp, Rdp, Rop, Rtp, Rzp, RCp, RSp]; simp [h]) (fun y h k => by simp only [nx3, nd3, Rii, Rgi, Rpi, Rai, Rbi, Rri, Rni, Rdi, Roi, Rti, Rzi, RCi, RSi, Ria, Rga, Rpa, Raa, Rba, Rra, Rna, Rda, Roa, Rta, Rza, RCa, RSa]; simp [h]) rfl O7.1.2 T7.1.2) (fun _ _ h => h) (fun _ h => h) (Nat.le_refl _)
        have hpl5 := H6.1.ta.lt
        refine PS_exw (c := 9) (v := 9) (by omega) (by omega) (by omega) H9 rfl (by unfold wcd; omega) rfl (fun e9 H10 => ?_) (fun w' hd => ?_)
        · have hln6 := H9.1.ln (H9.p1 (by omega)) (by omega)
          have O10 : OWc (nx (ws_p w5 14 b 3 (some b1)) p5, nx3 (ws_a t5 12 0 28 N (i_ n1)) p5, al5, m5, N5, nuU nu5 b1 x6, tn6) b _ _ := O8.w4 (j := 3) (v := i_ (p5 + 1 : Nat)) (.inl (by decide))
          have T10 : OWt (nx (ws_p w5 14 b 3 (some b1)) p5, nx3 (ws_a t5 12 0 28 N (i_ n1)) p5, al5, m5, N5, nuU nu5 b1 x6, tn6) N _ := T9
          have hC10 : CHz (vw (nx (ws_p w5 14 b 3 (some b1)) p5) (nx3 (ws_a t5 12 0 28 N (i_ n1)) p5)) tn6 (nuU nu5 b1 x6) 0 (oE K (kln K p) 0 (p + 1 + 1) p5) n1 b1 0 := by
            show CHz (vw (nx (ws_p w5 14 b 3 (some b1)) p5) _) _ _ _ _ _ _ _
            rw [vw_nx]
            exact hC9
          refine PR_c11 hS.krg H10.2 (IH (L - 22) (L' - 22) _ _ _ _ _ _ _ _ _ (by unfold lex; omega) (by unfold lex; omega) H10.1 (by omega) ⟨by omega, by omega⟩) (fun a h => absurd h List.not_mem_nil) (fun a h => absurd h List.not_mem_nil) (fun x v w8 t8 al8 m8 N8 nu8 tn8 p8 hl8 H11 HS11 hbd2 hgx => ?_) (fun v w8 t8 hv hv2 hd => ?_)
          · obtain ⟨b2, n2, rfl, rfl, hP2, hX2, hb2, hln8, hfk⟩ := hgx
            have O11 := O10.fr HS11.2 List.not_mem_nil
            have T11 := T10.fr HS11.2 List.not_mem_nil
            rw [hln6, hln5, hln2, hln1] at hP2
            have hC11 := hC10.up (k' := 0) (VWa.fr H10.1 HS11.2 (fun _ h => absurd h List.not_mem_nil) (fun _ h => absurd h List.not_mem_nil)) HS11.2.2.2.2.2.1.1 HS11.2.2.2.2.2.1.2.1 (Nat.le_refl _)
            have hN5 : N < N5 := T7.1.1
            obtain ⟨x12, tn12, r12, H12, hC12, hm3, hm4, hn12⟩ := H11.fin hP2 (fun e => hb2 (H10.2.sub e)) (Nat.le_of_lt hN5)
            have hbb2 : b ≠ b2 := fun e => hb2 (by rw [← e]; exact O10.1.1.1)
            have O12 := O11.fin (x := x12) (tn' := tn12) hbb2
            have T12 := T11.fin (nu' := nuU nu8 b2 x12) hm4 (.inl hN5)
            have hC12' := hC11.fin (x := x12) hn12 hm3
            have H13 := H12.wp (k := 4) (v := some b2) O12.1.2 (fun e => absurd e hb0) (LKO.mk hP2.bm.1 hX2.2.2 (fun e => hb2 (H10.2.sub e)))
            have O13 := O12.sp (k := 4) (v := some b2)
            refine PS_rand (by rw [H12.1.tl.2.2.2.1]; exact i_inb' (by omega) (by omega)) ?_
            have H14 := H13.ta (k := 29) (n := N) (v := i_ n2) rfl T12.1.2 (fun h => absurd h (Nat.lt_irrefl _))
            have T14 := T12.si (k := 29) (v := i_ n2)
            have OE : OWc (ws_p w8 14 b 4 (some b2), ws_a t8 12 0 29 N (i_ n2), al8, m8, N8, nuU nu8 b2 x12, tn12) b _ _ := O13
            have TE : OWt (ws_p w8 14 b 4 (some b2), ws_a t8 12 0 29 N (i_ n2), al8, m8, N8, nuU nu8 b2 x12, tn12) N _ := T14
            have hvw := VWa.mk (w := w8) (t := t8) (w' := ws_p w8 14 b 4 (some b2)) (t' := ws_a t8 12 0 29 N (i_ n2)) (b := b) (n := N) (fun a h k => by simp only [nx, Rii, Rgi, Rpi, Rai, Rbi, Rri, Rni, Rdi, Roi, Rti, Rzi, RCi, RSi, Rip, Rgp, Rpp, Rap, Rbp, Rrp, Rnp, Rdp, Rop, Rtp, Rzp, RCp, RSp]; simp [h]) (fun y h k => by simp only [nx3, nd3, Rii, Rgi, Rpi, Rai, Rbi, Rri, Rni, Rdi, Roi, Rti, Rzi, RCi, RSi, Ria, Rga, Rpa, Raa, Rba, Rra, Rna, Rda, Roa, Rta, Rza, RCa, RSa]; simp [h]) rfl O12.1.2 T12.1.2
            refine PS_ret (.inr ⟨some b, i_ N, al8, m8, N8, nuU nu8 b2 x12, tn12, p8, rfl, rfl, H14, ⟨by omega, by show m8 + _ ≤ m + _; omega, by show N8 + _ ≤ N + _; omega⟩, b, N, rfl, rfl, PND.mk1 (kd := 20) OE TE (Nat.le_refl _) (by omega) (LFz.rep OE TE rfl rfl rfl hnm ⟨b1, n1, rfl, rfl, ?_⟩ ⟨b2, n2, rfl, rfl, ?_⟩) rfl (fun l e => by cases e; rfl), NXT.mk1 OE TE rfl rfl, hb0, by omega, fun e => absurd ((TE.2 26 rfl).symm.trans e) (show ¬ ((20 : Int32) = 60) by decide)⟩)
            · exact hC12'.up hvw (fun _ _ h => h) (fun _ h => h) (Nat.le_refl _)
            · exact hC12.up hvw (fun _ _ h => h) (fun _ h => h) (Nat.le_refl _)
          · refine eS_and (by rw [hd.2.2.tl.2.2.2.1]; exact i_inb' (by omega) (by omega)) ?_
            exact (hd.ta rfl).ret rfl ⟨by omega, by omega⟩
        · exact dd_e hd (by omega)
      · refine eS_and (by rw [hd.2.2.tl.2.2.1]; exact i_inb' (by omega) (by omega)) ?_
        exact dd_want (v := 9) (hd.ta rfl) (by omega) rfl (by omega)
    · exact dd_e hd (by omega)
  · refine eS_and (by rw [hd.2.2.tl.2.2.2.2.1]; exact i_inb' (by omega) (by omega)) ?_
    exact dd_want (v := 51) (hd.ta rfl) (by omega) rfl (by omega)
end ST2
