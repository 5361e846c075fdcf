/-! ===== PARSERS, part 61: declaration, process: all of them ===== -/
section DCL2
variable {ex et : List Nat} {S S' S0 S1z SA : pS} {D : pD} {K : pK} {p p0 q o o' oA dl m N n n2 b b2 lo hi lo2 hi2 r d d1 d2 dd g pA pB nP bP k1 : Nat} {w t w' : wS} {al : List Nat} {nu : pNz} {tn : Nat → Prop} {E E' : zE} {L L' L2 : Nat} {ol : pOL} {f : Option Nat} {fT x1 x2 x y z u : Int32} {Q : kx_Rs → wS → Prop} {fi : Nat → Int32} {fp : Nat → Option Nat} {ft : Nat → Int32} {bl br : Bool} {lo1 : Int} {Φ : kx_Rs → wS → kx_Rs → wS → Prop} {gt gc : pQ} {G : pG}
theorem bDe_cases {k : Int} (h : bDe k = true) (h2 : bTy k = false) : k = 42 ∨ k = 6 ∨ k = 30 ∨ k = 33 ∨ k = 24 ∨ k = 23 := by
  have h : (bTy k || (decide (k = 42) || (decide (k = 6) || (decide (k = 30) || (decide (k = 33) || (decide (k = 24) || decide (k = 23))))))) = true := h
  rw [h2] at h
  simpa only [Bool.false_or, Bool.or_eq_true, decide_eq_true_eq] using h
theorem p_decl {g : Nat} (IHP : PRq D K E' g) (ID : ∀ g', g = g' + 1 → DCq D K E' g') : DCq D K E' g := by
  intro L L' w t al m N nu tn p d hL hL' hd hS h74 hg hB hDe
  have hlx : Unit → lex 0 + 500 ≤ L := fun _ => by unfold dex at *; unfold lex; omega
  have hlx' : Unit → lex 0 + 500 ≤ L' := fun _ => by unfold dex at *; unfold lex; omega
  have hl4 : Unit → lex 0 + 400 ≤ L := fun _ => by unfold dex at *; unfold lex; omega
  have hl4' : Unit → lex 0 + 400 ≤ L' := fun _ => by unfold dex at *; unfold lex; omega
  have hl3 : Unit → lex 0 + 300 ≤ L - 23 := fun _ => by unfold dex at *; unfold lex; omega
  have hl3' : Unit → lex 0 + 300 ≤ L' - 24 := fun _ => by unfold dex at *; unfold lex; omega
  have hdl : Unit → dex d ≤ L - 23 + 100 := fun _ => by omega
  have hdm : Unit → dex d ≤ L - 22 + 100 := fun _ => by omega
  have hdl' : Unit → dex d ≤ L' - 24 + 100 := fun _ => by omega
  have hdm' : Unit → dex d ≤ L' - 22 + 100 := fun _ => by omega
  have hL9 : 2400 ≤ L := by unfold dex at hL; omega
  have hL9' : 2400 ≤ L' := by unfold dex at hL'; omega
  clear hL hL'
  have hpl := hS.ta.lt
  have H : HY D K [] [] (w, t, al, m, N, nu, tn) (w, t, al, m, N, nu, tn) p p 0 0 := ⟨hS, FR.rf hS.mle⟩
  have hal := H.alive
  have hΦd : STL D K d (w, t, al, m, N, nu, tn) true 0 (PRd D K d [] [] (w, t, al, m, N, nu, tn) p 0 true true 0 (GPs 1 3 D K (w, t, al, m, N, nu, tn) p)) := STL.of
  have hΦ := hΦd.stp
  refine PW_of' (fun Q h => zt_X5_declaration_p0 (by omega) h) (fun Q h => zt_X13_declaration_p0 (by omega) h) ?_
  simp only [zb_X5_declaration_p0, zb_X13_declaration_p0]
  refine PS_cn (by omega) (by omega) H (fun b al2 w2 H2 HF2 O2 hb2 hb20 => ?_)
  refine PS_rand (by rw [H2.tpos, H2.l9.1]; exact i_inb' (by omega) (by omega)) ?_
  simp only [H2.tpos, i_nat' (show p < 2147483648 by omega), H2.1.r9]
  refine PS_r1 (fun Q hq => t_node (by omega) H2.kt H2.tN (by omega) hq) ?_
  simp only [i_nat' (show N < 2147483648 by omega)]
  have H3 := H2.tnd (x := 30) (l := i_ (kln K p))
  have T3 : OWt (w2, nd3 t N 30 (i_ (kln K p)), al2, m + 1, N + 1, nu, tn) N _ := OWt.new (x := 30) (l := i_ (kln K p)) H2
  have O3 : OWc (w2, nd3 t N 30 (i_ (kln K p)), al2, m + 1, N + 1, nu, tn) b _ _ := O2.tt
  have hkr := H3.1.ta.kr H3.1.krg
  have hC := H3.1.ca
  obtain ⟨l2, l3, l4, l5, l6⟩ := hC.1.1.2.1
  refine PS_land (by rw [H3.cpos, l3]; exact i_inb' (by omega) (by omega)) ?_
  refine PS_l1 (fun Q hq => c_isType (by omega) H3.1.ca hq) ?_
  refine PS_r1 (fun Q hq => t_look (by omega) H3.1.ta hq) ?_
  refine PS_r1 (fun Q hq => t_isType (by omega) (by omega) hq) ?_
  have hnn : N ≤ N ∧ N < 14000 := ⟨Nat.le_refl _, by omega⟩
  have hmN3 : m + 1 ≤ 4 * p + 8 ∧ N + 1 ≤ 4 * p + 8 := ⟨by omega, by omega⟩
  have hbd3 : m + 1 ≤ m + 1 ∧ N + 1 ≤ N + 1 := ⟨Nat.le_refl _, Nat.le_refl _⟩
  cases hTy : bTy (kk K p) with
  | true =>
    refine PS_ln (by decide) (PS_rn (by decide) ?_)
    refine PSg_tyw hΦ (by omega) (by omega) (by omega) H3 hnn.2 T3.1.2 (fun h => absurd h (Nat.lt_irrefl _)) (fun c hc _ H4 => ?_) (fun c w' hc hd => ?_)
    · have n5 : kk K p ≠ 75 ∧ kk K p ≠ 74 := by
        have hk3 : kk K p = 12 ∨ kk K p = 4 ∨ kk K p = 3 := by
          simpa only [bTy, Bool.or_eq_true, decide_eq_true_eq] using hTy
        omega
      have hp1 := H3.p1 n5.1
      have hln1 := H3.1.ln hp1 n5.2
      have O4 : OWc (nx w2 p, nx3 (ws_a (nd3 t N 30 (i_ (kln K p))) 12 0 33 N (i_ c)) p, al2, m + 1, N + 1, nu, tn) b _ _ := O3.w4 (j := 3) (v := i_ (p + 1 : Nat)) (.inl (by decide))
      have T4 : OWt (nx w2 p, nx3 (ws_a (nd3 t N 30 (i_ (kln K p))) 12 0 33 N (i_ c)) p, al2, m + 1, N + 1, nu, tn) N _ := T3.si (k := 33) (v := i_ c)
      refine PS_lex b rfl (PS_land (O4.wl H4.1) ?_)
      have H5 := H4.wi (k := 8) (v := i_ (c + 1 : Nat)) O4.1.2 (fun e => absurd e hb20)
      have O5 : OWc (ws_i (nx w2 p) 14 b 8 (i_ (c + 1 : Nat)), nx3 (ws_a (nd3 t N 30 (i_ (kln K p))) 12 0 33 N (i_ c)) p, al2, m + 1, N + 1, nu, tn) b _ _ := O4.si (k := 8) (v := i_ (c + 1 : Nat))
      have T5 : OWt (ws_i (nx w2 p) 14 b 8 (i_ (c + 1 : Nat)), nx3 (ws_a (nd3 t N 30 (i_ (kln K p))) 12 0 33 N (i_ c)) p, al2, m + 1, N + 1, nu, tn) N _ := T4
      have hpl5 := H5.1.ta.lt
      have hkr5 := H5.1.ta.kr H5.1.krg
      refine PS_l1 (fun Q hq => c_is (c := 10) (v := 10) (by omega) H5.1.ca rfl (by unfold wcd; omega) hq) ?_
      refine PS_r1 (fun Q hq => t_look (by omega) H5.1.ta hq) ?_
      have e10v : (i_ (kk K (p + 1)) = (10 : Int32)) = (kk K (p + 1) = 10) := i_eqk (show -1000 ≤ kk K (p + 1) ∧ kk K (p + 1) ≤ 1000 by omega) (show (-1000 : Int) ≤ 10 by decide) (by decide)
      simp only [e10v]
      by_cases h10 : kk K (p + 1) = 10
      · rw [decide_eq_true h10]
        refine PS_ln (by decide) (PS_rn (not_not_intro h10) ?_)
        exact p_funct (p0 := p) (C := fun Q v37 w36 => wle _ w36 → Q (.inl (some (va_rf v37))) w36) (Ct := fun Q v70 w69 => wle _ w69 → Q (.inl (some (.int v70))) w69) IHP ID (fun Q w h => fun _ => h) (fun Q w h => fun _ => h) hd (hdl ()) (hdl' ()) hg H5 O5 T5 hb20 hnn (by omega) hln1 h10 ⟨rfl, rfl, rfl, rfl, rfl⟩ ⟨rfl, rfl, rfl⟩ ⟨c, hc, rfl, rfl⟩ ⟨by omega, by omega⟩ ⟨by show m + 1 + _ ≤ m + _; omega, by show N + 1 + _ ≤ N + _; omega⟩
      · rw [decide_eq_false h10]
        refine PS_lp rfl (PS_rp h10 ?_)
        exact p_dtype (p0 := p) hc (hl4 ()) (hl4' ()) H5 O5 T5 hb20 hnn rfl (by omega) hln1 ⟨rfl, rfl, rfl, rfl, rfl, rfl, rfl⟩ ⟨rfl, rfl, rfl, rfl, rfl, rfl⟩ ⟨by omega, by omega⟩ ⟨by show m + 1 + 4 * p ≤ m + 4 * (p + 1) + 4; omega, by show N + 1 + 4 * p ≤ N + 4 * (p + 1) + 4; omega⟩
    · refine eS_1 (fun Q hq => t_look (by omega) hd.2.2.1 hq) ?_
      rw [hd.2.2.2.1]
      exact eS_p (by decide) (dd_wantName hd (by omega))
  | false =>
    have hcs := bDe_cases hDe hTy
    refine PS_lp rfl (PS_rp rfl ?_)
    refine PS_l1 (fun Q hq => c_is (c := 38) (v := 42) (by omega) H3.1.ca rfl (by unfold wcd; omega) hq) ?_
    by_cases h42 : kk K p = 42
    · rw [decide_eq_true h42, h42, show (i_ 42 : Int32) = 42 from rfl]
      simp (decide := true) only [if_true, if_false, not_true_eq_false, not_false_eq_true]
      exact p_dbr (hlx ()) (hlx' ()) H3 O3 T3 hb20 hnn rfl h42 ⟨rfl, rfl, rfl, rfl, rfl⟩ ⟨rfl, rfl, rfl⟩ hmN3 hbd3
    · rw [decide_eq_false h42, show bI false = 0 from rfl]
      have hs : w_a w2 1 0 3 p = i_ (kk K p) := by
        rcases hC.kkc with h | h | h | h | h | h | h | h | h
        · exact h.2.1
        all_goals omega
      simp only [H3.cpos, i_nat' (show p < 2147483648 by omega), hs]
      rcases hcs with e | e | e | e | e | e
      · exact absurd e h42
      · rw [e, show (i_ 6 : Int32) = 6 from rfl]
        simp (decide := true) only [if_true, if_false, not_true_eq_false, not_false_eq_true]
        exact p_dchan (hl4 ()) (hl4' ()) H3 O3 T3 hb20 hnn e ⟨rfl, rfl, rfl, rfl, rfl⟩ ⟨rfl, rfl, rfl, rfl⟩ hmN3 hbd3
      · rw [e, show (i_ 30 : Int32) = 30 from rfl]
        simp (decide := true) only [if_true, if_false, not_true_eq_false, not_false_eq_true]
        refine PS_rand (by rw [H3.1.tl.1]; exact i_inb' (by omega) (by omega)) ?_
        have H4 := H3.ta (k := 26) (n := N) (v := 32) rfl T3.1.2 (fun h => absurd h (Nat.lt_irrefl _))
        have T4 := T3.si (k := 26) (v := 32)
        have O4 : OWc (w2, ws_a (nd3 t N 30 (i_ (kln K p))) 12 0 26 N 32, al2, m + 1, N + 1, nu, tn) b _ _ := O3
        have hp1 := H4.p1 (by rw [e]; decide)
        have hln1 := H4.1.ln hp1 (by rw [e]; decide)
        have e35 : ws_i (ws_a (nd3 t N 30 (i_ (kln K p))) 12 0 26 N 32) 12 0 35 (w_i (nd3 t N 30 (i_ (kln K p))) 12 0 35 + 1) = nx3 (ws_a (nd3 t N 30 (i_ (kln K p))) 12 0 26 N 32) p := by
          rw [H3.tpos, i_1, i_add, cN1]
          rfl
        rw [e35]
        refine PSg_nxl hΦ (by omega) H4 (by rw [e]; decide) (fun H5' => ?_) (fun w' hd h76 => dd_wantName (H4.dd hd (by omega) (by rw [e]; decide) hal h76) (by omega))
        have H5 := H5'.tnx (by rw [e]; decide) hal
        have O5 : OWc (nx w2 p, nx3 (ws_a (nd3 t N 30 (i_ (kln K p))) 12 0 26 N 32) p, al2, m + 1, N + 1, nu, tn) b _ _ := O4.w4 (j := 3) (v := i_ (p + 1 : Nat)) (.inl (by decide))
        have T5 : OWt (nx w2 p, nx3 (ws_a (nd3 t N 30 (i_ (kln K p))) 12 0 26 N 32) p, al2, m + 1, N + 1, nu, tn) N _ := T4
        refine PS_lex b rfl (PS_land (O5.wl H5.1) ?_)
        have H6 := H5.wp (k := 0) (v := some (D.1.1.1 27)) O5.1.2 (fun e => absurd e hb20)
        have O6 : OWc (ws_p (nx w2 p) 14 b 0 (some (D.1.1.1 27)), nx3 (ws_a (nd3 t N 30 (i_ (kln K p))) 12 0 26 N 32) p, al2, m + 1, N + 1, nu, tn) b _ _ := O5.sp (k := 0) (v := some (D.1.1.1 27))
        have T6 : OWt (ws_p (nx w2 p) 14 b 0 (some (D.1.1.1 27)), nx3 (ws_a (nd3 t N 30 (i_ (kln K p))) 12 0 26 N 32) p, al2, m + 1, N + 1, nu, tn) N _ := T5
        have hpl6 := H6.1.ta.lt
        exact p_timer (p0 := p) (by omega) (by omega) H6 O6 T6 hb20 hnn ⟨rfl, rfl, rfl, rfl, rfl⟩ rfl ⟨rfl, rfl, rfl⟩ ⟨rfl, rfl, rfl⟩ hln1 (by omega) ⟨by omega, by omega⟩ ⟨by show m + 1 + 4 * p ≤ m + 4 * (p + 1) + 4; omega, by show N + 1 + 4 * p ≤ N + 4 * (p + 1) + 4; omega⟩
      · rw [e, show (i_ 33 : Int32) = 33 from rfl]
        simp (decide := true) only [if_true, if_false, not_true_eq_false, not_false_eq_true]
        exact p_val (hlx ()) (hlx' ()) H3 O3 T3 hb20 hnn e ⟨rfl, rfl, rfl, rfl⟩ ⟨rfl, rfl, rfl⟩ hmN3 hbd3
      · rw [e, show (i_ 24 : Int32) = 24 from rfl]
        simp (decide := true) only [if_true, if_false, not_true_eq_false, not_false_eq_true]
        exact p_proto (C := fun Q w9 => wle _ w9 → Q (.inl (some (va_rf (some b)))) w9) (Ct := fun Q v18 w17 => wle _ w17 → Q (.inl (some (.int v18))) w17) (fun Q w h => fun _ => h) (fun Q w h => fun _ => h) hd (hl3 ()) (hl3' ()) H3 O3 T3 hb20 hnn e ⟨rfl, rfl, rfl, rfl⟩ ⟨rfl, rfl, rfl⟩ hmN3 hbd3
      · rw [e, show (i_ 23 : Int32) = 23 from rfl]
        simp (decide := true) only [if_true, if_false, not_true_eq_false, not_false_eq_true]
        exact p_procd (C := fun Q w7 => wle _ w7 → Q (.inl (some (va_rf (some b)))) w7) (Ct := fun Q v56 w55 => wle _ w55 → Q (.inl (some (.int v56))) w55) IHP (fun Q w h => fun _ => h) (fun Q w h => fun _ => h) hd (hdm ()) (hdm' ()) hg H3 O3 T3 hb20 hnn e ⟨rfl, rfl, rfl⟩ ⟨rfl, rfl⟩ hmN3 hbd3
theorem PRq.dn {g g' : Nat} (h : PRq D K E' g) (hg : g' ≤ g) : PRq D K E' g' := fun L L' w t al m N nu tn p d h1 h2 h3 h4 h5 h6 h7 => h L L' w t al m N nu tn p d h1 h2 h3 h4 h5 (by omega) h7
theorem p_DC : ∀ g, PRq D K E' g → DCq D K E' g := by
  intro g
  induction g with
  | zero => exact fun h => p_decl h (fun g' e => by omega)
  | succ g ih => exact fun h => p_decl h (fun g' e => by
      have : g' = g := by omega
      subst this
      exact ih (h.dn (Nat.le_succ _)))
/-- process, on every text -/
theorem p_PRall : ∀ g, PRq D K E' g := p_PR p_DC
end DCL2
