/-! ===== PARSERS, part 36: any action ===== -/
section ACS
variable {S0 : pS} {D : pD} {K : pK} {p m N d : Nat} {w t : wS} {al : List Nat} {nu : pNz} {tn : Nat → Prop} {E' : zE} {L L' : Nat}
theorem p_action {G : Nat} (IHP : PRq D K E' G) (hd20 : d ≤ 20) (hL : dex d ≤ L + 40) (hL' : dex d ≤ L' + 40) (hS : SY D K (w, t, al, m, N, nu, tn) p p 0 0) (hg : K.length ≤ p + 1 + G) (hB : m ≤ 4 * p + 7 ∧ N ≤ 4 * p + 7) (hbe : bAc (kk K p) = true) :
    PW w t (fun Q => zw D.1 L kt_M160 [.ref (w_adr D.1.2.1 4 0), .int (i_ d)] w Q) (fun Q => zw E' L' kt_M346 [.ref (w_adr E'.2.1 12 0), .int (i_ d)] t Q) (PRd D K d [] [] (w, t, al, m, N, nu, tn) p 0 true true 0 (GP2 D K (w, t, al, m, N, nu, tn) p)) := by
  have IO := (p_OE (D := D) (K := K) (E' := E') G).1
  have IH := (p_OE (D := D) (K := K) (E' := E') G).2
  have hL5 : dex d ≤ L + 50 := by omega
  have hL5' : dex d ≤ L' + 50 := by omega
  have hL1 : dex d ≤ L + 100 := by omega
  have hL1' : dex d ≤ L' + 100 := by omega
  unfold dex at hL hL'
  have e1 : (i_ d : Int32) + 1 = i_ (d + 1 : Nat) := by rw [i_1, i_add, cN1]
  have hpl := hS.ta.lt
  have H : HY D K [] [] (w, t, al, m, N, nu, tn) (w, t, al, m, N, nu, tn) p p 0 0 := ⟨hS, FR.rf hS.mle⟩
  have hS1 : ((w, t, al, m, N, nu, tn) : pS).2.2.2.2.1 = N ∧ m + 1 ≤ ((w, t, al, m, N, nu, tn) : pS).2.2.2.1 + 1 := ⟨rfl, Nat.le_refl _⟩
  refine PW_of' (A := fun Q => zb_X5_action_p0 D.1 L Q (i_ d) w) (B := fun Q => zb_X13_action_p0 E' L' Q (i_ d) t) (fun Q h => zt_X5_action_p0 (by omega) h) (fun Q h => zt_X13_action_p0 (by omega) h) ?_
  simp only [zb_X5_action_p0, zb_X13_action_p0, H.tpos, i_nat' (show p < 2147483648 by omega), H.1.r9, H.l9.1]
  refine PS_rand (i_inb' (by omega) (by omega)) ?_
  refine PS_r1 (fun Q hq => t_look (by omega) H.1.ta hq) ?_
  simp only [H.tpos]
  have hnx : ws_i t 12 0 35 (i_ p + 1) = nx3 t p := by rw [i_1, i_add, cN1]; rfl
  refine PS_cn (by omega) (by omega) H (fun b al' w1 H1 HF O1 hb hb0 => ?_)
  refine PS_l1 (fun Q hq => c_isName (by omega) H1.1.ca hq) ?_
  have hB1 : m + 1 ≤ 4 * p + 9 ∧ N ≤ 4 * p + 8 := ⟨by omega, by omega⟩
  by_cases h70 : kk K p = 70
  · rw [h70, show bI (decide ((70 : Int) = 70)) = 1 from rfl]
    refine PS_ln (by decide) (PS_rn (by decide) ?_)
    exact p_named IHP hd20 hL5 hL5' H1 hS1 hg ⟨by omega, by omega⟩ h70 O1 hb0 rfl rfl rfl
  · rw [decide_eq_false h70]
    have hkr := H1.1.ta.kr H1.1.krg
    have e70v : (i_ (kk K p) = (70 : Int32)) = (kk K p = 70) := i_eqk (show -1000 ≤ kk K p ∧ kk K p ≤ 1000 by omega) (show (-1000 : Int) ≤ 70 by decide) (by decide)
    refine PS_lp rfl (PS_rp (fun e => h70 (e70v.mp e)) ?_)
    have hC := H1.1.ca
    obtain ⟨l2, l3, l4, l5, l6⟩ := hC.1.1.2.1
    have hkc : kk K p < 36 ∧ 0 ≤ kk K p := by
      simp only [bAc, Bool.or_eq_true, decide_eq_true_eq] at hbe
      omega
    have hs : (kA K p).1.1 = 0 ∧ w_a w1 1 0 3 p = i_ (kk K p) := by
      rcases hC.kkc with h | h | h | h | h | h | h | h | h
      · exact ⟨h.1, h.2.1⟩
      all_goals omega
    have hty : w_r w1 1 0 2 p = some (D.1.1.1 0) := by rw [hC.ty, hs.1]
    simp only [H1.cpos, l2, l3, i_nat' (show p < 2147483648 by omega)]
    refine PS_land (i_inb' (by omega) (by omega)) (PS_lp hty ?_)
    simp only [zb_X5_action_p45, zb_X5_action_p415, H1.cpos, l3, i_nat' (show p < 2147483648 by omega), hs.2]
    refine PS_land (i_inb' (by omega) (by omega)) ?_
    simp only [bAc, Bool.or_eq_true, decide_eq_true_eq] at hbe
    rcases hbe with hk | hk | hk | hk | hk | hk | hk | hk | hk | hk
    · rw [hk, show (i_ 28 : Int32) = 28 from rfl]
      simp (decide := true) only [if_true, if_false, not_true_eq_false, not_false_eq_true]
      have hh := p_skip (E' := E') (dl := d) (L := L) (L' := L') (y := 2) (i0 := 34) (.inl ⟨rfl, rfl⟩) (by omega) (by omega) H1 hS1 (by omega) (by omega) O1 hb0 rfl rfl rfl rfl
      rw [H.tpos] at hh
      exact hh
    · rw [hk, show (i_ 29 : Int32) = 29 from rfl]
      simp (decide := true) only [if_true, if_false, not_true_eq_false, not_false_eq_true]
      have hh := p_skip (E' := E') (dl := d) (L := L) (L' := L') (y := 3) (i0 := 42) (.inr ⟨rfl, rfl⟩) (by omega) (by omega) H1 hS1 (by omega) (by omega) O1 hb0 rfl rfl rfl rfl
      rw [H.tpos] at hh
      exact hh
    · exact absurd hk h70
    · rw [hk, show (i_ 26 : Int32) = 26 from rfl]
      simp (decide := true) only [if_true, if_false, not_true_eq_false, not_false_eq_true]
      simp only [hnx]
      exact p_seqpar (y := 10) (i0 := 43) rfl (.inl ⟨rfl, rfl⟩) IH IHP hd20 hL5 hL5' H1 hS1 hg hB1 (.inl hk) O1 hb0 rfl rfl rfl rfl
    · rw [hk, show (i_ 20 : Int32) = 20 from rfl]
      simp (decide := true) only [if_true, if_false, not_true_eq_false, not_false_eq_true]
      simp only [hnx]
      exact p_seqpar (y := 11) (i0 := 44) rfl (.inr ⟨rfl, rfl⟩) IH IHP hd20 hL5 hL5' H1 hS1 hg hB1 (.inr hk) O1 hb0 rfl rfl rfl rfl
    · rw [hk, show (i_ 11 : Int32) = 11 from rfl]
      simp (decide := true) only [if_true, if_false, not_true_eq_false, not_false_eq_true]
      simp only [hnx]
      refine PS_lex b rfl (PS_land (O1.wl H1.1) ?_)
      exact p_if IH IHP hd20 hL5 hL5' H1 hS1 hg hB1 hk O1 hb0 rfl rfl rfl rfl rfl
    · rw [hk, show (i_ 5 : Int32) = 5 from rfl]
      simp (decide := true) only [if_true, if_false, not_true_eq_false, not_false_eq_true]
      simp only [hnx]
      refine PS_lex b rfl (PS_land (O1.wl H1.1) ?_)
      exact p_case IH IHP hd20 hL5 hL5' H1 hS1 hg hB1 hk O1 hb0 rfl rfl rfl rfl
    · rw [hk, show (i_ 35 : Int32) = 35 from rfl]
      simp (decide := true) only [if_true, if_false, not_true_eq_false, not_false_eq_true]
      simp only [hnx, e1]
      refine PS_lex b rfl (PS_land (O1.wl H1.1) ?_)
      exact p_while IH IHP hd20 hL1 hL1' H1 hS1 hg hB1 hk O1 hb0 rfl rfl rfl rfl
    · rw [hk, show (i_ 22 : Int32) = 22 from rfl]
      simp (decide := true) only [if_true, if_false, not_true_eq_false, not_false_eq_true]
      simp only [hnx]
      exact p_pri IO IH IHP hd20 hL5 hL5' H1 hS1 hg hB1 hk O1 hb0 rfl rfl rfl rfl
    · rw [hk, show (i_ 1 : Int32) = 1 from rfl]
      simp (decide := true) only [if_true, if_false, not_true_eq_false, not_false_eq_true]
      simp only [hnx]
      exact p_alt IO IH IHP hd20 hL5 hL5' H1 hS1 hg hB1 hk O1 hb0 rfl rfl rfl rfl
end ACS
