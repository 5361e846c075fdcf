/-! ===== PARSERS, part 38: process, closed over declarations ===== -/
section PRC
variable {D : pD} {K : pK} {E' : zE}
theorem p_processo {G : Nat} (ID : DCq D K E' G) (IHP : PRq D K E' G) : ∀ L L' w t al m N nu tn p d o, dex d ≤ L → dex d ≤ L' → d ≤ 22 → SY D K (w, t, al, m, N, nu, tn) p p o 0 → (p = 0 ∨ kk K (p - 1) = 74) → K.length ≤ p + (G + 1) → m ≤ 4 * p + 5 ∧ N ≤ 4 * p + 5 → PW w t (fun Q => zw D.1 L kt_M202 [.ref (w_adr D.1.2.1 4 0), .int (i_ d)] w Q) (fun Q => zw E' L' kt_M514 [.ref (w_adr E'.2.1 12 0), .int (i_ d)] t Q) (PRd D K d [] [] (w, t, al, m, N, nu, tn) p 0 true true 0 (GP D K (w, t, al, m, N, nu, tn) p)) := by
  intro L L' w t al m N nu tn p d o hL hL' hd22 hS h74 hg hB
  have hLd := hL
  have hLd' := hL'
  unfold dex at hL hL'
  have hpl := hS.ta.lt
  have hgG : K.length ≤ p + 1 + G := by omega
  have hL4 : 400 ≤ L - 22 := by omega
  have hL4' : 400 ≤ L' - 22 := by omega
  have H : HY D K [] [] (w, t, al, m, N, nu, tn) (w, t, al, m, N, nu, tn) p p o 0 := ⟨hS, FR.rf hS.mle⟩
  have hal := H.alive
  have hΦ : STL D K d (w, t, al, m, N, nu, tn) true 0 (PRd D K d [] [] (w, t, al, m, N, nu, tn) p 0 true true 0 (GP D K (w, t, al, m, N, nu, tn) p)) := STL.of
  refine PW_of' (A := fun Q => zb_X5_process_p0 D.1 L Q (i_ d) w) (B := fun Q => zb_X13_process_p0 E' L' Q (i_ d) t) (fun Q h => zt_X5_process_p0 (by omega) h) (fun Q h => zt_X13_process_p0 (by omega) h) ?_
  have key : ∀ bb : Bool, bb = bBe 0 (kk K p) → PS (fun Q => zb_X5_process_p21 D.1 L Q (i_ d) (bI bb) (i_ d) w) (fun Q => zb_X13_process_p0 E' L' Q (i_ d) t) (PRd D K d [] [] (w, t, al, m, N, nu, tn) p 0 true true 0 (GP D K (w, t, al, m, N, nu, tn) p)) := by
    intro bb hbb
    simp only [zb_X5_process_p21, zb_X13_process_p0]
    refine PSg_stand (d := d) (how := 0) hΦ.stp hL4 hL4' H (by omega) h74 rfl (by omega) hbb (fun hA hbx hd20 H1 => ?_)
    have hbe : bBe 0 (kk K p) = true := by rw [← hbb]; exact hbx
    refine PS_cn (by omega) (by omega) H1 (fun b al2 w2 H2 HF2 O2 hb2 hb20 => ?_)
    refine PS_rand (by rw [H2.tpos, H2.l9.1]; exact i_inb' (by omega) (by omega)) ?_
    simp only [H2.tpos, i_nat' (show p < 2147483648 by omega), H2.1.r9]
    refine PS_r1 (fun Q hq => t_node (by omega) H2.kt H2.tN (by omega) hq) ?_
    have H3 := H2.tnd (x := 1) (l := i_ (kln K p))
    have T3 : OWt (w2, nd3 t N 1 (i_ (kln K p)), al2, m + 1, N + 1, nu, tn) N _ := OWt.new (x := 1) (l := i_ (kln K p)) H2
    have O3 : OWc (w2, nd3 t N 1 (i_ (kln K p)), al2, m + 1, N + 1, nu, tn) b _ _ := O2.tt
    have HS : HY D K [b] [N] (w2, nd3 t N 1 (i_ (kln K p)), al2, m + 1, N + 1, nu, tn) (w2, nd3 t N 1 (i_ (kln K p)), al2, m + 1, N + 1, nu, tn) p p 0 0 := ⟨H3.1, FR.rf H3.1.mle⟩
    refine PSh_cG (dl1 := d) (gc1 := fun Q => zL_X5_process_p34 D.1 L Q (i_ d) (some b) none _) (gt1 := fun Q => zL_X13_process_p23 E' L' Q (i_ d) (i_ N) (-1) _) (Kc := fun Q => Q) (Kt := fun Q => Q) (A := fun Q v4 w4 => Q (.inl (some (va_rf v4))) w4) (B := fun Q v t2 => Q (.inl (some (.int v))) t2) (bl1 := true) (br1 := true) hΦ H3.1.krg H3.2 (p_pr_loop (pA := p) ID IHP hd20 hLd hLd' ⟨Nat.lt_succ_self N, by omega⟩ ⟨O3.1.1.1, O3.1.2⟩ (by rfl) (by rfl) K.length _ _ al2 (m + 1) (N + 1) nu tn p none (-1) none (-1) 0 (N + 1) (by omega) hgG HS.c0 LQ.nil (O3.upE (by rfl)) (T3.upE (by rfl)) (Nat.le_refl _) (fun a e => by cases e) h74 ⟨Nat.le_refl _, by omega⟩ ⟨by omega, by omega⟩ ⟨Nat.le_refl _, Nat.le_refl _⟩ hA hbe) (fun a h h2 => absurd h2 (by rw [List.mem_singleton.mp h]; exact hb20)) (fun n hn hn2 => absurd hn2 (by rw [List.mem_singleton.mp hn]; exact Nat.lt_irrefl N)) (fun _ _ _ a => a) (fun _ _ _ a => a) (fun _ _ _ a => a) (fun _ _ _ a => a) ?_ (fun v w2 t2 hv hv2 hd => hd.ret rfl ⟨by omega, by omega⟩) (fun v w2 t2 hv hv2 hd => hd.ret rfl ⟨by omega, by omega⟩)
    intro x v w6 t6 al6 m6 N6 nu6 tn6 p6 cz H6 HS6 hbd6 hgx
    obtain ⟨rfl, rfl, ⟨k, l, f, a, fT, c, d2, e1, ⟨hl, hec⟩, O6, T6, hdd⟩, e74b, hb4⟩ := hgx
    have hb4 : m6 + 4 * p + 2 ≤ m + 1 + 4 * p6 ∧ N6 + 4 * p + 2 ≤ N + 1 + 4 * p6 := hb4
    have hpl6 := H6.1.ta.lt
    exact PS_ret (.inr ⟨some b, i_ N, al6, m6, N6, nu6, tn6, p6, _, rfl, rfl, H6, ⟨by omega, by show m6 + _ ≤ m + _; omega, by show N6 + _ ≤ N + _; omega⟩, b, N, dsum l + d2, rfl, rfl, PND.mk1 (kd := 1) O6 T6 (Nat.le_refl N) (by omega) (LFz.k1 O6 T6 rfl rfl ⟨rfl, dsum l, d2, e1, rfl, ⟨by omega, by omega⟩, ⟨l, LPz.wk' hl, rfl⟩, hec.wk⟩) rfl (fun l e => by cases e), NXT.mk1 O6 T6 rfl rfl, hb20, e74b, ⟨by show m6 + _ + 1 ≤ m + _; omega, by show N6 + _ + 1 ≤ N + _; omega⟩, by omega⟩)
  simp only [zb_X5_process_p0]
  refine PS_l1 (fun Q hq => c_beginsDeclaration (by omega) H.1.ca hq) ?_
  cases hD : bDe (kk K p) with
  | true =>
    refine PS_lp (by decide) ?_
    simp only [zb_X5_process_p16]
    exact key true (by show true = (bDe (kk K p) || bAc (kk K p)); rw [hD]; rfl)
  | false =>
    refine PS_ln (by decide) ?_
    refine PS_l1 (fun Q hq => c_beginsAction (by omega) H.1.ca hq) ?_
    cases hA : bAc (kk K p) with
    | true =>
      refine PS_ln (by decide) ?_
      simp only [zb_X5_process_p16]
      exact key true (by show true = (bDe (kk K p) || bAc (kk K p)); rw [hD, hA]; rfl)
    | false =>
      refine PS_lp rfl ?_
      exact key false (by show false = (bDe (kk K p) || bAc (kk K p)); rw [hD, hA]; rfl)
theorem p_process {G : Nat} (ID : DCq D K E' G) (IHP : PRq D K E' G) : PRq D K E' (G + 1) := fun L L' w t al m N nu tn p d h1 h2 h3 h4 h5 h6 h7 => p_processo ID IHP L L' w t al m N nu tn p d 0 h1 h2 h3 h4 h5 h6 h7
theorem p_PR (ID : ∀ g, PRq D K E' g → DCq D K E' g) : ∀ g, PRq D K E' g := by
  intro g
  induction g with
  | zero =>
    intro L L' w t al m N nu tn p d hL hL' hd22 hS h74 hg hB
    have := hS.ca.2.2
    omega
  | succ g ih => exact p_process (ID g ih) ih
end PRC
