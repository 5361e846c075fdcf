/-! ===== PARSERS, part 51: a colon on its line ===== -/
section DCL
variable {ex et : List Nat} {S0 : pS} {D : pD} {K : pK} {p q o o' m N n b d : Nat} {w t w' : wS} {al : List Nat} {nu : pNz} {tn : Nat → Prop} {E E' : zE} {L L' : Nat} {br : Bool} {lo1 : Int} {Φ : kx_Rs → wS → kx_Rs → wS → Prop}
theorem PSg_cls (hΦ : STP D K S0 br lo1 Φ) {A B : (kx_Rs → wS → Prop) → wS → Prop} (hL : 500 ≤ L) (hL' : 500 ≤ L') (hN : N ≤ 11000) (H : HY D K ex et S0 (w, t, al, m, N, nu, tn) p p o o') (hd : d ≤ 20) (hl : kk K (p - 1) = 74)
    (k : kk K p = 46 → kk K (p + 1) = 74 → HY D K ex et S0 (nx (nx (ws_i w 4 0 4 0) p) (p + 1), nx3 (nx3 t p) (p + 1), al, m, N, nu, tn) (p + 1 + 1) (p + 1 + 1) 0 o' → PS (fun Q => A Q (nx (nx (ws_i w 4 0 4 0) p) (p + 1))) (fun Q => B Q (nx3 (nx3 t p) (p + 1))) Φ)
    (kd : ∀ w', DDs D K S0 w' (nx3 (nx3 t p) (p + 1)) → eS (fun Q => B Q (nx3 (nx3 t p) (p + 1))) (fun r' t' => TLP D K S0.1 S0.2.1 br lo1 w' r' t')) :
    PS (fun Q => zw D.1 L kt_M170 [.ref (w_adr D.1.2.1 4 0), .int (i_ d)] w (wk0 (fun w1 => wle w w1 → A Q w1) (fun e w => Q (.inr e) w))) (fun Q => zw E' L' kt_M375 [.ref (w_adr E'.2.1 12 0), .int (i_ d)] t (wk0 (fun w1 => wle t w1 → B Q w1) (fun e w => Q (.inr e) w))) Φ := by
  have hal := H.alive
  have hb6 : bBe 6 (kk K p) = decide (kk K p = 46) := rfl
  refine PS_of (fun Q h => zt_X5_close_p0 (by omega) h) (fun Q h => zt_X13_colon_p0 (by omega) h) ?_
  simp only [zb_X5_close_p0, zb_X13_colon_p0]
  by_cases hA : bAt K p d = true
  · refine PS_l0 (fun Q hq => c_stands2 (by omega) H.1.ca (by omega) (.inr hl) (fun h => by rw [hA] at h; cases h) (fun _ => hq)) ?_
    have H1 := H.co (u := 0) (by omega)
    by_cases h46 : kk K p = 46
    · refine PS_r0 (fun Q hq => t_lineAt (how := 6) (by omega) H1.1.ta H1.1.krg (by omega) rfl (by omega) (fun e => by rw [hA, hb6, decide_eq_true h46] at e; simp at e) (fun _ h => by omega) (fun _ _ => hq)) ?_
      have e35 : ws_i t 12 0 35 (w_i t 12 0 35 + 1) = nx3 t p := by
        rw [H.tpos, i_1, i_add, cN1]
        rfl
      rw [e35]
      have hp1 := H1.p1 (by rw [h46]; decide)
      by_cases h76 : kk K (p + 1) = 76
      · refine PS_lx0 (fun Q hq => c_expect (c := 42) (v := 46) (by omega) H1.1.ca rfl (by unfold wcd; omega) (fun h => absurd h46 h) (fun _ h => absurd h76 h) (fun _ _ => hq)) (PSg_stop hΦ ?_)
        exact dd_endOfLine (H1.dd (H1.ddx hp1 h76 (FX_nx (p := p))) hN (by rw [h46]; decide) hal h76) (by omega)
      · refine PS_l0 (fun Q hq => c_expect (c := 42) (v := 46) (by omega) H1.1.ca rfl (by unfold wcd; omega) (fun h => absurd h46 h) (fun _ _ => hq) (fun _ h => absurd h h76)) ?_
        have H2 := (H1.cn (by rw [h46]; decide) h76).tnx (by rw [h46]; decide) hal
        refine PSg_elw hΦ (by omega) (by omega) hN H2 (fun e74 H3 => ?_) (fun w' hd => eS_l (fun Q h => fun _ => h) (kd w' hd))
        exact PS_of (fun Q h => fun _ => h) (fun Q h => fun _ => h) (k h46 e74 H3)
    · refine PS_lx0 (fun Q hq => c_expect (c := 42) (v := 46) (by omega) H1.1.ca rfl (by unfold wcd; omega) (fun _ => hq) (fun h => absurd h h46) (fun h => absurd h h46)) (PSg_stop hΦ ?_)
      exact eS_x0 (fun Q hq => t_lineAt (how := 6) (by omega) H1.1.ta H1.1.krg (by omega) rfl (by omega) (fun _ => hq) (fun e => by rw [hb6, decide_eq_false h46] at e; simp at e) (fun e => by rw [hb6, decide_eq_false h46] at e; simp at e)) (TLP_two H1 FX.rf frm.rf hal)
  · have e' : bAt K p d = false := by simpa using hA
    refine PS_lx0 (fun Q hq => c_stands2 (by omega) H.1.ca (by omega) (.inr hl) (fun _ => hq) (fun h => absurd h hA)) (PSg_stop hΦ ?_)
    exact eS_x0 (fun Q hq => t_lineAt (how := 6) (by omega) H.1.ta H.1.krg (by omega) rfl (by omega) (fun _ => hq) (fun e => by rw [e'] at e; simp at e) (fun e => by rw [e'] at e; simp at e)) (TLP_two H FX.rf frm.rf hal)
end DCL
