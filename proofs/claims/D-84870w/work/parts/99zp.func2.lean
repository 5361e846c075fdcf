/-! ===== PARSERS, part 59: FUNCTION, from VALOF on ===== -/
section FN2
variable {ex et : List Nat} {S S' S0 S1z SA : pS} {D : pD} {K : pK} {p p0 q o o' oA dl m N n n2 b b2 lo hi lo2 hi2 r d d1 d2 dd g pA pB nP bP k1 : Nat} {w t w' : wS} {al : List Nat} {nu : pNz} {tn : Nat → Prop} {E E' : zE} {L L' L2 : Nat} {ol : pOL} {f : Option Nat} {fT x1 x2 x y z u : Int32} {Q : kx_Rs → wS → Prop} {fi : Nat → Int32} {fp : Nat → Option Nat} {ft : Nat → Int32} {bl br : Bool} {lo1 : Int} {Φ : kx_Rs → wS → kx_Rs → wS → Prop} {gt gc : pQ} {G : pG}
theorem LFz.k38 {cc : Bool} {T2 : Nat → Prop} {rk s e : Nat} {h1 : Nat → Nat} (hO : OWx cc S b fi fp) (hT : OWt S n ft) (h41 : w_a S.2.1 12 0 41 n = u) (h42 : w_a S.2.1 12 0 42 n = z) (h2 : fi 2 = ft 27) (h26 : ft 26 = i_ 38) (h : fp 0 = some (D.1.1.1 11) ∧ nmr D (fi 9) (ft 30) ∧ tyr (fi 8) (ft 33) ∧ SKz (vw S.1 S.2.1) S.2.2.2.2.2.2 S.2.2.2.2.2.1 rk (some (ft 27), 42, rk, h1, s, e) 0 42 (fp 3) (ft 28) ∧
      ((fi 11 = 1 ∧ ECz (vw S.1 S.2.1) S.2.2.2.2.2.2 S.2.2.2.2.2.1 rk (none, 0, rk, h1, s, e) 0 (fp 4) u ∧ z = -1 ∧ ft 29 = -1 ∧ fp 5 = none ∧ d = 1) ∨
       (fi 11 = 0 ∧ ∃ d1 d2 e1 e2, d = 1 + d1 + d2 ∧ (s ≤ e1 ∧ e1 ≤ e2 ∧ e2 ≤ e) ∧ SLz (vw S.1 S.2.1) S.2.2.2.2.2.2 S.2.2.2.2.2.1 rk (none, 3, rk, h1, s, e1) d1 (fp 5) z ∧ ECz (vw S.1 S.2.1) S.2.2.2.2.2.2 S.2.2.2.2.2.1 rk (none, 1, rk, h1, e1, e2) d2 (fp 4) (ft 29) ∧ ECz (vw S.1 S.2.1) S.2.2.2.2.2.2 S.2.2.2.2.2.1 rk (none, 0, rk, h1, e2, e) 0 (fp 6) u))) (hgl : ft 27 = i_ (h1 s) := by first | rfl | assumption) : LFz D (vw S.1 S.2.1) S.2.2.2.2.2.2 T2 S.2.2.2.2.2.1 (rk, h1, s, e) d b n := by
  have p0 : (vw S.1 S.2.1).2.1 b 0 = fp 0 := hO.2.2 0 rfl
  have i9 : (vw S.1 S.2.1).1 b 9 = fi 9 := hO.2.1 9 rfl
  have t30 : (vw S.1 S.2.1).2.2.1 30 n = ft 30 := hT.2 30 rfl
  have i8 : (vw S.1 S.2.1).1 b 8 = fi 8 := hO.2.1 8 rfl
  have t33 : (vw S.1 S.2.1).2.2.1 33 n = ft 33 := hT.2 33 rfl
  have t27 : (vw S.1 S.2.1).2.2.1 27 n = ft 27 := hT.2 27 rfl
  have p3 : (vw S.1 S.2.1).2.1 b 3 = fp 3 := hO.2.2 3 rfl
  have t28 : (vw S.1 S.2.1).2.2.1 28 n = ft 28 := hT.2 28 rfl
  have i11 : (vw S.1 S.2.1).1 b 11 = fi 11 := hO.2.1 11 rfl
  have p4 : (vw S.1 S.2.1).2.1 b 4 = fp 4 := hO.2.2 4 rfl
  have t41 : (vw S.1 S.2.1).2.2.1 41 n = u := h41
  have t42 : (vw S.1 S.2.1).2.2.1 42 n = z := h42
  have t29 : (vw S.1 S.2.1).2.2.1 29 n = ft 29 := hT.2 29 rfl
  have p5 : (vw S.1 S.2.1).2.1 b 5 = fp 5 := hO.2.2 5 rfl
  have p6 : (vw S.1 S.2.1).2.1 b 6 = fp 6 := hO.2.2 6 rfl
  refine ⟨⟨(hO.2.1 2 rfl).trans (h2.trans (hT.2 27 rfl).symm), (hT.2 27 rfl).trans hgl⟩, 38, (hT.2 26 rfl).trans h26, by decide, fun e => absurd e (by decide), ?_⟩
  unfold LFkz kdi
  rw [p0, i9, t30, i8, t33, t27, p3, t28, i11, p4, t41, t42, t29, p5, p6]
  exact h
/-- MeetingHouse: a line's depth, then a sign; the twin: a line that begins so -/
theorem PSg_stx {A B : (kx_Rs → wS → Prop) → wS → Prop} {c v how : Int} (hΦ : STP D K S0 br lo1 Φ) (hL : 600 ≤ L) (hL2 : 600 ≤ L2) (hL' : 600 ≤ L') (H : HY D K ex et S0 (w, t, al, m, N, nu, tn) p p o o') (hd : d ≤ 20) (hl : kk K (p - 1) = 74) (hx : x = i_ c) (hc : wcd c v) (hy : y = i_ how) (hh : 0 ≤ how ∧ how ≤ 9) (hb : bBe how (kk K p) = decide (kk K p = v)) (h5 : v ≠ 75)
    (k : kk K p = v → HY D K ex et S0 (nx (ws_i w 4 0 4 0) p, t, al, m, N, nu, tn) (p + 1) p 0 o' → PS (fun Q => A Q (nx (ws_i w 4 0 4 0) p)) (fun Q => B Q t) Φ)
    (kd : ∀ w', kk K p = v → DDx K S0 w' → kk K (p + 1) = 76 → eS (fun Q => B Q t) (fun r' t' => TLP D K S0.1 S0.2.1 br lo1 w' r' t')) :
    PS (fun Q => zw D.1 L kt_M210 [.ref (w_adr D.1.2.1 4 0), .int (i_ d)] w (wk0 (fun w1 => wle w w1 → zw D.1 L2 kt_M176 [.ref (w_adr D.1.2.1 4 0), .int x] w1 (wk0 (fun w2 => wle w1 w2 → A Q w2) (fun e w => Q (.inr e) w))) (fun e w => Q (.inr e) w))) (fun Q => zw E' L' kt_M458 [.ref (w_adr E'.2.1 12 0), .int (i_ d), .int y] t (wk0 (fun w1 => wle t w1 → B Q w1) (fun e w => Q (.inr e) w))) Φ := by
  have hal := H.alive
  by_cases hA : bAt K p d = true
  · refine PS_l0 (fun Q hq => c_stands2 (by omega) H.1.ca (by omega) (.inr hl) (fun h => by rw [hA] at h; cases h) (fun _ => hq)) ?_
    have H1 := H.co (u := 0) (by omega)
    by_cases hv : kk K p = v
    · refine PS_r0 (fun Q hq => t_lineAt (how := how) (by omega) H1.1.ta H1.1.krg (by omega) hy hh (fun e => by rw [hA, hb, decide_eq_true hv] at e; simp at e) (fun _ h => by omega) (fun _ _ => hq)) ?_
      exact PSg_exl hΦ (by omega) H1 hx hc hv (by rw [hv]; exact h5) (k hv) (fun w' hd h76 => kd w' hv hd h76)
    · refine PS_lx0 (fun Q hq => c_expect (by omega) H1.1.ca hx hc (fun _ => hq) (fun h => absurd h hv) (fun h => absurd h hv)) (PSg_stop hΦ ?_)
      exact eS_x0 (fun Q hq => t_lineAt (how := how) (by omega) H1.1.ta H1.1.krg (by omega) hy hh (fun _ => hq) (fun e => by rw [hb, decide_eq_false hv] at e; simp at e) (fun e => by rw [hb, decide_eq_false hv] at e; simp at e)) (TLP_two H1 FX.rf frm.rf hal)
  · have e' : bAt K p d = false := by simpa using hA
    refine PS_lx0 (fun Q hq => c_stands2 (by omega) H.1.ca (by omega) (.inr hl) (fun _ => hq) (fun h => absurd h hA)) (PSg_stop hΦ ?_)
    exact eS_x0 (fun Q hq => t_lineAt (how := how) (by omega) H.1.ta H.1.krg (by omega) hy hh (fun _ => hq) (fun e => by rw [e'] at e; simp at e) (fun e => by rw [e'] at e; simp at e)) (TLP_two H FX.rf frm.rf hal)
theorem e35x (h : w_i t 12 0 35 = i_ p) : ws_i t 12 0 35 (w_i t 12 0 35 + 1) = nx3 t p := by
  rw [h, i_1, i_add, cN1]
  rfl
theorem p_fval {g : Nat} (IHP : PRq D K E' g) {C : (kx_Rs → wS → Prop) → Option Nat → wS → Prop} {Ct : (kx_Rs → wS → Prop) → Int32 → wS → Prop} (hC : ∀ Q w, Q (.inl (some (va_rf (some b)))) w → C Q (some b) w) (hCt : ∀ Q w, Q (.inl (some (.int (i_ n)))) w → Ct Q (i_ n) w) (hd : d + 1 ≤ 20) (hL : dex d ≤ L + 100) (hL' : dex d ≤ L' + 100) (hg : K.length ≤ p + 1 + g)
    (H : HY D K [] [] (cb S0 (1 + d1)) (w, t, al, m, N, nu, tn) p p 0 0) (hO : OWc (w, t, al, m, N, nu, tn) b fi fp) (hT : OWt (w, t, al, m, N, nu, tn) n ft) (h42 : w_a t 12 0 42 n = z) (hb : b ∉ S0.2.2.1.take S0.2.2.2.1) (hn : S0.2.2.2.2.1 ≤ n ∧ n < 14000) (h74 : kk K (p - 1) = 74) (hA : bAt K p (d + 1) = true) (hp0 : p0 ≤ p)
    (hfi : fi 2 = i_ (kln K p0) ∧ fi 11 = 0 ∧ fi 12 = 0 ∧ fp 0 = some (D.1.1.1 11) ∧ fp 7 = none) (hft : ft 26 = 38 ∧ ft 27 = i_ (kln K p0) ∧ ft 32 = -1) (hnm : nmr D (fi 9) (ft 30)) (hty : tyr (fi 8) (ft 33)) (hSK : SKz (vw w t) tn nu k1 (oE K (kln K p0) 42 p0 p) 0 42 (fp 3) (ft 28)) (hSL : SLz (vw w t) tn nu k1 (oN K 3 p0 p) d1 (fp 5) z)
    (hmN : m ≤ 4 * p + 6 ∧ N ≤ 4 * p + 6) (hbd : m + 4 * p0 ≤ S0.2.2.2.1 + 4 * p ∧ N + 4 * p0 ≤ S0.2.2.2.2.1 + 4 * p) (hdd : 1 + d1 + p0 ≤ p) :
    PS (fun Q => fnV D.1 L (wkr (C Q) (fun e w => Q (.inr e) w)) (some b) (i_ d) w) (fun Q => zb_X13_function_p163 E' L' (wk1 (Ct Q) (fun e w => Q (.inr e) w)) (i_ n) (i_ d) t) (PRd D K d [] [] S0 p0 0 true true 0 (GPs 1 3 D K S0 p0)) := by
  have IH := (p_OE (D := D) (K := K) (E' := E') K.length).2
  have hle : Unit → dex (d + 2) ≤ L - 23 := fun _ => by unfold dex at *; omega
  have hle' : Unit → dex (d + 2) ≤ L' - 24 := fun _ => by unfold dex at *; omega
  have hlx : Unit → lex 0 ≤ L - 22 := fun _ => by unfold dex at *; unfold lex; omega
  have hlx' : Unit → lex 0 ≤ L' - 22 := fun _ => by unfold dex at *; unfold lex; omega
  have hL9 : 2300 ≤ L := by unfold dex at hL; omega
  have hL9' : 2300 ≤ L' := by unfold dex at hL'; omega
  clear hL hL'
  have hpl := H.1.ta.lt
  have hal := H.alive
  have hnN : n < N := hT.1.1
  have hSN : S0.2.2.2.2.1 ≤ N := H.2.2.1.2.2.1
  have hΦd : STL D K d S0 true 0 (PRd D K d [] [] S0 p0 0 true true 0 (GPs 1 3 D K S0 p0)) := STL.of
  have hΦ0 := hΦd.stp
  have hΦd := hΦd.cb (c := 1 + d1)
  have hΦ := hΦd.stp
  have hcz : (cb S0 (1 + d1)).2.2.2.2.1 = S0.2.2.2.2.1 ∧ (cb S0 (1 + d1)).2.2.2.1 = S0.2.2.2.1 := ⟨rfl, rfl⟩
  simp only [fnV, zb_X13_function_p163, i_add1, i_add2, i_nat' (show n < 2147483648 by omega)]
  by_cases h34 : kk K p = 34
  · refine PS_r0 (fun Q hq => t_lineAt (d := d + 1) (how := 8) (by omega) H.1.ta H.1.krg (by omega) rfl (by omega) (fun e => by rw [hA, show bBe 8 (kk K p) = decide (kk K p = 34) from rfl, decide_eq_true h34] at e; simp at e) (fun _ h => by omega) (fun _ _ => hq)) ?_
    rw [e35x H.tpos]
    refine PSg_exl (c := 34) (v := 34) hΦ (by omega) H rfl (by unfold wcd; omega) h34 (by rw [h34]; decide) (fun H1' => ?_) (fun w' hd h76 => dd_endOfLine (H.dd hd (by omega) (by rw [h34]; decide) hal h76) (by omega))
    have H1 := H1'.tnx (by rw [h34]; decide) hal
    have O1 : OWc (nx w p, nx3 t p, al, m, N, nu, tn) b fi fp := hO.w4 (j := 3) (v := i_ (p + 1 : Nat)) (.inl (by decide))
    have T1 : OWt (nx w p, nx3 t p, al, m, N, nu, tn) n ft := hT
    have hpl1 := H1.1.ta.lt
    refine PSg_elw hΦ (by omega) (by omega) (by omega) H1 (fun e74 H2 => ?_) (fun w' hd => dd_process hd (by omega) (by omega))
    have O2 : OWc (nx (nx w p) (p + 1), nx3 (nx3 t p) (p + 1), al, m, N, nu, tn) b fi fp := O1.w4 (j := 3) (v := i_ (p + 1 + 1 : Nat)) (.inl (by decide))
    have T2 : OWt (nx (nx w p) (p + 1), nx3 (nx3 t p) (p + 1), al, m, N, nu, tn) n ft := T1
    have hv2 : vw (nx (nx w p) (p + 1)) (nx3 (nx3 t p) (p + 1)) = vw w t := by rw [vw_n2, vw_n2]
    have h42b : w_a (nx3 (nx3 t p) (p + 1)) 12 0 42 n = z := h42
    have hSK2 : SKz (vw (nx (nx w p) (p + 1)) (nx3 (nx3 t p) (p + 1))) tn nu k1 (oE K (kln K p0) 42 p0 p) 0 42 (fp 3) (ft 28) := by rw [hv2]; exact hSK
    have hSL2 : SLz (vw (nx (nx w p) (p + 1)) (nx3 (nx3 t p) (p + 1))) tn nu k1 (oN K 3 p0 p) d1 (fp 5) z := by rw [hv2]; exact hSL
    generalize nx (nx w p) (p + 1) = w2 at H2 O2 T2 hSK2 hSL2
    generalize nx3 (nx3 t p) (p + 1) = t2 at H2 O2 T2 h42b hSK2 hSL2
    by_cases hd2 : d + 2 ≤ 20
    · refine PSh_c11 hΦd H2.2 H2.1.krg (IHP (L - 23) (L' - 24) _ _ _ _ _ _ _ (p + 1 + 1) (d + 2) (hle ()) (hle' ()) (by omega) H2.1 (.inr e74) (by omega) ⟨by omega, by omega⟩) (fun a h => absurd h List.not_mem_nil) (fun a h => absurd h List.not_mem_nil) (fun x2 v2 wc tc alc mc Nc nuc tnc pc cz Hc HSc hbdc hgc => ?_) (fun v wc tc hv hv2 hdd => ?_) (fun v wc tc hv hv2 hdd => ?_)
      · obtain ⟨c3, n3, d3, rfl, rfl, hP3, hX3, hc3, e74b, hsl, hd3, rfl⟩ := hgc
        have g1 : mc + 4 * (p + 1 + 1) + 1 ≤ m + 4 * pc := hsl.1
        have g2 : Nc + 4 * (p + 1 + 1) + 1 ≤ N + 4 * pc := hsl.2
        have Hc := Hc.cc
        have hΦ := hΦ0.cb (c := 1 + d1 + d3)
        have hcz2 : (cb S0 (1 + d1 + d3)).2.2.2.2.1 = S0.2.2.2.2.1 ∧ (cb S0 (1 + d1 + d3)).2.2.2.1 = S0.2.2.2.1 := ⟨rfl, rfl⟩
        have hplc := Hc.1.ta.lt
        have hn3 := hP3.lt.2.2.2.1
        have hNc : N ≤ Nc := HSc.2.2.1.2.2.1
        have Oc := O2.fr HSc.2 List.not_mem_nil
        have Tc := T2.fr HSc.2 List.not_mem_nil
        have h42c : w_a tc 12 0 42 n = z := (HSc.2.2.2.2.1 n T2.1.1 List.not_mem_nil 42 (.inr (.inr rfl))).trans h42b
        have hvf := VWa.fr H2.1 HSc.2 (fun _ h => absurd h List.not_mem_nil) (fun _ h => absurd h List.not_mem_nil)
        have hSKc := hSK2.up (k' := 0) hvf HSc.2.2.2.2.2.1.1 HSc.2.2.2.2.2.1.2.1 (Nat.le_refl _)
        have hSLc := hSL2.up (k' := 0) hvf HSc.2.2.2.2.2.1.1 HSc.2.2.2.2.2.1.2.1 (Nat.le_refl _)
        obtain ⟨x10, tn10, r10, H10, hC10, hm3, hm4, hn10⟩ := Hc.fin hP3 (fun e => hc3 (H2.2.sub e)) hSN
        have hbc3 : b ≠ c3 := fun e => hc3 (by rw [← e]; exact O2.1.1.1)
        have O10 := Oc.fin (x := x10) (tn' := tn10) hbc3
        have T10 := Tc.fin (nu' := nuU nuc c3 x10) hm4 (.inl hnN)
        refine PS_lex b rfl (PS_land (O10.wl H10.1) ?_)
        refine PS_rand (by rw [H10.1.tl.2.2.2.1]; exact i_inb' (by omega) (by omega)) ?_
        have HE := (H10.wp (k := 4) (v := some c3) O10.1.2 (fun e => absurd e hb) (LKO.mk hP3.bm.1 hX3.2.2 (fun e => hc3 (H2.2.sub e)))).ta (k := 29) (n := n) (v := i_ n3) rfl T10.1.2 (fun h => absurd h (Nat.not_lt.mpr hn.1))
        have OE : OWc (ws_p wc 14 b 4 (some c3), ws_a tc 12 0 29 n (i_ n3), alc, mc, Nc, nuU nuc c3 x10, tn10) b _ _ := O10.sp (k := 4) (v := some c3)
        have TE : OWt (ws_p wc 14 b 4 (some c3), ws_a tc 12 0 29 n (i_ n3), alc, mc, Nc, nuU nuc c3 x10, tn10) n _ := T10.si (k := 29) (v := i_ n3)
        have hvw := VWa.mk (w := wc) (t := tc) (w' := ws_p wc 14 b 4 (some c3)) (t' := ws_a tc 12 0 29 n (i_ n3)) (b := b) (n := n) (fun a h k => by simp only [nx, Rii, Rgi, Rpi, Rai, Rbi, Rri, Rni, Rdi, Roi, Rti, Rzi, RCi, RSi, Rip, Rgp, Rpp, Rap, Rbp, Rrp, Rnp, Rdp, Rop, Rtp, Rzp, RCp, RSp]; simp [h]) (fun y h k => by simp only [nx3, nd3, Rii, Rgi, Rpi, Rai, Rbi, Rri, Rni, Rdi, Roi, Rti, Rzi, RCi, RSi, Ria, Rga, Rpa, Raa, Rba, Rra, Rna, Rda, Roa, Rta, Rza, RCa, RSa]; simp [h]) rfl O10.1.2 T10.1.2
        have hvid : VWa (vw wc tc) (vw wc tc) tnc nuc := ⟨fun _ _ => ⟨rfl, rfl⟩, fun _ _ _ _ => rfl, rfl⟩
        have h42e : w_a (ws_a tc 12 0 29 n (i_ n3)) 12 0 42 n = z := by rw [Raa, if_neg (fun z => by simp at z)]; exact h42c
        have hSKe := (hSKc.up (k' := 0) hvid (nle_nuU (x := x10) hn10) hm3 (Nat.le_refl _)).up (k' := 0) hvw (fun _ _ h => h) (fun _ h => h) (Nat.le_refl _)
        have hSLe := (hSLc.up (k' := 0) hvid (nle_nuU (x := x10) hn10) hm3 (Nat.le_refl _)).up (k' := 0) hvw (fun _ _ h => h) (fun _ h => h) (Nat.le_refl _)
        have hECe : ECz (vw (ws_p wc 14 b 4 (some c3)) (ws_a tc 12 0 29 n (i_ n3))) tn10 (nuU nuc c3 x10) 0 (oN K 1 (p + 1 + 1) pc) d3 (some c3) (i_ n3) := ⟨c3, n3, rfl, rfl, hC10.up hvw (fun _ _ h => h) (fun _ h => h) (Nat.le_refl _)⟩
        generalize nuU nuc c3 x10 = nue at HE OE TE hSKe hSLe hECe
        generalize hwe : ws_p wc 14 b 4 (some c3) = we at HE OE TE hSKe hSLe hECe
        generalize hte : ws_a tc 12 0 29 n (i_ n3) = te at HE OE TE hSKe hSLe hECe h42e
        have hale := HE.alive
        refine PSg_stx (d := d + 2) (c := 25) (v := 25) (how := 9) hΦ (by omega) (by omega) (by omega) HE hd2 e74b rfl (by unfold wcd; omega) rfl (by omega) rfl (by decide) (fun h25 Hf' => ?_) (fun w' h25 hd h76 => ?_)
        · rw [e35x Hf'.tpos]
          have Hf := Hf'.tnx (by rw [h25]; decide) hale
          have Of : OWc (nx (ws_i we 4 0 4 0) pc, nx3 te pc, alc, mc, Nc, nue, tn10) b _ _ := (OE.w4 (k := 4) (j := 4) (v := 0) (.inl (by decide))).w4 (k := 4) (j := 3) (v := i_ (pc + 1 : Nat)) (.inl (by decide))
          have Tf : OWt (nx (ws_i we 4 0 4 0) pc, nx3 te pc, alc, mc, Nc, nue, tn10) n _ := TE
          have hvff : vw (nx (ws_i we 4 0 4 0) pc) (nx3 te pc) = vw we te := by rw [vw_n2, vw_4]
          have h42f : w_a (nx3 te pc) 12 0 42 n = z := h42e
          rw [← hvff] at hSKe hSLe hECe
          have hplf := Hf.1.ta.lt
          refine PSg_c11 hΦ Hf.2 Hf.1.krg (IH (L - 22) (L' - 22) _ _ _ _ _ _ _ (pc + 1) 0 (hlx ()) (hlx' ()) Hf.1 (by omega) ⟨by omega, by omega⟩) (fun a h => absurd h List.not_mem_nil) (fun a h => absurd h List.not_mem_nil) (fun x v wg tg alg mg Ng nug tng pg Hg HSg hbdg hgx => ?_) (fun v wg tg hv hv2 hd => ?_)
          · obtain ⟨b4, n4, rfl, rfl, hP4, hX4, hb4, hln4, hfk⟩ := hgx
            have hplg := Hg.1.ta.lt
            have hn4 := hP4.lt
            have hNg : Nc ≤ Ng := HSg.2.2.1.2.2.1
            have Og := Of.fr HSg.2 List.not_mem_nil
            have Tg := Tf.fr HSg.2 List.not_mem_nil
            have h42g : w_a tg 12 0 42 n = z := (HSg.2.2.2.2.1 n Tf.1.1 List.not_mem_nil 42 (.inr (.inr rfl))).trans h42f
            have hvg := VWa.fr Hf.1 HSg.2 (fun _ h => absurd h List.not_mem_nil) (fun _ h => absurd h List.not_mem_nil)
            obtain ⟨xh, tnh, rh, Hh, hCh, hmh3, hmh4, hnh⟩ := Hg.fin hP4 (fun e => hb4 (Hf.2.sub e)) (by show _ ≤ Nc; omega)
            have hbb4 : b ≠ b4 := fun e => hb4 (by rw [← e]; exact Of.1.1.1)
            have Oh := Og.fin (x := xh) (tn' := tnh) hbb4
            have Th := Tg.fin (nu' := nuU nug b4 xh) hmh4 (.inl (by show n < Nc; omega))
            refine PS_rand (by rw [Hh.1.tl.2.2.2.2.2.2.2.2.2.1]; exact i_inb' (by omega) (by omega)) ?_
            have Hi := (Hh.wp (k := 6) (v := some b4) Oh.1.2 (fun e => absurd e hb) (LKO.mk hP4.bm.1 hX4.2.2 (fun e => hb4 (Hf.2.sub e)))).ta (k := 41) (n := n) (v := i_ n4) rfl Th.1.2 (fun h => absurd h (Nat.not_lt.mpr hn.1))
            have Oi : OWc (ws_p wg 14 b 6 (some b4), ws_a tg 12 0 41 n (i_ n4), alg, mg, Ng, nuU nug b4 xh, tnh) b _ _ := Oh.sp (k := 6) (v := some b4)
            have Ti : OWt (ws_p wg 14 b 6 (some b4), ws_a tg 12 0 41 n (i_ n4), alg, mg, Ng, nuU nug b4 xh, tnh) n (up_ ft 29 (i_ n3)) := ⟨Th.1, fun k hk => by
              show w_a (ws_a tg 12 0 41 n (i_ n4)) 12 0 k n = _
              rw [Raa, if_neg (fun z => by rw [z.1] at hk; exact absurd hk (by decide))]
              exact Th.2 k hk⟩
            have h42i : w_a (ws_a tg 12 0 41 n (i_ n4)) 12 0 42 n = z := by rw [Raa, if_neg (fun z => by simp at z)]; exact h42g
            have h41i : w_a (ws_a tg 12 0 41 n (i_ n4)) 12 0 41 n = i_ n4 := by rw [Raa, if_pos ⟨rfl, rfl, rfl, rfl⟩]
            have hvi := VWa.mk (w := wg) (t := tg) (w' := ws_p wg 14 b 6 (some b4)) (t' := ws_a tg 12 0 41 n (i_ n4)) (b := b) (n := n) (fun a h k => by simp only [nx, Rii, Rgi, Rpi, Rai, Rbi, Rri, Rni, Rdi, Roi, Rti, Rzi, RCi, RSi, Rip, Rgp, Rpp, Rap, Rbp, Rrp, Rnp, Rdp, Rop, Rtp, Rzp, RCp, RSp]; simp [h]) (fun y h k => by simp only [nx3, nd3, Rii, Rgi, Rpi, Rai, Rbi, Rri, Rni, Rdi, Roi, Rti, Rzi, RCi, RSi, Ria, Rga, Rpa, Raa, Rba, Rra, Rna, Rda, Roa, Rta, Rza, RCa, RSa]; simp [h]) rfl Oh.1.2 Th.1.2
            have hvid2 : VWa (vw wg tg) (vw wg tg) tng nug := ⟨fun _ _ => ⟨rfl, rfl⟩, fun _ _ _ _ => rfl, rfl⟩
            have hSKi := ((hSKe.up (k' := 0) hvg HSg.2.2.2.2.2.1.1 HSg.2.2.2.2.2.1.2.1 (Nat.le_refl _)).up (k' := 0) hvid2 (nle_nuU (x := xh) hnh) hmh3 (Nat.le_refl _)).up (k' := 0) hvi (fun _ _ h => h) (fun _ h => h) (Nat.le_refl _)
            have hSLi := ((hSLe.up (k' := 0) hvg HSg.2.2.2.2.2.1.1 HSg.2.2.2.2.2.1.2.1 (Nat.le_refl _)).up (k' := 0) hvid2 (nle_nuU (x := xh) hnh) hmh3 (Nat.le_refl _)).up (k' := 0) hvi (fun _ _ h => h) (fun _ h => h) (Nat.le_refl _)
            have hECi := ((hECe.up (k' := 0) hvg HSg.2.2.2.2.2.1.1 HSg.2.2.2.2.2.1.2.1 (Nat.le_refl _)).up (k' := 0) hvid2 (nle_nuU (x := xh) hnh) hmh3 (Nat.le_refl _)).up (k' := 0) hvi (fun _ _ h => h) (fun _ h => h) (Nat.le_refl _)
            have hECj : ECz (vw (ws_p wg 14 b 6 (some b4)) (ws_a tg 12 0 41 n (i_ n4))) tnh (nuU nug b4 xh) 0 (oE K (kln K (pc + 1)) 0 (pc + 1) pg) 0 (some b4) (i_ n4) := ⟨b4, n4, rfl, rfl, hCh.up hvi (fun _ _ h => h) (fun _ h => h) (Nat.le_refl _)⟩
            refine PSg_elw hΦ (by omega) (by omega) (by omega) Hi (fun e74c Hj => ?_) (fun w' hdj => dd_colon (by omega) (by omega) hdj)
            have hP : PND D (ws_p wg 14 b 6 (some b4), ws_a tg 12 0 41 n (i_ n4), alg, mg, Ng, nuU nug b4 xh, tnh) S0.2.2.2.2.1 Ng (oN K 3 p0 pg) b n (1 + d1 + d3) := PND.mk1 (kd := 38) Oi Ti hn.1 hn.2 (LFz.k38 Oi Ti h41i h42i (hfi.1.trans hft.2.1.symm) hft.1 ⟨hfi.2.2.2.1, hnm, hty, by
              show SKz _ _ _ _ (some (ft 27), _) 0 42 (fp 3) (ft 28)
              rw [hft.2.1]
              exact hSKi.wk, .inr ⟨hfi.2.1, d1, d3, p, pc, rfl, ⟨by omega, by omega, by omega⟩, hSLi.wk, hECi.wk, hECj.wk⟩⟩ hft.2.1) hfi.2.2.1 (fun l e => by cases e) hft.1
            have hX := NXT.mk1 Oi Ti hfi.2.2.2.2 hft.2.2
            have hPj := hP.nx2 (p := pg) (q := pg)
            refine PSg_cls hΦ (by omega) (by omega) (by omega) Hj (by omega) e74c (fun h46 e74d Hk => ?_) (fun w' hd => eS_l (fun Q h => hCt Q _ h) (hd.ret rfl ⟨by omega, by omega⟩))
            refine PS_of (fun Q h => hC Q _ h) (fun Q h => hCt Q _ h) ?_
            have hP2 := ((hPj.w4 (j := 4) (v := 0)).nx2 (p := pg + 1) (q := pg + 1)).nx2 (p := pg + 1 + 1) (q := pg + 1 + 1)
            exact PS_ret (.inr ⟨some b, i_ n, alg, mg, Ng, nuU nug b4 xh, tnh, pg + 1 + 1 + 1, _, rfl, rfl, Hk, ⟨by omega, by omega, by omega⟩, b, n, 1 + d1 + d3, rfl, rfl, hP2.wk, ⟨hX.1, hX.2.1, hX.2.2⟩, hb, e74d, ⟨by show mg + _ + 1 ≤ _; omega, by show Ng + _ + 1 ≤ _; omega⟩, by omega⟩)
          · refine eS_and (by rw [hd.2.2.tl.2.2.2.2.2.2.2.2.2.1]; exact i_inb' (by omega) (by omega)) ?_
            exact dd_endOfLine (hd.ta rfl) (by omega)
        · rw [e35x HE.tpos]
          exact dd_e (HE.dd hd (by omega) (by rw [h25]; decide) hale h76) (by omega)
      · refine eS_and (by rw [hdd.2.2.tl.2.2.2.1]; exact i_inb' (by omega) (by omega)) ?_
        exact dd_lineAt (how := 9) (hdd.ta rfl) (by omega) (by omega) rfl (by omega)
      · refine eS_and (by rw [hdd.tl.2.2.2.1]; exact i_inb' (by omega) (by omega)) ?_
        exact eS_mono ((hdd.ta rfl).lineAt (d := d + 2) (how := 9) (Nat.le_refl _) (by omega) (by omega) rfl (by omega)) (fun r' t' h => .inl h)
    · exact p_proc21 hΦ (by omega) (by omega) (by omega) (by omega) H2 (.inr e74)
  · refine PS_lx0 (fun Q hq => c_expect (c := 34) (v := 34) (by omega) H.1.ca rfl (by unfold wcd; omega) (fun _ => hq) (fun h => absurd h h34) (fun h => absurd h h34)) (PSg_stop hΦ ?_)
    exact eS_x0 (fun Q hq => t_lineAt (d := d + 1) (how := 8) (by omega) H.1.ta H.1.krg (by omega) rfl (by omega) (fun _ => hq) (fun e => by rw [show bBe 8 (kk K p) = decide (kk K p = 34) from rfl, decide_eq_false h34] at e; simp at e) (fun e => by rw [show bBe 8 (kk K p) = decide (kk K p = 34) from rfl, decide_eq_false h34] at e; simp at e)) (TLP_two H FX.rf frm.rf hal)
end FN2
