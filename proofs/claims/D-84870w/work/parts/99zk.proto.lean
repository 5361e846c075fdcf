/-! ===== PARSERS, part 54: PROTOCOL ===== -/
section PTO
variable {ex et : List Nat} {S S' S0 S1z SA : pS} {D : pD} {K : pK} {p p0 q o o' oA dl m N n n2 b b2 lo hi lo2 hi2 r d d2 dd g pA pB nP bP : Nat} {w t w' : wS} {al : List Nat} {nu : pNz} {tn : Nat → Prop} {E E' : zE} {L L' : Nat} {ol : pOL} {f : Option Nat} {fT x1 x2 c : Int32} {Q : kx_Rs → wS → Prop} {fi : Nat → Int32} {fp : Nat → Option Nat} {ft : Nat → Int32} {bl br : Bool} {lo1 : Int} {Φ : kx_Rs → wS → kx_Rs → wS → Prop} {gt : pQ} {G : pG}
theorem PND.w4 {j : Nat} {v : Int32} (h : PND D (w, t, al, m, N, nu, tn) lo hi ol b n d) : PND D (ws_i w 4 0 j v, t, al, m, N, nu, tn) lo hi ol b n d := by
  obtain ⟨hh, own, c, m', r, h1, h2, h3, h4, h5, h6, h7⟩ := h
  refine ⟨hh, own, c, m', r, ?_, h2, h3, ?_, ?_, h6, ?_⟩
  · show PCH (vw (ws_i w 4 0 j v) t) c n m'
    rw [vw_4]
    exact h1
  · show LFz D (vw (ws_i w 4 0 j v) t) tn _ nu r d b m'
    rw [vw_4]
    exact h4
  · show w_i (ws_i w 4 0 j v) 14 b 12 = _
    rw [i4_14]
    exact h5
  · show OLk (vw (ws_i w 4 0 j v) t) ol n m' r c
    rw [vw_4]
    exact h7
theorem dd_may0 {A : (kx_Rs → wS → Prop) → Int32 → wS → Prop} {v : Int} {x : Int32} {X : (kx_Rs → wS → Prop) → String → wS → Prop} {P : kx_Rs → wS → Prop} (h : DDs D K S0 w' t) (hL : 400 ≤ L) (hx : x = i_ v) (hv : 0 ≤ v ∧ v < 76) (k : eS (fun Q => A Q 0 t) P) : eS (fun Q => zw E L kt_M466 [.ref (w_adr E.2.1 12 0), .int x] t (wk1 (fun v w1 => wle t w1 → A Q v w1) (X Q))) P :=
  eS_1 (fun Q hq => t_may (v := v) (by omega) h.2.2.1 h.1.2 hx (by omega) (fun e => by rw [h.2.2.2.1] at e; omega) (fun _ => hq)) k
theorem p_proto {C : (kx_Rs → wS → Prop) → wS → Prop} {Ct : (kx_Rs → wS → Prop) → Int32 → wS → Prop} (hC : ∀ Q w, Q (.inl (some (va_rf (some b)))) w → C Q w) (hCt : ∀ Q w, Q (.inl (some (.int (i_ n)))) w → Ct Q (i_ n) w) (hd : d ≤ 20) (hL : lex 0 + 300 ≤ L) (hL' : lex 0 + 300 ≤ L')
    (H : HY D K [] [] S0 (w, t, al, m, N, nu, tn) p p 0 0) (hO : OWc (w, t, al, m, N, nu, tn) b fi fp) (hT : OWt (w, t, al, m, N, nu, tn) n ft) (hb : b ∉ S0.2.2.1.take S0.2.2.2.1) (hn : S0.2.2.2.2.1 ≤ n ∧ n < 14000) (h24 : kk K p = 24) (hfi : fi 2 = i_ (kln K p) ∧ fi 12 = 0 ∧ fp 4 = none ∧ fp 7 = none) (hft : ft 27 = i_ (kln K p) ∧ ft 29 = -1 ∧ ft 32 = -1) (hmN : m ≤ 4 * p + 8 ∧ N ≤ 4 * p + 8) (hbd : m ≤ S0.2.2.2.1 + 1 ∧ N ≤ S0.2.2.2.2.1 + 1) :
    PS (fun Q => zw D.1 L kt_M205 [.ref (w_adr D.1.2.1 4 0), va_rf (some b), .int (i_ d)] w (wk0 (C Q) (fun e w => Q (.inr e) w))) (fun Q => zw E' L' kt_M517 [.ref (w_adr E'.2.1 12 0), .int (i_ n), .int (i_ d)] t (wk1 (Ct Q) (fun e w => Q (.inr e) w))) (PRd D K d [] [] S0 p 0 true true 0 (GPs 1 3 D K S0 p)) := by
  have hle : Unit → lex 0 + 100 ≤ L - 24 := fun _ => by unfold lex at *; omega
  have hle' : Unit → lex 0 + 100 ≤ L' - 23 := fun _ => by unfold lex at *; omega
  have hlb : Unit → lex 0 + 200 ≤ L := fun _ => by unfold lex at *; omega
  have hlb' : Unit → lex 0 + 200 ≤ L' := fun _ => by unfold lex at *; omega
  have hL9 : 2300 ≤ L := by unfold lex at hL; omega
  have hL9' : 2300 ≤ L' := by unfold lex at hL'; omega
  clear hL hL'
  have hpl := H.1.ta.lt
  have hal := H.alive
  have hnN : n < N := hT.1.1
  have hp1 := H.p1 (by rw [h24]; decide)
  have hln1 := H.1.ln hp1 (by rw [h24]; decide)
  have hΦ : STP D K S0 true 0 (PRd D K d [] [] S0 p 0 true true 0 (GPs 1 3 D K S0 p)) := STL.of.stp (dl := d)
  refine PS_of (fun Q h => zt_X5_protocol_p0 (by omega) h) (fun Q h => zt_X13_protocol_p0 (by omega) h) ?_
  simp only [zb_X5_protocol_p0, zb_X13_protocol_p0, i_add1, i_add2, i_nat' (show n < 2147483648 by omega)]
  have e35 : ws_i t 12 0 35 (w_i t 12 0 35 + 1) = nx3 t p := by
    rw [H.tpos, i_1, i_add, cN1]
    rfl
  rw [e35]
  refine PSg_nxl hΦ (by omega) H (by rw [h24]; decide) (fun H1' => ?_) (fun w' hd h76 => dd_wantName (H.dd hd (by omega) (by rw [h24]; decide) hal h76) (by omega))
  have H1 := H1'.tnx (by rw [h24]; decide) hal
  have O1 : OWc (nx w p, nx3 t p, al, m, N, nu, tn) b fi fp := hO.w4 (j := 3) (v := i_ (p + 1 : Nat)) (.inl (by decide))
  have T1 : OWt (nx w p, nx3 t p, al, m, N, nu, tn) n ft := hT
  refine PSg_nmw hΦ (by omega) (by omega) (by omega) H1 (fun h70 H2 hnm => ?_) (fun w' hd => ?_)
  · have hp2 := H1.p1 (by rw [h70]; decide)
    have hln2 := H1.1.ln hp2 (by rw [h70]; decide)
    have O2 : OWc (nx (nx w p) (p + 1), nx3 (nx3 t p) (p + 1), al, m, N, nu, tn) b fi fp := O1.w4 (j := 3) (v := i_ (p + 1 + 1 : Nat)) (.inl (by decide))
    have T2 : OWt (nx (nx w p) (p + 1), nx3 (nx3 t p) (p + 1), al, m, N, nu, tn) n ft := T1
    refine PS_lex b rfl (PS_land (O2.wl H2.1) ?_)
    refine PS_rand (by rw [H2.1.tl.2.2.2.2.1]; exact i_inb' (by omega) (by omega)) ?_
    have H3 := ((H2.wi (k := 9) (v := w_a (nx w p) 1 0 3 (p + 1)) O2.1.2 (fun e => absurd e hb)).cd (v := w_i (nx (nx w p) (p + 1)) 4 0 5 + 1) rfl).ta (k := 30) (n := n) (v := w_a (nx3 t p) 12 0 8 (p + 1)) rfl T2.1.2 (fun h => absurd h (Nat.not_lt.mpr hn.1))
    have O3 : OWc (ws_i (ws_i (nx (nx w p) (p + 1)) 14 b 9 (w_a (nx w p) 1 0 3 (p + 1))) 4 0 5 (w_i (nx (nx w p) (p + 1)) 4 0 5 + 1), ws_a (nx3 (nx3 t p) (p + 1)) 12 0 30 n (w_a (nx3 t p) 12 0 8 (p + 1)), al, m, N, nu, tn) b _ _ := (O2.si (k := 9) (v := w_a (nx w p) 1 0 3 (p + 1))).w4 (k := 4) (j := 5) (v := w_i (nx (nx w p) (p + 1)) 4 0 5 + 1) (.inl (by decide))
    have T3 : OWt (ws_i (ws_i (nx (nx w p) (p + 1)) 14 b 9 (w_a (nx w p) 1 0 3 (p + 1))) 4 0 5 (w_i (nx (nx w p) (p + 1)) 4 0 5 + 1), ws_a (nx3 (nx3 t p) (p + 1)) 12 0 30 n (w_a (nx3 t p) 12 0 8 (p + 1)), al, m, N, nu, tn) n _ := T2.si (k := 30) (v := w_a (nx3 t p) 12 0 8 (p + 1))
    generalize hw3 : ws_i (ws_i (nx (nx w p) (p + 1)) 14 b 9 (w_a (nx w p) 1 0 3 (p + 1))) 4 0 5 (w_i (nx (nx w p) (p + 1)) 4 0 5 + 1) = w3 at H3 O3 T3
    generalize ht3 : ws_a (nx3 (nx3 t p) (p + 1)) 12 0 30 n (w_a (nx3 t p) 12 0 8 (p + 1)) = t3 at H3 O3 T3
    have hpl3 := H3.1.ta.lt
    have hal3 := H3.alive
    have hΦ := hΦ.cb (c := 1)
    have hcz : (cb S0 1).2.2.2.2.1 = S0.2.2.2.2.1 ∧ (cb S0 1).2.2.2.1 = S0.2.2.2.1 := ⟨rfl, rfl⟩
    refine PS_l1 (fun Q hq => c_is (c := 13) (v := 13) (by omega) H3.1.ca rfl (by unfold wcd; omega) hq) ?_
    by_cases h13 : kk K (p + 1 + 1) = 13
    · rw [decide_eq_true h13]
      refine PS_ln (by decide) ?_
      refine PS_r1 (fun Q hq => t_may (v := 13) (by omega) H3.1.ta H3.1.krg rfl ⟨by decide, by decide⟩ (fun _ => hq) (fun e => absurd h13 e)) (PS_rn (by decide) ?_)
      have hp3 := H3.p1 (by rw [h13]; decide)
      have hln3 := H3.1.ln hp3 (by rw [h13]; decide)
      have H4 := H3.wp (k := 0) (v := some (D.1.1.1 29)) O3.1.2 (fun e => absurd e hb)
      have O4 := O3.sp (k := 0) (v := some (D.1.1.1 29))
      refine PSg_nxl hΦ (by omega) H4 (by rw [h13]; decide) (fun H5' => ?_) (fun w' hd h76 => ?_)
      · have H5 := H5'.tnx (by rw [h13]; decide) hal3
        refine PS_rand (by rw [H5.1.tl.1]; exact i_inb' (by omega) (by omega)) ?_
        have O5 : OWc (nx (ws_p w3 14 b 0 (some (D.1.1.1 29))) (p + 1 + 1), nx3 t3 (p + 1 + 1), al, m, N, nu, tn) b _ _ := O4.w4 (j := 3) (v := i_ (p + 1 + 1 + 1 : Nat)) (.inl (by decide))
        have T5 : OWt (nx (ws_p w3 14 b 0 (some (D.1.1.1 29))) (p + 1 + 1), nx3 t3 (p + 1 + 1), al, m, N, nu, tn) n _ := T3
        have H6 := H5.ta (k := 26) (n := n) (v := 35) rfl T5.1.2 (fun h => absurd h (Nat.not_lt.mpr hn.1))
        have T6 := T5.si (k := 26) (v := 35)
        have O6 : OWc (nx (ws_p w3 14 b 0 (some (D.1.1.1 29))) (p + 1 + 1), ws_a (nx3 t3 (p + 1 + 1)) 12 0 26 n 35, al, m, N, nu, tn) b _ _ := O5
        refine PSg_c11 hΦ H6.2 H6.1.krg (p_parts (p_OE (D := D) (K := K) (E' := E') K.length).2 (hle ()) (hle' ()) H6.1 (by omega) ⟨by omega, by omega⟩) (fun a h => absurd h List.not_mem_nil) (fun a h => absurd h List.not_mem_nil) (fun x v w9 t9 al9 m9 N9 nu9 tn9 p9 H9 HS9 hbd9 hgx => ?_) (fun v w9 t9 hv hv2 hd => ?_)
        · obtain ⟨⟨k9, hs⟩, hln9, hhd⟩ := hgx
          rw [hln3, hln2, hln1] at hs
          have hpl9 := H9.1.ta.lt
          have O9 := O6.fr HS9.2 List.not_mem_nil
          have T9 := T6.fr HS9.2 List.not_mem_nil
          refine PS_rand (by rw [H9.1.tl.2.2.2.1]; exact i_inb' (by omega) (by omega)) ?_
          have H10 := (H9.wp (k := 4) (v := x) O9.1.2 (fun e => absurd e hb) (LKO.op (hhd.up (fun _ e => H6.2.sub e)))).ta (k := 29) (n := n) (v := v) rfl T9.1.2 (fun h => absurd h (Nat.not_lt.mpr hn.1))
          have O10 : OWc (ws_p w9 14 b 4 x, ws_a t9 12 0 29 n v, al9, m9, N9, nu9, tn9) b _ _ := O9.sp (k := 4) (v := x) (.inr (.inr (fun e => (hhd _ e).2.2 O6.1.1.1)))
          have T10 : OWt (ws_p w9 14 b 4 x, ws_a t9 12 0 29 n v, al9, m9, N9, nu9, tn9) n _ := T9.si (k := 29) (v := v)
          have hvw := VWa.mk (w := w9) (t := t9) (w' := ws_p w9 14 b 4 x) (t' := ws_a t9 12 0 29 n v) (b := b) (n := n) (fun a h k => by simp only [nx, Rii, Rgi, Rpi, Rai, Rbi, Rri, Rni, Rdi, Roi, Rti, Rzi, RCi, RSi, Rip, Rgp, Rpp, Rap, Rbp, Rrp, Rnp, Rdp, Rop, Rtp, Rzp, RCp, RSp]; simp [h]) (fun y h k => by simp only [nx3, nd3, Rii, Rgi, Rpi, Rai, Rbi, Rri, Rni, Rdi, Roi, Rti, Rzi, RCi, RSi, Ria, Rga, Rpa, Raa, Rba, Rra, Rna, Rda, Roa, Rta, Rza, RCa, RSa]; simp [h]) rfl O9.1.2 T9.1.2
          have hs10 := hs.up (k' := 0) hvw (fun _ _ h => h) (fun _ h => h) (Nat.le_refl _)
          have hP : PND D (ws_p w9 14 b 4 x, ws_a t9 12 0 29 n v, al9, m9, N9, nu9, tn9) S0.2.2.2.2.1 N9 (oN K 3 p p9) b n 1 := PND.mk1 (kd := 35) O10 T10 hn.1 hn.2 (LFz.k35 O10 T10 (hfi.1.trans hft.1.symm) rfl ⟨rfl, rfl, hnm, by
            show SK1z _ _ _ _ (some (ft 27), _) 0 40 x v
            rw [hft.1]
            exact hs10.wk⟩ hft.1) hfi.2.1 (fun l e => by cases e)
          have hX := NXT.mk1 O10 T10 hfi.2.2.2 hft.2.2
          refine PSg_exw (c := 42) (v := 46) hΦ (by omega) (by omega) (by omega) H10 rfl (by unfold wcd; omega) rfl (fun h46 Ha => ?_) (fun w' hd => dd_endOfLine hd (by omega))
          refine PSg_elw hΦ (by omega) (by omega) (by omega) Ha (fun e74 Hb => ?_) (fun w' hd => eS_l (fun Q h => hCt Q _ h) (hd.ret rfl ⟨by omega, by omega⟩))
          refine PS_of (fun Q h => hC Q _ h) (fun Q h => hCt Q _ h) ?_
          have hP2 := (hP.nx2 (p := p9) (q := p9)).nx2 (p := p9 + 1) (q := p9 + 1)
          exact PS_ret (.inr ⟨some b, i_ n, al9, m9, N9, nu9, tn9, p9 + 1 + 1, _, rfl, rfl, Hb, ⟨by omega, by omega, by omega⟩, b, n, 1, rfl, rfl, hP2.wk, ⟨hX.1, hX.2.1, hX.2.2⟩, hb, e74, ⟨by show m9 + _ + 1 ≤ _; omega, by show N9 + _ + 1 ≤ _; omega⟩, by omega⟩)
        · refine eS_and (by rw [hd.2.2.tl.2.2.2.1]; exact i_inb' (by omega) (by omega)) ?_
          exact dd_want (v := 46) (hd.ta rfl) (by omega) rfl (by omega)
      · have hdd := H4.dd hd (by omega) (by rw [h13]; decide) hal3 h76
        refine eS_and (by rw [hdd.2.2.tl.1]; exact i_inb' (by omega) (by omega)) ?_
        exact dd_partsOf (N := N) (by omega) (hdd.ta rfl) (by
          unfold nx3
          rw [Ria, Rii, if_neg (by decide)]
          exact H4.tN) (by omega)
    · rw [decide_eq_false h13]
      refine PS_lp rfl ?_
      refine PS_r1 (fun Q hq => t_may (v := 13) (by omega) H3.1.ta H3.1.krg rfl ⟨by decide, by decide⟩ (fun e => absurd e h13) (fun _ => hq)) (PS_rp rfl ?_)
      refine PS_rand (by rw [H3.1.tl.1]; exact i_inb' (by omega) (by omega)) ?_
      have H4 := (H3.wp (k := 0) (v := some (D.1.1.1 31)) O3.1.2 (fun e => absurd e hb)).ta (k := 26) (n := n) (v := 36) rfl T3.1.2 (fun h => absurd h (Nat.not_lt.mpr hn.1))
      have O4 : OWc (ws_p w3 14 b 0 (some (D.1.1.1 31)), ws_a t3 12 0 26 n 36, al, m, N, nu, tn) b _ _ := O3.sp (k := 0) (v := some (D.1.1.1 31))
      have T4 : OWt (ws_p w3 14 b 0 (some (D.1.1.1 31)), ws_a t3 12 0 26 n 36, al, m, N, nu, tn) n _ := T3.si (k := 26) (v := 36)
      refine PSg_elw hΦ (by omega) (by omega) (by omega) H4 (fun e74 H5 => ?_) (fun w' hd => dd_lineAt (d := d + 1) (how := 7) hd (by omega) (by omega) rfl (by omega))
      have hpl5 := H5.1.ta.lt
      have hal5 := H5.alive
      refine PS_l1 (fun Q hq => c_is (c := 5) (v := 5) (by omega) H5.1.ca rfl (by unfold wcd; omega) hq) ?_
      refine PSg_stand (d := d + 1) (how := 7) hΦ (by omega) (by omega) H5 (by omega) (.inr e74) rfl (by omega) rfl (fun _ hbx _ H6 => ?_)
      have h5 : kk K (p + 1 + 1 + 1) = 5 := of_decide_eq_true hbx
      have e35b : ws_i (nx3 (ws_a t3 12 0 26 n 36) (p + 1 + 1)) 12 0 35 (w_i (nx3 (ws_a t3 12 0 26 n 36) (p + 1 + 1)) 12 0 35 + 1) = nx3 (nx3 (ws_a t3 12 0 26 n 36) (p + 1 + 1)) (p + 1 + 1 + 1) := by
        rw [H6.tpos, i_1, i_add, cN1]
        rfl
      rw [e35b]
      refine PSg_nxl hΦ (by omega) H6 (by rw [h5]; decide) (fun H7' => ?_) (fun w' hd h76 => dd_endOfLine (H6.dd hd (by omega) (by rw [h5]; decide) hal5 h76) (by omega))
      have H7 := H7'.tnx (by rw [h5]; decide) hal5
      have hpl7 := H7.1.ta.lt
      refine PSg_elw hΦ (by omega) (by omega) (by omega) H7 (fun e74b H8 => ?_) (fun w' hd => ?_)
      · have hpl8 := H8.1.ta.lt
        have O8 : OWc (nx (nx (ws_i (nx (ws_p w3 14 b 0 (some (D.1.1.1 31))) (p + 1 + 1)) 4 0 4 0) (p + 1 + 1 + 1)) (p + 1 + 1 + 1 + 1), nx3 (nx3 (nx3 (ws_a t3 12 0 26 n 36) (p + 1 + 1)) (p + 1 + 1 + 1)) (p + 1 + 1 + 1 + 1), al, m, N, nu, tn) b _ _ := (((O4.w4 (k := 4) (j := 3) (v := i_ (p + 1 + 1 + 1 : Nat)) (.inl (by decide))).w4 (k := 4) (j := 4) (v := 0) (.inl (by decide))).w4 (k := 4) (j := 3) (v := i_ (p + 1 + 1 + 1 + 1 : Nat)) (.inl (by decide))).w4 (k := 4) (j := 3) (v := i_ (p + 1 + 1 + 1 + 1 + 1 : Nat)) (.inl (by decide))
        have T8 : OWt (nx (nx (ws_i (nx (ws_p w3 14 b 0 (some (D.1.1.1 31))) (p + 1 + 1)) 4 0 4 0) (p + 1 + 1 + 1)) (p + 1 + 1 + 1 + 1), nx3 (nx3 (nx3 (ws_a t3 12 0 26 n 36) (p + 1 + 1)) (p + 1 + 1 + 1)) (p + 1 + 1 + 1 + 1), al, m, N, nu, tn) n _ := T4
        generalize nx (nx (ws_i (nx (ws_p w3 14 b 0 (some (D.1.1.1 31))) (p + 1 + 1)) 4 0 4 0) (p + 1 + 1 + 1)) (p + 1 + 1 + 1 + 1) = w8 at H8 O8 T8
        generalize nx3 (nx3 (nx3 (ws_a t3 12 0 26 n 36) (p + 1 + 1)) (p + 1 + 1 + 1)) (p + 1 + 1 + 1 + 1) = t8 at H8 O8 T8
        refine PS_l1 (fun Q hq => c_isName (by omega) H8.1.ca hq) ?_
        by_cases hok : bAt K (p + 1 + 1 + 1 + 1 + 1) (d + 2) = true ∧ kk K (p + 1 + 1 + 1 + 1 + 1) = 70 ∧ d + 2 ≤ 20
        · rw [decide_eq_true hok.2.1]
          refine PS_l0 (fun Q hq => c_stands (b := true) (by omega) H8.1.ca (by omega) (.inr e74b) (fun w' _ h => by rw [hok.1] at h; simp at h) (fun _ h => by omega) (fun _ _ => hq)) ?_
          have H9 := H8.co (u := 0) (by omega)
          have O9 : OWc (ws_i w8 4 0 4 0, t8, al, m, N, nu, tn) b _ _ := O8.w4 (k := 4) (j := 4) (v := 0) (.inl (by decide))
          have T9 : OWt (ws_i w8 4 0 4 0, t8, al, m, N, nu, tn) n _ := T8
          have HA : HY D K [b] [n] (ws_i w8 4 0 4 0, t8, al, m, N, nu, tn) (ws_i w8 4 0 4 0, t8, al, m, N, nu, tn) (p + 1 + 1 + 1 + 1 + 1) (p + 1 + 1 + 1 + 1 + 1) 0 0 := ⟨H9.1, FR.rf H9.1.mle⟩
          refine p_tg_loop (SA := (ws_i w8 4 0 4 0, t8, al, m, N, nu, tn)) (pB := p + 1 + 1 + 1 + 1 + 1) (C := C) (Ct := Ct) (hΦ.up H9.2) (hlb ()) (hlb' ()) hd ⟨hnN, hn.2⟩ O9.mn (fun w2 t2 al2 m2 N2 nu2 tn2 p2 f2 fT2 k2 Ha Oa Ta hSK e74c hp2' hmN2 hbd2 => ?_) K.length _ _ al m N nu tn (p + 1 + 1 + 1 + 1 + 1) none (-1) none (-1) N (by omega) HA LQ.nil (O9.upE hfi.2.2.1) (T9.upE hft.2.1) (Nat.le_refl _) (fun a e => by cases e) e74b ⟨by omega, by omega⟩ ⟨by omega, by omega⟩ ⟨by show m + _ ≤ m + _; omega, by show N + _ ≤ N + _; omega⟩ hok.1
          have hpla := Ha.1.ta.lt
          have hbd2a : m2 + 4 * (p + 1 + 1 + 1 + 1 + 1) ≤ m + 4 * p2 := hbd2.1
          have hbd2b : N2 + 4 * (p + 1 + 1 + 1 + 1 + 1) ≤ N + 4 * p2 := hbd2.2
          have Hb : HY D K [] [] (cb S0 1) (w2, t2, al2, m2, N2, nu2, tn2) p2 p2 0 0 := ⟨Ha.1, H9.2.tr Ha.2 (fun a h h2 => absurd h2 (by rw [List.mem_singleton.mp h]; exact hb)) (fun n' h h2 => absurd h2 (by rw [List.mem_singleton.mp h]; omega))⟩
          have hP : PND D (w2, t2, al2, m2, N2, nu2, tn2) S0.2.2.2.2.1 N2 (oN K 3 p p2) b n 1 := PND.mk1 (kd := 36) Oa Ta hn.1 hn.2 (LFz.k36 Oa Ta (hfi.1.trans hft.1.symm) rfl ⟨rfl, rfl, hnm, hSK.wk⟩ hft.1) hfi.2.1 (fun l e => by cases e)
          have hX := NXT.mk1 Oa Ta hfi.2.2.2 hft.2.2
          refine PSg_cls hΦ (by omega) (by omega) (by omega) Hb hd e74c (fun h46 e74d Hc => ?_) (fun w' hd => eS_l (fun Q h => hCt Q _ h) (hd.ret rfl ⟨by omega, by omega⟩))
          refine PS_of (fun Q h => hC Q _ h) (fun Q h => hCt Q _ h) ?_
          have hP2 := ((hP.w4 (j := 4) (v := 0)).nx2 (p := p2) (q := p2)).nx2 (p := p2 + 1) (q := p2 + 1)
          exact PS_ret (.inr ⟨some b, i_ n, al2, m2, N2, nu2, tn2, p2 + 1 + 1, _, rfl, rfl, Hc, ⟨by omega, by omega, by omega⟩, b, n, 1, rfl, rfl, hP2.wk, ⟨hX.1, hX.2.1, hX.2.2⟩, hb, e74d, ⟨by show m2 + _ + 1 ≤ _; omega, by show N2 + _ + 1 ≤ _; omega⟩, by omega⟩)
        · refine PS_r (fun Q h => zt_X13_protocol_p96 (by omega) h) ?_
          simp only [zb_X13_protocol_p96, i_add2]
          exact PSg_stand (d := d + 2) (how := 5) hΦ (by omega) (by omega) H8 (by omega) (.inr e74b) rfl (by omega) rfl (fun h1 h2 h3 _ => absurd ⟨h1, of_decide_eq_true h2, h3⟩ hok)
      · refine eS_l (fun Q h => zt_X13_protocol_p96 (by omega) h) ?_
        simp only [zb_X13_protocol_p96, i_add2]
        exact dd_lineAt (how := 5) hd (by omega) (by omega) rfl (by omega)
  · refine eS_and (by rw [hd.2.2.tl.2.2.2.2.1]; exact i_inb' (by omega) (by omega)) ?_
    have hdd := hd.ta (k := 30) (n := n) (v := w_a (nx3 t p) 12 0 8 (p + 1)) rfl
    refine dd_may0 (v := 13) hdd (by omega) rfl (by omega) (eS_p rfl ?_)
    refine eS_and (by rw [hdd.2.2.tl.1]; exact i_inb' (by omega) (by omega)) ?_
    exact dd_endOfLine (hdd.ta rfl) (by omega)
end PTO
